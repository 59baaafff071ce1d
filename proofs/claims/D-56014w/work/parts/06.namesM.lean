/-! BenchBrokerModel -/
set_option maxRecDepth 100000
def RX4 : String := "BenchBrokerModel"
def TX4 : u_T := fun k => match k with
  | 0 => ("BenchBrokerModel", "thrown", "I", false)
  | 1 => ("BenchBrokerModel", "s", "[I", true)
  | 2 => ("BenchBrokerModel", "frame", "[I", true)
  | 3 => ("BenchBrokerModel", "saved", "[I", true)
  | 4 => ("BenchBrokerModel", "history", "[I", true)
  | 5 => ("BenchBrokerModel", "thought", "[I", true)
  | 6 => ("BenchBrokerModel", "kept", "I", false)
  | 7 => ("BenchBrokerModel", "hasSaved", "Z", false)
  | 8 => ("BenchBrokerModel", "text", "[I", true)
  | 9 => ("BenchBrokerModel", "told", "[I", true)
  | 10 => ("BenchBrokerModel", "out", "[I", true)
  | 11 => ("BenchBrokerModel", "length", "I", false)
  | 12 => ("BenchBrokerModel", "outLength", "I", false)
  | 13 => ("BenchBrokerModel", "faultAt", "I", false)
  | 14 => ("BenchBrokerModel", "why", "I", false)
  | 15 => ("BenchBrokerModel", "detail", "I", false)
  | 16 => ("BenchBrokerModel", "cause", "I", false)
  | 17 => ("BenchBrokerModel", "about", "I", false)
  | 18 => ("BenchBrokerModel", "answer", "I", false)
  | 19 => ("BenchBrokerModel", "spot", "I", false)
  | 20 => ("BenchBrokerModel", "end", "I", false)
  | 21 => ("BenchBrokerModel", "commands", "I", false)
  | _ => ("BenchBrokerModel", "isWrong", "Z", false)
def tyX4 : Nat → FieldType := fun k => match k with
  | 0 => .int
  | 1 => .array .int
  | 2 => .array .int
  | 3 => .array .int
  | 4 => .array .int
  | 5 => .array .int
  | 6 => .int
  | 7 => .boolean
  | 8 => .array .int
  | 9 => .array .int
  | 10 => .array .int
  | 11 => .int
  | 12 => .int
  | 13 => .int
  | 14 => .int
  | 15 => .int
  | 16 => .int
  | 17 => .int
  | 18 => .int
  | 19 => .int
  | 20 => .int
  | 21 => .int
  | _ => .boolean
abbrev wsX40 : List Cond := u_ws RX4 TX4 23
set_option maxRecDepth 100000 in
theorem nmX4 : ∀ a, a < 23 → ∀ b, b < 23 → a ≠ b → (TX4 a).2.1 ≠ (TX4 b).2.1 := by decide +kernel
set_option maxRecDepth 100000 in
theorem tyX4_ok : ∀ k, k < 23 → parseFieldDescriptor (TX4 k).2.2.1 = some (tyX4 k) := by decide +kernel
abbrev cX4_init : ByteArray := prog_20_method_1_code
def yX4_init : MethodName := ⟨RX4, "<init>", "()V"⟩
def dkwX4_init_3 : List UInt8 := [42, 2, 181, 0, 34, 42, 180, 0, 7, 6, 6, 79, 177]
abbrev dktX4_init_3 : List UInt8 := dkwX4_init_3 ++ []
def dkwX4_init_2 : List UInt8 := [16, 60, 188, 10, 181, 0, 25, 42, 17, 0, 240, 188, 10, 181, 0, 28, 42, 16, 60, 188, 10, 181, 0, 31]
abbrev dktX4_init_2 : List UInt8 := dkwX4_init_2 ++ dktX4_init_3
def dkwX4_init_1 : List UInt8 := [188, 10, 181, 0, 16, 42, 17, 3, 48, 188, 10, 181, 0, 19, 42, 16, 102, 188, 10, 181, 0, 22, 42]
abbrev dktX4_init_1 : List UInt8 := dkwX4_init_1 ++ dktX4_init_2
def dkwX4_init_0 : List UInt8 := [42, 183, 0, 1, 42, 16, 102, 188, 10, 181, 0, 7, 42, 16, 102, 188, 10, 181, 0, 13, 42, 16, 102]
abbrev dktX4_init_0 : List UInt8 := dkwX4_init_0 ++ dktX4_init_1
theorem dksX4_init_0 : cX4_init.data.toList.drop 0 = dktX4_init_0 := by decide +kernel
theorem dksX4_init_1 : cX4_init.data.toList.drop 23 = dktX4_init_1 := dk_seg dksX4_init_0 23 rfl rfl
theorem dksX4_init_2 : cX4_init.data.toList.drop 46 = dktX4_init_2 := dk_seg dksX4_init_1 23 rfl rfl
theorem dksX4_init_3 : cX4_init.data.toList.drop 70 = dktX4_init_3 := dk_seg dksX4_init_2 24 rfl rfl
theorem dX4_init_0 : decode cX4_init 0 = .ok (.aload_n 0, 1) := dk_42 (dk_at dksX4_init_0 0 rfl rfl)
theorem dX4_init_1 : decode cX4_init 1 = .ok (.invokespecial 1, 3) := dk_183 0 1 (dk_at dksX4_init_0 1 rfl rfl)
theorem dX4_init_4 : decode cX4_init 4 = .ok (.aload_n 0, 1) := dk_42 (dk_at dksX4_init_0 4 rfl rfl)
theorem dX4_init_5 : decode cX4_init 5 = .ok (.bipush 102, 2) := dk_16 102 (dk_at dksX4_init_0 5 rfl rfl)
theorem dX4_init_7 : decode cX4_init 7 = .ok (.newarray .int, 2) := dk_188_10 (dk_at dksX4_init_0 7 rfl rfl)
theorem dX4_init_9 : decode cX4_init 9 = .ok (.putfield 7, 3) := dk_181 0 7 (dk_at dksX4_init_0 9 rfl rfl)
theorem dX4_init_12 : decode cX4_init 12 = .ok (.aload_n 0, 1) := dk_42 (dk_at dksX4_init_0 12 rfl rfl)
theorem dX4_init_13 : decode cX4_init 13 = .ok (.bipush 102, 2) := dk_16 102 (dk_at dksX4_init_0 13 rfl rfl)
theorem dX4_init_15 : decode cX4_init 15 = .ok (.newarray .int, 2) := dk_188_10 (dk_at dksX4_init_0 15 rfl rfl)
theorem dX4_init_17 : decode cX4_init 17 = .ok (.putfield 13, 3) := dk_181 0 13 (dk_at dksX4_init_0 17 rfl rfl)
theorem dX4_init_20 : decode cX4_init 20 = .ok (.aload_n 0, 1) := dk_42 (dk_at dksX4_init_0 20 rfl rfl)
theorem dX4_init_21 : decode cX4_init 21 = .ok (.bipush 102, 2) := dk_16 102 (dk_at dksX4_init_0 21 rfl rfl)
theorem dX4_init_23 : decode cX4_init 23 = .ok (.newarray .int, 2) := dk_188_10 (dk_at dksX4_init_1 0 rfl rfl)
theorem dX4_init_25 : decode cX4_init 25 = .ok (.putfield 16, 3) := dk_181 0 16 (dk_at dksX4_init_1 2 rfl rfl)
theorem dX4_init_28 : decode cX4_init 28 = .ok (.aload_n 0, 1) := dk_42 (dk_at dksX4_init_1 5 rfl rfl)
theorem dX4_init_29 : decode cX4_init 29 = .ok (.sipush 816, 3) := dk_17 3 48 (dk_at dksX4_init_1 6 rfl rfl)
theorem dX4_init_32 : decode cX4_init 32 = .ok (.newarray .int, 2) := dk_188_10 (dk_at dksX4_init_1 9 rfl rfl)
theorem dX4_init_34 : decode cX4_init 34 = .ok (.putfield 19, 3) := dk_181 0 19 (dk_at dksX4_init_1 11 rfl rfl)
theorem dX4_init_37 : decode cX4_init 37 = .ok (.aload_n 0, 1) := dk_42 (dk_at dksX4_init_1 14 rfl rfl)
theorem dX4_init_38 : decode cX4_init 38 = .ok (.bipush 102, 2) := dk_16 102 (dk_at dksX4_init_1 15 rfl rfl)
theorem dX4_init_40 : decode cX4_init 40 = .ok (.newarray .int, 2) := dk_188_10 (dk_at dksX4_init_1 17 rfl rfl)
theorem dX4_init_42 : decode cX4_init 42 = .ok (.putfield 22, 3) := dk_181 0 22 (dk_at dksX4_init_1 19 rfl rfl)
theorem dX4_init_45 : decode cX4_init 45 = .ok (.aload_n 0, 1) := dk_42 (dk_at dksX4_init_1 22 rfl rfl)
theorem dX4_init_46 : decode cX4_init 46 = .ok (.bipush 60, 2) := dk_16 60 (dk_at dksX4_init_2 0 rfl rfl)
theorem dX4_init_48 : decode cX4_init 48 = .ok (.newarray .int, 2) := dk_188_10 (dk_at dksX4_init_2 2 rfl rfl)
theorem dX4_init_50 : decode cX4_init 50 = .ok (.putfield 25, 3) := dk_181 0 25 (dk_at dksX4_init_2 4 rfl rfl)
theorem dX4_init_53 : decode cX4_init 53 = .ok (.aload_n 0, 1) := dk_42 (dk_at dksX4_init_2 7 rfl rfl)
theorem dX4_init_54 : decode cX4_init 54 = .ok (.sipush 240, 3) := dk_17 0 240 (dk_at dksX4_init_2 8 rfl rfl)
theorem dX4_init_57 : decode cX4_init 57 = .ok (.newarray .int, 2) := dk_188_10 (dk_at dksX4_init_2 11 rfl rfl)
theorem dX4_init_59 : decode cX4_init 59 = .ok (.putfield 28, 3) := dk_181 0 28 (dk_at dksX4_init_2 13 rfl rfl)
theorem dX4_init_62 : decode cX4_init 62 = .ok (.aload_n 0, 1) := dk_42 (dk_at dksX4_init_2 16 rfl rfl)
theorem dX4_init_63 : decode cX4_init 63 = .ok (.bipush 60, 2) := dk_16 60 (dk_at dksX4_init_2 17 rfl rfl)
theorem dX4_init_65 : decode cX4_init 65 = .ok (.newarray .int, 2) := dk_188_10 (dk_at dksX4_init_2 19 rfl rfl)
theorem dX4_init_67 : decode cX4_init 67 = .ok (.putfield 31, 3) := dk_181 0 31 (dk_at dksX4_init_2 21 rfl rfl)
theorem dX4_init_70 : decode cX4_init 70 = .ok (.aload_n 0, 1) := dk_42 (dk_at dksX4_init_3 0 rfl rfl)
theorem dX4_init_71 : decode cX4_init 71 = .ok (.iconst (-1), 1) := dk_2 (dk_at dksX4_init_3 1 rfl rfl)
theorem dX4_init_72 : decode cX4_init 72 = .ok (.putfield 34, 3) := dk_181 0 34 (dk_at dksX4_init_3 2 rfl rfl)
theorem dX4_init_75 : decode cX4_init 75 = .ok (.aload_n 0, 1) := dk_42 (dk_at dksX4_init_3 5 rfl rfl)
theorem dX4_init_76 : decode cX4_init 76 = .ok (.getfield 7, 3) := dk_180 0 7 (dk_at dksX4_init_3 6 rfl rfl)
theorem dX4_init_79 : decode cX4_init 79 = .ok (.iconst 3, 1) := dk_6 (dk_at dksX4_init_3 9 rfl rfl)
theorem dX4_init_80 : decode cX4_init 80 = .ok (.iconst 3, 1) := dk_6 (dk_at dksX4_init_3 10 rfl rfl)
theorem dX4_init_81 : decode cX4_init 81 = .ok (.iastore, 1) := dk_79 (dk_at dksX4_init_3 11 rfl rfl)
theorem dX4_init_82 : decode cX4_init 82 = .ok (.return_, 1) := dk_177 (dk_at dksX4_init_3 12 rfl rfl)
abbrev cX4_thrown : ByteArray := prog_20_method_2_code
def yX4_thrown : MethodName := ⟨RX4, "thrown", "()I"⟩
theorem dX4_thrown_0 : decode cX4_thrown 0 = .ok (.aload_n 0, 1) := by decide +kernel
theorem dX4_thrown_1 : decode cX4_thrown 1 = .ok (.getfield 38, 3) := by decide +kernel
theorem dX4_thrown_4 : decode cX4_thrown 4 = .ok (.ireturn, 1) := by decide +kernel
abbrev cX4_addBench : ByteArray := prog_20_method_40_code
def yX4_addBench : MethodName := ⟨RX4, "addBench", "(III)I"⟩
def dkwX4_addBench_0 : List UInt8 := [42, 182, 0, 134, 42, 42, 27, 28, 29, 182, 0, 137, 6, 182, 0, 141, 172]
abbrev dktX4_addBench_0 : List UInt8 := dkwX4_addBench_0 ++ []
theorem dksX4_addBench_0 : cX4_addBench.data.toList.drop 0 = dktX4_addBench_0 := by decide +kernel
theorem dX4_addBench_0 : decode cX4_addBench 0 = .ok (.aload_n 0, 1) := dk_42 (dk_at dksX4_addBench_0 0 rfl rfl)
theorem dX4_addBench_1 : decode cX4_addBench 1 = .ok (.invokevirtual 134, 3) := dk_182 0 134 (dk_at dksX4_addBench_0 1 rfl rfl)
theorem dX4_addBench_4 : decode cX4_addBench 4 = .ok (.aload_n 0, 1) := dk_42 (dk_at dksX4_addBench_0 4 rfl rfl)
theorem dX4_addBench_5 : decode cX4_addBench 5 = .ok (.aload_n 0, 1) := dk_42 (dk_at dksX4_addBench_0 5 rfl rfl)
theorem dX4_addBench_6 : decode cX4_addBench 6 = .ok (.iload_n 1, 1) := dk_27 (dk_at dksX4_addBench_0 6 rfl rfl)
theorem dX4_addBench_7 : decode cX4_addBench 7 = .ok (.iload_n 2, 1) := dk_28 (dk_at dksX4_addBench_0 7 rfl rfl)
theorem dX4_addBench_8 : decode cX4_addBench 8 = .ok (.iload_n 3, 1) := dk_29 (dk_at dksX4_addBench_0 8 rfl rfl)
theorem dX4_addBench_9 : decode cX4_addBench 9 = .ok (.invokevirtual 137, 3) := dk_182 0 137 (dk_at dksX4_addBench_0 9 rfl rfl)
theorem dX4_addBench_12 : decode cX4_addBench 12 = .ok (.iconst 3, 1) := dk_6 (dk_at dksX4_addBench_0 12 rfl rfl)
theorem dX4_addBench_13 : decode cX4_addBench 13 = .ok (.invokevirtual 141, 3) := dk_182 0 141 (dk_at dksX4_addBench_0 13 rfl rfl)
theorem dX4_addBench_16 : decode cX4_addBench 16 = .ok (.ireturn, 1) := dk_172 (dk_at dksX4_addBench_0 16 rfl rfl)
abbrev cX4_remembers : ByteArray := prog_20_method_5_code
def yX4_remembers : MethodName := ⟨RX4, "remembers", "()V"⟩
def dkwX4_remembers_1 : List UInt8 := [79, 132, 1, 1, 167, 255, 235, 177]
abbrev dktX4_remembers_1 : List UInt8 := dkwX4_remembers_1 ++ []
def dkwX4_remembers_0 : List UInt8 := [42, 3, 181, 0, 38, 3, 60, 27, 16, 102, 162, 0, 21, 42, 180, 0, 13, 27, 42, 180, 0, 7, 27, 46]
abbrev dktX4_remembers_0 : List UInt8 := dkwX4_remembers_0 ++ dktX4_remembers_1
theorem dksX4_remembers_0 : cX4_remembers.data.toList.drop 0 = dktX4_remembers_0 := by decide +kernel
theorem dksX4_remembers_1 : cX4_remembers.data.toList.drop 24 = dktX4_remembers_1 := dk_seg dksX4_remembers_0 24 rfl rfl
theorem dX4_remembers_0 : decode cX4_remembers 0 = .ok (.aload_n 0, 1) := dk_42 (dk_at dksX4_remembers_0 0 rfl rfl)
theorem dX4_remembers_1 : decode cX4_remembers 1 = .ok (.iconst 0, 1) := dk_3 (dk_at dksX4_remembers_0 1 rfl rfl)
theorem dX4_remembers_2 : decode cX4_remembers 2 = .ok (.putfield 38, 3) := dk_181 0 38 (dk_at dksX4_remembers_0 2 rfl rfl)
theorem dX4_remembers_5 : decode cX4_remembers 5 = .ok (.iconst 0, 1) := dk_3 (dk_at dksX4_remembers_0 5 rfl rfl)
theorem dX4_remembers_6 : decode cX4_remembers 6 = .ok (.istore_n 1, 1) := dk_60 (dk_at dksX4_remembers_0 6 rfl rfl)
theorem dX4_remembers_7 : decode cX4_remembers 7 = .ok (.iload_n 1, 1) := dk_27 (dk_at dksX4_remembers_0 7 rfl rfl)
theorem dX4_remembers_8 : decode cX4_remembers 8 = .ok (.bipush 102, 2) := dk_16 102 (dk_at dksX4_remembers_0 8 rfl rfl)
theorem dX4_remembers_10 : decode cX4_remembers 10 = .ok (.if_icmp .ge 21, 3) := dk_162 0 21 (dk_at dksX4_remembers_0 10 rfl rfl)
theorem dX4_remembers_13 : decode cX4_remembers 13 = .ok (.aload_n 0, 1) := dk_42 (dk_at dksX4_remembers_0 13 rfl rfl)
theorem dX4_remembers_14 : decode cX4_remembers 14 = .ok (.getfield 13, 3) := dk_180 0 13 (dk_at dksX4_remembers_0 14 rfl rfl)
theorem dX4_remembers_17 : decode cX4_remembers 17 = .ok (.iload_n 1, 1) := dk_27 (dk_at dksX4_remembers_0 17 rfl rfl)
theorem dX4_remembers_18 : decode cX4_remembers 18 = .ok (.aload_n 0, 1) := dk_42 (dk_at dksX4_remembers_0 18 rfl rfl)
theorem dX4_remembers_19 : decode cX4_remembers 19 = .ok (.getfield 7, 3) := dk_180 0 7 (dk_at dksX4_remembers_0 19 rfl rfl)
theorem dX4_remembers_22 : decode cX4_remembers 22 = .ok (.iload_n 1, 1) := dk_27 (dk_at dksX4_remembers_0 22 rfl rfl)
theorem dX4_remembers_23 : decode cX4_remembers 23 = .ok (.iaload, 1) := dk_46 (dk_at dksX4_remembers_0 23 rfl rfl)
theorem dX4_remembers_24 : decode cX4_remembers 24 = .ok (.iastore, 1) := dk_79 (dk_at dksX4_remembers_1 0 rfl rfl)
theorem dX4_remembers_25 : decode cX4_remembers 25 = .ok (.iinc 1 1, 3) := dk_132 1 1 (dk_at dksX4_remembers_1 1 rfl rfl)
theorem dX4_remembers_28 : decode cX4_remembers 28 = .ok (.goto (-21), 3) := dk_167 255 235 (dk_at dksX4_remembers_1 4 rfl rfl)
theorem dX4_remembers_31 : decode cX4_remembers 31 = .ok (.return_, 1) := dk_177 (dk_at dksX4_remembers_1 7 rfl rfl)
abbrev cX4_addsBench : ByteArray := prog_20_method_25_code
def yX4_addsBench : MethodName := ⟨RX4, "addsBench", "(III)I"⟩
def dkwX4_addsBench_7 : List UInt8 := [172]
abbrev dktX4_addsBench_7 : List UInt8 := dkwX4_addsBench_7 ++ []
def dkwX4_addsBench_6 : List UInt8 := [21, 4, 104, 96, 5, 96, 29, 79, 42, 180, 0, 7, 3, 21, 4, 4, 96, 79, 42, 21, 4, 182, 0, 99]
abbrev dktX4_addsBench_6 : List UInt8 := dkwX4_addsBench_6 ++ dktX4_addsBench_7
def dkwX4_addsBench_5 : List UInt8 := [180, 0, 7, 16, 10, 16, 6, 21, 4, 104, 96, 4, 96, 28, 79, 42, 180, 0, 7, 16, 10, 16, 6]
abbrev dktX4_addsBench_5 : List UInt8 := dkwX4_addsBench_5 ++ dktX4_addsBench_6
def dkwX4_addsBench_4 : List UInt8 := [132, 5, 1, 167, 255, 229, 42, 180, 0, 7, 16, 10, 16, 6, 21, 4, 104, 96, 3, 96, 27, 79, 42]
abbrev dktX4_addsBench_4 : List UInt8 := dkwX4_addsBench_4 ++ dktX4_addsBench_5
def dkwX4_addsBench_3 : List UInt8 := [21, 5, 16, 6, 162, 0, 26, 42, 180, 0, 7, 16, 10, 16, 6, 21, 4, 104, 96, 21, 5, 96, 3, 79]
abbrev dktX4_addsBench_3 : List UInt8 := dkwX4_addsBench_3 ++ dktX4_addsBench_4
def dkwX4_addsBench_2 : List UInt8 := [28, 182, 0, 96, 2, 159, 0, 15, 42, 7, 42, 27, 28, 182, 0, 96, 182, 0, 93, 172, 3, 54, 5]
abbrev dktX4_addsBench_2 : List UInt8 := dkwX4_addsBench_2 ++ dktX4_addsBench_3
def dkwX4_addsBench_1 : List UInt8 := [180, 0, 7, 3, 46, 54, 4, 21, 4, 16, 10, 160, 0, 11, 42, 4, 16, 10, 182, 0, 93, 172, 42, 27]
abbrev dktX4_addsBench_1 : List UInt8 := dkwX4_addsBench_1 ++ dktX4_addsBench_2
def dkwX4_addsBench_0 : List UInt8 := [27, 28, 184, 0, 89, 154, 0, 5, 2, 172, 29, 4, 16, 20, 184, 0, 66, 154, 0, 6, 16, 254, 172, 42]
abbrev dktX4_addsBench_0 : List UInt8 := dkwX4_addsBench_0 ++ dktX4_addsBench_1
theorem dksX4_addsBench_0 : cX4_addsBench.data.toList.drop 0 = dktX4_addsBench_0 := by decide +kernel
theorem dksX4_addsBench_1 : cX4_addsBench.data.toList.drop 24 = dktX4_addsBench_1 := dk_seg dksX4_addsBench_0 24 rfl rfl
theorem dksX4_addsBench_2 : cX4_addsBench.data.toList.drop 48 = dktX4_addsBench_2 := dk_seg dksX4_addsBench_1 24 rfl rfl
theorem dksX4_addsBench_3 : cX4_addsBench.data.toList.drop 71 = dktX4_addsBench_3 := dk_seg dksX4_addsBench_2 23 rfl rfl
theorem dksX4_addsBench_4 : cX4_addsBench.data.toList.drop 95 = dktX4_addsBench_4 := dk_seg dksX4_addsBench_3 24 rfl rfl
theorem dksX4_addsBench_5 : cX4_addsBench.data.toList.drop 118 = dktX4_addsBench_5 := dk_seg dksX4_addsBench_4 23 rfl rfl
theorem dksX4_addsBench_6 : cX4_addsBench.data.toList.drop 141 = dktX4_addsBench_6 := dk_seg dksX4_addsBench_5 23 rfl rfl
theorem dksX4_addsBench_7 : cX4_addsBench.data.toList.drop 165 = dktX4_addsBench_7 := dk_seg dksX4_addsBench_6 24 rfl rfl
theorem dX4_addsBench_0 : decode cX4_addsBench 0 = .ok (.iload_n 1, 1) := dk_27 (dk_at dksX4_addsBench_0 0 rfl rfl)
theorem dX4_addsBench_1 : decode cX4_addsBench 1 = .ok (.iload_n 2, 1) := dk_28 (dk_at dksX4_addsBench_0 1 rfl rfl)
theorem dX4_addsBench_2 : decode cX4_addsBench 2 = .ok (.invokestatic 89, 3) := dk_184 0 89 (dk_at dksX4_addsBench_0 2 rfl rfl)
theorem dX4_addsBench_5 : decode cX4_addsBench 5 = .ok (.ifCond .ne 5, 3) := dk_154 0 5 (dk_at dksX4_addsBench_0 5 rfl rfl)
theorem dX4_addsBench_8 : decode cX4_addsBench 8 = .ok (.iconst (-1), 1) := dk_2 (dk_at dksX4_addsBench_0 8 rfl rfl)
theorem dX4_addsBench_9 : decode cX4_addsBench 9 = .ok (.ireturn, 1) := dk_172 (dk_at dksX4_addsBench_0 9 rfl rfl)
theorem dX4_addsBench_10 : decode cX4_addsBench 10 = .ok (.iload_n 3, 1) := dk_29 (dk_at dksX4_addsBench_0 10 rfl rfl)
theorem dX4_addsBench_11 : decode cX4_addsBench 11 = .ok (.iconst 1, 1) := dk_4 (dk_at dksX4_addsBench_0 11 rfl rfl)
theorem dX4_addsBench_12 : decode cX4_addsBench 12 = .ok (.bipush 20, 2) := dk_16 20 (dk_at dksX4_addsBench_0 12 rfl rfl)
theorem dX4_addsBench_14 : decode cX4_addsBench 14 = .ok (.invokestatic 66, 3) := dk_184 0 66 (dk_at dksX4_addsBench_0 14 rfl rfl)
theorem dX4_addsBench_17 : decode cX4_addsBench 17 = .ok (.ifCond .ne 6, 3) := dk_154 0 6 (dk_at dksX4_addsBench_0 17 rfl rfl)
theorem dX4_addsBench_20 : decode cX4_addsBench 20 = .ok (.bipush (-2), 2) := dk_16 254 (dk_at dksX4_addsBench_0 20 rfl rfl)
theorem dX4_addsBench_22 : decode cX4_addsBench 22 = .ok (.ireturn, 1) := dk_172 (dk_at dksX4_addsBench_0 22 rfl rfl)
theorem dX4_addsBench_23 : decode cX4_addsBench 23 = .ok (.aload_n 0, 1) := dk_42 (dk_at dksX4_addsBench_0 23 rfl rfl)
theorem dX4_addsBench_24 : decode cX4_addsBench 24 = .ok (.getfield 7, 3) := dk_180 0 7 (dk_at dksX4_addsBench_1 0 rfl rfl)
theorem dX4_addsBench_27 : decode cX4_addsBench 27 = .ok (.iconst 0, 1) := dk_3 (dk_at dksX4_addsBench_1 3 rfl rfl)
theorem dX4_addsBench_28 : decode cX4_addsBench 28 = .ok (.iaload, 1) := dk_46 (dk_at dksX4_addsBench_1 4 rfl rfl)
theorem dX4_addsBench_29 : decode cX4_addsBench 29 = .ok (.istore 4, 2) := dk_54 4 (dk_at dksX4_addsBench_1 5 rfl rfl)
theorem dX4_addsBench_31 : decode cX4_addsBench 31 = .ok (.iload 4, 2) := dk_21 4 (dk_at dksX4_addsBench_1 7 rfl rfl)
theorem dX4_addsBench_33 : decode cX4_addsBench 33 = .ok (.bipush 10, 2) := dk_16 10 (dk_at dksX4_addsBench_1 9 rfl rfl)
theorem dX4_addsBench_35 : decode cX4_addsBench 35 = .ok (.if_icmp .ne 11, 3) := dk_160 0 11 (dk_at dksX4_addsBench_1 11 rfl rfl)
theorem dX4_addsBench_38 : decode cX4_addsBench 38 = .ok (.aload_n 0, 1) := dk_42 (dk_at dksX4_addsBench_1 14 rfl rfl)
theorem dX4_addsBench_39 : decode cX4_addsBench 39 = .ok (.iconst 1, 1) := dk_4 (dk_at dksX4_addsBench_1 15 rfl rfl)
theorem dX4_addsBench_40 : decode cX4_addsBench 40 = .ok (.bipush 10, 2) := dk_16 10 (dk_at dksX4_addsBench_1 16 rfl rfl)
theorem dX4_addsBench_42 : decode cX4_addsBench 42 = .ok (.invokevirtual 93, 3) := dk_182 0 93 (dk_at dksX4_addsBench_1 18 rfl rfl)
theorem dX4_addsBench_45 : decode cX4_addsBench 45 = .ok (.ireturn, 1) := dk_172 (dk_at dksX4_addsBench_1 21 rfl rfl)
theorem dX4_addsBench_46 : decode cX4_addsBench 46 = .ok (.aload_n 0, 1) := dk_42 (dk_at dksX4_addsBench_1 22 rfl rfl)
theorem dX4_addsBench_47 : decode cX4_addsBench 47 = .ok (.iload_n 1, 1) := dk_27 (dk_at dksX4_addsBench_1 23 rfl rfl)
theorem dX4_addsBench_48 : decode cX4_addsBench 48 = .ok (.iload_n 2, 1) := dk_28 (dk_at dksX4_addsBench_2 0 rfl rfl)
theorem dX4_addsBench_49 : decode cX4_addsBench 49 = .ok (.invokevirtual 96, 3) := dk_182 0 96 (dk_at dksX4_addsBench_2 1 rfl rfl)
theorem dX4_addsBench_52 : decode cX4_addsBench 52 = .ok (.iconst (-1), 1) := dk_2 (dk_at dksX4_addsBench_2 4 rfl rfl)
theorem dX4_addsBench_53 : decode cX4_addsBench 53 = .ok (.if_icmp .eq 15, 3) := dk_159 0 15 (dk_at dksX4_addsBench_2 5 rfl rfl)
theorem dX4_addsBench_56 : decode cX4_addsBench 56 = .ok (.aload_n 0, 1) := dk_42 (dk_at dksX4_addsBench_2 8 rfl rfl)
theorem dX4_addsBench_57 : decode cX4_addsBench 57 = .ok (.iconst 4, 1) := dk_7 (dk_at dksX4_addsBench_2 9 rfl rfl)
theorem dX4_addsBench_58 : decode cX4_addsBench 58 = .ok (.aload_n 0, 1) := dk_42 (dk_at dksX4_addsBench_2 10 rfl rfl)
theorem dX4_addsBench_59 : decode cX4_addsBench 59 = .ok (.iload_n 1, 1) := dk_27 (dk_at dksX4_addsBench_2 11 rfl rfl)
theorem dX4_addsBench_60 : decode cX4_addsBench 60 = .ok (.iload_n 2, 1) := dk_28 (dk_at dksX4_addsBench_2 12 rfl rfl)
theorem dX4_addsBench_61 : decode cX4_addsBench 61 = .ok (.invokevirtual 96, 3) := dk_182 0 96 (dk_at dksX4_addsBench_2 13 rfl rfl)
theorem dX4_addsBench_64 : decode cX4_addsBench 64 = .ok (.invokevirtual 93, 3) := dk_182 0 93 (dk_at dksX4_addsBench_2 16 rfl rfl)
theorem dX4_addsBench_67 : decode cX4_addsBench 67 = .ok (.ireturn, 1) := dk_172 (dk_at dksX4_addsBench_2 19 rfl rfl)
theorem dX4_addsBench_68 : decode cX4_addsBench 68 = .ok (.iconst 0, 1) := dk_3 (dk_at dksX4_addsBench_2 20 rfl rfl)
theorem dX4_addsBench_69 : decode cX4_addsBench 69 = .ok (.istore 5, 2) := dk_54 5 (dk_at dksX4_addsBench_2 21 rfl rfl)
theorem dX4_addsBench_71 : decode cX4_addsBench 71 = .ok (.iload 5, 2) := dk_21 5 (dk_at dksX4_addsBench_3 0 rfl rfl)
theorem dX4_addsBench_73 : decode cX4_addsBench 73 = .ok (.bipush 6, 2) := dk_16 6 (dk_at dksX4_addsBench_3 2 rfl rfl)
theorem dX4_addsBench_75 : decode cX4_addsBench 75 = .ok (.if_icmp .ge 26, 3) := dk_162 0 26 (dk_at dksX4_addsBench_3 4 rfl rfl)
theorem dX4_addsBench_78 : decode cX4_addsBench 78 = .ok (.aload_n 0, 1) := dk_42 (dk_at dksX4_addsBench_3 7 rfl rfl)
theorem dX4_addsBench_79 : decode cX4_addsBench 79 = .ok (.getfield 7, 3) := dk_180 0 7 (dk_at dksX4_addsBench_3 8 rfl rfl)
theorem dX4_addsBench_82 : decode cX4_addsBench 82 = .ok (.bipush 10, 2) := dk_16 10 (dk_at dksX4_addsBench_3 11 rfl rfl)
theorem dX4_addsBench_84 : decode cX4_addsBench 84 = .ok (.bipush 6, 2) := dk_16 6 (dk_at dksX4_addsBench_3 13 rfl rfl)
theorem dX4_addsBench_86 : decode cX4_addsBench 86 = .ok (.iload 4, 2) := dk_21 4 (dk_at dksX4_addsBench_3 15 rfl rfl)
theorem dX4_addsBench_88 : decode cX4_addsBench 88 = .ok (.imul, 1) := dk_104 (dk_at dksX4_addsBench_3 17 rfl rfl)
theorem dX4_addsBench_89 : decode cX4_addsBench 89 = .ok (.iadd, 1) := dk_96 (dk_at dksX4_addsBench_3 18 rfl rfl)
theorem dX4_addsBench_90 : decode cX4_addsBench 90 = .ok (.iload 5, 2) := dk_21 5 (dk_at dksX4_addsBench_3 19 rfl rfl)
theorem dX4_addsBench_92 : decode cX4_addsBench 92 = .ok (.iadd, 1) := dk_96 (dk_at dksX4_addsBench_3 21 rfl rfl)
theorem dX4_addsBench_93 : decode cX4_addsBench 93 = .ok (.iconst 0, 1) := dk_3 (dk_at dksX4_addsBench_3 22 rfl rfl)
theorem dX4_addsBench_94 : decode cX4_addsBench 94 = .ok (.iastore, 1) := dk_79 (dk_at dksX4_addsBench_3 23 rfl rfl)
theorem dX4_addsBench_95 : decode cX4_addsBench 95 = .ok (.iinc 5 1, 3) := dk_132 5 1 (dk_at dksX4_addsBench_4 0 rfl rfl)
theorem dX4_addsBench_98 : decode cX4_addsBench 98 = .ok (.goto (-27), 3) := dk_167 255 229 (dk_at dksX4_addsBench_4 3 rfl rfl)
theorem dX4_addsBench_101 : decode cX4_addsBench 101 = .ok (.aload_n 0, 1) := dk_42 (dk_at dksX4_addsBench_4 6 rfl rfl)
theorem dX4_addsBench_102 : decode cX4_addsBench 102 = .ok (.getfield 7, 3) := dk_180 0 7 (dk_at dksX4_addsBench_4 7 rfl rfl)
theorem dX4_addsBench_105 : decode cX4_addsBench 105 = .ok (.bipush 10, 2) := dk_16 10 (dk_at dksX4_addsBench_4 10 rfl rfl)
theorem dX4_addsBench_107 : decode cX4_addsBench 107 = .ok (.bipush 6, 2) := dk_16 6 (dk_at dksX4_addsBench_4 12 rfl rfl)
theorem dX4_addsBench_109 : decode cX4_addsBench 109 = .ok (.iload 4, 2) := dk_21 4 (dk_at dksX4_addsBench_4 14 rfl rfl)
theorem dX4_addsBench_111 : decode cX4_addsBench 111 = .ok (.imul, 1) := dk_104 (dk_at dksX4_addsBench_4 16 rfl rfl)
theorem dX4_addsBench_112 : decode cX4_addsBench 112 = .ok (.iadd, 1) := dk_96 (dk_at dksX4_addsBench_4 17 rfl rfl)
theorem dX4_addsBench_113 : decode cX4_addsBench 113 = .ok (.iconst 0, 1) := dk_3 (dk_at dksX4_addsBench_4 18 rfl rfl)
theorem dX4_addsBench_114 : decode cX4_addsBench 114 = .ok (.iadd, 1) := dk_96 (dk_at dksX4_addsBench_4 19 rfl rfl)
theorem dX4_addsBench_115 : decode cX4_addsBench 115 = .ok (.iload_n 1, 1) := dk_27 (dk_at dksX4_addsBench_4 20 rfl rfl)
theorem dX4_addsBench_116 : decode cX4_addsBench 116 = .ok (.iastore, 1) := dk_79 (dk_at dksX4_addsBench_4 21 rfl rfl)
theorem dX4_addsBench_117 : decode cX4_addsBench 117 = .ok (.aload_n 0, 1) := dk_42 (dk_at dksX4_addsBench_4 22 rfl rfl)
theorem dX4_addsBench_118 : decode cX4_addsBench 118 = .ok (.getfield 7, 3) := dk_180 0 7 (dk_at dksX4_addsBench_5 0 rfl rfl)
theorem dX4_addsBench_121 : decode cX4_addsBench 121 = .ok (.bipush 10, 2) := dk_16 10 (dk_at dksX4_addsBench_5 3 rfl rfl)
theorem dX4_addsBench_123 : decode cX4_addsBench 123 = .ok (.bipush 6, 2) := dk_16 6 (dk_at dksX4_addsBench_5 5 rfl rfl)
theorem dX4_addsBench_125 : decode cX4_addsBench 125 = .ok (.iload 4, 2) := dk_21 4 (dk_at dksX4_addsBench_5 7 rfl rfl)
theorem dX4_addsBench_127 : decode cX4_addsBench 127 = .ok (.imul, 1) := dk_104 (dk_at dksX4_addsBench_5 9 rfl rfl)
theorem dX4_addsBench_128 : decode cX4_addsBench 128 = .ok (.iadd, 1) := dk_96 (dk_at dksX4_addsBench_5 10 rfl rfl)
theorem dX4_addsBench_129 : decode cX4_addsBench 129 = .ok (.iconst 1, 1) := dk_4 (dk_at dksX4_addsBench_5 11 rfl rfl)
theorem dX4_addsBench_130 : decode cX4_addsBench 130 = .ok (.iadd, 1) := dk_96 (dk_at dksX4_addsBench_5 12 rfl rfl)
theorem dX4_addsBench_131 : decode cX4_addsBench 131 = .ok (.iload_n 2, 1) := dk_28 (dk_at dksX4_addsBench_5 13 rfl rfl)
theorem dX4_addsBench_132 : decode cX4_addsBench 132 = .ok (.iastore, 1) := dk_79 (dk_at dksX4_addsBench_5 14 rfl rfl)
theorem dX4_addsBench_133 : decode cX4_addsBench 133 = .ok (.aload_n 0, 1) := dk_42 (dk_at dksX4_addsBench_5 15 rfl rfl)
theorem dX4_addsBench_134 : decode cX4_addsBench 134 = .ok (.getfield 7, 3) := dk_180 0 7 (dk_at dksX4_addsBench_5 16 rfl rfl)
theorem dX4_addsBench_137 : decode cX4_addsBench 137 = .ok (.bipush 10, 2) := dk_16 10 (dk_at dksX4_addsBench_5 19 rfl rfl)
theorem dX4_addsBench_139 : decode cX4_addsBench 139 = .ok (.bipush 6, 2) := dk_16 6 (dk_at dksX4_addsBench_5 21 rfl rfl)
theorem dX4_addsBench_141 : decode cX4_addsBench 141 = .ok (.iload 4, 2) := dk_21 4 (dk_at dksX4_addsBench_6 0 rfl rfl)
theorem dX4_addsBench_143 : decode cX4_addsBench 143 = .ok (.imul, 1) := dk_104 (dk_at dksX4_addsBench_6 2 rfl rfl)
theorem dX4_addsBench_144 : decode cX4_addsBench 144 = .ok (.iadd, 1) := dk_96 (dk_at dksX4_addsBench_6 3 rfl rfl)
theorem dX4_addsBench_145 : decode cX4_addsBench 145 = .ok (.iconst 2, 1) := dk_5 (dk_at dksX4_addsBench_6 4 rfl rfl)
theorem dX4_addsBench_146 : decode cX4_addsBench 146 = .ok (.iadd, 1) := dk_96 (dk_at dksX4_addsBench_6 5 rfl rfl)
theorem dX4_addsBench_147 : decode cX4_addsBench 147 = .ok (.iload_n 3, 1) := dk_29 (dk_at dksX4_addsBench_6 6 rfl rfl)
theorem dX4_addsBench_148 : decode cX4_addsBench 148 = .ok (.iastore, 1) := dk_79 (dk_at dksX4_addsBench_6 7 rfl rfl)
theorem dX4_addsBench_149 : decode cX4_addsBench 149 = .ok (.aload_n 0, 1) := dk_42 (dk_at dksX4_addsBench_6 8 rfl rfl)
theorem dX4_addsBench_150 : decode cX4_addsBench 150 = .ok (.getfield 7, 3) := dk_180 0 7 (dk_at dksX4_addsBench_6 9 rfl rfl)
theorem dX4_addsBench_153 : decode cX4_addsBench 153 = .ok (.iconst 0, 1) := dk_3 (dk_at dksX4_addsBench_6 12 rfl rfl)
theorem dX4_addsBench_154 : decode cX4_addsBench 154 = .ok (.iload 4, 2) := dk_21 4 (dk_at dksX4_addsBench_6 13 rfl rfl)
theorem dX4_addsBench_156 : decode cX4_addsBench 156 = .ok (.iconst 1, 1) := dk_4 (dk_at dksX4_addsBench_6 15 rfl rfl)
theorem dX4_addsBench_157 : decode cX4_addsBench 157 = .ok (.iadd, 1) := dk_96 (dk_at dksX4_addsBench_6 16 rfl rfl)
theorem dX4_addsBench_158 : decode cX4_addsBench 158 = .ok (.iastore, 1) := dk_79 (dk_at dksX4_addsBench_6 17 rfl rfl)
theorem dX4_addsBench_159 : decode cX4_addsBench 159 = .ok (.aload_n 0, 1) := dk_42 (dk_at dksX4_addsBench_6 18 rfl rfl)
theorem dX4_addsBench_160 : decode cX4_addsBench 160 = .ok (.iload 4, 2) := dk_21 4 (dk_at dksX4_addsBench_6 19 rfl rfl)
theorem dX4_addsBench_162 : decode cX4_addsBench 162 = .ok (.invokevirtual 99, 3) := dk_182 0 99 (dk_at dksX4_addsBench_6 21 rfl rfl)
theorem dX4_addsBench_165 : decode cX4_addsBench 165 = .ok (.ireturn, 1) := dk_172 (dk_at dksX4_addsBench_7 0 rfl rfl)
abbrev cX4_isCell : ByteArray := prog_20_method_10_code
def yX4_isCell : MethodName := ⟨RX4, "isCell", "(II)Z"⟩
def dkwX4_isCell_0 : List UInt8 := [26, 3, 8, 184, 0, 66, 153, 0, 16, 27, 3, 8, 184, 0, 66, 153, 0, 7, 4, 167, 0, 4, 3, 172]
abbrev dktX4_isCell_0 : List UInt8 := dkwX4_isCell_0 ++ []
theorem dksX4_isCell_0 : cX4_isCell.data.toList.drop 0 = dktX4_isCell_0 := by decide +kernel
theorem dX4_isCell_0 : decode cX4_isCell 0 = .ok (.iload_n 0, 1) := dk_26 (dk_at dksX4_isCell_0 0 rfl rfl)
theorem dX4_isCell_1 : decode cX4_isCell 1 = .ok (.iconst 0, 1) := dk_3 (dk_at dksX4_isCell_0 1 rfl rfl)
theorem dX4_isCell_2 : decode cX4_isCell 2 = .ok (.iconst 5, 1) := dk_8 (dk_at dksX4_isCell_0 2 rfl rfl)
theorem dX4_isCell_3 : decode cX4_isCell 3 = .ok (.invokestatic 66, 3) := dk_184 0 66 (dk_at dksX4_isCell_0 3 rfl rfl)
theorem dX4_isCell_6 : decode cX4_isCell 6 = .ok (.ifCond .eq 16, 3) := dk_153 0 16 (dk_at dksX4_isCell_0 6 rfl rfl)
theorem dX4_isCell_9 : decode cX4_isCell 9 = .ok (.iload_n 1, 1) := dk_27 (dk_at dksX4_isCell_0 9 rfl rfl)
theorem dX4_isCell_10 : decode cX4_isCell 10 = .ok (.iconst 0, 1) := dk_3 (dk_at dksX4_isCell_0 10 rfl rfl)
theorem dX4_isCell_11 : decode cX4_isCell 11 = .ok (.iconst 5, 1) := dk_8 (dk_at dksX4_isCell_0 11 rfl rfl)
theorem dX4_isCell_12 : decode cX4_isCell 12 = .ok (.invokestatic 66, 3) := dk_184 0 66 (dk_at dksX4_isCell_0 12 rfl rfl)
theorem dX4_isCell_15 : decode cX4_isCell 15 = .ok (.ifCond .eq 7, 3) := dk_153 0 7 (dk_at dksX4_isCell_0 15 rfl rfl)
theorem dX4_isCell_18 : decode cX4_isCell 18 = .ok (.iconst 1, 1) := dk_4 (dk_at dksX4_isCell_0 18 rfl rfl)
theorem dX4_isCell_19 : decode cX4_isCell 19 = .ok (.goto 4, 3) := dk_167 0 4 (dk_at dksX4_isCell_0 19 rfl rfl)
theorem dX4_isCell_22 : decode cX4_isCell 22 = .ok (.iconst 0, 1) := dk_3 (dk_at dksX4_isCell_0 22 rfl rfl)
theorem dX4_isCell_23 : decode cX4_isCell 23 = .ok (.ireturn, 1) := dk_172 (dk_at dksX4_isCell_0 23 rfl rfl)
abbrev cX4_in : ByteArray := prog_20_method_4_code
def yX4_in : MethodName := ⟨RX4, "in", "(III)Z"⟩
def dkwX4_in_0 : List UInt8 := [26, 27, 161, 0, 12, 26, 28, 163, 0, 7, 4, 167, 0, 4, 3, 172]
abbrev dktX4_in_0 : List UInt8 := dkwX4_in_0 ++ []
theorem dksX4_in_0 : cX4_in.data.toList.drop 0 = dktX4_in_0 := by decide +kernel
theorem dX4_in_0 : decode cX4_in 0 = .ok (.iload_n 0, 1) := dk_26 (dk_at dksX4_in_0 0 rfl rfl)
theorem dX4_in_1 : decode cX4_in 1 = .ok (.iload_n 1, 1) := dk_27 (dk_at dksX4_in_0 1 rfl rfl)
theorem dX4_in_2 : decode cX4_in 2 = .ok (.if_icmp .lt 12, 3) := dk_161 0 12 (dk_at dksX4_in_0 2 rfl rfl)
theorem dX4_in_5 : decode cX4_in 5 = .ok (.iload_n 0, 1) := dk_26 (dk_at dksX4_in_0 5 rfl rfl)
theorem dX4_in_6 : decode cX4_in 6 = .ok (.iload_n 2, 1) := dk_28 (dk_at dksX4_in_0 6 rfl rfl)
theorem dX4_in_7 : decode cX4_in 7 = .ok (.if_icmp .gt 7, 3) := dk_163 0 7 (dk_at dksX4_in_0 7 rfl rfl)
theorem dX4_in_10 : decode cX4_in 10 = .ok (.iconst 1, 1) := dk_4 (dk_at dksX4_in_0 10 rfl rfl)
theorem dX4_in_11 : decode cX4_in 11 = .ok (.goto 4, 3) := dk_167 0 4 (dk_at dksX4_in_0 11 rfl rfl)
theorem dX4_in_14 : decode cX4_in 14 = .ok (.iconst 0, 1) := dk_3 (dk_at dksX4_in_0 14 rfl rfl)
theorem dX4_in_15 : decode cX4_in 15 = .ok (.ireturn, 1) := dk_172 (dk_at dksX4_in_0 15 rfl rfl)
abbrev cX4_rejected : ByteArray := prog_20_method_7_code
def yX4_rejected : MethodName := ⟨RX4, "rejected", "(II)I"⟩
def dkwX4_rejected_0 : List UInt8 := [42, 28, 181, 0, 44, 27, 172]
abbrev dktX4_rejected_0 : List UInt8 := dkwX4_rejected_0 ++ []
theorem dksX4_rejected_0 : cX4_rejected.data.toList.drop 0 = dktX4_rejected_0 := by decide +kernel
theorem dX4_rejected_0 : decode cX4_rejected 0 = .ok (.aload_n 0, 1) := dk_42 (dk_at dksX4_rejected_0 0 rfl rfl)
theorem dX4_rejected_1 : decode cX4_rejected 1 = .ok (.iload_n 2, 1) := dk_28 (dk_at dksX4_rejected_0 1 rfl rfl)
theorem dX4_rejected_2 : decode cX4_rejected 2 = .ok (.putfield 44, 3) := dk_181 0 44 (dk_at dksX4_rejected_0 2 rfl rfl)
theorem dX4_rejected_5 : decode cX4_rejected 5 = .ok (.iload_n 1, 1) := dk_27 (dk_at dksX4_rejected_0 5 rfl rfl)
theorem dX4_rejected_6 : decode cX4_rejected 6 = .ok (.ireturn, 1) := dk_172 (dk_at dksX4_rejected_0 6 rfl rfl)
abbrev cX4_holder : ByteArray := prog_20_method_19_code
def yX4_holder : MethodName := ⟨RX4, "holder", "(II)I"⟩
def dkwX4_holder_3 : List UInt8 := [16, 10, 29, 96, 172, 132, 3, 1, 167, 255, 218, 2, 172]
abbrev dktX4_holder_3 : List UInt8 := dkwX4_holder_3 ++ []
def dkwX4_holder_2 : List UInt8 := [46, 162, 0, 34, 42, 29, 3, 182, 0, 77, 27, 160, 0, 18, 42, 29, 4, 182, 0, 77, 28, 160, 0, 8]
abbrev dktX4_holder_2 : List UInt8 := dkwX4_holder_2 ++ dktX4_holder_3
def dkwX4_holder_1 : List UInt8 := [4, 182, 0, 70, 28, 160, 0, 5, 29, 172, 132, 3, 1, 167, 255, 221, 3, 62, 29, 42, 180, 0, 7, 4]
abbrev dktX4_holder_1 : List UInt8 := dkwX4_holder_1 ++ dktX4_holder_2
def dkwX4_holder_0 : List UInt8 := [3, 62, 29, 42, 180, 0, 7, 3, 46, 162, 0, 31, 42, 29, 3, 182, 0, 70, 27, 160, 0, 15, 42, 29]
abbrev dktX4_holder_0 : List UInt8 := dkwX4_holder_0 ++ dktX4_holder_1
theorem dksX4_holder_0 : cX4_holder.data.toList.drop 0 = dktX4_holder_0 := by decide +kernel
theorem dksX4_holder_1 : cX4_holder.data.toList.drop 24 = dktX4_holder_1 := dk_seg dksX4_holder_0 24 rfl rfl
theorem dksX4_holder_2 : cX4_holder.data.toList.drop 48 = dktX4_holder_2 := dk_seg dksX4_holder_1 24 rfl rfl
theorem dksX4_holder_3 : cX4_holder.data.toList.drop 72 = dktX4_holder_3 := dk_seg dksX4_holder_2 24 rfl rfl
theorem dX4_holder_0 : decode cX4_holder 0 = .ok (.iconst 0, 1) := dk_3 (dk_at dksX4_holder_0 0 rfl rfl)
theorem dX4_holder_1 : decode cX4_holder 1 = .ok (.istore_n 3, 1) := dk_62 (dk_at dksX4_holder_0 1 rfl rfl)
theorem dX4_holder_2 : decode cX4_holder 2 = .ok (.iload_n 3, 1) := dk_29 (dk_at dksX4_holder_0 2 rfl rfl)
theorem dX4_holder_3 : decode cX4_holder 3 = .ok (.aload_n 0, 1) := dk_42 (dk_at dksX4_holder_0 3 rfl rfl)
theorem dX4_holder_4 : decode cX4_holder 4 = .ok (.getfield 7, 3) := dk_180 0 7 (dk_at dksX4_holder_0 4 rfl rfl)
theorem dX4_holder_7 : decode cX4_holder 7 = .ok (.iconst 0, 1) := dk_3 (dk_at dksX4_holder_0 7 rfl rfl)
theorem dX4_holder_8 : decode cX4_holder 8 = .ok (.iaload, 1) := dk_46 (dk_at dksX4_holder_0 8 rfl rfl)
theorem dX4_holder_9 : decode cX4_holder 9 = .ok (.if_icmp .ge 31, 3) := dk_162 0 31 (dk_at dksX4_holder_0 9 rfl rfl)
theorem dX4_holder_12 : decode cX4_holder 12 = .ok (.aload_n 0, 1) := dk_42 (dk_at dksX4_holder_0 12 rfl rfl)
theorem dX4_holder_13 : decode cX4_holder 13 = .ok (.iload_n 3, 1) := dk_29 (dk_at dksX4_holder_0 13 rfl rfl)
theorem dX4_holder_14 : decode cX4_holder 14 = .ok (.iconst 0, 1) := dk_3 (dk_at dksX4_holder_0 14 rfl rfl)
theorem dX4_holder_15 : decode cX4_holder 15 = .ok (.invokevirtual 70, 3) := dk_182 0 70 (dk_at dksX4_holder_0 15 rfl rfl)
theorem dX4_holder_18 : decode cX4_holder 18 = .ok (.iload_n 1, 1) := dk_27 (dk_at dksX4_holder_0 18 rfl rfl)
theorem dX4_holder_19 : decode cX4_holder 19 = .ok (.if_icmp .ne 15, 3) := dk_160 0 15 (dk_at dksX4_holder_0 19 rfl rfl)
theorem dX4_holder_22 : decode cX4_holder 22 = .ok (.aload_n 0, 1) := dk_42 (dk_at dksX4_holder_0 22 rfl rfl)
theorem dX4_holder_23 : decode cX4_holder 23 = .ok (.iload_n 3, 1) := dk_29 (dk_at dksX4_holder_0 23 rfl rfl)
theorem dX4_holder_24 : decode cX4_holder 24 = .ok (.iconst 1, 1) := dk_4 (dk_at dksX4_holder_1 0 rfl rfl)
theorem dX4_holder_25 : decode cX4_holder 25 = .ok (.invokevirtual 70, 3) := dk_182 0 70 (dk_at dksX4_holder_1 1 rfl rfl)
theorem dX4_holder_28 : decode cX4_holder 28 = .ok (.iload_n 2, 1) := dk_28 (dk_at dksX4_holder_1 4 rfl rfl)
theorem dX4_holder_29 : decode cX4_holder 29 = .ok (.if_icmp .ne 5, 3) := dk_160 0 5 (dk_at dksX4_holder_1 5 rfl rfl)
theorem dX4_holder_32 : decode cX4_holder 32 = .ok (.iload_n 3, 1) := dk_29 (dk_at dksX4_holder_1 8 rfl rfl)
theorem dX4_holder_33 : decode cX4_holder 33 = .ok (.ireturn, 1) := dk_172 (dk_at dksX4_holder_1 9 rfl rfl)
theorem dX4_holder_34 : decode cX4_holder 34 = .ok (.iinc 3 1, 3) := dk_132 3 1 (dk_at dksX4_holder_1 10 rfl rfl)
theorem dX4_holder_37 : decode cX4_holder 37 = .ok (.goto (-35), 3) := dk_167 255 221 (dk_at dksX4_holder_1 13 rfl rfl)
theorem dX4_holder_40 : decode cX4_holder 40 = .ok (.iconst 0, 1) := dk_3 (dk_at dksX4_holder_1 16 rfl rfl)
theorem dX4_holder_41 : decode cX4_holder 41 = .ok (.istore_n 3, 1) := dk_62 (dk_at dksX4_holder_1 17 rfl rfl)
theorem dX4_holder_42 : decode cX4_holder 42 = .ok (.iload_n 3, 1) := dk_29 (dk_at dksX4_holder_1 18 rfl rfl)
theorem dX4_holder_43 : decode cX4_holder 43 = .ok (.aload_n 0, 1) := dk_42 (dk_at dksX4_holder_1 19 rfl rfl)
theorem dX4_holder_44 : decode cX4_holder 44 = .ok (.getfield 7, 3) := dk_180 0 7 (dk_at dksX4_holder_1 20 rfl rfl)
theorem dX4_holder_47 : decode cX4_holder 47 = .ok (.iconst 1, 1) := dk_4 (dk_at dksX4_holder_1 23 rfl rfl)
theorem dX4_holder_48 : decode cX4_holder 48 = .ok (.iaload, 1) := dk_46 (dk_at dksX4_holder_2 0 rfl rfl)
theorem dX4_holder_49 : decode cX4_holder 49 = .ok (.if_icmp .ge 34, 3) := dk_162 0 34 (dk_at dksX4_holder_2 1 rfl rfl)
theorem dX4_holder_52 : decode cX4_holder 52 = .ok (.aload_n 0, 1) := dk_42 (dk_at dksX4_holder_2 4 rfl rfl)
theorem dX4_holder_53 : decode cX4_holder 53 = .ok (.iload_n 3, 1) := dk_29 (dk_at dksX4_holder_2 5 rfl rfl)
theorem dX4_holder_54 : decode cX4_holder 54 = .ok (.iconst 0, 1) := dk_3 (dk_at dksX4_holder_2 6 rfl rfl)
theorem dX4_holder_55 : decode cX4_holder 55 = .ok (.invokevirtual 77, 3) := dk_182 0 77 (dk_at dksX4_holder_2 7 rfl rfl)
theorem dX4_holder_58 : decode cX4_holder 58 = .ok (.iload_n 1, 1) := dk_27 (dk_at dksX4_holder_2 10 rfl rfl)
theorem dX4_holder_59 : decode cX4_holder 59 = .ok (.if_icmp .ne 18, 3) := dk_160 0 18 (dk_at dksX4_holder_2 11 rfl rfl)
theorem dX4_holder_62 : decode cX4_holder 62 = .ok (.aload_n 0, 1) := dk_42 (dk_at dksX4_holder_2 14 rfl rfl)
theorem dX4_holder_63 : decode cX4_holder 63 = .ok (.iload_n 3, 1) := dk_29 (dk_at dksX4_holder_2 15 rfl rfl)
theorem dX4_holder_64 : decode cX4_holder 64 = .ok (.iconst 1, 1) := dk_4 (dk_at dksX4_holder_2 16 rfl rfl)
theorem dX4_holder_65 : decode cX4_holder 65 = .ok (.invokevirtual 77, 3) := dk_182 0 77 (dk_at dksX4_holder_2 17 rfl rfl)
theorem dX4_holder_68 : decode cX4_holder 68 = .ok (.iload_n 2, 1) := dk_28 (dk_at dksX4_holder_2 20 rfl rfl)
theorem dX4_holder_69 : decode cX4_holder 69 = .ok (.if_icmp .ne 8, 3) := dk_160 0 8 (dk_at dksX4_holder_2 21 rfl rfl)
theorem dX4_holder_72 : decode cX4_holder 72 = .ok (.bipush 10, 2) := dk_16 10 (dk_at dksX4_holder_3 0 rfl rfl)
theorem dX4_holder_74 : decode cX4_holder 74 = .ok (.iload_n 3, 1) := dk_29 (dk_at dksX4_holder_3 2 rfl rfl)
theorem dX4_holder_75 : decode cX4_holder 75 = .ok (.iadd, 1) := dk_96 (dk_at dksX4_holder_3 3 rfl rfl)
theorem dX4_holder_76 : decode cX4_holder 76 = .ok (.ireturn, 1) := dk_172 (dk_at dksX4_holder_3 4 rfl rfl)
theorem dX4_holder_77 : decode cX4_holder 77 = .ok (.iinc 3 1, 3) := dk_132 3 1 (dk_at dksX4_holder_3 5 rfl rfl)
theorem dX4_holder_80 : decode cX4_holder 80 = .ok (.goto (-38), 3) := dk_167 255 218 (dk_at dksX4_holder_3 8 rfl rfl)
theorem dX4_holder_83 : decode cX4_holder 83 = .ok (.iconst (-1), 1) := dk_2 (dk_at dksX4_holder_3 11 rfl rfl)
theorem dX4_holder_84 : decode cX4_holder 84 = .ok (.ireturn, 1) := dk_172 (dk_at dksX4_holder_3 12 rfl rfl)
abbrev cX4_bench : ByteArray := prog_20_method_14_code
def yX4_bench : MethodName := ⟨RX4, "bench", "(II)I"⟩
def dkwX4_bench_0 : List UInt8 := [42, 180, 0, 7, 16, 10, 16, 6, 27, 104, 96, 28, 96, 46, 172]
abbrev dktX4_bench_0 : List UInt8 := dkwX4_bench_0 ++ []
theorem dksX4_bench_0 : cX4_bench.data.toList.drop 0 = dktX4_bench_0 := by decide +kernel
theorem dX4_bench_0 : decode cX4_bench 0 = .ok (.aload_n 0, 1) := dk_42 (dk_at dksX4_bench_0 0 rfl rfl)
theorem dX4_bench_1 : decode cX4_bench 1 = .ok (.getfield 7, 3) := dk_180 0 7 (dk_at dksX4_bench_0 1 rfl rfl)
theorem dX4_bench_4 : decode cX4_bench 4 = .ok (.bipush 10, 2) := dk_16 10 (dk_at dksX4_bench_0 4 rfl rfl)
theorem dX4_bench_6 : decode cX4_bench 6 = .ok (.bipush 6, 2) := dk_16 6 (dk_at dksX4_bench_0 6 rfl rfl)
theorem dX4_bench_8 : decode cX4_bench 8 = .ok (.iload_n 1, 1) := dk_27 (dk_at dksX4_bench_0 8 rfl rfl)
theorem dX4_bench_9 : decode cX4_bench 9 = .ok (.imul, 1) := dk_104 (dk_at dksX4_bench_0 9 rfl rfl)
theorem dX4_bench_10 : decode cX4_bench 10 = .ok (.iadd, 1) := dk_96 (dk_at dksX4_bench_0 10 rfl rfl)
theorem dX4_bench_11 : decode cX4_bench 11 = .ok (.iload_n 2, 1) := dk_28 (dk_at dksX4_bench_0 11 rfl rfl)
theorem dX4_bench_12 : decode cX4_bench 12 = .ok (.iadd, 1) := dk_96 (dk_at dksX4_bench_0 12 rfl rfl)
theorem dX4_bench_13 : decode cX4_bench 13 = .ok (.iaload, 1) := dk_46 (dk_at dksX4_bench_0 13 rfl rfl)
theorem dX4_bench_14 : decode cX4_bench 14 = .ok (.ireturn, 1) := dk_172 (dk_at dksX4_bench_0 14 rfl rfl)
abbrev cX4_fountain : ByteArray := prog_20_method_15_code
def yX4_fountain : MethodName := ⟨RX4, "fountain", "(II)I"⟩
def dkwX4_fountain_0 : List UInt8 := [42, 180, 0, 7, 16, 70, 7, 27, 104, 96, 28, 96, 46, 172]
abbrev dktX4_fountain_0 : List UInt8 := dkwX4_fountain_0 ++ []
theorem dksX4_fountain_0 : cX4_fountain.data.toList.drop 0 = dktX4_fountain_0 := by decide +kernel
theorem dX4_fountain_0 : decode cX4_fountain 0 = .ok (.aload_n 0, 1) := dk_42 (dk_at dksX4_fountain_0 0 rfl rfl)
theorem dX4_fountain_1 : decode cX4_fountain 1 = .ok (.getfield 7, 3) := dk_180 0 7 (dk_at dksX4_fountain_0 1 rfl rfl)
theorem dX4_fountain_4 : decode cX4_fountain 4 = .ok (.bipush 70, 2) := dk_16 70 (dk_at dksX4_fountain_0 4 rfl rfl)
theorem dX4_fountain_6 : decode cX4_fountain 6 = .ok (.iconst 4, 1) := dk_7 (dk_at dksX4_fountain_0 6 rfl rfl)
theorem dX4_fountain_7 : decode cX4_fountain 7 = .ok (.iload_n 1, 1) := dk_27 (dk_at dksX4_fountain_0 7 rfl rfl)
theorem dX4_fountain_8 : decode cX4_fountain 8 = .ok (.imul, 1) := dk_104 (dk_at dksX4_fountain_0 8 rfl rfl)
theorem dX4_fountain_9 : decode cX4_fountain 9 = .ok (.iadd, 1) := dk_96 (dk_at dksX4_fountain_0 9 rfl rfl)
theorem dX4_fountain_10 : decode cX4_fountain 10 = .ok (.iload_n 2, 1) := dk_28 (dk_at dksX4_fountain_0 10 rfl rfl)
theorem dX4_fountain_11 : decode cX4_fountain 11 = .ok (.iadd, 1) := dk_96 (dk_at dksX4_fountain_0 11 rfl rfl)
theorem dX4_fountain_12 : decode cX4_fountain 12 = .ok (.iaload, 1) := dk_46 (dk_at dksX4_fountain_0 12 rfl rfl)
theorem dX4_fountain_13 : decode cX4_fountain 13 = .ok (.ireturn, 1) := dk_172 (dk_at dksX4_fountain_0 13 rfl rfl)
abbrev cX4_done : ByteArray := prog_20_method_8_code
def yX4_done : MethodName := ⟨RX4, "done", "(I)I"⟩
def dkwX4_done_0 : List UInt8 := [42, 27, 181, 0, 47, 3, 172]
abbrev dktX4_done_0 : List UInt8 := dkwX4_done_0 ++ []
theorem dksX4_done_0 : cX4_done.data.toList.drop 0 = dktX4_done_0 := by decide +kernel
theorem dX4_done_0 : decode cX4_done 0 = .ok (.aload_n 0, 1) := dk_42 (dk_at dksX4_done_0 0 rfl rfl)
theorem dX4_done_1 : decode cX4_done 1 = .ok (.iload_n 1, 1) := dk_27 (dk_at dksX4_done_0 1 rfl rfl)
theorem dX4_done_2 : decode cX4_done 2 = .ok (.putfield 47, 3) := dk_181 0 47 (dk_at dksX4_done_0 2 rfl rfl)
theorem dX4_done_5 : decode cX4_done 5 = .ok (.iconst 0, 1) := dk_3 (dk_at dksX4_done_0 5 rfl rfl)
theorem dX4_done_6 : decode cX4_done 6 = .ok (.ireturn, 1) := dk_172 (dk_at dksX4_done_0 6 rfl rfl)
abbrev cX4_ends : ByteArray := prog_20_method_9_code
def yX4_ends : MethodName := ⟨RX4, "ends", "(II)I"⟩
def dkwX4_ends_1 : List UInt8 := [42, 27, 181, 0, 57, 42, 42, 180, 0, 44, 181, 0, 60, 42, 3, 181, 0, 63, 42, 28, 182, 0, 54, 172]
abbrev dktX4_ends_1 : List UInt8 := dkwX4_ends_1 ++ []
def dkwX4_ends_0 : List UInt8 := [27, 154, 0, 12, 42, 42, 180, 0, 47, 182, 0, 50, 172, 27, 156, 0, 10, 42, 27, 116, 182, 0, 54, 172]
abbrev dktX4_ends_0 : List UInt8 := dkwX4_ends_0 ++ dktX4_ends_1
theorem dksX4_ends_0 : cX4_ends.data.toList.drop 0 = dktX4_ends_0 := by decide +kernel
theorem dksX4_ends_1 : cX4_ends.data.toList.drop 24 = dktX4_ends_1 := dk_seg dksX4_ends_0 24 rfl rfl
theorem dX4_ends_0 : decode cX4_ends 0 = .ok (.iload_n 1, 1) := dk_27 (dk_at dksX4_ends_0 0 rfl rfl)
theorem dX4_ends_1 : decode cX4_ends 1 = .ok (.ifCond .ne 12, 3) := dk_154 0 12 (dk_at dksX4_ends_0 1 rfl rfl)
theorem dX4_ends_4 : decode cX4_ends 4 = .ok (.aload_n 0, 1) := dk_42 (dk_at dksX4_ends_0 4 rfl rfl)
theorem dX4_ends_5 : decode cX4_ends 5 = .ok (.aload_n 0, 1) := dk_42 (dk_at dksX4_ends_0 5 rfl rfl)
theorem dX4_ends_6 : decode cX4_ends 6 = .ok (.getfield 47, 3) := dk_180 0 47 (dk_at dksX4_ends_0 6 rfl rfl)
theorem dX4_ends_9 : decode cX4_ends 9 = .ok (.invokevirtual 50, 3) := dk_182 0 50 (dk_at dksX4_ends_0 9 rfl rfl)
theorem dX4_ends_12 : decode cX4_ends 12 = .ok (.ireturn, 1) := dk_172 (dk_at dksX4_ends_0 12 rfl rfl)
theorem dX4_ends_13 : decode cX4_ends 13 = .ok (.iload_n 1, 1) := dk_27 (dk_at dksX4_ends_0 13 rfl rfl)
theorem dX4_ends_14 : decode cX4_ends 14 = .ok (.ifCond .ge 10, 3) := dk_156 0 10 (dk_at dksX4_ends_0 14 rfl rfl)
theorem dX4_ends_17 : decode cX4_ends 17 = .ok (.aload_n 0, 1) := dk_42 (dk_at dksX4_ends_0 17 rfl rfl)
theorem dX4_ends_18 : decode cX4_ends 18 = .ok (.iload_n 1, 1) := dk_27 (dk_at dksX4_ends_0 18 rfl rfl)
theorem dX4_ends_19 : decode cX4_ends 19 = .ok (.ineg, 1) := dk_116 (dk_at dksX4_ends_0 19 rfl rfl)
theorem dX4_ends_20 : decode cX4_ends 20 = .ok (.invokevirtual 54, 3) := dk_182 0 54 (dk_at dksX4_ends_0 20 rfl rfl)
theorem dX4_ends_23 : decode cX4_ends 23 = .ok (.ireturn, 1) := dk_172 (dk_at dksX4_ends_0 23 rfl rfl)
theorem dX4_ends_24 : decode cX4_ends 24 = .ok (.aload_n 0, 1) := dk_42 (dk_at dksX4_ends_1 0 rfl rfl)
theorem dX4_ends_25 : decode cX4_ends 25 = .ok (.iload_n 1, 1) := dk_27 (dk_at dksX4_ends_1 1 rfl rfl)
theorem dX4_ends_26 : decode cX4_ends 26 = .ok (.putfield 57, 3) := dk_181 0 57 (dk_at dksX4_ends_1 2 rfl rfl)
theorem dX4_ends_29 : decode cX4_ends 29 = .ok (.aload_n 0, 1) := dk_42 (dk_at dksX4_ends_1 5 rfl rfl)
theorem dX4_ends_30 : decode cX4_ends 30 = .ok (.aload_n 0, 1) := dk_42 (dk_at dksX4_ends_1 6 rfl rfl)
theorem dX4_ends_31 : decode cX4_ends 31 = .ok (.getfield 44, 3) := dk_180 0 44 (dk_at dksX4_ends_1 7 rfl rfl)
theorem dX4_ends_34 : decode cX4_ends 34 = .ok (.putfield 60, 3) := dk_181 0 60 (dk_at dksX4_ends_1 10 rfl rfl)
theorem dX4_ends_37 : decode cX4_ends 37 = .ok (.aload_n 0, 1) := dk_42 (dk_at dksX4_ends_1 13 rfl rfl)
theorem dX4_ends_38 : decode cX4_ends 38 = .ok (.iconst 0, 1) := dk_3 (dk_at dksX4_ends_1 14 rfl rfl)
theorem dX4_ends_39 : decode cX4_ends 39 = .ok (.putfield 63, 3) := dk_181 0 63 (dk_at dksX4_ends_1 15 rfl rfl)
theorem dX4_ends_42 : decode cX4_ends 42 = .ok (.aload_n 0, 1) := dk_42 (dk_at dksX4_ends_1 18 rfl rfl)
theorem dX4_ends_43 : decode cX4_ends 43 = .ok (.iload_n 2, 1) := dk_28 (dk_at dksX4_ends_1 19 rfl rfl)
theorem dX4_ends_44 : decode cX4_ends 44 = .ok (.invokevirtual 54, 3) := dk_182 0 54 (dk_at dksX4_ends_1 20 rfl rfl)
theorem dX4_ends_47 : decode cX4_ends 47 = .ok (.ireturn, 1) := dk_172 (dk_at dksX4_ends_1 23 rfl rfl)
abbrev cX4_changed : ByteArray := prog_20_method_6_code
def yX4_changed : MethodName := ⟨RX4, "changed", "(I)I"⟩
def dkwX4_changed_3 : List UInt8 := [104, 28, 96, 42, 180, 0, 13, 28, 46, 79, 132, 2, 1, 167, 255, 225, 27, 172]
abbrev dktX4_changed_3 : List UInt8 := dkwX4_changed_3 ++ []
def dkwX4_changed_2 : List UInt8 := [96, 181, 0, 41, 3, 61, 28, 16, 102, 162, 0, 31, 42, 180, 0, 19, 16, 102, 42, 180, 0, 41, 4, 100]
abbrev dktX4_changed_2 : List UInt8 := dkwX4_changed_2 ++ dktX4_changed_3
def dkwX4_changed_1 : List UInt8 := [180, 0, 19, 28, 16, 102, 96, 46, 79, 132, 2, 1, 167, 255, 231, 167, 0, 13, 42, 89, 180, 0, 41, 4]
abbrev dktX4_changed_1 : List UInt8 := dkwX4_changed_1 ++ dktX4_changed_2
def dkwX4_changed_0 : List UInt8 := [42, 180, 0, 41, 16, 8, 160, 0, 36, 3, 61, 28, 17, 2, 202, 162, 0, 24, 42, 180, 0, 19, 28, 42]
abbrev dktX4_changed_0 : List UInt8 := dkwX4_changed_0 ++ dktX4_changed_1
theorem dksX4_changed_0 : cX4_changed.data.toList.drop 0 = dktX4_changed_0 := by decide +kernel
theorem dksX4_changed_1 : cX4_changed.data.toList.drop 24 = dktX4_changed_1 := dk_seg dksX4_changed_0 24 rfl rfl
theorem dksX4_changed_2 : cX4_changed.data.toList.drop 48 = dktX4_changed_2 := dk_seg dksX4_changed_1 24 rfl rfl
theorem dksX4_changed_3 : cX4_changed.data.toList.drop 72 = dktX4_changed_3 := dk_seg dksX4_changed_2 24 rfl rfl
theorem dX4_changed_0 : decode cX4_changed 0 = .ok (.aload_n 0, 1) := dk_42 (dk_at dksX4_changed_0 0 rfl rfl)
theorem dX4_changed_1 : decode cX4_changed 1 = .ok (.getfield 41, 3) := dk_180 0 41 (dk_at dksX4_changed_0 1 rfl rfl)
theorem dX4_changed_4 : decode cX4_changed 4 = .ok (.bipush 8, 2) := dk_16 8 (dk_at dksX4_changed_0 4 rfl rfl)
theorem dX4_changed_6 : decode cX4_changed 6 = .ok (.if_icmp .ne 36, 3) := dk_160 0 36 (dk_at dksX4_changed_0 6 rfl rfl)
theorem dX4_changed_9 : decode cX4_changed 9 = .ok (.iconst 0, 1) := dk_3 (dk_at dksX4_changed_0 9 rfl rfl)
theorem dX4_changed_10 : decode cX4_changed 10 = .ok (.istore_n 2, 1) := dk_61 (dk_at dksX4_changed_0 10 rfl rfl)
theorem dX4_changed_11 : decode cX4_changed 11 = .ok (.iload_n 2, 1) := dk_28 (dk_at dksX4_changed_0 11 rfl rfl)
theorem dX4_changed_12 : decode cX4_changed 12 = .ok (.sipush 714, 3) := dk_17 2 202 (dk_at dksX4_changed_0 12 rfl rfl)
theorem dX4_changed_15 : decode cX4_changed 15 = .ok (.if_icmp .ge 24, 3) := dk_162 0 24 (dk_at dksX4_changed_0 15 rfl rfl)
theorem dX4_changed_18 : decode cX4_changed 18 = .ok (.aload_n 0, 1) := dk_42 (dk_at dksX4_changed_0 18 rfl rfl)
theorem dX4_changed_19 : decode cX4_changed 19 = .ok (.getfield 19, 3) := dk_180 0 19 (dk_at dksX4_changed_0 19 rfl rfl)
theorem dX4_changed_22 : decode cX4_changed 22 = .ok (.iload_n 2, 1) := dk_28 (dk_at dksX4_changed_0 22 rfl rfl)
theorem dX4_changed_23 : decode cX4_changed 23 = .ok (.aload_n 0, 1) := dk_42 (dk_at dksX4_changed_0 23 rfl rfl)
theorem dX4_changed_24 : decode cX4_changed 24 = .ok (.getfield 19, 3) := dk_180 0 19 (dk_at dksX4_changed_1 0 rfl rfl)
theorem dX4_changed_27 : decode cX4_changed 27 = .ok (.iload_n 2, 1) := dk_28 (dk_at dksX4_changed_1 3 rfl rfl)
theorem dX4_changed_28 : decode cX4_changed 28 = .ok (.bipush 102, 2) := dk_16 102 (dk_at dksX4_changed_1 4 rfl rfl)
theorem dX4_changed_30 : decode cX4_changed 30 = .ok (.iadd, 1) := dk_96 (dk_at dksX4_changed_1 6 rfl rfl)
theorem dX4_changed_31 : decode cX4_changed 31 = .ok (.iaload, 1) := dk_46 (dk_at dksX4_changed_1 7 rfl rfl)
theorem dX4_changed_32 : decode cX4_changed 32 = .ok (.iastore, 1) := dk_79 (dk_at dksX4_changed_1 8 rfl rfl)
theorem dX4_changed_33 : decode cX4_changed 33 = .ok (.iinc 2 1, 3) := dk_132 2 1 (dk_at dksX4_changed_1 9 rfl rfl)
theorem dX4_changed_36 : decode cX4_changed 36 = .ok (.goto (-25), 3) := dk_167 255 231 (dk_at dksX4_changed_1 12 rfl rfl)
theorem dX4_changed_39 : decode cX4_changed 39 = .ok (.goto 13, 3) := dk_167 0 13 (dk_at dksX4_changed_1 15 rfl rfl)
theorem dX4_changed_42 : decode cX4_changed 42 = .ok (.aload_n 0, 1) := dk_42 (dk_at dksX4_changed_1 18 rfl rfl)
theorem dX4_changed_43 : decode cX4_changed 43 = .ok (.dup, 1) := dk_89 (dk_at dksX4_changed_1 19 rfl rfl)
theorem dX4_changed_44 : decode cX4_changed 44 = .ok (.getfield 41, 3) := dk_180 0 41 (dk_at dksX4_changed_1 20 rfl rfl)
theorem dX4_changed_47 : decode cX4_changed 47 = .ok (.iconst 1, 1) := dk_4 (dk_at dksX4_changed_1 23 rfl rfl)
theorem dX4_changed_48 : decode cX4_changed 48 = .ok (.iadd, 1) := dk_96 (dk_at dksX4_changed_2 0 rfl rfl)
theorem dX4_changed_49 : decode cX4_changed 49 = .ok (.putfield 41, 3) := dk_181 0 41 (dk_at dksX4_changed_2 1 rfl rfl)
theorem dX4_changed_52 : decode cX4_changed 52 = .ok (.iconst 0, 1) := dk_3 (dk_at dksX4_changed_2 4 rfl rfl)
theorem dX4_changed_53 : decode cX4_changed 53 = .ok (.istore_n 2, 1) := dk_61 (dk_at dksX4_changed_2 5 rfl rfl)
theorem dX4_changed_54 : decode cX4_changed 54 = .ok (.iload_n 2, 1) := dk_28 (dk_at dksX4_changed_2 6 rfl rfl)
theorem dX4_changed_55 : decode cX4_changed 55 = .ok (.bipush 102, 2) := dk_16 102 (dk_at dksX4_changed_2 7 rfl rfl)
theorem dX4_changed_57 : decode cX4_changed 57 = .ok (.if_icmp .ge 31, 3) := dk_162 0 31 (dk_at dksX4_changed_2 9 rfl rfl)
theorem dX4_changed_60 : decode cX4_changed 60 = .ok (.aload_n 0, 1) := dk_42 (dk_at dksX4_changed_2 12 rfl rfl)
theorem dX4_changed_61 : decode cX4_changed 61 = .ok (.getfield 19, 3) := dk_180 0 19 (dk_at dksX4_changed_2 13 rfl rfl)
theorem dX4_changed_64 : decode cX4_changed 64 = .ok (.bipush 102, 2) := dk_16 102 (dk_at dksX4_changed_2 16 rfl rfl)
theorem dX4_changed_66 : decode cX4_changed 66 = .ok (.aload_n 0, 1) := dk_42 (dk_at dksX4_changed_2 18 rfl rfl)
theorem dX4_changed_67 : decode cX4_changed 67 = .ok (.getfield 41, 3) := dk_180 0 41 (dk_at dksX4_changed_2 19 rfl rfl)
theorem dX4_changed_70 : decode cX4_changed 70 = .ok (.iconst 1, 1) := dk_4 (dk_at dksX4_changed_2 22 rfl rfl)
theorem dX4_changed_71 : decode cX4_changed 71 = .ok (.isub, 1) := dk_100 (dk_at dksX4_changed_2 23 rfl rfl)
theorem dX4_changed_72 : decode cX4_changed 72 = .ok (.imul, 1) := dk_104 (dk_at dksX4_changed_3 0 rfl rfl)
theorem dX4_changed_73 : decode cX4_changed 73 = .ok (.iload_n 2, 1) := dk_28 (dk_at dksX4_changed_3 1 rfl rfl)
theorem dX4_changed_74 : decode cX4_changed 74 = .ok (.iadd, 1) := dk_96 (dk_at dksX4_changed_3 2 rfl rfl)
theorem dX4_changed_75 : decode cX4_changed 75 = .ok (.aload_n 0, 1) := dk_42 (dk_at dksX4_changed_3 3 rfl rfl)
theorem dX4_changed_76 : decode cX4_changed 76 = .ok (.getfield 13, 3) := dk_180 0 13 (dk_at dksX4_changed_3 4 rfl rfl)
theorem dX4_changed_79 : decode cX4_changed 79 = .ok (.iload_n 2, 1) := dk_28 (dk_at dksX4_changed_3 7 rfl rfl)
theorem dX4_changed_80 : decode cX4_changed 80 = .ok (.iaload, 1) := dk_46 (dk_at dksX4_changed_3 8 rfl rfl)
theorem dX4_changed_81 : decode cX4_changed 81 = .ok (.iastore, 1) := dk_79 (dk_at dksX4_changed_3 9 rfl rfl)
theorem dX4_changed_82 : decode cX4_changed 82 = .ok (.iinc 2 1, 3) := dk_132 2 1 (dk_at dksX4_changed_3 10 rfl rfl)
theorem dX4_changed_85 : decode cX4_changed 85 = .ok (.goto (-31), 3) := dk_167 255 225 (dk_at dksX4_changed_3 13 rfl rfl)
theorem dX4_changed_88 : decode cX4_changed 88 = .ok (.iload_n 1, 1) := dk_27 (dk_at dksX4_changed_3 16 rfl rfl)
theorem dX4_changed_89 : decode cX4_changed 89 = .ok (.ireturn, 1) := dk_172 (dk_at dksX4_changed_3 17 rfl rfl)
abbrev cX4_fails : ByteArray := prog_20_method_3_code
def yX4_fails : MethodName := ⟨RX4, "fails", "(I)I"⟩
def dkwX4_fails_0 : List UInt8 := [42, 27, 181, 0, 38, 3, 172]
abbrev dktX4_fails_0 : List UInt8 := dkwX4_fails_0 ++ []
theorem dksX4_fails_0 : cX4_fails.data.toList.drop 0 = dktX4_fails_0 := by decide +kernel
theorem dX4_fails_0 : decode cX4_fails 0 = .ok (.aload_n 0, 1) := dk_42 (dk_at dksX4_fails_0 0 rfl rfl)
theorem dX4_fails_1 : decode cX4_fails 1 = .ok (.iload_n 1, 1) := dk_27 (dk_at dksX4_fails_0 1 rfl rfl)
theorem dX4_fails_2 : decode cX4_fails 2 = .ok (.putfield 38, 3) := dk_181 0 38 (dk_at dksX4_fails_0 2 rfl rfl)
theorem dX4_fails_5 : decode cX4_fails 5 = .ok (.iconst 0, 1) := dk_3 (dk_at dksX4_fails_0 5 rfl rfl)
theorem dX4_fails_6 : decode cX4_fails 6 = .ok (.ireturn, 1) := dk_172 (dk_at dksX4_fails_0 6 rfl rfl)
abbrev cX4_setRent : ByteArray := prog_20_method_41_code
def yX4_setRent : MethodName := ⟨RX4, "setRent", "(II)I"⟩
def dkwX4_setRent_0 : List UInt8 := [42, 182, 0, 134, 42, 42, 27, 28, 182, 0, 144, 4, 182, 0, 141, 172]
abbrev dktX4_setRent_0 : List UInt8 := dkwX4_setRent_0 ++ []
theorem dksX4_setRent_0 : cX4_setRent.data.toList.drop 0 = dktX4_setRent_0 := by decide +kernel
theorem dX4_setRent_0 : decode cX4_setRent 0 = .ok (.aload_n 0, 1) := dk_42 (dk_at dksX4_setRent_0 0 rfl rfl)
theorem dX4_setRent_1 : decode cX4_setRent 1 = .ok (.invokevirtual 134, 3) := dk_182 0 134 (dk_at dksX4_setRent_0 1 rfl rfl)
theorem dX4_setRent_4 : decode cX4_setRent 4 = .ok (.aload_n 0, 1) := dk_42 (dk_at dksX4_setRent_0 4 rfl rfl)
theorem dX4_setRent_5 : decode cX4_setRent 5 = .ok (.aload_n 0, 1) := dk_42 (dk_at dksX4_setRent_0 5 rfl rfl)
theorem dX4_setRent_6 : decode cX4_setRent 6 = .ok (.iload_n 1, 1) := dk_27 (dk_at dksX4_setRent_0 6 rfl rfl)
theorem dX4_setRent_7 : decode cX4_setRent 7 = .ok (.iload_n 2, 1) := dk_28 (dk_at dksX4_setRent_0 7 rfl rfl)
theorem dX4_setRent_8 : decode cX4_setRent 8 = .ok (.invokevirtual 144, 3) := dk_182 0 144 (dk_at dksX4_setRent_0 8 rfl rfl)
theorem dX4_setRent_11 : decode cX4_setRent 11 = .ok (.iconst 1, 1) := dk_4 (dk_at dksX4_setRent_0 11 rfl rfl)
theorem dX4_setRent_12 : decode cX4_setRent 12 = .ok (.invokevirtual 141, 3) := dk_182 0 141 (dk_at dksX4_setRent_0 12 rfl rfl)
theorem dX4_setRent_15 : decode cX4_setRent 15 = .ok (.ireturn, 1) := dk_172 (dk_at dksX4_setRent_0 15 rfl rfl)
abbrev cX4_rents : ByteArray := prog_20_method_34_code
def yX4_rents : MethodName := ⟨RX4, "rents", "(II)I"⟩
def dkwX4_rents_2 : List UInt8 := [182, 0, 99, 172]
abbrev dktX4_rents_2 : List UInt8 := dkwX4_rents_2 ++ []
def dkwX4_rents_1 : List UInt8 := [27, 5, 182, 0, 70, 62, 42, 180, 0, 7, 16, 10, 16, 6, 27, 104, 96, 5, 96, 28, 79, 42, 29]
abbrev dktX4_rents_1 : List UInt8 := dkwX4_rents_1 ++ dktX4_rents_2
def dkwX4_rents_0 : List UInt8 := [42, 27, 182, 0, 118, 154, 0, 5, 2, 172, 28, 4, 16, 20, 184, 0, 66, 154, 0, 6, 16, 254, 172, 42]
abbrev dktX4_rents_0 : List UInt8 := dkwX4_rents_0 ++ dktX4_rents_1
theorem dksX4_rents_0 : cX4_rents.data.toList.drop 0 = dktX4_rents_0 := by decide +kernel
theorem dksX4_rents_1 : cX4_rents.data.toList.drop 24 = dktX4_rents_1 := dk_seg dksX4_rents_0 24 rfl rfl
theorem dksX4_rents_2 : cX4_rents.data.toList.drop 47 = dktX4_rents_2 := dk_seg dksX4_rents_1 23 rfl rfl
theorem dX4_rents_0 : decode cX4_rents 0 = .ok (.aload_n 0, 1) := dk_42 (dk_at dksX4_rents_0 0 rfl rfl)
theorem dX4_rents_1 : decode cX4_rents 1 = .ok (.iload_n 1, 1) := dk_27 (dk_at dksX4_rents_0 1 rfl rfl)
theorem dX4_rents_2 : decode cX4_rents 2 = .ok (.invokevirtual 118, 3) := dk_182 0 118 (dk_at dksX4_rents_0 2 rfl rfl)
theorem dX4_rents_5 : decode cX4_rents 5 = .ok (.ifCond .ne 5, 3) := dk_154 0 5 (dk_at dksX4_rents_0 5 rfl rfl)
theorem dX4_rents_8 : decode cX4_rents 8 = .ok (.iconst (-1), 1) := dk_2 (dk_at dksX4_rents_0 8 rfl rfl)
theorem dX4_rents_9 : decode cX4_rents 9 = .ok (.ireturn, 1) := dk_172 (dk_at dksX4_rents_0 9 rfl rfl)
theorem dX4_rents_10 : decode cX4_rents 10 = .ok (.iload_n 2, 1) := dk_28 (dk_at dksX4_rents_0 10 rfl rfl)
theorem dX4_rents_11 : decode cX4_rents 11 = .ok (.iconst 1, 1) := dk_4 (dk_at dksX4_rents_0 11 rfl rfl)
theorem dX4_rents_12 : decode cX4_rents 12 = .ok (.bipush 20, 2) := dk_16 20 (dk_at dksX4_rents_0 12 rfl rfl)
theorem dX4_rents_14 : decode cX4_rents 14 = .ok (.invokestatic 66, 3) := dk_184 0 66 (dk_at dksX4_rents_0 14 rfl rfl)
theorem dX4_rents_17 : decode cX4_rents 17 = .ok (.ifCond .ne 6, 3) := dk_154 0 6 (dk_at dksX4_rents_0 17 rfl rfl)
theorem dX4_rents_20 : decode cX4_rents 20 = .ok (.bipush (-2), 2) := dk_16 254 (dk_at dksX4_rents_0 20 rfl rfl)
theorem dX4_rents_22 : decode cX4_rents 22 = .ok (.ireturn, 1) := dk_172 (dk_at dksX4_rents_0 22 rfl rfl)
theorem dX4_rents_23 : decode cX4_rents 23 = .ok (.aload_n 0, 1) := dk_42 (dk_at dksX4_rents_0 23 rfl rfl)
theorem dX4_rents_24 : decode cX4_rents 24 = .ok (.iload_n 1, 1) := dk_27 (dk_at dksX4_rents_1 0 rfl rfl)
theorem dX4_rents_25 : decode cX4_rents 25 = .ok (.iconst 2, 1) := dk_5 (dk_at dksX4_rents_1 1 rfl rfl)
theorem dX4_rents_26 : decode cX4_rents 26 = .ok (.invokevirtual 70, 3) := dk_182 0 70 (dk_at dksX4_rents_1 2 rfl rfl)
theorem dX4_rents_29 : decode cX4_rents 29 = .ok (.istore_n 3, 1) := dk_62 (dk_at dksX4_rents_1 5 rfl rfl)
theorem dX4_rents_30 : decode cX4_rents 30 = .ok (.aload_n 0, 1) := dk_42 (dk_at dksX4_rents_1 6 rfl rfl)
theorem dX4_rents_31 : decode cX4_rents 31 = .ok (.getfield 7, 3) := dk_180 0 7 (dk_at dksX4_rents_1 7 rfl rfl)
theorem dX4_rents_34 : decode cX4_rents 34 = .ok (.bipush 10, 2) := dk_16 10 (dk_at dksX4_rents_1 10 rfl rfl)
theorem dX4_rents_36 : decode cX4_rents 36 = .ok (.bipush 6, 2) := dk_16 6 (dk_at dksX4_rents_1 12 rfl rfl)
theorem dX4_rents_38 : decode cX4_rents 38 = .ok (.iload_n 1, 1) := dk_27 (dk_at dksX4_rents_1 14 rfl rfl)
theorem dX4_rents_39 : decode cX4_rents 39 = .ok (.imul, 1) := dk_104 (dk_at dksX4_rents_1 15 rfl rfl)
theorem dX4_rents_40 : decode cX4_rents 40 = .ok (.iadd, 1) := dk_96 (dk_at dksX4_rents_1 16 rfl rfl)
theorem dX4_rents_41 : decode cX4_rents 41 = .ok (.iconst 2, 1) := dk_5 (dk_at dksX4_rents_1 17 rfl rfl)
theorem dX4_rents_42 : decode cX4_rents 42 = .ok (.iadd, 1) := dk_96 (dk_at dksX4_rents_1 18 rfl rfl)
theorem dX4_rents_43 : decode cX4_rents 43 = .ok (.iload_n 2, 1) := dk_28 (dk_at dksX4_rents_1 19 rfl rfl)
theorem dX4_rents_44 : decode cX4_rents 44 = .ok (.iastore, 1) := dk_79 (dk_at dksX4_rents_1 20 rfl rfl)
theorem dX4_rents_45 : decode cX4_rents 45 = .ok (.aload_n 0, 1) := dk_42 (dk_at dksX4_rents_1 21 rfl rfl)
theorem dX4_rents_46 : decode cX4_rents 46 = .ok (.iload_n 3, 1) := dk_29 (dk_at dksX4_rents_1 22 rfl rfl)
theorem dX4_rents_47 : decode cX4_rents 47 = .ok (.invokevirtual 99, 3) := dk_182 0 99 (dk_at dksX4_rents_2 0 rfl rfl)
theorem dX4_rents_50 : decode cX4_rents 50 = .ok (.ireturn, 1) := dk_172 (dk_at dksX4_rents_2 3 rfl rfl)
abbrev cX4_isBench : ByteArray := prog_20_method_11_code
def yX4_isBench : MethodName := ⟨RX4, "isBench", "(I)Z"⟩
def dkwX4_isBench_0 : List UInt8 := [27, 3, 42, 180, 0, 7, 3, 46, 4, 100, 184, 0, 66, 172]
abbrev dktX4_isBench_0 : List UInt8 := dkwX4_isBench_0 ++ []
theorem dksX4_isBench_0 : cX4_isBench.data.toList.drop 0 = dktX4_isBench_0 := by decide +kernel
theorem dX4_isBench_0 : decode cX4_isBench 0 = .ok (.iload_n 1, 1) := dk_27 (dk_at dksX4_isBench_0 0 rfl rfl)
theorem dX4_isBench_1 : decode cX4_isBench 1 = .ok (.iconst 0, 1) := dk_3 (dk_at dksX4_isBench_0 1 rfl rfl)
theorem dX4_isBench_2 : decode cX4_isBench 2 = .ok (.aload_n 0, 1) := dk_42 (dk_at dksX4_isBench_0 2 rfl rfl)
theorem dX4_isBench_3 : decode cX4_isBench 3 = .ok (.getfield 7, 3) := dk_180 0 7 (dk_at dksX4_isBench_0 3 rfl rfl)
theorem dX4_isBench_6 : decode cX4_isBench 6 = .ok (.iconst 0, 1) := dk_3 (dk_at dksX4_isBench_0 6 rfl rfl)
theorem dX4_isBench_7 : decode cX4_isBench 7 = .ok (.iaload, 1) := dk_46 (dk_at dksX4_isBench_0 7 rfl rfl)
theorem dX4_isBench_8 : decode cX4_isBench 8 = .ok (.iconst 1, 1) := dk_4 (dk_at dksX4_isBench_0 8 rfl rfl)
theorem dX4_isBench_9 : decode cX4_isBench 9 = .ok (.isub, 1) := dk_100 (dk_at dksX4_isBench_0 9 rfl rfl)
theorem dX4_isBench_10 : decode cX4_isBench 10 = .ok (.invokestatic 66, 3) := dk_184 0 66 (dk_at dksX4_isBench_0 10 rfl rfl)
theorem dX4_isBench_13 : decode cX4_isBench 13 = .ok (.ireturn, 1) := dk_172 (dk_at dksX4_isBench_0 13 rfl rfl)
abbrev cX4_addFountain : ByteArray := prog_20_method_42_code
def yX4_addFountain : MethodName := ⟨RX4, "addFountain", "(III)I"⟩
def dkwX4_addFountain_0 : List UInt8 := [42, 182, 0, 134, 42, 42, 27, 28, 29, 182, 0, 147, 6, 182, 0, 141, 172]
abbrev dktX4_addFountain_0 : List UInt8 := dkwX4_addFountain_0 ++ []
theorem dksX4_addFountain_0 : cX4_addFountain.data.toList.drop 0 = dktX4_addFountain_0 := by decide +kernel
theorem dX4_addFountain_0 : decode cX4_addFountain 0 = .ok (.aload_n 0, 1) := dk_42 (dk_at dksX4_addFountain_0 0 rfl rfl)
theorem dX4_addFountain_1 : decode cX4_addFountain 1 = .ok (.invokevirtual 134, 3) := dk_182 0 134 (dk_at dksX4_addFountain_0 1 rfl rfl)
theorem dX4_addFountain_4 : decode cX4_addFountain 4 = .ok (.aload_n 0, 1) := dk_42 (dk_at dksX4_addFountain_0 4 rfl rfl)
theorem dX4_addFountain_5 : decode cX4_addFountain 5 = .ok (.aload_n 0, 1) := dk_42 (dk_at dksX4_addFountain_0 5 rfl rfl)
theorem dX4_addFountain_6 : decode cX4_addFountain 6 = .ok (.iload_n 1, 1) := dk_27 (dk_at dksX4_addFountain_0 6 rfl rfl)
theorem dX4_addFountain_7 : decode cX4_addFountain 7 = .ok (.iload_n 2, 1) := dk_28 (dk_at dksX4_addFountain_0 7 rfl rfl)
theorem dX4_addFountain_8 : decode cX4_addFountain 8 = .ok (.iload_n 3, 1) := dk_29 (dk_at dksX4_addFountain_0 8 rfl rfl)
theorem dX4_addFountain_9 : decode cX4_addFountain 9 = .ok (.invokevirtual 147, 3) := dk_182 0 147 (dk_at dksX4_addFountain_0 9 rfl rfl)
theorem dX4_addFountain_12 : decode cX4_addFountain 12 = .ok (.iconst 3, 1) := dk_6 (dk_at dksX4_addFountain_0 12 rfl rfl)
theorem dX4_addFountain_13 : decode cX4_addFountain 13 = .ok (.invokevirtual 141, 3) := dk_182 0 141 (dk_at dksX4_addFountain_0 13 rfl rfl)
theorem dX4_addFountain_16 : decode cX4_addFountain 16 = .ok (.ireturn, 1) := dk_172 (dk_at dksX4_addFountain_0 16 rfl rfl)
abbrev cX4_addsFountain : ByteArray := prog_20_method_26_code
def yX4_addsFountain : MethodName := ⟨RX4, "addsFountain", "(III)I"⟩
def dkwX4_addsFountain_6 : List UInt8 := [172]
abbrev dktX4_addsFountain_6 : List UInt8 := dkwX4_addsFountain_6 ++ []
def dkwX4_addsFountain_5 : List UInt8 := [21, 4, 104, 96, 6, 96, 4, 79, 42, 180, 0, 7, 4, 21, 4, 4, 96, 79, 42, 21, 4, 182, 0, 99]
abbrev dktX4_addsFountain_5 : List UInt8 := dkwX4_addsFountain_5 ++ dktX4_addsFountain_6
def dkwX4_addsFountain_4 : List UInt8 := [28, 79, 42, 180, 0, 7, 16, 70, 7, 21, 4, 104, 96, 5, 96, 29, 79, 42, 180, 0, 7, 16, 70, 7]
abbrev dktX4_addsFountain_4 : List UInt8 := dkwX4_addsFountain_4 ++ dktX4_addsFountain_5
def dkwX4_addsFountain_3 : List UInt8 := [16, 70, 7, 21, 4, 104, 96, 3, 96, 27, 79, 42, 180, 0, 7, 16, 70, 7, 21, 4, 104, 96, 4, 96]
abbrev dktX4_addsFountain_3 : List UInt8 := dkwX4_addsFountain_3 ++ dktX4_addsFountain_4
def dkwX4_addsFountain_2 : List UInt8 := [182, 0, 96, 2, 159, 0, 15, 42, 7, 42, 27, 28, 182, 0, 96, 182, 0, 93, 172, 42, 180, 0, 7]
abbrev dktX4_addsFountain_2 : List UInt8 := dkwX4_addsFountain_2 ++ dktX4_addsFountain_3
def dkwX4_addsFountain_1 : List UInt8 := [180, 0, 7, 4, 46, 54, 4, 21, 4, 7, 160, 0, 10, 42, 5, 7, 182, 0, 93, 172, 42, 27, 28]
abbrev dktX4_addsFountain_1 : List UInt8 := dkwX4_addsFountain_1 ++ dktX4_addsFountain_2
def dkwX4_addsFountain_0 : List UInt8 := [27, 28, 184, 0, 89, 154, 0, 5, 2, 172, 29, 4, 16, 9, 184, 0, 66, 154, 0, 6, 16, 254, 172, 42]
abbrev dktX4_addsFountain_0 : List UInt8 := dkwX4_addsFountain_0 ++ dktX4_addsFountain_1
theorem dksX4_addsFountain_0 : cX4_addsFountain.data.toList.drop 0 = dktX4_addsFountain_0 := by decide +kernel
theorem dksX4_addsFountain_1 : cX4_addsFountain.data.toList.drop 24 = dktX4_addsFountain_1 := dk_seg dksX4_addsFountain_0 24 rfl rfl
theorem dksX4_addsFountain_2 : cX4_addsFountain.data.toList.drop 47 = dktX4_addsFountain_2 := dk_seg dksX4_addsFountain_1 23 rfl rfl
theorem dksX4_addsFountain_3 : cX4_addsFountain.data.toList.drop 70 = dktX4_addsFountain_3 := dk_seg dksX4_addsFountain_2 23 rfl rfl
theorem dksX4_addsFountain_4 : cX4_addsFountain.data.toList.drop 94 = dktX4_addsFountain_4 := dk_seg dksX4_addsFountain_3 24 rfl rfl
theorem dksX4_addsFountain_5 : cX4_addsFountain.data.toList.drop 118 = dktX4_addsFountain_5 := dk_seg dksX4_addsFountain_4 24 rfl rfl
theorem dksX4_addsFountain_6 : cX4_addsFountain.data.toList.drop 142 = dktX4_addsFountain_6 := dk_seg dksX4_addsFountain_5 24 rfl rfl
theorem dX4_addsFountain_0 : decode cX4_addsFountain 0 = .ok (.iload_n 1, 1) := dk_27 (dk_at dksX4_addsFountain_0 0 rfl rfl)
theorem dX4_addsFountain_1 : decode cX4_addsFountain 1 = .ok (.iload_n 2, 1) := dk_28 (dk_at dksX4_addsFountain_0 1 rfl rfl)
theorem dX4_addsFountain_2 : decode cX4_addsFountain 2 = .ok (.invokestatic 89, 3) := dk_184 0 89 (dk_at dksX4_addsFountain_0 2 rfl rfl)
theorem dX4_addsFountain_5 : decode cX4_addsFountain 5 = .ok (.ifCond .ne 5, 3) := dk_154 0 5 (dk_at dksX4_addsFountain_0 5 rfl rfl)
theorem dX4_addsFountain_8 : decode cX4_addsFountain 8 = .ok (.iconst (-1), 1) := dk_2 (dk_at dksX4_addsFountain_0 8 rfl rfl)
theorem dX4_addsFountain_9 : decode cX4_addsFountain 9 = .ok (.ireturn, 1) := dk_172 (dk_at dksX4_addsFountain_0 9 rfl rfl)
theorem dX4_addsFountain_10 : decode cX4_addsFountain 10 = .ok (.iload_n 3, 1) := dk_29 (dk_at dksX4_addsFountain_0 10 rfl rfl)
theorem dX4_addsFountain_11 : decode cX4_addsFountain 11 = .ok (.iconst 1, 1) := dk_4 (dk_at dksX4_addsFountain_0 11 rfl rfl)
theorem dX4_addsFountain_12 : decode cX4_addsFountain 12 = .ok (.bipush 9, 2) := dk_16 9 (dk_at dksX4_addsFountain_0 12 rfl rfl)
theorem dX4_addsFountain_14 : decode cX4_addsFountain 14 = .ok (.invokestatic 66, 3) := dk_184 0 66 (dk_at dksX4_addsFountain_0 14 rfl rfl)
theorem dX4_addsFountain_17 : decode cX4_addsFountain 17 = .ok (.ifCond .ne 6, 3) := dk_154 0 6 (dk_at dksX4_addsFountain_0 17 rfl rfl)
theorem dX4_addsFountain_20 : decode cX4_addsFountain 20 = .ok (.bipush (-2), 2) := dk_16 254 (dk_at dksX4_addsFountain_0 20 rfl rfl)
theorem dX4_addsFountain_22 : decode cX4_addsFountain 22 = .ok (.ireturn, 1) := dk_172 (dk_at dksX4_addsFountain_0 22 rfl rfl)
theorem dX4_addsFountain_23 : decode cX4_addsFountain 23 = .ok (.aload_n 0, 1) := dk_42 (dk_at dksX4_addsFountain_0 23 rfl rfl)
theorem dX4_addsFountain_24 : decode cX4_addsFountain 24 = .ok (.getfield 7, 3) := dk_180 0 7 (dk_at dksX4_addsFountain_1 0 rfl rfl)
theorem dX4_addsFountain_27 : decode cX4_addsFountain 27 = .ok (.iconst 1, 1) := dk_4 (dk_at dksX4_addsFountain_1 3 rfl rfl)
theorem dX4_addsFountain_28 : decode cX4_addsFountain 28 = .ok (.iaload, 1) := dk_46 (dk_at dksX4_addsFountain_1 4 rfl rfl)
theorem dX4_addsFountain_29 : decode cX4_addsFountain 29 = .ok (.istore 4, 2) := dk_54 4 (dk_at dksX4_addsFountain_1 5 rfl rfl)
theorem dX4_addsFountain_31 : decode cX4_addsFountain 31 = .ok (.iload 4, 2) := dk_21 4 (dk_at dksX4_addsFountain_1 7 rfl rfl)
theorem dX4_addsFountain_33 : decode cX4_addsFountain 33 = .ok (.iconst 4, 1) := dk_7 (dk_at dksX4_addsFountain_1 9 rfl rfl)
theorem dX4_addsFountain_34 : decode cX4_addsFountain 34 = .ok (.if_icmp .ne 10, 3) := dk_160 0 10 (dk_at dksX4_addsFountain_1 10 rfl rfl)
theorem dX4_addsFountain_37 : decode cX4_addsFountain 37 = .ok (.aload_n 0, 1) := dk_42 (dk_at dksX4_addsFountain_1 13 rfl rfl)
theorem dX4_addsFountain_38 : decode cX4_addsFountain 38 = .ok (.iconst 2, 1) := dk_5 (dk_at dksX4_addsFountain_1 14 rfl rfl)
theorem dX4_addsFountain_39 : decode cX4_addsFountain 39 = .ok (.iconst 4, 1) := dk_7 (dk_at dksX4_addsFountain_1 15 rfl rfl)
theorem dX4_addsFountain_40 : decode cX4_addsFountain 40 = .ok (.invokevirtual 93, 3) := dk_182 0 93 (dk_at dksX4_addsFountain_1 16 rfl rfl)
theorem dX4_addsFountain_43 : decode cX4_addsFountain 43 = .ok (.ireturn, 1) := dk_172 (dk_at dksX4_addsFountain_1 19 rfl rfl)
theorem dX4_addsFountain_44 : decode cX4_addsFountain 44 = .ok (.aload_n 0, 1) := dk_42 (dk_at dksX4_addsFountain_1 20 rfl rfl)
theorem dX4_addsFountain_45 : decode cX4_addsFountain 45 = .ok (.iload_n 1, 1) := dk_27 (dk_at dksX4_addsFountain_1 21 rfl rfl)
theorem dX4_addsFountain_46 : decode cX4_addsFountain 46 = .ok (.iload_n 2, 1) := dk_28 (dk_at dksX4_addsFountain_1 22 rfl rfl)
theorem dX4_addsFountain_47 : decode cX4_addsFountain 47 = .ok (.invokevirtual 96, 3) := dk_182 0 96 (dk_at dksX4_addsFountain_2 0 rfl rfl)
theorem dX4_addsFountain_50 : decode cX4_addsFountain 50 = .ok (.iconst (-1), 1) := dk_2 (dk_at dksX4_addsFountain_2 3 rfl rfl)
theorem dX4_addsFountain_51 : decode cX4_addsFountain 51 = .ok (.if_icmp .eq 15, 3) := dk_159 0 15 (dk_at dksX4_addsFountain_2 4 rfl rfl)
theorem dX4_addsFountain_54 : decode cX4_addsFountain 54 = .ok (.aload_n 0, 1) := dk_42 (dk_at dksX4_addsFountain_2 7 rfl rfl)
theorem dX4_addsFountain_55 : decode cX4_addsFountain 55 = .ok (.iconst 4, 1) := dk_7 (dk_at dksX4_addsFountain_2 8 rfl rfl)
theorem dX4_addsFountain_56 : decode cX4_addsFountain 56 = .ok (.aload_n 0, 1) := dk_42 (dk_at dksX4_addsFountain_2 9 rfl rfl)
theorem dX4_addsFountain_57 : decode cX4_addsFountain 57 = .ok (.iload_n 1, 1) := dk_27 (dk_at dksX4_addsFountain_2 10 rfl rfl)
theorem dX4_addsFountain_58 : decode cX4_addsFountain 58 = .ok (.iload_n 2, 1) := dk_28 (dk_at dksX4_addsFountain_2 11 rfl rfl)
theorem dX4_addsFountain_59 : decode cX4_addsFountain 59 = .ok (.invokevirtual 96, 3) := dk_182 0 96 (dk_at dksX4_addsFountain_2 12 rfl rfl)
theorem dX4_addsFountain_62 : decode cX4_addsFountain 62 = .ok (.invokevirtual 93, 3) := dk_182 0 93 (dk_at dksX4_addsFountain_2 15 rfl rfl)
theorem dX4_addsFountain_65 : decode cX4_addsFountain 65 = .ok (.ireturn, 1) := dk_172 (dk_at dksX4_addsFountain_2 18 rfl rfl)
theorem dX4_addsFountain_66 : decode cX4_addsFountain 66 = .ok (.aload_n 0, 1) := dk_42 (dk_at dksX4_addsFountain_2 19 rfl rfl)
theorem dX4_addsFountain_67 : decode cX4_addsFountain 67 = .ok (.getfield 7, 3) := dk_180 0 7 (dk_at dksX4_addsFountain_2 20 rfl rfl)
theorem dX4_addsFountain_70 : decode cX4_addsFountain 70 = .ok (.bipush 70, 2) := dk_16 70 (dk_at dksX4_addsFountain_3 0 rfl rfl)
theorem dX4_addsFountain_72 : decode cX4_addsFountain 72 = .ok (.iconst 4, 1) := dk_7 (dk_at dksX4_addsFountain_3 2 rfl rfl)
theorem dX4_addsFountain_73 : decode cX4_addsFountain 73 = .ok (.iload 4, 2) := dk_21 4 (dk_at dksX4_addsFountain_3 3 rfl rfl)
theorem dX4_addsFountain_75 : decode cX4_addsFountain 75 = .ok (.imul, 1) := dk_104 (dk_at dksX4_addsFountain_3 5 rfl rfl)
theorem dX4_addsFountain_76 : decode cX4_addsFountain 76 = .ok (.iadd, 1) := dk_96 (dk_at dksX4_addsFountain_3 6 rfl rfl)
theorem dX4_addsFountain_77 : decode cX4_addsFountain 77 = .ok (.iconst 0, 1) := dk_3 (dk_at dksX4_addsFountain_3 7 rfl rfl)
theorem dX4_addsFountain_78 : decode cX4_addsFountain 78 = .ok (.iadd, 1) := dk_96 (dk_at dksX4_addsFountain_3 8 rfl rfl)
theorem dX4_addsFountain_79 : decode cX4_addsFountain 79 = .ok (.iload_n 1, 1) := dk_27 (dk_at dksX4_addsFountain_3 9 rfl rfl)
theorem dX4_addsFountain_80 : decode cX4_addsFountain 80 = .ok (.iastore, 1) := dk_79 (dk_at dksX4_addsFountain_3 10 rfl rfl)
theorem dX4_addsFountain_81 : decode cX4_addsFountain 81 = .ok (.aload_n 0, 1) := dk_42 (dk_at dksX4_addsFountain_3 11 rfl rfl)
theorem dX4_addsFountain_82 : decode cX4_addsFountain 82 = .ok (.getfield 7, 3) := dk_180 0 7 (dk_at dksX4_addsFountain_3 12 rfl rfl)
theorem dX4_addsFountain_85 : decode cX4_addsFountain 85 = .ok (.bipush 70, 2) := dk_16 70 (dk_at dksX4_addsFountain_3 15 rfl rfl)
theorem dX4_addsFountain_87 : decode cX4_addsFountain 87 = .ok (.iconst 4, 1) := dk_7 (dk_at dksX4_addsFountain_3 17 rfl rfl)
theorem dX4_addsFountain_88 : decode cX4_addsFountain 88 = .ok (.iload 4, 2) := dk_21 4 (dk_at dksX4_addsFountain_3 18 rfl rfl)
theorem dX4_addsFountain_90 : decode cX4_addsFountain 90 = .ok (.imul, 1) := dk_104 (dk_at dksX4_addsFountain_3 20 rfl rfl)
theorem dX4_addsFountain_91 : decode cX4_addsFountain 91 = .ok (.iadd, 1) := dk_96 (dk_at dksX4_addsFountain_3 21 rfl rfl)
theorem dX4_addsFountain_92 : decode cX4_addsFountain 92 = .ok (.iconst 1, 1) := dk_4 (dk_at dksX4_addsFountain_3 22 rfl rfl)
theorem dX4_addsFountain_93 : decode cX4_addsFountain 93 = .ok (.iadd, 1) := dk_96 (dk_at dksX4_addsFountain_3 23 rfl rfl)
theorem dX4_addsFountain_94 : decode cX4_addsFountain 94 = .ok (.iload_n 2, 1) := dk_28 (dk_at dksX4_addsFountain_4 0 rfl rfl)
theorem dX4_addsFountain_95 : decode cX4_addsFountain 95 = .ok (.iastore, 1) := dk_79 (dk_at dksX4_addsFountain_4 1 rfl rfl)
theorem dX4_addsFountain_96 : decode cX4_addsFountain 96 = .ok (.aload_n 0, 1) := dk_42 (dk_at dksX4_addsFountain_4 2 rfl rfl)
theorem dX4_addsFountain_97 : decode cX4_addsFountain 97 = .ok (.getfield 7, 3) := dk_180 0 7 (dk_at dksX4_addsFountain_4 3 rfl rfl)
theorem dX4_addsFountain_100 : decode cX4_addsFountain 100 = .ok (.bipush 70, 2) := dk_16 70 (dk_at dksX4_addsFountain_4 6 rfl rfl)
theorem dX4_addsFountain_102 : decode cX4_addsFountain 102 = .ok (.iconst 4, 1) := dk_7 (dk_at dksX4_addsFountain_4 8 rfl rfl)
theorem dX4_addsFountain_103 : decode cX4_addsFountain 103 = .ok (.iload 4, 2) := dk_21 4 (dk_at dksX4_addsFountain_4 9 rfl rfl)
theorem dX4_addsFountain_105 : decode cX4_addsFountain 105 = .ok (.imul, 1) := dk_104 (dk_at dksX4_addsFountain_4 11 rfl rfl)
theorem dX4_addsFountain_106 : decode cX4_addsFountain 106 = .ok (.iadd, 1) := dk_96 (dk_at dksX4_addsFountain_4 12 rfl rfl)
theorem dX4_addsFountain_107 : decode cX4_addsFountain 107 = .ok (.iconst 2, 1) := dk_5 (dk_at dksX4_addsFountain_4 13 rfl rfl)
theorem dX4_addsFountain_108 : decode cX4_addsFountain 108 = .ok (.iadd, 1) := dk_96 (dk_at dksX4_addsFountain_4 14 rfl rfl)
theorem dX4_addsFountain_109 : decode cX4_addsFountain 109 = .ok (.iload_n 3, 1) := dk_29 (dk_at dksX4_addsFountain_4 15 rfl rfl)
theorem dX4_addsFountain_110 : decode cX4_addsFountain 110 = .ok (.iastore, 1) := dk_79 (dk_at dksX4_addsFountain_4 16 rfl rfl)
theorem dX4_addsFountain_111 : decode cX4_addsFountain 111 = .ok (.aload_n 0, 1) := dk_42 (dk_at dksX4_addsFountain_4 17 rfl rfl)
theorem dX4_addsFountain_112 : decode cX4_addsFountain 112 = .ok (.getfield 7, 3) := dk_180 0 7 (dk_at dksX4_addsFountain_4 18 rfl rfl)
theorem dX4_addsFountain_115 : decode cX4_addsFountain 115 = .ok (.bipush 70, 2) := dk_16 70 (dk_at dksX4_addsFountain_4 21 rfl rfl)
theorem dX4_addsFountain_117 : decode cX4_addsFountain 117 = .ok (.iconst 4, 1) := dk_7 (dk_at dksX4_addsFountain_4 23 rfl rfl)
theorem dX4_addsFountain_118 : decode cX4_addsFountain 118 = .ok (.iload 4, 2) := dk_21 4 (dk_at dksX4_addsFountain_5 0 rfl rfl)
theorem dX4_addsFountain_120 : decode cX4_addsFountain 120 = .ok (.imul, 1) := dk_104 (dk_at dksX4_addsFountain_5 2 rfl rfl)
theorem dX4_addsFountain_121 : decode cX4_addsFountain 121 = .ok (.iadd, 1) := dk_96 (dk_at dksX4_addsFountain_5 3 rfl rfl)
theorem dX4_addsFountain_122 : decode cX4_addsFountain 122 = .ok (.iconst 3, 1) := dk_6 (dk_at dksX4_addsFountain_5 4 rfl rfl)
theorem dX4_addsFountain_123 : decode cX4_addsFountain 123 = .ok (.iadd, 1) := dk_96 (dk_at dksX4_addsFountain_5 5 rfl rfl)
theorem dX4_addsFountain_124 : decode cX4_addsFountain 124 = .ok (.iconst 1, 1) := dk_4 (dk_at dksX4_addsFountain_5 6 rfl rfl)
theorem dX4_addsFountain_125 : decode cX4_addsFountain 125 = .ok (.iastore, 1) := dk_79 (dk_at dksX4_addsFountain_5 7 rfl rfl)
theorem dX4_addsFountain_126 : decode cX4_addsFountain 126 = .ok (.aload_n 0, 1) := dk_42 (dk_at dksX4_addsFountain_5 8 rfl rfl)
theorem dX4_addsFountain_127 : decode cX4_addsFountain 127 = .ok (.getfield 7, 3) := dk_180 0 7 (dk_at dksX4_addsFountain_5 9 rfl rfl)
theorem dX4_addsFountain_130 : decode cX4_addsFountain 130 = .ok (.iconst 1, 1) := dk_4 (dk_at dksX4_addsFountain_5 12 rfl rfl)
theorem dX4_addsFountain_131 : decode cX4_addsFountain 131 = .ok (.iload 4, 2) := dk_21 4 (dk_at dksX4_addsFountain_5 13 rfl rfl)
theorem dX4_addsFountain_133 : decode cX4_addsFountain 133 = .ok (.iconst 1, 1) := dk_4 (dk_at dksX4_addsFountain_5 15 rfl rfl)
theorem dX4_addsFountain_134 : decode cX4_addsFountain 134 = .ok (.iadd, 1) := dk_96 (dk_at dksX4_addsFountain_5 16 rfl rfl)
theorem dX4_addsFountain_135 : decode cX4_addsFountain 135 = .ok (.iastore, 1) := dk_79 (dk_at dksX4_addsFountain_5 17 rfl rfl)
theorem dX4_addsFountain_136 : decode cX4_addsFountain 136 = .ok (.aload_n 0, 1) := dk_42 (dk_at dksX4_addsFountain_5 18 rfl rfl)
theorem dX4_addsFountain_137 : decode cX4_addsFountain 137 = .ok (.iload 4, 2) := dk_21 4 (dk_at dksX4_addsFountain_5 19 rfl rfl)
theorem dX4_addsFountain_139 : decode cX4_addsFountain 139 = .ok (.invokevirtual 99, 3) := dk_182 0 99 (dk_at dksX4_addsFountain_5 21 rfl rfl)
theorem dX4_addsFountain_142 : decode cX4_addsFountain 142 = .ok (.ireturn, 1) := dk_172 (dk_at dksX4_addsFountain_6 0 rfl rfl)
abbrev cX4_setLoudness : ByteArray := prog_20_method_43_code
def yX4_setLoudness : MethodName := ⟨RX4, "setLoudness", "(II)I"⟩
def dkwX4_setLoudness_0 : List UInt8 := [42, 182, 0, 134, 42, 42, 27, 28, 182, 0, 150, 4, 182, 0, 141, 172]
abbrev dktX4_setLoudness_0 : List UInt8 := dkwX4_setLoudness_0 ++ []
theorem dksX4_setLoudness_0 : cX4_setLoudness.data.toList.drop 0 = dktX4_setLoudness_0 := by decide +kernel
theorem dX4_setLoudness_0 : decode cX4_setLoudness 0 = .ok (.aload_n 0, 1) := dk_42 (dk_at dksX4_setLoudness_0 0 rfl rfl)
theorem dX4_setLoudness_1 : decode cX4_setLoudness 1 = .ok (.invokevirtual 134, 3) := dk_182 0 134 (dk_at dksX4_setLoudness_0 1 rfl rfl)
theorem dX4_setLoudness_4 : decode cX4_setLoudness 4 = .ok (.aload_n 0, 1) := dk_42 (dk_at dksX4_setLoudness_0 4 rfl rfl)
theorem dX4_setLoudness_5 : decode cX4_setLoudness 5 = .ok (.aload_n 0, 1) := dk_42 (dk_at dksX4_setLoudness_0 5 rfl rfl)
theorem dX4_setLoudness_6 : decode cX4_setLoudness 6 = .ok (.iload_n 1, 1) := dk_27 (dk_at dksX4_setLoudness_0 6 rfl rfl)
theorem dX4_setLoudness_7 : decode cX4_setLoudness 7 = .ok (.iload_n 2, 1) := dk_28 (dk_at dksX4_setLoudness_0 7 rfl rfl)
theorem dX4_setLoudness_8 : decode cX4_setLoudness 8 = .ok (.invokevirtual 150, 3) := dk_182 0 150 (dk_at dksX4_setLoudness_0 8 rfl rfl)
theorem dX4_setLoudness_11 : decode cX4_setLoudness 11 = .ok (.iconst 1, 1) := dk_4 (dk_at dksX4_setLoudness_0 11 rfl rfl)
theorem dX4_setLoudness_12 : decode cX4_setLoudness 12 = .ok (.invokevirtual 141, 3) := dk_182 0 141 (dk_at dksX4_setLoudness_0 12 rfl rfl)
theorem dX4_setLoudness_15 : decode cX4_setLoudness 15 = .ok (.ireturn, 1) := dk_172 (dk_at dksX4_setLoudness_0 15 rfl rfl)
abbrev cX4_louds : ByteArray := prog_20_method_35_code
def yX4_louds : MethodName := ⟨RX4, "louds", "(II)I"⟩
def dkwX4_louds_2 : List UInt8 := [182, 0, 99, 172]
abbrev dktX4_louds_2 : List UInt8 := dkwX4_louds_2 ++ []
def dkwX4_louds_1 : List UInt8 := [27, 5, 182, 0, 77, 62, 42, 180, 0, 7, 16, 70, 7, 27, 104, 96, 5, 96, 28, 79, 42, 29]
abbrev dktX4_louds_1 : List UInt8 := dkwX4_louds_1 ++ dktX4_louds_2
def dkwX4_louds_0 : List UInt8 := [42, 27, 182, 0, 128, 154, 0, 5, 2, 172, 28, 4, 16, 9, 184, 0, 66, 154, 0, 6, 16, 254, 172, 42]
abbrev dktX4_louds_0 : List UInt8 := dkwX4_louds_0 ++ dktX4_louds_1
theorem dksX4_louds_0 : cX4_louds.data.toList.drop 0 = dktX4_louds_0 := by decide +kernel
theorem dksX4_louds_1 : cX4_louds.data.toList.drop 24 = dktX4_louds_1 := dk_seg dksX4_louds_0 24 rfl rfl
theorem dksX4_louds_2 : cX4_louds.data.toList.drop 46 = dktX4_louds_2 := dk_seg dksX4_louds_1 22 rfl rfl
theorem dX4_louds_0 : decode cX4_louds 0 = .ok (.aload_n 0, 1) := dk_42 (dk_at dksX4_louds_0 0 rfl rfl)
theorem dX4_louds_1 : decode cX4_louds 1 = .ok (.iload_n 1, 1) := dk_27 (dk_at dksX4_louds_0 1 rfl rfl)
theorem dX4_louds_2 : decode cX4_louds 2 = .ok (.invokevirtual 128, 3) := dk_182 0 128 (dk_at dksX4_louds_0 2 rfl rfl)
theorem dX4_louds_5 : decode cX4_louds 5 = .ok (.ifCond .ne 5, 3) := dk_154 0 5 (dk_at dksX4_louds_0 5 rfl rfl)
theorem dX4_louds_8 : decode cX4_louds 8 = .ok (.iconst (-1), 1) := dk_2 (dk_at dksX4_louds_0 8 rfl rfl)
theorem dX4_louds_9 : decode cX4_louds 9 = .ok (.ireturn, 1) := dk_172 (dk_at dksX4_louds_0 9 rfl rfl)
theorem dX4_louds_10 : decode cX4_louds 10 = .ok (.iload_n 2, 1) := dk_28 (dk_at dksX4_louds_0 10 rfl rfl)
theorem dX4_louds_11 : decode cX4_louds 11 = .ok (.iconst 1, 1) := dk_4 (dk_at dksX4_louds_0 11 rfl rfl)
theorem dX4_louds_12 : decode cX4_louds 12 = .ok (.bipush 9, 2) := dk_16 9 (dk_at dksX4_louds_0 12 rfl rfl)
theorem dX4_louds_14 : decode cX4_louds 14 = .ok (.invokestatic 66, 3) := dk_184 0 66 (dk_at dksX4_louds_0 14 rfl rfl)
theorem dX4_louds_17 : decode cX4_louds 17 = .ok (.ifCond .ne 6, 3) := dk_154 0 6 (dk_at dksX4_louds_0 17 rfl rfl)
theorem dX4_louds_20 : decode cX4_louds 20 = .ok (.bipush (-2), 2) := dk_16 254 (dk_at dksX4_louds_0 20 rfl rfl)
theorem dX4_louds_22 : decode cX4_louds 22 = .ok (.ireturn, 1) := dk_172 (dk_at dksX4_louds_0 22 rfl rfl)
theorem dX4_louds_23 : decode cX4_louds 23 = .ok (.aload_n 0, 1) := dk_42 (dk_at dksX4_louds_0 23 rfl rfl)
theorem dX4_louds_24 : decode cX4_louds 24 = .ok (.iload_n 1, 1) := dk_27 (dk_at dksX4_louds_1 0 rfl rfl)
theorem dX4_louds_25 : decode cX4_louds 25 = .ok (.iconst 2, 1) := dk_5 (dk_at dksX4_louds_1 1 rfl rfl)
theorem dX4_louds_26 : decode cX4_louds 26 = .ok (.invokevirtual 77, 3) := dk_182 0 77 (dk_at dksX4_louds_1 2 rfl rfl)
theorem dX4_louds_29 : decode cX4_louds 29 = .ok (.istore_n 3, 1) := dk_62 (dk_at dksX4_louds_1 5 rfl rfl)
theorem dX4_louds_30 : decode cX4_louds 30 = .ok (.aload_n 0, 1) := dk_42 (dk_at dksX4_louds_1 6 rfl rfl)
theorem dX4_louds_31 : decode cX4_louds 31 = .ok (.getfield 7, 3) := dk_180 0 7 (dk_at dksX4_louds_1 7 rfl rfl)
theorem dX4_louds_34 : decode cX4_louds 34 = .ok (.bipush 70, 2) := dk_16 70 (dk_at dksX4_louds_1 10 rfl rfl)
theorem dX4_louds_36 : decode cX4_louds 36 = .ok (.iconst 4, 1) := dk_7 (dk_at dksX4_louds_1 12 rfl rfl)
theorem dX4_louds_37 : decode cX4_louds 37 = .ok (.iload_n 1, 1) := dk_27 (dk_at dksX4_louds_1 13 rfl rfl)
theorem dX4_louds_38 : decode cX4_louds 38 = .ok (.imul, 1) := dk_104 (dk_at dksX4_louds_1 14 rfl rfl)
theorem dX4_louds_39 : decode cX4_louds 39 = .ok (.iadd, 1) := dk_96 (dk_at dksX4_louds_1 15 rfl rfl)
theorem dX4_louds_40 : decode cX4_louds 40 = .ok (.iconst 2, 1) := dk_5 (dk_at dksX4_louds_1 16 rfl rfl)
theorem dX4_louds_41 : decode cX4_louds 41 = .ok (.iadd, 1) := dk_96 (dk_at dksX4_louds_1 17 rfl rfl)
theorem dX4_louds_42 : decode cX4_louds 42 = .ok (.iload_n 2, 1) := dk_28 (dk_at dksX4_louds_1 18 rfl rfl)
theorem dX4_louds_43 : decode cX4_louds 43 = .ok (.iastore, 1) := dk_79 (dk_at dksX4_louds_1 19 rfl rfl)
theorem dX4_louds_44 : decode cX4_louds 44 = .ok (.aload_n 0, 1) := dk_42 (dk_at dksX4_louds_1 20 rfl rfl)
theorem dX4_louds_45 : decode cX4_louds 45 = .ok (.iload_n 3, 1) := dk_29 (dk_at dksX4_louds_1 21 rfl rfl)
theorem dX4_louds_46 : decode cX4_louds 46 = .ok (.invokevirtual 99, 3) := dk_182 0 99 (dk_at dksX4_louds_2 0 rfl rfl)
theorem dX4_louds_49 : decode cX4_louds 49 = .ok (.ireturn, 1) := dk_172 (dk_at dksX4_louds_2 3 rfl rfl)
abbrev cX4_isFountain : ByteArray := prog_20_method_12_code
def yX4_isFountain : MethodName := ⟨RX4, "isFountain", "(I)Z"⟩
def dkwX4_isFountain_0 : List UInt8 := [27, 3, 42, 180, 0, 7, 4, 46, 4, 100, 184, 0, 66, 172]
abbrev dktX4_isFountain_0 : List UInt8 := dkwX4_isFountain_0 ++ []
theorem dksX4_isFountain_0 : cX4_isFountain.data.toList.drop 0 = dktX4_isFountain_0 := by decide +kernel
theorem dX4_isFountain_0 : decode cX4_isFountain 0 = .ok (.iload_n 1, 1) := dk_27 (dk_at dksX4_isFountain_0 0 rfl rfl)
theorem dX4_isFountain_1 : decode cX4_isFountain 1 = .ok (.iconst 0, 1) := dk_3 (dk_at dksX4_isFountain_0 1 rfl rfl)
theorem dX4_isFountain_2 : decode cX4_isFountain 2 = .ok (.aload_n 0, 1) := dk_42 (dk_at dksX4_isFountain_0 2 rfl rfl)
theorem dX4_isFountain_3 : decode cX4_isFountain 3 = .ok (.getfield 7, 3) := dk_180 0 7 (dk_at dksX4_isFountain_0 3 rfl rfl)
theorem dX4_isFountain_6 : decode cX4_isFountain 6 = .ok (.iconst 1, 1) := dk_4 (dk_at dksX4_isFountain_0 6 rfl rfl)
theorem dX4_isFountain_7 : decode cX4_isFountain 7 = .ok (.iaload, 1) := dk_46 (dk_at dksX4_isFountain_0 7 rfl rfl)
theorem dX4_isFountain_8 : decode cX4_isFountain 8 = .ok (.iconst 1, 1) := dk_4 (dk_at dksX4_isFountain_0 8 rfl rfl)
theorem dX4_isFountain_9 : decode cX4_isFountain 9 = .ok (.isub, 1) := dk_100 (dk_at dksX4_isFountain_0 9 rfl rfl)
theorem dX4_isFountain_10 : decode cX4_isFountain 10 = .ok (.invokestatic 66, 3) := dk_184 0 66 (dk_at dksX4_isFountain_0 10 rfl rfl)
theorem dX4_isFountain_13 : decode cX4_isFountain 13 = .ok (.ireturn, 1) := dk_172 (dk_at dksX4_isFountain_0 13 rfl rfl)
abbrev cX4_switchFountain : ByteArray := prog_20_method_44_code
def yX4_switchFountain : MethodName := ⟨RX4, "switchFountain", "(I)Z"⟩
def dkwX4_switchFountain_0 : List UInt8 := [42, 182, 0, 134, 42, 42, 27, 182, 0, 153, 4, 182, 0, 141, 4, 160, 0, 7, 4, 167, 0, 4, 3, 172]
abbrev dktX4_switchFountain_0 : List UInt8 := dkwX4_switchFountain_0 ++ []
theorem dksX4_switchFountain_0 : cX4_switchFountain.data.toList.drop 0 = dktX4_switchFountain_0 := by decide +kernel
theorem dX4_switchFountain_0 : decode cX4_switchFountain 0 = .ok (.aload_n 0, 1) := dk_42 (dk_at dksX4_switchFountain_0 0 rfl rfl)
theorem dX4_switchFountain_1 : decode cX4_switchFountain 1 = .ok (.invokevirtual 134, 3) := dk_182 0 134 (dk_at dksX4_switchFountain_0 1 rfl rfl)
theorem dX4_switchFountain_4 : decode cX4_switchFountain 4 = .ok (.aload_n 0, 1) := dk_42 (dk_at dksX4_switchFountain_0 4 rfl rfl)
theorem dX4_switchFountain_5 : decode cX4_switchFountain 5 = .ok (.aload_n 0, 1) := dk_42 (dk_at dksX4_switchFountain_0 5 rfl rfl)
theorem dX4_switchFountain_6 : decode cX4_switchFountain 6 = .ok (.iload_n 1, 1) := dk_27 (dk_at dksX4_switchFountain_0 6 rfl rfl)
theorem dX4_switchFountain_7 : decode cX4_switchFountain 7 = .ok (.invokevirtual 153, 3) := dk_182 0 153 (dk_at dksX4_switchFountain_0 7 rfl rfl)
theorem dX4_switchFountain_10 : decode cX4_switchFountain 10 = .ok (.iconst 1, 1) := dk_4 (dk_at dksX4_switchFountain_0 10 rfl rfl)
theorem dX4_switchFountain_11 : decode cX4_switchFountain 11 = .ok (.invokevirtual 141, 3) := dk_182 0 141 (dk_at dksX4_switchFountain_0 11 rfl rfl)
theorem dX4_switchFountain_14 : decode cX4_switchFountain 14 = .ok (.iconst 1, 1) := dk_4 (dk_at dksX4_switchFountain_0 14 rfl rfl)
theorem dX4_switchFountain_15 : decode cX4_switchFountain 15 = .ok (.if_icmp .ne 7, 3) := dk_160 0 7 (dk_at dksX4_switchFountain_0 15 rfl rfl)
theorem dX4_switchFountain_18 : decode cX4_switchFountain 18 = .ok (.iconst 1, 1) := dk_4 (dk_at dksX4_switchFountain_0 18 rfl rfl)
theorem dX4_switchFountain_19 : decode cX4_switchFountain 19 = .ok (.goto 4, 3) := dk_167 0 4 (dk_at dksX4_switchFountain_0 19 rfl rfl)
theorem dX4_switchFountain_22 : decode cX4_switchFountain 22 = .ok (.iconst 0, 1) := dk_3 (dk_at dksX4_switchFountain_0 22 rfl rfl)
theorem dX4_switchFountain_23 : decode cX4_switchFountain 23 = .ok (.ireturn, 1) := dk_172 (dk_at dksX4_switchFountain_0 23 rfl rfl)
abbrev cX4_switches : ByteArray := prog_20_method_36_code
def yX4_switches : MethodName := ⟨RX4, "switches", "(I)I"⟩
def dkwX4_switches_1 : List UInt8 := [27, 6, 182, 0, 77, 100, 79, 42, 42, 27, 6, 182, 0, 77, 182, 0, 99, 172]
abbrev dktX4_switches_1 : List UInt8 := dkwX4_switches_1 ++ []
def dkwX4_switches_0 : List UInt8 := [42, 27, 182, 0, 128, 154, 0, 5, 2, 172, 42, 180, 0, 7, 16, 70, 7, 27, 104, 96, 6, 96, 4, 42]
abbrev dktX4_switches_0 : List UInt8 := dkwX4_switches_0 ++ dktX4_switches_1
theorem dksX4_switches_0 : cX4_switches.data.toList.drop 0 = dktX4_switches_0 := by decide +kernel
theorem dksX4_switches_1 : cX4_switches.data.toList.drop 24 = dktX4_switches_1 := dk_seg dksX4_switches_0 24 rfl rfl
theorem dX4_switches_0 : decode cX4_switches 0 = .ok (.aload_n 0, 1) := dk_42 (dk_at dksX4_switches_0 0 rfl rfl)
theorem dX4_switches_1 : decode cX4_switches 1 = .ok (.iload_n 1, 1) := dk_27 (dk_at dksX4_switches_0 1 rfl rfl)
theorem dX4_switches_2 : decode cX4_switches 2 = .ok (.invokevirtual 128, 3) := dk_182 0 128 (dk_at dksX4_switches_0 2 rfl rfl)
theorem dX4_switches_5 : decode cX4_switches 5 = .ok (.ifCond .ne 5, 3) := dk_154 0 5 (dk_at dksX4_switches_0 5 rfl rfl)
theorem dX4_switches_8 : decode cX4_switches 8 = .ok (.iconst (-1), 1) := dk_2 (dk_at dksX4_switches_0 8 rfl rfl)
theorem dX4_switches_9 : decode cX4_switches 9 = .ok (.ireturn, 1) := dk_172 (dk_at dksX4_switches_0 9 rfl rfl)
theorem dX4_switches_10 : decode cX4_switches 10 = .ok (.aload_n 0, 1) := dk_42 (dk_at dksX4_switches_0 10 rfl rfl)
theorem dX4_switches_11 : decode cX4_switches 11 = .ok (.getfield 7, 3) := dk_180 0 7 (dk_at dksX4_switches_0 11 rfl rfl)
theorem dX4_switches_14 : decode cX4_switches 14 = .ok (.bipush 70, 2) := dk_16 70 (dk_at dksX4_switches_0 14 rfl rfl)
theorem dX4_switches_16 : decode cX4_switches 16 = .ok (.iconst 4, 1) := dk_7 (dk_at dksX4_switches_0 16 rfl rfl)
theorem dX4_switches_17 : decode cX4_switches 17 = .ok (.iload_n 1, 1) := dk_27 (dk_at dksX4_switches_0 17 rfl rfl)
theorem dX4_switches_18 : decode cX4_switches 18 = .ok (.imul, 1) := dk_104 (dk_at dksX4_switches_0 18 rfl rfl)
theorem dX4_switches_19 : decode cX4_switches 19 = .ok (.iadd, 1) := dk_96 (dk_at dksX4_switches_0 19 rfl rfl)
theorem dX4_switches_20 : decode cX4_switches 20 = .ok (.iconst 3, 1) := dk_6 (dk_at dksX4_switches_0 20 rfl rfl)
theorem dX4_switches_21 : decode cX4_switches 21 = .ok (.iadd, 1) := dk_96 (dk_at dksX4_switches_0 21 rfl rfl)
theorem dX4_switches_22 : decode cX4_switches 22 = .ok (.iconst 1, 1) := dk_4 (dk_at dksX4_switches_0 22 rfl rfl)
theorem dX4_switches_23 : decode cX4_switches 23 = .ok (.aload_n 0, 1) := dk_42 (dk_at dksX4_switches_0 23 rfl rfl)
theorem dX4_switches_24 : decode cX4_switches 24 = .ok (.iload_n 1, 1) := dk_27 (dk_at dksX4_switches_1 0 rfl rfl)
theorem dX4_switches_25 : decode cX4_switches 25 = .ok (.iconst 3, 1) := dk_6 (dk_at dksX4_switches_1 1 rfl rfl)
theorem dX4_switches_26 : decode cX4_switches 26 = .ok (.invokevirtual 77, 3) := dk_182 0 77 (dk_at dksX4_switches_1 2 rfl rfl)
theorem dX4_switches_29 : decode cX4_switches 29 = .ok (.isub, 1) := dk_100 (dk_at dksX4_switches_1 5 rfl rfl)
theorem dX4_switches_30 : decode cX4_switches 30 = .ok (.iastore, 1) := dk_79 (dk_at dksX4_switches_1 6 rfl rfl)
theorem dX4_switches_31 : decode cX4_switches 31 = .ok (.aload_n 0, 1) := dk_42 (dk_at dksX4_switches_1 7 rfl rfl)
theorem dX4_switches_32 : decode cX4_switches 32 = .ok (.aload_n 0, 1) := dk_42 (dk_at dksX4_switches_1 8 rfl rfl)
theorem dX4_switches_33 : decode cX4_switches 33 = .ok (.iload_n 1, 1) := dk_27 (dk_at dksX4_switches_1 9 rfl rfl)
theorem dX4_switches_34 : decode cX4_switches 34 = .ok (.iconst 3, 1) := dk_6 (dk_at dksX4_switches_1 10 rfl rfl)
theorem dX4_switches_35 : decode cX4_switches 35 = .ok (.invokevirtual 77, 3) := dk_182 0 77 (dk_at dksX4_switches_1 11 rfl rfl)
theorem dX4_switches_38 : decode cX4_switches 38 = .ok (.invokevirtual 99, 3) := dk_182 0 99 (dk_at dksX4_switches_1 14 rfl rfl)
theorem dX4_switches_41 : decode cX4_switches 41 = .ok (.ireturn, 1) := dk_172 (dk_at dksX4_switches_1 17 rfl rfl)
abbrev cX4_setNoiseLimit : ByteArray := prog_20_method_45_code
def yX4_setNoiseLimit : MethodName := ⟨RX4, "setNoiseLimit", "(I)I"⟩
def dkwX4_setNoiseLimit_0 : List UInt8 := [42, 182, 0, 134, 42, 42, 27, 182, 0, 156, 4, 182, 0, 141, 172]
abbrev dktX4_setNoiseLimit_0 : List UInt8 := dkwX4_setNoiseLimit_0 ++ []
theorem dksX4_setNoiseLimit_0 : cX4_setNoiseLimit.data.toList.drop 0 = dktX4_setNoiseLimit_0 := by decide +kernel
theorem dX4_setNoiseLimit_0 : decode cX4_setNoiseLimit 0 = .ok (.aload_n 0, 1) := dk_42 (dk_at dksX4_setNoiseLimit_0 0 rfl rfl)
theorem dX4_setNoiseLimit_1 : decode cX4_setNoiseLimit 1 = .ok (.invokevirtual 134, 3) := dk_182 0 134 (dk_at dksX4_setNoiseLimit_0 1 rfl rfl)
theorem dX4_setNoiseLimit_4 : decode cX4_setNoiseLimit 4 = .ok (.aload_n 0, 1) := dk_42 (dk_at dksX4_setNoiseLimit_0 4 rfl rfl)
theorem dX4_setNoiseLimit_5 : decode cX4_setNoiseLimit 5 = .ok (.aload_n 0, 1) := dk_42 (dk_at dksX4_setNoiseLimit_0 5 rfl rfl)
theorem dX4_setNoiseLimit_6 : decode cX4_setNoiseLimit 6 = .ok (.iload_n 1, 1) := dk_27 (dk_at dksX4_setNoiseLimit_0 6 rfl rfl)
theorem dX4_setNoiseLimit_7 : decode cX4_setNoiseLimit 7 = .ok (.invokevirtual 156, 3) := dk_182 0 156 (dk_at dksX4_setNoiseLimit_0 7 rfl rfl)
theorem dX4_setNoiseLimit_10 : decode cX4_setNoiseLimit 10 = .ok (.iconst 1, 1) := dk_4 (dk_at dksX4_setNoiseLimit_0 10 rfl rfl)
theorem dX4_setNoiseLimit_11 : decode cX4_setNoiseLimit 11 = .ok (.invokevirtual 141, 3) := dk_182 0 141 (dk_at dksX4_setNoiseLimit_0 11 rfl rfl)
theorem dX4_setNoiseLimit_14 : decode cX4_setNoiseLimit 14 = .ok (.ireturn, 1) := dk_172 (dk_at dksX4_setNoiseLimit_0 14 rfl rfl)
abbrev cX4_limits : ByteArray := prog_20_method_37_code
def yX4_limits : MethodName := ⟨RX4, "limits", "(I)I"⟩
def dkwX4_limits_1 : List UInt8 := [27, 79, 42, 28, 182, 0, 99, 172]
abbrev dktX4_limits_1 : List UInt8 := dkwX4_limits_1 ++ []
def dkwX4_limits_0 : List UInt8 := [27, 3, 16, 20, 184, 0, 66, 154, 0, 5, 2, 172, 42, 180, 0, 7, 6, 46, 61, 42, 180, 0, 7, 6]
abbrev dktX4_limits_0 : List UInt8 := dkwX4_limits_0 ++ dktX4_limits_1
theorem dksX4_limits_0 : cX4_limits.data.toList.drop 0 = dktX4_limits_0 := by decide +kernel
theorem dksX4_limits_1 : cX4_limits.data.toList.drop 24 = dktX4_limits_1 := dk_seg dksX4_limits_0 24 rfl rfl
theorem dX4_limits_0 : decode cX4_limits 0 = .ok (.iload_n 1, 1) := dk_27 (dk_at dksX4_limits_0 0 rfl rfl)
theorem dX4_limits_1 : decode cX4_limits 1 = .ok (.iconst 0, 1) := dk_3 (dk_at dksX4_limits_0 1 rfl rfl)
theorem dX4_limits_2 : decode cX4_limits 2 = .ok (.bipush 20, 2) := dk_16 20 (dk_at dksX4_limits_0 2 rfl rfl)
theorem dX4_limits_4 : decode cX4_limits 4 = .ok (.invokestatic 66, 3) := dk_184 0 66 (dk_at dksX4_limits_0 4 rfl rfl)
theorem dX4_limits_7 : decode cX4_limits 7 = .ok (.ifCond .ne 5, 3) := dk_154 0 5 (dk_at dksX4_limits_0 7 rfl rfl)
theorem dX4_limits_10 : decode cX4_limits 10 = .ok (.iconst (-1), 1) := dk_2 (dk_at dksX4_limits_0 10 rfl rfl)
theorem dX4_limits_11 : decode cX4_limits 11 = .ok (.ireturn, 1) := dk_172 (dk_at dksX4_limits_0 11 rfl rfl)
theorem dX4_limits_12 : decode cX4_limits 12 = .ok (.aload_n 0, 1) := dk_42 (dk_at dksX4_limits_0 12 rfl rfl)
theorem dX4_limits_13 : decode cX4_limits 13 = .ok (.getfield 7, 3) := dk_180 0 7 (dk_at dksX4_limits_0 13 rfl rfl)
theorem dX4_limits_16 : decode cX4_limits 16 = .ok (.iconst 3, 1) := dk_6 (dk_at dksX4_limits_0 16 rfl rfl)
theorem dX4_limits_17 : decode cX4_limits 17 = .ok (.iaload, 1) := dk_46 (dk_at dksX4_limits_0 17 rfl rfl)
theorem dX4_limits_18 : decode cX4_limits 18 = .ok (.istore_n 2, 1) := dk_61 (dk_at dksX4_limits_0 18 rfl rfl)
theorem dX4_limits_19 : decode cX4_limits 19 = .ok (.aload_n 0, 1) := dk_42 (dk_at dksX4_limits_0 19 rfl rfl)
theorem dX4_limits_20 : decode cX4_limits 20 = .ok (.getfield 7, 3) := dk_180 0 7 (dk_at dksX4_limits_0 20 rfl rfl)
theorem dX4_limits_23 : decode cX4_limits 23 = .ok (.iconst 3, 1) := dk_6 (dk_at dksX4_limits_0 23 rfl rfl)
theorem dX4_limits_24 : decode cX4_limits 24 = .ok (.iload_n 1, 1) := dk_27 (dk_at dksX4_limits_1 0 rfl rfl)
theorem dX4_limits_25 : decode cX4_limits 25 = .ok (.iastore, 1) := dk_79 (dk_at dksX4_limits_1 1 rfl rfl)
theorem dX4_limits_26 : decode cX4_limits 26 = .ok (.aload_n 0, 1) := dk_42 (dk_at dksX4_limits_1 2 rfl rfl)
theorem dX4_limits_27 : decode cX4_limits 27 = .ok (.iload_n 2, 1) := dk_28 (dk_at dksX4_limits_1 3 rfl rfl)
theorem dX4_limits_28 : decode cX4_limits 28 = .ok (.invokevirtual 99, 3) := dk_182 0 99 (dk_at dksX4_limits_1 4 rfl rfl)
theorem dX4_limits_31 : decode cX4_limits 31 = .ok (.ireturn, 1) := dk_172 (dk_at dksX4_limits_1 7 rfl rfl)
abbrev cX4_benchCount : ByteArray := prog_20_method_46_code
def yX4_benchCount : MethodName := ⟨RX4, "benchCount", "()I"⟩
def dkwX4_benchCount_0 : List UInt8 := [42, 3, 181, 0, 38, 42, 180, 0, 7, 3, 46, 172]
abbrev dktX4_benchCount_0 : List UInt8 := dkwX4_benchCount_0 ++ []
theorem dksX4_benchCount_0 : cX4_benchCount.data.toList.drop 0 = dktX4_benchCount_0 := by decide +kernel
theorem dX4_benchCount_0 : decode cX4_benchCount 0 = .ok (.aload_n 0, 1) := dk_42 (dk_at dksX4_benchCount_0 0 rfl rfl)
theorem dX4_benchCount_1 : decode cX4_benchCount 1 = .ok (.iconst 0, 1) := dk_3 (dk_at dksX4_benchCount_0 1 rfl rfl)
theorem dX4_benchCount_2 : decode cX4_benchCount 2 = .ok (.putfield 38, 3) := dk_181 0 38 (dk_at dksX4_benchCount_0 2 rfl rfl)
theorem dX4_benchCount_5 : decode cX4_benchCount 5 = .ok (.aload_n 0, 1) := dk_42 (dk_at dksX4_benchCount_0 5 rfl rfl)
theorem dX4_benchCount_6 : decode cX4_benchCount 6 = .ok (.getfield 7, 3) := dk_180 0 7 (dk_at dksX4_benchCount_0 6 rfl rfl)
theorem dX4_benchCount_9 : decode cX4_benchCount 9 = .ok (.iconst 0, 1) := dk_3 (dk_at dksX4_benchCount_0 9 rfl rfl)
theorem dX4_benchCount_10 : decode cX4_benchCount 10 = .ok (.iaload, 1) := dk_46 (dk_at dksX4_benchCount_0 10 rfl rfl)
theorem dX4_benchCount_11 : decode cX4_benchCount 11 = .ok (.ireturn, 1) := dk_172 (dk_at dksX4_benchCount_0 11 rfl rfl)
abbrev cX4_rowOf : ByteArray := prog_20_method_48_code
def yX4_rowOf : MethodName := ⟨RX4, "rowOf", "(I)I"⟩
def dkwX4_rowOf_0 : List UInt8 := [42, 27, 3, 182, 0, 159, 172]
abbrev dktX4_rowOf_0 : List UInt8 := dkwX4_rowOf_0 ++ []
theorem dksX4_rowOf_0 : cX4_rowOf.data.toList.drop 0 = dktX4_rowOf_0 := by decide +kernel
theorem dX4_rowOf_0 : decode cX4_rowOf 0 = .ok (.aload_n 0, 1) := dk_42 (dk_at dksX4_rowOf_0 0 rfl rfl)
theorem dX4_rowOf_1 : decode cX4_rowOf 1 = .ok (.iload_n 1, 1) := dk_27 (dk_at dksX4_rowOf_0 1 rfl rfl)
theorem dX4_rowOf_2 : decode cX4_rowOf 2 = .ok (.iconst 0, 1) := dk_3 (dk_at dksX4_rowOf_0 2 rfl rfl)
theorem dX4_rowOf_3 : decode cX4_rowOf 3 = .ok (.invokevirtual 159, 3) := dk_182 0 159 (dk_at dksX4_rowOf_0 3 rfl rfl)
theorem dX4_rowOf_6 : decode cX4_rowOf 6 = .ok (.ireturn, 1) := dk_172 (dk_at dksX4_rowOf_0 6 rfl rfl)
abbrev cX4_askedBench : ByteArray := prog_20_method_47_code
def yX4_askedBench : MethodName := ⟨RX4, "askedBench", "(II)I"⟩
def dkwX4_askedBench_1 : List UInt8 := [3, 167, 0, 9, 42, 27, 28, 182, 0, 70, 172]
abbrev dktX4_askedBench_1 : List UInt8 := dkwX4_askedBench_1 ++ []
def dkwX4_askedBench_0 : List UInt8 := [42, 42, 27, 182, 0, 118, 153, 0, 7, 3, 167, 0, 4, 4, 181, 0, 38, 42, 180, 0, 38, 158, 0, 7]
abbrev dktX4_askedBench_0 : List UInt8 := dkwX4_askedBench_0 ++ dktX4_askedBench_1
theorem dksX4_askedBench_0 : cX4_askedBench.data.toList.drop 0 = dktX4_askedBench_0 := by decide +kernel
theorem dksX4_askedBench_1 : cX4_askedBench.data.toList.drop 24 = dktX4_askedBench_1 := dk_seg dksX4_askedBench_0 24 rfl rfl
theorem dX4_askedBench_0 : decode cX4_askedBench 0 = .ok (.aload_n 0, 1) := dk_42 (dk_at dksX4_askedBench_0 0 rfl rfl)
theorem dX4_askedBench_1 : decode cX4_askedBench 1 = .ok (.aload_n 0, 1) := dk_42 (dk_at dksX4_askedBench_0 1 rfl rfl)
theorem dX4_askedBench_2 : decode cX4_askedBench 2 = .ok (.iload_n 1, 1) := dk_27 (dk_at dksX4_askedBench_0 2 rfl rfl)
theorem dX4_askedBench_3 : decode cX4_askedBench 3 = .ok (.invokevirtual 118, 3) := dk_182 0 118 (dk_at dksX4_askedBench_0 3 rfl rfl)
theorem dX4_askedBench_6 : decode cX4_askedBench 6 = .ok (.ifCond .eq 7, 3) := dk_153 0 7 (dk_at dksX4_askedBench_0 6 rfl rfl)
theorem dX4_askedBench_9 : decode cX4_askedBench 9 = .ok (.iconst 0, 1) := dk_3 (dk_at dksX4_askedBench_0 9 rfl rfl)
theorem dX4_askedBench_10 : decode cX4_askedBench 10 = .ok (.goto 4, 3) := dk_167 0 4 (dk_at dksX4_askedBench_0 10 rfl rfl)
theorem dX4_askedBench_13 : decode cX4_askedBench 13 = .ok (.iconst 1, 1) := dk_4 (dk_at dksX4_askedBench_0 13 rfl rfl)
theorem dX4_askedBench_14 : decode cX4_askedBench 14 = .ok (.putfield 38, 3) := dk_181 0 38 (dk_at dksX4_askedBench_0 14 rfl rfl)
theorem dX4_askedBench_17 : decode cX4_askedBench 17 = .ok (.aload_n 0, 1) := dk_42 (dk_at dksX4_askedBench_0 17 rfl rfl)
theorem dX4_askedBench_18 : decode cX4_askedBench 18 = .ok (.getfield 38, 3) := dk_180 0 38 (dk_at dksX4_askedBench_0 18 rfl rfl)
theorem dX4_askedBench_21 : decode cX4_askedBench 21 = .ok (.ifCond .le 7, 3) := dk_158 0 7 (dk_at dksX4_askedBench_0 21 rfl rfl)
theorem dX4_askedBench_24 : decode cX4_askedBench 24 = .ok (.iconst 0, 1) := dk_3 (dk_at dksX4_askedBench_1 0 rfl rfl)
theorem dX4_askedBench_25 : decode cX4_askedBench 25 = .ok (.goto 9, 3) := dk_167 0 9 (dk_at dksX4_askedBench_1 1 rfl rfl)
theorem dX4_askedBench_28 : decode cX4_askedBench 28 = .ok (.aload_n 0, 1) := dk_42 (dk_at dksX4_askedBench_1 4 rfl rfl)
theorem dX4_askedBench_29 : decode cX4_askedBench 29 = .ok (.iload_n 1, 1) := dk_27 (dk_at dksX4_askedBench_1 5 rfl rfl)
theorem dX4_askedBench_30 : decode cX4_askedBench 30 = .ok (.iload_n 2, 1) := dk_28 (dk_at dksX4_askedBench_1 6 rfl rfl)
theorem dX4_askedBench_31 : decode cX4_askedBench 31 = .ok (.invokevirtual 70, 3) := dk_182 0 70 (dk_at dksX4_askedBench_1 7 rfl rfl)
theorem dX4_askedBench_34 : decode cX4_askedBench 34 = .ok (.ireturn, 1) := dk_172 (dk_at dksX4_askedBench_1 10 rfl rfl)
abbrev cX4_columnOf : ByteArray := prog_20_method_49_code
def yX4_columnOf : MethodName := ⟨RX4, "columnOf", "(I)I"⟩
def dkwX4_columnOf_0 : List UInt8 := [42, 27, 4, 182, 0, 159, 172]
abbrev dktX4_columnOf_0 : List UInt8 := dkwX4_columnOf_0 ++ []
theorem dksX4_columnOf_0 : cX4_columnOf.data.toList.drop 0 = dktX4_columnOf_0 := by decide +kernel
theorem dX4_columnOf_0 : decode cX4_columnOf 0 = .ok (.aload_n 0, 1) := dk_42 (dk_at dksX4_columnOf_0 0 rfl rfl)
theorem dX4_columnOf_1 : decode cX4_columnOf 1 = .ok (.iload_n 1, 1) := dk_27 (dk_at dksX4_columnOf_0 1 rfl rfl)
theorem dX4_columnOf_2 : decode cX4_columnOf 2 = .ok (.iconst 1, 1) := dk_4 (dk_at dksX4_columnOf_0 2 rfl rfl)
theorem dX4_columnOf_3 : decode cX4_columnOf 3 = .ok (.invokevirtual 159, 3) := dk_182 0 159 (dk_at dksX4_columnOf_0 3 rfl rfl)
theorem dX4_columnOf_6 : decode cX4_columnOf 6 = .ok (.ireturn, 1) := dk_172 (dk_at dksX4_columnOf_0 6 rfl rfl)
abbrev cX4_baseRent : ByteArray := prog_20_method_50_code
def yX4_baseRent : MethodName := ⟨RX4, "baseRent", "(I)I"⟩
def dkwX4_baseRent_0 : List UInt8 := [42, 27, 5, 182, 0, 159, 172]
abbrev dktX4_baseRent_0 : List UInt8 := dkwX4_baseRent_0 ++ []
theorem dksX4_baseRent_0 : cX4_baseRent.data.toList.drop 0 = dktX4_baseRent_0 := by decide +kernel
theorem dX4_baseRent_0 : decode cX4_baseRent 0 = .ok (.aload_n 0, 1) := dk_42 (dk_at dksX4_baseRent_0 0 rfl rfl)
theorem dX4_baseRent_1 : decode cX4_baseRent 1 = .ok (.iload_n 1, 1) := dk_27 (dk_at dksX4_baseRent_0 1 rfl rfl)
theorem dX4_baseRent_2 : decode cX4_baseRent 2 = .ok (.iconst 2, 1) := dk_5 (dk_at dksX4_baseRent_0 2 rfl rfl)
theorem dX4_baseRent_3 : decode cX4_baseRent 3 = .ok (.invokevirtual 159, 3) := dk_182 0 159 (dk_at dksX4_baseRent_0 3 rfl rfl)
theorem dX4_baseRent_6 : decode cX4_baseRent 6 = .ok (.ireturn, 1) := dk_172 (dk_at dksX4_baseRent_0 6 rfl rfl)
abbrev cX4_rentOf : ByteArray := prog_20_method_51_code
def yX4_rentOf : MethodName := ⟨RX4, "rentOf", "(I)I"⟩
def dkwX4_rentOf_1 : List UInt8 := [3, 167, 0, 8, 42, 27, 182, 0, 115, 172]
abbrev dktX4_rentOf_1 : List UInt8 := dkwX4_rentOf_1 ++ []
def dkwX4_rentOf_0 : List UInt8 := [42, 42, 27, 182, 0, 118, 153, 0, 7, 3, 167, 0, 4, 4, 181, 0, 38, 42, 180, 0, 38, 158, 0, 7]
abbrev dktX4_rentOf_0 : List UInt8 := dkwX4_rentOf_0 ++ dktX4_rentOf_1
theorem dksX4_rentOf_0 : cX4_rentOf.data.toList.drop 0 = dktX4_rentOf_0 := by decide +kernel
theorem dksX4_rentOf_1 : cX4_rentOf.data.toList.drop 24 = dktX4_rentOf_1 := dk_seg dksX4_rentOf_0 24 rfl rfl
theorem dX4_rentOf_0 : decode cX4_rentOf 0 = .ok (.aload_n 0, 1) := dk_42 (dk_at dksX4_rentOf_0 0 rfl rfl)
theorem dX4_rentOf_1 : decode cX4_rentOf 1 = .ok (.aload_n 0, 1) := dk_42 (dk_at dksX4_rentOf_0 1 rfl rfl)
theorem dX4_rentOf_2 : decode cX4_rentOf 2 = .ok (.iload_n 1, 1) := dk_27 (dk_at dksX4_rentOf_0 2 rfl rfl)
theorem dX4_rentOf_3 : decode cX4_rentOf 3 = .ok (.invokevirtual 118, 3) := dk_182 0 118 (dk_at dksX4_rentOf_0 3 rfl rfl)
theorem dX4_rentOf_6 : decode cX4_rentOf 6 = .ok (.ifCond .eq 7, 3) := dk_153 0 7 (dk_at dksX4_rentOf_0 6 rfl rfl)
theorem dX4_rentOf_9 : decode cX4_rentOf 9 = .ok (.iconst 0, 1) := dk_3 (dk_at dksX4_rentOf_0 9 rfl rfl)
theorem dX4_rentOf_10 : decode cX4_rentOf 10 = .ok (.goto 4, 3) := dk_167 0 4 (dk_at dksX4_rentOf_0 10 rfl rfl)
theorem dX4_rentOf_13 : decode cX4_rentOf 13 = .ok (.iconst 1, 1) := dk_4 (dk_at dksX4_rentOf_0 13 rfl rfl)
theorem dX4_rentOf_14 : decode cX4_rentOf 14 = .ok (.putfield 38, 3) := dk_181 0 38 (dk_at dksX4_rentOf_0 14 rfl rfl)
theorem dX4_rentOf_17 : decode cX4_rentOf 17 = .ok (.aload_n 0, 1) := dk_42 (dk_at dksX4_rentOf_0 17 rfl rfl)
theorem dX4_rentOf_18 : decode cX4_rentOf 18 = .ok (.getfield 38, 3) := dk_180 0 38 (dk_at dksX4_rentOf_0 18 rfl rfl)
theorem dX4_rentOf_21 : decode cX4_rentOf 21 = .ok (.ifCond .le 7, 3) := dk_158 0 7 (dk_at dksX4_rentOf_0 21 rfl rfl)
theorem dX4_rentOf_24 : decode cX4_rentOf 24 = .ok (.iconst 0, 1) := dk_3 (dk_at dksX4_rentOf_1 0 rfl rfl)
theorem dX4_rentOf_25 : decode cX4_rentOf 25 = .ok (.goto 8, 3) := dk_167 0 8 (dk_at dksX4_rentOf_1 1 rfl rfl)
theorem dX4_rentOf_28 : decode cX4_rentOf 28 = .ok (.aload_n 0, 1) := dk_42 (dk_at dksX4_rentOf_1 4 rfl rfl)
theorem dX4_rentOf_29 : decode cX4_rentOf 29 = .ok (.iload_n 1, 1) := dk_27 (dk_at dksX4_rentOf_1 5 rfl rfl)
theorem dX4_rentOf_30 : decode cX4_rentOf 30 = .ok (.invokevirtual 115, 3) := dk_182 0 115 (dk_at dksX4_rentOf_1 6 rfl rfl)
theorem dX4_rentOf_33 : decode cX4_rentOf 33 = .ok (.ireturn, 1) := dk_172 (dk_at dksX4_rentOf_1 9 rfl rfl)
abbrev cX4_rent : ByteArray := prog_20_method_24_code
def yX4_rent : MethodName := ⟨RX4, "rent", "(I)I"⟩
def dkwX4_rent_0 : List UInt8 := [42, 27, 5, 182, 0, 70, 42, 27, 182, 0, 86, 100, 61, 28, 4, 162, 0, 7, 4, 167, 0, 4, 28, 172]
abbrev dktX4_rent_0 : List UInt8 := dkwX4_rent_0 ++ []
theorem dksX4_rent_0 : cX4_rent.data.toList.drop 0 = dktX4_rent_0 := by decide +kernel
theorem dX4_rent_0 : decode cX4_rent 0 = .ok (.aload_n 0, 1) := dk_42 (dk_at dksX4_rent_0 0 rfl rfl)
theorem dX4_rent_1 : decode cX4_rent 1 = .ok (.iload_n 1, 1) := dk_27 (dk_at dksX4_rent_0 1 rfl rfl)
theorem dX4_rent_2 : decode cX4_rent 2 = .ok (.iconst 2, 1) := dk_5 (dk_at dksX4_rent_0 2 rfl rfl)
theorem dX4_rent_3 : decode cX4_rent 3 = .ok (.invokevirtual 70, 3) := dk_182 0 70 (dk_at dksX4_rent_0 3 rfl rfl)
theorem dX4_rent_6 : decode cX4_rent 6 = .ok (.aload_n 0, 1) := dk_42 (dk_at dksX4_rent_0 6 rfl rfl)
theorem dX4_rent_7 : decode cX4_rent 7 = .ok (.iload_n 1, 1) := dk_27 (dk_at dksX4_rent_0 7 rfl rfl)
theorem dX4_rent_8 : decode cX4_rent 8 = .ok (.invokevirtual 86, 3) := dk_182 0 86 (dk_at dksX4_rent_0 8 rfl rfl)
theorem dX4_rent_11 : decode cX4_rent 11 = .ok (.isub, 1) := dk_100 (dk_at dksX4_rent_0 11 rfl rfl)
theorem dX4_rent_12 : decode cX4_rent 12 = .ok (.istore_n 2, 1) := dk_61 (dk_at dksX4_rent_0 12 rfl rfl)
theorem dX4_rent_13 : decode cX4_rent 13 = .ok (.iload_n 2, 1) := dk_28 (dk_at dksX4_rent_0 13 rfl rfl)
theorem dX4_rent_14 : decode cX4_rent 14 = .ok (.iconst 1, 1) := dk_4 (dk_at dksX4_rent_0 14 rfl rfl)
theorem dX4_rent_15 : decode cX4_rent 15 = .ok (.if_icmp .ge 7, 3) := dk_162 0 7 (dk_at dksX4_rent_0 15 rfl rfl)
theorem dX4_rent_18 : decode cX4_rent 18 = .ok (.iconst 1, 1) := dk_4 (dk_at dksX4_rent_0 18 rfl rfl)
theorem dX4_rent_19 : decode cX4_rent 19 = .ok (.goto 4, 3) := dk_167 0 4 (dk_at dksX4_rent_0 19 rfl rfl)
theorem dX4_rent_22 : decode cX4_rent 22 = .ok (.iload_n 2, 1) := dk_28 (dk_at dksX4_rent_0 22 rfl rfl)
theorem dX4_rent_23 : decode cX4_rent 23 = .ok (.ireturn, 1) := dk_172 (dk_at dksX4_rent_0 23 rfl rfl)
abbrev cX4_noiseOf : ByteArray := prog_20_method_22_code
def yX4_noiseOf : MethodName := ⟨RX4, "noiseOf", "(I)I"⟩
def dkwX4_noiseOf_0 : List UInt8 := [42, 42, 27, 3, 182, 0, 70, 42, 27, 4, 182, 0, 70, 182, 0, 83, 172]
abbrev dktX4_noiseOf_0 : List UInt8 := dkwX4_noiseOf_0 ++ []
theorem dksX4_noiseOf_0 : cX4_noiseOf.data.toList.drop 0 = dktX4_noiseOf_0 := by decide +kernel
theorem dX4_noiseOf_0 : decode cX4_noiseOf 0 = .ok (.aload_n 0, 1) := dk_42 (dk_at dksX4_noiseOf_0 0 rfl rfl)
theorem dX4_noiseOf_1 : decode cX4_noiseOf 1 = .ok (.aload_n 0, 1) := dk_42 (dk_at dksX4_noiseOf_0 1 rfl rfl)
theorem dX4_noiseOf_2 : decode cX4_noiseOf 2 = .ok (.iload_n 1, 1) := dk_27 (dk_at dksX4_noiseOf_0 2 rfl rfl)
theorem dX4_noiseOf_3 : decode cX4_noiseOf 3 = .ok (.iconst 0, 1) := dk_3 (dk_at dksX4_noiseOf_0 3 rfl rfl)
theorem dX4_noiseOf_4 : decode cX4_noiseOf 4 = .ok (.invokevirtual 70, 3) := dk_182 0 70 (dk_at dksX4_noiseOf_0 4 rfl rfl)
theorem dX4_noiseOf_7 : decode cX4_noiseOf 7 = .ok (.aload_n 0, 1) := dk_42 (dk_at dksX4_noiseOf_0 7 rfl rfl)
theorem dX4_noiseOf_8 : decode cX4_noiseOf 8 = .ok (.iload_n 1, 1) := dk_27 (dk_at dksX4_noiseOf_0 8 rfl rfl)
theorem dX4_noiseOf_9 : decode cX4_noiseOf 9 = .ok (.iconst 1, 1) := dk_4 (dk_at dksX4_noiseOf_0 9 rfl rfl)
theorem dX4_noiseOf_10 : decode cX4_noiseOf 10 = .ok (.invokevirtual 70, 3) := dk_182 0 70 (dk_at dksX4_noiseOf_0 10 rfl rfl)
theorem dX4_noiseOf_13 : decode cX4_noiseOf 13 = .ok (.invokevirtual 83, 3) := dk_182 0 83 (dk_at dksX4_noiseOf_0 13 rfl rfl)
theorem dX4_noiseOf_16 : decode cX4_noiseOf 16 = .ok (.ireturn, 1) := dk_172 (dk_at dksX4_noiseOf_0 16 rfl rfl)
abbrev cX4_noise : ByteArray := prog_20_method_21_code
def yX4_noise : MethodName := ⟨RX4, "noise", "(II)I"⟩
def dkwX4_noise_3 : List UInt8 := [158, 0, 8, 21, 6, 167, 0, 4, 3, 96, 62, 132, 4, 1, 167, 255, 176, 29, 172]
abbrev dktX4_noise_3 : List UInt8 := dkwX4_noise_3 ++ []
def dkwX4_noise_2 : List UInt8 := [182, 0, 77, 5, 21, 5, 104, 100, 54, 6, 29, 42, 21, 4, 6, 182, 0, 77, 4, 160, 0, 13, 21, 6]
abbrev dktX4_noise_2 : List UInt8 := dkwX4_noise_2 ++ dktX4_noise_3
def dkwX4_noise_1 : List UInt8 := [100, 184, 0, 80, 42, 21, 4, 4, 182, 0, 77, 28, 100, 184, 0, 80, 96, 54, 5, 42, 21, 4, 5]
abbrev dktX4_noise_1 : List UInt8 := dkwX4_noise_1 ++ dktX4_noise_2
def dkwX4_noise_0 : List UInt8 := [3, 62, 3, 54, 4, 21, 4, 42, 180, 0, 7, 4, 46, 162, 0, 75, 42, 21, 4, 3, 182, 0, 77, 27]
abbrev dktX4_noise_0 : List UInt8 := dkwX4_noise_0 ++ dktX4_noise_1
theorem dksX4_noise_0 : cX4_noise.data.toList.drop 0 = dktX4_noise_0 := by decide +kernel
theorem dksX4_noise_1 : cX4_noise.data.toList.drop 24 = dktX4_noise_1 := dk_seg dksX4_noise_0 24 rfl rfl
theorem dksX4_noise_2 : cX4_noise.data.toList.drop 47 = dktX4_noise_2 := dk_seg dksX4_noise_1 23 rfl rfl
theorem dksX4_noise_3 : cX4_noise.data.toList.drop 71 = dktX4_noise_3 := dk_seg dksX4_noise_2 24 rfl rfl
theorem dX4_noise_0 : decode cX4_noise 0 = .ok (.iconst 0, 1) := dk_3 (dk_at dksX4_noise_0 0 rfl rfl)
theorem dX4_noise_1 : decode cX4_noise 1 = .ok (.istore_n 3, 1) := dk_62 (dk_at dksX4_noise_0 1 rfl rfl)
theorem dX4_noise_2 : decode cX4_noise 2 = .ok (.iconst 0, 1) := dk_3 (dk_at dksX4_noise_0 2 rfl rfl)
theorem dX4_noise_3 : decode cX4_noise 3 = .ok (.istore 4, 2) := dk_54 4 (dk_at dksX4_noise_0 3 rfl rfl)
theorem dX4_noise_5 : decode cX4_noise 5 = .ok (.iload 4, 2) := dk_21 4 (dk_at dksX4_noise_0 5 rfl rfl)
theorem dX4_noise_7 : decode cX4_noise 7 = .ok (.aload_n 0, 1) := dk_42 (dk_at dksX4_noise_0 7 rfl rfl)
theorem dX4_noise_8 : decode cX4_noise 8 = .ok (.getfield 7, 3) := dk_180 0 7 (dk_at dksX4_noise_0 8 rfl rfl)
theorem dX4_noise_11 : decode cX4_noise 11 = .ok (.iconst 1, 1) := dk_4 (dk_at dksX4_noise_0 11 rfl rfl)
theorem dX4_noise_12 : decode cX4_noise 12 = .ok (.iaload, 1) := dk_46 (dk_at dksX4_noise_0 12 rfl rfl)
theorem dX4_noise_13 : decode cX4_noise 13 = .ok (.if_icmp .ge 75, 3) := dk_162 0 75 (dk_at dksX4_noise_0 13 rfl rfl)
theorem dX4_noise_16 : decode cX4_noise 16 = .ok (.aload_n 0, 1) := dk_42 (dk_at dksX4_noise_0 16 rfl rfl)
theorem dX4_noise_17 : decode cX4_noise 17 = .ok (.iload 4, 2) := dk_21 4 (dk_at dksX4_noise_0 17 rfl rfl)
theorem dX4_noise_19 : decode cX4_noise 19 = .ok (.iconst 0, 1) := dk_3 (dk_at dksX4_noise_0 19 rfl rfl)
theorem dX4_noise_20 : decode cX4_noise 20 = .ok (.invokevirtual 77, 3) := dk_182 0 77 (dk_at dksX4_noise_0 20 rfl rfl)
theorem dX4_noise_23 : decode cX4_noise 23 = .ok (.iload_n 1, 1) := dk_27 (dk_at dksX4_noise_0 23 rfl rfl)
theorem dX4_noise_24 : decode cX4_noise 24 = .ok (.isub, 1) := dk_100 (dk_at dksX4_noise_1 0 rfl rfl)
theorem dX4_noise_25 : decode cX4_noise 25 = .ok (.invokestatic 80, 3) := dk_184 0 80 (dk_at dksX4_noise_1 1 rfl rfl)
theorem dX4_noise_28 : decode cX4_noise 28 = .ok (.aload_n 0, 1) := dk_42 (dk_at dksX4_noise_1 4 rfl rfl)
theorem dX4_noise_29 : decode cX4_noise 29 = .ok (.iload 4, 2) := dk_21 4 (dk_at dksX4_noise_1 5 rfl rfl)
theorem dX4_noise_31 : decode cX4_noise 31 = .ok (.iconst 1, 1) := dk_4 (dk_at dksX4_noise_1 7 rfl rfl)
theorem dX4_noise_32 : decode cX4_noise 32 = .ok (.invokevirtual 77, 3) := dk_182 0 77 (dk_at dksX4_noise_1 8 rfl rfl)
theorem dX4_noise_35 : decode cX4_noise 35 = .ok (.iload_n 2, 1) := dk_28 (dk_at dksX4_noise_1 11 rfl rfl)
theorem dX4_noise_36 : decode cX4_noise 36 = .ok (.isub, 1) := dk_100 (dk_at dksX4_noise_1 12 rfl rfl)
theorem dX4_noise_37 : decode cX4_noise 37 = .ok (.invokestatic 80, 3) := dk_184 0 80 (dk_at dksX4_noise_1 13 rfl rfl)
theorem dX4_noise_40 : decode cX4_noise 40 = .ok (.iadd, 1) := dk_96 (dk_at dksX4_noise_1 16 rfl rfl)
theorem dX4_noise_41 : decode cX4_noise 41 = .ok (.istore 5, 2) := dk_54 5 (dk_at dksX4_noise_1 17 rfl rfl)
theorem dX4_noise_43 : decode cX4_noise 43 = .ok (.aload_n 0, 1) := dk_42 (dk_at dksX4_noise_1 19 rfl rfl)
theorem dX4_noise_44 : decode cX4_noise 44 = .ok (.iload 4, 2) := dk_21 4 (dk_at dksX4_noise_1 20 rfl rfl)
theorem dX4_noise_46 : decode cX4_noise 46 = .ok (.iconst 2, 1) := dk_5 (dk_at dksX4_noise_1 22 rfl rfl)
theorem dX4_noise_47 : decode cX4_noise 47 = .ok (.invokevirtual 77, 3) := dk_182 0 77 (dk_at dksX4_noise_2 0 rfl rfl)
theorem dX4_noise_50 : decode cX4_noise 50 = .ok (.iconst 2, 1) := dk_5 (dk_at dksX4_noise_2 3 rfl rfl)
theorem dX4_noise_51 : decode cX4_noise 51 = .ok (.iload 5, 2) := dk_21 5 (dk_at dksX4_noise_2 4 rfl rfl)
theorem dX4_noise_53 : decode cX4_noise 53 = .ok (.imul, 1) := dk_104 (dk_at dksX4_noise_2 6 rfl rfl)
theorem dX4_noise_54 : decode cX4_noise 54 = .ok (.isub, 1) := dk_100 (dk_at dksX4_noise_2 7 rfl rfl)
theorem dX4_noise_55 : decode cX4_noise 55 = .ok (.istore 6, 2) := dk_54 6 (dk_at dksX4_noise_2 8 rfl rfl)
theorem dX4_noise_57 : decode cX4_noise 57 = .ok (.iload_n 3, 1) := dk_29 (dk_at dksX4_noise_2 10 rfl rfl)
theorem dX4_noise_58 : decode cX4_noise 58 = .ok (.aload_n 0, 1) := dk_42 (dk_at dksX4_noise_2 11 rfl rfl)
theorem dX4_noise_59 : decode cX4_noise 59 = .ok (.iload 4, 2) := dk_21 4 (dk_at dksX4_noise_2 12 rfl rfl)
theorem dX4_noise_61 : decode cX4_noise 61 = .ok (.iconst 3, 1) := dk_6 (dk_at dksX4_noise_2 14 rfl rfl)
theorem dX4_noise_62 : decode cX4_noise 62 = .ok (.invokevirtual 77, 3) := dk_182 0 77 (dk_at dksX4_noise_2 15 rfl rfl)
theorem dX4_noise_65 : decode cX4_noise 65 = .ok (.iconst 1, 1) := dk_4 (dk_at dksX4_noise_2 18 rfl rfl)
theorem dX4_noise_66 : decode cX4_noise 66 = .ok (.if_icmp .ne 13, 3) := dk_160 0 13 (dk_at dksX4_noise_2 19 rfl rfl)
theorem dX4_noise_69 : decode cX4_noise 69 = .ok (.iload 6, 2) := dk_21 6 (dk_at dksX4_noise_2 22 rfl rfl)
theorem dX4_noise_71 : decode cX4_noise 71 = .ok (.ifCond .le 8, 3) := dk_158 0 8 (dk_at dksX4_noise_3 0 rfl rfl)
theorem dX4_noise_74 : decode cX4_noise 74 = .ok (.iload 6, 2) := dk_21 6 (dk_at dksX4_noise_3 3 rfl rfl)
theorem dX4_noise_76 : decode cX4_noise 76 = .ok (.goto 4, 3) := dk_167 0 4 (dk_at dksX4_noise_3 5 rfl rfl)
theorem dX4_noise_79 : decode cX4_noise 79 = .ok (.iconst 0, 1) := dk_3 (dk_at dksX4_noise_3 8 rfl rfl)
theorem dX4_noise_80 : decode cX4_noise 80 = .ok (.iadd, 1) := dk_96 (dk_at dksX4_noise_3 9 rfl rfl)
theorem dX4_noise_81 : decode cX4_noise 81 = .ok (.istore_n 3, 1) := dk_62 (dk_at dksX4_noise_3 10 rfl rfl)
theorem dX4_noise_82 : decode cX4_noise 82 = .ok (.iinc 4 1, 3) := dk_132 4 1 (dk_at dksX4_noise_3 11 rfl rfl)
theorem dX4_noise_85 : decode cX4_noise 85 = .ok (.goto (-80), 3) := dk_167 255 176 (dk_at dksX4_noise_3 14 rfl rfl)
theorem dX4_noise_88 : decode cX4_noise 88 = .ok (.iload_n 3, 1) := dk_29 (dk_at dksX4_noise_3 17 rfl rfl)
theorem dX4_noise_89 : decode cX4_noise 89 = .ok (.ireturn, 1) := dk_172 (dk_at dksX4_noise_3 18 rfl rfl)
abbrev cX4_size : ByteArray := prog_20_method_20_code
def yX4_size : MethodName := ⟨RX4, "size", "(I)I"⟩
def dkwX4_size_0 : List UInt8 := [26, 156, 0, 8, 26, 116, 167, 0, 4, 26, 172]
abbrev dktX4_size_0 : List UInt8 := dkwX4_size_0 ++ []
theorem dksX4_size_0 : cX4_size.data.toList.drop 0 = dktX4_size_0 := by decide +kernel
theorem dX4_size_0 : decode cX4_size 0 = .ok (.iload_n 0, 1) := dk_26 (dk_at dksX4_size_0 0 rfl rfl)
theorem dX4_size_1 : decode cX4_size 1 = .ok (.ifCond .ge 8, 3) := dk_156 0 8 (dk_at dksX4_size_0 1 rfl rfl)
theorem dX4_size_4 : decode cX4_size 4 = .ok (.iload_n 0, 1) := dk_26 (dk_at dksX4_size_0 4 rfl rfl)
theorem dX4_size_5 : decode cX4_size 5 = .ok (.ineg, 1) := dk_116 (dk_at dksX4_size_0 5 rfl rfl)
theorem dX4_size_6 : decode cX4_size 6 = .ok (.goto 4, 3) := dk_167 0 4 (dk_at dksX4_size_0 6 rfl rfl)
theorem dX4_size_9 : decode cX4_size 9 = .ok (.iload_n 0, 1) := dk_26 (dk_at dksX4_size_0 9 rfl rfl)
theorem dX4_size_10 : decode cX4_size 10 = .ok (.ireturn, 1) := dk_172 (dk_at dksX4_size_0 10 rfl rfl)
abbrev cX4_fountainCount : ByteArray := prog_20_method_52_code
def yX4_fountainCount : MethodName := ⟨RX4, "fountainCount", "()I"⟩
def dkwX4_fountainCount_0 : List UInt8 := [42, 3, 181, 0, 38, 42, 180, 0, 7, 4, 46, 172]
abbrev dktX4_fountainCount_0 : List UInt8 := dkwX4_fountainCount_0 ++ []
theorem dksX4_fountainCount_0 : cX4_fountainCount.data.toList.drop 0 = dktX4_fountainCount_0 := by decide +kernel
theorem dX4_fountainCount_0 : decode cX4_fountainCount 0 = .ok (.aload_n 0, 1) := dk_42 (dk_at dksX4_fountainCount_0 0 rfl rfl)
theorem dX4_fountainCount_1 : decode cX4_fountainCount 1 = .ok (.iconst 0, 1) := dk_3 (dk_at dksX4_fountainCount_0 1 rfl rfl)
theorem dX4_fountainCount_2 : decode cX4_fountainCount 2 = .ok (.putfield 38, 3) := dk_181 0 38 (dk_at dksX4_fountainCount_0 2 rfl rfl)
theorem dX4_fountainCount_5 : decode cX4_fountainCount 5 = .ok (.aload_n 0, 1) := dk_42 (dk_at dksX4_fountainCount_0 5 rfl rfl)
theorem dX4_fountainCount_6 : decode cX4_fountainCount 6 = .ok (.getfield 7, 3) := dk_180 0 7 (dk_at dksX4_fountainCount_0 6 rfl rfl)
theorem dX4_fountainCount_9 : decode cX4_fountainCount 9 = .ok (.iconst 1, 1) := dk_4 (dk_at dksX4_fountainCount_0 9 rfl rfl)
theorem dX4_fountainCount_10 : decode cX4_fountainCount 10 = .ok (.iaload, 1) := dk_46 (dk_at dksX4_fountainCount_0 10 rfl rfl)
theorem dX4_fountainCount_11 : decode cX4_fountainCount 11 = .ok (.ireturn, 1) := dk_172 (dk_at dksX4_fountainCount_0 11 rfl rfl)
abbrev cX4_loudnessOf : ByteArray := prog_20_method_53_code
def yX4_loudnessOf : MethodName := ⟨RX4, "loudnessOf", "(I)I"⟩
def dkwX4_loudnessOf_1 : List UInt8 := [3, 167, 0, 9, 42, 27, 5, 182, 0, 77, 172]
abbrev dktX4_loudnessOf_1 : List UInt8 := dkwX4_loudnessOf_1 ++ []
def dkwX4_loudnessOf_0 : List UInt8 := [42, 42, 27, 182, 0, 128, 153, 0, 7, 3, 167, 0, 4, 4, 181, 0, 38, 42, 180, 0, 38, 158, 0, 7]
abbrev dktX4_loudnessOf_0 : List UInt8 := dkwX4_loudnessOf_0 ++ dktX4_loudnessOf_1
theorem dksX4_loudnessOf_0 : cX4_loudnessOf.data.toList.drop 0 = dktX4_loudnessOf_0 := by decide +kernel
theorem dksX4_loudnessOf_1 : cX4_loudnessOf.data.toList.drop 24 = dktX4_loudnessOf_1 := dk_seg dksX4_loudnessOf_0 24 rfl rfl
theorem dX4_loudnessOf_0 : decode cX4_loudnessOf 0 = .ok (.aload_n 0, 1) := dk_42 (dk_at dksX4_loudnessOf_0 0 rfl rfl)
theorem dX4_loudnessOf_1 : decode cX4_loudnessOf 1 = .ok (.aload_n 0, 1) := dk_42 (dk_at dksX4_loudnessOf_0 1 rfl rfl)
theorem dX4_loudnessOf_2 : decode cX4_loudnessOf 2 = .ok (.iload_n 1, 1) := dk_27 (dk_at dksX4_loudnessOf_0 2 rfl rfl)
theorem dX4_loudnessOf_3 : decode cX4_loudnessOf 3 = .ok (.invokevirtual 128, 3) := dk_182 0 128 (dk_at dksX4_loudnessOf_0 3 rfl rfl)
theorem dX4_loudnessOf_6 : decode cX4_loudnessOf 6 = .ok (.ifCond .eq 7, 3) := dk_153 0 7 (dk_at dksX4_loudnessOf_0 6 rfl rfl)
theorem dX4_loudnessOf_9 : decode cX4_loudnessOf 9 = .ok (.iconst 0, 1) := dk_3 (dk_at dksX4_loudnessOf_0 9 rfl rfl)
theorem dX4_loudnessOf_10 : decode cX4_loudnessOf 10 = .ok (.goto 4, 3) := dk_167 0 4 (dk_at dksX4_loudnessOf_0 10 rfl rfl)
theorem dX4_loudnessOf_13 : decode cX4_loudnessOf 13 = .ok (.iconst 1, 1) := dk_4 (dk_at dksX4_loudnessOf_0 13 rfl rfl)
theorem dX4_loudnessOf_14 : decode cX4_loudnessOf 14 = .ok (.putfield 38, 3) := dk_181 0 38 (dk_at dksX4_loudnessOf_0 14 rfl rfl)
theorem dX4_loudnessOf_17 : decode cX4_loudnessOf 17 = .ok (.aload_n 0, 1) := dk_42 (dk_at dksX4_loudnessOf_0 17 rfl rfl)
theorem dX4_loudnessOf_18 : decode cX4_loudnessOf 18 = .ok (.getfield 38, 3) := dk_180 0 38 (dk_at dksX4_loudnessOf_0 18 rfl rfl)
theorem dX4_loudnessOf_21 : decode cX4_loudnessOf 21 = .ok (.ifCond .le 7, 3) := dk_158 0 7 (dk_at dksX4_loudnessOf_0 21 rfl rfl)
theorem dX4_loudnessOf_24 : decode cX4_loudnessOf 24 = .ok (.iconst 0, 1) := dk_3 (dk_at dksX4_loudnessOf_1 0 rfl rfl)
theorem dX4_loudnessOf_25 : decode cX4_loudnessOf 25 = .ok (.goto 9, 3) := dk_167 0 9 (dk_at dksX4_loudnessOf_1 1 rfl rfl)
theorem dX4_loudnessOf_28 : decode cX4_loudnessOf 28 = .ok (.aload_n 0, 1) := dk_42 (dk_at dksX4_loudnessOf_1 4 rfl rfl)
theorem dX4_loudnessOf_29 : decode cX4_loudnessOf 29 = .ok (.iload_n 1, 1) := dk_27 (dk_at dksX4_loudnessOf_1 5 rfl rfl)
theorem dX4_loudnessOf_30 : decode cX4_loudnessOf 30 = .ok (.iconst 2, 1) := dk_5 (dk_at dksX4_loudnessOf_1 6 rfl rfl)
theorem dX4_loudnessOf_31 : decode cX4_loudnessOf 31 = .ok (.invokevirtual 77, 3) := dk_182 0 77 (dk_at dksX4_loudnessOf_1 7 rfl rfl)
theorem dX4_loudnessOf_34 : decode cX4_loudnessOf 34 = .ok (.ireturn, 1) := dk_172 (dk_at dksX4_loudnessOf_1 10 rfl rfl)
abbrev cX4_isRunning : ByteArray := prog_20_method_54_code
def yX4_isRunning : MethodName := ⟨RX4, "isRunning", "(I)Z"⟩
def dkwX4_isRunning_1 : List UInt8 := [42, 27, 6, 182, 0, 77, 4, 160, 0, 7, 4, 167, 0, 4, 3, 172]
abbrev dktX4_isRunning_1 : List UInt8 := dkwX4_isRunning_1 ++ []
def dkwX4_isRunning_0 : List UInt8 := [42, 42, 27, 182, 0, 128, 153, 0, 7, 3, 167, 0, 4, 4, 181, 0, 38, 42, 180, 0, 38, 154, 0, 17]
abbrev dktX4_isRunning_0 : List UInt8 := dkwX4_isRunning_0 ++ dktX4_isRunning_1
theorem dksX4_isRunning_0 : cX4_isRunning.data.toList.drop 0 = dktX4_isRunning_0 := by decide +kernel
theorem dksX4_isRunning_1 : cX4_isRunning.data.toList.drop 24 = dktX4_isRunning_1 := dk_seg dksX4_isRunning_0 24 rfl rfl
theorem dX4_isRunning_0 : decode cX4_isRunning 0 = .ok (.aload_n 0, 1) := dk_42 (dk_at dksX4_isRunning_0 0 rfl rfl)
theorem dX4_isRunning_1 : decode cX4_isRunning 1 = .ok (.aload_n 0, 1) := dk_42 (dk_at dksX4_isRunning_0 1 rfl rfl)
theorem dX4_isRunning_2 : decode cX4_isRunning 2 = .ok (.iload_n 1, 1) := dk_27 (dk_at dksX4_isRunning_0 2 rfl rfl)
theorem dX4_isRunning_3 : decode cX4_isRunning 3 = .ok (.invokevirtual 128, 3) := dk_182 0 128 (dk_at dksX4_isRunning_0 3 rfl rfl)
theorem dX4_isRunning_6 : decode cX4_isRunning 6 = .ok (.ifCond .eq 7, 3) := dk_153 0 7 (dk_at dksX4_isRunning_0 6 rfl rfl)
theorem dX4_isRunning_9 : decode cX4_isRunning 9 = .ok (.iconst 0, 1) := dk_3 (dk_at dksX4_isRunning_0 9 rfl rfl)
theorem dX4_isRunning_10 : decode cX4_isRunning 10 = .ok (.goto 4, 3) := dk_167 0 4 (dk_at dksX4_isRunning_0 10 rfl rfl)
theorem dX4_isRunning_13 : decode cX4_isRunning 13 = .ok (.iconst 1, 1) := dk_4 (dk_at dksX4_isRunning_0 13 rfl rfl)
theorem dX4_isRunning_14 : decode cX4_isRunning 14 = .ok (.putfield 38, 3) := dk_181 0 38 (dk_at dksX4_isRunning_0 14 rfl rfl)
theorem dX4_isRunning_17 : decode cX4_isRunning 17 = .ok (.aload_n 0, 1) := dk_42 (dk_at dksX4_isRunning_0 17 rfl rfl)
theorem dX4_isRunning_18 : decode cX4_isRunning 18 = .ok (.getfield 38, 3) := dk_180 0 38 (dk_at dksX4_isRunning_0 18 rfl rfl)
theorem dX4_isRunning_21 : decode cX4_isRunning 21 = .ok (.ifCond .ne 17, 3) := dk_154 0 17 (dk_at dksX4_isRunning_0 21 rfl rfl)
theorem dX4_isRunning_24 : decode cX4_isRunning 24 = .ok (.aload_n 0, 1) := dk_42 (dk_at dksX4_isRunning_1 0 rfl rfl)
theorem dX4_isRunning_25 : decode cX4_isRunning 25 = .ok (.iload_n 1, 1) := dk_27 (dk_at dksX4_isRunning_1 1 rfl rfl)
theorem dX4_isRunning_26 : decode cX4_isRunning 26 = .ok (.iconst 3, 1) := dk_6 (dk_at dksX4_isRunning_1 2 rfl rfl)
theorem dX4_isRunning_27 : decode cX4_isRunning 27 = .ok (.invokevirtual 77, 3) := dk_182 0 77 (dk_at dksX4_isRunning_1 3 rfl rfl)
theorem dX4_isRunning_30 : decode cX4_isRunning 30 = .ok (.iconst 1, 1) := dk_4 (dk_at dksX4_isRunning_1 6 rfl rfl)
theorem dX4_isRunning_31 : decode cX4_isRunning 31 = .ok (.if_icmp .ne 7, 3) := dk_160 0 7 (dk_at dksX4_isRunning_1 7 rfl rfl)
theorem dX4_isRunning_34 : decode cX4_isRunning 34 = .ok (.iconst 1, 1) := dk_4 (dk_at dksX4_isRunning_1 10 rfl rfl)
theorem dX4_isRunning_35 : decode cX4_isRunning 35 = .ok (.goto 4, 3) := dk_167 0 4 (dk_at dksX4_isRunning_1 11 rfl rfl)
theorem dX4_isRunning_38 : decode cX4_isRunning 38 = .ok (.iconst 0, 1) := dk_3 (dk_at dksX4_isRunning_1 14 rfl rfl)
theorem dX4_isRunning_39 : decode cX4_isRunning 39 = .ok (.ireturn, 1) := dk_172 (dk_at dksX4_isRunning_1 15 rfl rfl)
abbrev cX4_noiseLimit : ByteArray := prog_20_method_55_code
def yX4_noiseLimit : MethodName := ⟨RX4, "noiseLimit", "()I"⟩
def dkwX4_noiseLimit_0 : List UInt8 := [42, 3, 181, 0, 38, 42, 180, 0, 7, 6, 46, 172]
abbrev dktX4_noiseLimit_0 : List UInt8 := dkwX4_noiseLimit_0 ++ []
theorem dksX4_noiseLimit_0 : cX4_noiseLimit.data.toList.drop 0 = dktX4_noiseLimit_0 := by decide +kernel
theorem dX4_noiseLimit_0 : decode cX4_noiseLimit 0 = .ok (.aload_n 0, 1) := dk_42 (dk_at dksX4_noiseLimit_0 0 rfl rfl)
theorem dX4_noiseLimit_1 : decode cX4_noiseLimit 1 = .ok (.iconst 0, 1) := dk_3 (dk_at dksX4_noiseLimit_0 1 rfl rfl)
theorem dX4_noiseLimit_2 : decode cX4_noiseLimit 2 = .ok (.putfield 38, 3) := dk_181 0 38 (dk_at dksX4_noiseLimit_0 2 rfl rfl)
theorem dX4_noiseLimit_5 : decode cX4_noiseLimit 5 = .ok (.aload_n 0, 1) := dk_42 (dk_at dksX4_noiseLimit_0 5 rfl rfl)
theorem dX4_noiseLimit_6 : decode cX4_noiseLimit 6 = .ok (.getfield 7, 3) := dk_180 0 7 (dk_at dksX4_noiseLimit_0 6 rfl rfl)
theorem dX4_noiseLimit_9 : decode cX4_noiseLimit 9 = .ok (.iconst 3, 1) := dk_6 (dk_at dksX4_noiseLimit_0 9 rfl rfl)
theorem dX4_noiseLimit_10 : decode cX4_noiseLimit 10 = .ok (.iaload, 1) := dk_46 (dk_at dksX4_noiseLimit_0 10 rfl rfl)
theorem dX4_noiseLimit_11 : decode cX4_noiseLimit 11 = .ok (.ireturn, 1) := dk_172 (dk_at dksX4_noiseLimit_0 11 rfl rfl)
abbrev cX4_noiseAt : ByteArray := prog_20_method_56_code
def yX4_noiseAt : MethodName := ⟨RX4, "noiseAt", "(II)I"⟩
def dkwX4_noiseAt_1 : List UInt8 := [3, 167, 0, 9, 42, 27, 28, 182, 0, 83, 172]
abbrev dktX4_noiseAt_1 : List UInt8 := dkwX4_noiseAt_1 ++ []
def dkwX4_noiseAt_0 : List UInt8 := [42, 27, 28, 184, 0, 89, 153, 0, 7, 3, 167, 0, 4, 4, 181, 0, 38, 42, 180, 0, 38, 158, 0, 7]
abbrev dktX4_noiseAt_0 : List UInt8 := dkwX4_noiseAt_0 ++ dktX4_noiseAt_1
theorem dksX4_noiseAt_0 : cX4_noiseAt.data.toList.drop 0 = dktX4_noiseAt_0 := by decide +kernel
theorem dksX4_noiseAt_1 : cX4_noiseAt.data.toList.drop 24 = dktX4_noiseAt_1 := dk_seg dksX4_noiseAt_0 24 rfl rfl
theorem dX4_noiseAt_0 : decode cX4_noiseAt 0 = .ok (.aload_n 0, 1) := dk_42 (dk_at dksX4_noiseAt_0 0 rfl rfl)
theorem dX4_noiseAt_1 : decode cX4_noiseAt 1 = .ok (.iload_n 1, 1) := dk_27 (dk_at dksX4_noiseAt_0 1 rfl rfl)
theorem dX4_noiseAt_2 : decode cX4_noiseAt 2 = .ok (.iload_n 2, 1) := dk_28 (dk_at dksX4_noiseAt_0 2 rfl rfl)
theorem dX4_noiseAt_3 : decode cX4_noiseAt 3 = .ok (.invokestatic 89, 3) := dk_184 0 89 (dk_at dksX4_noiseAt_0 3 rfl rfl)
theorem dX4_noiseAt_6 : decode cX4_noiseAt 6 = .ok (.ifCond .eq 7, 3) := dk_153 0 7 (dk_at dksX4_noiseAt_0 6 rfl rfl)
theorem dX4_noiseAt_9 : decode cX4_noiseAt 9 = .ok (.iconst 0, 1) := dk_3 (dk_at dksX4_noiseAt_0 9 rfl rfl)
theorem dX4_noiseAt_10 : decode cX4_noiseAt 10 = .ok (.goto 4, 3) := dk_167 0 4 (dk_at dksX4_noiseAt_0 10 rfl rfl)
theorem dX4_noiseAt_13 : decode cX4_noiseAt 13 = .ok (.iconst 1, 1) := dk_4 (dk_at dksX4_noiseAt_0 13 rfl rfl)
theorem dX4_noiseAt_14 : decode cX4_noiseAt 14 = .ok (.putfield 38, 3) := dk_181 0 38 (dk_at dksX4_noiseAt_0 14 rfl rfl)
theorem dX4_noiseAt_17 : decode cX4_noiseAt 17 = .ok (.aload_n 0, 1) := dk_42 (dk_at dksX4_noiseAt_0 17 rfl rfl)
theorem dX4_noiseAt_18 : decode cX4_noiseAt 18 = .ok (.getfield 38, 3) := dk_180 0 38 (dk_at dksX4_noiseAt_0 18 rfl rfl)
theorem dX4_noiseAt_21 : decode cX4_noiseAt 21 = .ok (.ifCond .le 7, 3) := dk_158 0 7 (dk_at dksX4_noiseAt_0 21 rfl rfl)
theorem dX4_noiseAt_24 : decode cX4_noiseAt 24 = .ok (.iconst 0, 1) := dk_3 (dk_at dksX4_noiseAt_1 0 rfl rfl)
theorem dX4_noiseAt_25 : decode cX4_noiseAt 25 = .ok (.goto 9, 3) := dk_167 0 9 (dk_at dksX4_noiseAt_1 1 rfl rfl)
theorem dX4_noiseAt_28 : decode cX4_noiseAt 28 = .ok (.aload_n 0, 1) := dk_42 (dk_at dksX4_noiseAt_1 4 rfl rfl)
theorem dX4_noiseAt_29 : decode cX4_noiseAt 29 = .ok (.iload_n 1, 1) := dk_27 (dk_at dksX4_noiseAt_1 5 rfl rfl)
theorem dX4_noiseAt_30 : decode cX4_noiseAt 30 = .ok (.iload_n 2, 1) := dk_28 (dk_at dksX4_noiseAt_1 6 rfl rfl)
theorem dX4_noiseAt_31 : decode cX4_noiseAt 31 = .ok (.invokevirtual 83, 3) := dk_182 0 83 (dk_at dksX4_noiseAt_1 7 rfl rfl)
theorem dX4_noiseAt_34 : decode cX4_noiseAt 34 = .ok (.ireturn, 1) := dk_172 (dk_at dksX4_noiseAt_1 10 rfl rfl)
abbrev cX4_noiseBySpreading : ByteArray := prog_20_method_57_code
def yX4_noiseBySpreading : MethodName := ⟨RX4, "noiseBySpreading", "(II)I"⟩
def dkwX4_noiseBySpreading_0 : List UInt8 := [42, 27, 28, 182, 0, 162, 172]
abbrev dktX4_noiseBySpreading_0 : List UInt8 := dkwX4_noiseBySpreading_0 ++ []
theorem dksX4_noiseBySpreading_0 : cX4_noiseBySpreading.data.toList.drop 0 = dktX4_noiseBySpreading_0 := by decide +kernel
theorem dX4_noiseBySpreading_0 : decode cX4_noiseBySpreading 0 = .ok (.aload_n 0, 1) := dk_42 (dk_at dksX4_noiseBySpreading_0 0 rfl rfl)
theorem dX4_noiseBySpreading_1 : decode cX4_noiseBySpreading 1 = .ok (.iload_n 1, 1) := dk_27 (dk_at dksX4_noiseBySpreading_0 1 rfl rfl)
theorem dX4_noiseBySpreading_2 : decode cX4_noiseBySpreading 2 = .ok (.iload_n 2, 1) := dk_28 (dk_at dksX4_noiseBySpreading_0 2 rfl rfl)
theorem dX4_noiseBySpreading_3 : decode cX4_noiseBySpreading 3 = .ok (.invokevirtual 162, 3) := dk_182 0 162 (dk_at dksX4_noiseBySpreading_0 3 rfl rfl)
theorem dX4_noiseBySpreading_6 : decode cX4_noiseBySpreading 6 = .ok (.ireturn, 1) := dk_172 (dk_at dksX4_noiseBySpreading_0 6 rfl rfl)
abbrev cX4_isQuiet : ByteArray := prog_20_method_58_code
def yX4_isQuiet : MethodName := ⟨RX4, "isQuiet", "(I)Z"⟩
def dkwX4_isQuiet_1 : List UInt8 := [42, 27, 182, 0, 112, 153, 0, 7, 4, 167, 0, 4, 3, 172]
abbrev dktX4_isQuiet_1 : List UInt8 := dkwX4_isQuiet_1 ++ []
def dkwX4_isQuiet_0 : List UInt8 := [42, 42, 27, 182, 0, 118, 153, 0, 7, 3, 167, 0, 4, 4, 181, 0, 38, 42, 180, 0, 38, 154, 0, 15]
abbrev dktX4_isQuiet_0 : List UInt8 := dkwX4_isQuiet_0 ++ dktX4_isQuiet_1
theorem dksX4_isQuiet_0 : cX4_isQuiet.data.toList.drop 0 = dktX4_isQuiet_0 := by decide +kernel
theorem dksX4_isQuiet_1 : cX4_isQuiet.data.toList.drop 24 = dktX4_isQuiet_1 := dk_seg dksX4_isQuiet_0 24 rfl rfl
theorem dX4_isQuiet_0 : decode cX4_isQuiet 0 = .ok (.aload_n 0, 1) := dk_42 (dk_at dksX4_isQuiet_0 0 rfl rfl)
theorem dX4_isQuiet_1 : decode cX4_isQuiet 1 = .ok (.aload_n 0, 1) := dk_42 (dk_at dksX4_isQuiet_0 1 rfl rfl)
theorem dX4_isQuiet_2 : decode cX4_isQuiet 2 = .ok (.iload_n 1, 1) := dk_27 (dk_at dksX4_isQuiet_0 2 rfl rfl)
theorem dX4_isQuiet_3 : decode cX4_isQuiet 3 = .ok (.invokevirtual 118, 3) := dk_182 0 118 (dk_at dksX4_isQuiet_0 3 rfl rfl)
theorem dX4_isQuiet_6 : decode cX4_isQuiet 6 = .ok (.ifCond .eq 7, 3) := dk_153 0 7 (dk_at dksX4_isQuiet_0 6 rfl rfl)
theorem dX4_isQuiet_9 : decode cX4_isQuiet 9 = .ok (.iconst 0, 1) := dk_3 (dk_at dksX4_isQuiet_0 9 rfl rfl)
theorem dX4_isQuiet_10 : decode cX4_isQuiet 10 = .ok (.goto 4, 3) := dk_167 0 4 (dk_at dksX4_isQuiet_0 10 rfl rfl)
theorem dX4_isQuiet_13 : decode cX4_isQuiet 13 = .ok (.iconst 1, 1) := dk_4 (dk_at dksX4_isQuiet_0 13 rfl rfl)
theorem dX4_isQuiet_14 : decode cX4_isQuiet 14 = .ok (.putfield 38, 3) := dk_181 0 38 (dk_at dksX4_isQuiet_0 14 rfl rfl)
theorem dX4_isQuiet_17 : decode cX4_isQuiet 17 = .ok (.aload_n 0, 1) := dk_42 (dk_at dksX4_isQuiet_0 17 rfl rfl)
theorem dX4_isQuiet_18 : decode cX4_isQuiet 18 = .ok (.getfield 38, 3) := dk_180 0 38 (dk_at dksX4_isQuiet_0 18 rfl rfl)
theorem dX4_isQuiet_21 : decode cX4_isQuiet 21 = .ok (.ifCond .ne 15, 3) := dk_154 0 15 (dk_at dksX4_isQuiet_0 21 rfl rfl)
theorem dX4_isQuiet_24 : decode cX4_isQuiet 24 = .ok (.aload_n 0, 1) := dk_42 (dk_at dksX4_isQuiet_1 0 rfl rfl)
theorem dX4_isQuiet_25 : decode cX4_isQuiet 25 = .ok (.iload_n 1, 1) := dk_27 (dk_at dksX4_isQuiet_1 1 rfl rfl)
theorem dX4_isQuiet_26 : decode cX4_isQuiet 26 = .ok (.invokevirtual 112, 3) := dk_182 0 112 (dk_at dksX4_isQuiet_1 2 rfl rfl)
theorem dX4_isQuiet_29 : decode cX4_isQuiet 29 = .ok (.ifCond .eq 7, 3) := dk_153 0 7 (dk_at dksX4_isQuiet_1 5 rfl rfl)
theorem dX4_isQuiet_32 : decode cX4_isQuiet 32 = .ok (.iconst 1, 1) := dk_4 (dk_at dksX4_isQuiet_1 8 rfl rfl)
theorem dX4_isQuiet_33 : decode cX4_isQuiet 33 = .ok (.goto 4, 3) := dk_167 0 4 (dk_at dksX4_isQuiet_1 9 rfl rfl)
theorem dX4_isQuiet_36 : decode cX4_isQuiet 36 = .ok (.iconst 0, 1) := dk_3 (dk_at dksX4_isQuiet_1 12 rfl rfl)
theorem dX4_isQuiet_37 : decode cX4_isQuiet 37 = .ok (.ireturn, 1) := dk_172 (dk_at dksX4_isQuiet_1 13 rfl rfl)
abbrev cX4_quiet : ByteArray := prog_20_method_23_code
def yX4_quiet : MethodName := ⟨RX4, "quiet", "(I)Z"⟩
def dkwX4_quiet_0 : List UInt8 := [42, 27, 182, 0, 86, 42, 180, 0, 7, 6, 46, 163, 0, 7, 4, 167, 0, 4, 3, 172]
abbrev dktX4_quiet_0 : List UInt8 := dkwX4_quiet_0 ++ []
theorem dksX4_quiet_0 : cX4_quiet.data.toList.drop 0 = dktX4_quiet_0 := by decide +kernel
theorem dX4_quiet_0 : decode cX4_quiet 0 = .ok (.aload_n 0, 1) := dk_42 (dk_at dksX4_quiet_0 0 rfl rfl)
theorem dX4_quiet_1 : decode cX4_quiet 1 = .ok (.iload_n 1, 1) := dk_27 (dk_at dksX4_quiet_0 1 rfl rfl)
theorem dX4_quiet_2 : decode cX4_quiet 2 = .ok (.invokevirtual 86, 3) := dk_182 0 86 (dk_at dksX4_quiet_0 2 rfl rfl)
theorem dX4_quiet_5 : decode cX4_quiet 5 = .ok (.aload_n 0, 1) := dk_42 (dk_at dksX4_quiet_0 5 rfl rfl)
theorem dX4_quiet_6 : decode cX4_quiet 6 = .ok (.getfield 7, 3) := dk_180 0 7 (dk_at dksX4_quiet_0 6 rfl rfl)
theorem dX4_quiet_9 : decode cX4_quiet 9 = .ok (.iconst 3, 1) := dk_6 (dk_at dksX4_quiet_0 9 rfl rfl)
theorem dX4_quiet_10 : decode cX4_quiet 10 = .ok (.iaload, 1) := dk_46 (dk_at dksX4_quiet_0 10 rfl rfl)
theorem dX4_quiet_11 : decode cX4_quiet 11 = .ok (.if_icmp .gt 7, 3) := dk_163 0 7 (dk_at dksX4_quiet_0 11 rfl rfl)
theorem dX4_quiet_14 : decode cX4_quiet 14 = .ok (.iconst 1, 1) := dk_4 (dk_at dksX4_quiet_0 14 rfl rfl)
theorem dX4_quiet_15 : decode cX4_quiet 15 = .ok (.goto 4, 3) := dk_167 0 4 (dk_at dksX4_quiet_0 15 rfl rfl)
theorem dX4_quiet_18 : decode cX4_quiet 18 = .ok (.iconst 0, 1) := dk_3 (dk_at dksX4_quiet_0 18 rfl rfl)
theorem dX4_quiet_19 : decode cX4_quiet 19 = .ok (.ireturn, 1) := dk_172 (dk_at dksX4_quiet_0 19 rfl rfl)
abbrev cX4_quietCount : ByteArray := prog_20_method_59_code
def yX4_quietCount : MethodName := ⟨RX4, "quietCount", "()I"⟩
def dkwX4_quietCount_1 : List UInt8 := [182, 0, 112, 153, 0, 7, 4, 167, 0, 4, 3, 96, 60, 132, 2, 1, 167, 255, 227, 27, 172]
abbrev dktX4_quietCount_1 : List UInt8 := dkwX4_quietCount_1 ++ []
def dkwX4_quietCount_0 : List UInt8 := [42, 3, 181, 0, 38, 3, 60, 3, 61, 28, 42, 180, 0, 7, 3, 46, 162, 0, 25, 27, 42, 28]
abbrev dktX4_quietCount_0 : List UInt8 := dkwX4_quietCount_0 ++ dktX4_quietCount_1
theorem dksX4_quietCount_0 : cX4_quietCount.data.toList.drop 0 = dktX4_quietCount_0 := by decide +kernel
theorem dksX4_quietCount_1 : cX4_quietCount.data.toList.drop 22 = dktX4_quietCount_1 := dk_seg dksX4_quietCount_0 22 rfl rfl
theorem dX4_quietCount_0 : decode cX4_quietCount 0 = .ok (.aload_n 0, 1) := dk_42 (dk_at dksX4_quietCount_0 0 rfl rfl)
theorem dX4_quietCount_1 : decode cX4_quietCount 1 = .ok (.iconst 0, 1) := dk_3 (dk_at dksX4_quietCount_0 1 rfl rfl)
theorem dX4_quietCount_2 : decode cX4_quietCount 2 = .ok (.putfield 38, 3) := dk_181 0 38 (dk_at dksX4_quietCount_0 2 rfl rfl)
theorem dX4_quietCount_5 : decode cX4_quietCount 5 = .ok (.iconst 0, 1) := dk_3 (dk_at dksX4_quietCount_0 5 rfl rfl)
theorem dX4_quietCount_6 : decode cX4_quietCount 6 = .ok (.istore_n 1, 1) := dk_60 (dk_at dksX4_quietCount_0 6 rfl rfl)
theorem dX4_quietCount_7 : decode cX4_quietCount 7 = .ok (.iconst 0, 1) := dk_3 (dk_at dksX4_quietCount_0 7 rfl rfl)
theorem dX4_quietCount_8 : decode cX4_quietCount 8 = .ok (.istore_n 2, 1) := dk_61 (dk_at dksX4_quietCount_0 8 rfl rfl)
theorem dX4_quietCount_9 : decode cX4_quietCount 9 = .ok (.iload_n 2, 1) := dk_28 (dk_at dksX4_quietCount_0 9 rfl rfl)
theorem dX4_quietCount_10 : decode cX4_quietCount 10 = .ok (.aload_n 0, 1) := dk_42 (dk_at dksX4_quietCount_0 10 rfl rfl)
theorem dX4_quietCount_11 : decode cX4_quietCount 11 = .ok (.getfield 7, 3) := dk_180 0 7 (dk_at dksX4_quietCount_0 11 rfl rfl)
theorem dX4_quietCount_14 : decode cX4_quietCount 14 = .ok (.iconst 0, 1) := dk_3 (dk_at dksX4_quietCount_0 14 rfl rfl)
theorem dX4_quietCount_15 : decode cX4_quietCount 15 = .ok (.iaload, 1) := dk_46 (dk_at dksX4_quietCount_0 15 rfl rfl)
theorem dX4_quietCount_16 : decode cX4_quietCount 16 = .ok (.if_icmp .ge 25, 3) := dk_162 0 25 (dk_at dksX4_quietCount_0 16 rfl rfl)
theorem dX4_quietCount_19 : decode cX4_quietCount 19 = .ok (.iload_n 1, 1) := dk_27 (dk_at dksX4_quietCount_0 19 rfl rfl)
theorem dX4_quietCount_20 : decode cX4_quietCount 20 = .ok (.aload_n 0, 1) := dk_42 (dk_at dksX4_quietCount_0 20 rfl rfl)
theorem dX4_quietCount_21 : decode cX4_quietCount 21 = .ok (.iload_n 2, 1) := dk_28 (dk_at dksX4_quietCount_0 21 rfl rfl)
theorem dX4_quietCount_22 : decode cX4_quietCount 22 = .ok (.invokevirtual 112, 3) := dk_182 0 112 (dk_at dksX4_quietCount_1 0 rfl rfl)
theorem dX4_quietCount_25 : decode cX4_quietCount 25 = .ok (.ifCond .eq 7, 3) := dk_153 0 7 (dk_at dksX4_quietCount_1 3 rfl rfl)
theorem dX4_quietCount_28 : decode cX4_quietCount 28 = .ok (.iconst 1, 1) := dk_4 (dk_at dksX4_quietCount_1 6 rfl rfl)
theorem dX4_quietCount_29 : decode cX4_quietCount 29 = .ok (.goto 4, 3) := dk_167 0 4 (dk_at dksX4_quietCount_1 7 rfl rfl)
theorem dX4_quietCount_32 : decode cX4_quietCount 32 = .ok (.iconst 0, 1) := dk_3 (dk_at dksX4_quietCount_1 10 rfl rfl)
theorem dX4_quietCount_33 : decode cX4_quietCount 33 = .ok (.iadd, 1) := dk_96 (dk_at dksX4_quietCount_1 11 rfl rfl)
theorem dX4_quietCount_34 : decode cX4_quietCount 34 = .ok (.istore_n 1, 1) := dk_60 (dk_at dksX4_quietCount_1 12 rfl rfl)
theorem dX4_quietCount_35 : decode cX4_quietCount 35 = .ok (.iinc 2 1, 3) := dk_132 2 1 (dk_at dksX4_quietCount_1 13 rfl rfl)
theorem dX4_quietCount_38 : decode cX4_quietCount 38 = .ok (.goto (-29), 3) := dk_167 255 227 (dk_at dksX4_quietCount_1 16 rfl rfl)
theorem dX4_quietCount_41 : decode cX4_quietCount 41 = .ok (.iload_n 1, 1) := dk_27 (dk_at dksX4_quietCount_1 19 rfl rfl)
theorem dX4_quietCount_42 : decode cX4_quietCount 42 = .ok (.ireturn, 1) := dk_172 (dk_at dksX4_quietCount_1 20 rfl rfl)
abbrev cX4_addTenant : ByteArray := prog_20_method_60_code
def yX4_addTenant : MethodName := ⟨RX4, "addTenant", "(I)I"⟩
def dkwX4_addTenant_0 : List UInt8 := [42, 182, 0, 134, 42, 42, 27, 182, 0, 165, 5, 182, 0, 141, 172]
abbrev dktX4_addTenant_0 : List UInt8 := dkwX4_addTenant_0 ++ []
theorem dksX4_addTenant_0 : cX4_addTenant.data.toList.drop 0 = dktX4_addTenant_0 := by decide +kernel
theorem dX4_addTenant_0 : decode cX4_addTenant 0 = .ok (.aload_n 0, 1) := dk_42 (dk_at dksX4_addTenant_0 0 rfl rfl)
theorem dX4_addTenant_1 : decode cX4_addTenant 1 = .ok (.invokevirtual 134, 3) := dk_182 0 134 (dk_at dksX4_addTenant_0 1 rfl rfl)
theorem dX4_addTenant_4 : decode cX4_addTenant 4 = .ok (.aload_n 0, 1) := dk_42 (dk_at dksX4_addTenant_0 4 rfl rfl)
theorem dX4_addTenant_5 : decode cX4_addTenant 5 = .ok (.aload_n 0, 1) := dk_42 (dk_at dksX4_addTenant_0 5 rfl rfl)
theorem dX4_addTenant_6 : decode cX4_addTenant 6 = .ok (.iload_n 1, 1) := dk_27 (dk_at dksX4_addTenant_0 6 rfl rfl)
theorem dX4_addTenant_7 : decode cX4_addTenant 7 = .ok (.invokevirtual 165, 3) := dk_182 0 165 (dk_at dksX4_addTenant_0 7 rfl rfl)
theorem dX4_addTenant_10 : decode cX4_addTenant 10 = .ok (.iconst 2, 1) := dk_5 (dk_at dksX4_addTenant_0 10 rfl rfl)
theorem dX4_addTenant_11 : decode cX4_addTenant 11 = .ok (.invokevirtual 141, 3) := dk_182 0 141 (dk_at dksX4_addTenant_0 11 rfl rfl)
theorem dX4_addTenant_14 : decode cX4_addTenant 14 = .ok (.ireturn, 1) := dk_172 (dk_at dksX4_addTenant_0 14 rfl rfl)
abbrev cX4_addsTenant : ByteArray := prog_20_method_27_code
def yX4_addsTenant : MethodName := ⟨RX4, "addsTenant", "(I)I"⟩
def dkwX4_addsTenant_3 : List UInt8 := [42, 180, 0, 7, 16, 6, 92, 46, 27, 96, 79, 42, 28, 182, 0, 99, 172]
abbrev dktX4_addsTenant_3 : List UInt8 := dkwX4_addsTenant_3 ++ []
def dkwX4_addsTenant_2 : List UInt8 := [79, 42, 180, 0, 7, 16, 86, 5, 28, 104, 96, 4, 96, 3, 79, 42, 180, 0, 7, 5, 28, 4, 96, 79]
abbrev dktX4_addsTenant_2 : List UInt8 := dkwX4_addsTenant_2 ++ dktX4_addsTenant_3
def dkwX4_addsTenant_1 : List UInt8 := [160, 0, 11, 42, 6, 16, 8, 182, 0, 93, 172, 42, 180, 0, 7, 16, 86, 5, 28, 104, 96, 3, 96, 27]
abbrev dktX4_addsTenant_1 : List UInt8 := dkwX4_addsTenant_1 ++ dktX4_addsTenant_2
def dkwX4_addsTenant_0 : List UInt8 := [27, 3, 16, 99, 184, 0, 66, 154, 0, 5, 2, 172, 42, 180, 0, 7, 5, 46, 61, 28, 16, 8]
abbrev dktX4_addsTenant_0 : List UInt8 := dkwX4_addsTenant_0 ++ dktX4_addsTenant_1
theorem dksX4_addsTenant_0 : cX4_addsTenant.data.toList.drop 0 = dktX4_addsTenant_0 := by decide +kernel
theorem dksX4_addsTenant_1 : cX4_addsTenant.data.toList.drop 22 = dktX4_addsTenant_1 := dk_seg dksX4_addsTenant_0 22 rfl rfl
theorem dksX4_addsTenant_2 : cX4_addsTenant.data.toList.drop 46 = dktX4_addsTenant_2 := dk_seg dksX4_addsTenant_1 24 rfl rfl
theorem dksX4_addsTenant_3 : cX4_addsTenant.data.toList.drop 70 = dktX4_addsTenant_3 := dk_seg dksX4_addsTenant_2 24 rfl rfl
theorem dX4_addsTenant_0 : decode cX4_addsTenant 0 = .ok (.iload_n 1, 1) := dk_27 (dk_at dksX4_addsTenant_0 0 rfl rfl)
theorem dX4_addsTenant_1 : decode cX4_addsTenant 1 = .ok (.iconst 0, 1) := dk_3 (dk_at dksX4_addsTenant_0 1 rfl rfl)
theorem dX4_addsTenant_2 : decode cX4_addsTenant 2 = .ok (.bipush 99, 2) := dk_16 99 (dk_at dksX4_addsTenant_0 2 rfl rfl)
theorem dX4_addsTenant_4 : decode cX4_addsTenant 4 = .ok (.invokestatic 66, 3) := dk_184 0 66 (dk_at dksX4_addsTenant_0 4 rfl rfl)
theorem dX4_addsTenant_7 : decode cX4_addsTenant 7 = .ok (.ifCond .ne 5, 3) := dk_154 0 5 (dk_at dksX4_addsTenant_0 7 rfl rfl)
theorem dX4_addsTenant_10 : decode cX4_addsTenant 10 = .ok (.iconst (-1), 1) := dk_2 (dk_at dksX4_addsTenant_0 10 rfl rfl)
theorem dX4_addsTenant_11 : decode cX4_addsTenant 11 = .ok (.ireturn, 1) := dk_172 (dk_at dksX4_addsTenant_0 11 rfl rfl)
theorem dX4_addsTenant_12 : decode cX4_addsTenant 12 = .ok (.aload_n 0, 1) := dk_42 (dk_at dksX4_addsTenant_0 12 rfl rfl)
theorem dX4_addsTenant_13 : decode cX4_addsTenant 13 = .ok (.getfield 7, 3) := dk_180 0 7 (dk_at dksX4_addsTenant_0 13 rfl rfl)
theorem dX4_addsTenant_16 : decode cX4_addsTenant 16 = .ok (.iconst 2, 1) := dk_5 (dk_at dksX4_addsTenant_0 16 rfl rfl)
theorem dX4_addsTenant_17 : decode cX4_addsTenant 17 = .ok (.iaload, 1) := dk_46 (dk_at dksX4_addsTenant_0 17 rfl rfl)
theorem dX4_addsTenant_18 : decode cX4_addsTenant 18 = .ok (.istore_n 2, 1) := dk_61 (dk_at dksX4_addsTenant_0 18 rfl rfl)
theorem dX4_addsTenant_19 : decode cX4_addsTenant 19 = .ok (.iload_n 2, 1) := dk_28 (dk_at dksX4_addsTenant_0 19 rfl rfl)
theorem dX4_addsTenant_20 : decode cX4_addsTenant 20 = .ok (.bipush 8, 2) := dk_16 8 (dk_at dksX4_addsTenant_0 20 rfl rfl)
theorem dX4_addsTenant_22 : decode cX4_addsTenant 22 = .ok (.if_icmp .ne 11, 3) := dk_160 0 11 (dk_at dksX4_addsTenant_1 0 rfl rfl)
theorem dX4_addsTenant_25 : decode cX4_addsTenant 25 = .ok (.aload_n 0, 1) := dk_42 (dk_at dksX4_addsTenant_1 3 rfl rfl)
theorem dX4_addsTenant_26 : decode cX4_addsTenant 26 = .ok (.iconst 3, 1) := dk_6 (dk_at dksX4_addsTenant_1 4 rfl rfl)
theorem dX4_addsTenant_27 : decode cX4_addsTenant 27 = .ok (.bipush 8, 2) := dk_16 8 (dk_at dksX4_addsTenant_1 5 rfl rfl)
theorem dX4_addsTenant_29 : decode cX4_addsTenant 29 = .ok (.invokevirtual 93, 3) := dk_182 0 93 (dk_at dksX4_addsTenant_1 7 rfl rfl)
theorem dX4_addsTenant_32 : decode cX4_addsTenant 32 = .ok (.ireturn, 1) := dk_172 (dk_at dksX4_addsTenant_1 10 rfl rfl)
theorem dX4_addsTenant_33 : decode cX4_addsTenant 33 = .ok (.aload_n 0, 1) := dk_42 (dk_at dksX4_addsTenant_1 11 rfl rfl)
theorem dX4_addsTenant_34 : decode cX4_addsTenant 34 = .ok (.getfield 7, 3) := dk_180 0 7 (dk_at dksX4_addsTenant_1 12 rfl rfl)
theorem dX4_addsTenant_37 : decode cX4_addsTenant 37 = .ok (.bipush 86, 2) := dk_16 86 (dk_at dksX4_addsTenant_1 15 rfl rfl)
theorem dX4_addsTenant_39 : decode cX4_addsTenant 39 = .ok (.iconst 2, 1) := dk_5 (dk_at dksX4_addsTenant_1 17 rfl rfl)
theorem dX4_addsTenant_40 : decode cX4_addsTenant 40 = .ok (.iload_n 2, 1) := dk_28 (dk_at dksX4_addsTenant_1 18 rfl rfl)
theorem dX4_addsTenant_41 : decode cX4_addsTenant 41 = .ok (.imul, 1) := dk_104 (dk_at dksX4_addsTenant_1 19 rfl rfl)
theorem dX4_addsTenant_42 : decode cX4_addsTenant 42 = .ok (.iadd, 1) := dk_96 (dk_at dksX4_addsTenant_1 20 rfl rfl)
theorem dX4_addsTenant_43 : decode cX4_addsTenant 43 = .ok (.iconst 0, 1) := dk_3 (dk_at dksX4_addsTenant_1 21 rfl rfl)
theorem dX4_addsTenant_44 : decode cX4_addsTenant 44 = .ok (.iadd, 1) := dk_96 (dk_at dksX4_addsTenant_1 22 rfl rfl)
theorem dX4_addsTenant_45 : decode cX4_addsTenant 45 = .ok (.iload_n 1, 1) := dk_27 (dk_at dksX4_addsTenant_1 23 rfl rfl)
theorem dX4_addsTenant_46 : decode cX4_addsTenant 46 = .ok (.iastore, 1) := dk_79 (dk_at dksX4_addsTenant_2 0 rfl rfl)
theorem dX4_addsTenant_47 : decode cX4_addsTenant 47 = .ok (.aload_n 0, 1) := dk_42 (dk_at dksX4_addsTenant_2 1 rfl rfl)
theorem dX4_addsTenant_48 : decode cX4_addsTenant 48 = .ok (.getfield 7, 3) := dk_180 0 7 (dk_at dksX4_addsTenant_2 2 rfl rfl)
theorem dX4_addsTenant_51 : decode cX4_addsTenant 51 = .ok (.bipush 86, 2) := dk_16 86 (dk_at dksX4_addsTenant_2 5 rfl rfl)
theorem dX4_addsTenant_53 : decode cX4_addsTenant 53 = .ok (.iconst 2, 1) := dk_5 (dk_at dksX4_addsTenant_2 7 rfl rfl)
theorem dX4_addsTenant_54 : decode cX4_addsTenant 54 = .ok (.iload_n 2, 1) := dk_28 (dk_at dksX4_addsTenant_2 8 rfl rfl)
theorem dX4_addsTenant_55 : decode cX4_addsTenant 55 = .ok (.imul, 1) := dk_104 (dk_at dksX4_addsTenant_2 9 rfl rfl)
theorem dX4_addsTenant_56 : decode cX4_addsTenant 56 = .ok (.iadd, 1) := dk_96 (dk_at dksX4_addsTenant_2 10 rfl rfl)
theorem dX4_addsTenant_57 : decode cX4_addsTenant 57 = .ok (.iconst 1, 1) := dk_4 (dk_at dksX4_addsTenant_2 11 rfl rfl)
theorem dX4_addsTenant_58 : decode cX4_addsTenant 58 = .ok (.iadd, 1) := dk_96 (dk_at dksX4_addsTenant_2 12 rfl rfl)
theorem dX4_addsTenant_59 : decode cX4_addsTenant 59 = .ok (.iconst 0, 1) := dk_3 (dk_at dksX4_addsTenant_2 13 rfl rfl)
theorem dX4_addsTenant_60 : decode cX4_addsTenant 60 = .ok (.iastore, 1) := dk_79 (dk_at dksX4_addsTenant_2 14 rfl rfl)
theorem dX4_addsTenant_61 : decode cX4_addsTenant 61 = .ok (.aload_n 0, 1) := dk_42 (dk_at dksX4_addsTenant_2 15 rfl rfl)
theorem dX4_addsTenant_62 : decode cX4_addsTenant 62 = .ok (.getfield 7, 3) := dk_180 0 7 (dk_at dksX4_addsTenant_2 16 rfl rfl)
theorem dX4_addsTenant_65 : decode cX4_addsTenant 65 = .ok (.iconst 2, 1) := dk_5 (dk_at dksX4_addsTenant_2 19 rfl rfl)
theorem dX4_addsTenant_66 : decode cX4_addsTenant 66 = .ok (.iload_n 2, 1) := dk_28 (dk_at dksX4_addsTenant_2 20 rfl rfl)
theorem dX4_addsTenant_67 : decode cX4_addsTenant 67 = .ok (.iconst 1, 1) := dk_4 (dk_at dksX4_addsTenant_2 21 rfl rfl)
theorem dX4_addsTenant_68 : decode cX4_addsTenant 68 = .ok (.iadd, 1) := dk_96 (dk_at dksX4_addsTenant_2 22 rfl rfl)
theorem dX4_addsTenant_69 : decode cX4_addsTenant 69 = .ok (.iastore, 1) := dk_79 (dk_at dksX4_addsTenant_2 23 rfl rfl)
theorem dX4_addsTenant_70 : decode cX4_addsTenant 70 = .ok (.aload_n 0, 1) := dk_42 (dk_at dksX4_addsTenant_3 0 rfl rfl)
theorem dX4_addsTenant_71 : decode cX4_addsTenant 71 = .ok (.getfield 7, 3) := dk_180 0 7 (dk_at dksX4_addsTenant_3 1 rfl rfl)
theorem dX4_addsTenant_74 : decode cX4_addsTenant 74 = .ok (.bipush 6, 2) := dk_16 6 (dk_at dksX4_addsTenant_3 4 rfl rfl)
theorem dX4_addsTenant_76 : decode cX4_addsTenant 76 = .ok (.dup2, 1) := dk_92 (dk_at dksX4_addsTenant_3 6 rfl rfl)
theorem dX4_addsTenant_77 : decode cX4_addsTenant 77 = .ok (.iaload, 1) := dk_46 (dk_at dksX4_addsTenant_3 7 rfl rfl)
theorem dX4_addsTenant_78 : decode cX4_addsTenant 78 = .ok (.iload_n 1, 1) := dk_27 (dk_at dksX4_addsTenant_3 8 rfl rfl)
theorem dX4_addsTenant_79 : decode cX4_addsTenant 79 = .ok (.iadd, 1) := dk_96 (dk_at dksX4_addsTenant_3 9 rfl rfl)
theorem dX4_addsTenant_80 : decode cX4_addsTenant 80 = .ok (.iastore, 1) := dk_79 (dk_at dksX4_addsTenant_3 10 rfl rfl)
theorem dX4_addsTenant_81 : decode cX4_addsTenant 81 = .ok (.aload_n 0, 1) := dk_42 (dk_at dksX4_addsTenant_3 11 rfl rfl)
theorem dX4_addsTenant_82 : decode cX4_addsTenant 82 = .ok (.iload_n 2, 1) := dk_28 (dk_at dksX4_addsTenant_3 12 rfl rfl)
theorem dX4_addsTenant_83 : decode cX4_addsTenant 83 = .ok (.invokevirtual 99, 3) := dk_182 0 99 (dk_at dksX4_addsTenant_3 13 rfl rfl)
theorem dX4_addsTenant_86 : decode cX4_addsTenant 86 = .ok (.ireturn, 1) := dk_172 (dk_at dksX4_addsTenant_3 16 rfl rfl)
abbrev cX4_giveCoins : ByteArray := prog_20_method_61_code
def yX4_giveCoins : MethodName := ⟨RX4, "giveCoins", "(II)I"⟩
def dkwX4_giveCoins_0 : List UInt8 := [42, 182, 0, 134, 42, 42, 27, 28, 182, 0, 168, 4, 182, 0, 141, 172]
abbrev dktX4_giveCoins_0 : List UInt8 := dkwX4_giveCoins_0 ++ []
theorem dksX4_giveCoins_0 : cX4_giveCoins.data.toList.drop 0 = dktX4_giveCoins_0 := by decide +kernel
theorem dX4_giveCoins_0 : decode cX4_giveCoins 0 = .ok (.aload_n 0, 1) := dk_42 (dk_at dksX4_giveCoins_0 0 rfl rfl)
theorem dX4_giveCoins_1 : decode cX4_giveCoins 1 = .ok (.invokevirtual 134, 3) := dk_182 0 134 (dk_at dksX4_giveCoins_0 1 rfl rfl)
theorem dX4_giveCoins_4 : decode cX4_giveCoins 4 = .ok (.aload_n 0, 1) := dk_42 (dk_at dksX4_giveCoins_0 4 rfl rfl)
theorem dX4_giveCoins_5 : decode cX4_giveCoins 5 = .ok (.aload_n 0, 1) := dk_42 (dk_at dksX4_giveCoins_0 5 rfl rfl)
theorem dX4_giveCoins_6 : decode cX4_giveCoins 6 = .ok (.iload_n 1, 1) := dk_27 (dk_at dksX4_giveCoins_0 6 rfl rfl)
theorem dX4_giveCoins_7 : decode cX4_giveCoins 7 = .ok (.iload_n 2, 1) := dk_28 (dk_at dksX4_giveCoins_0 7 rfl rfl)
theorem dX4_giveCoins_8 : decode cX4_giveCoins 8 = .ok (.invokevirtual 168, 3) := dk_182 0 168 (dk_at dksX4_giveCoins_0 8 rfl rfl)
theorem dX4_giveCoins_11 : decode cX4_giveCoins 11 = .ok (.iconst 1, 1) := dk_4 (dk_at dksX4_giveCoins_0 11 rfl rfl)
theorem dX4_giveCoins_12 : decode cX4_giveCoins 12 = .ok (.invokevirtual 141, 3) := dk_182 0 141 (dk_at dksX4_giveCoins_0 12 rfl rfl)
theorem dX4_giveCoins_15 : decode cX4_giveCoins 15 = .ok (.ireturn, 1) := dk_172 (dk_at dksX4_giveCoins_0 15 rfl rfl)
abbrev cX4_gives : ByteArray := prog_20_method_28_code
def yX4_gives : MethodName := ⟨RX4, "gives", "(II)I"⟩
def dkwX4_gives_2 : List UInt8 := [28, 96, 79, 42, 42, 27, 3, 182, 0, 106, 182, 0, 99, 172]
abbrev dktX4_gives_2 : List UInt8 := dkwX4_gives_2 ++ []
def dkwX4_gives_1 : List UInt8 := [180, 0, 7, 16, 86, 5, 27, 104, 96, 3, 96, 92, 46, 28, 96, 79, 42, 180, 0, 7, 16, 6, 92, 46]
abbrev dktX4_gives_1 : List UInt8 := dkwX4_gives_1 ++ dktX4_gives_2
def dkwX4_gives_0 : List UInt8 := [42, 27, 182, 0, 102, 154, 0, 5, 2, 172, 28, 4, 16, 99, 184, 0, 66, 154, 0, 6, 16, 254, 172, 42]
abbrev dktX4_gives_0 : List UInt8 := dkwX4_gives_0 ++ dktX4_gives_1
theorem dksX4_gives_0 : cX4_gives.data.toList.drop 0 = dktX4_gives_0 := by decide +kernel
theorem dksX4_gives_1 : cX4_gives.data.toList.drop 24 = dktX4_gives_1 := dk_seg dksX4_gives_0 24 rfl rfl
theorem dksX4_gives_2 : cX4_gives.data.toList.drop 48 = dktX4_gives_2 := dk_seg dksX4_gives_1 24 rfl rfl
theorem dX4_gives_0 : decode cX4_gives 0 = .ok (.aload_n 0, 1) := dk_42 (dk_at dksX4_gives_0 0 rfl rfl)
theorem dX4_gives_1 : decode cX4_gives 1 = .ok (.iload_n 1, 1) := dk_27 (dk_at dksX4_gives_0 1 rfl rfl)
theorem dX4_gives_2 : decode cX4_gives 2 = .ok (.invokevirtual 102, 3) := dk_182 0 102 (dk_at dksX4_gives_0 2 rfl rfl)
theorem dX4_gives_5 : decode cX4_gives 5 = .ok (.ifCond .ne 5, 3) := dk_154 0 5 (dk_at dksX4_gives_0 5 rfl rfl)
theorem dX4_gives_8 : decode cX4_gives 8 = .ok (.iconst (-1), 1) := dk_2 (dk_at dksX4_gives_0 8 rfl rfl)
theorem dX4_gives_9 : decode cX4_gives 9 = .ok (.ireturn, 1) := dk_172 (dk_at dksX4_gives_0 9 rfl rfl)
theorem dX4_gives_10 : decode cX4_gives 10 = .ok (.iload_n 2, 1) := dk_28 (dk_at dksX4_gives_0 10 rfl rfl)
theorem dX4_gives_11 : decode cX4_gives 11 = .ok (.iconst 1, 1) := dk_4 (dk_at dksX4_gives_0 11 rfl rfl)
theorem dX4_gives_12 : decode cX4_gives 12 = .ok (.bipush 99, 2) := dk_16 99 (dk_at dksX4_gives_0 12 rfl rfl)
theorem dX4_gives_14 : decode cX4_gives 14 = .ok (.invokestatic 66, 3) := dk_184 0 66 (dk_at dksX4_gives_0 14 rfl rfl)
theorem dX4_gives_17 : decode cX4_gives 17 = .ok (.ifCond .ne 6, 3) := dk_154 0 6 (dk_at dksX4_gives_0 17 rfl rfl)
theorem dX4_gives_20 : decode cX4_gives 20 = .ok (.bipush (-2), 2) := dk_16 254 (dk_at dksX4_gives_0 20 rfl rfl)
theorem dX4_gives_22 : decode cX4_gives 22 = .ok (.ireturn, 1) := dk_172 (dk_at dksX4_gives_0 22 rfl rfl)
theorem dX4_gives_23 : decode cX4_gives 23 = .ok (.aload_n 0, 1) := dk_42 (dk_at dksX4_gives_0 23 rfl rfl)
theorem dX4_gives_24 : decode cX4_gives 24 = .ok (.getfield 7, 3) := dk_180 0 7 (dk_at dksX4_gives_1 0 rfl rfl)
theorem dX4_gives_27 : decode cX4_gives 27 = .ok (.bipush 86, 2) := dk_16 86 (dk_at dksX4_gives_1 3 rfl rfl)
theorem dX4_gives_29 : decode cX4_gives 29 = .ok (.iconst 2, 1) := dk_5 (dk_at dksX4_gives_1 5 rfl rfl)
theorem dX4_gives_30 : decode cX4_gives 30 = .ok (.iload_n 1, 1) := dk_27 (dk_at dksX4_gives_1 6 rfl rfl)
theorem dX4_gives_31 : decode cX4_gives 31 = .ok (.imul, 1) := dk_104 (dk_at dksX4_gives_1 7 rfl rfl)
theorem dX4_gives_32 : decode cX4_gives 32 = .ok (.iadd, 1) := dk_96 (dk_at dksX4_gives_1 8 rfl rfl)
theorem dX4_gives_33 : decode cX4_gives 33 = .ok (.iconst 0, 1) := dk_3 (dk_at dksX4_gives_1 9 rfl rfl)
theorem dX4_gives_34 : decode cX4_gives 34 = .ok (.iadd, 1) := dk_96 (dk_at dksX4_gives_1 10 rfl rfl)
theorem dX4_gives_35 : decode cX4_gives 35 = .ok (.dup2, 1) := dk_92 (dk_at dksX4_gives_1 11 rfl rfl)
theorem dX4_gives_36 : decode cX4_gives 36 = .ok (.iaload, 1) := dk_46 (dk_at dksX4_gives_1 12 rfl rfl)
theorem dX4_gives_37 : decode cX4_gives 37 = .ok (.iload_n 2, 1) := dk_28 (dk_at dksX4_gives_1 13 rfl rfl)
theorem dX4_gives_38 : decode cX4_gives 38 = .ok (.iadd, 1) := dk_96 (dk_at dksX4_gives_1 14 rfl rfl)
theorem dX4_gives_39 : decode cX4_gives 39 = .ok (.iastore, 1) := dk_79 (dk_at dksX4_gives_1 15 rfl rfl)
theorem dX4_gives_40 : decode cX4_gives 40 = .ok (.aload_n 0, 1) := dk_42 (dk_at dksX4_gives_1 16 rfl rfl)
theorem dX4_gives_41 : decode cX4_gives 41 = .ok (.getfield 7, 3) := dk_180 0 7 (dk_at dksX4_gives_1 17 rfl rfl)
theorem dX4_gives_44 : decode cX4_gives 44 = .ok (.bipush 6, 2) := dk_16 6 (dk_at dksX4_gives_1 20 rfl rfl)
theorem dX4_gives_46 : decode cX4_gives 46 = .ok (.dup2, 1) := dk_92 (dk_at dksX4_gives_1 22 rfl rfl)
theorem dX4_gives_47 : decode cX4_gives 47 = .ok (.iaload, 1) := dk_46 (dk_at dksX4_gives_1 23 rfl rfl)
theorem dX4_gives_48 : decode cX4_gives 48 = .ok (.iload_n 2, 1) := dk_28 (dk_at dksX4_gives_2 0 rfl rfl)
theorem dX4_gives_49 : decode cX4_gives 49 = .ok (.iadd, 1) := dk_96 (dk_at dksX4_gives_2 1 rfl rfl)
theorem dX4_gives_50 : decode cX4_gives 50 = .ok (.iastore, 1) := dk_79 (dk_at dksX4_gives_2 2 rfl rfl)
theorem dX4_gives_51 : decode cX4_gives 51 = .ok (.aload_n 0, 1) := dk_42 (dk_at dksX4_gives_2 3 rfl rfl)
theorem dX4_gives_52 : decode cX4_gives 52 = .ok (.aload_n 0, 1) := dk_42 (dk_at dksX4_gives_2 4 rfl rfl)
theorem dX4_gives_53 : decode cX4_gives 53 = .ok (.iload_n 1, 1) := dk_27 (dk_at dksX4_gives_2 5 rfl rfl)
theorem dX4_gives_54 : decode cX4_gives 54 = .ok (.iconst 0, 1) := dk_3 (dk_at dksX4_gives_2 6 rfl rfl)
theorem dX4_gives_55 : decode cX4_gives 55 = .ok (.invokevirtual 106, 3) := dk_182 0 106 (dk_at dksX4_gives_2 7 rfl rfl)
theorem dX4_gives_58 : decode cX4_gives 58 = .ok (.invokevirtual 99, 3) := dk_182 0 99 (dk_at dksX4_gives_2 10 rfl rfl)
theorem dX4_gives_61 : decode cX4_gives 61 = .ok (.ireturn, 1) := dk_172 (dk_at dksX4_gives_2 13 rfl rfl)
abbrev cX4_isTenant : ByteArray := prog_20_method_13_code
def yX4_isTenant : MethodName := ⟨RX4, "isTenant", "(I)Z"⟩
def dkwX4_isTenant_0 : List UInt8 := [27, 3, 42, 180, 0, 7, 5, 46, 4, 100, 184, 0, 66, 172]
abbrev dktX4_isTenant_0 : List UInt8 := dkwX4_isTenant_0 ++ []
theorem dksX4_isTenant_0 : cX4_isTenant.data.toList.drop 0 = dktX4_isTenant_0 := by decide +kernel
theorem dX4_isTenant_0 : decode cX4_isTenant 0 = .ok (.iload_n 1, 1) := dk_27 (dk_at dksX4_isTenant_0 0 rfl rfl)
theorem dX4_isTenant_1 : decode cX4_isTenant 1 = .ok (.iconst 0, 1) := dk_3 (dk_at dksX4_isTenant_0 1 rfl rfl)
theorem dX4_isTenant_2 : decode cX4_isTenant 2 = .ok (.aload_n 0, 1) := dk_42 (dk_at dksX4_isTenant_0 2 rfl rfl)
theorem dX4_isTenant_3 : decode cX4_isTenant 3 = .ok (.getfield 7, 3) := dk_180 0 7 (dk_at dksX4_isTenant_0 3 rfl rfl)
theorem dX4_isTenant_6 : decode cX4_isTenant 6 = .ok (.iconst 2, 1) := dk_5 (dk_at dksX4_isTenant_0 6 rfl rfl)
theorem dX4_isTenant_7 : decode cX4_isTenant 7 = .ok (.iaload, 1) := dk_46 (dk_at dksX4_isTenant_0 7 rfl rfl)
theorem dX4_isTenant_8 : decode cX4_isTenant 8 = .ok (.iconst 1, 1) := dk_4 (dk_at dksX4_isTenant_0 8 rfl rfl)
theorem dX4_isTenant_9 : decode cX4_isTenant 9 = .ok (.isub, 1) := dk_100 (dk_at dksX4_isTenant_0 9 rfl rfl)
theorem dX4_isTenant_10 : decode cX4_isTenant 10 = .ok (.invokestatic 66, 3) := dk_184 0 66 (dk_at dksX4_isTenant_0 10 rfl rfl)
theorem dX4_isTenant_13 : decode cX4_isTenant 13 = .ok (.ireturn, 1) := dk_172 (dk_at dksX4_isTenant_0 13 rfl rfl)
abbrev cX4_tenant : ByteArray := prog_20_method_16_code
def yX4_tenant : MethodName := ⟨RX4, "tenant", "(II)I"⟩
def dkwX4_tenant_0 : List UInt8 := [42, 180, 0, 7, 16, 86, 5, 27, 104, 96, 28, 96, 46, 172]
abbrev dktX4_tenant_0 : List UInt8 := dkwX4_tenant_0 ++ []
theorem dksX4_tenant_0 : cX4_tenant.data.toList.drop 0 = dktX4_tenant_0 := by decide +kernel
theorem dX4_tenant_0 : decode cX4_tenant 0 = .ok (.aload_n 0, 1) := dk_42 (dk_at dksX4_tenant_0 0 rfl rfl)
theorem dX4_tenant_1 : decode cX4_tenant 1 = .ok (.getfield 7, 3) := dk_180 0 7 (dk_at dksX4_tenant_0 1 rfl rfl)
theorem dX4_tenant_4 : decode cX4_tenant 4 = .ok (.bipush 86, 2) := dk_16 86 (dk_at dksX4_tenant_0 4 rfl rfl)
theorem dX4_tenant_6 : decode cX4_tenant 6 = .ok (.iconst 2, 1) := dk_5 (dk_at dksX4_tenant_0 6 rfl rfl)
theorem dX4_tenant_7 : decode cX4_tenant 7 = .ok (.iload_n 1, 1) := dk_27 (dk_at dksX4_tenant_0 7 rfl rfl)
theorem dX4_tenant_8 : decode cX4_tenant 8 = .ok (.imul, 1) := dk_104 (dk_at dksX4_tenant_0 8 rfl rfl)
theorem dX4_tenant_9 : decode cX4_tenant 9 = .ok (.iadd, 1) := dk_96 (dk_at dksX4_tenant_0 9 rfl rfl)
theorem dX4_tenant_10 : decode cX4_tenant 10 = .ok (.iload_n 2, 1) := dk_28 (dk_at dksX4_tenant_0 10 rfl rfl)
theorem dX4_tenant_11 : decode cX4_tenant 11 = .ok (.iadd, 1) := dk_96 (dk_at dksX4_tenant_0 11 rfl rfl)
theorem dX4_tenant_12 : decode cX4_tenant 12 = .ok (.iaload, 1) := dk_46 (dk_at dksX4_tenant_0 12 rfl rfl)
theorem dX4_tenant_13 : decode cX4_tenant 13 = .ok (.ireturn, 1) := dk_172 (dk_at dksX4_tenant_0 13 rfl rfl)
abbrev cX4_tenantCount : ByteArray := prog_20_method_62_code
def yX4_tenantCount : MethodName := ⟨RX4, "tenantCount", "()I"⟩
def dkwX4_tenantCount_0 : List UInt8 := [42, 3, 181, 0, 38, 42, 180, 0, 7, 5, 46, 172]
abbrev dktX4_tenantCount_0 : List UInt8 := dkwX4_tenantCount_0 ++ []
theorem dksX4_tenantCount_0 : cX4_tenantCount.data.toList.drop 0 = dktX4_tenantCount_0 := by decide +kernel
theorem dX4_tenantCount_0 : decode cX4_tenantCount 0 = .ok (.aload_n 0, 1) := dk_42 (dk_at dksX4_tenantCount_0 0 rfl rfl)
theorem dX4_tenantCount_1 : decode cX4_tenantCount 1 = .ok (.iconst 0, 1) := dk_3 (dk_at dksX4_tenantCount_0 1 rfl rfl)
theorem dX4_tenantCount_2 : decode cX4_tenantCount 2 = .ok (.putfield 38, 3) := dk_181 0 38 (dk_at dksX4_tenantCount_0 2 rfl rfl)
theorem dX4_tenantCount_5 : decode cX4_tenantCount 5 = .ok (.aload_n 0, 1) := dk_42 (dk_at dksX4_tenantCount_0 5 rfl rfl)
theorem dX4_tenantCount_6 : decode cX4_tenantCount 6 = .ok (.getfield 7, 3) := dk_180 0 7 (dk_at dksX4_tenantCount_0 6 rfl rfl)
theorem dX4_tenantCount_9 : decode cX4_tenantCount 9 = .ok (.iconst 2, 1) := dk_5 (dk_at dksX4_tenantCount_0 9 rfl rfl)
theorem dX4_tenantCount_10 : decode cX4_tenantCount 10 = .ok (.iaload, 1) := dk_46 (dk_at dksX4_tenantCount_0 10 rfl rfl)
theorem dX4_tenantCount_11 : decode cX4_tenantCount 11 = .ok (.ireturn, 1) := dk_172 (dk_at dksX4_tenantCount_0 11 rfl rfl)
abbrev cX4_coinsOf : ByteArray := prog_20_method_64_code
def yX4_coinsOf : MethodName := ⟨RX4, "coinsOf", "(I)I"⟩
def dkwX4_coinsOf_0 : List UInt8 := [42, 27, 3, 182, 0, 171, 172]
abbrev dktX4_coinsOf_0 : List UInt8 := dkwX4_coinsOf_0 ++ []
theorem dksX4_coinsOf_0 : cX4_coinsOf.data.toList.drop 0 = dktX4_coinsOf_0 := by decide +kernel
theorem dX4_coinsOf_0 : decode cX4_coinsOf 0 = .ok (.aload_n 0, 1) := dk_42 (dk_at dksX4_coinsOf_0 0 rfl rfl)
theorem dX4_coinsOf_1 : decode cX4_coinsOf 1 = .ok (.iload_n 1, 1) := dk_27 (dk_at dksX4_coinsOf_0 1 rfl rfl)
theorem dX4_coinsOf_2 : decode cX4_coinsOf 2 = .ok (.iconst 0, 1) := dk_3 (dk_at dksX4_coinsOf_0 2 rfl rfl)
theorem dX4_coinsOf_3 : decode cX4_coinsOf 3 = .ok (.invokevirtual 171, 3) := dk_182 0 171 (dk_at dksX4_coinsOf_0 3 rfl rfl)
theorem dX4_coinsOf_6 : decode cX4_coinsOf 6 = .ok (.ireturn, 1) := dk_172 (dk_at dksX4_coinsOf_0 6 rfl rfl)
abbrev cX4_askedTenant : ByteArray := prog_20_method_63_code
def yX4_askedTenant : MethodName := ⟨RX4, "askedTenant", "(II)I"⟩
def dkwX4_askedTenant_1 : List UInt8 := [3, 167, 0, 9, 42, 27, 28, 182, 0, 106, 172]
abbrev dktX4_askedTenant_1 : List UInt8 := dkwX4_askedTenant_1 ++ []
def dkwX4_askedTenant_0 : List UInt8 := [42, 42, 27, 182, 0, 102, 153, 0, 7, 3, 167, 0, 4, 4, 181, 0, 38, 42, 180, 0, 38, 158, 0, 7]
abbrev dktX4_askedTenant_0 : List UInt8 := dkwX4_askedTenant_0 ++ dktX4_askedTenant_1
theorem dksX4_askedTenant_0 : cX4_askedTenant.data.toList.drop 0 = dktX4_askedTenant_0 := by decide +kernel
theorem dksX4_askedTenant_1 : cX4_askedTenant.data.toList.drop 24 = dktX4_askedTenant_1 := dk_seg dksX4_askedTenant_0 24 rfl rfl
theorem dX4_askedTenant_0 : decode cX4_askedTenant 0 = .ok (.aload_n 0, 1) := dk_42 (dk_at dksX4_askedTenant_0 0 rfl rfl)
theorem dX4_askedTenant_1 : decode cX4_askedTenant 1 = .ok (.aload_n 0, 1) := dk_42 (dk_at dksX4_askedTenant_0 1 rfl rfl)
theorem dX4_askedTenant_2 : decode cX4_askedTenant 2 = .ok (.iload_n 1, 1) := dk_27 (dk_at dksX4_askedTenant_0 2 rfl rfl)
theorem dX4_askedTenant_3 : decode cX4_askedTenant 3 = .ok (.invokevirtual 102, 3) := dk_182 0 102 (dk_at dksX4_askedTenant_0 3 rfl rfl)
theorem dX4_askedTenant_6 : decode cX4_askedTenant 6 = .ok (.ifCond .eq 7, 3) := dk_153 0 7 (dk_at dksX4_askedTenant_0 6 rfl rfl)
theorem dX4_askedTenant_9 : decode cX4_askedTenant 9 = .ok (.iconst 0, 1) := dk_3 (dk_at dksX4_askedTenant_0 9 rfl rfl)
theorem dX4_askedTenant_10 : decode cX4_askedTenant 10 = .ok (.goto 4, 3) := dk_167 0 4 (dk_at dksX4_askedTenant_0 10 rfl rfl)
theorem dX4_askedTenant_13 : decode cX4_askedTenant 13 = .ok (.iconst 1, 1) := dk_4 (dk_at dksX4_askedTenant_0 13 rfl rfl)
theorem dX4_askedTenant_14 : decode cX4_askedTenant 14 = .ok (.putfield 38, 3) := dk_181 0 38 (dk_at dksX4_askedTenant_0 14 rfl rfl)
theorem dX4_askedTenant_17 : decode cX4_askedTenant 17 = .ok (.aload_n 0, 1) := dk_42 (dk_at dksX4_askedTenant_0 17 rfl rfl)
theorem dX4_askedTenant_18 : decode cX4_askedTenant 18 = .ok (.getfield 38, 3) := dk_180 0 38 (dk_at dksX4_askedTenant_0 18 rfl rfl)
theorem dX4_askedTenant_21 : decode cX4_askedTenant 21 = .ok (.ifCond .le 7, 3) := dk_158 0 7 (dk_at dksX4_askedTenant_0 21 rfl rfl)
theorem dX4_askedTenant_24 : decode cX4_askedTenant 24 = .ok (.iconst 0, 1) := dk_3 (dk_at dksX4_askedTenant_1 0 rfl rfl)
theorem dX4_askedTenant_25 : decode cX4_askedTenant 25 = .ok (.goto 9, 3) := dk_167 0 9 (dk_at dksX4_askedTenant_1 1 rfl rfl)
theorem dX4_askedTenant_28 : decode cX4_askedTenant 28 = .ok (.aload_n 0, 1) := dk_42 (dk_at dksX4_askedTenant_1 4 rfl rfl)
theorem dX4_askedTenant_29 : decode cX4_askedTenant 29 = .ok (.iload_n 1, 1) := dk_27 (dk_at dksX4_askedTenant_1 5 rfl rfl)
theorem dX4_askedTenant_30 : decode cX4_askedTenant 30 = .ok (.iload_n 2, 1) := dk_28 (dk_at dksX4_askedTenant_1 6 rfl rfl)
theorem dX4_askedTenant_31 : decode cX4_askedTenant 31 = .ok (.invokevirtual 106, 3) := dk_182 0 106 (dk_at dksX4_askedTenant_1 7 rfl rfl)
theorem dX4_askedTenant_34 : decode cX4_askedTenant 34 = .ok (.ireturn, 1) := dk_172 (dk_at dksX4_askedTenant_1 10 rfl rfl)
abbrev cX4_defaultsOf : ByteArray := prog_20_method_65_code
def yX4_defaultsOf : MethodName := ⟨RX4, "defaultsOf", "(I)I"⟩
def dkwX4_defaultsOf_0 : List UInt8 := [42, 27, 4, 182, 0, 171, 172]
abbrev dktX4_defaultsOf_0 : List UInt8 := dkwX4_defaultsOf_0 ++ []
theorem dksX4_defaultsOf_0 : cX4_defaultsOf.data.toList.drop 0 = dktX4_defaultsOf_0 := by decide +kernel
theorem dX4_defaultsOf_0 : decode cX4_defaultsOf 0 = .ok (.aload_n 0, 1) := dk_42 (dk_at dksX4_defaultsOf_0 0 rfl rfl)
theorem dX4_defaultsOf_1 : decode cX4_defaultsOf 1 = .ok (.iload_n 1, 1) := dk_27 (dk_at dksX4_defaultsOf_0 1 rfl rfl)
theorem dX4_defaultsOf_2 : decode cX4_defaultsOf 2 = .ok (.iconst 1, 1) := dk_4 (dk_at dksX4_defaultsOf_0 2 rfl rfl)
theorem dX4_defaultsOf_3 : decode cX4_defaultsOf 3 = .ok (.invokevirtual 171, 3) := dk_182 0 171 (dk_at dksX4_defaultsOf_0 3 rfl rfl)
theorem dX4_defaultsOf_6 : decode cX4_defaultsOf 6 = .ok (.ireturn, 1) := dk_172 (dk_at dksX4_defaultsOf_0 6 rfl rfl)
abbrev cX4_benchOf : ByteArray := prog_20_method_66_code
def yX4_benchOf : MethodName := ⟨RX4, "benchOf", "(I)I"⟩
def dkwX4_benchOf_1 : List UInt8 := [167, 0, 4, 3, 181, 0, 38, 42, 180, 0, 38, 158, 0, 7, 3, 167, 0, 8, 42, 27, 182, 0, 109, 172]
abbrev dktX4_benchOf_1 : List UInt8 := dkwX4_benchOf_1 ++ []
def dkwX4_benchOf_0 : List UInt8 := [42, 42, 27, 182, 0, 102, 154, 0, 7, 4, 167, 0, 17, 42, 27, 182, 0, 109, 2, 160, 0, 7, 5]
abbrev dktX4_benchOf_0 : List UInt8 := dkwX4_benchOf_0 ++ dktX4_benchOf_1
theorem dksX4_benchOf_0 : cX4_benchOf.data.toList.drop 0 = dktX4_benchOf_0 := by decide +kernel
theorem dksX4_benchOf_1 : cX4_benchOf.data.toList.drop 23 = dktX4_benchOf_1 := dk_seg dksX4_benchOf_0 23 rfl rfl
theorem dX4_benchOf_0 : decode cX4_benchOf 0 = .ok (.aload_n 0, 1) := dk_42 (dk_at dksX4_benchOf_0 0 rfl rfl)
theorem dX4_benchOf_1 : decode cX4_benchOf 1 = .ok (.aload_n 0, 1) := dk_42 (dk_at dksX4_benchOf_0 1 rfl rfl)
theorem dX4_benchOf_2 : decode cX4_benchOf 2 = .ok (.iload_n 1, 1) := dk_27 (dk_at dksX4_benchOf_0 2 rfl rfl)
theorem dX4_benchOf_3 : decode cX4_benchOf 3 = .ok (.invokevirtual 102, 3) := dk_182 0 102 (dk_at dksX4_benchOf_0 3 rfl rfl)
theorem dX4_benchOf_6 : decode cX4_benchOf 6 = .ok (.ifCond .ne 7, 3) := dk_154 0 7 (dk_at dksX4_benchOf_0 6 rfl rfl)
theorem dX4_benchOf_9 : decode cX4_benchOf 9 = .ok (.iconst 1, 1) := dk_4 (dk_at dksX4_benchOf_0 9 rfl rfl)
theorem dX4_benchOf_10 : decode cX4_benchOf 10 = .ok (.goto 17, 3) := dk_167 0 17 (dk_at dksX4_benchOf_0 10 rfl rfl)
theorem dX4_benchOf_13 : decode cX4_benchOf 13 = .ok (.aload_n 0, 1) := dk_42 (dk_at dksX4_benchOf_0 13 rfl rfl)
theorem dX4_benchOf_14 : decode cX4_benchOf 14 = .ok (.iload_n 1, 1) := dk_27 (dk_at dksX4_benchOf_0 14 rfl rfl)
theorem dX4_benchOf_15 : decode cX4_benchOf 15 = .ok (.invokevirtual 109, 3) := dk_182 0 109 (dk_at dksX4_benchOf_0 15 rfl rfl)
theorem dX4_benchOf_18 : decode cX4_benchOf 18 = .ok (.iconst (-1), 1) := dk_2 (dk_at dksX4_benchOf_0 18 rfl rfl)
theorem dX4_benchOf_19 : decode cX4_benchOf 19 = .ok (.if_icmp .ne 7, 3) := dk_160 0 7 (dk_at dksX4_benchOf_0 19 rfl rfl)
theorem dX4_benchOf_22 : decode cX4_benchOf 22 = .ok (.iconst 2, 1) := dk_5 (dk_at dksX4_benchOf_0 22 rfl rfl)
theorem dX4_benchOf_23 : decode cX4_benchOf 23 = .ok (.goto 4, 3) := dk_167 0 4 (dk_at dksX4_benchOf_1 0 rfl rfl)
theorem dX4_benchOf_26 : decode cX4_benchOf 26 = .ok (.iconst 0, 1) := dk_3 (dk_at dksX4_benchOf_1 3 rfl rfl)
theorem dX4_benchOf_27 : decode cX4_benchOf 27 = .ok (.putfield 38, 3) := dk_181 0 38 (dk_at dksX4_benchOf_1 4 rfl rfl)
theorem dX4_benchOf_30 : decode cX4_benchOf 30 = .ok (.aload_n 0, 1) := dk_42 (dk_at dksX4_benchOf_1 7 rfl rfl)
theorem dX4_benchOf_31 : decode cX4_benchOf 31 = .ok (.getfield 38, 3) := dk_180 0 38 (dk_at dksX4_benchOf_1 8 rfl rfl)
theorem dX4_benchOf_34 : decode cX4_benchOf 34 = .ok (.ifCond .le 7, 3) := dk_158 0 7 (dk_at dksX4_benchOf_1 11 rfl rfl)
theorem dX4_benchOf_37 : decode cX4_benchOf 37 = .ok (.iconst 0, 1) := dk_3 (dk_at dksX4_benchOf_1 14 rfl rfl)
theorem dX4_benchOf_38 : decode cX4_benchOf 38 = .ok (.goto 8, 3) := dk_167 0 8 (dk_at dksX4_benchOf_1 15 rfl rfl)
theorem dX4_benchOf_41 : decode cX4_benchOf 41 = .ok (.aload_n 0, 1) := dk_42 (dk_at dksX4_benchOf_1 18 rfl rfl)
theorem dX4_benchOf_42 : decode cX4_benchOf 42 = .ok (.iload_n 1, 1) := dk_27 (dk_at dksX4_benchOf_1 19 rfl rfl)
theorem dX4_benchOf_43 : decode cX4_benchOf 43 = .ok (.invokevirtual 109, 3) := dk_182 0 109 (dk_at dksX4_benchOf_1 20 rfl rfl)
theorem dX4_benchOf_46 : decode cX4_benchOf 46 = .ok (.ireturn, 1) := dk_172 (dk_at dksX4_benchOf_1 23 rfl rfl)
abbrev cX4_benchBy : ByteArray := prog_20_method_18_code
def yX4_benchBy : MethodName := ⟨RX4, "benchBy", "(I)I"⟩
def dkwX4_benchBy_1 : List UInt8 := [132, 2, 1, 167, 255, 232, 2, 172]
abbrev dktX4_benchBy_1 : List UInt8 := dkwX4_benchBy_1 ++ []
def dkwX4_benchBy_0 : List UInt8 := [3, 61, 28, 42, 180, 0, 7, 3, 46, 162, 0, 20, 42, 28, 182, 0, 74, 27, 160, 0, 5, 28, 172]
abbrev dktX4_benchBy_0 : List UInt8 := dkwX4_benchBy_0 ++ dktX4_benchBy_1
theorem dksX4_benchBy_0 : cX4_benchBy.data.toList.drop 0 = dktX4_benchBy_0 := by decide +kernel
theorem dksX4_benchBy_1 : cX4_benchBy.data.toList.drop 23 = dktX4_benchBy_1 := dk_seg dksX4_benchBy_0 23 rfl rfl
theorem dX4_benchBy_0 : decode cX4_benchBy 0 = .ok (.iconst 0, 1) := dk_3 (dk_at dksX4_benchBy_0 0 rfl rfl)
theorem dX4_benchBy_1 : decode cX4_benchBy 1 = .ok (.istore_n 2, 1) := dk_61 (dk_at dksX4_benchBy_0 1 rfl rfl)
theorem dX4_benchBy_2 : decode cX4_benchBy 2 = .ok (.iload_n 2, 1) := dk_28 (dk_at dksX4_benchBy_0 2 rfl rfl)
theorem dX4_benchBy_3 : decode cX4_benchBy 3 = .ok (.aload_n 0, 1) := dk_42 (dk_at dksX4_benchBy_0 3 rfl rfl)
theorem dX4_benchBy_4 : decode cX4_benchBy 4 = .ok (.getfield 7, 3) := dk_180 0 7 (dk_at dksX4_benchBy_0 4 rfl rfl)
theorem dX4_benchBy_7 : decode cX4_benchBy 7 = .ok (.iconst 0, 1) := dk_3 (dk_at dksX4_benchBy_0 7 rfl rfl)
theorem dX4_benchBy_8 : decode cX4_benchBy 8 = .ok (.iaload, 1) := dk_46 (dk_at dksX4_benchBy_0 8 rfl rfl)
theorem dX4_benchBy_9 : decode cX4_benchBy 9 = .ok (.if_icmp .ge 20, 3) := dk_162 0 20 (dk_at dksX4_benchBy_0 9 rfl rfl)
theorem dX4_benchBy_12 : decode cX4_benchBy 12 = .ok (.aload_n 0, 1) := dk_42 (dk_at dksX4_benchBy_0 12 rfl rfl)
theorem dX4_benchBy_13 : decode cX4_benchBy 13 = .ok (.iload_n 2, 1) := dk_28 (dk_at dksX4_benchBy_0 13 rfl rfl)
theorem dX4_benchBy_14 : decode cX4_benchBy 14 = .ok (.invokevirtual 74, 3) := dk_182 0 74 (dk_at dksX4_benchBy_0 14 rfl rfl)
theorem dX4_benchBy_17 : decode cX4_benchBy 17 = .ok (.iload_n 1, 1) := dk_27 (dk_at dksX4_benchBy_0 17 rfl rfl)
theorem dX4_benchBy_18 : decode cX4_benchBy 18 = .ok (.if_icmp .ne 5, 3) := dk_160 0 5 (dk_at dksX4_benchBy_0 18 rfl rfl)
theorem dX4_benchBy_21 : decode cX4_benchBy 21 = .ok (.iload_n 2, 1) := dk_28 (dk_at dksX4_benchBy_0 21 rfl rfl)
theorem dX4_benchBy_22 : decode cX4_benchBy 22 = .ok (.ireturn, 1) := dk_172 (dk_at dksX4_benchBy_0 22 rfl rfl)
theorem dX4_benchBy_23 : decode cX4_benchBy 23 = .ok (.iinc 2 1, 3) := dk_132 2 1 (dk_at dksX4_benchBy_1 0 rfl rfl)
theorem dX4_benchBy_26 : decode cX4_benchBy 26 = .ok (.goto (-24), 3) := dk_167 255 232 (dk_at dksX4_benchBy_1 3 rfl rfl)
theorem dX4_benchBy_29 : decode cX4_benchBy 29 = .ok (.iconst (-1), 1) := dk_2 (dk_at dksX4_benchBy_1 6 rfl rfl)
theorem dX4_benchBy_30 : decode cX4_benchBy 30 = .ok (.ireturn, 1) := dk_172 (dk_at dksX4_benchBy_1 7 rfl rfl)
abbrev cX4_by : ByteArray := prog_20_method_17_code
def yX4_by : MethodName := ⟨RX4, "by", "(I)I"⟩
def dkwX4_by_0 : List UInt8 := [42, 27, 6, 182, 0, 70, 4, 100, 172]
abbrev dktX4_by_0 : List UInt8 := dkwX4_by_0 ++ []
theorem dksX4_by_0 : cX4_by.data.toList.drop 0 = dktX4_by_0 := by decide +kernel
theorem dX4_by_0 : decode cX4_by 0 = .ok (.aload_n 0, 1) := dk_42 (dk_at dksX4_by_0 0 rfl rfl)
theorem dX4_by_1 : decode cX4_by 1 = .ok (.iload_n 1, 1) := dk_27 (dk_at dksX4_by_0 1 rfl rfl)
theorem dX4_by_2 : decode cX4_by 2 = .ok (.iconst 3, 1) := dk_6 (dk_at dksX4_by_0 2 rfl rfl)
theorem dX4_by_3 : decode cX4_by 3 = .ok (.invokevirtual 70, 3) := dk_182 0 70 (dk_at dksX4_by_0 3 rfl rfl)
theorem dX4_by_6 : decode cX4_by 6 = .ok (.iconst 1, 1) := dk_4 (dk_at dksX4_by_0 6 rfl rfl)
theorem dX4_by_7 : decode cX4_by 7 = .ok (.isub, 1) := dk_100 (dk_at dksX4_by_0 7 rfl rfl)
theorem dX4_by_8 : decode cX4_by 8 = .ok (.ireturn, 1) := dk_172 (dk_at dksX4_by_0 8 rfl rfl)
abbrev cX4_canLease : ByteArray := prog_20_method_67_code
def yX4_canLease : MethodName := ⟨RX4, "canLease", "(II)Z"⟩
def dkwX4_canLease_2 : List UInt8 := [172]
abbrev dktX4_canLease_2 : List UInt8 := dkwX4_canLease_2 ++ []
def dkwX4_canLease_1 : List UInt8 := [181, 0, 38, 42, 180, 0, 38, 154, 0, 16, 42, 27, 28, 182, 0, 121, 154, 0, 7, 4, 167, 0, 4, 3]
abbrev dktX4_canLease_1 : List UInt8 := dkwX4_canLease_1 ++ dktX4_canLease_2
def dkwX4_canLease_0 : List UInt8 := [42, 42, 27, 182, 0, 102, 153, 0, 15, 42, 28, 182, 0, 118, 153, 0, 7, 3, 167, 0, 4, 4]
abbrev dktX4_canLease_0 : List UInt8 := dkwX4_canLease_0 ++ dktX4_canLease_1
theorem dksX4_canLease_0 : cX4_canLease.data.toList.drop 0 = dktX4_canLease_0 := by decide +kernel
theorem dksX4_canLease_1 : cX4_canLease.data.toList.drop 22 = dktX4_canLease_1 := dk_seg dksX4_canLease_0 22 rfl rfl
theorem dksX4_canLease_2 : cX4_canLease.data.toList.drop 46 = dktX4_canLease_2 := dk_seg dksX4_canLease_1 24 rfl rfl
theorem dX4_canLease_0 : decode cX4_canLease 0 = .ok (.aload_n 0, 1) := dk_42 (dk_at dksX4_canLease_0 0 rfl rfl)
theorem dX4_canLease_1 : decode cX4_canLease 1 = .ok (.aload_n 0, 1) := dk_42 (dk_at dksX4_canLease_0 1 rfl rfl)
theorem dX4_canLease_2 : decode cX4_canLease 2 = .ok (.iload_n 1, 1) := dk_27 (dk_at dksX4_canLease_0 2 rfl rfl)
theorem dX4_canLease_3 : decode cX4_canLease 3 = .ok (.invokevirtual 102, 3) := dk_182 0 102 (dk_at dksX4_canLease_0 3 rfl rfl)
theorem dX4_canLease_6 : decode cX4_canLease 6 = .ok (.ifCond .eq 15, 3) := dk_153 0 15 (dk_at dksX4_canLease_0 6 rfl rfl)
theorem dX4_canLease_9 : decode cX4_canLease 9 = .ok (.aload_n 0, 1) := dk_42 (dk_at dksX4_canLease_0 9 rfl rfl)
theorem dX4_canLease_10 : decode cX4_canLease 10 = .ok (.iload_n 2, 1) := dk_28 (dk_at dksX4_canLease_0 10 rfl rfl)
theorem dX4_canLease_11 : decode cX4_canLease 11 = .ok (.invokevirtual 118, 3) := dk_182 0 118 (dk_at dksX4_canLease_0 11 rfl rfl)
theorem dX4_canLease_14 : decode cX4_canLease 14 = .ok (.ifCond .eq 7, 3) := dk_153 0 7 (dk_at dksX4_canLease_0 14 rfl rfl)
theorem dX4_canLease_17 : decode cX4_canLease 17 = .ok (.iconst 0, 1) := dk_3 (dk_at dksX4_canLease_0 17 rfl rfl)
theorem dX4_canLease_18 : decode cX4_canLease 18 = .ok (.goto 4, 3) := dk_167 0 4 (dk_at dksX4_canLease_0 18 rfl rfl)
theorem dX4_canLease_21 : decode cX4_canLease 21 = .ok (.iconst 1, 1) := dk_4 (dk_at dksX4_canLease_0 21 rfl rfl)
theorem dX4_canLease_22 : decode cX4_canLease 22 = .ok (.putfield 38, 3) := dk_181 0 38 (dk_at dksX4_canLease_1 0 rfl rfl)
theorem dX4_canLease_25 : decode cX4_canLease 25 = .ok (.aload_n 0, 1) := dk_42 (dk_at dksX4_canLease_1 3 rfl rfl)
theorem dX4_canLease_26 : decode cX4_canLease 26 = .ok (.getfield 38, 3) := dk_180 0 38 (dk_at dksX4_canLease_1 4 rfl rfl)
theorem dX4_canLease_29 : decode cX4_canLease 29 = .ok (.ifCond .ne 16, 3) := dk_154 0 16 (dk_at dksX4_canLease_1 7 rfl rfl)
theorem dX4_canLease_32 : decode cX4_canLease 32 = .ok (.aload_n 0, 1) := dk_42 (dk_at dksX4_canLease_1 10 rfl rfl)
theorem dX4_canLease_33 : decode cX4_canLease 33 = .ok (.iload_n 1, 1) := dk_27 (dk_at dksX4_canLease_1 11 rfl rfl)
theorem dX4_canLease_34 : decode cX4_canLease 34 = .ok (.iload_n 2, 1) := dk_28 (dk_at dksX4_canLease_1 12 rfl rfl)
theorem dX4_canLease_35 : decode cX4_canLease 35 = .ok (.invokevirtual 121, 3) := dk_182 0 121 (dk_at dksX4_canLease_1 13 rfl rfl)
theorem dX4_canLease_38 : decode cX4_canLease 38 = .ok (.ifCond .ne 7, 3) := dk_154 0 7 (dk_at dksX4_canLease_1 16 rfl rfl)
theorem dX4_canLease_41 : decode cX4_canLease 41 = .ok (.iconst 1, 1) := dk_4 (dk_at dksX4_canLease_1 19 rfl rfl)
theorem dX4_canLease_42 : decode cX4_canLease 42 = .ok (.goto 4, 3) := dk_167 0 4 (dk_at dksX4_canLease_1 20 rfl rfl)
theorem dX4_canLease_45 : decode cX4_canLease 45 = .ok (.iconst 0, 1) := dk_3 (dk_at dksX4_canLease_1 23 rfl rfl)
theorem dX4_canLease_46 : decode cX4_canLease 46 = .ok (.ireturn, 1) := dk_172 (dk_at dksX4_canLease_2 0 rfl rfl)
abbrev cX4_barred : ByteArray := prog_20_method_29_code
def yX4_barred : MethodName := ⟨RX4, "barred", "(II)I"⟩
def dkwX4_barred_4 : List UInt8 := [16, 9, 42, 27, 3, 182, 0, 106, 182, 0, 93, 167, 0, 4, 3, 172]
abbrev dktX4_barred_4 : List UInt8 := dkwX4_barred_4 ++ []
def dkwX4_barred_3 : List UInt8 := [28, 182, 0, 86, 182, 0, 93, 172, 42, 27, 3, 182, 0, 106, 42, 28, 182, 0, 115, 162, 0, 18, 42]
abbrev dktX4_barred_3 : List UInt8 := dkwX4_barred_3 ++ dktX4_barred_4
def dkwX4_barred_2 : List UInt8 := [42, 16, 7, 42, 28, 182, 0, 74, 182, 0, 93, 172, 42, 28, 182, 0, 112, 154, 0, 15, 42, 16, 8, 42]
abbrev dktX4_barred_2 : List UInt8 := dkwX4_barred_2 ++ dktX4_barred_3
def dkwX4_barred_1 : List UInt8 := [159, 0, 15, 42, 16, 6, 42, 27, 182, 0, 109, 182, 0, 93, 172, 42, 28, 182, 0, 74, 2, 159, 0, 15]
abbrev dktX4_barred_1 : List UInt8 := dkwX4_barred_1 ++ dktX4_barred_2
def dkwX4_barred_0 : List UInt8 := [42, 27, 4, 182, 0, 106, 6, 160, 0, 10, 42, 8, 27, 182, 0, 93, 172, 42, 27, 182, 0, 109, 2]
abbrev dktX4_barred_0 : List UInt8 := dkwX4_barred_0 ++ dktX4_barred_1
theorem dksX4_barred_0 : cX4_barred.data.toList.drop 0 = dktX4_barred_0 := by decide +kernel
theorem dksX4_barred_1 : cX4_barred.data.toList.drop 23 = dktX4_barred_1 := dk_seg dksX4_barred_0 23 rfl rfl
theorem dksX4_barred_2 : cX4_barred.data.toList.drop 47 = dktX4_barred_2 := dk_seg dksX4_barred_1 24 rfl rfl
theorem dksX4_barred_3 : cX4_barred.data.toList.drop 71 = dktX4_barred_3 := dk_seg dksX4_barred_2 24 rfl rfl
theorem dksX4_barred_4 : cX4_barred.data.toList.drop 94 = dktX4_barred_4 := dk_seg dksX4_barred_3 23 rfl rfl
theorem dX4_barred_0 : decode cX4_barred 0 = .ok (.aload_n 0, 1) := dk_42 (dk_at dksX4_barred_0 0 rfl rfl)
theorem dX4_barred_1 : decode cX4_barred 1 = .ok (.iload_n 1, 1) := dk_27 (dk_at dksX4_barred_0 1 rfl rfl)
theorem dX4_barred_2 : decode cX4_barred 2 = .ok (.iconst 1, 1) := dk_4 (dk_at dksX4_barred_0 2 rfl rfl)
theorem dX4_barred_3 : decode cX4_barred 3 = .ok (.invokevirtual 106, 3) := dk_182 0 106 (dk_at dksX4_barred_0 3 rfl rfl)
theorem dX4_barred_6 : decode cX4_barred 6 = .ok (.iconst 3, 1) := dk_6 (dk_at dksX4_barred_0 6 rfl rfl)
theorem dX4_barred_7 : decode cX4_barred 7 = .ok (.if_icmp .ne 10, 3) := dk_160 0 10 (dk_at dksX4_barred_0 7 rfl rfl)
theorem dX4_barred_10 : decode cX4_barred 10 = .ok (.aload_n 0, 1) := dk_42 (dk_at dksX4_barred_0 10 rfl rfl)
theorem dX4_barred_11 : decode cX4_barred 11 = .ok (.iconst 5, 1) := dk_8 (dk_at dksX4_barred_0 11 rfl rfl)
theorem dX4_barred_12 : decode cX4_barred 12 = .ok (.iload_n 1, 1) := dk_27 (dk_at dksX4_barred_0 12 rfl rfl)
theorem dX4_barred_13 : decode cX4_barred 13 = .ok (.invokevirtual 93, 3) := dk_182 0 93 (dk_at dksX4_barred_0 13 rfl rfl)
theorem dX4_barred_16 : decode cX4_barred 16 = .ok (.ireturn, 1) := dk_172 (dk_at dksX4_barred_0 16 rfl rfl)
theorem dX4_barred_17 : decode cX4_barred 17 = .ok (.aload_n 0, 1) := dk_42 (dk_at dksX4_barred_0 17 rfl rfl)
theorem dX4_barred_18 : decode cX4_barred 18 = .ok (.iload_n 1, 1) := dk_27 (dk_at dksX4_barred_0 18 rfl rfl)
theorem dX4_barred_19 : decode cX4_barred 19 = .ok (.invokevirtual 109, 3) := dk_182 0 109 (dk_at dksX4_barred_0 19 rfl rfl)
theorem dX4_barred_22 : decode cX4_barred 22 = .ok (.iconst (-1), 1) := dk_2 (dk_at dksX4_barred_0 22 rfl rfl)
theorem dX4_barred_23 : decode cX4_barred 23 = .ok (.if_icmp .eq 15, 3) := dk_159 0 15 (dk_at dksX4_barred_1 0 rfl rfl)
theorem dX4_barred_26 : decode cX4_barred 26 = .ok (.aload_n 0, 1) := dk_42 (dk_at dksX4_barred_1 3 rfl rfl)
theorem dX4_barred_27 : decode cX4_barred 27 = .ok (.bipush 6, 2) := dk_16 6 (dk_at dksX4_barred_1 4 rfl rfl)
theorem dX4_barred_29 : decode cX4_barred 29 = .ok (.aload_n 0, 1) := dk_42 (dk_at dksX4_barred_1 6 rfl rfl)
theorem dX4_barred_30 : decode cX4_barred 30 = .ok (.iload_n 1, 1) := dk_27 (dk_at dksX4_barred_1 7 rfl rfl)
theorem dX4_barred_31 : decode cX4_barred 31 = .ok (.invokevirtual 109, 3) := dk_182 0 109 (dk_at dksX4_barred_1 8 rfl rfl)
theorem dX4_barred_34 : decode cX4_barred 34 = .ok (.invokevirtual 93, 3) := dk_182 0 93 (dk_at dksX4_barred_1 11 rfl rfl)
theorem dX4_barred_37 : decode cX4_barred 37 = .ok (.ireturn, 1) := dk_172 (dk_at dksX4_barred_1 14 rfl rfl)
theorem dX4_barred_38 : decode cX4_barred 38 = .ok (.aload_n 0, 1) := dk_42 (dk_at dksX4_barred_1 15 rfl rfl)
theorem dX4_barred_39 : decode cX4_barred 39 = .ok (.iload_n 2, 1) := dk_28 (dk_at dksX4_barred_1 16 rfl rfl)
theorem dX4_barred_40 : decode cX4_barred 40 = .ok (.invokevirtual 74, 3) := dk_182 0 74 (dk_at dksX4_barred_1 17 rfl rfl)
theorem dX4_barred_43 : decode cX4_barred 43 = .ok (.iconst (-1), 1) := dk_2 (dk_at dksX4_barred_1 20 rfl rfl)
theorem dX4_barred_44 : decode cX4_barred 44 = .ok (.if_icmp .eq 15, 3) := dk_159 0 15 (dk_at dksX4_barred_1 21 rfl rfl)
theorem dX4_barred_47 : decode cX4_barred 47 = .ok (.aload_n 0, 1) := dk_42 (dk_at dksX4_barred_2 0 rfl rfl)
theorem dX4_barred_48 : decode cX4_barred 48 = .ok (.bipush 7, 2) := dk_16 7 (dk_at dksX4_barred_2 1 rfl rfl)
theorem dX4_barred_50 : decode cX4_barred 50 = .ok (.aload_n 0, 1) := dk_42 (dk_at dksX4_barred_2 3 rfl rfl)
theorem dX4_barred_51 : decode cX4_barred 51 = .ok (.iload_n 2, 1) := dk_28 (dk_at dksX4_barred_2 4 rfl rfl)
theorem dX4_barred_52 : decode cX4_barred 52 = .ok (.invokevirtual 74, 3) := dk_182 0 74 (dk_at dksX4_barred_2 5 rfl rfl)
theorem dX4_barred_55 : decode cX4_barred 55 = .ok (.invokevirtual 93, 3) := dk_182 0 93 (dk_at dksX4_barred_2 8 rfl rfl)
theorem dX4_barred_58 : decode cX4_barred 58 = .ok (.ireturn, 1) := dk_172 (dk_at dksX4_barred_2 11 rfl rfl)
theorem dX4_barred_59 : decode cX4_barred 59 = .ok (.aload_n 0, 1) := dk_42 (dk_at dksX4_barred_2 12 rfl rfl)
theorem dX4_barred_60 : decode cX4_barred 60 = .ok (.iload_n 2, 1) := dk_28 (dk_at dksX4_barred_2 13 rfl rfl)
theorem dX4_barred_61 : decode cX4_barred 61 = .ok (.invokevirtual 112, 3) := dk_182 0 112 (dk_at dksX4_barred_2 14 rfl rfl)
theorem dX4_barred_64 : decode cX4_barred 64 = .ok (.ifCond .ne 15, 3) := dk_154 0 15 (dk_at dksX4_barred_2 17 rfl rfl)
theorem dX4_barred_67 : decode cX4_barred 67 = .ok (.aload_n 0, 1) := dk_42 (dk_at dksX4_barred_2 20 rfl rfl)
theorem dX4_barred_68 : decode cX4_barred 68 = .ok (.bipush 8, 2) := dk_16 8 (dk_at dksX4_barred_2 21 rfl rfl)
theorem dX4_barred_70 : decode cX4_barred 70 = .ok (.aload_n 0, 1) := dk_42 (dk_at dksX4_barred_2 23 rfl rfl)
theorem dX4_barred_71 : decode cX4_barred 71 = .ok (.iload_n 2, 1) := dk_28 (dk_at dksX4_barred_3 0 rfl rfl)
theorem dX4_barred_72 : decode cX4_barred 72 = .ok (.invokevirtual 86, 3) := dk_182 0 86 (dk_at dksX4_barred_3 1 rfl rfl)
theorem dX4_barred_75 : decode cX4_barred 75 = .ok (.invokevirtual 93, 3) := dk_182 0 93 (dk_at dksX4_barred_3 4 rfl rfl)
theorem dX4_barred_78 : decode cX4_barred 78 = .ok (.ireturn, 1) := dk_172 (dk_at dksX4_barred_3 7 rfl rfl)
theorem dX4_barred_79 : decode cX4_barred 79 = .ok (.aload_n 0, 1) := dk_42 (dk_at dksX4_barred_3 8 rfl rfl)
theorem dX4_barred_80 : decode cX4_barred 80 = .ok (.iload_n 1, 1) := dk_27 (dk_at dksX4_barred_3 9 rfl rfl)
theorem dX4_barred_81 : decode cX4_barred 81 = .ok (.iconst 0, 1) := dk_3 (dk_at dksX4_barred_3 10 rfl rfl)
theorem dX4_barred_82 : decode cX4_barred 82 = .ok (.invokevirtual 106, 3) := dk_182 0 106 (dk_at dksX4_barred_3 11 rfl rfl)
theorem dX4_barred_85 : decode cX4_barred 85 = .ok (.aload_n 0, 1) := dk_42 (dk_at dksX4_barred_3 14 rfl rfl)
theorem dX4_barred_86 : decode cX4_barred 86 = .ok (.iload_n 2, 1) := dk_28 (dk_at dksX4_barred_3 15 rfl rfl)
theorem dX4_barred_87 : decode cX4_barred 87 = .ok (.invokevirtual 115, 3) := dk_182 0 115 (dk_at dksX4_barred_3 16 rfl rfl)
theorem dX4_barred_90 : decode cX4_barred 90 = .ok (.if_icmp .ge 18, 3) := dk_162 0 18 (dk_at dksX4_barred_3 19 rfl rfl)
theorem dX4_barred_93 : decode cX4_barred 93 = .ok (.aload_n 0, 1) := dk_42 (dk_at dksX4_barred_3 22 rfl rfl)
theorem dX4_barred_94 : decode cX4_barred 94 = .ok (.bipush 9, 2) := dk_16 9 (dk_at dksX4_barred_4 0 rfl rfl)
theorem dX4_barred_96 : decode cX4_barred 96 = .ok (.aload_n 0, 1) := dk_42 (dk_at dksX4_barred_4 2 rfl rfl)
theorem dX4_barred_97 : decode cX4_barred 97 = .ok (.iload_n 1, 1) := dk_27 (dk_at dksX4_barred_4 3 rfl rfl)
theorem dX4_barred_98 : decode cX4_barred 98 = .ok (.iconst 0, 1) := dk_3 (dk_at dksX4_barred_4 4 rfl rfl)
theorem dX4_barred_99 : decode cX4_barred 99 = .ok (.invokevirtual 106, 3) := dk_182 0 106 (dk_at dksX4_barred_4 5 rfl rfl)
theorem dX4_barred_102 : decode cX4_barred 102 = .ok (.invokevirtual 93, 3) := dk_182 0 93 (dk_at dksX4_barred_4 8 rfl rfl)
theorem dX4_barred_105 : decode cX4_barred 105 = .ok (.goto 4, 3) := dk_167 0 4 (dk_at dksX4_barred_4 11 rfl rfl)
theorem dX4_barred_108 : decode cX4_barred 108 = .ok (.iconst 0, 1) := dk_3 (dk_at dksX4_barred_4 14 rfl rfl)
theorem dX4_barred_109 : decode cX4_barred 109 = .ok (.ireturn, 1) := dk_172 (dk_at dksX4_barred_4 15 rfl rfl)
abbrev cX4_cheapestFor : ByteArray := prog_20_method_68_code
def yX4_cheapestFor : MethodName := ⟨RX4, "cheapestFor", "(I)I"⟩
def dkwX4_cheapestFor_3 : List UInt8 := [132, 3, 1, 167, 255, 214, 28, 2, 160, 0, 11, 42, 5, 182, 0, 54, 167, 0, 4, 28, 172]
abbrev dktX4_cheapestFor_3 : List UInt8 := dkwX4_cheapestFor_3 ++ []
def dkwX4_cheapestFor_2 : List UInt8 := [154, 0, 23, 28, 2, 159, 0, 16, 42, 29, 182, 0, 115, 42, 28, 182, 0, 115, 162, 0, 5, 29, 61]
abbrev dktX4_cheapestFor_2 : List UInt8 := dkwX4_cheapestFor_2 ++ dktX4_cheapestFor_3
def dkwX4_cheapestFor_1 : List UInt8 := [3, 172, 2, 61, 3, 62, 29, 42, 180, 0, 7, 3, 46, 162, 0, 38, 42, 27, 29, 182, 0, 121]
abbrev dktX4_cheapestFor_1 : List UInt8 := dkwX4_cheapestFor_1 ++ dktX4_cheapestFor_2
def dkwX4_cheapestFor_0 : List UInt8 := [42, 42, 27, 182, 0, 102, 153, 0, 7, 3, 167, 0, 4, 4, 181, 0, 38, 42, 180, 0, 38, 158, 0, 5]
abbrev dktX4_cheapestFor_0 : List UInt8 := dkwX4_cheapestFor_0 ++ dktX4_cheapestFor_1
theorem dksX4_cheapestFor_0 : cX4_cheapestFor.data.toList.drop 0 = dktX4_cheapestFor_0 := by decide +kernel
theorem dksX4_cheapestFor_1 : cX4_cheapestFor.data.toList.drop 24 = dktX4_cheapestFor_1 := dk_seg dksX4_cheapestFor_0 24 rfl rfl
theorem dksX4_cheapestFor_2 : cX4_cheapestFor.data.toList.drop 46 = dktX4_cheapestFor_2 := dk_seg dksX4_cheapestFor_1 22 rfl rfl
theorem dksX4_cheapestFor_3 : cX4_cheapestFor.data.toList.drop 69 = dktX4_cheapestFor_3 := dk_seg dksX4_cheapestFor_2 23 rfl rfl
theorem dX4_cheapestFor_0 : decode cX4_cheapestFor 0 = .ok (.aload_n 0, 1) := dk_42 (dk_at dksX4_cheapestFor_0 0 rfl rfl)
theorem dX4_cheapestFor_1 : decode cX4_cheapestFor 1 = .ok (.aload_n 0, 1) := dk_42 (dk_at dksX4_cheapestFor_0 1 rfl rfl)
theorem dX4_cheapestFor_2 : decode cX4_cheapestFor 2 = .ok (.iload_n 1, 1) := dk_27 (dk_at dksX4_cheapestFor_0 2 rfl rfl)
theorem dX4_cheapestFor_3 : decode cX4_cheapestFor 3 = .ok (.invokevirtual 102, 3) := dk_182 0 102 (dk_at dksX4_cheapestFor_0 3 rfl rfl)
theorem dX4_cheapestFor_6 : decode cX4_cheapestFor 6 = .ok (.ifCond .eq 7, 3) := dk_153 0 7 (dk_at dksX4_cheapestFor_0 6 rfl rfl)
theorem dX4_cheapestFor_9 : decode cX4_cheapestFor 9 = .ok (.iconst 0, 1) := dk_3 (dk_at dksX4_cheapestFor_0 9 rfl rfl)
theorem dX4_cheapestFor_10 : decode cX4_cheapestFor 10 = .ok (.goto 4, 3) := dk_167 0 4 (dk_at dksX4_cheapestFor_0 10 rfl rfl)
theorem dX4_cheapestFor_13 : decode cX4_cheapestFor 13 = .ok (.iconst 1, 1) := dk_4 (dk_at dksX4_cheapestFor_0 13 rfl rfl)
theorem dX4_cheapestFor_14 : decode cX4_cheapestFor 14 = .ok (.putfield 38, 3) := dk_181 0 38 (dk_at dksX4_cheapestFor_0 14 rfl rfl)
theorem dX4_cheapestFor_17 : decode cX4_cheapestFor 17 = .ok (.aload_n 0, 1) := dk_42 (dk_at dksX4_cheapestFor_0 17 rfl rfl)
theorem dX4_cheapestFor_18 : decode cX4_cheapestFor 18 = .ok (.getfield 38, 3) := dk_180 0 38 (dk_at dksX4_cheapestFor_0 18 rfl rfl)
theorem dX4_cheapestFor_21 : decode cX4_cheapestFor 21 = .ok (.ifCond .le 5, 3) := dk_158 0 5 (dk_at dksX4_cheapestFor_0 21 rfl rfl)
theorem dX4_cheapestFor_24 : decode cX4_cheapestFor 24 = .ok (.iconst 0, 1) := dk_3 (dk_at dksX4_cheapestFor_1 0 rfl rfl)
theorem dX4_cheapestFor_25 : decode cX4_cheapestFor 25 = .ok (.ireturn, 1) := dk_172 (dk_at dksX4_cheapestFor_1 1 rfl rfl)
theorem dX4_cheapestFor_26 : decode cX4_cheapestFor 26 = .ok (.iconst (-1), 1) := dk_2 (dk_at dksX4_cheapestFor_1 2 rfl rfl)
theorem dX4_cheapestFor_27 : decode cX4_cheapestFor 27 = .ok (.istore_n 2, 1) := dk_61 (dk_at dksX4_cheapestFor_1 3 rfl rfl)
theorem dX4_cheapestFor_28 : decode cX4_cheapestFor 28 = .ok (.iconst 0, 1) := dk_3 (dk_at dksX4_cheapestFor_1 4 rfl rfl)
theorem dX4_cheapestFor_29 : decode cX4_cheapestFor 29 = .ok (.istore_n 3, 1) := dk_62 (dk_at dksX4_cheapestFor_1 5 rfl rfl)
theorem dX4_cheapestFor_30 : decode cX4_cheapestFor 30 = .ok (.iload_n 3, 1) := dk_29 (dk_at dksX4_cheapestFor_1 6 rfl rfl)
theorem dX4_cheapestFor_31 : decode cX4_cheapestFor 31 = .ok (.aload_n 0, 1) := dk_42 (dk_at dksX4_cheapestFor_1 7 rfl rfl)
theorem dX4_cheapestFor_32 : decode cX4_cheapestFor 32 = .ok (.getfield 7, 3) := dk_180 0 7 (dk_at dksX4_cheapestFor_1 8 rfl rfl)
theorem dX4_cheapestFor_35 : decode cX4_cheapestFor 35 = .ok (.iconst 0, 1) := dk_3 (dk_at dksX4_cheapestFor_1 11 rfl rfl)
theorem dX4_cheapestFor_36 : decode cX4_cheapestFor 36 = .ok (.iaload, 1) := dk_46 (dk_at dksX4_cheapestFor_1 12 rfl rfl)
theorem dX4_cheapestFor_37 : decode cX4_cheapestFor 37 = .ok (.if_icmp .ge 38, 3) := dk_162 0 38 (dk_at dksX4_cheapestFor_1 13 rfl rfl)
theorem dX4_cheapestFor_40 : decode cX4_cheapestFor 40 = .ok (.aload_n 0, 1) := dk_42 (dk_at dksX4_cheapestFor_1 16 rfl rfl)
theorem dX4_cheapestFor_41 : decode cX4_cheapestFor 41 = .ok (.iload_n 1, 1) := dk_27 (dk_at dksX4_cheapestFor_1 17 rfl rfl)
theorem dX4_cheapestFor_42 : decode cX4_cheapestFor 42 = .ok (.iload_n 3, 1) := dk_29 (dk_at dksX4_cheapestFor_1 18 rfl rfl)
theorem dX4_cheapestFor_43 : decode cX4_cheapestFor 43 = .ok (.invokevirtual 121, 3) := dk_182 0 121 (dk_at dksX4_cheapestFor_1 19 rfl rfl)
theorem dX4_cheapestFor_46 : decode cX4_cheapestFor 46 = .ok (.ifCond .ne 23, 3) := dk_154 0 23 (dk_at dksX4_cheapestFor_2 0 rfl rfl)
theorem dX4_cheapestFor_49 : decode cX4_cheapestFor 49 = .ok (.iload_n 2, 1) := dk_28 (dk_at dksX4_cheapestFor_2 3 rfl rfl)
theorem dX4_cheapestFor_50 : decode cX4_cheapestFor 50 = .ok (.iconst (-1), 1) := dk_2 (dk_at dksX4_cheapestFor_2 4 rfl rfl)
theorem dX4_cheapestFor_51 : decode cX4_cheapestFor 51 = .ok (.if_icmp .eq 16, 3) := dk_159 0 16 (dk_at dksX4_cheapestFor_2 5 rfl rfl)
theorem dX4_cheapestFor_54 : decode cX4_cheapestFor 54 = .ok (.aload_n 0, 1) := dk_42 (dk_at dksX4_cheapestFor_2 8 rfl rfl)
theorem dX4_cheapestFor_55 : decode cX4_cheapestFor 55 = .ok (.iload_n 3, 1) := dk_29 (dk_at dksX4_cheapestFor_2 9 rfl rfl)
theorem dX4_cheapestFor_56 : decode cX4_cheapestFor 56 = .ok (.invokevirtual 115, 3) := dk_182 0 115 (dk_at dksX4_cheapestFor_2 10 rfl rfl)
theorem dX4_cheapestFor_59 : decode cX4_cheapestFor 59 = .ok (.aload_n 0, 1) := dk_42 (dk_at dksX4_cheapestFor_2 13 rfl rfl)
theorem dX4_cheapestFor_60 : decode cX4_cheapestFor 60 = .ok (.iload_n 2, 1) := dk_28 (dk_at dksX4_cheapestFor_2 14 rfl rfl)
theorem dX4_cheapestFor_61 : decode cX4_cheapestFor 61 = .ok (.invokevirtual 115, 3) := dk_182 0 115 (dk_at dksX4_cheapestFor_2 15 rfl rfl)
theorem dX4_cheapestFor_64 : decode cX4_cheapestFor 64 = .ok (.if_icmp .ge 5, 3) := dk_162 0 5 (dk_at dksX4_cheapestFor_2 18 rfl rfl)
theorem dX4_cheapestFor_67 : decode cX4_cheapestFor 67 = .ok (.iload_n 3, 1) := dk_29 (dk_at dksX4_cheapestFor_2 21 rfl rfl)
theorem dX4_cheapestFor_68 : decode cX4_cheapestFor 68 = .ok (.istore_n 2, 1) := dk_61 (dk_at dksX4_cheapestFor_2 22 rfl rfl)
theorem dX4_cheapestFor_69 : decode cX4_cheapestFor 69 = .ok (.iinc 3 1, 3) := dk_132 3 1 (dk_at dksX4_cheapestFor_3 0 rfl rfl)
theorem dX4_cheapestFor_72 : decode cX4_cheapestFor 72 = .ok (.goto (-42), 3) := dk_167 255 214 (dk_at dksX4_cheapestFor_3 3 rfl rfl)
theorem dX4_cheapestFor_75 : decode cX4_cheapestFor 75 = .ok (.iload_n 2, 1) := dk_28 (dk_at dksX4_cheapestFor_3 6 rfl rfl)
theorem dX4_cheapestFor_76 : decode cX4_cheapestFor 76 = .ok (.iconst (-1), 1) := dk_2 (dk_at dksX4_cheapestFor_3 7 rfl rfl)
theorem dX4_cheapestFor_77 : decode cX4_cheapestFor 77 = .ok (.if_icmp .ne 11, 3) := dk_160 0 11 (dk_at dksX4_cheapestFor_3 8 rfl rfl)
theorem dX4_cheapestFor_80 : decode cX4_cheapestFor 80 = .ok (.aload_n 0, 1) := dk_42 (dk_at dksX4_cheapestFor_3 11 rfl rfl)
theorem dX4_cheapestFor_81 : decode cX4_cheapestFor 81 = .ok (.iconst 2, 1) := dk_5 (dk_at dksX4_cheapestFor_3 12 rfl rfl)
theorem dX4_cheapestFor_82 : decode cX4_cheapestFor 82 = .ok (.invokevirtual 54, 3) := dk_182 0 54 (dk_at dksX4_cheapestFor_3 13 rfl rfl)
theorem dX4_cheapestFor_85 : decode cX4_cheapestFor 85 = .ok (.goto 4, 3) := dk_167 0 4 (dk_at dksX4_cheapestFor_3 16 rfl rfl)
theorem dX4_cheapestFor_88 : decode cX4_cheapestFor 88 = .ok (.iload_n 2, 1) := dk_28 (dk_at dksX4_cheapestFor_3 19 rfl rfl)
theorem dX4_cheapestFor_89 : decode cX4_cheapestFor 89 = .ok (.ireturn, 1) := dk_172 (dk_at dksX4_cheapestFor_3 20 rfl rfl)
abbrev cX4_lease : ByteArray := prog_20_method_69_code
def yX4_lease : MethodName := ⟨RX4, "lease", "(III)I"⟩
def dkwX4_lease_0 : List UInt8 := [42, 182, 0, 134, 42, 42, 27, 28, 29, 182, 0, 174, 6, 182, 0, 141, 172]
abbrev dktX4_lease_0 : List UInt8 := dkwX4_lease_0 ++ []
theorem dksX4_lease_0 : cX4_lease.data.toList.drop 0 = dktX4_lease_0 := by decide +kernel
theorem dX4_lease_0 : decode cX4_lease 0 = .ok (.aload_n 0, 1) := dk_42 (dk_at dksX4_lease_0 0 rfl rfl)
theorem dX4_lease_1 : decode cX4_lease 1 = .ok (.invokevirtual 134, 3) := dk_182 0 134 (dk_at dksX4_lease_0 1 rfl rfl)
theorem dX4_lease_4 : decode cX4_lease 4 = .ok (.aload_n 0, 1) := dk_42 (dk_at dksX4_lease_0 4 rfl rfl)
theorem dX4_lease_5 : decode cX4_lease 5 = .ok (.aload_n 0, 1) := dk_42 (dk_at dksX4_lease_0 5 rfl rfl)
theorem dX4_lease_6 : decode cX4_lease 6 = .ok (.iload_n 1, 1) := dk_27 (dk_at dksX4_lease_0 6 rfl rfl)
theorem dX4_lease_7 : decode cX4_lease 7 = .ok (.iload_n 2, 1) := dk_28 (dk_at dksX4_lease_0 7 rfl rfl)
theorem dX4_lease_8 : decode cX4_lease 8 = .ok (.iload_n 3, 1) := dk_29 (dk_at dksX4_lease_0 8 rfl rfl)
theorem dX4_lease_9 : decode cX4_lease 9 = .ok (.invokevirtual 174, 3) := dk_182 0 174 (dk_at dksX4_lease_0 9 rfl rfl)
theorem dX4_lease_12 : decode cX4_lease 12 = .ok (.iconst 3, 1) := dk_6 (dk_at dksX4_lease_0 12 rfl rfl)
theorem dX4_lease_13 : decode cX4_lease 13 = .ok (.invokevirtual 141, 3) := dk_182 0 141 (dk_at dksX4_lease_0 13 rfl rfl)
theorem dX4_lease_16 : decode cX4_lease 16 = .ok (.ireturn, 1) := dk_172 (dk_at dksX4_lease_0 16 rfl rfl)
abbrev cX4_leases : ByteArray := prog_20_method_30_code
def yX4_leases : MethodName := ⟨RX4, "leases", "(III)I"⟩
def dkwX4_leases_5 : List UInt8 := [96, 29, 79, 42, 21, 5, 182, 0, 99, 172]
abbrev dktX4_leases_5 : List UInt8 := dkwX4_leases_5 ++ []
def dkwX4_leases_4 : List UInt8 := [16, 10, 16, 6, 28, 104, 96, 7, 96, 21, 5, 79, 42, 180, 0, 7, 16, 10, 16, 6, 28, 104, 96, 8]
abbrev dktX4_leases_4 : List UInt8 := dkwX4_leases_4 ++ dktX4_leases_5
def dkwX4_leases_3 : List UInt8 := [100, 79, 42, 180, 0, 7, 16, 10, 16, 6, 28, 104, 96, 6, 96, 27, 4, 96, 79, 42, 180, 0, 7]
abbrev dktX4_leases_3 : List UInt8 := dkwX4_leases_3 ++ dktX4_leases_4
def dkwX4_leases_2 : List UInt8 := [172, 42, 28, 182, 0, 115, 54, 5, 42, 180, 0, 7, 16, 86, 5, 27, 104, 96, 3, 96, 92, 46, 21, 5]
abbrev dktX4_leases_2 : List UInt8 := dkwX4_leases_2 ++ dktX4_leases_3
def dkwX4_leases_1 : List UInt8 := [184, 0, 66, 154, 0, 6, 16, 254, 172, 42, 27, 28, 182, 0, 121, 54, 4, 21, 4, 158, 0, 6, 21, 4]
abbrev dktX4_leases_1 : List UInt8 := dkwX4_leases_1 ++ dktX4_leases_2
def dkwX4_leases_0 : List UInt8 := [42, 27, 182, 0, 102, 153, 0, 11, 42, 28, 182, 0, 118, 154, 0, 5, 2, 172, 29, 4, 16, 12]
abbrev dktX4_leases_0 : List UInt8 := dkwX4_leases_0 ++ dktX4_leases_1
theorem dksX4_leases_0 : cX4_leases.data.toList.drop 0 = dktX4_leases_0 := by decide +kernel
theorem dksX4_leases_1 : cX4_leases.data.toList.drop 22 = dktX4_leases_1 := dk_seg dksX4_leases_0 22 rfl rfl
theorem dksX4_leases_2 : cX4_leases.data.toList.drop 46 = dktX4_leases_2 := dk_seg dksX4_leases_1 24 rfl rfl
theorem dksX4_leases_3 : cX4_leases.data.toList.drop 70 = dktX4_leases_3 := dk_seg dksX4_leases_2 24 rfl rfl
theorem dksX4_leases_4 : cX4_leases.data.toList.drop 93 = dktX4_leases_4 := dk_seg dksX4_leases_3 23 rfl rfl
theorem dksX4_leases_5 : cX4_leases.data.toList.drop 117 = dktX4_leases_5 := dk_seg dksX4_leases_4 24 rfl rfl
theorem dX4_leases_0 : decode cX4_leases 0 = .ok (.aload_n 0, 1) := dk_42 (dk_at dksX4_leases_0 0 rfl rfl)
theorem dX4_leases_1 : decode cX4_leases 1 = .ok (.iload_n 1, 1) := dk_27 (dk_at dksX4_leases_0 1 rfl rfl)
theorem dX4_leases_2 : decode cX4_leases 2 = .ok (.invokevirtual 102, 3) := dk_182 0 102 (dk_at dksX4_leases_0 2 rfl rfl)
theorem dX4_leases_5 : decode cX4_leases 5 = .ok (.ifCond .eq 11, 3) := dk_153 0 11 (dk_at dksX4_leases_0 5 rfl rfl)
theorem dX4_leases_8 : decode cX4_leases 8 = .ok (.aload_n 0, 1) := dk_42 (dk_at dksX4_leases_0 8 rfl rfl)
theorem dX4_leases_9 : decode cX4_leases 9 = .ok (.iload_n 2, 1) := dk_28 (dk_at dksX4_leases_0 9 rfl rfl)
theorem dX4_leases_10 : decode cX4_leases 10 = .ok (.invokevirtual 118, 3) := dk_182 0 118 (dk_at dksX4_leases_0 10 rfl rfl)
theorem dX4_leases_13 : decode cX4_leases 13 = .ok (.ifCond .ne 5, 3) := dk_154 0 5 (dk_at dksX4_leases_0 13 rfl rfl)
theorem dX4_leases_16 : decode cX4_leases 16 = .ok (.iconst (-1), 1) := dk_2 (dk_at dksX4_leases_0 16 rfl rfl)
theorem dX4_leases_17 : decode cX4_leases 17 = .ok (.ireturn, 1) := dk_172 (dk_at dksX4_leases_0 17 rfl rfl)
theorem dX4_leases_18 : decode cX4_leases 18 = .ok (.iload_n 3, 1) := dk_29 (dk_at dksX4_leases_0 18 rfl rfl)
theorem dX4_leases_19 : decode cX4_leases 19 = .ok (.iconst 1, 1) := dk_4 (dk_at dksX4_leases_0 19 rfl rfl)
theorem dX4_leases_20 : decode cX4_leases 20 = .ok (.bipush 12, 2) := dk_16 12 (dk_at dksX4_leases_0 20 rfl rfl)
theorem dX4_leases_22 : decode cX4_leases 22 = .ok (.invokestatic 66, 3) := dk_184 0 66 (dk_at dksX4_leases_1 0 rfl rfl)
theorem dX4_leases_25 : decode cX4_leases 25 = .ok (.ifCond .ne 6, 3) := dk_154 0 6 (dk_at dksX4_leases_1 3 rfl rfl)
theorem dX4_leases_28 : decode cX4_leases 28 = .ok (.bipush (-2), 2) := dk_16 254 (dk_at dksX4_leases_1 6 rfl rfl)
theorem dX4_leases_30 : decode cX4_leases 30 = .ok (.ireturn, 1) := dk_172 (dk_at dksX4_leases_1 8 rfl rfl)
theorem dX4_leases_31 : decode cX4_leases 31 = .ok (.aload_n 0, 1) := dk_42 (dk_at dksX4_leases_1 9 rfl rfl)
theorem dX4_leases_32 : decode cX4_leases 32 = .ok (.iload_n 1, 1) := dk_27 (dk_at dksX4_leases_1 10 rfl rfl)
theorem dX4_leases_33 : decode cX4_leases 33 = .ok (.iload_n 2, 1) := dk_28 (dk_at dksX4_leases_1 11 rfl rfl)
theorem dX4_leases_34 : decode cX4_leases 34 = .ok (.invokevirtual 121, 3) := dk_182 0 121 (dk_at dksX4_leases_1 12 rfl rfl)
theorem dX4_leases_37 : decode cX4_leases 37 = .ok (.istore 4, 2) := dk_54 4 (dk_at dksX4_leases_1 15 rfl rfl)
theorem dX4_leases_39 : decode cX4_leases 39 = .ok (.iload 4, 2) := dk_21 4 (dk_at dksX4_leases_1 17 rfl rfl)
theorem dX4_leases_41 : decode cX4_leases 41 = .ok (.ifCond .le 6, 3) := dk_158 0 6 (dk_at dksX4_leases_1 19 rfl rfl)
theorem dX4_leases_44 : decode cX4_leases 44 = .ok (.iload 4, 2) := dk_21 4 (dk_at dksX4_leases_1 22 rfl rfl)
theorem dX4_leases_46 : decode cX4_leases 46 = .ok (.ireturn, 1) := dk_172 (dk_at dksX4_leases_2 0 rfl rfl)
theorem dX4_leases_47 : decode cX4_leases 47 = .ok (.aload_n 0, 1) := dk_42 (dk_at dksX4_leases_2 1 rfl rfl)
theorem dX4_leases_48 : decode cX4_leases 48 = .ok (.iload_n 2, 1) := dk_28 (dk_at dksX4_leases_2 2 rfl rfl)
theorem dX4_leases_49 : decode cX4_leases 49 = .ok (.invokevirtual 115, 3) := dk_182 0 115 (dk_at dksX4_leases_2 3 rfl rfl)
theorem dX4_leases_52 : decode cX4_leases 52 = .ok (.istore 5, 2) := dk_54 5 (dk_at dksX4_leases_2 6 rfl rfl)
theorem dX4_leases_54 : decode cX4_leases 54 = .ok (.aload_n 0, 1) := dk_42 (dk_at dksX4_leases_2 8 rfl rfl)
theorem dX4_leases_55 : decode cX4_leases 55 = .ok (.getfield 7, 3) := dk_180 0 7 (dk_at dksX4_leases_2 9 rfl rfl)
theorem dX4_leases_58 : decode cX4_leases 58 = .ok (.bipush 86, 2) := dk_16 86 (dk_at dksX4_leases_2 12 rfl rfl)
theorem dX4_leases_60 : decode cX4_leases 60 = .ok (.iconst 2, 1) := dk_5 (dk_at dksX4_leases_2 14 rfl rfl)
theorem dX4_leases_61 : decode cX4_leases 61 = .ok (.iload_n 1, 1) := dk_27 (dk_at dksX4_leases_2 15 rfl rfl)
theorem dX4_leases_62 : decode cX4_leases 62 = .ok (.imul, 1) := dk_104 (dk_at dksX4_leases_2 16 rfl rfl)
theorem dX4_leases_63 : decode cX4_leases 63 = .ok (.iadd, 1) := dk_96 (dk_at dksX4_leases_2 17 rfl rfl)
theorem dX4_leases_64 : decode cX4_leases 64 = .ok (.iconst 0, 1) := dk_3 (dk_at dksX4_leases_2 18 rfl rfl)
theorem dX4_leases_65 : decode cX4_leases 65 = .ok (.iadd, 1) := dk_96 (dk_at dksX4_leases_2 19 rfl rfl)
theorem dX4_leases_66 : decode cX4_leases 66 = .ok (.dup2, 1) := dk_92 (dk_at dksX4_leases_2 20 rfl rfl)
theorem dX4_leases_67 : decode cX4_leases 67 = .ok (.iaload, 1) := dk_46 (dk_at dksX4_leases_2 21 rfl rfl)
theorem dX4_leases_68 : decode cX4_leases 68 = .ok (.iload 5, 2) := dk_21 5 (dk_at dksX4_leases_2 22 rfl rfl)
theorem dX4_leases_70 : decode cX4_leases 70 = .ok (.isub, 1) := dk_100 (dk_at dksX4_leases_3 0 rfl rfl)
theorem dX4_leases_71 : decode cX4_leases 71 = .ok (.iastore, 1) := dk_79 (dk_at dksX4_leases_3 1 rfl rfl)
theorem dX4_leases_72 : decode cX4_leases 72 = .ok (.aload_n 0, 1) := dk_42 (dk_at dksX4_leases_3 2 rfl rfl)
theorem dX4_leases_73 : decode cX4_leases 73 = .ok (.getfield 7, 3) := dk_180 0 7 (dk_at dksX4_leases_3 3 rfl rfl)
theorem dX4_leases_76 : decode cX4_leases 76 = .ok (.bipush 10, 2) := dk_16 10 (dk_at dksX4_leases_3 6 rfl rfl)
theorem dX4_leases_78 : decode cX4_leases 78 = .ok (.bipush 6, 2) := dk_16 6 (dk_at dksX4_leases_3 8 rfl rfl)
theorem dX4_leases_80 : decode cX4_leases 80 = .ok (.iload_n 2, 1) := dk_28 (dk_at dksX4_leases_3 10 rfl rfl)
theorem dX4_leases_81 : decode cX4_leases 81 = .ok (.imul, 1) := dk_104 (dk_at dksX4_leases_3 11 rfl rfl)
theorem dX4_leases_82 : decode cX4_leases 82 = .ok (.iadd, 1) := dk_96 (dk_at dksX4_leases_3 12 rfl rfl)
theorem dX4_leases_83 : decode cX4_leases 83 = .ok (.iconst 3, 1) := dk_6 (dk_at dksX4_leases_3 13 rfl rfl)
theorem dX4_leases_84 : decode cX4_leases 84 = .ok (.iadd, 1) := dk_96 (dk_at dksX4_leases_3 14 rfl rfl)
theorem dX4_leases_85 : decode cX4_leases 85 = .ok (.iload_n 1, 1) := dk_27 (dk_at dksX4_leases_3 15 rfl rfl)
theorem dX4_leases_86 : decode cX4_leases 86 = .ok (.iconst 1, 1) := dk_4 (dk_at dksX4_leases_3 16 rfl rfl)
theorem dX4_leases_87 : decode cX4_leases 87 = .ok (.iadd, 1) := dk_96 (dk_at dksX4_leases_3 17 rfl rfl)
theorem dX4_leases_88 : decode cX4_leases 88 = .ok (.iastore, 1) := dk_79 (dk_at dksX4_leases_3 18 rfl rfl)
theorem dX4_leases_89 : decode cX4_leases 89 = .ok (.aload_n 0, 1) := dk_42 (dk_at dksX4_leases_3 19 rfl rfl)
theorem dX4_leases_90 : decode cX4_leases 90 = .ok (.getfield 7, 3) := dk_180 0 7 (dk_at dksX4_leases_3 20 rfl rfl)
theorem dX4_leases_93 : decode cX4_leases 93 = .ok (.bipush 10, 2) := dk_16 10 (dk_at dksX4_leases_4 0 rfl rfl)
theorem dX4_leases_95 : decode cX4_leases 95 = .ok (.bipush 6, 2) := dk_16 6 (dk_at dksX4_leases_4 2 rfl rfl)
theorem dX4_leases_97 : decode cX4_leases 97 = .ok (.iload_n 2, 1) := dk_28 (dk_at dksX4_leases_4 4 rfl rfl)
theorem dX4_leases_98 : decode cX4_leases 98 = .ok (.imul, 1) := dk_104 (dk_at dksX4_leases_4 5 rfl rfl)
theorem dX4_leases_99 : decode cX4_leases 99 = .ok (.iadd, 1) := dk_96 (dk_at dksX4_leases_4 6 rfl rfl)
theorem dX4_leases_100 : decode cX4_leases 100 = .ok (.iconst 4, 1) := dk_7 (dk_at dksX4_leases_4 7 rfl rfl)
theorem dX4_leases_101 : decode cX4_leases 101 = .ok (.iadd, 1) := dk_96 (dk_at dksX4_leases_4 8 rfl rfl)
theorem dX4_leases_102 : decode cX4_leases 102 = .ok (.iload 5, 2) := dk_21 5 (dk_at dksX4_leases_4 9 rfl rfl)
theorem dX4_leases_104 : decode cX4_leases 104 = .ok (.iastore, 1) := dk_79 (dk_at dksX4_leases_4 11 rfl rfl)
theorem dX4_leases_105 : decode cX4_leases 105 = .ok (.aload_n 0, 1) := dk_42 (dk_at dksX4_leases_4 12 rfl rfl)
theorem dX4_leases_106 : decode cX4_leases 106 = .ok (.getfield 7, 3) := dk_180 0 7 (dk_at dksX4_leases_4 13 rfl rfl)
theorem dX4_leases_109 : decode cX4_leases 109 = .ok (.bipush 10, 2) := dk_16 10 (dk_at dksX4_leases_4 16 rfl rfl)
theorem dX4_leases_111 : decode cX4_leases 111 = .ok (.bipush 6, 2) := dk_16 6 (dk_at dksX4_leases_4 18 rfl rfl)
theorem dX4_leases_113 : decode cX4_leases 113 = .ok (.iload_n 2, 1) := dk_28 (dk_at dksX4_leases_4 20 rfl rfl)
theorem dX4_leases_114 : decode cX4_leases 114 = .ok (.imul, 1) := dk_104 (dk_at dksX4_leases_4 21 rfl rfl)
theorem dX4_leases_115 : decode cX4_leases 115 = .ok (.iadd, 1) := dk_96 (dk_at dksX4_leases_4 22 rfl rfl)
theorem dX4_leases_116 : decode cX4_leases 116 = .ok (.iconst 5, 1) := dk_8 (dk_at dksX4_leases_4 23 rfl rfl)
theorem dX4_leases_117 : decode cX4_leases 117 = .ok (.iadd, 1) := dk_96 (dk_at dksX4_leases_5 0 rfl rfl)
theorem dX4_leases_118 : decode cX4_leases 118 = .ok (.iload_n 3, 1) := dk_29 (dk_at dksX4_leases_5 1 rfl rfl)
theorem dX4_leases_119 : decode cX4_leases 119 = .ok (.iastore, 1) := dk_79 (dk_at dksX4_leases_5 2 rfl rfl)
theorem dX4_leases_120 : decode cX4_leases 120 = .ok (.aload_n 0, 1) := dk_42 (dk_at dksX4_leases_5 3 rfl rfl)
theorem dX4_leases_121 : decode cX4_leases 121 = .ok (.iload 5, 2) := dk_21 5 (dk_at dksX4_leases_5 4 rfl rfl)
theorem dX4_leases_123 : decode cX4_leases 123 = .ok (.invokevirtual 99, 3) := dk_182 0 99 (dk_at dksX4_leases_5 6 rfl rfl)
theorem dX4_leases_126 : decode cX4_leases 126 = .ok (.ireturn, 1) := dk_172 (dk_at dksX4_leases_5 9 rfl rfl)
abbrev cX4_endLease : ByteArray := prog_20_method_70_code
def yX4_endLease : MethodName := ⟨RX4, "endLease", "(I)I"⟩
def dkwX4_endLease_0 : List UInt8 := [42, 182, 0, 134, 42, 42, 27, 182, 0, 177, 5, 182, 0, 141, 172]
abbrev dktX4_endLease_0 : List UInt8 := dkwX4_endLease_0 ++ []
theorem dksX4_endLease_0 : cX4_endLease.data.toList.drop 0 = dktX4_endLease_0 := by decide +kernel
theorem dX4_endLease_0 : decode cX4_endLease 0 = .ok (.aload_n 0, 1) := dk_42 (dk_at dksX4_endLease_0 0 rfl rfl)
theorem dX4_endLease_1 : decode cX4_endLease 1 = .ok (.invokevirtual 134, 3) := dk_182 0 134 (dk_at dksX4_endLease_0 1 rfl rfl)
theorem dX4_endLease_4 : decode cX4_endLease 4 = .ok (.aload_n 0, 1) := dk_42 (dk_at dksX4_endLease_0 4 rfl rfl)
theorem dX4_endLease_5 : decode cX4_endLease 5 = .ok (.aload_n 0, 1) := dk_42 (dk_at dksX4_endLease_0 5 rfl rfl)
theorem dX4_endLease_6 : decode cX4_endLease 6 = .ok (.iload_n 1, 1) := dk_27 (dk_at dksX4_endLease_0 6 rfl rfl)
theorem dX4_endLease_7 : decode cX4_endLease 7 = .ok (.invokevirtual 177, 3) := dk_182 0 177 (dk_at dksX4_endLease_0 7 rfl rfl)
theorem dX4_endLease_10 : decode cX4_endLease 10 = .ok (.iconst 2, 1) := dk_5 (dk_at dksX4_endLease_0 10 rfl rfl)
theorem dX4_endLease_11 : decode cX4_endLease 11 = .ok (.invokevirtual 141, 3) := dk_182 0 141 (dk_at dksX4_endLease_0 11 rfl rfl)
theorem dX4_endLease_14 : decode cX4_endLease 14 = .ok (.ireturn, 1) := dk_172 (dk_at dksX4_endLease_0 14 rfl rfl)
abbrev cX4_endsLease : ByteArray := prog_20_method_32_code
def yX4_endsLease : MethodName := ⟨RX4, "endsLease", "(I)I"⟩
def dkwX4_endsLease_2 : List UInt8 := [172]
abbrev dktX4_endsLease_2 : List UInt8 := dkwX4_endsLease_2 ++ []
def dkwX4_endsLease_1 : List UInt8 := [182, 0, 93, 172, 42, 27, 7, 182, 0, 70, 5, 108, 61, 42, 27, 28, 182, 0, 124, 42, 28, 182, 0, 99]
abbrev dktX4_endsLease_1 : List UInt8 := dkwX4_endsLease_1 ++ dktX4_endsLease_2
def dkwX4_endsLease_0 : List UInt8 := [42, 27, 182, 0, 118, 154, 0, 5, 2, 172, 42, 27, 182, 0, 74, 2, 160, 0, 11, 42, 16, 10, 27]
abbrev dktX4_endsLease_0 : List UInt8 := dkwX4_endsLease_0 ++ dktX4_endsLease_1
theorem dksX4_endsLease_0 : cX4_endsLease.data.toList.drop 0 = dktX4_endsLease_0 := by decide +kernel
theorem dksX4_endsLease_1 : cX4_endsLease.data.toList.drop 23 = dktX4_endsLease_1 := dk_seg dksX4_endsLease_0 23 rfl rfl
theorem dksX4_endsLease_2 : cX4_endsLease.data.toList.drop 47 = dktX4_endsLease_2 := dk_seg dksX4_endsLease_1 24 rfl rfl
theorem dX4_endsLease_0 : decode cX4_endsLease 0 = .ok (.aload_n 0, 1) := dk_42 (dk_at dksX4_endsLease_0 0 rfl rfl)
theorem dX4_endsLease_1 : decode cX4_endsLease 1 = .ok (.iload_n 1, 1) := dk_27 (dk_at dksX4_endsLease_0 1 rfl rfl)
theorem dX4_endsLease_2 : decode cX4_endsLease 2 = .ok (.invokevirtual 118, 3) := dk_182 0 118 (dk_at dksX4_endsLease_0 2 rfl rfl)
theorem dX4_endsLease_5 : decode cX4_endsLease 5 = .ok (.ifCond .ne 5, 3) := dk_154 0 5 (dk_at dksX4_endsLease_0 5 rfl rfl)
theorem dX4_endsLease_8 : decode cX4_endsLease 8 = .ok (.iconst (-1), 1) := dk_2 (dk_at dksX4_endsLease_0 8 rfl rfl)
theorem dX4_endsLease_9 : decode cX4_endsLease 9 = .ok (.ireturn, 1) := dk_172 (dk_at dksX4_endsLease_0 9 rfl rfl)
theorem dX4_endsLease_10 : decode cX4_endsLease 10 = .ok (.aload_n 0, 1) := dk_42 (dk_at dksX4_endsLease_0 10 rfl rfl)
theorem dX4_endsLease_11 : decode cX4_endsLease 11 = .ok (.iload_n 1, 1) := dk_27 (dk_at dksX4_endsLease_0 11 rfl rfl)
theorem dX4_endsLease_12 : decode cX4_endsLease 12 = .ok (.invokevirtual 74, 3) := dk_182 0 74 (dk_at dksX4_endsLease_0 12 rfl rfl)
theorem dX4_endsLease_15 : decode cX4_endsLease 15 = .ok (.iconst (-1), 1) := dk_2 (dk_at dksX4_endsLease_0 15 rfl rfl)
theorem dX4_endsLease_16 : decode cX4_endsLease 16 = .ok (.if_icmp .ne 11, 3) := dk_160 0 11 (dk_at dksX4_endsLease_0 16 rfl rfl)
theorem dX4_endsLease_19 : decode cX4_endsLease 19 = .ok (.aload_n 0, 1) := dk_42 (dk_at dksX4_endsLease_0 19 rfl rfl)
theorem dX4_endsLease_20 : decode cX4_endsLease 20 = .ok (.bipush 10, 2) := dk_16 10 (dk_at dksX4_endsLease_0 20 rfl rfl)
theorem dX4_endsLease_22 : decode cX4_endsLease 22 = .ok (.iload_n 1, 1) := dk_27 (dk_at dksX4_endsLease_0 22 rfl rfl)
theorem dX4_endsLease_23 : decode cX4_endsLease 23 = .ok (.invokevirtual 93, 3) := dk_182 0 93 (dk_at dksX4_endsLease_1 0 rfl rfl)
theorem dX4_endsLease_26 : decode cX4_endsLease 26 = .ok (.ireturn, 1) := dk_172 (dk_at dksX4_endsLease_1 3 rfl rfl)
theorem dX4_endsLease_27 : decode cX4_endsLease 27 = .ok (.aload_n 0, 1) := dk_42 (dk_at dksX4_endsLease_1 4 rfl rfl)
theorem dX4_endsLease_28 : decode cX4_endsLease 28 = .ok (.iload_n 1, 1) := dk_27 (dk_at dksX4_endsLease_1 5 rfl rfl)
theorem dX4_endsLease_29 : decode cX4_endsLease 29 = .ok (.iconst 4, 1) := dk_7 (dk_at dksX4_endsLease_1 6 rfl rfl)
theorem dX4_endsLease_30 : decode cX4_endsLease 30 = .ok (.invokevirtual 70, 3) := dk_182 0 70 (dk_at dksX4_endsLease_1 7 rfl rfl)
theorem dX4_endsLease_33 : decode cX4_endsLease 33 = .ok (.iconst 2, 1) := dk_5 (dk_at dksX4_endsLease_1 10 rfl rfl)
theorem dX4_endsLease_34 : decode cX4_endsLease 34 = .ok (.idiv, 1) := dk_108 (dk_at dksX4_endsLease_1 11 rfl rfl)
theorem dX4_endsLease_35 : decode cX4_endsLease 35 = .ok (.istore_n 2, 1) := dk_61 (dk_at dksX4_endsLease_1 12 rfl rfl)
theorem dX4_endsLease_36 : decode cX4_endsLease 36 = .ok (.aload_n 0, 1) := dk_42 (dk_at dksX4_endsLease_1 13 rfl rfl)
theorem dX4_endsLease_37 : decode cX4_endsLease 37 = .ok (.iload_n 1, 1) := dk_27 (dk_at dksX4_endsLease_1 14 rfl rfl)
theorem dX4_endsLease_38 : decode cX4_endsLease 38 = .ok (.iload_n 2, 1) := dk_28 (dk_at dksX4_endsLease_1 15 rfl rfl)
theorem dX4_endsLease_39 : decode cX4_endsLease 39 = .ok (.invokevirtual 124, 3) := dk_182 0 124 (dk_at dksX4_endsLease_1 16 rfl rfl)
theorem dX4_endsLease_42 : decode cX4_endsLease 42 = .ok (.aload_n 0, 1) := dk_42 (dk_at dksX4_endsLease_1 19 rfl rfl)
theorem dX4_endsLease_43 : decode cX4_endsLease 43 = .ok (.iload_n 2, 1) := dk_28 (dk_at dksX4_endsLease_1 20 rfl rfl)
theorem dX4_endsLease_44 : decode cX4_endsLease 44 = .ok (.invokevirtual 99, 3) := dk_182 0 99 (dk_at dksX4_endsLease_1 21 rfl rfl)
theorem dX4_endsLease_47 : decode cX4_endsLease 47 = .ok (.ireturn, 1) := dk_172 (dk_at dksX4_endsLease_2 0 rfl rfl)
abbrev cX4_frees : ByteArray := prog_20_method_31_code
def yX4_frees : MethodName := ⟨RX4, "frees", "(II)V"⟩
def dkwX4_frees_3 : List UInt8 := [180, 0, 7, 16, 10, 16, 6, 27, 104, 96, 8, 96, 3, 79, 177]
abbrev dktX4_frees_3 : List UInt8 := dkwX4_frees_3 ++ []
def dkwX4_frees_2 : List UInt8 := [27, 104, 96, 6, 96, 3, 79, 42, 180, 0, 7, 16, 10, 16, 6, 27, 104, 96, 7, 96, 3, 79, 42]
abbrev dktX4_frees_2 : List UInt8 := dkwX4_frees_2 ++ dktX4_frees_3
def dkwX4_frees_1 : List UInt8 := [180, 0, 7, 8, 92, 46, 42, 27, 7, 182, 0, 70, 28, 100, 96, 79, 42, 180, 0, 7, 16, 10, 16, 6]
abbrev dktX4_frees_1 : List UInt8 := dkwX4_frees_1 ++ dktX4_frees_2
def dkwX4_frees_0 : List UInt8 := [42, 180, 0, 7, 16, 86, 5, 42, 27, 182, 0, 74, 104, 96, 3, 96, 92, 46, 28, 96, 79, 42]
abbrev dktX4_frees_0 : List UInt8 := dkwX4_frees_0 ++ dktX4_frees_1
theorem dksX4_frees_0 : cX4_frees.data.toList.drop 0 = dktX4_frees_0 := by decide +kernel
theorem dksX4_frees_1 : cX4_frees.data.toList.drop 22 = dktX4_frees_1 := dk_seg dksX4_frees_0 22 rfl rfl
theorem dksX4_frees_2 : cX4_frees.data.toList.drop 46 = dktX4_frees_2 := dk_seg dksX4_frees_1 24 rfl rfl
theorem dksX4_frees_3 : cX4_frees.data.toList.drop 69 = dktX4_frees_3 := dk_seg dksX4_frees_2 23 rfl rfl
theorem dX4_frees_0 : decode cX4_frees 0 = .ok (.aload_n 0, 1) := dk_42 (dk_at dksX4_frees_0 0 rfl rfl)
theorem dX4_frees_1 : decode cX4_frees 1 = .ok (.getfield 7, 3) := dk_180 0 7 (dk_at dksX4_frees_0 1 rfl rfl)
theorem dX4_frees_4 : decode cX4_frees 4 = .ok (.bipush 86, 2) := dk_16 86 (dk_at dksX4_frees_0 4 rfl rfl)
theorem dX4_frees_6 : decode cX4_frees 6 = .ok (.iconst 2, 1) := dk_5 (dk_at dksX4_frees_0 6 rfl rfl)
theorem dX4_frees_7 : decode cX4_frees 7 = .ok (.aload_n 0, 1) := dk_42 (dk_at dksX4_frees_0 7 rfl rfl)
theorem dX4_frees_8 : decode cX4_frees 8 = .ok (.iload_n 1, 1) := dk_27 (dk_at dksX4_frees_0 8 rfl rfl)
theorem dX4_frees_9 : decode cX4_frees 9 = .ok (.invokevirtual 74, 3) := dk_182 0 74 (dk_at dksX4_frees_0 9 rfl rfl)
theorem dX4_frees_12 : decode cX4_frees 12 = .ok (.imul, 1) := dk_104 (dk_at dksX4_frees_0 12 rfl rfl)
theorem dX4_frees_13 : decode cX4_frees 13 = .ok (.iadd, 1) := dk_96 (dk_at dksX4_frees_0 13 rfl rfl)
theorem dX4_frees_14 : decode cX4_frees 14 = .ok (.iconst 0, 1) := dk_3 (dk_at dksX4_frees_0 14 rfl rfl)
theorem dX4_frees_15 : decode cX4_frees 15 = .ok (.iadd, 1) := dk_96 (dk_at dksX4_frees_0 15 rfl rfl)
theorem dX4_frees_16 : decode cX4_frees 16 = .ok (.dup2, 1) := dk_92 (dk_at dksX4_frees_0 16 rfl rfl)
theorem dX4_frees_17 : decode cX4_frees 17 = .ok (.iaload, 1) := dk_46 (dk_at dksX4_frees_0 17 rfl rfl)
theorem dX4_frees_18 : decode cX4_frees 18 = .ok (.iload_n 2, 1) := dk_28 (dk_at dksX4_frees_0 18 rfl rfl)
theorem dX4_frees_19 : decode cX4_frees 19 = .ok (.iadd, 1) := dk_96 (dk_at dksX4_frees_0 19 rfl rfl)
theorem dX4_frees_20 : decode cX4_frees 20 = .ok (.iastore, 1) := dk_79 (dk_at dksX4_frees_0 20 rfl rfl)
theorem dX4_frees_21 : decode cX4_frees 21 = .ok (.aload_n 0, 1) := dk_42 (dk_at dksX4_frees_0 21 rfl rfl)
theorem dX4_frees_22 : decode cX4_frees 22 = .ok (.getfield 7, 3) := dk_180 0 7 (dk_at dksX4_frees_1 0 rfl rfl)
theorem dX4_frees_25 : decode cX4_frees 25 = .ok (.iconst 5, 1) := dk_8 (dk_at dksX4_frees_1 3 rfl rfl)
theorem dX4_frees_26 : decode cX4_frees 26 = .ok (.dup2, 1) := dk_92 (dk_at dksX4_frees_1 4 rfl rfl)
theorem dX4_frees_27 : decode cX4_frees 27 = .ok (.iaload, 1) := dk_46 (dk_at dksX4_frees_1 5 rfl rfl)
theorem dX4_frees_28 : decode cX4_frees 28 = .ok (.aload_n 0, 1) := dk_42 (dk_at dksX4_frees_1 6 rfl rfl)
theorem dX4_frees_29 : decode cX4_frees 29 = .ok (.iload_n 1, 1) := dk_27 (dk_at dksX4_frees_1 7 rfl rfl)
theorem dX4_frees_30 : decode cX4_frees 30 = .ok (.iconst 4, 1) := dk_7 (dk_at dksX4_frees_1 8 rfl rfl)
theorem dX4_frees_31 : decode cX4_frees 31 = .ok (.invokevirtual 70, 3) := dk_182 0 70 (dk_at dksX4_frees_1 9 rfl rfl)
theorem dX4_frees_34 : decode cX4_frees 34 = .ok (.iload_n 2, 1) := dk_28 (dk_at dksX4_frees_1 12 rfl rfl)
theorem dX4_frees_35 : decode cX4_frees 35 = .ok (.isub, 1) := dk_100 (dk_at dksX4_frees_1 13 rfl rfl)
theorem dX4_frees_36 : decode cX4_frees 36 = .ok (.iadd, 1) := dk_96 (dk_at dksX4_frees_1 14 rfl rfl)
theorem dX4_frees_37 : decode cX4_frees 37 = .ok (.iastore, 1) := dk_79 (dk_at dksX4_frees_1 15 rfl rfl)
theorem dX4_frees_38 : decode cX4_frees 38 = .ok (.aload_n 0, 1) := dk_42 (dk_at dksX4_frees_1 16 rfl rfl)
theorem dX4_frees_39 : decode cX4_frees 39 = .ok (.getfield 7, 3) := dk_180 0 7 (dk_at dksX4_frees_1 17 rfl rfl)
theorem dX4_frees_42 : decode cX4_frees 42 = .ok (.bipush 10, 2) := dk_16 10 (dk_at dksX4_frees_1 20 rfl rfl)
theorem dX4_frees_44 : decode cX4_frees 44 = .ok (.bipush 6, 2) := dk_16 6 (dk_at dksX4_frees_1 22 rfl rfl)
theorem dX4_frees_46 : decode cX4_frees 46 = .ok (.iload_n 1, 1) := dk_27 (dk_at dksX4_frees_2 0 rfl rfl)
theorem dX4_frees_47 : decode cX4_frees 47 = .ok (.imul, 1) := dk_104 (dk_at dksX4_frees_2 1 rfl rfl)
theorem dX4_frees_48 : decode cX4_frees 48 = .ok (.iadd, 1) := dk_96 (dk_at dksX4_frees_2 2 rfl rfl)
theorem dX4_frees_49 : decode cX4_frees 49 = .ok (.iconst 3, 1) := dk_6 (dk_at dksX4_frees_2 3 rfl rfl)
theorem dX4_frees_50 : decode cX4_frees 50 = .ok (.iadd, 1) := dk_96 (dk_at dksX4_frees_2 4 rfl rfl)
theorem dX4_frees_51 : decode cX4_frees 51 = .ok (.iconst 0, 1) := dk_3 (dk_at dksX4_frees_2 5 rfl rfl)
theorem dX4_frees_52 : decode cX4_frees 52 = .ok (.iastore, 1) := dk_79 (dk_at dksX4_frees_2 6 rfl rfl)
theorem dX4_frees_53 : decode cX4_frees 53 = .ok (.aload_n 0, 1) := dk_42 (dk_at dksX4_frees_2 7 rfl rfl)
theorem dX4_frees_54 : decode cX4_frees 54 = .ok (.getfield 7, 3) := dk_180 0 7 (dk_at dksX4_frees_2 8 rfl rfl)
theorem dX4_frees_57 : decode cX4_frees 57 = .ok (.bipush 10, 2) := dk_16 10 (dk_at dksX4_frees_2 11 rfl rfl)
theorem dX4_frees_59 : decode cX4_frees 59 = .ok (.bipush 6, 2) := dk_16 6 (dk_at dksX4_frees_2 13 rfl rfl)
theorem dX4_frees_61 : decode cX4_frees 61 = .ok (.iload_n 1, 1) := dk_27 (dk_at dksX4_frees_2 15 rfl rfl)
theorem dX4_frees_62 : decode cX4_frees 62 = .ok (.imul, 1) := dk_104 (dk_at dksX4_frees_2 16 rfl rfl)
theorem dX4_frees_63 : decode cX4_frees 63 = .ok (.iadd, 1) := dk_96 (dk_at dksX4_frees_2 17 rfl rfl)
theorem dX4_frees_64 : decode cX4_frees 64 = .ok (.iconst 4, 1) := dk_7 (dk_at dksX4_frees_2 18 rfl rfl)
theorem dX4_frees_65 : decode cX4_frees 65 = .ok (.iadd, 1) := dk_96 (dk_at dksX4_frees_2 19 rfl rfl)
theorem dX4_frees_66 : decode cX4_frees 66 = .ok (.iconst 0, 1) := dk_3 (dk_at dksX4_frees_2 20 rfl rfl)
theorem dX4_frees_67 : decode cX4_frees 67 = .ok (.iastore, 1) := dk_79 (dk_at dksX4_frees_2 21 rfl rfl)
theorem dX4_frees_68 : decode cX4_frees 68 = .ok (.aload_n 0, 1) := dk_42 (dk_at dksX4_frees_2 22 rfl rfl)
theorem dX4_frees_69 : decode cX4_frees 69 = .ok (.getfield 7, 3) := dk_180 0 7 (dk_at dksX4_frees_3 0 rfl rfl)
theorem dX4_frees_72 : decode cX4_frees 72 = .ok (.bipush 10, 2) := dk_16 10 (dk_at dksX4_frees_3 3 rfl rfl)
theorem dX4_frees_74 : decode cX4_frees 74 = .ok (.bipush 6, 2) := dk_16 6 (dk_at dksX4_frees_3 5 rfl rfl)
theorem dX4_frees_76 : decode cX4_frees 76 = .ok (.iload_n 1, 1) := dk_27 (dk_at dksX4_frees_3 7 rfl rfl)
theorem dX4_frees_77 : decode cX4_frees 77 = .ok (.imul, 1) := dk_104 (dk_at dksX4_frees_3 8 rfl rfl)
theorem dX4_frees_78 : decode cX4_frees 78 = .ok (.iadd, 1) := dk_96 (dk_at dksX4_frees_3 9 rfl rfl)
theorem dX4_frees_79 : decode cX4_frees 79 = .ok (.iconst 5, 1) := dk_8 (dk_at dksX4_frees_3 10 rfl rfl)
theorem dX4_frees_80 : decode cX4_frees 80 = .ok (.iadd, 1) := dk_96 (dk_at dksX4_frees_3 11 rfl rfl)
theorem dX4_frees_81 : decode cX4_frees 81 = .ok (.iconst 0, 1) := dk_3 (dk_at dksX4_frees_3 12 rfl rfl)
theorem dX4_frees_82 : decode cX4_frees 82 = .ok (.iastore, 1) := dk_79 (dk_at dksX4_frees_3 13 rfl rfl)
theorem dX4_frees_83 : decode cX4_frees 83 = .ok (.return_, 1) := dk_177 (dk_at dksX4_frees_3 14 rfl rfl)
abbrev cX4_renew : ByteArray := prog_20_method_71_code
def yX4_renew : MethodName := ⟨RX4, "renew", "(II)I"⟩
def dkwX4_renew_0 : List UInt8 := [42, 182, 0, 134, 42, 42, 27, 28, 182, 0, 180, 6, 182, 0, 141, 172]
abbrev dktX4_renew_0 : List UInt8 := dkwX4_renew_0 ++ []
theorem dksX4_renew_0 : cX4_renew.data.toList.drop 0 = dktX4_renew_0 := by decide +kernel
theorem dX4_renew_0 : decode cX4_renew 0 = .ok (.aload_n 0, 1) := dk_42 (dk_at dksX4_renew_0 0 rfl rfl)
theorem dX4_renew_1 : decode cX4_renew 1 = .ok (.invokevirtual 134, 3) := dk_182 0 134 (dk_at dksX4_renew_0 1 rfl rfl)
theorem dX4_renew_4 : decode cX4_renew 4 = .ok (.aload_n 0, 1) := dk_42 (dk_at dksX4_renew_0 4 rfl rfl)
theorem dX4_renew_5 : decode cX4_renew 5 = .ok (.aload_n 0, 1) := dk_42 (dk_at dksX4_renew_0 5 rfl rfl)
theorem dX4_renew_6 : decode cX4_renew 6 = .ok (.iload_n 1, 1) := dk_27 (dk_at dksX4_renew_0 6 rfl rfl)
theorem dX4_renew_7 : decode cX4_renew 7 = .ok (.iload_n 2, 1) := dk_28 (dk_at dksX4_renew_0 7 rfl rfl)
theorem dX4_renew_8 : decode cX4_renew 8 = .ok (.invokevirtual 180, 3) := dk_182 0 180 (dk_at dksX4_renew_0 8 rfl rfl)
theorem dX4_renew_11 : decode cX4_renew 11 = .ok (.iconst 3, 1) := dk_6 (dk_at dksX4_renew_0 11 rfl rfl)
theorem dX4_renew_12 : decode cX4_renew 12 = .ok (.invokevirtual 141, 3) := dk_182 0 141 (dk_at dksX4_renew_0 12 rfl rfl)
theorem dX4_renew_15 : decode cX4_renew 15 = .ok (.ireturn, 1) := dk_172 (dk_at dksX4_renew_0 15 rfl rfl)
abbrev cX4_renews : ByteArray := prog_20_method_33_code
def yX4_renews : MethodName := ⟨RX4, "renews", "(II)I"⟩
def dkwX4_renews_3 : List UInt8 := [16, 6, 27, 104, 96, 8, 96, 92, 46, 28, 96, 79, 42, 42, 27, 8, 182, 0, 70, 182, 0, 99, 172]
abbrev dktX4_renews_3 : List UInt8 := dkwX4_renews_3 ++ []
def dkwX4_renews_2 : List UInt8 := [16, 12, 164, 0, 16, 42, 16, 11, 42, 27, 8, 182, 0, 70, 182, 0, 93, 172, 42, 180, 0, 7, 16, 10]
abbrev dktX4_renews_2 : List UInt8 := dkwX4_renews_2 ++ dktX4_renews_3
def dkwX4_renews_1 : List UInt8 := [27, 182, 0, 74, 2, 160, 0, 11, 42, 16, 10, 27, 182, 0, 93, 172, 42, 27, 8, 182, 0, 70, 28, 96]
abbrev dktX4_renews_1 : List UInt8 := dkwX4_renews_1 ++ dktX4_renews_2
def dkwX4_renews_0 : List UInt8 := [42, 27, 182, 0, 118, 154, 0, 5, 2, 172, 28, 4, 16, 12, 184, 0, 66, 154, 0, 6, 16, 254, 172, 42]
abbrev dktX4_renews_0 : List UInt8 := dkwX4_renews_0 ++ dktX4_renews_1
theorem dksX4_renews_0 : cX4_renews.data.toList.drop 0 = dktX4_renews_0 := by decide +kernel
theorem dksX4_renews_1 : cX4_renews.data.toList.drop 24 = dktX4_renews_1 := dk_seg dksX4_renews_0 24 rfl rfl
theorem dksX4_renews_2 : cX4_renews.data.toList.drop 48 = dktX4_renews_2 := dk_seg dksX4_renews_1 24 rfl rfl
theorem dksX4_renews_3 : cX4_renews.data.toList.drop 72 = dktX4_renews_3 := dk_seg dksX4_renews_2 24 rfl rfl
theorem dX4_renews_0 : decode cX4_renews 0 = .ok (.aload_n 0, 1) := dk_42 (dk_at dksX4_renews_0 0 rfl rfl)
theorem dX4_renews_1 : decode cX4_renews 1 = .ok (.iload_n 1, 1) := dk_27 (dk_at dksX4_renews_0 1 rfl rfl)
theorem dX4_renews_2 : decode cX4_renews 2 = .ok (.invokevirtual 118, 3) := dk_182 0 118 (dk_at dksX4_renews_0 2 rfl rfl)
theorem dX4_renews_5 : decode cX4_renews 5 = .ok (.ifCond .ne 5, 3) := dk_154 0 5 (dk_at dksX4_renews_0 5 rfl rfl)
theorem dX4_renews_8 : decode cX4_renews 8 = .ok (.iconst (-1), 1) := dk_2 (dk_at dksX4_renews_0 8 rfl rfl)
theorem dX4_renews_9 : decode cX4_renews 9 = .ok (.ireturn, 1) := dk_172 (dk_at dksX4_renews_0 9 rfl rfl)
theorem dX4_renews_10 : decode cX4_renews 10 = .ok (.iload_n 2, 1) := dk_28 (dk_at dksX4_renews_0 10 rfl rfl)
theorem dX4_renews_11 : decode cX4_renews 11 = .ok (.iconst 1, 1) := dk_4 (dk_at dksX4_renews_0 11 rfl rfl)
theorem dX4_renews_12 : decode cX4_renews 12 = .ok (.bipush 12, 2) := dk_16 12 (dk_at dksX4_renews_0 12 rfl rfl)
theorem dX4_renews_14 : decode cX4_renews 14 = .ok (.invokestatic 66, 3) := dk_184 0 66 (dk_at dksX4_renews_0 14 rfl rfl)
theorem dX4_renews_17 : decode cX4_renews 17 = .ok (.ifCond .ne 6, 3) := dk_154 0 6 (dk_at dksX4_renews_0 17 rfl rfl)
theorem dX4_renews_20 : decode cX4_renews 20 = .ok (.bipush (-2), 2) := dk_16 254 (dk_at dksX4_renews_0 20 rfl rfl)
theorem dX4_renews_22 : decode cX4_renews 22 = .ok (.ireturn, 1) := dk_172 (dk_at dksX4_renews_0 22 rfl rfl)
theorem dX4_renews_23 : decode cX4_renews 23 = .ok (.aload_n 0, 1) := dk_42 (dk_at dksX4_renews_0 23 rfl rfl)
theorem dX4_renews_24 : decode cX4_renews 24 = .ok (.iload_n 1, 1) := dk_27 (dk_at dksX4_renews_1 0 rfl rfl)
theorem dX4_renews_25 : decode cX4_renews 25 = .ok (.invokevirtual 74, 3) := dk_182 0 74 (dk_at dksX4_renews_1 1 rfl rfl)
theorem dX4_renews_28 : decode cX4_renews 28 = .ok (.iconst (-1), 1) := dk_2 (dk_at dksX4_renews_1 4 rfl rfl)
theorem dX4_renews_29 : decode cX4_renews 29 = .ok (.if_icmp .ne 11, 3) := dk_160 0 11 (dk_at dksX4_renews_1 5 rfl rfl)
theorem dX4_renews_32 : decode cX4_renews 32 = .ok (.aload_n 0, 1) := dk_42 (dk_at dksX4_renews_1 8 rfl rfl)
theorem dX4_renews_33 : decode cX4_renews 33 = .ok (.bipush 10, 2) := dk_16 10 (dk_at dksX4_renews_1 9 rfl rfl)
theorem dX4_renews_35 : decode cX4_renews 35 = .ok (.iload_n 1, 1) := dk_27 (dk_at dksX4_renews_1 11 rfl rfl)
theorem dX4_renews_36 : decode cX4_renews 36 = .ok (.invokevirtual 93, 3) := dk_182 0 93 (dk_at dksX4_renews_1 12 rfl rfl)
theorem dX4_renews_39 : decode cX4_renews 39 = .ok (.ireturn, 1) := dk_172 (dk_at dksX4_renews_1 15 rfl rfl)
theorem dX4_renews_40 : decode cX4_renews 40 = .ok (.aload_n 0, 1) := dk_42 (dk_at dksX4_renews_1 16 rfl rfl)
theorem dX4_renews_41 : decode cX4_renews 41 = .ok (.iload_n 1, 1) := dk_27 (dk_at dksX4_renews_1 17 rfl rfl)
theorem dX4_renews_42 : decode cX4_renews 42 = .ok (.iconst 5, 1) := dk_8 (dk_at dksX4_renews_1 18 rfl rfl)
theorem dX4_renews_43 : decode cX4_renews 43 = .ok (.invokevirtual 70, 3) := dk_182 0 70 (dk_at dksX4_renews_1 19 rfl rfl)
theorem dX4_renews_46 : decode cX4_renews 46 = .ok (.iload_n 2, 1) := dk_28 (dk_at dksX4_renews_1 22 rfl rfl)
theorem dX4_renews_47 : decode cX4_renews 47 = .ok (.iadd, 1) := dk_96 (dk_at dksX4_renews_1 23 rfl rfl)
theorem dX4_renews_48 : decode cX4_renews 48 = .ok (.bipush 12, 2) := dk_16 12 (dk_at dksX4_renews_2 0 rfl rfl)
theorem dX4_renews_50 : decode cX4_renews 50 = .ok (.if_icmp .le 16, 3) := dk_164 0 16 (dk_at dksX4_renews_2 2 rfl rfl)
theorem dX4_renews_53 : decode cX4_renews 53 = .ok (.aload_n 0, 1) := dk_42 (dk_at dksX4_renews_2 5 rfl rfl)
theorem dX4_renews_54 : decode cX4_renews 54 = .ok (.bipush 11, 2) := dk_16 11 (dk_at dksX4_renews_2 6 rfl rfl)
theorem dX4_renews_56 : decode cX4_renews 56 = .ok (.aload_n 0, 1) := dk_42 (dk_at dksX4_renews_2 8 rfl rfl)
theorem dX4_renews_57 : decode cX4_renews 57 = .ok (.iload_n 1, 1) := dk_27 (dk_at dksX4_renews_2 9 rfl rfl)
theorem dX4_renews_58 : decode cX4_renews 58 = .ok (.iconst 5, 1) := dk_8 (dk_at dksX4_renews_2 10 rfl rfl)
theorem dX4_renews_59 : decode cX4_renews 59 = .ok (.invokevirtual 70, 3) := dk_182 0 70 (dk_at dksX4_renews_2 11 rfl rfl)
theorem dX4_renews_62 : decode cX4_renews 62 = .ok (.invokevirtual 93, 3) := dk_182 0 93 (dk_at dksX4_renews_2 14 rfl rfl)
theorem dX4_renews_65 : decode cX4_renews 65 = .ok (.ireturn, 1) := dk_172 (dk_at dksX4_renews_2 17 rfl rfl)
theorem dX4_renews_66 : decode cX4_renews 66 = .ok (.aload_n 0, 1) := dk_42 (dk_at dksX4_renews_2 18 rfl rfl)
theorem dX4_renews_67 : decode cX4_renews 67 = .ok (.getfield 7, 3) := dk_180 0 7 (dk_at dksX4_renews_2 19 rfl rfl)
theorem dX4_renews_70 : decode cX4_renews 70 = .ok (.bipush 10, 2) := dk_16 10 (dk_at dksX4_renews_2 22 rfl rfl)
theorem dX4_renews_72 : decode cX4_renews 72 = .ok (.bipush 6, 2) := dk_16 6 (dk_at dksX4_renews_3 0 rfl rfl)
theorem dX4_renews_74 : decode cX4_renews 74 = .ok (.iload_n 1, 1) := dk_27 (dk_at dksX4_renews_3 2 rfl rfl)
theorem dX4_renews_75 : decode cX4_renews 75 = .ok (.imul, 1) := dk_104 (dk_at dksX4_renews_3 3 rfl rfl)
theorem dX4_renews_76 : decode cX4_renews 76 = .ok (.iadd, 1) := dk_96 (dk_at dksX4_renews_3 4 rfl rfl)
theorem dX4_renews_77 : decode cX4_renews 77 = .ok (.iconst 5, 1) := dk_8 (dk_at dksX4_renews_3 5 rfl rfl)
theorem dX4_renews_78 : decode cX4_renews 78 = .ok (.iadd, 1) := dk_96 (dk_at dksX4_renews_3 6 rfl rfl)
theorem dX4_renews_79 : decode cX4_renews 79 = .ok (.dup2, 1) := dk_92 (dk_at dksX4_renews_3 7 rfl rfl)
theorem dX4_renews_80 : decode cX4_renews 80 = .ok (.iaload, 1) := dk_46 (dk_at dksX4_renews_3 8 rfl rfl)
theorem dX4_renews_81 : decode cX4_renews 81 = .ok (.iload_n 2, 1) := dk_28 (dk_at dksX4_renews_3 9 rfl rfl)
theorem dX4_renews_82 : decode cX4_renews 82 = .ok (.iadd, 1) := dk_96 (dk_at dksX4_renews_3 10 rfl rfl)
theorem dX4_renews_83 : decode cX4_renews 83 = .ok (.iastore, 1) := dk_79 (dk_at dksX4_renews_3 11 rfl rfl)
theorem dX4_renews_84 : decode cX4_renews 84 = .ok (.aload_n 0, 1) := dk_42 (dk_at dksX4_renews_3 12 rfl rfl)
theorem dX4_renews_85 : decode cX4_renews 85 = .ok (.aload_n 0, 1) := dk_42 (dk_at dksX4_renews_3 13 rfl rfl)
theorem dX4_renews_86 : decode cX4_renews 86 = .ok (.iload_n 1, 1) := dk_27 (dk_at dksX4_renews_3 14 rfl rfl)
theorem dX4_renews_87 : decode cX4_renews 87 = .ok (.iconst 5, 1) := dk_8 (dk_at dksX4_renews_3 15 rfl rfl)
theorem dX4_renews_88 : decode cX4_renews 88 = .ok (.invokevirtual 70, 3) := dk_182 0 70 (dk_at dksX4_renews_3 16 rfl rfl)
theorem dX4_renews_91 : decode cX4_renews 91 = .ok (.invokevirtual 99, 3) := dk_182 0 99 (dk_at dksX4_renews_3 19 rfl rfl)
theorem dX4_renews_94 : decode cX4_renews 94 = .ok (.ireturn, 1) := dk_172 (dk_at dksX4_renews_3 22 rfl rfl)
abbrev cX4_isLet : ByteArray := prog_20_method_72_code
def yX4_isLet : MethodName := ⟨RX4, "isLet", "(I)Z"⟩
def dkwX4_isLet_1 : List UInt8 := [42, 27, 182, 0, 74, 2, 159, 0, 7, 4, 167, 0, 4, 3, 172]
abbrev dktX4_isLet_1 : List UInt8 := dkwX4_isLet_1 ++ []
def dkwX4_isLet_0 : List UInt8 := [42, 42, 27, 182, 0, 118, 153, 0, 7, 3, 167, 0, 4, 4, 181, 0, 38, 42, 180, 0, 38, 154, 0, 16]
abbrev dktX4_isLet_0 : List UInt8 := dkwX4_isLet_0 ++ dktX4_isLet_1
theorem dksX4_isLet_0 : cX4_isLet.data.toList.drop 0 = dktX4_isLet_0 := by decide +kernel
theorem dksX4_isLet_1 : cX4_isLet.data.toList.drop 24 = dktX4_isLet_1 := dk_seg dksX4_isLet_0 24 rfl rfl
theorem dX4_isLet_0 : decode cX4_isLet 0 = .ok (.aload_n 0, 1) := dk_42 (dk_at dksX4_isLet_0 0 rfl rfl)
theorem dX4_isLet_1 : decode cX4_isLet 1 = .ok (.aload_n 0, 1) := dk_42 (dk_at dksX4_isLet_0 1 rfl rfl)
theorem dX4_isLet_2 : decode cX4_isLet 2 = .ok (.iload_n 1, 1) := dk_27 (dk_at dksX4_isLet_0 2 rfl rfl)
theorem dX4_isLet_3 : decode cX4_isLet 3 = .ok (.invokevirtual 118, 3) := dk_182 0 118 (dk_at dksX4_isLet_0 3 rfl rfl)
theorem dX4_isLet_6 : decode cX4_isLet 6 = .ok (.ifCond .eq 7, 3) := dk_153 0 7 (dk_at dksX4_isLet_0 6 rfl rfl)
theorem dX4_isLet_9 : decode cX4_isLet 9 = .ok (.iconst 0, 1) := dk_3 (dk_at dksX4_isLet_0 9 rfl rfl)
theorem dX4_isLet_10 : decode cX4_isLet 10 = .ok (.goto 4, 3) := dk_167 0 4 (dk_at dksX4_isLet_0 10 rfl rfl)
theorem dX4_isLet_13 : decode cX4_isLet 13 = .ok (.iconst 1, 1) := dk_4 (dk_at dksX4_isLet_0 13 rfl rfl)
theorem dX4_isLet_14 : decode cX4_isLet 14 = .ok (.putfield 38, 3) := dk_181 0 38 (dk_at dksX4_isLet_0 14 rfl rfl)
theorem dX4_isLet_17 : decode cX4_isLet 17 = .ok (.aload_n 0, 1) := dk_42 (dk_at dksX4_isLet_0 17 rfl rfl)
theorem dX4_isLet_18 : decode cX4_isLet 18 = .ok (.getfield 38, 3) := dk_180 0 38 (dk_at dksX4_isLet_0 18 rfl rfl)
theorem dX4_isLet_21 : decode cX4_isLet 21 = .ok (.ifCond .ne 16, 3) := dk_154 0 16 (dk_at dksX4_isLet_0 21 rfl rfl)
theorem dX4_isLet_24 : decode cX4_isLet 24 = .ok (.aload_n 0, 1) := dk_42 (dk_at dksX4_isLet_1 0 rfl rfl)
theorem dX4_isLet_25 : decode cX4_isLet 25 = .ok (.iload_n 1, 1) := dk_27 (dk_at dksX4_isLet_1 1 rfl rfl)
theorem dX4_isLet_26 : decode cX4_isLet 26 = .ok (.invokevirtual 74, 3) := dk_182 0 74 (dk_at dksX4_isLet_1 2 rfl rfl)
theorem dX4_isLet_29 : decode cX4_isLet 29 = .ok (.iconst (-1), 1) := dk_2 (dk_at dksX4_isLet_1 5 rfl rfl)
theorem dX4_isLet_30 : decode cX4_isLet 30 = .ok (.if_icmp .eq 7, 3) := dk_159 0 7 (dk_at dksX4_isLet_1 6 rfl rfl)
theorem dX4_isLet_33 : decode cX4_isLet 33 = .ok (.iconst 1, 1) := dk_4 (dk_at dksX4_isLet_1 9 rfl rfl)
theorem dX4_isLet_34 : decode cX4_isLet 34 = .ok (.goto 4, 3) := dk_167 0 4 (dk_at dksX4_isLet_1 10 rfl rfl)
theorem dX4_isLet_37 : decode cX4_isLet 37 = .ok (.iconst 0, 1) := dk_3 (dk_at dksX4_isLet_1 13 rfl rfl)
theorem dX4_isLet_38 : decode cX4_isLet 38 = .ok (.ireturn, 1) := dk_172 (dk_at dksX4_isLet_1 14 rfl rfl)
abbrev cX4_tenantOf : ByteArray := prog_20_method_74_code
def yX4_tenantOf : MethodName := ⟨RX4, "tenantOf", "(I)I"⟩
def dkwX4_tenantOf_0 : List UInt8 := [42, 27, 182, 0, 183, 153, 0, 11, 42, 27, 182, 0, 74, 167, 0, 4, 3, 172]
abbrev dktX4_tenantOf_0 : List UInt8 := dkwX4_tenantOf_0 ++ []
theorem dksX4_tenantOf_0 : cX4_tenantOf.data.toList.drop 0 = dktX4_tenantOf_0 := by decide +kernel
theorem dX4_tenantOf_0 : decode cX4_tenantOf 0 = .ok (.aload_n 0, 1) := dk_42 (dk_at dksX4_tenantOf_0 0 rfl rfl)
theorem dX4_tenantOf_1 : decode cX4_tenantOf 1 = .ok (.iload_n 1, 1) := dk_27 (dk_at dksX4_tenantOf_0 1 rfl rfl)
theorem dX4_tenantOf_2 : decode cX4_tenantOf 2 = .ok (.invokevirtual 183, 3) := dk_182 0 183 (dk_at dksX4_tenantOf_0 2 rfl rfl)
theorem dX4_tenantOf_5 : decode cX4_tenantOf 5 = .ok (.ifCond .eq 11, 3) := dk_153 0 11 (dk_at dksX4_tenantOf_0 5 rfl rfl)
theorem dX4_tenantOf_8 : decode cX4_tenantOf 8 = .ok (.aload_n 0, 1) := dk_42 (dk_at dksX4_tenantOf_0 8 rfl rfl)
theorem dX4_tenantOf_9 : decode cX4_tenantOf 9 = .ok (.iload_n 1, 1) := dk_27 (dk_at dksX4_tenantOf_0 9 rfl rfl)
theorem dX4_tenantOf_10 : decode cX4_tenantOf 10 = .ok (.invokevirtual 74, 3) := dk_182 0 74 (dk_at dksX4_tenantOf_0 10 rfl rfl)
theorem dX4_tenantOf_13 : decode cX4_tenantOf 13 = .ok (.goto 4, 3) := dk_167 0 4 (dk_at dksX4_tenantOf_0 13 rfl rfl)
theorem dX4_tenantOf_16 : decode cX4_tenantOf 16 = .ok (.iconst 0, 1) := dk_3 (dk_at dksX4_tenantOf_0 16 rfl rfl)
theorem dX4_tenantOf_17 : decode cX4_tenantOf 17 = .ok (.ireturn, 1) := dk_172 (dk_at dksX4_tenantOf_0 17 rfl rfl)
abbrev cX4_isLeased : ByteArray := prog_20_method_73_code
def yX4_isLeased : MethodName := ⟨RX4, "isLeased", "(I)Z"⟩
def dkwX4_isLeased_1 : List UInt8 := [167, 0, 4, 3, 181, 0, 38, 42, 180, 0, 38, 154, 0, 7, 4, 167, 0, 4, 3, 172]
abbrev dktX4_isLeased_1 : List UInt8 := dkwX4_isLeased_1 ++ []
def dkwX4_isLeased_0 : List UInt8 := [42, 42, 27, 182, 0, 118, 154, 0, 7, 4, 167, 0, 17, 42, 27, 182, 0, 74, 2, 160, 0, 7, 5]
abbrev dktX4_isLeased_0 : List UInt8 := dkwX4_isLeased_0 ++ dktX4_isLeased_1
theorem dksX4_isLeased_0 : cX4_isLeased.data.toList.drop 0 = dktX4_isLeased_0 := by decide +kernel
theorem dksX4_isLeased_1 : cX4_isLeased.data.toList.drop 23 = dktX4_isLeased_1 := dk_seg dksX4_isLeased_0 23 rfl rfl
theorem dX4_isLeased_0 : decode cX4_isLeased 0 = .ok (.aload_n 0, 1) := dk_42 (dk_at dksX4_isLeased_0 0 rfl rfl)
theorem dX4_isLeased_1 : decode cX4_isLeased 1 = .ok (.aload_n 0, 1) := dk_42 (dk_at dksX4_isLeased_0 1 rfl rfl)
theorem dX4_isLeased_2 : decode cX4_isLeased 2 = .ok (.iload_n 1, 1) := dk_27 (dk_at dksX4_isLeased_0 2 rfl rfl)
theorem dX4_isLeased_3 : decode cX4_isLeased 3 = .ok (.invokevirtual 118, 3) := dk_182 0 118 (dk_at dksX4_isLeased_0 3 rfl rfl)
theorem dX4_isLeased_6 : decode cX4_isLeased 6 = .ok (.ifCond .ne 7, 3) := dk_154 0 7 (dk_at dksX4_isLeased_0 6 rfl rfl)
theorem dX4_isLeased_9 : decode cX4_isLeased 9 = .ok (.iconst 1, 1) := dk_4 (dk_at dksX4_isLeased_0 9 rfl rfl)
theorem dX4_isLeased_10 : decode cX4_isLeased 10 = .ok (.goto 17, 3) := dk_167 0 17 (dk_at dksX4_isLeased_0 10 rfl rfl)
theorem dX4_isLeased_13 : decode cX4_isLeased 13 = .ok (.aload_n 0, 1) := dk_42 (dk_at dksX4_isLeased_0 13 rfl rfl)
theorem dX4_isLeased_14 : decode cX4_isLeased 14 = .ok (.iload_n 1, 1) := dk_27 (dk_at dksX4_isLeased_0 14 rfl rfl)
theorem dX4_isLeased_15 : decode cX4_isLeased 15 = .ok (.invokevirtual 74, 3) := dk_182 0 74 (dk_at dksX4_isLeased_0 15 rfl rfl)
theorem dX4_isLeased_18 : decode cX4_isLeased 18 = .ok (.iconst (-1), 1) := dk_2 (dk_at dksX4_isLeased_0 18 rfl rfl)
theorem dX4_isLeased_19 : decode cX4_isLeased 19 = .ok (.if_icmp .ne 7, 3) := dk_160 0 7 (dk_at dksX4_isLeased_0 19 rfl rfl)
theorem dX4_isLeased_22 : decode cX4_isLeased 22 = .ok (.iconst 2, 1) := dk_5 (dk_at dksX4_isLeased_0 22 rfl rfl)
theorem dX4_isLeased_23 : decode cX4_isLeased 23 = .ok (.goto 4, 3) := dk_167 0 4 (dk_at dksX4_isLeased_1 0 rfl rfl)
theorem dX4_isLeased_26 : decode cX4_isLeased 26 = .ok (.iconst 0, 1) := dk_3 (dk_at dksX4_isLeased_1 3 rfl rfl)
theorem dX4_isLeased_27 : decode cX4_isLeased 27 = .ok (.putfield 38, 3) := dk_181 0 38 (dk_at dksX4_isLeased_1 4 rfl rfl)
theorem dX4_isLeased_30 : decode cX4_isLeased 30 = .ok (.aload_n 0, 1) := dk_42 (dk_at dksX4_isLeased_1 7 rfl rfl)
theorem dX4_isLeased_31 : decode cX4_isLeased 31 = .ok (.getfield 38, 3) := dk_180 0 38 (dk_at dksX4_isLeased_1 8 rfl rfl)
theorem dX4_isLeased_34 : decode cX4_isLeased 34 = .ok (.ifCond .ne 7, 3) := dk_154 0 7 (dk_at dksX4_isLeased_1 11 rfl rfl)
theorem dX4_isLeased_37 : decode cX4_isLeased 37 = .ok (.iconst 1, 1) := dk_4 (dk_at dksX4_isLeased_1 14 rfl rfl)
theorem dX4_isLeased_38 : decode cX4_isLeased 38 = .ok (.goto 4, 3) := dk_167 0 4 (dk_at dksX4_isLeased_1 15 rfl rfl)
theorem dX4_isLeased_41 : decode cX4_isLeased 41 = .ok (.iconst 0, 1) := dk_3 (dk_at dksX4_isLeased_1 18 rfl rfl)
theorem dX4_isLeased_42 : decode cX4_isLeased 42 = .ok (.ireturn, 1) := dk_172 (dk_at dksX4_isLeased_1 19 rfl rfl)
abbrev cX4_depositOf : ByteArray := prog_20_method_75_code
def yX4_depositOf : MethodName := ⟨RX4, "depositOf", "(I)I"⟩
def dkwX4_depositOf_0 : List UInt8 := [42, 27, 182, 0, 183, 153, 0, 12, 42, 27, 7, 182, 0, 70, 167, 0, 4, 3, 172]
abbrev dktX4_depositOf_0 : List UInt8 := dkwX4_depositOf_0 ++ []
theorem dksX4_depositOf_0 : cX4_depositOf.data.toList.drop 0 = dktX4_depositOf_0 := by decide +kernel
theorem dX4_depositOf_0 : decode cX4_depositOf 0 = .ok (.aload_n 0, 1) := dk_42 (dk_at dksX4_depositOf_0 0 rfl rfl)
theorem dX4_depositOf_1 : decode cX4_depositOf 1 = .ok (.iload_n 1, 1) := dk_27 (dk_at dksX4_depositOf_0 1 rfl rfl)
theorem dX4_depositOf_2 : decode cX4_depositOf 2 = .ok (.invokevirtual 183, 3) := dk_182 0 183 (dk_at dksX4_depositOf_0 2 rfl rfl)
theorem dX4_depositOf_5 : decode cX4_depositOf 5 = .ok (.ifCond .eq 12, 3) := dk_153 0 12 (dk_at dksX4_depositOf_0 5 rfl rfl)
theorem dX4_depositOf_8 : decode cX4_depositOf 8 = .ok (.aload_n 0, 1) := dk_42 (dk_at dksX4_depositOf_0 8 rfl rfl)
theorem dX4_depositOf_9 : decode cX4_depositOf 9 = .ok (.iload_n 1, 1) := dk_27 (dk_at dksX4_depositOf_0 9 rfl rfl)
theorem dX4_depositOf_10 : decode cX4_depositOf 10 = .ok (.iconst 4, 1) := dk_7 (dk_at dksX4_depositOf_0 10 rfl rfl)
theorem dX4_depositOf_11 : decode cX4_depositOf 11 = .ok (.invokevirtual 70, 3) := dk_182 0 70 (dk_at dksX4_depositOf_0 11 rfl rfl)
theorem dX4_depositOf_14 : decode cX4_depositOf 14 = .ok (.goto 4, 3) := dk_167 0 4 (dk_at dksX4_depositOf_0 14 rfl rfl)
theorem dX4_depositOf_17 : decode cX4_depositOf 17 = .ok (.iconst 0, 1) := dk_3 (dk_at dksX4_depositOf_0 17 rfl rfl)
theorem dX4_depositOf_18 : decode cX4_depositOf 18 = .ok (.ireturn, 1) := dk_172 (dk_at dksX4_depositOf_0 18 rfl rfl)
abbrev cX4_monthsLeft : ByteArray := prog_20_method_76_code
def yX4_monthsLeft : MethodName := ⟨RX4, "monthsLeft", "(I)I"⟩
def dkwX4_monthsLeft_0 : List UInt8 := [42, 27, 182, 0, 183, 153, 0, 12, 42, 27, 8, 182, 0, 70, 167, 0, 4, 3, 172]
abbrev dktX4_monthsLeft_0 : List UInt8 := dkwX4_monthsLeft_0 ++ []
theorem dksX4_monthsLeft_0 : cX4_monthsLeft.data.toList.drop 0 = dktX4_monthsLeft_0 := by decide +kernel
theorem dX4_monthsLeft_0 : decode cX4_monthsLeft 0 = .ok (.aload_n 0, 1) := dk_42 (dk_at dksX4_monthsLeft_0 0 rfl rfl)
theorem dX4_monthsLeft_1 : decode cX4_monthsLeft 1 = .ok (.iload_n 1, 1) := dk_27 (dk_at dksX4_monthsLeft_0 1 rfl rfl)
theorem dX4_monthsLeft_2 : decode cX4_monthsLeft 2 = .ok (.invokevirtual 183, 3) := dk_182 0 183 (dk_at dksX4_monthsLeft_0 2 rfl rfl)
theorem dX4_monthsLeft_5 : decode cX4_monthsLeft 5 = .ok (.ifCond .eq 12, 3) := dk_153 0 12 (dk_at dksX4_monthsLeft_0 5 rfl rfl)
theorem dX4_monthsLeft_8 : decode cX4_monthsLeft 8 = .ok (.aload_n 0, 1) := dk_42 (dk_at dksX4_monthsLeft_0 8 rfl rfl)
theorem dX4_monthsLeft_9 : decode cX4_monthsLeft 9 = .ok (.iload_n 1, 1) := dk_27 (dk_at dksX4_monthsLeft_0 9 rfl rfl)
theorem dX4_monthsLeft_10 : decode cX4_monthsLeft 10 = .ok (.iconst 5, 1) := dk_8 (dk_at dksX4_monthsLeft_0 10 rfl rfl)
theorem dX4_monthsLeft_11 : decode cX4_monthsLeft 11 = .ok (.invokevirtual 70, 3) := dk_182 0 70 (dk_at dksX4_monthsLeft_0 11 rfl rfl)
theorem dX4_monthsLeft_14 : decode cX4_monthsLeft 14 = .ok (.goto 4, 3) := dk_167 0 4 (dk_at dksX4_monthsLeft_0 14 rfl rfl)
theorem dX4_monthsLeft_17 : decode cX4_monthsLeft 17 = .ok (.iconst 0, 1) := dk_3 (dk_at dksX4_monthsLeft_0 17 rfl rfl)
theorem dX4_monthsLeft_18 : decode cX4_monthsLeft 18 = .ok (.ireturn, 1) := dk_172 (dk_at dksX4_monthsLeft_0 18 rfl rfl)
abbrev cX4_defaultMonth : ByteArray := prog_20_method_77_code
def yX4_defaultMonth : MethodName := ⟨RX4, "defaultMonth", "(I)I"⟩
def dkwX4_defaultMonth_2 : List UInt8 := [4, 96, 167, 0, 8, 42, 5, 182, 0, 54, 172]
abbrev dktX4_defaultMonth_2 : List UInt8 := dkwX4_defaultMonth_2 ++ []
def dkwX4_defaultMonth_1 : List UInt8 := [182, 0, 115, 108, 61, 42, 27, 182, 0, 112, 153, 0, 19, 28, 42, 27, 8, 182, 0, 70, 162, 0, 9, 28]
abbrev dktX4_defaultMonth_1 : List UInt8 := dkwX4_defaultMonth_1 ++ dktX4_defaultMonth_2
def dkwX4_defaultMonth_0 : List UInt8 := [42, 27, 182, 0, 183, 154, 0, 5, 3, 172, 42, 42, 27, 182, 0, 74, 3, 182, 0, 106, 42, 27]
abbrev dktX4_defaultMonth_0 : List UInt8 := dkwX4_defaultMonth_0 ++ dktX4_defaultMonth_1
theorem dksX4_defaultMonth_0 : cX4_defaultMonth.data.toList.drop 0 = dktX4_defaultMonth_0 := by decide +kernel
theorem dksX4_defaultMonth_1 : cX4_defaultMonth.data.toList.drop 22 = dktX4_defaultMonth_1 := dk_seg dksX4_defaultMonth_0 22 rfl rfl
theorem dksX4_defaultMonth_2 : cX4_defaultMonth.data.toList.drop 46 = dktX4_defaultMonth_2 := dk_seg dksX4_defaultMonth_1 24 rfl rfl
theorem dX4_defaultMonth_0 : decode cX4_defaultMonth 0 = .ok (.aload_n 0, 1) := dk_42 (dk_at dksX4_defaultMonth_0 0 rfl rfl)
theorem dX4_defaultMonth_1 : decode cX4_defaultMonth 1 = .ok (.iload_n 1, 1) := dk_27 (dk_at dksX4_defaultMonth_0 1 rfl rfl)
theorem dX4_defaultMonth_2 : decode cX4_defaultMonth 2 = .ok (.invokevirtual 183, 3) := dk_182 0 183 (dk_at dksX4_defaultMonth_0 2 rfl rfl)
theorem dX4_defaultMonth_5 : decode cX4_defaultMonth 5 = .ok (.ifCond .ne 5, 3) := dk_154 0 5 (dk_at dksX4_defaultMonth_0 5 rfl rfl)
theorem dX4_defaultMonth_8 : decode cX4_defaultMonth 8 = .ok (.iconst 0, 1) := dk_3 (dk_at dksX4_defaultMonth_0 8 rfl rfl)
theorem dX4_defaultMonth_9 : decode cX4_defaultMonth 9 = .ok (.ireturn, 1) := dk_172 (dk_at dksX4_defaultMonth_0 9 rfl rfl)
theorem dX4_defaultMonth_10 : decode cX4_defaultMonth 10 = .ok (.aload_n 0, 1) := dk_42 (dk_at dksX4_defaultMonth_0 10 rfl rfl)
theorem dX4_defaultMonth_11 : decode cX4_defaultMonth 11 = .ok (.aload_n 0, 1) := dk_42 (dk_at dksX4_defaultMonth_0 11 rfl rfl)
theorem dX4_defaultMonth_12 : decode cX4_defaultMonth 12 = .ok (.iload_n 1, 1) := dk_27 (dk_at dksX4_defaultMonth_0 12 rfl rfl)
theorem dX4_defaultMonth_13 : decode cX4_defaultMonth 13 = .ok (.invokevirtual 74, 3) := dk_182 0 74 (dk_at dksX4_defaultMonth_0 13 rfl rfl)
theorem dX4_defaultMonth_16 : decode cX4_defaultMonth 16 = .ok (.iconst 0, 1) := dk_3 (dk_at dksX4_defaultMonth_0 16 rfl rfl)
theorem dX4_defaultMonth_17 : decode cX4_defaultMonth 17 = .ok (.invokevirtual 106, 3) := dk_182 0 106 (dk_at dksX4_defaultMonth_0 17 rfl rfl)
theorem dX4_defaultMonth_20 : decode cX4_defaultMonth 20 = .ok (.aload_n 0, 1) := dk_42 (dk_at dksX4_defaultMonth_0 20 rfl rfl)
theorem dX4_defaultMonth_21 : decode cX4_defaultMonth 21 = .ok (.iload_n 1, 1) := dk_27 (dk_at dksX4_defaultMonth_0 21 rfl rfl)
theorem dX4_defaultMonth_22 : decode cX4_defaultMonth 22 = .ok (.invokevirtual 115, 3) := dk_182 0 115 (dk_at dksX4_defaultMonth_1 0 rfl rfl)
theorem dX4_defaultMonth_25 : decode cX4_defaultMonth 25 = .ok (.idiv, 1) := dk_108 (dk_at dksX4_defaultMonth_1 3 rfl rfl)
theorem dX4_defaultMonth_26 : decode cX4_defaultMonth 26 = .ok (.istore_n 2, 1) := dk_61 (dk_at dksX4_defaultMonth_1 4 rfl rfl)
theorem dX4_defaultMonth_27 : decode cX4_defaultMonth 27 = .ok (.aload_n 0, 1) := dk_42 (dk_at dksX4_defaultMonth_1 5 rfl rfl)
theorem dX4_defaultMonth_28 : decode cX4_defaultMonth 28 = .ok (.iload_n 1, 1) := dk_27 (dk_at dksX4_defaultMonth_1 6 rfl rfl)
theorem dX4_defaultMonth_29 : decode cX4_defaultMonth 29 = .ok (.invokevirtual 112, 3) := dk_182 0 112 (dk_at dksX4_defaultMonth_1 7 rfl rfl)
theorem dX4_defaultMonth_32 : decode cX4_defaultMonth 32 = .ok (.ifCond .eq 19, 3) := dk_153 0 19 (dk_at dksX4_defaultMonth_1 10 rfl rfl)
theorem dX4_defaultMonth_35 : decode cX4_defaultMonth 35 = .ok (.iload_n 2, 1) := dk_28 (dk_at dksX4_defaultMonth_1 13 rfl rfl)
theorem dX4_defaultMonth_36 : decode cX4_defaultMonth 36 = .ok (.aload_n 0, 1) := dk_42 (dk_at dksX4_defaultMonth_1 14 rfl rfl)
theorem dX4_defaultMonth_37 : decode cX4_defaultMonth 37 = .ok (.iload_n 1, 1) := dk_27 (dk_at dksX4_defaultMonth_1 15 rfl rfl)
theorem dX4_defaultMonth_38 : decode cX4_defaultMonth 38 = .ok (.iconst 5, 1) := dk_8 (dk_at dksX4_defaultMonth_1 16 rfl rfl)
theorem dX4_defaultMonth_39 : decode cX4_defaultMonth 39 = .ok (.invokevirtual 70, 3) := dk_182 0 70 (dk_at dksX4_defaultMonth_1 17 rfl rfl)
theorem dX4_defaultMonth_42 : decode cX4_defaultMonth 42 = .ok (.if_icmp .ge 9, 3) := dk_162 0 9 (dk_at dksX4_defaultMonth_1 20 rfl rfl)
theorem dX4_defaultMonth_45 : decode cX4_defaultMonth 45 = .ok (.iload_n 2, 1) := dk_28 (dk_at dksX4_defaultMonth_1 23 rfl rfl)
theorem dX4_defaultMonth_46 : decode cX4_defaultMonth 46 = .ok (.iconst 1, 1) := dk_4 (dk_at dksX4_defaultMonth_2 0 rfl rfl)
theorem dX4_defaultMonth_47 : decode cX4_defaultMonth 47 = .ok (.iadd, 1) := dk_96 (dk_at dksX4_defaultMonth_2 1 rfl rfl)
theorem dX4_defaultMonth_48 : decode cX4_defaultMonth 48 = .ok (.goto 8, 3) := dk_167 0 8 (dk_at dksX4_defaultMonth_2 2 rfl rfl)
theorem dX4_defaultMonth_51 : decode cX4_defaultMonth 51 = .ok (.aload_n 0, 1) := dk_42 (dk_at dksX4_defaultMonth_2 5 rfl rfl)
theorem dX4_defaultMonth_52 : decode cX4_defaultMonth 52 = .ok (.iconst 2, 1) := dk_5 (dk_at dksX4_defaultMonth_2 6 rfl rfl)
theorem dX4_defaultMonth_53 : decode cX4_defaultMonth 53 = .ok (.invokevirtual 54, 3) := dk_182 0 54 (dk_at dksX4_defaultMonth_2 7 rfl rfl)
theorem dX4_defaultMonth_56 : decode cX4_defaultMonth 56 = .ok (.ireturn, 1) := dk_172 (dk_at dksX4_defaultMonth_2 10 rfl rfl)
abbrev cX4_passMonths : ByteArray := prog_20_method_78_code
def yX4_passMonths : MethodName := ⟨RX4, "passMonths", "(I)I"⟩
def dkwX4_passMonths_0 : List UInt8 := [42, 182, 0, 134, 42, 42, 27, 182, 0, 186, 4, 182, 0, 141, 172]
abbrev dktX4_passMonths_0 : List UInt8 := dkwX4_passMonths_0 ++ []
theorem dksX4_passMonths_0 : cX4_passMonths.data.toList.drop 0 = dktX4_passMonths_0 := by decide +kernel
theorem dX4_passMonths_0 : decode cX4_passMonths 0 = .ok (.aload_n 0, 1) := dk_42 (dk_at dksX4_passMonths_0 0 rfl rfl)
theorem dX4_passMonths_1 : decode cX4_passMonths 1 = .ok (.invokevirtual 134, 3) := dk_182 0 134 (dk_at dksX4_passMonths_0 1 rfl rfl)
theorem dX4_passMonths_4 : decode cX4_passMonths 4 = .ok (.aload_n 0, 1) := dk_42 (dk_at dksX4_passMonths_0 4 rfl rfl)
theorem dX4_passMonths_5 : decode cX4_passMonths 5 = .ok (.aload_n 0, 1) := dk_42 (dk_at dksX4_passMonths_0 5 rfl rfl)
theorem dX4_passMonths_6 : decode cX4_passMonths 6 = .ok (.iload_n 1, 1) := dk_27 (dk_at dksX4_passMonths_0 6 rfl rfl)
theorem dX4_passMonths_7 : decode cX4_passMonths 7 = .ok (.invokevirtual 186, 3) := dk_182 0 186 (dk_at dksX4_passMonths_0 7 rfl rfl)
theorem dX4_passMonths_10 : decode cX4_passMonths 10 = .ok (.iconst 1, 1) := dk_4 (dk_at dksX4_passMonths_0 10 rfl rfl)
theorem dX4_passMonths_11 : decode cX4_passMonths 11 = .ok (.invokevirtual 141, 3) := dk_182 0 141 (dk_at dksX4_passMonths_0 11 rfl rfl)
theorem dX4_passMonths_14 : decode cX4_passMonths 14 = .ok (.ireturn, 1) := dk_172 (dk_at dksX4_passMonths_0 14 rfl rfl)
abbrev cX4_passes : ByteArray := prog_20_method_39_code
def yX4_passes : MethodName := ⟨RX4, "passes", "(I)I"⟩
def dkwX4_passes_3 : List UInt8 := [4, 96, 79, 132, 3, 1, 167, 255, 195, 42, 28, 182, 0, 99, 172]
abbrev dktX4_passes_3 : List UInt8 := dkwX4_passes_3 ++ []
def dkwX4_passes_2 : List UInt8 := [167, 0, 9, 42, 21, 4, 182, 0, 131, 96, 61, 132, 4, 1, 167, 255, 219, 42, 180, 0, 7, 7, 92, 46]
abbrev dktX4_passes_2 : List UInt8 := dkwX4_passes_2 ++ dktX4_passes_3
def dkwX4_passes_1 : List UInt8 := [21, 4, 42, 180, 0, 7, 3, 46, 162, 0, 32, 28, 42, 21, 4, 182, 0, 74, 2, 160, 0, 7, 3]
abbrev dktX4_passes_1 : List UInt8 := dkwX4_passes_1 ++ dktX4_passes_2
def dkwX4_passes_0 : List UInt8 := [27, 4, 16, 12, 184, 0, 66, 154, 0, 5, 2, 172, 3, 61, 3, 62, 29, 27, 162, 0, 62, 3, 54, 4]
abbrev dktX4_passes_0 : List UInt8 := dkwX4_passes_0 ++ dktX4_passes_1
theorem dksX4_passes_0 : cX4_passes.data.toList.drop 0 = dktX4_passes_0 := by decide +kernel
theorem dksX4_passes_1 : cX4_passes.data.toList.drop 24 = dktX4_passes_1 := dk_seg dksX4_passes_0 24 rfl rfl
theorem dksX4_passes_2 : cX4_passes.data.toList.drop 47 = dktX4_passes_2 := dk_seg dksX4_passes_1 23 rfl rfl
theorem dksX4_passes_3 : cX4_passes.data.toList.drop 71 = dktX4_passes_3 := dk_seg dksX4_passes_2 24 rfl rfl
theorem dX4_passes_0 : decode cX4_passes 0 = .ok (.iload_n 1, 1) := dk_27 (dk_at dksX4_passes_0 0 rfl rfl)
theorem dX4_passes_1 : decode cX4_passes 1 = .ok (.iconst 1, 1) := dk_4 (dk_at dksX4_passes_0 1 rfl rfl)
theorem dX4_passes_2 : decode cX4_passes 2 = .ok (.bipush 12, 2) := dk_16 12 (dk_at dksX4_passes_0 2 rfl rfl)
theorem dX4_passes_4 : decode cX4_passes 4 = .ok (.invokestatic 66, 3) := dk_184 0 66 (dk_at dksX4_passes_0 4 rfl rfl)
theorem dX4_passes_7 : decode cX4_passes 7 = .ok (.ifCond .ne 5, 3) := dk_154 0 5 (dk_at dksX4_passes_0 7 rfl rfl)
theorem dX4_passes_10 : decode cX4_passes 10 = .ok (.iconst (-1), 1) := dk_2 (dk_at dksX4_passes_0 10 rfl rfl)
theorem dX4_passes_11 : decode cX4_passes 11 = .ok (.ireturn, 1) := dk_172 (dk_at dksX4_passes_0 11 rfl rfl)
theorem dX4_passes_12 : decode cX4_passes 12 = .ok (.iconst 0, 1) := dk_3 (dk_at dksX4_passes_0 12 rfl rfl)
theorem dX4_passes_13 : decode cX4_passes 13 = .ok (.istore_n 2, 1) := dk_61 (dk_at dksX4_passes_0 13 rfl rfl)
theorem dX4_passes_14 : decode cX4_passes 14 = .ok (.iconst 0, 1) := dk_3 (dk_at dksX4_passes_0 14 rfl rfl)
theorem dX4_passes_15 : decode cX4_passes 15 = .ok (.istore_n 3, 1) := dk_62 (dk_at dksX4_passes_0 15 rfl rfl)
theorem dX4_passes_16 : decode cX4_passes 16 = .ok (.iload_n 3, 1) := dk_29 (dk_at dksX4_passes_0 16 rfl rfl)
theorem dX4_passes_17 : decode cX4_passes 17 = .ok (.iload_n 1, 1) := dk_27 (dk_at dksX4_passes_0 17 rfl rfl)
theorem dX4_passes_18 : decode cX4_passes 18 = .ok (.if_icmp .ge 62, 3) := dk_162 0 62 (dk_at dksX4_passes_0 18 rfl rfl)
theorem dX4_passes_21 : decode cX4_passes 21 = .ok (.iconst 0, 1) := dk_3 (dk_at dksX4_passes_0 21 rfl rfl)
theorem dX4_passes_22 : decode cX4_passes 22 = .ok (.istore 4, 2) := dk_54 4 (dk_at dksX4_passes_0 22 rfl rfl)
theorem dX4_passes_24 : decode cX4_passes 24 = .ok (.iload 4, 2) := dk_21 4 (dk_at dksX4_passes_1 0 rfl rfl)
theorem dX4_passes_26 : decode cX4_passes 26 = .ok (.aload_n 0, 1) := dk_42 (dk_at dksX4_passes_1 2 rfl rfl)
theorem dX4_passes_27 : decode cX4_passes 27 = .ok (.getfield 7, 3) := dk_180 0 7 (dk_at dksX4_passes_1 3 rfl rfl)
theorem dX4_passes_30 : decode cX4_passes 30 = .ok (.iconst 0, 1) := dk_3 (dk_at dksX4_passes_1 6 rfl rfl)
theorem dX4_passes_31 : decode cX4_passes 31 = .ok (.iaload, 1) := dk_46 (dk_at dksX4_passes_1 7 rfl rfl)
theorem dX4_passes_32 : decode cX4_passes 32 = .ok (.if_icmp .ge 32, 3) := dk_162 0 32 (dk_at dksX4_passes_1 8 rfl rfl)
theorem dX4_passes_35 : decode cX4_passes 35 = .ok (.iload_n 2, 1) := dk_28 (dk_at dksX4_passes_1 11 rfl rfl)
theorem dX4_passes_36 : decode cX4_passes 36 = .ok (.aload_n 0, 1) := dk_42 (dk_at dksX4_passes_1 12 rfl rfl)
theorem dX4_passes_37 : decode cX4_passes 37 = .ok (.iload 4, 2) := dk_21 4 (dk_at dksX4_passes_1 13 rfl rfl)
theorem dX4_passes_39 : decode cX4_passes 39 = .ok (.invokevirtual 74, 3) := dk_182 0 74 (dk_at dksX4_passes_1 15 rfl rfl)
theorem dX4_passes_42 : decode cX4_passes 42 = .ok (.iconst (-1), 1) := dk_2 (dk_at dksX4_passes_1 18 rfl rfl)
theorem dX4_passes_43 : decode cX4_passes 43 = .ok (.if_icmp .ne 7, 3) := dk_160 0 7 (dk_at dksX4_passes_1 19 rfl rfl)
theorem dX4_passes_46 : decode cX4_passes 46 = .ok (.iconst 0, 1) := dk_3 (dk_at dksX4_passes_1 22 rfl rfl)
theorem dX4_passes_47 : decode cX4_passes 47 = .ok (.goto 9, 3) := dk_167 0 9 (dk_at dksX4_passes_2 0 rfl rfl)
theorem dX4_passes_50 : decode cX4_passes 50 = .ok (.aload_n 0, 1) := dk_42 (dk_at dksX4_passes_2 3 rfl rfl)
theorem dX4_passes_51 : decode cX4_passes 51 = .ok (.iload 4, 2) := dk_21 4 (dk_at dksX4_passes_2 4 rfl rfl)
theorem dX4_passes_53 : decode cX4_passes 53 = .ok (.invokevirtual 131, 3) := dk_182 0 131 (dk_at dksX4_passes_2 6 rfl rfl)
theorem dX4_passes_56 : decode cX4_passes 56 = .ok (.iadd, 1) := dk_96 (dk_at dksX4_passes_2 9 rfl rfl)
theorem dX4_passes_57 : decode cX4_passes 57 = .ok (.istore_n 2, 1) := dk_61 (dk_at dksX4_passes_2 10 rfl rfl)
theorem dX4_passes_58 : decode cX4_passes 58 = .ok (.iinc 4 1, 3) := dk_132 4 1 (dk_at dksX4_passes_2 11 rfl rfl)
theorem dX4_passes_61 : decode cX4_passes 61 = .ok (.goto (-37), 3) := dk_167 255 219 (dk_at dksX4_passes_2 14 rfl rfl)
theorem dX4_passes_64 : decode cX4_passes 64 = .ok (.aload_n 0, 1) := dk_42 (dk_at dksX4_passes_2 17 rfl rfl)
theorem dX4_passes_65 : decode cX4_passes 65 = .ok (.getfield 7, 3) := dk_180 0 7 (dk_at dksX4_passes_2 18 rfl rfl)
theorem dX4_passes_68 : decode cX4_passes 68 = .ok (.iconst 4, 1) := dk_7 (dk_at dksX4_passes_2 21 rfl rfl)
theorem dX4_passes_69 : decode cX4_passes 69 = .ok (.dup2, 1) := dk_92 (dk_at dksX4_passes_2 22 rfl rfl)
theorem dX4_passes_70 : decode cX4_passes 70 = .ok (.iaload, 1) := dk_46 (dk_at dksX4_passes_2 23 rfl rfl)
theorem dX4_passes_71 : decode cX4_passes 71 = .ok (.iconst 1, 1) := dk_4 (dk_at dksX4_passes_3 0 rfl rfl)
theorem dX4_passes_72 : decode cX4_passes 72 = .ok (.iadd, 1) := dk_96 (dk_at dksX4_passes_3 1 rfl rfl)
theorem dX4_passes_73 : decode cX4_passes 73 = .ok (.iastore, 1) := dk_79 (dk_at dksX4_passes_3 2 rfl rfl)
theorem dX4_passes_74 : decode cX4_passes 74 = .ok (.iinc 3 1, 3) := dk_132 3 1 (dk_at dksX4_passes_3 3 rfl rfl)
theorem dX4_passes_77 : decode cX4_passes 77 = .ok (.goto (-61), 3) := dk_167 255 195 (dk_at dksX4_passes_3 6 rfl rfl)
theorem dX4_passes_80 : decode cX4_passes 80 = .ok (.aload_n 0, 1) := dk_42 (dk_at dksX4_passes_3 9 rfl rfl)
theorem dX4_passes_81 : decode cX4_passes 81 = .ok (.iload_n 2, 1) := dk_28 (dk_at dksX4_passes_3 10 rfl rfl)
theorem dX4_passes_82 : decode cX4_passes 82 = .ok (.invokevirtual 99, 3) := dk_182 0 99 (dk_at dksX4_passes_3 11 rfl rfl)
theorem dX4_passes_85 : decode cX4_passes 85 = .ok (.ireturn, 1) := dk_172 (dk_at dksX4_passes_3 14 rfl rfl)
abbrev cX4_billed : ByteArray := prog_20_method_38_code
def yX4_billed : MethodName := ⟨RX4, "billed", "(I)I"⟩
def dkwX4_billed_7 : List UInt8 := [180, 0, 7, 16, 9, 92, 46, 4, 96, 79, 4, 172]
abbrev dktX4_billed_7 : List UInt8 := dkwX4_billed_7 ++ []
def dkwX4_billed_6 : List UInt8 := [27, 8, 182, 0, 70, 158, 0, 5, 3, 172, 42, 27, 42, 27, 7, 182, 0, 70, 182, 0, 124, 42]
abbrev dktX4_billed_6 : List UInt8 := dkwX4_billed_6 ++ dktX4_billed_7
def dkwX4_billed_5 : List UInt8 := [182, 0, 115, 96, 79, 42, 180, 0, 7, 16, 10, 16, 6, 27, 104, 96, 8, 96, 92, 46, 4, 100, 79, 42]
abbrev dktX4_billed_5 : List UInt8 := dkwX4_billed_5 ++ dktX4_billed_6
def dkwX4_billed_4 : List UInt8 := [5, 28, 104, 96, 3, 96, 92, 46, 42, 27, 182, 0, 115, 100, 79, 42, 180, 0, 7, 8, 92, 46, 42, 27]
abbrev dktX4_billed_4 : List UInt8 := dkwX4_billed_4 ++ dktX4_billed_5
def dkwX4_billed_3 : List UInt8 := [27, 3, 182, 0, 124, 42, 180, 0, 7, 16, 7, 92, 46, 4, 96, 79, 4, 172, 42, 180, 0, 7, 16, 86]
abbrev dktX4_billed_3 : List UInt8 := dkwX4_billed_3 ++ dktX4_billed_4
def dkwX4_billed_2 : List UInt8 := [182, 0, 115, 162, 0, 39, 42, 180, 0, 7, 16, 86, 5, 28, 104, 96, 4, 96, 92, 46, 4, 96, 79, 42]
abbrev dktX4_billed_2 : List UInt8 := dkwX4_billed_2 ++ dktX4_billed_3
def dkwX4_billed_1 : List UInt8 := [182, 0, 124, 42, 180, 0, 7, 16, 8, 92, 46, 4, 96, 79, 4, 172, 42, 28, 3, 182, 0, 106, 42, 27]
abbrev dktX4_billed_1 : List UInt8 := dkwX4_billed_1 ++ dktX4_billed_2
def dkwX4_billed_0 : List UInt8 := [42, 27, 182, 0, 74, 61, 42, 27, 182, 0, 112, 154, 0, 27, 42, 27, 42, 27, 7, 182, 0, 70]
abbrev dktX4_billed_0 : List UInt8 := dkwX4_billed_0 ++ dktX4_billed_1
theorem dksX4_billed_0 : cX4_billed.data.toList.drop 0 = dktX4_billed_0 := by decide +kernel
theorem dksX4_billed_1 : cX4_billed.data.toList.drop 22 = dktX4_billed_1 := dk_seg dksX4_billed_0 22 rfl rfl
theorem dksX4_billed_2 : cX4_billed.data.toList.drop 46 = dktX4_billed_2 := dk_seg dksX4_billed_1 24 rfl rfl
theorem dksX4_billed_3 : cX4_billed.data.toList.drop 70 = dktX4_billed_3 := dk_seg dksX4_billed_2 24 rfl rfl
theorem dksX4_billed_4 : cX4_billed.data.toList.drop 94 = dktX4_billed_4 := dk_seg dksX4_billed_3 24 rfl rfl
theorem dksX4_billed_5 : cX4_billed.data.toList.drop 118 = dktX4_billed_5 := dk_seg dksX4_billed_4 24 rfl rfl
theorem dksX4_billed_6 : cX4_billed.data.toList.drop 142 = dktX4_billed_6 := dk_seg dksX4_billed_5 24 rfl rfl
theorem dksX4_billed_7 : cX4_billed.data.toList.drop 164 = dktX4_billed_7 := dk_seg dksX4_billed_6 22 rfl rfl
theorem dX4_billed_0 : decode cX4_billed 0 = .ok (.aload_n 0, 1) := dk_42 (dk_at dksX4_billed_0 0 rfl rfl)
theorem dX4_billed_1 : decode cX4_billed 1 = .ok (.iload_n 1, 1) := dk_27 (dk_at dksX4_billed_0 1 rfl rfl)
theorem dX4_billed_2 : decode cX4_billed 2 = .ok (.invokevirtual 74, 3) := dk_182 0 74 (dk_at dksX4_billed_0 2 rfl rfl)
theorem dX4_billed_5 : decode cX4_billed 5 = .ok (.istore_n 2, 1) := dk_61 (dk_at dksX4_billed_0 5 rfl rfl)
theorem dX4_billed_6 : decode cX4_billed 6 = .ok (.aload_n 0, 1) := dk_42 (dk_at dksX4_billed_0 6 rfl rfl)
theorem dX4_billed_7 : decode cX4_billed 7 = .ok (.iload_n 1, 1) := dk_27 (dk_at dksX4_billed_0 7 rfl rfl)
theorem dX4_billed_8 : decode cX4_billed 8 = .ok (.invokevirtual 112, 3) := dk_182 0 112 (dk_at dksX4_billed_0 8 rfl rfl)
theorem dX4_billed_11 : decode cX4_billed 11 = .ok (.ifCond .ne 27, 3) := dk_154 0 27 (dk_at dksX4_billed_0 11 rfl rfl)
theorem dX4_billed_14 : decode cX4_billed 14 = .ok (.aload_n 0, 1) := dk_42 (dk_at dksX4_billed_0 14 rfl rfl)
theorem dX4_billed_15 : decode cX4_billed 15 = .ok (.iload_n 1, 1) := dk_27 (dk_at dksX4_billed_0 15 rfl rfl)
theorem dX4_billed_16 : decode cX4_billed 16 = .ok (.aload_n 0, 1) := dk_42 (dk_at dksX4_billed_0 16 rfl rfl)
theorem dX4_billed_17 : decode cX4_billed 17 = .ok (.iload_n 1, 1) := dk_27 (dk_at dksX4_billed_0 17 rfl rfl)
theorem dX4_billed_18 : decode cX4_billed 18 = .ok (.iconst 4, 1) := dk_7 (dk_at dksX4_billed_0 18 rfl rfl)
theorem dX4_billed_19 : decode cX4_billed 19 = .ok (.invokevirtual 70, 3) := dk_182 0 70 (dk_at dksX4_billed_0 19 rfl rfl)
theorem dX4_billed_22 : decode cX4_billed 22 = .ok (.invokevirtual 124, 3) := dk_182 0 124 (dk_at dksX4_billed_1 0 rfl rfl)
theorem dX4_billed_25 : decode cX4_billed 25 = .ok (.aload_n 0, 1) := dk_42 (dk_at dksX4_billed_1 3 rfl rfl)
theorem dX4_billed_26 : decode cX4_billed 26 = .ok (.getfield 7, 3) := dk_180 0 7 (dk_at dksX4_billed_1 4 rfl rfl)
theorem dX4_billed_29 : decode cX4_billed 29 = .ok (.bipush 8, 2) := dk_16 8 (dk_at dksX4_billed_1 7 rfl rfl)
theorem dX4_billed_31 : decode cX4_billed 31 = .ok (.dup2, 1) := dk_92 (dk_at dksX4_billed_1 9 rfl rfl)
theorem dX4_billed_32 : decode cX4_billed 32 = .ok (.iaload, 1) := dk_46 (dk_at dksX4_billed_1 10 rfl rfl)
theorem dX4_billed_33 : decode cX4_billed 33 = .ok (.iconst 1, 1) := dk_4 (dk_at dksX4_billed_1 11 rfl rfl)
theorem dX4_billed_34 : decode cX4_billed 34 = .ok (.iadd, 1) := dk_96 (dk_at dksX4_billed_1 12 rfl rfl)
theorem dX4_billed_35 : decode cX4_billed 35 = .ok (.iastore, 1) := dk_79 (dk_at dksX4_billed_1 13 rfl rfl)
theorem dX4_billed_36 : decode cX4_billed 36 = .ok (.iconst 1, 1) := dk_4 (dk_at dksX4_billed_1 14 rfl rfl)
theorem dX4_billed_37 : decode cX4_billed 37 = .ok (.ireturn, 1) := dk_172 (dk_at dksX4_billed_1 15 rfl rfl)
theorem dX4_billed_38 : decode cX4_billed 38 = .ok (.aload_n 0, 1) := dk_42 (dk_at dksX4_billed_1 16 rfl rfl)
theorem dX4_billed_39 : decode cX4_billed 39 = .ok (.iload_n 2, 1) := dk_28 (dk_at dksX4_billed_1 17 rfl rfl)
theorem dX4_billed_40 : decode cX4_billed 40 = .ok (.iconst 0, 1) := dk_3 (dk_at dksX4_billed_1 18 rfl rfl)
theorem dX4_billed_41 : decode cX4_billed 41 = .ok (.invokevirtual 106, 3) := dk_182 0 106 (dk_at dksX4_billed_1 19 rfl rfl)
theorem dX4_billed_44 : decode cX4_billed 44 = .ok (.aload_n 0, 1) := dk_42 (dk_at dksX4_billed_1 22 rfl rfl)
theorem dX4_billed_45 : decode cX4_billed 45 = .ok (.iload_n 1, 1) := dk_27 (dk_at dksX4_billed_1 23 rfl rfl)
theorem dX4_billed_46 : decode cX4_billed 46 = .ok (.invokevirtual 115, 3) := dk_182 0 115 (dk_at dksX4_billed_2 0 rfl rfl)
theorem dX4_billed_49 : decode cX4_billed 49 = .ok (.if_icmp .ge 39, 3) := dk_162 0 39 (dk_at dksX4_billed_2 3 rfl rfl)
theorem dX4_billed_52 : decode cX4_billed 52 = .ok (.aload_n 0, 1) := dk_42 (dk_at dksX4_billed_2 6 rfl rfl)
theorem dX4_billed_53 : decode cX4_billed 53 = .ok (.getfield 7, 3) := dk_180 0 7 (dk_at dksX4_billed_2 7 rfl rfl)
theorem dX4_billed_56 : decode cX4_billed 56 = .ok (.bipush 86, 2) := dk_16 86 (dk_at dksX4_billed_2 10 rfl rfl)
theorem dX4_billed_58 : decode cX4_billed 58 = .ok (.iconst 2, 1) := dk_5 (dk_at dksX4_billed_2 12 rfl rfl)
theorem dX4_billed_59 : decode cX4_billed 59 = .ok (.iload_n 2, 1) := dk_28 (dk_at dksX4_billed_2 13 rfl rfl)
theorem dX4_billed_60 : decode cX4_billed 60 = .ok (.imul, 1) := dk_104 (dk_at dksX4_billed_2 14 rfl rfl)
theorem dX4_billed_61 : decode cX4_billed 61 = .ok (.iadd, 1) := dk_96 (dk_at dksX4_billed_2 15 rfl rfl)
theorem dX4_billed_62 : decode cX4_billed 62 = .ok (.iconst 1, 1) := dk_4 (dk_at dksX4_billed_2 16 rfl rfl)
theorem dX4_billed_63 : decode cX4_billed 63 = .ok (.iadd, 1) := dk_96 (dk_at dksX4_billed_2 17 rfl rfl)
theorem dX4_billed_64 : decode cX4_billed 64 = .ok (.dup2, 1) := dk_92 (dk_at dksX4_billed_2 18 rfl rfl)
theorem dX4_billed_65 : decode cX4_billed 65 = .ok (.iaload, 1) := dk_46 (dk_at dksX4_billed_2 19 rfl rfl)
theorem dX4_billed_66 : decode cX4_billed 66 = .ok (.iconst 1, 1) := dk_4 (dk_at dksX4_billed_2 20 rfl rfl)
theorem dX4_billed_67 : decode cX4_billed 67 = .ok (.iadd, 1) := dk_96 (dk_at dksX4_billed_2 21 rfl rfl)
theorem dX4_billed_68 : decode cX4_billed 68 = .ok (.iastore, 1) := dk_79 (dk_at dksX4_billed_2 22 rfl rfl)
theorem dX4_billed_69 : decode cX4_billed 69 = .ok (.aload_n 0, 1) := dk_42 (dk_at dksX4_billed_2 23 rfl rfl)
theorem dX4_billed_70 : decode cX4_billed 70 = .ok (.iload_n 1, 1) := dk_27 (dk_at dksX4_billed_3 0 rfl rfl)
theorem dX4_billed_71 : decode cX4_billed 71 = .ok (.iconst 0, 1) := dk_3 (dk_at dksX4_billed_3 1 rfl rfl)
theorem dX4_billed_72 : decode cX4_billed 72 = .ok (.invokevirtual 124, 3) := dk_182 0 124 (dk_at dksX4_billed_3 2 rfl rfl)
theorem dX4_billed_75 : decode cX4_billed 75 = .ok (.aload_n 0, 1) := dk_42 (dk_at dksX4_billed_3 5 rfl rfl)
theorem dX4_billed_76 : decode cX4_billed 76 = .ok (.getfield 7, 3) := dk_180 0 7 (dk_at dksX4_billed_3 6 rfl rfl)
theorem dX4_billed_79 : decode cX4_billed 79 = .ok (.bipush 7, 2) := dk_16 7 (dk_at dksX4_billed_3 9 rfl rfl)
theorem dX4_billed_81 : decode cX4_billed 81 = .ok (.dup2, 1) := dk_92 (dk_at dksX4_billed_3 11 rfl rfl)
theorem dX4_billed_82 : decode cX4_billed 82 = .ok (.iaload, 1) := dk_46 (dk_at dksX4_billed_3 12 rfl rfl)
theorem dX4_billed_83 : decode cX4_billed 83 = .ok (.iconst 1, 1) := dk_4 (dk_at dksX4_billed_3 13 rfl rfl)
theorem dX4_billed_84 : decode cX4_billed 84 = .ok (.iadd, 1) := dk_96 (dk_at dksX4_billed_3 14 rfl rfl)
theorem dX4_billed_85 : decode cX4_billed 85 = .ok (.iastore, 1) := dk_79 (dk_at dksX4_billed_3 15 rfl rfl)
theorem dX4_billed_86 : decode cX4_billed 86 = .ok (.iconst 1, 1) := dk_4 (dk_at dksX4_billed_3 16 rfl rfl)
theorem dX4_billed_87 : decode cX4_billed 87 = .ok (.ireturn, 1) := dk_172 (dk_at dksX4_billed_3 17 rfl rfl)
theorem dX4_billed_88 : decode cX4_billed 88 = .ok (.aload_n 0, 1) := dk_42 (dk_at dksX4_billed_3 18 rfl rfl)
theorem dX4_billed_89 : decode cX4_billed 89 = .ok (.getfield 7, 3) := dk_180 0 7 (dk_at dksX4_billed_3 19 rfl rfl)
theorem dX4_billed_92 : decode cX4_billed 92 = .ok (.bipush 86, 2) := dk_16 86 (dk_at dksX4_billed_3 22 rfl rfl)
theorem dX4_billed_94 : decode cX4_billed 94 = .ok (.iconst 2, 1) := dk_5 (dk_at dksX4_billed_4 0 rfl rfl)
theorem dX4_billed_95 : decode cX4_billed 95 = .ok (.iload_n 2, 1) := dk_28 (dk_at dksX4_billed_4 1 rfl rfl)
theorem dX4_billed_96 : decode cX4_billed 96 = .ok (.imul, 1) := dk_104 (dk_at dksX4_billed_4 2 rfl rfl)
theorem dX4_billed_97 : decode cX4_billed 97 = .ok (.iadd, 1) := dk_96 (dk_at dksX4_billed_4 3 rfl rfl)
theorem dX4_billed_98 : decode cX4_billed 98 = .ok (.iconst 0, 1) := dk_3 (dk_at dksX4_billed_4 4 rfl rfl)
theorem dX4_billed_99 : decode cX4_billed 99 = .ok (.iadd, 1) := dk_96 (dk_at dksX4_billed_4 5 rfl rfl)
theorem dX4_billed_100 : decode cX4_billed 100 = .ok (.dup2, 1) := dk_92 (dk_at dksX4_billed_4 6 rfl rfl)
theorem dX4_billed_101 : decode cX4_billed 101 = .ok (.iaload, 1) := dk_46 (dk_at dksX4_billed_4 7 rfl rfl)
theorem dX4_billed_102 : decode cX4_billed 102 = .ok (.aload_n 0, 1) := dk_42 (dk_at dksX4_billed_4 8 rfl rfl)
theorem dX4_billed_103 : decode cX4_billed 103 = .ok (.iload_n 1, 1) := dk_27 (dk_at dksX4_billed_4 9 rfl rfl)
theorem dX4_billed_104 : decode cX4_billed 104 = .ok (.invokevirtual 115, 3) := dk_182 0 115 (dk_at dksX4_billed_4 10 rfl rfl)
theorem dX4_billed_107 : decode cX4_billed 107 = .ok (.isub, 1) := dk_100 (dk_at dksX4_billed_4 13 rfl rfl)
theorem dX4_billed_108 : decode cX4_billed 108 = .ok (.iastore, 1) := dk_79 (dk_at dksX4_billed_4 14 rfl rfl)
theorem dX4_billed_109 : decode cX4_billed 109 = .ok (.aload_n 0, 1) := dk_42 (dk_at dksX4_billed_4 15 rfl rfl)
theorem dX4_billed_110 : decode cX4_billed 110 = .ok (.getfield 7, 3) := dk_180 0 7 (dk_at dksX4_billed_4 16 rfl rfl)
theorem dX4_billed_113 : decode cX4_billed 113 = .ok (.iconst 5, 1) := dk_8 (dk_at dksX4_billed_4 19 rfl rfl)
theorem dX4_billed_114 : decode cX4_billed 114 = .ok (.dup2, 1) := dk_92 (dk_at dksX4_billed_4 20 rfl rfl)
theorem dX4_billed_115 : decode cX4_billed 115 = .ok (.iaload, 1) := dk_46 (dk_at dksX4_billed_4 21 rfl rfl)
theorem dX4_billed_116 : decode cX4_billed 116 = .ok (.aload_n 0, 1) := dk_42 (dk_at dksX4_billed_4 22 rfl rfl)
theorem dX4_billed_117 : decode cX4_billed 117 = .ok (.iload_n 1, 1) := dk_27 (dk_at dksX4_billed_4 23 rfl rfl)
theorem dX4_billed_118 : decode cX4_billed 118 = .ok (.invokevirtual 115, 3) := dk_182 0 115 (dk_at dksX4_billed_5 0 rfl rfl)
theorem dX4_billed_121 : decode cX4_billed 121 = .ok (.iadd, 1) := dk_96 (dk_at dksX4_billed_5 3 rfl rfl)
theorem dX4_billed_122 : decode cX4_billed 122 = .ok (.iastore, 1) := dk_79 (dk_at dksX4_billed_5 4 rfl rfl)
theorem dX4_billed_123 : decode cX4_billed 123 = .ok (.aload_n 0, 1) := dk_42 (dk_at dksX4_billed_5 5 rfl rfl)
theorem dX4_billed_124 : decode cX4_billed 124 = .ok (.getfield 7, 3) := dk_180 0 7 (dk_at dksX4_billed_5 6 rfl rfl)
theorem dX4_billed_127 : decode cX4_billed 127 = .ok (.bipush 10, 2) := dk_16 10 (dk_at dksX4_billed_5 9 rfl rfl)
theorem dX4_billed_129 : decode cX4_billed 129 = .ok (.bipush 6, 2) := dk_16 6 (dk_at dksX4_billed_5 11 rfl rfl)
theorem dX4_billed_131 : decode cX4_billed 131 = .ok (.iload_n 1, 1) := dk_27 (dk_at dksX4_billed_5 13 rfl rfl)
theorem dX4_billed_132 : decode cX4_billed 132 = .ok (.imul, 1) := dk_104 (dk_at dksX4_billed_5 14 rfl rfl)
theorem dX4_billed_133 : decode cX4_billed 133 = .ok (.iadd, 1) := dk_96 (dk_at dksX4_billed_5 15 rfl rfl)
theorem dX4_billed_134 : decode cX4_billed 134 = .ok (.iconst 5, 1) := dk_8 (dk_at dksX4_billed_5 16 rfl rfl)
theorem dX4_billed_135 : decode cX4_billed 135 = .ok (.iadd, 1) := dk_96 (dk_at dksX4_billed_5 17 rfl rfl)
theorem dX4_billed_136 : decode cX4_billed 136 = .ok (.dup2, 1) := dk_92 (dk_at dksX4_billed_5 18 rfl rfl)
theorem dX4_billed_137 : decode cX4_billed 137 = .ok (.iaload, 1) := dk_46 (dk_at dksX4_billed_5 19 rfl rfl)
theorem dX4_billed_138 : decode cX4_billed 138 = .ok (.iconst 1, 1) := dk_4 (dk_at dksX4_billed_5 20 rfl rfl)
theorem dX4_billed_139 : decode cX4_billed 139 = .ok (.isub, 1) := dk_100 (dk_at dksX4_billed_5 21 rfl rfl)
theorem dX4_billed_140 : decode cX4_billed 140 = .ok (.iastore, 1) := dk_79 (dk_at dksX4_billed_5 22 rfl rfl)
theorem dX4_billed_141 : decode cX4_billed 141 = .ok (.aload_n 0, 1) := dk_42 (dk_at dksX4_billed_5 23 rfl rfl)
theorem dX4_billed_142 : decode cX4_billed 142 = .ok (.iload_n 1, 1) := dk_27 (dk_at dksX4_billed_6 0 rfl rfl)
theorem dX4_billed_143 : decode cX4_billed 143 = .ok (.iconst 5, 1) := dk_8 (dk_at dksX4_billed_6 1 rfl rfl)
theorem dX4_billed_144 : decode cX4_billed 144 = .ok (.invokevirtual 70, 3) := dk_182 0 70 (dk_at dksX4_billed_6 2 rfl rfl)
theorem dX4_billed_147 : decode cX4_billed 147 = .ok (.ifCond .le 5, 3) := dk_158 0 5 (dk_at dksX4_billed_6 5 rfl rfl)
theorem dX4_billed_150 : decode cX4_billed 150 = .ok (.iconst 0, 1) := dk_3 (dk_at dksX4_billed_6 8 rfl rfl)
theorem dX4_billed_151 : decode cX4_billed 151 = .ok (.ireturn, 1) := dk_172 (dk_at dksX4_billed_6 9 rfl rfl)
theorem dX4_billed_152 : decode cX4_billed 152 = .ok (.aload_n 0, 1) := dk_42 (dk_at dksX4_billed_6 10 rfl rfl)
theorem dX4_billed_153 : decode cX4_billed 153 = .ok (.iload_n 1, 1) := dk_27 (dk_at dksX4_billed_6 11 rfl rfl)
theorem dX4_billed_154 : decode cX4_billed 154 = .ok (.aload_n 0, 1) := dk_42 (dk_at dksX4_billed_6 12 rfl rfl)
theorem dX4_billed_155 : decode cX4_billed 155 = .ok (.iload_n 1, 1) := dk_27 (dk_at dksX4_billed_6 13 rfl rfl)
theorem dX4_billed_156 : decode cX4_billed 156 = .ok (.iconst 4, 1) := dk_7 (dk_at dksX4_billed_6 14 rfl rfl)
theorem dX4_billed_157 : decode cX4_billed 157 = .ok (.invokevirtual 70, 3) := dk_182 0 70 (dk_at dksX4_billed_6 15 rfl rfl)
theorem dX4_billed_160 : decode cX4_billed 160 = .ok (.invokevirtual 124, 3) := dk_182 0 124 (dk_at dksX4_billed_6 18 rfl rfl)
theorem dX4_billed_163 : decode cX4_billed 163 = .ok (.aload_n 0, 1) := dk_42 (dk_at dksX4_billed_6 21 rfl rfl)
theorem dX4_billed_164 : decode cX4_billed 164 = .ok (.getfield 7, 3) := dk_180 0 7 (dk_at dksX4_billed_7 0 rfl rfl)
theorem dX4_billed_167 : decode cX4_billed 167 = .ok (.bipush 9, 2) := dk_16 9 (dk_at dksX4_billed_7 3 rfl rfl)
theorem dX4_billed_169 : decode cX4_billed 169 = .ok (.dup2, 1) := dk_92 (dk_at dksX4_billed_7 5 rfl rfl)
theorem dX4_billed_170 : decode cX4_billed 170 = .ok (.iaload, 1) := dk_46 (dk_at dksX4_billed_7 6 rfl rfl)
theorem dX4_billed_171 : decode cX4_billed 171 = .ok (.iconst 1, 1) := dk_4 (dk_at dksX4_billed_7 7 rfl rfl)
theorem dX4_billed_172 : decode cX4_billed 172 = .ok (.iadd, 1) := dk_96 (dk_at dksX4_billed_7 8 rfl rfl)
theorem dX4_billed_173 : decode cX4_billed 173 = .ok (.iastore, 1) := dk_79 (dk_at dksX4_billed_7 9 rfl rfl)
theorem dX4_billed_174 : decode cX4_billed 174 = .ok (.iconst 1, 1) := dk_4 (dk_at dksX4_billed_7 10 rfl rfl)
theorem dX4_billed_175 : decode cX4_billed 175 = .ok (.ireturn, 1) := dk_172 (dk_at dksX4_billed_7 11 rfl rfl)
abbrev cX4_month : ByteArray := prog_20_method_79_code
def yX4_month : MethodName := ⟨RX4, "month", "()I"⟩
def dkwX4_month_0 : List UInt8 := [42, 3, 181, 0, 38, 42, 180, 0, 7, 7, 46, 172]
abbrev dktX4_month_0 : List UInt8 := dkwX4_month_0 ++ []
theorem dksX4_month_0 : cX4_month.data.toList.drop 0 = dktX4_month_0 := by decide +kernel
theorem dX4_month_0 : decode cX4_month 0 = .ok (.aload_n 0, 1) := dk_42 (dk_at dksX4_month_0 0 rfl rfl)
theorem dX4_month_1 : decode cX4_month 1 = .ok (.iconst 0, 1) := dk_3 (dk_at dksX4_month_0 1 rfl rfl)
theorem dX4_month_2 : decode cX4_month 2 = .ok (.putfield 38, 3) := dk_181 0 38 (dk_at dksX4_month_0 2 rfl rfl)
theorem dX4_month_5 : decode cX4_month 5 = .ok (.aload_n 0, 1) := dk_42 (dk_at dksX4_month_0 5 rfl rfl)
theorem dX4_month_6 : decode cX4_month 6 = .ok (.getfield 7, 3) := dk_180 0 7 (dk_at dksX4_month_0 6 rfl rfl)
theorem dX4_month_9 : decode cX4_month 9 = .ok (.iconst 4, 1) := dk_7 (dk_at dksX4_month_0 9 rfl rfl)
theorem dX4_month_10 : decode cX4_month 10 = .ok (.iaload, 1) := dk_46 (dk_at dksX4_month_0 10 rfl rfl)
theorem dX4_month_11 : decode cX4_month 11 = .ok (.ireturn, 1) := dk_172 (dk_at dksX4_month_0 11 rfl rfl)
abbrev cX4_incomeWithin : ByteArray := prog_20_method_80_code
def yX4_incomeWithin : MethodName := ⟨RX4, "incomeWithin", "(I)I"⟩
def dkwX4_incomeWithin_4 : List UInt8 := [21, 4, 46, 79, 132, 4, 1, 167, 255, 232, 29, 172]
abbrev dktX4_incomeWithin_4 : List UInt8 := dkwX4_incomeWithin_4 ++ []
def dkwX4_incomeWithin_3 : List UInt8 := [46, 100, 62, 3, 54, 4, 21, 4, 16, 102, 162, 0, 23, 42, 180, 0, 7, 21, 4, 42, 180, 0, 22]
abbrev dktX4_incomeWithin_3 : List UInt8 := dkwX4_incomeWithin_3 ++ dktX4_incomeWithin_4
def dkwX4_incomeWithin_2 : List UInt8 := [79, 132, 2, 1, 167, 255, 235, 42, 27, 182, 0, 186, 61, 42, 180, 0, 7, 8, 46, 42, 180, 0, 22, 8]
abbrev dktX4_incomeWithin_2 : List UInt8 := dkwX4_incomeWithin_2 ++ dktX4_incomeWithin_3
def dkwX4_incomeWithin_1 : List UInt8 := [158, 0, 5, 3, 172, 3, 61, 28, 16, 102, 162, 0, 21, 42, 180, 0, 22, 28, 42, 180, 0, 7, 28, 46]
abbrev dktX4_incomeWithin_1 : List UInt8 := dkwX4_incomeWithin_1 ++ dktX4_incomeWithin_2
def dkwX4_incomeWithin_0 : List UInt8 := [42, 27, 4, 16, 12, 184, 0, 66, 153, 0, 7, 3, 167, 0, 4, 4, 181, 0, 38, 42, 180, 0, 38]
abbrev dktX4_incomeWithin_0 : List UInt8 := dkwX4_incomeWithin_0 ++ dktX4_incomeWithin_1
theorem dksX4_incomeWithin_0 : cX4_incomeWithin.data.toList.drop 0 = dktX4_incomeWithin_0 := by decide +kernel
theorem dksX4_incomeWithin_1 : cX4_incomeWithin.data.toList.drop 23 = dktX4_incomeWithin_1 := dk_seg dksX4_incomeWithin_0 23 rfl rfl
theorem dksX4_incomeWithin_2 : cX4_incomeWithin.data.toList.drop 47 = dktX4_incomeWithin_2 := dk_seg dksX4_incomeWithin_1 24 rfl rfl
theorem dksX4_incomeWithin_3 : cX4_incomeWithin.data.toList.drop 71 = dktX4_incomeWithin_3 := dk_seg dksX4_incomeWithin_2 24 rfl rfl
theorem dksX4_incomeWithin_4 : cX4_incomeWithin.data.toList.drop 94 = dktX4_incomeWithin_4 := dk_seg dksX4_incomeWithin_3 23 rfl rfl
theorem dX4_incomeWithin_0 : decode cX4_incomeWithin 0 = .ok (.aload_n 0, 1) := dk_42 (dk_at dksX4_incomeWithin_0 0 rfl rfl)
theorem dX4_incomeWithin_1 : decode cX4_incomeWithin 1 = .ok (.iload_n 1, 1) := dk_27 (dk_at dksX4_incomeWithin_0 1 rfl rfl)
theorem dX4_incomeWithin_2 : decode cX4_incomeWithin 2 = .ok (.iconst 1, 1) := dk_4 (dk_at dksX4_incomeWithin_0 2 rfl rfl)
theorem dX4_incomeWithin_3 : decode cX4_incomeWithin 3 = .ok (.bipush 12, 2) := dk_16 12 (dk_at dksX4_incomeWithin_0 3 rfl rfl)
theorem dX4_incomeWithin_5 : decode cX4_incomeWithin 5 = .ok (.invokestatic 66, 3) := dk_184 0 66 (dk_at dksX4_incomeWithin_0 5 rfl rfl)
theorem dX4_incomeWithin_8 : decode cX4_incomeWithin 8 = .ok (.ifCond .eq 7, 3) := dk_153 0 7 (dk_at dksX4_incomeWithin_0 8 rfl rfl)
theorem dX4_incomeWithin_11 : decode cX4_incomeWithin 11 = .ok (.iconst 0, 1) := dk_3 (dk_at dksX4_incomeWithin_0 11 rfl rfl)
theorem dX4_incomeWithin_12 : decode cX4_incomeWithin 12 = .ok (.goto 4, 3) := dk_167 0 4 (dk_at dksX4_incomeWithin_0 12 rfl rfl)
theorem dX4_incomeWithin_15 : decode cX4_incomeWithin 15 = .ok (.iconst 1, 1) := dk_4 (dk_at dksX4_incomeWithin_0 15 rfl rfl)
theorem dX4_incomeWithin_16 : decode cX4_incomeWithin 16 = .ok (.putfield 38, 3) := dk_181 0 38 (dk_at dksX4_incomeWithin_0 16 rfl rfl)
theorem dX4_incomeWithin_19 : decode cX4_incomeWithin 19 = .ok (.aload_n 0, 1) := dk_42 (dk_at dksX4_incomeWithin_0 19 rfl rfl)
theorem dX4_incomeWithin_20 : decode cX4_incomeWithin 20 = .ok (.getfield 38, 3) := dk_180 0 38 (dk_at dksX4_incomeWithin_0 20 rfl rfl)
theorem dX4_incomeWithin_23 : decode cX4_incomeWithin 23 = .ok (.ifCond .le 5, 3) := dk_158 0 5 (dk_at dksX4_incomeWithin_1 0 rfl rfl)
theorem dX4_incomeWithin_26 : decode cX4_incomeWithin 26 = .ok (.iconst 0, 1) := dk_3 (dk_at dksX4_incomeWithin_1 3 rfl rfl)
theorem dX4_incomeWithin_27 : decode cX4_incomeWithin 27 = .ok (.ireturn, 1) := dk_172 (dk_at dksX4_incomeWithin_1 4 rfl rfl)
theorem dX4_incomeWithin_28 : decode cX4_incomeWithin 28 = .ok (.iconst 0, 1) := dk_3 (dk_at dksX4_incomeWithin_1 5 rfl rfl)
theorem dX4_incomeWithin_29 : decode cX4_incomeWithin 29 = .ok (.istore_n 2, 1) := dk_61 (dk_at dksX4_incomeWithin_1 6 rfl rfl)
theorem dX4_incomeWithin_30 : decode cX4_incomeWithin 30 = .ok (.iload_n 2, 1) := dk_28 (dk_at dksX4_incomeWithin_1 7 rfl rfl)
theorem dX4_incomeWithin_31 : decode cX4_incomeWithin 31 = .ok (.bipush 102, 2) := dk_16 102 (dk_at dksX4_incomeWithin_1 8 rfl rfl)
theorem dX4_incomeWithin_33 : decode cX4_incomeWithin 33 = .ok (.if_icmp .ge 21, 3) := dk_162 0 21 (dk_at dksX4_incomeWithin_1 10 rfl rfl)
theorem dX4_incomeWithin_36 : decode cX4_incomeWithin 36 = .ok (.aload_n 0, 1) := dk_42 (dk_at dksX4_incomeWithin_1 13 rfl rfl)
theorem dX4_incomeWithin_37 : decode cX4_incomeWithin 37 = .ok (.getfield 22, 3) := dk_180 0 22 (dk_at dksX4_incomeWithin_1 14 rfl rfl)
theorem dX4_incomeWithin_40 : decode cX4_incomeWithin 40 = .ok (.iload_n 2, 1) := dk_28 (dk_at dksX4_incomeWithin_1 17 rfl rfl)
theorem dX4_incomeWithin_41 : decode cX4_incomeWithin 41 = .ok (.aload_n 0, 1) := dk_42 (dk_at dksX4_incomeWithin_1 18 rfl rfl)
theorem dX4_incomeWithin_42 : decode cX4_incomeWithin 42 = .ok (.getfield 7, 3) := dk_180 0 7 (dk_at dksX4_incomeWithin_1 19 rfl rfl)
theorem dX4_incomeWithin_45 : decode cX4_incomeWithin 45 = .ok (.iload_n 2, 1) := dk_28 (dk_at dksX4_incomeWithin_1 22 rfl rfl)
theorem dX4_incomeWithin_46 : decode cX4_incomeWithin 46 = .ok (.iaload, 1) := dk_46 (dk_at dksX4_incomeWithin_1 23 rfl rfl)
theorem dX4_incomeWithin_47 : decode cX4_incomeWithin 47 = .ok (.iastore, 1) := dk_79 (dk_at dksX4_incomeWithin_2 0 rfl rfl)
theorem dX4_incomeWithin_48 : decode cX4_incomeWithin 48 = .ok (.iinc 2 1, 3) := dk_132 2 1 (dk_at dksX4_incomeWithin_2 1 rfl rfl)
theorem dX4_incomeWithin_51 : decode cX4_incomeWithin 51 = .ok (.goto (-21), 3) := dk_167 255 235 (dk_at dksX4_incomeWithin_2 4 rfl rfl)
theorem dX4_incomeWithin_54 : decode cX4_incomeWithin 54 = .ok (.aload_n 0, 1) := dk_42 (dk_at dksX4_incomeWithin_2 7 rfl rfl)
theorem dX4_incomeWithin_55 : decode cX4_incomeWithin 55 = .ok (.iload_n 1, 1) := dk_27 (dk_at dksX4_incomeWithin_2 8 rfl rfl)
theorem dX4_incomeWithin_56 : decode cX4_incomeWithin 56 = .ok (.invokevirtual 186, 3) := dk_182 0 186 (dk_at dksX4_incomeWithin_2 9 rfl rfl)
theorem dX4_incomeWithin_59 : decode cX4_incomeWithin 59 = .ok (.istore_n 2, 1) := dk_61 (dk_at dksX4_incomeWithin_2 12 rfl rfl)
theorem dX4_incomeWithin_60 : decode cX4_incomeWithin 60 = .ok (.aload_n 0, 1) := dk_42 (dk_at dksX4_incomeWithin_2 13 rfl rfl)
theorem dX4_incomeWithin_61 : decode cX4_incomeWithin 61 = .ok (.getfield 7, 3) := dk_180 0 7 (dk_at dksX4_incomeWithin_2 14 rfl rfl)
theorem dX4_incomeWithin_64 : decode cX4_incomeWithin 64 = .ok (.iconst 5, 1) := dk_8 (dk_at dksX4_incomeWithin_2 17 rfl rfl)
theorem dX4_incomeWithin_65 : decode cX4_incomeWithin 65 = .ok (.iaload, 1) := dk_46 (dk_at dksX4_incomeWithin_2 18 rfl rfl)
theorem dX4_incomeWithin_66 : decode cX4_incomeWithin 66 = .ok (.aload_n 0, 1) := dk_42 (dk_at dksX4_incomeWithin_2 19 rfl rfl)
theorem dX4_incomeWithin_67 : decode cX4_incomeWithin 67 = .ok (.getfield 22, 3) := dk_180 0 22 (dk_at dksX4_incomeWithin_2 20 rfl rfl)
theorem dX4_incomeWithin_70 : decode cX4_incomeWithin 70 = .ok (.iconst 5, 1) := dk_8 (dk_at dksX4_incomeWithin_2 23 rfl rfl)
theorem dX4_incomeWithin_71 : decode cX4_incomeWithin 71 = .ok (.iaload, 1) := dk_46 (dk_at dksX4_incomeWithin_3 0 rfl rfl)
theorem dX4_incomeWithin_72 : decode cX4_incomeWithin 72 = .ok (.isub, 1) := dk_100 (dk_at dksX4_incomeWithin_3 1 rfl rfl)
theorem dX4_incomeWithin_73 : decode cX4_incomeWithin 73 = .ok (.istore_n 3, 1) := dk_62 (dk_at dksX4_incomeWithin_3 2 rfl rfl)
theorem dX4_incomeWithin_74 : decode cX4_incomeWithin 74 = .ok (.iconst 0, 1) := dk_3 (dk_at dksX4_incomeWithin_3 3 rfl rfl)
theorem dX4_incomeWithin_75 : decode cX4_incomeWithin 75 = .ok (.istore 4, 2) := dk_54 4 (dk_at dksX4_incomeWithin_3 4 rfl rfl)
theorem dX4_incomeWithin_77 : decode cX4_incomeWithin 77 = .ok (.iload 4, 2) := dk_21 4 (dk_at dksX4_incomeWithin_3 6 rfl rfl)
theorem dX4_incomeWithin_79 : decode cX4_incomeWithin 79 = .ok (.bipush 102, 2) := dk_16 102 (dk_at dksX4_incomeWithin_3 8 rfl rfl)
theorem dX4_incomeWithin_81 : decode cX4_incomeWithin 81 = .ok (.if_icmp .ge 23, 3) := dk_162 0 23 (dk_at dksX4_incomeWithin_3 10 rfl rfl)
theorem dX4_incomeWithin_84 : decode cX4_incomeWithin 84 = .ok (.aload_n 0, 1) := dk_42 (dk_at dksX4_incomeWithin_3 13 rfl rfl)
theorem dX4_incomeWithin_85 : decode cX4_incomeWithin 85 = .ok (.getfield 7, 3) := dk_180 0 7 (dk_at dksX4_incomeWithin_3 14 rfl rfl)
theorem dX4_incomeWithin_88 : decode cX4_incomeWithin 88 = .ok (.iload 4, 2) := dk_21 4 (dk_at dksX4_incomeWithin_3 17 rfl rfl)
theorem dX4_incomeWithin_90 : decode cX4_incomeWithin 90 = .ok (.aload_n 0, 1) := dk_42 (dk_at dksX4_incomeWithin_3 19 rfl rfl)
theorem dX4_incomeWithin_91 : decode cX4_incomeWithin 91 = .ok (.getfield 22, 3) := dk_180 0 22 (dk_at dksX4_incomeWithin_3 20 rfl rfl)
theorem dX4_incomeWithin_94 : decode cX4_incomeWithin 94 = .ok (.iload 4, 2) := dk_21 4 (dk_at dksX4_incomeWithin_4 0 rfl rfl)
theorem dX4_incomeWithin_96 : decode cX4_incomeWithin 96 = .ok (.iaload, 1) := dk_46 (dk_at dksX4_incomeWithin_4 2 rfl rfl)
theorem dX4_incomeWithin_97 : decode cX4_incomeWithin 97 = .ok (.iastore, 1) := dk_79 (dk_at dksX4_incomeWithin_4 3 rfl rfl)
theorem dX4_incomeWithin_98 : decode cX4_incomeWithin 98 = .ok (.iinc 4 1, 3) := dk_132 4 1 (dk_at dksX4_incomeWithin_4 4 rfl rfl)
theorem dX4_incomeWithin_101 : decode cX4_incomeWithin 101 = .ok (.goto (-24), 3) := dk_167 255 232 (dk_at dksX4_incomeWithin_4 7 rfl rfl)
theorem dX4_incomeWithin_104 : decode cX4_incomeWithin 104 = .ok (.iload_n 3, 1) := dk_29 (dk_at dksX4_incomeWithin_4 10 rfl rfl)
theorem dX4_incomeWithin_105 : decode cX4_incomeWithin 105 = .ok (.ireturn, 1) := dk_172 (dk_at dksX4_incomeWithin_4 11 rfl rfl)
abbrev cX4_incomeByLeases : ByteArray := prog_20_method_81_code
def yX4_incomeByLeases : MethodName := ⟨RX4, "incomeByLeases", "(I)I"⟩
def dkwX4_incomeByLeases_0 : List UInt8 := [42, 27, 182, 0, 189, 172]
abbrev dktX4_incomeByLeases_0 : List UInt8 := dkwX4_incomeByLeases_0 ++ []
theorem dksX4_incomeByLeases_0 : cX4_incomeByLeases.data.toList.drop 0 = dktX4_incomeByLeases_0 := by decide +kernel
theorem dX4_incomeByLeases_0 : decode cX4_incomeByLeases 0 = .ok (.aload_n 0, 1) := dk_42 (dk_at dksX4_incomeByLeases_0 0 rfl rfl)
theorem dX4_incomeByLeases_1 : decode cX4_incomeByLeases 1 = .ok (.iload_n 1, 1) := dk_27 (dk_at dksX4_incomeByLeases_0 1 rfl rfl)
theorem dX4_incomeByLeases_2 : decode cX4_incomeByLeases 2 = .ok (.invokevirtual 189, 3) := dk_182 0 189 (dk_at dksX4_incomeByLeases_0 2 rfl rfl)
theorem dX4_incomeByLeases_5 : decode cX4_incomeByLeases 5 = .ok (.ireturn, 1) := dk_172 (dk_at dksX4_incomeByLeases_0 5 rfl rfl)
abbrev cX4_brokerCoins : ByteArray := prog_20_method_82_code
def yX4_brokerCoins : MethodName := ⟨RX4, "brokerCoins", "()I"⟩
def dkwX4_brokerCoins_0 : List UInt8 := [42, 3, 181, 0, 38, 42, 180, 0, 7, 8, 46, 172]
abbrev dktX4_brokerCoins_0 : List UInt8 := dkwX4_brokerCoins_0 ++ []
theorem dksX4_brokerCoins_0 : cX4_brokerCoins.data.toList.drop 0 = dktX4_brokerCoins_0 := by decide +kernel
theorem dX4_brokerCoins_0 : decode cX4_brokerCoins 0 = .ok (.aload_n 0, 1) := dk_42 (dk_at dksX4_brokerCoins_0 0 rfl rfl)
theorem dX4_brokerCoins_1 : decode cX4_brokerCoins 1 = .ok (.iconst 0, 1) := dk_3 (dk_at dksX4_brokerCoins_0 1 rfl rfl)
theorem dX4_brokerCoins_2 : decode cX4_brokerCoins 2 = .ok (.putfield 38, 3) := dk_181 0 38 (dk_at dksX4_brokerCoins_0 2 rfl rfl)
theorem dX4_brokerCoins_5 : decode cX4_brokerCoins 5 = .ok (.aload_n 0, 1) := dk_42 (dk_at dksX4_brokerCoins_0 5 rfl rfl)
theorem dX4_brokerCoins_6 : decode cX4_brokerCoins 6 = .ok (.getfield 7, 3) := dk_180 0 7 (dk_at dksX4_brokerCoins_0 6 rfl rfl)
theorem dX4_brokerCoins_9 : decode cX4_brokerCoins 9 = .ok (.iconst 5, 1) := dk_8 (dk_at dksX4_brokerCoins_0 9 rfl rfl)
theorem dX4_brokerCoins_10 : decode cX4_brokerCoins 10 = .ok (.iaload, 1) := dk_46 (dk_at dksX4_brokerCoins_0 10 rfl rfl)
theorem dX4_brokerCoins_11 : decode cX4_brokerCoins 11 = .ok (.ireturn, 1) := dk_172 (dk_at dksX4_brokerCoins_0 11 rfl rfl)
abbrev cX4_depositTotal : ByteArray := prog_20_method_84_code
def yX4_depositTotal : MethodName := ⟨RX4, "depositTotal", "()I"⟩
def dkwX4_depositTotal_0 : List UInt8 := [42, 3, 181, 0, 38, 42, 182, 0, 192, 172]
abbrev dktX4_depositTotal_0 : List UInt8 := dkwX4_depositTotal_0 ++ []
theorem dksX4_depositTotal_0 : cX4_depositTotal.data.toList.drop 0 = dktX4_depositTotal_0 := by decide +kernel
theorem dX4_depositTotal_0 : decode cX4_depositTotal 0 = .ok (.aload_n 0, 1) := dk_42 (dk_at dksX4_depositTotal_0 0 rfl rfl)
theorem dX4_depositTotal_1 : decode cX4_depositTotal 1 = .ok (.iconst 0, 1) := dk_3 (dk_at dksX4_depositTotal_0 1 rfl rfl)
theorem dX4_depositTotal_2 : decode cX4_depositTotal 2 = .ok (.putfield 38, 3) := dk_181 0 38 (dk_at dksX4_depositTotal_0 2 rfl rfl)
theorem dX4_depositTotal_5 : decode cX4_depositTotal 5 = .ok (.aload_n 0, 1) := dk_42 (dk_at dksX4_depositTotal_0 5 rfl rfl)
theorem dX4_depositTotal_6 : decode cX4_depositTotal 6 = .ok (.invokevirtual 192, 3) := dk_182 0 192 (dk_at dksX4_depositTotal_0 6 rfl rfl)
theorem dX4_depositTotal_9 : decode cX4_depositTotal 9 = .ok (.ireturn, 1) := dk_172 (dk_at dksX4_depositTotal_0 9 rfl rfl)
abbrev cX4_deposits : ByteArray := prog_20_method_83_code
def yX4_deposits : MethodName := ⟨RX4, "deposits", "()I"⟩
def dkwX4_deposits_1 : List UInt8 := [132, 2, 1, 167, 255, 234, 27, 172]
abbrev dktX4_deposits_1 : List UInt8 := dkwX4_deposits_1 ++ []
def dkwX4_deposits_0 : List UInt8 := [3, 60, 3, 61, 28, 42, 180, 0, 7, 3, 46, 162, 0, 18, 27, 42, 28, 7, 182, 0, 70, 96, 60]
abbrev dktX4_deposits_0 : List UInt8 := dkwX4_deposits_0 ++ dktX4_deposits_1
theorem dksX4_deposits_0 : cX4_deposits.data.toList.drop 0 = dktX4_deposits_0 := by decide +kernel
theorem dksX4_deposits_1 : cX4_deposits.data.toList.drop 23 = dktX4_deposits_1 := dk_seg dksX4_deposits_0 23 rfl rfl
theorem dX4_deposits_0 : decode cX4_deposits 0 = .ok (.iconst 0, 1) := dk_3 (dk_at dksX4_deposits_0 0 rfl rfl)
theorem dX4_deposits_1 : decode cX4_deposits 1 = .ok (.istore_n 1, 1) := dk_60 (dk_at dksX4_deposits_0 1 rfl rfl)
theorem dX4_deposits_2 : decode cX4_deposits 2 = .ok (.iconst 0, 1) := dk_3 (dk_at dksX4_deposits_0 2 rfl rfl)
theorem dX4_deposits_3 : decode cX4_deposits 3 = .ok (.istore_n 2, 1) := dk_61 (dk_at dksX4_deposits_0 3 rfl rfl)
theorem dX4_deposits_4 : decode cX4_deposits 4 = .ok (.iload_n 2, 1) := dk_28 (dk_at dksX4_deposits_0 4 rfl rfl)
theorem dX4_deposits_5 : decode cX4_deposits 5 = .ok (.aload_n 0, 1) := dk_42 (dk_at dksX4_deposits_0 5 rfl rfl)
theorem dX4_deposits_6 : decode cX4_deposits 6 = .ok (.getfield 7, 3) := dk_180 0 7 (dk_at dksX4_deposits_0 6 rfl rfl)
theorem dX4_deposits_9 : decode cX4_deposits 9 = .ok (.iconst 0, 1) := dk_3 (dk_at dksX4_deposits_0 9 rfl rfl)
theorem dX4_deposits_10 : decode cX4_deposits 10 = .ok (.iaload, 1) := dk_46 (dk_at dksX4_deposits_0 10 rfl rfl)
theorem dX4_deposits_11 : decode cX4_deposits 11 = .ok (.if_icmp .ge 18, 3) := dk_162 0 18 (dk_at dksX4_deposits_0 11 rfl rfl)
theorem dX4_deposits_14 : decode cX4_deposits 14 = .ok (.iload_n 1, 1) := dk_27 (dk_at dksX4_deposits_0 14 rfl rfl)
theorem dX4_deposits_15 : decode cX4_deposits 15 = .ok (.aload_n 0, 1) := dk_42 (dk_at dksX4_deposits_0 15 rfl rfl)
theorem dX4_deposits_16 : decode cX4_deposits 16 = .ok (.iload_n 2, 1) := dk_28 (dk_at dksX4_deposits_0 16 rfl rfl)
theorem dX4_deposits_17 : decode cX4_deposits 17 = .ok (.iconst 4, 1) := dk_7 (dk_at dksX4_deposits_0 17 rfl rfl)
theorem dX4_deposits_18 : decode cX4_deposits 18 = .ok (.invokevirtual 70, 3) := dk_182 0 70 (dk_at dksX4_deposits_0 18 rfl rfl)
theorem dX4_deposits_21 : decode cX4_deposits 21 = .ok (.iadd, 1) := dk_96 (dk_at dksX4_deposits_0 21 rfl rfl)
theorem dX4_deposits_22 : decode cX4_deposits 22 = .ok (.istore_n 1, 1) := dk_60 (dk_at dksX4_deposits_0 22 rfl rfl)
theorem dX4_deposits_23 : decode cX4_deposits 23 = .ok (.iinc 2 1, 3) := dk_132 2 1 (dk_at dksX4_deposits_1 0 rfl rfl)
theorem dX4_deposits_26 : decode cX4_deposits 26 = .ok (.goto (-22), 3) := dk_167 255 234 (dk_at dksX4_deposits_1 3 rfl rfl)
theorem dX4_deposits_29 : decode cX4_deposits 29 = .ok (.iload_n 1, 1) := dk_27 (dk_at dksX4_deposits_1 6 rfl rfl)
theorem dX4_deposits_30 : decode cX4_deposits 30 = .ok (.ireturn, 1) := dk_172 (dk_at dksX4_deposits_1 7 rfl rfl)
abbrev cX4_allCoins : ByteArray := prog_20_method_85_code
def yX4_allCoins : MethodName := ⟨RX4, "allCoins", "()I"⟩
def dkwX4_allCoins_1 : List UInt8 := [5, 46, 162, 0, 18, 27, 42, 28, 3, 182, 0, 106, 96, 60, 132, 2, 1, 167, 255, 234, 27, 172]
abbrev dktX4_allCoins_1 : List UInt8 := dkwX4_allCoins_1 ++ []
def dkwX4_allCoins_0 : List UInt8 := [42, 3, 181, 0, 38, 42, 180, 0, 7, 8, 46, 42, 182, 0, 192, 96, 60, 3, 61, 28, 42, 180, 0, 7]
abbrev dktX4_allCoins_0 : List UInt8 := dkwX4_allCoins_0 ++ dktX4_allCoins_1
theorem dksX4_allCoins_0 : cX4_allCoins.data.toList.drop 0 = dktX4_allCoins_0 := by decide +kernel
theorem dksX4_allCoins_1 : cX4_allCoins.data.toList.drop 24 = dktX4_allCoins_1 := dk_seg dksX4_allCoins_0 24 rfl rfl
theorem dX4_allCoins_0 : decode cX4_allCoins 0 = .ok (.aload_n 0, 1) := dk_42 (dk_at dksX4_allCoins_0 0 rfl rfl)
theorem dX4_allCoins_1 : decode cX4_allCoins 1 = .ok (.iconst 0, 1) := dk_3 (dk_at dksX4_allCoins_0 1 rfl rfl)
theorem dX4_allCoins_2 : decode cX4_allCoins 2 = .ok (.putfield 38, 3) := dk_181 0 38 (dk_at dksX4_allCoins_0 2 rfl rfl)
theorem dX4_allCoins_5 : decode cX4_allCoins 5 = .ok (.aload_n 0, 1) := dk_42 (dk_at dksX4_allCoins_0 5 rfl rfl)
theorem dX4_allCoins_6 : decode cX4_allCoins 6 = .ok (.getfield 7, 3) := dk_180 0 7 (dk_at dksX4_allCoins_0 6 rfl rfl)
theorem dX4_allCoins_9 : decode cX4_allCoins 9 = .ok (.iconst 5, 1) := dk_8 (dk_at dksX4_allCoins_0 9 rfl rfl)
theorem dX4_allCoins_10 : decode cX4_allCoins 10 = .ok (.iaload, 1) := dk_46 (dk_at dksX4_allCoins_0 10 rfl rfl)
theorem dX4_allCoins_11 : decode cX4_allCoins 11 = .ok (.aload_n 0, 1) := dk_42 (dk_at dksX4_allCoins_0 11 rfl rfl)
theorem dX4_allCoins_12 : decode cX4_allCoins 12 = .ok (.invokevirtual 192, 3) := dk_182 0 192 (dk_at dksX4_allCoins_0 12 rfl rfl)
theorem dX4_allCoins_15 : decode cX4_allCoins 15 = .ok (.iadd, 1) := dk_96 (dk_at dksX4_allCoins_0 15 rfl rfl)
theorem dX4_allCoins_16 : decode cX4_allCoins 16 = .ok (.istore_n 1, 1) := dk_60 (dk_at dksX4_allCoins_0 16 rfl rfl)
theorem dX4_allCoins_17 : decode cX4_allCoins 17 = .ok (.iconst 0, 1) := dk_3 (dk_at dksX4_allCoins_0 17 rfl rfl)
theorem dX4_allCoins_18 : decode cX4_allCoins 18 = .ok (.istore_n 2, 1) := dk_61 (dk_at dksX4_allCoins_0 18 rfl rfl)
theorem dX4_allCoins_19 : decode cX4_allCoins 19 = .ok (.iload_n 2, 1) := dk_28 (dk_at dksX4_allCoins_0 19 rfl rfl)
theorem dX4_allCoins_20 : decode cX4_allCoins 20 = .ok (.aload_n 0, 1) := dk_42 (dk_at dksX4_allCoins_0 20 rfl rfl)
theorem dX4_allCoins_21 : decode cX4_allCoins 21 = .ok (.getfield 7, 3) := dk_180 0 7 (dk_at dksX4_allCoins_0 21 rfl rfl)
theorem dX4_allCoins_24 : decode cX4_allCoins 24 = .ok (.iconst 2, 1) := dk_5 (dk_at dksX4_allCoins_1 0 rfl rfl)
theorem dX4_allCoins_25 : decode cX4_allCoins 25 = .ok (.iaload, 1) := dk_46 (dk_at dksX4_allCoins_1 1 rfl rfl)
theorem dX4_allCoins_26 : decode cX4_allCoins 26 = .ok (.if_icmp .ge 18, 3) := dk_162 0 18 (dk_at dksX4_allCoins_1 2 rfl rfl)
theorem dX4_allCoins_29 : decode cX4_allCoins 29 = .ok (.iload_n 1, 1) := dk_27 (dk_at dksX4_allCoins_1 5 rfl rfl)
theorem dX4_allCoins_30 : decode cX4_allCoins 30 = .ok (.aload_n 0, 1) := dk_42 (dk_at dksX4_allCoins_1 6 rfl rfl)
theorem dX4_allCoins_31 : decode cX4_allCoins 31 = .ok (.iload_n 2, 1) := dk_28 (dk_at dksX4_allCoins_1 7 rfl rfl)
theorem dX4_allCoins_32 : decode cX4_allCoins 32 = .ok (.iconst 0, 1) := dk_3 (dk_at dksX4_allCoins_1 8 rfl rfl)
theorem dX4_allCoins_33 : decode cX4_allCoins 33 = .ok (.invokevirtual 106, 3) := dk_182 0 106 (dk_at dksX4_allCoins_1 9 rfl rfl)
theorem dX4_allCoins_36 : decode cX4_allCoins 36 = .ok (.iadd, 1) := dk_96 (dk_at dksX4_allCoins_1 12 rfl rfl)
theorem dX4_allCoins_37 : decode cX4_allCoins 37 = .ok (.istore_n 1, 1) := dk_60 (dk_at dksX4_allCoins_1 13 rfl rfl)
theorem dX4_allCoins_38 : decode cX4_allCoins 38 = .ok (.iinc 2 1, 3) := dk_132 2 1 (dk_at dksX4_allCoins_1 14 rfl rfl)
theorem dX4_allCoins_41 : decode cX4_allCoins 41 = .ok (.goto (-22), 3) := dk_167 255 234 (dk_at dksX4_allCoins_1 17 rfl rfl)
theorem dX4_allCoins_44 : decode cX4_allCoins 44 = .ok (.iload_n 1, 1) := dk_27 (dk_at dksX4_allCoins_1 20 rfl rfl)
theorem dX4_allCoins_45 : decode cX4_allCoins 45 = .ok (.ireturn, 1) := dk_172 (dk_at dksX4_allCoins_1 21 rfl rfl)
abbrev cX4_allCoinsGiven : ByteArray := prog_20_method_86_code
def yX4_allCoinsGiven : MethodName := ⟨RX4, "allCoinsGiven", "()I"⟩
def dkwX4_allCoinsGiven_0 : List UInt8 := [42, 3, 181, 0, 38, 42, 180, 0, 7, 16, 6, 46, 172]
abbrev dktX4_allCoinsGiven_0 : List UInt8 := dkwX4_allCoinsGiven_0 ++ []
theorem dksX4_allCoinsGiven_0 : cX4_allCoinsGiven.data.toList.drop 0 = dktX4_allCoinsGiven_0 := by decide +kernel
theorem dX4_allCoinsGiven_0 : decode cX4_allCoinsGiven 0 = .ok (.aload_n 0, 1) := dk_42 (dk_at dksX4_allCoinsGiven_0 0 rfl rfl)
theorem dX4_allCoinsGiven_1 : decode cX4_allCoinsGiven 1 = .ok (.iconst 0, 1) := dk_3 (dk_at dksX4_allCoinsGiven_0 1 rfl rfl)
theorem dX4_allCoinsGiven_2 : decode cX4_allCoinsGiven 2 = .ok (.putfield 38, 3) := dk_181 0 38 (dk_at dksX4_allCoinsGiven_0 2 rfl rfl)
theorem dX4_allCoinsGiven_5 : decode cX4_allCoinsGiven 5 = .ok (.aload_n 0, 1) := dk_42 (dk_at dksX4_allCoinsGiven_0 5 rfl rfl)
theorem dX4_allCoinsGiven_6 : decode cX4_allCoinsGiven 6 = .ok (.getfield 7, 3) := dk_180 0 7 (dk_at dksX4_allCoinsGiven_0 6 rfl rfl)
theorem dX4_allCoinsGiven_9 : decode cX4_allCoinsGiven 9 = .ok (.bipush 6, 2) := dk_16 6 (dk_at dksX4_allCoinsGiven_0 9 rfl rfl)
theorem dX4_allCoinsGiven_11 : decode cX4_allCoinsGiven 11 = .ok (.iaload, 1) := dk_46 (dk_at dksX4_allCoinsGiven_0 11 rfl rfl)
theorem dX4_allCoinsGiven_12 : decode cX4_allCoinsGiven 12 = .ok (.ireturn, 1) := dk_172 (dk_at dksX4_allCoinsGiven_0 12 rfl rfl)
abbrev cX4_defaultedLeases : ByteArray := prog_20_method_87_code
def yX4_defaultedLeases : MethodName := ⟨RX4, "defaultedLeases", "()I"⟩
def dkwX4_defaultedLeases_0 : List UInt8 := [42, 3, 181, 0, 38, 42, 180, 0, 7, 16, 7, 46, 172]
abbrev dktX4_defaultedLeases_0 : List UInt8 := dkwX4_defaultedLeases_0 ++ []
theorem dksX4_defaultedLeases_0 : cX4_defaultedLeases.data.toList.drop 0 = dktX4_defaultedLeases_0 := by decide +kernel
theorem dX4_defaultedLeases_0 : decode cX4_defaultedLeases 0 = .ok (.aload_n 0, 1) := dk_42 (dk_at dksX4_defaultedLeases_0 0 rfl rfl)
theorem dX4_defaultedLeases_1 : decode cX4_defaultedLeases 1 = .ok (.iconst 0, 1) := dk_3 (dk_at dksX4_defaultedLeases_0 1 rfl rfl)
theorem dX4_defaultedLeases_2 : decode cX4_defaultedLeases 2 = .ok (.putfield 38, 3) := dk_181 0 38 (dk_at dksX4_defaultedLeases_0 2 rfl rfl)
theorem dX4_defaultedLeases_5 : decode cX4_defaultedLeases 5 = .ok (.aload_n 0, 1) := dk_42 (dk_at dksX4_defaultedLeases_0 5 rfl rfl)
theorem dX4_defaultedLeases_6 : decode cX4_defaultedLeases 6 = .ok (.getfield 7, 3) := dk_180 0 7 (dk_at dksX4_defaultedLeases_0 6 rfl rfl)
theorem dX4_defaultedLeases_9 : decode cX4_defaultedLeases 9 = .ok (.bipush 7, 2) := dk_16 7 (dk_at dksX4_defaultedLeases_0 9 rfl rfl)
theorem dX4_defaultedLeases_11 : decode cX4_defaultedLeases 11 = .ok (.iaload, 1) := dk_46 (dk_at dksX4_defaultedLeases_0 11 rfl rfl)
theorem dX4_defaultedLeases_12 : decode cX4_defaultedLeases 12 = .ok (.ireturn, 1) := dk_172 (dk_at dksX4_defaultedLeases_0 12 rfl rfl)
abbrev cX4_terminatedLeases : ByteArray := prog_20_method_88_code
def yX4_terminatedLeases : MethodName := ⟨RX4, "terminatedLeases", "()I"⟩
def dkwX4_terminatedLeases_0 : List UInt8 := [42, 3, 181, 0, 38, 42, 180, 0, 7, 16, 8, 46, 172]
abbrev dktX4_terminatedLeases_0 : List UInt8 := dkwX4_terminatedLeases_0 ++ []
theorem dksX4_terminatedLeases_0 : cX4_terminatedLeases.data.toList.drop 0 = dktX4_terminatedLeases_0 := by decide +kernel
theorem dX4_terminatedLeases_0 : decode cX4_terminatedLeases 0 = .ok (.aload_n 0, 1) := dk_42 (dk_at dksX4_terminatedLeases_0 0 rfl rfl)
theorem dX4_terminatedLeases_1 : decode cX4_terminatedLeases 1 = .ok (.iconst 0, 1) := dk_3 (dk_at dksX4_terminatedLeases_0 1 rfl rfl)
theorem dX4_terminatedLeases_2 : decode cX4_terminatedLeases 2 = .ok (.putfield 38, 3) := dk_181 0 38 (dk_at dksX4_terminatedLeases_0 2 rfl rfl)
theorem dX4_terminatedLeases_5 : decode cX4_terminatedLeases 5 = .ok (.aload_n 0, 1) := dk_42 (dk_at dksX4_terminatedLeases_0 5 rfl rfl)
theorem dX4_terminatedLeases_6 : decode cX4_terminatedLeases 6 = .ok (.getfield 7, 3) := dk_180 0 7 (dk_at dksX4_terminatedLeases_0 6 rfl rfl)
theorem dX4_terminatedLeases_9 : decode cX4_terminatedLeases 9 = .ok (.bipush 8, 2) := dk_16 8 (dk_at dksX4_terminatedLeases_0 9 rfl rfl)
theorem dX4_terminatedLeases_11 : decode cX4_terminatedLeases 11 = .ok (.iaload, 1) := dk_46 (dk_at dksX4_terminatedLeases_0 11 rfl rfl)
theorem dX4_terminatedLeases_12 : decode cX4_terminatedLeases 12 = .ok (.ireturn, 1) := dk_172 (dk_at dksX4_terminatedLeases_0 12 rfl rfl)
abbrev cX4_completedLeases : ByteArray := prog_20_method_89_code
def yX4_completedLeases : MethodName := ⟨RX4, "completedLeases", "()I"⟩
def dkwX4_completedLeases_0 : List UInt8 := [42, 3, 181, 0, 38, 42, 180, 0, 7, 16, 9, 46, 172]
abbrev dktX4_completedLeases_0 : List UInt8 := dkwX4_completedLeases_0 ++ []
theorem dksX4_completedLeases_0 : cX4_completedLeases.data.toList.drop 0 = dktX4_completedLeases_0 := by decide +kernel
theorem dX4_completedLeases_0 : decode cX4_completedLeases 0 = .ok (.aload_n 0, 1) := dk_42 (dk_at dksX4_completedLeases_0 0 rfl rfl)
theorem dX4_completedLeases_1 : decode cX4_completedLeases 1 = .ok (.iconst 0, 1) := dk_3 (dk_at dksX4_completedLeases_0 1 rfl rfl)
theorem dX4_completedLeases_2 : decode cX4_completedLeases 2 = .ok (.putfield 38, 3) := dk_181 0 38 (dk_at dksX4_completedLeases_0 2 rfl rfl)
theorem dX4_completedLeases_5 : decode cX4_completedLeases 5 = .ok (.aload_n 0, 1) := dk_42 (dk_at dksX4_completedLeases_0 5 rfl rfl)
theorem dX4_completedLeases_6 : decode cX4_completedLeases 6 = .ok (.getfield 7, 3) := dk_180 0 7 (dk_at dksX4_completedLeases_0 6 rfl rfl)
theorem dX4_completedLeases_9 : decode cX4_completedLeases 9 = .ok (.bipush 9, 2) := dk_16 9 (dk_at dksX4_completedLeases_0 9 rfl rfl)
theorem dX4_completedLeases_11 : decode cX4_completedLeases 11 = .ok (.iaload, 1) := dk_46 (dk_at dksX4_completedLeases_0 11 rfl rfl)
theorem dX4_completedLeases_12 : decode cX4_completedLeases 12 = .ok (.ireturn, 1) := dk_172 (dk_at dksX4_completedLeases_0 12 rfl rfl)
abbrev cX4_benchByRent : ByteArray := prog_20_method_91_code
def yX4_benchByRent : MethodName := ⟨RX4, "benchByRent", "(I)I"⟩
def dkwX4_benchByRent_3 : List UInt8 := [132, 2, 1, 167, 255, 190, 42, 4, 182, 0, 54, 172]
abbrev dktX4_benchByRent_3 : List UInt8 := dkwX4_benchByRent_3 ++ []
def dkwX4_benchByRent_2 : List UInt8 := [153, 0, 7, 4, 167, 0, 4, 3, 96, 62, 132, 4, 1, 167, 255, 218, 29, 27, 160, 0, 5, 28, 172]
abbrev dktX4_benchByRent_2 : List UInt8 := dkwX4_benchByRent_2 ++ dktX4_benchByRent_3
def dkwX4_benchByRent_1 : List UInt8 := [42, 180, 0, 7, 3, 46, 162, 0, 33, 29, 21, 4, 28, 159, 0, 17, 42, 21, 4, 28, 182, 0, 196]
abbrev dktX4_benchByRent_1 : List UInt8 := dkwX4_benchByRent_1 ++ dktX4_benchByRent_2
def dkwX4_benchByRent_0 : List UInt8 := [42, 3, 181, 0, 38, 3, 61, 28, 42, 180, 0, 7, 3, 46, 162, 0, 62, 3, 62, 3, 54, 4, 21, 4]
abbrev dktX4_benchByRent_0 : List UInt8 := dkwX4_benchByRent_0 ++ dktX4_benchByRent_1
theorem dksX4_benchByRent_0 : cX4_benchByRent.data.toList.drop 0 = dktX4_benchByRent_0 := by decide +kernel
theorem dksX4_benchByRent_1 : cX4_benchByRent.data.toList.drop 24 = dktX4_benchByRent_1 := dk_seg dksX4_benchByRent_0 24 rfl rfl
theorem dksX4_benchByRent_2 : cX4_benchByRent.data.toList.drop 47 = dktX4_benchByRent_2 := dk_seg dksX4_benchByRent_1 23 rfl rfl
theorem dksX4_benchByRent_3 : cX4_benchByRent.data.toList.drop 70 = dktX4_benchByRent_3 := dk_seg dksX4_benchByRent_2 23 rfl rfl
theorem dX4_benchByRent_0 : decode cX4_benchByRent 0 = .ok (.aload_n 0, 1) := dk_42 (dk_at dksX4_benchByRent_0 0 rfl rfl)
theorem dX4_benchByRent_1 : decode cX4_benchByRent 1 = .ok (.iconst 0, 1) := dk_3 (dk_at dksX4_benchByRent_0 1 rfl rfl)
theorem dX4_benchByRent_2 : decode cX4_benchByRent 2 = .ok (.putfield 38, 3) := dk_181 0 38 (dk_at dksX4_benchByRent_0 2 rfl rfl)
theorem dX4_benchByRent_5 : decode cX4_benchByRent 5 = .ok (.iconst 0, 1) := dk_3 (dk_at dksX4_benchByRent_0 5 rfl rfl)
theorem dX4_benchByRent_6 : decode cX4_benchByRent 6 = .ok (.istore_n 2, 1) := dk_61 (dk_at dksX4_benchByRent_0 6 rfl rfl)
theorem dX4_benchByRent_7 : decode cX4_benchByRent 7 = .ok (.iload_n 2, 1) := dk_28 (dk_at dksX4_benchByRent_0 7 rfl rfl)
theorem dX4_benchByRent_8 : decode cX4_benchByRent 8 = .ok (.aload_n 0, 1) := dk_42 (dk_at dksX4_benchByRent_0 8 rfl rfl)
theorem dX4_benchByRent_9 : decode cX4_benchByRent 9 = .ok (.getfield 7, 3) := dk_180 0 7 (dk_at dksX4_benchByRent_0 9 rfl rfl)
theorem dX4_benchByRent_12 : decode cX4_benchByRent 12 = .ok (.iconst 0, 1) := dk_3 (dk_at dksX4_benchByRent_0 12 rfl rfl)
theorem dX4_benchByRent_13 : decode cX4_benchByRent 13 = .ok (.iaload, 1) := dk_46 (dk_at dksX4_benchByRent_0 13 rfl rfl)
theorem dX4_benchByRent_14 : decode cX4_benchByRent 14 = .ok (.if_icmp .ge 62, 3) := dk_162 0 62 (dk_at dksX4_benchByRent_0 14 rfl rfl)
theorem dX4_benchByRent_17 : decode cX4_benchByRent 17 = .ok (.iconst 0, 1) := dk_3 (dk_at dksX4_benchByRent_0 17 rfl rfl)
theorem dX4_benchByRent_18 : decode cX4_benchByRent 18 = .ok (.istore_n 3, 1) := dk_62 (dk_at dksX4_benchByRent_0 18 rfl rfl)
theorem dX4_benchByRent_19 : decode cX4_benchByRent 19 = .ok (.iconst 0, 1) := dk_3 (dk_at dksX4_benchByRent_0 19 rfl rfl)
theorem dX4_benchByRent_20 : decode cX4_benchByRent 20 = .ok (.istore 4, 2) := dk_54 4 (dk_at dksX4_benchByRent_0 20 rfl rfl)
theorem dX4_benchByRent_22 : decode cX4_benchByRent 22 = .ok (.iload 4, 2) := dk_21 4 (dk_at dksX4_benchByRent_0 22 rfl rfl)
theorem dX4_benchByRent_24 : decode cX4_benchByRent 24 = .ok (.aload_n 0, 1) := dk_42 (dk_at dksX4_benchByRent_1 0 rfl rfl)
theorem dX4_benchByRent_25 : decode cX4_benchByRent 25 = .ok (.getfield 7, 3) := dk_180 0 7 (dk_at dksX4_benchByRent_1 1 rfl rfl)
theorem dX4_benchByRent_28 : decode cX4_benchByRent 28 = .ok (.iconst 0, 1) := dk_3 (dk_at dksX4_benchByRent_1 4 rfl rfl)
theorem dX4_benchByRent_29 : decode cX4_benchByRent 29 = .ok (.iaload, 1) := dk_46 (dk_at dksX4_benchByRent_1 5 rfl rfl)
theorem dX4_benchByRent_30 : decode cX4_benchByRent 30 = .ok (.if_icmp .ge 33, 3) := dk_162 0 33 (dk_at dksX4_benchByRent_1 6 rfl rfl)
theorem dX4_benchByRent_33 : decode cX4_benchByRent 33 = .ok (.iload_n 3, 1) := dk_29 (dk_at dksX4_benchByRent_1 9 rfl rfl)
theorem dX4_benchByRent_34 : decode cX4_benchByRent 34 = .ok (.iload 4, 2) := dk_21 4 (dk_at dksX4_benchByRent_1 10 rfl rfl)
theorem dX4_benchByRent_36 : decode cX4_benchByRent 36 = .ok (.iload_n 2, 1) := dk_28 (dk_at dksX4_benchByRent_1 12 rfl rfl)
theorem dX4_benchByRent_37 : decode cX4_benchByRent 37 = .ok (.if_icmp .eq 17, 3) := dk_159 0 17 (dk_at dksX4_benchByRent_1 13 rfl rfl)
theorem dX4_benchByRent_40 : decode cX4_benchByRent 40 = .ok (.aload_n 0, 1) := dk_42 (dk_at dksX4_benchByRent_1 16 rfl rfl)
theorem dX4_benchByRent_41 : decode cX4_benchByRent 41 = .ok (.iload 4, 2) := dk_21 4 (dk_at dksX4_benchByRent_1 17 rfl rfl)
theorem dX4_benchByRent_43 : decode cX4_benchByRent 43 = .ok (.iload_n 2, 1) := dk_28 (dk_at dksX4_benchByRent_1 19 rfl rfl)
theorem dX4_benchByRent_44 : decode cX4_benchByRent 44 = .ok (.invokevirtual 196, 3) := dk_182 0 196 (dk_at dksX4_benchByRent_1 20 rfl rfl)
theorem dX4_benchByRent_47 : decode cX4_benchByRent 47 = .ok (.ifCond .eq 7, 3) := dk_153 0 7 (dk_at dksX4_benchByRent_2 0 rfl rfl)
theorem dX4_benchByRent_50 : decode cX4_benchByRent 50 = .ok (.iconst 1, 1) := dk_4 (dk_at dksX4_benchByRent_2 3 rfl rfl)
theorem dX4_benchByRent_51 : decode cX4_benchByRent 51 = .ok (.goto 4, 3) := dk_167 0 4 (dk_at dksX4_benchByRent_2 4 rfl rfl)
theorem dX4_benchByRent_54 : decode cX4_benchByRent 54 = .ok (.iconst 0, 1) := dk_3 (dk_at dksX4_benchByRent_2 7 rfl rfl)
theorem dX4_benchByRent_55 : decode cX4_benchByRent 55 = .ok (.iadd, 1) := dk_96 (dk_at dksX4_benchByRent_2 8 rfl rfl)
theorem dX4_benchByRent_56 : decode cX4_benchByRent 56 = .ok (.istore_n 3, 1) := dk_62 (dk_at dksX4_benchByRent_2 9 rfl rfl)
theorem dX4_benchByRent_57 : decode cX4_benchByRent 57 = .ok (.iinc 4 1, 3) := dk_132 4 1 (dk_at dksX4_benchByRent_2 10 rfl rfl)
theorem dX4_benchByRent_60 : decode cX4_benchByRent 60 = .ok (.goto (-38), 3) := dk_167 255 218 (dk_at dksX4_benchByRent_2 13 rfl rfl)
theorem dX4_benchByRent_63 : decode cX4_benchByRent 63 = .ok (.iload_n 3, 1) := dk_29 (dk_at dksX4_benchByRent_2 16 rfl rfl)
theorem dX4_benchByRent_64 : decode cX4_benchByRent 64 = .ok (.iload_n 1, 1) := dk_27 (dk_at dksX4_benchByRent_2 17 rfl rfl)
theorem dX4_benchByRent_65 : decode cX4_benchByRent 65 = .ok (.if_icmp .ne 5, 3) := dk_160 0 5 (dk_at dksX4_benchByRent_2 18 rfl rfl)
theorem dX4_benchByRent_68 : decode cX4_benchByRent 68 = .ok (.iload_n 2, 1) := dk_28 (dk_at dksX4_benchByRent_2 21 rfl rfl)
theorem dX4_benchByRent_69 : decode cX4_benchByRent 69 = .ok (.ireturn, 1) := dk_172 (dk_at dksX4_benchByRent_2 22 rfl rfl)
theorem dX4_benchByRent_70 : decode cX4_benchByRent 70 = .ok (.iinc 2 1, 3) := dk_132 2 1 (dk_at dksX4_benchByRent_3 0 rfl rfl)
theorem dX4_benchByRent_73 : decode cX4_benchByRent 73 = .ok (.goto (-66), 3) := dk_167 255 190 (dk_at dksX4_benchByRent_3 3 rfl rfl)
theorem dX4_benchByRent_76 : decode cX4_benchByRent 76 = .ok (.aload_n 0, 1) := dk_42 (dk_at dksX4_benchByRent_3 6 rfl rfl)
theorem dX4_benchByRent_77 : decode cX4_benchByRent 77 = .ok (.iconst 1, 1) := dk_4 (dk_at dksX4_benchByRent_3 7 rfl rfl)
theorem dX4_benchByRent_78 : decode cX4_benchByRent 78 = .ok (.invokevirtual 54, 3) := dk_182 0 54 (dk_at dksX4_benchByRent_3 8 rfl rfl)
theorem dX4_benchByRent_81 : decode cX4_benchByRent 81 = .ok (.ireturn, 1) := dk_172 (dk_at dksX4_benchByRent_3 11 rfl rfl)
abbrev cX4_isCheaper : ByteArray := prog_20_method_90_code
def yX4_isCheaper : MethodName := ⟨RX4, "isCheaper", "(II)Z"⟩
def dkwX4_isCheaper_3 : List UInt8 := [167, 0, 8, 3, 167, 0, 4, 29, 172]
abbrev dktX4_isCheaper_3 : List UInt8 := dkwX4_isCheaper_3 ++ []
def dkwX4_isCheaper_2 : List UInt8 := [29, 42, 28, 182, 0, 74, 2, 160, 0, 7, 4, 167, 0, 4, 3, 160, 0, 16, 27, 28, 162, 0, 7, 4]
abbrev dktX4_isCheaper_2 : List UInt8 := dkwX4_isCheaper_2 ++ dktX4_isCheaper_3
def dkwX4_isCheaper_1 : List UInt8 := [162, 0, 7, 4, 167, 0, 4, 3, 172, 42, 27, 182, 0, 74, 2, 160, 0, 7, 4, 167, 0, 4, 3, 62]
abbrev dktX4_isCheaper_1 : List UInt8 := dkwX4_isCheaper_1 ++ dktX4_isCheaper_2
def dkwX4_isCheaper_0 : List UInt8 := [42, 27, 182, 0, 115, 42, 28, 182, 0, 115, 159, 0, 22, 42, 27, 182, 0, 115, 42, 28, 182, 0, 115]
abbrev dktX4_isCheaper_0 : List UInt8 := dkwX4_isCheaper_0 ++ dktX4_isCheaper_1
theorem dksX4_isCheaper_0 : cX4_isCheaper.data.toList.drop 0 = dktX4_isCheaper_0 := by decide +kernel
theorem dksX4_isCheaper_1 : cX4_isCheaper.data.toList.drop 23 = dktX4_isCheaper_1 := dk_seg dksX4_isCheaper_0 23 rfl rfl
theorem dksX4_isCheaper_2 : cX4_isCheaper.data.toList.drop 47 = dktX4_isCheaper_2 := dk_seg dksX4_isCheaper_1 24 rfl rfl
theorem dksX4_isCheaper_3 : cX4_isCheaper.data.toList.drop 71 = dktX4_isCheaper_3 := dk_seg dksX4_isCheaper_2 24 rfl rfl
theorem dX4_isCheaper_0 : decode cX4_isCheaper 0 = .ok (.aload_n 0, 1) := dk_42 (dk_at dksX4_isCheaper_0 0 rfl rfl)
theorem dX4_isCheaper_1 : decode cX4_isCheaper 1 = .ok (.iload_n 1, 1) := dk_27 (dk_at dksX4_isCheaper_0 1 rfl rfl)
theorem dX4_isCheaper_2 : decode cX4_isCheaper 2 = .ok (.invokevirtual 115, 3) := dk_182 0 115 (dk_at dksX4_isCheaper_0 2 rfl rfl)
theorem dX4_isCheaper_5 : decode cX4_isCheaper 5 = .ok (.aload_n 0, 1) := dk_42 (dk_at dksX4_isCheaper_0 5 rfl rfl)
theorem dX4_isCheaper_6 : decode cX4_isCheaper 6 = .ok (.iload_n 2, 1) := dk_28 (dk_at dksX4_isCheaper_0 6 rfl rfl)
theorem dX4_isCheaper_7 : decode cX4_isCheaper 7 = .ok (.invokevirtual 115, 3) := dk_182 0 115 (dk_at dksX4_isCheaper_0 7 rfl rfl)
theorem dX4_isCheaper_10 : decode cX4_isCheaper 10 = .ok (.if_icmp .eq 22, 3) := dk_159 0 22 (dk_at dksX4_isCheaper_0 10 rfl rfl)
theorem dX4_isCheaper_13 : decode cX4_isCheaper 13 = .ok (.aload_n 0, 1) := dk_42 (dk_at dksX4_isCheaper_0 13 rfl rfl)
theorem dX4_isCheaper_14 : decode cX4_isCheaper 14 = .ok (.iload_n 1, 1) := dk_27 (dk_at dksX4_isCheaper_0 14 rfl rfl)
theorem dX4_isCheaper_15 : decode cX4_isCheaper 15 = .ok (.invokevirtual 115, 3) := dk_182 0 115 (dk_at dksX4_isCheaper_0 15 rfl rfl)
theorem dX4_isCheaper_18 : decode cX4_isCheaper 18 = .ok (.aload_n 0, 1) := dk_42 (dk_at dksX4_isCheaper_0 18 rfl rfl)
theorem dX4_isCheaper_19 : decode cX4_isCheaper 19 = .ok (.iload_n 2, 1) := dk_28 (dk_at dksX4_isCheaper_0 19 rfl rfl)
theorem dX4_isCheaper_20 : decode cX4_isCheaper 20 = .ok (.invokevirtual 115, 3) := dk_182 0 115 (dk_at dksX4_isCheaper_0 20 rfl rfl)
theorem dX4_isCheaper_23 : decode cX4_isCheaper 23 = .ok (.if_icmp .ge 7, 3) := dk_162 0 7 (dk_at dksX4_isCheaper_1 0 rfl rfl)
theorem dX4_isCheaper_26 : decode cX4_isCheaper 26 = .ok (.iconst 1, 1) := dk_4 (dk_at dksX4_isCheaper_1 3 rfl rfl)
theorem dX4_isCheaper_27 : decode cX4_isCheaper 27 = .ok (.goto 4, 3) := dk_167 0 4 (dk_at dksX4_isCheaper_1 4 rfl rfl)
theorem dX4_isCheaper_30 : decode cX4_isCheaper 30 = .ok (.iconst 0, 1) := dk_3 (dk_at dksX4_isCheaper_1 7 rfl rfl)
theorem dX4_isCheaper_31 : decode cX4_isCheaper 31 = .ok (.ireturn, 1) := dk_172 (dk_at dksX4_isCheaper_1 8 rfl rfl)
theorem dX4_isCheaper_32 : decode cX4_isCheaper 32 = .ok (.aload_n 0, 1) := dk_42 (dk_at dksX4_isCheaper_1 9 rfl rfl)
theorem dX4_isCheaper_33 : decode cX4_isCheaper 33 = .ok (.iload_n 1, 1) := dk_27 (dk_at dksX4_isCheaper_1 10 rfl rfl)
theorem dX4_isCheaper_34 : decode cX4_isCheaper 34 = .ok (.invokevirtual 74, 3) := dk_182 0 74 (dk_at dksX4_isCheaper_1 11 rfl rfl)
theorem dX4_isCheaper_37 : decode cX4_isCheaper 37 = .ok (.iconst (-1), 1) := dk_2 (dk_at dksX4_isCheaper_1 14 rfl rfl)
theorem dX4_isCheaper_38 : decode cX4_isCheaper 38 = .ok (.if_icmp .ne 7, 3) := dk_160 0 7 (dk_at dksX4_isCheaper_1 15 rfl rfl)
theorem dX4_isCheaper_41 : decode cX4_isCheaper 41 = .ok (.iconst 1, 1) := dk_4 (dk_at dksX4_isCheaper_1 18 rfl rfl)
theorem dX4_isCheaper_42 : decode cX4_isCheaper 42 = .ok (.goto 4, 3) := dk_167 0 4 (dk_at dksX4_isCheaper_1 19 rfl rfl)
theorem dX4_isCheaper_45 : decode cX4_isCheaper 45 = .ok (.iconst 0, 1) := dk_3 (dk_at dksX4_isCheaper_1 22 rfl rfl)
theorem dX4_isCheaper_46 : decode cX4_isCheaper 46 = .ok (.istore_n 3, 1) := dk_62 (dk_at dksX4_isCheaper_1 23 rfl rfl)
theorem dX4_isCheaper_47 : decode cX4_isCheaper 47 = .ok (.iload_n 3, 1) := dk_29 (dk_at dksX4_isCheaper_2 0 rfl rfl)
theorem dX4_isCheaper_48 : decode cX4_isCheaper 48 = .ok (.aload_n 0, 1) := dk_42 (dk_at dksX4_isCheaper_2 1 rfl rfl)
theorem dX4_isCheaper_49 : decode cX4_isCheaper 49 = .ok (.iload_n 2, 1) := dk_28 (dk_at dksX4_isCheaper_2 2 rfl rfl)
theorem dX4_isCheaper_50 : decode cX4_isCheaper 50 = .ok (.invokevirtual 74, 3) := dk_182 0 74 (dk_at dksX4_isCheaper_2 3 rfl rfl)
theorem dX4_isCheaper_53 : decode cX4_isCheaper 53 = .ok (.iconst (-1), 1) := dk_2 (dk_at dksX4_isCheaper_2 6 rfl rfl)
theorem dX4_isCheaper_54 : decode cX4_isCheaper 54 = .ok (.if_icmp .ne 7, 3) := dk_160 0 7 (dk_at dksX4_isCheaper_2 7 rfl rfl)
theorem dX4_isCheaper_57 : decode cX4_isCheaper 57 = .ok (.iconst 1, 1) := dk_4 (dk_at dksX4_isCheaper_2 10 rfl rfl)
theorem dX4_isCheaper_58 : decode cX4_isCheaper 58 = .ok (.goto 4, 3) := dk_167 0 4 (dk_at dksX4_isCheaper_2 11 rfl rfl)
theorem dX4_isCheaper_61 : decode cX4_isCheaper 61 = .ok (.iconst 0, 1) := dk_3 (dk_at dksX4_isCheaper_2 14 rfl rfl)
theorem dX4_isCheaper_62 : decode cX4_isCheaper 62 = .ok (.if_icmp .ne 16, 3) := dk_160 0 16 (dk_at dksX4_isCheaper_2 15 rfl rfl)
theorem dX4_isCheaper_65 : decode cX4_isCheaper 65 = .ok (.iload_n 1, 1) := dk_27 (dk_at dksX4_isCheaper_2 18 rfl rfl)
theorem dX4_isCheaper_66 : decode cX4_isCheaper 66 = .ok (.iload_n 2, 1) := dk_28 (dk_at dksX4_isCheaper_2 19 rfl rfl)
theorem dX4_isCheaper_67 : decode cX4_isCheaper 67 = .ok (.if_icmp .ge 7, 3) := dk_162 0 7 (dk_at dksX4_isCheaper_2 20 rfl rfl)
theorem dX4_isCheaper_70 : decode cX4_isCheaper 70 = .ok (.iconst 1, 1) := dk_4 (dk_at dksX4_isCheaper_2 23 rfl rfl)
theorem dX4_isCheaper_71 : decode cX4_isCheaper 71 = .ok (.goto 8, 3) := dk_167 0 8 (dk_at dksX4_isCheaper_3 0 rfl rfl)
theorem dX4_isCheaper_74 : decode cX4_isCheaper 74 = .ok (.iconst 0, 1) := dk_3 (dk_at dksX4_isCheaper_3 3 rfl rfl)
theorem dX4_isCheaper_75 : decode cX4_isCheaper 75 = .ok (.goto 4, 3) := dk_167 0 4 (dk_at dksX4_isCheaper_3 4 rfl rfl)
theorem dX4_isCheaper_78 : decode cX4_isCheaper 78 = .ok (.iload_n 3, 1) := dk_29 (dk_at dksX4_isCheaper_3 7 rfl rfl)
theorem dX4_isCheaper_79 : decode cX4_isCheaper 79 = .ok (.ireturn, 1) := dk_172 (dk_at dksX4_isCheaper_3 8 rfl rfl)
abbrev cX4_tenantByCoins : ByteArray := prog_20_method_93_code
def yX4_tenantByCoins : MethodName := ⟨RX4, "tenantByCoins", "(I)I"⟩
def dkwX4_tenantByCoins_3 : List UInt8 := [132, 2, 1, 167, 255, 190, 42, 4, 182, 0, 54, 172]
abbrev dktX4_tenantByCoins_3 : List UInt8 := dkwX4_tenantByCoins_3 ++ []
def dkwX4_tenantByCoins_2 : List UInt8 := [153, 0, 7, 4, 167, 0, 4, 3, 96, 62, 132, 4, 1, 167, 255, 218, 29, 27, 160, 0, 5, 28, 172]
abbrev dktX4_tenantByCoins_2 : List UInt8 := dkwX4_tenantByCoins_2 ++ dktX4_tenantByCoins_3
def dkwX4_tenantByCoins_1 : List UInt8 := [42, 180, 0, 7, 5, 46, 162, 0, 33, 29, 21, 4, 28, 159, 0, 17, 42, 21, 4, 28, 182, 0, 199]
abbrev dktX4_tenantByCoins_1 : List UInt8 := dkwX4_tenantByCoins_1 ++ dktX4_tenantByCoins_2
def dkwX4_tenantByCoins_0 : List UInt8 := [42, 3, 181, 0, 38, 3, 61, 28, 42, 180, 0, 7, 5, 46, 162, 0, 62, 3, 62, 3, 54, 4, 21, 4]
abbrev dktX4_tenantByCoins_0 : List UInt8 := dkwX4_tenantByCoins_0 ++ dktX4_tenantByCoins_1
theorem dksX4_tenantByCoins_0 : cX4_tenantByCoins.data.toList.drop 0 = dktX4_tenantByCoins_0 := by decide +kernel
theorem dksX4_tenantByCoins_1 : cX4_tenantByCoins.data.toList.drop 24 = dktX4_tenantByCoins_1 := dk_seg dksX4_tenantByCoins_0 24 rfl rfl
theorem dksX4_tenantByCoins_2 : cX4_tenantByCoins.data.toList.drop 47 = dktX4_tenantByCoins_2 := dk_seg dksX4_tenantByCoins_1 23 rfl rfl
theorem dksX4_tenantByCoins_3 : cX4_tenantByCoins.data.toList.drop 70 = dktX4_tenantByCoins_3 := dk_seg dksX4_tenantByCoins_2 23 rfl rfl
theorem dX4_tenantByCoins_0 : decode cX4_tenantByCoins 0 = .ok (.aload_n 0, 1) := dk_42 (dk_at dksX4_tenantByCoins_0 0 rfl rfl)
theorem dX4_tenantByCoins_1 : decode cX4_tenantByCoins 1 = .ok (.iconst 0, 1) := dk_3 (dk_at dksX4_tenantByCoins_0 1 rfl rfl)
theorem dX4_tenantByCoins_2 : decode cX4_tenantByCoins 2 = .ok (.putfield 38, 3) := dk_181 0 38 (dk_at dksX4_tenantByCoins_0 2 rfl rfl)
theorem dX4_tenantByCoins_5 : decode cX4_tenantByCoins 5 = .ok (.iconst 0, 1) := dk_3 (dk_at dksX4_tenantByCoins_0 5 rfl rfl)
theorem dX4_tenantByCoins_6 : decode cX4_tenantByCoins 6 = .ok (.istore_n 2, 1) := dk_61 (dk_at dksX4_tenantByCoins_0 6 rfl rfl)
theorem dX4_tenantByCoins_7 : decode cX4_tenantByCoins 7 = .ok (.iload_n 2, 1) := dk_28 (dk_at dksX4_tenantByCoins_0 7 rfl rfl)
theorem dX4_tenantByCoins_8 : decode cX4_tenantByCoins 8 = .ok (.aload_n 0, 1) := dk_42 (dk_at dksX4_tenantByCoins_0 8 rfl rfl)
theorem dX4_tenantByCoins_9 : decode cX4_tenantByCoins 9 = .ok (.getfield 7, 3) := dk_180 0 7 (dk_at dksX4_tenantByCoins_0 9 rfl rfl)
theorem dX4_tenantByCoins_12 : decode cX4_tenantByCoins 12 = .ok (.iconst 2, 1) := dk_5 (dk_at dksX4_tenantByCoins_0 12 rfl rfl)
theorem dX4_tenantByCoins_13 : decode cX4_tenantByCoins 13 = .ok (.iaload, 1) := dk_46 (dk_at dksX4_tenantByCoins_0 13 rfl rfl)
theorem dX4_tenantByCoins_14 : decode cX4_tenantByCoins 14 = .ok (.if_icmp .ge 62, 3) := dk_162 0 62 (dk_at dksX4_tenantByCoins_0 14 rfl rfl)
theorem dX4_tenantByCoins_17 : decode cX4_tenantByCoins 17 = .ok (.iconst 0, 1) := dk_3 (dk_at dksX4_tenantByCoins_0 17 rfl rfl)
theorem dX4_tenantByCoins_18 : decode cX4_tenantByCoins 18 = .ok (.istore_n 3, 1) := dk_62 (dk_at dksX4_tenantByCoins_0 18 rfl rfl)
theorem dX4_tenantByCoins_19 : decode cX4_tenantByCoins 19 = .ok (.iconst 0, 1) := dk_3 (dk_at dksX4_tenantByCoins_0 19 rfl rfl)
theorem dX4_tenantByCoins_20 : decode cX4_tenantByCoins 20 = .ok (.istore 4, 2) := dk_54 4 (dk_at dksX4_tenantByCoins_0 20 rfl rfl)
theorem dX4_tenantByCoins_22 : decode cX4_tenantByCoins 22 = .ok (.iload 4, 2) := dk_21 4 (dk_at dksX4_tenantByCoins_0 22 rfl rfl)
theorem dX4_tenantByCoins_24 : decode cX4_tenantByCoins 24 = .ok (.aload_n 0, 1) := dk_42 (dk_at dksX4_tenantByCoins_1 0 rfl rfl)
theorem dX4_tenantByCoins_25 : decode cX4_tenantByCoins 25 = .ok (.getfield 7, 3) := dk_180 0 7 (dk_at dksX4_tenantByCoins_1 1 rfl rfl)
theorem dX4_tenantByCoins_28 : decode cX4_tenantByCoins 28 = .ok (.iconst 2, 1) := dk_5 (dk_at dksX4_tenantByCoins_1 4 rfl rfl)
theorem dX4_tenantByCoins_29 : decode cX4_tenantByCoins 29 = .ok (.iaload, 1) := dk_46 (dk_at dksX4_tenantByCoins_1 5 rfl rfl)
theorem dX4_tenantByCoins_30 : decode cX4_tenantByCoins 30 = .ok (.if_icmp .ge 33, 3) := dk_162 0 33 (dk_at dksX4_tenantByCoins_1 6 rfl rfl)
theorem dX4_tenantByCoins_33 : decode cX4_tenantByCoins 33 = .ok (.iload_n 3, 1) := dk_29 (dk_at dksX4_tenantByCoins_1 9 rfl rfl)
theorem dX4_tenantByCoins_34 : decode cX4_tenantByCoins 34 = .ok (.iload 4, 2) := dk_21 4 (dk_at dksX4_tenantByCoins_1 10 rfl rfl)
theorem dX4_tenantByCoins_36 : decode cX4_tenantByCoins 36 = .ok (.iload_n 2, 1) := dk_28 (dk_at dksX4_tenantByCoins_1 12 rfl rfl)
theorem dX4_tenantByCoins_37 : decode cX4_tenantByCoins 37 = .ok (.if_icmp .eq 17, 3) := dk_159 0 17 (dk_at dksX4_tenantByCoins_1 13 rfl rfl)
theorem dX4_tenantByCoins_40 : decode cX4_tenantByCoins 40 = .ok (.aload_n 0, 1) := dk_42 (dk_at dksX4_tenantByCoins_1 16 rfl rfl)
theorem dX4_tenantByCoins_41 : decode cX4_tenantByCoins 41 = .ok (.iload 4, 2) := dk_21 4 (dk_at dksX4_tenantByCoins_1 17 rfl rfl)
theorem dX4_tenantByCoins_43 : decode cX4_tenantByCoins 43 = .ok (.iload_n 2, 1) := dk_28 (dk_at dksX4_tenantByCoins_1 19 rfl rfl)
theorem dX4_tenantByCoins_44 : decode cX4_tenantByCoins 44 = .ok (.invokevirtual 199, 3) := dk_182 0 199 (dk_at dksX4_tenantByCoins_1 20 rfl rfl)
theorem dX4_tenantByCoins_47 : decode cX4_tenantByCoins 47 = .ok (.ifCond .eq 7, 3) := dk_153 0 7 (dk_at dksX4_tenantByCoins_2 0 rfl rfl)
theorem dX4_tenantByCoins_50 : decode cX4_tenantByCoins 50 = .ok (.iconst 1, 1) := dk_4 (dk_at dksX4_tenantByCoins_2 3 rfl rfl)
theorem dX4_tenantByCoins_51 : decode cX4_tenantByCoins 51 = .ok (.goto 4, 3) := dk_167 0 4 (dk_at dksX4_tenantByCoins_2 4 rfl rfl)
theorem dX4_tenantByCoins_54 : decode cX4_tenantByCoins 54 = .ok (.iconst 0, 1) := dk_3 (dk_at dksX4_tenantByCoins_2 7 rfl rfl)
theorem dX4_tenantByCoins_55 : decode cX4_tenantByCoins 55 = .ok (.iadd, 1) := dk_96 (dk_at dksX4_tenantByCoins_2 8 rfl rfl)
theorem dX4_tenantByCoins_56 : decode cX4_tenantByCoins 56 = .ok (.istore_n 3, 1) := dk_62 (dk_at dksX4_tenantByCoins_2 9 rfl rfl)
theorem dX4_tenantByCoins_57 : decode cX4_tenantByCoins 57 = .ok (.iinc 4 1, 3) := dk_132 4 1 (dk_at dksX4_tenantByCoins_2 10 rfl rfl)
theorem dX4_tenantByCoins_60 : decode cX4_tenantByCoins 60 = .ok (.goto (-38), 3) := dk_167 255 218 (dk_at dksX4_tenantByCoins_2 13 rfl rfl)
theorem dX4_tenantByCoins_63 : decode cX4_tenantByCoins 63 = .ok (.iload_n 3, 1) := dk_29 (dk_at dksX4_tenantByCoins_2 16 rfl rfl)
theorem dX4_tenantByCoins_64 : decode cX4_tenantByCoins 64 = .ok (.iload_n 1, 1) := dk_27 (dk_at dksX4_tenantByCoins_2 17 rfl rfl)
theorem dX4_tenantByCoins_65 : decode cX4_tenantByCoins 65 = .ok (.if_icmp .ne 5, 3) := dk_160 0 5 (dk_at dksX4_tenantByCoins_2 18 rfl rfl)
theorem dX4_tenantByCoins_68 : decode cX4_tenantByCoins 68 = .ok (.iload_n 2, 1) := dk_28 (dk_at dksX4_tenantByCoins_2 21 rfl rfl)
theorem dX4_tenantByCoins_69 : decode cX4_tenantByCoins 69 = .ok (.ireturn, 1) := dk_172 (dk_at dksX4_tenantByCoins_2 22 rfl rfl)
theorem dX4_tenantByCoins_70 : decode cX4_tenantByCoins 70 = .ok (.iinc 2 1, 3) := dk_132 2 1 (dk_at dksX4_tenantByCoins_3 0 rfl rfl)
theorem dX4_tenantByCoins_73 : decode cX4_tenantByCoins 73 = .ok (.goto (-66), 3) := dk_167 255 190 (dk_at dksX4_tenantByCoins_3 3 rfl rfl)
theorem dX4_tenantByCoins_76 : decode cX4_tenantByCoins 76 = .ok (.aload_n 0, 1) := dk_42 (dk_at dksX4_tenantByCoins_3 6 rfl rfl)
theorem dX4_tenantByCoins_77 : decode cX4_tenantByCoins 77 = .ok (.iconst 1, 1) := dk_4 (dk_at dksX4_tenantByCoins_3 7 rfl rfl)
theorem dX4_tenantByCoins_78 : decode cX4_tenantByCoins 78 = .ok (.invokevirtual 54, 3) := dk_182 0 54 (dk_at dksX4_tenantByCoins_3 8 rfl rfl)
theorem dX4_tenantByCoins_81 : decode cX4_tenantByCoins 81 = .ok (.ireturn, 1) := dk_172 (dk_at dksX4_tenantByCoins_3 11 rfl rfl)
abbrev cX4_isRicher : ByteArray := prog_20_method_92_code
def yX4_isRicher : MethodName := ⟨RX4, "isRicher", "(II)Z"⟩
def dkwX4_isRicher_3 : List UInt8 := [4, 182, 0, 106, 162, 0, 7, 4, 167, 0, 4, 3, 172]
abbrev dktX4_isRicher_3 : List UInt8 := dkwX4_isRicher_3 ++ []
def dkwX4_isRicher_2 : List UInt8 := [160, 0, 16, 27, 28, 162, 0, 7, 4, 167, 0, 27, 3, 167, 0, 23, 42, 27, 4, 182, 0, 106, 42, 28]
abbrev dktX4_isRicher_2 : List UInt8 := dkwX4_isRicher_2 ++ dktX4_isRicher_3
def dkwX4_isRicher_1 : List UInt8 := [182, 0, 106, 164, 0, 7, 4, 167, 0, 4, 3, 172, 42, 27, 4, 182, 0, 106, 42, 28, 4, 182, 0, 106]
abbrev dktX4_isRicher_1 : List UInt8 := dkwX4_isRicher_1 ++ dktX4_isRicher_2
def dkwX4_isRicher_0 : List UInt8 := [42, 27, 3, 182, 0, 106, 42, 28, 3, 182, 0, 106, 159, 0, 24, 42, 27, 3, 182, 0, 106, 42, 28, 3]
abbrev dktX4_isRicher_0 : List UInt8 := dkwX4_isRicher_0 ++ dktX4_isRicher_1
theorem dksX4_isRicher_0 : cX4_isRicher.data.toList.drop 0 = dktX4_isRicher_0 := by decide +kernel
theorem dksX4_isRicher_1 : cX4_isRicher.data.toList.drop 24 = dktX4_isRicher_1 := dk_seg dksX4_isRicher_0 24 rfl rfl
theorem dksX4_isRicher_2 : cX4_isRicher.data.toList.drop 48 = dktX4_isRicher_2 := dk_seg dksX4_isRicher_1 24 rfl rfl
theorem dksX4_isRicher_3 : cX4_isRicher.data.toList.drop 72 = dktX4_isRicher_3 := dk_seg dksX4_isRicher_2 24 rfl rfl
theorem dX4_isRicher_0 : decode cX4_isRicher 0 = .ok (.aload_n 0, 1) := dk_42 (dk_at dksX4_isRicher_0 0 rfl rfl)
theorem dX4_isRicher_1 : decode cX4_isRicher 1 = .ok (.iload_n 1, 1) := dk_27 (dk_at dksX4_isRicher_0 1 rfl rfl)
theorem dX4_isRicher_2 : decode cX4_isRicher 2 = .ok (.iconst 0, 1) := dk_3 (dk_at dksX4_isRicher_0 2 rfl rfl)
theorem dX4_isRicher_3 : decode cX4_isRicher 3 = .ok (.invokevirtual 106, 3) := dk_182 0 106 (dk_at dksX4_isRicher_0 3 rfl rfl)
theorem dX4_isRicher_6 : decode cX4_isRicher 6 = .ok (.aload_n 0, 1) := dk_42 (dk_at dksX4_isRicher_0 6 rfl rfl)
theorem dX4_isRicher_7 : decode cX4_isRicher 7 = .ok (.iload_n 2, 1) := dk_28 (dk_at dksX4_isRicher_0 7 rfl rfl)
theorem dX4_isRicher_8 : decode cX4_isRicher 8 = .ok (.iconst 0, 1) := dk_3 (dk_at dksX4_isRicher_0 8 rfl rfl)
theorem dX4_isRicher_9 : decode cX4_isRicher 9 = .ok (.invokevirtual 106, 3) := dk_182 0 106 (dk_at dksX4_isRicher_0 9 rfl rfl)
theorem dX4_isRicher_12 : decode cX4_isRicher 12 = .ok (.if_icmp .eq 24, 3) := dk_159 0 24 (dk_at dksX4_isRicher_0 12 rfl rfl)
theorem dX4_isRicher_15 : decode cX4_isRicher 15 = .ok (.aload_n 0, 1) := dk_42 (dk_at dksX4_isRicher_0 15 rfl rfl)
theorem dX4_isRicher_16 : decode cX4_isRicher 16 = .ok (.iload_n 1, 1) := dk_27 (dk_at dksX4_isRicher_0 16 rfl rfl)
theorem dX4_isRicher_17 : decode cX4_isRicher 17 = .ok (.iconst 0, 1) := dk_3 (dk_at dksX4_isRicher_0 17 rfl rfl)
theorem dX4_isRicher_18 : decode cX4_isRicher 18 = .ok (.invokevirtual 106, 3) := dk_182 0 106 (dk_at dksX4_isRicher_0 18 rfl rfl)
theorem dX4_isRicher_21 : decode cX4_isRicher 21 = .ok (.aload_n 0, 1) := dk_42 (dk_at dksX4_isRicher_0 21 rfl rfl)
theorem dX4_isRicher_22 : decode cX4_isRicher 22 = .ok (.iload_n 2, 1) := dk_28 (dk_at dksX4_isRicher_0 22 rfl rfl)
theorem dX4_isRicher_23 : decode cX4_isRicher 23 = .ok (.iconst 0, 1) := dk_3 (dk_at dksX4_isRicher_0 23 rfl rfl)
theorem dX4_isRicher_24 : decode cX4_isRicher 24 = .ok (.invokevirtual 106, 3) := dk_182 0 106 (dk_at dksX4_isRicher_1 0 rfl rfl)
theorem dX4_isRicher_27 : decode cX4_isRicher 27 = .ok (.if_icmp .le 7, 3) := dk_164 0 7 (dk_at dksX4_isRicher_1 3 rfl rfl)
theorem dX4_isRicher_30 : decode cX4_isRicher 30 = .ok (.iconst 1, 1) := dk_4 (dk_at dksX4_isRicher_1 6 rfl rfl)
theorem dX4_isRicher_31 : decode cX4_isRicher 31 = .ok (.goto 4, 3) := dk_167 0 4 (dk_at dksX4_isRicher_1 7 rfl rfl)
theorem dX4_isRicher_34 : decode cX4_isRicher 34 = .ok (.iconst 0, 1) := dk_3 (dk_at dksX4_isRicher_1 10 rfl rfl)
theorem dX4_isRicher_35 : decode cX4_isRicher 35 = .ok (.ireturn, 1) := dk_172 (dk_at dksX4_isRicher_1 11 rfl rfl)
theorem dX4_isRicher_36 : decode cX4_isRicher 36 = .ok (.aload_n 0, 1) := dk_42 (dk_at dksX4_isRicher_1 12 rfl rfl)
theorem dX4_isRicher_37 : decode cX4_isRicher 37 = .ok (.iload_n 1, 1) := dk_27 (dk_at dksX4_isRicher_1 13 rfl rfl)
theorem dX4_isRicher_38 : decode cX4_isRicher 38 = .ok (.iconst 1, 1) := dk_4 (dk_at dksX4_isRicher_1 14 rfl rfl)
theorem dX4_isRicher_39 : decode cX4_isRicher 39 = .ok (.invokevirtual 106, 3) := dk_182 0 106 (dk_at dksX4_isRicher_1 15 rfl rfl)
theorem dX4_isRicher_42 : decode cX4_isRicher 42 = .ok (.aload_n 0, 1) := dk_42 (dk_at dksX4_isRicher_1 18 rfl rfl)
theorem dX4_isRicher_43 : decode cX4_isRicher 43 = .ok (.iload_n 2, 1) := dk_28 (dk_at dksX4_isRicher_1 19 rfl rfl)
theorem dX4_isRicher_44 : decode cX4_isRicher 44 = .ok (.iconst 1, 1) := dk_4 (dk_at dksX4_isRicher_1 20 rfl rfl)
theorem dX4_isRicher_45 : decode cX4_isRicher 45 = .ok (.invokevirtual 106, 3) := dk_182 0 106 (dk_at dksX4_isRicher_1 21 rfl rfl)
theorem dX4_isRicher_48 : decode cX4_isRicher 48 = .ok (.if_icmp .ne 16, 3) := dk_160 0 16 (dk_at dksX4_isRicher_2 0 rfl rfl)
theorem dX4_isRicher_51 : decode cX4_isRicher 51 = .ok (.iload_n 1, 1) := dk_27 (dk_at dksX4_isRicher_2 3 rfl rfl)
theorem dX4_isRicher_52 : decode cX4_isRicher 52 = .ok (.iload_n 2, 1) := dk_28 (dk_at dksX4_isRicher_2 4 rfl rfl)
theorem dX4_isRicher_53 : decode cX4_isRicher 53 = .ok (.if_icmp .ge 7, 3) := dk_162 0 7 (dk_at dksX4_isRicher_2 5 rfl rfl)
theorem dX4_isRicher_56 : decode cX4_isRicher 56 = .ok (.iconst 1, 1) := dk_4 (dk_at dksX4_isRicher_2 8 rfl rfl)
theorem dX4_isRicher_57 : decode cX4_isRicher 57 = .ok (.goto 27, 3) := dk_167 0 27 (dk_at dksX4_isRicher_2 9 rfl rfl)
theorem dX4_isRicher_60 : decode cX4_isRicher 60 = .ok (.iconst 0, 1) := dk_3 (dk_at dksX4_isRicher_2 12 rfl rfl)
theorem dX4_isRicher_61 : decode cX4_isRicher 61 = .ok (.goto 23, 3) := dk_167 0 23 (dk_at dksX4_isRicher_2 13 rfl rfl)
theorem dX4_isRicher_64 : decode cX4_isRicher 64 = .ok (.aload_n 0, 1) := dk_42 (dk_at dksX4_isRicher_2 16 rfl rfl)
theorem dX4_isRicher_65 : decode cX4_isRicher 65 = .ok (.iload_n 1, 1) := dk_27 (dk_at dksX4_isRicher_2 17 rfl rfl)
theorem dX4_isRicher_66 : decode cX4_isRicher 66 = .ok (.iconst 1, 1) := dk_4 (dk_at dksX4_isRicher_2 18 rfl rfl)
theorem dX4_isRicher_67 : decode cX4_isRicher 67 = .ok (.invokevirtual 106, 3) := dk_182 0 106 (dk_at dksX4_isRicher_2 19 rfl rfl)
theorem dX4_isRicher_70 : decode cX4_isRicher 70 = .ok (.aload_n 0, 1) := dk_42 (dk_at dksX4_isRicher_2 22 rfl rfl)
theorem dX4_isRicher_71 : decode cX4_isRicher 71 = .ok (.iload_n 2, 1) := dk_28 (dk_at dksX4_isRicher_2 23 rfl rfl)
theorem dX4_isRicher_72 : decode cX4_isRicher 72 = .ok (.iconst 1, 1) := dk_4 (dk_at dksX4_isRicher_3 0 rfl rfl)
theorem dX4_isRicher_73 : decode cX4_isRicher 73 = .ok (.invokevirtual 106, 3) := dk_182 0 106 (dk_at dksX4_isRicher_3 1 rfl rfl)
theorem dX4_isRicher_76 : decode cX4_isRicher 76 = .ok (.if_icmp .ge 7, 3) := dk_162 0 7 (dk_at dksX4_isRicher_3 4 rfl rfl)
theorem dX4_isRicher_79 : decode cX4_isRicher 79 = .ok (.iconst 1, 1) := dk_4 (dk_at dksX4_isRicher_3 7 rfl rfl)
theorem dX4_isRicher_80 : decode cX4_isRicher 80 = .ok (.goto 4, 3) := dk_167 0 4 (dk_at dksX4_isRicher_3 8 rfl rfl)
theorem dX4_isRicher_83 : decode cX4_isRicher 83 = .ok (.iconst 0, 1) := dk_3 (dk_at dksX4_isRicher_3 11 rfl rfl)
theorem dX4_isRicher_84 : decode cX4_isRicher 84 = .ok (.ireturn, 1) := dk_172 (dk_at dksX4_isRicher_3 12 rfl rfl)
abbrev cX4_meanRent : ByteArray := prog_20_method_94_code
def yX4_meanRent : MethodName := ⟨RX4, "meanRent", "()D"⟩
def dkwX4_meanRent_2 : List UInt8 := [182, 0, 115, 96, 60, 132, 2, 1, 167, 255, 235, 27, 135, 42, 180, 0, 7, 3, 46, 135, 111, 175]
abbrev dktX4_meanRent_2 : List UInt8 := dkwX4_meanRent_2 ++ []
def dkwX4_meanRent_1 : List UInt8 := [158, 0, 5, 14, 175, 3, 60, 3, 61, 28, 42, 180, 0, 7, 3, 46, 162, 0, 17, 27, 42, 28]
abbrev dktX4_meanRent_1 : List UInt8 := dkwX4_meanRent_1 ++ dktX4_meanRent_2
def dkwX4_meanRent_0 : List UInt8 := [42, 42, 180, 0, 7, 3, 46, 154, 0, 7, 4, 167, 0, 4, 3, 181, 0, 38, 42, 180, 0, 38]
abbrev dktX4_meanRent_0 : List UInt8 := dkwX4_meanRent_0 ++ dktX4_meanRent_1
theorem dksX4_meanRent_0 : cX4_meanRent.data.toList.drop 0 = dktX4_meanRent_0 := by decide +kernel
theorem dksX4_meanRent_1 : cX4_meanRent.data.toList.drop 22 = dktX4_meanRent_1 := dk_seg dksX4_meanRent_0 22 rfl rfl
theorem dksX4_meanRent_2 : cX4_meanRent.data.toList.drop 44 = dktX4_meanRent_2 := dk_seg dksX4_meanRent_1 22 rfl rfl
theorem dX4_meanRent_0 : decode cX4_meanRent 0 = .ok (.aload_n 0, 1) := dk_42 (dk_at dksX4_meanRent_0 0 rfl rfl)
theorem dX4_meanRent_1 : decode cX4_meanRent 1 = .ok (.aload_n 0, 1) := dk_42 (dk_at dksX4_meanRent_0 1 rfl rfl)
theorem dX4_meanRent_2 : decode cX4_meanRent 2 = .ok (.getfield 7, 3) := dk_180 0 7 (dk_at dksX4_meanRent_0 2 rfl rfl)
theorem dX4_meanRent_5 : decode cX4_meanRent 5 = .ok (.iconst 0, 1) := dk_3 (dk_at dksX4_meanRent_0 5 rfl rfl)
theorem dX4_meanRent_6 : decode cX4_meanRent 6 = .ok (.iaload, 1) := dk_46 (dk_at dksX4_meanRent_0 6 rfl rfl)
theorem dX4_meanRent_7 : decode cX4_meanRent 7 = .ok (.ifCond .ne 7, 3) := dk_154 0 7 (dk_at dksX4_meanRent_0 7 rfl rfl)
theorem dX4_meanRent_10 : decode cX4_meanRent 10 = .ok (.iconst 1, 1) := dk_4 (dk_at dksX4_meanRent_0 10 rfl rfl)
theorem dX4_meanRent_11 : decode cX4_meanRent 11 = .ok (.goto 4, 3) := dk_167 0 4 (dk_at dksX4_meanRent_0 11 rfl rfl)
theorem dX4_meanRent_14 : decode cX4_meanRent 14 = .ok (.iconst 0, 1) := dk_3 (dk_at dksX4_meanRent_0 14 rfl rfl)
theorem dX4_meanRent_15 : decode cX4_meanRent 15 = .ok (.putfield 38, 3) := dk_181 0 38 (dk_at dksX4_meanRent_0 15 rfl rfl)
theorem dX4_meanRent_18 : decode cX4_meanRent 18 = .ok (.aload_n 0, 1) := dk_42 (dk_at dksX4_meanRent_0 18 rfl rfl)
theorem dX4_meanRent_19 : decode cX4_meanRent 19 = .ok (.getfield 38, 3) := dk_180 0 38 (dk_at dksX4_meanRent_0 19 rfl rfl)
theorem dX4_meanRent_22 : decode cX4_meanRent 22 = .ok (.ifCond .le 5, 3) := dk_158 0 5 (dk_at dksX4_meanRent_1 0 rfl rfl)
theorem dX4_meanRent_25 : decode cX4_meanRent 25 = .ok (.dconst 0, 1) := dk_14 (dk_at dksX4_meanRent_1 3 rfl rfl)
theorem dX4_meanRent_26 : decode cX4_meanRent 26 = .ok (.dreturn, 1) := dk_175 (dk_at dksX4_meanRent_1 4 rfl rfl)
theorem dX4_meanRent_27 : decode cX4_meanRent 27 = .ok (.iconst 0, 1) := dk_3 (dk_at dksX4_meanRent_1 5 rfl rfl)
theorem dX4_meanRent_28 : decode cX4_meanRent 28 = .ok (.istore_n 1, 1) := dk_60 (dk_at dksX4_meanRent_1 6 rfl rfl)
theorem dX4_meanRent_29 : decode cX4_meanRent 29 = .ok (.iconst 0, 1) := dk_3 (dk_at dksX4_meanRent_1 7 rfl rfl)
theorem dX4_meanRent_30 : decode cX4_meanRent 30 = .ok (.istore_n 2, 1) := dk_61 (dk_at dksX4_meanRent_1 8 rfl rfl)
theorem dX4_meanRent_31 : decode cX4_meanRent 31 = .ok (.iload_n 2, 1) := dk_28 (dk_at dksX4_meanRent_1 9 rfl rfl)
theorem dX4_meanRent_32 : decode cX4_meanRent 32 = .ok (.aload_n 0, 1) := dk_42 (dk_at dksX4_meanRent_1 10 rfl rfl)
theorem dX4_meanRent_33 : decode cX4_meanRent 33 = .ok (.getfield 7, 3) := dk_180 0 7 (dk_at dksX4_meanRent_1 11 rfl rfl)
theorem dX4_meanRent_36 : decode cX4_meanRent 36 = .ok (.iconst 0, 1) := dk_3 (dk_at dksX4_meanRent_1 14 rfl rfl)
theorem dX4_meanRent_37 : decode cX4_meanRent 37 = .ok (.iaload, 1) := dk_46 (dk_at dksX4_meanRent_1 15 rfl rfl)
theorem dX4_meanRent_38 : decode cX4_meanRent 38 = .ok (.if_icmp .ge 17, 3) := dk_162 0 17 (dk_at dksX4_meanRent_1 16 rfl rfl)
theorem dX4_meanRent_41 : decode cX4_meanRent 41 = .ok (.iload_n 1, 1) := dk_27 (dk_at dksX4_meanRent_1 19 rfl rfl)
theorem dX4_meanRent_42 : decode cX4_meanRent 42 = .ok (.aload_n 0, 1) := dk_42 (dk_at dksX4_meanRent_1 20 rfl rfl)
theorem dX4_meanRent_43 : decode cX4_meanRent 43 = .ok (.iload_n 2, 1) := dk_28 (dk_at dksX4_meanRent_1 21 rfl rfl)
theorem dX4_meanRent_44 : decode cX4_meanRent 44 = .ok (.invokevirtual 115, 3) := dk_182 0 115 (dk_at dksX4_meanRent_2 0 rfl rfl)
theorem dX4_meanRent_47 : decode cX4_meanRent 47 = .ok (.iadd, 1) := dk_96 (dk_at dksX4_meanRent_2 3 rfl rfl)
theorem dX4_meanRent_48 : decode cX4_meanRent 48 = .ok (.istore_n 1, 1) := dk_60 (dk_at dksX4_meanRent_2 4 rfl rfl)
theorem dX4_meanRent_49 : decode cX4_meanRent 49 = .ok (.iinc 2 1, 3) := dk_132 2 1 (dk_at dksX4_meanRent_2 5 rfl rfl)
theorem dX4_meanRent_52 : decode cX4_meanRent 52 = .ok (.goto (-21), 3) := dk_167 255 235 (dk_at dksX4_meanRent_2 8 rfl rfl)
theorem dX4_meanRent_55 : decode cX4_meanRent 55 = .ok (.iload_n 1, 1) := dk_27 (dk_at dksX4_meanRent_2 11 rfl rfl)
theorem dX4_meanRent_56 : decode cX4_meanRent 56 = .ok (.i2d, 1) := dk_135 (dk_at dksX4_meanRent_2 12 rfl rfl)
theorem dX4_meanRent_57 : decode cX4_meanRent 57 = .ok (.aload_n 0, 1) := dk_42 (dk_at dksX4_meanRent_2 13 rfl rfl)
theorem dX4_meanRent_58 : decode cX4_meanRent 58 = .ok (.getfield 7, 3) := dk_180 0 7 (dk_at dksX4_meanRent_2 14 rfl rfl)
theorem dX4_meanRent_61 : decode cX4_meanRent 61 = .ok (.iconst 0, 1) := dk_3 (dk_at dksX4_meanRent_2 17 rfl rfl)
theorem dX4_meanRent_62 : decode cX4_meanRent 62 = .ok (.iaload, 1) := dk_46 (dk_at dksX4_meanRent_2 18 rfl rfl)
theorem dX4_meanRent_63 : decode cX4_meanRent 63 = .ok (.i2d, 1) := dk_135 (dk_at dksX4_meanRent_2 19 rfl rfl)
theorem dX4_meanRent_64 : decode cX4_meanRent 64 = .ok (.ddiv, 1) := dk_111 (dk_at dksX4_meanRent_2 20 rfl rfl)
theorem dX4_meanRent_65 : decode cX4_meanRent 65 = .ok (.dreturn, 1) := dk_175 (dk_at dksX4_meanRent_2 21 rfl rfl)
abbrev cX4_letShare : ByteArray := prog_20_method_95_code
def yX4_letShare : MethodName := ⟨RX4, "letShare", "()F"⟩
def dkwX4_letShare_3 : List UInt8 := [180, 0, 7, 3, 46, 134, 110, 174]
abbrev dktX4_letShare_3 : List UInt8 := dkwX4_letShare_3 ++ []
def dkwX4_letShare_2 : List UInt8 := [182, 0, 74, 2, 160, 0, 7, 3, 167, 0, 4, 4, 96, 60, 132, 2, 1, 167, 255, 226, 27, 134, 42]
abbrev dktX4_letShare_2 : List UInt8 := dkwX4_letShare_2 ++ dktX4_letShare_3
def dkwX4_letShare_1 : List UInt8 := [158, 0, 5, 11, 174, 3, 60, 3, 61, 28, 42, 180, 0, 7, 3, 46, 162, 0, 26, 27, 42, 28]
abbrev dktX4_letShare_1 : List UInt8 := dkwX4_letShare_1 ++ dktX4_letShare_2
def dkwX4_letShare_0 : List UInt8 := [42, 42, 180, 0, 7, 3, 46, 154, 0, 7, 4, 167, 0, 4, 3, 181, 0, 38, 42, 180, 0, 38]
abbrev dktX4_letShare_0 : List UInt8 := dkwX4_letShare_0 ++ dktX4_letShare_1
theorem dksX4_letShare_0 : cX4_letShare.data.toList.drop 0 = dktX4_letShare_0 := by decide +kernel
theorem dksX4_letShare_1 : cX4_letShare.data.toList.drop 22 = dktX4_letShare_1 := dk_seg dksX4_letShare_0 22 rfl rfl
theorem dksX4_letShare_2 : cX4_letShare.data.toList.drop 44 = dktX4_letShare_2 := dk_seg dksX4_letShare_1 22 rfl rfl
theorem dksX4_letShare_3 : cX4_letShare.data.toList.drop 67 = dktX4_letShare_3 := dk_seg dksX4_letShare_2 23 rfl rfl
theorem dX4_letShare_0 : decode cX4_letShare 0 = .ok (.aload_n 0, 1) := dk_42 (dk_at dksX4_letShare_0 0 rfl rfl)
theorem dX4_letShare_1 : decode cX4_letShare 1 = .ok (.aload_n 0, 1) := dk_42 (dk_at dksX4_letShare_0 1 rfl rfl)
theorem dX4_letShare_2 : decode cX4_letShare 2 = .ok (.getfield 7, 3) := dk_180 0 7 (dk_at dksX4_letShare_0 2 rfl rfl)
theorem dX4_letShare_5 : decode cX4_letShare 5 = .ok (.iconst 0, 1) := dk_3 (dk_at dksX4_letShare_0 5 rfl rfl)
theorem dX4_letShare_6 : decode cX4_letShare 6 = .ok (.iaload, 1) := dk_46 (dk_at dksX4_letShare_0 6 rfl rfl)
theorem dX4_letShare_7 : decode cX4_letShare 7 = .ok (.ifCond .ne 7, 3) := dk_154 0 7 (dk_at dksX4_letShare_0 7 rfl rfl)
theorem dX4_letShare_10 : decode cX4_letShare 10 = .ok (.iconst 1, 1) := dk_4 (dk_at dksX4_letShare_0 10 rfl rfl)
theorem dX4_letShare_11 : decode cX4_letShare 11 = .ok (.goto 4, 3) := dk_167 0 4 (dk_at dksX4_letShare_0 11 rfl rfl)
theorem dX4_letShare_14 : decode cX4_letShare 14 = .ok (.iconst 0, 1) := dk_3 (dk_at dksX4_letShare_0 14 rfl rfl)
theorem dX4_letShare_15 : decode cX4_letShare 15 = .ok (.putfield 38, 3) := dk_181 0 38 (dk_at dksX4_letShare_0 15 rfl rfl)
theorem dX4_letShare_18 : decode cX4_letShare 18 = .ok (.aload_n 0, 1) := dk_42 (dk_at dksX4_letShare_0 18 rfl rfl)
theorem dX4_letShare_19 : decode cX4_letShare 19 = .ok (.getfield 38, 3) := dk_180 0 38 (dk_at dksX4_letShare_0 19 rfl rfl)
theorem dX4_letShare_22 : decode cX4_letShare 22 = .ok (.ifCond .le 5, 3) := dk_158 0 5 (dk_at dksX4_letShare_1 0 rfl rfl)
theorem dX4_letShare_25 : decode cX4_letShare 25 = .ok (.fconst 0, 1) := dk_11 (dk_at dksX4_letShare_1 3 rfl rfl)
theorem dX4_letShare_26 : decode cX4_letShare 26 = .ok (.freturn, 1) := dk_174 (dk_at dksX4_letShare_1 4 rfl rfl)
theorem dX4_letShare_27 : decode cX4_letShare 27 = .ok (.iconst 0, 1) := dk_3 (dk_at dksX4_letShare_1 5 rfl rfl)
theorem dX4_letShare_28 : decode cX4_letShare 28 = .ok (.istore_n 1, 1) := dk_60 (dk_at dksX4_letShare_1 6 rfl rfl)
theorem dX4_letShare_29 : decode cX4_letShare 29 = .ok (.iconst 0, 1) := dk_3 (dk_at dksX4_letShare_1 7 rfl rfl)
theorem dX4_letShare_30 : decode cX4_letShare 30 = .ok (.istore_n 2, 1) := dk_61 (dk_at dksX4_letShare_1 8 rfl rfl)
theorem dX4_letShare_31 : decode cX4_letShare 31 = .ok (.iload_n 2, 1) := dk_28 (dk_at dksX4_letShare_1 9 rfl rfl)
theorem dX4_letShare_32 : decode cX4_letShare 32 = .ok (.aload_n 0, 1) := dk_42 (dk_at dksX4_letShare_1 10 rfl rfl)
theorem dX4_letShare_33 : decode cX4_letShare 33 = .ok (.getfield 7, 3) := dk_180 0 7 (dk_at dksX4_letShare_1 11 rfl rfl)
theorem dX4_letShare_36 : decode cX4_letShare 36 = .ok (.iconst 0, 1) := dk_3 (dk_at dksX4_letShare_1 14 rfl rfl)
theorem dX4_letShare_37 : decode cX4_letShare 37 = .ok (.iaload, 1) := dk_46 (dk_at dksX4_letShare_1 15 rfl rfl)
theorem dX4_letShare_38 : decode cX4_letShare 38 = .ok (.if_icmp .ge 26, 3) := dk_162 0 26 (dk_at dksX4_letShare_1 16 rfl rfl)
theorem dX4_letShare_41 : decode cX4_letShare 41 = .ok (.iload_n 1, 1) := dk_27 (dk_at dksX4_letShare_1 19 rfl rfl)
theorem dX4_letShare_42 : decode cX4_letShare 42 = .ok (.aload_n 0, 1) := dk_42 (dk_at dksX4_letShare_1 20 rfl rfl)
theorem dX4_letShare_43 : decode cX4_letShare 43 = .ok (.iload_n 2, 1) := dk_28 (dk_at dksX4_letShare_1 21 rfl rfl)
theorem dX4_letShare_44 : decode cX4_letShare 44 = .ok (.invokevirtual 74, 3) := dk_182 0 74 (dk_at dksX4_letShare_2 0 rfl rfl)
theorem dX4_letShare_47 : decode cX4_letShare 47 = .ok (.iconst (-1), 1) := dk_2 (dk_at dksX4_letShare_2 3 rfl rfl)
theorem dX4_letShare_48 : decode cX4_letShare 48 = .ok (.if_icmp .ne 7, 3) := dk_160 0 7 (dk_at dksX4_letShare_2 4 rfl rfl)
theorem dX4_letShare_51 : decode cX4_letShare 51 = .ok (.iconst 0, 1) := dk_3 (dk_at dksX4_letShare_2 7 rfl rfl)
theorem dX4_letShare_52 : decode cX4_letShare 52 = .ok (.goto 4, 3) := dk_167 0 4 (dk_at dksX4_letShare_2 8 rfl rfl)
theorem dX4_letShare_55 : decode cX4_letShare 55 = .ok (.iconst 1, 1) := dk_4 (dk_at dksX4_letShare_2 11 rfl rfl)
theorem dX4_letShare_56 : decode cX4_letShare 56 = .ok (.iadd, 1) := dk_96 (dk_at dksX4_letShare_2 12 rfl rfl)
theorem dX4_letShare_57 : decode cX4_letShare 57 = .ok (.istore_n 1, 1) := dk_60 (dk_at dksX4_letShare_2 13 rfl rfl)
theorem dX4_letShare_58 : decode cX4_letShare 58 = .ok (.iinc 2 1, 3) := dk_132 2 1 (dk_at dksX4_letShare_2 14 rfl rfl)
theorem dX4_letShare_61 : decode cX4_letShare 61 = .ok (.goto (-30), 3) := dk_167 255 226 (dk_at dksX4_letShare_2 17 rfl rfl)
theorem dX4_letShare_64 : decode cX4_letShare 64 = .ok (.iload_n 1, 1) := dk_27 (dk_at dksX4_letShare_2 20 rfl rfl)
theorem dX4_letShare_65 : decode cX4_letShare 65 = .ok (.i2f, 1) := dk_134 (dk_at dksX4_letShare_2 21 rfl rfl)
theorem dX4_letShare_66 : decode cX4_letShare 66 = .ok (.aload_n 0, 1) := dk_42 (dk_at dksX4_letShare_2 22 rfl rfl)
theorem dX4_letShare_67 : decode cX4_letShare 67 = .ok (.getfield 7, 3) := dk_180 0 7 (dk_at dksX4_letShare_3 0 rfl rfl)
theorem dX4_letShare_70 : decode cX4_letShare 70 = .ok (.iconst 0, 1) := dk_3 (dk_at dksX4_letShare_3 3 rfl rfl)
theorem dX4_letShare_71 : decode cX4_letShare 71 = .ok (.iaload, 1) := dk_46 (dk_at dksX4_letShare_3 4 rfl rfl)
theorem dX4_letShare_72 : decode cX4_letShare 72 = .ok (.i2f, 1) := dk_134 (dk_at dksX4_letShare_3 5 rfl rfl)
theorem dX4_letShare_73 : decode cX4_letShare 73 = .ok (.fdiv, 1) := dk_110 (dk_at dksX4_letShare_3 6 rfl rfl)
theorem dX4_letShare_74 : decode cX4_letShare 74 = .ok (.freturn, 1) := dk_174 (dk_at dksX4_letShare_3 7 rfl rfl)
abbrev cX4_isConsistent : ByteArray := prog_20_method_96_code
def yX4_isConsistent : MethodName := ⟨RX4, "isConsistent", "()Z"⟩
def dkwX4_isConsistent_0 : List UInt8 := [42, 3, 181, 0, 38, 4, 172]
abbrev dktX4_isConsistent_0 : List UInt8 := dkwX4_isConsistent_0 ++ []
theorem dksX4_isConsistent_0 : cX4_isConsistent.data.toList.drop 0 = dktX4_isConsistent_0 := by decide +kernel
theorem dX4_isConsistent_0 : decode cX4_isConsistent 0 = .ok (.aload_n 0, 1) := dk_42 (dk_at dksX4_isConsistent_0 0 rfl rfl)
theorem dX4_isConsistent_1 : decode cX4_isConsistent 1 = .ok (.iconst 0, 1) := dk_3 (dk_at dksX4_isConsistent_0 1 rfl rfl)
theorem dX4_isConsistent_2 : decode cX4_isConsistent 2 = .ok (.putfield 38, 3) := dk_181 0 38 (dk_at dksX4_isConsistent_0 2 rfl rfl)
theorem dX4_isConsistent_5 : decode cX4_isConsistent 5 = .ok (.iconst 1, 1) := dk_4 (dk_at dksX4_isConsistent_0 5 rfl rfl)
theorem dX4_isConsistent_6 : decode cX4_isConsistent 6 = .ok (.ireturn, 1) := dk_172 (dk_at dksX4_isConsistent_0 6 rfl rfl)
abbrev cX4_writeBench : ByteArray := prog_20_method_99_code
def yX4_writeBench : MethodName := ⟨RX4, "writeBench", "(I)I"⟩
def dkwX4_writeBench_6 : List UInt8 := [180, 0, 202, 172]
abbrev dktX4_writeBench_6 : List UInt8 := dkwX4_writeBench_6 ++ []
def dkwX4_writeBench_5 : List UInt8 := [182, 0, 74, 182, 0, 209, 42, 16, 47, 182, 0, 205, 42, 42, 27, 8, 182, 0, 70, 182, 0, 209, 42]
abbrev dktX4_writeBench_5 : List UInt8 := dkwX4_writeBench_5 ++ dktX4_writeBench_6
def dkwX4_writeBench_4 : List UInt8 := [182, 0, 86, 182, 0, 209, 42, 27, 182, 0, 74, 2, 159, 0, 34, 42, 16, 61, 182, 0, 205, 42, 42, 27]
abbrev dktX4_writeBench_4 : List UInt8 := dkwX4_writeBench_4 ++ dktX4_writeBench_5
def dkwX4_writeBench_3 : List UInt8 := [16, 36, 182, 0, 205, 42, 42, 27, 182, 0, 115, 182, 0, 209, 42, 16, 126, 182, 0, 205, 42, 42, 27]
abbrev dktX4_writeBench_3 : List UInt8 := dkwX4_writeBench_3 ++ dktX4_writeBench_4
def dkwX4_writeBench_2 : List UInt8 := [182, 0, 70, 182, 0, 209, 42, 16, 44, 182, 0, 205, 42, 42, 27, 4, 182, 0, 70, 182, 0, 209, 42]
abbrev dktX4_writeBench_2 : List UInt8 := dkwX4_writeBench_2 ++ dktX4_writeBench_3
def dkwX4_writeBench_1 : List UInt8 := [3, 172, 42, 3, 181, 0, 202, 42, 27, 182, 0, 209, 42, 16, 64, 182, 0, 205, 42, 42, 27, 3]
abbrev dktX4_writeBench_1 : List UInt8 := dkwX4_writeBench_1 ++ dktX4_writeBench_2
def dkwX4_writeBench_0 : List UInt8 := [42, 42, 27, 182, 0, 118, 153, 0, 7, 3, 167, 0, 4, 4, 181, 0, 38, 42, 180, 0, 38, 158, 0, 5]
abbrev dktX4_writeBench_0 : List UInt8 := dkwX4_writeBench_0 ++ dktX4_writeBench_1
theorem dksX4_writeBench_0 : cX4_writeBench.data.toList.drop 0 = dktX4_writeBench_0 := by decide +kernel
theorem dksX4_writeBench_1 : cX4_writeBench.data.toList.drop 24 = dktX4_writeBench_1 := dk_seg dksX4_writeBench_0 24 rfl rfl
theorem dksX4_writeBench_2 : cX4_writeBench.data.toList.drop 46 = dktX4_writeBench_2 := dk_seg dksX4_writeBench_1 22 rfl rfl
theorem dksX4_writeBench_3 : cX4_writeBench.data.toList.drop 69 = dktX4_writeBench_3 := dk_seg dksX4_writeBench_2 23 rfl rfl
theorem dksX4_writeBench_4 : cX4_writeBench.data.toList.drop 92 = dktX4_writeBench_4 := dk_seg dksX4_writeBench_3 23 rfl rfl
theorem dksX4_writeBench_5 : cX4_writeBench.data.toList.drop 116 = dktX4_writeBench_5 := dk_seg dksX4_writeBench_4 24 rfl rfl
theorem dksX4_writeBench_6 : cX4_writeBench.data.toList.drop 139 = dktX4_writeBench_6 := dk_seg dksX4_writeBench_5 23 rfl rfl
theorem dX4_writeBench_0 : decode cX4_writeBench 0 = .ok (.aload_n 0, 1) := dk_42 (dk_at dksX4_writeBench_0 0 rfl rfl)
theorem dX4_writeBench_1 : decode cX4_writeBench 1 = .ok (.aload_n 0, 1) := dk_42 (dk_at dksX4_writeBench_0 1 rfl rfl)
theorem dX4_writeBench_2 : decode cX4_writeBench 2 = .ok (.iload_n 1, 1) := dk_27 (dk_at dksX4_writeBench_0 2 rfl rfl)
theorem dX4_writeBench_3 : decode cX4_writeBench 3 = .ok (.invokevirtual 118, 3) := dk_182 0 118 (dk_at dksX4_writeBench_0 3 rfl rfl)
theorem dX4_writeBench_6 : decode cX4_writeBench 6 = .ok (.ifCond .eq 7, 3) := dk_153 0 7 (dk_at dksX4_writeBench_0 6 rfl rfl)
theorem dX4_writeBench_9 : decode cX4_writeBench 9 = .ok (.iconst 0, 1) := dk_3 (dk_at dksX4_writeBench_0 9 rfl rfl)
theorem dX4_writeBench_10 : decode cX4_writeBench 10 = .ok (.goto 4, 3) := dk_167 0 4 (dk_at dksX4_writeBench_0 10 rfl rfl)
theorem dX4_writeBench_13 : decode cX4_writeBench 13 = .ok (.iconst 1, 1) := dk_4 (dk_at dksX4_writeBench_0 13 rfl rfl)
theorem dX4_writeBench_14 : decode cX4_writeBench 14 = .ok (.putfield 38, 3) := dk_181 0 38 (dk_at dksX4_writeBench_0 14 rfl rfl)
theorem dX4_writeBench_17 : decode cX4_writeBench 17 = .ok (.aload_n 0, 1) := dk_42 (dk_at dksX4_writeBench_0 17 rfl rfl)
theorem dX4_writeBench_18 : decode cX4_writeBench 18 = .ok (.getfield 38, 3) := dk_180 0 38 (dk_at dksX4_writeBench_0 18 rfl rfl)
theorem dX4_writeBench_21 : decode cX4_writeBench 21 = .ok (.ifCond .le 5, 3) := dk_158 0 5 (dk_at dksX4_writeBench_0 21 rfl rfl)
theorem dX4_writeBench_24 : decode cX4_writeBench 24 = .ok (.iconst 0, 1) := dk_3 (dk_at dksX4_writeBench_1 0 rfl rfl)
theorem dX4_writeBench_25 : decode cX4_writeBench 25 = .ok (.ireturn, 1) := dk_172 (dk_at dksX4_writeBench_1 1 rfl rfl)
theorem dX4_writeBench_26 : decode cX4_writeBench 26 = .ok (.aload_n 0, 1) := dk_42 (dk_at dksX4_writeBench_1 2 rfl rfl)
theorem dX4_writeBench_27 : decode cX4_writeBench 27 = .ok (.iconst 0, 1) := dk_3 (dk_at dksX4_writeBench_1 3 rfl rfl)
theorem dX4_writeBench_28 : decode cX4_writeBench 28 = .ok (.putfield 202, 3) := dk_181 0 202 (dk_at dksX4_writeBench_1 4 rfl rfl)
theorem dX4_writeBench_31 : decode cX4_writeBench 31 = .ok (.aload_n 0, 1) := dk_42 (dk_at dksX4_writeBench_1 7 rfl rfl)
theorem dX4_writeBench_32 : decode cX4_writeBench 32 = .ok (.iload_n 1, 1) := dk_27 (dk_at dksX4_writeBench_1 8 rfl rfl)
theorem dX4_writeBench_33 : decode cX4_writeBench 33 = .ok (.invokevirtual 209, 3) := dk_182 0 209 (dk_at dksX4_writeBench_1 9 rfl rfl)
theorem dX4_writeBench_36 : decode cX4_writeBench 36 = .ok (.aload_n 0, 1) := dk_42 (dk_at dksX4_writeBench_1 12 rfl rfl)
theorem dX4_writeBench_37 : decode cX4_writeBench 37 = .ok (.bipush 64, 2) := dk_16 64 (dk_at dksX4_writeBench_1 13 rfl rfl)
theorem dX4_writeBench_39 : decode cX4_writeBench 39 = .ok (.invokevirtual 205, 3) := dk_182 0 205 (dk_at dksX4_writeBench_1 15 rfl rfl)
theorem dX4_writeBench_42 : decode cX4_writeBench 42 = .ok (.aload_n 0, 1) := dk_42 (dk_at dksX4_writeBench_1 18 rfl rfl)
theorem dX4_writeBench_43 : decode cX4_writeBench 43 = .ok (.aload_n 0, 1) := dk_42 (dk_at dksX4_writeBench_1 19 rfl rfl)
theorem dX4_writeBench_44 : decode cX4_writeBench 44 = .ok (.iload_n 1, 1) := dk_27 (dk_at dksX4_writeBench_1 20 rfl rfl)
theorem dX4_writeBench_45 : decode cX4_writeBench 45 = .ok (.iconst 0, 1) := dk_3 (dk_at dksX4_writeBench_1 21 rfl rfl)
theorem dX4_writeBench_46 : decode cX4_writeBench 46 = .ok (.invokevirtual 70, 3) := dk_182 0 70 (dk_at dksX4_writeBench_2 0 rfl rfl)
theorem dX4_writeBench_49 : decode cX4_writeBench 49 = .ok (.invokevirtual 209, 3) := dk_182 0 209 (dk_at dksX4_writeBench_2 3 rfl rfl)
theorem dX4_writeBench_52 : decode cX4_writeBench 52 = .ok (.aload_n 0, 1) := dk_42 (dk_at dksX4_writeBench_2 6 rfl rfl)
theorem dX4_writeBench_53 : decode cX4_writeBench 53 = .ok (.bipush 44, 2) := dk_16 44 (dk_at dksX4_writeBench_2 7 rfl rfl)
theorem dX4_writeBench_55 : decode cX4_writeBench 55 = .ok (.invokevirtual 205, 3) := dk_182 0 205 (dk_at dksX4_writeBench_2 9 rfl rfl)
theorem dX4_writeBench_58 : decode cX4_writeBench 58 = .ok (.aload_n 0, 1) := dk_42 (dk_at dksX4_writeBench_2 12 rfl rfl)
theorem dX4_writeBench_59 : decode cX4_writeBench 59 = .ok (.aload_n 0, 1) := dk_42 (dk_at dksX4_writeBench_2 13 rfl rfl)
theorem dX4_writeBench_60 : decode cX4_writeBench 60 = .ok (.iload_n 1, 1) := dk_27 (dk_at dksX4_writeBench_2 14 rfl rfl)
theorem dX4_writeBench_61 : decode cX4_writeBench 61 = .ok (.iconst 1, 1) := dk_4 (dk_at dksX4_writeBench_2 15 rfl rfl)
theorem dX4_writeBench_62 : decode cX4_writeBench 62 = .ok (.invokevirtual 70, 3) := dk_182 0 70 (dk_at dksX4_writeBench_2 16 rfl rfl)
theorem dX4_writeBench_65 : decode cX4_writeBench 65 = .ok (.invokevirtual 209, 3) := dk_182 0 209 (dk_at dksX4_writeBench_2 19 rfl rfl)
theorem dX4_writeBench_68 : decode cX4_writeBench 68 = .ok (.aload_n 0, 1) := dk_42 (dk_at dksX4_writeBench_2 22 rfl rfl)
theorem dX4_writeBench_69 : decode cX4_writeBench 69 = .ok (.bipush 36, 2) := dk_16 36 (dk_at dksX4_writeBench_3 0 rfl rfl)
theorem dX4_writeBench_71 : decode cX4_writeBench 71 = .ok (.invokevirtual 205, 3) := dk_182 0 205 (dk_at dksX4_writeBench_3 2 rfl rfl)
theorem dX4_writeBench_74 : decode cX4_writeBench 74 = .ok (.aload_n 0, 1) := dk_42 (dk_at dksX4_writeBench_3 5 rfl rfl)
theorem dX4_writeBench_75 : decode cX4_writeBench 75 = .ok (.aload_n 0, 1) := dk_42 (dk_at dksX4_writeBench_3 6 rfl rfl)
theorem dX4_writeBench_76 : decode cX4_writeBench 76 = .ok (.iload_n 1, 1) := dk_27 (dk_at dksX4_writeBench_3 7 rfl rfl)
theorem dX4_writeBench_77 : decode cX4_writeBench 77 = .ok (.invokevirtual 115, 3) := dk_182 0 115 (dk_at dksX4_writeBench_3 8 rfl rfl)
theorem dX4_writeBench_80 : decode cX4_writeBench 80 = .ok (.invokevirtual 209, 3) := dk_182 0 209 (dk_at dksX4_writeBench_3 11 rfl rfl)
theorem dX4_writeBench_83 : decode cX4_writeBench 83 = .ok (.aload_n 0, 1) := dk_42 (dk_at dksX4_writeBench_3 14 rfl rfl)
theorem dX4_writeBench_84 : decode cX4_writeBench 84 = .ok (.bipush 126, 2) := dk_16 126 (dk_at dksX4_writeBench_3 15 rfl rfl)
theorem dX4_writeBench_86 : decode cX4_writeBench 86 = .ok (.invokevirtual 205, 3) := dk_182 0 205 (dk_at dksX4_writeBench_3 17 rfl rfl)
theorem dX4_writeBench_89 : decode cX4_writeBench 89 = .ok (.aload_n 0, 1) := dk_42 (dk_at dksX4_writeBench_3 20 rfl rfl)
theorem dX4_writeBench_90 : decode cX4_writeBench 90 = .ok (.aload_n 0, 1) := dk_42 (dk_at dksX4_writeBench_3 21 rfl rfl)
theorem dX4_writeBench_91 : decode cX4_writeBench 91 = .ok (.iload_n 1, 1) := dk_27 (dk_at dksX4_writeBench_3 22 rfl rfl)
theorem dX4_writeBench_92 : decode cX4_writeBench 92 = .ok (.invokevirtual 86, 3) := dk_182 0 86 (dk_at dksX4_writeBench_4 0 rfl rfl)
theorem dX4_writeBench_95 : decode cX4_writeBench 95 = .ok (.invokevirtual 209, 3) := dk_182 0 209 (dk_at dksX4_writeBench_4 3 rfl rfl)
theorem dX4_writeBench_98 : decode cX4_writeBench 98 = .ok (.aload_n 0, 1) := dk_42 (dk_at dksX4_writeBench_4 6 rfl rfl)
theorem dX4_writeBench_99 : decode cX4_writeBench 99 = .ok (.iload_n 1, 1) := dk_27 (dk_at dksX4_writeBench_4 7 rfl rfl)
theorem dX4_writeBench_100 : decode cX4_writeBench 100 = .ok (.invokevirtual 74, 3) := dk_182 0 74 (dk_at dksX4_writeBench_4 8 rfl rfl)
theorem dX4_writeBench_103 : decode cX4_writeBench 103 = .ok (.iconst (-1), 1) := dk_2 (dk_at dksX4_writeBench_4 11 rfl rfl)
theorem dX4_writeBench_104 : decode cX4_writeBench 104 = .ok (.if_icmp .eq 34, 3) := dk_159 0 34 (dk_at dksX4_writeBench_4 12 rfl rfl)
theorem dX4_writeBench_107 : decode cX4_writeBench 107 = .ok (.aload_n 0, 1) := dk_42 (dk_at dksX4_writeBench_4 15 rfl rfl)
theorem dX4_writeBench_108 : decode cX4_writeBench 108 = .ok (.bipush 61, 2) := dk_16 61 (dk_at dksX4_writeBench_4 16 rfl rfl)
theorem dX4_writeBench_110 : decode cX4_writeBench 110 = .ok (.invokevirtual 205, 3) := dk_182 0 205 (dk_at dksX4_writeBench_4 18 rfl rfl)
theorem dX4_writeBench_113 : decode cX4_writeBench 113 = .ok (.aload_n 0, 1) := dk_42 (dk_at dksX4_writeBench_4 21 rfl rfl)
theorem dX4_writeBench_114 : decode cX4_writeBench 114 = .ok (.aload_n 0, 1) := dk_42 (dk_at dksX4_writeBench_4 22 rfl rfl)
theorem dX4_writeBench_115 : decode cX4_writeBench 115 = .ok (.iload_n 1, 1) := dk_27 (dk_at dksX4_writeBench_4 23 rfl rfl)
theorem dX4_writeBench_116 : decode cX4_writeBench 116 = .ok (.invokevirtual 74, 3) := dk_182 0 74 (dk_at dksX4_writeBench_5 0 rfl rfl)
theorem dX4_writeBench_119 : decode cX4_writeBench 119 = .ok (.invokevirtual 209, 3) := dk_182 0 209 (dk_at dksX4_writeBench_5 3 rfl rfl)
theorem dX4_writeBench_122 : decode cX4_writeBench 122 = .ok (.aload_n 0, 1) := dk_42 (dk_at dksX4_writeBench_5 6 rfl rfl)
theorem dX4_writeBench_123 : decode cX4_writeBench 123 = .ok (.bipush 47, 2) := dk_16 47 (dk_at dksX4_writeBench_5 7 rfl rfl)
theorem dX4_writeBench_125 : decode cX4_writeBench 125 = .ok (.invokevirtual 205, 3) := dk_182 0 205 (dk_at dksX4_writeBench_5 9 rfl rfl)
theorem dX4_writeBench_128 : decode cX4_writeBench 128 = .ok (.aload_n 0, 1) := dk_42 (dk_at dksX4_writeBench_5 12 rfl rfl)
theorem dX4_writeBench_129 : decode cX4_writeBench 129 = .ok (.aload_n 0, 1) := dk_42 (dk_at dksX4_writeBench_5 13 rfl rfl)
theorem dX4_writeBench_130 : decode cX4_writeBench 130 = .ok (.iload_n 1, 1) := dk_27 (dk_at dksX4_writeBench_5 14 rfl rfl)
theorem dX4_writeBench_131 : decode cX4_writeBench 131 = .ok (.iconst 5, 1) := dk_8 (dk_at dksX4_writeBench_5 15 rfl rfl)
theorem dX4_writeBench_132 : decode cX4_writeBench 132 = .ok (.invokevirtual 70, 3) := dk_182 0 70 (dk_at dksX4_writeBench_5 16 rfl rfl)
theorem dX4_writeBench_135 : decode cX4_writeBench 135 = .ok (.invokevirtual 209, 3) := dk_182 0 209 (dk_at dksX4_writeBench_5 19 rfl rfl)
theorem dX4_writeBench_138 : decode cX4_writeBench 138 = .ok (.aload_n 0, 1) := dk_42 (dk_at dksX4_writeBench_5 22 rfl rfl)
theorem dX4_writeBench_139 : decode cX4_writeBench 139 = .ok (.getfield 202, 3) := dk_180 0 202 (dk_at dksX4_writeBench_6 0 rfl rfl)
theorem dX4_writeBench_142 : decode cX4_writeBench 142 = .ok (.ireturn, 1) := dk_172 (dk_at dksX4_writeBench_6 3 rfl rfl)
abbrev cX4_writesNumber : ByteArray := prog_20_method_98_code
def yX4_writesNumber : MethodName := ⟨RX4, "writesNumber", "(I)V"⟩
def dkwX4_writesNumber_1 : List UInt8 := [96, 182, 0, 205, 177]
abbrev dktX4_writesNumber_1 : List UInt8 := dkwX4_writesNumber_1 ++ []
def dkwX4_writesNumber_0 : List UInt8 := [27, 16, 9, 164, 0, 14, 42, 16, 48, 27, 16, 10, 108, 96, 182, 0, 205, 42, 16, 48, 27, 16, 10, 112]
abbrev dktX4_writesNumber_0 : List UInt8 := dkwX4_writesNumber_0 ++ dktX4_writesNumber_1
theorem dksX4_writesNumber_0 : cX4_writesNumber.data.toList.drop 0 = dktX4_writesNumber_0 := by decide +kernel
theorem dksX4_writesNumber_1 : cX4_writesNumber.data.toList.drop 24 = dktX4_writesNumber_1 := dk_seg dksX4_writesNumber_0 24 rfl rfl
theorem dX4_writesNumber_0 : decode cX4_writesNumber 0 = .ok (.iload_n 1, 1) := dk_27 (dk_at dksX4_writesNumber_0 0 rfl rfl)
theorem dX4_writesNumber_1 : decode cX4_writesNumber 1 = .ok (.bipush 9, 2) := dk_16 9 (dk_at dksX4_writesNumber_0 1 rfl rfl)
theorem dX4_writesNumber_3 : decode cX4_writesNumber 3 = .ok (.if_icmp .le 14, 3) := dk_164 0 14 (dk_at dksX4_writesNumber_0 3 rfl rfl)
theorem dX4_writesNumber_6 : decode cX4_writesNumber 6 = .ok (.aload_n 0, 1) := dk_42 (dk_at dksX4_writesNumber_0 6 rfl rfl)
theorem dX4_writesNumber_7 : decode cX4_writesNumber 7 = .ok (.bipush 48, 2) := dk_16 48 (dk_at dksX4_writesNumber_0 7 rfl rfl)
theorem dX4_writesNumber_9 : decode cX4_writesNumber 9 = .ok (.iload_n 1, 1) := dk_27 (dk_at dksX4_writesNumber_0 9 rfl rfl)
theorem dX4_writesNumber_10 : decode cX4_writesNumber 10 = .ok (.bipush 10, 2) := dk_16 10 (dk_at dksX4_writesNumber_0 10 rfl rfl)
theorem dX4_writesNumber_12 : decode cX4_writesNumber 12 = .ok (.idiv, 1) := dk_108 (dk_at dksX4_writesNumber_0 12 rfl rfl)
theorem dX4_writesNumber_13 : decode cX4_writesNumber 13 = .ok (.iadd, 1) := dk_96 (dk_at dksX4_writesNumber_0 13 rfl rfl)
theorem dX4_writesNumber_14 : decode cX4_writesNumber 14 = .ok (.invokevirtual 205, 3) := dk_182 0 205 (dk_at dksX4_writesNumber_0 14 rfl rfl)
theorem dX4_writesNumber_17 : decode cX4_writesNumber 17 = .ok (.aload_n 0, 1) := dk_42 (dk_at dksX4_writesNumber_0 17 rfl rfl)
theorem dX4_writesNumber_18 : decode cX4_writesNumber 18 = .ok (.bipush 48, 2) := dk_16 48 (dk_at dksX4_writesNumber_0 18 rfl rfl)
theorem dX4_writesNumber_20 : decode cX4_writesNumber 20 = .ok (.iload_n 1, 1) := dk_27 (dk_at dksX4_writesNumber_0 20 rfl rfl)
theorem dX4_writesNumber_21 : decode cX4_writesNumber 21 = .ok (.bipush 10, 2) := dk_16 10 (dk_at dksX4_writesNumber_0 21 rfl rfl)
theorem dX4_writesNumber_23 : decode cX4_writesNumber 23 = .ok (.irem, 1) := dk_112 (dk_at dksX4_writesNumber_0 23 rfl rfl)
theorem dX4_writesNumber_24 : decode cX4_writesNumber 24 = .ok (.iadd, 1) := dk_96 (dk_at dksX4_writesNumber_1 0 rfl rfl)
theorem dX4_writesNumber_25 : decode cX4_writesNumber 25 = .ok (.invokevirtual 205, 3) := dk_182 0 205 (dk_at dksX4_writesNumber_1 1 rfl rfl)
theorem dX4_writesNumber_28 : decode cX4_writesNumber 28 = .ok (.return_, 1) := dk_177 (dk_at dksX4_writesNumber_1 4 rfl rfl)
abbrev cX4_writes : ByteArray := prog_20_method_97_code
def yX4_writes : MethodName := ⟨RX4, "writes", "(I)V"⟩
def dkwX4_writes_0 : List UInt8 := [42, 180, 0, 31, 42, 180, 0, 202, 27, 79, 42, 89, 180, 0, 202, 4, 96, 181, 0, 202, 177]
abbrev dktX4_writes_0 : List UInt8 := dkwX4_writes_0 ++ []
theorem dksX4_writes_0 : cX4_writes.data.toList.drop 0 = dktX4_writes_0 := by decide +kernel
theorem dX4_writes_0 : decode cX4_writes 0 = .ok (.aload_n 0, 1) := dk_42 (dk_at dksX4_writes_0 0 rfl rfl)
theorem dX4_writes_1 : decode cX4_writes 1 = .ok (.getfield 31, 3) := dk_180 0 31 (dk_at dksX4_writes_0 1 rfl rfl)
theorem dX4_writes_4 : decode cX4_writes 4 = .ok (.aload_n 0, 1) := dk_42 (dk_at dksX4_writes_0 4 rfl rfl)
theorem dX4_writes_5 : decode cX4_writes 5 = .ok (.getfield 202, 3) := dk_180 0 202 (dk_at dksX4_writes_0 5 rfl rfl)
theorem dX4_writes_8 : decode cX4_writes 8 = .ok (.iload_n 1, 1) := dk_27 (dk_at dksX4_writes_0 8 rfl rfl)
theorem dX4_writes_9 : decode cX4_writes 9 = .ok (.iastore, 1) := dk_79 (dk_at dksX4_writes_0 9 rfl rfl)
theorem dX4_writes_10 : decode cX4_writes 10 = .ok (.aload_n 0, 1) := dk_42 (dk_at dksX4_writes_0 10 rfl rfl)
theorem dX4_writes_11 : decode cX4_writes 11 = .ok (.dup, 1) := dk_89 (dk_at dksX4_writes_0 11 rfl rfl)
theorem dX4_writes_12 : decode cX4_writes 12 = .ok (.getfield 202, 3) := dk_180 0 202 (dk_at dksX4_writes_0 12 rfl rfl)
theorem dX4_writes_15 : decode cX4_writes 15 = .ok (.iconst 1, 1) := dk_4 (dk_at dksX4_writes_0 15 rfl rfl)
theorem dX4_writes_16 : decode cX4_writes 16 = .ok (.iadd, 1) := dk_96 (dk_at dksX4_writes_0 16 rfl rfl)
theorem dX4_writes_17 : decode cX4_writes 17 = .ok (.putfield 202, 3) := dk_181 0 202 (dk_at dksX4_writes_0 17 rfl rfl)
theorem dX4_writes_20 : decode cX4_writes 20 = .ok (.return_, 1) := dk_177 (dk_at dksX4_writes_0 20 rfl rfl)
abbrev cX4_writeRow : ByteArray := prog_20_method_100_code
def yX4_writeRow : MethodName := ⟨RX4, "writeRow", "(I)I"⟩
def dkwX4_writeRow_4 : List UInt8 := [182, 0, 205, 132, 2, 1, 167, 255, 193, 42, 180, 0, 202, 172]
abbrev dktX4_writeRow_4 : List UInt8 := dkwX4_writeRow_4 ++ []
def dkwX4_writeRow_3 : List UInt8 := [167, 0, 23, 42, 29, 16, 10, 100, 6, 182, 0, 77, 4, 160, 0, 8, 16, 70, 167, 0, 5, 16, 102]
abbrev dktX4_writeRow_3 : List UInt8 := dkwX4_writeRow_3 ++ dktX4_writeRow_4
def dkwX4_writeRow_2 : List UInt8 := [62, 42, 29, 2, 160, 0, 8, 16, 46, 167, 0, 36, 29, 16, 10, 162, 0, 10, 16, 48, 29, 96]
abbrev dktX4_writeRow_2 : List UInt8 := dkwX4_writeRow_2 ++ dktX4_writeRow_3
def dkwX4_writeRow_1 : List UInt8 := [158, 0, 5, 3, 172, 42, 3, 181, 0, 202, 3, 61, 28, 16, 6, 162, 0, 63, 42, 27, 28, 182, 0, 96]
abbrev dktX4_writeRow_1 : List UInt8 := dkwX4_writeRow_1 ++ dktX4_writeRow_2
def dkwX4_writeRow_0 : List UInt8 := [42, 27, 3, 8, 184, 0, 66, 153, 0, 7, 3, 167, 0, 4, 4, 181, 0, 38, 42, 180, 0, 38]
abbrev dktX4_writeRow_0 : List UInt8 := dkwX4_writeRow_0 ++ dktX4_writeRow_1
theorem dksX4_writeRow_0 : cX4_writeRow.data.toList.drop 0 = dktX4_writeRow_0 := by decide +kernel
theorem dksX4_writeRow_1 : cX4_writeRow.data.toList.drop 22 = dktX4_writeRow_1 := dk_seg dksX4_writeRow_0 22 rfl rfl
theorem dksX4_writeRow_2 : cX4_writeRow.data.toList.drop 46 = dktX4_writeRow_2 := dk_seg dksX4_writeRow_1 24 rfl rfl
theorem dksX4_writeRow_3 : cX4_writeRow.data.toList.drop 68 = dktX4_writeRow_3 := dk_seg dksX4_writeRow_2 22 rfl rfl
theorem dksX4_writeRow_4 : cX4_writeRow.data.toList.drop 91 = dktX4_writeRow_4 := dk_seg dksX4_writeRow_3 23 rfl rfl
theorem dX4_writeRow_0 : decode cX4_writeRow 0 = .ok (.aload_n 0, 1) := dk_42 (dk_at dksX4_writeRow_0 0 rfl rfl)
theorem dX4_writeRow_1 : decode cX4_writeRow 1 = .ok (.iload_n 1, 1) := dk_27 (dk_at dksX4_writeRow_0 1 rfl rfl)
theorem dX4_writeRow_2 : decode cX4_writeRow 2 = .ok (.iconst 0, 1) := dk_3 (dk_at dksX4_writeRow_0 2 rfl rfl)
theorem dX4_writeRow_3 : decode cX4_writeRow 3 = .ok (.iconst 5, 1) := dk_8 (dk_at dksX4_writeRow_0 3 rfl rfl)
theorem dX4_writeRow_4 : decode cX4_writeRow 4 = .ok (.invokestatic 66, 3) := dk_184 0 66 (dk_at dksX4_writeRow_0 4 rfl rfl)
theorem dX4_writeRow_7 : decode cX4_writeRow 7 = .ok (.ifCond .eq 7, 3) := dk_153 0 7 (dk_at dksX4_writeRow_0 7 rfl rfl)
theorem dX4_writeRow_10 : decode cX4_writeRow 10 = .ok (.iconst 0, 1) := dk_3 (dk_at dksX4_writeRow_0 10 rfl rfl)
theorem dX4_writeRow_11 : decode cX4_writeRow 11 = .ok (.goto 4, 3) := dk_167 0 4 (dk_at dksX4_writeRow_0 11 rfl rfl)
theorem dX4_writeRow_14 : decode cX4_writeRow 14 = .ok (.iconst 1, 1) := dk_4 (dk_at dksX4_writeRow_0 14 rfl rfl)
theorem dX4_writeRow_15 : decode cX4_writeRow 15 = .ok (.putfield 38, 3) := dk_181 0 38 (dk_at dksX4_writeRow_0 15 rfl rfl)
theorem dX4_writeRow_18 : decode cX4_writeRow 18 = .ok (.aload_n 0, 1) := dk_42 (dk_at dksX4_writeRow_0 18 rfl rfl)
theorem dX4_writeRow_19 : decode cX4_writeRow 19 = .ok (.getfield 38, 3) := dk_180 0 38 (dk_at dksX4_writeRow_0 19 rfl rfl)
theorem dX4_writeRow_22 : decode cX4_writeRow 22 = .ok (.ifCond .le 5, 3) := dk_158 0 5 (dk_at dksX4_writeRow_1 0 rfl rfl)
theorem dX4_writeRow_25 : decode cX4_writeRow 25 = .ok (.iconst 0, 1) := dk_3 (dk_at dksX4_writeRow_1 3 rfl rfl)
theorem dX4_writeRow_26 : decode cX4_writeRow 26 = .ok (.ireturn, 1) := dk_172 (dk_at dksX4_writeRow_1 4 rfl rfl)
theorem dX4_writeRow_27 : decode cX4_writeRow 27 = .ok (.aload_n 0, 1) := dk_42 (dk_at dksX4_writeRow_1 5 rfl rfl)
theorem dX4_writeRow_28 : decode cX4_writeRow 28 = .ok (.iconst 0, 1) := dk_3 (dk_at dksX4_writeRow_1 6 rfl rfl)
theorem dX4_writeRow_29 : decode cX4_writeRow 29 = .ok (.putfield 202, 3) := dk_181 0 202 (dk_at dksX4_writeRow_1 7 rfl rfl)
theorem dX4_writeRow_32 : decode cX4_writeRow 32 = .ok (.iconst 0, 1) := dk_3 (dk_at dksX4_writeRow_1 10 rfl rfl)
theorem dX4_writeRow_33 : decode cX4_writeRow 33 = .ok (.istore_n 2, 1) := dk_61 (dk_at dksX4_writeRow_1 11 rfl rfl)
theorem dX4_writeRow_34 : decode cX4_writeRow 34 = .ok (.iload_n 2, 1) := dk_28 (dk_at dksX4_writeRow_1 12 rfl rfl)
theorem dX4_writeRow_35 : decode cX4_writeRow 35 = .ok (.bipush 6, 2) := dk_16 6 (dk_at dksX4_writeRow_1 13 rfl rfl)
theorem dX4_writeRow_37 : decode cX4_writeRow 37 = .ok (.if_icmp .ge 63, 3) := dk_162 0 63 (dk_at dksX4_writeRow_1 15 rfl rfl)
theorem dX4_writeRow_40 : decode cX4_writeRow 40 = .ok (.aload_n 0, 1) := dk_42 (dk_at dksX4_writeRow_1 18 rfl rfl)
theorem dX4_writeRow_41 : decode cX4_writeRow 41 = .ok (.iload_n 1, 1) := dk_27 (dk_at dksX4_writeRow_1 19 rfl rfl)
theorem dX4_writeRow_42 : decode cX4_writeRow 42 = .ok (.iload_n 2, 1) := dk_28 (dk_at dksX4_writeRow_1 20 rfl rfl)
theorem dX4_writeRow_43 : decode cX4_writeRow 43 = .ok (.invokevirtual 96, 3) := dk_182 0 96 (dk_at dksX4_writeRow_1 21 rfl rfl)
theorem dX4_writeRow_46 : decode cX4_writeRow 46 = .ok (.istore_n 3, 1) := dk_62 (dk_at dksX4_writeRow_2 0 rfl rfl)
theorem dX4_writeRow_47 : decode cX4_writeRow 47 = .ok (.aload_n 0, 1) := dk_42 (dk_at dksX4_writeRow_2 1 rfl rfl)
theorem dX4_writeRow_48 : decode cX4_writeRow 48 = .ok (.iload_n 3, 1) := dk_29 (dk_at dksX4_writeRow_2 2 rfl rfl)
theorem dX4_writeRow_49 : decode cX4_writeRow 49 = .ok (.iconst (-1), 1) := dk_2 (dk_at dksX4_writeRow_2 3 rfl rfl)
theorem dX4_writeRow_50 : decode cX4_writeRow 50 = .ok (.if_icmp .ne 8, 3) := dk_160 0 8 (dk_at dksX4_writeRow_2 4 rfl rfl)
theorem dX4_writeRow_53 : decode cX4_writeRow 53 = .ok (.bipush 46, 2) := dk_16 46 (dk_at dksX4_writeRow_2 7 rfl rfl)
theorem dX4_writeRow_55 : decode cX4_writeRow 55 = .ok (.goto 36, 3) := dk_167 0 36 (dk_at dksX4_writeRow_2 9 rfl rfl)
theorem dX4_writeRow_58 : decode cX4_writeRow 58 = .ok (.iload_n 3, 1) := dk_29 (dk_at dksX4_writeRow_2 12 rfl rfl)
theorem dX4_writeRow_59 : decode cX4_writeRow 59 = .ok (.bipush 10, 2) := dk_16 10 (dk_at dksX4_writeRow_2 13 rfl rfl)
theorem dX4_writeRow_61 : decode cX4_writeRow 61 = .ok (.if_icmp .ge 10, 3) := dk_162 0 10 (dk_at dksX4_writeRow_2 15 rfl rfl)
theorem dX4_writeRow_64 : decode cX4_writeRow 64 = .ok (.bipush 48, 2) := dk_16 48 (dk_at dksX4_writeRow_2 18 rfl rfl)
theorem dX4_writeRow_66 : decode cX4_writeRow 66 = .ok (.iload_n 3, 1) := dk_29 (dk_at dksX4_writeRow_2 20 rfl rfl)
theorem dX4_writeRow_67 : decode cX4_writeRow 67 = .ok (.iadd, 1) := dk_96 (dk_at dksX4_writeRow_2 21 rfl rfl)
theorem dX4_writeRow_68 : decode cX4_writeRow 68 = .ok (.goto 23, 3) := dk_167 0 23 (dk_at dksX4_writeRow_3 0 rfl rfl)
theorem dX4_writeRow_71 : decode cX4_writeRow 71 = .ok (.aload_n 0, 1) := dk_42 (dk_at dksX4_writeRow_3 3 rfl rfl)
theorem dX4_writeRow_72 : decode cX4_writeRow 72 = .ok (.iload_n 3, 1) := dk_29 (dk_at dksX4_writeRow_3 4 rfl rfl)
theorem dX4_writeRow_73 : decode cX4_writeRow 73 = .ok (.bipush 10, 2) := dk_16 10 (dk_at dksX4_writeRow_3 5 rfl rfl)
theorem dX4_writeRow_75 : decode cX4_writeRow 75 = .ok (.isub, 1) := dk_100 (dk_at dksX4_writeRow_3 7 rfl rfl)
theorem dX4_writeRow_76 : decode cX4_writeRow 76 = .ok (.iconst 3, 1) := dk_6 (dk_at dksX4_writeRow_3 8 rfl rfl)
theorem dX4_writeRow_77 : decode cX4_writeRow 77 = .ok (.invokevirtual 77, 3) := dk_182 0 77 (dk_at dksX4_writeRow_3 9 rfl rfl)
theorem dX4_writeRow_80 : decode cX4_writeRow 80 = .ok (.iconst 1, 1) := dk_4 (dk_at dksX4_writeRow_3 12 rfl rfl)
theorem dX4_writeRow_81 : decode cX4_writeRow 81 = .ok (.if_icmp .ne 8, 3) := dk_160 0 8 (dk_at dksX4_writeRow_3 13 rfl rfl)
theorem dX4_writeRow_84 : decode cX4_writeRow 84 = .ok (.bipush 70, 2) := dk_16 70 (dk_at dksX4_writeRow_3 16 rfl rfl)
theorem dX4_writeRow_86 : decode cX4_writeRow 86 = .ok (.goto 5, 3) := dk_167 0 5 (dk_at dksX4_writeRow_3 18 rfl rfl)
theorem dX4_writeRow_89 : decode cX4_writeRow 89 = .ok (.bipush 102, 2) := dk_16 102 (dk_at dksX4_writeRow_3 21 rfl rfl)
theorem dX4_writeRow_91 : decode cX4_writeRow 91 = .ok (.invokevirtual 205, 3) := dk_182 0 205 (dk_at dksX4_writeRow_4 0 rfl rfl)
theorem dX4_writeRow_94 : decode cX4_writeRow 94 = .ok (.iinc 2 1, 3) := dk_132 2 1 (dk_at dksX4_writeRow_4 3 rfl rfl)
theorem dX4_writeRow_97 : decode cX4_writeRow 97 = .ok (.goto (-63), 3) := dk_167 255 193 (dk_at dksX4_writeRow_4 6 rfl rfl)
theorem dX4_writeRow_100 : decode cX4_writeRow 100 = .ok (.aload_n 0, 1) := dk_42 (dk_at dksX4_writeRow_4 9 rfl rfl)
theorem dX4_writeRow_101 : decode cX4_writeRow 101 = .ok (.getfield 202, 3) := dk_180 0 202 (dk_at dksX4_writeRow_4 10 rfl rfl)
theorem dX4_writeRow_104 : decode cX4_writeRow 104 = .ok (.ireturn, 1) := dk_172 (dk_at dksX4_writeRow_4 13 rfl rfl)
abbrev cX4_outputAt : ByteArray := prog_20_method_101_code
def yX4_outputAt : MethodName := ⟨RX4, "outputAt", "(I)C"⟩
def dkwX4_outputAt_1 : List UInt8 := [180, 0, 38, 158, 0, 7, 3, 167, 0, 10, 42, 180, 0, 31, 27, 46, 146, 172]
abbrev dktX4_outputAt_1 : List UInt8 := dkwX4_outputAt_1 ++ []
def dkwX4_outputAt_0 : List UInt8 := [42, 27, 3, 42, 180, 0, 202, 4, 100, 184, 0, 66, 153, 0, 7, 3, 167, 0, 4, 4, 181, 0, 38, 42]
abbrev dktX4_outputAt_0 : List UInt8 := dkwX4_outputAt_0 ++ dktX4_outputAt_1
theorem dksX4_outputAt_0 : cX4_outputAt.data.toList.drop 0 = dktX4_outputAt_0 := by decide +kernel
theorem dksX4_outputAt_1 : cX4_outputAt.data.toList.drop 24 = dktX4_outputAt_1 := dk_seg dksX4_outputAt_0 24 rfl rfl
theorem dX4_outputAt_0 : decode cX4_outputAt 0 = .ok (.aload_n 0, 1) := dk_42 (dk_at dksX4_outputAt_0 0 rfl rfl)
theorem dX4_outputAt_1 : decode cX4_outputAt 1 = .ok (.iload_n 1, 1) := dk_27 (dk_at dksX4_outputAt_0 1 rfl rfl)
theorem dX4_outputAt_2 : decode cX4_outputAt 2 = .ok (.iconst 0, 1) := dk_3 (dk_at dksX4_outputAt_0 2 rfl rfl)
theorem dX4_outputAt_3 : decode cX4_outputAt 3 = .ok (.aload_n 0, 1) := dk_42 (dk_at dksX4_outputAt_0 3 rfl rfl)
theorem dX4_outputAt_4 : decode cX4_outputAt 4 = .ok (.getfield 202, 3) := dk_180 0 202 (dk_at dksX4_outputAt_0 4 rfl rfl)
theorem dX4_outputAt_7 : decode cX4_outputAt 7 = .ok (.iconst 1, 1) := dk_4 (dk_at dksX4_outputAt_0 7 rfl rfl)
theorem dX4_outputAt_8 : decode cX4_outputAt 8 = .ok (.isub, 1) := dk_100 (dk_at dksX4_outputAt_0 8 rfl rfl)
theorem dX4_outputAt_9 : decode cX4_outputAt 9 = .ok (.invokestatic 66, 3) := dk_184 0 66 (dk_at dksX4_outputAt_0 9 rfl rfl)
theorem dX4_outputAt_12 : decode cX4_outputAt 12 = .ok (.ifCond .eq 7, 3) := dk_153 0 7 (dk_at dksX4_outputAt_0 12 rfl rfl)
theorem dX4_outputAt_15 : decode cX4_outputAt 15 = .ok (.iconst 0, 1) := dk_3 (dk_at dksX4_outputAt_0 15 rfl rfl)
theorem dX4_outputAt_16 : decode cX4_outputAt 16 = .ok (.goto 4, 3) := dk_167 0 4 (dk_at dksX4_outputAt_0 16 rfl rfl)
theorem dX4_outputAt_19 : decode cX4_outputAt 19 = .ok (.iconst 1, 1) := dk_4 (dk_at dksX4_outputAt_0 19 rfl rfl)
theorem dX4_outputAt_20 : decode cX4_outputAt 20 = .ok (.putfield 38, 3) := dk_181 0 38 (dk_at dksX4_outputAt_0 20 rfl rfl)
theorem dX4_outputAt_23 : decode cX4_outputAt 23 = .ok (.aload_n 0, 1) := dk_42 (dk_at dksX4_outputAt_0 23 rfl rfl)
theorem dX4_outputAt_24 : decode cX4_outputAt 24 = .ok (.getfield 38, 3) := dk_180 0 38 (dk_at dksX4_outputAt_1 0 rfl rfl)
theorem dX4_outputAt_27 : decode cX4_outputAt 27 = .ok (.ifCond .le 7, 3) := dk_158 0 7 (dk_at dksX4_outputAt_1 3 rfl rfl)
theorem dX4_outputAt_30 : decode cX4_outputAt 30 = .ok (.iconst 0, 1) := dk_3 (dk_at dksX4_outputAt_1 6 rfl rfl)
theorem dX4_outputAt_31 : decode cX4_outputAt 31 = .ok (.goto 10, 3) := dk_167 0 10 (dk_at dksX4_outputAt_1 7 rfl rfl)
theorem dX4_outputAt_34 : decode cX4_outputAt 34 = .ok (.aload_n 0, 1) := dk_42 (dk_at dksX4_outputAt_1 10 rfl rfl)
theorem dX4_outputAt_35 : decode cX4_outputAt 35 = .ok (.getfield 31, 3) := dk_180 0 31 (dk_at dksX4_outputAt_1 11 rfl rfl)
theorem dX4_outputAt_38 : decode cX4_outputAt 38 = .ok (.iload_n 1, 1) := dk_27 (dk_at dksX4_outputAt_1 14 rfl rfl)
theorem dX4_outputAt_39 : decode cX4_outputAt 39 = .ok (.iaload, 1) := dk_46 (dk_at dksX4_outputAt_1 15 rfl rfl)
theorem dX4_outputAt_40 : decode cX4_outputAt 40 = .ok (.i2c, 1) := dk_146 (dk_at dksX4_outputAt_1 16 rfl rfl)
theorem dX4_outputAt_41 : decode cX4_outputAt 41 = .ok (.ireturn, 1) := dk_172 (dk_at dksX4_outputAt_1 17 rfl rfl)
abbrev cX4_appendInput : ByteArray := prog_20_method_102_code
def yX4_appendInput : MethodName := ⟨RX4, "appendInput", "(C)I"⟩
def dkwX4_appendInput_2 : List UInt8 := [42, 180, 0, 212, 27, 79, 42, 89, 180, 0, 212, 4, 96, 181, 0, 212, 42, 180, 0, 212, 172]
abbrev dktX4_appendInput_2 : List UInt8 := dkwX4_appendInput_2 ++ []
def dkwX4_appendInput_1 : List UInt8 := [160, 0, 7, 5, 167, 0, 4, 3, 181, 0, 38, 42, 180, 0, 38, 158, 0, 5, 3, 172, 42, 180, 0, 25]
abbrev dktX4_appendInput_1 : List UInt8 := dkwX4_appendInput_1 ++ dktX4_appendInput_2
def dkwX4_appendInput_0 : List UInt8 := [42, 27, 16, 32, 16, 126, 184, 0, 66, 154, 0, 7, 4, 167, 0, 17, 42, 180, 0, 212, 16, 60]
abbrev dktX4_appendInput_0 : List UInt8 := dkwX4_appendInput_0 ++ dktX4_appendInput_1
theorem dksX4_appendInput_0 : cX4_appendInput.data.toList.drop 0 = dktX4_appendInput_0 := by decide +kernel
theorem dksX4_appendInput_1 : cX4_appendInput.data.toList.drop 22 = dktX4_appendInput_1 := dk_seg dksX4_appendInput_0 22 rfl rfl
theorem dksX4_appendInput_2 : cX4_appendInput.data.toList.drop 46 = dktX4_appendInput_2 := dk_seg dksX4_appendInput_1 24 rfl rfl
theorem dX4_appendInput_0 : decode cX4_appendInput 0 = .ok (.aload_n 0, 1) := dk_42 (dk_at dksX4_appendInput_0 0 rfl rfl)
theorem dX4_appendInput_1 : decode cX4_appendInput 1 = .ok (.iload_n 1, 1) := dk_27 (dk_at dksX4_appendInput_0 1 rfl rfl)
theorem dX4_appendInput_2 : decode cX4_appendInput 2 = .ok (.bipush 32, 2) := dk_16 32 (dk_at dksX4_appendInput_0 2 rfl rfl)
theorem dX4_appendInput_4 : decode cX4_appendInput 4 = .ok (.bipush 126, 2) := dk_16 126 (dk_at dksX4_appendInput_0 4 rfl rfl)
theorem dX4_appendInput_6 : decode cX4_appendInput 6 = .ok (.invokestatic 66, 3) := dk_184 0 66 (dk_at dksX4_appendInput_0 6 rfl rfl)
theorem dX4_appendInput_9 : decode cX4_appendInput 9 = .ok (.ifCond .ne 7, 3) := dk_154 0 7 (dk_at dksX4_appendInput_0 9 rfl rfl)
theorem dX4_appendInput_12 : decode cX4_appendInput 12 = .ok (.iconst 1, 1) := dk_4 (dk_at dksX4_appendInput_0 12 rfl rfl)
theorem dX4_appendInput_13 : decode cX4_appendInput 13 = .ok (.goto 17, 3) := dk_167 0 17 (dk_at dksX4_appendInput_0 13 rfl rfl)
theorem dX4_appendInput_16 : decode cX4_appendInput 16 = .ok (.aload_n 0, 1) := dk_42 (dk_at dksX4_appendInput_0 16 rfl rfl)
theorem dX4_appendInput_17 : decode cX4_appendInput 17 = .ok (.getfield 212, 3) := dk_180 0 212 (dk_at dksX4_appendInput_0 17 rfl rfl)
theorem dX4_appendInput_20 : decode cX4_appendInput 20 = .ok (.bipush 60, 2) := dk_16 60 (dk_at dksX4_appendInput_0 20 rfl rfl)
theorem dX4_appendInput_22 : decode cX4_appendInput 22 = .ok (.if_icmp .ne 7, 3) := dk_160 0 7 (dk_at dksX4_appendInput_1 0 rfl rfl)
theorem dX4_appendInput_25 : decode cX4_appendInput 25 = .ok (.iconst 2, 1) := dk_5 (dk_at dksX4_appendInput_1 3 rfl rfl)
theorem dX4_appendInput_26 : decode cX4_appendInput 26 = .ok (.goto 4, 3) := dk_167 0 4 (dk_at dksX4_appendInput_1 4 rfl rfl)
theorem dX4_appendInput_29 : decode cX4_appendInput 29 = .ok (.iconst 0, 1) := dk_3 (dk_at dksX4_appendInput_1 7 rfl rfl)
theorem dX4_appendInput_30 : decode cX4_appendInput 30 = .ok (.putfield 38, 3) := dk_181 0 38 (dk_at dksX4_appendInput_1 8 rfl rfl)
theorem dX4_appendInput_33 : decode cX4_appendInput 33 = .ok (.aload_n 0, 1) := dk_42 (dk_at dksX4_appendInput_1 11 rfl rfl)
theorem dX4_appendInput_34 : decode cX4_appendInput 34 = .ok (.getfield 38, 3) := dk_180 0 38 (dk_at dksX4_appendInput_1 12 rfl rfl)
theorem dX4_appendInput_37 : decode cX4_appendInput 37 = .ok (.ifCond .le 5, 3) := dk_158 0 5 (dk_at dksX4_appendInput_1 15 rfl rfl)
theorem dX4_appendInput_40 : decode cX4_appendInput 40 = .ok (.iconst 0, 1) := dk_3 (dk_at dksX4_appendInput_1 18 rfl rfl)
theorem dX4_appendInput_41 : decode cX4_appendInput 41 = .ok (.ireturn, 1) := dk_172 (dk_at dksX4_appendInput_1 19 rfl rfl)
theorem dX4_appendInput_42 : decode cX4_appendInput 42 = .ok (.aload_n 0, 1) := dk_42 (dk_at dksX4_appendInput_1 20 rfl rfl)
theorem dX4_appendInput_43 : decode cX4_appendInput 43 = .ok (.getfield 25, 3) := dk_180 0 25 (dk_at dksX4_appendInput_1 21 rfl rfl)
theorem dX4_appendInput_46 : decode cX4_appendInput 46 = .ok (.aload_n 0, 1) := dk_42 (dk_at dksX4_appendInput_2 0 rfl rfl)
theorem dX4_appendInput_47 : decode cX4_appendInput 47 = .ok (.getfield 212, 3) := dk_180 0 212 (dk_at dksX4_appendInput_2 1 rfl rfl)
theorem dX4_appendInput_50 : decode cX4_appendInput 50 = .ok (.iload_n 1, 1) := dk_27 (dk_at dksX4_appendInput_2 4 rfl rfl)
theorem dX4_appendInput_51 : decode cX4_appendInput 51 = .ok (.iastore, 1) := dk_79 (dk_at dksX4_appendInput_2 5 rfl rfl)
theorem dX4_appendInput_52 : decode cX4_appendInput 52 = .ok (.aload_n 0, 1) := dk_42 (dk_at dksX4_appendInput_2 6 rfl rfl)
theorem dX4_appendInput_53 : decode cX4_appendInput 53 = .ok (.dup, 1) := dk_89 (dk_at dksX4_appendInput_2 7 rfl rfl)
theorem dX4_appendInput_54 : decode cX4_appendInput 54 = .ok (.getfield 212, 3) := dk_180 0 212 (dk_at dksX4_appendInput_2 8 rfl rfl)
theorem dX4_appendInput_57 : decode cX4_appendInput 57 = .ok (.iconst 1, 1) := dk_4 (dk_at dksX4_appendInput_2 11 rfl rfl)
theorem dX4_appendInput_58 : decode cX4_appendInput 58 = .ok (.iadd, 1) := dk_96 (dk_at dksX4_appendInput_2 12 rfl rfl)
theorem dX4_appendInput_59 : decode cX4_appendInput 59 = .ok (.putfield 212, 3) := dk_181 0 212 (dk_at dksX4_appendInput_2 13 rfl rfl)
theorem dX4_appendInput_62 : decode cX4_appendInput 62 = .ok (.aload_n 0, 1) := dk_42 (dk_at dksX4_appendInput_2 16 rfl rfl)
theorem dX4_appendInput_63 : decode cX4_appendInput 63 = .ok (.getfield 212, 3) := dk_180 0 212 (dk_at dksX4_appendInput_2 17 rfl rfl)
theorem dX4_appendInput_66 : decode cX4_appendInput 66 = .ok (.ireturn, 1) := dk_172 (dk_at dksX4_appendInput_2 20 rfl rfl)
abbrev cX4_execute : ByteArray := prog_20_method_109_code
def yX4_execute : MethodName := ⟨RX4, "execute", "()I"⟩
def dkwX4_execute_8 : List UInt8 := [167, 255, 174, 42, 42, 180, 0, 242, 182, 0, 50, 172]
abbrev dktX4_execute_8 : List UInt8 := dkwX4_execute_8 ++ []
def dkwX4_execute_7 : List UInt8 := [16, 12, 181, 0, 57, 42, 27, 181, 0, 60, 42, 28, 181, 0, 63, 42, 6, 182, 0, 54, 172, 132, 1, 1]
abbrev dktX4_execute_7 : List UInt8 := dkwX4_execute_7 ++ dktX4_execute_8
def dkwX4_execute_6 : List UInt8 := [180, 0, 13, 29, 46, 79, 132, 3, 1, 167, 255, 235, 28, 156, 0, 9, 42, 5, 182, 0, 54, 172, 42]
abbrev dktX4_execute_6 : List UInt8 := dkwX4_execute_6 ++ dktX4_execute_7
def dkwX4_execute_5 : List UInt8 := [61, 28, 154, 0, 6, 167, 0, 61, 3, 62, 29, 16, 102, 162, 0, 21, 42, 180, 0, 7, 29, 42]
abbrev dktX4_execute_5 : List UInt8 := dkwX4_execute_5 ++ dktX4_execute_6
def dkwX4_execute_4 : List UInt8 := [181, 0, 34, 42, 4, 182, 0, 54, 172, 3, 60, 27, 42, 180, 0, 242, 162, 0, 80, 42, 27, 182, 1, 15]
abbrev dktX4_execute_4 : List UInt8 := dkwX4_execute_4 ++ dktX4_execute_5
def dkwX4_execute_3 : List UInt8 := [180, 0, 225, 154, 0, 14, 42, 180, 0, 215, 42, 180, 0, 218, 162, 0, 17, 42, 42, 180, 0, 215]
abbrev dktX4_execute_3 : List UInt8 := dkwX4_execute_3 ++ dktX4_execute_4
def dkwX4_execute_2 : List UInt8 := [16, 59, 160, 0, 20, 42, 89, 180, 0, 215, 4, 96, 181, 0, 215, 42, 182, 1, 12, 167, 255, 225, 42]
abbrev dktX4_execute_2 : List UInt8 := dkwX4_execute_2 ++ dktX4_execute_3
def dkwX4_execute_1 : List UInt8 := [181, 0, 242, 42, 3, 181, 0, 225, 42, 182, 1, 12, 42, 180, 0, 225, 154, 0, 30, 42, 3, 182, 0, 229]
abbrev dktX4_execute_1 : List UInt8 := dkwX4_execute_1 ++ dktX4_execute_2
def dkwX4_execute_0 : List UInt8 := [42, 182, 0, 134, 42, 3, 181, 0, 215, 42, 42, 180, 0, 212, 181, 0, 218, 42, 3, 181, 0, 212, 42, 3]
abbrev dktX4_execute_0 : List UInt8 := dkwX4_execute_0 ++ dktX4_execute_1
theorem dksX4_execute_0 : cX4_execute.data.toList.drop 0 = dktX4_execute_0 := by decide +kernel
theorem dksX4_execute_1 : cX4_execute.data.toList.drop 24 = dktX4_execute_1 := dk_seg dksX4_execute_0 24 rfl rfl
theorem dksX4_execute_2 : cX4_execute.data.toList.drop 48 = dktX4_execute_2 := dk_seg dksX4_execute_1 24 rfl rfl
theorem dksX4_execute_3 : cX4_execute.data.toList.drop 71 = dktX4_execute_3 := dk_seg dksX4_execute_2 23 rfl rfl
theorem dksX4_execute_4 : cX4_execute.data.toList.drop 93 = dktX4_execute_4 := dk_seg dksX4_execute_3 22 rfl rfl
theorem dksX4_execute_5 : cX4_execute.data.toList.drop 117 = dktX4_execute_5 := dk_seg dksX4_execute_4 24 rfl rfl
theorem dksX4_execute_6 : cX4_execute.data.toList.drop 139 = dktX4_execute_6 := dk_seg dksX4_execute_5 22 rfl rfl
theorem dksX4_execute_7 : cX4_execute.data.toList.drop 162 = dktX4_execute_7 := dk_seg dksX4_execute_6 23 rfl rfl
theorem dksX4_execute_8 : cX4_execute.data.toList.drop 186 = dktX4_execute_8 := dk_seg dksX4_execute_7 24 rfl rfl
theorem dX4_execute_0 : decode cX4_execute 0 = .ok (.aload_n 0, 1) := dk_42 (dk_at dksX4_execute_0 0 rfl rfl)
theorem dX4_execute_1 : decode cX4_execute 1 = .ok (.invokevirtual 134, 3) := dk_182 0 134 (dk_at dksX4_execute_0 1 rfl rfl)
theorem dX4_execute_4 : decode cX4_execute 4 = .ok (.aload_n 0, 1) := dk_42 (dk_at dksX4_execute_0 4 rfl rfl)
theorem dX4_execute_5 : decode cX4_execute 5 = .ok (.iconst 0, 1) := dk_3 (dk_at dksX4_execute_0 5 rfl rfl)
theorem dX4_execute_6 : decode cX4_execute 6 = .ok (.putfield 215, 3) := dk_181 0 215 (dk_at dksX4_execute_0 6 rfl rfl)
theorem dX4_execute_9 : decode cX4_execute 9 = .ok (.aload_n 0, 1) := dk_42 (dk_at dksX4_execute_0 9 rfl rfl)
theorem dX4_execute_10 : decode cX4_execute 10 = .ok (.aload_n 0, 1) := dk_42 (dk_at dksX4_execute_0 10 rfl rfl)
theorem dX4_execute_11 : decode cX4_execute 11 = .ok (.getfield 212, 3) := dk_180 0 212 (dk_at dksX4_execute_0 11 rfl rfl)
theorem dX4_execute_14 : decode cX4_execute 14 = .ok (.putfield 218, 3) := dk_181 0 218 (dk_at dksX4_execute_0 14 rfl rfl)
theorem dX4_execute_17 : decode cX4_execute 17 = .ok (.aload_n 0, 1) := dk_42 (dk_at dksX4_execute_0 17 rfl rfl)
theorem dX4_execute_18 : decode cX4_execute 18 = .ok (.iconst 0, 1) := dk_3 (dk_at dksX4_execute_0 18 rfl rfl)
theorem dX4_execute_19 : decode cX4_execute 19 = .ok (.putfield 212, 3) := dk_181 0 212 (dk_at dksX4_execute_0 19 rfl rfl)
theorem dX4_execute_22 : decode cX4_execute 22 = .ok (.aload_n 0, 1) := dk_42 (dk_at dksX4_execute_0 22 rfl rfl)
theorem dX4_execute_23 : decode cX4_execute 23 = .ok (.iconst 0, 1) := dk_3 (dk_at dksX4_execute_0 23 rfl rfl)
theorem dX4_execute_24 : decode cX4_execute 24 = .ok (.putfield 242, 3) := dk_181 0 242 (dk_at dksX4_execute_1 0 rfl rfl)
theorem dX4_execute_27 : decode cX4_execute 27 = .ok (.aload_n 0, 1) := dk_42 (dk_at dksX4_execute_1 3 rfl rfl)
theorem dX4_execute_28 : decode cX4_execute 28 = .ok (.iconst 0, 1) := dk_3 (dk_at dksX4_execute_1 4 rfl rfl)
theorem dX4_execute_29 : decode cX4_execute 29 = .ok (.putfield 225, 3) := dk_181 0 225 (dk_at dksX4_execute_1 5 rfl rfl)
theorem dX4_execute_32 : decode cX4_execute 32 = .ok (.aload_n 0, 1) := dk_42 (dk_at dksX4_execute_1 8 rfl rfl)
theorem dX4_execute_33 : decode cX4_execute 33 = .ok (.invokevirtual 268, 3) := dk_182 1 12 (dk_at dksX4_execute_1 9 rfl rfl)
theorem dX4_execute_36 : decode cX4_execute 36 = .ok (.aload_n 0, 1) := dk_42 (dk_at dksX4_execute_1 12 rfl rfl)
theorem dX4_execute_37 : decode cX4_execute 37 = .ok (.getfield 225, 3) := dk_180 0 225 (dk_at dksX4_execute_1 13 rfl rfl)
theorem dX4_execute_40 : decode cX4_execute 40 = .ok (.ifCond .ne 30, 3) := dk_154 0 30 (dk_at dksX4_execute_1 16 rfl rfl)
theorem dX4_execute_43 : decode cX4_execute 43 = .ok (.aload_n 0, 1) := dk_42 (dk_at dksX4_execute_1 19 rfl rfl)
theorem dX4_execute_44 : decode cX4_execute 44 = .ok (.iconst 0, 1) := dk_3 (dk_at dksX4_execute_1 20 rfl rfl)
theorem dX4_execute_45 : decode cX4_execute 45 = .ok (.invokevirtual 229, 3) := dk_182 0 229 (dk_at dksX4_execute_1 21 rfl rfl)
theorem dX4_execute_48 : decode cX4_execute 48 = .ok (.bipush 59, 2) := dk_16 59 (dk_at dksX4_execute_2 0 rfl rfl)
theorem dX4_execute_50 : decode cX4_execute 50 = .ok (.if_icmp .ne 20, 3) := dk_160 0 20 (dk_at dksX4_execute_2 2 rfl rfl)
theorem dX4_execute_53 : decode cX4_execute 53 = .ok (.aload_n 0, 1) := dk_42 (dk_at dksX4_execute_2 5 rfl rfl)
theorem dX4_execute_54 : decode cX4_execute 54 = .ok (.dup, 1) := dk_89 (dk_at dksX4_execute_2 6 rfl rfl)
theorem dX4_execute_55 : decode cX4_execute 55 = .ok (.getfield 215, 3) := dk_180 0 215 (dk_at dksX4_execute_2 7 rfl rfl)
theorem dX4_execute_58 : decode cX4_execute 58 = .ok (.iconst 1, 1) := dk_4 (dk_at dksX4_execute_2 10 rfl rfl)
theorem dX4_execute_59 : decode cX4_execute 59 = .ok (.iadd, 1) := dk_96 (dk_at dksX4_execute_2 11 rfl rfl)
theorem dX4_execute_60 : decode cX4_execute 60 = .ok (.putfield 215, 3) := dk_181 0 215 (dk_at dksX4_execute_2 12 rfl rfl)
theorem dX4_execute_63 : decode cX4_execute 63 = .ok (.aload_n 0, 1) := dk_42 (dk_at dksX4_execute_2 15 rfl rfl)
theorem dX4_execute_64 : decode cX4_execute 64 = .ok (.invokevirtual 268, 3) := dk_182 1 12 (dk_at dksX4_execute_2 16 rfl rfl)
theorem dX4_execute_67 : decode cX4_execute 67 = .ok (.goto (-31), 3) := dk_167 255 225 (dk_at dksX4_execute_2 19 rfl rfl)
theorem dX4_execute_70 : decode cX4_execute 70 = .ok (.aload_n 0, 1) := dk_42 (dk_at dksX4_execute_2 22 rfl rfl)
theorem dX4_execute_71 : decode cX4_execute 71 = .ok (.getfield 225, 3) := dk_180 0 225 (dk_at dksX4_execute_3 0 rfl rfl)
theorem dX4_execute_74 : decode cX4_execute 74 = .ok (.ifCond .ne 14, 3) := dk_154 0 14 (dk_at dksX4_execute_3 3 rfl rfl)
theorem dX4_execute_77 : decode cX4_execute 77 = .ok (.aload_n 0, 1) := dk_42 (dk_at dksX4_execute_3 6 rfl rfl)
theorem dX4_execute_78 : decode cX4_execute 78 = .ok (.getfield 215, 3) := dk_180 0 215 (dk_at dksX4_execute_3 7 rfl rfl)
theorem dX4_execute_81 : decode cX4_execute 81 = .ok (.aload_n 0, 1) := dk_42 (dk_at dksX4_execute_3 10 rfl rfl)
theorem dX4_execute_82 : decode cX4_execute 82 = .ok (.getfield 218, 3) := dk_180 0 218 (dk_at dksX4_execute_3 11 rfl rfl)
theorem dX4_execute_85 : decode cX4_execute 85 = .ok (.if_icmp .ge 17, 3) := dk_162 0 17 (dk_at dksX4_execute_3 14 rfl rfl)
theorem dX4_execute_88 : decode cX4_execute 88 = .ok (.aload_n 0, 1) := dk_42 (dk_at dksX4_execute_3 17 rfl rfl)
theorem dX4_execute_89 : decode cX4_execute 89 = .ok (.aload_n 0, 1) := dk_42 (dk_at dksX4_execute_3 18 rfl rfl)
theorem dX4_execute_90 : decode cX4_execute 90 = .ok (.getfield 215, 3) := dk_180 0 215 (dk_at dksX4_execute_3 19 rfl rfl)
theorem dX4_execute_93 : decode cX4_execute 93 = .ok (.putfield 34, 3) := dk_181 0 34 (dk_at dksX4_execute_4 0 rfl rfl)
theorem dX4_execute_96 : decode cX4_execute 96 = .ok (.aload_n 0, 1) := dk_42 (dk_at dksX4_execute_4 3 rfl rfl)
theorem dX4_execute_97 : decode cX4_execute 97 = .ok (.iconst 1, 1) := dk_4 (dk_at dksX4_execute_4 4 rfl rfl)
theorem dX4_execute_98 : decode cX4_execute 98 = .ok (.invokevirtual 54, 3) := dk_182 0 54 (dk_at dksX4_execute_4 5 rfl rfl)
theorem dX4_execute_101 : decode cX4_execute 101 = .ok (.ireturn, 1) := dk_172 (dk_at dksX4_execute_4 8 rfl rfl)
theorem dX4_execute_102 : decode cX4_execute 102 = .ok (.iconst 0, 1) := dk_3 (dk_at dksX4_execute_4 9 rfl rfl)
theorem dX4_execute_103 : decode cX4_execute 103 = .ok (.istore_n 1, 1) := dk_60 (dk_at dksX4_execute_4 10 rfl rfl)
theorem dX4_execute_104 : decode cX4_execute 104 = .ok (.iload_n 1, 1) := dk_27 (dk_at dksX4_execute_4 11 rfl rfl)
theorem dX4_execute_105 : decode cX4_execute 105 = .ok (.aload_n 0, 1) := dk_42 (dk_at dksX4_execute_4 12 rfl rfl)
theorem dX4_execute_106 : decode cX4_execute 106 = .ok (.getfield 242, 3) := dk_180 0 242 (dk_at dksX4_execute_4 13 rfl rfl)
theorem dX4_execute_109 : decode cX4_execute 109 = .ok (.if_icmp .ge 80, 3) := dk_162 0 80 (dk_at dksX4_execute_4 16 rfl rfl)
theorem dX4_execute_112 : decode cX4_execute 112 = .ok (.aload_n 0, 1) := dk_42 (dk_at dksX4_execute_4 19 rfl rfl)
theorem dX4_execute_113 : decode cX4_execute 113 = .ok (.iload_n 1, 1) := dk_27 (dk_at dksX4_execute_4 20 rfl rfl)
theorem dX4_execute_114 : decode cX4_execute 114 = .ok (.invokevirtual 271, 3) := dk_182 1 15 (dk_at dksX4_execute_4 21 rfl rfl)
theorem dX4_execute_117 : decode cX4_execute 117 = .ok (.istore_n 2, 1) := dk_61 (dk_at dksX4_execute_5 0 rfl rfl)
theorem dX4_execute_118 : decode cX4_execute 118 = .ok (.iload_n 2, 1) := dk_28 (dk_at dksX4_execute_5 1 rfl rfl)
theorem dX4_execute_119 : decode cX4_execute 119 = .ok (.ifCond .ne 6, 3) := dk_154 0 6 (dk_at dksX4_execute_5 2 rfl rfl)
theorem dX4_execute_122 : decode cX4_execute 122 = .ok (.goto 61, 3) := dk_167 0 61 (dk_at dksX4_execute_5 5 rfl rfl)
theorem dX4_execute_125 : decode cX4_execute 125 = .ok (.iconst 0, 1) := dk_3 (dk_at dksX4_execute_5 8 rfl rfl)
theorem dX4_execute_126 : decode cX4_execute 126 = .ok (.istore_n 3, 1) := dk_62 (dk_at dksX4_execute_5 9 rfl rfl)
theorem dX4_execute_127 : decode cX4_execute 127 = .ok (.iload_n 3, 1) := dk_29 (dk_at dksX4_execute_5 10 rfl rfl)
theorem dX4_execute_128 : decode cX4_execute 128 = .ok (.bipush 102, 2) := dk_16 102 (dk_at dksX4_execute_5 11 rfl rfl)
theorem dX4_execute_130 : decode cX4_execute 130 = .ok (.if_icmp .ge 21, 3) := dk_162 0 21 (dk_at dksX4_execute_5 13 rfl rfl)
theorem dX4_execute_133 : decode cX4_execute 133 = .ok (.aload_n 0, 1) := dk_42 (dk_at dksX4_execute_5 16 rfl rfl)
theorem dX4_execute_134 : decode cX4_execute 134 = .ok (.getfield 7, 3) := dk_180 0 7 (dk_at dksX4_execute_5 17 rfl rfl)
theorem dX4_execute_137 : decode cX4_execute 137 = .ok (.iload_n 3, 1) := dk_29 (dk_at dksX4_execute_5 20 rfl rfl)
theorem dX4_execute_138 : decode cX4_execute 138 = .ok (.aload_n 0, 1) := dk_42 (dk_at dksX4_execute_5 21 rfl rfl)
theorem dX4_execute_139 : decode cX4_execute 139 = .ok (.getfield 13, 3) := dk_180 0 13 (dk_at dksX4_execute_6 0 rfl rfl)
theorem dX4_execute_142 : decode cX4_execute 142 = .ok (.iload_n 3, 1) := dk_29 (dk_at dksX4_execute_6 3 rfl rfl)
theorem dX4_execute_143 : decode cX4_execute 143 = .ok (.iaload, 1) := dk_46 (dk_at dksX4_execute_6 4 rfl rfl)
theorem dX4_execute_144 : decode cX4_execute 144 = .ok (.iastore, 1) := dk_79 (dk_at dksX4_execute_6 5 rfl rfl)
theorem dX4_execute_145 : decode cX4_execute 145 = .ok (.iinc 3 1, 3) := dk_132 3 1 (dk_at dksX4_execute_6 6 rfl rfl)
theorem dX4_execute_148 : decode cX4_execute 148 = .ok (.goto (-21), 3) := dk_167 255 235 (dk_at dksX4_execute_6 9 rfl rfl)
theorem dX4_execute_151 : decode cX4_execute 151 = .ok (.iload_n 2, 1) := dk_28 (dk_at dksX4_execute_6 12 rfl rfl)
theorem dX4_execute_152 : decode cX4_execute 152 = .ok (.ifCond .ge 9, 3) := dk_156 0 9 (dk_at dksX4_execute_6 13 rfl rfl)
theorem dX4_execute_155 : decode cX4_execute 155 = .ok (.aload_n 0, 1) := dk_42 (dk_at dksX4_execute_6 16 rfl rfl)
theorem dX4_execute_156 : decode cX4_execute 156 = .ok (.iconst 2, 1) := dk_5 (dk_at dksX4_execute_6 17 rfl rfl)
theorem dX4_execute_157 : decode cX4_execute 157 = .ok (.invokevirtual 54, 3) := dk_182 0 54 (dk_at dksX4_execute_6 18 rfl rfl)
theorem dX4_execute_160 : decode cX4_execute 160 = .ok (.ireturn, 1) := dk_172 (dk_at dksX4_execute_6 21 rfl rfl)
theorem dX4_execute_161 : decode cX4_execute 161 = .ok (.aload_n 0, 1) := dk_42 (dk_at dksX4_execute_6 22 rfl rfl)
theorem dX4_execute_162 : decode cX4_execute 162 = .ok (.bipush 12, 2) := dk_16 12 (dk_at dksX4_execute_7 0 rfl rfl)
theorem dX4_execute_164 : decode cX4_execute 164 = .ok (.putfield 57, 3) := dk_181 0 57 (dk_at dksX4_execute_7 2 rfl rfl)
theorem dX4_execute_167 : decode cX4_execute 167 = .ok (.aload_n 0, 1) := dk_42 (dk_at dksX4_execute_7 5 rfl rfl)
theorem dX4_execute_168 : decode cX4_execute 168 = .ok (.iload_n 1, 1) := dk_27 (dk_at dksX4_execute_7 6 rfl rfl)
theorem dX4_execute_169 : decode cX4_execute 169 = .ok (.putfield 60, 3) := dk_181 0 60 (dk_at dksX4_execute_7 7 rfl rfl)
theorem dX4_execute_172 : decode cX4_execute 172 = .ok (.aload_n 0, 1) := dk_42 (dk_at dksX4_execute_7 10 rfl rfl)
theorem dX4_execute_173 : decode cX4_execute 173 = .ok (.iload_n 2, 1) := dk_28 (dk_at dksX4_execute_7 11 rfl rfl)
theorem dX4_execute_174 : decode cX4_execute 174 = .ok (.putfield 63, 3) := dk_181 0 63 (dk_at dksX4_execute_7 12 rfl rfl)
theorem dX4_execute_177 : decode cX4_execute 177 = .ok (.aload_n 0, 1) := dk_42 (dk_at dksX4_execute_7 15 rfl rfl)
theorem dX4_execute_178 : decode cX4_execute 178 = .ok (.iconst 3, 1) := dk_6 (dk_at dksX4_execute_7 16 rfl rfl)
theorem dX4_execute_179 : decode cX4_execute 179 = .ok (.invokevirtual 54, 3) := dk_182 0 54 (dk_at dksX4_execute_7 17 rfl rfl)
theorem dX4_execute_182 : decode cX4_execute 182 = .ok (.ireturn, 1) := dk_172 (dk_at dksX4_execute_7 20 rfl rfl)
theorem dX4_execute_183 : decode cX4_execute 183 = .ok (.iinc 1 1, 3) := dk_132 1 1 (dk_at dksX4_execute_7 21 rfl rfl)
theorem dX4_execute_186 : decode cX4_execute 186 = .ok (.goto (-82), 3) := dk_167 255 174 (dk_at dksX4_execute_8 0 rfl rfl)
theorem dX4_execute_189 : decode cX4_execute 189 = .ok (.aload_n 0, 1) := dk_42 (dk_at dksX4_execute_8 3 rfl rfl)
theorem dX4_execute_190 : decode cX4_execute 190 = .ok (.aload_n 0, 1) := dk_42 (dk_at dksX4_execute_8 4 rfl rfl)
theorem dX4_execute_191 : decode cX4_execute 191 = .ok (.getfield 242, 3) := dk_180 0 242 (dk_at dksX4_execute_8 5 rfl rfl)
theorem dX4_execute_194 : decode cX4_execute 194 = .ok (.invokevirtual 50, 3) := dk_182 0 50 (dk_at dksX4_execute_8 8 rfl rfl)
theorem dX4_execute_197 : decode cX4_execute 197 = .ok (.ireturn, 1) := dk_172 (dk_at dksX4_execute_8 11 rfl rfl)
abbrev cX4_readsOne : ByteArray := prog_20_method_107_code
def yX4_readsOne : MethodName := ⟨RX4, "readsOne", "()V"⟩
def dkwX4_readsOne_9 : List UInt8 := [180, 0, 242, 4, 96, 181, 0, 242, 177]
abbrev dktX4_readsOne_9 : List UInt8 := dkwX4_readsOne_9 ++ []
def dkwX4_readsOne_8 : List UInt8 := [42, 16, 112, 19, 1, 10, 5, 3, 3, 182, 0, 249, 167, 0, 8, 42, 4, 181, 0, 225, 42, 89]
abbrev dktX4_readsOne_8 : List UInt8 := dkwX4_readsOne_8 ++ dktX4_readsOne_9
def dkwX4_readsOne_7 : List UInt8 := [4, 5, 3, 182, 0, 249, 167, 0, 38, 42, 16, 115, 19, 1, 8, 4, 3, 3, 182, 0, 249, 167, 0, 23]
abbrev dktX4_readsOne_7 : List UInt8 := dkwX4_readsOne_7 ++ dktX4_readsOne_8
def dkwX4_readsOne_6 : List UInt8 := [167, 0, 68, 42, 16, 101, 19, 1, 5, 4, 3, 3, 182, 0, 249, 167, 0, 53, 42, 16, 114, 19, 1, 6]
abbrev dktX4_readsOne_6 : List UInt8 := dkwX4_readsOne_6 ++ dktX4_readsOne_7
def dkwX4_readsOne_5 : List UInt8 := [19, 1, 1, 5, 3, 3, 182, 0, 249, 167, 0, 83, 42, 16, 108, 19, 1, 3, 4, 4, 5, 182, 0, 249]
abbrev dktX4_readsOne_5 : List UInt8 := dkwX4_readsOne_5 ++ dktX4_readsOne_6
def dkwX4_readsOne_4 : List UInt8 := [18, 255, 4, 5, 3, 182, 0, 249, 167, 0, 108, 42, 4, 182, 0, 229, 16, 105, 160, 0, 18, 42, 16, 105]
abbrev dktX4_readsOne_4 : List UInt8 := dkwX4_readsOne_4 ++ dktX4_readsOne_5
def dkwX4_readsOne_3 : List UInt8 := [182, 0, 249, 167, 0, 136, 42, 16, 116, 18, 254, 5, 3, 3, 182, 0, 249, 167, 0, 122, 42, 16, 103]
abbrev dktX4_readsOne_3 : List UInt8 := dkwX4_readsOne_3 ++ dktX4_readsOne_4
def dkwX4_readsOne_2 : List UInt8 := [42, 16, 98, 18, 248, 4, 4, 5, 182, 0, 249, 167, 0, 150, 42, 16, 102, 18, 253, 4, 4, 4]
abbrev dktX4_readsOne_2 : List UInt8 := dkwX4_readsOne_2 ++ dktX4_readsOne_3
def dkwX4_readsOne_1 : List UInt8 := [170, 0, 0, 0, 0, 0, 247, 0, 0, 0, 98, 0, 0, 0, 116, 0, 0, 0, 91, 0, 0, 0, 247, 0, 0, 0, 247, 0, 0, 0, 187, 0, 0, 0, 105, 0, 0, 0, 133, 0, 0, 0, 247, 0, 0, 0, 247, 0, 0, 0, 247, 0, 0, 0, 247, 0, 0, 0, 147, 0, 0, 0, 247, 0, 0, 0, 247, 0, 0, 0, 247, 0, 0, 0, 232, 0, 0, 0, 247, 0, 0, 0, 202, 0, 0, 0, 217, 0, 0, 0, 119]
abbrev dktX4_readsOne_1 : List UInt8 := dkwX4_readsOne_1 ++ dktX4_readsOne_2
def dkwX4_readsOne_0 : List UInt8 := [42, 3, 182, 0, 229]
abbrev dktX4_readsOne_0 : List UInt8 := dkwX4_readsOne_0 ++ dktX4_readsOne_1
theorem dksX4_readsOne_0 : cX4_readsOne.data.toList.drop 0 = dktX4_readsOne_0 := by decide +kernel
theorem dksX4_readsOne_1 : cX4_readsOne.data.toList.drop 5 = dktX4_readsOne_1 := dk_seg dksX4_readsOne_0 5 rfl rfl
theorem dksX4_readsOne_2 : cX4_readsOne.data.toList.drop 96 = dktX4_readsOne_2 := dk_seg dksX4_readsOne_1 91 rfl rfl
theorem dksX4_readsOne_3 : cX4_readsOne.data.toList.drop 118 = dktX4_readsOne_3 := dk_seg dksX4_readsOne_2 22 rfl rfl
theorem dksX4_readsOne_4 : cX4_readsOne.data.toList.drop 141 = dktX4_readsOne_4 := dk_seg dksX4_readsOne_3 23 rfl rfl
theorem dksX4_readsOne_5 : cX4_readsOne.data.toList.drop 165 = dktX4_readsOne_5 := dk_seg dksX4_readsOne_4 24 rfl rfl
theorem dksX4_readsOne_6 : cX4_readsOne.data.toList.drop 189 = dktX4_readsOne_6 := dk_seg dksX4_readsOne_5 24 rfl rfl
theorem dksX4_readsOne_7 : cX4_readsOne.data.toList.drop 213 = dktX4_readsOne_7 := dk_seg dksX4_readsOne_6 24 rfl rfl
theorem dksX4_readsOne_8 : cX4_readsOne.data.toList.drop 237 = dktX4_readsOne_8 := dk_seg dksX4_readsOne_7 24 rfl rfl
theorem dksX4_readsOne_9 : cX4_readsOne.data.toList.drop 259 = dktX4_readsOne_9 := dk_seg dksX4_readsOne_8 22 rfl rfl
theorem dX4_readsOne_0 : decode cX4_readsOne 0 = .ok (.aload_n 0, 1) := dk_42 (dk_at dksX4_readsOne_0 0 rfl rfl)
theorem dX4_readsOne_1 : decode cX4_readsOne 1 = .ok (.iconst 0, 1) := dk_3 (dk_at dksX4_readsOne_0 1 rfl rfl)
theorem dX4_readsOne_2 : decode cX4_readsOne 2 = .ok (.invokevirtual 229, 3) := dk_182 0 229 (dk_at dksX4_readsOne_0 2 rfl rfl)
theorem dX4_readsOne_5 : decode cX4_readsOne 5 = .ok (.tableswitch 247 98 116 #[91, 247, 247, 187, 105, 133, 247, 247, 247, 247, 147, 247, 247, 247, 232, 247, 202, 217, 119], 91) := by decide +kernel
theorem dX4_readsOne_96 : decode cX4_readsOne 96 = .ok (.aload_n 0, 1) := dk_42 (dk_at dksX4_readsOne_2 0 rfl rfl)
theorem dX4_readsOne_97 : decode cX4_readsOne 97 = .ok (.bipush 98, 2) := dk_16 98 (dk_at dksX4_readsOne_2 1 rfl rfl)
theorem dX4_readsOne_99 : decode cX4_readsOne 99 = .ok (.ldc 248, 2) := dk_18 248 (dk_at dksX4_readsOne_2 3 rfl rfl)
theorem dX4_readsOne_101 : decode cX4_readsOne 101 = .ok (.iconst 1, 1) := dk_4 (dk_at dksX4_readsOne_2 5 rfl rfl)
theorem dX4_readsOne_102 : decode cX4_readsOne 102 = .ok (.iconst 1, 1) := dk_4 (dk_at dksX4_readsOne_2 6 rfl rfl)
theorem dX4_readsOne_103 : decode cX4_readsOne 103 = .ok (.iconst 2, 1) := dk_5 (dk_at dksX4_readsOne_2 7 rfl rfl)
theorem dX4_readsOne_104 : decode cX4_readsOne 104 = .ok (.invokevirtual 249, 3) := dk_182 0 249 (dk_at dksX4_readsOne_2 8 rfl rfl)
theorem dX4_readsOne_107 : decode cX4_readsOne 107 = .ok (.goto 150, 3) := dk_167 0 150 (dk_at dksX4_readsOne_2 11 rfl rfl)
theorem dX4_readsOne_110 : decode cX4_readsOne 110 = .ok (.aload_n 0, 1) := dk_42 (dk_at dksX4_readsOne_2 14 rfl rfl)
theorem dX4_readsOne_111 : decode cX4_readsOne 111 = .ok (.bipush 102, 2) := dk_16 102 (dk_at dksX4_readsOne_2 15 rfl rfl)
theorem dX4_readsOne_113 : decode cX4_readsOne 113 = .ok (.ldc 253, 2) := dk_18 253 (dk_at dksX4_readsOne_2 17 rfl rfl)
theorem dX4_readsOne_115 : decode cX4_readsOne 115 = .ok (.iconst 1, 1) := dk_4 (dk_at dksX4_readsOne_2 19 rfl rfl)
theorem dX4_readsOne_116 : decode cX4_readsOne 116 = .ok (.iconst 1, 1) := dk_4 (dk_at dksX4_readsOne_2 20 rfl rfl)
theorem dX4_readsOne_117 : decode cX4_readsOne 117 = .ok (.iconst 1, 1) := dk_4 (dk_at dksX4_readsOne_2 21 rfl rfl)
theorem dX4_readsOne_118 : decode cX4_readsOne 118 = .ok (.invokevirtual 249, 3) := dk_182 0 249 (dk_at dksX4_readsOne_3 0 rfl rfl)
theorem dX4_readsOne_121 : decode cX4_readsOne 121 = .ok (.goto 136, 3) := dk_167 0 136 (dk_at dksX4_readsOne_3 3 rfl rfl)
theorem dX4_readsOne_124 : decode cX4_readsOne 124 = .ok (.aload_n 0, 1) := dk_42 (dk_at dksX4_readsOne_3 6 rfl rfl)
theorem dX4_readsOne_125 : decode cX4_readsOne 125 = .ok (.bipush 116, 2) := dk_16 116 (dk_at dksX4_readsOne_3 7 rfl rfl)
theorem dX4_readsOne_127 : decode cX4_readsOne 127 = .ok (.ldc 254, 2) := dk_18 254 (dk_at dksX4_readsOne_3 9 rfl rfl)
theorem dX4_readsOne_129 : decode cX4_readsOne 129 = .ok (.iconst 2, 1) := dk_5 (dk_at dksX4_readsOne_3 11 rfl rfl)
theorem dX4_readsOne_130 : decode cX4_readsOne 130 = .ok (.iconst 0, 1) := dk_3 (dk_at dksX4_readsOne_3 12 rfl rfl)
theorem dX4_readsOne_131 : decode cX4_readsOne 131 = .ok (.iconst 0, 1) := dk_3 (dk_at dksX4_readsOne_3 13 rfl rfl)
theorem dX4_readsOne_132 : decode cX4_readsOne 132 = .ok (.invokevirtual 249, 3) := dk_182 0 249 (dk_at dksX4_readsOne_3 14 rfl rfl)
theorem dX4_readsOne_135 : decode cX4_readsOne 135 = .ok (.goto 122, 3) := dk_167 0 122 (dk_at dksX4_readsOne_3 17 rfl rfl)
theorem dX4_readsOne_138 : decode cX4_readsOne 138 = .ok (.aload_n 0, 1) := dk_42 (dk_at dksX4_readsOne_3 20 rfl rfl)
theorem dX4_readsOne_139 : decode cX4_readsOne 139 = .ok (.bipush 103, 2) := dk_16 103 (dk_at dksX4_readsOne_3 21 rfl rfl)
theorem dX4_readsOne_141 : decode cX4_readsOne 141 = .ok (.ldc 255, 2) := dk_18 255 (dk_at dksX4_readsOne_4 0 rfl rfl)
theorem dX4_readsOne_143 : decode cX4_readsOne 143 = .ok (.iconst 1, 1) := dk_4 (dk_at dksX4_readsOne_4 2 rfl rfl)
theorem dX4_readsOne_144 : decode cX4_readsOne 144 = .ok (.iconst 2, 1) := dk_5 (dk_at dksX4_readsOne_4 3 rfl rfl)
theorem dX4_readsOne_145 : decode cX4_readsOne 145 = .ok (.iconst 0, 1) := dk_3 (dk_at dksX4_readsOne_4 4 rfl rfl)
theorem dX4_readsOne_146 : decode cX4_readsOne 146 = .ok (.invokevirtual 249, 3) := dk_182 0 249 (dk_at dksX4_readsOne_4 5 rfl rfl)
theorem dX4_readsOne_149 : decode cX4_readsOne 149 = .ok (.goto 108, 3) := dk_167 0 108 (dk_at dksX4_readsOne_4 8 rfl rfl)
theorem dX4_readsOne_152 : decode cX4_readsOne 152 = .ok (.aload_n 0, 1) := dk_42 (dk_at dksX4_readsOne_4 11 rfl rfl)
theorem dX4_readsOne_153 : decode cX4_readsOne 153 = .ok (.iconst 1, 1) := dk_4 (dk_at dksX4_readsOne_4 12 rfl rfl)
theorem dX4_readsOne_154 : decode cX4_readsOne 154 = .ok (.invokevirtual 229, 3) := dk_182 0 229 (dk_at dksX4_readsOne_4 13 rfl rfl)
theorem dX4_readsOne_157 : decode cX4_readsOne 157 = .ok (.bipush 105, 2) := dk_16 105 (dk_at dksX4_readsOne_4 16 rfl rfl)
theorem dX4_readsOne_159 : decode cX4_readsOne 159 = .ok (.if_icmp .ne 18, 3) := dk_160 0 18 (dk_at dksX4_readsOne_4 18 rfl rfl)
theorem dX4_readsOne_162 : decode cX4_readsOne 162 = .ok (.aload_n 0, 1) := dk_42 (dk_at dksX4_readsOne_4 21 rfl rfl)
theorem dX4_readsOne_163 : decode cX4_readsOne 163 = .ok (.bipush 105, 2) := dk_16 105 (dk_at dksX4_readsOne_4 22 rfl rfl)
theorem dX4_readsOne_165 : decode cX4_readsOne 165 = .ok (.ldc_w 257, 3) := dk_19 1 1 (dk_at dksX4_readsOne_5 0 rfl rfl)
theorem dX4_readsOne_168 : decode cX4_readsOne 168 = .ok (.iconst 2, 1) := dk_5 (dk_at dksX4_readsOne_5 3 rfl rfl)
theorem dX4_readsOne_169 : decode cX4_readsOne 169 = .ok (.iconst 0, 1) := dk_3 (dk_at dksX4_readsOne_5 4 rfl rfl)
theorem dX4_readsOne_170 : decode cX4_readsOne 170 = .ok (.iconst 0, 1) := dk_3 (dk_at dksX4_readsOne_5 5 rfl rfl)
theorem dX4_readsOne_171 : decode cX4_readsOne 171 = .ok (.invokevirtual 249, 3) := dk_182 0 249 (dk_at dksX4_readsOne_5 6 rfl rfl)
theorem dX4_readsOne_174 : decode cX4_readsOne 174 = .ok (.goto 83, 3) := dk_167 0 83 (dk_at dksX4_readsOne_5 9 rfl rfl)
theorem dX4_readsOne_177 : decode cX4_readsOne 177 = .ok (.aload_n 0, 1) := dk_42 (dk_at dksX4_readsOne_5 12 rfl rfl)
theorem dX4_readsOne_178 : decode cX4_readsOne 178 = .ok (.bipush 108, 2) := dk_16 108 (dk_at dksX4_readsOne_5 13 rfl rfl)
theorem dX4_readsOne_180 : decode cX4_readsOne 180 = .ok (.ldc_w 259, 3) := dk_19 1 3 (dk_at dksX4_readsOne_5 15 rfl rfl)
theorem dX4_readsOne_183 : decode cX4_readsOne 183 = .ok (.iconst 1, 1) := dk_4 (dk_at dksX4_readsOne_5 18 rfl rfl)
theorem dX4_readsOne_184 : decode cX4_readsOne 184 = .ok (.iconst 1, 1) := dk_4 (dk_at dksX4_readsOne_5 19 rfl rfl)
theorem dX4_readsOne_185 : decode cX4_readsOne 185 = .ok (.iconst 2, 1) := dk_5 (dk_at dksX4_readsOne_5 20 rfl rfl)
theorem dX4_readsOne_186 : decode cX4_readsOne 186 = .ok (.invokevirtual 249, 3) := dk_182 0 249 (dk_at dksX4_readsOne_5 21 rfl rfl)
theorem dX4_readsOne_189 : decode cX4_readsOne 189 = .ok (.goto 68, 3) := dk_167 0 68 (dk_at dksX4_readsOne_6 0 rfl rfl)
theorem dX4_readsOne_192 : decode cX4_readsOne 192 = .ok (.aload_n 0, 1) := dk_42 (dk_at dksX4_readsOne_6 3 rfl rfl)
theorem dX4_readsOne_193 : decode cX4_readsOne 193 = .ok (.bipush 101, 2) := dk_16 101 (dk_at dksX4_readsOne_6 4 rfl rfl)
theorem dX4_readsOne_195 : decode cX4_readsOne 195 = .ok (.ldc_w 261, 3) := dk_19 1 5 (dk_at dksX4_readsOne_6 6 rfl rfl)
theorem dX4_readsOne_198 : decode cX4_readsOne 198 = .ok (.iconst 1, 1) := dk_4 (dk_at dksX4_readsOne_6 9 rfl rfl)
theorem dX4_readsOne_199 : decode cX4_readsOne 199 = .ok (.iconst 0, 1) := dk_3 (dk_at dksX4_readsOne_6 10 rfl rfl)
theorem dX4_readsOne_200 : decode cX4_readsOne 200 = .ok (.iconst 0, 1) := dk_3 (dk_at dksX4_readsOne_6 11 rfl rfl)
theorem dX4_readsOne_201 : decode cX4_readsOne 201 = .ok (.invokevirtual 249, 3) := dk_182 0 249 (dk_at dksX4_readsOne_6 12 rfl rfl)
theorem dX4_readsOne_204 : decode cX4_readsOne 204 = .ok (.goto 53, 3) := dk_167 0 53 (dk_at dksX4_readsOne_6 15 rfl rfl)
theorem dX4_readsOne_207 : decode cX4_readsOne 207 = .ok (.aload_n 0, 1) := dk_42 (dk_at dksX4_readsOne_6 18 rfl rfl)
theorem dX4_readsOne_208 : decode cX4_readsOne 208 = .ok (.bipush 114, 2) := dk_16 114 (dk_at dksX4_readsOne_6 19 rfl rfl)
theorem dX4_readsOne_210 : decode cX4_readsOne 210 = .ok (.ldc_w 262, 3) := dk_19 1 6 (dk_at dksX4_readsOne_6 21 rfl rfl)
theorem dX4_readsOne_213 : decode cX4_readsOne 213 = .ok (.iconst 1, 1) := dk_4 (dk_at dksX4_readsOne_7 0 rfl rfl)
theorem dX4_readsOne_214 : decode cX4_readsOne 214 = .ok (.iconst 2, 1) := dk_5 (dk_at dksX4_readsOne_7 1 rfl rfl)
theorem dX4_readsOne_215 : decode cX4_readsOne 215 = .ok (.iconst 0, 1) := dk_3 (dk_at dksX4_readsOne_7 2 rfl rfl)
theorem dX4_readsOne_216 : decode cX4_readsOne 216 = .ok (.invokevirtual 249, 3) := dk_182 0 249 (dk_at dksX4_readsOne_7 3 rfl rfl)
theorem dX4_readsOne_219 : decode cX4_readsOne 219 = .ok (.goto 38, 3) := dk_167 0 38 (dk_at dksX4_readsOne_7 6 rfl rfl)
theorem dX4_readsOne_222 : decode cX4_readsOne 222 = .ok (.aload_n 0, 1) := dk_42 (dk_at dksX4_readsOne_7 9 rfl rfl)
theorem dX4_readsOne_223 : decode cX4_readsOne 223 = .ok (.bipush 115, 2) := dk_16 115 (dk_at dksX4_readsOne_7 10 rfl rfl)
theorem dX4_readsOne_225 : decode cX4_readsOne 225 = .ok (.ldc_w 264, 3) := dk_19 1 8 (dk_at dksX4_readsOne_7 12 rfl rfl)
theorem dX4_readsOne_228 : decode cX4_readsOne 228 = .ok (.iconst 1, 1) := dk_4 (dk_at dksX4_readsOne_7 15 rfl rfl)
theorem dX4_readsOne_229 : decode cX4_readsOne 229 = .ok (.iconst 0, 1) := dk_3 (dk_at dksX4_readsOne_7 16 rfl rfl)
theorem dX4_readsOne_230 : decode cX4_readsOne 230 = .ok (.iconst 0, 1) := dk_3 (dk_at dksX4_readsOne_7 17 rfl rfl)
theorem dX4_readsOne_231 : decode cX4_readsOne 231 = .ok (.invokevirtual 249, 3) := dk_182 0 249 (dk_at dksX4_readsOne_7 18 rfl rfl)
theorem dX4_readsOne_234 : decode cX4_readsOne 234 = .ok (.goto 23, 3) := dk_167 0 23 (dk_at dksX4_readsOne_7 21 rfl rfl)
theorem dX4_readsOne_237 : decode cX4_readsOne 237 = .ok (.aload_n 0, 1) := dk_42 (dk_at dksX4_readsOne_8 0 rfl rfl)
theorem dX4_readsOne_238 : decode cX4_readsOne 238 = .ok (.bipush 112, 2) := dk_16 112 (dk_at dksX4_readsOne_8 1 rfl rfl)
theorem dX4_readsOne_240 : decode cX4_readsOne 240 = .ok (.ldc_w 266, 3) := dk_19 1 10 (dk_at dksX4_readsOne_8 3 rfl rfl)
theorem dX4_readsOne_243 : decode cX4_readsOne 243 = .ok (.iconst 2, 1) := dk_5 (dk_at dksX4_readsOne_8 6 rfl rfl)
theorem dX4_readsOne_244 : decode cX4_readsOne 244 = .ok (.iconst 0, 1) := dk_3 (dk_at dksX4_readsOne_8 7 rfl rfl)
theorem dX4_readsOne_245 : decode cX4_readsOne 245 = .ok (.iconst 0, 1) := dk_3 (dk_at dksX4_readsOne_8 8 rfl rfl)
theorem dX4_readsOne_246 : decode cX4_readsOne 246 = .ok (.invokevirtual 249, 3) := dk_182 0 249 (dk_at dksX4_readsOne_8 9 rfl rfl)
theorem dX4_readsOne_249 : decode cX4_readsOne 249 = .ok (.goto 8, 3) := dk_167 0 8 (dk_at dksX4_readsOne_8 12 rfl rfl)
theorem dX4_readsOne_252 : decode cX4_readsOne 252 = .ok (.aload_n 0, 1) := dk_42 (dk_at dksX4_readsOne_8 15 rfl rfl)
theorem dX4_readsOne_253 : decode cX4_readsOne 253 = .ok (.iconst 1, 1) := dk_4 (dk_at dksX4_readsOne_8 16 rfl rfl)
theorem dX4_readsOne_254 : decode cX4_readsOne 254 = .ok (.putfield 225, 3) := dk_181 0 225 (dk_at dksX4_readsOne_8 17 rfl rfl)
theorem dX4_readsOne_257 : decode cX4_readsOne 257 = .ok (.aload_n 0, 1) := dk_42 (dk_at dksX4_readsOne_8 20 rfl rfl)
theorem dX4_readsOne_258 : decode cX4_readsOne 258 = .ok (.dup, 1) := dk_89 (dk_at dksX4_readsOne_8 21 rfl rfl)
theorem dX4_readsOne_259 : decode cX4_readsOne 259 = .ok (.getfield 242, 3) := dk_180 0 242 (dk_at dksX4_readsOne_9 0 rfl rfl)
theorem dX4_readsOne_262 : decode cX4_readsOne 262 = .ok (.iconst 1, 1) := dk_4 (dk_at dksX4_readsOne_9 3 rfl rfl)
theorem dX4_readsOne_263 : decode cX4_readsOne 263 = .ok (.iadd, 1) := dk_96 (dk_at dksX4_readsOne_9 4 rfl rfl)
theorem dX4_readsOne_264 : decode cX4_readsOne 264 = .ok (.putfield 242, 3) := dk_181 0 242 (dk_at dksX4_readsOne_9 5 rfl rfl)
theorem dX4_readsOne_267 : decode cX4_readsOne 267 = .ok (.return_, 1) := dk_177 (dk_at dksX4_readsOne_9 8 rfl rfl)
abbrev cX4_here : ByteArray := prog_20_method_103_code
def yX4_here : MethodName := ⟨RX4, "here", "(I)I"⟩
def dkwX4_here_1 : List UInt8 := [167, 0, 4, 2, 172]
abbrev dktX4_here_1 : List UInt8 := dkwX4_here_1 ++ []
def dkwX4_here_0 : List UInt8 := [42, 180, 0, 215, 27, 96, 42, 180, 0, 218, 162, 0, 17, 42, 180, 0, 25, 42, 180, 0, 215, 27, 96, 46]
abbrev dktX4_here_0 : List UInt8 := dkwX4_here_0 ++ dktX4_here_1
theorem dksX4_here_0 : cX4_here.data.toList.drop 0 = dktX4_here_0 := by decide +kernel
theorem dksX4_here_1 : cX4_here.data.toList.drop 24 = dktX4_here_1 := dk_seg dksX4_here_0 24 rfl rfl
theorem dX4_here_0 : decode cX4_here 0 = .ok (.aload_n 0, 1) := dk_42 (dk_at dksX4_here_0 0 rfl rfl)
theorem dX4_here_1 : decode cX4_here 1 = .ok (.getfield 215, 3) := dk_180 0 215 (dk_at dksX4_here_0 1 rfl rfl)
theorem dX4_here_4 : decode cX4_here 4 = .ok (.iload_n 1, 1) := dk_27 (dk_at dksX4_here_0 4 rfl rfl)
theorem dX4_here_5 : decode cX4_here 5 = .ok (.iadd, 1) := dk_96 (dk_at dksX4_here_0 5 rfl rfl)
theorem dX4_here_6 : decode cX4_here 6 = .ok (.aload_n 0, 1) := dk_42 (dk_at dksX4_here_0 6 rfl rfl)
theorem dX4_here_7 : decode cX4_here 7 = .ok (.getfield 218, 3) := dk_180 0 218 (dk_at dksX4_here_0 7 rfl rfl)
theorem dX4_here_10 : decode cX4_here 10 = .ok (.if_icmp .ge 17, 3) := dk_162 0 17 (dk_at dksX4_here_0 10 rfl rfl)
theorem dX4_here_13 : decode cX4_here 13 = .ok (.aload_n 0, 1) := dk_42 (dk_at dksX4_here_0 13 rfl rfl)
theorem dX4_here_14 : decode cX4_here 14 = .ok (.getfield 25, 3) := dk_180 0 25 (dk_at dksX4_here_0 14 rfl rfl)
theorem dX4_here_17 : decode cX4_here 17 = .ok (.aload_n 0, 1) := dk_42 (dk_at dksX4_here_0 17 rfl rfl)
theorem dX4_here_18 : decode cX4_here 18 = .ok (.getfield 215, 3) := dk_180 0 215 (dk_at dksX4_here_0 18 rfl rfl)
theorem dX4_here_21 : decode cX4_here 21 = .ok (.iload_n 1, 1) := dk_27 (dk_at dksX4_here_0 21 rfl rfl)
theorem dX4_here_22 : decode cX4_here 22 = .ok (.iadd, 1) := dk_96 (dk_at dksX4_here_0 22 rfl rfl)
theorem dX4_here_23 : decode cX4_here 23 = .ok (.iaload, 1) := dk_46 (dk_at dksX4_here_0 23 rfl rfl)
theorem dX4_here_24 : decode cX4_here 24 = .ok (.goto 4, 3) := dk_167 0 4 (dk_at dksX4_here_1 0 rfl rfl)
theorem dX4_here_27 : decode cX4_here 27 = .ok (.iconst (-1), 1) := dk_2 (dk_at dksX4_here_1 3 rfl rfl)
theorem dX4_here_28 : decode cX4_here 28 = .ok (.ireturn, 1) := dk_172 (dk_at dksX4_here_1 4 rfl rfl)
abbrev cX4_one : ByteArray := prog_20_method_106_code
def yX4_one : MethodName := ⟨RX4, "one", "(ILjava/lang/String;III)V"⟩
def dkwX4_one_2 : List UInt8 := [177]
abbrev dktX4_one_2 : List UInt8 := dkwX4_one_2 ++ []
def dkwX4_one_1 : List UInt8 := [21, 4, 158, 0, 10, 42, 5, 21, 4, 182, 0, 245, 21, 5, 158, 0, 10, 42, 6, 21, 5, 182, 0, 245]
abbrev dktX4_one_1 : List UInt8 := dkwX4_one_1 ++ dktX4_one_2
def dkwX4_one_0 : List UInt8 := [42, 180, 0, 28, 7, 42, 180, 0, 242, 104, 27, 79, 42, 44, 182, 0, 238, 42, 4, 29, 182, 0, 245]
abbrev dktX4_one_0 : List UInt8 := dkwX4_one_0 ++ dktX4_one_1
theorem dksX4_one_0 : cX4_one.data.toList.drop 0 = dktX4_one_0 := by decide +kernel
theorem dksX4_one_1 : cX4_one.data.toList.drop 23 = dktX4_one_1 := dk_seg dksX4_one_0 23 rfl rfl
theorem dksX4_one_2 : cX4_one.data.toList.drop 47 = dktX4_one_2 := dk_seg dksX4_one_1 24 rfl rfl
theorem dX4_one_0 : decode cX4_one 0 = .ok (.aload_n 0, 1) := dk_42 (dk_at dksX4_one_0 0 rfl rfl)
theorem dX4_one_1 : decode cX4_one 1 = .ok (.getfield 28, 3) := dk_180 0 28 (dk_at dksX4_one_0 1 rfl rfl)
theorem dX4_one_4 : decode cX4_one 4 = .ok (.iconst 4, 1) := dk_7 (dk_at dksX4_one_0 4 rfl rfl)
theorem dX4_one_5 : decode cX4_one 5 = .ok (.aload_n 0, 1) := dk_42 (dk_at dksX4_one_0 5 rfl rfl)
theorem dX4_one_6 : decode cX4_one 6 = .ok (.getfield 242, 3) := dk_180 0 242 (dk_at dksX4_one_0 6 rfl rfl)
theorem dX4_one_9 : decode cX4_one 9 = .ok (.imul, 1) := dk_104 (dk_at dksX4_one_0 9 rfl rfl)
theorem dX4_one_10 : decode cX4_one 10 = .ok (.iload_n 1, 1) := dk_27 (dk_at dksX4_one_0 10 rfl rfl)
theorem dX4_one_11 : decode cX4_one 11 = .ok (.iastore, 1) := dk_79 (dk_at dksX4_one_0 11 rfl rfl)
theorem dX4_one_12 : decode cX4_one 12 = .ok (.aload_n 0, 1) := dk_42 (dk_at dksX4_one_0 12 rfl rfl)
theorem dX4_one_13 : decode cX4_one 13 = .ok (.aload_n 2, 1) := dk_44 (dk_at dksX4_one_0 13 rfl rfl)
theorem dX4_one_14 : decode cX4_one 14 = .ok (.invokevirtual 238, 3) := dk_182 0 238 (dk_at dksX4_one_0 14 rfl rfl)
theorem dX4_one_17 : decode cX4_one 17 = .ok (.aload_n 0, 1) := dk_42 (dk_at dksX4_one_0 17 rfl rfl)
theorem dX4_one_18 : decode cX4_one 18 = .ok (.iconst 1, 1) := dk_4 (dk_at dksX4_one_0 18 rfl rfl)
theorem dX4_one_19 : decode cX4_one 19 = .ok (.iload_n 3, 1) := dk_29 (dk_at dksX4_one_0 19 rfl rfl)
theorem dX4_one_20 : decode cX4_one 20 = .ok (.invokevirtual 245, 3) := dk_182 0 245 (dk_at dksX4_one_0 20 rfl rfl)
theorem dX4_one_23 : decode cX4_one 23 = .ok (.iload 4, 2) := dk_21 4 (dk_at dksX4_one_1 0 rfl rfl)
theorem dX4_one_25 : decode cX4_one 25 = .ok (.ifCond .le 10, 3) := dk_158 0 10 (dk_at dksX4_one_1 2 rfl rfl)
theorem dX4_one_28 : decode cX4_one 28 = .ok (.aload_n 0, 1) := dk_42 (dk_at dksX4_one_1 5 rfl rfl)
theorem dX4_one_29 : decode cX4_one 29 = .ok (.iconst 2, 1) := dk_5 (dk_at dksX4_one_1 6 rfl rfl)
theorem dX4_one_30 : decode cX4_one 30 = .ok (.iload 4, 2) := dk_21 4 (dk_at dksX4_one_1 7 rfl rfl)
theorem dX4_one_32 : decode cX4_one 32 = .ok (.invokevirtual 245, 3) := dk_182 0 245 (dk_at dksX4_one_1 9 rfl rfl)
theorem dX4_one_35 : decode cX4_one 35 = .ok (.iload 5, 2) := dk_21 5 (dk_at dksX4_one_1 12 rfl rfl)
theorem dX4_one_37 : decode cX4_one 37 = .ok (.ifCond .le 10, 3) := dk_158 0 10 (dk_at dksX4_one_1 14 rfl rfl)
theorem dX4_one_40 : decode cX4_one 40 = .ok (.aload_n 0, 1) := dk_42 (dk_at dksX4_one_1 17 rfl rfl)
theorem dX4_one_41 : decode cX4_one 41 = .ok (.iconst 3, 1) := dk_6 (dk_at dksX4_one_1 18 rfl rfl)
theorem dX4_one_42 : decode cX4_one 42 = .ok (.iload 5, 2) := dk_21 5 (dk_at dksX4_one_1 19 rfl rfl)
theorem dX4_one_44 : decode cX4_one 44 = .ok (.invokevirtual 245, 3) := dk_182 0 245 (dk_at dksX4_one_1 21 rfl rfl)
theorem dX4_one_47 : decode cX4_one 47 = .ok (.return_, 1) := dk_177 (dk_at dksX4_one_2 0 rfl rfl)
abbrev cX4_says : ByteArray := prog_20_method_104_code
def yX4_says : MethodName := ⟨RX4, "says", "(Ljava/lang/String;)V"⟩
def dkwX4_says_2 : List UInt8 := [153, 0, 7, 3, 167, 0, 4, 4, 96, 181, 0, 215, 132, 2, 1, 167, 255, 195, 177]
abbrev dktX4_says_2 : List UInt8 := dkwX4_says_2 ++ []
def dkwX4_says_1 : List UInt8 := [28, 182, 0, 232, 159, 0, 7, 4, 167, 0, 4, 3, 181, 0, 225, 42, 89, 180, 0, 215, 42, 180, 0, 225]
abbrev dktX4_says_1 : List UInt8 := dkwX4_says_1 ++ dktX4_says_2
def dkwX4_says_0 : List UInt8 := [3, 61, 28, 43, 182, 0, 221, 162, 0, 59, 42, 180, 0, 225, 154, 0, 52, 42, 42, 3, 182, 0, 229, 43]
abbrev dktX4_says_0 : List UInt8 := dkwX4_says_0 ++ dktX4_says_1
theorem dksX4_says_0 : cX4_says.data.toList.drop 0 = dktX4_says_0 := by decide +kernel
theorem dksX4_says_1 : cX4_says.data.toList.drop 24 = dktX4_says_1 := dk_seg dksX4_says_0 24 rfl rfl
theorem dksX4_says_2 : cX4_says.data.toList.drop 48 = dktX4_says_2 := dk_seg dksX4_says_1 24 rfl rfl
theorem dX4_says_0 : decode cX4_says 0 = .ok (.iconst 0, 1) := dk_3 (dk_at dksX4_says_0 0 rfl rfl)
theorem dX4_says_1 : decode cX4_says 1 = .ok (.istore_n 2, 1) := dk_61 (dk_at dksX4_says_0 1 rfl rfl)
theorem dX4_says_2 : decode cX4_says 2 = .ok (.iload_n 2, 1) := dk_28 (dk_at dksX4_says_0 2 rfl rfl)
theorem dX4_says_3 : decode cX4_says 3 = .ok (.aload_n 1, 1) := dk_43 (dk_at dksX4_says_0 3 rfl rfl)
theorem dX4_says_4 : decode cX4_says 4 = .ok (.invokevirtual 221, 3) := dk_182 0 221 (dk_at dksX4_says_0 4 rfl rfl)
theorem dX4_says_7 : decode cX4_says 7 = .ok (.if_icmp .ge 59, 3) := dk_162 0 59 (dk_at dksX4_says_0 7 rfl rfl)
theorem dX4_says_10 : decode cX4_says 10 = .ok (.aload_n 0, 1) := dk_42 (dk_at dksX4_says_0 10 rfl rfl)
theorem dX4_says_11 : decode cX4_says 11 = .ok (.getfield 225, 3) := dk_180 0 225 (dk_at dksX4_says_0 11 rfl rfl)
theorem dX4_says_14 : decode cX4_says 14 = .ok (.ifCond .ne 52, 3) := dk_154 0 52 (dk_at dksX4_says_0 14 rfl rfl)
theorem dX4_says_17 : decode cX4_says 17 = .ok (.aload_n 0, 1) := dk_42 (dk_at dksX4_says_0 17 rfl rfl)
theorem dX4_says_18 : decode cX4_says 18 = .ok (.aload_n 0, 1) := dk_42 (dk_at dksX4_says_0 18 rfl rfl)
theorem dX4_says_19 : decode cX4_says 19 = .ok (.iconst 0, 1) := dk_3 (dk_at dksX4_says_0 19 rfl rfl)
theorem dX4_says_20 : decode cX4_says 20 = .ok (.invokevirtual 229, 3) := dk_182 0 229 (dk_at dksX4_says_0 20 rfl rfl)
theorem dX4_says_23 : decode cX4_says 23 = .ok (.aload_n 1, 1) := dk_43 (dk_at dksX4_says_0 23 rfl rfl)
theorem dX4_says_24 : decode cX4_says 24 = .ok (.iload_n 2, 1) := dk_28 (dk_at dksX4_says_1 0 rfl rfl)
theorem dX4_says_25 : decode cX4_says 25 = .ok (.invokevirtual 232, 3) := dk_182 0 232 (dk_at dksX4_says_1 1 rfl rfl)
theorem dX4_says_28 : decode cX4_says 28 = .ok (.if_icmp .eq 7, 3) := dk_159 0 7 (dk_at dksX4_says_1 4 rfl rfl)
theorem dX4_says_31 : decode cX4_says 31 = .ok (.iconst 1, 1) := dk_4 (dk_at dksX4_says_1 7 rfl rfl)
theorem dX4_says_32 : decode cX4_says 32 = .ok (.goto 4, 3) := dk_167 0 4 (dk_at dksX4_says_1 8 rfl rfl)
theorem dX4_says_35 : decode cX4_says 35 = .ok (.iconst 0, 1) := dk_3 (dk_at dksX4_says_1 11 rfl rfl)
theorem dX4_says_36 : decode cX4_says 36 = .ok (.putfield 225, 3) := dk_181 0 225 (dk_at dksX4_says_1 12 rfl rfl)
theorem dX4_says_39 : decode cX4_says 39 = .ok (.aload_n 0, 1) := dk_42 (dk_at dksX4_says_1 15 rfl rfl)
theorem dX4_says_40 : decode cX4_says 40 = .ok (.dup, 1) := dk_89 (dk_at dksX4_says_1 16 rfl rfl)
theorem dX4_says_41 : decode cX4_says 41 = .ok (.getfield 215, 3) := dk_180 0 215 (dk_at dksX4_says_1 17 rfl rfl)
theorem dX4_says_44 : decode cX4_says 44 = .ok (.aload_n 0, 1) := dk_42 (dk_at dksX4_says_1 20 rfl rfl)
theorem dX4_says_45 : decode cX4_says 45 = .ok (.getfield 225, 3) := dk_180 0 225 (dk_at dksX4_says_1 21 rfl rfl)
theorem dX4_says_48 : decode cX4_says 48 = .ok (.ifCond .eq 7, 3) := dk_153 0 7 (dk_at dksX4_says_2 0 rfl rfl)
theorem dX4_says_51 : decode cX4_says 51 = .ok (.iconst 0, 1) := dk_3 (dk_at dksX4_says_2 3 rfl rfl)
theorem dX4_says_52 : decode cX4_says 52 = .ok (.goto 4, 3) := dk_167 0 4 (dk_at dksX4_says_2 4 rfl rfl)
theorem dX4_says_55 : decode cX4_says 55 = .ok (.iconst 1, 1) := dk_4 (dk_at dksX4_says_2 7 rfl rfl)
theorem dX4_says_56 : decode cX4_says 56 = .ok (.iadd, 1) := dk_96 (dk_at dksX4_says_2 8 rfl rfl)
theorem dX4_says_57 : decode cX4_says 57 = .ok (.putfield 215, 3) := dk_181 0 215 (dk_at dksX4_says_2 9 rfl rfl)
theorem dX4_says_60 : decode cX4_says 60 = .ok (.iinc 2 1, 3) := dk_132 2 1 (dk_at dksX4_says_2 12 rfl rfl)
theorem dX4_says_63 : decode cX4_says 63 = .ok (.goto (-61), 3) := dk_167 255 195 (dk_at dksX4_says_2 15 rfl rfl)
theorem dX4_says_66 : decode cX4_says 66 = .ok (.return_, 1) := dk_177 (dk_at dksX4_says_2 18 rfl rfl)
abbrev cX4_number : ByteArray := prog_20_method_105_code
def yX4_number : MethodName := ⟨RX4, "number", "(II)V"⟩
def dkwX4_number_4 : List UInt8 := [42, 180, 0, 242, 104, 27, 96, 29, 79, 177]
abbrev dktX4_number_4 : List UInt8 := dkwX4_number_4 ++ []
def dkwX4_number_3 : List UInt8 := [180, 0, 225, 154, 0, 8, 21, 4, 154, 0, 7, 4, 167, 0, 4, 3, 181, 0, 225, 42, 180, 0, 28, 7]
abbrev dktX4_number_3 : List UInt8 := dkwX4_number_3 ++ dktX4_number_4
def dkwX4_number_2 : List UInt8 := [96, 16, 48, 100, 62, 42, 89, 180, 0, 215, 4, 96, 181, 0, 215, 132, 4, 1, 167, 255, 201, 42, 42]
abbrev dktX4_number_2 : List UInt8 := dkwX4_number_2 ++ dktX4_number_3
def dkwX4_number_1 : List UInt8 := [42, 3, 182, 0, 229, 16, 48, 16, 57, 184, 0, 66, 153, 0, 33, 16, 10, 29, 104, 42, 3, 182, 0, 229]
abbrev dktX4_number_1 : List UInt8 := dkwX4_number_1 ++ dktX4_number_2
def dkwX4_number_0 : List UInt8 := [42, 18, 236, 182, 0, 238, 3, 62, 3, 54, 4, 42, 180, 0, 225, 154, 0, 54, 21, 4, 28, 162, 0, 48]
abbrev dktX4_number_0 : List UInt8 := dkwX4_number_0 ++ dktX4_number_1
theorem dksX4_number_0 : cX4_number.data.toList.drop 0 = dktX4_number_0 := by decide +kernel
theorem dksX4_number_1 : cX4_number.data.toList.drop 24 = dktX4_number_1 := dk_seg dksX4_number_0 24 rfl rfl
theorem dksX4_number_2 : cX4_number.data.toList.drop 48 = dktX4_number_2 := dk_seg dksX4_number_1 24 rfl rfl
theorem dksX4_number_3 : cX4_number.data.toList.drop 71 = dktX4_number_3 := dk_seg dksX4_number_2 23 rfl rfl
theorem dksX4_number_4 : cX4_number.data.toList.drop 95 = dktX4_number_4 := dk_seg dksX4_number_3 24 rfl rfl
theorem dX4_number_0 : decode cX4_number 0 = .ok (.aload_n 0, 1) := dk_42 (dk_at dksX4_number_0 0 rfl rfl)
theorem dX4_number_1 : decode cX4_number 1 = .ok (.ldc 236, 2) := dk_18 236 (dk_at dksX4_number_0 1 rfl rfl)
theorem dX4_number_3 : decode cX4_number 3 = .ok (.invokevirtual 238, 3) := dk_182 0 238 (dk_at dksX4_number_0 3 rfl rfl)
theorem dX4_number_6 : decode cX4_number 6 = .ok (.iconst 0, 1) := dk_3 (dk_at dksX4_number_0 6 rfl rfl)
theorem dX4_number_7 : decode cX4_number 7 = .ok (.istore_n 3, 1) := dk_62 (dk_at dksX4_number_0 7 rfl rfl)
theorem dX4_number_8 : decode cX4_number 8 = .ok (.iconst 0, 1) := dk_3 (dk_at dksX4_number_0 8 rfl rfl)
theorem dX4_number_9 : decode cX4_number 9 = .ok (.istore 4, 2) := dk_54 4 (dk_at dksX4_number_0 9 rfl rfl)
theorem dX4_number_11 : decode cX4_number 11 = .ok (.aload_n 0, 1) := dk_42 (dk_at dksX4_number_0 11 rfl rfl)
theorem dX4_number_12 : decode cX4_number 12 = .ok (.getfield 225, 3) := dk_180 0 225 (dk_at dksX4_number_0 12 rfl rfl)
theorem dX4_number_15 : decode cX4_number 15 = .ok (.ifCond .ne 54, 3) := dk_154 0 54 (dk_at dksX4_number_0 15 rfl rfl)
theorem dX4_number_18 : decode cX4_number 18 = .ok (.iload 4, 2) := dk_21 4 (dk_at dksX4_number_0 18 rfl rfl)
theorem dX4_number_20 : decode cX4_number 20 = .ok (.iload_n 2, 1) := dk_28 (dk_at dksX4_number_0 20 rfl rfl)
theorem dX4_number_21 : decode cX4_number 21 = .ok (.if_icmp .ge 48, 3) := dk_162 0 48 (dk_at dksX4_number_0 21 rfl rfl)
theorem dX4_number_24 : decode cX4_number 24 = .ok (.aload_n 0, 1) := dk_42 (dk_at dksX4_number_1 0 rfl rfl)
theorem dX4_number_25 : decode cX4_number 25 = .ok (.iconst 0, 1) := dk_3 (dk_at dksX4_number_1 1 rfl rfl)
theorem dX4_number_26 : decode cX4_number 26 = .ok (.invokevirtual 229, 3) := dk_182 0 229 (dk_at dksX4_number_1 2 rfl rfl)
theorem dX4_number_29 : decode cX4_number 29 = .ok (.bipush 48, 2) := dk_16 48 (dk_at dksX4_number_1 5 rfl rfl)
theorem dX4_number_31 : decode cX4_number 31 = .ok (.bipush 57, 2) := dk_16 57 (dk_at dksX4_number_1 7 rfl rfl)
theorem dX4_number_33 : decode cX4_number 33 = .ok (.invokestatic 66, 3) := dk_184 0 66 (dk_at dksX4_number_1 9 rfl rfl)
theorem dX4_number_36 : decode cX4_number 36 = .ok (.ifCond .eq 33, 3) := dk_153 0 33 (dk_at dksX4_number_1 12 rfl rfl)
theorem dX4_number_39 : decode cX4_number 39 = .ok (.bipush 10, 2) := dk_16 10 (dk_at dksX4_number_1 15 rfl rfl)
theorem dX4_number_41 : decode cX4_number 41 = .ok (.iload_n 3, 1) := dk_29 (dk_at dksX4_number_1 17 rfl rfl)
theorem dX4_number_42 : decode cX4_number 42 = .ok (.imul, 1) := dk_104 (dk_at dksX4_number_1 18 rfl rfl)
theorem dX4_number_43 : decode cX4_number 43 = .ok (.aload_n 0, 1) := dk_42 (dk_at dksX4_number_1 19 rfl rfl)
theorem dX4_number_44 : decode cX4_number 44 = .ok (.iconst 0, 1) := dk_3 (dk_at dksX4_number_1 20 rfl rfl)
theorem dX4_number_45 : decode cX4_number 45 = .ok (.invokevirtual 229, 3) := dk_182 0 229 (dk_at dksX4_number_1 21 rfl rfl)
theorem dX4_number_48 : decode cX4_number 48 = .ok (.iadd, 1) := dk_96 (dk_at dksX4_number_2 0 rfl rfl)
theorem dX4_number_49 : decode cX4_number 49 = .ok (.bipush 48, 2) := dk_16 48 (dk_at dksX4_number_2 1 rfl rfl)
theorem dX4_number_51 : decode cX4_number 51 = .ok (.isub, 1) := dk_100 (dk_at dksX4_number_2 3 rfl rfl)
theorem dX4_number_52 : decode cX4_number 52 = .ok (.istore_n 3, 1) := dk_62 (dk_at dksX4_number_2 4 rfl rfl)
theorem dX4_number_53 : decode cX4_number 53 = .ok (.aload_n 0, 1) := dk_42 (dk_at dksX4_number_2 5 rfl rfl)
theorem dX4_number_54 : decode cX4_number 54 = .ok (.dup, 1) := dk_89 (dk_at dksX4_number_2 6 rfl rfl)
theorem dX4_number_55 : decode cX4_number 55 = .ok (.getfield 215, 3) := dk_180 0 215 (dk_at dksX4_number_2 7 rfl rfl)
theorem dX4_number_58 : decode cX4_number 58 = .ok (.iconst 1, 1) := dk_4 (dk_at dksX4_number_2 10 rfl rfl)
theorem dX4_number_59 : decode cX4_number 59 = .ok (.iadd, 1) := dk_96 (dk_at dksX4_number_2 11 rfl rfl)
theorem dX4_number_60 : decode cX4_number 60 = .ok (.putfield 215, 3) := dk_181 0 215 (dk_at dksX4_number_2 12 rfl rfl)
theorem dX4_number_63 : decode cX4_number 63 = .ok (.iinc 4 1, 3) := dk_132 4 1 (dk_at dksX4_number_2 15 rfl rfl)
theorem dX4_number_66 : decode cX4_number 66 = .ok (.goto (-55), 3) := dk_167 255 201 (dk_at dksX4_number_2 18 rfl rfl)
theorem dX4_number_69 : decode cX4_number 69 = .ok (.aload_n 0, 1) := dk_42 (dk_at dksX4_number_2 21 rfl rfl)
theorem dX4_number_70 : decode cX4_number 70 = .ok (.aload_n 0, 1) := dk_42 (dk_at dksX4_number_2 22 rfl rfl)
theorem dX4_number_71 : decode cX4_number 71 = .ok (.getfield 225, 3) := dk_180 0 225 (dk_at dksX4_number_3 0 rfl rfl)
theorem dX4_number_74 : decode cX4_number 74 = .ok (.ifCond .ne 8, 3) := dk_154 0 8 (dk_at dksX4_number_3 3 rfl rfl)
theorem dX4_number_77 : decode cX4_number 77 = .ok (.iload 4, 2) := dk_21 4 (dk_at dksX4_number_3 6 rfl rfl)
theorem dX4_number_79 : decode cX4_number 79 = .ok (.ifCond .ne 7, 3) := dk_154 0 7 (dk_at dksX4_number_3 8 rfl rfl)
theorem dX4_number_82 : decode cX4_number 82 = .ok (.iconst 1, 1) := dk_4 (dk_at dksX4_number_3 11 rfl rfl)
theorem dX4_number_83 : decode cX4_number 83 = .ok (.goto 4, 3) := dk_167 0 4 (dk_at dksX4_number_3 12 rfl rfl)
theorem dX4_number_86 : decode cX4_number 86 = .ok (.iconst 0, 1) := dk_3 (dk_at dksX4_number_3 15 rfl rfl)
theorem dX4_number_87 : decode cX4_number 87 = .ok (.putfield 225, 3) := dk_181 0 225 (dk_at dksX4_number_3 16 rfl rfl)
theorem dX4_number_90 : decode cX4_number 90 = .ok (.aload_n 0, 1) := dk_42 (dk_at dksX4_number_3 19 rfl rfl)
theorem dX4_number_91 : decode cX4_number 91 = .ok (.getfield 28, 3) := dk_180 0 28 (dk_at dksX4_number_3 20 rfl rfl)
theorem dX4_number_94 : decode cX4_number 94 = .ok (.iconst 4, 1) := dk_7 (dk_at dksX4_number_3 23 rfl rfl)
theorem dX4_number_95 : decode cX4_number 95 = .ok (.aload_n 0, 1) := dk_42 (dk_at dksX4_number_4 0 rfl rfl)
theorem dX4_number_96 : decode cX4_number 96 = .ok (.getfield 242, 3) := dk_180 0 242 (dk_at dksX4_number_4 1 rfl rfl)
theorem dX4_number_99 : decode cX4_number 99 = .ok (.imul, 1) := dk_104 (dk_at dksX4_number_4 4 rfl rfl)
theorem dX4_number_100 : decode cX4_number 100 = .ok (.iload_n 1, 1) := dk_27 (dk_at dksX4_number_4 5 rfl rfl)
theorem dX4_number_101 : decode cX4_number 101 = .ok (.iadd, 1) := dk_96 (dk_at dksX4_number_4 6 rfl rfl)
theorem dX4_number_102 : decode cX4_number 102 = .ok (.iload_n 3, 1) := dk_29 (dk_at dksX4_number_4 7 rfl rfl)
theorem dX4_number_103 : decode cX4_number 103 = .ok (.iastore, 1) := dk_79 (dk_at dksX4_number_4 8 rfl rfl)
theorem dX4_number_104 : decode cX4_number 104 = .ok (.return_, 1) := dk_177 (dk_at dksX4_number_4 9 rfl rfl)
abbrev cX4_does : ByteArray := prog_20_method_108_code
def yX4_does : MethodName := ⟨RX4, "does", "(I)I"⟩
def dkwX4_does_5 : List UInt8 := [182, 0, 177, 172, 42, 28, 29, 182, 0, 180, 172, 42, 28, 182, 0, 153, 172, 42, 28, 182, 0, 186, 172]
abbrev dktX4_does_5 : List UInt8 := dkwX4_does_5 ++ []
def dkwX4_does_4 : List UInt8 := [42, 28, 29, 182, 0, 168, 172, 42, 28, 182, 0, 156, 172, 42, 28, 29, 21, 4, 182, 0, 174, 172, 42, 28]
abbrev dktX4_does_4 : List UInt8 := dkwX4_does_4 ++ dktX4_does_5
def dkwX4_does_3 : List UInt8 := [42, 28, 29, 21, 4, 182, 0, 137, 172, 42, 28, 29, 21, 4, 182, 0, 147, 172, 42, 28, 182, 0, 165, 172]
abbrev dktX4_does_3 : List UInt8 := dkwX4_does_3 ++ dktX4_does_4
def dkwX4_does_2 : List UInt8 := [170, 0, 0, 0, 0, 155, 0, 0, 0, 98, 0, 0, 0, 116, 0, 0, 0, 90, 0, 0, 0, 155, 0, 0, 0, 155, 0, 0, 0, 136, 0, 0, 0, 99, 0, 0, 0, 114, 0, 0, 0, 155, 0, 0, 0, 121, 0, 0, 0, 155, 0, 0, 0, 155, 0, 0, 0, 127, 0, 0, 0, 155, 0, 0, 0, 155, 0, 0, 0, 155, 0, 0, 0, 155, 0, 0, 0, 155, 0, 0, 0, 142, 0, 0, 0, 149, 0, 0, 0, 108]
abbrev dktX4_does_2 : List UInt8 := dkwX4_does_2 ++ dktX4_does_3
def dkwX4_does_1 : List UInt8 := [180, 0, 28, 7, 27, 104, 6, 96, 46, 54, 4, 42, 180, 0, 28, 7, 27, 104, 46]
abbrev dktX4_does_1 : List UInt8 := dkwX4_does_1 ++ dktX4_does_2
def dkwX4_does_0 : List UInt8 := [42, 180, 0, 28, 7, 27, 104, 4, 96, 46, 61, 42, 180, 0, 28, 7, 27, 104, 5, 96, 46, 62, 42]
abbrev dktX4_does_0 : List UInt8 := dkwX4_does_0 ++ dktX4_does_1
theorem dksX4_does_0 : cX4_does.data.toList.drop 0 = dktX4_does_0 := by decide +kernel
theorem dksX4_does_1 : cX4_does.data.toList.drop 23 = dktX4_does_1 := dk_seg dksX4_does_0 23 rfl rfl
theorem dksX4_does_2 : cX4_does.data.toList.drop 42 = dktX4_does_2 := dk_seg dksX4_does_1 19 rfl rfl
theorem dksX4_does_3 : cX4_does.data.toList.drop 132 = dktX4_does_3 := dk_seg dksX4_does_2 90 rfl rfl
theorem dksX4_does_4 : cX4_does.data.toList.drop 156 = dktX4_does_4 := dk_seg dksX4_does_3 24 rfl rfl
theorem dksX4_does_5 : cX4_does.data.toList.drop 180 = dktX4_does_5 := dk_seg dksX4_does_4 24 rfl rfl
theorem dX4_does_0 : decode cX4_does 0 = .ok (.aload_n 0, 1) := dk_42 (dk_at dksX4_does_0 0 rfl rfl)
theorem dX4_does_1 : decode cX4_does 1 = .ok (.getfield 28, 3) := dk_180 0 28 (dk_at dksX4_does_0 1 rfl rfl)
theorem dX4_does_4 : decode cX4_does 4 = .ok (.iconst 4, 1) := dk_7 (dk_at dksX4_does_0 4 rfl rfl)
theorem dX4_does_5 : decode cX4_does 5 = .ok (.iload_n 1, 1) := dk_27 (dk_at dksX4_does_0 5 rfl rfl)
theorem dX4_does_6 : decode cX4_does 6 = .ok (.imul, 1) := dk_104 (dk_at dksX4_does_0 6 rfl rfl)
theorem dX4_does_7 : decode cX4_does 7 = .ok (.iconst 1, 1) := dk_4 (dk_at dksX4_does_0 7 rfl rfl)
theorem dX4_does_8 : decode cX4_does 8 = .ok (.iadd, 1) := dk_96 (dk_at dksX4_does_0 8 rfl rfl)
theorem dX4_does_9 : decode cX4_does 9 = .ok (.iaload, 1) := dk_46 (dk_at dksX4_does_0 9 rfl rfl)
theorem dX4_does_10 : decode cX4_does 10 = .ok (.istore_n 2, 1) := dk_61 (dk_at dksX4_does_0 10 rfl rfl)
theorem dX4_does_11 : decode cX4_does 11 = .ok (.aload_n 0, 1) := dk_42 (dk_at dksX4_does_0 11 rfl rfl)
theorem dX4_does_12 : decode cX4_does 12 = .ok (.getfield 28, 3) := dk_180 0 28 (dk_at dksX4_does_0 12 rfl rfl)
theorem dX4_does_15 : decode cX4_does 15 = .ok (.iconst 4, 1) := dk_7 (dk_at dksX4_does_0 15 rfl rfl)
theorem dX4_does_16 : decode cX4_does 16 = .ok (.iload_n 1, 1) := dk_27 (dk_at dksX4_does_0 16 rfl rfl)
theorem dX4_does_17 : decode cX4_does 17 = .ok (.imul, 1) := dk_104 (dk_at dksX4_does_0 17 rfl rfl)
theorem dX4_does_18 : decode cX4_does 18 = .ok (.iconst 2, 1) := dk_5 (dk_at dksX4_does_0 18 rfl rfl)
theorem dX4_does_19 : decode cX4_does 19 = .ok (.iadd, 1) := dk_96 (dk_at dksX4_does_0 19 rfl rfl)
theorem dX4_does_20 : decode cX4_does 20 = .ok (.iaload, 1) := dk_46 (dk_at dksX4_does_0 20 rfl rfl)
theorem dX4_does_21 : decode cX4_does 21 = .ok (.istore_n 3, 1) := dk_62 (dk_at dksX4_does_0 21 rfl rfl)
theorem dX4_does_22 : decode cX4_does 22 = .ok (.aload_n 0, 1) := dk_42 (dk_at dksX4_does_0 22 rfl rfl)
theorem dX4_does_23 : decode cX4_does 23 = .ok (.getfield 28, 3) := dk_180 0 28 (dk_at dksX4_does_1 0 rfl rfl)
theorem dX4_does_26 : decode cX4_does 26 = .ok (.iconst 4, 1) := dk_7 (dk_at dksX4_does_1 3 rfl rfl)
theorem dX4_does_27 : decode cX4_does 27 = .ok (.iload_n 1, 1) := dk_27 (dk_at dksX4_does_1 4 rfl rfl)
theorem dX4_does_28 : decode cX4_does 28 = .ok (.imul, 1) := dk_104 (dk_at dksX4_does_1 5 rfl rfl)
theorem dX4_does_29 : decode cX4_does 29 = .ok (.iconst 3, 1) := dk_6 (dk_at dksX4_does_1 6 rfl rfl)
theorem dX4_does_30 : decode cX4_does 30 = .ok (.iadd, 1) := dk_96 (dk_at dksX4_does_1 7 rfl rfl)
theorem dX4_does_31 : decode cX4_does 31 = .ok (.iaload, 1) := dk_46 (dk_at dksX4_does_1 8 rfl rfl)
theorem dX4_does_32 : decode cX4_does 32 = .ok (.istore 4, 2) := dk_54 4 (dk_at dksX4_does_1 9 rfl rfl)
theorem dX4_does_34 : decode cX4_does 34 = .ok (.aload_n 0, 1) := dk_42 (dk_at dksX4_does_1 11 rfl rfl)
theorem dX4_does_35 : decode cX4_does 35 = .ok (.getfield 28, 3) := dk_180 0 28 (dk_at dksX4_does_1 12 rfl rfl)
theorem dX4_does_38 : decode cX4_does 38 = .ok (.iconst 4, 1) := dk_7 (dk_at dksX4_does_1 15 rfl rfl)
theorem dX4_does_39 : decode cX4_does 39 = .ok (.iload_n 1, 1) := dk_27 (dk_at dksX4_does_1 16 rfl rfl)
theorem dX4_does_40 : decode cX4_does 40 = .ok (.imul, 1) := dk_104 (dk_at dksX4_does_1 17 rfl rfl)
theorem dX4_does_41 : decode cX4_does 41 = .ok (.iaload, 1) := dk_46 (dk_at dksX4_does_1 18 rfl rfl)
theorem dX4_does_42 : decode cX4_does 42 = .ok (.tableswitch 155 98 116 #[90, 155, 155, 136, 99, 114, 155, 121, 155, 155, 127, 155, 155, 155, 155, 155, 142, 149, 108], 90) := by decide +kernel
theorem dX4_does_132 : decode cX4_does 132 = .ok (.aload_n 0, 1) := dk_42 (dk_at dksX4_does_3 0 rfl rfl)
theorem dX4_does_133 : decode cX4_does 133 = .ok (.iload_n 2, 1) := dk_28 (dk_at dksX4_does_3 1 rfl rfl)
theorem dX4_does_134 : decode cX4_does 134 = .ok (.iload_n 3, 1) := dk_29 (dk_at dksX4_does_3 2 rfl rfl)
theorem dX4_does_135 : decode cX4_does 135 = .ok (.iload 4, 2) := dk_21 4 (dk_at dksX4_does_3 3 rfl rfl)
theorem dX4_does_137 : decode cX4_does 137 = .ok (.invokevirtual 137, 3) := dk_182 0 137 (dk_at dksX4_does_3 5 rfl rfl)
theorem dX4_does_140 : decode cX4_does 140 = .ok (.ireturn, 1) := dk_172 (dk_at dksX4_does_3 8 rfl rfl)
theorem dX4_does_141 : decode cX4_does 141 = .ok (.aload_n 0, 1) := dk_42 (dk_at dksX4_does_3 9 rfl rfl)
theorem dX4_does_142 : decode cX4_does 142 = .ok (.iload_n 2, 1) := dk_28 (dk_at dksX4_does_3 10 rfl rfl)
theorem dX4_does_143 : decode cX4_does 143 = .ok (.iload_n 3, 1) := dk_29 (dk_at dksX4_does_3 11 rfl rfl)
theorem dX4_does_144 : decode cX4_does 144 = .ok (.iload 4, 2) := dk_21 4 (dk_at dksX4_does_3 12 rfl rfl)
theorem dX4_does_146 : decode cX4_does 146 = .ok (.invokevirtual 147, 3) := dk_182 0 147 (dk_at dksX4_does_3 14 rfl rfl)
theorem dX4_does_149 : decode cX4_does 149 = .ok (.ireturn, 1) := dk_172 (dk_at dksX4_does_3 17 rfl rfl)
theorem dX4_does_150 : decode cX4_does 150 = .ok (.aload_n 0, 1) := dk_42 (dk_at dksX4_does_3 18 rfl rfl)
theorem dX4_does_151 : decode cX4_does 151 = .ok (.iload_n 2, 1) := dk_28 (dk_at dksX4_does_3 19 rfl rfl)
theorem dX4_does_152 : decode cX4_does 152 = .ok (.invokevirtual 165, 3) := dk_182 0 165 (dk_at dksX4_does_3 20 rfl rfl)
theorem dX4_does_155 : decode cX4_does 155 = .ok (.ireturn, 1) := dk_172 (dk_at dksX4_does_3 23 rfl rfl)
theorem dX4_does_156 : decode cX4_does 156 = .ok (.aload_n 0, 1) := dk_42 (dk_at dksX4_does_4 0 rfl rfl)
theorem dX4_does_157 : decode cX4_does 157 = .ok (.iload_n 2, 1) := dk_28 (dk_at dksX4_does_4 1 rfl rfl)
theorem dX4_does_158 : decode cX4_does 158 = .ok (.iload_n 3, 1) := dk_29 (dk_at dksX4_does_4 2 rfl rfl)
theorem dX4_does_159 : decode cX4_does 159 = .ok (.invokevirtual 168, 3) := dk_182 0 168 (dk_at dksX4_does_4 3 rfl rfl)
theorem dX4_does_162 : decode cX4_does 162 = .ok (.ireturn, 1) := dk_172 (dk_at dksX4_does_4 6 rfl rfl)
theorem dX4_does_163 : decode cX4_does 163 = .ok (.aload_n 0, 1) := dk_42 (dk_at dksX4_does_4 7 rfl rfl)
theorem dX4_does_164 : decode cX4_does 164 = .ok (.iload_n 2, 1) := dk_28 (dk_at dksX4_does_4 8 rfl rfl)
theorem dX4_does_165 : decode cX4_does 165 = .ok (.invokevirtual 156, 3) := dk_182 0 156 (dk_at dksX4_does_4 9 rfl rfl)
theorem dX4_does_168 : decode cX4_does 168 = .ok (.ireturn, 1) := dk_172 (dk_at dksX4_does_4 12 rfl rfl)
theorem dX4_does_169 : decode cX4_does 169 = .ok (.aload_n 0, 1) := dk_42 (dk_at dksX4_does_4 13 rfl rfl)
theorem dX4_does_170 : decode cX4_does 170 = .ok (.iload_n 2, 1) := dk_28 (dk_at dksX4_does_4 14 rfl rfl)
theorem dX4_does_171 : decode cX4_does 171 = .ok (.iload_n 3, 1) := dk_29 (dk_at dksX4_does_4 15 rfl rfl)
theorem dX4_does_172 : decode cX4_does 172 = .ok (.iload 4, 2) := dk_21 4 (dk_at dksX4_does_4 16 rfl rfl)
theorem dX4_does_174 : decode cX4_does 174 = .ok (.invokevirtual 174, 3) := dk_182 0 174 (dk_at dksX4_does_4 18 rfl rfl)
theorem dX4_does_177 : decode cX4_does 177 = .ok (.ireturn, 1) := dk_172 (dk_at dksX4_does_4 21 rfl rfl)
theorem dX4_does_178 : decode cX4_does 178 = .ok (.aload_n 0, 1) := dk_42 (dk_at dksX4_does_4 22 rfl rfl)
theorem dX4_does_179 : decode cX4_does 179 = .ok (.iload_n 2, 1) := dk_28 (dk_at dksX4_does_4 23 rfl rfl)
theorem dX4_does_180 : decode cX4_does 180 = .ok (.invokevirtual 177, 3) := dk_182 0 177 (dk_at dksX4_does_5 0 rfl rfl)
theorem dX4_does_183 : decode cX4_does 183 = .ok (.ireturn, 1) := dk_172 (dk_at dksX4_does_5 3 rfl rfl)
theorem dX4_does_184 : decode cX4_does 184 = .ok (.aload_n 0, 1) := dk_42 (dk_at dksX4_does_5 4 rfl rfl)
theorem dX4_does_185 : decode cX4_does 185 = .ok (.iload_n 2, 1) := dk_28 (dk_at dksX4_does_5 5 rfl rfl)
theorem dX4_does_186 : decode cX4_does 186 = .ok (.iload_n 3, 1) := dk_29 (dk_at dksX4_does_5 6 rfl rfl)
theorem dX4_does_187 : decode cX4_does 187 = .ok (.invokevirtual 180, 3) := dk_182 0 180 (dk_at dksX4_does_5 7 rfl rfl)
theorem dX4_does_190 : decode cX4_does 190 = .ok (.ireturn, 1) := dk_172 (dk_at dksX4_does_5 10 rfl rfl)
theorem dX4_does_191 : decode cX4_does 191 = .ok (.aload_n 0, 1) := dk_42 (dk_at dksX4_does_5 11 rfl rfl)
theorem dX4_does_192 : decode cX4_does 192 = .ok (.iload_n 2, 1) := dk_28 (dk_at dksX4_does_5 12 rfl rfl)
theorem dX4_does_193 : decode cX4_does 193 = .ok (.invokevirtual 153, 3) := dk_182 0 153 (dk_at dksX4_does_5 13 rfl rfl)
theorem dX4_does_196 : decode cX4_does 196 = .ok (.ireturn, 1) := dk_172 (dk_at dksX4_does_5 16 rfl rfl)
theorem dX4_does_197 : decode cX4_does 197 = .ok (.aload_n 0, 1) := dk_42 (dk_at dksX4_does_5 17 rfl rfl)
theorem dX4_does_198 : decode cX4_does 198 = .ok (.iload_n 2, 1) := dk_28 (dk_at dksX4_does_5 18 rfl rfl)
theorem dX4_does_199 : decode cX4_does 199 = .ok (.invokevirtual 186, 3) := dk_182 0 186 (dk_at dksX4_does_5 19 rfl rfl)
theorem dX4_does_202 : decode cX4_does 202 = .ok (.ireturn, 1) := dk_172 (dk_at dksX4_does_5 22 rfl rfl)
abbrev cX4_syntaxErrorOffset : ByteArray := prog_20_method_110_code
def yX4_syntaxErrorOffset : MethodName := ⟨RX4, "syntaxErrorOffset", "()I"⟩
def dkwX4_syntaxErrorOffset_1 : List UInt8 := [180, 0, 34, 172]
abbrev dktX4_syntaxErrorOffset_1 : List UInt8 := dkwX4_syntaxErrorOffset_1 ++ []
def dkwX4_syntaxErrorOffset_0 : List UInt8 := [42, 3, 181, 0, 38, 42, 180, 0, 34, 2, 160, 0, 11, 42, 4, 182, 0, 54, 167, 0, 7, 42]
abbrev dktX4_syntaxErrorOffset_0 : List UInt8 := dkwX4_syntaxErrorOffset_0 ++ dktX4_syntaxErrorOffset_1
theorem dksX4_syntaxErrorOffset_0 : cX4_syntaxErrorOffset.data.toList.drop 0 = dktX4_syntaxErrorOffset_0 := by decide +kernel
theorem dksX4_syntaxErrorOffset_1 : cX4_syntaxErrorOffset.data.toList.drop 22 = dktX4_syntaxErrorOffset_1 := dk_seg dksX4_syntaxErrorOffset_0 22 rfl rfl
theorem dX4_syntaxErrorOffset_0 : decode cX4_syntaxErrorOffset 0 = .ok (.aload_n 0, 1) := dk_42 (dk_at dksX4_syntaxErrorOffset_0 0 rfl rfl)
theorem dX4_syntaxErrorOffset_1 : decode cX4_syntaxErrorOffset 1 = .ok (.iconst 0, 1) := dk_3 (dk_at dksX4_syntaxErrorOffset_0 1 rfl rfl)
theorem dX4_syntaxErrorOffset_2 : decode cX4_syntaxErrorOffset 2 = .ok (.putfield 38, 3) := dk_181 0 38 (dk_at dksX4_syntaxErrorOffset_0 2 rfl rfl)
theorem dX4_syntaxErrorOffset_5 : decode cX4_syntaxErrorOffset 5 = .ok (.aload_n 0, 1) := dk_42 (dk_at dksX4_syntaxErrorOffset_0 5 rfl rfl)
theorem dX4_syntaxErrorOffset_6 : decode cX4_syntaxErrorOffset 6 = .ok (.getfield 34, 3) := dk_180 0 34 (dk_at dksX4_syntaxErrorOffset_0 6 rfl rfl)
theorem dX4_syntaxErrorOffset_9 : decode cX4_syntaxErrorOffset 9 = .ok (.iconst (-1), 1) := dk_2 (dk_at dksX4_syntaxErrorOffset_0 9 rfl rfl)
theorem dX4_syntaxErrorOffset_10 : decode cX4_syntaxErrorOffset 10 = .ok (.if_icmp .ne 11, 3) := dk_160 0 11 (dk_at dksX4_syntaxErrorOffset_0 10 rfl rfl)
theorem dX4_syntaxErrorOffset_13 : decode cX4_syntaxErrorOffset 13 = .ok (.aload_n 0, 1) := dk_42 (dk_at dksX4_syntaxErrorOffset_0 13 rfl rfl)
theorem dX4_syntaxErrorOffset_14 : decode cX4_syntaxErrorOffset 14 = .ok (.iconst 1, 1) := dk_4 (dk_at dksX4_syntaxErrorOffset_0 14 rfl rfl)
theorem dX4_syntaxErrorOffset_15 : decode cX4_syntaxErrorOffset 15 = .ok (.invokevirtual 54, 3) := dk_182 0 54 (dk_at dksX4_syntaxErrorOffset_0 15 rfl rfl)
theorem dX4_syntaxErrorOffset_18 : decode cX4_syntaxErrorOffset 18 = .ok (.goto 7, 3) := dk_167 0 7 (dk_at dksX4_syntaxErrorOffset_0 18 rfl rfl)
theorem dX4_syntaxErrorOffset_21 : decode cX4_syntaxErrorOffset 21 = .ok (.aload_n 0, 1) := dk_42 (dk_at dksX4_syntaxErrorOffset_0 21 rfl rfl)
theorem dX4_syntaxErrorOffset_22 : decode cX4_syntaxErrorOffset 22 = .ok (.getfield 34, 3) := dk_180 0 34 (dk_at dksX4_syntaxErrorOffset_1 0 rfl rfl)
theorem dX4_syntaxErrorOffset_25 : decode cX4_syntaxErrorOffset 25 = .ok (.ireturn, 1) := dk_172 (dk_at dksX4_syntaxErrorOffset_1 3 rfl rfl)
abbrev cX4_rejectionReason : ByteArray := prog_20_method_111_code
def yX4_rejectionReason : MethodName := ⟨RX4, "rejectionReason", "()I"⟩
def dkwX4_rejectionReason_0 : List UInt8 := [42, 42, 180, 0, 57, 154, 0, 7, 4, 167, 0, 4, 3, 181, 0, 38, 42, 180, 0, 57, 172]
abbrev dktX4_rejectionReason_0 : List UInt8 := dkwX4_rejectionReason_0 ++ []
theorem dksX4_rejectionReason_0 : cX4_rejectionReason.data.toList.drop 0 = dktX4_rejectionReason_0 := by decide +kernel
theorem dX4_rejectionReason_0 : decode cX4_rejectionReason 0 = .ok (.aload_n 0, 1) := dk_42 (dk_at dksX4_rejectionReason_0 0 rfl rfl)
theorem dX4_rejectionReason_1 : decode cX4_rejectionReason 1 = .ok (.aload_n 0, 1) := dk_42 (dk_at dksX4_rejectionReason_0 1 rfl rfl)
theorem dX4_rejectionReason_2 : decode cX4_rejectionReason 2 = .ok (.getfield 57, 3) := dk_180 0 57 (dk_at dksX4_rejectionReason_0 2 rfl rfl)
theorem dX4_rejectionReason_5 : decode cX4_rejectionReason 5 = .ok (.ifCond .ne 7, 3) := dk_154 0 7 (dk_at dksX4_rejectionReason_0 5 rfl rfl)
theorem dX4_rejectionReason_8 : decode cX4_rejectionReason 8 = .ok (.iconst 1, 1) := dk_4 (dk_at dksX4_rejectionReason_0 8 rfl rfl)
theorem dX4_rejectionReason_9 : decode cX4_rejectionReason 9 = .ok (.goto 4, 3) := dk_167 0 4 (dk_at dksX4_rejectionReason_0 9 rfl rfl)
theorem dX4_rejectionReason_12 : decode cX4_rejectionReason 12 = .ok (.iconst 0, 1) := dk_3 (dk_at dksX4_rejectionReason_0 12 rfl rfl)
theorem dX4_rejectionReason_13 : decode cX4_rejectionReason 13 = .ok (.putfield 38, 3) := dk_181 0 38 (dk_at dksX4_rejectionReason_0 13 rfl rfl)
theorem dX4_rejectionReason_16 : decode cX4_rejectionReason 16 = .ok (.aload_n 0, 1) := dk_42 (dk_at dksX4_rejectionReason_0 16 rfl rfl)
theorem dX4_rejectionReason_17 : decode cX4_rejectionReason 17 = .ok (.getfield 57, 3) := dk_180 0 57 (dk_at dksX4_rejectionReason_0 17 rfl rfl)
theorem dX4_rejectionReason_20 : decode cX4_rejectionReason 20 = .ok (.ireturn, 1) := dk_172 (dk_at dksX4_rejectionReason_0 20 rfl rfl)
abbrev cX4_rejectionDetail : ByteArray := prog_20_method_112_code
def yX4_rejectionDetail : MethodName := ⟨RX4, "rejectionDetail", "()I"⟩
def dkwX4_rejectionDetail_1 : List UInt8 := [167, 0, 7, 42, 180, 0, 60, 172]
abbrev dktX4_rejectionDetail_1 : List UInt8 := dkwX4_rejectionDetail_1 ++ []
def dkwX4_rejectionDetail_0 : List UInt8 := [42, 42, 180, 0, 57, 154, 0, 7, 4, 167, 0, 4, 3, 181, 0, 38, 42, 180, 0, 38, 158, 0, 7, 3]
abbrev dktX4_rejectionDetail_0 : List UInt8 := dkwX4_rejectionDetail_0 ++ dktX4_rejectionDetail_1
theorem dksX4_rejectionDetail_0 : cX4_rejectionDetail.data.toList.drop 0 = dktX4_rejectionDetail_0 := by decide +kernel
theorem dksX4_rejectionDetail_1 : cX4_rejectionDetail.data.toList.drop 24 = dktX4_rejectionDetail_1 := dk_seg dksX4_rejectionDetail_0 24 rfl rfl
theorem dX4_rejectionDetail_0 : decode cX4_rejectionDetail 0 = .ok (.aload_n 0, 1) := dk_42 (dk_at dksX4_rejectionDetail_0 0 rfl rfl)
theorem dX4_rejectionDetail_1 : decode cX4_rejectionDetail 1 = .ok (.aload_n 0, 1) := dk_42 (dk_at dksX4_rejectionDetail_0 1 rfl rfl)
theorem dX4_rejectionDetail_2 : decode cX4_rejectionDetail 2 = .ok (.getfield 57, 3) := dk_180 0 57 (dk_at dksX4_rejectionDetail_0 2 rfl rfl)
theorem dX4_rejectionDetail_5 : decode cX4_rejectionDetail 5 = .ok (.ifCond .ne 7, 3) := dk_154 0 7 (dk_at dksX4_rejectionDetail_0 5 rfl rfl)
theorem dX4_rejectionDetail_8 : decode cX4_rejectionDetail 8 = .ok (.iconst 1, 1) := dk_4 (dk_at dksX4_rejectionDetail_0 8 rfl rfl)
theorem dX4_rejectionDetail_9 : decode cX4_rejectionDetail 9 = .ok (.goto 4, 3) := dk_167 0 4 (dk_at dksX4_rejectionDetail_0 9 rfl rfl)
theorem dX4_rejectionDetail_12 : decode cX4_rejectionDetail 12 = .ok (.iconst 0, 1) := dk_3 (dk_at dksX4_rejectionDetail_0 12 rfl rfl)
theorem dX4_rejectionDetail_13 : decode cX4_rejectionDetail 13 = .ok (.putfield 38, 3) := dk_181 0 38 (dk_at dksX4_rejectionDetail_0 13 rfl rfl)
theorem dX4_rejectionDetail_16 : decode cX4_rejectionDetail 16 = .ok (.aload_n 0, 1) := dk_42 (dk_at dksX4_rejectionDetail_0 16 rfl rfl)
theorem dX4_rejectionDetail_17 : decode cX4_rejectionDetail 17 = .ok (.getfield 38, 3) := dk_180 0 38 (dk_at dksX4_rejectionDetail_0 17 rfl rfl)
theorem dX4_rejectionDetail_20 : decode cX4_rejectionDetail 20 = .ok (.ifCond .le 7, 3) := dk_158 0 7 (dk_at dksX4_rejectionDetail_0 20 rfl rfl)
theorem dX4_rejectionDetail_23 : decode cX4_rejectionDetail 23 = .ok (.iconst 0, 1) := dk_3 (dk_at dksX4_rejectionDetail_0 23 rfl rfl)
theorem dX4_rejectionDetail_24 : decode cX4_rejectionDetail 24 = .ok (.goto 7, 3) := dk_167 0 7 (dk_at dksX4_rejectionDetail_1 0 rfl rfl)
theorem dX4_rejectionDetail_27 : decode cX4_rejectionDetail 27 = .ok (.aload_n 0, 1) := dk_42 (dk_at dksX4_rejectionDetail_1 3 rfl rfl)
theorem dX4_rejectionDetail_28 : decode cX4_rejectionDetail 28 = .ok (.getfield 60, 3) := dk_180 0 60 (dk_at dksX4_rejectionDetail_1 4 rfl rfl)
theorem dX4_rejectionDetail_31 : decode cX4_rejectionDetail 31 = .ok (.ireturn, 1) := dk_172 (dk_at dksX4_rejectionDetail_1 7 rfl rfl)
abbrev cX4_causeReason : ByteArray := prog_20_method_113_code
def yX4_causeReason : MethodName := ⟨RX4, "causeReason", "()I"⟩
def dkwX4_causeReason_1 : List UInt8 := [158, 0, 7, 3, 167, 0, 7, 42, 180, 0, 63, 172]
abbrev dktX4_causeReason_1 : List UInt8 := dkwX4_causeReason_1 ++ []
def dkwX4_causeReason_0 : List UInt8 := [42, 42, 180, 0, 57, 16, 12, 160, 0, 7, 3, 167, 0, 4, 4, 181, 0, 38, 42, 180, 0, 38]
abbrev dktX4_causeReason_0 : List UInt8 := dkwX4_causeReason_0 ++ dktX4_causeReason_1
theorem dksX4_causeReason_0 : cX4_causeReason.data.toList.drop 0 = dktX4_causeReason_0 := by decide +kernel
theorem dksX4_causeReason_1 : cX4_causeReason.data.toList.drop 22 = dktX4_causeReason_1 := dk_seg dksX4_causeReason_0 22 rfl rfl
theorem dX4_causeReason_0 : decode cX4_causeReason 0 = .ok (.aload_n 0, 1) := dk_42 (dk_at dksX4_causeReason_0 0 rfl rfl)
theorem dX4_causeReason_1 : decode cX4_causeReason 1 = .ok (.aload_n 0, 1) := dk_42 (dk_at dksX4_causeReason_0 1 rfl rfl)
theorem dX4_causeReason_2 : decode cX4_causeReason 2 = .ok (.getfield 57, 3) := dk_180 0 57 (dk_at dksX4_causeReason_0 2 rfl rfl)
theorem dX4_causeReason_5 : decode cX4_causeReason 5 = .ok (.bipush 12, 2) := dk_16 12 (dk_at dksX4_causeReason_0 5 rfl rfl)
theorem dX4_causeReason_7 : decode cX4_causeReason 7 = .ok (.if_icmp .ne 7, 3) := dk_160 0 7 (dk_at dksX4_causeReason_0 7 rfl rfl)
theorem dX4_causeReason_10 : decode cX4_causeReason 10 = .ok (.iconst 0, 1) := dk_3 (dk_at dksX4_causeReason_0 10 rfl rfl)
theorem dX4_causeReason_11 : decode cX4_causeReason 11 = .ok (.goto 4, 3) := dk_167 0 4 (dk_at dksX4_causeReason_0 11 rfl rfl)
theorem dX4_causeReason_14 : decode cX4_causeReason 14 = .ok (.iconst 1, 1) := dk_4 (dk_at dksX4_causeReason_0 14 rfl rfl)
theorem dX4_causeReason_15 : decode cX4_causeReason 15 = .ok (.putfield 38, 3) := dk_181 0 38 (dk_at dksX4_causeReason_0 15 rfl rfl)
theorem dX4_causeReason_18 : decode cX4_causeReason 18 = .ok (.aload_n 0, 1) := dk_42 (dk_at dksX4_causeReason_0 18 rfl rfl)
theorem dX4_causeReason_19 : decode cX4_causeReason 19 = .ok (.getfield 38, 3) := dk_180 0 38 (dk_at dksX4_causeReason_0 19 rfl rfl)
theorem dX4_causeReason_22 : decode cX4_causeReason 22 = .ok (.ifCond .le 7, 3) := dk_158 0 7 (dk_at dksX4_causeReason_1 0 rfl rfl)
theorem dX4_causeReason_25 : decode cX4_causeReason 25 = .ok (.iconst 0, 1) := dk_3 (dk_at dksX4_causeReason_1 3 rfl rfl)
theorem dX4_causeReason_26 : decode cX4_causeReason 26 = .ok (.goto 7, 3) := dk_167 0 7 (dk_at dksX4_causeReason_1 4 rfl rfl)
theorem dX4_causeReason_29 : decode cX4_causeReason 29 = .ok (.aload_n 0, 1) := dk_42 (dk_at dksX4_causeReason_1 7 rfl rfl)
theorem dX4_causeReason_30 : decode cX4_causeReason 30 = .ok (.getfield 63, 3) := dk_180 0 63 (dk_at dksX4_causeReason_1 8 rfl rfl)
theorem dX4_causeReason_33 : decode cX4_causeReason 33 = .ok (.ireturn, 1) := dk_172 (dk_at dksX4_causeReason_1 11 rfl rfl)
abbrev cX4_undo : ByteArray := prog_20_method_114_code
def yX4_undo : MethodName := ⟨RX4, "undo", "()I"⟩
def dkwX4_undo_2 : List UInt8 := [180, 0, 41, 104, 27, 96, 46, 79, 132, 1, 1, 167, 255, 227, 42, 180, 0, 41, 172]
abbrev dktX4_undo_2 : List UInt8 := dkwX4_undo_2 ++ []
def dkwX4_undo_1 : List UInt8 := [100, 181, 0, 41, 3, 60, 27, 16, 102, 162, 0, 29, 42, 180, 0, 7, 27, 42, 180, 0, 19, 16, 102, 42]
abbrev dktX4_undo_1 : List UInt8 := dkwX4_undo_1 ++ dktX4_undo_2
def dkwX4_undo_0 : List UInt8 := [42, 3, 181, 0, 38, 42, 180, 0, 41, 154, 0, 9, 42, 4, 182, 0, 54, 172, 42, 89, 180, 0, 41, 4]
abbrev dktX4_undo_0 : List UInt8 := dkwX4_undo_0 ++ dktX4_undo_1
theorem dksX4_undo_0 : cX4_undo.data.toList.drop 0 = dktX4_undo_0 := by decide +kernel
theorem dksX4_undo_1 : cX4_undo.data.toList.drop 24 = dktX4_undo_1 := dk_seg dksX4_undo_0 24 rfl rfl
theorem dksX4_undo_2 : cX4_undo.data.toList.drop 48 = dktX4_undo_2 := dk_seg dksX4_undo_1 24 rfl rfl
theorem dX4_undo_0 : decode cX4_undo 0 = .ok (.aload_n 0, 1) := dk_42 (dk_at dksX4_undo_0 0 rfl rfl)
theorem dX4_undo_1 : decode cX4_undo 1 = .ok (.iconst 0, 1) := dk_3 (dk_at dksX4_undo_0 1 rfl rfl)
theorem dX4_undo_2 : decode cX4_undo 2 = .ok (.putfield 38, 3) := dk_181 0 38 (dk_at dksX4_undo_0 2 rfl rfl)
theorem dX4_undo_5 : decode cX4_undo 5 = .ok (.aload_n 0, 1) := dk_42 (dk_at dksX4_undo_0 5 rfl rfl)
theorem dX4_undo_6 : decode cX4_undo 6 = .ok (.getfield 41, 3) := dk_180 0 41 (dk_at dksX4_undo_0 6 rfl rfl)
theorem dX4_undo_9 : decode cX4_undo 9 = .ok (.ifCond .ne 9, 3) := dk_154 0 9 (dk_at dksX4_undo_0 9 rfl rfl)
theorem dX4_undo_12 : decode cX4_undo 12 = .ok (.aload_n 0, 1) := dk_42 (dk_at dksX4_undo_0 12 rfl rfl)
theorem dX4_undo_13 : decode cX4_undo 13 = .ok (.iconst 1, 1) := dk_4 (dk_at dksX4_undo_0 13 rfl rfl)
theorem dX4_undo_14 : decode cX4_undo 14 = .ok (.invokevirtual 54, 3) := dk_182 0 54 (dk_at dksX4_undo_0 14 rfl rfl)
theorem dX4_undo_17 : decode cX4_undo 17 = .ok (.ireturn, 1) := dk_172 (dk_at dksX4_undo_0 17 rfl rfl)
theorem dX4_undo_18 : decode cX4_undo 18 = .ok (.aload_n 0, 1) := dk_42 (dk_at dksX4_undo_0 18 rfl rfl)
theorem dX4_undo_19 : decode cX4_undo 19 = .ok (.dup, 1) := dk_89 (dk_at dksX4_undo_0 19 rfl rfl)
theorem dX4_undo_20 : decode cX4_undo 20 = .ok (.getfield 41, 3) := dk_180 0 41 (dk_at dksX4_undo_0 20 rfl rfl)
theorem dX4_undo_23 : decode cX4_undo 23 = .ok (.iconst 1, 1) := dk_4 (dk_at dksX4_undo_0 23 rfl rfl)
theorem dX4_undo_24 : decode cX4_undo 24 = .ok (.isub, 1) := dk_100 (dk_at dksX4_undo_1 0 rfl rfl)
theorem dX4_undo_25 : decode cX4_undo 25 = .ok (.putfield 41, 3) := dk_181 0 41 (dk_at dksX4_undo_1 1 rfl rfl)
theorem dX4_undo_28 : decode cX4_undo 28 = .ok (.iconst 0, 1) := dk_3 (dk_at dksX4_undo_1 4 rfl rfl)
theorem dX4_undo_29 : decode cX4_undo 29 = .ok (.istore_n 1, 1) := dk_60 (dk_at dksX4_undo_1 5 rfl rfl)
theorem dX4_undo_30 : decode cX4_undo 30 = .ok (.iload_n 1, 1) := dk_27 (dk_at dksX4_undo_1 6 rfl rfl)
theorem dX4_undo_31 : decode cX4_undo 31 = .ok (.bipush 102, 2) := dk_16 102 (dk_at dksX4_undo_1 7 rfl rfl)
theorem dX4_undo_33 : decode cX4_undo 33 = .ok (.if_icmp .ge 29, 3) := dk_162 0 29 (dk_at dksX4_undo_1 9 rfl rfl)
theorem dX4_undo_36 : decode cX4_undo 36 = .ok (.aload_n 0, 1) := dk_42 (dk_at dksX4_undo_1 12 rfl rfl)
theorem dX4_undo_37 : decode cX4_undo 37 = .ok (.getfield 7, 3) := dk_180 0 7 (dk_at dksX4_undo_1 13 rfl rfl)
theorem dX4_undo_40 : decode cX4_undo 40 = .ok (.iload_n 1, 1) := dk_27 (dk_at dksX4_undo_1 16 rfl rfl)
theorem dX4_undo_41 : decode cX4_undo 41 = .ok (.aload_n 0, 1) := dk_42 (dk_at dksX4_undo_1 17 rfl rfl)
theorem dX4_undo_42 : decode cX4_undo 42 = .ok (.getfield 19, 3) := dk_180 0 19 (dk_at dksX4_undo_1 18 rfl rfl)
theorem dX4_undo_45 : decode cX4_undo 45 = .ok (.bipush 102, 2) := dk_16 102 (dk_at dksX4_undo_1 21 rfl rfl)
theorem dX4_undo_47 : decode cX4_undo 47 = .ok (.aload_n 0, 1) := dk_42 (dk_at dksX4_undo_1 23 rfl rfl)
theorem dX4_undo_48 : decode cX4_undo 48 = .ok (.getfield 41, 3) := dk_180 0 41 (dk_at dksX4_undo_2 0 rfl rfl)
theorem dX4_undo_51 : decode cX4_undo 51 = .ok (.imul, 1) := dk_104 (dk_at dksX4_undo_2 3 rfl rfl)
theorem dX4_undo_52 : decode cX4_undo 52 = .ok (.iload_n 1, 1) := dk_27 (dk_at dksX4_undo_2 4 rfl rfl)
theorem dX4_undo_53 : decode cX4_undo 53 = .ok (.iadd, 1) := dk_96 (dk_at dksX4_undo_2 5 rfl rfl)
theorem dX4_undo_54 : decode cX4_undo 54 = .ok (.iaload, 1) := dk_46 (dk_at dksX4_undo_2 6 rfl rfl)
theorem dX4_undo_55 : decode cX4_undo 55 = .ok (.iastore, 1) := dk_79 (dk_at dksX4_undo_2 7 rfl rfl)
theorem dX4_undo_56 : decode cX4_undo 56 = .ok (.iinc 1 1, 3) := dk_132 1 1 (dk_at dksX4_undo_2 8 rfl rfl)
theorem dX4_undo_59 : decode cX4_undo 59 = .ok (.goto (-29), 3) := dk_167 255 227 (dk_at dksX4_undo_2 11 rfl rfl)
theorem dX4_undo_62 : decode cX4_undo 62 = .ok (.aload_n 0, 1) := dk_42 (dk_at dksX4_undo_2 14 rfl rfl)
theorem dX4_undo_63 : decode cX4_undo 63 = .ok (.getfield 41, 3) := dk_180 0 41 (dk_at dksX4_undo_2 15 rfl rfl)
theorem dX4_undo_66 : decode cX4_undo 66 = .ok (.ireturn, 1) := dk_172 (dk_at dksX4_undo_2 18 rfl rfl)
abbrev cX4_saveSnapshot : ByteArray := prog_20_method_115_code
def yX4_saveSnapshot : MethodName := ⟨RX4, "saveSnapshot", "()I"⟩
def dkwX4_saveSnapshot_1 : List UInt8 := [79, 132, 1, 1, 167, 255, 235, 42, 4, 181, 1, 18, 42, 180, 0, 7, 3, 46, 172]
abbrev dktX4_saveSnapshot_1 : List UInt8 := dkwX4_saveSnapshot_1 ++ []
def dkwX4_saveSnapshot_0 : List UInt8 := [42, 3, 181, 0, 38, 3, 60, 27, 16, 102, 162, 0, 21, 42, 180, 0, 16, 27, 42, 180, 0, 7, 27, 46]
abbrev dktX4_saveSnapshot_0 : List UInt8 := dkwX4_saveSnapshot_0 ++ dktX4_saveSnapshot_1
theorem dksX4_saveSnapshot_0 : cX4_saveSnapshot.data.toList.drop 0 = dktX4_saveSnapshot_0 := by decide +kernel
theorem dksX4_saveSnapshot_1 : cX4_saveSnapshot.data.toList.drop 24 = dktX4_saveSnapshot_1 := dk_seg dksX4_saveSnapshot_0 24 rfl rfl
theorem dX4_saveSnapshot_0 : decode cX4_saveSnapshot 0 = .ok (.aload_n 0, 1) := dk_42 (dk_at dksX4_saveSnapshot_0 0 rfl rfl)
theorem dX4_saveSnapshot_1 : decode cX4_saveSnapshot 1 = .ok (.iconst 0, 1) := dk_3 (dk_at dksX4_saveSnapshot_0 1 rfl rfl)
theorem dX4_saveSnapshot_2 : decode cX4_saveSnapshot 2 = .ok (.putfield 38, 3) := dk_181 0 38 (dk_at dksX4_saveSnapshot_0 2 rfl rfl)
theorem dX4_saveSnapshot_5 : decode cX4_saveSnapshot 5 = .ok (.iconst 0, 1) := dk_3 (dk_at dksX4_saveSnapshot_0 5 rfl rfl)
theorem dX4_saveSnapshot_6 : decode cX4_saveSnapshot 6 = .ok (.istore_n 1, 1) := dk_60 (dk_at dksX4_saveSnapshot_0 6 rfl rfl)
theorem dX4_saveSnapshot_7 : decode cX4_saveSnapshot 7 = .ok (.iload_n 1, 1) := dk_27 (dk_at dksX4_saveSnapshot_0 7 rfl rfl)
theorem dX4_saveSnapshot_8 : decode cX4_saveSnapshot 8 = .ok (.bipush 102, 2) := dk_16 102 (dk_at dksX4_saveSnapshot_0 8 rfl rfl)
theorem dX4_saveSnapshot_10 : decode cX4_saveSnapshot 10 = .ok (.if_icmp .ge 21, 3) := dk_162 0 21 (dk_at dksX4_saveSnapshot_0 10 rfl rfl)
theorem dX4_saveSnapshot_13 : decode cX4_saveSnapshot 13 = .ok (.aload_n 0, 1) := dk_42 (dk_at dksX4_saveSnapshot_0 13 rfl rfl)
theorem dX4_saveSnapshot_14 : decode cX4_saveSnapshot 14 = .ok (.getfield 16, 3) := dk_180 0 16 (dk_at dksX4_saveSnapshot_0 14 rfl rfl)
theorem dX4_saveSnapshot_17 : decode cX4_saveSnapshot 17 = .ok (.iload_n 1, 1) := dk_27 (dk_at dksX4_saveSnapshot_0 17 rfl rfl)
theorem dX4_saveSnapshot_18 : decode cX4_saveSnapshot 18 = .ok (.aload_n 0, 1) := dk_42 (dk_at dksX4_saveSnapshot_0 18 rfl rfl)
theorem dX4_saveSnapshot_19 : decode cX4_saveSnapshot 19 = .ok (.getfield 7, 3) := dk_180 0 7 (dk_at dksX4_saveSnapshot_0 19 rfl rfl)
theorem dX4_saveSnapshot_22 : decode cX4_saveSnapshot 22 = .ok (.iload_n 1, 1) := dk_27 (dk_at dksX4_saveSnapshot_0 22 rfl rfl)
theorem dX4_saveSnapshot_23 : decode cX4_saveSnapshot 23 = .ok (.iaload, 1) := dk_46 (dk_at dksX4_saveSnapshot_0 23 rfl rfl)
theorem dX4_saveSnapshot_24 : decode cX4_saveSnapshot 24 = .ok (.iastore, 1) := dk_79 (dk_at dksX4_saveSnapshot_1 0 rfl rfl)
theorem dX4_saveSnapshot_25 : decode cX4_saveSnapshot 25 = .ok (.iinc 1 1, 3) := dk_132 1 1 (dk_at dksX4_saveSnapshot_1 1 rfl rfl)
theorem dX4_saveSnapshot_28 : decode cX4_saveSnapshot 28 = .ok (.goto (-21), 3) := dk_167 255 235 (dk_at dksX4_saveSnapshot_1 4 rfl rfl)
theorem dX4_saveSnapshot_31 : decode cX4_saveSnapshot 31 = .ok (.aload_n 0, 1) := dk_42 (dk_at dksX4_saveSnapshot_1 7 rfl rfl)
theorem dX4_saveSnapshot_32 : decode cX4_saveSnapshot 32 = .ok (.iconst 1, 1) := dk_4 (dk_at dksX4_saveSnapshot_1 8 rfl rfl)
theorem dX4_saveSnapshot_33 : decode cX4_saveSnapshot 33 = .ok (.putfield 274, 3) := dk_181 1 18 (dk_at dksX4_saveSnapshot_1 9 rfl rfl)
theorem dX4_saveSnapshot_36 : decode cX4_saveSnapshot 36 = .ok (.aload_n 0, 1) := dk_42 (dk_at dksX4_saveSnapshot_1 12 rfl rfl)
theorem dX4_saveSnapshot_37 : decode cX4_saveSnapshot 37 = .ok (.getfield 7, 3) := dk_180 0 7 (dk_at dksX4_saveSnapshot_1 13 rfl rfl)
theorem dX4_saveSnapshot_40 : decode cX4_saveSnapshot 40 = .ok (.iconst 0, 1) := dk_3 (dk_at dksX4_saveSnapshot_1 16 rfl rfl)
theorem dX4_saveSnapshot_41 : decode cX4_saveSnapshot 41 = .ok (.iaload, 1) := dk_46 (dk_at dksX4_saveSnapshot_1 17 rfl rfl)
theorem dX4_saveSnapshot_42 : decode cX4_saveSnapshot 42 = .ok (.ireturn, 1) := dk_172 (dk_at dksX4_saveSnapshot_1 18 rfl rfl)
abbrev cX4_restoreSnapshot : ByteArray := prog_20_method_116_code
def yX4_restoreSnapshot : MethodName := ⟨RX4, "restoreSnapshot", "()I"⟩
def dkwX4_restoreSnapshot_2 : List UInt8 := [181, 0, 41, 42, 180, 0, 7, 3, 46, 172]
abbrev dktX4_restoreSnapshot_2 : List UInt8 := dkwX4_restoreSnapshot_2 ++ []
def dkwX4_restoreSnapshot_1 : List UInt8 := [162, 0, 21, 42, 180, 0, 7, 27, 42, 180, 0, 16, 27, 46, 79, 132, 1, 1, 167, 255, 235, 42, 3]
abbrev dktX4_restoreSnapshot_1 : List UInt8 := dkwX4_restoreSnapshot_1 ++ dktX4_restoreSnapshot_2
def dkwX4_restoreSnapshot_0 : List UInt8 := [42, 3, 181, 0, 38, 42, 180, 1, 18, 154, 0, 9, 42, 4, 182, 0, 54, 172, 3, 60, 27, 16, 102]
abbrev dktX4_restoreSnapshot_0 : List UInt8 := dkwX4_restoreSnapshot_0 ++ dktX4_restoreSnapshot_1
theorem dksX4_restoreSnapshot_0 : cX4_restoreSnapshot.data.toList.drop 0 = dktX4_restoreSnapshot_0 := by decide +kernel
theorem dksX4_restoreSnapshot_1 : cX4_restoreSnapshot.data.toList.drop 23 = dktX4_restoreSnapshot_1 := dk_seg dksX4_restoreSnapshot_0 23 rfl rfl
theorem dksX4_restoreSnapshot_2 : cX4_restoreSnapshot.data.toList.drop 46 = dktX4_restoreSnapshot_2 := dk_seg dksX4_restoreSnapshot_1 23 rfl rfl
theorem dX4_restoreSnapshot_0 : decode cX4_restoreSnapshot 0 = .ok (.aload_n 0, 1) := dk_42 (dk_at dksX4_restoreSnapshot_0 0 rfl rfl)
theorem dX4_restoreSnapshot_1 : decode cX4_restoreSnapshot 1 = .ok (.iconst 0, 1) := dk_3 (dk_at dksX4_restoreSnapshot_0 1 rfl rfl)
theorem dX4_restoreSnapshot_2 : decode cX4_restoreSnapshot 2 = .ok (.putfield 38, 3) := dk_181 0 38 (dk_at dksX4_restoreSnapshot_0 2 rfl rfl)
theorem dX4_restoreSnapshot_5 : decode cX4_restoreSnapshot 5 = .ok (.aload_n 0, 1) := dk_42 (dk_at dksX4_restoreSnapshot_0 5 rfl rfl)
theorem dX4_restoreSnapshot_6 : decode cX4_restoreSnapshot 6 = .ok (.getfield 274, 3) := dk_180 1 18 (dk_at dksX4_restoreSnapshot_0 6 rfl rfl)
theorem dX4_restoreSnapshot_9 : decode cX4_restoreSnapshot 9 = .ok (.ifCond .ne 9, 3) := dk_154 0 9 (dk_at dksX4_restoreSnapshot_0 9 rfl rfl)
theorem dX4_restoreSnapshot_12 : decode cX4_restoreSnapshot 12 = .ok (.aload_n 0, 1) := dk_42 (dk_at dksX4_restoreSnapshot_0 12 rfl rfl)
theorem dX4_restoreSnapshot_13 : decode cX4_restoreSnapshot 13 = .ok (.iconst 1, 1) := dk_4 (dk_at dksX4_restoreSnapshot_0 13 rfl rfl)
theorem dX4_restoreSnapshot_14 : decode cX4_restoreSnapshot 14 = .ok (.invokevirtual 54, 3) := dk_182 0 54 (dk_at dksX4_restoreSnapshot_0 14 rfl rfl)
theorem dX4_restoreSnapshot_17 : decode cX4_restoreSnapshot 17 = .ok (.ireturn, 1) := dk_172 (dk_at dksX4_restoreSnapshot_0 17 rfl rfl)
theorem dX4_restoreSnapshot_18 : decode cX4_restoreSnapshot 18 = .ok (.iconst 0, 1) := dk_3 (dk_at dksX4_restoreSnapshot_0 18 rfl rfl)
theorem dX4_restoreSnapshot_19 : decode cX4_restoreSnapshot 19 = .ok (.istore_n 1, 1) := dk_60 (dk_at dksX4_restoreSnapshot_0 19 rfl rfl)
theorem dX4_restoreSnapshot_20 : decode cX4_restoreSnapshot 20 = .ok (.iload_n 1, 1) := dk_27 (dk_at dksX4_restoreSnapshot_0 20 rfl rfl)
theorem dX4_restoreSnapshot_21 : decode cX4_restoreSnapshot 21 = .ok (.bipush 102, 2) := dk_16 102 (dk_at dksX4_restoreSnapshot_0 21 rfl rfl)
theorem dX4_restoreSnapshot_23 : decode cX4_restoreSnapshot 23 = .ok (.if_icmp .ge 21, 3) := dk_162 0 21 (dk_at dksX4_restoreSnapshot_1 0 rfl rfl)
theorem dX4_restoreSnapshot_26 : decode cX4_restoreSnapshot 26 = .ok (.aload_n 0, 1) := dk_42 (dk_at dksX4_restoreSnapshot_1 3 rfl rfl)
theorem dX4_restoreSnapshot_27 : decode cX4_restoreSnapshot 27 = .ok (.getfield 7, 3) := dk_180 0 7 (dk_at dksX4_restoreSnapshot_1 4 rfl rfl)
theorem dX4_restoreSnapshot_30 : decode cX4_restoreSnapshot 30 = .ok (.iload_n 1, 1) := dk_27 (dk_at dksX4_restoreSnapshot_1 7 rfl rfl)
theorem dX4_restoreSnapshot_31 : decode cX4_restoreSnapshot 31 = .ok (.aload_n 0, 1) := dk_42 (dk_at dksX4_restoreSnapshot_1 8 rfl rfl)
theorem dX4_restoreSnapshot_32 : decode cX4_restoreSnapshot 32 = .ok (.getfield 16, 3) := dk_180 0 16 (dk_at dksX4_restoreSnapshot_1 9 rfl rfl)
theorem dX4_restoreSnapshot_35 : decode cX4_restoreSnapshot 35 = .ok (.iload_n 1, 1) := dk_27 (dk_at dksX4_restoreSnapshot_1 12 rfl rfl)
theorem dX4_restoreSnapshot_36 : decode cX4_restoreSnapshot 36 = .ok (.iaload, 1) := dk_46 (dk_at dksX4_restoreSnapshot_1 13 rfl rfl)
theorem dX4_restoreSnapshot_37 : decode cX4_restoreSnapshot 37 = .ok (.iastore, 1) := dk_79 (dk_at dksX4_restoreSnapshot_1 14 rfl rfl)
theorem dX4_restoreSnapshot_38 : decode cX4_restoreSnapshot 38 = .ok (.iinc 1 1, 3) := dk_132 1 1 (dk_at dksX4_restoreSnapshot_1 15 rfl rfl)
theorem dX4_restoreSnapshot_41 : decode cX4_restoreSnapshot 41 = .ok (.goto (-21), 3) := dk_167 255 235 (dk_at dksX4_restoreSnapshot_1 18 rfl rfl)
theorem dX4_restoreSnapshot_44 : decode cX4_restoreSnapshot 44 = .ok (.aload_n 0, 1) := dk_42 (dk_at dksX4_restoreSnapshot_1 21 rfl rfl)
theorem dX4_restoreSnapshot_45 : decode cX4_restoreSnapshot 45 = .ok (.iconst 0, 1) := dk_3 (dk_at dksX4_restoreSnapshot_1 22 rfl rfl)
theorem dX4_restoreSnapshot_46 : decode cX4_restoreSnapshot 46 = .ok (.putfield 41, 3) := dk_181 0 41 (dk_at dksX4_restoreSnapshot_2 0 rfl rfl)
theorem dX4_restoreSnapshot_49 : decode cX4_restoreSnapshot 49 = .ok (.aload_n 0, 1) := dk_42 (dk_at dksX4_restoreSnapshot_2 3 rfl rfl)
theorem dX4_restoreSnapshot_50 : decode cX4_restoreSnapshot 50 = .ok (.getfield 7, 3) := dk_180 0 7 (dk_at dksX4_restoreSnapshot_2 4 rfl rfl)
theorem dX4_restoreSnapshot_53 : decode cX4_restoreSnapshot 53 = .ok (.iconst 0, 1) := dk_3 (dk_at dksX4_restoreSnapshot_2 7 rfl rfl)
theorem dX4_restoreSnapshot_54 : decode cX4_restoreSnapshot 54 = .ok (.iaload, 1) := dk_46 (dk_at dksX4_restoreSnapshot_2 8 rfl rfl)
theorem dX4_restoreSnapshot_55 : decode cX4_restoreSnapshot 55 = .ok (.ireturn, 1) := dk_172 (dk_at dksX4_restoreSnapshot_2 9 rfl rfl)
theorem q96 : (Jvm.Cond.initialized "BenchBrokerModel") ∈ lw_all := lw_g (lw_at lw_m1 11 rfl) rfl
theorem q619 : (Jvm.Cond.selects "BenchBrokerModel" ({ cls := "java/lang/Object", name := "getClass", desc := "()Ljava/lang/Class;" } : Jvm.MethodName) ({ cls := "java/lang/Object", name := "getClass", desc := "()Ljava/lang/Class;" } : Jvm.MethodName)) ∈ lw_all := lw_g (lw_at lw_m3 54 rfl) rfl
theorem q2186 : (Jvm.Cond.instantiable "BenchBrokerModel" (23 : Nat)) ∈ lw_all := lw_g (lw_at lw_m9 181 rfl) rfl
theorem q2188 : (Jvm.Cond.instanceMethod ({ cls := "BenchBrokerModel", name := "<init>", desc := "()V" } : Jvm.MethodName)) ∈ lw_all := lw_g (lw_at lw_m9 183 rfl) rfl
theorem q2189 : (Jvm.Cond.code ({ cls := "BenchBrokerModel", name := "<init>", desc := "()V" } : Jvm.MethodName) prog_20_method_1_code (1 : Nat) (Option.none : Option Jvm.ClassFile.FieldType)) ∈ lw_all := lw_g (lw_at lw_m9 184 rfl) rfl
theorem q2190 : (Jvm.Cond.methodLink "BenchBrokerModel" (1 : Nat) ({ cls := "java/lang/Object", name := "<init>", desc := "()V" } : Jvm.MethodName)) ∈ lw_all := lw_g (lw_at lw_m9 185 rfl) rfl
theorem q2191 : (Jvm.Cond.fieldLink "BenchBrokerModel" (38 : Nat) "BenchBrokerModel" "thrown" "I") ∈ lw_all := lw_g (lw_at lw_m9 186 rfl) rfl
theorem q2192 : (Jvm.Cond.fieldLink "BenchBrokerModel" (7 : Nat) "BenchBrokerModel" "s" "[I") ∈ lw_all := lw_g (lw_at lw_m9 187 rfl) rfl
theorem q2193 : (Jvm.Cond.fieldLink "BenchBrokerModel" (13 : Nat) "BenchBrokerModel" "frame" "[I") ∈ lw_all := lw_g (lw_at lw_m9 188 rfl) rfl
theorem q2194 : (Jvm.Cond.fieldLink "BenchBrokerModel" (16 : Nat) "BenchBrokerModel" "saved" "[I") ∈ lw_all := lw_g (lw_at lw_m9 189 rfl) rfl
theorem q2195 : (Jvm.Cond.fieldLink "BenchBrokerModel" (19 : Nat) "BenchBrokerModel" "history" "[I") ∈ lw_all := lw_g (lw_at lw_m9 190 rfl) rfl
theorem q2196 : (Jvm.Cond.fieldLink "BenchBrokerModel" (22 : Nat) "BenchBrokerModel" "thought" "[I") ∈ lw_all := lw_g (lw_at lw_m9 191 rfl) rfl
theorem q2197 : (Jvm.Cond.fieldLink "BenchBrokerModel" (41 : Nat) "BenchBrokerModel" "kept" "I") ∈ lw_all := lw_g (lw_at lw_m9 192 rfl) rfl
theorem q2198 : (Jvm.Cond.fieldLink "BenchBrokerModel" (274 : Nat) "BenchBrokerModel" "hasSaved" "Z") ∈ lw_all := lw_g (lw_at lw_m9 193 rfl) rfl
theorem q2199 : (Jvm.Cond.fieldLink "BenchBrokerModel" (25 : Nat) "BenchBrokerModel" "text" "[I") ∈ lw_all := lw_g (lw_at lw_m9 194 rfl) rfl
theorem q2200 : (Jvm.Cond.fieldLink "BenchBrokerModel" (28 : Nat) "BenchBrokerModel" "told" "[I") ∈ lw_all := lw_g (lw_at lw_m9 195 rfl) rfl
theorem q2201 : (Jvm.Cond.fieldLink "BenchBrokerModel" (31 : Nat) "BenchBrokerModel" "out" "[I") ∈ lw_all := lw_g (lw_at lw_m9 196 rfl) rfl
theorem q2202 : (Jvm.Cond.fieldLink "BenchBrokerModel" (212 : Nat) "BenchBrokerModel" "length" "I") ∈ lw_all := lw_g (lw_at lw_m9 197 rfl) rfl
theorem q2203 : (Jvm.Cond.fieldLink "BenchBrokerModel" (202 : Nat) "BenchBrokerModel" "outLength" "I") ∈ lw_all := lw_g (lw_at lw_m9 198 rfl) rfl
theorem q2204 : (Jvm.Cond.fieldLink "BenchBrokerModel" (34 : Nat) "BenchBrokerModel" "faultAt" "I") ∈ lw_all := lw_g (lw_at lw_m9 199 rfl) rfl
theorem q2205 : (Jvm.Cond.fieldLink "BenchBrokerModel" (57 : Nat) "BenchBrokerModel" "why" "I") ∈ lw_all := lw_g (lw_at lw_m9 200 rfl) rfl
theorem q2206 : (Jvm.Cond.fieldLink "BenchBrokerModel" (60 : Nat) "BenchBrokerModel" "detail" "I") ∈ lw_all := lw_g (lw_at lw_m9 201 rfl) rfl
theorem q2207 : (Jvm.Cond.fieldLink "BenchBrokerModel" (63 : Nat) "BenchBrokerModel" "cause" "I") ∈ lw_all := lw_g (lw_at lw_m9 202 rfl) rfl
theorem q2208 : (Jvm.Cond.fieldLink "BenchBrokerModel" (44 : Nat) "BenchBrokerModel" "about" "I") ∈ lw_all := lw_g (lw_at lw_m9 203 rfl) rfl
theorem q2209 : (Jvm.Cond.fieldLink "BenchBrokerModel" (47 : Nat) "BenchBrokerModel" "answer" "I") ∈ lw_all := lw_g (lw_at lw_m9 204 rfl) rfl
theorem q2210 : (Jvm.Cond.fieldLink "BenchBrokerModel" (215 : Nat) "BenchBrokerModel" "spot" "I") ∈ lw_all := lw_g (lw_at lw_m9 205 rfl) rfl
theorem q2211 : (Jvm.Cond.fieldLink "BenchBrokerModel" (218 : Nat) "BenchBrokerModel" "end" "I") ∈ lw_all := lw_g (lw_at lw_m9 206 rfl) rfl
theorem q2212 : (Jvm.Cond.fieldLink "BenchBrokerModel" (242 : Nat) "BenchBrokerModel" "commands" "I") ∈ lw_all := lw_g (lw_at lw_m9 207 rfl) rfl
theorem q2213 : (Jvm.Cond.fieldLink "BenchBrokerModel" (225 : Nat) "BenchBrokerModel" "isWrong" "Z") ∈ lw_all := lw_g (lw_at lw_m9 208 rfl) rfl
theorem q2214 : (Jvm.Cond.lays "BenchBrokerModel" "BenchBrokerModel" "thrown" "I") ∈ lw_all := lw_g (lw_at lw_m9 209 rfl) rfl
theorem q2215 : (Jvm.Cond.soleField "BenchBrokerModel" "thrown") ∈ lw_all := lw_g (lw_at lw_m9 210 rfl) rfl
theorem q2216 : (Jvm.Cond.laysFinal "BenchBrokerModel" "BenchBrokerModel" "s" "[I") ∈ lw_all := lw_g (lw_at lw_m9 211 rfl) rfl
theorem q2217 : (Jvm.Cond.soleField "BenchBrokerModel" "s") ∈ lw_all := lw_g (lw_at lw_m9 212 rfl) rfl
theorem q2218 : (Jvm.Cond.laysFinal "BenchBrokerModel" "BenchBrokerModel" "frame" "[I") ∈ lw_all := lw_g (lw_at lw_m9 213 rfl) rfl
theorem q2219 : (Jvm.Cond.soleField "BenchBrokerModel" "frame") ∈ lw_all := lw_g (lw_at lw_m9 214 rfl) rfl
theorem q2220 : (Jvm.Cond.laysFinal "BenchBrokerModel" "BenchBrokerModel" "saved" "[I") ∈ lw_all := lw_g (lw_at lw_m9 215 rfl) rfl
theorem q2221 : (Jvm.Cond.soleField "BenchBrokerModel" "saved") ∈ lw_all := lw_g (lw_at lw_m9 216 rfl) rfl
theorem q2222 : (Jvm.Cond.laysFinal "BenchBrokerModel" "BenchBrokerModel" "history" "[I") ∈ lw_all := lw_g (lw_at lw_m9 217 rfl) rfl
theorem q2223 : (Jvm.Cond.soleField "BenchBrokerModel" "history") ∈ lw_all := lw_g (lw_at lw_m9 218 rfl) rfl
theorem q2224 : (Jvm.Cond.laysFinal "BenchBrokerModel" "BenchBrokerModel" "thought" "[I") ∈ lw_all := lw_g (lw_at lw_m9 219 rfl) rfl
theorem q2225 : (Jvm.Cond.soleField "BenchBrokerModel" "thought") ∈ lw_all := lw_g (lw_at lw_m9 220 rfl) rfl
theorem q2226 : (Jvm.Cond.lays "BenchBrokerModel" "BenchBrokerModel" "kept" "I") ∈ lw_all := lw_g (lw_at lw_m9 221 rfl) rfl
theorem q2227 : (Jvm.Cond.soleField "BenchBrokerModel" "kept") ∈ lw_all := lw_g (lw_at lw_m9 222 rfl) rfl
theorem q2228 : (Jvm.Cond.lays "BenchBrokerModel" "BenchBrokerModel" "hasSaved" "Z") ∈ lw_all := lw_g (lw_at lw_m9 223 rfl) rfl
theorem q2229 : (Jvm.Cond.soleField "BenchBrokerModel" "hasSaved") ∈ lw_all := lw_g (lw_at lw_m9 224 rfl) rfl
theorem q2230 : (Jvm.Cond.laysFinal "BenchBrokerModel" "BenchBrokerModel" "text" "[I") ∈ lw_all := lw_g (lw_at lw_m9 225 rfl) rfl
theorem q2231 : (Jvm.Cond.soleField "BenchBrokerModel" "text") ∈ lw_all := lw_g (lw_at lw_m9 226 rfl) rfl
theorem q2232 : (Jvm.Cond.laysFinal "BenchBrokerModel" "BenchBrokerModel" "told" "[I") ∈ lw_all := lw_g (lw_at lw_m9 227 rfl) rfl
theorem q2233 : (Jvm.Cond.soleField "BenchBrokerModel" "told") ∈ lw_all := lw_g (lw_at lw_m9 228 rfl) rfl
theorem q2234 : (Jvm.Cond.laysFinal "BenchBrokerModel" "BenchBrokerModel" "out" "[I") ∈ lw_all := lw_g (lw_at lw_m9 229 rfl) rfl
theorem q2235 : (Jvm.Cond.soleField "BenchBrokerModel" "out") ∈ lw_all := lw_g (lw_at lw_m9 230 rfl) rfl
theorem q2236 : (Jvm.Cond.lays "BenchBrokerModel" "BenchBrokerModel" "length" "I") ∈ lw_all := lw_g (lw_at lw_m9 231 rfl) rfl
theorem q2237 : (Jvm.Cond.soleField "BenchBrokerModel" "length") ∈ lw_all := lw_g (lw_at lw_m9 232 rfl) rfl
theorem q2238 : (Jvm.Cond.lays "BenchBrokerModel" "BenchBrokerModel" "outLength" "I") ∈ lw_all := lw_g (lw_at lw_m9 233 rfl) rfl
theorem q2239 : (Jvm.Cond.soleField "BenchBrokerModel" "outLength") ∈ lw_all := lw_g (lw_at lw_m9 234 rfl) rfl
theorem q2240 : (Jvm.Cond.lays "BenchBrokerModel" "BenchBrokerModel" "faultAt" "I") ∈ lw_all := lw_g (lw_at lw_m9 235 rfl) rfl
theorem q2241 : (Jvm.Cond.soleField "BenchBrokerModel" "faultAt") ∈ lw_all := lw_g (lw_at lw_m9 236 rfl) rfl
theorem q2242 : (Jvm.Cond.lays "BenchBrokerModel" "BenchBrokerModel" "why" "I") ∈ lw_all := lw_g (lw_at lw_m9 237 rfl) rfl
theorem q2243 : (Jvm.Cond.soleField "BenchBrokerModel" "why") ∈ lw_all := lw_g (lw_at lw_m9 238 rfl) rfl
theorem q2244 : (Jvm.Cond.lays "BenchBrokerModel" "BenchBrokerModel" "detail" "I") ∈ lw_all := lw_g (lw_at lw_m9 239 rfl) rfl
theorem q2245 : (Jvm.Cond.soleField "BenchBrokerModel" "detail") ∈ lw_all := lw_g (lw_at lw_m10 0 rfl) rfl
theorem q2246 : (Jvm.Cond.lays "BenchBrokerModel" "BenchBrokerModel" "cause" "I") ∈ lw_all := lw_g (lw_at lw_m10 1 rfl) rfl
theorem q2247 : (Jvm.Cond.soleField "BenchBrokerModel" "cause") ∈ lw_all := lw_g (lw_at lw_m10 2 rfl) rfl
theorem q2248 : (Jvm.Cond.lays "BenchBrokerModel" "BenchBrokerModel" "about" "I") ∈ lw_all := lw_g (lw_at lw_m10 3 rfl) rfl
theorem q2249 : (Jvm.Cond.soleField "BenchBrokerModel" "about") ∈ lw_all := lw_g (lw_at lw_m10 4 rfl) rfl
theorem q2250 : (Jvm.Cond.lays "BenchBrokerModel" "BenchBrokerModel" "answer" "I") ∈ lw_all := lw_g (lw_at lw_m10 5 rfl) rfl
theorem q2251 : (Jvm.Cond.soleField "BenchBrokerModel" "answer") ∈ lw_all := lw_g (lw_at lw_m10 6 rfl) rfl
theorem q2252 : (Jvm.Cond.lays "BenchBrokerModel" "BenchBrokerModel" "spot" "I") ∈ lw_all := lw_g (lw_at lw_m10 7 rfl) rfl
theorem q2253 : (Jvm.Cond.soleField "BenchBrokerModel" "spot") ∈ lw_all := lw_g (lw_at lw_m10 8 rfl) rfl
theorem q2254 : (Jvm.Cond.lays "BenchBrokerModel" "BenchBrokerModel" "end" "I") ∈ lw_all := lw_g (lw_at lw_m10 9 rfl) rfl
theorem q2255 : (Jvm.Cond.soleField "BenchBrokerModel" "end") ∈ lw_all := lw_g (lw_at lw_m10 10 rfl) rfl
theorem q2256 : (Jvm.Cond.lays "BenchBrokerModel" "BenchBrokerModel" "commands" "I") ∈ lw_all := lw_g (lw_at lw_m10 11 rfl) rfl
theorem q2257 : (Jvm.Cond.soleField "BenchBrokerModel" "commands") ∈ lw_all := lw_g (lw_at lw_m10 12 rfl) rfl
theorem q2258 : (Jvm.Cond.lays "BenchBrokerModel" "BenchBrokerModel" "isWrong" "Z") ∈ lw_all := lw_g (lw_at lw_m10 13 rfl) rfl
theorem q2259 : (Jvm.Cond.soleField "BenchBrokerModel" "isWrong") ∈ lw_all := lw_g (lw_at lw_m10 14 rfl) rfl
theorem q2260 : (Jvm.Cond.superclass "BenchBrokerModel" "java/lang/Object") ∈ lw_all := lw_g (lw_at lw_m10 15 rfl) rfl
theorem q2262 : (Jvm.Cond.instanceMethod ({ cls := "BenchBrokerModel", name := "thrown", desc := "()I" } : Jvm.MethodName)) ∈ lw_all := lw_g (lw_at lw_m10 17 rfl) rfl
theorem q2263 : (Jvm.Cond.selects "BenchBrokerModel" ({ cls := "BenchBrokerModel", name := "thrown", desc := "()I" } : Jvm.MethodName) ({ cls := "BenchBrokerModel", name := "thrown", desc := "()I" } : Jvm.MethodName)) ∈ lw_all := lw_g (lw_at lw_m10 18 rfl) rfl
theorem q2264 : (Jvm.Cond.code ({ cls := "BenchBrokerModel", name := "thrown", desc := "()I" } : Jvm.MethodName) prog_20_method_2_code (1 : Nat) (Option.some Jvm.ClassFile.FieldType.int)) ∈ lw_all := lw_g (lw_at lw_m10 19 rfl) rfl
theorem q2266 : (Jvm.Cond.instanceMethod ({ cls := "BenchBrokerModel", name := "addBench", desc := "(III)I" } : Jvm.MethodName)) ∈ lw_all := lw_g (lw_at lw_m10 21 rfl) rfl
theorem q2267 : (Jvm.Cond.selects "BenchBrokerModel" ({ cls := "BenchBrokerModel", name := "addBench", desc := "(III)I" } : Jvm.MethodName) ({ cls := "BenchBrokerModel", name := "addBench", desc := "(III)I" } : Jvm.MethodName)) ∈ lw_all := lw_g (lw_at lw_m10 22 rfl) rfl
theorem q2268 : (Jvm.Cond.code ({ cls := "BenchBrokerModel", name := "addBench", desc := "(III)I" } : Jvm.MethodName) prog_20_method_40_code (4 : Nat) (Option.some Jvm.ClassFile.FieldType.int)) ∈ lw_all := lw_g (lw_at lw_m10 23 rfl) rfl
theorem q2269 : (Jvm.Cond.methodLink "BenchBrokerModel" (134 : Nat) ({ cls := "BenchBrokerModel", name := "remembers", desc := "()V" } : Jvm.MethodName)) ∈ lw_all := lw_g (lw_at lw_m10 24 rfl) rfl
theorem q2270 : (Jvm.Cond.privateMethod ({ cls := "BenchBrokerModel", name := "remembers", desc := "()V" } : Jvm.MethodName)) ∈ lw_tbl := lw_at lw_m10 25 rfl
theorem q2271 : (Jvm.Cond.instanceMethod ({ cls := "BenchBrokerModel", name := "remembers", desc := "()V" } : Jvm.MethodName)) ∈ lw_all := lw_g (lw_at lw_m10 26 rfl) rfl
theorem q2272 : (Jvm.Cond.code ({ cls := "BenchBrokerModel", name := "remembers", desc := "()V" } : Jvm.MethodName) prog_20_method_5_code (2 : Nat) (Option.none : Option Jvm.ClassFile.FieldType)) ∈ lw_all := lw_g (lw_at lw_m10 27 rfl) rfl
theorem q2273 : (Jvm.Cond.methodLink "BenchBrokerModel" (137 : Nat) ({ cls := "BenchBrokerModel", name := "addsBench", desc := "(III)I" } : Jvm.MethodName)) ∈ lw_all := lw_g (lw_at lw_m10 28 rfl) rfl
theorem q2274 : (Jvm.Cond.privateMethod ({ cls := "BenchBrokerModel", name := "addsBench", desc := "(III)I" } : Jvm.MethodName)) ∈ lw_tbl := lw_at lw_m10 29 rfl
theorem q2275 : (Jvm.Cond.instanceMethod ({ cls := "BenchBrokerModel", name := "addsBench", desc := "(III)I" } : Jvm.MethodName)) ∈ lw_all := lw_g (lw_at lw_m10 30 rfl) rfl
theorem q2276 : (Jvm.Cond.code ({ cls := "BenchBrokerModel", name := "addsBench", desc := "(III)I" } : Jvm.MethodName) prog_20_method_25_code (6 : Nat) (Option.some Jvm.ClassFile.FieldType.int)) ∈ lw_all := lw_g (lw_at lw_m10 31 rfl) rfl
theorem q2277 : (Jvm.Cond.methodLink "BenchBrokerModel" (89 : Nat) ({ cls := "BenchBrokerModel", name := "isCell", desc := "(II)Z" } : Jvm.MethodName)) ∈ lw_all := lw_g (lw_at lw_m10 32 rfl) rfl
theorem q2278 : (Jvm.Cond.static ({ cls := "BenchBrokerModel", name := "isCell", desc := "(II)Z" } : Jvm.MethodName)) ∈ lw_all := lw_g (lw_at lw_m10 33 rfl) rfl
theorem q2279 : (Jvm.Cond.code ({ cls := "BenchBrokerModel", name := "isCell", desc := "(II)Z" } : Jvm.MethodName) prog_20_method_10_code (2 : Nat) (Option.some Jvm.ClassFile.FieldType.boolean)) ∈ lw_all := lw_g (lw_at lw_m10 34 rfl) rfl
theorem q2280 : (Jvm.Cond.methodLink "BenchBrokerModel" (66 : Nat) ({ cls := "BenchBrokerModel", name := "in", desc := "(III)Z" } : Jvm.MethodName)) ∈ lw_all := lw_g (lw_at lw_m10 35 rfl) rfl
theorem q2281 : (Jvm.Cond.static ({ cls := "BenchBrokerModel", name := "in", desc := "(III)Z" } : Jvm.MethodName)) ∈ lw_all := lw_g (lw_at lw_m10 36 rfl) rfl
theorem q2282 : (Jvm.Cond.code ({ cls := "BenchBrokerModel", name := "in", desc := "(III)Z" } : Jvm.MethodName) prog_20_method_4_code (3 : Nat) (Option.some Jvm.ClassFile.FieldType.boolean)) ∈ lw_all := lw_g (lw_at lw_m10 37 rfl) rfl
theorem q2283 : (Jvm.Cond.methodLink "BenchBrokerModel" (93 : Nat) ({ cls := "BenchBrokerModel", name := "rejected", desc := "(II)I" } : Jvm.MethodName)) ∈ lw_all := lw_g (lw_at lw_m10 38 rfl) rfl
theorem q2284 : (Jvm.Cond.privateMethod ({ cls := "BenchBrokerModel", name := "rejected", desc := "(II)I" } : Jvm.MethodName)) ∈ lw_tbl := lw_at lw_m10 39 rfl
theorem q2285 : (Jvm.Cond.instanceMethod ({ cls := "BenchBrokerModel", name := "rejected", desc := "(II)I" } : Jvm.MethodName)) ∈ lw_all := lw_g (lw_at lw_m10 40 rfl) rfl
theorem q2286 : (Jvm.Cond.code ({ cls := "BenchBrokerModel", name := "rejected", desc := "(II)I" } : Jvm.MethodName) prog_20_method_7_code (3 : Nat) (Option.some Jvm.ClassFile.FieldType.int)) ∈ lw_all := lw_g (lw_at lw_m10 41 rfl) rfl
theorem q2287 : (Jvm.Cond.methodLink "BenchBrokerModel" (96 : Nat) ({ cls := "BenchBrokerModel", name := "holder", desc := "(II)I" } : Jvm.MethodName)) ∈ lw_all := lw_g (lw_at lw_m10 42 rfl) rfl
theorem q2288 : (Jvm.Cond.privateMethod ({ cls := "BenchBrokerModel", name := "holder", desc := "(II)I" } : Jvm.MethodName)) ∈ lw_tbl := lw_at lw_m10 43 rfl
theorem q2289 : (Jvm.Cond.instanceMethod ({ cls := "BenchBrokerModel", name := "holder", desc := "(II)I" } : Jvm.MethodName)) ∈ lw_all := lw_g (lw_at lw_m10 44 rfl) rfl
theorem q2290 : (Jvm.Cond.code ({ cls := "BenchBrokerModel", name := "holder", desc := "(II)I" } : Jvm.MethodName) prog_20_method_19_code (4 : Nat) (Option.some Jvm.ClassFile.FieldType.int)) ∈ lw_all := lw_g (lw_at lw_m10 45 rfl) rfl
theorem q2291 : (Jvm.Cond.methodLink "BenchBrokerModel" (70 : Nat) ({ cls := "BenchBrokerModel", name := "bench", desc := "(II)I" } : Jvm.MethodName)) ∈ lw_all := lw_g (lw_at lw_m10 46 rfl) rfl
theorem q2292 : (Jvm.Cond.privateMethod ({ cls := "BenchBrokerModel", name := "bench", desc := "(II)I" } : Jvm.MethodName)) ∈ lw_tbl := lw_at lw_m10 47 rfl
theorem q2293 : (Jvm.Cond.instanceMethod ({ cls := "BenchBrokerModel", name := "bench", desc := "(II)I" } : Jvm.MethodName)) ∈ lw_all := lw_g (lw_at lw_m10 48 rfl) rfl
theorem q2294 : (Jvm.Cond.code ({ cls := "BenchBrokerModel", name := "bench", desc := "(II)I" } : Jvm.MethodName) prog_20_method_14_code (3 : Nat) (Option.some Jvm.ClassFile.FieldType.int)) ∈ lw_all := lw_g (lw_at lw_m10 49 rfl) rfl
theorem q2295 : (Jvm.Cond.methodLink "BenchBrokerModel" (77 : Nat) ({ cls := "BenchBrokerModel", name := "fountain", desc := "(II)I" } : Jvm.MethodName)) ∈ lw_all := lw_g (lw_at lw_m10 50 rfl) rfl
theorem q2296 : (Jvm.Cond.privateMethod ({ cls := "BenchBrokerModel", name := "fountain", desc := "(II)I" } : Jvm.MethodName)) ∈ lw_tbl := lw_at lw_m10 51 rfl
theorem q2297 : (Jvm.Cond.instanceMethod ({ cls := "BenchBrokerModel", name := "fountain", desc := "(II)I" } : Jvm.MethodName)) ∈ lw_all := lw_g (lw_at lw_m10 52 rfl) rfl
theorem q2298 : (Jvm.Cond.code ({ cls := "BenchBrokerModel", name := "fountain", desc := "(II)I" } : Jvm.MethodName) prog_20_method_15_code (3 : Nat) (Option.some Jvm.ClassFile.FieldType.int)) ∈ lw_all := lw_g (lw_at lw_m10 53 rfl) rfl
theorem q2299 : (Jvm.Cond.methodLink "BenchBrokerModel" (99 : Nat) ({ cls := "BenchBrokerModel", name := "done", desc := "(I)I" } : Jvm.MethodName)) ∈ lw_all := lw_g (lw_at lw_m10 54 rfl) rfl
theorem q2300 : (Jvm.Cond.privateMethod ({ cls := "BenchBrokerModel", name := "done", desc := "(I)I" } : Jvm.MethodName)) ∈ lw_tbl := lw_at lw_m10 55 rfl
theorem q2301 : (Jvm.Cond.instanceMethod ({ cls := "BenchBrokerModel", name := "done", desc := "(I)I" } : Jvm.MethodName)) ∈ lw_all := lw_g (lw_at lw_m10 56 rfl) rfl
theorem q2302 : (Jvm.Cond.code ({ cls := "BenchBrokerModel", name := "done", desc := "(I)I" } : Jvm.MethodName) prog_20_method_8_code (2 : Nat) (Option.some Jvm.ClassFile.FieldType.int)) ∈ lw_all := lw_g (lw_at lw_m10 57 rfl) rfl
theorem q2303 : (Jvm.Cond.methodLink "BenchBrokerModel" (141 : Nat) ({ cls := "BenchBrokerModel", name := "ends", desc := "(II)I" } : Jvm.MethodName)) ∈ lw_all := lw_g (lw_at lw_m10 58 rfl) rfl
theorem q2304 : (Jvm.Cond.privateMethod ({ cls := "BenchBrokerModel", name := "ends", desc := "(II)I" } : Jvm.MethodName)) ∈ lw_tbl := lw_at lw_m10 59 rfl
theorem q2305 : (Jvm.Cond.instanceMethod ({ cls := "BenchBrokerModel", name := "ends", desc := "(II)I" } : Jvm.MethodName)) ∈ lw_all := lw_g (lw_at lw_m10 60 rfl) rfl
theorem q2306 : (Jvm.Cond.code ({ cls := "BenchBrokerModel", name := "ends", desc := "(II)I" } : Jvm.MethodName) prog_20_method_9_code (3 : Nat) (Option.some Jvm.ClassFile.FieldType.int)) ∈ lw_all := lw_g (lw_at lw_m10 61 rfl) rfl
theorem q2307 : (Jvm.Cond.methodLink "BenchBrokerModel" (50 : Nat) ({ cls := "BenchBrokerModel", name := "changed", desc := "(I)I" } : Jvm.MethodName)) ∈ lw_all := lw_g (lw_at lw_m10 62 rfl) rfl
theorem q2308 : (Jvm.Cond.privateMethod ({ cls := "BenchBrokerModel", name := "changed", desc := "(I)I" } : Jvm.MethodName)) ∈ lw_tbl := lw_at lw_m10 63 rfl
theorem q2309 : (Jvm.Cond.instanceMethod ({ cls := "BenchBrokerModel", name := "changed", desc := "(I)I" } : Jvm.MethodName)) ∈ lw_all := lw_g (lw_at lw_m10 64 rfl) rfl
theorem q2310 : (Jvm.Cond.code ({ cls := "BenchBrokerModel", name := "changed", desc := "(I)I" } : Jvm.MethodName) prog_20_method_6_code (3 : Nat) (Option.some Jvm.ClassFile.FieldType.int)) ∈ lw_all := lw_g (lw_at lw_m10 65 rfl) rfl
theorem q2311 : (Jvm.Cond.methodLink "BenchBrokerModel" (54 : Nat) ({ cls := "BenchBrokerModel", name := "fails", desc := "(I)I" } : Jvm.MethodName)) ∈ lw_all := lw_g (lw_at lw_m10 66 rfl) rfl
theorem q2312 : (Jvm.Cond.privateMethod ({ cls := "BenchBrokerModel", name := "fails", desc := "(I)I" } : Jvm.MethodName)) ∈ lw_tbl := lw_at lw_m10 67 rfl
theorem q2313 : (Jvm.Cond.instanceMethod ({ cls := "BenchBrokerModel", name := "fails", desc := "(I)I" } : Jvm.MethodName)) ∈ lw_all := lw_g (lw_at lw_m10 68 rfl) rfl
theorem q2314 : (Jvm.Cond.code ({ cls := "BenchBrokerModel", name := "fails", desc := "(I)I" } : Jvm.MethodName) prog_20_method_3_code (2 : Nat) (Option.some Jvm.ClassFile.FieldType.int)) ∈ lw_all := lw_g (lw_at lw_m10 69 rfl) rfl
theorem q2316 : (Jvm.Cond.instanceMethod ({ cls := "BenchBrokerModel", name := "setRent", desc := "(II)I" } : Jvm.MethodName)) ∈ lw_all := lw_g (lw_at lw_m10 71 rfl) rfl
theorem q2317 : (Jvm.Cond.selects "BenchBrokerModel" ({ cls := "BenchBrokerModel", name := "setRent", desc := "(II)I" } : Jvm.MethodName) ({ cls := "BenchBrokerModel", name := "setRent", desc := "(II)I" } : Jvm.MethodName)) ∈ lw_all := lw_g (lw_at lw_m10 72 rfl) rfl
theorem q2318 : (Jvm.Cond.code ({ cls := "BenchBrokerModel", name := "setRent", desc := "(II)I" } : Jvm.MethodName) prog_20_method_41_code (3 : Nat) (Option.some Jvm.ClassFile.FieldType.int)) ∈ lw_all := lw_g (lw_at lw_m10 73 rfl) rfl
theorem q2319 : (Jvm.Cond.methodLink "BenchBrokerModel" (144 : Nat) ({ cls := "BenchBrokerModel", name := "rents", desc := "(II)I" } : Jvm.MethodName)) ∈ lw_all := lw_g (lw_at lw_m10 74 rfl) rfl
theorem q2320 : (Jvm.Cond.privateMethod ({ cls := "BenchBrokerModel", name := "rents", desc := "(II)I" } : Jvm.MethodName)) ∈ lw_tbl := lw_at lw_m10 75 rfl
theorem q2321 : (Jvm.Cond.instanceMethod ({ cls := "BenchBrokerModel", name := "rents", desc := "(II)I" } : Jvm.MethodName)) ∈ lw_all := lw_g (lw_at lw_m10 76 rfl) rfl
theorem q2322 : (Jvm.Cond.code ({ cls := "BenchBrokerModel", name := "rents", desc := "(II)I" } : Jvm.MethodName) prog_20_method_34_code (4 : Nat) (Option.some Jvm.ClassFile.FieldType.int)) ∈ lw_all := lw_g (lw_at lw_m10 77 rfl) rfl
theorem q2323 : (Jvm.Cond.methodLink "BenchBrokerModel" (118 : Nat) ({ cls := "BenchBrokerModel", name := "isBench", desc := "(I)Z" } : Jvm.MethodName)) ∈ lw_all := lw_g (lw_at lw_m10 78 rfl) rfl
theorem q2324 : (Jvm.Cond.privateMethod ({ cls := "BenchBrokerModel", name := "isBench", desc := "(I)Z" } : Jvm.MethodName)) ∈ lw_tbl := lw_at lw_m10 79 rfl
theorem q2325 : (Jvm.Cond.instanceMethod ({ cls := "BenchBrokerModel", name := "isBench", desc := "(I)Z" } : Jvm.MethodName)) ∈ lw_all := lw_g (lw_at lw_m10 80 rfl) rfl
theorem q2326 : (Jvm.Cond.code ({ cls := "BenchBrokerModel", name := "isBench", desc := "(I)Z" } : Jvm.MethodName) prog_20_method_11_code (2 : Nat) (Option.some Jvm.ClassFile.FieldType.boolean)) ∈ lw_all := lw_g (lw_at lw_m10 81 rfl) rfl
theorem q2328 : (Jvm.Cond.instanceMethod ({ cls := "BenchBrokerModel", name := "addFountain", desc := "(III)I" } : Jvm.MethodName)) ∈ lw_all := lw_g (lw_at lw_m10 83 rfl) rfl
theorem q2329 : (Jvm.Cond.selects "BenchBrokerModel" ({ cls := "BenchBrokerModel", name := "addFountain", desc := "(III)I" } : Jvm.MethodName) ({ cls := "BenchBrokerModel", name := "addFountain", desc := "(III)I" } : Jvm.MethodName)) ∈ lw_all := lw_g (lw_at lw_m10 84 rfl) rfl
theorem q2330 : (Jvm.Cond.code ({ cls := "BenchBrokerModel", name := "addFountain", desc := "(III)I" } : Jvm.MethodName) prog_20_method_42_code (4 : Nat) (Option.some Jvm.ClassFile.FieldType.int)) ∈ lw_all := lw_g (lw_at lw_m10 85 rfl) rfl
theorem q2331 : (Jvm.Cond.methodLink "BenchBrokerModel" (147 : Nat) ({ cls := "BenchBrokerModel", name := "addsFountain", desc := "(III)I" } : Jvm.MethodName)) ∈ lw_all := lw_g (lw_at lw_m10 86 rfl) rfl
theorem q2332 : (Jvm.Cond.privateMethod ({ cls := "BenchBrokerModel", name := "addsFountain", desc := "(III)I" } : Jvm.MethodName)) ∈ lw_tbl := lw_at lw_m10 87 rfl
theorem q2333 : (Jvm.Cond.instanceMethod ({ cls := "BenchBrokerModel", name := "addsFountain", desc := "(III)I" } : Jvm.MethodName)) ∈ lw_all := lw_g (lw_at lw_m10 88 rfl) rfl
theorem q2334 : (Jvm.Cond.code ({ cls := "BenchBrokerModel", name := "addsFountain", desc := "(III)I" } : Jvm.MethodName) prog_20_method_26_code (5 : Nat) (Option.some Jvm.ClassFile.FieldType.int)) ∈ lw_all := lw_g (lw_at lw_m10 89 rfl) rfl
theorem q2336 : (Jvm.Cond.instanceMethod ({ cls := "BenchBrokerModel", name := "setLoudness", desc := "(II)I" } : Jvm.MethodName)) ∈ lw_all := lw_g (lw_at lw_m10 91 rfl) rfl
theorem q2337 : (Jvm.Cond.selects "BenchBrokerModel" ({ cls := "BenchBrokerModel", name := "setLoudness", desc := "(II)I" } : Jvm.MethodName) ({ cls := "BenchBrokerModel", name := "setLoudness", desc := "(II)I" } : Jvm.MethodName)) ∈ lw_all := lw_g (lw_at lw_m10 92 rfl) rfl
theorem q2338 : (Jvm.Cond.code ({ cls := "BenchBrokerModel", name := "setLoudness", desc := "(II)I" } : Jvm.MethodName) prog_20_method_43_code (3 : Nat) (Option.some Jvm.ClassFile.FieldType.int)) ∈ lw_all := lw_g (lw_at lw_m10 93 rfl) rfl
theorem q2339 : (Jvm.Cond.methodLink "BenchBrokerModel" (150 : Nat) ({ cls := "BenchBrokerModel", name := "louds", desc := "(II)I" } : Jvm.MethodName)) ∈ lw_all := lw_g (lw_at lw_m10 94 rfl) rfl
theorem q2340 : (Jvm.Cond.privateMethod ({ cls := "BenchBrokerModel", name := "louds", desc := "(II)I" } : Jvm.MethodName)) ∈ lw_tbl := lw_at lw_m10 95 rfl
theorem q2341 : (Jvm.Cond.instanceMethod ({ cls := "BenchBrokerModel", name := "louds", desc := "(II)I" } : Jvm.MethodName)) ∈ lw_all := lw_g (lw_at lw_m10 96 rfl) rfl
theorem q2342 : (Jvm.Cond.code ({ cls := "BenchBrokerModel", name := "louds", desc := "(II)I" } : Jvm.MethodName) prog_20_method_35_code (4 : Nat) (Option.some Jvm.ClassFile.FieldType.int)) ∈ lw_all := lw_g (lw_at lw_m10 97 rfl) rfl
theorem q2343 : (Jvm.Cond.methodLink "BenchBrokerModel" (128 : Nat) ({ cls := "BenchBrokerModel", name := "isFountain", desc := "(I)Z" } : Jvm.MethodName)) ∈ lw_all := lw_g (lw_at lw_m10 98 rfl) rfl
theorem q2344 : (Jvm.Cond.privateMethod ({ cls := "BenchBrokerModel", name := "isFountain", desc := "(I)Z" } : Jvm.MethodName)) ∈ lw_tbl := lw_at lw_m10 99 rfl
theorem q2345 : (Jvm.Cond.instanceMethod ({ cls := "BenchBrokerModel", name := "isFountain", desc := "(I)Z" } : Jvm.MethodName)) ∈ lw_all := lw_g (lw_at lw_m10 100 rfl) rfl
theorem q2346 : (Jvm.Cond.code ({ cls := "BenchBrokerModel", name := "isFountain", desc := "(I)Z" } : Jvm.MethodName) prog_20_method_12_code (2 : Nat) (Option.some Jvm.ClassFile.FieldType.boolean)) ∈ lw_all := lw_g (lw_at lw_m10 101 rfl) rfl
theorem q2348 : (Jvm.Cond.instanceMethod ({ cls := "BenchBrokerModel", name := "switchFountain", desc := "(I)Z" } : Jvm.MethodName)) ∈ lw_all := lw_g (lw_at lw_m10 103 rfl) rfl
theorem q2349 : (Jvm.Cond.selects "BenchBrokerModel" ({ cls := "BenchBrokerModel", name := "switchFountain", desc := "(I)Z" } : Jvm.MethodName) ({ cls := "BenchBrokerModel", name := "switchFountain", desc := "(I)Z" } : Jvm.MethodName)) ∈ lw_all := lw_g (lw_at lw_m10 104 rfl) rfl
theorem q2350 : (Jvm.Cond.code ({ cls := "BenchBrokerModel", name := "switchFountain", desc := "(I)Z" } : Jvm.MethodName) prog_20_method_44_code (2 : Nat) (Option.some Jvm.ClassFile.FieldType.boolean)) ∈ lw_all := lw_g (lw_at lw_m10 105 rfl) rfl
theorem q2351 : (Jvm.Cond.methodLink "BenchBrokerModel" (153 : Nat) ({ cls := "BenchBrokerModel", name := "switches", desc := "(I)I" } : Jvm.MethodName)) ∈ lw_all := lw_g (lw_at lw_m10 106 rfl) rfl
theorem q2352 : (Jvm.Cond.privateMethod ({ cls := "BenchBrokerModel", name := "switches", desc := "(I)I" } : Jvm.MethodName)) ∈ lw_tbl := lw_at lw_m10 107 rfl
theorem q2353 : (Jvm.Cond.instanceMethod ({ cls := "BenchBrokerModel", name := "switches", desc := "(I)I" } : Jvm.MethodName)) ∈ lw_all := lw_g (lw_at lw_m10 108 rfl) rfl
theorem q2354 : (Jvm.Cond.code ({ cls := "BenchBrokerModel", name := "switches", desc := "(I)I" } : Jvm.MethodName) prog_20_method_36_code (2 : Nat) (Option.some Jvm.ClassFile.FieldType.int)) ∈ lw_all := lw_g (lw_at lw_m10 109 rfl) rfl
theorem q2356 : (Jvm.Cond.instanceMethod ({ cls := "BenchBrokerModel", name := "setNoiseLimit", desc := "(I)I" } : Jvm.MethodName)) ∈ lw_all := lw_g (lw_at lw_m10 111 rfl) rfl
theorem q2357 : (Jvm.Cond.selects "BenchBrokerModel" ({ cls := "BenchBrokerModel", name := "setNoiseLimit", desc := "(I)I" } : Jvm.MethodName) ({ cls := "BenchBrokerModel", name := "setNoiseLimit", desc := "(I)I" } : Jvm.MethodName)) ∈ lw_all := lw_g (lw_at lw_m10 112 rfl) rfl
theorem q2358 : (Jvm.Cond.code ({ cls := "BenchBrokerModel", name := "setNoiseLimit", desc := "(I)I" } : Jvm.MethodName) prog_20_method_45_code (2 : Nat) (Option.some Jvm.ClassFile.FieldType.int)) ∈ lw_all := lw_g (lw_at lw_m10 113 rfl) rfl
theorem q2359 : (Jvm.Cond.methodLink "BenchBrokerModel" (156 : Nat) ({ cls := "BenchBrokerModel", name := "limits", desc := "(I)I" } : Jvm.MethodName)) ∈ lw_all := lw_g (lw_at lw_m10 114 rfl) rfl
theorem q2360 : (Jvm.Cond.privateMethod ({ cls := "BenchBrokerModel", name := "limits", desc := "(I)I" } : Jvm.MethodName)) ∈ lw_tbl := lw_at lw_m10 115 rfl
theorem q2361 : (Jvm.Cond.instanceMethod ({ cls := "BenchBrokerModel", name := "limits", desc := "(I)I" } : Jvm.MethodName)) ∈ lw_all := lw_g (lw_at lw_m10 116 rfl) rfl
theorem q2362 : (Jvm.Cond.code ({ cls := "BenchBrokerModel", name := "limits", desc := "(I)I" } : Jvm.MethodName) prog_20_method_37_code (3 : Nat) (Option.some Jvm.ClassFile.FieldType.int)) ∈ lw_all := lw_g (lw_at lw_m10 117 rfl) rfl
theorem q2364 : (Jvm.Cond.instanceMethod ({ cls := "BenchBrokerModel", name := "benchCount", desc := "()I" } : Jvm.MethodName)) ∈ lw_all := lw_g (lw_at lw_m10 119 rfl) rfl
theorem q2365 : (Jvm.Cond.selects "BenchBrokerModel" ({ cls := "BenchBrokerModel", name := "benchCount", desc := "()I" } : Jvm.MethodName) ({ cls := "BenchBrokerModel", name := "benchCount", desc := "()I" } : Jvm.MethodName)) ∈ lw_all := lw_g (lw_at lw_m10 120 rfl) rfl
theorem q2366 : (Jvm.Cond.code ({ cls := "BenchBrokerModel", name := "benchCount", desc := "()I" } : Jvm.MethodName) prog_20_method_46_code (1 : Nat) (Option.some Jvm.ClassFile.FieldType.int)) ∈ lw_all := lw_g (lw_at lw_m10 121 rfl) rfl
theorem q2368 : (Jvm.Cond.instanceMethod ({ cls := "BenchBrokerModel", name := "rowOf", desc := "(I)I" } : Jvm.MethodName)) ∈ lw_all := lw_g (lw_at lw_m10 123 rfl) rfl
theorem q2369 : (Jvm.Cond.selects "BenchBrokerModel" ({ cls := "BenchBrokerModel", name := "rowOf", desc := "(I)I" } : Jvm.MethodName) ({ cls := "BenchBrokerModel", name := "rowOf", desc := "(I)I" } : Jvm.MethodName)) ∈ lw_all := lw_g (lw_at lw_m10 124 rfl) rfl
theorem q2370 : (Jvm.Cond.code ({ cls := "BenchBrokerModel", name := "rowOf", desc := "(I)I" } : Jvm.MethodName) prog_20_method_48_code (2 : Nat) (Option.some Jvm.ClassFile.FieldType.int)) ∈ lw_all := lw_g (lw_at lw_m10 125 rfl) rfl
theorem q2371 : (Jvm.Cond.methodLink "BenchBrokerModel" (159 : Nat) ({ cls := "BenchBrokerModel", name := "askedBench", desc := "(II)I" } : Jvm.MethodName)) ∈ lw_all := lw_g (lw_at lw_m10 126 rfl) rfl
theorem q2372 : (Jvm.Cond.privateMethod ({ cls := "BenchBrokerModel", name := "askedBench", desc := "(II)I" } : Jvm.MethodName)) ∈ lw_tbl := lw_at lw_m10 127 rfl
theorem q2373 : (Jvm.Cond.instanceMethod ({ cls := "BenchBrokerModel", name := "askedBench", desc := "(II)I" } : Jvm.MethodName)) ∈ lw_all := lw_g (lw_at lw_m10 128 rfl) rfl
theorem q2374 : (Jvm.Cond.code ({ cls := "BenchBrokerModel", name := "askedBench", desc := "(II)I" } : Jvm.MethodName) prog_20_method_47_code (3 : Nat) (Option.some Jvm.ClassFile.FieldType.int)) ∈ lw_all := lw_g (lw_at lw_m10 129 rfl) rfl
theorem q2376 : (Jvm.Cond.instanceMethod ({ cls := "BenchBrokerModel", name := "columnOf", desc := "(I)I" } : Jvm.MethodName)) ∈ lw_all := lw_g (lw_at lw_m10 131 rfl) rfl
theorem q2377 : (Jvm.Cond.selects "BenchBrokerModel" ({ cls := "BenchBrokerModel", name := "columnOf", desc := "(I)I" } : Jvm.MethodName) ({ cls := "BenchBrokerModel", name := "columnOf", desc := "(I)I" } : Jvm.MethodName)) ∈ lw_all := lw_g (lw_at lw_m10 132 rfl) rfl
theorem q2378 : (Jvm.Cond.code ({ cls := "BenchBrokerModel", name := "columnOf", desc := "(I)I" } : Jvm.MethodName) prog_20_method_49_code (2 : Nat) (Option.some Jvm.ClassFile.FieldType.int)) ∈ lw_all := lw_g (lw_at lw_m10 133 rfl) rfl
theorem q2380 : (Jvm.Cond.instanceMethod ({ cls := "BenchBrokerModel", name := "baseRent", desc := "(I)I" } : Jvm.MethodName)) ∈ lw_all := lw_g (lw_at lw_m10 135 rfl) rfl
theorem q2381 : (Jvm.Cond.selects "BenchBrokerModel" ({ cls := "BenchBrokerModel", name := "baseRent", desc := "(I)I" } : Jvm.MethodName) ({ cls := "BenchBrokerModel", name := "baseRent", desc := "(I)I" } : Jvm.MethodName)) ∈ lw_all := lw_g (lw_at lw_m10 136 rfl) rfl
theorem q2382 : (Jvm.Cond.code ({ cls := "BenchBrokerModel", name := "baseRent", desc := "(I)I" } : Jvm.MethodName) prog_20_method_50_code (2 : Nat) (Option.some Jvm.ClassFile.FieldType.int)) ∈ lw_all := lw_g (lw_at lw_m10 137 rfl) rfl
theorem q2384 : (Jvm.Cond.instanceMethod ({ cls := "BenchBrokerModel", name := "rentOf", desc := "(I)I" } : Jvm.MethodName)) ∈ lw_all := lw_g (lw_at lw_m10 139 rfl) rfl
theorem q2385 : (Jvm.Cond.selects "BenchBrokerModel" ({ cls := "BenchBrokerModel", name := "rentOf", desc := "(I)I" } : Jvm.MethodName) ({ cls := "BenchBrokerModel", name := "rentOf", desc := "(I)I" } : Jvm.MethodName)) ∈ lw_all := lw_g (lw_at lw_m10 140 rfl) rfl
theorem q2386 : (Jvm.Cond.code ({ cls := "BenchBrokerModel", name := "rentOf", desc := "(I)I" } : Jvm.MethodName) prog_20_method_51_code (2 : Nat) (Option.some Jvm.ClassFile.FieldType.int)) ∈ lw_all := lw_g (lw_at lw_m10 141 rfl) rfl
theorem q2387 : (Jvm.Cond.methodLink "BenchBrokerModel" (115 : Nat) ({ cls := "BenchBrokerModel", name := "rent", desc := "(I)I" } : Jvm.MethodName)) ∈ lw_all := lw_g (lw_at lw_m10 142 rfl) rfl
theorem q2388 : (Jvm.Cond.privateMethod ({ cls := "BenchBrokerModel", name := "rent", desc := "(I)I" } : Jvm.MethodName)) ∈ lw_tbl := lw_at lw_m10 143 rfl
theorem q2389 : (Jvm.Cond.instanceMethod ({ cls := "BenchBrokerModel", name := "rent", desc := "(I)I" } : Jvm.MethodName)) ∈ lw_all := lw_g (lw_at lw_m10 144 rfl) rfl
theorem q2390 : (Jvm.Cond.code ({ cls := "BenchBrokerModel", name := "rent", desc := "(I)I" } : Jvm.MethodName) prog_20_method_24_code (3 : Nat) (Option.some Jvm.ClassFile.FieldType.int)) ∈ lw_all := lw_g (lw_at lw_m10 145 rfl) rfl
theorem q2391 : (Jvm.Cond.methodLink "BenchBrokerModel" (86 : Nat) ({ cls := "BenchBrokerModel", name := "noiseOf", desc := "(I)I" } : Jvm.MethodName)) ∈ lw_all := lw_g (lw_at lw_m10 146 rfl) rfl
theorem q2392 : (Jvm.Cond.privateMethod ({ cls := "BenchBrokerModel", name := "noiseOf", desc := "(I)I" } : Jvm.MethodName)) ∈ lw_tbl := lw_at lw_m10 147 rfl
theorem q2393 : (Jvm.Cond.instanceMethod ({ cls := "BenchBrokerModel", name := "noiseOf", desc := "(I)I" } : Jvm.MethodName)) ∈ lw_all := lw_g (lw_at lw_m10 148 rfl) rfl
theorem q2394 : (Jvm.Cond.code ({ cls := "BenchBrokerModel", name := "noiseOf", desc := "(I)I" } : Jvm.MethodName) prog_20_method_22_code (2 : Nat) (Option.some Jvm.ClassFile.FieldType.int)) ∈ lw_all := lw_g (lw_at lw_m10 149 rfl) rfl
theorem q2395 : (Jvm.Cond.methodLink "BenchBrokerModel" (83 : Nat) ({ cls := "BenchBrokerModel", name := "noise", desc := "(II)I" } : Jvm.MethodName)) ∈ lw_all := lw_g (lw_at lw_m10 150 rfl) rfl
theorem q2396 : (Jvm.Cond.privateMethod ({ cls := "BenchBrokerModel", name := "noise", desc := "(II)I" } : Jvm.MethodName)) ∈ lw_tbl := lw_at lw_m10 151 rfl
theorem q2397 : (Jvm.Cond.instanceMethod ({ cls := "BenchBrokerModel", name := "noise", desc := "(II)I" } : Jvm.MethodName)) ∈ lw_all := lw_g (lw_at lw_m10 152 rfl) rfl
theorem q2398 : (Jvm.Cond.code ({ cls := "BenchBrokerModel", name := "noise", desc := "(II)I" } : Jvm.MethodName) prog_20_method_21_code (7 : Nat) (Option.some Jvm.ClassFile.FieldType.int)) ∈ lw_all := lw_g (lw_at lw_m10 153 rfl) rfl
theorem q2399 : (Jvm.Cond.methodLink "BenchBrokerModel" (80 : Nat) ({ cls := "BenchBrokerModel", name := "size", desc := "(I)I" } : Jvm.MethodName)) ∈ lw_all := lw_g (lw_at lw_m10 154 rfl) rfl
theorem q2400 : (Jvm.Cond.static ({ cls := "BenchBrokerModel", name := "size", desc := "(I)I" } : Jvm.MethodName)) ∈ lw_all := lw_g (lw_at lw_m10 155 rfl) rfl
theorem q2401 : (Jvm.Cond.code ({ cls := "BenchBrokerModel", name := "size", desc := "(I)I" } : Jvm.MethodName) prog_20_method_20_code (1 : Nat) (Option.some Jvm.ClassFile.FieldType.int)) ∈ lw_all := lw_g (lw_at lw_m10 156 rfl) rfl
theorem q2403 : (Jvm.Cond.instanceMethod ({ cls := "BenchBrokerModel", name := "fountainCount", desc := "()I" } : Jvm.MethodName)) ∈ lw_all := lw_g (lw_at lw_m10 158 rfl) rfl
theorem q2404 : (Jvm.Cond.selects "BenchBrokerModel" ({ cls := "BenchBrokerModel", name := "fountainCount", desc := "()I" } : Jvm.MethodName) ({ cls := "BenchBrokerModel", name := "fountainCount", desc := "()I" } : Jvm.MethodName)) ∈ lw_all := lw_g (lw_at lw_m10 159 rfl) rfl
theorem q2405 : (Jvm.Cond.code ({ cls := "BenchBrokerModel", name := "fountainCount", desc := "()I" } : Jvm.MethodName) prog_20_method_52_code (1 : Nat) (Option.some Jvm.ClassFile.FieldType.int)) ∈ lw_all := lw_g (lw_at lw_m10 160 rfl) rfl
theorem q2407 : (Jvm.Cond.instanceMethod ({ cls := "BenchBrokerModel", name := "loudnessOf", desc := "(I)I" } : Jvm.MethodName)) ∈ lw_all := lw_g (lw_at lw_m10 162 rfl) rfl
theorem q2408 : (Jvm.Cond.selects "BenchBrokerModel" ({ cls := "BenchBrokerModel", name := "loudnessOf", desc := "(I)I" } : Jvm.MethodName) ({ cls := "BenchBrokerModel", name := "loudnessOf", desc := "(I)I" } : Jvm.MethodName)) ∈ lw_all := lw_g (lw_at lw_m10 163 rfl) rfl
theorem q2409 : (Jvm.Cond.code ({ cls := "BenchBrokerModel", name := "loudnessOf", desc := "(I)I" } : Jvm.MethodName) prog_20_method_53_code (2 : Nat) (Option.some Jvm.ClassFile.FieldType.int)) ∈ lw_all := lw_g (lw_at lw_m10 164 rfl) rfl
theorem q2411 : (Jvm.Cond.instanceMethod ({ cls := "BenchBrokerModel", name := "isRunning", desc := "(I)Z" } : Jvm.MethodName)) ∈ lw_all := lw_g (lw_at lw_m10 166 rfl) rfl
theorem q2412 : (Jvm.Cond.selects "BenchBrokerModel" ({ cls := "BenchBrokerModel", name := "isRunning", desc := "(I)Z" } : Jvm.MethodName) ({ cls := "BenchBrokerModel", name := "isRunning", desc := "(I)Z" } : Jvm.MethodName)) ∈ lw_all := lw_g (lw_at lw_m10 167 rfl) rfl
theorem q2413 : (Jvm.Cond.code ({ cls := "BenchBrokerModel", name := "isRunning", desc := "(I)Z" } : Jvm.MethodName) prog_20_method_54_code (2 : Nat) (Option.some Jvm.ClassFile.FieldType.boolean)) ∈ lw_all := lw_g (lw_at lw_m10 168 rfl) rfl
theorem q2415 : (Jvm.Cond.instanceMethod ({ cls := "BenchBrokerModel", name := "noiseLimit", desc := "()I" } : Jvm.MethodName)) ∈ lw_all := lw_g (lw_at lw_m10 170 rfl) rfl
theorem q2416 : (Jvm.Cond.selects "BenchBrokerModel" ({ cls := "BenchBrokerModel", name := "noiseLimit", desc := "()I" } : Jvm.MethodName) ({ cls := "BenchBrokerModel", name := "noiseLimit", desc := "()I" } : Jvm.MethodName)) ∈ lw_all := lw_g (lw_at lw_m10 171 rfl) rfl
theorem q2417 : (Jvm.Cond.code ({ cls := "BenchBrokerModel", name := "noiseLimit", desc := "()I" } : Jvm.MethodName) prog_20_method_55_code (1 : Nat) (Option.some Jvm.ClassFile.FieldType.int)) ∈ lw_all := lw_g (lw_at lw_m10 172 rfl) rfl
theorem q2419 : (Jvm.Cond.instanceMethod ({ cls := "BenchBrokerModel", name := "noiseAt", desc := "(II)I" } : Jvm.MethodName)) ∈ lw_all := lw_g (lw_at lw_m10 174 rfl) rfl
theorem q2420 : (Jvm.Cond.selects "BenchBrokerModel" ({ cls := "BenchBrokerModel", name := "noiseAt", desc := "(II)I" } : Jvm.MethodName) ({ cls := "BenchBrokerModel", name := "noiseAt", desc := "(II)I" } : Jvm.MethodName)) ∈ lw_all := lw_g (lw_at lw_m10 175 rfl) rfl
theorem q2421 : (Jvm.Cond.code ({ cls := "BenchBrokerModel", name := "noiseAt", desc := "(II)I" } : Jvm.MethodName) prog_20_method_56_code (3 : Nat) (Option.some Jvm.ClassFile.FieldType.int)) ∈ lw_all := lw_g (lw_at lw_m10 176 rfl) rfl
theorem q2423 : (Jvm.Cond.instanceMethod ({ cls := "BenchBrokerModel", name := "noiseBySpreading", desc := "(II)I" } : Jvm.MethodName)) ∈ lw_all := lw_g (lw_at lw_m10 178 rfl) rfl
theorem q2424 : (Jvm.Cond.selects "BenchBrokerModel" ({ cls := "BenchBrokerModel", name := "noiseBySpreading", desc := "(II)I" } : Jvm.MethodName) ({ cls := "BenchBrokerModel", name := "noiseBySpreading", desc := "(II)I" } : Jvm.MethodName)) ∈ lw_all := lw_g (lw_at lw_m10 179 rfl) rfl
theorem q2425 : (Jvm.Cond.code ({ cls := "BenchBrokerModel", name := "noiseBySpreading", desc := "(II)I" } : Jvm.MethodName) prog_20_method_57_code (3 : Nat) (Option.some Jvm.ClassFile.FieldType.int)) ∈ lw_all := lw_g (lw_at lw_m10 180 rfl) rfl
theorem q2426 : (Jvm.Cond.methodLink "BenchBrokerModel" (162 : Nat) ({ cls := "BenchBrokerModel", name := "noiseAt", desc := "(II)I" } : Jvm.MethodName)) ∈ lw_all := lw_g (lw_at lw_m10 181 rfl) rfl
theorem q2428 : (Jvm.Cond.instanceMethod ({ cls := "BenchBrokerModel", name := "isQuiet", desc := "(I)Z" } : Jvm.MethodName)) ∈ lw_all := lw_g (lw_at lw_m10 183 rfl) rfl
theorem q2429 : (Jvm.Cond.selects "BenchBrokerModel" ({ cls := "BenchBrokerModel", name := "isQuiet", desc := "(I)Z" } : Jvm.MethodName) ({ cls := "BenchBrokerModel", name := "isQuiet", desc := "(I)Z" } : Jvm.MethodName)) ∈ lw_all := lw_g (lw_at lw_m10 184 rfl) rfl
theorem q2430 : (Jvm.Cond.code ({ cls := "BenchBrokerModel", name := "isQuiet", desc := "(I)Z" } : Jvm.MethodName) prog_20_method_58_code (2 : Nat) (Option.some Jvm.ClassFile.FieldType.boolean)) ∈ lw_all := lw_g (lw_at lw_m10 185 rfl) rfl
theorem q2431 : (Jvm.Cond.methodLink "BenchBrokerModel" (112 : Nat) ({ cls := "BenchBrokerModel", name := "quiet", desc := "(I)Z" } : Jvm.MethodName)) ∈ lw_all := lw_g (lw_at lw_m10 186 rfl) rfl
theorem q2432 : (Jvm.Cond.privateMethod ({ cls := "BenchBrokerModel", name := "quiet", desc := "(I)Z" } : Jvm.MethodName)) ∈ lw_tbl := lw_at lw_m10 187 rfl
theorem q2433 : (Jvm.Cond.instanceMethod ({ cls := "BenchBrokerModel", name := "quiet", desc := "(I)Z" } : Jvm.MethodName)) ∈ lw_all := lw_g (lw_at lw_m10 188 rfl) rfl
theorem q2434 : (Jvm.Cond.code ({ cls := "BenchBrokerModel", name := "quiet", desc := "(I)Z" } : Jvm.MethodName) prog_20_method_23_code (2 : Nat) (Option.some Jvm.ClassFile.FieldType.boolean)) ∈ lw_all := lw_g (lw_at lw_m10 189 rfl) rfl
theorem q2436 : (Jvm.Cond.instanceMethod ({ cls := "BenchBrokerModel", name := "quietCount", desc := "()I" } : Jvm.MethodName)) ∈ lw_all := lw_g (lw_at lw_m10 191 rfl) rfl
theorem q2437 : (Jvm.Cond.selects "BenchBrokerModel" ({ cls := "BenchBrokerModel", name := "quietCount", desc := "()I" } : Jvm.MethodName) ({ cls := "BenchBrokerModel", name := "quietCount", desc := "()I" } : Jvm.MethodName)) ∈ lw_all := lw_g (lw_at lw_m10 192 rfl) rfl
theorem q2438 : (Jvm.Cond.code ({ cls := "BenchBrokerModel", name := "quietCount", desc := "()I" } : Jvm.MethodName) prog_20_method_59_code (3 : Nat) (Option.some Jvm.ClassFile.FieldType.int)) ∈ lw_all := lw_g (lw_at lw_m10 193 rfl) rfl
theorem q2440 : (Jvm.Cond.instanceMethod ({ cls := "BenchBrokerModel", name := "addTenant", desc := "(I)I" } : Jvm.MethodName)) ∈ lw_all := lw_g (lw_at lw_m10 195 rfl) rfl
theorem q2441 : (Jvm.Cond.selects "BenchBrokerModel" ({ cls := "BenchBrokerModel", name := "addTenant", desc := "(I)I" } : Jvm.MethodName) ({ cls := "BenchBrokerModel", name := "addTenant", desc := "(I)I" } : Jvm.MethodName)) ∈ lw_all := lw_g (lw_at lw_m10 196 rfl) rfl
theorem q2442 : (Jvm.Cond.code ({ cls := "BenchBrokerModel", name := "addTenant", desc := "(I)I" } : Jvm.MethodName) prog_20_method_60_code (2 : Nat) (Option.some Jvm.ClassFile.FieldType.int)) ∈ lw_all := lw_g (lw_at lw_m10 197 rfl) rfl
theorem q2443 : (Jvm.Cond.methodLink "BenchBrokerModel" (165 : Nat) ({ cls := "BenchBrokerModel", name := "addsTenant", desc := "(I)I" } : Jvm.MethodName)) ∈ lw_all := lw_g (lw_at lw_m10 198 rfl) rfl
theorem q2444 : (Jvm.Cond.privateMethod ({ cls := "BenchBrokerModel", name := "addsTenant", desc := "(I)I" } : Jvm.MethodName)) ∈ lw_tbl := lw_at lw_m10 199 rfl
theorem q2445 : (Jvm.Cond.instanceMethod ({ cls := "BenchBrokerModel", name := "addsTenant", desc := "(I)I" } : Jvm.MethodName)) ∈ lw_all := lw_g (lw_at lw_m10 200 rfl) rfl
theorem q2446 : (Jvm.Cond.code ({ cls := "BenchBrokerModel", name := "addsTenant", desc := "(I)I" } : Jvm.MethodName) prog_20_method_27_code (3 : Nat) (Option.some Jvm.ClassFile.FieldType.int)) ∈ lw_all := lw_g (lw_at lw_m10 201 rfl) rfl
theorem q2448 : (Jvm.Cond.instanceMethod ({ cls := "BenchBrokerModel", name := "giveCoins", desc := "(II)I" } : Jvm.MethodName)) ∈ lw_all := lw_g (lw_at lw_m10 203 rfl) rfl
theorem q2449 : (Jvm.Cond.selects "BenchBrokerModel" ({ cls := "BenchBrokerModel", name := "giveCoins", desc := "(II)I" } : Jvm.MethodName) ({ cls := "BenchBrokerModel", name := "giveCoins", desc := "(II)I" } : Jvm.MethodName)) ∈ lw_all := lw_g (lw_at lw_m10 204 rfl) rfl
theorem q2450 : (Jvm.Cond.code ({ cls := "BenchBrokerModel", name := "giveCoins", desc := "(II)I" } : Jvm.MethodName) prog_20_method_61_code (3 : Nat) (Option.some Jvm.ClassFile.FieldType.int)) ∈ lw_all := lw_g (lw_at lw_m10 205 rfl) rfl
theorem q2451 : (Jvm.Cond.methodLink "BenchBrokerModel" (168 : Nat) ({ cls := "BenchBrokerModel", name := "gives", desc := "(II)I" } : Jvm.MethodName)) ∈ lw_all := lw_g (lw_at lw_m10 206 rfl) rfl
theorem q2452 : (Jvm.Cond.privateMethod ({ cls := "BenchBrokerModel", name := "gives", desc := "(II)I" } : Jvm.MethodName)) ∈ lw_tbl := lw_at lw_m10 207 rfl
theorem q2453 : (Jvm.Cond.instanceMethod ({ cls := "BenchBrokerModel", name := "gives", desc := "(II)I" } : Jvm.MethodName)) ∈ lw_all := lw_g (lw_at lw_m10 208 rfl) rfl
theorem q2454 : (Jvm.Cond.code ({ cls := "BenchBrokerModel", name := "gives", desc := "(II)I" } : Jvm.MethodName) prog_20_method_28_code (3 : Nat) (Option.some Jvm.ClassFile.FieldType.int)) ∈ lw_all := lw_g (lw_at lw_m10 209 rfl) rfl
theorem q2455 : (Jvm.Cond.methodLink "BenchBrokerModel" (102 : Nat) ({ cls := "BenchBrokerModel", name := "isTenant", desc := "(I)Z" } : Jvm.MethodName)) ∈ lw_all := lw_g (lw_at lw_m10 210 rfl) rfl
theorem q2456 : (Jvm.Cond.privateMethod ({ cls := "BenchBrokerModel", name := "isTenant", desc := "(I)Z" } : Jvm.MethodName)) ∈ lw_tbl := lw_at lw_m10 211 rfl
theorem q2457 : (Jvm.Cond.instanceMethod ({ cls := "BenchBrokerModel", name := "isTenant", desc := "(I)Z" } : Jvm.MethodName)) ∈ lw_all := lw_g (lw_at lw_m10 212 rfl) rfl
theorem q2458 : (Jvm.Cond.code ({ cls := "BenchBrokerModel", name := "isTenant", desc := "(I)Z" } : Jvm.MethodName) prog_20_method_13_code (2 : Nat) (Option.some Jvm.ClassFile.FieldType.boolean)) ∈ lw_all := lw_g (lw_at lw_m10 213 rfl) rfl
theorem q2459 : (Jvm.Cond.methodLink "BenchBrokerModel" (106 : Nat) ({ cls := "BenchBrokerModel", name := "tenant", desc := "(II)I" } : Jvm.MethodName)) ∈ lw_all := lw_g (lw_at lw_m10 214 rfl) rfl
theorem q2460 : (Jvm.Cond.privateMethod ({ cls := "BenchBrokerModel", name := "tenant", desc := "(II)I" } : Jvm.MethodName)) ∈ lw_tbl := lw_at lw_m10 215 rfl
theorem q2461 : (Jvm.Cond.instanceMethod ({ cls := "BenchBrokerModel", name := "tenant", desc := "(II)I" } : Jvm.MethodName)) ∈ lw_all := lw_g (lw_at lw_m10 216 rfl) rfl
theorem q2462 : (Jvm.Cond.code ({ cls := "BenchBrokerModel", name := "tenant", desc := "(II)I" } : Jvm.MethodName) prog_20_method_16_code (3 : Nat) (Option.some Jvm.ClassFile.FieldType.int)) ∈ lw_all := lw_g (lw_at lw_m10 217 rfl) rfl
theorem q2464 : (Jvm.Cond.instanceMethod ({ cls := "BenchBrokerModel", name := "tenantCount", desc := "()I" } : Jvm.MethodName)) ∈ lw_all := lw_g (lw_at lw_m10 219 rfl) rfl
theorem q2465 : (Jvm.Cond.selects "BenchBrokerModel" ({ cls := "BenchBrokerModel", name := "tenantCount", desc := "()I" } : Jvm.MethodName) ({ cls := "BenchBrokerModel", name := "tenantCount", desc := "()I" } : Jvm.MethodName)) ∈ lw_all := lw_g (lw_at lw_m10 220 rfl) rfl
theorem q2466 : (Jvm.Cond.code ({ cls := "BenchBrokerModel", name := "tenantCount", desc := "()I" } : Jvm.MethodName) prog_20_method_62_code (1 : Nat) (Option.some Jvm.ClassFile.FieldType.int)) ∈ lw_all := lw_g (lw_at lw_m10 221 rfl) rfl
theorem q2468 : (Jvm.Cond.instanceMethod ({ cls := "BenchBrokerModel", name := "coinsOf", desc := "(I)I" } : Jvm.MethodName)) ∈ lw_all := lw_g (lw_at lw_m10 223 rfl) rfl
theorem q2469 : (Jvm.Cond.selects "BenchBrokerModel" ({ cls := "BenchBrokerModel", name := "coinsOf", desc := "(I)I" } : Jvm.MethodName) ({ cls := "BenchBrokerModel", name := "coinsOf", desc := "(I)I" } : Jvm.MethodName)) ∈ lw_all := lw_g (lw_at lw_m10 224 rfl) rfl
theorem q2470 : (Jvm.Cond.code ({ cls := "BenchBrokerModel", name := "coinsOf", desc := "(I)I" } : Jvm.MethodName) prog_20_method_64_code (2 : Nat) (Option.some Jvm.ClassFile.FieldType.int)) ∈ lw_all := lw_g (lw_at lw_m10 225 rfl) rfl
theorem q2471 : (Jvm.Cond.methodLink "BenchBrokerModel" (171 : Nat) ({ cls := "BenchBrokerModel", name := "askedTenant", desc := "(II)I" } : Jvm.MethodName)) ∈ lw_all := lw_g (lw_at lw_m10 226 rfl) rfl
theorem q2472 : (Jvm.Cond.privateMethod ({ cls := "BenchBrokerModel", name := "askedTenant", desc := "(II)I" } : Jvm.MethodName)) ∈ lw_tbl := lw_at lw_m10 227 rfl
theorem q2473 : (Jvm.Cond.instanceMethod ({ cls := "BenchBrokerModel", name := "askedTenant", desc := "(II)I" } : Jvm.MethodName)) ∈ lw_all := lw_g (lw_at lw_m10 228 rfl) rfl
theorem q2474 : (Jvm.Cond.code ({ cls := "BenchBrokerModel", name := "askedTenant", desc := "(II)I" } : Jvm.MethodName) prog_20_method_63_code (3 : Nat) (Option.some Jvm.ClassFile.FieldType.int)) ∈ lw_all := lw_g (lw_at lw_m10 229 rfl) rfl
theorem q2476 : (Jvm.Cond.instanceMethod ({ cls := "BenchBrokerModel", name := "defaultsOf", desc := "(I)I" } : Jvm.MethodName)) ∈ lw_all := lw_g (lw_at lw_m10 231 rfl) rfl
theorem q2477 : (Jvm.Cond.selects "BenchBrokerModel" ({ cls := "BenchBrokerModel", name := "defaultsOf", desc := "(I)I" } : Jvm.MethodName) ({ cls := "BenchBrokerModel", name := "defaultsOf", desc := "(I)I" } : Jvm.MethodName)) ∈ lw_all := lw_g (lw_at lw_m10 232 rfl) rfl
theorem q2478 : (Jvm.Cond.code ({ cls := "BenchBrokerModel", name := "defaultsOf", desc := "(I)I" } : Jvm.MethodName) prog_20_method_65_code (2 : Nat) (Option.some Jvm.ClassFile.FieldType.int)) ∈ lw_all := lw_g (lw_at lw_m10 233 rfl) rfl
theorem q2480 : (Jvm.Cond.instanceMethod ({ cls := "BenchBrokerModel", name := "benchOf", desc := "(I)I" } : Jvm.MethodName)) ∈ lw_all := lw_g (lw_at lw_m10 235 rfl) rfl
theorem q2481 : (Jvm.Cond.selects "BenchBrokerModel" ({ cls := "BenchBrokerModel", name := "benchOf", desc := "(I)I" } : Jvm.MethodName) ({ cls := "BenchBrokerModel", name := "benchOf", desc := "(I)I" } : Jvm.MethodName)) ∈ lw_all := lw_g (lw_at lw_m10 236 rfl) rfl
theorem q2482 : (Jvm.Cond.code ({ cls := "BenchBrokerModel", name := "benchOf", desc := "(I)I" } : Jvm.MethodName) prog_20_method_66_code (2 : Nat) (Option.some Jvm.ClassFile.FieldType.int)) ∈ lw_all := lw_g (lw_at lw_m10 237 rfl) rfl
theorem q2483 : (Jvm.Cond.methodLink "BenchBrokerModel" (109 : Nat) ({ cls := "BenchBrokerModel", name := "benchBy", desc := "(I)I" } : Jvm.MethodName)) ∈ lw_all := lw_g (lw_at lw_m10 238 rfl) rfl
theorem q2484 : (Jvm.Cond.privateMethod ({ cls := "BenchBrokerModel", name := "benchBy", desc := "(I)I" } : Jvm.MethodName)) ∈ lw_tbl := lw_at lw_m10 239 rfl
theorem q2485 : (Jvm.Cond.instanceMethod ({ cls := "BenchBrokerModel", name := "benchBy", desc := "(I)I" } : Jvm.MethodName)) ∈ lw_all := lw_g (lw_at lw_m11 0 rfl) rfl
theorem q2486 : (Jvm.Cond.code ({ cls := "BenchBrokerModel", name := "benchBy", desc := "(I)I" } : Jvm.MethodName) prog_20_method_18_code (3 : Nat) (Option.some Jvm.ClassFile.FieldType.int)) ∈ lw_all := lw_g (lw_at lw_m11 1 rfl) rfl
theorem q2487 : (Jvm.Cond.methodLink "BenchBrokerModel" (74 : Nat) ({ cls := "BenchBrokerModel", name := "by", desc := "(I)I" } : Jvm.MethodName)) ∈ lw_all := lw_g (lw_at lw_m11 2 rfl) rfl
theorem q2488 : (Jvm.Cond.privateMethod ({ cls := "BenchBrokerModel", name := "by", desc := "(I)I" } : Jvm.MethodName)) ∈ lw_tbl := lw_at lw_m11 3 rfl
theorem q2489 : (Jvm.Cond.instanceMethod ({ cls := "BenchBrokerModel", name := "by", desc := "(I)I" } : Jvm.MethodName)) ∈ lw_all := lw_g (lw_at lw_m11 4 rfl) rfl
theorem q2490 : (Jvm.Cond.code ({ cls := "BenchBrokerModel", name := "by", desc := "(I)I" } : Jvm.MethodName) prog_20_method_17_code (2 : Nat) (Option.some Jvm.ClassFile.FieldType.int)) ∈ lw_all := lw_g (lw_at lw_m11 5 rfl) rfl
theorem q2492 : (Jvm.Cond.instanceMethod ({ cls := "BenchBrokerModel", name := "canLease", desc := "(II)Z" } : Jvm.MethodName)) ∈ lw_all := lw_g (lw_at lw_m11 7 rfl) rfl
theorem q2493 : (Jvm.Cond.selects "BenchBrokerModel" ({ cls := "BenchBrokerModel", name := "canLease", desc := "(II)Z" } : Jvm.MethodName) ({ cls := "BenchBrokerModel", name := "canLease", desc := "(II)Z" } : Jvm.MethodName)) ∈ lw_all := lw_g (lw_at lw_m11 8 rfl) rfl
theorem q2494 : (Jvm.Cond.code ({ cls := "BenchBrokerModel", name := "canLease", desc := "(II)Z" } : Jvm.MethodName) prog_20_method_67_code (3 : Nat) (Option.some Jvm.ClassFile.FieldType.boolean)) ∈ lw_all := lw_g (lw_at lw_m11 9 rfl) rfl
theorem q2495 : (Jvm.Cond.methodLink "BenchBrokerModel" (121 : Nat) ({ cls := "BenchBrokerModel", name := "barred", desc := "(II)I" } : Jvm.MethodName)) ∈ lw_all := lw_g (lw_at lw_m11 10 rfl) rfl
theorem q2496 : (Jvm.Cond.privateMethod ({ cls := "BenchBrokerModel", name := "barred", desc := "(II)I" } : Jvm.MethodName)) ∈ lw_tbl := lw_at lw_m11 11 rfl
theorem q2497 : (Jvm.Cond.instanceMethod ({ cls := "BenchBrokerModel", name := "barred", desc := "(II)I" } : Jvm.MethodName)) ∈ lw_all := lw_g (lw_at lw_m11 12 rfl) rfl
theorem q2498 : (Jvm.Cond.code ({ cls := "BenchBrokerModel", name := "barred", desc := "(II)I" } : Jvm.MethodName) prog_20_method_29_code (3 : Nat) (Option.some Jvm.ClassFile.FieldType.int)) ∈ lw_all := lw_g (lw_at lw_m11 13 rfl) rfl
theorem q2500 : (Jvm.Cond.instanceMethod ({ cls := "BenchBrokerModel", name := "cheapestFor", desc := "(I)I" } : Jvm.MethodName)) ∈ lw_all := lw_g (lw_at lw_m11 15 rfl) rfl
theorem q2501 : (Jvm.Cond.selects "BenchBrokerModel" ({ cls := "BenchBrokerModel", name := "cheapestFor", desc := "(I)I" } : Jvm.MethodName) ({ cls := "BenchBrokerModel", name := "cheapestFor", desc := "(I)I" } : Jvm.MethodName)) ∈ lw_all := lw_g (lw_at lw_m11 16 rfl) rfl
theorem q2502 : (Jvm.Cond.code ({ cls := "BenchBrokerModel", name := "cheapestFor", desc := "(I)I" } : Jvm.MethodName) prog_20_method_68_code (4 : Nat) (Option.some Jvm.ClassFile.FieldType.int)) ∈ lw_all := lw_g (lw_at lw_m11 17 rfl) rfl
theorem q2504 : (Jvm.Cond.instanceMethod ({ cls := "BenchBrokerModel", name := "lease", desc := "(III)I" } : Jvm.MethodName)) ∈ lw_all := lw_g (lw_at lw_m11 19 rfl) rfl
theorem q2505 : (Jvm.Cond.selects "BenchBrokerModel" ({ cls := "BenchBrokerModel", name := "lease", desc := "(III)I" } : Jvm.MethodName) ({ cls := "BenchBrokerModel", name := "lease", desc := "(III)I" } : Jvm.MethodName)) ∈ lw_all := lw_g (lw_at lw_m11 20 rfl) rfl
theorem q2506 : (Jvm.Cond.code ({ cls := "BenchBrokerModel", name := "lease", desc := "(III)I" } : Jvm.MethodName) prog_20_method_69_code (4 : Nat) (Option.some Jvm.ClassFile.FieldType.int)) ∈ lw_all := lw_g (lw_at lw_m11 21 rfl) rfl
theorem q2507 : (Jvm.Cond.methodLink "BenchBrokerModel" (174 : Nat) ({ cls := "BenchBrokerModel", name := "leases", desc := "(III)I" } : Jvm.MethodName)) ∈ lw_all := lw_g (lw_at lw_m11 22 rfl) rfl
theorem q2508 : (Jvm.Cond.privateMethod ({ cls := "BenchBrokerModel", name := "leases", desc := "(III)I" } : Jvm.MethodName)) ∈ lw_tbl := lw_at lw_m11 23 rfl
theorem q2509 : (Jvm.Cond.instanceMethod ({ cls := "BenchBrokerModel", name := "leases", desc := "(III)I" } : Jvm.MethodName)) ∈ lw_all := lw_g (lw_at lw_m11 24 rfl) rfl
theorem q2510 : (Jvm.Cond.code ({ cls := "BenchBrokerModel", name := "leases", desc := "(III)I" } : Jvm.MethodName) prog_20_method_30_code (6 : Nat) (Option.some Jvm.ClassFile.FieldType.int)) ∈ lw_all := lw_g (lw_at lw_m11 25 rfl) rfl
theorem q2512 : (Jvm.Cond.instanceMethod ({ cls := "BenchBrokerModel", name := "endLease", desc := "(I)I" } : Jvm.MethodName)) ∈ lw_all := lw_g (lw_at lw_m11 27 rfl) rfl
theorem q2513 : (Jvm.Cond.selects "BenchBrokerModel" ({ cls := "BenchBrokerModel", name := "endLease", desc := "(I)I" } : Jvm.MethodName) ({ cls := "BenchBrokerModel", name := "endLease", desc := "(I)I" } : Jvm.MethodName)) ∈ lw_all := lw_g (lw_at lw_m11 28 rfl) rfl
theorem q2514 : (Jvm.Cond.code ({ cls := "BenchBrokerModel", name := "endLease", desc := "(I)I" } : Jvm.MethodName) prog_20_method_70_code (2 : Nat) (Option.some Jvm.ClassFile.FieldType.int)) ∈ lw_all := lw_g (lw_at lw_m11 29 rfl) rfl
theorem q2515 : (Jvm.Cond.methodLink "BenchBrokerModel" (177 : Nat) ({ cls := "BenchBrokerModel", name := "endsLease", desc := "(I)I" } : Jvm.MethodName)) ∈ lw_all := lw_g (lw_at lw_m11 30 rfl) rfl
theorem q2516 : (Jvm.Cond.privateMethod ({ cls := "BenchBrokerModel", name := "endsLease", desc := "(I)I" } : Jvm.MethodName)) ∈ lw_tbl := lw_at lw_m11 31 rfl
theorem q2517 : (Jvm.Cond.instanceMethod ({ cls := "BenchBrokerModel", name := "endsLease", desc := "(I)I" } : Jvm.MethodName)) ∈ lw_all := lw_g (lw_at lw_m11 32 rfl) rfl
theorem q2518 : (Jvm.Cond.code ({ cls := "BenchBrokerModel", name := "endsLease", desc := "(I)I" } : Jvm.MethodName) prog_20_method_32_code (3 : Nat) (Option.some Jvm.ClassFile.FieldType.int)) ∈ lw_all := lw_g (lw_at lw_m11 33 rfl) rfl
theorem q2519 : (Jvm.Cond.methodLink "BenchBrokerModel" (124 : Nat) ({ cls := "BenchBrokerModel", name := "frees", desc := "(II)V" } : Jvm.MethodName)) ∈ lw_all := lw_g (lw_at lw_m11 34 rfl) rfl
theorem q2520 : (Jvm.Cond.privateMethod ({ cls := "BenchBrokerModel", name := "frees", desc := "(II)V" } : Jvm.MethodName)) ∈ lw_tbl := lw_at lw_m11 35 rfl
theorem q2521 : (Jvm.Cond.instanceMethod ({ cls := "BenchBrokerModel", name := "frees", desc := "(II)V" } : Jvm.MethodName)) ∈ lw_all := lw_g (lw_at lw_m11 36 rfl) rfl
theorem q2522 : (Jvm.Cond.code ({ cls := "BenchBrokerModel", name := "frees", desc := "(II)V" } : Jvm.MethodName) prog_20_method_31_code (3 : Nat) (Option.none : Option Jvm.ClassFile.FieldType)) ∈ lw_all := lw_g (lw_at lw_m11 37 rfl) rfl
theorem q2524 : (Jvm.Cond.instanceMethod ({ cls := "BenchBrokerModel", name := "renew", desc := "(II)I" } : Jvm.MethodName)) ∈ lw_all := lw_g (lw_at lw_m11 39 rfl) rfl
theorem q2525 : (Jvm.Cond.selects "BenchBrokerModel" ({ cls := "BenchBrokerModel", name := "renew", desc := "(II)I" } : Jvm.MethodName) ({ cls := "BenchBrokerModel", name := "renew", desc := "(II)I" } : Jvm.MethodName)) ∈ lw_all := lw_g (lw_at lw_m11 40 rfl) rfl
theorem q2526 : (Jvm.Cond.code ({ cls := "BenchBrokerModel", name := "renew", desc := "(II)I" } : Jvm.MethodName) prog_20_method_71_code (3 : Nat) (Option.some Jvm.ClassFile.FieldType.int)) ∈ lw_all := lw_g (lw_at lw_m11 41 rfl) rfl
theorem q2527 : (Jvm.Cond.methodLink "BenchBrokerModel" (180 : Nat) ({ cls := "BenchBrokerModel", name := "renews", desc := "(II)I" } : Jvm.MethodName)) ∈ lw_all := lw_g (lw_at lw_m11 42 rfl) rfl
theorem q2528 : (Jvm.Cond.privateMethod ({ cls := "BenchBrokerModel", name := "renews", desc := "(II)I" } : Jvm.MethodName)) ∈ lw_tbl := lw_at lw_m11 43 rfl
theorem q2529 : (Jvm.Cond.instanceMethod ({ cls := "BenchBrokerModel", name := "renews", desc := "(II)I" } : Jvm.MethodName)) ∈ lw_all := lw_g (lw_at lw_m11 44 rfl) rfl
theorem q2530 : (Jvm.Cond.code ({ cls := "BenchBrokerModel", name := "renews", desc := "(II)I" } : Jvm.MethodName) prog_20_method_33_code (3 : Nat) (Option.some Jvm.ClassFile.FieldType.int)) ∈ lw_all := lw_g (lw_at lw_m11 45 rfl) rfl
theorem q2532 : (Jvm.Cond.instanceMethod ({ cls := "BenchBrokerModel", name := "isLet", desc := "(I)Z" } : Jvm.MethodName)) ∈ lw_all := lw_g (lw_at lw_m11 47 rfl) rfl
theorem q2533 : (Jvm.Cond.selects "BenchBrokerModel" ({ cls := "BenchBrokerModel", name := "isLet", desc := "(I)Z" } : Jvm.MethodName) ({ cls := "BenchBrokerModel", name := "isLet", desc := "(I)Z" } : Jvm.MethodName)) ∈ lw_all := lw_g (lw_at lw_m11 48 rfl) rfl
theorem q2534 : (Jvm.Cond.code ({ cls := "BenchBrokerModel", name := "isLet", desc := "(I)Z" } : Jvm.MethodName) prog_20_method_72_code (2 : Nat) (Option.some Jvm.ClassFile.FieldType.boolean)) ∈ lw_all := lw_g (lw_at lw_m11 49 rfl) rfl
theorem q2536 : (Jvm.Cond.instanceMethod ({ cls := "BenchBrokerModel", name := "tenantOf", desc := "(I)I" } : Jvm.MethodName)) ∈ lw_all := lw_g (lw_at lw_m11 51 rfl) rfl
theorem q2537 : (Jvm.Cond.selects "BenchBrokerModel" ({ cls := "BenchBrokerModel", name := "tenantOf", desc := "(I)I" } : Jvm.MethodName) ({ cls := "BenchBrokerModel", name := "tenantOf", desc := "(I)I" } : Jvm.MethodName)) ∈ lw_all := lw_g (lw_at lw_m11 52 rfl) rfl
theorem q2538 : (Jvm.Cond.code ({ cls := "BenchBrokerModel", name := "tenantOf", desc := "(I)I" } : Jvm.MethodName) prog_20_method_74_code (2 : Nat) (Option.some Jvm.ClassFile.FieldType.int)) ∈ lw_all := lw_g (lw_at lw_m11 53 rfl) rfl
theorem q2539 : (Jvm.Cond.methodLink "BenchBrokerModel" (183 : Nat) ({ cls := "BenchBrokerModel", name := "isLeased", desc := "(I)Z" } : Jvm.MethodName)) ∈ lw_all := lw_g (lw_at lw_m11 54 rfl) rfl
theorem q2540 : (Jvm.Cond.privateMethod ({ cls := "BenchBrokerModel", name := "isLeased", desc := "(I)Z" } : Jvm.MethodName)) ∈ lw_tbl := lw_at lw_m11 55 rfl
theorem q2541 : (Jvm.Cond.instanceMethod ({ cls := "BenchBrokerModel", name := "isLeased", desc := "(I)Z" } : Jvm.MethodName)) ∈ lw_all := lw_g (lw_at lw_m11 56 rfl) rfl
theorem q2542 : (Jvm.Cond.code ({ cls := "BenchBrokerModel", name := "isLeased", desc := "(I)Z" } : Jvm.MethodName) prog_20_method_73_code (2 : Nat) (Option.some Jvm.ClassFile.FieldType.boolean)) ∈ lw_all := lw_g (lw_at lw_m11 57 rfl) rfl
theorem q2544 : (Jvm.Cond.instanceMethod ({ cls := "BenchBrokerModel", name := "depositOf", desc := "(I)I" } : Jvm.MethodName)) ∈ lw_all := lw_g (lw_at lw_m11 59 rfl) rfl
theorem q2545 : (Jvm.Cond.selects "BenchBrokerModel" ({ cls := "BenchBrokerModel", name := "depositOf", desc := "(I)I" } : Jvm.MethodName) ({ cls := "BenchBrokerModel", name := "depositOf", desc := "(I)I" } : Jvm.MethodName)) ∈ lw_all := lw_g (lw_at lw_m11 60 rfl) rfl
theorem q2546 : (Jvm.Cond.code ({ cls := "BenchBrokerModel", name := "depositOf", desc := "(I)I" } : Jvm.MethodName) prog_20_method_75_code (2 : Nat) (Option.some Jvm.ClassFile.FieldType.int)) ∈ lw_all := lw_g (lw_at lw_m11 61 rfl) rfl
theorem q2548 : (Jvm.Cond.instanceMethod ({ cls := "BenchBrokerModel", name := "monthsLeft", desc := "(I)I" } : Jvm.MethodName)) ∈ lw_all := lw_g (lw_at lw_m11 63 rfl) rfl
theorem q2549 : (Jvm.Cond.selects "BenchBrokerModel" ({ cls := "BenchBrokerModel", name := "monthsLeft", desc := "(I)I" } : Jvm.MethodName) ({ cls := "BenchBrokerModel", name := "monthsLeft", desc := "(I)I" } : Jvm.MethodName)) ∈ lw_all := lw_g (lw_at lw_m11 64 rfl) rfl
theorem q2550 : (Jvm.Cond.code ({ cls := "BenchBrokerModel", name := "monthsLeft", desc := "(I)I" } : Jvm.MethodName) prog_20_method_76_code (2 : Nat) (Option.some Jvm.ClassFile.FieldType.int)) ∈ lw_all := lw_g (lw_at lw_m11 65 rfl) rfl
theorem q2552 : (Jvm.Cond.instanceMethod ({ cls := "BenchBrokerModel", name := "defaultMonth", desc := "(I)I" } : Jvm.MethodName)) ∈ lw_all := lw_g (lw_at lw_m11 67 rfl) rfl
theorem q2553 : (Jvm.Cond.selects "BenchBrokerModel" ({ cls := "BenchBrokerModel", name := "defaultMonth", desc := "(I)I" } : Jvm.MethodName) ({ cls := "BenchBrokerModel", name := "defaultMonth", desc := "(I)I" } : Jvm.MethodName)) ∈ lw_all := lw_g (lw_at lw_m11 68 rfl) rfl
theorem q2554 : (Jvm.Cond.code ({ cls := "BenchBrokerModel", name := "defaultMonth", desc := "(I)I" } : Jvm.MethodName) prog_20_method_77_code (3 : Nat) (Option.some Jvm.ClassFile.FieldType.int)) ∈ lw_all := lw_g (lw_at lw_m11 69 rfl) rfl
theorem q2556 : (Jvm.Cond.instanceMethod ({ cls := "BenchBrokerModel", name := "passMonths", desc := "(I)I" } : Jvm.MethodName)) ∈ lw_all := lw_g (lw_at lw_m11 71 rfl) rfl
theorem q2557 : (Jvm.Cond.selects "BenchBrokerModel" ({ cls := "BenchBrokerModel", name := "passMonths", desc := "(I)I" } : Jvm.MethodName) ({ cls := "BenchBrokerModel", name := "passMonths", desc := "(I)I" } : Jvm.MethodName)) ∈ lw_all := lw_g (lw_at lw_m11 72 rfl) rfl
theorem q2558 : (Jvm.Cond.code ({ cls := "BenchBrokerModel", name := "passMonths", desc := "(I)I" } : Jvm.MethodName) prog_20_method_78_code (2 : Nat) (Option.some Jvm.ClassFile.FieldType.int)) ∈ lw_all := lw_g (lw_at lw_m11 73 rfl) rfl
theorem q2559 : (Jvm.Cond.methodLink "BenchBrokerModel" (186 : Nat) ({ cls := "BenchBrokerModel", name := "passes", desc := "(I)I" } : Jvm.MethodName)) ∈ lw_all := lw_g (lw_at lw_m11 74 rfl) rfl
theorem q2560 : (Jvm.Cond.privateMethod ({ cls := "BenchBrokerModel", name := "passes", desc := "(I)I" } : Jvm.MethodName)) ∈ lw_tbl := lw_at lw_m11 75 rfl
theorem q2561 : (Jvm.Cond.instanceMethod ({ cls := "BenchBrokerModel", name := "passes", desc := "(I)I" } : Jvm.MethodName)) ∈ lw_all := lw_g (lw_at lw_m11 76 rfl) rfl
theorem q2562 : (Jvm.Cond.code ({ cls := "BenchBrokerModel", name := "passes", desc := "(I)I" } : Jvm.MethodName) prog_20_method_39_code (5 : Nat) (Option.some Jvm.ClassFile.FieldType.int)) ∈ lw_all := lw_g (lw_at lw_m11 77 rfl) rfl
theorem q2563 : (Jvm.Cond.methodLink "BenchBrokerModel" (131 : Nat) ({ cls := "BenchBrokerModel", name := "billed", desc := "(I)I" } : Jvm.MethodName)) ∈ lw_all := lw_g (lw_at lw_m11 78 rfl) rfl
theorem q2564 : (Jvm.Cond.privateMethod ({ cls := "BenchBrokerModel", name := "billed", desc := "(I)I" } : Jvm.MethodName)) ∈ lw_tbl := lw_at lw_m11 79 rfl
theorem q2565 : (Jvm.Cond.instanceMethod ({ cls := "BenchBrokerModel", name := "billed", desc := "(I)I" } : Jvm.MethodName)) ∈ lw_all := lw_g (lw_at lw_m11 80 rfl) rfl
theorem q2566 : (Jvm.Cond.code ({ cls := "BenchBrokerModel", name := "billed", desc := "(I)I" } : Jvm.MethodName) prog_20_method_38_code (3 : Nat) (Option.some Jvm.ClassFile.FieldType.int)) ∈ lw_all := lw_g (lw_at lw_m11 81 rfl) rfl
theorem q2568 : (Jvm.Cond.instanceMethod ({ cls := "BenchBrokerModel", name := "month", desc := "()I" } : Jvm.MethodName)) ∈ lw_all := lw_g (lw_at lw_m11 83 rfl) rfl
theorem q2569 : (Jvm.Cond.selects "BenchBrokerModel" ({ cls := "BenchBrokerModel", name := "month", desc := "()I" } : Jvm.MethodName) ({ cls := "BenchBrokerModel", name := "month", desc := "()I" } : Jvm.MethodName)) ∈ lw_all := lw_g (lw_at lw_m11 84 rfl) rfl
theorem q2570 : (Jvm.Cond.code ({ cls := "BenchBrokerModel", name := "month", desc := "()I" } : Jvm.MethodName) prog_20_method_79_code (1 : Nat) (Option.some Jvm.ClassFile.FieldType.int)) ∈ lw_all := lw_g (lw_at lw_m11 85 rfl) rfl
theorem q2572 : (Jvm.Cond.instanceMethod ({ cls := "BenchBrokerModel", name := "incomeWithin", desc := "(I)I" } : Jvm.MethodName)) ∈ lw_all := lw_g (lw_at lw_m11 87 rfl) rfl
theorem q2573 : (Jvm.Cond.selects "BenchBrokerModel" ({ cls := "BenchBrokerModel", name := "incomeWithin", desc := "(I)I" } : Jvm.MethodName) ({ cls := "BenchBrokerModel", name := "incomeWithin", desc := "(I)I" } : Jvm.MethodName)) ∈ lw_all := lw_g (lw_at lw_m11 88 rfl) rfl
theorem q2574 : (Jvm.Cond.code ({ cls := "BenchBrokerModel", name := "incomeWithin", desc := "(I)I" } : Jvm.MethodName) prog_20_method_80_code (5 : Nat) (Option.some Jvm.ClassFile.FieldType.int)) ∈ lw_all := lw_g (lw_at lw_m11 89 rfl) rfl
theorem q2576 : (Jvm.Cond.instanceMethod ({ cls := "BenchBrokerModel", name := "incomeByLeases", desc := "(I)I" } : Jvm.MethodName)) ∈ lw_all := lw_g (lw_at lw_m11 91 rfl) rfl
theorem q2577 : (Jvm.Cond.selects "BenchBrokerModel" ({ cls := "BenchBrokerModel", name := "incomeByLeases", desc := "(I)I" } : Jvm.MethodName) ({ cls := "BenchBrokerModel", name := "incomeByLeases", desc := "(I)I" } : Jvm.MethodName)) ∈ lw_all := lw_g (lw_at lw_m11 92 rfl) rfl
theorem q2578 : (Jvm.Cond.code ({ cls := "BenchBrokerModel", name := "incomeByLeases", desc := "(I)I" } : Jvm.MethodName) prog_20_method_81_code (2 : Nat) (Option.some Jvm.ClassFile.FieldType.int)) ∈ lw_all := lw_g (lw_at lw_m11 93 rfl) rfl
theorem q2579 : (Jvm.Cond.methodLink "BenchBrokerModel" (189 : Nat) ({ cls := "BenchBrokerModel", name := "incomeWithin", desc := "(I)I" } : Jvm.MethodName)) ∈ lw_all := lw_g (lw_at lw_m11 94 rfl) rfl
theorem q2581 : (Jvm.Cond.instanceMethod ({ cls := "BenchBrokerModel", name := "brokerCoins", desc := "()I" } : Jvm.MethodName)) ∈ lw_all := lw_g (lw_at lw_m11 96 rfl) rfl
theorem q2582 : (Jvm.Cond.selects "BenchBrokerModel" ({ cls := "BenchBrokerModel", name := "brokerCoins", desc := "()I" } : Jvm.MethodName) ({ cls := "BenchBrokerModel", name := "brokerCoins", desc := "()I" } : Jvm.MethodName)) ∈ lw_all := lw_g (lw_at lw_m11 97 rfl) rfl
theorem q2583 : (Jvm.Cond.code ({ cls := "BenchBrokerModel", name := "brokerCoins", desc := "()I" } : Jvm.MethodName) prog_20_method_82_code (1 : Nat) (Option.some Jvm.ClassFile.FieldType.int)) ∈ lw_all := lw_g (lw_at lw_m11 98 rfl) rfl
theorem q2585 : (Jvm.Cond.instanceMethod ({ cls := "BenchBrokerModel", name := "depositTotal", desc := "()I" } : Jvm.MethodName)) ∈ lw_all := lw_g (lw_at lw_m11 100 rfl) rfl
theorem q2586 : (Jvm.Cond.selects "BenchBrokerModel" ({ cls := "BenchBrokerModel", name := "depositTotal", desc := "()I" } : Jvm.MethodName) ({ cls := "BenchBrokerModel", name := "depositTotal", desc := "()I" } : Jvm.MethodName)) ∈ lw_all := lw_g (lw_at lw_m11 101 rfl) rfl
theorem q2587 : (Jvm.Cond.code ({ cls := "BenchBrokerModel", name := "depositTotal", desc := "()I" } : Jvm.MethodName) prog_20_method_84_code (1 : Nat) (Option.some Jvm.ClassFile.FieldType.int)) ∈ lw_all := lw_g (lw_at lw_m11 102 rfl) rfl
theorem q2588 : (Jvm.Cond.methodLink "BenchBrokerModel" (192 : Nat) ({ cls := "BenchBrokerModel", name := "deposits", desc := "()I" } : Jvm.MethodName)) ∈ lw_all := lw_g (lw_at lw_m11 103 rfl) rfl
theorem q2589 : (Jvm.Cond.privateMethod ({ cls := "BenchBrokerModel", name := "deposits", desc := "()I" } : Jvm.MethodName)) ∈ lw_tbl := lw_at lw_m11 104 rfl
theorem q2590 : (Jvm.Cond.instanceMethod ({ cls := "BenchBrokerModel", name := "deposits", desc := "()I" } : Jvm.MethodName)) ∈ lw_all := lw_g (lw_at lw_m11 105 rfl) rfl
theorem q2591 : (Jvm.Cond.code ({ cls := "BenchBrokerModel", name := "deposits", desc := "()I" } : Jvm.MethodName) prog_20_method_83_code (3 : Nat) (Option.some Jvm.ClassFile.FieldType.int)) ∈ lw_all := lw_g (lw_at lw_m11 106 rfl) rfl
theorem q2593 : (Jvm.Cond.instanceMethod ({ cls := "BenchBrokerModel", name := "allCoins", desc := "()I" } : Jvm.MethodName)) ∈ lw_all := lw_g (lw_at lw_m11 108 rfl) rfl
theorem q2594 : (Jvm.Cond.selects "BenchBrokerModel" ({ cls := "BenchBrokerModel", name := "allCoins", desc := "()I" } : Jvm.MethodName) ({ cls := "BenchBrokerModel", name := "allCoins", desc := "()I" } : Jvm.MethodName)) ∈ lw_all := lw_g (lw_at lw_m11 109 rfl) rfl
theorem q2595 : (Jvm.Cond.code ({ cls := "BenchBrokerModel", name := "allCoins", desc := "()I" } : Jvm.MethodName) prog_20_method_85_code (3 : Nat) (Option.some Jvm.ClassFile.FieldType.int)) ∈ lw_all := lw_g (lw_at lw_m11 110 rfl) rfl
theorem q2597 : (Jvm.Cond.instanceMethod ({ cls := "BenchBrokerModel", name := "allCoinsGiven", desc := "()I" } : Jvm.MethodName)) ∈ lw_all := lw_g (lw_at lw_m11 112 rfl) rfl
theorem q2598 : (Jvm.Cond.selects "BenchBrokerModel" ({ cls := "BenchBrokerModel", name := "allCoinsGiven", desc := "()I" } : Jvm.MethodName) ({ cls := "BenchBrokerModel", name := "allCoinsGiven", desc := "()I" } : Jvm.MethodName)) ∈ lw_all := lw_g (lw_at lw_m11 113 rfl) rfl
theorem q2599 : (Jvm.Cond.code ({ cls := "BenchBrokerModel", name := "allCoinsGiven", desc := "()I" } : Jvm.MethodName) prog_20_method_86_code (1 : Nat) (Option.some Jvm.ClassFile.FieldType.int)) ∈ lw_all := lw_g (lw_at lw_m11 114 rfl) rfl
theorem q2601 : (Jvm.Cond.instanceMethod ({ cls := "BenchBrokerModel", name := "defaultedLeases", desc := "()I" } : Jvm.MethodName)) ∈ lw_all := lw_g (lw_at lw_m11 116 rfl) rfl
theorem q2602 : (Jvm.Cond.selects "BenchBrokerModel" ({ cls := "BenchBrokerModel", name := "defaultedLeases", desc := "()I" } : Jvm.MethodName) ({ cls := "BenchBrokerModel", name := "defaultedLeases", desc := "()I" } : Jvm.MethodName)) ∈ lw_all := lw_g (lw_at lw_m11 117 rfl) rfl
theorem q2603 : (Jvm.Cond.code ({ cls := "BenchBrokerModel", name := "defaultedLeases", desc := "()I" } : Jvm.MethodName) prog_20_method_87_code (1 : Nat) (Option.some Jvm.ClassFile.FieldType.int)) ∈ lw_all := lw_g (lw_at lw_m11 118 rfl) rfl
theorem q2605 : (Jvm.Cond.instanceMethod ({ cls := "BenchBrokerModel", name := "terminatedLeases", desc := "()I" } : Jvm.MethodName)) ∈ lw_all := lw_g (lw_at lw_m11 120 rfl) rfl
theorem q2606 : (Jvm.Cond.selects "BenchBrokerModel" ({ cls := "BenchBrokerModel", name := "terminatedLeases", desc := "()I" } : Jvm.MethodName) ({ cls := "BenchBrokerModel", name := "terminatedLeases", desc := "()I" } : Jvm.MethodName)) ∈ lw_all := lw_g (lw_at lw_m11 121 rfl) rfl
theorem q2607 : (Jvm.Cond.code ({ cls := "BenchBrokerModel", name := "terminatedLeases", desc := "()I" } : Jvm.MethodName) prog_20_method_88_code (1 : Nat) (Option.some Jvm.ClassFile.FieldType.int)) ∈ lw_all := lw_g (lw_at lw_m11 122 rfl) rfl
theorem q2609 : (Jvm.Cond.instanceMethod ({ cls := "BenchBrokerModel", name := "completedLeases", desc := "()I" } : Jvm.MethodName)) ∈ lw_all := lw_g (lw_at lw_m11 124 rfl) rfl
theorem q2610 : (Jvm.Cond.selects "BenchBrokerModel" ({ cls := "BenchBrokerModel", name := "completedLeases", desc := "()I" } : Jvm.MethodName) ({ cls := "BenchBrokerModel", name := "completedLeases", desc := "()I" } : Jvm.MethodName)) ∈ lw_all := lw_g (lw_at lw_m11 125 rfl) rfl
theorem q2611 : (Jvm.Cond.code ({ cls := "BenchBrokerModel", name := "completedLeases", desc := "()I" } : Jvm.MethodName) prog_20_method_89_code (1 : Nat) (Option.some Jvm.ClassFile.FieldType.int)) ∈ lw_all := lw_g (lw_at lw_m11 126 rfl) rfl
theorem q2613 : (Jvm.Cond.instanceMethod ({ cls := "BenchBrokerModel", name := "benchByRent", desc := "(I)I" } : Jvm.MethodName)) ∈ lw_all := lw_g (lw_at lw_m11 128 rfl) rfl
theorem q2614 : (Jvm.Cond.selects "BenchBrokerModel" ({ cls := "BenchBrokerModel", name := "benchByRent", desc := "(I)I" } : Jvm.MethodName) ({ cls := "BenchBrokerModel", name := "benchByRent", desc := "(I)I" } : Jvm.MethodName)) ∈ lw_all := lw_g (lw_at lw_m11 129 rfl) rfl
theorem q2615 : (Jvm.Cond.code ({ cls := "BenchBrokerModel", name := "benchByRent", desc := "(I)I" } : Jvm.MethodName) prog_20_method_91_code (5 : Nat) (Option.some Jvm.ClassFile.FieldType.int)) ∈ lw_all := lw_g (lw_at lw_m11 130 rfl) rfl
theorem q2616 : (Jvm.Cond.methodLink "BenchBrokerModel" (196 : Nat) ({ cls := "BenchBrokerModel", name := "isCheaper", desc := "(II)Z" } : Jvm.MethodName)) ∈ lw_all := lw_g (lw_at lw_m11 131 rfl) rfl
theorem q2617 : (Jvm.Cond.privateMethod ({ cls := "BenchBrokerModel", name := "isCheaper", desc := "(II)Z" } : Jvm.MethodName)) ∈ lw_tbl := lw_at lw_m11 132 rfl
theorem q2618 : (Jvm.Cond.instanceMethod ({ cls := "BenchBrokerModel", name := "isCheaper", desc := "(II)Z" } : Jvm.MethodName)) ∈ lw_all := lw_g (lw_at lw_m11 133 rfl) rfl
theorem q2619 : (Jvm.Cond.code ({ cls := "BenchBrokerModel", name := "isCheaper", desc := "(II)Z" } : Jvm.MethodName) prog_20_method_90_code (4 : Nat) (Option.some Jvm.ClassFile.FieldType.boolean)) ∈ lw_all := lw_g (lw_at lw_m11 134 rfl) rfl
theorem q2621 : (Jvm.Cond.instanceMethod ({ cls := "BenchBrokerModel", name := "tenantByCoins", desc := "(I)I" } : Jvm.MethodName)) ∈ lw_all := lw_g (lw_at lw_m11 136 rfl) rfl
theorem q2622 : (Jvm.Cond.selects "BenchBrokerModel" ({ cls := "BenchBrokerModel", name := "tenantByCoins", desc := "(I)I" } : Jvm.MethodName) ({ cls := "BenchBrokerModel", name := "tenantByCoins", desc := "(I)I" } : Jvm.MethodName)) ∈ lw_all := lw_g (lw_at lw_m11 137 rfl) rfl
theorem q2623 : (Jvm.Cond.code ({ cls := "BenchBrokerModel", name := "tenantByCoins", desc := "(I)I" } : Jvm.MethodName) prog_20_method_93_code (5 : Nat) (Option.some Jvm.ClassFile.FieldType.int)) ∈ lw_all := lw_g (lw_at lw_m11 138 rfl) rfl
theorem q2624 : (Jvm.Cond.methodLink "BenchBrokerModel" (199 : Nat) ({ cls := "BenchBrokerModel", name := "isRicher", desc := "(II)Z" } : Jvm.MethodName)) ∈ lw_all := lw_g (lw_at lw_m11 139 rfl) rfl
theorem q2625 : (Jvm.Cond.privateMethod ({ cls := "BenchBrokerModel", name := "isRicher", desc := "(II)Z" } : Jvm.MethodName)) ∈ lw_tbl := lw_at lw_m11 140 rfl
theorem q2626 : (Jvm.Cond.instanceMethod ({ cls := "BenchBrokerModel", name := "isRicher", desc := "(II)Z" } : Jvm.MethodName)) ∈ lw_all := lw_g (lw_at lw_m11 141 rfl) rfl
theorem q2627 : (Jvm.Cond.code ({ cls := "BenchBrokerModel", name := "isRicher", desc := "(II)Z" } : Jvm.MethodName) prog_20_method_92_code (3 : Nat) (Option.some Jvm.ClassFile.FieldType.boolean)) ∈ lw_all := lw_g (lw_at lw_m11 142 rfl) rfl
theorem q2629 : (Jvm.Cond.instanceMethod ({ cls := "BenchBrokerModel", name := "meanRent", desc := "()D" } : Jvm.MethodName)) ∈ lw_all := lw_g (lw_at lw_m11 144 rfl) rfl
theorem q2630 : (Jvm.Cond.selects "BenchBrokerModel" ({ cls := "BenchBrokerModel", name := "meanRent", desc := "()D" } : Jvm.MethodName) ({ cls := "BenchBrokerModel", name := "meanRent", desc := "()D" } : Jvm.MethodName)) ∈ lw_all := lw_g (lw_at lw_m11 145 rfl) rfl
theorem q2631 : (Jvm.Cond.code ({ cls := "BenchBrokerModel", name := "meanRent", desc := "()D" } : Jvm.MethodName) prog_20_method_94_code (3 : Nat) (Option.some Jvm.ClassFile.FieldType.double)) ∈ lw_all := lw_g (lw_at lw_m11 146 rfl) rfl
theorem q2633 : (Jvm.Cond.instanceMethod ({ cls := "BenchBrokerModel", name := "letShare", desc := "()F" } : Jvm.MethodName)) ∈ lw_all := lw_g (lw_at lw_m11 148 rfl) rfl
theorem q2634 : (Jvm.Cond.selects "BenchBrokerModel" ({ cls := "BenchBrokerModel", name := "letShare", desc := "()F" } : Jvm.MethodName) ({ cls := "BenchBrokerModel", name := "letShare", desc := "()F" } : Jvm.MethodName)) ∈ lw_all := lw_g (lw_at lw_m11 149 rfl) rfl
theorem q2635 : (Jvm.Cond.code ({ cls := "BenchBrokerModel", name := "letShare", desc := "()F" } : Jvm.MethodName) prog_20_method_95_code (3 : Nat) (Option.some Jvm.ClassFile.FieldType.float)) ∈ lw_all := lw_g (lw_at lw_m11 150 rfl) rfl
theorem q2637 : (Jvm.Cond.instanceMethod ({ cls := "BenchBrokerModel", name := "isConsistent", desc := "()Z" } : Jvm.MethodName)) ∈ lw_all := lw_g (lw_at lw_m11 152 rfl) rfl
theorem q2638 : (Jvm.Cond.selects "BenchBrokerModel" ({ cls := "BenchBrokerModel", name := "isConsistent", desc := "()Z" } : Jvm.MethodName) ({ cls := "BenchBrokerModel", name := "isConsistent", desc := "()Z" } : Jvm.MethodName)) ∈ lw_all := lw_g (lw_at lw_m11 153 rfl) rfl
theorem q2639 : (Jvm.Cond.code ({ cls := "BenchBrokerModel", name := "isConsistent", desc := "()Z" } : Jvm.MethodName) prog_20_method_96_code (1 : Nat) (Option.some Jvm.ClassFile.FieldType.boolean)) ∈ lw_all := lw_g (lw_at lw_m11 154 rfl) rfl
theorem q2641 : (Jvm.Cond.instanceMethod ({ cls := "BenchBrokerModel", name := "writeBench", desc := "(I)I" } : Jvm.MethodName)) ∈ lw_all := lw_g (lw_at lw_m11 156 rfl) rfl
theorem q2642 : (Jvm.Cond.selects "BenchBrokerModel" ({ cls := "BenchBrokerModel", name := "writeBench", desc := "(I)I" } : Jvm.MethodName) ({ cls := "BenchBrokerModel", name := "writeBench", desc := "(I)I" } : Jvm.MethodName)) ∈ lw_all := lw_g (lw_at lw_m11 157 rfl) rfl
theorem q2643 : (Jvm.Cond.code ({ cls := "BenchBrokerModel", name := "writeBench", desc := "(I)I" } : Jvm.MethodName) prog_20_method_99_code (2 : Nat) (Option.some Jvm.ClassFile.FieldType.int)) ∈ lw_all := lw_g (lw_at lw_m11 158 rfl) rfl
theorem q2644 : (Jvm.Cond.methodLink "BenchBrokerModel" (209 : Nat) ({ cls := "BenchBrokerModel", name := "writesNumber", desc := "(I)V" } : Jvm.MethodName)) ∈ lw_all := lw_g (lw_at lw_m11 159 rfl) rfl
theorem q2645 : (Jvm.Cond.privateMethod ({ cls := "BenchBrokerModel", name := "writesNumber", desc := "(I)V" } : Jvm.MethodName)) ∈ lw_tbl := lw_at lw_m11 160 rfl
theorem q2646 : (Jvm.Cond.instanceMethod ({ cls := "BenchBrokerModel", name := "writesNumber", desc := "(I)V" } : Jvm.MethodName)) ∈ lw_all := lw_g (lw_at lw_m11 161 rfl) rfl
theorem q2647 : (Jvm.Cond.code ({ cls := "BenchBrokerModel", name := "writesNumber", desc := "(I)V" } : Jvm.MethodName) prog_20_method_98_code (2 : Nat) (Option.none : Option Jvm.ClassFile.FieldType)) ∈ lw_all := lw_g (lw_at lw_m11 162 rfl) rfl
theorem q2648 : (Jvm.Cond.methodLink "BenchBrokerModel" (205 : Nat) ({ cls := "BenchBrokerModel", name := "writes", desc := "(I)V" } : Jvm.MethodName)) ∈ lw_all := lw_g (lw_at lw_m11 163 rfl) rfl
theorem q2649 : (Jvm.Cond.privateMethod ({ cls := "BenchBrokerModel", name := "writes", desc := "(I)V" } : Jvm.MethodName)) ∈ lw_tbl := lw_at lw_m11 164 rfl
theorem q2650 : (Jvm.Cond.instanceMethod ({ cls := "BenchBrokerModel", name := "writes", desc := "(I)V" } : Jvm.MethodName)) ∈ lw_all := lw_g (lw_at lw_m11 165 rfl) rfl
theorem q2651 : (Jvm.Cond.code ({ cls := "BenchBrokerModel", name := "writes", desc := "(I)V" } : Jvm.MethodName) prog_20_method_97_code (2 : Nat) (Option.none : Option Jvm.ClassFile.FieldType)) ∈ lw_all := lw_g (lw_at lw_m11 166 rfl) rfl
theorem q2653 : (Jvm.Cond.instanceMethod ({ cls := "BenchBrokerModel", name := "writeRow", desc := "(I)I" } : Jvm.MethodName)) ∈ lw_all := lw_g (lw_at lw_m11 168 rfl) rfl
theorem q2654 : (Jvm.Cond.selects "BenchBrokerModel" ({ cls := "BenchBrokerModel", name := "writeRow", desc := "(I)I" } : Jvm.MethodName) ({ cls := "BenchBrokerModel", name := "writeRow", desc := "(I)I" } : Jvm.MethodName)) ∈ lw_all := lw_g (lw_at lw_m11 169 rfl) rfl
theorem q2655 : (Jvm.Cond.code ({ cls := "BenchBrokerModel", name := "writeRow", desc := "(I)I" } : Jvm.MethodName) prog_20_method_100_code (4 : Nat) (Option.some Jvm.ClassFile.FieldType.int)) ∈ lw_all := lw_g (lw_at lw_m11 170 rfl) rfl
theorem q2657 : (Jvm.Cond.instanceMethod ({ cls := "BenchBrokerModel", name := "outputAt", desc := "(I)C" } : Jvm.MethodName)) ∈ lw_all := lw_g (lw_at lw_m11 172 rfl) rfl
theorem q2658 : (Jvm.Cond.selects "BenchBrokerModel" ({ cls := "BenchBrokerModel", name := "outputAt", desc := "(I)C" } : Jvm.MethodName) ({ cls := "BenchBrokerModel", name := "outputAt", desc := "(I)C" } : Jvm.MethodName)) ∈ lw_all := lw_g (lw_at lw_m11 173 rfl) rfl
theorem q2659 : (Jvm.Cond.code ({ cls := "BenchBrokerModel", name := "outputAt", desc := "(I)C" } : Jvm.MethodName) prog_20_method_101_code (2 : Nat) (Option.some Jvm.ClassFile.FieldType.char)) ∈ lw_all := lw_g (lw_at lw_m11 174 rfl) rfl
theorem q2661 : (Jvm.Cond.instanceMethod ({ cls := "BenchBrokerModel", name := "appendInput", desc := "(C)I" } : Jvm.MethodName)) ∈ lw_all := lw_g (lw_at lw_m11 176 rfl) rfl
theorem q2662 : (Jvm.Cond.selects "BenchBrokerModel" ({ cls := "BenchBrokerModel", name := "appendInput", desc := "(C)I" } : Jvm.MethodName) ({ cls := "BenchBrokerModel", name := "appendInput", desc := "(C)I" } : Jvm.MethodName)) ∈ lw_all := lw_g (lw_at lw_m11 177 rfl) rfl
theorem q2663 : (Jvm.Cond.code ({ cls := "BenchBrokerModel", name := "appendInput", desc := "(C)I" } : Jvm.MethodName) prog_20_method_102_code (2 : Nat) (Option.some Jvm.ClassFile.FieldType.int)) ∈ lw_all := lw_g (lw_at lw_m11 178 rfl) rfl
theorem q2665 : (Jvm.Cond.instanceMethod ({ cls := "BenchBrokerModel", name := "execute", desc := "()I" } : Jvm.MethodName)) ∈ lw_all := lw_g (lw_at lw_m11 180 rfl) rfl
theorem q2666 : (Jvm.Cond.selects "BenchBrokerModel" ({ cls := "BenchBrokerModel", name := "execute", desc := "()I" } : Jvm.MethodName) ({ cls := "BenchBrokerModel", name := "execute", desc := "()I" } : Jvm.MethodName)) ∈ lw_all := lw_g (lw_at lw_m11 181 rfl) rfl
theorem q2667 : (Jvm.Cond.code ({ cls := "BenchBrokerModel", name := "execute", desc := "()I" } : Jvm.MethodName) prog_20_method_109_code (4 : Nat) (Option.some Jvm.ClassFile.FieldType.int)) ∈ lw_all := lw_g (lw_at lw_m11 182 rfl) rfl
theorem q2668 : (Jvm.Cond.methodLink "BenchBrokerModel" (268 : Nat) ({ cls := "BenchBrokerModel", name := "readsOne", desc := "()V" } : Jvm.MethodName)) ∈ lw_all := lw_g (lw_at lw_m11 183 rfl) rfl
theorem q2669 : (Jvm.Cond.privateMethod ({ cls := "BenchBrokerModel", name := "readsOne", desc := "()V" } : Jvm.MethodName)) ∈ lw_tbl := lw_at lw_m11 184 rfl
theorem q2670 : (Jvm.Cond.instanceMethod ({ cls := "BenchBrokerModel", name := "readsOne", desc := "()V" } : Jvm.MethodName)) ∈ lw_all := lw_g (lw_at lw_m11 185 rfl) rfl
theorem q2671 : (Jvm.Cond.code ({ cls := "BenchBrokerModel", name := "readsOne", desc := "()V" } : Jvm.MethodName) prog_20_method_107_code (1 : Nat) (Option.none : Option Jvm.ClassFile.FieldType)) ∈ lw_all := lw_g (lw_at lw_m11 186 rfl) rfl
theorem q2672 : (Jvm.Cond.methodLink "BenchBrokerModel" (229 : Nat) ({ cls := "BenchBrokerModel", name := "here", desc := "(I)I" } : Jvm.MethodName)) ∈ lw_all := lw_g (lw_at lw_m11 187 rfl) rfl
theorem q2673 : (Jvm.Cond.privateMethod ({ cls := "BenchBrokerModel", name := "here", desc := "(I)I" } : Jvm.MethodName)) ∈ lw_tbl := lw_at lw_m11 188 rfl
theorem q2674 : (Jvm.Cond.instanceMethod ({ cls := "BenchBrokerModel", name := "here", desc := "(I)I" } : Jvm.MethodName)) ∈ lw_all := lw_g (lw_at lw_m11 189 rfl) rfl
theorem q2675 : (Jvm.Cond.code ({ cls := "BenchBrokerModel", name := "here", desc := "(I)I" } : Jvm.MethodName) prog_20_method_103_code (2 : Nat) (Option.some Jvm.ClassFile.FieldType.int)) ∈ lw_all := lw_g (lw_at lw_m11 190 rfl) rfl
theorem q2676 : (Jvm.Cond.stringRef "BenchBrokerModel" (248 : Nat) "bench") ∈ lw_tbl := lw_at lw_m11 191 rfl
theorem q2677 : (Jvm.Cond.methodLink "BenchBrokerModel" (249 : Nat) ({ cls := "BenchBrokerModel", name := "one", desc := "(ILjava/lang/String;III)V" } : Jvm.MethodName)) ∈ lw_all := lw_g (lw_at lw_m11 192 rfl) rfl
theorem q2678 : (Jvm.Cond.privateMethod ({ cls := "BenchBrokerModel", name := "one", desc := "(ILjava/lang/String;III)V" } : Jvm.MethodName)) ∈ lw_tbl := lw_at lw_m11 193 rfl
theorem q2679 : (Jvm.Cond.instanceMethod ({ cls := "BenchBrokerModel", name := "one", desc := "(ILjava/lang/String;III)V" } : Jvm.MethodName)) ∈ lw_all := lw_g (lw_at lw_m11 194 rfl) rfl
theorem q2680 : (Jvm.Cond.code ({ cls := "BenchBrokerModel", name := "one", desc := "(ILjava/lang/String;III)V" } : Jvm.MethodName) prog_20_method_106_code (6 : Nat) (Option.none : Option Jvm.ClassFile.FieldType)) ∈ lw_all := lw_g (lw_at lw_m11 195 rfl) rfl
theorem q2681 : (Jvm.Cond.methodLink "BenchBrokerModel" (238 : Nat) ({ cls := "BenchBrokerModel", name := "says", desc := "(Ljava/lang/String;)V" } : Jvm.MethodName)) ∈ lw_all := lw_g (lw_at lw_m11 196 rfl) rfl
theorem q2682 : (Jvm.Cond.privateMethod ({ cls := "BenchBrokerModel", name := "says", desc := "(Ljava/lang/String;)V" } : Jvm.MethodName)) ∈ lw_tbl := lw_at lw_m11 197 rfl
theorem q2683 : (Jvm.Cond.instanceMethod ({ cls := "BenchBrokerModel", name := "says", desc := "(Ljava/lang/String;)V" } : Jvm.MethodName)) ∈ lw_all := lw_g (lw_at lw_m11 198 rfl) rfl
theorem q2684 : (Jvm.Cond.code ({ cls := "BenchBrokerModel", name := "says", desc := "(Ljava/lang/String;)V" } : Jvm.MethodName) prog_20_method_104_code (3 : Nat) (Option.none : Option Jvm.ClassFile.FieldType)) ∈ lw_all := lw_g (lw_at lw_m11 199 rfl) rfl
theorem q2685 : (Jvm.Cond.methodLink "BenchBrokerModel" (221 : Nat) ({ cls := "java/lang/String", name := "length", desc := "()I" } : Jvm.MethodName)) ∈ lw_all := lw_g (lw_at lw_m11 200 rfl) rfl
theorem q2686 : (Jvm.Cond.methodLink "BenchBrokerModel" (232 : Nat) ({ cls := "java/lang/String", name := "charAt", desc := "(I)C" } : Jvm.MethodName)) ∈ lw_all := lw_g (lw_at lw_m11 201 rfl) rfl
theorem q2687 : (Jvm.Cond.methodLink "BenchBrokerModel" (245 : Nat) ({ cls := "BenchBrokerModel", name := "number", desc := "(II)V" } : Jvm.MethodName)) ∈ lw_all := lw_g (lw_at lw_m11 202 rfl) rfl
theorem q2688 : (Jvm.Cond.privateMethod ({ cls := "BenchBrokerModel", name := "number", desc := "(II)V" } : Jvm.MethodName)) ∈ lw_tbl := lw_at lw_m11 203 rfl
theorem q2689 : (Jvm.Cond.instanceMethod ({ cls := "BenchBrokerModel", name := "number", desc := "(II)V" } : Jvm.MethodName)) ∈ lw_all := lw_g (lw_at lw_m11 204 rfl) rfl
theorem q2690 : (Jvm.Cond.code ({ cls := "BenchBrokerModel", name := "number", desc := "(II)V" } : Jvm.MethodName) prog_20_method_105_code (5 : Nat) (Option.none : Option Jvm.ClassFile.FieldType)) ∈ lw_all := lw_g (lw_at lw_m11 205 rfl) rfl
theorem q2691 : (Jvm.Cond.stringRef "BenchBrokerModel" (236 : Nat) " ") ∈ lw_tbl := lw_at lw_m11 206 rfl
theorem q2692 : (Jvm.Cond.stringRef "BenchBrokerModel" (253 : Nat) "fountain") ∈ lw_tbl := lw_at lw_m11 207 rfl
theorem q2693 : (Jvm.Cond.stringRef "BenchBrokerModel" (254 : Nat) "tenant") ∈ lw_tbl := lw_at lw_m11 208 rfl
theorem q2694 : (Jvm.Cond.stringRef "BenchBrokerModel" (255 : Nat) "give") ∈ lw_tbl := lw_at lw_m11 209 rfl
theorem q2695 : (Jvm.Cond.stringRef "BenchBrokerModel" (257 : Nat) "limit") ∈ lw_tbl := lw_at lw_m11 210 rfl
theorem q2696 : (Jvm.Cond.stringRef "BenchBrokerModel" (259 : Nat) "lease") ∈ lw_tbl := lw_at lw_m11 211 rfl
theorem q2697 : (Jvm.Cond.stringRef "BenchBrokerModel" (261 : Nat) "end") ∈ lw_tbl := lw_at lw_m11 212 rfl
theorem q2698 : (Jvm.Cond.stringRef "BenchBrokerModel" (262 : Nat) "renew") ∈ lw_tbl := lw_at lw_m11 213 rfl
theorem q2699 : (Jvm.Cond.stringRef "BenchBrokerModel" (264 : Nat) "switch") ∈ lw_tbl := lw_at lw_m11 214 rfl
theorem q2700 : (Jvm.Cond.stringRef "BenchBrokerModel" (266 : Nat) "pass") ∈ lw_tbl := lw_at lw_m11 215 rfl
theorem q2701 : (Jvm.Cond.methodLink "BenchBrokerModel" (271 : Nat) ({ cls := "BenchBrokerModel", name := "does", desc := "(I)I" } : Jvm.MethodName)) ∈ lw_all := lw_g (lw_at lw_m11 216 rfl) rfl
theorem q2702 : (Jvm.Cond.privateMethod ({ cls := "BenchBrokerModel", name := "does", desc := "(I)I" } : Jvm.MethodName)) ∈ lw_tbl := lw_at lw_m11 217 rfl
theorem q2703 : (Jvm.Cond.instanceMethod ({ cls := "BenchBrokerModel", name := "does", desc := "(I)I" } : Jvm.MethodName)) ∈ lw_all := lw_g (lw_at lw_m11 218 rfl) rfl
theorem q2704 : (Jvm.Cond.code ({ cls := "BenchBrokerModel", name := "does", desc := "(I)I" } : Jvm.MethodName) prog_20_method_108_code (5 : Nat) (Option.some Jvm.ClassFile.FieldType.int)) ∈ lw_all := lw_g (lw_at lw_m11 219 rfl) rfl
theorem q2706 : (Jvm.Cond.instanceMethod ({ cls := "BenchBrokerModel", name := "syntaxErrorOffset", desc := "()I" } : Jvm.MethodName)) ∈ lw_all := lw_g (lw_at lw_m11 221 rfl) rfl
theorem q2707 : (Jvm.Cond.selects "BenchBrokerModel" ({ cls := "BenchBrokerModel", name := "syntaxErrorOffset", desc := "()I" } : Jvm.MethodName) ({ cls := "BenchBrokerModel", name := "syntaxErrorOffset", desc := "()I" } : Jvm.MethodName)) ∈ lw_all := lw_g (lw_at lw_m11 222 rfl) rfl
theorem q2708 : (Jvm.Cond.code ({ cls := "BenchBrokerModel", name := "syntaxErrorOffset", desc := "()I" } : Jvm.MethodName) prog_20_method_110_code (1 : Nat) (Option.some Jvm.ClassFile.FieldType.int)) ∈ lw_all := lw_g (lw_at lw_m11 223 rfl) rfl
theorem q2710 : (Jvm.Cond.instanceMethod ({ cls := "BenchBrokerModel", name := "rejectionReason", desc := "()I" } : Jvm.MethodName)) ∈ lw_all := lw_g (lw_at lw_m11 225 rfl) rfl
theorem q2711 : (Jvm.Cond.selects "BenchBrokerModel" ({ cls := "BenchBrokerModel", name := "rejectionReason", desc := "()I" } : Jvm.MethodName) ({ cls := "BenchBrokerModel", name := "rejectionReason", desc := "()I" } : Jvm.MethodName)) ∈ lw_all := lw_g (lw_at lw_m11 226 rfl) rfl
theorem q2712 : (Jvm.Cond.code ({ cls := "BenchBrokerModel", name := "rejectionReason", desc := "()I" } : Jvm.MethodName) prog_20_method_111_code (1 : Nat) (Option.some Jvm.ClassFile.FieldType.int)) ∈ lw_all := lw_g (lw_at lw_m11 227 rfl) rfl
theorem q2714 : (Jvm.Cond.instanceMethod ({ cls := "BenchBrokerModel", name := "rejectionDetail", desc := "()I" } : Jvm.MethodName)) ∈ lw_all := lw_g (lw_at lw_m11 229 rfl) rfl
theorem q2715 : (Jvm.Cond.selects "BenchBrokerModel" ({ cls := "BenchBrokerModel", name := "rejectionDetail", desc := "()I" } : Jvm.MethodName) ({ cls := "BenchBrokerModel", name := "rejectionDetail", desc := "()I" } : Jvm.MethodName)) ∈ lw_all := lw_g (lw_at lw_m11 230 rfl) rfl
theorem q2716 : (Jvm.Cond.code ({ cls := "BenchBrokerModel", name := "rejectionDetail", desc := "()I" } : Jvm.MethodName) prog_20_method_112_code (1 : Nat) (Option.some Jvm.ClassFile.FieldType.int)) ∈ lw_all := lw_g (lw_at lw_m11 231 rfl) rfl
theorem q2718 : (Jvm.Cond.instanceMethod ({ cls := "BenchBrokerModel", name := "causeReason", desc := "()I" } : Jvm.MethodName)) ∈ lw_all := lw_g (lw_at lw_m11 233 rfl) rfl
theorem q2719 : (Jvm.Cond.selects "BenchBrokerModel" ({ cls := "BenchBrokerModel", name := "causeReason", desc := "()I" } : Jvm.MethodName) ({ cls := "BenchBrokerModel", name := "causeReason", desc := "()I" } : Jvm.MethodName)) ∈ lw_all := lw_g (lw_at lw_m11 234 rfl) rfl
theorem q2720 : (Jvm.Cond.code ({ cls := "BenchBrokerModel", name := "causeReason", desc := "()I" } : Jvm.MethodName) prog_20_method_113_code (1 : Nat) (Option.some Jvm.ClassFile.FieldType.int)) ∈ lw_all := lw_g (lw_at lw_m11 235 rfl) rfl
theorem q2722 : (Jvm.Cond.instanceMethod ({ cls := "BenchBrokerModel", name := "undo", desc := "()I" } : Jvm.MethodName)) ∈ lw_all := lw_g (lw_at lw_m11 237 rfl) rfl
theorem q2723 : (Jvm.Cond.selects "BenchBrokerModel" ({ cls := "BenchBrokerModel", name := "undo", desc := "()I" } : Jvm.MethodName) ({ cls := "BenchBrokerModel", name := "undo", desc := "()I" } : Jvm.MethodName)) ∈ lw_all := lw_g (lw_at lw_m11 238 rfl) rfl
theorem q2724 : (Jvm.Cond.code ({ cls := "BenchBrokerModel", name := "undo", desc := "()I" } : Jvm.MethodName) prog_20_method_114_code (2 : Nat) (Option.some Jvm.ClassFile.FieldType.int)) ∈ lw_all := lw_g (lw_at lw_m11 239 rfl) rfl
theorem q2726 : (Jvm.Cond.instanceMethod ({ cls := "BenchBrokerModel", name := "saveSnapshot", desc := "()I" } : Jvm.MethodName)) ∈ lw_all := lw_g (lw_at lw_m12 1 rfl) rfl
theorem q2727 : (Jvm.Cond.selects "BenchBrokerModel" ({ cls := "BenchBrokerModel", name := "saveSnapshot", desc := "()I" } : Jvm.MethodName) ({ cls := "BenchBrokerModel", name := "saveSnapshot", desc := "()I" } : Jvm.MethodName)) ∈ lw_all := lw_g (lw_at lw_m12 2 rfl) rfl
theorem q2728 : (Jvm.Cond.code ({ cls := "BenchBrokerModel", name := "saveSnapshot", desc := "()I" } : Jvm.MethodName) prog_20_method_115_code (2 : Nat) (Option.some Jvm.ClassFile.FieldType.int)) ∈ lw_all := lw_g (lw_at lw_m12 3 rfl) rfl
theorem q2730 : (Jvm.Cond.instanceMethod ({ cls := "BenchBrokerModel", name := "restoreSnapshot", desc := "()I" } : Jvm.MethodName)) ∈ lw_all := lw_g (lw_at lw_m12 5 rfl) rfl
theorem q2731 : (Jvm.Cond.selects "BenchBrokerModel" ({ cls := "BenchBrokerModel", name := "restoreSnapshot", desc := "()I" } : Jvm.MethodName) ({ cls := "BenchBrokerModel", name := "restoreSnapshot", desc := "()I" } : Jvm.MethodName)) ∈ lw_all := lw_g (lw_at lw_m12 6 rfl) rfl
theorem q2732 : (Jvm.Cond.code ({ cls := "BenchBrokerModel", name := "restoreSnapshot", desc := "()I" } : Jvm.MethodName) prog_20_method_116_code (2 : Nat) (Option.some Jvm.ClassFile.FieldType.int)) ∈ lw_all := lw_g (lw_at lw_m12 7 rfl) rfl
theorem q2770 : (Jvm.Cond.castable "BenchBrokerModel" "java/lang/Object") ∈ lw_tbl := lw_at lw_m12 45 rfl
theorem in_X4 : ∀ w ∈ wsX40, w ∈ lw_all := lw_in wsX40 [2214, 2216, 2218, 2220, 2222, 2224, 2226, 2228, 2230, 2232, 2234, 2236, 2238, 2240, 2242, 2244, 2246, 2248, 2250, 2252, 2254, 2256, 2258] (by decide +kernel) (by decide +kernel)
