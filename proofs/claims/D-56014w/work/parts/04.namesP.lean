/-! BenchBroker$Register -/
set_option maxRecDepth 100000
def RX3 : String := "BenchBroker$Register"
def TX3 : u_T := fun k => match k with
  | _ => ("BenchBroker$Register", "items", "Ljava/util/ArrayList;", true)
def tyX3 : Nat → FieldType := fun k => match k with
  | _ => .object "java/util/ArrayList"
abbrev wsX30 : List Cond := u_ws RX3 TX3 1
theorem nmX3 : ∀ a, a < 1 → ∀ b, b < 1 → a ≠ b → (TX3 a).2.1 ≠ (TX3 b).2.1 := by decide +kernel
theorem tyX3_ok : ∀ k, k < 1 → parseFieldDescriptor (TX3 k).2.2.1 = some (tyX3 k) := by decide +kernel
abbrev cX3_init : ByteArray := prog_14_method_1_code
def yX3_init : MethodName := ⟨RX3, "<init>", "()V"⟩
def dkwX3_init_0 : List UInt8 := [42, 183, 0, 1, 42, 187, 0, 7, 89, 183, 0, 9, 181, 0, 10, 177]
abbrev dktX3_init_0 : List UInt8 := dkwX3_init_0 ++ []
theorem dksX3_init_0 : cX3_init.data.toList.drop 0 = dktX3_init_0 := by decide +kernel
theorem dX3_init_0 : decode cX3_init 0 = .ok (.aload_n 0, 1) := dk_42 (dk_at dksX3_init_0 0 rfl rfl)
theorem dX3_init_1 : decode cX3_init 1 = .ok (.invokespecial 1, 3) := dk_183 0 1 (dk_at dksX3_init_0 1 rfl rfl)
theorem dX3_init_4 : decode cX3_init 4 = .ok (.aload_n 0, 1) := dk_42 (dk_at dksX3_init_0 4 rfl rfl)
theorem dX3_init_5 : decode cX3_init 5 = .ok (.new 7, 3) := dk_187 0 7 (dk_at dksX3_init_0 5 rfl rfl)
theorem dX3_init_8 : decode cX3_init 8 = .ok (.dup, 1) := dk_89 (dk_at dksX3_init_0 8 rfl rfl)
theorem dX3_init_9 : decode cX3_init 9 = .ok (.invokespecial 9, 3) := dk_183 0 9 (dk_at dksX3_init_0 9 rfl rfl)
theorem dX3_init_12 : decode cX3_init 12 = .ok (.putfield 10, 3) := dk_181 0 10 (dk_at dksX3_init_0 12 rfl rfl)
theorem dX3_init_15 : decode cX3_init 15 = .ok (.return_, 1) := dk_177 (dk_at dksX3_init_0 15 rfl rfl)
abbrev cX3_size : ByteArray := prog_14_method_4_code
def yX3_size : MethodName := ⟨RX3, "size", "()I"⟩
def dkwX3_size_0 : List UInt8 := [42, 180, 0, 10, 182, 0, 26, 172]
abbrev dktX3_size_0 : List UInt8 := dkwX3_size_0 ++ []
theorem dksX3_size_0 : cX3_size.data.toList.drop 0 = dktX3_size_0 := by decide +kernel
theorem dX3_size_0 : decode cX3_size 0 = .ok (.aload_n 0, 1) := dk_42 (dk_at dksX3_size_0 0 rfl rfl)
theorem dX3_size_1 : decode cX3_size 1 = .ok (.getfield 10, 3) := dk_180 0 10 (dk_at dksX3_size_0 1 rfl rfl)
theorem dX3_size_4 : decode cX3_size 4 = .ok (.invokevirtual 26, 3) := dk_182 0 26 (dk_at dksX3_size_0 4 rfl rfl)
theorem dX3_size_7 : decode cX3_size 7 = .ok (.ireturn, 1) := dk_172 (dk_at dksX3_size_0 7 rfl rfl)
abbrev cX3_sum : ByteArray := prog_14_method_6_code
def yX3_sum : MethodName := ⟨RX3, "sum", "(LBenchBroker$Value;)I"⟩
def dkwX3_sum_1 : List UInt8 := [182, 0, 20, 192, 0, 24, 185, 0, 36, 2, 0, 96, 61, 132, 3, 1, 167, 255, 222, 28, 172]
abbrev dktX3_sum_1 : List UInt8 := dkwX3_sum_1 ++ []
def dkwX3_sum_0 : List UInt8 := [3, 61, 3, 62, 29, 42, 180, 0, 10, 182, 0, 26, 162, 0, 29, 28, 43, 42, 180, 0, 10, 29]
abbrev dktX3_sum_0 : List UInt8 := dkwX3_sum_0 ++ dktX3_sum_1
theorem dksX3_sum_0 : cX3_sum.data.toList.drop 0 = dktX3_sum_0 := by decide +kernel
theorem dksX3_sum_1 : cX3_sum.data.toList.drop 22 = dktX3_sum_1 := dk_seg dksX3_sum_0 22 rfl rfl
theorem dX3_sum_0 : decode cX3_sum 0 = .ok (.iconst 0, 1) := dk_3 (dk_at dksX3_sum_0 0 rfl rfl)
theorem dX3_sum_1 : decode cX3_sum 1 = .ok (.istore_n 2, 1) := dk_61 (dk_at dksX3_sum_0 1 rfl rfl)
theorem dX3_sum_2 : decode cX3_sum 2 = .ok (.iconst 0, 1) := dk_3 (dk_at dksX3_sum_0 2 rfl rfl)
theorem dX3_sum_3 : decode cX3_sum 3 = .ok (.istore_n 3, 1) := dk_62 (dk_at dksX3_sum_0 3 rfl rfl)
theorem dX3_sum_4 : decode cX3_sum 4 = .ok (.iload_n 3, 1) := dk_29 (dk_at dksX3_sum_0 4 rfl rfl)
theorem dX3_sum_5 : decode cX3_sum 5 = .ok (.aload_n 0, 1) := dk_42 (dk_at dksX3_sum_0 5 rfl rfl)
theorem dX3_sum_6 : decode cX3_sum 6 = .ok (.getfield 10, 3) := dk_180 0 10 (dk_at dksX3_sum_0 6 rfl rfl)
theorem dX3_sum_9 : decode cX3_sum 9 = .ok (.invokevirtual 26, 3) := dk_182 0 26 (dk_at dksX3_sum_0 9 rfl rfl)
theorem dX3_sum_12 : decode cX3_sum 12 = .ok (.if_icmp .ge 29, 3) := dk_162 0 29 (dk_at dksX3_sum_0 12 rfl rfl)
theorem dX3_sum_15 : decode cX3_sum 15 = .ok (.iload_n 2, 1) := dk_28 (dk_at dksX3_sum_0 15 rfl rfl)
theorem dX3_sum_16 : decode cX3_sum 16 = .ok (.aload_n 1, 1) := dk_43 (dk_at dksX3_sum_0 16 rfl rfl)
theorem dX3_sum_17 : decode cX3_sum 17 = .ok (.aload_n 0, 1) := dk_42 (dk_at dksX3_sum_0 17 rfl rfl)
theorem dX3_sum_18 : decode cX3_sum 18 = .ok (.getfield 10, 3) := dk_180 0 10 (dk_at dksX3_sum_0 18 rfl rfl)
theorem dX3_sum_21 : decode cX3_sum 21 = .ok (.iload_n 3, 1) := dk_29 (dk_at dksX3_sum_0 21 rfl rfl)
theorem dX3_sum_22 : decode cX3_sum 22 = .ok (.invokevirtual 20, 3) := dk_182 0 20 (dk_at dksX3_sum_1 0 rfl rfl)
theorem dX3_sum_25 : decode cX3_sum 25 = .ok (.checkcast 24, 3) := dk_192 0 24 (dk_at dksX3_sum_1 3 rfl rfl)
theorem dX3_sum_28 : decode cX3_sum 28 = .ok (.invokeinterface 36 2, 5) := by decide +kernel
theorem dX3_sum_33 : decode cX3_sum 33 = .ok (.iadd, 1) := dk_96 (dk_at dksX3_sum_1 11 rfl rfl)
theorem dX3_sum_34 : decode cX3_sum 34 = .ok (.istore_n 2, 1) := dk_61 (dk_at dksX3_sum_1 12 rfl rfl)
theorem dX3_sum_35 : decode cX3_sum 35 = .ok (.iinc 3 1, 3) := dk_132 3 1 (dk_at dksX3_sum_1 13 rfl rfl)
theorem dX3_sum_38 : decode cX3_sum 38 = .ok (.goto (-34), 3) := dk_167 255 222 (dk_at dksX3_sum_1 16 rfl rfl)
theorem dX3_sum_41 : decode cX3_sum 41 = .ok (.iload_n 2, 1) := dk_28 (dk_at dksX3_sum_1 19 rfl rfl)
theorem dX3_sum_42 : decode cX3_sum 42 = .ok (.ireturn, 1) := dk_172 (dk_at dksX3_sum_1 20 rfl rfl)
abbrev cX3_get : ByteArray := prog_14_method_3_code
def yX3_get : MethodName := ⟨RX3, "get", "(I)LBenchBroker$Item;"⟩
def dkwX3_get_0 : List UInt8 := [42, 180, 0, 10, 27, 182, 0, 20, 192, 0, 24, 176]
abbrev dktX3_get_0 : List UInt8 := dkwX3_get_0 ++ []
theorem dksX3_get_0 : cX3_get.data.toList.drop 0 = dktX3_get_0 := by decide +kernel
theorem dX3_get_0 : decode cX3_get 0 = .ok (.aload_n 0, 1) := dk_42 (dk_at dksX3_get_0 0 rfl rfl)
theorem dX3_get_1 : decode cX3_get 1 = .ok (.getfield 10, 3) := dk_180 0 10 (dk_at dksX3_get_0 1 rfl rfl)
theorem dX3_get_4 : decode cX3_get 4 = .ok (.iload_n 1, 1) := dk_27 (dk_at dksX3_get_0 4 rfl rfl)
theorem dX3_get_5 : decode cX3_get 5 = .ok (.invokevirtual 20, 3) := dk_182 0 20 (dk_at dksX3_get_0 5 rfl rfl)
theorem dX3_get_8 : decode cX3_get 8 = .ok (.checkcast 24, 3) := dk_192 0 24 (dk_at dksX3_get_0 8 rfl rfl)
theorem dX3_get_11 : decode cX3_get 11 = .ok (.areturn, 1) := dk_176 (dk_at dksX3_get_0 11 rfl rfl)
abbrev cX3_add : ByteArray := prog_14_method_2_code
def yX3_add : MethodName := ⟨RX3, "add", "(LBenchBroker$Item;)V"⟩
def dkwX3_add_0 : List UInt8 := [42, 180, 0, 10, 43, 182, 0, 16, 87, 177]
abbrev dktX3_add_0 : List UInt8 := dkwX3_add_0 ++ []
theorem dksX3_add_0 : cX3_add.data.toList.drop 0 = dktX3_add_0 := by decide +kernel
theorem dX3_add_0 : decode cX3_add 0 = .ok (.aload_n 0, 1) := dk_42 (dk_at dksX3_add_0 0 rfl rfl)
theorem dX3_add_1 : decode cX3_add 1 = .ok (.getfield 10, 3) := dk_180 0 10 (dk_at dksX3_add_0 1 rfl rfl)
theorem dX3_add_4 : decode cX3_add 4 = .ok (.aload_n 1, 1) := dk_43 (dk_at dksX3_add_0 4 rfl rfl)
theorem dX3_add_5 : decode cX3_add 5 = .ok (.invokevirtual 16, 3) := dk_182 0 16 (dk_at dksX3_add_0 5 rfl rfl)
theorem dX3_add_8 : decode cX3_add 8 = .ok (.pop, 1) := dk_87 (dk_at dksX3_add_0 8 rfl rfl)
theorem dX3_add_9 : decode cX3_add 9 = .ok (.return_, 1) := dk_177 (dk_at dksX3_add_0 9 rfl rfl)
abbrev cX3_has : ByteArray := prog_14_method_5_code
def yX3_has : MethodName := ⟨RX3, "has", "(I)Z"⟩
def dkwX3_has_0 : List UInt8 := [27, 3, 42, 180, 0, 10, 182, 0, 26, 4, 100, 184, 0, 30, 172]
abbrev dktX3_has_0 : List UInt8 := dkwX3_has_0 ++ []
theorem dksX3_has_0 : cX3_has.data.toList.drop 0 = dktX3_has_0 := by decide +kernel
theorem dX3_has_0 : decode cX3_has 0 = .ok (.iload_n 1, 1) := dk_27 (dk_at dksX3_has_0 0 rfl rfl)
theorem dX3_has_1 : decode cX3_has 1 = .ok (.iconst 0, 1) := dk_3 (dk_at dksX3_has_0 1 rfl rfl)
theorem dX3_has_2 : decode cX3_has 2 = .ok (.aload_n 0, 1) := dk_42 (dk_at dksX3_has_0 2 rfl rfl)
theorem dX3_has_3 : decode cX3_has 3 = .ok (.getfield 10, 3) := dk_180 0 10 (dk_at dksX3_has_0 3 rfl rfl)
theorem dX3_has_6 : decode cX3_has 6 = .ok (.invokevirtual 26, 3) := dk_182 0 26 (dk_at dksX3_has_0 6 rfl rfl)
theorem dX3_has_9 : decode cX3_has 9 = .ok (.iconst 1, 1) := dk_4 (dk_at dksX3_has_0 9 rfl rfl)
theorem dX3_has_10 : decode cX3_has 10 = .ok (.isub, 1) := dk_100 (dk_at dksX3_has_0 10 rfl rfl)
theorem dX3_has_11 : decode cX3_has 11 = .ok (.invokestatic 30, 3) := dk_184 0 30 (dk_at dksX3_has_0 11 rfl rfl)
theorem dX3_has_14 : decode cX3_has 14 = .ok (.ireturn, 1) := dk_172 (dk_at dksX3_has_0 14 rfl rfl)
theorem q88 : (Jvm.Cond.initialized "BenchBroker$Register") ∈ lw_all := lw_g (lw_at lw_m1 3 rfl) rfl
theorem q148 : (Jvm.Cond.instantiable "BenchBroker$Register" (1 : Nat)) ∈ lw_all := lw_g (lw_at lw_m1 63 rfl) rfl
theorem q150 : (Jvm.Cond.instanceMethod ({ cls := "BenchBroker$Register", name := "<init>", desc := "()V" } : Jvm.MethodName)) ∈ lw_all := lw_g (lw_at lw_m1 65 rfl) rfl
theorem q151 : (Jvm.Cond.code ({ cls := "BenchBroker$Register", name := "<init>", desc := "()V" } : Jvm.MethodName) prog_14_method_1_code (1 : Nat) (Option.none : Option Jvm.ClassFile.FieldType)) ∈ lw_all := lw_g (lw_at lw_m1 66 rfl) rfl
theorem q152 : (Jvm.Cond.methodLink "BenchBroker$Register" (1 : Nat) ({ cls := "java/lang/Object", name := "<init>", desc := "()V" } : Jvm.MethodName)) ∈ lw_all := lw_g (lw_at lw_m1 67 rfl) rfl
theorem q153 : (Jvm.Cond.classLink "BenchBroker$Register" (7 : Nat) "java/util/ArrayList") ∈ lw_all := lw_g (lw_at lw_m1 68 rfl) rfl
theorem q155 : (Jvm.Cond.methodLink "BenchBroker$Register" (9 : Nat) ({ cls := "java/util/ArrayList", name := "<init>", desc := "()V" } : Jvm.MethodName)) ∈ lw_all := lw_g (lw_at lw_m1 70 rfl) rfl
theorem q182 : (Jvm.Cond.fieldLink "BenchBroker$Register" (10 : Nat) "BenchBroker$Register" "items" "Ljava/util/ArrayList;") ∈ lw_all := lw_g (lw_at lw_m1 97 rfl) rfl
theorem q183 : (Jvm.Cond.laysFinal "BenchBroker$Register" "BenchBroker$Register" "items" "Ljava/util/ArrayList;") ∈ lw_all := lw_g (lw_at lw_m1 98 rfl) rfl
theorem q184 : (Jvm.Cond.soleField "BenchBroker$Register" "items") ∈ lw_all := lw_g (lw_at lw_m1 99 rfl) rfl
theorem q185 : (Jvm.Cond.superclass "BenchBroker$Register" "java/lang/Object") ∈ lw_all := lw_g (lw_at lw_m1 100 rfl) rfl
theorem q294 : (Jvm.Cond.instanceMethod ({ cls := "BenchBroker$Register", name := "size", desc := "()I" } : Jvm.MethodName)) ∈ lw_all := lw_g (lw_at lw_m1 209 rfl) rfl
theorem q295 : (Jvm.Cond.selects "BenchBroker$Register" ({ cls := "BenchBroker$Register", name := "size", desc := "()I" } : Jvm.MethodName) ({ cls := "BenchBroker$Register", name := "size", desc := "()I" } : Jvm.MethodName)) ∈ lw_all := lw_g (lw_at lw_m1 210 rfl) rfl
theorem q296 : (Jvm.Cond.code ({ cls := "BenchBroker$Register", name := "size", desc := "()I" } : Jvm.MethodName) prog_14_method_4_code (1 : Nat) (Option.some Jvm.ClassFile.FieldType.int)) ∈ lw_all := lw_g (lw_at lw_m1 211 rfl) rfl
theorem q297 : (Jvm.Cond.methodLink "BenchBroker$Register" (26 : Nat) ({ cls := "java/util/ArrayList", name := "size", desc := "()I" } : Jvm.MethodName)) ∈ lw_all := lw_g (lw_at lw_m1 212 rfl) rfl
theorem q363 : (Jvm.Cond.instanceMethod ({ cls := "BenchBroker$Register", name := "sum", desc := "(LBenchBroker$Value;)I" } : Jvm.MethodName)) ∈ lw_all := lw_g (lw_at lw_m2 38 rfl) rfl
theorem q364 : (Jvm.Cond.selects "BenchBroker$Register" ({ cls := "BenchBroker$Register", name := "sum", desc := "(LBenchBroker$Value;)I" } : Jvm.MethodName) ({ cls := "BenchBroker$Register", name := "sum", desc := "(LBenchBroker$Value;)I" } : Jvm.MethodName)) ∈ lw_all := lw_g (lw_at lw_m2 39 rfl) rfl
theorem q365 : (Jvm.Cond.code ({ cls := "BenchBroker$Register", name := "sum", desc := "(LBenchBroker$Value;)I" } : Jvm.MethodName) prog_14_method_6_code (4 : Nat) (Option.some Jvm.ClassFile.FieldType.int)) ∈ lw_all := lw_g (lw_at lw_m2 40 rfl) rfl
theorem q366 : (Jvm.Cond.methodLink "BenchBroker$Register" (20 : Nat) ({ cls := "java/util/ArrayList", name := "get", desc := "(I)Ljava/lang/Object;" } : Jvm.MethodName)) ∈ lw_all := lw_g (lw_at lw_m2 41 rfl) rfl
theorem q380 : (Jvm.Cond.classLink "BenchBroker$Register" (24 : Nat) "BenchBroker$Item") ∈ lw_all := lw_g (lw_at lw_m2 55 rfl) rfl
theorem q381 : (Jvm.Cond.interfaceEntry "BenchBroker$Register" (36 : Nat)) ∈ lw_tbl := lw_at lw_m2 56 rfl
theorem q382 : (Jvm.Cond.methodLink "BenchBroker$Register" (36 : Nat) ({ cls := "BenchBroker$Value", name := "of", desc := "(LBenchBroker$Item;)I" } : Jvm.MethodName)) ∈ lw_all := lw_g (lw_at lw_m2 57 rfl) rfl
theorem q474 : (Jvm.Cond.instanceMethod ({ cls := "BenchBroker$Register", name := "get", desc := "(I)LBenchBroker$Item;" } : Jvm.MethodName)) ∈ lw_all := lw_g (lw_at lw_m2 149 rfl) rfl
theorem q475 : (Jvm.Cond.selects "BenchBroker$Register" ({ cls := "BenchBroker$Register", name := "get", desc := "(I)LBenchBroker$Item;" } : Jvm.MethodName) ({ cls := "BenchBroker$Register", name := "get", desc := "(I)LBenchBroker$Item;" } : Jvm.MethodName)) ∈ lw_all := lw_g (lw_at lw_m2 150 rfl) rfl
theorem q476 : (Jvm.Cond.code ({ cls := "BenchBroker$Register", name := "get", desc := "(I)LBenchBroker$Item;" } : Jvm.MethodName) prog_14_method_3_code (2 : Nat) (Option.some (Jvm.ClassFile.FieldType.object "BenchBroker$Item"))) ∈ lw_all := lw_g (lw_at lw_m2 151 rfl) rfl
theorem q615 : (Jvm.Cond.selects "BenchBroker$Register" ({ cls := "java/lang/Object", name := "getClass", desc := "()Ljava/lang/Class;" } : Jvm.MethodName) ({ cls := "java/lang/Object", name := "getClass", desc := "()Ljava/lang/Class;" } : Jvm.MethodName)) ∈ lw_all := lw_g (lw_at lw_m3 50 rfl) rfl
theorem q764 : (Jvm.Cond.instanceMethod ({ cls := "BenchBroker$Register", name := "add", desc := "(LBenchBroker$Item;)V" } : Jvm.MethodName)) ∈ lw_all := lw_g (lw_at lw_m3 199 rfl) rfl
theorem q765 : (Jvm.Cond.selects "BenchBroker$Register" ({ cls := "BenchBroker$Register", name := "add", desc := "(LBenchBroker$Item;)V" } : Jvm.MethodName) ({ cls := "BenchBroker$Register", name := "add", desc := "(LBenchBroker$Item;)V" } : Jvm.MethodName)) ∈ lw_all := lw_g (lw_at lw_m3 200 rfl) rfl
theorem q766 : (Jvm.Cond.code ({ cls := "BenchBroker$Register", name := "add", desc := "(LBenchBroker$Item;)V" } : Jvm.MethodName) prog_14_method_2_code (2 : Nat) (Option.none : Option Jvm.ClassFile.FieldType)) ∈ lw_all := lw_g (lw_at lw_m3 201 rfl) rfl
theorem q767 : (Jvm.Cond.methodLink "BenchBroker$Register" (16 : Nat) ({ cls := "java/util/ArrayList", name := "add", desc := "(Ljava/lang/Object;)Z" } : Jvm.MethodName)) ∈ lw_all := lw_g (lw_at lw_m3 202 rfl) rfl
theorem q1193 : (Jvm.Cond.instanceMethod ({ cls := "BenchBroker$Register", name := "has", desc := "(I)Z" } : Jvm.MethodName)) ∈ lw_all := lw_g (lw_at lw_m5 148 rfl) rfl
theorem q1194 : (Jvm.Cond.selects "BenchBroker$Register" ({ cls := "BenchBroker$Register", name := "has", desc := "(I)Z" } : Jvm.MethodName) ({ cls := "BenchBroker$Register", name := "has", desc := "(I)Z" } : Jvm.MethodName)) ∈ lw_all := lw_g (lw_at lw_m5 149 rfl) rfl
theorem q1195 : (Jvm.Cond.code ({ cls := "BenchBroker$Register", name := "has", desc := "(I)Z" } : Jvm.MethodName) prog_14_method_5_code (2 : Nat) (Option.some Jvm.ClassFile.FieldType.boolean)) ∈ lw_all := lw_g (lw_at lw_m5 150 rfl) rfl
theorem q1196 : (Jvm.Cond.methodLinkNest "BenchBroker$Register" (30 : Nat) ({ cls := "BenchBroker", name := "isBetween", desc := "(III)Z" } : Jvm.MethodName) "BenchBroker") ∈ lw_tbl := lw_at lw_m5 151 rfl
theorem q2767 : (Jvm.Cond.castable "BenchBroker$Register" "java/lang/Object") ∈ lw_tbl := lw_at lw_m12 42 rfl
theorem in_X3 : ∀ w ∈ wsX30, w ∈ lw_all := lw_in wsX30 [183] (by decide +kernel) (by decide +kernel)
/-! BenchBroker$Action -/
set_option maxRecDepth 100000
def RX5 : String := "BenchBroker$Action"
abbrev cX5_init : ByteArray := prog_2_method_1_code
def yX5_init : MethodName := ⟨RX5, "<init>", "(III)V"⟩
def dkwX5_init_0 : List UInt8 := [42, 183, 0, 1, 42, 27, 181, 0, 7, 42, 28, 181, 0, 13, 42, 29, 181, 0, 16, 177]
abbrev dktX5_init_0 : List UInt8 := dkwX5_init_0 ++ []
theorem dksX5_init_0 : cX5_init.data.toList.drop 0 = dktX5_init_0 := by decide +kernel
theorem dX5_init_0 : decode cX5_init 0 = .ok (.aload_n 0, 1) := dk_42 (dk_at dksX5_init_0 0 rfl rfl)
theorem dX5_init_1 : decode cX5_init 1 = .ok (.invokespecial 1, 3) := dk_183 0 1 (dk_at dksX5_init_0 1 rfl rfl)
theorem dX5_init_4 : decode cX5_init 4 = .ok (.aload_n 0, 1) := dk_42 (dk_at dksX5_init_0 4 rfl rfl)
theorem dX5_init_5 : decode cX5_init 5 = .ok (.iload_n 1, 1) := dk_27 (dk_at dksX5_init_0 5 rfl rfl)
theorem dX5_init_6 : decode cX5_init 6 = .ok (.putfield 7, 3) := dk_181 0 7 (dk_at dksX5_init_0 6 rfl rfl)
theorem dX5_init_9 : decode cX5_init 9 = .ok (.aload_n 0, 1) := dk_42 (dk_at dksX5_init_0 9 rfl rfl)
theorem dX5_init_10 : decode cX5_init 10 = .ok (.iload_n 2, 1) := dk_28 (dk_at dksX5_init_0 10 rfl rfl)
theorem dX5_init_11 : decode cX5_init 11 = .ok (.putfield 13, 3) := dk_181 0 13 (dk_at dksX5_init_0 11 rfl rfl)
theorem dX5_init_14 : decode cX5_init 14 = .ok (.aload_n 0, 1) := dk_42 (dk_at dksX5_init_0 14 rfl rfl)
theorem dX5_init_15 : decode cX5_init 15 = .ok (.iload_n 3, 1) := dk_29 (dk_at dksX5_init_0 15 rfl rfl)
theorem dX5_init_16 : decode cX5_init 16 = .ok (.putfield 16, 3) := dk_181 0 16 (dk_at dksX5_init_0 16 rfl rfl)
theorem dX5_init_19 : decode cX5_init 19 = .ok (.return_, 1) := dk_177 (dk_at dksX5_init_0 19 rfl rfl)
abbrev cX5_first : ByteArray := prog_2_method_2_code
def yX5_first : MethodName := ⟨RX5, "first", "()I"⟩
theorem dX5_first_0 : decode cX5_first 0 = .ok (.aload_n 0, 1) := by decide +kernel
theorem dX5_first_1 : decode cX5_first 1 = .ok (.getfield 7, 3) := by decide +kernel
theorem dX5_first_4 : decode cX5_first 4 = .ok (.ireturn, 1) := by decide +kernel
abbrev cX5_second : ByteArray := prog_2_method_3_code
def yX5_second : MethodName := ⟨RX5, "second", "()I"⟩
theorem dX5_second_0 : decode cX5_second 0 = .ok (.aload_n 0, 1) := by decide +kernel
theorem dX5_second_1 : decode cX5_second 1 = .ok (.getfield 13, 3) := by decide +kernel
theorem dX5_second_4 : decode cX5_second 4 = .ok (.ireturn, 1) := by decide +kernel
abbrev cX5_third : ByteArray := prog_2_method_4_code
def yX5_third : MethodName := ⟨RX5, "third", "()I"⟩
theorem dX5_third_0 : decode cX5_third 0 = .ok (.aload_n 0, 1) := by decide +kernel
theorem dX5_third_1 : decode cX5_third 1 = .ok (.getfield 16, 3) := by decide +kernel
theorem dX5_third_4 : decode cX5_third 4 = .ok (.ireturn, 1) := by decide +kernel
abbrev cX5_checkedRun : ByteArray := prog_2_method_7_code
def yX5_checkedRun : MethodName := ⟨RX5, "checkedRun", "(LBenchBroker$Park;)I"⟩
def dkwX5_checkedRun_0 : List UInt8 := [42, 43, 182, 0, 19, 154, 0, 11, 187, 0, 23, 89, 183, 0, 25, 191, 42, 43, 182, 0, 26, 172]
abbrev dktX5_checkedRun_0 : List UInt8 := dkwX5_checkedRun_0 ++ []
theorem dksX5_checkedRun_0 : cX5_checkedRun.data.toList.drop 0 = dktX5_checkedRun_0 := by decide +kernel
theorem dX5_checkedRun_0 : decode cX5_checkedRun 0 = .ok (.aload_n 0, 1) := dk_42 (dk_at dksX5_checkedRun_0 0 rfl rfl)
theorem dX5_checkedRun_1 : decode cX5_checkedRun 1 = .ok (.aload_n 1, 1) := dk_43 (dk_at dksX5_checkedRun_0 1 rfl rfl)
theorem dX5_checkedRun_2 : decode cX5_checkedRun 2 = .ok (.invokevirtual 19, 3) := dk_182 0 19 (dk_at dksX5_checkedRun_0 2 rfl rfl)
theorem dX5_checkedRun_5 : decode cX5_checkedRun 5 = .ok (.ifCond .ne 11, 3) := dk_154 0 11 (dk_at dksX5_checkedRun_0 5 rfl rfl)
theorem dX5_checkedRun_8 : decode cX5_checkedRun 8 = .ok (.new 23, 3) := dk_187 0 23 (dk_at dksX5_checkedRun_0 8 rfl rfl)
theorem dX5_checkedRun_11 : decode cX5_checkedRun 11 = .ok (.dup, 1) := dk_89 (dk_at dksX5_checkedRun_0 11 rfl rfl)
theorem dX5_checkedRun_12 : decode cX5_checkedRun 12 = .ok (.invokespecial 25, 3) := dk_183 0 25 (dk_at dksX5_checkedRun_0 12 rfl rfl)
theorem dX5_checkedRun_15 : decode cX5_checkedRun 15 = .ok (.athrow, 1) := dk_191 (dk_at dksX5_checkedRun_0 15 rfl rfl)
theorem dX5_checkedRun_16 : decode cX5_checkedRun 16 = .ok (.aload_n 0, 1) := dk_42 (dk_at dksX5_checkedRun_0 16 rfl rfl)
theorem dX5_checkedRun_17 : decode cX5_checkedRun 17 = .ok (.aload_n 1, 1) := dk_43 (dk_at dksX5_checkedRun_0 17 rfl rfl)
theorem dX5_checkedRun_18 : decode cX5_checkedRun 18 = .ok (.invokevirtual 26, 3) := dk_182 0 26 (dk_at dksX5_checkedRun_0 18 rfl rfl)
theorem dX5_checkedRun_21 : decode cX5_checkedRun 21 = .ok (.ireturn, 1) := dk_172 (dk_at dksX5_checkedRun_0 21 rfl rfl)
theorem q103 : (Jvm.Cond.initialized "BenchBroker$Action") ∈ lw_all := lw_g (lw_at lw_m1 18 rfl) rfl
theorem q984 : (Jvm.Cond.instanceMethod ({ cls := "BenchBroker$Action", name := "<init>", desc := "(III)V" } : Jvm.MethodName)) ∈ lw_all := lw_g (lw_at lw_m4 179 rfl) rfl
theorem q985 : (Jvm.Cond.code ({ cls := "BenchBroker$Action", name := "<init>", desc := "(III)V" } : Jvm.MethodName) prog_2_method_1_code (4 : Nat) (Option.none : Option Jvm.ClassFile.FieldType)) ∈ lw_all := lw_g (lw_at lw_m4 180 rfl) rfl
theorem q986 : (Jvm.Cond.methodLink "BenchBroker$Action" (1 : Nat) ({ cls := "java/lang/Object", name := "<init>", desc := "()V" } : Jvm.MethodName)) ∈ lw_all := lw_g (lw_at lw_m4 181 rfl) rfl
theorem q988 : (Jvm.Cond.fieldLink "BenchBroker$Action" (7 : Nat) "BenchBroker$Action" "first" "I") ∈ lw_all := lw_g (lw_at lw_m4 183 rfl) rfl
theorem q989 : (Jvm.Cond.fieldLink "BenchBroker$Action" (13 : Nat) "BenchBroker$Action" "second" "I") ∈ lw_all := lw_g (lw_at lw_m4 184 rfl) rfl
theorem q990 : (Jvm.Cond.fieldLink "BenchBroker$Action" (16 : Nat) "BenchBroker$Action" "third" "I") ∈ lw_all := lw_g (lw_at lw_m4 185 rfl) rfl
theorem q994 : (Jvm.Cond.soleField "BenchBroker$Action" "first") ∈ lw_all := lw_g (lw_at lw_m4 189 rfl) rfl
theorem q996 : (Jvm.Cond.soleField "BenchBroker$Action" "second") ∈ lw_all := lw_g (lw_at lw_m4 191 rfl) rfl
theorem q998 : (Jvm.Cond.soleField "BenchBroker$Action" "third") ∈ lw_all := lw_g (lw_at lw_m4 193 rfl) rfl
theorem q1006 : (Jvm.Cond.declares ({ cls := "BenchBroker$Action", name := "run", desc := "(LBenchBroker$Park;)I" } : Jvm.MethodName)) ∈ lw_tbl := lw_at lw_m4 201 rfl
theorem q1007 : (Jvm.Cond.sameMethod "BenchBroker$Action" "BenchBroker$Action" "run" "(LBenchBroker$Park;)I") ∈ lw_all := lw_g (lw_at lw_m4 202 rfl) rfl
theorem q1013 : (Jvm.Cond.declares ({ cls := "BenchBroker$Action", name := "first", desc := "()I" } : Jvm.MethodName)) ∈ lw_tbl := lw_at lw_m4 208 rfl
theorem q1015 : (Jvm.Cond.instanceMethod ({ cls := "BenchBroker$Action", name := "first", desc := "()I" } : Jvm.MethodName)) ∈ lw_all := lw_g (lw_at lw_m4 210 rfl) rfl
theorem q1016 : (Jvm.Cond.code ({ cls := "BenchBroker$Action", name := "first", desc := "()I" } : Jvm.MethodName) prog_2_method_2_code (1 : Nat) (Option.some Jvm.ClassFile.FieldType.int)) ∈ lw_all := lw_g (lw_at lw_m4 211 rfl) rfl
theorem q1019 : (Jvm.Cond.declares ({ cls := "BenchBroker$Action", name := "second", desc := "()I" } : Jvm.MethodName)) ∈ lw_tbl := lw_at lw_m4 214 rfl
theorem q1021 : (Jvm.Cond.instanceMethod ({ cls := "BenchBroker$Action", name := "second", desc := "()I" } : Jvm.MethodName)) ∈ lw_all := lw_g (lw_at lw_m4 216 rfl) rfl
theorem q1022 : (Jvm.Cond.code ({ cls := "BenchBroker$Action", name := "second", desc := "()I" } : Jvm.MethodName) prog_2_method_3_code (1 : Nat) (Option.some Jvm.ClassFile.FieldType.int)) ∈ lw_all := lw_g (lw_at lw_m4 217 rfl) rfl
theorem q1025 : (Jvm.Cond.declares ({ cls := "BenchBroker$Action", name := "third", desc := "()I" } : Jvm.MethodName)) ∈ lw_tbl := lw_at lw_m4 220 rfl
theorem q1027 : (Jvm.Cond.instanceMethod ({ cls := "BenchBroker$Action", name := "third", desc := "()I" } : Jvm.MethodName)) ∈ lw_all := lw_g (lw_at lw_m4 222 rfl) rfl
theorem q1028 : (Jvm.Cond.code ({ cls := "BenchBroker$Action", name := "third", desc := "()I" } : Jvm.MethodName) prog_2_method_4_code (1 : Nat) (Option.some Jvm.ClassFile.FieldType.int)) ∈ lw_all := lw_g (lw_at lw_m4 223 rfl) rfl
theorem q2094 : (Jvm.Cond.instanceMethod ({ cls := "BenchBroker$Action", name := "checkedRun", desc := "(LBenchBroker$Park;)I" } : Jvm.MethodName)) ∈ lw_all := lw_g (lw_at lw_m9 89 rfl) rfl
theorem q2095 : (Jvm.Cond.sameMethod "BenchBroker$Action" "BenchBroker$Action" "checkedRun" "(LBenchBroker$Park;)I") ∈ lw_all := lw_g (lw_at lw_m9 90 rfl) rfl
theorem q2099 : (Jvm.Cond.code ({ cls := "BenchBroker$Action", name := "checkedRun", desc := "(LBenchBroker$Park;)I" } : Jvm.MethodName) prog_2_method_7_code (2 : Nat) (Option.some Jvm.ClassFile.FieldType.int)) ∈ lw_all := lw_g (lw_at lw_m9 94 rfl) rfl
theorem q2100 : (Jvm.Cond.methodLink "BenchBroker$Action" (19 : Nat) ({ cls := "BenchBroker$Action", name := "isAccepted", desc := "(LBenchBroker$Park;)Z" } : Jvm.MethodName)) ∈ lw_all := lw_g (lw_at lw_m9 95 rfl) rfl
theorem q2101 : (Jvm.Cond.declares ({ cls := "BenchBroker$Action", name := "isAccepted", desc := "(LBenchBroker$Park;)Z" } : Jvm.MethodName)) ∈ lw_tbl := lw_at lw_m9 96 rfl
theorem q2102 : (Jvm.Cond.sameMethod "BenchBroker$Action" "BenchBroker$Action" "isAccepted" "(LBenchBroker$Park;)Z") ∈ lw_all := lw_g (lw_at lw_m9 97 rfl) rfl
theorem q2122 : (Jvm.Cond.classLink "BenchBroker$Action" (23 : Nat) "BenchBroker$BadCommand") ∈ lw_all := lw_g (lw_at lw_m9 117 rfl) rfl
theorem q2131 : (Jvm.Cond.methodLink "BenchBroker$Action" (25 : Nat) ({ cls := "BenchBroker$BadCommand", name := "<init>", desc := "()V" } : Jvm.MethodName)) ∈ lw_all := lw_g (lw_at lw_m9 126 rfl) rfl
theorem q2137 : (Jvm.Cond.methodLink "BenchBroker$Action" (26 : Nat) ({ cls := "BenchBroker$Action", name := "run", desc := "(LBenchBroker$Park;)I" } : Jvm.MethodName)) ∈ lw_all := lw_g (lw_at lw_m9 132 rfl) rfl
/-! BenchBroker$Addition -/
set_option maxRecDepth 100000
def RX6 : String := "BenchBroker$Addition"
def TX6 : u_T := fun k => match k with
  | 0 => ("BenchBroker$Action", "first", "I", true)
  | 1 => ("BenchBroker$Action", "second", "I", true)
  | 2 => ("BenchBroker$Action", "third", "I", true)
  | _ => ("BenchBroker$Addition", "kind", "C", true)
def tyX6 : Nat → FieldType := fun k => match k with
  | 0 => .int
  | 1 => .int
  | 2 => .int
  | _ => .char
abbrev wsX60 : List Cond := u_ws RX6 TX6 4
theorem nmX6 : ∀ a, a < 4 → ∀ b, b < 4 → a ≠ b → (TX6 a).2.1 ≠ (TX6 b).2.1 := by decide +kernel
theorem tyX6_ok : ∀ k, k < 4 → parseFieldDescriptor (TX6 k).2.2.1 = some (tyX6 k) := by decide +kernel
abbrev cX6_init : ByteArray := prog_3_method_1_code
def yX6_init : MethodName := ⟨RX6, "<init>", "(CIII)V"⟩
def dkwX6_init_0 : List UInt8 := [42, 28, 29, 21, 4, 183, 0, 1, 42, 27, 181, 0, 7, 177]
abbrev dktX6_init_0 : List UInt8 := dkwX6_init_0 ++ []
theorem dksX6_init_0 : cX6_init.data.toList.drop 0 = dktX6_init_0 := by decide +kernel
theorem dX6_init_0 : decode cX6_init 0 = .ok (.aload_n 0, 1) := dk_42 (dk_at dksX6_init_0 0 rfl rfl)
theorem dX6_init_1 : decode cX6_init 1 = .ok (.iload_n 2, 1) := dk_28 (dk_at dksX6_init_0 1 rfl rfl)
theorem dX6_init_2 : decode cX6_init 2 = .ok (.iload_n 3, 1) := dk_29 (dk_at dksX6_init_0 2 rfl rfl)
theorem dX6_init_3 : decode cX6_init 3 = .ok (.iload 4, 2) := dk_21 4 (dk_at dksX6_init_0 3 rfl rfl)
theorem dX6_init_5 : decode cX6_init 5 = .ok (.invokespecial 1, 3) := dk_183 0 1 (dk_at dksX6_init_0 5 rfl rfl)
theorem dX6_init_8 : decode cX6_init 8 = .ok (.aload_n 0, 1) := dk_42 (dk_at dksX6_init_0 8 rfl rfl)
theorem dX6_init_9 : decode cX6_init 9 = .ok (.iload_n 1, 1) := dk_27 (dk_at dksX6_init_0 9 rfl rfl)
theorem dX6_init_10 : decode cX6_init 10 = .ok (.putfield 7, 3) := dk_181 0 7 (dk_at dksX6_init_0 10 rfl rfl)
theorem dX6_init_13 : decode cX6_init 13 = .ok (.return_, 1) := dk_177 (dk_at dksX6_init_0 13 rfl rfl)
abbrev cX6_run : ByteArray := prog_3_method_3_code
def yX6_run : MethodName := ⟨RX6, "run", "(LBenchBroker$Park;)I"⟩
def dkwX6_run_3 : List UInt8 := [42, 182, 0, 17, 42, 182, 0, 26, 182, 0, 45, 167, 0, 11, 43, 42, 182, 0, 26, 182, 0, 48, 172]
abbrev dktX6_run_3 : List UInt8 := dkwX6_run_3 ++ []
def dkwX6_run_2 : List UInt8 := [43, 42, 182, 0, 13, 42, 182, 0, 17, 42, 182, 0, 26, 182, 0, 39, 167, 0, 30, 43, 42, 182, 0, 13]
abbrev dktX6_run_2 : List UInt8 := dkwX6_run_2 ++ dktX6_run_3
def dkwX6_run_1 : List UInt8 := [171, 0, 0, 0, 0, 0, 0, 66, 0, 0, 0, 2, 0, 0, 0, 98, 0, 0, 0, 28, 0, 0, 0, 102, 0, 0, 0, 47]
abbrev dktX6_run_1 : List UInt8 := dkwX6_run_1 ++ dktX6_run_2
def dkwX6_run_0 : List UInt8 := [42, 180, 0, 7]
abbrev dktX6_run_0 : List UInt8 := dkwX6_run_0 ++ dktX6_run_1
theorem dksX6_run_0 : cX6_run.data.toList.drop 0 = dktX6_run_0 := by decide +kernel
theorem dksX6_run_1 : cX6_run.data.toList.drop 4 = dktX6_run_1 := dk_seg dksX6_run_0 4 rfl rfl
theorem dksX6_run_2 : cX6_run.data.toList.drop 32 = dktX6_run_2 := dk_seg dksX6_run_1 28 rfl rfl
theorem dksX6_run_3 : cX6_run.data.toList.drop 56 = dktX6_run_3 := dk_seg dksX6_run_2 24 rfl rfl
theorem dX6_run_0 : decode cX6_run 0 = .ok (.aload_n 0, 1) := dk_42 (dk_at dksX6_run_0 0 rfl rfl)
theorem dX6_run_1 : decode cX6_run 1 = .ok (.getfield 7, 3) := dk_180 0 7 (dk_at dksX6_run_0 1 rfl rfl)
theorem dX6_run_4 : decode cX6_run 4 = .ok (.lookupswitch 66 #[(98, 28), (102, 47)], 28) := by decide +kernel
theorem dX6_run_32 : decode cX6_run 32 = .ok (.aload_n 1, 1) := dk_43 (dk_at dksX6_run_2 0 rfl rfl)
theorem dX6_run_33 : decode cX6_run 33 = .ok (.aload_n 0, 1) := dk_42 (dk_at dksX6_run_2 1 rfl rfl)
theorem dX6_run_34 : decode cX6_run 34 = .ok (.invokevirtual 13, 3) := dk_182 0 13 (dk_at dksX6_run_2 2 rfl rfl)
theorem dX6_run_37 : decode cX6_run 37 = .ok (.aload_n 0, 1) := dk_42 (dk_at dksX6_run_2 5 rfl rfl)
theorem dX6_run_38 : decode cX6_run 38 = .ok (.invokevirtual 17, 3) := dk_182 0 17 (dk_at dksX6_run_2 6 rfl rfl)
theorem dX6_run_41 : decode cX6_run 41 = .ok (.aload_n 0, 1) := dk_42 (dk_at dksX6_run_2 9 rfl rfl)
theorem dX6_run_42 : decode cX6_run 42 = .ok (.invokevirtual 26, 3) := dk_182 0 26 (dk_at dksX6_run_2 10 rfl rfl)
theorem dX6_run_45 : decode cX6_run 45 = .ok (.invokevirtual 39, 3) := dk_182 0 39 (dk_at dksX6_run_2 13 rfl rfl)
theorem dX6_run_48 : decode cX6_run 48 = .ok (.goto 30, 3) := dk_167 0 30 (dk_at dksX6_run_2 16 rfl rfl)
theorem dX6_run_51 : decode cX6_run 51 = .ok (.aload_n 1, 1) := dk_43 (dk_at dksX6_run_2 19 rfl rfl)
theorem dX6_run_52 : decode cX6_run 52 = .ok (.aload_n 0, 1) := dk_42 (dk_at dksX6_run_2 20 rfl rfl)
theorem dX6_run_53 : decode cX6_run 53 = .ok (.invokevirtual 13, 3) := dk_182 0 13 (dk_at dksX6_run_2 21 rfl rfl)
theorem dX6_run_56 : decode cX6_run 56 = .ok (.aload_n 0, 1) := dk_42 (dk_at dksX6_run_3 0 rfl rfl)
theorem dX6_run_57 : decode cX6_run 57 = .ok (.invokevirtual 17, 3) := dk_182 0 17 (dk_at dksX6_run_3 1 rfl rfl)
theorem dX6_run_60 : decode cX6_run 60 = .ok (.aload_n 0, 1) := dk_42 (dk_at dksX6_run_3 4 rfl rfl)
theorem dX6_run_61 : decode cX6_run 61 = .ok (.invokevirtual 26, 3) := dk_182 0 26 (dk_at dksX6_run_3 5 rfl rfl)
theorem dX6_run_64 : decode cX6_run 64 = .ok (.invokevirtual 45, 3) := dk_182 0 45 (dk_at dksX6_run_3 8 rfl rfl)
theorem dX6_run_67 : decode cX6_run 67 = .ok (.goto 11, 3) := dk_167 0 11 (dk_at dksX6_run_3 11 rfl rfl)
theorem dX6_run_70 : decode cX6_run 70 = .ok (.aload_n 1, 1) := dk_43 (dk_at dksX6_run_3 14 rfl rfl)
theorem dX6_run_71 : decode cX6_run 71 = .ok (.aload_n 0, 1) := dk_42 (dk_at dksX6_run_3 15 rfl rfl)
theorem dX6_run_72 : decode cX6_run 72 = .ok (.invokevirtual 26, 3) := dk_182 0 26 (dk_at dksX6_run_3 16 rfl rfl)
theorem dX6_run_75 : decode cX6_run 75 = .ok (.invokevirtual 48, 3) := dk_182 0 48 (dk_at dksX6_run_3 19 rfl rfl)
theorem dX6_run_78 : decode cX6_run 78 = .ok (.ireturn, 1) := dk_172 (dk_at dksX6_run_3 22 rfl rfl)
abbrev cX6_isAccepted : ByteArray := prog_3_method_2_code
def yX6_isAccepted : MethodName := ⟨RX6, "isAccepted", "(LBenchBroker$Park;)Z"⟩
def dkwX6_isAccepted_5 : List UInt8 := [172]
abbrev dktX6_isAccepted_5 : List UInt8 := dkwX6_isAccepted_5 ++ []
def dkwX6_isAccepted_4 : List UInt8 := [182, 0, 26, 184, 0, 33, 153, 0, 7, 4, 167, 0, 14, 3, 167, 0, 10, 42, 182, 0, 26, 184, 0, 36]
abbrev dktX6_isAccepted_4 : List UInt8 := dkwX6_isAccepted_4 ++ dktX6_isAccepted_5
def dkwX6_isAccepted_3 : List UInt8 := [4, 167, 0, 46, 3, 167, 0, 42, 42, 182, 0, 13, 42, 182, 0, 17, 184, 0, 20, 153, 0, 17, 42]
abbrev dktX6_isAccepted_3 : List UInt8 := dkwX6_isAccepted_3 ++ dktX6_isAccepted_4
def dkwX6_isAccepted_2 : List UInt8 := [42, 182, 0, 13, 42, 182, 0, 17, 184, 0, 20, 153, 0, 17, 42, 182, 0, 26, 184, 0, 29, 153, 0, 7]
abbrev dktX6_isAccepted_2 : List UInt8 := dkwX6_isAccepted_2 ++ dktX6_isAccepted_3
def dkwX6_isAccepted_1 : List UInt8 := [171, 0, 0, 0, 0, 0, 0, 92, 0, 0, 0, 2, 0, 0, 0, 98, 0, 0, 0, 28, 0, 0, 0, 102, 0, 0, 0, 60]
abbrev dktX6_isAccepted_1 : List UInt8 := dkwX6_isAccepted_1 ++ dktX6_isAccepted_2
def dkwX6_isAccepted_0 : List UInt8 := [42, 180, 0, 7]
abbrev dktX6_isAccepted_0 : List UInt8 := dkwX6_isAccepted_0 ++ dktX6_isAccepted_1
theorem dksX6_isAccepted_0 : cX6_isAccepted.data.toList.drop 0 = dktX6_isAccepted_0 := by decide +kernel
theorem dksX6_isAccepted_1 : cX6_isAccepted.data.toList.drop 4 = dktX6_isAccepted_1 := dk_seg dksX6_isAccepted_0 4 rfl rfl
theorem dksX6_isAccepted_2 : cX6_isAccepted.data.toList.drop 32 = dktX6_isAccepted_2 := dk_seg dksX6_isAccepted_1 28 rfl rfl
theorem dksX6_isAccepted_3 : cX6_isAccepted.data.toList.drop 56 = dktX6_isAccepted_3 := dk_seg dksX6_isAccepted_2 24 rfl rfl
theorem dksX6_isAccepted_4 : cX6_isAccepted.data.toList.drop 79 = dktX6_isAccepted_4 := dk_seg dksX6_isAccepted_3 23 rfl rfl
theorem dksX6_isAccepted_5 : cX6_isAccepted.data.toList.drop 103 = dktX6_isAccepted_5 := dk_seg dksX6_isAccepted_4 24 rfl rfl
theorem dX6_isAccepted_0 : decode cX6_isAccepted 0 = .ok (.aload_n 0, 1) := dk_42 (dk_at dksX6_isAccepted_0 0 rfl rfl)
theorem dX6_isAccepted_1 : decode cX6_isAccepted 1 = .ok (.getfield 7, 3) := dk_180 0 7 (dk_at dksX6_isAccepted_0 1 rfl rfl)
theorem dX6_isAccepted_4 : decode cX6_isAccepted 4 = .ok (.lookupswitch 92 #[(98, 28), (102, 60)], 28) := by decide +kernel
theorem dX6_isAccepted_32 : decode cX6_isAccepted 32 = .ok (.aload_n 0, 1) := dk_42 (dk_at dksX6_isAccepted_2 0 rfl rfl)
theorem dX6_isAccepted_33 : decode cX6_isAccepted 33 = .ok (.invokevirtual 13, 3) := dk_182 0 13 (dk_at dksX6_isAccepted_2 1 rfl rfl)
theorem dX6_isAccepted_36 : decode cX6_isAccepted 36 = .ok (.aload_n 0, 1) := dk_42 (dk_at dksX6_isAccepted_2 4 rfl rfl)
theorem dX6_isAccepted_37 : decode cX6_isAccepted 37 = .ok (.invokevirtual 17, 3) := dk_182 0 17 (dk_at dksX6_isAccepted_2 5 rfl rfl)
theorem dX6_isAccepted_40 : decode cX6_isAccepted 40 = .ok (.invokestatic 20, 3) := dk_184 0 20 (dk_at dksX6_isAccepted_2 8 rfl rfl)
theorem dX6_isAccepted_43 : decode cX6_isAccepted 43 = .ok (.ifCond .eq 17, 3) := dk_153 0 17 (dk_at dksX6_isAccepted_2 11 rfl rfl)
theorem dX6_isAccepted_46 : decode cX6_isAccepted 46 = .ok (.aload_n 0, 1) := dk_42 (dk_at dksX6_isAccepted_2 14 rfl rfl)
theorem dX6_isAccepted_47 : decode cX6_isAccepted 47 = .ok (.invokevirtual 26, 3) := dk_182 0 26 (dk_at dksX6_isAccepted_2 15 rfl rfl)
theorem dX6_isAccepted_50 : decode cX6_isAccepted 50 = .ok (.invokestatic 29, 3) := dk_184 0 29 (dk_at dksX6_isAccepted_2 18 rfl rfl)
theorem dX6_isAccepted_53 : decode cX6_isAccepted 53 = .ok (.ifCond .eq 7, 3) := dk_153 0 7 (dk_at dksX6_isAccepted_2 21 rfl rfl)
theorem dX6_isAccepted_56 : decode cX6_isAccepted 56 = .ok (.iconst 1, 1) := dk_4 (dk_at dksX6_isAccepted_3 0 rfl rfl)
theorem dX6_isAccepted_57 : decode cX6_isAccepted 57 = .ok (.goto 46, 3) := dk_167 0 46 (dk_at dksX6_isAccepted_3 1 rfl rfl)
theorem dX6_isAccepted_60 : decode cX6_isAccepted 60 = .ok (.iconst 0, 1) := dk_3 (dk_at dksX6_isAccepted_3 4 rfl rfl)
theorem dX6_isAccepted_61 : decode cX6_isAccepted 61 = .ok (.goto 42, 3) := dk_167 0 42 (dk_at dksX6_isAccepted_3 5 rfl rfl)
theorem dX6_isAccepted_64 : decode cX6_isAccepted 64 = .ok (.aload_n 0, 1) := dk_42 (dk_at dksX6_isAccepted_3 8 rfl rfl)
theorem dX6_isAccepted_65 : decode cX6_isAccepted 65 = .ok (.invokevirtual 13, 3) := dk_182 0 13 (dk_at dksX6_isAccepted_3 9 rfl rfl)
theorem dX6_isAccepted_68 : decode cX6_isAccepted 68 = .ok (.aload_n 0, 1) := dk_42 (dk_at dksX6_isAccepted_3 12 rfl rfl)
theorem dX6_isAccepted_69 : decode cX6_isAccepted 69 = .ok (.invokevirtual 17, 3) := dk_182 0 17 (dk_at dksX6_isAccepted_3 13 rfl rfl)
theorem dX6_isAccepted_72 : decode cX6_isAccepted 72 = .ok (.invokestatic 20, 3) := dk_184 0 20 (dk_at dksX6_isAccepted_3 16 rfl rfl)
theorem dX6_isAccepted_75 : decode cX6_isAccepted 75 = .ok (.ifCond .eq 17, 3) := dk_153 0 17 (dk_at dksX6_isAccepted_3 19 rfl rfl)
theorem dX6_isAccepted_78 : decode cX6_isAccepted 78 = .ok (.aload_n 0, 1) := dk_42 (dk_at dksX6_isAccepted_3 22 rfl rfl)
theorem dX6_isAccepted_79 : decode cX6_isAccepted 79 = .ok (.invokevirtual 26, 3) := dk_182 0 26 (dk_at dksX6_isAccepted_4 0 rfl rfl)
theorem dX6_isAccepted_82 : decode cX6_isAccepted 82 = .ok (.invokestatic 33, 3) := dk_184 0 33 (dk_at dksX6_isAccepted_4 3 rfl rfl)
theorem dX6_isAccepted_85 : decode cX6_isAccepted 85 = .ok (.ifCond .eq 7, 3) := dk_153 0 7 (dk_at dksX6_isAccepted_4 6 rfl rfl)
theorem dX6_isAccepted_88 : decode cX6_isAccepted 88 = .ok (.iconst 1, 1) := dk_4 (dk_at dksX6_isAccepted_4 9 rfl rfl)
theorem dX6_isAccepted_89 : decode cX6_isAccepted 89 = .ok (.goto 14, 3) := dk_167 0 14 (dk_at dksX6_isAccepted_4 10 rfl rfl)
theorem dX6_isAccepted_92 : decode cX6_isAccepted 92 = .ok (.iconst 0, 1) := dk_3 (dk_at dksX6_isAccepted_4 13 rfl rfl)
theorem dX6_isAccepted_93 : decode cX6_isAccepted 93 = .ok (.goto 10, 3) := dk_167 0 10 (dk_at dksX6_isAccepted_4 14 rfl rfl)
theorem dX6_isAccepted_96 : decode cX6_isAccepted 96 = .ok (.aload_n 0, 1) := dk_42 (dk_at dksX6_isAccepted_4 17 rfl rfl)
theorem dX6_isAccepted_97 : decode cX6_isAccepted 97 = .ok (.invokevirtual 26, 3) := dk_182 0 26 (dk_at dksX6_isAccepted_4 18 rfl rfl)
theorem dX6_isAccepted_100 : decode cX6_isAccepted 100 = .ok (.invokestatic 36, 3) := dk_184 0 36 (dk_at dksX6_isAccepted_4 21 rfl rfl)
theorem dX6_isAccepted_103 : decode cX6_isAccepted 103 = .ok (.ireturn, 1) := dk_172 (dk_at dksX6_isAccepted_5 0 rfl rfl)
theorem q104 : (Jvm.Cond.initialized "BenchBroker$Addition") ∈ lw_all := lw_g (lw_at lw_m1 19 rfl) rfl
theorem q607 : (Jvm.Cond.selects "BenchBroker$Addition" ({ cls := "java/lang/Object", name := "getClass", desc := "()Ljava/lang/Class;" } : Jvm.MethodName) ({ cls := "java/lang/Object", name := "getClass", desc := "()Ljava/lang/Class;" } : Jvm.MethodName)) ∈ lw_all := lw_g (lw_at lw_m3 42 rfl) rfl
theorem q979 : (Jvm.Cond.instantiable "BenchBroker$Addition" (4 : Nat)) ∈ lw_all := lw_g (lw_at lw_m4 174 rfl) rfl
theorem q981 : (Jvm.Cond.instanceMethod ({ cls := "BenchBroker$Addition", name := "<init>", desc := "(CIII)V" } : Jvm.MethodName)) ∈ lw_all := lw_g (lw_at lw_m4 176 rfl) rfl
theorem q982 : (Jvm.Cond.code ({ cls := "BenchBroker$Addition", name := "<init>", desc := "(CIII)V" } : Jvm.MethodName) prog_3_method_1_code (5 : Nat) (Option.none : Option Jvm.ClassFile.FieldType)) ∈ lw_all := lw_g (lw_at lw_m4 177 rfl) rfl
theorem q983 : (Jvm.Cond.methodLink "BenchBroker$Addition" (1 : Nat) ({ cls := "BenchBroker$Action", name := "<init>", desc := "(III)V" } : Jvm.MethodName)) ∈ lw_all := lw_g (lw_at lw_m4 178 rfl) rfl
theorem q987 : (Jvm.Cond.fieldLink "BenchBroker$Addition" (7 : Nat) "BenchBroker$Addition" "kind" "C") ∈ lw_all := lw_g (lw_at lw_m4 182 rfl) rfl
theorem q991 : (Jvm.Cond.laysFinal "BenchBroker$Addition" "BenchBroker$Addition" "kind" "C") ∈ lw_all := lw_g (lw_at lw_m4 186 rfl) rfl
theorem q992 : (Jvm.Cond.soleField "BenchBroker$Addition" "kind") ∈ lw_all := lw_g (lw_at lw_m4 187 rfl) rfl
theorem q993 : (Jvm.Cond.laysFinal "BenchBroker$Addition" "BenchBroker$Action" "first" "I") ∈ lw_all := lw_g (lw_at lw_m4 188 rfl) rfl
theorem q995 : (Jvm.Cond.laysFinal "BenchBroker$Addition" "BenchBroker$Action" "second" "I") ∈ lw_all := lw_g (lw_at lw_m4 190 rfl) rfl
theorem q997 : (Jvm.Cond.laysFinal "BenchBroker$Addition" "BenchBroker$Action" "third" "I") ∈ lw_all := lw_g (lw_at lw_m4 192 rfl) rfl
theorem q999 : (Jvm.Cond.superclass "BenchBroker$Addition" "BenchBroker$Action") ∈ lw_all := lw_g (lw_at lw_m4 194 rfl) rfl
theorem q1008 : (Jvm.Cond.selects "BenchBroker$Addition" ({ cls := "BenchBroker$Action", name := "run", desc := "(LBenchBroker$Park;)I" } : Jvm.MethodName) ({ cls := "BenchBroker$Addition", name := "run", desc := "(LBenchBroker$Park;)I" } : Jvm.MethodName)) ∈ lw_all := lw_g (lw_at lw_m4 203 rfl) rfl
theorem q1009 : (Jvm.Cond.instanceMethod ({ cls := "BenchBroker$Addition", name := "run", desc := "(LBenchBroker$Park;)I" } : Jvm.MethodName)) ∈ lw_all := lw_g (lw_at lw_m4 204 rfl) rfl
theorem q1010 : (Jvm.Cond.code ({ cls := "BenchBroker$Addition", name := "run", desc := "(LBenchBroker$Park;)I" } : Jvm.MethodName) prog_3_method_3_code (2 : Nat) (Option.some Jvm.ClassFile.FieldType.int)) ∈ lw_all := lw_g (lw_at lw_m4 205 rfl) rfl
theorem q1011 : (Jvm.Cond.methodLink "BenchBroker$Addition" (13 : Nat) ({ cls := "BenchBroker$Addition", name := "first", desc := "()I" } : Jvm.MethodName)) ∈ lw_all := lw_g (lw_at lw_m4 206 rfl) rfl
theorem q1012 : (Jvm.Cond.sameMethod "BenchBroker$Addition" "BenchBroker$Action" "first" "()I") ∈ lw_all := lw_g (lw_at lw_m4 207 rfl) rfl
theorem q1014 : (Jvm.Cond.selects "BenchBroker$Addition" ({ cls := "BenchBroker$Addition", name := "first", desc := "()I" } : Jvm.MethodName) ({ cls := "BenchBroker$Action", name := "first", desc := "()I" } : Jvm.MethodName)) ∈ lw_all := lw_g (lw_at lw_m4 209 rfl) rfl
theorem q1017 : (Jvm.Cond.methodLink "BenchBroker$Addition" (17 : Nat) ({ cls := "BenchBroker$Addition", name := "second", desc := "()I" } : Jvm.MethodName)) ∈ lw_all := lw_g (lw_at lw_m4 212 rfl) rfl
theorem q1018 : (Jvm.Cond.sameMethod "BenchBroker$Addition" "BenchBroker$Action" "second" "()I") ∈ lw_all := lw_g (lw_at lw_m4 213 rfl) rfl
theorem q1020 : (Jvm.Cond.selects "BenchBroker$Addition" ({ cls := "BenchBroker$Addition", name := "second", desc := "()I" } : Jvm.MethodName) ({ cls := "BenchBroker$Action", name := "second", desc := "()I" } : Jvm.MethodName)) ∈ lw_all := lw_g (lw_at lw_m4 215 rfl) rfl
theorem q1023 : (Jvm.Cond.methodLink "BenchBroker$Addition" (26 : Nat) ({ cls := "BenchBroker$Addition", name := "third", desc := "()I" } : Jvm.MethodName)) ∈ lw_all := lw_g (lw_at lw_m4 218 rfl) rfl
theorem q1024 : (Jvm.Cond.sameMethod "BenchBroker$Addition" "BenchBroker$Action" "third" "()I") ∈ lw_all := lw_g (lw_at lw_m4 219 rfl) rfl
theorem q1026 : (Jvm.Cond.selects "BenchBroker$Addition" ({ cls := "BenchBroker$Addition", name := "third", desc := "()I" } : Jvm.MethodName) ({ cls := "BenchBroker$Action", name := "third", desc := "()I" } : Jvm.MethodName)) ∈ lw_all := lw_g (lw_at lw_m4 221 rfl) rfl
theorem q1029 : (Jvm.Cond.methodLink "BenchBroker$Addition" (39 : Nat) ({ cls := "BenchBroker$Park", name := "addBench", desc := "(III)I" } : Jvm.MethodName)) ∈ lw_all := lw_g (lw_at lw_m4 224 rfl) rfl
theorem q1080 : (Jvm.Cond.methodLink "BenchBroker$Addition" (45 : Nat) ({ cls := "BenchBroker$Park", name := "addFountain", desc := "(III)I" } : Jvm.MethodName)) ∈ lw_all := lw_g (lw_at lw_m5 35 rfl) rfl
theorem q1087 : (Jvm.Cond.methodLink "BenchBroker$Addition" (48 : Nat) ({ cls := "BenchBroker$Park", name := "addTenant", desc := "(I)I" } : Jvm.MethodName)) ∈ lw_all := lw_g (lw_at lw_m5 42 rfl) rfl
theorem q2096 : (Jvm.Cond.selects "BenchBroker$Addition" ({ cls := "BenchBroker$Action", name := "checkedRun", desc := "(LBenchBroker$Park;)I" } : Jvm.MethodName) ({ cls := "BenchBroker$Action", name := "checkedRun", desc := "(LBenchBroker$Park;)I" } : Jvm.MethodName)) ∈ lw_all := lw_g (lw_at lw_m9 91 rfl) rfl
theorem q2103 : (Jvm.Cond.selects "BenchBroker$Addition" ({ cls := "BenchBroker$Action", name := "isAccepted", desc := "(LBenchBroker$Park;)Z" } : Jvm.MethodName) ({ cls := "BenchBroker$Addition", name := "isAccepted", desc := "(LBenchBroker$Park;)Z" } : Jvm.MethodName)) ∈ lw_all := lw_g (lw_at lw_m9 98 rfl) rfl
theorem q2104 : (Jvm.Cond.instanceMethod ({ cls := "BenchBroker$Addition", name := "isAccepted", desc := "(LBenchBroker$Park;)Z" } : Jvm.MethodName)) ∈ lw_all := lw_g (lw_at lw_m9 99 rfl) rfl
theorem q2105 : (Jvm.Cond.code ({ cls := "BenchBroker$Addition", name := "isAccepted", desc := "(LBenchBroker$Park;)Z" } : Jvm.MethodName) prog_3_method_2_code (2 : Nat) (Option.some Jvm.ClassFile.FieldType.boolean)) ∈ lw_all := lw_g (lw_at lw_m9 100 rfl) rfl
theorem q2106 : (Jvm.Cond.methodLinkNest "BenchBroker$Addition" (20 : Nat) ({ cls := "BenchBroker", name := "isCell", desc := "(II)Z" } : Jvm.MethodName) "BenchBroker") ∈ lw_tbl := lw_at lw_m9 101 rfl
theorem q2107 : (Jvm.Cond.methodLinkNest "BenchBroker$Addition" (29 : Nat) ({ cls := "BenchBroker", name := "isRent", desc := "(I)Z" } : Jvm.MethodName) "BenchBroker") ∈ lw_tbl := lw_at lw_m9 102 rfl
theorem q2108 : (Jvm.Cond.methodLinkNest "BenchBroker$Addition" (33 : Nat) ({ cls := "BenchBroker", name := "isLoudness", desc := "(I)Z" } : Jvm.MethodName) "BenchBroker") ∈ lw_tbl := lw_at lw_m9 103 rfl
theorem q2109 : (Jvm.Cond.methodLinkNest "BenchBroker$Addition" (36 : Nat) ({ cls := "BenchBroker", name := "isPurse", desc := "(I)Z" } : Jvm.MethodName) "BenchBroker") ∈ lw_tbl := lw_at lw_m9 104 rfl
theorem q2762 : (Jvm.Cond.castable "BenchBroker$Addition" "BenchBroker$Action") ∈ lw_tbl := lw_at lw_m12 37 rfl
theorem q2774 : (Jvm.Cond.castable "BenchBroker$Addition" "java/lang/Object") ∈ lw_tbl := lw_at lw_m12 49 rfl
theorem in_X6 : ∀ w ∈ wsX60, w ∈ lw_all := lw_in wsX60 [993, 995, 997, 991] (by decide +kernel) (by decide +kernel)
/-! BenchBroker$Item -/
set_option maxRecDepth 100000
def RX7 : String := "BenchBroker$Item"
abbrev cX7_init : ByteArray := prog_7_method_1_code
def yX7_init : MethodName := ⟨RX7, "<init>", "(I)V"⟩
def dkwX7_init_0 : List UInt8 := [42, 183, 0, 1, 42, 27, 181, 0, 7, 177]
abbrev dktX7_init_0 : List UInt8 := dkwX7_init_0 ++ []
theorem dksX7_init_0 : cX7_init.data.toList.drop 0 = dktX7_init_0 := by decide +kernel
theorem dX7_init_0 : decode cX7_init 0 = .ok (.aload_n 0, 1) := dk_42 (dk_at dksX7_init_0 0 rfl rfl)
theorem dX7_init_1 : decode cX7_init 1 = .ok (.invokespecial 1, 3) := dk_183 0 1 (dk_at dksX7_init_0 1 rfl rfl)
theorem dX7_init_4 : decode cX7_init 4 = .ok (.aload_n 0, 1) := dk_42 (dk_at dksX7_init_0 4 rfl rfl)
theorem dX7_init_5 : decode cX7_init 5 = .ok (.iload_n 1, 1) := dk_27 (dk_at dksX7_init_0 5 rfl rfl)
theorem dX7_init_6 : decode cX7_init 6 = .ok (.putfield 7, 3) := dk_181 0 7 (dk_at dksX7_init_0 6 rfl rfl)
theorem dX7_init_9 : decode cX7_init 9 = .ok (.return_, 1) := dk_177 (dk_at dksX7_init_0 9 rfl rfl)
abbrev cX7_index : ByteArray := prog_7_method_2_code
def yX7_index : MethodName := ⟨RX7, "index", "()I"⟩
theorem dX7_index_0 : decode cX7_index 0 = .ok (.aload_n 0, 1) := by decide +kernel
theorem dX7_index_1 : decode cX7_index 1 = .ok (.getfield 7, 3) := by decide +kernel
theorem dX7_index_4 : decode cX7_index 4 = .ok (.ireturn, 1) := by decide +kernel
theorem q107 : (Jvm.Cond.initialized "BenchBroker$Item") ∈ lw_all := lw_g (lw_at lw_m1 22 rfl) rfl
theorem q740 : (Jvm.Cond.instanceMethod ({ cls := "BenchBroker$Item", name := "<init>", desc := "(I)V" } : Jvm.MethodName)) ∈ lw_all := lw_g (lw_at lw_m3 175 rfl) rfl
theorem q741 : (Jvm.Cond.code ({ cls := "BenchBroker$Item", name := "<init>", desc := "(I)V" } : Jvm.MethodName) prog_7_method_1_code (2 : Nat) (Option.none : Option Jvm.ClassFile.FieldType)) ∈ lw_all := lw_g (lw_at lw_m3 176 rfl) rfl
theorem q742 : (Jvm.Cond.methodLink "BenchBroker$Item" (1 : Nat) ({ cls := "java/lang/Object", name := "<init>", desc := "()V" } : Jvm.MethodName)) ∈ lw_all := lw_g (lw_at lw_m3 177 rfl) rfl
theorem q751 : (Jvm.Cond.fieldLink "BenchBroker$Item" (7 : Nat) "BenchBroker$Item" "index" "I") ∈ lw_all := lw_g (lw_at lw_m3 186 rfl) rfl
theorem q761 : (Jvm.Cond.soleField "BenchBroker$Item" "index") ∈ lw_all := lw_g (lw_at lw_m3 196 rfl) rfl
theorem q802 : (Jvm.Cond.declares ({ cls := "BenchBroker$Item", name := "index", desc := "()I" } : Jvm.MethodName)) ∈ lw_tbl := lw_at lw_m3 237 rfl
theorem q804 : (Jvm.Cond.instanceMethod ({ cls := "BenchBroker$Item", name := "index", desc := "()I" } : Jvm.MethodName)) ∈ lw_all := lw_g (lw_at lw_m3 239 rfl) rfl
theorem q805 : (Jvm.Cond.code ({ cls := "BenchBroker$Item", name := "index", desc := "()I" } : Jvm.MethodName) prog_7_method_2_code (1 : Nat) (Option.some Jvm.ClassFile.FieldType.int)) ∈ lw_all := lw_g (lw_at lw_m4 0 rfl) rfl
theorem q2739 : (Jvm.Cond.sameMethod "BenchBroker$Item" "BenchBroker$Item" "index" "()I") ∈ lw_all := lw_g (lw_at lw_m12 14 rfl) rfl
/-! BenchBroker$Place -/
set_option maxRecDepth 100000
def RX8 : String := "BenchBroker$Place"
abbrev cX8_row : ByteArray := prog_12_method_2_code
def yX8_row : MethodName := ⟨RX8, "row", "()I"⟩
theorem dX8_row_0 : decode cX8_row 0 = .ok (.aload_n 0, 1) := by decide +kernel
theorem dX8_row_1 : decode cX8_row 1 = .ok (.getfield 7, 3) := by decide +kernel
theorem dX8_row_4 : decode cX8_row 4 = .ok (.ireturn, 1) := by decide +kernel
abbrev cX8_column : ByteArray := prog_12_method_3_code
def yX8_column : MethodName := ⟨RX8, "column", "()I"⟩
theorem dX8_column_0 : decode cX8_column 0 = .ok (.aload_n 0, 1) := by decide +kernel
theorem dX8_column_1 : decode cX8_column 1 = .ok (.getfield 13, 3) := by decide +kernel
theorem dX8_column_4 : decode cX8_column 4 = .ok (.ireturn, 1) := by decide +kernel
abbrev cX8_distanceTo : ByteArray := prog_12_method_4_code
def yX8_distanceTo : MethodName := ⟨RX8, "distanceTo", "(II)I"⟩
def dkwX8_distanceTo_0 : List UInt8 := [42, 180, 0, 7, 27, 100, 184, 0, 16, 42, 180, 0, 13, 28, 100, 184, 0, 16, 96, 172]
abbrev dktX8_distanceTo_0 : List UInt8 := dkwX8_distanceTo_0 ++ []
theorem dksX8_distanceTo_0 : cX8_distanceTo.data.toList.drop 0 = dktX8_distanceTo_0 := by decide +kernel
theorem dX8_distanceTo_0 : decode cX8_distanceTo 0 = .ok (.aload_n 0, 1) := dk_42 (dk_at dksX8_distanceTo_0 0 rfl rfl)
theorem dX8_distanceTo_1 : decode cX8_distanceTo 1 = .ok (.getfield 7, 3) := dk_180 0 7 (dk_at dksX8_distanceTo_0 1 rfl rfl)
theorem dX8_distanceTo_4 : decode cX8_distanceTo 4 = .ok (.iload_n 1, 1) := dk_27 (dk_at dksX8_distanceTo_0 4 rfl rfl)
theorem dX8_distanceTo_5 : decode cX8_distanceTo 5 = .ok (.isub, 1) := dk_100 (dk_at dksX8_distanceTo_0 5 rfl rfl)
theorem dX8_distanceTo_6 : decode cX8_distanceTo 6 = .ok (.invokestatic 16, 3) := dk_184 0 16 (dk_at dksX8_distanceTo_0 6 rfl rfl)
theorem dX8_distanceTo_9 : decode cX8_distanceTo 9 = .ok (.aload_n 0, 1) := dk_42 (dk_at dksX8_distanceTo_0 9 rfl rfl)
theorem dX8_distanceTo_10 : decode cX8_distanceTo 10 = .ok (.getfield 13, 3) := dk_180 0 13 (dk_at dksX8_distanceTo_0 10 rfl rfl)
theorem dX8_distanceTo_13 : decode cX8_distanceTo 13 = .ok (.iload_n 2, 1) := dk_28 (dk_at dksX8_distanceTo_0 13 rfl rfl)
theorem dX8_distanceTo_14 : decode cX8_distanceTo 14 = .ok (.isub, 1) := dk_100 (dk_at dksX8_distanceTo_0 14 rfl rfl)
theorem dX8_distanceTo_15 : decode cX8_distanceTo 15 = .ok (.invokestatic 16, 3) := dk_184 0 16 (dk_at dksX8_distanceTo_0 15 rfl rfl)
theorem dX8_distanceTo_18 : decode cX8_distanceTo 18 = .ok (.iadd, 1) := dk_96 (dk_at dksX8_distanceTo_0 18 rfl rfl)
theorem dX8_distanceTo_19 : decode cX8_distanceTo 19 = .ok (.ireturn, 1) := dk_172 (dk_at dksX8_distanceTo_0 19 rfl rfl)
abbrev cX8_init : ByteArray := prog_12_method_1_code
def yX8_init : MethodName := ⟨RX8, "<init>", "(III)V"⟩
def dkwX8_init_0 : List UInt8 := [42, 27, 183, 0, 1, 42, 28, 181, 0, 7, 42, 29, 181, 0, 13, 177]
abbrev dktX8_init_0 : List UInt8 := dkwX8_init_0 ++ []
theorem dksX8_init_0 : cX8_init.data.toList.drop 0 = dktX8_init_0 := by decide +kernel
theorem dX8_init_0 : decode cX8_init 0 = .ok (.aload_n 0, 1) := dk_42 (dk_at dksX8_init_0 0 rfl rfl)
theorem dX8_init_1 : decode cX8_init 1 = .ok (.iload_n 1, 1) := dk_27 (dk_at dksX8_init_0 1 rfl rfl)
theorem dX8_init_2 : decode cX8_init 2 = .ok (.invokespecial 1, 3) := dk_183 0 1 (dk_at dksX8_init_0 2 rfl rfl)
theorem dX8_init_5 : decode cX8_init 5 = .ok (.aload_n 0, 1) := dk_42 (dk_at dksX8_init_0 5 rfl rfl)
theorem dX8_init_6 : decode cX8_init 6 = .ok (.iload_n 2, 1) := dk_28 (dk_at dksX8_init_0 6 rfl rfl)
theorem dX8_init_7 : decode cX8_init 7 = .ok (.putfield 7, 3) := dk_181 0 7 (dk_at dksX8_init_0 7 rfl rfl)
theorem dX8_init_10 : decode cX8_init 10 = .ok (.aload_n 0, 1) := dk_42 (dk_at dksX8_init_0 10 rfl rfl)
theorem dX8_init_11 : decode cX8_init 11 = .ok (.iload_n 3, 1) := dk_29 (dk_at dksX8_init_0 11 rfl rfl)
theorem dX8_init_12 : decode cX8_init 12 = .ok (.putfield 13, 3) := dk_181 0 13 (dk_at dksX8_init_0 12 rfl rfl)
theorem dX8_init_15 : decode cX8_init 15 = .ok (.return_, 1) := dk_177 (dk_at dksX8_init_0 15 rfl rfl)
theorem q108 : (Jvm.Cond.initialized "BenchBroker$Place") ∈ lw_all := lw_g (lw_at lw_m1 23 rfl) rfl
theorem q330 : (Jvm.Cond.declares ({ cls := "BenchBroker$Place", name := "row", desc := "()I" } : Jvm.MethodName)) ∈ lw_tbl := lw_at lw_m2 5 rfl
theorem q332 : (Jvm.Cond.instanceMethod ({ cls := "BenchBroker$Place", name := "row", desc := "()I" } : Jvm.MethodName)) ∈ lw_all := lw_g (lw_at lw_m2 7 rfl) rfl
theorem q333 : (Jvm.Cond.code ({ cls := "BenchBroker$Place", name := "row", desc := "()I" } : Jvm.MethodName) prog_12_method_2_code (1 : Nat) (Option.some Jvm.ClassFile.FieldType.int)) ∈ lw_all := lw_g (lw_at lw_m2 8 rfl) rfl
theorem q336 : (Jvm.Cond.declares ({ cls := "BenchBroker$Place", name := "column", desc := "()I" } : Jvm.MethodName)) ∈ lw_tbl := lw_at lw_m2 11 rfl
theorem q338 : (Jvm.Cond.instanceMethod ({ cls := "BenchBroker$Place", name := "column", desc := "()I" } : Jvm.MethodName)) ∈ lw_all := lw_g (lw_at lw_m2 13 rfl) rfl
theorem q339 : (Jvm.Cond.code ({ cls := "BenchBroker$Place", name := "column", desc := "()I" } : Jvm.MethodName) prog_12_method_3_code (1 : Nat) (Option.some Jvm.ClassFile.FieldType.int)) ∈ lw_all := lw_g (lw_at lw_m2 14 rfl) rfl
theorem q352 : (Jvm.Cond.declares ({ cls := "BenchBroker$Place", name := "distanceTo", desc := "(II)I" } : Jvm.MethodName)) ∈ lw_tbl := lw_at lw_m2 27 rfl
theorem q354 : (Jvm.Cond.instanceMethod ({ cls := "BenchBroker$Place", name := "distanceTo", desc := "(II)I" } : Jvm.MethodName)) ∈ lw_all := lw_g (lw_at lw_m2 29 rfl) rfl
theorem q355 : (Jvm.Cond.code ({ cls := "BenchBroker$Place", name := "distanceTo", desc := "(II)I" } : Jvm.MethodName) prog_12_method_4_code (3 : Nat) (Option.some Jvm.ClassFile.FieldType.int)) ∈ lw_all := lw_g (lw_at lw_m2 30 rfl) rfl
theorem q356 : (Jvm.Cond.methodLink "BenchBroker$Place" (16 : Nat) ({ cls := "java/lang/Math", name := "abs", desc := "(I)I" } : Jvm.MethodName)) ∈ lw_all := lw_g (lw_at lw_m2 31 rfl) rfl
theorem q737 : (Jvm.Cond.instanceMethod ({ cls := "BenchBroker$Place", name := "<init>", desc := "(III)V" } : Jvm.MethodName)) ∈ lw_all := lw_g (lw_at lw_m3 172 rfl) rfl
theorem q738 : (Jvm.Cond.code ({ cls := "BenchBroker$Place", name := "<init>", desc := "(III)V" } : Jvm.MethodName) prog_12_method_1_code (4 : Nat) (Option.none : Option Jvm.ClassFile.FieldType)) ∈ lw_all := lw_g (lw_at lw_m3 173 rfl) rfl
theorem q739 : (Jvm.Cond.methodLink "BenchBroker$Place" (1 : Nat) ({ cls := "BenchBroker$Item", name := "<init>", desc := "(I)V" } : Jvm.MethodName)) ∈ lw_all := lw_g (lw_at lw_m3 174 rfl) rfl
theorem q749 : (Jvm.Cond.fieldLink "BenchBroker$Place" (7 : Nat) "BenchBroker$Place" "row" "I") ∈ lw_all := lw_g (lw_at lw_m3 184 rfl) rfl
theorem q750 : (Jvm.Cond.fieldLink "BenchBroker$Place" (13 : Nat) "BenchBroker$Place" "column" "I") ∈ lw_all := lw_g (lw_at lw_m3 185 rfl) rfl
theorem q757 : (Jvm.Cond.soleField "BenchBroker$Place" "row") ∈ lw_all := lw_g (lw_at lw_m3 192 rfl) rfl
theorem q759 : (Jvm.Cond.soleField "BenchBroker$Place" "column") ∈ lw_all := lw_g (lw_at lw_m3 194 rfl) rfl
theorem q1076 : (Jvm.Cond.sameMethod "BenchBroker$Place" "BenchBroker$Item" "index" "()I") ∈ lw_all := lw_g (lw_at lw_m5 31 rfl) rfl
theorem q2736 : (Jvm.Cond.sameMethod "BenchBroker$Place" "BenchBroker$Place" "distanceTo" "(II)I") ∈ lw_all := lw_g (lw_at lw_m12 11 rfl) rfl
/-! BenchBroker$Fountain -/
set_option maxRecDepth 100000
def RX9 : String := "BenchBroker$Fountain"
def TX9 : u_T := fun k => match k with
  | 0 => ("BenchBroker$Place", "row", "I", true)
  | 1 => ("BenchBroker$Place", "column", "I", true)
  | 2 => ("BenchBroker$Item", "index", "I", true)
  | 3 => ("BenchBroker$Fountain", "loudness", "I", false)
  | _ => ("BenchBroker$Fountain", "running", "Z", false)
def tyX9 : Nat → FieldType := fun k => match k with
  | 0 => .int
  | 1 => .int
  | 2 => .int
  | 3 => .int
  | _ => .boolean
abbrev wsX90 : List Cond := u_ws RX9 TX9 5
theorem nmX9 : ∀ a, a < 5 → ∀ b, b < 5 → a ≠ b → (TX9 a).2.1 ≠ (TX9 b).2.1 := by decide +kernel
theorem tyX9_ok : ∀ k, k < 5 → parseFieldDescriptor (TX9 k).2.2.1 = some (tyX9 k) := by decide +kernel
abbrev cX9_noiseAt : ByteArray := prog_6_method_2_code
def yX9_noiseAt : MethodName := ⟨RX9, "noiseAt", "(II)I"⟩
def dkwX9_noiseAt_1 : List UInt8 := [167, 0, 4, 3, 172]
abbrev dktX9_noiseAt_1 : List UInt8 := dkwX9_noiseAt_1 ++ []
def dkwX9_noiseAt_0 : List UInt8 := [42, 180, 0, 9, 153, 0, 23, 3, 42, 180, 0, 15, 5, 42, 27, 28, 182, 0, 19, 104, 100, 184, 0, 23]
abbrev dktX9_noiseAt_0 : List UInt8 := dkwX9_noiseAt_0 ++ dktX9_noiseAt_1
theorem dksX9_noiseAt_0 : cX9_noiseAt.data.toList.drop 0 = dktX9_noiseAt_0 := by decide +kernel
theorem dksX9_noiseAt_1 : cX9_noiseAt.data.toList.drop 24 = dktX9_noiseAt_1 := dk_seg dksX9_noiseAt_0 24 rfl rfl
theorem dX9_noiseAt_0 : decode cX9_noiseAt 0 = .ok (.aload_n 0, 1) := dk_42 (dk_at dksX9_noiseAt_0 0 rfl rfl)
theorem dX9_noiseAt_1 : decode cX9_noiseAt 1 = .ok (.getfield 9, 3) := dk_180 0 9 (dk_at dksX9_noiseAt_0 1 rfl rfl)
theorem dX9_noiseAt_4 : decode cX9_noiseAt 4 = .ok (.ifCond .eq 23, 3) := dk_153 0 23 (dk_at dksX9_noiseAt_0 4 rfl rfl)
theorem dX9_noiseAt_7 : decode cX9_noiseAt 7 = .ok (.iconst 0, 1) := dk_3 (dk_at dksX9_noiseAt_0 7 rfl rfl)
theorem dX9_noiseAt_8 : decode cX9_noiseAt 8 = .ok (.aload_n 0, 1) := dk_42 (dk_at dksX9_noiseAt_0 8 rfl rfl)
theorem dX9_noiseAt_9 : decode cX9_noiseAt 9 = .ok (.getfield 15, 3) := dk_180 0 15 (dk_at dksX9_noiseAt_0 9 rfl rfl)
theorem dX9_noiseAt_12 : decode cX9_noiseAt 12 = .ok (.iconst 2, 1) := dk_5 (dk_at dksX9_noiseAt_0 12 rfl rfl)
theorem dX9_noiseAt_13 : decode cX9_noiseAt 13 = .ok (.aload_n 0, 1) := dk_42 (dk_at dksX9_noiseAt_0 13 rfl rfl)
theorem dX9_noiseAt_14 : decode cX9_noiseAt 14 = .ok (.iload_n 1, 1) := dk_27 (dk_at dksX9_noiseAt_0 14 rfl rfl)
theorem dX9_noiseAt_15 : decode cX9_noiseAt 15 = .ok (.iload_n 2, 1) := dk_28 (dk_at dksX9_noiseAt_0 15 rfl rfl)
theorem dX9_noiseAt_16 : decode cX9_noiseAt 16 = .ok (.invokevirtual 19, 3) := dk_182 0 19 (dk_at dksX9_noiseAt_0 16 rfl rfl)
theorem dX9_noiseAt_19 : decode cX9_noiseAt 19 = .ok (.imul, 1) := dk_104 (dk_at dksX9_noiseAt_0 19 rfl rfl)
theorem dX9_noiseAt_20 : decode cX9_noiseAt 20 = .ok (.isub, 1) := dk_100 (dk_at dksX9_noiseAt_0 20 rfl rfl)
theorem dX9_noiseAt_21 : decode cX9_noiseAt 21 = .ok (.invokestatic 23, 3) := dk_184 0 23 (dk_at dksX9_noiseAt_0 21 rfl rfl)
theorem dX9_noiseAt_24 : decode cX9_noiseAt 24 = .ok (.goto 4, 3) := dk_167 0 4 (dk_at dksX9_noiseAt_1 0 rfl rfl)
theorem dX9_noiseAt_27 : decode cX9_noiseAt 27 = .ok (.iconst 0, 1) := dk_3 (dk_at dksX9_noiseAt_1 3 rfl rfl)
theorem dX9_noiseAt_28 : decode cX9_noiseAt 28 = .ok (.ireturn, 1) := dk_172 (dk_at dksX9_noiseAt_1 4 rfl rfl)
abbrev cX9_init : ByteArray := prog_6_method_1_code
def yX9_init : MethodName := ⟨RX9, "<init>", "(III)V"⟩
def dkwX9_init_0 : List UInt8 := [42, 27, 28, 29, 183, 0, 3, 42, 4, 181, 0, 9, 177]
abbrev dktX9_init_0 : List UInt8 := dkwX9_init_0 ++ []
theorem dksX9_init_0 : cX9_init.data.toList.drop 0 = dktX9_init_0 := by decide +kernel
theorem dX9_init_0 : decode cX9_init 0 = .ok (.aload_n 0, 1) := dk_42 (dk_at dksX9_init_0 0 rfl rfl)
theorem dX9_init_1 : decode cX9_init 1 = .ok (.iload_n 1, 1) := dk_27 (dk_at dksX9_init_0 1 rfl rfl)
theorem dX9_init_2 : decode cX9_init 2 = .ok (.iload_n 2, 1) := dk_28 (dk_at dksX9_init_0 2 rfl rfl)
theorem dX9_init_3 : decode cX9_init 3 = .ok (.iload_n 3, 1) := dk_29 (dk_at dksX9_init_0 3 rfl rfl)
theorem dX9_init_4 : decode cX9_init 4 = .ok (.invokespecial 3, 3) := dk_183 0 3 (dk_at dksX9_init_0 4 rfl rfl)
theorem dX9_init_7 : decode cX9_init 7 = .ok (.aload_n 0, 1) := dk_42 (dk_at dksX9_init_0 7 rfl rfl)
theorem dX9_init_8 : decode cX9_init 8 = .ok (.iconst 1, 1) := dk_4 (dk_at dksX9_init_0 8 rfl rfl)
theorem dX9_init_9 : decode cX9_init 9 = .ok (.putfield 9, 3) := dk_181 0 9 (dk_at dksX9_init_0 9 rfl rfl)
theorem dX9_init_12 : decode cX9_init 12 = .ok (.return_, 1) := dk_177 (dk_at dksX9_init_0 12 rfl rfl)
abbrev cX9_sign : ByteArray := prog_6_method_3_code
def yX9_sign : MethodName := ⟨RX9, "sign", "()C"⟩
def dkwX9_sign_0 : List UInt8 := [42, 180, 0, 9, 153, 0, 8, 16, 70, 167, 0, 5, 16, 102, 172]
abbrev dktX9_sign_0 : List UInt8 := dkwX9_sign_0 ++ []
theorem dksX9_sign_0 : cX9_sign.data.toList.drop 0 = dktX9_sign_0 := by decide +kernel
theorem dX9_sign_0 : decode cX9_sign 0 = .ok (.aload_n 0, 1) := dk_42 (dk_at dksX9_sign_0 0 rfl rfl)
theorem dX9_sign_1 : decode cX9_sign 1 = .ok (.getfield 9, 3) := dk_180 0 9 (dk_at dksX9_sign_0 1 rfl rfl)
theorem dX9_sign_4 : decode cX9_sign 4 = .ok (.ifCond .eq 8, 3) := dk_153 0 8 (dk_at dksX9_sign_0 4 rfl rfl)
theorem dX9_sign_7 : decode cX9_sign 7 = .ok (.bipush 70, 2) := dk_16 70 (dk_at dksX9_sign_0 7 rfl rfl)
theorem dX9_sign_9 : decode cX9_sign 9 = .ok (.goto 5, 3) := dk_167 0 5 (dk_at dksX9_sign_0 9 rfl rfl)
theorem dX9_sign_12 : decode cX9_sign 12 = .ok (.bipush 102, 2) := dk_16 102 (dk_at dksX9_sign_0 12 rfl rfl)
theorem dX9_sign_14 : decode cX9_sign 14 = .ok (.ireturn, 1) := dk_172 (dk_at dksX9_sign_0 14 rfl rfl)
theorem q109 : (Jvm.Cond.initialized "BenchBroker$Fountain") ∈ lw_all := lw_g (lw_at lw_m1 24 rfl) rfl
theorem q347 : (Jvm.Cond.instanceMethod ({ cls := "BenchBroker$Fountain", name := "noiseAt", desc := "(II)I" } : Jvm.MethodName)) ∈ lw_all := lw_g (lw_at lw_m2 22 rfl) rfl
theorem q348 : (Jvm.Cond.selects "BenchBroker$Fountain" ({ cls := "BenchBroker$Fountain", name := "noiseAt", desc := "(II)I" } : Jvm.MethodName) ({ cls := "BenchBroker$Fountain", name := "noiseAt", desc := "(II)I" } : Jvm.MethodName)) ∈ lw_all := lw_g (lw_at lw_m2 23 rfl) rfl
theorem q349 : (Jvm.Cond.code ({ cls := "BenchBroker$Fountain", name := "noiseAt", desc := "(II)I" } : Jvm.MethodName) prog_6_method_2_code (3 : Nat) (Option.some Jvm.ClassFile.FieldType.int)) ∈ lw_all := lw_g (lw_at lw_m2 24 rfl) rfl
theorem q350 : (Jvm.Cond.methodLink "BenchBroker$Fountain" (19 : Nat) ({ cls := "BenchBroker$Fountain", name := "distanceTo", desc := "(II)I" } : Jvm.MethodName)) ∈ lw_all := lw_g (lw_at lw_m2 25 rfl) rfl
theorem q351 : (Jvm.Cond.sameMethod "BenchBroker$Fountain" "BenchBroker$Place" "distanceTo" "(II)I") ∈ lw_all := lw_g (lw_at lw_m2 26 rfl) rfl
theorem q353 : (Jvm.Cond.selects "BenchBroker$Fountain" ({ cls := "BenchBroker$Fountain", name := "distanceTo", desc := "(II)I" } : Jvm.MethodName) ({ cls := "BenchBroker$Place", name := "distanceTo", desc := "(II)I" } : Jvm.MethodName)) ∈ lw_all := lw_g (lw_at lw_m2 28 rfl) rfl
theorem q359 : (Jvm.Cond.methodLink "BenchBroker$Fountain" (23 : Nat) ({ cls := "java/lang/Math", name := "max", desc := "(II)I" } : Jvm.MethodName)) ∈ lw_all := lw_g (lw_at lw_m2 34 rfl) rfl
theorem q479 : (Jvm.Cond.sameMethod "BenchBroker$Fountain" "BenchBroker$Place" "row" "()I") ∈ lw_all := lw_g (lw_at lw_m2 154 rfl) rfl
theorem q480 : (Jvm.Cond.selects "BenchBroker$Fountain" ({ cls := "BenchBroker$Fountain", name := "row", desc := "()I" } : Jvm.MethodName) ({ cls := "BenchBroker$Place", name := "row", desc := "()I" } : Jvm.MethodName)) ∈ lw_all := lw_g (lw_at lw_m2 155 rfl) rfl
theorem q482 : (Jvm.Cond.sameMethod "BenchBroker$Fountain" "BenchBroker$Place" "column" "()I") ∈ lw_all := lw_g (lw_at lw_m2 157 rfl) rfl
theorem q483 : (Jvm.Cond.selects "BenchBroker$Fountain" ({ cls := "BenchBroker$Fountain", name := "column", desc := "()I" } : Jvm.MethodName) ({ cls := "BenchBroker$Place", name := "column", desc := "()I" } : Jvm.MethodName)) ∈ lw_all := lw_g (lw_at lw_m2 158 rfl) rfl
theorem q610 : (Jvm.Cond.selects "BenchBroker$Fountain" ({ cls := "java/lang/Object", name := "getClass", desc := "()Ljava/lang/Class;" } : Jvm.MethodName) ({ cls := "java/lang/Object", name := "getClass", desc := "()Ljava/lang/Class;" } : Jvm.MethodName)) ∈ lw_all := lw_g (lw_at lw_m3 45 rfl) rfl
theorem q732 : (Jvm.Cond.instantiable "BenchBroker$Fountain" (5 : Nat)) ∈ lw_all := lw_g (lw_at lw_m3 167 rfl) rfl
theorem q734 : (Jvm.Cond.instanceMethod ({ cls := "BenchBroker$Fountain", name := "<init>", desc := "(III)V" } : Jvm.MethodName)) ∈ lw_all := lw_g (lw_at lw_m3 169 rfl) rfl
theorem q735 : (Jvm.Cond.code ({ cls := "BenchBroker$Fountain", name := "<init>", desc := "(III)V" } : Jvm.MethodName) prog_6_method_1_code (4 : Nat) (Option.none : Option Jvm.ClassFile.FieldType)) ∈ lw_all := lw_g (lw_at lw_m3 170 rfl) rfl
theorem q736 : (Jvm.Cond.methodLink "BenchBroker$Fountain" (3 : Nat) ({ cls := "BenchBroker$Place", name := "<init>", desc := "(III)V" } : Jvm.MethodName)) ∈ lw_all := lw_g (lw_at lw_m3 171 rfl) rfl
theorem q743 : (Jvm.Cond.fieldLink "BenchBroker$Fountain" (15 : Nat) "BenchBroker$Fountain" "loudness" "I") ∈ lw_all := lw_g (lw_at lw_m3 178 rfl) rfl
theorem q746 : (Jvm.Cond.fieldLink "BenchBroker$Fountain" (9 : Nat) "BenchBroker$Fountain" "running" "Z") ∈ lw_all := lw_g (lw_at lw_m3 181 rfl) rfl
theorem q752 : (Jvm.Cond.lays "BenchBroker$Fountain" "BenchBroker$Fountain" "loudness" "I") ∈ lw_all := lw_g (lw_at lw_m3 187 rfl) rfl
theorem q753 : (Jvm.Cond.soleField "BenchBroker$Fountain" "loudness") ∈ lw_all := lw_g (lw_at lw_m3 188 rfl) rfl
theorem q754 : (Jvm.Cond.lays "BenchBroker$Fountain" "BenchBroker$Fountain" "running" "Z") ∈ lw_all := lw_g (lw_at lw_m3 189 rfl) rfl
theorem q755 : (Jvm.Cond.soleField "BenchBroker$Fountain" "running") ∈ lw_all := lw_g (lw_at lw_m3 190 rfl) rfl
theorem q756 : (Jvm.Cond.laysFinal "BenchBroker$Fountain" "BenchBroker$Place" "row" "I") ∈ lw_all := lw_g (lw_at lw_m3 191 rfl) rfl
theorem q758 : (Jvm.Cond.laysFinal "BenchBroker$Fountain" "BenchBroker$Place" "column" "I") ∈ lw_all := lw_g (lw_at lw_m3 193 rfl) rfl
theorem q760 : (Jvm.Cond.laysFinal "BenchBroker$Fountain" "BenchBroker$Item" "index" "I") ∈ lw_all := lw_g (lw_at lw_m3 195 rfl) rfl
theorem q762 : (Jvm.Cond.superclass "BenchBroker$Fountain" "BenchBroker$Place") ∈ lw_all := lw_g (lw_at lw_m3 197 rfl) rfl
theorem q1078 : (Jvm.Cond.selects "BenchBroker$Fountain" ({ cls := "BenchBroker$Place", name := "index", desc := "()I" } : Jvm.MethodName) ({ cls := "BenchBroker$Item", name := "index", desc := "()I" } : Jvm.MethodName)) ∈ lw_all := lw_g (lw_at lw_m5 33 rfl) rfl
theorem q1085 : (Jvm.Cond.sameMethod "BenchBroker$Fountain" "BenchBroker$Item" "index" "()I") ∈ lw_all := lw_g (lw_at lw_m5 40 rfl) rfl
theorem q1086 : (Jvm.Cond.selects "BenchBroker$Fountain" ({ cls := "BenchBroker$Fountain", name := "index", desc := "()I" } : Jvm.MethodName) ({ cls := "BenchBroker$Item", name := "index", desc := "()I" } : Jvm.MethodName)) ∈ lw_all := lw_g (lw_at lw_m5 41 rfl) rfl
theorem q1837 : (Jvm.Cond.instanceMethod ({ cls := "BenchBroker$Fountain", name := "sign", desc := "()C" } : Jvm.MethodName)) ∈ lw_all := lw_g (lw_at lw_m8 72 rfl) rfl
theorem q1838 : (Jvm.Cond.selects "BenchBroker$Fountain" ({ cls := "BenchBroker$Fountain", name := "sign", desc := "()C" } : Jvm.MethodName) ({ cls := "BenchBroker$Fountain", name := "sign", desc := "()C" } : Jvm.MethodName)) ∈ lw_all := lw_g (lw_at lw_m8 73 rfl) rfl
theorem q1839 : (Jvm.Cond.code ({ cls := "BenchBroker$Fountain", name := "sign", desc := "()C" } : Jvm.MethodName) prog_6_method_3_code (1 : Nat) (Option.some Jvm.ClassFile.FieldType.char)) ∈ lw_all := lw_g (lw_at lw_m8 74 rfl) rfl
theorem q2738 : (Jvm.Cond.selects "BenchBroker$Fountain" ({ cls := "BenchBroker$Place", name := "distanceTo", desc := "(II)I" } : Jvm.MethodName) ({ cls := "BenchBroker$Place", name := "distanceTo", desc := "(II)I" } : Jvm.MethodName)) ∈ lw_all := lw_g (lw_at lw_m12 13 rfl) rfl
theorem q2741 : (Jvm.Cond.selects "BenchBroker$Fountain" ({ cls := "BenchBroker$Item", name := "index", desc := "()I" } : Jvm.MethodName) ({ cls := "BenchBroker$Item", name := "index", desc := "()I" } : Jvm.MethodName)) ∈ lw_all := lw_g (lw_at lw_m12 16 rfl) rfl
theorem q2758 : (Jvm.Cond.castable "BenchBroker$Fountain" "BenchBroker$Item") ∈ lw_tbl := lw_at lw_m12 33 rfl
theorem q2761 : (Jvm.Cond.castable "BenchBroker$Fountain" "BenchBroker$Place") ∈ lw_tbl := lw_at lw_m12 36 rfl
theorem q2775 : (Jvm.Cond.castable "BenchBroker$Fountain" "java/lang/Object") ∈ lw_tbl := lw_at lw_m12 50 rfl
theorem in_X9 : ∀ w ∈ wsX90, w ∈ lw_all := lw_in wsX90 [756, 758, 760, 752, 754] (by decide +kernel) (by decide +kernel)
/-! BenchBroker$Bench -/
set_option maxRecDepth 100000
def RX10 : String := "BenchBroker$Bench"
def TX10 : u_T := fun k => match k with
  | 0 => ("BenchBroker$Place", "row", "I", true)
  | 1 => ("BenchBroker$Place", "column", "I", true)
  | 2 => ("BenchBroker$Item", "index", "I", true)
  | 3 => ("BenchBroker$Bench", "baseRent", "I", false)
  | 4 => ("BenchBroker$Bench", "tenant", "LBenchBroker$Tenant;", false)
  | 5 => ("BenchBroker$Bench", "deposit", "I", false)
  | _ => ("BenchBroker$Bench", "monthsLeft", "I", false)
def tyX10 : Nat → FieldType := fun k => match k with
  | 0 => .int
  | 1 => .int
  | 2 => .int
  | 3 => .int
  | 4 => .object "BenchBroker$Tenant"
  | 5 => .int
  | _ => .int
abbrev wsX100 : List Cond := u_ws RX10 TX10 7
theorem nmX10 : ∀ a, a < 7 → ∀ b, b < 7 → a ≠ b → (TX10 a).2.1 ≠ (TX10 b).2.1 := by decide +kernel
theorem tyX10_ok : ∀ k, k < 7 → parseFieldDescriptor (TX10 k).2.2.1 = some (tyX10 k) := by decide +kernel
abbrev cX10_isLet : ByteArray := prog_5_method_3_code
def yX10_isLet : MethodName := ⟨RX10, "isLet", "()Z"⟩
def dkwX10_isLet_0 : List UInt8 := [42, 180, 0, 13, 198, 0, 7, 4, 167, 0, 4, 3, 172]
abbrev dktX10_isLet_0 : List UInt8 := dkwX10_isLet_0 ++ []
theorem dksX10_isLet_0 : cX10_isLet.data.toList.drop 0 = dktX10_isLet_0 := by decide +kernel
theorem dX10_isLet_0 : decode cX10_isLet 0 = .ok (.aload_n 0, 1) := dk_42 (dk_at dksX10_isLet_0 0 rfl rfl)
theorem dX10_isLet_1 : decode cX10_isLet 1 = .ok (.getfield 13, 3) := dk_180 0 13 (dk_at dksX10_isLet_0 1 rfl rfl)
theorem dX10_isLet_4 : decode cX10_isLet 4 = .ok (.ifnull 7, 3) := dk_198 0 7 (dk_at dksX10_isLet_0 4 rfl rfl)
theorem dX10_isLet_7 : decode cX10_isLet 7 = .ok (.iconst 1, 1) := dk_4 (dk_at dksX10_isLet_0 7 rfl rfl)
theorem dX10_isLet_8 : decode cX10_isLet 8 = .ok (.goto 4, 3) := dk_167 0 4 (dk_at dksX10_isLet_0 8 rfl rfl)
theorem dX10_isLet_11 : decode cX10_isLet 11 = .ok (.iconst 0, 1) := dk_3 (dk_at dksX10_isLet_0 11 rfl rfl)
theorem dX10_isLet_12 : decode cX10_isLet 12 = .ok (.ireturn, 1) := dk_172 (dk_at dksX10_isLet_0 12 rfl rfl)
abbrev cX10_init : ByteArray := prog_5_method_1_code
def yX10_init : MethodName := ⟨RX10, "<init>", "(III)V"⟩
def dkwX10_init_0 : List UInt8 := [42, 27, 28, 29, 183, 0, 1, 177]
abbrev dktX10_init_0 : List UInt8 := dkwX10_init_0 ++ []
theorem dksX10_init_0 : cX10_init.data.toList.drop 0 = dktX10_init_0 := by decide +kernel
theorem dX10_init_0 : decode cX10_init 0 = .ok (.aload_n 0, 1) := dk_42 (dk_at dksX10_init_0 0 rfl rfl)
theorem dX10_init_1 : decode cX10_init 1 = .ok (.iload_n 1, 1) := dk_27 (dk_at dksX10_init_0 1 rfl rfl)
theorem dX10_init_2 : decode cX10_init 2 = .ok (.iload_n 2, 1) := dk_28 (dk_at dksX10_init_0 2 rfl rfl)
theorem dX10_init_3 : decode cX10_init 3 = .ok (.iload_n 3, 1) := dk_29 (dk_at dksX10_init_0 3 rfl rfl)
theorem dX10_init_4 : decode cX10_init 4 = .ok (.invokespecial 1, 3) := dk_183 0 1 (dk_at dksX10_init_0 4 rfl rfl)
theorem dX10_init_7 : decode cX10_init 7 = .ok (.return_, 1) := dk_177 (dk_at dksX10_init_0 7 rfl rfl)
abbrev cX10_end : ByteArray := prog_5_method_4_code
def yX10_end : MethodName := ⟨RX10, "end", "()I"⟩
def dkwX10_end_1 : List UInt8 := [3, 181, 0, 27, 27, 172]
abbrev dktX10_end_1 : List UInt8 := dkwX10_end_1 ++ []
def dkwX10_end_0 : List UInt8 := [42, 180, 0, 17, 60, 42, 180, 0, 13, 1, 181, 0, 21, 42, 1, 181, 0, 13, 42, 3, 181, 0, 17, 42]
abbrev dktX10_end_0 : List UInt8 := dkwX10_end_0 ++ dktX10_end_1
theorem dksX10_end_0 : cX10_end.data.toList.drop 0 = dktX10_end_0 := by decide +kernel
theorem dksX10_end_1 : cX10_end.data.toList.drop 24 = dktX10_end_1 := dk_seg dksX10_end_0 24 rfl rfl
theorem dX10_end_0 : decode cX10_end 0 = .ok (.aload_n 0, 1) := dk_42 (dk_at dksX10_end_0 0 rfl rfl)
theorem dX10_end_1 : decode cX10_end 1 = .ok (.getfield 17, 3) := dk_180 0 17 (dk_at dksX10_end_0 1 rfl rfl)
theorem dX10_end_4 : decode cX10_end 4 = .ok (.istore_n 1, 1) := dk_60 (dk_at dksX10_end_0 4 rfl rfl)
theorem dX10_end_5 : decode cX10_end 5 = .ok (.aload_n 0, 1) := dk_42 (dk_at dksX10_end_0 5 rfl rfl)
theorem dX10_end_6 : decode cX10_end 6 = .ok (.getfield 13, 3) := dk_180 0 13 (dk_at dksX10_end_0 6 rfl rfl)
theorem dX10_end_9 : decode cX10_end 9 = .ok (.aconst_null, 1) := dk_1 (dk_at dksX10_end_0 9 rfl rfl)
theorem dX10_end_10 : decode cX10_end 10 = .ok (.putfield 21, 3) := dk_181 0 21 (dk_at dksX10_end_0 10 rfl rfl)
theorem dX10_end_13 : decode cX10_end 13 = .ok (.aload_n 0, 1) := dk_42 (dk_at dksX10_end_0 13 rfl rfl)
theorem dX10_end_14 : decode cX10_end 14 = .ok (.aconst_null, 1) := dk_1 (dk_at dksX10_end_0 14 rfl rfl)
theorem dX10_end_15 : decode cX10_end 15 = .ok (.putfield 13, 3) := dk_181 0 13 (dk_at dksX10_end_0 15 rfl rfl)
theorem dX10_end_18 : decode cX10_end 18 = .ok (.aload_n 0, 1) := dk_42 (dk_at dksX10_end_0 18 rfl rfl)
theorem dX10_end_19 : decode cX10_end 19 = .ok (.iconst 0, 1) := dk_3 (dk_at dksX10_end_0 19 rfl rfl)
theorem dX10_end_20 : decode cX10_end 20 = .ok (.putfield 17, 3) := dk_181 0 17 (dk_at dksX10_end_0 20 rfl rfl)
theorem dX10_end_23 : decode cX10_end 23 = .ok (.aload_n 0, 1) := dk_42 (dk_at dksX10_end_0 23 rfl rfl)
theorem dX10_end_24 : decode cX10_end 24 = .ok (.iconst 0, 1) := dk_3 (dk_at dksX10_end_1 0 rfl rfl)
theorem dX10_end_25 : decode cX10_end 25 = .ok (.putfield 27, 3) := dk_181 0 27 (dk_at dksX10_end_1 1 rfl rfl)
theorem dX10_end_28 : decode cX10_end 28 = .ok (.iload_n 1, 1) := dk_27 (dk_at dksX10_end_1 4 rfl rfl)
theorem dX10_end_29 : decode cX10_end 29 = .ok (.ireturn, 1) := dk_172 (dk_at dksX10_end_1 5 rfl rfl)
abbrev cX10_sign : ByteArray := prog_5_method_2_code
def yX10_sign : MethodName := ⟨RX10, "sign", "()C"⟩
def dkwX10_sign_0 : List UInt8 := [16, 48, 42, 182, 0, 7, 96, 146, 172]
abbrev dktX10_sign_0 : List UInt8 := dkwX10_sign_0 ++ []
theorem dksX10_sign_0 : cX10_sign.data.toList.drop 0 = dktX10_sign_0 := by decide +kernel
theorem dX10_sign_0 : decode cX10_sign 0 = .ok (.bipush 48, 2) := dk_16 48 (dk_at dksX10_sign_0 0 rfl rfl)
theorem dX10_sign_2 : decode cX10_sign 2 = .ok (.aload_n 0, 1) := dk_42 (dk_at dksX10_sign_0 2 rfl rfl)
theorem dX10_sign_3 : decode cX10_sign 3 = .ok (.invokevirtual 7, 3) := dk_182 0 7 (dk_at dksX10_sign_0 3 rfl rfl)
theorem dX10_sign_6 : decode cX10_sign 6 = .ok (.iadd, 1) := dk_96 (dk_at dksX10_sign_0 6 rfl rfl)
theorem dX10_sign_7 : decode cX10_sign 7 = .ok (.i2c, 1) := dk_146 (dk_at dksX10_sign_0 7 rfl rfl)
theorem dX10_sign_8 : decode cX10_sign 8 = .ok (.ireturn, 1) := dk_172 (dk_at dksX10_sign_0 8 rfl rfl)
theorem q114 : (Jvm.Cond.initialized "BenchBroker$Bench") ∈ lw_all := lw_g (lw_at lw_m1 29 rfl) rfl
theorem q329 : (Jvm.Cond.sameMethod "BenchBroker$Bench" "BenchBroker$Place" "row" "()I") ∈ lw_all := lw_g (lw_at lw_m2 4 rfl) rfl
theorem q331 : (Jvm.Cond.selects "BenchBroker$Bench" ({ cls := "BenchBroker$Bench", name := "row", desc := "()I" } : Jvm.MethodName) ({ cls := "BenchBroker$Place", name := "row", desc := "()I" } : Jvm.MethodName)) ∈ lw_all := lw_g (lw_at lw_m2 6 rfl) rfl
theorem q335 : (Jvm.Cond.sameMethod "BenchBroker$Bench" "BenchBroker$Place" "column" "()I") ∈ lw_all := lw_g (lw_at lw_m2 10 rfl) rfl
theorem q337 : (Jvm.Cond.selects "BenchBroker$Bench" ({ cls := "BenchBroker$Bench", name := "column", desc := "()I" } : Jvm.MethodName) ({ cls := "BenchBroker$Place", name := "column", desc := "()I" } : Jvm.MethodName)) ∈ lw_all := lw_g (lw_at lw_m2 12 rfl) rfl
theorem q609 : (Jvm.Cond.selects "BenchBroker$Bench" ({ cls := "java/lang/Object", name := "getClass", desc := "()Ljava/lang/Class;" } : Jvm.MethodName) ({ cls := "java/lang/Object", name := "getClass", desc := "()Ljava/lang/Class;" } : Jvm.MethodName)) ∈ lw_all := lw_g (lw_at lw_m3 44 rfl) rfl
theorem q717 : (Jvm.Cond.instanceMethod ({ cls := "BenchBroker$Bench", name := "isLet", desc := "()Z" } : Jvm.MethodName)) ∈ lw_all := lw_g (lw_at lw_m3 152 rfl) rfl
theorem q718 : (Jvm.Cond.selects "BenchBroker$Bench" ({ cls := "BenchBroker$Bench", name := "isLet", desc := "()Z" } : Jvm.MethodName) ({ cls := "BenchBroker$Bench", name := "isLet", desc := "()Z" } : Jvm.MethodName)) ∈ lw_all := lw_g (lw_at lw_m3 153 rfl) rfl
theorem q719 : (Jvm.Cond.code ({ cls := "BenchBroker$Bench", name := "isLet", desc := "()Z" } : Jvm.MethodName) prog_5_method_3_code (1 : Nat) (Option.some Jvm.ClassFile.FieldType.boolean)) ∈ lw_all := lw_g (lw_at lw_m3 154 rfl) rfl
theorem q799 : (Jvm.Cond.instantiable "BenchBroker$Bench" (7 : Nat)) ∈ lw_all := lw_g (lw_at lw_m3 234 rfl) rfl
theorem q801 : (Jvm.Cond.sameMethod "BenchBroker$Bench" "BenchBroker$Item" "index" "()I") ∈ lw_all := lw_g (lw_at lw_m3 236 rfl) rfl
theorem q803 : (Jvm.Cond.selects "BenchBroker$Bench" ({ cls := "BenchBroker$Bench", name := "index", desc := "()I" } : Jvm.MethodName) ({ cls := "BenchBroker$Item", name := "index", desc := "()I" } : Jvm.MethodName)) ∈ lw_all := lw_g (lw_at lw_m3 238 rfl) rfl
theorem q809 : (Jvm.Cond.instanceMethod ({ cls := "BenchBroker$Bench", name := "<init>", desc := "(III)V" } : Jvm.MethodName)) ∈ lw_all := lw_g (lw_at lw_m4 4 rfl) rfl
theorem q810 : (Jvm.Cond.code ({ cls := "BenchBroker$Bench", name := "<init>", desc := "(III)V" } : Jvm.MethodName) prog_5_method_1_code (4 : Nat) (Option.none : Option Jvm.ClassFile.FieldType)) ∈ lw_all := lw_g (lw_at lw_m4 5 rfl) rfl
theorem q811 : (Jvm.Cond.methodLink "BenchBroker$Bench" (1 : Nat) ({ cls := "BenchBroker$Place", name := "<init>", desc := "(III)V" } : Jvm.MethodName)) ∈ lw_all := lw_g (lw_at lw_m4 6 rfl) rfl
theorem q814 : (Jvm.Cond.fieldLink "BenchBroker$Bench" (13 : Nat) "BenchBroker$Bench" "tenant" "LBenchBroker$Tenant;") ∈ lw_all := lw_g (lw_at lw_m4 9 rfl) rfl
theorem q817 : (Jvm.Cond.fieldLink "BenchBroker$Bench" (17 : Nat) "BenchBroker$Bench" "deposit" "I") ∈ lw_all := lw_g (lw_at lw_m4 12 rfl) rfl
theorem q820 : (Jvm.Cond.fieldLink "BenchBroker$Bench" (27 : Nat) "BenchBroker$Bench" "monthsLeft" "I") ∈ lw_all := lw_g (lw_at lw_m4 15 rfl) rfl
theorem q823 : (Jvm.Cond.lays "BenchBroker$Bench" "BenchBroker$Bench" "baseRent" "I") ∈ lw_all := lw_g (lw_at lw_m4 18 rfl) rfl
theorem q824 : (Jvm.Cond.soleField "BenchBroker$Bench" "baseRent") ∈ lw_all := lw_g (lw_at lw_m4 19 rfl) rfl
theorem q825 : (Jvm.Cond.lays "BenchBroker$Bench" "BenchBroker$Bench" "tenant" "LBenchBroker$Tenant;") ∈ lw_all := lw_g (lw_at lw_m4 20 rfl) rfl
theorem q826 : (Jvm.Cond.soleField "BenchBroker$Bench" "tenant") ∈ lw_all := lw_g (lw_at lw_m4 21 rfl) rfl
theorem q827 : (Jvm.Cond.lays "BenchBroker$Bench" "BenchBroker$Bench" "deposit" "I") ∈ lw_all := lw_g (lw_at lw_m4 22 rfl) rfl
theorem q828 : (Jvm.Cond.soleField "BenchBroker$Bench" "deposit") ∈ lw_all := lw_g (lw_at lw_m4 23 rfl) rfl
theorem q829 : (Jvm.Cond.lays "BenchBroker$Bench" "BenchBroker$Bench" "monthsLeft" "I") ∈ lw_all := lw_g (lw_at lw_m4 24 rfl) rfl
theorem q830 : (Jvm.Cond.soleField "BenchBroker$Bench" "monthsLeft") ∈ lw_all := lw_g (lw_at lw_m4 25 rfl) rfl
theorem q831 : (Jvm.Cond.laysFinal "BenchBroker$Bench" "BenchBroker$Place" "row" "I") ∈ lw_all := lw_g (lw_at lw_m4 26 rfl) rfl
theorem q832 : (Jvm.Cond.laysFinal "BenchBroker$Bench" "BenchBroker$Place" "column" "I") ∈ lw_all := lw_g (lw_at lw_m4 27 rfl) rfl
theorem q833 : (Jvm.Cond.laysFinal "BenchBroker$Bench" "BenchBroker$Item" "index" "I") ∈ lw_all := lw_g (lw_at lw_m4 28 rfl) rfl
theorem q834 : (Jvm.Cond.superclass "BenchBroker$Bench" "BenchBroker$Place") ∈ lw_all := lw_g (lw_at lw_m4 29 rfl) rfl
theorem q849 : (Jvm.Cond.fieldLinkNest "BenchBroker$Bench" (21 : Nat) "BenchBroker$Tenant" "bench" "LBenchBroker$Bench;" "BenchBroker") ∈ lw_tbl := lw_at lw_m4 44 rfl
theorem q878 : (Jvm.Cond.instanceMethod ({ cls := "BenchBroker$Bench", name := "end", desc := "()I" } : Jvm.MethodName)) ∈ lw_all := lw_g (lw_at lw_m4 73 rfl) rfl
theorem q879 : (Jvm.Cond.selects "BenchBroker$Bench" ({ cls := "BenchBroker$Bench", name := "end", desc := "()I" } : Jvm.MethodName) ({ cls := "BenchBroker$Bench", name := "end", desc := "()I" } : Jvm.MethodName)) ∈ lw_all := lw_g (lw_at lw_m4 74 rfl) rfl
theorem q880 : (Jvm.Cond.code ({ cls := "BenchBroker$Bench", name := "end", desc := "()I" } : Jvm.MethodName) prog_5_method_4_code (2 : Nat) (Option.some Jvm.ClassFile.FieldType.int)) ∈ lw_all := lw_g (lw_at lw_m4 75 rfl) rfl
theorem q1077 : (Jvm.Cond.selects "BenchBroker$Bench" ({ cls := "BenchBroker$Place", name := "index", desc := "()I" } : Jvm.MethodName) ({ cls := "BenchBroker$Item", name := "index", desc := "()I" } : Jvm.MethodName)) ∈ lw_all := lw_g (lw_at lw_m5 32 rfl) rfl
theorem q1832 : (Jvm.Cond.instanceMethod ({ cls := "BenchBroker$Bench", name := "sign", desc := "()C" } : Jvm.MethodName)) ∈ lw_all := lw_g (lw_at lw_m8 67 rfl) rfl
theorem q1833 : (Jvm.Cond.selects "BenchBroker$Bench" ({ cls := "BenchBroker$Bench", name := "sign", desc := "()C" } : Jvm.MethodName) ({ cls := "BenchBroker$Bench", name := "sign", desc := "()C" } : Jvm.MethodName)) ∈ lw_all := lw_g (lw_at lw_m8 68 rfl) rfl
theorem q1834 : (Jvm.Cond.code ({ cls := "BenchBroker$Bench", name := "sign", desc := "()C" } : Jvm.MethodName) prog_5_method_2_code (1 : Nat) (Option.some Jvm.ClassFile.FieldType.char)) ∈ lw_all := lw_g (lw_at lw_m8 69 rfl) rfl
theorem q1835 : (Jvm.Cond.methodLink "BenchBroker$Bench" (7 : Nat) ({ cls := "BenchBroker$Bench", name := "index", desc := "()I" } : Jvm.MethodName)) ∈ lw_all := lw_g (lw_at lw_m8 70 rfl) rfl
theorem q2737 : (Jvm.Cond.selects "BenchBroker$Bench" ({ cls := "BenchBroker$Place", name := "distanceTo", desc := "(II)I" } : Jvm.MethodName) ({ cls := "BenchBroker$Place", name := "distanceTo", desc := "(II)I" } : Jvm.MethodName)) ∈ lw_all := lw_g (lw_at lw_m12 12 rfl) rfl
theorem q2740 : (Jvm.Cond.selects "BenchBroker$Bench" ({ cls := "BenchBroker$Item", name := "index", desc := "()I" } : Jvm.MethodName) ({ cls := "BenchBroker$Item", name := "index", desc := "()I" } : Jvm.MethodName)) ∈ lw_all := lw_g (lw_at lw_m12 15 rfl) rfl
theorem q2757 : (Jvm.Cond.castable "BenchBroker$Bench" "BenchBroker$Item") ∈ lw_tbl := lw_at lw_m12 32 rfl
theorem q2760 : (Jvm.Cond.castable "BenchBroker$Bench" "BenchBroker$Place") ∈ lw_tbl := lw_at lw_m12 35 rfl
theorem q2776 : (Jvm.Cond.castable "BenchBroker$Bench" "java/lang/Object") ∈ lw_tbl := lw_at lw_m12 51 rfl
theorem in_X10 : ∀ w ∈ wsX100, w ∈ lw_all := lw_in wsX100 [831, 832, 833, 823, 825, 827, 829] (by decide +kernel) (by decide +kernel)
/-! BenchBroker$Tenant -/
set_option maxRecDepth 100000
def RX11 : String := "BenchBroker$Tenant"
def TX11 : u_T := fun k => match k with
  | 0 => ("BenchBroker$Item", "index", "I", true)
  | 1 => ("BenchBroker$Tenant", "coins", "I", false)
  | 2 => ("BenchBroker$Tenant", "defaults", "I", false)
  | _ => ("BenchBroker$Tenant", "bench", "LBenchBroker$Bench;", false)
def tyX11 : Nat → FieldType := fun k => match k with
  | 0 => .int
  | 1 => .int
  | 2 => .int
  | _ => .object "BenchBroker$Bench"
abbrev wsX110 : List Cond := u_ws RX11 TX11 4
theorem nmX11 : ∀ a, a < 4 → ∀ b, b < 4 → a ≠ b → (TX11 a).2.1 ≠ (TX11 b).2.1 := by decide +kernel
theorem tyX11_ok : ∀ k, k < 4 → parseFieldDescriptor (TX11 k).2.2.1 = some (tyX11 k) := by decide +kernel
abbrev cX11_init : ByteArray := prog_17_method_1_code
def yX11_init : MethodName := ⟨RX11, "<init>", "(II)V"⟩
def dkwX11_init_0 : List UInt8 := [42, 27, 183, 0, 3, 42, 28, 181, 0, 9, 177]
abbrev dktX11_init_0 : List UInt8 := dkwX11_init_0 ++ []
theorem dksX11_init_0 : cX11_init.data.toList.drop 0 = dktX11_init_0 := by decide +kernel
theorem dX11_init_0 : decode cX11_init 0 = .ok (.aload_n 0, 1) := dk_42 (dk_at dksX11_init_0 0 rfl rfl)
theorem dX11_init_1 : decode cX11_init 1 = .ok (.iload_n 1, 1) := dk_27 (dk_at dksX11_init_0 1 rfl rfl)
theorem dX11_init_2 : decode cX11_init 2 = .ok (.invokespecial 3, 3) := dk_183 0 3 (dk_at dksX11_init_0 2 rfl rfl)
theorem dX11_init_5 : decode cX11_init 5 = .ok (.aload_n 0, 1) := dk_42 (dk_at dksX11_init_0 5 rfl rfl)
theorem dX11_init_6 : decode cX11_init 6 = .ok (.iload_n 2, 1) := dk_28 (dk_at dksX11_init_0 6 rfl rfl)
theorem dX11_init_7 : decode cX11_init 7 = .ok (.putfield 9, 3) := dk_181 0 9 (dk_at dksX11_init_0 7 rfl rfl)
theorem dX11_init_10 : decode cX11_init 10 = .ok (.return_, 1) := dk_177 (dk_at dksX11_init_0 10 rfl rfl)
abbrev cX11_isBanned : ByteArray := prog_17_method_2_code
def yX11_isBanned : MethodName := ⟨RX11, "isBanned", "()Z"⟩
def dkwX11_isBanned_0 : List UInt8 := [42, 180, 0, 15, 6, 160, 0, 7, 4, 167, 0, 4, 3, 172]
abbrev dktX11_isBanned_0 : List UInt8 := dkwX11_isBanned_0 ++ []
theorem dksX11_isBanned_0 : cX11_isBanned.data.toList.drop 0 = dktX11_isBanned_0 := by decide +kernel
theorem dX11_isBanned_0 : decode cX11_isBanned 0 = .ok (.aload_n 0, 1) := dk_42 (dk_at dksX11_isBanned_0 0 rfl rfl)
theorem dX11_isBanned_1 : decode cX11_isBanned 1 = .ok (.getfield 15, 3) := dk_180 0 15 (dk_at dksX11_isBanned_0 1 rfl rfl)
theorem dX11_isBanned_4 : decode cX11_isBanned 4 = .ok (.iconst 3, 1) := dk_6 (dk_at dksX11_isBanned_0 4 rfl rfl)
theorem dX11_isBanned_5 : decode cX11_isBanned 5 = .ok (.if_icmp .ne 7, 3) := dk_160 0 7 (dk_at dksX11_isBanned_0 5 rfl rfl)
theorem dX11_isBanned_8 : decode cX11_isBanned 8 = .ok (.iconst 1, 1) := dk_4 (dk_at dksX11_isBanned_0 8 rfl rfl)
theorem dX11_isBanned_9 : decode cX11_isBanned 9 = .ok (.goto 4, 3) := dk_167 0 4 (dk_at dksX11_isBanned_0 9 rfl rfl)
theorem dX11_isBanned_12 : decode cX11_isBanned 12 = .ok (.iconst 0, 1) := dk_3 (dk_at dksX11_isBanned_0 12 rfl rfl)
theorem dX11_isBanned_13 : decode cX11_isBanned 13 = .ok (.ireturn, 1) := dk_172 (dk_at dksX11_isBanned_0 13 rfl rfl)
theorem q115 : (Jvm.Cond.initialized "BenchBroker$Tenant") ∈ lw_all := lw_g (lw_at lw_m1 30 rfl) rfl
theorem q618 : (Jvm.Cond.selects "BenchBroker$Tenant" ({ cls := "java/lang/Object", name := "getClass", desc := "()Ljava/lang/Class;" } : Jvm.MethodName) ({ cls := "java/lang/Object", name := "getClass", desc := "()Ljava/lang/Class;" } : Jvm.MethodName)) ∈ lw_all := lw_g (lw_at lw_m3 53 rfl) rfl
theorem q837 : (Jvm.Cond.instantiable "BenchBroker$Tenant" (4 : Nat)) ∈ lw_all := lw_g (lw_at lw_m4 32 rfl) rfl
theorem q839 : (Jvm.Cond.instanceMethod ({ cls := "BenchBroker$Tenant", name := "<init>", desc := "(II)V" } : Jvm.MethodName)) ∈ lw_all := lw_g (lw_at lw_m4 34 rfl) rfl
theorem q840 : (Jvm.Cond.code ({ cls := "BenchBroker$Tenant", name := "<init>", desc := "(II)V" } : Jvm.MethodName) prog_17_method_1_code (3 : Nat) (Option.none : Option Jvm.ClassFile.FieldType)) ∈ lw_all := lw_g (lw_at lw_m4 35 rfl) rfl
theorem q841 : (Jvm.Cond.methodLink "BenchBroker$Tenant" (3 : Nat) ({ cls := "BenchBroker$Item", name := "<init>", desc := "(I)V" } : Jvm.MethodName)) ∈ lw_all := lw_g (lw_at lw_m4 36 rfl) rfl
theorem q842 : (Jvm.Cond.fieldLink "BenchBroker$Tenant" (9 : Nat) "BenchBroker$Tenant" "coins" "I") ∈ lw_all := lw_g (lw_at lw_m4 37 rfl) rfl
theorem q845 : (Jvm.Cond.fieldLink "BenchBroker$Tenant" (15 : Nat) "BenchBroker$Tenant" "defaults" "I") ∈ lw_all := lw_g (lw_at lw_m4 40 rfl) rfl
theorem q851 : (Jvm.Cond.lays "BenchBroker$Tenant" "BenchBroker$Tenant" "coins" "I") ∈ lw_all := lw_g (lw_at lw_m4 46 rfl) rfl
theorem q852 : (Jvm.Cond.soleField "BenchBroker$Tenant" "coins") ∈ lw_all := lw_g (lw_at lw_m4 47 rfl) rfl
theorem q853 : (Jvm.Cond.lays "BenchBroker$Tenant" "BenchBroker$Tenant" "defaults" "I") ∈ lw_all := lw_g (lw_at lw_m4 48 rfl) rfl
theorem q854 : (Jvm.Cond.soleField "BenchBroker$Tenant" "defaults") ∈ lw_all := lw_g (lw_at lw_m4 49 rfl) rfl
theorem q855 : (Jvm.Cond.lays "BenchBroker$Tenant" "BenchBroker$Tenant" "bench" "LBenchBroker$Bench;") ∈ lw_all := lw_g (lw_at lw_m4 50 rfl) rfl
theorem q856 : (Jvm.Cond.soleField "BenchBroker$Tenant" "bench") ∈ lw_all := lw_g (lw_at lw_m4 51 rfl) rfl
theorem q857 : (Jvm.Cond.laysFinal "BenchBroker$Tenant" "BenchBroker$Item" "index" "I") ∈ lw_all := lw_g (lw_at lw_m4 52 rfl) rfl
theorem q858 : (Jvm.Cond.superclass "BenchBroker$Tenant" "BenchBroker$Item") ∈ lw_all := lw_g (lw_at lw_m4 53 rfl) rfl
theorem q1112 : (Jvm.Cond.instanceMethod ({ cls := "BenchBroker$Tenant", name := "isBanned", desc := "()Z" } : Jvm.MethodName)) ∈ lw_all := lw_g (lw_at lw_m5 67 rfl) rfl
theorem q1113 : (Jvm.Cond.selects "BenchBroker$Tenant" ({ cls := "BenchBroker$Tenant", name := "isBanned", desc := "()Z" } : Jvm.MethodName) ({ cls := "BenchBroker$Tenant", name := "isBanned", desc := "()Z" } : Jvm.MethodName)) ∈ lw_all := lw_g (lw_at lw_m5 68 rfl) rfl
theorem q1114 : (Jvm.Cond.code ({ cls := "BenchBroker$Tenant", name := "isBanned", desc := "()Z" } : Jvm.MethodName) prog_17_method_2_code (1 : Nat) (Option.some Jvm.ClassFile.FieldType.boolean)) ∈ lw_all := lw_g (lw_at lw_m5 69 rfl) rfl
theorem q1117 : (Jvm.Cond.sameMethod "BenchBroker$Tenant" "BenchBroker$Item" "index" "()I") ∈ lw_all := lw_g (lw_at lw_m5 72 rfl) rfl
theorem q1118 : (Jvm.Cond.selects "BenchBroker$Tenant" ({ cls := "BenchBroker$Tenant", name := "index", desc := "()I" } : Jvm.MethodName) ({ cls := "BenchBroker$Item", name := "index", desc := "()I" } : Jvm.MethodName)) ∈ lw_all := lw_g (lw_at lw_m5 73 rfl) rfl
theorem q2742 : (Jvm.Cond.selects "BenchBroker$Tenant" ({ cls := "BenchBroker$Item", name := "index", desc := "()I" } : Jvm.MethodName) ({ cls := "BenchBroker$Item", name := "index", desc := "()I" } : Jvm.MethodName)) ∈ lw_all := lw_g (lw_at lw_m12 17 rfl) rfl
theorem q2759 : (Jvm.Cond.castable "BenchBroker$Tenant" "BenchBroker$Item") ∈ lw_tbl := lw_at lw_m12 34 rfl
theorem q2777 : (Jvm.Cond.castable "BenchBroker$Tenant" "java/lang/Object") ∈ lw_tbl := lw_at lw_m12 52 rfl
theorem in_X11 : ∀ w ∈ wsX110, w ∈ lw_all := lw_in wsX110 [857, 851, 853, 855] (by decide +kernel) (by decide +kernel)
/-! BenchBroker$Rejection -/
set_option maxRecDepth 100000
def RX12 : String := "BenchBroker$Rejection"
def TX12 : u_T := fun k => match k with
  | 0 => ("java/lang/Throwable", "cause", "Ljava/lang/Throwable;", false)
  | 1 => ("java/lang/Throwable", "stackTrace", "[Ljava/lang/StackTraceElement;", false)
  | 2 => ("java/lang/Throwable", "suppressedExceptions", "Ljava/util/List;", false)
  | 3 => ("java/lang/Throwable", "detailMessage", "Ljava/lang/String;", false)
  | 4 => ("java/lang/Throwable", "backtrace", "Ljava/lang/Object;", false)
  | 5 => ("java/lang/Throwable", "depth", "I", false)
  | 6 => ("BenchBroker$Rejection", "reason", "I", true)
  | 7 => ("BenchBroker$Rejection", "detail", "I", true)
  | _ => ("BenchBroker$Rejection", "cause", "I", true)
def tyX12 : Nat → FieldType := fun k => match k with
  | 0 => .object "java/lang/Throwable"
  | 1 => .array (.object "java/lang/StackTraceElement")
  | 2 => .object "java/util/List"
  | 3 => .object "java/lang/String"
  | 4 => .object "java/lang/Object"
  | 5 => .int
  | 6 => .int
  | 7 => .int
  | _ => .int
abbrev wsX120 : List Cond := u_ws RX12 TX12 9
-- two fields of one name: no nmX12
theorem tyX12_ok : ∀ k, k < 9 → parseFieldDescriptor (TX12 k).2.2.1 = some (tyX12 k) := by decide +kernel
abbrev cX12_init : ByteArray := prog_15_method_1_code
def yX12_init : MethodName := ⟨RX12, "<init>", "(II)V"⟩
def dkwX12_init_0 : List UInt8 := [42, 27, 28, 3, 183, 0, 1, 177]
abbrev dktX12_init_0 : List UInt8 := dkwX12_init_0 ++ []
theorem dksX12_init_0 : cX12_init.data.toList.drop 0 = dktX12_init_0 := by decide +kernel
theorem dX12_init_0 : decode cX12_init 0 = .ok (.aload_n 0, 1) := dk_42 (dk_at dksX12_init_0 0 rfl rfl)
theorem dX12_init_1 : decode cX12_init 1 = .ok (.iload_n 1, 1) := dk_27 (dk_at dksX12_init_0 1 rfl rfl)
theorem dX12_init_2 : decode cX12_init 2 = .ok (.iload_n 2, 1) := dk_28 (dk_at dksX12_init_0 2 rfl rfl)
theorem dX12_init_3 : decode cX12_init 3 = .ok (.iconst 0, 1) := dk_3 (dk_at dksX12_init_0 3 rfl rfl)
theorem dX12_init_4 : decode cX12_init 4 = .ok (.invokespecial 1, 3) := dk_183 0 1 (dk_at dksX12_init_0 4 rfl rfl)
theorem dX12_init_7 : decode cX12_init 7 = .ok (.return_, 1) := dk_177 (dk_at dksX12_init_0 7 rfl rfl)
abbrev cX12_init_2 : ByteArray := prog_15_method_2_code
def yX12_init_2 : MethodName := ⟨RX12, "<init>", "(III)V"⟩
def dkwX12_init_2_0 : List UInt8 := [42, 183, 0, 7, 42, 27, 181, 0, 12, 42, 28, 181, 0, 16, 42, 29, 181, 0, 19, 177]
abbrev dktX12_init_2_0 : List UInt8 := dkwX12_init_2_0 ++ []
theorem dksX12_init_2_0 : cX12_init_2.data.toList.drop 0 = dktX12_init_2_0 := by decide +kernel
theorem dX12_init_2_0 : decode cX12_init_2 0 = .ok (.aload_n 0, 1) := dk_42 (dk_at dksX12_init_2_0 0 rfl rfl)
theorem dX12_init_2_1 : decode cX12_init_2 1 = .ok (.invokespecial 7, 3) := dk_183 0 7 (dk_at dksX12_init_2_0 1 rfl rfl)
theorem dX12_init_2_4 : decode cX12_init_2 4 = .ok (.aload_n 0, 1) := dk_42 (dk_at dksX12_init_2_0 4 rfl rfl)
theorem dX12_init_2_5 : decode cX12_init_2 5 = .ok (.iload_n 1, 1) := dk_27 (dk_at dksX12_init_2_0 5 rfl rfl)
theorem dX12_init_2_6 : decode cX12_init_2 6 = .ok (.putfield 12, 3) := dk_181 0 12 (dk_at dksX12_init_2_0 6 rfl rfl)
theorem dX12_init_2_9 : decode cX12_init_2 9 = .ok (.aload_n 0, 1) := dk_42 (dk_at dksX12_init_2_0 9 rfl rfl)
theorem dX12_init_2_10 : decode cX12_init_2 10 = .ok (.iload_n 2, 1) := dk_28 (dk_at dksX12_init_2_0 10 rfl rfl)
theorem dX12_init_2_11 : decode cX12_init_2 11 = .ok (.putfield 16, 3) := dk_181 0 16 (dk_at dksX12_init_2_0 11 rfl rfl)
theorem dX12_init_2_14 : decode cX12_init_2 14 = .ok (.aload_n 0, 1) := dk_42 (dk_at dksX12_init_2_0 14 rfl rfl)
theorem dX12_init_2_15 : decode cX12_init_2 15 = .ok (.iload_n 3, 1) := dk_29 (dk_at dksX12_init_2_0 15 rfl rfl)
theorem dX12_init_2_16 : decode cX12_init_2 16 = .ok (.putfield 19, 3) := dk_181 0 19 (dk_at dksX12_init_2_0 16 rfl rfl)
theorem dX12_init_2_19 : decode cX12_init_2 19 = .ok (.return_, 1) := dk_177 (dk_at dksX12_init_2_0 19 rfl rfl)
theorem q116 : (Jvm.Cond.initialized "BenchBroker$Rejection") ∈ lw_all := lw_g (lw_at lw_m1 31 rfl) rfl
theorem q558 : (Jvm.Cond.selects "BenchBroker$Rejection" ({ cls := "java/lang/Throwable", name := "fillInStackTrace", desc := "()Ljava/lang/Throwable;" } : Jvm.MethodName) ({ cls := "java/lang/Throwable", name := "fillInStackTrace", desc := "()Ljava/lang/Throwable;" } : Jvm.MethodName)) ∈ lw_all := lw_g (lw_at lw_m2 233 rfl) rfl
theorem q616 : (Jvm.Cond.selects "BenchBroker$Rejection" ({ cls := "java/lang/Object", name := "getClass", desc := "()Ljava/lang/Class;" } : Jvm.MethodName) ({ cls := "java/lang/Object", name := "getClass", desc := "()Ljava/lang/Class;" } : Jvm.MethodName)) ∈ lw_all := lw_g (lw_at lw_m3 51 rfl) rfl
theorem q1036 : (Jvm.Cond.instantiable "BenchBroker$Rejection" (9 : Nat)) ∈ lw_all := lw_g (lw_at lw_m4 231 rfl) rfl
theorem q1037 : (Jvm.Cond.castable "BenchBroker$Rejection" "BenchBroker$Rejection") ∈ lw_tbl := lw_at lw_m4 232 rfl
theorem q1038 : (Jvm.Cond.selects "BenchBroker$Rejection" ({ cls := "java/lang/Throwable", name := "fillInStackTrace", desc := "(I)Ljava/lang/Throwable;" } : Jvm.MethodName) ({ cls := "java/lang/Throwable", name := "fillInStackTrace", desc := "(I)Ljava/lang/Throwable;" } : Jvm.MethodName)) ∈ lw_all := lw_g (lw_at lw_m4 233 rfl) rfl
theorem q1039 : (Jvm.Cond.lays "BenchBroker$Rejection" "java/lang/Throwable" "cause" "Ljava/lang/Throwable;") ∈ lw_all := lw_g (lw_at lw_m4 234 rfl) rfl
theorem q1040 : (Jvm.Cond.lays "BenchBroker$Rejection" "java/lang/Throwable" "stackTrace" "[Ljava/lang/StackTraceElement;") ∈ lw_all := lw_g (lw_at lw_m4 235 rfl) rfl
theorem q1041 : (Jvm.Cond.lays "BenchBroker$Rejection" "java/lang/Throwable" "suppressedExceptions" "Ljava/util/List;") ∈ lw_all := lw_g (lw_at lw_m4 236 rfl) rfl
theorem q1042 : (Jvm.Cond.lays "BenchBroker$Rejection" "java/lang/Throwable" "detailMessage" "Ljava/lang/String;") ∈ lw_all := lw_g (lw_at lw_m4 237 rfl) rfl
theorem q1043 : (Jvm.Cond.lays "BenchBroker$Rejection" "java/lang/Throwable" "backtrace" "Ljava/lang/Object;") ∈ lw_all := lw_g (lw_at lw_m4 238 rfl) rfl
theorem q1045 : (Jvm.Cond.instanceMethod ({ cls := "BenchBroker$Rejection", name := "<init>", desc := "(II)V" } : Jvm.MethodName)) ∈ lw_all := lw_g (lw_at lw_m5 0 rfl) rfl
theorem q1046 : (Jvm.Cond.code ({ cls := "BenchBroker$Rejection", name := "<init>", desc := "(II)V" } : Jvm.MethodName) prog_15_method_1_code (3 : Nat) (Option.none : Option Jvm.ClassFile.FieldType)) ∈ lw_all := lw_g (lw_at lw_m5 1 rfl) rfl
theorem q1047 : (Jvm.Cond.methodLink "BenchBroker$Rejection" (1 : Nat) ({ cls := "BenchBroker$Rejection", name := "<init>", desc := "(III)V" } : Jvm.MethodName)) ∈ lw_all := lw_g (lw_at lw_m5 2 rfl) rfl
theorem q1048 : (Jvm.Cond.instanceMethod ({ cls := "BenchBroker$Rejection", name := "<init>", desc := "(III)V" } : Jvm.MethodName)) ∈ lw_all := lw_g (lw_at lw_m5 3 rfl) rfl
theorem q1049 : (Jvm.Cond.code ({ cls := "BenchBroker$Rejection", name := "<init>", desc := "(III)V" } : Jvm.MethodName) prog_15_method_2_code (4 : Nat) (Option.none : Option Jvm.ClassFile.FieldType)) ∈ lw_all := lw_g (lw_at lw_m5 4 rfl) rfl
theorem q1050 : (Jvm.Cond.methodLink "BenchBroker$Rejection" (7 : Nat) ({ cls := "java/lang/Exception", name := "<init>", desc := "()V" } : Jvm.MethodName)) ∈ lw_all := lw_g (lw_at lw_m5 5 rfl) rfl
theorem q1051 : (Jvm.Cond.fieldLink "BenchBroker$Rejection" (12 : Nat) "BenchBroker$Rejection" "reason" "I") ∈ lw_all := lw_g (lw_at lw_m5 6 rfl) rfl
theorem q1053 : (Jvm.Cond.fieldLink "BenchBroker$Rejection" (16 : Nat) "BenchBroker$Rejection" "detail" "I") ∈ lw_all := lw_g (lw_at lw_m5 8 rfl) rfl
theorem q1055 : (Jvm.Cond.fieldLink "BenchBroker$Rejection" (19 : Nat) "BenchBroker$Rejection" "cause" "I") ∈ lw_all := lw_g (lw_at lw_m5 10 rfl) rfl
theorem q1057 : (Jvm.Cond.laysFinal "BenchBroker$Rejection" "BenchBroker$Rejection" "reason" "I") ∈ lw_all := lw_g (lw_at lw_m5 12 rfl) rfl
theorem q1058 : (Jvm.Cond.soleField "BenchBroker$Rejection" "reason") ∈ lw_all := lw_g (lw_at lw_m5 13 rfl) rfl
theorem q1059 : (Jvm.Cond.laysFinal "BenchBroker$Rejection" "BenchBroker$Rejection" "detail" "I") ∈ lw_all := lw_g (lw_at lw_m5 14 rfl) rfl
theorem q1060 : (Jvm.Cond.soleField "BenchBroker$Rejection" "detail") ∈ lw_all := lw_g (lw_at lw_m5 15 rfl) rfl
theorem q1061 : (Jvm.Cond.laysFinal "BenchBroker$Rejection" "BenchBroker$Rejection" "cause" "I") ∈ lw_all := lw_g (lw_at lw_m5 16 rfl) rfl
theorem q1062 : (Jvm.Cond.soleField "BenchBroker$Rejection" "cause") ∈ lw_all := lw_g (lw_at lw_m5 17 rfl) rfl
theorem q1063 : (Jvm.Cond.lays "BenchBroker$Rejection" "java/lang/Throwable" "depth" "I") ∈ lw_all := lw_g (lw_at lw_m5 18 rfl) rfl
theorem q1064 : (Jvm.Cond.superclass "BenchBroker$Rejection" "java/lang/Exception") ∈ lw_all := lw_g (lw_at lw_m5 19 rfl) rfl
theorem q2778 : (Jvm.Cond.castable "BenchBroker$Rejection" "java/lang/Object") ∈ lw_tbl := lw_at lw_m12 53 rfl
theorem in_X12 : ∀ w ∈ wsX120, w ∈ lw_all := lw_in wsX120 [1039, 1040, 1041, 1042, 1043, 1063, 1057, 1059, 1061] (by decide +kernel) (by decide +kernel)
/-! BenchBroker$PlainAction -/
set_option maxRecDepth 100000
def RX13 : String := "BenchBroker$PlainAction"
def TX13 : u_T := fun k => match k with
  | 0 => ("BenchBroker$Action", "first", "I", true)
  | 1 => ("BenchBroker$Action", "second", "I", true)
  | 2 => ("BenchBroker$Action", "third", "I", true)
  | _ => ("BenchBroker$PlainAction", "kind", "C", true)
def tyX13 : Nat → FieldType := fun k => match k with
  | 0 => .int
  | 1 => .int
  | 2 => .int
  | _ => .char
abbrev wsX130 : List Cond := u_ws RX13 TX13 4
theorem nmX13 : ∀ a, a < 4 → ∀ b, b < 4 → a ≠ b → (TX13 a).2.1 ≠ (TX13 b).2.1 := by decide +kernel
theorem tyX13_ok : ∀ k, k < 4 → parseFieldDescriptor (TX13 k).2.2.1 = some (tyX13 k) := by decide +kernel
abbrev cX13_run : ByteArray := prog_13_method_3_code
def yX13_run : MethodName := ⟨RX13, "run", "(LBenchBroker$Park;)I"⟩
def dkwX13_run_4 : List UInt8 := [182, 0, 61, 172]
abbrev dktX13_run_4 : List UInt8 := dkwX13_run_4 ++ []
def dkwX13_run_3 : List UInt8 := [184, 0, 53, 167, 0, 22, 43, 42, 182, 0, 31, 182, 0, 57, 167, 0, 11, 43, 42, 182, 0, 31]
abbrev dktX13_run_3 : List UInt8 := dkwX13_run_3 ++ dktX13_run_4
def dkwX13_run_2 : List UInt8 := [43, 42, 182, 0, 21, 42, 182, 0, 31, 182, 0, 46, 167, 0, 36, 43, 42, 182, 0, 21, 182, 0, 50]
abbrev dktX13_run_2 : List UInt8 := dkwX13_run_2 ++ dktX13_run_3
def dkwX13_run_1 : List UInt8 := [171, 0, 0, 0, 0, 0, 0, 76, 0, 0, 0, 3, 0, 0, 0, 103, 0, 0, 0, 36, 0, 0, 0, 110, 0, 0, 0, 65, 0, 0, 0, 115, 0, 0, 0, 51]
abbrev dktX13_run_1 : List UInt8 := dkwX13_run_1 ++ dktX13_run_2
def dkwX13_run_0 : List UInt8 := [42, 180, 0, 9]
abbrev dktX13_run_0 : List UInt8 := dkwX13_run_0 ++ dktX13_run_1
theorem dksX13_run_0 : cX13_run.data.toList.drop 0 = dktX13_run_0 := by decide +kernel
theorem dksX13_run_1 : cX13_run.data.toList.drop 4 = dktX13_run_1 := dk_seg dksX13_run_0 4 rfl rfl
theorem dksX13_run_2 : cX13_run.data.toList.drop 40 = dktX13_run_2 := dk_seg dksX13_run_1 36 rfl rfl
theorem dksX13_run_3 : cX13_run.data.toList.drop 63 = dktX13_run_3 := dk_seg dksX13_run_2 23 rfl rfl
theorem dksX13_run_4 : cX13_run.data.toList.drop 85 = dktX13_run_4 := dk_seg dksX13_run_3 22 rfl rfl
theorem dX13_run_0 : decode cX13_run 0 = .ok (.aload_n 0, 1) := dk_42 (dk_at dksX13_run_0 0 rfl rfl)
theorem dX13_run_1 : decode cX13_run 1 = .ok (.getfield 9, 3) := dk_180 0 9 (dk_at dksX13_run_0 1 rfl rfl)
theorem dX13_run_4 : decode cX13_run 4 = .ok (.lookupswitch 76 #[(103, 36), (110, 65), (115, 51)], 36) := by decide +kernel
theorem dX13_run_40 : decode cX13_run 40 = .ok (.aload_n 1, 1) := dk_43 (dk_at dksX13_run_2 0 rfl rfl)
theorem dX13_run_41 : decode cX13_run 41 = .ok (.aload_n 0, 1) := dk_42 (dk_at dksX13_run_2 1 rfl rfl)
theorem dX13_run_42 : decode cX13_run 42 = .ok (.invokevirtual 21, 3) := dk_182 0 21 (dk_at dksX13_run_2 2 rfl rfl)
theorem dX13_run_45 : decode cX13_run 45 = .ok (.aload_n 0, 1) := dk_42 (dk_at dksX13_run_2 5 rfl rfl)
theorem dX13_run_46 : decode cX13_run 46 = .ok (.invokevirtual 31, 3) := dk_182 0 31 (dk_at dksX13_run_2 6 rfl rfl)
theorem dX13_run_49 : decode cX13_run 49 = .ok (.invokevirtual 46, 3) := dk_182 0 46 (dk_at dksX13_run_2 9 rfl rfl)
theorem dX13_run_52 : decode cX13_run 52 = .ok (.goto 36, 3) := dk_167 0 36 (dk_at dksX13_run_2 12 rfl rfl)
theorem dX13_run_55 : decode cX13_run 55 = .ok (.aload_n 1, 1) := dk_43 (dk_at dksX13_run_2 15 rfl rfl)
theorem dX13_run_56 : decode cX13_run 56 = .ok (.aload_n 0, 1) := dk_42 (dk_at dksX13_run_2 16 rfl rfl)
theorem dX13_run_57 : decode cX13_run 57 = .ok (.invokevirtual 21, 3) := dk_182 0 21 (dk_at dksX13_run_2 17 rfl rfl)
theorem dX13_run_60 : decode cX13_run 60 = .ok (.invokevirtual 50, 3) := dk_182 0 50 (dk_at dksX13_run_2 20 rfl rfl)
theorem dX13_run_63 : decode cX13_run 63 = .ok (.invokestatic 53, 3) := dk_184 0 53 (dk_at dksX13_run_3 0 rfl rfl)
theorem dX13_run_66 : decode cX13_run 66 = .ok (.goto 22, 3) := dk_167 0 22 (dk_at dksX13_run_3 3 rfl rfl)
theorem dX13_run_69 : decode cX13_run 69 = .ok (.aload_n 1, 1) := dk_43 (dk_at dksX13_run_3 6 rfl rfl)
theorem dX13_run_70 : decode cX13_run 70 = .ok (.aload_n 0, 1) := dk_42 (dk_at dksX13_run_3 7 rfl rfl)
theorem dX13_run_71 : decode cX13_run 71 = .ok (.invokevirtual 31, 3) := dk_182 0 31 (dk_at dksX13_run_3 8 rfl rfl)
theorem dX13_run_74 : decode cX13_run 74 = .ok (.invokevirtual 57, 3) := dk_182 0 57 (dk_at dksX13_run_3 11 rfl rfl)
theorem dX13_run_77 : decode cX13_run 77 = .ok (.goto 11, 3) := dk_167 0 11 (dk_at dksX13_run_3 14 rfl rfl)
theorem dX13_run_80 : decode cX13_run 80 = .ok (.aload_n 1, 1) := dk_43 (dk_at dksX13_run_3 17 rfl rfl)
theorem dX13_run_81 : decode cX13_run 81 = .ok (.aload_n 0, 1) := dk_42 (dk_at dksX13_run_3 18 rfl rfl)
theorem dX13_run_82 : decode cX13_run 82 = .ok (.invokevirtual 31, 3) := dk_182 0 31 (dk_at dksX13_run_3 19 rfl rfl)
theorem dX13_run_85 : decode cX13_run 85 = .ok (.invokevirtual 61, 3) := dk_182 0 61 (dk_at dksX13_run_4 0 rfl rfl)
theorem dX13_run_88 : decode cX13_run 88 = .ok (.ireturn, 1) := dk_172 (dk_at dksX13_run_4 3 rfl rfl)
abbrev cX13_init : ByteArray := prog_13_method_1_code
def yX13_init : MethodName := ⟨RX13, "<init>", "(CII)V"⟩
def dkwX13_init_0 : List UInt8 := [42, 28, 2, 29, 183, 0, 3, 42, 27, 181, 0, 9, 177]
abbrev dktX13_init_0 : List UInt8 := dkwX13_init_0 ++ []
theorem dksX13_init_0 : cX13_init.data.toList.drop 0 = dktX13_init_0 := by decide +kernel
theorem dX13_init_0 : decode cX13_init 0 = .ok (.aload_n 0, 1) := dk_42 (dk_at dksX13_init_0 0 rfl rfl)
theorem dX13_init_1 : decode cX13_init 1 = .ok (.iload_n 2, 1) := dk_28 (dk_at dksX13_init_0 1 rfl rfl)
theorem dX13_init_2 : decode cX13_init 2 = .ok (.iconst (-1), 1) := dk_2 (dk_at dksX13_init_0 2 rfl rfl)
theorem dX13_init_3 : decode cX13_init 3 = .ok (.iload_n 3, 1) := dk_29 (dk_at dksX13_init_0 3 rfl rfl)
theorem dX13_init_4 : decode cX13_init 4 = .ok (.invokespecial 3, 3) := dk_183 0 3 (dk_at dksX13_init_0 4 rfl rfl)
theorem dX13_init_7 : decode cX13_init 7 = .ok (.aload_n 0, 1) := dk_42 (dk_at dksX13_init_0 7 rfl rfl)
theorem dX13_init_8 : decode cX13_init 8 = .ok (.iload_n 1, 1) := dk_27 (dk_at dksX13_init_0 8 rfl rfl)
theorem dX13_init_9 : decode cX13_init 9 = .ok (.putfield 9, 3) := dk_181 0 9 (dk_at dksX13_init_0 9 rfl rfl)
theorem dX13_init_12 : decode cX13_init 12 = .ok (.return_, 1) := dk_177 (dk_at dksX13_init_0 12 rfl rfl)
abbrev cX13_isAccepted : ByteArray := prog_13_method_2_code
def yX13_isAccepted : MethodName := ⟨RX13, "isAccepted", "(LBenchBroker$Park;)Z"⟩
def dkwX13_isAccepted_4 : List UInt8 := [182, 0, 31, 184, 0, 40, 167, 0, 10, 42, 182, 0, 31, 184, 0, 43, 172]
abbrev dktX13_isAccepted_4 : List UInt8 := dkwX13_isAccepted_4 ++ []
def dkwX13_isAccepted_3 : List UInt8 := [4, 167, 0, 38, 3, 167, 0, 34, 43, 180, 0, 37, 42, 182, 0, 21, 182, 0, 25, 167, 0, 20, 42]
abbrev dktX13_isAccepted_3 : List UInt8 := dkwX13_isAccepted_3 ++ dktX13_isAccepted_4
def dkwX13_isAccepted_2 : List UInt8 := [43, 180, 0, 15, 42, 182, 0, 21, 182, 0, 25, 153, 0, 17, 42, 182, 0, 31, 184, 0, 34, 153, 0, 7]
abbrev dktX13_isAccepted_2 : List UInt8 := dkwX13_isAccepted_2 ++ dktX13_isAccepted_3
def dkwX13_isAccepted_1 : List UInt8 := [171, 0, 0, 0, 0, 0, 0, 92, 0, 0, 0, 3, 0, 0, 0, 103, 0, 0, 0, 36, 0, 0, 0, 110, 0, 0, 0, 82, 0, 0, 0, 115, 0, 0, 0, 68]
abbrev dktX13_isAccepted_1 : List UInt8 := dkwX13_isAccepted_1 ++ dktX13_isAccepted_2
def dkwX13_isAccepted_0 : List UInt8 := [42, 180, 0, 9]
abbrev dktX13_isAccepted_0 : List UInt8 := dkwX13_isAccepted_0 ++ dktX13_isAccepted_1
theorem dksX13_isAccepted_0 : cX13_isAccepted.data.toList.drop 0 = dktX13_isAccepted_0 := by decide +kernel
theorem dksX13_isAccepted_1 : cX13_isAccepted.data.toList.drop 4 = dktX13_isAccepted_1 := dk_seg dksX13_isAccepted_0 4 rfl rfl
theorem dksX13_isAccepted_2 : cX13_isAccepted.data.toList.drop 40 = dktX13_isAccepted_2 := dk_seg dksX13_isAccepted_1 36 rfl rfl
theorem dksX13_isAccepted_3 : cX13_isAccepted.data.toList.drop 64 = dktX13_isAccepted_3 := dk_seg dksX13_isAccepted_2 24 rfl rfl
theorem dksX13_isAccepted_4 : cX13_isAccepted.data.toList.drop 87 = dktX13_isAccepted_4 := dk_seg dksX13_isAccepted_3 23 rfl rfl
theorem dX13_isAccepted_0 : decode cX13_isAccepted 0 = .ok (.aload_n 0, 1) := dk_42 (dk_at dksX13_isAccepted_0 0 rfl rfl)
theorem dX13_isAccepted_1 : decode cX13_isAccepted 1 = .ok (.getfield 9, 3) := dk_180 0 9 (dk_at dksX13_isAccepted_0 1 rfl rfl)
theorem dX13_isAccepted_4 : decode cX13_isAccepted 4 = .ok (.lookupswitch 92 #[(103, 36), (110, 82), (115, 68)], 36) := by decide +kernel
theorem dX13_isAccepted_40 : decode cX13_isAccepted 40 = .ok (.aload_n 1, 1) := dk_43 (dk_at dksX13_isAccepted_2 0 rfl rfl)
theorem dX13_isAccepted_41 : decode cX13_isAccepted 41 = .ok (.getfield 15, 3) := dk_180 0 15 (dk_at dksX13_isAccepted_2 1 rfl rfl)
theorem dX13_isAccepted_44 : decode cX13_isAccepted 44 = .ok (.aload_n 0, 1) := dk_42 (dk_at dksX13_isAccepted_2 4 rfl rfl)
theorem dX13_isAccepted_45 : decode cX13_isAccepted 45 = .ok (.invokevirtual 21, 3) := dk_182 0 21 (dk_at dksX13_isAccepted_2 5 rfl rfl)
theorem dX13_isAccepted_48 : decode cX13_isAccepted 48 = .ok (.invokevirtual 25, 3) := dk_182 0 25 (dk_at dksX13_isAccepted_2 8 rfl rfl)
theorem dX13_isAccepted_51 : decode cX13_isAccepted 51 = .ok (.ifCond .eq 17, 3) := dk_153 0 17 (dk_at dksX13_isAccepted_2 11 rfl rfl)
theorem dX13_isAccepted_54 : decode cX13_isAccepted 54 = .ok (.aload_n 0, 1) := dk_42 (dk_at dksX13_isAccepted_2 14 rfl rfl)
theorem dX13_isAccepted_55 : decode cX13_isAccepted 55 = .ok (.invokevirtual 31, 3) := dk_182 0 31 (dk_at dksX13_isAccepted_2 15 rfl rfl)
theorem dX13_isAccepted_58 : decode cX13_isAccepted 58 = .ok (.invokestatic 34, 3) := dk_184 0 34 (dk_at dksX13_isAccepted_2 18 rfl rfl)
theorem dX13_isAccepted_61 : decode cX13_isAccepted 61 = .ok (.ifCond .eq 7, 3) := dk_153 0 7 (dk_at dksX13_isAccepted_2 21 rfl rfl)
theorem dX13_isAccepted_64 : decode cX13_isAccepted 64 = .ok (.iconst 1, 1) := dk_4 (dk_at dksX13_isAccepted_3 0 rfl rfl)
theorem dX13_isAccepted_65 : decode cX13_isAccepted 65 = .ok (.goto 38, 3) := dk_167 0 38 (dk_at dksX13_isAccepted_3 1 rfl rfl)
theorem dX13_isAccepted_68 : decode cX13_isAccepted 68 = .ok (.iconst 0, 1) := dk_3 (dk_at dksX13_isAccepted_3 4 rfl rfl)
theorem dX13_isAccepted_69 : decode cX13_isAccepted 69 = .ok (.goto 34, 3) := dk_167 0 34 (dk_at dksX13_isAccepted_3 5 rfl rfl)
theorem dX13_isAccepted_72 : decode cX13_isAccepted 72 = .ok (.aload_n 1, 1) := dk_43 (dk_at dksX13_isAccepted_3 8 rfl rfl)
theorem dX13_isAccepted_73 : decode cX13_isAccepted 73 = .ok (.getfield 37, 3) := dk_180 0 37 (dk_at dksX13_isAccepted_3 9 rfl rfl)
theorem dX13_isAccepted_76 : decode cX13_isAccepted 76 = .ok (.aload_n 0, 1) := dk_42 (dk_at dksX13_isAccepted_3 12 rfl rfl)
theorem dX13_isAccepted_77 : decode cX13_isAccepted 77 = .ok (.invokevirtual 21, 3) := dk_182 0 21 (dk_at dksX13_isAccepted_3 13 rfl rfl)
theorem dX13_isAccepted_80 : decode cX13_isAccepted 80 = .ok (.invokevirtual 25, 3) := dk_182 0 25 (dk_at dksX13_isAccepted_3 16 rfl rfl)
theorem dX13_isAccepted_83 : decode cX13_isAccepted 83 = .ok (.goto 20, 3) := dk_167 0 20 (dk_at dksX13_isAccepted_3 19 rfl rfl)
theorem dX13_isAccepted_86 : decode cX13_isAccepted 86 = .ok (.aload_n 0, 1) := dk_42 (dk_at dksX13_isAccepted_3 22 rfl rfl)
theorem dX13_isAccepted_87 : decode cX13_isAccepted 87 = .ok (.invokevirtual 31, 3) := dk_182 0 31 (dk_at dksX13_isAccepted_4 0 rfl rfl)
theorem dX13_isAccepted_90 : decode cX13_isAccepted 90 = .ok (.invokestatic 40, 3) := dk_184 0 40 (dk_at dksX13_isAccepted_4 3 rfl rfl)
theorem dX13_isAccepted_93 : decode cX13_isAccepted 93 = .ok (.goto 10, 3) := dk_167 0 10 (dk_at dksX13_isAccepted_4 6 rfl rfl)
theorem dX13_isAccepted_96 : decode cX13_isAccepted 96 = .ok (.aload_n 0, 1) := dk_42 (dk_at dksX13_isAccepted_4 9 rfl rfl)
theorem dX13_isAccepted_97 : decode cX13_isAccepted 97 = .ok (.invokevirtual 31, 3) := dk_182 0 31 (dk_at dksX13_isAccepted_4 10 rfl rfl)
theorem dX13_isAccepted_100 : decode cX13_isAccepted 100 = .ok (.invokestatic 43, 3) := dk_184 0 43 (dk_at dksX13_isAccepted_4 13 rfl rfl)
theorem dX13_isAccepted_103 : decode cX13_isAccepted 103 = .ok (.ireturn, 1) := dk_172 (dk_at dksX13_isAccepted_4 16 rfl rfl)
theorem q118 : (Jvm.Cond.initialized "BenchBroker$PlainAction") ∈ lw_all := lw_g (lw_at lw_m1 33 rfl) rfl
theorem q190 : (Jvm.Cond.fieldLinkNest "BenchBroker$PlainAction" (37 : Nat) "BenchBroker$Park" "fountains" "LBenchBroker$Register;" "BenchBroker") ∈ lw_tbl := lw_at lw_m1 105 rfl
theorem q194 : (Jvm.Cond.fieldLinkNest "BenchBroker$PlainAction" (15 : Nat) "BenchBroker$Park" "tenants" "LBenchBroker$Register;" "BenchBroker") ∈ lw_tbl := lw_at lw_m1 109 rfl
theorem q614 : (Jvm.Cond.selects "BenchBroker$PlainAction" ({ cls := "java/lang/Object", name := "getClass", desc := "()Ljava/lang/Class;" } : Jvm.MethodName) ({ cls := "java/lang/Object", name := "getClass", desc := "()Ljava/lang/Class;" } : Jvm.MethodName)) ∈ lw_all := lw_g (lw_at lw_m3 49 rfl) rfl
theorem q1132 : (Jvm.Cond.selects "BenchBroker$PlainAction" ({ cls := "BenchBroker$Action", name := "run", desc := "(LBenchBroker$Park;)I" } : Jvm.MethodName) ({ cls := "BenchBroker$PlainAction", name := "run", desc := "(LBenchBroker$Park;)I" } : Jvm.MethodName)) ∈ lw_all := lw_g (lw_at lw_m5 87 rfl) rfl
theorem q1133 : (Jvm.Cond.instanceMethod ({ cls := "BenchBroker$PlainAction", name := "run", desc := "(LBenchBroker$Park;)I" } : Jvm.MethodName)) ∈ lw_all := lw_g (lw_at lw_m5 88 rfl) rfl
theorem q1134 : (Jvm.Cond.code ({ cls := "BenchBroker$PlainAction", name := "run", desc := "(LBenchBroker$Park;)I" } : Jvm.MethodName) prog_13_method_3_code (2 : Nat) (Option.some Jvm.ClassFile.FieldType.int)) ∈ lw_all := lw_g (lw_at lw_m5 89 rfl) rfl
theorem q1135 : (Jvm.Cond.methodLink "BenchBroker$PlainAction" (21 : Nat) ({ cls := "BenchBroker$PlainAction", name := "first", desc := "()I" } : Jvm.MethodName)) ∈ lw_all := lw_g (lw_at lw_m5 90 rfl) rfl
theorem q1136 : (Jvm.Cond.sameMethod "BenchBroker$PlainAction" "BenchBroker$Action" "first" "()I") ∈ lw_all := lw_g (lw_at lw_m5 91 rfl) rfl
theorem q1137 : (Jvm.Cond.selects "BenchBroker$PlainAction" ({ cls := "BenchBroker$PlainAction", name := "first", desc := "()I" } : Jvm.MethodName) ({ cls := "BenchBroker$Action", name := "first", desc := "()I" } : Jvm.MethodName)) ∈ lw_all := lw_g (lw_at lw_m5 92 rfl) rfl
theorem q1138 : (Jvm.Cond.methodLink "BenchBroker$PlainAction" (31 : Nat) ({ cls := "BenchBroker$PlainAction", name := "third", desc := "()I" } : Jvm.MethodName)) ∈ lw_all := lw_g (lw_at lw_m5 93 rfl) rfl
theorem q1139 : (Jvm.Cond.sameMethod "BenchBroker$PlainAction" "BenchBroker$Action" "third" "()I") ∈ lw_all := lw_g (lw_at lw_m5 94 rfl) rfl
theorem q1140 : (Jvm.Cond.selects "BenchBroker$PlainAction" ({ cls := "BenchBroker$PlainAction", name := "third", desc := "()I" } : Jvm.MethodName) ({ cls := "BenchBroker$Action", name := "third", desc := "()I" } : Jvm.MethodName)) ∈ lw_all := lw_g (lw_at lw_m5 95 rfl) rfl
theorem q1141 : (Jvm.Cond.methodLink "BenchBroker$PlainAction" (46 : Nat) ({ cls := "BenchBroker$Park", name := "giveCoins", desc := "(II)I" } : Jvm.MethodName)) ∈ lw_all := lw_g (lw_at lw_m5 96 rfl) rfl
theorem q1145 : (Jvm.Cond.methodLink "BenchBroker$PlainAction" (50 : Nat) ({ cls := "BenchBroker$Park", name := "switchFountain", desc := "(I)Z" } : Jvm.MethodName)) ∈ lw_all := lw_g (lw_at lw_m5 100 rfl) rfl
theorem q1149 : (Jvm.Cond.methodLinkNest "BenchBroker$PlainAction" (53 : Nat) ({ cls := "BenchBroker", name := "asInt", desc := "(Z)I" } : Jvm.MethodName) "BenchBroker") ∈ lw_tbl := lw_at lw_m5 104 rfl
theorem q1150 : (Jvm.Cond.methodLink "BenchBroker$PlainAction" (57 : Nat) ({ cls := "BenchBroker$Park", name := "setNoiseLimit", desc := "(I)I" } : Jvm.MethodName)) ∈ lw_all := lw_g (lw_at lw_m5 105 rfl) rfl
theorem q1154 : (Jvm.Cond.methodLink "BenchBroker$PlainAction" (61 : Nat) ({ cls := "BenchBroker$Park", name := "passMonths", desc := "(I)I" } : Jvm.MethodName)) ∈ lw_all := lw_g (lw_at lw_m5 109 rfl) rfl
theorem q1230 : (Jvm.Cond.instantiable "BenchBroker$PlainAction" (4 : Nat)) ∈ lw_all := lw_g (lw_at lw_m5 185 rfl) rfl
theorem q1232 : (Jvm.Cond.instanceMethod ({ cls := "BenchBroker$PlainAction", name := "<init>", desc := "(CII)V" } : Jvm.MethodName)) ∈ lw_all := lw_g (lw_at lw_m5 187 rfl) rfl
theorem q1233 : (Jvm.Cond.code ({ cls := "BenchBroker$PlainAction", name := "<init>", desc := "(CII)V" } : Jvm.MethodName) prog_13_method_1_code (4 : Nat) (Option.none : Option Jvm.ClassFile.FieldType)) ∈ lw_all := lw_g (lw_at lw_m5 188 rfl) rfl
theorem q1234 : (Jvm.Cond.methodLink "BenchBroker$PlainAction" (3 : Nat) ({ cls := "BenchBroker$Action", name := "<init>", desc := "(III)V" } : Jvm.MethodName)) ∈ lw_all := lw_g (lw_at lw_m5 189 rfl) rfl
theorem q1235 : (Jvm.Cond.fieldLink "BenchBroker$PlainAction" (9 : Nat) "BenchBroker$PlainAction" "kind" "C") ∈ lw_all := lw_g (lw_at lw_m5 190 rfl) rfl
theorem q1236 : (Jvm.Cond.laysFinal "BenchBroker$PlainAction" "BenchBroker$PlainAction" "kind" "C") ∈ lw_all := lw_g (lw_at lw_m5 191 rfl) rfl
theorem q1237 : (Jvm.Cond.soleField "BenchBroker$PlainAction" "kind") ∈ lw_all := lw_g (lw_at lw_m5 192 rfl) rfl
theorem q1238 : (Jvm.Cond.laysFinal "BenchBroker$PlainAction" "BenchBroker$Action" "first" "I") ∈ lw_all := lw_g (lw_at lw_m5 193 rfl) rfl
theorem q1239 : (Jvm.Cond.laysFinal "BenchBroker$PlainAction" "BenchBroker$Action" "second" "I") ∈ lw_all := lw_g (lw_at lw_m5 194 rfl) rfl
theorem q1240 : (Jvm.Cond.laysFinal "BenchBroker$PlainAction" "BenchBroker$Action" "third" "I") ∈ lw_all := lw_g (lw_at lw_m5 195 rfl) rfl
theorem q1241 : (Jvm.Cond.superclass "BenchBroker$PlainAction" "BenchBroker$Action") ∈ lw_all := lw_g (lw_at lw_m5 196 rfl) rfl
theorem q2098 : (Jvm.Cond.selects "BenchBroker$PlainAction" ({ cls := "BenchBroker$Action", name := "checkedRun", desc := "(LBenchBroker$Park;)I" } : Jvm.MethodName) ({ cls := "BenchBroker$Action", name := "checkedRun", desc := "(LBenchBroker$Park;)I" } : Jvm.MethodName)) ∈ lw_all := lw_g (lw_at lw_m9 93 rfl) rfl
theorem q2115 : (Jvm.Cond.selects "BenchBroker$PlainAction" ({ cls := "BenchBroker$Action", name := "isAccepted", desc := "(LBenchBroker$Park;)Z" } : Jvm.MethodName) ({ cls := "BenchBroker$PlainAction", name := "isAccepted", desc := "(LBenchBroker$Park;)Z" } : Jvm.MethodName)) ∈ lw_all := lw_g (lw_at lw_m9 110 rfl) rfl
theorem q2116 : (Jvm.Cond.instanceMethod ({ cls := "BenchBroker$PlainAction", name := "isAccepted", desc := "(LBenchBroker$Park;)Z" } : Jvm.MethodName)) ∈ lw_all := lw_g (lw_at lw_m9 111 rfl) rfl
theorem q2117 : (Jvm.Cond.code ({ cls := "BenchBroker$PlainAction", name := "isAccepted", desc := "(LBenchBroker$Park;)Z" } : Jvm.MethodName) prog_13_method_2_code (2 : Nat) (Option.some Jvm.ClassFile.FieldType.boolean)) ∈ lw_all := lw_g (lw_at lw_m9 112 rfl) rfl
theorem q2118 : (Jvm.Cond.methodLink "BenchBroker$PlainAction" (25 : Nat) ({ cls := "BenchBroker$Register", name := "has", desc := "(I)Z" } : Jvm.MethodName)) ∈ lw_all := lw_g (lw_at lw_m9 113 rfl) rfl
theorem q2119 : (Jvm.Cond.methodLinkNest "BenchBroker$PlainAction" (34 : Nat) ({ cls := "BenchBroker", name := "isGift", desc := "(I)Z" } : Jvm.MethodName) "BenchBroker") ∈ lw_tbl := lw_at lw_m9 114 rfl
theorem q2120 : (Jvm.Cond.methodLinkNest "BenchBroker$PlainAction" (40 : Nat) ({ cls := "BenchBroker", name := "isLimit", desc := "(I)Z" } : Jvm.MethodName) "BenchBroker") ∈ lw_tbl := lw_at lw_m9 115 rfl
theorem q2121 : (Jvm.Cond.methodLinkNest "BenchBroker$PlainAction" (43 : Nat) ({ cls := "BenchBroker", name := "isTerm", desc := "(I)Z" } : Jvm.MethodName) "BenchBroker") ∈ lw_tbl := lw_at lw_m9 116 rfl
theorem q2764 : (Jvm.Cond.castable "BenchBroker$PlainAction" "BenchBroker$Action") ∈ lw_tbl := lw_at lw_m12 39 rfl
theorem q2780 : (Jvm.Cond.castable "BenchBroker$PlainAction" "java/lang/Object") ∈ lw_tbl := lw_at lw_m12 55 rfl
theorem in_X13 : ∀ w ∈ wsX130, w ∈ lw_all := lw_in wsX130 [1238, 1239, 1240, 1236] (by decide +kernel) (by decide +kernel)
/-! BenchBroker$LeaseAction -/
set_option maxRecDepth 100000
def RX14 : String := "BenchBroker$LeaseAction"
def TX14 : u_T := fun k => match k with
  | 0 => ("BenchBroker$Action", "first", "I", true)
  | 1 => ("BenchBroker$Action", "second", "I", true)
  | 2 => ("BenchBroker$Action", "third", "I", true)
  | _ => ("BenchBroker$LeaseAction", "kind", "C", true)
def tyX14 : Nat → FieldType := fun k => match k with
  | 0 => .int
  | 1 => .int
  | 2 => .int
  | _ => .char
abbrev wsX140 : List Cond := u_ws RX14 TX14 4
theorem nmX14 : ∀ a, a < 4 → ∀ b, b < 4 → a ≠ b → (TX14 a).2.1 ≠ (TX14 b).2.1 := by decide +kernel
theorem tyX14_ok : ∀ k, k < 4 → parseFieldDescriptor (TX14 k).2.2.1 = some (tyX14 k) := by decide +kernel
abbrev cX14_run : ByteArray := prog_8_method_3_code
def yX14_run : MethodName := ⟨RX14, "run", "(LBenchBroker$Park;)I"⟩
def dkwX14_run_3 : List UInt8 := [42, 182, 0, 35, 182, 0, 47, 167, 0, 11, 43, 42, 182, 0, 32, 182, 0, 51, 172]
abbrev dktX14_run_3 : List UInt8 := dkwX14_run_3 ++ []
def dkwX14_run_2 : List UInt8 := [43, 42, 182, 0, 19, 42, 182, 0, 32, 42, 182, 0, 35, 182, 0, 43, 167, 0, 26, 43, 42, 182, 0, 32]
abbrev dktX14_run_2 : List UInt8 := dkwX14_run_2 ++ dktX14_run_3
def dkwX14_run_1 : List UInt8 := [171, 0, 0, 0, 0, 0, 0, 62, 0, 0, 0, 2, 0, 0, 0, 108, 0, 0, 0, 28, 0, 0, 0, 114, 0, 0, 0, 47]
abbrev dktX14_run_1 : List UInt8 := dkwX14_run_1 ++ dktX14_run_2
def dkwX14_run_0 : List UInt8 := [42, 180, 0, 7]
abbrev dktX14_run_0 : List UInt8 := dkwX14_run_0 ++ dktX14_run_1
theorem dksX14_run_0 : cX14_run.data.toList.drop 0 = dktX14_run_0 := by decide +kernel
theorem dksX14_run_1 : cX14_run.data.toList.drop 4 = dktX14_run_1 := dk_seg dksX14_run_0 4 rfl rfl
theorem dksX14_run_2 : cX14_run.data.toList.drop 32 = dktX14_run_2 := dk_seg dksX14_run_1 28 rfl rfl
theorem dksX14_run_3 : cX14_run.data.toList.drop 56 = dktX14_run_3 := dk_seg dksX14_run_2 24 rfl rfl
theorem dX14_run_0 : decode cX14_run 0 = .ok (.aload_n 0, 1) := dk_42 (dk_at dksX14_run_0 0 rfl rfl)
theorem dX14_run_1 : decode cX14_run 1 = .ok (.getfield 7, 3) := dk_180 0 7 (dk_at dksX14_run_0 1 rfl rfl)
theorem dX14_run_4 : decode cX14_run 4 = .ok (.lookupswitch 62 #[(108, 28), (114, 47)], 28) := by decide +kernel
theorem dX14_run_32 : decode cX14_run 32 = .ok (.aload_n 1, 1) := dk_43 (dk_at dksX14_run_2 0 rfl rfl)
theorem dX14_run_33 : decode cX14_run 33 = .ok (.aload_n 0, 1) := dk_42 (dk_at dksX14_run_2 1 rfl rfl)
theorem dX14_run_34 : decode cX14_run 34 = .ok (.invokevirtual 19, 3) := dk_182 0 19 (dk_at dksX14_run_2 2 rfl rfl)
theorem dX14_run_37 : decode cX14_run 37 = .ok (.aload_n 0, 1) := dk_42 (dk_at dksX14_run_2 5 rfl rfl)
theorem dX14_run_38 : decode cX14_run 38 = .ok (.invokevirtual 32, 3) := dk_182 0 32 (dk_at dksX14_run_2 6 rfl rfl)
theorem dX14_run_41 : decode cX14_run 41 = .ok (.aload_n 0, 1) := dk_42 (dk_at dksX14_run_2 9 rfl rfl)
theorem dX14_run_42 : decode cX14_run 42 = .ok (.invokevirtual 35, 3) := dk_182 0 35 (dk_at dksX14_run_2 10 rfl rfl)
theorem dX14_run_45 : decode cX14_run 45 = .ok (.invokevirtual 43, 3) := dk_182 0 43 (dk_at dksX14_run_2 13 rfl rfl)
theorem dX14_run_48 : decode cX14_run 48 = .ok (.goto 26, 3) := dk_167 0 26 (dk_at dksX14_run_2 16 rfl rfl)
theorem dX14_run_51 : decode cX14_run 51 = .ok (.aload_n 1, 1) := dk_43 (dk_at dksX14_run_2 19 rfl rfl)
theorem dX14_run_52 : decode cX14_run 52 = .ok (.aload_n 0, 1) := dk_42 (dk_at dksX14_run_2 20 rfl rfl)
theorem dX14_run_53 : decode cX14_run 53 = .ok (.invokevirtual 32, 3) := dk_182 0 32 (dk_at dksX14_run_2 21 rfl rfl)
theorem dX14_run_56 : decode cX14_run 56 = .ok (.aload_n 0, 1) := dk_42 (dk_at dksX14_run_3 0 rfl rfl)
theorem dX14_run_57 : decode cX14_run 57 = .ok (.invokevirtual 35, 3) := dk_182 0 35 (dk_at dksX14_run_3 1 rfl rfl)
theorem dX14_run_60 : decode cX14_run 60 = .ok (.invokevirtual 47, 3) := dk_182 0 47 (dk_at dksX14_run_3 4 rfl rfl)
theorem dX14_run_63 : decode cX14_run 63 = .ok (.goto 11, 3) := dk_167 0 11 (dk_at dksX14_run_3 7 rfl rfl)
theorem dX14_run_66 : decode cX14_run 66 = .ok (.aload_n 1, 1) := dk_43 (dk_at dksX14_run_3 10 rfl rfl)
theorem dX14_run_67 : decode cX14_run 67 = .ok (.aload_n 0, 1) := dk_42 (dk_at dksX14_run_3 11 rfl rfl)
theorem dX14_run_68 : decode cX14_run 68 = .ok (.invokevirtual 32, 3) := dk_182 0 32 (dk_at dksX14_run_3 12 rfl rfl)
theorem dX14_run_71 : decode cX14_run 71 = .ok (.invokevirtual 51, 3) := dk_182 0 51 (dk_at dksX14_run_3 15 rfl rfl)
theorem dX14_run_74 : decode cX14_run 74 = .ok (.ireturn, 1) := dk_172 (dk_at dksX14_run_3 18 rfl rfl)
abbrev cX14_init : ByteArray := prog_8_method_1_code
def yX14_init : MethodName := ⟨RX14, "<init>", "(CIII)V"⟩
def dkwX14_init_0 : List UInt8 := [42, 28, 29, 21, 4, 183, 0, 1, 42, 27, 181, 0, 7, 177]
abbrev dktX14_init_0 : List UInt8 := dkwX14_init_0 ++ []
theorem dksX14_init_0 : cX14_init.data.toList.drop 0 = dktX14_init_0 := by decide +kernel
theorem dX14_init_0 : decode cX14_init 0 = .ok (.aload_n 0, 1) := dk_42 (dk_at dksX14_init_0 0 rfl rfl)
theorem dX14_init_1 : decode cX14_init 1 = .ok (.iload_n 2, 1) := dk_28 (dk_at dksX14_init_0 1 rfl rfl)
theorem dX14_init_2 : decode cX14_init 2 = .ok (.iload_n 3, 1) := dk_29 (dk_at dksX14_init_0 2 rfl rfl)
theorem dX14_init_3 : decode cX14_init 3 = .ok (.iload 4, 2) := dk_21 4 (dk_at dksX14_init_0 3 rfl rfl)
theorem dX14_init_5 : decode cX14_init 5 = .ok (.invokespecial 1, 3) := dk_183 0 1 (dk_at dksX14_init_0 5 rfl rfl)
theorem dX14_init_8 : decode cX14_init 8 = .ok (.aload_n 0, 1) := dk_42 (dk_at dksX14_init_0 8 rfl rfl)
theorem dX14_init_9 : decode cX14_init 9 = .ok (.iload_n 1, 1) := dk_27 (dk_at dksX14_init_0 9 rfl rfl)
theorem dX14_init_10 : decode cX14_init 10 = .ok (.putfield 7, 3) := dk_181 0 7 (dk_at dksX14_init_0 10 rfl rfl)
theorem dX14_init_13 : decode cX14_init 13 = .ok (.return_, 1) := dk_177 (dk_at dksX14_init_0 13 rfl rfl)
abbrev cX14_isAccepted : ByteArray := prog_8_method_2_code
def yX14_isAccepted : MethodName := ⟨RX14, "isAccepted", "(LBenchBroker$Park;)Z"⟩
def dkwX14_isAccepted_5 : List UInt8 := [4, 167, 0, 18, 3, 167, 0, 14, 43, 180, 0, 29, 42, 182, 0, 32, 182, 0, 23, 172]
abbrev dktX14_isAccepted_5 : List UInt8 := dkwX14_isAccepted_5 ++ []
def dkwX14_isAccepted_4 : List UInt8 := [43, 180, 0, 29, 42, 182, 0, 32, 182, 0, 23, 153, 0, 17, 42, 182, 0, 35, 184, 0, 38, 153, 0, 7]
abbrev dktX14_isAccepted_4 : List UInt8 := dkwX14_isAccepted_4 ++ dktX14_isAccepted_5
def dkwX14_isAccepted_3 : List UInt8 := [182, 0, 23, 153, 0, 17, 42, 182, 0, 35, 184, 0, 38, 153, 0, 7, 4, 167, 0, 50, 3, 167, 0, 46]
abbrev dktX14_isAccepted_3 : List UInt8 := dkwX14_isAccepted_3 ++ dktX14_isAccepted_4
def dkwX14_isAccepted_2 : List UInt8 := [43, 180, 0, 13, 42, 182, 0, 19, 182, 0, 23, 153, 0, 31, 43, 180, 0, 29, 42, 182, 0, 32]
abbrev dktX14_isAccepted_2 : List UInt8 := dkwX14_isAccepted_2 ++ dktX14_isAccepted_3
def dkwX14_isAccepted_1 : List UInt8 := [171, 0, 0, 0, 0, 0, 0, 106, 0, 0, 0, 2, 0, 0, 0, 108, 0, 0, 0, 28, 0, 0, 0, 114, 0, 0, 0, 74]
abbrev dktX14_isAccepted_1 : List UInt8 := dkwX14_isAccepted_1 ++ dktX14_isAccepted_2
def dkwX14_isAccepted_0 : List UInt8 := [42, 180, 0, 7]
abbrev dktX14_isAccepted_0 : List UInt8 := dkwX14_isAccepted_0 ++ dktX14_isAccepted_1
theorem dksX14_isAccepted_0 : cX14_isAccepted.data.toList.drop 0 = dktX14_isAccepted_0 := by decide +kernel
theorem dksX14_isAccepted_1 : cX14_isAccepted.data.toList.drop 4 = dktX14_isAccepted_1 := dk_seg dksX14_isAccepted_0 4 rfl rfl
theorem dksX14_isAccepted_2 : cX14_isAccepted.data.toList.drop 32 = dktX14_isAccepted_2 := dk_seg dksX14_isAccepted_1 28 rfl rfl
theorem dksX14_isAccepted_3 : cX14_isAccepted.data.toList.drop 54 = dktX14_isAccepted_3 := dk_seg dksX14_isAccepted_2 22 rfl rfl
theorem dksX14_isAccepted_4 : cX14_isAccepted.data.toList.drop 78 = dktX14_isAccepted_4 := dk_seg dksX14_isAccepted_3 24 rfl rfl
theorem dksX14_isAccepted_5 : cX14_isAccepted.data.toList.drop 102 = dktX14_isAccepted_5 := dk_seg dksX14_isAccepted_4 24 rfl rfl
theorem dX14_isAccepted_0 : decode cX14_isAccepted 0 = .ok (.aload_n 0, 1) := dk_42 (dk_at dksX14_isAccepted_0 0 rfl rfl)
theorem dX14_isAccepted_1 : decode cX14_isAccepted 1 = .ok (.getfield 7, 3) := dk_180 0 7 (dk_at dksX14_isAccepted_0 1 rfl rfl)
theorem dX14_isAccepted_4 : decode cX14_isAccepted 4 = .ok (.lookupswitch 106 #[(108, 28), (114, 74)], 28) := by decide +kernel
theorem dX14_isAccepted_32 : decode cX14_isAccepted 32 = .ok (.aload_n 1, 1) := dk_43 (dk_at dksX14_isAccepted_2 0 rfl rfl)
theorem dX14_isAccepted_33 : decode cX14_isAccepted 33 = .ok (.getfield 13, 3) := dk_180 0 13 (dk_at dksX14_isAccepted_2 1 rfl rfl)
theorem dX14_isAccepted_36 : decode cX14_isAccepted 36 = .ok (.aload_n 0, 1) := dk_42 (dk_at dksX14_isAccepted_2 4 rfl rfl)
theorem dX14_isAccepted_37 : decode cX14_isAccepted 37 = .ok (.invokevirtual 19, 3) := dk_182 0 19 (dk_at dksX14_isAccepted_2 5 rfl rfl)
theorem dX14_isAccepted_40 : decode cX14_isAccepted 40 = .ok (.invokevirtual 23, 3) := dk_182 0 23 (dk_at dksX14_isAccepted_2 8 rfl rfl)
theorem dX14_isAccepted_43 : decode cX14_isAccepted 43 = .ok (.ifCond .eq 31, 3) := dk_153 0 31 (dk_at dksX14_isAccepted_2 11 rfl rfl)
theorem dX14_isAccepted_46 : decode cX14_isAccepted 46 = .ok (.aload_n 1, 1) := dk_43 (dk_at dksX14_isAccepted_2 14 rfl rfl)
theorem dX14_isAccepted_47 : decode cX14_isAccepted 47 = .ok (.getfield 29, 3) := dk_180 0 29 (dk_at dksX14_isAccepted_2 15 rfl rfl)
theorem dX14_isAccepted_50 : decode cX14_isAccepted 50 = .ok (.aload_n 0, 1) := dk_42 (dk_at dksX14_isAccepted_2 18 rfl rfl)
theorem dX14_isAccepted_51 : decode cX14_isAccepted 51 = .ok (.invokevirtual 32, 3) := dk_182 0 32 (dk_at dksX14_isAccepted_2 19 rfl rfl)
theorem dX14_isAccepted_54 : decode cX14_isAccepted 54 = .ok (.invokevirtual 23, 3) := dk_182 0 23 (dk_at dksX14_isAccepted_3 0 rfl rfl)
theorem dX14_isAccepted_57 : decode cX14_isAccepted 57 = .ok (.ifCond .eq 17, 3) := dk_153 0 17 (dk_at dksX14_isAccepted_3 3 rfl rfl)
theorem dX14_isAccepted_60 : decode cX14_isAccepted 60 = .ok (.aload_n 0, 1) := dk_42 (dk_at dksX14_isAccepted_3 6 rfl rfl)
theorem dX14_isAccepted_61 : decode cX14_isAccepted 61 = .ok (.invokevirtual 35, 3) := dk_182 0 35 (dk_at dksX14_isAccepted_3 7 rfl rfl)
theorem dX14_isAccepted_64 : decode cX14_isAccepted 64 = .ok (.invokestatic 38, 3) := dk_184 0 38 (dk_at dksX14_isAccepted_3 10 rfl rfl)
theorem dX14_isAccepted_67 : decode cX14_isAccepted 67 = .ok (.ifCond .eq 7, 3) := dk_153 0 7 (dk_at dksX14_isAccepted_3 13 rfl rfl)
theorem dX14_isAccepted_70 : decode cX14_isAccepted 70 = .ok (.iconst 1, 1) := dk_4 (dk_at dksX14_isAccepted_3 16 rfl rfl)
theorem dX14_isAccepted_71 : decode cX14_isAccepted 71 = .ok (.goto 50, 3) := dk_167 0 50 (dk_at dksX14_isAccepted_3 17 rfl rfl)
theorem dX14_isAccepted_74 : decode cX14_isAccepted 74 = .ok (.iconst 0, 1) := dk_3 (dk_at dksX14_isAccepted_3 20 rfl rfl)
theorem dX14_isAccepted_75 : decode cX14_isAccepted 75 = .ok (.goto 46, 3) := dk_167 0 46 (dk_at dksX14_isAccepted_3 21 rfl rfl)
theorem dX14_isAccepted_78 : decode cX14_isAccepted 78 = .ok (.aload_n 1, 1) := dk_43 (dk_at dksX14_isAccepted_4 0 rfl rfl)
theorem dX14_isAccepted_79 : decode cX14_isAccepted 79 = .ok (.getfield 29, 3) := dk_180 0 29 (dk_at dksX14_isAccepted_4 1 rfl rfl)
theorem dX14_isAccepted_82 : decode cX14_isAccepted 82 = .ok (.aload_n 0, 1) := dk_42 (dk_at dksX14_isAccepted_4 4 rfl rfl)
theorem dX14_isAccepted_83 : decode cX14_isAccepted 83 = .ok (.invokevirtual 32, 3) := dk_182 0 32 (dk_at dksX14_isAccepted_4 5 rfl rfl)
theorem dX14_isAccepted_86 : decode cX14_isAccepted 86 = .ok (.invokevirtual 23, 3) := dk_182 0 23 (dk_at dksX14_isAccepted_4 8 rfl rfl)
theorem dX14_isAccepted_89 : decode cX14_isAccepted 89 = .ok (.ifCond .eq 17, 3) := dk_153 0 17 (dk_at dksX14_isAccepted_4 11 rfl rfl)
theorem dX14_isAccepted_92 : decode cX14_isAccepted 92 = .ok (.aload_n 0, 1) := dk_42 (dk_at dksX14_isAccepted_4 14 rfl rfl)
theorem dX14_isAccepted_93 : decode cX14_isAccepted 93 = .ok (.invokevirtual 35, 3) := dk_182 0 35 (dk_at dksX14_isAccepted_4 15 rfl rfl)
theorem dX14_isAccepted_96 : decode cX14_isAccepted 96 = .ok (.invokestatic 38, 3) := dk_184 0 38 (dk_at dksX14_isAccepted_4 18 rfl rfl)
theorem dX14_isAccepted_99 : decode cX14_isAccepted 99 = .ok (.ifCond .eq 7, 3) := dk_153 0 7 (dk_at dksX14_isAccepted_4 21 rfl rfl)
theorem dX14_isAccepted_102 : decode cX14_isAccepted 102 = .ok (.iconst 1, 1) := dk_4 (dk_at dksX14_isAccepted_5 0 rfl rfl)
theorem dX14_isAccepted_103 : decode cX14_isAccepted 103 = .ok (.goto 18, 3) := dk_167 0 18 (dk_at dksX14_isAccepted_5 1 rfl rfl)
theorem dX14_isAccepted_106 : decode cX14_isAccepted 106 = .ok (.iconst 0, 1) := dk_3 (dk_at dksX14_isAccepted_5 4 rfl rfl)
theorem dX14_isAccepted_107 : decode cX14_isAccepted 107 = .ok (.goto 14, 3) := dk_167 0 14 (dk_at dksX14_isAccepted_5 5 rfl rfl)
theorem dX14_isAccepted_110 : decode cX14_isAccepted 110 = .ok (.aload_n 1, 1) := dk_43 (dk_at dksX14_isAccepted_5 8 rfl rfl)
theorem dX14_isAccepted_111 : decode cX14_isAccepted 111 = .ok (.getfield 29, 3) := dk_180 0 29 (dk_at dksX14_isAccepted_5 9 rfl rfl)
theorem dX14_isAccepted_114 : decode cX14_isAccepted 114 = .ok (.aload_n 0, 1) := dk_42 (dk_at dksX14_isAccepted_5 12 rfl rfl)
theorem dX14_isAccepted_115 : decode cX14_isAccepted 115 = .ok (.invokevirtual 32, 3) := dk_182 0 32 (dk_at dksX14_isAccepted_5 13 rfl rfl)
theorem dX14_isAccepted_118 : decode cX14_isAccepted 118 = .ok (.invokevirtual 23, 3) := dk_182 0 23 (dk_at dksX14_isAccepted_5 16 rfl rfl)
theorem dX14_isAccepted_121 : decode cX14_isAccepted 121 = .ok (.ireturn, 1) := dk_172 (dk_at dksX14_isAccepted_5 19 rfl rfl)
theorem q125 : (Jvm.Cond.initialized "BenchBroker$LeaseAction") ∈ lw_all := lw_g (lw_at lw_m1 40 rfl) rfl
theorem q187 : (Jvm.Cond.fieldLinkNest "BenchBroker$LeaseAction" (29 : Nat) "BenchBroker$Park" "benches" "LBenchBroker$Register;" "BenchBroker") ∈ lw_tbl := lw_at lw_m1 102 rfl
theorem q193 : (Jvm.Cond.fieldLinkNest "BenchBroker$LeaseAction" (13 : Nat) "BenchBroker$Park" "tenants" "LBenchBroker$Register;" "BenchBroker") ∈ lw_tbl := lw_at lw_m1 108 rfl
theorem q611 : (Jvm.Cond.selects "BenchBroker$LeaseAction" ({ cls := "java/lang/Object", name := "getClass", desc := "()Ljava/lang/Class;" } : Jvm.MethodName) ({ cls := "java/lang/Object", name := "getClass", desc := "()Ljava/lang/Class;" } : Jvm.MethodName)) ∈ lw_all := lw_g (lw_at lw_m3 46 rfl) rfl
theorem q1091 : (Jvm.Cond.selects "BenchBroker$LeaseAction" ({ cls := "BenchBroker$Action", name := "run", desc := "(LBenchBroker$Park;)I" } : Jvm.MethodName) ({ cls := "BenchBroker$LeaseAction", name := "run", desc := "(LBenchBroker$Park;)I" } : Jvm.MethodName)) ∈ lw_all := lw_g (lw_at lw_m5 46 rfl) rfl
theorem q1092 : (Jvm.Cond.instanceMethod ({ cls := "BenchBroker$LeaseAction", name := "run", desc := "(LBenchBroker$Park;)I" } : Jvm.MethodName)) ∈ lw_all := lw_g (lw_at lw_m5 47 rfl) rfl
theorem q1093 : (Jvm.Cond.code ({ cls := "BenchBroker$LeaseAction", name := "run", desc := "(LBenchBroker$Park;)I" } : Jvm.MethodName) prog_8_method_3_code (2 : Nat) (Option.some Jvm.ClassFile.FieldType.int)) ∈ lw_all := lw_g (lw_at lw_m5 48 rfl) rfl
theorem q1094 : (Jvm.Cond.methodLink "BenchBroker$LeaseAction" (19 : Nat) ({ cls := "BenchBroker$LeaseAction", name := "first", desc := "()I" } : Jvm.MethodName)) ∈ lw_all := lw_g (lw_at lw_m5 49 rfl) rfl
theorem q1095 : (Jvm.Cond.sameMethod "BenchBroker$LeaseAction" "BenchBroker$Action" "first" "()I") ∈ lw_all := lw_g (lw_at lw_m5 50 rfl) rfl
theorem q1096 : (Jvm.Cond.selects "BenchBroker$LeaseAction" ({ cls := "BenchBroker$LeaseAction", name := "first", desc := "()I" } : Jvm.MethodName) ({ cls := "BenchBroker$Action", name := "first", desc := "()I" } : Jvm.MethodName)) ∈ lw_all := lw_g (lw_at lw_m5 51 rfl) rfl
theorem q1097 : (Jvm.Cond.methodLink "BenchBroker$LeaseAction" (32 : Nat) ({ cls := "BenchBroker$LeaseAction", name := "second", desc := "()I" } : Jvm.MethodName)) ∈ lw_all := lw_g (lw_at lw_m5 52 rfl) rfl
theorem q1098 : (Jvm.Cond.sameMethod "BenchBroker$LeaseAction" "BenchBroker$Action" "second" "()I") ∈ lw_all := lw_g (lw_at lw_m5 53 rfl) rfl
theorem q1099 : (Jvm.Cond.selects "BenchBroker$LeaseAction" ({ cls := "BenchBroker$LeaseAction", name := "second", desc := "()I" } : Jvm.MethodName) ({ cls := "BenchBroker$Action", name := "second", desc := "()I" } : Jvm.MethodName)) ∈ lw_all := lw_g (lw_at lw_m5 54 rfl) rfl
theorem q1100 : (Jvm.Cond.methodLink "BenchBroker$LeaseAction" (35 : Nat) ({ cls := "BenchBroker$LeaseAction", name := "third", desc := "()I" } : Jvm.MethodName)) ∈ lw_all := lw_g (lw_at lw_m5 55 rfl) rfl
theorem q1101 : (Jvm.Cond.sameMethod "BenchBroker$LeaseAction" "BenchBroker$Action" "third" "()I") ∈ lw_all := lw_g (lw_at lw_m5 56 rfl) rfl
theorem q1102 : (Jvm.Cond.selects "BenchBroker$LeaseAction" ({ cls := "BenchBroker$LeaseAction", name := "third", desc := "()I" } : Jvm.MethodName) ({ cls := "BenchBroker$Action", name := "third", desc := "()I" } : Jvm.MethodName)) ∈ lw_all := lw_g (lw_at lw_m5 57 rfl) rfl
theorem q1103 : (Jvm.Cond.methodLink "BenchBroker$LeaseAction" (43 : Nat) ({ cls := "BenchBroker$Park", name := "lease", desc := "(III)I" } : Jvm.MethodName)) ∈ lw_all := lw_g (lw_at lw_m5 58 rfl) rfl
theorem q1120 : (Jvm.Cond.methodLink "BenchBroker$LeaseAction" (47 : Nat) ({ cls := "BenchBroker$Park", name := "renew", desc := "(II)I" } : Jvm.MethodName)) ∈ lw_all := lw_g (lw_at lw_m5 75 rfl) rfl
theorem q1128 : (Jvm.Cond.methodLink "BenchBroker$LeaseAction" (51 : Nat) ({ cls := "BenchBroker$Park", name := "endLease", desc := "(I)I" } : Jvm.MethodName)) ∈ lw_all := lw_g (lw_at lw_m5 83 rfl) rfl
theorem q1416 : (Jvm.Cond.instantiable "BenchBroker$LeaseAction" (4 : Nat)) ∈ lw_all := lw_g (lw_at lw_m6 131 rfl) rfl
theorem q1418 : (Jvm.Cond.instanceMethod ({ cls := "BenchBroker$LeaseAction", name := "<init>", desc := "(CIII)V" } : Jvm.MethodName)) ∈ lw_all := lw_g (lw_at lw_m6 133 rfl) rfl
theorem q1419 : (Jvm.Cond.code ({ cls := "BenchBroker$LeaseAction", name := "<init>", desc := "(CIII)V" } : Jvm.MethodName) prog_8_method_1_code (5 : Nat) (Option.none : Option Jvm.ClassFile.FieldType)) ∈ lw_all := lw_g (lw_at lw_m6 134 rfl) rfl
theorem q1420 : (Jvm.Cond.methodLink "BenchBroker$LeaseAction" (1 : Nat) ({ cls := "BenchBroker$Action", name := "<init>", desc := "(III)V" } : Jvm.MethodName)) ∈ lw_all := lw_g (lw_at lw_m6 135 rfl) rfl
theorem q1421 : (Jvm.Cond.fieldLink "BenchBroker$LeaseAction" (7 : Nat) "BenchBroker$LeaseAction" "kind" "C") ∈ lw_all := lw_g (lw_at lw_m6 136 rfl) rfl
theorem q1422 : (Jvm.Cond.laysFinal "BenchBroker$LeaseAction" "BenchBroker$LeaseAction" "kind" "C") ∈ lw_all := lw_g (lw_at lw_m6 137 rfl) rfl
theorem q1423 : (Jvm.Cond.soleField "BenchBroker$LeaseAction" "kind") ∈ lw_all := lw_g (lw_at lw_m6 138 rfl) rfl
theorem q1424 : (Jvm.Cond.laysFinal "BenchBroker$LeaseAction" "BenchBroker$Action" "first" "I") ∈ lw_all := lw_g (lw_at lw_m6 139 rfl) rfl
theorem q1425 : (Jvm.Cond.laysFinal "BenchBroker$LeaseAction" "BenchBroker$Action" "second" "I") ∈ lw_all := lw_g (lw_at lw_m6 140 rfl) rfl
theorem q1426 : (Jvm.Cond.laysFinal "BenchBroker$LeaseAction" "BenchBroker$Action" "third" "I") ∈ lw_all := lw_g (lw_at lw_m6 141 rfl) rfl
theorem q1427 : (Jvm.Cond.superclass "BenchBroker$LeaseAction" "BenchBroker$Action") ∈ lw_all := lw_g (lw_at lw_m6 142 rfl) rfl
theorem q2097 : (Jvm.Cond.selects "BenchBroker$LeaseAction" ({ cls := "BenchBroker$Action", name := "checkedRun", desc := "(LBenchBroker$Park;)I" } : Jvm.MethodName) ({ cls := "BenchBroker$Action", name := "checkedRun", desc := "(LBenchBroker$Park;)I" } : Jvm.MethodName)) ∈ lw_all := lw_g (lw_at lw_m9 92 rfl) rfl
theorem q2110 : (Jvm.Cond.selects "BenchBroker$LeaseAction" ({ cls := "BenchBroker$Action", name := "isAccepted", desc := "(LBenchBroker$Park;)Z" } : Jvm.MethodName) ({ cls := "BenchBroker$LeaseAction", name := "isAccepted", desc := "(LBenchBroker$Park;)Z" } : Jvm.MethodName)) ∈ lw_all := lw_g (lw_at lw_m9 105 rfl) rfl
theorem q2111 : (Jvm.Cond.instanceMethod ({ cls := "BenchBroker$LeaseAction", name := "isAccepted", desc := "(LBenchBroker$Park;)Z" } : Jvm.MethodName)) ∈ lw_all := lw_g (lw_at lw_m9 106 rfl) rfl
theorem q2112 : (Jvm.Cond.code ({ cls := "BenchBroker$LeaseAction", name := "isAccepted", desc := "(LBenchBroker$Park;)Z" } : Jvm.MethodName) prog_8_method_2_code (2 : Nat) (Option.some Jvm.ClassFile.FieldType.boolean)) ∈ lw_all := lw_g (lw_at lw_m9 107 rfl) rfl
theorem q2113 : (Jvm.Cond.methodLink "BenchBroker$LeaseAction" (23 : Nat) ({ cls := "BenchBroker$Register", name := "has", desc := "(I)Z" } : Jvm.MethodName)) ∈ lw_all := lw_g (lw_at lw_m9 108 rfl) rfl
theorem q2114 : (Jvm.Cond.methodLinkNest "BenchBroker$LeaseAction" (38 : Nat) ({ cls := "BenchBroker", name := "isTerm", desc := "(I)Z" } : Jvm.MethodName) "BenchBroker") ∈ lw_tbl := lw_at lw_m9 109 rfl
theorem q2763 : (Jvm.Cond.castable "BenchBroker$LeaseAction" "BenchBroker$Action") ∈ lw_tbl := lw_at lw_m12 38 rfl
theorem q2785 : (Jvm.Cond.castable "BenchBroker$LeaseAction" "java/lang/Object") ∈ lw_tbl := lw_at lw_m12 60 rfl
theorem in_X14 : ∀ w ∈ wsX140, w ∈ lw_all := lw_in wsX140 [1424, 1425, 1426, 1422] (by decide +kernel) (by decide +kernel)
/-! BenchBroker$Parser -/
set_option maxRecDepth 100000
def RX15 : String := "BenchBroker$Parser"
def TX15 : u_T := fun k => match k with
  | 0 => ("BenchBroker$Parser", "text", "Ljava/lang/String;", true)
  | 1 => ("BenchBroker$Parser", "actions", "Ljava/util/ArrayList;", true)
  | _ => ("BenchBroker$Parser", "offset", "I", false)
def tyX15 : Nat → FieldType := fun k => match k with
  | 0 => .object "java/lang/String"
  | 1 => .object "java/util/ArrayList"
  | _ => .int
abbrev wsX150 : List Cond := u_ws RX15 TX15 3
theorem nmX15 : ∀ a, a < 3 → ∀ b, b < 3 → a ≠ b → (TX15 a).2.1 ≠ (TX15 b).2.1 := by decide +kernel
theorem tyX15_ok : ∀ k, k < 3 → parseFieldDescriptor (TX15 k).2.2.1 = some (tyX15 k) := by decide +kernel
abbrev cX15_init : ByteArray := prog_11_method_1_code
def yX15_init : MethodName := ⟨RX15, "<init>", "(Ljava/lang/String;)V"⟩
def dkwX15_init_0 : List UInt8 := [42, 183, 0, 3, 42, 187, 0, 9, 89, 183, 0, 11, 181, 0, 12, 42, 43, 181, 0, 18, 177]
abbrev dktX15_init_0 : List UInt8 := dkwX15_init_0 ++ []
theorem dksX15_init_0 : cX15_init.data.toList.drop 0 = dktX15_init_0 := by decide +kernel
theorem dX15_init_0 : decode cX15_init 0 = .ok (.aload_n 0, 1) := dk_42 (dk_at dksX15_init_0 0 rfl rfl)
theorem dX15_init_1 : decode cX15_init 1 = .ok (.invokespecial 3, 3) := dk_183 0 3 (dk_at dksX15_init_0 1 rfl rfl)
theorem dX15_init_4 : decode cX15_init 4 = .ok (.aload_n 0, 1) := dk_42 (dk_at dksX15_init_0 4 rfl rfl)
theorem dX15_init_5 : decode cX15_init 5 = .ok (.new 9, 3) := dk_187 0 9 (dk_at dksX15_init_0 5 rfl rfl)
theorem dX15_init_8 : decode cX15_init 8 = .ok (.dup, 1) := dk_89 (dk_at dksX15_init_0 8 rfl rfl)
theorem dX15_init_9 : decode cX15_init 9 = .ok (.invokespecial 11, 3) := dk_183 0 11 (dk_at dksX15_init_0 9 rfl rfl)
theorem dX15_init_12 : decode cX15_init 12 = .ok (.putfield 12, 3) := dk_181 0 12 (dk_at dksX15_init_0 12 rfl rfl)
theorem dX15_init_15 : decode cX15_init 15 = .ok (.aload_n 0, 1) := dk_42 (dk_at dksX15_init_0 15 rfl rfl)
theorem dX15_init_16 : decode cX15_init 16 = .ok (.aload_n 1, 1) := dk_43 (dk_at dksX15_init_0 16 rfl rfl)
theorem dX15_init_17 : decode cX15_init 17 = .ok (.putfield 18, 3) := dk_181 0 18 (dk_at dksX15_init_0 17 rfl rfl)
theorem dX15_init_20 : decode cX15_init 20 = .ok (.return_, 1) := dk_177 (dk_at dksX15_init_0 20 rfl rfl)
abbrev cX15_parse : ByteArray := prog_11_method_12_code
def yX15_parse : MethodName := ⟨RX15, "parse", "()Ljava/util/ArrayList;"⟩
def dkwX15_parse_2 : List UInt8 := [42, 180, 0, 12, 176]
abbrev dktX15_parse_2 : List UInt8 := dkwX15_parse_2 ++ []
def dkwX15_parse_1 : List UInt8 := [162, 0, 24, 42, 16, 59, 182, 0, 45, 42, 180, 0, 12, 42, 182, 0, 110, 182, 0, 113, 87, 167, 255, 224]
abbrev dktX15_parse_1 : List UInt8 := dkwX15_parse_1 ++ dktX15_parse_2
def dkwX15_parse_0 : List UInt8 := [42, 180, 0, 12, 42, 182, 0, 110, 182, 0, 113, 87, 42, 180, 0, 22, 42, 180, 0, 18, 182, 0, 26]
abbrev dktX15_parse_0 : List UInt8 := dkwX15_parse_0 ++ dktX15_parse_1
theorem dksX15_parse_0 : cX15_parse.data.toList.drop 0 = dktX15_parse_0 := by decide +kernel
theorem dksX15_parse_1 : cX15_parse.data.toList.drop 23 = dktX15_parse_1 := dk_seg dksX15_parse_0 23 rfl rfl
theorem dksX15_parse_2 : cX15_parse.data.toList.drop 47 = dktX15_parse_2 := dk_seg dksX15_parse_1 24 rfl rfl
theorem dX15_parse_0 : decode cX15_parse 0 = .ok (.aload_n 0, 1) := dk_42 (dk_at dksX15_parse_0 0 rfl rfl)
theorem dX15_parse_1 : decode cX15_parse 1 = .ok (.getfield 12, 3) := dk_180 0 12 (dk_at dksX15_parse_0 1 rfl rfl)
theorem dX15_parse_4 : decode cX15_parse 4 = .ok (.aload_n 0, 1) := dk_42 (dk_at dksX15_parse_0 4 rfl rfl)
theorem dX15_parse_5 : decode cX15_parse 5 = .ok (.invokevirtual 110, 3) := dk_182 0 110 (dk_at dksX15_parse_0 5 rfl rfl)
theorem dX15_parse_8 : decode cX15_parse 8 = .ok (.invokevirtual 113, 3) := dk_182 0 113 (dk_at dksX15_parse_0 8 rfl rfl)
theorem dX15_parse_11 : decode cX15_parse 11 = .ok (.pop, 1) := dk_87 (dk_at dksX15_parse_0 11 rfl rfl)
theorem dX15_parse_12 : decode cX15_parse 12 = .ok (.aload_n 0, 1) := dk_42 (dk_at dksX15_parse_0 12 rfl rfl)
theorem dX15_parse_13 : decode cX15_parse 13 = .ok (.getfield 22, 3) := dk_180 0 22 (dk_at dksX15_parse_0 13 rfl rfl)
theorem dX15_parse_16 : decode cX15_parse 16 = .ok (.aload_n 0, 1) := dk_42 (dk_at dksX15_parse_0 16 rfl rfl)
theorem dX15_parse_17 : decode cX15_parse 17 = .ok (.getfield 18, 3) := dk_180 0 18 (dk_at dksX15_parse_0 17 rfl rfl)
theorem dX15_parse_20 : decode cX15_parse 20 = .ok (.invokevirtual 26, 3) := dk_182 0 26 (dk_at dksX15_parse_0 20 rfl rfl)
theorem dX15_parse_23 : decode cX15_parse 23 = .ok (.if_icmp .ge 24, 3) := dk_162 0 24 (dk_at dksX15_parse_1 0 rfl rfl)
theorem dX15_parse_26 : decode cX15_parse 26 = .ok (.aload_n 0, 1) := dk_42 (dk_at dksX15_parse_1 3 rfl rfl)
theorem dX15_parse_27 : decode cX15_parse 27 = .ok (.bipush 59, 2) := dk_16 59 (dk_at dksX15_parse_1 4 rfl rfl)
theorem dX15_parse_29 : decode cX15_parse 29 = .ok (.invokevirtual 45, 3) := dk_182 0 45 (dk_at dksX15_parse_1 6 rfl rfl)
theorem dX15_parse_32 : decode cX15_parse 32 = .ok (.aload_n 0, 1) := dk_42 (dk_at dksX15_parse_1 9 rfl rfl)
theorem dX15_parse_33 : decode cX15_parse 33 = .ok (.getfield 12, 3) := dk_180 0 12 (dk_at dksX15_parse_1 10 rfl rfl)
theorem dX15_parse_36 : decode cX15_parse 36 = .ok (.aload_n 0, 1) := dk_42 (dk_at dksX15_parse_1 13 rfl rfl)
theorem dX15_parse_37 : decode cX15_parse 37 = .ok (.invokevirtual 110, 3) := dk_182 0 110 (dk_at dksX15_parse_1 14 rfl rfl)
theorem dX15_parse_40 : decode cX15_parse 40 = .ok (.invokevirtual 113, 3) := dk_182 0 113 (dk_at dksX15_parse_1 17 rfl rfl)
theorem dX15_parse_43 : decode cX15_parse 43 = .ok (.pop, 1) := dk_87 (dk_at dksX15_parse_1 20 rfl rfl)
theorem dX15_parse_44 : decode cX15_parse 44 = .ok (.goto (-32), 3) := dk_167 255 224 (dk_at dksX15_parse_1 21 rfl rfl)
theorem dX15_parse_47 : decode cX15_parse 47 = .ok (.aload_n 0, 1) := dk_42 (dk_at dksX15_parse_2 0 rfl rfl)
theorem dX15_parse_48 : decode cX15_parse 48 = .ok (.getfield 12, 3) := dk_180 0 12 (dk_at dksX15_parse_2 1 rfl rfl)
theorem dX15_parse_51 : decode cX15_parse 51 = .ok (.areturn, 1) := dk_176 (dk_at dksX15_parse_2 4 rfl rfl)
abbrev cX15_action : ByteArray := prog_11_method_11_code
def yX15_action : MethodName := ⟨RX15, "action", "()LBenchBroker$Action;"⟩
def dkwX15_action_8 : List UInt8 := [89, 16, 112, 2, 42, 182, 0, 72, 183, 0, 82, 176, 187, 0, 40, 89, 42, 180, 0, 22, 183, 0, 42, 191]
abbrev dktX15_action_8 : List UInt8 := dkwX15_action_8 ++ []
def dkwX15_action_7 : List UInt8 := [187, 0, 80, 89, 16, 115, 42, 182, 0, 67, 2, 183, 0, 82, 176, 42, 18, 108, 182, 0, 63, 187, 0, 80]
abbrev dktX15_action_7 : List UInt8 := dkwX15_action_7 ++ dktX15_action_8
def dkwX15_action_6 : List UInt8 := [187, 0, 87, 89, 16, 114, 2, 27, 42, 182, 0, 72, 183, 0, 89, 176, 42, 18, 106, 182, 0, 63]
abbrev dktX15_action_6 : List UInt8 := dkwX15_action_6 ++ dktX15_action_7
def dkwX15_action_5 : List UInt8 := [16, 101, 2, 42, 182, 0, 67, 2, 183, 0, 89, 176, 42, 18, 104, 182, 0, 63, 42, 182, 0, 67, 60]
abbrev dktX15_action_5 : List UInt8 := dkwX15_action_5 ++ dktX15_action_6
def dkwX15_action_4 : List UInt8 := [27, 42, 182, 0, 72, 183, 0, 82, 176, 42, 182, 0, 98, 176, 42, 18, 102, 182, 0, 63, 187, 0, 87, 89]
abbrev dktX15_action_4 : List UInt8 := dkwX15_action_4 ++ dktX15_action_5
def dkwX15_action_3 : List UInt8 := [182, 0, 72, 183, 0, 75, 176, 42, 18, 96, 182, 0, 63, 42, 182, 0, 67, 60, 187, 0, 80, 89, 16, 103]
abbrev dktX15_action_3 : List UInt8 := dkwX15_action_3 ++ dktX15_action_4
def dkwX15_action_2 : List UInt8 := [42, 42, 182, 0, 36, 182, 0, 90, 176, 42, 18, 94, 182, 0, 63, 187, 0, 70, 89, 16, 116, 2, 2, 42]
abbrev dktX15_action_2 : List UInt8 := dkwX15_action_2 ++ dktX15_action_3
def dkwX15_action_1 : List UInt8 := [170, 0, 0, 0, 0, 0, 0, 245, 0, 0, 0, 98, 0, 0, 0, 116, 0, 0, 0, 92, 0, 0, 0, 245, 0, 0, 0, 245, 0, 0, 0, 154, 0, 0, 0, 92, 0, 0, 0, 123, 0, 0, 0, 245, 0, 0, 0, 245, 0, 0, 0, 245, 0, 0, 0, 245, 0, 0, 0, 149, 0, 0, 0, 245, 0, 0, 0, 245, 0, 0, 0, 245, 0, 0, 0, 224, 0, 0, 0, 245, 0, 0, 0, 176, 0, 0, 0, 203, 0, 0, 0, 101]
abbrev dktX15_action_1 : List UInt8 := dkwX15_action_1 ++ dktX15_action_2
def dkwX15_action_0 : List UInt8 := [42, 182, 0, 36]
abbrev dktX15_action_0 : List UInt8 := dkwX15_action_0 ++ dktX15_action_1
theorem dksX15_action_0 : cX15_action.data.toList.drop 0 = dktX15_action_0 := by decide +kernel
theorem dksX15_action_1 : cX15_action.data.toList.drop 4 = dktX15_action_1 := dk_seg dksX15_action_0 4 rfl rfl
theorem dksX15_action_2 : cX15_action.data.toList.drop 96 = dktX15_action_2 := dk_seg dksX15_action_1 92 rfl rfl
theorem dksX15_action_3 : cX15_action.data.toList.drop 120 = dktX15_action_3 := dk_seg dksX15_action_2 24 rfl rfl
theorem dksX15_action_4 : cX15_action.data.toList.drop 144 = dktX15_action_4 := dk_seg dksX15_action_3 24 rfl rfl
theorem dksX15_action_5 : cX15_action.data.toList.drop 168 = dktX15_action_5 := dk_seg dksX15_action_4 24 rfl rfl
theorem dksX15_action_6 : cX15_action.data.toList.drop 191 = dktX15_action_6 := dk_seg dksX15_action_5 23 rfl rfl
theorem dksX15_action_7 : cX15_action.data.toList.drop 213 = dktX15_action_7 := dk_seg dksX15_action_6 22 rfl rfl
theorem dksX15_action_8 : cX15_action.data.toList.drop 237 = dktX15_action_8 := dk_seg dksX15_action_7 24 rfl rfl
theorem dX15_action_0 : decode cX15_action 0 = .ok (.aload_n 0, 1) := dk_42 (dk_at dksX15_action_0 0 rfl rfl)
theorem dX15_action_1 : decode cX15_action 1 = .ok (.invokevirtual 36, 3) := dk_182 0 36 (dk_at dksX15_action_0 1 rfl rfl)
theorem dX15_action_4 : decode cX15_action 4 = .ok (.tableswitch 245 98 116 #[92, 245, 245, 154, 92, 123, 245, 245, 245, 245, 149, 245, 245, 245, 224, 245, 176, 203, 101], 92) := by decide +kernel
theorem dX15_action_96 : decode cX15_action 96 = .ok (.aload_n 0, 1) := dk_42 (dk_at dksX15_action_2 0 rfl rfl)
theorem dX15_action_97 : decode cX15_action 97 = .ok (.aload_n 0, 1) := dk_42 (dk_at dksX15_action_2 1 rfl rfl)
theorem dX15_action_98 : decode cX15_action 98 = .ok (.invokevirtual 36, 3) := dk_182 0 36 (dk_at dksX15_action_2 2 rfl rfl)
theorem dX15_action_101 : decode cX15_action 101 = .ok (.invokevirtual 90, 3) := dk_182 0 90 (dk_at dksX15_action_2 5 rfl rfl)
theorem dX15_action_104 : decode cX15_action 104 = .ok (.areturn, 1) := dk_176 (dk_at dksX15_action_2 8 rfl rfl)
theorem dX15_action_105 : decode cX15_action 105 = .ok (.aload_n 0, 1) := dk_42 (dk_at dksX15_action_2 9 rfl rfl)
theorem dX15_action_106 : decode cX15_action 106 = .ok (.ldc 94, 2) := dk_18 94 (dk_at dksX15_action_2 10 rfl rfl)
theorem dX15_action_108 : decode cX15_action 108 = .ok (.invokevirtual 63, 3) := dk_182 0 63 (dk_at dksX15_action_2 12 rfl rfl)
theorem dX15_action_111 : decode cX15_action 111 = .ok (.new 70, 3) := dk_187 0 70 (dk_at dksX15_action_2 15 rfl rfl)
theorem dX15_action_114 : decode cX15_action 114 = .ok (.dup, 1) := dk_89 (dk_at dksX15_action_2 18 rfl rfl)
theorem dX15_action_115 : decode cX15_action 115 = .ok (.bipush 116, 2) := dk_16 116 (dk_at dksX15_action_2 19 rfl rfl)
theorem dX15_action_117 : decode cX15_action 117 = .ok (.iconst (-1), 1) := dk_2 (dk_at dksX15_action_2 21 rfl rfl)
theorem dX15_action_118 : decode cX15_action 118 = .ok (.iconst (-1), 1) := dk_2 (dk_at dksX15_action_2 22 rfl rfl)
theorem dX15_action_119 : decode cX15_action 119 = .ok (.aload_n 0, 1) := dk_42 (dk_at dksX15_action_2 23 rfl rfl)
theorem dX15_action_120 : decode cX15_action 120 = .ok (.invokevirtual 72, 3) := dk_182 0 72 (dk_at dksX15_action_3 0 rfl rfl)
theorem dX15_action_123 : decode cX15_action 123 = .ok (.invokespecial 75, 3) := dk_183 0 75 (dk_at dksX15_action_3 3 rfl rfl)
theorem dX15_action_126 : decode cX15_action 126 = .ok (.areturn, 1) := dk_176 (dk_at dksX15_action_3 6 rfl rfl)
theorem dX15_action_127 : decode cX15_action 127 = .ok (.aload_n 0, 1) := dk_42 (dk_at dksX15_action_3 7 rfl rfl)
theorem dX15_action_128 : decode cX15_action 128 = .ok (.ldc 96, 2) := dk_18 96 (dk_at dksX15_action_3 8 rfl rfl)
theorem dX15_action_130 : decode cX15_action 130 = .ok (.invokevirtual 63, 3) := dk_182 0 63 (dk_at dksX15_action_3 10 rfl rfl)
theorem dX15_action_133 : decode cX15_action 133 = .ok (.aload_n 0, 1) := dk_42 (dk_at dksX15_action_3 13 rfl rfl)
theorem dX15_action_134 : decode cX15_action 134 = .ok (.invokevirtual 67, 3) := dk_182 0 67 (dk_at dksX15_action_3 14 rfl rfl)
theorem dX15_action_137 : decode cX15_action 137 = .ok (.istore_n 1, 1) := dk_60 (dk_at dksX15_action_3 17 rfl rfl)
theorem dX15_action_138 : decode cX15_action 138 = .ok (.new 80, 3) := dk_187 0 80 (dk_at dksX15_action_3 18 rfl rfl)
theorem dX15_action_141 : decode cX15_action 141 = .ok (.dup, 1) := dk_89 (dk_at dksX15_action_3 21 rfl rfl)
theorem dX15_action_142 : decode cX15_action 142 = .ok (.bipush 103, 2) := dk_16 103 (dk_at dksX15_action_3 22 rfl rfl)
theorem dX15_action_144 : decode cX15_action 144 = .ok (.iload_n 1, 1) := dk_27 (dk_at dksX15_action_4 0 rfl rfl)
theorem dX15_action_145 : decode cX15_action 145 = .ok (.aload_n 0, 1) := dk_42 (dk_at dksX15_action_4 1 rfl rfl)
theorem dX15_action_146 : decode cX15_action 146 = .ok (.invokevirtual 72, 3) := dk_182 0 72 (dk_at dksX15_action_4 2 rfl rfl)
theorem dX15_action_149 : decode cX15_action 149 = .ok (.invokespecial 82, 3) := dk_183 0 82 (dk_at dksX15_action_4 5 rfl rfl)
theorem dX15_action_152 : decode cX15_action 152 = .ok (.areturn, 1) := dk_176 (dk_at dksX15_action_4 8 rfl rfl)
theorem dX15_action_153 : decode cX15_action 153 = .ok (.aload_n 0, 1) := dk_42 (dk_at dksX15_action_4 9 rfl rfl)
theorem dX15_action_154 : decode cX15_action 154 = .ok (.invokevirtual 98, 3) := dk_182 0 98 (dk_at dksX15_action_4 10 rfl rfl)
theorem dX15_action_157 : decode cX15_action 157 = .ok (.areturn, 1) := dk_176 (dk_at dksX15_action_4 13 rfl rfl)
theorem dX15_action_158 : decode cX15_action 158 = .ok (.aload_n 0, 1) := dk_42 (dk_at dksX15_action_4 14 rfl rfl)
theorem dX15_action_159 : decode cX15_action 159 = .ok (.ldc 102, 2) := dk_18 102 (dk_at dksX15_action_4 15 rfl rfl)
theorem dX15_action_161 : decode cX15_action 161 = .ok (.invokevirtual 63, 3) := dk_182 0 63 (dk_at dksX15_action_4 17 rfl rfl)
theorem dX15_action_164 : decode cX15_action 164 = .ok (.new 87, 3) := dk_187 0 87 (dk_at dksX15_action_4 20 rfl rfl)
theorem dX15_action_167 : decode cX15_action 167 = .ok (.dup, 1) := dk_89 (dk_at dksX15_action_4 23 rfl rfl)
theorem dX15_action_168 : decode cX15_action 168 = .ok (.bipush 101, 2) := dk_16 101 (dk_at dksX15_action_5 0 rfl rfl)
theorem dX15_action_170 : decode cX15_action 170 = .ok (.iconst (-1), 1) := dk_2 (dk_at dksX15_action_5 2 rfl rfl)
theorem dX15_action_171 : decode cX15_action 171 = .ok (.aload_n 0, 1) := dk_42 (dk_at dksX15_action_5 3 rfl rfl)
theorem dX15_action_172 : decode cX15_action 172 = .ok (.invokevirtual 67, 3) := dk_182 0 67 (dk_at dksX15_action_5 4 rfl rfl)
theorem dX15_action_175 : decode cX15_action 175 = .ok (.iconst (-1), 1) := dk_2 (dk_at dksX15_action_5 7 rfl rfl)
theorem dX15_action_176 : decode cX15_action 176 = .ok (.invokespecial 89, 3) := dk_183 0 89 (dk_at dksX15_action_5 8 rfl rfl)
theorem dX15_action_179 : decode cX15_action 179 = .ok (.areturn, 1) := dk_176 (dk_at dksX15_action_5 11 rfl rfl)
theorem dX15_action_180 : decode cX15_action 180 = .ok (.aload_n 0, 1) := dk_42 (dk_at dksX15_action_5 12 rfl rfl)
theorem dX15_action_181 : decode cX15_action 181 = .ok (.ldc 104, 2) := dk_18 104 (dk_at dksX15_action_5 13 rfl rfl)
theorem dX15_action_183 : decode cX15_action 183 = .ok (.invokevirtual 63, 3) := dk_182 0 63 (dk_at dksX15_action_5 15 rfl rfl)
theorem dX15_action_186 : decode cX15_action 186 = .ok (.aload_n 0, 1) := dk_42 (dk_at dksX15_action_5 18 rfl rfl)
theorem dX15_action_187 : decode cX15_action 187 = .ok (.invokevirtual 67, 3) := dk_182 0 67 (dk_at dksX15_action_5 19 rfl rfl)
theorem dX15_action_190 : decode cX15_action 190 = .ok (.istore_n 1, 1) := dk_60 (dk_at dksX15_action_5 22 rfl rfl)
theorem dX15_action_191 : decode cX15_action 191 = .ok (.new 87, 3) := dk_187 0 87 (dk_at dksX15_action_6 0 rfl rfl)
theorem dX15_action_194 : decode cX15_action 194 = .ok (.dup, 1) := dk_89 (dk_at dksX15_action_6 3 rfl rfl)
theorem dX15_action_195 : decode cX15_action 195 = .ok (.bipush 114, 2) := dk_16 114 (dk_at dksX15_action_6 4 rfl rfl)
theorem dX15_action_197 : decode cX15_action 197 = .ok (.iconst (-1), 1) := dk_2 (dk_at dksX15_action_6 6 rfl rfl)
theorem dX15_action_198 : decode cX15_action 198 = .ok (.iload_n 1, 1) := dk_27 (dk_at dksX15_action_6 7 rfl rfl)
theorem dX15_action_199 : decode cX15_action 199 = .ok (.aload_n 0, 1) := dk_42 (dk_at dksX15_action_6 8 rfl rfl)
theorem dX15_action_200 : decode cX15_action 200 = .ok (.invokevirtual 72, 3) := dk_182 0 72 (dk_at dksX15_action_6 9 rfl rfl)
theorem dX15_action_203 : decode cX15_action 203 = .ok (.invokespecial 89, 3) := dk_183 0 89 (dk_at dksX15_action_6 12 rfl rfl)
theorem dX15_action_206 : decode cX15_action 206 = .ok (.areturn, 1) := dk_176 (dk_at dksX15_action_6 15 rfl rfl)
theorem dX15_action_207 : decode cX15_action 207 = .ok (.aload_n 0, 1) := dk_42 (dk_at dksX15_action_6 16 rfl rfl)
theorem dX15_action_208 : decode cX15_action 208 = .ok (.ldc 106, 2) := dk_18 106 (dk_at dksX15_action_6 17 rfl rfl)
theorem dX15_action_210 : decode cX15_action 210 = .ok (.invokevirtual 63, 3) := dk_182 0 63 (dk_at dksX15_action_6 19 rfl rfl)
theorem dX15_action_213 : decode cX15_action 213 = .ok (.new 80, 3) := dk_187 0 80 (dk_at dksX15_action_7 0 rfl rfl)
theorem dX15_action_216 : decode cX15_action 216 = .ok (.dup, 1) := dk_89 (dk_at dksX15_action_7 3 rfl rfl)
theorem dX15_action_217 : decode cX15_action 217 = .ok (.bipush 115, 2) := dk_16 115 (dk_at dksX15_action_7 4 rfl rfl)
theorem dX15_action_219 : decode cX15_action 219 = .ok (.aload_n 0, 1) := dk_42 (dk_at dksX15_action_7 6 rfl rfl)
theorem dX15_action_220 : decode cX15_action 220 = .ok (.invokevirtual 67, 3) := dk_182 0 67 (dk_at dksX15_action_7 7 rfl rfl)
theorem dX15_action_223 : decode cX15_action 223 = .ok (.iconst (-1), 1) := dk_2 (dk_at dksX15_action_7 10 rfl rfl)
theorem dX15_action_224 : decode cX15_action 224 = .ok (.invokespecial 82, 3) := dk_183 0 82 (dk_at dksX15_action_7 11 rfl rfl)
theorem dX15_action_227 : decode cX15_action 227 = .ok (.areturn, 1) := dk_176 (dk_at dksX15_action_7 14 rfl rfl)
theorem dX15_action_228 : decode cX15_action 228 = .ok (.aload_n 0, 1) := dk_42 (dk_at dksX15_action_7 15 rfl rfl)
theorem dX15_action_229 : decode cX15_action 229 = .ok (.ldc 108, 2) := dk_18 108 (dk_at dksX15_action_7 16 rfl rfl)
theorem dX15_action_231 : decode cX15_action 231 = .ok (.invokevirtual 63, 3) := dk_182 0 63 (dk_at dksX15_action_7 18 rfl rfl)
theorem dX15_action_234 : decode cX15_action 234 = .ok (.new 80, 3) := dk_187 0 80 (dk_at dksX15_action_7 21 rfl rfl)
theorem dX15_action_237 : decode cX15_action 237 = .ok (.dup, 1) := dk_89 (dk_at dksX15_action_8 0 rfl rfl)
theorem dX15_action_238 : decode cX15_action 238 = .ok (.bipush 112, 2) := dk_16 112 (dk_at dksX15_action_8 1 rfl rfl)
theorem dX15_action_240 : decode cX15_action 240 = .ok (.iconst (-1), 1) := dk_2 (dk_at dksX15_action_8 3 rfl rfl)
theorem dX15_action_241 : decode cX15_action 241 = .ok (.aload_n 0, 1) := dk_42 (dk_at dksX15_action_8 4 rfl rfl)
theorem dX15_action_242 : decode cX15_action 242 = .ok (.invokevirtual 72, 3) := dk_182 0 72 (dk_at dksX15_action_8 5 rfl rfl)
theorem dX15_action_245 : decode cX15_action 245 = .ok (.invokespecial 82, 3) := dk_183 0 82 (dk_at dksX15_action_8 8 rfl rfl)
theorem dX15_action_248 : decode cX15_action 248 = .ok (.areturn, 1) := dk_176 (dk_at dksX15_action_8 11 rfl rfl)
theorem dX15_action_249 : decode cX15_action 249 = .ok (.new 40, 3) := dk_187 0 40 (dk_at dksX15_action_8 12 rfl rfl)
theorem dX15_action_252 : decode cX15_action 252 = .ok (.dup, 1) := dk_89 (dk_at dksX15_action_8 15 rfl rfl)
theorem dX15_action_253 : decode cX15_action 253 = .ok (.aload_n 0, 1) := dk_42 (dk_at dksX15_action_8 16 rfl rfl)
theorem dX15_action_254 : decode cX15_action 254 = .ok (.getfield 22, 3) := dk_180 0 22 (dk_at dksX15_action_8 17 rfl rfl)
theorem dX15_action_257 : decode cX15_action 257 = .ok (.invokespecial 42, 3) := dk_183 0 42 (dk_at dksX15_action_8 20 rfl rfl)
theorem dX15_action_260 : decode cX15_action 260 = .ok (.athrow, 1) := dk_191 (dk_at dksX15_action_8 23 rfl rfl)
abbrev cX15_current : ByteArray := prog_11_method_2_code
def yX15_current : MethodName := ⟨RX15, "current", "()C"⟩
def dkwX15_current_1 : List UInt8 := [182, 0, 32, 167, 0, 4, 3, 172]
abbrev dktX15_current_1 : List UInt8 := dkwX15_current_1 ++ []
def dkwX15_current_0 : List UInt8 := [42, 180, 0, 22, 42, 180, 0, 18, 182, 0, 26, 162, 0, 17, 42, 180, 0, 18, 42, 180, 0, 22]
abbrev dktX15_current_0 : List UInt8 := dkwX15_current_0 ++ dktX15_current_1
theorem dksX15_current_0 : cX15_current.data.toList.drop 0 = dktX15_current_0 := by decide +kernel
theorem dksX15_current_1 : cX15_current.data.toList.drop 22 = dktX15_current_1 := dk_seg dksX15_current_0 22 rfl rfl
theorem dX15_current_0 : decode cX15_current 0 = .ok (.aload_n 0, 1) := dk_42 (dk_at dksX15_current_0 0 rfl rfl)
theorem dX15_current_1 : decode cX15_current 1 = .ok (.getfield 22, 3) := dk_180 0 22 (dk_at dksX15_current_0 1 rfl rfl)
theorem dX15_current_4 : decode cX15_current 4 = .ok (.aload_n 0, 1) := dk_42 (dk_at dksX15_current_0 4 rfl rfl)
theorem dX15_current_5 : decode cX15_current 5 = .ok (.getfield 18, 3) := dk_180 0 18 (dk_at dksX15_current_0 5 rfl rfl)
theorem dX15_current_8 : decode cX15_current 8 = .ok (.invokevirtual 26, 3) := dk_182 0 26 (dk_at dksX15_current_0 8 rfl rfl)
theorem dX15_current_11 : decode cX15_current 11 = .ok (.if_icmp .ge 17, 3) := dk_162 0 17 (dk_at dksX15_current_0 11 rfl rfl)
theorem dX15_current_14 : decode cX15_current 14 = .ok (.aload_n 0, 1) := dk_42 (dk_at dksX15_current_0 14 rfl rfl)
theorem dX15_current_15 : decode cX15_current 15 = .ok (.getfield 18, 3) := dk_180 0 18 (dk_at dksX15_current_0 15 rfl rfl)
theorem dX15_current_18 : decode cX15_current 18 = .ok (.aload_n 0, 1) := dk_42 (dk_at dksX15_current_0 18 rfl rfl)
theorem dX15_current_19 : decode cX15_current 19 = .ok (.getfield 22, 3) := dk_180 0 22 (dk_at dksX15_current_0 19 rfl rfl)
theorem dX15_current_22 : decode cX15_current 22 = .ok (.invokevirtual 32, 3) := dk_182 0 32 (dk_at dksX15_current_1 0 rfl rfl)
theorem dX15_current_25 : decode cX15_current 25 = .ok (.goto 4, 3) := dk_167 0 4 (dk_at dksX15_current_1 3 rfl rfl)
theorem dX15_current_28 : decode cX15_current 28 = .ok (.iconst 0, 1) := dk_3 (dk_at dksX15_current_1 6 rfl rfl)
theorem dX15_current_29 : decode cX15_current 29 = .ok (.ireturn, 1) := dk_172 (dk_at dksX15_current_1 7 rfl rfl)
abbrev cX15_addition : ByteArray := prog_11_method_9_code
def yX15_addition : MethodName := ⟨RX15, "addition", "(C)LBenchBroker$Action;"⟩
def dkwX15_addition_2 : List UInt8 := [42, 182, 0, 67, 183, 0, 75, 176]
abbrev dktX15_addition_2 : List UInt8 := dkwX15_addition_2 ++ []
def dkwX15_addition_1 : List UInt8 := [182, 0, 67, 62, 187, 0, 70, 89, 27, 28, 29, 27, 16, 98, 160, 0, 10, 42, 182, 0, 72, 167, 0, 7]
abbrev dktX15_addition_1 : List UInt8 := dkwX15_addition_1 ++ dktX15_addition_2
def dkwX15_addition_0 : List UInt8 := [42, 27, 16, 98, 160, 0, 8, 18, 59, 167, 0, 5, 18, 61, 182, 0, 63, 42, 182, 0, 67, 61, 42]
abbrev dktX15_addition_0 : List UInt8 := dkwX15_addition_0 ++ dktX15_addition_1
theorem dksX15_addition_0 : cX15_addition.data.toList.drop 0 = dktX15_addition_0 := by decide +kernel
theorem dksX15_addition_1 : cX15_addition.data.toList.drop 23 = dktX15_addition_1 := dk_seg dksX15_addition_0 23 rfl rfl
theorem dksX15_addition_2 : cX15_addition.data.toList.drop 47 = dktX15_addition_2 := dk_seg dksX15_addition_1 24 rfl rfl
theorem dX15_addition_0 : decode cX15_addition 0 = .ok (.aload_n 0, 1) := dk_42 (dk_at dksX15_addition_0 0 rfl rfl)
theorem dX15_addition_1 : decode cX15_addition 1 = .ok (.iload_n 1, 1) := dk_27 (dk_at dksX15_addition_0 1 rfl rfl)
theorem dX15_addition_2 : decode cX15_addition 2 = .ok (.bipush 98, 2) := dk_16 98 (dk_at dksX15_addition_0 2 rfl rfl)
theorem dX15_addition_4 : decode cX15_addition 4 = .ok (.if_icmp .ne 8, 3) := dk_160 0 8 (dk_at dksX15_addition_0 4 rfl rfl)
theorem dX15_addition_7 : decode cX15_addition 7 = .ok (.ldc 59, 2) := dk_18 59 (dk_at dksX15_addition_0 7 rfl rfl)
theorem dX15_addition_9 : decode cX15_addition 9 = .ok (.goto 5, 3) := dk_167 0 5 (dk_at dksX15_addition_0 9 rfl rfl)
theorem dX15_addition_12 : decode cX15_addition 12 = .ok (.ldc 61, 2) := dk_18 61 (dk_at dksX15_addition_0 12 rfl rfl)
theorem dX15_addition_14 : decode cX15_addition 14 = .ok (.invokevirtual 63, 3) := dk_182 0 63 (dk_at dksX15_addition_0 14 rfl rfl)
theorem dX15_addition_17 : decode cX15_addition 17 = .ok (.aload_n 0, 1) := dk_42 (dk_at dksX15_addition_0 17 rfl rfl)
theorem dX15_addition_18 : decode cX15_addition 18 = .ok (.invokevirtual 67, 3) := dk_182 0 67 (dk_at dksX15_addition_0 18 rfl rfl)
theorem dX15_addition_21 : decode cX15_addition 21 = .ok (.istore_n 2, 1) := dk_61 (dk_at dksX15_addition_0 21 rfl rfl)
theorem dX15_addition_22 : decode cX15_addition 22 = .ok (.aload_n 0, 1) := dk_42 (dk_at dksX15_addition_0 22 rfl rfl)
theorem dX15_addition_23 : decode cX15_addition 23 = .ok (.invokevirtual 67, 3) := dk_182 0 67 (dk_at dksX15_addition_1 0 rfl rfl)
theorem dX15_addition_26 : decode cX15_addition 26 = .ok (.istore_n 3, 1) := dk_62 (dk_at dksX15_addition_1 3 rfl rfl)
theorem dX15_addition_27 : decode cX15_addition 27 = .ok (.new 70, 3) := dk_187 0 70 (dk_at dksX15_addition_1 4 rfl rfl)
theorem dX15_addition_30 : decode cX15_addition 30 = .ok (.dup, 1) := dk_89 (dk_at dksX15_addition_1 7 rfl rfl)
theorem dX15_addition_31 : decode cX15_addition 31 = .ok (.iload_n 1, 1) := dk_27 (dk_at dksX15_addition_1 8 rfl rfl)
theorem dX15_addition_32 : decode cX15_addition 32 = .ok (.iload_n 2, 1) := dk_28 (dk_at dksX15_addition_1 9 rfl rfl)
theorem dX15_addition_33 : decode cX15_addition 33 = .ok (.iload_n 3, 1) := dk_29 (dk_at dksX15_addition_1 10 rfl rfl)
theorem dX15_addition_34 : decode cX15_addition 34 = .ok (.iload_n 1, 1) := dk_27 (dk_at dksX15_addition_1 11 rfl rfl)
theorem dX15_addition_35 : decode cX15_addition 35 = .ok (.bipush 98, 2) := dk_16 98 (dk_at dksX15_addition_1 12 rfl rfl)
theorem dX15_addition_37 : decode cX15_addition 37 = .ok (.if_icmp .ne 10, 3) := dk_160 0 10 (dk_at dksX15_addition_1 14 rfl rfl)
theorem dX15_addition_40 : decode cX15_addition 40 = .ok (.aload_n 0, 1) := dk_42 (dk_at dksX15_addition_1 17 rfl rfl)
theorem dX15_addition_41 : decode cX15_addition 41 = .ok (.invokevirtual 72, 3) := dk_182 0 72 (dk_at dksX15_addition_1 18 rfl rfl)
theorem dX15_addition_44 : decode cX15_addition 44 = .ok (.goto 7, 3) := dk_167 0 7 (dk_at dksX15_addition_1 21 rfl rfl)
theorem dX15_addition_47 : decode cX15_addition 47 = .ok (.aload_n 0, 1) := dk_42 (dk_at dksX15_addition_2 0 rfl rfl)
theorem dX15_addition_48 : decode cX15_addition 48 = .ok (.invokevirtual 67, 3) := dk_182 0 67 (dk_at dksX15_addition_2 1 rfl rfl)
theorem dX15_addition_51 : decode cX15_addition 51 = .ok (.invokespecial 75, 3) := dk_183 0 75 (dk_at dksX15_addition_2 4 rfl rfl)
theorem dX15_addition_54 : decode cX15_addition 54 = .ok (.areturn, 1) := dk_176 (dk_at dksX15_addition_2 7 rfl rfl)
abbrev cX15_word : ByteArray := prog_11_method_4_code
def yX15_word : MethodName := ⟨RX15, "word", "(Ljava/lang/String;)V"⟩
def dkwX15_word_1 : List UInt8 := [167, 255, 236, 177]
abbrev dktX15_word_1 : List UInt8 := dkwX15_word_1 ++ []
def dkwX15_word_0 : List UInt8 := [3, 61, 28, 43, 182, 0, 26, 162, 0, 18, 42, 43, 28, 182, 0, 32, 182, 0, 45, 132, 2, 1]
abbrev dktX15_word_0 : List UInt8 := dkwX15_word_0 ++ dktX15_word_1
theorem dksX15_word_0 : cX15_word.data.toList.drop 0 = dktX15_word_0 := by decide +kernel
theorem dksX15_word_1 : cX15_word.data.toList.drop 22 = dktX15_word_1 := dk_seg dksX15_word_0 22 rfl rfl
theorem dX15_word_0 : decode cX15_word 0 = .ok (.iconst 0, 1) := dk_3 (dk_at dksX15_word_0 0 rfl rfl)
theorem dX15_word_1 : decode cX15_word 1 = .ok (.istore_n 2, 1) := dk_61 (dk_at dksX15_word_0 1 rfl rfl)
theorem dX15_word_2 : decode cX15_word 2 = .ok (.iload_n 2, 1) := dk_28 (dk_at dksX15_word_0 2 rfl rfl)
theorem dX15_word_3 : decode cX15_word 3 = .ok (.aload_n 1, 1) := dk_43 (dk_at dksX15_word_0 3 rfl rfl)
theorem dX15_word_4 : decode cX15_word 4 = .ok (.invokevirtual 26, 3) := dk_182 0 26 (dk_at dksX15_word_0 4 rfl rfl)
theorem dX15_word_7 : decode cX15_word 7 = .ok (.if_icmp .ge 18, 3) := dk_162 0 18 (dk_at dksX15_word_0 7 rfl rfl)
theorem dX15_word_10 : decode cX15_word 10 = .ok (.aload_n 0, 1) := dk_42 (dk_at dksX15_word_0 10 rfl rfl)
theorem dX15_word_11 : decode cX15_word 11 = .ok (.aload_n 1, 1) := dk_43 (dk_at dksX15_word_0 11 rfl rfl)
theorem dX15_word_12 : decode cX15_word 12 = .ok (.iload_n 2, 1) := dk_28 (dk_at dksX15_word_0 12 rfl rfl)
theorem dX15_word_13 : decode cX15_word 13 = .ok (.invokevirtual 32, 3) := dk_182 0 32 (dk_at dksX15_word_0 13 rfl rfl)
theorem dX15_word_16 : decode cX15_word 16 = .ok (.invokevirtual 45, 3) := dk_182 0 45 (dk_at dksX15_word_0 16 rfl rfl)
theorem dX15_word_19 : decode cX15_word 19 = .ok (.iinc 2 1, 3) := dk_132 2 1 (dk_at dksX15_word_0 19 rfl rfl)
theorem dX15_word_22 : decode cX15_word 22 = .ok (.goto (-20), 3) := dk_167 255 236 (dk_at dksX15_word_1 0 rfl rfl)
theorem dX15_word_25 : decode cX15_word 25 = .ok (.return_, 1) := dk_177 (dk_at dksX15_word_1 3 rfl rfl)
abbrev cX15_expect : ByteArray := prog_11_method_3_code
def yX15_expect : MethodName := ⟨RX15, "expect", "(C)V"⟩
def dkwX15_expect_1 : List UInt8 := [180, 0, 22, 4, 96, 181, 0, 22, 177]
abbrev dktX15_expect_1 : List UInt8 := dkwX15_expect_1 ++ []
def dkwX15_expect_0 : List UInt8 := [42, 182, 0, 36, 27, 159, 0, 15, 187, 0, 40, 89, 42, 180, 0, 22, 183, 0, 42, 191, 42, 89]
abbrev dktX15_expect_0 : List UInt8 := dkwX15_expect_0 ++ dktX15_expect_1
theorem dksX15_expect_0 : cX15_expect.data.toList.drop 0 = dktX15_expect_0 := by decide +kernel
theorem dksX15_expect_1 : cX15_expect.data.toList.drop 22 = dktX15_expect_1 := dk_seg dksX15_expect_0 22 rfl rfl
theorem dX15_expect_0 : decode cX15_expect 0 = .ok (.aload_n 0, 1) := dk_42 (dk_at dksX15_expect_0 0 rfl rfl)
theorem dX15_expect_1 : decode cX15_expect 1 = .ok (.invokevirtual 36, 3) := dk_182 0 36 (dk_at dksX15_expect_0 1 rfl rfl)
theorem dX15_expect_4 : decode cX15_expect 4 = .ok (.iload_n 1, 1) := dk_27 (dk_at dksX15_expect_0 4 rfl rfl)
theorem dX15_expect_5 : decode cX15_expect 5 = .ok (.if_icmp .eq 15, 3) := dk_159 0 15 (dk_at dksX15_expect_0 5 rfl rfl)
theorem dX15_expect_8 : decode cX15_expect 8 = .ok (.new 40, 3) := dk_187 0 40 (dk_at dksX15_expect_0 8 rfl rfl)
theorem dX15_expect_11 : decode cX15_expect 11 = .ok (.dup, 1) := dk_89 (dk_at dksX15_expect_0 11 rfl rfl)
theorem dX15_expect_12 : decode cX15_expect 12 = .ok (.aload_n 0, 1) := dk_42 (dk_at dksX15_expect_0 12 rfl rfl)
theorem dX15_expect_13 : decode cX15_expect 13 = .ok (.getfield 22, 3) := dk_180 0 22 (dk_at dksX15_expect_0 13 rfl rfl)
theorem dX15_expect_16 : decode cX15_expect 16 = .ok (.invokespecial 42, 3) := dk_183 0 42 (dk_at dksX15_expect_0 16 rfl rfl)
theorem dX15_expect_19 : decode cX15_expect 19 = .ok (.athrow, 1) := dk_191 (dk_at dksX15_expect_0 19 rfl rfl)
theorem dX15_expect_20 : decode cX15_expect 20 = .ok (.aload_n 0, 1) := dk_42 (dk_at dksX15_expect_0 20 rfl rfl)
theorem dX15_expect_21 : decode cX15_expect 21 = .ok (.dup, 1) := dk_89 (dk_at dksX15_expect_0 21 rfl rfl)
theorem dX15_expect_22 : decode cX15_expect 22 = .ok (.getfield 22, 3) := dk_180 0 22 (dk_at dksX15_expect_1 0 rfl rfl)
theorem dX15_expect_25 : decode cX15_expect 25 = .ok (.iconst 1, 1) := dk_4 (dk_at dksX15_expect_1 3 rfl rfl)
theorem dX15_expect_26 : decode cX15_expect 26 = .ok (.iadd, 1) := dk_96 (dk_at dksX15_expect_1 4 rfl rfl)
theorem dX15_expect_27 : decode cX15_expect 27 = .ok (.putfield 22, 3) := dk_181 0 22 (dk_at dksX15_expect_1 5 rfl rfl)
theorem dX15_expect_30 : decode cX15_expect 30 = .ok (.return_, 1) := dk_177 (dk_at dksX15_expect_1 8 rfl rfl)
abbrev cX15_spacedDigit : ByteArray := prog_11_method_7_code
def yX15_spacedDigit : MethodName := ⟨RX15, "spacedDigit", "()I"⟩
def dkwX15_spacedDigit_0 : List UInt8 := [42, 16, 32, 182, 0, 45, 42, 182, 0, 53, 172]
abbrev dktX15_spacedDigit_0 : List UInt8 := dkwX15_spacedDigit_0 ++ []
theorem dksX15_spacedDigit_0 : cX15_spacedDigit.data.toList.drop 0 = dktX15_spacedDigit_0 := by decide +kernel
theorem dX15_spacedDigit_0 : decode cX15_spacedDigit 0 = .ok (.aload_n 0, 1) := dk_42 (dk_at dksX15_spacedDigit_0 0 rfl rfl)
theorem dX15_spacedDigit_1 : decode cX15_spacedDigit 1 = .ok (.bipush 32, 2) := dk_16 32 (dk_at dksX15_spacedDigit_0 1 rfl rfl)
theorem dX15_spacedDigit_3 : decode cX15_spacedDigit 3 = .ok (.invokevirtual 45, 3) := dk_182 0 45 (dk_at dksX15_spacedDigit_0 3 rfl rfl)
theorem dX15_spacedDigit_6 : decode cX15_spacedDigit 6 = .ok (.aload_n 0, 1) := dk_42 (dk_at dksX15_spacedDigit_0 6 rfl rfl)
theorem dX15_spacedDigit_7 : decode cX15_spacedDigit 7 = .ok (.invokevirtual 53, 3) := dk_182 0 53 (dk_at dksX15_spacedDigit_0 7 rfl rfl)
theorem dX15_spacedDigit_10 : decode cX15_spacedDigit 10 = .ok (.ireturn, 1) := dk_172 (dk_at dksX15_spacedDigit_0 10 rfl rfl)
abbrev cX15_digit : ByteArray := prog_11_method_5_code
def yX15_digit : MethodName := ⟨RX15, "digit", "()I"⟩
def dkwX15_digit_1 : List UInt8 := [183, 0, 42, 191, 42, 89, 180, 0, 22, 4, 96, 181, 0, 22, 27, 16, 48, 100, 172]
abbrev dktX15_digit_1 : List UInt8 := dkwX15_digit_1 ++ []
def dkwX15_digit_0 : List UInt8 := [42, 182, 0, 36, 60, 27, 16, 48, 16, 57, 184, 0, 49, 154, 0, 15, 187, 0, 40, 89, 42, 180, 0, 22]
abbrev dktX15_digit_0 : List UInt8 := dkwX15_digit_0 ++ dktX15_digit_1
theorem dksX15_digit_0 : cX15_digit.data.toList.drop 0 = dktX15_digit_0 := by decide +kernel
theorem dksX15_digit_1 : cX15_digit.data.toList.drop 24 = dktX15_digit_1 := dk_seg dksX15_digit_0 24 rfl rfl
theorem dX15_digit_0 : decode cX15_digit 0 = .ok (.aload_n 0, 1) := dk_42 (dk_at dksX15_digit_0 0 rfl rfl)
theorem dX15_digit_1 : decode cX15_digit 1 = .ok (.invokevirtual 36, 3) := dk_182 0 36 (dk_at dksX15_digit_0 1 rfl rfl)
theorem dX15_digit_4 : decode cX15_digit 4 = .ok (.istore_n 1, 1) := dk_60 (dk_at dksX15_digit_0 4 rfl rfl)
theorem dX15_digit_5 : decode cX15_digit 5 = .ok (.iload_n 1, 1) := dk_27 (dk_at dksX15_digit_0 5 rfl rfl)
theorem dX15_digit_6 : decode cX15_digit 6 = .ok (.bipush 48, 2) := dk_16 48 (dk_at dksX15_digit_0 6 rfl rfl)
theorem dX15_digit_8 : decode cX15_digit 8 = .ok (.bipush 57, 2) := dk_16 57 (dk_at dksX15_digit_0 8 rfl rfl)
theorem dX15_digit_10 : decode cX15_digit 10 = .ok (.invokestatic 49, 3) := dk_184 0 49 (dk_at dksX15_digit_0 10 rfl rfl)
theorem dX15_digit_13 : decode cX15_digit 13 = .ok (.ifCond .ne 15, 3) := dk_154 0 15 (dk_at dksX15_digit_0 13 rfl rfl)
theorem dX15_digit_16 : decode cX15_digit 16 = .ok (.new 40, 3) := dk_187 0 40 (dk_at dksX15_digit_0 16 rfl rfl)
theorem dX15_digit_19 : decode cX15_digit 19 = .ok (.dup, 1) := dk_89 (dk_at dksX15_digit_0 19 rfl rfl)
theorem dX15_digit_20 : decode cX15_digit 20 = .ok (.aload_n 0, 1) := dk_42 (dk_at dksX15_digit_0 20 rfl rfl)
theorem dX15_digit_21 : decode cX15_digit 21 = .ok (.getfield 22, 3) := dk_180 0 22 (dk_at dksX15_digit_0 21 rfl rfl)
theorem dX15_digit_24 : decode cX15_digit 24 = .ok (.invokespecial 42, 3) := dk_183 0 42 (dk_at dksX15_digit_1 0 rfl rfl)
theorem dX15_digit_27 : decode cX15_digit 27 = .ok (.athrow, 1) := dk_191 (dk_at dksX15_digit_1 3 rfl rfl)
theorem dX15_digit_28 : decode cX15_digit 28 = .ok (.aload_n 0, 1) := dk_42 (dk_at dksX15_digit_1 4 rfl rfl)
theorem dX15_digit_29 : decode cX15_digit 29 = .ok (.dup, 1) := dk_89 (dk_at dksX15_digit_1 5 rfl rfl)
theorem dX15_digit_30 : decode cX15_digit 30 = .ok (.getfield 22, 3) := dk_180 0 22 (dk_at dksX15_digit_1 6 rfl rfl)
theorem dX15_digit_33 : decode cX15_digit 33 = .ok (.iconst 1, 1) := dk_4 (dk_at dksX15_digit_1 9 rfl rfl)
theorem dX15_digit_34 : decode cX15_digit 34 = .ok (.iadd, 1) := dk_96 (dk_at dksX15_digit_1 10 rfl rfl)
theorem dX15_digit_35 : decode cX15_digit 35 = .ok (.putfield 22, 3) := dk_181 0 22 (dk_at dksX15_digit_1 11 rfl rfl)
theorem dX15_digit_38 : decode cX15_digit 38 = .ok (.iload_n 1, 1) := dk_27 (dk_at dksX15_digit_1 14 rfl rfl)
theorem dX15_digit_39 : decode cX15_digit 39 = .ok (.bipush 48, 2) := dk_16 48 (dk_at dksX15_digit_1 15 rfl rfl)
theorem dX15_digit_41 : decode cX15_digit 41 = .ok (.isub, 1) := dk_100 (dk_at dksX15_digit_1 17 rfl rfl)
theorem dX15_digit_42 : decode cX15_digit 42 = .ok (.ireturn, 1) := dk_172 (dk_at dksX15_digit_1 18 rfl rfl)
abbrev cX15_spacedNumber : ByteArray := prog_11_method_8_code
def yX15_spacedNumber : MethodName := ⟨RX15, "spacedNumber", "()I"⟩
def dkwX15_spacedNumber_0 : List UInt8 := [42, 16, 32, 182, 0, 45, 42, 182, 0, 56, 172]
abbrev dktX15_spacedNumber_0 : List UInt8 := dkwX15_spacedNumber_0 ++ []
theorem dksX15_spacedNumber_0 : cX15_spacedNumber.data.toList.drop 0 = dktX15_spacedNumber_0 := by decide +kernel
theorem dX15_spacedNumber_0 : decode cX15_spacedNumber 0 = .ok (.aload_n 0, 1) := dk_42 (dk_at dksX15_spacedNumber_0 0 rfl rfl)
theorem dX15_spacedNumber_1 : decode cX15_spacedNumber 1 = .ok (.bipush 32, 2) := dk_16 32 (dk_at dksX15_spacedNumber_0 1 rfl rfl)
theorem dX15_spacedNumber_3 : decode cX15_spacedNumber 3 = .ok (.invokevirtual 45, 3) := dk_182 0 45 (dk_at dksX15_spacedNumber_0 3 rfl rfl)
theorem dX15_spacedNumber_6 : decode cX15_spacedNumber 6 = .ok (.aload_n 0, 1) := dk_42 (dk_at dksX15_spacedNumber_0 6 rfl rfl)
theorem dX15_spacedNumber_7 : decode cX15_spacedNumber 7 = .ok (.invokevirtual 56, 3) := dk_182 0 56 (dk_at dksX15_spacedNumber_0 7 rfl rfl)
theorem dX15_spacedNumber_10 : decode cX15_spacedNumber 10 = .ok (.ireturn, 1) := dk_172 (dk_at dksX15_spacedNumber_0 10 rfl rfl)
abbrev cX15_number : ByteArray := prog_11_method_6_code
def yX15_number : MethodName := ⟨RX15, "number", "()I"⟩
def dkwX15_number_1 : List UInt8 := [182, 0, 53, 96, 167, 0, 4, 27, 172]
abbrev dktX15_number_1 : List UInt8 := dkwX15_number_1 ++ []
def dkwX15_number_0 : List UInt8 := [42, 182, 0, 53, 60, 42, 182, 0, 36, 16, 48, 16, 57, 184, 0, 49, 153, 0, 15, 16, 10, 27, 104, 42]
abbrev dktX15_number_0 : List UInt8 := dkwX15_number_0 ++ dktX15_number_1
theorem dksX15_number_0 : cX15_number.data.toList.drop 0 = dktX15_number_0 := by decide +kernel
theorem dksX15_number_1 : cX15_number.data.toList.drop 24 = dktX15_number_1 := dk_seg dksX15_number_0 24 rfl rfl
theorem dX15_number_0 : decode cX15_number 0 = .ok (.aload_n 0, 1) := dk_42 (dk_at dksX15_number_0 0 rfl rfl)
theorem dX15_number_1 : decode cX15_number 1 = .ok (.invokevirtual 53, 3) := dk_182 0 53 (dk_at dksX15_number_0 1 rfl rfl)
theorem dX15_number_4 : decode cX15_number 4 = .ok (.istore_n 1, 1) := dk_60 (dk_at dksX15_number_0 4 rfl rfl)
theorem dX15_number_5 : decode cX15_number 5 = .ok (.aload_n 0, 1) := dk_42 (dk_at dksX15_number_0 5 rfl rfl)
theorem dX15_number_6 : decode cX15_number 6 = .ok (.invokevirtual 36, 3) := dk_182 0 36 (dk_at dksX15_number_0 6 rfl rfl)
theorem dX15_number_9 : decode cX15_number 9 = .ok (.bipush 48, 2) := dk_16 48 (dk_at dksX15_number_0 9 rfl rfl)
theorem dX15_number_11 : decode cX15_number 11 = .ok (.bipush 57, 2) := dk_16 57 (dk_at dksX15_number_0 11 rfl rfl)
theorem dX15_number_13 : decode cX15_number 13 = .ok (.invokestatic 49, 3) := dk_184 0 49 (dk_at dksX15_number_0 13 rfl rfl)
theorem dX15_number_16 : decode cX15_number 16 = .ok (.ifCond .eq 15, 3) := dk_153 0 15 (dk_at dksX15_number_0 16 rfl rfl)
theorem dX15_number_19 : decode cX15_number 19 = .ok (.bipush 10, 2) := dk_16 10 (dk_at dksX15_number_0 19 rfl rfl)
theorem dX15_number_21 : decode cX15_number 21 = .ok (.iload_n 1, 1) := dk_27 (dk_at dksX15_number_0 21 rfl rfl)
theorem dX15_number_22 : decode cX15_number 22 = .ok (.imul, 1) := dk_104 (dk_at dksX15_number_0 22 rfl rfl)
theorem dX15_number_23 : decode cX15_number 23 = .ok (.aload_n 0, 1) := dk_42 (dk_at dksX15_number_0 23 rfl rfl)
theorem dX15_number_24 : decode cX15_number 24 = .ok (.invokevirtual 53, 3) := dk_182 0 53 (dk_at dksX15_number_1 0 rfl rfl)
theorem dX15_number_27 : decode cX15_number 27 = .ok (.iadd, 1) := dk_96 (dk_at dksX15_number_1 3 rfl rfl)
theorem dX15_number_28 : decode cX15_number 28 = .ok (.goto 4, 3) := dk_167 0 4 (dk_at dksX15_number_1 4 rfl rfl)
theorem dX15_number_31 : decode cX15_number 31 = .ok (.iload_n 1, 1) := dk_27 (dk_at dksX15_number_1 7 rfl rfl)
theorem dX15_number_32 : decode cX15_number 32 = .ok (.ireturn, 1) := dk_172 (dk_at dksX15_number_1 8 rfl rfl)
abbrev cX15_limitOrLease : ByteArray := prog_11_method_10_code
def yX15_limitOrLease : MethodName := ⟨RX15, "limitOrLease", "()LBenchBroker$Action;"⟩
def dkwX15_limitOrLease_2 : List UInt8 := [182, 0, 67, 61, 187, 0, 87, 89, 16, 108, 27, 28, 42, 182, 0, 72, 183, 0, 89, 176]
abbrev dktX15_limitOrLease_2 : List UInt8 := dkwX15_limitOrLease_2 ++ []
def dkwX15_limitOrLease_1 : List UInt8 := [89, 16, 110, 2, 42, 182, 0, 72, 183, 0, 82, 176, 42, 18, 85, 182, 0, 63, 42, 182, 0, 67, 60, 42]
abbrev dktX15_limitOrLease_1 : List UInt8 := dkwX15_limitOrLease_1 ++ dktX15_limitOrLease_2
def dkwX15_limitOrLease_0 : List UInt8 := [42, 16, 108, 182, 0, 45, 42, 182, 0, 36, 16, 105, 160, 0, 24, 42, 18, 78, 182, 0, 63, 187, 0, 80]
abbrev dktX15_limitOrLease_0 : List UInt8 := dkwX15_limitOrLease_0 ++ dktX15_limitOrLease_1
theorem dksX15_limitOrLease_0 : cX15_limitOrLease.data.toList.drop 0 = dktX15_limitOrLease_0 := by decide +kernel
theorem dksX15_limitOrLease_1 : cX15_limitOrLease.data.toList.drop 24 = dktX15_limitOrLease_1 := dk_seg dksX15_limitOrLease_0 24 rfl rfl
theorem dksX15_limitOrLease_2 : cX15_limitOrLease.data.toList.drop 48 = dktX15_limitOrLease_2 := dk_seg dksX15_limitOrLease_1 24 rfl rfl
theorem dX15_limitOrLease_0 : decode cX15_limitOrLease 0 = .ok (.aload_n 0, 1) := dk_42 (dk_at dksX15_limitOrLease_0 0 rfl rfl)
theorem dX15_limitOrLease_1 : decode cX15_limitOrLease 1 = .ok (.bipush 108, 2) := dk_16 108 (dk_at dksX15_limitOrLease_0 1 rfl rfl)
theorem dX15_limitOrLease_3 : decode cX15_limitOrLease 3 = .ok (.invokevirtual 45, 3) := dk_182 0 45 (dk_at dksX15_limitOrLease_0 3 rfl rfl)
theorem dX15_limitOrLease_6 : decode cX15_limitOrLease 6 = .ok (.aload_n 0, 1) := dk_42 (dk_at dksX15_limitOrLease_0 6 rfl rfl)
theorem dX15_limitOrLease_7 : decode cX15_limitOrLease 7 = .ok (.invokevirtual 36, 3) := dk_182 0 36 (dk_at dksX15_limitOrLease_0 7 rfl rfl)
theorem dX15_limitOrLease_10 : decode cX15_limitOrLease 10 = .ok (.bipush 105, 2) := dk_16 105 (dk_at dksX15_limitOrLease_0 10 rfl rfl)
theorem dX15_limitOrLease_12 : decode cX15_limitOrLease 12 = .ok (.if_icmp .ne 24, 3) := dk_160 0 24 (dk_at dksX15_limitOrLease_0 12 rfl rfl)
theorem dX15_limitOrLease_15 : decode cX15_limitOrLease 15 = .ok (.aload_n 0, 1) := dk_42 (dk_at dksX15_limitOrLease_0 15 rfl rfl)
theorem dX15_limitOrLease_16 : decode cX15_limitOrLease 16 = .ok (.ldc 78, 2) := dk_18 78 (dk_at dksX15_limitOrLease_0 16 rfl rfl)
theorem dX15_limitOrLease_18 : decode cX15_limitOrLease 18 = .ok (.invokevirtual 63, 3) := dk_182 0 63 (dk_at dksX15_limitOrLease_0 18 rfl rfl)
theorem dX15_limitOrLease_21 : decode cX15_limitOrLease 21 = .ok (.new 80, 3) := dk_187 0 80 (dk_at dksX15_limitOrLease_0 21 rfl rfl)
theorem dX15_limitOrLease_24 : decode cX15_limitOrLease 24 = .ok (.dup, 1) := dk_89 (dk_at dksX15_limitOrLease_1 0 rfl rfl)
theorem dX15_limitOrLease_25 : decode cX15_limitOrLease 25 = .ok (.bipush 110, 2) := dk_16 110 (dk_at dksX15_limitOrLease_1 1 rfl rfl)
theorem dX15_limitOrLease_27 : decode cX15_limitOrLease 27 = .ok (.iconst (-1), 1) := dk_2 (dk_at dksX15_limitOrLease_1 3 rfl rfl)
theorem dX15_limitOrLease_28 : decode cX15_limitOrLease 28 = .ok (.aload_n 0, 1) := dk_42 (dk_at dksX15_limitOrLease_1 4 rfl rfl)
theorem dX15_limitOrLease_29 : decode cX15_limitOrLease 29 = .ok (.invokevirtual 72, 3) := dk_182 0 72 (dk_at dksX15_limitOrLease_1 5 rfl rfl)
theorem dX15_limitOrLease_32 : decode cX15_limitOrLease 32 = .ok (.invokespecial 82, 3) := dk_183 0 82 (dk_at dksX15_limitOrLease_1 8 rfl rfl)
theorem dX15_limitOrLease_35 : decode cX15_limitOrLease 35 = .ok (.areturn, 1) := dk_176 (dk_at dksX15_limitOrLease_1 11 rfl rfl)
theorem dX15_limitOrLease_36 : decode cX15_limitOrLease 36 = .ok (.aload_n 0, 1) := dk_42 (dk_at dksX15_limitOrLease_1 12 rfl rfl)
theorem dX15_limitOrLease_37 : decode cX15_limitOrLease 37 = .ok (.ldc 85, 2) := dk_18 85 (dk_at dksX15_limitOrLease_1 13 rfl rfl)
theorem dX15_limitOrLease_39 : decode cX15_limitOrLease 39 = .ok (.invokevirtual 63, 3) := dk_182 0 63 (dk_at dksX15_limitOrLease_1 15 rfl rfl)
theorem dX15_limitOrLease_42 : decode cX15_limitOrLease 42 = .ok (.aload_n 0, 1) := dk_42 (dk_at dksX15_limitOrLease_1 18 rfl rfl)
theorem dX15_limitOrLease_43 : decode cX15_limitOrLease 43 = .ok (.invokevirtual 67, 3) := dk_182 0 67 (dk_at dksX15_limitOrLease_1 19 rfl rfl)
theorem dX15_limitOrLease_46 : decode cX15_limitOrLease 46 = .ok (.istore_n 1, 1) := dk_60 (dk_at dksX15_limitOrLease_1 22 rfl rfl)
theorem dX15_limitOrLease_47 : decode cX15_limitOrLease 47 = .ok (.aload_n 0, 1) := dk_42 (dk_at dksX15_limitOrLease_1 23 rfl rfl)
theorem dX15_limitOrLease_48 : decode cX15_limitOrLease 48 = .ok (.invokevirtual 67, 3) := dk_182 0 67 (dk_at dksX15_limitOrLease_2 0 rfl rfl)
theorem dX15_limitOrLease_51 : decode cX15_limitOrLease 51 = .ok (.istore_n 2, 1) := dk_61 (dk_at dksX15_limitOrLease_2 3 rfl rfl)
theorem dX15_limitOrLease_52 : decode cX15_limitOrLease 52 = .ok (.new 87, 3) := dk_187 0 87 (dk_at dksX15_limitOrLease_2 4 rfl rfl)
theorem dX15_limitOrLease_55 : decode cX15_limitOrLease 55 = .ok (.dup, 1) := dk_89 (dk_at dksX15_limitOrLease_2 7 rfl rfl)
theorem dX15_limitOrLease_56 : decode cX15_limitOrLease 56 = .ok (.bipush 108, 2) := dk_16 108 (dk_at dksX15_limitOrLease_2 8 rfl rfl)
theorem dX15_limitOrLease_58 : decode cX15_limitOrLease 58 = .ok (.iload_n 1, 1) := dk_27 (dk_at dksX15_limitOrLease_2 10 rfl rfl)
theorem dX15_limitOrLease_59 : decode cX15_limitOrLease 59 = .ok (.iload_n 2, 1) := dk_28 (dk_at dksX15_limitOrLease_2 11 rfl rfl)
theorem dX15_limitOrLease_60 : decode cX15_limitOrLease 60 = .ok (.aload_n 0, 1) := dk_42 (dk_at dksX15_limitOrLease_2 12 rfl rfl)
theorem dX15_limitOrLease_61 : decode cX15_limitOrLease 61 = .ok (.invokevirtual 72, 3) := dk_182 0 72 (dk_at dksX15_limitOrLease_2 13 rfl rfl)
theorem dX15_limitOrLease_64 : decode cX15_limitOrLease 64 = .ok (.invokespecial 89, 3) := dk_183 0 89 (dk_at dksX15_limitOrLease_2 16 rfl rfl)
theorem dX15_limitOrLease_67 : decode cX15_limitOrLease 67 = .ok (.areturn, 1) := dk_176 (dk_at dksX15_limitOrLease_2 19 rfl rfl)
theorem q128 : (Jvm.Cond.initialized "BenchBroker$Parser") ∈ lw_all := lw_g (lw_at lw_m1 43 rfl) rfl
theorem q613 : (Jvm.Cond.selects "BenchBroker$Parser" ({ cls := "java/lang/Object", name := "getClass", desc := "()Ljava/lang/Class;" } : Jvm.MethodName) ({ cls := "java/lang/Object", name := "getClass", desc := "()Ljava/lang/Class;" } : Jvm.MethodName)) ∈ lw_all := lw_g (lw_at lw_m3 48 rfl) rfl
theorem q1889 : (Jvm.Cond.instantiable "BenchBroker$Parser" (3 : Nat)) ∈ lw_all := lw_g (lw_at lw_m8 124 rfl) rfl
theorem q1891 : (Jvm.Cond.instanceMethod ({ cls := "BenchBroker$Parser", name := "<init>", desc := "(Ljava/lang/String;)V" } : Jvm.MethodName)) ∈ lw_all := lw_g (lw_at lw_m8 126 rfl) rfl
theorem q1892 : (Jvm.Cond.code ({ cls := "BenchBroker$Parser", name := "<init>", desc := "(Ljava/lang/String;)V" } : Jvm.MethodName) prog_11_method_1_code (2 : Nat) (Option.none : Option Jvm.ClassFile.FieldType)) ∈ lw_all := lw_g (lw_at lw_m8 127 rfl) rfl
theorem q1893 : (Jvm.Cond.methodLink "BenchBroker$Parser" (3 : Nat) ({ cls := "java/lang/Object", name := "<init>", desc := "()V" } : Jvm.MethodName)) ∈ lw_all := lw_g (lw_at lw_m8 128 rfl) rfl
theorem q1894 : (Jvm.Cond.classLink "BenchBroker$Parser" (9 : Nat) "java/util/ArrayList") ∈ lw_all := lw_g (lw_at lw_m8 129 rfl) rfl
theorem q1895 : (Jvm.Cond.methodLink "BenchBroker$Parser" (11 : Nat) ({ cls := "java/util/ArrayList", name := "<init>", desc := "()V" } : Jvm.MethodName)) ∈ lw_all := lw_g (lw_at lw_m8 130 rfl) rfl
theorem q1896 : (Jvm.Cond.fieldLink "BenchBroker$Parser" (18 : Nat) "BenchBroker$Parser" "text" "Ljava/lang/String;") ∈ lw_all := lw_g (lw_at lw_m8 131 rfl) rfl
theorem q1897 : (Jvm.Cond.fieldLink "BenchBroker$Parser" (12 : Nat) "BenchBroker$Parser" "actions" "Ljava/util/ArrayList;") ∈ lw_all := lw_g (lw_at lw_m8 132 rfl) rfl
theorem q1898 : (Jvm.Cond.fieldLink "BenchBroker$Parser" (22 : Nat) "BenchBroker$Parser" "offset" "I") ∈ lw_all := lw_g (lw_at lw_m8 133 rfl) rfl
theorem q1899 : (Jvm.Cond.laysFinal "BenchBroker$Parser" "BenchBroker$Parser" "text" "Ljava/lang/String;") ∈ lw_all := lw_g (lw_at lw_m8 134 rfl) rfl
theorem q1900 : (Jvm.Cond.soleField "BenchBroker$Parser" "text") ∈ lw_all := lw_g (lw_at lw_m8 135 rfl) rfl
theorem q1901 : (Jvm.Cond.laysFinal "BenchBroker$Parser" "BenchBroker$Parser" "actions" "Ljava/util/ArrayList;") ∈ lw_all := lw_g (lw_at lw_m8 136 rfl) rfl
theorem q1902 : (Jvm.Cond.soleField "BenchBroker$Parser" "actions") ∈ lw_all := lw_g (lw_at lw_m8 137 rfl) rfl
theorem q1903 : (Jvm.Cond.lays "BenchBroker$Parser" "BenchBroker$Parser" "offset" "I") ∈ lw_all := lw_g (lw_at lw_m8 138 rfl) rfl
theorem q1904 : (Jvm.Cond.soleField "BenchBroker$Parser" "offset") ∈ lw_all := lw_g (lw_at lw_m8 139 rfl) rfl
theorem q1905 : (Jvm.Cond.superclass "BenchBroker$Parser" "java/lang/Object") ∈ lw_all := lw_g (lw_at lw_m8 140 rfl) rfl
theorem q1959 : (Jvm.Cond.instanceMethod ({ cls := "BenchBroker$Parser", name := "parse", desc := "()Ljava/util/ArrayList;" } : Jvm.MethodName)) ∈ lw_all := lw_g (lw_at lw_m8 194 rfl) rfl
theorem q1960 : (Jvm.Cond.selects "BenchBroker$Parser" ({ cls := "BenchBroker$Parser", name := "parse", desc := "()Ljava/util/ArrayList;" } : Jvm.MethodName) ({ cls := "BenchBroker$Parser", name := "parse", desc := "()Ljava/util/ArrayList;" } : Jvm.MethodName)) ∈ lw_all := lw_g (lw_at lw_m8 195 rfl) rfl
theorem q1961 : (Jvm.Cond.code ({ cls := "BenchBroker$Parser", name := "parse", desc := "()Ljava/util/ArrayList;" } : Jvm.MethodName) prog_11_method_12_code (1 : Nat) (Option.some (Jvm.ClassFile.FieldType.object "java/util/ArrayList"))) ∈ lw_all := lw_g (lw_at lw_m8 196 rfl) rfl
theorem q1962 : (Jvm.Cond.methodLink "BenchBroker$Parser" (110 : Nat) ({ cls := "BenchBroker$Parser", name := "action", desc := "()LBenchBroker$Action;" } : Jvm.MethodName)) ∈ lw_all := lw_g (lw_at lw_m8 197 rfl) rfl
theorem q1963 : (Jvm.Cond.privateMethod ({ cls := "BenchBroker$Parser", name := "action", desc := "()LBenchBroker$Action;" } : Jvm.MethodName)) ∈ lw_tbl := lw_at lw_m8 198 rfl
theorem q1964 : (Jvm.Cond.instanceMethod ({ cls := "BenchBroker$Parser", name := "action", desc := "()LBenchBroker$Action;" } : Jvm.MethodName)) ∈ lw_all := lw_g (lw_at lw_m8 199 rfl) rfl
theorem q1965 : (Jvm.Cond.code ({ cls := "BenchBroker$Parser", name := "action", desc := "()LBenchBroker$Action;" } : Jvm.MethodName) prog_11_method_11_code (2 : Nat) (Option.some (Jvm.ClassFile.FieldType.object "BenchBroker$Action"))) ∈ lw_all := lw_g (lw_at lw_m8 200 rfl) rfl
theorem q1966 : (Jvm.Cond.methodLink "BenchBroker$Parser" (36 : Nat) ({ cls := "BenchBroker$Parser", name := "current", desc := "()C" } : Jvm.MethodName)) ∈ lw_all := lw_g (lw_at lw_m8 201 rfl) rfl
theorem q1967 : (Jvm.Cond.privateMethod ({ cls := "BenchBroker$Parser", name := "current", desc := "()C" } : Jvm.MethodName)) ∈ lw_tbl := lw_at lw_m8 202 rfl
theorem q1968 : (Jvm.Cond.instanceMethod ({ cls := "BenchBroker$Parser", name := "current", desc := "()C" } : Jvm.MethodName)) ∈ lw_all := lw_g (lw_at lw_m8 203 rfl) rfl
theorem q1969 : (Jvm.Cond.code ({ cls := "BenchBroker$Parser", name := "current", desc := "()C" } : Jvm.MethodName) prog_11_method_2_code (1 : Nat) (Option.some Jvm.ClassFile.FieldType.char)) ∈ lw_all := lw_g (lw_at lw_m8 204 rfl) rfl
theorem q1970 : (Jvm.Cond.methodLink "BenchBroker$Parser" (26 : Nat) ({ cls := "java/lang/String", name := "length", desc := "()I" } : Jvm.MethodName)) ∈ lw_all := lw_g (lw_at lw_m8 205 rfl) rfl
theorem q1971 : (Jvm.Cond.methodLink "BenchBroker$Parser" (32 : Nat) ({ cls := "java/lang/String", name := "charAt", desc := "(I)C" } : Jvm.MethodName)) ∈ lw_all := lw_g (lw_at lw_m8 206 rfl) rfl
theorem q1972 : (Jvm.Cond.methodLink "BenchBroker$Parser" (90 : Nat) ({ cls := "BenchBroker$Parser", name := "addition", desc := "(C)LBenchBroker$Action;" } : Jvm.MethodName)) ∈ lw_all := lw_g (lw_at lw_m8 207 rfl) rfl
theorem q1973 : (Jvm.Cond.privateMethod ({ cls := "BenchBroker$Parser", name := "addition", desc := "(C)LBenchBroker$Action;" } : Jvm.MethodName)) ∈ lw_tbl := lw_at lw_m8 208 rfl
theorem q1974 : (Jvm.Cond.instanceMethod ({ cls := "BenchBroker$Parser", name := "addition", desc := "(C)LBenchBroker$Action;" } : Jvm.MethodName)) ∈ lw_all := lw_g (lw_at lw_m8 209 rfl) rfl
theorem q1975 : (Jvm.Cond.code ({ cls := "BenchBroker$Parser", name := "addition", desc := "(C)LBenchBroker$Action;" } : Jvm.MethodName) prog_11_method_9_code (4 : Nat) (Option.some (Jvm.ClassFile.FieldType.object "BenchBroker$Action"))) ∈ lw_all := lw_g (lw_at lw_m8 210 rfl) rfl
theorem q1976 : (Jvm.Cond.stringRef "BenchBroker$Parser" (59 : Nat) "bench") ∈ lw_tbl := lw_at lw_m8 211 rfl
theorem q1977 : (Jvm.Cond.stringRef "BenchBroker$Parser" (61 : Nat) "fountain") ∈ lw_tbl := lw_at lw_m8 212 rfl
theorem q1978 : (Jvm.Cond.methodLink "BenchBroker$Parser" (63 : Nat) ({ cls := "BenchBroker$Parser", name := "word", desc := "(Ljava/lang/String;)V" } : Jvm.MethodName)) ∈ lw_all := lw_g (lw_at lw_m8 213 rfl) rfl
theorem q1979 : (Jvm.Cond.privateMethod ({ cls := "BenchBroker$Parser", name := "word", desc := "(Ljava/lang/String;)V" } : Jvm.MethodName)) ∈ lw_tbl := lw_at lw_m8 214 rfl
theorem q1980 : (Jvm.Cond.instanceMethod ({ cls := "BenchBroker$Parser", name := "word", desc := "(Ljava/lang/String;)V" } : Jvm.MethodName)) ∈ lw_all := lw_g (lw_at lw_m8 215 rfl) rfl
theorem q1981 : (Jvm.Cond.code ({ cls := "BenchBroker$Parser", name := "word", desc := "(Ljava/lang/String;)V" } : Jvm.MethodName) prog_11_method_4_code (3 : Nat) (Option.none : Option Jvm.ClassFile.FieldType)) ∈ lw_all := lw_g (lw_at lw_m8 216 rfl) rfl
theorem q1982 : (Jvm.Cond.methodLink "BenchBroker$Parser" (45 : Nat) ({ cls := "BenchBroker$Parser", name := "expect", desc := "(C)V" } : Jvm.MethodName)) ∈ lw_all := lw_g (lw_at lw_m8 217 rfl) rfl
theorem q1983 : (Jvm.Cond.privateMethod ({ cls := "BenchBroker$Parser", name := "expect", desc := "(C)V" } : Jvm.MethodName)) ∈ lw_tbl := lw_at lw_m8 218 rfl
theorem q1984 : (Jvm.Cond.instanceMethod ({ cls := "BenchBroker$Parser", name := "expect", desc := "(C)V" } : Jvm.MethodName)) ∈ lw_all := lw_g (lw_at lw_m8 219 rfl) rfl
theorem q1985 : (Jvm.Cond.code ({ cls := "BenchBroker$Parser", name := "expect", desc := "(C)V" } : Jvm.MethodName) prog_11_method_3_code (2 : Nat) (Option.none : Option Jvm.ClassFile.FieldType)) ∈ lw_all := lw_g (lw_at lw_m8 220 rfl) rfl
theorem q1986 : (Jvm.Cond.classLink "BenchBroker$Parser" (40 : Nat) "BenchBroker$SyntaxError") ∈ lw_all := lw_g (lw_at lw_m8 221 rfl) rfl
theorem q1995 : (Jvm.Cond.methodLink "BenchBroker$Parser" (42 : Nat) ({ cls := "BenchBroker$SyntaxError", name := "<init>", desc := "(I)V" } : Jvm.MethodName)) ∈ lw_all := lw_g (lw_at lw_m8 230 rfl) rfl
theorem q2005 : (Jvm.Cond.methodLink "BenchBroker$Parser" (67 : Nat) ({ cls := "BenchBroker$Parser", name := "spacedDigit", desc := "()I" } : Jvm.MethodName)) ∈ lw_all := lw_g (lw_at lw_m9 0 rfl) rfl
theorem q2006 : (Jvm.Cond.privateMethod ({ cls := "BenchBroker$Parser", name := "spacedDigit", desc := "()I" } : Jvm.MethodName)) ∈ lw_tbl := lw_at lw_m9 1 rfl
theorem q2007 : (Jvm.Cond.instanceMethod ({ cls := "BenchBroker$Parser", name := "spacedDigit", desc := "()I" } : Jvm.MethodName)) ∈ lw_all := lw_g (lw_at lw_m9 2 rfl) rfl
theorem q2008 : (Jvm.Cond.code ({ cls := "BenchBroker$Parser", name := "spacedDigit", desc := "()I" } : Jvm.MethodName) prog_11_method_7_code (1 : Nat) (Option.some Jvm.ClassFile.FieldType.int)) ∈ lw_all := lw_g (lw_at lw_m9 3 rfl) rfl
theorem q2009 : (Jvm.Cond.methodLink "BenchBroker$Parser" (53 : Nat) ({ cls := "BenchBroker$Parser", name := "digit", desc := "()I" } : Jvm.MethodName)) ∈ lw_all := lw_g (lw_at lw_m9 4 rfl) rfl
theorem q2010 : (Jvm.Cond.privateMethod ({ cls := "BenchBroker$Parser", name := "digit", desc := "()I" } : Jvm.MethodName)) ∈ lw_tbl := lw_at lw_m9 5 rfl
theorem q2011 : (Jvm.Cond.instanceMethod ({ cls := "BenchBroker$Parser", name := "digit", desc := "()I" } : Jvm.MethodName)) ∈ lw_all := lw_g (lw_at lw_m9 6 rfl) rfl
theorem q2012 : (Jvm.Cond.code ({ cls := "BenchBroker$Parser", name := "digit", desc := "()I" } : Jvm.MethodName) prog_11_method_5_code (2 : Nat) (Option.some Jvm.ClassFile.FieldType.int)) ∈ lw_all := lw_g (lw_at lw_m9 7 rfl) rfl
theorem q2013 : (Jvm.Cond.methodLinkNest "BenchBroker$Parser" (49 : Nat) ({ cls := "BenchBroker", name := "isBetween", desc := "(III)Z" } : Jvm.MethodName) "BenchBroker") ∈ lw_tbl := lw_at lw_m9 8 rfl
theorem q2014 : (Jvm.Cond.classLink "BenchBroker$Parser" (70 : Nat) "BenchBroker$Addition") ∈ lw_all := lw_g (lw_at lw_m9 9 rfl) rfl
theorem q2015 : (Jvm.Cond.methodLink "BenchBroker$Parser" (72 : Nat) ({ cls := "BenchBroker$Parser", name := "spacedNumber", desc := "()I" } : Jvm.MethodName)) ∈ lw_all := lw_g (lw_at lw_m9 10 rfl) rfl
theorem q2016 : (Jvm.Cond.privateMethod ({ cls := "BenchBroker$Parser", name := "spacedNumber", desc := "()I" } : Jvm.MethodName)) ∈ lw_tbl := lw_at lw_m9 11 rfl
theorem q2017 : (Jvm.Cond.instanceMethod ({ cls := "BenchBroker$Parser", name := "spacedNumber", desc := "()I" } : Jvm.MethodName)) ∈ lw_all := lw_g (lw_at lw_m9 12 rfl) rfl
theorem q2018 : (Jvm.Cond.code ({ cls := "BenchBroker$Parser", name := "spacedNumber", desc := "()I" } : Jvm.MethodName) prog_11_method_8_code (1 : Nat) (Option.some Jvm.ClassFile.FieldType.int)) ∈ lw_all := lw_g (lw_at lw_m9 13 rfl) rfl
theorem q2019 : (Jvm.Cond.methodLink "BenchBroker$Parser" (56 : Nat) ({ cls := "BenchBroker$Parser", name := "number", desc := "()I" } : Jvm.MethodName)) ∈ lw_all := lw_g (lw_at lw_m9 14 rfl) rfl
theorem q2020 : (Jvm.Cond.privateMethod ({ cls := "BenchBroker$Parser", name := "number", desc := "()I" } : Jvm.MethodName)) ∈ lw_tbl := lw_at lw_m9 15 rfl
theorem q2021 : (Jvm.Cond.instanceMethod ({ cls := "BenchBroker$Parser", name := "number", desc := "()I" } : Jvm.MethodName)) ∈ lw_all := lw_g (lw_at lw_m9 16 rfl) rfl
theorem q2022 : (Jvm.Cond.code ({ cls := "BenchBroker$Parser", name := "number", desc := "()I" } : Jvm.MethodName) prog_11_method_6_code (2 : Nat) (Option.some Jvm.ClassFile.FieldType.int)) ∈ lw_all := lw_g (lw_at lw_m9 17 rfl) rfl
theorem q2023 : (Jvm.Cond.methodLink "BenchBroker$Parser" (75 : Nat) ({ cls := "BenchBroker$Addition", name := "<init>", desc := "(CIII)V" } : Jvm.MethodName)) ∈ lw_all := lw_g (lw_at lw_m9 18 rfl) rfl
theorem q2024 : (Jvm.Cond.stringRef "BenchBroker$Parser" (94 : Nat) "tenant") ∈ lw_tbl := lw_at lw_m9 19 rfl
theorem q2025 : (Jvm.Cond.stringRef "BenchBroker$Parser" (96 : Nat) "give") ∈ lw_tbl := lw_at lw_m9 20 rfl
theorem q2026 : (Jvm.Cond.classLink "BenchBroker$Parser" (80 : Nat) "BenchBroker$PlainAction") ∈ lw_all := lw_g (lw_at lw_m9 21 rfl) rfl
theorem q2027 : (Jvm.Cond.methodLink "BenchBroker$Parser" (82 : Nat) ({ cls := "BenchBroker$PlainAction", name := "<init>", desc := "(CII)V" } : Jvm.MethodName)) ∈ lw_all := lw_g (lw_at lw_m9 22 rfl) rfl
theorem q2028 : (Jvm.Cond.methodLink "BenchBroker$Parser" (98 : Nat) ({ cls := "BenchBroker$Parser", name := "limitOrLease", desc := "()LBenchBroker$Action;" } : Jvm.MethodName)) ∈ lw_all := lw_g (lw_at lw_m9 23 rfl) rfl
theorem q2029 : (Jvm.Cond.privateMethod ({ cls := "BenchBroker$Parser", name := "limitOrLease", desc := "()LBenchBroker$Action;" } : Jvm.MethodName)) ∈ lw_tbl := lw_at lw_m9 24 rfl
theorem q2030 : (Jvm.Cond.instanceMethod ({ cls := "BenchBroker$Parser", name := "limitOrLease", desc := "()LBenchBroker$Action;" } : Jvm.MethodName)) ∈ lw_all := lw_g (lw_at lw_m9 25 rfl) rfl
theorem q2031 : (Jvm.Cond.code ({ cls := "BenchBroker$Parser", name := "limitOrLease", desc := "()LBenchBroker$Action;" } : Jvm.MethodName) prog_11_method_10_code (3 : Nat) (Option.some (Jvm.ClassFile.FieldType.object "BenchBroker$Action"))) ∈ lw_all := lw_g (lw_at lw_m9 26 rfl) rfl
theorem q2032 : (Jvm.Cond.stringRef "BenchBroker$Parser" (78 : Nat) "imit") ∈ lw_tbl := lw_at lw_m9 27 rfl
theorem q2033 : (Jvm.Cond.stringRef "BenchBroker$Parser" (85 : Nat) "ease") ∈ lw_tbl := lw_at lw_m9 28 rfl
theorem q2034 : (Jvm.Cond.classLink "BenchBroker$Parser" (87 : Nat) "BenchBroker$LeaseAction") ∈ lw_all := lw_g (lw_at lw_m9 29 rfl) rfl
theorem q2035 : (Jvm.Cond.methodLink "BenchBroker$Parser" (89 : Nat) ({ cls := "BenchBroker$LeaseAction", name := "<init>", desc := "(CIII)V" } : Jvm.MethodName)) ∈ lw_all := lw_g (lw_at lw_m9 30 rfl) rfl
theorem q2036 : (Jvm.Cond.stringRef "BenchBroker$Parser" (102 : Nat) "end") ∈ lw_tbl := lw_at lw_m9 31 rfl
theorem q2037 : (Jvm.Cond.stringRef "BenchBroker$Parser" (104 : Nat) "renew") ∈ lw_tbl := lw_at lw_m9 32 rfl
theorem q2038 : (Jvm.Cond.stringRef "BenchBroker$Parser" (106 : Nat) "switch") ∈ lw_tbl := lw_at lw_m9 33 rfl
theorem q2039 : (Jvm.Cond.stringRef "BenchBroker$Parser" (108 : Nat) "pass") ∈ lw_tbl := lw_at lw_m9 34 rfl
theorem q2040 : (Jvm.Cond.methodLink "BenchBroker$Parser" (113 : Nat) ({ cls := "java/util/ArrayList", name := "add", desc := "(Ljava/lang/Object;)Z" } : Jvm.MethodName)) ∈ lw_all := lw_g (lw_at lw_m9 35 rfl) rfl
theorem q2788 : (Jvm.Cond.castable "BenchBroker$Parser" "java/lang/Object") ∈ lw_tbl := lw_at lw_m12 63 rfl
theorem in_X15 : ∀ w ∈ wsX150, w ∈ lw_all := lw_in wsX150 [1899, 1901, 1903] (by decide +kernel) (by decide +kernel)
/-! BenchBroker$SyntaxError -/
set_option maxRecDepth 100000
def RX16 : String := "BenchBroker$SyntaxError"
def TX16 : u_T := fun k => match k with
  | 0 => ("java/lang/Throwable", "cause", "Ljava/lang/Throwable;", false)
  | 1 => ("java/lang/Throwable", "stackTrace", "[Ljava/lang/StackTraceElement;", false)
  | 2 => ("java/lang/Throwable", "suppressedExceptions", "Ljava/util/List;", false)
  | 3 => ("java/lang/Throwable", "detailMessage", "Ljava/lang/String;", false)
  | 4 => ("java/lang/Throwable", "backtrace", "Ljava/lang/Object;", false)
  | 5 => ("java/lang/Throwable", "depth", "I", false)
  | _ => ("BenchBroker$SyntaxError", "offset", "I", true)
def tyX16 : Nat → FieldType := fun k => match k with
  | 0 => .object "java/lang/Throwable"
  | 1 => .array (.object "java/lang/StackTraceElement")
  | 2 => .object "java/util/List"
  | 3 => .object "java/lang/String"
  | 4 => .object "java/lang/Object"
  | 5 => .int
  | _ => .int
abbrev wsX160 : List Cond := u_ws RX16 TX16 7
theorem nmX16 : ∀ a, a < 7 → ∀ b, b < 7 → a ≠ b → (TX16 a).2.1 ≠ (TX16 b).2.1 := by decide +kernel
theorem tyX16_ok : ∀ k, k < 7 → parseFieldDescriptor (TX16 k).2.2.1 = some (tyX16 k) := by decide +kernel
abbrev cX16_init : ByteArray := prog_16_method_1_code
def yX16_init : MethodName := ⟨RX16, "<init>", "(I)V"⟩
def dkwX16_init_0 : List UInt8 := [42, 183, 0, 1, 42, 27, 181, 0, 7, 177]
abbrev dktX16_init_0 : List UInt8 := dkwX16_init_0 ++ []
theorem dksX16_init_0 : cX16_init.data.toList.drop 0 = dktX16_init_0 := by decide +kernel
theorem dX16_init_0 : decode cX16_init 0 = .ok (.aload_n 0, 1) := dk_42 (dk_at dksX16_init_0 0 rfl rfl)
theorem dX16_init_1 : decode cX16_init 1 = .ok (.invokespecial 1, 3) := dk_183 0 1 (dk_at dksX16_init_0 1 rfl rfl)
theorem dX16_init_4 : decode cX16_init 4 = .ok (.aload_n 0, 1) := dk_42 (dk_at dksX16_init_0 4 rfl rfl)
theorem dX16_init_5 : decode cX16_init 5 = .ok (.iload_n 1, 1) := dk_27 (dk_at dksX16_init_0 5 rfl rfl)
theorem dX16_init_6 : decode cX16_init 6 = .ok (.putfield 7, 3) := dk_181 0 7 (dk_at dksX16_init_0 6 rfl rfl)
theorem dX16_init_9 : decode cX16_init 9 = .ok (.return_, 1) := dk_177 (dk_at dksX16_init_0 9 rfl rfl)
theorem q130 : (Jvm.Cond.initialized "BenchBroker$SyntaxError") ∈ lw_all := lw_g (lw_at lw_m1 45 rfl) rfl
theorem q559 : (Jvm.Cond.selects "BenchBroker$SyntaxError" ({ cls := "java/lang/Throwable", name := "fillInStackTrace", desc := "()Ljava/lang/Throwable;" } : Jvm.MethodName) ({ cls := "java/lang/Throwable", name := "fillInStackTrace", desc := "()Ljava/lang/Throwable;" } : Jvm.MethodName)) ∈ lw_all := lw_g (lw_at lw_m2 234 rfl) rfl
theorem q617 : (Jvm.Cond.selects "BenchBroker$SyntaxError" ({ cls := "java/lang/Object", name := "getClass", desc := "()Ljava/lang/Class;" } : Jvm.MethodName) ({ cls := "java/lang/Object", name := "getClass", desc := "()Ljava/lang/Class;" } : Jvm.MethodName)) ∈ lw_all := lw_g (lw_at lw_m3 52 rfl) rfl
theorem q1987 : (Jvm.Cond.instantiable "BenchBroker$SyntaxError" (7 : Nat)) ∈ lw_all := lw_g (lw_at lw_m8 222 rfl) rfl
theorem q1988 : (Jvm.Cond.castable "BenchBroker$SyntaxError" "BenchBroker$SyntaxError") ∈ lw_tbl := lw_at lw_m8 223 rfl
theorem q1989 : (Jvm.Cond.selects "BenchBroker$SyntaxError" ({ cls := "java/lang/Throwable", name := "fillInStackTrace", desc := "(I)Ljava/lang/Throwable;" } : Jvm.MethodName) ({ cls := "java/lang/Throwable", name := "fillInStackTrace", desc := "(I)Ljava/lang/Throwable;" } : Jvm.MethodName)) ∈ lw_all := lw_g (lw_at lw_m8 224 rfl) rfl
theorem q1990 : (Jvm.Cond.lays "BenchBroker$SyntaxError" "java/lang/Throwable" "cause" "Ljava/lang/Throwable;") ∈ lw_all := lw_g (lw_at lw_m8 225 rfl) rfl
theorem q1991 : (Jvm.Cond.lays "BenchBroker$SyntaxError" "java/lang/Throwable" "stackTrace" "[Ljava/lang/StackTraceElement;") ∈ lw_all := lw_g (lw_at lw_m8 226 rfl) rfl
theorem q1992 : (Jvm.Cond.lays "BenchBroker$SyntaxError" "java/lang/Throwable" "suppressedExceptions" "Ljava/util/List;") ∈ lw_all := lw_g (lw_at lw_m8 227 rfl) rfl
theorem q1993 : (Jvm.Cond.lays "BenchBroker$SyntaxError" "java/lang/Throwable" "detailMessage" "Ljava/lang/String;") ∈ lw_all := lw_g (lw_at lw_m8 228 rfl) rfl
theorem q1994 : (Jvm.Cond.lays "BenchBroker$SyntaxError" "java/lang/Throwable" "backtrace" "Ljava/lang/Object;") ∈ lw_all := lw_g (lw_at lw_m8 229 rfl) rfl
theorem q1996 : (Jvm.Cond.instanceMethod ({ cls := "BenchBroker$SyntaxError", name := "<init>", desc := "(I)V" } : Jvm.MethodName)) ∈ lw_all := lw_g (lw_at lw_m8 231 rfl) rfl
theorem q1997 : (Jvm.Cond.code ({ cls := "BenchBroker$SyntaxError", name := "<init>", desc := "(I)V" } : Jvm.MethodName) prog_16_method_1_code (2 : Nat) (Option.none : Option Jvm.ClassFile.FieldType)) ∈ lw_all := lw_g (lw_at lw_m8 232 rfl) rfl
theorem q1998 : (Jvm.Cond.methodLink "BenchBroker$SyntaxError" (1 : Nat) ({ cls := "java/lang/Exception", name := "<init>", desc := "()V" } : Jvm.MethodName)) ∈ lw_all := lw_g (lw_at lw_m8 233 rfl) rfl
theorem q1999 : (Jvm.Cond.fieldLink "BenchBroker$SyntaxError" (7 : Nat) "BenchBroker$SyntaxError" "offset" "I") ∈ lw_all := lw_g (lw_at lw_m8 234 rfl) rfl
theorem q2001 : (Jvm.Cond.laysFinal "BenchBroker$SyntaxError" "BenchBroker$SyntaxError" "offset" "I") ∈ lw_all := lw_g (lw_at lw_m8 236 rfl) rfl
theorem q2002 : (Jvm.Cond.soleField "BenchBroker$SyntaxError" "offset") ∈ lw_all := lw_g (lw_at lw_m8 237 rfl) rfl
theorem q2003 : (Jvm.Cond.lays "BenchBroker$SyntaxError" "java/lang/Throwable" "depth" "I") ∈ lw_all := lw_g (lw_at lw_m8 238 rfl) rfl
theorem q2004 : (Jvm.Cond.superclass "BenchBroker$SyntaxError" "java/lang/Exception") ∈ lw_all := lw_g (lw_at lw_m8 239 rfl) rfl
theorem q2790 : (Jvm.Cond.castable "BenchBroker$SyntaxError" "java/lang/Object") ∈ lw_tbl := lw_at lw_m12 65 rfl
theorem in_X16 : ∀ w ∈ wsX160, w ∈ lw_all := lw_in wsX160 [1990, 1991, 1992, 1993, 1994, 2003, 2001] (by decide +kernel) (by decide +kernel)
/-! BenchBroker$BadCommand -/
set_option maxRecDepth 100000
def RX17 : String := "BenchBroker$BadCommand"
def TX17 : u_T := fun k => match k with
  | 0 => ("java/lang/Throwable", "cause", "Ljava/lang/Throwable;", false)
  | 1 => ("java/lang/Throwable", "stackTrace", "[Ljava/lang/StackTraceElement;", false)
  | 2 => ("java/lang/Throwable", "suppressedExceptions", "Ljava/util/List;", false)
  | 3 => ("java/lang/Throwable", "detailMessage", "Ljava/lang/String;", false)
  | 4 => ("java/lang/Throwable", "backtrace", "Ljava/lang/Object;", false)
  | _ => ("java/lang/Throwable", "depth", "I", false)
def tyX17 : Nat → FieldType := fun k => match k with
  | 0 => .object "java/lang/Throwable"
  | 1 => .array (.object "java/lang/StackTraceElement")
  | 2 => .object "java/util/List"
  | 3 => .object "java/lang/String"
  | 4 => .object "java/lang/Object"
  | _ => .int
abbrev wsX170 : List Cond := u_ws RX17 TX17 6
theorem nmX17 : ∀ a, a < 6 → ∀ b, b < 6 → a ≠ b → (TX17 a).2.1 ≠ (TX17 b).2.1 := by decide +kernel
theorem tyX17_ok : ∀ k, k < 6 → parseFieldDescriptor (TX17 k).2.2.1 = some (tyX17 k) := by decide +kernel
abbrev cX17_init : ByteArray := prog_4_method_1_code
def yX17_init : MethodName := ⟨RX17, "<init>", "()V"⟩
theorem dX17_init_0 : decode cX17_init 0 = .ok (.aload_n 0, 1) := by decide +kernel
theorem dX17_init_1 : decode cX17_init 1 = .ok (.invokespecial 1, 3) := by decide +kernel
theorem dX17_init_4 : decode cX17_init 4 = .ok (.return_, 1) := by decide +kernel
theorem q132 : (Jvm.Cond.initialized "BenchBroker$BadCommand") ∈ lw_all := lw_g (lw_at lw_m1 47 rfl) rfl
theorem q557 : (Jvm.Cond.selects "BenchBroker$BadCommand" ({ cls := "java/lang/Throwable", name := "fillInStackTrace", desc := "()Ljava/lang/Throwable;" } : Jvm.MethodName) ({ cls := "java/lang/Throwable", name := "fillInStackTrace", desc := "()Ljava/lang/Throwable;" } : Jvm.MethodName)) ∈ lw_all := lw_g (lw_at lw_m2 232 rfl) rfl
theorem q608 : (Jvm.Cond.selects "BenchBroker$BadCommand" ({ cls := "java/lang/Object", name := "getClass", desc := "()Ljava/lang/Class;" } : Jvm.MethodName) ({ cls := "java/lang/Object", name := "getClass", desc := "()Ljava/lang/Class;" } : Jvm.MethodName)) ∈ lw_all := lw_g (lw_at lw_m3 43 rfl) rfl
theorem q2123 : (Jvm.Cond.instantiable "BenchBroker$BadCommand" (6 : Nat)) ∈ lw_all := lw_g (lw_at lw_m9 118 rfl) rfl
theorem q2124 : (Jvm.Cond.castable "BenchBroker$BadCommand" "BenchBroker$BadCommand") ∈ lw_tbl := lw_at lw_m9 119 rfl
theorem q2125 : (Jvm.Cond.selects "BenchBroker$BadCommand" ({ cls := "java/lang/Throwable", name := "fillInStackTrace", desc := "(I)Ljava/lang/Throwable;" } : Jvm.MethodName) ({ cls := "java/lang/Throwable", name := "fillInStackTrace", desc := "(I)Ljava/lang/Throwable;" } : Jvm.MethodName)) ∈ lw_all := lw_g (lw_at lw_m9 120 rfl) rfl
theorem q2126 : (Jvm.Cond.lays "BenchBroker$BadCommand" "java/lang/Throwable" "cause" "Ljava/lang/Throwable;") ∈ lw_all := lw_g (lw_at lw_m9 121 rfl) rfl
theorem q2127 : (Jvm.Cond.lays "BenchBroker$BadCommand" "java/lang/Throwable" "stackTrace" "[Ljava/lang/StackTraceElement;") ∈ lw_all := lw_g (lw_at lw_m9 122 rfl) rfl
theorem q2128 : (Jvm.Cond.lays "BenchBroker$BadCommand" "java/lang/Throwable" "suppressedExceptions" "Ljava/util/List;") ∈ lw_all := lw_g (lw_at lw_m9 123 rfl) rfl
theorem q2129 : (Jvm.Cond.lays "BenchBroker$BadCommand" "java/lang/Throwable" "detailMessage" "Ljava/lang/String;") ∈ lw_all := lw_g (lw_at lw_m9 124 rfl) rfl
theorem q2130 : (Jvm.Cond.lays "BenchBroker$BadCommand" "java/lang/Throwable" "backtrace" "Ljava/lang/Object;") ∈ lw_all := lw_g (lw_at lw_m9 125 rfl) rfl
theorem q2132 : (Jvm.Cond.instanceMethod ({ cls := "BenchBroker$BadCommand", name := "<init>", desc := "()V" } : Jvm.MethodName)) ∈ lw_all := lw_g (lw_at lw_m9 127 rfl) rfl
theorem q2133 : (Jvm.Cond.code ({ cls := "BenchBroker$BadCommand", name := "<init>", desc := "()V" } : Jvm.MethodName) prog_4_method_1_code (1 : Nat) (Option.none : Option Jvm.ClassFile.FieldType)) ∈ lw_all := lw_g (lw_at lw_m9 128 rfl) rfl
theorem q2134 : (Jvm.Cond.methodLink "BenchBroker$BadCommand" (1 : Nat) ({ cls := "java/lang/Exception", name := "<init>", desc := "()V" } : Jvm.MethodName)) ∈ lw_all := lw_g (lw_at lw_m9 129 rfl) rfl
theorem q2135 : (Jvm.Cond.lays "BenchBroker$BadCommand" "java/lang/Throwable" "depth" "I") ∈ lw_all := lw_g (lw_at lw_m9 130 rfl) rfl
theorem q2136 : (Jvm.Cond.superclass "BenchBroker$BadCommand" "java/lang/Exception") ∈ lw_all := lw_g (lw_at lw_m9 131 rfl) rfl
theorem q2792 : (Jvm.Cond.castable "BenchBroker$BadCommand" "java/lang/Object") ∈ lw_tbl := lw_at lw_m12 67 rfl
theorem in_X17 : ∀ w ∈ wsX170, w ∈ lw_all := lw_in wsX170 [2126, 2127, 2128, 2129, 2130, 2135] (by decide +kernel) (by decide +kernel)
/-! BenchBroker$Park -/
set_option maxRecDepth 100000
def RX2 : String := "BenchBroker$Park"
def TX2 : u_T := fun k => match k with
  | 0 => ("BenchBroker$Park", "benches", "LBenchBroker$Register;", true)
  | 1 => ("BenchBroker$Park", "fountains", "LBenchBroker$Register;", true)
  | 2 => ("BenchBroker$Park", "tenants", "LBenchBroker$Register;", true)
  | 3 => ("BenchBroker$Park", "noiseLimit", "I", false)
  | 4 => ("BenchBroker$Park", "month", "I", false)
  | 5 => ("BenchBroker$Park", "brokerCoins", "I", false)
  | 6 => ("BenchBroker$Park", "given", "I", false)
  | 7 => ("BenchBroker$Park", "defaulted", "I", false)
  | 8 => ("BenchBroker$Park", "terminated", "I", false)
  | _ => ("BenchBroker$Park", "completed", "I", false)
def tyX2 : Nat → FieldType := fun k => match k with
  | 0 => .object "BenchBroker$Register"
  | 1 => .object "BenchBroker$Register"
  | 2 => .object "BenchBroker$Register"
  | 3 => .int
  | 4 => .int
  | 5 => .int
  | 6 => .int
  | 7 => .int
  | 8 => .int
  | _ => .int
abbrev wsX20 : List Cond := u_ws RX2 TX2 10
theorem nmX2 : ∀ a, a < 10 → ∀ b, b < 10 → a ≠ b → (TX2 a).2.1 ≠ (TX2 b).2.1 := by decide +kernel
theorem tyX2_ok : ∀ k, k < 10 → parseFieldDescriptor (TX2 k).2.2.1 = some (tyX2 k) := by decide +kernel
abbrev cX2_init : ByteArray := prog_10_method_1_code
def yX2_init : MethodName := ⟨RX2, "<init>", "()V"⟩
def dkwX2_init_1 : List UInt8 := [181, 0, 18, 42, 187, 0, 9, 89, 183, 0, 11, 181, 0, 21, 42, 6, 181, 0, 24, 177]
abbrev dktX2_init_1 : List UInt8 := dkwX2_init_1 ++ []
def dkwX2_init_0 : List UInt8 := [42, 183, 0, 3, 42, 187, 0, 9, 89, 183, 0, 11, 181, 0, 12, 42, 187, 0, 9, 89, 183, 0, 11]
abbrev dktX2_init_0 : List UInt8 := dkwX2_init_0 ++ dktX2_init_1
theorem dksX2_init_0 : cX2_init.data.toList.drop 0 = dktX2_init_0 := by decide +kernel
theorem dksX2_init_1 : cX2_init.data.toList.drop 23 = dktX2_init_1 := dk_seg dksX2_init_0 23 rfl rfl
theorem dX2_init_0 : decode cX2_init 0 = .ok (.aload_n 0, 1) := dk_42 (dk_at dksX2_init_0 0 rfl rfl)
theorem dX2_init_1 : decode cX2_init 1 = .ok (.invokespecial 3, 3) := dk_183 0 3 (dk_at dksX2_init_0 1 rfl rfl)
theorem dX2_init_4 : decode cX2_init 4 = .ok (.aload_n 0, 1) := dk_42 (dk_at dksX2_init_0 4 rfl rfl)
theorem dX2_init_5 : decode cX2_init 5 = .ok (.new 9, 3) := dk_187 0 9 (dk_at dksX2_init_0 5 rfl rfl)
theorem dX2_init_8 : decode cX2_init 8 = .ok (.dup, 1) := dk_89 (dk_at dksX2_init_0 8 rfl rfl)
theorem dX2_init_9 : decode cX2_init 9 = .ok (.invokespecial 11, 3) := dk_183 0 11 (dk_at dksX2_init_0 9 rfl rfl)
theorem dX2_init_12 : decode cX2_init 12 = .ok (.putfield 12, 3) := dk_181 0 12 (dk_at dksX2_init_0 12 rfl rfl)
theorem dX2_init_15 : decode cX2_init 15 = .ok (.aload_n 0, 1) := dk_42 (dk_at dksX2_init_0 15 rfl rfl)
theorem dX2_init_16 : decode cX2_init 16 = .ok (.new 9, 3) := dk_187 0 9 (dk_at dksX2_init_0 16 rfl rfl)
theorem dX2_init_19 : decode cX2_init 19 = .ok (.dup, 1) := dk_89 (dk_at dksX2_init_0 19 rfl rfl)
theorem dX2_init_20 : decode cX2_init 20 = .ok (.invokespecial 11, 3) := dk_183 0 11 (dk_at dksX2_init_0 20 rfl rfl)
theorem dX2_init_23 : decode cX2_init 23 = .ok (.putfield 18, 3) := dk_181 0 18 (dk_at dksX2_init_1 0 rfl rfl)
theorem dX2_init_26 : decode cX2_init 26 = .ok (.aload_n 0, 1) := dk_42 (dk_at dksX2_init_1 3 rfl rfl)
theorem dX2_init_27 : decode cX2_init 27 = .ok (.new 9, 3) := dk_187 0 9 (dk_at dksX2_init_1 4 rfl rfl)
theorem dX2_init_30 : decode cX2_init 30 = .ok (.dup, 1) := dk_89 (dk_at dksX2_init_1 7 rfl rfl)
theorem dX2_init_31 : decode cX2_init 31 = .ok (.invokespecial 11, 3) := dk_183 0 11 (dk_at dksX2_init_1 8 rfl rfl)
theorem dX2_init_34 : decode cX2_init 34 = .ok (.putfield 21, 3) := dk_181 0 21 (dk_at dksX2_init_1 11 rfl rfl)
theorem dX2_init_37 : decode cX2_init 37 = .ok (.aload_n 0, 1) := dk_42 (dk_at dksX2_init_1 14 rfl rfl)
theorem dX2_init_38 : decode cX2_init 38 = .ok (.iconst 3, 1) := dk_6 (dk_at dksX2_init_1 15 rfl rfl)
theorem dX2_init_39 : decode cX2_init 39 = .ok (.putfield 24, 3) := dk_181 0 24 (dk_at dksX2_init_1 16 rfl rfl)
theorem dX2_init_42 : decode cX2_init 42 = .ok (.return_, 1) := dk_177 (dk_at dksX2_init_1 19 rfl rfl)
abbrev cX2_quietCount : ByteArray := prog_10_method_37_code
def yX2_quietCount : MethodName := ⟨RX2, "quietCount", "()I"⟩
def dkwX2_quietCount_0 : List UInt8 := [42, 180, 0, 12, 42, 186, 0, 255, 0, 0, 182, 0, 113, 172]
abbrev dktX2_quietCount_0 : List UInt8 := dkwX2_quietCount_0 ++ []
theorem dksX2_quietCount_0 : cX2_quietCount.data.toList.drop 0 = dktX2_quietCount_0 := by decide +kernel
theorem dX2_quietCount_0 : decode cX2_quietCount 0 = .ok (.aload_n 0, 1) := dk_42 (dk_at dksX2_quietCount_0 0 rfl rfl)
theorem dX2_quietCount_1 : decode cX2_quietCount 1 = .ok (.getfield 12, 3) := dk_180 0 12 (dk_at dksX2_quietCount_0 1 rfl rfl)
theorem dX2_quietCount_4 : decode cX2_quietCount 4 = .ok (.aload_n 0, 1) := dk_42 (dk_at dksX2_quietCount_0 4 rfl rfl)
theorem dX2_quietCount_5 : decode cX2_quietCount 5 = .ok (.invokedynamic 255, 5) := by decide +kernel
theorem dX2_quietCount_10 : decode cX2_quietCount 10 = .ok (.invokevirtual 113, 3) := dk_182 0 113 (dk_at dksX2_quietCount_0 10 rfl rfl)
theorem dX2_quietCount_13 : decode cX2_quietCount 13 = .ok (.ireturn, 1) := dk_172 (dk_at dksX2_quietCount_0 13 rfl rfl)
abbrev cX2_lambda_quietCount_5 : ByteArray := prog_10_method_47_code
def yX2_lambda_quietCount_5 : MethodName := ⟨RX2, "lambda$quietCount$5", "(LBenchBroker$Bench;)I"⟩
def dkwX2_lambda_quietCount_5_0 : List UInt8 := [42, 43, 182, 0, 199, 184, 0, 226, 172]
abbrev dktX2_lambda_quietCount_5_0 : List UInt8 := dkwX2_lambda_quietCount_5_0 ++ []
theorem dksX2_lambda_quietCount_5_0 : cX2_lambda_quietCount_5.data.toList.drop 0 = dktX2_lambda_quietCount_5_0 := by decide +kernel
theorem dX2_lambda_quietCount_5_0 : decode cX2_lambda_quietCount_5 0 = .ok (.aload_n 0, 1) := dk_42 (dk_at dksX2_lambda_quietCount_5_0 0 rfl rfl)
theorem dX2_lambda_quietCount_5_1 : decode cX2_lambda_quietCount_5 1 = .ok (.aload_n 1, 1) := dk_43 (dk_at dksX2_lambda_quietCount_5_0 1 rfl rfl)
theorem dX2_lambda_quietCount_5_2 : decode cX2_lambda_quietCount_5 2 = .ok (.invokevirtual 199, 3) := dk_182 0 199 (dk_at dksX2_lambda_quietCount_5_0 2 rfl rfl)
theorem dX2_lambda_quietCount_5_5 : decode cX2_lambda_quietCount_5 5 = .ok (.invokestatic 226, 3) := dk_184 0 226 (dk_at dksX2_lambda_quietCount_5_0 5 rfl rfl)
theorem dX2_lambda_quietCount_5_8 : decode cX2_lambda_quietCount_5 8 = .ok (.ireturn, 1) := dk_172 (dk_at dksX2_lambda_quietCount_5_0 8 rfl rfl)
abbrev cX2_isQuiet : ByteArray := prog_10_method_11_code
def yX2_isQuiet : MethodName := ⟨RX2, "isQuiet", "(LBenchBroker$Bench;)Z"⟩
def dkwX2_isQuiet_0 : List UInt8 := [42, 43, 182, 0, 167, 42, 180, 0, 24, 163, 0, 7, 4, 167, 0, 4, 3, 172]
abbrev dktX2_isQuiet_0 : List UInt8 := dkwX2_isQuiet_0 ++ []
theorem dksX2_isQuiet_0 : cX2_isQuiet.data.toList.drop 0 = dktX2_isQuiet_0 := by decide +kernel
theorem dX2_isQuiet_0 : decode cX2_isQuiet 0 = .ok (.aload_n 0, 1) := dk_42 (dk_at dksX2_isQuiet_0 0 rfl rfl)
theorem dX2_isQuiet_1 : decode cX2_isQuiet 1 = .ok (.aload_n 1, 1) := dk_43 (dk_at dksX2_isQuiet_0 1 rfl rfl)
theorem dX2_isQuiet_2 : decode cX2_isQuiet 2 = .ok (.invokevirtual 167, 3) := dk_182 0 167 (dk_at dksX2_isQuiet_0 2 rfl rfl)
theorem dX2_isQuiet_5 : decode cX2_isQuiet 5 = .ok (.aload_n 0, 1) := dk_42 (dk_at dksX2_isQuiet_0 5 rfl rfl)
theorem dX2_isQuiet_6 : decode cX2_isQuiet 6 = .ok (.getfield 24, 3) := dk_180 0 24 (dk_at dksX2_isQuiet_0 6 rfl rfl)
theorem dX2_isQuiet_9 : decode cX2_isQuiet 9 = .ok (.if_icmp .gt 7, 3) := dk_163 0 7 (dk_at dksX2_isQuiet_0 9 rfl rfl)
theorem dX2_isQuiet_12 : decode cX2_isQuiet 12 = .ok (.iconst 1, 1) := dk_4 (dk_at dksX2_isQuiet_0 12 rfl rfl)
theorem dX2_isQuiet_13 : decode cX2_isQuiet 13 = .ok (.goto 4, 3) := dk_167 0 4 (dk_at dksX2_isQuiet_0 13 rfl rfl)
theorem dX2_isQuiet_16 : decode cX2_isQuiet 16 = .ok (.iconst 0, 1) := dk_3 (dk_at dksX2_isQuiet_0 16 rfl rfl)
theorem dX2_isQuiet_17 : decode cX2_isQuiet 17 = .ok (.ireturn, 1) := dk_172 (dk_at dksX2_isQuiet_0 17 rfl rfl)
abbrev cX2_noiseOf : ByteArray := prog_10_method_9_code
def yX2_noiseOf : MethodName := ⟨RX2, "noiseOf", "(LBenchBroker$Bench;)I"⟩
def dkwX2_noiseOf_0 : List UInt8 := [42, 43, 182, 0, 158, 43, 182, 0, 159, 182, 0, 160, 172]
abbrev dktX2_noiseOf_0 : List UInt8 := dkwX2_noiseOf_0 ++ []
theorem dksX2_noiseOf_0 : cX2_noiseOf.data.toList.drop 0 = dktX2_noiseOf_0 := by decide +kernel
theorem dX2_noiseOf_0 : decode cX2_noiseOf 0 = .ok (.aload_n 0, 1) := dk_42 (dk_at dksX2_noiseOf_0 0 rfl rfl)
theorem dX2_noiseOf_1 : decode cX2_noiseOf 1 = .ok (.aload_n 1, 1) := dk_43 (dk_at dksX2_noiseOf_0 1 rfl rfl)
theorem dX2_noiseOf_2 : decode cX2_noiseOf 2 = .ok (.invokevirtual 158, 3) := dk_182 0 158 (dk_at dksX2_noiseOf_0 2 rfl rfl)
theorem dX2_noiseOf_5 : decode cX2_noiseOf 5 = .ok (.aload_n 1, 1) := dk_43 (dk_at dksX2_noiseOf_0 5 rfl rfl)
theorem dX2_noiseOf_6 : decode cX2_noiseOf 6 = .ok (.invokevirtual 159, 3) := dk_182 0 159 (dk_at dksX2_noiseOf_0 6 rfl rfl)
theorem dX2_noiseOf_9 : decode cX2_noiseOf 9 = .ok (.invokevirtual 160, 3) := dk_182 0 160 (dk_at dksX2_noiseOf_0 9 rfl rfl)
theorem dX2_noiseOf_12 : decode cX2_noiseOf 12 = .ok (.ireturn, 1) := dk_172 (dk_at dksX2_noiseOf_0 12 rfl rfl)
abbrev cX2_noiseAt : ByteArray := prog_10_method_4_code
def yX2_noiseAt : MethodName := ⟨RX2, "noiseAt", "(II)I"⟩
def dkwX2_noiseAt_0 : List UInt8 := [42, 180, 0, 18, 27, 28, 186, 0, 109, 0, 0, 182, 0, 113, 172]
abbrev dktX2_noiseAt_0 : List UInt8 := dkwX2_noiseAt_0 ++ []
theorem dksX2_noiseAt_0 : cX2_noiseAt.data.toList.drop 0 = dktX2_noiseAt_0 := by decide +kernel
theorem dX2_noiseAt_0 : decode cX2_noiseAt 0 = .ok (.aload_n 0, 1) := dk_42 (dk_at dksX2_noiseAt_0 0 rfl rfl)
theorem dX2_noiseAt_1 : decode cX2_noiseAt 1 = .ok (.getfield 18, 3) := dk_180 0 18 (dk_at dksX2_noiseAt_0 1 rfl rfl)
theorem dX2_noiseAt_4 : decode cX2_noiseAt 4 = .ok (.iload_n 1, 1) := dk_27 (dk_at dksX2_noiseAt_0 4 rfl rfl)
theorem dX2_noiseAt_5 : decode cX2_noiseAt 5 = .ok (.iload_n 2, 1) := dk_28 (dk_at dksX2_noiseAt_0 5 rfl rfl)
theorem dX2_noiseAt_6 : decode cX2_noiseAt 6 = .ok (.invokedynamic 109, 5) := by decide +kernel
theorem dX2_noiseAt_11 : decode cX2_noiseAt 11 = .ok (.invokevirtual 113, 3) := dk_182 0 113 (dk_at dksX2_noiseAt_0 11 rfl rfl)
theorem dX2_noiseAt_14 : decode cX2_noiseAt 14 = .ok (.ireturn, 1) := dk_172 (dk_at dksX2_noiseAt_0 14 rfl rfl)
abbrev cX2_lambda_noiseAt_0 : ByteArray := prog_10_method_52_code
def yX2_lambda_noiseAt_0 : MethodName := ⟨RX2, "lambda$noiseAt$0", "(IILBenchBroker$Fountain;)I"⟩
def dkwX2_lambda_noiseAt_0_0 : List UInt8 := [44, 26, 27, 182, 1, 34, 172]
abbrev dktX2_lambda_noiseAt_0_0 : List UInt8 := dkwX2_lambda_noiseAt_0_0 ++ []
theorem dksX2_lambda_noiseAt_0_0 : cX2_lambda_noiseAt_0.data.toList.drop 0 = dktX2_lambda_noiseAt_0_0 := by decide +kernel
theorem dX2_lambda_noiseAt_0_0 : decode cX2_lambda_noiseAt_0 0 = .ok (.aload_n 2, 1) := dk_44 (dk_at dksX2_lambda_noiseAt_0_0 0 rfl rfl)
theorem dX2_lambda_noiseAt_0_1 : decode cX2_lambda_noiseAt_0 1 = .ok (.iload_n 0, 1) := dk_26 (dk_at dksX2_lambda_noiseAt_0_0 1 rfl rfl)
theorem dX2_lambda_noiseAt_0_2 : decode cX2_lambda_noiseAt_0 2 = .ok (.iload_n 1, 1) := dk_27 (dk_at dksX2_lambda_noiseAt_0_0 2 rfl rfl)
theorem dX2_lambda_noiseAt_0_3 : decode cX2_lambda_noiseAt_0 3 = .ok (.invokevirtual 290, 3) := dk_182 1 34 (dk_at dksX2_lambda_noiseAt_0_0 3 rfl rfl)
theorem dX2_lambda_noiseAt_0_6 : decode cX2_lambda_noiseAt_0 6 = .ok (.ireturn, 1) := dk_172 (dk_at dksX2_lambda_noiseAt_0_0 6 rfl rfl)
abbrev cX2_depositTotal : ByteArray := prog_10_method_34_code
def yX2_depositTotal : MethodName := ⟨RX2, "depositTotal", "()I"⟩
def dkwX2_depositTotal_0 : List UInt8 := [42, 180, 0, 12, 186, 0, 247, 0, 0, 182, 0, 113, 172]
abbrev dktX2_depositTotal_0 : List UInt8 := dkwX2_depositTotal_0 ++ []
theorem dksX2_depositTotal_0 : cX2_depositTotal.data.toList.drop 0 = dktX2_depositTotal_0 := by decide +kernel
theorem dX2_depositTotal_0 : decode cX2_depositTotal 0 = .ok (.aload_n 0, 1) := dk_42 (dk_at dksX2_depositTotal_0 0 rfl rfl)
theorem dX2_depositTotal_1 : decode cX2_depositTotal 1 = .ok (.getfield 12, 3) := dk_180 0 12 (dk_at dksX2_depositTotal_0 1 rfl rfl)
theorem dX2_depositTotal_4 : decode cX2_depositTotal 4 = .ok (.invokedynamic 247, 5) := by decide +kernel
theorem dX2_depositTotal_9 : decode cX2_depositTotal 9 = .ok (.invokevirtual 113, 3) := dk_182 0 113 (dk_at dksX2_depositTotal_0 9 rfl rfl)
theorem dX2_depositTotal_12 : decode cX2_depositTotal 12 = .ok (.ireturn, 1) := dk_172 (dk_at dksX2_depositTotal_0 12 rfl rfl)
abbrev cX2_lambda_depositTotal_2 : ByteArray := prog_10_method_50_code
def yX2_lambda_depositTotal_2 : MethodName := ⟨RX2, "lambda$depositTotal$2", "(LBenchBroker$Bench;)I"⟩
theorem dX2_lambda_depositTotal_2_0 : decode cX2_lambda_depositTotal_2 0 = .ok (.aload_n 0, 1) := by decide +kernel
theorem dX2_lambda_depositTotal_2_1 : decode cX2_lambda_depositTotal_2 1 = .ok (.getfield 210, 3) := by decide +kernel
theorem dX2_lambda_depositTotal_2_4 : decode cX2_lambda_depositTotal_2 4 = .ok (.ireturn, 1) := by decide +kernel
abbrev cX2_allCoins : ByteArray := prog_10_method_35_code
def yX2_allCoins : MethodName := ⟨RX2, "allCoins", "()I"⟩
def dkwX2_allCoins_0 : List UInt8 := [42, 180, 0, 21, 186, 0, 250, 0, 0, 182, 0, 113, 42, 182, 0, 251, 96, 42, 180, 0, 90, 96, 172]
abbrev dktX2_allCoins_0 : List UInt8 := dkwX2_allCoins_0 ++ []
theorem dksX2_allCoins_0 : cX2_allCoins.data.toList.drop 0 = dktX2_allCoins_0 := by decide +kernel
theorem dX2_allCoins_0 : decode cX2_allCoins 0 = .ok (.aload_n 0, 1) := dk_42 (dk_at dksX2_allCoins_0 0 rfl rfl)
theorem dX2_allCoins_1 : decode cX2_allCoins 1 = .ok (.getfield 21, 3) := dk_180 0 21 (dk_at dksX2_allCoins_0 1 rfl rfl)
theorem dX2_allCoins_4 : decode cX2_allCoins 4 = .ok (.invokedynamic 250, 5) := by decide +kernel
theorem dX2_allCoins_9 : decode cX2_allCoins 9 = .ok (.invokevirtual 113, 3) := dk_182 0 113 (dk_at dksX2_allCoins_0 9 rfl rfl)
theorem dX2_allCoins_12 : decode cX2_allCoins 12 = .ok (.aload_n 0, 1) := dk_42 (dk_at dksX2_allCoins_0 12 rfl rfl)
theorem dX2_allCoins_13 : decode cX2_allCoins 13 = .ok (.invokevirtual 251, 3) := dk_182 0 251 (dk_at dksX2_allCoins_0 13 rfl rfl)
theorem dX2_allCoins_16 : decode cX2_allCoins 16 = .ok (.iadd, 1) := dk_96 (dk_at dksX2_allCoins_0 16 rfl rfl)
theorem dX2_allCoins_17 : decode cX2_allCoins 17 = .ok (.aload_n 0, 1) := dk_42 (dk_at dksX2_allCoins_0 17 rfl rfl)
theorem dX2_allCoins_18 : decode cX2_allCoins 18 = .ok (.getfield 90, 3) := dk_180 0 90 (dk_at dksX2_allCoins_0 18 rfl rfl)
theorem dX2_allCoins_21 : decode cX2_allCoins 21 = .ok (.iadd, 1) := dk_96 (dk_at dksX2_allCoins_0 21 rfl rfl)
theorem dX2_allCoins_22 : decode cX2_allCoins 22 = .ok (.ireturn, 1) := dk_172 (dk_at dksX2_allCoins_0 22 rfl rfl)
abbrev cX2_lambda_allCoins_3 : ByteArray := prog_10_method_49_code
def yX2_lambda_allCoins_3 : MethodName := ⟨RX2, "lambda$allCoins$3", "(LBenchBroker$Tenant;)I"⟩
theorem dX2_lambda_allCoins_3_0 : decode cX2_lambda_allCoins_3 0 = .ok (.aload_n 0, 1) := by decide +kernel
theorem dX2_lambda_allCoins_3_1 : decode cX2_lambda_allCoins_3 1 = .ok (.getfield 67, 3) := by decide +kernel
theorem dX2_lambda_allCoins_3_4 : decode cX2_lambda_allCoins_3 4 = .ok (.ireturn, 1) := by decide +kernel
abbrev cX2_isConsistent : ByteArray := prog_10_method_42_code
def yX2_isConsistent : MethodName := ⟨RX2, "isConsistent", "()Z"⟩
def dkwX2_isConsistent_4 : List UInt8 := [172]
abbrev dktX2_isConsistent_4 : List UInt8 := dkwX2_isConsistent_4 ++ []
def dkwX2_isConsistent_3 : List UInt8 := [167, 0, 4, 3, 60, 28, 28, 16, 6, 162, 0, 7, 8, 167, 0, 5, 16, 6, 96, 61, 167, 255, 212, 27]
abbrev dktX2_isConsistent_3 : List UInt8 := dkwX2_isConsistent_3 ++ dktX2_isConsistent_4
def dkwX2_isConsistent_2 : List UInt8 := [16, 12, 163, 0, 44, 27, 153, 0, 20, 42, 28, 182, 1, 24, 42, 28, 182, 1, 27, 160, 0, 7, 4]
abbrev dktX2_isConsistent_2 : List UInt8 := dkwX2_isConsistent_2 ++ dktX2_isConsistent_3
def dkwX2_isConsistent_1 : List UInt8 := [180, 0, 21, 186, 1, 23, 0, 0, 182, 0, 113, 160, 0, 7, 4, 167, 0, 4, 3, 60, 4, 61, 28]
abbrev dktX2_isConsistent_1 : List UInt8 := dkwX2_isConsistent_1 ++ dktX2_isConsistent_2
def dkwX2_isConsistent_0 : List UInt8 := [42, 182, 1, 14, 153, 0, 37, 42, 182, 1, 17, 42, 180, 0, 93, 160, 0, 26, 42, 182, 1, 20, 42]
abbrev dktX2_isConsistent_0 : List UInt8 := dkwX2_isConsistent_0 ++ dktX2_isConsistent_1
theorem dksX2_isConsistent_0 : cX2_isConsistent.data.toList.drop 0 = dktX2_isConsistent_0 := by decide +kernel
theorem dksX2_isConsistent_1 : cX2_isConsistent.data.toList.drop 23 = dktX2_isConsistent_1 := dk_seg dksX2_isConsistent_0 23 rfl rfl
theorem dksX2_isConsistent_2 : cX2_isConsistent.data.toList.drop 46 = dktX2_isConsistent_2 := dk_seg dksX2_isConsistent_1 23 rfl rfl
theorem dksX2_isConsistent_3 : cX2_isConsistent.data.toList.drop 69 = dktX2_isConsistent_3 := dk_seg dksX2_isConsistent_2 23 rfl rfl
theorem dksX2_isConsistent_4 : cX2_isConsistent.data.toList.drop 93 = dktX2_isConsistent_4 := dk_seg dksX2_isConsistent_3 24 rfl rfl
theorem dX2_isConsistent_0 : decode cX2_isConsistent 0 = .ok (.aload_n 0, 1) := dk_42 (dk_at dksX2_isConsistent_0 0 rfl rfl)
theorem dX2_isConsistent_1 : decode cX2_isConsistent 1 = .ok (.invokevirtual 270, 3) := dk_182 1 14 (dk_at dksX2_isConsistent_0 1 rfl rfl)
theorem dX2_isConsistent_4 : decode cX2_isConsistent 4 = .ok (.ifCond .eq 37, 3) := dk_153 0 37 (dk_at dksX2_isConsistent_0 4 rfl rfl)
theorem dX2_isConsistent_7 : decode cX2_isConsistent 7 = .ok (.aload_n 0, 1) := dk_42 (dk_at dksX2_isConsistent_0 7 rfl rfl)
theorem dX2_isConsistent_8 : decode cX2_isConsistent 8 = .ok (.invokevirtual 273, 3) := dk_182 1 17 (dk_at dksX2_isConsistent_0 8 rfl rfl)
theorem dX2_isConsistent_11 : decode cX2_isConsistent 11 = .ok (.aload_n 0, 1) := dk_42 (dk_at dksX2_isConsistent_0 11 rfl rfl)
theorem dX2_isConsistent_12 : decode cX2_isConsistent 12 = .ok (.getfield 93, 3) := dk_180 0 93 (dk_at dksX2_isConsistent_0 12 rfl rfl)
theorem dX2_isConsistent_15 : decode cX2_isConsistent 15 = .ok (.if_icmp .ne 26, 3) := dk_160 0 26 (dk_at dksX2_isConsistent_0 15 rfl rfl)
theorem dX2_isConsistent_18 : decode cX2_isConsistent 18 = .ok (.aload_n 0, 1) := dk_42 (dk_at dksX2_isConsistent_0 18 rfl rfl)
theorem dX2_isConsistent_19 : decode cX2_isConsistent 19 = .ok (.invokevirtual 276, 3) := dk_182 1 20 (dk_at dksX2_isConsistent_0 19 rfl rfl)
theorem dX2_isConsistent_22 : decode cX2_isConsistent 22 = .ok (.aload_n 0, 1) := dk_42 (dk_at dksX2_isConsistent_0 22 rfl rfl)
theorem dX2_isConsistent_23 : decode cX2_isConsistent 23 = .ok (.getfield 21, 3) := dk_180 0 21 (dk_at dksX2_isConsistent_1 0 rfl rfl)
theorem dX2_isConsistent_26 : decode cX2_isConsistent 26 = .ok (.invokedynamic 279, 5) := by decide +kernel
theorem dX2_isConsistent_31 : decode cX2_isConsistent 31 = .ok (.invokevirtual 113, 3) := dk_182 0 113 (dk_at dksX2_isConsistent_1 8 rfl rfl)
theorem dX2_isConsistent_34 : decode cX2_isConsistent 34 = .ok (.if_icmp .ne 7, 3) := dk_160 0 7 (dk_at dksX2_isConsistent_1 11 rfl rfl)
theorem dX2_isConsistent_37 : decode cX2_isConsistent 37 = .ok (.iconst 1, 1) := dk_4 (dk_at dksX2_isConsistent_1 14 rfl rfl)
theorem dX2_isConsistent_38 : decode cX2_isConsistent 38 = .ok (.goto 4, 3) := dk_167 0 4 (dk_at dksX2_isConsistent_1 15 rfl rfl)
theorem dX2_isConsistent_41 : decode cX2_isConsistent 41 = .ok (.iconst 0, 1) := dk_3 (dk_at dksX2_isConsistent_1 18 rfl rfl)
theorem dX2_isConsistent_42 : decode cX2_isConsistent 42 = .ok (.istore_n 1, 1) := dk_60 (dk_at dksX2_isConsistent_1 19 rfl rfl)
theorem dX2_isConsistent_43 : decode cX2_isConsistent 43 = .ok (.iconst 1, 1) := dk_4 (dk_at dksX2_isConsistent_1 20 rfl rfl)
theorem dX2_isConsistent_44 : decode cX2_isConsistent 44 = .ok (.istore_n 2, 1) := dk_61 (dk_at dksX2_isConsistent_1 21 rfl rfl)
theorem dX2_isConsistent_45 : decode cX2_isConsistent 45 = .ok (.iload_n 2, 1) := dk_28 (dk_at dksX2_isConsistent_1 22 rfl rfl)
theorem dX2_isConsistent_46 : decode cX2_isConsistent 46 = .ok (.bipush 12, 2) := dk_16 12 (dk_at dksX2_isConsistent_2 0 rfl rfl)
theorem dX2_isConsistent_48 : decode cX2_isConsistent 48 = .ok (.if_icmp .gt 44, 3) := dk_163 0 44 (dk_at dksX2_isConsistent_2 2 rfl rfl)
theorem dX2_isConsistent_51 : decode cX2_isConsistent 51 = .ok (.iload_n 1, 1) := dk_27 (dk_at dksX2_isConsistent_2 5 rfl rfl)
theorem dX2_isConsistent_52 : decode cX2_isConsistent 52 = .ok (.ifCond .eq 20, 3) := dk_153 0 20 (dk_at dksX2_isConsistent_2 6 rfl rfl)
theorem dX2_isConsistent_55 : decode cX2_isConsistent 55 = .ok (.aload_n 0, 1) := dk_42 (dk_at dksX2_isConsistent_2 9 rfl rfl)
theorem dX2_isConsistent_56 : decode cX2_isConsistent 56 = .ok (.iload_n 2, 1) := dk_28 (dk_at dksX2_isConsistent_2 10 rfl rfl)
theorem dX2_isConsistent_57 : decode cX2_isConsistent 57 = .ok (.invokevirtual 280, 3) := dk_182 1 24 (dk_at dksX2_isConsistent_2 11 rfl rfl)
theorem dX2_isConsistent_60 : decode cX2_isConsistent 60 = .ok (.aload_n 0, 1) := dk_42 (dk_at dksX2_isConsistent_2 14 rfl rfl)
theorem dX2_isConsistent_61 : decode cX2_isConsistent 61 = .ok (.iload_n 2, 1) := dk_28 (dk_at dksX2_isConsistent_2 15 rfl rfl)
theorem dX2_isConsistent_62 : decode cX2_isConsistent 62 = .ok (.invokevirtual 283, 3) := dk_182 1 27 (dk_at dksX2_isConsistent_2 16 rfl rfl)
theorem dX2_isConsistent_65 : decode cX2_isConsistent 65 = .ok (.if_icmp .ne 7, 3) := dk_160 0 7 (dk_at dksX2_isConsistent_2 19 rfl rfl)
theorem dX2_isConsistent_68 : decode cX2_isConsistent 68 = .ok (.iconst 1, 1) := dk_4 (dk_at dksX2_isConsistent_2 22 rfl rfl)
theorem dX2_isConsistent_69 : decode cX2_isConsistent 69 = .ok (.goto 4, 3) := dk_167 0 4 (dk_at dksX2_isConsistent_3 0 rfl rfl)
theorem dX2_isConsistent_72 : decode cX2_isConsistent 72 = .ok (.iconst 0, 1) := dk_3 (dk_at dksX2_isConsistent_3 3 rfl rfl)
theorem dX2_isConsistent_73 : decode cX2_isConsistent 73 = .ok (.istore_n 1, 1) := dk_60 (dk_at dksX2_isConsistent_3 4 rfl rfl)
theorem dX2_isConsistent_74 : decode cX2_isConsistent 74 = .ok (.iload_n 2, 1) := dk_28 (dk_at dksX2_isConsistent_3 5 rfl rfl)
theorem dX2_isConsistent_75 : decode cX2_isConsistent 75 = .ok (.iload_n 2, 1) := dk_28 (dk_at dksX2_isConsistent_3 6 rfl rfl)
theorem dX2_isConsistent_76 : decode cX2_isConsistent 76 = .ok (.bipush 6, 2) := dk_16 6 (dk_at dksX2_isConsistent_3 7 rfl rfl)
theorem dX2_isConsistent_78 : decode cX2_isConsistent 78 = .ok (.if_icmp .ge 7, 3) := dk_162 0 7 (dk_at dksX2_isConsistent_3 9 rfl rfl)
theorem dX2_isConsistent_81 : decode cX2_isConsistent 81 = .ok (.iconst 5, 1) := dk_8 (dk_at dksX2_isConsistent_3 12 rfl rfl)
theorem dX2_isConsistent_82 : decode cX2_isConsistent 82 = .ok (.goto 5, 3) := dk_167 0 5 (dk_at dksX2_isConsistent_3 13 rfl rfl)
theorem dX2_isConsistent_85 : decode cX2_isConsistent 85 = .ok (.bipush 6, 2) := dk_16 6 (dk_at dksX2_isConsistent_3 16 rfl rfl)
theorem dX2_isConsistent_87 : decode cX2_isConsistent 87 = .ok (.iadd, 1) := dk_96 (dk_at dksX2_isConsistent_3 18 rfl rfl)
theorem dX2_isConsistent_88 : decode cX2_isConsistent 88 = .ok (.istore_n 2, 1) := dk_61 (dk_at dksX2_isConsistent_3 19 rfl rfl)
theorem dX2_isConsistent_89 : decode cX2_isConsistent 89 = .ok (.goto (-44), 3) := dk_167 255 212 (dk_at dksX2_isConsistent_3 20 rfl rfl)
theorem dX2_isConsistent_92 : decode cX2_isConsistent 92 = .ok (.iload_n 1, 1) := dk_27 (dk_at dksX2_isConsistent_3 23 rfl rfl)
theorem dX2_isConsistent_93 : decode cX2_isConsistent 93 = .ok (.ireturn, 1) := dk_172 (dk_at dksX2_isConsistent_4 0 rfl rfl)
abbrev cX2_isNoiseConsistent : ByteArray := prog_10_method_41_code
def yX2_isNoiseConsistent : MethodName := ⟨RX2, "isNoiseConsistent", "()Z"⟩
def dkwX2_isNoiseConsistent_2 : List UInt8 := [167, 255, 219, 28, 172]
abbrev dktX2_isNoiseConsistent_2 : List UInt8 := dkwX2_isNoiseConsistent_2 ++ []
def dkwX2_isNoiseConsistent_1 : List UInt8 := [16, 6, 108, 29, 16, 6, 112, 182, 0, 160, 160, 0, 7, 4, 167, 0, 4, 3, 61, 132, 3, 1]
abbrev dktX2_isNoiseConsistent_1 : List UInt8 := dkwX2_isNoiseConsistent_1 ++ dktX2_isNoiseConsistent_2
def dkwX2_isNoiseConsistent_0 : List UInt8 := [42, 182, 0, 155, 76, 4, 61, 3, 62, 29, 43, 190, 162, 0, 37, 28, 153, 0, 25, 43, 29, 46, 42, 29]
abbrev dktX2_isNoiseConsistent_0 : List UInt8 := dkwX2_isNoiseConsistent_0 ++ dktX2_isNoiseConsistent_1
theorem dksX2_isNoiseConsistent_0 : cX2_isNoiseConsistent.data.toList.drop 0 = dktX2_isNoiseConsistent_0 := by decide +kernel
theorem dksX2_isNoiseConsistent_1 : cX2_isNoiseConsistent.data.toList.drop 24 = dktX2_isNoiseConsistent_1 := dk_seg dksX2_isNoiseConsistent_0 24 rfl rfl
theorem dksX2_isNoiseConsistent_2 : cX2_isNoiseConsistent.data.toList.drop 46 = dktX2_isNoiseConsistent_2 := dk_seg dksX2_isNoiseConsistent_1 22 rfl rfl
theorem dX2_isNoiseConsistent_0 : decode cX2_isNoiseConsistent 0 = .ok (.aload_n 0, 1) := dk_42 (dk_at dksX2_isNoiseConsistent_0 0 rfl rfl)
theorem dX2_isNoiseConsistent_1 : decode cX2_isNoiseConsistent 1 = .ok (.invokevirtual 155, 3) := dk_182 0 155 (dk_at dksX2_isNoiseConsistent_0 1 rfl rfl)
theorem dX2_isNoiseConsistent_4 : decode cX2_isNoiseConsistent 4 = .ok (.astore_n 1, 1) := dk_76 (dk_at dksX2_isNoiseConsistent_0 4 rfl rfl)
theorem dX2_isNoiseConsistent_5 : decode cX2_isNoiseConsistent 5 = .ok (.iconst 1, 1) := dk_4 (dk_at dksX2_isNoiseConsistent_0 5 rfl rfl)
theorem dX2_isNoiseConsistent_6 : decode cX2_isNoiseConsistent 6 = .ok (.istore_n 2, 1) := dk_61 (dk_at dksX2_isNoiseConsistent_0 6 rfl rfl)
theorem dX2_isNoiseConsistent_7 : decode cX2_isNoiseConsistent 7 = .ok (.iconst 0, 1) := dk_3 (dk_at dksX2_isNoiseConsistent_0 7 rfl rfl)
theorem dX2_isNoiseConsistent_8 : decode cX2_isNoiseConsistent 8 = .ok (.istore_n 3, 1) := dk_62 (dk_at dksX2_isNoiseConsistent_0 8 rfl rfl)
theorem dX2_isNoiseConsistent_9 : decode cX2_isNoiseConsistent 9 = .ok (.iload_n 3, 1) := dk_29 (dk_at dksX2_isNoiseConsistent_0 9 rfl rfl)
theorem dX2_isNoiseConsistent_10 : decode cX2_isNoiseConsistent 10 = .ok (.aload_n 1, 1) := dk_43 (dk_at dksX2_isNoiseConsistent_0 10 rfl rfl)
theorem dX2_isNoiseConsistent_11 : decode cX2_isNoiseConsistent 11 = .ok (.arraylength, 1) := dk_190 (dk_at dksX2_isNoiseConsistent_0 11 rfl rfl)
theorem dX2_isNoiseConsistent_12 : decode cX2_isNoiseConsistent 12 = .ok (.if_icmp .ge 37, 3) := dk_162 0 37 (dk_at dksX2_isNoiseConsistent_0 12 rfl rfl)
theorem dX2_isNoiseConsistent_15 : decode cX2_isNoiseConsistent 15 = .ok (.iload_n 2, 1) := dk_28 (dk_at dksX2_isNoiseConsistent_0 15 rfl rfl)
theorem dX2_isNoiseConsistent_16 : decode cX2_isNoiseConsistent 16 = .ok (.ifCond .eq 25, 3) := dk_153 0 25 (dk_at dksX2_isNoiseConsistent_0 16 rfl rfl)
theorem dX2_isNoiseConsistent_19 : decode cX2_isNoiseConsistent 19 = .ok (.aload_n 1, 1) := dk_43 (dk_at dksX2_isNoiseConsistent_0 19 rfl rfl)
theorem dX2_isNoiseConsistent_20 : decode cX2_isNoiseConsistent 20 = .ok (.iload_n 3, 1) := dk_29 (dk_at dksX2_isNoiseConsistent_0 20 rfl rfl)
theorem dX2_isNoiseConsistent_21 : decode cX2_isNoiseConsistent 21 = .ok (.iaload, 1) := dk_46 (dk_at dksX2_isNoiseConsistent_0 21 rfl rfl)
theorem dX2_isNoiseConsistent_22 : decode cX2_isNoiseConsistent 22 = .ok (.aload_n 0, 1) := dk_42 (dk_at dksX2_isNoiseConsistent_0 22 rfl rfl)
theorem dX2_isNoiseConsistent_23 : decode cX2_isNoiseConsistent 23 = .ok (.iload_n 3, 1) := dk_29 (dk_at dksX2_isNoiseConsistent_0 23 rfl rfl)
theorem dX2_isNoiseConsistent_24 : decode cX2_isNoiseConsistent 24 = .ok (.bipush 6, 2) := dk_16 6 (dk_at dksX2_isNoiseConsistent_1 0 rfl rfl)
theorem dX2_isNoiseConsistent_26 : decode cX2_isNoiseConsistent 26 = .ok (.idiv, 1) := dk_108 (dk_at dksX2_isNoiseConsistent_1 2 rfl rfl)
theorem dX2_isNoiseConsistent_27 : decode cX2_isNoiseConsistent 27 = .ok (.iload_n 3, 1) := dk_29 (dk_at dksX2_isNoiseConsistent_1 3 rfl rfl)
theorem dX2_isNoiseConsistent_28 : decode cX2_isNoiseConsistent 28 = .ok (.bipush 6, 2) := dk_16 6 (dk_at dksX2_isNoiseConsistent_1 4 rfl rfl)
theorem dX2_isNoiseConsistent_30 : decode cX2_isNoiseConsistent 30 = .ok (.irem, 1) := dk_112 (dk_at dksX2_isNoiseConsistent_1 6 rfl rfl)
theorem dX2_isNoiseConsistent_31 : decode cX2_isNoiseConsistent 31 = .ok (.invokevirtual 160, 3) := dk_182 0 160 (dk_at dksX2_isNoiseConsistent_1 7 rfl rfl)
theorem dX2_isNoiseConsistent_34 : decode cX2_isNoiseConsistent 34 = .ok (.if_icmp .ne 7, 3) := dk_160 0 7 (dk_at dksX2_isNoiseConsistent_1 10 rfl rfl)
theorem dX2_isNoiseConsistent_37 : decode cX2_isNoiseConsistent 37 = .ok (.iconst 1, 1) := dk_4 (dk_at dksX2_isNoiseConsistent_1 13 rfl rfl)
theorem dX2_isNoiseConsistent_38 : decode cX2_isNoiseConsistent 38 = .ok (.goto 4, 3) := dk_167 0 4 (dk_at dksX2_isNoiseConsistent_1 14 rfl rfl)
theorem dX2_isNoiseConsistent_41 : decode cX2_isNoiseConsistent 41 = .ok (.iconst 0, 1) := dk_3 (dk_at dksX2_isNoiseConsistent_1 17 rfl rfl)
theorem dX2_isNoiseConsistent_42 : decode cX2_isNoiseConsistent 42 = .ok (.istore_n 2, 1) := dk_61 (dk_at dksX2_isNoiseConsistent_1 18 rfl rfl)
theorem dX2_isNoiseConsistent_43 : decode cX2_isNoiseConsistent 43 = .ok (.iinc 3 1, 3) := dk_132 3 1 (dk_at dksX2_isNoiseConsistent_1 19 rfl rfl)
theorem dX2_isNoiseConsistent_46 : decode cX2_isNoiseConsistent 46 = .ok (.goto (-37), 3) := dk_167 255 219 (dk_at dksX2_isNoiseConsistent_2 0 rfl rfl)
theorem dX2_isNoiseConsistent_49 : decode cX2_isNoiseConsistent 49 = .ok (.iload_n 2, 1) := dk_28 (dk_at dksX2_isNoiseConsistent_2 3 rfl rfl)
theorem dX2_isNoiseConsistent_50 : decode cX2_isNoiseConsistent 50 = .ok (.ireturn, 1) := dk_172 (dk_at dksX2_isNoiseConsistent_2 4 rfl rfl)
abbrev cX2_spread : ByteArray := prog_10_method_5_code
def yX2_spread : MethodName := ⟨RX2, "spread", "()[I"⟩
def dkwX2_spread_5 : List UInt8 := [167, 255, 230, 132, 4, 1, 167, 255, 155, 43, 176]
abbrev dktX2_spread_5 : List UInt8 := dkwX2_spread_5 ++ []
def dkwX2_spread_4 : List UInt8 := [162, 0, 25, 43, 21, 6, 92, 46, 44, 21, 6, 46, 96, 79, 44, 21, 6, 3, 79, 132, 6, 1]
abbrev dktX2_spread_4 : List UInt8 := dkwX2_spread_4 ++ dktX2_spread_5
def dkwX2_spread_3 : List UInt8 := [184, 0, 120, 182, 0, 126, 87, 25, 5, 180, 0, 48, 44, 45, 184, 0, 129, 3, 54, 6, 21, 6, 44, 190]
abbrev dktX2_spread_3 : List UInt8 := dkwX2_spread_3 ++ dktX2_spread_4
def dkwX2_spread_2 : List UInt8 := [25, 5, 180, 0, 51, 153, 0, 67, 45, 16, 6, 25, 5, 182, 0, 39, 104, 25, 5, 182, 0, 42, 96]
abbrev dktX2_spread_2 : List UInt8 := dkwX2_spread_2 ++ dktX2_spread_3
def dkwX2_spread_1 : List UInt8 := [180, 0, 18, 182, 0, 29, 162, 0, 95, 42, 180, 0, 18, 21, 4, 182, 0, 33, 192, 0, 37, 58, 5]
abbrev dktX2_spread_1 : List UInt8 := dkwX2_spread_1 ++ dktX2_spread_2
def dkwX2_spread_0 : List UInt8 := [16, 36, 188, 10, 76, 16, 36, 188, 10, 77, 187, 0, 117, 89, 183, 0, 119, 78, 3, 54, 4, 21, 4, 42]
abbrev dktX2_spread_0 : List UInt8 := dkwX2_spread_0 ++ dktX2_spread_1
theorem dksX2_spread_0 : cX2_spread.data.toList.drop 0 = dktX2_spread_0 := by decide +kernel
theorem dksX2_spread_1 : cX2_spread.data.toList.drop 24 = dktX2_spread_1 := dk_seg dksX2_spread_0 24 rfl rfl
theorem dksX2_spread_2 : cX2_spread.data.toList.drop 47 = dktX2_spread_2 := dk_seg dksX2_spread_1 23 rfl rfl
theorem dksX2_spread_3 : cX2_spread.data.toList.drop 70 = dktX2_spread_3 := dk_seg dksX2_spread_2 23 rfl rfl
theorem dksX2_spread_4 : cX2_spread.data.toList.drop 94 = dktX2_spread_4 := dk_seg dksX2_spread_3 24 rfl rfl
theorem dksX2_spread_5 : cX2_spread.data.toList.drop 116 = dktX2_spread_5 := dk_seg dksX2_spread_4 22 rfl rfl
theorem dX2_spread_0 : decode cX2_spread 0 = .ok (.bipush 36, 2) := dk_16 36 (dk_at dksX2_spread_0 0 rfl rfl)
theorem dX2_spread_2 : decode cX2_spread 2 = .ok (.newarray .int, 2) := dk_188_10 (dk_at dksX2_spread_0 2 rfl rfl)
theorem dX2_spread_4 : decode cX2_spread 4 = .ok (.astore_n 1, 1) := dk_76 (dk_at dksX2_spread_0 4 rfl rfl)
theorem dX2_spread_5 : decode cX2_spread 5 = .ok (.bipush 36, 2) := dk_16 36 (dk_at dksX2_spread_0 5 rfl rfl)
theorem dX2_spread_7 : decode cX2_spread 7 = .ok (.newarray .int, 2) := dk_188_10 (dk_at dksX2_spread_0 7 rfl rfl)
theorem dX2_spread_9 : decode cX2_spread 9 = .ok (.astore_n 2, 1) := dk_77 (dk_at dksX2_spread_0 9 rfl rfl)
theorem dX2_spread_10 : decode cX2_spread 10 = .ok (.new 117, 3) := dk_187 0 117 (dk_at dksX2_spread_0 10 rfl rfl)
theorem dX2_spread_13 : decode cX2_spread 13 = .ok (.dup, 1) := dk_89 (dk_at dksX2_spread_0 13 rfl rfl)
theorem dX2_spread_14 : decode cX2_spread 14 = .ok (.invokespecial 119, 3) := dk_183 0 119 (dk_at dksX2_spread_0 14 rfl rfl)
theorem dX2_spread_17 : decode cX2_spread 17 = .ok (.astore_n 3, 1) := dk_78 (dk_at dksX2_spread_0 17 rfl rfl)
theorem dX2_spread_18 : decode cX2_spread 18 = .ok (.iconst 0, 1) := dk_3 (dk_at dksX2_spread_0 18 rfl rfl)
theorem dX2_spread_19 : decode cX2_spread 19 = .ok (.istore 4, 2) := dk_54 4 (dk_at dksX2_spread_0 19 rfl rfl)
theorem dX2_spread_21 : decode cX2_spread 21 = .ok (.iload 4, 2) := dk_21 4 (dk_at dksX2_spread_0 21 rfl rfl)
theorem dX2_spread_23 : decode cX2_spread 23 = .ok (.aload_n 0, 1) := dk_42 (dk_at dksX2_spread_0 23 rfl rfl)
theorem dX2_spread_24 : decode cX2_spread 24 = .ok (.getfield 18, 3) := dk_180 0 18 (dk_at dksX2_spread_1 0 rfl rfl)
theorem dX2_spread_27 : decode cX2_spread 27 = .ok (.invokevirtual 29, 3) := dk_182 0 29 (dk_at dksX2_spread_1 3 rfl rfl)
theorem dX2_spread_30 : decode cX2_spread 30 = .ok (.if_icmp .ge 95, 3) := dk_162 0 95 (dk_at dksX2_spread_1 6 rfl rfl)
theorem dX2_spread_33 : decode cX2_spread 33 = .ok (.aload_n 0, 1) := dk_42 (dk_at dksX2_spread_1 9 rfl rfl)
theorem dX2_spread_34 : decode cX2_spread 34 = .ok (.getfield 18, 3) := dk_180 0 18 (dk_at dksX2_spread_1 10 rfl rfl)
theorem dX2_spread_37 : decode cX2_spread 37 = .ok (.iload 4, 2) := dk_21 4 (dk_at dksX2_spread_1 13 rfl rfl)
theorem dX2_spread_39 : decode cX2_spread 39 = .ok (.invokevirtual 33, 3) := dk_182 0 33 (dk_at dksX2_spread_1 15 rfl rfl)
theorem dX2_spread_42 : decode cX2_spread 42 = .ok (.checkcast 37, 3) := dk_192 0 37 (dk_at dksX2_spread_1 18 rfl rfl)
theorem dX2_spread_45 : decode cX2_spread 45 = .ok (.astore 5, 2) := dk_58 5 (dk_at dksX2_spread_1 21 rfl rfl)
theorem dX2_spread_47 : decode cX2_spread 47 = .ok (.aload 5, 2) := dk_25 5 (dk_at dksX2_spread_2 0 rfl rfl)
theorem dX2_spread_49 : decode cX2_spread 49 = .ok (.getfield 51, 3) := dk_180 0 51 (dk_at dksX2_spread_2 2 rfl rfl)
theorem dX2_spread_52 : decode cX2_spread 52 = .ok (.ifCond .eq 67, 3) := dk_153 0 67 (dk_at dksX2_spread_2 5 rfl rfl)
theorem dX2_spread_55 : decode cX2_spread 55 = .ok (.aload_n 3, 1) := dk_45 (dk_at dksX2_spread_2 8 rfl rfl)
theorem dX2_spread_56 : decode cX2_spread 56 = .ok (.bipush 6, 2) := dk_16 6 (dk_at dksX2_spread_2 9 rfl rfl)
theorem dX2_spread_58 : decode cX2_spread 58 = .ok (.aload 5, 2) := dk_25 5 (dk_at dksX2_spread_2 11 rfl rfl)
theorem dX2_spread_60 : decode cX2_spread 60 = .ok (.invokevirtual 39, 3) := dk_182 0 39 (dk_at dksX2_spread_2 13 rfl rfl)
theorem dX2_spread_63 : decode cX2_spread 63 = .ok (.imul, 1) := dk_104 (dk_at dksX2_spread_2 16 rfl rfl)
theorem dX2_spread_64 : decode cX2_spread 64 = .ok (.aload 5, 2) := dk_25 5 (dk_at dksX2_spread_2 17 rfl rfl)
theorem dX2_spread_66 : decode cX2_spread 66 = .ok (.invokevirtual 42, 3) := dk_182 0 42 (dk_at dksX2_spread_2 19 rfl rfl)
theorem dX2_spread_69 : decode cX2_spread 69 = .ok (.iadd, 1) := dk_96 (dk_at dksX2_spread_2 22 rfl rfl)
theorem dX2_spread_70 : decode cX2_spread 70 = .ok (.invokestatic 120, 3) := dk_184 0 120 (dk_at dksX2_spread_3 0 rfl rfl)
theorem dX2_spread_73 : decode cX2_spread 73 = .ok (.invokevirtual 126, 3) := dk_182 0 126 (dk_at dksX2_spread_3 3 rfl rfl)
theorem dX2_spread_76 : decode cX2_spread 76 = .ok (.pop, 1) := dk_87 (dk_at dksX2_spread_3 6 rfl rfl)
theorem dX2_spread_77 : decode cX2_spread 77 = .ok (.aload 5, 2) := dk_25 5 (dk_at dksX2_spread_3 7 rfl rfl)
theorem dX2_spread_79 : decode cX2_spread 79 = .ok (.getfield 48, 3) := dk_180 0 48 (dk_at dksX2_spread_3 9 rfl rfl)
theorem dX2_spread_82 : decode cX2_spread 82 = .ok (.aload_n 2, 1) := dk_44 (dk_at dksX2_spread_3 12 rfl rfl)
theorem dX2_spread_83 : decode cX2_spread 83 = .ok (.aload_n 3, 1) := dk_45 (dk_at dksX2_spread_3 13 rfl rfl)
theorem dX2_spread_84 : decode cX2_spread 84 = .ok (.invokestatic 129, 3) := dk_184 0 129 (dk_at dksX2_spread_3 14 rfl rfl)
theorem dX2_spread_87 : decode cX2_spread 87 = .ok (.iconst 0, 1) := dk_3 (dk_at dksX2_spread_3 17 rfl rfl)
theorem dX2_spread_88 : decode cX2_spread 88 = .ok (.istore 6, 2) := dk_54 6 (dk_at dksX2_spread_3 18 rfl rfl)
theorem dX2_spread_90 : decode cX2_spread 90 = .ok (.iload 6, 2) := dk_21 6 (dk_at dksX2_spread_3 20 rfl rfl)
theorem dX2_spread_92 : decode cX2_spread 92 = .ok (.aload_n 2, 1) := dk_44 (dk_at dksX2_spread_3 22 rfl rfl)
theorem dX2_spread_93 : decode cX2_spread 93 = .ok (.arraylength, 1) := dk_190 (dk_at dksX2_spread_3 23 rfl rfl)
theorem dX2_spread_94 : decode cX2_spread 94 = .ok (.if_icmp .ge 25, 3) := dk_162 0 25 (dk_at dksX2_spread_4 0 rfl rfl)
theorem dX2_spread_97 : decode cX2_spread 97 = .ok (.aload_n 1, 1) := dk_43 (dk_at dksX2_spread_4 3 rfl rfl)
theorem dX2_spread_98 : decode cX2_spread 98 = .ok (.iload 6, 2) := dk_21 6 (dk_at dksX2_spread_4 4 rfl rfl)
theorem dX2_spread_100 : decode cX2_spread 100 = .ok (.dup2, 1) := dk_92 (dk_at dksX2_spread_4 6 rfl rfl)
theorem dX2_spread_101 : decode cX2_spread 101 = .ok (.iaload, 1) := dk_46 (dk_at dksX2_spread_4 7 rfl rfl)
theorem dX2_spread_102 : decode cX2_spread 102 = .ok (.aload_n 2, 1) := dk_44 (dk_at dksX2_spread_4 8 rfl rfl)
theorem dX2_spread_103 : decode cX2_spread 103 = .ok (.iload 6, 2) := dk_21 6 (dk_at dksX2_spread_4 9 rfl rfl)
theorem dX2_spread_105 : decode cX2_spread 105 = .ok (.iaload, 1) := dk_46 (dk_at dksX2_spread_4 11 rfl rfl)
theorem dX2_spread_106 : decode cX2_spread 106 = .ok (.iadd, 1) := dk_96 (dk_at dksX2_spread_4 12 rfl rfl)
theorem dX2_spread_107 : decode cX2_spread 107 = .ok (.iastore, 1) := dk_79 (dk_at dksX2_spread_4 13 rfl rfl)
theorem dX2_spread_108 : decode cX2_spread 108 = .ok (.aload_n 2, 1) := dk_44 (dk_at dksX2_spread_4 14 rfl rfl)
theorem dX2_spread_109 : decode cX2_spread 109 = .ok (.iload 6, 2) := dk_21 6 (dk_at dksX2_spread_4 15 rfl rfl)
theorem dX2_spread_111 : decode cX2_spread 111 = .ok (.iconst 0, 1) := dk_3 (dk_at dksX2_spread_4 17 rfl rfl)
theorem dX2_spread_112 : decode cX2_spread 112 = .ok (.iastore, 1) := dk_79 (dk_at dksX2_spread_4 18 rfl rfl)
theorem dX2_spread_113 : decode cX2_spread 113 = .ok (.iinc 6 1, 3) := dk_132 6 1 (dk_at dksX2_spread_4 19 rfl rfl)
theorem dX2_spread_116 : decode cX2_spread 116 = .ok (.goto (-26), 3) := dk_167 255 230 (dk_at dksX2_spread_5 0 rfl rfl)
theorem dX2_spread_119 : decode cX2_spread 119 = .ok (.iinc 4 1, 3) := dk_132 4 1 (dk_at dksX2_spread_5 3 rfl rfl)
theorem dX2_spread_122 : decode cX2_spread 122 = .ok (.goto (-101), 3) := dk_167 255 155 (dk_at dksX2_spread_5 6 rfl rfl)
theorem dX2_spread_125 : decode cX2_spread 125 = .ok (.aload_n 1, 1) := dk_43 (dk_at dksX2_spread_5 9 rfl rfl)
theorem dX2_spread_126 : decode cX2_spread 126 = .ok (.areturn, 1) := dk_176 (dk_at dksX2_spread_5 10 rfl rfl)
abbrev cX2_spread_2 : ByteArray := prog_10_method_6_code
def yX2_spread_2 : MethodName := ⟨RX2, "spread", "(I[ILjava/util/ArrayDeque;)V"⟩
def dkwX2_spread_2_4 : List UInt8 := [4, 96, 167, 0, 4, 2, 43, 44, 184, 0, 147, 167, 255, 164, 177]
abbrev dktX2_spread_2_4 : List UInt8 := dkwX2_spread_2_4 ++ []
def dkwX2_spread_2_3 : List UInt8 := [158, 0, 9, 29, 4, 100, 167, 0, 4, 2, 43, 44, 184, 0, 147, 21, 4, 21, 5, 8, 162, 0, 9, 29]
abbrev dktX2_spread_2_3 : List UInt8 := dkwX2_spread_2_3 ++ dktX2_spread_2_4
def dkwX2_spread_2_2 : List UInt8 := [16, 6, 100, 43, 44, 184, 0, 147, 21, 4, 29, 16, 6, 96, 43, 44, 184, 0, 147, 21, 4, 21, 5]
abbrev dktX2_spread_2_2 : List UInt8 := dkwX2_spread_2_2 ++ dktX2_spread_2_3
def dkwX2_spread_2_1 : List UInt8 := [192, 0, 121, 182, 0, 137, 62, 43, 29, 46, 5, 100, 54, 4, 29, 16, 6, 112, 54, 5, 21, 4, 29]
abbrev dktX2_spread_2_1 : List UInt8 := dkwX2_spread_2_1 ++ dktX2_spread_2_2
def dkwX2_spread_2_0 : List UInt8 := [43, 44, 182, 0, 133, 192, 0, 121, 182, 0, 137, 26, 79, 44, 182, 0, 140, 154, 0, 91, 44, 182, 0, 144]
abbrev dktX2_spread_2_0 : List UInt8 := dkwX2_spread_2_0 ++ dktX2_spread_2_1
theorem dksX2_spread_2_0 : cX2_spread_2.data.toList.drop 0 = dktX2_spread_2_0 := by decide +kernel
theorem dksX2_spread_2_1 : cX2_spread_2.data.toList.drop 24 = dktX2_spread_2_1 := dk_seg dksX2_spread_2_0 24 rfl rfl
theorem dksX2_spread_2_2 : cX2_spread_2.data.toList.drop 47 = dktX2_spread_2_2 := dk_seg dksX2_spread_2_1 23 rfl rfl
theorem dksX2_spread_2_3 : cX2_spread_2.data.toList.drop 70 = dktX2_spread_2_3 := dk_seg dksX2_spread_2_2 23 rfl rfl
theorem dksX2_spread_2_4 : cX2_spread_2.data.toList.drop 94 = dktX2_spread_2_4 := dk_seg dksX2_spread_2_3 24 rfl rfl
theorem dX2_spread_2_0 : decode cX2_spread_2 0 = .ok (.aload_n 1, 1) := dk_43 (dk_at dksX2_spread_2_0 0 rfl rfl)
theorem dX2_spread_2_1 : decode cX2_spread_2 1 = .ok (.aload_n 2, 1) := dk_44 (dk_at dksX2_spread_2_0 1 rfl rfl)
theorem dX2_spread_2_2 : decode cX2_spread_2 2 = .ok (.invokevirtual 133, 3) := dk_182 0 133 (dk_at dksX2_spread_2_0 2 rfl rfl)
theorem dX2_spread_2_5 : decode cX2_spread_2 5 = .ok (.checkcast 121, 3) := dk_192 0 121 (dk_at dksX2_spread_2_0 5 rfl rfl)
theorem dX2_spread_2_8 : decode cX2_spread_2 8 = .ok (.invokevirtual 137, 3) := dk_182 0 137 (dk_at dksX2_spread_2_0 8 rfl rfl)
theorem dX2_spread_2_11 : decode cX2_spread_2 11 = .ok (.iload_n 0, 1) := dk_26 (dk_at dksX2_spread_2_0 11 rfl rfl)
theorem dX2_spread_2_12 : decode cX2_spread_2 12 = .ok (.iastore, 1) := dk_79 (dk_at dksX2_spread_2_0 12 rfl rfl)
theorem dX2_spread_2_13 : decode cX2_spread_2 13 = .ok (.aload_n 2, 1) := dk_44 (dk_at dksX2_spread_2_0 13 rfl rfl)
theorem dX2_spread_2_14 : decode cX2_spread_2 14 = .ok (.invokevirtual 140, 3) := dk_182 0 140 (dk_at dksX2_spread_2_0 14 rfl rfl)
theorem dX2_spread_2_17 : decode cX2_spread_2 17 = .ok (.ifCond .ne 91, 3) := dk_154 0 91 (dk_at dksX2_spread_2_0 17 rfl rfl)
theorem dX2_spread_2_20 : decode cX2_spread_2 20 = .ok (.aload_n 2, 1) := dk_44 (dk_at dksX2_spread_2_0 20 rfl rfl)
theorem dX2_spread_2_21 : decode cX2_spread_2 21 = .ok (.invokevirtual 144, 3) := dk_182 0 144 (dk_at dksX2_spread_2_0 21 rfl rfl)
theorem dX2_spread_2_24 : decode cX2_spread_2 24 = .ok (.checkcast 121, 3) := dk_192 0 121 (dk_at dksX2_spread_2_1 0 rfl rfl)
theorem dX2_spread_2_27 : decode cX2_spread_2 27 = .ok (.invokevirtual 137, 3) := dk_182 0 137 (dk_at dksX2_spread_2_1 3 rfl rfl)
theorem dX2_spread_2_30 : decode cX2_spread_2 30 = .ok (.istore_n 3, 1) := dk_62 (dk_at dksX2_spread_2_1 6 rfl rfl)
theorem dX2_spread_2_31 : decode cX2_spread_2 31 = .ok (.aload_n 1, 1) := dk_43 (dk_at dksX2_spread_2_1 7 rfl rfl)
theorem dX2_spread_2_32 : decode cX2_spread_2 32 = .ok (.iload_n 3, 1) := dk_29 (dk_at dksX2_spread_2_1 8 rfl rfl)
theorem dX2_spread_2_33 : decode cX2_spread_2 33 = .ok (.iaload, 1) := dk_46 (dk_at dksX2_spread_2_1 9 rfl rfl)
theorem dX2_spread_2_34 : decode cX2_spread_2 34 = .ok (.iconst 2, 1) := dk_5 (dk_at dksX2_spread_2_1 10 rfl rfl)
theorem dX2_spread_2_35 : decode cX2_spread_2 35 = .ok (.isub, 1) := dk_100 (dk_at dksX2_spread_2_1 11 rfl rfl)
theorem dX2_spread_2_36 : decode cX2_spread_2 36 = .ok (.istore 4, 2) := dk_54 4 (dk_at dksX2_spread_2_1 12 rfl rfl)
theorem dX2_spread_2_38 : decode cX2_spread_2 38 = .ok (.iload_n 3, 1) := dk_29 (dk_at dksX2_spread_2_1 14 rfl rfl)
theorem dX2_spread_2_39 : decode cX2_spread_2 39 = .ok (.bipush 6, 2) := dk_16 6 (dk_at dksX2_spread_2_1 15 rfl rfl)
theorem dX2_spread_2_41 : decode cX2_spread_2 41 = .ok (.irem, 1) := dk_112 (dk_at dksX2_spread_2_1 17 rfl rfl)
theorem dX2_spread_2_42 : decode cX2_spread_2 42 = .ok (.istore 5, 2) := dk_54 5 (dk_at dksX2_spread_2_1 18 rfl rfl)
theorem dX2_spread_2_44 : decode cX2_spread_2 44 = .ok (.iload 4, 2) := dk_21 4 (dk_at dksX2_spread_2_1 20 rfl rfl)
theorem dX2_spread_2_46 : decode cX2_spread_2 46 = .ok (.iload_n 3, 1) := dk_29 (dk_at dksX2_spread_2_1 22 rfl rfl)
theorem dX2_spread_2_47 : decode cX2_spread_2 47 = .ok (.bipush 6, 2) := dk_16 6 (dk_at dksX2_spread_2_2 0 rfl rfl)
theorem dX2_spread_2_49 : decode cX2_spread_2 49 = .ok (.isub, 1) := dk_100 (dk_at dksX2_spread_2_2 2 rfl rfl)
theorem dX2_spread_2_50 : decode cX2_spread_2 50 = .ok (.aload_n 1, 1) := dk_43 (dk_at dksX2_spread_2_2 3 rfl rfl)
theorem dX2_spread_2_51 : decode cX2_spread_2 51 = .ok (.aload_n 2, 1) := dk_44 (dk_at dksX2_spread_2_2 4 rfl rfl)
theorem dX2_spread_2_52 : decode cX2_spread_2 52 = .ok (.invokestatic 147, 3) := dk_184 0 147 (dk_at dksX2_spread_2_2 5 rfl rfl)
theorem dX2_spread_2_55 : decode cX2_spread_2 55 = .ok (.iload 4, 2) := dk_21 4 (dk_at dksX2_spread_2_2 8 rfl rfl)
theorem dX2_spread_2_57 : decode cX2_spread_2 57 = .ok (.iload_n 3, 1) := dk_29 (dk_at dksX2_spread_2_2 10 rfl rfl)
theorem dX2_spread_2_58 : decode cX2_spread_2 58 = .ok (.bipush 6, 2) := dk_16 6 (dk_at dksX2_spread_2_2 11 rfl rfl)
theorem dX2_spread_2_60 : decode cX2_spread_2 60 = .ok (.iadd, 1) := dk_96 (dk_at dksX2_spread_2_2 13 rfl rfl)
theorem dX2_spread_2_61 : decode cX2_spread_2 61 = .ok (.aload_n 1, 1) := dk_43 (dk_at dksX2_spread_2_2 14 rfl rfl)
theorem dX2_spread_2_62 : decode cX2_spread_2 62 = .ok (.aload_n 2, 1) := dk_44 (dk_at dksX2_spread_2_2 15 rfl rfl)
theorem dX2_spread_2_63 : decode cX2_spread_2 63 = .ok (.invokestatic 147, 3) := dk_184 0 147 (dk_at dksX2_spread_2_2 16 rfl rfl)
theorem dX2_spread_2_66 : decode cX2_spread_2 66 = .ok (.iload 4, 2) := dk_21 4 (dk_at dksX2_spread_2_2 19 rfl rfl)
theorem dX2_spread_2_68 : decode cX2_spread_2 68 = .ok (.iload 5, 2) := dk_21 5 (dk_at dksX2_spread_2_2 21 rfl rfl)
theorem dX2_spread_2_70 : decode cX2_spread_2 70 = .ok (.ifCond .le 9, 3) := dk_158 0 9 (dk_at dksX2_spread_2_3 0 rfl rfl)
theorem dX2_spread_2_73 : decode cX2_spread_2 73 = .ok (.iload_n 3, 1) := dk_29 (dk_at dksX2_spread_2_3 3 rfl rfl)
theorem dX2_spread_2_74 : decode cX2_spread_2 74 = .ok (.iconst 1, 1) := dk_4 (dk_at dksX2_spread_2_3 4 rfl rfl)
theorem dX2_spread_2_75 : decode cX2_spread_2 75 = .ok (.isub, 1) := dk_100 (dk_at dksX2_spread_2_3 5 rfl rfl)
theorem dX2_spread_2_76 : decode cX2_spread_2 76 = .ok (.goto 4, 3) := dk_167 0 4 (dk_at dksX2_spread_2_3 6 rfl rfl)
theorem dX2_spread_2_79 : decode cX2_spread_2 79 = .ok (.iconst (-1), 1) := dk_2 (dk_at dksX2_spread_2_3 9 rfl rfl)
theorem dX2_spread_2_80 : decode cX2_spread_2 80 = .ok (.aload_n 1, 1) := dk_43 (dk_at dksX2_spread_2_3 10 rfl rfl)
theorem dX2_spread_2_81 : decode cX2_spread_2 81 = .ok (.aload_n 2, 1) := dk_44 (dk_at dksX2_spread_2_3 11 rfl rfl)
theorem dX2_spread_2_82 : decode cX2_spread_2 82 = .ok (.invokestatic 147, 3) := dk_184 0 147 (dk_at dksX2_spread_2_3 12 rfl rfl)
theorem dX2_spread_2_85 : decode cX2_spread_2 85 = .ok (.iload 4, 2) := dk_21 4 (dk_at dksX2_spread_2_3 15 rfl rfl)
theorem dX2_spread_2_87 : decode cX2_spread_2 87 = .ok (.iload 5, 2) := dk_21 5 (dk_at dksX2_spread_2_3 17 rfl rfl)
theorem dX2_spread_2_89 : decode cX2_spread_2 89 = .ok (.iconst 5, 1) := dk_8 (dk_at dksX2_spread_2_3 19 rfl rfl)
theorem dX2_spread_2_90 : decode cX2_spread_2 90 = .ok (.if_icmp .ge 9, 3) := dk_162 0 9 (dk_at dksX2_spread_2_3 20 rfl rfl)
theorem dX2_spread_2_93 : decode cX2_spread_2 93 = .ok (.iload_n 3, 1) := dk_29 (dk_at dksX2_spread_2_3 23 rfl rfl)
theorem dX2_spread_2_94 : decode cX2_spread_2 94 = .ok (.iconst 1, 1) := dk_4 (dk_at dksX2_spread_2_4 0 rfl rfl)
theorem dX2_spread_2_95 : decode cX2_spread_2 95 = .ok (.iadd, 1) := dk_96 (dk_at dksX2_spread_2_4 1 rfl rfl)
theorem dX2_spread_2_96 : decode cX2_spread_2 96 = .ok (.goto 4, 3) := dk_167 0 4 (dk_at dksX2_spread_2_4 2 rfl rfl)
theorem dX2_spread_2_99 : decode cX2_spread_2 99 = .ok (.iconst (-1), 1) := dk_2 (dk_at dksX2_spread_2_4 5 rfl rfl)
theorem dX2_spread_2_100 : decode cX2_spread_2 100 = .ok (.aload_n 1, 1) := dk_43 (dk_at dksX2_spread_2_4 6 rfl rfl)
theorem dX2_spread_2_101 : decode cX2_spread_2 101 = .ok (.aload_n 2, 1) := dk_44 (dk_at dksX2_spread_2_4 7 rfl rfl)
theorem dX2_spread_2_102 : decode cX2_spread_2 102 = .ok (.invokestatic 147, 3) := dk_184 0 147 (dk_at dksX2_spread_2_4 8 rfl rfl)
theorem dX2_spread_2_105 : decode cX2_spread_2 105 = .ok (.goto (-92), 3) := dk_167 255 164 (dk_at dksX2_spread_2_4 11 rfl rfl)
theorem dX2_spread_2_108 : decode cX2_spread_2 108 = .ok (.return_, 1) := dk_177 (dk_at dksX2_spread_2_4 14 rfl rfl)
abbrev cX2_reach : ByteArray := prog_10_method_7_code
def yX2_reach : MethodName := ⟨RX2, "reach", "(II[ILjava/util/ArrayDeque;)V"⟩
def dkwX2_reach_1 : List UInt8 := [26, 79, 45, 27, 184, 0, 120, 182, 0, 126, 87, 177]
abbrev dktX2_reach_1 : List UInt8 := dkwX2_reach_1 ++ []
def dkwX2_reach_0 : List UInt8 := [26, 158, 0, 34, 27, 3, 44, 190, 4, 100, 184, 0, 151, 153, 0, 22, 44, 27, 46, 154, 0, 16, 44, 27]
abbrev dktX2_reach_0 : List UInt8 := dkwX2_reach_0 ++ dktX2_reach_1
theorem dksX2_reach_0 : cX2_reach.data.toList.drop 0 = dktX2_reach_0 := by decide +kernel
theorem dksX2_reach_1 : cX2_reach.data.toList.drop 24 = dktX2_reach_1 := dk_seg dksX2_reach_0 24 rfl rfl
theorem dX2_reach_0 : decode cX2_reach 0 = .ok (.iload_n 0, 1) := dk_26 (dk_at dksX2_reach_0 0 rfl rfl)
theorem dX2_reach_1 : decode cX2_reach 1 = .ok (.ifCond .le 34, 3) := dk_158 0 34 (dk_at dksX2_reach_0 1 rfl rfl)
theorem dX2_reach_4 : decode cX2_reach 4 = .ok (.iload_n 1, 1) := dk_27 (dk_at dksX2_reach_0 4 rfl rfl)
theorem dX2_reach_5 : decode cX2_reach 5 = .ok (.iconst 0, 1) := dk_3 (dk_at dksX2_reach_0 5 rfl rfl)
theorem dX2_reach_6 : decode cX2_reach 6 = .ok (.aload_n 2, 1) := dk_44 (dk_at dksX2_reach_0 6 rfl rfl)
theorem dX2_reach_7 : decode cX2_reach 7 = .ok (.arraylength, 1) := dk_190 (dk_at dksX2_reach_0 7 rfl rfl)
theorem dX2_reach_8 : decode cX2_reach 8 = .ok (.iconst 1, 1) := dk_4 (dk_at dksX2_reach_0 8 rfl rfl)
theorem dX2_reach_9 : decode cX2_reach 9 = .ok (.isub, 1) := dk_100 (dk_at dksX2_reach_0 9 rfl rfl)
theorem dX2_reach_10 : decode cX2_reach 10 = .ok (.invokestatic 151, 3) := dk_184 0 151 (dk_at dksX2_reach_0 10 rfl rfl)
theorem dX2_reach_13 : decode cX2_reach 13 = .ok (.ifCond .eq 22, 3) := dk_153 0 22 (dk_at dksX2_reach_0 13 rfl rfl)
theorem dX2_reach_16 : decode cX2_reach 16 = .ok (.aload_n 2, 1) := dk_44 (dk_at dksX2_reach_0 16 rfl rfl)
theorem dX2_reach_17 : decode cX2_reach 17 = .ok (.iload_n 1, 1) := dk_27 (dk_at dksX2_reach_0 17 rfl rfl)
theorem dX2_reach_18 : decode cX2_reach 18 = .ok (.iaload, 1) := dk_46 (dk_at dksX2_reach_0 18 rfl rfl)
theorem dX2_reach_19 : decode cX2_reach 19 = .ok (.ifCond .ne 16, 3) := dk_154 0 16 (dk_at dksX2_reach_0 19 rfl rfl)
theorem dX2_reach_22 : decode cX2_reach 22 = .ok (.aload_n 2, 1) := dk_44 (dk_at dksX2_reach_0 22 rfl rfl)
theorem dX2_reach_23 : decode cX2_reach 23 = .ok (.iload_n 1, 1) := dk_27 (dk_at dksX2_reach_0 23 rfl rfl)
theorem dX2_reach_24 : decode cX2_reach 24 = .ok (.iload_n 0, 1) := dk_26 (dk_at dksX2_reach_1 0 rfl rfl)
theorem dX2_reach_25 : decode cX2_reach 25 = .ok (.iastore, 1) := dk_79 (dk_at dksX2_reach_1 1 rfl rfl)
theorem dX2_reach_26 : decode cX2_reach 26 = .ok (.aload_n 3, 1) := dk_45 (dk_at dksX2_reach_1 2 rfl rfl)
theorem dX2_reach_27 : decode cX2_reach 27 = .ok (.iload_n 1, 1) := dk_27 (dk_at dksX2_reach_1 3 rfl rfl)
theorem dX2_reach_28 : decode cX2_reach 28 = .ok (.invokestatic 120, 3) := dk_184 0 120 (dk_at dksX2_reach_1 4 rfl rfl)
theorem dX2_reach_31 : decode cX2_reach 31 = .ok (.invokevirtual 126, 3) := dk_182 0 126 (dk_at dksX2_reach_1 7 rfl rfl)
theorem dX2_reach_34 : decode cX2_reach 34 = .ok (.pop, 1) := dk_87 (dk_at dksX2_reach_1 10 rfl rfl)
theorem dX2_reach_35 : decode cX2_reach 35 = .ok (.return_, 1) := dk_177 (dk_at dksX2_reach_1 11 rfl rfl)
abbrev cX2_letCount : ByteArray := prog_10_method_36_code
def yX2_letCount : MethodName := ⟨RX2, "letCount", "()I"⟩
def dkwX2_letCount_0 : List UInt8 := [42, 180, 0, 12, 186, 0, 254, 0, 0, 182, 0, 113, 172]
abbrev dktX2_letCount_0 : List UInt8 := dkwX2_letCount_0 ++ []
theorem dksX2_letCount_0 : cX2_letCount.data.toList.drop 0 = dktX2_letCount_0 := by decide +kernel
theorem dX2_letCount_0 : decode cX2_letCount 0 = .ok (.aload_n 0, 1) := dk_42 (dk_at dksX2_letCount_0 0 rfl rfl)
theorem dX2_letCount_1 : decode cX2_letCount 1 = .ok (.getfield 12, 3) := dk_180 0 12 (dk_at dksX2_letCount_0 1 rfl rfl)
theorem dX2_letCount_4 : decode cX2_letCount 4 = .ok (.invokedynamic 254, 5) := by decide +kernel
theorem dX2_letCount_9 : decode cX2_letCount 9 = .ok (.invokevirtual 113, 3) := dk_182 0 113 (dk_at dksX2_letCount_0 9 rfl rfl)
theorem dX2_letCount_12 : decode cX2_letCount 12 = .ok (.ireturn, 1) := dk_172 (dk_at dksX2_letCount_0 12 rfl rfl)
abbrev cX2_lambda_letCount_4 : ByteArray := prog_10_method_48_code
def yX2_lambda_letCount_4 : MethodName := ⟨RX2, "lambda$letCount$4", "(LBenchBroker$Bench;)I"⟩
def dkwX2_lambda_letCount_4_0 : List UInt8 := [42, 182, 0, 196, 184, 0, 226, 172]
abbrev dktX2_lambda_letCount_4_0 : List UInt8 := dkwX2_lambda_letCount_4_0 ++ []
theorem dksX2_lambda_letCount_4_0 : cX2_lambda_letCount_4.data.toList.drop 0 = dktX2_lambda_letCount_4_0 := by decide +kernel
theorem dX2_lambda_letCount_4_0 : decode cX2_lambda_letCount_4 0 = .ok (.aload_n 0, 1) := dk_42 (dk_at dksX2_lambda_letCount_4_0 0 rfl rfl)
theorem dX2_lambda_letCount_4_1 : decode cX2_lambda_letCount_4 1 = .ok (.invokevirtual 196, 3) := dk_182 0 196 (dk_at dksX2_lambda_letCount_4_0 1 rfl rfl)
theorem dX2_lambda_letCount_4_4 : decode cX2_lambda_letCount_4 4 = .ok (.invokestatic 226, 3) := dk_184 0 226 (dk_at dksX2_lambda_letCount_4_0 4 rfl rfl)
theorem dX2_lambda_letCount_4_7 : decode cX2_lambda_letCount_4 7 = .ok (.ireturn, 1) := dk_172 (dk_at dksX2_lambda_letCount_4_0 7 rfl rfl)
abbrev cX2_lambda_isConsistent_9 : ByteArray := prog_10_method_43_code
def yX2_lambda_isConsistent_9 : MethodName := ⟨RX2, "lambda$isConsistent$9", "(LBenchBroker$Tenant;)I"⟩
def dkwX2_lambda_isConsistent_9_1 : List UInt8 := [184, 0, 226, 172]
abbrev dktX2_lambda_isConsistent_9_1 : List UInt8 := dkwX2_lambda_isConsistent_9_1 ++ []
def dkwX2_lambda_isConsistent_9_0 : List UInt8 := [42, 180, 0, 76, 198, 0, 18, 42, 180, 0, 76, 180, 0, 105, 42, 166, 0, 7, 4, 167, 0, 4, 3]
abbrev dktX2_lambda_isConsistent_9_0 : List UInt8 := dkwX2_lambda_isConsistent_9_0 ++ dktX2_lambda_isConsistent_9_1
theorem dksX2_lambda_isConsistent_9_0 : cX2_lambda_isConsistent_9.data.toList.drop 0 = dktX2_lambda_isConsistent_9_0 := by decide +kernel
theorem dksX2_lambda_isConsistent_9_1 : cX2_lambda_isConsistent_9.data.toList.drop 23 = dktX2_lambda_isConsistent_9_1 := dk_seg dksX2_lambda_isConsistent_9_0 23 rfl rfl
theorem dX2_lambda_isConsistent_9_0 : decode cX2_lambda_isConsistent_9 0 = .ok (.aload_n 0, 1) := dk_42 (dk_at dksX2_lambda_isConsistent_9_0 0 rfl rfl)
theorem dX2_lambda_isConsistent_9_1 : decode cX2_lambda_isConsistent_9 1 = .ok (.getfield 76, 3) := dk_180 0 76 (dk_at dksX2_lambda_isConsistent_9_0 1 rfl rfl)
theorem dX2_lambda_isConsistent_9_4 : decode cX2_lambda_isConsistent_9 4 = .ok (.ifnull 18, 3) := dk_198 0 18 (dk_at dksX2_lambda_isConsistent_9_0 4 rfl rfl)
theorem dX2_lambda_isConsistent_9_7 : decode cX2_lambda_isConsistent_9 7 = .ok (.aload_n 0, 1) := dk_42 (dk_at dksX2_lambda_isConsistent_9_0 7 rfl rfl)
theorem dX2_lambda_isConsistent_9_8 : decode cX2_lambda_isConsistent_9 8 = .ok (.getfield 76, 3) := dk_180 0 76 (dk_at dksX2_lambda_isConsistent_9_0 8 rfl rfl)
theorem dX2_lambda_isConsistent_9_11 : decode cX2_lambda_isConsistent_9 11 = .ok (.getfield 105, 3) := dk_180 0 105 (dk_at dksX2_lambda_isConsistent_9_0 11 rfl rfl)
theorem dX2_lambda_isConsistent_9_14 : decode cX2_lambda_isConsistent_9 14 = .ok (.aload_n 0, 1) := dk_42 (dk_at dksX2_lambda_isConsistent_9_0 14 rfl rfl)
theorem dX2_lambda_isConsistent_9_15 : decode cX2_lambda_isConsistent_9 15 = .ok (.if_acmp .ne 7, 3) := dk_166 0 7 (dk_at dksX2_lambda_isConsistent_9_0 15 rfl rfl)
theorem dX2_lambda_isConsistent_9_18 : decode cX2_lambda_isConsistent_9 18 = .ok (.iconst 1, 1) := dk_4 (dk_at dksX2_lambda_isConsistent_9_0 18 rfl rfl)
theorem dX2_lambda_isConsistent_9_19 : decode cX2_lambda_isConsistent_9 19 = .ok (.goto 4, 3) := dk_167 0 4 (dk_at dksX2_lambda_isConsistent_9_0 19 rfl rfl)
theorem dX2_lambda_isConsistent_9_22 : decode cX2_lambda_isConsistent_9 22 = .ok (.iconst 0, 1) := dk_3 (dk_at dksX2_lambda_isConsistent_9_0 22 rfl rfl)
theorem dX2_lambda_isConsistent_9_23 : decode cX2_lambda_isConsistent_9 23 = .ok (.invokestatic 226, 3) := dk_184 0 226 (dk_at dksX2_lambda_isConsistent_9_1 0 rfl rfl)
theorem dX2_lambda_isConsistent_9_26 : decode cX2_lambda_isConsistent_9 26 = .ok (.ireturn, 1) := dk_172 (dk_at dksX2_lambda_isConsistent_9_1 3 rfl rfl)
abbrev cX2_incomeWithin : ByteArray := prog_10_method_29_code
def yX2_incomeWithin : MethodName := ⟨RX2, "incomeWithin", "(I)I"⟩
def dkwX2_incomeWithin_0 : List UInt8 := [42, 182, 0, 230, 77, 44, 27, 182, 0, 234, 62, 44, 180, 0, 90, 42, 180, 0, 90, 100, 172]
abbrev dktX2_incomeWithin_0 : List UInt8 := dkwX2_incomeWithin_0 ++ []
theorem dksX2_incomeWithin_0 : cX2_incomeWithin.data.toList.drop 0 = dktX2_incomeWithin_0 := by decide +kernel
theorem dX2_incomeWithin_0 : decode cX2_incomeWithin 0 = .ok (.aload_n 0, 1) := dk_42 (dk_at dksX2_incomeWithin_0 0 rfl rfl)
theorem dX2_incomeWithin_1 : decode cX2_incomeWithin 1 = .ok (.invokevirtual 230, 3) := dk_182 0 230 (dk_at dksX2_incomeWithin_0 1 rfl rfl)
theorem dX2_incomeWithin_4 : decode cX2_incomeWithin 4 = .ok (.astore_n 2, 1) := dk_77 (dk_at dksX2_incomeWithin_0 4 rfl rfl)
theorem dX2_incomeWithin_5 : decode cX2_incomeWithin 5 = .ok (.aload_n 2, 1) := dk_44 (dk_at dksX2_incomeWithin_0 5 rfl rfl)
theorem dX2_incomeWithin_6 : decode cX2_incomeWithin 6 = .ok (.iload_n 1, 1) := dk_27 (dk_at dksX2_incomeWithin_0 6 rfl rfl)
theorem dX2_incomeWithin_7 : decode cX2_incomeWithin 7 = .ok (.invokevirtual 234, 3) := dk_182 0 234 (dk_at dksX2_incomeWithin_0 7 rfl rfl)
theorem dX2_incomeWithin_10 : decode cX2_incomeWithin 10 = .ok (.istore_n 3, 1) := dk_62 (dk_at dksX2_incomeWithin_0 10 rfl rfl)
theorem dX2_incomeWithin_11 : decode cX2_incomeWithin 11 = .ok (.aload_n 2, 1) := dk_44 (dk_at dksX2_incomeWithin_0 11 rfl rfl)
theorem dX2_incomeWithin_12 : decode cX2_incomeWithin 12 = .ok (.getfield 90, 3) := dk_180 0 90 (dk_at dksX2_incomeWithin_0 12 rfl rfl)
theorem dX2_incomeWithin_15 : decode cX2_incomeWithin 15 = .ok (.aload_n 0, 1) := dk_42 (dk_at dksX2_incomeWithin_0 15 rfl rfl)
theorem dX2_incomeWithin_16 : decode cX2_incomeWithin 16 = .ok (.getfield 90, 3) := dk_180 0 90 (dk_at dksX2_incomeWithin_0 16 rfl rfl)
theorem dX2_incomeWithin_19 : decode cX2_incomeWithin 19 = .ok (.isub, 1) := dk_100 (dk_at dksX2_incomeWithin_0 19 rfl rfl)
theorem dX2_incomeWithin_20 : decode cX2_incomeWithin 20 = .ok (.ireturn, 1) := dk_172 (dk_at dksX2_incomeWithin_0 20 rfl rfl)
abbrev cX2_copy : ByteArray := prog_10_method_2_code
def yX2_copy : MethodName := ⟨RX2, "copy", "()LBenchBroker$Park;"⟩
def dkwX2_copy_11 : List UInt8 := [181, 0, 99, 43, 42, 180, 0, 102, 181, 0, 102, 43, 176]
abbrev dktX2_copy_11 : List UInt8 := dkwX2_copy_11 ++ []
def dkwX2_copy_10 : List UInt8 := [181, 0, 90, 43, 42, 180, 0, 93, 181, 0, 93, 43, 42, 180, 0, 96, 181, 0, 96, 43, 42, 180, 0, 99]
abbrev dktX2_copy_10 : List UInt8 := dkwX2_copy_10 ++ dktX2_copy_11
def dkwX2_copy_9 : List UInt8 := [167, 255, 168, 43, 42, 180, 0, 24, 181, 0, 24, 43, 42, 180, 0, 87, 181, 0, 87, 43, 42, 180, 0, 90]
abbrev dktX2_copy_9 : List UInt8 := dkwX2_copy_9 ++ dktX2_copy_10
def dkwX2_copy_8 : List UInt8 := [180, 0, 12, 45, 180, 0, 76, 182, 0, 80, 182, 0, 33, 192, 0, 59, 182, 0, 83, 132, 2, 1]
abbrev dktX2_copy_8 : List UInt8 := dkwX2_copy_8 ++ dktX2_copy_9
def dkwX2_copy_7 : List UInt8 := [181, 0, 73, 43, 180, 0, 21, 25, 4, 182, 0, 55, 45, 180, 0, 76, 198, 0, 26, 43, 25, 4, 43]
abbrev dktX2_copy_7 : List UInt8 := dkwX2_copy_7 ++ dktX2_copy_8
def dkwX2_copy_6 : List UInt8 := [192, 0, 65, 78, 187, 0, 65, 89, 28, 45, 180, 0, 67, 183, 0, 70, 58, 4, 25, 4, 45, 180, 0, 73]
abbrev dktX2_copy_6 : List UInt8 := dkwX2_copy_6 ++ dktX2_copy_7
def dkwX2_copy_5 : List UInt8 := [167, 255, 224, 3, 61, 28, 42, 180, 0, 21, 182, 0, 29, 162, 0, 83, 42, 180, 0, 21, 28, 182, 0, 33]
abbrev dktX2_copy_5 : List UInt8 := dkwX2_copy_5 ++ dktX2_copy_6
def dkwX2_copy_4 : List UInt8 := [162, 0, 27, 42, 180, 0, 12, 28, 182, 0, 33, 192, 0, 59, 43, 180, 0, 12, 184, 0, 61, 132, 2, 1]
abbrev dktX2_copy_4 : List UInt8 := dkwX2_copy_4 ++ dktX2_copy_5
def dkwX2_copy_3 : List UInt8 := [180, 0, 18, 25, 4, 182, 0, 55, 132, 2, 1, 167, 255, 185, 3, 61, 28, 42, 180, 0, 12, 182, 0, 29]
abbrev dktX2_copy_3 : List UInt8 := dkwX2_copy_3 ++ dktX2_copy_4
def dkwX2_copy_2 : List UInt8 := [183, 0, 45, 58, 4, 25, 4, 45, 180, 0, 48, 181, 0, 48, 25, 4, 45, 180, 0, 51, 181, 0, 51, 43]
abbrev dktX2_copy_2 : List UInt8 := dkwX2_copy_2 ++ dktX2_copy_3
def dkwX2_copy_1 : List UInt8 := [180, 0, 18, 28, 182, 0, 33, 192, 0, 37, 78, 187, 0, 37, 89, 28, 45, 182, 0, 39, 45, 182, 0, 42]
abbrev dktX2_copy_1 : List UInt8 := dkwX2_copy_1 ++ dktX2_copy_2
def dkwX2_copy_0 : List UInt8 := [187, 0, 13, 89, 183, 0, 28, 76, 3, 61, 28, 42, 180, 0, 18, 182, 0, 29, 162, 0, 66, 42]
abbrev dktX2_copy_0 : List UInt8 := dkwX2_copy_0 ++ dktX2_copy_1
theorem dksX2_copy_0 : cX2_copy.data.toList.drop 0 = dktX2_copy_0 := by decide +kernel
theorem dksX2_copy_1 : cX2_copy.data.toList.drop 22 = dktX2_copy_1 := dk_seg dksX2_copy_0 22 rfl rfl
theorem dksX2_copy_2 : cX2_copy.data.toList.drop 46 = dktX2_copy_2 := dk_seg dksX2_copy_1 24 rfl rfl
theorem dksX2_copy_3 : cX2_copy.data.toList.drop 70 = dktX2_copy_3 := dk_seg dksX2_copy_2 24 rfl rfl
theorem dksX2_copy_4 : cX2_copy.data.toList.drop 94 = dktX2_copy_4 := dk_seg dksX2_copy_3 24 rfl rfl
theorem dksX2_copy_5 : cX2_copy.data.toList.drop 118 = dktX2_copy_5 := dk_seg dksX2_copy_4 24 rfl rfl
theorem dksX2_copy_6 : cX2_copy.data.toList.drop 142 = dktX2_copy_6 := dk_seg dksX2_copy_5 24 rfl rfl
theorem dksX2_copy_7 : cX2_copy.data.toList.drop 166 = dktX2_copy_7 := dk_seg dksX2_copy_6 24 rfl rfl
theorem dksX2_copy_8 : cX2_copy.data.toList.drop 189 = dktX2_copy_8 := dk_seg dksX2_copy_7 23 rfl rfl
theorem dksX2_copy_9 : cX2_copy.data.toList.drop 211 = dktX2_copy_9 := dk_seg dksX2_copy_8 22 rfl rfl
theorem dksX2_copy_10 : cX2_copy.data.toList.drop 235 = dktX2_copy_10 := dk_seg dksX2_copy_9 24 rfl rfl
theorem dksX2_copy_11 : cX2_copy.data.toList.drop 259 = dktX2_copy_11 := dk_seg dksX2_copy_10 24 rfl rfl
theorem dX2_copy_0 : decode cX2_copy 0 = .ok (.new 13, 3) := dk_187 0 13 (dk_at dksX2_copy_0 0 rfl rfl)
theorem dX2_copy_3 : decode cX2_copy 3 = .ok (.dup, 1) := dk_89 (dk_at dksX2_copy_0 3 rfl rfl)
theorem dX2_copy_4 : decode cX2_copy 4 = .ok (.invokespecial 28, 3) := dk_183 0 28 (dk_at dksX2_copy_0 4 rfl rfl)
theorem dX2_copy_7 : decode cX2_copy 7 = .ok (.astore_n 1, 1) := dk_76 (dk_at dksX2_copy_0 7 rfl rfl)
theorem dX2_copy_8 : decode cX2_copy 8 = .ok (.iconst 0, 1) := dk_3 (dk_at dksX2_copy_0 8 rfl rfl)
theorem dX2_copy_9 : decode cX2_copy 9 = .ok (.istore_n 2, 1) := dk_61 (dk_at dksX2_copy_0 9 rfl rfl)
theorem dX2_copy_10 : decode cX2_copy 10 = .ok (.iload_n 2, 1) := dk_28 (dk_at dksX2_copy_0 10 rfl rfl)
theorem dX2_copy_11 : decode cX2_copy 11 = .ok (.aload_n 0, 1) := dk_42 (dk_at dksX2_copy_0 11 rfl rfl)
theorem dX2_copy_12 : decode cX2_copy 12 = .ok (.getfield 18, 3) := dk_180 0 18 (dk_at dksX2_copy_0 12 rfl rfl)
theorem dX2_copy_15 : decode cX2_copy 15 = .ok (.invokevirtual 29, 3) := dk_182 0 29 (dk_at dksX2_copy_0 15 rfl rfl)
theorem dX2_copy_18 : decode cX2_copy 18 = .ok (.if_icmp .ge 66, 3) := dk_162 0 66 (dk_at dksX2_copy_0 18 rfl rfl)
theorem dX2_copy_21 : decode cX2_copy 21 = .ok (.aload_n 0, 1) := dk_42 (dk_at dksX2_copy_0 21 rfl rfl)
theorem dX2_copy_22 : decode cX2_copy 22 = .ok (.getfield 18, 3) := dk_180 0 18 (dk_at dksX2_copy_1 0 rfl rfl)
theorem dX2_copy_25 : decode cX2_copy 25 = .ok (.iload_n 2, 1) := dk_28 (dk_at dksX2_copy_1 3 rfl rfl)
theorem dX2_copy_26 : decode cX2_copy 26 = .ok (.invokevirtual 33, 3) := dk_182 0 33 (dk_at dksX2_copy_1 4 rfl rfl)
theorem dX2_copy_29 : decode cX2_copy 29 = .ok (.checkcast 37, 3) := dk_192 0 37 (dk_at dksX2_copy_1 7 rfl rfl)
theorem dX2_copy_32 : decode cX2_copy 32 = .ok (.astore_n 3, 1) := dk_78 (dk_at dksX2_copy_1 10 rfl rfl)
theorem dX2_copy_33 : decode cX2_copy 33 = .ok (.new 37, 3) := dk_187 0 37 (dk_at dksX2_copy_1 11 rfl rfl)
theorem dX2_copy_36 : decode cX2_copy 36 = .ok (.dup, 1) := dk_89 (dk_at dksX2_copy_1 14 rfl rfl)
theorem dX2_copy_37 : decode cX2_copy 37 = .ok (.iload_n 2, 1) := dk_28 (dk_at dksX2_copy_1 15 rfl rfl)
theorem dX2_copy_38 : decode cX2_copy 38 = .ok (.aload_n 3, 1) := dk_45 (dk_at dksX2_copy_1 16 rfl rfl)
theorem dX2_copy_39 : decode cX2_copy 39 = .ok (.invokevirtual 39, 3) := dk_182 0 39 (dk_at dksX2_copy_1 17 rfl rfl)
theorem dX2_copy_42 : decode cX2_copy 42 = .ok (.aload_n 3, 1) := dk_45 (dk_at dksX2_copy_1 20 rfl rfl)
theorem dX2_copy_43 : decode cX2_copy 43 = .ok (.invokevirtual 42, 3) := dk_182 0 42 (dk_at dksX2_copy_1 21 rfl rfl)
theorem dX2_copy_46 : decode cX2_copy 46 = .ok (.invokespecial 45, 3) := dk_183 0 45 (dk_at dksX2_copy_2 0 rfl rfl)
theorem dX2_copy_49 : decode cX2_copy 49 = .ok (.astore 4, 2) := dk_58 4 (dk_at dksX2_copy_2 3 rfl rfl)
theorem dX2_copy_51 : decode cX2_copy 51 = .ok (.aload 4, 2) := dk_25 4 (dk_at dksX2_copy_2 5 rfl rfl)
theorem dX2_copy_53 : decode cX2_copy 53 = .ok (.aload_n 3, 1) := dk_45 (dk_at dksX2_copy_2 7 rfl rfl)
theorem dX2_copy_54 : decode cX2_copy 54 = .ok (.getfield 48, 3) := dk_180 0 48 (dk_at dksX2_copy_2 8 rfl rfl)
theorem dX2_copy_57 : decode cX2_copy 57 = .ok (.putfield 48, 3) := dk_181 0 48 (dk_at dksX2_copy_2 11 rfl rfl)
theorem dX2_copy_60 : decode cX2_copy 60 = .ok (.aload 4, 2) := dk_25 4 (dk_at dksX2_copy_2 14 rfl rfl)
theorem dX2_copy_62 : decode cX2_copy 62 = .ok (.aload_n 3, 1) := dk_45 (dk_at dksX2_copy_2 16 rfl rfl)
theorem dX2_copy_63 : decode cX2_copy 63 = .ok (.getfield 51, 3) := dk_180 0 51 (dk_at dksX2_copy_2 17 rfl rfl)
theorem dX2_copy_66 : decode cX2_copy 66 = .ok (.putfield 51, 3) := dk_181 0 51 (dk_at dksX2_copy_2 20 rfl rfl)
theorem dX2_copy_69 : decode cX2_copy 69 = .ok (.aload_n 1, 1) := dk_43 (dk_at dksX2_copy_2 23 rfl rfl)
theorem dX2_copy_70 : decode cX2_copy 70 = .ok (.getfield 18, 3) := dk_180 0 18 (dk_at dksX2_copy_3 0 rfl rfl)
theorem dX2_copy_73 : decode cX2_copy 73 = .ok (.aload 4, 2) := dk_25 4 (dk_at dksX2_copy_3 3 rfl rfl)
theorem dX2_copy_75 : decode cX2_copy 75 = .ok (.invokevirtual 55, 3) := dk_182 0 55 (dk_at dksX2_copy_3 5 rfl rfl)
theorem dX2_copy_78 : decode cX2_copy 78 = .ok (.iinc 2 1, 3) := dk_132 2 1 (dk_at dksX2_copy_3 8 rfl rfl)
theorem dX2_copy_81 : decode cX2_copy 81 = .ok (.goto (-71), 3) := dk_167 255 185 (dk_at dksX2_copy_3 11 rfl rfl)
theorem dX2_copy_84 : decode cX2_copy 84 = .ok (.iconst 0, 1) := dk_3 (dk_at dksX2_copy_3 14 rfl rfl)
theorem dX2_copy_85 : decode cX2_copy 85 = .ok (.istore_n 2, 1) := dk_61 (dk_at dksX2_copy_3 15 rfl rfl)
theorem dX2_copy_86 : decode cX2_copy 86 = .ok (.iload_n 2, 1) := dk_28 (dk_at dksX2_copy_3 16 rfl rfl)
theorem dX2_copy_87 : decode cX2_copy 87 = .ok (.aload_n 0, 1) := dk_42 (dk_at dksX2_copy_3 17 rfl rfl)
theorem dX2_copy_88 : decode cX2_copy 88 = .ok (.getfield 12, 3) := dk_180 0 12 (dk_at dksX2_copy_3 18 rfl rfl)
theorem dX2_copy_91 : decode cX2_copy 91 = .ok (.invokevirtual 29, 3) := dk_182 0 29 (dk_at dksX2_copy_3 21 rfl rfl)
theorem dX2_copy_94 : decode cX2_copy 94 = .ok (.if_icmp .ge 27, 3) := dk_162 0 27 (dk_at dksX2_copy_4 0 rfl rfl)
theorem dX2_copy_97 : decode cX2_copy 97 = .ok (.aload_n 0, 1) := dk_42 (dk_at dksX2_copy_4 3 rfl rfl)
theorem dX2_copy_98 : decode cX2_copy 98 = .ok (.getfield 12, 3) := dk_180 0 12 (dk_at dksX2_copy_4 4 rfl rfl)
theorem dX2_copy_101 : decode cX2_copy 101 = .ok (.iload_n 2, 1) := dk_28 (dk_at dksX2_copy_4 7 rfl rfl)
theorem dX2_copy_102 : decode cX2_copy 102 = .ok (.invokevirtual 33, 3) := dk_182 0 33 (dk_at dksX2_copy_4 8 rfl rfl)
theorem dX2_copy_105 : decode cX2_copy 105 = .ok (.checkcast 59, 3) := dk_192 0 59 (dk_at dksX2_copy_4 11 rfl rfl)
theorem dX2_copy_108 : decode cX2_copy 108 = .ok (.aload_n 1, 1) := dk_43 (dk_at dksX2_copy_4 14 rfl rfl)
theorem dX2_copy_109 : decode cX2_copy 109 = .ok (.getfield 12, 3) := dk_180 0 12 (dk_at dksX2_copy_4 15 rfl rfl)
theorem dX2_copy_112 : decode cX2_copy 112 = .ok (.invokestatic 61, 3) := dk_184 0 61 (dk_at dksX2_copy_4 18 rfl rfl)
theorem dX2_copy_115 : decode cX2_copy 115 = .ok (.iinc 2 1, 3) := dk_132 2 1 (dk_at dksX2_copy_4 21 rfl rfl)
theorem dX2_copy_118 : decode cX2_copy 118 = .ok (.goto (-32), 3) := dk_167 255 224 (dk_at dksX2_copy_5 0 rfl rfl)
theorem dX2_copy_121 : decode cX2_copy 121 = .ok (.iconst 0, 1) := dk_3 (dk_at dksX2_copy_5 3 rfl rfl)
theorem dX2_copy_122 : decode cX2_copy 122 = .ok (.istore_n 2, 1) := dk_61 (dk_at dksX2_copy_5 4 rfl rfl)
theorem dX2_copy_123 : decode cX2_copy 123 = .ok (.iload_n 2, 1) := dk_28 (dk_at dksX2_copy_5 5 rfl rfl)
theorem dX2_copy_124 : decode cX2_copy 124 = .ok (.aload_n 0, 1) := dk_42 (dk_at dksX2_copy_5 6 rfl rfl)
theorem dX2_copy_125 : decode cX2_copy 125 = .ok (.getfield 21, 3) := dk_180 0 21 (dk_at dksX2_copy_5 7 rfl rfl)
theorem dX2_copy_128 : decode cX2_copy 128 = .ok (.invokevirtual 29, 3) := dk_182 0 29 (dk_at dksX2_copy_5 10 rfl rfl)
theorem dX2_copy_131 : decode cX2_copy 131 = .ok (.if_icmp .ge 83, 3) := dk_162 0 83 (dk_at dksX2_copy_5 13 rfl rfl)
theorem dX2_copy_134 : decode cX2_copy 134 = .ok (.aload_n 0, 1) := dk_42 (dk_at dksX2_copy_5 16 rfl rfl)
theorem dX2_copy_135 : decode cX2_copy 135 = .ok (.getfield 21, 3) := dk_180 0 21 (dk_at dksX2_copy_5 17 rfl rfl)
theorem dX2_copy_138 : decode cX2_copy 138 = .ok (.iload_n 2, 1) := dk_28 (dk_at dksX2_copy_5 20 rfl rfl)
theorem dX2_copy_139 : decode cX2_copy 139 = .ok (.invokevirtual 33, 3) := dk_182 0 33 (dk_at dksX2_copy_5 21 rfl rfl)
theorem dX2_copy_142 : decode cX2_copy 142 = .ok (.checkcast 65, 3) := dk_192 0 65 (dk_at dksX2_copy_6 0 rfl rfl)
theorem dX2_copy_145 : decode cX2_copy 145 = .ok (.astore_n 3, 1) := dk_78 (dk_at dksX2_copy_6 3 rfl rfl)
theorem dX2_copy_146 : decode cX2_copy 146 = .ok (.new 65, 3) := dk_187 0 65 (dk_at dksX2_copy_6 4 rfl rfl)
theorem dX2_copy_149 : decode cX2_copy 149 = .ok (.dup, 1) := dk_89 (dk_at dksX2_copy_6 7 rfl rfl)
theorem dX2_copy_150 : decode cX2_copy 150 = .ok (.iload_n 2, 1) := dk_28 (dk_at dksX2_copy_6 8 rfl rfl)
theorem dX2_copy_151 : decode cX2_copy 151 = .ok (.aload_n 3, 1) := dk_45 (dk_at dksX2_copy_6 9 rfl rfl)
theorem dX2_copy_152 : decode cX2_copy 152 = .ok (.getfield 67, 3) := dk_180 0 67 (dk_at dksX2_copy_6 10 rfl rfl)
theorem dX2_copy_155 : decode cX2_copy 155 = .ok (.invokespecial 70, 3) := dk_183 0 70 (dk_at dksX2_copy_6 13 rfl rfl)
theorem dX2_copy_158 : decode cX2_copy 158 = .ok (.astore 4, 2) := dk_58 4 (dk_at dksX2_copy_6 16 rfl rfl)
theorem dX2_copy_160 : decode cX2_copy 160 = .ok (.aload 4, 2) := dk_25 4 (dk_at dksX2_copy_6 18 rfl rfl)
theorem dX2_copy_162 : decode cX2_copy 162 = .ok (.aload_n 3, 1) := dk_45 (dk_at dksX2_copy_6 20 rfl rfl)
theorem dX2_copy_163 : decode cX2_copy 163 = .ok (.getfield 73, 3) := dk_180 0 73 (dk_at dksX2_copy_6 21 rfl rfl)
theorem dX2_copy_166 : decode cX2_copy 166 = .ok (.putfield 73, 3) := dk_181 0 73 (dk_at dksX2_copy_7 0 rfl rfl)
theorem dX2_copy_169 : decode cX2_copy 169 = .ok (.aload_n 1, 1) := dk_43 (dk_at dksX2_copy_7 3 rfl rfl)
theorem dX2_copy_170 : decode cX2_copy 170 = .ok (.getfield 21, 3) := dk_180 0 21 (dk_at dksX2_copy_7 4 rfl rfl)
theorem dX2_copy_173 : decode cX2_copy 173 = .ok (.aload 4, 2) := dk_25 4 (dk_at dksX2_copy_7 7 rfl rfl)
theorem dX2_copy_175 : decode cX2_copy 175 = .ok (.invokevirtual 55, 3) := dk_182 0 55 (dk_at dksX2_copy_7 9 rfl rfl)
theorem dX2_copy_178 : decode cX2_copy 178 = .ok (.aload_n 3, 1) := dk_45 (dk_at dksX2_copy_7 12 rfl rfl)
theorem dX2_copy_179 : decode cX2_copy 179 = .ok (.getfield 76, 3) := dk_180 0 76 (dk_at dksX2_copy_7 13 rfl rfl)
theorem dX2_copy_182 : decode cX2_copy 182 = .ok (.ifnull 26, 3) := dk_198 0 26 (dk_at dksX2_copy_7 16 rfl rfl)
theorem dX2_copy_185 : decode cX2_copy 185 = .ok (.aload_n 1, 1) := dk_43 (dk_at dksX2_copy_7 19 rfl rfl)
theorem dX2_copy_186 : decode cX2_copy 186 = .ok (.aload 4, 2) := dk_25 4 (dk_at dksX2_copy_7 20 rfl rfl)
theorem dX2_copy_188 : decode cX2_copy 188 = .ok (.aload_n 1, 1) := dk_43 (dk_at dksX2_copy_7 22 rfl rfl)
theorem dX2_copy_189 : decode cX2_copy 189 = .ok (.getfield 12, 3) := dk_180 0 12 (dk_at dksX2_copy_8 0 rfl rfl)
theorem dX2_copy_192 : decode cX2_copy 192 = .ok (.aload_n 3, 1) := dk_45 (dk_at dksX2_copy_8 3 rfl rfl)
theorem dX2_copy_193 : decode cX2_copy 193 = .ok (.getfield 76, 3) := dk_180 0 76 (dk_at dksX2_copy_8 4 rfl rfl)
theorem dX2_copy_196 : decode cX2_copy 196 = .ok (.invokevirtual 80, 3) := dk_182 0 80 (dk_at dksX2_copy_8 7 rfl rfl)
theorem dX2_copy_199 : decode cX2_copy 199 = .ok (.invokevirtual 33, 3) := dk_182 0 33 (dk_at dksX2_copy_8 10 rfl rfl)
theorem dX2_copy_202 : decode cX2_copy 202 = .ok (.checkcast 59, 3) := dk_192 0 59 (dk_at dksX2_copy_8 13 rfl rfl)
theorem dX2_copy_205 : decode cX2_copy 205 = .ok (.invokevirtual 83, 3) := dk_182 0 83 (dk_at dksX2_copy_8 16 rfl rfl)
theorem dX2_copy_208 : decode cX2_copy 208 = .ok (.iinc 2 1, 3) := dk_132 2 1 (dk_at dksX2_copy_8 19 rfl rfl)
theorem dX2_copy_211 : decode cX2_copy 211 = .ok (.goto (-88), 3) := dk_167 255 168 (dk_at dksX2_copy_9 0 rfl rfl)
theorem dX2_copy_214 : decode cX2_copy 214 = .ok (.aload_n 1, 1) := dk_43 (dk_at dksX2_copy_9 3 rfl rfl)
theorem dX2_copy_215 : decode cX2_copy 215 = .ok (.aload_n 0, 1) := dk_42 (dk_at dksX2_copy_9 4 rfl rfl)
theorem dX2_copy_216 : decode cX2_copy 216 = .ok (.getfield 24, 3) := dk_180 0 24 (dk_at dksX2_copy_9 5 rfl rfl)
theorem dX2_copy_219 : decode cX2_copy 219 = .ok (.putfield 24, 3) := dk_181 0 24 (dk_at dksX2_copy_9 8 rfl rfl)
theorem dX2_copy_222 : decode cX2_copy 222 = .ok (.aload_n 1, 1) := dk_43 (dk_at dksX2_copy_9 11 rfl rfl)
theorem dX2_copy_223 : decode cX2_copy 223 = .ok (.aload_n 0, 1) := dk_42 (dk_at dksX2_copy_9 12 rfl rfl)
theorem dX2_copy_224 : decode cX2_copy 224 = .ok (.getfield 87, 3) := dk_180 0 87 (dk_at dksX2_copy_9 13 rfl rfl)
theorem dX2_copy_227 : decode cX2_copy 227 = .ok (.putfield 87, 3) := dk_181 0 87 (dk_at dksX2_copy_9 16 rfl rfl)
theorem dX2_copy_230 : decode cX2_copy 230 = .ok (.aload_n 1, 1) := dk_43 (dk_at dksX2_copy_9 19 rfl rfl)
theorem dX2_copy_231 : decode cX2_copy 231 = .ok (.aload_n 0, 1) := dk_42 (dk_at dksX2_copy_9 20 rfl rfl)
theorem dX2_copy_232 : decode cX2_copy 232 = .ok (.getfield 90, 3) := dk_180 0 90 (dk_at dksX2_copy_9 21 rfl rfl)
theorem dX2_copy_235 : decode cX2_copy 235 = .ok (.putfield 90, 3) := dk_181 0 90 (dk_at dksX2_copy_10 0 rfl rfl)
theorem dX2_copy_238 : decode cX2_copy 238 = .ok (.aload_n 1, 1) := dk_43 (dk_at dksX2_copy_10 3 rfl rfl)
theorem dX2_copy_239 : decode cX2_copy 239 = .ok (.aload_n 0, 1) := dk_42 (dk_at dksX2_copy_10 4 rfl rfl)
theorem dX2_copy_240 : decode cX2_copy 240 = .ok (.getfield 93, 3) := dk_180 0 93 (dk_at dksX2_copy_10 5 rfl rfl)
theorem dX2_copy_243 : decode cX2_copy 243 = .ok (.putfield 93, 3) := dk_181 0 93 (dk_at dksX2_copy_10 8 rfl rfl)
theorem dX2_copy_246 : decode cX2_copy 246 = .ok (.aload_n 1, 1) := dk_43 (dk_at dksX2_copy_10 11 rfl rfl)
theorem dX2_copy_247 : decode cX2_copy 247 = .ok (.aload_n 0, 1) := dk_42 (dk_at dksX2_copy_10 12 rfl rfl)
theorem dX2_copy_248 : decode cX2_copy 248 = .ok (.getfield 96, 3) := dk_180 0 96 (dk_at dksX2_copy_10 13 rfl rfl)
theorem dX2_copy_251 : decode cX2_copy 251 = .ok (.putfield 96, 3) := dk_181 0 96 (dk_at dksX2_copy_10 16 rfl rfl)
theorem dX2_copy_254 : decode cX2_copy 254 = .ok (.aload_n 1, 1) := dk_43 (dk_at dksX2_copy_10 19 rfl rfl)
theorem dX2_copy_255 : decode cX2_copy 255 = .ok (.aload_n 0, 1) := dk_42 (dk_at dksX2_copy_10 20 rfl rfl)
theorem dX2_copy_256 : decode cX2_copy 256 = .ok (.getfield 99, 3) := dk_180 0 99 (dk_at dksX2_copy_10 21 rfl rfl)
theorem dX2_copy_259 : decode cX2_copy 259 = .ok (.putfield 99, 3) := dk_181 0 99 (dk_at dksX2_copy_11 0 rfl rfl)
theorem dX2_copy_262 : decode cX2_copy 262 = .ok (.aload_n 1, 1) := dk_43 (dk_at dksX2_copy_11 3 rfl rfl)
theorem dX2_copy_263 : decode cX2_copy 263 = .ok (.aload_n 0, 1) := dk_42 (dk_at dksX2_copy_11 4 rfl rfl)
theorem dX2_copy_264 : decode cX2_copy 264 = .ok (.getfield 102, 3) := dk_180 0 102 (dk_at dksX2_copy_11 5 rfl rfl)
theorem dX2_copy_267 : decode cX2_copy 267 = .ok (.putfield 102, 3) := dk_181 0 102 (dk_at dksX2_copy_11 8 rfl rfl)
theorem dX2_copy_270 : decode cX2_copy 270 = .ok (.aload_n 1, 1) := dk_43 (dk_at dksX2_copy_11 11 rfl rfl)
theorem dX2_copy_271 : decode cX2_copy 271 = .ok (.areturn, 1) := dk_176 (dk_at dksX2_copy_11 12 rfl rfl)
abbrev cX2_join : ByteArray := prog_10_method_3_code
def yX2_join : MethodName := ⟨RX2, "join", "(LBenchBroker$Tenant;LBenchBroker$Bench;)V"⟩
def dkwX2_join_0 : List UInt8 := [43, 44, 181, 0, 76, 44, 43, 181, 0, 105, 177]
abbrev dktX2_join_0 : List UInt8 := dkwX2_join_0 ++ []
theorem dksX2_join_0 : cX2_join.data.toList.drop 0 = dktX2_join_0 := by decide +kernel
theorem dX2_join_0 : decode cX2_join 0 = .ok (.aload_n 1, 1) := dk_43 (dk_at dksX2_join_0 0 rfl rfl)
theorem dX2_join_1 : decode cX2_join 1 = .ok (.aload_n 2, 1) := dk_44 (dk_at dksX2_join_0 1 rfl rfl)
theorem dX2_join_2 : decode cX2_join 2 = .ok (.putfield 76, 3) := dk_181 0 76 (dk_at dksX2_join_0 2 rfl rfl)
theorem dX2_join_5 : decode cX2_join 5 = .ok (.aload_n 2, 1) := dk_44 (dk_at dksX2_join_0 5 rfl rfl)
theorem dX2_join_6 : decode cX2_join 6 = .ok (.aload_n 1, 1) := dk_43 (dk_at dksX2_join_0 6 rfl rfl)
theorem dX2_join_7 : decode cX2_join 7 = .ok (.putfield 105, 3) := dk_181 0 105 (dk_at dksX2_join_0 7 rfl rfl)
theorem dX2_join_10 : decode cX2_join 10 = .ok (.return_, 1) := dk_177 (dk_at dksX2_join_0 10 rfl rfl)
abbrev cX2_passMonths : ByteArray := prog_10_method_27_code
def yX2_passMonths : MethodName := ⟨RX2, "passMonths", "(I)I"⟩
def dkwX2_passMonths_3 : List UInt8 := [184, 0, 226, 96, 61, 132, 4, 1, 167, 255, 199, 132, 3, 1, 167, 255, 175, 28, 172]
abbrev dktX2_passMonths_3 : List UInt8 := dkwX2_passMonths_3 ++ []
def dkwX2_passMonths_2 : List UInt8 := [28, 25, 5, 182, 0, 196, 153, 0, 16, 42, 25, 5, 182, 0, 223, 153, 0, 7, 4, 167, 0, 4, 3]
abbrev dktX2_passMonths_2 : List UInt8 := dkwX2_passMonths_2 ++ dktX2_passMonths_3
def dkwX2_passMonths_1 : List UInt8 := [42, 180, 0, 12, 182, 0, 29, 162, 0, 51, 42, 180, 0, 12, 21, 4, 182, 0, 33, 192, 0, 59, 58, 5]
abbrev dktX2_passMonths_1 : List UInt8 := dkwX2_passMonths_1 ++ dktX2_passMonths_2
def dkwX2_passMonths_0 : List UInt8 := [3, 61, 3, 62, 29, 27, 162, 0, 82, 42, 89, 180, 0, 87, 4, 96, 181, 0, 87, 3, 54, 4, 21, 4]
abbrev dktX2_passMonths_0 : List UInt8 := dkwX2_passMonths_0 ++ dktX2_passMonths_1
theorem dksX2_passMonths_0 : cX2_passMonths.data.toList.drop 0 = dktX2_passMonths_0 := by decide +kernel
theorem dksX2_passMonths_1 : cX2_passMonths.data.toList.drop 24 = dktX2_passMonths_1 := dk_seg dksX2_passMonths_0 24 rfl rfl
theorem dksX2_passMonths_2 : cX2_passMonths.data.toList.drop 48 = dktX2_passMonths_2 := dk_seg dksX2_passMonths_1 24 rfl rfl
theorem dksX2_passMonths_3 : cX2_passMonths.data.toList.drop 71 = dktX2_passMonths_3 := dk_seg dksX2_passMonths_2 23 rfl rfl
theorem dX2_passMonths_0 : decode cX2_passMonths 0 = .ok (.iconst 0, 1) := dk_3 (dk_at dksX2_passMonths_0 0 rfl rfl)
theorem dX2_passMonths_1 : decode cX2_passMonths 1 = .ok (.istore_n 2, 1) := dk_61 (dk_at dksX2_passMonths_0 1 rfl rfl)
theorem dX2_passMonths_2 : decode cX2_passMonths 2 = .ok (.iconst 0, 1) := dk_3 (dk_at dksX2_passMonths_0 2 rfl rfl)
theorem dX2_passMonths_3 : decode cX2_passMonths 3 = .ok (.istore_n 3, 1) := dk_62 (dk_at dksX2_passMonths_0 3 rfl rfl)
theorem dX2_passMonths_4 : decode cX2_passMonths 4 = .ok (.iload_n 3, 1) := dk_29 (dk_at dksX2_passMonths_0 4 rfl rfl)
theorem dX2_passMonths_5 : decode cX2_passMonths 5 = .ok (.iload_n 1, 1) := dk_27 (dk_at dksX2_passMonths_0 5 rfl rfl)
theorem dX2_passMonths_6 : decode cX2_passMonths 6 = .ok (.if_icmp .ge 82, 3) := dk_162 0 82 (dk_at dksX2_passMonths_0 6 rfl rfl)
theorem dX2_passMonths_9 : decode cX2_passMonths 9 = .ok (.aload_n 0, 1) := dk_42 (dk_at dksX2_passMonths_0 9 rfl rfl)
theorem dX2_passMonths_10 : decode cX2_passMonths 10 = .ok (.dup, 1) := dk_89 (dk_at dksX2_passMonths_0 10 rfl rfl)
theorem dX2_passMonths_11 : decode cX2_passMonths 11 = .ok (.getfield 87, 3) := dk_180 0 87 (dk_at dksX2_passMonths_0 11 rfl rfl)
theorem dX2_passMonths_14 : decode cX2_passMonths 14 = .ok (.iconst 1, 1) := dk_4 (dk_at dksX2_passMonths_0 14 rfl rfl)
theorem dX2_passMonths_15 : decode cX2_passMonths 15 = .ok (.iadd, 1) := dk_96 (dk_at dksX2_passMonths_0 15 rfl rfl)
theorem dX2_passMonths_16 : decode cX2_passMonths 16 = .ok (.putfield 87, 3) := dk_181 0 87 (dk_at dksX2_passMonths_0 16 rfl rfl)
theorem dX2_passMonths_19 : decode cX2_passMonths 19 = .ok (.iconst 0, 1) := dk_3 (dk_at dksX2_passMonths_0 19 rfl rfl)
theorem dX2_passMonths_20 : decode cX2_passMonths 20 = .ok (.istore 4, 2) := dk_54 4 (dk_at dksX2_passMonths_0 20 rfl rfl)
theorem dX2_passMonths_22 : decode cX2_passMonths 22 = .ok (.iload 4, 2) := dk_21 4 (dk_at dksX2_passMonths_0 22 rfl rfl)
theorem dX2_passMonths_24 : decode cX2_passMonths 24 = .ok (.aload_n 0, 1) := dk_42 (dk_at dksX2_passMonths_1 0 rfl rfl)
theorem dX2_passMonths_25 : decode cX2_passMonths 25 = .ok (.getfield 12, 3) := dk_180 0 12 (dk_at dksX2_passMonths_1 1 rfl rfl)
theorem dX2_passMonths_28 : decode cX2_passMonths 28 = .ok (.invokevirtual 29, 3) := dk_182 0 29 (dk_at dksX2_passMonths_1 4 rfl rfl)
theorem dX2_passMonths_31 : decode cX2_passMonths 31 = .ok (.if_icmp .ge 51, 3) := dk_162 0 51 (dk_at dksX2_passMonths_1 7 rfl rfl)
theorem dX2_passMonths_34 : decode cX2_passMonths 34 = .ok (.aload_n 0, 1) := dk_42 (dk_at dksX2_passMonths_1 10 rfl rfl)
theorem dX2_passMonths_35 : decode cX2_passMonths 35 = .ok (.getfield 12, 3) := dk_180 0 12 (dk_at dksX2_passMonths_1 11 rfl rfl)
theorem dX2_passMonths_38 : decode cX2_passMonths 38 = .ok (.iload 4, 2) := dk_21 4 (dk_at dksX2_passMonths_1 14 rfl rfl)
theorem dX2_passMonths_40 : decode cX2_passMonths 40 = .ok (.invokevirtual 33, 3) := dk_182 0 33 (dk_at dksX2_passMonths_1 16 rfl rfl)
theorem dX2_passMonths_43 : decode cX2_passMonths 43 = .ok (.checkcast 59, 3) := dk_192 0 59 (dk_at dksX2_passMonths_1 19 rfl rfl)
theorem dX2_passMonths_46 : decode cX2_passMonths 46 = .ok (.astore 5, 2) := dk_58 5 (dk_at dksX2_passMonths_1 22 rfl rfl)
theorem dX2_passMonths_48 : decode cX2_passMonths 48 = .ok (.iload_n 2, 1) := dk_28 (dk_at dksX2_passMonths_2 0 rfl rfl)
theorem dX2_passMonths_49 : decode cX2_passMonths 49 = .ok (.aload 5, 2) := dk_25 5 (dk_at dksX2_passMonths_2 1 rfl rfl)
theorem dX2_passMonths_51 : decode cX2_passMonths 51 = .ok (.invokevirtual 196, 3) := dk_182 0 196 (dk_at dksX2_passMonths_2 3 rfl rfl)
theorem dX2_passMonths_54 : decode cX2_passMonths 54 = .ok (.ifCond .eq 16, 3) := dk_153 0 16 (dk_at dksX2_passMonths_2 6 rfl rfl)
theorem dX2_passMonths_57 : decode cX2_passMonths 57 = .ok (.aload_n 0, 1) := dk_42 (dk_at dksX2_passMonths_2 9 rfl rfl)
theorem dX2_passMonths_58 : decode cX2_passMonths 58 = .ok (.aload 5, 2) := dk_25 5 (dk_at dksX2_passMonths_2 10 rfl rfl)
theorem dX2_passMonths_60 : decode cX2_passMonths 60 = .ok (.invokevirtual 223, 3) := dk_182 0 223 (dk_at dksX2_passMonths_2 12 rfl rfl)
theorem dX2_passMonths_63 : decode cX2_passMonths 63 = .ok (.ifCond .eq 7, 3) := dk_153 0 7 (dk_at dksX2_passMonths_2 15 rfl rfl)
theorem dX2_passMonths_66 : decode cX2_passMonths 66 = .ok (.iconst 1, 1) := dk_4 (dk_at dksX2_passMonths_2 18 rfl rfl)
theorem dX2_passMonths_67 : decode cX2_passMonths 67 = .ok (.goto 4, 3) := dk_167 0 4 (dk_at dksX2_passMonths_2 19 rfl rfl)
theorem dX2_passMonths_70 : decode cX2_passMonths 70 = .ok (.iconst 0, 1) := dk_3 (dk_at dksX2_passMonths_2 22 rfl rfl)
theorem dX2_passMonths_71 : decode cX2_passMonths 71 = .ok (.invokestatic 226, 3) := dk_184 0 226 (dk_at dksX2_passMonths_3 0 rfl rfl)
theorem dX2_passMonths_74 : decode cX2_passMonths 74 = .ok (.iadd, 1) := dk_96 (dk_at dksX2_passMonths_3 3 rfl rfl)
theorem dX2_passMonths_75 : decode cX2_passMonths 75 = .ok (.istore_n 2, 1) := dk_61 (dk_at dksX2_passMonths_3 4 rfl rfl)
theorem dX2_passMonths_76 : decode cX2_passMonths 76 = .ok (.iinc 4 1, 3) := dk_132 4 1 (dk_at dksX2_passMonths_3 5 rfl rfl)
theorem dX2_passMonths_79 : decode cX2_passMonths 79 = .ok (.goto (-57), 3) := dk_167 255 199 (dk_at dksX2_passMonths_3 8 rfl rfl)
theorem dX2_passMonths_82 : decode cX2_passMonths 82 = .ok (.iinc 3 1, 3) := dk_132 3 1 (dk_at dksX2_passMonths_3 11 rfl rfl)
theorem dX2_passMonths_85 : decode cX2_passMonths 85 = .ok (.goto (-81), 3) := dk_167 255 175 (dk_at dksX2_passMonths_3 14 rfl rfl)
theorem dX2_passMonths_88 : decode cX2_passMonths 88 = .ok (.iload_n 2, 1) := dk_28 (dk_at dksX2_passMonths_3 17 rfl rfl)
theorem dX2_passMonths_89 : decode cX2_passMonths 89 = .ok (.ireturn, 1) := dk_172 (dk_at dksX2_passMonths_3 18 rfl rfl)
abbrev cX2_bill : ByteArray := prog_10_method_28_code
def yX2_bill : MethodName := ⟨RX2, "bill", "(LBenchBroker$Bench;)Z"⟩
def dkwX2_bill_6 : List UInt8 := [180, 0, 102, 4, 96, 181, 0, 102, 4, 172]
abbrev dktX2_bill_6 : List UInt8 := dkwX2_bill_6 ++ []
def dkwX2_bill_5 : List UInt8 := [180, 0, 213, 158, 0, 5, 3, 172, 44, 89, 180, 0, 67, 43, 182, 0, 220, 96, 181, 0, 67, 42, 89]
abbrev dktX2_bill_5 : List UInt8 := dkwX2_bill_5 ++ dktX2_bill_6
def dkwX2_bill_4 : List UInt8 := [181, 0, 67, 42, 89, 180, 0, 90, 29, 96, 181, 0, 90, 43, 89, 180, 0, 213, 4, 100, 181, 0, 213, 43]
abbrev dktX2_bill_4 : List UInt8 := dkwX2_bill_4 ++ dktX2_bill_5
def dkwX2_bill_3 : List UInt8 := [181, 0, 90, 42, 89, 180, 0, 96, 4, 96, 181, 0, 96, 4, 172, 44, 89, 180, 0, 67, 29, 100]
abbrev dktX2_bill_3 : List UInt8 := dkwX2_bill_3 ++ dktX2_bill_4
def dkwX2_bill_2 : List UInt8 := [29, 162, 0, 38, 44, 89, 180, 0, 73, 4, 96, 181, 0, 73, 42, 89, 180, 0, 90, 43, 182, 0, 220, 96]
abbrev dktX2_bill_2 : List UInt8 := dkwX2_bill_2 ++ dktX2_bill_3
def dkwX2_bill_1 : List UInt8 := [43, 182, 0, 220, 96, 181, 0, 67, 42, 89, 180, 0, 99, 4, 96, 181, 0, 99, 4, 172, 44, 180, 0, 67]
abbrev dktX2_bill_1 : List UInt8 := dkwX2_bill_1 ++ dktX2_bill_2
def dkwX2_bill_0 : List UInt8 := [43, 180, 0, 105, 77, 42, 43, 182, 0, 203, 62, 42, 43, 182, 0, 199, 154, 0, 28, 44, 89, 180, 0, 67]
abbrev dktX2_bill_0 : List UInt8 := dkwX2_bill_0 ++ dktX2_bill_1
theorem dksX2_bill_0 : cX2_bill.data.toList.drop 0 = dktX2_bill_0 := by decide +kernel
theorem dksX2_bill_1 : cX2_bill.data.toList.drop 24 = dktX2_bill_1 := dk_seg dksX2_bill_0 24 rfl rfl
theorem dksX2_bill_2 : cX2_bill.data.toList.drop 48 = dktX2_bill_2 := dk_seg dksX2_bill_1 24 rfl rfl
theorem dksX2_bill_3 : cX2_bill.data.toList.drop 72 = dktX2_bill_3 := dk_seg dksX2_bill_2 24 rfl rfl
theorem dksX2_bill_4 : cX2_bill.data.toList.drop 94 = dktX2_bill_4 := dk_seg dksX2_bill_3 22 rfl rfl
theorem dksX2_bill_5 : cX2_bill.data.toList.drop 118 = dktX2_bill_5 := dk_seg dksX2_bill_4 24 rfl rfl
theorem dksX2_bill_6 : cX2_bill.data.toList.drop 141 = dktX2_bill_6 := dk_seg dksX2_bill_5 23 rfl rfl
theorem dX2_bill_0 : decode cX2_bill 0 = .ok (.aload_n 1, 1) := dk_43 (dk_at dksX2_bill_0 0 rfl rfl)
theorem dX2_bill_1 : decode cX2_bill 1 = .ok (.getfield 105, 3) := dk_180 0 105 (dk_at dksX2_bill_0 1 rfl rfl)
theorem dX2_bill_4 : decode cX2_bill 4 = .ok (.astore_n 2, 1) := dk_77 (dk_at dksX2_bill_0 4 rfl rfl)
theorem dX2_bill_5 : decode cX2_bill 5 = .ok (.aload_n 0, 1) := dk_42 (dk_at dksX2_bill_0 5 rfl rfl)
theorem dX2_bill_6 : decode cX2_bill 6 = .ok (.aload_n 1, 1) := dk_43 (dk_at dksX2_bill_0 6 rfl rfl)
theorem dX2_bill_7 : decode cX2_bill 7 = .ok (.invokevirtual 203, 3) := dk_182 0 203 (dk_at dksX2_bill_0 7 rfl rfl)
theorem dX2_bill_10 : decode cX2_bill 10 = .ok (.istore_n 3, 1) := dk_62 (dk_at dksX2_bill_0 10 rfl rfl)
theorem dX2_bill_11 : decode cX2_bill 11 = .ok (.aload_n 0, 1) := dk_42 (dk_at dksX2_bill_0 11 rfl rfl)
theorem dX2_bill_12 : decode cX2_bill 12 = .ok (.aload_n 1, 1) := dk_43 (dk_at dksX2_bill_0 12 rfl rfl)
theorem dX2_bill_13 : decode cX2_bill 13 = .ok (.invokevirtual 199, 3) := dk_182 0 199 (dk_at dksX2_bill_0 13 rfl rfl)
theorem dX2_bill_16 : decode cX2_bill 16 = .ok (.ifCond .ne 28, 3) := dk_154 0 28 (dk_at dksX2_bill_0 16 rfl rfl)
theorem dX2_bill_19 : decode cX2_bill 19 = .ok (.aload_n 2, 1) := dk_44 (dk_at dksX2_bill_0 19 rfl rfl)
theorem dX2_bill_20 : decode cX2_bill 20 = .ok (.dup, 1) := dk_89 (dk_at dksX2_bill_0 20 rfl rfl)
theorem dX2_bill_21 : decode cX2_bill 21 = .ok (.getfield 67, 3) := dk_180 0 67 (dk_at dksX2_bill_0 21 rfl rfl)
theorem dX2_bill_24 : decode cX2_bill 24 = .ok (.aload_n 1, 1) := dk_43 (dk_at dksX2_bill_1 0 rfl rfl)
theorem dX2_bill_25 : decode cX2_bill 25 = .ok (.invokevirtual 220, 3) := dk_182 0 220 (dk_at dksX2_bill_1 1 rfl rfl)
theorem dX2_bill_28 : decode cX2_bill 28 = .ok (.iadd, 1) := dk_96 (dk_at dksX2_bill_1 4 rfl rfl)
theorem dX2_bill_29 : decode cX2_bill 29 = .ok (.putfield 67, 3) := dk_181 0 67 (dk_at dksX2_bill_1 5 rfl rfl)
theorem dX2_bill_32 : decode cX2_bill 32 = .ok (.aload_n 0, 1) := dk_42 (dk_at dksX2_bill_1 8 rfl rfl)
theorem dX2_bill_33 : decode cX2_bill 33 = .ok (.dup, 1) := dk_89 (dk_at dksX2_bill_1 9 rfl rfl)
theorem dX2_bill_34 : decode cX2_bill 34 = .ok (.getfield 99, 3) := dk_180 0 99 (dk_at dksX2_bill_1 10 rfl rfl)
theorem dX2_bill_37 : decode cX2_bill 37 = .ok (.iconst 1, 1) := dk_4 (dk_at dksX2_bill_1 13 rfl rfl)
theorem dX2_bill_38 : decode cX2_bill 38 = .ok (.iadd, 1) := dk_96 (dk_at dksX2_bill_1 14 rfl rfl)
theorem dX2_bill_39 : decode cX2_bill 39 = .ok (.putfield 99, 3) := dk_181 0 99 (dk_at dksX2_bill_1 15 rfl rfl)
theorem dX2_bill_42 : decode cX2_bill 42 = .ok (.iconst 1, 1) := dk_4 (dk_at dksX2_bill_1 18 rfl rfl)
theorem dX2_bill_43 : decode cX2_bill 43 = .ok (.ireturn, 1) := dk_172 (dk_at dksX2_bill_1 19 rfl rfl)
theorem dX2_bill_44 : decode cX2_bill 44 = .ok (.aload_n 2, 1) := dk_44 (dk_at dksX2_bill_1 20 rfl rfl)
theorem dX2_bill_45 : decode cX2_bill 45 = .ok (.getfield 67, 3) := dk_180 0 67 (dk_at dksX2_bill_1 21 rfl rfl)
theorem dX2_bill_48 : decode cX2_bill 48 = .ok (.iload_n 3, 1) := dk_29 (dk_at dksX2_bill_2 0 rfl rfl)
theorem dX2_bill_49 : decode cX2_bill 49 = .ok (.if_icmp .ge 38, 3) := dk_162 0 38 (dk_at dksX2_bill_2 1 rfl rfl)
theorem dX2_bill_52 : decode cX2_bill 52 = .ok (.aload_n 2, 1) := dk_44 (dk_at dksX2_bill_2 4 rfl rfl)
theorem dX2_bill_53 : decode cX2_bill 53 = .ok (.dup, 1) := dk_89 (dk_at dksX2_bill_2 5 rfl rfl)
theorem dX2_bill_54 : decode cX2_bill 54 = .ok (.getfield 73, 3) := dk_180 0 73 (dk_at dksX2_bill_2 6 rfl rfl)
theorem dX2_bill_57 : decode cX2_bill 57 = .ok (.iconst 1, 1) := dk_4 (dk_at dksX2_bill_2 9 rfl rfl)
theorem dX2_bill_58 : decode cX2_bill 58 = .ok (.iadd, 1) := dk_96 (dk_at dksX2_bill_2 10 rfl rfl)
theorem dX2_bill_59 : decode cX2_bill 59 = .ok (.putfield 73, 3) := dk_181 0 73 (dk_at dksX2_bill_2 11 rfl rfl)
theorem dX2_bill_62 : decode cX2_bill 62 = .ok (.aload_n 0, 1) := dk_42 (dk_at dksX2_bill_2 14 rfl rfl)
theorem dX2_bill_63 : decode cX2_bill 63 = .ok (.dup, 1) := dk_89 (dk_at dksX2_bill_2 15 rfl rfl)
theorem dX2_bill_64 : decode cX2_bill 64 = .ok (.getfield 90, 3) := dk_180 0 90 (dk_at dksX2_bill_2 16 rfl rfl)
theorem dX2_bill_67 : decode cX2_bill 67 = .ok (.aload_n 1, 1) := dk_43 (dk_at dksX2_bill_2 19 rfl rfl)
theorem dX2_bill_68 : decode cX2_bill 68 = .ok (.invokevirtual 220, 3) := dk_182 0 220 (dk_at dksX2_bill_2 20 rfl rfl)
theorem dX2_bill_71 : decode cX2_bill 71 = .ok (.iadd, 1) := dk_96 (dk_at dksX2_bill_2 23 rfl rfl)
theorem dX2_bill_72 : decode cX2_bill 72 = .ok (.putfield 90, 3) := dk_181 0 90 (dk_at dksX2_bill_3 0 rfl rfl)
theorem dX2_bill_75 : decode cX2_bill 75 = .ok (.aload_n 0, 1) := dk_42 (dk_at dksX2_bill_3 3 rfl rfl)
theorem dX2_bill_76 : decode cX2_bill 76 = .ok (.dup, 1) := dk_89 (dk_at dksX2_bill_3 4 rfl rfl)
theorem dX2_bill_77 : decode cX2_bill 77 = .ok (.getfield 96, 3) := dk_180 0 96 (dk_at dksX2_bill_3 5 rfl rfl)
theorem dX2_bill_80 : decode cX2_bill 80 = .ok (.iconst 1, 1) := dk_4 (dk_at dksX2_bill_3 8 rfl rfl)
theorem dX2_bill_81 : decode cX2_bill 81 = .ok (.iadd, 1) := dk_96 (dk_at dksX2_bill_3 9 rfl rfl)
theorem dX2_bill_82 : decode cX2_bill 82 = .ok (.putfield 96, 3) := dk_181 0 96 (dk_at dksX2_bill_3 10 rfl rfl)
theorem dX2_bill_85 : decode cX2_bill 85 = .ok (.iconst 1, 1) := dk_4 (dk_at dksX2_bill_3 13 rfl rfl)
theorem dX2_bill_86 : decode cX2_bill 86 = .ok (.ireturn, 1) := dk_172 (dk_at dksX2_bill_3 14 rfl rfl)
theorem dX2_bill_87 : decode cX2_bill 87 = .ok (.aload_n 2, 1) := dk_44 (dk_at dksX2_bill_3 15 rfl rfl)
theorem dX2_bill_88 : decode cX2_bill 88 = .ok (.dup, 1) := dk_89 (dk_at dksX2_bill_3 16 rfl rfl)
theorem dX2_bill_89 : decode cX2_bill 89 = .ok (.getfield 67, 3) := dk_180 0 67 (dk_at dksX2_bill_3 17 rfl rfl)
theorem dX2_bill_92 : decode cX2_bill 92 = .ok (.iload_n 3, 1) := dk_29 (dk_at dksX2_bill_3 20 rfl rfl)
theorem dX2_bill_93 : decode cX2_bill 93 = .ok (.isub, 1) := dk_100 (dk_at dksX2_bill_3 21 rfl rfl)
theorem dX2_bill_94 : decode cX2_bill 94 = .ok (.putfield 67, 3) := dk_181 0 67 (dk_at dksX2_bill_4 0 rfl rfl)
theorem dX2_bill_97 : decode cX2_bill 97 = .ok (.aload_n 0, 1) := dk_42 (dk_at dksX2_bill_4 3 rfl rfl)
theorem dX2_bill_98 : decode cX2_bill 98 = .ok (.dup, 1) := dk_89 (dk_at dksX2_bill_4 4 rfl rfl)
theorem dX2_bill_99 : decode cX2_bill 99 = .ok (.getfield 90, 3) := dk_180 0 90 (dk_at dksX2_bill_4 5 rfl rfl)
theorem dX2_bill_102 : decode cX2_bill 102 = .ok (.iload_n 3, 1) := dk_29 (dk_at dksX2_bill_4 8 rfl rfl)
theorem dX2_bill_103 : decode cX2_bill 103 = .ok (.iadd, 1) := dk_96 (dk_at dksX2_bill_4 9 rfl rfl)
theorem dX2_bill_104 : decode cX2_bill 104 = .ok (.putfield 90, 3) := dk_181 0 90 (dk_at dksX2_bill_4 10 rfl rfl)
theorem dX2_bill_107 : decode cX2_bill 107 = .ok (.aload_n 1, 1) := dk_43 (dk_at dksX2_bill_4 13 rfl rfl)
theorem dX2_bill_108 : decode cX2_bill 108 = .ok (.dup, 1) := dk_89 (dk_at dksX2_bill_4 14 rfl rfl)
theorem dX2_bill_109 : decode cX2_bill 109 = .ok (.getfield 213, 3) := dk_180 0 213 (dk_at dksX2_bill_4 15 rfl rfl)
theorem dX2_bill_112 : decode cX2_bill 112 = .ok (.iconst 1, 1) := dk_4 (dk_at dksX2_bill_4 18 rfl rfl)
theorem dX2_bill_113 : decode cX2_bill 113 = .ok (.isub, 1) := dk_100 (dk_at dksX2_bill_4 19 rfl rfl)
theorem dX2_bill_114 : decode cX2_bill 114 = .ok (.putfield 213, 3) := dk_181 0 213 (dk_at dksX2_bill_4 20 rfl rfl)
theorem dX2_bill_117 : decode cX2_bill 117 = .ok (.aload_n 1, 1) := dk_43 (dk_at dksX2_bill_4 23 rfl rfl)
theorem dX2_bill_118 : decode cX2_bill 118 = .ok (.getfield 213, 3) := dk_180 0 213 (dk_at dksX2_bill_5 0 rfl rfl)
theorem dX2_bill_121 : decode cX2_bill 121 = .ok (.ifCond .le 5, 3) := dk_158 0 5 (dk_at dksX2_bill_5 3 rfl rfl)
theorem dX2_bill_124 : decode cX2_bill 124 = .ok (.iconst 0, 1) := dk_3 (dk_at dksX2_bill_5 6 rfl rfl)
theorem dX2_bill_125 : decode cX2_bill 125 = .ok (.ireturn, 1) := dk_172 (dk_at dksX2_bill_5 7 rfl rfl)
theorem dX2_bill_126 : decode cX2_bill 126 = .ok (.aload_n 2, 1) := dk_44 (dk_at dksX2_bill_5 8 rfl rfl)
theorem dX2_bill_127 : decode cX2_bill 127 = .ok (.dup, 1) := dk_89 (dk_at dksX2_bill_5 9 rfl rfl)
theorem dX2_bill_128 : decode cX2_bill 128 = .ok (.getfield 67, 3) := dk_180 0 67 (dk_at dksX2_bill_5 10 rfl rfl)
theorem dX2_bill_131 : decode cX2_bill 131 = .ok (.aload_n 1, 1) := dk_43 (dk_at dksX2_bill_5 13 rfl rfl)
theorem dX2_bill_132 : decode cX2_bill 132 = .ok (.invokevirtual 220, 3) := dk_182 0 220 (dk_at dksX2_bill_5 14 rfl rfl)
theorem dX2_bill_135 : decode cX2_bill 135 = .ok (.iadd, 1) := dk_96 (dk_at dksX2_bill_5 17 rfl rfl)
theorem dX2_bill_136 : decode cX2_bill 136 = .ok (.putfield 67, 3) := dk_181 0 67 (dk_at dksX2_bill_5 18 rfl rfl)
theorem dX2_bill_139 : decode cX2_bill 139 = .ok (.aload_n 0, 1) := dk_42 (dk_at dksX2_bill_5 21 rfl rfl)
theorem dX2_bill_140 : decode cX2_bill 140 = .ok (.dup, 1) := dk_89 (dk_at dksX2_bill_5 22 rfl rfl)
theorem dX2_bill_141 : decode cX2_bill 141 = .ok (.getfield 102, 3) := dk_180 0 102 (dk_at dksX2_bill_6 0 rfl rfl)
theorem dX2_bill_144 : decode cX2_bill 144 = .ok (.iconst 1, 1) := dk_4 (dk_at dksX2_bill_6 3 rfl rfl)
theorem dX2_bill_145 : decode cX2_bill 145 = .ok (.iadd, 1) := dk_96 (dk_at dksX2_bill_6 4 rfl rfl)
theorem dX2_bill_146 : decode cX2_bill 146 = .ok (.putfield 102, 3) := dk_181 0 102 (dk_at dksX2_bill_6 5 rfl rfl)
theorem dX2_bill_149 : decode cX2_bill 149 = .ok (.iconst 1, 1) := dk_4 (dk_at dksX2_bill_6 8 rfl rfl)
theorem dX2_bill_150 : decode cX2_bill 150 = .ok (.ireturn, 1) := dk_172 (dk_at dksX2_bill_6 9 rfl rfl)
abbrev cX2_rentOf : ByteArray := prog_10_method_10_code
def yX2_rentOf : MethodName := ⟨RX2, "rentOf", "(LBenchBroker$Bench;)I"⟩
def dkwX2_rentOf_0 : List UInt8 := [4, 43, 180, 0, 164, 42, 43, 182, 0, 167, 100, 184, 0, 171, 172]
abbrev dktX2_rentOf_0 : List UInt8 := dkwX2_rentOf_0 ++ []
theorem dksX2_rentOf_0 : cX2_rentOf.data.toList.drop 0 = dktX2_rentOf_0 := by decide +kernel
theorem dX2_rentOf_0 : decode cX2_rentOf 0 = .ok (.iconst 1, 1) := dk_4 (dk_at dksX2_rentOf_0 0 rfl rfl)
theorem dX2_rentOf_1 : decode cX2_rentOf 1 = .ok (.aload_n 1, 1) := dk_43 (dk_at dksX2_rentOf_0 1 rfl rfl)
theorem dX2_rentOf_2 : decode cX2_rentOf 2 = .ok (.getfield 164, 3) := dk_180 0 164 (dk_at dksX2_rentOf_0 2 rfl rfl)
theorem dX2_rentOf_5 : decode cX2_rentOf 5 = .ok (.aload_n 0, 1) := dk_42 (dk_at dksX2_rentOf_0 5 rfl rfl)
theorem dX2_rentOf_6 : decode cX2_rentOf 6 = .ok (.aload_n 1, 1) := dk_43 (dk_at dksX2_rentOf_0 6 rfl rfl)
theorem dX2_rentOf_7 : decode cX2_rentOf 7 = .ok (.invokevirtual 167, 3) := dk_182 0 167 (dk_at dksX2_rentOf_0 7 rfl rfl)
theorem dX2_rentOf_10 : decode cX2_rentOf 10 = .ok (.isub, 1) := dk_100 (dk_at dksX2_rentOf_0 10 rfl rfl)
theorem dX2_rentOf_11 : decode cX2_rentOf 11 = .ok (.invokestatic 171, 3) := dk_184 0 171 (dk_at dksX2_rentOf_0 11 rfl rfl)
theorem dX2_rentOf_14 : decode cX2_rentOf 14 = .ok (.ireturn, 1) := dk_172 (dk_at dksX2_rentOf_0 14 rfl rfl)
abbrev cX2_incomeByLeases : ByteArray := prog_10_method_32_code
def yX2_incomeByLeases : MethodName := ⟨RX2, "incomeByLeases", "(I)I"⟩
def dkwX2_incomeByLeases_0 : List UInt8 := [42, 180, 0, 12, 42, 27, 186, 0, 244, 0, 0, 182, 0, 113, 172]
abbrev dktX2_incomeByLeases_0 : List UInt8 := dkwX2_incomeByLeases_0 ++ []
theorem dksX2_incomeByLeases_0 : cX2_incomeByLeases.data.toList.drop 0 = dktX2_incomeByLeases_0 := by decide +kernel
theorem dX2_incomeByLeases_0 : decode cX2_incomeByLeases 0 = .ok (.aload_n 0, 1) := dk_42 (dk_at dksX2_incomeByLeases_0 0 rfl rfl)
theorem dX2_incomeByLeases_1 : decode cX2_incomeByLeases 1 = .ok (.getfield 12, 3) := dk_180 0 12 (dk_at dksX2_incomeByLeases_0 1 rfl rfl)
theorem dX2_incomeByLeases_4 : decode cX2_incomeByLeases 4 = .ok (.aload_n 0, 1) := dk_42 (dk_at dksX2_incomeByLeases_0 4 rfl rfl)
theorem dX2_incomeByLeases_5 : decode cX2_incomeByLeases 5 = .ok (.iload_n 1, 1) := dk_27 (dk_at dksX2_incomeByLeases_0 5 rfl rfl)
theorem dX2_incomeByLeases_6 : decode cX2_incomeByLeases 6 = .ok (.invokedynamic 244, 5) := by decide +kernel
theorem dX2_incomeByLeases_11 : decode cX2_incomeByLeases 11 = .ok (.invokevirtual 113, 3) := dk_182 0 113 (dk_at dksX2_incomeByLeases_0 11 rfl rfl)
theorem dX2_incomeByLeases_14 : decode cX2_incomeByLeases 14 = .ok (.ireturn, 1) := dk_172 (dk_at dksX2_incomeByLeases_0 14 rfl rfl)
abbrev cX2_lambda_incomeByLeases_1 : ByteArray := prog_10_method_51_code
def yX2_lambda_incomeByLeases_1 : MethodName := ⟨RX2, "lambda$incomeByLeases$1", "(ILBenchBroker$Bench;)I"⟩
def dkwX2_lambda_incomeByLeases_1_0 : List UInt8 := [42, 44, 27, 182, 1, 30, 172]
abbrev dktX2_lambda_incomeByLeases_1_0 : List UInt8 := dkwX2_lambda_incomeByLeases_1_0 ++ []
theorem dksX2_lambda_incomeByLeases_1_0 : cX2_lambda_incomeByLeases_1.data.toList.drop 0 = dktX2_lambda_incomeByLeases_1_0 := by decide +kernel
theorem dX2_lambda_incomeByLeases_1_0 : decode cX2_lambda_incomeByLeases_1 0 = .ok (.aload_n 0, 1) := dk_42 (dk_at dksX2_lambda_incomeByLeases_1_0 0 rfl rfl)
theorem dX2_lambda_incomeByLeases_1_1 : decode cX2_lambda_incomeByLeases_1 1 = .ok (.aload_n 2, 1) := dk_44 (dk_at dksX2_lambda_incomeByLeases_1_0 1 rfl rfl)
theorem dX2_lambda_incomeByLeases_1_2 : decode cX2_lambda_incomeByLeases_1 2 = .ok (.iload_n 1, 1) := dk_27 (dk_at dksX2_lambda_incomeByLeases_1_0 2 rfl rfl)
theorem dX2_lambda_incomeByLeases_1_3 : decode cX2_lambda_incomeByLeases_1 3 = .ok (.invokevirtual 286, 3) := dk_182 1 30 (dk_at dksX2_lambda_incomeByLeases_1_0 3 rfl rfl)
theorem dX2_lambda_incomeByLeases_1_6 : decode cX2_lambda_incomeByLeases_1 6 = .ok (.ireturn, 1) := dk_172 (dk_at dksX2_lambda_incomeByLeases_1_0 6 rfl rfl)
abbrev cX2_incomeOf : ByteArray := prog_10_method_31_code
def yX2_incomeOf : MethodName := ⟨RX2, "incomeOf", "(LBenchBroker$Bench;I)I"⟩
def dkwX2_incomeOf_2 : List UInt8 := [21, 4, 29, 162, 0, 10, 43, 180, 0, 210, 167, 0, 4, 3, 96, 172]
abbrev dktX2_incomeOf_2 : List UInt8 := dkwX2_incomeOf_2 ++ []
def dkwX2_incomeOf_1 : List UInt8 := [184, 0, 238, 62, 29, 42, 43, 182, 0, 241, 184, 0, 238, 54, 4, 21, 4, 42, 43, 182, 0, 203, 104]
abbrev dktX2_incomeOf_1 : List UInt8 := dkwX2_incomeOf_1 ++ dktX2_incomeOf_2
def dkwX2_incomeOf_0 : List UInt8 := [43, 182, 0, 196, 153, 0, 11, 42, 43, 182, 0, 199, 154, 0, 5, 3, 172, 28, 43, 180, 0, 213]
abbrev dktX2_incomeOf_0 : List UInt8 := dkwX2_incomeOf_0 ++ dktX2_incomeOf_1
theorem dksX2_incomeOf_0 : cX2_incomeOf.data.toList.drop 0 = dktX2_incomeOf_0 := by decide +kernel
theorem dksX2_incomeOf_1 : cX2_incomeOf.data.toList.drop 22 = dktX2_incomeOf_1 := dk_seg dksX2_incomeOf_0 22 rfl rfl
theorem dksX2_incomeOf_2 : cX2_incomeOf.data.toList.drop 45 = dktX2_incomeOf_2 := dk_seg dksX2_incomeOf_1 23 rfl rfl
theorem dX2_incomeOf_0 : decode cX2_incomeOf 0 = .ok (.aload_n 1, 1) := dk_43 (dk_at dksX2_incomeOf_0 0 rfl rfl)
theorem dX2_incomeOf_1 : decode cX2_incomeOf 1 = .ok (.invokevirtual 196, 3) := dk_182 0 196 (dk_at dksX2_incomeOf_0 1 rfl rfl)
theorem dX2_incomeOf_4 : decode cX2_incomeOf 4 = .ok (.ifCond .eq 11, 3) := dk_153 0 11 (dk_at dksX2_incomeOf_0 4 rfl rfl)
theorem dX2_incomeOf_7 : decode cX2_incomeOf 7 = .ok (.aload_n 0, 1) := dk_42 (dk_at dksX2_incomeOf_0 7 rfl rfl)
theorem dX2_incomeOf_8 : decode cX2_incomeOf 8 = .ok (.aload_n 1, 1) := dk_43 (dk_at dksX2_incomeOf_0 8 rfl rfl)
theorem dX2_incomeOf_9 : decode cX2_incomeOf 9 = .ok (.invokevirtual 199, 3) := dk_182 0 199 (dk_at dksX2_incomeOf_0 9 rfl rfl)
theorem dX2_incomeOf_12 : decode cX2_incomeOf 12 = .ok (.ifCond .ne 5, 3) := dk_154 0 5 (dk_at dksX2_incomeOf_0 12 rfl rfl)
theorem dX2_incomeOf_15 : decode cX2_incomeOf 15 = .ok (.iconst 0, 1) := dk_3 (dk_at dksX2_incomeOf_0 15 rfl rfl)
theorem dX2_incomeOf_16 : decode cX2_incomeOf 16 = .ok (.ireturn, 1) := dk_172 (dk_at dksX2_incomeOf_0 16 rfl rfl)
theorem dX2_incomeOf_17 : decode cX2_incomeOf 17 = .ok (.iload_n 2, 1) := dk_28 (dk_at dksX2_incomeOf_0 17 rfl rfl)
theorem dX2_incomeOf_18 : decode cX2_incomeOf 18 = .ok (.aload_n 1, 1) := dk_43 (dk_at dksX2_incomeOf_0 18 rfl rfl)
theorem dX2_incomeOf_19 : decode cX2_incomeOf 19 = .ok (.getfield 213, 3) := dk_180 0 213 (dk_at dksX2_incomeOf_0 19 rfl rfl)
theorem dX2_incomeOf_22 : decode cX2_incomeOf 22 = .ok (.invokestatic 238, 3) := dk_184 0 238 (dk_at dksX2_incomeOf_1 0 rfl rfl)
theorem dX2_incomeOf_25 : decode cX2_incomeOf 25 = .ok (.istore_n 3, 1) := dk_62 (dk_at dksX2_incomeOf_1 3 rfl rfl)
theorem dX2_incomeOf_26 : decode cX2_incomeOf 26 = .ok (.iload_n 3, 1) := dk_29 (dk_at dksX2_incomeOf_1 4 rfl rfl)
theorem dX2_incomeOf_27 : decode cX2_incomeOf 27 = .ok (.aload_n 0, 1) := dk_42 (dk_at dksX2_incomeOf_1 5 rfl rfl)
theorem dX2_incomeOf_28 : decode cX2_incomeOf 28 = .ok (.aload_n 1, 1) := dk_43 (dk_at dksX2_incomeOf_1 6 rfl rfl)
theorem dX2_incomeOf_29 : decode cX2_incomeOf 29 = .ok (.invokevirtual 241, 3) := dk_182 0 241 (dk_at dksX2_incomeOf_1 7 rfl rfl)
theorem dX2_incomeOf_32 : decode cX2_incomeOf 32 = .ok (.invokestatic 238, 3) := dk_184 0 238 (dk_at dksX2_incomeOf_1 10 rfl rfl)
theorem dX2_incomeOf_35 : decode cX2_incomeOf 35 = .ok (.istore 4, 2) := dk_54 4 (dk_at dksX2_incomeOf_1 13 rfl rfl)
theorem dX2_incomeOf_37 : decode cX2_incomeOf 37 = .ok (.iload 4, 2) := dk_21 4 (dk_at dksX2_incomeOf_1 15 rfl rfl)
theorem dX2_incomeOf_39 : decode cX2_incomeOf 39 = .ok (.aload_n 0, 1) := dk_42 (dk_at dksX2_incomeOf_1 17 rfl rfl)
theorem dX2_incomeOf_40 : decode cX2_incomeOf 40 = .ok (.aload_n 1, 1) := dk_43 (dk_at dksX2_incomeOf_1 18 rfl rfl)
theorem dX2_incomeOf_41 : decode cX2_incomeOf 41 = .ok (.invokevirtual 203, 3) := dk_182 0 203 (dk_at dksX2_incomeOf_1 19 rfl rfl)
theorem dX2_incomeOf_44 : decode cX2_incomeOf 44 = .ok (.imul, 1) := dk_104 (dk_at dksX2_incomeOf_1 22 rfl rfl)
theorem dX2_incomeOf_45 : decode cX2_incomeOf 45 = .ok (.iload 4, 2) := dk_21 4 (dk_at dksX2_incomeOf_2 0 rfl rfl)
theorem dX2_incomeOf_47 : decode cX2_incomeOf 47 = .ok (.iload_n 3, 1) := dk_29 (dk_at dksX2_incomeOf_2 2 rfl rfl)
theorem dX2_incomeOf_48 : decode cX2_incomeOf 48 = .ok (.if_icmp .ge 10, 3) := dk_162 0 10 (dk_at dksX2_incomeOf_2 3 rfl rfl)
theorem dX2_incomeOf_51 : decode cX2_incomeOf 51 = .ok (.aload_n 1, 1) := dk_43 (dk_at dksX2_incomeOf_2 6 rfl rfl)
theorem dX2_incomeOf_52 : decode cX2_incomeOf 52 = .ok (.getfield 210, 3) := dk_180 0 210 (dk_at dksX2_incomeOf_2 7 rfl rfl)
theorem dX2_incomeOf_55 : decode cX2_incomeOf 55 = .ok (.goto 4, 3) := dk_167 0 4 (dk_at dksX2_incomeOf_2 10 rfl rfl)
theorem dX2_incomeOf_58 : decode cX2_incomeOf 58 = .ok (.iconst 0, 1) := dk_3 (dk_at dksX2_incomeOf_2 13 rfl rfl)
theorem dX2_incomeOf_59 : decode cX2_incomeOf 59 = .ok (.iadd, 1) := dk_96 (dk_at dksX2_incomeOf_2 14 rfl rfl)
theorem dX2_incomeOf_60 : decode cX2_incomeOf 60 = .ok (.ireturn, 1) := dk_172 (dk_at dksX2_incomeOf_2 15 rfl rfl)
abbrev cX2_payable : ByteArray := prog_10_method_30_code
def yX2_payable : MethodName := ⟨RX2, "payable", "(LBenchBroker$Bench;)I"⟩
def dkwX2_payable_0 : List UInt8 := [43, 180, 0, 105, 180, 0, 67, 42, 43, 182, 0, 203, 108, 172]
abbrev dktX2_payable_0 : List UInt8 := dkwX2_payable_0 ++ []
theorem dksX2_payable_0 : cX2_payable.data.toList.drop 0 = dktX2_payable_0 := by decide +kernel
theorem dX2_payable_0 : decode cX2_payable 0 = .ok (.aload_n 1, 1) := dk_43 (dk_at dksX2_payable_0 0 rfl rfl)
theorem dX2_payable_1 : decode cX2_payable 1 = .ok (.getfield 105, 3) := dk_180 0 105 (dk_at dksX2_payable_0 1 rfl rfl)
theorem dX2_payable_4 : decode cX2_payable 4 = .ok (.getfield 67, 3) := dk_180 0 67 (dk_at dksX2_payable_0 4 rfl rfl)
theorem dX2_payable_7 : decode cX2_payable 7 = .ok (.aload_n 0, 1) := dk_42 (dk_at dksX2_payable_0 7 rfl rfl)
theorem dX2_payable_8 : decode cX2_payable 8 = .ok (.aload_n 1, 1) := dk_43 (dk_at dksX2_payable_0 8 rfl rfl)
theorem dX2_payable_9 : decode cX2_payable 9 = .ok (.invokevirtual 203, 3) := dk_182 0 203 (dk_at dksX2_payable_0 9 rfl rfl)
theorem dX2_payable_12 : decode cX2_payable 12 = .ok (.idiv, 1) := dk_108 (dk_at dksX2_payable_0 12 rfl rfl)
theorem dX2_payable_13 : decode cX2_payable 13 = .ok (.ireturn, 1) := dk_172 (dk_at dksX2_payable_0 13 rfl rfl)
abbrev cX2_addBench : ByteArray := prog_10_method_13_code
def yX2_addBench : MethodName := ⟨RX2, "addBench", "(III)I"⟩
def dkwX2_addBench_2 : List UInt8 := [25, 4, 29, 181, 0, 164, 42, 180, 0, 12, 25, 4, 182, 0, 55, 25, 4, 182, 0, 80, 172]
abbrev dktX2_addBench_2 : List UInt8 := dkwX2_addBench_2 ++ []
def dkwX2_addBench_1 : List UInt8 := [27, 28, 182, 0, 184, 187, 0, 59, 89, 42, 180, 0, 12, 182, 0, 29, 27, 28, 183, 0, 187, 58, 4]
abbrev dktX2_addBench_1 : List UInt8 := dkwX2_addBench_1 ++ dktX2_addBench_2
def dkwX2_addBench_0 : List UInt8 := [42, 180, 0, 12, 182, 0, 29, 16, 10, 160, 0, 7, 4, 167, 0, 4, 3, 4, 16, 10, 184, 0, 180, 42]
abbrev dktX2_addBench_0 : List UInt8 := dkwX2_addBench_0 ++ dktX2_addBench_1
theorem dksX2_addBench_0 : cX2_addBench.data.toList.drop 0 = dktX2_addBench_0 := by decide +kernel
theorem dksX2_addBench_1 : cX2_addBench.data.toList.drop 24 = dktX2_addBench_1 := dk_seg dksX2_addBench_0 24 rfl rfl
theorem dksX2_addBench_2 : cX2_addBench.data.toList.drop 47 = dktX2_addBench_2 := dk_seg dksX2_addBench_1 23 rfl rfl
theorem dX2_addBench_0 : decode cX2_addBench 0 = .ok (.aload_n 0, 1) := dk_42 (dk_at dksX2_addBench_0 0 rfl rfl)
theorem dX2_addBench_1 : decode cX2_addBench 1 = .ok (.getfield 12, 3) := dk_180 0 12 (dk_at dksX2_addBench_0 1 rfl rfl)
theorem dX2_addBench_4 : decode cX2_addBench 4 = .ok (.invokevirtual 29, 3) := dk_182 0 29 (dk_at dksX2_addBench_0 4 rfl rfl)
theorem dX2_addBench_7 : decode cX2_addBench 7 = .ok (.bipush 10, 2) := dk_16 10 (dk_at dksX2_addBench_0 7 rfl rfl)
theorem dX2_addBench_9 : decode cX2_addBench 9 = .ok (.if_icmp .ne 7, 3) := dk_160 0 7 (dk_at dksX2_addBench_0 9 rfl rfl)
theorem dX2_addBench_12 : decode cX2_addBench 12 = .ok (.iconst 1, 1) := dk_4 (dk_at dksX2_addBench_0 12 rfl rfl)
theorem dX2_addBench_13 : decode cX2_addBench 13 = .ok (.goto 4, 3) := dk_167 0 4 (dk_at dksX2_addBench_0 13 rfl rfl)
theorem dX2_addBench_16 : decode cX2_addBench 16 = .ok (.iconst 0, 1) := dk_3 (dk_at dksX2_addBench_0 16 rfl rfl)
theorem dX2_addBench_17 : decode cX2_addBench 17 = .ok (.iconst 1, 1) := dk_4 (dk_at dksX2_addBench_0 17 rfl rfl)
theorem dX2_addBench_18 : decode cX2_addBench 18 = .ok (.bipush 10, 2) := dk_16 10 (dk_at dksX2_addBench_0 18 rfl rfl)
theorem dX2_addBench_20 : decode cX2_addBench 20 = .ok (.invokestatic 180, 3) := dk_184 0 180 (dk_at dksX2_addBench_0 20 rfl rfl)
theorem dX2_addBench_23 : decode cX2_addBench 23 = .ok (.aload_n 0, 1) := dk_42 (dk_at dksX2_addBench_0 23 rfl rfl)
theorem dX2_addBench_24 : decode cX2_addBench 24 = .ok (.iload_n 1, 1) := dk_27 (dk_at dksX2_addBench_1 0 rfl rfl)
theorem dX2_addBench_25 : decode cX2_addBench 25 = .ok (.iload_n 2, 1) := dk_28 (dk_at dksX2_addBench_1 1 rfl rfl)
theorem dX2_addBench_26 : decode cX2_addBench 26 = .ok (.invokevirtual 184, 3) := dk_182 0 184 (dk_at dksX2_addBench_1 2 rfl rfl)
theorem dX2_addBench_29 : decode cX2_addBench 29 = .ok (.new 59, 3) := dk_187 0 59 (dk_at dksX2_addBench_1 5 rfl rfl)
theorem dX2_addBench_32 : decode cX2_addBench 32 = .ok (.dup, 1) := dk_89 (dk_at dksX2_addBench_1 8 rfl rfl)
theorem dX2_addBench_33 : decode cX2_addBench 33 = .ok (.aload_n 0, 1) := dk_42 (dk_at dksX2_addBench_1 9 rfl rfl)
theorem dX2_addBench_34 : decode cX2_addBench 34 = .ok (.getfield 12, 3) := dk_180 0 12 (dk_at dksX2_addBench_1 10 rfl rfl)
theorem dX2_addBench_37 : decode cX2_addBench 37 = .ok (.invokevirtual 29, 3) := dk_182 0 29 (dk_at dksX2_addBench_1 13 rfl rfl)
theorem dX2_addBench_40 : decode cX2_addBench 40 = .ok (.iload_n 1, 1) := dk_27 (dk_at dksX2_addBench_1 16 rfl rfl)
theorem dX2_addBench_41 : decode cX2_addBench 41 = .ok (.iload_n 2, 1) := dk_28 (dk_at dksX2_addBench_1 17 rfl rfl)
theorem dX2_addBench_42 : decode cX2_addBench 42 = .ok (.invokespecial 187, 3) := dk_183 0 187 (dk_at dksX2_addBench_1 18 rfl rfl)
theorem dX2_addBench_45 : decode cX2_addBench 45 = .ok (.astore 4, 2) := dk_58 4 (dk_at dksX2_addBench_1 21 rfl rfl)
theorem dX2_addBench_47 : decode cX2_addBench 47 = .ok (.aload 4, 2) := dk_25 4 (dk_at dksX2_addBench_2 0 rfl rfl)
theorem dX2_addBench_49 : decode cX2_addBench 49 = .ok (.iload_n 3, 1) := dk_29 (dk_at dksX2_addBench_2 2 rfl rfl)
theorem dX2_addBench_50 : decode cX2_addBench 50 = .ok (.putfield 164, 3) := dk_181 0 164 (dk_at dksX2_addBench_2 3 rfl rfl)
theorem dX2_addBench_53 : decode cX2_addBench 53 = .ok (.aload_n 0, 1) := dk_42 (dk_at dksX2_addBench_2 6 rfl rfl)
theorem dX2_addBench_54 : decode cX2_addBench 54 = .ok (.getfield 12, 3) := dk_180 0 12 (dk_at dksX2_addBench_2 7 rfl rfl)
theorem dX2_addBench_57 : decode cX2_addBench 57 = .ok (.aload 4, 2) := dk_25 4 (dk_at dksX2_addBench_2 10 rfl rfl)
theorem dX2_addBench_59 : decode cX2_addBench 59 = .ok (.invokevirtual 55, 3) := dk_182 0 55 (dk_at dksX2_addBench_2 12 rfl rfl)
theorem dX2_addBench_62 : decode cX2_addBench 62 = .ok (.aload 4, 2) := dk_25 4 (dk_at dksX2_addBench_2 15 rfl rfl)
theorem dX2_addBench_64 : decode cX2_addBench 64 = .ok (.invokevirtual 80, 3) := dk_182 0 80 (dk_at dksX2_addBench_2 17 rfl rfl)
theorem dX2_addBench_67 : decode cX2_addBench 67 = .ok (.ireturn, 1) := dk_172 (dk_at dksX2_addBench_2 20 rfl rfl)
abbrev cX2_requireFree : ByteArray := prog_10_method_12_code
def yX2_requireFree : MethodName := ⟨RX2, "requireFree", "(II)V"⟩
def dkwX2_requireFree_2 : List UInt8 := [7, 16, 10, 21, 4, 96, 184, 0, 180, 177]
abbrev dktX2_requireFree_2 : List UInt8 := dkwX2_requireFree_2 ++ []
def dkwX2_requireFree_1 : List UInt8 := [159, 0, 7, 4, 167, 0, 4, 3, 7, 29, 184, 0, 180, 21, 4, 2, 159, 0, 7, 4, 167, 0, 4, 3]
abbrev dktX2_requireFree_1 : List UInt8 := dkwX2_requireFree_1 ++ dktX2_requireFree_2
def dkwX2_requireFree_0 : List UInt8 := [42, 180, 0, 12, 27, 28, 184, 0, 176, 62, 42, 180, 0, 18, 27, 28, 184, 0, 176, 54, 4, 29, 2]
abbrev dktX2_requireFree_0 : List UInt8 := dkwX2_requireFree_0 ++ dktX2_requireFree_1
theorem dksX2_requireFree_0 : cX2_requireFree.data.toList.drop 0 = dktX2_requireFree_0 := by decide +kernel
theorem dksX2_requireFree_1 : cX2_requireFree.data.toList.drop 23 = dktX2_requireFree_1 := dk_seg dksX2_requireFree_0 23 rfl rfl
theorem dksX2_requireFree_2 : cX2_requireFree.data.toList.drop 47 = dktX2_requireFree_2 := dk_seg dksX2_requireFree_1 24 rfl rfl
theorem dX2_requireFree_0 : decode cX2_requireFree 0 = .ok (.aload_n 0, 1) := dk_42 (dk_at dksX2_requireFree_0 0 rfl rfl)
theorem dX2_requireFree_1 : decode cX2_requireFree 1 = .ok (.getfield 12, 3) := dk_180 0 12 (dk_at dksX2_requireFree_0 1 rfl rfl)
theorem dX2_requireFree_4 : decode cX2_requireFree 4 = .ok (.iload_n 1, 1) := dk_27 (dk_at dksX2_requireFree_0 4 rfl rfl)
theorem dX2_requireFree_5 : decode cX2_requireFree 5 = .ok (.iload_n 2, 1) := dk_28 (dk_at dksX2_requireFree_0 5 rfl rfl)
theorem dX2_requireFree_6 : decode cX2_requireFree 6 = .ok (.invokestatic 176, 3) := dk_184 0 176 (dk_at dksX2_requireFree_0 6 rfl rfl)
theorem dX2_requireFree_9 : decode cX2_requireFree 9 = .ok (.istore_n 3, 1) := dk_62 (dk_at dksX2_requireFree_0 9 rfl rfl)
theorem dX2_requireFree_10 : decode cX2_requireFree 10 = .ok (.aload_n 0, 1) := dk_42 (dk_at dksX2_requireFree_0 10 rfl rfl)
theorem dX2_requireFree_11 : decode cX2_requireFree 11 = .ok (.getfield 18, 3) := dk_180 0 18 (dk_at dksX2_requireFree_0 11 rfl rfl)
theorem dX2_requireFree_14 : decode cX2_requireFree 14 = .ok (.iload_n 1, 1) := dk_27 (dk_at dksX2_requireFree_0 14 rfl rfl)
theorem dX2_requireFree_15 : decode cX2_requireFree 15 = .ok (.iload_n 2, 1) := dk_28 (dk_at dksX2_requireFree_0 15 rfl rfl)
theorem dX2_requireFree_16 : decode cX2_requireFree 16 = .ok (.invokestatic 176, 3) := dk_184 0 176 (dk_at dksX2_requireFree_0 16 rfl rfl)
theorem dX2_requireFree_19 : decode cX2_requireFree 19 = .ok (.istore 4, 2) := dk_54 4 (dk_at dksX2_requireFree_0 19 rfl rfl)
theorem dX2_requireFree_21 : decode cX2_requireFree 21 = .ok (.iload_n 3, 1) := dk_29 (dk_at dksX2_requireFree_0 21 rfl rfl)
theorem dX2_requireFree_22 : decode cX2_requireFree 22 = .ok (.iconst (-1), 1) := dk_2 (dk_at dksX2_requireFree_0 22 rfl rfl)
theorem dX2_requireFree_23 : decode cX2_requireFree 23 = .ok (.if_icmp .eq 7, 3) := dk_159 0 7 (dk_at dksX2_requireFree_1 0 rfl rfl)
theorem dX2_requireFree_26 : decode cX2_requireFree 26 = .ok (.iconst 1, 1) := dk_4 (dk_at dksX2_requireFree_1 3 rfl rfl)
theorem dX2_requireFree_27 : decode cX2_requireFree 27 = .ok (.goto 4, 3) := dk_167 0 4 (dk_at dksX2_requireFree_1 4 rfl rfl)
theorem dX2_requireFree_30 : decode cX2_requireFree 30 = .ok (.iconst 0, 1) := dk_3 (dk_at dksX2_requireFree_1 7 rfl rfl)
theorem dX2_requireFree_31 : decode cX2_requireFree 31 = .ok (.iconst 4, 1) := dk_7 (dk_at dksX2_requireFree_1 8 rfl rfl)
theorem dX2_requireFree_32 : decode cX2_requireFree 32 = .ok (.iload_n 3, 1) := dk_29 (dk_at dksX2_requireFree_1 9 rfl rfl)
theorem dX2_requireFree_33 : decode cX2_requireFree 33 = .ok (.invokestatic 180, 3) := dk_184 0 180 (dk_at dksX2_requireFree_1 10 rfl rfl)
theorem dX2_requireFree_36 : decode cX2_requireFree 36 = .ok (.iload 4, 2) := dk_21 4 (dk_at dksX2_requireFree_1 13 rfl rfl)
theorem dX2_requireFree_38 : decode cX2_requireFree 38 = .ok (.iconst (-1), 1) := dk_2 (dk_at dksX2_requireFree_1 15 rfl rfl)
theorem dX2_requireFree_39 : decode cX2_requireFree 39 = .ok (.if_icmp .eq 7, 3) := dk_159 0 7 (dk_at dksX2_requireFree_1 16 rfl rfl)
theorem dX2_requireFree_42 : decode cX2_requireFree 42 = .ok (.iconst 1, 1) := dk_4 (dk_at dksX2_requireFree_1 19 rfl rfl)
theorem dX2_requireFree_43 : decode cX2_requireFree 43 = .ok (.goto 4, 3) := dk_167 0 4 (dk_at dksX2_requireFree_1 20 rfl rfl)
theorem dX2_requireFree_46 : decode cX2_requireFree 46 = .ok (.iconst 0, 1) := dk_3 (dk_at dksX2_requireFree_1 23 rfl rfl)
theorem dX2_requireFree_47 : decode cX2_requireFree 47 = .ok (.iconst 4, 1) := dk_7 (dk_at dksX2_requireFree_2 0 rfl rfl)
theorem dX2_requireFree_48 : decode cX2_requireFree 48 = .ok (.bipush 10, 2) := dk_16 10 (dk_at dksX2_requireFree_2 1 rfl rfl)
theorem dX2_requireFree_50 : decode cX2_requireFree 50 = .ok (.iload 4, 2) := dk_21 4 (dk_at dksX2_requireFree_2 3 rfl rfl)
theorem dX2_requireFree_52 : decode cX2_requireFree 52 = .ok (.iadd, 1) := dk_96 (dk_at dksX2_requireFree_2 5 rfl rfl)
theorem dX2_requireFree_53 : decode cX2_requireFree 53 = .ok (.invokestatic 180, 3) := dk_184 0 180 (dk_at dksX2_requireFree_2 6 rfl rfl)
theorem dX2_requireFree_56 : decode cX2_requireFree 56 = .ok (.return_, 1) := dk_177 (dk_at dksX2_requireFree_2 9 rfl rfl)
abbrev cX2_addFountain : ByteArray := prog_10_method_15_code
def yX2_addFountain : MethodName := ⟨RX2, "addFountain", "(III)I"⟩
def dkwX2_addFountain_2 : List UInt8 := [181, 0, 48, 42, 180, 0, 18, 25, 4, 182, 0, 55, 25, 4, 182, 0, 188, 172]
abbrev dktX2_addFountain_2 : List UInt8 := dkwX2_addFountain_2 ++ []
def dkwX2_addFountain_1 : List UInt8 := [182, 0, 184, 187, 0, 37, 89, 42, 180, 0, 18, 182, 0, 29, 27, 28, 183, 0, 45, 58, 4, 25, 4, 29]
abbrev dktX2_addFountain_1 : List UInt8 := dkwX2_addFountain_1 ++ dktX2_addFountain_2
def dkwX2_addFountain_0 : List UInt8 := [42, 180, 0, 18, 182, 0, 29, 7, 160, 0, 7, 4, 167, 0, 4, 3, 5, 7, 184, 0, 180, 42, 27, 28]
abbrev dktX2_addFountain_0 : List UInt8 := dkwX2_addFountain_0 ++ dktX2_addFountain_1
theorem dksX2_addFountain_0 : cX2_addFountain.data.toList.drop 0 = dktX2_addFountain_0 := by decide +kernel
theorem dksX2_addFountain_1 : cX2_addFountain.data.toList.drop 24 = dktX2_addFountain_1 := dk_seg dksX2_addFountain_0 24 rfl rfl
theorem dksX2_addFountain_2 : cX2_addFountain.data.toList.drop 48 = dktX2_addFountain_2 := dk_seg dksX2_addFountain_1 24 rfl rfl
theorem dX2_addFountain_0 : decode cX2_addFountain 0 = .ok (.aload_n 0, 1) := dk_42 (dk_at dksX2_addFountain_0 0 rfl rfl)
theorem dX2_addFountain_1 : decode cX2_addFountain 1 = .ok (.getfield 18, 3) := dk_180 0 18 (dk_at dksX2_addFountain_0 1 rfl rfl)
theorem dX2_addFountain_4 : decode cX2_addFountain 4 = .ok (.invokevirtual 29, 3) := dk_182 0 29 (dk_at dksX2_addFountain_0 4 rfl rfl)
theorem dX2_addFountain_7 : decode cX2_addFountain 7 = .ok (.iconst 4, 1) := dk_7 (dk_at dksX2_addFountain_0 7 rfl rfl)
theorem dX2_addFountain_8 : decode cX2_addFountain 8 = .ok (.if_icmp .ne 7, 3) := dk_160 0 7 (dk_at dksX2_addFountain_0 8 rfl rfl)
theorem dX2_addFountain_11 : decode cX2_addFountain 11 = .ok (.iconst 1, 1) := dk_4 (dk_at dksX2_addFountain_0 11 rfl rfl)
theorem dX2_addFountain_12 : decode cX2_addFountain 12 = .ok (.goto 4, 3) := dk_167 0 4 (dk_at dksX2_addFountain_0 12 rfl rfl)
theorem dX2_addFountain_15 : decode cX2_addFountain 15 = .ok (.iconst 0, 1) := dk_3 (dk_at dksX2_addFountain_0 15 rfl rfl)
theorem dX2_addFountain_16 : decode cX2_addFountain 16 = .ok (.iconst 2, 1) := dk_5 (dk_at dksX2_addFountain_0 16 rfl rfl)
theorem dX2_addFountain_17 : decode cX2_addFountain 17 = .ok (.iconst 4, 1) := dk_7 (dk_at dksX2_addFountain_0 17 rfl rfl)
theorem dX2_addFountain_18 : decode cX2_addFountain 18 = .ok (.invokestatic 180, 3) := dk_184 0 180 (dk_at dksX2_addFountain_0 18 rfl rfl)
theorem dX2_addFountain_21 : decode cX2_addFountain 21 = .ok (.aload_n 0, 1) := dk_42 (dk_at dksX2_addFountain_0 21 rfl rfl)
theorem dX2_addFountain_22 : decode cX2_addFountain 22 = .ok (.iload_n 1, 1) := dk_27 (dk_at dksX2_addFountain_0 22 rfl rfl)
theorem dX2_addFountain_23 : decode cX2_addFountain 23 = .ok (.iload_n 2, 1) := dk_28 (dk_at dksX2_addFountain_0 23 rfl rfl)
theorem dX2_addFountain_24 : decode cX2_addFountain 24 = .ok (.invokevirtual 184, 3) := dk_182 0 184 (dk_at dksX2_addFountain_1 0 rfl rfl)
theorem dX2_addFountain_27 : decode cX2_addFountain 27 = .ok (.new 37, 3) := dk_187 0 37 (dk_at dksX2_addFountain_1 3 rfl rfl)
theorem dX2_addFountain_30 : decode cX2_addFountain 30 = .ok (.dup, 1) := dk_89 (dk_at dksX2_addFountain_1 6 rfl rfl)
theorem dX2_addFountain_31 : decode cX2_addFountain 31 = .ok (.aload_n 0, 1) := dk_42 (dk_at dksX2_addFountain_1 7 rfl rfl)
theorem dX2_addFountain_32 : decode cX2_addFountain 32 = .ok (.getfield 18, 3) := dk_180 0 18 (dk_at dksX2_addFountain_1 8 rfl rfl)
theorem dX2_addFountain_35 : decode cX2_addFountain 35 = .ok (.invokevirtual 29, 3) := dk_182 0 29 (dk_at dksX2_addFountain_1 11 rfl rfl)
theorem dX2_addFountain_38 : decode cX2_addFountain 38 = .ok (.iload_n 1, 1) := dk_27 (dk_at dksX2_addFountain_1 14 rfl rfl)
theorem dX2_addFountain_39 : decode cX2_addFountain 39 = .ok (.iload_n 2, 1) := dk_28 (dk_at dksX2_addFountain_1 15 rfl rfl)
theorem dX2_addFountain_40 : decode cX2_addFountain 40 = .ok (.invokespecial 45, 3) := dk_183 0 45 (dk_at dksX2_addFountain_1 16 rfl rfl)
theorem dX2_addFountain_43 : decode cX2_addFountain 43 = .ok (.astore 4, 2) := dk_58 4 (dk_at dksX2_addFountain_1 19 rfl rfl)
theorem dX2_addFountain_45 : decode cX2_addFountain 45 = .ok (.aload 4, 2) := dk_25 4 (dk_at dksX2_addFountain_1 21 rfl rfl)
theorem dX2_addFountain_47 : decode cX2_addFountain 47 = .ok (.iload_n 3, 1) := dk_29 (dk_at dksX2_addFountain_1 23 rfl rfl)
theorem dX2_addFountain_48 : decode cX2_addFountain 48 = .ok (.putfield 48, 3) := dk_181 0 48 (dk_at dksX2_addFountain_2 0 rfl rfl)
theorem dX2_addFountain_51 : decode cX2_addFountain 51 = .ok (.aload_n 0, 1) := dk_42 (dk_at dksX2_addFountain_2 3 rfl rfl)
theorem dX2_addFountain_52 : decode cX2_addFountain 52 = .ok (.getfield 18, 3) := dk_180 0 18 (dk_at dksX2_addFountain_2 4 rfl rfl)
theorem dX2_addFountain_55 : decode cX2_addFountain 55 = .ok (.aload 4, 2) := dk_25 4 (dk_at dksX2_addFountain_2 7 rfl rfl)
theorem dX2_addFountain_57 : decode cX2_addFountain 57 = .ok (.invokevirtual 55, 3) := dk_182 0 55 (dk_at dksX2_addFountain_2 9 rfl rfl)
theorem dX2_addFountain_60 : decode cX2_addFountain 60 = .ok (.aload 4, 2) := dk_25 4 (dk_at dksX2_addFountain_2 12 rfl rfl)
theorem dX2_addFountain_62 : decode cX2_addFountain 62 = .ok (.invokevirtual 188, 3) := dk_182 0 188 (dk_at dksX2_addFountain_2 14 rfl rfl)
theorem dX2_addFountain_65 : decode cX2_addFountain 65 = .ok (.ireturn, 1) := dk_172 (dk_at dksX2_addFountain_2 17 rfl rfl)
abbrev cX2_addTenant : ByteArray := prog_10_method_19_code
def yX2_addTenant : MethodName := ⟨RX2, "addTenant", "(I)I"⟩
def dkwX2_addTenant_2 : List UInt8 := [180, 0, 93, 27, 96, 181, 0, 93, 42, 180, 0, 21, 182, 0, 29, 4, 100, 172]
abbrev dktX2_addTenant_2 : List UInt8 := dkwX2_addTenant_2 ++ []
def dkwX2_addTenant_1 : List UInt8 := [180, 0, 21, 187, 0, 65, 89, 42, 180, 0, 21, 182, 0, 29, 27, 183, 0, 70, 182, 0, 55, 42, 89]
abbrev dktX2_addTenant_1 : List UInt8 := dkwX2_addTenant_1 ++ dktX2_addTenant_2
def dkwX2_addTenant_0 : List UInt8 := [42, 180, 0, 21, 182, 0, 29, 16, 8, 160, 0, 7, 4, 167, 0, 4, 3, 6, 16, 8, 184, 0, 180, 42]
abbrev dktX2_addTenant_0 : List UInt8 := dkwX2_addTenant_0 ++ dktX2_addTenant_1
theorem dksX2_addTenant_0 : cX2_addTenant.data.toList.drop 0 = dktX2_addTenant_0 := by decide +kernel
theorem dksX2_addTenant_1 : cX2_addTenant.data.toList.drop 24 = dktX2_addTenant_1 := dk_seg dksX2_addTenant_0 24 rfl rfl
theorem dksX2_addTenant_2 : cX2_addTenant.data.toList.drop 47 = dktX2_addTenant_2 := dk_seg dksX2_addTenant_1 23 rfl rfl
theorem dX2_addTenant_0 : decode cX2_addTenant 0 = .ok (.aload_n 0, 1) := dk_42 (dk_at dksX2_addTenant_0 0 rfl rfl)
theorem dX2_addTenant_1 : decode cX2_addTenant 1 = .ok (.getfield 21, 3) := dk_180 0 21 (dk_at dksX2_addTenant_0 1 rfl rfl)
theorem dX2_addTenant_4 : decode cX2_addTenant 4 = .ok (.invokevirtual 29, 3) := dk_182 0 29 (dk_at dksX2_addTenant_0 4 rfl rfl)
theorem dX2_addTenant_7 : decode cX2_addTenant 7 = .ok (.bipush 8, 2) := dk_16 8 (dk_at dksX2_addTenant_0 7 rfl rfl)
theorem dX2_addTenant_9 : decode cX2_addTenant 9 = .ok (.if_icmp .ne 7, 3) := dk_160 0 7 (dk_at dksX2_addTenant_0 9 rfl rfl)
theorem dX2_addTenant_12 : decode cX2_addTenant 12 = .ok (.iconst 1, 1) := dk_4 (dk_at dksX2_addTenant_0 12 rfl rfl)
theorem dX2_addTenant_13 : decode cX2_addTenant 13 = .ok (.goto 4, 3) := dk_167 0 4 (dk_at dksX2_addTenant_0 13 rfl rfl)
theorem dX2_addTenant_16 : decode cX2_addTenant 16 = .ok (.iconst 0, 1) := dk_3 (dk_at dksX2_addTenant_0 16 rfl rfl)
theorem dX2_addTenant_17 : decode cX2_addTenant 17 = .ok (.iconst 3, 1) := dk_6 (dk_at dksX2_addTenant_0 17 rfl rfl)
theorem dX2_addTenant_18 : decode cX2_addTenant 18 = .ok (.bipush 8, 2) := dk_16 8 (dk_at dksX2_addTenant_0 18 rfl rfl)
theorem dX2_addTenant_20 : decode cX2_addTenant 20 = .ok (.invokestatic 180, 3) := dk_184 0 180 (dk_at dksX2_addTenant_0 20 rfl rfl)
theorem dX2_addTenant_23 : decode cX2_addTenant 23 = .ok (.aload_n 0, 1) := dk_42 (dk_at dksX2_addTenant_0 23 rfl rfl)
theorem dX2_addTenant_24 : decode cX2_addTenant 24 = .ok (.getfield 21, 3) := dk_180 0 21 (dk_at dksX2_addTenant_1 0 rfl rfl)
theorem dX2_addTenant_27 : decode cX2_addTenant 27 = .ok (.new 65, 3) := dk_187 0 65 (dk_at dksX2_addTenant_1 3 rfl rfl)
theorem dX2_addTenant_30 : decode cX2_addTenant 30 = .ok (.dup, 1) := dk_89 (dk_at dksX2_addTenant_1 6 rfl rfl)
theorem dX2_addTenant_31 : decode cX2_addTenant 31 = .ok (.aload_n 0, 1) := dk_42 (dk_at dksX2_addTenant_1 7 rfl rfl)
theorem dX2_addTenant_32 : decode cX2_addTenant 32 = .ok (.getfield 21, 3) := dk_180 0 21 (dk_at dksX2_addTenant_1 8 rfl rfl)
theorem dX2_addTenant_35 : decode cX2_addTenant 35 = .ok (.invokevirtual 29, 3) := dk_182 0 29 (dk_at dksX2_addTenant_1 11 rfl rfl)
theorem dX2_addTenant_38 : decode cX2_addTenant 38 = .ok (.iload_n 1, 1) := dk_27 (dk_at dksX2_addTenant_1 14 rfl rfl)
theorem dX2_addTenant_39 : decode cX2_addTenant 39 = .ok (.invokespecial 70, 3) := dk_183 0 70 (dk_at dksX2_addTenant_1 15 rfl rfl)
theorem dX2_addTenant_42 : decode cX2_addTenant 42 = .ok (.invokevirtual 55, 3) := dk_182 0 55 (dk_at dksX2_addTenant_1 18 rfl rfl)
theorem dX2_addTenant_45 : decode cX2_addTenant 45 = .ok (.aload_n 0, 1) := dk_42 (dk_at dksX2_addTenant_1 21 rfl rfl)
theorem dX2_addTenant_46 : decode cX2_addTenant 46 = .ok (.dup, 1) := dk_89 (dk_at dksX2_addTenant_1 22 rfl rfl)
theorem dX2_addTenant_47 : decode cX2_addTenant 47 = .ok (.getfield 93, 3) := dk_180 0 93 (dk_at dksX2_addTenant_2 0 rfl rfl)
theorem dX2_addTenant_50 : decode cX2_addTenant 50 = .ok (.iload_n 1, 1) := dk_27 (dk_at dksX2_addTenant_2 3 rfl rfl)
theorem dX2_addTenant_51 : decode cX2_addTenant 51 = .ok (.iadd, 1) := dk_96 (dk_at dksX2_addTenant_2 4 rfl rfl)
theorem dX2_addTenant_52 : decode cX2_addTenant 52 = .ok (.putfield 93, 3) := dk_181 0 93 (dk_at dksX2_addTenant_2 5 rfl rfl)
theorem dX2_addTenant_55 : decode cX2_addTenant 55 = .ok (.aload_n 0, 1) := dk_42 (dk_at dksX2_addTenant_2 8 rfl rfl)
theorem dX2_addTenant_56 : decode cX2_addTenant 56 = .ok (.getfield 21, 3) := dk_180 0 21 (dk_at dksX2_addTenant_2 9 rfl rfl)
theorem dX2_addTenant_59 : decode cX2_addTenant 59 = .ok (.invokevirtual 29, 3) := dk_182 0 29 (dk_at dksX2_addTenant_2 12 rfl rfl)
theorem dX2_addTenant_62 : decode cX2_addTenant 62 = .ok (.iconst 1, 1) := dk_4 (dk_at dksX2_addTenant_2 15 rfl rfl)
theorem dX2_addTenant_63 : decode cX2_addTenant 63 = .ok (.isub, 1) := dk_100 (dk_at dksX2_addTenant_2 16 rfl rfl)
theorem dX2_addTenant_64 : decode cX2_addTenant 64 = .ok (.ireturn, 1) := dk_172 (dk_at dksX2_addTenant_2 17 rfl rfl)
abbrev cX2_lease : ByteArray := prog_10_method_23_code
def yX2_lease : MethodName := ⟨RX2, "lease", "(III)I"⟩
def dkwX2_lease_3 : List UInt8 := [180, 0, 210, 100, 181, 0, 67, 42, 25, 4, 25, 5, 182, 0, 83, 25, 5, 180, 0, 210, 172]
abbrev dktX2_lease_3 : List UInt8 := dkwX2_lease_3 ++ []
def dkwX2_lease_2 : List UInt8 := [25, 5, 182, 0, 203, 181, 0, 210, 25, 5, 29, 181, 0, 213, 25, 4, 89, 180, 0, 67, 25, 5]
abbrev dktX2_lease_2 : List UInt8 := dkwX2_lease_2 ++ dktX2_lease_3
def dkwX2_lease_1 : List UInt8 := [58, 5, 42, 25, 4, 25, 5, 182, 0, 206, 58, 6, 25, 6, 198, 0, 6, 25, 6, 191, 25, 5, 42]
abbrev dktX2_lease_1 : List UInt8 := dkwX2_lease_1 ++ dktX2_lease_2
def dkwX2_lease_0 : List UInt8 := [42, 180, 0, 21, 27, 182, 0, 33, 192, 0, 65, 58, 4, 42, 180, 0, 12, 28, 182, 0, 33, 192, 0, 59]
abbrev dktX2_lease_0 : List UInt8 := dkwX2_lease_0 ++ dktX2_lease_1
theorem dksX2_lease_0 : cX2_lease.data.toList.drop 0 = dktX2_lease_0 := by decide +kernel
theorem dksX2_lease_1 : cX2_lease.data.toList.drop 24 = dktX2_lease_1 := dk_seg dksX2_lease_0 24 rfl rfl
theorem dksX2_lease_2 : cX2_lease.data.toList.drop 47 = dktX2_lease_2 := dk_seg dksX2_lease_1 23 rfl rfl
theorem dksX2_lease_3 : cX2_lease.data.toList.drop 69 = dktX2_lease_3 := dk_seg dksX2_lease_2 22 rfl rfl
theorem dX2_lease_0 : decode cX2_lease 0 = .ok (.aload_n 0, 1) := dk_42 (dk_at dksX2_lease_0 0 rfl rfl)
theorem dX2_lease_1 : decode cX2_lease 1 = .ok (.getfield 21, 3) := dk_180 0 21 (dk_at dksX2_lease_0 1 rfl rfl)
theorem dX2_lease_4 : decode cX2_lease 4 = .ok (.iload_n 1, 1) := dk_27 (dk_at dksX2_lease_0 4 rfl rfl)
theorem dX2_lease_5 : decode cX2_lease 5 = .ok (.invokevirtual 33, 3) := dk_182 0 33 (dk_at dksX2_lease_0 5 rfl rfl)
theorem dX2_lease_8 : decode cX2_lease 8 = .ok (.checkcast 65, 3) := dk_192 0 65 (dk_at dksX2_lease_0 8 rfl rfl)
theorem dX2_lease_11 : decode cX2_lease 11 = .ok (.astore 4, 2) := dk_58 4 (dk_at dksX2_lease_0 11 rfl rfl)
theorem dX2_lease_13 : decode cX2_lease 13 = .ok (.aload_n 0, 1) := dk_42 (dk_at dksX2_lease_0 13 rfl rfl)
theorem dX2_lease_14 : decode cX2_lease 14 = .ok (.getfield 12, 3) := dk_180 0 12 (dk_at dksX2_lease_0 14 rfl rfl)
theorem dX2_lease_17 : decode cX2_lease 17 = .ok (.iload_n 2, 1) := dk_28 (dk_at dksX2_lease_0 17 rfl rfl)
theorem dX2_lease_18 : decode cX2_lease 18 = .ok (.invokevirtual 33, 3) := dk_182 0 33 (dk_at dksX2_lease_0 18 rfl rfl)
theorem dX2_lease_21 : decode cX2_lease 21 = .ok (.checkcast 59, 3) := dk_192 0 59 (dk_at dksX2_lease_0 21 rfl rfl)
theorem dX2_lease_24 : decode cX2_lease 24 = .ok (.astore 5, 2) := dk_58 5 (dk_at dksX2_lease_1 0 rfl rfl)
theorem dX2_lease_26 : decode cX2_lease 26 = .ok (.aload_n 0, 1) := dk_42 (dk_at dksX2_lease_1 2 rfl rfl)
theorem dX2_lease_27 : decode cX2_lease 27 = .ok (.aload 4, 2) := dk_25 4 (dk_at dksX2_lease_1 3 rfl rfl)
theorem dX2_lease_29 : decode cX2_lease 29 = .ok (.aload 5, 2) := dk_25 5 (dk_at dksX2_lease_1 5 rfl rfl)
theorem dX2_lease_31 : decode cX2_lease 31 = .ok (.invokevirtual 206, 3) := dk_182 0 206 (dk_at dksX2_lease_1 7 rfl rfl)
theorem dX2_lease_34 : decode cX2_lease 34 = .ok (.astore 6, 2) := dk_58 6 (dk_at dksX2_lease_1 10 rfl rfl)
theorem dX2_lease_36 : decode cX2_lease 36 = .ok (.aload 6, 2) := dk_25 6 (dk_at dksX2_lease_1 12 rfl rfl)
theorem dX2_lease_38 : decode cX2_lease 38 = .ok (.ifnull 6, 3) := dk_198 0 6 (dk_at dksX2_lease_1 14 rfl rfl)
theorem dX2_lease_41 : decode cX2_lease 41 = .ok (.aload 6, 2) := dk_25 6 (dk_at dksX2_lease_1 17 rfl rfl)
theorem dX2_lease_43 : decode cX2_lease 43 = .ok (.athrow, 1) := dk_191 (dk_at dksX2_lease_1 19 rfl rfl)
theorem dX2_lease_44 : decode cX2_lease 44 = .ok (.aload 5, 2) := dk_25 5 (dk_at dksX2_lease_1 20 rfl rfl)
theorem dX2_lease_46 : decode cX2_lease 46 = .ok (.aload_n 0, 1) := dk_42 (dk_at dksX2_lease_1 22 rfl rfl)
theorem dX2_lease_47 : decode cX2_lease 47 = .ok (.aload 5, 2) := dk_25 5 (dk_at dksX2_lease_2 0 rfl rfl)
theorem dX2_lease_49 : decode cX2_lease 49 = .ok (.invokevirtual 203, 3) := dk_182 0 203 (dk_at dksX2_lease_2 2 rfl rfl)
theorem dX2_lease_52 : decode cX2_lease 52 = .ok (.putfield 210, 3) := dk_181 0 210 (dk_at dksX2_lease_2 5 rfl rfl)
theorem dX2_lease_55 : decode cX2_lease 55 = .ok (.aload 5, 2) := dk_25 5 (dk_at dksX2_lease_2 8 rfl rfl)
theorem dX2_lease_57 : decode cX2_lease 57 = .ok (.iload_n 3, 1) := dk_29 (dk_at dksX2_lease_2 10 rfl rfl)
theorem dX2_lease_58 : decode cX2_lease 58 = .ok (.putfield 213, 3) := dk_181 0 213 (dk_at dksX2_lease_2 11 rfl rfl)
theorem dX2_lease_61 : decode cX2_lease 61 = .ok (.aload 4, 2) := dk_25 4 (dk_at dksX2_lease_2 14 rfl rfl)
theorem dX2_lease_63 : decode cX2_lease 63 = .ok (.dup, 1) := dk_89 (dk_at dksX2_lease_2 16 rfl rfl)
theorem dX2_lease_64 : decode cX2_lease 64 = .ok (.getfield 67, 3) := dk_180 0 67 (dk_at dksX2_lease_2 17 rfl rfl)
theorem dX2_lease_67 : decode cX2_lease 67 = .ok (.aload 5, 2) := dk_25 5 (dk_at dksX2_lease_2 20 rfl rfl)
theorem dX2_lease_69 : decode cX2_lease 69 = .ok (.getfield 210, 3) := dk_180 0 210 (dk_at dksX2_lease_3 0 rfl rfl)
theorem dX2_lease_72 : decode cX2_lease 72 = .ok (.isub, 1) := dk_100 (dk_at dksX2_lease_3 3 rfl rfl)
theorem dX2_lease_73 : decode cX2_lease 73 = .ok (.putfield 67, 3) := dk_181 0 67 (dk_at dksX2_lease_3 4 rfl rfl)
theorem dX2_lease_76 : decode cX2_lease 76 = .ok (.aload_n 0, 1) := dk_42 (dk_at dksX2_lease_3 7 rfl rfl)
theorem dX2_lease_77 : decode cX2_lease 77 = .ok (.aload 4, 2) := dk_25 4 (dk_at dksX2_lease_3 8 rfl rfl)
theorem dX2_lease_79 : decode cX2_lease 79 = .ok (.aload 5, 2) := dk_25 5 (dk_at dksX2_lease_3 10 rfl rfl)
theorem dX2_lease_81 : decode cX2_lease 81 = .ok (.invokevirtual 83, 3) := dk_182 0 83 (dk_at dksX2_lease_3 12 rfl rfl)
theorem dX2_lease_84 : decode cX2_lease 84 = .ok (.aload 5, 2) := dk_25 5 (dk_at dksX2_lease_3 15 rfl rfl)
theorem dX2_lease_86 : decode cX2_lease 86 = .ok (.getfield 210, 3) := dk_180 0 210 (dk_at dksX2_lease_3 17 rfl rfl)
theorem dX2_lease_89 : decode cX2_lease 89 = .ok (.ireturn, 1) := dk_172 (dk_at dksX2_lease_3 20 rfl rfl)
abbrev cX2_obstacle : ByteArray := prog_10_method_21_code
def yX2_obstacle : MethodName := ⟨RX2, "obstacle", "(LBenchBroker$Tenant;LBenchBroker$Bench;)LBenchBroker$Rejection;"⟩
def dkwX2_obstacle_5 : List UInt8 := [167, 0, 4, 1, 176]
abbrev dktX2_obstacle_5 : List UInt8 := dkwX2_obstacle_5 ++ []
def dkwX2_obstacle_4 : List UInt8 := [180, 0, 67, 42, 44, 182, 0, 203, 162, 0, 19, 187, 0, 192, 89, 16, 9, 43, 180, 0, 67, 183, 0, 195]
abbrev dktX2_obstacle_4 : List UInt8 := dkwX2_obstacle_4 ++ dktX2_obstacle_5
def dkwX2_obstacle_3 : List UInt8 := [182, 0, 199, 154, 0, 18, 187, 0, 192, 89, 16, 8, 42, 44, 182, 0, 167, 183, 0, 195, 176, 43]
abbrev dktX2_obstacle_3 : List UInt8 := dkwX2_obstacle_3 ++ dktX2_obstacle_4
def dkwX2_obstacle_2 : List UInt8 := [153, 0, 20, 187, 0, 192, 89, 16, 7, 44, 180, 0, 105, 182, 0, 194, 183, 0, 195, 176, 42, 44]
abbrev dktX2_obstacle_2 : List UInt8 := dkwX2_obstacle_2 ++ dktX2_obstacle_3
def dkwX2_obstacle_1 : List UInt8 := [198, 0, 20, 187, 0, 192, 89, 16, 6, 43, 180, 0, 76, 182, 0, 80, 183, 0, 195, 176, 44, 182, 0, 196]
abbrev dktX2_obstacle_1 : List UInt8 := dkwX2_obstacle_1 ++ dktX2_obstacle_2
def dkwX2_obstacle_0 : List UInt8 := [43, 182, 0, 189, 153, 0, 16, 187, 0, 192, 89, 8, 43, 182, 0, 194, 183, 0, 195, 176, 43, 180, 0, 76]
abbrev dktX2_obstacle_0 : List UInt8 := dkwX2_obstacle_0 ++ dktX2_obstacle_1
theorem dksX2_obstacle_0 : cX2_obstacle.data.toList.drop 0 = dktX2_obstacle_0 := by decide +kernel
theorem dksX2_obstacle_1 : cX2_obstacle.data.toList.drop 24 = dktX2_obstacle_1 := dk_seg dksX2_obstacle_0 24 rfl rfl
theorem dksX2_obstacle_2 : cX2_obstacle.data.toList.drop 48 = dktX2_obstacle_2 := dk_seg dksX2_obstacle_1 24 rfl rfl
theorem dksX2_obstacle_3 : cX2_obstacle.data.toList.drop 70 = dktX2_obstacle_3 := dk_seg dksX2_obstacle_2 22 rfl rfl
theorem dksX2_obstacle_4 : cX2_obstacle.data.toList.drop 92 = dktX2_obstacle_4 := dk_seg dksX2_obstacle_3 22 rfl rfl
theorem dksX2_obstacle_5 : cX2_obstacle.data.toList.drop 116 = dktX2_obstacle_5 := dk_seg dksX2_obstacle_4 24 rfl rfl
theorem dX2_obstacle_0 : decode cX2_obstacle 0 = .ok (.aload_n 1, 1) := dk_43 (dk_at dksX2_obstacle_0 0 rfl rfl)
theorem dX2_obstacle_1 : decode cX2_obstacle 1 = .ok (.invokevirtual 189, 3) := dk_182 0 189 (dk_at dksX2_obstacle_0 1 rfl rfl)
theorem dX2_obstacle_4 : decode cX2_obstacle 4 = .ok (.ifCond .eq 16, 3) := dk_153 0 16 (dk_at dksX2_obstacle_0 4 rfl rfl)
theorem dX2_obstacle_7 : decode cX2_obstacle 7 = .ok (.new 192, 3) := dk_187 0 192 (dk_at dksX2_obstacle_0 7 rfl rfl)
theorem dX2_obstacle_10 : decode cX2_obstacle 10 = .ok (.dup, 1) := dk_89 (dk_at dksX2_obstacle_0 10 rfl rfl)
theorem dX2_obstacle_11 : decode cX2_obstacle 11 = .ok (.iconst 5, 1) := dk_8 (dk_at dksX2_obstacle_0 11 rfl rfl)
theorem dX2_obstacle_12 : decode cX2_obstacle 12 = .ok (.aload_n 1, 1) := dk_43 (dk_at dksX2_obstacle_0 12 rfl rfl)
theorem dX2_obstacle_13 : decode cX2_obstacle 13 = .ok (.invokevirtual 194, 3) := dk_182 0 194 (dk_at dksX2_obstacle_0 13 rfl rfl)
theorem dX2_obstacle_16 : decode cX2_obstacle 16 = .ok (.invokespecial 195, 3) := dk_183 0 195 (dk_at dksX2_obstacle_0 16 rfl rfl)
theorem dX2_obstacle_19 : decode cX2_obstacle 19 = .ok (.areturn, 1) := dk_176 (dk_at dksX2_obstacle_0 19 rfl rfl)
theorem dX2_obstacle_20 : decode cX2_obstacle 20 = .ok (.aload_n 1, 1) := dk_43 (dk_at dksX2_obstacle_0 20 rfl rfl)
theorem dX2_obstacle_21 : decode cX2_obstacle 21 = .ok (.getfield 76, 3) := dk_180 0 76 (dk_at dksX2_obstacle_0 21 rfl rfl)
theorem dX2_obstacle_24 : decode cX2_obstacle 24 = .ok (.ifnull 20, 3) := dk_198 0 20 (dk_at dksX2_obstacle_1 0 rfl rfl)
theorem dX2_obstacle_27 : decode cX2_obstacle 27 = .ok (.new 192, 3) := dk_187 0 192 (dk_at dksX2_obstacle_1 3 rfl rfl)
theorem dX2_obstacle_30 : decode cX2_obstacle 30 = .ok (.dup, 1) := dk_89 (dk_at dksX2_obstacle_1 6 rfl rfl)
theorem dX2_obstacle_31 : decode cX2_obstacle 31 = .ok (.bipush 6, 2) := dk_16 6 (dk_at dksX2_obstacle_1 7 rfl rfl)
theorem dX2_obstacle_33 : decode cX2_obstacle 33 = .ok (.aload_n 1, 1) := dk_43 (dk_at dksX2_obstacle_1 9 rfl rfl)
theorem dX2_obstacle_34 : decode cX2_obstacle 34 = .ok (.getfield 76, 3) := dk_180 0 76 (dk_at dksX2_obstacle_1 10 rfl rfl)
theorem dX2_obstacle_37 : decode cX2_obstacle 37 = .ok (.invokevirtual 80, 3) := dk_182 0 80 (dk_at dksX2_obstacle_1 13 rfl rfl)
theorem dX2_obstacle_40 : decode cX2_obstacle 40 = .ok (.invokespecial 195, 3) := dk_183 0 195 (dk_at dksX2_obstacle_1 16 rfl rfl)
theorem dX2_obstacle_43 : decode cX2_obstacle 43 = .ok (.areturn, 1) := dk_176 (dk_at dksX2_obstacle_1 19 rfl rfl)
theorem dX2_obstacle_44 : decode cX2_obstacle 44 = .ok (.aload_n 2, 1) := dk_44 (dk_at dksX2_obstacle_1 20 rfl rfl)
theorem dX2_obstacle_45 : decode cX2_obstacle 45 = .ok (.invokevirtual 196, 3) := dk_182 0 196 (dk_at dksX2_obstacle_1 21 rfl rfl)
theorem dX2_obstacle_48 : decode cX2_obstacle 48 = .ok (.ifCond .eq 20, 3) := dk_153 0 20 (dk_at dksX2_obstacle_2 0 rfl rfl)
theorem dX2_obstacle_51 : decode cX2_obstacle 51 = .ok (.new 192, 3) := dk_187 0 192 (dk_at dksX2_obstacle_2 3 rfl rfl)
theorem dX2_obstacle_54 : decode cX2_obstacle 54 = .ok (.dup, 1) := dk_89 (dk_at dksX2_obstacle_2 6 rfl rfl)
theorem dX2_obstacle_55 : decode cX2_obstacle 55 = .ok (.bipush 7, 2) := dk_16 7 (dk_at dksX2_obstacle_2 7 rfl rfl)
theorem dX2_obstacle_57 : decode cX2_obstacle 57 = .ok (.aload_n 2, 1) := dk_44 (dk_at dksX2_obstacle_2 9 rfl rfl)
theorem dX2_obstacle_58 : decode cX2_obstacle 58 = .ok (.getfield 105, 3) := dk_180 0 105 (dk_at dksX2_obstacle_2 10 rfl rfl)
theorem dX2_obstacle_61 : decode cX2_obstacle 61 = .ok (.invokevirtual 194, 3) := dk_182 0 194 (dk_at dksX2_obstacle_2 13 rfl rfl)
theorem dX2_obstacle_64 : decode cX2_obstacle 64 = .ok (.invokespecial 195, 3) := dk_183 0 195 (dk_at dksX2_obstacle_2 16 rfl rfl)
theorem dX2_obstacle_67 : decode cX2_obstacle 67 = .ok (.areturn, 1) := dk_176 (dk_at dksX2_obstacle_2 19 rfl rfl)
theorem dX2_obstacle_68 : decode cX2_obstacle 68 = .ok (.aload_n 0, 1) := dk_42 (dk_at dksX2_obstacle_2 20 rfl rfl)
theorem dX2_obstacle_69 : decode cX2_obstacle 69 = .ok (.aload_n 2, 1) := dk_44 (dk_at dksX2_obstacle_2 21 rfl rfl)
theorem dX2_obstacle_70 : decode cX2_obstacle 70 = .ok (.invokevirtual 199, 3) := dk_182 0 199 (dk_at dksX2_obstacle_3 0 rfl rfl)
theorem dX2_obstacle_73 : decode cX2_obstacle 73 = .ok (.ifCond .ne 18, 3) := dk_154 0 18 (dk_at dksX2_obstacle_3 3 rfl rfl)
theorem dX2_obstacle_76 : decode cX2_obstacle 76 = .ok (.new 192, 3) := dk_187 0 192 (dk_at dksX2_obstacle_3 6 rfl rfl)
theorem dX2_obstacle_79 : decode cX2_obstacle 79 = .ok (.dup, 1) := dk_89 (dk_at dksX2_obstacle_3 9 rfl rfl)
theorem dX2_obstacle_80 : decode cX2_obstacle 80 = .ok (.bipush 8, 2) := dk_16 8 (dk_at dksX2_obstacle_3 10 rfl rfl)
theorem dX2_obstacle_82 : decode cX2_obstacle 82 = .ok (.aload_n 0, 1) := dk_42 (dk_at dksX2_obstacle_3 12 rfl rfl)
theorem dX2_obstacle_83 : decode cX2_obstacle 83 = .ok (.aload_n 2, 1) := dk_44 (dk_at dksX2_obstacle_3 13 rfl rfl)
theorem dX2_obstacle_84 : decode cX2_obstacle 84 = .ok (.invokevirtual 167, 3) := dk_182 0 167 (dk_at dksX2_obstacle_3 14 rfl rfl)
theorem dX2_obstacle_87 : decode cX2_obstacle 87 = .ok (.invokespecial 195, 3) := dk_183 0 195 (dk_at dksX2_obstacle_3 17 rfl rfl)
theorem dX2_obstacle_90 : decode cX2_obstacle 90 = .ok (.areturn, 1) := dk_176 (dk_at dksX2_obstacle_3 20 rfl rfl)
theorem dX2_obstacle_91 : decode cX2_obstacle 91 = .ok (.aload_n 1, 1) := dk_43 (dk_at dksX2_obstacle_3 21 rfl rfl)
theorem dX2_obstacle_92 : decode cX2_obstacle 92 = .ok (.getfield 67, 3) := dk_180 0 67 (dk_at dksX2_obstacle_4 0 rfl rfl)
theorem dX2_obstacle_95 : decode cX2_obstacle 95 = .ok (.aload_n 0, 1) := dk_42 (dk_at dksX2_obstacle_4 3 rfl rfl)
theorem dX2_obstacle_96 : decode cX2_obstacle 96 = .ok (.aload_n 2, 1) := dk_44 (dk_at dksX2_obstacle_4 4 rfl rfl)
theorem dX2_obstacle_97 : decode cX2_obstacle 97 = .ok (.invokevirtual 203, 3) := dk_182 0 203 (dk_at dksX2_obstacle_4 5 rfl rfl)
theorem dX2_obstacle_100 : decode cX2_obstacle 100 = .ok (.if_icmp .ge 19, 3) := dk_162 0 19 (dk_at dksX2_obstacle_4 8 rfl rfl)
theorem dX2_obstacle_103 : decode cX2_obstacle 103 = .ok (.new 192, 3) := dk_187 0 192 (dk_at dksX2_obstacle_4 11 rfl rfl)
theorem dX2_obstacle_106 : decode cX2_obstacle 106 = .ok (.dup, 1) := dk_89 (dk_at dksX2_obstacle_4 14 rfl rfl)
theorem dX2_obstacle_107 : decode cX2_obstacle 107 = .ok (.bipush 9, 2) := dk_16 9 (dk_at dksX2_obstacle_4 15 rfl rfl)
theorem dX2_obstacle_109 : decode cX2_obstacle 109 = .ok (.aload_n 1, 1) := dk_43 (dk_at dksX2_obstacle_4 17 rfl rfl)
theorem dX2_obstacle_110 : decode cX2_obstacle 110 = .ok (.getfield 67, 3) := dk_180 0 67 (dk_at dksX2_obstacle_4 18 rfl rfl)
theorem dX2_obstacle_113 : decode cX2_obstacle 113 = .ok (.invokespecial 195, 3) := dk_183 0 195 (dk_at dksX2_obstacle_4 21 rfl rfl)
theorem dX2_obstacle_116 : decode cX2_obstacle 116 = .ok (.goto 4, 3) := dk_167 0 4 (dk_at dksX2_obstacle_5 0 rfl rfl)
theorem dX2_obstacle_119 : decode cX2_obstacle 119 = .ok (.aconst_null, 1) := dk_1 (dk_at dksX2_obstacle_5 3 rfl rfl)
theorem dX2_obstacle_120 : decode cX2_obstacle 120 = .ok (.areturn, 1) := dk_176 (dk_at dksX2_obstacle_5 4 rfl rfl)
abbrev cX2_renew : ByteArray := prog_10_method_26_code
def yX2_renew : MethodName := ⟨RX2, "renew", "(II)I"⟩
def dkwX2_renew_1 : List UInt8 := [45, 180, 0, 213, 184, 0, 180, 45, 89, 180, 0, 213, 28, 96, 181, 0, 213, 45, 180, 0, 213, 172]
abbrev dktX2_renew_1 : List UInt8 := dkwX2_renew_1 ++ []
def dkwX2_renew_0 : List UInt8 := [42, 27, 182, 0, 216, 78, 45, 180, 0, 213, 28, 96, 16, 12, 164, 0, 7, 4, 167, 0, 4, 3, 16, 11]
abbrev dktX2_renew_0 : List UInt8 := dkwX2_renew_0 ++ dktX2_renew_1
theorem dksX2_renew_0 : cX2_renew.data.toList.drop 0 = dktX2_renew_0 := by decide +kernel
theorem dksX2_renew_1 : cX2_renew.data.toList.drop 24 = dktX2_renew_1 := dk_seg dksX2_renew_0 24 rfl rfl
theorem dX2_renew_0 : decode cX2_renew 0 = .ok (.aload_n 0, 1) := dk_42 (dk_at dksX2_renew_0 0 rfl rfl)
theorem dX2_renew_1 : decode cX2_renew 1 = .ok (.iload_n 1, 1) := dk_27 (dk_at dksX2_renew_0 1 rfl rfl)
theorem dX2_renew_2 : decode cX2_renew 2 = .ok (.invokevirtual 216, 3) := dk_182 0 216 (dk_at dksX2_renew_0 2 rfl rfl)
theorem dX2_renew_5 : decode cX2_renew 5 = .ok (.astore_n 3, 1) := dk_78 (dk_at dksX2_renew_0 5 rfl rfl)
theorem dX2_renew_6 : decode cX2_renew 6 = .ok (.aload_n 3, 1) := dk_45 (dk_at dksX2_renew_0 6 rfl rfl)
theorem dX2_renew_7 : decode cX2_renew 7 = .ok (.getfield 213, 3) := dk_180 0 213 (dk_at dksX2_renew_0 7 rfl rfl)
theorem dX2_renew_10 : decode cX2_renew 10 = .ok (.iload_n 2, 1) := dk_28 (dk_at dksX2_renew_0 10 rfl rfl)
theorem dX2_renew_11 : decode cX2_renew 11 = .ok (.iadd, 1) := dk_96 (dk_at dksX2_renew_0 11 rfl rfl)
theorem dX2_renew_12 : decode cX2_renew 12 = .ok (.bipush 12, 2) := dk_16 12 (dk_at dksX2_renew_0 12 rfl rfl)
theorem dX2_renew_14 : decode cX2_renew 14 = .ok (.if_icmp .le 7, 3) := dk_164 0 7 (dk_at dksX2_renew_0 14 rfl rfl)
theorem dX2_renew_17 : decode cX2_renew 17 = .ok (.iconst 1, 1) := dk_4 (dk_at dksX2_renew_0 17 rfl rfl)
theorem dX2_renew_18 : decode cX2_renew 18 = .ok (.goto 4, 3) := dk_167 0 4 (dk_at dksX2_renew_0 18 rfl rfl)
theorem dX2_renew_21 : decode cX2_renew 21 = .ok (.iconst 0, 1) := dk_3 (dk_at dksX2_renew_0 21 rfl rfl)
theorem dX2_renew_22 : decode cX2_renew 22 = .ok (.bipush 11, 2) := dk_16 11 (dk_at dksX2_renew_0 22 rfl rfl)
theorem dX2_renew_24 : decode cX2_renew 24 = .ok (.aload_n 3, 1) := dk_45 (dk_at dksX2_renew_1 0 rfl rfl)
theorem dX2_renew_25 : decode cX2_renew 25 = .ok (.getfield 213, 3) := dk_180 0 213 (dk_at dksX2_renew_1 1 rfl rfl)
theorem dX2_renew_28 : decode cX2_renew 28 = .ok (.invokestatic 180, 3) := dk_184 0 180 (dk_at dksX2_renew_1 4 rfl rfl)
theorem dX2_renew_31 : decode cX2_renew 31 = .ok (.aload_n 3, 1) := dk_45 (dk_at dksX2_renew_1 7 rfl rfl)
theorem dX2_renew_32 : decode cX2_renew 32 = .ok (.dup, 1) := dk_89 (dk_at dksX2_renew_1 8 rfl rfl)
theorem dX2_renew_33 : decode cX2_renew 33 = .ok (.getfield 213, 3) := dk_180 0 213 (dk_at dksX2_renew_1 9 rfl rfl)
theorem dX2_renew_36 : decode cX2_renew 36 = .ok (.iload_n 2, 1) := dk_28 (dk_at dksX2_renew_1 12 rfl rfl)
theorem dX2_renew_37 : decode cX2_renew 37 = .ok (.iadd, 1) := dk_96 (dk_at dksX2_renew_1 13 rfl rfl)
theorem dX2_renew_38 : decode cX2_renew 38 = .ok (.putfield 213, 3) := dk_181 0 213 (dk_at dksX2_renew_1 14 rfl rfl)
theorem dX2_renew_41 : decode cX2_renew 41 = .ok (.aload_n 3, 1) := dk_45 (dk_at dksX2_renew_1 17 rfl rfl)
theorem dX2_renew_42 : decode cX2_renew 42 = .ok (.getfield 213, 3) := dk_180 0 213 (dk_at dksX2_renew_1 18 rfl rfl)
theorem dX2_renew_45 : decode cX2_renew 45 = .ok (.ireturn, 1) := dk_172 (dk_at dksX2_renew_1 21 rfl rfl)
abbrev cX2_requireLet : ByteArray := prog_10_method_24_code
def yX2_requireLet : MethodName := ⟨RX2, "requireLet", "(I)LBenchBroker$Bench;"⟩
def dkwX2_requireLet_1 : List UInt8 := [16, 10, 27, 184, 0, 180, 44, 176]
abbrev dktX2_requireLet_1 : List UInt8 := dkwX2_requireLet_1 ++ []
def dkwX2_requireLet_0 : List UInt8 := [42, 180, 0, 12, 27, 182, 0, 33, 192, 0, 59, 77, 44, 182, 0, 196, 154, 0, 7, 4, 167, 0, 4, 3]
abbrev dktX2_requireLet_0 : List UInt8 := dkwX2_requireLet_0 ++ dktX2_requireLet_1
theorem dksX2_requireLet_0 : cX2_requireLet.data.toList.drop 0 = dktX2_requireLet_0 := by decide +kernel
theorem dksX2_requireLet_1 : cX2_requireLet.data.toList.drop 24 = dktX2_requireLet_1 := dk_seg dksX2_requireLet_0 24 rfl rfl
theorem dX2_requireLet_0 : decode cX2_requireLet 0 = .ok (.aload_n 0, 1) := dk_42 (dk_at dksX2_requireLet_0 0 rfl rfl)
theorem dX2_requireLet_1 : decode cX2_requireLet 1 = .ok (.getfield 12, 3) := dk_180 0 12 (dk_at dksX2_requireLet_0 1 rfl rfl)
theorem dX2_requireLet_4 : decode cX2_requireLet 4 = .ok (.iload_n 1, 1) := dk_27 (dk_at dksX2_requireLet_0 4 rfl rfl)
theorem dX2_requireLet_5 : decode cX2_requireLet 5 = .ok (.invokevirtual 33, 3) := dk_182 0 33 (dk_at dksX2_requireLet_0 5 rfl rfl)
theorem dX2_requireLet_8 : decode cX2_requireLet 8 = .ok (.checkcast 59, 3) := dk_192 0 59 (dk_at dksX2_requireLet_0 8 rfl rfl)
theorem dX2_requireLet_11 : decode cX2_requireLet 11 = .ok (.astore_n 2, 1) := dk_77 (dk_at dksX2_requireLet_0 11 rfl rfl)
theorem dX2_requireLet_12 : decode cX2_requireLet 12 = .ok (.aload_n 2, 1) := dk_44 (dk_at dksX2_requireLet_0 12 rfl rfl)
theorem dX2_requireLet_13 : decode cX2_requireLet 13 = .ok (.invokevirtual 196, 3) := dk_182 0 196 (dk_at dksX2_requireLet_0 13 rfl rfl)
theorem dX2_requireLet_16 : decode cX2_requireLet 16 = .ok (.ifCond .ne 7, 3) := dk_154 0 7 (dk_at dksX2_requireLet_0 16 rfl rfl)
theorem dX2_requireLet_19 : decode cX2_requireLet 19 = .ok (.iconst 1, 1) := dk_4 (dk_at dksX2_requireLet_0 19 rfl rfl)
theorem dX2_requireLet_20 : decode cX2_requireLet 20 = .ok (.goto 4, 3) := dk_167 0 4 (dk_at dksX2_requireLet_0 20 rfl rfl)
theorem dX2_requireLet_23 : decode cX2_requireLet 23 = .ok (.iconst 0, 1) := dk_3 (dk_at dksX2_requireLet_0 23 rfl rfl)
theorem dX2_requireLet_24 : decode cX2_requireLet 24 = .ok (.bipush 10, 2) := dk_16 10 (dk_at dksX2_requireLet_1 0 rfl rfl)
theorem dX2_requireLet_26 : decode cX2_requireLet 26 = .ok (.iload_n 1, 1) := dk_27 (dk_at dksX2_requireLet_1 2 rfl rfl)
theorem dX2_requireLet_27 : decode cX2_requireLet 27 = .ok (.invokestatic 180, 3) := dk_184 0 180 (dk_at dksX2_requireLet_1 3 rfl rfl)
theorem dX2_requireLet_30 : decode cX2_requireLet 30 = .ok (.aload_n 2, 1) := dk_44 (dk_at dksX2_requireLet_1 6 rfl rfl)
theorem dX2_requireLet_31 : decode cX2_requireLet 31 = .ok (.areturn, 1) := dk_176 (dk_at dksX2_requireLet_1 7 rfl rfl)
abbrev cX2_endLease : ByteArray := prog_10_method_25_code
def yX2_endLease : MethodName := ⟨RX2, "endLease", "(I)I"⟩
def dkwX2_endLease_2 : List UInt8 := [21, 5, 172]
abbrev dktX2_endLease_2 : List UInt8 := dkwX2_endLease_2 ++ []
def dkwX2_endLease_1 : List UInt8 := [89, 180, 0, 67, 21, 5, 96, 181, 0, 67, 42, 89, 180, 0, 90, 21, 4, 21, 5, 100, 96, 181, 0, 90]
abbrev dktX2_endLease_1 : List UInt8 := dkwX2_endLease_1 ++ dktX2_endLease_2
def dkwX2_endLease_0 : List UInt8 := [42, 27, 182, 0, 216, 77, 44, 180, 0, 105, 78, 44, 182, 0, 220, 54, 4, 21, 4, 5, 108, 54, 5, 45]
abbrev dktX2_endLease_0 : List UInt8 := dkwX2_endLease_0 ++ dktX2_endLease_1
theorem dksX2_endLease_0 : cX2_endLease.data.toList.drop 0 = dktX2_endLease_0 := by decide +kernel
theorem dksX2_endLease_1 : cX2_endLease.data.toList.drop 24 = dktX2_endLease_1 := dk_seg dksX2_endLease_0 24 rfl rfl
theorem dksX2_endLease_2 : cX2_endLease.data.toList.drop 48 = dktX2_endLease_2 := dk_seg dksX2_endLease_1 24 rfl rfl
theorem dX2_endLease_0 : decode cX2_endLease 0 = .ok (.aload_n 0, 1) := dk_42 (dk_at dksX2_endLease_0 0 rfl rfl)
theorem dX2_endLease_1 : decode cX2_endLease 1 = .ok (.iload_n 1, 1) := dk_27 (dk_at dksX2_endLease_0 1 rfl rfl)
theorem dX2_endLease_2 : decode cX2_endLease 2 = .ok (.invokevirtual 216, 3) := dk_182 0 216 (dk_at dksX2_endLease_0 2 rfl rfl)
theorem dX2_endLease_5 : decode cX2_endLease 5 = .ok (.astore_n 2, 1) := dk_77 (dk_at dksX2_endLease_0 5 rfl rfl)
theorem dX2_endLease_6 : decode cX2_endLease 6 = .ok (.aload_n 2, 1) := dk_44 (dk_at dksX2_endLease_0 6 rfl rfl)
theorem dX2_endLease_7 : decode cX2_endLease 7 = .ok (.getfield 105, 3) := dk_180 0 105 (dk_at dksX2_endLease_0 7 rfl rfl)
theorem dX2_endLease_10 : decode cX2_endLease 10 = .ok (.astore_n 3, 1) := dk_78 (dk_at dksX2_endLease_0 10 rfl rfl)
theorem dX2_endLease_11 : decode cX2_endLease 11 = .ok (.aload_n 2, 1) := dk_44 (dk_at dksX2_endLease_0 11 rfl rfl)
theorem dX2_endLease_12 : decode cX2_endLease 12 = .ok (.invokevirtual 220, 3) := dk_182 0 220 (dk_at dksX2_endLease_0 12 rfl rfl)
theorem dX2_endLease_15 : decode cX2_endLease 15 = .ok (.istore 4, 2) := dk_54 4 (dk_at dksX2_endLease_0 15 rfl rfl)
theorem dX2_endLease_17 : decode cX2_endLease 17 = .ok (.iload 4, 2) := dk_21 4 (dk_at dksX2_endLease_0 17 rfl rfl)
theorem dX2_endLease_19 : decode cX2_endLease 19 = .ok (.iconst 2, 1) := dk_5 (dk_at dksX2_endLease_0 19 rfl rfl)
theorem dX2_endLease_20 : decode cX2_endLease 20 = .ok (.idiv, 1) := dk_108 (dk_at dksX2_endLease_0 20 rfl rfl)
theorem dX2_endLease_21 : decode cX2_endLease 21 = .ok (.istore 5, 2) := dk_54 5 (dk_at dksX2_endLease_0 21 rfl rfl)
theorem dX2_endLease_23 : decode cX2_endLease 23 = .ok (.aload_n 3, 1) := dk_45 (dk_at dksX2_endLease_0 23 rfl rfl)
theorem dX2_endLease_24 : decode cX2_endLease 24 = .ok (.dup, 1) := dk_89 (dk_at dksX2_endLease_1 0 rfl rfl)
theorem dX2_endLease_25 : decode cX2_endLease 25 = .ok (.getfield 67, 3) := dk_180 0 67 (dk_at dksX2_endLease_1 1 rfl rfl)
theorem dX2_endLease_28 : decode cX2_endLease 28 = .ok (.iload 5, 2) := dk_21 5 (dk_at dksX2_endLease_1 4 rfl rfl)
theorem dX2_endLease_30 : decode cX2_endLease 30 = .ok (.iadd, 1) := dk_96 (dk_at dksX2_endLease_1 6 rfl rfl)
theorem dX2_endLease_31 : decode cX2_endLease 31 = .ok (.putfield 67, 3) := dk_181 0 67 (dk_at dksX2_endLease_1 7 rfl rfl)
theorem dX2_endLease_34 : decode cX2_endLease 34 = .ok (.aload_n 0, 1) := dk_42 (dk_at dksX2_endLease_1 10 rfl rfl)
theorem dX2_endLease_35 : decode cX2_endLease 35 = .ok (.dup, 1) := dk_89 (dk_at dksX2_endLease_1 11 rfl rfl)
theorem dX2_endLease_36 : decode cX2_endLease 36 = .ok (.getfield 90, 3) := dk_180 0 90 (dk_at dksX2_endLease_1 12 rfl rfl)
theorem dX2_endLease_39 : decode cX2_endLease 39 = .ok (.iload 4, 2) := dk_21 4 (dk_at dksX2_endLease_1 15 rfl rfl)
theorem dX2_endLease_41 : decode cX2_endLease 41 = .ok (.iload 5, 2) := dk_21 5 (dk_at dksX2_endLease_1 17 rfl rfl)
theorem dX2_endLease_43 : decode cX2_endLease 43 = .ok (.isub, 1) := dk_100 (dk_at dksX2_endLease_1 19 rfl rfl)
theorem dX2_endLease_44 : decode cX2_endLease 44 = .ok (.iadd, 1) := dk_96 (dk_at dksX2_endLease_1 20 rfl rfl)
theorem dX2_endLease_45 : decode cX2_endLease 45 = .ok (.putfield 90, 3) := dk_181 0 90 (dk_at dksX2_endLease_1 21 rfl rfl)
theorem dX2_endLease_48 : decode cX2_endLease 48 = .ok (.iload 5, 2) := dk_21 5 (dk_at dksX2_endLease_2 0 rfl rfl)
theorem dX2_endLease_50 : decode cX2_endLease 50 = .ok (.ireturn, 1) := dk_172 (dk_at dksX2_endLease_2 2 rfl rfl)
abbrev cX2_giveCoins : ByteArray := prog_10_method_20_code
def yX2_giveCoins : MethodName := ⟨RX2, "giveCoins", "(II)I"⟩
def dkwX2_giveCoins_1 : List UInt8 := [180, 0, 93, 28, 96, 181, 0, 93, 45, 180, 0, 67, 172]
abbrev dktX2_giveCoins_1 : List UInt8 := dkwX2_giveCoins_1 ++ []
def dkwX2_giveCoins_0 : List UInt8 := [42, 180, 0, 21, 27, 182, 0, 33, 192, 0, 65, 78, 45, 89, 180, 0, 67, 28, 96, 181, 0, 67, 42, 89]
abbrev dktX2_giveCoins_0 : List UInt8 := dkwX2_giveCoins_0 ++ dktX2_giveCoins_1
theorem dksX2_giveCoins_0 : cX2_giveCoins.data.toList.drop 0 = dktX2_giveCoins_0 := by decide +kernel
theorem dksX2_giveCoins_1 : cX2_giveCoins.data.toList.drop 24 = dktX2_giveCoins_1 := dk_seg dksX2_giveCoins_0 24 rfl rfl
theorem dX2_giveCoins_0 : decode cX2_giveCoins 0 = .ok (.aload_n 0, 1) := dk_42 (dk_at dksX2_giveCoins_0 0 rfl rfl)
theorem dX2_giveCoins_1 : decode cX2_giveCoins 1 = .ok (.getfield 21, 3) := dk_180 0 21 (dk_at dksX2_giveCoins_0 1 rfl rfl)
theorem dX2_giveCoins_4 : decode cX2_giveCoins 4 = .ok (.iload_n 1, 1) := dk_27 (dk_at dksX2_giveCoins_0 4 rfl rfl)
theorem dX2_giveCoins_5 : decode cX2_giveCoins 5 = .ok (.invokevirtual 33, 3) := dk_182 0 33 (dk_at dksX2_giveCoins_0 5 rfl rfl)
theorem dX2_giveCoins_8 : decode cX2_giveCoins 8 = .ok (.checkcast 65, 3) := dk_192 0 65 (dk_at dksX2_giveCoins_0 8 rfl rfl)
theorem dX2_giveCoins_11 : decode cX2_giveCoins 11 = .ok (.astore_n 3, 1) := dk_78 (dk_at dksX2_giveCoins_0 11 rfl rfl)
theorem dX2_giveCoins_12 : decode cX2_giveCoins 12 = .ok (.aload_n 3, 1) := dk_45 (dk_at dksX2_giveCoins_0 12 rfl rfl)
theorem dX2_giveCoins_13 : decode cX2_giveCoins 13 = .ok (.dup, 1) := dk_89 (dk_at dksX2_giveCoins_0 13 rfl rfl)
theorem dX2_giveCoins_14 : decode cX2_giveCoins 14 = .ok (.getfield 67, 3) := dk_180 0 67 (dk_at dksX2_giveCoins_0 14 rfl rfl)
theorem dX2_giveCoins_17 : decode cX2_giveCoins 17 = .ok (.iload_n 2, 1) := dk_28 (dk_at dksX2_giveCoins_0 17 rfl rfl)
theorem dX2_giveCoins_18 : decode cX2_giveCoins 18 = .ok (.iadd, 1) := dk_96 (dk_at dksX2_giveCoins_0 18 rfl rfl)
theorem dX2_giveCoins_19 : decode cX2_giveCoins 19 = .ok (.putfield 67, 3) := dk_181 0 67 (dk_at dksX2_giveCoins_0 19 rfl rfl)
theorem dX2_giveCoins_22 : decode cX2_giveCoins 22 = .ok (.aload_n 0, 1) := dk_42 (dk_at dksX2_giveCoins_0 22 rfl rfl)
theorem dX2_giveCoins_23 : decode cX2_giveCoins 23 = .ok (.dup, 1) := dk_89 (dk_at dksX2_giveCoins_0 23 rfl rfl)
theorem dX2_giveCoins_24 : decode cX2_giveCoins 24 = .ok (.getfield 93, 3) := dk_180 0 93 (dk_at dksX2_giveCoins_1 0 rfl rfl)
theorem dX2_giveCoins_27 : decode cX2_giveCoins 27 = .ok (.iload_n 2, 1) := dk_28 (dk_at dksX2_giveCoins_1 3 rfl rfl)
theorem dX2_giveCoins_28 : decode cX2_giveCoins 28 = .ok (.iadd, 1) := dk_96 (dk_at dksX2_giveCoins_1 4 rfl rfl)
theorem dX2_giveCoins_29 : decode cX2_giveCoins 29 = .ok (.putfield 93, 3) := dk_181 0 93 (dk_at dksX2_giveCoins_1 5 rfl rfl)
theorem dX2_giveCoins_32 : decode cX2_giveCoins 32 = .ok (.aload_n 3, 1) := dk_45 (dk_at dksX2_giveCoins_1 8 rfl rfl)
theorem dX2_giveCoins_33 : decode cX2_giveCoins 33 = .ok (.getfield 67, 3) := dk_180 0 67 (dk_at dksX2_giveCoins_1 9 rfl rfl)
theorem dX2_giveCoins_36 : decode cX2_giveCoins 36 = .ok (.ireturn, 1) := dk_172 (dk_at dksX2_giveCoins_1 12 rfl rfl)
abbrev cX2_switchFountain : ByteArray := prog_10_method_17_code
def yX2_switchFountain : MethodName := ⟨RX2, "switchFountain", "(I)Z"⟩
def dkwX2_switchFountain_1 : List UInt8 := [3, 181, 0, 51, 44, 180, 0, 51, 172]
abbrev dktX2_switchFountain_1 : List UInt8 := dkwX2_switchFountain_1 ++ []
def dkwX2_switchFountain_0 : List UInt8 := [42, 180, 0, 18, 27, 182, 0, 33, 192, 0, 37, 77, 44, 44, 180, 0, 51, 154, 0, 7, 4, 167, 0, 4]
abbrev dktX2_switchFountain_0 : List UInt8 := dkwX2_switchFountain_0 ++ dktX2_switchFountain_1
theorem dksX2_switchFountain_0 : cX2_switchFountain.data.toList.drop 0 = dktX2_switchFountain_0 := by decide +kernel
theorem dksX2_switchFountain_1 : cX2_switchFountain.data.toList.drop 24 = dktX2_switchFountain_1 := dk_seg dksX2_switchFountain_0 24 rfl rfl
theorem dX2_switchFountain_0 : decode cX2_switchFountain 0 = .ok (.aload_n 0, 1) := dk_42 (dk_at dksX2_switchFountain_0 0 rfl rfl)
theorem dX2_switchFountain_1 : decode cX2_switchFountain 1 = .ok (.getfield 18, 3) := dk_180 0 18 (dk_at dksX2_switchFountain_0 1 rfl rfl)
theorem dX2_switchFountain_4 : decode cX2_switchFountain 4 = .ok (.iload_n 1, 1) := dk_27 (dk_at dksX2_switchFountain_0 4 rfl rfl)
theorem dX2_switchFountain_5 : decode cX2_switchFountain 5 = .ok (.invokevirtual 33, 3) := dk_182 0 33 (dk_at dksX2_switchFountain_0 5 rfl rfl)
theorem dX2_switchFountain_8 : decode cX2_switchFountain 8 = .ok (.checkcast 37, 3) := dk_192 0 37 (dk_at dksX2_switchFountain_0 8 rfl rfl)
theorem dX2_switchFountain_11 : decode cX2_switchFountain 11 = .ok (.astore_n 2, 1) := dk_77 (dk_at dksX2_switchFountain_0 11 rfl rfl)
theorem dX2_switchFountain_12 : decode cX2_switchFountain 12 = .ok (.aload_n 2, 1) := dk_44 (dk_at dksX2_switchFountain_0 12 rfl rfl)
theorem dX2_switchFountain_13 : decode cX2_switchFountain 13 = .ok (.aload_n 2, 1) := dk_44 (dk_at dksX2_switchFountain_0 13 rfl rfl)
theorem dX2_switchFountain_14 : decode cX2_switchFountain 14 = .ok (.getfield 51, 3) := dk_180 0 51 (dk_at dksX2_switchFountain_0 14 rfl rfl)
theorem dX2_switchFountain_17 : decode cX2_switchFountain 17 = .ok (.ifCond .ne 7, 3) := dk_154 0 7 (dk_at dksX2_switchFountain_0 17 rfl rfl)
theorem dX2_switchFountain_20 : decode cX2_switchFountain 20 = .ok (.iconst 1, 1) := dk_4 (dk_at dksX2_switchFountain_0 20 rfl rfl)
theorem dX2_switchFountain_21 : decode cX2_switchFountain 21 = .ok (.goto 4, 3) := dk_167 0 4 (dk_at dksX2_switchFountain_0 21 rfl rfl)
theorem dX2_switchFountain_24 : decode cX2_switchFountain 24 = .ok (.iconst 0, 1) := dk_3 (dk_at dksX2_switchFountain_1 0 rfl rfl)
theorem dX2_switchFountain_25 : decode cX2_switchFountain 25 = .ok (.putfield 51, 3) := dk_181 0 51 (dk_at dksX2_switchFountain_1 1 rfl rfl)
theorem dX2_switchFountain_28 : decode cX2_switchFountain 28 = .ok (.aload_n 2, 1) := dk_44 (dk_at dksX2_switchFountain_1 4 rfl rfl)
theorem dX2_switchFountain_29 : decode cX2_switchFountain 29 = .ok (.getfield 51, 3) := dk_180 0 51 (dk_at dksX2_switchFountain_1 5 rfl rfl)
theorem dX2_switchFountain_32 : decode cX2_switchFountain 32 = .ok (.ireturn, 1) := dk_172 (dk_at dksX2_switchFountain_1 8 rfl rfl)
abbrev cX2_setNoiseLimit : ByteArray := prog_10_method_18_code
def yX2_setNoiseLimit : MethodName := ⟨RX2, "setNoiseLimit", "(I)I"⟩
def dkwX2_setNoiseLimit_0 : List UInt8 := [42, 180, 0, 24, 61, 42, 27, 181, 0, 24, 28, 172]
abbrev dktX2_setNoiseLimit_0 : List UInt8 := dkwX2_setNoiseLimit_0 ++ []
theorem dksX2_setNoiseLimit_0 : cX2_setNoiseLimit.data.toList.drop 0 = dktX2_setNoiseLimit_0 := by decide +kernel
theorem dX2_setNoiseLimit_0 : decode cX2_setNoiseLimit 0 = .ok (.aload_n 0, 1) := dk_42 (dk_at dksX2_setNoiseLimit_0 0 rfl rfl)
theorem dX2_setNoiseLimit_1 : decode cX2_setNoiseLimit 1 = .ok (.getfield 24, 3) := dk_180 0 24 (dk_at dksX2_setNoiseLimit_0 1 rfl rfl)
theorem dX2_setNoiseLimit_4 : decode cX2_setNoiseLimit 4 = .ok (.istore_n 2, 1) := dk_61 (dk_at dksX2_setNoiseLimit_0 4 rfl rfl)
theorem dX2_setNoiseLimit_5 : decode cX2_setNoiseLimit 5 = .ok (.aload_n 0, 1) := dk_42 (dk_at dksX2_setNoiseLimit_0 5 rfl rfl)
theorem dX2_setNoiseLimit_6 : decode cX2_setNoiseLimit 6 = .ok (.iload_n 1, 1) := dk_27 (dk_at dksX2_setNoiseLimit_0 6 rfl rfl)
theorem dX2_setNoiseLimit_7 : decode cX2_setNoiseLimit 7 = .ok (.putfield 24, 3) := dk_181 0 24 (dk_at dksX2_setNoiseLimit_0 7 rfl rfl)
theorem dX2_setNoiseLimit_10 : decode cX2_setNoiseLimit 10 = .ok (.iload_n 2, 1) := dk_28 (dk_at dksX2_setNoiseLimit_0 10 rfl rfl)
theorem dX2_setNoiseLimit_11 : decode cX2_setNoiseLimit 11 = .ok (.ireturn, 1) := dk_172 (dk_at dksX2_setNoiseLimit_0 11 rfl rfl)
abbrev cX2_setRent : ByteArray := prog_10_method_14_code
def yX2_setRent : MethodName := ⟨RX2, "setRent", "(II)I"⟩
def dkwX2_setRent_1 : List UInt8 := [21, 4, 172]
abbrev dktX2_setRent_1 : List UInt8 := dkwX2_setRent_1 ++ []
def dkwX2_setRent_0 : List UInt8 := [42, 180, 0, 12, 27, 182, 0, 33, 192, 0, 59, 78, 45, 180, 0, 164, 54, 4, 45, 28, 181, 0, 164]
abbrev dktX2_setRent_0 : List UInt8 := dkwX2_setRent_0 ++ dktX2_setRent_1
theorem dksX2_setRent_0 : cX2_setRent.data.toList.drop 0 = dktX2_setRent_0 := by decide +kernel
theorem dksX2_setRent_1 : cX2_setRent.data.toList.drop 23 = dktX2_setRent_1 := dk_seg dksX2_setRent_0 23 rfl rfl
theorem dX2_setRent_0 : decode cX2_setRent 0 = .ok (.aload_n 0, 1) := dk_42 (dk_at dksX2_setRent_0 0 rfl rfl)
theorem dX2_setRent_1 : decode cX2_setRent 1 = .ok (.getfield 12, 3) := dk_180 0 12 (dk_at dksX2_setRent_0 1 rfl rfl)
theorem dX2_setRent_4 : decode cX2_setRent 4 = .ok (.iload_n 1, 1) := dk_27 (dk_at dksX2_setRent_0 4 rfl rfl)
theorem dX2_setRent_5 : decode cX2_setRent 5 = .ok (.invokevirtual 33, 3) := dk_182 0 33 (dk_at dksX2_setRent_0 5 rfl rfl)
theorem dX2_setRent_8 : decode cX2_setRent 8 = .ok (.checkcast 59, 3) := dk_192 0 59 (dk_at dksX2_setRent_0 8 rfl rfl)
theorem dX2_setRent_11 : decode cX2_setRent 11 = .ok (.astore_n 3, 1) := dk_78 (dk_at dksX2_setRent_0 11 rfl rfl)
theorem dX2_setRent_12 : decode cX2_setRent 12 = .ok (.aload_n 3, 1) := dk_45 (dk_at dksX2_setRent_0 12 rfl rfl)
theorem dX2_setRent_13 : decode cX2_setRent 13 = .ok (.getfield 164, 3) := dk_180 0 164 (dk_at dksX2_setRent_0 13 rfl rfl)
theorem dX2_setRent_16 : decode cX2_setRent 16 = .ok (.istore 4, 2) := dk_54 4 (dk_at dksX2_setRent_0 16 rfl rfl)
theorem dX2_setRent_18 : decode cX2_setRent 18 = .ok (.aload_n 3, 1) := dk_45 (dk_at dksX2_setRent_0 18 rfl rfl)
theorem dX2_setRent_19 : decode cX2_setRent 19 = .ok (.iload_n 2, 1) := dk_28 (dk_at dksX2_setRent_0 19 rfl rfl)
theorem dX2_setRent_20 : decode cX2_setRent 20 = .ok (.putfield 164, 3) := dk_181 0 164 (dk_at dksX2_setRent_0 20 rfl rfl)
theorem dX2_setRent_23 : decode cX2_setRent 23 = .ok (.iload 4, 2) := dk_21 4 (dk_at dksX2_setRent_1 0 rfl rfl)
theorem dX2_setRent_25 : decode cX2_setRent 25 = .ok (.ireturn, 1) := dk_172 (dk_at dksX2_setRent_1 2 rfl rfl)
abbrev cX2_setLoudness : ByteArray := prog_10_method_16_code
def yX2_setLoudness : MethodName := ⟨RX2, "setLoudness", "(II)I"⟩
def dkwX2_setLoudness_1 : List UInt8 := [21, 4, 172]
abbrev dktX2_setLoudness_1 : List UInt8 := dkwX2_setLoudness_1 ++ []
def dkwX2_setLoudness_0 : List UInt8 := [42, 180, 0, 18, 27, 182, 0, 33, 192, 0, 37, 78, 45, 180, 0, 48, 54, 4, 45, 28, 181, 0, 48]
abbrev dktX2_setLoudness_0 : List UInt8 := dkwX2_setLoudness_0 ++ dktX2_setLoudness_1
theorem dksX2_setLoudness_0 : cX2_setLoudness.data.toList.drop 0 = dktX2_setLoudness_0 := by decide +kernel
theorem dksX2_setLoudness_1 : cX2_setLoudness.data.toList.drop 23 = dktX2_setLoudness_1 := dk_seg dksX2_setLoudness_0 23 rfl rfl
theorem dX2_setLoudness_0 : decode cX2_setLoudness 0 = .ok (.aload_n 0, 1) := dk_42 (dk_at dksX2_setLoudness_0 0 rfl rfl)
theorem dX2_setLoudness_1 : decode cX2_setLoudness 1 = .ok (.getfield 18, 3) := dk_180 0 18 (dk_at dksX2_setLoudness_0 1 rfl rfl)
theorem dX2_setLoudness_4 : decode cX2_setLoudness 4 = .ok (.iload_n 1, 1) := dk_27 (dk_at dksX2_setLoudness_0 4 rfl rfl)
theorem dX2_setLoudness_5 : decode cX2_setLoudness 5 = .ok (.invokevirtual 33, 3) := dk_182 0 33 (dk_at dksX2_setLoudness_0 5 rfl rfl)
theorem dX2_setLoudness_8 : decode cX2_setLoudness 8 = .ok (.checkcast 37, 3) := dk_192 0 37 (dk_at dksX2_setLoudness_0 8 rfl rfl)
theorem dX2_setLoudness_11 : decode cX2_setLoudness 11 = .ok (.astore_n 3, 1) := dk_78 (dk_at dksX2_setLoudness_0 11 rfl rfl)
theorem dX2_setLoudness_12 : decode cX2_setLoudness 12 = .ok (.aload_n 3, 1) := dk_45 (dk_at dksX2_setLoudness_0 12 rfl rfl)
theorem dX2_setLoudness_13 : decode cX2_setLoudness 13 = .ok (.getfield 48, 3) := dk_180 0 48 (dk_at dksX2_setLoudness_0 13 rfl rfl)
theorem dX2_setLoudness_16 : decode cX2_setLoudness 16 = .ok (.istore 4, 2) := dk_54 4 (dk_at dksX2_setLoudness_0 16 rfl rfl)
theorem dX2_setLoudness_18 : decode cX2_setLoudness 18 = .ok (.aload_n 3, 1) := dk_45 (dk_at dksX2_setLoudness_0 18 rfl rfl)
theorem dX2_setLoudness_19 : decode cX2_setLoudness 19 = .ok (.iload_n 2, 1) := dk_28 (dk_at dksX2_setLoudness_0 19 rfl rfl)
theorem dX2_setLoudness_20 : decode cX2_setLoudness 20 = .ok (.putfield 48, 3) := dk_181 0 48 (dk_at dksX2_setLoudness_0 20 rfl rfl)
theorem dX2_setLoudness_23 : decode cX2_setLoudness 23 = .ok (.iload 4, 2) := dk_21 4 (dk_at dksX2_setLoudness_1 0 rfl rfl)
theorem dX2_setLoudness_25 : decode cX2_setLoudness 25 = .ok (.ireturn, 1) := dk_172 (dk_at dksX2_setLoudness_1 2 rfl rfl)
abbrev cX2_noiseBySpreading : ByteArray := prog_10_method_8_code
def yX2_noiseBySpreading : MethodName := ⟨RX2, "noiseBySpreading", "(II)I"⟩
def dkwX2_noiseBySpreading_0 : List UInt8 := [42, 182, 0, 155, 16, 6, 27, 104, 28, 96, 46, 172]
abbrev dktX2_noiseBySpreading_0 : List UInt8 := dkwX2_noiseBySpreading_0 ++ []
theorem dksX2_noiseBySpreading_0 : cX2_noiseBySpreading.data.toList.drop 0 = dktX2_noiseBySpreading_0 := by decide +kernel
theorem dX2_noiseBySpreading_0 : decode cX2_noiseBySpreading 0 = .ok (.aload_n 0, 1) := dk_42 (dk_at dksX2_noiseBySpreading_0 0 rfl rfl)
theorem dX2_noiseBySpreading_1 : decode cX2_noiseBySpreading 1 = .ok (.invokevirtual 155, 3) := dk_182 0 155 (dk_at dksX2_noiseBySpreading_0 1 rfl rfl)
theorem dX2_noiseBySpreading_4 : decode cX2_noiseBySpreading 4 = .ok (.bipush 6, 2) := dk_16 6 (dk_at dksX2_noiseBySpreading_0 4 rfl rfl)
theorem dX2_noiseBySpreading_6 : decode cX2_noiseBySpreading 6 = .ok (.iload_n 1, 1) := dk_27 (dk_at dksX2_noiseBySpreading_0 6 rfl rfl)
theorem dX2_noiseBySpreading_7 : decode cX2_noiseBySpreading 7 = .ok (.imul, 1) := dk_104 (dk_at dksX2_noiseBySpreading_0 7 rfl rfl)
theorem dX2_noiseBySpreading_8 : decode cX2_noiseBySpreading 8 = .ok (.iload_n 2, 1) := dk_28 (dk_at dksX2_noiseBySpreading_0 8 rfl rfl)
theorem dX2_noiseBySpreading_9 : decode cX2_noiseBySpreading 9 = .ok (.iadd, 1) := dk_96 (dk_at dksX2_noiseBySpreading_0 9 rfl rfl)
theorem dX2_noiseBySpreading_10 : decode cX2_noiseBySpreading 10 = .ok (.iaload, 1) := dk_46 (dk_at dksX2_noiseBySpreading_0 10 rfl rfl)
theorem dX2_noiseBySpreading_11 : decode cX2_noiseBySpreading 11 = .ok (.ireturn, 1) := dk_172 (dk_at dksX2_noiseBySpreading_0 11 rfl rfl)
abbrev cX2_cheapestFor : ByteArray := prog_10_method_22_code
def yX2_cheapestFor : MethodName := ⟨RX2, "cheapestFor", "(LBenchBroker$Tenant;)I"⟩
def dkwX2_cheapestFor_3 : List UInt8 := [42, 43, 25, 4, 182, 0, 206, 199, 0, 7, 29, 167, 0, 4, 28, 61, 132, 3, 1, 167, 255, 172, 28, 172]
abbrev dktX2_cheapestFor_3 : List UInt8 := dkwX2_cheapestFor_3 ++ []
def dkwX2_cheapestFor_2 : List UInt8 := [182, 0, 33, 192, 0, 59, 182, 0, 203, 162, 0, 7, 4, 167, 0, 4, 3, 54, 5, 21, 5, 153, 0, 17]
abbrev dktX2_cheapestFor_2 : List UInt8 := dkwX2_cheapestFor_2 ++ dktX2_cheapestFor_3
def dkwX2_cheapestFor_1 : List UInt8 := [192, 0, 59, 58, 4, 28, 2, 159, 0, 27, 42, 25, 4, 182, 0, 203, 42, 42, 180, 0, 12, 28]
abbrev dktX2_cheapestFor_1 : List UInt8 := dkwX2_cheapestFor_1 ++ dktX2_cheapestFor_2
def dkwX2_cheapestFor_0 : List UInt8 := [2, 61, 3, 62, 29, 42, 180, 0, 12, 182, 0, 29, 162, 0, 79, 42, 180, 0, 12, 29, 182, 0, 33]
abbrev dktX2_cheapestFor_0 : List UInt8 := dkwX2_cheapestFor_0 ++ dktX2_cheapestFor_1
theorem dksX2_cheapestFor_0 : cX2_cheapestFor.data.toList.drop 0 = dktX2_cheapestFor_0 := by decide +kernel
theorem dksX2_cheapestFor_1 : cX2_cheapestFor.data.toList.drop 23 = dktX2_cheapestFor_1 := dk_seg dksX2_cheapestFor_0 23 rfl rfl
theorem dksX2_cheapestFor_2 : cX2_cheapestFor.data.toList.drop 45 = dktX2_cheapestFor_2 := dk_seg dksX2_cheapestFor_1 22 rfl rfl
theorem dksX2_cheapestFor_3 : cX2_cheapestFor.data.toList.drop 69 = dktX2_cheapestFor_3 := dk_seg dksX2_cheapestFor_2 24 rfl rfl
theorem dX2_cheapestFor_0 : decode cX2_cheapestFor 0 = .ok (.iconst (-1), 1) := dk_2 (dk_at dksX2_cheapestFor_0 0 rfl rfl)
theorem dX2_cheapestFor_1 : decode cX2_cheapestFor 1 = .ok (.istore_n 2, 1) := dk_61 (dk_at dksX2_cheapestFor_0 1 rfl rfl)
theorem dX2_cheapestFor_2 : decode cX2_cheapestFor 2 = .ok (.iconst 0, 1) := dk_3 (dk_at dksX2_cheapestFor_0 2 rfl rfl)
theorem dX2_cheapestFor_3 : decode cX2_cheapestFor 3 = .ok (.istore_n 3, 1) := dk_62 (dk_at dksX2_cheapestFor_0 3 rfl rfl)
theorem dX2_cheapestFor_4 : decode cX2_cheapestFor 4 = .ok (.iload_n 3, 1) := dk_29 (dk_at dksX2_cheapestFor_0 4 rfl rfl)
theorem dX2_cheapestFor_5 : decode cX2_cheapestFor 5 = .ok (.aload_n 0, 1) := dk_42 (dk_at dksX2_cheapestFor_0 5 rfl rfl)
theorem dX2_cheapestFor_6 : decode cX2_cheapestFor 6 = .ok (.getfield 12, 3) := dk_180 0 12 (dk_at dksX2_cheapestFor_0 6 rfl rfl)
theorem dX2_cheapestFor_9 : decode cX2_cheapestFor 9 = .ok (.invokevirtual 29, 3) := dk_182 0 29 (dk_at dksX2_cheapestFor_0 9 rfl rfl)
theorem dX2_cheapestFor_12 : decode cX2_cheapestFor 12 = .ok (.if_icmp .ge 79, 3) := dk_162 0 79 (dk_at dksX2_cheapestFor_0 12 rfl rfl)
theorem dX2_cheapestFor_15 : decode cX2_cheapestFor 15 = .ok (.aload_n 0, 1) := dk_42 (dk_at dksX2_cheapestFor_0 15 rfl rfl)
theorem dX2_cheapestFor_16 : decode cX2_cheapestFor 16 = .ok (.getfield 12, 3) := dk_180 0 12 (dk_at dksX2_cheapestFor_0 16 rfl rfl)
theorem dX2_cheapestFor_19 : decode cX2_cheapestFor 19 = .ok (.iload_n 3, 1) := dk_29 (dk_at dksX2_cheapestFor_0 19 rfl rfl)
theorem dX2_cheapestFor_20 : decode cX2_cheapestFor 20 = .ok (.invokevirtual 33, 3) := dk_182 0 33 (dk_at dksX2_cheapestFor_0 20 rfl rfl)
theorem dX2_cheapestFor_23 : decode cX2_cheapestFor 23 = .ok (.checkcast 59, 3) := dk_192 0 59 (dk_at dksX2_cheapestFor_1 0 rfl rfl)
theorem dX2_cheapestFor_26 : decode cX2_cheapestFor 26 = .ok (.astore 4, 2) := dk_58 4 (dk_at dksX2_cheapestFor_1 3 rfl rfl)
theorem dX2_cheapestFor_28 : decode cX2_cheapestFor 28 = .ok (.iload_n 2, 1) := dk_28 (dk_at dksX2_cheapestFor_1 5 rfl rfl)
theorem dX2_cheapestFor_29 : decode cX2_cheapestFor 29 = .ok (.iconst (-1), 1) := dk_2 (dk_at dksX2_cheapestFor_1 6 rfl rfl)
theorem dX2_cheapestFor_30 : decode cX2_cheapestFor 30 = .ok (.if_icmp .eq 27, 3) := dk_159 0 27 (dk_at dksX2_cheapestFor_1 7 rfl rfl)
theorem dX2_cheapestFor_33 : decode cX2_cheapestFor 33 = .ok (.aload_n 0, 1) := dk_42 (dk_at dksX2_cheapestFor_1 10 rfl rfl)
theorem dX2_cheapestFor_34 : decode cX2_cheapestFor 34 = .ok (.aload 4, 2) := dk_25 4 (dk_at dksX2_cheapestFor_1 11 rfl rfl)
theorem dX2_cheapestFor_36 : decode cX2_cheapestFor 36 = .ok (.invokevirtual 203, 3) := dk_182 0 203 (dk_at dksX2_cheapestFor_1 13 rfl rfl)
theorem dX2_cheapestFor_39 : decode cX2_cheapestFor 39 = .ok (.aload_n 0, 1) := dk_42 (dk_at dksX2_cheapestFor_1 16 rfl rfl)
theorem dX2_cheapestFor_40 : decode cX2_cheapestFor 40 = .ok (.aload_n 0, 1) := dk_42 (dk_at dksX2_cheapestFor_1 17 rfl rfl)
theorem dX2_cheapestFor_41 : decode cX2_cheapestFor 41 = .ok (.getfield 12, 3) := dk_180 0 12 (dk_at dksX2_cheapestFor_1 18 rfl rfl)
theorem dX2_cheapestFor_44 : decode cX2_cheapestFor 44 = .ok (.iload_n 2, 1) := dk_28 (dk_at dksX2_cheapestFor_1 21 rfl rfl)
theorem dX2_cheapestFor_45 : decode cX2_cheapestFor 45 = .ok (.invokevirtual 33, 3) := dk_182 0 33 (dk_at dksX2_cheapestFor_2 0 rfl rfl)
theorem dX2_cheapestFor_48 : decode cX2_cheapestFor 48 = .ok (.checkcast 59, 3) := dk_192 0 59 (dk_at dksX2_cheapestFor_2 3 rfl rfl)
theorem dX2_cheapestFor_51 : decode cX2_cheapestFor 51 = .ok (.invokevirtual 203, 3) := dk_182 0 203 (dk_at dksX2_cheapestFor_2 6 rfl rfl)
theorem dX2_cheapestFor_54 : decode cX2_cheapestFor 54 = .ok (.if_icmp .ge 7, 3) := dk_162 0 7 (dk_at dksX2_cheapestFor_2 9 rfl rfl)
theorem dX2_cheapestFor_57 : decode cX2_cheapestFor 57 = .ok (.iconst 1, 1) := dk_4 (dk_at dksX2_cheapestFor_2 12 rfl rfl)
theorem dX2_cheapestFor_58 : decode cX2_cheapestFor 58 = .ok (.goto 4, 3) := dk_167 0 4 (dk_at dksX2_cheapestFor_2 13 rfl rfl)
theorem dX2_cheapestFor_61 : decode cX2_cheapestFor 61 = .ok (.iconst 0, 1) := dk_3 (dk_at dksX2_cheapestFor_2 16 rfl rfl)
theorem dX2_cheapestFor_62 : decode cX2_cheapestFor 62 = .ok (.istore 5, 2) := dk_54 5 (dk_at dksX2_cheapestFor_2 17 rfl rfl)
theorem dX2_cheapestFor_64 : decode cX2_cheapestFor 64 = .ok (.iload 5, 2) := dk_21 5 (dk_at dksX2_cheapestFor_2 19 rfl rfl)
theorem dX2_cheapestFor_66 : decode cX2_cheapestFor 66 = .ok (.ifCond .eq 17, 3) := dk_153 0 17 (dk_at dksX2_cheapestFor_2 21 rfl rfl)
theorem dX2_cheapestFor_69 : decode cX2_cheapestFor 69 = .ok (.aload_n 0, 1) := dk_42 (dk_at dksX2_cheapestFor_3 0 rfl rfl)
theorem dX2_cheapestFor_70 : decode cX2_cheapestFor 70 = .ok (.aload_n 1, 1) := dk_43 (dk_at dksX2_cheapestFor_3 1 rfl rfl)
theorem dX2_cheapestFor_71 : decode cX2_cheapestFor 71 = .ok (.aload 4, 2) := dk_25 4 (dk_at dksX2_cheapestFor_3 2 rfl rfl)
theorem dX2_cheapestFor_73 : decode cX2_cheapestFor 73 = .ok (.invokevirtual 206, 3) := dk_182 0 206 (dk_at dksX2_cheapestFor_3 4 rfl rfl)
theorem dX2_cheapestFor_76 : decode cX2_cheapestFor 76 = .ok (.ifnonnull 7, 3) := dk_199 0 7 (dk_at dksX2_cheapestFor_3 7 rfl rfl)
theorem dX2_cheapestFor_79 : decode cX2_cheapestFor 79 = .ok (.iload_n 3, 1) := dk_29 (dk_at dksX2_cheapestFor_3 10 rfl rfl)
theorem dX2_cheapestFor_80 : decode cX2_cheapestFor 80 = .ok (.goto 4, 3) := dk_167 0 4 (dk_at dksX2_cheapestFor_3 11 rfl rfl)
theorem dX2_cheapestFor_83 : decode cX2_cheapestFor 83 = .ok (.iload_n 2, 1) := dk_28 (dk_at dksX2_cheapestFor_3 14 rfl rfl)
theorem dX2_cheapestFor_84 : decode cX2_cheapestFor 84 = .ok (.istore_n 2, 1) := dk_61 (dk_at dksX2_cheapestFor_3 15 rfl rfl)
theorem dX2_cheapestFor_85 : decode cX2_cheapestFor 85 = .ok (.iinc 3 1, 3) := dk_132 3 1 (dk_at dksX2_cheapestFor_3 16 rfl rfl)
theorem dX2_cheapestFor_88 : decode cX2_cheapestFor 88 = .ok (.goto (-84), 3) := dk_167 255 172 (dk_at dksX2_cheapestFor_3 19 rfl rfl)
theorem dX2_cheapestFor_91 : decode cX2_cheapestFor 91 = .ok (.iload_n 2, 1) := dk_28 (dk_at dksX2_cheapestFor_3 22 rfl rfl)
theorem dX2_cheapestFor_92 : decode cX2_cheapestFor 92 = .ok (.ireturn, 1) := dk_172 (dk_at dksX2_cheapestFor_3 23 rfl rfl)
abbrev cX2_defaultMonth : ByteArray := prog_10_method_33_code
def yX2_defaultMonth : MethodName := ⟨RX2, "defaultMonth", "(LBenchBroker$Bench;)I"⟩
def dkwX2_defaultMonth_2 : List UInt8 := [172]
abbrev dktX2_defaultMonth_2 : List UInt8 := dkwX2_defaultMonth_2 ++ []
def dkwX2_defaultMonth_1 : List UInt8 := [162, 0, 7, 4, 167, 0, 4, 3, 61, 28, 153, 0, 13, 42, 43, 182, 0, 241, 4, 96, 167, 0, 4, 2]
abbrev dktX2_defaultMonth_1 : List UInt8 := dkwX2_defaultMonth_1 ++ dktX2_defaultMonth_2
def dkwX2_defaultMonth_0 : List UInt8 := [43, 182, 0, 196, 153, 0, 27, 42, 43, 182, 0, 199, 153, 0, 19, 42, 43, 182, 0, 241, 43, 180, 0, 213]
abbrev dktX2_defaultMonth_0 : List UInt8 := dkwX2_defaultMonth_0 ++ dktX2_defaultMonth_1
theorem dksX2_defaultMonth_0 : cX2_defaultMonth.data.toList.drop 0 = dktX2_defaultMonth_0 := by decide +kernel
theorem dksX2_defaultMonth_1 : cX2_defaultMonth.data.toList.drop 24 = dktX2_defaultMonth_1 := dk_seg dksX2_defaultMonth_0 24 rfl rfl
theorem dksX2_defaultMonth_2 : cX2_defaultMonth.data.toList.drop 48 = dktX2_defaultMonth_2 := dk_seg dksX2_defaultMonth_1 24 rfl rfl
theorem dX2_defaultMonth_0 : decode cX2_defaultMonth 0 = .ok (.aload_n 1, 1) := dk_43 (dk_at dksX2_defaultMonth_0 0 rfl rfl)
theorem dX2_defaultMonth_1 : decode cX2_defaultMonth 1 = .ok (.invokevirtual 196, 3) := dk_182 0 196 (dk_at dksX2_defaultMonth_0 1 rfl rfl)
theorem dX2_defaultMonth_4 : decode cX2_defaultMonth 4 = .ok (.ifCond .eq 27, 3) := dk_153 0 27 (dk_at dksX2_defaultMonth_0 4 rfl rfl)
theorem dX2_defaultMonth_7 : decode cX2_defaultMonth 7 = .ok (.aload_n 0, 1) := dk_42 (dk_at dksX2_defaultMonth_0 7 rfl rfl)
theorem dX2_defaultMonth_8 : decode cX2_defaultMonth 8 = .ok (.aload_n 1, 1) := dk_43 (dk_at dksX2_defaultMonth_0 8 rfl rfl)
theorem dX2_defaultMonth_9 : decode cX2_defaultMonth 9 = .ok (.invokevirtual 199, 3) := dk_182 0 199 (dk_at dksX2_defaultMonth_0 9 rfl rfl)
theorem dX2_defaultMonth_12 : decode cX2_defaultMonth 12 = .ok (.ifCond .eq 19, 3) := dk_153 0 19 (dk_at dksX2_defaultMonth_0 12 rfl rfl)
theorem dX2_defaultMonth_15 : decode cX2_defaultMonth 15 = .ok (.aload_n 0, 1) := dk_42 (dk_at dksX2_defaultMonth_0 15 rfl rfl)
theorem dX2_defaultMonth_16 : decode cX2_defaultMonth 16 = .ok (.aload_n 1, 1) := dk_43 (dk_at dksX2_defaultMonth_0 16 rfl rfl)
theorem dX2_defaultMonth_17 : decode cX2_defaultMonth 17 = .ok (.invokevirtual 241, 3) := dk_182 0 241 (dk_at dksX2_defaultMonth_0 17 rfl rfl)
theorem dX2_defaultMonth_20 : decode cX2_defaultMonth 20 = .ok (.aload_n 1, 1) := dk_43 (dk_at dksX2_defaultMonth_0 20 rfl rfl)
theorem dX2_defaultMonth_21 : decode cX2_defaultMonth 21 = .ok (.getfield 213, 3) := dk_180 0 213 (dk_at dksX2_defaultMonth_0 21 rfl rfl)
theorem dX2_defaultMonth_24 : decode cX2_defaultMonth 24 = .ok (.if_icmp .ge 7, 3) := dk_162 0 7 (dk_at dksX2_defaultMonth_1 0 rfl rfl)
theorem dX2_defaultMonth_27 : decode cX2_defaultMonth 27 = .ok (.iconst 1, 1) := dk_4 (dk_at dksX2_defaultMonth_1 3 rfl rfl)
theorem dX2_defaultMonth_28 : decode cX2_defaultMonth 28 = .ok (.goto 4, 3) := dk_167 0 4 (dk_at dksX2_defaultMonth_1 4 rfl rfl)
theorem dX2_defaultMonth_31 : decode cX2_defaultMonth 31 = .ok (.iconst 0, 1) := dk_3 (dk_at dksX2_defaultMonth_1 7 rfl rfl)
theorem dX2_defaultMonth_32 : decode cX2_defaultMonth 32 = .ok (.istore_n 2, 1) := dk_61 (dk_at dksX2_defaultMonth_1 8 rfl rfl)
theorem dX2_defaultMonth_33 : decode cX2_defaultMonth 33 = .ok (.iload_n 2, 1) := dk_28 (dk_at dksX2_defaultMonth_1 9 rfl rfl)
theorem dX2_defaultMonth_34 : decode cX2_defaultMonth 34 = .ok (.ifCond .eq 13, 3) := dk_153 0 13 (dk_at dksX2_defaultMonth_1 10 rfl rfl)
theorem dX2_defaultMonth_37 : decode cX2_defaultMonth 37 = .ok (.aload_n 0, 1) := dk_42 (dk_at dksX2_defaultMonth_1 13 rfl rfl)
theorem dX2_defaultMonth_38 : decode cX2_defaultMonth 38 = .ok (.aload_n 1, 1) := dk_43 (dk_at dksX2_defaultMonth_1 14 rfl rfl)
theorem dX2_defaultMonth_39 : decode cX2_defaultMonth 39 = .ok (.invokevirtual 241, 3) := dk_182 0 241 (dk_at dksX2_defaultMonth_1 15 rfl rfl)
theorem dX2_defaultMonth_42 : decode cX2_defaultMonth 42 = .ok (.iconst 1, 1) := dk_4 (dk_at dksX2_defaultMonth_1 18 rfl rfl)
theorem dX2_defaultMonth_43 : decode cX2_defaultMonth 43 = .ok (.iadd, 1) := dk_96 (dk_at dksX2_defaultMonth_1 19 rfl rfl)
theorem dX2_defaultMonth_44 : decode cX2_defaultMonth 44 = .ok (.goto 4, 3) := dk_167 0 4 (dk_at dksX2_defaultMonth_1 20 rfl rfl)
theorem dX2_defaultMonth_47 : decode cX2_defaultMonth 47 = .ok (.iconst (-1), 1) := dk_2 (dk_at dksX2_defaultMonth_1 23 rfl rfl)
theorem dX2_defaultMonth_48 : decode cX2_defaultMonth 48 = .ok (.ireturn, 1) := dk_172 (dk_at dksX2_defaultMonth_2 0 rfl rfl)
abbrev cX2_benchByRent : ByteArray := prog_10_method_39_code
def yX2_benchByRent : MethodName := ⟨RX2, "benchByRent", "(I)I"⟩
def dkwX2_benchByRent_0 : List UInt8 := [42, 186, 1, 3, 0, 0, 77, 42, 180, 0, 12, 44, 27, 184, 1, 7, 172]
abbrev dktX2_benchByRent_0 : List UInt8 := dkwX2_benchByRent_0 ++ []
theorem dksX2_benchByRent_0 : cX2_benchByRent.data.toList.drop 0 = dktX2_benchByRent_0 := by decide +kernel
theorem dX2_benchByRent_0 : decode cX2_benchByRent 0 = .ok (.aload_n 0, 1) := dk_42 (dk_at dksX2_benchByRent_0 0 rfl rfl)
theorem dX2_benchByRent_1 : decode cX2_benchByRent 1 = .ok (.invokedynamic 259, 5) := by decide +kernel
theorem dX2_benchByRent_6 : decode cX2_benchByRent 6 = .ok (.astore_n 2, 1) := dk_77 (dk_at dksX2_benchByRent_0 6 rfl rfl)
theorem dX2_benchByRent_7 : decode cX2_benchByRent 7 = .ok (.aload_n 0, 1) := dk_42 (dk_at dksX2_benchByRent_0 7 rfl rfl)
theorem dX2_benchByRent_8 : decode cX2_benchByRent 8 = .ok (.getfield 12, 3) := dk_180 0 12 (dk_at dksX2_benchByRent_0 8 rfl rfl)
theorem dX2_benchByRent_11 : decode cX2_benchByRent 11 = .ok (.aload_n 2, 1) := dk_44 (dk_at dksX2_benchByRent_0 11 rfl rfl)
theorem dX2_benchByRent_12 : decode cX2_benchByRent 12 = .ok (.iload_n 1, 1) := dk_27 (dk_at dksX2_benchByRent_0 12 rfl rfl)
theorem dX2_benchByRent_13 : decode cX2_benchByRent 13 = .ok (.invokestatic 263, 3) := dk_184 1 7 (dk_at dksX2_benchByRent_0 13 rfl rfl)
theorem dX2_benchByRent_16 : decode cX2_benchByRent 16 = .ok (.ireturn, 1) := dk_172 (dk_at dksX2_benchByRent_0 16 rfl rfl)
abbrev cX2_lambda_benchByRent_7 : ByteArray := prog_10_method_45_code
def yX2_lambda_benchByRent_7 : MethodName := ⟨RX2, "lambda$benchByRent$7", "(LBenchBroker$Bench;LBenchBroker$Bench;)Z"⟩
def dkwX2_lambda_benchByRent_7_2 : List UInt8 := [43, 182, 0, 80, 44, 182, 0, 80, 162, 0, 7, 4, 167, 0, 4, 3, 172]
abbrev dktX2_lambda_benchByRent_7_2 : List UInt8 := dkwX2_lambda_benchByRent_7_2 ++ []
def dkwX2_lambda_benchByRent_7_1 : List UInt8 := [184, 0, 226, 100, 54, 4, 29, 157, 0, 28, 29, 154, 0, 28, 21, 4, 157, 0, 19, 21, 4, 154, 0, 18]
abbrev dktX2_lambda_benchByRent_7_1 : List UInt8 := dkwX2_lambda_benchByRent_7_1 ++ dktX2_lambda_benchByRent_7_2
def dkwX2_lambda_benchByRent_7_0 : List UInt8 := [42, 44, 182, 0, 203, 42, 43, 182, 0, 203, 100, 62, 44, 182, 0, 196, 184, 0, 226, 43, 182, 0, 196]
abbrev dktX2_lambda_benchByRent_7_0 : List UInt8 := dkwX2_lambda_benchByRent_7_0 ++ dktX2_lambda_benchByRent_7_1
theorem dksX2_lambda_benchByRent_7_0 : cX2_lambda_benchByRent_7.data.toList.drop 0 = dktX2_lambda_benchByRent_7_0 := by decide +kernel
theorem dksX2_lambda_benchByRent_7_1 : cX2_lambda_benchByRent_7.data.toList.drop 23 = dktX2_lambda_benchByRent_7_1 := dk_seg dksX2_lambda_benchByRent_7_0 23 rfl rfl
theorem dksX2_lambda_benchByRent_7_2 : cX2_lambda_benchByRent_7.data.toList.drop 47 = dktX2_lambda_benchByRent_7_2 := dk_seg dksX2_lambda_benchByRent_7_1 24 rfl rfl
theorem dX2_lambda_benchByRent_7_0 : decode cX2_lambda_benchByRent_7 0 = .ok (.aload_n 0, 1) := dk_42 (dk_at dksX2_lambda_benchByRent_7_0 0 rfl rfl)
theorem dX2_lambda_benchByRent_7_1 : decode cX2_lambda_benchByRent_7 1 = .ok (.aload_n 2, 1) := dk_44 (dk_at dksX2_lambda_benchByRent_7_0 1 rfl rfl)
theorem dX2_lambda_benchByRent_7_2 : decode cX2_lambda_benchByRent_7 2 = .ok (.invokevirtual 203, 3) := dk_182 0 203 (dk_at dksX2_lambda_benchByRent_7_0 2 rfl rfl)
theorem dX2_lambda_benchByRent_7_5 : decode cX2_lambda_benchByRent_7 5 = .ok (.aload_n 0, 1) := dk_42 (dk_at dksX2_lambda_benchByRent_7_0 5 rfl rfl)
theorem dX2_lambda_benchByRent_7_6 : decode cX2_lambda_benchByRent_7 6 = .ok (.aload_n 1, 1) := dk_43 (dk_at dksX2_lambda_benchByRent_7_0 6 rfl rfl)
theorem dX2_lambda_benchByRent_7_7 : decode cX2_lambda_benchByRent_7 7 = .ok (.invokevirtual 203, 3) := dk_182 0 203 (dk_at dksX2_lambda_benchByRent_7_0 7 rfl rfl)
theorem dX2_lambda_benchByRent_7_10 : decode cX2_lambda_benchByRent_7 10 = .ok (.isub, 1) := dk_100 (dk_at dksX2_lambda_benchByRent_7_0 10 rfl rfl)
theorem dX2_lambda_benchByRent_7_11 : decode cX2_lambda_benchByRent_7 11 = .ok (.istore_n 3, 1) := dk_62 (dk_at dksX2_lambda_benchByRent_7_0 11 rfl rfl)
theorem dX2_lambda_benchByRent_7_12 : decode cX2_lambda_benchByRent_7 12 = .ok (.aload_n 2, 1) := dk_44 (dk_at dksX2_lambda_benchByRent_7_0 12 rfl rfl)
theorem dX2_lambda_benchByRent_7_13 : decode cX2_lambda_benchByRent_7 13 = .ok (.invokevirtual 196, 3) := dk_182 0 196 (dk_at dksX2_lambda_benchByRent_7_0 13 rfl rfl)
theorem dX2_lambda_benchByRent_7_16 : decode cX2_lambda_benchByRent_7 16 = .ok (.invokestatic 226, 3) := dk_184 0 226 (dk_at dksX2_lambda_benchByRent_7_0 16 rfl rfl)
theorem dX2_lambda_benchByRent_7_19 : decode cX2_lambda_benchByRent_7 19 = .ok (.aload_n 1, 1) := dk_43 (dk_at dksX2_lambda_benchByRent_7_0 19 rfl rfl)
theorem dX2_lambda_benchByRent_7_20 : decode cX2_lambda_benchByRent_7 20 = .ok (.invokevirtual 196, 3) := dk_182 0 196 (dk_at dksX2_lambda_benchByRent_7_0 20 rfl rfl)
theorem dX2_lambda_benchByRent_7_23 : decode cX2_lambda_benchByRent_7 23 = .ok (.invokestatic 226, 3) := dk_184 0 226 (dk_at dksX2_lambda_benchByRent_7_1 0 rfl rfl)
theorem dX2_lambda_benchByRent_7_26 : decode cX2_lambda_benchByRent_7 26 = .ok (.isub, 1) := dk_100 (dk_at dksX2_lambda_benchByRent_7_1 3 rfl rfl)
theorem dX2_lambda_benchByRent_7_27 : decode cX2_lambda_benchByRent_7 27 = .ok (.istore 4, 2) := dk_54 4 (dk_at dksX2_lambda_benchByRent_7_1 4 rfl rfl)
theorem dX2_lambda_benchByRent_7_29 : decode cX2_lambda_benchByRent_7 29 = .ok (.iload_n 3, 1) := dk_29 (dk_at dksX2_lambda_benchByRent_7_1 6 rfl rfl)
theorem dX2_lambda_benchByRent_7_30 : decode cX2_lambda_benchByRent_7 30 = .ok (.ifCond .gt 28, 3) := dk_157 0 28 (dk_at dksX2_lambda_benchByRent_7_1 7 rfl rfl)
theorem dX2_lambda_benchByRent_7_33 : decode cX2_lambda_benchByRent_7 33 = .ok (.iload_n 3, 1) := dk_29 (dk_at dksX2_lambda_benchByRent_7_1 10 rfl rfl)
theorem dX2_lambda_benchByRent_7_34 : decode cX2_lambda_benchByRent_7 34 = .ok (.ifCond .ne 28, 3) := dk_154 0 28 (dk_at dksX2_lambda_benchByRent_7_1 11 rfl rfl)
theorem dX2_lambda_benchByRent_7_37 : decode cX2_lambda_benchByRent_7 37 = .ok (.iload 4, 2) := dk_21 4 (dk_at dksX2_lambda_benchByRent_7_1 14 rfl rfl)
theorem dX2_lambda_benchByRent_7_39 : decode cX2_lambda_benchByRent_7 39 = .ok (.ifCond .gt 19, 3) := dk_157 0 19 (dk_at dksX2_lambda_benchByRent_7_1 16 rfl rfl)
theorem dX2_lambda_benchByRent_7_42 : decode cX2_lambda_benchByRent_7 42 = .ok (.iload 4, 2) := dk_21 4 (dk_at dksX2_lambda_benchByRent_7_1 19 rfl rfl)
theorem dX2_lambda_benchByRent_7_44 : decode cX2_lambda_benchByRent_7 44 = .ok (.ifCond .ne 18, 3) := dk_154 0 18 (dk_at dksX2_lambda_benchByRent_7_1 21 rfl rfl)
theorem dX2_lambda_benchByRent_7_47 : decode cX2_lambda_benchByRent_7 47 = .ok (.aload_n 1, 1) := dk_43 (dk_at dksX2_lambda_benchByRent_7_2 0 rfl rfl)
theorem dX2_lambda_benchByRent_7_48 : decode cX2_lambda_benchByRent_7 48 = .ok (.invokevirtual 80, 3) := dk_182 0 80 (dk_at dksX2_lambda_benchByRent_7_2 1 rfl rfl)
theorem dX2_lambda_benchByRent_7_51 : decode cX2_lambda_benchByRent_7 51 = .ok (.aload_n 2, 1) := dk_44 (dk_at dksX2_lambda_benchByRent_7_2 4 rfl rfl)
theorem dX2_lambda_benchByRent_7_52 : decode cX2_lambda_benchByRent_7 52 = .ok (.invokevirtual 80, 3) := dk_182 0 80 (dk_at dksX2_lambda_benchByRent_7_2 5 rfl rfl)
theorem dX2_lambda_benchByRent_7_55 : decode cX2_lambda_benchByRent_7 55 = .ok (.if_icmp .ge 7, 3) := dk_162 0 7 (dk_at dksX2_lambda_benchByRent_7_2 8 rfl rfl)
theorem dX2_lambda_benchByRent_7_58 : decode cX2_lambda_benchByRent_7 58 = .ok (.iconst 1, 1) := dk_4 (dk_at dksX2_lambda_benchByRent_7_2 11 rfl rfl)
theorem dX2_lambda_benchByRent_7_59 : decode cX2_lambda_benchByRent_7 59 = .ok (.goto 4, 3) := dk_167 0 4 (dk_at dksX2_lambda_benchByRent_7_2 12 rfl rfl)
theorem dX2_lambda_benchByRent_7_62 : decode cX2_lambda_benchByRent_7 62 = .ok (.iconst 0, 1) := dk_3 (dk_at dksX2_lambda_benchByRent_7_2 15 rfl rfl)
theorem dX2_lambda_benchByRent_7_63 : decode cX2_lambda_benchByRent_7 63 = .ok (.ireturn, 1) := dk_172 (dk_at dksX2_lambda_benchByRent_7_2 16 rfl rfl)
abbrev cX2_tenantByCoins : ByteArray := prog_10_method_40_code
def yX2_tenantByCoins : MethodName := ⟨RX2, "tenantByCoins", "(I)I"⟩
def dkwX2_tenantByCoins_0 : List UInt8 := [186, 1, 11, 0, 0, 77, 42, 180, 0, 21, 44, 27, 184, 1, 7, 172]
abbrev dktX2_tenantByCoins_0 : List UInt8 := dkwX2_tenantByCoins_0 ++ []
theorem dksX2_tenantByCoins_0 : cX2_tenantByCoins.data.toList.drop 0 = dktX2_tenantByCoins_0 := by decide +kernel
theorem dX2_tenantByCoins_0 : decode cX2_tenantByCoins 0 = .ok (.invokedynamic 267, 5) := by decide +kernel
theorem dX2_tenantByCoins_5 : decode cX2_tenantByCoins 5 = .ok (.astore_n 2, 1) := dk_77 (dk_at dksX2_tenantByCoins_0 5 rfl rfl)
theorem dX2_tenantByCoins_6 : decode cX2_tenantByCoins 6 = .ok (.aload_n 0, 1) := dk_42 (dk_at dksX2_tenantByCoins_0 6 rfl rfl)
theorem dX2_tenantByCoins_7 : decode cX2_tenantByCoins 7 = .ok (.getfield 21, 3) := dk_180 0 21 (dk_at dksX2_tenantByCoins_0 7 rfl rfl)
theorem dX2_tenantByCoins_10 : decode cX2_tenantByCoins 10 = .ok (.aload_n 2, 1) := dk_44 (dk_at dksX2_tenantByCoins_0 10 rfl rfl)
theorem dX2_tenantByCoins_11 : decode cX2_tenantByCoins 11 = .ok (.iload_n 1, 1) := dk_27 (dk_at dksX2_tenantByCoins_0 11 rfl rfl)
theorem dX2_tenantByCoins_12 : decode cX2_tenantByCoins 12 = .ok (.invokestatic 263, 3) := dk_184 1 7 (dk_at dksX2_tenantByCoins_0 12 rfl rfl)
theorem dX2_tenantByCoins_15 : decode cX2_tenantByCoins 15 = .ok (.ireturn, 1) := dk_172 (dk_at dksX2_tenantByCoins_0 15 rfl rfl)
abbrev cX2_lambda_tenantByCoins_8 : ByteArray := prog_10_method_44_code
def yX2_lambda_tenantByCoins_8 : MethodName := ⟨RX2, "lambda$tenantByCoins$8", "(LBenchBroker$Tenant;LBenchBroker$Tenant;)Z"⟩
def dkwX2_lambda_tenantByCoins_8_2 : List UInt8 := [167, 0, 4, 3, 172]
abbrev dktX2_lambda_tenantByCoins_8_2 : List UInt8 := dkwX2_lambda_tenantByCoins_8_2 ++ []
def dkwX2_lambda_tenantByCoins_8_1 : List UInt8 := [28, 154, 0, 26, 29, 157, 0, 18, 29, 154, 0, 18, 42, 182, 0, 194, 43, 182, 0, 194, 162, 0, 7, 4]
abbrev dktX2_lambda_tenantByCoins_8_1 : List UInt8 := dkwX2_lambda_tenantByCoins_8_1 ++ dktX2_lambda_tenantByCoins_8_2
def dkwX2_lambda_tenantByCoins_8_0 : List UInt8 := [42, 180, 0, 67, 43, 180, 0, 67, 100, 61, 43, 180, 0, 73, 42, 180, 0, 73, 100, 62, 28, 157, 0, 26]
abbrev dktX2_lambda_tenantByCoins_8_0 : List UInt8 := dkwX2_lambda_tenantByCoins_8_0 ++ dktX2_lambda_tenantByCoins_8_1
theorem dksX2_lambda_tenantByCoins_8_0 : cX2_lambda_tenantByCoins_8.data.toList.drop 0 = dktX2_lambda_tenantByCoins_8_0 := by decide +kernel
theorem dksX2_lambda_tenantByCoins_8_1 : cX2_lambda_tenantByCoins_8.data.toList.drop 24 = dktX2_lambda_tenantByCoins_8_1 := dk_seg dksX2_lambda_tenantByCoins_8_0 24 rfl rfl
theorem dksX2_lambda_tenantByCoins_8_2 : cX2_lambda_tenantByCoins_8.data.toList.drop 48 = dktX2_lambda_tenantByCoins_8_2 := dk_seg dksX2_lambda_tenantByCoins_8_1 24 rfl rfl
theorem dX2_lambda_tenantByCoins_8_0 : decode cX2_lambda_tenantByCoins_8 0 = .ok (.aload_n 0, 1) := dk_42 (dk_at dksX2_lambda_tenantByCoins_8_0 0 rfl rfl)
theorem dX2_lambda_tenantByCoins_8_1 : decode cX2_lambda_tenantByCoins_8 1 = .ok (.getfield 67, 3) := dk_180 0 67 (dk_at dksX2_lambda_tenantByCoins_8_0 1 rfl rfl)
theorem dX2_lambda_tenantByCoins_8_4 : decode cX2_lambda_tenantByCoins_8 4 = .ok (.aload_n 1, 1) := dk_43 (dk_at dksX2_lambda_tenantByCoins_8_0 4 rfl rfl)
theorem dX2_lambda_tenantByCoins_8_5 : decode cX2_lambda_tenantByCoins_8 5 = .ok (.getfield 67, 3) := dk_180 0 67 (dk_at dksX2_lambda_tenantByCoins_8_0 5 rfl rfl)
theorem dX2_lambda_tenantByCoins_8_8 : decode cX2_lambda_tenantByCoins_8 8 = .ok (.isub, 1) := dk_100 (dk_at dksX2_lambda_tenantByCoins_8_0 8 rfl rfl)
theorem dX2_lambda_tenantByCoins_8_9 : decode cX2_lambda_tenantByCoins_8 9 = .ok (.istore_n 2, 1) := dk_61 (dk_at dksX2_lambda_tenantByCoins_8_0 9 rfl rfl)
theorem dX2_lambda_tenantByCoins_8_10 : decode cX2_lambda_tenantByCoins_8 10 = .ok (.aload_n 1, 1) := dk_43 (dk_at dksX2_lambda_tenantByCoins_8_0 10 rfl rfl)
theorem dX2_lambda_tenantByCoins_8_11 : decode cX2_lambda_tenantByCoins_8 11 = .ok (.getfield 73, 3) := dk_180 0 73 (dk_at dksX2_lambda_tenantByCoins_8_0 11 rfl rfl)
theorem dX2_lambda_tenantByCoins_8_14 : decode cX2_lambda_tenantByCoins_8 14 = .ok (.aload_n 0, 1) := dk_42 (dk_at dksX2_lambda_tenantByCoins_8_0 14 rfl rfl)
theorem dX2_lambda_tenantByCoins_8_15 : decode cX2_lambda_tenantByCoins_8 15 = .ok (.getfield 73, 3) := dk_180 0 73 (dk_at dksX2_lambda_tenantByCoins_8_0 15 rfl rfl)
theorem dX2_lambda_tenantByCoins_8_18 : decode cX2_lambda_tenantByCoins_8 18 = .ok (.isub, 1) := dk_100 (dk_at dksX2_lambda_tenantByCoins_8_0 18 rfl rfl)
theorem dX2_lambda_tenantByCoins_8_19 : decode cX2_lambda_tenantByCoins_8 19 = .ok (.istore_n 3, 1) := dk_62 (dk_at dksX2_lambda_tenantByCoins_8_0 19 rfl rfl)
theorem dX2_lambda_tenantByCoins_8_20 : decode cX2_lambda_tenantByCoins_8 20 = .ok (.iload_n 2, 1) := dk_28 (dk_at dksX2_lambda_tenantByCoins_8_0 20 rfl rfl)
theorem dX2_lambda_tenantByCoins_8_21 : decode cX2_lambda_tenantByCoins_8 21 = .ok (.ifCond .gt 26, 3) := dk_157 0 26 (dk_at dksX2_lambda_tenantByCoins_8_0 21 rfl rfl)
theorem dX2_lambda_tenantByCoins_8_24 : decode cX2_lambda_tenantByCoins_8 24 = .ok (.iload_n 2, 1) := dk_28 (dk_at dksX2_lambda_tenantByCoins_8_1 0 rfl rfl)
theorem dX2_lambda_tenantByCoins_8_25 : decode cX2_lambda_tenantByCoins_8 25 = .ok (.ifCond .ne 26, 3) := dk_154 0 26 (dk_at dksX2_lambda_tenantByCoins_8_1 1 rfl rfl)
theorem dX2_lambda_tenantByCoins_8_28 : decode cX2_lambda_tenantByCoins_8 28 = .ok (.iload_n 3, 1) := dk_29 (dk_at dksX2_lambda_tenantByCoins_8_1 4 rfl rfl)
theorem dX2_lambda_tenantByCoins_8_29 : decode cX2_lambda_tenantByCoins_8 29 = .ok (.ifCond .gt 18, 3) := dk_157 0 18 (dk_at dksX2_lambda_tenantByCoins_8_1 5 rfl rfl)
theorem dX2_lambda_tenantByCoins_8_32 : decode cX2_lambda_tenantByCoins_8 32 = .ok (.iload_n 3, 1) := dk_29 (dk_at dksX2_lambda_tenantByCoins_8_1 8 rfl rfl)
theorem dX2_lambda_tenantByCoins_8_33 : decode cX2_lambda_tenantByCoins_8 33 = .ok (.ifCond .ne 18, 3) := dk_154 0 18 (dk_at dksX2_lambda_tenantByCoins_8_1 9 rfl rfl)
theorem dX2_lambda_tenantByCoins_8_36 : decode cX2_lambda_tenantByCoins_8 36 = .ok (.aload_n 0, 1) := dk_42 (dk_at dksX2_lambda_tenantByCoins_8_1 12 rfl rfl)
theorem dX2_lambda_tenantByCoins_8_37 : decode cX2_lambda_tenantByCoins_8 37 = .ok (.invokevirtual 194, 3) := dk_182 0 194 (dk_at dksX2_lambda_tenantByCoins_8_1 13 rfl rfl)
theorem dX2_lambda_tenantByCoins_8_40 : decode cX2_lambda_tenantByCoins_8 40 = .ok (.aload_n 1, 1) := dk_43 (dk_at dksX2_lambda_tenantByCoins_8_1 16 rfl rfl)
theorem dX2_lambda_tenantByCoins_8_41 : decode cX2_lambda_tenantByCoins_8 41 = .ok (.invokevirtual 194, 3) := dk_182 0 194 (dk_at dksX2_lambda_tenantByCoins_8_1 17 rfl rfl)
theorem dX2_lambda_tenantByCoins_8_44 : decode cX2_lambda_tenantByCoins_8 44 = .ok (.if_icmp .ge 7, 3) := dk_162 0 7 (dk_at dksX2_lambda_tenantByCoins_8_1 20 rfl rfl)
theorem dX2_lambda_tenantByCoins_8_47 : decode cX2_lambda_tenantByCoins_8 47 = .ok (.iconst 1, 1) := dk_4 (dk_at dksX2_lambda_tenantByCoins_8_1 23 rfl rfl)
theorem dX2_lambda_tenantByCoins_8_48 : decode cX2_lambda_tenantByCoins_8 48 = .ok (.goto 4, 3) := dk_167 0 4 (dk_at dksX2_lambda_tenantByCoins_8_2 0 rfl rfl)
theorem dX2_lambda_tenantByCoins_8_51 : decode cX2_lambda_tenantByCoins_8 51 = .ok (.iconst 0, 1) := dk_3 (dk_at dksX2_lambda_tenantByCoins_8_2 3 rfl rfl)
theorem dX2_lambda_tenantByCoins_8_52 : decode cX2_lambda_tenantByCoins_8 52 = .ok (.ireturn, 1) := dk_172 (dk_at dksX2_lambda_tenantByCoins_8_2 4 rfl rfl)
abbrev cX2_rentTotal : ByteArray := prog_10_method_38_code
def yX2_rentTotal : MethodName := ⟨RX2, "rentTotal", "()I"⟩
def dkwX2_rentTotal_0 : List UInt8 := [42, 180, 0, 12, 42, 186, 1, 2, 0, 0, 182, 0, 113, 172]
abbrev dktX2_rentTotal_0 : List UInt8 := dkwX2_rentTotal_0 ++ []
theorem dksX2_rentTotal_0 : cX2_rentTotal.data.toList.drop 0 = dktX2_rentTotal_0 := by decide +kernel
theorem dX2_rentTotal_0 : decode cX2_rentTotal 0 = .ok (.aload_n 0, 1) := dk_42 (dk_at dksX2_rentTotal_0 0 rfl rfl)
theorem dX2_rentTotal_1 : decode cX2_rentTotal 1 = .ok (.getfield 12, 3) := dk_180 0 12 (dk_at dksX2_rentTotal_0 1 rfl rfl)
theorem dX2_rentTotal_4 : decode cX2_rentTotal 4 = .ok (.aload_n 0, 1) := dk_42 (dk_at dksX2_rentTotal_0 4 rfl rfl)
theorem dX2_rentTotal_5 : decode cX2_rentTotal 5 = .ok (.invokedynamic 258, 5) := by decide +kernel
theorem dX2_rentTotal_10 : decode cX2_rentTotal 10 = .ok (.invokevirtual 113, 3) := dk_182 0 113 (dk_at dksX2_rentTotal_0 10 rfl rfl)
theorem dX2_rentTotal_13 : decode cX2_rentTotal 13 = .ok (.ireturn, 1) := dk_172 (dk_at dksX2_rentTotal_0 13 rfl rfl)
abbrev cX2_lambda_rentTotal_6 : ByteArray := prog_10_method_46_code
def yX2_lambda_rentTotal_6 : MethodName := ⟨RX2, "lambda$rentTotal$6", "(LBenchBroker$Bench;)I"⟩
def dkwX2_lambda_rentTotal_6_0 : List UInt8 := [42, 43, 182, 0, 203, 172]
abbrev dktX2_lambda_rentTotal_6_0 : List UInt8 := dkwX2_lambda_rentTotal_6_0 ++ []
theorem dksX2_lambda_rentTotal_6_0 : cX2_lambda_rentTotal_6.data.toList.drop 0 = dktX2_lambda_rentTotal_6_0 := by decide +kernel
theorem dX2_lambda_rentTotal_6_0 : decode cX2_lambda_rentTotal_6 0 = .ok (.aload_n 0, 1) := dk_42 (dk_at dksX2_lambda_rentTotal_6_0 0 rfl rfl)
theorem dX2_lambda_rentTotal_6_1 : decode cX2_lambda_rentTotal_6 1 = .ok (.aload_n 1, 1) := dk_43 (dk_at dksX2_lambda_rentTotal_6_0 1 rfl rfl)
theorem dX2_lambda_rentTotal_6_2 : decode cX2_lambda_rentTotal_6 2 = .ok (.invokevirtual 203, 3) := dk_182 0 203 (dk_at dksX2_lambda_rentTotal_6_0 2 rfl rfl)
theorem dX2_lambda_rentTotal_6_5 : decode cX2_lambda_rentTotal_6 5 = .ok (.ireturn, 1) := dk_172 (dk_at dksX2_lambda_rentTotal_6_0 5 rfl rfl)
theorem q87 : (Jvm.Cond.initialized "BenchBroker$Park") ∈ lw_all := lw_g (lw_at lw_m1 2 rfl) rfl
theorem q142 : (Jvm.Cond.instantiable "BenchBroker$Park" (10 : Nat)) ∈ lw_all := lw_g (lw_at lw_m1 57 rfl) rfl
theorem q144 : (Jvm.Cond.instanceMethod ({ cls := "BenchBroker$Park", name := "<init>", desc := "()V" } : Jvm.MethodName)) ∈ lw_all := lw_g (lw_at lw_m1 59 rfl) rfl
theorem q145 : (Jvm.Cond.code ({ cls := "BenchBroker$Park", name := "<init>", desc := "()V" } : Jvm.MethodName) prog_10_method_1_code (1 : Nat) (Option.none : Option Jvm.ClassFile.FieldType)) ∈ lw_all := lw_g (lw_at lw_m1 60 rfl) rfl
theorem q146 : (Jvm.Cond.methodLink "BenchBroker$Park" (3 : Nat) ({ cls := "java/lang/Object", name := "<init>", desc := "()V" } : Jvm.MethodName)) ∈ lw_all := lw_g (lw_at lw_m1 61 rfl) rfl
theorem q147 : (Jvm.Cond.classLink "BenchBroker$Park" (9 : Nat) "BenchBroker$Register") ∈ lw_all := lw_g (lw_at lw_m1 62 rfl) rfl
theorem q149 : (Jvm.Cond.methodLinkNest "BenchBroker$Park" (11 : Nat) ({ cls := "BenchBroker$Register", name := "<init>", desc := "()V" } : Jvm.MethodName) "BenchBroker") ∈ lw_tbl := lw_at lw_m1 64 rfl
theorem q186 : (Jvm.Cond.fieldLink "BenchBroker$Park" (12 : Nat) "BenchBroker$Park" "benches" "LBenchBroker$Register;") ∈ lw_all := lw_g (lw_at lw_m1 101 rfl) rfl
theorem q189 : (Jvm.Cond.fieldLink "BenchBroker$Park" (18 : Nat) "BenchBroker$Park" "fountains" "LBenchBroker$Register;") ∈ lw_all := lw_g (lw_at lw_m1 104 rfl) rfl
theorem q192 : (Jvm.Cond.fieldLink "BenchBroker$Park" (21 : Nat) "BenchBroker$Park" "tenants" "LBenchBroker$Register;") ∈ lw_all := lw_g (lw_at lw_m1 107 rfl) rfl
theorem q196 : (Jvm.Cond.fieldLink "BenchBroker$Park" (24 : Nat) "BenchBroker$Park" "noiseLimit" "I") ∈ lw_all := lw_g (lw_at lw_m1 111 rfl) rfl
theorem q198 : (Jvm.Cond.fieldLink "BenchBroker$Park" (87 : Nat) "BenchBroker$Park" "month" "I") ∈ lw_all := lw_g (lw_at lw_m1 113 rfl) rfl
theorem q200 : (Jvm.Cond.fieldLink "BenchBroker$Park" (90 : Nat) "BenchBroker$Park" "brokerCoins" "I") ∈ lw_all := lw_g (lw_at lw_m1 115 rfl) rfl
theorem q202 : (Jvm.Cond.fieldLink "BenchBroker$Park" (93 : Nat) "BenchBroker$Park" "given" "I") ∈ lw_all := lw_g (lw_at lw_m1 117 rfl) rfl
theorem q204 : (Jvm.Cond.fieldLink "BenchBroker$Park" (96 : Nat) "BenchBroker$Park" "defaulted" "I") ∈ lw_all := lw_g (lw_at lw_m1 119 rfl) rfl
theorem q206 : (Jvm.Cond.fieldLink "BenchBroker$Park" (99 : Nat) "BenchBroker$Park" "terminated" "I") ∈ lw_all := lw_g (lw_at lw_m1 121 rfl) rfl
theorem q208 : (Jvm.Cond.fieldLink "BenchBroker$Park" (102 : Nat) "BenchBroker$Park" "completed" "I") ∈ lw_all := lw_g (lw_at lw_m1 123 rfl) rfl
theorem q210 : (Jvm.Cond.laysFinal "BenchBroker$Park" "BenchBroker$Park" "benches" "LBenchBroker$Register;") ∈ lw_all := lw_g (lw_at lw_m1 125 rfl) rfl
theorem q211 : (Jvm.Cond.soleField "BenchBroker$Park" "benches") ∈ lw_all := lw_g (lw_at lw_m1 126 rfl) rfl
theorem q212 : (Jvm.Cond.laysFinal "BenchBroker$Park" "BenchBroker$Park" "fountains" "LBenchBroker$Register;") ∈ lw_all := lw_g (lw_at lw_m1 127 rfl) rfl
theorem q213 : (Jvm.Cond.soleField "BenchBroker$Park" "fountains") ∈ lw_all := lw_g (lw_at lw_m1 128 rfl) rfl
theorem q214 : (Jvm.Cond.laysFinal "BenchBroker$Park" "BenchBroker$Park" "tenants" "LBenchBroker$Register;") ∈ lw_all := lw_g (lw_at lw_m1 129 rfl) rfl
theorem q215 : (Jvm.Cond.soleField "BenchBroker$Park" "tenants") ∈ lw_all := lw_g (lw_at lw_m1 130 rfl) rfl
theorem q216 : (Jvm.Cond.lays "BenchBroker$Park" "BenchBroker$Park" "noiseLimit" "I") ∈ lw_all := lw_g (lw_at lw_m1 131 rfl) rfl
theorem q217 : (Jvm.Cond.soleField "BenchBroker$Park" "noiseLimit") ∈ lw_all := lw_g (lw_at lw_m1 132 rfl) rfl
theorem q218 : (Jvm.Cond.lays "BenchBroker$Park" "BenchBroker$Park" "month" "I") ∈ lw_all := lw_g (lw_at lw_m1 133 rfl) rfl
theorem q219 : (Jvm.Cond.soleField "BenchBroker$Park" "month") ∈ lw_all := lw_g (lw_at lw_m1 134 rfl) rfl
theorem q220 : (Jvm.Cond.lays "BenchBroker$Park" "BenchBroker$Park" "brokerCoins" "I") ∈ lw_all := lw_g (lw_at lw_m1 135 rfl) rfl
theorem q221 : (Jvm.Cond.soleField "BenchBroker$Park" "brokerCoins") ∈ lw_all := lw_g (lw_at lw_m1 136 rfl) rfl
theorem q222 : (Jvm.Cond.lays "BenchBroker$Park" "BenchBroker$Park" "given" "I") ∈ lw_all := lw_g (lw_at lw_m1 137 rfl) rfl
theorem q223 : (Jvm.Cond.soleField "BenchBroker$Park" "given") ∈ lw_all := lw_g (lw_at lw_m1 138 rfl) rfl
theorem q224 : (Jvm.Cond.lays "BenchBroker$Park" "BenchBroker$Park" "defaulted" "I") ∈ lw_all := lw_g (lw_at lw_m1 139 rfl) rfl
theorem q225 : (Jvm.Cond.soleField "BenchBroker$Park" "defaulted") ∈ lw_all := lw_g (lw_at lw_m1 140 rfl) rfl
theorem q226 : (Jvm.Cond.lays "BenchBroker$Park" "BenchBroker$Park" "terminated" "I") ∈ lw_all := lw_g (lw_at lw_m1 141 rfl) rfl
theorem q227 : (Jvm.Cond.soleField "BenchBroker$Park" "terminated") ∈ lw_all := lw_g (lw_at lw_m1 142 rfl) rfl
theorem q228 : (Jvm.Cond.lays "BenchBroker$Park" "BenchBroker$Park" "completed" "I") ∈ lw_all := lw_g (lw_at lw_m1 143 rfl) rfl
theorem q229 : (Jvm.Cond.soleField "BenchBroker$Park" "completed") ∈ lw_all := lw_g (lw_at lw_m1 144 rfl) rfl
theorem q230 : (Jvm.Cond.superclass "BenchBroker$Park" "java/lang/Object") ∈ lw_all := lw_g (lw_at lw_m1 145 rfl) rfl
theorem q314 : (Jvm.Cond.instanceMethod ({ cls := "BenchBroker$Park", name := "quietCount", desc := "()I" } : Jvm.MethodName)) ∈ lw_all := lw_g (lw_at lw_m1 229 rfl) rfl
theorem q315 : (Jvm.Cond.selects "BenchBroker$Park" ({ cls := "BenchBroker$Park", name := "quietCount", desc := "()I" } : Jvm.MethodName) ({ cls := "BenchBroker$Park", name := "quietCount", desc := "()I" } : Jvm.MethodName)) ∈ lw_all := lw_g (lw_at lw_m1 230 rfl) rfl
theorem q316 : (Jvm.Cond.code ({ cls := "BenchBroker$Park", name := "quietCount", desc := "()I" } : Jvm.MethodName) prog_10_method_37_code (1 : Nat) (Option.some Jvm.ClassFile.FieldType.int)) ∈ lw_all := lw_g (lw_at lw_m1 231 rfl) rfl
theorem q317 : (Jvm.Cond.privateMethod ({ cls := "BenchBroker$Park", name := "lambda$quietCount$5", desc := "(LBenchBroker$Bench;)I" } : Jvm.MethodName)) ∈ lw_tbl := lw_at lw_m1 232 rfl
theorem q318 : (Jvm.Cond.instanceMethod ({ cls := "BenchBroker$Park", name := "lambda$quietCount$5", desc := "(LBenchBroker$Bench;)I" } : Jvm.MethodName)) ∈ lw_all := lw_g (lw_at lw_m1 233 rfl) rfl
theorem q319 : (Jvm.Cond.code ({ cls := "BenchBroker$Park", name := "lambda$quietCount$5", desc := "(LBenchBroker$Bench;)I" } : Jvm.MethodName) prog_10_method_47_code (2 : Nat) (Option.some Jvm.ClassFile.FieldType.int)) ∈ lw_all := lw_g (lw_at lw_m1 234 rfl) rfl
theorem q320 : (Jvm.Cond.methodLink "BenchBroker$Park" (199 : Nat) ({ cls := "BenchBroker$Park", name := "isQuiet", desc := "(LBenchBroker$Bench;)Z" } : Jvm.MethodName)) ∈ lw_all := lw_g (lw_at lw_m1 235 rfl) rfl
theorem q321 : (Jvm.Cond.instanceMethod ({ cls := "BenchBroker$Park", name := "isQuiet", desc := "(LBenchBroker$Bench;)Z" } : Jvm.MethodName)) ∈ lw_all := lw_g (lw_at lw_m1 236 rfl) rfl
theorem q322 : (Jvm.Cond.selects "BenchBroker$Park" ({ cls := "BenchBroker$Park", name := "isQuiet", desc := "(LBenchBroker$Bench;)Z" } : Jvm.MethodName) ({ cls := "BenchBroker$Park", name := "isQuiet", desc := "(LBenchBroker$Bench;)Z" } : Jvm.MethodName)) ∈ lw_all := lw_g (lw_at lw_m1 237 rfl) rfl
theorem q323 : (Jvm.Cond.code ({ cls := "BenchBroker$Park", name := "isQuiet", desc := "(LBenchBroker$Bench;)Z" } : Jvm.MethodName) prog_10_method_11_code (2 : Nat) (Option.some Jvm.ClassFile.FieldType.boolean)) ∈ lw_all := lw_g (lw_at lw_m1 238 rfl) rfl
theorem q324 : (Jvm.Cond.methodLink "BenchBroker$Park" (167 : Nat) ({ cls := "BenchBroker$Park", name := "noiseOf", desc := "(LBenchBroker$Bench;)I" } : Jvm.MethodName)) ∈ lw_all := lw_g (lw_at lw_m1 239 rfl) rfl
theorem q325 : (Jvm.Cond.instanceMethod ({ cls := "BenchBroker$Park", name := "noiseOf", desc := "(LBenchBroker$Bench;)I" } : Jvm.MethodName)) ∈ lw_all := lw_g (lw_at lw_m2 0 rfl) rfl
theorem q326 : (Jvm.Cond.selects "BenchBroker$Park" ({ cls := "BenchBroker$Park", name := "noiseOf", desc := "(LBenchBroker$Bench;)I" } : Jvm.MethodName) ({ cls := "BenchBroker$Park", name := "noiseOf", desc := "(LBenchBroker$Bench;)I" } : Jvm.MethodName)) ∈ lw_all := lw_g (lw_at lw_m2 1 rfl) rfl
theorem q327 : (Jvm.Cond.code ({ cls := "BenchBroker$Park", name := "noiseOf", desc := "(LBenchBroker$Bench;)I" } : Jvm.MethodName) prog_10_method_9_code (2 : Nat) (Option.some Jvm.ClassFile.FieldType.int)) ∈ lw_all := lw_g (lw_at lw_m2 2 rfl) rfl
theorem q328 : (Jvm.Cond.methodLink "BenchBroker$Park" (158 : Nat) ({ cls := "BenchBroker$Bench", name := "row", desc := "()I" } : Jvm.MethodName)) ∈ lw_all := lw_g (lw_at lw_m2 3 rfl) rfl
theorem q334 : (Jvm.Cond.methodLink "BenchBroker$Park" (159 : Nat) ({ cls := "BenchBroker$Bench", name := "column", desc := "()I" } : Jvm.MethodName)) ∈ lw_all := lw_g (lw_at lw_m2 9 rfl) rfl
theorem q340 : (Jvm.Cond.methodLink "BenchBroker$Park" (160 : Nat) ({ cls := "BenchBroker$Park", name := "noiseAt", desc := "(II)I" } : Jvm.MethodName)) ∈ lw_all := lw_g (lw_at lw_m2 15 rfl) rfl
theorem q341 : (Jvm.Cond.instanceMethod ({ cls := "BenchBroker$Park", name := "noiseAt", desc := "(II)I" } : Jvm.MethodName)) ∈ lw_all := lw_g (lw_at lw_m2 16 rfl) rfl
theorem q342 : (Jvm.Cond.selects "BenchBroker$Park" ({ cls := "BenchBroker$Park", name := "noiseAt", desc := "(II)I" } : Jvm.MethodName) ({ cls := "BenchBroker$Park", name := "noiseAt", desc := "(II)I" } : Jvm.MethodName)) ∈ lw_all := lw_g (lw_at lw_m2 17 rfl) rfl
theorem q343 : (Jvm.Cond.code ({ cls := "BenchBroker$Park", name := "noiseAt", desc := "(II)I" } : Jvm.MethodName) prog_10_method_4_code (3 : Nat) (Option.some Jvm.ClassFile.FieldType.int)) ∈ lw_all := lw_g (lw_at lw_m2 18 rfl) rfl
theorem q344 : (Jvm.Cond.static ({ cls := "BenchBroker$Park", name := "lambda$noiseAt$0", desc := "(IILBenchBroker$Fountain;)I" } : Jvm.MethodName)) ∈ lw_all := lw_g (lw_at lw_m2 19 rfl) rfl
theorem q345 : (Jvm.Cond.code ({ cls := "BenchBroker$Park", name := "lambda$noiseAt$0", desc := "(IILBenchBroker$Fountain;)I" } : Jvm.MethodName) prog_10_method_52_code (3 : Nat) (Option.some Jvm.ClassFile.FieldType.int)) ∈ lw_all := lw_g (lw_at lw_m2 20 rfl) rfl
theorem q346 : (Jvm.Cond.methodLink "BenchBroker$Park" (290 : Nat) ({ cls := "BenchBroker$Fountain", name := "noiseAt", desc := "(II)I" } : Jvm.MethodName)) ∈ lw_all := lw_g (lw_at lw_m2 21 rfl) rfl
theorem q362 : (Jvm.Cond.methodLink "BenchBroker$Park" (113 : Nat) ({ cls := "BenchBroker$Register", name := "sum", desc := "(LBenchBroker$Value;)I" } : Jvm.MethodName)) ∈ lw_all := lw_g (lw_at lw_m2 37 rfl) rfl
theorem q385 : (Jvm.Cond.methodLinkNest "BenchBroker$Park" (226 : Nat) ({ cls := "BenchBroker", name := "asInt", desc := "(Z)I" } : Jvm.MethodName) "BenchBroker") ∈ lw_tbl := lw_at lw_m2 60 rfl
theorem q405 : (Jvm.Cond.instanceMethod ({ cls := "BenchBroker$Park", name := "depositTotal", desc := "()I" } : Jvm.MethodName)) ∈ lw_all := lw_g (lw_at lw_m2 80 rfl) rfl
theorem q406 : (Jvm.Cond.selects "BenchBroker$Park" ({ cls := "BenchBroker$Park", name := "depositTotal", desc := "()I" } : Jvm.MethodName) ({ cls := "BenchBroker$Park", name := "depositTotal", desc := "()I" } : Jvm.MethodName)) ∈ lw_all := lw_g (lw_at lw_m2 81 rfl) rfl
theorem q407 : (Jvm.Cond.code ({ cls := "BenchBroker$Park", name := "depositTotal", desc := "()I" } : Jvm.MethodName) prog_10_method_34_code (1 : Nat) (Option.some Jvm.ClassFile.FieldType.int)) ∈ lw_all := lw_g (lw_at lw_m2 82 rfl) rfl
theorem q408 : (Jvm.Cond.static ({ cls := "BenchBroker$Park", name := "lambda$depositTotal$2", desc := "(LBenchBroker$Bench;)I" } : Jvm.MethodName)) ∈ lw_all := lw_g (lw_at lw_m2 83 rfl) rfl
theorem q409 : (Jvm.Cond.code ({ cls := "BenchBroker$Park", name := "lambda$depositTotal$2", desc := "(LBenchBroker$Bench;)I" } : Jvm.MethodName) prog_10_method_50_code (1 : Nat) (Option.some Jvm.ClassFile.FieldType.int)) ∈ lw_all := lw_g (lw_at lw_m2 84 rfl) rfl
theorem q415 : (Jvm.Cond.instanceMethod ({ cls := "BenchBroker$Park", name := "allCoins", desc := "()I" } : Jvm.MethodName)) ∈ lw_all := lw_g (lw_at lw_m2 90 rfl) rfl
theorem q416 : (Jvm.Cond.selects "BenchBroker$Park" ({ cls := "BenchBroker$Park", name := "allCoins", desc := "()I" } : Jvm.MethodName) ({ cls := "BenchBroker$Park", name := "allCoins", desc := "()I" } : Jvm.MethodName)) ∈ lw_all := lw_g (lw_at lw_m2 91 rfl) rfl
theorem q417 : (Jvm.Cond.code ({ cls := "BenchBroker$Park", name := "allCoins", desc := "()I" } : Jvm.MethodName) prog_10_method_35_code (1 : Nat) (Option.some Jvm.ClassFile.FieldType.int)) ∈ lw_all := lw_g (lw_at lw_m2 92 rfl) rfl
theorem q418 : (Jvm.Cond.static ({ cls := "BenchBroker$Park", name := "lambda$allCoins$3", desc := "(LBenchBroker$Tenant;)I" } : Jvm.MethodName)) ∈ lw_all := lw_g (lw_at lw_m2 93 rfl) rfl
theorem q419 : (Jvm.Cond.code ({ cls := "BenchBroker$Park", name := "lambda$allCoins$3", desc := "(LBenchBroker$Tenant;)I" } : Jvm.MethodName) prog_10_method_49_code (1 : Nat) (Option.some Jvm.ClassFile.FieldType.int)) ∈ lw_all := lw_g (lw_at lw_m2 94 rfl) rfl
theorem q420 : (Jvm.Cond.methodLink "BenchBroker$Park" (251 : Nat) ({ cls := "BenchBroker$Park", name := "depositTotal", desc := "()I" } : Jvm.MethodName)) ∈ lw_all := lw_g (lw_at lw_m2 95 rfl) rfl
theorem q442 : (Jvm.Cond.instanceMethod ({ cls := "BenchBroker$Park", name := "isConsistent", desc := "()Z" } : Jvm.MethodName)) ∈ lw_all := lw_g (lw_at lw_m2 117 rfl) rfl
theorem q443 : (Jvm.Cond.selects "BenchBroker$Park" ({ cls := "BenchBroker$Park", name := "isConsistent", desc := "()Z" } : Jvm.MethodName) ({ cls := "BenchBroker$Park", name := "isConsistent", desc := "()Z" } : Jvm.MethodName)) ∈ lw_all := lw_g (lw_at lw_m2 118 rfl) rfl
theorem q444 : (Jvm.Cond.code ({ cls := "BenchBroker$Park", name := "isConsistent", desc := "()Z" } : Jvm.MethodName) prog_10_method_42_code (3 : Nat) (Option.some Jvm.ClassFile.FieldType.boolean)) ∈ lw_all := lw_g (lw_at lw_m2 119 rfl) rfl
theorem q445 : (Jvm.Cond.methodLink "BenchBroker$Park" (270 : Nat) ({ cls := "BenchBroker$Park", name := "isNoiseConsistent", desc := "()Z" } : Jvm.MethodName)) ∈ lw_all := lw_g (lw_at lw_m2 120 rfl) rfl
theorem q446 : (Jvm.Cond.privateMethod ({ cls := "BenchBroker$Park", name := "isNoiseConsistent", desc := "()Z" } : Jvm.MethodName)) ∈ lw_tbl := lw_at lw_m2 121 rfl
theorem q447 : (Jvm.Cond.instanceMethod ({ cls := "BenchBroker$Park", name := "isNoiseConsistent", desc := "()Z" } : Jvm.MethodName)) ∈ lw_all := lw_g (lw_at lw_m2 122 rfl) rfl
theorem q448 : (Jvm.Cond.code ({ cls := "BenchBroker$Park", name := "isNoiseConsistent", desc := "()Z" } : Jvm.MethodName) prog_10_method_41_code (4 : Nat) (Option.some Jvm.ClassFile.FieldType.boolean)) ∈ lw_all := lw_g (lw_at lw_m2 123 rfl) rfl
theorem q449 : (Jvm.Cond.methodLink "BenchBroker$Park" (155 : Nat) ({ cls := "BenchBroker$Park", name := "spread", desc := "()[I" } : Jvm.MethodName)) ∈ lw_all := lw_g (lw_at lw_m2 124 rfl) rfl
theorem q450 : (Jvm.Cond.privateMethod ({ cls := "BenchBroker$Park", name := "spread", desc := "()[I" } : Jvm.MethodName)) ∈ lw_tbl := lw_at lw_m2 125 rfl
theorem q451 : (Jvm.Cond.instanceMethod ({ cls := "BenchBroker$Park", name := "spread", desc := "()[I" } : Jvm.MethodName)) ∈ lw_all := lw_g (lw_at lw_m2 126 rfl) rfl
theorem q452 : (Jvm.Cond.code ({ cls := "BenchBroker$Park", name := "spread", desc := "()[I" } : Jvm.MethodName) prog_10_method_5_code (7 : Nat) (Option.some (Jvm.ClassFile.FieldType.array Jvm.ClassFile.FieldType.int))) ∈ lw_all := lw_g (lw_at lw_m2 127 rfl) rfl
theorem q453 : (Jvm.Cond.classLink "BenchBroker$Park" (117 : Nat) "java/util/ArrayDeque") ∈ lw_all := lw_g (lw_at lw_m2 128 rfl) rfl
theorem q455 : (Jvm.Cond.methodLink "BenchBroker$Park" (119 : Nat) ({ cls := "java/util/ArrayDeque", name := "<init>", desc := "()V" } : Jvm.MethodName)) ∈ lw_all := lw_g (lw_at lw_m2 130 rfl) rfl
theorem q472 : (Jvm.Cond.methodLink "BenchBroker$Park" (29 : Nat) ({ cls := "BenchBroker$Register", name := "size", desc := "()I" } : Jvm.MethodName)) ∈ lw_all := lw_g (lw_at lw_m2 147 rfl) rfl
theorem q473 : (Jvm.Cond.methodLink "BenchBroker$Park" (33 : Nat) ({ cls := "BenchBroker$Register", name := "get", desc := "(I)LBenchBroker$Item;" } : Jvm.MethodName)) ∈ lw_all := lw_g (lw_at lw_m2 148 rfl) rfl
theorem q477 : (Jvm.Cond.classLink "BenchBroker$Park" (37 : Nat) "BenchBroker$Fountain") ∈ lw_all := lw_g (lw_at lw_m2 152 rfl) rfl
theorem q478 : (Jvm.Cond.methodLink "BenchBroker$Park" (39 : Nat) ({ cls := "BenchBroker$Fountain", name := "row", desc := "()I" } : Jvm.MethodName)) ∈ lw_all := lw_g (lw_at lw_m2 153 rfl) rfl
theorem q481 : (Jvm.Cond.methodLink "BenchBroker$Park" (42 : Nat) ({ cls := "BenchBroker$Fountain", name := "column", desc := "()I" } : Jvm.MethodName)) ∈ lw_all := lw_g (lw_at lw_m2 156 rfl) rfl
theorem q484 : (Jvm.Cond.methodLink "BenchBroker$Park" (120 : Nat) ({ cls := "java/lang/Integer", name := "valueOf", desc := "(I)Ljava/lang/Integer;" } : Jvm.MethodName)) ∈ lw_all := lw_g (lw_at lw_m2 159 rfl) rfl
theorem q504 : (Jvm.Cond.methodLink "BenchBroker$Park" (126 : Nat) ({ cls := "java/util/ArrayDeque", name := "add", desc := "(Ljava/lang/Object;)Z" } : Jvm.MethodName)) ∈ lw_all := lw_g (lw_at lw_m2 179 rfl) rfl
theorem q612 : (Jvm.Cond.selects "BenchBroker$Park" ({ cls := "java/lang/Object", name := "getClass", desc := "()Ljava/lang/Class;" } : Jvm.MethodName) ({ cls := "java/lang/Object", name := "getClass", desc := "()Ljava/lang/Class;" } : Jvm.MethodName)) ∈ lw_all := lw_g (lw_at lw_m3 47 rfl) rfl
theorem q647 : (Jvm.Cond.methodLink "BenchBroker$Park" (129 : Nat) ({ cls := "BenchBroker$Park", name := "spread", desc := "(I[ILjava/util/ArrayDeque;)V" } : Jvm.MethodName)) ∈ lw_all := lw_g (lw_at lw_m3 82 rfl) rfl
theorem q648 : (Jvm.Cond.static ({ cls := "BenchBroker$Park", name := "spread", desc := "(I[ILjava/util/ArrayDeque;)V" } : Jvm.MethodName)) ∈ lw_all := lw_g (lw_at lw_m3 83 rfl) rfl
theorem q649 : (Jvm.Cond.code ({ cls := "BenchBroker$Park", name := "spread", desc := "(I[ILjava/util/ArrayDeque;)V" } : Jvm.MethodName) prog_10_method_6_code (6 : Nat) (Option.none : Option Jvm.ClassFile.FieldType)) ∈ lw_all := lw_g (lw_at lw_m3 84 rfl) rfl
theorem q650 : (Jvm.Cond.methodLink "BenchBroker$Park" (133 : Nat) ({ cls := "java/util/ArrayDeque", name := "peek", desc := "()Ljava/lang/Object;" } : Jvm.MethodName)) ∈ lw_all := lw_g (lw_at lw_m3 85 rfl) rfl
theorem q661 : (Jvm.Cond.classLink "BenchBroker$Park" (121 : Nat) "java/lang/Integer") ∈ lw_all := lw_g (lw_at lw_m3 96 rfl) rfl
theorem q662 : (Jvm.Cond.methodLink "BenchBroker$Park" (137 : Nat) ({ cls := "java/lang/Integer", name := "intValue", desc := "()I" } : Jvm.MethodName)) ∈ lw_all := lw_g (lw_at lw_m3 97 rfl) rfl
theorem q666 : (Jvm.Cond.methodLink "BenchBroker$Park" (140 : Nat) ({ cls := "java/util/ArrayDeque", name := "isEmpty", desc := "()Z" } : Jvm.MethodName)) ∈ lw_all := lw_g (lw_at lw_m3 101 rfl) rfl
theorem q670 : (Jvm.Cond.methodLink "BenchBroker$Park" (144 : Nat) ({ cls := "java/util/ArrayDeque", name := "remove", desc := "()Ljava/lang/Object;" } : Jvm.MethodName)) ∈ lw_all := lw_g (lw_at lw_m3 105 rfl) rfl
theorem q703 : (Jvm.Cond.methodLink "BenchBroker$Park" (147 : Nat) ({ cls := "BenchBroker$Park", name := "reach", desc := "(II[ILjava/util/ArrayDeque;)V" } : Jvm.MethodName)) ∈ lw_all := lw_g (lw_at lw_m3 138 rfl) rfl
theorem q704 : (Jvm.Cond.static ({ cls := "BenchBroker$Park", name := "reach", desc := "(II[ILjava/util/ArrayDeque;)V" } : Jvm.MethodName)) ∈ lw_all := lw_g (lw_at lw_m3 139 rfl) rfl
theorem q705 : (Jvm.Cond.code ({ cls := "BenchBroker$Park", name := "reach", desc := "(II[ILjava/util/ArrayDeque;)V" } : Jvm.MethodName) prog_10_method_7_code (4 : Nat) (Option.none : Option Jvm.ClassFile.FieldType)) ∈ lw_all := lw_g (lw_at lw_m3 140 rfl) rfl
theorem q706 : (Jvm.Cond.methodLinkNest "BenchBroker$Park" (151 : Nat) ({ cls := "BenchBroker", name := "isBetween", desc := "(III)Z" } : Jvm.MethodName) "BenchBroker") ∈ lw_tbl := lw_at lw_m3 141 rfl
theorem q709 : (Jvm.Cond.methodLink "BenchBroker$Park" (273 : Nat) ({ cls := "BenchBroker$Park", name := "allCoins", desc := "()I" } : Jvm.MethodName)) ∈ lw_all := lw_g (lw_at lw_m3 144 rfl) rfl
theorem q710 : (Jvm.Cond.methodLink "BenchBroker$Park" (276 : Nat) ({ cls := "BenchBroker$Park", name := "letCount", desc := "()I" } : Jvm.MethodName)) ∈ lw_all := lw_g (lw_at lw_m3 145 rfl) rfl
theorem q711 : (Jvm.Cond.instanceMethod ({ cls := "BenchBroker$Park", name := "letCount", desc := "()I" } : Jvm.MethodName)) ∈ lw_all := lw_g (lw_at lw_m3 146 rfl) rfl
theorem q712 : (Jvm.Cond.selects "BenchBroker$Park" ({ cls := "BenchBroker$Park", name := "letCount", desc := "()I" } : Jvm.MethodName) ({ cls := "BenchBroker$Park", name := "letCount", desc := "()I" } : Jvm.MethodName)) ∈ lw_all := lw_g (lw_at lw_m3 147 rfl) rfl
theorem q713 : (Jvm.Cond.code ({ cls := "BenchBroker$Park", name := "letCount", desc := "()I" } : Jvm.MethodName) prog_10_method_36_code (1 : Nat) (Option.some Jvm.ClassFile.FieldType.int)) ∈ lw_all := lw_g (lw_at lw_m3 148 rfl) rfl
theorem q714 : (Jvm.Cond.static ({ cls := "BenchBroker$Park", name := "lambda$letCount$4", desc := "(LBenchBroker$Bench;)I" } : Jvm.MethodName)) ∈ lw_all := lw_g (lw_at lw_m3 149 rfl) rfl
theorem q715 : (Jvm.Cond.code ({ cls := "BenchBroker$Park", name := "lambda$letCount$4", desc := "(LBenchBroker$Bench;)I" } : Jvm.MethodName) prog_10_method_48_code (1 : Nat) (Option.some Jvm.ClassFile.FieldType.int)) ∈ lw_all := lw_g (lw_at lw_m3 150 rfl) rfl
theorem q716 : (Jvm.Cond.methodLink "BenchBroker$Park" (196 : Nat) ({ cls := "BenchBroker$Bench", name := "isLet", desc := "()Z" } : Jvm.MethodName)) ∈ lw_all := lw_g (lw_at lw_m3 151 rfl) rfl
theorem q720 : (Jvm.Cond.static ({ cls := "BenchBroker$Park", name := "lambda$isConsistent$9", desc := "(LBenchBroker$Tenant;)I" } : Jvm.MethodName)) ∈ lw_all := lw_g (lw_at lw_m3 155 rfl) rfl
theorem q721 : (Jvm.Cond.code ({ cls := "BenchBroker$Park", name := "lambda$isConsistent$9", desc := "(LBenchBroker$Tenant;)I" } : Jvm.MethodName) prog_10_method_43_code (1 : Nat) (Option.some Jvm.ClassFile.FieldType.int)) ∈ lw_all := lw_g (lw_at lw_m3 156 rfl) rfl
theorem q722 : (Jvm.Cond.methodLink "BenchBroker$Park" (280 : Nat) ({ cls := "BenchBroker$Park", name := "incomeWithin", desc := "(I)I" } : Jvm.MethodName)) ∈ lw_all := lw_g (lw_at lw_m3 157 rfl) rfl
theorem q723 : (Jvm.Cond.instanceMethod ({ cls := "BenchBroker$Park", name := "incomeWithin", desc := "(I)I" } : Jvm.MethodName)) ∈ lw_all := lw_g (lw_at lw_m3 158 rfl) rfl
theorem q724 : (Jvm.Cond.selects "BenchBroker$Park" ({ cls := "BenchBroker$Park", name := "incomeWithin", desc := "(I)I" } : Jvm.MethodName) ({ cls := "BenchBroker$Park", name := "incomeWithin", desc := "(I)I" } : Jvm.MethodName)) ∈ lw_all := lw_g (lw_at lw_m3 159 rfl) rfl
theorem q725 : (Jvm.Cond.code ({ cls := "BenchBroker$Park", name := "incomeWithin", desc := "(I)I" } : Jvm.MethodName) prog_10_method_29_code (4 : Nat) (Option.some Jvm.ClassFile.FieldType.int)) ∈ lw_all := lw_g (lw_at lw_m3 160 rfl) rfl
theorem q726 : (Jvm.Cond.methodLink "BenchBroker$Park" (230 : Nat) ({ cls := "BenchBroker$Park", name := "copy", desc := "()LBenchBroker$Park;" } : Jvm.MethodName)) ∈ lw_all := lw_g (lw_at lw_m3 161 rfl) rfl
theorem q727 : (Jvm.Cond.instanceMethod ({ cls := "BenchBroker$Park", name := "copy", desc := "()LBenchBroker$Park;" } : Jvm.MethodName)) ∈ lw_all := lw_g (lw_at lw_m3 162 rfl) rfl
theorem q728 : (Jvm.Cond.selects "BenchBroker$Park" ({ cls := "BenchBroker$Park", name := "copy", desc := "()LBenchBroker$Park;" } : Jvm.MethodName) ({ cls := "BenchBroker$Park", name := "copy", desc := "()LBenchBroker$Park;" } : Jvm.MethodName)) ∈ lw_all := lw_g (lw_at lw_m3 163 rfl) rfl
theorem q729 : (Jvm.Cond.code ({ cls := "BenchBroker$Park", name := "copy", desc := "()LBenchBroker$Park;" } : Jvm.MethodName) prog_10_method_2_code (5 : Nat) (Option.some (Jvm.ClassFile.FieldType.object "BenchBroker$Park"))) ∈ lw_all := lw_g (lw_at lw_m3 164 rfl) rfl
theorem q730 : (Jvm.Cond.classLink "BenchBroker$Park" (13 : Nat) "BenchBroker$Park") ∈ lw_all := lw_g (lw_at lw_m3 165 rfl) rfl
theorem q731 : (Jvm.Cond.methodLink "BenchBroker$Park" (28 : Nat) ({ cls := "BenchBroker$Park", name := "<init>", desc := "()V" } : Jvm.MethodName)) ∈ lw_all := lw_g (lw_at lw_m3 166 rfl) rfl
theorem q733 : (Jvm.Cond.methodLink "BenchBroker$Park" (45 : Nat) ({ cls := "BenchBroker$Fountain", name := "<init>", desc := "(III)V" } : Jvm.MethodName)) ∈ lw_all := lw_g (lw_at lw_m3 168 rfl) rfl
theorem q744 : (Jvm.Cond.fieldLinkNest "BenchBroker$Park" (48 : Nat) "BenchBroker$Fountain" "loudness" "I" "BenchBroker") ∈ lw_tbl := lw_at lw_m3 179 rfl
theorem q747 : (Jvm.Cond.fieldLinkNest "BenchBroker$Park" (51 : Nat) "BenchBroker$Fountain" "running" "Z" "BenchBroker") ∈ lw_tbl := lw_at lw_m3 182 rfl
theorem q763 : (Jvm.Cond.methodLink "BenchBroker$Park" (55 : Nat) ({ cls := "BenchBroker$Register", name := "add", desc := "(LBenchBroker$Item;)V" } : Jvm.MethodName)) ∈ lw_all := lw_g (lw_at lw_m3 198 rfl) rfl
theorem q794 : (Jvm.Cond.classLink "BenchBroker$Park" (59 : Nat) "BenchBroker$Bench") ∈ lw_all := lw_g (lw_at lw_m3 229 rfl) rfl
theorem q795 : (Jvm.Cond.methodLinkNest "BenchBroker$Park" (61 : Nat) ({ cls := "BenchBroker", name := "copyBench", desc := "(LBenchBroker$Bench;LBenchBroker$Register;)V" } : Jvm.MethodName) "BenchBroker") ∈ lw_tbl := lw_at lw_m3 230 rfl
theorem q812 : (Jvm.Cond.fieldLinkNest "BenchBroker$Park" (164 : Nat) "BenchBroker$Bench" "baseRent" "I" "BenchBroker") ∈ lw_tbl := lw_at lw_m4 7 rfl
theorem q815 : (Jvm.Cond.fieldLinkNest "BenchBroker$Park" (105 : Nat) "BenchBroker$Bench" "tenant" "LBenchBroker$Tenant;" "BenchBroker") ∈ lw_tbl := lw_at lw_m4 10 rfl
theorem q819 : (Jvm.Cond.fieldLinkNest "BenchBroker$Park" (210 : Nat) "BenchBroker$Bench" "deposit" "I" "BenchBroker") ∈ lw_tbl := lw_at lw_m4 14 rfl
theorem q822 : (Jvm.Cond.fieldLinkNest "BenchBroker$Park" (213 : Nat) "BenchBroker$Bench" "monthsLeft" "I" "BenchBroker") ∈ lw_tbl := lw_at lw_m4 17 rfl
theorem q836 : (Jvm.Cond.classLink "BenchBroker$Park" (65 : Nat) "BenchBroker$Tenant") ∈ lw_all := lw_g (lw_at lw_m4 31 rfl) rfl
theorem q838 : (Jvm.Cond.methodLink "BenchBroker$Park" (70 : Nat) ({ cls := "BenchBroker$Tenant", name := "<init>", desc := "(II)V" } : Jvm.MethodName)) ∈ lw_all := lw_g (lw_at lw_m4 33 rfl) rfl
theorem q843 : (Jvm.Cond.fieldLinkNest "BenchBroker$Park" (67 : Nat) "BenchBroker$Tenant" "coins" "I" "BenchBroker") ∈ lw_tbl := lw_at lw_m4 38 rfl
theorem q846 : (Jvm.Cond.fieldLinkNest "BenchBroker$Park" (73 : Nat) "BenchBroker$Tenant" "defaults" "I" "BenchBroker") ∈ lw_tbl := lw_at lw_m4 41 rfl
theorem q848 : (Jvm.Cond.fieldLinkNest "BenchBroker$Park" (76 : Nat) "BenchBroker$Tenant" "bench" "LBenchBroker$Bench;" "BenchBroker") ∈ lw_tbl := lw_at lw_m4 43 rfl
theorem q859 : (Jvm.Cond.methodLink "BenchBroker$Park" (80 : Nat) ({ cls := "BenchBroker$Bench", name := "index", desc := "()I" } : Jvm.MethodName)) ∈ lw_all := lw_g (lw_at lw_m4 54 rfl) rfl
theorem q860 : (Jvm.Cond.methodLink "BenchBroker$Park" (83 : Nat) ({ cls := "BenchBroker$Park", name := "join", desc := "(LBenchBroker$Tenant;LBenchBroker$Bench;)V" } : Jvm.MethodName)) ∈ lw_all := lw_g (lw_at lw_m4 55 rfl) rfl
theorem q861 : (Jvm.Cond.privateMethod ({ cls := "BenchBroker$Park", name := "join", desc := "(LBenchBroker$Tenant;LBenchBroker$Bench;)V" } : Jvm.MethodName)) ∈ lw_tbl := lw_at lw_m4 56 rfl
theorem q862 : (Jvm.Cond.instanceMethod ({ cls := "BenchBroker$Park", name := "join", desc := "(LBenchBroker$Tenant;LBenchBroker$Bench;)V" } : Jvm.MethodName)) ∈ lw_all := lw_g (lw_at lw_m4 57 rfl) rfl
theorem q863 : (Jvm.Cond.code ({ cls := "BenchBroker$Park", name := "join", desc := "(LBenchBroker$Tenant;LBenchBroker$Bench;)V" } : Jvm.MethodName) prog_10_method_3_code (3 : Nat) (Option.none : Option Jvm.ClassFile.FieldType)) ∈ lw_all := lw_g (lw_at lw_m4 58 rfl) rfl
theorem q864 : (Jvm.Cond.methodLink "BenchBroker$Park" (234 : Nat) ({ cls := "BenchBroker$Park", name := "passMonths", desc := "(I)I" } : Jvm.MethodName)) ∈ lw_all := lw_g (lw_at lw_m4 59 rfl) rfl
theorem q865 : (Jvm.Cond.instanceMethod ({ cls := "BenchBroker$Park", name := "passMonths", desc := "(I)I" } : Jvm.MethodName)) ∈ lw_all := lw_g (lw_at lw_m4 60 rfl) rfl
theorem q866 : (Jvm.Cond.selects "BenchBroker$Park" ({ cls := "BenchBroker$Park", name := "passMonths", desc := "(I)I" } : Jvm.MethodName) ({ cls := "BenchBroker$Park", name := "passMonths", desc := "(I)I" } : Jvm.MethodName)) ∈ lw_all := lw_g (lw_at lw_m4 61 rfl) rfl
theorem q867 : (Jvm.Cond.code ({ cls := "BenchBroker$Park", name := "passMonths", desc := "(I)I" } : Jvm.MethodName) prog_10_method_27_code (6 : Nat) (Option.some Jvm.ClassFile.FieldType.int)) ∈ lw_all := lw_g (lw_at lw_m4 62 rfl) rfl
theorem q868 : (Jvm.Cond.methodLink "BenchBroker$Park" (223 : Nat) ({ cls := "BenchBroker$Park", name := "bill", desc := "(LBenchBroker$Bench;)Z" } : Jvm.MethodName)) ∈ lw_all := lw_g (lw_at lw_m4 63 rfl) rfl
theorem q869 : (Jvm.Cond.privateMethod ({ cls := "BenchBroker$Park", name := "bill", desc := "(LBenchBroker$Bench;)Z" } : Jvm.MethodName)) ∈ lw_tbl := lw_at lw_m4 64 rfl
theorem q870 : (Jvm.Cond.instanceMethod ({ cls := "BenchBroker$Park", name := "bill", desc := "(LBenchBroker$Bench;)Z" } : Jvm.MethodName)) ∈ lw_all := lw_g (lw_at lw_m4 65 rfl) rfl
theorem q871 : (Jvm.Cond.code ({ cls := "BenchBroker$Park", name := "bill", desc := "(LBenchBroker$Bench;)Z" } : Jvm.MethodName) prog_10_method_28_code (4 : Nat) (Option.some Jvm.ClassFile.FieldType.boolean)) ∈ lw_all := lw_g (lw_at lw_m4 66 rfl) rfl
theorem q872 : (Jvm.Cond.methodLink "BenchBroker$Park" (203 : Nat) ({ cls := "BenchBroker$Park", name := "rentOf", desc := "(LBenchBroker$Bench;)I" } : Jvm.MethodName)) ∈ lw_all := lw_g (lw_at lw_m4 67 rfl) rfl
theorem q873 : (Jvm.Cond.instanceMethod ({ cls := "BenchBroker$Park", name := "rentOf", desc := "(LBenchBroker$Bench;)I" } : Jvm.MethodName)) ∈ lw_all := lw_g (lw_at lw_m4 68 rfl) rfl
theorem q874 : (Jvm.Cond.selects "BenchBroker$Park" ({ cls := "BenchBroker$Park", name := "rentOf", desc := "(LBenchBroker$Bench;)I" } : Jvm.MethodName) ({ cls := "BenchBroker$Park", name := "rentOf", desc := "(LBenchBroker$Bench;)I" } : Jvm.MethodName)) ∈ lw_all := lw_g (lw_at lw_m4 69 rfl) rfl
theorem q875 : (Jvm.Cond.code ({ cls := "BenchBroker$Park", name := "rentOf", desc := "(LBenchBroker$Bench;)I" } : Jvm.MethodName) prog_10_method_10_code (2 : Nat) (Option.some Jvm.ClassFile.FieldType.int)) ∈ lw_all := lw_g (lw_at lw_m4 70 rfl) rfl
theorem q876 : (Jvm.Cond.methodLink "BenchBroker$Park" (171 : Nat) ({ cls := "java/lang/Math", name := "max", desc := "(II)I" } : Jvm.MethodName)) ∈ lw_all := lw_g (lw_at lw_m4 71 rfl) rfl
theorem q877 : (Jvm.Cond.methodLink "BenchBroker$Park" (220 : Nat) ({ cls := "BenchBroker$Bench", name := "end", desc := "()I" } : Jvm.MethodName)) ∈ lw_all := lw_g (lw_at lw_m4 72 rfl) rfl
theorem q881 : (Jvm.Cond.methodLink "BenchBroker$Park" (283 : Nat) ({ cls := "BenchBroker$Park", name := "incomeByLeases", desc := "(I)I" } : Jvm.MethodName)) ∈ lw_all := lw_g (lw_at lw_m4 76 rfl) rfl
theorem q882 : (Jvm.Cond.instanceMethod ({ cls := "BenchBroker$Park", name := "incomeByLeases", desc := "(I)I" } : Jvm.MethodName)) ∈ lw_all := lw_g (lw_at lw_m4 77 rfl) rfl
theorem q883 : (Jvm.Cond.selects "BenchBroker$Park" ({ cls := "BenchBroker$Park", name := "incomeByLeases", desc := "(I)I" } : Jvm.MethodName) ({ cls := "BenchBroker$Park", name := "incomeByLeases", desc := "(I)I" } : Jvm.MethodName)) ∈ lw_all := lw_g (lw_at lw_m4 78 rfl) rfl
theorem q884 : (Jvm.Cond.code ({ cls := "BenchBroker$Park", name := "incomeByLeases", desc := "(I)I" } : Jvm.MethodName) prog_10_method_32_code (2 : Nat) (Option.some Jvm.ClassFile.FieldType.int)) ∈ lw_all := lw_g (lw_at lw_m4 79 rfl) rfl
theorem q885 : (Jvm.Cond.privateMethod ({ cls := "BenchBroker$Park", name := "lambda$incomeByLeases$1", desc := "(ILBenchBroker$Bench;)I" } : Jvm.MethodName)) ∈ lw_tbl := lw_at lw_m4 80 rfl
theorem q886 : (Jvm.Cond.instanceMethod ({ cls := "BenchBroker$Park", name := "lambda$incomeByLeases$1", desc := "(ILBenchBroker$Bench;)I" } : Jvm.MethodName)) ∈ lw_all := lw_g (lw_at lw_m4 81 rfl) rfl
theorem q887 : (Jvm.Cond.code ({ cls := "BenchBroker$Park", name := "lambda$incomeByLeases$1", desc := "(ILBenchBroker$Bench;)I" } : Jvm.MethodName) prog_10_method_51_code (3 : Nat) (Option.some Jvm.ClassFile.FieldType.int)) ∈ lw_all := lw_g (lw_at lw_m4 82 rfl) rfl
theorem q888 : (Jvm.Cond.methodLink "BenchBroker$Park" (286 : Nat) ({ cls := "BenchBroker$Park", name := "incomeOf", desc := "(LBenchBroker$Bench;I)I" } : Jvm.MethodName)) ∈ lw_all := lw_g (lw_at lw_m4 83 rfl) rfl
theorem q889 : (Jvm.Cond.privateMethod ({ cls := "BenchBroker$Park", name := "incomeOf", desc := "(LBenchBroker$Bench;I)I" } : Jvm.MethodName)) ∈ lw_tbl := lw_at lw_m4 84 rfl
theorem q890 : (Jvm.Cond.instanceMethod ({ cls := "BenchBroker$Park", name := "incomeOf", desc := "(LBenchBroker$Bench;I)I" } : Jvm.MethodName)) ∈ lw_all := lw_g (lw_at lw_m4 85 rfl) rfl
theorem q891 : (Jvm.Cond.code ({ cls := "BenchBroker$Park", name := "incomeOf", desc := "(LBenchBroker$Bench;I)I" } : Jvm.MethodName) prog_10_method_31_code (5 : Nat) (Option.some Jvm.ClassFile.FieldType.int)) ∈ lw_all := lw_g (lw_at lw_m4 86 rfl) rfl
theorem q892 : (Jvm.Cond.methodLink "BenchBroker$Park" (238 : Nat) ({ cls := "java/lang/Math", name := "min", desc := "(II)I" } : Jvm.MethodName)) ∈ lw_all := lw_g (lw_at lw_m4 87 rfl) rfl
theorem q893 : (Jvm.Cond.methodLink "BenchBroker$Park" (241 : Nat) ({ cls := "BenchBroker$Park", name := "payable", desc := "(LBenchBroker$Bench;)I" } : Jvm.MethodName)) ∈ lw_all := lw_g (lw_at lw_m4 88 rfl) rfl
theorem q894 : (Jvm.Cond.privateMethod ({ cls := "BenchBroker$Park", name := "payable", desc := "(LBenchBroker$Bench;)I" } : Jvm.MethodName)) ∈ lw_tbl := lw_at lw_m4 89 rfl
theorem q895 : (Jvm.Cond.instanceMethod ({ cls := "BenchBroker$Park", name := "payable", desc := "(LBenchBroker$Bench;)I" } : Jvm.MethodName)) ∈ lw_all := lw_g (lw_at lw_m4 90 rfl) rfl
theorem q896 : (Jvm.Cond.code ({ cls := "BenchBroker$Park", name := "payable", desc := "(LBenchBroker$Bench;)I" } : Jvm.MethodName) prog_10_method_30_code (2 : Nat) (Option.some Jvm.ClassFile.FieldType.int)) ∈ lw_all := lw_g (lw_at lw_m4 91 rfl) rfl
theorem q1030 : (Jvm.Cond.instanceMethod ({ cls := "BenchBroker$Park", name := "addBench", desc := "(III)I" } : Jvm.MethodName)) ∈ lw_all := lw_g (lw_at lw_m4 225 rfl) rfl
theorem q1031 : (Jvm.Cond.selects "BenchBroker$Park" ({ cls := "BenchBroker$Park", name := "addBench", desc := "(III)I" } : Jvm.MethodName) ({ cls := "BenchBroker$Park", name := "addBench", desc := "(III)I" } : Jvm.MethodName)) ∈ lw_all := lw_g (lw_at lw_m4 226 rfl) rfl
theorem q1032 : (Jvm.Cond.code ({ cls := "BenchBroker$Park", name := "addBench", desc := "(III)I" } : Jvm.MethodName) prog_10_method_13_code (5 : Nat) (Option.some Jvm.ClassFile.FieldType.int)) ∈ lw_all := lw_g (lw_at lw_m4 227 rfl) rfl
theorem q1033 : (Jvm.Cond.methodLinkNest "BenchBroker$Park" (180 : Nat) ({ cls := "BenchBroker", name := "rejectIf", desc := "(ZII)V" } : Jvm.MethodName) "BenchBroker") ∈ lw_tbl := lw_at lw_m4 228 rfl
theorem q1065 : (Jvm.Cond.methodLink "BenchBroker$Park" (184 : Nat) ({ cls := "BenchBroker$Park", name := "requireFree", desc := "(II)V" } : Jvm.MethodName)) ∈ lw_all := lw_g (lw_at lw_m5 20 rfl) rfl
theorem q1066 : (Jvm.Cond.privateMethod ({ cls := "BenchBroker$Park", name := "requireFree", desc := "(II)V" } : Jvm.MethodName)) ∈ lw_tbl := lw_at lw_m5 21 rfl
theorem q1067 : (Jvm.Cond.instanceMethod ({ cls := "BenchBroker$Park", name := "requireFree", desc := "(II)V" } : Jvm.MethodName)) ∈ lw_all := lw_g (lw_at lw_m5 22 rfl) rfl
theorem q1068 : (Jvm.Cond.code ({ cls := "BenchBroker$Park", name := "requireFree", desc := "(II)V" } : Jvm.MethodName) prog_10_method_12_code (5 : Nat) (Option.none : Option Jvm.ClassFile.FieldType)) ∈ lw_all := lw_g (lw_at lw_m5 23 rfl) rfl
theorem q1069 : (Jvm.Cond.methodLinkNest "BenchBroker$Park" (176 : Nat) ({ cls := "BenchBroker", name := "indexAt", desc := "(LBenchBroker$Register;II)I" } : Jvm.MethodName) "BenchBroker") ∈ lw_tbl := lw_at lw_m5 24 rfl
theorem q1079 : (Jvm.Cond.methodLink "BenchBroker$Park" (187 : Nat) ({ cls := "BenchBroker$Bench", name := "<init>", desc := "(III)V" } : Jvm.MethodName)) ∈ lw_all := lw_g (lw_at lw_m5 34 rfl) rfl
theorem q1081 : (Jvm.Cond.instanceMethod ({ cls := "BenchBroker$Park", name := "addFountain", desc := "(III)I" } : Jvm.MethodName)) ∈ lw_all := lw_g (lw_at lw_m5 36 rfl) rfl
theorem q1082 : (Jvm.Cond.selects "BenchBroker$Park" ({ cls := "BenchBroker$Park", name := "addFountain", desc := "(III)I" } : Jvm.MethodName) ({ cls := "BenchBroker$Park", name := "addFountain", desc := "(III)I" } : Jvm.MethodName)) ∈ lw_all := lw_g (lw_at lw_m5 37 rfl) rfl
theorem q1083 : (Jvm.Cond.code ({ cls := "BenchBroker$Park", name := "addFountain", desc := "(III)I" } : Jvm.MethodName) prog_10_method_15_code (5 : Nat) (Option.some Jvm.ClassFile.FieldType.int)) ∈ lw_all := lw_g (lw_at lw_m5 38 rfl) rfl
theorem q1084 : (Jvm.Cond.methodLink "BenchBroker$Park" (188 : Nat) ({ cls := "BenchBroker$Fountain", name := "index", desc := "()I" } : Jvm.MethodName)) ∈ lw_all := lw_g (lw_at lw_m5 39 rfl) rfl
theorem q1088 : (Jvm.Cond.instanceMethod ({ cls := "BenchBroker$Park", name := "addTenant", desc := "(I)I" } : Jvm.MethodName)) ∈ lw_all := lw_g (lw_at lw_m5 43 rfl) rfl
theorem q1089 : (Jvm.Cond.selects "BenchBroker$Park" ({ cls := "BenchBroker$Park", name := "addTenant", desc := "(I)I" } : Jvm.MethodName) ({ cls := "BenchBroker$Park", name := "addTenant", desc := "(I)I" } : Jvm.MethodName)) ∈ lw_all := lw_g (lw_at lw_m5 44 rfl) rfl
theorem q1090 : (Jvm.Cond.code ({ cls := "BenchBroker$Park", name := "addTenant", desc := "(I)I" } : Jvm.MethodName) prog_10_method_19_code (2 : Nat) (Option.some Jvm.ClassFile.FieldType.int)) ∈ lw_all := lw_g (lw_at lw_m5 45 rfl) rfl
theorem q1104 : (Jvm.Cond.instanceMethod ({ cls := "BenchBroker$Park", name := "lease", desc := "(III)I" } : Jvm.MethodName)) ∈ lw_all := lw_g (lw_at lw_m5 59 rfl) rfl
theorem q1105 : (Jvm.Cond.selects "BenchBroker$Park" ({ cls := "BenchBroker$Park", name := "lease", desc := "(III)I" } : Jvm.MethodName) ({ cls := "BenchBroker$Park", name := "lease", desc := "(III)I" } : Jvm.MethodName)) ∈ lw_all := lw_g (lw_at lw_m5 60 rfl) rfl
theorem q1106 : (Jvm.Cond.code ({ cls := "BenchBroker$Park", name := "lease", desc := "(III)I" } : Jvm.MethodName) prog_10_method_23_code (7 : Nat) (Option.some Jvm.ClassFile.FieldType.int)) ∈ lw_all := lw_g (lw_at lw_m5 61 rfl) rfl
theorem q1107 : (Jvm.Cond.methodLink "BenchBroker$Park" (206 : Nat) ({ cls := "BenchBroker$Park", name := "obstacle", desc := "(LBenchBroker$Tenant;LBenchBroker$Bench;)LBenchBroker$Rejection;" } : Jvm.MethodName)) ∈ lw_all := lw_g (lw_at lw_m5 62 rfl) rfl
theorem q1108 : (Jvm.Cond.instanceMethod ({ cls := "BenchBroker$Park", name := "obstacle", desc := "(LBenchBroker$Tenant;LBenchBroker$Bench;)LBenchBroker$Rejection;" } : Jvm.MethodName)) ∈ lw_all := lw_g (lw_at lw_m5 63 rfl) rfl
theorem q1109 : (Jvm.Cond.selects "BenchBroker$Park" ({ cls := "BenchBroker$Park", name := "obstacle", desc := "(LBenchBroker$Tenant;LBenchBroker$Bench;)LBenchBroker$Rejection;" } : Jvm.MethodName) ({ cls := "BenchBroker$Park", name := "obstacle", desc := "(LBenchBroker$Tenant;LBenchBroker$Bench;)LBenchBroker$Rejection;" } : Jvm.MethodName)) ∈ lw_all := lw_g (lw_at lw_m5 64 rfl) rfl
theorem q1110 : (Jvm.Cond.code ({ cls := "BenchBroker$Park", name := "obstacle", desc := "(LBenchBroker$Tenant;LBenchBroker$Bench;)LBenchBroker$Rejection;" } : Jvm.MethodName) prog_10_method_21_code (3 : Nat) (Option.some (Jvm.ClassFile.FieldType.object "BenchBroker$Rejection"))) ∈ lw_all := lw_g (lw_at lw_m5 65 rfl) rfl
theorem q1111 : (Jvm.Cond.methodLink "BenchBroker$Park" (189 : Nat) ({ cls := "BenchBroker$Tenant", name := "isBanned", desc := "()Z" } : Jvm.MethodName)) ∈ lw_all := lw_g (lw_at lw_m5 66 rfl) rfl
theorem q1115 : (Jvm.Cond.classLink "BenchBroker$Park" (192 : Nat) "BenchBroker$Rejection") ∈ lw_all := lw_g (lw_at lw_m5 70 rfl) rfl
theorem q1116 : (Jvm.Cond.methodLink "BenchBroker$Park" (194 : Nat) ({ cls := "BenchBroker$Tenant", name := "index", desc := "()I" } : Jvm.MethodName)) ∈ lw_all := lw_g (lw_at lw_m5 71 rfl) rfl
theorem q1119 : (Jvm.Cond.methodLink "BenchBroker$Park" (195 : Nat) ({ cls := "BenchBroker$Rejection", name := "<init>", desc := "(II)V" } : Jvm.MethodName)) ∈ lw_all := lw_g (lw_at lw_m5 74 rfl) rfl
theorem q1121 : (Jvm.Cond.instanceMethod ({ cls := "BenchBroker$Park", name := "renew", desc := "(II)I" } : Jvm.MethodName)) ∈ lw_all := lw_g (lw_at lw_m5 76 rfl) rfl
theorem q1122 : (Jvm.Cond.selects "BenchBroker$Park" ({ cls := "BenchBroker$Park", name := "renew", desc := "(II)I" } : Jvm.MethodName) ({ cls := "BenchBroker$Park", name := "renew", desc := "(II)I" } : Jvm.MethodName)) ∈ lw_all := lw_g (lw_at lw_m5 77 rfl) rfl
theorem q1123 : (Jvm.Cond.code ({ cls := "BenchBroker$Park", name := "renew", desc := "(II)I" } : Jvm.MethodName) prog_10_method_26_code (4 : Nat) (Option.some Jvm.ClassFile.FieldType.int)) ∈ lw_all := lw_g (lw_at lw_m5 78 rfl) rfl
theorem q1124 : (Jvm.Cond.methodLink "BenchBroker$Park" (216 : Nat) ({ cls := "BenchBroker$Park", name := "requireLet", desc := "(I)LBenchBroker$Bench;" } : Jvm.MethodName)) ∈ lw_all := lw_g (lw_at lw_m5 79 rfl) rfl
theorem q1125 : (Jvm.Cond.privateMethod ({ cls := "BenchBroker$Park", name := "requireLet", desc := "(I)LBenchBroker$Bench;" } : Jvm.MethodName)) ∈ lw_tbl := lw_at lw_m5 80 rfl
theorem q1126 : (Jvm.Cond.instanceMethod ({ cls := "BenchBroker$Park", name := "requireLet", desc := "(I)LBenchBroker$Bench;" } : Jvm.MethodName)) ∈ lw_all := lw_g (lw_at lw_m5 81 rfl) rfl
theorem q1127 : (Jvm.Cond.code ({ cls := "BenchBroker$Park", name := "requireLet", desc := "(I)LBenchBroker$Bench;" } : Jvm.MethodName) prog_10_method_24_code (3 : Nat) (Option.some (Jvm.ClassFile.FieldType.object "BenchBroker$Bench"))) ∈ lw_all := lw_g (lw_at lw_m5 82 rfl) rfl
theorem q1129 : (Jvm.Cond.instanceMethod ({ cls := "BenchBroker$Park", name := "endLease", desc := "(I)I" } : Jvm.MethodName)) ∈ lw_all := lw_g (lw_at lw_m5 84 rfl) rfl
theorem q1130 : (Jvm.Cond.selects "BenchBroker$Park" ({ cls := "BenchBroker$Park", name := "endLease", desc := "(I)I" } : Jvm.MethodName) ({ cls := "BenchBroker$Park", name := "endLease", desc := "(I)I" } : Jvm.MethodName)) ∈ lw_all := lw_g (lw_at lw_m5 85 rfl) rfl
theorem q1131 : (Jvm.Cond.code ({ cls := "BenchBroker$Park", name := "endLease", desc := "(I)I" } : Jvm.MethodName) prog_10_method_25_code (6 : Nat) (Option.some Jvm.ClassFile.FieldType.int)) ∈ lw_all := lw_g (lw_at lw_m5 86 rfl) rfl
theorem q1142 : (Jvm.Cond.instanceMethod ({ cls := "BenchBroker$Park", name := "giveCoins", desc := "(II)I" } : Jvm.MethodName)) ∈ lw_all := lw_g (lw_at lw_m5 97 rfl) rfl
theorem q1143 : (Jvm.Cond.selects "BenchBroker$Park" ({ cls := "BenchBroker$Park", name := "giveCoins", desc := "(II)I" } : Jvm.MethodName) ({ cls := "BenchBroker$Park", name := "giveCoins", desc := "(II)I" } : Jvm.MethodName)) ∈ lw_all := lw_g (lw_at lw_m5 98 rfl) rfl
theorem q1144 : (Jvm.Cond.code ({ cls := "BenchBroker$Park", name := "giveCoins", desc := "(II)I" } : Jvm.MethodName) prog_10_method_20_code (4 : Nat) (Option.some Jvm.ClassFile.FieldType.int)) ∈ lw_all := lw_g (lw_at lw_m5 99 rfl) rfl
theorem q1146 : (Jvm.Cond.instanceMethod ({ cls := "BenchBroker$Park", name := "switchFountain", desc := "(I)Z" } : Jvm.MethodName)) ∈ lw_all := lw_g (lw_at lw_m5 101 rfl) rfl
theorem q1147 : (Jvm.Cond.selects "BenchBroker$Park" ({ cls := "BenchBroker$Park", name := "switchFountain", desc := "(I)Z" } : Jvm.MethodName) ({ cls := "BenchBroker$Park", name := "switchFountain", desc := "(I)Z" } : Jvm.MethodName)) ∈ lw_all := lw_g (lw_at lw_m5 102 rfl) rfl
theorem q1148 : (Jvm.Cond.code ({ cls := "BenchBroker$Park", name := "switchFountain", desc := "(I)Z" } : Jvm.MethodName) prog_10_method_17_code (3 : Nat) (Option.some Jvm.ClassFile.FieldType.boolean)) ∈ lw_all := lw_g (lw_at lw_m5 103 rfl) rfl
theorem q1151 : (Jvm.Cond.instanceMethod ({ cls := "BenchBroker$Park", name := "setNoiseLimit", desc := "(I)I" } : Jvm.MethodName)) ∈ lw_all := lw_g (lw_at lw_m5 106 rfl) rfl
theorem q1152 : (Jvm.Cond.selects "BenchBroker$Park" ({ cls := "BenchBroker$Park", name := "setNoiseLimit", desc := "(I)I" } : Jvm.MethodName) ({ cls := "BenchBroker$Park", name := "setNoiseLimit", desc := "(I)I" } : Jvm.MethodName)) ∈ lw_all := lw_g (lw_at lw_m5 107 rfl) rfl
theorem q1153 : (Jvm.Cond.code ({ cls := "BenchBroker$Park", name := "setNoiseLimit", desc := "(I)I" } : Jvm.MethodName) prog_10_method_18_code (3 : Nat) (Option.some Jvm.ClassFile.FieldType.int)) ∈ lw_all := lw_g (lw_at lw_m5 108 rfl) rfl
theorem q1198 : (Jvm.Cond.instanceMethod ({ cls := "BenchBroker$Park", name := "setRent", desc := "(II)I" } : Jvm.MethodName)) ∈ lw_all := lw_g (lw_at lw_m5 153 rfl) rfl
theorem q1199 : (Jvm.Cond.selects "BenchBroker$Park" ({ cls := "BenchBroker$Park", name := "setRent", desc := "(II)I" } : Jvm.MethodName) ({ cls := "BenchBroker$Park", name := "setRent", desc := "(II)I" } : Jvm.MethodName)) ∈ lw_all := lw_g (lw_at lw_m5 154 rfl) rfl
theorem q1200 : (Jvm.Cond.code ({ cls := "BenchBroker$Park", name := "setRent", desc := "(II)I" } : Jvm.MethodName) prog_10_method_14_code (5 : Nat) (Option.some Jvm.ClassFile.FieldType.int)) ∈ lw_all := lw_g (lw_at lw_m5 155 rfl) rfl
theorem q1219 : (Jvm.Cond.instanceMethod ({ cls := "BenchBroker$Park", name := "setLoudness", desc := "(II)I" } : Jvm.MethodName)) ∈ lw_all := lw_g (lw_at lw_m5 174 rfl) rfl
theorem q1220 : (Jvm.Cond.selects "BenchBroker$Park" ({ cls := "BenchBroker$Park", name := "setLoudness", desc := "(II)I" } : Jvm.MethodName) ({ cls := "BenchBroker$Park", name := "setLoudness", desc := "(II)I" } : Jvm.MethodName)) ∈ lw_all := lw_g (lw_at lw_m5 175 rfl) rfl
theorem q1221 : (Jvm.Cond.code ({ cls := "BenchBroker$Park", name := "setLoudness", desc := "(II)I" } : Jvm.MethodName) prog_10_method_16_code (5 : Nat) (Option.some Jvm.ClassFile.FieldType.int)) ∈ lw_all := lw_g (lw_at lw_m5 176 rfl) rfl
theorem q1320 : (Jvm.Cond.instanceMethod ({ cls := "BenchBroker$Park", name := "noiseBySpreading", desc := "(II)I" } : Jvm.MethodName)) ∈ lw_all := lw_g (lw_at lw_m6 35 rfl) rfl
theorem q1321 : (Jvm.Cond.selects "BenchBroker$Park" ({ cls := "BenchBroker$Park", name := "noiseBySpreading", desc := "(II)I" } : Jvm.MethodName) ({ cls := "BenchBroker$Park", name := "noiseBySpreading", desc := "(II)I" } : Jvm.MethodName)) ∈ lw_all := lw_g (lw_at lw_m6 36 rfl) rfl
theorem q1322 : (Jvm.Cond.code ({ cls := "BenchBroker$Park", name := "noiseBySpreading", desc := "(II)I" } : Jvm.MethodName) prog_10_method_8_code (3 : Nat) (Option.some Jvm.ClassFile.FieldType.int)) ∈ lw_all := lw_g (lw_at lw_m6 37 rfl) rfl
theorem q1399 : (Jvm.Cond.instanceMethod ({ cls := "BenchBroker$Park", name := "cheapestFor", desc := "(LBenchBroker$Tenant;)I" } : Jvm.MethodName)) ∈ lw_all := lw_g (lw_at lw_m6 114 rfl) rfl
theorem q1400 : (Jvm.Cond.selects "BenchBroker$Park" ({ cls := "BenchBroker$Park", name := "cheapestFor", desc := "(LBenchBroker$Tenant;)I" } : Jvm.MethodName) ({ cls := "BenchBroker$Park", name := "cheapestFor", desc := "(LBenchBroker$Tenant;)I" } : Jvm.MethodName)) ∈ lw_all := lw_g (lw_at lw_m6 115 rfl) rfl
theorem q1401 : (Jvm.Cond.code ({ cls := "BenchBroker$Park", name := "cheapestFor", desc := "(LBenchBroker$Tenant;)I" } : Jvm.MethodName) prog_10_method_22_code (6 : Nat) (Option.some Jvm.ClassFile.FieldType.int)) ∈ lw_all := lw_g (lw_at lw_m6 116 rfl) rfl
theorem q1484 : (Jvm.Cond.instanceMethod ({ cls := "BenchBroker$Park", name := "defaultMonth", desc := "(LBenchBroker$Bench;)I" } : Jvm.MethodName)) ∈ lw_all := lw_g (lw_at lw_m6 199 rfl) rfl
theorem q1485 : (Jvm.Cond.selects "BenchBroker$Park" ({ cls := "BenchBroker$Park", name := "defaultMonth", desc := "(LBenchBroker$Bench;)I" } : Jvm.MethodName) ({ cls := "BenchBroker$Park", name := "defaultMonth", desc := "(LBenchBroker$Bench;)I" } : Jvm.MethodName)) ∈ lw_all := lw_g (lw_at lw_m6 200 rfl) rfl
theorem q1486 : (Jvm.Cond.code ({ cls := "BenchBroker$Park", name := "defaultMonth", desc := "(LBenchBroker$Bench;)I" } : Jvm.MethodName) prog_10_method_33_code (3 : Nat) (Option.some Jvm.ClassFile.FieldType.int)) ∈ lw_all := lw_g (lw_at lw_m6 201 rfl) rfl
theorem q1518 : (Jvm.Cond.instanceMethod ({ cls := "BenchBroker$Park", name := "benchByRent", desc := "(I)I" } : Jvm.MethodName)) ∈ lw_all := lw_g (lw_at lw_m6 233 rfl) rfl
theorem q1519 : (Jvm.Cond.selects "BenchBroker$Park" ({ cls := "BenchBroker$Park", name := "benchByRent", desc := "(I)I" } : Jvm.MethodName) ({ cls := "BenchBroker$Park", name := "benchByRent", desc := "(I)I" } : Jvm.MethodName)) ∈ lw_all := lw_g (lw_at lw_m6 234 rfl) rfl
theorem q1520 : (Jvm.Cond.code ({ cls := "BenchBroker$Park", name := "benchByRent", desc := "(I)I" } : Jvm.MethodName) prog_10_method_39_code (3 : Nat) (Option.some Jvm.ClassFile.FieldType.int)) ∈ lw_all := lw_g (lw_at lw_m6 235 rfl) rfl
theorem q1521 : (Jvm.Cond.privateMethod ({ cls := "BenchBroker$Park", name := "lambda$benchByRent$7", desc := "(LBenchBroker$Bench;LBenchBroker$Bench;)Z" } : Jvm.MethodName)) ∈ lw_tbl := lw_at lw_m6 236 rfl
theorem q1522 : (Jvm.Cond.instanceMethod ({ cls := "BenchBroker$Park", name := "lambda$benchByRent$7", desc := "(LBenchBroker$Bench;LBenchBroker$Bench;)Z" } : Jvm.MethodName)) ∈ lw_all := lw_g (lw_at lw_m6 237 rfl) rfl
theorem q1523 : (Jvm.Cond.code ({ cls := "BenchBroker$Park", name := "lambda$benchByRent$7", desc := "(LBenchBroker$Bench;LBenchBroker$Bench;)Z" } : Jvm.MethodName) prog_10_method_45_code (5 : Nat) (Option.some Jvm.ClassFile.FieldType.boolean)) ∈ lw_all := lw_g (lw_at lw_m6 238 rfl) rfl
theorem q1524 : (Jvm.Cond.methodLinkNest "BenchBroker$Park" (263 : Nat) ({ cls := "BenchBroker", name := "inOrder", desc := "(LBenchBroker$Register;LBenchBroker$Order;I)I" } : Jvm.MethodName) "BenchBroker") ∈ lw_tbl := lw_at lw_m6 239 rfl
theorem q1541 : (Jvm.Cond.instanceMethod ({ cls := "BenchBroker$Park", name := "tenantByCoins", desc := "(I)I" } : Jvm.MethodName)) ∈ lw_all := lw_g (lw_at lw_m7 16 rfl) rfl
theorem q1542 : (Jvm.Cond.selects "BenchBroker$Park" ({ cls := "BenchBroker$Park", name := "tenantByCoins", desc := "(I)I" } : Jvm.MethodName) ({ cls := "BenchBroker$Park", name := "tenantByCoins", desc := "(I)I" } : Jvm.MethodName)) ∈ lw_all := lw_g (lw_at lw_m7 17 rfl) rfl
theorem q1543 : (Jvm.Cond.code ({ cls := "BenchBroker$Park", name := "tenantByCoins", desc := "(I)I" } : Jvm.MethodName) prog_10_method_40_code (3 : Nat) (Option.some Jvm.ClassFile.FieldType.int)) ∈ lw_all := lw_g (lw_at lw_m7 18 rfl) rfl
theorem q1544 : (Jvm.Cond.static ({ cls := "BenchBroker$Park", name := "lambda$tenantByCoins$8", desc := "(LBenchBroker$Tenant;LBenchBroker$Tenant;)Z" } : Jvm.MethodName)) ∈ lw_all := lw_g (lw_at lw_m7 19 rfl) rfl
theorem q1545 : (Jvm.Cond.code ({ cls := "BenchBroker$Park", name := "lambda$tenantByCoins$8", desc := "(LBenchBroker$Tenant;LBenchBroker$Tenant;)Z" } : Jvm.MethodName) prog_10_method_44_code (4 : Nat) (Option.some Jvm.ClassFile.FieldType.boolean)) ∈ lw_all := lw_g (lw_at lw_m7 20 rfl) rfl
theorem q1577 : (Jvm.Cond.instanceMethod ({ cls := "BenchBroker$Park", name := "rentTotal", desc := "()I" } : Jvm.MethodName)) ∈ lw_all := lw_g (lw_at lw_m7 52 rfl) rfl
theorem q1578 : (Jvm.Cond.selects "BenchBroker$Park" ({ cls := "BenchBroker$Park", name := "rentTotal", desc := "()I" } : Jvm.MethodName) ({ cls := "BenchBroker$Park", name := "rentTotal", desc := "()I" } : Jvm.MethodName)) ∈ lw_all := lw_g (lw_at lw_m7 53 rfl) rfl
theorem q1579 : (Jvm.Cond.code ({ cls := "BenchBroker$Park", name := "rentTotal", desc := "()I" } : Jvm.MethodName) prog_10_method_38_code (1 : Nat) (Option.some Jvm.ClassFile.FieldType.int)) ∈ lw_all := lw_g (lw_at lw_m7 54 rfl) rfl
theorem q1580 : (Jvm.Cond.privateMethod ({ cls := "BenchBroker$Park", name := "lambda$rentTotal$6", desc := "(LBenchBroker$Bench;)I" } : Jvm.MethodName)) ∈ lw_tbl := lw_at lw_m7 55 rfl
theorem q1581 : (Jvm.Cond.instanceMethod ({ cls := "BenchBroker$Park", name := "lambda$rentTotal$6", desc := "(LBenchBroker$Bench;)I" } : Jvm.MethodName)) ∈ lw_all := lw_g (lw_at lw_m7 56 rfl) rfl
theorem q1582 : (Jvm.Cond.code ({ cls := "BenchBroker$Park", name := "lambda$rentTotal$6", desc := "(LBenchBroker$Bench;)I" } : Jvm.MethodName) prog_10_method_46_code (2 : Nat) (Option.some Jvm.ClassFile.FieldType.int)) ∈ lw_all := lw_g (lw_at lw_m7 57 rfl) rfl
theorem q2766 : (Jvm.Cond.castable "BenchBroker$Park" "java/lang/Object") ∈ lw_tbl := lw_at lw_m12 41 rfl
theorem in_X2 : ∀ w ∈ wsX20, w ∈ lw_all := lw_in wsX20 [210, 212, 214, 216, 218, 220, 222, 224, 226, 228] (by decide +kernel) (by decide +kernel)
