/-! java/lang/Enum -/
set_option maxRecDepth 100000
def RJ0 : String := "java/lang/Enum"
abbrev cJ0_equals : ByteArray := prog_15_method_5_code
def yJ0_equals : MethodName := ⟨RJ0, "equals", "(Ljava/lang/Object;)Z"⟩
def dkwJ0_equals_0 : List UInt8 := [42, 43, 166, 0, 7, 4, 167, 0, 4, 3, 172]
abbrev dktJ0_equals_0 : List UInt8 := dkwJ0_equals_0 ++ []
theorem dksJ0_equals_0 : cJ0_equals.data.toList.drop 0 = dktJ0_equals_0 := by decide +kernel
theorem dJ0_equals_0 : decode cJ0_equals 0 = .ok (.aload_n 0, 1) := dk_42 (dk_at dksJ0_equals_0 0 rfl rfl)
theorem dJ0_equals_1 : decode cJ0_equals 1 = .ok (.aload_n 1, 1) := dk_43 (dk_at dksJ0_equals_0 1 rfl rfl)
theorem dJ0_equals_2 : decode cJ0_equals 2 = .ok (.if_acmp .ne 7, 3) := dk_166 0 7 (dk_at dksJ0_equals_0 2 rfl rfl)
theorem dJ0_equals_5 : decode cJ0_equals 5 = .ok (.iconst 1, 1) := dk_4 (dk_at dksJ0_equals_0 5 rfl rfl)
theorem dJ0_equals_6 : decode cJ0_equals 6 = .ok (.goto 4, 3) := dk_167 0 4 (dk_at dksJ0_equals_0 6 rfl rfl)
theorem dJ0_equals_9 : decode cJ0_equals 9 = .ok (.iconst 0, 1) := dk_3 (dk_at dksJ0_equals_0 9 rfl rfl)
theorem dJ0_equals_10 : decode cJ0_equals 10 = .ok (.ireturn, 1) := dk_172 (dk_at dksJ0_equals_0 10 rfl rfl)
abbrev cJ0_hashCode : ByteArray := prog_15_method_6_code
def yJ0_hashCode : MethodName := ⟨RJ0, "hashCode", "()I"⟩
def dkwJ0_hashCode_0 : List UInt8 := [42, 180, 0, 17, 60, 27, 154, 0, 13, 42, 42, 184, 0, 20, 90, 181, 0, 17, 60, 27, 172]
abbrev dktJ0_hashCode_0 : List UInt8 := dkwJ0_hashCode_0 ++ []
theorem dksJ0_hashCode_0 : cJ0_hashCode.data.toList.drop 0 = dktJ0_hashCode_0 := by decide +kernel
theorem dJ0_hashCode_0 : decode cJ0_hashCode 0 = .ok (.aload_n 0, 1) := dk_42 (dk_at dksJ0_hashCode_0 0 rfl rfl)
theorem dJ0_hashCode_1 : decode cJ0_hashCode 1 = .ok (.getfield 17, 3) := dk_180 0 17 (dk_at dksJ0_hashCode_0 1 rfl rfl)
theorem dJ0_hashCode_4 : decode cJ0_hashCode 4 = .ok (.istore_n 1, 1) := dk_60 (dk_at dksJ0_hashCode_0 4 rfl rfl)
theorem dJ0_hashCode_5 : decode cJ0_hashCode 5 = .ok (.iload_n 1, 1) := dk_27 (dk_at dksJ0_hashCode_0 5 rfl rfl)
theorem dJ0_hashCode_6 : decode cJ0_hashCode 6 = .ok (.ifCond .ne 13, 3) := dk_154 0 13 (dk_at dksJ0_hashCode_0 6 rfl rfl)
theorem dJ0_hashCode_9 : decode cJ0_hashCode 9 = .ok (.aload_n 0, 1) := dk_42 (dk_at dksJ0_hashCode_0 9 rfl rfl)
theorem dJ0_hashCode_10 : decode cJ0_hashCode 10 = .ok (.aload_n 0, 1) := dk_42 (dk_at dksJ0_hashCode_0 10 rfl rfl)
theorem dJ0_hashCode_11 : decode cJ0_hashCode 11 = .ok (.invokestatic 20, 3) := dk_184 0 20 (dk_at dksJ0_hashCode_0 11 rfl rfl)
theorem dJ0_hashCode_14 : decode cJ0_hashCode 14 = .ok (.dup_x1, 1) := dk_90 (dk_at dksJ0_hashCode_0 14 rfl rfl)
theorem dJ0_hashCode_15 : decode cJ0_hashCode 15 = .ok (.putfield 17, 3) := dk_181 0 17 (dk_at dksJ0_hashCode_0 15 rfl rfl)
theorem dJ0_hashCode_18 : decode cJ0_hashCode 18 = .ok (.istore_n 1, 1) := dk_60 (dk_at dksJ0_hashCode_0 18 rfl rfl)
theorem dJ0_hashCode_19 : decode cJ0_hashCode 19 = .ok (.iload_n 1, 1) := dk_27 (dk_at dksJ0_hashCode_0 19 rfl rfl)
theorem dJ0_hashCode_20 : decode cJ0_hashCode 20 = .ok (.ireturn, 1) := dk_172 (dk_at dksJ0_hashCode_0 20 rfl rfl)
abbrev cJ0_compareTo : ByteArray := prog_15_method_15_code
def yJ0_compareTo : MethodName := ⟨RJ0, "compareTo", "(Ljava/lang/Object;)I"⟩
def dkwJ0_compareTo_0 : List UInt8 := [42, 43, 192, 0, 2, 182, 0, 101, 172]
abbrev dktJ0_compareTo_0 : List UInt8 := dkwJ0_compareTo_0 ++ []
theorem dksJ0_compareTo_0 : cJ0_compareTo.data.toList.drop 0 = dktJ0_compareTo_0 := by decide +kernel
theorem dJ0_compareTo_0 : decode cJ0_compareTo 0 = .ok (.aload_n 0, 1) := dk_42 (dk_at dksJ0_compareTo_0 0 rfl rfl)
theorem dJ0_compareTo_1 : decode cJ0_compareTo 1 = .ok (.aload_n 1, 1) := dk_43 (dk_at dksJ0_compareTo_0 1 rfl rfl)
theorem dJ0_compareTo_2 : decode cJ0_compareTo 2 = .ok (.checkcast 2, 3) := dk_192 0 2 (dk_at dksJ0_compareTo_0 2 rfl rfl)
theorem dJ0_compareTo_5 : decode cJ0_compareTo 5 = .ok (.invokevirtual 101, 3) := dk_182 0 101 (dk_at dksJ0_compareTo_0 5 rfl rfl)
theorem dJ0_compareTo_8 : decode cJ0_compareTo 8 = .ok (.ireturn, 1) := dk_172 (dk_at dksJ0_compareTo_0 8 rfl rfl)
abbrev cJ0_compareTo_2 : ByteArray := prog_15_method_8_code
def yJ0_compareTo_2 : MethodName := ⟨RJ0, "compareTo", "(Ljava/lang/Enum;)I"⟩
def dkwJ0_compareTo_2_1 : List UInt8 := [165, 0, 11, 187, 0, 36, 89, 183, 0, 38, 191, 45, 180, 0, 7, 44, 180, 0, 7, 100, 172]
abbrev dktJ0_compareTo_2_1 : List UInt8 := dkwJ0_compareTo_2_1 ++ []
def dkwJ0_compareTo_2_0 : List UInt8 := [43, 77, 42, 78, 45, 182, 0, 29, 44, 182, 0, 29, 165, 0, 22, 45, 182, 0, 33, 44, 182, 0, 33]
abbrev dktJ0_compareTo_2_0 : List UInt8 := dkwJ0_compareTo_2_0 ++ dktJ0_compareTo_2_1
theorem dksJ0_compareTo_2_0 : cJ0_compareTo_2.data.toList.drop 0 = dktJ0_compareTo_2_0 := by decide +kernel
theorem dksJ0_compareTo_2_1 : cJ0_compareTo_2.data.toList.drop 23 = dktJ0_compareTo_2_1 := dk_seg dksJ0_compareTo_2_0 23 rfl rfl
theorem dJ0_compareTo_2_0 : decode cJ0_compareTo_2 0 = .ok (.aload_n 1, 1) := dk_43 (dk_at dksJ0_compareTo_2_0 0 rfl rfl)
theorem dJ0_compareTo_2_1 : decode cJ0_compareTo_2 1 = .ok (.astore_n 2, 1) := dk_77 (dk_at dksJ0_compareTo_2_0 1 rfl rfl)
theorem dJ0_compareTo_2_2 : decode cJ0_compareTo_2 2 = .ok (.aload_n 0, 1) := dk_42 (dk_at dksJ0_compareTo_2_0 2 rfl rfl)
theorem dJ0_compareTo_2_3 : decode cJ0_compareTo_2 3 = .ok (.astore_n 3, 1) := dk_78 (dk_at dksJ0_compareTo_2_0 3 rfl rfl)
theorem dJ0_compareTo_2_4 : decode cJ0_compareTo_2 4 = .ok (.aload_n 3, 1) := dk_45 (dk_at dksJ0_compareTo_2_0 4 rfl rfl)
theorem dJ0_compareTo_2_5 : decode cJ0_compareTo_2 5 = .ok (.invokevirtual 29, 3) := dk_182 0 29 (dk_at dksJ0_compareTo_2_0 5 rfl rfl)
theorem dJ0_compareTo_2_8 : decode cJ0_compareTo_2 8 = .ok (.aload_n 2, 1) := dk_44 (dk_at dksJ0_compareTo_2_0 8 rfl rfl)
theorem dJ0_compareTo_2_9 : decode cJ0_compareTo_2 9 = .ok (.invokevirtual 29, 3) := dk_182 0 29 (dk_at dksJ0_compareTo_2_0 9 rfl rfl)
theorem dJ0_compareTo_2_12 : decode cJ0_compareTo_2 12 = .ok (.if_acmp .eq 22, 3) := dk_165 0 22 (dk_at dksJ0_compareTo_2_0 12 rfl rfl)
theorem dJ0_compareTo_2_15 : decode cJ0_compareTo_2 15 = .ok (.aload_n 3, 1) := dk_45 (dk_at dksJ0_compareTo_2_0 15 rfl rfl)
theorem dJ0_compareTo_2_16 : decode cJ0_compareTo_2 16 = .ok (.invokevirtual 33, 3) := dk_182 0 33 (dk_at dksJ0_compareTo_2_0 16 rfl rfl)
theorem dJ0_compareTo_2_19 : decode cJ0_compareTo_2 19 = .ok (.aload_n 2, 1) := dk_44 (dk_at dksJ0_compareTo_2_0 19 rfl rfl)
theorem dJ0_compareTo_2_20 : decode cJ0_compareTo_2 20 = .ok (.invokevirtual 33, 3) := dk_182 0 33 (dk_at dksJ0_compareTo_2_0 20 rfl rfl)
theorem dJ0_compareTo_2_23 : decode cJ0_compareTo_2 23 = .ok (.if_acmp .eq 11, 3) := dk_165 0 11 (dk_at dksJ0_compareTo_2_1 0 rfl rfl)
theorem dJ0_compareTo_2_26 : decode cJ0_compareTo_2 26 = .ok (.new 36, 3) := dk_187 0 36 (dk_at dksJ0_compareTo_2_1 3 rfl rfl)
theorem dJ0_compareTo_2_29 : decode cJ0_compareTo_2 29 = .ok (.dup, 1) := dk_89 (dk_at dksJ0_compareTo_2_1 6 rfl rfl)
theorem dJ0_compareTo_2_30 : decode cJ0_compareTo_2 30 = .ok (.invokespecial 38, 3) := dk_183 0 38 (dk_at dksJ0_compareTo_2_1 7 rfl rfl)
theorem dJ0_compareTo_2_33 : decode cJ0_compareTo_2 33 = .ok (.athrow, 1) := dk_191 (dk_at dksJ0_compareTo_2_1 10 rfl rfl)
theorem dJ0_compareTo_2_34 : decode cJ0_compareTo_2 34 = .ok (.aload_n 3, 1) := dk_45 (dk_at dksJ0_compareTo_2_1 11 rfl rfl)
theorem dJ0_compareTo_2_35 : decode cJ0_compareTo_2 35 = .ok (.getfield 7, 3) := dk_180 0 7 (dk_at dksJ0_compareTo_2_1 12 rfl rfl)
theorem dJ0_compareTo_2_38 : decode cJ0_compareTo_2 38 = .ok (.aload_n 2, 1) := dk_44 (dk_at dksJ0_compareTo_2_1 15 rfl rfl)
theorem dJ0_compareTo_2_39 : decode cJ0_compareTo_2 39 = .ok (.getfield 7, 3) := dk_180 0 7 (dk_at dksJ0_compareTo_2_1 16 rfl rfl)
theorem dJ0_compareTo_2_42 : decode cJ0_compareTo_2 42 = .ok (.isub, 1) := dk_100 (dk_at dksJ0_compareTo_2_1 19 rfl rfl)
theorem dJ0_compareTo_2_43 : decode cJ0_compareTo_2 43 = .ok (.ireturn, 1) := dk_172 (dk_at dksJ0_compareTo_2_1 20 rfl rfl)
abbrev cJ0_getDeclaringClass : ByteArray := prog_15_method_9_code
def yJ0_getDeclaringClass : MethodName := ⟨RJ0, "getDeclaringClass", "()Ljava/lang/Class;"⟩
def dkwJ0_getDeclaringClass_0 : List UInt8 := [42, 182, 0, 29, 76, 43, 182, 0, 39, 77, 44, 18, 2, 166, 0, 7, 43, 167, 0, 4, 44, 176]
abbrev dktJ0_getDeclaringClass_0 : List UInt8 := dkwJ0_getDeclaringClass_0 ++ []
theorem dksJ0_getDeclaringClass_0 : cJ0_getDeclaringClass.data.toList.drop 0 = dktJ0_getDeclaringClass_0 := by decide +kernel
theorem dJ0_getDeclaringClass_0 : decode cJ0_getDeclaringClass 0 = .ok (.aload_n 0, 1) := dk_42 (dk_at dksJ0_getDeclaringClass_0 0 rfl rfl)
theorem dJ0_getDeclaringClass_1 : decode cJ0_getDeclaringClass 1 = .ok (.invokevirtual 29, 3) := dk_182 0 29 (dk_at dksJ0_getDeclaringClass_0 1 rfl rfl)
theorem dJ0_getDeclaringClass_4 : decode cJ0_getDeclaringClass 4 = .ok (.astore_n 1, 1) := dk_76 (dk_at dksJ0_getDeclaringClass_0 4 rfl rfl)
theorem dJ0_getDeclaringClass_5 : decode cJ0_getDeclaringClass 5 = .ok (.aload_n 1, 1) := dk_43 (dk_at dksJ0_getDeclaringClass_0 5 rfl rfl)
theorem dJ0_getDeclaringClass_6 : decode cJ0_getDeclaringClass 6 = .ok (.invokevirtual 39, 3) := dk_182 0 39 (dk_at dksJ0_getDeclaringClass_0 6 rfl rfl)
theorem dJ0_getDeclaringClass_9 : decode cJ0_getDeclaringClass 9 = .ok (.astore_n 2, 1) := dk_77 (dk_at dksJ0_getDeclaringClass_0 9 rfl rfl)
theorem dJ0_getDeclaringClass_10 : decode cJ0_getDeclaringClass 10 = .ok (.aload_n 2, 1) := dk_44 (dk_at dksJ0_getDeclaringClass_0 10 rfl rfl)
theorem dJ0_getDeclaringClass_11 : decode cJ0_getDeclaringClass 11 = .ok (.ldc 2, 2) := dk_18 2 (dk_at dksJ0_getDeclaringClass_0 11 rfl rfl)
theorem dJ0_getDeclaringClass_13 : decode cJ0_getDeclaringClass 13 = .ok (.if_acmp .ne 7, 3) := dk_166 0 7 (dk_at dksJ0_getDeclaringClass_0 13 rfl rfl)
theorem dJ0_getDeclaringClass_16 : decode cJ0_getDeclaringClass 16 = .ok (.aload_n 1, 1) := dk_43 (dk_at dksJ0_getDeclaringClass_0 16 rfl rfl)
theorem dJ0_getDeclaringClass_17 : decode cJ0_getDeclaringClass 17 = .ok (.goto 4, 3) := dk_167 0 4 (dk_at dksJ0_getDeclaringClass_0 17 rfl rfl)
theorem dJ0_getDeclaringClass_20 : decode cJ0_getDeclaringClass 20 = .ok (.aload_n 2, 1) := dk_44 (dk_at dksJ0_getDeclaringClass_0 20 rfl rfl)
theorem dJ0_getDeclaringClass_21 : decode cJ0_getDeclaringClass 21 = .ok (.areturn, 1) := dk_176 (dk_at dksJ0_getDeclaringClass_0 21 rfl rfl)
abbrev cJ0_ordinal : ByteArray := prog_15_method_2_code
def yJ0_ordinal : MethodName := ⟨RJ0, "ordinal", "()I"⟩
theorem dJ0_ordinal_0 : decode cJ0_ordinal 0 = .ok (.aload_n 0, 1) := by decide +kernel
theorem dJ0_ordinal_1 : decode cJ0_ordinal 1 = .ok (.getfield 7, 3) := by decide +kernel
theorem dJ0_ordinal_4 : decode cJ0_ordinal 4 = .ok (.ireturn, 1) := by decide +kernel
theorem q49 : (Jvm.Cond.initialized "java/lang/Enum") ∈ lw_all := lw_g (lw_at lw_m1 2 rfl) rfl
theorem q633 : (Jvm.Cond.instanceMethod ({ cls := "java/lang/Enum", name := "equals", desc := "(Ljava/lang/Object;)Z" } : Jvm.MethodName)) ∈ lw_all := lw_g (lw_at lw_m3 106 rfl) rfl
theorem q634 : (Jvm.Cond.code ({ cls := "java/lang/Enum", name := "equals", desc := "(Ljava/lang/Object;)Z" } : Jvm.MethodName) prog_15_method_5_code (2 : Nat) (Option.some Jvm.ClassFile.FieldType.boolean)) ∈ lw_all := lw_g (lw_at lw_m3 107 rfl) rfl
theorem q702 : (Jvm.Cond.instanceMethod ({ cls := "java/lang/Enum", name := "hashCode", desc := "()I" } : Jvm.MethodName)) ∈ lw_all := lw_g (lw_at lw_m3 175 rfl) rfl
theorem q703 : (Jvm.Cond.code ({ cls := "java/lang/Enum", name := "hashCode", desc := "()I" } : Jvm.MethodName) prog_15_method_6_code (2 : Nat) (Option.some Jvm.ClassFile.FieldType.int)) ∈ lw_all := lw_g (lw_at lw_m3 176 rfl) rfl
theorem q704 : (Jvm.Cond.methodLink "java/lang/Enum" (20 : Nat) ({ cls := "java/lang/System", name := "identityHashCode", desc := "(Ljava/lang/Object;)I" } : Jvm.MethodName)) ∈ lw_all := lw_g (lw_at lw_m3 177 rfl) rfl
theorem q747 : (Jvm.Cond.instanceMethod ({ cls := "java/lang/Enum", name := "compareTo", desc := "(Ljava/lang/Object;)I" } : Jvm.MethodName)) ∈ lw_all := lw_g (lw_at lw_m3 220 rfl) rfl
theorem q748 : (Jvm.Cond.publicMethod ({ cls := "java/lang/Enum", name := "compareTo", desc := "(Ljava/lang/Object;)I" } : Jvm.MethodName)) ∈ lw_tbl := lw_at lw_m3 221 rfl
theorem q749 : (Jvm.Cond.code ({ cls := "java/lang/Enum", name := "compareTo", desc := "(Ljava/lang/Object;)I" } : Jvm.MethodName) prog_15_method_15_code (2 : Nat) (Option.some Jvm.ClassFile.FieldType.int)) ∈ lw_all := lw_g (lw_at lw_m3 222 rfl) rfl
theorem q750 : (Jvm.Cond.classLink "java/lang/Enum" (2 : Nat) "java/lang/Enum") ∈ lw_all := lw_g (lw_at lw_m3 223 rfl) rfl
theorem q751 : (Jvm.Cond.methodLink "java/lang/Enum" (101 : Nat) ({ cls := "java/lang/Enum", name := "compareTo", desc := "(Ljava/lang/Enum;)I" } : Jvm.MethodName)) ∈ lw_all := lw_g (lw_at lw_m3 224 rfl) rfl
theorem q752 : (Jvm.Cond.instanceMethod ({ cls := "java/lang/Enum", name := "compareTo", desc := "(Ljava/lang/Enum;)I" } : Jvm.MethodName)) ∈ lw_all := lw_g (lw_at lw_m3 225 rfl) rfl
theorem q753 : (Jvm.Cond.sameMethod "java/lang/Enum" "java/lang/Enum" "compareTo" "(Ljava/lang/Enum;)I") ∈ lw_all := lw_g (lw_at lw_m3 226 rfl) rfl
theorem q755 : (Jvm.Cond.code ({ cls := "java/lang/Enum", name := "compareTo", desc := "(Ljava/lang/Enum;)I" } : Jvm.MethodName) prog_15_method_8_code (4 : Nat) (Option.some Jvm.ClassFile.FieldType.int)) ∈ lw_all := lw_g (lw_at lw_m3 228 rfl) rfl
theorem q756 : (Jvm.Cond.methodLink "java/lang/Enum" (29 : Nat) ({ cls := "java/lang/Object", name := "getClass", desc := "()Ljava/lang/Class;" } : Jvm.MethodName)) ∈ lw_all := lw_g (lw_at lw_m3 229 rfl) rfl
theorem q757 : (Jvm.Cond.methodLink "java/lang/Enum" (33 : Nat) ({ cls := "java/lang/Enum", name := "getDeclaringClass", desc := "()Ljava/lang/Class;" } : Jvm.MethodName)) ∈ lw_all := lw_g (lw_at lw_m3 230 rfl) rfl
theorem q758 : (Jvm.Cond.instanceMethod ({ cls := "java/lang/Enum", name := "getDeclaringClass", desc := "()Ljava/lang/Class;" } : Jvm.MethodName)) ∈ lw_all := lw_g (lw_at lw_m3 231 rfl) rfl
theorem q759 : (Jvm.Cond.sameMethod "java/lang/Enum" "java/lang/Enum" "getDeclaringClass" "()Ljava/lang/Class;") ∈ lw_all := lw_g (lw_at lw_m3 232 rfl) rfl
theorem q761 : (Jvm.Cond.code ({ cls := "java/lang/Enum", name := "getDeclaringClass", desc := "()Ljava/lang/Class;" } : Jvm.MethodName) prog_15_method_9_code (3 : Nat) (Option.some (Jvm.ClassFile.FieldType.object "java/lang/Class"))) ∈ lw_all := lw_g (lw_at lw_m3 234 rfl) rfl
theorem q971 : (Jvm.Cond.declares ({ cls := "java/lang/Enum", name := "ordinal", desc := "()I" } : Jvm.MethodName)) ∈ lw_tbl := lw_at lw_m4 204 rfl
theorem q973 : (Jvm.Cond.instanceMethod ({ cls := "java/lang/Enum", name := "ordinal", desc := "()I" } : Jvm.MethodName)) ∈ lw_all := lw_g (lw_at lw_m4 206 rfl) rfl
theorem q974 : (Jvm.Cond.code ({ cls := "java/lang/Enum", name := "ordinal", desc := "()I" } : Jvm.MethodName) prog_15_method_2_code (1 : Nat) (Option.some Jvm.ClassFile.FieldType.int)) ∈ lw_all := lw_g (lw_at lw_m4 207 rfl) rfl
theorem q1869 : (Jvm.Cond.fieldLink "java/lang/Enum" (17 : Nat) "java/lang/Enum" "hash" "I") ∈ lw_all := lw_g (lw_at lw_m8 142 rfl) rfl
theorem q1870 : (Jvm.Cond.fieldLink "java/lang/Enum" (7 : Nat) "java/lang/Enum" "ordinal" "I") ∈ lw_all := lw_g (lw_at lw_m8 143 rfl) rfl
/-! java/util/AbstractCollection -/
set_option maxRecDepth 100000
def RJ1 : String := "java/util/AbstractCollection"
abbrev cJ1_init : ByteArray := prog_27_method_1_code
def yJ1_init : MethodName := ⟨RJ1, "<init>", "()V"⟩
theorem dJ1_init_0 : decode cJ1_init 0 = .ok (.aload_n 0, 1) := by decide +kernel
theorem dJ1_init_1 : decode cJ1_init 1 = .ok (.invokespecial 1, 3) := by decide +kernel
theorem dJ1_init_4 : decode cJ1_init 4 = .ok (.return_, 1) := by decide +kernel
theorem q51 : (Jvm.Cond.initialized "java/util/AbstractCollection") ∈ lw_all := lw_g (lw_at lw_m1 4 rfl) rfl
theorem q119 : (Jvm.Cond.instanceMethod ({ cls := "java/util/AbstractCollection", name := "<init>", desc := "()V" } : Jvm.MethodName)) ∈ lw_all := lw_g (lw_at lw_m1 72 rfl) rfl
theorem q120 : (Jvm.Cond.code ({ cls := "java/util/AbstractCollection", name := "<init>", desc := "()V" } : Jvm.MethodName) prog_27_method_1_code (1 : Nat) (Option.none : Option Jvm.ClassFile.FieldType)) ∈ lw_all := lw_g (lw_at lw_m1 73 rfl) rfl
theorem q121 : (Jvm.Cond.methodLink "java/util/AbstractCollection" (1 : Nat) ({ cls := "java/lang/Object", name := "<init>", desc := "()V" } : Jvm.MethodName)) ∈ lw_all := lw_g (lw_at lw_m1 74 rfl) rfl
/-! jdk/internal/util/ArraysSupport -/
set_option maxRecDepth 100000
def RJ10 : String := "jdk/internal/util/ArraysSupport"
abbrev cJ10_newLength : ByteArray := prog_57_method_27_code
def yJ10_newLength : MethodName := ⟨RJ10, "newLength", "(III)I"⟩
def dkwJ10_newLength_1 : List UInt8 := [184, 0, 201, 172]
abbrev dktJ10_newLength_1 : List UInt8 := dkwJ10_newLength_1 ++ []
def dkwJ10_newLength_0 : List UInt8 := [26, 27, 28, 184, 0, 194, 96, 62, 3, 29, 162, 0, 11, 29, 18, 200, 163, 0, 5, 29, 172, 26, 27]
abbrev dktJ10_newLength_0 : List UInt8 := dkwJ10_newLength_0 ++ dktJ10_newLength_1
theorem dksJ10_newLength_0 : cJ10_newLength.data.toList.drop 0 = dktJ10_newLength_0 := by decide +kernel
theorem dksJ10_newLength_1 : cJ10_newLength.data.toList.drop 23 = dktJ10_newLength_1 := dk_seg dksJ10_newLength_0 23 rfl rfl
theorem dJ10_newLength_0 : decode cJ10_newLength 0 = .ok (.iload_n 0, 1) := dk_26 (dk_at dksJ10_newLength_0 0 rfl rfl)
theorem dJ10_newLength_1 : decode cJ10_newLength 1 = .ok (.iload_n 1, 1) := dk_27 (dk_at dksJ10_newLength_0 1 rfl rfl)
theorem dJ10_newLength_2 : decode cJ10_newLength 2 = .ok (.iload_n 2, 1) := dk_28 (dk_at dksJ10_newLength_0 2 rfl rfl)
theorem dJ10_newLength_3 : decode cJ10_newLength 3 = .ok (.invokestatic 194, 3) := dk_184 0 194 (dk_at dksJ10_newLength_0 3 rfl rfl)
theorem dJ10_newLength_6 : decode cJ10_newLength 6 = .ok (.iadd, 1) := dk_96 (dk_at dksJ10_newLength_0 6 rfl rfl)
theorem dJ10_newLength_7 : decode cJ10_newLength 7 = .ok (.istore_n 3, 1) := dk_62 (dk_at dksJ10_newLength_0 7 rfl rfl)
theorem dJ10_newLength_8 : decode cJ10_newLength 8 = .ok (.iconst 0, 1) := dk_3 (dk_at dksJ10_newLength_0 8 rfl rfl)
theorem dJ10_newLength_9 : decode cJ10_newLength 9 = .ok (.iload_n 3, 1) := dk_29 (dk_at dksJ10_newLength_0 9 rfl rfl)
theorem dJ10_newLength_10 : decode cJ10_newLength 10 = .ok (.if_icmp .ge 11, 3) := dk_162 0 11 (dk_at dksJ10_newLength_0 10 rfl rfl)
theorem dJ10_newLength_13 : decode cJ10_newLength 13 = .ok (.iload_n 3, 1) := dk_29 (dk_at dksJ10_newLength_0 13 rfl rfl)
theorem dJ10_newLength_14 : decode cJ10_newLength 14 = .ok (.ldc 200, 2) := dk_18 200 (dk_at dksJ10_newLength_0 14 rfl rfl)
theorem dJ10_newLength_16 : decode cJ10_newLength 16 = .ok (.if_icmp .gt 5, 3) := dk_163 0 5 (dk_at dksJ10_newLength_0 16 rfl rfl)
theorem dJ10_newLength_19 : decode cJ10_newLength 19 = .ok (.iload_n 3, 1) := dk_29 (dk_at dksJ10_newLength_0 19 rfl rfl)
theorem dJ10_newLength_20 : decode cJ10_newLength 20 = .ok (.ireturn, 1) := dk_172 (dk_at dksJ10_newLength_0 20 rfl rfl)
theorem dJ10_newLength_21 : decode cJ10_newLength 21 = .ok (.iload_n 0, 1) := dk_26 (dk_at dksJ10_newLength_0 21 rfl rfl)
theorem dJ10_newLength_22 : decode cJ10_newLength 22 = .ok (.iload_n 1, 1) := dk_27 (dk_at dksJ10_newLength_0 22 rfl rfl)
theorem dJ10_newLength_23 : decode cJ10_newLength 23 = .ok (.invokestatic 201, 3) := dk_184 0 201 (dk_at dksJ10_newLength_1 0 rfl rfl)
theorem dJ10_newLength_26 : decode cJ10_newLength 26 = .ok (.ireturn, 1) := dk_172 (dk_at dksJ10_newLength_1 3 rfl rfl)
abbrev cJ10_hugeLength : ByteArray := prog_57_method_28_code
def yJ10_hugeLength : MethodName := ⟨RJ10, "hugeLength", "(II)I"⟩
def dkwJ10_hugeLength_2 : List UInt8 := [191, 28, 18, 200, 163, 0, 6, 18, 200, 172, 28, 172]
abbrev dktJ10_hugeLength_2 : List UInt8 := dkwJ10_hugeLength_2 ++ []
def dkwJ10_hugeLength_1 : List UInt8 := [26, 182, 0, 98, 18, 208, 182, 0, 94, 27, 182, 0, 98, 18, 210, 182, 0, 94, 182, 0, 101, 183, 0, 212]
abbrev dktJ10_hugeLength_1 : List UInt8 := dkwJ10_hugeLength_1 ++ dktJ10_hugeLength_2
def dkwJ10_hugeLength_0 : List UInt8 := [26, 27, 96, 61, 28, 156, 0, 44, 187, 0, 204, 89, 187, 0, 89, 89, 183, 0, 91, 18, 206, 182, 0, 94]
abbrev dktJ10_hugeLength_0 : List UInt8 := dkwJ10_hugeLength_0 ++ dktJ10_hugeLength_1
theorem dksJ10_hugeLength_0 : cJ10_hugeLength.data.toList.drop 0 = dktJ10_hugeLength_0 := by decide +kernel
theorem dksJ10_hugeLength_1 : cJ10_hugeLength.data.toList.drop 24 = dktJ10_hugeLength_1 := dk_seg dksJ10_hugeLength_0 24 rfl rfl
theorem dksJ10_hugeLength_2 : cJ10_hugeLength.data.toList.drop 48 = dktJ10_hugeLength_2 := dk_seg dksJ10_hugeLength_1 24 rfl rfl
theorem dJ10_hugeLength_0 : decode cJ10_hugeLength 0 = .ok (.iload_n 0, 1) := dk_26 (dk_at dksJ10_hugeLength_0 0 rfl rfl)
theorem dJ10_hugeLength_1 : decode cJ10_hugeLength 1 = .ok (.iload_n 1, 1) := dk_27 (dk_at dksJ10_hugeLength_0 1 rfl rfl)
theorem dJ10_hugeLength_2 : decode cJ10_hugeLength 2 = .ok (.iadd, 1) := dk_96 (dk_at dksJ10_hugeLength_0 2 rfl rfl)
theorem dJ10_hugeLength_3 : decode cJ10_hugeLength 3 = .ok (.istore_n 2, 1) := dk_61 (dk_at dksJ10_hugeLength_0 3 rfl rfl)
theorem dJ10_hugeLength_4 : decode cJ10_hugeLength 4 = .ok (.iload_n 2, 1) := dk_28 (dk_at dksJ10_hugeLength_0 4 rfl rfl)
theorem dJ10_hugeLength_5 : decode cJ10_hugeLength 5 = .ok (.ifCond .ge 44, 3) := dk_156 0 44 (dk_at dksJ10_hugeLength_0 5 rfl rfl)
theorem dJ10_hugeLength_8 : decode cJ10_hugeLength 8 = .ok (.new 204, 3) := dk_187 0 204 (dk_at dksJ10_hugeLength_0 8 rfl rfl)
theorem dJ10_hugeLength_11 : decode cJ10_hugeLength 11 = .ok (.dup, 1) := dk_89 (dk_at dksJ10_hugeLength_0 11 rfl rfl)
theorem dJ10_hugeLength_12 : decode cJ10_hugeLength 12 = .ok (.new 89, 3) := dk_187 0 89 (dk_at dksJ10_hugeLength_0 12 rfl rfl)
theorem dJ10_hugeLength_15 : decode cJ10_hugeLength 15 = .ok (.dup, 1) := dk_89 (dk_at dksJ10_hugeLength_0 15 rfl rfl)
theorem dJ10_hugeLength_16 : decode cJ10_hugeLength 16 = .ok (.invokespecial 91, 3) := dk_183 0 91 (dk_at dksJ10_hugeLength_0 16 rfl rfl)
theorem dJ10_hugeLength_19 : decode cJ10_hugeLength 19 = .ok (.ldc 206, 2) := dk_18 206 (dk_at dksJ10_hugeLength_0 19 rfl rfl)
theorem dJ10_hugeLength_21 : decode cJ10_hugeLength 21 = .ok (.invokevirtual 94, 3) := dk_182 0 94 (dk_at dksJ10_hugeLength_0 21 rfl rfl)
theorem dJ10_hugeLength_24 : decode cJ10_hugeLength 24 = .ok (.iload_n 0, 1) := dk_26 (dk_at dksJ10_hugeLength_1 0 rfl rfl)
theorem dJ10_hugeLength_25 : decode cJ10_hugeLength 25 = .ok (.invokevirtual 98, 3) := dk_182 0 98 (dk_at dksJ10_hugeLength_1 1 rfl rfl)
theorem dJ10_hugeLength_28 : decode cJ10_hugeLength 28 = .ok (.ldc 208, 2) := dk_18 208 (dk_at dksJ10_hugeLength_1 4 rfl rfl)
theorem dJ10_hugeLength_30 : decode cJ10_hugeLength 30 = .ok (.invokevirtual 94, 3) := dk_182 0 94 (dk_at dksJ10_hugeLength_1 6 rfl rfl)
theorem dJ10_hugeLength_33 : decode cJ10_hugeLength 33 = .ok (.iload_n 1, 1) := dk_27 (dk_at dksJ10_hugeLength_1 9 rfl rfl)
theorem dJ10_hugeLength_34 : decode cJ10_hugeLength 34 = .ok (.invokevirtual 98, 3) := dk_182 0 98 (dk_at dksJ10_hugeLength_1 10 rfl rfl)
theorem dJ10_hugeLength_37 : decode cJ10_hugeLength 37 = .ok (.ldc 210, 2) := dk_18 210 (dk_at dksJ10_hugeLength_1 13 rfl rfl)
theorem dJ10_hugeLength_39 : decode cJ10_hugeLength 39 = .ok (.invokevirtual 94, 3) := dk_182 0 94 (dk_at dksJ10_hugeLength_1 15 rfl rfl)
theorem dJ10_hugeLength_42 : decode cJ10_hugeLength 42 = .ok (.invokevirtual 101, 3) := dk_182 0 101 (dk_at dksJ10_hugeLength_1 18 rfl rfl)
theorem dJ10_hugeLength_45 : decode cJ10_hugeLength 45 = .ok (.invokespecial 212, 3) := dk_183 0 212 (dk_at dksJ10_hugeLength_1 21 rfl rfl)
theorem dJ10_hugeLength_48 : decode cJ10_hugeLength 48 = .ok (.athrow, 1) := dk_191 (dk_at dksJ10_hugeLength_2 0 rfl rfl)
theorem dJ10_hugeLength_49 : decode cJ10_hugeLength 49 = .ok (.iload_n 2, 1) := dk_28 (dk_at dksJ10_hugeLength_2 1 rfl rfl)
theorem dJ10_hugeLength_50 : decode cJ10_hugeLength 50 = .ok (.ldc 200, 2) := dk_18 200 (dk_at dksJ10_hugeLength_2 2 rfl rfl)
theorem dJ10_hugeLength_52 : decode cJ10_hugeLength 52 = .ok (.if_icmp .gt 6, 3) := dk_163 0 6 (dk_at dksJ10_hugeLength_2 4 rfl rfl)
theorem dJ10_hugeLength_55 : decode cJ10_hugeLength 55 = .ok (.ldc 200, 2) := dk_18 200 (dk_at dksJ10_hugeLength_2 7 rfl rfl)
theorem dJ10_hugeLength_57 : decode cJ10_hugeLength 57 = .ok (.ireturn, 1) := dk_172 (dk_at dksJ10_hugeLength_2 9 rfl rfl)
theorem dJ10_hugeLength_58 : decode cJ10_hugeLength 58 = .ok (.iload_n 2, 1) := dk_28 (dk_at dksJ10_hugeLength_2 10 rfl rfl)
theorem dJ10_hugeLength_59 : decode cJ10_hugeLength 59 = .ok (.ireturn, 1) := dk_172 (dk_at dksJ10_hugeLength_2 11 rfl rfl)
theorem q67 : (Jvm.Cond.initialized "jdk/internal/util/ArraysSupport") ∈ lw_all := lw_g (lw_at lw_m1 20 rfl) rfl
theorem q535 : (Jvm.Cond.static ({ cls := "jdk/internal/util/ArraysSupport", name := "newLength", desc := "(III)I" } : Jvm.MethodName)) ∈ lw_all := lw_g (lw_at lw_m3 8 rfl) rfl
theorem q536 : (Jvm.Cond.code ({ cls := "jdk/internal/util/ArraysSupport", name := "newLength", desc := "(III)I" } : Jvm.MethodName) prog_57_method_27_code (4 : Nat) (Option.some Jvm.ClassFile.FieldType.int)) ∈ lw_all := lw_g (lw_at lw_m3 9 rfl) rfl
theorem q537 : (Jvm.Cond.methodLink "jdk/internal/util/ArraysSupport" (194 : Nat) ({ cls := "java/lang/Math", name := "max", desc := "(II)I" } : Jvm.MethodName)) ∈ lw_all := lw_g (lw_at lw_m3 10 rfl) rfl
theorem q540 : (Jvm.Cond.constant "jdk/internal/util/ArraysSupport" (200 : Nat) (2147483639 : Int32)) ∈ lw_all := lw_g (lw_at lw_m3 13 rfl) rfl
theorem q541 : (Jvm.Cond.methodLink "jdk/internal/util/ArraysSupport" (201 : Nat) ({ cls := "jdk/internal/util/ArraysSupport", name := "hugeLength", desc := "(II)I" } : Jvm.MethodName)) ∈ lw_all := lw_g (lw_at lw_m3 14 rfl) rfl
theorem q542 : (Jvm.Cond.static ({ cls := "jdk/internal/util/ArraysSupport", name := "hugeLength", desc := "(II)I" } : Jvm.MethodName)) ∈ lw_all := lw_g (lw_at lw_m3 15 rfl) rfl
theorem q543 : (Jvm.Cond.code ({ cls := "jdk/internal/util/ArraysSupport", name := "hugeLength", desc := "(II)I" } : Jvm.MethodName) prog_57_method_28_code (3 : Nat) (Option.some Jvm.ClassFile.FieldType.int)) ∈ lw_all := lw_g (lw_at lw_m3 16 rfl) rfl
/-! java/lang/Math -/
set_option maxRecDepth 100000
def RJ11 : String := "java/lang/Math"
abbrev cJ11_max : ByteArray := prog_20_method_65_code
def yJ11_max : MethodName := ⟨RJ11, "max", "(II)I"⟩
def dkwJ11_max_0 : List UInt8 := [26, 27, 161, 0, 7, 26, 167, 0, 4, 27, 172]
abbrev dktJ11_max_0 : List UInt8 := dkwJ11_max_0 ++ []
theorem dksJ11_max_0 : cJ11_max.data.toList.drop 0 = dktJ11_max_0 := by decide +kernel
theorem dJ11_max_0 : decode cJ11_max 0 = .ok (.iload_n 0, 1) := dk_26 (dk_at dksJ11_max_0 0 rfl rfl)
theorem dJ11_max_1 : decode cJ11_max 1 = .ok (.iload_n 1, 1) := dk_27 (dk_at dksJ11_max_0 1 rfl rfl)
theorem dJ11_max_2 : decode cJ11_max 2 = .ok (.if_icmp .lt 7, 3) := dk_161 0 7 (dk_at dksJ11_max_0 2 rfl rfl)
theorem dJ11_max_5 : decode cJ11_max 5 = .ok (.iload_n 0, 1) := dk_26 (dk_at dksJ11_max_0 5 rfl rfl)
theorem dJ11_max_6 : decode cJ11_max 6 = .ok (.goto 4, 3) := dk_167 0 4 (dk_at dksJ11_max_0 6 rfl rfl)
theorem dJ11_max_9 : decode cJ11_max 9 = .ok (.iload_n 1, 1) := dk_27 (dk_at dksJ11_max_0 9 rfl rfl)
theorem dJ11_max_10 : decode cJ11_max 10 = .ok (.ireturn, 1) := dk_172 (dk_at dksJ11_max_0 10 rfl rfl)
abbrev cJ11_min : ByteArray := prog_20_method_69_code
def yJ11_min : MethodName := ⟨RJ11, "min", "(II)I"⟩
def dkwJ11_min_0 : List UInt8 := [26, 27, 163, 0, 7, 26, 167, 0, 4, 27, 172]
abbrev dktJ11_min_0 : List UInt8 := dkwJ11_min_0 ++ []
theorem dksJ11_min_0 : cJ11_min.data.toList.drop 0 = dktJ11_min_0 := by decide +kernel
theorem dJ11_min_0 : decode cJ11_min 0 = .ok (.iload_n 0, 1) := dk_26 (dk_at dksJ11_min_0 0 rfl rfl)
theorem dJ11_min_1 : decode cJ11_min 1 = .ok (.iload_n 1, 1) := dk_27 (dk_at dksJ11_min_0 1 rfl rfl)
theorem dJ11_min_2 : decode cJ11_min 2 = .ok (.if_icmp .gt 7, 3) := dk_163 0 7 (dk_at dksJ11_min_0 2 rfl rfl)
theorem dJ11_min_5 : decode cJ11_min 5 = .ok (.iload_n 0, 1) := dk_26 (dk_at dksJ11_min_0 5 rfl rfl)
theorem dJ11_min_6 : decode cJ11_min 6 = .ok (.goto 4, 3) := dk_167 0 4 (dk_at dksJ11_min_0 6 rfl rfl)
theorem dJ11_min_9 : decode cJ11_min 9 = .ok (.iload_n 1, 1) := dk_27 (dk_at dksJ11_min_0 9 rfl rfl)
theorem dJ11_min_10 : decode cJ11_min 10 = .ok (.ireturn, 1) := dk_172 (dk_at dksJ11_min_0 10 rfl rfl)
theorem q68 : (Jvm.Cond.initialized "java/lang/Math") ∈ lw_all := lw_g (lw_at lw_m1 21 rfl) rfl
theorem q538 : (Jvm.Cond.static ({ cls := "java/lang/Math", name := "max", desc := "(II)I" } : Jvm.MethodName)) ∈ lw_all := lw_g (lw_at lw_m3 11 rfl) rfl
theorem q539 : (Jvm.Cond.code ({ cls := "java/lang/Math", name := "max", desc := "(II)I" } : Jvm.MethodName) prog_20_method_65_code (2 : Nat) (Option.some Jvm.ClassFile.FieldType.int)) ∈ lw_all := lw_g (lw_at lw_m3 12 rfl) rfl
theorem q581 : (Jvm.Cond.static ({ cls := "java/lang/Math", name := "min", desc := "(II)I" } : Jvm.MethodName)) ∈ lw_all := lw_g (lw_at lw_m3 54 rfl) rfl
theorem q582 : (Jvm.Cond.code ({ cls := "java/lang/Math", name := "min", desc := "(II)I" } : Jvm.MethodName) prog_20_method_69_code (2 : Nat) (Option.some Jvm.ClassFile.FieldType.int)) ∈ lw_all := lw_g (lw_at lw_m3 55 rfl) rfl
/-! java/util/Arrays -/
set_option maxRecDepth 100000
def RJ12 : String := "java/util/Arrays"
abbrev cJ12_copyOf : ByteArray := prog_35_method_119_code
def yJ12_copyOf : MethodName := ⟨RJ12, "copyOf", "([Ljava/lang/Object;I)[Ljava/lang/Object;"⟩
def dkwJ12_copyOf_0 : List UInt8 := [42, 27, 42, 182, 0, 86, 184, 1, 44, 176]
abbrev dktJ12_copyOf_0 : List UInt8 := dkwJ12_copyOf_0 ++ []
theorem dksJ12_copyOf_0 : cJ12_copyOf.data.toList.drop 0 = dktJ12_copyOf_0 := by decide +kernel
theorem dJ12_copyOf_0 : decode cJ12_copyOf 0 = .ok (.aload_n 0, 1) := dk_42 (dk_at dksJ12_copyOf_0 0 rfl rfl)
theorem dJ12_copyOf_1 : decode cJ12_copyOf 1 = .ok (.iload_n 1, 1) := dk_27 (dk_at dksJ12_copyOf_0 1 rfl rfl)
theorem dJ12_copyOf_2 : decode cJ12_copyOf 2 = .ok (.aload_n 0, 1) := dk_42 (dk_at dksJ12_copyOf_0 2 rfl rfl)
theorem dJ12_copyOf_3 : decode cJ12_copyOf 3 = .ok (.invokevirtual 86, 3) := dk_182 0 86 (dk_at dksJ12_copyOf_0 3 rfl rfl)
theorem dJ12_copyOf_6 : decode cJ12_copyOf 6 = .ok (.invokestatic 300, 3) := dk_184 1 44 (dk_at dksJ12_copyOf_0 6 rfl rfl)
theorem dJ12_copyOf_9 : decode cJ12_copyOf 9 = .ok (.areturn, 1) := dk_176 (dk_at dksJ12_copyOf_0 9 rfl rfl)
abbrev cJ12_copyOf_2 : ByteArray := prog_35_method_120_code
def yJ12_copyOf_2 : MethodName := ⟨RJ12, "copyOf", "([Ljava/lang/Object;ILjava/lang/Class;)[Ljava/lang/Object;"⟩
def dkwJ12_copyOf_2_1 : List UInt8 := [78, 42, 3, 45, 3, 42, 190, 27, 184, 1, 48, 184, 0, 150, 45, 176]
abbrev dktJ12_copyOf_2_1 : List UInt8 := dkwJ12_copyOf_2_1 ++ []
def dkwJ12_copyOf_2_0 : List UInt8 := [44, 18, 110, 166, 0, 10, 27, 189, 0, 2, 167, 0, 14, 44, 182, 0, 90, 27, 184, 0, 95, 192, 0, 110]
abbrev dktJ12_copyOf_2_0 : List UInt8 := dkwJ12_copyOf_2_0 ++ dktJ12_copyOf_2_1
theorem dksJ12_copyOf_2_0 : cJ12_copyOf_2.data.toList.drop 0 = dktJ12_copyOf_2_0 := by decide +kernel
theorem dksJ12_copyOf_2_1 : cJ12_copyOf_2.data.toList.drop 24 = dktJ12_copyOf_2_1 := dk_seg dksJ12_copyOf_2_0 24 rfl rfl
theorem dJ12_copyOf_2_0 : decode cJ12_copyOf_2 0 = .ok (.aload_n 2, 1) := dk_44 (dk_at dksJ12_copyOf_2_0 0 rfl rfl)
theorem dJ12_copyOf_2_1 : decode cJ12_copyOf_2 1 = .ok (.ldc 110, 2) := dk_18 110 (dk_at dksJ12_copyOf_2_0 1 rfl rfl)
theorem dJ12_copyOf_2_3 : decode cJ12_copyOf_2 3 = .ok (.if_acmp .ne 10, 3) := dk_166 0 10 (dk_at dksJ12_copyOf_2_0 3 rfl rfl)
theorem dJ12_copyOf_2_6 : decode cJ12_copyOf_2 6 = .ok (.iload_n 1, 1) := dk_27 (dk_at dksJ12_copyOf_2_0 6 rfl rfl)
theorem dJ12_copyOf_2_7 : decode cJ12_copyOf_2 7 = .ok (.anewarray 2, 3) := dk_189 0 2 (dk_at dksJ12_copyOf_2_0 7 rfl rfl)
theorem dJ12_copyOf_2_10 : decode cJ12_copyOf_2 10 = .ok (.goto 14, 3) := dk_167 0 14 (dk_at dksJ12_copyOf_2_0 10 rfl rfl)
theorem dJ12_copyOf_2_13 : decode cJ12_copyOf_2 13 = .ok (.aload_n 2, 1) := dk_44 (dk_at dksJ12_copyOf_2_0 13 rfl rfl)
theorem dJ12_copyOf_2_14 : decode cJ12_copyOf_2 14 = .ok (.invokevirtual 90, 3) := dk_182 0 90 (dk_at dksJ12_copyOf_2_0 14 rfl rfl)
theorem dJ12_copyOf_2_17 : decode cJ12_copyOf_2 17 = .ok (.iload_n 1, 1) := dk_27 (dk_at dksJ12_copyOf_2_0 17 rfl rfl)
theorem dJ12_copyOf_2_18 : decode cJ12_copyOf_2 18 = .ok (.invokestatic 95, 3) := dk_184 0 95 (dk_at dksJ12_copyOf_2_0 18 rfl rfl)
theorem dJ12_copyOf_2_21 : decode cJ12_copyOf_2 21 = .ok (.checkcast 110, 3) := dk_192 0 110 (dk_at dksJ12_copyOf_2_0 21 rfl rfl)
theorem dJ12_copyOf_2_24 : decode cJ12_copyOf_2 24 = .ok (.astore_n 3, 1) := dk_78 (dk_at dksJ12_copyOf_2_1 0 rfl rfl)
theorem dJ12_copyOf_2_25 : decode cJ12_copyOf_2 25 = .ok (.aload_n 0, 1) := dk_42 (dk_at dksJ12_copyOf_2_1 1 rfl rfl)
theorem dJ12_copyOf_2_26 : decode cJ12_copyOf_2 26 = .ok (.iconst 0, 1) := dk_3 (dk_at dksJ12_copyOf_2_1 2 rfl rfl)
theorem dJ12_copyOf_2_27 : decode cJ12_copyOf_2 27 = .ok (.aload_n 3, 1) := dk_45 (dk_at dksJ12_copyOf_2_1 3 rfl rfl)
theorem dJ12_copyOf_2_28 : decode cJ12_copyOf_2 28 = .ok (.iconst 0, 1) := dk_3 (dk_at dksJ12_copyOf_2_1 4 rfl rfl)
theorem dJ12_copyOf_2_29 : decode cJ12_copyOf_2 29 = .ok (.aload_n 0, 1) := dk_42 (dk_at dksJ12_copyOf_2_1 5 rfl rfl)
theorem dJ12_copyOf_2_30 : decode cJ12_copyOf_2 30 = .ok (.arraylength, 1) := dk_190 (dk_at dksJ12_copyOf_2_1 6 rfl rfl)
theorem dJ12_copyOf_2_31 : decode cJ12_copyOf_2 31 = .ok (.iload_n 1, 1) := dk_27 (dk_at dksJ12_copyOf_2_1 7 rfl rfl)
theorem dJ12_copyOf_2_32 : decode cJ12_copyOf_2 32 = .ok (.invokestatic 304, 3) := dk_184 1 48 (dk_at dksJ12_copyOf_2_1 8 rfl rfl)
theorem dJ12_copyOf_2_35 : decode cJ12_copyOf_2 35 = .ok (.invokestatic 150, 3) := dk_184 0 150 (dk_at dksJ12_copyOf_2_1 11 rfl rfl)
theorem dJ12_copyOf_2_38 : decode cJ12_copyOf_2 38 = .ok (.aload_n 3, 1) := dk_45 (dk_at dksJ12_copyOf_2_1 14 rfl rfl)
theorem dJ12_copyOf_2_39 : decode cJ12_copyOf_2 39 = .ok (.areturn, 1) := dk_176 (dk_at dksJ12_copyOf_2_1 15 rfl rfl)
abbrev cJ12_copyOf_3 : ByteArray := prog_35_method_124_code
def yJ12_copyOf_3 : MethodName := ⟨RJ12, "copyOf", "([JI)[J"⟩
def dkwJ12_copyOf_3_1 : List UInt8 := [27, 184, 1, 48, 184, 0, 150, 44, 176]
abbrev dktJ12_copyOf_3_1 : List UInt8 := dkwJ12_copyOf_3_1 ++ []
def dkwJ12_copyOf_3_0 : List UInt8 := [27, 42, 190, 160, 0, 11, 42, 182, 1, 63, 192, 1, 64, 176, 27, 188, 11, 77, 42, 3, 44, 3, 42, 190]
abbrev dktJ12_copyOf_3_0 : List UInt8 := dkwJ12_copyOf_3_0 ++ dktJ12_copyOf_3_1
theorem dksJ12_copyOf_3_0 : cJ12_copyOf_3.data.toList.drop 0 = dktJ12_copyOf_3_0 := by decide +kernel
theorem dksJ12_copyOf_3_1 : cJ12_copyOf_3.data.toList.drop 24 = dktJ12_copyOf_3_1 := dk_seg dksJ12_copyOf_3_0 24 rfl rfl
theorem dJ12_copyOf_3_0 : decode cJ12_copyOf_3 0 = .ok (.iload_n 1, 1) := dk_27 (dk_at dksJ12_copyOf_3_0 0 rfl rfl)
theorem dJ12_copyOf_3_1 : decode cJ12_copyOf_3 1 = .ok (.aload_n 0, 1) := dk_42 (dk_at dksJ12_copyOf_3_0 1 rfl rfl)
theorem dJ12_copyOf_3_2 : decode cJ12_copyOf_3 2 = .ok (.arraylength, 1) := dk_190 (dk_at dksJ12_copyOf_3_0 2 rfl rfl)
theorem dJ12_copyOf_3_3 : decode cJ12_copyOf_3 3 = .ok (.if_icmp .ne 11, 3) := dk_160 0 11 (dk_at dksJ12_copyOf_3_0 3 rfl rfl)
theorem dJ12_copyOf_3_6 : decode cJ12_copyOf_3 6 = .ok (.aload_n 0, 1) := dk_42 (dk_at dksJ12_copyOf_3_0 6 rfl rfl)
theorem dJ12_copyOf_3_7 : decode cJ12_copyOf_3 7 = .ok (.invokevirtual 319, 3) := dk_182 1 63 (dk_at dksJ12_copyOf_3_0 7 rfl rfl)
theorem dJ12_copyOf_3_10 : decode cJ12_copyOf_3 10 = .ok (.checkcast 320, 3) := dk_192 1 64 (dk_at dksJ12_copyOf_3_0 10 rfl rfl)
theorem dJ12_copyOf_3_13 : decode cJ12_copyOf_3 13 = .ok (.areturn, 1) := dk_176 (dk_at dksJ12_copyOf_3_0 13 rfl rfl)
theorem dJ12_copyOf_3_14 : decode cJ12_copyOf_3 14 = .ok (.iload_n 1, 1) := dk_27 (dk_at dksJ12_copyOf_3_0 14 rfl rfl)
theorem dJ12_copyOf_3_15 : decode cJ12_copyOf_3 15 = .ok (.newarray .long, 2) := dk_188_11 (dk_at dksJ12_copyOf_3_0 15 rfl rfl)
theorem dJ12_copyOf_3_17 : decode cJ12_copyOf_3 17 = .ok (.astore_n 2, 1) := dk_77 (dk_at dksJ12_copyOf_3_0 17 rfl rfl)
theorem dJ12_copyOf_3_18 : decode cJ12_copyOf_3 18 = .ok (.aload_n 0, 1) := dk_42 (dk_at dksJ12_copyOf_3_0 18 rfl rfl)
theorem dJ12_copyOf_3_19 : decode cJ12_copyOf_3 19 = .ok (.iconst 0, 1) := dk_3 (dk_at dksJ12_copyOf_3_0 19 rfl rfl)
theorem dJ12_copyOf_3_20 : decode cJ12_copyOf_3 20 = .ok (.aload_n 2, 1) := dk_44 (dk_at dksJ12_copyOf_3_0 20 rfl rfl)
theorem dJ12_copyOf_3_21 : decode cJ12_copyOf_3 21 = .ok (.iconst 0, 1) := dk_3 (dk_at dksJ12_copyOf_3_0 21 rfl rfl)
theorem dJ12_copyOf_3_22 : decode cJ12_copyOf_3 22 = .ok (.aload_n 0, 1) := dk_42 (dk_at dksJ12_copyOf_3_0 22 rfl rfl)
theorem dJ12_copyOf_3_23 : decode cJ12_copyOf_3 23 = .ok (.arraylength, 1) := dk_190 (dk_at dksJ12_copyOf_3_0 23 rfl rfl)
theorem dJ12_copyOf_3_24 : decode cJ12_copyOf_3 24 = .ok (.iload_n 1, 1) := dk_27 (dk_at dksJ12_copyOf_3_1 0 rfl rfl)
theorem dJ12_copyOf_3_25 : decode cJ12_copyOf_3 25 = .ok (.invokestatic 304, 3) := dk_184 1 48 (dk_at dksJ12_copyOf_3_1 1 rfl rfl)
theorem dJ12_copyOf_3_28 : decode cJ12_copyOf_3 28 = .ok (.invokestatic 150, 3) := dk_184 0 150 (dk_at dksJ12_copyOf_3_1 4 rfl rfl)
theorem dJ12_copyOf_3_31 : decode cJ12_copyOf_3 31 = .ok (.aload_n 2, 1) := dk_44 (dk_at dksJ12_copyOf_3_1 7 rfl rfl)
theorem dJ12_copyOf_3_32 : decode cJ12_copyOf_3 32 = .ok (.areturn, 1) := dk_176 (dk_at dksJ12_copyOf_3_1 8 rfl rfl)
abbrev cJ12_fill : ByteArray := prog_35_method_103_code
def yJ12_fill : MethodName := ⟨RJ12, "fill", "([II)V"⟩
def dkwJ12_fill_0 : List UInt8 := [3, 61, 42, 190, 62, 28, 29, 162, 0, 13, 42, 28, 27, 79, 132, 2, 1, 167, 255, 244, 177]
abbrev dktJ12_fill_0 : List UInt8 := dkwJ12_fill_0 ++ []
theorem dksJ12_fill_0 : cJ12_fill.data.toList.drop 0 = dktJ12_fill_0 := by decide +kernel
theorem dJ12_fill_0 : decode cJ12_fill 0 = .ok (.iconst 0, 1) := dk_3 (dk_at dksJ12_fill_0 0 rfl rfl)
theorem dJ12_fill_1 : decode cJ12_fill 1 = .ok (.istore_n 2, 1) := dk_61 (dk_at dksJ12_fill_0 1 rfl rfl)
theorem dJ12_fill_2 : decode cJ12_fill 2 = .ok (.aload_n 0, 1) := dk_42 (dk_at dksJ12_fill_0 2 rfl rfl)
theorem dJ12_fill_3 : decode cJ12_fill 3 = .ok (.arraylength, 1) := dk_190 (dk_at dksJ12_fill_0 3 rfl rfl)
theorem dJ12_fill_4 : decode cJ12_fill 4 = .ok (.istore_n 3, 1) := dk_62 (dk_at dksJ12_fill_0 4 rfl rfl)
theorem dJ12_fill_5 : decode cJ12_fill 5 = .ok (.iload_n 2, 1) := dk_28 (dk_at dksJ12_fill_0 5 rfl rfl)
theorem dJ12_fill_6 : decode cJ12_fill 6 = .ok (.iload_n 3, 1) := dk_29 (dk_at dksJ12_fill_0 6 rfl rfl)
theorem dJ12_fill_7 : decode cJ12_fill 7 = .ok (.if_icmp .ge 13, 3) := dk_162 0 13 (dk_at dksJ12_fill_0 7 rfl rfl)
theorem dJ12_fill_10 : decode cJ12_fill 10 = .ok (.aload_n 0, 1) := dk_42 (dk_at dksJ12_fill_0 10 rfl rfl)
theorem dJ12_fill_11 : decode cJ12_fill 11 = .ok (.iload_n 2, 1) := dk_28 (dk_at dksJ12_fill_0 11 rfl rfl)
theorem dJ12_fill_12 : decode cJ12_fill 12 = .ok (.iload_n 1, 1) := dk_27 (dk_at dksJ12_fill_0 12 rfl rfl)
theorem dJ12_fill_13 : decode cJ12_fill 13 = .ok (.iastore, 1) := dk_79 (dk_at dksJ12_fill_0 13 rfl rfl)
theorem dJ12_fill_14 : decode cJ12_fill 14 = .ok (.iinc 2 1, 3) := dk_132 2 1 (dk_at dksJ12_fill_0 14 rfl rfl)
theorem dJ12_fill_17 : decode cJ12_fill 17 = .ok (.goto (-12), 3) := dk_167 255 244 (dk_at dksJ12_fill_0 17 rfl rfl)
theorem dJ12_fill_20 : decode cJ12_fill 20 = .ok (.return_, 1) := dk_177 (dk_at dksJ12_fill_0 20 rfl rfl)
theorem q69 : (Jvm.Cond.initialized "java/util/Arrays") ∈ lw_all := lw_g (lw_at lw_m1 22 rfl) rfl
theorem q545 : (Jvm.Cond.static ({ cls := "java/util/Arrays", name := "copyOf", desc := "([Ljava/lang/Object;I)[Ljava/lang/Object;" } : Jvm.MethodName)) ∈ lw_all := lw_g (lw_at lw_m3 18 rfl) rfl
theorem q546 : (Jvm.Cond.code ({ cls := "java/util/Arrays", name := "copyOf", desc := "([Ljava/lang/Object;I)[Ljava/lang/Object;" } : Jvm.MethodName) prog_35_method_119_code (2 : Nat) (Option.some (Jvm.ClassFile.FieldType.array (Jvm.ClassFile.FieldType.object "java/lang/Object")))) ∈ lw_all := lw_g (lw_at lw_m3 19 rfl) rfl
theorem q547 : (Jvm.Cond.methodLink "java/util/Arrays" (86 : Nat) ({ cls := "java/lang/Object", name := "getClass", desc := "()Ljava/lang/Class;" } : Jvm.MethodName)) ∈ lw_all := lw_g (lw_at lw_m3 20 rfl) rfl
theorem q574 : (Jvm.Cond.methodLink "java/util/Arrays" (300 : Nat) ({ cls := "java/util/Arrays", name := "copyOf", desc := "([Ljava/lang/Object;ILjava/lang/Class;)[Ljava/lang/Object;" } : Jvm.MethodName)) ∈ lw_all := lw_g (lw_at lw_m3 47 rfl) rfl
theorem q575 : (Jvm.Cond.static ({ cls := "java/util/Arrays", name := "copyOf", desc := "([Ljava/lang/Object;ILjava/lang/Class;)[Ljava/lang/Object;" } : Jvm.MethodName)) ∈ lw_all := lw_g (lw_at lw_m3 48 rfl) rfl
theorem q576 : (Jvm.Cond.code ({ cls := "java/util/Arrays", name := "copyOf", desc := "([Ljava/lang/Object;ILjava/lang/Class;)[Ljava/lang/Object;" } : Jvm.MethodName) prog_35_method_120_code (4 : Nat) (Option.some (Jvm.ClassFile.FieldType.array (Jvm.ClassFile.FieldType.object "java/lang/Object")))) ∈ lw_all := lw_g (lw_at lw_m3 49 rfl) rfl
theorem q577 : (Jvm.Cond.classLink "java/util/Arrays" (110 : Nat) "[Ljava/lang/Object;") ∈ lw_all := lw_g (lw_at lw_m3 50 rfl) rfl
theorem q579 : (Jvm.Cond.classLink "java/util/Arrays" (2 : Nat) "java/lang/Object") ∈ lw_all := lw_g (lw_at lw_m3 52 rfl) rfl
theorem q580 : (Jvm.Cond.methodLink "java/util/Arrays" (304 : Nat) ({ cls := "java/lang/Math", name := "min", desc := "(II)I" } : Jvm.MethodName)) ∈ lw_all := lw_g (lw_at lw_m3 53 rfl) rfl
theorem q583 : (Jvm.Cond.methodLink "java/util/Arrays" (150 : Nat) ({ cls := "java/lang/System", name := "arraycopy", desc := "(Ljava/lang/Object;ILjava/lang/Object;II)V" } : Jvm.MethodName)) ∈ lw_all := lw_g (lw_at lw_m3 56 rfl) rfl
theorem q951 : (Jvm.Cond.static ({ cls := "java/util/Arrays", name := "copyOf", desc := "([JI)[J" } : Jvm.MethodName)) ∈ lw_all := lw_g (lw_at lw_m4 184 rfl) rfl
theorem q952 : (Jvm.Cond.code ({ cls := "java/util/Arrays", name := "copyOf", desc := "([JI)[J" } : Jvm.MethodName) prog_35_method_124_code (3 : Nat) (Option.some (Jvm.ClassFile.FieldType.array Jvm.ClassFile.FieldType.long))) ∈ lw_all := lw_g (lw_at lw_m4 185 rfl) rfl
theorem q953 : (Jvm.Cond.methodLink "java/util/Arrays" (319 : Nat) ({ cls := "[J", name := "clone", desc := "()Ljava/lang/Object;" } : Jvm.MethodName)) ∈ lw_all := lw_g (lw_at lw_m4 186 rfl) rfl
theorem q957 : (Jvm.Cond.classLink "java/util/Arrays" (320 : Nat) "[J") ∈ lw_all := lw_g (lw_at lw_m4 190 rfl) rfl
theorem q1451 : (Jvm.Cond.static ({ cls := "java/util/Arrays", name := "fill", desc := "([II)V" } : Jvm.MethodName)) ∈ lw_all := lw_g (lw_at lw_m6 204 rfl) rfl
theorem q1452 : (Jvm.Cond.code ({ cls := "java/util/Arrays", name := "fill", desc := "([II)V" } : Jvm.MethodName) prog_35_method_103_code (4 : Nat) (Option.none : Option Jvm.ClassFile.FieldType)) ∈ lw_all := lw_g (lw_at lw_m6 205 rfl) rfl
/-! java/util/Objects -/
set_option maxRecDepth 100000
def RJ13 : String := "java/util/Objects"
abbrev cJ13_checkIndex : ByteArray := prog_52_method_17_code
def yJ13_checkIndex : MethodName := ⟨RJ13, "checkIndex", "(II)I"⟩
def dkwJ13_checkIndex_0 : List UInt8 := [26, 27, 1, 184, 0, 105, 172]
abbrev dktJ13_checkIndex_0 : List UInt8 := dkwJ13_checkIndex_0 ++ []
theorem dksJ13_checkIndex_0 : cJ13_checkIndex.data.toList.drop 0 = dktJ13_checkIndex_0 := by decide +kernel
theorem dJ13_checkIndex_0 : decode cJ13_checkIndex 0 = .ok (.iload_n 0, 1) := dk_26 (dk_at dksJ13_checkIndex_0 0 rfl rfl)
theorem dJ13_checkIndex_1 : decode cJ13_checkIndex 1 = .ok (.iload_n 1, 1) := dk_27 (dk_at dksJ13_checkIndex_0 1 rfl rfl)
theorem dJ13_checkIndex_2 : decode cJ13_checkIndex 2 = .ok (.aconst_null, 1) := dk_1 (dk_at dksJ13_checkIndex_0 2 rfl rfl)
theorem dJ13_checkIndex_3 : decode cJ13_checkIndex 3 = .ok (.invokestatic 105, 3) := dk_184 0 105 (dk_at dksJ13_checkIndex_0 3 rfl rfl)
theorem dJ13_checkIndex_6 : decode cJ13_checkIndex 6 = .ok (.ireturn, 1) := dk_172 (dk_at dksJ13_checkIndex_0 6 rfl rfl)
theorem q71 : (Jvm.Cond.initialized "java/util/Objects") ∈ lw_all := lw_g (lw_at lw_m1 24 rfl) rfl
theorem q601 : (Jvm.Cond.static ({ cls := "java/util/Objects", name := "checkIndex", desc := "(II)I" } : Jvm.MethodName)) ∈ lw_all := lw_g (lw_at lw_m3 74 rfl) rfl
theorem q602 : (Jvm.Cond.code ({ cls := "java/util/Objects", name := "checkIndex", desc := "(II)I" } : Jvm.MethodName) prog_52_method_17_code (2 : Nat) (Option.some Jvm.ClassFile.FieldType.int)) ∈ lw_all := lw_g (lw_at lw_m3 75 rfl) rfl
theorem q603 : (Jvm.Cond.methodLink "java/util/Objects" (105 : Nat) ({ cls := "jdk/internal/util/Preconditions", name := "checkIndex", desc := "(IILjava/util/function/BiFunction;)I" } : Jvm.MethodName)) ∈ lw_all := lw_g (lw_at lw_m3 76 rfl) rfl
/-! jdk/internal/util/Preconditions -/
set_option maxRecDepth 100000
def RJ14 : String := "jdk/internal/util/Preconditions"
abbrev cJ14_checkIndex : ByteArray := prog_58_method_11_code
def yJ14_checkIndex : MethodName := ⟨RJ14, "checkIndex", "(IILjava/util/function/BiFunction;)I"⟩
def dkwJ14_checkIndex_0 : List UInt8 := [26, 155, 0, 8, 26, 27, 161, 0, 10, 44, 26, 27, 184, 0, 95, 191, 26, 172]
abbrev dktJ14_checkIndex_0 : List UInt8 := dkwJ14_checkIndex_0 ++ []
theorem dksJ14_checkIndex_0 : cJ14_checkIndex.data.toList.drop 0 = dktJ14_checkIndex_0 := by decide +kernel
theorem dJ14_checkIndex_0 : decode cJ14_checkIndex 0 = .ok (.iload_n 0, 1) := dk_26 (dk_at dksJ14_checkIndex_0 0 rfl rfl)
theorem dJ14_checkIndex_1 : decode cJ14_checkIndex 1 = .ok (.ifCond .lt 8, 3) := dk_155 0 8 (dk_at dksJ14_checkIndex_0 1 rfl rfl)
theorem dJ14_checkIndex_4 : decode cJ14_checkIndex 4 = .ok (.iload_n 0, 1) := dk_26 (dk_at dksJ14_checkIndex_0 4 rfl rfl)
theorem dJ14_checkIndex_5 : decode cJ14_checkIndex 5 = .ok (.iload_n 1, 1) := dk_27 (dk_at dksJ14_checkIndex_0 5 rfl rfl)
theorem dJ14_checkIndex_6 : decode cJ14_checkIndex 6 = .ok (.if_icmp .lt 10, 3) := dk_161 0 10 (dk_at dksJ14_checkIndex_0 6 rfl rfl)
theorem dJ14_checkIndex_9 : decode cJ14_checkIndex 9 = .ok (.aload_n 2, 1) := dk_44 (dk_at dksJ14_checkIndex_0 9 rfl rfl)
theorem dJ14_checkIndex_10 : decode cJ14_checkIndex 10 = .ok (.iload_n 0, 1) := dk_26 (dk_at dksJ14_checkIndex_0 10 rfl rfl)
theorem dJ14_checkIndex_11 : decode cJ14_checkIndex 11 = .ok (.iload_n 1, 1) := dk_27 (dk_at dksJ14_checkIndex_0 11 rfl rfl)
theorem dJ14_checkIndex_12 : decode cJ14_checkIndex 12 = .ok (.invokestatic 95, 3) := dk_184 0 95 (dk_at dksJ14_checkIndex_0 12 rfl rfl)
theorem dJ14_checkIndex_15 : decode cJ14_checkIndex 15 = .ok (.athrow, 1) := dk_191 (dk_at dksJ14_checkIndex_0 15 rfl rfl)
theorem dJ14_checkIndex_16 : decode cJ14_checkIndex 16 = .ok (.iload_n 0, 1) := dk_26 (dk_at dksJ14_checkIndex_0 16 rfl rfl)
theorem dJ14_checkIndex_17 : decode cJ14_checkIndex 17 = .ok (.ireturn, 1) := dk_172 (dk_at dksJ14_checkIndex_0 17 rfl rfl)
theorem q72 : (Jvm.Cond.initialized "jdk/internal/util/Preconditions") ∈ lw_all := lw_g (lw_at lw_m1 25 rfl) rfl
theorem q604 : (Jvm.Cond.static ({ cls := "jdk/internal/util/Preconditions", name := "checkIndex", desc := "(IILjava/util/function/BiFunction;)I" } : Jvm.MethodName)) ∈ lw_all := lw_g (lw_at lw_m3 77 rfl) rfl
theorem q605 : (Jvm.Cond.code ({ cls := "jdk/internal/util/Preconditions", name := "checkIndex", desc := "(IILjava/util/function/BiFunction;)I" } : Jvm.MethodName) prog_58_method_11_code (3 : Nat) (Option.some Jvm.ClassFile.FieldType.int)) ∈ lw_all := lw_g (lw_at lw_m3 78 rfl) rfl
/-! java/lang/Number -/
set_option maxRecDepth 100000
def RJ15 : String := "java/lang/Number"
abbrev cJ15_init : ByteArray := prog_21_method_1_code
def yJ15_init : MethodName := ⟨RJ15, "<init>", "()V"⟩
theorem dJ15_init_0 : decode cJ15_init 0 = .ok (.aload_n 0, 1) := by decide +kernel
theorem dJ15_init_1 : decode cJ15_init 1 = .ok (.invokespecial 1, 3) := by decide +kernel
theorem dJ15_init_4 : decode cJ15_init 4 = .ok (.return_, 1) := by decide +kernel
theorem q73 : (Jvm.Cond.initialized "java/lang/Number") ∈ lw_all := lw_g (lw_at lw_m1 26 rfl) rfl
theorem q673 : (Jvm.Cond.instanceMethod ({ cls := "java/lang/Number", name := "<init>", desc := "()V" } : Jvm.MethodName)) ∈ lw_all := lw_g (lw_at lw_m3 146 rfl) rfl
theorem q674 : (Jvm.Cond.code ({ cls := "java/lang/Number", name := "<init>", desc := "()V" } : Jvm.MethodName) prog_21_method_1_code (1 : Nat) (Option.none : Option Jvm.ClassFile.FieldType)) ∈ lw_all := lw_g (lw_at lw_m3 147 rfl) rfl
theorem q675 : (Jvm.Cond.methodLink "java/lang/Number" (1 : Nat) ({ cls := "java/lang/Object", name := "<init>", desc := "()V" } : Jvm.MethodName)) ∈ lw_all := lw_g (lw_at lw_m3 148 rfl) rfl
/-! java/lang/Integer -/
set_option maxRecDepth 100000
def RJ16 : String := "java/lang/Integer"
def TJ16 : u_T := fun k => match k with
  | _ => ("java/lang/Integer", "value", "I", true)
def tyJ16 : Nat → FieldType := fun k => match k with
  | _ => .int
abbrev wsJ160 : List Cond := u_ws RJ16 TJ16 1
theorem nmJ16 : ∀ a, a < 1 → ∀ b, b < 1 → a ≠ b → (TJ16 a).2.1 ≠ (TJ16 b).2.1 := by decide +kernel
theorem tyJ16_ok : ∀ k, k < 1 → parseFieldDescriptor (TJ16 k).2.2.1 = some (tyJ16 k) := by decide +kernel
abbrev cJ16_equals : ByteArray := prog_17_method_34_code
def yJ16_equals : MethodName := ⟨RJ16, "equals", "(Ljava/lang/Object;)Z"⟩
def dkwJ16_equals_1 : List UInt8 := [167, 0, 4, 3, 172, 3, 172]
abbrev dktJ16_equals_1 : List UInt8 := dkwJ16_equals_1 ++ []
def dkwJ16_equals_0 : List UInt8 := [43, 193, 0, 1, 153, 0, 23, 42, 180, 0, 205, 43, 192, 0, 1, 182, 0, 211, 160, 0, 7, 4]
abbrev dktJ16_equals_0 : List UInt8 := dkwJ16_equals_0 ++ dktJ16_equals_1
theorem dksJ16_equals_0 : cJ16_equals.data.toList.drop 0 = dktJ16_equals_0 := by decide +kernel
theorem dksJ16_equals_1 : cJ16_equals.data.toList.drop 22 = dktJ16_equals_1 := dk_seg dksJ16_equals_0 22 rfl rfl
theorem dJ16_equals_0 : decode cJ16_equals 0 = .ok (.aload_n 1, 1) := dk_43 (dk_at dksJ16_equals_0 0 rfl rfl)
theorem dJ16_equals_1 : decode cJ16_equals 1 = .ok (.instanceof 1, 3) := dk_193 0 1 (dk_at dksJ16_equals_0 1 rfl rfl)
theorem dJ16_equals_4 : decode cJ16_equals 4 = .ok (.ifCond .eq 23, 3) := dk_153 0 23 (dk_at dksJ16_equals_0 4 rfl rfl)
theorem dJ16_equals_7 : decode cJ16_equals 7 = .ok (.aload_n 0, 1) := dk_42 (dk_at dksJ16_equals_0 7 rfl rfl)
theorem dJ16_equals_8 : decode cJ16_equals 8 = .ok (.getfield 205, 3) := dk_180 0 205 (dk_at dksJ16_equals_0 8 rfl rfl)
theorem dJ16_equals_11 : decode cJ16_equals 11 = .ok (.aload_n 1, 1) := dk_43 (dk_at dksJ16_equals_0 11 rfl rfl)
theorem dJ16_equals_12 : decode cJ16_equals 12 = .ok (.checkcast 1, 3) := dk_192 0 1 (dk_at dksJ16_equals_0 12 rfl rfl)
theorem dJ16_equals_15 : decode cJ16_equals 15 = .ok (.invokevirtual 211, 3) := dk_182 0 211 (dk_at dksJ16_equals_0 15 rfl rfl)
theorem dJ16_equals_18 : decode cJ16_equals 18 = .ok (.if_icmp .ne 7, 3) := dk_160 0 7 (dk_at dksJ16_equals_0 18 rfl rfl)
theorem dJ16_equals_21 : decode cJ16_equals 21 = .ok (.iconst 1, 1) := dk_4 (dk_at dksJ16_equals_0 21 rfl rfl)
theorem dJ16_equals_22 : decode cJ16_equals 22 = .ok (.goto 4, 3) := dk_167 0 4 (dk_at dksJ16_equals_1 0 rfl rfl)
theorem dJ16_equals_25 : decode cJ16_equals 25 = .ok (.iconst 0, 1) := dk_3 (dk_at dksJ16_equals_1 3 rfl rfl)
theorem dJ16_equals_26 : decode cJ16_equals 26 = .ok (.ireturn, 1) := dk_172 (dk_at dksJ16_equals_1 4 rfl rfl)
theorem dJ16_equals_27 : decode cJ16_equals 27 = .ok (.iconst 0, 1) := dk_3 (dk_at dksJ16_equals_1 5 rfl rfl)
theorem dJ16_equals_28 : decode cJ16_equals 28 = .ok (.ireturn, 1) := dk_172 (dk_at dksJ16_equals_1 6 rfl rfl)
abbrev cJ16_intValue : ByteArray := prog_17_method_27_code
def yJ16_intValue : MethodName := ⟨RJ16, "intValue", "()I"⟩
theorem dJ16_intValue_0 : decode cJ16_intValue 0 = .ok (.aload_n 0, 1) := by decide +kernel
theorem dJ16_intValue_1 : decode cJ16_intValue 1 = .ok (.getfield 205, 3) := by decide +kernel
theorem dJ16_intValue_4 : decode cJ16_intValue 4 = .ok (.ireturn, 1) := by decide +kernel
abbrev cJ16_valueOf : ByteArray := prog_17_method_22_code
def yJ16_valueOf : MethodName := ⟨RJ16, "valueOf", "(I)Ljava/lang/Integer;"⟩
def dkwJ16_valueOf_1 : List UInt8 := [187, 0, 1, 89, 26, 183, 0, 199, 176]
abbrev dktJ16_valueOf_1 : List UInt8 := dkwJ16_valueOf_1 ++ []
def dkwJ16_valueOf_0 : List UInt8 := [26, 16, 128, 161, 0, 20, 26, 178, 0, 191, 163, 0, 13, 178, 0, 195, 26, 17, 0, 128, 96, 50, 176]
abbrev dktJ16_valueOf_0 : List UInt8 := dkwJ16_valueOf_0 ++ dktJ16_valueOf_1
theorem dksJ16_valueOf_0 : cJ16_valueOf.data.toList.drop 0 = dktJ16_valueOf_0 := by decide +kernel
theorem dksJ16_valueOf_1 : cJ16_valueOf.data.toList.drop 23 = dktJ16_valueOf_1 := dk_seg dksJ16_valueOf_0 23 rfl rfl
theorem dJ16_valueOf_0 : decode cJ16_valueOf 0 = .ok (.iload_n 0, 1) := dk_26 (dk_at dksJ16_valueOf_0 0 rfl rfl)
theorem dJ16_valueOf_1 : decode cJ16_valueOf 1 = .ok (.bipush (-128), 2) := dk_16 128 (dk_at dksJ16_valueOf_0 1 rfl rfl)
theorem dJ16_valueOf_3 : decode cJ16_valueOf 3 = .ok (.if_icmp .lt 20, 3) := dk_161 0 20 (dk_at dksJ16_valueOf_0 3 rfl rfl)
theorem dJ16_valueOf_6 : decode cJ16_valueOf 6 = .ok (.iload_n 0, 1) := dk_26 (dk_at dksJ16_valueOf_0 6 rfl rfl)
theorem dJ16_valueOf_7 : decode cJ16_valueOf 7 = .ok (.getstatic 191, 3) := dk_178 0 191 (dk_at dksJ16_valueOf_0 7 rfl rfl)
theorem dJ16_valueOf_10 : decode cJ16_valueOf 10 = .ok (.if_icmp .gt 13, 3) := dk_163 0 13 (dk_at dksJ16_valueOf_0 10 rfl rfl)
theorem dJ16_valueOf_13 : decode cJ16_valueOf 13 = .ok (.getstatic 195, 3) := dk_178 0 195 (dk_at dksJ16_valueOf_0 13 rfl rfl)
theorem dJ16_valueOf_16 : decode cJ16_valueOf 16 = .ok (.iload_n 0, 1) := dk_26 (dk_at dksJ16_valueOf_0 16 rfl rfl)
theorem dJ16_valueOf_17 : decode cJ16_valueOf 17 = .ok (.sipush 128, 3) := dk_17 0 128 (dk_at dksJ16_valueOf_0 17 rfl rfl)
theorem dJ16_valueOf_20 : decode cJ16_valueOf 20 = .ok (.iadd, 1) := dk_96 (dk_at dksJ16_valueOf_0 20 rfl rfl)
theorem dJ16_valueOf_21 : decode cJ16_valueOf 21 = .ok (.aaload, 1) := dk_50 (dk_at dksJ16_valueOf_0 21 rfl rfl)
theorem dJ16_valueOf_22 : decode cJ16_valueOf 22 = .ok (.areturn, 1) := dk_176 (dk_at dksJ16_valueOf_0 22 rfl rfl)
theorem dJ16_valueOf_23 : decode cJ16_valueOf 23 = .ok (.new 1, 3) := dk_187 0 1 (dk_at dksJ16_valueOf_1 0 rfl rfl)
theorem dJ16_valueOf_26 : decode cJ16_valueOf 26 = .ok (.dup, 1) := dk_89 (dk_at dksJ16_valueOf_1 3 rfl rfl)
theorem dJ16_valueOf_27 : decode cJ16_valueOf 27 = .ok (.iload_n 0, 1) := dk_26 (dk_at dksJ16_valueOf_1 4 rfl rfl)
theorem dJ16_valueOf_28 : decode cJ16_valueOf 28 = .ok (.invokespecial 199, 3) := dk_183 0 199 (dk_at dksJ16_valueOf_1 5 rfl rfl)
theorem dJ16_valueOf_31 : decode cJ16_valueOf 31 = .ok (.areturn, 1) := dk_176 (dk_at dksJ16_valueOf_1 8 rfl rfl)
abbrev cJ16_init : ByteArray := prog_17_method_23_code
def yJ16_init : MethodName := ⟨RJ16, "<init>", "(I)V"⟩
def dkwJ16_init_0 : List UInt8 := [42, 183, 0, 202, 42, 27, 181, 0, 205, 177]
abbrev dktJ16_init_0 : List UInt8 := dkwJ16_init_0 ++ []
theorem dksJ16_init_0 : cJ16_init.data.toList.drop 0 = dktJ16_init_0 := by decide +kernel
theorem dJ16_init_0 : decode cJ16_init 0 = .ok (.aload_n 0, 1) := dk_42 (dk_at dksJ16_init_0 0 rfl rfl)
theorem dJ16_init_1 : decode cJ16_init 1 = .ok (.invokespecial 202, 3) := dk_183 0 202 (dk_at dksJ16_init_0 1 rfl rfl)
theorem dJ16_init_4 : decode cJ16_init 4 = .ok (.aload_n 0, 1) := dk_42 (dk_at dksJ16_init_0 4 rfl rfl)
theorem dJ16_init_5 : decode cJ16_init 5 = .ok (.iload_n 1, 1) := dk_27 (dk_at dksJ16_init_0 5 rfl rfl)
theorem dJ16_init_6 : decode cJ16_init 6 = .ok (.putfield 205, 3) := dk_181 0 205 (dk_at dksJ16_init_0 6 rfl rfl)
theorem dJ16_init_9 : decode cJ16_init 9 = .ok (.return_, 1) := dk_177 (dk_at dksJ16_init_0 9 rfl rfl)
abbrev cJ16_hashCode : ByteArray := prog_17_method_32_code
def yJ16_hashCode : MethodName := ⟨RJ16, "hashCode", "()I"⟩
def dkwJ16_hashCode_0 : List UInt8 := [42, 180, 0, 205, 184, 0, 208, 172]
abbrev dktJ16_hashCode_0 : List UInt8 := dkwJ16_hashCode_0 ++ []
theorem dksJ16_hashCode_0 : cJ16_hashCode.data.toList.drop 0 = dktJ16_hashCode_0 := by decide +kernel
theorem dJ16_hashCode_0 : decode cJ16_hashCode 0 = .ok (.aload_n 0, 1) := dk_42 (dk_at dksJ16_hashCode_0 0 rfl rfl)
theorem dJ16_hashCode_1 : decode cJ16_hashCode 1 = .ok (.getfield 205, 3) := dk_180 0 205 (dk_at dksJ16_hashCode_0 1 rfl rfl)
theorem dJ16_hashCode_4 : decode cJ16_hashCode 4 = .ok (.invokestatic 208, 3) := dk_184 0 208 (dk_at dksJ16_hashCode_0 4 rfl rfl)
theorem dJ16_hashCode_7 : decode cJ16_hashCode 7 = .ok (.ireturn, 1) := dk_172 (dk_at dksJ16_hashCode_0 7 rfl rfl)
abbrev cJ16_hashCode_2 : ByteArray := prog_17_method_33_code
def yJ16_hashCode_2 : MethodName := ⟨RJ16, "hashCode", "(I)I"⟩
theorem dJ16_hashCode_2_0 : decode cJ16_hashCode_2 0 = .ok (.iload_n 0, 1) := by decide +kernel
theorem dJ16_hashCode_2_1 : decode cJ16_hashCode_2 1 = .ok (.ireturn, 1) := by decide +kernel
abbrev cJ16_compareTo : ByteArray := prog_17_method_63_code
def yJ16_compareTo : MethodName := ⟨RJ16, "compareTo", "(Ljava/lang/Object;)I"⟩
def dkwJ16_compareTo_0 : List UInt8 := [42, 43, 192, 0, 1, 182, 1, 28, 172]
abbrev dktJ16_compareTo_0 : List UInt8 := dkwJ16_compareTo_0 ++ []
theorem dksJ16_compareTo_0 : cJ16_compareTo.data.toList.drop 0 = dktJ16_compareTo_0 := by decide +kernel
theorem dJ16_compareTo_0 : decode cJ16_compareTo 0 = .ok (.aload_n 0, 1) := dk_42 (dk_at dksJ16_compareTo_0 0 rfl rfl)
theorem dJ16_compareTo_1 : decode cJ16_compareTo 1 = .ok (.aload_n 1, 1) := dk_43 (dk_at dksJ16_compareTo_0 1 rfl rfl)
theorem dJ16_compareTo_2 : decode cJ16_compareTo 2 = .ok (.checkcast 1, 3) := dk_192 0 1 (dk_at dksJ16_compareTo_0 2 rfl rfl)
theorem dJ16_compareTo_5 : decode cJ16_compareTo 5 = .ok (.invokevirtual 284, 3) := dk_182 1 28 (dk_at dksJ16_compareTo_0 5 rfl rfl)
theorem dJ16_compareTo_8 : decode cJ16_compareTo 8 = .ok (.ireturn, 1) := dk_172 (dk_at dksJ16_compareTo_0 8 rfl rfl)
abbrev cJ16_compareTo_2 : ByteArray := prog_17_method_39_code
def yJ16_compareTo_2 : MethodName := ⟨RJ16, "compareTo", "(Ljava/lang/Integer;)I"⟩
def dkwJ16_compareTo_2_0 : List UInt8 := [42, 180, 0, 205, 43, 180, 0, 205, 184, 1, 3, 172]
abbrev dktJ16_compareTo_2_0 : List UInt8 := dkwJ16_compareTo_2_0 ++ []
theorem dksJ16_compareTo_2_0 : cJ16_compareTo_2.data.toList.drop 0 = dktJ16_compareTo_2_0 := by decide +kernel
theorem dJ16_compareTo_2_0 : decode cJ16_compareTo_2 0 = .ok (.aload_n 0, 1) := dk_42 (dk_at dksJ16_compareTo_2_0 0 rfl rfl)
theorem dJ16_compareTo_2_1 : decode cJ16_compareTo_2 1 = .ok (.getfield 205, 3) := dk_180 0 205 (dk_at dksJ16_compareTo_2_0 1 rfl rfl)
theorem dJ16_compareTo_2_4 : decode cJ16_compareTo_2 4 = .ok (.aload_n 1, 1) := dk_43 (dk_at dksJ16_compareTo_2_0 4 rfl rfl)
theorem dJ16_compareTo_2_5 : decode cJ16_compareTo_2 5 = .ok (.getfield 205, 3) := dk_180 0 205 (dk_at dksJ16_compareTo_2_0 5 rfl rfl)
theorem dJ16_compareTo_2_8 : decode cJ16_compareTo_2 8 = .ok (.invokestatic 259, 3) := dk_184 1 3 (dk_at dksJ16_compareTo_2_0 8 rfl rfl)
theorem dJ16_compareTo_2_11 : decode cJ16_compareTo_2 11 = .ok (.ireturn, 1) := dk_172 (dk_at dksJ16_compareTo_2_0 11 rfl rfl)
abbrev cJ16_compare : ByteArray := prog_17_method_40_code
def yJ16_compare : MethodName := ⟨RJ16, "compare", "(II)I"⟩
def dkwJ16_compare_0 : List UInt8 := [26, 27, 162, 0, 7, 2, 167, 0, 13, 26, 27, 160, 0, 7, 3, 167, 0, 4, 4, 172]
abbrev dktJ16_compare_0 : List UInt8 := dkwJ16_compare_0 ++ []
theorem dksJ16_compare_0 : cJ16_compare.data.toList.drop 0 = dktJ16_compare_0 := by decide +kernel
theorem dJ16_compare_0 : decode cJ16_compare 0 = .ok (.iload_n 0, 1) := dk_26 (dk_at dksJ16_compare_0 0 rfl rfl)
theorem dJ16_compare_1 : decode cJ16_compare 1 = .ok (.iload_n 1, 1) := dk_27 (dk_at dksJ16_compare_0 1 rfl rfl)
theorem dJ16_compare_2 : decode cJ16_compare 2 = .ok (.if_icmp .ge 7, 3) := dk_162 0 7 (dk_at dksJ16_compare_0 2 rfl rfl)
theorem dJ16_compare_5 : decode cJ16_compare 5 = .ok (.iconst (-1), 1) := dk_2 (dk_at dksJ16_compare_0 5 rfl rfl)
theorem dJ16_compare_6 : decode cJ16_compare 6 = .ok (.goto 13, 3) := dk_167 0 13 (dk_at dksJ16_compare_0 6 rfl rfl)
theorem dJ16_compare_9 : decode cJ16_compare 9 = .ok (.iload_n 0, 1) := dk_26 (dk_at dksJ16_compare_0 9 rfl rfl)
theorem dJ16_compare_10 : decode cJ16_compare 10 = .ok (.iload_n 1, 1) := dk_27 (dk_at dksJ16_compare_0 10 rfl rfl)
theorem dJ16_compare_11 : decode cJ16_compare 11 = .ok (.if_icmp .ne 7, 3) := dk_160 0 7 (dk_at dksJ16_compare_0 11 rfl rfl)
theorem dJ16_compare_14 : decode cJ16_compare 14 = .ok (.iconst 0, 1) := dk_3 (dk_at dksJ16_compare_0 14 rfl rfl)
theorem dJ16_compare_15 : decode cJ16_compare 15 = .ok (.goto 4, 3) := dk_167 0 4 (dk_at dksJ16_compare_0 15 rfl rfl)
theorem dJ16_compare_18 : decode cJ16_compare 18 = .ok (.iconst 1, 1) := dk_4 (dk_at dksJ16_compare_0 18 rfl rfl)
theorem dJ16_compare_19 : decode cJ16_compare 19 = .ok (.ireturn, 1) := dk_172 (dk_at dksJ16_compare_0 19 rfl rfl)
theorem q74 : (Jvm.Cond.initialized "java/lang/Integer") ∈ lw_all := lw_g (lw_at lw_m1 27 rfl) rfl
theorem q560 : (Jvm.Cond.selects "java/lang/Integer" ({ cls := "java/lang/Object", name := "getClass", desc := "()Ljava/lang/Class;" } : Jvm.MethodName) ({ cls := "java/lang/Object", name := "getClass", desc := "()Ljava/lang/Class;" } : Jvm.MethodName)) ∈ lw_all := lw_g (lw_at lw_m3 33 rfl) rfl
theorem q638 : (Jvm.Cond.selects "java/lang/Integer" ({ cls := "java/lang/Object", name := "equals", desc := "(Ljava/lang/Object;)Z" } : Jvm.MethodName) ({ cls := "java/lang/Integer", name := "equals", desc := "(Ljava/lang/Object;)Z" } : Jvm.MethodName)) ∈ lw_all := lw_g (lw_at lw_m3 111 rfl) rfl
theorem q639 : (Jvm.Cond.instanceMethod ({ cls := "java/lang/Integer", name := "equals", desc := "(Ljava/lang/Object;)Z" } : Jvm.MethodName)) ∈ lw_all := lw_g (lw_at lw_m3 112 rfl) rfl
theorem q640 : (Jvm.Cond.code ({ cls := "java/lang/Integer", name := "equals", desc := "(Ljava/lang/Object;)Z" } : Jvm.MethodName) prog_17_method_34_code (2 : Nat) (Option.some Jvm.ClassFile.FieldType.boolean)) ∈ lw_all := lw_g (lw_at lw_m3 113 rfl) rfl
theorem q641 : (Jvm.Cond.classLink "java/lang/Integer" (1 : Nat) "java/lang/Integer") ∈ lw_all := lw_g (lw_at lw_m3 114 rfl) rfl
theorem q642 : (Jvm.Cond.methodLink "java/lang/Integer" (211 : Nat) ({ cls := "java/lang/Integer", name := "intValue", desc := "()I" } : Jvm.MethodName)) ∈ lw_all := lw_g (lw_at lw_m3 115 rfl) rfl
theorem q643 : (Jvm.Cond.instanceMethod ({ cls := "java/lang/Integer", name := "intValue", desc := "()I" } : Jvm.MethodName)) ∈ lw_all := lw_g (lw_at lw_m3 116 rfl) rfl
theorem q644 : (Jvm.Cond.selects "java/lang/Integer" ({ cls := "java/lang/Integer", name := "intValue", desc := "()I" } : Jvm.MethodName) ({ cls := "java/lang/Integer", name := "intValue", desc := "()I" } : Jvm.MethodName)) ∈ lw_all := lw_g (lw_at lw_m3 117 rfl) rfl
theorem q645 : (Jvm.Cond.code ({ cls := "java/lang/Integer", name := "intValue", desc := "()I" } : Jvm.MethodName) prog_17_method_27_code (1 : Nat) (Option.some Jvm.ClassFile.FieldType.int)) ∈ lw_all := lw_g (lw_at lw_m3 118 rfl) rfl
theorem q662 : (Jvm.Cond.static ({ cls := "java/lang/Integer", name := "valueOf", desc := "(I)Ljava/lang/Integer;" } : Jvm.MethodName)) ∈ lw_all := lw_g (lw_at lw_m3 135 rfl) rfl
theorem q663 : (Jvm.Cond.code ({ cls := "java/lang/Integer", name := "valueOf", desc := "(I)Ljava/lang/Integer;" } : Jvm.MethodName) prog_17_method_22_code (1 : Nat) (Option.some (Jvm.ClassFile.FieldType.object "java/lang/Integer"))) ∈ lw_all := lw_g (lw_at lw_m3 136 rfl) rfl
theorem q664 : (Jvm.Cond.fieldLink "java/lang/Integer" (191 : Nat) "java/lang/Integer$IntegerCache" "high" "I") ∈ lw_all := lw_g (lw_at lw_m3 137 rfl) rfl
theorem q666 : (Jvm.Cond.fieldLink "java/lang/Integer" (195 : Nat) "java/lang/Integer$IntegerCache" "cache" "[Ljava/lang/Integer;") ∈ lw_all := lw_g (lw_at lw_m3 139 rfl) rfl
theorem q668 : (Jvm.Cond.instantiable "java/lang/Integer" (1 : Nat)) ∈ lw_all := lw_g (lw_at lw_m3 141 rfl) rfl
theorem q669 : (Jvm.Cond.methodLink "java/lang/Integer" (199 : Nat) ({ cls := "java/lang/Integer", name := "<init>", desc := "(I)V" } : Jvm.MethodName)) ∈ lw_all := lw_g (lw_at lw_m3 142 rfl) rfl
theorem q670 : (Jvm.Cond.instanceMethod ({ cls := "java/lang/Integer", name := "<init>", desc := "(I)V" } : Jvm.MethodName)) ∈ lw_all := lw_g (lw_at lw_m3 143 rfl) rfl
theorem q671 : (Jvm.Cond.code ({ cls := "java/lang/Integer", name := "<init>", desc := "(I)V" } : Jvm.MethodName) prog_17_method_23_code (2 : Nat) (Option.none : Option Jvm.ClassFile.FieldType)) ∈ lw_all := lw_g (lw_at lw_m3 144 rfl) rfl
theorem q672 : (Jvm.Cond.methodLink "java/lang/Integer" (202 : Nat) ({ cls := "java/lang/Number", name := "<init>", desc := "()V" } : Jvm.MethodName)) ∈ lw_all := lw_g (lw_at lw_m3 145 rfl) rfl
theorem q676 : (Jvm.Cond.fieldLink "java/lang/Integer" (205 : Nat) "java/lang/Integer" "value" "I") ∈ lw_all := lw_g (lw_at lw_m3 149 rfl) rfl
theorem q677 : (Jvm.Cond.laysFinal "java/lang/Integer" "java/lang/Integer" "value" "I") ∈ lw_all := lw_g (lw_at lw_m3 150 rfl) rfl
theorem q678 : (Jvm.Cond.soleField "java/lang/Integer" "value") ∈ lw_all := lw_g (lw_at lw_m3 151 rfl) rfl
theorem q679 : (Jvm.Cond.superclass "java/lang/Integer" "java/lang/Number") ∈ lw_all := lw_g (lw_at lw_m3 152 rfl) rfl
theorem q710 : (Jvm.Cond.selects "java/lang/Integer" ({ cls := "java/lang/Object", name := "hashCode", desc := "()I" } : Jvm.MethodName) ({ cls := "java/lang/Integer", name := "hashCode", desc := "()I" } : Jvm.MethodName)) ∈ lw_all := lw_g (lw_at lw_m3 183 rfl) rfl
theorem q711 : (Jvm.Cond.instanceMethod ({ cls := "java/lang/Integer", name := "hashCode", desc := "()I" } : Jvm.MethodName)) ∈ lw_all := lw_g (lw_at lw_m3 184 rfl) rfl
theorem q712 : (Jvm.Cond.code ({ cls := "java/lang/Integer", name := "hashCode", desc := "()I" } : Jvm.MethodName) prog_17_method_32_code (1 : Nat) (Option.some Jvm.ClassFile.FieldType.int)) ∈ lw_all := lw_g (lw_at lw_m3 185 rfl) rfl
theorem q713 : (Jvm.Cond.methodLink "java/lang/Integer" (208 : Nat) ({ cls := "java/lang/Integer", name := "hashCode", desc := "(I)I" } : Jvm.MethodName)) ∈ lw_all := lw_g (lw_at lw_m3 186 rfl) rfl
theorem q714 : (Jvm.Cond.static ({ cls := "java/lang/Integer", name := "hashCode", desc := "(I)I" } : Jvm.MethodName)) ∈ lw_all := lw_g (lw_at lw_m3 187 rfl) rfl
theorem q715 : (Jvm.Cond.code ({ cls := "java/lang/Integer", name := "hashCode", desc := "(I)I" } : Jvm.MethodName) prog_17_method_33_code (1 : Nat) (Option.some Jvm.ClassFile.FieldType.int)) ∈ lw_all := lw_g (lw_at lw_m3 188 rfl) rfl
theorem q762 : (Jvm.Cond.castable "java/lang/Integer" "java/lang/Comparable") ∈ lw_tbl := lw_at lw_m3 235 rfl
theorem q763 : (Jvm.Cond.selects "java/lang/Integer" ({ cls := "java/lang/Comparable", name := "compareTo", desc := "(Ljava/lang/Object;)I" } : Jvm.MethodName) ({ cls := "java/lang/Integer", name := "compareTo", desc := "(Ljava/lang/Object;)I" } : Jvm.MethodName)) ∈ lw_all := lw_g (lw_at lw_m3 236 rfl) rfl
theorem q764 : (Jvm.Cond.unhidden "java/lang/Integer" "compareTo" "(Ljava/lang/Object;)I") ∈ lw_tbl := lw_at lw_m3 237 rfl
theorem q765 : (Jvm.Cond.instanceMethod ({ cls := "java/lang/Integer", name := "compareTo", desc := "(Ljava/lang/Object;)I" } : Jvm.MethodName)) ∈ lw_all := lw_g (lw_at lw_m3 238 rfl) rfl
theorem q766 : (Jvm.Cond.publicMethod ({ cls := "java/lang/Integer", name := "compareTo", desc := "(Ljava/lang/Object;)I" } : Jvm.MethodName)) ∈ lw_tbl := lw_at lw_m3 239 rfl
theorem q767 : (Jvm.Cond.code ({ cls := "java/lang/Integer", name := "compareTo", desc := "(Ljava/lang/Object;)I" } : Jvm.MethodName) prog_17_method_63_code (2 : Nat) (Option.some Jvm.ClassFile.FieldType.int)) ∈ lw_all := lw_g (lw_at lw_m4 0 rfl) rfl
theorem q768 : (Jvm.Cond.methodLink "java/lang/Integer" (284 : Nat) ({ cls := "java/lang/Integer", name := "compareTo", desc := "(Ljava/lang/Integer;)I" } : Jvm.MethodName)) ∈ lw_all := lw_g (lw_at lw_m4 1 rfl) rfl
theorem q769 : (Jvm.Cond.instanceMethod ({ cls := "java/lang/Integer", name := "compareTo", desc := "(Ljava/lang/Integer;)I" } : Jvm.MethodName)) ∈ lw_all := lw_g (lw_at lw_m4 2 rfl) rfl
theorem q770 : (Jvm.Cond.selects "java/lang/Integer" ({ cls := "java/lang/Integer", name := "compareTo", desc := "(Ljava/lang/Integer;)I" } : Jvm.MethodName) ({ cls := "java/lang/Integer", name := "compareTo", desc := "(Ljava/lang/Integer;)I" } : Jvm.MethodName)) ∈ lw_all := lw_g (lw_at lw_m4 3 rfl) rfl
theorem q771 : (Jvm.Cond.code ({ cls := "java/lang/Integer", name := "compareTo", desc := "(Ljava/lang/Integer;)I" } : Jvm.MethodName) prog_17_method_39_code (2 : Nat) (Option.some Jvm.ClassFile.FieldType.int)) ∈ lw_all := lw_g (lw_at lw_m4 4 rfl) rfl
theorem q772 : (Jvm.Cond.methodLink "java/lang/Integer" (259 : Nat) ({ cls := "java/lang/Integer", name := "compare", desc := "(II)I" } : Jvm.MethodName)) ∈ lw_all := lw_g (lw_at lw_m4 5 rfl) rfl
theorem q773 : (Jvm.Cond.static ({ cls := "java/lang/Integer", name := "compare", desc := "(II)I" } : Jvm.MethodName)) ∈ lw_all := lw_g (lw_at lw_m4 6 rfl) rfl
theorem q774 : (Jvm.Cond.code ({ cls := "java/lang/Integer", name := "compare", desc := "(II)I" } : Jvm.MethodName) prog_17_method_40_code (2 : Nat) (Option.some Jvm.ClassFile.FieldType.int)) ∈ lw_all := lw_g (lw_at lw_m4 7 rfl) rfl
theorem q1846 : (Jvm.Cond.castable "java/lang/Integer" "java/lang/Object") ∈ lw_tbl := lw_at lw_m8 119 rfl
theorem in_J16 : ∀ w ∈ wsJ160, w ∈ lw_all := lw_in wsJ160 [677] (by decide +kernel) (by decide +kernel)
/-! java/util/HashMap$Node -/
set_option maxRecDepth 100000
def RJ17 : String := "java/util/HashMap$Node"
def TJ17 : u_T := fun k => match k with
  | 0 => ("java/util/HashMap$Node", "hash", "I", true)
  | 1 => ("java/util/HashMap$Node", "key", "Ljava/lang/Object;", true)
  | 2 => ("java/util/HashMap$Node", "value", "Ljava/lang/Object;", false)
  | _ => ("java/util/HashMap$Node", "next", "Ljava/util/HashMap$Node;", false)
def tyJ17 : Nat → FieldType := fun k => match k with
  | 0 => .int
  | 1 => .object "java/lang/Object"
  | 2 => .object "java/lang/Object"
  | _ => .object "java/util/HashMap$Node"
abbrev wsJ170 : List Cond := u_ws RJ17 TJ17 4
theorem nmJ17 : ∀ a, a < 4 → ∀ b, b < 4 → a ≠ b → (TJ17 a).2.1 ≠ (TJ17 b).2.1 := by decide +kernel
theorem tyJ17_ok : ∀ k, k < 4 → parseFieldDescriptor (TJ17 k).2.2.1 = some (tyJ17 k) := by decide +kernel
abbrev cJ17_init : ByteArray := prog_43_method_1_code
def yJ17_init : MethodName := ⟨RJ17, "<init>", "(ILjava/lang/Object;Ljava/lang/Object;Ljava/util/HashMap$Node;)V"⟩
def dkwJ17_init_1 : List UInt8 := [181, 0, 20, 177]
abbrev dktJ17_init_1 : List UInt8 := dkwJ17_init_1 ++ []
def dkwJ17_init_0 : List UInt8 := [42, 183, 0, 1, 42, 27, 181, 0, 7, 42, 44, 181, 0, 13, 42, 45, 181, 0, 17, 42, 25, 4]
abbrev dktJ17_init_0 : List UInt8 := dkwJ17_init_0 ++ dktJ17_init_1
theorem dksJ17_init_0 : cJ17_init.data.toList.drop 0 = dktJ17_init_0 := by decide +kernel
theorem dksJ17_init_1 : cJ17_init.data.toList.drop 22 = dktJ17_init_1 := dk_seg dksJ17_init_0 22 rfl rfl
theorem dJ17_init_0 : decode cJ17_init 0 = .ok (.aload_n 0, 1) := dk_42 (dk_at dksJ17_init_0 0 rfl rfl)
theorem dJ17_init_1 : decode cJ17_init 1 = .ok (.invokespecial 1, 3) := dk_183 0 1 (dk_at dksJ17_init_0 1 rfl rfl)
theorem dJ17_init_4 : decode cJ17_init 4 = .ok (.aload_n 0, 1) := dk_42 (dk_at dksJ17_init_0 4 rfl rfl)
theorem dJ17_init_5 : decode cJ17_init 5 = .ok (.iload_n 1, 1) := dk_27 (dk_at dksJ17_init_0 5 rfl rfl)
theorem dJ17_init_6 : decode cJ17_init 6 = .ok (.putfield 7, 3) := dk_181 0 7 (dk_at dksJ17_init_0 6 rfl rfl)
theorem dJ17_init_9 : decode cJ17_init 9 = .ok (.aload_n 0, 1) := dk_42 (dk_at dksJ17_init_0 9 rfl rfl)
theorem dJ17_init_10 : decode cJ17_init 10 = .ok (.aload_n 2, 1) := dk_44 (dk_at dksJ17_init_0 10 rfl rfl)
theorem dJ17_init_11 : decode cJ17_init 11 = .ok (.putfield 13, 3) := dk_181 0 13 (dk_at dksJ17_init_0 11 rfl rfl)
theorem dJ17_init_14 : decode cJ17_init 14 = .ok (.aload_n 0, 1) := dk_42 (dk_at dksJ17_init_0 14 rfl rfl)
theorem dJ17_init_15 : decode cJ17_init 15 = .ok (.aload_n 3, 1) := dk_45 (dk_at dksJ17_init_0 15 rfl rfl)
theorem dJ17_init_16 : decode cJ17_init 16 = .ok (.putfield 17, 3) := dk_181 0 17 (dk_at dksJ17_init_0 16 rfl rfl)
theorem dJ17_init_19 : decode cJ17_init 19 = .ok (.aload_n 0, 1) := dk_42 (dk_at dksJ17_init_0 19 rfl rfl)
theorem dJ17_init_20 : decode cJ17_init 20 = .ok (.aload 4, 2) := dk_25 4 (dk_at dksJ17_init_0 20 rfl rfl)
theorem dJ17_init_22 : decode cJ17_init 22 = .ok (.putfield 20, 3) := dk_181 0 20 (dk_at dksJ17_init_1 0 rfl rfl)
theorem dJ17_init_25 : decode cJ17_init 25 = .ok (.return_, 1) := dk_177 (dk_at dksJ17_init_1 3 rfl rfl)
abbrev cJ17_getKey : ByteArray := prog_43_method_2_code
def yJ17_getKey : MethodName := ⟨RJ17, "getKey", "()Ljava/lang/Object;"⟩
theorem dJ17_getKey_0 : decode cJ17_getKey 0 = .ok (.aload_n 0, 1) := by decide +kernel
theorem dJ17_getKey_1 : decode cJ17_getKey 1 = .ok (.getfield 13, 3) := by decide +kernel
theorem dJ17_getKey_4 : decode cJ17_getKey 4 = .ok (.areturn, 1) := by decide +kernel
abbrev cJ17_getValue : ByteArray := prog_43_method_3_code
def yJ17_getValue : MethodName := ⟨RJ17, "getValue", "()Ljava/lang/Object;"⟩
theorem dJ17_getValue_0 : decode cJ17_getValue 0 = .ok (.aload_n 0, 1) := by decide +kernel
theorem dJ17_getValue_1 : decode cJ17_getValue 1 = .ok (.getfield 17, 3) := by decide +kernel
theorem dJ17_getValue_4 : decode cJ17_getValue 4 = .ok (.areturn, 1) := by decide +kernel
abbrev cJ17_setValue : ByteArray := prog_43_method_6_code
def yJ17_setValue : MethodName := ⟨RJ17, "setValue", "(Ljava/lang/Object;)Ljava/lang/Object;"⟩
def dkwJ17_setValue_0 : List UInt8 := [42, 180, 0, 17, 77, 42, 43, 181, 0, 17, 44, 176]
abbrev dktJ17_setValue_0 : List UInt8 := dkwJ17_setValue_0 ++ []
theorem dksJ17_setValue_0 : cJ17_setValue.data.toList.drop 0 = dktJ17_setValue_0 := by decide +kernel
theorem dJ17_setValue_0 : decode cJ17_setValue 0 = .ok (.aload_n 0, 1) := dk_42 (dk_at dksJ17_setValue_0 0 rfl rfl)
theorem dJ17_setValue_1 : decode cJ17_setValue 1 = .ok (.getfield 17, 3) := dk_180 0 17 (dk_at dksJ17_setValue_0 1 rfl rfl)
theorem dJ17_setValue_4 : decode cJ17_setValue 4 = .ok (.astore_n 2, 1) := dk_77 (dk_at dksJ17_setValue_0 4 rfl rfl)
theorem dJ17_setValue_5 : decode cJ17_setValue 5 = .ok (.aload_n 0, 1) := dk_42 (dk_at dksJ17_setValue_0 5 rfl rfl)
theorem dJ17_setValue_6 : decode cJ17_setValue 6 = .ok (.aload_n 1, 1) := dk_43 (dk_at dksJ17_setValue_0 6 rfl rfl)
theorem dJ17_setValue_7 : decode cJ17_setValue 7 = .ok (.putfield 17, 3) := dk_181 0 17 (dk_at dksJ17_setValue_0 7 rfl rfl)
theorem dJ17_setValue_10 : decode cJ17_setValue 10 = .ok (.aload_n 2, 1) := dk_44 (dk_at dksJ17_setValue_0 10 rfl rfl)
theorem dJ17_setValue_11 : decode cJ17_setValue 11 = .ok (.areturn, 1) := dk_176 (dk_at dksJ17_setValue_0 11 rfl rfl)
theorem q76 : (Jvm.Cond.initialized "java/util/HashMap$Node") ∈ lw_all := lw_g (lw_at lw_m1 29 rfl) rfl
theorem q569 : (Jvm.Cond.selects "java/util/HashMap$Node" ({ cls := "java/lang/Object", name := "getClass", desc := "()Ljava/lang/Class;" } : Jvm.MethodName) ({ cls := "java/lang/Object", name := "getClass", desc := "()Ljava/lang/Class;" } : Jvm.MethodName)) ∈ lw_all := lw_g (lw_at lw_m3 42 rfl) rfl
theorem q811 : (Jvm.Cond.instantiable "java/util/HashMap$Node" (4 : Nat)) ∈ lw_all := lw_g (lw_at lw_m4 44 rfl) rfl
theorem q813 : (Jvm.Cond.instanceMethod ({ cls := "java/util/HashMap$Node", name := "<init>", desc := "(ILjava/lang/Object;Ljava/lang/Object;Ljava/util/HashMap$Node;)V" } : Jvm.MethodName)) ∈ lw_all := lw_g (lw_at lw_m4 46 rfl) rfl
theorem q814 : (Jvm.Cond.code ({ cls := "java/util/HashMap$Node", name := "<init>", desc := "(ILjava/lang/Object;Ljava/lang/Object;Ljava/util/HashMap$Node;)V" } : Jvm.MethodName) prog_43_method_1_code (5 : Nat) (Option.none : Option Jvm.ClassFile.FieldType)) ∈ lw_all := lw_g (lw_at lw_m4 47 rfl) rfl
theorem q815 : (Jvm.Cond.methodLink "java/util/HashMap$Node" (1 : Nat) ({ cls := "java/lang/Object", name := "<init>", desc := "()V" } : Jvm.MethodName)) ∈ lw_all := lw_g (lw_at lw_m4 48 rfl) rfl
theorem q816 : (Jvm.Cond.fieldLink "java/util/HashMap$Node" (7 : Nat) "java/util/HashMap$Node" "hash" "I") ∈ lw_all := lw_g (lw_at lw_m4 49 rfl) rfl
theorem q820 : (Jvm.Cond.fieldLink "java/util/HashMap$Node" (13 : Nat) "java/util/HashMap$Node" "key" "Ljava/lang/Object;") ∈ lw_all := lw_g (lw_at lw_m4 53 rfl) rfl
theorem q824 : (Jvm.Cond.fieldLink "java/util/HashMap$Node" (17 : Nat) "java/util/HashMap$Node" "value" "Ljava/lang/Object;") ∈ lw_all := lw_g (lw_at lw_m4 57 rfl) rfl
theorem q827 : (Jvm.Cond.fieldLink "java/util/HashMap$Node" (20 : Nat) "java/util/HashMap$Node" "next" "Ljava/util/HashMap$Node;") ∈ lw_all := lw_g (lw_at lw_m4 60 rfl) rfl
theorem q834 : (Jvm.Cond.laysFinal "java/util/HashMap$Node" "java/util/HashMap$Node" "hash" "I") ∈ lw_all := lw_g (lw_at lw_m4 67 rfl) rfl
theorem q835 : (Jvm.Cond.soleField "java/util/HashMap$Node" "hash") ∈ lw_all := lw_g (lw_at lw_m4 68 rfl) rfl
theorem q836 : (Jvm.Cond.laysFinal "java/util/HashMap$Node" "java/util/HashMap$Node" "key" "Ljava/lang/Object;") ∈ lw_all := lw_g (lw_at lw_m4 69 rfl) rfl
theorem q837 : (Jvm.Cond.soleField "java/util/HashMap$Node" "key") ∈ lw_all := lw_g (lw_at lw_m4 70 rfl) rfl
theorem q838 : (Jvm.Cond.lays "java/util/HashMap$Node" "java/util/HashMap$Node" "value" "Ljava/lang/Object;") ∈ lw_all := lw_g (lw_at lw_m4 71 rfl) rfl
theorem q839 : (Jvm.Cond.soleField "java/util/HashMap$Node" "value") ∈ lw_all := lw_g (lw_at lw_m4 72 rfl) rfl
theorem q840 : (Jvm.Cond.lays "java/util/HashMap$Node" "java/util/HashMap$Node" "next" "Ljava/util/HashMap$Node;") ∈ lw_all := lw_g (lw_at lw_m4 73 rfl) rfl
theorem q841 : (Jvm.Cond.soleField "java/util/HashMap$Node" "next") ∈ lw_all := lw_g (lw_at lw_m4 74 rfl) rfl
theorem q842 : (Jvm.Cond.superclass "java/util/HashMap$Node" "java/lang/Object") ∈ lw_all := lw_g (lw_at lw_m4 75 rfl) rfl
theorem q1236 : (Jvm.Cond.castable "java/util/HashMap$Node" "java/util/Map$Entry") ∈ lw_tbl := lw_at lw_m5 229 rfl
theorem q1237 : (Jvm.Cond.selects "java/util/HashMap$Node" ({ cls := "java/util/Map$Entry", name := "getKey", desc := "()Ljava/lang/Object;" } : Jvm.MethodName) ({ cls := "java/util/HashMap$Node", name := "getKey", desc := "()Ljava/lang/Object;" } : Jvm.MethodName)) ∈ lw_all := lw_g (lw_at lw_m5 230 rfl) rfl
theorem q1238 : (Jvm.Cond.unhidden "java/util/HashMap$Node" "getKey" "()Ljava/lang/Object;") ∈ lw_tbl := lw_at lw_m5 231 rfl
theorem q1239 : (Jvm.Cond.instanceMethod ({ cls := "java/util/HashMap$Node", name := "getKey", desc := "()Ljava/lang/Object;" } : Jvm.MethodName)) ∈ lw_all := lw_g (lw_at lw_m5 232 rfl) rfl
theorem q1240 : (Jvm.Cond.publicMethod ({ cls := "java/util/HashMap$Node", name := "getKey", desc := "()Ljava/lang/Object;" } : Jvm.MethodName)) ∈ lw_tbl := lw_at lw_m5 233 rfl
theorem q1241 : (Jvm.Cond.code ({ cls := "java/util/HashMap$Node", name := "getKey", desc := "()Ljava/lang/Object;" } : Jvm.MethodName) prog_43_method_2_code (1 : Nat) (Option.some (Jvm.ClassFile.FieldType.object "java/lang/Object"))) ∈ lw_all := lw_g (lw_at lw_m5 234 rfl) rfl
theorem q1251 : (Jvm.Cond.selects "java/util/HashMap$Node" ({ cls := "java/util/Map$Entry", name := "getValue", desc := "()Ljava/lang/Object;" } : Jvm.MethodName) ({ cls := "java/util/HashMap$Node", name := "getValue", desc := "()Ljava/lang/Object;" } : Jvm.MethodName)) ∈ lw_all := lw_g (lw_at lw_m6 4 rfl) rfl
theorem q1252 : (Jvm.Cond.unhidden "java/util/HashMap$Node" "getValue" "()Ljava/lang/Object;") ∈ lw_tbl := lw_at lw_m6 5 rfl
theorem q1253 : (Jvm.Cond.instanceMethod ({ cls := "java/util/HashMap$Node", name := "getValue", desc := "()Ljava/lang/Object;" } : Jvm.MethodName)) ∈ lw_all := lw_g (lw_at lw_m6 6 rfl) rfl
theorem q1254 : (Jvm.Cond.publicMethod ({ cls := "java/util/HashMap$Node", name := "getValue", desc := "()Ljava/lang/Object;" } : Jvm.MethodName)) ∈ lw_tbl := lw_at lw_m6 7 rfl
theorem q1255 : (Jvm.Cond.code ({ cls := "java/util/HashMap$Node", name := "getValue", desc := "()Ljava/lang/Object;" } : Jvm.MethodName) prog_43_method_3_code (1 : Nat) (Option.some (Jvm.ClassFile.FieldType.object "java/lang/Object"))) ∈ lw_all := lw_g (lw_at lw_m6 8 rfl) rfl
theorem q1400 : (Jvm.Cond.selects "java/util/HashMap$Node" ({ cls := "java/util/Map$Entry", name := "setValue", desc := "(Ljava/lang/Object;)Ljava/lang/Object;" } : Jvm.MethodName) ({ cls := "java/util/HashMap$Node", name := "setValue", desc := "(Ljava/lang/Object;)Ljava/lang/Object;" } : Jvm.MethodName)) ∈ lw_all := lw_g (lw_at lw_m6 153 rfl) rfl
theorem q1401 : (Jvm.Cond.unhidden "java/util/HashMap$Node" "setValue" "(Ljava/lang/Object;)Ljava/lang/Object;") ∈ lw_tbl := lw_at lw_m6 154 rfl
theorem q1402 : (Jvm.Cond.instanceMethod ({ cls := "java/util/HashMap$Node", name := "setValue", desc := "(Ljava/lang/Object;)Ljava/lang/Object;" } : Jvm.MethodName)) ∈ lw_all := lw_g (lw_at lw_m6 155 rfl) rfl
theorem q1403 : (Jvm.Cond.publicMethod ({ cls := "java/util/HashMap$Node", name := "setValue", desc := "(Ljava/lang/Object;)Ljava/lang/Object;" } : Jvm.MethodName)) ∈ lw_tbl := lw_at lw_m6 156 rfl
theorem q1404 : (Jvm.Cond.code ({ cls := "java/util/HashMap$Node", name := "setValue", desc := "(Ljava/lang/Object;)Ljava/lang/Object;" } : Jvm.MethodName) prog_43_method_6_code (3 : Nat) (Option.some (Jvm.ClassFile.FieldType.object "java/lang/Object"))) ∈ lw_all := lw_g (lw_at lw_m6 157 rfl) rfl
theorem q1836 : (Jvm.Cond.castable "java/util/HashMap$Node" "java/lang/Object") ∈ lw_tbl := lw_at lw_m8 109 rfl
theorem in_J17 : ∀ w ∈ wsJ170, w ∈ lw_all := lw_in wsJ170 [834, 836, 838, 840] (by decide +kernel) (by decide +kernel)
/-! java/util/AbstractList -/
set_option maxRecDepth 100000
def RJ2 : String := "java/util/AbstractList"
abbrev cJ2_init : ByteArray := prog_28_method_1_code
def yJ2_init : MethodName := ⟨RJ2, "<init>", "()V"⟩
def dkwJ2_init_0 : List UInt8 := [42, 183, 0, 1, 42, 3, 181, 0, 7, 177]
abbrev dktJ2_init_0 : List UInt8 := dkwJ2_init_0 ++ []
theorem dksJ2_init_0 : cJ2_init.data.toList.drop 0 = dktJ2_init_0 := by decide +kernel
theorem dJ2_init_0 : decode cJ2_init 0 = .ok (.aload_n 0, 1) := dk_42 (dk_at dksJ2_init_0 0 rfl rfl)
theorem dJ2_init_1 : decode cJ2_init 1 = .ok (.invokespecial 1, 3) := dk_183 0 1 (dk_at dksJ2_init_0 1 rfl rfl)
theorem dJ2_init_4 : decode cJ2_init 4 = .ok (.aload_n 0, 1) := dk_42 (dk_at dksJ2_init_0 4 rfl rfl)
theorem dJ2_init_5 : decode cJ2_init 5 = .ok (.iconst 0, 1) := dk_3 (dk_at dksJ2_init_0 5 rfl rfl)
theorem dJ2_init_6 : decode cJ2_init 6 = .ok (.putfield 7, 3) := dk_181 0 7 (dk_at dksJ2_init_0 6 rfl rfl)
theorem dJ2_init_9 : decode cJ2_init 9 = .ok (.return_, 1) := dk_177 (dk_at dksJ2_init_0 9 rfl rfl)
theorem q52 : (Jvm.Cond.initialized "java/util/AbstractList") ∈ lw_all := lw_g (lw_at lw_m1 5 rfl) rfl
theorem q116 : (Jvm.Cond.instanceMethod ({ cls := "java/util/AbstractList", name := "<init>", desc := "()V" } : Jvm.MethodName)) ∈ lw_all := lw_g (lw_at lw_m1 69 rfl) rfl
theorem q117 : (Jvm.Cond.code ({ cls := "java/util/AbstractList", name := "<init>", desc := "()V" } : Jvm.MethodName) prog_28_method_1_code (1 : Nat) (Option.none : Option Jvm.ClassFile.FieldType)) ∈ lw_all := lw_g (lw_at lw_m1 70 rfl) rfl
theorem q118 : (Jvm.Cond.methodLink "java/util/AbstractList" (1 : Nat) ({ cls := "java/util/AbstractCollection", name := "<init>", desc := "()V" } : Jvm.MethodName)) ∈ lw_all := lw_g (lw_at lw_m1 71 rfl) rfl
theorem q128 : (Jvm.Cond.fieldLink "java/util/AbstractList" (7 : Nat) "java/util/AbstractList" "modCount" "I") ∈ lw_all := lw_g (lw_at lw_m1 81 rfl) rfl
theorem q137 : (Jvm.Cond.soleField "java/util/AbstractList" "modCount") ∈ lw_all := lw_g (lw_at lw_m1 90 rfl) rfl
/-! java/util/ArrayDeque -/
set_option maxRecDepth 100000
def RJ20 : String := "java/util/ArrayDeque"
def TJ20 : u_T := fun k => match k with
  | 0 => ("java/util/ArrayDeque", "elements", "[Ljava/lang/Object;", false)
  | 1 => ("java/util/ArrayDeque", "head", "I", false)
  | _ => ("java/util/ArrayDeque", "tail", "I", false)
def tyJ20 : Nat → FieldType := fun k => match k with
  | 0 => .array (.object "java/lang/Object")
  | 1 => .int
  | _ => .int
abbrev wsJ200 : List Cond := u_ws RJ20 TJ20 3
theorem nmJ20 : ∀ a, a < 3 → ∀ b, b < 3 → a ≠ b → (TJ20 a).2.1 ≠ (TJ20 b).2.1 := by decide +kernel
theorem tyJ20_ok : ∀ k, k < 3 → parseFieldDescriptor (TJ20 k).2.2.1 = some (tyJ20 k) := by decide +kernel
abbrev cJ20_init : ByteArray := prog_31_method_3_code
def yJ20_init : MethodName := ⟨RJ20, "<init>", "()V"⟩
def dkwJ20_init_0 : List UInt8 := [42, 183, 0, 42, 42, 16, 17, 189, 0, 47, 181, 0, 3, 177]
abbrev dktJ20_init_0 : List UInt8 := dkwJ20_init_0 ++ []
theorem dksJ20_init_0 : cJ20_init.data.toList.drop 0 = dktJ20_init_0 := by decide +kernel
theorem dJ20_init_0 : decode cJ20_init 0 = .ok (.aload_n 0, 1) := dk_42 (dk_at dksJ20_init_0 0 rfl rfl)
theorem dJ20_init_1 : decode cJ20_init 1 = .ok (.invokespecial 42, 3) := dk_183 0 42 (dk_at dksJ20_init_0 1 rfl rfl)
theorem dJ20_init_4 : decode cJ20_init 4 = .ok (.aload_n 0, 1) := dk_42 (dk_at dksJ20_init_0 4 rfl rfl)
theorem dJ20_init_5 : decode cJ20_init 5 = .ok (.bipush 17, 2) := dk_16 17 (dk_at dksJ20_init_0 5 rfl rfl)
theorem dJ20_init_7 : decode cJ20_init 7 = .ok (.anewarray 47, 3) := dk_189 0 47 (dk_at dksJ20_init_0 7 rfl rfl)
theorem dJ20_init_10 : decode cJ20_init 10 = .ok (.putfield 3, 3) := dk_181 0 3 (dk_at dksJ20_init_0 10 rfl rfl)
theorem dJ20_init_13 : decode cJ20_init 13 = .ok (.return_, 1) := dk_177 (dk_at dksJ20_init_0 13 rfl rfl)
abbrev cJ20_add : ByteArray := prog_31_method_28_code
def yJ20_add : MethodName := ⟨RJ20, "add", "(Ljava/lang/Object;)Z"⟩
def dkwJ20_add_0 : List UInt8 := [42, 43, 182, 0, 90, 4, 172]
abbrev dktJ20_add_0 : List UInt8 := dkwJ20_add_0 ++ []
theorem dksJ20_add_0 : cJ20_add.data.toList.drop 0 = dktJ20_add_0 := by decide +kernel
theorem dJ20_add_0 : decode cJ20_add 0 = .ok (.aload_n 0, 1) := dk_42 (dk_at dksJ20_add_0 0 rfl rfl)
theorem dJ20_add_1 : decode cJ20_add 1 = .ok (.aload_n 1, 1) := dk_43 (dk_at dksJ20_add_0 1 rfl rfl)
theorem dJ20_add_2 : decode cJ20_add 2 = .ok (.invokevirtual 90, 3) := dk_182 0 90 (dk_at dksJ20_add_0 2 rfl rfl)
theorem dJ20_add_5 : decode cJ20_add 5 = .ok (.iconst 1, 1) := dk_4 (dk_at dksJ20_add_0 5 rfl rfl)
theorem dJ20_add_6 : decode cJ20_add 6 = .ok (.ireturn, 1) := dk_172 (dk_at dksJ20_add_0 6 rfl rfl)
abbrev cJ20_addLast : ByteArray := prog_31_method_13_code
def yJ20_addLast : MethodName := ⟨RJ20, "addLast", "(Ljava/lang/Object;)V"⟩
def dkwJ20_addLast_2 : List UInt8 := [182, 0, 71, 177]
abbrev dktJ20_addLast_2 : List UInt8 := dkwJ20_addLast_2 ++ []
def dkwJ20_addLast_1 : List UInt8 := [42, 180, 0, 24, 42, 42, 180, 0, 20, 44, 190, 184, 0, 74, 90, 181, 0, 20, 160, 0, 8, 42, 4]
abbrev dktJ20_addLast_1 : List UInt8 := dkwJ20_addLast_1 ++ dktJ20_addLast_2
def dkwJ20_addLast_0 : List UInt8 := [43, 199, 0, 11, 187, 0, 65, 89, 183, 0, 67, 191, 42, 180, 0, 3, 77, 44, 42, 180, 0, 20, 43, 83]
abbrev dktJ20_addLast_0 : List UInt8 := dkwJ20_addLast_0 ++ dktJ20_addLast_1
theorem dksJ20_addLast_0 : cJ20_addLast.data.toList.drop 0 = dktJ20_addLast_0 := by decide +kernel
theorem dksJ20_addLast_1 : cJ20_addLast.data.toList.drop 24 = dktJ20_addLast_1 := dk_seg dksJ20_addLast_0 24 rfl rfl
theorem dksJ20_addLast_2 : cJ20_addLast.data.toList.drop 47 = dktJ20_addLast_2 := dk_seg dksJ20_addLast_1 23 rfl rfl
theorem dJ20_addLast_0 : decode cJ20_addLast 0 = .ok (.aload_n 1, 1) := dk_43 (dk_at dksJ20_addLast_0 0 rfl rfl)
theorem dJ20_addLast_1 : decode cJ20_addLast 1 = .ok (.ifnonnull 11, 3) := dk_199 0 11 (dk_at dksJ20_addLast_0 1 rfl rfl)
theorem dJ20_addLast_4 : decode cJ20_addLast 4 = .ok (.new 65, 3) := dk_187 0 65 (dk_at dksJ20_addLast_0 4 rfl rfl)
theorem dJ20_addLast_7 : decode cJ20_addLast 7 = .ok (.dup, 1) := dk_89 (dk_at dksJ20_addLast_0 7 rfl rfl)
theorem dJ20_addLast_8 : decode cJ20_addLast 8 = .ok (.invokespecial 67, 3) := dk_183 0 67 (dk_at dksJ20_addLast_0 8 rfl rfl)
theorem dJ20_addLast_11 : decode cJ20_addLast 11 = .ok (.athrow, 1) := dk_191 (dk_at dksJ20_addLast_0 11 rfl rfl)
theorem dJ20_addLast_12 : decode cJ20_addLast 12 = .ok (.aload_n 0, 1) := dk_42 (dk_at dksJ20_addLast_0 12 rfl rfl)
theorem dJ20_addLast_13 : decode cJ20_addLast 13 = .ok (.getfield 3, 3) := dk_180 0 3 (dk_at dksJ20_addLast_0 13 rfl rfl)
theorem dJ20_addLast_16 : decode cJ20_addLast 16 = .ok (.astore_n 2, 1) := dk_77 (dk_at dksJ20_addLast_0 16 rfl rfl)
theorem dJ20_addLast_17 : decode cJ20_addLast 17 = .ok (.aload_n 2, 1) := dk_44 (dk_at dksJ20_addLast_0 17 rfl rfl)
theorem dJ20_addLast_18 : decode cJ20_addLast 18 = .ok (.aload_n 0, 1) := dk_42 (dk_at dksJ20_addLast_0 18 rfl rfl)
theorem dJ20_addLast_19 : decode cJ20_addLast 19 = .ok (.getfield 20, 3) := dk_180 0 20 (dk_at dksJ20_addLast_0 19 rfl rfl)
theorem dJ20_addLast_22 : decode cJ20_addLast 22 = .ok (.aload_n 1, 1) := dk_43 (dk_at dksJ20_addLast_0 22 rfl rfl)
theorem dJ20_addLast_23 : decode cJ20_addLast 23 = .ok (.aastore, 1) := dk_83 (dk_at dksJ20_addLast_0 23 rfl rfl)
theorem dJ20_addLast_24 : decode cJ20_addLast 24 = .ok (.aload_n 0, 1) := dk_42 (dk_at dksJ20_addLast_1 0 rfl rfl)
theorem dJ20_addLast_25 : decode cJ20_addLast 25 = .ok (.getfield 24, 3) := dk_180 0 24 (dk_at dksJ20_addLast_1 1 rfl rfl)
theorem dJ20_addLast_28 : decode cJ20_addLast 28 = .ok (.aload_n 0, 1) := dk_42 (dk_at dksJ20_addLast_1 4 rfl rfl)
theorem dJ20_addLast_29 : decode cJ20_addLast 29 = .ok (.aload_n 0, 1) := dk_42 (dk_at dksJ20_addLast_1 5 rfl rfl)
theorem dJ20_addLast_30 : decode cJ20_addLast 30 = .ok (.getfield 20, 3) := dk_180 0 20 (dk_at dksJ20_addLast_1 6 rfl rfl)
theorem dJ20_addLast_33 : decode cJ20_addLast 33 = .ok (.aload_n 2, 1) := dk_44 (dk_at dksJ20_addLast_1 9 rfl rfl)
theorem dJ20_addLast_34 : decode cJ20_addLast 34 = .ok (.arraylength, 1) := dk_190 (dk_at dksJ20_addLast_1 10 rfl rfl)
theorem dJ20_addLast_35 : decode cJ20_addLast 35 = .ok (.invokestatic 74, 3) := dk_184 0 74 (dk_at dksJ20_addLast_1 11 rfl rfl)
theorem dJ20_addLast_38 : decode cJ20_addLast 38 = .ok (.dup_x1, 1) := dk_90 (dk_at dksJ20_addLast_1 14 rfl rfl)
theorem dJ20_addLast_39 : decode cJ20_addLast 39 = .ok (.putfield 20, 3) := dk_181 0 20 (dk_at dksJ20_addLast_1 15 rfl rfl)
theorem dJ20_addLast_42 : decode cJ20_addLast 42 = .ok (.if_icmp .ne 8, 3) := dk_160 0 8 (dk_at dksJ20_addLast_1 18 rfl rfl)
theorem dJ20_addLast_45 : decode cJ20_addLast 45 = .ok (.aload_n 0, 1) := dk_42 (dk_at dksJ20_addLast_1 21 rfl rfl)
theorem dJ20_addLast_46 : decode cJ20_addLast 46 = .ok (.iconst 1, 1) := dk_4 (dk_at dksJ20_addLast_1 22 rfl rfl)
theorem dJ20_addLast_47 : decode cJ20_addLast 47 = .ok (.invokevirtual 71, 3) := dk_182 0 71 (dk_at dksJ20_addLast_2 0 rfl rfl)
theorem dJ20_addLast_50 : decode cJ20_addLast 50 = .ok (.return_, 1) := dk_177 (dk_at dksJ20_addLast_2 3 rfl rfl)
abbrev cJ20_inc : ByteArray := prog_31_method_6_code
def yJ20_inc : MethodName := ⟨RJ20, "inc", "(II)I"⟩
def dkwJ20_inc_0 : List UInt8 := [132, 0, 1, 26, 27, 161, 0, 5, 3, 59, 26, 172]
abbrev dktJ20_inc_0 : List UInt8 := dkwJ20_inc_0 ++ []
theorem dksJ20_inc_0 : cJ20_inc.data.toList.drop 0 = dktJ20_inc_0 := by decide +kernel
theorem dJ20_inc_0 : decode cJ20_inc 0 = .ok (.iinc 0 1, 3) := dk_132 0 1 (dk_at dksJ20_inc_0 0 rfl rfl)
theorem dJ20_inc_3 : decode cJ20_inc 3 = .ok (.iload_n 0, 1) := dk_26 (dk_at dksJ20_inc_0 3 rfl rfl)
theorem dJ20_inc_4 : decode cJ20_inc 4 = .ok (.iload_n 1, 1) := dk_27 (dk_at dksJ20_inc_0 4 rfl rfl)
theorem dJ20_inc_5 : decode cJ20_inc 5 = .ok (.if_icmp .lt 5, 3) := dk_161 0 5 (dk_at dksJ20_inc_0 5 rfl rfl)
theorem dJ20_inc_8 : decode cJ20_inc 8 = .ok (.iconst 0, 1) := dk_3 (dk_at dksJ20_inc_0 8 rfl rfl)
theorem dJ20_inc_9 : decode cJ20_inc 9 = .ok (.istore_n 0, 1) := dk_59 (dk_at dksJ20_inc_0 9 rfl rfl)
theorem dJ20_inc_10 : decode cJ20_inc 10 = .ok (.iload_n 0, 1) := dk_26 (dk_at dksJ20_inc_0 10 rfl rfl)
theorem dJ20_inc_11 : decode cJ20_inc 11 = .ok (.ireturn, 1) := dk_172 (dk_at dksJ20_inc_0 11 rfl rfl)
abbrev cJ20_grow : ByteArray := prog_31_method_1_code
def yJ20_grow : MethodName := ⟨RJ20, "grow", "(I)V"⟩
def dkwJ20_grow_7 : List UInt8 := [177]
abbrev dktJ20_grow_7 : List UInt8 := dkwJ20_grow_7 ++ []
def dkwJ20_grow_6 : List UInt8 := [181, 0, 24, 54, 8, 21, 7, 21, 8, 162, 0, 15, 25, 5, 21, 7, 1, 83, 132, 7, 1, 167, 255, 240]
abbrev dktJ20_grow_6 : List UInt8 := dkwJ20_grow_6 ++ dktJ20_grow_7
def dkwJ20_grow_5 : List UInt8 := [42, 180, 0, 24, 100, 184, 0, 27, 42, 180, 0, 24, 54, 7, 42, 89, 180, 0, 24, 21, 6, 96, 90]
abbrev dktJ20_grow_5 : List UInt8 := dkwJ20_grow_5 ++ dktJ20_grow_6
def dkwJ20_grow_4 : List UInt8 := [198, 0, 71, 29, 28, 100, 54, 6, 25, 5, 42, 180, 0, 24, 25, 5, 42, 180, 0, 24, 21, 6, 96, 28]
abbrev dktJ20_grow_4 : List UInt8 := dkwJ20_grow_4 ++ dktJ20_grow_5
def dkwJ20_grow_3 : List UInt8 := [180, 0, 24, 161, 0, 24, 42, 180, 0, 20, 42, 180, 0, 24, 160, 0, 81, 25, 5, 42, 180, 0, 24, 50]
abbrev dktJ20_grow_3 : List UInt8 := dkwJ20_grow_3 ++ dktJ20_grow_4
def dkwJ20_grow_2 : List UInt8 := [182, 0, 10, 62, 42, 42, 180, 0, 3, 29, 184, 0, 14, 90, 181, 0, 3, 58, 5, 42, 180, 0, 20, 42]
abbrev dktJ20_grow_2 : List UInt8 := dkwJ20_grow_2 ++ dktJ20_grow_3
def dkwJ20_grow_1 : List UInt8 := [21, 4, 27, 161, 0, 15, 28, 21, 4, 96, 89, 62, 18, 9, 100, 158, 0, 11, 42, 27, 21, 4]
abbrev dktJ20_grow_1 : List UInt8 := dkwJ20_grow_1 ++ dktJ20_grow_2
def dkwJ20_grow_0 : List UInt8 := [42, 180, 0, 3, 190, 61, 28, 16, 64, 162, 0, 9, 28, 5, 96, 167, 0, 6, 28, 4, 122, 54, 4]
abbrev dktJ20_grow_0 : List UInt8 := dkwJ20_grow_0 ++ dktJ20_grow_1
theorem dksJ20_grow_0 : cJ20_grow.data.toList.drop 0 = dktJ20_grow_0 := by decide +kernel
theorem dksJ20_grow_1 : cJ20_grow.data.toList.drop 23 = dktJ20_grow_1 := dk_seg dksJ20_grow_0 23 rfl rfl
theorem dksJ20_grow_2 : cJ20_grow.data.toList.drop 45 = dktJ20_grow_2 := dk_seg dksJ20_grow_1 22 rfl rfl
theorem dksJ20_grow_3 : cJ20_grow.data.toList.drop 69 = dktJ20_grow_3 := dk_seg dksJ20_grow_2 24 rfl rfl
theorem dksJ20_grow_4 : cJ20_grow.data.toList.drop 93 = dktJ20_grow_4 := dk_seg dksJ20_grow_3 24 rfl rfl
theorem dksJ20_grow_5 : cJ20_grow.data.toList.drop 117 = dktJ20_grow_5 := dk_seg dksJ20_grow_4 24 rfl rfl
theorem dksJ20_grow_6 : cJ20_grow.data.toList.drop 140 = dktJ20_grow_6 := dk_seg dksJ20_grow_5 23 rfl rfl
theorem dksJ20_grow_7 : cJ20_grow.data.toList.drop 164 = dktJ20_grow_7 := dk_seg dksJ20_grow_6 24 rfl rfl
theorem dJ20_grow_0 : decode cJ20_grow 0 = .ok (.aload_n 0, 1) := dk_42 (dk_at dksJ20_grow_0 0 rfl rfl)
theorem dJ20_grow_1 : decode cJ20_grow 1 = .ok (.getfield 3, 3) := dk_180 0 3 (dk_at dksJ20_grow_0 1 rfl rfl)
theorem dJ20_grow_4 : decode cJ20_grow 4 = .ok (.arraylength, 1) := dk_190 (dk_at dksJ20_grow_0 4 rfl rfl)
theorem dJ20_grow_5 : decode cJ20_grow 5 = .ok (.istore_n 2, 1) := dk_61 (dk_at dksJ20_grow_0 5 rfl rfl)
theorem dJ20_grow_6 : decode cJ20_grow 6 = .ok (.iload_n 2, 1) := dk_28 (dk_at dksJ20_grow_0 6 rfl rfl)
theorem dJ20_grow_7 : decode cJ20_grow 7 = .ok (.bipush 64, 2) := dk_16 64 (dk_at dksJ20_grow_0 7 rfl rfl)
theorem dJ20_grow_9 : decode cJ20_grow 9 = .ok (.if_icmp .ge 9, 3) := dk_162 0 9 (dk_at dksJ20_grow_0 9 rfl rfl)
theorem dJ20_grow_12 : decode cJ20_grow 12 = .ok (.iload_n 2, 1) := dk_28 (dk_at dksJ20_grow_0 12 rfl rfl)
theorem dJ20_grow_13 : decode cJ20_grow 13 = .ok (.iconst 2, 1) := dk_5 (dk_at dksJ20_grow_0 13 rfl rfl)
theorem dJ20_grow_14 : decode cJ20_grow 14 = .ok (.iadd, 1) := dk_96 (dk_at dksJ20_grow_0 14 rfl rfl)
theorem dJ20_grow_15 : decode cJ20_grow 15 = .ok (.goto 6, 3) := dk_167 0 6 (dk_at dksJ20_grow_0 15 rfl rfl)
theorem dJ20_grow_18 : decode cJ20_grow 18 = .ok (.iload_n 2, 1) := dk_28 (dk_at dksJ20_grow_0 18 rfl rfl)
theorem dJ20_grow_19 : decode cJ20_grow 19 = .ok (.iconst 1, 1) := dk_4 (dk_at dksJ20_grow_0 19 rfl rfl)
theorem dJ20_grow_20 : decode cJ20_grow 20 = .ok (.ishr, 1) := dk_122 (dk_at dksJ20_grow_0 20 rfl rfl)
theorem dJ20_grow_21 : decode cJ20_grow 21 = .ok (.istore 4, 2) := dk_54 4 (dk_at dksJ20_grow_0 21 rfl rfl)
theorem dJ20_grow_23 : decode cJ20_grow 23 = .ok (.iload 4, 2) := dk_21 4 (dk_at dksJ20_grow_1 0 rfl rfl)
theorem dJ20_grow_25 : decode cJ20_grow 25 = .ok (.iload_n 1, 1) := dk_27 (dk_at dksJ20_grow_1 2 rfl rfl)
theorem dJ20_grow_26 : decode cJ20_grow 26 = .ok (.if_icmp .lt 15, 3) := dk_161 0 15 (dk_at dksJ20_grow_1 3 rfl rfl)
theorem dJ20_grow_29 : decode cJ20_grow 29 = .ok (.iload_n 2, 1) := dk_28 (dk_at dksJ20_grow_1 6 rfl rfl)
theorem dJ20_grow_30 : decode cJ20_grow 30 = .ok (.iload 4, 2) := dk_21 4 (dk_at dksJ20_grow_1 7 rfl rfl)
theorem dJ20_grow_32 : decode cJ20_grow 32 = .ok (.iadd, 1) := dk_96 (dk_at dksJ20_grow_1 9 rfl rfl)
theorem dJ20_grow_33 : decode cJ20_grow 33 = .ok (.dup, 1) := dk_89 (dk_at dksJ20_grow_1 10 rfl rfl)
theorem dJ20_grow_34 : decode cJ20_grow 34 = .ok (.istore_n 3, 1) := dk_62 (dk_at dksJ20_grow_1 11 rfl rfl)
theorem dJ20_grow_35 : decode cJ20_grow 35 = .ok (.ldc 9, 2) := dk_18 9 (dk_at dksJ20_grow_1 12 rfl rfl)
theorem dJ20_grow_37 : decode cJ20_grow 37 = .ok (.isub, 1) := dk_100 (dk_at dksJ20_grow_1 14 rfl rfl)
theorem dJ20_grow_38 : decode cJ20_grow 38 = .ok (.ifCond .le 11, 3) := dk_158 0 11 (dk_at dksJ20_grow_1 15 rfl rfl)
theorem dJ20_grow_41 : decode cJ20_grow 41 = .ok (.aload_n 0, 1) := dk_42 (dk_at dksJ20_grow_1 18 rfl rfl)
theorem dJ20_grow_42 : decode cJ20_grow 42 = .ok (.iload_n 1, 1) := dk_27 (dk_at dksJ20_grow_1 19 rfl rfl)
theorem dJ20_grow_43 : decode cJ20_grow 43 = .ok (.iload 4, 2) := dk_21 4 (dk_at dksJ20_grow_1 20 rfl rfl)
theorem dJ20_grow_45 : decode cJ20_grow 45 = .ok (.invokevirtual 10, 3) := dk_182 0 10 (dk_at dksJ20_grow_2 0 rfl rfl)
theorem dJ20_grow_48 : decode cJ20_grow 48 = .ok (.istore_n 3, 1) := dk_62 (dk_at dksJ20_grow_2 3 rfl rfl)
theorem dJ20_grow_49 : decode cJ20_grow 49 = .ok (.aload_n 0, 1) := dk_42 (dk_at dksJ20_grow_2 4 rfl rfl)
theorem dJ20_grow_50 : decode cJ20_grow 50 = .ok (.aload_n 0, 1) := dk_42 (dk_at dksJ20_grow_2 5 rfl rfl)
theorem dJ20_grow_51 : decode cJ20_grow 51 = .ok (.getfield 3, 3) := dk_180 0 3 (dk_at dksJ20_grow_2 6 rfl rfl)
theorem dJ20_grow_54 : decode cJ20_grow 54 = .ok (.iload_n 3, 1) := dk_29 (dk_at dksJ20_grow_2 9 rfl rfl)
theorem dJ20_grow_55 : decode cJ20_grow 55 = .ok (.invokestatic 14, 3) := dk_184 0 14 (dk_at dksJ20_grow_2 10 rfl rfl)
theorem dJ20_grow_58 : decode cJ20_grow 58 = .ok (.dup_x1, 1) := dk_90 (dk_at dksJ20_grow_2 13 rfl rfl)
theorem dJ20_grow_59 : decode cJ20_grow 59 = .ok (.putfield 3, 3) := dk_181 0 3 (dk_at dksJ20_grow_2 14 rfl rfl)
theorem dJ20_grow_62 : decode cJ20_grow 62 = .ok (.astore 5, 2) := dk_58 5 (dk_at dksJ20_grow_2 17 rfl rfl)
theorem dJ20_grow_64 : decode cJ20_grow 64 = .ok (.aload_n 0, 1) := dk_42 (dk_at dksJ20_grow_2 19 rfl rfl)
theorem dJ20_grow_65 : decode cJ20_grow 65 = .ok (.getfield 20, 3) := dk_180 0 20 (dk_at dksJ20_grow_2 20 rfl rfl)
theorem dJ20_grow_68 : decode cJ20_grow 68 = .ok (.aload_n 0, 1) := dk_42 (dk_at dksJ20_grow_2 23 rfl rfl)
theorem dJ20_grow_69 : decode cJ20_grow 69 = .ok (.getfield 24, 3) := dk_180 0 24 (dk_at dksJ20_grow_3 0 rfl rfl)
theorem dJ20_grow_72 : decode cJ20_grow 72 = .ok (.if_icmp .lt 24, 3) := dk_161 0 24 (dk_at dksJ20_grow_3 3 rfl rfl)
theorem dJ20_grow_75 : decode cJ20_grow 75 = .ok (.aload_n 0, 1) := dk_42 (dk_at dksJ20_grow_3 6 rfl rfl)
theorem dJ20_grow_76 : decode cJ20_grow 76 = .ok (.getfield 20, 3) := dk_180 0 20 (dk_at dksJ20_grow_3 7 rfl rfl)
theorem dJ20_grow_79 : decode cJ20_grow 79 = .ok (.aload_n 0, 1) := dk_42 (dk_at dksJ20_grow_3 10 rfl rfl)
theorem dJ20_grow_80 : decode cJ20_grow 80 = .ok (.getfield 24, 3) := dk_180 0 24 (dk_at dksJ20_grow_3 11 rfl rfl)
theorem dJ20_grow_83 : decode cJ20_grow 83 = .ok (.if_icmp .ne 81, 3) := dk_160 0 81 (dk_at dksJ20_grow_3 14 rfl rfl)
theorem dJ20_grow_86 : decode cJ20_grow 86 = .ok (.aload 5, 2) := dk_25 5 (dk_at dksJ20_grow_3 17 rfl rfl)
theorem dJ20_grow_88 : decode cJ20_grow 88 = .ok (.aload_n 0, 1) := dk_42 (dk_at dksJ20_grow_3 19 rfl rfl)
theorem dJ20_grow_89 : decode cJ20_grow 89 = .ok (.getfield 24, 3) := dk_180 0 24 (dk_at dksJ20_grow_3 20 rfl rfl)
theorem dJ20_grow_92 : decode cJ20_grow 92 = .ok (.aaload, 1) := dk_50 (dk_at dksJ20_grow_3 23 rfl rfl)
theorem dJ20_grow_93 : decode cJ20_grow 93 = .ok (.ifnull 71, 3) := dk_198 0 71 (dk_at dksJ20_grow_4 0 rfl rfl)
theorem dJ20_grow_96 : decode cJ20_grow 96 = .ok (.iload_n 3, 1) := dk_29 (dk_at dksJ20_grow_4 3 rfl rfl)
theorem dJ20_grow_97 : decode cJ20_grow 97 = .ok (.iload_n 2, 1) := dk_28 (dk_at dksJ20_grow_4 4 rfl rfl)
theorem dJ20_grow_98 : decode cJ20_grow 98 = .ok (.isub, 1) := dk_100 (dk_at dksJ20_grow_4 5 rfl rfl)
theorem dJ20_grow_99 : decode cJ20_grow 99 = .ok (.istore 6, 2) := dk_54 6 (dk_at dksJ20_grow_4 6 rfl rfl)
theorem dJ20_grow_101 : decode cJ20_grow 101 = .ok (.aload 5, 2) := dk_25 5 (dk_at dksJ20_grow_4 8 rfl rfl)
theorem dJ20_grow_103 : decode cJ20_grow 103 = .ok (.aload_n 0, 1) := dk_42 (dk_at dksJ20_grow_4 10 rfl rfl)
theorem dJ20_grow_104 : decode cJ20_grow 104 = .ok (.getfield 24, 3) := dk_180 0 24 (dk_at dksJ20_grow_4 11 rfl rfl)
theorem dJ20_grow_107 : decode cJ20_grow 107 = .ok (.aload 5, 2) := dk_25 5 (dk_at dksJ20_grow_4 14 rfl rfl)
theorem dJ20_grow_109 : decode cJ20_grow 109 = .ok (.aload_n 0, 1) := dk_42 (dk_at dksJ20_grow_4 16 rfl rfl)
theorem dJ20_grow_110 : decode cJ20_grow 110 = .ok (.getfield 24, 3) := dk_180 0 24 (dk_at dksJ20_grow_4 17 rfl rfl)
theorem dJ20_grow_113 : decode cJ20_grow 113 = .ok (.iload 6, 2) := dk_21 6 (dk_at dksJ20_grow_4 20 rfl rfl)
theorem dJ20_grow_115 : decode cJ20_grow 115 = .ok (.iadd, 1) := dk_96 (dk_at dksJ20_grow_4 22 rfl rfl)
theorem dJ20_grow_116 : decode cJ20_grow 116 = .ok (.iload_n 2, 1) := dk_28 (dk_at dksJ20_grow_4 23 rfl rfl)
theorem dJ20_grow_117 : decode cJ20_grow 117 = .ok (.aload_n 0, 1) := dk_42 (dk_at dksJ20_grow_5 0 rfl rfl)
theorem dJ20_grow_118 : decode cJ20_grow 118 = .ok (.getfield 24, 3) := dk_180 0 24 (dk_at dksJ20_grow_5 1 rfl rfl)
theorem dJ20_grow_121 : decode cJ20_grow 121 = .ok (.isub, 1) := dk_100 (dk_at dksJ20_grow_5 4 rfl rfl)
theorem dJ20_grow_122 : decode cJ20_grow 122 = .ok (.invokestatic 27, 3) := dk_184 0 27 (dk_at dksJ20_grow_5 5 rfl rfl)
theorem dJ20_grow_125 : decode cJ20_grow 125 = .ok (.aload_n 0, 1) := dk_42 (dk_at dksJ20_grow_5 8 rfl rfl)
theorem dJ20_grow_126 : decode cJ20_grow 126 = .ok (.getfield 24, 3) := dk_180 0 24 (dk_at dksJ20_grow_5 9 rfl rfl)
theorem dJ20_grow_129 : decode cJ20_grow 129 = .ok (.istore 7, 2) := dk_54 7 (dk_at dksJ20_grow_5 12 rfl rfl)
theorem dJ20_grow_131 : decode cJ20_grow 131 = .ok (.aload_n 0, 1) := dk_42 (dk_at dksJ20_grow_5 14 rfl rfl)
theorem dJ20_grow_132 : decode cJ20_grow 132 = .ok (.dup, 1) := dk_89 (dk_at dksJ20_grow_5 15 rfl rfl)
theorem dJ20_grow_133 : decode cJ20_grow 133 = .ok (.getfield 24, 3) := dk_180 0 24 (dk_at dksJ20_grow_5 16 rfl rfl)
theorem dJ20_grow_136 : decode cJ20_grow 136 = .ok (.iload 6, 2) := dk_21 6 (dk_at dksJ20_grow_5 19 rfl rfl)
theorem dJ20_grow_138 : decode cJ20_grow 138 = .ok (.iadd, 1) := dk_96 (dk_at dksJ20_grow_5 21 rfl rfl)
theorem dJ20_grow_139 : decode cJ20_grow 139 = .ok (.dup_x1, 1) := dk_90 (dk_at dksJ20_grow_5 22 rfl rfl)
theorem dJ20_grow_140 : decode cJ20_grow 140 = .ok (.putfield 24, 3) := dk_181 0 24 (dk_at dksJ20_grow_6 0 rfl rfl)
theorem dJ20_grow_143 : decode cJ20_grow 143 = .ok (.istore 8, 2) := dk_54 8 (dk_at dksJ20_grow_6 3 rfl rfl)
theorem dJ20_grow_145 : decode cJ20_grow 145 = .ok (.iload 7, 2) := dk_21 7 (dk_at dksJ20_grow_6 5 rfl rfl)
theorem dJ20_grow_147 : decode cJ20_grow 147 = .ok (.iload 8, 2) := dk_21 8 (dk_at dksJ20_grow_6 7 rfl rfl)
theorem dJ20_grow_149 : decode cJ20_grow 149 = .ok (.if_icmp .ge 15, 3) := dk_162 0 15 (dk_at dksJ20_grow_6 9 rfl rfl)
theorem dJ20_grow_152 : decode cJ20_grow 152 = .ok (.aload 5, 2) := dk_25 5 (dk_at dksJ20_grow_6 12 rfl rfl)
theorem dJ20_grow_154 : decode cJ20_grow 154 = .ok (.iload 7, 2) := dk_21 7 (dk_at dksJ20_grow_6 14 rfl rfl)
theorem dJ20_grow_156 : decode cJ20_grow 156 = .ok (.aconst_null, 1) := dk_1 (dk_at dksJ20_grow_6 16 rfl rfl)
theorem dJ20_grow_157 : decode cJ20_grow 157 = .ok (.aastore, 1) := dk_83 (dk_at dksJ20_grow_6 17 rfl rfl)
theorem dJ20_grow_158 : decode cJ20_grow 158 = .ok (.iinc 7 1, 3) := dk_132 7 1 (dk_at dksJ20_grow_6 18 rfl rfl)
theorem dJ20_grow_161 : decode cJ20_grow 161 = .ok (.goto (-16), 3) := dk_167 255 240 (dk_at dksJ20_grow_6 21 rfl rfl)
theorem dJ20_grow_164 : decode cJ20_grow 164 = .ok (.return_, 1) := dk_177 (dk_at dksJ20_grow_7 0 rfl rfl)
abbrev cJ20_newCapacity : ByteArray := prog_31_method_2_code
def yJ20_newCapacity : MethodName := ⟨RJ20, "newCapacity", "(II)I"⟩
def dkwJ20_newCapacity_2 : List UInt8 := [18, 9, 100, 156, 0, 9, 29, 28, 96, 167, 0, 5, 18, 9, 172]
abbrev dktJ20_newCapacity_2 : List UInt8 := dkwJ20_newCapacity_2 ++ []
def dkwJ20_newCapacity_1 : List UInt8 := [187, 0, 33, 89, 18, 35, 183, 0, 37, 191, 18, 41, 172, 27, 28, 164, 0, 6, 21, 4, 172, 29, 28, 96]
abbrev dktJ20_newCapacity_1 : List UInt8 := dkwJ20_newCapacity_1 ++ dktJ20_newCapacity_2
def dkwJ20_newCapacity_0 : List UInt8 := [42, 180, 0, 3, 190, 62, 29, 27, 96, 89, 54, 4, 18, 9, 100, 158, 0, 21, 21, 4, 156, 0, 13]
abbrev dktJ20_newCapacity_0 : List UInt8 := dkwJ20_newCapacity_0 ++ dktJ20_newCapacity_1
theorem dksJ20_newCapacity_0 : cJ20_newCapacity.data.toList.drop 0 = dktJ20_newCapacity_0 := by decide +kernel
theorem dksJ20_newCapacity_1 : cJ20_newCapacity.data.toList.drop 23 = dktJ20_newCapacity_1 := dk_seg dksJ20_newCapacity_0 23 rfl rfl
theorem dksJ20_newCapacity_2 : cJ20_newCapacity.data.toList.drop 47 = dktJ20_newCapacity_2 := dk_seg dksJ20_newCapacity_1 24 rfl rfl
theorem dJ20_newCapacity_0 : decode cJ20_newCapacity 0 = .ok (.aload_n 0, 1) := dk_42 (dk_at dksJ20_newCapacity_0 0 rfl rfl)
theorem dJ20_newCapacity_1 : decode cJ20_newCapacity 1 = .ok (.getfield 3, 3) := dk_180 0 3 (dk_at dksJ20_newCapacity_0 1 rfl rfl)
theorem dJ20_newCapacity_4 : decode cJ20_newCapacity 4 = .ok (.arraylength, 1) := dk_190 (dk_at dksJ20_newCapacity_0 4 rfl rfl)
theorem dJ20_newCapacity_5 : decode cJ20_newCapacity 5 = .ok (.istore_n 3, 1) := dk_62 (dk_at dksJ20_newCapacity_0 5 rfl rfl)
theorem dJ20_newCapacity_6 : decode cJ20_newCapacity 6 = .ok (.iload_n 3, 1) := dk_29 (dk_at dksJ20_newCapacity_0 6 rfl rfl)
theorem dJ20_newCapacity_7 : decode cJ20_newCapacity 7 = .ok (.iload_n 1, 1) := dk_27 (dk_at dksJ20_newCapacity_0 7 rfl rfl)
theorem dJ20_newCapacity_8 : decode cJ20_newCapacity 8 = .ok (.iadd, 1) := dk_96 (dk_at dksJ20_newCapacity_0 8 rfl rfl)
theorem dJ20_newCapacity_9 : decode cJ20_newCapacity 9 = .ok (.dup, 1) := dk_89 (dk_at dksJ20_newCapacity_0 9 rfl rfl)
theorem dJ20_newCapacity_10 : decode cJ20_newCapacity 10 = .ok (.istore 4, 2) := dk_54 4 (dk_at dksJ20_newCapacity_0 10 rfl rfl)
theorem dJ20_newCapacity_12 : decode cJ20_newCapacity 12 = .ok (.ldc 9, 2) := dk_18 9 (dk_at dksJ20_newCapacity_0 12 rfl rfl)
theorem dJ20_newCapacity_14 : decode cJ20_newCapacity 14 = .ok (.isub, 1) := dk_100 (dk_at dksJ20_newCapacity_0 14 rfl rfl)
theorem dJ20_newCapacity_15 : decode cJ20_newCapacity 15 = .ok (.ifCond .le 21, 3) := dk_158 0 21 (dk_at dksJ20_newCapacity_0 15 rfl rfl)
theorem dJ20_newCapacity_18 : decode cJ20_newCapacity 18 = .ok (.iload 4, 2) := dk_21 4 (dk_at dksJ20_newCapacity_0 18 rfl rfl)
theorem dJ20_newCapacity_20 : decode cJ20_newCapacity 20 = .ok (.ifCond .ge 13, 3) := dk_156 0 13 (dk_at dksJ20_newCapacity_0 20 rfl rfl)
theorem dJ20_newCapacity_23 : decode cJ20_newCapacity 23 = .ok (.new 33, 3) := dk_187 0 33 (dk_at dksJ20_newCapacity_1 0 rfl rfl)
theorem dJ20_newCapacity_26 : decode cJ20_newCapacity 26 = .ok (.dup, 1) := dk_89 (dk_at dksJ20_newCapacity_1 3 rfl rfl)
theorem dJ20_newCapacity_27 : decode cJ20_newCapacity 27 = .ok (.ldc 35, 2) := dk_18 35 (dk_at dksJ20_newCapacity_1 4 rfl rfl)
theorem dJ20_newCapacity_29 : decode cJ20_newCapacity 29 = .ok (.invokespecial 37, 3) := dk_183 0 37 (dk_at dksJ20_newCapacity_1 6 rfl rfl)
theorem dJ20_newCapacity_32 : decode cJ20_newCapacity 32 = .ok (.athrow, 1) := dk_191 (dk_at dksJ20_newCapacity_1 9 rfl rfl)
theorem dJ20_newCapacity_33 : decode cJ20_newCapacity 33 = .ok (.ldc 41, 2) := dk_18 41 (dk_at dksJ20_newCapacity_1 10 rfl rfl)
theorem dJ20_newCapacity_35 : decode cJ20_newCapacity 35 = .ok (.ireturn, 1) := dk_172 (dk_at dksJ20_newCapacity_1 12 rfl rfl)
theorem dJ20_newCapacity_36 : decode cJ20_newCapacity 36 = .ok (.iload_n 1, 1) := dk_27 (dk_at dksJ20_newCapacity_1 13 rfl rfl)
theorem dJ20_newCapacity_37 : decode cJ20_newCapacity 37 = .ok (.iload_n 2, 1) := dk_28 (dk_at dksJ20_newCapacity_1 14 rfl rfl)
theorem dJ20_newCapacity_38 : decode cJ20_newCapacity 38 = .ok (.if_icmp .le 6, 3) := dk_164 0 6 (dk_at dksJ20_newCapacity_1 15 rfl rfl)
theorem dJ20_newCapacity_41 : decode cJ20_newCapacity 41 = .ok (.iload 4, 2) := dk_21 4 (dk_at dksJ20_newCapacity_1 18 rfl rfl)
theorem dJ20_newCapacity_43 : decode cJ20_newCapacity 43 = .ok (.ireturn, 1) := dk_172 (dk_at dksJ20_newCapacity_1 20 rfl rfl)
theorem dJ20_newCapacity_44 : decode cJ20_newCapacity 44 = .ok (.iload_n 3, 1) := dk_29 (dk_at dksJ20_newCapacity_1 21 rfl rfl)
theorem dJ20_newCapacity_45 : decode cJ20_newCapacity 45 = .ok (.iload_n 2, 1) := dk_28 (dk_at dksJ20_newCapacity_1 22 rfl rfl)
theorem dJ20_newCapacity_46 : decode cJ20_newCapacity 46 = .ok (.iadd, 1) := dk_96 (dk_at dksJ20_newCapacity_1 23 rfl rfl)
theorem dJ20_newCapacity_47 : decode cJ20_newCapacity 47 = .ok (.ldc 9, 2) := dk_18 9 (dk_at dksJ20_newCapacity_2 0 rfl rfl)
theorem dJ20_newCapacity_49 : decode cJ20_newCapacity 49 = .ok (.isub, 1) := dk_100 (dk_at dksJ20_newCapacity_2 2 rfl rfl)
theorem dJ20_newCapacity_50 : decode cJ20_newCapacity 50 = .ok (.ifCond .ge 9, 3) := dk_156 0 9 (dk_at dksJ20_newCapacity_2 3 rfl rfl)
theorem dJ20_newCapacity_53 : decode cJ20_newCapacity 53 = .ok (.iload_n 3, 1) := dk_29 (dk_at dksJ20_newCapacity_2 6 rfl rfl)
theorem dJ20_newCapacity_54 : decode cJ20_newCapacity 54 = .ok (.iload_n 2, 1) := dk_28 (dk_at dksJ20_newCapacity_2 7 rfl rfl)
theorem dJ20_newCapacity_55 : decode cJ20_newCapacity 55 = .ok (.iadd, 1) := dk_96 (dk_at dksJ20_newCapacity_2 8 rfl rfl)
theorem dJ20_newCapacity_56 : decode cJ20_newCapacity 56 = .ok (.goto 5, 3) := dk_167 0 5 (dk_at dksJ20_newCapacity_2 9 rfl rfl)
theorem dJ20_newCapacity_59 : decode cJ20_newCapacity 59 = .ok (.ldc 9, 2) := dk_18 9 (dk_at dksJ20_newCapacity_2 12 rfl rfl)
theorem dJ20_newCapacity_61 : decode cJ20_newCapacity 61 = .ok (.ireturn, 1) := dk_172 (dk_at dksJ20_newCapacity_2 14 rfl rfl)
abbrev cJ20_isEmpty : ByteArray := prog_31_method_38_code
def yJ20_isEmpty : MethodName := ⟨RJ20, "isEmpty", "()Z"⟩
def dkwJ20_isEmpty_0 : List UInt8 := [42, 180, 0, 24, 42, 180, 0, 20, 160, 0, 7, 4, 167, 0, 4, 3, 172]
abbrev dktJ20_isEmpty_0 : List UInt8 := dkwJ20_isEmpty_0 ++ []
theorem dksJ20_isEmpty_0 : cJ20_isEmpty.data.toList.drop 0 = dktJ20_isEmpty_0 := by decide +kernel
theorem dJ20_isEmpty_0 : decode cJ20_isEmpty 0 = .ok (.aload_n 0, 1) := dk_42 (dk_at dksJ20_isEmpty_0 0 rfl rfl)
theorem dJ20_isEmpty_1 : decode cJ20_isEmpty 1 = .ok (.getfield 24, 3) := dk_180 0 24 (dk_at dksJ20_isEmpty_0 1 rfl rfl)
theorem dJ20_isEmpty_4 : decode cJ20_isEmpty 4 = .ok (.aload_n 0, 1) := dk_42 (dk_at dksJ20_isEmpty_0 4 rfl rfl)
theorem dJ20_isEmpty_5 : decode cJ20_isEmpty 5 = .ok (.getfield 20, 3) := dk_180 0 20 (dk_at dksJ20_isEmpty_0 5 rfl rfl)
theorem dJ20_isEmpty_8 : decode cJ20_isEmpty 8 = .ok (.if_icmp .ne 7, 3) := dk_160 0 7 (dk_at dksJ20_isEmpty_0 8 rfl rfl)
theorem dJ20_isEmpty_11 : decode cJ20_isEmpty 11 = .ok (.iconst 1, 1) := dk_4 (dk_at dksJ20_isEmpty_0 11 rfl rfl)
theorem dJ20_isEmpty_12 : decode cJ20_isEmpty 12 = .ok (.goto 4, 3) := dk_167 0 4 (dk_at dksJ20_isEmpty_0 12 rfl rfl)
theorem dJ20_isEmpty_15 : decode cJ20_isEmpty 15 = .ok (.iconst 0, 1) := dk_3 (dk_at dksJ20_isEmpty_0 15 rfl rfl)
theorem dJ20_isEmpty_16 : decode cJ20_isEmpty 16 = .ok (.ireturn, 1) := dk_172 (dk_at dksJ20_isEmpty_0 16 rfl rfl)
abbrev cJ20_poll : ByteArray := prog_31_method_31_code
def yJ20_poll : MethodName := ⟨RJ20, "poll", "()Ljava/lang/Object;"⟩
theorem dJ20_poll_0 : decode cJ20_poll 0 = .ok (.aload_n 0, 1) := by decide +kernel
theorem dJ20_poll_1 : decode cJ20_poll 1 = .ok (.invokevirtual 93, 3) := by decide +kernel
theorem dJ20_poll_4 : decode cJ20_poll 4 = .ok (.areturn, 1) := by decide +kernel
abbrev cJ20_pollFirst : ByteArray := prog_31_method_20_code
def yJ20_pollFirst : MethodName := ⟨RJ20, "pollFirst", "()Ljava/lang/Object;"⟩
def dkwJ20_pollFirst_1 : List UInt8 := [42, 28, 43, 190, 184, 0, 74, 181, 0, 24, 45, 176]
abbrev dktJ20_pollFirst_1 : List UInt8 := dkwJ20_pollFirst_1 ++ []
def dkwJ20_pollFirst_0 : List UInt8 := [42, 180, 0, 3, 89, 76, 42, 180, 0, 24, 89, 61, 184, 0, 103, 78, 45, 198, 0, 17, 43, 28, 1, 83]
abbrev dktJ20_pollFirst_0 : List UInt8 := dkwJ20_pollFirst_0 ++ dktJ20_pollFirst_1
theorem dksJ20_pollFirst_0 : cJ20_pollFirst.data.toList.drop 0 = dktJ20_pollFirst_0 := by decide +kernel
theorem dksJ20_pollFirst_1 : cJ20_pollFirst.data.toList.drop 24 = dktJ20_pollFirst_1 := dk_seg dksJ20_pollFirst_0 24 rfl rfl
theorem dJ20_pollFirst_0 : decode cJ20_pollFirst 0 = .ok (.aload_n 0, 1) := dk_42 (dk_at dksJ20_pollFirst_0 0 rfl rfl)
theorem dJ20_pollFirst_1 : decode cJ20_pollFirst 1 = .ok (.getfield 3, 3) := dk_180 0 3 (dk_at dksJ20_pollFirst_0 1 rfl rfl)
theorem dJ20_pollFirst_4 : decode cJ20_pollFirst 4 = .ok (.dup, 1) := dk_89 (dk_at dksJ20_pollFirst_0 4 rfl rfl)
theorem dJ20_pollFirst_5 : decode cJ20_pollFirst 5 = .ok (.astore_n 1, 1) := dk_76 (dk_at dksJ20_pollFirst_0 5 rfl rfl)
theorem dJ20_pollFirst_6 : decode cJ20_pollFirst 6 = .ok (.aload_n 0, 1) := dk_42 (dk_at dksJ20_pollFirst_0 6 rfl rfl)
theorem dJ20_pollFirst_7 : decode cJ20_pollFirst 7 = .ok (.getfield 24, 3) := dk_180 0 24 (dk_at dksJ20_pollFirst_0 7 rfl rfl)
theorem dJ20_pollFirst_10 : decode cJ20_pollFirst 10 = .ok (.dup, 1) := dk_89 (dk_at dksJ20_pollFirst_0 10 rfl rfl)
theorem dJ20_pollFirst_11 : decode cJ20_pollFirst 11 = .ok (.istore_n 2, 1) := dk_61 (dk_at dksJ20_pollFirst_0 11 rfl rfl)
theorem dJ20_pollFirst_12 : decode cJ20_pollFirst 12 = .ok (.invokestatic 103, 3) := dk_184 0 103 (dk_at dksJ20_pollFirst_0 12 rfl rfl)
theorem dJ20_pollFirst_15 : decode cJ20_pollFirst 15 = .ok (.astore_n 3, 1) := dk_78 (dk_at dksJ20_pollFirst_0 15 rfl rfl)
theorem dJ20_pollFirst_16 : decode cJ20_pollFirst 16 = .ok (.aload_n 3, 1) := dk_45 (dk_at dksJ20_pollFirst_0 16 rfl rfl)
theorem dJ20_pollFirst_17 : decode cJ20_pollFirst 17 = .ok (.ifnull 17, 3) := dk_198 0 17 (dk_at dksJ20_pollFirst_0 17 rfl rfl)
theorem dJ20_pollFirst_20 : decode cJ20_pollFirst 20 = .ok (.aload_n 1, 1) := dk_43 (dk_at dksJ20_pollFirst_0 20 rfl rfl)
theorem dJ20_pollFirst_21 : decode cJ20_pollFirst 21 = .ok (.iload_n 2, 1) := dk_28 (dk_at dksJ20_pollFirst_0 21 rfl rfl)
theorem dJ20_pollFirst_22 : decode cJ20_pollFirst 22 = .ok (.aconst_null, 1) := dk_1 (dk_at dksJ20_pollFirst_0 22 rfl rfl)
theorem dJ20_pollFirst_23 : decode cJ20_pollFirst 23 = .ok (.aastore, 1) := dk_83 (dk_at dksJ20_pollFirst_0 23 rfl rfl)
theorem dJ20_pollFirst_24 : decode cJ20_pollFirst 24 = .ok (.aload_n 0, 1) := dk_42 (dk_at dksJ20_pollFirst_1 0 rfl rfl)
theorem dJ20_pollFirst_25 : decode cJ20_pollFirst 25 = .ok (.iload_n 2, 1) := dk_28 (dk_at dksJ20_pollFirst_1 1 rfl rfl)
theorem dJ20_pollFirst_26 : decode cJ20_pollFirst 26 = .ok (.aload_n 1, 1) := dk_43 (dk_at dksJ20_pollFirst_1 2 rfl rfl)
theorem dJ20_pollFirst_27 : decode cJ20_pollFirst 27 = .ok (.arraylength, 1) := dk_190 (dk_at dksJ20_pollFirst_1 3 rfl rfl)
theorem dJ20_pollFirst_28 : decode cJ20_pollFirst 28 = .ok (.invokestatic 74, 3) := dk_184 0 74 (dk_at dksJ20_pollFirst_1 4 rfl rfl)
theorem dJ20_pollFirst_31 : decode cJ20_pollFirst 31 = .ok (.putfield 24, 3) := dk_181 0 24 (dk_at dksJ20_pollFirst_1 7 rfl rfl)
theorem dJ20_pollFirst_34 : decode cJ20_pollFirst 34 = .ok (.aload_n 3, 1) := dk_45 (dk_at dksJ20_pollFirst_1 10 rfl rfl)
theorem dJ20_pollFirst_35 : decode cJ20_pollFirst 35 = .ok (.areturn, 1) := dk_176 (dk_at dksJ20_pollFirst_1 11 rfl rfl)
abbrev cJ20_elementAt : ByteArray := prog_31_method_10_code
def yJ20_elementAt : MethodName := ⟨RJ20, "elementAt", "([Ljava/lang/Object;I)Ljava/lang/Object;"⟩
def dkwJ20_elementAt_0 : List UInt8 := [42, 27, 50, 176]
abbrev dktJ20_elementAt_0 : List UInt8 := dkwJ20_elementAt_0 ++ []
theorem dksJ20_elementAt_0 : cJ20_elementAt.data.toList.drop 0 = dktJ20_elementAt_0 := by decide +kernel
theorem dJ20_elementAt_0 : decode cJ20_elementAt 0 = .ok (.aload_n 0, 1) := dk_42 (dk_at dksJ20_elementAt_0 0 rfl rfl)
theorem dJ20_elementAt_1 : decode cJ20_elementAt 1 = .ok (.iload_n 1, 1) := dk_27 (dk_at dksJ20_elementAt_0 1 rfl rfl)
theorem dJ20_elementAt_2 : decode cJ20_elementAt 2 = .ok (.aaload, 1) := dk_50 (dk_at dksJ20_elementAt_0 2 rfl rfl)
theorem dJ20_elementAt_3 : decode cJ20_elementAt 3 = .ok (.areturn, 1) := dk_176 (dk_at dksJ20_elementAt_0 3 rfl rfl)
abbrev cJ20_nonNullElementAt : ByteArray := prog_31_method_11_code
def yJ20_nonNullElementAt : MethodName := ⟨RJ20, "nonNullElementAt", "([Ljava/lang/Object;I)Ljava/lang/Object;"⟩
def dkwJ20_nonNullElementAt_0 : List UInt8 := [42, 27, 50, 77, 44, 199, 0, 11, 187, 0, 62, 89, 183, 0, 64, 191, 44, 176]
abbrev dktJ20_nonNullElementAt_0 : List UInt8 := dkwJ20_nonNullElementAt_0 ++ []
theorem dksJ20_nonNullElementAt_0 : cJ20_nonNullElementAt.data.toList.drop 0 = dktJ20_nonNullElementAt_0 := by decide +kernel
theorem dJ20_nonNullElementAt_0 : decode cJ20_nonNullElementAt 0 = .ok (.aload_n 0, 1) := dk_42 (dk_at dksJ20_nonNullElementAt_0 0 rfl rfl)
theorem dJ20_nonNullElementAt_1 : decode cJ20_nonNullElementAt 1 = .ok (.iload_n 1, 1) := dk_27 (dk_at dksJ20_nonNullElementAt_0 1 rfl rfl)
theorem dJ20_nonNullElementAt_2 : decode cJ20_nonNullElementAt 2 = .ok (.aaload, 1) := dk_50 (dk_at dksJ20_nonNullElementAt_0 2 rfl rfl)
theorem dJ20_nonNullElementAt_3 : decode cJ20_nonNullElementAt 3 = .ok (.astore_n 2, 1) := dk_77 (dk_at dksJ20_nonNullElementAt_0 3 rfl rfl)
theorem dJ20_nonNullElementAt_4 : decode cJ20_nonNullElementAt 4 = .ok (.aload_n 2, 1) := dk_44 (dk_at dksJ20_nonNullElementAt_0 4 rfl rfl)
theorem dJ20_nonNullElementAt_5 : decode cJ20_nonNullElementAt 5 = .ok (.ifnonnull 11, 3) := dk_199 0 11 (dk_at dksJ20_nonNullElementAt_0 5 rfl rfl)
theorem dJ20_nonNullElementAt_8 : decode cJ20_nonNullElementAt 8 = .ok (.new 62, 3) := dk_187 0 62 (dk_at dksJ20_nonNullElementAt_0 8 rfl rfl)
theorem dJ20_nonNullElementAt_11 : decode cJ20_nonNullElementAt 11 = .ok (.dup, 1) := dk_89 (dk_at dksJ20_nonNullElementAt_0 11 rfl rfl)
theorem dJ20_nonNullElementAt_12 : decode cJ20_nonNullElementAt 12 = .ok (.invokespecial 64, 3) := dk_183 0 64 (dk_at dksJ20_nonNullElementAt_0 12 rfl rfl)
theorem dJ20_nonNullElementAt_15 : decode cJ20_nonNullElementAt 15 = .ok (.athrow, 1) := dk_191 (dk_at dksJ20_nonNullElementAt_0 15 rfl rfl)
theorem dJ20_nonNullElementAt_16 : decode cJ20_nonNullElementAt 16 = .ok (.aload_n 2, 1) := dk_44 (dk_at dksJ20_nonNullElementAt_0 16 rfl rfl)
theorem dJ20_nonNullElementAt_17 : decode cJ20_nonNullElementAt 17 = .ok (.areturn, 1) := dk_176 (dk_at dksJ20_nonNullElementAt_0 17 rfl rfl)
abbrev cJ20_iterator : ByteArray := prog_31_method_39_code
def yJ20_iterator : MethodName := ⟨RJ20, "iterator", "()Ljava/util/Iterator;"⟩
def dkwJ20_iterator_0 : List UInt8 := [187, 0, 131, 89, 42, 183, 0, 133, 176]
abbrev dktJ20_iterator_0 : List UInt8 := dkwJ20_iterator_0 ++ []
theorem dksJ20_iterator_0 : cJ20_iterator.data.toList.drop 0 = dktJ20_iterator_0 := by decide +kernel
theorem dJ20_iterator_0 : decode cJ20_iterator 0 = .ok (.new 131, 3) := dk_187 0 131 (dk_at dksJ20_iterator_0 0 rfl rfl)
theorem dJ20_iterator_3 : decode cJ20_iterator 3 = .ok (.dup, 1) := dk_89 (dk_at dksJ20_iterator_0 3 rfl rfl)
theorem dJ20_iterator_4 : decode cJ20_iterator 4 = .ok (.aload_n 0, 1) := dk_42 (dk_at dksJ20_iterator_0 4 rfl rfl)
theorem dJ20_iterator_5 : decode cJ20_iterator 5 = .ok (.invokespecial 133, 3) := dk_183 0 133 (dk_at dksJ20_iterator_0 5 rfl rfl)
theorem dJ20_iterator_8 : decode cJ20_iterator 8 = .ok (.areturn, 1) := dk_176 (dk_at dksJ20_iterator_0 8 rfl rfl)
abbrev cJ20_size : ByteArray := prog_31_method_37_code
def yJ20_size : MethodName := ⟨RJ20, "size", "()I"⟩
def dkwJ20_size_0 : List UInt8 := [42, 180, 0, 20, 42, 180, 0, 24, 42, 180, 0, 3, 190, 184, 0, 127, 172]
abbrev dktJ20_size_0 : List UInt8 := dkwJ20_size_0 ++ []
theorem dksJ20_size_0 : cJ20_size.data.toList.drop 0 = dktJ20_size_0 := by decide +kernel
theorem dJ20_size_0 : decode cJ20_size 0 = .ok (.aload_n 0, 1) := dk_42 (dk_at dksJ20_size_0 0 rfl rfl)
theorem dJ20_size_1 : decode cJ20_size 1 = .ok (.getfield 20, 3) := dk_180 0 20 (dk_at dksJ20_size_0 1 rfl rfl)
theorem dJ20_size_4 : decode cJ20_size 4 = .ok (.aload_n 0, 1) := dk_42 (dk_at dksJ20_size_0 4 rfl rfl)
theorem dJ20_size_5 : decode cJ20_size 5 = .ok (.getfield 24, 3) := dk_180 0 24 (dk_at dksJ20_size_0 5 rfl rfl)
theorem dJ20_size_8 : decode cJ20_size 8 = .ok (.aload_n 0, 1) := dk_42 (dk_at dksJ20_size_0 8 rfl rfl)
theorem dJ20_size_9 : decode cJ20_size 9 = .ok (.getfield 3, 3) := dk_180 0 3 (dk_at dksJ20_size_0 9 rfl rfl)
theorem dJ20_size_12 : decode cJ20_size 12 = .ok (.arraylength, 1) := dk_190 (dk_at dksJ20_size_0 12 rfl rfl)
theorem dJ20_size_13 : decode cJ20_size 13 = .ok (.invokestatic 127, 3) := dk_184 0 127 (dk_at dksJ20_size_0 13 rfl rfl)
theorem dJ20_size_16 : decode cJ20_size 16 = .ok (.ireturn, 1) := dk_172 (dk_at dksJ20_size_0 16 rfl rfl)
abbrev cJ20_sub : ByteArray := prog_31_method_9_code
def yJ20_sub : MethodName := ⟨RJ20, "sub", "(III)I"⟩
def dkwJ20_sub_0 : List UInt8 := [26, 27, 100, 89, 59, 156, 0, 7, 26, 28, 96, 59, 26, 172]
abbrev dktJ20_sub_0 : List UInt8 := dkwJ20_sub_0 ++ []
theorem dksJ20_sub_0 : cJ20_sub.data.toList.drop 0 = dktJ20_sub_0 := by decide +kernel
theorem dJ20_sub_0 : decode cJ20_sub 0 = .ok (.iload_n 0, 1) := dk_26 (dk_at dksJ20_sub_0 0 rfl rfl)
theorem dJ20_sub_1 : decode cJ20_sub 1 = .ok (.iload_n 1, 1) := dk_27 (dk_at dksJ20_sub_0 1 rfl rfl)
theorem dJ20_sub_2 : decode cJ20_sub 2 = .ok (.isub, 1) := dk_100 (dk_at dksJ20_sub_0 2 rfl rfl)
theorem dJ20_sub_3 : decode cJ20_sub 3 = .ok (.dup, 1) := dk_89 (dk_at dksJ20_sub_0 3 rfl rfl)
theorem dJ20_sub_4 : decode cJ20_sub 4 = .ok (.istore_n 0, 1) := dk_59 (dk_at dksJ20_sub_0 4 rfl rfl)
theorem dJ20_sub_5 : decode cJ20_sub 5 = .ok (.ifCond .ge 7, 3) := dk_156 0 7 (dk_at dksJ20_sub_0 5 rfl rfl)
theorem dJ20_sub_8 : decode cJ20_sub 8 = .ok (.iload_n 0, 1) := dk_26 (dk_at dksJ20_sub_0 8 rfl rfl)
theorem dJ20_sub_9 : decode cJ20_sub 9 = .ok (.iload_n 2, 1) := dk_28 (dk_at dksJ20_sub_0 9 rfl rfl)
theorem dJ20_sub_10 : decode cJ20_sub 10 = .ok (.iadd, 1) := dk_96 (dk_at dksJ20_sub_0 10 rfl rfl)
theorem dJ20_sub_11 : decode cJ20_sub 11 = .ok (.istore_n 0, 1) := dk_59 (dk_at dksJ20_sub_0 11 rfl rfl)
theorem dJ20_sub_12 : decode cJ20_sub 12 = .ok (.iload_n 0, 1) := dk_26 (dk_at dksJ20_sub_0 12 rfl rfl)
theorem dJ20_sub_13 : decode cJ20_sub 13 = .ok (.ireturn, 1) := dk_172 (dk_at dksJ20_sub_0 13 rfl rfl)
theorem q80 : (Jvm.Cond.initialized "java/util/ArrayDeque") ∈ lw_all := lw_g (lw_at lw_m1 33 rfl) rfl
theorem q561 : (Jvm.Cond.selects "java/util/ArrayDeque" ({ cls := "java/lang/Object", name := "getClass", desc := "()Ljava/lang/Class;" } : Jvm.MethodName) ({ cls := "java/lang/Object", name := "getClass", desc := "()Ljava/lang/Class;" } : Jvm.MethodName)) ∈ lw_all := lw_g (lw_at lw_m3 34 rfl) rfl
theorem q1018 : (Jvm.Cond.instantiable "java/util/ArrayDeque" (3 : Nat)) ∈ lw_all := lw_g (lw_at lw_m5 11 rfl) rfl
theorem q1020 : (Jvm.Cond.instanceMethod ({ cls := "java/util/ArrayDeque", name := "<init>", desc := "()V" } : Jvm.MethodName)) ∈ lw_all := lw_g (lw_at lw_m5 13 rfl) rfl
theorem q1021 : (Jvm.Cond.code ({ cls := "java/util/ArrayDeque", name := "<init>", desc := "()V" } : Jvm.MethodName) prog_31_method_3_code (1 : Nat) (Option.none : Option Jvm.ClassFile.FieldType)) ∈ lw_all := lw_g (lw_at lw_m5 14 rfl) rfl
theorem q1022 : (Jvm.Cond.methodLink "java/util/ArrayDeque" (42 : Nat) ({ cls := "java/util/AbstractCollection", name := "<init>", desc := "()V" } : Jvm.MethodName)) ∈ lw_all := lw_g (lw_at lw_m5 15 rfl) rfl
theorem q1023 : (Jvm.Cond.classLink "java/util/ArrayDeque" (47 : Nat) "java/lang/Object") ∈ lw_all := lw_g (lw_at lw_m5 16 rfl) rfl
theorem q1024 : (Jvm.Cond.fieldLink "java/util/ArrayDeque" (3 : Nat) "java/util/ArrayDeque" "elements" "[Ljava/lang/Object;") ∈ lw_all := lw_g (lw_at lw_m5 17 rfl) rfl
theorem q1027 : (Jvm.Cond.fieldLink "java/util/ArrayDeque" (24 : Nat) "java/util/ArrayDeque" "head" "I") ∈ lw_all := lw_g (lw_at lw_m5 20 rfl) rfl
theorem q1028 : (Jvm.Cond.fieldLink "java/util/ArrayDeque" (20 : Nat) "java/util/ArrayDeque" "tail" "I") ∈ lw_all := lw_g (lw_at lw_m5 21 rfl) rfl
theorem q1029 : (Jvm.Cond.lays "java/util/ArrayDeque" "java/util/ArrayDeque" "elements" "[Ljava/lang/Object;") ∈ lw_all := lw_g (lw_at lw_m5 22 rfl) rfl
theorem q1030 : (Jvm.Cond.soleField "java/util/ArrayDeque" "elements") ∈ lw_all := lw_g (lw_at lw_m5 23 rfl) rfl
theorem q1031 : (Jvm.Cond.lays "java/util/ArrayDeque" "java/util/ArrayDeque" "head" "I") ∈ lw_all := lw_g (lw_at lw_m5 24 rfl) rfl
theorem q1032 : (Jvm.Cond.soleField "java/util/ArrayDeque" "head") ∈ lw_all := lw_g (lw_at lw_m5 25 rfl) rfl
theorem q1033 : (Jvm.Cond.lays "java/util/ArrayDeque" "java/util/ArrayDeque" "tail" "I") ∈ lw_all := lw_g (lw_at lw_m5 26 rfl) rfl
theorem q1034 : (Jvm.Cond.soleField "java/util/ArrayDeque" "tail") ∈ lw_all := lw_g (lw_at lw_m5 27 rfl) rfl
theorem q1035 : (Jvm.Cond.superclass "java/util/ArrayDeque" "java/util/AbstractCollection") ∈ lw_all := lw_g (lw_at lw_m5 28 rfl) rfl
theorem q1042 : (Jvm.Cond.instanceMethod ({ cls := "java/util/ArrayDeque", name := "add", desc := "(Ljava/lang/Object;)Z" } : Jvm.MethodName)) ∈ lw_all := lw_g (lw_at lw_m5 35 rfl) rfl
theorem q1043 : (Jvm.Cond.selects "java/util/ArrayDeque" ({ cls := "java/util/ArrayDeque", name := "add", desc := "(Ljava/lang/Object;)Z" } : Jvm.MethodName) ({ cls := "java/util/ArrayDeque", name := "add", desc := "(Ljava/lang/Object;)Z" } : Jvm.MethodName)) ∈ lw_all := lw_g (lw_at lw_m5 36 rfl) rfl
theorem q1044 : (Jvm.Cond.code ({ cls := "java/util/ArrayDeque", name := "add", desc := "(Ljava/lang/Object;)Z" } : Jvm.MethodName) prog_31_method_28_code (2 : Nat) (Option.some Jvm.ClassFile.FieldType.boolean)) ∈ lw_all := lw_g (lw_at lw_m5 37 rfl) rfl
theorem q1045 : (Jvm.Cond.methodLink "java/util/ArrayDeque" (90 : Nat) ({ cls := "java/util/ArrayDeque", name := "addLast", desc := "(Ljava/lang/Object;)V" } : Jvm.MethodName)) ∈ lw_all := lw_g (lw_at lw_m5 38 rfl) rfl
theorem q1046 : (Jvm.Cond.instanceMethod ({ cls := "java/util/ArrayDeque", name := "addLast", desc := "(Ljava/lang/Object;)V" } : Jvm.MethodName)) ∈ lw_all := lw_g (lw_at lw_m5 39 rfl) rfl
theorem q1047 : (Jvm.Cond.selects "java/util/ArrayDeque" ({ cls := "java/util/ArrayDeque", name := "addLast", desc := "(Ljava/lang/Object;)V" } : Jvm.MethodName) ({ cls := "java/util/ArrayDeque", name := "addLast", desc := "(Ljava/lang/Object;)V" } : Jvm.MethodName)) ∈ lw_all := lw_g (lw_at lw_m5 40 rfl) rfl
theorem q1048 : (Jvm.Cond.code ({ cls := "java/util/ArrayDeque", name := "addLast", desc := "(Ljava/lang/Object;)V" } : Jvm.MethodName) prog_31_method_13_code (3 : Nat) (Option.none : Option Jvm.ClassFile.FieldType)) ∈ lw_all := lw_g (lw_at lw_m5 41 rfl) rfl
theorem q1049 : (Jvm.Cond.methodLink "java/util/ArrayDeque" (74 : Nat) ({ cls := "java/util/ArrayDeque", name := "inc", desc := "(II)I" } : Jvm.MethodName)) ∈ lw_all := lw_g (lw_at lw_m5 42 rfl) rfl
theorem q1050 : (Jvm.Cond.static ({ cls := "java/util/ArrayDeque", name := "inc", desc := "(II)I" } : Jvm.MethodName)) ∈ lw_all := lw_g (lw_at lw_m5 43 rfl) rfl
theorem q1051 : (Jvm.Cond.code ({ cls := "java/util/ArrayDeque", name := "inc", desc := "(II)I" } : Jvm.MethodName) prog_31_method_6_code (2 : Nat) (Option.some Jvm.ClassFile.FieldType.int)) ∈ lw_all := lw_g (lw_at lw_m5 44 rfl) rfl
theorem q1052 : (Jvm.Cond.methodLink "java/util/ArrayDeque" (71 : Nat) ({ cls := "java/util/ArrayDeque", name := "grow", desc := "(I)V" } : Jvm.MethodName)) ∈ lw_all := lw_g (lw_at lw_m5 45 rfl) rfl
theorem q1053 : (Jvm.Cond.privateMethod ({ cls := "java/util/ArrayDeque", name := "grow", desc := "(I)V" } : Jvm.MethodName)) ∈ lw_tbl := lw_at lw_m5 46 rfl
theorem q1054 : (Jvm.Cond.instanceMethod ({ cls := "java/util/ArrayDeque", name := "grow", desc := "(I)V" } : Jvm.MethodName)) ∈ lw_all := lw_g (lw_at lw_m5 47 rfl) rfl
theorem q1055 : (Jvm.Cond.code ({ cls := "java/util/ArrayDeque", name := "grow", desc := "(I)V" } : Jvm.MethodName) prog_31_method_1_code (9 : Nat) (Option.none : Option Jvm.ClassFile.FieldType)) ∈ lw_all := lw_g (lw_at lw_m5 48 rfl) rfl
theorem q1056 : (Jvm.Cond.constant "java/util/ArrayDeque" (9 : Nat) (2147483639 : Int32)) ∈ lw_all := lw_g (lw_at lw_m5 49 rfl) rfl
theorem q1057 : (Jvm.Cond.methodLink "java/util/ArrayDeque" (10 : Nat) ({ cls := "java/util/ArrayDeque", name := "newCapacity", desc := "(II)I" } : Jvm.MethodName)) ∈ lw_all := lw_g (lw_at lw_m5 50 rfl) rfl
theorem q1058 : (Jvm.Cond.privateMethod ({ cls := "java/util/ArrayDeque", name := "newCapacity", desc := "(II)I" } : Jvm.MethodName)) ∈ lw_tbl := lw_at lw_m5 51 rfl
theorem q1059 : (Jvm.Cond.instanceMethod ({ cls := "java/util/ArrayDeque", name := "newCapacity", desc := "(II)I" } : Jvm.MethodName)) ∈ lw_all := lw_g (lw_at lw_m5 52 rfl) rfl
theorem q1060 : (Jvm.Cond.code ({ cls := "java/util/ArrayDeque", name := "newCapacity", desc := "(II)I" } : Jvm.MethodName) prog_31_method_2_code (5 : Nat) (Option.some Jvm.ClassFile.FieldType.int)) ∈ lw_all := lw_g (lw_at lw_m5 53 rfl) rfl
theorem q1061 : (Jvm.Cond.constant "java/util/ArrayDeque" (41 : Nat) (2147483647 : Int32)) ∈ lw_all := lw_g (lw_at lw_m5 54 rfl) rfl
theorem q1062 : (Jvm.Cond.methodLink "java/util/ArrayDeque" (14 : Nat) ({ cls := "java/util/Arrays", name := "copyOf", desc := "([Ljava/lang/Object;I)[Ljava/lang/Object;" } : Jvm.MethodName)) ∈ lw_all := lw_g (lw_at lw_m5 55 rfl) rfl
theorem q1063 : (Jvm.Cond.methodLink "java/util/ArrayDeque" (27 : Nat) ({ cls := "java/lang/System", name := "arraycopy", desc := "(Ljava/lang/Object;ILjava/lang/Object;II)V" } : Jvm.MethodName)) ∈ lw_all := lw_g (lw_at lw_m5 56 rfl) rfl
theorem q1065 : (Jvm.Cond.instanceMethod ({ cls := "java/util/ArrayDeque", name := "isEmpty", desc := "()Z" } : Jvm.MethodName)) ∈ lw_all := lw_g (lw_at lw_m5 58 rfl) rfl
theorem q1066 : (Jvm.Cond.selects "java/util/ArrayDeque" ({ cls := "java/util/ArrayDeque", name := "isEmpty", desc := "()Z" } : Jvm.MethodName) ({ cls := "java/util/ArrayDeque", name := "isEmpty", desc := "()Z" } : Jvm.MethodName)) ∈ lw_all := lw_g (lw_at lw_m5 59 rfl) rfl
theorem q1067 : (Jvm.Cond.code ({ cls := "java/util/ArrayDeque", name := "isEmpty", desc := "()Z" } : Jvm.MethodName) prog_31_method_38_code (1 : Nat) (Option.some Jvm.ClassFile.FieldType.boolean)) ∈ lw_all := lw_g (lw_at lw_m5 60 rfl) rfl
theorem q1069 : (Jvm.Cond.instanceMethod ({ cls := "java/util/ArrayDeque", name := "poll", desc := "()Ljava/lang/Object;" } : Jvm.MethodName)) ∈ lw_all := lw_g (lw_at lw_m5 62 rfl) rfl
theorem q1070 : (Jvm.Cond.selects "java/util/ArrayDeque" ({ cls := "java/util/ArrayDeque", name := "poll", desc := "()Ljava/lang/Object;" } : Jvm.MethodName) ({ cls := "java/util/ArrayDeque", name := "poll", desc := "()Ljava/lang/Object;" } : Jvm.MethodName)) ∈ lw_all := lw_g (lw_at lw_m5 63 rfl) rfl
theorem q1071 : (Jvm.Cond.code ({ cls := "java/util/ArrayDeque", name := "poll", desc := "()Ljava/lang/Object;" } : Jvm.MethodName) prog_31_method_31_code (1 : Nat) (Option.some (Jvm.ClassFile.FieldType.object "java/lang/Object"))) ∈ lw_all := lw_g (lw_at lw_m5 64 rfl) rfl
theorem q1072 : (Jvm.Cond.methodLink "java/util/ArrayDeque" (93 : Nat) ({ cls := "java/util/ArrayDeque", name := "pollFirst", desc := "()Ljava/lang/Object;" } : Jvm.MethodName)) ∈ lw_all := lw_g (lw_at lw_m5 65 rfl) rfl
theorem q1073 : (Jvm.Cond.instanceMethod ({ cls := "java/util/ArrayDeque", name := "pollFirst", desc := "()Ljava/lang/Object;" } : Jvm.MethodName)) ∈ lw_all := lw_g (lw_at lw_m5 66 rfl) rfl
theorem q1074 : (Jvm.Cond.selects "java/util/ArrayDeque" ({ cls := "java/util/ArrayDeque", name := "pollFirst", desc := "()Ljava/lang/Object;" } : Jvm.MethodName) ({ cls := "java/util/ArrayDeque", name := "pollFirst", desc := "()Ljava/lang/Object;" } : Jvm.MethodName)) ∈ lw_all := lw_g (lw_at lw_m5 67 rfl) rfl
theorem q1075 : (Jvm.Cond.code ({ cls := "java/util/ArrayDeque", name := "pollFirst", desc := "()Ljava/lang/Object;" } : Jvm.MethodName) prog_31_method_20_code (4 : Nat) (Option.some (Jvm.ClassFile.FieldType.object "java/lang/Object"))) ∈ lw_all := lw_g (lw_at lw_m5 68 rfl) rfl
theorem q1076 : (Jvm.Cond.methodLink "java/util/ArrayDeque" (103 : Nat) ({ cls := "java/util/ArrayDeque", name := "elementAt", desc := "([Ljava/lang/Object;I)Ljava/lang/Object;" } : Jvm.MethodName)) ∈ lw_all := lw_g (lw_at lw_m5 69 rfl) rfl
theorem q1077 : (Jvm.Cond.static ({ cls := "java/util/ArrayDeque", name := "elementAt", desc := "([Ljava/lang/Object;I)Ljava/lang/Object;" } : Jvm.MethodName)) ∈ lw_all := lw_g (lw_at lw_m5 70 rfl) rfl
theorem q1078 : (Jvm.Cond.code ({ cls := "java/util/ArrayDeque", name := "elementAt", desc := "([Ljava/lang/Object;I)Ljava/lang/Object;" } : Jvm.MethodName) prog_31_method_10_code (2 : Nat) (Option.some (Jvm.ClassFile.FieldType.object "java/lang/Object"))) ∈ lw_all := lw_g (lw_at lw_m5 71 rfl) rfl
theorem q1139 : (Jvm.Cond.static ({ cls := "java/util/ArrayDeque", name := "nonNullElementAt", desc := "([Ljava/lang/Object;I)Ljava/lang/Object;" } : Jvm.MethodName)) ∈ lw_all := lw_g (lw_at lw_m5 132 rfl) rfl
theorem q1140 : (Jvm.Cond.code ({ cls := "java/util/ArrayDeque", name := "nonNullElementAt", desc := "([Ljava/lang/Object;I)Ljava/lang/Object;" } : Jvm.MethodName) prog_31_method_11_code (3 : Nat) (Option.some (Jvm.ClassFile.FieldType.object "java/lang/Object"))) ∈ lw_all := lw_g (lw_at lw_m5 133 rfl) rfl
theorem q1340 : (Jvm.Cond.castable "java/util/ArrayDeque" "java/util/Collection") ∈ lw_tbl := lw_at lw_m6 93 rfl
theorem q1341 : (Jvm.Cond.selects "java/util/ArrayDeque" ({ cls := "java/util/Collection", name := "iterator", desc := "()Ljava/util/Iterator;" } : Jvm.MethodName) ({ cls := "java/util/ArrayDeque", name := "iterator", desc := "()Ljava/util/Iterator;" } : Jvm.MethodName)) ∈ lw_all := lw_g (lw_at lw_m6 94 rfl) rfl
theorem q1342 : (Jvm.Cond.unhidden "java/util/ArrayDeque" "iterator" "()Ljava/util/Iterator;") ∈ lw_tbl := lw_at lw_m6 95 rfl
theorem q1343 : (Jvm.Cond.instanceMethod ({ cls := "java/util/ArrayDeque", name := "iterator", desc := "()Ljava/util/Iterator;" } : Jvm.MethodName)) ∈ lw_all := lw_g (lw_at lw_m6 96 rfl) rfl
theorem q1344 : (Jvm.Cond.publicMethod ({ cls := "java/util/ArrayDeque", name := "iterator", desc := "()Ljava/util/Iterator;" } : Jvm.MethodName)) ∈ lw_tbl := lw_at lw_m6 97 rfl
theorem q1345 : (Jvm.Cond.code ({ cls := "java/util/ArrayDeque", name := "iterator", desc := "()Ljava/util/Iterator;" } : Jvm.MethodName) prog_31_method_39_code (1 : Nat) (Option.some (Jvm.ClassFile.FieldType.object "java/util/Iterator"))) ∈ lw_all := lw_g (lw_at lw_m6 98 rfl) rfl
theorem q1346 : (Jvm.Cond.classLink "java/util/ArrayDeque" (131 : Nat) "java/util/ArrayDeque$DeqIterator") ∈ lw_all := lw_g (lw_at lw_m6 99 rfl) rfl
theorem q1348 : (Jvm.Cond.methodLink "java/util/ArrayDeque" (133 : Nat) ({ cls := "java/util/ArrayDeque$DeqIterator", name := "<init>", desc := "(Ljava/util/ArrayDeque;)V" } : Jvm.MethodName)) ∈ lw_all := lw_g (lw_at lw_m6 101 rfl) rfl
theorem q1353 : (Jvm.Cond.instanceMethod ({ cls := "java/util/ArrayDeque", name := "size", desc := "()I" } : Jvm.MethodName)) ∈ lw_all := lw_g (lw_at lw_m6 106 rfl) rfl
theorem q1354 : (Jvm.Cond.selects "java/util/ArrayDeque" ({ cls := "java/util/ArrayDeque", name := "size", desc := "()I" } : Jvm.MethodName) ({ cls := "java/util/ArrayDeque", name := "size", desc := "()I" } : Jvm.MethodName)) ∈ lw_all := lw_g (lw_at lw_m6 107 rfl) rfl
theorem q1355 : (Jvm.Cond.code ({ cls := "java/util/ArrayDeque", name := "size", desc := "()I" } : Jvm.MethodName) prog_31_method_37_code (1 : Nat) (Option.some Jvm.ClassFile.FieldType.int)) ∈ lw_all := lw_g (lw_at lw_m6 108 rfl) rfl
theorem q1356 : (Jvm.Cond.methodLink "java/util/ArrayDeque" (127 : Nat) ({ cls := "java/util/ArrayDeque", name := "sub", desc := "(III)I" } : Jvm.MethodName)) ∈ lw_all := lw_g (lw_at lw_m6 109 rfl) rfl
theorem q1357 : (Jvm.Cond.static ({ cls := "java/util/ArrayDeque", name := "sub", desc := "(III)I" } : Jvm.MethodName)) ∈ lw_all := lw_g (lw_at lw_m6 110 rfl) rfl
theorem q1358 : (Jvm.Cond.code ({ cls := "java/util/ArrayDeque", name := "sub", desc := "(III)I" } : Jvm.MethodName) prog_31_method_9_code (3 : Nat) (Option.some Jvm.ClassFile.FieldType.int)) ∈ lw_all := lw_g (lw_at lw_m6 111 rfl) rfl
theorem q1849 : (Jvm.Cond.castable "java/util/ArrayDeque" "java/lang/Object") ∈ lw_tbl := lw_at lw_m8 122 rfl
theorem in_J20 : ∀ w ∈ wsJ200, w ∈ lw_all := lw_in wsJ200 [1029, 1031, 1033] (by decide +kernel) (by decide +kernel)
/-! java/util/ArrayList$Itr -/
set_option maxRecDepth 100000
def RJ21 : String := "java/util/ArrayList$Itr"
def TJ21 : u_T := fun k => match k with
  | 0 => ("java/util/ArrayList$Itr", "cursor", "I", false)
  | 1 => ("java/util/ArrayList$Itr", "lastRet", "I", false)
  | 2 => ("java/util/ArrayList$Itr", "expectedModCount", "I", false)
  | _ => ("java/util/ArrayList$Itr", "this$0", "Ljava/util/ArrayList;", true)
def tyJ21 : Nat → FieldType := fun k => match k with
  | 0 => .int
  | 1 => .int
  | 2 => .int
  | _ => .object "java/util/ArrayList"
abbrev wsJ210 : List Cond := u_ws RJ21 TJ21 4
theorem nmJ21 : ∀ a, a < 4 → ∀ b, b < 4 → a ≠ b → (TJ21 a).2.1 ≠ (TJ21 b).2.1 := by decide +kernel
theorem tyJ21_ok : ∀ k, k < 4 → parseFieldDescriptor (TJ21 k).2.2.1 = some (tyJ21 k) := by decide +kernel
abbrev cJ21_init : ByteArray := prog_34_method_1_code
def yJ21_init : MethodName := ⟨RJ21, "<init>", "(Ljava/util/ArrayList;)V"⟩
def dkwJ21_init_1 : List UInt8 := [181, 0, 22, 177]
abbrev dktJ21_init_1 : List UInt8 := dkwJ21_init_1 ++ []
def dkwJ21_init_0 : List UInt8 := [42, 43, 181, 0, 1, 42, 183, 0, 7, 42, 2, 181, 0, 13, 42, 42, 180, 0, 1, 180, 0, 17]
abbrev dktJ21_init_0 : List UInt8 := dkwJ21_init_0 ++ dktJ21_init_1
theorem dksJ21_init_0 : cJ21_init.data.toList.drop 0 = dktJ21_init_0 := by decide +kernel
theorem dksJ21_init_1 : cJ21_init.data.toList.drop 22 = dktJ21_init_1 := dk_seg dksJ21_init_0 22 rfl rfl
theorem dJ21_init_0 : decode cJ21_init 0 = .ok (.aload_n 0, 1) := dk_42 (dk_at dksJ21_init_0 0 rfl rfl)
theorem dJ21_init_1 : decode cJ21_init 1 = .ok (.aload_n 1, 1) := dk_43 (dk_at dksJ21_init_0 1 rfl rfl)
theorem dJ21_init_2 : decode cJ21_init 2 = .ok (.putfield 1, 3) := dk_181 0 1 (dk_at dksJ21_init_0 2 rfl rfl)
theorem dJ21_init_5 : decode cJ21_init 5 = .ok (.aload_n 0, 1) := dk_42 (dk_at dksJ21_init_0 5 rfl rfl)
theorem dJ21_init_6 : decode cJ21_init 6 = .ok (.invokespecial 7, 3) := dk_183 0 7 (dk_at dksJ21_init_0 6 rfl rfl)
theorem dJ21_init_9 : decode cJ21_init 9 = .ok (.aload_n 0, 1) := dk_42 (dk_at dksJ21_init_0 9 rfl rfl)
theorem dJ21_init_10 : decode cJ21_init 10 = .ok (.iconst (-1), 1) := dk_2 (dk_at dksJ21_init_0 10 rfl rfl)
theorem dJ21_init_11 : decode cJ21_init 11 = .ok (.putfield 13, 3) := dk_181 0 13 (dk_at dksJ21_init_0 11 rfl rfl)
theorem dJ21_init_14 : decode cJ21_init 14 = .ok (.aload_n 0, 1) := dk_42 (dk_at dksJ21_init_0 14 rfl rfl)
theorem dJ21_init_15 : decode cJ21_init 15 = .ok (.aload_n 0, 1) := dk_42 (dk_at dksJ21_init_0 15 rfl rfl)
theorem dJ21_init_16 : decode cJ21_init 16 = .ok (.getfield 1, 3) := dk_180 0 1 (dk_at dksJ21_init_0 16 rfl rfl)
theorem dJ21_init_19 : decode cJ21_init 19 = .ok (.getfield 17, 3) := dk_180 0 17 (dk_at dksJ21_init_0 19 rfl rfl)
theorem dJ21_init_22 : decode cJ21_init 22 = .ok (.putfield 22, 3) := dk_181 0 22 (dk_at dksJ21_init_1 0 rfl rfl)
theorem dJ21_init_25 : decode cJ21_init 25 = .ok (.return_, 1) := dk_177 (dk_at dksJ21_init_1 3 rfl rfl)
abbrev cJ21_hasNext : ByteArray := prog_34_method_2_code
def yJ21_hasNext : MethodName := ⟨RJ21, "hasNext", "()Z"⟩
def dkwJ21_hasNext_0 : List UInt8 := [42, 180, 0, 25, 42, 180, 0, 1, 180, 0, 28, 159, 0, 7, 4, 167, 0, 4, 3, 172]
abbrev dktJ21_hasNext_0 : List UInt8 := dkwJ21_hasNext_0 ++ []
theorem dksJ21_hasNext_0 : cJ21_hasNext.data.toList.drop 0 = dktJ21_hasNext_0 := by decide +kernel
theorem dJ21_hasNext_0 : decode cJ21_hasNext 0 = .ok (.aload_n 0, 1) := dk_42 (dk_at dksJ21_hasNext_0 0 rfl rfl)
theorem dJ21_hasNext_1 : decode cJ21_hasNext 1 = .ok (.getfield 25, 3) := dk_180 0 25 (dk_at dksJ21_hasNext_0 1 rfl rfl)
theorem dJ21_hasNext_4 : decode cJ21_hasNext 4 = .ok (.aload_n 0, 1) := dk_42 (dk_at dksJ21_hasNext_0 4 rfl rfl)
theorem dJ21_hasNext_5 : decode cJ21_hasNext 5 = .ok (.getfield 1, 3) := dk_180 0 1 (dk_at dksJ21_hasNext_0 5 rfl rfl)
theorem dJ21_hasNext_8 : decode cJ21_hasNext 8 = .ok (.getfield 28, 3) := dk_180 0 28 (dk_at dksJ21_hasNext_0 8 rfl rfl)
theorem dJ21_hasNext_11 : decode cJ21_hasNext 11 = .ok (.if_icmp .eq 7, 3) := dk_159 0 7 (dk_at dksJ21_hasNext_0 11 rfl rfl)
theorem dJ21_hasNext_14 : decode cJ21_hasNext 14 = .ok (.iconst 1, 1) := dk_4 (dk_at dksJ21_hasNext_0 14 rfl rfl)
theorem dJ21_hasNext_15 : decode cJ21_hasNext 15 = .ok (.goto 4, 3) := dk_167 0 4 (dk_at dksJ21_hasNext_0 15 rfl rfl)
theorem dJ21_hasNext_18 : decode cJ21_hasNext 18 = .ok (.iconst 0, 1) := dk_3 (dk_at dksJ21_hasNext_0 18 rfl rfl)
theorem dJ21_hasNext_19 : decode cJ21_hasNext 19 = .ok (.ireturn, 1) := dk_172 (dk_at dksJ21_hasNext_0 19 rfl rfl)
abbrev cJ21_next : ByteArray := prog_34_method_3_code
def yJ21_next : MethodName := ⟨RJ21, "next", "()Ljava/lang/Object;"⟩
def dkwJ21_next_2 : List UInt8 := [183, 0, 43, 191, 42, 27, 4, 96, 181, 0, 25, 44, 42, 27, 90, 181, 0, 13, 50, 176]
abbrev dktJ21_next_2 : List UInt8 := dkwJ21_next_2 ++ []
def dkwJ21_next_1 : List UInt8 := [183, 0, 36, 191, 42, 180, 0, 1, 180, 0, 37, 77, 27, 44, 190, 161, 0, 11, 187, 0, 41, 89]
abbrev dktJ21_next_1 : List UInt8 := dkwJ21_next_1 ++ dktJ21_next_2
def dkwJ21_next_0 : List UInt8 := [42, 182, 0, 31, 42, 180, 0, 25, 60, 27, 42, 180, 0, 1, 180, 0, 28, 161, 0, 11, 187, 0, 34, 89]
abbrev dktJ21_next_0 : List UInt8 := dkwJ21_next_0 ++ dktJ21_next_1
theorem dksJ21_next_0 : cJ21_next.data.toList.drop 0 = dktJ21_next_0 := by decide +kernel
theorem dksJ21_next_1 : cJ21_next.data.toList.drop 24 = dktJ21_next_1 := dk_seg dksJ21_next_0 24 rfl rfl
theorem dksJ21_next_2 : cJ21_next.data.toList.drop 46 = dktJ21_next_2 := dk_seg dksJ21_next_1 22 rfl rfl
theorem dJ21_next_0 : decode cJ21_next 0 = .ok (.aload_n 0, 1) := dk_42 (dk_at dksJ21_next_0 0 rfl rfl)
theorem dJ21_next_1 : decode cJ21_next 1 = .ok (.invokevirtual 31, 3) := dk_182 0 31 (dk_at dksJ21_next_0 1 rfl rfl)
theorem dJ21_next_4 : decode cJ21_next 4 = .ok (.aload_n 0, 1) := dk_42 (dk_at dksJ21_next_0 4 rfl rfl)
theorem dJ21_next_5 : decode cJ21_next 5 = .ok (.getfield 25, 3) := dk_180 0 25 (dk_at dksJ21_next_0 5 rfl rfl)
theorem dJ21_next_8 : decode cJ21_next 8 = .ok (.istore_n 1, 1) := dk_60 (dk_at dksJ21_next_0 8 rfl rfl)
theorem dJ21_next_9 : decode cJ21_next 9 = .ok (.iload_n 1, 1) := dk_27 (dk_at dksJ21_next_0 9 rfl rfl)
theorem dJ21_next_10 : decode cJ21_next 10 = .ok (.aload_n 0, 1) := dk_42 (dk_at dksJ21_next_0 10 rfl rfl)
theorem dJ21_next_11 : decode cJ21_next 11 = .ok (.getfield 1, 3) := dk_180 0 1 (dk_at dksJ21_next_0 11 rfl rfl)
theorem dJ21_next_14 : decode cJ21_next 14 = .ok (.getfield 28, 3) := dk_180 0 28 (dk_at dksJ21_next_0 14 rfl rfl)
theorem dJ21_next_17 : decode cJ21_next 17 = .ok (.if_icmp .lt 11, 3) := dk_161 0 11 (dk_at dksJ21_next_0 17 rfl rfl)
theorem dJ21_next_20 : decode cJ21_next 20 = .ok (.new 34, 3) := dk_187 0 34 (dk_at dksJ21_next_0 20 rfl rfl)
theorem dJ21_next_23 : decode cJ21_next 23 = .ok (.dup, 1) := dk_89 (dk_at dksJ21_next_0 23 rfl rfl)
theorem dJ21_next_24 : decode cJ21_next 24 = .ok (.invokespecial 36, 3) := dk_183 0 36 (dk_at dksJ21_next_1 0 rfl rfl)
theorem dJ21_next_27 : decode cJ21_next 27 = .ok (.athrow, 1) := dk_191 (dk_at dksJ21_next_1 3 rfl rfl)
theorem dJ21_next_28 : decode cJ21_next 28 = .ok (.aload_n 0, 1) := dk_42 (dk_at dksJ21_next_1 4 rfl rfl)
theorem dJ21_next_29 : decode cJ21_next 29 = .ok (.getfield 1, 3) := dk_180 0 1 (dk_at dksJ21_next_1 5 rfl rfl)
theorem dJ21_next_32 : decode cJ21_next 32 = .ok (.getfield 37, 3) := dk_180 0 37 (dk_at dksJ21_next_1 8 rfl rfl)
theorem dJ21_next_35 : decode cJ21_next 35 = .ok (.astore_n 2, 1) := dk_77 (dk_at dksJ21_next_1 11 rfl rfl)
theorem dJ21_next_36 : decode cJ21_next 36 = .ok (.iload_n 1, 1) := dk_27 (dk_at dksJ21_next_1 12 rfl rfl)
theorem dJ21_next_37 : decode cJ21_next 37 = .ok (.aload_n 2, 1) := dk_44 (dk_at dksJ21_next_1 13 rfl rfl)
theorem dJ21_next_38 : decode cJ21_next 38 = .ok (.arraylength, 1) := dk_190 (dk_at dksJ21_next_1 14 rfl rfl)
theorem dJ21_next_39 : decode cJ21_next 39 = .ok (.if_icmp .lt 11, 3) := dk_161 0 11 (dk_at dksJ21_next_1 15 rfl rfl)
theorem dJ21_next_42 : decode cJ21_next 42 = .ok (.new 41, 3) := dk_187 0 41 (dk_at dksJ21_next_1 18 rfl rfl)
theorem dJ21_next_45 : decode cJ21_next 45 = .ok (.dup, 1) := dk_89 (dk_at dksJ21_next_1 21 rfl rfl)
theorem dJ21_next_46 : decode cJ21_next 46 = .ok (.invokespecial 43, 3) := dk_183 0 43 (dk_at dksJ21_next_2 0 rfl rfl)
theorem dJ21_next_49 : decode cJ21_next 49 = .ok (.athrow, 1) := dk_191 (dk_at dksJ21_next_2 3 rfl rfl)
theorem dJ21_next_50 : decode cJ21_next 50 = .ok (.aload_n 0, 1) := dk_42 (dk_at dksJ21_next_2 4 rfl rfl)
theorem dJ21_next_51 : decode cJ21_next 51 = .ok (.iload_n 1, 1) := dk_27 (dk_at dksJ21_next_2 5 rfl rfl)
theorem dJ21_next_52 : decode cJ21_next 52 = .ok (.iconst 1, 1) := dk_4 (dk_at dksJ21_next_2 6 rfl rfl)
theorem dJ21_next_53 : decode cJ21_next 53 = .ok (.iadd, 1) := dk_96 (dk_at dksJ21_next_2 7 rfl rfl)
theorem dJ21_next_54 : decode cJ21_next 54 = .ok (.putfield 25, 3) := dk_181 0 25 (dk_at dksJ21_next_2 8 rfl rfl)
theorem dJ21_next_57 : decode cJ21_next 57 = .ok (.aload_n 2, 1) := dk_44 (dk_at dksJ21_next_2 11 rfl rfl)
theorem dJ21_next_58 : decode cJ21_next 58 = .ok (.aload_n 0, 1) := dk_42 (dk_at dksJ21_next_2 12 rfl rfl)
theorem dJ21_next_59 : decode cJ21_next 59 = .ok (.iload_n 1, 1) := dk_27 (dk_at dksJ21_next_2 13 rfl rfl)
theorem dJ21_next_60 : decode cJ21_next 60 = .ok (.dup_x1, 1) := dk_90 (dk_at dksJ21_next_2 14 rfl rfl)
theorem dJ21_next_61 : decode cJ21_next 61 = .ok (.putfield 13, 3) := dk_181 0 13 (dk_at dksJ21_next_2 15 rfl rfl)
theorem dJ21_next_64 : decode cJ21_next 64 = .ok (.aaload, 1) := dk_50 (dk_at dksJ21_next_2 18 rfl rfl)
theorem dJ21_next_65 : decode cJ21_next 65 = .ok (.areturn, 1) := dk_176 (dk_at dksJ21_next_2 19 rfl rfl)
abbrev cJ21_checkForComodification : ByteArray := prog_34_method_6_code
def yJ21_checkForComodification : MethodName := ⟨RJ21, "checkForComodification", "()V"⟩
def dkwJ21_checkForComodification_0 : List UInt8 := [42, 180, 0, 1, 180, 0, 17, 42, 180, 0, 22, 159, 0, 11, 187, 0, 41, 89, 183, 0, 43, 191, 177]
abbrev dktJ21_checkForComodification_0 : List UInt8 := dkwJ21_checkForComodification_0 ++ []
theorem dksJ21_checkForComodification_0 : cJ21_checkForComodification.data.toList.drop 0 = dktJ21_checkForComodification_0 := by decide +kernel
theorem dJ21_checkForComodification_0 : decode cJ21_checkForComodification 0 = .ok (.aload_n 0, 1) := dk_42 (dk_at dksJ21_checkForComodification_0 0 rfl rfl)
theorem dJ21_checkForComodification_1 : decode cJ21_checkForComodification 1 = .ok (.getfield 1, 3) := dk_180 0 1 (dk_at dksJ21_checkForComodification_0 1 rfl rfl)
theorem dJ21_checkForComodification_4 : decode cJ21_checkForComodification 4 = .ok (.getfield 17, 3) := dk_180 0 17 (dk_at dksJ21_checkForComodification_0 4 rfl rfl)
theorem dJ21_checkForComodification_7 : decode cJ21_checkForComodification 7 = .ok (.aload_n 0, 1) := dk_42 (dk_at dksJ21_checkForComodification_0 7 rfl rfl)
theorem dJ21_checkForComodification_8 : decode cJ21_checkForComodification 8 = .ok (.getfield 22, 3) := dk_180 0 22 (dk_at dksJ21_checkForComodification_0 8 rfl rfl)
theorem dJ21_checkForComodification_11 : decode cJ21_checkForComodification 11 = .ok (.if_icmp .eq 11, 3) := dk_159 0 11 (dk_at dksJ21_checkForComodification_0 11 rfl rfl)
theorem dJ21_checkForComodification_14 : decode cJ21_checkForComodification 14 = .ok (.new 41, 3) := dk_187 0 41 (dk_at dksJ21_checkForComodification_0 14 rfl rfl)
theorem dJ21_checkForComodification_17 : decode cJ21_checkForComodification 17 = .ok (.dup, 1) := dk_89 (dk_at dksJ21_checkForComodification_0 17 rfl rfl)
theorem dJ21_checkForComodification_18 : decode cJ21_checkForComodification 18 = .ok (.invokespecial 43, 3) := dk_183 0 43 (dk_at dksJ21_checkForComodification_0 18 rfl rfl)
theorem dJ21_checkForComodification_21 : decode cJ21_checkForComodification 21 = .ok (.athrow, 1) := dk_191 (dk_at dksJ21_checkForComodification_0 21 rfl rfl)
theorem dJ21_checkForComodification_22 : decode cJ21_checkForComodification 22 = .ok (.return_, 1) := dk_177 (dk_at dksJ21_checkForComodification_0 22 rfl rfl)
theorem q81 : (Jvm.Cond.initialized "java/util/ArrayList$Itr") ∈ lw_all := lw_g (lw_at lw_m1 34 rfl) rfl
theorem q125 : (Jvm.Cond.fieldLink "java/util/ArrayList$Itr" (37 : Nat) "java/util/ArrayList" "elementData" "[Ljava/lang/Object;") ∈ lw_all := lw_g (lw_at lw_m1 78 rfl) rfl
theorem q126 : (Jvm.Cond.fieldLinkNest "java/util/ArrayList$Itr" (28 : Nat) "java/util/ArrayList" "size" "I" "java/util/ArrayList") ∈ lw_tbl := lw_at lw_m1 79 rfl
theorem q129 : (Jvm.Cond.fieldLink "java/util/ArrayList$Itr" (17 : Nat) "java/util/ArrayList" "modCount" "I") ∈ lw_all := lw_g (lw_at lw_m1 82 rfl) rfl
theorem q564 : (Jvm.Cond.selects "java/util/ArrayList$Itr" ({ cls := "java/lang/Object", name := "getClass", desc := "()Ljava/lang/Class;" } : Jvm.MethodName) ({ cls := "java/lang/Object", name := "getClass", desc := "()Ljava/lang/Class;" } : Jvm.MethodName)) ∈ lw_all := lw_g (lw_at lw_m3 37 rfl) rfl
theorem q1086 : (Jvm.Cond.instantiable "java/util/ArrayList$Itr" (4 : Nat)) ∈ lw_all := lw_g (lw_at lw_m5 79 rfl) rfl
theorem q1088 : (Jvm.Cond.instanceMethod ({ cls := "java/util/ArrayList$Itr", name := "<init>", desc := "(Ljava/util/ArrayList;)V" } : Jvm.MethodName)) ∈ lw_all := lw_g (lw_at lw_m5 81 rfl) rfl
theorem q1089 : (Jvm.Cond.code ({ cls := "java/util/ArrayList$Itr", name := "<init>", desc := "(Ljava/util/ArrayList;)V" } : Jvm.MethodName) prog_34_method_1_code (2 : Nat) (Option.none : Option Jvm.ClassFile.FieldType)) ∈ lw_all := lw_g (lw_at lw_m5 82 rfl) rfl
theorem q1090 : (Jvm.Cond.methodLink "java/util/ArrayList$Itr" (7 : Nat) ({ cls := "java/lang/Object", name := "<init>", desc := "()V" } : Jvm.MethodName)) ∈ lw_all := lw_g (lw_at lw_m5 83 rfl) rfl
theorem q1091 : (Jvm.Cond.fieldLink "java/util/ArrayList$Itr" (25 : Nat) "java/util/ArrayList$Itr" "cursor" "I") ∈ lw_all := lw_g (lw_at lw_m5 84 rfl) rfl
theorem q1092 : (Jvm.Cond.fieldLink "java/util/ArrayList$Itr" (13 : Nat) "java/util/ArrayList$Itr" "lastRet" "I") ∈ lw_all := lw_g (lw_at lw_m5 85 rfl) rfl
theorem q1093 : (Jvm.Cond.fieldLink "java/util/ArrayList$Itr" (22 : Nat) "java/util/ArrayList$Itr" "expectedModCount" "I") ∈ lw_all := lw_g (lw_at lw_m5 86 rfl) rfl
theorem q1094 : (Jvm.Cond.fieldLink "java/util/ArrayList$Itr" (1 : Nat) "java/util/ArrayList$Itr" "this$0" "Ljava/util/ArrayList;") ∈ lw_all := lw_g (lw_at lw_m5 87 rfl) rfl
theorem q1095 : (Jvm.Cond.lays "java/util/ArrayList$Itr" "java/util/ArrayList$Itr" "cursor" "I") ∈ lw_all := lw_g (lw_at lw_m5 88 rfl) rfl
theorem q1096 : (Jvm.Cond.soleField "java/util/ArrayList$Itr" "cursor") ∈ lw_all := lw_g (lw_at lw_m5 89 rfl) rfl
theorem q1097 : (Jvm.Cond.lays "java/util/ArrayList$Itr" "java/util/ArrayList$Itr" "lastRet" "I") ∈ lw_all := lw_g (lw_at lw_m5 90 rfl) rfl
theorem q1098 : (Jvm.Cond.soleField "java/util/ArrayList$Itr" "lastRet") ∈ lw_all := lw_g (lw_at lw_m5 91 rfl) rfl
theorem q1099 : (Jvm.Cond.lays "java/util/ArrayList$Itr" "java/util/ArrayList$Itr" "expectedModCount" "I") ∈ lw_all := lw_g (lw_at lw_m5 92 rfl) rfl
theorem q1100 : (Jvm.Cond.soleField "java/util/ArrayList$Itr" "expectedModCount") ∈ lw_all := lw_g (lw_at lw_m5 93 rfl) rfl
theorem q1101 : (Jvm.Cond.laysFinal "java/util/ArrayList$Itr" "java/util/ArrayList$Itr" "this$0" "Ljava/util/ArrayList;") ∈ lw_all := lw_g (lw_at lw_m5 94 rfl) rfl
theorem q1102 : (Jvm.Cond.soleField "java/util/ArrayList$Itr" "this$0") ∈ lw_all := lw_g (lw_at lw_m5 95 rfl) rfl
theorem q1103 : (Jvm.Cond.superclass "java/util/ArrayList$Itr" "java/lang/Object") ∈ lw_all := lw_g (lw_at lw_m5 96 rfl) rfl
theorem q1114 : (Jvm.Cond.castable "java/util/ArrayList$Itr" "java/util/Iterator") ∈ lw_tbl := lw_at lw_m5 107 rfl
theorem q1115 : (Jvm.Cond.selects "java/util/ArrayList$Itr" ({ cls := "java/util/Iterator", name := "hasNext", desc := "()Z" } : Jvm.MethodName) ({ cls := "java/util/ArrayList$Itr", name := "hasNext", desc := "()Z" } : Jvm.MethodName)) ∈ lw_all := lw_g (lw_at lw_m5 108 rfl) rfl
theorem q1116 : (Jvm.Cond.unhidden "java/util/ArrayList$Itr" "hasNext" "()Z") ∈ lw_tbl := lw_at lw_m5 109 rfl
theorem q1117 : (Jvm.Cond.instanceMethod ({ cls := "java/util/ArrayList$Itr", name := "hasNext", desc := "()Z" } : Jvm.MethodName)) ∈ lw_all := lw_g (lw_at lw_m5 110 rfl) rfl
theorem q1118 : (Jvm.Cond.publicMethod ({ cls := "java/util/ArrayList$Itr", name := "hasNext", desc := "()Z" } : Jvm.MethodName)) ∈ lw_tbl := lw_at lw_m5 111 rfl
theorem q1119 : (Jvm.Cond.code ({ cls := "java/util/ArrayList$Itr", name := "hasNext", desc := "()Z" } : Jvm.MethodName) prog_34_method_2_code (1 : Nat) (Option.some Jvm.ClassFile.FieldType.boolean)) ∈ lw_all := lw_g (lw_at lw_m5 112 rfl) rfl
theorem q1142 : (Jvm.Cond.selects "java/util/ArrayList$Itr" ({ cls := "java/util/Iterator", name := "next", desc := "()Ljava/lang/Object;" } : Jvm.MethodName) ({ cls := "java/util/ArrayList$Itr", name := "next", desc := "()Ljava/lang/Object;" } : Jvm.MethodName)) ∈ lw_all := lw_g (lw_at lw_m5 135 rfl) rfl
theorem q1143 : (Jvm.Cond.unhidden "java/util/ArrayList$Itr" "next" "()Ljava/lang/Object;") ∈ lw_tbl := lw_at lw_m5 136 rfl
theorem q1144 : (Jvm.Cond.instanceMethod ({ cls := "java/util/ArrayList$Itr", name := "next", desc := "()Ljava/lang/Object;" } : Jvm.MethodName)) ∈ lw_all := lw_g (lw_at lw_m5 137 rfl) rfl
theorem q1145 : (Jvm.Cond.publicMethod ({ cls := "java/util/ArrayList$Itr", name := "next", desc := "()Ljava/lang/Object;" } : Jvm.MethodName)) ∈ lw_tbl := lw_at lw_m5 138 rfl
theorem q1146 : (Jvm.Cond.code ({ cls := "java/util/ArrayList$Itr", name := "next", desc := "()Ljava/lang/Object;" } : Jvm.MethodName) prog_34_method_3_code (3 : Nat) (Option.some (Jvm.ClassFile.FieldType.object "java/lang/Object"))) ∈ lw_all := lw_g (lw_at lw_m5 139 rfl) rfl
theorem q1147 : (Jvm.Cond.methodLink "java/util/ArrayList$Itr" (31 : Nat) ({ cls := "java/util/ArrayList$Itr", name := "checkForComodification", desc := "()V" } : Jvm.MethodName)) ∈ lw_all := lw_g (lw_at lw_m5 140 rfl) rfl
theorem q1148 : (Jvm.Cond.instanceMethod ({ cls := "java/util/ArrayList$Itr", name := "checkForComodification", desc := "()V" } : Jvm.MethodName)) ∈ lw_all := lw_g (lw_at lw_m5 141 rfl) rfl
theorem q1149 : (Jvm.Cond.selects "java/util/ArrayList$Itr" ({ cls := "java/util/ArrayList$Itr", name := "checkForComodification", desc := "()V" } : Jvm.MethodName) ({ cls := "java/util/ArrayList$Itr", name := "checkForComodification", desc := "()V" } : Jvm.MethodName)) ∈ lw_all := lw_g (lw_at lw_m5 142 rfl) rfl
theorem q1150 : (Jvm.Cond.code ({ cls := "java/util/ArrayList$Itr", name := "checkForComodification", desc := "()V" } : Jvm.MethodName) prog_34_method_6_code (1 : Nat) (Option.none : Option Jvm.ClassFile.FieldType)) ∈ lw_all := lw_g (lw_at lw_m5 143 rfl) rfl
theorem q1850 : (Jvm.Cond.castable "java/util/ArrayList$Itr" "java/lang/Object") ∈ lw_tbl := lw_at lw_m8 123 rfl
theorem in_J21 : ∀ w ∈ wsJ210, w ∈ lw_all := lw_in wsJ210 [1095, 1097, 1099, 1101] (by decide +kernel) (by decide +kernel)
/-! java/util/AbstractSet -/
set_option maxRecDepth 100000
def RJ22 : String := "java/util/AbstractSet"
abbrev cJ22_init : ByteArray := prog_30_method_1_code
def yJ22_init : MethodName := ⟨RJ22, "<init>", "()V"⟩
theorem dJ22_init_0 : decode cJ22_init 0 = .ok (.aload_n 0, 1) := by decide +kernel
theorem dJ22_init_1 : decode cJ22_init 1 = .ok (.invokespecial 1, 3) := by decide +kernel
theorem dJ22_init_4 : decode cJ22_init 4 = .ok (.return_, 1) := by decide +kernel
theorem q82 : (Jvm.Cond.initialized "java/util/AbstractSet") ∈ lw_all := lw_g (lw_at lw_m1 35 rfl) rfl
theorem q1189 : (Jvm.Cond.instanceMethod ({ cls := "java/util/AbstractSet", name := "<init>", desc := "()V" } : Jvm.MethodName)) ∈ lw_all := lw_g (lw_at lw_m5 182 rfl) rfl
theorem q1190 : (Jvm.Cond.code ({ cls := "java/util/AbstractSet", name := "<init>", desc := "()V" } : Jvm.MethodName) prog_30_method_1_code (1 : Nat) (Option.none : Option Jvm.ClassFile.FieldType)) ∈ lw_all := lw_g (lw_at lw_m5 183 rfl) rfl
theorem q1191 : (Jvm.Cond.methodLink "java/util/AbstractSet" (1 : Nat) ({ cls := "java/util/AbstractCollection", name := "<init>", desc := "()V" } : Jvm.MethodName)) ∈ lw_all := lw_g (lw_at lw_m5 184 rfl) rfl
/-! java/util/HashMap$EntrySet -/
set_option maxRecDepth 100000
def RJ23 : String := "java/util/HashMap$EntrySet"
def TJ23 : u_T := fun k => match k with
  | _ => ("java/util/HashMap$EntrySet", "this$0", "Ljava/util/HashMap;", true)
def tyJ23 : Nat → FieldType := fun k => match k with
  | _ => .object "java/util/HashMap"
abbrev wsJ230 : List Cond := u_ws RJ23 TJ23 1
theorem nmJ23 : ∀ a, a < 1 → ∀ b, b < 1 → a ≠ b → (TJ23 a).2.1 ≠ (TJ23 b).2.1 := by decide +kernel
theorem tyJ23_ok : ∀ k, k < 1 → parseFieldDescriptor (TJ23 k).2.2.1 = some (tyJ23 k) := by decide +kernel
abbrev cJ23_init : ByteArray := prog_41_method_1_code
def yJ23_init : MethodName := ⟨RJ23, "<init>", "(Ljava/util/HashMap;)V"⟩
def dkwJ23_init_0 : List UInt8 := [42, 43, 181, 0, 1, 42, 183, 0, 7, 177]
abbrev dktJ23_init_0 : List UInt8 := dkwJ23_init_0 ++ []
theorem dksJ23_init_0 : cJ23_init.data.toList.drop 0 = dktJ23_init_0 := by decide +kernel
theorem dJ23_init_0 : decode cJ23_init 0 = .ok (.aload_n 0, 1) := dk_42 (dk_at dksJ23_init_0 0 rfl rfl)
theorem dJ23_init_1 : decode cJ23_init 1 = .ok (.aload_n 1, 1) := dk_43 (dk_at dksJ23_init_0 1 rfl rfl)
theorem dJ23_init_2 : decode cJ23_init 2 = .ok (.putfield 1, 3) := dk_181 0 1 (dk_at dksJ23_init_0 2 rfl rfl)
theorem dJ23_init_5 : decode cJ23_init 5 = .ok (.aload_n 0, 1) := dk_42 (dk_at dksJ23_init_0 5 rfl rfl)
theorem dJ23_init_6 : decode cJ23_init 6 = .ok (.invokespecial 7, 3) := dk_183 0 7 (dk_at dksJ23_init_0 6 rfl rfl)
theorem dJ23_init_9 : decode cJ23_init 9 = .ok (.return_, 1) := dk_177 (dk_at dksJ23_init_0 9 rfl rfl)
abbrev cJ23_iterator : ByteArray := prog_41_method_4_code
def yJ23_iterator : MethodName := ⟨RJ23, "iterator", "()Ljava/util/Iterator;"⟩
def dkwJ23_iterator_0 : List UInt8 := [187, 0, 22, 89, 42, 180, 0, 1, 183, 0, 24, 176]
abbrev dktJ23_iterator_0 : List UInt8 := dkwJ23_iterator_0 ++ []
theorem dksJ23_iterator_0 : cJ23_iterator.data.toList.drop 0 = dktJ23_iterator_0 := by decide +kernel
theorem dJ23_iterator_0 : decode cJ23_iterator 0 = .ok (.new 22, 3) := dk_187 0 22 (dk_at dksJ23_iterator_0 0 rfl rfl)
theorem dJ23_iterator_3 : decode cJ23_iterator 3 = .ok (.dup, 1) := dk_89 (dk_at dksJ23_iterator_0 3 rfl rfl)
theorem dJ23_iterator_4 : decode cJ23_iterator 4 = .ok (.aload_n 0, 1) := dk_42 (dk_at dksJ23_iterator_0 4 rfl rfl)
theorem dJ23_iterator_5 : decode cJ23_iterator 5 = .ok (.getfield 1, 3) := dk_180 0 1 (dk_at dksJ23_iterator_0 5 rfl rfl)
theorem dJ23_iterator_8 : decode cJ23_iterator 8 = .ok (.invokespecial 24, 3) := dk_183 0 24 (dk_at dksJ23_iterator_0 8 rfl rfl)
theorem dJ23_iterator_11 : decode cJ23_iterator 11 = .ok (.areturn, 1) := dk_176 (dk_at dksJ23_iterator_0 11 rfl rfl)
theorem q83 : (Jvm.Cond.initialized "java/util/HashMap$EntrySet") ∈ lw_all := lw_g (lw_at lw_m1 36 rfl) rfl
theorem q568 : (Jvm.Cond.selects "java/util/HashMap$EntrySet" ({ cls := "java/lang/Object", name := "getClass", desc := "()Ljava/lang/Class;" } : Jvm.MethodName) ({ cls := "java/lang/Object", name := "getClass", desc := "()Ljava/lang/Class;" } : Jvm.MethodName)) ∈ lw_all := lw_g (lw_at lw_m3 41 rfl) rfl
theorem q1184 : (Jvm.Cond.instantiable "java/util/HashMap$EntrySet" (1 : Nat)) ∈ lw_all := lw_g (lw_at lw_m5 177 rfl) rfl
theorem q1186 : (Jvm.Cond.instanceMethod ({ cls := "java/util/HashMap$EntrySet", name := "<init>", desc := "(Ljava/util/HashMap;)V" } : Jvm.MethodName)) ∈ lw_all := lw_g (lw_at lw_m5 179 rfl) rfl
theorem q1187 : (Jvm.Cond.code ({ cls := "java/util/HashMap$EntrySet", name := "<init>", desc := "(Ljava/util/HashMap;)V" } : Jvm.MethodName) prog_41_method_1_code (2 : Nat) (Option.none : Option Jvm.ClassFile.FieldType)) ∈ lw_all := lw_g (lw_at lw_m5 180 rfl) rfl
theorem q1188 : (Jvm.Cond.methodLink "java/util/HashMap$EntrySet" (7 : Nat) ({ cls := "java/util/AbstractSet", name := "<init>", desc := "()V" } : Jvm.MethodName)) ∈ lw_all := lw_g (lw_at lw_m5 181 rfl) rfl
theorem q1192 : (Jvm.Cond.fieldLink "java/util/HashMap$EntrySet" (1 : Nat) "java/util/HashMap$EntrySet" "this$0" "Ljava/util/HashMap;") ∈ lw_all := lw_g (lw_at lw_m5 185 rfl) rfl
theorem q1193 : (Jvm.Cond.laysFinal "java/util/HashMap$EntrySet" "java/util/HashMap$EntrySet" "this$0" "Ljava/util/HashMap;") ∈ lw_all := lw_g (lw_at lw_m5 186 rfl) rfl
theorem q1194 : (Jvm.Cond.soleField "java/util/HashMap$EntrySet" "this$0") ∈ lw_all := lw_g (lw_at lw_m5 187 rfl) rfl
theorem q1195 : (Jvm.Cond.superclass "java/util/HashMap$EntrySet" "java/util/AbstractSet") ∈ lw_all := lw_g (lw_at lw_m5 188 rfl) rfl
theorem q1200 : (Jvm.Cond.castable "java/util/HashMap$EntrySet" "java/util/Set") ∈ lw_tbl := lw_at lw_m5 193 rfl
theorem q1201 : (Jvm.Cond.selects "java/util/HashMap$EntrySet" ({ cls := "java/util/Set", name := "iterator", desc := "()Ljava/util/Iterator;" } : Jvm.MethodName) ({ cls := "java/util/HashMap$EntrySet", name := "iterator", desc := "()Ljava/util/Iterator;" } : Jvm.MethodName)) ∈ lw_all := lw_g (lw_at lw_m5 194 rfl) rfl
theorem q1202 : (Jvm.Cond.unhidden "java/util/HashMap$EntrySet" "iterator" "()Ljava/util/Iterator;") ∈ lw_tbl := lw_at lw_m5 195 rfl
theorem q1203 : (Jvm.Cond.instanceMethod ({ cls := "java/util/HashMap$EntrySet", name := "iterator", desc := "()Ljava/util/Iterator;" } : Jvm.MethodName)) ∈ lw_all := lw_g (lw_at lw_m5 196 rfl) rfl
theorem q1204 : (Jvm.Cond.publicMethod ({ cls := "java/util/HashMap$EntrySet", name := "iterator", desc := "()Ljava/util/Iterator;" } : Jvm.MethodName)) ∈ lw_tbl := lw_at lw_m5 197 rfl
theorem q1205 : (Jvm.Cond.code ({ cls := "java/util/HashMap$EntrySet", name := "iterator", desc := "()Ljava/util/Iterator;" } : Jvm.MethodName) prog_41_method_4_code (1 : Nat) (Option.some (Jvm.ClassFile.FieldType.object "java/util/Iterator"))) ∈ lw_all := lw_g (lw_at lw_m5 198 rfl) rfl
theorem q1206 : (Jvm.Cond.classLink "java/util/HashMap$EntrySet" (22 : Nat) "java/util/HashMap$EntryIterator") ∈ lw_all := lw_g (lw_at lw_m5 199 rfl) rfl
theorem q1208 : (Jvm.Cond.methodLink "java/util/HashMap$EntrySet" (24 : Nat) ({ cls := "java/util/HashMap$EntryIterator", name := "<init>", desc := "(Ljava/util/HashMap;)V" } : Jvm.MethodName)) ∈ lw_all := lw_g (lw_at lw_m5 201 rfl) rfl
theorem q1376 : (Jvm.Cond.castable "java/util/HashMap$EntrySet" "java/util/Collection") ∈ lw_tbl := lw_at lw_m6 129 rfl
theorem q1377 : (Jvm.Cond.selects "java/util/HashMap$EntrySet" ({ cls := "java/util/Collection", name := "iterator", desc := "()Ljava/util/Iterator;" } : Jvm.MethodName) ({ cls := "java/util/HashMap$EntrySet", name := "iterator", desc := "()Ljava/util/Iterator;" } : Jvm.MethodName)) ∈ lw_all := lw_g (lw_at lw_m6 130 rfl) rfl
theorem q1851 : (Jvm.Cond.castable "java/util/HashMap$EntrySet" "java/lang/Object") ∈ lw_tbl := lw_at lw_m8 124 rfl
theorem in_J23 : ∀ w ∈ wsJ230, w ∈ lw_all := lw_in wsJ230 [1193] (by decide +kernel) (by decide +kernel)
/-! java/util/HashMap$HashIterator -/
set_option maxRecDepth 100000
def RJ24 : String := "java/util/HashMap$HashIterator"
abbrev cJ24_hasNext : ByteArray := prog_42_method_2_code
def yJ24_hasNext : MethodName := ⟨RJ24, "hasNext", "()Z"⟩
def dkwJ24_hasNext_0 : List UInt8 := [42, 180, 0, 26, 198, 0, 7, 4, 167, 0, 4, 3, 172]
abbrev dktJ24_hasNext_0 : List UInt8 := dkwJ24_hasNext_0 ++ []
theorem dksJ24_hasNext_0 : cJ24_hasNext.data.toList.drop 0 = dktJ24_hasNext_0 := by decide +kernel
theorem dJ24_hasNext_0 : decode cJ24_hasNext 0 = .ok (.aload_n 0, 1) := dk_42 (dk_at dksJ24_hasNext_0 0 rfl rfl)
theorem dJ24_hasNext_1 : decode cJ24_hasNext 1 = .ok (.getfield 26, 3) := dk_180 0 26 (dk_at dksJ24_hasNext_0 1 rfl rfl)
theorem dJ24_hasNext_4 : decode cJ24_hasNext 4 = .ok (.ifnull 7, 3) := dk_198 0 7 (dk_at dksJ24_hasNext_0 4 rfl rfl)
theorem dJ24_hasNext_7 : decode cJ24_hasNext 7 = .ok (.iconst 1, 1) := dk_4 (dk_at dksJ24_hasNext_0 7 rfl rfl)
theorem dJ24_hasNext_8 : decode cJ24_hasNext 8 = .ok (.goto 4, 3) := dk_167 0 4 (dk_at dksJ24_hasNext_0 8 rfl rfl)
theorem dJ24_hasNext_11 : decode cJ24_hasNext 11 = .ok (.iconst 0, 1) := dk_3 (dk_at dksJ24_hasNext_0 11 rfl rfl)
theorem dJ24_hasNext_12 : decode cJ24_hasNext 12 = .ok (.ireturn, 1) := dk_172 (dk_at dksJ24_hasNext_0 12 rfl rfl)
abbrev cJ24_nextNode : ByteArray := prog_42_method_3_code
def yJ24_nextNode : MethodName := ⟨RJ24, "nextNode", "()Ljava/util/HashMap$Node;"⟩
def dkwJ24_nextNode_4 : List UInt8 := [181, 0, 26, 198, 255, 229, 44, 176]
abbrev dktJ24_nextNode_4 : List UInt8 := dkwJ24_nextNode_4 ++ []
def dkwJ24_nextNode_3 : List UInt8 := [180, 0, 33, 43, 190, 162, 0, 24, 42, 43, 42, 89, 180, 0, 33, 90, 4, 96, 181, 0, 33, 50, 90]
abbrev dktJ24_nextNode_3 : List UInt8 := dkwJ24_nextNode_3 ++ dktJ24_nextNode_4
def dkwJ24_nextNode_2 : List UInt8 := [180, 0, 45, 90, 181, 0, 26, 199, 0, 45, 42, 180, 0, 1, 180, 0, 22, 89, 76, 198, 0, 33, 42]
abbrev dktJ24_nextNode_2 : List UInt8 := dkwJ24_nextNode_2 ++ dktJ24_nextNode_3
def dkwJ24_nextNode_1 : List UInt8 := [183, 0, 41, 191, 44, 199, 0, 11, 187, 0, 42, 89, 183, 0, 44, 191, 42, 42, 44, 90, 181, 0, 30]
abbrev dktJ24_nextNode_1 : List UInt8 := dkwJ24_nextNode_1 ++ dktJ24_nextNode_2
def dkwJ24_nextNode_0 : List UInt8 := [42, 180, 0, 26, 77, 42, 180, 0, 1, 180, 0, 13, 42, 180, 0, 19, 159, 0, 11, 187, 0, 39, 89]
abbrev dktJ24_nextNode_0 : List UInt8 := dkwJ24_nextNode_0 ++ dktJ24_nextNode_1
theorem dksJ24_nextNode_0 : cJ24_nextNode.data.toList.drop 0 = dktJ24_nextNode_0 := by decide +kernel
theorem dksJ24_nextNode_1 : cJ24_nextNode.data.toList.drop 23 = dktJ24_nextNode_1 := dk_seg dksJ24_nextNode_0 23 rfl rfl
theorem dksJ24_nextNode_2 : cJ24_nextNode.data.toList.drop 46 = dktJ24_nextNode_2 := dk_seg dksJ24_nextNode_1 23 rfl rfl
theorem dksJ24_nextNode_3 : cJ24_nextNode.data.toList.drop 69 = dktJ24_nextNode_3 := dk_seg dksJ24_nextNode_2 23 rfl rfl
theorem dksJ24_nextNode_4 : cJ24_nextNode.data.toList.drop 92 = dktJ24_nextNode_4 := dk_seg dksJ24_nextNode_3 23 rfl rfl
theorem dJ24_nextNode_0 : decode cJ24_nextNode 0 = .ok (.aload_n 0, 1) := dk_42 (dk_at dksJ24_nextNode_0 0 rfl rfl)
theorem dJ24_nextNode_1 : decode cJ24_nextNode 1 = .ok (.getfield 26, 3) := dk_180 0 26 (dk_at dksJ24_nextNode_0 1 rfl rfl)
theorem dJ24_nextNode_4 : decode cJ24_nextNode 4 = .ok (.astore_n 2, 1) := dk_77 (dk_at dksJ24_nextNode_0 4 rfl rfl)
theorem dJ24_nextNode_5 : decode cJ24_nextNode 5 = .ok (.aload_n 0, 1) := dk_42 (dk_at dksJ24_nextNode_0 5 rfl rfl)
theorem dJ24_nextNode_6 : decode cJ24_nextNode 6 = .ok (.getfield 1, 3) := dk_180 0 1 (dk_at dksJ24_nextNode_0 6 rfl rfl)
theorem dJ24_nextNode_9 : decode cJ24_nextNode 9 = .ok (.getfield 13, 3) := dk_180 0 13 (dk_at dksJ24_nextNode_0 9 rfl rfl)
theorem dJ24_nextNode_12 : decode cJ24_nextNode 12 = .ok (.aload_n 0, 1) := dk_42 (dk_at dksJ24_nextNode_0 12 rfl rfl)
theorem dJ24_nextNode_13 : decode cJ24_nextNode 13 = .ok (.getfield 19, 3) := dk_180 0 19 (dk_at dksJ24_nextNode_0 13 rfl rfl)
theorem dJ24_nextNode_16 : decode cJ24_nextNode 16 = .ok (.if_icmp .eq 11, 3) := dk_159 0 11 (dk_at dksJ24_nextNode_0 16 rfl rfl)
theorem dJ24_nextNode_19 : decode cJ24_nextNode 19 = .ok (.new 39, 3) := dk_187 0 39 (dk_at dksJ24_nextNode_0 19 rfl rfl)
theorem dJ24_nextNode_22 : decode cJ24_nextNode 22 = .ok (.dup, 1) := dk_89 (dk_at dksJ24_nextNode_0 22 rfl rfl)
theorem dJ24_nextNode_23 : decode cJ24_nextNode 23 = .ok (.invokespecial 41, 3) := dk_183 0 41 (dk_at dksJ24_nextNode_1 0 rfl rfl)
theorem dJ24_nextNode_26 : decode cJ24_nextNode 26 = .ok (.athrow, 1) := dk_191 (dk_at dksJ24_nextNode_1 3 rfl rfl)
theorem dJ24_nextNode_27 : decode cJ24_nextNode 27 = .ok (.aload_n 2, 1) := dk_44 (dk_at dksJ24_nextNode_1 4 rfl rfl)
theorem dJ24_nextNode_28 : decode cJ24_nextNode 28 = .ok (.ifnonnull 11, 3) := dk_199 0 11 (dk_at dksJ24_nextNode_1 5 rfl rfl)
theorem dJ24_nextNode_31 : decode cJ24_nextNode 31 = .ok (.new 42, 3) := dk_187 0 42 (dk_at dksJ24_nextNode_1 8 rfl rfl)
theorem dJ24_nextNode_34 : decode cJ24_nextNode 34 = .ok (.dup, 1) := dk_89 (dk_at dksJ24_nextNode_1 11 rfl rfl)
theorem dJ24_nextNode_35 : decode cJ24_nextNode 35 = .ok (.invokespecial 44, 3) := dk_183 0 44 (dk_at dksJ24_nextNode_1 12 rfl rfl)
theorem dJ24_nextNode_38 : decode cJ24_nextNode 38 = .ok (.athrow, 1) := dk_191 (dk_at dksJ24_nextNode_1 15 rfl rfl)
theorem dJ24_nextNode_39 : decode cJ24_nextNode 39 = .ok (.aload_n 0, 1) := dk_42 (dk_at dksJ24_nextNode_1 16 rfl rfl)
theorem dJ24_nextNode_40 : decode cJ24_nextNode 40 = .ok (.aload_n 0, 1) := dk_42 (dk_at dksJ24_nextNode_1 17 rfl rfl)
theorem dJ24_nextNode_41 : decode cJ24_nextNode 41 = .ok (.aload_n 2, 1) := dk_44 (dk_at dksJ24_nextNode_1 18 rfl rfl)
theorem dJ24_nextNode_42 : decode cJ24_nextNode 42 = .ok (.dup_x1, 1) := dk_90 (dk_at dksJ24_nextNode_1 19 rfl rfl)
theorem dJ24_nextNode_43 : decode cJ24_nextNode 43 = .ok (.putfield 30, 3) := dk_181 0 30 (dk_at dksJ24_nextNode_1 20 rfl rfl)
theorem dJ24_nextNode_46 : decode cJ24_nextNode 46 = .ok (.getfield 45, 3) := dk_180 0 45 (dk_at dksJ24_nextNode_2 0 rfl rfl)
theorem dJ24_nextNode_49 : decode cJ24_nextNode 49 = .ok (.dup_x1, 1) := dk_90 (dk_at dksJ24_nextNode_2 3 rfl rfl)
theorem dJ24_nextNode_50 : decode cJ24_nextNode 50 = .ok (.putfield 26, 3) := dk_181 0 26 (dk_at dksJ24_nextNode_2 4 rfl rfl)
theorem dJ24_nextNode_53 : decode cJ24_nextNode 53 = .ok (.ifnonnull 45, 3) := dk_199 0 45 (dk_at dksJ24_nextNode_2 7 rfl rfl)
theorem dJ24_nextNode_56 : decode cJ24_nextNode 56 = .ok (.aload_n 0, 1) := dk_42 (dk_at dksJ24_nextNode_2 10 rfl rfl)
theorem dJ24_nextNode_57 : decode cJ24_nextNode 57 = .ok (.getfield 1, 3) := dk_180 0 1 (dk_at dksJ24_nextNode_2 11 rfl rfl)
theorem dJ24_nextNode_60 : decode cJ24_nextNode 60 = .ok (.getfield 22, 3) := dk_180 0 22 (dk_at dksJ24_nextNode_2 14 rfl rfl)
theorem dJ24_nextNode_63 : decode cJ24_nextNode 63 = .ok (.dup, 1) := dk_89 (dk_at dksJ24_nextNode_2 17 rfl rfl)
theorem dJ24_nextNode_64 : decode cJ24_nextNode 64 = .ok (.astore_n 1, 1) := dk_76 (dk_at dksJ24_nextNode_2 18 rfl rfl)
theorem dJ24_nextNode_65 : decode cJ24_nextNode 65 = .ok (.ifnull 33, 3) := dk_198 0 33 (dk_at dksJ24_nextNode_2 19 rfl rfl)
theorem dJ24_nextNode_68 : decode cJ24_nextNode 68 = .ok (.aload_n 0, 1) := dk_42 (dk_at dksJ24_nextNode_2 22 rfl rfl)
theorem dJ24_nextNode_69 : decode cJ24_nextNode 69 = .ok (.getfield 33, 3) := dk_180 0 33 (dk_at dksJ24_nextNode_3 0 rfl rfl)
theorem dJ24_nextNode_72 : decode cJ24_nextNode 72 = .ok (.aload_n 1, 1) := dk_43 (dk_at dksJ24_nextNode_3 3 rfl rfl)
theorem dJ24_nextNode_73 : decode cJ24_nextNode 73 = .ok (.arraylength, 1) := dk_190 (dk_at dksJ24_nextNode_3 4 rfl rfl)
theorem dJ24_nextNode_74 : decode cJ24_nextNode 74 = .ok (.if_icmp .ge 24, 3) := dk_162 0 24 (dk_at dksJ24_nextNode_3 5 rfl rfl)
theorem dJ24_nextNode_77 : decode cJ24_nextNode 77 = .ok (.aload_n 0, 1) := dk_42 (dk_at dksJ24_nextNode_3 8 rfl rfl)
theorem dJ24_nextNode_78 : decode cJ24_nextNode 78 = .ok (.aload_n 1, 1) := dk_43 (dk_at dksJ24_nextNode_3 9 rfl rfl)
theorem dJ24_nextNode_79 : decode cJ24_nextNode 79 = .ok (.aload_n 0, 1) := dk_42 (dk_at dksJ24_nextNode_3 10 rfl rfl)
theorem dJ24_nextNode_80 : decode cJ24_nextNode 80 = .ok (.dup, 1) := dk_89 (dk_at dksJ24_nextNode_3 11 rfl rfl)
theorem dJ24_nextNode_81 : decode cJ24_nextNode 81 = .ok (.getfield 33, 3) := dk_180 0 33 (dk_at dksJ24_nextNode_3 12 rfl rfl)
theorem dJ24_nextNode_84 : decode cJ24_nextNode 84 = .ok (.dup_x1, 1) := dk_90 (dk_at dksJ24_nextNode_3 15 rfl rfl)
theorem dJ24_nextNode_85 : decode cJ24_nextNode 85 = .ok (.iconst 1, 1) := dk_4 (dk_at dksJ24_nextNode_3 16 rfl rfl)
theorem dJ24_nextNode_86 : decode cJ24_nextNode 86 = .ok (.iadd, 1) := dk_96 (dk_at dksJ24_nextNode_3 17 rfl rfl)
theorem dJ24_nextNode_87 : decode cJ24_nextNode 87 = .ok (.putfield 33, 3) := dk_181 0 33 (dk_at dksJ24_nextNode_3 18 rfl rfl)
theorem dJ24_nextNode_90 : decode cJ24_nextNode 90 = .ok (.aaload, 1) := dk_50 (dk_at dksJ24_nextNode_3 21 rfl rfl)
theorem dJ24_nextNode_91 : decode cJ24_nextNode 91 = .ok (.dup_x1, 1) := dk_90 (dk_at dksJ24_nextNode_3 22 rfl rfl)
theorem dJ24_nextNode_92 : decode cJ24_nextNode 92 = .ok (.putfield 26, 3) := dk_181 0 26 (dk_at dksJ24_nextNode_4 0 rfl rfl)
theorem dJ24_nextNode_95 : decode cJ24_nextNode 95 = .ok (.ifnull (-27), 3) := dk_198 255 229 (dk_at dksJ24_nextNode_4 3 rfl rfl)
theorem dJ24_nextNode_98 : decode cJ24_nextNode 98 = .ok (.aload_n 2, 1) := dk_44 (dk_at dksJ24_nextNode_4 6 rfl rfl)
theorem dJ24_nextNode_99 : decode cJ24_nextNode 99 = .ok (.areturn, 1) := dk_176 (dk_at dksJ24_nextNode_4 7 rfl rfl)
abbrev cJ24_init : ByteArray := prog_42_method_1_code
def yJ24_init : MethodName := ⟨RJ24, "<init>", "(Ljava/util/HashMap;)V"⟩
def dkwJ24_init_3 : List UInt8 := [181, 0, 26, 198, 255, 229, 177]
abbrev dktJ24_init_3 : List UInt8 := dkwJ24_init_3 ++ []
def dkwJ24_init_2 : List UInt8 := [42, 180, 0, 33, 44, 190, 162, 0, 24, 42, 44, 42, 89, 180, 0, 33, 90, 4, 96, 181, 0, 33, 50, 90]
abbrev dktJ24_init_2 : List UInt8 := dkwJ24_init_2 ++ dktJ24_init_3
def dkwJ24_init_1 : List UInt8 := [1, 90, 181, 0, 26, 181, 0, 30, 42, 3, 181, 0, 33, 44, 198, 0, 40, 43, 180, 0, 36, 158, 0, 33]
abbrev dktJ24_init_1 : List UInt8 := dkwJ24_init_1 ++ dktJ24_init_2
def dkwJ24_init_0 : List UInt8 := [42, 43, 181, 0, 1, 42, 183, 0, 7, 42, 43, 180, 0, 13, 181, 0, 19, 43, 180, 0, 22, 77, 42, 42]
abbrev dktJ24_init_0 : List UInt8 := dkwJ24_init_0 ++ dktJ24_init_1
theorem dksJ24_init_0 : cJ24_init.data.toList.drop 0 = dktJ24_init_0 := by decide +kernel
theorem dksJ24_init_1 : cJ24_init.data.toList.drop 24 = dktJ24_init_1 := dk_seg dksJ24_init_0 24 rfl rfl
theorem dksJ24_init_2 : cJ24_init.data.toList.drop 48 = dktJ24_init_2 := dk_seg dksJ24_init_1 24 rfl rfl
theorem dksJ24_init_3 : cJ24_init.data.toList.drop 72 = dktJ24_init_3 := dk_seg dksJ24_init_2 24 rfl rfl
theorem dJ24_init_0 : decode cJ24_init 0 = .ok (.aload_n 0, 1) := dk_42 (dk_at dksJ24_init_0 0 rfl rfl)
theorem dJ24_init_1 : decode cJ24_init 1 = .ok (.aload_n 1, 1) := dk_43 (dk_at dksJ24_init_0 1 rfl rfl)
theorem dJ24_init_2 : decode cJ24_init 2 = .ok (.putfield 1, 3) := dk_181 0 1 (dk_at dksJ24_init_0 2 rfl rfl)
theorem dJ24_init_5 : decode cJ24_init 5 = .ok (.aload_n 0, 1) := dk_42 (dk_at dksJ24_init_0 5 rfl rfl)
theorem dJ24_init_6 : decode cJ24_init 6 = .ok (.invokespecial 7, 3) := dk_183 0 7 (dk_at dksJ24_init_0 6 rfl rfl)
theorem dJ24_init_9 : decode cJ24_init 9 = .ok (.aload_n 0, 1) := dk_42 (dk_at dksJ24_init_0 9 rfl rfl)
theorem dJ24_init_10 : decode cJ24_init 10 = .ok (.aload_n 1, 1) := dk_43 (dk_at dksJ24_init_0 10 rfl rfl)
theorem dJ24_init_11 : decode cJ24_init 11 = .ok (.getfield 13, 3) := dk_180 0 13 (dk_at dksJ24_init_0 11 rfl rfl)
theorem dJ24_init_14 : decode cJ24_init 14 = .ok (.putfield 19, 3) := dk_181 0 19 (dk_at dksJ24_init_0 14 rfl rfl)
theorem dJ24_init_17 : decode cJ24_init 17 = .ok (.aload_n 1, 1) := dk_43 (dk_at dksJ24_init_0 17 rfl rfl)
theorem dJ24_init_18 : decode cJ24_init 18 = .ok (.getfield 22, 3) := dk_180 0 22 (dk_at dksJ24_init_0 18 rfl rfl)
theorem dJ24_init_21 : decode cJ24_init 21 = .ok (.astore_n 2, 1) := dk_77 (dk_at dksJ24_init_0 21 rfl rfl)
theorem dJ24_init_22 : decode cJ24_init 22 = .ok (.aload_n 0, 1) := dk_42 (dk_at dksJ24_init_0 22 rfl rfl)
theorem dJ24_init_23 : decode cJ24_init 23 = .ok (.aload_n 0, 1) := dk_42 (dk_at dksJ24_init_0 23 rfl rfl)
theorem dJ24_init_24 : decode cJ24_init 24 = .ok (.aconst_null, 1) := dk_1 (dk_at dksJ24_init_1 0 rfl rfl)
theorem dJ24_init_25 : decode cJ24_init 25 = .ok (.dup_x1, 1) := dk_90 (dk_at dksJ24_init_1 1 rfl rfl)
theorem dJ24_init_26 : decode cJ24_init 26 = .ok (.putfield 26, 3) := dk_181 0 26 (dk_at dksJ24_init_1 2 rfl rfl)
theorem dJ24_init_29 : decode cJ24_init 29 = .ok (.putfield 30, 3) := dk_181 0 30 (dk_at dksJ24_init_1 5 rfl rfl)
theorem dJ24_init_32 : decode cJ24_init 32 = .ok (.aload_n 0, 1) := dk_42 (dk_at dksJ24_init_1 8 rfl rfl)
theorem dJ24_init_33 : decode cJ24_init 33 = .ok (.iconst 0, 1) := dk_3 (dk_at dksJ24_init_1 9 rfl rfl)
theorem dJ24_init_34 : decode cJ24_init 34 = .ok (.putfield 33, 3) := dk_181 0 33 (dk_at dksJ24_init_1 10 rfl rfl)
theorem dJ24_init_37 : decode cJ24_init 37 = .ok (.aload_n 2, 1) := dk_44 (dk_at dksJ24_init_1 13 rfl rfl)
theorem dJ24_init_38 : decode cJ24_init 38 = .ok (.ifnull 40, 3) := dk_198 0 40 (dk_at dksJ24_init_1 14 rfl rfl)
theorem dJ24_init_41 : decode cJ24_init 41 = .ok (.aload_n 1, 1) := dk_43 (dk_at dksJ24_init_1 17 rfl rfl)
theorem dJ24_init_42 : decode cJ24_init 42 = .ok (.getfield 36, 3) := dk_180 0 36 (dk_at dksJ24_init_1 18 rfl rfl)
theorem dJ24_init_45 : decode cJ24_init 45 = .ok (.ifCond .le 33, 3) := dk_158 0 33 (dk_at dksJ24_init_1 21 rfl rfl)
theorem dJ24_init_48 : decode cJ24_init 48 = .ok (.aload_n 0, 1) := dk_42 (dk_at dksJ24_init_2 0 rfl rfl)
theorem dJ24_init_49 : decode cJ24_init 49 = .ok (.getfield 33, 3) := dk_180 0 33 (dk_at dksJ24_init_2 1 rfl rfl)
theorem dJ24_init_52 : decode cJ24_init 52 = .ok (.aload_n 2, 1) := dk_44 (dk_at dksJ24_init_2 4 rfl rfl)
theorem dJ24_init_53 : decode cJ24_init 53 = .ok (.arraylength, 1) := dk_190 (dk_at dksJ24_init_2 5 rfl rfl)
theorem dJ24_init_54 : decode cJ24_init 54 = .ok (.if_icmp .ge 24, 3) := dk_162 0 24 (dk_at dksJ24_init_2 6 rfl rfl)
theorem dJ24_init_57 : decode cJ24_init 57 = .ok (.aload_n 0, 1) := dk_42 (dk_at dksJ24_init_2 9 rfl rfl)
theorem dJ24_init_58 : decode cJ24_init 58 = .ok (.aload_n 2, 1) := dk_44 (dk_at dksJ24_init_2 10 rfl rfl)
theorem dJ24_init_59 : decode cJ24_init 59 = .ok (.aload_n 0, 1) := dk_42 (dk_at dksJ24_init_2 11 rfl rfl)
theorem dJ24_init_60 : decode cJ24_init 60 = .ok (.dup, 1) := dk_89 (dk_at dksJ24_init_2 12 rfl rfl)
theorem dJ24_init_61 : decode cJ24_init 61 = .ok (.getfield 33, 3) := dk_180 0 33 (dk_at dksJ24_init_2 13 rfl rfl)
theorem dJ24_init_64 : decode cJ24_init 64 = .ok (.dup_x1, 1) := dk_90 (dk_at dksJ24_init_2 16 rfl rfl)
theorem dJ24_init_65 : decode cJ24_init 65 = .ok (.iconst 1, 1) := dk_4 (dk_at dksJ24_init_2 17 rfl rfl)
theorem dJ24_init_66 : decode cJ24_init 66 = .ok (.iadd, 1) := dk_96 (dk_at dksJ24_init_2 18 rfl rfl)
theorem dJ24_init_67 : decode cJ24_init 67 = .ok (.putfield 33, 3) := dk_181 0 33 (dk_at dksJ24_init_2 19 rfl rfl)
theorem dJ24_init_70 : decode cJ24_init 70 = .ok (.aaload, 1) := dk_50 (dk_at dksJ24_init_2 22 rfl rfl)
theorem dJ24_init_71 : decode cJ24_init 71 = .ok (.dup_x1, 1) := dk_90 (dk_at dksJ24_init_2 23 rfl rfl)
theorem dJ24_init_72 : decode cJ24_init 72 = .ok (.putfield 26, 3) := dk_181 0 26 (dk_at dksJ24_init_3 0 rfl rfl)
theorem dJ24_init_75 : decode cJ24_init 75 = .ok (.ifnull (-27), 3) := dk_198 255 229 (dk_at dksJ24_init_3 3 rfl rfl)
theorem dJ24_init_78 : decode cJ24_init 78 = .ok (.return_, 1) := dk_177 (dk_at dksJ24_init_3 6 rfl rfl)
theorem q84 : (Jvm.Cond.initialized "java/util/HashMap$HashIterator") ∈ lw_all := lw_g (lw_at lw_m1 37 rfl) rfl
theorem q292 : (Jvm.Cond.fieldLink "java/util/HashMap$HashIterator" (22 : Nat) "java/util/HashMap" "table" "[Ljava/util/HashMap$Node;") ∈ lw_all := lw_g (lw_at lw_m2 5 rfl) rfl
theorem q295 : (Jvm.Cond.fieldLink "java/util/HashMap$HashIterator" (36 : Nat) "java/util/HashMap" "size" "I") ∈ lw_all := lw_g (lw_at lw_m2 8 rfl) rfl
theorem q297 : (Jvm.Cond.fieldLink "java/util/HashMap$HashIterator" (13 : Nat) "java/util/HashMap" "modCount" "I") ∈ lw_all := lw_g (lw_at lw_m2 10 rfl) rfl
theorem q828 : (Jvm.Cond.fieldLink "java/util/HashMap$HashIterator" (45 : Nat) "java/util/HashMap$Node" "next" "Ljava/util/HashMap$Node;") ∈ lw_all := lw_g (lw_at lw_m4 61 rfl) rfl
theorem q1123 : (Jvm.Cond.instanceMethod ({ cls := "java/util/HashMap$HashIterator", name := "hasNext", desc := "()Z" } : Jvm.MethodName)) ∈ lw_all := lw_g (lw_at lw_m5 116 rfl) rfl
theorem q1124 : (Jvm.Cond.publicMethod ({ cls := "java/util/HashMap$HashIterator", name := "hasNext", desc := "()Z" } : Jvm.MethodName)) ∈ lw_tbl := lw_at lw_m5 117 rfl
theorem q1125 : (Jvm.Cond.code ({ cls := "java/util/HashMap$HashIterator", name := "hasNext", desc := "()Z" } : Jvm.MethodName) prog_42_method_2_code (1 : Nat) (Option.some Jvm.ClassFile.FieldType.boolean)) ∈ lw_all := lw_g (lw_at lw_m5 118 rfl) rfl
theorem q1162 : (Jvm.Cond.declares ({ cls := "java/util/HashMap$HashIterator", name := "nextNode", desc := "()Ljava/util/HashMap$Node;" } : Jvm.MethodName)) ∈ lw_tbl := lw_at lw_m5 155 rfl
theorem q1164 : (Jvm.Cond.instanceMethod ({ cls := "java/util/HashMap$HashIterator", name := "nextNode", desc := "()Ljava/util/HashMap$Node;" } : Jvm.MethodName)) ∈ lw_all := lw_g (lw_at lw_m5 157 rfl) rfl
theorem q1165 : (Jvm.Cond.code ({ cls := "java/util/HashMap$HashIterator", name := "nextNode", desc := "()Ljava/util/HashMap$Node;" } : Jvm.MethodName) prog_42_method_3_code (3 : Nat) (Option.some (Jvm.ClassFile.FieldType.object "java/util/HashMap$Node"))) ∈ lw_all := lw_g (lw_at lw_m5 158 rfl) rfl
theorem q1212 : (Jvm.Cond.instanceMethod ({ cls := "java/util/HashMap$HashIterator", name := "<init>", desc := "(Ljava/util/HashMap;)V" } : Jvm.MethodName)) ∈ lw_all := lw_g (lw_at lw_m5 205 rfl) rfl
theorem q1213 : (Jvm.Cond.code ({ cls := "java/util/HashMap$HashIterator", name := "<init>", desc := "(Ljava/util/HashMap;)V" } : Jvm.MethodName) prog_42_method_1_code (3 : Nat) (Option.none : Option Jvm.ClassFile.FieldType)) ∈ lw_all := lw_g (lw_at lw_m5 206 rfl) rfl
theorem q1214 : (Jvm.Cond.methodLink "java/util/HashMap$HashIterator" (7 : Nat) ({ cls := "java/lang/Object", name := "<init>", desc := "()V" } : Jvm.MethodName)) ∈ lw_all := lw_g (lw_at lw_m5 207 rfl) rfl
theorem q1215 : (Jvm.Cond.fieldLink "java/util/HashMap$HashIterator" (26 : Nat) "java/util/HashMap$HashIterator" "next" "Ljava/util/HashMap$Node;") ∈ lw_all := lw_g (lw_at lw_m5 208 rfl) rfl
theorem q1216 : (Jvm.Cond.fieldLink "java/util/HashMap$HashIterator" (30 : Nat) "java/util/HashMap$HashIterator" "current" "Ljava/util/HashMap$Node;") ∈ lw_all := lw_g (lw_at lw_m5 209 rfl) rfl
theorem q1217 : (Jvm.Cond.fieldLink "java/util/HashMap$HashIterator" (19 : Nat) "java/util/HashMap$HashIterator" "expectedModCount" "I") ∈ lw_all := lw_g (lw_at lw_m5 210 rfl) rfl
theorem q1218 : (Jvm.Cond.fieldLink "java/util/HashMap$HashIterator" (33 : Nat) "java/util/HashMap$HashIterator" "index" "I") ∈ lw_all := lw_g (lw_at lw_m5 211 rfl) rfl
theorem q1219 : (Jvm.Cond.fieldLink "java/util/HashMap$HashIterator" (1 : Nat) "java/util/HashMap$HashIterator" "this$0" "Ljava/util/HashMap;") ∈ lw_all := lw_g (lw_at lw_m5 212 rfl) rfl
theorem q1221 : (Jvm.Cond.soleField "java/util/HashMap$HashIterator" "next") ∈ lw_all := lw_g (lw_at lw_m5 214 rfl) rfl
theorem q1223 : (Jvm.Cond.soleField "java/util/HashMap$HashIterator" "current") ∈ lw_all := lw_g (lw_at lw_m5 216 rfl) rfl
theorem q1225 : (Jvm.Cond.soleField "java/util/HashMap$HashIterator" "expectedModCount") ∈ lw_all := lw_g (lw_at lw_m5 218 rfl) rfl
theorem q1227 : (Jvm.Cond.soleField "java/util/HashMap$HashIterator" "index") ∈ lw_all := lw_g (lw_at lw_m5 220 rfl) rfl
theorem q1229 : (Jvm.Cond.soleField "java/util/HashMap$HashIterator" "this$0") ∈ lw_all := lw_g (lw_at lw_m5 222 rfl) rfl
/-! java/util/HashMap$EntryIterator -/
set_option maxRecDepth 100000
def RJ25 : String := "java/util/HashMap$EntryIterator"
def TJ25 : u_T := fun k => match k with
  | 0 => ("java/util/HashMap$HashIterator", "next", "Ljava/util/HashMap$Node;", false)
  | 1 => ("java/util/HashMap$HashIterator", "current", "Ljava/util/HashMap$Node;", false)
  | 2 => ("java/util/HashMap$HashIterator", "expectedModCount", "I", false)
  | 3 => ("java/util/HashMap$HashIterator", "index", "I", false)
  | _ => ("java/util/HashMap$HashIterator", "this$0", "Ljava/util/HashMap;", true)
def tyJ25 : Nat → FieldType := fun k => match k with
  | 0 => .object "java/util/HashMap$Node"
  | 1 => .object "java/util/HashMap$Node"
  | 2 => .int
  | 3 => .int
  | _ => .object "java/util/HashMap"
abbrev wsJ250 : List Cond := u_ws RJ25 TJ25 5
theorem nmJ25 : ∀ a, a < 5 → ∀ b, b < 5 → a ≠ b → (TJ25 a).2.1 ≠ (TJ25 b).2.1 := by decide +kernel
theorem tyJ25_ok : ∀ k, k < 5 → parseFieldDescriptor (TJ25 k).2.2.1 = some (tyJ25 k) := by decide +kernel
abbrev cJ25_next : ByteArray := prog_40_method_3_code
def yJ25_next : MethodName := ⟨RJ25, "next", "()Ljava/lang/Object;"⟩
theorem dJ25_next_0 : decode cJ25_next 0 = .ok (.aload_n 0, 1) := by decide +kernel
theorem dJ25_next_1 : decode cJ25_next 1 = .ok (.invokevirtual 13, 3) := by decide +kernel
theorem dJ25_next_4 : decode cJ25_next 4 = .ok (.areturn, 1) := by decide +kernel
abbrev cJ25_next_2 : ByteArray := prog_40_method_2_code
def yJ25_next_2 : MethodName := ⟨RJ25, "next", "()Ljava/util/Map$Entry;"⟩
theorem dJ25_next_2_0 : decode cJ25_next_2 0 = .ok (.aload_n 0, 1) := by decide +kernel
theorem dJ25_next_2_1 : decode cJ25_next_2 1 = .ok (.invokevirtual 7, 3) := by decide +kernel
theorem dJ25_next_2_4 : decode cJ25_next_2 4 = .ok (.areturn, 1) := by decide +kernel
abbrev cJ25_init : ByteArray := prog_40_method_1_code
def yJ25_init : MethodName := ⟨RJ25, "<init>", "(Ljava/util/HashMap;)V"⟩
def dkwJ25_init_0 : List UInt8 := [42, 43, 183, 0, 1, 177]
abbrev dktJ25_init_0 : List UInt8 := dkwJ25_init_0 ++ []
theorem dksJ25_init_0 : cJ25_init.data.toList.drop 0 = dktJ25_init_0 := by decide +kernel
theorem dJ25_init_0 : decode cJ25_init 0 = .ok (.aload_n 0, 1) := dk_42 (dk_at dksJ25_init_0 0 rfl rfl)
theorem dJ25_init_1 : decode cJ25_init 1 = .ok (.aload_n 1, 1) := dk_43 (dk_at dksJ25_init_0 1 rfl rfl)
theorem dJ25_init_2 : decode cJ25_init 2 = .ok (.invokespecial 1, 3) := dk_183 0 1 (dk_at dksJ25_init_0 2 rfl rfl)
theorem dJ25_init_5 : decode cJ25_init 5 = .ok (.return_, 1) := dk_177 (dk_at dksJ25_init_0 5 rfl rfl)
theorem q85 : (Jvm.Cond.initialized "java/util/HashMap$EntryIterator") ∈ lw_all := lw_g (lw_at lw_m1 38 rfl) rfl
theorem q567 : (Jvm.Cond.selects "java/util/HashMap$EntryIterator" ({ cls := "java/lang/Object", name := "getClass", desc := "()Ljava/lang/Class;" } : Jvm.MethodName) ({ cls := "java/lang/Object", name := "getClass", desc := "()Ljava/lang/Class;" } : Jvm.MethodName)) ∈ lw_all := lw_g (lw_at lw_m3 40 rfl) rfl
theorem q1120 : (Jvm.Cond.castable "java/util/HashMap$EntryIterator" "java/util/Iterator") ∈ lw_tbl := lw_at lw_m5 113 rfl
theorem q1121 : (Jvm.Cond.selects "java/util/HashMap$EntryIterator" ({ cls := "java/util/Iterator", name := "hasNext", desc := "()Z" } : Jvm.MethodName) ({ cls := "java/util/HashMap$HashIterator", name := "hasNext", desc := "()Z" } : Jvm.MethodName)) ∈ lw_all := lw_g (lw_at lw_m5 114 rfl) rfl
theorem q1122 : (Jvm.Cond.unhidden "java/util/HashMap$EntryIterator" "hasNext" "()Z") ∈ lw_tbl := lw_at lw_m5 115 rfl
theorem q1151 : (Jvm.Cond.selects "java/util/HashMap$EntryIterator" ({ cls := "java/util/Iterator", name := "next", desc := "()Ljava/lang/Object;" } : Jvm.MethodName) ({ cls := "java/util/HashMap$EntryIterator", name := "next", desc := "()Ljava/lang/Object;" } : Jvm.MethodName)) ∈ lw_all := lw_g (lw_at lw_m5 144 rfl) rfl
theorem q1152 : (Jvm.Cond.unhidden "java/util/HashMap$EntryIterator" "next" "()Ljava/lang/Object;") ∈ lw_tbl := lw_at lw_m5 145 rfl
theorem q1153 : (Jvm.Cond.instanceMethod ({ cls := "java/util/HashMap$EntryIterator", name := "next", desc := "()Ljava/lang/Object;" } : Jvm.MethodName)) ∈ lw_all := lw_g (lw_at lw_m5 146 rfl) rfl
theorem q1154 : (Jvm.Cond.publicMethod ({ cls := "java/util/HashMap$EntryIterator", name := "next", desc := "()Ljava/lang/Object;" } : Jvm.MethodName)) ∈ lw_tbl := lw_at lw_m5 147 rfl
theorem q1155 : (Jvm.Cond.code ({ cls := "java/util/HashMap$EntryIterator", name := "next", desc := "()Ljava/lang/Object;" } : Jvm.MethodName) prog_40_method_3_code (1 : Nat) (Option.some (Jvm.ClassFile.FieldType.object "java/lang/Object"))) ∈ lw_all := lw_g (lw_at lw_m5 148 rfl) rfl
theorem q1156 : (Jvm.Cond.methodLink "java/util/HashMap$EntryIterator" (13 : Nat) ({ cls := "java/util/HashMap$EntryIterator", name := "next", desc := "()Ljava/util/Map$Entry;" } : Jvm.MethodName)) ∈ lw_all := lw_g (lw_at lw_m5 149 rfl) rfl
theorem q1157 : (Jvm.Cond.instanceMethod ({ cls := "java/util/HashMap$EntryIterator", name := "next", desc := "()Ljava/util/Map$Entry;" } : Jvm.MethodName)) ∈ lw_all := lw_g (lw_at lw_m5 150 rfl) rfl
theorem q1158 : (Jvm.Cond.selects "java/util/HashMap$EntryIterator" ({ cls := "java/util/HashMap$EntryIterator", name := "next", desc := "()Ljava/util/Map$Entry;" } : Jvm.MethodName) ({ cls := "java/util/HashMap$EntryIterator", name := "next", desc := "()Ljava/util/Map$Entry;" } : Jvm.MethodName)) ∈ lw_all := lw_g (lw_at lw_m5 151 rfl) rfl
theorem q1159 : (Jvm.Cond.code ({ cls := "java/util/HashMap$EntryIterator", name := "next", desc := "()Ljava/util/Map$Entry;" } : Jvm.MethodName) prog_40_method_2_code (1 : Nat) (Option.some (Jvm.ClassFile.FieldType.object "java/util/Map$Entry"))) ∈ lw_all := lw_g (lw_at lw_m5 152 rfl) rfl
theorem q1160 : (Jvm.Cond.methodLink "java/util/HashMap$EntryIterator" (7 : Nat) ({ cls := "java/util/HashMap$EntryIterator", name := "nextNode", desc := "()Ljava/util/HashMap$Node;" } : Jvm.MethodName)) ∈ lw_all := lw_g (lw_at lw_m5 153 rfl) rfl
theorem q1161 : (Jvm.Cond.sameMethod "java/util/HashMap$EntryIterator" "java/util/HashMap$HashIterator" "nextNode" "()Ljava/util/HashMap$Node;") ∈ lw_all := lw_g (lw_at lw_m5 154 rfl) rfl
theorem q1163 : (Jvm.Cond.selects "java/util/HashMap$EntryIterator" ({ cls := "java/util/HashMap$EntryIterator", name := "nextNode", desc := "()Ljava/util/HashMap$Node;" } : Jvm.MethodName) ({ cls := "java/util/HashMap$HashIterator", name := "nextNode", desc := "()Ljava/util/HashMap$Node;" } : Jvm.MethodName)) ∈ lw_all := lw_g (lw_at lw_m5 156 rfl) rfl
theorem q1207 : (Jvm.Cond.instantiable "java/util/HashMap$EntryIterator" (5 : Nat)) ∈ lw_all := lw_g (lw_at lw_m5 200 rfl) rfl
theorem q1209 : (Jvm.Cond.instanceMethod ({ cls := "java/util/HashMap$EntryIterator", name := "<init>", desc := "(Ljava/util/HashMap;)V" } : Jvm.MethodName)) ∈ lw_all := lw_g (lw_at lw_m5 202 rfl) rfl
theorem q1210 : (Jvm.Cond.code ({ cls := "java/util/HashMap$EntryIterator", name := "<init>", desc := "(Ljava/util/HashMap;)V" } : Jvm.MethodName) prog_40_method_1_code (2 : Nat) (Option.none : Option Jvm.ClassFile.FieldType)) ∈ lw_all := lw_g (lw_at lw_m5 203 rfl) rfl
theorem q1211 : (Jvm.Cond.methodLink "java/util/HashMap$EntryIterator" (1 : Nat) ({ cls := "java/util/HashMap$HashIterator", name := "<init>", desc := "(Ljava/util/HashMap;)V" } : Jvm.MethodName)) ∈ lw_all := lw_g (lw_at lw_m5 204 rfl) rfl
theorem q1220 : (Jvm.Cond.lays "java/util/HashMap$EntryIterator" "java/util/HashMap$HashIterator" "next" "Ljava/util/HashMap$Node;") ∈ lw_all := lw_g (lw_at lw_m5 213 rfl) rfl
theorem q1222 : (Jvm.Cond.lays "java/util/HashMap$EntryIterator" "java/util/HashMap$HashIterator" "current" "Ljava/util/HashMap$Node;") ∈ lw_all := lw_g (lw_at lw_m5 215 rfl) rfl
theorem q1224 : (Jvm.Cond.lays "java/util/HashMap$EntryIterator" "java/util/HashMap$HashIterator" "expectedModCount" "I") ∈ lw_all := lw_g (lw_at lw_m5 217 rfl) rfl
theorem q1226 : (Jvm.Cond.lays "java/util/HashMap$EntryIterator" "java/util/HashMap$HashIterator" "index" "I") ∈ lw_all := lw_g (lw_at lw_m5 219 rfl) rfl
theorem q1228 : (Jvm.Cond.laysFinal "java/util/HashMap$EntryIterator" "java/util/HashMap$HashIterator" "this$0" "Ljava/util/HashMap;") ∈ lw_all := lw_g (lw_at lw_m5 221 rfl) rfl
theorem q1230 : (Jvm.Cond.superclass "java/util/HashMap$EntryIterator" "java/util/HashMap$HashIterator") ∈ lw_all := lw_g (lw_at lw_m5 223 rfl) rfl
theorem q1852 : (Jvm.Cond.castable "java/util/HashMap$EntryIterator" "java/lang/Object") ∈ lw_tbl := lw_at lw_m8 125 rfl
theorem in_J25 : ∀ w ∈ wsJ250, w ∈ lw_all := lw_in wsJ250 [1220, 1222, 1224, 1226, 1228] (by decide +kernel) (by decide +kernel)
/-! java/util/HashMap$Values -/
set_option maxRecDepth 100000
def RJ26 : String := "java/util/HashMap$Values"
def TJ26 : u_T := fun k => match k with
  | _ => ("java/util/HashMap$Values", "this$0", "Ljava/util/HashMap;", true)
def tyJ26 : Nat → FieldType := fun k => match k with
  | _ => .object "java/util/HashMap"
abbrev wsJ260 : List Cond := u_ws RJ26 TJ26 1
theorem nmJ26 : ∀ a, a < 1 → ∀ b, b < 1 → a ≠ b → (TJ26 a).2.1 ≠ (TJ26 b).2.1 := by decide +kernel
theorem tyJ26_ok : ∀ k, k < 1 → parseFieldDescriptor (TJ26 k).2.2.1 = some (tyJ26 k) := by decide +kernel
abbrev cJ26_init : ByteArray := prog_46_method_1_code
def yJ26_init : MethodName := ⟨RJ26, "<init>", "(Ljava/util/HashMap;)V"⟩
def dkwJ26_init_0 : List UInt8 := [42, 43, 181, 0, 1, 42, 183, 0, 7, 177]
abbrev dktJ26_init_0 : List UInt8 := dkwJ26_init_0 ++ []
theorem dksJ26_init_0 : cJ26_init.data.toList.drop 0 = dktJ26_init_0 := by decide +kernel
theorem dJ26_init_0 : decode cJ26_init 0 = .ok (.aload_n 0, 1) := dk_42 (dk_at dksJ26_init_0 0 rfl rfl)
theorem dJ26_init_1 : decode cJ26_init 1 = .ok (.aload_n 1, 1) := dk_43 (dk_at dksJ26_init_0 1 rfl rfl)
theorem dJ26_init_2 : decode cJ26_init 2 = .ok (.putfield 1, 3) := dk_181 0 1 (dk_at dksJ26_init_0 2 rfl rfl)
theorem dJ26_init_5 : decode cJ26_init 5 = .ok (.aload_n 0, 1) := dk_42 (dk_at dksJ26_init_0 5 rfl rfl)
theorem dJ26_init_6 : decode cJ26_init 6 = .ok (.invokespecial 7, 3) := dk_183 0 7 (dk_at dksJ26_init_0 6 rfl rfl)
theorem dJ26_init_9 : decode cJ26_init 9 = .ok (.return_, 1) := dk_177 (dk_at dksJ26_init_0 9 rfl rfl)
abbrev cJ26_iterator : ByteArray := prog_46_method_4_code
def yJ26_iterator : MethodName := ⟨RJ26, "iterator", "()Ljava/util/Iterator;"⟩
def dkwJ26_iterator_0 : List UInt8 := [187, 0, 22, 89, 42, 180, 0, 1, 183, 0, 24, 176]
abbrev dktJ26_iterator_0 : List UInt8 := dkwJ26_iterator_0 ++ []
theorem dksJ26_iterator_0 : cJ26_iterator.data.toList.drop 0 = dktJ26_iterator_0 := by decide +kernel
theorem dJ26_iterator_0 : decode cJ26_iterator 0 = .ok (.new 22, 3) := dk_187 0 22 (dk_at dksJ26_iterator_0 0 rfl rfl)
theorem dJ26_iterator_3 : decode cJ26_iterator 3 = .ok (.dup, 1) := dk_89 (dk_at dksJ26_iterator_0 3 rfl rfl)
theorem dJ26_iterator_4 : decode cJ26_iterator 4 = .ok (.aload_n 0, 1) := dk_42 (dk_at dksJ26_iterator_0 4 rfl rfl)
theorem dJ26_iterator_5 : decode cJ26_iterator 5 = .ok (.getfield 1, 3) := dk_180 0 1 (dk_at dksJ26_iterator_0 5 rfl rfl)
theorem dJ26_iterator_8 : decode cJ26_iterator 8 = .ok (.invokespecial 24, 3) := dk_183 0 24 (dk_at dksJ26_iterator_0 8 rfl rfl)
theorem dJ26_iterator_11 : decode cJ26_iterator 11 = .ok (.areturn, 1) := dk_176 (dk_at dksJ26_iterator_0 11 rfl rfl)
theorem q86 : (Jvm.Cond.initialized "java/util/HashMap$Values") ∈ lw_all := lw_g (lw_at lw_m1 39 rfl) rfl
theorem q572 : (Jvm.Cond.selects "java/util/HashMap$Values" ({ cls := "java/lang/Object", name := "getClass", desc := "()Ljava/lang/Class;" } : Jvm.MethodName) ({ cls := "java/lang/Object", name := "getClass", desc := "()Ljava/lang/Class;" } : Jvm.MethodName)) ∈ lw_all := lw_g (lw_at lw_m3 45 rfl) rfl
theorem q1327 : (Jvm.Cond.instantiable "java/util/HashMap$Values" (1 : Nat)) ∈ lw_all := lw_g (lw_at lw_m6 80 rfl) rfl
theorem q1329 : (Jvm.Cond.instanceMethod ({ cls := "java/util/HashMap$Values", name := "<init>", desc := "(Ljava/util/HashMap;)V" } : Jvm.MethodName)) ∈ lw_all := lw_g (lw_at lw_m6 82 rfl) rfl
theorem q1330 : (Jvm.Cond.code ({ cls := "java/util/HashMap$Values", name := "<init>", desc := "(Ljava/util/HashMap;)V" } : Jvm.MethodName) prog_46_method_1_code (2 : Nat) (Option.none : Option Jvm.ClassFile.FieldType)) ∈ lw_all := lw_g (lw_at lw_m6 83 rfl) rfl
theorem q1331 : (Jvm.Cond.methodLink "java/util/HashMap$Values" (7 : Nat) ({ cls := "java/util/AbstractCollection", name := "<init>", desc := "()V" } : Jvm.MethodName)) ∈ lw_all := lw_g (lw_at lw_m6 84 rfl) rfl
theorem q1332 : (Jvm.Cond.fieldLink "java/util/HashMap$Values" (1 : Nat) "java/util/HashMap$Values" "this$0" "Ljava/util/HashMap;") ∈ lw_all := lw_g (lw_at lw_m6 85 rfl) rfl
theorem q1333 : (Jvm.Cond.laysFinal "java/util/HashMap$Values" "java/util/HashMap$Values" "this$0" "Ljava/util/HashMap;") ∈ lw_all := lw_g (lw_at lw_m6 86 rfl) rfl
theorem q1334 : (Jvm.Cond.soleField "java/util/HashMap$Values" "this$0") ∈ lw_all := lw_g (lw_at lw_m6 87 rfl) rfl
theorem q1335 : (Jvm.Cond.superclass "java/util/HashMap$Values" "java/util/AbstractCollection") ∈ lw_all := lw_g (lw_at lw_m6 88 rfl) rfl
theorem q1378 : (Jvm.Cond.castable "java/util/HashMap$Values" "java/util/Collection") ∈ lw_tbl := lw_at lw_m6 131 rfl
theorem q1379 : (Jvm.Cond.selects "java/util/HashMap$Values" ({ cls := "java/util/Collection", name := "iterator", desc := "()Ljava/util/Iterator;" } : Jvm.MethodName) ({ cls := "java/util/HashMap$Values", name := "iterator", desc := "()Ljava/util/Iterator;" } : Jvm.MethodName)) ∈ lw_all := lw_g (lw_at lw_m6 132 rfl) rfl
theorem q1380 : (Jvm.Cond.unhidden "java/util/HashMap$Values" "iterator" "()Ljava/util/Iterator;") ∈ lw_tbl := lw_at lw_m6 133 rfl
theorem q1381 : (Jvm.Cond.instanceMethod ({ cls := "java/util/HashMap$Values", name := "iterator", desc := "()Ljava/util/Iterator;" } : Jvm.MethodName)) ∈ lw_all := lw_g (lw_at lw_m6 134 rfl) rfl
theorem q1382 : (Jvm.Cond.publicMethod ({ cls := "java/util/HashMap$Values", name := "iterator", desc := "()Ljava/util/Iterator;" } : Jvm.MethodName)) ∈ lw_tbl := lw_at lw_m6 135 rfl
theorem q1383 : (Jvm.Cond.code ({ cls := "java/util/HashMap$Values", name := "iterator", desc := "()Ljava/util/Iterator;" } : Jvm.MethodName) prog_46_method_4_code (1 : Nat) (Option.some (Jvm.ClassFile.FieldType.object "java/util/Iterator"))) ∈ lw_all := lw_g (lw_at lw_m6 136 rfl) rfl
theorem q1384 : (Jvm.Cond.classLink "java/util/HashMap$Values" (22 : Nat) "java/util/HashMap$ValueIterator") ∈ lw_all := lw_g (lw_at lw_m6 137 rfl) rfl
theorem q1386 : (Jvm.Cond.methodLink "java/util/HashMap$Values" (24 : Nat) ({ cls := "java/util/HashMap$ValueIterator", name := "<init>", desc := "(Ljava/util/HashMap;)V" } : Jvm.MethodName)) ∈ lw_all := lw_g (lw_at lw_m6 139 rfl) rfl
theorem q1853 : (Jvm.Cond.castable "java/util/HashMap$Values" "java/lang/Object") ∈ lw_tbl := lw_at lw_m8 126 rfl
theorem in_J26 : ∀ w ∈ wsJ260, w ∈ lw_all := lw_in wsJ260 [1333] (by decide +kernel) (by decide +kernel)
/-! java/util/HashMap$ValueIterator -/
set_option maxRecDepth 100000
def RJ28 : String := "java/util/HashMap$ValueIterator"
def TJ28 : u_T := fun k => match k with
  | 0 => ("java/util/HashMap$HashIterator", "next", "Ljava/util/HashMap$Node;", false)
  | 1 => ("java/util/HashMap$HashIterator", "current", "Ljava/util/HashMap$Node;", false)
  | 2 => ("java/util/HashMap$HashIterator", "expectedModCount", "I", false)
  | 3 => ("java/util/HashMap$HashIterator", "index", "I", false)
  | _ => ("java/util/HashMap$HashIterator", "this$0", "Ljava/util/HashMap;", true)
def tyJ28 : Nat → FieldType := fun k => match k with
  | 0 => .object "java/util/HashMap$Node"
  | 1 => .object "java/util/HashMap$Node"
  | 2 => .int
  | 3 => .int
  | _ => .object "java/util/HashMap"
abbrev wsJ280 : List Cond := u_ws RJ28 TJ28 5
theorem nmJ28 : ∀ a, a < 5 → ∀ b, b < 5 → a ≠ b → (TJ28 a).2.1 ≠ (TJ28 b).2.1 := by decide +kernel
theorem tyJ28_ok : ∀ k, k < 5 → parseFieldDescriptor (TJ28 k).2.2.1 = some (tyJ28 k) := by decide +kernel
abbrev cJ28_next : ByteArray := prog_45_method_2_code
def yJ28_next : MethodName := ⟨RJ28, "next", "()Ljava/lang/Object;"⟩
def dkwJ28_next_0 : List UInt8 := [42, 182, 0, 7, 180, 0, 13, 176]
abbrev dktJ28_next_0 : List UInt8 := dkwJ28_next_0 ++ []
theorem dksJ28_next_0 : cJ28_next.data.toList.drop 0 = dktJ28_next_0 := by decide +kernel
theorem dJ28_next_0 : decode cJ28_next 0 = .ok (.aload_n 0, 1) := dk_42 (dk_at dksJ28_next_0 0 rfl rfl)
theorem dJ28_next_1 : decode cJ28_next 1 = .ok (.invokevirtual 7, 3) := dk_182 0 7 (dk_at dksJ28_next_0 1 rfl rfl)
theorem dJ28_next_4 : decode cJ28_next 4 = .ok (.getfield 13, 3) := dk_180 0 13 (dk_at dksJ28_next_0 4 rfl rfl)
theorem dJ28_next_7 : decode cJ28_next 7 = .ok (.areturn, 1) := dk_176 (dk_at dksJ28_next_0 7 rfl rfl)
abbrev cJ28_init : ByteArray := prog_45_method_1_code
def yJ28_init : MethodName := ⟨RJ28, "<init>", "(Ljava/util/HashMap;)V"⟩
def dkwJ28_init_0 : List UInt8 := [42, 43, 183, 0, 1, 177]
abbrev dktJ28_init_0 : List UInt8 := dkwJ28_init_0 ++ []
theorem dksJ28_init_0 : cJ28_init.data.toList.drop 0 = dktJ28_init_0 := by decide +kernel
theorem dJ28_init_0 : decode cJ28_init 0 = .ok (.aload_n 0, 1) := dk_42 (dk_at dksJ28_init_0 0 rfl rfl)
theorem dJ28_init_1 : decode cJ28_init 1 = .ok (.aload_n 1, 1) := dk_43 (dk_at dksJ28_init_0 1 rfl rfl)
theorem dJ28_init_2 : decode cJ28_init 2 = .ok (.invokespecial 1, 3) := dk_183 0 1 (dk_at dksJ28_init_0 2 rfl rfl)
theorem dJ28_init_5 : decode cJ28_init 5 = .ok (.return_, 1) := dk_177 (dk_at dksJ28_init_0 5 rfl rfl)
theorem q88 : (Jvm.Cond.initialized "java/util/HashMap$ValueIterator") ∈ lw_all := lw_g (lw_at lw_m1 41 rfl) rfl
theorem q571 : (Jvm.Cond.selects "java/util/HashMap$ValueIterator" ({ cls := "java/lang/Object", name := "getClass", desc := "()Ljava/lang/Class;" } : Jvm.MethodName) ({ cls := "java/lang/Object", name := "getClass", desc := "()Ljava/lang/Class;" } : Jvm.MethodName)) ∈ lw_all := lw_g (lw_at lw_m3 44 rfl) rfl
theorem q825 : (Jvm.Cond.fieldLink "java/util/HashMap$ValueIterator" (13 : Nat) "java/util/HashMap$Node" "value" "Ljava/lang/Object;") ∈ lw_all := lw_g (lw_at lw_m4 58 rfl) rfl
theorem q1126 : (Jvm.Cond.castable "java/util/HashMap$ValueIterator" "java/util/Iterator") ∈ lw_tbl := lw_at lw_m5 119 rfl
theorem q1127 : (Jvm.Cond.selects "java/util/HashMap$ValueIterator" ({ cls := "java/util/Iterator", name := "hasNext", desc := "()Z" } : Jvm.MethodName) ({ cls := "java/util/HashMap$HashIterator", name := "hasNext", desc := "()Z" } : Jvm.MethodName)) ∈ lw_all := lw_g (lw_at lw_m5 120 rfl) rfl
theorem q1128 : (Jvm.Cond.unhidden "java/util/HashMap$ValueIterator" "hasNext" "()Z") ∈ lw_tbl := lw_at lw_m5 121 rfl
theorem q1166 : (Jvm.Cond.selects "java/util/HashMap$ValueIterator" ({ cls := "java/util/Iterator", name := "next", desc := "()Ljava/lang/Object;" } : Jvm.MethodName) ({ cls := "java/util/HashMap$ValueIterator", name := "next", desc := "()Ljava/lang/Object;" } : Jvm.MethodName)) ∈ lw_all := lw_g (lw_at lw_m5 159 rfl) rfl
theorem q1167 : (Jvm.Cond.unhidden "java/util/HashMap$ValueIterator" "next" "()Ljava/lang/Object;") ∈ lw_tbl := lw_at lw_m5 160 rfl
theorem q1168 : (Jvm.Cond.instanceMethod ({ cls := "java/util/HashMap$ValueIterator", name := "next", desc := "()Ljava/lang/Object;" } : Jvm.MethodName)) ∈ lw_all := lw_g (lw_at lw_m5 161 rfl) rfl
theorem q1169 : (Jvm.Cond.publicMethod ({ cls := "java/util/HashMap$ValueIterator", name := "next", desc := "()Ljava/lang/Object;" } : Jvm.MethodName)) ∈ lw_tbl := lw_at lw_m5 162 rfl
theorem q1170 : (Jvm.Cond.code ({ cls := "java/util/HashMap$ValueIterator", name := "next", desc := "()Ljava/lang/Object;" } : Jvm.MethodName) prog_45_method_2_code (1 : Nat) (Option.some (Jvm.ClassFile.FieldType.object "java/lang/Object"))) ∈ lw_all := lw_g (lw_at lw_m5 163 rfl) rfl
theorem q1171 : (Jvm.Cond.methodLink "java/util/HashMap$ValueIterator" (7 : Nat) ({ cls := "java/util/HashMap$ValueIterator", name := "nextNode", desc := "()Ljava/util/HashMap$Node;" } : Jvm.MethodName)) ∈ lw_all := lw_g (lw_at lw_m5 164 rfl) rfl
theorem q1172 : (Jvm.Cond.sameMethod "java/util/HashMap$ValueIterator" "java/util/HashMap$HashIterator" "nextNode" "()Ljava/util/HashMap$Node;") ∈ lw_all := lw_g (lw_at lw_m5 165 rfl) rfl
theorem q1173 : (Jvm.Cond.selects "java/util/HashMap$ValueIterator" ({ cls := "java/util/HashMap$ValueIterator", name := "nextNode", desc := "()Ljava/util/HashMap$Node;" } : Jvm.MethodName) ({ cls := "java/util/HashMap$HashIterator", name := "nextNode", desc := "()Ljava/util/HashMap$Node;" } : Jvm.MethodName)) ∈ lw_all := lw_g (lw_at lw_m5 166 rfl) rfl
theorem q1385 : (Jvm.Cond.instantiable "java/util/HashMap$ValueIterator" (5 : Nat)) ∈ lw_all := lw_g (lw_at lw_m6 138 rfl) rfl
theorem q1387 : (Jvm.Cond.instanceMethod ({ cls := "java/util/HashMap$ValueIterator", name := "<init>", desc := "(Ljava/util/HashMap;)V" } : Jvm.MethodName)) ∈ lw_all := lw_g (lw_at lw_m6 140 rfl) rfl
theorem q1388 : (Jvm.Cond.code ({ cls := "java/util/HashMap$ValueIterator", name := "<init>", desc := "(Ljava/util/HashMap;)V" } : Jvm.MethodName) prog_45_method_1_code (2 : Nat) (Option.none : Option Jvm.ClassFile.FieldType)) ∈ lw_all := lw_g (lw_at lw_m6 141 rfl) rfl
theorem q1389 : (Jvm.Cond.methodLink "java/util/HashMap$ValueIterator" (1 : Nat) ({ cls := "java/util/HashMap$HashIterator", name := "<init>", desc := "(Ljava/util/HashMap;)V" } : Jvm.MethodName)) ∈ lw_all := lw_g (lw_at lw_m6 142 rfl) rfl
theorem q1390 : (Jvm.Cond.lays "java/util/HashMap$ValueIterator" "java/util/HashMap$HashIterator" "next" "Ljava/util/HashMap$Node;") ∈ lw_all := lw_g (lw_at lw_m6 143 rfl) rfl
theorem q1391 : (Jvm.Cond.lays "java/util/HashMap$ValueIterator" "java/util/HashMap$HashIterator" "current" "Ljava/util/HashMap$Node;") ∈ lw_all := lw_g (lw_at lw_m6 144 rfl) rfl
theorem q1392 : (Jvm.Cond.lays "java/util/HashMap$ValueIterator" "java/util/HashMap$HashIterator" "expectedModCount" "I") ∈ lw_all := lw_g (lw_at lw_m6 145 rfl) rfl
theorem q1393 : (Jvm.Cond.lays "java/util/HashMap$ValueIterator" "java/util/HashMap$HashIterator" "index" "I") ∈ lw_all := lw_g (lw_at lw_m6 146 rfl) rfl
theorem q1394 : (Jvm.Cond.laysFinal "java/util/HashMap$ValueIterator" "java/util/HashMap$HashIterator" "this$0" "Ljava/util/HashMap;") ∈ lw_all := lw_g (lw_at lw_m6 147 rfl) rfl
theorem q1395 : (Jvm.Cond.superclass "java/util/HashMap$ValueIterator" "java/util/HashMap$HashIterator") ∈ lw_all := lw_g (lw_at lw_m6 148 rfl) rfl
theorem q1855 : (Jvm.Cond.castable "java/util/HashMap$ValueIterator" "java/lang/Object") ∈ lw_tbl := lw_at lw_m8 128 rfl
theorem in_J28 : ∀ w ∈ wsJ280, w ∈ lw_all := lw_in wsJ280 [1390, 1391, 1392, 1393, 1394] (by decide +kernel) (by decide +kernel)
/-! java/lang/Object -/
set_option maxRecDepth 100000
def RJ29 : String := "java/lang/Object"
abbrev cJ29_init : ByteArray := object_method_1_code
def yJ29_init : MethodName := ⟨RJ29, "<init>", "()V"⟩
theorem dJ29_init_0 : decode cJ29_init 0 = .ok (.return_, 1) := by decide +kernel
abbrev cJ29_equals : ByteArray := object_method_4_code
def yJ29_equals : MethodName := ⟨RJ29, "equals", "(Ljava/lang/Object;)Z"⟩
def dkwJ29_equals_0 : List UInt8 := [42, 43, 166, 0, 7, 4, 167, 0, 4, 3, 172]
abbrev dktJ29_equals_0 : List UInt8 := dkwJ29_equals_0 ++ []
theorem dksJ29_equals_0 : cJ29_equals.data.toList.drop 0 = dktJ29_equals_0 := by decide +kernel
theorem dJ29_equals_0 : decode cJ29_equals 0 = .ok (.aload_n 0, 1) := dk_42 (dk_at dksJ29_equals_0 0 rfl rfl)
theorem dJ29_equals_1 : decode cJ29_equals 1 = .ok (.aload_n 1, 1) := dk_43 (dk_at dksJ29_equals_0 1 rfl rfl)
theorem dJ29_equals_2 : decode cJ29_equals 2 = .ok (.if_acmp .ne 7, 3) := dk_166 0 7 (dk_at dksJ29_equals_0 2 rfl rfl)
theorem dJ29_equals_5 : decode cJ29_equals 5 = .ok (.iconst 1, 1) := dk_4 (dk_at dksJ29_equals_0 5 rfl rfl)
theorem dJ29_equals_6 : decode cJ29_equals 6 = .ok (.goto 4, 3) := dk_167 0 4 (dk_at dksJ29_equals_0 6 rfl rfl)
theorem dJ29_equals_9 : decode cJ29_equals 9 = .ok (.iconst 0, 1) := dk_3 (dk_at dksJ29_equals_0 9 rfl rfl)
theorem dJ29_equals_10 : decode cJ29_equals 10 = .ok (.ireturn, 1) := dk_172 (dk_at dksJ29_equals_0 10 rfl rfl)
theorem q95 : (Jvm.Cond.instanceMethod ({ cls := "java/lang/Object", name := "<init>", desc := "()V" } : Jvm.MethodName)) ∈ lw_all := lw_g (lw_at lw_m1 48 rfl) rfl
theorem q96 : (Jvm.Cond.code ({ cls := "java/lang/Object", name := "<init>", desc := "()V" } : Jvm.MethodName) object_method_1_code (1 : Nat) (Option.none : Option Jvm.ClassFile.FieldType)) ∈ lw_all := lw_g (lw_at lw_m1 49 rfl) rfl
theorem q104 : (Jvm.Cond.native ({ cls := "java/lang/Object", name := "clone", desc := "()Ljava/lang/Object;" } : Jvm.MethodName)) ∈ lw_all := lw_g (lw_at lw_m1 57 rfl) rfl
theorem q105 : (Jvm.Cond.instanceMethod ({ cls := "java/lang/Object", name := "clone", desc := "()Ljava/lang/Object;" } : Jvm.MethodName)) ∈ lw_all := lw_g (lw_at lw_m1 58 rfl) rfl
theorem q548 : (Jvm.Cond.instanceMethod ({ cls := "java/lang/Object", name := "getClass", desc := "()Ljava/lang/Class;" } : Jvm.MethodName)) ∈ lw_all := lw_g (lw_at lw_m3 21 rfl) rfl
theorem q549 : (Jvm.Cond.sameMethod "java/lang/Object" "java/lang/Object" "getClass" "()Ljava/lang/Class;") ∈ lw_all := lw_g (lw_at lw_m3 22 rfl) rfl
theorem q573 : (Jvm.Cond.native ({ cls := "java/lang/Object", name := "getClass", desc := "()Ljava/lang/Class;" } : Jvm.MethodName)) ∈ lw_all := lw_g (lw_at lw_m3 46 rfl) rfl
theorem q622 : (Jvm.Cond.declares ({ cls := "java/lang/Object", name := "equals", desc := "(Ljava/lang/Object;)Z" } : Jvm.MethodName)) ∈ lw_tbl := lw_at lw_m3 95 rfl
theorem q624 : (Jvm.Cond.instanceMethod ({ cls := "java/lang/Object", name := "equals", desc := "(Ljava/lang/Object;)Z" } : Jvm.MethodName)) ∈ lw_all := lw_g (lw_at lw_m3 97 rfl) rfl
theorem q625 : (Jvm.Cond.sameMethod "java/lang/Object" "java/lang/Object" "equals" "(Ljava/lang/Object;)Z") ∈ lw_all := lw_g (lw_at lw_m3 98 rfl) rfl
theorem q646 : (Jvm.Cond.code ({ cls := "java/lang/Object", name := "equals", desc := "(Ljava/lang/Object;)Z" } : Jvm.MethodName) object_method_4_code (2 : Nat) (Option.some Jvm.ClassFile.FieldType.boolean)) ∈ lw_all := lw_g (lw_at lw_m3 119 rfl) rfl
theorem q691 : (Jvm.Cond.declares ({ cls := "java/lang/Object", name := "hashCode", desc := "()I" } : Jvm.MethodName)) ∈ lw_tbl := lw_at lw_m3 164 rfl
theorem q693 : (Jvm.Cond.instanceMethod ({ cls := "java/lang/Object", name := "hashCode", desc := "()I" } : Jvm.MethodName)) ∈ lw_all := lw_g (lw_at lw_m3 166 rfl) rfl
theorem q694 : (Jvm.Cond.sameMethod "java/lang/Object" "java/lang/Object" "hashCode" "()I") ∈ lw_all := lw_g (lw_at lw_m3 167 rfl) rfl
theorem q716 : (Jvm.Cond.native ({ cls := "java/lang/Object", name := "hashCode", desc := "()I" } : Jvm.MethodName)) ∈ lw_all := lw_g (lw_at lw_m3 189 rfl) rfl
theorem q1831 : (Jvm.Cond.initialized "java/lang/Object") ∈ lw_all := lw_g (lw_at lw_m8 104 rfl) rfl
theorem q1860 : (Jvm.Cond.declares ({ cls := "java/lang/Object", name := "getClass", desc := "()Ljava/lang/Class;" } : Jvm.MethodName)) ∈ lw_tbl := lw_at lw_m8 133 rfl
/-! java/util/ArrayList -/
set_option maxRecDepth 100000
def RJ3 : String := "java/util/ArrayList"
def TJ3 : u_T := fun k => match k with
  | 0 => ("java/util/AbstractList", "modCount", "I", false)
  | 1 => ("java/util/ArrayList", "elementData", "[Ljava/lang/Object;", false)
  | _ => ("java/util/ArrayList", "size", "I", false)
def tyJ3 : Nat → FieldType := fun k => match k with
  | 0 => .int
  | 1 => .array (.object "java/lang/Object")
  | _ => .int
abbrev wsJ30 : List Cond := u_ws RJ3 TJ3 3
theorem nmJ3 : ∀ a, a < 3 → ∀ b, b < 3 → a ≠ b → (TJ3 a).2.1 ≠ (TJ3 b).2.1 := by decide +kernel
theorem tyJ3_ok : ∀ k, k < 3 → parseFieldDescriptor (TJ3 k).2.2.1 = some (tyJ3 k) := by decide +kernel
abbrev cJ3_init : ByteArray := prog_33_method_2_code
def yJ3_init : MethodName := ⟨RJ3, "<init>", "()V"⟩
def dkwJ3_init_0 : List UInt8 := [42, 183, 0, 1, 42, 178, 0, 39, 181, 0, 9, 177]
abbrev dktJ3_init_0 : List UInt8 := dkwJ3_init_0 ++ []
theorem dksJ3_init_0 : cJ3_init.data.toList.drop 0 = dktJ3_init_0 := by decide +kernel
theorem dJ3_init_0 : decode cJ3_init 0 = .ok (.aload_n 0, 1) := dk_42 (dk_at dksJ3_init_0 0 rfl rfl)
theorem dJ3_init_1 : decode cJ3_init 1 = .ok (.invokespecial 1, 3) := dk_183 0 1 (dk_at dksJ3_init_0 1 rfl rfl)
theorem dJ3_init_4 : decode cJ3_init 4 = .ok (.aload_n 0, 1) := dk_42 (dk_at dksJ3_init_0 4 rfl rfl)
theorem dJ3_init_5 : decode cJ3_init 5 = .ok (.getstatic 39, 3) := dk_178 0 39 (dk_at dksJ3_init_0 5 rfl rfl)
theorem dJ3_init_8 : decode cJ3_init 8 = .ok (.putfield 9, 3) := dk_181 0 9 (dk_at dksJ3_init_0 8 rfl rfl)
theorem dJ3_init_11 : decode cJ3_init 11 = .ok (.return_, 1) := dk_177 (dk_at dksJ3_init_0 11 rfl rfl)
abbrev cJ3_size : ByteArray := prog_33_method_8_code
def yJ3_size : MethodName := ⟨RJ3, "size", "()I"⟩
theorem dJ3_size_0 : decode cJ3_size 0 = .ok (.aload_n 0, 1) := by decide +kernel
theorem dJ3_size_1 : decode cJ3_size 1 = .ok (.getfield 48, 3) := by decide +kernel
theorem dJ3_size_4 : decode cJ3_size 4 = .ok (.ireturn, 1) := by decide +kernel
abbrev cJ3_add : ByteArray := prog_33_method_25_code
def yJ3_add : MethodName := ⟨RJ3, "add", "(Ljava/lang/Object;)Z"⟩
def dkwJ3_add_1 : List UInt8 := [172]
abbrev dktJ3_add_1 : List UInt8 := dkwJ3_add_1 ++ []
def dkwJ3_add_0 : List UInt8 := [42, 89, 180, 0, 63, 4, 96, 181, 0, 63, 42, 43, 42, 180, 0, 9, 42, 180, 0, 48, 182, 0, 131, 4]
abbrev dktJ3_add_0 : List UInt8 := dkwJ3_add_0 ++ dktJ3_add_1
theorem dksJ3_add_0 : cJ3_add.data.toList.drop 0 = dktJ3_add_0 := by decide +kernel
theorem dksJ3_add_1 : cJ3_add.data.toList.drop 24 = dktJ3_add_1 := dk_seg dksJ3_add_0 24 rfl rfl
theorem dJ3_add_0 : decode cJ3_add 0 = .ok (.aload_n 0, 1) := dk_42 (dk_at dksJ3_add_0 0 rfl rfl)
theorem dJ3_add_1 : decode cJ3_add 1 = .ok (.dup, 1) := dk_89 (dk_at dksJ3_add_0 1 rfl rfl)
theorem dJ3_add_2 : decode cJ3_add 2 = .ok (.getfield 63, 3) := dk_180 0 63 (dk_at dksJ3_add_0 2 rfl rfl)
theorem dJ3_add_5 : decode cJ3_add 5 = .ok (.iconst 1, 1) := dk_4 (dk_at dksJ3_add_0 5 rfl rfl)
theorem dJ3_add_6 : decode cJ3_add 6 = .ok (.iadd, 1) := dk_96 (dk_at dksJ3_add_0 6 rfl rfl)
theorem dJ3_add_7 : decode cJ3_add 7 = .ok (.putfield 63, 3) := dk_181 0 63 (dk_at dksJ3_add_0 7 rfl rfl)
theorem dJ3_add_10 : decode cJ3_add 10 = .ok (.aload_n 0, 1) := dk_42 (dk_at dksJ3_add_0 10 rfl rfl)
theorem dJ3_add_11 : decode cJ3_add 11 = .ok (.aload_n 1, 1) := dk_43 (dk_at dksJ3_add_0 11 rfl rfl)
theorem dJ3_add_12 : decode cJ3_add 12 = .ok (.aload_n 0, 1) := dk_42 (dk_at dksJ3_add_0 12 rfl rfl)
theorem dJ3_add_13 : decode cJ3_add 13 = .ok (.getfield 9, 3) := dk_180 0 9 (dk_at dksJ3_add_0 13 rfl rfl)
theorem dJ3_add_16 : decode cJ3_add 16 = .ok (.aload_n 0, 1) := dk_42 (dk_at dksJ3_add_0 16 rfl rfl)
theorem dJ3_add_17 : decode cJ3_add 17 = .ok (.getfield 48, 3) := dk_180 0 48 (dk_at dksJ3_add_0 17 rfl rfl)
theorem dJ3_add_20 : decode cJ3_add 20 = .ok (.invokevirtual 131, 3) := dk_182 0 131 (dk_at dksJ3_add_0 20 rfl rfl)
theorem dJ3_add_23 : decode cJ3_add 23 = .ok (.iconst 1, 1) := dk_4 (dk_at dksJ3_add_0 23 rfl rfl)
theorem dJ3_add_24 : decode cJ3_add 24 = .ok (.ireturn, 1) := dk_172 (dk_at dksJ3_add_1 0 rfl rfl)
abbrev cJ3_add_2 : ByteArray := prog_33_method_24_code
def yJ3_add_2 : MethodName := ⟨RJ3, "add", "(Ljava/lang/Object;[Ljava/lang/Object;I)V"⟩
def dkwJ3_add_2_0 : List UInt8 := [29, 44, 190, 160, 0, 8, 42, 182, 0, 129, 77, 44, 29, 43, 83, 42, 29, 4, 96, 181, 0, 48, 177]
abbrev dktJ3_add_2_0 : List UInt8 := dkwJ3_add_2_0 ++ []
theorem dksJ3_add_2_0 : cJ3_add_2.data.toList.drop 0 = dktJ3_add_2_0 := by decide +kernel
theorem dJ3_add_2_0 : decode cJ3_add_2 0 = .ok (.iload_n 3, 1) := dk_29 (dk_at dksJ3_add_2_0 0 rfl rfl)
theorem dJ3_add_2_1 : decode cJ3_add_2 1 = .ok (.aload_n 2, 1) := dk_44 (dk_at dksJ3_add_2_0 1 rfl rfl)
theorem dJ3_add_2_2 : decode cJ3_add_2 2 = .ok (.arraylength, 1) := dk_190 (dk_at dksJ3_add_2_0 2 rfl rfl)
theorem dJ3_add_2_3 : decode cJ3_add_2 3 = .ok (.if_icmp .ne 8, 3) := dk_160 0 8 (dk_at dksJ3_add_2_0 3 rfl rfl)
theorem dJ3_add_2_6 : decode cJ3_add_2 6 = .ok (.aload_n 0, 1) := dk_42 (dk_at dksJ3_add_2_0 6 rfl rfl)
theorem dJ3_add_2_7 : decode cJ3_add_2 7 = .ok (.invokevirtual 129, 3) := dk_182 0 129 (dk_at dksJ3_add_2_0 7 rfl rfl)
theorem dJ3_add_2_10 : decode cJ3_add_2 10 = .ok (.astore_n 2, 1) := dk_77 (dk_at dksJ3_add_2_0 10 rfl rfl)
theorem dJ3_add_2_11 : decode cJ3_add_2 11 = .ok (.aload_n 2, 1) := dk_44 (dk_at dksJ3_add_2_0 11 rfl rfl)
theorem dJ3_add_2_12 : decode cJ3_add_2 12 = .ok (.iload_n 3, 1) := dk_29 (dk_at dksJ3_add_2_0 12 rfl rfl)
theorem dJ3_add_2_13 : decode cJ3_add_2 13 = .ok (.aload_n 1, 1) := dk_43 (dk_at dksJ3_add_2_0 13 rfl rfl)
theorem dJ3_add_2_14 : decode cJ3_add_2 14 = .ok (.aastore, 1) := dk_83 (dk_at dksJ3_add_2_0 14 rfl rfl)
theorem dJ3_add_2_15 : decode cJ3_add_2 15 = .ok (.aload_n 0, 1) := dk_42 (dk_at dksJ3_add_2_0 15 rfl rfl)
theorem dJ3_add_2_16 : decode cJ3_add_2 16 = .ok (.iload_n 3, 1) := dk_29 (dk_at dksJ3_add_2_0 16 rfl rfl)
theorem dJ3_add_2_17 : decode cJ3_add_2 17 = .ok (.iconst 1, 1) := dk_4 (dk_at dksJ3_add_2_0 17 rfl rfl)
theorem dJ3_add_2_18 : decode cJ3_add_2 18 = .ok (.iadd, 1) := dk_96 (dk_at dksJ3_add_2_0 18 rfl rfl)
theorem dJ3_add_2_19 : decode cJ3_add_2 19 = .ok (.putfield 48, 3) := dk_181 0 48 (dk_at dksJ3_add_2_0 19 rfl rfl)
theorem dJ3_add_2_22 : decode cJ3_add_2 22 = .ok (.return_, 1) := dk_177 (dk_at dksJ3_add_2_0 22 rfl rfl)
abbrev cJ3_grow : ByteArray := prog_33_method_7_code
def yJ3_grow : MethodName := ⟨RJ3, "grow", "()[Ljava/lang/Object;"⟩
def dkwJ3_grow_0 : List UInt8 := [42, 42, 180, 0, 48, 4, 96, 182, 0, 69, 176]
abbrev dktJ3_grow_0 : List UInt8 := dkwJ3_grow_0 ++ []
theorem dksJ3_grow_0 : cJ3_grow.data.toList.drop 0 = dktJ3_grow_0 := by decide +kernel
theorem dJ3_grow_0 : decode cJ3_grow 0 = .ok (.aload_n 0, 1) := dk_42 (dk_at dksJ3_grow_0 0 rfl rfl)
theorem dJ3_grow_1 : decode cJ3_grow 1 = .ok (.aload_n 0, 1) := dk_42 (dk_at dksJ3_grow_0 1 rfl rfl)
theorem dJ3_grow_2 : decode cJ3_grow 2 = .ok (.getfield 48, 3) := dk_180 0 48 (dk_at dksJ3_grow_0 2 rfl rfl)
theorem dJ3_grow_5 : decode cJ3_grow 5 = .ok (.iconst 1, 1) := dk_4 (dk_at dksJ3_grow_0 5 rfl rfl)
theorem dJ3_grow_6 : decode cJ3_grow 6 = .ok (.iadd, 1) := dk_96 (dk_at dksJ3_grow_0 6 rfl rfl)
theorem dJ3_grow_7 : decode cJ3_grow 7 = .ok (.invokevirtual 69, 3) := dk_182 0 69 (dk_at dksJ3_grow_0 7 rfl rfl)
theorem dJ3_grow_10 : decode cJ3_grow 10 = .ok (.areturn, 1) := dk_176 (dk_at dksJ3_grow_0 10 rfl rfl)
abbrev cJ3_grow_2 : ByteArray := prog_33_method_6_code
def yJ3_grow_2 : MethodName := ⟨RJ3, "grow", "(I)[Ljava/lang/Object;"⟩
def dkwJ3_grow_2_2 : List UInt8 := [27, 184, 0, 79, 189, 0, 7, 90, 181, 0, 9, 176]
abbrev dktJ3_grow_2_2 : List UInt8 := dkwJ3_grow_2_2 ++ []
def dkwJ3_grow_2_1 : List UInt8 := [28, 4, 122, 184, 0, 73, 62, 42, 42, 180, 0, 9, 29, 184, 0, 66, 90, 181, 0, 9, 176, 42, 16, 10]
abbrev dktJ3_grow_2_1 : List UInt8 := dkwJ3_grow_2_1 ++ dktJ3_grow_2_2
def dkwJ3_grow_2_0 : List UInt8 := [42, 180, 0, 9, 190, 61, 28, 157, 0, 13, 42, 180, 0, 9, 178, 0, 39, 165, 0, 28, 28, 27, 28, 100]
abbrev dktJ3_grow_2_0 : List UInt8 := dkwJ3_grow_2_0 ++ dktJ3_grow_2_1
theorem dksJ3_grow_2_0 : cJ3_grow_2.data.toList.drop 0 = dktJ3_grow_2_0 := by decide +kernel
theorem dksJ3_grow_2_1 : cJ3_grow_2.data.toList.drop 24 = dktJ3_grow_2_1 := dk_seg dksJ3_grow_2_0 24 rfl rfl
theorem dksJ3_grow_2_2 : cJ3_grow_2.data.toList.drop 48 = dktJ3_grow_2_2 := dk_seg dksJ3_grow_2_1 24 rfl rfl
theorem dJ3_grow_2_0 : decode cJ3_grow_2 0 = .ok (.aload_n 0, 1) := dk_42 (dk_at dksJ3_grow_2_0 0 rfl rfl)
theorem dJ3_grow_2_1 : decode cJ3_grow_2 1 = .ok (.getfield 9, 3) := dk_180 0 9 (dk_at dksJ3_grow_2_0 1 rfl rfl)
theorem dJ3_grow_2_4 : decode cJ3_grow_2 4 = .ok (.arraylength, 1) := dk_190 (dk_at dksJ3_grow_2_0 4 rfl rfl)
theorem dJ3_grow_2_5 : decode cJ3_grow_2 5 = .ok (.istore_n 2, 1) := dk_61 (dk_at dksJ3_grow_2_0 5 rfl rfl)
theorem dJ3_grow_2_6 : decode cJ3_grow_2 6 = .ok (.iload_n 2, 1) := dk_28 (dk_at dksJ3_grow_2_0 6 rfl rfl)
theorem dJ3_grow_2_7 : decode cJ3_grow_2 7 = .ok (.ifCond .gt 13, 3) := dk_157 0 13 (dk_at dksJ3_grow_2_0 7 rfl rfl)
theorem dJ3_grow_2_10 : decode cJ3_grow_2 10 = .ok (.aload_n 0, 1) := dk_42 (dk_at dksJ3_grow_2_0 10 rfl rfl)
theorem dJ3_grow_2_11 : decode cJ3_grow_2 11 = .ok (.getfield 9, 3) := dk_180 0 9 (dk_at dksJ3_grow_2_0 11 rfl rfl)
theorem dJ3_grow_2_14 : decode cJ3_grow_2 14 = .ok (.getstatic 39, 3) := dk_178 0 39 (dk_at dksJ3_grow_2_0 14 rfl rfl)
theorem dJ3_grow_2_17 : decode cJ3_grow_2 17 = .ok (.if_acmp .eq 28, 3) := dk_165 0 28 (dk_at dksJ3_grow_2_0 17 rfl rfl)
theorem dJ3_grow_2_20 : decode cJ3_grow_2 20 = .ok (.iload_n 2, 1) := dk_28 (dk_at dksJ3_grow_2_0 20 rfl rfl)
theorem dJ3_grow_2_21 : decode cJ3_grow_2 21 = .ok (.iload_n 1, 1) := dk_27 (dk_at dksJ3_grow_2_0 21 rfl rfl)
theorem dJ3_grow_2_22 : decode cJ3_grow_2 22 = .ok (.iload_n 2, 1) := dk_28 (dk_at dksJ3_grow_2_0 22 rfl rfl)
theorem dJ3_grow_2_23 : decode cJ3_grow_2 23 = .ok (.isub, 1) := dk_100 (dk_at dksJ3_grow_2_0 23 rfl rfl)
theorem dJ3_grow_2_24 : decode cJ3_grow_2 24 = .ok (.iload_n 2, 1) := dk_28 (dk_at dksJ3_grow_2_1 0 rfl rfl)
theorem dJ3_grow_2_25 : decode cJ3_grow_2 25 = .ok (.iconst 1, 1) := dk_4 (dk_at dksJ3_grow_2_1 1 rfl rfl)
theorem dJ3_grow_2_26 : decode cJ3_grow_2 26 = .ok (.ishr, 1) := dk_122 (dk_at dksJ3_grow_2_1 2 rfl rfl)
theorem dJ3_grow_2_27 : decode cJ3_grow_2 27 = .ok (.invokestatic 73, 3) := dk_184 0 73 (dk_at dksJ3_grow_2_1 3 rfl rfl)
theorem dJ3_grow_2_30 : decode cJ3_grow_2 30 = .ok (.istore_n 3, 1) := dk_62 (dk_at dksJ3_grow_2_1 6 rfl rfl)
theorem dJ3_grow_2_31 : decode cJ3_grow_2 31 = .ok (.aload_n 0, 1) := dk_42 (dk_at dksJ3_grow_2_1 7 rfl rfl)
theorem dJ3_grow_2_32 : decode cJ3_grow_2 32 = .ok (.aload_n 0, 1) := dk_42 (dk_at dksJ3_grow_2_1 8 rfl rfl)
theorem dJ3_grow_2_33 : decode cJ3_grow_2 33 = .ok (.getfield 9, 3) := dk_180 0 9 (dk_at dksJ3_grow_2_1 9 rfl rfl)
theorem dJ3_grow_2_36 : decode cJ3_grow_2 36 = .ok (.iload_n 3, 1) := dk_29 (dk_at dksJ3_grow_2_1 12 rfl rfl)
theorem dJ3_grow_2_37 : decode cJ3_grow_2 37 = .ok (.invokestatic 66, 3) := dk_184 0 66 (dk_at dksJ3_grow_2_1 13 rfl rfl)
theorem dJ3_grow_2_40 : decode cJ3_grow_2 40 = .ok (.dup_x1, 1) := dk_90 (dk_at dksJ3_grow_2_1 16 rfl rfl)
theorem dJ3_grow_2_41 : decode cJ3_grow_2 41 = .ok (.putfield 9, 3) := dk_181 0 9 (dk_at dksJ3_grow_2_1 17 rfl rfl)
theorem dJ3_grow_2_44 : decode cJ3_grow_2 44 = .ok (.areturn, 1) := dk_176 (dk_at dksJ3_grow_2_1 20 rfl rfl)
theorem dJ3_grow_2_45 : decode cJ3_grow_2 45 = .ok (.aload_n 0, 1) := dk_42 (dk_at dksJ3_grow_2_1 21 rfl rfl)
theorem dJ3_grow_2_46 : decode cJ3_grow_2 46 = .ok (.bipush 10, 2) := dk_16 10 (dk_at dksJ3_grow_2_1 22 rfl rfl)
theorem dJ3_grow_2_48 : decode cJ3_grow_2 48 = .ok (.iload_n 1, 1) := dk_27 (dk_at dksJ3_grow_2_2 0 rfl rfl)
theorem dJ3_grow_2_49 : decode cJ3_grow_2 49 = .ok (.invokestatic 79, 3) := dk_184 0 79 (dk_at dksJ3_grow_2_2 1 rfl rfl)
theorem dJ3_grow_2_52 : decode cJ3_grow_2 52 = .ok (.anewarray 7, 3) := dk_189 0 7 (dk_at dksJ3_grow_2_2 4 rfl rfl)
theorem dJ3_grow_2_55 : decode cJ3_grow_2 55 = .ok (.dup_x1, 1) := dk_90 (dk_at dksJ3_grow_2_2 7 rfl rfl)
theorem dJ3_grow_2_56 : decode cJ3_grow_2 56 = .ok (.putfield 9, 3) := dk_181 0 9 (dk_at dksJ3_grow_2_2 8 rfl rfl)
theorem dJ3_grow_2_59 : decode cJ3_grow_2 59 = .ok (.areturn, 1) := dk_176 (dk_at dksJ3_grow_2_2 11 rfl rfl)
abbrev cJ3_get : ByteArray := prog_33_method_20_code
def yJ3_get : MethodName := ⟨RJ3, "get", "(I)Ljava/lang/Object;"⟩
def dkwJ3_get_0 : List UInt8 := [27, 42, 180, 0, 48, 184, 0, 118, 87, 42, 27, 182, 0, 123, 176]
abbrev dktJ3_get_0 : List UInt8 := dkwJ3_get_0 ++ []
theorem dksJ3_get_0 : cJ3_get.data.toList.drop 0 = dktJ3_get_0 := by decide +kernel
theorem dJ3_get_0 : decode cJ3_get 0 = .ok (.iload_n 1, 1) := dk_27 (dk_at dksJ3_get_0 0 rfl rfl)
theorem dJ3_get_1 : decode cJ3_get 1 = .ok (.aload_n 0, 1) := dk_42 (dk_at dksJ3_get_0 1 rfl rfl)
theorem dJ3_get_2 : decode cJ3_get 2 = .ok (.getfield 48, 3) := dk_180 0 48 (dk_at dksJ3_get_0 2 rfl rfl)
theorem dJ3_get_5 : decode cJ3_get 5 = .ok (.invokestatic 118, 3) := dk_184 0 118 (dk_at dksJ3_get_0 5 rfl rfl)
theorem dJ3_get_8 : decode cJ3_get 8 = .ok (.pop, 1) := dk_87 (dk_at dksJ3_get_0 8 rfl rfl)
theorem dJ3_get_9 : decode cJ3_get 9 = .ok (.aload_n 0, 1) := dk_42 (dk_at dksJ3_get_0 9 rfl rfl)
theorem dJ3_get_10 : decode cJ3_get 10 = .ok (.iload_n 1, 1) := dk_27 (dk_at dksJ3_get_0 10 rfl rfl)
theorem dJ3_get_11 : decode cJ3_get 11 = .ok (.invokevirtual 123, 3) := dk_182 0 123 (dk_at dksJ3_get_0 11 rfl rfl)
theorem dJ3_get_14 : decode cJ3_get 14 = .ok (.areturn, 1) := dk_176 (dk_at dksJ3_get_0 14 rfl rfl)
abbrev cJ3_elementData : ByteArray := prog_33_method_18_code
def yJ3_elementData : MethodName := ⟨RJ3, "elementData", "(I)Ljava/lang/Object;"⟩
def dkwJ3_elementData_0 : List UInt8 := [42, 180, 0, 9, 27, 50, 176]
abbrev dktJ3_elementData_0 : List UInt8 := dkwJ3_elementData_0 ++ []
theorem dksJ3_elementData_0 : cJ3_elementData.data.toList.drop 0 = dktJ3_elementData_0 := by decide +kernel
theorem dJ3_elementData_0 : decode cJ3_elementData 0 = .ok (.aload_n 0, 1) := dk_42 (dk_at dksJ3_elementData_0 0 rfl rfl)
theorem dJ3_elementData_1 : decode cJ3_elementData 1 = .ok (.getfield 9, 3) := dk_180 0 9 (dk_at dksJ3_elementData_0 1 rfl rfl)
theorem dJ3_elementData_4 : decode cJ3_elementData 4 = .ok (.iload_n 1, 1) := dk_27 (dk_at dksJ3_elementData_0 4 rfl rfl)
theorem dJ3_elementData_5 : decode cJ3_elementData 5 = .ok (.aaload, 1) := dk_50 (dk_at dksJ3_elementData_0 5 rfl rfl)
theorem dJ3_elementData_6 : decode cJ3_elementData 6 = .ok (.areturn, 1) := dk_176 (dk_at dksJ3_elementData_0 6 rfl rfl)
abbrev cJ3_contains : ByteArray := prog_33_method_10_code
def yJ3_contains : MethodName := ⟨RJ3, "contains", "(Ljava/lang/Object;)Z"⟩
def dkwJ3_contains_0 : List UInt8 := [42, 43, 182, 0, 85, 155, 0, 7, 4, 167, 0, 4, 3, 172]
abbrev dktJ3_contains_0 : List UInt8 := dkwJ3_contains_0 ++ []
theorem dksJ3_contains_0 : cJ3_contains.data.toList.drop 0 = dktJ3_contains_0 := by decide +kernel
theorem dJ3_contains_0 : decode cJ3_contains 0 = .ok (.aload_n 0, 1) := dk_42 (dk_at dksJ3_contains_0 0 rfl rfl)
theorem dJ3_contains_1 : decode cJ3_contains 1 = .ok (.aload_n 1, 1) := dk_43 (dk_at dksJ3_contains_0 1 rfl rfl)
theorem dJ3_contains_2 : decode cJ3_contains 2 = .ok (.invokevirtual 85, 3) := dk_182 0 85 (dk_at dksJ3_contains_0 2 rfl rfl)
theorem dJ3_contains_5 : decode cJ3_contains 5 = .ok (.ifCond .lt 7, 3) := dk_155 0 7 (dk_at dksJ3_contains_0 5 rfl rfl)
theorem dJ3_contains_8 : decode cJ3_contains 8 = .ok (.iconst 1, 1) := dk_4 (dk_at dksJ3_contains_0 8 rfl rfl)
theorem dJ3_contains_9 : decode cJ3_contains 9 = .ok (.goto 4, 3) := dk_167 0 4 (dk_at dksJ3_contains_0 9 rfl rfl)
theorem dJ3_contains_12 : decode cJ3_contains 12 = .ok (.iconst 0, 1) := dk_3 (dk_at dksJ3_contains_0 12 rfl rfl)
theorem dJ3_contains_13 : decode cJ3_contains 13 = .ok (.ireturn, 1) := dk_172 (dk_at dksJ3_contains_0 13 rfl rfl)
abbrev cJ3_indexOf : ByteArray := prog_33_method_11_code
def yJ3_indexOf : MethodName := ⟨RJ3, "indexOf", "(Ljava/lang/Object;)I"⟩
def dkwJ3_indexOf_0 : List UInt8 := [42, 43, 3, 42, 180, 0, 48, 182, 0, 89, 172]
abbrev dktJ3_indexOf_0 : List UInt8 := dkwJ3_indexOf_0 ++ []
theorem dksJ3_indexOf_0 : cJ3_indexOf.data.toList.drop 0 = dktJ3_indexOf_0 := by decide +kernel
theorem dJ3_indexOf_0 : decode cJ3_indexOf 0 = .ok (.aload_n 0, 1) := dk_42 (dk_at dksJ3_indexOf_0 0 rfl rfl)
theorem dJ3_indexOf_1 : decode cJ3_indexOf 1 = .ok (.aload_n 1, 1) := dk_43 (dk_at dksJ3_indexOf_0 1 rfl rfl)
theorem dJ3_indexOf_2 : decode cJ3_indexOf 2 = .ok (.iconst 0, 1) := dk_3 (dk_at dksJ3_indexOf_0 2 rfl rfl)
theorem dJ3_indexOf_3 : decode cJ3_indexOf 3 = .ok (.aload_n 0, 1) := dk_42 (dk_at dksJ3_indexOf_0 3 rfl rfl)
theorem dJ3_indexOf_4 : decode cJ3_indexOf 4 = .ok (.getfield 48, 3) := dk_180 0 48 (dk_at dksJ3_indexOf_0 4 rfl rfl)
theorem dJ3_indexOf_7 : decode cJ3_indexOf 7 = .ok (.invokevirtual 89, 3) := dk_182 0 89 (dk_at dksJ3_indexOf_0 7 rfl rfl)
theorem dJ3_indexOf_10 : decode cJ3_indexOf 10 = .ok (.ireturn, 1) := dk_172 (dk_at dksJ3_indexOf_0 10 rfl rfl)
abbrev cJ3_indexOfRange : ByteArray := prog_33_method_12_code
def yJ3_indexOfRange : MethodName := ⟨RJ3, "indexOfRange", "(Ljava/lang/Object;II)I"⟩
def dkwJ3_indexOfRange_2 : List UInt8 := [43, 25, 4, 21, 5, 50, 182, 0, 93, 153, 0, 6, 21, 5, 172, 132, 5, 1, 167, 255, 232, 2, 172]
abbrev dktJ3_indexOfRange_2 : List UInt8 := dkwJ3_indexOfRange_2 ++ []
def dkwJ3_indexOfRange_1 : List UInt8 := [199, 0, 6, 21, 5, 172, 132, 5, 1, 167, 255, 236, 167, 0, 33, 28, 54, 5, 21, 5, 29, 162, 0, 24]
abbrev dktJ3_indexOfRange_1 : List UInt8 := dkwJ3_indexOfRange_1 ++ dktJ3_indexOfRange_2
def dkwJ3_indexOfRange_0 : List UInt8 := [42, 180, 0, 9, 58, 4, 43, 199, 0, 32, 28, 54, 5, 21, 5, 29, 162, 0, 20, 25, 4, 21, 5, 50]
abbrev dktJ3_indexOfRange_0 : List UInt8 := dkwJ3_indexOfRange_0 ++ dktJ3_indexOfRange_1
theorem dksJ3_indexOfRange_0 : cJ3_indexOfRange.data.toList.drop 0 = dktJ3_indexOfRange_0 := by decide +kernel
theorem dksJ3_indexOfRange_1 : cJ3_indexOfRange.data.toList.drop 24 = dktJ3_indexOfRange_1 := dk_seg dksJ3_indexOfRange_0 24 rfl rfl
theorem dksJ3_indexOfRange_2 : cJ3_indexOfRange.data.toList.drop 48 = dktJ3_indexOfRange_2 := dk_seg dksJ3_indexOfRange_1 24 rfl rfl
theorem dJ3_indexOfRange_0 : decode cJ3_indexOfRange 0 = .ok (.aload_n 0, 1) := dk_42 (dk_at dksJ3_indexOfRange_0 0 rfl rfl)
theorem dJ3_indexOfRange_1 : decode cJ3_indexOfRange 1 = .ok (.getfield 9, 3) := dk_180 0 9 (dk_at dksJ3_indexOfRange_0 1 rfl rfl)
theorem dJ3_indexOfRange_4 : decode cJ3_indexOfRange 4 = .ok (.astore 4, 2) := dk_58 4 (dk_at dksJ3_indexOfRange_0 4 rfl rfl)
theorem dJ3_indexOfRange_6 : decode cJ3_indexOfRange 6 = .ok (.aload_n 1, 1) := dk_43 (dk_at dksJ3_indexOfRange_0 6 rfl rfl)
theorem dJ3_indexOfRange_7 : decode cJ3_indexOfRange 7 = .ok (.ifnonnull 32, 3) := dk_199 0 32 (dk_at dksJ3_indexOfRange_0 7 rfl rfl)
theorem dJ3_indexOfRange_10 : decode cJ3_indexOfRange 10 = .ok (.iload_n 2, 1) := dk_28 (dk_at dksJ3_indexOfRange_0 10 rfl rfl)
theorem dJ3_indexOfRange_11 : decode cJ3_indexOfRange 11 = .ok (.istore 5, 2) := dk_54 5 (dk_at dksJ3_indexOfRange_0 11 rfl rfl)
theorem dJ3_indexOfRange_13 : decode cJ3_indexOfRange 13 = .ok (.iload 5, 2) := dk_21 5 (dk_at dksJ3_indexOfRange_0 13 rfl rfl)
theorem dJ3_indexOfRange_15 : decode cJ3_indexOfRange 15 = .ok (.iload_n 3, 1) := dk_29 (dk_at dksJ3_indexOfRange_0 15 rfl rfl)
theorem dJ3_indexOfRange_16 : decode cJ3_indexOfRange 16 = .ok (.if_icmp .ge 20, 3) := dk_162 0 20 (dk_at dksJ3_indexOfRange_0 16 rfl rfl)
theorem dJ3_indexOfRange_19 : decode cJ3_indexOfRange 19 = .ok (.aload 4, 2) := dk_25 4 (dk_at dksJ3_indexOfRange_0 19 rfl rfl)
theorem dJ3_indexOfRange_21 : decode cJ3_indexOfRange 21 = .ok (.iload 5, 2) := dk_21 5 (dk_at dksJ3_indexOfRange_0 21 rfl rfl)
theorem dJ3_indexOfRange_23 : decode cJ3_indexOfRange 23 = .ok (.aaload, 1) := dk_50 (dk_at dksJ3_indexOfRange_0 23 rfl rfl)
theorem dJ3_indexOfRange_24 : decode cJ3_indexOfRange 24 = .ok (.ifnonnull 6, 3) := dk_199 0 6 (dk_at dksJ3_indexOfRange_1 0 rfl rfl)
theorem dJ3_indexOfRange_27 : decode cJ3_indexOfRange 27 = .ok (.iload 5, 2) := dk_21 5 (dk_at dksJ3_indexOfRange_1 3 rfl rfl)
theorem dJ3_indexOfRange_29 : decode cJ3_indexOfRange 29 = .ok (.ireturn, 1) := dk_172 (dk_at dksJ3_indexOfRange_1 5 rfl rfl)
theorem dJ3_indexOfRange_30 : decode cJ3_indexOfRange 30 = .ok (.iinc 5 1, 3) := dk_132 5 1 (dk_at dksJ3_indexOfRange_1 6 rfl rfl)
theorem dJ3_indexOfRange_33 : decode cJ3_indexOfRange 33 = .ok (.goto (-20), 3) := dk_167 255 236 (dk_at dksJ3_indexOfRange_1 9 rfl rfl)
theorem dJ3_indexOfRange_36 : decode cJ3_indexOfRange 36 = .ok (.goto 33, 3) := dk_167 0 33 (dk_at dksJ3_indexOfRange_1 12 rfl rfl)
theorem dJ3_indexOfRange_39 : decode cJ3_indexOfRange 39 = .ok (.iload_n 2, 1) := dk_28 (dk_at dksJ3_indexOfRange_1 15 rfl rfl)
theorem dJ3_indexOfRange_40 : decode cJ3_indexOfRange 40 = .ok (.istore 5, 2) := dk_54 5 (dk_at dksJ3_indexOfRange_1 16 rfl rfl)
theorem dJ3_indexOfRange_42 : decode cJ3_indexOfRange 42 = .ok (.iload 5, 2) := dk_21 5 (dk_at dksJ3_indexOfRange_1 18 rfl rfl)
theorem dJ3_indexOfRange_44 : decode cJ3_indexOfRange 44 = .ok (.iload_n 3, 1) := dk_29 (dk_at dksJ3_indexOfRange_1 20 rfl rfl)
theorem dJ3_indexOfRange_45 : decode cJ3_indexOfRange 45 = .ok (.if_icmp .ge 24, 3) := dk_162 0 24 (dk_at dksJ3_indexOfRange_1 21 rfl rfl)
theorem dJ3_indexOfRange_48 : decode cJ3_indexOfRange 48 = .ok (.aload_n 1, 1) := dk_43 (dk_at dksJ3_indexOfRange_2 0 rfl rfl)
theorem dJ3_indexOfRange_49 : decode cJ3_indexOfRange 49 = .ok (.aload 4, 2) := dk_25 4 (dk_at dksJ3_indexOfRange_2 1 rfl rfl)
theorem dJ3_indexOfRange_51 : decode cJ3_indexOfRange 51 = .ok (.iload 5, 2) := dk_21 5 (dk_at dksJ3_indexOfRange_2 3 rfl rfl)
theorem dJ3_indexOfRange_53 : decode cJ3_indexOfRange 53 = .ok (.aaload, 1) := dk_50 (dk_at dksJ3_indexOfRange_2 5 rfl rfl)
theorem dJ3_indexOfRange_54 : decode cJ3_indexOfRange 54 = .ok (.invokevirtual 93, 3) := dk_182 0 93 (dk_at dksJ3_indexOfRange_2 6 rfl rfl)
theorem dJ3_indexOfRange_57 : decode cJ3_indexOfRange 57 = .ok (.ifCond .eq 6, 3) := dk_153 0 6 (dk_at dksJ3_indexOfRange_2 9 rfl rfl)
theorem dJ3_indexOfRange_60 : decode cJ3_indexOfRange 60 = .ok (.iload 5, 2) := dk_21 5 (dk_at dksJ3_indexOfRange_2 12 rfl rfl)
theorem dJ3_indexOfRange_62 : decode cJ3_indexOfRange 62 = .ok (.ireturn, 1) := dk_172 (dk_at dksJ3_indexOfRange_2 14 rfl rfl)
theorem dJ3_indexOfRange_63 : decode cJ3_indexOfRange 63 = .ok (.iinc 5 1, 3) := dk_132 5 1 (dk_at dksJ3_indexOfRange_2 15 rfl rfl)
theorem dJ3_indexOfRange_66 : decode cJ3_indexOfRange 66 = .ok (.goto (-24), 3) := dk_167 255 232 (dk_at dksJ3_indexOfRange_2 18 rfl rfl)
theorem dJ3_indexOfRange_69 : decode cJ3_indexOfRange 69 = .ok (.iconst (-1), 1) := dk_2 (dk_at dksJ3_indexOfRange_2 21 rfl rfl)
theorem dJ3_indexOfRange_70 : decode cJ3_indexOfRange 70 = .ok (.ireturn, 1) := dk_172 (dk_at dksJ3_indexOfRange_2 22 rfl rfl)
abbrev cJ3_clear : ByteArray := prog_33_method_40_code
def yJ3_clear : MethodName := ⟨RJ3, "clear", "()V"⟩
def dkwJ3_clear_1 : List UInt8 := [181, 0, 48, 62, 29, 28, 162, 0, 13, 43, 29, 1, 83, 132, 3, 1, 167, 255, 244, 177]
abbrev dktJ3_clear_1 : List UInt8 := dkwJ3_clear_1 ++ []
def dkwJ3_clear_0 : List UInt8 := [42, 89, 180, 0, 63, 4, 96, 181, 0, 63, 42, 180, 0, 9, 76, 42, 180, 0, 48, 61, 42, 3, 90]
abbrev dktJ3_clear_0 : List UInt8 := dkwJ3_clear_0 ++ dktJ3_clear_1
theorem dksJ3_clear_0 : cJ3_clear.data.toList.drop 0 = dktJ3_clear_0 := by decide +kernel
theorem dksJ3_clear_1 : cJ3_clear.data.toList.drop 23 = dktJ3_clear_1 := dk_seg dksJ3_clear_0 23 rfl rfl
theorem dJ3_clear_0 : decode cJ3_clear 0 = .ok (.aload_n 0, 1) := dk_42 (dk_at dksJ3_clear_0 0 rfl rfl)
theorem dJ3_clear_1 : decode cJ3_clear 1 = .ok (.dup, 1) := dk_89 (dk_at dksJ3_clear_0 1 rfl rfl)
theorem dJ3_clear_2 : decode cJ3_clear 2 = .ok (.getfield 63, 3) := dk_180 0 63 (dk_at dksJ3_clear_0 2 rfl rfl)
theorem dJ3_clear_5 : decode cJ3_clear 5 = .ok (.iconst 1, 1) := dk_4 (dk_at dksJ3_clear_0 5 rfl rfl)
theorem dJ3_clear_6 : decode cJ3_clear 6 = .ok (.iadd, 1) := dk_96 (dk_at dksJ3_clear_0 6 rfl rfl)
theorem dJ3_clear_7 : decode cJ3_clear 7 = .ok (.putfield 63, 3) := dk_181 0 63 (dk_at dksJ3_clear_0 7 rfl rfl)
theorem dJ3_clear_10 : decode cJ3_clear 10 = .ok (.aload_n 0, 1) := dk_42 (dk_at dksJ3_clear_0 10 rfl rfl)
theorem dJ3_clear_11 : decode cJ3_clear 11 = .ok (.getfield 9, 3) := dk_180 0 9 (dk_at dksJ3_clear_0 11 rfl rfl)
theorem dJ3_clear_14 : decode cJ3_clear 14 = .ok (.astore_n 1, 1) := dk_76 (dk_at dksJ3_clear_0 14 rfl rfl)
theorem dJ3_clear_15 : decode cJ3_clear 15 = .ok (.aload_n 0, 1) := dk_42 (dk_at dksJ3_clear_0 15 rfl rfl)
theorem dJ3_clear_16 : decode cJ3_clear 16 = .ok (.getfield 48, 3) := dk_180 0 48 (dk_at dksJ3_clear_0 16 rfl rfl)
theorem dJ3_clear_19 : decode cJ3_clear 19 = .ok (.istore_n 2, 1) := dk_61 (dk_at dksJ3_clear_0 19 rfl rfl)
theorem dJ3_clear_20 : decode cJ3_clear 20 = .ok (.aload_n 0, 1) := dk_42 (dk_at dksJ3_clear_0 20 rfl rfl)
theorem dJ3_clear_21 : decode cJ3_clear 21 = .ok (.iconst 0, 1) := dk_3 (dk_at dksJ3_clear_0 21 rfl rfl)
theorem dJ3_clear_22 : decode cJ3_clear 22 = .ok (.dup_x1, 1) := dk_90 (dk_at dksJ3_clear_0 22 rfl rfl)
theorem dJ3_clear_23 : decode cJ3_clear 23 = .ok (.putfield 48, 3) := dk_181 0 48 (dk_at dksJ3_clear_1 0 rfl rfl)
theorem dJ3_clear_26 : decode cJ3_clear 26 = .ok (.istore_n 3, 1) := dk_62 (dk_at dksJ3_clear_1 3 rfl rfl)
theorem dJ3_clear_27 : decode cJ3_clear 27 = .ok (.iload_n 3, 1) := dk_29 (dk_at dksJ3_clear_1 4 rfl rfl)
theorem dJ3_clear_28 : decode cJ3_clear 28 = .ok (.iload_n 2, 1) := dk_28 (dk_at dksJ3_clear_1 5 rfl rfl)
theorem dJ3_clear_29 : decode cJ3_clear 29 = .ok (.if_icmp .ge 13, 3) := dk_162 0 13 (dk_at dksJ3_clear_1 6 rfl rfl)
theorem dJ3_clear_32 : decode cJ3_clear 32 = .ok (.aload_n 1, 1) := dk_43 (dk_at dksJ3_clear_1 9 rfl rfl)
theorem dJ3_clear_33 : decode cJ3_clear 33 = .ok (.iload_n 3, 1) := dk_29 (dk_at dksJ3_clear_1 10 rfl rfl)
theorem dJ3_clear_34 : decode cJ3_clear 34 = .ok (.aconst_null, 1) := dk_1 (dk_at dksJ3_clear_1 11 rfl rfl)
theorem dJ3_clear_35 : decode cJ3_clear 35 = .ok (.aastore, 1) := dk_83 (dk_at dksJ3_clear_1 12 rfl rfl)
theorem dJ3_clear_36 : decode cJ3_clear 36 = .ok (.iinc 3 1, 3) := dk_132 3 1 (dk_at dksJ3_clear_1 13 rfl rfl)
theorem dJ3_clear_39 : decode cJ3_clear 39 = .ok (.goto (-12), 3) := dk_167 255 244 (dk_at dksJ3_clear_1 16 rfl rfl)
theorem dJ3_clear_42 : decode cJ3_clear 42 = .ok (.return_, 1) := dk_177 (dk_at dksJ3_clear_1 19 rfl rfl)
abbrev cJ3_iterator : ByteArray := prog_33_method_55_code
def yJ3_iterator : MethodName := ⟨RJ3, "iterator", "()Ljava/util/Iterator;"⟩
def dkwJ3_iterator_0 : List UInt8 := [187, 1, 11, 89, 42, 183, 1, 13, 176]
abbrev dktJ3_iterator_0 : List UInt8 := dkwJ3_iterator_0 ++ []
theorem dksJ3_iterator_0 : cJ3_iterator.data.toList.drop 0 = dktJ3_iterator_0 := by decide +kernel
theorem dJ3_iterator_0 : decode cJ3_iterator 0 = .ok (.new 267, 3) := dk_187 1 11 (dk_at dksJ3_iterator_0 0 rfl rfl)
theorem dJ3_iterator_3 : decode cJ3_iterator 3 = .ok (.dup, 1) := dk_89 (dk_at dksJ3_iterator_0 3 rfl rfl)
theorem dJ3_iterator_4 : decode cJ3_iterator 4 = .ok (.aload_n 0, 1) := dk_42 (dk_at dksJ3_iterator_0 4 rfl rfl)
theorem dJ3_iterator_5 : decode cJ3_iterator 5 = .ok (.invokespecial 269, 3) := dk_183 1 13 (dk_at dksJ3_iterator_0 5 rfl rfl)
theorem dJ3_iterator_8 : decode cJ3_iterator 8 = .ok (.areturn, 1) := dk_176 (dk_at dksJ3_iterator_0 8 rfl rfl)
theorem q53 : (Jvm.Cond.initialized "java/util/ArrayList") ∈ lw_all := lw_g (lw_at lw_m1 6 rfl) rfl
theorem q111 : (Jvm.Cond.instantiable "java/util/ArrayList" (3 : Nat)) ∈ lw_all := lw_g (lw_at lw_m1 64 rfl) rfl
theorem q113 : (Jvm.Cond.instanceMethod ({ cls := "java/util/ArrayList", name := "<init>", desc := "()V" } : Jvm.MethodName)) ∈ lw_all := lw_g (lw_at lw_m1 66 rfl) rfl
theorem q114 : (Jvm.Cond.code ({ cls := "java/util/ArrayList", name := "<init>", desc := "()V" } : Jvm.MethodName) prog_33_method_2_code (1 : Nat) (Option.none : Option Jvm.ClassFile.FieldType)) ∈ lw_all := lw_g (lw_at lw_m1 67 rfl) rfl
theorem q115 : (Jvm.Cond.methodLink "java/util/ArrayList" (1 : Nat) ({ cls := "java/util/AbstractList", name := "<init>", desc := "()V" } : Jvm.MethodName)) ∈ lw_all := lw_g (lw_at lw_m1 68 rfl) rfl
theorem q122 : (Jvm.Cond.fieldLink "java/util/ArrayList" (39 : Nat) "java/util/ArrayList" "DEFAULTCAPACITY_EMPTY_ELEMENTDATA" "[Ljava/lang/Object;") ∈ lw_all := lw_g (lw_at lw_m1 75 rfl) rfl
theorem q123 : (Jvm.Cond.laysStatic "java/util/ArrayList" "DEFAULTCAPACITY_EMPTY_ELEMENTDATA" "[Ljava/lang/Object;") ∈ lw_tbl := lw_at lw_m1 76 rfl
theorem q124 : (Jvm.Cond.fieldLink "java/util/ArrayList" (9 : Nat) "java/util/ArrayList" "elementData" "[Ljava/lang/Object;") ∈ lw_all := lw_g (lw_at lw_m1 77 rfl) rfl
theorem q127 : (Jvm.Cond.fieldLink "java/util/ArrayList" (48 : Nat) "java/util/ArrayList" "size" "I") ∈ lw_all := lw_g (lw_at lw_m1 80 rfl) rfl
theorem q130 : (Jvm.Cond.sameField "java/util/ArrayList" "java/util/AbstractList" "modCount" "I") ∈ lw_all := lw_g (lw_at lw_m1 83 rfl) rfl
theorem q131 : (Jvm.Cond.fieldLink "java/util/ArrayList" (63 : Nat) "java/util/ArrayList" "modCount" "I") ∈ lw_all := lw_g (lw_at lw_m1 84 rfl) rfl
theorem q132 : (Jvm.Cond.lays "java/util/ArrayList" "java/util/ArrayList" "elementData" "[Ljava/lang/Object;") ∈ lw_all := lw_g (lw_at lw_m1 85 rfl) rfl
theorem q133 : (Jvm.Cond.soleField "java/util/ArrayList" "elementData") ∈ lw_all := lw_g (lw_at lw_m1 86 rfl) rfl
theorem q134 : (Jvm.Cond.lays "java/util/ArrayList" "java/util/ArrayList" "size" "I") ∈ lw_all := lw_g (lw_at lw_m1 87 rfl) rfl
theorem q135 : (Jvm.Cond.soleField "java/util/ArrayList" "size") ∈ lw_all := lw_g (lw_at lw_m1 88 rfl) rfl
theorem q136 : (Jvm.Cond.lays "java/util/ArrayList" "java/util/AbstractList" "modCount" "I") ∈ lw_all := lw_g (lw_at lw_m1 89 rfl) rfl
theorem q138 : (Jvm.Cond.superclass "java/util/ArrayList" "java/util/AbstractList") ∈ lw_all := lw_g (lw_at lw_m1 91 rfl) rfl
theorem q453 : (Jvm.Cond.instanceMethod ({ cls := "java/util/ArrayList", name := "size", desc := "()I" } : Jvm.MethodName)) ∈ lw_all := lw_g (lw_at lw_m2 166 rfl) rfl
theorem q454 : (Jvm.Cond.selects "java/util/ArrayList" ({ cls := "java/util/ArrayList", name := "size", desc := "()I" } : Jvm.MethodName) ({ cls := "java/util/ArrayList", name := "size", desc := "()I" } : Jvm.MethodName)) ∈ lw_all := lw_g (lw_at lw_m2 167 rfl) rfl
theorem q455 : (Jvm.Cond.code ({ cls := "java/util/ArrayList", name := "size", desc := "()I" } : Jvm.MethodName) prog_33_method_8_code (1 : Nat) (Option.some Jvm.ClassFile.FieldType.int)) ∈ lw_all := lw_g (lw_at lw_m2 168 rfl) rfl
theorem q519 : (Jvm.Cond.instanceMethod ({ cls := "java/util/ArrayList", name := "add", desc := "(Ljava/lang/Object;)Z" } : Jvm.MethodName)) ∈ lw_all := lw_g (lw_at lw_m2 232 rfl) rfl
theorem q520 : (Jvm.Cond.selects "java/util/ArrayList" ({ cls := "java/util/ArrayList", name := "add", desc := "(Ljava/lang/Object;)Z" } : Jvm.MethodName) ({ cls := "java/util/ArrayList", name := "add", desc := "(Ljava/lang/Object;)Z" } : Jvm.MethodName)) ∈ lw_all := lw_g (lw_at lw_m2 233 rfl) rfl
theorem q521 : (Jvm.Cond.code ({ cls := "java/util/ArrayList", name := "add", desc := "(Ljava/lang/Object;)Z" } : Jvm.MethodName) prog_33_method_25_code (2 : Nat) (Option.some Jvm.ClassFile.FieldType.boolean)) ∈ lw_all := lw_g (lw_at lw_m2 234 rfl) rfl
theorem q522 : (Jvm.Cond.methodLink "java/util/ArrayList" (131 : Nat) ({ cls := "java/util/ArrayList", name := "add", desc := "(Ljava/lang/Object;[Ljava/lang/Object;I)V" } : Jvm.MethodName)) ∈ lw_all := lw_g (lw_at lw_m2 235 rfl) rfl
theorem q523 : (Jvm.Cond.privateMethod ({ cls := "java/util/ArrayList", name := "add", desc := "(Ljava/lang/Object;[Ljava/lang/Object;I)V" } : Jvm.MethodName)) ∈ lw_tbl := lw_at lw_m2 236 rfl
theorem q524 : (Jvm.Cond.instanceMethod ({ cls := "java/util/ArrayList", name := "add", desc := "(Ljava/lang/Object;[Ljava/lang/Object;I)V" } : Jvm.MethodName)) ∈ lw_all := lw_g (lw_at lw_m2 237 rfl) rfl
theorem q525 : (Jvm.Cond.code ({ cls := "java/util/ArrayList", name := "add", desc := "(Ljava/lang/Object;[Ljava/lang/Object;I)V" } : Jvm.MethodName) prog_33_method_24_code (4 : Nat) (Option.none : Option Jvm.ClassFile.FieldType)) ∈ lw_all := lw_g (lw_at lw_m2 238 rfl) rfl
theorem q526 : (Jvm.Cond.methodLink "java/util/ArrayList" (129 : Nat) ({ cls := "java/util/ArrayList", name := "grow", desc := "()[Ljava/lang/Object;" } : Jvm.MethodName)) ∈ lw_all := lw_g (lw_at lw_m2 239 rfl) rfl
theorem q527 : (Jvm.Cond.privateMethod ({ cls := "java/util/ArrayList", name := "grow", desc := "()[Ljava/lang/Object;" } : Jvm.MethodName)) ∈ lw_tbl := lw_at lw_m3 0 rfl
theorem q528 : (Jvm.Cond.instanceMethod ({ cls := "java/util/ArrayList", name := "grow", desc := "()[Ljava/lang/Object;" } : Jvm.MethodName)) ∈ lw_all := lw_g (lw_at lw_m3 1 rfl) rfl
theorem q529 : (Jvm.Cond.code ({ cls := "java/util/ArrayList", name := "grow", desc := "()[Ljava/lang/Object;" } : Jvm.MethodName) prog_33_method_7_code (1 : Nat) (Option.some (Jvm.ClassFile.FieldType.array (Jvm.ClassFile.FieldType.object "java/lang/Object")))) ∈ lw_all := lw_g (lw_at lw_m3 2 rfl) rfl
theorem q530 : (Jvm.Cond.methodLink "java/util/ArrayList" (69 : Nat) ({ cls := "java/util/ArrayList", name := "grow", desc := "(I)[Ljava/lang/Object;" } : Jvm.MethodName)) ∈ lw_all := lw_g (lw_at lw_m3 3 rfl) rfl
theorem q531 : (Jvm.Cond.privateMethod ({ cls := "java/util/ArrayList", name := "grow", desc := "(I)[Ljava/lang/Object;" } : Jvm.MethodName)) ∈ lw_tbl := lw_at lw_m3 4 rfl
theorem q532 : (Jvm.Cond.instanceMethod ({ cls := "java/util/ArrayList", name := "grow", desc := "(I)[Ljava/lang/Object;" } : Jvm.MethodName)) ∈ lw_all := lw_g (lw_at lw_m3 5 rfl) rfl
theorem q533 : (Jvm.Cond.code ({ cls := "java/util/ArrayList", name := "grow", desc := "(I)[Ljava/lang/Object;" } : Jvm.MethodName) prog_33_method_6_code (4 : Nat) (Option.some (Jvm.ClassFile.FieldType.array (Jvm.ClassFile.FieldType.object "java/lang/Object")))) ∈ lw_all := lw_g (lw_at lw_m3 6 rfl) rfl
theorem q534 : (Jvm.Cond.methodLink "java/util/ArrayList" (73 : Nat) ({ cls := "jdk/internal/util/ArraysSupport", name := "newLength", desc := "(III)I" } : Jvm.MethodName)) ∈ lw_all := lw_g (lw_at lw_m3 7 rfl) rfl
theorem q544 : (Jvm.Cond.methodLink "java/util/ArrayList" (66 : Nat) ({ cls := "java/util/Arrays", name := "copyOf", desc := "([Ljava/lang/Object;I)[Ljava/lang/Object;" } : Jvm.MethodName)) ∈ lw_all := lw_g (lw_at lw_m3 17 rfl) rfl
theorem q563 : (Jvm.Cond.selects "java/util/ArrayList" ({ cls := "java/lang/Object", name := "getClass", desc := "()Ljava/lang/Class;" } : Jvm.MethodName) ({ cls := "java/lang/Object", name := "getClass", desc := "()Ljava/lang/Class;" } : Jvm.MethodName)) ∈ lw_all := lw_g (lw_at lw_m3 36 rfl) rfl
theorem q586 : (Jvm.Cond.methodLink "java/util/ArrayList" (79 : Nat) ({ cls := "java/lang/Math", name := "max", desc := "(II)I" } : Jvm.MethodName)) ∈ lw_all := lw_g (lw_at lw_m3 59 rfl) rfl
theorem q587 : (Jvm.Cond.classLink "java/util/ArrayList" (7 : Nat) "java/lang/Object") ∈ lw_all := lw_g (lw_at lw_m3 60 rfl) rfl
theorem q597 : (Jvm.Cond.instanceMethod ({ cls := "java/util/ArrayList", name := "get", desc := "(I)Ljava/lang/Object;" } : Jvm.MethodName)) ∈ lw_all := lw_g (lw_at lw_m3 70 rfl) rfl
theorem q598 : (Jvm.Cond.selects "java/util/ArrayList" ({ cls := "java/util/ArrayList", name := "get", desc := "(I)Ljava/lang/Object;" } : Jvm.MethodName) ({ cls := "java/util/ArrayList", name := "get", desc := "(I)Ljava/lang/Object;" } : Jvm.MethodName)) ∈ lw_all := lw_g (lw_at lw_m3 71 rfl) rfl
theorem q599 : (Jvm.Cond.code ({ cls := "java/util/ArrayList", name := "get", desc := "(I)Ljava/lang/Object;" } : Jvm.MethodName) prog_33_method_20_code (2 : Nat) (Option.some (Jvm.ClassFile.FieldType.object "java/lang/Object"))) ∈ lw_all := lw_g (lw_at lw_m3 72 rfl) rfl
theorem q600 : (Jvm.Cond.methodLink "java/util/ArrayList" (118 : Nat) ({ cls := "java/util/Objects", name := "checkIndex", desc := "(II)I" } : Jvm.MethodName)) ∈ lw_all := lw_g (lw_at lw_m3 73 rfl) rfl
theorem q606 : (Jvm.Cond.methodLink "java/util/ArrayList" (123 : Nat) ({ cls := "java/util/ArrayList", name := "elementData", desc := "(I)Ljava/lang/Object;" } : Jvm.MethodName)) ∈ lw_all := lw_g (lw_at lw_m3 79 rfl) rfl
theorem q607 : (Jvm.Cond.instanceMethod ({ cls := "java/util/ArrayList", name := "elementData", desc := "(I)Ljava/lang/Object;" } : Jvm.MethodName)) ∈ lw_all := lw_g (lw_at lw_m3 80 rfl) rfl
theorem q608 : (Jvm.Cond.selects "java/util/ArrayList" ({ cls := "java/util/ArrayList", name := "elementData", desc := "(I)Ljava/lang/Object;" } : Jvm.MethodName) ({ cls := "java/util/ArrayList", name := "elementData", desc := "(I)Ljava/lang/Object;" } : Jvm.MethodName)) ∈ lw_all := lw_g (lw_at lw_m3 81 rfl) rfl
theorem q609 : (Jvm.Cond.code ({ cls := "java/util/ArrayList", name := "elementData", desc := "(I)Ljava/lang/Object;" } : Jvm.MethodName) prog_33_method_18_code (2 : Nat) (Option.some (Jvm.ClassFile.FieldType.object "java/lang/Object"))) ∈ lw_all := lw_g (lw_at lw_m3 82 rfl) rfl
theorem q611 : (Jvm.Cond.instanceMethod ({ cls := "java/util/ArrayList", name := "contains", desc := "(Ljava/lang/Object;)Z" } : Jvm.MethodName)) ∈ lw_all := lw_g (lw_at lw_m3 84 rfl) rfl
theorem q612 : (Jvm.Cond.selects "java/util/ArrayList" ({ cls := "java/util/ArrayList", name := "contains", desc := "(Ljava/lang/Object;)Z" } : Jvm.MethodName) ({ cls := "java/util/ArrayList", name := "contains", desc := "(Ljava/lang/Object;)Z" } : Jvm.MethodName)) ∈ lw_all := lw_g (lw_at lw_m3 85 rfl) rfl
theorem q613 : (Jvm.Cond.code ({ cls := "java/util/ArrayList", name := "contains", desc := "(Ljava/lang/Object;)Z" } : Jvm.MethodName) prog_33_method_10_code (2 : Nat) (Option.some Jvm.ClassFile.FieldType.boolean)) ∈ lw_all := lw_g (lw_at lw_m3 86 rfl) rfl
theorem q614 : (Jvm.Cond.methodLink "java/util/ArrayList" (85 : Nat) ({ cls := "java/util/ArrayList", name := "indexOf", desc := "(Ljava/lang/Object;)I" } : Jvm.MethodName)) ∈ lw_all := lw_g (lw_at lw_m3 87 rfl) rfl
theorem q615 : (Jvm.Cond.instanceMethod ({ cls := "java/util/ArrayList", name := "indexOf", desc := "(Ljava/lang/Object;)I" } : Jvm.MethodName)) ∈ lw_all := lw_g (lw_at lw_m3 88 rfl) rfl
theorem q616 : (Jvm.Cond.selects "java/util/ArrayList" ({ cls := "java/util/ArrayList", name := "indexOf", desc := "(Ljava/lang/Object;)I" } : Jvm.MethodName) ({ cls := "java/util/ArrayList", name := "indexOf", desc := "(Ljava/lang/Object;)I" } : Jvm.MethodName)) ∈ lw_all := lw_g (lw_at lw_m3 89 rfl) rfl
theorem q617 : (Jvm.Cond.code ({ cls := "java/util/ArrayList", name := "indexOf", desc := "(Ljava/lang/Object;)I" } : Jvm.MethodName) prog_33_method_11_code (2 : Nat) (Option.some Jvm.ClassFile.FieldType.int)) ∈ lw_all := lw_g (lw_at lw_m3 90 rfl) rfl
theorem q618 : (Jvm.Cond.methodLink "java/util/ArrayList" (89 : Nat) ({ cls := "java/util/ArrayList", name := "indexOfRange", desc := "(Ljava/lang/Object;II)I" } : Jvm.MethodName)) ∈ lw_all := lw_g (lw_at lw_m3 91 rfl) rfl
theorem q619 : (Jvm.Cond.instanceMethod ({ cls := "java/util/ArrayList", name := "indexOfRange", desc := "(Ljava/lang/Object;II)I" } : Jvm.MethodName)) ∈ lw_all := lw_g (lw_at lw_m3 92 rfl) rfl
theorem q620 : (Jvm.Cond.selects "java/util/ArrayList" ({ cls := "java/util/ArrayList", name := "indexOfRange", desc := "(Ljava/lang/Object;II)I" } : Jvm.MethodName) ({ cls := "java/util/ArrayList", name := "indexOfRange", desc := "(Ljava/lang/Object;II)I" } : Jvm.MethodName)) ∈ lw_all := lw_g (lw_at lw_m3 93 rfl) rfl
theorem q621 : (Jvm.Cond.code ({ cls := "java/util/ArrayList", name := "indexOfRange", desc := "(Ljava/lang/Object;II)I" } : Jvm.MethodName) prog_33_method_12_code (6 : Nat) (Option.some Jvm.ClassFile.FieldType.int)) ∈ lw_all := lw_g (lw_at lw_m3 94 rfl) rfl
theorem q623 : (Jvm.Cond.methodLink "java/util/ArrayList" (93 : Nat) ({ cls := "java/lang/Object", name := "equals", desc := "(Ljava/lang/Object;)Z" } : Jvm.MethodName)) ∈ lw_all := lw_g (lw_at lw_m3 96 rfl) rfl
theorem q1006 : (Jvm.Cond.instanceMethod ({ cls := "java/util/ArrayList", name := "clear", desc := "()V" } : Jvm.MethodName)) ∈ lw_all := lw_g (lw_at lw_m4 239 rfl) rfl
theorem q1007 : (Jvm.Cond.selects "java/util/ArrayList" ({ cls := "java/util/ArrayList", name := "clear", desc := "()V" } : Jvm.MethodName) ({ cls := "java/util/ArrayList", name := "clear", desc := "()V" } : Jvm.MethodName)) ∈ lw_all := lw_g (lw_at lw_m5 0 rfl) rfl
theorem q1008 : (Jvm.Cond.code ({ cls := "java/util/ArrayList", name := "clear", desc := "()V" } : Jvm.MethodName) prog_33_method_40_code (4 : Nat) (Option.none : Option Jvm.ClassFile.FieldType)) ∈ lw_all := lw_g (lw_at lw_m5 1 rfl) rfl
theorem q1082 : (Jvm.Cond.instanceMethod ({ cls := "java/util/ArrayList", name := "iterator", desc := "()Ljava/util/Iterator;" } : Jvm.MethodName)) ∈ lw_all := lw_g (lw_at lw_m5 75 rfl) rfl
theorem q1083 : (Jvm.Cond.selects "java/util/ArrayList" ({ cls := "java/util/ArrayList", name := "iterator", desc := "()Ljava/util/Iterator;" } : Jvm.MethodName) ({ cls := "java/util/ArrayList", name := "iterator", desc := "()Ljava/util/Iterator;" } : Jvm.MethodName)) ∈ lw_all := lw_g (lw_at lw_m5 76 rfl) rfl
theorem q1084 : (Jvm.Cond.code ({ cls := "java/util/ArrayList", name := "iterator", desc := "()Ljava/util/Iterator;" } : Jvm.MethodName) prog_33_method_55_code (1 : Nat) (Option.some (Jvm.ClassFile.FieldType.object "java/util/Iterator"))) ∈ lw_all := lw_g (lw_at lw_m5 77 rfl) rfl
theorem q1085 : (Jvm.Cond.classLink "java/util/ArrayList" (267 : Nat) "java/util/ArrayList$Itr") ∈ lw_all := lw_g (lw_at lw_m5 78 rfl) rfl
theorem q1087 : (Jvm.Cond.methodLink "java/util/ArrayList" (269 : Nat) ({ cls := "java/util/ArrayList$Itr", name := "<init>", desc := "(Ljava/util/ArrayList;)V" } : Jvm.MethodName)) ∈ lw_all := lw_g (lw_at lw_m5 80 rfl) rfl
theorem q1372 : (Jvm.Cond.castable "java/util/ArrayList" "java/util/Collection") ∈ lw_tbl := lw_at lw_m6 125 rfl
theorem q1373 : (Jvm.Cond.selects "java/util/ArrayList" ({ cls := "java/util/Collection", name := "iterator", desc := "()Ljava/util/Iterator;" } : Jvm.MethodName) ({ cls := "java/util/ArrayList", name := "iterator", desc := "()Ljava/util/Iterator;" } : Jvm.MethodName)) ∈ lw_all := lw_g (lw_at lw_m6 126 rfl) rfl
theorem q1374 : (Jvm.Cond.unhidden "java/util/ArrayList" "iterator" "()Ljava/util/Iterator;") ∈ lw_tbl := lw_at lw_m6 127 rfl
theorem q1375 : (Jvm.Cond.publicMethod ({ cls := "java/util/ArrayList", name := "iterator", desc := "()Ljava/util/Iterator;" } : Jvm.MethodName)) ∈ lw_tbl := lw_at lw_m6 128 rfl
theorem q1838 : (Jvm.Cond.castable "java/util/ArrayList" "java/lang/Object") ∈ lw_tbl := lw_at lw_m8 111 rfl
theorem in_J3 : ∀ w ∈ wsJ30, w ∈ lw_all := lw_in wsJ30 [136, 132, 134] (by decide +kernel) (by decide +kernel)
/-! java/lang/Throwable -/
set_option maxRecDepth 100000
def RJ4 : String := "java/lang/Throwable"
def TJ4 : u_T := fun k => match k with
  | 0 => ("java/lang/Throwable", "cause", "Ljava/lang/Throwable;", false)
  | 1 => ("java/lang/Throwable", "stackTrace", "[Ljava/lang/StackTraceElement;", false)
  | 2 => ("java/lang/Throwable", "suppressedExceptions", "Ljava/util/List;", false)
  | 3 => ("java/lang/Throwable", "detailMessage", "Ljava/lang/String;", false)
  | _ => ("java/lang/Throwable", "backtrace", "Ljava/lang/Object;", false)
def tyJ4 : Nat → FieldType := fun k => match k with
  | 0 => .object "java/lang/Throwable"
  | 1 => .array (.object "java/lang/StackTraceElement")
  | 2 => .object "java/util/List"
  | 3 => .object "java/lang/String"
  | _ => .object "java/lang/Object"
abbrev wsJ40 : List Cond := u_ws RJ4 TJ4 5
theorem nmJ4 : ∀ a, a < 5 → ∀ b, b < 5 → a ≠ b → (TJ4 a).2.1 ≠ (TJ4 b).2.1 := by decide +kernel
theorem tyJ4_ok : ∀ k, k < 5 → parseFieldDescriptor (TJ4 k).2.2.1 = some (tyJ4 k) := by decide +kernel
abbrev cJ4_init : ByteArray := prog_24_method_1_code
def yJ4_init : MethodName := ⟨RJ4, "<init>", "()V"⟩
def dkwJ4_init_1 : List UInt8 := [182, 0, 27, 87, 177]
abbrev dktJ4_init_1 : List UInt8 := dkwJ4_init_1 ++ []
def dkwJ4_init_0 : List UInt8 := [42, 183, 0, 1, 42, 42, 181, 0, 7, 42, 178, 0, 13, 181, 0, 17, 42, 178, 0, 20, 181, 0, 24, 42]
abbrev dktJ4_init_0 : List UInt8 := dkwJ4_init_0 ++ dktJ4_init_1
theorem dksJ4_init_0 : cJ4_init.data.toList.drop 0 = dktJ4_init_0 := by decide +kernel
theorem dksJ4_init_1 : cJ4_init.data.toList.drop 24 = dktJ4_init_1 := dk_seg dksJ4_init_0 24 rfl rfl
theorem dJ4_init_0 : decode cJ4_init 0 = .ok (.aload_n 0, 1) := dk_42 (dk_at dksJ4_init_0 0 rfl rfl)
theorem dJ4_init_1 : decode cJ4_init 1 = .ok (.invokespecial 1, 3) := dk_183 0 1 (dk_at dksJ4_init_0 1 rfl rfl)
theorem dJ4_init_4 : decode cJ4_init 4 = .ok (.aload_n 0, 1) := dk_42 (dk_at dksJ4_init_0 4 rfl rfl)
theorem dJ4_init_5 : decode cJ4_init 5 = .ok (.aload_n 0, 1) := dk_42 (dk_at dksJ4_init_0 5 rfl rfl)
theorem dJ4_init_6 : decode cJ4_init 6 = .ok (.putfield 7, 3) := dk_181 0 7 (dk_at dksJ4_init_0 6 rfl rfl)
theorem dJ4_init_9 : decode cJ4_init 9 = .ok (.aload_n 0, 1) := dk_42 (dk_at dksJ4_init_0 9 rfl rfl)
theorem dJ4_init_10 : decode cJ4_init 10 = .ok (.getstatic 13, 3) := dk_178 0 13 (dk_at dksJ4_init_0 10 rfl rfl)
theorem dJ4_init_13 : decode cJ4_init 13 = .ok (.putfield 17, 3) := dk_181 0 17 (dk_at dksJ4_init_0 13 rfl rfl)
theorem dJ4_init_16 : decode cJ4_init 16 = .ok (.aload_n 0, 1) := dk_42 (dk_at dksJ4_init_0 16 rfl rfl)
theorem dJ4_init_17 : decode cJ4_init 17 = .ok (.getstatic 20, 3) := dk_178 0 20 (dk_at dksJ4_init_0 17 rfl rfl)
theorem dJ4_init_20 : decode cJ4_init 20 = .ok (.putfield 24, 3) := dk_181 0 24 (dk_at dksJ4_init_0 20 rfl rfl)
theorem dJ4_init_23 : decode cJ4_init 23 = .ok (.aload_n 0, 1) := dk_42 (dk_at dksJ4_init_0 23 rfl rfl)
theorem dJ4_init_24 : decode cJ4_init 24 = .ok (.invokevirtual 27, 3) := dk_182 0 27 (dk_at dksJ4_init_1 0 rfl rfl)
theorem dJ4_init_27 : decode cJ4_init 27 = .ok (.pop, 1) := dk_87 (dk_at dksJ4_init_1 3 rfl rfl)
theorem dJ4_init_28 : decode cJ4_init 28 = .ok (.return_, 1) := dk_177 (dk_at dksJ4_init_1 4 rfl rfl)
abbrev cJ4_init_2 : ByteArray := prog_24_method_5_code
def yJ4_init_2 : MethodName := ⟨RJ4, "<init>", "(Ljava/lang/String;Ljava/lang/Throwable;ZZ)V"⟩
def dkwJ4_init_2_2 : List UInt8 := [44, 181, 0, 7, 29, 154, 0, 8, 42, 1, 181, 0, 24, 177]
abbrev dktJ4_init_2_2 : List UInt8 := dkwJ4_init_2_2 ++ []
def dkwJ4_init_2_1 : List UInt8 := [21, 4, 153, 0, 11, 42, 182, 0, 27, 87, 167, 0, 8, 42, 1, 181, 0, 17, 42, 43, 181, 0, 31, 42]
abbrev dktJ4_init_2_1 : List UInt8 := dkwJ4_init_2_1 ++ dktJ4_init_2_2
def dkwJ4_init_2_0 : List UInt8 := [42, 183, 0, 1, 42, 42, 181, 0, 7, 42, 178, 0, 13, 181, 0, 17, 42, 178, 0, 20, 181, 0, 24]
abbrev dktJ4_init_2_0 : List UInt8 := dkwJ4_init_2_0 ++ dktJ4_init_2_1
theorem dksJ4_init_2_0 : cJ4_init_2.data.toList.drop 0 = dktJ4_init_2_0 := by decide +kernel
theorem dksJ4_init_2_1 : cJ4_init_2.data.toList.drop 23 = dktJ4_init_2_1 := dk_seg dksJ4_init_2_0 23 rfl rfl
theorem dksJ4_init_2_2 : cJ4_init_2.data.toList.drop 47 = dktJ4_init_2_2 := dk_seg dksJ4_init_2_1 24 rfl rfl
theorem dJ4_init_2_0 : decode cJ4_init_2 0 = .ok (.aload_n 0, 1) := dk_42 (dk_at dksJ4_init_2_0 0 rfl rfl)
theorem dJ4_init_2_1 : decode cJ4_init_2 1 = .ok (.invokespecial 1, 3) := dk_183 0 1 (dk_at dksJ4_init_2_0 1 rfl rfl)
theorem dJ4_init_2_4 : decode cJ4_init_2 4 = .ok (.aload_n 0, 1) := dk_42 (dk_at dksJ4_init_2_0 4 rfl rfl)
theorem dJ4_init_2_5 : decode cJ4_init_2 5 = .ok (.aload_n 0, 1) := dk_42 (dk_at dksJ4_init_2_0 5 rfl rfl)
theorem dJ4_init_2_6 : decode cJ4_init_2 6 = .ok (.putfield 7, 3) := dk_181 0 7 (dk_at dksJ4_init_2_0 6 rfl rfl)
theorem dJ4_init_2_9 : decode cJ4_init_2 9 = .ok (.aload_n 0, 1) := dk_42 (dk_at dksJ4_init_2_0 9 rfl rfl)
theorem dJ4_init_2_10 : decode cJ4_init_2 10 = .ok (.getstatic 13, 3) := dk_178 0 13 (dk_at dksJ4_init_2_0 10 rfl rfl)
theorem dJ4_init_2_13 : decode cJ4_init_2 13 = .ok (.putfield 17, 3) := dk_181 0 17 (dk_at dksJ4_init_2_0 13 rfl rfl)
theorem dJ4_init_2_16 : decode cJ4_init_2 16 = .ok (.aload_n 0, 1) := dk_42 (dk_at dksJ4_init_2_0 16 rfl rfl)
theorem dJ4_init_2_17 : decode cJ4_init_2 17 = .ok (.getstatic 20, 3) := dk_178 0 20 (dk_at dksJ4_init_2_0 17 rfl rfl)
theorem dJ4_init_2_20 : decode cJ4_init_2 20 = .ok (.putfield 24, 3) := dk_181 0 24 (dk_at dksJ4_init_2_0 20 rfl rfl)
theorem dJ4_init_2_23 : decode cJ4_init_2 23 = .ok (.iload 4, 2) := dk_21 4 (dk_at dksJ4_init_2_1 0 rfl rfl)
theorem dJ4_init_2_25 : decode cJ4_init_2 25 = .ok (.ifCond .eq 11, 3) := dk_153 0 11 (dk_at dksJ4_init_2_1 2 rfl rfl)
theorem dJ4_init_2_28 : decode cJ4_init_2 28 = .ok (.aload_n 0, 1) := dk_42 (dk_at dksJ4_init_2_1 5 rfl rfl)
theorem dJ4_init_2_29 : decode cJ4_init_2 29 = .ok (.invokevirtual 27, 3) := dk_182 0 27 (dk_at dksJ4_init_2_1 6 rfl rfl)
theorem dJ4_init_2_32 : decode cJ4_init_2 32 = .ok (.pop, 1) := dk_87 (dk_at dksJ4_init_2_1 9 rfl rfl)
theorem dJ4_init_2_33 : decode cJ4_init_2 33 = .ok (.goto 8, 3) := dk_167 0 8 (dk_at dksJ4_init_2_1 10 rfl rfl)
theorem dJ4_init_2_36 : decode cJ4_init_2 36 = .ok (.aload_n 0, 1) := dk_42 (dk_at dksJ4_init_2_1 13 rfl rfl)
theorem dJ4_init_2_37 : decode cJ4_init_2 37 = .ok (.aconst_null, 1) := dk_1 (dk_at dksJ4_init_2_1 14 rfl rfl)
theorem dJ4_init_2_38 : decode cJ4_init_2 38 = .ok (.putfield 17, 3) := dk_181 0 17 (dk_at dksJ4_init_2_1 15 rfl rfl)
theorem dJ4_init_2_41 : decode cJ4_init_2 41 = .ok (.aload_n 0, 1) := dk_42 (dk_at dksJ4_init_2_1 18 rfl rfl)
theorem dJ4_init_2_42 : decode cJ4_init_2 42 = .ok (.aload_n 1, 1) := dk_43 (dk_at dksJ4_init_2_1 19 rfl rfl)
theorem dJ4_init_2_43 : decode cJ4_init_2 43 = .ok (.putfield 31, 3) := dk_181 0 31 (dk_at dksJ4_init_2_1 20 rfl rfl)
theorem dJ4_init_2_46 : decode cJ4_init_2 46 = .ok (.aload_n 0, 1) := dk_42 (dk_at dksJ4_init_2_1 23 rfl rfl)
theorem dJ4_init_2_47 : decode cJ4_init_2 47 = .ok (.aload_n 2, 1) := dk_44 (dk_at dksJ4_init_2_2 0 rfl rfl)
theorem dJ4_init_2_48 : decode cJ4_init_2 48 = .ok (.putfield 7, 3) := dk_181 0 7 (dk_at dksJ4_init_2_2 1 rfl rfl)
theorem dJ4_init_2_51 : decode cJ4_init_2 51 = .ok (.iload_n 3, 1) := dk_29 (dk_at dksJ4_init_2_2 4 rfl rfl)
theorem dJ4_init_2_52 : decode cJ4_init_2 52 = .ok (.ifCond .ne 8, 3) := dk_154 0 8 (dk_at dksJ4_init_2_2 5 rfl rfl)
theorem dJ4_init_2_55 : decode cJ4_init_2 55 = .ok (.aload_n 0, 1) := dk_42 (dk_at dksJ4_init_2_2 8 rfl rfl)
theorem dJ4_init_2_56 : decode cJ4_init_2 56 = .ok (.aconst_null, 1) := dk_1 (dk_at dksJ4_init_2_2 9 rfl rfl)
theorem dJ4_init_2_57 : decode cJ4_init_2 57 = .ok (.putfield 24, 3) := dk_181 0 24 (dk_at dksJ4_init_2_2 10 rfl rfl)
theorem dJ4_init_2_60 : decode cJ4_init_2 60 = .ok (.return_, 1) := dk_177 (dk_at dksJ4_init_2_2 13 rfl rfl)
theorem q54 : (Jvm.Cond.initialized "java/lang/Throwable") ∈ lw_all := lw_g (lw_at lw_m1 7 rfl) rfl
theorem q146 : (Jvm.Cond.declares ({ cls := "java/lang/Throwable", name := "<init>", desc := "()V" } : Jvm.MethodName)) ∈ lw_tbl := lw_at lw_m1 99 rfl
theorem q147 : (Jvm.Cond.declares ({ cls := "java/lang/Throwable", name := "<init>", desc := "(Ljava/lang/String;)V" } : Jvm.MethodName)) ∈ lw_tbl := lw_at lw_m1 100 rfl
theorem q151 : (Jvm.Cond.lays "java/lang/Throwable" "java/lang/Throwable" "cause" "Ljava/lang/Throwable;") ∈ lw_all := lw_g (lw_at lw_m1 104 rfl) rfl
theorem q153 : (Jvm.Cond.lays "java/lang/Throwable" "java/lang/Throwable" "stackTrace" "[Ljava/lang/StackTraceElement;") ∈ lw_all := lw_g (lw_at lw_m1 106 rfl) rfl
theorem q155 : (Jvm.Cond.lays "java/lang/Throwable" "java/lang/Throwable" "suppressedExceptions" "Ljava/util/List;") ∈ lw_all := lw_g (lw_at lw_m1 108 rfl) rfl
theorem q157 : (Jvm.Cond.lays "java/lang/Throwable" "java/lang/Throwable" "detailMessage" "Ljava/lang/String;") ∈ lw_all := lw_g (lw_at lw_m1 110 rfl) rfl
theorem q159 : (Jvm.Cond.lays "java/lang/Throwable" "java/lang/Throwable" "backtrace" "Ljava/lang/Object;") ∈ lw_all := lw_g (lw_at lw_m1 112 rfl) rfl
theorem q160 : (Jvm.Cond.fieldLink "java/lang/Throwable" (198 : Nat) "java/lang/Throwable" "backtrace" "Ljava/lang/Object;") ∈ lw_all := lw_g (lw_at lw_m1 113 rfl) rfl
theorem q161 : (Jvm.Cond.superclass "java/lang/Throwable" "java/lang/Object") ∈ lw_all := lw_g (lw_at lw_m1 114 rfl) rfl
theorem q162 : (Jvm.Cond.instanceMethod ({ cls := "java/lang/Throwable", name := "<init>", desc := "()V" } : Jvm.MethodName)) ∈ lw_all := lw_g (lw_at lw_m1 115 rfl) rfl
theorem q163 : (Jvm.Cond.code ({ cls := "java/lang/Throwable", name := "<init>", desc := "()V" } : Jvm.MethodName) prog_24_method_1_code (1 : Nat) (Option.none : Option Jvm.ClassFile.FieldType)) ∈ lw_all := lw_g (lw_at lw_m1 116 rfl) rfl
theorem q164 : (Jvm.Cond.methodLink "java/lang/Throwable" (1 : Nat) ({ cls := "java/lang/Object", name := "<init>", desc := "()V" } : Jvm.MethodName)) ∈ lw_all := lw_g (lw_at lw_m1 117 rfl) rfl
theorem q165 : (Jvm.Cond.fieldLink "java/lang/Throwable" (13 : Nat) "java/lang/Throwable" "UNASSIGNED_STACK" "[Ljava/lang/StackTraceElement;") ∈ lw_all := lw_g (lw_at lw_m1 118 rfl) rfl
theorem q166 : (Jvm.Cond.laysStatic "java/lang/Throwable" "UNASSIGNED_STACK" "[Ljava/lang/StackTraceElement;") ∈ lw_tbl := lw_at lw_m1 119 rfl
theorem q167 : (Jvm.Cond.fieldLink "java/lang/Throwable" (20 : Nat) "java/lang/Throwable" "SUPPRESSED_SENTINEL" "Ljava/util/List;") ∈ lw_all := lw_g (lw_at lw_m1 120 rfl) rfl
theorem q168 : (Jvm.Cond.laysStatic "java/lang/Throwable" "SUPPRESSED_SENTINEL" "Ljava/util/List;") ∈ lw_tbl := lw_at lw_m1 121 rfl
theorem q169 : (Jvm.Cond.methodLink "java/lang/Throwable" (27 : Nat) ({ cls := "java/lang/Throwable", name := "fillInStackTrace", desc := "()Ljava/lang/Throwable;" } : Jvm.MethodName)) ∈ lw_all := lw_g (lw_at lw_m1 122 rfl) rfl
theorem q170 : (Jvm.Cond.instanceMethod ({ cls := "java/lang/Throwable", name := "fillInStackTrace", desc := "()Ljava/lang/Throwable;" } : Jvm.MethodName)) ∈ lw_all := lw_g (lw_at lw_m1 123 rfl) rfl
theorem q171 : (Jvm.Cond.sameMethod "java/lang/Throwable" "java/lang/Throwable" "fillInStackTrace" "()Ljava/lang/Throwable;") ∈ lw_all := lw_g (lw_at lw_m1 124 rfl) rfl
theorem q173 : (Jvm.Cond.codeSync ({ cls := "java/lang/Throwable", name := "fillInStackTrace", desc := "()Ljava/lang/Throwable;" } : Jvm.MethodName) prog_24_method_18_code (1 : Nat) (Option.some (Jvm.ClassFile.FieldType.object "java/lang/Throwable"))) ∈ lw_all := lw_g (lw_at lw_m1 126 rfl) rfl
theorem q174 : (Jvm.Cond.methodLink "java/lang/Throwable" (202 : Nat) ({ cls := "java/lang/Throwable", name := "fillInStackTrace", desc := "(I)Ljava/lang/Throwable;" } : Jvm.MethodName)) ∈ lw_all := lw_g (lw_at lw_m1 127 rfl) rfl
theorem q175 : (Jvm.Cond.privateMethod ({ cls := "java/lang/Throwable", name := "fillInStackTrace", desc := "(I)Ljava/lang/Throwable;" } : Jvm.MethodName)) ∈ lw_tbl := lw_at lw_m1 128 rfl
theorem q176 : (Jvm.Cond.instanceMethod ({ cls := "java/lang/Throwable", name := "fillInStackTrace", desc := "(I)Ljava/lang/Throwable;" } : Jvm.MethodName)) ∈ lw_all := lw_g (lw_at lw_m1 129 rfl) rfl
theorem q177 : (Jvm.Cond.instantiable "java/lang/Throwable" (6 : Nat)) ∈ lw_all := lw_g (lw_at lw_m1 130 rfl) rfl
theorem q178 : (Jvm.Cond.native ({ cls := "java/lang/Throwable", name := "fillInStackTrace", desc := "(I)Ljava/lang/Throwable;" } : Jvm.MethodName)) ∈ lw_all := lw_g (lw_at lw_m1 131 rfl) rfl
theorem q189 : (Jvm.Cond.instanceMethod ({ cls := "java/lang/Throwable", name := "<init>", desc := "(Ljava/lang/String;Ljava/lang/Throwable;ZZ)V" } : Jvm.MethodName)) ∈ lw_all := lw_g (lw_at lw_m1 142 rfl) rfl
theorem q190 : (Jvm.Cond.code ({ cls := "java/lang/Throwable", name := "<init>", desc := "(Ljava/lang/String;Ljava/lang/Throwable;ZZ)V" } : Jvm.MethodName) prog_24_method_5_code (5 : Nat) (Option.none : Option Jvm.ClassFile.FieldType)) ∈ lw_all := lw_g (lw_at lw_m1 143 rfl) rfl
theorem q199 : (Jvm.Cond.fieldLink "java/lang/Throwable" (198 : Nat) "java/lang/Throwable" "backtrace" "Ljava/lang/Object;") ∈ lw_all := lw_g (lw_at lw_m1 152 rfl) rfl
theorem q200 : (Jvm.Cond.fieldLink "java/lang/Throwable" (31 : Nat) "java/lang/Throwable" "detailMessage" "Ljava/lang/String;") ∈ lw_all := lw_g (lw_at lw_m1 153 rfl) rfl
theorem q201 : (Jvm.Cond.fieldLink "java/lang/Throwable" (7 : Nat) "java/lang/Throwable" "cause" "Ljava/lang/Throwable;") ∈ lw_all := lw_g (lw_at lw_m1 154 rfl) rfl
theorem q202 : (Jvm.Cond.fieldLink "java/lang/Throwable" (17 : Nat) "java/lang/Throwable" "stackTrace" "[Ljava/lang/StackTraceElement;") ∈ lw_all := lw_g (lw_at lw_m1 155 rfl) rfl
theorem q203 : (Jvm.Cond.fieldLink "java/lang/Throwable" (24 : Nat) "java/lang/Throwable" "suppressedExceptions" "Ljava/util/List;") ∈ lw_all := lw_g (lw_at lw_m1 156 rfl) rfl
theorem q212 : (Jvm.Cond.soleField "java/lang/Throwable" "backtrace") ∈ lw_all := lw_g (lw_at lw_m1 165 rfl) rfl
theorem q213 : (Jvm.Cond.soleField "java/lang/Throwable" "detailMessage") ∈ lw_all := lw_g (lw_at lw_m1 166 rfl) rfl
theorem q214 : (Jvm.Cond.soleField "java/lang/Throwable" "cause") ∈ lw_all := lw_g (lw_at lw_m1 167 rfl) rfl
theorem q215 : (Jvm.Cond.soleField "java/lang/Throwable" "stackTrace") ∈ lw_all := lw_g (lw_at lw_m1 168 rfl) rfl
theorem q217 : (Jvm.Cond.soleField "java/lang/Throwable" "depth") ∈ lw_all := lw_g (lw_at lw_m1 170 rfl) rfl
theorem q218 : (Jvm.Cond.soleField "java/lang/Throwable" "suppressedExceptions") ∈ lw_all := lw_g (lw_at lw_m1 171 rfl) rfl
theorem q1830 : (Jvm.Cond.sameMethod "java/lang/Throwable" "java/lang/Throwable" "fillInStackTrace" "(I)Ljava/lang/Throwable;") ∈ lw_all := lw_g (lw_at lw_m8 103 rfl) rfl
theorem q1856 : (Jvm.Cond.castable "java/lang/Throwable" "java/lang/Object") ∈ lw_tbl := lw_at lw_m8 129 rfl
theorem in_J4 : ∀ w ∈ wsJ40, w ∈ lw_all := lw_in wsJ40 [151, 153, 155, 157, 159] (by decide +kernel) (by decide +kernel)
/-! java/lang/Exception -/
set_option maxRecDepth 100000
def RJ5 : String := "java/lang/Exception"
abbrev cJ5_init : ByteArray := prog_16_method_5_code
def yJ5_init : MethodName := ⟨RJ5, "<init>", "(Ljava/lang/String;Ljava/lang/Throwable;ZZ)V"⟩
def dkwJ5_init_0 : List UInt8 := [42, 43, 44, 29, 21, 4, 183, 0, 16, 177]
abbrev dktJ5_init_0 : List UInt8 := dkwJ5_init_0 ++ []
theorem dksJ5_init_0 : cJ5_init.data.toList.drop 0 = dktJ5_init_0 := by decide +kernel
theorem dJ5_init_0 : decode cJ5_init 0 = .ok (.aload_n 0, 1) := dk_42 (dk_at dksJ5_init_0 0 rfl rfl)
theorem dJ5_init_1 : decode cJ5_init 1 = .ok (.aload_n 1, 1) := dk_43 (dk_at dksJ5_init_0 1 rfl rfl)
theorem dJ5_init_2 : decode cJ5_init 2 = .ok (.aload_n 2, 1) := dk_44 (dk_at dksJ5_init_0 2 rfl rfl)
theorem dJ5_init_3 : decode cJ5_init 3 = .ok (.iload_n 3, 1) := dk_29 (dk_at dksJ5_init_0 3 rfl rfl)
theorem dJ5_init_4 : decode cJ5_init 4 = .ok (.iload 4, 2) := dk_21 4 (dk_at dksJ5_init_0 4 rfl rfl)
theorem dJ5_init_6 : decode cJ5_init 6 = .ok (.invokespecial 16, 3) := dk_183 0 16 (dk_at dksJ5_init_0 6 rfl rfl)
theorem dJ5_init_9 : decode cJ5_init 9 = .ok (.return_, 1) := dk_177 (dk_at dksJ5_init_0 9 rfl rfl)
theorem q55 : (Jvm.Cond.initialized "java/lang/Exception") ∈ lw_all := lw_g (lw_at lw_m1 8 rfl) rfl
theorem q144 : (Jvm.Cond.declares ({ cls := "java/lang/Exception", name := "<init>", desc := "()V" } : Jvm.MethodName)) ∈ lw_tbl := lw_at lw_m1 97 rfl
theorem q145 : (Jvm.Cond.declares ({ cls := "java/lang/Exception", name := "<init>", desc := "(Ljava/lang/String;)V" } : Jvm.MethodName)) ∈ lw_tbl := lw_at lw_m1 98 rfl
theorem q186 : (Jvm.Cond.instanceMethod ({ cls := "java/lang/Exception", name := "<init>", desc := "(Ljava/lang/String;Ljava/lang/Throwable;ZZ)V" } : Jvm.MethodName)) ∈ lw_all := lw_g (lw_at lw_m1 139 rfl) rfl
theorem q187 : (Jvm.Cond.code ({ cls := "java/lang/Exception", name := "<init>", desc := "(Ljava/lang/String;Ljava/lang/Throwable;ZZ)V" } : Jvm.MethodName) prog_16_method_5_code (5 : Nat) (Option.none : Option Jvm.ClassFile.FieldType)) ∈ lw_all := lw_g (lw_at lw_m1 140 rfl) rfl
theorem q188 : (Jvm.Cond.methodLink "java/lang/Exception" (16 : Nat) ({ cls := "java/lang/Throwable", name := "<init>", desc := "(Ljava/lang/String;Ljava/lang/Throwable;ZZ)V" } : Jvm.MethodName)) ∈ lw_all := lw_g (lw_at lw_m1 141 rfl) rfl
/-! java/lang/RuntimeException -/
set_option maxRecDepth 100000
def RJ6 : String := "java/lang/RuntimeException"
abbrev cJ6_init : ByteArray := prog_22_method_5_code
def yJ6_init : MethodName := ⟨RJ6, "<init>", "(Ljava/lang/String;Ljava/lang/Throwable;ZZ)V"⟩
def dkwJ6_init_0 : List UInt8 := [42, 43, 44, 29, 21, 4, 183, 0, 16, 177]
abbrev dktJ6_init_0 : List UInt8 := dkwJ6_init_0 ++ []
theorem dksJ6_init_0 : cJ6_init.data.toList.drop 0 = dktJ6_init_0 := by decide +kernel
theorem dJ6_init_0 : decode cJ6_init 0 = .ok (.aload_n 0, 1) := dk_42 (dk_at dksJ6_init_0 0 rfl rfl)
theorem dJ6_init_1 : decode cJ6_init 1 = .ok (.aload_n 1, 1) := dk_43 (dk_at dksJ6_init_0 1 rfl rfl)
theorem dJ6_init_2 : decode cJ6_init 2 = .ok (.aload_n 2, 1) := dk_44 (dk_at dksJ6_init_0 2 rfl rfl)
theorem dJ6_init_3 : decode cJ6_init 3 = .ok (.iload_n 3, 1) := dk_29 (dk_at dksJ6_init_0 3 rfl rfl)
theorem dJ6_init_4 : decode cJ6_init 4 = .ok (.iload 4, 2) := dk_21 4 (dk_at dksJ6_init_0 4 rfl rfl)
theorem dJ6_init_6 : decode cJ6_init 6 = .ok (.invokespecial 16, 3) := dk_183 0 16 (dk_at dksJ6_init_0 6 rfl rfl)
theorem dJ6_init_9 : decode cJ6_init 9 = .ok (.return_, 1) := dk_177 (dk_at dksJ6_init_0 9 rfl rfl)
theorem q56 : (Jvm.Cond.initialized "java/lang/RuntimeException") ∈ lw_all := lw_g (lw_at lw_m1 9 rfl) rfl
theorem q142 : (Jvm.Cond.declares ({ cls := "java/lang/RuntimeException", name := "<init>", desc := "()V" } : Jvm.MethodName)) ∈ lw_tbl := lw_at lw_m1 95 rfl
theorem q143 : (Jvm.Cond.declares ({ cls := "java/lang/RuntimeException", name := "<init>", desc := "(Ljava/lang/String;)V" } : Jvm.MethodName)) ∈ lw_tbl := lw_at lw_m1 96 rfl
theorem q183 : (Jvm.Cond.instanceMethod ({ cls := "java/lang/RuntimeException", name := "<init>", desc := "(Ljava/lang/String;Ljava/lang/Throwable;ZZ)V" } : Jvm.MethodName)) ∈ lw_all := lw_g (lw_at lw_m1 136 rfl) rfl
theorem q184 : (Jvm.Cond.code ({ cls := "java/lang/RuntimeException", name := "<init>", desc := "(Ljava/lang/String;Ljava/lang/Throwable;ZZ)V" } : Jvm.MethodName) prog_22_method_5_code (5 : Nat) (Option.none : Option Jvm.ClassFile.FieldType)) ∈ lw_all := lw_g (lw_at lw_m1 137 rfl) rfl
theorem q185 : (Jvm.Cond.methodLink "java/lang/RuntimeException" (16 : Nat) ({ cls := "java/lang/Exception", name := "<init>", desc := "(Ljava/lang/String;Ljava/lang/Throwable;ZZ)V" } : Jvm.MethodName)) ∈ lw_all := lw_g (lw_at lw_m1 138 rfl) rfl
/-! java/util/BitSet -/
set_option maxRecDepth 100000
def RJ7 : String := "java/util/BitSet"
def TJ7 : u_T := fun k => match k with
  | 0 => ("java/util/BitSet", "words", "[J", false)
  | 1 => ("java/util/BitSet", "wordsInUse", "I", false)
  | _ => ("java/util/BitSet", "sizeIsSticky", "Z", false)
def tyJ7 : Nat → FieldType := fun k => match k with
  | 0 => .array .long
  | 1 => .int
  | _ => .boolean
abbrev wsJ70 : List Cond := u_ws RJ7 TJ7 3
theorem nmJ7 : ∀ a, a < 3 → ∀ b, b < 3 → a ≠ b → (TJ7 a).2.1 ≠ (TJ7 b).2.1 := by decide +kernel
theorem tyJ7_ok : ∀ k, k < 3 → parseFieldDescriptor (TJ7 k).2.2.1 = some (tyJ7 k) := by decide +kernel
abbrev cJ7_init : ByteArray := prog_36_method_5_code
def yJ7_init : MethodName := ⟨RJ7, "<init>", "(I)V"⟩
def dkwJ7_init_2 : List UInt8 := [27, 182, 0, 27, 42, 4, 181, 0, 24, 177]
abbrev dktJ7_init_2 : List UInt8 := dkwJ7_init_2 ++ []
def dkwJ7_init_1 : List UInt8 := [187, 0, 33, 89, 183, 0, 35, 18, 36, 182, 0, 38, 27, 182, 0, 42, 182, 0, 45, 183, 0, 49, 191, 42]
abbrev dktJ7_init_1 : List UInt8 := dkwJ7_init_1 ++ dktJ7_init_2
def dkwJ7_init_0 : List UInt8 := [42, 183, 0, 21, 42, 3, 181, 0, 7, 42, 3, 181, 0, 24, 27, 156, 0, 30, 187, 0, 31, 89]
abbrev dktJ7_init_0 : List UInt8 := dkwJ7_init_0 ++ dktJ7_init_1
theorem dksJ7_init_0 : cJ7_init.data.toList.drop 0 = dktJ7_init_0 := by decide +kernel
theorem dksJ7_init_1 : cJ7_init.data.toList.drop 22 = dktJ7_init_1 := dk_seg dksJ7_init_0 22 rfl rfl
theorem dksJ7_init_2 : cJ7_init.data.toList.drop 46 = dktJ7_init_2 := dk_seg dksJ7_init_1 24 rfl rfl
theorem dJ7_init_0 : decode cJ7_init 0 = .ok (.aload_n 0, 1) := dk_42 (dk_at dksJ7_init_0 0 rfl rfl)
theorem dJ7_init_1 : decode cJ7_init 1 = .ok (.invokespecial 21, 3) := dk_183 0 21 (dk_at dksJ7_init_0 1 rfl rfl)
theorem dJ7_init_4 : decode cJ7_init 4 = .ok (.aload_n 0, 1) := dk_42 (dk_at dksJ7_init_0 4 rfl rfl)
theorem dJ7_init_5 : decode cJ7_init 5 = .ok (.iconst 0, 1) := dk_3 (dk_at dksJ7_init_0 5 rfl rfl)
theorem dJ7_init_6 : decode cJ7_init 6 = .ok (.putfield 7, 3) := dk_181 0 7 (dk_at dksJ7_init_0 6 rfl rfl)
theorem dJ7_init_9 : decode cJ7_init 9 = .ok (.aload_n 0, 1) := dk_42 (dk_at dksJ7_init_0 9 rfl rfl)
theorem dJ7_init_10 : decode cJ7_init 10 = .ok (.iconst 0, 1) := dk_3 (dk_at dksJ7_init_0 10 rfl rfl)
theorem dJ7_init_11 : decode cJ7_init 11 = .ok (.putfield 24, 3) := dk_181 0 24 (dk_at dksJ7_init_0 11 rfl rfl)
theorem dJ7_init_14 : decode cJ7_init 14 = .ok (.iload_n 1, 1) := dk_27 (dk_at dksJ7_init_0 14 rfl rfl)
theorem dJ7_init_15 : decode cJ7_init 15 = .ok (.ifCond .ge 30, 3) := dk_156 0 30 (dk_at dksJ7_init_0 15 rfl rfl)
theorem dJ7_init_18 : decode cJ7_init 18 = .ok (.new 31, 3) := dk_187 0 31 (dk_at dksJ7_init_0 18 rfl rfl)
theorem dJ7_init_21 : decode cJ7_init 21 = .ok (.dup, 1) := dk_89 (dk_at dksJ7_init_0 21 rfl rfl)
theorem dJ7_init_22 : decode cJ7_init 22 = .ok (.new 33, 3) := dk_187 0 33 (dk_at dksJ7_init_1 0 rfl rfl)
theorem dJ7_init_25 : decode cJ7_init 25 = .ok (.dup, 1) := dk_89 (dk_at dksJ7_init_1 3 rfl rfl)
theorem dJ7_init_26 : decode cJ7_init 26 = .ok (.invokespecial 35, 3) := dk_183 0 35 (dk_at dksJ7_init_1 4 rfl rfl)
theorem dJ7_init_29 : decode cJ7_init 29 = .ok (.ldc 36, 2) := dk_18 36 (dk_at dksJ7_init_1 7 rfl rfl)
theorem dJ7_init_31 : decode cJ7_init 31 = .ok (.invokevirtual 38, 3) := dk_182 0 38 (dk_at dksJ7_init_1 9 rfl rfl)
theorem dJ7_init_34 : decode cJ7_init 34 = .ok (.iload_n 1, 1) := dk_27 (dk_at dksJ7_init_1 12 rfl rfl)
theorem dJ7_init_35 : decode cJ7_init 35 = .ok (.invokevirtual 42, 3) := dk_182 0 42 (dk_at dksJ7_init_1 13 rfl rfl)
theorem dJ7_init_38 : decode cJ7_init 38 = .ok (.invokevirtual 45, 3) := dk_182 0 45 (dk_at dksJ7_init_1 16 rfl rfl)
theorem dJ7_init_41 : decode cJ7_init 41 = .ok (.invokespecial 49, 3) := dk_183 0 49 (dk_at dksJ7_init_1 19 rfl rfl)
theorem dJ7_init_44 : decode cJ7_init 44 = .ok (.athrow, 1) := dk_191 (dk_at dksJ7_init_1 22 rfl rfl)
theorem dJ7_init_45 : decode cJ7_init 45 = .ok (.aload_n 0, 1) := dk_42 (dk_at dksJ7_init_1 23 rfl rfl)
theorem dJ7_init_46 : decode cJ7_init 46 = .ok (.iload_n 1, 1) := dk_27 (dk_at dksJ7_init_2 0 rfl rfl)
theorem dJ7_init_47 : decode cJ7_init 47 = .ok (.invokevirtual 27, 3) := dk_182 0 27 (dk_at dksJ7_init_2 1 rfl rfl)
theorem dJ7_init_50 : decode cJ7_init 50 = .ok (.aload_n 0, 1) := dk_42 (dk_at dksJ7_init_2 4 rfl rfl)
theorem dJ7_init_51 : decode cJ7_init 51 = .ok (.iconst 1, 1) := dk_4 (dk_at dksJ7_init_2 5 rfl rfl)
theorem dJ7_init_52 : decode cJ7_init 52 = .ok (.putfield 24, 3) := dk_181 0 24 (dk_at dksJ7_init_2 6 rfl rfl)
theorem dJ7_init_55 : decode cJ7_init 55 = .ok (.return_, 1) := dk_177 (dk_at dksJ7_init_2 9 rfl rfl)
abbrev cJ7_initWords : ByteArray := prog_36_method_6_code
def yJ7_initWords : MethodName := ⟨RJ7, "initWords", "(I)V"⟩
def dkwJ7_initWords_0 : List UInt8 := [42, 27, 4, 100, 184, 0, 52, 4, 96, 188, 11, 181, 0, 11, 177]
abbrev dktJ7_initWords_0 : List UInt8 := dkwJ7_initWords_0 ++ []
theorem dksJ7_initWords_0 : cJ7_initWords.data.toList.drop 0 = dktJ7_initWords_0 := by decide +kernel
theorem dJ7_initWords_0 : decode cJ7_initWords 0 = .ok (.aload_n 0, 1) := dk_42 (dk_at dksJ7_initWords_0 0 rfl rfl)
theorem dJ7_initWords_1 : decode cJ7_initWords 1 = .ok (.iload_n 1, 1) := dk_27 (dk_at dksJ7_initWords_0 1 rfl rfl)
theorem dJ7_initWords_2 : decode cJ7_initWords 2 = .ok (.iconst 1, 1) := dk_4 (dk_at dksJ7_initWords_0 2 rfl rfl)
theorem dJ7_initWords_3 : decode cJ7_initWords 3 = .ok (.isub, 1) := dk_100 (dk_at dksJ7_initWords_0 3 rfl rfl)
theorem dJ7_initWords_4 : decode cJ7_initWords 4 = .ok (.invokestatic 52, 3) := dk_184 0 52 (dk_at dksJ7_initWords_0 4 rfl rfl)
theorem dJ7_initWords_7 : decode cJ7_initWords 7 = .ok (.iconst 1, 1) := dk_4 (dk_at dksJ7_initWords_0 7 rfl rfl)
theorem dJ7_initWords_8 : decode cJ7_initWords 8 = .ok (.iadd, 1) := dk_96 (dk_at dksJ7_initWords_0 8 rfl rfl)
theorem dJ7_initWords_9 : decode cJ7_initWords 9 = .ok (.newarray .long, 2) := dk_188_11 (dk_at dksJ7_initWords_0 9 rfl rfl)
theorem dJ7_initWords_11 : decode cJ7_initWords 11 = .ok (.putfield 11, 3) := dk_181 0 11 (dk_at dksJ7_initWords_0 11 rfl rfl)
theorem dJ7_initWords_14 : decode cJ7_initWords 14 = .ok (.return_, 1) := dk_177 (dk_at dksJ7_initWords_0 14 rfl rfl)
abbrev cJ7_wordIndex : ByteArray := prog_36_method_1_code
def yJ7_wordIndex : MethodName := ⟨RJ7, "wordIndex", "(I)I"⟩
def dkwJ7_wordIndex_0 : List UInt8 := [26, 16, 6, 122, 172]
abbrev dktJ7_wordIndex_0 : List UInt8 := dkwJ7_wordIndex_0 ++ []
theorem dksJ7_wordIndex_0 : cJ7_wordIndex.data.toList.drop 0 = dktJ7_wordIndex_0 := by decide +kernel
theorem dJ7_wordIndex_0 : decode cJ7_wordIndex 0 = .ok (.iload_n 0, 1) := dk_26 (dk_at dksJ7_wordIndex_0 0 rfl rfl)
theorem dJ7_wordIndex_1 : decode cJ7_wordIndex 1 = .ok (.bipush 6, 2) := dk_16 6 (dk_at dksJ7_wordIndex_0 1 rfl rfl)
theorem dJ7_wordIndex_3 : decode cJ7_wordIndex 3 = .ok (.ishr, 1) := dk_122 (dk_at dksJ7_wordIndex_0 3 rfl rfl)
theorem dJ7_wordIndex_4 : decode cJ7_wordIndex 4 = .ok (.ireturn, 1) := dk_172 (dk_at dksJ7_wordIndex_0 4 rfl rfl)
abbrev cJ7_get : ByteArray := prog_36_method_26_code
def yJ7_get : MethodName := ⟨RJ7, "get", "(I)Z"⟩
def dkwJ7_get_2 : List UInt8 := [42, 180, 0, 11, 28, 47, 10, 27, 121, 127, 9, 148, 153, 0, 7, 4, 167, 0, 4, 3, 172]
abbrev dktJ7_get_2 : List UInt8 := dkwJ7_get_2 ++ []
def dkwJ7_get_1 : List UInt8 := [182, 0, 45, 183, 0, 146, 191, 42, 182, 0, 56, 27, 184, 0, 52, 61, 28, 42, 180, 0, 7, 162, 0, 22]
abbrev dktJ7_get_1 : List UInt8 := dkwJ7_get_1 ++ dktJ7_get_2
def dkwJ7_get_0 : List UInt8 := [27, 156, 0, 30, 187, 0, 142, 89, 187, 0, 33, 89, 183, 0, 35, 18, 153, 182, 0, 38, 27, 182, 0, 42]
abbrev dktJ7_get_0 : List UInt8 := dkwJ7_get_0 ++ dktJ7_get_1
theorem dksJ7_get_0 : cJ7_get.data.toList.drop 0 = dktJ7_get_0 := by decide +kernel
theorem dksJ7_get_1 : cJ7_get.data.toList.drop 24 = dktJ7_get_1 := dk_seg dksJ7_get_0 24 rfl rfl
theorem dksJ7_get_2 : cJ7_get.data.toList.drop 48 = dktJ7_get_2 := dk_seg dksJ7_get_1 24 rfl rfl
theorem dJ7_get_0 : decode cJ7_get 0 = .ok (.iload_n 1, 1) := dk_27 (dk_at dksJ7_get_0 0 rfl rfl)
theorem dJ7_get_1 : decode cJ7_get 1 = .ok (.ifCond .ge 30, 3) := dk_156 0 30 (dk_at dksJ7_get_0 1 rfl rfl)
theorem dJ7_get_4 : decode cJ7_get 4 = .ok (.new 142, 3) := dk_187 0 142 (dk_at dksJ7_get_0 4 rfl rfl)
theorem dJ7_get_7 : decode cJ7_get 7 = .ok (.dup, 1) := dk_89 (dk_at dksJ7_get_0 7 rfl rfl)
theorem dJ7_get_8 : decode cJ7_get 8 = .ok (.new 33, 3) := dk_187 0 33 (dk_at dksJ7_get_0 8 rfl rfl)
theorem dJ7_get_11 : decode cJ7_get 11 = .ok (.dup, 1) := dk_89 (dk_at dksJ7_get_0 11 rfl rfl)
theorem dJ7_get_12 : decode cJ7_get 12 = .ok (.invokespecial 35, 3) := dk_183 0 35 (dk_at dksJ7_get_0 12 rfl rfl)
theorem dJ7_get_15 : decode cJ7_get 15 = .ok (.ldc 153, 2) := dk_18 153 (dk_at dksJ7_get_0 15 rfl rfl)
theorem dJ7_get_17 : decode cJ7_get 17 = .ok (.invokevirtual 38, 3) := dk_182 0 38 (dk_at dksJ7_get_0 17 rfl rfl)
theorem dJ7_get_20 : decode cJ7_get 20 = .ok (.iload_n 1, 1) := dk_27 (dk_at dksJ7_get_0 20 rfl rfl)
theorem dJ7_get_21 : decode cJ7_get 21 = .ok (.invokevirtual 42, 3) := dk_182 0 42 (dk_at dksJ7_get_0 21 rfl rfl)
theorem dJ7_get_24 : decode cJ7_get 24 = .ok (.invokevirtual 45, 3) := dk_182 0 45 (dk_at dksJ7_get_1 0 rfl rfl)
theorem dJ7_get_27 : decode cJ7_get 27 = .ok (.invokespecial 146, 3) := dk_183 0 146 (dk_at dksJ7_get_1 3 rfl rfl)
theorem dJ7_get_30 : decode cJ7_get 30 = .ok (.athrow, 1) := dk_191 (dk_at dksJ7_get_1 6 rfl rfl)
theorem dJ7_get_31 : decode cJ7_get 31 = .ok (.aload_n 0, 1) := dk_42 (dk_at dksJ7_get_1 7 rfl rfl)
theorem dJ7_get_32 : decode cJ7_get 32 = .ok (.invokevirtual 56, 3) := dk_182 0 56 (dk_at dksJ7_get_1 8 rfl rfl)
theorem dJ7_get_35 : decode cJ7_get 35 = .ok (.iload_n 1, 1) := dk_27 (dk_at dksJ7_get_1 11 rfl rfl)
theorem dJ7_get_36 : decode cJ7_get 36 = .ok (.invokestatic 52, 3) := dk_184 0 52 (dk_at dksJ7_get_1 12 rfl rfl)
theorem dJ7_get_39 : decode cJ7_get 39 = .ok (.istore_n 2, 1) := dk_61 (dk_at dksJ7_get_1 15 rfl rfl)
theorem dJ7_get_40 : decode cJ7_get 40 = .ok (.iload_n 2, 1) := dk_28 (dk_at dksJ7_get_1 16 rfl rfl)
theorem dJ7_get_41 : decode cJ7_get 41 = .ok (.aload_n 0, 1) := dk_42 (dk_at dksJ7_get_1 17 rfl rfl)
theorem dJ7_get_42 : decode cJ7_get 42 = .ok (.getfield 7, 3) := dk_180 0 7 (dk_at dksJ7_get_1 18 rfl rfl)
theorem dJ7_get_45 : decode cJ7_get 45 = .ok (.if_icmp .ge 22, 3) := dk_162 0 22 (dk_at dksJ7_get_1 21 rfl rfl)
theorem dJ7_get_48 : decode cJ7_get 48 = .ok (.aload_n 0, 1) := dk_42 (dk_at dksJ7_get_2 0 rfl rfl)
theorem dJ7_get_49 : decode cJ7_get 49 = .ok (.getfield 11, 3) := dk_180 0 11 (dk_at dksJ7_get_2 1 rfl rfl)
theorem dJ7_get_52 : decode cJ7_get 52 = .ok (.iload_n 2, 1) := dk_28 (dk_at dksJ7_get_2 4 rfl rfl)
theorem dJ7_get_53 : decode cJ7_get 53 = .ok (.laload, 1) := dk_47 (dk_at dksJ7_get_2 5 rfl rfl)
theorem dJ7_get_54 : decode cJ7_get 54 = .ok (.lconst 1, 1) := dk_10 (dk_at dksJ7_get_2 6 rfl rfl)
theorem dJ7_get_55 : decode cJ7_get 55 = .ok (.iload_n 1, 1) := dk_27 (dk_at dksJ7_get_2 7 rfl rfl)
theorem dJ7_get_56 : decode cJ7_get 56 = .ok (.lshl, 1) := dk_121 (dk_at dksJ7_get_2 8 rfl rfl)
theorem dJ7_get_57 : decode cJ7_get 57 = .ok (.land, 1) := dk_127 (dk_at dksJ7_get_2 9 rfl rfl)
theorem dJ7_get_58 : decode cJ7_get 58 = .ok (.lconst 0, 1) := dk_9 (dk_at dksJ7_get_2 10 rfl rfl)
theorem dJ7_get_59 : decode cJ7_get 59 = .ok (.lcmp, 1) := dk_148 (dk_at dksJ7_get_2 11 rfl rfl)
theorem dJ7_get_60 : decode cJ7_get 60 = .ok (.ifCond .eq 7, 3) := dk_153 0 7 (dk_at dksJ7_get_2 12 rfl rfl)
theorem dJ7_get_63 : decode cJ7_get 63 = .ok (.iconst 1, 1) := dk_4 (dk_at dksJ7_get_2 15 rfl rfl)
theorem dJ7_get_64 : decode cJ7_get 64 = .ok (.goto 4, 3) := dk_167 0 4 (dk_at dksJ7_get_2 16 rfl rfl)
theorem dJ7_get_67 : decode cJ7_get 67 = .ok (.iconst 0, 1) := dk_3 (dk_at dksJ7_get_2 19 rfl rfl)
theorem dJ7_get_68 : decode cJ7_get 68 = .ok (.ireturn, 1) := dk_172 (dk_at dksJ7_get_2 20 rfl rfl)
abbrev cJ7_checkInvariants : ByteArray := prog_36_method_2_code
def yJ7_checkInvariants : MethodName := ⟨RJ7, "checkInvariants", "()V"⟩
def dkwJ7_checkInvariants_4 : List UInt8 := [180, 0, 7, 47, 9, 148, 153, 0, 11, 187, 0, 15, 89, 183, 0, 17, 191, 177]
abbrev dktJ7_checkInvariants_4 : List UInt8 := dkwJ7_checkInvariants_4 ++ []
def dkwJ7_checkInvariants_3 : List UInt8 := [178, 0, 3, 154, 0, 37, 42, 180, 0, 7, 42, 180, 0, 11, 190, 159, 0, 25, 42, 180, 0, 11, 42]
abbrev dktJ7_checkInvariants_3 : List UInt8 := dkwJ7_checkInvariants_3 ++ dktJ7_checkInvariants_4
def dkwJ7_checkInvariants_2 : List UInt8 := [155, 0, 15, 42, 180, 0, 7, 42, 180, 0, 11, 190, 164, 0, 11, 187, 0, 15, 89, 183, 0, 17, 191]
abbrev dktJ7_checkInvariants_2 : List UInt8 := dkwJ7_checkInvariants_2 ++ dktJ7_checkInvariants_3
def dkwJ7_checkInvariants_1 : List UInt8 := [9, 148, 154, 0, 11, 187, 0, 15, 89, 183, 0, 17, 191, 178, 0, 3, 154, 0, 30, 42, 180, 0, 7]
abbrev dktJ7_checkInvariants_1 : List UInt8 := dkwJ7_checkInvariants_1 ++ dktJ7_checkInvariants_2
def dkwJ7_checkInvariants_0 : List UInt8 := [178, 0, 3, 154, 0, 34, 42, 180, 0, 7, 153, 0, 27, 42, 180, 0, 11, 42, 180, 0, 7, 4, 100, 47]
abbrev dktJ7_checkInvariants_0 : List UInt8 := dkwJ7_checkInvariants_0 ++ dktJ7_checkInvariants_1
theorem dksJ7_checkInvariants_0 : cJ7_checkInvariants.data.toList.drop 0 = dktJ7_checkInvariants_0 := by decide +kernel
theorem dksJ7_checkInvariants_1 : cJ7_checkInvariants.data.toList.drop 24 = dktJ7_checkInvariants_1 := dk_seg dksJ7_checkInvariants_0 24 rfl rfl
theorem dksJ7_checkInvariants_2 : cJ7_checkInvariants.data.toList.drop 47 = dktJ7_checkInvariants_2 := dk_seg dksJ7_checkInvariants_1 23 rfl rfl
theorem dksJ7_checkInvariants_3 : cJ7_checkInvariants.data.toList.drop 70 = dktJ7_checkInvariants_3 := dk_seg dksJ7_checkInvariants_2 23 rfl rfl
theorem dksJ7_checkInvariants_4 : cJ7_checkInvariants.data.toList.drop 93 = dktJ7_checkInvariants_4 := dk_seg dksJ7_checkInvariants_3 23 rfl rfl
theorem dJ7_checkInvariants_0 : decode cJ7_checkInvariants 0 = .ok (.getstatic 3, 3) := dk_178 0 3 (dk_at dksJ7_checkInvariants_0 0 rfl rfl)
theorem dJ7_checkInvariants_3 : decode cJ7_checkInvariants 3 = .ok (.ifCond .ne 34, 3) := dk_154 0 34 (dk_at dksJ7_checkInvariants_0 3 rfl rfl)
theorem dJ7_checkInvariants_6 : decode cJ7_checkInvariants 6 = .ok (.aload_n 0, 1) := dk_42 (dk_at dksJ7_checkInvariants_0 6 rfl rfl)
theorem dJ7_checkInvariants_7 : decode cJ7_checkInvariants 7 = .ok (.getfield 7, 3) := dk_180 0 7 (dk_at dksJ7_checkInvariants_0 7 rfl rfl)
theorem dJ7_checkInvariants_10 : decode cJ7_checkInvariants 10 = .ok (.ifCond .eq 27, 3) := dk_153 0 27 (dk_at dksJ7_checkInvariants_0 10 rfl rfl)
theorem dJ7_checkInvariants_13 : decode cJ7_checkInvariants 13 = .ok (.aload_n 0, 1) := dk_42 (dk_at dksJ7_checkInvariants_0 13 rfl rfl)
theorem dJ7_checkInvariants_14 : decode cJ7_checkInvariants 14 = .ok (.getfield 11, 3) := dk_180 0 11 (dk_at dksJ7_checkInvariants_0 14 rfl rfl)
theorem dJ7_checkInvariants_17 : decode cJ7_checkInvariants 17 = .ok (.aload_n 0, 1) := dk_42 (dk_at dksJ7_checkInvariants_0 17 rfl rfl)
theorem dJ7_checkInvariants_18 : decode cJ7_checkInvariants 18 = .ok (.getfield 7, 3) := dk_180 0 7 (dk_at dksJ7_checkInvariants_0 18 rfl rfl)
theorem dJ7_checkInvariants_21 : decode cJ7_checkInvariants 21 = .ok (.iconst 1, 1) := dk_4 (dk_at dksJ7_checkInvariants_0 21 rfl rfl)
theorem dJ7_checkInvariants_22 : decode cJ7_checkInvariants 22 = .ok (.isub, 1) := dk_100 (dk_at dksJ7_checkInvariants_0 22 rfl rfl)
theorem dJ7_checkInvariants_23 : decode cJ7_checkInvariants 23 = .ok (.laload, 1) := dk_47 (dk_at dksJ7_checkInvariants_0 23 rfl rfl)
theorem dJ7_checkInvariants_24 : decode cJ7_checkInvariants 24 = .ok (.lconst 0, 1) := dk_9 (dk_at dksJ7_checkInvariants_1 0 rfl rfl)
theorem dJ7_checkInvariants_25 : decode cJ7_checkInvariants 25 = .ok (.lcmp, 1) := dk_148 (dk_at dksJ7_checkInvariants_1 1 rfl rfl)
theorem dJ7_checkInvariants_26 : decode cJ7_checkInvariants 26 = .ok (.ifCond .ne 11, 3) := dk_154 0 11 (dk_at dksJ7_checkInvariants_1 2 rfl rfl)
theorem dJ7_checkInvariants_29 : decode cJ7_checkInvariants 29 = .ok (.new 15, 3) := dk_187 0 15 (dk_at dksJ7_checkInvariants_1 5 rfl rfl)
theorem dJ7_checkInvariants_32 : decode cJ7_checkInvariants 32 = .ok (.dup, 1) := dk_89 (dk_at dksJ7_checkInvariants_1 8 rfl rfl)
theorem dJ7_checkInvariants_33 : decode cJ7_checkInvariants 33 = .ok (.invokespecial 17, 3) := dk_183 0 17 (dk_at dksJ7_checkInvariants_1 9 rfl rfl)
theorem dJ7_checkInvariants_36 : decode cJ7_checkInvariants 36 = .ok (.athrow, 1) := dk_191 (dk_at dksJ7_checkInvariants_1 12 rfl rfl)
theorem dJ7_checkInvariants_37 : decode cJ7_checkInvariants 37 = .ok (.getstatic 3, 3) := dk_178 0 3 (dk_at dksJ7_checkInvariants_1 13 rfl rfl)
theorem dJ7_checkInvariants_40 : decode cJ7_checkInvariants 40 = .ok (.ifCond .ne 30, 3) := dk_154 0 30 (dk_at dksJ7_checkInvariants_1 16 rfl rfl)
theorem dJ7_checkInvariants_43 : decode cJ7_checkInvariants 43 = .ok (.aload_n 0, 1) := dk_42 (dk_at dksJ7_checkInvariants_1 19 rfl rfl)
theorem dJ7_checkInvariants_44 : decode cJ7_checkInvariants 44 = .ok (.getfield 7, 3) := dk_180 0 7 (dk_at dksJ7_checkInvariants_1 20 rfl rfl)
theorem dJ7_checkInvariants_47 : decode cJ7_checkInvariants 47 = .ok (.ifCond .lt 15, 3) := dk_155 0 15 (dk_at dksJ7_checkInvariants_2 0 rfl rfl)
theorem dJ7_checkInvariants_50 : decode cJ7_checkInvariants 50 = .ok (.aload_n 0, 1) := dk_42 (dk_at dksJ7_checkInvariants_2 3 rfl rfl)
theorem dJ7_checkInvariants_51 : decode cJ7_checkInvariants 51 = .ok (.getfield 7, 3) := dk_180 0 7 (dk_at dksJ7_checkInvariants_2 4 rfl rfl)
theorem dJ7_checkInvariants_54 : decode cJ7_checkInvariants 54 = .ok (.aload_n 0, 1) := dk_42 (dk_at dksJ7_checkInvariants_2 7 rfl rfl)
theorem dJ7_checkInvariants_55 : decode cJ7_checkInvariants 55 = .ok (.getfield 11, 3) := dk_180 0 11 (dk_at dksJ7_checkInvariants_2 8 rfl rfl)
theorem dJ7_checkInvariants_58 : decode cJ7_checkInvariants 58 = .ok (.arraylength, 1) := dk_190 (dk_at dksJ7_checkInvariants_2 11 rfl rfl)
theorem dJ7_checkInvariants_59 : decode cJ7_checkInvariants 59 = .ok (.if_icmp .le 11, 3) := dk_164 0 11 (dk_at dksJ7_checkInvariants_2 12 rfl rfl)
theorem dJ7_checkInvariants_62 : decode cJ7_checkInvariants 62 = .ok (.new 15, 3) := dk_187 0 15 (dk_at dksJ7_checkInvariants_2 15 rfl rfl)
theorem dJ7_checkInvariants_65 : decode cJ7_checkInvariants 65 = .ok (.dup, 1) := dk_89 (dk_at dksJ7_checkInvariants_2 18 rfl rfl)
theorem dJ7_checkInvariants_66 : decode cJ7_checkInvariants 66 = .ok (.invokespecial 17, 3) := dk_183 0 17 (dk_at dksJ7_checkInvariants_2 19 rfl rfl)
theorem dJ7_checkInvariants_69 : decode cJ7_checkInvariants 69 = .ok (.athrow, 1) := dk_191 (dk_at dksJ7_checkInvariants_2 22 rfl rfl)
theorem dJ7_checkInvariants_70 : decode cJ7_checkInvariants 70 = .ok (.getstatic 3, 3) := dk_178 0 3 (dk_at dksJ7_checkInvariants_3 0 rfl rfl)
theorem dJ7_checkInvariants_73 : decode cJ7_checkInvariants 73 = .ok (.ifCond .ne 37, 3) := dk_154 0 37 (dk_at dksJ7_checkInvariants_3 3 rfl rfl)
theorem dJ7_checkInvariants_76 : decode cJ7_checkInvariants 76 = .ok (.aload_n 0, 1) := dk_42 (dk_at dksJ7_checkInvariants_3 6 rfl rfl)
theorem dJ7_checkInvariants_77 : decode cJ7_checkInvariants 77 = .ok (.getfield 7, 3) := dk_180 0 7 (dk_at dksJ7_checkInvariants_3 7 rfl rfl)
theorem dJ7_checkInvariants_80 : decode cJ7_checkInvariants 80 = .ok (.aload_n 0, 1) := dk_42 (dk_at dksJ7_checkInvariants_3 10 rfl rfl)
theorem dJ7_checkInvariants_81 : decode cJ7_checkInvariants 81 = .ok (.getfield 11, 3) := dk_180 0 11 (dk_at dksJ7_checkInvariants_3 11 rfl rfl)
theorem dJ7_checkInvariants_84 : decode cJ7_checkInvariants 84 = .ok (.arraylength, 1) := dk_190 (dk_at dksJ7_checkInvariants_3 14 rfl rfl)
theorem dJ7_checkInvariants_85 : decode cJ7_checkInvariants 85 = .ok (.if_icmp .eq 25, 3) := dk_159 0 25 (dk_at dksJ7_checkInvariants_3 15 rfl rfl)
theorem dJ7_checkInvariants_88 : decode cJ7_checkInvariants 88 = .ok (.aload_n 0, 1) := dk_42 (dk_at dksJ7_checkInvariants_3 18 rfl rfl)
theorem dJ7_checkInvariants_89 : decode cJ7_checkInvariants 89 = .ok (.getfield 11, 3) := dk_180 0 11 (dk_at dksJ7_checkInvariants_3 19 rfl rfl)
theorem dJ7_checkInvariants_92 : decode cJ7_checkInvariants 92 = .ok (.aload_n 0, 1) := dk_42 (dk_at dksJ7_checkInvariants_3 22 rfl rfl)
theorem dJ7_checkInvariants_93 : decode cJ7_checkInvariants 93 = .ok (.getfield 7, 3) := dk_180 0 7 (dk_at dksJ7_checkInvariants_4 0 rfl rfl)
theorem dJ7_checkInvariants_96 : decode cJ7_checkInvariants 96 = .ok (.laload, 1) := dk_47 (dk_at dksJ7_checkInvariants_4 3 rfl rfl)
theorem dJ7_checkInvariants_97 : decode cJ7_checkInvariants 97 = .ok (.lconst 0, 1) := dk_9 (dk_at dksJ7_checkInvariants_4 4 rfl rfl)
theorem dJ7_checkInvariants_98 : decode cJ7_checkInvariants 98 = .ok (.lcmp, 1) := dk_148 (dk_at dksJ7_checkInvariants_4 5 rfl rfl)
theorem dJ7_checkInvariants_99 : decode cJ7_checkInvariants 99 = .ok (.ifCond .eq 11, 3) := dk_153 0 11 (dk_at dksJ7_checkInvariants_4 6 rfl rfl)
theorem dJ7_checkInvariants_102 : decode cJ7_checkInvariants 102 = .ok (.new 15, 3) := dk_187 0 15 (dk_at dksJ7_checkInvariants_4 9 rfl rfl)
theorem dJ7_checkInvariants_105 : decode cJ7_checkInvariants 105 = .ok (.dup, 1) := dk_89 (dk_at dksJ7_checkInvariants_4 12 rfl rfl)
theorem dJ7_checkInvariants_106 : decode cJ7_checkInvariants 106 = .ok (.invokespecial 17, 3) := dk_183 0 17 (dk_at dksJ7_checkInvariants_4 13 rfl rfl)
theorem dJ7_checkInvariants_109 : decode cJ7_checkInvariants 109 = .ok (.athrow, 1) := dk_191 (dk_at dksJ7_checkInvariants_4 16 rfl rfl)
theorem dJ7_checkInvariants_110 : decode cJ7_checkInvariants 110 = .ok (.return_, 1) := dk_177 (dk_at dksJ7_checkInvariants_4 17 rfl rfl)
abbrev cJ7_set : ByteArray := prog_36_method_19_code
def yJ7_set : MethodName := ⟨RJ7, "set", "(I)V"⟩
def dkwJ7_set_2 : List UInt8 := [10, 27, 121, 129, 80, 42, 182, 0, 56, 177]
abbrev dktJ7_set_2 : List UInt8 := dkwJ7_set_2 ++ []
def dkwJ7_set_1 : List UInt8 := [182, 0, 45, 183, 0, 146, 191, 27, 184, 0, 52, 61, 42, 28, 182, 0, 155, 42, 180, 0, 11, 28, 92, 47]
abbrev dktJ7_set_1 : List UInt8 := dkwJ7_set_1 ++ dktJ7_set_2
def dkwJ7_set_0 : List UInt8 := [27, 156, 0, 30, 187, 0, 142, 89, 187, 0, 33, 89, 183, 0, 35, 18, 153, 182, 0, 38, 27, 182, 0, 42]
abbrev dktJ7_set_0 : List UInt8 := dkwJ7_set_0 ++ dktJ7_set_1
theorem dksJ7_set_0 : cJ7_set.data.toList.drop 0 = dktJ7_set_0 := by decide +kernel
theorem dksJ7_set_1 : cJ7_set.data.toList.drop 24 = dktJ7_set_1 := dk_seg dksJ7_set_0 24 rfl rfl
theorem dksJ7_set_2 : cJ7_set.data.toList.drop 48 = dktJ7_set_2 := dk_seg dksJ7_set_1 24 rfl rfl
theorem dJ7_set_0 : decode cJ7_set 0 = .ok (.iload_n 1, 1) := dk_27 (dk_at dksJ7_set_0 0 rfl rfl)
theorem dJ7_set_1 : decode cJ7_set 1 = .ok (.ifCond .ge 30, 3) := dk_156 0 30 (dk_at dksJ7_set_0 1 rfl rfl)
theorem dJ7_set_4 : decode cJ7_set 4 = .ok (.new 142, 3) := dk_187 0 142 (dk_at dksJ7_set_0 4 rfl rfl)
theorem dJ7_set_7 : decode cJ7_set 7 = .ok (.dup, 1) := dk_89 (dk_at dksJ7_set_0 7 rfl rfl)
theorem dJ7_set_8 : decode cJ7_set 8 = .ok (.new 33, 3) := dk_187 0 33 (dk_at dksJ7_set_0 8 rfl rfl)
theorem dJ7_set_11 : decode cJ7_set 11 = .ok (.dup, 1) := dk_89 (dk_at dksJ7_set_0 11 rfl rfl)
theorem dJ7_set_12 : decode cJ7_set 12 = .ok (.invokespecial 35, 3) := dk_183 0 35 (dk_at dksJ7_set_0 12 rfl rfl)
theorem dJ7_set_15 : decode cJ7_set 15 = .ok (.ldc 153, 2) := dk_18 153 (dk_at dksJ7_set_0 15 rfl rfl)
theorem dJ7_set_17 : decode cJ7_set 17 = .ok (.invokevirtual 38, 3) := dk_182 0 38 (dk_at dksJ7_set_0 17 rfl rfl)
theorem dJ7_set_20 : decode cJ7_set 20 = .ok (.iload_n 1, 1) := dk_27 (dk_at dksJ7_set_0 20 rfl rfl)
theorem dJ7_set_21 : decode cJ7_set 21 = .ok (.invokevirtual 42, 3) := dk_182 0 42 (dk_at dksJ7_set_0 21 rfl rfl)
theorem dJ7_set_24 : decode cJ7_set 24 = .ok (.invokevirtual 45, 3) := dk_182 0 45 (dk_at dksJ7_set_1 0 rfl rfl)
theorem dJ7_set_27 : decode cJ7_set 27 = .ok (.invokespecial 146, 3) := dk_183 0 146 (dk_at dksJ7_set_1 3 rfl rfl)
theorem dJ7_set_30 : decode cJ7_set 30 = .ok (.athrow, 1) := dk_191 (dk_at dksJ7_set_1 6 rfl rfl)
theorem dJ7_set_31 : decode cJ7_set 31 = .ok (.iload_n 1, 1) := dk_27 (dk_at dksJ7_set_1 7 rfl rfl)
theorem dJ7_set_32 : decode cJ7_set 32 = .ok (.invokestatic 52, 3) := dk_184 0 52 (dk_at dksJ7_set_1 8 rfl rfl)
theorem dJ7_set_35 : decode cJ7_set 35 = .ok (.istore_n 2, 1) := dk_61 (dk_at dksJ7_set_1 11 rfl rfl)
theorem dJ7_set_36 : decode cJ7_set 36 = .ok (.aload_n 0, 1) := dk_42 (dk_at dksJ7_set_1 12 rfl rfl)
theorem dJ7_set_37 : decode cJ7_set 37 = .ok (.iload_n 2, 1) := dk_28 (dk_at dksJ7_set_1 13 rfl rfl)
theorem dJ7_set_38 : decode cJ7_set 38 = .ok (.invokevirtual 155, 3) := dk_182 0 155 (dk_at dksJ7_set_1 14 rfl rfl)
theorem dJ7_set_41 : decode cJ7_set 41 = .ok (.aload_n 0, 1) := dk_42 (dk_at dksJ7_set_1 17 rfl rfl)
theorem dJ7_set_42 : decode cJ7_set 42 = .ok (.getfield 11, 3) := dk_180 0 11 (dk_at dksJ7_set_1 18 rfl rfl)
theorem dJ7_set_45 : decode cJ7_set 45 = .ok (.iload_n 2, 1) := dk_28 (dk_at dksJ7_set_1 21 rfl rfl)
theorem dJ7_set_46 : decode cJ7_set 46 = .ok (.dup2, 1) := dk_92 (dk_at dksJ7_set_1 22 rfl rfl)
theorem dJ7_set_47 : decode cJ7_set 47 = .ok (.laload, 1) := dk_47 (dk_at dksJ7_set_1 23 rfl rfl)
theorem dJ7_set_48 : decode cJ7_set 48 = .ok (.lconst 1, 1) := dk_10 (dk_at dksJ7_set_2 0 rfl rfl)
theorem dJ7_set_49 : decode cJ7_set 49 = .ok (.iload_n 1, 1) := dk_27 (dk_at dksJ7_set_2 1 rfl rfl)
theorem dJ7_set_50 : decode cJ7_set 50 = .ok (.lshl, 1) := dk_121 (dk_at dksJ7_set_2 2 rfl rfl)
theorem dJ7_set_51 : decode cJ7_set 51 = .ok (.lor, 1) := dk_129 (dk_at dksJ7_set_2 3 rfl rfl)
theorem dJ7_set_52 : decode cJ7_set 52 = .ok (.lastore, 1) := dk_80 (dk_at dksJ7_set_2 4 rfl rfl)
theorem dJ7_set_53 : decode cJ7_set 53 = .ok (.aload_n 0, 1) := dk_42 (dk_at dksJ7_set_2 5 rfl rfl)
theorem dJ7_set_54 : decode cJ7_set 54 = .ok (.invokevirtual 56, 3) := dk_182 0 56 (dk_at dksJ7_set_2 6 rfl rfl)
theorem dJ7_set_57 : decode cJ7_set 57 = .ok (.return_, 1) := dk_177 (dk_at dksJ7_set_2 9 rfl rfl)
abbrev cJ7_expandTo : ByteArray := prog_36_method_15_code
def yJ7_expandTo : MethodName := ⟨RJ7, "expandTo", "(I)V"⟩
def dkwJ7_expandTo_0 : List UInt8 := [27, 4, 96, 61, 42, 180, 0, 7, 28, 162, 0, 13, 42, 28, 182, 0, 139, 42, 28, 181, 0, 7, 177]
abbrev dktJ7_expandTo_0 : List UInt8 := dkwJ7_expandTo_0 ++ []
theorem dksJ7_expandTo_0 : cJ7_expandTo.data.toList.drop 0 = dktJ7_expandTo_0 := by decide +kernel
theorem dJ7_expandTo_0 : decode cJ7_expandTo 0 = .ok (.iload_n 1, 1) := dk_27 (dk_at dksJ7_expandTo_0 0 rfl rfl)
theorem dJ7_expandTo_1 : decode cJ7_expandTo 1 = .ok (.iconst 1, 1) := dk_4 (dk_at dksJ7_expandTo_0 1 rfl rfl)
theorem dJ7_expandTo_2 : decode cJ7_expandTo 2 = .ok (.iadd, 1) := dk_96 (dk_at dksJ7_expandTo_0 2 rfl rfl)
theorem dJ7_expandTo_3 : decode cJ7_expandTo 3 = .ok (.istore_n 2, 1) := dk_61 (dk_at dksJ7_expandTo_0 3 rfl rfl)
theorem dJ7_expandTo_4 : decode cJ7_expandTo 4 = .ok (.aload_n 0, 1) := dk_42 (dk_at dksJ7_expandTo_0 4 rfl rfl)
theorem dJ7_expandTo_5 : decode cJ7_expandTo 5 = .ok (.getfield 7, 3) := dk_180 0 7 (dk_at dksJ7_expandTo_0 5 rfl rfl)
theorem dJ7_expandTo_8 : decode cJ7_expandTo 8 = .ok (.iload_n 2, 1) := dk_28 (dk_at dksJ7_expandTo_0 8 rfl rfl)
theorem dJ7_expandTo_9 : decode cJ7_expandTo 9 = .ok (.if_icmp .ge 13, 3) := dk_162 0 13 (dk_at dksJ7_expandTo_0 9 rfl rfl)
theorem dJ7_expandTo_12 : decode cJ7_expandTo 12 = .ok (.aload_n 0, 1) := dk_42 (dk_at dksJ7_expandTo_0 12 rfl rfl)
theorem dJ7_expandTo_13 : decode cJ7_expandTo 13 = .ok (.iload_n 2, 1) := dk_28 (dk_at dksJ7_expandTo_0 13 rfl rfl)
theorem dJ7_expandTo_14 : decode cJ7_expandTo 14 = .ok (.invokevirtual 139, 3) := dk_182 0 139 (dk_at dksJ7_expandTo_0 14 rfl rfl)
theorem dJ7_expandTo_17 : decode cJ7_expandTo 17 = .ok (.aload_n 0, 1) := dk_42 (dk_at dksJ7_expandTo_0 17 rfl rfl)
theorem dJ7_expandTo_18 : decode cJ7_expandTo 18 = .ok (.iload_n 2, 1) := dk_28 (dk_at dksJ7_expandTo_0 18 rfl rfl)
theorem dJ7_expandTo_19 : decode cJ7_expandTo 19 = .ok (.putfield 7, 3) := dk_181 0 7 (dk_at dksJ7_expandTo_0 19 rfl rfl)
theorem dJ7_expandTo_22 : decode cJ7_expandTo 22 = .ok (.return_, 1) := dk_177 (dk_at dksJ7_expandTo_0 22 rfl rfl)
abbrev cJ7_ensureCapacity : ByteArray := prog_36_method_14_code
def yJ7_ensureCapacity : MethodName := ⟨RJ7, "ensureCapacity", "(I)V"⟩
def dkwJ7_ensureCapacity_1 : List UInt8 := [180, 0, 11, 28, 184, 0, 59, 181, 0, 11, 42, 3, 181, 0, 24, 177]
abbrev dktJ7_ensureCapacity_1 : List UInt8 := dkwJ7_ensureCapacity_1 ++ []
def dkwJ7_ensureCapacity_0 : List UInt8 := [42, 180, 0, 11, 190, 27, 162, 0, 32, 5, 42, 180, 0, 11, 190, 104, 27, 184, 0, 133, 61, 42, 42]
abbrev dktJ7_ensureCapacity_0 : List UInt8 := dkwJ7_ensureCapacity_0 ++ dktJ7_ensureCapacity_1
theorem dksJ7_ensureCapacity_0 : cJ7_ensureCapacity.data.toList.drop 0 = dktJ7_ensureCapacity_0 := by decide +kernel
theorem dksJ7_ensureCapacity_1 : cJ7_ensureCapacity.data.toList.drop 23 = dktJ7_ensureCapacity_1 := dk_seg dksJ7_ensureCapacity_0 23 rfl rfl
theorem dJ7_ensureCapacity_0 : decode cJ7_ensureCapacity 0 = .ok (.aload_n 0, 1) := dk_42 (dk_at dksJ7_ensureCapacity_0 0 rfl rfl)
theorem dJ7_ensureCapacity_1 : decode cJ7_ensureCapacity 1 = .ok (.getfield 11, 3) := dk_180 0 11 (dk_at dksJ7_ensureCapacity_0 1 rfl rfl)
theorem dJ7_ensureCapacity_4 : decode cJ7_ensureCapacity 4 = .ok (.arraylength, 1) := dk_190 (dk_at dksJ7_ensureCapacity_0 4 rfl rfl)
theorem dJ7_ensureCapacity_5 : decode cJ7_ensureCapacity 5 = .ok (.iload_n 1, 1) := dk_27 (dk_at dksJ7_ensureCapacity_0 5 rfl rfl)
theorem dJ7_ensureCapacity_6 : decode cJ7_ensureCapacity 6 = .ok (.if_icmp .ge 32, 3) := dk_162 0 32 (dk_at dksJ7_ensureCapacity_0 6 rfl rfl)
theorem dJ7_ensureCapacity_9 : decode cJ7_ensureCapacity 9 = .ok (.iconst 2, 1) := dk_5 (dk_at dksJ7_ensureCapacity_0 9 rfl rfl)
theorem dJ7_ensureCapacity_10 : decode cJ7_ensureCapacity 10 = .ok (.aload_n 0, 1) := dk_42 (dk_at dksJ7_ensureCapacity_0 10 rfl rfl)
theorem dJ7_ensureCapacity_11 : decode cJ7_ensureCapacity 11 = .ok (.getfield 11, 3) := dk_180 0 11 (dk_at dksJ7_ensureCapacity_0 11 rfl rfl)
theorem dJ7_ensureCapacity_14 : decode cJ7_ensureCapacity 14 = .ok (.arraylength, 1) := dk_190 (dk_at dksJ7_ensureCapacity_0 14 rfl rfl)
theorem dJ7_ensureCapacity_15 : decode cJ7_ensureCapacity 15 = .ok (.imul, 1) := dk_104 (dk_at dksJ7_ensureCapacity_0 15 rfl rfl)
theorem dJ7_ensureCapacity_16 : decode cJ7_ensureCapacity 16 = .ok (.iload_n 1, 1) := dk_27 (dk_at dksJ7_ensureCapacity_0 16 rfl rfl)
theorem dJ7_ensureCapacity_17 : decode cJ7_ensureCapacity 17 = .ok (.invokestatic 133, 3) := dk_184 0 133 (dk_at dksJ7_ensureCapacity_0 17 rfl rfl)
theorem dJ7_ensureCapacity_20 : decode cJ7_ensureCapacity 20 = .ok (.istore_n 2, 1) := dk_61 (dk_at dksJ7_ensureCapacity_0 20 rfl rfl)
theorem dJ7_ensureCapacity_21 : decode cJ7_ensureCapacity 21 = .ok (.aload_n 0, 1) := dk_42 (dk_at dksJ7_ensureCapacity_0 21 rfl rfl)
theorem dJ7_ensureCapacity_22 : decode cJ7_ensureCapacity 22 = .ok (.aload_n 0, 1) := dk_42 (dk_at dksJ7_ensureCapacity_0 22 rfl rfl)
theorem dJ7_ensureCapacity_23 : decode cJ7_ensureCapacity 23 = .ok (.getfield 11, 3) := dk_180 0 11 (dk_at dksJ7_ensureCapacity_1 0 rfl rfl)
theorem dJ7_ensureCapacity_26 : decode cJ7_ensureCapacity 26 = .ok (.iload_n 2, 1) := dk_28 (dk_at dksJ7_ensureCapacity_1 3 rfl rfl)
theorem dJ7_ensureCapacity_27 : decode cJ7_ensureCapacity 27 = .ok (.invokestatic 59, 3) := dk_184 0 59 (dk_at dksJ7_ensureCapacity_1 4 rfl rfl)
theorem dJ7_ensureCapacity_30 : decode cJ7_ensureCapacity 30 = .ok (.putfield 11, 3) := dk_181 0 11 (dk_at dksJ7_ensureCapacity_1 7 rfl rfl)
theorem dJ7_ensureCapacity_33 : decode cJ7_ensureCapacity 33 = .ok (.aload_n 0, 1) := dk_42 (dk_at dksJ7_ensureCapacity_1 10 rfl rfl)
theorem dJ7_ensureCapacity_34 : decode cJ7_ensureCapacity 34 = .ok (.iconst 0, 1) := dk_3 (dk_at dksJ7_ensureCapacity_1 11 rfl rfl)
theorem dJ7_ensureCapacity_35 : decode cJ7_ensureCapacity 35 = .ok (.putfield 24, 3) := dk_181 0 24 (dk_at dksJ7_ensureCapacity_1 12 rfl rfl)
theorem dJ7_ensureCapacity_38 : decode cJ7_ensureCapacity 38 = .ok (.return_, 1) := dk_177 (dk_at dksJ7_ensureCapacity_1 15 rfl rfl)
abbrev cJ7_clear : ByteArray := prog_36_method_25_code
def yJ7_clear : MethodName := ⟨RJ7, "clear", "()V"⟩
def dkwJ7_clear_1 : List UInt8 := [167, 255, 232, 177]
abbrev dktJ7_clear_1 : List UInt8 := dkwJ7_clear_1 ++ []
def dkwJ7_clear_0 : List UInt8 := [42, 180, 0, 7, 158, 0, 23, 42, 180, 0, 11, 42, 89, 180, 0, 7, 4, 100, 90, 181, 0, 7, 9, 80]
abbrev dktJ7_clear_0 : List UInt8 := dkwJ7_clear_0 ++ dktJ7_clear_1
theorem dksJ7_clear_0 : cJ7_clear.data.toList.drop 0 = dktJ7_clear_0 := by decide +kernel
theorem dksJ7_clear_1 : cJ7_clear.data.toList.drop 24 = dktJ7_clear_1 := dk_seg dksJ7_clear_0 24 rfl rfl
theorem dJ7_clear_0 : decode cJ7_clear 0 = .ok (.aload_n 0, 1) := dk_42 (dk_at dksJ7_clear_0 0 rfl rfl)
theorem dJ7_clear_1 : decode cJ7_clear 1 = .ok (.getfield 7, 3) := dk_180 0 7 (dk_at dksJ7_clear_0 1 rfl rfl)
theorem dJ7_clear_4 : decode cJ7_clear 4 = .ok (.ifCond .le 23, 3) := dk_158 0 23 (dk_at dksJ7_clear_0 4 rfl rfl)
theorem dJ7_clear_7 : decode cJ7_clear 7 = .ok (.aload_n 0, 1) := dk_42 (dk_at dksJ7_clear_0 7 rfl rfl)
theorem dJ7_clear_8 : decode cJ7_clear 8 = .ok (.getfield 11, 3) := dk_180 0 11 (dk_at dksJ7_clear_0 8 rfl rfl)
theorem dJ7_clear_11 : decode cJ7_clear 11 = .ok (.aload_n 0, 1) := dk_42 (dk_at dksJ7_clear_0 11 rfl rfl)
theorem dJ7_clear_12 : decode cJ7_clear 12 = .ok (.dup, 1) := dk_89 (dk_at dksJ7_clear_0 12 rfl rfl)
theorem dJ7_clear_13 : decode cJ7_clear 13 = .ok (.getfield 7, 3) := dk_180 0 7 (dk_at dksJ7_clear_0 13 rfl rfl)
theorem dJ7_clear_16 : decode cJ7_clear 16 = .ok (.iconst 1, 1) := dk_4 (dk_at dksJ7_clear_0 16 rfl rfl)
theorem dJ7_clear_17 : decode cJ7_clear 17 = .ok (.isub, 1) := dk_100 (dk_at dksJ7_clear_0 17 rfl rfl)
theorem dJ7_clear_18 : decode cJ7_clear 18 = .ok (.dup_x1, 1) := dk_90 (dk_at dksJ7_clear_0 18 rfl rfl)
theorem dJ7_clear_19 : decode cJ7_clear 19 = .ok (.putfield 7, 3) := dk_181 0 7 (dk_at dksJ7_clear_0 19 rfl rfl)
theorem dJ7_clear_22 : decode cJ7_clear 22 = .ok (.lconst 0, 1) := dk_9 (dk_at dksJ7_clear_0 22 rfl rfl)
theorem dJ7_clear_23 : decode cJ7_clear 23 = .ok (.lastore, 1) := dk_80 (dk_at dksJ7_clear_0 23 rfl rfl)
theorem dJ7_clear_24 : decode cJ7_clear 24 = .ok (.goto (-24), 3) := dk_167 255 232 (dk_at dksJ7_clear_1 0 rfl rfl)
theorem dJ7_clear_27 : decode cJ7_clear 27 = .ok (.return_, 1) := dk_177 (dk_at dksJ7_clear_1 3 rfl rfl)
theorem q60 : (Jvm.Cond.initialized "java/util/BitSet") ∈ lw_all := lw_g (lw_at lw_m1 13 rfl) rfl
theorem q259 : (Jvm.Cond.instantiable "java/util/BitSet" (3 : Nat)) ∈ lw_all := lw_g (lw_at lw_m1 212 rfl) rfl
theorem q261 : (Jvm.Cond.instanceMethod ({ cls := "java/util/BitSet", name := "<init>", desc := "(I)V" } : Jvm.MethodName)) ∈ lw_all := lw_g (lw_at lw_m1 214 rfl) rfl
theorem q262 : (Jvm.Cond.code ({ cls := "java/util/BitSet", name := "<init>", desc := "(I)V" } : Jvm.MethodName) prog_36_method_5_code (2 : Nat) (Option.none : Option Jvm.ClassFile.FieldType)) ∈ lw_all := lw_g (lw_at lw_m1 215 rfl) rfl
theorem q263 : (Jvm.Cond.methodLink "java/util/BitSet" (21 : Nat) ({ cls := "java/lang/Object", name := "<init>", desc := "()V" } : Jvm.MethodName)) ∈ lw_all := lw_g (lw_at lw_m1 216 rfl) rfl
theorem q264 : (Jvm.Cond.methodLink "java/util/BitSet" (27 : Nat) ({ cls := "java/util/BitSet", name := "initWords", desc := "(I)V" } : Jvm.MethodName)) ∈ lw_all := lw_g (lw_at lw_m1 217 rfl) rfl
theorem q265 : (Jvm.Cond.privateMethod ({ cls := "java/util/BitSet", name := "initWords", desc := "(I)V" } : Jvm.MethodName)) ∈ lw_tbl := lw_at lw_m1 218 rfl
theorem q266 : (Jvm.Cond.instanceMethod ({ cls := "java/util/BitSet", name := "initWords", desc := "(I)V" } : Jvm.MethodName)) ∈ lw_all := lw_g (lw_at lw_m1 219 rfl) rfl
theorem q267 : (Jvm.Cond.code ({ cls := "java/util/BitSet", name := "initWords", desc := "(I)V" } : Jvm.MethodName) prog_36_method_6_code (2 : Nat) (Option.none : Option Jvm.ClassFile.FieldType)) ∈ lw_all := lw_g (lw_at lw_m1 220 rfl) rfl
theorem q268 : (Jvm.Cond.methodLink "java/util/BitSet" (52 : Nat) ({ cls := "java/util/BitSet", name := "wordIndex", desc := "(I)I" } : Jvm.MethodName)) ∈ lw_all := lw_g (lw_at lw_m1 221 rfl) rfl
theorem q269 : (Jvm.Cond.static ({ cls := "java/util/BitSet", name := "wordIndex", desc := "(I)I" } : Jvm.MethodName)) ∈ lw_all := lw_g (lw_at lw_m1 222 rfl) rfl
theorem q270 : (Jvm.Cond.code ({ cls := "java/util/BitSet", name := "wordIndex", desc := "(I)I" } : Jvm.MethodName) prog_36_method_1_code (1 : Nat) (Option.some Jvm.ClassFile.FieldType.int)) ∈ lw_all := lw_g (lw_at lw_m1 223 rfl) rfl
theorem q271 : (Jvm.Cond.fieldLink "java/util/BitSet" (11 : Nat) "java/util/BitSet" "words" "[J") ∈ lw_all := lw_g (lw_at lw_m1 224 rfl) rfl
theorem q272 : (Jvm.Cond.fieldLink "java/util/BitSet" (7 : Nat) "java/util/BitSet" "wordsInUse" "I") ∈ lw_all := lw_g (lw_at lw_m1 225 rfl) rfl
theorem q273 : (Jvm.Cond.fieldLink "java/util/BitSet" (24 : Nat) "java/util/BitSet" "sizeIsSticky" "Z") ∈ lw_all := lw_g (lw_at lw_m1 226 rfl) rfl
theorem q274 : (Jvm.Cond.lays "java/util/BitSet" "java/util/BitSet" "words" "[J") ∈ lw_all := lw_g (lw_at lw_m1 227 rfl) rfl
theorem q275 : (Jvm.Cond.soleField "java/util/BitSet" "words") ∈ lw_all := lw_g (lw_at lw_m1 228 rfl) rfl
theorem q276 : (Jvm.Cond.lays "java/util/BitSet" "java/util/BitSet" "wordsInUse" "I") ∈ lw_all := lw_g (lw_at lw_m1 229 rfl) rfl
theorem q277 : (Jvm.Cond.soleField "java/util/BitSet" "wordsInUse") ∈ lw_all := lw_g (lw_at lw_m1 230 rfl) rfl
theorem q278 : (Jvm.Cond.lays "java/util/BitSet" "java/util/BitSet" "sizeIsSticky" "Z") ∈ lw_all := lw_g (lw_at lw_m1 231 rfl) rfl
theorem q279 : (Jvm.Cond.soleField "java/util/BitSet" "sizeIsSticky") ∈ lw_all := lw_g (lw_at lw_m1 232 rfl) rfl
theorem q280 : (Jvm.Cond.superclass "java/util/BitSet" "java/lang/Object") ∈ lw_all := lw_g (lw_at lw_m1 233 rfl) rfl
theorem q565 : (Jvm.Cond.selects "java/util/BitSet" ({ cls := "java/lang/Object", name := "getClass", desc := "()Ljava/lang/Class;" } : Jvm.MethodName) ({ cls := "java/lang/Object", name := "getClass", desc := "()Ljava/lang/Class;" } : Jvm.MethodName)) ∈ lw_all := lw_g (lw_at lw_m3 38 rfl) rfl
theorem q928 : (Jvm.Cond.instanceMethod ({ cls := "java/util/BitSet", name := "get", desc := "(I)Z" } : Jvm.MethodName)) ∈ lw_all := lw_g (lw_at lw_m4 161 rfl) rfl
theorem q929 : (Jvm.Cond.selects "java/util/BitSet" ({ cls := "java/util/BitSet", name := "get", desc := "(I)Z" } : Jvm.MethodName) ({ cls := "java/util/BitSet", name := "get", desc := "(I)Z" } : Jvm.MethodName)) ∈ lw_all := lw_g (lw_at lw_m4 162 rfl) rfl
theorem q930 : (Jvm.Cond.code ({ cls := "java/util/BitSet", name := "get", desc := "(I)Z" } : Jvm.MethodName) prog_36_method_26_code (3 : Nat) (Option.some Jvm.ClassFile.FieldType.boolean)) ∈ lw_all := lw_g (lw_at lw_m4 163 rfl) rfl
theorem q931 : (Jvm.Cond.methodLink "java/util/BitSet" (56 : Nat) ({ cls := "java/util/BitSet", name := "checkInvariants", desc := "()V" } : Jvm.MethodName)) ∈ lw_all := lw_g (lw_at lw_m4 164 rfl) rfl
theorem q932 : (Jvm.Cond.privateMethod ({ cls := "java/util/BitSet", name := "checkInvariants", desc := "()V" } : Jvm.MethodName)) ∈ lw_tbl := lw_at lw_m4 165 rfl
theorem q933 : (Jvm.Cond.instanceMethod ({ cls := "java/util/BitSet", name := "checkInvariants", desc := "()V" } : Jvm.MethodName)) ∈ lw_all := lw_g (lw_at lw_m4 166 rfl) rfl
theorem q934 : (Jvm.Cond.code ({ cls := "java/util/BitSet", name := "checkInvariants", desc := "()V" } : Jvm.MethodName) prog_36_method_2_code (1 : Nat) (Option.none : Option Jvm.ClassFile.FieldType)) ∈ lw_all := lw_g (lw_at lw_m4 167 rfl) rfl
theorem q935 : (Jvm.Cond.fieldLink "java/util/BitSet" (3 : Nat) "java/util/BitSet" "$assertionsDisabled" "Z") ∈ lw_all := lw_g (lw_at lw_m4 168 rfl) rfl
theorem q936 : (Jvm.Cond.laysStatic "java/util/BitSet" "$assertionsDisabled" "Z") ∈ lw_tbl := lw_at lw_m4 169 rfl
theorem q938 : (Jvm.Cond.instanceMethod ({ cls := "java/util/BitSet", name := "set", desc := "(I)V" } : Jvm.MethodName)) ∈ lw_all := lw_g (lw_at lw_m4 171 rfl) rfl
theorem q939 : (Jvm.Cond.selects "java/util/BitSet" ({ cls := "java/util/BitSet", name := "set", desc := "(I)V" } : Jvm.MethodName) ({ cls := "java/util/BitSet", name := "set", desc := "(I)V" } : Jvm.MethodName)) ∈ lw_all := lw_g (lw_at lw_m4 172 rfl) rfl
theorem q940 : (Jvm.Cond.code ({ cls := "java/util/BitSet", name := "set", desc := "(I)V" } : Jvm.MethodName) prog_36_method_19_code (3 : Nat) (Option.none : Option Jvm.ClassFile.FieldType)) ∈ lw_all := lw_g (lw_at lw_m4 173 rfl) rfl
theorem q941 : (Jvm.Cond.methodLink "java/util/BitSet" (155 : Nat) ({ cls := "java/util/BitSet", name := "expandTo", desc := "(I)V" } : Jvm.MethodName)) ∈ lw_all := lw_g (lw_at lw_m4 174 rfl) rfl
theorem q942 : (Jvm.Cond.privateMethod ({ cls := "java/util/BitSet", name := "expandTo", desc := "(I)V" } : Jvm.MethodName)) ∈ lw_tbl := lw_at lw_m4 175 rfl
theorem q943 : (Jvm.Cond.instanceMethod ({ cls := "java/util/BitSet", name := "expandTo", desc := "(I)V" } : Jvm.MethodName)) ∈ lw_all := lw_g (lw_at lw_m4 176 rfl) rfl
theorem q944 : (Jvm.Cond.code ({ cls := "java/util/BitSet", name := "expandTo", desc := "(I)V" } : Jvm.MethodName) prog_36_method_15_code (3 : Nat) (Option.none : Option Jvm.ClassFile.FieldType)) ∈ lw_all := lw_g (lw_at lw_m4 177 rfl) rfl
theorem q945 : (Jvm.Cond.methodLink "java/util/BitSet" (139 : Nat) ({ cls := "java/util/BitSet", name := "ensureCapacity", desc := "(I)V" } : Jvm.MethodName)) ∈ lw_all := lw_g (lw_at lw_m4 178 rfl) rfl
theorem q946 : (Jvm.Cond.privateMethod ({ cls := "java/util/BitSet", name := "ensureCapacity", desc := "(I)V" } : Jvm.MethodName)) ∈ lw_tbl := lw_at lw_m4 179 rfl
theorem q947 : (Jvm.Cond.instanceMethod ({ cls := "java/util/BitSet", name := "ensureCapacity", desc := "(I)V" } : Jvm.MethodName)) ∈ lw_all := lw_g (lw_at lw_m4 180 rfl) rfl
theorem q948 : (Jvm.Cond.code ({ cls := "java/util/BitSet", name := "ensureCapacity", desc := "(I)V" } : Jvm.MethodName) prog_36_method_14_code (3 : Nat) (Option.none : Option Jvm.ClassFile.FieldType)) ∈ lw_all := lw_g (lw_at lw_m4 181 rfl) rfl
theorem q949 : (Jvm.Cond.methodLink "java/util/BitSet" (133 : Nat) ({ cls := "java/lang/Math", name := "max", desc := "(II)I" } : Jvm.MethodName)) ∈ lw_all := lw_g (lw_at lw_m4 182 rfl) rfl
theorem q950 : (Jvm.Cond.methodLink "java/util/BitSet" (59 : Nat) ({ cls := "java/util/Arrays", name := "copyOf", desc := "([JI)[J" } : Jvm.MethodName)) ∈ lw_all := lw_g (lw_at lw_m4 183 rfl) rfl
theorem q1037 : (Jvm.Cond.instanceMethod ({ cls := "java/util/BitSet", name := "clear", desc := "()V" } : Jvm.MethodName)) ∈ lw_all := lw_g (lw_at lw_m5 30 rfl) rfl
theorem q1038 : (Jvm.Cond.selects "java/util/BitSet" ({ cls := "java/util/BitSet", name := "clear", desc := "()V" } : Jvm.MethodName) ({ cls := "java/util/BitSet", name := "clear", desc := "()V" } : Jvm.MethodName)) ∈ lw_all := lw_g (lw_at lw_m5 31 rfl) rfl
theorem q1039 : (Jvm.Cond.code ({ cls := "java/util/BitSet", name := "clear", desc := "()V" } : Jvm.MethodName) prog_36_method_25_code (1 : Nat) (Option.none : Option Jvm.ClassFile.FieldType)) ∈ lw_all := lw_g (lw_at lw_m5 32 rfl) rfl
theorem q1841 : (Jvm.Cond.castable "java/util/BitSet" "java/lang/Object") ∈ lw_tbl := lw_at lw_m8 114 rfl
theorem in_J7 : ∀ w ∈ wsJ70, w ∈ lw_all := lw_in wsJ70 [274, 276, 278] (by decide +kernel) (by decide +kernel)
/-! java/util/AbstractMap -/
set_option maxRecDepth 100000
def RJ8 : String := "java/util/AbstractMap"
abbrev cJ8_init : ByteArray := prog_29_method_1_code
def yJ8_init : MethodName := ⟨RJ8, "<init>", "()V"⟩
theorem dJ8_init_0 : decode cJ8_init 0 = .ok (.aload_n 0, 1) := by decide +kernel
theorem dJ8_init_1 : decode cJ8_init 1 = .ok (.invokespecial 1, 3) := by decide +kernel
theorem dJ8_init_4 : decode cJ8_init 4 = .ok (.return_, 1) := by decide +kernel
theorem q61 : (Jvm.Cond.initialized "java/util/AbstractMap") ∈ lw_all := lw_g (lw_at lw_m1 14 rfl) rfl
theorem q288 : (Jvm.Cond.instanceMethod ({ cls := "java/util/AbstractMap", name := "<init>", desc := "()V" } : Jvm.MethodName)) ∈ lw_all := lw_g (lw_at lw_m2 1 rfl) rfl
theorem q289 : (Jvm.Cond.code ({ cls := "java/util/AbstractMap", name := "<init>", desc := "()V" } : Jvm.MethodName) prog_29_method_1_code (1 : Nat) (Option.none : Option Jvm.ClassFile.FieldType)) ∈ lw_all := lw_g (lw_at lw_m2 2 rfl) rfl
theorem q290 : (Jvm.Cond.methodLink "java/util/AbstractMap" (1 : Nat) ({ cls := "java/lang/Object", name := "<init>", desc := "()V" } : Jvm.MethodName)) ∈ lw_all := lw_g (lw_at lw_m2 3 rfl) rfl
theorem q316 : (Jvm.Cond.soleField "java/util/AbstractMap" "keySet") ∈ lw_all := lw_g (lw_at lw_m2 29 rfl) rfl
theorem q318 : (Jvm.Cond.soleField "java/util/AbstractMap" "values") ∈ lw_all := lw_g (lw_at lw_m2 31 rfl) rfl
/-! java/util/HashMap -/
set_option maxRecDepth 100000
def RJ9 : String := "java/util/HashMap"
def TJ9 : u_T := fun k => match k with
  | 0 => ("java/util/AbstractMap", "keySet", "Ljava/util/Set;", false)
  | 1 => ("java/util/AbstractMap", "values", "Ljava/util/Collection;", false)
  | 2 => ("java/util/HashMap", "table", "[Ljava/util/HashMap$Node;", false)
  | 3 => ("java/util/HashMap", "entrySet", "Ljava/util/Set;", false)
  | 4 => ("java/util/HashMap", "size", "I", false)
  | 5 => ("java/util/HashMap", "modCount", "I", false)
  | 6 => ("java/util/HashMap", "threshold", "I", false)
  | _ => ("java/util/HashMap", "loadFactor", "F", true)
def tyJ9 : Nat → FieldType := fun k => match k with
  | 0 => .object "java/util/Set"
  | 1 => .object "java/util/Collection"
  | 2 => .array (.object "java/util/HashMap$Node")
  | 3 => .object "java/util/Set"
  | 4 => .int
  | 5 => .int
  | 6 => .int
  | _ => .float
abbrev wsJ90 : List Cond := u_ws RJ9 TJ9 8
theorem nmJ9 : ∀ a, a < 8 → ∀ b, b < 8 → a ≠ b → (TJ9 a).2.1 ≠ (TJ9 b).2.1 := by decide +kernel
theorem tyJ9_ok : ∀ k, k < 8 → parseFieldDescriptor (TJ9 k).2.2.1 = some (tyJ9 k) := by decide +kernel
abbrev cJ9_init : ByteArray := prog_39_method_7_code
def yJ9_init : MethodName := ⟨RJ9, "<init>", "()V"⟩
def dkwJ9_init_0 : List UInt8 := [42, 183, 0, 43, 42, 18, 92, 181, 0, 81, 177]
abbrev dktJ9_init_0 : List UInt8 := dkwJ9_init_0 ++ []
theorem dksJ9_init_0 : cJ9_init.data.toList.drop 0 = dktJ9_init_0 := by decide +kernel
theorem dJ9_init_0 : decode cJ9_init 0 = .ok (.aload_n 0, 1) := dk_42 (dk_at dksJ9_init_0 0 rfl rfl)
theorem dJ9_init_1 : decode cJ9_init 1 = .ok (.invokespecial 43, 3) := dk_183 0 43 (dk_at dksJ9_init_0 1 rfl rfl)
theorem dJ9_init_4 : decode cJ9_init 4 = .ok (.aload_n 0, 1) := dk_42 (dk_at dksJ9_init_0 4 rfl rfl)
theorem dJ9_init_5 : decode cJ9_init 5 = .ok (.ldc 92, 2) := dk_18 92 (dk_at dksJ9_init_0 5 rfl rfl)
theorem dJ9_init_7 : decode cJ9_init 7 = .ok (.putfield 81, 3) := dk_181 0 81 (dk_at dksJ9_init_0 7 rfl rfl)
theorem dJ9_init_10 : decode cJ9_init 10 = .ok (.return_, 1) := dk_177 (dk_at dksJ9_init_0 10 rfl rfl)
abbrev cJ9_containsKey : ByteArray := prog_39_method_14_code
def yJ9_containsKey : MethodName := ⟨RJ9, "containsKey", "(Ljava/lang/Object;)Z"⟩
def dkwJ9_containsKey_0 : List UInt8 := [42, 43, 182, 0, 158, 198, 0, 7, 4, 167, 0, 4, 3, 172]
abbrev dktJ9_containsKey_0 : List UInt8 := dkwJ9_containsKey_0 ++ []
theorem dksJ9_containsKey_0 : cJ9_containsKey.data.toList.drop 0 = dktJ9_containsKey_0 := by decide +kernel
theorem dJ9_containsKey_0 : decode cJ9_containsKey 0 = .ok (.aload_n 0, 1) := dk_42 (dk_at dksJ9_containsKey_0 0 rfl rfl)
theorem dJ9_containsKey_1 : decode cJ9_containsKey 1 = .ok (.aload_n 1, 1) := dk_43 (dk_at dksJ9_containsKey_0 1 rfl rfl)
theorem dJ9_containsKey_2 : decode cJ9_containsKey 2 = .ok (.invokevirtual 158, 3) := dk_182 0 158 (dk_at dksJ9_containsKey_0 2 rfl rfl)
theorem dJ9_containsKey_5 : decode cJ9_containsKey 5 = .ok (.ifnull 7, 3) := dk_198 0 7 (dk_at dksJ9_containsKey_0 5 rfl rfl)
theorem dJ9_containsKey_8 : decode cJ9_containsKey 8 = .ok (.iconst 1, 1) := dk_4 (dk_at dksJ9_containsKey_0 8 rfl rfl)
theorem dJ9_containsKey_9 : decode cJ9_containsKey 9 = .ok (.goto 4, 3) := dk_167 0 4 (dk_at dksJ9_containsKey_0 9 rfl rfl)
theorem dJ9_containsKey_12 : decode cJ9_containsKey 12 = .ok (.iconst 0, 1) := dk_3 (dk_at dksJ9_containsKey_0 12 rfl rfl)
theorem dJ9_containsKey_13 : decode cJ9_containsKey 13 = .ok (.ireturn, 1) := dk_172 (dk_at dksJ9_containsKey_0 13 rfl rfl)
abbrev cJ9_getNode : ByteArray := prog_39_method_13_code
def yJ9_getNode : MethodName := ⟨RJ9, "getNode", "(Ljava/lang/Object;)Ljava/util/HashMap$Node;"⟩
def dkwJ9_getNode_6 : List UInt8 := [89, 58, 4, 199, 255, 210, 1, 176]
abbrev dktJ9_getNode_6 : List UInt8 := dkwJ9_getNode_6 ++ []
def dkwJ9_getNode_5 : List UInt8 := [165, 0, 16, 43, 198, 0, 15, 43, 25, 7, 182, 0, 173, 153, 0, 6, 25, 4, 176, 25, 4, 180, 0, 177]
abbrev dktJ9_getNode_5 : List UInt8 := dkwJ9_getNode_5 ++ dktJ9_getNode_6
def dkwJ9_getNode_4 : List UInt8 := [43, 182, 0, 182, 176, 25, 4, 180, 0, 168, 21, 6, 160, 0, 31, 25, 4, 180, 0, 170, 89, 58, 7, 43]
abbrev dktJ9_getNode_4 : List UInt8 := dkwJ9_getNode_4 ++ dktJ9_getNode_5
def dkwJ9_getNode_3 : List UInt8 := [176, 45, 180, 0, 177, 89, 58, 4, 198, 0, 70, 45, 193, 0, 180, 153, 0, 14, 45, 192, 0, 180, 21, 6]
abbrev dktJ9_getNode_3 : List UInt8 := dkwJ9_getNode_3 ++ dktJ9_getNode_4
def dkwJ9_getNode_2 : List UInt8 := [180, 0, 170, 89, 58, 7, 43, 165, 0, 16, 43, 198, 0, 14, 43, 25, 7, 182, 0, 173, 153, 0, 5, 45]
abbrev dktJ9_getNode_2 : List UInt8 := dkwJ9_getNode_2 ++ dktJ9_getNode_3
def dkwJ9_getNode_1 : List UInt8 := [184, 0, 149, 89, 54, 6, 126, 50, 89, 78, 198, 0, 115, 45, 180, 0, 168, 21, 6, 160, 0, 29, 45]
abbrev dktJ9_getNode_1 : List UInt8 := dkwJ9_getNode_1 ++ dktJ9_getNode_2
def dkwJ9_getNode_0 : List UInt8 := [42, 180, 0, 105, 89, 77, 198, 0, 142, 44, 190, 89, 54, 5, 158, 0, 134, 44, 21, 5, 4, 100, 43]
abbrev dktJ9_getNode_0 : List UInt8 := dkwJ9_getNode_0 ++ dktJ9_getNode_1
theorem dksJ9_getNode_0 : cJ9_getNode.data.toList.drop 0 = dktJ9_getNode_0 := by decide +kernel
theorem dksJ9_getNode_1 : cJ9_getNode.data.toList.drop 23 = dktJ9_getNode_1 := dk_seg dksJ9_getNode_0 23 rfl rfl
theorem dksJ9_getNode_2 : cJ9_getNode.data.toList.drop 46 = dktJ9_getNode_2 := dk_seg dksJ9_getNode_1 23 rfl rfl
theorem dksJ9_getNode_3 : cJ9_getNode.data.toList.drop 70 = dktJ9_getNode_3 := dk_seg dksJ9_getNode_2 24 rfl rfl
theorem dksJ9_getNode_4 : cJ9_getNode.data.toList.drop 94 = dktJ9_getNode_4 := dk_seg dksJ9_getNode_3 24 rfl rfl
theorem dksJ9_getNode_5 : cJ9_getNode.data.toList.drop 118 = dktJ9_getNode_5 := dk_seg dksJ9_getNode_4 24 rfl rfl
theorem dksJ9_getNode_6 : cJ9_getNode.data.toList.drop 142 = dktJ9_getNode_6 := dk_seg dksJ9_getNode_5 24 rfl rfl
theorem dJ9_getNode_0 : decode cJ9_getNode 0 = .ok (.aload_n 0, 1) := dk_42 (dk_at dksJ9_getNode_0 0 rfl rfl)
theorem dJ9_getNode_1 : decode cJ9_getNode 1 = .ok (.getfield 105, 3) := dk_180 0 105 (dk_at dksJ9_getNode_0 1 rfl rfl)
theorem dJ9_getNode_4 : decode cJ9_getNode 4 = .ok (.dup, 1) := dk_89 (dk_at dksJ9_getNode_0 4 rfl rfl)
theorem dJ9_getNode_5 : decode cJ9_getNode 5 = .ok (.astore_n 2, 1) := dk_77 (dk_at dksJ9_getNode_0 5 rfl rfl)
theorem dJ9_getNode_6 : decode cJ9_getNode 6 = .ok (.ifnull 142, 3) := dk_198 0 142 (dk_at dksJ9_getNode_0 6 rfl rfl)
theorem dJ9_getNode_9 : decode cJ9_getNode 9 = .ok (.aload_n 2, 1) := dk_44 (dk_at dksJ9_getNode_0 9 rfl rfl)
theorem dJ9_getNode_10 : decode cJ9_getNode 10 = .ok (.arraylength, 1) := dk_190 (dk_at dksJ9_getNode_0 10 rfl rfl)
theorem dJ9_getNode_11 : decode cJ9_getNode 11 = .ok (.dup, 1) := dk_89 (dk_at dksJ9_getNode_0 11 rfl rfl)
theorem dJ9_getNode_12 : decode cJ9_getNode 12 = .ok (.istore 5, 2) := dk_54 5 (dk_at dksJ9_getNode_0 12 rfl rfl)
theorem dJ9_getNode_14 : decode cJ9_getNode 14 = .ok (.ifCond .le 134, 3) := dk_158 0 134 (dk_at dksJ9_getNode_0 14 rfl rfl)
theorem dJ9_getNode_17 : decode cJ9_getNode 17 = .ok (.aload_n 2, 1) := dk_44 (dk_at dksJ9_getNode_0 17 rfl rfl)
theorem dJ9_getNode_18 : decode cJ9_getNode 18 = .ok (.iload 5, 2) := dk_21 5 (dk_at dksJ9_getNode_0 18 rfl rfl)
theorem dJ9_getNode_20 : decode cJ9_getNode 20 = .ok (.iconst 1, 1) := dk_4 (dk_at dksJ9_getNode_0 20 rfl rfl)
theorem dJ9_getNode_21 : decode cJ9_getNode 21 = .ok (.isub, 1) := dk_100 (dk_at dksJ9_getNode_0 21 rfl rfl)
theorem dJ9_getNode_22 : decode cJ9_getNode 22 = .ok (.aload_n 1, 1) := dk_43 (dk_at dksJ9_getNode_0 22 rfl rfl)
theorem dJ9_getNode_23 : decode cJ9_getNode 23 = .ok (.invokestatic 149, 3) := dk_184 0 149 (dk_at dksJ9_getNode_1 0 rfl rfl)
theorem dJ9_getNode_26 : decode cJ9_getNode 26 = .ok (.dup, 1) := dk_89 (dk_at dksJ9_getNode_1 3 rfl rfl)
theorem dJ9_getNode_27 : decode cJ9_getNode 27 = .ok (.istore 6, 2) := dk_54 6 (dk_at dksJ9_getNode_1 4 rfl rfl)
theorem dJ9_getNode_29 : decode cJ9_getNode 29 = .ok (.iand, 1) := dk_126 (dk_at dksJ9_getNode_1 6 rfl rfl)
theorem dJ9_getNode_30 : decode cJ9_getNode 30 = .ok (.aaload, 1) := dk_50 (dk_at dksJ9_getNode_1 7 rfl rfl)
theorem dJ9_getNode_31 : decode cJ9_getNode 31 = .ok (.dup, 1) := dk_89 (dk_at dksJ9_getNode_1 8 rfl rfl)
theorem dJ9_getNode_32 : decode cJ9_getNode 32 = .ok (.astore_n 3, 1) := dk_78 (dk_at dksJ9_getNode_1 9 rfl rfl)
theorem dJ9_getNode_33 : decode cJ9_getNode 33 = .ok (.ifnull 115, 3) := dk_198 0 115 (dk_at dksJ9_getNode_1 10 rfl rfl)
theorem dJ9_getNode_36 : decode cJ9_getNode 36 = .ok (.aload_n 3, 1) := dk_45 (dk_at dksJ9_getNode_1 13 rfl rfl)
theorem dJ9_getNode_37 : decode cJ9_getNode 37 = .ok (.getfield 168, 3) := dk_180 0 168 (dk_at dksJ9_getNode_1 14 rfl rfl)
theorem dJ9_getNode_40 : decode cJ9_getNode 40 = .ok (.iload 6, 2) := dk_21 6 (dk_at dksJ9_getNode_1 17 rfl rfl)
theorem dJ9_getNode_42 : decode cJ9_getNode 42 = .ok (.if_icmp .ne 29, 3) := dk_160 0 29 (dk_at dksJ9_getNode_1 19 rfl rfl)
theorem dJ9_getNode_45 : decode cJ9_getNode 45 = .ok (.aload_n 3, 1) := dk_45 (dk_at dksJ9_getNode_1 22 rfl rfl)
theorem dJ9_getNode_46 : decode cJ9_getNode 46 = .ok (.getfield 170, 3) := dk_180 0 170 (dk_at dksJ9_getNode_2 0 rfl rfl)
theorem dJ9_getNode_49 : decode cJ9_getNode 49 = .ok (.dup, 1) := dk_89 (dk_at dksJ9_getNode_2 3 rfl rfl)
theorem dJ9_getNode_50 : decode cJ9_getNode 50 = .ok (.astore 7, 2) := dk_58 7 (dk_at dksJ9_getNode_2 4 rfl rfl)
theorem dJ9_getNode_52 : decode cJ9_getNode 52 = .ok (.aload_n 1, 1) := dk_43 (dk_at dksJ9_getNode_2 6 rfl rfl)
theorem dJ9_getNode_53 : decode cJ9_getNode 53 = .ok (.if_acmp .eq 16, 3) := dk_165 0 16 (dk_at dksJ9_getNode_2 7 rfl rfl)
theorem dJ9_getNode_56 : decode cJ9_getNode 56 = .ok (.aload_n 1, 1) := dk_43 (dk_at dksJ9_getNode_2 10 rfl rfl)
theorem dJ9_getNode_57 : decode cJ9_getNode 57 = .ok (.ifnull 14, 3) := dk_198 0 14 (dk_at dksJ9_getNode_2 11 rfl rfl)
theorem dJ9_getNode_60 : decode cJ9_getNode 60 = .ok (.aload_n 1, 1) := dk_43 (dk_at dksJ9_getNode_2 14 rfl rfl)
theorem dJ9_getNode_61 : decode cJ9_getNode 61 = .ok (.aload 7, 2) := dk_25 7 (dk_at dksJ9_getNode_2 15 rfl rfl)
theorem dJ9_getNode_63 : decode cJ9_getNode 63 = .ok (.invokevirtual 173, 3) := dk_182 0 173 (dk_at dksJ9_getNode_2 17 rfl rfl)
theorem dJ9_getNode_66 : decode cJ9_getNode 66 = .ok (.ifCond .eq 5, 3) := dk_153 0 5 (dk_at dksJ9_getNode_2 20 rfl rfl)
theorem dJ9_getNode_69 : decode cJ9_getNode 69 = .ok (.aload_n 3, 1) := dk_45 (dk_at dksJ9_getNode_2 23 rfl rfl)
theorem dJ9_getNode_70 : decode cJ9_getNode 70 = .ok (.areturn, 1) := dk_176 (dk_at dksJ9_getNode_3 0 rfl rfl)
theorem dJ9_getNode_71 : decode cJ9_getNode 71 = .ok (.aload_n 3, 1) := dk_45 (dk_at dksJ9_getNode_3 1 rfl rfl)
theorem dJ9_getNode_72 : decode cJ9_getNode 72 = .ok (.getfield 177, 3) := dk_180 0 177 (dk_at dksJ9_getNode_3 2 rfl rfl)
theorem dJ9_getNode_75 : decode cJ9_getNode 75 = .ok (.dup, 1) := dk_89 (dk_at dksJ9_getNode_3 5 rfl rfl)
theorem dJ9_getNode_76 : decode cJ9_getNode 76 = .ok (.astore 4, 2) := dk_58 4 (dk_at dksJ9_getNode_3 6 rfl rfl)
theorem dJ9_getNode_78 : decode cJ9_getNode 78 = .ok (.ifnull 70, 3) := dk_198 0 70 (dk_at dksJ9_getNode_3 8 rfl rfl)
theorem dJ9_getNode_81 : decode cJ9_getNode 81 = .ok (.aload_n 3, 1) := dk_45 (dk_at dksJ9_getNode_3 11 rfl rfl)
theorem dJ9_getNode_82 : decode cJ9_getNode 82 = .ok (.instanceof 180, 3) := dk_193 0 180 (dk_at dksJ9_getNode_3 12 rfl rfl)
theorem dJ9_getNode_85 : decode cJ9_getNode 85 = .ok (.ifCond .eq 14, 3) := dk_153 0 14 (dk_at dksJ9_getNode_3 15 rfl rfl)
theorem dJ9_getNode_88 : decode cJ9_getNode 88 = .ok (.aload_n 3, 1) := dk_45 (dk_at dksJ9_getNode_3 18 rfl rfl)
theorem dJ9_getNode_89 : decode cJ9_getNode 89 = .ok (.checkcast 180, 3) := dk_192 0 180 (dk_at dksJ9_getNode_3 19 rfl rfl)
theorem dJ9_getNode_92 : decode cJ9_getNode 92 = .ok (.iload 6, 2) := dk_21 6 (dk_at dksJ9_getNode_3 22 rfl rfl)
theorem dJ9_getNode_94 : decode cJ9_getNode 94 = .ok (.aload_n 1, 1) := dk_43 (dk_at dksJ9_getNode_4 0 rfl rfl)
theorem dJ9_getNode_95 : decode cJ9_getNode 95 = .ok (.invokevirtual 182, 3) := dk_182 0 182 (dk_at dksJ9_getNode_4 1 rfl rfl)
theorem dJ9_getNode_98 : decode cJ9_getNode 98 = .ok (.areturn, 1) := dk_176 (dk_at dksJ9_getNode_4 4 rfl rfl)
theorem dJ9_getNode_99 : decode cJ9_getNode 99 = .ok (.aload 4, 2) := dk_25 4 (dk_at dksJ9_getNode_4 5 rfl rfl)
theorem dJ9_getNode_101 : decode cJ9_getNode 101 = .ok (.getfield 168, 3) := dk_180 0 168 (dk_at dksJ9_getNode_4 7 rfl rfl)
theorem dJ9_getNode_104 : decode cJ9_getNode 104 = .ok (.iload 6, 2) := dk_21 6 (dk_at dksJ9_getNode_4 10 rfl rfl)
theorem dJ9_getNode_106 : decode cJ9_getNode 106 = .ok (.if_icmp .ne 31, 3) := dk_160 0 31 (dk_at dksJ9_getNode_4 12 rfl rfl)
theorem dJ9_getNode_109 : decode cJ9_getNode 109 = .ok (.aload 4, 2) := dk_25 4 (dk_at dksJ9_getNode_4 15 rfl rfl)
theorem dJ9_getNode_111 : decode cJ9_getNode 111 = .ok (.getfield 170, 3) := dk_180 0 170 (dk_at dksJ9_getNode_4 17 rfl rfl)
theorem dJ9_getNode_114 : decode cJ9_getNode 114 = .ok (.dup, 1) := dk_89 (dk_at dksJ9_getNode_4 20 rfl rfl)
theorem dJ9_getNode_115 : decode cJ9_getNode 115 = .ok (.astore 7, 2) := dk_58 7 (dk_at dksJ9_getNode_4 21 rfl rfl)
theorem dJ9_getNode_117 : decode cJ9_getNode 117 = .ok (.aload_n 1, 1) := dk_43 (dk_at dksJ9_getNode_4 23 rfl rfl)
theorem dJ9_getNode_118 : decode cJ9_getNode 118 = .ok (.if_acmp .eq 16, 3) := dk_165 0 16 (dk_at dksJ9_getNode_5 0 rfl rfl)
theorem dJ9_getNode_121 : decode cJ9_getNode 121 = .ok (.aload_n 1, 1) := dk_43 (dk_at dksJ9_getNode_5 3 rfl rfl)
theorem dJ9_getNode_122 : decode cJ9_getNode 122 = .ok (.ifnull 15, 3) := dk_198 0 15 (dk_at dksJ9_getNode_5 4 rfl rfl)
theorem dJ9_getNode_125 : decode cJ9_getNode 125 = .ok (.aload_n 1, 1) := dk_43 (dk_at dksJ9_getNode_5 7 rfl rfl)
theorem dJ9_getNode_126 : decode cJ9_getNode 126 = .ok (.aload 7, 2) := dk_25 7 (dk_at dksJ9_getNode_5 8 rfl rfl)
theorem dJ9_getNode_128 : decode cJ9_getNode 128 = .ok (.invokevirtual 173, 3) := dk_182 0 173 (dk_at dksJ9_getNode_5 10 rfl rfl)
theorem dJ9_getNode_131 : decode cJ9_getNode 131 = .ok (.ifCond .eq 6, 3) := dk_153 0 6 (dk_at dksJ9_getNode_5 13 rfl rfl)
theorem dJ9_getNode_134 : decode cJ9_getNode 134 = .ok (.aload 4, 2) := dk_25 4 (dk_at dksJ9_getNode_5 16 rfl rfl)
theorem dJ9_getNode_136 : decode cJ9_getNode 136 = .ok (.areturn, 1) := dk_176 (dk_at dksJ9_getNode_5 18 rfl rfl)
theorem dJ9_getNode_137 : decode cJ9_getNode 137 = .ok (.aload 4, 2) := dk_25 4 (dk_at dksJ9_getNode_5 19 rfl rfl)
theorem dJ9_getNode_139 : decode cJ9_getNode 139 = .ok (.getfield 177, 3) := dk_180 0 177 (dk_at dksJ9_getNode_5 21 rfl rfl)
theorem dJ9_getNode_142 : decode cJ9_getNode 142 = .ok (.dup, 1) := dk_89 (dk_at dksJ9_getNode_6 0 rfl rfl)
theorem dJ9_getNode_143 : decode cJ9_getNode 143 = .ok (.astore 4, 2) := dk_58 4 (dk_at dksJ9_getNode_6 1 rfl rfl)
theorem dJ9_getNode_145 : decode cJ9_getNode 145 = .ok (.ifnonnull (-46), 3) := dk_199 255 210 (dk_at dksJ9_getNode_6 3 rfl rfl)
theorem dJ9_getNode_148 : decode cJ9_getNode 148 = .ok (.aconst_null, 1) := dk_1 (dk_at dksJ9_getNode_6 6 rfl rfl)
theorem dJ9_getNode_149 : decode cJ9_getNode 149 = .ok (.areturn, 1) := dk_176 (dk_at dksJ9_getNode_6 7 rfl rfl)
abbrev cJ9_hash : ByteArray := prog_39_method_1_code
def yJ9_hash : MethodName := ⟨RJ9, "hash", "(Ljava/lang/Object;)I"⟩
def dkwJ9_hash_0 : List UInt8 := [42, 199, 0, 7, 3, 167, 0, 14, 42, 182, 0, 1, 89, 60, 27, 16, 16, 124, 130, 172]
abbrev dktJ9_hash_0 : List UInt8 := dkwJ9_hash_0 ++ []
theorem dksJ9_hash_0 : cJ9_hash.data.toList.drop 0 = dktJ9_hash_0 := by decide +kernel
theorem dJ9_hash_0 : decode cJ9_hash 0 = .ok (.aload_n 0, 1) := dk_42 (dk_at dksJ9_hash_0 0 rfl rfl)
theorem dJ9_hash_1 : decode cJ9_hash 1 = .ok (.ifnonnull 7, 3) := dk_199 0 7 (dk_at dksJ9_hash_0 1 rfl rfl)
theorem dJ9_hash_4 : decode cJ9_hash 4 = .ok (.iconst 0, 1) := dk_3 (dk_at dksJ9_hash_0 4 rfl rfl)
theorem dJ9_hash_5 : decode cJ9_hash 5 = .ok (.goto 14, 3) := dk_167 0 14 (dk_at dksJ9_hash_0 5 rfl rfl)
theorem dJ9_hash_8 : decode cJ9_hash 8 = .ok (.aload_n 0, 1) := dk_42 (dk_at dksJ9_hash_0 8 rfl rfl)
theorem dJ9_hash_9 : decode cJ9_hash 9 = .ok (.invokevirtual 1, 3) := dk_182 0 1 (dk_at dksJ9_hash_0 9 rfl rfl)
theorem dJ9_hash_12 : decode cJ9_hash 12 = .ok (.dup, 1) := dk_89 (dk_at dksJ9_hash_0 12 rfl rfl)
theorem dJ9_hash_13 : decode cJ9_hash 13 = .ok (.istore_n 1, 1) := dk_60 (dk_at dksJ9_hash_0 13 rfl rfl)
theorem dJ9_hash_14 : decode cJ9_hash 14 = .ok (.iload_n 1, 1) := dk_27 (dk_at dksJ9_hash_0 14 rfl rfl)
theorem dJ9_hash_15 : decode cJ9_hash 15 = .ok (.bipush 16, 2) := dk_16 16 (dk_at dksJ9_hash_0 15 rfl rfl)
theorem dJ9_hash_17 : decode cJ9_hash 17 = .ok (.iushr, 1) := dk_124 (dk_at dksJ9_hash_0 17 rfl rfl)
theorem dJ9_hash_18 : decode cJ9_hash 18 = .ok (.ixor, 1) := dk_130 (dk_at dksJ9_hash_0 18 rfl rfl)
theorem dJ9_hash_19 : decode cJ9_hash 19 = .ok (.ireturn, 1) := dk_172 (dk_at dksJ9_hash_0 19 rfl rfl)
abbrev cJ9_comparableClassFor : ByteArray := prog_39_method_2_code
def yJ9_comparableClassFor : MethodName := ⟨RJ9, "comparableClassFor", "(Ljava/lang/Object;)Ljava/lang/Class;"⟩
def dkwJ9_comparableClassFor_4 : List UInt8 := [4, 160, 0, 12, 45, 3, 50, 43, 166, 0, 5, 43, 176, 132, 7, 1, 167, 255, 186, 1, 176]
abbrev dktJ9_comparableClassFor_4 : List UInt8 := dkwJ9_comparableClassFor_4 ++ []
def dkwJ9_comparableClassFor_3 : List UInt8 := [185, 0, 23, 1, 0, 18, 7, 166, 0, 30, 25, 4, 185, 0, 27, 1, 0, 89, 78, 198, 0, 18, 45, 190]
abbrev dktJ9_comparableClassFor_3 : List UInt8 := dkwJ9_comparableClassFor_3 ++ dktJ9_comparableClassFor_4
def dkwJ9_comparableClassFor_2 : List UInt8 := [25, 5, 21, 7, 50, 58, 8, 25, 8, 193, 0, 21, 153, 0, 48, 25, 8, 192, 0, 21, 89, 58, 4]
abbrev dktJ9_comparableClassFor_2 : List UInt8 := dkwJ9_comparableClassFor_2 ++ dktJ9_comparableClassFor_3
def dkwJ9_comparableClassFor_1 : List UInt8 := [89, 77, 198, 0, 87, 44, 58, 5, 25, 5, 190, 54, 6, 3, 54, 7, 21, 7, 21, 6, 162, 0, 69]
abbrev dktJ9_comparableClassFor_1 : List UInt8 := dkwJ9_comparableClassFor_1 ++ dktJ9_comparableClassFor_2
def dkwJ9_comparableClassFor_0 : List UInt8 := [42, 193, 0, 7, 153, 0, 109, 42, 182, 0, 9, 89, 76, 18, 13, 166, 0, 5, 43, 176, 43, 182, 0, 15]
abbrev dktJ9_comparableClassFor_0 : List UInt8 := dkwJ9_comparableClassFor_0 ++ dktJ9_comparableClassFor_1
theorem dksJ9_comparableClassFor_0 : cJ9_comparableClassFor.data.toList.drop 0 = dktJ9_comparableClassFor_0 := by decide +kernel
theorem dksJ9_comparableClassFor_1 : cJ9_comparableClassFor.data.toList.drop 24 = dktJ9_comparableClassFor_1 := dk_seg dksJ9_comparableClassFor_0 24 rfl rfl
theorem dksJ9_comparableClassFor_2 : cJ9_comparableClassFor.data.toList.drop 47 = dktJ9_comparableClassFor_2 := dk_seg dksJ9_comparableClassFor_1 23 rfl rfl
theorem dksJ9_comparableClassFor_3 : cJ9_comparableClassFor.data.toList.drop 70 = dktJ9_comparableClassFor_3 := dk_seg dksJ9_comparableClassFor_2 23 rfl rfl
theorem dksJ9_comparableClassFor_4 : cJ9_comparableClassFor.data.toList.drop 94 = dktJ9_comparableClassFor_4 := dk_seg dksJ9_comparableClassFor_3 24 rfl rfl
theorem dJ9_comparableClassFor_0 : decode cJ9_comparableClassFor 0 = .ok (.aload_n 0, 1) := dk_42 (dk_at dksJ9_comparableClassFor_0 0 rfl rfl)
theorem dJ9_comparableClassFor_1 : decode cJ9_comparableClassFor 1 = .ok (.instanceof 7, 3) := dk_193 0 7 (dk_at dksJ9_comparableClassFor_0 1 rfl rfl)
theorem dJ9_comparableClassFor_4 : decode cJ9_comparableClassFor 4 = .ok (.ifCond .eq 109, 3) := dk_153 0 109 (dk_at dksJ9_comparableClassFor_0 4 rfl rfl)
theorem dJ9_comparableClassFor_7 : decode cJ9_comparableClassFor 7 = .ok (.aload_n 0, 1) := dk_42 (dk_at dksJ9_comparableClassFor_0 7 rfl rfl)
theorem dJ9_comparableClassFor_8 : decode cJ9_comparableClassFor 8 = .ok (.invokevirtual 9, 3) := dk_182 0 9 (dk_at dksJ9_comparableClassFor_0 8 rfl rfl)
theorem dJ9_comparableClassFor_11 : decode cJ9_comparableClassFor 11 = .ok (.dup, 1) := dk_89 (dk_at dksJ9_comparableClassFor_0 11 rfl rfl)
theorem dJ9_comparableClassFor_12 : decode cJ9_comparableClassFor 12 = .ok (.astore_n 1, 1) := dk_76 (dk_at dksJ9_comparableClassFor_0 12 rfl rfl)
theorem dJ9_comparableClassFor_13 : decode cJ9_comparableClassFor 13 = .ok (.ldc 13, 2) := dk_18 13 (dk_at dksJ9_comparableClassFor_0 13 rfl rfl)
theorem dJ9_comparableClassFor_15 : decode cJ9_comparableClassFor 15 = .ok (.if_acmp .ne 5, 3) := dk_166 0 5 (dk_at dksJ9_comparableClassFor_0 15 rfl rfl)
theorem dJ9_comparableClassFor_18 : decode cJ9_comparableClassFor 18 = .ok (.aload_n 1, 1) := dk_43 (dk_at dksJ9_comparableClassFor_0 18 rfl rfl)
theorem dJ9_comparableClassFor_19 : decode cJ9_comparableClassFor 19 = .ok (.areturn, 1) := dk_176 (dk_at dksJ9_comparableClassFor_0 19 rfl rfl)
theorem dJ9_comparableClassFor_20 : decode cJ9_comparableClassFor 20 = .ok (.aload_n 1, 1) := dk_43 (dk_at dksJ9_comparableClassFor_0 20 rfl rfl)
theorem dJ9_comparableClassFor_21 : decode cJ9_comparableClassFor 21 = .ok (.invokevirtual 15, 3) := dk_182 0 15 (dk_at dksJ9_comparableClassFor_0 21 rfl rfl)
theorem dJ9_comparableClassFor_24 : decode cJ9_comparableClassFor 24 = .ok (.dup, 1) := dk_89 (dk_at dksJ9_comparableClassFor_1 0 rfl rfl)
theorem dJ9_comparableClassFor_25 : decode cJ9_comparableClassFor 25 = .ok (.astore_n 2, 1) := dk_77 (dk_at dksJ9_comparableClassFor_1 1 rfl rfl)
theorem dJ9_comparableClassFor_26 : decode cJ9_comparableClassFor 26 = .ok (.ifnull 87, 3) := dk_198 0 87 (dk_at dksJ9_comparableClassFor_1 2 rfl rfl)
theorem dJ9_comparableClassFor_29 : decode cJ9_comparableClassFor 29 = .ok (.aload_n 2, 1) := dk_44 (dk_at dksJ9_comparableClassFor_1 5 rfl rfl)
theorem dJ9_comparableClassFor_30 : decode cJ9_comparableClassFor 30 = .ok (.astore 5, 2) := dk_58 5 (dk_at dksJ9_comparableClassFor_1 6 rfl rfl)
theorem dJ9_comparableClassFor_32 : decode cJ9_comparableClassFor 32 = .ok (.aload 5, 2) := dk_25 5 (dk_at dksJ9_comparableClassFor_1 8 rfl rfl)
theorem dJ9_comparableClassFor_34 : decode cJ9_comparableClassFor 34 = .ok (.arraylength, 1) := dk_190 (dk_at dksJ9_comparableClassFor_1 10 rfl rfl)
theorem dJ9_comparableClassFor_35 : decode cJ9_comparableClassFor 35 = .ok (.istore 6, 2) := dk_54 6 (dk_at dksJ9_comparableClassFor_1 11 rfl rfl)
theorem dJ9_comparableClassFor_37 : decode cJ9_comparableClassFor 37 = .ok (.iconst 0, 1) := dk_3 (dk_at dksJ9_comparableClassFor_1 13 rfl rfl)
theorem dJ9_comparableClassFor_38 : decode cJ9_comparableClassFor 38 = .ok (.istore 7, 2) := dk_54 7 (dk_at dksJ9_comparableClassFor_1 14 rfl rfl)
theorem dJ9_comparableClassFor_40 : decode cJ9_comparableClassFor 40 = .ok (.iload 7, 2) := dk_21 7 (dk_at dksJ9_comparableClassFor_1 16 rfl rfl)
theorem dJ9_comparableClassFor_42 : decode cJ9_comparableClassFor 42 = .ok (.iload 6, 2) := dk_21 6 (dk_at dksJ9_comparableClassFor_1 18 rfl rfl)
theorem dJ9_comparableClassFor_44 : decode cJ9_comparableClassFor 44 = .ok (.if_icmp .ge 69, 3) := dk_162 0 69 (dk_at dksJ9_comparableClassFor_1 20 rfl rfl)
theorem dJ9_comparableClassFor_47 : decode cJ9_comparableClassFor 47 = .ok (.aload 5, 2) := dk_25 5 (dk_at dksJ9_comparableClassFor_2 0 rfl rfl)
theorem dJ9_comparableClassFor_49 : decode cJ9_comparableClassFor 49 = .ok (.iload 7, 2) := dk_21 7 (dk_at dksJ9_comparableClassFor_2 2 rfl rfl)
theorem dJ9_comparableClassFor_51 : decode cJ9_comparableClassFor 51 = .ok (.aaload, 1) := dk_50 (dk_at dksJ9_comparableClassFor_2 4 rfl rfl)
theorem dJ9_comparableClassFor_52 : decode cJ9_comparableClassFor 52 = .ok (.astore 8, 2) := dk_58 8 (dk_at dksJ9_comparableClassFor_2 5 rfl rfl)
theorem dJ9_comparableClassFor_54 : decode cJ9_comparableClassFor 54 = .ok (.aload 8, 2) := dk_25 8 (dk_at dksJ9_comparableClassFor_2 7 rfl rfl)
theorem dJ9_comparableClassFor_56 : decode cJ9_comparableClassFor 56 = .ok (.instanceof 21, 3) := dk_193 0 21 (dk_at dksJ9_comparableClassFor_2 9 rfl rfl)
theorem dJ9_comparableClassFor_59 : decode cJ9_comparableClassFor 59 = .ok (.ifCond .eq 48, 3) := dk_153 0 48 (dk_at dksJ9_comparableClassFor_2 12 rfl rfl)
theorem dJ9_comparableClassFor_62 : decode cJ9_comparableClassFor 62 = .ok (.aload 8, 2) := dk_25 8 (dk_at dksJ9_comparableClassFor_2 15 rfl rfl)
theorem dJ9_comparableClassFor_64 : decode cJ9_comparableClassFor 64 = .ok (.checkcast 21, 3) := dk_192 0 21 (dk_at dksJ9_comparableClassFor_2 17 rfl rfl)
theorem dJ9_comparableClassFor_67 : decode cJ9_comparableClassFor 67 = .ok (.dup, 1) := dk_89 (dk_at dksJ9_comparableClassFor_2 20 rfl rfl)
theorem dJ9_comparableClassFor_68 : decode cJ9_comparableClassFor 68 = .ok (.astore 4, 2) := dk_58 4 (dk_at dksJ9_comparableClassFor_2 21 rfl rfl)
theorem dJ9_comparableClassFor_70 : decode cJ9_comparableClassFor 70 = .ok (.invokeinterface 23 1, 5) := by decide +kernel
theorem dJ9_comparableClassFor_75 : decode cJ9_comparableClassFor 75 = .ok (.ldc 7, 2) := dk_18 7 (dk_at dksJ9_comparableClassFor_3 5 rfl rfl)
theorem dJ9_comparableClassFor_77 : decode cJ9_comparableClassFor 77 = .ok (.if_acmp .ne 30, 3) := dk_166 0 30 (dk_at dksJ9_comparableClassFor_3 7 rfl rfl)
theorem dJ9_comparableClassFor_80 : decode cJ9_comparableClassFor 80 = .ok (.aload 4, 2) := dk_25 4 (dk_at dksJ9_comparableClassFor_3 10 rfl rfl)
theorem dJ9_comparableClassFor_82 : decode cJ9_comparableClassFor 82 = .ok (.invokeinterface 27 1, 5) := by decide +kernel
theorem dJ9_comparableClassFor_87 : decode cJ9_comparableClassFor 87 = .ok (.dup, 1) := dk_89 (dk_at dksJ9_comparableClassFor_3 17 rfl rfl)
theorem dJ9_comparableClassFor_88 : decode cJ9_comparableClassFor 88 = .ok (.astore_n 3, 1) := dk_78 (dk_at dksJ9_comparableClassFor_3 18 rfl rfl)
theorem dJ9_comparableClassFor_89 : decode cJ9_comparableClassFor 89 = .ok (.ifnull 18, 3) := dk_198 0 18 (dk_at dksJ9_comparableClassFor_3 19 rfl rfl)
theorem dJ9_comparableClassFor_92 : decode cJ9_comparableClassFor 92 = .ok (.aload_n 3, 1) := dk_45 (dk_at dksJ9_comparableClassFor_3 22 rfl rfl)
theorem dJ9_comparableClassFor_93 : decode cJ9_comparableClassFor 93 = .ok (.arraylength, 1) := dk_190 (dk_at dksJ9_comparableClassFor_3 23 rfl rfl)
theorem dJ9_comparableClassFor_94 : decode cJ9_comparableClassFor 94 = .ok (.iconst 1, 1) := dk_4 (dk_at dksJ9_comparableClassFor_4 0 rfl rfl)
theorem dJ9_comparableClassFor_95 : decode cJ9_comparableClassFor 95 = .ok (.if_icmp .ne 12, 3) := dk_160 0 12 (dk_at dksJ9_comparableClassFor_4 1 rfl rfl)
theorem dJ9_comparableClassFor_98 : decode cJ9_comparableClassFor 98 = .ok (.aload_n 3, 1) := dk_45 (dk_at dksJ9_comparableClassFor_4 4 rfl rfl)
theorem dJ9_comparableClassFor_99 : decode cJ9_comparableClassFor 99 = .ok (.iconst 0, 1) := dk_3 (dk_at dksJ9_comparableClassFor_4 5 rfl rfl)
theorem dJ9_comparableClassFor_100 : decode cJ9_comparableClassFor 100 = .ok (.aaload, 1) := dk_50 (dk_at dksJ9_comparableClassFor_4 6 rfl rfl)
theorem dJ9_comparableClassFor_101 : decode cJ9_comparableClassFor 101 = .ok (.aload_n 1, 1) := dk_43 (dk_at dksJ9_comparableClassFor_4 7 rfl rfl)
theorem dJ9_comparableClassFor_102 : decode cJ9_comparableClassFor 102 = .ok (.if_acmp .ne 5, 3) := dk_166 0 5 (dk_at dksJ9_comparableClassFor_4 8 rfl rfl)
theorem dJ9_comparableClassFor_105 : decode cJ9_comparableClassFor 105 = .ok (.aload_n 1, 1) := dk_43 (dk_at dksJ9_comparableClassFor_4 11 rfl rfl)
theorem dJ9_comparableClassFor_106 : decode cJ9_comparableClassFor 106 = .ok (.areturn, 1) := dk_176 (dk_at dksJ9_comparableClassFor_4 12 rfl rfl)
theorem dJ9_comparableClassFor_107 : decode cJ9_comparableClassFor 107 = .ok (.iinc 7 1, 3) := dk_132 7 1 (dk_at dksJ9_comparableClassFor_4 13 rfl rfl)
theorem dJ9_comparableClassFor_110 : decode cJ9_comparableClassFor 110 = .ok (.goto (-70), 3) := dk_167 255 186 (dk_at dksJ9_comparableClassFor_4 16 rfl rfl)
theorem dJ9_comparableClassFor_113 : decode cJ9_comparableClassFor 113 = .ok (.aconst_null, 1) := dk_1 (dk_at dksJ9_comparableClassFor_4 19 rfl rfl)
theorem dJ9_comparableClassFor_114 : decode cJ9_comparableClassFor 114 = .ok (.areturn, 1) := dk_176 (dk_at dksJ9_comparableClassFor_4 20 rfl rfl)
abbrev cJ9_compareComparables : ByteArray := prog_39_method_3_code
def yJ9_compareComparables : MethodName := ⟨RJ9, "compareComparables", "(Ljava/lang/Class;Ljava/lang/Object;Ljava/lang/Object;)I"⟩
def dkwJ9_compareComparables_1 : List UInt8 := [185, 0, 30, 2, 0, 172]
abbrev dktJ9_compareComparables_1 : List UInt8 := dkwJ9_compareComparables_1 ++ []
def dkwJ9_compareComparables_0 : List UInt8 := [44, 198, 0, 11, 44, 182, 0, 9, 42, 165, 0, 7, 3, 167, 0, 13, 43, 192, 0, 7, 44]
abbrev dktJ9_compareComparables_0 : List UInt8 := dkwJ9_compareComparables_0 ++ dktJ9_compareComparables_1
theorem dksJ9_compareComparables_0 : cJ9_compareComparables.data.toList.drop 0 = dktJ9_compareComparables_0 := by decide +kernel
theorem dksJ9_compareComparables_1 : cJ9_compareComparables.data.toList.drop 21 = dktJ9_compareComparables_1 := dk_seg dksJ9_compareComparables_0 21 rfl rfl
theorem dJ9_compareComparables_0 : decode cJ9_compareComparables 0 = .ok (.aload_n 2, 1) := dk_44 (dk_at dksJ9_compareComparables_0 0 rfl rfl)
theorem dJ9_compareComparables_1 : decode cJ9_compareComparables 1 = .ok (.ifnull 11, 3) := dk_198 0 11 (dk_at dksJ9_compareComparables_0 1 rfl rfl)
theorem dJ9_compareComparables_4 : decode cJ9_compareComparables 4 = .ok (.aload_n 2, 1) := dk_44 (dk_at dksJ9_compareComparables_0 4 rfl rfl)
theorem dJ9_compareComparables_5 : decode cJ9_compareComparables 5 = .ok (.invokevirtual 9, 3) := dk_182 0 9 (dk_at dksJ9_compareComparables_0 5 rfl rfl)
theorem dJ9_compareComparables_8 : decode cJ9_compareComparables 8 = .ok (.aload_n 0, 1) := dk_42 (dk_at dksJ9_compareComparables_0 8 rfl rfl)
theorem dJ9_compareComparables_9 : decode cJ9_compareComparables 9 = .ok (.if_acmp .eq 7, 3) := dk_165 0 7 (dk_at dksJ9_compareComparables_0 9 rfl rfl)
theorem dJ9_compareComparables_12 : decode cJ9_compareComparables 12 = .ok (.iconst 0, 1) := dk_3 (dk_at dksJ9_compareComparables_0 12 rfl rfl)
theorem dJ9_compareComparables_13 : decode cJ9_compareComparables 13 = .ok (.goto 13, 3) := dk_167 0 13 (dk_at dksJ9_compareComparables_0 13 rfl rfl)
theorem dJ9_compareComparables_16 : decode cJ9_compareComparables 16 = .ok (.aload_n 1, 1) := dk_43 (dk_at dksJ9_compareComparables_0 16 rfl rfl)
theorem dJ9_compareComparables_17 : decode cJ9_compareComparables 17 = .ok (.checkcast 7, 3) := dk_192 0 7 (dk_at dksJ9_compareComparables_0 17 rfl rfl)
theorem dJ9_compareComparables_20 : decode cJ9_compareComparables 20 = .ok (.aload_n 2, 1) := dk_44 (dk_at dksJ9_compareComparables_0 20 rfl rfl)
theorem dJ9_compareComparables_21 : decode cJ9_compareComparables 21 = .ok (.invokeinterface 30 2, 5) := by decide +kernel
theorem dJ9_compareComparables_26 : decode cJ9_compareComparables 26 = .ok (.ireturn, 1) := dk_172 (dk_at dksJ9_compareComparables_1 5 rfl rfl)
abbrev cJ9_size : ByteArray := prog_39_method_10_code
def yJ9_size : MethodName := ⟨RJ9, "size", "()I"⟩
theorem dJ9_size_0 : decode cJ9_size 0 = .ok (.aload_n 0, 1) := by decide +kernel
theorem dJ9_size_1 : decode cJ9_size 1 = .ok (.getfield 156, 3) := by decide +kernel
theorem dJ9_size_4 : decode cJ9_size 4 = .ok (.ireturn, 1) := by decide +kernel
abbrev cJ9_put : ByteArray := prog_39_method_15_code
def yJ9_put : MethodName := ⟨RJ9, "put", "(Ljava/lang/Object;Ljava/lang/Object;)Ljava/lang/Object;"⟩
def dkwJ9_put_0 : List UInt8 := [42, 43, 184, 0, 149, 43, 44, 3, 4, 182, 0, 152, 176]
abbrev dktJ9_put_0 : List UInt8 := dkwJ9_put_0 ++ []
theorem dksJ9_put_0 : cJ9_put.data.toList.drop 0 = dktJ9_put_0 := by decide +kernel
theorem dJ9_put_0 : decode cJ9_put 0 = .ok (.aload_n 0, 1) := dk_42 (dk_at dksJ9_put_0 0 rfl rfl)
theorem dJ9_put_1 : decode cJ9_put 1 = .ok (.aload_n 1, 1) := dk_43 (dk_at dksJ9_put_0 1 rfl rfl)
theorem dJ9_put_2 : decode cJ9_put 2 = .ok (.invokestatic 149, 3) := dk_184 0 149 (dk_at dksJ9_put_0 2 rfl rfl)
theorem dJ9_put_5 : decode cJ9_put 5 = .ok (.aload_n 1, 1) := dk_43 (dk_at dksJ9_put_0 5 rfl rfl)
theorem dJ9_put_6 : decode cJ9_put 6 = .ok (.aload_n 2, 1) := dk_44 (dk_at dksJ9_put_0 6 rfl rfl)
theorem dJ9_put_7 : decode cJ9_put 7 = .ok (.iconst 0, 1) := dk_3 (dk_at dksJ9_put_0 7 rfl rfl)
theorem dJ9_put_8 : decode cJ9_put 8 = .ok (.iconst 1, 1) := dk_4 (dk_at dksJ9_put_0 8 rfl rfl)
theorem dJ9_put_9 : decode cJ9_put 9 = .ok (.invokevirtual 152, 3) := dk_182 0 152 (dk_at dksJ9_put_0 9 rfl rfl)
theorem dJ9_put_12 : decode cJ9_put 12 = .ok (.areturn, 1) := dk_176 (dk_at dksJ9_put_0 12 rfl rfl)
abbrev cJ9_putVal : ByteArray := prog_39_method_16_code
def yJ9_putVal : MethodName := ⟨RJ9, "putVal", "(ILjava/lang/Object;Ljava/lang/Object;ZZ)Ljava/lang/Object;"⟩
def dkwJ9_putVal_12 : List UInt8 := [181, 0, 156, 42, 180, 0, 88, 164, 0, 8, 42, 182, 0, 117, 87, 42, 21, 5, 182, 0, 205, 1, 176]
abbrev dktJ9_putVal_12 : List UInt8 := dkwJ9_putVal_12 ++ []
def dkwJ9_putVal_11 : List UInt8 := [182, 0, 198, 25, 12, 176, 42, 89, 180, 0, 202, 4, 96, 181, 0, 202, 42, 89, 180, 0, 156, 4, 96, 90]
abbrev dktJ9_putVal_11 : List UInt8 := dkwJ9_putVal_11 ++ dktJ9_putVal_12
def dkwJ9_putVal_10 : List UInt8 := [180, 0, 162, 58, 12, 21, 4, 153, 0, 8, 25, 12, 199, 0, 9, 25, 10, 45, 181, 0, 162, 42, 25, 10]
abbrev dktJ9_putVal_10 : List UInt8 := dkwJ9_putVal_10 ++ dktJ9_putVal_11
def dkwJ9_putVal_9 : List UInt8 := [153, 0, 6, 167, 0, 13, 25, 10, 58, 7, 132, 12, 1, 167, 255, 171, 25, 10, 198, 0, 35, 25, 10]
abbrev dktJ9_putVal_9 : List UInt8 := dkwJ9_putVal_9 ++ dktJ9_putVal_10
def dkwJ9_putVal_8 : List UInt8 := [25, 10, 180, 0, 170, 89, 58, 11, 44, 165, 0, 29, 44, 198, 0, 15, 44, 25, 11, 182, 0, 173]
abbrev dktJ9_putVal_8 : List UInt8 := dkwJ9_putVal_8 ++ dktJ9_putVal_9
def dkwJ9_putVal_7 : List UInt8 := [16, 7, 161, 0, 60, 42, 25, 6, 27, 182, 0, 194, 167, 0, 50, 25, 10, 180, 0, 168, 27, 160, 0, 31]
abbrev dktJ9_putVal_7 : List UInt8 := dkwJ9_putVal_7 ++ dktJ9_putVal_8
def dkwJ9_putVal_6 : List UInt8 := [180, 0, 177, 89, 58, 10, 199, 0, 33, 25, 7, 42, 27, 44, 45, 1, 182, 0, 186, 181, 0, 177, 21, 12]
abbrev dktJ9_putVal_6 : List UInt8 := dkwJ9_putVal_6 ++ dktJ9_putVal_7
def dkwJ9_putVal_5 : List UInt8 := [192, 0, 180, 42, 25, 6, 27, 44, 45, 182, 0, 190, 58, 10, 167, 0, 94, 3, 54, 12, 25, 7]
abbrev dktJ9_putVal_5 : List UInt8 := dkwJ9_putVal_5 ++ dktJ9_putVal_6
def dkwJ9_putVal_4 : List UInt8 := [182, 0, 173, 153, 0, 10, 25, 7, 58, 10, 167, 0, 121, 25, 7, 193, 0, 180, 153, 0, 22, 25, 7]
abbrev dktJ9_putVal_4 : List UInt8 := dkwJ9_putVal_4 ++ dktJ9_putVal_5
def dkwJ9_putVal_3 : List UInt8 := [160, 0, 35, 25, 7, 180, 0, 170, 89, 58, 11, 44, 165, 0, 16, 44, 198, 0, 19, 44, 25, 11]
abbrev dktJ9_putVal_3 : List UInt8 := dkwJ9_putVal_3 ++ dktJ9_putVal_4
def dkwJ9_putVal_2 : List UInt8 := [25, 6, 21, 9, 42, 27, 44, 45, 1, 182, 0, 186, 83, 167, 0, 199, 25, 7, 180, 0, 168, 27]
abbrev dktJ9_putVal_2 : List UInt8 := dkwJ9_putVal_2 ++ dktJ9_putVal_3
def dkwJ9_putVal_1 : List UInt8 := [58, 6, 190, 54, 8, 25, 6, 21, 8, 4, 100, 27, 126, 89, 54, 9, 50, 89, 58, 7, 199, 0, 19]
abbrev dktJ9_putVal_1 : List UInt8 := dkwJ9_putVal_1 ++ dktJ9_putVal_2
def dkwJ9_putVal_0 : List UInt8 := [42, 180, 0, 105, 89, 58, 6, 198, 0, 12, 25, 6, 190, 89, 54, 8, 154, 0, 13, 42, 182, 0, 117, 89]
abbrev dktJ9_putVal_0 : List UInt8 := dkwJ9_putVal_0 ++ dktJ9_putVal_1
theorem dksJ9_putVal_0 : cJ9_putVal.data.toList.drop 0 = dktJ9_putVal_0 := by decide +kernel
theorem dksJ9_putVal_1 : cJ9_putVal.data.toList.drop 24 = dktJ9_putVal_1 := dk_seg dksJ9_putVal_0 24 rfl rfl
theorem dksJ9_putVal_2 : cJ9_putVal.data.toList.drop 47 = dktJ9_putVal_2 := dk_seg dksJ9_putVal_1 23 rfl rfl
theorem dksJ9_putVal_3 : cJ9_putVal.data.toList.drop 69 = dktJ9_putVal_3 := dk_seg dksJ9_putVal_2 22 rfl rfl
theorem dksJ9_putVal_4 : cJ9_putVal.data.toList.drop 91 = dktJ9_putVal_4 := dk_seg dksJ9_putVal_3 22 rfl rfl
theorem dksJ9_putVal_5 : cJ9_putVal.data.toList.drop 114 = dktJ9_putVal_5 := dk_seg dksJ9_putVal_4 23 rfl rfl
theorem dksJ9_putVal_6 : cJ9_putVal.data.toList.drop 136 = dktJ9_putVal_6 := dk_seg dksJ9_putVal_5 22 rfl rfl
theorem dksJ9_putVal_7 : cJ9_putVal.data.toList.drop 160 = dktJ9_putVal_7 := dk_seg dksJ9_putVal_6 24 rfl rfl
theorem dksJ9_putVal_8 : cJ9_putVal.data.toList.drop 184 = dktJ9_putVal_8 := dk_seg dksJ9_putVal_7 24 rfl rfl
theorem dksJ9_putVal_9 : cJ9_putVal.data.toList.drop 206 = dktJ9_putVal_9 := dk_seg dksJ9_putVal_8 22 rfl rfl
theorem dksJ9_putVal_10 : cJ9_putVal.data.toList.drop 229 = dktJ9_putVal_10 := dk_seg dksJ9_putVal_9 23 rfl rfl
theorem dksJ9_putVal_11 : cJ9_putVal.data.toList.drop 253 = dktJ9_putVal_11 := dk_seg dksJ9_putVal_10 24 rfl rfl
theorem dksJ9_putVal_12 : cJ9_putVal.data.toList.drop 277 = dktJ9_putVal_12 := dk_seg dksJ9_putVal_11 24 rfl rfl
theorem dJ9_putVal_0 : decode cJ9_putVal 0 = .ok (.aload_n 0, 1) := dk_42 (dk_at dksJ9_putVal_0 0 rfl rfl)
theorem dJ9_putVal_1 : decode cJ9_putVal 1 = .ok (.getfield 105, 3) := dk_180 0 105 (dk_at dksJ9_putVal_0 1 rfl rfl)
theorem dJ9_putVal_4 : decode cJ9_putVal 4 = .ok (.dup, 1) := dk_89 (dk_at dksJ9_putVal_0 4 rfl rfl)
theorem dJ9_putVal_5 : decode cJ9_putVal 5 = .ok (.astore 6, 2) := dk_58 6 (dk_at dksJ9_putVal_0 5 rfl rfl)
theorem dJ9_putVal_7 : decode cJ9_putVal 7 = .ok (.ifnull 12, 3) := dk_198 0 12 (dk_at dksJ9_putVal_0 7 rfl rfl)
theorem dJ9_putVal_10 : decode cJ9_putVal 10 = .ok (.aload 6, 2) := dk_25 6 (dk_at dksJ9_putVal_0 10 rfl rfl)
theorem dJ9_putVal_12 : decode cJ9_putVal 12 = .ok (.arraylength, 1) := dk_190 (dk_at dksJ9_putVal_0 12 rfl rfl)
theorem dJ9_putVal_13 : decode cJ9_putVal 13 = .ok (.dup, 1) := dk_89 (dk_at dksJ9_putVal_0 13 rfl rfl)
theorem dJ9_putVal_14 : decode cJ9_putVal 14 = .ok (.istore 8, 2) := dk_54 8 (dk_at dksJ9_putVal_0 14 rfl rfl)
theorem dJ9_putVal_16 : decode cJ9_putVal 16 = .ok (.ifCond .ne 13, 3) := dk_154 0 13 (dk_at dksJ9_putVal_0 16 rfl rfl)
theorem dJ9_putVal_19 : decode cJ9_putVal 19 = .ok (.aload_n 0, 1) := dk_42 (dk_at dksJ9_putVal_0 19 rfl rfl)
theorem dJ9_putVal_20 : decode cJ9_putVal 20 = .ok (.invokevirtual 117, 3) := dk_182 0 117 (dk_at dksJ9_putVal_0 20 rfl rfl)
theorem dJ9_putVal_23 : decode cJ9_putVal 23 = .ok (.dup, 1) := dk_89 (dk_at dksJ9_putVal_0 23 rfl rfl)
theorem dJ9_putVal_24 : decode cJ9_putVal 24 = .ok (.astore 6, 2) := dk_58 6 (dk_at dksJ9_putVal_1 0 rfl rfl)
theorem dJ9_putVal_26 : decode cJ9_putVal 26 = .ok (.arraylength, 1) := dk_190 (dk_at dksJ9_putVal_1 2 rfl rfl)
theorem dJ9_putVal_27 : decode cJ9_putVal 27 = .ok (.istore 8, 2) := dk_54 8 (dk_at dksJ9_putVal_1 3 rfl rfl)
theorem dJ9_putVal_29 : decode cJ9_putVal 29 = .ok (.aload 6, 2) := dk_25 6 (dk_at dksJ9_putVal_1 5 rfl rfl)
theorem dJ9_putVal_31 : decode cJ9_putVal 31 = .ok (.iload 8, 2) := dk_21 8 (dk_at dksJ9_putVal_1 7 rfl rfl)
theorem dJ9_putVal_33 : decode cJ9_putVal 33 = .ok (.iconst 1, 1) := dk_4 (dk_at dksJ9_putVal_1 9 rfl rfl)
theorem dJ9_putVal_34 : decode cJ9_putVal 34 = .ok (.isub, 1) := dk_100 (dk_at dksJ9_putVal_1 10 rfl rfl)
theorem dJ9_putVal_35 : decode cJ9_putVal 35 = .ok (.iload_n 1, 1) := dk_27 (dk_at dksJ9_putVal_1 11 rfl rfl)
theorem dJ9_putVal_36 : decode cJ9_putVal 36 = .ok (.iand, 1) := dk_126 (dk_at dksJ9_putVal_1 12 rfl rfl)
theorem dJ9_putVal_37 : decode cJ9_putVal 37 = .ok (.dup, 1) := dk_89 (dk_at dksJ9_putVal_1 13 rfl rfl)
theorem dJ9_putVal_38 : decode cJ9_putVal 38 = .ok (.istore 9, 2) := dk_54 9 (dk_at dksJ9_putVal_1 14 rfl rfl)
theorem dJ9_putVal_40 : decode cJ9_putVal 40 = .ok (.aaload, 1) := dk_50 (dk_at dksJ9_putVal_1 16 rfl rfl)
theorem dJ9_putVal_41 : decode cJ9_putVal 41 = .ok (.dup, 1) := dk_89 (dk_at dksJ9_putVal_1 17 rfl rfl)
theorem dJ9_putVal_42 : decode cJ9_putVal 42 = .ok (.astore 7, 2) := dk_58 7 (dk_at dksJ9_putVal_1 18 rfl rfl)
theorem dJ9_putVal_44 : decode cJ9_putVal 44 = .ok (.ifnonnull 19, 3) := dk_199 0 19 (dk_at dksJ9_putVal_1 20 rfl rfl)
theorem dJ9_putVal_47 : decode cJ9_putVal 47 = .ok (.aload 6, 2) := dk_25 6 (dk_at dksJ9_putVal_2 0 rfl rfl)
theorem dJ9_putVal_49 : decode cJ9_putVal 49 = .ok (.iload 9, 2) := dk_21 9 (dk_at dksJ9_putVal_2 2 rfl rfl)
theorem dJ9_putVal_51 : decode cJ9_putVal 51 = .ok (.aload_n 0, 1) := dk_42 (dk_at dksJ9_putVal_2 4 rfl rfl)
theorem dJ9_putVal_52 : decode cJ9_putVal 52 = .ok (.iload_n 1, 1) := dk_27 (dk_at dksJ9_putVal_2 5 rfl rfl)
theorem dJ9_putVal_53 : decode cJ9_putVal 53 = .ok (.aload_n 2, 1) := dk_44 (dk_at dksJ9_putVal_2 6 rfl rfl)
theorem dJ9_putVal_54 : decode cJ9_putVal 54 = .ok (.aload_n 3, 1) := dk_45 (dk_at dksJ9_putVal_2 7 rfl rfl)
theorem dJ9_putVal_55 : decode cJ9_putVal 55 = .ok (.aconst_null, 1) := dk_1 (dk_at dksJ9_putVal_2 8 rfl rfl)
theorem dJ9_putVal_56 : decode cJ9_putVal 56 = .ok (.invokevirtual 186, 3) := dk_182 0 186 (dk_at dksJ9_putVal_2 9 rfl rfl)
theorem dJ9_putVal_59 : decode cJ9_putVal 59 = .ok (.aastore, 1) := dk_83 (dk_at dksJ9_putVal_2 12 rfl rfl)
theorem dJ9_putVal_60 : decode cJ9_putVal 60 = .ok (.goto 199, 3) := dk_167 0 199 (dk_at dksJ9_putVal_2 13 rfl rfl)
theorem dJ9_putVal_63 : decode cJ9_putVal 63 = .ok (.aload 7, 2) := dk_25 7 (dk_at dksJ9_putVal_2 16 rfl rfl)
theorem dJ9_putVal_65 : decode cJ9_putVal 65 = .ok (.getfield 168, 3) := dk_180 0 168 (dk_at dksJ9_putVal_2 18 rfl rfl)
theorem dJ9_putVal_68 : decode cJ9_putVal 68 = .ok (.iload_n 1, 1) := dk_27 (dk_at dksJ9_putVal_2 21 rfl rfl)
theorem dJ9_putVal_69 : decode cJ9_putVal 69 = .ok (.if_icmp .ne 35, 3) := dk_160 0 35 (dk_at dksJ9_putVal_3 0 rfl rfl)
theorem dJ9_putVal_72 : decode cJ9_putVal 72 = .ok (.aload 7, 2) := dk_25 7 (dk_at dksJ9_putVal_3 3 rfl rfl)
theorem dJ9_putVal_74 : decode cJ9_putVal 74 = .ok (.getfield 170, 3) := dk_180 0 170 (dk_at dksJ9_putVal_3 5 rfl rfl)
theorem dJ9_putVal_77 : decode cJ9_putVal 77 = .ok (.dup, 1) := dk_89 (dk_at dksJ9_putVal_3 8 rfl rfl)
theorem dJ9_putVal_78 : decode cJ9_putVal 78 = .ok (.astore 11, 2) := dk_58 11 (dk_at dksJ9_putVal_3 9 rfl rfl)
theorem dJ9_putVal_80 : decode cJ9_putVal 80 = .ok (.aload_n 2, 1) := dk_44 (dk_at dksJ9_putVal_3 11 rfl rfl)
theorem dJ9_putVal_81 : decode cJ9_putVal 81 = .ok (.if_acmp .eq 16, 3) := dk_165 0 16 (dk_at dksJ9_putVal_3 12 rfl rfl)
theorem dJ9_putVal_84 : decode cJ9_putVal 84 = .ok (.aload_n 2, 1) := dk_44 (dk_at dksJ9_putVal_3 15 rfl rfl)
theorem dJ9_putVal_85 : decode cJ9_putVal 85 = .ok (.ifnull 19, 3) := dk_198 0 19 (dk_at dksJ9_putVal_3 16 rfl rfl)
theorem dJ9_putVal_88 : decode cJ9_putVal 88 = .ok (.aload_n 2, 1) := dk_44 (dk_at dksJ9_putVal_3 19 rfl rfl)
theorem dJ9_putVal_89 : decode cJ9_putVal 89 = .ok (.aload 11, 2) := dk_25 11 (dk_at dksJ9_putVal_3 20 rfl rfl)
theorem dJ9_putVal_91 : decode cJ9_putVal 91 = .ok (.invokevirtual 173, 3) := dk_182 0 173 (dk_at dksJ9_putVal_4 0 rfl rfl)
theorem dJ9_putVal_94 : decode cJ9_putVal 94 = .ok (.ifCond .eq 10, 3) := dk_153 0 10 (dk_at dksJ9_putVal_4 3 rfl rfl)
theorem dJ9_putVal_97 : decode cJ9_putVal 97 = .ok (.aload 7, 2) := dk_25 7 (dk_at dksJ9_putVal_4 6 rfl rfl)
theorem dJ9_putVal_99 : decode cJ9_putVal 99 = .ok (.astore 10, 2) := dk_58 10 (dk_at dksJ9_putVal_4 8 rfl rfl)
theorem dJ9_putVal_101 : decode cJ9_putVal 101 = .ok (.goto 121, 3) := dk_167 0 121 (dk_at dksJ9_putVal_4 10 rfl rfl)
theorem dJ9_putVal_104 : decode cJ9_putVal 104 = .ok (.aload 7, 2) := dk_25 7 (dk_at dksJ9_putVal_4 13 rfl rfl)
theorem dJ9_putVal_106 : decode cJ9_putVal 106 = .ok (.instanceof 180, 3) := dk_193 0 180 (dk_at dksJ9_putVal_4 15 rfl rfl)
theorem dJ9_putVal_109 : decode cJ9_putVal 109 = .ok (.ifCond .eq 22, 3) := dk_153 0 22 (dk_at dksJ9_putVal_4 18 rfl rfl)
theorem dJ9_putVal_112 : decode cJ9_putVal 112 = .ok (.aload 7, 2) := dk_25 7 (dk_at dksJ9_putVal_4 21 rfl rfl)
theorem dJ9_putVal_114 : decode cJ9_putVal 114 = .ok (.checkcast 180, 3) := dk_192 0 180 (dk_at dksJ9_putVal_5 0 rfl rfl)
theorem dJ9_putVal_117 : decode cJ9_putVal 117 = .ok (.aload_n 0, 1) := dk_42 (dk_at dksJ9_putVal_5 3 rfl rfl)
theorem dJ9_putVal_118 : decode cJ9_putVal 118 = .ok (.aload 6, 2) := dk_25 6 (dk_at dksJ9_putVal_5 4 rfl rfl)
theorem dJ9_putVal_120 : decode cJ9_putVal 120 = .ok (.iload_n 1, 1) := dk_27 (dk_at dksJ9_putVal_5 6 rfl rfl)
theorem dJ9_putVal_121 : decode cJ9_putVal 121 = .ok (.aload_n 2, 1) := dk_44 (dk_at dksJ9_putVal_5 7 rfl rfl)
theorem dJ9_putVal_122 : decode cJ9_putVal 122 = .ok (.aload_n 3, 1) := dk_45 (dk_at dksJ9_putVal_5 8 rfl rfl)
theorem dJ9_putVal_123 : decode cJ9_putVal 123 = .ok (.invokevirtual 190, 3) := dk_182 0 190 (dk_at dksJ9_putVal_5 9 rfl rfl)
theorem dJ9_putVal_126 : decode cJ9_putVal 126 = .ok (.astore 10, 2) := dk_58 10 (dk_at dksJ9_putVal_5 12 rfl rfl)
theorem dJ9_putVal_128 : decode cJ9_putVal 128 = .ok (.goto 94, 3) := dk_167 0 94 (dk_at dksJ9_putVal_5 14 rfl rfl)
theorem dJ9_putVal_131 : decode cJ9_putVal 131 = .ok (.iconst 0, 1) := dk_3 (dk_at dksJ9_putVal_5 17 rfl rfl)
theorem dJ9_putVal_132 : decode cJ9_putVal 132 = .ok (.istore 12, 2) := dk_54 12 (dk_at dksJ9_putVal_5 18 rfl rfl)
theorem dJ9_putVal_134 : decode cJ9_putVal 134 = .ok (.aload 7, 2) := dk_25 7 (dk_at dksJ9_putVal_5 20 rfl rfl)
theorem dJ9_putVal_136 : decode cJ9_putVal 136 = .ok (.getfield 177, 3) := dk_180 0 177 (dk_at dksJ9_putVal_6 0 rfl rfl)
theorem dJ9_putVal_139 : decode cJ9_putVal 139 = .ok (.dup, 1) := dk_89 (dk_at dksJ9_putVal_6 3 rfl rfl)
theorem dJ9_putVal_140 : decode cJ9_putVal 140 = .ok (.astore 10, 2) := dk_58 10 (dk_at dksJ9_putVal_6 4 rfl rfl)
theorem dJ9_putVal_142 : decode cJ9_putVal 142 = .ok (.ifnonnull 33, 3) := dk_199 0 33 (dk_at dksJ9_putVal_6 6 rfl rfl)
theorem dJ9_putVal_145 : decode cJ9_putVal 145 = .ok (.aload 7, 2) := dk_25 7 (dk_at dksJ9_putVal_6 9 rfl rfl)
theorem dJ9_putVal_147 : decode cJ9_putVal 147 = .ok (.aload_n 0, 1) := dk_42 (dk_at dksJ9_putVal_6 11 rfl rfl)
theorem dJ9_putVal_148 : decode cJ9_putVal 148 = .ok (.iload_n 1, 1) := dk_27 (dk_at dksJ9_putVal_6 12 rfl rfl)
theorem dJ9_putVal_149 : decode cJ9_putVal 149 = .ok (.aload_n 2, 1) := dk_44 (dk_at dksJ9_putVal_6 13 rfl rfl)
theorem dJ9_putVal_150 : decode cJ9_putVal 150 = .ok (.aload_n 3, 1) := dk_45 (dk_at dksJ9_putVal_6 14 rfl rfl)
theorem dJ9_putVal_151 : decode cJ9_putVal 151 = .ok (.aconst_null, 1) := dk_1 (dk_at dksJ9_putVal_6 15 rfl rfl)
theorem dJ9_putVal_152 : decode cJ9_putVal 152 = .ok (.invokevirtual 186, 3) := dk_182 0 186 (dk_at dksJ9_putVal_6 16 rfl rfl)
theorem dJ9_putVal_155 : decode cJ9_putVal 155 = .ok (.putfield 177, 3) := dk_181 0 177 (dk_at dksJ9_putVal_6 19 rfl rfl)
theorem dJ9_putVal_158 : decode cJ9_putVal 158 = .ok (.iload 12, 2) := dk_21 12 (dk_at dksJ9_putVal_6 22 rfl rfl)
theorem dJ9_putVal_160 : decode cJ9_putVal 160 = .ok (.bipush 7, 2) := dk_16 7 (dk_at dksJ9_putVal_7 0 rfl rfl)
theorem dJ9_putVal_162 : decode cJ9_putVal 162 = .ok (.if_icmp .lt 60, 3) := dk_161 0 60 (dk_at dksJ9_putVal_7 2 rfl rfl)
theorem dJ9_putVal_165 : decode cJ9_putVal 165 = .ok (.aload_n 0, 1) := dk_42 (dk_at dksJ9_putVal_7 5 rfl rfl)
theorem dJ9_putVal_166 : decode cJ9_putVal 166 = .ok (.aload 6, 2) := dk_25 6 (dk_at dksJ9_putVal_7 6 rfl rfl)
theorem dJ9_putVal_168 : decode cJ9_putVal 168 = .ok (.iload_n 1, 1) := dk_27 (dk_at dksJ9_putVal_7 8 rfl rfl)
theorem dJ9_putVal_169 : decode cJ9_putVal 169 = .ok (.invokevirtual 194, 3) := dk_182 0 194 (dk_at dksJ9_putVal_7 9 rfl rfl)
theorem dJ9_putVal_172 : decode cJ9_putVal 172 = .ok (.goto 50, 3) := dk_167 0 50 (dk_at dksJ9_putVal_7 12 rfl rfl)
theorem dJ9_putVal_175 : decode cJ9_putVal 175 = .ok (.aload 10, 2) := dk_25 10 (dk_at dksJ9_putVal_7 15 rfl rfl)
theorem dJ9_putVal_177 : decode cJ9_putVal 177 = .ok (.getfield 168, 3) := dk_180 0 168 (dk_at dksJ9_putVal_7 17 rfl rfl)
theorem dJ9_putVal_180 : decode cJ9_putVal 180 = .ok (.iload_n 1, 1) := dk_27 (dk_at dksJ9_putVal_7 20 rfl rfl)
theorem dJ9_putVal_181 : decode cJ9_putVal 181 = .ok (.if_icmp .ne 31, 3) := dk_160 0 31 (dk_at dksJ9_putVal_7 21 rfl rfl)
theorem dJ9_putVal_184 : decode cJ9_putVal 184 = .ok (.aload 10, 2) := dk_25 10 (dk_at dksJ9_putVal_8 0 rfl rfl)
theorem dJ9_putVal_186 : decode cJ9_putVal 186 = .ok (.getfield 170, 3) := dk_180 0 170 (dk_at dksJ9_putVal_8 2 rfl rfl)
theorem dJ9_putVal_189 : decode cJ9_putVal 189 = .ok (.dup, 1) := dk_89 (dk_at dksJ9_putVal_8 5 rfl rfl)
theorem dJ9_putVal_190 : decode cJ9_putVal 190 = .ok (.astore 11, 2) := dk_58 11 (dk_at dksJ9_putVal_8 6 rfl rfl)
theorem dJ9_putVal_192 : decode cJ9_putVal 192 = .ok (.aload_n 2, 1) := dk_44 (dk_at dksJ9_putVal_8 8 rfl rfl)
theorem dJ9_putVal_193 : decode cJ9_putVal 193 = .ok (.if_acmp .eq 29, 3) := dk_165 0 29 (dk_at dksJ9_putVal_8 9 rfl rfl)
theorem dJ9_putVal_196 : decode cJ9_putVal 196 = .ok (.aload_n 2, 1) := dk_44 (dk_at dksJ9_putVal_8 12 rfl rfl)
theorem dJ9_putVal_197 : decode cJ9_putVal 197 = .ok (.ifnull 15, 3) := dk_198 0 15 (dk_at dksJ9_putVal_8 13 rfl rfl)
theorem dJ9_putVal_200 : decode cJ9_putVal 200 = .ok (.aload_n 2, 1) := dk_44 (dk_at dksJ9_putVal_8 16 rfl rfl)
theorem dJ9_putVal_201 : decode cJ9_putVal 201 = .ok (.aload 11, 2) := dk_25 11 (dk_at dksJ9_putVal_8 17 rfl rfl)
theorem dJ9_putVal_203 : decode cJ9_putVal 203 = .ok (.invokevirtual 173, 3) := dk_182 0 173 (dk_at dksJ9_putVal_8 19 rfl rfl)
theorem dJ9_putVal_206 : decode cJ9_putVal 206 = .ok (.ifCond .eq 6, 3) := dk_153 0 6 (dk_at dksJ9_putVal_9 0 rfl rfl)
theorem dJ9_putVal_209 : decode cJ9_putVal 209 = .ok (.goto 13, 3) := dk_167 0 13 (dk_at dksJ9_putVal_9 3 rfl rfl)
theorem dJ9_putVal_212 : decode cJ9_putVal 212 = .ok (.aload 10, 2) := dk_25 10 (dk_at dksJ9_putVal_9 6 rfl rfl)
theorem dJ9_putVal_214 : decode cJ9_putVal 214 = .ok (.astore 7, 2) := dk_58 7 (dk_at dksJ9_putVal_9 8 rfl rfl)
theorem dJ9_putVal_216 : decode cJ9_putVal 216 = .ok (.iinc 12 1, 3) := dk_132 12 1 (dk_at dksJ9_putVal_9 10 rfl rfl)
theorem dJ9_putVal_219 : decode cJ9_putVal 219 = .ok (.goto (-85), 3) := dk_167 255 171 (dk_at dksJ9_putVal_9 13 rfl rfl)
theorem dJ9_putVal_222 : decode cJ9_putVal 222 = .ok (.aload 10, 2) := dk_25 10 (dk_at dksJ9_putVal_9 16 rfl rfl)
theorem dJ9_putVal_224 : decode cJ9_putVal 224 = .ok (.ifnull 35, 3) := dk_198 0 35 (dk_at dksJ9_putVal_9 18 rfl rfl)
theorem dJ9_putVal_227 : decode cJ9_putVal 227 = .ok (.aload 10, 2) := dk_25 10 (dk_at dksJ9_putVal_9 21 rfl rfl)
theorem dJ9_putVal_229 : decode cJ9_putVal 229 = .ok (.getfield 162, 3) := dk_180 0 162 (dk_at dksJ9_putVal_10 0 rfl rfl)
theorem dJ9_putVal_232 : decode cJ9_putVal 232 = .ok (.astore 12, 2) := dk_58 12 (dk_at dksJ9_putVal_10 3 rfl rfl)
theorem dJ9_putVal_234 : decode cJ9_putVal 234 = .ok (.iload 4, 2) := dk_21 4 (dk_at dksJ9_putVal_10 5 rfl rfl)
theorem dJ9_putVal_236 : decode cJ9_putVal 236 = .ok (.ifCond .eq 8, 3) := dk_153 0 8 (dk_at dksJ9_putVal_10 7 rfl rfl)
theorem dJ9_putVal_239 : decode cJ9_putVal 239 = .ok (.aload 12, 2) := dk_25 12 (dk_at dksJ9_putVal_10 10 rfl rfl)
theorem dJ9_putVal_241 : decode cJ9_putVal 241 = .ok (.ifnonnull 9, 3) := dk_199 0 9 (dk_at dksJ9_putVal_10 12 rfl rfl)
theorem dJ9_putVal_244 : decode cJ9_putVal 244 = .ok (.aload 10, 2) := dk_25 10 (dk_at dksJ9_putVal_10 15 rfl rfl)
theorem dJ9_putVal_246 : decode cJ9_putVal 246 = .ok (.aload_n 3, 1) := dk_45 (dk_at dksJ9_putVal_10 17 rfl rfl)
theorem dJ9_putVal_247 : decode cJ9_putVal 247 = .ok (.putfield 162, 3) := dk_181 0 162 (dk_at dksJ9_putVal_10 18 rfl rfl)
theorem dJ9_putVal_250 : decode cJ9_putVal 250 = .ok (.aload_n 0, 1) := dk_42 (dk_at dksJ9_putVal_10 21 rfl rfl)
theorem dJ9_putVal_251 : decode cJ9_putVal 251 = .ok (.aload 10, 2) := dk_25 10 (dk_at dksJ9_putVal_10 22 rfl rfl)
theorem dJ9_putVal_253 : decode cJ9_putVal 253 = .ok (.invokevirtual 198, 3) := dk_182 0 198 (dk_at dksJ9_putVal_11 0 rfl rfl)
theorem dJ9_putVal_256 : decode cJ9_putVal 256 = .ok (.aload 12, 2) := dk_25 12 (dk_at dksJ9_putVal_11 3 rfl rfl)
theorem dJ9_putVal_258 : decode cJ9_putVal 258 = .ok (.areturn, 1) := dk_176 (dk_at dksJ9_putVal_11 5 rfl rfl)
theorem dJ9_putVal_259 : decode cJ9_putVal 259 = .ok (.aload_n 0, 1) := dk_42 (dk_at dksJ9_putVal_11 6 rfl rfl)
theorem dJ9_putVal_260 : decode cJ9_putVal 260 = .ok (.dup, 1) := dk_89 (dk_at dksJ9_putVal_11 7 rfl rfl)
theorem dJ9_putVal_261 : decode cJ9_putVal 261 = .ok (.getfield 202, 3) := dk_180 0 202 (dk_at dksJ9_putVal_11 8 rfl rfl)
theorem dJ9_putVal_264 : decode cJ9_putVal 264 = .ok (.iconst 1, 1) := dk_4 (dk_at dksJ9_putVal_11 11 rfl rfl)
theorem dJ9_putVal_265 : decode cJ9_putVal 265 = .ok (.iadd, 1) := dk_96 (dk_at dksJ9_putVal_11 12 rfl rfl)
theorem dJ9_putVal_266 : decode cJ9_putVal 266 = .ok (.putfield 202, 3) := dk_181 0 202 (dk_at dksJ9_putVal_11 13 rfl rfl)
theorem dJ9_putVal_269 : decode cJ9_putVal 269 = .ok (.aload_n 0, 1) := dk_42 (dk_at dksJ9_putVal_11 16 rfl rfl)
theorem dJ9_putVal_270 : decode cJ9_putVal 270 = .ok (.dup, 1) := dk_89 (dk_at dksJ9_putVal_11 17 rfl rfl)
theorem dJ9_putVal_271 : decode cJ9_putVal 271 = .ok (.getfield 156, 3) := dk_180 0 156 (dk_at dksJ9_putVal_11 18 rfl rfl)
theorem dJ9_putVal_274 : decode cJ9_putVal 274 = .ok (.iconst 1, 1) := dk_4 (dk_at dksJ9_putVal_11 21 rfl rfl)
theorem dJ9_putVal_275 : decode cJ9_putVal 275 = .ok (.iadd, 1) := dk_96 (dk_at dksJ9_putVal_11 22 rfl rfl)
theorem dJ9_putVal_276 : decode cJ9_putVal 276 = .ok (.dup_x1, 1) := dk_90 (dk_at dksJ9_putVal_11 23 rfl rfl)
theorem dJ9_putVal_277 : decode cJ9_putVal 277 = .ok (.putfield 156, 3) := dk_181 0 156 (dk_at dksJ9_putVal_12 0 rfl rfl)
theorem dJ9_putVal_280 : decode cJ9_putVal 280 = .ok (.aload_n 0, 1) := dk_42 (dk_at dksJ9_putVal_12 3 rfl rfl)
theorem dJ9_putVal_281 : decode cJ9_putVal 281 = .ok (.getfield 88, 3) := dk_180 0 88 (dk_at dksJ9_putVal_12 4 rfl rfl)
theorem dJ9_putVal_284 : decode cJ9_putVal 284 = .ok (.if_icmp .le 8, 3) := dk_164 0 8 (dk_at dksJ9_putVal_12 7 rfl rfl)
theorem dJ9_putVal_287 : decode cJ9_putVal 287 = .ok (.aload_n 0, 1) := dk_42 (dk_at dksJ9_putVal_12 10 rfl rfl)
theorem dJ9_putVal_288 : decode cJ9_putVal 288 = .ok (.invokevirtual 117, 3) := dk_182 0 117 (dk_at dksJ9_putVal_12 11 rfl rfl)
theorem dJ9_putVal_291 : decode cJ9_putVal 291 = .ok (.pop, 1) := dk_87 (dk_at dksJ9_putVal_12 14 rfl rfl)
theorem dJ9_putVal_292 : decode cJ9_putVal 292 = .ok (.aload_n 0, 1) := dk_42 (dk_at dksJ9_putVal_12 15 rfl rfl)
theorem dJ9_putVal_293 : decode cJ9_putVal 293 = .ok (.iload 5, 2) := dk_21 5 (dk_at dksJ9_putVal_12 16 rfl rfl)
theorem dJ9_putVal_295 : decode cJ9_putVal 295 = .ok (.invokevirtual 205, 3) := dk_182 0 205 (dk_at dksJ9_putVal_12 18 rfl rfl)
theorem dJ9_putVal_298 : decode cJ9_putVal 298 = .ok (.aconst_null, 1) := dk_1 (dk_at dksJ9_putVal_12 21 rfl rfl)
theorem dJ9_putVal_299 : decode cJ9_putVal 299 = .ok (.areturn, 1) := dk_176 (dk_at dksJ9_putVal_12 22 rfl rfl)
abbrev cJ9_resize : ByteArray := prog_39_method_17_code
def yJ9_resize : MethodName := ⟨RJ9, "resize", "()[Ljava/util/HashMap$Node;"⟩
def dkwJ9_resize_15 : List UInt8 := [25, 6, 176]
abbrev dktJ9_resize_15 : List UInt8 := dkwJ9_resize_15 ++ []
def dkwJ9_resize_14 : List UInt8 := [198, 0, 18, 25, 12, 1, 181, 0, 177, 25, 6, 21, 7, 28, 96, 25, 11, 83, 132, 7, 1, 167, 255, 57]
abbrev dktJ9_resize_14 : List UInt8 := dkwJ9_resize_14 ++ dktJ9_resize_15
def dkwJ9_resize_13 : List UInt8 := [199, 255, 185, 25, 10, 198, 0, 16, 25, 10, 1, 181, 0, 177, 25, 6, 21, 7, 25, 9, 83, 25, 12]
abbrev dktJ9_resize_13 : List UInt8 := dkwJ9_resize_13 ++ dktJ9_resize_14
def dkwJ9_resize_12 : List UInt8 := [25, 8, 58, 11, 167, 0, 10, 25, 12, 25, 8, 181, 0, 177, 25, 8, 58, 12, 25, 13, 89, 58, 8]
abbrev dktJ9_resize_12 : List UInt8 := dkwJ9_resize_12 ++ dktJ9_resize_13
def dkwJ9_resize_11 : List UInt8 := [58, 9, 167, 0, 10, 25, 10, 25, 8, 181, 0, 177, 25, 8, 58, 10, 167, 0, 26, 25, 12, 199, 0, 10]
abbrev dktJ9_resize_11 : List UInt8 := dkwJ9_resize_11 ++ dktJ9_resize_12
def dkwJ9_resize_10 : List UInt8 := [25, 8, 180, 0, 177, 58, 13, 25, 8, 180, 0, 168, 28, 126, 154, 0, 29, 25, 10, 199, 0, 10, 25, 8]
abbrev dktJ9_resize_10 : List UInt8 := dkwJ9_resize_10 ++ dktJ9_resize_11
def dkwJ9_resize_9 : List UInt8 := [42, 25, 6, 21, 7, 28, 182, 0, 211, 167, 0, 127, 1, 58, 9, 1, 58, 10, 1, 58, 11, 1, 58, 12]
abbrev dktJ9_resize_9 : List UInt8 := dkwJ9_resize_9 ++ dktJ9_resize_10
def dkwJ9_resize_8 : List UInt8 := [21, 4, 4, 100, 126, 25, 8, 83, 167, 0, 152, 25, 8, 193, 0, 180, 153, 0, 20, 25, 8, 192, 0, 180]
abbrev dktJ9_resize_8 : List UInt8 := dkwJ9_resize_8 ++ dktJ9_resize_9
def dkwJ9_resize_7 : List UInt8 := [198, 0, 183, 43, 21, 7, 1, 83, 25, 8, 180, 0, 177, 199, 0, 21, 25, 6, 25, 8, 180, 0, 168]
abbrev dktJ9_resize_7 : List UInt8 := dkwJ9_resize_7 ++ dktJ9_resize_8
def dkwJ9_resize_6 : List UInt8 := [181, 0, 105, 43, 198, 0, 208, 3, 54, 7, 21, 7, 28, 162, 0, 199, 43, 21, 7, 50, 89, 58, 8]
abbrev dktJ9_resize_6 : List UInt8 := dkwJ9_resize_6 ++ dktJ9_resize_7
def dkwJ9_resize_5 : List UInt8 := [167, 0, 5, 18, 209, 54, 5, 42, 21, 5, 181, 0, 88, 21, 4, 189, 0, 163, 58, 6, 42, 25, 6]
abbrev dktJ9_resize_5 : List UInt8 := dkwJ9_resize_5 ++ dktJ9_resize_6
def dkwJ9_resize_4 : List UInt8 := [180, 0, 81, 106, 56, 6, 21, 4, 18, 42, 162, 0, 17, 23, 6, 18, 210, 150, 156, 0, 9, 23, 6, 139]
abbrev dktJ9_resize_4 : List UInt8 := dkwJ9_resize_4 ++ dktJ9_resize_5
def dkwJ9_resize_3 : List UInt8 := [54, 4, 167, 0, 11, 16, 16, 54, 4, 16, 12, 54, 5, 21, 5, 154, 0, 38, 21, 4, 134, 42]
abbrev dktJ9_resize_3 : List UInt8 := dkwJ9_resize_3 ++ dktJ9_resize_4
def dkwJ9_resize_2 : List UInt8 := [18, 42, 162, 0, 35, 28, 16, 16, 161, 0, 29, 29, 4, 120, 54, 5, 167, 0, 21, 29, 158, 0, 9, 29]
abbrev dktJ9_resize_2 : List UInt8 := dkwJ9_resize_2 ++ dktJ9_resize_3
def dkwJ9_resize_1 : List UInt8 := [28, 158, 0, 42, 28, 18, 42, 161, 0, 11, 42, 18, 209, 181, 0, 88, 43, 176, 28, 4, 120, 89, 54, 4]
abbrev dktJ9_resize_1 : List UInt8 := dkwJ9_resize_1 ++ dktJ9_resize_2
def dkwJ9_resize_0 : List UInt8 := [42, 180, 0, 105, 76, 43, 199, 0, 7, 3, 167, 0, 5, 43, 190, 61, 42, 180, 0, 88, 62, 3, 54, 5]
abbrev dktJ9_resize_0 : List UInt8 := dkwJ9_resize_0 ++ dktJ9_resize_1
theorem dksJ9_resize_0 : cJ9_resize.data.toList.drop 0 = dktJ9_resize_0 := by decide +kernel
theorem dksJ9_resize_1 : cJ9_resize.data.toList.drop 24 = dktJ9_resize_1 := dk_seg dksJ9_resize_0 24 rfl rfl
theorem dksJ9_resize_2 : cJ9_resize.data.toList.drop 48 = dktJ9_resize_2 := dk_seg dksJ9_resize_1 24 rfl rfl
theorem dksJ9_resize_3 : cJ9_resize.data.toList.drop 72 = dktJ9_resize_3 := dk_seg dksJ9_resize_2 24 rfl rfl
theorem dksJ9_resize_4 : cJ9_resize.data.toList.drop 94 = dktJ9_resize_4 := dk_seg dksJ9_resize_3 22 rfl rfl
theorem dksJ9_resize_5 : cJ9_resize.data.toList.drop 118 = dktJ9_resize_5 := dk_seg dksJ9_resize_4 24 rfl rfl
theorem dksJ9_resize_6 : cJ9_resize.data.toList.drop 141 = dktJ9_resize_6 := dk_seg dksJ9_resize_5 23 rfl rfl
theorem dksJ9_resize_7 : cJ9_resize.data.toList.drop 164 = dktJ9_resize_7 := dk_seg dksJ9_resize_6 23 rfl rfl
theorem dksJ9_resize_8 : cJ9_resize.data.toList.drop 187 = dktJ9_resize_8 := dk_seg dksJ9_resize_7 23 rfl rfl
theorem dksJ9_resize_9 : cJ9_resize.data.toList.drop 211 = dktJ9_resize_9 := dk_seg dksJ9_resize_8 24 rfl rfl
theorem dksJ9_resize_10 : cJ9_resize.data.toList.drop 235 = dktJ9_resize_10 := dk_seg dksJ9_resize_9 24 rfl rfl
theorem dksJ9_resize_11 : cJ9_resize.data.toList.drop 259 = dktJ9_resize_11 := dk_seg dksJ9_resize_10 24 rfl rfl
theorem dksJ9_resize_12 : cJ9_resize.data.toList.drop 283 = dktJ9_resize_12 := dk_seg dksJ9_resize_11 24 rfl rfl
theorem dksJ9_resize_13 : cJ9_resize.data.toList.drop 306 = dktJ9_resize_13 := dk_seg dksJ9_resize_12 23 rfl rfl
theorem dksJ9_resize_14 : cJ9_resize.data.toList.drop 329 = dktJ9_resize_14 := dk_seg dksJ9_resize_13 23 rfl rfl
theorem dksJ9_resize_15 : cJ9_resize.data.toList.drop 353 = dktJ9_resize_15 := dk_seg dksJ9_resize_14 24 rfl rfl
theorem dJ9_resize_0 : decode cJ9_resize 0 = .ok (.aload_n 0, 1) := dk_42 (dk_at dksJ9_resize_0 0 rfl rfl)
theorem dJ9_resize_1 : decode cJ9_resize 1 = .ok (.getfield 105, 3) := dk_180 0 105 (dk_at dksJ9_resize_0 1 rfl rfl)
theorem dJ9_resize_4 : decode cJ9_resize 4 = .ok (.astore_n 1, 1) := dk_76 (dk_at dksJ9_resize_0 4 rfl rfl)
theorem dJ9_resize_5 : decode cJ9_resize 5 = .ok (.aload_n 1, 1) := dk_43 (dk_at dksJ9_resize_0 5 rfl rfl)
theorem dJ9_resize_6 : decode cJ9_resize 6 = .ok (.ifnonnull 7, 3) := dk_199 0 7 (dk_at dksJ9_resize_0 6 rfl rfl)
theorem dJ9_resize_9 : decode cJ9_resize 9 = .ok (.iconst 0, 1) := dk_3 (dk_at dksJ9_resize_0 9 rfl rfl)
theorem dJ9_resize_10 : decode cJ9_resize 10 = .ok (.goto 5, 3) := dk_167 0 5 (dk_at dksJ9_resize_0 10 rfl rfl)
theorem dJ9_resize_13 : decode cJ9_resize 13 = .ok (.aload_n 1, 1) := dk_43 (dk_at dksJ9_resize_0 13 rfl rfl)
theorem dJ9_resize_14 : decode cJ9_resize 14 = .ok (.arraylength, 1) := dk_190 (dk_at dksJ9_resize_0 14 rfl rfl)
theorem dJ9_resize_15 : decode cJ9_resize 15 = .ok (.istore_n 2, 1) := dk_61 (dk_at dksJ9_resize_0 15 rfl rfl)
theorem dJ9_resize_16 : decode cJ9_resize 16 = .ok (.aload_n 0, 1) := dk_42 (dk_at dksJ9_resize_0 16 rfl rfl)
theorem dJ9_resize_17 : decode cJ9_resize 17 = .ok (.getfield 88, 3) := dk_180 0 88 (dk_at dksJ9_resize_0 17 rfl rfl)
theorem dJ9_resize_20 : decode cJ9_resize 20 = .ok (.istore_n 3, 1) := dk_62 (dk_at dksJ9_resize_0 20 rfl rfl)
theorem dJ9_resize_21 : decode cJ9_resize 21 = .ok (.iconst 0, 1) := dk_3 (dk_at dksJ9_resize_0 21 rfl rfl)
theorem dJ9_resize_22 : decode cJ9_resize 22 = .ok (.istore 5, 2) := dk_54 5 (dk_at dksJ9_resize_0 22 rfl rfl)
theorem dJ9_resize_24 : decode cJ9_resize 24 = .ok (.iload_n 2, 1) := dk_28 (dk_at dksJ9_resize_1 0 rfl rfl)
theorem dJ9_resize_25 : decode cJ9_resize 25 = .ok (.ifCond .le 42, 3) := dk_158 0 42 (dk_at dksJ9_resize_1 1 rfl rfl)
theorem dJ9_resize_28 : decode cJ9_resize 28 = .ok (.iload_n 2, 1) := dk_28 (dk_at dksJ9_resize_1 4 rfl rfl)
theorem dJ9_resize_29 : decode cJ9_resize 29 = .ok (.ldc 42, 2) := dk_18 42 (dk_at dksJ9_resize_1 5 rfl rfl)
theorem dJ9_resize_31 : decode cJ9_resize 31 = .ok (.if_icmp .lt 11, 3) := dk_161 0 11 (dk_at dksJ9_resize_1 7 rfl rfl)
theorem dJ9_resize_34 : decode cJ9_resize 34 = .ok (.aload_n 0, 1) := dk_42 (dk_at dksJ9_resize_1 10 rfl rfl)
theorem dJ9_resize_35 : decode cJ9_resize 35 = .ok (.ldc 209, 2) := dk_18 209 (dk_at dksJ9_resize_1 11 rfl rfl)
theorem dJ9_resize_37 : decode cJ9_resize 37 = .ok (.putfield 88, 3) := dk_181 0 88 (dk_at dksJ9_resize_1 13 rfl rfl)
theorem dJ9_resize_40 : decode cJ9_resize 40 = .ok (.aload_n 1, 1) := dk_43 (dk_at dksJ9_resize_1 16 rfl rfl)
theorem dJ9_resize_41 : decode cJ9_resize 41 = .ok (.areturn, 1) := dk_176 (dk_at dksJ9_resize_1 17 rfl rfl)
theorem dJ9_resize_42 : decode cJ9_resize 42 = .ok (.iload_n 2, 1) := dk_28 (dk_at dksJ9_resize_1 18 rfl rfl)
theorem dJ9_resize_43 : decode cJ9_resize 43 = .ok (.iconst 1, 1) := dk_4 (dk_at dksJ9_resize_1 19 rfl rfl)
theorem dJ9_resize_44 : decode cJ9_resize 44 = .ok (.ishl, 1) := dk_120 (dk_at dksJ9_resize_1 20 rfl rfl)
theorem dJ9_resize_45 : decode cJ9_resize 45 = .ok (.dup, 1) := dk_89 (dk_at dksJ9_resize_1 21 rfl rfl)
theorem dJ9_resize_46 : decode cJ9_resize 46 = .ok (.istore 4, 2) := dk_54 4 (dk_at dksJ9_resize_1 22 rfl rfl)
theorem dJ9_resize_48 : decode cJ9_resize 48 = .ok (.ldc 42, 2) := dk_18 42 (dk_at dksJ9_resize_2 0 rfl rfl)
theorem dJ9_resize_50 : decode cJ9_resize 50 = .ok (.if_icmp .ge 35, 3) := dk_162 0 35 (dk_at dksJ9_resize_2 2 rfl rfl)
theorem dJ9_resize_53 : decode cJ9_resize 53 = .ok (.iload_n 2, 1) := dk_28 (dk_at dksJ9_resize_2 5 rfl rfl)
theorem dJ9_resize_54 : decode cJ9_resize 54 = .ok (.bipush 16, 2) := dk_16 16 (dk_at dksJ9_resize_2 6 rfl rfl)
theorem dJ9_resize_56 : decode cJ9_resize 56 = .ok (.if_icmp .lt 29, 3) := dk_161 0 29 (dk_at dksJ9_resize_2 8 rfl rfl)
theorem dJ9_resize_59 : decode cJ9_resize 59 = .ok (.iload_n 3, 1) := dk_29 (dk_at dksJ9_resize_2 11 rfl rfl)
theorem dJ9_resize_60 : decode cJ9_resize 60 = .ok (.iconst 1, 1) := dk_4 (dk_at dksJ9_resize_2 12 rfl rfl)
theorem dJ9_resize_61 : decode cJ9_resize 61 = .ok (.ishl, 1) := dk_120 (dk_at dksJ9_resize_2 13 rfl rfl)
theorem dJ9_resize_62 : decode cJ9_resize 62 = .ok (.istore 5, 2) := dk_54 5 (dk_at dksJ9_resize_2 14 rfl rfl)
theorem dJ9_resize_64 : decode cJ9_resize 64 = .ok (.goto 21, 3) := dk_167 0 21 (dk_at dksJ9_resize_2 16 rfl rfl)
theorem dJ9_resize_67 : decode cJ9_resize 67 = .ok (.iload_n 3, 1) := dk_29 (dk_at dksJ9_resize_2 19 rfl rfl)
theorem dJ9_resize_68 : decode cJ9_resize 68 = .ok (.ifCond .le 9, 3) := dk_158 0 9 (dk_at dksJ9_resize_2 20 rfl rfl)
theorem dJ9_resize_71 : decode cJ9_resize 71 = .ok (.iload_n 3, 1) := dk_29 (dk_at dksJ9_resize_2 23 rfl rfl)
theorem dJ9_resize_72 : decode cJ9_resize 72 = .ok (.istore 4, 2) := dk_54 4 (dk_at dksJ9_resize_3 0 rfl rfl)
theorem dJ9_resize_74 : decode cJ9_resize 74 = .ok (.goto 11, 3) := dk_167 0 11 (dk_at dksJ9_resize_3 2 rfl rfl)
theorem dJ9_resize_77 : decode cJ9_resize 77 = .ok (.bipush 16, 2) := dk_16 16 (dk_at dksJ9_resize_3 5 rfl rfl)
theorem dJ9_resize_79 : decode cJ9_resize 79 = .ok (.istore 4, 2) := dk_54 4 (dk_at dksJ9_resize_3 7 rfl rfl)
theorem dJ9_resize_81 : decode cJ9_resize 81 = .ok (.bipush 12, 2) := dk_16 12 (dk_at dksJ9_resize_3 9 rfl rfl)
theorem dJ9_resize_83 : decode cJ9_resize 83 = .ok (.istore 5, 2) := dk_54 5 (dk_at dksJ9_resize_3 11 rfl rfl)
theorem dJ9_resize_85 : decode cJ9_resize 85 = .ok (.iload 5, 2) := dk_21 5 (dk_at dksJ9_resize_3 13 rfl rfl)
theorem dJ9_resize_87 : decode cJ9_resize 87 = .ok (.ifCond .ne 38, 3) := dk_154 0 38 (dk_at dksJ9_resize_3 15 rfl rfl)
theorem dJ9_resize_90 : decode cJ9_resize 90 = .ok (.iload 4, 2) := dk_21 4 (dk_at dksJ9_resize_3 18 rfl rfl)
theorem dJ9_resize_92 : decode cJ9_resize 92 = .ok (.i2f, 1) := dk_134 (dk_at dksJ9_resize_3 20 rfl rfl)
theorem dJ9_resize_93 : decode cJ9_resize 93 = .ok (.aload_n 0, 1) := dk_42 (dk_at dksJ9_resize_3 21 rfl rfl)
theorem dJ9_resize_94 : decode cJ9_resize 94 = .ok (.getfield 81, 3) := dk_180 0 81 (dk_at dksJ9_resize_4 0 rfl rfl)
theorem dJ9_resize_97 : decode cJ9_resize 97 = .ok (.fmul, 1) := dk_106 (dk_at dksJ9_resize_4 3 rfl rfl)
theorem dJ9_resize_98 : decode cJ9_resize 98 = .ok (.fstore 6, 2) := dk_56 6 (dk_at dksJ9_resize_4 4 rfl rfl)
theorem dJ9_resize_100 : decode cJ9_resize 100 = .ok (.iload 4, 2) := dk_21 4 (dk_at dksJ9_resize_4 6 rfl rfl)
theorem dJ9_resize_102 : decode cJ9_resize 102 = .ok (.ldc 42, 2) := dk_18 42 (dk_at dksJ9_resize_4 8 rfl rfl)
theorem dJ9_resize_104 : decode cJ9_resize 104 = .ok (.if_icmp .ge 17, 3) := dk_162 0 17 (dk_at dksJ9_resize_4 10 rfl rfl)
theorem dJ9_resize_107 : decode cJ9_resize 107 = .ok (.fload 6, 2) := dk_23 6 (dk_at dksJ9_resize_4 13 rfl rfl)
theorem dJ9_resize_109 : decode cJ9_resize 109 = .ok (.ldc 210, 2) := dk_18 210 (dk_at dksJ9_resize_4 15 rfl rfl)
theorem dJ9_resize_111 : decode cJ9_resize 111 = .ok (.fcmp .g, 1) := dk_150 (dk_at dksJ9_resize_4 17 rfl rfl)
theorem dJ9_resize_112 : decode cJ9_resize 112 = .ok (.ifCond .ge 9, 3) := dk_156 0 9 (dk_at dksJ9_resize_4 18 rfl rfl)
theorem dJ9_resize_115 : decode cJ9_resize 115 = .ok (.fload 6, 2) := dk_23 6 (dk_at dksJ9_resize_4 21 rfl rfl)
theorem dJ9_resize_117 : decode cJ9_resize 117 = .ok (.f2i, 1) := dk_139 (dk_at dksJ9_resize_4 23 rfl rfl)
theorem dJ9_resize_118 : decode cJ9_resize 118 = .ok (.goto 5, 3) := dk_167 0 5 (dk_at dksJ9_resize_5 0 rfl rfl)
theorem dJ9_resize_121 : decode cJ9_resize 121 = .ok (.ldc 209, 2) := dk_18 209 (dk_at dksJ9_resize_5 3 rfl rfl)
theorem dJ9_resize_123 : decode cJ9_resize 123 = .ok (.istore 5, 2) := dk_54 5 (dk_at dksJ9_resize_5 5 rfl rfl)
theorem dJ9_resize_125 : decode cJ9_resize 125 = .ok (.aload_n 0, 1) := dk_42 (dk_at dksJ9_resize_5 7 rfl rfl)
theorem dJ9_resize_126 : decode cJ9_resize 126 = .ok (.iload 5, 2) := dk_21 5 (dk_at dksJ9_resize_5 8 rfl rfl)
theorem dJ9_resize_128 : decode cJ9_resize 128 = .ok (.putfield 88, 3) := dk_181 0 88 (dk_at dksJ9_resize_5 10 rfl rfl)
theorem dJ9_resize_131 : decode cJ9_resize 131 = .ok (.iload 4, 2) := dk_21 4 (dk_at dksJ9_resize_5 13 rfl rfl)
theorem dJ9_resize_133 : decode cJ9_resize 133 = .ok (.anewarray 163, 3) := dk_189 0 163 (dk_at dksJ9_resize_5 15 rfl rfl)
theorem dJ9_resize_136 : decode cJ9_resize 136 = .ok (.astore 6, 2) := dk_58 6 (dk_at dksJ9_resize_5 18 rfl rfl)
theorem dJ9_resize_138 : decode cJ9_resize 138 = .ok (.aload_n 0, 1) := dk_42 (dk_at dksJ9_resize_5 20 rfl rfl)
theorem dJ9_resize_139 : decode cJ9_resize 139 = .ok (.aload 6, 2) := dk_25 6 (dk_at dksJ9_resize_5 21 rfl rfl)
theorem dJ9_resize_141 : decode cJ9_resize 141 = .ok (.putfield 105, 3) := dk_181 0 105 (dk_at dksJ9_resize_6 0 rfl rfl)
theorem dJ9_resize_144 : decode cJ9_resize 144 = .ok (.aload_n 1, 1) := dk_43 (dk_at dksJ9_resize_6 3 rfl rfl)
theorem dJ9_resize_145 : decode cJ9_resize 145 = .ok (.ifnull 208, 3) := dk_198 0 208 (dk_at dksJ9_resize_6 4 rfl rfl)
theorem dJ9_resize_148 : decode cJ9_resize 148 = .ok (.iconst 0, 1) := dk_3 (dk_at dksJ9_resize_6 7 rfl rfl)
theorem dJ9_resize_149 : decode cJ9_resize 149 = .ok (.istore 7, 2) := dk_54 7 (dk_at dksJ9_resize_6 8 rfl rfl)
theorem dJ9_resize_151 : decode cJ9_resize 151 = .ok (.iload 7, 2) := dk_21 7 (dk_at dksJ9_resize_6 10 rfl rfl)
theorem dJ9_resize_153 : decode cJ9_resize 153 = .ok (.iload_n 2, 1) := dk_28 (dk_at dksJ9_resize_6 12 rfl rfl)
theorem dJ9_resize_154 : decode cJ9_resize 154 = .ok (.if_icmp .ge 199, 3) := dk_162 0 199 (dk_at dksJ9_resize_6 13 rfl rfl)
theorem dJ9_resize_157 : decode cJ9_resize 157 = .ok (.aload_n 1, 1) := dk_43 (dk_at dksJ9_resize_6 16 rfl rfl)
theorem dJ9_resize_158 : decode cJ9_resize 158 = .ok (.iload 7, 2) := dk_21 7 (dk_at dksJ9_resize_6 17 rfl rfl)
theorem dJ9_resize_160 : decode cJ9_resize 160 = .ok (.aaload, 1) := dk_50 (dk_at dksJ9_resize_6 19 rfl rfl)
theorem dJ9_resize_161 : decode cJ9_resize 161 = .ok (.dup, 1) := dk_89 (dk_at dksJ9_resize_6 20 rfl rfl)
theorem dJ9_resize_162 : decode cJ9_resize 162 = .ok (.astore 8, 2) := dk_58 8 (dk_at dksJ9_resize_6 21 rfl rfl)
theorem dJ9_resize_164 : decode cJ9_resize 164 = .ok (.ifnull 183, 3) := dk_198 0 183 (dk_at dksJ9_resize_7 0 rfl rfl)
theorem dJ9_resize_167 : decode cJ9_resize 167 = .ok (.aload_n 1, 1) := dk_43 (dk_at dksJ9_resize_7 3 rfl rfl)
theorem dJ9_resize_168 : decode cJ9_resize 168 = .ok (.iload 7, 2) := dk_21 7 (dk_at dksJ9_resize_7 4 rfl rfl)
theorem dJ9_resize_170 : decode cJ9_resize 170 = .ok (.aconst_null, 1) := dk_1 (dk_at dksJ9_resize_7 6 rfl rfl)
theorem dJ9_resize_171 : decode cJ9_resize 171 = .ok (.aastore, 1) := dk_83 (dk_at dksJ9_resize_7 7 rfl rfl)
theorem dJ9_resize_172 : decode cJ9_resize 172 = .ok (.aload 8, 2) := dk_25 8 (dk_at dksJ9_resize_7 8 rfl rfl)
theorem dJ9_resize_174 : decode cJ9_resize 174 = .ok (.getfield 177, 3) := dk_180 0 177 (dk_at dksJ9_resize_7 10 rfl rfl)
theorem dJ9_resize_177 : decode cJ9_resize 177 = .ok (.ifnonnull 21, 3) := dk_199 0 21 (dk_at dksJ9_resize_7 13 rfl rfl)
theorem dJ9_resize_180 : decode cJ9_resize 180 = .ok (.aload 6, 2) := dk_25 6 (dk_at dksJ9_resize_7 16 rfl rfl)
theorem dJ9_resize_182 : decode cJ9_resize 182 = .ok (.aload 8, 2) := dk_25 8 (dk_at dksJ9_resize_7 18 rfl rfl)
theorem dJ9_resize_184 : decode cJ9_resize 184 = .ok (.getfield 168, 3) := dk_180 0 168 (dk_at dksJ9_resize_7 20 rfl rfl)
theorem dJ9_resize_187 : decode cJ9_resize 187 = .ok (.iload 4, 2) := dk_21 4 (dk_at dksJ9_resize_8 0 rfl rfl)
theorem dJ9_resize_189 : decode cJ9_resize 189 = .ok (.iconst 1, 1) := dk_4 (dk_at dksJ9_resize_8 2 rfl rfl)
theorem dJ9_resize_190 : decode cJ9_resize 190 = .ok (.isub, 1) := dk_100 (dk_at dksJ9_resize_8 3 rfl rfl)
theorem dJ9_resize_191 : decode cJ9_resize 191 = .ok (.iand, 1) := dk_126 (dk_at dksJ9_resize_8 4 rfl rfl)
theorem dJ9_resize_192 : decode cJ9_resize 192 = .ok (.aload 8, 2) := dk_25 8 (dk_at dksJ9_resize_8 5 rfl rfl)
theorem dJ9_resize_194 : decode cJ9_resize 194 = .ok (.aastore, 1) := dk_83 (dk_at dksJ9_resize_8 7 rfl rfl)
theorem dJ9_resize_195 : decode cJ9_resize 195 = .ok (.goto 152, 3) := dk_167 0 152 (dk_at dksJ9_resize_8 8 rfl rfl)
theorem dJ9_resize_198 : decode cJ9_resize 198 = .ok (.aload 8, 2) := dk_25 8 (dk_at dksJ9_resize_8 11 rfl rfl)
theorem dJ9_resize_200 : decode cJ9_resize 200 = .ok (.instanceof 180, 3) := dk_193 0 180 (dk_at dksJ9_resize_8 13 rfl rfl)
theorem dJ9_resize_203 : decode cJ9_resize 203 = .ok (.ifCond .eq 20, 3) := dk_153 0 20 (dk_at dksJ9_resize_8 16 rfl rfl)
theorem dJ9_resize_206 : decode cJ9_resize 206 = .ok (.aload 8, 2) := dk_25 8 (dk_at dksJ9_resize_8 19 rfl rfl)
theorem dJ9_resize_208 : decode cJ9_resize 208 = .ok (.checkcast 180, 3) := dk_192 0 180 (dk_at dksJ9_resize_8 21 rfl rfl)
theorem dJ9_resize_211 : decode cJ9_resize 211 = .ok (.aload_n 0, 1) := dk_42 (dk_at dksJ9_resize_9 0 rfl rfl)
theorem dJ9_resize_212 : decode cJ9_resize 212 = .ok (.aload 6, 2) := dk_25 6 (dk_at dksJ9_resize_9 1 rfl rfl)
theorem dJ9_resize_214 : decode cJ9_resize 214 = .ok (.iload 7, 2) := dk_21 7 (dk_at dksJ9_resize_9 3 rfl rfl)
theorem dJ9_resize_216 : decode cJ9_resize 216 = .ok (.iload_n 2, 1) := dk_28 (dk_at dksJ9_resize_9 5 rfl rfl)
theorem dJ9_resize_217 : decode cJ9_resize 217 = .ok (.invokevirtual 211, 3) := dk_182 0 211 (dk_at dksJ9_resize_9 6 rfl rfl)
theorem dJ9_resize_220 : decode cJ9_resize 220 = .ok (.goto 127, 3) := dk_167 0 127 (dk_at dksJ9_resize_9 9 rfl rfl)
theorem dJ9_resize_223 : decode cJ9_resize 223 = .ok (.aconst_null, 1) := dk_1 (dk_at dksJ9_resize_9 12 rfl rfl)
theorem dJ9_resize_224 : decode cJ9_resize 224 = .ok (.astore 9, 2) := dk_58 9 (dk_at dksJ9_resize_9 13 rfl rfl)
theorem dJ9_resize_226 : decode cJ9_resize 226 = .ok (.aconst_null, 1) := dk_1 (dk_at dksJ9_resize_9 15 rfl rfl)
theorem dJ9_resize_227 : decode cJ9_resize 227 = .ok (.astore 10, 2) := dk_58 10 (dk_at dksJ9_resize_9 16 rfl rfl)
theorem dJ9_resize_229 : decode cJ9_resize 229 = .ok (.aconst_null, 1) := dk_1 (dk_at dksJ9_resize_9 18 rfl rfl)
theorem dJ9_resize_230 : decode cJ9_resize 230 = .ok (.astore 11, 2) := dk_58 11 (dk_at dksJ9_resize_9 19 rfl rfl)
theorem dJ9_resize_232 : decode cJ9_resize 232 = .ok (.aconst_null, 1) := dk_1 (dk_at dksJ9_resize_9 21 rfl rfl)
theorem dJ9_resize_233 : decode cJ9_resize 233 = .ok (.astore 12, 2) := dk_58 12 (dk_at dksJ9_resize_9 22 rfl rfl)
theorem dJ9_resize_235 : decode cJ9_resize 235 = .ok (.aload 8, 2) := dk_25 8 (dk_at dksJ9_resize_10 0 rfl rfl)
theorem dJ9_resize_237 : decode cJ9_resize 237 = .ok (.getfield 177, 3) := dk_180 0 177 (dk_at dksJ9_resize_10 2 rfl rfl)
theorem dJ9_resize_240 : decode cJ9_resize 240 = .ok (.astore 13, 2) := dk_58 13 (dk_at dksJ9_resize_10 5 rfl rfl)
theorem dJ9_resize_242 : decode cJ9_resize 242 = .ok (.aload 8, 2) := dk_25 8 (dk_at dksJ9_resize_10 7 rfl rfl)
theorem dJ9_resize_244 : decode cJ9_resize 244 = .ok (.getfield 168, 3) := dk_180 0 168 (dk_at dksJ9_resize_10 9 rfl rfl)
theorem dJ9_resize_247 : decode cJ9_resize 247 = .ok (.iload_n 2, 1) := dk_28 (dk_at dksJ9_resize_10 12 rfl rfl)
theorem dJ9_resize_248 : decode cJ9_resize 248 = .ok (.iand, 1) := dk_126 (dk_at dksJ9_resize_10 13 rfl rfl)
theorem dJ9_resize_249 : decode cJ9_resize 249 = .ok (.ifCond .ne 29, 3) := dk_154 0 29 (dk_at dksJ9_resize_10 14 rfl rfl)
theorem dJ9_resize_252 : decode cJ9_resize 252 = .ok (.aload 10, 2) := dk_25 10 (dk_at dksJ9_resize_10 17 rfl rfl)
theorem dJ9_resize_254 : decode cJ9_resize 254 = .ok (.ifnonnull 10, 3) := dk_199 0 10 (dk_at dksJ9_resize_10 19 rfl rfl)
theorem dJ9_resize_257 : decode cJ9_resize 257 = .ok (.aload 8, 2) := dk_25 8 (dk_at dksJ9_resize_10 22 rfl rfl)
theorem dJ9_resize_259 : decode cJ9_resize 259 = .ok (.astore 9, 2) := dk_58 9 (dk_at dksJ9_resize_11 0 rfl rfl)
theorem dJ9_resize_261 : decode cJ9_resize 261 = .ok (.goto 10, 3) := dk_167 0 10 (dk_at dksJ9_resize_11 2 rfl rfl)
theorem dJ9_resize_264 : decode cJ9_resize 264 = .ok (.aload 10, 2) := dk_25 10 (dk_at dksJ9_resize_11 5 rfl rfl)
theorem dJ9_resize_266 : decode cJ9_resize 266 = .ok (.aload 8, 2) := dk_25 8 (dk_at dksJ9_resize_11 7 rfl rfl)
theorem dJ9_resize_268 : decode cJ9_resize 268 = .ok (.putfield 177, 3) := dk_181 0 177 (dk_at dksJ9_resize_11 9 rfl rfl)
theorem dJ9_resize_271 : decode cJ9_resize 271 = .ok (.aload 8, 2) := dk_25 8 (dk_at dksJ9_resize_11 12 rfl rfl)
theorem dJ9_resize_273 : decode cJ9_resize 273 = .ok (.astore 10, 2) := dk_58 10 (dk_at dksJ9_resize_11 14 rfl rfl)
theorem dJ9_resize_275 : decode cJ9_resize 275 = .ok (.goto 26, 3) := dk_167 0 26 (dk_at dksJ9_resize_11 16 rfl rfl)
theorem dJ9_resize_278 : decode cJ9_resize 278 = .ok (.aload 12, 2) := dk_25 12 (dk_at dksJ9_resize_11 19 rfl rfl)
theorem dJ9_resize_280 : decode cJ9_resize 280 = .ok (.ifnonnull 10, 3) := dk_199 0 10 (dk_at dksJ9_resize_11 21 rfl rfl)
theorem dJ9_resize_283 : decode cJ9_resize 283 = .ok (.aload 8, 2) := dk_25 8 (dk_at dksJ9_resize_12 0 rfl rfl)
theorem dJ9_resize_285 : decode cJ9_resize 285 = .ok (.astore 11, 2) := dk_58 11 (dk_at dksJ9_resize_12 2 rfl rfl)
theorem dJ9_resize_287 : decode cJ9_resize 287 = .ok (.goto 10, 3) := dk_167 0 10 (dk_at dksJ9_resize_12 4 rfl rfl)
theorem dJ9_resize_290 : decode cJ9_resize 290 = .ok (.aload 12, 2) := dk_25 12 (dk_at dksJ9_resize_12 7 rfl rfl)
theorem dJ9_resize_292 : decode cJ9_resize 292 = .ok (.aload 8, 2) := dk_25 8 (dk_at dksJ9_resize_12 9 rfl rfl)
theorem dJ9_resize_294 : decode cJ9_resize 294 = .ok (.putfield 177, 3) := dk_181 0 177 (dk_at dksJ9_resize_12 11 rfl rfl)
theorem dJ9_resize_297 : decode cJ9_resize 297 = .ok (.aload 8, 2) := dk_25 8 (dk_at dksJ9_resize_12 14 rfl rfl)
theorem dJ9_resize_299 : decode cJ9_resize 299 = .ok (.astore 12, 2) := dk_58 12 (dk_at dksJ9_resize_12 16 rfl rfl)
theorem dJ9_resize_301 : decode cJ9_resize 301 = .ok (.aload 13, 2) := dk_25 13 (dk_at dksJ9_resize_12 18 rfl rfl)
theorem dJ9_resize_303 : decode cJ9_resize 303 = .ok (.dup, 1) := dk_89 (dk_at dksJ9_resize_12 20 rfl rfl)
theorem dJ9_resize_304 : decode cJ9_resize 304 = .ok (.astore 8, 2) := dk_58 8 (dk_at dksJ9_resize_12 21 rfl rfl)
theorem dJ9_resize_306 : decode cJ9_resize 306 = .ok (.ifnonnull (-71), 3) := dk_199 255 185 (dk_at dksJ9_resize_13 0 rfl rfl)
theorem dJ9_resize_309 : decode cJ9_resize 309 = .ok (.aload 10, 2) := dk_25 10 (dk_at dksJ9_resize_13 3 rfl rfl)
theorem dJ9_resize_311 : decode cJ9_resize 311 = .ok (.ifnull 16, 3) := dk_198 0 16 (dk_at dksJ9_resize_13 5 rfl rfl)
theorem dJ9_resize_314 : decode cJ9_resize 314 = .ok (.aload 10, 2) := dk_25 10 (dk_at dksJ9_resize_13 8 rfl rfl)
theorem dJ9_resize_316 : decode cJ9_resize 316 = .ok (.aconst_null, 1) := dk_1 (dk_at dksJ9_resize_13 10 rfl rfl)
theorem dJ9_resize_317 : decode cJ9_resize 317 = .ok (.putfield 177, 3) := dk_181 0 177 (dk_at dksJ9_resize_13 11 rfl rfl)
theorem dJ9_resize_320 : decode cJ9_resize 320 = .ok (.aload 6, 2) := dk_25 6 (dk_at dksJ9_resize_13 14 rfl rfl)
theorem dJ9_resize_322 : decode cJ9_resize 322 = .ok (.iload 7, 2) := dk_21 7 (dk_at dksJ9_resize_13 16 rfl rfl)
theorem dJ9_resize_324 : decode cJ9_resize 324 = .ok (.aload 9, 2) := dk_25 9 (dk_at dksJ9_resize_13 18 rfl rfl)
theorem dJ9_resize_326 : decode cJ9_resize 326 = .ok (.aastore, 1) := dk_83 (dk_at dksJ9_resize_13 20 rfl rfl)
theorem dJ9_resize_327 : decode cJ9_resize 327 = .ok (.aload 12, 2) := dk_25 12 (dk_at dksJ9_resize_13 21 rfl rfl)
theorem dJ9_resize_329 : decode cJ9_resize 329 = .ok (.ifnull 18, 3) := dk_198 0 18 (dk_at dksJ9_resize_14 0 rfl rfl)
theorem dJ9_resize_332 : decode cJ9_resize 332 = .ok (.aload 12, 2) := dk_25 12 (dk_at dksJ9_resize_14 3 rfl rfl)
theorem dJ9_resize_334 : decode cJ9_resize 334 = .ok (.aconst_null, 1) := dk_1 (dk_at dksJ9_resize_14 5 rfl rfl)
theorem dJ9_resize_335 : decode cJ9_resize 335 = .ok (.putfield 177, 3) := dk_181 0 177 (dk_at dksJ9_resize_14 6 rfl rfl)
theorem dJ9_resize_338 : decode cJ9_resize 338 = .ok (.aload 6, 2) := dk_25 6 (dk_at dksJ9_resize_14 9 rfl rfl)
theorem dJ9_resize_340 : decode cJ9_resize 340 = .ok (.iload 7, 2) := dk_21 7 (dk_at dksJ9_resize_14 11 rfl rfl)
theorem dJ9_resize_342 : decode cJ9_resize 342 = .ok (.iload_n 2, 1) := dk_28 (dk_at dksJ9_resize_14 13 rfl rfl)
theorem dJ9_resize_343 : decode cJ9_resize 343 = .ok (.iadd, 1) := dk_96 (dk_at dksJ9_resize_14 14 rfl rfl)
theorem dJ9_resize_344 : decode cJ9_resize 344 = .ok (.aload 11, 2) := dk_25 11 (dk_at dksJ9_resize_14 15 rfl rfl)
theorem dJ9_resize_346 : decode cJ9_resize 346 = .ok (.aastore, 1) := dk_83 (dk_at dksJ9_resize_14 17 rfl rfl)
theorem dJ9_resize_347 : decode cJ9_resize 347 = .ok (.iinc 7 1, 3) := dk_132 7 1 (dk_at dksJ9_resize_14 18 rfl rfl)
theorem dJ9_resize_350 : decode cJ9_resize 350 = .ok (.goto (-199), 3) := dk_167 255 57 (dk_at dksJ9_resize_14 21 rfl rfl)
theorem dJ9_resize_353 : decode cJ9_resize 353 = .ok (.aload 6, 2) := dk_25 6 (dk_at dksJ9_resize_15 0 rfl rfl)
theorem dJ9_resize_355 : decode cJ9_resize 355 = .ok (.areturn, 1) := dk_176 (dk_at dksJ9_resize_15 2 rfl rfl)
abbrev cJ9_replacementNode : ByteArray := prog_39_method_47_code
def yJ9_replacementNode : MethodName := ⟨RJ9, "replacementNode", "(Ljava/util/HashMap$Node;Ljava/util/HashMap$Node;)Ljava/util/HashMap$Node;"⟩
def dkwJ9_replacementNode_0 : List UInt8 := [187, 0, 163, 89, 43, 180, 0, 168, 43, 180, 0, 170, 43, 180, 0, 162, 44, 183, 1, 119, 176]
abbrev dktJ9_replacementNode_0 : List UInt8 := dkwJ9_replacementNode_0 ++ []
theorem dksJ9_replacementNode_0 : cJ9_replacementNode.data.toList.drop 0 = dktJ9_replacementNode_0 := by decide +kernel
theorem dJ9_replacementNode_0 : decode cJ9_replacementNode 0 = .ok (.new 163, 3) := dk_187 0 163 (dk_at dksJ9_replacementNode_0 0 rfl rfl)
theorem dJ9_replacementNode_3 : decode cJ9_replacementNode 3 = .ok (.dup, 1) := dk_89 (dk_at dksJ9_replacementNode_0 3 rfl rfl)
theorem dJ9_replacementNode_4 : decode cJ9_replacementNode 4 = .ok (.aload_n 1, 1) := dk_43 (dk_at dksJ9_replacementNode_0 4 rfl rfl)
theorem dJ9_replacementNode_5 : decode cJ9_replacementNode 5 = .ok (.getfield 168, 3) := dk_180 0 168 (dk_at dksJ9_replacementNode_0 5 rfl rfl)
theorem dJ9_replacementNode_8 : decode cJ9_replacementNode 8 = .ok (.aload_n 1, 1) := dk_43 (dk_at dksJ9_replacementNode_0 8 rfl rfl)
theorem dJ9_replacementNode_9 : decode cJ9_replacementNode 9 = .ok (.getfield 170, 3) := dk_180 0 170 (dk_at dksJ9_replacementNode_0 9 rfl rfl)
theorem dJ9_replacementNode_12 : decode cJ9_replacementNode 12 = .ok (.aload_n 1, 1) := dk_43 (dk_at dksJ9_replacementNode_0 12 rfl rfl)
theorem dJ9_replacementNode_13 : decode cJ9_replacementNode 13 = .ok (.getfield 162, 3) := dk_180 0 162 (dk_at dksJ9_replacementNode_0 13 rfl rfl)
theorem dJ9_replacementNode_16 : decode cJ9_replacementNode 16 = .ok (.aload_n 2, 1) := dk_44 (dk_at dksJ9_replacementNode_0 16 rfl rfl)
theorem dJ9_replacementNode_17 : decode cJ9_replacementNode 17 = .ok (.invokespecial 375, 3) := dk_183 1 119 (dk_at dksJ9_replacementNode_0 17 rfl rfl)
theorem dJ9_replacementNode_20 : decode cJ9_replacementNode 20 = .ok (.areturn, 1) := dk_176 (dk_at dksJ9_replacementNode_0 20 rfl rfl)
abbrev cJ9_newNode : ByteArray := prog_39_method_46_code
def yJ9_newNode : MethodName := ⟨RJ9, "newNode", "(ILjava/lang/Object;Ljava/lang/Object;Ljava/util/HashMap$Node;)Ljava/util/HashMap$Node;"⟩
def dkwJ9_newNode_0 : List UInt8 := [187, 0, 163, 89, 27, 44, 45, 25, 4, 183, 1, 119, 176]
abbrev dktJ9_newNode_0 : List UInt8 := dkwJ9_newNode_0 ++ []
theorem dksJ9_newNode_0 : cJ9_newNode.data.toList.drop 0 = dktJ9_newNode_0 := by decide +kernel
theorem dJ9_newNode_0 : decode cJ9_newNode 0 = .ok (.new 163, 3) := dk_187 0 163 (dk_at dksJ9_newNode_0 0 rfl rfl)
theorem dJ9_newNode_3 : decode cJ9_newNode 3 = .ok (.dup, 1) := dk_89 (dk_at dksJ9_newNode_0 3 rfl rfl)
theorem dJ9_newNode_4 : decode cJ9_newNode 4 = .ok (.iload_n 1, 1) := dk_27 (dk_at dksJ9_newNode_0 4 rfl rfl)
theorem dJ9_newNode_5 : decode cJ9_newNode 5 = .ok (.aload_n 2, 1) := dk_44 (dk_at dksJ9_newNode_0 5 rfl rfl)
theorem dJ9_newNode_6 : decode cJ9_newNode 6 = .ok (.aload_n 3, 1) := dk_45 (dk_at dksJ9_newNode_0 6 rfl rfl)
theorem dJ9_newNode_7 : decode cJ9_newNode 7 = .ok (.aload 4, 2) := dk_25 4 (dk_at dksJ9_newNode_0 7 rfl rfl)
theorem dJ9_newNode_9 : decode cJ9_newNode 9 = .ok (.invokespecial 375, 3) := dk_183 1 119 (dk_at dksJ9_newNode_0 9 rfl rfl)
theorem dJ9_newNode_12 : decode cJ9_newNode 12 = .ok (.areturn, 1) := dk_176 (dk_at dksJ9_newNode_0 12 rfl rfl)
abbrev cJ9_newTreeNode : ByteArray := prog_39_method_48_code
def yJ9_newTreeNode : MethodName := ⟨RJ9, "newTreeNode", "(ILjava/lang/Object;Ljava/lang/Object;Ljava/util/HashMap$Node;)Ljava/util/HashMap$TreeNode;"⟩
def dkwJ9_newTreeNode_0 : List UInt8 := [187, 0, 180, 89, 27, 44, 45, 25, 4, 183, 1, 122, 176]
abbrev dktJ9_newTreeNode_0 : List UInt8 := dkwJ9_newTreeNode_0 ++ []
theorem dksJ9_newTreeNode_0 : cJ9_newTreeNode.data.toList.drop 0 = dktJ9_newTreeNode_0 := by decide +kernel
theorem dJ9_newTreeNode_0 : decode cJ9_newTreeNode 0 = .ok (.new 180, 3) := dk_187 0 180 (dk_at dksJ9_newTreeNode_0 0 rfl rfl)
theorem dJ9_newTreeNode_3 : decode cJ9_newTreeNode 3 = .ok (.dup, 1) := dk_89 (dk_at dksJ9_newTreeNode_0 3 rfl rfl)
theorem dJ9_newTreeNode_4 : decode cJ9_newTreeNode 4 = .ok (.iload_n 1, 1) := dk_27 (dk_at dksJ9_newTreeNode_0 4 rfl rfl)
theorem dJ9_newTreeNode_5 : decode cJ9_newTreeNode 5 = .ok (.aload_n 2, 1) := dk_44 (dk_at dksJ9_newTreeNode_0 5 rfl rfl)
theorem dJ9_newTreeNode_6 : decode cJ9_newTreeNode 6 = .ok (.aload_n 3, 1) := dk_45 (dk_at dksJ9_newTreeNode_0 6 rfl rfl)
theorem dJ9_newTreeNode_7 : decode cJ9_newTreeNode 7 = .ok (.aload 4, 2) := dk_25 4 (dk_at dksJ9_newTreeNode_0 7 rfl rfl)
theorem dJ9_newTreeNode_9 : decode cJ9_newTreeNode 9 = .ok (.invokespecial 378, 3) := dk_183 1 122 (dk_at dksJ9_newTreeNode_0 9 rfl rfl)
theorem dJ9_newTreeNode_12 : decode cJ9_newTreeNode 12 = .ok (.areturn, 1) := dk_176 (dk_at dksJ9_newTreeNode_0 12 rfl rfl)
abbrev cJ9_treeifyBin : ByteArray := prog_39_method_18_code
def yJ9_treeifyBin : MethodName := ⟨RJ9, "treeifyBin", "([Ljava/util/HashMap$Node;I)V"⟩
def dkwJ9_treeifyBin_4 : List UInt8 := [21, 4, 25, 6, 91, 83, 198, 0, 9, 25, 6, 43, 182, 0, 224, 177]
abbrev dktJ9_treeifyBin_4 : List UInt8 := dkwJ9_treeifyBin_4 ++ []
def dkwJ9_treeifyBin_3 : List UInt8 := [25, 7, 25, 8, 181, 0, 223, 25, 8, 58, 7, 25, 5, 180, 0, 177, 89, 58, 5, 199, 255, 209, 43]
abbrev dktJ9_treeifyBin_3 : List UInt8 := dkwJ9_treeifyBin_3 ++ dktJ9_treeifyBin_4
def dkwJ9_treeifyBin_2 : List UInt8 := [182, 0, 215, 58, 8, 25, 7, 199, 0, 10, 25, 8, 58, 6, 167, 0, 17, 25, 8, 25, 7, 181, 0, 219]
abbrev dktJ9_treeifyBin_2 : List UInt8 := dkwJ9_treeifyBin_2 ++ dktJ9_treeifyBin_3
def dkwJ9_treeifyBin_1 : List UInt8 := [100, 28, 126, 89, 54, 4, 50, 89, 58, 5, 198, 0, 75, 1, 58, 6, 1, 58, 7, 42, 25, 5, 1]
abbrev dktJ9_treeifyBin_1 : List UInt8 := dkwJ9_treeifyBin_1 ++ dktJ9_treeifyBin_2
def dkwJ9_treeifyBin_0 : List UInt8 := [43, 198, 0, 12, 43, 190, 89, 62, 16, 64, 162, 0, 11, 42, 182, 0, 117, 87, 167, 0, 91, 43, 29, 4]
abbrev dktJ9_treeifyBin_0 : List UInt8 := dkwJ9_treeifyBin_0 ++ dktJ9_treeifyBin_1
theorem dksJ9_treeifyBin_0 : cJ9_treeifyBin.data.toList.drop 0 = dktJ9_treeifyBin_0 := by decide +kernel
theorem dksJ9_treeifyBin_1 : cJ9_treeifyBin.data.toList.drop 24 = dktJ9_treeifyBin_1 := dk_seg dksJ9_treeifyBin_0 24 rfl rfl
theorem dksJ9_treeifyBin_2 : cJ9_treeifyBin.data.toList.drop 47 = dktJ9_treeifyBin_2 := dk_seg dksJ9_treeifyBin_1 23 rfl rfl
theorem dksJ9_treeifyBin_3 : cJ9_treeifyBin.data.toList.drop 71 = dktJ9_treeifyBin_3 := dk_seg dksJ9_treeifyBin_2 24 rfl rfl
theorem dksJ9_treeifyBin_4 : cJ9_treeifyBin.data.toList.drop 94 = dktJ9_treeifyBin_4 := dk_seg dksJ9_treeifyBin_3 23 rfl rfl
theorem dJ9_treeifyBin_0 : decode cJ9_treeifyBin 0 = .ok (.aload_n 1, 1) := dk_43 (dk_at dksJ9_treeifyBin_0 0 rfl rfl)
theorem dJ9_treeifyBin_1 : decode cJ9_treeifyBin 1 = .ok (.ifnull 12, 3) := dk_198 0 12 (dk_at dksJ9_treeifyBin_0 1 rfl rfl)
theorem dJ9_treeifyBin_4 : decode cJ9_treeifyBin 4 = .ok (.aload_n 1, 1) := dk_43 (dk_at dksJ9_treeifyBin_0 4 rfl rfl)
theorem dJ9_treeifyBin_5 : decode cJ9_treeifyBin 5 = .ok (.arraylength, 1) := dk_190 (dk_at dksJ9_treeifyBin_0 5 rfl rfl)
theorem dJ9_treeifyBin_6 : decode cJ9_treeifyBin 6 = .ok (.dup, 1) := dk_89 (dk_at dksJ9_treeifyBin_0 6 rfl rfl)
theorem dJ9_treeifyBin_7 : decode cJ9_treeifyBin 7 = .ok (.istore_n 3, 1) := dk_62 (dk_at dksJ9_treeifyBin_0 7 rfl rfl)
theorem dJ9_treeifyBin_8 : decode cJ9_treeifyBin 8 = .ok (.bipush 64, 2) := dk_16 64 (dk_at dksJ9_treeifyBin_0 8 rfl rfl)
theorem dJ9_treeifyBin_10 : decode cJ9_treeifyBin 10 = .ok (.if_icmp .ge 11, 3) := dk_162 0 11 (dk_at dksJ9_treeifyBin_0 10 rfl rfl)
theorem dJ9_treeifyBin_13 : decode cJ9_treeifyBin 13 = .ok (.aload_n 0, 1) := dk_42 (dk_at dksJ9_treeifyBin_0 13 rfl rfl)
theorem dJ9_treeifyBin_14 : decode cJ9_treeifyBin 14 = .ok (.invokevirtual 117, 3) := dk_182 0 117 (dk_at dksJ9_treeifyBin_0 14 rfl rfl)
theorem dJ9_treeifyBin_17 : decode cJ9_treeifyBin 17 = .ok (.pop, 1) := dk_87 (dk_at dksJ9_treeifyBin_0 17 rfl rfl)
theorem dJ9_treeifyBin_18 : decode cJ9_treeifyBin 18 = .ok (.goto 91, 3) := dk_167 0 91 (dk_at dksJ9_treeifyBin_0 18 rfl rfl)
theorem dJ9_treeifyBin_21 : decode cJ9_treeifyBin 21 = .ok (.aload_n 1, 1) := dk_43 (dk_at dksJ9_treeifyBin_0 21 rfl rfl)
theorem dJ9_treeifyBin_22 : decode cJ9_treeifyBin 22 = .ok (.iload_n 3, 1) := dk_29 (dk_at dksJ9_treeifyBin_0 22 rfl rfl)
theorem dJ9_treeifyBin_23 : decode cJ9_treeifyBin 23 = .ok (.iconst 1, 1) := dk_4 (dk_at dksJ9_treeifyBin_0 23 rfl rfl)
theorem dJ9_treeifyBin_24 : decode cJ9_treeifyBin 24 = .ok (.isub, 1) := dk_100 (dk_at dksJ9_treeifyBin_1 0 rfl rfl)
theorem dJ9_treeifyBin_25 : decode cJ9_treeifyBin 25 = .ok (.iload_n 2, 1) := dk_28 (dk_at dksJ9_treeifyBin_1 1 rfl rfl)
theorem dJ9_treeifyBin_26 : decode cJ9_treeifyBin 26 = .ok (.iand, 1) := dk_126 (dk_at dksJ9_treeifyBin_1 2 rfl rfl)
theorem dJ9_treeifyBin_27 : decode cJ9_treeifyBin 27 = .ok (.dup, 1) := dk_89 (dk_at dksJ9_treeifyBin_1 3 rfl rfl)
theorem dJ9_treeifyBin_28 : decode cJ9_treeifyBin 28 = .ok (.istore 4, 2) := dk_54 4 (dk_at dksJ9_treeifyBin_1 4 rfl rfl)
theorem dJ9_treeifyBin_30 : decode cJ9_treeifyBin 30 = .ok (.aaload, 1) := dk_50 (dk_at dksJ9_treeifyBin_1 6 rfl rfl)
theorem dJ9_treeifyBin_31 : decode cJ9_treeifyBin 31 = .ok (.dup, 1) := dk_89 (dk_at dksJ9_treeifyBin_1 7 rfl rfl)
theorem dJ9_treeifyBin_32 : decode cJ9_treeifyBin 32 = .ok (.astore 5, 2) := dk_58 5 (dk_at dksJ9_treeifyBin_1 8 rfl rfl)
theorem dJ9_treeifyBin_34 : decode cJ9_treeifyBin 34 = .ok (.ifnull 75, 3) := dk_198 0 75 (dk_at dksJ9_treeifyBin_1 10 rfl rfl)
theorem dJ9_treeifyBin_37 : decode cJ9_treeifyBin 37 = .ok (.aconst_null, 1) := dk_1 (dk_at dksJ9_treeifyBin_1 13 rfl rfl)
theorem dJ9_treeifyBin_38 : decode cJ9_treeifyBin 38 = .ok (.astore 6, 2) := dk_58 6 (dk_at dksJ9_treeifyBin_1 14 rfl rfl)
theorem dJ9_treeifyBin_40 : decode cJ9_treeifyBin 40 = .ok (.aconst_null, 1) := dk_1 (dk_at dksJ9_treeifyBin_1 16 rfl rfl)
theorem dJ9_treeifyBin_41 : decode cJ9_treeifyBin 41 = .ok (.astore 7, 2) := dk_58 7 (dk_at dksJ9_treeifyBin_1 17 rfl rfl)
theorem dJ9_treeifyBin_43 : decode cJ9_treeifyBin 43 = .ok (.aload_n 0, 1) := dk_42 (dk_at dksJ9_treeifyBin_1 19 rfl rfl)
theorem dJ9_treeifyBin_44 : decode cJ9_treeifyBin 44 = .ok (.aload 5, 2) := dk_25 5 (dk_at dksJ9_treeifyBin_1 20 rfl rfl)
theorem dJ9_treeifyBin_46 : decode cJ9_treeifyBin 46 = .ok (.aconst_null, 1) := dk_1 (dk_at dksJ9_treeifyBin_1 22 rfl rfl)
theorem dJ9_treeifyBin_47 : decode cJ9_treeifyBin 47 = .ok (.invokevirtual 215, 3) := dk_182 0 215 (dk_at dksJ9_treeifyBin_2 0 rfl rfl)
theorem dJ9_treeifyBin_50 : decode cJ9_treeifyBin 50 = .ok (.astore 8, 2) := dk_58 8 (dk_at dksJ9_treeifyBin_2 3 rfl rfl)
theorem dJ9_treeifyBin_52 : decode cJ9_treeifyBin 52 = .ok (.aload 7, 2) := dk_25 7 (dk_at dksJ9_treeifyBin_2 5 rfl rfl)
theorem dJ9_treeifyBin_54 : decode cJ9_treeifyBin 54 = .ok (.ifnonnull 10, 3) := dk_199 0 10 (dk_at dksJ9_treeifyBin_2 7 rfl rfl)
theorem dJ9_treeifyBin_57 : decode cJ9_treeifyBin 57 = .ok (.aload 8, 2) := dk_25 8 (dk_at dksJ9_treeifyBin_2 10 rfl rfl)
theorem dJ9_treeifyBin_59 : decode cJ9_treeifyBin 59 = .ok (.astore 6, 2) := dk_58 6 (dk_at dksJ9_treeifyBin_2 12 rfl rfl)
theorem dJ9_treeifyBin_61 : decode cJ9_treeifyBin 61 = .ok (.goto 17, 3) := dk_167 0 17 (dk_at dksJ9_treeifyBin_2 14 rfl rfl)
theorem dJ9_treeifyBin_64 : decode cJ9_treeifyBin 64 = .ok (.aload 8, 2) := dk_25 8 (dk_at dksJ9_treeifyBin_2 17 rfl rfl)
theorem dJ9_treeifyBin_66 : decode cJ9_treeifyBin 66 = .ok (.aload 7, 2) := dk_25 7 (dk_at dksJ9_treeifyBin_2 19 rfl rfl)
theorem dJ9_treeifyBin_68 : decode cJ9_treeifyBin 68 = .ok (.putfield 219, 3) := dk_181 0 219 (dk_at dksJ9_treeifyBin_2 21 rfl rfl)
theorem dJ9_treeifyBin_71 : decode cJ9_treeifyBin 71 = .ok (.aload 7, 2) := dk_25 7 (dk_at dksJ9_treeifyBin_3 0 rfl rfl)
theorem dJ9_treeifyBin_73 : decode cJ9_treeifyBin 73 = .ok (.aload 8, 2) := dk_25 8 (dk_at dksJ9_treeifyBin_3 2 rfl rfl)
theorem dJ9_treeifyBin_75 : decode cJ9_treeifyBin 75 = .ok (.putfield 223, 3) := dk_181 0 223 (dk_at dksJ9_treeifyBin_3 4 rfl rfl)
theorem dJ9_treeifyBin_78 : decode cJ9_treeifyBin 78 = .ok (.aload 8, 2) := dk_25 8 (dk_at dksJ9_treeifyBin_3 7 rfl rfl)
theorem dJ9_treeifyBin_80 : decode cJ9_treeifyBin 80 = .ok (.astore 7, 2) := dk_58 7 (dk_at dksJ9_treeifyBin_3 9 rfl rfl)
theorem dJ9_treeifyBin_82 : decode cJ9_treeifyBin 82 = .ok (.aload 5, 2) := dk_25 5 (dk_at dksJ9_treeifyBin_3 11 rfl rfl)
theorem dJ9_treeifyBin_84 : decode cJ9_treeifyBin 84 = .ok (.getfield 177, 3) := dk_180 0 177 (dk_at dksJ9_treeifyBin_3 13 rfl rfl)
theorem dJ9_treeifyBin_87 : decode cJ9_treeifyBin 87 = .ok (.dup, 1) := dk_89 (dk_at dksJ9_treeifyBin_3 16 rfl rfl)
theorem dJ9_treeifyBin_88 : decode cJ9_treeifyBin 88 = .ok (.astore 5, 2) := dk_58 5 (dk_at dksJ9_treeifyBin_3 17 rfl rfl)
theorem dJ9_treeifyBin_90 : decode cJ9_treeifyBin 90 = .ok (.ifnonnull (-47), 3) := dk_199 255 209 (dk_at dksJ9_treeifyBin_3 19 rfl rfl)
theorem dJ9_treeifyBin_93 : decode cJ9_treeifyBin 93 = .ok (.aload_n 1, 1) := dk_43 (dk_at dksJ9_treeifyBin_3 22 rfl rfl)
theorem dJ9_treeifyBin_94 : decode cJ9_treeifyBin 94 = .ok (.iload 4, 2) := dk_21 4 (dk_at dksJ9_treeifyBin_4 0 rfl rfl)
theorem dJ9_treeifyBin_96 : decode cJ9_treeifyBin 96 = .ok (.aload 6, 2) := dk_25 6 (dk_at dksJ9_treeifyBin_4 2 rfl rfl)
theorem dJ9_treeifyBin_98 : decode cJ9_treeifyBin 98 = .ok (.dup_x2, 1) := dk_91 (dk_at dksJ9_treeifyBin_4 4 rfl rfl)
theorem dJ9_treeifyBin_99 : decode cJ9_treeifyBin 99 = .ok (.aastore, 1) := dk_83 (dk_at dksJ9_treeifyBin_4 5 rfl rfl)
theorem dJ9_treeifyBin_100 : decode cJ9_treeifyBin 100 = .ok (.ifnull 9, 3) := dk_198 0 9 (dk_at dksJ9_treeifyBin_4 6 rfl rfl)
theorem dJ9_treeifyBin_103 : decode cJ9_treeifyBin 103 = .ok (.aload 6, 2) := dk_25 6 (dk_at dksJ9_treeifyBin_4 9 rfl rfl)
theorem dJ9_treeifyBin_105 : decode cJ9_treeifyBin 105 = .ok (.aload_n 1, 1) := dk_43 (dk_at dksJ9_treeifyBin_4 11 rfl rfl)
theorem dJ9_treeifyBin_106 : decode cJ9_treeifyBin 106 = .ok (.invokevirtual 224, 3) := dk_182 0 224 (dk_at dksJ9_treeifyBin_4 12 rfl rfl)
theorem dJ9_treeifyBin_109 : decode cJ9_treeifyBin 109 = .ok (.return_, 1) := dk_177 (dk_at dksJ9_treeifyBin_4 15 rfl rfl)
abbrev cJ9_replacementTreeNode : ByteArray := prog_39_method_49_code
def yJ9_replacementTreeNode : MethodName := ⟨RJ9, "replacementTreeNode", "(Ljava/util/HashMap$Node;Ljava/util/HashMap$Node;)Ljava/util/HashMap$TreeNode;"⟩
def dkwJ9_replacementTreeNode_0 : List UInt8 := [187, 0, 180, 89, 43, 180, 0, 168, 43, 180, 0, 170, 43, 180, 0, 162, 44, 183, 1, 122, 176]
abbrev dktJ9_replacementTreeNode_0 : List UInt8 := dkwJ9_replacementTreeNode_0 ++ []
theorem dksJ9_replacementTreeNode_0 : cJ9_replacementTreeNode.data.toList.drop 0 = dktJ9_replacementTreeNode_0 := by decide +kernel
theorem dJ9_replacementTreeNode_0 : decode cJ9_replacementTreeNode 0 = .ok (.new 180, 3) := dk_187 0 180 (dk_at dksJ9_replacementTreeNode_0 0 rfl rfl)
theorem dJ9_replacementTreeNode_3 : decode cJ9_replacementTreeNode 3 = .ok (.dup, 1) := dk_89 (dk_at dksJ9_replacementTreeNode_0 3 rfl rfl)
theorem dJ9_replacementTreeNode_4 : decode cJ9_replacementTreeNode 4 = .ok (.aload_n 1, 1) := dk_43 (dk_at dksJ9_replacementTreeNode_0 4 rfl rfl)
theorem dJ9_replacementTreeNode_5 : decode cJ9_replacementTreeNode 5 = .ok (.getfield 168, 3) := dk_180 0 168 (dk_at dksJ9_replacementTreeNode_0 5 rfl rfl)
theorem dJ9_replacementTreeNode_8 : decode cJ9_replacementTreeNode 8 = .ok (.aload_n 1, 1) := dk_43 (dk_at dksJ9_replacementTreeNode_0 8 rfl rfl)
theorem dJ9_replacementTreeNode_9 : decode cJ9_replacementTreeNode 9 = .ok (.getfield 170, 3) := dk_180 0 170 (dk_at dksJ9_replacementTreeNode_0 9 rfl rfl)
theorem dJ9_replacementTreeNode_12 : decode cJ9_replacementTreeNode 12 = .ok (.aload_n 1, 1) := dk_43 (dk_at dksJ9_replacementTreeNode_0 12 rfl rfl)
theorem dJ9_replacementTreeNode_13 : decode cJ9_replacementTreeNode 13 = .ok (.getfield 162, 3) := dk_180 0 162 (dk_at dksJ9_replacementTreeNode_0 13 rfl rfl)
theorem dJ9_replacementTreeNode_16 : decode cJ9_replacementTreeNode 16 = .ok (.aload_n 2, 1) := dk_44 (dk_at dksJ9_replacementTreeNode_0 16 rfl rfl)
theorem dJ9_replacementTreeNode_17 : decode cJ9_replacementTreeNode 17 = .ok (.invokespecial 378, 3) := dk_183 1 122 (dk_at dksJ9_replacementTreeNode_0 17 rfl rfl)
theorem dJ9_replacementTreeNode_20 : decode cJ9_replacementTreeNode 20 = .ok (.areturn, 1) := dk_176 (dk_at dksJ9_replacementTreeNode_0 20 rfl rfl)
abbrev cJ9_afterNodeAccess : ByteArray := prog_39_method_51_code
def yJ9_afterNodeAccess : MethodName := ⟨RJ9, "afterNodeAccess", "(Ljava/util/HashMap$Node;)V"⟩
theorem dJ9_afterNodeAccess_0 : decode cJ9_afterNodeAccess 0 = .ok (.return_, 1) := by decide +kernel
abbrev cJ9_afterNodeInsertion : ByteArray := prog_39_method_52_code
def yJ9_afterNodeInsertion : MethodName := ⟨RJ9, "afterNodeInsertion", "(Z)V"⟩
theorem dJ9_afterNodeInsertion_0 : decode cJ9_afterNodeInsertion 0 = .ok (.return_, 1) := by decide +kernel
abbrev cJ9_clear : ByteArray := prog_39_method_22_code
def yJ9_clear : MethodName := ⟨RJ9, "clear", "()V"⟩
def dkwJ9_clear_2 : List UInt8 := [167, 255, 243, 177]
abbrev dktJ9_clear_2 : List UInt8 := dkwJ9_clear_2 ++ []
def dkwJ9_clear_1 : List UInt8 := [158, 0, 26, 42, 3, 181, 0, 156, 3, 61, 28, 43, 190, 162, 0, 13, 43, 28, 1, 83, 132, 2, 1]
abbrev dktJ9_clear_1 : List UInt8 := dkwJ9_clear_1 ++ dktJ9_clear_2
def dkwJ9_clear_0 : List UInt8 := [42, 89, 180, 0, 202, 4, 96, 181, 0, 202, 42, 180, 0, 105, 89, 76, 198, 0, 33, 42, 180, 0, 156]
abbrev dktJ9_clear_0 : List UInt8 := dkwJ9_clear_0 ++ dktJ9_clear_1
theorem dksJ9_clear_0 : cJ9_clear.data.toList.drop 0 = dktJ9_clear_0 := by decide +kernel
theorem dksJ9_clear_1 : cJ9_clear.data.toList.drop 23 = dktJ9_clear_1 := dk_seg dksJ9_clear_0 23 rfl rfl
theorem dksJ9_clear_2 : cJ9_clear.data.toList.drop 46 = dktJ9_clear_2 := dk_seg dksJ9_clear_1 23 rfl rfl
theorem dJ9_clear_0 : decode cJ9_clear 0 = .ok (.aload_n 0, 1) := dk_42 (dk_at dksJ9_clear_0 0 rfl rfl)
theorem dJ9_clear_1 : decode cJ9_clear 1 = .ok (.dup, 1) := dk_89 (dk_at dksJ9_clear_0 1 rfl rfl)
theorem dJ9_clear_2 : decode cJ9_clear 2 = .ok (.getfield 202, 3) := dk_180 0 202 (dk_at dksJ9_clear_0 2 rfl rfl)
theorem dJ9_clear_5 : decode cJ9_clear 5 = .ok (.iconst 1, 1) := dk_4 (dk_at dksJ9_clear_0 5 rfl rfl)
theorem dJ9_clear_6 : decode cJ9_clear 6 = .ok (.iadd, 1) := dk_96 (dk_at dksJ9_clear_0 6 rfl rfl)
theorem dJ9_clear_7 : decode cJ9_clear 7 = .ok (.putfield 202, 3) := dk_181 0 202 (dk_at dksJ9_clear_0 7 rfl rfl)
theorem dJ9_clear_10 : decode cJ9_clear 10 = .ok (.aload_n 0, 1) := dk_42 (dk_at dksJ9_clear_0 10 rfl rfl)
theorem dJ9_clear_11 : decode cJ9_clear 11 = .ok (.getfield 105, 3) := dk_180 0 105 (dk_at dksJ9_clear_0 11 rfl rfl)
theorem dJ9_clear_14 : decode cJ9_clear 14 = .ok (.dup, 1) := dk_89 (dk_at dksJ9_clear_0 14 rfl rfl)
theorem dJ9_clear_15 : decode cJ9_clear 15 = .ok (.astore_n 1, 1) := dk_76 (dk_at dksJ9_clear_0 15 rfl rfl)
theorem dJ9_clear_16 : decode cJ9_clear 16 = .ok (.ifnull 33, 3) := dk_198 0 33 (dk_at dksJ9_clear_0 16 rfl rfl)
theorem dJ9_clear_19 : decode cJ9_clear 19 = .ok (.aload_n 0, 1) := dk_42 (dk_at dksJ9_clear_0 19 rfl rfl)
theorem dJ9_clear_20 : decode cJ9_clear 20 = .ok (.getfield 156, 3) := dk_180 0 156 (dk_at dksJ9_clear_0 20 rfl rfl)
theorem dJ9_clear_23 : decode cJ9_clear 23 = .ok (.ifCond .le 26, 3) := dk_158 0 26 (dk_at dksJ9_clear_1 0 rfl rfl)
theorem dJ9_clear_26 : decode cJ9_clear 26 = .ok (.aload_n 0, 1) := dk_42 (dk_at dksJ9_clear_1 3 rfl rfl)
theorem dJ9_clear_27 : decode cJ9_clear 27 = .ok (.iconst 0, 1) := dk_3 (dk_at dksJ9_clear_1 4 rfl rfl)
theorem dJ9_clear_28 : decode cJ9_clear 28 = .ok (.putfield 156, 3) := dk_181 0 156 (dk_at dksJ9_clear_1 5 rfl rfl)
theorem dJ9_clear_31 : decode cJ9_clear 31 = .ok (.iconst 0, 1) := dk_3 (dk_at dksJ9_clear_1 8 rfl rfl)
theorem dJ9_clear_32 : decode cJ9_clear 32 = .ok (.istore_n 2, 1) := dk_61 (dk_at dksJ9_clear_1 9 rfl rfl)
theorem dJ9_clear_33 : decode cJ9_clear 33 = .ok (.iload_n 2, 1) := dk_28 (dk_at dksJ9_clear_1 10 rfl rfl)
theorem dJ9_clear_34 : decode cJ9_clear 34 = .ok (.aload_n 1, 1) := dk_43 (dk_at dksJ9_clear_1 11 rfl rfl)
theorem dJ9_clear_35 : decode cJ9_clear 35 = .ok (.arraylength, 1) := dk_190 (dk_at dksJ9_clear_1 12 rfl rfl)
theorem dJ9_clear_36 : decode cJ9_clear 36 = .ok (.if_icmp .ge 13, 3) := dk_162 0 13 (dk_at dksJ9_clear_1 13 rfl rfl)
theorem dJ9_clear_39 : decode cJ9_clear 39 = .ok (.aload_n 1, 1) := dk_43 (dk_at dksJ9_clear_1 16 rfl rfl)
theorem dJ9_clear_40 : decode cJ9_clear 40 = .ok (.iload_n 2, 1) := dk_28 (dk_at dksJ9_clear_1 17 rfl rfl)
theorem dJ9_clear_41 : decode cJ9_clear 41 = .ok (.aconst_null, 1) := dk_1 (dk_at dksJ9_clear_1 18 rfl rfl)
theorem dJ9_clear_42 : decode cJ9_clear 42 = .ok (.aastore, 1) := dk_83 (dk_at dksJ9_clear_1 19 rfl rfl)
theorem dJ9_clear_43 : decode cJ9_clear 43 = .ok (.iinc 2 1, 3) := dk_132 2 1 (dk_at dksJ9_clear_1 20 rfl rfl)
theorem dJ9_clear_46 : decode cJ9_clear 46 = .ok (.goto (-13), 3) := dk_167 255 243 (dk_at dksJ9_clear_2 0 rfl rfl)
theorem dJ9_clear_49 : decode cJ9_clear 49 = .ok (.return_, 1) := dk_177 (dk_at dksJ9_clear_2 3 rfl rfl)
abbrev cJ9_entrySet : ByteArray := prog_39_method_29_code
def yJ9_entrySet : MethodName := ⟨RJ9, "entrySet", "()Ljava/util/Set;"⟩
def dkwJ9_entrySet_1 : List UInt8 := [167, 0, 4, 43, 176]
abbrev dktJ9_entrySet_1 : List UInt8 := dkwJ9_entrySet_1 ++ []
def dkwJ9_entrySet_0 : List UInt8 := [42, 180, 1, 10, 89, 76, 199, 0, 19, 42, 187, 1, 12, 89, 42, 183, 1, 14, 90, 181, 1, 10]
abbrev dktJ9_entrySet_0 : List UInt8 := dkwJ9_entrySet_0 ++ dktJ9_entrySet_1
theorem dksJ9_entrySet_0 : cJ9_entrySet.data.toList.drop 0 = dktJ9_entrySet_0 := by decide +kernel
theorem dksJ9_entrySet_1 : cJ9_entrySet.data.toList.drop 22 = dktJ9_entrySet_1 := dk_seg dksJ9_entrySet_0 22 rfl rfl
theorem dJ9_entrySet_0 : decode cJ9_entrySet 0 = .ok (.aload_n 0, 1) := dk_42 (dk_at dksJ9_entrySet_0 0 rfl rfl)
theorem dJ9_entrySet_1 : decode cJ9_entrySet 1 = .ok (.getfield 266, 3) := dk_180 1 10 (dk_at dksJ9_entrySet_0 1 rfl rfl)
theorem dJ9_entrySet_4 : decode cJ9_entrySet 4 = .ok (.dup, 1) := dk_89 (dk_at dksJ9_entrySet_0 4 rfl rfl)
theorem dJ9_entrySet_5 : decode cJ9_entrySet 5 = .ok (.astore_n 1, 1) := dk_76 (dk_at dksJ9_entrySet_0 5 rfl rfl)
theorem dJ9_entrySet_6 : decode cJ9_entrySet 6 = .ok (.ifnonnull 19, 3) := dk_199 0 19 (dk_at dksJ9_entrySet_0 6 rfl rfl)
theorem dJ9_entrySet_9 : decode cJ9_entrySet 9 = .ok (.aload_n 0, 1) := dk_42 (dk_at dksJ9_entrySet_0 9 rfl rfl)
theorem dJ9_entrySet_10 : decode cJ9_entrySet 10 = .ok (.new 268, 3) := dk_187 1 12 (dk_at dksJ9_entrySet_0 10 rfl rfl)
theorem dJ9_entrySet_13 : decode cJ9_entrySet 13 = .ok (.dup, 1) := dk_89 (dk_at dksJ9_entrySet_0 13 rfl rfl)
theorem dJ9_entrySet_14 : decode cJ9_entrySet 14 = .ok (.aload_n 0, 1) := dk_42 (dk_at dksJ9_entrySet_0 14 rfl rfl)
theorem dJ9_entrySet_15 : decode cJ9_entrySet 15 = .ok (.invokespecial 270, 3) := dk_183 1 14 (dk_at dksJ9_entrySet_0 15 rfl rfl)
theorem dJ9_entrySet_18 : decode cJ9_entrySet 18 = .ok (.dup_x1, 1) := dk_90 (dk_at dksJ9_entrySet_0 18 rfl rfl)
theorem dJ9_entrySet_19 : decode cJ9_entrySet 19 = .ok (.putfield 266, 3) := dk_181 1 10 (dk_at dksJ9_entrySet_0 19 rfl rfl)
theorem dJ9_entrySet_22 : decode cJ9_entrySet 22 = .ok (.goto 4, 3) := dk_167 0 4 (dk_at dksJ9_entrySet_1 0 rfl rfl)
theorem dJ9_entrySet_25 : decode cJ9_entrySet 25 = .ok (.aload_n 1, 1) := dk_43 (dk_at dksJ9_entrySet_1 3 rfl rfl)
theorem dJ9_entrySet_26 : decode cJ9_entrySet 26 = .ok (.areturn, 1) := dk_176 (dk_at dksJ9_entrySet_1 4 rfl rfl)
abbrev cJ9_get : ByteArray := prog_39_method_12_code
def yJ9_get : MethodName := ⟨RJ9, "get", "(Ljava/lang/Object;)Ljava/lang/Object;"⟩
def dkwJ9_get_0 : List UInt8 := [42, 43, 182, 0, 158, 89, 77, 199, 0, 7, 1, 167, 0, 7, 44, 180, 0, 162, 176]
abbrev dktJ9_get_0 : List UInt8 := dkwJ9_get_0 ++ []
theorem dksJ9_get_0 : cJ9_get.data.toList.drop 0 = dktJ9_get_0 := by decide +kernel
theorem dJ9_get_0 : decode cJ9_get 0 = .ok (.aload_n 0, 1) := dk_42 (dk_at dksJ9_get_0 0 rfl rfl)
theorem dJ9_get_1 : decode cJ9_get 1 = .ok (.aload_n 1, 1) := dk_43 (dk_at dksJ9_get_0 1 rfl rfl)
theorem dJ9_get_2 : decode cJ9_get 2 = .ok (.invokevirtual 158, 3) := dk_182 0 158 (dk_at dksJ9_get_0 2 rfl rfl)
theorem dJ9_get_5 : decode cJ9_get 5 = .ok (.dup, 1) := dk_89 (dk_at dksJ9_get_0 5 rfl rfl)
theorem dJ9_get_6 : decode cJ9_get 6 = .ok (.astore_n 2, 1) := dk_77 (dk_at dksJ9_get_0 6 rfl rfl)
theorem dJ9_get_7 : decode cJ9_get 7 = .ok (.ifnonnull 7, 3) := dk_199 0 7 (dk_at dksJ9_get_0 7 rfl rfl)
theorem dJ9_get_10 : decode cJ9_get 10 = .ok (.aconst_null, 1) := dk_1 (dk_at dksJ9_get_0 10 rfl rfl)
theorem dJ9_get_11 : decode cJ9_get 11 = .ok (.goto 7, 3) := dk_167 0 7 (dk_at dksJ9_get_0 11 rfl rfl)
theorem dJ9_get_14 : decode cJ9_get 14 = .ok (.aload_n 2, 1) := dk_44 (dk_at dksJ9_get_0 14 rfl rfl)
theorem dJ9_get_15 : decode cJ9_get 15 = .ok (.getfield 162, 3) := dk_180 0 162 (dk_at dksJ9_get_0 15 rfl rfl)
theorem dJ9_get_18 : decode cJ9_get 18 = .ok (.areturn, 1) := dk_176 (dk_at dksJ9_get_0 18 rfl rfl)
abbrev cJ9_values : ByteArray := prog_39_method_28_code
def yJ9_values : MethodName := ⟨RJ9, "values", "()Ljava/util/Collection;"⟩
def dkwJ9_values_1 : List UInt8 := [176]
abbrev dktJ9_values_1 : List UInt8 := dkwJ9_values_1 ++ []
def dkwJ9_values_0 : List UInt8 := [42, 180, 1, 3, 76, 43, 199, 0, 17, 187, 1, 7, 89, 42, 183, 1, 9, 76, 42, 43, 181, 1, 3, 43]
abbrev dktJ9_values_0 : List UInt8 := dkwJ9_values_0 ++ dktJ9_values_1
theorem dksJ9_values_0 : cJ9_values.data.toList.drop 0 = dktJ9_values_0 := by decide +kernel
theorem dksJ9_values_1 : cJ9_values.data.toList.drop 24 = dktJ9_values_1 := dk_seg dksJ9_values_0 24 rfl rfl
theorem dJ9_values_0 : decode cJ9_values 0 = .ok (.aload_n 0, 1) := dk_42 (dk_at dksJ9_values_0 0 rfl rfl)
theorem dJ9_values_1 : decode cJ9_values 1 = .ok (.getfield 259, 3) := dk_180 1 3 (dk_at dksJ9_values_0 1 rfl rfl)
theorem dJ9_values_4 : decode cJ9_values 4 = .ok (.astore_n 1, 1) := dk_76 (dk_at dksJ9_values_0 4 rfl rfl)
theorem dJ9_values_5 : decode cJ9_values 5 = .ok (.aload_n 1, 1) := dk_43 (dk_at dksJ9_values_0 5 rfl rfl)
theorem dJ9_values_6 : decode cJ9_values 6 = .ok (.ifnonnull 17, 3) := dk_199 0 17 (dk_at dksJ9_values_0 6 rfl rfl)
theorem dJ9_values_9 : decode cJ9_values 9 = .ok (.new 263, 3) := dk_187 1 7 (dk_at dksJ9_values_0 9 rfl rfl)
theorem dJ9_values_12 : decode cJ9_values 12 = .ok (.dup, 1) := dk_89 (dk_at dksJ9_values_0 12 rfl rfl)
theorem dJ9_values_13 : decode cJ9_values 13 = .ok (.aload_n 0, 1) := dk_42 (dk_at dksJ9_values_0 13 rfl rfl)
theorem dJ9_values_14 : decode cJ9_values 14 = .ok (.invokespecial 265, 3) := dk_183 1 9 (dk_at dksJ9_values_0 14 rfl rfl)
theorem dJ9_values_17 : decode cJ9_values 17 = .ok (.astore_n 1, 1) := dk_76 (dk_at dksJ9_values_0 17 rfl rfl)
theorem dJ9_values_18 : decode cJ9_values 18 = .ok (.aload_n 0, 1) := dk_42 (dk_at dksJ9_values_0 18 rfl rfl)
theorem dJ9_values_19 : decode cJ9_values 19 = .ok (.aload_n 1, 1) := dk_43 (dk_at dksJ9_values_0 19 rfl rfl)
theorem dJ9_values_20 : decode cJ9_values 20 = .ok (.putfield 259, 3) := dk_181 1 3 (dk_at dksJ9_values_0 20 rfl rfl)
theorem dJ9_values_23 : decode cJ9_values 23 = .ok (.aload_n 1, 1) := dk_43 (dk_at dksJ9_values_0 23 rfl rfl)
theorem dJ9_values_24 : decode cJ9_values 24 = .ok (.areturn, 1) := dk_176 (dk_at dksJ9_values_1 0 rfl rfl)
theorem q62 : (Jvm.Cond.initialized "java/util/HashMap") ∈ lw_all := lw_g (lw_at lw_m1 15 rfl) rfl
theorem q283 : (Jvm.Cond.instantiable "java/util/HashMap" (8 : Nat)) ∈ lw_all := lw_g (lw_at lw_m1 236 rfl) rfl
theorem q285 : (Jvm.Cond.instanceMethod ({ cls := "java/util/HashMap", name := "<init>", desc := "()V" } : Jvm.MethodName)) ∈ lw_all := lw_g (lw_at lw_m1 238 rfl) rfl
theorem q286 : (Jvm.Cond.code ({ cls := "java/util/HashMap", name := "<init>", desc := "()V" } : Jvm.MethodName) prog_39_method_7_code (1 : Nat) (Option.none : Option Jvm.ClassFile.FieldType)) ∈ lw_all := lw_g (lw_at lw_m1 239 rfl) rfl
theorem q287 : (Jvm.Cond.methodLink "java/util/HashMap" (43 : Nat) ({ cls := "java/util/AbstractMap", name := "<init>", desc := "()V" } : Jvm.MethodName)) ∈ lw_all := lw_g (lw_at lw_m2 0 rfl) rfl
theorem q291 : (Jvm.Cond.constantFloat "java/util/HashMap" (92 : Nat) (1061158912 : UInt32)) ∈ lw_all := lw_g (lw_at lw_m2 4 rfl) rfl
theorem q293 : (Jvm.Cond.fieldLink "java/util/HashMap" (105 : Nat) "java/util/HashMap" "table" "[Ljava/util/HashMap$Node;") ∈ lw_all := lw_g (lw_at lw_m2 6 rfl) rfl
theorem q294 : (Jvm.Cond.fieldLink "java/util/HashMap" (266 : Nat) "java/util/HashMap" "entrySet" "Ljava/util/Set;") ∈ lw_all := lw_g (lw_at lw_m2 7 rfl) rfl
theorem q296 : (Jvm.Cond.fieldLink "java/util/HashMap" (156 : Nat) "java/util/HashMap" "size" "I") ∈ lw_all := lw_g (lw_at lw_m2 9 rfl) rfl
theorem q298 : (Jvm.Cond.fieldLink "java/util/HashMap" (202 : Nat) "java/util/HashMap" "modCount" "I") ∈ lw_all := lw_g (lw_at lw_m2 11 rfl) rfl
theorem q299 : (Jvm.Cond.fieldLink "java/util/HashMap" (88 : Nat) "java/util/HashMap" "threshold" "I") ∈ lw_all := lw_g (lw_at lw_m2 12 rfl) rfl
theorem q300 : (Jvm.Cond.fieldLink "java/util/HashMap" (81 : Nat) "java/util/HashMap" "loadFactor" "F") ∈ lw_all := lw_g (lw_at lw_m2 13 rfl) rfl
theorem q301 : (Jvm.Cond.fieldLink "java/util/HashMap" (259 : Nat) "java/util/HashMap" "values" "Ljava/util/Collection;") ∈ lw_all := lw_g (lw_at lw_m2 14 rfl) rfl
theorem q302 : (Jvm.Cond.sameField "java/util/HashMap" "java/util/AbstractMap" "values" "Ljava/util/Collection;") ∈ lw_all := lw_g (lw_at lw_m2 15 rfl) rfl
theorem q303 : (Jvm.Cond.lays "java/util/HashMap" "java/util/HashMap" "table" "[Ljava/util/HashMap$Node;") ∈ lw_all := lw_g (lw_at lw_m2 16 rfl) rfl
theorem q304 : (Jvm.Cond.soleField "java/util/HashMap" "table") ∈ lw_all := lw_g (lw_at lw_m2 17 rfl) rfl
theorem q305 : (Jvm.Cond.lays "java/util/HashMap" "java/util/HashMap" "entrySet" "Ljava/util/Set;") ∈ lw_all := lw_g (lw_at lw_m2 18 rfl) rfl
theorem q306 : (Jvm.Cond.soleField "java/util/HashMap" "entrySet") ∈ lw_all := lw_g (lw_at lw_m2 19 rfl) rfl
theorem q307 : (Jvm.Cond.lays "java/util/HashMap" "java/util/HashMap" "size" "I") ∈ lw_all := lw_g (lw_at lw_m2 20 rfl) rfl
theorem q308 : (Jvm.Cond.soleField "java/util/HashMap" "size") ∈ lw_all := lw_g (lw_at lw_m2 21 rfl) rfl
theorem q309 : (Jvm.Cond.lays "java/util/HashMap" "java/util/HashMap" "modCount" "I") ∈ lw_all := lw_g (lw_at lw_m2 22 rfl) rfl
theorem q310 : (Jvm.Cond.soleField "java/util/HashMap" "modCount") ∈ lw_all := lw_g (lw_at lw_m2 23 rfl) rfl
theorem q311 : (Jvm.Cond.lays "java/util/HashMap" "java/util/HashMap" "threshold" "I") ∈ lw_all := lw_g (lw_at lw_m2 24 rfl) rfl
theorem q312 : (Jvm.Cond.soleField "java/util/HashMap" "threshold") ∈ lw_all := lw_g (lw_at lw_m2 25 rfl) rfl
theorem q313 : (Jvm.Cond.laysFinal "java/util/HashMap" "java/util/HashMap" "loadFactor" "F") ∈ lw_all := lw_g (lw_at lw_m2 26 rfl) rfl
theorem q314 : (Jvm.Cond.soleField "java/util/HashMap" "loadFactor") ∈ lw_all := lw_g (lw_at lw_m2 27 rfl) rfl
theorem q315 : (Jvm.Cond.lays "java/util/HashMap" "java/util/AbstractMap" "keySet" "Ljava/util/Set;") ∈ lw_all := lw_g (lw_at lw_m2 28 rfl) rfl
theorem q317 : (Jvm.Cond.lays "java/util/HashMap" "java/util/AbstractMap" "values" "Ljava/util/Collection;") ∈ lw_all := lw_g (lw_at lw_m2 30 rfl) rfl
theorem q319 : (Jvm.Cond.superclass "java/util/HashMap" "java/util/AbstractMap") ∈ lw_all := lw_g (lw_at lw_m2 32 rfl) rfl
theorem q566 : (Jvm.Cond.selects "java/util/HashMap" ({ cls := "java/lang/Object", name := "getClass", desc := "()Ljava/lang/Class;" } : Jvm.MethodName) ({ cls := "java/lang/Object", name := "getClass", desc := "()Ljava/lang/Class;" } : Jvm.MethodName)) ∈ lw_all := lw_g (lw_at lw_m3 39 rfl) rfl
theorem q681 : (Jvm.Cond.instanceMethod ({ cls := "java/util/HashMap", name := "containsKey", desc := "(Ljava/lang/Object;)Z" } : Jvm.MethodName)) ∈ lw_all := lw_g (lw_at lw_m3 154 rfl) rfl
theorem q682 : (Jvm.Cond.selects "java/util/HashMap" ({ cls := "java/util/HashMap", name := "containsKey", desc := "(Ljava/lang/Object;)Z" } : Jvm.MethodName) ({ cls := "java/util/HashMap", name := "containsKey", desc := "(Ljava/lang/Object;)Z" } : Jvm.MethodName)) ∈ lw_all := lw_g (lw_at lw_m3 155 rfl) rfl
theorem q683 : (Jvm.Cond.code ({ cls := "java/util/HashMap", name := "containsKey", desc := "(Ljava/lang/Object;)Z" } : Jvm.MethodName) prog_39_method_14_code (2 : Nat) (Option.some Jvm.ClassFile.FieldType.boolean)) ∈ lw_all := lw_g (lw_at lw_m3 156 rfl) rfl
theorem q684 : (Jvm.Cond.methodLink "java/util/HashMap" (158 : Nat) ({ cls := "java/util/HashMap", name := "getNode", desc := "(Ljava/lang/Object;)Ljava/util/HashMap$Node;" } : Jvm.MethodName)) ∈ lw_all := lw_g (lw_at lw_m3 157 rfl) rfl
theorem q685 : (Jvm.Cond.instanceMethod ({ cls := "java/util/HashMap", name := "getNode", desc := "(Ljava/lang/Object;)Ljava/util/HashMap$Node;" } : Jvm.MethodName)) ∈ lw_all := lw_g (lw_at lw_m3 158 rfl) rfl
theorem q686 : (Jvm.Cond.selects "java/util/HashMap" ({ cls := "java/util/HashMap", name := "getNode", desc := "(Ljava/lang/Object;)Ljava/util/HashMap$Node;" } : Jvm.MethodName) ({ cls := "java/util/HashMap", name := "getNode", desc := "(Ljava/lang/Object;)Ljava/util/HashMap$Node;" } : Jvm.MethodName)) ∈ lw_all := lw_g (lw_at lw_m3 159 rfl) rfl
theorem q687 : (Jvm.Cond.code ({ cls := "java/util/HashMap", name := "getNode", desc := "(Ljava/lang/Object;)Ljava/util/HashMap$Node;" } : Jvm.MethodName) prog_39_method_13_code (8 : Nat) (Option.some (Jvm.ClassFile.FieldType.object "java/util/HashMap$Node"))) ∈ lw_all := lw_g (lw_at lw_m3 160 rfl) rfl
theorem q688 : (Jvm.Cond.methodLink "java/util/HashMap" (149 : Nat) ({ cls := "java/util/HashMap", name := "hash", desc := "(Ljava/lang/Object;)I" } : Jvm.MethodName)) ∈ lw_all := lw_g (lw_at lw_m3 161 rfl) rfl
theorem q689 : (Jvm.Cond.static ({ cls := "java/util/HashMap", name := "hash", desc := "(Ljava/lang/Object;)I" } : Jvm.MethodName)) ∈ lw_all := lw_g (lw_at lw_m3 162 rfl) rfl
theorem q690 : (Jvm.Cond.code ({ cls := "java/util/HashMap", name := "hash", desc := "(Ljava/lang/Object;)I" } : Jvm.MethodName) prog_39_method_1_code (2 : Nat) (Option.some Jvm.ClassFile.FieldType.int)) ∈ lw_all := lw_g (lw_at lw_m3 163 rfl) rfl
theorem q692 : (Jvm.Cond.methodLink "java/util/HashMap" (1 : Nat) ({ cls := "java/lang/Object", name := "hashCode", desc := "()I" } : Jvm.MethodName)) ∈ lw_all := lw_g (lw_at lw_m3 165 rfl) rfl
theorem q717 : (Jvm.Cond.methodLink "java/util/HashMap" (173 : Nat) ({ cls := "java/lang/Object", name := "equals", desc := "(Ljava/lang/Object;)Z" } : Jvm.MethodName)) ∈ lw_all := lw_g (lw_at lw_m3 190 rfl) rfl
theorem q718 : (Jvm.Cond.classLink "java/util/HashMap" (180 : Nat) "java/util/HashMap$TreeNode") ∈ lw_all := lw_g (lw_at lw_m3 191 rfl) rfl
theorem q719 : (Jvm.Cond.methodLink "java/util/HashMap" (182 : Nat) ({ cls := "java/util/HashMap$TreeNode", name := "getTreeNode", desc := "(ILjava/lang/Object;)Ljava/util/HashMap$TreeNode;" } : Jvm.MethodName)) ∈ lw_all := lw_g (lw_at lw_m3 192 rfl) rfl
theorem q733 : (Jvm.Cond.static ({ cls := "java/util/HashMap", name := "comparableClassFor", desc := "(Ljava/lang/Object;)Ljava/lang/Class;" } : Jvm.MethodName)) ∈ lw_all := lw_g (lw_at lw_m3 206 rfl) rfl
theorem q734 : (Jvm.Cond.code ({ cls := "java/util/HashMap", name := "comparableClassFor", desc := "(Ljava/lang/Object;)Ljava/lang/Class;" } : Jvm.MethodName) prog_39_method_2_code (9 : Nat) (Option.some (Jvm.ClassFile.FieldType.object "java/lang/Class"))) ∈ lw_all := lw_g (lw_at lw_m3 207 rfl) rfl
theorem q735 : (Jvm.Cond.classLink "java/util/HashMap" (7 : Nat) "java/lang/Comparable") ∈ lw_all := lw_g (lw_at lw_m3 208 rfl) rfl
theorem q736 : (Jvm.Cond.methodLink "java/util/HashMap" (9 : Nat) ({ cls := "java/lang/Object", name := "getClass", desc := "()Ljava/lang/Class;" } : Jvm.MethodName)) ∈ lw_all := lw_g (lw_at lw_m3 209 rfl) rfl
theorem q738 : (Jvm.Cond.static ({ cls := "java/util/HashMap", name := "compareComparables", desc := "(Ljava/lang/Class;Ljava/lang/Object;Ljava/lang/Object;)I" } : Jvm.MethodName)) ∈ lw_all := lw_g (lw_at lw_m3 211 rfl) rfl
theorem q739 : (Jvm.Cond.code ({ cls := "java/util/HashMap", name := "compareComparables", desc := "(Ljava/lang/Class;Ljava/lang/Object;Ljava/lang/Object;)I" } : Jvm.MethodName) prog_39_method_3_code (3 : Nat) (Option.some Jvm.ClassFile.FieldType.int)) ∈ lw_all := lw_g (lw_at lw_m3 212 rfl) rfl
theorem q740 : (Jvm.Cond.interfaceEntry "java/util/HashMap" (30 : Nat)) ∈ lw_tbl := lw_at lw_m3 213 rfl
theorem q741 : (Jvm.Cond.methodLink "java/util/HashMap" (30 : Nat) ({ cls := "java/lang/Comparable", name := "compareTo", desc := "(Ljava/lang/Object;)I" } : Jvm.MethodName)) ∈ lw_all := lw_g (lw_at lw_m3 214 rfl) rfl
theorem q776 : (Jvm.Cond.instanceMethod ({ cls := "java/util/HashMap", name := "size", desc := "()I" } : Jvm.MethodName)) ∈ lw_all := lw_g (lw_at lw_m4 9 rfl) rfl
theorem q777 : (Jvm.Cond.selects "java/util/HashMap" ({ cls := "java/util/HashMap", name := "size", desc := "()I" } : Jvm.MethodName) ({ cls := "java/util/HashMap", name := "size", desc := "()I" } : Jvm.MethodName)) ∈ lw_all := lw_g (lw_at lw_m4 10 rfl) rfl
theorem q778 : (Jvm.Cond.code ({ cls := "java/util/HashMap", name := "size", desc := "()I" } : Jvm.MethodName) prog_39_method_10_code (1 : Nat) (Option.some Jvm.ClassFile.FieldType.int)) ∈ lw_all := lw_g (lw_at lw_m4 11 rfl) rfl
theorem q782 : (Jvm.Cond.instanceMethod ({ cls := "java/util/HashMap", name := "put", desc := "(Ljava/lang/Object;Ljava/lang/Object;)Ljava/lang/Object;" } : Jvm.MethodName)) ∈ lw_all := lw_g (lw_at lw_m4 15 rfl) rfl
theorem q783 : (Jvm.Cond.selects "java/util/HashMap" ({ cls := "java/util/HashMap", name := "put", desc := "(Ljava/lang/Object;Ljava/lang/Object;)Ljava/lang/Object;" } : Jvm.MethodName) ({ cls := "java/util/HashMap", name := "put", desc := "(Ljava/lang/Object;Ljava/lang/Object;)Ljava/lang/Object;" } : Jvm.MethodName)) ∈ lw_all := lw_g (lw_at lw_m4 16 rfl) rfl
theorem q784 : (Jvm.Cond.code ({ cls := "java/util/HashMap", name := "put", desc := "(Ljava/lang/Object;Ljava/lang/Object;)Ljava/lang/Object;" } : Jvm.MethodName) prog_39_method_15_code (3 : Nat) (Option.some (Jvm.ClassFile.FieldType.object "java/lang/Object"))) ∈ lw_all := lw_g (lw_at lw_m4 17 rfl) rfl
theorem q785 : (Jvm.Cond.methodLink "java/util/HashMap" (152 : Nat) ({ cls := "java/util/HashMap", name := "putVal", desc := "(ILjava/lang/Object;Ljava/lang/Object;ZZ)Ljava/lang/Object;" } : Jvm.MethodName)) ∈ lw_all := lw_g (lw_at lw_m4 18 rfl) rfl
theorem q786 : (Jvm.Cond.instanceMethod ({ cls := "java/util/HashMap", name := "putVal", desc := "(ILjava/lang/Object;Ljava/lang/Object;ZZ)Ljava/lang/Object;" } : Jvm.MethodName)) ∈ lw_all := lw_g (lw_at lw_m4 19 rfl) rfl
theorem q787 : (Jvm.Cond.selects "java/util/HashMap" ({ cls := "java/util/HashMap", name := "putVal", desc := "(ILjava/lang/Object;Ljava/lang/Object;ZZ)Ljava/lang/Object;" } : Jvm.MethodName) ({ cls := "java/util/HashMap", name := "putVal", desc := "(ILjava/lang/Object;Ljava/lang/Object;ZZ)Ljava/lang/Object;" } : Jvm.MethodName)) ∈ lw_all := lw_g (lw_at lw_m4 20 rfl) rfl
theorem q788 : (Jvm.Cond.code ({ cls := "java/util/HashMap", name := "putVal", desc := "(ILjava/lang/Object;Ljava/lang/Object;ZZ)Ljava/lang/Object;" } : Jvm.MethodName) prog_39_method_16_code (13 : Nat) (Option.some (Jvm.ClassFile.FieldType.object "java/lang/Object"))) ∈ lw_all := lw_g (lw_at lw_m4 21 rfl) rfl
theorem q789 : (Jvm.Cond.methodLink "java/util/HashMap" (117 : Nat) ({ cls := "java/util/HashMap", name := "resize", desc := "()[Ljava/util/HashMap$Node;" } : Jvm.MethodName)) ∈ lw_all := lw_g (lw_at lw_m4 22 rfl) rfl
theorem q790 : (Jvm.Cond.instanceMethod ({ cls := "java/util/HashMap", name := "resize", desc := "()[Ljava/util/HashMap$Node;" } : Jvm.MethodName)) ∈ lw_all := lw_g (lw_at lw_m4 23 rfl) rfl
theorem q791 : (Jvm.Cond.selects "java/util/HashMap" ({ cls := "java/util/HashMap", name := "resize", desc := "()[Ljava/util/HashMap$Node;" } : Jvm.MethodName) ({ cls := "java/util/HashMap", name := "resize", desc := "()[Ljava/util/HashMap$Node;" } : Jvm.MethodName)) ∈ lw_all := lw_g (lw_at lw_m4 24 rfl) rfl
theorem q792 : (Jvm.Cond.code ({ cls := "java/util/HashMap", name := "resize", desc := "()[Ljava/util/HashMap$Node;" } : Jvm.MethodName) prog_39_method_17_code (14 : Nat) (Option.some (Jvm.ClassFile.FieldType.array (Jvm.ClassFile.FieldType.object "java/util/HashMap$Node")))) ∈ lw_all := lw_g (lw_at lw_m4 25 rfl) rfl
theorem q793 : (Jvm.Cond.constant "java/util/HashMap" (42 : Nat) (1073741824 : Int32)) ∈ lw_all := lw_g (lw_at lw_m4 26 rfl) rfl
theorem q794 : (Jvm.Cond.constant "java/util/HashMap" (209 : Nat) (2147483647 : Int32)) ∈ lw_all := lw_g (lw_at lw_m4 27 rfl) rfl
theorem q795 : (Jvm.Cond.constantFloat "java/util/HashMap" (210 : Nat) (1317011456 : UInt32)) ∈ lw_all := lw_g (lw_at lw_m4 28 rfl) rfl
theorem q796 : (Jvm.Cond.classLink "java/util/HashMap" (163 : Nat) "java/util/HashMap$Node") ∈ lw_all := lw_g (lw_at lw_m4 29 rfl) rfl
theorem q798 : (Jvm.Cond.methodLink "java/util/HashMap" (211 : Nat) ({ cls := "java/util/HashMap$TreeNode", name := "split", desc := "(Ljava/util/HashMap;[Ljava/util/HashMap$Node;II)V" } : Jvm.MethodName)) ∈ lw_all := lw_g (lw_at lw_m4 31 rfl) rfl
theorem q808 : (Jvm.Cond.instanceMethod ({ cls := "java/util/HashMap", name := "replacementNode", desc := "(Ljava/util/HashMap$Node;Ljava/util/HashMap$Node;)Ljava/util/HashMap$Node;" } : Jvm.MethodName)) ∈ lw_all := lw_g (lw_at lw_m4 41 rfl) rfl
theorem q809 : (Jvm.Cond.selects "java/util/HashMap" ({ cls := "java/util/HashMap", name := "replacementNode", desc := "(Ljava/util/HashMap$Node;Ljava/util/HashMap$Node;)Ljava/util/HashMap$Node;" } : Jvm.MethodName) ({ cls := "java/util/HashMap", name := "replacementNode", desc := "(Ljava/util/HashMap$Node;Ljava/util/HashMap$Node;)Ljava/util/HashMap$Node;" } : Jvm.MethodName)) ∈ lw_all := lw_g (lw_at lw_m4 42 rfl) rfl
theorem q810 : (Jvm.Cond.code ({ cls := "java/util/HashMap", name := "replacementNode", desc := "(Ljava/util/HashMap$Node;Ljava/util/HashMap$Node;)Ljava/util/HashMap$Node;" } : Jvm.MethodName) prog_39_method_47_code (3 : Nat) (Option.some (Jvm.ClassFile.FieldType.object "java/util/HashMap$Node"))) ∈ lw_all := lw_g (lw_at lw_m4 43 rfl) rfl
theorem q812 : (Jvm.Cond.methodLink "java/util/HashMap" (375 : Nat) ({ cls := "java/util/HashMap$Node", name := "<init>", desc := "(ILjava/lang/Object;Ljava/lang/Object;Ljava/util/HashMap$Node;)V" } : Jvm.MethodName)) ∈ lw_all := lw_g (lw_at lw_m4 45 rfl) rfl
theorem q819 : (Jvm.Cond.fieldLink "java/util/HashMap" (168 : Nat) "java/util/HashMap$Node" "hash" "I") ∈ lw_all := lw_g (lw_at lw_m4 52 rfl) rfl
theorem q823 : (Jvm.Cond.fieldLink "java/util/HashMap" (170 : Nat) "java/util/HashMap$Node" "key" "Ljava/lang/Object;") ∈ lw_all := lw_g (lw_at lw_m4 56 rfl) rfl
theorem q826 : (Jvm.Cond.fieldLink "java/util/HashMap" (162 : Nat) "java/util/HashMap$Node" "value" "Ljava/lang/Object;") ∈ lw_all := lw_g (lw_at lw_m4 59 rfl) rfl
theorem q832 : (Jvm.Cond.fieldLink "java/util/HashMap" (177 : Nat) "java/util/HashMap$Node" "next" "Ljava/util/HashMap$Node;") ∈ lw_all := lw_g (lw_at lw_m4 65 rfl) rfl
theorem q833 : (Jvm.Cond.fieldLink "java/util/HashMap" (223 : Nat) "java/util/HashMap$TreeNode" "next" "Ljava/util/HashMap$Node;") ∈ lw_all := lw_g (lw_at lw_m4 66 rfl) rfl
theorem q861 : (Jvm.Cond.methodLink "java/util/HashMap" (186 : Nat) ({ cls := "java/util/HashMap", name := "newNode", desc := "(ILjava/lang/Object;Ljava/lang/Object;Ljava/util/HashMap$Node;)Ljava/util/HashMap$Node;" } : Jvm.MethodName)) ∈ lw_all := lw_g (lw_at lw_m4 94 rfl) rfl
theorem q862 : (Jvm.Cond.instanceMethod ({ cls := "java/util/HashMap", name := "newNode", desc := "(ILjava/lang/Object;Ljava/lang/Object;Ljava/util/HashMap$Node;)Ljava/util/HashMap$Node;" } : Jvm.MethodName)) ∈ lw_all := lw_g (lw_at lw_m4 95 rfl) rfl
theorem q863 : (Jvm.Cond.selects "java/util/HashMap" ({ cls := "java/util/HashMap", name := "newNode", desc := "(ILjava/lang/Object;Ljava/lang/Object;Ljava/util/HashMap$Node;)Ljava/util/HashMap$Node;" } : Jvm.MethodName) ({ cls := "java/util/HashMap", name := "newNode", desc := "(ILjava/lang/Object;Ljava/lang/Object;Ljava/util/HashMap$Node;)Ljava/util/HashMap$Node;" } : Jvm.MethodName)) ∈ lw_all := lw_g (lw_at lw_m4 96 rfl) rfl
theorem q864 : (Jvm.Cond.code ({ cls := "java/util/HashMap", name := "newNode", desc := "(ILjava/lang/Object;Ljava/lang/Object;Ljava/util/HashMap$Node;)Ljava/util/HashMap$Node;" } : Jvm.MethodName) prog_39_method_46_code (5 : Nat) (Option.some (Jvm.ClassFile.FieldType.object "java/util/HashMap$Node"))) ∈ lw_all := lw_g (lw_at lw_m4 97 rfl) rfl
theorem q865 : (Jvm.Cond.methodLink "java/util/HashMap" (190 : Nat) ({ cls := "java/util/HashMap$TreeNode", name := "putTreeVal", desc := "(Ljava/util/HashMap;[Ljava/util/HashMap$Node;ILjava/lang/Object;Ljava/lang/Object;)Ljava/util/HashMap$TreeNode;" } : Jvm.MethodName)) ∈ lw_all := lw_g (lw_at lw_m4 98 rfl) rfl
theorem q870 : (Jvm.Cond.instanceMethod ({ cls := "java/util/HashMap", name := "newTreeNode", desc := "(ILjava/lang/Object;Ljava/lang/Object;Ljava/util/HashMap$Node;)Ljava/util/HashMap$TreeNode;" } : Jvm.MethodName)) ∈ lw_all := lw_g (lw_at lw_m4 103 rfl) rfl
theorem q871 : (Jvm.Cond.selects "java/util/HashMap" ({ cls := "java/util/HashMap", name := "newTreeNode", desc := "(ILjava/lang/Object;Ljava/lang/Object;Ljava/util/HashMap$Node;)Ljava/util/HashMap$TreeNode;" } : Jvm.MethodName) ({ cls := "java/util/HashMap", name := "newTreeNode", desc := "(ILjava/lang/Object;Ljava/lang/Object;Ljava/util/HashMap$Node;)Ljava/util/HashMap$TreeNode;" } : Jvm.MethodName)) ∈ lw_all := lw_g (lw_at lw_m4 104 rfl) rfl
theorem q872 : (Jvm.Cond.code ({ cls := "java/util/HashMap", name := "newTreeNode", desc := "(ILjava/lang/Object;Ljava/lang/Object;Ljava/util/HashMap$Node;)Ljava/util/HashMap$TreeNode;" } : Jvm.MethodName) prog_39_method_48_code (5 : Nat) (Option.some (Jvm.ClassFile.FieldType.object "java/util/HashMap$TreeNode"))) ∈ lw_all := lw_g (lw_at lw_m4 105 rfl) rfl
theorem q874 : (Jvm.Cond.methodLink "java/util/HashMap" (378 : Nat) ({ cls := "java/util/HashMap$TreeNode", name := "<init>", desc := "(ILjava/lang/Object;Ljava/lang/Object;Ljava/util/HashMap$Node;)V" } : Jvm.MethodName)) ∈ lw_all := lw_g (lw_at lw_m4 107 rfl) rfl
theorem q885 : (Jvm.Cond.fieldLink "java/util/HashMap" (219 : Nat) "java/util/HashMap$TreeNode" "prev" "Ljava/util/HashMap$TreeNode;") ∈ lw_all := lw_g (lw_at lw_m4 118 rfl) rfl
theorem q906 : (Jvm.Cond.methodLink "java/util/HashMap" (194 : Nat) ({ cls := "java/util/HashMap", name := "treeifyBin", desc := "([Ljava/util/HashMap$Node;I)V" } : Jvm.MethodName)) ∈ lw_all := lw_g (lw_at lw_m4 139 rfl) rfl
theorem q907 : (Jvm.Cond.instanceMethod ({ cls := "java/util/HashMap", name := "treeifyBin", desc := "([Ljava/util/HashMap$Node;I)V" } : Jvm.MethodName)) ∈ lw_all := lw_g (lw_at lw_m4 140 rfl) rfl
theorem q908 : (Jvm.Cond.selects "java/util/HashMap" ({ cls := "java/util/HashMap", name := "treeifyBin", desc := "([Ljava/util/HashMap$Node;I)V" } : Jvm.MethodName) ({ cls := "java/util/HashMap", name := "treeifyBin", desc := "([Ljava/util/HashMap$Node;I)V" } : Jvm.MethodName)) ∈ lw_all := lw_g (lw_at lw_m4 141 rfl) rfl
theorem q909 : (Jvm.Cond.code ({ cls := "java/util/HashMap", name := "treeifyBin", desc := "([Ljava/util/HashMap$Node;I)V" } : Jvm.MethodName) prog_39_method_18_code (9 : Nat) (Option.none : Option Jvm.ClassFile.FieldType)) ∈ lw_all := lw_g (lw_at lw_m4 142 rfl) rfl
theorem q910 : (Jvm.Cond.methodLink "java/util/HashMap" (215 : Nat) ({ cls := "java/util/HashMap", name := "replacementTreeNode", desc := "(Ljava/util/HashMap$Node;Ljava/util/HashMap$Node;)Ljava/util/HashMap$TreeNode;" } : Jvm.MethodName)) ∈ lw_all := lw_g (lw_at lw_m4 143 rfl) rfl
theorem q911 : (Jvm.Cond.instanceMethod ({ cls := "java/util/HashMap", name := "replacementTreeNode", desc := "(Ljava/util/HashMap$Node;Ljava/util/HashMap$Node;)Ljava/util/HashMap$TreeNode;" } : Jvm.MethodName)) ∈ lw_all := lw_g (lw_at lw_m4 144 rfl) rfl
theorem q912 : (Jvm.Cond.selects "java/util/HashMap" ({ cls := "java/util/HashMap", name := "replacementTreeNode", desc := "(Ljava/util/HashMap$Node;Ljava/util/HashMap$Node;)Ljava/util/HashMap$TreeNode;" } : Jvm.MethodName) ({ cls := "java/util/HashMap", name := "replacementTreeNode", desc := "(Ljava/util/HashMap$Node;Ljava/util/HashMap$Node;)Ljava/util/HashMap$TreeNode;" } : Jvm.MethodName)) ∈ lw_all := lw_g (lw_at lw_m4 145 rfl) rfl
theorem q913 : (Jvm.Cond.code ({ cls := "java/util/HashMap", name := "replacementTreeNode", desc := "(Ljava/util/HashMap$Node;Ljava/util/HashMap$Node;)Ljava/util/HashMap$TreeNode;" } : Jvm.MethodName) prog_39_method_49_code (3 : Nat) (Option.some (Jvm.ClassFile.FieldType.object "java/util/HashMap$TreeNode"))) ∈ lw_all := lw_g (lw_at lw_m4 146 rfl) rfl
theorem q914 : (Jvm.Cond.methodLink "java/util/HashMap" (224 : Nat) ({ cls := "java/util/HashMap$TreeNode", name := "treeify", desc := "([Ljava/util/HashMap$Node;)V" } : Jvm.MethodName)) ∈ lw_all := lw_g (lw_at lw_m4 147 rfl) rfl
theorem q915 : (Jvm.Cond.methodLink "java/util/HashMap" (198 : Nat) ({ cls := "java/util/HashMap", name := "afterNodeAccess", desc := "(Ljava/util/HashMap$Node;)V" } : Jvm.MethodName)) ∈ lw_all := lw_g (lw_at lw_m4 148 rfl) rfl
theorem q916 : (Jvm.Cond.instanceMethod ({ cls := "java/util/HashMap", name := "afterNodeAccess", desc := "(Ljava/util/HashMap$Node;)V" } : Jvm.MethodName)) ∈ lw_all := lw_g (lw_at lw_m4 149 rfl) rfl
theorem q917 : (Jvm.Cond.selects "java/util/HashMap" ({ cls := "java/util/HashMap", name := "afterNodeAccess", desc := "(Ljava/util/HashMap$Node;)V" } : Jvm.MethodName) ({ cls := "java/util/HashMap", name := "afterNodeAccess", desc := "(Ljava/util/HashMap$Node;)V" } : Jvm.MethodName)) ∈ lw_all := lw_g (lw_at lw_m4 150 rfl) rfl
theorem q918 : (Jvm.Cond.code ({ cls := "java/util/HashMap", name := "afterNodeAccess", desc := "(Ljava/util/HashMap$Node;)V" } : Jvm.MethodName) prog_39_method_51_code (2 : Nat) (Option.none : Option Jvm.ClassFile.FieldType)) ∈ lw_all := lw_g (lw_at lw_m4 151 rfl) rfl
theorem q919 : (Jvm.Cond.methodLink "java/util/HashMap" (205 : Nat) ({ cls := "java/util/HashMap", name := "afterNodeInsertion", desc := "(Z)V" } : Jvm.MethodName)) ∈ lw_all := lw_g (lw_at lw_m4 152 rfl) rfl
theorem q920 : (Jvm.Cond.instanceMethod ({ cls := "java/util/HashMap", name := "afterNodeInsertion", desc := "(Z)V" } : Jvm.MethodName)) ∈ lw_all := lw_g (lw_at lw_m4 153 rfl) rfl
theorem q921 : (Jvm.Cond.selects "java/util/HashMap" ({ cls := "java/util/HashMap", name := "afterNodeInsertion", desc := "(Z)V" } : Jvm.MethodName) ({ cls := "java/util/HashMap", name := "afterNodeInsertion", desc := "(Z)V" } : Jvm.MethodName)) ∈ lw_all := lw_g (lw_at lw_m4 154 rfl) rfl
theorem q922 : (Jvm.Cond.code ({ cls := "java/util/HashMap", name := "afterNodeInsertion", desc := "(Z)V" } : Jvm.MethodName) prog_39_method_52_code (2 : Nat) (Option.none : Option Jvm.ClassFile.FieldType)) ∈ lw_all := lw_g (lw_at lw_m4 155 rfl) rfl
theorem q1010 : (Jvm.Cond.instanceMethod ({ cls := "java/util/HashMap", name := "clear", desc := "()V" } : Jvm.MethodName)) ∈ lw_all := lw_g (lw_at lw_m5 3 rfl) rfl
theorem q1011 : (Jvm.Cond.selects "java/util/HashMap" ({ cls := "java/util/HashMap", name := "clear", desc := "()V" } : Jvm.MethodName) ({ cls := "java/util/HashMap", name := "clear", desc := "()V" } : Jvm.MethodName)) ∈ lw_all := lw_g (lw_at lw_m5 4 rfl) rfl
theorem q1012 : (Jvm.Cond.code ({ cls := "java/util/HashMap", name := "clear", desc := "()V" } : Jvm.MethodName) prog_39_method_22_code (3 : Nat) (Option.none : Option Jvm.ClassFile.FieldType)) ∈ lw_all := lw_g (lw_at lw_m5 5 rfl) rfl
theorem q1180 : (Jvm.Cond.instanceMethod ({ cls := "java/util/HashMap", name := "entrySet", desc := "()Ljava/util/Set;" } : Jvm.MethodName)) ∈ lw_all := lw_g (lw_at lw_m5 173 rfl) rfl
theorem q1181 : (Jvm.Cond.selects "java/util/HashMap" ({ cls := "java/util/HashMap", name := "entrySet", desc := "()Ljava/util/Set;" } : Jvm.MethodName) ({ cls := "java/util/HashMap", name := "entrySet", desc := "()Ljava/util/Set;" } : Jvm.MethodName)) ∈ lw_all := lw_g (lw_at lw_m5 174 rfl) rfl
theorem q1182 : (Jvm.Cond.code ({ cls := "java/util/HashMap", name := "entrySet", desc := "()Ljava/util/Set;" } : Jvm.MethodName) prog_39_method_29_code (2 : Nat) (Option.some (Jvm.ClassFile.FieldType.object "java/util/Set"))) ∈ lw_all := lw_g (lw_at lw_m5 175 rfl) rfl
theorem q1183 : (Jvm.Cond.classLink "java/util/HashMap" (268 : Nat) "java/util/HashMap$EntrySet") ∈ lw_all := lw_g (lw_at lw_m5 176 rfl) rfl
theorem q1185 : (Jvm.Cond.methodLink "java/util/HashMap" (270 : Nat) ({ cls := "java/util/HashMap$EntrySet", name := "<init>", desc := "(Ljava/util/HashMap;)V" } : Jvm.MethodName)) ∈ lw_all := lw_g (lw_at lw_m5 178 rfl) rfl
theorem q1264 : (Jvm.Cond.instanceMethod ({ cls := "java/util/HashMap", name := "get", desc := "(Ljava/lang/Object;)Ljava/lang/Object;" } : Jvm.MethodName)) ∈ lw_all := lw_g (lw_at lw_m6 17 rfl) rfl
theorem q1265 : (Jvm.Cond.selects "java/util/HashMap" ({ cls := "java/util/HashMap", name := "get", desc := "(Ljava/lang/Object;)Ljava/lang/Object;" } : Jvm.MethodName) ({ cls := "java/util/HashMap", name := "get", desc := "(Ljava/lang/Object;)Ljava/lang/Object;" } : Jvm.MethodName)) ∈ lw_all := lw_g (lw_at lw_m6 18 rfl) rfl
theorem q1266 : (Jvm.Cond.code ({ cls := "java/util/HashMap", name := "get", desc := "(Ljava/lang/Object;)Ljava/lang/Object;" } : Jvm.MethodName) prog_39_method_12_code (3 : Nat) (Option.some (Jvm.ClassFile.FieldType.object "java/lang/Object"))) ∈ lw_all := lw_g (lw_at lw_m6 19 rfl) rfl
theorem q1323 : (Jvm.Cond.instanceMethod ({ cls := "java/util/HashMap", name := "values", desc := "()Ljava/util/Collection;" } : Jvm.MethodName)) ∈ lw_all := lw_g (lw_at lw_m6 76 rfl) rfl
theorem q1324 : (Jvm.Cond.selects "java/util/HashMap" ({ cls := "java/util/HashMap", name := "values", desc := "()Ljava/util/Collection;" } : Jvm.MethodName) ({ cls := "java/util/HashMap", name := "values", desc := "()Ljava/util/Collection;" } : Jvm.MethodName)) ∈ lw_all := lw_g (lw_at lw_m6 77 rfl) rfl
theorem q1325 : (Jvm.Cond.code ({ cls := "java/util/HashMap", name := "values", desc := "()Ljava/util/Collection;" } : Jvm.MethodName) prog_39_method_28_code (2 : Nat) (Option.some (Jvm.ClassFile.FieldType.object "java/util/Collection"))) ∈ lw_all := lw_g (lw_at lw_m6 78 rfl) rfl
theorem q1326 : (Jvm.Cond.classLink "java/util/HashMap" (263 : Nat) "java/util/HashMap$Values") ∈ lw_all := lw_g (lw_at lw_m6 79 rfl) rfl
theorem q1328 : (Jvm.Cond.methodLink "java/util/HashMap" (265 : Nat) ({ cls := "java/util/HashMap$Values", name := "<init>", desc := "(Ljava/util/HashMap;)V" } : Jvm.MethodName)) ∈ lw_all := lw_g (lw_at lw_m6 81 rfl) rfl
theorem q1842 : (Jvm.Cond.castable "java/util/HashMap" "java/lang/Object") ∈ lw_tbl := lw_at lw_m8 115 rfl
theorem in_J9 : ∀ w ∈ wsJ90, w ∈ lw_all := lw_in wsJ90 [315, 317, 303, 305, 307, 309, 311, 313] (by decide +kernel) (by decide +kernel)
theorem q47 : (Jvm.Cond.initialized "LinkStationLaw") ∈ lw_all := lw_g (lw_at lw_m1 0 rfl) rfl
set_option maxRecDepth 100000
theorem q89 : (Jvm.Cond.classLink "LinkStationLaw" (7 : Nat) "LinkStation") ∈ lw_all := lw_g (lw_at lw_m1 42 rfl) rfl
theorem q91 : (Jvm.Cond.methodLink "LinkStationLaw" (9 : Nat) ({ cls := "LinkStation", name := "<init>", desc := "()V" } : Jvm.MethodName)) ∈ lw_all := lw_g (lw_at lw_m1 44 rfl) rfl
theorem q448 : (Jvm.Cond.methodLink "LinkStationLaw" (13 : Nat) ({ cls := "LinkStation", name := "module", desc := "()I" } : Jvm.MethodName)) ∈ lw_all := lw_g (lw_at lw_m2 161 rfl) rfl
theorem q588 : (Jvm.Cond.methodLink "LinkStationLaw" (18 : Nat) ({ cls := "LinkStation", name := "need", desc := "(II)I" } : Jvm.MethodName)) ∈ lw_all := lw_g (lw_at lw_m3 61 rfl) rfl
theorem q651 : (Jvm.Cond.methodLink "LinkStationLaw" (23 : Nat) ({ cls := "LinkStation", name := "define", desc := "(IIIII)I" } : Jvm.MethodName)) ∈ lw_all := lw_g (lw_at lw_m3 124 rfl) rfl
theorem q923 : (Jvm.Cond.methodLink "LinkStationLaw" (28 : Nat) ({ cls := "LinkStation", name := "optional", desc := "(II)I" } : Jvm.MethodName)) ∈ lw_all := lw_g (lw_at lw_m4 156 rfl) rfl
theorem q958 : (Jvm.Cond.methodLink "LinkStationLaw" (32 : Nat) ({ cls := "LinkStation", name := "beginner", desc := "(II)I" } : Jvm.MethodName)) ∈ lw_all := lw_g (lw_at lw_m4 191 rfl) rfl
theorem q962 : (Jvm.Cond.methodLink "LinkStationLaw" (36 : Nat) ({ cls := "LinkStation", name := "put", desc := "(IIIII)I" } : Jvm.MethodName)) ∈ lw_all := lw_g (lw_at lw_m4 195 rfl) rfl
theorem q997 : (Jvm.Cond.methodLink "LinkStationLaw" (40 : Nat) ({ cls := "LinkStation", name := "load", desc := "(II)I" } : Jvm.MethodName)) ∈ lw_all := lw_g (lw_at lw_m4 230 rfl) rfl
theorem q1407 : (Jvm.Cond.methodLink "LinkStationLaw" (44 : Nat) ({ cls := "LinkStation", name := "fault", desc := "(I)I" } : Jvm.MethodName)) ∈ lw_all := lw_g (lw_at lw_m6 160 rfl) rfl
theorem q1411 : (Jvm.Cond.methodLink "LinkStationLaw" (49 : Nat) ({ cls := "LinkStation", name := "order", desc := "(II)I" } : Jvm.MethodName)) ∈ lw_all := lw_g (lw_at lw_m6 164 rfl) rfl
theorem q1415 : (Jvm.Cond.methodLink "LinkStationLaw" (53 : Nat) ({ cls := "LinkStation", name := "comes", desc := "(II)I" } : Jvm.MethodName)) ∈ lw_all := lw_g (lw_at lw_m6 168 rfl) rfl
theorem q1433 : (Jvm.Cond.methodLink "LinkStationLaw" (57 : Nat) ({ cls := "LinkStation", name := "bound", desc := "(II)I" } : Jvm.MethodName)) ∈ lw_all := lw_g (lw_at lw_m6 186 rfl) rfl
theorem q1438 : (Jvm.Cond.methodLink "LinkStationLaw" (61 : Nat) ({ cls := "LinkStation", name := "run", desc := "(II)I" } : Jvm.MethodName)) ∈ lw_all := lw_g (lw_at lw_m6 191 rfl) rfl
theorem q1522 : (Jvm.Cond.methodLink "LinkStationLaw" (65 : Nat) ({ cls := "LinkStation", name := "count", desc := "(I)I" } : Jvm.MethodName)) ∈ lw_all := lw_g (lw_at lw_m7 35 rfl) rfl
theorem q1526 : (Jvm.Cond.methodLink "LinkStationLaw" (69 : Nat) ({ cls := "LinkStation", name := "said", desc := "(I)I" } : Jvm.MethodName)) ∈ lw_all := lw_g (lw_at lw_m7 39 rfl) rfl
theorem q1531 : (Jvm.Cond.methodLink "LinkStationLaw" (73 : Nat) ({ cls := "LinkStation", name := "register", desc := "(I)I" } : Jvm.MethodName)) ∈ lw_all := lw_g (lw_at lw_m7 44 rfl) rfl
theorem q1535 : (Jvm.Cond.methodLink "LinkStationLaw" (77 : Nat) ({ cls := "LinkStation", name := "datum", desc := "(II)I" } : Jvm.MethodName)) ∈ lw_all := lw_g (lw_at lw_m7 48 rfl) rfl
theorem q1539 : (Jvm.Cond.methodLink "LinkStationLaw" (81 : Nat) ({ cls := "LinkStation", name := "check", desc := "()I" } : Jvm.MethodName)) ∈ lw_all := lw_g (lw_at lw_m7 52 rfl) rfl
theorem q1557 : (Jvm.Cond.classLink "LinkStationLaw" (10 : Nat) "LinkStationModel") ∈ lw_all := lw_g (lw_at lw_m7 70 rfl) rfl
theorem q1559 : (Jvm.Cond.methodLink "LinkStationLaw" (12 : Nat) ({ cls := "LinkStationModel", name := "<init>", desc := "()V" } : Jvm.MethodName)) ∈ lw_all := lw_g (lw_at lw_m7 72 rfl) rfl
theorem q1682 : (Jvm.Cond.methodLink "LinkStationLaw" (17 : Nat) ({ cls := "LinkStationModel", name := "module", desc := "()I" } : Jvm.MethodName)) ∈ lw_all := lw_g (lw_at lw_m7 195 rfl) rfl
theorem q1686 : (Jvm.Cond.methodLink "LinkStationLaw" (22 : Nat) ({ cls := "LinkStationModel", name := "need", desc := "(II)I" } : Jvm.MethodName)) ∈ lw_all := lw_g (lw_at lw_m7 199 rfl) rfl
theorem q1694 : (Jvm.Cond.methodLink "LinkStationLaw" (27 : Nat) ({ cls := "LinkStationModel", name := "define", desc := "(IIIII)I" } : Jvm.MethodName)) ∈ lw_all := lw_g (lw_at lw_m7 207 rfl) rfl
theorem q1708 : (Jvm.Cond.methodLink "LinkStationLaw" (31 : Nat) ({ cls := "LinkStationModel", name := "optional", desc := "(II)I" } : Jvm.MethodName)) ∈ lw_all := lw_g (lw_at lw_m7 221 rfl) rfl
theorem q1712 : (Jvm.Cond.methodLink "LinkStationLaw" (35 : Nat) ({ cls := "LinkStationModel", name := "beginner", desc := "(II)I" } : Jvm.MethodName)) ∈ lw_all := lw_g (lw_at lw_m7 225 rfl) rfl
theorem q1716 : (Jvm.Cond.methodLink "LinkStationLaw" (39 : Nat) ({ cls := "LinkStationModel", name := "put", desc := "(IIIII)I" } : Jvm.MethodName)) ∈ lw_all := lw_g (lw_at lw_m7 229 rfl) rfl
theorem q1726 : (Jvm.Cond.methodLink "LinkStationLaw" (43 : Nat) ({ cls := "LinkStationModel", name := "load", desc := "(II)I" } : Jvm.MethodName)) ∈ lw_all := lw_g (lw_at lw_m7 239 rfl) rfl
theorem q1762 : (Jvm.Cond.methodLink "LinkStationLaw" (48 : Nat) ({ cls := "LinkStationModel", name := "fault", desc := "(I)I" } : Jvm.MethodName)) ∈ lw_all := lw_g (lw_at lw_m8 35 rfl) rfl
theorem q1766 : (Jvm.Cond.methodLink "LinkStationLaw" (52 : Nat) ({ cls := "LinkStationModel", name := "order", desc := "(II)I" } : Jvm.MethodName)) ∈ lw_all := lw_g (lw_at lw_m8 39 rfl) rfl
theorem q1770 : (Jvm.Cond.methodLink "LinkStationLaw" (56 : Nat) ({ cls := "LinkStationModel", name := "comes", desc := "(II)I" } : Jvm.MethodName)) ∈ lw_all := lw_g (lw_at lw_m8 43 rfl) rfl
theorem q1778 : (Jvm.Cond.methodLink "LinkStationLaw" (60 : Nat) ({ cls := "LinkStationModel", name := "bound", desc := "(II)I" } : Jvm.MethodName)) ∈ lw_all := lw_g (lw_at lw_m8 51 rfl) rfl
theorem q1782 : (Jvm.Cond.methodLink "LinkStationLaw" (64 : Nat) ({ cls := "LinkStationModel", name := "run", desc := "(II)I" } : Jvm.MethodName)) ∈ lw_all := lw_g (lw_at lw_m8 55 rfl) rfl
theorem q1810 : (Jvm.Cond.methodLink "LinkStationLaw" (68 : Nat) ({ cls := "LinkStationModel", name := "count", desc := "(I)I" } : Jvm.MethodName)) ∈ lw_all := lw_g (lw_at lw_m8 83 rfl) rfl
theorem q1814 : (Jvm.Cond.methodLink "LinkStationLaw" (72 : Nat) ({ cls := "LinkStationModel", name := "said", desc := "(I)I" } : Jvm.MethodName)) ∈ lw_all := lw_g (lw_at lw_m8 87 rfl) rfl
theorem q1818 : (Jvm.Cond.methodLink "LinkStationLaw" (76 : Nat) ({ cls := "LinkStationModel", name := "register", desc := "(I)I" } : Jvm.MethodName)) ∈ lw_all := lw_g (lw_at lw_m8 91 rfl) rfl
theorem q1822 : (Jvm.Cond.methodLink "LinkStationLaw" (80 : Nat) ({ cls := "LinkStationModel", name := "datum", desc := "(II)I" } : Jvm.MethodName)) ∈ lw_all := lw_g (lw_at lw_m8 95 rfl) rfl
theorem q1826 : (Jvm.Cond.methodLink "LinkStationLaw" (84 : Nat) ({ cls := "LinkStationModel", name := "check", desc := "()I" } : Jvm.MethodName)) ∈ lw_all := lw_g (lw_at lw_m8 99 rfl) rfl
theorem q1864 : (Jvm.Cond.castable "[I" "java/lang/Object") ∈ lw_tbl := lw_at lw_m8 137 rfl
set_option maxRecDepth 100000
theorem q954 : (Jvm.Cond.sameMethod "[J" "java/lang/Object" "clone" "()Ljava/lang/Object;") ∈ lw_all := lw_g (lw_at lw_m4 187 rfl) rfl
set_option maxRecDepth 100000
theorem q955 : (Jvm.Cond.selects "[J" ({ cls := "[J", name := "clone", desc := "()Ljava/lang/Object;" } : Jvm.MethodName) ({ cls := "java/lang/Object", name := "clone", desc := "()Ljava/lang/Object;" } : Jvm.MethodName)) ∈ lw_all := lw_g (lw_at lw_m4 188 rfl) rfl
theorem q956 : (Jvm.Cond.castable "[J" "java/lang/Cloneable") ∈ lw_tbl := lw_at lw_m4 189 rfl
theorem q1862 : (Jvm.Cond.castable "[J" "java/lang/Object") ∈ lw_tbl := lw_at lw_m8 135 rfl
theorem q1865 : (Jvm.Cond.castable "[LLinkStation$Definition;" "java/lang/Object") ∈ lw_tbl := lw_at lw_m8 138 rfl
set_option maxRecDepth 100000
theorem q1863 : (Jvm.Cond.castable "[LLinkStation$Module;" "java/lang/Object") ∈ lw_tbl := lw_at lw_m8 136 rfl
set_option maxRecDepth 100000
theorem q103 : (Jvm.Cond.sameMethod "[LLinkStation$Op;" "java/lang/Object" "clone" "()Ljava/lang/Object;") ∈ lw_all := lw_g (lw_at lw_m1 56 rfl) rfl
set_option maxRecDepth 100000
theorem q106 : (Jvm.Cond.selects "[LLinkStation$Op;" ({ cls := "[LLinkStation$Op;", name := "clone", desc := "()Ljava/lang/Object;" } : Jvm.MethodName) ({ cls := "java/lang/Object", name := "clone", desc := "()Ljava/lang/Object;" } : Jvm.MethodName)) ∈ lw_all := lw_g (lw_at lw_m1 59 rfl) rfl
theorem q107 : (Jvm.Cond.castable "[LLinkStation$Op;" "java/lang/Cloneable") ∈ lw_tbl := lw_at lw_m1 60 rfl
theorem q1861 : (Jvm.Cond.castable "[LLinkStation$Op;" "java/lang/Object") ∈ lw_tbl := lw_at lw_m8 134 rfl
theorem q1858 : (Jvm.Cond.sameMethod "[Ljava/lang/Object;" "java/lang/Object" "getClass" "()Ljava/lang/Class;") ∈ lw_all := lw_g (lw_at lw_m8 131 rfl) rfl
set_option maxRecDepth 100000
theorem q1859 : (Jvm.Cond.selects "[Ljava/lang/Object;" ({ cls := "java/lang/Object", name := "getClass", desc := "()Ljava/lang/Class;" } : Jvm.MethodName) ({ cls := "java/lang/Object", name := "getClass", desc := "()Ljava/lang/Class;" } : Jvm.MethodName)) ∈ lw_all := lw_g (lw_at lw_m8 132 rfl) rfl
theorem q1866 : (Jvm.Cond.castable "[Ljava/lang/Object;" "java/lang/Object") ∈ lw_tbl := lw_at lw_m8 139 rfl
theorem q1867 : (Jvm.Cond.castable "[Ljava/util/HashMap$Node;" "java/lang/Object") ∈ lw_tbl := lw_at lw_m8 140 rfl
set_option maxRecDepth 100000
theorem q1868 : (Jvm.Cond.castable "[Z" "java/lang/Object") ∈ lw_tbl := lw_at lw_m8 141 rfl
set_option maxRecDepth 100000
theorem q742 : (Jvm.Cond.interfaceMethod "java/lang/Comparable" "java/lang/Comparable" "compareTo" "(Ljava/lang/Object;)I") ∈ lw_tbl := lw_at lw_m3 215 rfl
set_option maxRecDepth 100000
theorem q743 : (Jvm.Cond.declares ({ cls := "java/lang/Comparable", name := "compareTo", desc := "(Ljava/lang/Object;)I" } : Jvm.MethodName)) ∈ lw_tbl := lw_at lw_m3 216 rfl
theorem q75 : (Jvm.Cond.initialized "java/lang/Integer$IntegerCache") ∈ lw_all := lw_g (lw_at lw_m1 28 rfl) rfl
set_option maxRecDepth 100000
theorem q665 : (Jvm.Cond.laysStatic "java/lang/Integer$IntegerCache" "high" "I") ∈ lw_tbl := lw_at lw_m3 138 rfl
theorem q667 : (Jvm.Cond.laysStatic "java/lang/Integer$IntegerCache" "cache" "[Ljava/lang/Integer;") ∈ lw_tbl := lw_at lw_m3 140 rfl
theorem q70 : (Jvm.Cond.initialized "java/lang/System") ∈ lw_all := lw_g (lw_at lw_m1 23 rfl) rfl
set_option maxRecDepth 100000
theorem q584 : (Jvm.Cond.static ({ cls := "java/lang/System", name := "arraycopy", desc := "(Ljava/lang/Object;ILjava/lang/Object;II)V" } : Jvm.MethodName)) ∈ lw_all := lw_g (lw_at lw_m3 57 rfl) rfl
theorem q585 : (Jvm.Cond.native ({ cls := "java/lang/System", name := "arraycopy", desc := "(Ljava/lang/Object;ILjava/lang/Object;II)V" } : Jvm.MethodName)) ∈ lw_all := lw_g (lw_at lw_m3 58 rfl) rfl
theorem q705 : (Jvm.Cond.static ({ cls := "java/lang/System", name := "identityHashCode", desc := "(Ljava/lang/Object;)I" } : Jvm.MethodName)) ∈ lw_all := lw_g (lw_at lw_m3 178 rfl) rfl
theorem q706 : (Jvm.Cond.native ({ cls := "java/lang/System", name := "identityHashCode", desc := "(Ljava/lang/Object;)I" } : Jvm.MethodName)) ∈ lw_all := lw_g (lw_at lw_m3 179 rfl) rfl
theorem q1338 : (Jvm.Cond.interfaceMethod "java/util/Collection" "java/util/Collection" "iterator" "()Ljava/util/Iterator;") ∈ lw_tbl := lw_at lw_m6 91 rfl
set_option maxRecDepth 100000
theorem q1339 : (Jvm.Cond.declares ({ cls := "java/util/Collection", name := "iterator", desc := "()Ljava/util/Iterator;" } : Jvm.MethodName)) ∈ lw_tbl := lw_at lw_m6 92 rfl
theorem q1106 : (Jvm.Cond.interfaceMethod "java/util/Iterator" "java/util/Iterator" "hasNext" "()Z") ∈ lw_tbl := lw_at lw_m5 99 rfl
set_option maxRecDepth 100000
theorem q1107 : (Jvm.Cond.declares ({ cls := "java/util/Iterator", name := "hasNext", desc := "()Z" } : Jvm.MethodName)) ∈ lw_tbl := lw_at lw_m5 100 rfl
theorem q1131 : (Jvm.Cond.interfaceMethod "java/util/Iterator" "java/util/Iterator" "next" "()Ljava/lang/Object;") ∈ lw_tbl := lw_at lw_m5 124 rfl
theorem q1132 : (Jvm.Cond.declares ({ cls := "java/util/Iterator", name := "next", desc := "()Ljava/lang/Object;" } : Jvm.MethodName)) ∈ lw_tbl := lw_at lw_m5 125 rfl
theorem q1234 : (Jvm.Cond.interfaceMethod "java/util/Map$Entry" "java/util/Map$Entry" "getKey" "()Ljava/lang/Object;") ∈ lw_tbl := lw_at lw_m5 227 rfl
set_option maxRecDepth 100000
theorem q1235 : (Jvm.Cond.declares ({ cls := "java/util/Map$Entry", name := "getKey", desc := "()Ljava/lang/Object;" } : Jvm.MethodName)) ∈ lw_tbl := lw_at lw_m5 228 rfl
theorem q1249 : (Jvm.Cond.interfaceMethod "java/util/Map$Entry" "java/util/Map$Entry" "getValue" "()Ljava/lang/Object;") ∈ lw_tbl := lw_at lw_m6 2 rfl
theorem q1250 : (Jvm.Cond.declares ({ cls := "java/util/Map$Entry", name := "getValue", desc := "()Ljava/lang/Object;" } : Jvm.MethodName)) ∈ lw_tbl := lw_at lw_m6 3 rfl
theorem q1398 : (Jvm.Cond.interfaceMethod "java/util/Map$Entry" "java/util/Map$Entry" "setValue" "(Ljava/lang/Object;)Ljava/lang/Object;") ∈ lw_tbl := lw_at lw_m6 151 rfl
theorem q1399 : (Jvm.Cond.declares ({ cls := "java/util/Map$Entry", name := "setValue", desc := "(Ljava/lang/Object;)Ljava/lang/Object;" } : Jvm.MethodName)) ∈ lw_tbl := lw_at lw_m6 152 rfl
theorem q1198 : (Jvm.Cond.interfaceMethod "java/util/Set" "java/util/Set" "iterator" "()Ljava/util/Iterator;") ∈ lw_tbl := lw_at lw_m5 191 rfl
set_option maxRecDepth 100000
theorem q1199 : (Jvm.Cond.declares ({ cls := "java/util/Set", name := "iterator", desc := "()Ljava/util/Iterator;" } : Jvm.MethodName)) ∈ lw_tbl := lw_at lw_m5 192 rfl
theorem q108 : (Jvm.Cond.arrayOver (Jvm.ClassFile.FieldType.object "LinkStation$Op")) ∈ lw_tbl := lw_at lw_m1 61 rfl
set_option maxRecDepth 100000
theorem q281 : (Jvm.Cond.arrayClass Jvm.ClassFile.FieldType.long) ∈ lw_all := lw_g (lw_at lw_m1 234 rfl) rfl
theorem q369 : (Jvm.Cond.arrayOver (Jvm.ClassFile.FieldType.object "LinkStation$Module")) ∈ lw_tbl := lw_at lw_m2 82 rfl
theorem q419 : (Jvm.Cond.arrayClass Jvm.ClassFile.FieldType.int) ∈ lw_all := lw_g (lw_at lw_m2 132 rfl) rfl
theorem q467 : (Jvm.Cond.arrayOver (Jvm.ClassFile.FieldType.object "LinkStation$Definition")) ∈ lw_tbl := lw_at lw_m2 180 rfl
theorem q578 : (Jvm.Cond.arrayOver (Jvm.ClassFile.FieldType.object "java/lang/Object")) ∈ lw_tbl := lw_at lw_m3 51 rfl
theorem q797 : (Jvm.Cond.arrayOver (Jvm.ClassFile.FieldType.object "java/util/HashMap$Node")) ∈ lw_tbl := lw_at lw_m4 30 rfl
theorem q1681 : (Jvm.Cond.arrayClass Jvm.ClassFile.FieldType.boolean) ∈ lw_all := lw_g (lw_at lw_m7 194 rfl) rfl
