/-! java/util/AbstractCollection -/
set_option maxRecDepth 100000
def RJ0 : String := "java/util/AbstractCollection"
abbrev cJ0_init : ByteArray := prog_44_method_1_code
def yJ0_init : MethodName := ⟨RJ0, "<init>", "()V"⟩
theorem dJ0_init_0 : decode cJ0_init 0 = .ok (.aload_n 0, 1) := by decide +kernel
theorem dJ0_init_1 : decode cJ0_init 1 = .ok (.invokespecial 1, 3) := by decide +kernel
theorem dJ0_init_4 : decode cJ0_init 4 = .ok (.return_, 1) := by decide +kernel
theorem q104 : (Jvm.Cond.initialized "java/util/AbstractCollection") ∈ lw_all := lw_g (lw_at lw_m1 3 rfl) rfl
theorem q167 : (Jvm.Cond.instanceMethod ({ cls := "java/util/AbstractCollection", name := "<init>", desc := "()V" } : Jvm.MethodName)) ∈ lw_all := lw_g (lw_at lw_m1 66 rfl) rfl
theorem q168 : (Jvm.Cond.code ({ cls := "java/util/AbstractCollection", name := "<init>", desc := "()V" } : Jvm.MethodName) prog_44_method_1_code (1 : Nat) (Option.none : Option Jvm.ClassFile.FieldType)) ∈ lw_all := lw_g (lw_at lw_m1 67 rfl) rfl
theorem q169 : (Jvm.Cond.methodLink "java/util/AbstractCollection" (1 : Nat) ({ cls := "java/lang/Object", name := "<init>", desc := "()V" } : Jvm.MethodName)) ∈ lw_all := lw_g (lw_at lw_m1 68 rfl) rfl

/-! java/util/AbstractList -/
set_option maxRecDepth 100000
def RJ1 : String := "java/util/AbstractList"
abbrev cJ1_init : ByteArray := prog_45_method_1_code
def yJ1_init : MethodName := ⟨RJ1, "<init>", "()V"⟩
def dkwJ1_init_0 : List UInt8 := [42, 183, 0, 1, 42, 3, 181, 0, 7, 177]
abbrev dktJ1_init_0 : List UInt8 := dkwJ1_init_0 ++ []
theorem dksJ1_init_0 : cJ1_init.data.toList.drop 0 = dktJ1_init_0 := by decide +kernel
theorem dJ1_init_0 : decode cJ1_init 0 = .ok (.aload_n 0, 1) := dk_42 (dk_at dksJ1_init_0 0 rfl rfl)
theorem dJ1_init_1 : decode cJ1_init 1 = .ok (.invokespecial 1, 3) := dk_183 0 1 (dk_at dksJ1_init_0 1 rfl rfl)
theorem dJ1_init_4 : decode cJ1_init 4 = .ok (.aload_n 0, 1) := dk_42 (dk_at dksJ1_init_0 4 rfl rfl)
theorem dJ1_init_5 : decode cJ1_init 5 = .ok (.iconst 0, 1) := dk_3 (dk_at dksJ1_init_0 5 rfl rfl)
theorem dJ1_init_6 : decode cJ1_init 6 = .ok (.putfield 7, 3) := dk_181 0 7 (dk_at dksJ1_init_0 6 rfl rfl)
theorem dJ1_init_9 : decode cJ1_init 9 = .ok (.return_, 1) := dk_177 (dk_at dksJ1_init_0 9 rfl rfl)
theorem q105 : (Jvm.Cond.initialized "java/util/AbstractList") ∈ lw_all := lw_g (lw_at lw_m1 4 rfl) rfl
theorem q164 : (Jvm.Cond.instanceMethod ({ cls := "java/util/AbstractList", name := "<init>", desc := "()V" } : Jvm.MethodName)) ∈ lw_all := lw_g (lw_at lw_m1 63 rfl) rfl
theorem q165 : (Jvm.Cond.code ({ cls := "java/util/AbstractList", name := "<init>", desc := "()V" } : Jvm.MethodName) prog_45_method_1_code (1 : Nat) (Option.none : Option Jvm.ClassFile.FieldType)) ∈ lw_all := lw_g (lw_at lw_m1 64 rfl) rfl
theorem q166 : (Jvm.Cond.methodLink "java/util/AbstractList" (1 : Nat) ({ cls := "java/util/AbstractCollection", name := "<init>", desc := "()V" } : Jvm.MethodName)) ∈ lw_all := lw_g (lw_at lw_m1 65 rfl) rfl
theorem q174 : (Jvm.Cond.fieldLink "java/util/AbstractList" (7 : Nat) "java/util/AbstractList" "modCount" "I") ∈ lw_all := lw_g (lw_at lw_m1 73 rfl) rfl
theorem q182 : (Jvm.Cond.soleField "java/util/AbstractList" "modCount") ∈ lw_all := lw_g (lw_at lw_m1 81 rfl) rfl

/-! jdk/internal/util/Preconditions -/
set_option maxRecDepth 100000
def RJ10 : String := "jdk/internal/util/Preconditions"
abbrev cJ10_checkFromToIndex : ByteArray := prog_54_method_12_code
def yJ10_checkFromToIndex : MethodName := ⟨RJ10, "checkFromToIndex", "(IIILjava/util/function/BiFunction;)I"⟩
def dkwJ10_checkFromToIndex_0 : List UInt8 := [26, 155, 0, 13, 26, 27, 163, 0, 8, 27, 28, 164, 0, 11, 45, 26, 27, 28, 184, 0, 99, 191, 26, 172]
abbrev dktJ10_checkFromToIndex_0 : List UInt8 := dkwJ10_checkFromToIndex_0 ++ []
theorem dksJ10_checkFromToIndex_0 : cJ10_checkFromToIndex.data.toList.drop 0 = dktJ10_checkFromToIndex_0 := by decide +kernel
theorem dJ10_checkFromToIndex_0 : decode cJ10_checkFromToIndex 0 = .ok (.iload_n 0, 1) := dk_26 (dk_at dksJ10_checkFromToIndex_0 0 rfl rfl)
theorem dJ10_checkFromToIndex_1 : decode cJ10_checkFromToIndex 1 = .ok (.ifCond .lt 13, 3) := dk_155 0 13 (dk_at dksJ10_checkFromToIndex_0 1 rfl rfl)
theorem dJ10_checkFromToIndex_4 : decode cJ10_checkFromToIndex 4 = .ok (.iload_n 0, 1) := dk_26 (dk_at dksJ10_checkFromToIndex_0 4 rfl rfl)
theorem dJ10_checkFromToIndex_5 : decode cJ10_checkFromToIndex 5 = .ok (.iload_n 1, 1) := dk_27 (dk_at dksJ10_checkFromToIndex_0 5 rfl rfl)
theorem dJ10_checkFromToIndex_6 : decode cJ10_checkFromToIndex 6 = .ok (.if_icmp .gt 8, 3) := dk_163 0 8 (dk_at dksJ10_checkFromToIndex_0 6 rfl rfl)
theorem dJ10_checkFromToIndex_9 : decode cJ10_checkFromToIndex 9 = .ok (.iload_n 1, 1) := dk_27 (dk_at dksJ10_checkFromToIndex_0 9 rfl rfl)
theorem dJ10_checkFromToIndex_10 : decode cJ10_checkFromToIndex 10 = .ok (.iload_n 2, 1) := dk_28 (dk_at dksJ10_checkFromToIndex_0 10 rfl rfl)
theorem dJ10_checkFromToIndex_11 : decode cJ10_checkFromToIndex 11 = .ok (.if_icmp .le 11, 3) := dk_164 0 11 (dk_at dksJ10_checkFromToIndex_0 11 rfl rfl)
theorem dJ10_checkFromToIndex_14 : decode cJ10_checkFromToIndex 14 = .ok (.aload_n 3, 1) := dk_45 (dk_at dksJ10_checkFromToIndex_0 14 rfl rfl)
theorem dJ10_checkFromToIndex_15 : decode cJ10_checkFromToIndex 15 = .ok (.iload_n 0, 1) := dk_26 (dk_at dksJ10_checkFromToIndex_0 15 rfl rfl)
theorem dJ10_checkFromToIndex_16 : decode cJ10_checkFromToIndex 16 = .ok (.iload_n 1, 1) := dk_27 (dk_at dksJ10_checkFromToIndex_0 16 rfl rfl)
theorem dJ10_checkFromToIndex_17 : decode cJ10_checkFromToIndex 17 = .ok (.iload_n 2, 1) := dk_28 (dk_at dksJ10_checkFromToIndex_0 17 rfl rfl)
theorem dJ10_checkFromToIndex_18 : decode cJ10_checkFromToIndex 18 = .ok (.invokestatic 99, 3) := dk_184 0 99 (dk_at dksJ10_checkFromToIndex_0 18 rfl rfl)
theorem dJ10_checkFromToIndex_21 : decode cJ10_checkFromToIndex 21 = .ok (.athrow, 1) := dk_191 (dk_at dksJ10_checkFromToIndex_0 21 rfl rfl)
theorem dJ10_checkFromToIndex_22 : decode cJ10_checkFromToIndex 22 = .ok (.iload_n 0, 1) := dk_26 (dk_at dksJ10_checkFromToIndex_0 22 rfl rfl)
theorem dJ10_checkFromToIndex_23 : decode cJ10_checkFromToIndex 23 = .ok (.ireturn, 1) := dk_172 (dk_at dksJ10_checkFromToIndex_0 23 rfl rfl)
abbrev cJ10_checkIndex : ByteArray := prog_54_method_11_code
def yJ10_checkIndex : MethodName := ⟨RJ10, "checkIndex", "(IILjava/util/function/BiFunction;)I"⟩
def dkwJ10_checkIndex_0 : List UInt8 := [26, 155, 0, 8, 26, 27, 161, 0, 10, 44, 26, 27, 184, 0, 95, 191, 26, 172]
abbrev dktJ10_checkIndex_0 : List UInt8 := dkwJ10_checkIndex_0 ++ []
theorem dksJ10_checkIndex_0 : cJ10_checkIndex.data.toList.drop 0 = dktJ10_checkIndex_0 := by decide +kernel
theorem dJ10_checkIndex_0 : decode cJ10_checkIndex 0 = .ok (.iload_n 0, 1) := dk_26 (dk_at dksJ10_checkIndex_0 0 rfl rfl)
theorem dJ10_checkIndex_1 : decode cJ10_checkIndex 1 = .ok (.ifCond .lt 8, 3) := dk_155 0 8 (dk_at dksJ10_checkIndex_0 1 rfl rfl)
theorem dJ10_checkIndex_4 : decode cJ10_checkIndex 4 = .ok (.iload_n 0, 1) := dk_26 (dk_at dksJ10_checkIndex_0 4 rfl rfl)
theorem dJ10_checkIndex_5 : decode cJ10_checkIndex 5 = .ok (.iload_n 1, 1) := dk_27 (dk_at dksJ10_checkIndex_0 5 rfl rfl)
theorem dJ10_checkIndex_6 : decode cJ10_checkIndex 6 = .ok (.if_icmp .lt 10, 3) := dk_161 0 10 (dk_at dksJ10_checkIndex_0 6 rfl rfl)
theorem dJ10_checkIndex_9 : decode cJ10_checkIndex 9 = .ok (.aload_n 2, 1) := dk_44 (dk_at dksJ10_checkIndex_0 9 rfl rfl)
theorem dJ10_checkIndex_10 : decode cJ10_checkIndex 10 = .ok (.iload_n 0, 1) := dk_26 (dk_at dksJ10_checkIndex_0 10 rfl rfl)
theorem dJ10_checkIndex_11 : decode cJ10_checkIndex 11 = .ok (.iload_n 1, 1) := dk_27 (dk_at dksJ10_checkIndex_0 11 rfl rfl)
theorem dJ10_checkIndex_12 : decode cJ10_checkIndex 12 = .ok (.invokestatic 95, 3) := dk_184 0 95 (dk_at dksJ10_checkIndex_0 12 rfl rfl)
theorem dJ10_checkIndex_15 : decode cJ10_checkIndex 15 = .ok (.athrow, 1) := dk_191 (dk_at dksJ10_checkIndex_0 15 rfl rfl)
theorem dJ10_checkIndex_16 : decode cJ10_checkIndex 16 = .ok (.iload_n 0, 1) := dk_26 (dk_at dksJ10_checkIndex_0 16 rfl rfl)
theorem dJ10_checkIndex_17 : decode cJ10_checkIndex 17 = .ok (.ireturn, 1) := dk_172 (dk_at dksJ10_checkIndex_0 17 rfl rfl)
theorem q116 : (Jvm.Cond.initialized "jdk/internal/util/Preconditions") ∈ lw_all := lw_g (lw_at lw_m1 15 rfl) rfl
theorem q436 : (Jvm.Cond.laysStatic "jdk/internal/util/Preconditions" "SIOOBE_FORMATTER" "Ljava/util/function/BiFunction;") ∈ lw_tbl := lw_at lw_m2 95 rfl
theorem q438 : (Jvm.Cond.static ({ cls := "jdk/internal/util/Preconditions", name := "checkFromToIndex", desc := "(IIILjava/util/function/BiFunction;)I" } : Jvm.MethodName)) ∈ lw_all := lw_g (lw_at lw_m2 97 rfl) rfl
theorem q439 : (Jvm.Cond.code ({ cls := "jdk/internal/util/Preconditions", name := "checkFromToIndex", desc := "(IIILjava/util/function/BiFunction;)I" } : Jvm.MethodName) prog_54_method_12_code (4 : Nat) (Option.some Jvm.ClassFile.FieldType.int)) ∈ lw_all := lw_g (lw_at lw_m2 98 rfl) rfl
theorem q477 : (Jvm.Cond.static ({ cls := "jdk/internal/util/Preconditions", name := "checkIndex", desc := "(IILjava/util/function/BiFunction;)I" } : Jvm.MethodName)) ∈ lw_all := lw_g (lw_at lw_m2 136 rfl) rfl
theorem q478 : (Jvm.Cond.code ({ cls := "jdk/internal/util/Preconditions", name := "checkIndex", desc := "(IILjava/util/function/BiFunction;)I" } : Jvm.MethodName) prog_54_method_11_code (3 : Nat) (Option.some Jvm.ClassFile.FieldType.int)) ∈ lw_all := lw_g (lw_at lw_m2 137 rfl) rfl

/-! java/util/Objects -/
set_option maxRecDepth 100000
def RJ12 : String := "java/util/Objects"
abbrev cJ12_checkIndex : ByteArray := prog_50_method_17_code
def yJ12_checkIndex : MethodName := ⟨RJ12, "checkIndex", "(II)I"⟩
def dkwJ12_checkIndex_0 : List UInt8 := [26, 27, 1, 184, 0, 105, 172]
abbrev dktJ12_checkIndex_0 : List UInt8 := dkwJ12_checkIndex_0 ++ []
theorem dksJ12_checkIndex_0 : cJ12_checkIndex.data.toList.drop 0 = dktJ12_checkIndex_0 := by decide +kernel
theorem dJ12_checkIndex_0 : decode cJ12_checkIndex 0 = .ok (.iload_n 0, 1) := dk_26 (dk_at dksJ12_checkIndex_0 0 rfl rfl)
theorem dJ12_checkIndex_1 : decode cJ12_checkIndex 1 = .ok (.iload_n 1, 1) := dk_27 (dk_at dksJ12_checkIndex_0 1 rfl rfl)
theorem dJ12_checkIndex_2 : decode cJ12_checkIndex 2 = .ok (.aconst_null, 1) := dk_1 (dk_at dksJ12_checkIndex_0 2 rfl rfl)
theorem dJ12_checkIndex_3 : decode cJ12_checkIndex 3 = .ok (.invokestatic 105, 3) := dk_184 0 105 (dk_at dksJ12_checkIndex_0 3 rfl rfl)
theorem dJ12_checkIndex_6 : decode cJ12_checkIndex 6 = .ok (.ireturn, 1) := dk_172 (dk_at dksJ12_checkIndex_0 6 rfl rfl)
theorem q120 : (Jvm.Cond.initialized "java/util/Objects") ∈ lw_all := lw_g (lw_at lw_m1 19 rfl) rfl
theorem q510 : (Jvm.Cond.static ({ cls := "java/util/Objects", name := "checkIndex", desc := "(II)I" } : Jvm.MethodName)) ∈ lw_all := lw_g (lw_at lw_m2 169 rfl) rfl
theorem q511 : (Jvm.Cond.code ({ cls := "java/util/Objects", name := "checkIndex", desc := "(II)I" } : Jvm.MethodName) prog_50_method_17_code (2 : Nat) (Option.some Jvm.ClassFile.FieldType.int)) ∈ lw_all := lw_g (lw_at lw_m2 170 rfl) rfl
theorem q512 : (Jvm.Cond.methodLink "java/util/Objects" (105 : Nat) ({ cls := "jdk/internal/util/Preconditions", name := "checkIndex", desc := "(IILjava/util/function/BiFunction;)I" } : Jvm.MethodName)) ∈ lw_all := lw_g (lw_at lw_m2 171 rfl) rfl

/-! jdk/internal/util/ArraysSupport -/
set_option maxRecDepth 100000
def RJ13 : String := "jdk/internal/util/ArraysSupport"
abbrev cJ13_newLength : ByteArray := prog_53_method_27_code
def yJ13_newLength : MethodName := ⟨RJ13, "newLength", "(III)I"⟩
def dkwJ13_newLength_1 : List UInt8 := [184, 0, 201, 172]
abbrev dktJ13_newLength_1 : List UInt8 := dkwJ13_newLength_1 ++ []
def dkwJ13_newLength_0 : List UInt8 := [26, 27, 28, 184, 0, 194, 96, 62, 3, 29, 162, 0, 11, 29, 18, 200, 163, 0, 5, 29, 172, 26, 27]
abbrev dktJ13_newLength_0 : List UInt8 := dkwJ13_newLength_0 ++ dktJ13_newLength_1
theorem dksJ13_newLength_0 : cJ13_newLength.data.toList.drop 0 = dktJ13_newLength_0 := by decide +kernel
theorem dksJ13_newLength_1 : cJ13_newLength.data.toList.drop 23 = dktJ13_newLength_1 := dk_seg dksJ13_newLength_0 23 rfl rfl
theorem dJ13_newLength_0 : decode cJ13_newLength 0 = .ok (.iload_n 0, 1) := dk_26 (dk_at dksJ13_newLength_0 0 rfl rfl)
theorem dJ13_newLength_1 : decode cJ13_newLength 1 = .ok (.iload_n 1, 1) := dk_27 (dk_at dksJ13_newLength_0 1 rfl rfl)
theorem dJ13_newLength_2 : decode cJ13_newLength 2 = .ok (.iload_n 2, 1) := dk_28 (dk_at dksJ13_newLength_0 2 rfl rfl)
theorem dJ13_newLength_3 : decode cJ13_newLength 3 = .ok (.invokestatic 194, 3) := dk_184 0 194 (dk_at dksJ13_newLength_0 3 rfl rfl)
theorem dJ13_newLength_6 : decode cJ13_newLength 6 = .ok (.iadd, 1) := dk_96 (dk_at dksJ13_newLength_0 6 rfl rfl)
theorem dJ13_newLength_7 : decode cJ13_newLength 7 = .ok (.istore_n 3, 1) := dk_62 (dk_at dksJ13_newLength_0 7 rfl rfl)
theorem dJ13_newLength_8 : decode cJ13_newLength 8 = .ok (.iconst 0, 1) := dk_3 (dk_at dksJ13_newLength_0 8 rfl rfl)
theorem dJ13_newLength_9 : decode cJ13_newLength 9 = .ok (.iload_n 3, 1) := dk_29 (dk_at dksJ13_newLength_0 9 rfl rfl)
theorem dJ13_newLength_10 : decode cJ13_newLength 10 = .ok (.if_icmp .ge 11, 3) := dk_162 0 11 (dk_at dksJ13_newLength_0 10 rfl rfl)
theorem dJ13_newLength_13 : decode cJ13_newLength 13 = .ok (.iload_n 3, 1) := dk_29 (dk_at dksJ13_newLength_0 13 rfl rfl)
theorem dJ13_newLength_14 : decode cJ13_newLength 14 = .ok (.ldc 200, 2) := dk_18 200 (dk_at dksJ13_newLength_0 14 rfl rfl)
theorem dJ13_newLength_16 : decode cJ13_newLength 16 = .ok (.if_icmp .gt 5, 3) := dk_163 0 5 (dk_at dksJ13_newLength_0 16 rfl rfl)
theorem dJ13_newLength_19 : decode cJ13_newLength 19 = .ok (.iload_n 3, 1) := dk_29 (dk_at dksJ13_newLength_0 19 rfl rfl)
theorem dJ13_newLength_20 : decode cJ13_newLength 20 = .ok (.ireturn, 1) := dk_172 (dk_at dksJ13_newLength_0 20 rfl rfl)
theorem dJ13_newLength_21 : decode cJ13_newLength 21 = .ok (.iload_n 0, 1) := dk_26 (dk_at dksJ13_newLength_0 21 rfl rfl)
theorem dJ13_newLength_22 : decode cJ13_newLength 22 = .ok (.iload_n 1, 1) := dk_27 (dk_at dksJ13_newLength_0 22 rfl rfl)
theorem dJ13_newLength_23 : decode cJ13_newLength 23 = .ok (.invokestatic 201, 3) := dk_184 0 201 (dk_at dksJ13_newLength_1 0 rfl rfl)
theorem dJ13_newLength_26 : decode cJ13_newLength 26 = .ok (.ireturn, 1) := dk_172 (dk_at dksJ13_newLength_1 3 rfl rfl)
abbrev cJ13_hugeLength : ByteArray := prog_53_method_28_code
def yJ13_hugeLength : MethodName := ⟨RJ13, "hugeLength", "(II)I"⟩
def dkwJ13_hugeLength_2 : List UInt8 := [191, 28, 18, 200, 163, 0, 6, 18, 200, 172, 28, 172]
abbrev dktJ13_hugeLength_2 : List UInt8 := dkwJ13_hugeLength_2 ++ []
def dkwJ13_hugeLength_1 : List UInt8 := [26, 182, 0, 98, 18, 208, 182, 0, 94, 27, 182, 0, 98, 18, 210, 182, 0, 94, 182, 0, 101, 183, 0, 212]
abbrev dktJ13_hugeLength_1 : List UInt8 := dkwJ13_hugeLength_1 ++ dktJ13_hugeLength_2
def dkwJ13_hugeLength_0 : List UInt8 := [26, 27, 96, 61, 28, 156, 0, 44, 187, 0, 204, 89, 187, 0, 89, 89, 183, 0, 91, 18, 206, 182, 0, 94]
abbrev dktJ13_hugeLength_0 : List UInt8 := dkwJ13_hugeLength_0 ++ dktJ13_hugeLength_1
theorem dksJ13_hugeLength_0 : cJ13_hugeLength.data.toList.drop 0 = dktJ13_hugeLength_0 := by decide +kernel
theorem dksJ13_hugeLength_1 : cJ13_hugeLength.data.toList.drop 24 = dktJ13_hugeLength_1 := dk_seg dksJ13_hugeLength_0 24 rfl rfl
theorem dksJ13_hugeLength_2 : cJ13_hugeLength.data.toList.drop 48 = dktJ13_hugeLength_2 := dk_seg dksJ13_hugeLength_1 24 rfl rfl
theorem dJ13_hugeLength_0 : decode cJ13_hugeLength 0 = .ok (.iload_n 0, 1) := dk_26 (dk_at dksJ13_hugeLength_0 0 rfl rfl)
theorem dJ13_hugeLength_1 : decode cJ13_hugeLength 1 = .ok (.iload_n 1, 1) := dk_27 (dk_at dksJ13_hugeLength_0 1 rfl rfl)
theorem dJ13_hugeLength_2 : decode cJ13_hugeLength 2 = .ok (.iadd, 1) := dk_96 (dk_at dksJ13_hugeLength_0 2 rfl rfl)
theorem dJ13_hugeLength_3 : decode cJ13_hugeLength 3 = .ok (.istore_n 2, 1) := dk_61 (dk_at dksJ13_hugeLength_0 3 rfl rfl)
theorem dJ13_hugeLength_4 : decode cJ13_hugeLength 4 = .ok (.iload_n 2, 1) := dk_28 (dk_at dksJ13_hugeLength_0 4 rfl rfl)
theorem dJ13_hugeLength_5 : decode cJ13_hugeLength 5 = .ok (.ifCond .ge 44, 3) := dk_156 0 44 (dk_at dksJ13_hugeLength_0 5 rfl rfl)
theorem dJ13_hugeLength_8 : decode cJ13_hugeLength 8 = .ok (.new 204, 3) := dk_187 0 204 (dk_at dksJ13_hugeLength_0 8 rfl rfl)
theorem dJ13_hugeLength_11 : decode cJ13_hugeLength 11 = .ok (.dup, 1) := dk_89 (dk_at dksJ13_hugeLength_0 11 rfl rfl)
theorem dJ13_hugeLength_12 : decode cJ13_hugeLength 12 = .ok (.new 89, 3) := dk_187 0 89 (dk_at dksJ13_hugeLength_0 12 rfl rfl)
theorem dJ13_hugeLength_15 : decode cJ13_hugeLength 15 = .ok (.dup, 1) := dk_89 (dk_at dksJ13_hugeLength_0 15 rfl rfl)
theorem dJ13_hugeLength_16 : decode cJ13_hugeLength 16 = .ok (.invokespecial 91, 3) := dk_183 0 91 (dk_at dksJ13_hugeLength_0 16 rfl rfl)
theorem dJ13_hugeLength_19 : decode cJ13_hugeLength 19 = .ok (.ldc 206, 2) := dk_18 206 (dk_at dksJ13_hugeLength_0 19 rfl rfl)
theorem dJ13_hugeLength_21 : decode cJ13_hugeLength 21 = .ok (.invokevirtual 94, 3) := dk_182 0 94 (dk_at dksJ13_hugeLength_0 21 rfl rfl)
theorem dJ13_hugeLength_24 : decode cJ13_hugeLength 24 = .ok (.iload_n 0, 1) := dk_26 (dk_at dksJ13_hugeLength_1 0 rfl rfl)
theorem dJ13_hugeLength_25 : decode cJ13_hugeLength 25 = .ok (.invokevirtual 98, 3) := dk_182 0 98 (dk_at dksJ13_hugeLength_1 1 rfl rfl)
theorem dJ13_hugeLength_28 : decode cJ13_hugeLength 28 = .ok (.ldc 208, 2) := dk_18 208 (dk_at dksJ13_hugeLength_1 4 rfl rfl)
theorem dJ13_hugeLength_30 : decode cJ13_hugeLength 30 = .ok (.invokevirtual 94, 3) := dk_182 0 94 (dk_at dksJ13_hugeLength_1 6 rfl rfl)
theorem dJ13_hugeLength_33 : decode cJ13_hugeLength 33 = .ok (.iload_n 1, 1) := dk_27 (dk_at dksJ13_hugeLength_1 9 rfl rfl)
theorem dJ13_hugeLength_34 : decode cJ13_hugeLength 34 = .ok (.invokevirtual 98, 3) := dk_182 0 98 (dk_at dksJ13_hugeLength_1 10 rfl rfl)
theorem dJ13_hugeLength_37 : decode cJ13_hugeLength 37 = .ok (.ldc 210, 2) := dk_18 210 (dk_at dksJ13_hugeLength_1 13 rfl rfl)
theorem dJ13_hugeLength_39 : decode cJ13_hugeLength 39 = .ok (.invokevirtual 94, 3) := dk_182 0 94 (dk_at dksJ13_hugeLength_1 15 rfl rfl)
theorem dJ13_hugeLength_42 : decode cJ13_hugeLength 42 = .ok (.invokevirtual 101, 3) := dk_182 0 101 (dk_at dksJ13_hugeLength_1 18 rfl rfl)
theorem dJ13_hugeLength_45 : decode cJ13_hugeLength 45 = .ok (.invokespecial 212, 3) := dk_183 0 212 (dk_at dksJ13_hugeLength_1 21 rfl rfl)
theorem dJ13_hugeLength_48 : decode cJ13_hugeLength 48 = .ok (.athrow, 1) := dk_191 (dk_at dksJ13_hugeLength_2 0 rfl rfl)
theorem dJ13_hugeLength_49 : decode cJ13_hugeLength 49 = .ok (.iload_n 2, 1) := dk_28 (dk_at dksJ13_hugeLength_2 1 rfl rfl)
theorem dJ13_hugeLength_50 : decode cJ13_hugeLength 50 = .ok (.ldc 200, 2) := dk_18 200 (dk_at dksJ13_hugeLength_2 2 rfl rfl)
theorem dJ13_hugeLength_52 : decode cJ13_hugeLength 52 = .ok (.if_icmp .gt 6, 3) := dk_163 0 6 (dk_at dksJ13_hugeLength_2 4 rfl rfl)
theorem dJ13_hugeLength_55 : decode cJ13_hugeLength 55 = .ok (.ldc 200, 2) := dk_18 200 (dk_at dksJ13_hugeLength_2 7 rfl rfl)
theorem dJ13_hugeLength_57 : decode cJ13_hugeLength 57 = .ok (.ireturn, 1) := dk_172 (dk_at dksJ13_hugeLength_2 9 rfl rfl)
theorem dJ13_hugeLength_58 : decode cJ13_hugeLength 58 = .ok (.iload_n 2, 1) := dk_28 (dk_at dksJ13_hugeLength_2 10 rfl rfl)
theorem dJ13_hugeLength_59 : decode cJ13_hugeLength 59 = .ok (.ireturn, 1) := dk_172 (dk_at dksJ13_hugeLength_2 11 rfl rfl)
theorem q122 : (Jvm.Cond.initialized "jdk/internal/util/ArraysSupport") ∈ lw_all := lw_g (lw_at lw_m1 21 rfl) rfl
theorem q593 : (Jvm.Cond.static ({ cls := "jdk/internal/util/ArraysSupport", name := "newLength", desc := "(III)I" } : Jvm.MethodName)) ∈ lw_all := lw_g (lw_at lw_m3 12 rfl) rfl
theorem q594 : (Jvm.Cond.code ({ cls := "jdk/internal/util/ArraysSupport", name := "newLength", desc := "(III)I" } : Jvm.MethodName) prog_53_method_27_code (4 : Nat) (Option.some Jvm.ClassFile.FieldType.int)) ∈ lw_all := lw_g (lw_at lw_m3 13 rfl) rfl
theorem q595 : (Jvm.Cond.methodLink "jdk/internal/util/ArraysSupport" (194 : Nat) ({ cls := "java/lang/Math", name := "max", desc := "(II)I" } : Jvm.MethodName)) ∈ lw_all := lw_g (lw_at lw_m3 14 rfl) rfl
theorem q596 : (Jvm.Cond.constant "jdk/internal/util/ArraysSupport" (200 : Nat) (2147483639 : Int32)) ∈ lw_all := lw_g (lw_at lw_m3 15 rfl) rfl
theorem q597 : (Jvm.Cond.methodLink "jdk/internal/util/ArraysSupport" (201 : Nat) ({ cls := "jdk/internal/util/ArraysSupport", name := "hugeLength", desc := "(II)I" } : Jvm.MethodName)) ∈ lw_all := lw_g (lw_at lw_m3 16 rfl) rfl
theorem q598 : (Jvm.Cond.static ({ cls := "jdk/internal/util/ArraysSupport", name := "hugeLength", desc := "(II)I" } : Jvm.MethodName)) ∈ lw_all := lw_g (lw_at lw_m3 17 rfl) rfl
theorem q599 : (Jvm.Cond.code ({ cls := "jdk/internal/util/ArraysSupport", name := "hugeLength", desc := "(II)I" } : Jvm.MethodName) prog_53_method_28_code (3 : Nat) (Option.some Jvm.ClassFile.FieldType.int)) ∈ lw_all := lw_g (lw_at lw_m3 18 rfl) rfl

/-! java/util/Arrays -/
set_option maxRecDepth 100000
def RJ14 : String := "java/util/Arrays"
abbrev cJ14_copyOf : ByteArray := prog_47_method_119_code
def yJ14_copyOf : MethodName := ⟨RJ14, "copyOf", "([Ljava/lang/Object;I)[Ljava/lang/Object;"⟩
def dkwJ14_copyOf_0 : List UInt8 := [42, 27, 42, 182, 0, 86, 184, 1, 44, 176]
abbrev dktJ14_copyOf_0 : List UInt8 := dkwJ14_copyOf_0 ++ []
theorem dksJ14_copyOf_0 : cJ14_copyOf.data.toList.drop 0 = dktJ14_copyOf_0 := by decide +kernel
theorem dJ14_copyOf_0 : decode cJ14_copyOf 0 = .ok (.aload_n 0, 1) := dk_42 (dk_at dksJ14_copyOf_0 0 rfl rfl)
theorem dJ14_copyOf_1 : decode cJ14_copyOf 1 = .ok (.iload_n 1, 1) := dk_27 (dk_at dksJ14_copyOf_0 1 rfl rfl)
theorem dJ14_copyOf_2 : decode cJ14_copyOf 2 = .ok (.aload_n 0, 1) := dk_42 (dk_at dksJ14_copyOf_0 2 rfl rfl)
theorem dJ14_copyOf_3 : decode cJ14_copyOf 3 = .ok (.invokevirtual 86, 3) := dk_182 0 86 (dk_at dksJ14_copyOf_0 3 rfl rfl)
theorem dJ14_copyOf_6 : decode cJ14_copyOf 6 = .ok (.invokestatic 300, 3) := dk_184 1 44 (dk_at dksJ14_copyOf_0 6 rfl rfl)
theorem dJ14_copyOf_9 : decode cJ14_copyOf 9 = .ok (.areturn, 1) := dk_176 (dk_at dksJ14_copyOf_0 9 rfl rfl)
abbrev cJ14_copyOf_2 : ByteArray := prog_47_method_120_code
def yJ14_copyOf_2 : MethodName := ⟨RJ14, "copyOf", "([Ljava/lang/Object;ILjava/lang/Class;)[Ljava/lang/Object;"⟩
def dkwJ14_copyOf_2_1 : List UInt8 := [78, 42, 3, 45, 3, 42, 190, 27, 184, 1, 48, 184, 0, 150, 45, 176]
abbrev dktJ14_copyOf_2_1 : List UInt8 := dkwJ14_copyOf_2_1 ++ []
def dkwJ14_copyOf_2_0 : List UInt8 := [44, 18, 110, 166, 0, 10, 27, 189, 0, 2, 167, 0, 14, 44, 182, 0, 90, 27, 184, 0, 95, 192, 0, 110]
abbrev dktJ14_copyOf_2_0 : List UInt8 := dkwJ14_copyOf_2_0 ++ dktJ14_copyOf_2_1
theorem dksJ14_copyOf_2_0 : cJ14_copyOf_2.data.toList.drop 0 = dktJ14_copyOf_2_0 := by decide +kernel
theorem dksJ14_copyOf_2_1 : cJ14_copyOf_2.data.toList.drop 24 = dktJ14_copyOf_2_1 := dk_seg dksJ14_copyOf_2_0 24 rfl rfl
theorem dJ14_copyOf_2_0 : decode cJ14_copyOf_2 0 = .ok (.aload_n 2, 1) := dk_44 (dk_at dksJ14_copyOf_2_0 0 rfl rfl)
theorem dJ14_copyOf_2_1 : decode cJ14_copyOf_2 1 = .ok (.ldc 110, 2) := dk_18 110 (dk_at dksJ14_copyOf_2_0 1 rfl rfl)
theorem dJ14_copyOf_2_3 : decode cJ14_copyOf_2 3 = .ok (.if_acmp .ne 10, 3) := dk_166 0 10 (dk_at dksJ14_copyOf_2_0 3 rfl rfl)
theorem dJ14_copyOf_2_6 : decode cJ14_copyOf_2 6 = .ok (.iload_n 1, 1) := dk_27 (dk_at dksJ14_copyOf_2_0 6 rfl rfl)
theorem dJ14_copyOf_2_7 : decode cJ14_copyOf_2 7 = .ok (.anewarray 2, 3) := dk_189 0 2 (dk_at dksJ14_copyOf_2_0 7 rfl rfl)
theorem dJ14_copyOf_2_10 : decode cJ14_copyOf_2 10 = .ok (.goto 14, 3) := dk_167 0 14 (dk_at dksJ14_copyOf_2_0 10 rfl rfl)
theorem dJ14_copyOf_2_13 : decode cJ14_copyOf_2 13 = .ok (.aload_n 2, 1) := dk_44 (dk_at dksJ14_copyOf_2_0 13 rfl rfl)
theorem dJ14_copyOf_2_14 : decode cJ14_copyOf_2 14 = .ok (.invokevirtual 90, 3) := dk_182 0 90 (dk_at dksJ14_copyOf_2_0 14 rfl rfl)
theorem dJ14_copyOf_2_17 : decode cJ14_copyOf_2 17 = .ok (.iload_n 1, 1) := dk_27 (dk_at dksJ14_copyOf_2_0 17 rfl rfl)
theorem dJ14_copyOf_2_18 : decode cJ14_copyOf_2 18 = .ok (.invokestatic 95, 3) := dk_184 0 95 (dk_at dksJ14_copyOf_2_0 18 rfl rfl)
theorem dJ14_copyOf_2_21 : decode cJ14_copyOf_2 21 = .ok (.checkcast 110, 3) := dk_192 0 110 (dk_at dksJ14_copyOf_2_0 21 rfl rfl)
theorem dJ14_copyOf_2_24 : decode cJ14_copyOf_2 24 = .ok (.astore_n 3, 1) := dk_78 (dk_at dksJ14_copyOf_2_1 0 rfl rfl)
theorem dJ14_copyOf_2_25 : decode cJ14_copyOf_2 25 = .ok (.aload_n 0, 1) := dk_42 (dk_at dksJ14_copyOf_2_1 1 rfl rfl)
theorem dJ14_copyOf_2_26 : decode cJ14_copyOf_2 26 = .ok (.iconst 0, 1) := dk_3 (dk_at dksJ14_copyOf_2_1 2 rfl rfl)
theorem dJ14_copyOf_2_27 : decode cJ14_copyOf_2 27 = .ok (.aload_n 3, 1) := dk_45 (dk_at dksJ14_copyOf_2_1 3 rfl rfl)
theorem dJ14_copyOf_2_28 : decode cJ14_copyOf_2 28 = .ok (.iconst 0, 1) := dk_3 (dk_at dksJ14_copyOf_2_1 4 rfl rfl)
theorem dJ14_copyOf_2_29 : decode cJ14_copyOf_2 29 = .ok (.aload_n 0, 1) := dk_42 (dk_at dksJ14_copyOf_2_1 5 rfl rfl)
theorem dJ14_copyOf_2_30 : decode cJ14_copyOf_2 30 = .ok (.arraylength, 1) := dk_190 (dk_at dksJ14_copyOf_2_1 6 rfl rfl)
theorem dJ14_copyOf_2_31 : decode cJ14_copyOf_2 31 = .ok (.iload_n 1, 1) := dk_27 (dk_at dksJ14_copyOf_2_1 7 rfl rfl)
theorem dJ14_copyOf_2_32 : decode cJ14_copyOf_2 32 = .ok (.invokestatic 304, 3) := dk_184 1 48 (dk_at dksJ14_copyOf_2_1 8 rfl rfl)
theorem dJ14_copyOf_2_35 : decode cJ14_copyOf_2 35 = .ok (.invokestatic 150, 3) := dk_184 0 150 (dk_at dksJ14_copyOf_2_1 11 rfl rfl)
theorem dJ14_copyOf_2_38 : decode cJ14_copyOf_2 38 = .ok (.aload_n 3, 1) := dk_45 (dk_at dksJ14_copyOf_2_1 14 rfl rfl)
theorem dJ14_copyOf_2_39 : decode cJ14_copyOf_2 39 = .ok (.areturn, 1) := dk_176 (dk_at dksJ14_copyOf_2_1 15 rfl rfl)
theorem q123 : (Jvm.Cond.initialized "java/util/Arrays") ∈ lw_all := lw_g (lw_at lw_m1 22 rfl) rfl
theorem q601 : (Jvm.Cond.static ({ cls := "java/util/Arrays", name := "copyOf", desc := "([Ljava/lang/Object;I)[Ljava/lang/Object;" } : Jvm.MethodName)) ∈ lw_all := lw_g (lw_at lw_m3 20 rfl) rfl
theorem q602 : (Jvm.Cond.code ({ cls := "java/util/Arrays", name := "copyOf", desc := "([Ljava/lang/Object;I)[Ljava/lang/Object;" } : Jvm.MethodName) prog_47_method_119_code (2 : Nat) (Option.some (Jvm.ClassFile.FieldType.array (Jvm.ClassFile.FieldType.object "java/lang/Object")))) ∈ lw_all := lw_g (lw_at lw_m3 21 rfl) rfl
theorem q603 : (Jvm.Cond.methodLink "java/util/Arrays" (86 : Nat) ({ cls := "java/lang/Object", name := "getClass", desc := "()Ljava/lang/Class;" } : Jvm.MethodName)) ∈ lw_all := lw_g (lw_at lw_m3 22 rfl) rfl
theorem q628 : (Jvm.Cond.methodLink "java/util/Arrays" (300 : Nat) ({ cls := "java/util/Arrays", name := "copyOf", desc := "([Ljava/lang/Object;ILjava/lang/Class;)[Ljava/lang/Object;" } : Jvm.MethodName)) ∈ lw_all := lw_g (lw_at lw_m3 47 rfl) rfl
theorem q629 : (Jvm.Cond.static ({ cls := "java/util/Arrays", name := "copyOf", desc := "([Ljava/lang/Object;ILjava/lang/Class;)[Ljava/lang/Object;" } : Jvm.MethodName)) ∈ lw_all := lw_g (lw_at lw_m3 48 rfl) rfl
theorem q630 : (Jvm.Cond.code ({ cls := "java/util/Arrays", name := "copyOf", desc := "([Ljava/lang/Object;ILjava/lang/Class;)[Ljava/lang/Object;" } : Jvm.MethodName) prog_47_method_120_code (4 : Nat) (Option.some (Jvm.ClassFile.FieldType.array (Jvm.ClassFile.FieldType.object "java/lang/Object")))) ∈ lw_all := lw_g (lw_at lw_m3 49 rfl) rfl
theorem q631 : (Jvm.Cond.classLink "java/util/Arrays" (110 : Nat) "[Ljava/lang/Object;") ∈ lw_all := lw_g (lw_at lw_m3 50 rfl) rfl
theorem q633 : (Jvm.Cond.classLink "java/util/Arrays" (2 : Nat) "java/lang/Object") ∈ lw_all := lw_g (lw_at lw_m3 52 rfl) rfl
theorem q634 : (Jvm.Cond.methodLink "java/util/Arrays" (304 : Nat) ({ cls := "java/lang/Math", name := "min", desc := "(II)I" } : Jvm.MethodName)) ∈ lw_all := lw_g (lw_at lw_m3 53 rfl) rfl
theorem q635 : (Jvm.Cond.methodLink "java/util/Arrays" (150 : Nat) ({ cls := "java/lang/System", name := "arraycopy", desc := "(Ljava/lang/Object;ILjava/lang/Object;II)V" } : Jvm.MethodName)) ∈ lw_all := lw_g (lw_at lw_m3 54 rfl) rfl

/-! java/lang/Integer -/
set_option maxRecDepth 100000
def RJ15 : String := "java/lang/Integer"
abbrev cJ15_bitCount : ByteArray := prog_33_method_49_code
def yJ15_bitCount : MethodName := ⟨RJ15, "bitCount", "(I)I"⟩
def dkwJ15_bitCount_2 : List UInt8 := [26, 16, 63, 126, 172]
abbrev dktJ15_bitCount_2 : List UInt8 := dkwJ15_bitCount_2 ++ []
def dkwJ15_bitCount_1 : List UInt8 := [26, 26, 7, 124, 96, 19, 1, 11, 126, 59, 26, 26, 16, 8, 124, 96, 59, 26, 26, 16, 16, 124, 96, 59]
abbrev dktJ15_bitCount_1 : List UInt8 := dkwJ15_bitCount_1 ++ dktJ15_bitCount_2
def dkwJ15_bitCount_0 : List UInt8 := [26, 26, 4, 124, 19, 1, 9, 126, 100, 59, 26, 19, 1, 10, 126, 26, 5, 124, 19, 1, 10, 126, 96, 59]
abbrev dktJ15_bitCount_0 : List UInt8 := dkwJ15_bitCount_0 ++ dktJ15_bitCount_1
theorem dksJ15_bitCount_0 : cJ15_bitCount.data.toList.drop 0 = dktJ15_bitCount_0 := by decide +kernel
theorem dksJ15_bitCount_1 : cJ15_bitCount.data.toList.drop 24 = dktJ15_bitCount_1 := dk_seg dksJ15_bitCount_0 24 rfl rfl
theorem dksJ15_bitCount_2 : cJ15_bitCount.data.toList.drop 48 = dktJ15_bitCount_2 := dk_seg dksJ15_bitCount_1 24 rfl rfl
theorem dJ15_bitCount_0 : decode cJ15_bitCount 0 = .ok (.iload_n 0, 1) := dk_26 (dk_at dksJ15_bitCount_0 0 rfl rfl)
theorem dJ15_bitCount_1 : decode cJ15_bitCount 1 = .ok (.iload_n 0, 1) := dk_26 (dk_at dksJ15_bitCount_0 1 rfl rfl)
theorem dJ15_bitCount_2 : decode cJ15_bitCount 2 = .ok (.iconst 1, 1) := dk_4 (dk_at dksJ15_bitCount_0 2 rfl rfl)
theorem dJ15_bitCount_3 : decode cJ15_bitCount 3 = .ok (.iushr, 1) := dk_124 (dk_at dksJ15_bitCount_0 3 rfl rfl)
theorem dJ15_bitCount_4 : decode cJ15_bitCount 4 = .ok (.ldc_w 265, 3) := dk_19 1 9 (dk_at dksJ15_bitCount_0 4 rfl rfl)
theorem dJ15_bitCount_7 : decode cJ15_bitCount 7 = .ok (.iand, 1) := dk_126 (dk_at dksJ15_bitCount_0 7 rfl rfl)
theorem dJ15_bitCount_8 : decode cJ15_bitCount 8 = .ok (.isub, 1) := dk_100 (dk_at dksJ15_bitCount_0 8 rfl rfl)
theorem dJ15_bitCount_9 : decode cJ15_bitCount 9 = .ok (.istore_n 0, 1) := dk_59 (dk_at dksJ15_bitCount_0 9 rfl rfl)
theorem dJ15_bitCount_10 : decode cJ15_bitCount 10 = .ok (.iload_n 0, 1) := dk_26 (dk_at dksJ15_bitCount_0 10 rfl rfl)
theorem dJ15_bitCount_11 : decode cJ15_bitCount 11 = .ok (.ldc_w 266, 3) := dk_19 1 10 (dk_at dksJ15_bitCount_0 11 rfl rfl)
theorem dJ15_bitCount_14 : decode cJ15_bitCount 14 = .ok (.iand, 1) := dk_126 (dk_at dksJ15_bitCount_0 14 rfl rfl)
theorem dJ15_bitCount_15 : decode cJ15_bitCount 15 = .ok (.iload_n 0, 1) := dk_26 (dk_at dksJ15_bitCount_0 15 rfl rfl)
theorem dJ15_bitCount_16 : decode cJ15_bitCount 16 = .ok (.iconst 2, 1) := dk_5 (dk_at dksJ15_bitCount_0 16 rfl rfl)
theorem dJ15_bitCount_17 : decode cJ15_bitCount 17 = .ok (.iushr, 1) := dk_124 (dk_at dksJ15_bitCount_0 17 rfl rfl)
theorem dJ15_bitCount_18 : decode cJ15_bitCount 18 = .ok (.ldc_w 266, 3) := dk_19 1 10 (dk_at dksJ15_bitCount_0 18 rfl rfl)
theorem dJ15_bitCount_21 : decode cJ15_bitCount 21 = .ok (.iand, 1) := dk_126 (dk_at dksJ15_bitCount_0 21 rfl rfl)
theorem dJ15_bitCount_22 : decode cJ15_bitCount 22 = .ok (.iadd, 1) := dk_96 (dk_at dksJ15_bitCount_0 22 rfl rfl)
theorem dJ15_bitCount_23 : decode cJ15_bitCount 23 = .ok (.istore_n 0, 1) := dk_59 (dk_at dksJ15_bitCount_0 23 rfl rfl)
theorem dJ15_bitCount_24 : decode cJ15_bitCount 24 = .ok (.iload_n 0, 1) := dk_26 (dk_at dksJ15_bitCount_1 0 rfl rfl)
theorem dJ15_bitCount_25 : decode cJ15_bitCount 25 = .ok (.iload_n 0, 1) := dk_26 (dk_at dksJ15_bitCount_1 1 rfl rfl)
theorem dJ15_bitCount_26 : decode cJ15_bitCount 26 = .ok (.iconst 4, 1) := dk_7 (dk_at dksJ15_bitCount_1 2 rfl rfl)
theorem dJ15_bitCount_27 : decode cJ15_bitCount 27 = .ok (.iushr, 1) := dk_124 (dk_at dksJ15_bitCount_1 3 rfl rfl)
theorem dJ15_bitCount_28 : decode cJ15_bitCount 28 = .ok (.iadd, 1) := dk_96 (dk_at dksJ15_bitCount_1 4 rfl rfl)
theorem dJ15_bitCount_29 : decode cJ15_bitCount 29 = .ok (.ldc_w 267, 3) := dk_19 1 11 (dk_at dksJ15_bitCount_1 5 rfl rfl)
theorem dJ15_bitCount_32 : decode cJ15_bitCount 32 = .ok (.iand, 1) := dk_126 (dk_at dksJ15_bitCount_1 8 rfl rfl)
theorem dJ15_bitCount_33 : decode cJ15_bitCount 33 = .ok (.istore_n 0, 1) := dk_59 (dk_at dksJ15_bitCount_1 9 rfl rfl)
theorem dJ15_bitCount_34 : decode cJ15_bitCount 34 = .ok (.iload_n 0, 1) := dk_26 (dk_at dksJ15_bitCount_1 10 rfl rfl)
theorem dJ15_bitCount_35 : decode cJ15_bitCount 35 = .ok (.iload_n 0, 1) := dk_26 (dk_at dksJ15_bitCount_1 11 rfl rfl)
theorem dJ15_bitCount_36 : decode cJ15_bitCount 36 = .ok (.bipush 8, 2) := dk_16 8 (dk_at dksJ15_bitCount_1 12 rfl rfl)
theorem dJ15_bitCount_38 : decode cJ15_bitCount 38 = .ok (.iushr, 1) := dk_124 (dk_at dksJ15_bitCount_1 14 rfl rfl)
theorem dJ15_bitCount_39 : decode cJ15_bitCount 39 = .ok (.iadd, 1) := dk_96 (dk_at dksJ15_bitCount_1 15 rfl rfl)
theorem dJ15_bitCount_40 : decode cJ15_bitCount 40 = .ok (.istore_n 0, 1) := dk_59 (dk_at dksJ15_bitCount_1 16 rfl rfl)
theorem dJ15_bitCount_41 : decode cJ15_bitCount 41 = .ok (.iload_n 0, 1) := dk_26 (dk_at dksJ15_bitCount_1 17 rfl rfl)
theorem dJ15_bitCount_42 : decode cJ15_bitCount 42 = .ok (.iload_n 0, 1) := dk_26 (dk_at dksJ15_bitCount_1 18 rfl rfl)
theorem dJ15_bitCount_43 : decode cJ15_bitCount 43 = .ok (.bipush 16, 2) := dk_16 16 (dk_at dksJ15_bitCount_1 19 rfl rfl)
theorem dJ15_bitCount_45 : decode cJ15_bitCount 45 = .ok (.iushr, 1) := dk_124 (dk_at dksJ15_bitCount_1 21 rfl rfl)
theorem dJ15_bitCount_46 : decode cJ15_bitCount 46 = .ok (.iadd, 1) := dk_96 (dk_at dksJ15_bitCount_1 22 rfl rfl)
theorem dJ15_bitCount_47 : decode cJ15_bitCount 47 = .ok (.istore_n 0, 1) := dk_59 (dk_at dksJ15_bitCount_1 23 rfl rfl)
theorem dJ15_bitCount_48 : decode cJ15_bitCount 48 = .ok (.iload_n 0, 1) := dk_26 (dk_at dksJ15_bitCount_2 0 rfl rfl)
theorem dJ15_bitCount_49 : decode cJ15_bitCount 49 = .ok (.bipush 63, 2) := dk_16 63 (dk_at dksJ15_bitCount_2 1 rfl rfl)
theorem dJ15_bitCount_51 : decode cJ15_bitCount 51 = .ok (.iand, 1) := dk_126 (dk_at dksJ15_bitCount_2 3 rfl rfl)
theorem dJ15_bitCount_52 : decode cJ15_bitCount 52 = .ok (.ireturn, 1) := dk_172 (dk_at dksJ15_bitCount_2 4 rfl rfl)
abbrev cJ15_numberOfTrailingZeros : ByteArray := prog_33_method_48_code
def yJ15_numberOfTrailingZeros : MethodName := ⟨RJ15, "numberOfTrailingZeros", "(I)I"⟩
def dkwJ15_numberOfTrailingZeros_3 : List UInt8 := [5, 124, 59, 27, 26, 4, 124, 96, 172]
abbrev dktJ15_numberOfTrailingZeros_3 : List UInt8 := dkwJ15_numberOfTrailingZeros_3 ++ []
def dkwJ15_numberOfTrailingZeros_2 : List UInt8 := [124, 59, 26, 16, 16, 164, 0, 10, 132, 1, 4, 26, 7, 124, 59, 26, 7, 164, 0, 10, 132, 1, 2, 26]
abbrev dktJ15_numberOfTrailingZeros_2 : List UInt8 := dkwJ15_numberOfTrailingZeros_2 ++ dktJ15_numberOfTrailingZeros_3
def dkwJ15_numberOfTrailingZeros_1 : List UInt8 := [164, 0, 11, 132, 1, 16, 26, 16, 16, 124, 59, 26, 17, 1, 0, 164, 0, 11, 132, 1, 8, 26, 16, 8]
abbrev dktJ15_numberOfTrailingZeros_1 : List UInt8 := dkwJ15_numberOfTrailingZeros_1 ++ dktJ15_numberOfTrailingZeros_2
def dkwJ15_numberOfTrailingZeros_0 : List UInt8 := [26, 2, 130, 26, 4, 100, 126, 59, 26, 157, 0, 8, 26, 16, 32, 126, 172, 4, 60, 26, 19, 1, 8]
abbrev dktJ15_numberOfTrailingZeros_0 : List UInt8 := dkwJ15_numberOfTrailingZeros_0 ++ dktJ15_numberOfTrailingZeros_1
theorem dksJ15_numberOfTrailingZeros_0 : cJ15_numberOfTrailingZeros.data.toList.drop 0 = dktJ15_numberOfTrailingZeros_0 := by decide +kernel
theorem dksJ15_numberOfTrailingZeros_1 : cJ15_numberOfTrailingZeros.data.toList.drop 23 = dktJ15_numberOfTrailingZeros_1 := dk_seg dksJ15_numberOfTrailingZeros_0 23 rfl rfl
theorem dksJ15_numberOfTrailingZeros_2 : cJ15_numberOfTrailingZeros.data.toList.drop 47 = dktJ15_numberOfTrailingZeros_2 := dk_seg dksJ15_numberOfTrailingZeros_1 24 rfl rfl
theorem dksJ15_numberOfTrailingZeros_3 : cJ15_numberOfTrailingZeros.data.toList.drop 71 = dktJ15_numberOfTrailingZeros_3 := dk_seg dksJ15_numberOfTrailingZeros_2 24 rfl rfl
theorem dJ15_numberOfTrailingZeros_0 : decode cJ15_numberOfTrailingZeros 0 = .ok (.iload_n 0, 1) := dk_26 (dk_at dksJ15_numberOfTrailingZeros_0 0 rfl rfl)
theorem dJ15_numberOfTrailingZeros_1 : decode cJ15_numberOfTrailingZeros 1 = .ok (.iconst (-1), 1) := dk_2 (dk_at dksJ15_numberOfTrailingZeros_0 1 rfl rfl)
theorem dJ15_numberOfTrailingZeros_2 : decode cJ15_numberOfTrailingZeros 2 = .ok (.ixor, 1) := dk_130 (dk_at dksJ15_numberOfTrailingZeros_0 2 rfl rfl)
theorem dJ15_numberOfTrailingZeros_3 : decode cJ15_numberOfTrailingZeros 3 = .ok (.iload_n 0, 1) := dk_26 (dk_at dksJ15_numberOfTrailingZeros_0 3 rfl rfl)
theorem dJ15_numberOfTrailingZeros_4 : decode cJ15_numberOfTrailingZeros 4 = .ok (.iconst 1, 1) := dk_4 (dk_at dksJ15_numberOfTrailingZeros_0 4 rfl rfl)
theorem dJ15_numberOfTrailingZeros_5 : decode cJ15_numberOfTrailingZeros 5 = .ok (.isub, 1) := dk_100 (dk_at dksJ15_numberOfTrailingZeros_0 5 rfl rfl)
theorem dJ15_numberOfTrailingZeros_6 : decode cJ15_numberOfTrailingZeros 6 = .ok (.iand, 1) := dk_126 (dk_at dksJ15_numberOfTrailingZeros_0 6 rfl rfl)
theorem dJ15_numberOfTrailingZeros_7 : decode cJ15_numberOfTrailingZeros 7 = .ok (.istore_n 0, 1) := dk_59 (dk_at dksJ15_numberOfTrailingZeros_0 7 rfl rfl)
theorem dJ15_numberOfTrailingZeros_8 : decode cJ15_numberOfTrailingZeros 8 = .ok (.iload_n 0, 1) := dk_26 (dk_at dksJ15_numberOfTrailingZeros_0 8 rfl rfl)
theorem dJ15_numberOfTrailingZeros_9 : decode cJ15_numberOfTrailingZeros 9 = .ok (.ifCond .gt 8, 3) := dk_157 0 8 (dk_at dksJ15_numberOfTrailingZeros_0 9 rfl rfl)
theorem dJ15_numberOfTrailingZeros_12 : decode cJ15_numberOfTrailingZeros 12 = .ok (.iload_n 0, 1) := dk_26 (dk_at dksJ15_numberOfTrailingZeros_0 12 rfl rfl)
theorem dJ15_numberOfTrailingZeros_13 : decode cJ15_numberOfTrailingZeros 13 = .ok (.bipush 32, 2) := dk_16 32 (dk_at dksJ15_numberOfTrailingZeros_0 13 rfl rfl)
theorem dJ15_numberOfTrailingZeros_15 : decode cJ15_numberOfTrailingZeros 15 = .ok (.iand, 1) := dk_126 (dk_at dksJ15_numberOfTrailingZeros_0 15 rfl rfl)
theorem dJ15_numberOfTrailingZeros_16 : decode cJ15_numberOfTrailingZeros 16 = .ok (.ireturn, 1) := dk_172 (dk_at dksJ15_numberOfTrailingZeros_0 16 rfl rfl)
theorem dJ15_numberOfTrailingZeros_17 : decode cJ15_numberOfTrailingZeros 17 = .ok (.iconst 1, 1) := dk_4 (dk_at dksJ15_numberOfTrailingZeros_0 17 rfl rfl)
theorem dJ15_numberOfTrailingZeros_18 : decode cJ15_numberOfTrailingZeros 18 = .ok (.istore_n 1, 1) := dk_60 (dk_at dksJ15_numberOfTrailingZeros_0 18 rfl rfl)
theorem dJ15_numberOfTrailingZeros_19 : decode cJ15_numberOfTrailingZeros 19 = .ok (.iload_n 0, 1) := dk_26 (dk_at dksJ15_numberOfTrailingZeros_0 19 rfl rfl)
theorem dJ15_numberOfTrailingZeros_20 : decode cJ15_numberOfTrailingZeros 20 = .ok (.ldc_w 264, 3) := dk_19 1 8 (dk_at dksJ15_numberOfTrailingZeros_0 20 rfl rfl)
theorem dJ15_numberOfTrailingZeros_23 : decode cJ15_numberOfTrailingZeros 23 = .ok (.if_icmp .le 11, 3) := dk_164 0 11 (dk_at dksJ15_numberOfTrailingZeros_1 0 rfl rfl)
theorem dJ15_numberOfTrailingZeros_26 : decode cJ15_numberOfTrailingZeros 26 = .ok (.iinc 1 16, 3) := dk_132 1 16 (dk_at dksJ15_numberOfTrailingZeros_1 3 rfl rfl)
theorem dJ15_numberOfTrailingZeros_29 : decode cJ15_numberOfTrailingZeros 29 = .ok (.iload_n 0, 1) := dk_26 (dk_at dksJ15_numberOfTrailingZeros_1 6 rfl rfl)
theorem dJ15_numberOfTrailingZeros_30 : decode cJ15_numberOfTrailingZeros 30 = .ok (.bipush 16, 2) := dk_16 16 (dk_at dksJ15_numberOfTrailingZeros_1 7 rfl rfl)
theorem dJ15_numberOfTrailingZeros_32 : decode cJ15_numberOfTrailingZeros 32 = .ok (.iushr, 1) := dk_124 (dk_at dksJ15_numberOfTrailingZeros_1 9 rfl rfl)
theorem dJ15_numberOfTrailingZeros_33 : decode cJ15_numberOfTrailingZeros 33 = .ok (.istore_n 0, 1) := dk_59 (dk_at dksJ15_numberOfTrailingZeros_1 10 rfl rfl)
theorem dJ15_numberOfTrailingZeros_34 : decode cJ15_numberOfTrailingZeros 34 = .ok (.iload_n 0, 1) := dk_26 (dk_at dksJ15_numberOfTrailingZeros_1 11 rfl rfl)
theorem dJ15_numberOfTrailingZeros_35 : decode cJ15_numberOfTrailingZeros 35 = .ok (.sipush 256, 3) := dk_17 1 0 (dk_at dksJ15_numberOfTrailingZeros_1 12 rfl rfl)
theorem dJ15_numberOfTrailingZeros_38 : decode cJ15_numberOfTrailingZeros 38 = .ok (.if_icmp .le 11, 3) := dk_164 0 11 (dk_at dksJ15_numberOfTrailingZeros_1 15 rfl rfl)
theorem dJ15_numberOfTrailingZeros_41 : decode cJ15_numberOfTrailingZeros 41 = .ok (.iinc 1 8, 3) := dk_132 1 8 (dk_at dksJ15_numberOfTrailingZeros_1 18 rfl rfl)
theorem dJ15_numberOfTrailingZeros_44 : decode cJ15_numberOfTrailingZeros 44 = .ok (.iload_n 0, 1) := dk_26 (dk_at dksJ15_numberOfTrailingZeros_1 21 rfl rfl)
theorem dJ15_numberOfTrailingZeros_45 : decode cJ15_numberOfTrailingZeros 45 = .ok (.bipush 8, 2) := dk_16 8 (dk_at dksJ15_numberOfTrailingZeros_1 22 rfl rfl)
theorem dJ15_numberOfTrailingZeros_47 : decode cJ15_numberOfTrailingZeros 47 = .ok (.iushr, 1) := dk_124 (dk_at dksJ15_numberOfTrailingZeros_2 0 rfl rfl)
theorem dJ15_numberOfTrailingZeros_48 : decode cJ15_numberOfTrailingZeros 48 = .ok (.istore_n 0, 1) := dk_59 (dk_at dksJ15_numberOfTrailingZeros_2 1 rfl rfl)
theorem dJ15_numberOfTrailingZeros_49 : decode cJ15_numberOfTrailingZeros 49 = .ok (.iload_n 0, 1) := dk_26 (dk_at dksJ15_numberOfTrailingZeros_2 2 rfl rfl)
theorem dJ15_numberOfTrailingZeros_50 : decode cJ15_numberOfTrailingZeros 50 = .ok (.bipush 16, 2) := dk_16 16 (dk_at dksJ15_numberOfTrailingZeros_2 3 rfl rfl)
theorem dJ15_numberOfTrailingZeros_52 : decode cJ15_numberOfTrailingZeros 52 = .ok (.if_icmp .le 10, 3) := dk_164 0 10 (dk_at dksJ15_numberOfTrailingZeros_2 5 rfl rfl)
theorem dJ15_numberOfTrailingZeros_55 : decode cJ15_numberOfTrailingZeros 55 = .ok (.iinc 1 4, 3) := dk_132 1 4 (dk_at dksJ15_numberOfTrailingZeros_2 8 rfl rfl)
theorem dJ15_numberOfTrailingZeros_58 : decode cJ15_numberOfTrailingZeros 58 = .ok (.iload_n 0, 1) := dk_26 (dk_at dksJ15_numberOfTrailingZeros_2 11 rfl rfl)
theorem dJ15_numberOfTrailingZeros_59 : decode cJ15_numberOfTrailingZeros 59 = .ok (.iconst 4, 1) := dk_7 (dk_at dksJ15_numberOfTrailingZeros_2 12 rfl rfl)
theorem dJ15_numberOfTrailingZeros_60 : decode cJ15_numberOfTrailingZeros 60 = .ok (.iushr, 1) := dk_124 (dk_at dksJ15_numberOfTrailingZeros_2 13 rfl rfl)
theorem dJ15_numberOfTrailingZeros_61 : decode cJ15_numberOfTrailingZeros 61 = .ok (.istore_n 0, 1) := dk_59 (dk_at dksJ15_numberOfTrailingZeros_2 14 rfl rfl)
theorem dJ15_numberOfTrailingZeros_62 : decode cJ15_numberOfTrailingZeros 62 = .ok (.iload_n 0, 1) := dk_26 (dk_at dksJ15_numberOfTrailingZeros_2 15 rfl rfl)
theorem dJ15_numberOfTrailingZeros_63 : decode cJ15_numberOfTrailingZeros 63 = .ok (.iconst 4, 1) := dk_7 (dk_at dksJ15_numberOfTrailingZeros_2 16 rfl rfl)
theorem dJ15_numberOfTrailingZeros_64 : decode cJ15_numberOfTrailingZeros 64 = .ok (.if_icmp .le 10, 3) := dk_164 0 10 (dk_at dksJ15_numberOfTrailingZeros_2 17 rfl rfl)
theorem dJ15_numberOfTrailingZeros_67 : decode cJ15_numberOfTrailingZeros 67 = .ok (.iinc 1 2, 3) := dk_132 1 2 (dk_at dksJ15_numberOfTrailingZeros_2 20 rfl rfl)
theorem dJ15_numberOfTrailingZeros_70 : decode cJ15_numberOfTrailingZeros 70 = .ok (.iload_n 0, 1) := dk_26 (dk_at dksJ15_numberOfTrailingZeros_2 23 rfl rfl)
theorem dJ15_numberOfTrailingZeros_71 : decode cJ15_numberOfTrailingZeros 71 = .ok (.iconst 2, 1) := dk_5 (dk_at dksJ15_numberOfTrailingZeros_3 0 rfl rfl)
theorem dJ15_numberOfTrailingZeros_72 : decode cJ15_numberOfTrailingZeros 72 = .ok (.iushr, 1) := dk_124 (dk_at dksJ15_numberOfTrailingZeros_3 1 rfl rfl)
theorem dJ15_numberOfTrailingZeros_73 : decode cJ15_numberOfTrailingZeros 73 = .ok (.istore_n 0, 1) := dk_59 (dk_at dksJ15_numberOfTrailingZeros_3 2 rfl rfl)
theorem dJ15_numberOfTrailingZeros_74 : decode cJ15_numberOfTrailingZeros 74 = .ok (.iload_n 1, 1) := dk_27 (dk_at dksJ15_numberOfTrailingZeros_3 3 rfl rfl)
theorem dJ15_numberOfTrailingZeros_75 : decode cJ15_numberOfTrailingZeros 75 = .ok (.iload_n 0, 1) := dk_26 (dk_at dksJ15_numberOfTrailingZeros_3 4 rfl rfl)
theorem dJ15_numberOfTrailingZeros_76 : decode cJ15_numberOfTrailingZeros 76 = .ok (.iconst 1, 1) := dk_4 (dk_at dksJ15_numberOfTrailingZeros_3 5 rfl rfl)
theorem dJ15_numberOfTrailingZeros_77 : decode cJ15_numberOfTrailingZeros 77 = .ok (.iushr, 1) := dk_124 (dk_at dksJ15_numberOfTrailingZeros_3 6 rfl rfl)
theorem dJ15_numberOfTrailingZeros_78 : decode cJ15_numberOfTrailingZeros 78 = .ok (.iadd, 1) := dk_96 (dk_at dksJ15_numberOfTrailingZeros_3 7 rfl rfl)
theorem dJ15_numberOfTrailingZeros_79 : decode cJ15_numberOfTrailingZeros 79 = .ok (.ireturn, 1) := dk_172 (dk_at dksJ15_numberOfTrailingZeros_3 8 rfl rfl)
theorem q138 : (Jvm.Cond.initialized "java/lang/Integer") ∈ lw_all := lw_g (lw_at lw_m1 37 rfl) rfl
theorem q1128 : (Jvm.Cond.static ({ cls := "java/lang/Integer", name := "bitCount", desc := "(I)I" } : Jvm.MethodName)) ∈ lw_all := lw_g (lw_at lw_m5 67 rfl) rfl
theorem q1129 : (Jvm.Cond.code ({ cls := "java/lang/Integer", name := "bitCount", desc := "(I)I" } : Jvm.MethodName) prog_33_method_49_code (1 : Nat) (Option.some Jvm.ClassFile.FieldType.int)) ∈ lw_all := lw_g (lw_at lw_m5 68 rfl) rfl
theorem q1130 : (Jvm.Cond.constant "java/lang/Integer" (265 : Nat) (1431655765 : Int32)) ∈ lw_all := lw_g (lw_at lw_m5 69 rfl) rfl
theorem q1131 : (Jvm.Cond.constant "java/lang/Integer" (266 : Nat) (858993459 : Int32)) ∈ lw_all := lw_g (lw_at lw_m5 70 rfl) rfl
theorem q1132 : (Jvm.Cond.constant "java/lang/Integer" (267 : Nat) (252645135 : Int32)) ∈ lw_all := lw_g (lw_at lw_m5 71 rfl) rfl
theorem q1385 : (Jvm.Cond.static ({ cls := "java/lang/Integer", name := "numberOfTrailingZeros", desc := "(I)I" } : Jvm.MethodName)) ∈ lw_all := lw_g (lw_at lw_m6 84 rfl) rfl
theorem q1386 : (Jvm.Cond.code ({ cls := "java/lang/Integer", name := "numberOfTrailingZeros", desc := "(I)I" } : Jvm.MethodName) prog_33_method_48_code (2 : Nat) (Option.some Jvm.ClassFile.FieldType.int)) ∈ lw_all := lw_g (lw_at lw_m6 85 rfl) rfl
theorem q1387 : (Jvm.Cond.constant "java/lang/Integer" (264 : Nat) (65536 : Int32)) ∈ lw_all := lw_g (lw_at lw_m6 86 rfl) rfl

/-! java/lang/Object -/
set_option maxRecDepth 100000
def RJ16 : String := "java/lang/Object"
abbrev cJ16_init : ByteArray := object_method_1_code
def yJ16_init : MethodName := ⟨RJ16, "<init>", "()V"⟩
theorem dJ16_init_0 : decode cJ16_init 0 = .ok (.return_, 1) := by decide +kernel
theorem q150 : (Jvm.Cond.instanceMethod ({ cls := "java/lang/Object", name := "<init>", desc := "()V" } : Jvm.MethodName)) ∈ lw_all := lw_g (lw_at lw_m1 49 rfl) rfl
theorem q151 : (Jvm.Cond.code ({ cls := "java/lang/Object", name := "<init>", desc := "()V" } : Jvm.MethodName) object_method_1_code (1 : Nat) (Option.none : Option Jvm.ClassFile.FieldType)) ∈ lw_all := lw_g (lw_at lw_m1 50 rfl) rfl
theorem q604 : (Jvm.Cond.instanceMethod ({ cls := "java/lang/Object", name := "getClass", desc := "()Ljava/lang/Class;" } : Jvm.MethodName)) ∈ lw_all := lw_g (lw_at lw_m3 23 rfl) rfl
theorem q605 : (Jvm.Cond.sameMethod "java/lang/Object" "java/lang/Object" "getClass" "()Ljava/lang/Class;") ∈ lw_all := lw_g (lw_at lw_m3 24 rfl) rfl
theorem q627 : (Jvm.Cond.native ({ cls := "java/lang/Object", name := "getClass", desc := "()Ljava/lang/Class;" } : Jvm.MethodName)) ∈ lw_all := lw_g (lw_at lw_m3 46 rfl) rfl
theorem q2032 : (Jvm.Cond.declares ({ cls := "java/lang/Object", name := "getClass", desc := "()Ljava/lang/Class;" } : Jvm.MethodName)) ∈ lw_tbl := lw_at lw_m9 11 rfl

/-! java/util/ArrayList -/
set_option maxRecDepth 100000
def RJ2 : String := "java/util/ArrayList"
def TJ2 : u_T := fun k => match k with
  | 0 => ("java/util/AbstractList", "modCount", "I", false)
  | 1 => ("java/util/ArrayList", "elementData", "[Ljava/lang/Object;", false)
  | _ => ("java/util/ArrayList", "size", "I", false)
def tyJ2 : Nat → FieldType := fun k => match k with
  | 0 => .int
  | 1 => .array (.object "java/lang/Object")
  | _ => .int
abbrev wsJ20 : List Cond := u_ws RJ2 TJ2 3
theorem nmJ2 : ∀ a, a < 3 → ∀ b, b < 3 → a ≠ b → (TJ2 a).2.1 ≠ (TJ2 b).2.1 := by decide +kernel
theorem tyJ2_ok : ∀ k, k < 3 → parseFieldDescriptor (TJ2 k).2.2.1 = some (tyJ2 k) := by decide +kernel
abbrev cJ2_init : ByteArray := prog_46_method_2_code
def yJ2_init : MethodName := ⟨RJ2, "<init>", "()V"⟩
def dkwJ2_init_0 : List UInt8 := [42, 183, 0, 1, 42, 178, 0, 39, 181, 0, 9, 177]
abbrev dktJ2_init_0 : List UInt8 := dkwJ2_init_0 ++ []
theorem dksJ2_init_0 : cJ2_init.data.toList.drop 0 = dktJ2_init_0 := by decide +kernel
theorem dJ2_init_0 : decode cJ2_init 0 = .ok (.aload_n 0, 1) := dk_42 (dk_at dksJ2_init_0 0 rfl rfl)
theorem dJ2_init_1 : decode cJ2_init 1 = .ok (.invokespecial 1, 3) := dk_183 0 1 (dk_at dksJ2_init_0 1 rfl rfl)
theorem dJ2_init_4 : decode cJ2_init 4 = .ok (.aload_n 0, 1) := dk_42 (dk_at dksJ2_init_0 4 rfl rfl)
theorem dJ2_init_5 : decode cJ2_init 5 = .ok (.getstatic 39, 3) := dk_178 0 39 (dk_at dksJ2_init_0 5 rfl rfl)
theorem dJ2_init_8 : decode cJ2_init 8 = .ok (.putfield 9, 3) := dk_181 0 9 (dk_at dksJ2_init_0 8 rfl rfl)
theorem dJ2_init_11 : decode cJ2_init 11 = .ok (.return_, 1) := dk_177 (dk_at dksJ2_init_0 11 rfl rfl)
abbrev cJ2_clear : ByteArray := prog_46_method_40_code
def yJ2_clear : MethodName := ⟨RJ2, "clear", "()V"⟩
def dkwJ2_clear_1 : List UInt8 := [181, 0, 48, 62, 29, 28, 162, 0, 13, 43, 29, 1, 83, 132, 3, 1, 167, 255, 244, 177]
abbrev dktJ2_clear_1 : List UInt8 := dkwJ2_clear_1 ++ []
def dkwJ2_clear_0 : List UInt8 := [42, 89, 180, 0, 63, 4, 96, 181, 0, 63, 42, 180, 0, 9, 76, 42, 180, 0, 48, 61, 42, 3, 90]
abbrev dktJ2_clear_0 : List UInt8 := dkwJ2_clear_0 ++ dktJ2_clear_1
theorem dksJ2_clear_0 : cJ2_clear.data.toList.drop 0 = dktJ2_clear_0 := by decide +kernel
theorem dksJ2_clear_1 : cJ2_clear.data.toList.drop 23 = dktJ2_clear_1 := dk_seg dksJ2_clear_0 23 rfl rfl
theorem dJ2_clear_0 : decode cJ2_clear 0 = .ok (.aload_n 0, 1) := dk_42 (dk_at dksJ2_clear_0 0 rfl rfl)
theorem dJ2_clear_1 : decode cJ2_clear 1 = .ok (.dup, 1) := dk_89 (dk_at dksJ2_clear_0 1 rfl rfl)
theorem dJ2_clear_2 : decode cJ2_clear 2 = .ok (.getfield 63, 3) := dk_180 0 63 (dk_at dksJ2_clear_0 2 rfl rfl)
theorem dJ2_clear_5 : decode cJ2_clear 5 = .ok (.iconst 1, 1) := dk_4 (dk_at dksJ2_clear_0 5 rfl rfl)
theorem dJ2_clear_6 : decode cJ2_clear 6 = .ok (.iadd, 1) := dk_96 (dk_at dksJ2_clear_0 6 rfl rfl)
theorem dJ2_clear_7 : decode cJ2_clear 7 = .ok (.putfield 63, 3) := dk_181 0 63 (dk_at dksJ2_clear_0 7 rfl rfl)
theorem dJ2_clear_10 : decode cJ2_clear 10 = .ok (.aload_n 0, 1) := dk_42 (dk_at dksJ2_clear_0 10 rfl rfl)
theorem dJ2_clear_11 : decode cJ2_clear 11 = .ok (.getfield 9, 3) := dk_180 0 9 (dk_at dksJ2_clear_0 11 rfl rfl)
theorem dJ2_clear_14 : decode cJ2_clear 14 = .ok (.astore_n 1, 1) := dk_76 (dk_at dksJ2_clear_0 14 rfl rfl)
theorem dJ2_clear_15 : decode cJ2_clear 15 = .ok (.aload_n 0, 1) := dk_42 (dk_at dksJ2_clear_0 15 rfl rfl)
theorem dJ2_clear_16 : decode cJ2_clear 16 = .ok (.getfield 48, 3) := dk_180 0 48 (dk_at dksJ2_clear_0 16 rfl rfl)
theorem dJ2_clear_19 : decode cJ2_clear 19 = .ok (.istore_n 2, 1) := dk_61 (dk_at dksJ2_clear_0 19 rfl rfl)
theorem dJ2_clear_20 : decode cJ2_clear 20 = .ok (.aload_n 0, 1) := dk_42 (dk_at dksJ2_clear_0 20 rfl rfl)
theorem dJ2_clear_21 : decode cJ2_clear 21 = .ok (.iconst 0, 1) := dk_3 (dk_at dksJ2_clear_0 21 rfl rfl)
theorem dJ2_clear_22 : decode cJ2_clear 22 = .ok (.dup_x1, 1) := dk_90 (dk_at dksJ2_clear_0 22 rfl rfl)
theorem dJ2_clear_23 : decode cJ2_clear 23 = .ok (.putfield 48, 3) := dk_181 0 48 (dk_at dksJ2_clear_1 0 rfl rfl)
theorem dJ2_clear_26 : decode cJ2_clear 26 = .ok (.istore_n 3, 1) := dk_62 (dk_at dksJ2_clear_1 3 rfl rfl)
theorem dJ2_clear_27 : decode cJ2_clear 27 = .ok (.iload_n 3, 1) := dk_29 (dk_at dksJ2_clear_1 4 rfl rfl)
theorem dJ2_clear_28 : decode cJ2_clear 28 = .ok (.iload_n 2, 1) := dk_28 (dk_at dksJ2_clear_1 5 rfl rfl)
theorem dJ2_clear_29 : decode cJ2_clear 29 = .ok (.if_icmp .ge 13, 3) := dk_162 0 13 (dk_at dksJ2_clear_1 6 rfl rfl)
theorem dJ2_clear_32 : decode cJ2_clear 32 = .ok (.aload_n 1, 1) := dk_43 (dk_at dksJ2_clear_1 9 rfl rfl)
theorem dJ2_clear_33 : decode cJ2_clear 33 = .ok (.iload_n 3, 1) := dk_29 (dk_at dksJ2_clear_1 10 rfl rfl)
theorem dJ2_clear_34 : decode cJ2_clear 34 = .ok (.aconst_null, 1) := dk_1 (dk_at dksJ2_clear_1 11 rfl rfl)
theorem dJ2_clear_35 : decode cJ2_clear 35 = .ok (.aastore, 1) := dk_83 (dk_at dksJ2_clear_1 12 rfl rfl)
theorem dJ2_clear_36 : decode cJ2_clear 36 = .ok (.iinc 3 1, 3) := dk_132 3 1 (dk_at dksJ2_clear_1 13 rfl rfl)
theorem dJ2_clear_39 : decode cJ2_clear 39 = .ok (.goto (-12), 3) := dk_167 255 244 (dk_at dksJ2_clear_1 16 rfl rfl)
theorem dJ2_clear_42 : decode cJ2_clear 42 = .ok (.return_, 1) := dk_177 (dk_at dksJ2_clear_1 19 rfl rfl)
abbrev cJ2_size : ByteArray := prog_46_method_8_code
def yJ2_size : MethodName := ⟨RJ2, "size", "()I"⟩
theorem dJ2_size_0 : decode cJ2_size 0 = .ok (.aload_n 0, 1) := by decide +kernel
theorem dJ2_size_1 : decode cJ2_size 1 = .ok (.getfield 48, 3) := by decide +kernel
theorem dJ2_size_4 : decode cJ2_size 4 = .ok (.ireturn, 1) := by decide +kernel
abbrev cJ2_get : ByteArray := prog_46_method_20_code
def yJ2_get : MethodName := ⟨RJ2, "get", "(I)Ljava/lang/Object;"⟩
def dkwJ2_get_0 : List UInt8 := [27, 42, 180, 0, 48, 184, 0, 118, 87, 42, 27, 182, 0, 123, 176]
abbrev dktJ2_get_0 : List UInt8 := dkwJ2_get_0 ++ []
theorem dksJ2_get_0 : cJ2_get.data.toList.drop 0 = dktJ2_get_0 := by decide +kernel
theorem dJ2_get_0 : decode cJ2_get 0 = .ok (.iload_n 1, 1) := dk_27 (dk_at dksJ2_get_0 0 rfl rfl)
theorem dJ2_get_1 : decode cJ2_get 1 = .ok (.aload_n 0, 1) := dk_42 (dk_at dksJ2_get_0 1 rfl rfl)
theorem dJ2_get_2 : decode cJ2_get 2 = .ok (.getfield 48, 3) := dk_180 0 48 (dk_at dksJ2_get_0 2 rfl rfl)
theorem dJ2_get_5 : decode cJ2_get 5 = .ok (.invokestatic 118, 3) := dk_184 0 118 (dk_at dksJ2_get_0 5 rfl rfl)
theorem dJ2_get_8 : decode cJ2_get 8 = .ok (.pop, 1) := dk_87 (dk_at dksJ2_get_0 8 rfl rfl)
theorem dJ2_get_9 : decode cJ2_get 9 = .ok (.aload_n 0, 1) := dk_42 (dk_at dksJ2_get_0 9 rfl rfl)
theorem dJ2_get_10 : decode cJ2_get 10 = .ok (.iload_n 1, 1) := dk_27 (dk_at dksJ2_get_0 10 rfl rfl)
theorem dJ2_get_11 : decode cJ2_get 11 = .ok (.invokevirtual 123, 3) := dk_182 0 123 (dk_at dksJ2_get_0 11 rfl rfl)
theorem dJ2_get_14 : decode cJ2_get 14 = .ok (.areturn, 1) := dk_176 (dk_at dksJ2_get_0 14 rfl rfl)
abbrev cJ2_elementData : ByteArray := prog_46_method_18_code
def yJ2_elementData : MethodName := ⟨RJ2, "elementData", "(I)Ljava/lang/Object;"⟩
def dkwJ2_elementData_0 : List UInt8 := [42, 180, 0, 9, 27, 50, 176]
abbrev dktJ2_elementData_0 : List UInt8 := dkwJ2_elementData_0 ++ []
theorem dksJ2_elementData_0 : cJ2_elementData.data.toList.drop 0 = dktJ2_elementData_0 := by decide +kernel
theorem dJ2_elementData_0 : decode cJ2_elementData 0 = .ok (.aload_n 0, 1) := dk_42 (dk_at dksJ2_elementData_0 0 rfl rfl)
theorem dJ2_elementData_1 : decode cJ2_elementData 1 = .ok (.getfield 9, 3) := dk_180 0 9 (dk_at dksJ2_elementData_0 1 rfl rfl)
theorem dJ2_elementData_4 : decode cJ2_elementData 4 = .ok (.iload_n 1, 1) := dk_27 (dk_at dksJ2_elementData_0 4 rfl rfl)
theorem dJ2_elementData_5 : decode cJ2_elementData 5 = .ok (.aaload, 1) := dk_50 (dk_at dksJ2_elementData_0 5 rfl rfl)
theorem dJ2_elementData_6 : decode cJ2_elementData 6 = .ok (.areturn, 1) := dk_176 (dk_at dksJ2_elementData_0 6 rfl rfl)
abbrev cJ2_add : ByteArray := prog_46_method_25_code
def yJ2_add : MethodName := ⟨RJ2, "add", "(Ljava/lang/Object;)Z"⟩
def dkwJ2_add_1 : List UInt8 := [172]
abbrev dktJ2_add_1 : List UInt8 := dkwJ2_add_1 ++ []
def dkwJ2_add_0 : List UInt8 := [42, 89, 180, 0, 63, 4, 96, 181, 0, 63, 42, 43, 42, 180, 0, 9, 42, 180, 0, 48, 182, 0, 131, 4]
abbrev dktJ2_add_0 : List UInt8 := dkwJ2_add_0 ++ dktJ2_add_1
theorem dksJ2_add_0 : cJ2_add.data.toList.drop 0 = dktJ2_add_0 := by decide +kernel
theorem dksJ2_add_1 : cJ2_add.data.toList.drop 24 = dktJ2_add_1 := dk_seg dksJ2_add_0 24 rfl rfl
theorem dJ2_add_0 : decode cJ2_add 0 = .ok (.aload_n 0, 1) := dk_42 (dk_at dksJ2_add_0 0 rfl rfl)
theorem dJ2_add_1 : decode cJ2_add 1 = .ok (.dup, 1) := dk_89 (dk_at dksJ2_add_0 1 rfl rfl)
theorem dJ2_add_2 : decode cJ2_add 2 = .ok (.getfield 63, 3) := dk_180 0 63 (dk_at dksJ2_add_0 2 rfl rfl)
theorem dJ2_add_5 : decode cJ2_add 5 = .ok (.iconst 1, 1) := dk_4 (dk_at dksJ2_add_0 5 rfl rfl)
theorem dJ2_add_6 : decode cJ2_add 6 = .ok (.iadd, 1) := dk_96 (dk_at dksJ2_add_0 6 rfl rfl)
theorem dJ2_add_7 : decode cJ2_add 7 = .ok (.putfield 63, 3) := dk_181 0 63 (dk_at dksJ2_add_0 7 rfl rfl)
theorem dJ2_add_10 : decode cJ2_add 10 = .ok (.aload_n 0, 1) := dk_42 (dk_at dksJ2_add_0 10 rfl rfl)
theorem dJ2_add_11 : decode cJ2_add 11 = .ok (.aload_n 1, 1) := dk_43 (dk_at dksJ2_add_0 11 rfl rfl)
theorem dJ2_add_12 : decode cJ2_add 12 = .ok (.aload_n 0, 1) := dk_42 (dk_at dksJ2_add_0 12 rfl rfl)
theorem dJ2_add_13 : decode cJ2_add 13 = .ok (.getfield 9, 3) := dk_180 0 9 (dk_at dksJ2_add_0 13 rfl rfl)
theorem dJ2_add_16 : decode cJ2_add 16 = .ok (.aload_n 0, 1) := dk_42 (dk_at dksJ2_add_0 16 rfl rfl)
theorem dJ2_add_17 : decode cJ2_add 17 = .ok (.getfield 48, 3) := dk_180 0 48 (dk_at dksJ2_add_0 17 rfl rfl)
theorem dJ2_add_20 : decode cJ2_add 20 = .ok (.invokevirtual 131, 3) := dk_182 0 131 (dk_at dksJ2_add_0 20 rfl rfl)
theorem dJ2_add_23 : decode cJ2_add 23 = .ok (.iconst 1, 1) := dk_4 (dk_at dksJ2_add_0 23 rfl rfl)
theorem dJ2_add_24 : decode cJ2_add 24 = .ok (.ireturn, 1) := dk_172 (dk_at dksJ2_add_1 0 rfl rfl)
abbrev cJ2_add_2 : ByteArray := prog_46_method_24_code
def yJ2_add_2 : MethodName := ⟨RJ2, "add", "(Ljava/lang/Object;[Ljava/lang/Object;I)V"⟩
def dkwJ2_add_2_0 : List UInt8 := [29, 44, 190, 160, 0, 8, 42, 182, 0, 129, 77, 44, 29, 43, 83, 42, 29, 4, 96, 181, 0, 48, 177]
abbrev dktJ2_add_2_0 : List UInt8 := dkwJ2_add_2_0 ++ []
theorem dksJ2_add_2_0 : cJ2_add_2.data.toList.drop 0 = dktJ2_add_2_0 := by decide +kernel
theorem dJ2_add_2_0 : decode cJ2_add_2 0 = .ok (.iload_n 3, 1) := dk_29 (dk_at dksJ2_add_2_0 0 rfl rfl)
theorem dJ2_add_2_1 : decode cJ2_add_2 1 = .ok (.aload_n 2, 1) := dk_44 (dk_at dksJ2_add_2_0 1 rfl rfl)
theorem dJ2_add_2_2 : decode cJ2_add_2 2 = .ok (.arraylength, 1) := dk_190 (dk_at dksJ2_add_2_0 2 rfl rfl)
theorem dJ2_add_2_3 : decode cJ2_add_2 3 = .ok (.if_icmp .ne 8, 3) := dk_160 0 8 (dk_at dksJ2_add_2_0 3 rfl rfl)
theorem dJ2_add_2_6 : decode cJ2_add_2 6 = .ok (.aload_n 0, 1) := dk_42 (dk_at dksJ2_add_2_0 6 rfl rfl)
theorem dJ2_add_2_7 : decode cJ2_add_2 7 = .ok (.invokevirtual 129, 3) := dk_182 0 129 (dk_at dksJ2_add_2_0 7 rfl rfl)
theorem dJ2_add_2_10 : decode cJ2_add_2 10 = .ok (.astore_n 2, 1) := dk_77 (dk_at dksJ2_add_2_0 10 rfl rfl)
theorem dJ2_add_2_11 : decode cJ2_add_2 11 = .ok (.aload_n 2, 1) := dk_44 (dk_at dksJ2_add_2_0 11 rfl rfl)
theorem dJ2_add_2_12 : decode cJ2_add_2 12 = .ok (.iload_n 3, 1) := dk_29 (dk_at dksJ2_add_2_0 12 rfl rfl)
theorem dJ2_add_2_13 : decode cJ2_add_2 13 = .ok (.aload_n 1, 1) := dk_43 (dk_at dksJ2_add_2_0 13 rfl rfl)
theorem dJ2_add_2_14 : decode cJ2_add_2 14 = .ok (.aastore, 1) := dk_83 (dk_at dksJ2_add_2_0 14 rfl rfl)
theorem dJ2_add_2_15 : decode cJ2_add_2 15 = .ok (.aload_n 0, 1) := dk_42 (dk_at dksJ2_add_2_0 15 rfl rfl)
theorem dJ2_add_2_16 : decode cJ2_add_2 16 = .ok (.iload_n 3, 1) := dk_29 (dk_at dksJ2_add_2_0 16 rfl rfl)
theorem dJ2_add_2_17 : decode cJ2_add_2 17 = .ok (.iconst 1, 1) := dk_4 (dk_at dksJ2_add_2_0 17 rfl rfl)
theorem dJ2_add_2_18 : decode cJ2_add_2 18 = .ok (.iadd, 1) := dk_96 (dk_at dksJ2_add_2_0 18 rfl rfl)
theorem dJ2_add_2_19 : decode cJ2_add_2 19 = .ok (.putfield 48, 3) := dk_181 0 48 (dk_at dksJ2_add_2_0 19 rfl rfl)
theorem dJ2_add_2_22 : decode cJ2_add_2 22 = .ok (.return_, 1) := dk_177 (dk_at dksJ2_add_2_0 22 rfl rfl)
abbrev cJ2_grow : ByteArray := prog_46_method_7_code
def yJ2_grow : MethodName := ⟨RJ2, "grow", "()[Ljava/lang/Object;"⟩
def dkwJ2_grow_0 : List UInt8 := [42, 42, 180, 0, 48, 4, 96, 182, 0, 69, 176]
abbrev dktJ2_grow_0 : List UInt8 := dkwJ2_grow_0 ++ []
theorem dksJ2_grow_0 : cJ2_grow.data.toList.drop 0 = dktJ2_grow_0 := by decide +kernel
theorem dJ2_grow_0 : decode cJ2_grow 0 = .ok (.aload_n 0, 1) := dk_42 (dk_at dksJ2_grow_0 0 rfl rfl)
theorem dJ2_grow_1 : decode cJ2_grow 1 = .ok (.aload_n 0, 1) := dk_42 (dk_at dksJ2_grow_0 1 rfl rfl)
theorem dJ2_grow_2 : decode cJ2_grow 2 = .ok (.getfield 48, 3) := dk_180 0 48 (dk_at dksJ2_grow_0 2 rfl rfl)
theorem dJ2_grow_5 : decode cJ2_grow 5 = .ok (.iconst 1, 1) := dk_4 (dk_at dksJ2_grow_0 5 rfl rfl)
theorem dJ2_grow_6 : decode cJ2_grow 6 = .ok (.iadd, 1) := dk_96 (dk_at dksJ2_grow_0 6 rfl rfl)
theorem dJ2_grow_7 : decode cJ2_grow 7 = .ok (.invokevirtual 69, 3) := dk_182 0 69 (dk_at dksJ2_grow_0 7 rfl rfl)
theorem dJ2_grow_10 : decode cJ2_grow 10 = .ok (.areturn, 1) := dk_176 (dk_at dksJ2_grow_0 10 rfl rfl)
abbrev cJ2_grow_2 : ByteArray := prog_46_method_6_code
def yJ2_grow_2 : MethodName := ⟨RJ2, "grow", "(I)[Ljava/lang/Object;"⟩
def dkwJ2_grow_2_2 : List UInt8 := [27, 184, 0, 79, 189, 0, 7, 90, 181, 0, 9, 176]
abbrev dktJ2_grow_2_2 : List UInt8 := dkwJ2_grow_2_2 ++ []
def dkwJ2_grow_2_1 : List UInt8 := [28, 4, 122, 184, 0, 73, 62, 42, 42, 180, 0, 9, 29, 184, 0, 66, 90, 181, 0, 9, 176, 42, 16, 10]
abbrev dktJ2_grow_2_1 : List UInt8 := dkwJ2_grow_2_1 ++ dktJ2_grow_2_2
def dkwJ2_grow_2_0 : List UInt8 := [42, 180, 0, 9, 190, 61, 28, 157, 0, 13, 42, 180, 0, 9, 178, 0, 39, 165, 0, 28, 28, 27, 28, 100]
abbrev dktJ2_grow_2_0 : List UInt8 := dkwJ2_grow_2_0 ++ dktJ2_grow_2_1
theorem dksJ2_grow_2_0 : cJ2_grow_2.data.toList.drop 0 = dktJ2_grow_2_0 := by decide +kernel
theorem dksJ2_grow_2_1 : cJ2_grow_2.data.toList.drop 24 = dktJ2_grow_2_1 := dk_seg dksJ2_grow_2_0 24 rfl rfl
theorem dksJ2_grow_2_2 : cJ2_grow_2.data.toList.drop 48 = dktJ2_grow_2_2 := dk_seg dksJ2_grow_2_1 24 rfl rfl
theorem dJ2_grow_2_0 : decode cJ2_grow_2 0 = .ok (.aload_n 0, 1) := dk_42 (dk_at dksJ2_grow_2_0 0 rfl rfl)
theorem dJ2_grow_2_1 : decode cJ2_grow_2 1 = .ok (.getfield 9, 3) := dk_180 0 9 (dk_at dksJ2_grow_2_0 1 rfl rfl)
theorem dJ2_grow_2_4 : decode cJ2_grow_2 4 = .ok (.arraylength, 1) := dk_190 (dk_at dksJ2_grow_2_0 4 rfl rfl)
theorem dJ2_grow_2_5 : decode cJ2_grow_2 5 = .ok (.istore_n 2, 1) := dk_61 (dk_at dksJ2_grow_2_0 5 rfl rfl)
theorem dJ2_grow_2_6 : decode cJ2_grow_2 6 = .ok (.iload_n 2, 1) := dk_28 (dk_at dksJ2_grow_2_0 6 rfl rfl)
theorem dJ2_grow_2_7 : decode cJ2_grow_2 7 = .ok (.ifCond .gt 13, 3) := dk_157 0 13 (dk_at dksJ2_grow_2_0 7 rfl rfl)
theorem dJ2_grow_2_10 : decode cJ2_grow_2 10 = .ok (.aload_n 0, 1) := dk_42 (dk_at dksJ2_grow_2_0 10 rfl rfl)
theorem dJ2_grow_2_11 : decode cJ2_grow_2 11 = .ok (.getfield 9, 3) := dk_180 0 9 (dk_at dksJ2_grow_2_0 11 rfl rfl)
theorem dJ2_grow_2_14 : decode cJ2_grow_2 14 = .ok (.getstatic 39, 3) := dk_178 0 39 (dk_at dksJ2_grow_2_0 14 rfl rfl)
theorem dJ2_grow_2_17 : decode cJ2_grow_2 17 = .ok (.if_acmp .eq 28, 3) := dk_165 0 28 (dk_at dksJ2_grow_2_0 17 rfl rfl)
theorem dJ2_grow_2_20 : decode cJ2_grow_2 20 = .ok (.iload_n 2, 1) := dk_28 (dk_at dksJ2_grow_2_0 20 rfl rfl)
theorem dJ2_grow_2_21 : decode cJ2_grow_2 21 = .ok (.iload_n 1, 1) := dk_27 (dk_at dksJ2_grow_2_0 21 rfl rfl)
theorem dJ2_grow_2_22 : decode cJ2_grow_2 22 = .ok (.iload_n 2, 1) := dk_28 (dk_at dksJ2_grow_2_0 22 rfl rfl)
theorem dJ2_grow_2_23 : decode cJ2_grow_2 23 = .ok (.isub, 1) := dk_100 (dk_at dksJ2_grow_2_0 23 rfl rfl)
theorem dJ2_grow_2_24 : decode cJ2_grow_2 24 = .ok (.iload_n 2, 1) := dk_28 (dk_at dksJ2_grow_2_1 0 rfl rfl)
theorem dJ2_grow_2_25 : decode cJ2_grow_2 25 = .ok (.iconst 1, 1) := dk_4 (dk_at dksJ2_grow_2_1 1 rfl rfl)
theorem dJ2_grow_2_26 : decode cJ2_grow_2 26 = .ok (.ishr, 1) := dk_122 (dk_at dksJ2_grow_2_1 2 rfl rfl)
theorem dJ2_grow_2_27 : decode cJ2_grow_2 27 = .ok (.invokestatic 73, 3) := dk_184 0 73 (dk_at dksJ2_grow_2_1 3 rfl rfl)
theorem dJ2_grow_2_30 : decode cJ2_grow_2 30 = .ok (.istore_n 3, 1) := dk_62 (dk_at dksJ2_grow_2_1 6 rfl rfl)
theorem dJ2_grow_2_31 : decode cJ2_grow_2 31 = .ok (.aload_n 0, 1) := dk_42 (dk_at dksJ2_grow_2_1 7 rfl rfl)
theorem dJ2_grow_2_32 : decode cJ2_grow_2 32 = .ok (.aload_n 0, 1) := dk_42 (dk_at dksJ2_grow_2_1 8 rfl rfl)
theorem dJ2_grow_2_33 : decode cJ2_grow_2 33 = .ok (.getfield 9, 3) := dk_180 0 9 (dk_at dksJ2_grow_2_1 9 rfl rfl)
theorem dJ2_grow_2_36 : decode cJ2_grow_2 36 = .ok (.iload_n 3, 1) := dk_29 (dk_at dksJ2_grow_2_1 12 rfl rfl)
theorem dJ2_grow_2_37 : decode cJ2_grow_2 37 = .ok (.invokestatic 66, 3) := dk_184 0 66 (dk_at dksJ2_grow_2_1 13 rfl rfl)
theorem dJ2_grow_2_40 : decode cJ2_grow_2 40 = .ok (.dup_x1, 1) := dk_90 (dk_at dksJ2_grow_2_1 16 rfl rfl)
theorem dJ2_grow_2_41 : decode cJ2_grow_2 41 = .ok (.putfield 9, 3) := dk_181 0 9 (dk_at dksJ2_grow_2_1 17 rfl rfl)
theorem dJ2_grow_2_44 : decode cJ2_grow_2 44 = .ok (.areturn, 1) := dk_176 (dk_at dksJ2_grow_2_1 20 rfl rfl)
theorem dJ2_grow_2_45 : decode cJ2_grow_2 45 = .ok (.aload_n 0, 1) := dk_42 (dk_at dksJ2_grow_2_1 21 rfl rfl)
theorem dJ2_grow_2_46 : decode cJ2_grow_2 46 = .ok (.bipush 10, 2) := dk_16 10 (dk_at dksJ2_grow_2_1 22 rfl rfl)
theorem dJ2_grow_2_48 : decode cJ2_grow_2 48 = .ok (.iload_n 1, 1) := dk_27 (dk_at dksJ2_grow_2_2 0 rfl rfl)
theorem dJ2_grow_2_49 : decode cJ2_grow_2 49 = .ok (.invokestatic 79, 3) := dk_184 0 79 (dk_at dksJ2_grow_2_2 1 rfl rfl)
theorem dJ2_grow_2_52 : decode cJ2_grow_2 52 = .ok (.anewarray 7, 3) := dk_189 0 7 (dk_at dksJ2_grow_2_2 4 rfl rfl)
theorem dJ2_grow_2_55 : decode cJ2_grow_2 55 = .ok (.dup_x1, 1) := dk_90 (dk_at dksJ2_grow_2_2 7 rfl rfl)
theorem dJ2_grow_2_56 : decode cJ2_grow_2 56 = .ok (.putfield 9, 3) := dk_181 0 9 (dk_at dksJ2_grow_2_2 8 rfl rfl)
theorem dJ2_grow_2_59 : decode cJ2_grow_2 59 = .ok (.areturn, 1) := dk_176 (dk_at dksJ2_grow_2_2 11 rfl rfl)
abbrev cJ2_isEmpty : ByteArray := prog_46_method_9_code
def yJ2_isEmpty : MethodName := ⟨RJ2, "isEmpty", "()Z"⟩
def dkwJ2_isEmpty_0 : List UInt8 := [42, 180, 0, 48, 154, 0, 7, 4, 167, 0, 4, 3, 172]
abbrev dktJ2_isEmpty_0 : List UInt8 := dkwJ2_isEmpty_0 ++ []
theorem dksJ2_isEmpty_0 : cJ2_isEmpty.data.toList.drop 0 = dktJ2_isEmpty_0 := by decide +kernel
theorem dJ2_isEmpty_0 : decode cJ2_isEmpty 0 = .ok (.aload_n 0, 1) := dk_42 (dk_at dksJ2_isEmpty_0 0 rfl rfl)
theorem dJ2_isEmpty_1 : decode cJ2_isEmpty 1 = .ok (.getfield 48, 3) := dk_180 0 48 (dk_at dksJ2_isEmpty_0 1 rfl rfl)
theorem dJ2_isEmpty_4 : decode cJ2_isEmpty 4 = .ok (.ifCond .ne 7, 3) := dk_154 0 7 (dk_at dksJ2_isEmpty_0 4 rfl rfl)
theorem dJ2_isEmpty_7 : decode cJ2_isEmpty 7 = .ok (.iconst 1, 1) := dk_4 (dk_at dksJ2_isEmpty_0 7 rfl rfl)
theorem dJ2_isEmpty_8 : decode cJ2_isEmpty 8 = .ok (.goto 4, 3) := dk_167 0 4 (dk_at dksJ2_isEmpty_0 8 rfl rfl)
theorem dJ2_isEmpty_11 : decode cJ2_isEmpty 11 = .ok (.iconst 0, 1) := dk_3 (dk_at dksJ2_isEmpty_0 11 rfl rfl)
theorem dJ2_isEmpty_12 : decode cJ2_isEmpty 12 = .ok (.ireturn, 1) := dk_172 (dk_at dksJ2_isEmpty_0 12 rfl rfl)
abbrev cJ2_remove : ByteArray := prog_46_method_29_code
def yJ2_remove : MethodName := ⟨RJ2, "remove", "(I)Ljava/lang/Object;"⟩
def dkwJ2_remove_1 : List UInt8 := [45, 176]
abbrev dktJ2_remove_1 : List UInt8 := dkwJ2_remove_1 ++ []
def dkwJ2_remove_0 : List UInt8 := [27, 42, 180, 0, 48, 184, 0, 118, 87, 42, 180, 0, 9, 77, 44, 27, 50, 78, 42, 44, 27, 182, 0, 144]
abbrev dktJ2_remove_0 : List UInt8 := dkwJ2_remove_0 ++ dktJ2_remove_1
theorem dksJ2_remove_0 : cJ2_remove.data.toList.drop 0 = dktJ2_remove_0 := by decide +kernel
theorem dksJ2_remove_1 : cJ2_remove.data.toList.drop 24 = dktJ2_remove_1 := dk_seg dksJ2_remove_0 24 rfl rfl
theorem dJ2_remove_0 : decode cJ2_remove 0 = .ok (.iload_n 1, 1) := dk_27 (dk_at dksJ2_remove_0 0 rfl rfl)
theorem dJ2_remove_1 : decode cJ2_remove 1 = .ok (.aload_n 0, 1) := dk_42 (dk_at dksJ2_remove_0 1 rfl rfl)
theorem dJ2_remove_2 : decode cJ2_remove 2 = .ok (.getfield 48, 3) := dk_180 0 48 (dk_at dksJ2_remove_0 2 rfl rfl)
theorem dJ2_remove_5 : decode cJ2_remove 5 = .ok (.invokestatic 118, 3) := dk_184 0 118 (dk_at dksJ2_remove_0 5 rfl rfl)
theorem dJ2_remove_8 : decode cJ2_remove 8 = .ok (.pop, 1) := dk_87 (dk_at dksJ2_remove_0 8 rfl rfl)
theorem dJ2_remove_9 : decode cJ2_remove 9 = .ok (.aload_n 0, 1) := dk_42 (dk_at dksJ2_remove_0 9 rfl rfl)
theorem dJ2_remove_10 : decode cJ2_remove 10 = .ok (.getfield 9, 3) := dk_180 0 9 (dk_at dksJ2_remove_0 10 rfl rfl)
theorem dJ2_remove_13 : decode cJ2_remove 13 = .ok (.astore_n 2, 1) := dk_77 (dk_at dksJ2_remove_0 13 rfl rfl)
theorem dJ2_remove_14 : decode cJ2_remove 14 = .ok (.aload_n 2, 1) := dk_44 (dk_at dksJ2_remove_0 14 rfl rfl)
theorem dJ2_remove_15 : decode cJ2_remove 15 = .ok (.iload_n 1, 1) := dk_27 (dk_at dksJ2_remove_0 15 rfl rfl)
theorem dJ2_remove_16 : decode cJ2_remove 16 = .ok (.aaload, 1) := dk_50 (dk_at dksJ2_remove_0 16 rfl rfl)
theorem dJ2_remove_17 : decode cJ2_remove 17 = .ok (.astore_n 3, 1) := dk_78 (dk_at dksJ2_remove_0 17 rfl rfl)
theorem dJ2_remove_18 : decode cJ2_remove 18 = .ok (.aload_n 0, 1) := dk_42 (dk_at dksJ2_remove_0 18 rfl rfl)
theorem dJ2_remove_19 : decode cJ2_remove 19 = .ok (.aload_n 2, 1) := dk_44 (dk_at dksJ2_remove_0 19 rfl rfl)
theorem dJ2_remove_20 : decode cJ2_remove 20 = .ok (.iload_n 1, 1) := dk_27 (dk_at dksJ2_remove_0 20 rfl rfl)
theorem dJ2_remove_21 : decode cJ2_remove 21 = .ok (.invokevirtual 144, 3) := dk_182 0 144 (dk_at dksJ2_remove_0 21 rfl rfl)
theorem dJ2_remove_24 : decode cJ2_remove 24 = .ok (.aload_n 3, 1) := dk_45 (dk_at dksJ2_remove_1 0 rfl rfl)
theorem dJ2_remove_25 : decode cJ2_remove 25 = .ok (.areturn, 1) := dk_176 (dk_at dksJ2_remove_1 1 rfl rfl)
abbrev cJ2_fastRemove : ByteArray := prog_46_method_39_code
def yJ2_fastRemove : MethodName := ⟨RJ2, "fastRemove", "([Ljava/lang/Object;I)V"⟩
def dkwJ2_fastRemove_1 : List UInt8 := [4, 96, 43, 28, 29, 28, 100, 184, 0, 112, 43, 42, 29, 90, 181, 0, 48, 1, 83, 177]
abbrev dktJ2_fastRemove_1 : List UInt8 := dkwJ2_fastRemove_1 ++ []
def dkwJ2_fastRemove_0 : List UInt8 := [42, 89, 180, 0, 63, 4, 96, 181, 0, 63, 42, 180, 0, 48, 4, 100, 89, 62, 28, 164, 0, 15, 43, 28]
abbrev dktJ2_fastRemove_0 : List UInt8 := dkwJ2_fastRemove_0 ++ dktJ2_fastRemove_1
theorem dksJ2_fastRemove_0 : cJ2_fastRemove.data.toList.drop 0 = dktJ2_fastRemove_0 := by decide +kernel
theorem dksJ2_fastRemove_1 : cJ2_fastRemove.data.toList.drop 24 = dktJ2_fastRemove_1 := dk_seg dksJ2_fastRemove_0 24 rfl rfl
theorem dJ2_fastRemove_0 : decode cJ2_fastRemove 0 = .ok (.aload_n 0, 1) := dk_42 (dk_at dksJ2_fastRemove_0 0 rfl rfl)
theorem dJ2_fastRemove_1 : decode cJ2_fastRemove 1 = .ok (.dup, 1) := dk_89 (dk_at dksJ2_fastRemove_0 1 rfl rfl)
theorem dJ2_fastRemove_2 : decode cJ2_fastRemove 2 = .ok (.getfield 63, 3) := dk_180 0 63 (dk_at dksJ2_fastRemove_0 2 rfl rfl)
theorem dJ2_fastRemove_5 : decode cJ2_fastRemove 5 = .ok (.iconst 1, 1) := dk_4 (dk_at dksJ2_fastRemove_0 5 rfl rfl)
theorem dJ2_fastRemove_6 : decode cJ2_fastRemove 6 = .ok (.iadd, 1) := dk_96 (dk_at dksJ2_fastRemove_0 6 rfl rfl)
theorem dJ2_fastRemove_7 : decode cJ2_fastRemove 7 = .ok (.putfield 63, 3) := dk_181 0 63 (dk_at dksJ2_fastRemove_0 7 rfl rfl)
theorem dJ2_fastRemove_10 : decode cJ2_fastRemove 10 = .ok (.aload_n 0, 1) := dk_42 (dk_at dksJ2_fastRemove_0 10 rfl rfl)
theorem dJ2_fastRemove_11 : decode cJ2_fastRemove 11 = .ok (.getfield 48, 3) := dk_180 0 48 (dk_at dksJ2_fastRemove_0 11 rfl rfl)
theorem dJ2_fastRemove_14 : decode cJ2_fastRemove 14 = .ok (.iconst 1, 1) := dk_4 (dk_at dksJ2_fastRemove_0 14 rfl rfl)
theorem dJ2_fastRemove_15 : decode cJ2_fastRemove 15 = .ok (.isub, 1) := dk_100 (dk_at dksJ2_fastRemove_0 15 rfl rfl)
theorem dJ2_fastRemove_16 : decode cJ2_fastRemove 16 = .ok (.dup, 1) := dk_89 (dk_at dksJ2_fastRemove_0 16 rfl rfl)
theorem dJ2_fastRemove_17 : decode cJ2_fastRemove 17 = .ok (.istore_n 3, 1) := dk_62 (dk_at dksJ2_fastRemove_0 17 rfl rfl)
theorem dJ2_fastRemove_18 : decode cJ2_fastRemove 18 = .ok (.iload_n 2, 1) := dk_28 (dk_at dksJ2_fastRemove_0 18 rfl rfl)
theorem dJ2_fastRemove_19 : decode cJ2_fastRemove 19 = .ok (.if_icmp .le 15, 3) := dk_164 0 15 (dk_at dksJ2_fastRemove_0 19 rfl rfl)
theorem dJ2_fastRemove_22 : decode cJ2_fastRemove 22 = .ok (.aload_n 1, 1) := dk_43 (dk_at dksJ2_fastRemove_0 22 rfl rfl)
theorem dJ2_fastRemove_23 : decode cJ2_fastRemove 23 = .ok (.iload_n 2, 1) := dk_28 (dk_at dksJ2_fastRemove_0 23 rfl rfl)
theorem dJ2_fastRemove_24 : decode cJ2_fastRemove 24 = .ok (.iconst 1, 1) := dk_4 (dk_at dksJ2_fastRemove_1 0 rfl rfl)
theorem dJ2_fastRemove_25 : decode cJ2_fastRemove 25 = .ok (.iadd, 1) := dk_96 (dk_at dksJ2_fastRemove_1 1 rfl rfl)
theorem dJ2_fastRemove_26 : decode cJ2_fastRemove 26 = .ok (.aload_n 1, 1) := dk_43 (dk_at dksJ2_fastRemove_1 2 rfl rfl)
theorem dJ2_fastRemove_27 : decode cJ2_fastRemove 27 = .ok (.iload_n 2, 1) := dk_28 (dk_at dksJ2_fastRemove_1 3 rfl rfl)
theorem dJ2_fastRemove_28 : decode cJ2_fastRemove 28 = .ok (.iload_n 3, 1) := dk_29 (dk_at dksJ2_fastRemove_1 4 rfl rfl)
theorem dJ2_fastRemove_29 : decode cJ2_fastRemove 29 = .ok (.iload_n 2, 1) := dk_28 (dk_at dksJ2_fastRemove_1 5 rfl rfl)
theorem dJ2_fastRemove_30 : decode cJ2_fastRemove 30 = .ok (.isub, 1) := dk_100 (dk_at dksJ2_fastRemove_1 6 rfl rfl)
theorem dJ2_fastRemove_31 : decode cJ2_fastRemove 31 = .ok (.invokestatic 112, 3) := dk_184 0 112 (dk_at dksJ2_fastRemove_1 7 rfl rfl)
theorem dJ2_fastRemove_34 : decode cJ2_fastRemove 34 = .ok (.aload_n 1, 1) := dk_43 (dk_at dksJ2_fastRemove_1 10 rfl rfl)
theorem dJ2_fastRemove_35 : decode cJ2_fastRemove 35 = .ok (.aload_n 0, 1) := dk_42 (dk_at dksJ2_fastRemove_1 11 rfl rfl)
theorem dJ2_fastRemove_36 : decode cJ2_fastRemove 36 = .ok (.iload_n 3, 1) := dk_29 (dk_at dksJ2_fastRemove_1 12 rfl rfl)
theorem dJ2_fastRemove_37 : decode cJ2_fastRemove 37 = .ok (.dup_x1, 1) := dk_90 (dk_at dksJ2_fastRemove_1 13 rfl rfl)
theorem dJ2_fastRemove_38 : decode cJ2_fastRemove 38 = .ok (.putfield 48, 3) := dk_181 0 48 (dk_at dksJ2_fastRemove_1 14 rfl rfl)
theorem dJ2_fastRemove_41 : decode cJ2_fastRemove 41 = .ok (.aconst_null, 1) := dk_1 (dk_at dksJ2_fastRemove_1 17 rfl rfl)
theorem dJ2_fastRemove_42 : decode cJ2_fastRemove 42 = .ok (.aastore, 1) := dk_83 (dk_at dksJ2_fastRemove_1 18 rfl rfl)
theorem dJ2_fastRemove_43 : decode cJ2_fastRemove 43 = .ok (.return_, 1) := dk_177 (dk_at dksJ2_fastRemove_1 19 rfl rfl)
theorem q106 : (Jvm.Cond.initialized "java/util/ArrayList") ∈ lw_all := lw_g (lw_at lw_m1 5 rfl) rfl
theorem q159 : (Jvm.Cond.instantiable "java/util/ArrayList" (3 : Nat)) ∈ lw_all := lw_g (lw_at lw_m1 58 rfl) rfl
theorem q161 : (Jvm.Cond.instanceMethod ({ cls := "java/util/ArrayList", name := "<init>", desc := "()V" } : Jvm.MethodName)) ∈ lw_all := lw_g (lw_at lw_m1 60 rfl) rfl
theorem q162 : (Jvm.Cond.code ({ cls := "java/util/ArrayList", name := "<init>", desc := "()V" } : Jvm.MethodName) prog_46_method_2_code (1 : Nat) (Option.none : Option Jvm.ClassFile.FieldType)) ∈ lw_all := lw_g (lw_at lw_m1 61 rfl) rfl
theorem q163 : (Jvm.Cond.methodLink "java/util/ArrayList" (1 : Nat) ({ cls := "java/util/AbstractList", name := "<init>", desc := "()V" } : Jvm.MethodName)) ∈ lw_all := lw_g (lw_at lw_m1 62 rfl) rfl
theorem q170 : (Jvm.Cond.fieldLink "java/util/ArrayList" (39 : Nat) "java/util/ArrayList" "DEFAULTCAPACITY_EMPTY_ELEMENTDATA" "[Ljava/lang/Object;") ∈ lw_all := lw_g (lw_at lw_m1 69 rfl) rfl
theorem q171 : (Jvm.Cond.laysStatic "java/util/ArrayList" "DEFAULTCAPACITY_EMPTY_ELEMENTDATA" "[Ljava/lang/Object;") ∈ lw_tbl := lw_at lw_m1 70 rfl
theorem q172 : (Jvm.Cond.fieldLink "java/util/ArrayList" (9 : Nat) "java/util/ArrayList" "elementData" "[Ljava/lang/Object;") ∈ lw_all := lw_g (lw_at lw_m1 71 rfl) rfl
theorem q173 : (Jvm.Cond.fieldLink "java/util/ArrayList" (48 : Nat) "java/util/ArrayList" "size" "I") ∈ lw_all := lw_g (lw_at lw_m1 72 rfl) rfl
theorem q175 : (Jvm.Cond.fieldLink "java/util/ArrayList" (63 : Nat) "java/util/ArrayList" "modCount" "I") ∈ lw_all := lw_g (lw_at lw_m1 74 rfl) rfl
theorem q176 : (Jvm.Cond.sameField "java/util/ArrayList" "java/util/AbstractList" "modCount" "I") ∈ lw_all := lw_g (lw_at lw_m1 75 rfl) rfl
theorem q177 : (Jvm.Cond.lays "java/util/ArrayList" "java/util/ArrayList" "elementData" "[Ljava/lang/Object;") ∈ lw_all := lw_g (lw_at lw_m1 76 rfl) rfl
theorem q178 : (Jvm.Cond.soleField "java/util/ArrayList" "elementData") ∈ lw_all := lw_g (lw_at lw_m1 77 rfl) rfl
theorem q179 : (Jvm.Cond.lays "java/util/ArrayList" "java/util/ArrayList" "size" "I") ∈ lw_all := lw_g (lw_at lw_m1 78 rfl) rfl
theorem q180 : (Jvm.Cond.soleField "java/util/ArrayList" "size") ∈ lw_all := lw_g (lw_at lw_m1 79 rfl) rfl
theorem q181 : (Jvm.Cond.lays "java/util/ArrayList" "java/util/AbstractList" "modCount" "I") ∈ lw_all := lw_g (lw_at lw_m1 80 rfl) rfl
theorem q183 : (Jvm.Cond.superclass "java/util/ArrayList" "java/util/AbstractList") ∈ lw_all := lw_g (lw_at lw_m1 82 rfl) rfl
theorem q281 : (Jvm.Cond.instanceMethod ({ cls := "java/util/ArrayList", name := "clear", desc := "()V" } : Jvm.MethodName)) ∈ lw_all := lw_g (lw_at lw_m1 180 rfl) rfl
theorem q282 : (Jvm.Cond.selects "java/util/ArrayList" ({ cls := "java/util/ArrayList", name := "clear", desc := "()V" } : Jvm.MethodName) ({ cls := "java/util/ArrayList", name := "clear", desc := "()V" } : Jvm.MethodName)) ∈ lw_all := lw_g (lw_at lw_m1 181 rfl) rfl
theorem q283 : (Jvm.Cond.code ({ cls := "java/util/ArrayList", name := "clear", desc := "()V" } : Jvm.MethodName) prog_46_method_40_code (4 : Nat) (Option.none : Option Jvm.ClassFile.FieldType)) ∈ lw_all := lw_g (lw_at lw_m1 182 rfl) rfl
theorem q487 : (Jvm.Cond.instanceMethod ({ cls := "java/util/ArrayList", name := "size", desc := "()I" } : Jvm.MethodName)) ∈ lw_all := lw_g (lw_at lw_m2 146 rfl) rfl
theorem q488 : (Jvm.Cond.selects "java/util/ArrayList" ({ cls := "java/util/ArrayList", name := "size", desc := "()I" } : Jvm.MethodName) ({ cls := "java/util/ArrayList", name := "size", desc := "()I" } : Jvm.MethodName)) ∈ lw_all := lw_g (lw_at lw_m2 147 rfl) rfl
theorem q489 : (Jvm.Cond.code ({ cls := "java/util/ArrayList", name := "size", desc := "()I" } : Jvm.MethodName) prog_46_method_8_code (1 : Nat) (Option.some Jvm.ClassFile.FieldType.int)) ∈ lw_all := lw_g (lw_at lw_m2 148 rfl) rfl
theorem q506 : (Jvm.Cond.instanceMethod ({ cls := "java/util/ArrayList", name := "get", desc := "(I)Ljava/lang/Object;" } : Jvm.MethodName)) ∈ lw_all := lw_g (lw_at lw_m2 165 rfl) rfl
theorem q507 : (Jvm.Cond.selects "java/util/ArrayList" ({ cls := "java/util/ArrayList", name := "get", desc := "(I)Ljava/lang/Object;" } : Jvm.MethodName) ({ cls := "java/util/ArrayList", name := "get", desc := "(I)Ljava/lang/Object;" } : Jvm.MethodName)) ∈ lw_all := lw_g (lw_at lw_m2 166 rfl) rfl
theorem q508 : (Jvm.Cond.code ({ cls := "java/util/ArrayList", name := "get", desc := "(I)Ljava/lang/Object;" } : Jvm.MethodName) prog_46_method_20_code (2 : Nat) (Option.some (Jvm.ClassFile.FieldType.object "java/lang/Object"))) ∈ lw_all := lw_g (lw_at lw_m2 167 rfl) rfl
theorem q509 : (Jvm.Cond.methodLink "java/util/ArrayList" (118 : Nat) ({ cls := "java/util/Objects", name := "checkIndex", desc := "(II)I" } : Jvm.MethodName)) ∈ lw_all := lw_g (lw_at lw_m2 168 rfl) rfl
theorem q513 : (Jvm.Cond.methodLink "java/util/ArrayList" (123 : Nat) ({ cls := "java/util/ArrayList", name := "elementData", desc := "(I)Ljava/lang/Object;" } : Jvm.MethodName)) ∈ lw_all := lw_g (lw_at lw_m2 172 rfl) rfl
theorem q514 : (Jvm.Cond.instanceMethod ({ cls := "java/util/ArrayList", name := "elementData", desc := "(I)Ljava/lang/Object;" } : Jvm.MethodName)) ∈ lw_all := lw_g (lw_at lw_m2 173 rfl) rfl
theorem q515 : (Jvm.Cond.selects "java/util/ArrayList" ({ cls := "java/util/ArrayList", name := "elementData", desc := "(I)Ljava/lang/Object;" } : Jvm.MethodName) ({ cls := "java/util/ArrayList", name := "elementData", desc := "(I)Ljava/lang/Object;" } : Jvm.MethodName)) ∈ lw_all := lw_g (lw_at lw_m2 174 rfl) rfl
theorem q516 : (Jvm.Cond.code ({ cls := "java/util/ArrayList", name := "elementData", desc := "(I)Ljava/lang/Object;" } : Jvm.MethodName) prog_46_method_18_code (2 : Nat) (Option.some (Jvm.ClassFile.FieldType.object "java/lang/Object"))) ∈ lw_all := lw_g (lw_at lw_m2 175 rfl) rfl
theorem q577 : (Jvm.Cond.instanceMethod ({ cls := "java/util/ArrayList", name := "add", desc := "(Ljava/lang/Object;)Z" } : Jvm.MethodName)) ∈ lw_all := lw_g (lw_at lw_m2 236 rfl) rfl
theorem q578 : (Jvm.Cond.selects "java/util/ArrayList" ({ cls := "java/util/ArrayList", name := "add", desc := "(Ljava/lang/Object;)Z" } : Jvm.MethodName) ({ cls := "java/util/ArrayList", name := "add", desc := "(Ljava/lang/Object;)Z" } : Jvm.MethodName)) ∈ lw_all := lw_g (lw_at lw_m2 237 rfl) rfl
theorem q579 : (Jvm.Cond.code ({ cls := "java/util/ArrayList", name := "add", desc := "(Ljava/lang/Object;)Z" } : Jvm.MethodName) prog_46_method_25_code (2 : Nat) (Option.some Jvm.ClassFile.FieldType.boolean)) ∈ lw_all := lw_g (lw_at lw_m2 238 rfl) rfl
theorem q580 : (Jvm.Cond.methodLink "java/util/ArrayList" (131 : Nat) ({ cls := "java/util/ArrayList", name := "add", desc := "(Ljava/lang/Object;[Ljava/lang/Object;I)V" } : Jvm.MethodName)) ∈ lw_all := lw_g (lw_at lw_m2 239 rfl) rfl
theorem q581 : (Jvm.Cond.privateMethod ({ cls := "java/util/ArrayList", name := "add", desc := "(Ljava/lang/Object;[Ljava/lang/Object;I)V" } : Jvm.MethodName)) ∈ lw_tbl := lw_at lw_m3 0 rfl
theorem q582 : (Jvm.Cond.instanceMethod ({ cls := "java/util/ArrayList", name := "add", desc := "(Ljava/lang/Object;[Ljava/lang/Object;I)V" } : Jvm.MethodName)) ∈ lw_all := lw_g (lw_at lw_m3 1 rfl) rfl
theorem q583 : (Jvm.Cond.code ({ cls := "java/util/ArrayList", name := "add", desc := "(Ljava/lang/Object;[Ljava/lang/Object;I)V" } : Jvm.MethodName) prog_46_method_24_code (4 : Nat) (Option.none : Option Jvm.ClassFile.FieldType)) ∈ lw_all := lw_g (lw_at lw_m3 2 rfl) rfl
theorem q584 : (Jvm.Cond.methodLink "java/util/ArrayList" (129 : Nat) ({ cls := "java/util/ArrayList", name := "grow", desc := "()[Ljava/lang/Object;" } : Jvm.MethodName)) ∈ lw_all := lw_g (lw_at lw_m3 3 rfl) rfl
theorem q585 : (Jvm.Cond.privateMethod ({ cls := "java/util/ArrayList", name := "grow", desc := "()[Ljava/lang/Object;" } : Jvm.MethodName)) ∈ lw_tbl := lw_at lw_m3 4 rfl
theorem q586 : (Jvm.Cond.instanceMethod ({ cls := "java/util/ArrayList", name := "grow", desc := "()[Ljava/lang/Object;" } : Jvm.MethodName)) ∈ lw_all := lw_g (lw_at lw_m3 5 rfl) rfl
theorem q587 : (Jvm.Cond.code ({ cls := "java/util/ArrayList", name := "grow", desc := "()[Ljava/lang/Object;" } : Jvm.MethodName) prog_46_method_7_code (1 : Nat) (Option.some (Jvm.ClassFile.FieldType.array (Jvm.ClassFile.FieldType.object "java/lang/Object")))) ∈ lw_all := lw_g (lw_at lw_m3 6 rfl) rfl
theorem q588 : (Jvm.Cond.methodLink "java/util/ArrayList" (69 : Nat) ({ cls := "java/util/ArrayList", name := "grow", desc := "(I)[Ljava/lang/Object;" } : Jvm.MethodName)) ∈ lw_all := lw_g (lw_at lw_m3 7 rfl) rfl
theorem q589 : (Jvm.Cond.privateMethod ({ cls := "java/util/ArrayList", name := "grow", desc := "(I)[Ljava/lang/Object;" } : Jvm.MethodName)) ∈ lw_tbl := lw_at lw_m3 8 rfl
theorem q590 : (Jvm.Cond.instanceMethod ({ cls := "java/util/ArrayList", name := "grow", desc := "(I)[Ljava/lang/Object;" } : Jvm.MethodName)) ∈ lw_all := lw_g (lw_at lw_m3 9 rfl) rfl
theorem q591 : (Jvm.Cond.code ({ cls := "java/util/ArrayList", name := "grow", desc := "(I)[Ljava/lang/Object;" } : Jvm.MethodName) prog_46_method_6_code (4 : Nat) (Option.some (Jvm.ClassFile.FieldType.array (Jvm.ClassFile.FieldType.object "java/lang/Object")))) ∈ lw_all := lw_g (lw_at lw_m3 10 rfl) rfl
theorem q592 : (Jvm.Cond.methodLink "java/util/ArrayList" (73 : Nat) ({ cls := "jdk/internal/util/ArraysSupport", name := "newLength", desc := "(III)I" } : Jvm.MethodName)) ∈ lw_all := lw_g (lw_at lw_m3 11 rfl) rfl
theorem q600 : (Jvm.Cond.methodLink "java/util/ArrayList" (66 : Nat) ({ cls := "java/util/Arrays", name := "copyOf", desc := "([Ljava/lang/Object;I)[Ljava/lang/Object;" } : Jvm.MethodName)) ∈ lw_all := lw_g (lw_at lw_m3 19 rfl) rfl
theorem q626 : (Jvm.Cond.selects "java/util/ArrayList" ({ cls := "java/lang/Object", name := "getClass", desc := "()Ljava/lang/Class;" } : Jvm.MethodName) ({ cls := "java/lang/Object", name := "getClass", desc := "()Ljava/lang/Class;" } : Jvm.MethodName)) ∈ lw_all := lw_g (lw_at lw_m3 45 rfl) rfl
theorem q636 : (Jvm.Cond.methodLink "java/util/ArrayList" (79 : Nat) ({ cls := "java/lang/Math", name := "max", desc := "(II)I" } : Jvm.MethodName)) ∈ lw_all := lw_g (lw_at lw_m3 55 rfl) rfl
theorem q637 : (Jvm.Cond.classLink "java/util/ArrayList" (7 : Nat) "java/lang/Object") ∈ lw_all := lw_g (lw_at lw_m3 56 rfl) rfl
theorem q798 : (Jvm.Cond.instanceMethod ({ cls := "java/util/ArrayList", name := "isEmpty", desc := "()Z" } : Jvm.MethodName)) ∈ lw_all := lw_g (lw_at lw_m3 217 rfl) rfl
theorem q799 : (Jvm.Cond.selects "java/util/ArrayList" ({ cls := "java/util/ArrayList", name := "isEmpty", desc := "()Z" } : Jvm.MethodName) ({ cls := "java/util/ArrayList", name := "isEmpty", desc := "()Z" } : Jvm.MethodName)) ∈ lw_all := lw_g (lw_at lw_m3 218 rfl) rfl
theorem q800 : (Jvm.Cond.code ({ cls := "java/util/ArrayList", name := "isEmpty", desc := "()Z" } : Jvm.MethodName) prog_46_method_9_code (1 : Nat) (Option.some Jvm.ClassFile.FieldType.boolean)) ∈ lw_all := lw_g (lw_at lw_m3 219 rfl) rfl
theorem q1150 : (Jvm.Cond.instanceMethod ({ cls := "java/util/ArrayList", name := "remove", desc := "(I)Ljava/lang/Object;" } : Jvm.MethodName)) ∈ lw_all := lw_g (lw_at lw_m5 89 rfl) rfl
theorem q1151 : (Jvm.Cond.selects "java/util/ArrayList" ({ cls := "java/util/ArrayList", name := "remove", desc := "(I)Ljava/lang/Object;" } : Jvm.MethodName) ({ cls := "java/util/ArrayList", name := "remove", desc := "(I)Ljava/lang/Object;" } : Jvm.MethodName)) ∈ lw_all := lw_g (lw_at lw_m5 90 rfl) rfl
theorem q1152 : (Jvm.Cond.code ({ cls := "java/util/ArrayList", name := "remove", desc := "(I)Ljava/lang/Object;" } : Jvm.MethodName) prog_46_method_29_code (4 : Nat) (Option.some (Jvm.ClassFile.FieldType.object "java/lang/Object"))) ∈ lw_all := lw_g (lw_at lw_m5 91 rfl) rfl
theorem q1153 : (Jvm.Cond.methodLink "java/util/ArrayList" (144 : Nat) ({ cls := "java/util/ArrayList", name := "fastRemove", desc := "([Ljava/lang/Object;I)V" } : Jvm.MethodName)) ∈ lw_all := lw_g (lw_at lw_m5 92 rfl) rfl
theorem q1154 : (Jvm.Cond.privateMethod ({ cls := "java/util/ArrayList", name := "fastRemove", desc := "([Ljava/lang/Object;I)V" } : Jvm.MethodName)) ∈ lw_tbl := lw_at lw_m5 93 rfl
theorem q1155 : (Jvm.Cond.instanceMethod ({ cls := "java/util/ArrayList", name := "fastRemove", desc := "([Ljava/lang/Object;I)V" } : Jvm.MethodName)) ∈ lw_all := lw_g (lw_at lw_m5 94 rfl) rfl
theorem q1156 : (Jvm.Cond.code ({ cls := "java/util/ArrayList", name := "fastRemove", desc := "([Ljava/lang/Object;I)V" } : Jvm.MethodName) prog_46_method_39_code (4 : Nat) (Option.none : Option Jvm.ClassFile.FieldType)) ∈ lw_all := lw_g (lw_at lw_m5 95 rfl) rfl
theorem q1157 : (Jvm.Cond.methodLink "java/util/ArrayList" (112 : Nat) ({ cls := "java/lang/System", name := "arraycopy", desc := "(Ljava/lang/Object;ILjava/lang/Object;II)V" } : Jvm.MethodName)) ∈ lw_all := lw_g (lw_at lw_m5 96 rfl) rfl
theorem q2010 : (Jvm.Cond.castable "java/util/ArrayList" "java/lang/Object") ∈ lw_tbl := lw_at lw_m8 229 rfl
theorem in_J2 : ∀ w ∈ wsJ20, w ∈ lw_all := lw_in wsJ20 [181, 177, 179] (by decide +kernel) (by decide +kernel)

/-! java/lang/Throwable -/
set_option maxRecDepth 100000
def RJ3 : String := "java/lang/Throwable"
def TJ3 : u_T := fun k => match k with
  | 0 => ("java/lang/Throwable", "cause", "Ljava/lang/Throwable;", false)
  | 1 => ("java/lang/Throwable", "stackTrace", "[Ljava/lang/StackTraceElement;", false)
  | 2 => ("java/lang/Throwable", "suppressedExceptions", "Ljava/util/List;", false)
  | 3 => ("java/lang/Throwable", "detailMessage", "Ljava/lang/String;", false)
  | _ => ("java/lang/Throwable", "backtrace", "Ljava/lang/Object;", false)
def tyJ3 : Nat → FieldType := fun k => match k with
  | 0 => .object "java/lang/Throwable"
  | 1 => .array (.object "java/lang/StackTraceElement")
  | 2 => .object "java/util/List"
  | 3 => .object "java/lang/String"
  | _ => .object "java/lang/Object"
abbrev wsJ30 : List Cond := u_ws RJ3 TJ3 5
theorem nmJ3 : ∀ a, a < 5 → ∀ b, b < 5 → a ≠ b → (TJ3 a).2.1 ≠ (TJ3 b).2.1 := by decide +kernel
theorem tyJ3_ok : ∀ k, k < 5 → parseFieldDescriptor (TJ3 k).2.2.1 = some (tyJ3 k) := by decide +kernel
abbrev cJ3_init : ByteArray := prog_41_method_1_code
def yJ3_init : MethodName := ⟨RJ3, "<init>", "()V"⟩
def dkwJ3_init_1 : List UInt8 := [182, 0, 27, 87, 177]
abbrev dktJ3_init_1 : List UInt8 := dkwJ3_init_1 ++ []
def dkwJ3_init_0 : List UInt8 := [42, 183, 0, 1, 42, 42, 181, 0, 7, 42, 178, 0, 13, 181, 0, 17, 42, 178, 0, 20, 181, 0, 24, 42]
abbrev dktJ3_init_0 : List UInt8 := dkwJ3_init_0 ++ dktJ3_init_1
theorem dksJ3_init_0 : cJ3_init.data.toList.drop 0 = dktJ3_init_0 := by decide +kernel
theorem dksJ3_init_1 : cJ3_init.data.toList.drop 24 = dktJ3_init_1 := dk_seg dksJ3_init_0 24 rfl rfl
theorem dJ3_init_0 : decode cJ3_init 0 = .ok (.aload_n 0, 1) := dk_42 (dk_at dksJ3_init_0 0 rfl rfl)
theorem dJ3_init_1 : decode cJ3_init 1 = .ok (.invokespecial 1, 3) := dk_183 0 1 (dk_at dksJ3_init_0 1 rfl rfl)
theorem dJ3_init_4 : decode cJ3_init 4 = .ok (.aload_n 0, 1) := dk_42 (dk_at dksJ3_init_0 4 rfl rfl)
theorem dJ3_init_5 : decode cJ3_init 5 = .ok (.aload_n 0, 1) := dk_42 (dk_at dksJ3_init_0 5 rfl rfl)
theorem dJ3_init_6 : decode cJ3_init 6 = .ok (.putfield 7, 3) := dk_181 0 7 (dk_at dksJ3_init_0 6 rfl rfl)
theorem dJ3_init_9 : decode cJ3_init 9 = .ok (.aload_n 0, 1) := dk_42 (dk_at dksJ3_init_0 9 rfl rfl)
theorem dJ3_init_10 : decode cJ3_init 10 = .ok (.getstatic 13, 3) := dk_178 0 13 (dk_at dksJ3_init_0 10 rfl rfl)
theorem dJ3_init_13 : decode cJ3_init 13 = .ok (.putfield 17, 3) := dk_181 0 17 (dk_at dksJ3_init_0 13 rfl rfl)
theorem dJ3_init_16 : decode cJ3_init 16 = .ok (.aload_n 0, 1) := dk_42 (dk_at dksJ3_init_0 16 rfl rfl)
theorem dJ3_init_17 : decode cJ3_init 17 = .ok (.getstatic 20, 3) := dk_178 0 20 (dk_at dksJ3_init_0 17 rfl rfl)
theorem dJ3_init_20 : decode cJ3_init 20 = .ok (.putfield 24, 3) := dk_181 0 24 (dk_at dksJ3_init_0 20 rfl rfl)
theorem dJ3_init_23 : decode cJ3_init 23 = .ok (.aload_n 0, 1) := dk_42 (dk_at dksJ3_init_0 23 rfl rfl)
theorem dJ3_init_24 : decode cJ3_init 24 = .ok (.invokevirtual 27, 3) := dk_182 0 27 (dk_at dksJ3_init_1 0 rfl rfl)
theorem dJ3_init_27 : decode cJ3_init 27 = .ok (.pop, 1) := dk_87 (dk_at dksJ3_init_1 3 rfl rfl)
theorem dJ3_init_28 : decode cJ3_init 28 = .ok (.return_, 1) := dk_177 (dk_at dksJ3_init_1 4 rfl rfl)
abbrev cJ3_init_2 : ByteArray := prog_41_method_5_code
def yJ3_init_2 : MethodName := ⟨RJ3, "<init>", "(Ljava/lang/String;Ljava/lang/Throwable;ZZ)V"⟩
def dkwJ3_init_2_2 : List UInt8 := [44, 181, 0, 7, 29, 154, 0, 8, 42, 1, 181, 0, 24, 177]
abbrev dktJ3_init_2_2 : List UInt8 := dkwJ3_init_2_2 ++ []
def dkwJ3_init_2_1 : List UInt8 := [21, 4, 153, 0, 11, 42, 182, 0, 27, 87, 167, 0, 8, 42, 1, 181, 0, 17, 42, 43, 181, 0, 31, 42]
abbrev dktJ3_init_2_1 : List UInt8 := dkwJ3_init_2_1 ++ dktJ3_init_2_2
def dkwJ3_init_2_0 : List UInt8 := [42, 183, 0, 1, 42, 42, 181, 0, 7, 42, 178, 0, 13, 181, 0, 17, 42, 178, 0, 20, 181, 0, 24]
abbrev dktJ3_init_2_0 : List UInt8 := dkwJ3_init_2_0 ++ dktJ3_init_2_1
theorem dksJ3_init_2_0 : cJ3_init_2.data.toList.drop 0 = dktJ3_init_2_0 := by decide +kernel
theorem dksJ3_init_2_1 : cJ3_init_2.data.toList.drop 23 = dktJ3_init_2_1 := dk_seg dksJ3_init_2_0 23 rfl rfl
theorem dksJ3_init_2_2 : cJ3_init_2.data.toList.drop 47 = dktJ3_init_2_2 := dk_seg dksJ3_init_2_1 24 rfl rfl
theorem dJ3_init_2_0 : decode cJ3_init_2 0 = .ok (.aload_n 0, 1) := dk_42 (dk_at dksJ3_init_2_0 0 rfl rfl)
theorem dJ3_init_2_1 : decode cJ3_init_2 1 = .ok (.invokespecial 1, 3) := dk_183 0 1 (dk_at dksJ3_init_2_0 1 rfl rfl)
theorem dJ3_init_2_4 : decode cJ3_init_2 4 = .ok (.aload_n 0, 1) := dk_42 (dk_at dksJ3_init_2_0 4 rfl rfl)
theorem dJ3_init_2_5 : decode cJ3_init_2 5 = .ok (.aload_n 0, 1) := dk_42 (dk_at dksJ3_init_2_0 5 rfl rfl)
theorem dJ3_init_2_6 : decode cJ3_init_2 6 = .ok (.putfield 7, 3) := dk_181 0 7 (dk_at dksJ3_init_2_0 6 rfl rfl)
theorem dJ3_init_2_9 : decode cJ3_init_2 9 = .ok (.aload_n 0, 1) := dk_42 (dk_at dksJ3_init_2_0 9 rfl rfl)
theorem dJ3_init_2_10 : decode cJ3_init_2 10 = .ok (.getstatic 13, 3) := dk_178 0 13 (dk_at dksJ3_init_2_0 10 rfl rfl)
theorem dJ3_init_2_13 : decode cJ3_init_2 13 = .ok (.putfield 17, 3) := dk_181 0 17 (dk_at dksJ3_init_2_0 13 rfl rfl)
theorem dJ3_init_2_16 : decode cJ3_init_2 16 = .ok (.aload_n 0, 1) := dk_42 (dk_at dksJ3_init_2_0 16 rfl rfl)
theorem dJ3_init_2_17 : decode cJ3_init_2 17 = .ok (.getstatic 20, 3) := dk_178 0 20 (dk_at dksJ3_init_2_0 17 rfl rfl)
theorem dJ3_init_2_20 : decode cJ3_init_2 20 = .ok (.putfield 24, 3) := dk_181 0 24 (dk_at dksJ3_init_2_0 20 rfl rfl)
theorem dJ3_init_2_23 : decode cJ3_init_2 23 = .ok (.iload 4, 2) := dk_21 4 (dk_at dksJ3_init_2_1 0 rfl rfl)
theorem dJ3_init_2_25 : decode cJ3_init_2 25 = .ok (.ifCond .eq 11, 3) := dk_153 0 11 (dk_at dksJ3_init_2_1 2 rfl rfl)
theorem dJ3_init_2_28 : decode cJ3_init_2 28 = .ok (.aload_n 0, 1) := dk_42 (dk_at dksJ3_init_2_1 5 rfl rfl)
theorem dJ3_init_2_29 : decode cJ3_init_2 29 = .ok (.invokevirtual 27, 3) := dk_182 0 27 (dk_at dksJ3_init_2_1 6 rfl rfl)
theorem dJ3_init_2_32 : decode cJ3_init_2 32 = .ok (.pop, 1) := dk_87 (dk_at dksJ3_init_2_1 9 rfl rfl)
theorem dJ3_init_2_33 : decode cJ3_init_2 33 = .ok (.goto 8, 3) := dk_167 0 8 (dk_at dksJ3_init_2_1 10 rfl rfl)
theorem dJ3_init_2_36 : decode cJ3_init_2 36 = .ok (.aload_n 0, 1) := dk_42 (dk_at dksJ3_init_2_1 13 rfl rfl)
theorem dJ3_init_2_37 : decode cJ3_init_2 37 = .ok (.aconst_null, 1) := dk_1 (dk_at dksJ3_init_2_1 14 rfl rfl)
theorem dJ3_init_2_38 : decode cJ3_init_2 38 = .ok (.putfield 17, 3) := dk_181 0 17 (dk_at dksJ3_init_2_1 15 rfl rfl)
theorem dJ3_init_2_41 : decode cJ3_init_2 41 = .ok (.aload_n 0, 1) := dk_42 (dk_at dksJ3_init_2_1 18 rfl rfl)
theorem dJ3_init_2_42 : decode cJ3_init_2 42 = .ok (.aload_n 1, 1) := dk_43 (dk_at dksJ3_init_2_1 19 rfl rfl)
theorem dJ3_init_2_43 : decode cJ3_init_2 43 = .ok (.putfield 31, 3) := dk_181 0 31 (dk_at dksJ3_init_2_1 20 rfl rfl)
theorem dJ3_init_2_46 : decode cJ3_init_2 46 = .ok (.aload_n 0, 1) := dk_42 (dk_at dksJ3_init_2_1 23 rfl rfl)
theorem dJ3_init_2_47 : decode cJ3_init_2 47 = .ok (.aload_n 2, 1) := dk_44 (dk_at dksJ3_init_2_2 0 rfl rfl)
theorem dJ3_init_2_48 : decode cJ3_init_2 48 = .ok (.putfield 7, 3) := dk_181 0 7 (dk_at dksJ3_init_2_2 1 rfl rfl)
theorem dJ3_init_2_51 : decode cJ3_init_2 51 = .ok (.iload_n 3, 1) := dk_29 (dk_at dksJ3_init_2_2 4 rfl rfl)
theorem dJ3_init_2_52 : decode cJ3_init_2 52 = .ok (.ifCond .ne 8, 3) := dk_154 0 8 (dk_at dksJ3_init_2_2 5 rfl rfl)
theorem dJ3_init_2_55 : decode cJ3_init_2 55 = .ok (.aload_n 0, 1) := dk_42 (dk_at dksJ3_init_2_2 8 rfl rfl)
theorem dJ3_init_2_56 : decode cJ3_init_2 56 = .ok (.aconst_null, 1) := dk_1 (dk_at dksJ3_init_2_2 9 rfl rfl)
theorem dJ3_init_2_57 : decode cJ3_init_2 57 = .ok (.putfield 24, 3) := dk_181 0 24 (dk_at dksJ3_init_2_2 10 rfl rfl)
theorem dJ3_init_2_60 : decode cJ3_init_2 60 = .ok (.return_, 1) := dk_177 (dk_at dksJ3_init_2_2 13 rfl rfl)
theorem q108 : (Jvm.Cond.initialized "java/lang/Throwable") ∈ lw_all := lw_g (lw_at lw_m1 7 rfl) rfl
theorem q305 : (Jvm.Cond.declares ({ cls := "java/lang/Throwable", name := "<init>", desc := "()V" } : Jvm.MethodName)) ∈ lw_tbl := lw_at lw_m1 204 rfl
theorem q306 : (Jvm.Cond.declares ({ cls := "java/lang/Throwable", name := "<init>", desc := "(Ljava/lang/String;)V" } : Jvm.MethodName)) ∈ lw_tbl := lw_at lw_m1 205 rfl
theorem q310 : (Jvm.Cond.lays "java/lang/Throwable" "java/lang/Throwable" "cause" "Ljava/lang/Throwable;") ∈ lw_all := lw_g (lw_at lw_m1 209 rfl) rfl
theorem q312 : (Jvm.Cond.lays "java/lang/Throwable" "java/lang/Throwable" "stackTrace" "[Ljava/lang/StackTraceElement;") ∈ lw_all := lw_g (lw_at lw_m1 211 rfl) rfl
theorem q314 : (Jvm.Cond.lays "java/lang/Throwable" "java/lang/Throwable" "suppressedExceptions" "Ljava/util/List;") ∈ lw_all := lw_g (lw_at lw_m1 213 rfl) rfl
theorem q316 : (Jvm.Cond.lays "java/lang/Throwable" "java/lang/Throwable" "detailMessage" "Ljava/lang/String;") ∈ lw_all := lw_g (lw_at lw_m1 215 rfl) rfl
theorem q318 : (Jvm.Cond.lays "java/lang/Throwable" "java/lang/Throwable" "backtrace" "Ljava/lang/Object;") ∈ lw_all := lw_g (lw_at lw_m1 217 rfl) rfl
theorem q319 : (Jvm.Cond.fieldLink "java/lang/Throwable" (198 : Nat) "java/lang/Throwable" "backtrace" "Ljava/lang/Object;") ∈ lw_all := lw_g (lw_at lw_m1 218 rfl) rfl
theorem q320 : (Jvm.Cond.superclass "java/lang/Throwable" "java/lang/Object") ∈ lw_all := lw_g (lw_at lw_m1 219 rfl) rfl
theorem q321 : (Jvm.Cond.instanceMethod ({ cls := "java/lang/Throwable", name := "<init>", desc := "()V" } : Jvm.MethodName)) ∈ lw_all := lw_g (lw_at lw_m1 220 rfl) rfl
theorem q322 : (Jvm.Cond.code ({ cls := "java/lang/Throwable", name := "<init>", desc := "()V" } : Jvm.MethodName) prog_41_method_1_code (1 : Nat) (Option.none : Option Jvm.ClassFile.FieldType)) ∈ lw_all := lw_g (lw_at lw_m1 221 rfl) rfl
theorem q323 : (Jvm.Cond.methodLink "java/lang/Throwable" (1 : Nat) ({ cls := "java/lang/Object", name := "<init>", desc := "()V" } : Jvm.MethodName)) ∈ lw_all := lw_g (lw_at lw_m1 222 rfl) rfl
theorem q324 : (Jvm.Cond.fieldLink "java/lang/Throwable" (13 : Nat) "java/lang/Throwable" "UNASSIGNED_STACK" "[Ljava/lang/StackTraceElement;") ∈ lw_all := lw_g (lw_at lw_m1 223 rfl) rfl
theorem q325 : (Jvm.Cond.laysStatic "java/lang/Throwable" "UNASSIGNED_STACK" "[Ljava/lang/StackTraceElement;") ∈ lw_tbl := lw_at lw_m1 224 rfl
theorem q326 : (Jvm.Cond.fieldLink "java/lang/Throwable" (20 : Nat) "java/lang/Throwable" "SUPPRESSED_SENTINEL" "Ljava/util/List;") ∈ lw_all := lw_g (lw_at lw_m1 225 rfl) rfl
theorem q327 : (Jvm.Cond.laysStatic "java/lang/Throwable" "SUPPRESSED_SENTINEL" "Ljava/util/List;") ∈ lw_tbl := lw_at lw_m1 226 rfl
theorem q328 : (Jvm.Cond.methodLink "java/lang/Throwable" (27 : Nat) ({ cls := "java/lang/Throwable", name := "fillInStackTrace", desc := "()Ljava/lang/Throwable;" } : Jvm.MethodName)) ∈ lw_all := lw_g (lw_at lw_m1 227 rfl) rfl
theorem q329 : (Jvm.Cond.instanceMethod ({ cls := "java/lang/Throwable", name := "fillInStackTrace", desc := "()Ljava/lang/Throwable;" } : Jvm.MethodName)) ∈ lw_all := lw_g (lw_at lw_m1 228 rfl) rfl
theorem q330 : (Jvm.Cond.sameMethod "java/lang/Throwable" "java/lang/Throwable" "fillInStackTrace" "()Ljava/lang/Throwable;") ∈ lw_all := lw_g (lw_at lw_m1 229 rfl) rfl
theorem q331 : (Jvm.Cond.codeSync ({ cls := "java/lang/Throwable", name := "fillInStackTrace", desc := "()Ljava/lang/Throwable;" } : Jvm.MethodName) prog_41_method_18_code (1 : Nat) (Option.some (Jvm.ClassFile.FieldType.object "java/lang/Throwable"))) ∈ lw_all := lw_g (lw_at lw_m1 230 rfl) rfl
theorem q332 : (Jvm.Cond.methodLink "java/lang/Throwable" (202 : Nat) ({ cls := "java/lang/Throwable", name := "fillInStackTrace", desc := "(I)Ljava/lang/Throwable;" } : Jvm.MethodName)) ∈ lw_all := lw_g (lw_at lw_m1 231 rfl) rfl
theorem q333 : (Jvm.Cond.privateMethod ({ cls := "java/lang/Throwable", name := "fillInStackTrace", desc := "(I)Ljava/lang/Throwable;" } : Jvm.MethodName)) ∈ lw_tbl := lw_at lw_m1 232 rfl
theorem q334 : (Jvm.Cond.instanceMethod ({ cls := "java/lang/Throwable", name := "fillInStackTrace", desc := "(I)Ljava/lang/Throwable;" } : Jvm.MethodName)) ∈ lw_all := lw_g (lw_at lw_m1 233 rfl) rfl
theorem q335 : (Jvm.Cond.instantiable "java/lang/Throwable" (6 : Nat)) ∈ lw_all := lw_g (lw_at lw_m1 234 rfl) rfl
theorem q336 : (Jvm.Cond.native ({ cls := "java/lang/Throwable", name := "fillInStackTrace", desc := "(I)Ljava/lang/Throwable;" } : Jvm.MethodName)) ∈ lw_all := lw_g (lw_at lw_m1 235 rfl) rfl
theorem q347 : (Jvm.Cond.instanceMethod ({ cls := "java/lang/Throwable", name := "<init>", desc := "(Ljava/lang/String;Ljava/lang/Throwable;ZZ)V" } : Jvm.MethodName)) ∈ lw_all := lw_g (lw_at lw_m2 6 rfl) rfl
theorem q348 : (Jvm.Cond.code ({ cls := "java/lang/Throwable", name := "<init>", desc := "(Ljava/lang/String;Ljava/lang/Throwable;ZZ)V" } : Jvm.MethodName) prog_41_method_5_code (5 : Nat) (Option.none : Option Jvm.ClassFile.FieldType)) ∈ lw_all := lw_g (lw_at lw_m2 7 rfl) rfl
theorem q351 : (Jvm.Cond.fieldLink "java/lang/Throwable" (198 : Nat) "java/lang/Throwable" "backtrace" "Ljava/lang/Object;") ∈ lw_all := lw_g (lw_at lw_m2 10 rfl) rfl
theorem q352 : (Jvm.Cond.fieldLink "java/lang/Throwable" (31 : Nat) "java/lang/Throwable" "detailMessage" "Ljava/lang/String;") ∈ lw_all := lw_g (lw_at lw_m2 11 rfl) rfl
theorem q353 : (Jvm.Cond.fieldLink "java/lang/Throwable" (7 : Nat) "java/lang/Throwable" "cause" "Ljava/lang/Throwable;") ∈ lw_all := lw_g (lw_at lw_m2 12 rfl) rfl
theorem q354 : (Jvm.Cond.fieldLink "java/lang/Throwable" (17 : Nat) "java/lang/Throwable" "stackTrace" "[Ljava/lang/StackTraceElement;") ∈ lw_all := lw_g (lw_at lw_m2 13 rfl) rfl
theorem q355 : (Jvm.Cond.fieldLink "java/lang/Throwable" (24 : Nat) "java/lang/Throwable" "suppressedExceptions" "Ljava/util/List;") ∈ lw_all := lw_g (lw_at lw_m2 14 rfl) rfl
theorem q358 : (Jvm.Cond.soleField "java/lang/Throwable" "backtrace") ∈ lw_all := lw_g (lw_at lw_m2 17 rfl) rfl
theorem q359 : (Jvm.Cond.soleField "java/lang/Throwable" "detailMessage") ∈ lw_all := lw_g (lw_at lw_m2 18 rfl) rfl
theorem q360 : (Jvm.Cond.soleField "java/lang/Throwable" "cause") ∈ lw_all := lw_g (lw_at lw_m2 19 rfl) rfl
theorem q361 : (Jvm.Cond.soleField "java/lang/Throwable" "stackTrace") ∈ lw_all := lw_g (lw_at lw_m2 20 rfl) rfl
theorem q363 : (Jvm.Cond.soleField "java/lang/Throwable" "depth") ∈ lw_all := lw_g (lw_at lw_m2 22 rfl) rfl
theorem q364 : (Jvm.Cond.soleField "java/lang/Throwable" "suppressedExceptions") ∈ lw_all := lw_g (lw_at lw_m2 23 rfl) rfl
theorem q1992 : (Jvm.Cond.sameMethod "java/lang/Throwable" "java/lang/Throwable" "fillInStackTrace" "(I)Ljava/lang/Throwable;") ∈ lw_all := lw_g (lw_at lw_m8 211 rfl) rfl
theorem q2029 : (Jvm.Cond.castable "java/lang/Throwable" "java/lang/Object") ∈ lw_tbl := lw_at lw_m9 8 rfl
theorem in_J3 : ∀ w ∈ wsJ30, w ∈ lw_all := lw_in wsJ30 [310, 312, 314, 316, 318] (by decide +kernel) (by decide +kernel)

/-! java/lang/Exception -/
set_option maxRecDepth 100000
def RJ4 : String := "java/lang/Exception"
abbrev cJ4_init : ByteArray := prog_32_method_5_code
def yJ4_init : MethodName := ⟨RJ4, "<init>", "(Ljava/lang/String;Ljava/lang/Throwable;ZZ)V"⟩
def dkwJ4_init_0 : List UInt8 := [42, 43, 44, 29, 21, 4, 183, 0, 16, 177]
abbrev dktJ4_init_0 : List UInt8 := dkwJ4_init_0 ++ []
theorem dksJ4_init_0 : cJ4_init.data.toList.drop 0 = dktJ4_init_0 := by decide +kernel
theorem dJ4_init_0 : decode cJ4_init 0 = .ok (.aload_n 0, 1) := dk_42 (dk_at dksJ4_init_0 0 rfl rfl)
theorem dJ4_init_1 : decode cJ4_init 1 = .ok (.aload_n 1, 1) := dk_43 (dk_at dksJ4_init_0 1 rfl rfl)
theorem dJ4_init_2 : decode cJ4_init 2 = .ok (.aload_n 2, 1) := dk_44 (dk_at dksJ4_init_0 2 rfl rfl)
theorem dJ4_init_3 : decode cJ4_init 3 = .ok (.iload_n 3, 1) := dk_29 (dk_at dksJ4_init_0 3 rfl rfl)
theorem dJ4_init_4 : decode cJ4_init 4 = .ok (.iload 4, 2) := dk_21 4 (dk_at dksJ4_init_0 4 rfl rfl)
theorem dJ4_init_6 : decode cJ4_init 6 = .ok (.invokespecial 16, 3) := dk_183 0 16 (dk_at dksJ4_init_0 6 rfl rfl)
theorem dJ4_init_9 : decode cJ4_init 9 = .ok (.return_, 1) := dk_177 (dk_at dksJ4_init_0 9 rfl rfl)
theorem q109 : (Jvm.Cond.initialized "java/lang/Exception") ∈ lw_all := lw_g (lw_at lw_m1 8 rfl) rfl
theorem q303 : (Jvm.Cond.declares ({ cls := "java/lang/Exception", name := "<init>", desc := "()V" } : Jvm.MethodName)) ∈ lw_tbl := lw_at lw_m1 202 rfl
theorem q304 : (Jvm.Cond.declares ({ cls := "java/lang/Exception", name := "<init>", desc := "(Ljava/lang/String;)V" } : Jvm.MethodName)) ∈ lw_tbl := lw_at lw_m1 203 rfl
theorem q344 : (Jvm.Cond.instanceMethod ({ cls := "java/lang/Exception", name := "<init>", desc := "(Ljava/lang/String;Ljava/lang/Throwable;ZZ)V" } : Jvm.MethodName)) ∈ lw_all := lw_g (lw_at lw_m2 3 rfl) rfl
theorem q345 : (Jvm.Cond.code ({ cls := "java/lang/Exception", name := "<init>", desc := "(Ljava/lang/String;Ljava/lang/Throwable;ZZ)V" } : Jvm.MethodName) prog_32_method_5_code (5 : Nat) (Option.none : Option Jvm.ClassFile.FieldType)) ∈ lw_all := lw_g (lw_at lw_m2 4 rfl) rfl
theorem q346 : (Jvm.Cond.methodLink "java/lang/Exception" (16 : Nat) ({ cls := "java/lang/Throwable", name := "<init>", desc := "(Ljava/lang/String;Ljava/lang/Throwable;ZZ)V" } : Jvm.MethodName)) ∈ lw_all := lw_g (lw_at lw_m2 5 rfl) rfl

/-! java/lang/RuntimeException -/
set_option maxRecDepth 100000
def RJ5 : String := "java/lang/RuntimeException"
abbrev cJ5_init : ByteArray := prog_36_method_5_code
def yJ5_init : MethodName := ⟨RJ5, "<init>", "(Ljava/lang/String;Ljava/lang/Throwable;ZZ)V"⟩
def dkwJ5_init_0 : List UInt8 := [42, 43, 44, 29, 21, 4, 183, 0, 16, 177]
abbrev dktJ5_init_0 : List UInt8 := dkwJ5_init_0 ++ []
theorem dksJ5_init_0 : cJ5_init.data.toList.drop 0 = dktJ5_init_0 := by decide +kernel
theorem dJ5_init_0 : decode cJ5_init 0 = .ok (.aload_n 0, 1) := dk_42 (dk_at dksJ5_init_0 0 rfl rfl)
theorem dJ5_init_1 : decode cJ5_init 1 = .ok (.aload_n 1, 1) := dk_43 (dk_at dksJ5_init_0 1 rfl rfl)
theorem dJ5_init_2 : decode cJ5_init 2 = .ok (.aload_n 2, 1) := dk_44 (dk_at dksJ5_init_0 2 rfl rfl)
theorem dJ5_init_3 : decode cJ5_init 3 = .ok (.iload_n 3, 1) := dk_29 (dk_at dksJ5_init_0 3 rfl rfl)
theorem dJ5_init_4 : decode cJ5_init 4 = .ok (.iload 4, 2) := dk_21 4 (dk_at dksJ5_init_0 4 rfl rfl)
theorem dJ5_init_6 : decode cJ5_init 6 = .ok (.invokespecial 16, 3) := dk_183 0 16 (dk_at dksJ5_init_0 6 rfl rfl)
theorem dJ5_init_9 : decode cJ5_init 9 = .ok (.return_, 1) := dk_177 (dk_at dksJ5_init_0 9 rfl rfl)
theorem q110 : (Jvm.Cond.initialized "java/lang/RuntimeException") ∈ lw_all := lw_g (lw_at lw_m1 9 rfl) rfl
theorem q301 : (Jvm.Cond.declares ({ cls := "java/lang/RuntimeException", name := "<init>", desc := "()V" } : Jvm.MethodName)) ∈ lw_tbl := lw_at lw_m1 200 rfl
theorem q302 : (Jvm.Cond.declares ({ cls := "java/lang/RuntimeException", name := "<init>", desc := "(Ljava/lang/String;)V" } : Jvm.MethodName)) ∈ lw_tbl := lw_at lw_m1 201 rfl
theorem q341 : (Jvm.Cond.instanceMethod ({ cls := "java/lang/RuntimeException", name := "<init>", desc := "(Ljava/lang/String;Ljava/lang/Throwable;ZZ)V" } : Jvm.MethodName)) ∈ lw_all := lw_g (lw_at lw_m2 0 rfl) rfl
theorem q342 : (Jvm.Cond.code ({ cls := "java/lang/RuntimeException", name := "<init>", desc := "(Ljava/lang/String;Ljava/lang/Throwable;ZZ)V" } : Jvm.MethodName) prog_36_method_5_code (5 : Nat) (Option.none : Option Jvm.ClassFile.FieldType)) ∈ lw_all := lw_g (lw_at lw_m2 1 rfl) rfl
theorem q343 : (Jvm.Cond.methodLink "java/lang/RuntimeException" (16 : Nat) ({ cls := "java/lang/Exception", name := "<init>", desc := "(Ljava/lang/String;Ljava/lang/Throwable;ZZ)V" } : Jvm.MethodName)) ∈ lw_all := lw_g (lw_at lw_m2 2 rfl) rfl

/-! java/lang/String -/
set_option maxRecDepth 100000
def RJ6 : String := "java/lang/String"
abbrev cJ6_length : ByteArray := prog_37_method_54_code
def yJ6_length : MethodName := ⟨RJ6, "length", "()I"⟩
def dkwJ6_length_0 : List UInt8 := [42, 180, 0, 9, 190, 42, 182, 1, 79, 122, 172]
abbrev dktJ6_length_0 : List UInt8 := dkwJ6_length_0 ++ []
theorem dksJ6_length_0 : cJ6_length.data.toList.drop 0 = dktJ6_length_0 := by decide +kernel
theorem dJ6_length_0 : decode cJ6_length 0 = .ok (.aload_n 0, 1) := dk_42 (dk_at dksJ6_length_0 0 rfl rfl)
theorem dJ6_length_1 : decode cJ6_length 1 = .ok (.getfield 9, 3) := dk_180 0 9 (dk_at dksJ6_length_0 1 rfl rfl)
theorem dJ6_length_4 : decode cJ6_length 4 = .ok (.arraylength, 1) := dk_190 (dk_at dksJ6_length_0 4 rfl rfl)
theorem dJ6_length_5 : decode cJ6_length 5 = .ok (.aload_n 0, 1) := dk_42 (dk_at dksJ6_length_0 5 rfl rfl)
theorem dJ6_length_6 : decode cJ6_length 6 = .ok (.invokevirtual 335, 3) := dk_182 1 79 (dk_at dksJ6_length_0 6 rfl rfl)
theorem dJ6_length_9 : decode cJ6_length 9 = .ok (.ishr, 1) := dk_122 (dk_at dksJ6_length_0 9 rfl rfl)
theorem dJ6_length_10 : decode cJ6_length 10 = .ok (.ireturn, 1) := dk_172 (dk_at dksJ6_length_0 10 rfl rfl)
abbrev cJ6_coder : ByteArray := prog_37_method_152_code
def yJ6_coder : MethodName := ⟨RJ6, "coder", "()B"⟩
def dkwJ6_coder_0 : List UInt8 := [178, 0, 38, 153, 0, 10, 42, 180, 0, 15, 167, 0, 4, 4, 172]
abbrev dktJ6_coder_0 : List UInt8 := dkwJ6_coder_0 ++ []
theorem dksJ6_coder_0 : cJ6_coder.data.toList.drop 0 = dktJ6_coder_0 := by decide +kernel
theorem dJ6_coder_0 : decode cJ6_coder 0 = .ok (.getstatic 38, 3) := dk_178 0 38 (dk_at dksJ6_coder_0 0 rfl rfl)
theorem dJ6_coder_3 : decode cJ6_coder 3 = .ok (.ifCond .eq 10, 3) := dk_153 0 10 (dk_at dksJ6_coder_0 3 rfl rfl)
theorem dJ6_coder_6 : decode cJ6_coder 6 = .ok (.aload_n 0, 1) := dk_42 (dk_at dksJ6_coder_0 6 rfl rfl)
theorem dJ6_coder_7 : decode cJ6_coder 7 = .ok (.getfield 15, 3) := dk_180 0 15 (dk_at dksJ6_coder_0 7 rfl rfl)
theorem dJ6_coder_10 : decode cJ6_coder 10 = .ok (.goto 4, 3) := dk_167 0 4 (dk_at dksJ6_coder_0 10 rfl rfl)
theorem dJ6_coder_13 : decode cJ6_coder 13 = .ok (.iconst 1, 1) := dk_4 (dk_at dksJ6_coder_0 13 rfl rfl)
theorem dJ6_coder_14 : decode cJ6_coder 14 = .ok (.ireturn, 1) := dk_172 (dk_at dksJ6_coder_0 14 rfl rfl)
abbrev cJ6_indexOf : ByteArray := prog_37_method_80_code
def yJ6_indexOf : MethodName := ⟨RJ6, "indexOf", "(II)I"⟩
def dkwJ6_indexOf_1 : List UInt8 := [180, 0, 9, 27, 28, 42, 182, 1, 249, 184, 2, 128, 172]
abbrev dktJ6_indexOf_1 : List UInt8 := dkwJ6_indexOf_1 ++ []
def dkwJ6_indexOf_0 : List UInt8 := [42, 182, 1, 236, 153, 0, 19, 42, 180, 0, 9, 27, 28, 42, 182, 1, 249, 184, 2, 125, 167, 0, 16, 42]
abbrev dktJ6_indexOf_0 : List UInt8 := dkwJ6_indexOf_0 ++ dktJ6_indexOf_1
theorem dksJ6_indexOf_0 : cJ6_indexOf.data.toList.drop 0 = dktJ6_indexOf_0 := by decide +kernel
theorem dksJ6_indexOf_1 : cJ6_indexOf.data.toList.drop 24 = dktJ6_indexOf_1 := dk_seg dksJ6_indexOf_0 24 rfl rfl
theorem dJ6_indexOf_0 : decode cJ6_indexOf 0 = .ok (.aload_n 0, 1) := dk_42 (dk_at dksJ6_indexOf_0 0 rfl rfl)
theorem dJ6_indexOf_1 : decode cJ6_indexOf 1 = .ok (.invokevirtual 492, 3) := dk_182 1 236 (dk_at dksJ6_indexOf_0 1 rfl rfl)
theorem dJ6_indexOf_4 : decode cJ6_indexOf 4 = .ok (.ifCond .eq 19, 3) := dk_153 0 19 (dk_at dksJ6_indexOf_0 4 rfl rfl)
theorem dJ6_indexOf_7 : decode cJ6_indexOf 7 = .ok (.aload_n 0, 1) := dk_42 (dk_at dksJ6_indexOf_0 7 rfl rfl)
theorem dJ6_indexOf_8 : decode cJ6_indexOf 8 = .ok (.getfield 9, 3) := dk_180 0 9 (dk_at dksJ6_indexOf_0 8 rfl rfl)
theorem dJ6_indexOf_11 : decode cJ6_indexOf 11 = .ok (.iload_n 1, 1) := dk_27 (dk_at dksJ6_indexOf_0 11 rfl rfl)
theorem dJ6_indexOf_12 : decode cJ6_indexOf 12 = .ok (.iload_n 2, 1) := dk_28 (dk_at dksJ6_indexOf_0 12 rfl rfl)
theorem dJ6_indexOf_13 : decode cJ6_indexOf 13 = .ok (.aload_n 0, 1) := dk_42 (dk_at dksJ6_indexOf_0 13 rfl rfl)
theorem dJ6_indexOf_14 : decode cJ6_indexOf 14 = .ok (.invokevirtual 505, 3) := dk_182 1 249 (dk_at dksJ6_indexOf_0 14 rfl rfl)
theorem dJ6_indexOf_17 : decode cJ6_indexOf 17 = .ok (.invokestatic 637, 3) := dk_184 2 125 (dk_at dksJ6_indexOf_0 17 rfl rfl)
theorem dJ6_indexOf_20 : decode cJ6_indexOf 20 = .ok (.goto 16, 3) := dk_167 0 16 (dk_at dksJ6_indexOf_0 20 rfl rfl)
theorem dJ6_indexOf_23 : decode cJ6_indexOf 23 = .ok (.aload_n 0, 1) := dk_42 (dk_at dksJ6_indexOf_0 23 rfl rfl)
theorem dJ6_indexOf_24 : decode cJ6_indexOf 24 = .ok (.getfield 9, 3) := dk_180 0 9 (dk_at dksJ6_indexOf_1 0 rfl rfl)
theorem dJ6_indexOf_27 : decode cJ6_indexOf 27 = .ok (.iload_n 1, 1) := dk_27 (dk_at dksJ6_indexOf_1 3 rfl rfl)
theorem dJ6_indexOf_28 : decode cJ6_indexOf 28 = .ok (.iload_n 2, 1) := dk_28 (dk_at dksJ6_indexOf_1 4 rfl rfl)
theorem dJ6_indexOf_29 : decode cJ6_indexOf 29 = .ok (.aload_n 0, 1) := dk_42 (dk_at dksJ6_indexOf_1 5 rfl rfl)
theorem dJ6_indexOf_30 : decode cJ6_indexOf 30 = .ok (.invokevirtual 505, 3) := dk_182 1 249 (dk_at dksJ6_indexOf_1 6 rfl rfl)
theorem dJ6_indexOf_33 : decode cJ6_indexOf 33 = .ok (.invokestatic 640, 3) := dk_184 2 128 (dk_at dksJ6_indexOf_1 9 rfl rfl)
theorem dJ6_indexOf_36 : decode cJ6_indexOf 36 = .ok (.ireturn, 1) := dk_172 (dk_at dksJ6_indexOf_1 12 rfl rfl)
abbrev cJ6_isLatin1 : ByteArray := prog_37_method_154_code
def yJ6_isLatin1 : MethodName := ⟨RJ6, "isLatin1", "()Z"⟩
def dkwJ6_isLatin1_0 : List UInt8 := [178, 0, 38, 153, 0, 14, 42, 180, 0, 15, 154, 0, 7, 4, 167, 0, 4, 3, 172]
abbrev dktJ6_isLatin1_0 : List UInt8 := dkwJ6_isLatin1_0 ++ []
theorem dksJ6_isLatin1_0 : cJ6_isLatin1.data.toList.drop 0 = dktJ6_isLatin1_0 := by decide +kernel
theorem dJ6_isLatin1_0 : decode cJ6_isLatin1 0 = .ok (.getstatic 38, 3) := dk_178 0 38 (dk_at dksJ6_isLatin1_0 0 rfl rfl)
theorem dJ6_isLatin1_3 : decode cJ6_isLatin1 3 = .ok (.ifCond .eq 14, 3) := dk_153 0 14 (dk_at dksJ6_isLatin1_0 3 rfl rfl)
theorem dJ6_isLatin1_6 : decode cJ6_isLatin1 6 = .ok (.aload_n 0, 1) := dk_42 (dk_at dksJ6_isLatin1_0 6 rfl rfl)
theorem dJ6_isLatin1_7 : decode cJ6_isLatin1 7 = .ok (.getfield 15, 3) := dk_180 0 15 (dk_at dksJ6_isLatin1_0 7 rfl rfl)
theorem dJ6_isLatin1_10 : decode cJ6_isLatin1 10 = .ok (.ifCond .ne 7, 3) := dk_154 0 7 (dk_at dksJ6_isLatin1_0 10 rfl rfl)
theorem dJ6_isLatin1_13 : decode cJ6_isLatin1 13 = .ok (.iconst 1, 1) := dk_4 (dk_at dksJ6_isLatin1_0 13 rfl rfl)
theorem dJ6_isLatin1_14 : decode cJ6_isLatin1 14 = .ok (.goto 4, 3) := dk_167 0 4 (dk_at dksJ6_isLatin1_0 14 rfl rfl)
theorem dJ6_isLatin1_17 : decode cJ6_isLatin1 17 = .ok (.iconst 0, 1) := dk_3 (dk_at dksJ6_isLatin1_0 17 rfl rfl)
theorem dJ6_isLatin1_18 : decode cJ6_isLatin1 18 = .ok (.ireturn, 1) := dk_172 (dk_at dksJ6_isLatin1_0 18 rfl rfl)
abbrev cJ6_checkBoundsBeginEnd : ByteArray := prog_37_method_158_code
def yJ6_checkBoundsBeginEnd : MethodName := ⟨RJ6, "checkBoundsBeginEnd", "(III)V"⟩
def dkwJ6_checkBoundsBeginEnd_0 : List UInt8 := [26, 27, 28, 178, 4, 29, 184, 4, 38, 87, 177]
abbrev dktJ6_checkBoundsBeginEnd_0 : List UInt8 := dkwJ6_checkBoundsBeginEnd_0 ++ []
theorem dksJ6_checkBoundsBeginEnd_0 : cJ6_checkBoundsBeginEnd.data.toList.drop 0 = dktJ6_checkBoundsBeginEnd_0 := by decide +kernel
theorem dJ6_checkBoundsBeginEnd_0 : decode cJ6_checkBoundsBeginEnd 0 = .ok (.iload_n 0, 1) := dk_26 (dk_at dksJ6_checkBoundsBeginEnd_0 0 rfl rfl)
theorem dJ6_checkBoundsBeginEnd_1 : decode cJ6_checkBoundsBeginEnd 1 = .ok (.iload_n 1, 1) := dk_27 (dk_at dksJ6_checkBoundsBeginEnd_0 1 rfl rfl)
theorem dJ6_checkBoundsBeginEnd_2 : decode cJ6_checkBoundsBeginEnd 2 = .ok (.iload_n 2, 1) := dk_28 (dk_at dksJ6_checkBoundsBeginEnd_0 2 rfl rfl)
theorem dJ6_checkBoundsBeginEnd_3 : decode cJ6_checkBoundsBeginEnd 3 = .ok (.getstatic 1053, 3) := dk_178 4 29 (dk_at dksJ6_checkBoundsBeginEnd_0 3 rfl rfl)
theorem dJ6_checkBoundsBeginEnd_6 : decode cJ6_checkBoundsBeginEnd 6 = .ok (.invokestatic 1062, 3) := dk_184 4 38 (dk_at dksJ6_checkBoundsBeginEnd_0 6 rfl rfl)
theorem dJ6_checkBoundsBeginEnd_9 : decode cJ6_checkBoundsBeginEnd 9 = .ok (.pop, 1) := dk_87 (dk_at dksJ6_checkBoundsBeginEnd_0 9 rfl rfl)
theorem dJ6_checkBoundsBeginEnd_10 : decode cJ6_checkBoundsBeginEnd 10 = .ok (.return_, 1) := dk_177 (dk_at dksJ6_checkBoundsBeginEnd_0 10 rfl rfl)
abbrev cJ6_charAt : ByteArray := prog_37_method_56_code
def yJ6_charAt : MethodName := ⟨RJ6, "charAt", "(I)C"⟩
def dkwJ6_charAt_1 : List UInt8 := [172]
abbrev dktJ6_charAt_1 : List UInt8 := dkwJ6_charAt_1 ++ []
def dkwJ6_charAt_0 : List UInt8 := [42, 182, 1, 236, 153, 0, 12, 42, 180, 0, 9, 27, 184, 1, 239, 172, 42, 180, 0, 9, 27, 184, 1, 242]
abbrev dktJ6_charAt_0 : List UInt8 := dkwJ6_charAt_0 ++ dktJ6_charAt_1
theorem dksJ6_charAt_0 : cJ6_charAt.data.toList.drop 0 = dktJ6_charAt_0 := by decide +kernel
theorem dksJ6_charAt_1 : cJ6_charAt.data.toList.drop 24 = dktJ6_charAt_1 := dk_seg dksJ6_charAt_0 24 rfl rfl
theorem dJ6_charAt_0 : decode cJ6_charAt 0 = .ok (.aload_n 0, 1) := dk_42 (dk_at dksJ6_charAt_0 0 rfl rfl)
theorem dJ6_charAt_1 : decode cJ6_charAt 1 = .ok (.invokevirtual 492, 3) := dk_182 1 236 (dk_at dksJ6_charAt_0 1 rfl rfl)
theorem dJ6_charAt_4 : decode cJ6_charAt 4 = .ok (.ifCond .eq 12, 3) := dk_153 0 12 (dk_at dksJ6_charAt_0 4 rfl rfl)
theorem dJ6_charAt_7 : decode cJ6_charAt 7 = .ok (.aload_n 0, 1) := dk_42 (dk_at dksJ6_charAt_0 7 rfl rfl)
theorem dJ6_charAt_8 : decode cJ6_charAt 8 = .ok (.getfield 9, 3) := dk_180 0 9 (dk_at dksJ6_charAt_0 8 rfl rfl)
theorem dJ6_charAt_11 : decode cJ6_charAt 11 = .ok (.iload_n 1, 1) := dk_27 (dk_at dksJ6_charAt_0 11 rfl rfl)
theorem dJ6_charAt_12 : decode cJ6_charAt 12 = .ok (.invokestatic 495, 3) := dk_184 1 239 (dk_at dksJ6_charAt_0 12 rfl rfl)
theorem dJ6_charAt_15 : decode cJ6_charAt 15 = .ok (.ireturn, 1) := dk_172 (dk_at dksJ6_charAt_0 15 rfl rfl)
theorem dJ6_charAt_16 : decode cJ6_charAt 16 = .ok (.aload_n 0, 1) := dk_42 (dk_at dksJ6_charAt_0 16 rfl rfl)
theorem dJ6_charAt_17 : decode cJ6_charAt 17 = .ok (.getfield 9, 3) := dk_180 0 9 (dk_at dksJ6_charAt_0 17 rfl rfl)
theorem dJ6_charAt_20 : decode cJ6_charAt 20 = .ok (.iload_n 1, 1) := dk_27 (dk_at dksJ6_charAt_0 20 rfl rfl)
theorem dJ6_charAt_21 : decode cJ6_charAt 21 = .ok (.invokestatic 498, 3) := dk_184 1 242 (dk_at dksJ6_charAt_0 21 rfl rfl)
theorem dJ6_charAt_24 : decode cJ6_charAt 24 = .ok (.ireturn, 1) := dk_172 (dk_at dksJ6_charAt_1 0 rfl rfl)
abbrev cJ6_checkIndex : ByteArray := prog_37_method_155_code
def yJ6_checkIndex : MethodName := ⟨RJ6, "checkIndex", "(II)V"⟩
def dkwJ6_checkIndex_0 : List UInt8 := [26, 27, 178, 4, 29, 184, 4, 35, 87, 177]
abbrev dktJ6_checkIndex_0 : List UInt8 := dkwJ6_checkIndex_0 ++ []
theorem dksJ6_checkIndex_0 : cJ6_checkIndex.data.toList.drop 0 = dktJ6_checkIndex_0 := by decide +kernel
theorem dJ6_checkIndex_0 : decode cJ6_checkIndex 0 = .ok (.iload_n 0, 1) := dk_26 (dk_at dksJ6_checkIndex_0 0 rfl rfl)
theorem dJ6_checkIndex_1 : decode cJ6_checkIndex 1 = .ok (.iload_n 1, 1) := dk_27 (dk_at dksJ6_checkIndex_0 1 rfl rfl)
theorem dJ6_checkIndex_2 : decode cJ6_checkIndex 2 = .ok (.getstatic 1053, 3) := dk_178 4 29 (dk_at dksJ6_checkIndex_0 2 rfl rfl)
theorem dJ6_checkIndex_5 : decode cJ6_checkIndex 5 = .ok (.invokestatic 1059, 3) := dk_184 4 35 (dk_at dksJ6_checkIndex_0 5 rfl rfl)
theorem dJ6_checkIndex_8 : decode cJ6_checkIndex 8 = .ok (.pop, 1) := dk_87 (dk_at dksJ6_checkIndex_0 8 rfl rfl)
theorem dJ6_checkIndex_9 : decode cJ6_checkIndex 9 = .ok (.return_, 1) := dk_177 (dk_at dksJ6_checkIndex_0 9 rfl rfl)
theorem q112 : (Jvm.Cond.initialized "java/lang/String") ∈ lw_all := lw_g (lw_at lw_m1 11 rfl) rfl
theorem q376 : (Jvm.Cond.instanceMethod ({ cls := "java/lang/String", name := "length", desc := "()I" } : Jvm.MethodName)) ∈ lw_all := lw_g (lw_at lw_m2 35 rfl) rfl
theorem q377 : (Jvm.Cond.selects "java/lang/String" ({ cls := "java/lang/String", name := "length", desc := "()I" } : Jvm.MethodName) ({ cls := "java/lang/String", name := "length", desc := "()I" } : Jvm.MethodName)) ∈ lw_all := lw_g (lw_at lw_m2 36 rfl) rfl
theorem q378 : (Jvm.Cond.code ({ cls := "java/lang/String", name := "length", desc := "()I" } : Jvm.MethodName) prog_37_method_54_code (1 : Nat) (Option.some Jvm.ClassFile.FieldType.int)) ∈ lw_all := lw_g (lw_at lw_m2 37 rfl) rfl
theorem q379 : (Jvm.Cond.methodLink "java/lang/String" (335 : Nat) ({ cls := "java/lang/String", name := "coder", desc := "()B" } : Jvm.MethodName)) ∈ lw_all := lw_g (lw_at lw_m2 38 rfl) rfl
theorem q380 : (Jvm.Cond.instanceMethod ({ cls := "java/lang/String", name := "coder", desc := "()B" } : Jvm.MethodName)) ∈ lw_all := lw_g (lw_at lw_m2 39 rfl) rfl
theorem q381 : (Jvm.Cond.selects "java/lang/String" ({ cls := "java/lang/String", name := "coder", desc := "()B" } : Jvm.MethodName) ({ cls := "java/lang/String", name := "coder", desc := "()B" } : Jvm.MethodName)) ∈ lw_all := lw_g (lw_at lw_m2 40 rfl) rfl
theorem q382 : (Jvm.Cond.code ({ cls := "java/lang/String", name := "coder", desc := "()B" } : Jvm.MethodName) prog_37_method_152_code (1 : Nat) (Option.some Jvm.ClassFile.FieldType.byte)) ∈ lw_all := lw_g (lw_at lw_m2 41 rfl) rfl
theorem q383 : (Jvm.Cond.fieldLink "java/lang/String" (38 : Nat) "java/lang/String" "COMPACT_STRINGS" "Z") ∈ lw_all := lw_g (lw_at lw_m2 42 rfl) rfl
theorem q384 : (Jvm.Cond.laysStatic "java/lang/String" "COMPACT_STRINGS" "Z") ∈ lw_tbl := lw_at lw_m2 43 rfl
theorem q394 : (Jvm.Cond.instanceMethod ({ cls := "java/lang/String", name := "indexOf", desc := "(II)I" } : Jvm.MethodName)) ∈ lw_all := lw_g (lw_at lw_m2 53 rfl) rfl
theorem q395 : (Jvm.Cond.selects "java/lang/String" ({ cls := "java/lang/String", name := "indexOf", desc := "(II)I" } : Jvm.MethodName) ({ cls := "java/lang/String", name := "indexOf", desc := "(II)I" } : Jvm.MethodName)) ∈ lw_all := lw_g (lw_at lw_m2 54 rfl) rfl
theorem q396 : (Jvm.Cond.code ({ cls := "java/lang/String", name := "indexOf", desc := "(II)I" } : Jvm.MethodName) prog_37_method_80_code (3 : Nat) (Option.some Jvm.ClassFile.FieldType.int)) ∈ lw_all := lw_g (lw_at lw_m2 55 rfl) rfl
theorem q397 : (Jvm.Cond.methodLink "java/lang/String" (492 : Nat) ({ cls := "java/lang/String", name := "isLatin1", desc := "()Z" } : Jvm.MethodName)) ∈ lw_all := lw_g (lw_at lw_m2 56 rfl) rfl
theorem q398 : (Jvm.Cond.instanceMethod ({ cls := "java/lang/String", name := "isLatin1", desc := "()Z" } : Jvm.MethodName)) ∈ lw_all := lw_g (lw_at lw_m2 57 rfl) rfl
theorem q399 : (Jvm.Cond.selects "java/lang/String" ({ cls := "java/lang/String", name := "isLatin1", desc := "()Z" } : Jvm.MethodName) ({ cls := "java/lang/String", name := "isLatin1", desc := "()Z" } : Jvm.MethodName)) ∈ lw_all := lw_g (lw_at lw_m2 58 rfl) rfl
theorem q400 : (Jvm.Cond.code ({ cls := "java/lang/String", name := "isLatin1", desc := "()Z" } : Jvm.MethodName) prog_37_method_154_code (1 : Nat) (Option.some Jvm.ClassFile.FieldType.boolean)) ∈ lw_all := lw_g (lw_at lw_m2 59 rfl) rfl
theorem q401 : (Jvm.Cond.methodLink "java/lang/String" (505 : Nat) ({ cls := "java/lang/String", name := "length", desc := "()I" } : Jvm.MethodName)) ∈ lw_all := lw_g (lw_at lw_m2 60 rfl) rfl
theorem q402 : (Jvm.Cond.methodLink "java/lang/String" (637 : Nat) ({ cls := "java/lang/StringLatin1", name := "indexOf", desc := "([BIII)I" } : Jvm.MethodName)) ∈ lw_all := lw_g (lw_at lw_m2 61 rfl) rfl
theorem q417 : (Jvm.Cond.methodLink "java/lang/String" (640 : Nat) ({ cls := "java/lang/StringUTF16", name := "indexOf", desc := "([BIII)I" } : Jvm.MethodName)) ∈ lw_all := lw_g (lw_at lw_m2 76 rfl) rfl
theorem q433 : (Jvm.Cond.static ({ cls := "java/lang/String", name := "checkBoundsBeginEnd", desc := "(III)V" } : Jvm.MethodName)) ∈ lw_all := lw_g (lw_at lw_m2 92 rfl) rfl
theorem q434 : (Jvm.Cond.code ({ cls := "java/lang/String", name := "checkBoundsBeginEnd", desc := "(III)V" } : Jvm.MethodName) prog_37_method_158_code (3 : Nat) (Option.none : Option Jvm.ClassFile.FieldType)) ∈ lw_all := lw_g (lw_at lw_m2 93 rfl) rfl
theorem q435 : (Jvm.Cond.fieldLink "java/lang/String" (1053 : Nat) "jdk/internal/util/Preconditions" "SIOOBE_FORMATTER" "Ljava/util/function/BiFunction;") ∈ lw_all := lw_g (lw_at lw_m2 94 rfl) rfl
theorem q437 : (Jvm.Cond.methodLink "java/lang/String" (1062 : Nat) ({ cls := "jdk/internal/util/Preconditions", name := "checkFromToIndex", desc := "(IIILjava/util/function/BiFunction;)I" } : Jvm.MethodName)) ∈ lw_all := lw_g (lw_at lw_m2 96 rfl) rfl
theorem q467 : (Jvm.Cond.instanceMethod ({ cls := "java/lang/String", name := "charAt", desc := "(I)C" } : Jvm.MethodName)) ∈ lw_all := lw_g (lw_at lw_m2 126 rfl) rfl
theorem q468 : (Jvm.Cond.selects "java/lang/String" ({ cls := "java/lang/String", name := "charAt", desc := "(I)C" } : Jvm.MethodName) ({ cls := "java/lang/String", name := "charAt", desc := "(I)C" } : Jvm.MethodName)) ∈ lw_all := lw_g (lw_at lw_m2 127 rfl) rfl
theorem q469 : (Jvm.Cond.code ({ cls := "java/lang/String", name := "charAt", desc := "(I)C" } : Jvm.MethodName) prog_37_method_56_code (2 : Nat) (Option.some Jvm.ClassFile.FieldType.char)) ∈ lw_all := lw_g (lw_at lw_m2 128 rfl) rfl
theorem q470 : (Jvm.Cond.methodLink "java/lang/String" (495 : Nat) ({ cls := "java/lang/StringLatin1", name := "charAt", desc := "([BI)C" } : Jvm.MethodName)) ∈ lw_all := lw_g (lw_at lw_m2 129 rfl) rfl
theorem q474 : (Jvm.Cond.static ({ cls := "java/lang/String", name := "checkIndex", desc := "(II)V" } : Jvm.MethodName)) ∈ lw_all := lw_g (lw_at lw_m2 133 rfl) rfl
theorem q475 : (Jvm.Cond.code ({ cls := "java/lang/String", name := "checkIndex", desc := "(II)V" } : Jvm.MethodName) prog_37_method_155_code (2 : Nat) (Option.none : Option Jvm.ClassFile.FieldType)) ∈ lw_all := lw_g (lw_at lw_m2 134 rfl) rfl
theorem q476 : (Jvm.Cond.methodLink "java/lang/String" (1059 : Nat) ({ cls := "jdk/internal/util/Preconditions", name := "checkIndex", desc := "(IILjava/util/function/BiFunction;)I" } : Jvm.MethodName)) ∈ lw_all := lw_g (lw_at lw_m2 135 rfl) rfl
theorem q479 : (Jvm.Cond.methodLink "java/lang/String" (498 : Nat) ({ cls := "java/lang/StringUTF16", name := "charAt", desc := "([BI)C" } : Jvm.MethodName)) ∈ lw_all := lw_g (lw_at lw_m2 138 rfl) rfl
theorem q2007 : (Jvm.Cond.castable "java/lang/String" "java/lang/Object") ∈ lw_tbl := lw_at lw_m8 226 rfl
theorem q2041 : (Jvm.Cond.fieldLink "java/lang/String" (9 : Nat) "java/lang/String" "value" "[B") ∈ lw_all := lw_g (lw_at lw_m9 20 rfl) rfl
theorem q2042 : (Jvm.Cond.fieldLink "java/lang/String" (15 : Nat) "java/lang/String" "coder" "B") ∈ lw_all := lw_g (lw_at lw_m9 21 rfl) rfl

/-! java/lang/StringLatin1 -/
set_option maxRecDepth 100000
def RJ7 : String := "java/lang/StringLatin1"
abbrev cJ7_indexOf : ByteArray := prog_38_method_22_code
def yJ7_indexOf : MethodName := ⟨RJ7, "indexOf", "([BIII)I"⟩
def dkwJ7_indexOf_1 : List UInt8 := [161, 0, 5, 2, 172, 42, 27, 28, 29, 184, 0, 95, 172]
abbrev dktJ7_indexOf_1 : List UInt8 := dkwJ7_indexOf_1 ++ []
def dkwJ7_indexOf_0 : List UInt8 := [27, 184, 0, 88, 154, 0, 5, 2, 172, 28, 3, 184, 0, 92, 61, 29, 42, 190, 184, 0, 38, 62, 28, 29]
abbrev dktJ7_indexOf_0 : List UInt8 := dkwJ7_indexOf_0 ++ dktJ7_indexOf_1
theorem dksJ7_indexOf_0 : cJ7_indexOf.data.toList.drop 0 = dktJ7_indexOf_0 := by decide +kernel
theorem dksJ7_indexOf_1 : cJ7_indexOf.data.toList.drop 24 = dktJ7_indexOf_1 := dk_seg dksJ7_indexOf_0 24 rfl rfl
theorem dJ7_indexOf_0 : decode cJ7_indexOf 0 = .ok (.iload_n 1, 1) := dk_27 (dk_at dksJ7_indexOf_0 0 rfl rfl)
theorem dJ7_indexOf_1 : decode cJ7_indexOf 1 = .ok (.invokestatic 88, 3) := dk_184 0 88 (dk_at dksJ7_indexOf_0 1 rfl rfl)
theorem dJ7_indexOf_4 : decode cJ7_indexOf 4 = .ok (.ifCond .ne 5, 3) := dk_154 0 5 (dk_at dksJ7_indexOf_0 4 rfl rfl)
theorem dJ7_indexOf_7 : decode cJ7_indexOf 7 = .ok (.iconst (-1), 1) := dk_2 (dk_at dksJ7_indexOf_0 7 rfl rfl)
theorem dJ7_indexOf_8 : decode cJ7_indexOf 8 = .ok (.ireturn, 1) := dk_172 (dk_at dksJ7_indexOf_0 8 rfl rfl)
theorem dJ7_indexOf_9 : decode cJ7_indexOf 9 = .ok (.iload_n 2, 1) := dk_28 (dk_at dksJ7_indexOf_0 9 rfl rfl)
theorem dJ7_indexOf_10 : decode cJ7_indexOf 10 = .ok (.iconst 0, 1) := dk_3 (dk_at dksJ7_indexOf_0 10 rfl rfl)
theorem dJ7_indexOf_11 : decode cJ7_indexOf 11 = .ok (.invokestatic 92, 3) := dk_184 0 92 (dk_at dksJ7_indexOf_0 11 rfl rfl)
theorem dJ7_indexOf_14 : decode cJ7_indexOf 14 = .ok (.istore_n 2, 1) := dk_61 (dk_at dksJ7_indexOf_0 14 rfl rfl)
theorem dJ7_indexOf_15 : decode cJ7_indexOf 15 = .ok (.iload_n 3, 1) := dk_29 (dk_at dksJ7_indexOf_0 15 rfl rfl)
theorem dJ7_indexOf_16 : decode cJ7_indexOf 16 = .ok (.aload_n 0, 1) := dk_42 (dk_at dksJ7_indexOf_0 16 rfl rfl)
theorem dJ7_indexOf_17 : decode cJ7_indexOf 17 = .ok (.arraylength, 1) := dk_190 (dk_at dksJ7_indexOf_0 17 rfl rfl)
theorem dJ7_indexOf_18 : decode cJ7_indexOf 18 = .ok (.invokestatic 38, 3) := dk_184 0 38 (dk_at dksJ7_indexOf_0 18 rfl rfl)
theorem dJ7_indexOf_21 : decode cJ7_indexOf 21 = .ok (.istore_n 3, 1) := dk_62 (dk_at dksJ7_indexOf_0 21 rfl rfl)
theorem dJ7_indexOf_22 : decode cJ7_indexOf 22 = .ok (.iload_n 2, 1) := dk_28 (dk_at dksJ7_indexOf_0 22 rfl rfl)
theorem dJ7_indexOf_23 : decode cJ7_indexOf 23 = .ok (.iload_n 3, 1) := dk_29 (dk_at dksJ7_indexOf_0 23 rfl rfl)
theorem dJ7_indexOf_24 : decode cJ7_indexOf 24 = .ok (.if_icmp .lt 5, 3) := dk_161 0 5 (dk_at dksJ7_indexOf_1 0 rfl rfl)
theorem dJ7_indexOf_27 : decode cJ7_indexOf 27 = .ok (.iconst (-1), 1) := dk_2 (dk_at dksJ7_indexOf_1 3 rfl rfl)
theorem dJ7_indexOf_28 : decode cJ7_indexOf 28 = .ok (.ireturn, 1) := dk_172 (dk_at dksJ7_indexOf_1 4 rfl rfl)
theorem dJ7_indexOf_29 : decode cJ7_indexOf 29 = .ok (.aload_n 0, 1) := dk_42 (dk_at dksJ7_indexOf_1 5 rfl rfl)
theorem dJ7_indexOf_30 : decode cJ7_indexOf 30 = .ok (.iload_n 1, 1) := dk_27 (dk_at dksJ7_indexOf_1 6 rfl rfl)
theorem dJ7_indexOf_31 : decode cJ7_indexOf 31 = .ok (.iload_n 2, 1) := dk_28 (dk_at dksJ7_indexOf_1 7 rfl rfl)
theorem dJ7_indexOf_32 : decode cJ7_indexOf 32 = .ok (.iload_n 3, 1) := dk_29 (dk_at dksJ7_indexOf_1 8 rfl rfl)
theorem dJ7_indexOf_33 : decode cJ7_indexOf 33 = .ok (.invokestatic 95, 3) := dk_184 0 95 (dk_at dksJ7_indexOf_1 9 rfl rfl)
theorem dJ7_indexOf_36 : decode cJ7_indexOf 36 = .ok (.ireturn, 1) := dk_172 (dk_at dksJ7_indexOf_1 12 rfl rfl)
abbrev cJ7_canEncode : ByteArray := prog_38_method_4_code
def yJ7_canEncode : MethodName := ⟨RJ7, "canEncode", "(I)Z"⟩
def dkwJ7_canEncode_0 : List UInt8 := [26, 155, 0, 14, 26, 17, 0, 255, 163, 0, 7, 4, 167, 0, 4, 3, 172]
abbrev dktJ7_canEncode_0 : List UInt8 := dkwJ7_canEncode_0 ++ []
theorem dksJ7_canEncode_0 : cJ7_canEncode.data.toList.drop 0 = dktJ7_canEncode_0 := by decide +kernel
theorem dJ7_canEncode_0 : decode cJ7_canEncode 0 = .ok (.iload_n 0, 1) := dk_26 (dk_at dksJ7_canEncode_0 0 rfl rfl)
theorem dJ7_canEncode_1 : decode cJ7_canEncode 1 = .ok (.ifCond .lt 14, 3) := dk_155 0 14 (dk_at dksJ7_canEncode_0 1 rfl rfl)
theorem dJ7_canEncode_4 : decode cJ7_canEncode 4 = .ok (.iload_n 0, 1) := dk_26 (dk_at dksJ7_canEncode_0 4 rfl rfl)
theorem dJ7_canEncode_5 : decode cJ7_canEncode 5 = .ok (.sipush 255, 3) := dk_17 0 255 (dk_at dksJ7_canEncode_0 5 rfl rfl)
theorem dJ7_canEncode_8 : decode cJ7_canEncode 8 = .ok (.if_icmp .gt 7, 3) := dk_163 0 7 (dk_at dksJ7_canEncode_0 8 rfl rfl)
theorem dJ7_canEncode_11 : decode cJ7_canEncode 11 = .ok (.iconst 1, 1) := dk_4 (dk_at dksJ7_canEncode_0 11 rfl rfl)
theorem dJ7_canEncode_12 : decode cJ7_canEncode 12 = .ok (.goto 4, 3) := dk_167 0 4 (dk_at dksJ7_canEncode_0 12 rfl rfl)
theorem dJ7_canEncode_15 : decode cJ7_canEncode 15 = .ok (.iconst 0, 1) := dk_3 (dk_at dksJ7_canEncode_0 15 rfl rfl)
theorem dJ7_canEncode_16 : decode cJ7_canEncode 16 = .ok (.ireturn, 1) := dk_172 (dk_at dksJ7_canEncode_0 16 rfl rfl)
abbrev cJ7_indexOfChar : ByteArray := prog_38_method_23_code
def yJ7_indexOfChar : MethodName := ⟨RJ7, "indexOfChar", "([BIII)I"⟩
def dkwJ7_indexOfChar_1 : List UInt8 := [172, 132, 5, 1, 167, 255, 235, 2, 172]
abbrev dktJ7_indexOfChar_1 : List UInt8 := dkwJ7_indexOfChar_1 ++ []
def dkwJ7_indexOfChar_0 : List UInt8 := [27, 145, 54, 4, 28, 54, 5, 21, 5, 29, 162, 0, 21, 42, 21, 5, 51, 21, 4, 160, 0, 6, 21, 5]
abbrev dktJ7_indexOfChar_0 : List UInt8 := dkwJ7_indexOfChar_0 ++ dktJ7_indexOfChar_1
theorem dksJ7_indexOfChar_0 : cJ7_indexOfChar.data.toList.drop 0 = dktJ7_indexOfChar_0 := by decide +kernel
theorem dksJ7_indexOfChar_1 : cJ7_indexOfChar.data.toList.drop 24 = dktJ7_indexOfChar_1 := dk_seg dksJ7_indexOfChar_0 24 rfl rfl
theorem dJ7_indexOfChar_0 : decode cJ7_indexOfChar 0 = .ok (.iload_n 1, 1) := dk_27 (dk_at dksJ7_indexOfChar_0 0 rfl rfl)
theorem dJ7_indexOfChar_1 : decode cJ7_indexOfChar 1 = .ok (.i2b, 1) := dk_145 (dk_at dksJ7_indexOfChar_0 1 rfl rfl)
theorem dJ7_indexOfChar_2 : decode cJ7_indexOfChar 2 = .ok (.istore 4, 2) := dk_54 4 (dk_at dksJ7_indexOfChar_0 2 rfl rfl)
theorem dJ7_indexOfChar_4 : decode cJ7_indexOfChar 4 = .ok (.iload_n 2, 1) := dk_28 (dk_at dksJ7_indexOfChar_0 4 rfl rfl)
theorem dJ7_indexOfChar_5 : decode cJ7_indexOfChar 5 = .ok (.istore 5, 2) := dk_54 5 (dk_at dksJ7_indexOfChar_0 5 rfl rfl)
theorem dJ7_indexOfChar_7 : decode cJ7_indexOfChar 7 = .ok (.iload 5, 2) := dk_21 5 (dk_at dksJ7_indexOfChar_0 7 rfl rfl)
theorem dJ7_indexOfChar_9 : decode cJ7_indexOfChar 9 = .ok (.iload_n 3, 1) := dk_29 (dk_at dksJ7_indexOfChar_0 9 rfl rfl)
theorem dJ7_indexOfChar_10 : decode cJ7_indexOfChar 10 = .ok (.if_icmp .ge 21, 3) := dk_162 0 21 (dk_at dksJ7_indexOfChar_0 10 rfl rfl)
theorem dJ7_indexOfChar_13 : decode cJ7_indexOfChar 13 = .ok (.aload_n 0, 1) := dk_42 (dk_at dksJ7_indexOfChar_0 13 rfl rfl)
theorem dJ7_indexOfChar_14 : decode cJ7_indexOfChar 14 = .ok (.iload 5, 2) := dk_21 5 (dk_at dksJ7_indexOfChar_0 14 rfl rfl)
theorem dJ7_indexOfChar_16 : decode cJ7_indexOfChar 16 = .ok (.baload, 1) := dk_51 (dk_at dksJ7_indexOfChar_0 16 rfl rfl)
theorem dJ7_indexOfChar_17 : decode cJ7_indexOfChar 17 = .ok (.iload 4, 2) := dk_21 4 (dk_at dksJ7_indexOfChar_0 17 rfl rfl)
theorem dJ7_indexOfChar_19 : decode cJ7_indexOfChar 19 = .ok (.if_icmp .ne 6, 3) := dk_160 0 6 (dk_at dksJ7_indexOfChar_0 19 rfl rfl)
theorem dJ7_indexOfChar_22 : decode cJ7_indexOfChar 22 = .ok (.iload 5, 2) := dk_21 5 (dk_at dksJ7_indexOfChar_0 22 rfl rfl)
theorem dJ7_indexOfChar_24 : decode cJ7_indexOfChar 24 = .ok (.ireturn, 1) := dk_172 (dk_at dksJ7_indexOfChar_1 0 rfl rfl)
theorem dJ7_indexOfChar_25 : decode cJ7_indexOfChar 25 = .ok (.iinc 5 1, 3) := dk_132 5 1 (dk_at dksJ7_indexOfChar_1 1 rfl rfl)
theorem dJ7_indexOfChar_28 : decode cJ7_indexOfChar 28 = .ok (.goto (-21), 3) := dk_167 255 235 (dk_at dksJ7_indexOfChar_1 4 rfl rfl)
theorem dJ7_indexOfChar_31 : decode cJ7_indexOfChar 31 = .ok (.iconst (-1), 1) := dk_2 (dk_at dksJ7_indexOfChar_1 7 rfl rfl)
theorem dJ7_indexOfChar_32 : decode cJ7_indexOfChar 32 = .ok (.ireturn, 1) := dk_172 (dk_at dksJ7_indexOfChar_1 8 rfl rfl)
abbrev cJ7_charAt : ByteArray := prog_38_method_2_code
def yJ7_charAt : MethodName := ⟨RJ7, "charAt", "([BI)C"⟩
def dkwJ7_charAt_0 : List UInt8 := [27, 42, 190, 184, 0, 9, 42, 27, 51, 17, 0, 255, 126, 146, 172]
abbrev dktJ7_charAt_0 : List UInt8 := dkwJ7_charAt_0 ++ []
theorem dksJ7_charAt_0 : cJ7_charAt.data.toList.drop 0 = dktJ7_charAt_0 := by decide +kernel
theorem dJ7_charAt_0 : decode cJ7_charAt 0 = .ok (.iload_n 1, 1) := dk_27 (dk_at dksJ7_charAt_0 0 rfl rfl)
theorem dJ7_charAt_1 : decode cJ7_charAt 1 = .ok (.aload_n 0, 1) := dk_42 (dk_at dksJ7_charAt_0 1 rfl rfl)
theorem dJ7_charAt_2 : decode cJ7_charAt 2 = .ok (.arraylength, 1) := dk_190 (dk_at dksJ7_charAt_0 2 rfl rfl)
theorem dJ7_charAt_3 : decode cJ7_charAt 3 = .ok (.invokestatic 9, 3) := dk_184 0 9 (dk_at dksJ7_charAt_0 3 rfl rfl)
theorem dJ7_charAt_6 : decode cJ7_charAt 6 = .ok (.aload_n 0, 1) := dk_42 (dk_at dksJ7_charAt_0 6 rfl rfl)
theorem dJ7_charAt_7 : decode cJ7_charAt 7 = .ok (.iload_n 1, 1) := dk_27 (dk_at dksJ7_charAt_0 7 rfl rfl)
theorem dJ7_charAt_8 : decode cJ7_charAt 8 = .ok (.baload, 1) := dk_51 (dk_at dksJ7_charAt_0 8 rfl rfl)
theorem dJ7_charAt_9 : decode cJ7_charAt 9 = .ok (.sipush 255, 3) := dk_17 0 255 (dk_at dksJ7_charAt_0 9 rfl rfl)
theorem dJ7_charAt_12 : decode cJ7_charAt 12 = .ok (.iand, 1) := dk_126 (dk_at dksJ7_charAt_0 12 rfl rfl)
theorem dJ7_charAt_13 : decode cJ7_charAt 13 = .ok (.i2c, 1) := dk_146 (dk_at dksJ7_charAt_0 13 rfl rfl)
theorem dJ7_charAt_14 : decode cJ7_charAt 14 = .ok (.ireturn, 1) := dk_172 (dk_at dksJ7_charAt_0 14 rfl rfl)
theorem q113 : (Jvm.Cond.initialized "java/lang/StringLatin1") ∈ lw_all := lw_g (lw_at lw_m1 12 rfl) rfl
theorem q403 : (Jvm.Cond.static ({ cls := "java/lang/StringLatin1", name := "indexOf", desc := "([BIII)I" } : Jvm.MethodName)) ∈ lw_all := lw_g (lw_at lw_m2 62 rfl) rfl
theorem q404 : (Jvm.Cond.code ({ cls := "java/lang/StringLatin1", name := "indexOf", desc := "([BIII)I" } : Jvm.MethodName) prog_38_method_22_code (4 : Nat) (Option.some Jvm.ClassFile.FieldType.int)) ∈ lw_all := lw_g (lw_at lw_m2 63 rfl) rfl
theorem q405 : (Jvm.Cond.methodLink "java/lang/StringLatin1" (88 : Nat) ({ cls := "java/lang/StringLatin1", name := "canEncode", desc := "(I)Z" } : Jvm.MethodName)) ∈ lw_all := lw_g (lw_at lw_m2 64 rfl) rfl
theorem q406 : (Jvm.Cond.static ({ cls := "java/lang/StringLatin1", name := "canEncode", desc := "(I)Z" } : Jvm.MethodName)) ∈ lw_all := lw_g (lw_at lw_m2 65 rfl) rfl
theorem q407 : (Jvm.Cond.code ({ cls := "java/lang/StringLatin1", name := "canEncode", desc := "(I)Z" } : Jvm.MethodName) prog_38_method_4_code (1 : Nat) (Option.some Jvm.ClassFile.FieldType.boolean)) ∈ lw_all := lw_g (lw_at lw_m2 66 rfl) rfl
theorem q408 : (Jvm.Cond.methodLink "java/lang/StringLatin1" (92 : Nat) ({ cls := "java/lang/Math", name := "max", desc := "(II)I" } : Jvm.MethodName)) ∈ lw_all := lw_g (lw_at lw_m2 67 rfl) rfl
theorem q411 : (Jvm.Cond.methodLink "java/lang/StringLatin1" (38 : Nat) ({ cls := "java/lang/Math", name := "min", desc := "(II)I" } : Jvm.MethodName)) ∈ lw_all := lw_g (lw_at lw_m2 70 rfl) rfl
theorem q414 : (Jvm.Cond.methodLink "java/lang/StringLatin1" (95 : Nat) ({ cls := "java/lang/StringLatin1", name := "indexOfChar", desc := "([BIII)I" } : Jvm.MethodName)) ∈ lw_all := lw_g (lw_at lw_m2 73 rfl) rfl
theorem q415 : (Jvm.Cond.static ({ cls := "java/lang/StringLatin1", name := "indexOfChar", desc := "([BIII)I" } : Jvm.MethodName)) ∈ lw_all := lw_g (lw_at lw_m2 74 rfl) rfl
theorem q416 : (Jvm.Cond.code ({ cls := "java/lang/StringLatin1", name := "indexOfChar", desc := "([BIII)I" } : Jvm.MethodName) prog_38_method_23_code (6 : Nat) (Option.some Jvm.ClassFile.FieldType.int)) ∈ lw_all := lw_g (lw_at lw_m2 75 rfl) rfl
theorem q471 : (Jvm.Cond.static ({ cls := "java/lang/StringLatin1", name := "charAt", desc := "([BI)C" } : Jvm.MethodName)) ∈ lw_all := lw_g (lw_at lw_m2 130 rfl) rfl
theorem q472 : (Jvm.Cond.code ({ cls := "java/lang/StringLatin1", name := "charAt", desc := "([BI)C" } : Jvm.MethodName) prog_38_method_2_code (2 : Nat) (Option.some Jvm.ClassFile.FieldType.char)) ∈ lw_all := lw_g (lw_at lw_m2 131 rfl) rfl
theorem q473 : (Jvm.Cond.methodLink "java/lang/StringLatin1" (9 : Nat) ({ cls := "java/lang/String", name := "checkIndex", desc := "(II)V" } : Jvm.MethodName)) ∈ lw_all := lw_g (lw_at lw_m2 132 rfl) rfl

/-! java/lang/Math -/
set_option maxRecDepth 100000
def RJ8 : String := "java/lang/Math"
abbrev cJ8_max : ByteArray := prog_35_method_65_code
def yJ8_max : MethodName := ⟨RJ8, "max", "(II)I"⟩
def dkwJ8_max_0 : List UInt8 := [26, 27, 161, 0, 7, 26, 167, 0, 4, 27, 172]
abbrev dktJ8_max_0 : List UInt8 := dkwJ8_max_0 ++ []
theorem dksJ8_max_0 : cJ8_max.data.toList.drop 0 = dktJ8_max_0 := by decide +kernel
theorem dJ8_max_0 : decode cJ8_max 0 = .ok (.iload_n 0, 1) := dk_26 (dk_at dksJ8_max_0 0 rfl rfl)
theorem dJ8_max_1 : decode cJ8_max 1 = .ok (.iload_n 1, 1) := dk_27 (dk_at dksJ8_max_0 1 rfl rfl)
theorem dJ8_max_2 : decode cJ8_max 2 = .ok (.if_icmp .lt 7, 3) := dk_161 0 7 (dk_at dksJ8_max_0 2 rfl rfl)
theorem dJ8_max_5 : decode cJ8_max 5 = .ok (.iload_n 0, 1) := dk_26 (dk_at dksJ8_max_0 5 rfl rfl)
theorem dJ8_max_6 : decode cJ8_max 6 = .ok (.goto 4, 3) := dk_167 0 4 (dk_at dksJ8_max_0 6 rfl rfl)
theorem dJ8_max_9 : decode cJ8_max 9 = .ok (.iload_n 1, 1) := dk_27 (dk_at dksJ8_max_0 9 rfl rfl)
theorem dJ8_max_10 : decode cJ8_max 10 = .ok (.ireturn, 1) := dk_172 (dk_at dksJ8_max_0 10 rfl rfl)
abbrev cJ8_min : ByteArray := prog_35_method_69_code
def yJ8_min : MethodName := ⟨RJ8, "min", "(II)I"⟩
def dkwJ8_min_0 : List UInt8 := [26, 27, 163, 0, 7, 26, 167, 0, 4, 27, 172]
abbrev dktJ8_min_0 : List UInt8 := dkwJ8_min_0 ++ []
theorem dksJ8_min_0 : cJ8_min.data.toList.drop 0 = dktJ8_min_0 := by decide +kernel
theorem dJ8_min_0 : decode cJ8_min 0 = .ok (.iload_n 0, 1) := dk_26 (dk_at dksJ8_min_0 0 rfl rfl)
theorem dJ8_min_1 : decode cJ8_min 1 = .ok (.iload_n 1, 1) := dk_27 (dk_at dksJ8_min_0 1 rfl rfl)
theorem dJ8_min_2 : decode cJ8_min 2 = .ok (.if_icmp .gt 7, 3) := dk_163 0 7 (dk_at dksJ8_min_0 2 rfl rfl)
theorem dJ8_min_5 : decode cJ8_min 5 = .ok (.iload_n 0, 1) := dk_26 (dk_at dksJ8_min_0 5 rfl rfl)
theorem dJ8_min_6 : decode cJ8_min 6 = .ok (.goto 4, 3) := dk_167 0 4 (dk_at dksJ8_min_0 6 rfl rfl)
theorem dJ8_min_9 : decode cJ8_min 9 = .ok (.iload_n 1, 1) := dk_27 (dk_at dksJ8_min_0 9 rfl rfl)
theorem dJ8_min_10 : decode cJ8_min 10 = .ok (.ireturn, 1) := dk_172 (dk_at dksJ8_min_0 10 rfl rfl)
abbrev cJ8_abs : ByteArray := prog_35_method_59_code
def yJ8_abs : MethodName := ⟨RJ8, "abs", "(I)I"⟩
def dkwJ8_abs_0 : List UInt8 := [26, 156, 0, 8, 26, 116, 167, 0, 4, 26, 172]
abbrev dktJ8_abs_0 : List UInt8 := dkwJ8_abs_0 ++ []
theorem dksJ8_abs_0 : cJ8_abs.data.toList.drop 0 = dktJ8_abs_0 := by decide +kernel
theorem dJ8_abs_0 : decode cJ8_abs 0 = .ok (.iload_n 0, 1) := dk_26 (dk_at dksJ8_abs_0 0 rfl rfl)
theorem dJ8_abs_1 : decode cJ8_abs 1 = .ok (.ifCond .ge 8, 3) := dk_156 0 8 (dk_at dksJ8_abs_0 1 rfl rfl)
theorem dJ8_abs_4 : decode cJ8_abs 4 = .ok (.iload_n 0, 1) := dk_26 (dk_at dksJ8_abs_0 4 rfl rfl)
theorem dJ8_abs_5 : decode cJ8_abs 5 = .ok (.ineg, 1) := dk_116 (dk_at dksJ8_abs_0 5 rfl rfl)
theorem dJ8_abs_6 : decode cJ8_abs 6 = .ok (.goto 4, 3) := dk_167 0 4 (dk_at dksJ8_abs_0 6 rfl rfl)
theorem dJ8_abs_9 : decode cJ8_abs 9 = .ok (.iload_n 0, 1) := dk_26 (dk_at dksJ8_abs_0 9 rfl rfl)
theorem dJ8_abs_10 : decode cJ8_abs 10 = .ok (.ireturn, 1) := dk_172 (dk_at dksJ8_abs_0 10 rfl rfl)
theorem q114 : (Jvm.Cond.initialized "java/lang/Math") ∈ lw_all := lw_g (lw_at lw_m1 13 rfl) rfl
theorem q409 : (Jvm.Cond.static ({ cls := "java/lang/Math", name := "max", desc := "(II)I" } : Jvm.MethodName)) ∈ lw_all := lw_g (lw_at lw_m2 68 rfl) rfl
theorem q410 : (Jvm.Cond.code ({ cls := "java/lang/Math", name := "max", desc := "(II)I" } : Jvm.MethodName) prog_35_method_65_code (2 : Nat) (Option.some Jvm.ClassFile.FieldType.int)) ∈ lw_all := lw_g (lw_at lw_m2 69 rfl) rfl
theorem q412 : (Jvm.Cond.static ({ cls := "java/lang/Math", name := "min", desc := "(II)I" } : Jvm.MethodName)) ∈ lw_all := lw_g (lw_at lw_m2 71 rfl) rfl
theorem q413 : (Jvm.Cond.code ({ cls := "java/lang/Math", name := "min", desc := "(II)I" } : Jvm.MethodName) prog_35_method_69_code (2 : Nat) (Option.some Jvm.ClassFile.FieldType.int)) ∈ lw_all := lw_g (lw_at lw_m2 72 rfl) rfl
theorem q1041 : (Jvm.Cond.static ({ cls := "java/lang/Math", name := "abs", desc := "(I)I" } : Jvm.MethodName)) ∈ lw_all := lw_g (lw_at lw_m4 220 rfl) rfl
theorem q1042 : (Jvm.Cond.code ({ cls := "java/lang/Math", name := "abs", desc := "(I)I" } : Jvm.MethodName) prog_35_method_59_code (1 : Nat) (Option.some Jvm.ClassFile.FieldType.int)) ∈ lw_all := lw_g (lw_at lw_m4 221 rfl) rfl

