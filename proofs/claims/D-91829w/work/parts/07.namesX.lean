/-! FirstIn$Reader -/
set_option maxRecDepth 100000
def RX1 : String := "FirstIn$Reader"
def TX1 : u_T := fun k => match k with
  | 0 => ("FirstIn$Reader", "text", "[B", false)
  | 1 => ("FirstIn$Reader", "size", "I", false)
  | 2 => ("FirstIn$Reader", "at", "I", false)
  | 3 => ("FirstIn$Reader", "begin", "I", false)
  | 4 => ("FirstIn$Reader", "guests", "Ljava/util/ArrayList;", true)
  | 5 => ("FirstIn$Reader", "marks", "Ljava/util/ArrayList;", true)
  | _ => ("FirstIn$Reader", "rules", "Ljava/util/ArrayList;", true)
def tyX1 : Nat → FieldType := fun k => match k with
  | 0 => .array .byte
  | 1 => .int
  | 2 => .int
  | 3 => .int
  | 4 => .object "java/util/ArrayList"
  | 5 => .object "java/util/ArrayList"
  | _ => .object "java/util/ArrayList"
abbrev wsX10 : List Cond := u_ws RX1 TX1 7
theorem nmX1 : ∀ a, a < 7 → ∀ b, b < 7 → a ≠ b → (TX1 a).2.1 ≠ (TX1 b).2.1 := by decide +kernel
theorem tyX1_ok : ∀ k, k < 7 → parseFieldDescriptor (TX1 k).2.2.1 = some (tyX1 k) := by decide +kernel
abbrev cX1_init : ByteArray := prog_15_method_1_code
def yX1_init : MethodName := ⟨RX1, "<init>", "()V"⟩
def dkwX1_init_1 : List UInt8 := [181, 0, 18, 42, 187, 0, 9, 89, 183, 0, 11, 181, 0, 21, 177]
abbrev dktX1_init_1 : List UInt8 := dkwX1_init_1 ++ []
def dkwX1_init_0 : List UInt8 := [42, 183, 0, 3, 42, 187, 0, 9, 89, 183, 0, 11, 181, 0, 12, 42, 187, 0, 9, 89, 183, 0, 11]
abbrev dktX1_init_0 : List UInt8 := dkwX1_init_0 ++ dktX1_init_1
theorem dksX1_init_0 : cX1_init.data.toList.drop 0 = dktX1_init_0 := by decide +kernel
theorem dksX1_init_1 : cX1_init.data.toList.drop 23 = dktX1_init_1 := dk_seg dksX1_init_0 23 rfl rfl
theorem dX1_init_0 : decode cX1_init 0 = .ok (.aload_n 0, 1) := dk_42 (dk_at dksX1_init_0 0 rfl rfl)
theorem dX1_init_1 : decode cX1_init 1 = .ok (.invokespecial 3, 3) := dk_183 0 3 (dk_at dksX1_init_0 1 rfl rfl)
theorem dX1_init_4 : decode cX1_init 4 = .ok (.aload_n 0, 1) := dk_42 (dk_at dksX1_init_0 4 rfl rfl)
theorem dX1_init_5 : decode cX1_init 5 = .ok (.new 9, 3) := dk_187 0 9 (dk_at dksX1_init_0 5 rfl rfl)
theorem dX1_init_8 : decode cX1_init 8 = .ok (.dup, 1) := dk_89 (dk_at dksX1_init_0 8 rfl rfl)
theorem dX1_init_9 : decode cX1_init 9 = .ok (.invokespecial 11, 3) := dk_183 0 11 (dk_at dksX1_init_0 9 rfl rfl)
theorem dX1_init_12 : decode cX1_init 12 = .ok (.putfield 12, 3) := dk_181 0 12 (dk_at dksX1_init_0 12 rfl rfl)
theorem dX1_init_15 : decode cX1_init 15 = .ok (.aload_n 0, 1) := dk_42 (dk_at dksX1_init_0 15 rfl rfl)
theorem dX1_init_16 : decode cX1_init 16 = .ok (.new 9, 3) := dk_187 0 9 (dk_at dksX1_init_0 16 rfl rfl)
theorem dX1_init_19 : decode cX1_init 19 = .ok (.dup, 1) := dk_89 (dk_at dksX1_init_0 19 rfl rfl)
theorem dX1_init_20 : decode cX1_init 20 = .ok (.invokespecial 11, 3) := dk_183 0 11 (dk_at dksX1_init_0 20 rfl rfl)
theorem dX1_init_23 : decode cX1_init 23 = .ok (.putfield 18, 3) := dk_181 0 18 (dk_at dksX1_init_1 0 rfl rfl)
theorem dX1_init_26 : decode cX1_init 26 = .ok (.aload_n 0, 1) := dk_42 (dk_at dksX1_init_1 3 rfl rfl)
theorem dX1_init_27 : decode cX1_init 27 = .ok (.new 9, 3) := dk_187 0 9 (dk_at dksX1_init_1 4 rfl rfl)
theorem dX1_init_30 : decode cX1_init 30 = .ok (.dup, 1) := dk_89 (dk_at dksX1_init_1 7 rfl rfl)
theorem dX1_init_31 : decode cX1_init 31 = .ok (.invokespecial 11, 3) := dk_183 0 11 (dk_at dksX1_init_1 8 rfl rfl)
theorem dX1_init_34 : decode cX1_init 34 = .ok (.putfield 21, 3) := dk_181 0 21 (dk_at dksX1_init_1 11 rfl rfl)
theorem dX1_init_37 : decode cX1_init 37 = .ok (.return_, 1) := dk_177 (dk_at dksX1_init_1 14 rfl rfl)
abbrev cX1_read : ByteArray := prog_15_method_21_code
def yX1_read : MethodName := ⟨RX1, "read", "([BI)V"⟩
def dkwX1_read_3 : List UInt8 := [182, 0, 50, 191, 177]
abbrev dktX1_read_3 : List UInt8 := dkwX1_read_3 ++ []
def dkwX1_read_2 : List UInt8 := [182, 0, 54, 154, 0, 10, 42, 182, 0, 177, 167, 255, 245, 42, 180, 0, 12, 182, 0, 180, 153, 0, 8, 42]
abbrev dktX1_read_2 : List UInt8 := dkwX1_read_2 ++ dktX1_read_3
def dkwX1_read_1 : List UInt8 := [180, 0, 18, 182, 0, 174, 42, 180, 0, 21, 182, 0, 174, 42, 182, 0, 80, 42, 182, 0, 177, 42]
abbrev dktX1_read_1 : List UInt8 := dkwX1_read_1 ++ dktX1_read_2
def dkwX1_read_0 : List UInt8 := [42, 43, 181, 0, 39, 42, 28, 181, 0, 36, 42, 3, 181, 0, 33, 42, 180, 0, 12, 182, 0, 174, 42]
abbrev dktX1_read_0 : List UInt8 := dkwX1_read_0 ++ dktX1_read_1
theorem dksX1_read_0 : cX1_read.data.toList.drop 0 = dktX1_read_0 := by decide +kernel
theorem dksX1_read_1 : cX1_read.data.toList.drop 23 = dktX1_read_1 := dk_seg dksX1_read_0 23 rfl rfl
theorem dksX1_read_2 : cX1_read.data.toList.drop 45 = dktX1_read_2 := dk_seg dksX1_read_1 22 rfl rfl
theorem dksX1_read_3 : cX1_read.data.toList.drop 69 = dktX1_read_3 := dk_seg dksX1_read_2 24 rfl rfl
theorem dX1_read_0 : decode cX1_read 0 = .ok (.aload_n 0, 1) := dk_42 (dk_at dksX1_read_0 0 rfl rfl)
theorem dX1_read_1 : decode cX1_read 1 = .ok (.aload_n 1, 1) := dk_43 (dk_at dksX1_read_0 1 rfl rfl)
theorem dX1_read_2 : decode cX1_read 2 = .ok (.putfield 39, 3) := dk_181 0 39 (dk_at dksX1_read_0 2 rfl rfl)
theorem dX1_read_5 : decode cX1_read 5 = .ok (.aload_n 0, 1) := dk_42 (dk_at dksX1_read_0 5 rfl rfl)
theorem dX1_read_6 : decode cX1_read 6 = .ok (.iload_n 2, 1) := dk_28 (dk_at dksX1_read_0 6 rfl rfl)
theorem dX1_read_7 : decode cX1_read 7 = .ok (.putfield 36, 3) := dk_181 0 36 (dk_at dksX1_read_0 7 rfl rfl)
theorem dX1_read_10 : decode cX1_read 10 = .ok (.aload_n 0, 1) := dk_42 (dk_at dksX1_read_0 10 rfl rfl)
theorem dX1_read_11 : decode cX1_read 11 = .ok (.iconst 0, 1) := dk_3 (dk_at dksX1_read_0 11 rfl rfl)
theorem dX1_read_12 : decode cX1_read 12 = .ok (.putfield 33, 3) := dk_181 0 33 (dk_at dksX1_read_0 12 rfl rfl)
theorem dX1_read_15 : decode cX1_read 15 = .ok (.aload_n 0, 1) := dk_42 (dk_at dksX1_read_0 15 rfl rfl)
theorem dX1_read_16 : decode cX1_read 16 = .ok (.getfield 12, 3) := dk_180 0 12 (dk_at dksX1_read_0 16 rfl rfl)
theorem dX1_read_19 : decode cX1_read 19 = .ok (.invokevirtual 174, 3) := dk_182 0 174 (dk_at dksX1_read_0 19 rfl rfl)
theorem dX1_read_22 : decode cX1_read 22 = .ok (.aload_n 0, 1) := dk_42 (dk_at dksX1_read_0 22 rfl rfl)
theorem dX1_read_23 : decode cX1_read 23 = .ok (.getfield 18, 3) := dk_180 0 18 (dk_at dksX1_read_1 0 rfl rfl)
theorem dX1_read_26 : decode cX1_read 26 = .ok (.invokevirtual 174, 3) := dk_182 0 174 (dk_at dksX1_read_1 3 rfl rfl)
theorem dX1_read_29 : decode cX1_read 29 = .ok (.aload_n 0, 1) := dk_42 (dk_at dksX1_read_1 6 rfl rfl)
theorem dX1_read_30 : decode cX1_read 30 = .ok (.getfield 21, 3) := dk_180 0 21 (dk_at dksX1_read_1 7 rfl rfl)
theorem dX1_read_33 : decode cX1_read 33 = .ok (.invokevirtual 174, 3) := dk_182 0 174 (dk_at dksX1_read_1 10 rfl rfl)
theorem dX1_read_36 : decode cX1_read 36 = .ok (.aload_n 0, 1) := dk_42 (dk_at dksX1_read_1 13 rfl rfl)
theorem dX1_read_37 : decode cX1_read 37 = .ok (.invokevirtual 80, 3) := dk_182 0 80 (dk_at dksX1_read_1 14 rfl rfl)
theorem dX1_read_40 : decode cX1_read 40 = .ok (.aload_n 0, 1) := dk_42 (dk_at dksX1_read_1 17 rfl rfl)
theorem dX1_read_41 : decode cX1_read 41 = .ok (.invokevirtual 177, 3) := dk_182 0 177 (dk_at dksX1_read_1 18 rfl rfl)
theorem dX1_read_44 : decode cX1_read 44 = .ok (.aload_n 0, 1) := dk_42 (dk_at dksX1_read_1 21 rfl rfl)
theorem dX1_read_45 : decode cX1_read 45 = .ok (.invokevirtual 54, 3) := dk_182 0 54 (dk_at dksX1_read_2 0 rfl rfl)
theorem dX1_read_48 : decode cX1_read 48 = .ok (.ifCond .ne 10, 3) := dk_154 0 10 (dk_at dksX1_read_2 3 rfl rfl)
theorem dX1_read_51 : decode cX1_read 51 = .ok (.aload_n 0, 1) := dk_42 (dk_at dksX1_read_2 6 rfl rfl)
theorem dX1_read_52 : decode cX1_read 52 = .ok (.invokevirtual 177, 3) := dk_182 0 177 (dk_at dksX1_read_2 7 rfl rfl)
theorem dX1_read_55 : decode cX1_read 55 = .ok (.goto (-11), 3) := dk_167 255 245 (dk_at dksX1_read_2 10 rfl rfl)
theorem dX1_read_58 : decode cX1_read 58 = .ok (.aload_n 0, 1) := dk_42 (dk_at dksX1_read_2 13 rfl rfl)
theorem dX1_read_59 : decode cX1_read 59 = .ok (.getfield 12, 3) := dk_180 0 12 (dk_at dksX1_read_2 14 rfl rfl)
theorem dX1_read_62 : decode cX1_read 62 = .ok (.invokevirtual 180, 3) := dk_182 0 180 (dk_at dksX1_read_2 17 rfl rfl)
theorem dX1_read_65 : decode cX1_read 65 = .ok (.ifCond .eq 8, 3) := dk_153 0 8 (dk_at dksX1_read_2 20 rfl rfl)
theorem dX1_read_68 : decode cX1_read 68 = .ok (.aload_n 0, 1) := dk_42 (dk_at dksX1_read_2 23 rfl rfl)
theorem dX1_read_69 : decode cX1_read 69 = .ok (.invokevirtual 50, 3) := dk_182 0 50 (dk_at dksX1_read_3 0 rfl rfl)
theorem dX1_read_72 : decode cX1_read 72 = .ok (.athrow, 1) := dk_191 (dk_at dksX1_read_3 3 rfl rfl)
theorem dX1_read_73 : decode cX1_read 73 = .ok (.return_, 1) := dk_177 (dk_at dksX1_read_3 4 rfl rfl)
abbrev cX1_next : ByteArray := prog_15_method_5_code
def yX1_next : MethodName := ⟨RX1, "next", "()V"⟩
def dkwX1_next_8 : List UInt8 := [16, 59, 159, 0, 8, 42, 182, 0, 50, 191, 177]
abbrev dktX1_next_8 : List UInt8 := dkwX1_next_8 ++ []
def dkwX1_next_7 : List UInt8 := [180, 0, 33, 51, 184, 0, 47, 153, 0, 27, 42, 89, 180, 0, 33, 4, 96, 181, 0, 33, 167, 255, 220, 27]
abbrev dktX1_next_7 : List UInt8 := dkwX1_next_7 ++ dktX1_next_8
def dkwX1_next_6 : List UInt8 := [184, 0, 47, 153, 0, 42, 42, 180, 0, 33, 42, 180, 0, 36, 162, 0, 42, 42, 180, 0, 39, 42]
abbrev dktX1_next_6 : List UInt8 := dkwX1_next_6 ++ dktX1_next_7
def dkwX1_next_5 : List UInt8 := [180, 0, 33, 51, 184, 0, 43, 153, 0, 73, 42, 89, 180, 0, 33, 4, 96, 181, 0, 33, 167, 255, 220, 27]
abbrev dktX1_next_5 : List UInt8 := dkwX1_next_5 ++ dktX1_next_6
def dkwX1_next_4 : List UInt8 := [27, 184, 0, 43, 153, 0, 42, 42, 180, 0, 33, 42, 180, 0, 36, 162, 0, 88, 42, 180, 0, 39, 42]
abbrev dktX1_next_4 : List UInt8 := dkwX1_next_4 ++ dktX1_next_5
def dkwX1_next_3 : List UInt8 := [160, 0, 4, 177, 42, 180, 0, 39, 42, 180, 0, 33, 51, 60, 42, 89, 180, 0, 33, 4, 96, 181, 0, 33]
abbrev dktX1_next_3 : List UInt8 := dkwX1_next_3 ++ dktX1_next_4
def dkwX1_next_2 : List UInt8 := [181, 0, 33, 167, 255, 207, 42, 42, 180, 0, 33, 181, 0, 26, 42, 180, 0, 33, 42, 180, 0, 36]
abbrev dktX1_next_2 : List UInt8 := dkwX1_next_2 ++ dktX1_next_3
def dkwX1_next_1 : List UInt8 := [159, 0, 17, 42, 180, 0, 39, 42, 180, 0, 33, 51, 16, 10, 160, 0, 16, 42, 89, 180, 0, 33, 4, 96]
abbrev dktX1_next_1 : List UInt8 := dkwX1_next_1 ++ dktX1_next_2
def dkwX1_next_0 : List UInt8 := [42, 180, 0, 33, 42, 180, 0, 36, 162, 0, 44, 42, 180, 0, 39, 42, 180, 0, 33, 51, 16, 32]
abbrev dktX1_next_0 : List UInt8 := dkwX1_next_0 ++ dktX1_next_1
theorem dksX1_next_0 : cX1_next.data.toList.drop 0 = dktX1_next_0 := by decide +kernel
theorem dksX1_next_1 : cX1_next.data.toList.drop 22 = dktX1_next_1 := dk_seg dksX1_next_0 22 rfl rfl
theorem dksX1_next_2 : cX1_next.data.toList.drop 46 = dktX1_next_2 := dk_seg dksX1_next_1 24 rfl rfl
theorem dksX1_next_3 : cX1_next.data.toList.drop 68 = dktX1_next_3 := dk_seg dksX1_next_2 22 rfl rfl
theorem dksX1_next_4 : cX1_next.data.toList.drop 92 = dktX1_next_4 := dk_seg dksX1_next_3 24 rfl rfl
theorem dksX1_next_5 : cX1_next.data.toList.drop 115 = dktX1_next_5 := dk_seg dksX1_next_4 23 rfl rfl
theorem dksX1_next_6 : cX1_next.data.toList.drop 139 = dktX1_next_6 := dk_seg dksX1_next_5 24 rfl rfl
theorem dksX1_next_7 : cX1_next.data.toList.drop 161 = dktX1_next_7 := dk_seg dksX1_next_6 22 rfl rfl
theorem dksX1_next_8 : cX1_next.data.toList.drop 185 = dktX1_next_8 := dk_seg dksX1_next_7 24 rfl rfl
theorem dX1_next_0 : decode cX1_next 0 = .ok (.aload_n 0, 1) := dk_42 (dk_at dksX1_next_0 0 rfl rfl)
theorem dX1_next_1 : decode cX1_next 1 = .ok (.getfield 33, 3) := dk_180 0 33 (dk_at dksX1_next_0 1 rfl rfl)
theorem dX1_next_4 : decode cX1_next 4 = .ok (.aload_n 0, 1) := dk_42 (dk_at dksX1_next_0 4 rfl rfl)
theorem dX1_next_5 : decode cX1_next 5 = .ok (.getfield 36, 3) := dk_180 0 36 (dk_at dksX1_next_0 5 rfl rfl)
theorem dX1_next_8 : decode cX1_next 8 = .ok (.if_icmp .ge 44, 3) := dk_162 0 44 (dk_at dksX1_next_0 8 rfl rfl)
theorem dX1_next_11 : decode cX1_next 11 = .ok (.aload_n 0, 1) := dk_42 (dk_at dksX1_next_0 11 rfl rfl)
theorem dX1_next_12 : decode cX1_next 12 = .ok (.getfield 39, 3) := dk_180 0 39 (dk_at dksX1_next_0 12 rfl rfl)
theorem dX1_next_15 : decode cX1_next 15 = .ok (.aload_n 0, 1) := dk_42 (dk_at dksX1_next_0 15 rfl rfl)
theorem dX1_next_16 : decode cX1_next 16 = .ok (.getfield 33, 3) := dk_180 0 33 (dk_at dksX1_next_0 16 rfl rfl)
theorem dX1_next_19 : decode cX1_next 19 = .ok (.baload, 1) := dk_51 (dk_at dksX1_next_0 19 rfl rfl)
theorem dX1_next_20 : decode cX1_next 20 = .ok (.bipush 32, 2) := dk_16 32 (dk_at dksX1_next_0 20 rfl rfl)
theorem dX1_next_22 : decode cX1_next 22 = .ok (.if_icmp .eq 17, 3) := dk_159 0 17 (dk_at dksX1_next_1 0 rfl rfl)
theorem dX1_next_25 : decode cX1_next 25 = .ok (.aload_n 0, 1) := dk_42 (dk_at dksX1_next_1 3 rfl rfl)
theorem dX1_next_26 : decode cX1_next 26 = .ok (.getfield 39, 3) := dk_180 0 39 (dk_at dksX1_next_1 4 rfl rfl)
theorem dX1_next_29 : decode cX1_next 29 = .ok (.aload_n 0, 1) := dk_42 (dk_at dksX1_next_1 7 rfl rfl)
theorem dX1_next_30 : decode cX1_next 30 = .ok (.getfield 33, 3) := dk_180 0 33 (dk_at dksX1_next_1 8 rfl rfl)
theorem dX1_next_33 : decode cX1_next 33 = .ok (.baload, 1) := dk_51 (dk_at dksX1_next_1 11 rfl rfl)
theorem dX1_next_34 : decode cX1_next 34 = .ok (.bipush 10, 2) := dk_16 10 (dk_at dksX1_next_1 12 rfl rfl)
theorem dX1_next_36 : decode cX1_next 36 = .ok (.if_icmp .ne 16, 3) := dk_160 0 16 (dk_at dksX1_next_1 14 rfl rfl)
theorem dX1_next_39 : decode cX1_next 39 = .ok (.aload_n 0, 1) := dk_42 (dk_at dksX1_next_1 17 rfl rfl)
theorem dX1_next_40 : decode cX1_next 40 = .ok (.dup, 1) := dk_89 (dk_at dksX1_next_1 18 rfl rfl)
theorem dX1_next_41 : decode cX1_next 41 = .ok (.getfield 33, 3) := dk_180 0 33 (dk_at dksX1_next_1 19 rfl rfl)
theorem dX1_next_44 : decode cX1_next 44 = .ok (.iconst 1, 1) := dk_4 (dk_at dksX1_next_1 22 rfl rfl)
theorem dX1_next_45 : decode cX1_next 45 = .ok (.iadd, 1) := dk_96 (dk_at dksX1_next_1 23 rfl rfl)
theorem dX1_next_46 : decode cX1_next 46 = .ok (.putfield 33, 3) := dk_181 0 33 (dk_at dksX1_next_2 0 rfl rfl)
theorem dX1_next_49 : decode cX1_next 49 = .ok (.goto (-49), 3) := dk_167 255 207 (dk_at dksX1_next_2 3 rfl rfl)
theorem dX1_next_52 : decode cX1_next 52 = .ok (.aload_n 0, 1) := dk_42 (dk_at dksX1_next_2 6 rfl rfl)
theorem dX1_next_53 : decode cX1_next 53 = .ok (.aload_n 0, 1) := dk_42 (dk_at dksX1_next_2 7 rfl rfl)
theorem dX1_next_54 : decode cX1_next 54 = .ok (.getfield 33, 3) := dk_180 0 33 (dk_at dksX1_next_2 8 rfl rfl)
theorem dX1_next_57 : decode cX1_next 57 = .ok (.putfield 26, 3) := dk_181 0 26 (dk_at dksX1_next_2 11 rfl rfl)
theorem dX1_next_60 : decode cX1_next 60 = .ok (.aload_n 0, 1) := dk_42 (dk_at dksX1_next_2 14 rfl rfl)
theorem dX1_next_61 : decode cX1_next 61 = .ok (.getfield 33, 3) := dk_180 0 33 (dk_at dksX1_next_2 15 rfl rfl)
theorem dX1_next_64 : decode cX1_next 64 = .ok (.aload_n 0, 1) := dk_42 (dk_at dksX1_next_2 18 rfl rfl)
theorem dX1_next_65 : decode cX1_next 65 = .ok (.getfield 36, 3) := dk_180 0 36 (dk_at dksX1_next_2 19 rfl rfl)
theorem dX1_next_68 : decode cX1_next 68 = .ok (.if_icmp .ne 4, 3) := dk_160 0 4 (dk_at dksX1_next_3 0 rfl rfl)
theorem dX1_next_71 : decode cX1_next 71 = .ok (.return_, 1) := dk_177 (dk_at dksX1_next_3 3 rfl rfl)
theorem dX1_next_72 : decode cX1_next 72 = .ok (.aload_n 0, 1) := dk_42 (dk_at dksX1_next_3 4 rfl rfl)
theorem dX1_next_73 : decode cX1_next 73 = .ok (.getfield 39, 3) := dk_180 0 39 (dk_at dksX1_next_3 5 rfl rfl)
theorem dX1_next_76 : decode cX1_next 76 = .ok (.aload_n 0, 1) := dk_42 (dk_at dksX1_next_3 8 rfl rfl)
theorem dX1_next_77 : decode cX1_next 77 = .ok (.getfield 33, 3) := dk_180 0 33 (dk_at dksX1_next_3 9 rfl rfl)
theorem dX1_next_80 : decode cX1_next 80 = .ok (.baload, 1) := dk_51 (dk_at dksX1_next_3 12 rfl rfl)
theorem dX1_next_81 : decode cX1_next 81 = .ok (.istore_n 1, 1) := dk_60 (dk_at dksX1_next_3 13 rfl rfl)
theorem dX1_next_82 : decode cX1_next 82 = .ok (.aload_n 0, 1) := dk_42 (dk_at dksX1_next_3 14 rfl rfl)
theorem dX1_next_83 : decode cX1_next 83 = .ok (.dup, 1) := dk_89 (dk_at dksX1_next_3 15 rfl rfl)
theorem dX1_next_84 : decode cX1_next 84 = .ok (.getfield 33, 3) := dk_180 0 33 (dk_at dksX1_next_3 16 rfl rfl)
theorem dX1_next_87 : decode cX1_next 87 = .ok (.iconst 1, 1) := dk_4 (dk_at dksX1_next_3 19 rfl rfl)
theorem dX1_next_88 : decode cX1_next 88 = .ok (.iadd, 1) := dk_96 (dk_at dksX1_next_3 20 rfl rfl)
theorem dX1_next_89 : decode cX1_next 89 = .ok (.putfield 33, 3) := dk_181 0 33 (dk_at dksX1_next_3 21 rfl rfl)
theorem dX1_next_92 : decode cX1_next 92 = .ok (.iload_n 1, 1) := dk_27 (dk_at dksX1_next_4 0 rfl rfl)
theorem dX1_next_93 : decode cX1_next 93 = .ok (.invokestatic 43, 3) := dk_184 0 43 (dk_at dksX1_next_4 1 rfl rfl)
theorem dX1_next_96 : decode cX1_next 96 = .ok (.ifCond .eq 42, 3) := dk_153 0 42 (dk_at dksX1_next_4 4 rfl rfl)
theorem dX1_next_99 : decode cX1_next 99 = .ok (.aload_n 0, 1) := dk_42 (dk_at dksX1_next_4 7 rfl rfl)
theorem dX1_next_100 : decode cX1_next 100 = .ok (.getfield 33, 3) := dk_180 0 33 (dk_at dksX1_next_4 8 rfl rfl)
theorem dX1_next_103 : decode cX1_next 103 = .ok (.aload_n 0, 1) := dk_42 (dk_at dksX1_next_4 11 rfl rfl)
theorem dX1_next_104 : decode cX1_next 104 = .ok (.getfield 36, 3) := dk_180 0 36 (dk_at dksX1_next_4 12 rfl rfl)
theorem dX1_next_107 : decode cX1_next 107 = .ok (.if_icmp .ge 88, 3) := dk_162 0 88 (dk_at dksX1_next_4 15 rfl rfl)
theorem dX1_next_110 : decode cX1_next 110 = .ok (.aload_n 0, 1) := dk_42 (dk_at dksX1_next_4 18 rfl rfl)
theorem dX1_next_111 : decode cX1_next 111 = .ok (.getfield 39, 3) := dk_180 0 39 (dk_at dksX1_next_4 19 rfl rfl)
theorem dX1_next_114 : decode cX1_next 114 = .ok (.aload_n 0, 1) := dk_42 (dk_at dksX1_next_4 22 rfl rfl)
theorem dX1_next_115 : decode cX1_next 115 = .ok (.getfield 33, 3) := dk_180 0 33 (dk_at dksX1_next_5 0 rfl rfl)
theorem dX1_next_118 : decode cX1_next 118 = .ok (.baload, 1) := dk_51 (dk_at dksX1_next_5 3 rfl rfl)
theorem dX1_next_119 : decode cX1_next 119 = .ok (.invokestatic 43, 3) := dk_184 0 43 (dk_at dksX1_next_5 4 rfl rfl)
theorem dX1_next_122 : decode cX1_next 122 = .ok (.ifCond .eq 73, 3) := dk_153 0 73 (dk_at dksX1_next_5 7 rfl rfl)
theorem dX1_next_125 : decode cX1_next 125 = .ok (.aload_n 0, 1) := dk_42 (dk_at dksX1_next_5 10 rfl rfl)
theorem dX1_next_126 : decode cX1_next 126 = .ok (.dup, 1) := dk_89 (dk_at dksX1_next_5 11 rfl rfl)
theorem dX1_next_127 : decode cX1_next 127 = .ok (.getfield 33, 3) := dk_180 0 33 (dk_at dksX1_next_5 12 rfl rfl)
theorem dX1_next_130 : decode cX1_next 130 = .ok (.iconst 1, 1) := dk_4 (dk_at dksX1_next_5 15 rfl rfl)
theorem dX1_next_131 : decode cX1_next 131 = .ok (.iadd, 1) := dk_96 (dk_at dksX1_next_5 16 rfl rfl)
theorem dX1_next_132 : decode cX1_next 132 = .ok (.putfield 33, 3) := dk_181 0 33 (dk_at dksX1_next_5 17 rfl rfl)
theorem dX1_next_135 : decode cX1_next 135 = .ok (.goto (-36), 3) := dk_167 255 220 (dk_at dksX1_next_5 20 rfl rfl)
theorem dX1_next_138 : decode cX1_next 138 = .ok (.iload_n 1, 1) := dk_27 (dk_at dksX1_next_5 23 rfl rfl)
theorem dX1_next_139 : decode cX1_next 139 = .ok (.invokestatic 47, 3) := dk_184 0 47 (dk_at dksX1_next_6 0 rfl rfl)
theorem dX1_next_142 : decode cX1_next 142 = .ok (.ifCond .eq 42, 3) := dk_153 0 42 (dk_at dksX1_next_6 3 rfl rfl)
theorem dX1_next_145 : decode cX1_next 145 = .ok (.aload_n 0, 1) := dk_42 (dk_at dksX1_next_6 6 rfl rfl)
theorem dX1_next_146 : decode cX1_next 146 = .ok (.getfield 33, 3) := dk_180 0 33 (dk_at dksX1_next_6 7 rfl rfl)
theorem dX1_next_149 : decode cX1_next 149 = .ok (.aload_n 0, 1) := dk_42 (dk_at dksX1_next_6 10 rfl rfl)
theorem dX1_next_150 : decode cX1_next 150 = .ok (.getfield 36, 3) := dk_180 0 36 (dk_at dksX1_next_6 11 rfl rfl)
theorem dX1_next_153 : decode cX1_next 153 = .ok (.if_icmp .ge 42, 3) := dk_162 0 42 (dk_at dksX1_next_6 14 rfl rfl)
theorem dX1_next_156 : decode cX1_next 156 = .ok (.aload_n 0, 1) := dk_42 (dk_at dksX1_next_6 17 rfl rfl)
theorem dX1_next_157 : decode cX1_next 157 = .ok (.getfield 39, 3) := dk_180 0 39 (dk_at dksX1_next_6 18 rfl rfl)
theorem dX1_next_160 : decode cX1_next 160 = .ok (.aload_n 0, 1) := dk_42 (dk_at dksX1_next_6 21 rfl rfl)
theorem dX1_next_161 : decode cX1_next 161 = .ok (.getfield 33, 3) := dk_180 0 33 (dk_at dksX1_next_7 0 rfl rfl)
theorem dX1_next_164 : decode cX1_next 164 = .ok (.baload, 1) := dk_51 (dk_at dksX1_next_7 3 rfl rfl)
theorem dX1_next_165 : decode cX1_next 165 = .ok (.invokestatic 47, 3) := dk_184 0 47 (dk_at dksX1_next_7 4 rfl rfl)
theorem dX1_next_168 : decode cX1_next 168 = .ok (.ifCond .eq 27, 3) := dk_153 0 27 (dk_at dksX1_next_7 7 rfl rfl)
theorem dX1_next_171 : decode cX1_next 171 = .ok (.aload_n 0, 1) := dk_42 (dk_at dksX1_next_7 10 rfl rfl)
theorem dX1_next_172 : decode cX1_next 172 = .ok (.dup, 1) := dk_89 (dk_at dksX1_next_7 11 rfl rfl)
theorem dX1_next_173 : decode cX1_next 173 = .ok (.getfield 33, 3) := dk_180 0 33 (dk_at dksX1_next_7 12 rfl rfl)
theorem dX1_next_176 : decode cX1_next 176 = .ok (.iconst 1, 1) := dk_4 (dk_at dksX1_next_7 15 rfl rfl)
theorem dX1_next_177 : decode cX1_next 177 = .ok (.iadd, 1) := dk_96 (dk_at dksX1_next_7 16 rfl rfl)
theorem dX1_next_178 : decode cX1_next 178 = .ok (.putfield 33, 3) := dk_181 0 33 (dk_at dksX1_next_7 17 rfl rfl)
theorem dX1_next_181 : decode cX1_next 181 = .ok (.goto (-36), 3) := dk_167 255 220 (dk_at dksX1_next_7 20 rfl rfl)
theorem dX1_next_184 : decode cX1_next 184 = .ok (.iload_n 1, 1) := dk_27 (dk_at dksX1_next_7 23 rfl rfl)
theorem dX1_next_185 : decode cX1_next 185 = .ok (.bipush 59, 2) := dk_16 59 (dk_at dksX1_next_8 0 rfl rfl)
theorem dX1_next_187 : decode cX1_next 187 = .ok (.if_icmp .eq 8, 3) := dk_159 0 8 (dk_at dksX1_next_8 2 rfl rfl)
theorem dX1_next_190 : decode cX1_next 190 = .ok (.aload_n 0, 1) := dk_42 (dk_at dksX1_next_8 5 rfl rfl)
theorem dX1_next_191 : decode cX1_next 191 = .ok (.invokevirtual 50, 3) := dk_182 0 50 (dk_at dksX1_next_8 6 rfl rfl)
theorem dX1_next_194 : decode cX1_next 194 = .ok (.athrow, 1) := dk_191 (dk_at dksX1_next_8 9 rfl rfl)
theorem dX1_next_195 : decode cX1_next 195 = .ok (.return_, 1) := dk_177 (dk_at dksX1_next_8 10 rfl rfl)
abbrev cX1_isLetter : ByteArray := prog_15_method_2_code
def yX1_isLetter : MethodName := ⟨RX1, "isLetter", "(I)Z"⟩
def dkwX1_isLetter_0 : List UInt8 := [26, 16, 97, 161, 0, 13, 26, 16, 122, 163, 0, 7, 4, 167, 0, 4, 3, 172]
abbrev dktX1_isLetter_0 : List UInt8 := dkwX1_isLetter_0 ++ []
theorem dksX1_isLetter_0 : cX1_isLetter.data.toList.drop 0 = dktX1_isLetter_0 := by decide +kernel
theorem dX1_isLetter_0 : decode cX1_isLetter 0 = .ok (.iload_n 0, 1) := dk_26 (dk_at dksX1_isLetter_0 0 rfl rfl)
theorem dX1_isLetter_1 : decode cX1_isLetter 1 = .ok (.bipush 97, 2) := dk_16 97 (dk_at dksX1_isLetter_0 1 rfl rfl)
theorem dX1_isLetter_3 : decode cX1_isLetter 3 = .ok (.if_icmp .lt 13, 3) := dk_161 0 13 (dk_at dksX1_isLetter_0 3 rfl rfl)
theorem dX1_isLetter_6 : decode cX1_isLetter 6 = .ok (.iload_n 0, 1) := dk_26 (dk_at dksX1_isLetter_0 6 rfl rfl)
theorem dX1_isLetter_7 : decode cX1_isLetter 7 = .ok (.bipush 122, 2) := dk_16 122 (dk_at dksX1_isLetter_0 7 rfl rfl)
theorem dX1_isLetter_9 : decode cX1_isLetter 9 = .ok (.if_icmp .gt 7, 3) := dk_163 0 7 (dk_at dksX1_isLetter_0 9 rfl rfl)
theorem dX1_isLetter_12 : decode cX1_isLetter 12 = .ok (.iconst 1, 1) := dk_4 (dk_at dksX1_isLetter_0 12 rfl rfl)
theorem dX1_isLetter_13 : decode cX1_isLetter 13 = .ok (.goto 4, 3) := dk_167 0 4 (dk_at dksX1_isLetter_0 13 rfl rfl)
theorem dX1_isLetter_16 : decode cX1_isLetter 16 = .ok (.iconst 0, 1) := dk_3 (dk_at dksX1_isLetter_0 16 rfl rfl)
theorem dX1_isLetter_17 : decode cX1_isLetter 17 = .ok (.ireturn, 1) := dk_172 (dk_at dksX1_isLetter_0 17 rfl rfl)
abbrev cX1_isDigit : ByteArray := prog_15_method_3_code
def yX1_isDigit : MethodName := ⟨RX1, "isDigit", "(I)Z"⟩
def dkwX1_isDigit_0 : List UInt8 := [26, 16, 48, 161, 0, 13, 26, 16, 57, 163, 0, 7, 4, 167, 0, 4, 3, 172]
abbrev dktX1_isDigit_0 : List UInt8 := dkwX1_isDigit_0 ++ []
theorem dksX1_isDigit_0 : cX1_isDigit.data.toList.drop 0 = dktX1_isDigit_0 := by decide +kernel
theorem dX1_isDigit_0 : decode cX1_isDigit 0 = .ok (.iload_n 0, 1) := dk_26 (dk_at dksX1_isDigit_0 0 rfl rfl)
theorem dX1_isDigit_1 : decode cX1_isDigit 1 = .ok (.bipush 48, 2) := dk_16 48 (dk_at dksX1_isDigit_0 1 rfl rfl)
theorem dX1_isDigit_3 : decode cX1_isDigit 3 = .ok (.if_icmp .lt 13, 3) := dk_161 0 13 (dk_at dksX1_isDigit_0 3 rfl rfl)
theorem dX1_isDigit_6 : decode cX1_isDigit 6 = .ok (.iload_n 0, 1) := dk_26 (dk_at dksX1_isDigit_0 6 rfl rfl)
theorem dX1_isDigit_7 : decode cX1_isDigit 7 = .ok (.bipush 57, 2) := dk_16 57 (dk_at dksX1_isDigit_0 7 rfl rfl)
theorem dX1_isDigit_9 : decode cX1_isDigit 9 = .ok (.if_icmp .gt 7, 3) := dk_163 0 7 (dk_at dksX1_isDigit_0 9 rfl rfl)
theorem dX1_isDigit_12 : decode cX1_isDigit 12 = .ok (.iconst 1, 1) := dk_4 (dk_at dksX1_isDigit_0 12 rfl rfl)
theorem dX1_isDigit_13 : decode cX1_isDigit 13 = .ok (.goto 4, 3) := dk_167 0 4 (dk_at dksX1_isDigit_0 13 rfl rfl)
theorem dX1_isDigit_16 : decode cX1_isDigit 16 = .ok (.iconst 0, 1) := dk_3 (dk_at dksX1_isDigit_0 16 rfl rfl)
theorem dX1_isDigit_17 : decode cX1_isDigit 17 = .ok (.ireturn, 1) := dk_172 (dk_at dksX1_isDigit_0 17 rfl rfl)
abbrev cX1_wrong : ByteArray := prog_15_method_4_code
def yX1_wrong : MethodName := ⟨RX1, "wrong", "()LFirstIn$Fault;"⟩
def dkwX1_wrong_0 : List UInt8 := [187, 0, 24, 89, 42, 180, 0, 26, 183, 0, 30, 176]
abbrev dktX1_wrong_0 : List UInt8 := dkwX1_wrong_0 ++ []
theorem dksX1_wrong_0 : cX1_wrong.data.toList.drop 0 = dktX1_wrong_0 := by decide +kernel
theorem dX1_wrong_0 : decode cX1_wrong 0 = .ok (.new 24, 3) := dk_187 0 24 (dk_at dksX1_wrong_0 0 rfl rfl)
theorem dX1_wrong_3 : decode cX1_wrong 3 = .ok (.dup, 1) := dk_89 (dk_at dksX1_wrong_0 3 rfl rfl)
theorem dX1_wrong_4 : decode cX1_wrong 4 = .ok (.aload_n 0, 1) := dk_42 (dk_at dksX1_wrong_0 4 rfl rfl)
theorem dX1_wrong_5 : decode cX1_wrong 5 = .ok (.getfield 26, 3) := dk_180 0 26 (dk_at dksX1_wrong_0 5 rfl rfl)
theorem dX1_wrong_8 : decode cX1_wrong 8 = .ok (.invokespecial 30, 3) := dk_183 0 30 (dk_at dksX1_wrong_0 8 rfl rfl)
theorem dX1_wrong_11 : decode cX1_wrong 11 = .ok (.areturn, 1) := dk_176 (dk_at dksX1_wrong_0 11 rfl rfl)
abbrev cX1_line : ByteArray := prog_15_method_17_code
def yX1_line : MethodName := ⟨RX1, "line", "()V"⟩
def dkwX1_line_6 : List UInt8 := [182, 0, 141, 177]
abbrev dktX1_line_6 : List UInt8 := dkwX1_line_6 ++ []
def dkwX1_line_5 : List UInt8 := [167, 0, 22, 27, 4, 160, 0, 10, 42, 182, 0, 135, 167, 0, 10, 42, 27, 5, 100, 182, 0, 138, 42]
abbrev dktX1_line_5 : List UInt8 := dkwX1_line_5 ++ dktX1_line_6
def dkwX1_line_4 : List UInt8 := [187, 0, 98, 89, 42, 182, 0, 124, 42, 180, 0, 12, 182, 0, 92, 183, 0, 128, 182, 0, 131, 87]
abbrev dktX1_line_4 : List UInt8 := dkwX1_line_4 ++ dktX1_line_5
def dkwX1_line_3 : List UInt8 := [153, 0, 7, 28, 153, 0, 8, 42, 182, 0, 50, 191, 42, 182, 0, 80, 27, 154, 0, 32, 42, 180, 0, 12]
abbrev dktX1_line_3 : List UInt8 := dkwX1_line_3 ++ dktX1_line_4
def dkwX1_line_2 : List UInt8 := [180, 0, 21, 182, 0, 92, 16, 12, 160, 0, 7, 4, 167, 0, 4, 3, 61, 27, 3, 7, 184, 0, 88]
abbrev dktX1_line_2 : List UInt8 := dkwX1_line_2 ++ dktX1_line_3
def dkwX1_line_1 : List UInt8 := [160, 0, 14, 42, 180, 0, 18, 182, 0, 92, 8, 159, 0, 24, 27, 5, 7, 184, 0, 88, 153, 0, 19, 42]
abbrev dktX1_line_1 : List UInt8 := dkwX1_line_1 ++ dktX1_line_2
def dkwX1_line_0 : List UInt8 := [42, 182, 0, 77, 60, 27, 154, 0, 15, 42, 180, 0, 12, 182, 0, 92, 16, 10, 159, 0, 40, 27, 4]
abbrev dktX1_line_0 : List UInt8 := dkwX1_line_0 ++ dktX1_line_1
theorem dksX1_line_0 : cX1_line.data.toList.drop 0 = dktX1_line_0 := by decide +kernel
theorem dksX1_line_1 : cX1_line.data.toList.drop 23 = dktX1_line_1 := dk_seg dksX1_line_0 23 rfl rfl
theorem dksX1_line_2 : cX1_line.data.toList.drop 47 = dktX1_line_2 := dk_seg dksX1_line_1 24 rfl rfl
theorem dksX1_line_3 : cX1_line.data.toList.drop 70 = dktX1_line_3 := dk_seg dksX1_line_2 23 rfl rfl
theorem dksX1_line_4 : cX1_line.data.toList.drop 94 = dktX1_line_4 := dk_seg dksX1_line_3 24 rfl rfl
theorem dksX1_line_5 : cX1_line.data.toList.drop 116 = dktX1_line_5 := dk_seg dksX1_line_4 22 rfl rfl
theorem dksX1_line_6 : cX1_line.data.toList.drop 139 = dktX1_line_6 := dk_seg dksX1_line_5 23 rfl rfl
theorem dX1_line_0 : decode cX1_line 0 = .ok (.aload_n 0, 1) := dk_42 (dk_at dksX1_line_0 0 rfl rfl)
theorem dX1_line_1 : decode cX1_line 1 = .ok (.invokevirtual 77, 3) := dk_182 0 77 (dk_at dksX1_line_0 1 rfl rfl)
theorem dX1_line_4 : decode cX1_line 4 = .ok (.istore_n 1, 1) := dk_60 (dk_at dksX1_line_0 4 rfl rfl)
theorem dX1_line_5 : decode cX1_line 5 = .ok (.iload_n 1, 1) := dk_27 (dk_at dksX1_line_0 5 rfl rfl)
theorem dX1_line_6 : decode cX1_line 6 = .ok (.ifCond .ne 15, 3) := dk_154 0 15 (dk_at dksX1_line_0 6 rfl rfl)
theorem dX1_line_9 : decode cX1_line 9 = .ok (.aload_n 0, 1) := dk_42 (dk_at dksX1_line_0 9 rfl rfl)
theorem dX1_line_10 : decode cX1_line 10 = .ok (.getfield 12, 3) := dk_180 0 12 (dk_at dksX1_line_0 10 rfl rfl)
theorem dX1_line_13 : decode cX1_line 13 = .ok (.invokevirtual 92, 3) := dk_182 0 92 (dk_at dksX1_line_0 13 rfl rfl)
theorem dX1_line_16 : decode cX1_line 16 = .ok (.bipush 10, 2) := dk_16 10 (dk_at dksX1_line_0 16 rfl rfl)
theorem dX1_line_18 : decode cX1_line 18 = .ok (.if_icmp .eq 40, 3) := dk_159 0 40 (dk_at dksX1_line_0 18 rfl rfl)
theorem dX1_line_21 : decode cX1_line 21 = .ok (.iload_n 1, 1) := dk_27 (dk_at dksX1_line_0 21 rfl rfl)
theorem dX1_line_22 : decode cX1_line 22 = .ok (.iconst 1, 1) := dk_4 (dk_at dksX1_line_0 22 rfl rfl)
theorem dX1_line_23 : decode cX1_line 23 = .ok (.if_icmp .ne 14, 3) := dk_160 0 14 (dk_at dksX1_line_1 0 rfl rfl)
theorem dX1_line_26 : decode cX1_line 26 = .ok (.aload_n 0, 1) := dk_42 (dk_at dksX1_line_1 3 rfl rfl)
theorem dX1_line_27 : decode cX1_line 27 = .ok (.getfield 18, 3) := dk_180 0 18 (dk_at dksX1_line_1 4 rfl rfl)
theorem dX1_line_30 : decode cX1_line 30 = .ok (.invokevirtual 92, 3) := dk_182 0 92 (dk_at dksX1_line_1 7 rfl rfl)
theorem dX1_line_33 : decode cX1_line 33 = .ok (.iconst 5, 1) := dk_8 (dk_at dksX1_line_1 10 rfl rfl)
theorem dX1_line_34 : decode cX1_line 34 = .ok (.if_icmp .eq 24, 3) := dk_159 0 24 (dk_at dksX1_line_1 11 rfl rfl)
theorem dX1_line_37 : decode cX1_line 37 = .ok (.iload_n 1, 1) := dk_27 (dk_at dksX1_line_1 14 rfl rfl)
theorem dX1_line_38 : decode cX1_line 38 = .ok (.iconst 2, 1) := dk_5 (dk_at dksX1_line_1 15 rfl rfl)
theorem dX1_line_39 : decode cX1_line 39 = .ok (.iconst 4, 1) := dk_7 (dk_at dksX1_line_1 16 rfl rfl)
theorem dX1_line_40 : decode cX1_line 40 = .ok (.invokestatic 88, 3) := dk_184 0 88 (dk_at dksX1_line_1 17 rfl rfl)
theorem dX1_line_43 : decode cX1_line 43 = .ok (.ifCond .eq 19, 3) := dk_153 0 19 (dk_at dksX1_line_1 20 rfl rfl)
theorem dX1_line_46 : decode cX1_line 46 = .ok (.aload_n 0, 1) := dk_42 (dk_at dksX1_line_1 23 rfl rfl)
theorem dX1_line_47 : decode cX1_line 47 = .ok (.getfield 21, 3) := dk_180 0 21 (dk_at dksX1_line_2 0 rfl rfl)
theorem dX1_line_50 : decode cX1_line 50 = .ok (.invokevirtual 92, 3) := dk_182 0 92 (dk_at dksX1_line_2 3 rfl rfl)
theorem dX1_line_53 : decode cX1_line 53 = .ok (.bipush 12, 2) := dk_16 12 (dk_at dksX1_line_2 6 rfl rfl)
theorem dX1_line_55 : decode cX1_line 55 = .ok (.if_icmp .ne 7, 3) := dk_160 0 7 (dk_at dksX1_line_2 8 rfl rfl)
theorem dX1_line_58 : decode cX1_line 58 = .ok (.iconst 1, 1) := dk_4 (dk_at dksX1_line_2 11 rfl rfl)
theorem dX1_line_59 : decode cX1_line 59 = .ok (.goto 4, 3) := dk_167 0 4 (dk_at dksX1_line_2 12 rfl rfl)
theorem dX1_line_62 : decode cX1_line 62 = .ok (.iconst 0, 1) := dk_3 (dk_at dksX1_line_2 15 rfl rfl)
theorem dX1_line_63 : decode cX1_line 63 = .ok (.istore_n 2, 1) := dk_61 (dk_at dksX1_line_2 16 rfl rfl)
theorem dX1_line_64 : decode cX1_line 64 = .ok (.iload_n 1, 1) := dk_27 (dk_at dksX1_line_2 17 rfl rfl)
theorem dX1_line_65 : decode cX1_line 65 = .ok (.iconst 0, 1) := dk_3 (dk_at dksX1_line_2 18 rfl rfl)
theorem dX1_line_66 : decode cX1_line 66 = .ok (.iconst 4, 1) := dk_7 (dk_at dksX1_line_2 19 rfl rfl)
theorem dX1_line_67 : decode cX1_line 67 = .ok (.invokestatic 88, 3) := dk_184 0 88 (dk_at dksX1_line_2 20 rfl rfl)
theorem dX1_line_70 : decode cX1_line 70 = .ok (.ifCond .eq 7, 3) := dk_153 0 7 (dk_at dksX1_line_3 0 rfl rfl)
theorem dX1_line_73 : decode cX1_line 73 = .ok (.iload_n 2, 1) := dk_28 (dk_at dksX1_line_3 3 rfl rfl)
theorem dX1_line_74 : decode cX1_line 74 = .ok (.ifCond .eq 8, 3) := dk_153 0 8 (dk_at dksX1_line_3 4 rfl rfl)
theorem dX1_line_77 : decode cX1_line 77 = .ok (.aload_n 0, 1) := dk_42 (dk_at dksX1_line_3 7 rfl rfl)
theorem dX1_line_78 : decode cX1_line 78 = .ok (.invokevirtual 50, 3) := dk_182 0 50 (dk_at dksX1_line_3 8 rfl rfl)
theorem dX1_line_81 : decode cX1_line 81 = .ok (.athrow, 1) := dk_191 (dk_at dksX1_line_3 11 rfl rfl)
theorem dX1_line_82 : decode cX1_line 82 = .ok (.aload_n 0, 1) := dk_42 (dk_at dksX1_line_3 12 rfl rfl)
theorem dX1_line_83 : decode cX1_line 83 = .ok (.invokevirtual 80, 3) := dk_182 0 80 (dk_at dksX1_line_3 13 rfl rfl)
theorem dX1_line_86 : decode cX1_line 86 = .ok (.iload_n 1, 1) := dk_27 (dk_at dksX1_line_3 16 rfl rfl)
theorem dX1_line_87 : decode cX1_line 87 = .ok (.ifCond .ne 32, 3) := dk_154 0 32 (dk_at dksX1_line_3 17 rfl rfl)
theorem dX1_line_90 : decode cX1_line 90 = .ok (.aload_n 0, 1) := dk_42 (dk_at dksX1_line_3 20 rfl rfl)
theorem dX1_line_91 : decode cX1_line 91 = .ok (.getfield 12, 3) := dk_180 0 12 (dk_at dksX1_line_3 21 rfl rfl)
theorem dX1_line_94 : decode cX1_line 94 = .ok (.new 98, 3) := dk_187 0 98 (dk_at dksX1_line_4 0 rfl rfl)
theorem dX1_line_97 : decode cX1_line 97 = .ok (.dup, 1) := dk_89 (dk_at dksX1_line_4 3 rfl rfl)
theorem dX1_line_98 : decode cX1_line 98 = .ok (.aload_n 0, 1) := dk_42 (dk_at dksX1_line_4 4 rfl rfl)
theorem dX1_line_99 : decode cX1_line 99 = .ok (.invokevirtual 124, 3) := dk_182 0 124 (dk_at dksX1_line_4 5 rfl rfl)
theorem dX1_line_102 : decode cX1_line 102 = .ok (.aload_n 0, 1) := dk_42 (dk_at dksX1_line_4 8 rfl rfl)
theorem dX1_line_103 : decode cX1_line 103 = .ok (.getfield 12, 3) := dk_180 0 12 (dk_at dksX1_line_4 9 rfl rfl)
theorem dX1_line_106 : decode cX1_line 106 = .ok (.invokevirtual 92, 3) := dk_182 0 92 (dk_at dksX1_line_4 12 rfl rfl)
theorem dX1_line_109 : decode cX1_line 109 = .ok (.invokespecial 128, 3) := dk_183 0 128 (dk_at dksX1_line_4 15 rfl rfl)
theorem dX1_line_112 : decode cX1_line 112 = .ok (.invokevirtual 131, 3) := dk_182 0 131 (dk_at dksX1_line_4 18 rfl rfl)
theorem dX1_line_115 : decode cX1_line 115 = .ok (.pop, 1) := dk_87 (dk_at dksX1_line_4 21 rfl rfl)
theorem dX1_line_116 : decode cX1_line 116 = .ok (.goto 22, 3) := dk_167 0 22 (dk_at dksX1_line_5 0 rfl rfl)
theorem dX1_line_119 : decode cX1_line 119 = .ok (.iload_n 1, 1) := dk_27 (dk_at dksX1_line_5 3 rfl rfl)
theorem dX1_line_120 : decode cX1_line 120 = .ok (.iconst 1, 1) := dk_4 (dk_at dksX1_line_5 4 rfl rfl)
theorem dX1_line_121 : decode cX1_line 121 = .ok (.if_icmp .ne 10, 3) := dk_160 0 10 (dk_at dksX1_line_5 5 rfl rfl)
theorem dX1_line_124 : decode cX1_line 124 = .ok (.aload_n 0, 1) := dk_42 (dk_at dksX1_line_5 8 rfl rfl)
theorem dX1_line_125 : decode cX1_line 125 = .ok (.invokevirtual 135, 3) := dk_182 0 135 (dk_at dksX1_line_5 9 rfl rfl)
theorem dX1_line_128 : decode cX1_line 128 = .ok (.goto 10, 3) := dk_167 0 10 (dk_at dksX1_line_5 12 rfl rfl)
theorem dX1_line_131 : decode cX1_line 131 = .ok (.aload_n 0, 1) := dk_42 (dk_at dksX1_line_5 15 rfl rfl)
theorem dX1_line_132 : decode cX1_line 132 = .ok (.iload_n 1, 1) := dk_27 (dk_at dksX1_line_5 16 rfl rfl)
theorem dX1_line_133 : decode cX1_line 133 = .ok (.iconst 2, 1) := dk_5 (dk_at dksX1_line_5 17 rfl rfl)
theorem dX1_line_134 : decode cX1_line 134 = .ok (.isub, 1) := dk_100 (dk_at dksX1_line_5 18 rfl rfl)
theorem dX1_line_135 : decode cX1_line 135 = .ok (.invokevirtual 138, 3) := dk_182 0 138 (dk_at dksX1_line_5 19 rfl rfl)
theorem dX1_line_138 : decode cX1_line 138 = .ok (.aload_n 0, 1) := dk_42 (dk_at dksX1_line_5 22 rfl rfl)
theorem dX1_line_139 : decode cX1_line 139 = .ok (.invokevirtual 141, 3) := dk_182 0 141 (dk_at dksX1_line_6 0 rfl rfl)
theorem dX1_line_142 : decode cX1_line 142 = .ok (.return_, 1) := dk_177 (dk_at dksX1_line_6 3 rfl rfl)
abbrev cX1_word : ByteArray := prog_15_method_8_code
def yX1_word : MethodName := ⟨RX1, "word", "()I"⟩
def dkwX1_word_5 : List UInt8 := [172]
abbrev dktX1_word_5 : List UInt8 := dkwX1_word_5 ++ []
def dkwX1_word_4 : List UInt8 := [180, 0, 33, 42, 180, 0, 26, 100, 160, 0, 5, 27, 172, 29, 4, 96, 61, 132, 1, 1, 167, 255, 145, 2]
abbrev dktX1_word_4 : List UInt8 := dkwX1_word_4 ++ dktX1_word_5
def dkwX1_word_3 : List UInt8 := [182, 0, 73, 160, 0, 9, 132, 4, 1, 167, 255, 207, 21, 4, 29, 28, 100, 160, 0, 19, 21, 4, 42]
abbrev dktX1_word_3 : List UInt8 := dkwX1_word_3 ++ dktX1_word_4
def dkwX1_word_2 : List UInt8 := [180, 0, 33, 162, 0, 33, 42, 180, 0, 39, 42, 180, 0, 26, 21, 4, 96, 51, 18, 58, 28, 21, 4, 96]
abbrev dktX1_word_2 : List UInt8 := dkwX1_word_2 ++ dktX1_word_3
def dkwX1_word_1 : List UInt8 := [28, 182, 0, 69, 62, 3, 54, 4, 21, 4, 29, 28, 100, 162, 0, 47, 42, 180, 0, 26, 21, 4, 96, 42]
abbrev dktX1_word_1 : List UInt8 := dkwX1_word_1 ++ dktX1_word_2
def dkwX1_word_0 : List UInt8 := [3, 60, 3, 61, 28, 18, 58, 182, 0, 60, 162, 0, 108, 42, 182, 0, 66, 153, 0, 101, 18, 58, 16, 32]
abbrev dktX1_word_0 : List UInt8 := dkwX1_word_0 ++ dktX1_word_1
theorem dksX1_word_0 : cX1_word.data.toList.drop 0 = dktX1_word_0 := by decide +kernel
theorem dksX1_word_1 : cX1_word.data.toList.drop 24 = dktX1_word_1 := dk_seg dksX1_word_0 24 rfl rfl
theorem dksX1_word_2 : cX1_word.data.toList.drop 48 = dktX1_word_2 := dk_seg dksX1_word_1 24 rfl rfl
theorem dksX1_word_3 : cX1_word.data.toList.drop 72 = dktX1_word_3 := dk_seg dksX1_word_2 24 rfl rfl
theorem dksX1_word_4 : cX1_word.data.toList.drop 95 = dktX1_word_4 := dk_seg dksX1_word_3 23 rfl rfl
theorem dksX1_word_5 : cX1_word.data.toList.drop 119 = dktX1_word_5 := dk_seg dksX1_word_4 24 rfl rfl
theorem dX1_word_0 : decode cX1_word 0 = .ok (.iconst 0, 1) := dk_3 (dk_at dksX1_word_0 0 rfl rfl)
theorem dX1_word_1 : decode cX1_word 1 = .ok (.istore_n 1, 1) := dk_60 (dk_at dksX1_word_0 1 rfl rfl)
theorem dX1_word_2 : decode cX1_word 2 = .ok (.iconst 0, 1) := dk_3 (dk_at dksX1_word_0 2 rfl rfl)
theorem dX1_word_3 : decode cX1_word 3 = .ok (.istore_n 2, 1) := dk_61 (dk_at dksX1_word_0 3 rfl rfl)
theorem dX1_word_4 : decode cX1_word 4 = .ok (.iload_n 2, 1) := dk_28 (dk_at dksX1_word_0 4 rfl rfl)
theorem dX1_word_5 : decode cX1_word 5 = .ok (.ldc 58, 2) := dk_18 58 (dk_at dksX1_word_0 5 rfl rfl)
theorem dX1_word_7 : decode cX1_word 7 = .ok (.invokevirtual 60, 3) := dk_182 0 60 (dk_at dksX1_word_0 7 rfl rfl)
theorem dX1_word_10 : decode cX1_word 10 = .ok (.if_icmp .ge 108, 3) := dk_162 0 108 (dk_at dksX1_word_0 10 rfl rfl)
theorem dX1_word_13 : decode cX1_word 13 = .ok (.aload_n 0, 1) := dk_42 (dk_at dksX1_word_0 13 rfl rfl)
theorem dX1_word_14 : decode cX1_word 14 = .ok (.invokevirtual 66, 3) := dk_182 0 66 (dk_at dksX1_word_0 14 rfl rfl)
theorem dX1_word_17 : decode cX1_word 17 = .ok (.ifCond .eq 101, 3) := dk_153 0 101 (dk_at dksX1_word_0 17 rfl rfl)
theorem dX1_word_20 : decode cX1_word 20 = .ok (.ldc 58, 2) := dk_18 58 (dk_at dksX1_word_0 20 rfl rfl)
theorem dX1_word_22 : decode cX1_word 22 = .ok (.bipush 32, 2) := dk_16 32 (dk_at dksX1_word_0 22 rfl rfl)
theorem dX1_word_24 : decode cX1_word 24 = .ok (.iload_n 2, 1) := dk_28 (dk_at dksX1_word_1 0 rfl rfl)
theorem dX1_word_25 : decode cX1_word 25 = .ok (.invokevirtual 69, 3) := dk_182 0 69 (dk_at dksX1_word_1 1 rfl rfl)
theorem dX1_word_28 : decode cX1_word 28 = .ok (.istore_n 3, 1) := dk_62 (dk_at dksX1_word_1 4 rfl rfl)
theorem dX1_word_29 : decode cX1_word 29 = .ok (.iconst 0, 1) := dk_3 (dk_at dksX1_word_1 5 rfl rfl)
theorem dX1_word_30 : decode cX1_word 30 = .ok (.istore 4, 2) := dk_54 4 (dk_at dksX1_word_1 6 rfl rfl)
theorem dX1_word_32 : decode cX1_word 32 = .ok (.iload 4, 2) := dk_21 4 (dk_at dksX1_word_1 8 rfl rfl)
theorem dX1_word_34 : decode cX1_word 34 = .ok (.iload_n 3, 1) := dk_29 (dk_at dksX1_word_1 10 rfl rfl)
theorem dX1_word_35 : decode cX1_word 35 = .ok (.iload_n 2, 1) := dk_28 (dk_at dksX1_word_1 11 rfl rfl)
theorem dX1_word_36 : decode cX1_word 36 = .ok (.isub, 1) := dk_100 (dk_at dksX1_word_1 12 rfl rfl)
theorem dX1_word_37 : decode cX1_word 37 = .ok (.if_icmp .ge 47, 3) := dk_162 0 47 (dk_at dksX1_word_1 13 rfl rfl)
theorem dX1_word_40 : decode cX1_word 40 = .ok (.aload_n 0, 1) := dk_42 (dk_at dksX1_word_1 16 rfl rfl)
theorem dX1_word_41 : decode cX1_word 41 = .ok (.getfield 26, 3) := dk_180 0 26 (dk_at dksX1_word_1 17 rfl rfl)
theorem dX1_word_44 : decode cX1_word 44 = .ok (.iload 4, 2) := dk_21 4 (dk_at dksX1_word_1 20 rfl rfl)
theorem dX1_word_46 : decode cX1_word 46 = .ok (.iadd, 1) := dk_96 (dk_at dksX1_word_1 22 rfl rfl)
theorem dX1_word_47 : decode cX1_word 47 = .ok (.aload_n 0, 1) := dk_42 (dk_at dksX1_word_1 23 rfl rfl)
theorem dX1_word_48 : decode cX1_word 48 = .ok (.getfield 33, 3) := dk_180 0 33 (dk_at dksX1_word_2 0 rfl rfl)
theorem dX1_word_51 : decode cX1_word 51 = .ok (.if_icmp .ge 33, 3) := dk_162 0 33 (dk_at dksX1_word_2 3 rfl rfl)
theorem dX1_word_54 : decode cX1_word 54 = .ok (.aload_n 0, 1) := dk_42 (dk_at dksX1_word_2 6 rfl rfl)
theorem dX1_word_55 : decode cX1_word 55 = .ok (.getfield 39, 3) := dk_180 0 39 (dk_at dksX1_word_2 7 rfl rfl)
theorem dX1_word_58 : decode cX1_word 58 = .ok (.aload_n 0, 1) := dk_42 (dk_at dksX1_word_2 10 rfl rfl)
theorem dX1_word_59 : decode cX1_word 59 = .ok (.getfield 26, 3) := dk_180 0 26 (dk_at dksX1_word_2 11 rfl rfl)
theorem dX1_word_62 : decode cX1_word 62 = .ok (.iload 4, 2) := dk_21 4 (dk_at dksX1_word_2 14 rfl rfl)
theorem dX1_word_64 : decode cX1_word 64 = .ok (.iadd, 1) := dk_96 (dk_at dksX1_word_2 16 rfl rfl)
theorem dX1_word_65 : decode cX1_word 65 = .ok (.baload, 1) := dk_51 (dk_at dksX1_word_2 17 rfl rfl)
theorem dX1_word_66 : decode cX1_word 66 = .ok (.ldc 58, 2) := dk_18 58 (dk_at dksX1_word_2 18 rfl rfl)
theorem dX1_word_68 : decode cX1_word 68 = .ok (.iload_n 2, 1) := dk_28 (dk_at dksX1_word_2 20 rfl rfl)
theorem dX1_word_69 : decode cX1_word 69 = .ok (.iload 4, 2) := dk_21 4 (dk_at dksX1_word_2 21 rfl rfl)
theorem dX1_word_71 : decode cX1_word 71 = .ok (.iadd, 1) := dk_96 (dk_at dksX1_word_2 23 rfl rfl)
theorem dX1_word_72 : decode cX1_word 72 = .ok (.invokevirtual 73, 3) := dk_182 0 73 (dk_at dksX1_word_3 0 rfl rfl)
theorem dX1_word_75 : decode cX1_word 75 = .ok (.if_icmp .ne 9, 3) := dk_160 0 9 (dk_at dksX1_word_3 3 rfl rfl)
theorem dX1_word_78 : decode cX1_word 78 = .ok (.iinc 4 1, 3) := dk_132 4 1 (dk_at dksX1_word_3 6 rfl rfl)
theorem dX1_word_81 : decode cX1_word 81 = .ok (.goto (-49), 3) := dk_167 255 207 (dk_at dksX1_word_3 9 rfl rfl)
theorem dX1_word_84 : decode cX1_word 84 = .ok (.iload 4, 2) := dk_21 4 (dk_at dksX1_word_3 12 rfl rfl)
theorem dX1_word_86 : decode cX1_word 86 = .ok (.iload_n 3, 1) := dk_29 (dk_at dksX1_word_3 14 rfl rfl)
theorem dX1_word_87 : decode cX1_word 87 = .ok (.iload_n 2, 1) := dk_28 (dk_at dksX1_word_3 15 rfl rfl)
theorem dX1_word_88 : decode cX1_word 88 = .ok (.isub, 1) := dk_100 (dk_at dksX1_word_3 16 rfl rfl)
theorem dX1_word_89 : decode cX1_word 89 = .ok (.if_icmp .ne 19, 3) := dk_160 0 19 (dk_at dksX1_word_3 17 rfl rfl)
theorem dX1_word_92 : decode cX1_word 92 = .ok (.iload 4, 2) := dk_21 4 (dk_at dksX1_word_3 20 rfl rfl)
theorem dX1_word_94 : decode cX1_word 94 = .ok (.aload_n 0, 1) := dk_42 (dk_at dksX1_word_3 22 rfl rfl)
theorem dX1_word_95 : decode cX1_word 95 = .ok (.getfield 33, 3) := dk_180 0 33 (dk_at dksX1_word_4 0 rfl rfl)
theorem dX1_word_98 : decode cX1_word 98 = .ok (.aload_n 0, 1) := dk_42 (dk_at dksX1_word_4 3 rfl rfl)
theorem dX1_word_99 : decode cX1_word 99 = .ok (.getfield 26, 3) := dk_180 0 26 (dk_at dksX1_word_4 4 rfl rfl)
theorem dX1_word_102 : decode cX1_word 102 = .ok (.isub, 1) := dk_100 (dk_at dksX1_word_4 7 rfl rfl)
theorem dX1_word_103 : decode cX1_word 103 = .ok (.if_icmp .ne 5, 3) := dk_160 0 5 (dk_at dksX1_word_4 8 rfl rfl)
theorem dX1_word_106 : decode cX1_word 106 = .ok (.iload_n 1, 1) := dk_27 (dk_at dksX1_word_4 11 rfl rfl)
theorem dX1_word_107 : decode cX1_word 107 = .ok (.ireturn, 1) := dk_172 (dk_at dksX1_word_4 12 rfl rfl)
theorem dX1_word_108 : decode cX1_word 108 = .ok (.iload_n 3, 1) := dk_29 (dk_at dksX1_word_4 13 rfl rfl)
theorem dX1_word_109 : decode cX1_word 109 = .ok (.iconst 1, 1) := dk_4 (dk_at dksX1_word_4 14 rfl rfl)
theorem dX1_word_110 : decode cX1_word 110 = .ok (.iadd, 1) := dk_96 (dk_at dksX1_word_4 15 rfl rfl)
theorem dX1_word_111 : decode cX1_word 111 = .ok (.istore_n 2, 1) := dk_61 (dk_at dksX1_word_4 16 rfl rfl)
theorem dX1_word_112 : decode cX1_word 112 = .ok (.iinc 1 1, 3) := dk_132 1 1 (dk_at dksX1_word_4 17 rfl rfl)
theorem dX1_word_115 : decode cX1_word 115 = .ok (.goto (-111), 3) := dk_167 255 145 (dk_at dksX1_word_4 20 rfl rfl)
theorem dX1_word_118 : decode cX1_word 118 = .ok (.iconst (-1), 1) := dk_2 (dk_at dksX1_word_4 23 rfl rfl)
theorem dX1_word_119 : decode cX1_word 119 = .ok (.ireturn, 1) := dk_172 (dk_at dksX1_word_5 0 rfl rfl)
abbrev cX1_isWord : ByteArray := prog_15_method_7_code
def yX1_isWord : MethodName := ⟨RX1, "isWord", "()Z"⟩
def dkwX1_isWord_1 : List UInt8 := [167, 0, 4, 3, 172]
abbrev dktX1_isWord_1 : List UInt8 := dkwX1_isWord_1 ++ []
def dkwX1_isWord_0 : List UInt8 := [42, 182, 0, 54, 154, 0, 22, 42, 180, 0, 39, 42, 180, 0, 26, 51, 184, 0, 43, 153, 0, 7, 4]
abbrev dktX1_isWord_0 : List UInt8 := dkwX1_isWord_0 ++ dktX1_isWord_1
theorem dksX1_isWord_0 : cX1_isWord.data.toList.drop 0 = dktX1_isWord_0 := by decide +kernel
theorem dksX1_isWord_1 : cX1_isWord.data.toList.drop 23 = dktX1_isWord_1 := dk_seg dksX1_isWord_0 23 rfl rfl
theorem dX1_isWord_0 : decode cX1_isWord 0 = .ok (.aload_n 0, 1) := dk_42 (dk_at dksX1_isWord_0 0 rfl rfl)
theorem dX1_isWord_1 : decode cX1_isWord 1 = .ok (.invokevirtual 54, 3) := dk_182 0 54 (dk_at dksX1_isWord_0 1 rfl rfl)
theorem dX1_isWord_4 : decode cX1_isWord 4 = .ok (.ifCond .ne 22, 3) := dk_154 0 22 (dk_at dksX1_isWord_0 4 rfl rfl)
theorem dX1_isWord_7 : decode cX1_isWord 7 = .ok (.aload_n 0, 1) := dk_42 (dk_at dksX1_isWord_0 7 rfl rfl)
theorem dX1_isWord_8 : decode cX1_isWord 8 = .ok (.getfield 39, 3) := dk_180 0 39 (dk_at dksX1_isWord_0 8 rfl rfl)
theorem dX1_isWord_11 : decode cX1_isWord 11 = .ok (.aload_n 0, 1) := dk_42 (dk_at dksX1_isWord_0 11 rfl rfl)
theorem dX1_isWord_12 : decode cX1_isWord 12 = .ok (.getfield 26, 3) := dk_180 0 26 (dk_at dksX1_isWord_0 12 rfl rfl)
theorem dX1_isWord_15 : decode cX1_isWord 15 = .ok (.baload, 1) := dk_51 (dk_at dksX1_isWord_0 15 rfl rfl)
theorem dX1_isWord_16 : decode cX1_isWord 16 = .ok (.invokestatic 43, 3) := dk_184 0 43 (dk_at dksX1_isWord_0 16 rfl rfl)
theorem dX1_isWord_19 : decode cX1_isWord 19 = .ok (.ifCond .eq 7, 3) := dk_153 0 7 (dk_at dksX1_isWord_0 19 rfl rfl)
theorem dX1_isWord_22 : decode cX1_isWord 22 = .ok (.iconst 1, 1) := dk_4 (dk_at dksX1_isWord_0 22 rfl rfl)
theorem dX1_isWord_23 : decode cX1_isWord 23 = .ok (.goto 4, 3) := dk_167 0 4 (dk_at dksX1_isWord_1 0 rfl rfl)
theorem dX1_isWord_26 : decode cX1_isWord 26 = .ok (.iconst 0, 1) := dk_3 (dk_at dksX1_isWord_1 3 rfl rfl)
theorem dX1_isWord_27 : decode cX1_isWord 27 = .ok (.ireturn, 1) := dk_172 (dk_at dksX1_isWord_1 4 rfl rfl)
abbrev cX1_isOver : ByteArray := prog_15_method_6_code
def yX1_isOver : MethodName := ⟨RX1, "isOver", "()Z"⟩
def dkwX1_isOver_0 : List UInt8 := [42, 180, 0, 26, 42, 180, 0, 36, 160, 0, 7, 4, 167, 0, 4, 3, 172]
abbrev dktX1_isOver_0 : List UInt8 := dkwX1_isOver_0 ++ []
theorem dksX1_isOver_0 : cX1_isOver.data.toList.drop 0 = dktX1_isOver_0 := by decide +kernel
theorem dX1_isOver_0 : decode cX1_isOver 0 = .ok (.aload_n 0, 1) := dk_42 (dk_at dksX1_isOver_0 0 rfl rfl)
theorem dX1_isOver_1 : decode cX1_isOver 1 = .ok (.getfield 26, 3) := dk_180 0 26 (dk_at dksX1_isOver_0 1 rfl rfl)
theorem dX1_isOver_4 : decode cX1_isOver 4 = .ok (.aload_n 0, 1) := dk_42 (dk_at dksX1_isOver_0 4 rfl rfl)
theorem dX1_isOver_5 : decode cX1_isOver 5 = .ok (.getfield 36, 3) := dk_180 0 36 (dk_at dksX1_isOver_0 5 rfl rfl)
theorem dX1_isOver_8 : decode cX1_isOver 8 = .ok (.if_icmp .ne 7, 3) := dk_160 0 7 (dk_at dksX1_isOver_0 8 rfl rfl)
theorem dX1_isOver_11 : decode cX1_isOver 11 = .ok (.iconst 1, 1) := dk_4 (dk_at dksX1_isOver_0 11 rfl rfl)
theorem dX1_isOver_12 : decode cX1_isOver 12 = .ok (.goto 4, 3) := dk_167 0 4 (dk_at dksX1_isOver_0 12 rfl rfl)
theorem dX1_isOver_15 : decode cX1_isOver 15 = .ok (.iconst 0, 1) := dk_3 (dk_at dksX1_isOver_0 15 rfl rfl)
theorem dX1_isOver_16 : decode cX1_isOver 16 = .ok (.ireturn, 1) := dk_172 (dk_at dksX1_isOver_0 16 rfl rfl)
abbrev cX1_newName : ByteArray := prog_15_method_15_code
def yX1_newName : MethodName := ⟨RX1, "newName", "()[B"⟩
def dkwX1_newName_2 : List UInt8 := [43, 3, 43, 190, 184, 0, 118, 42, 182, 0, 80, 43, 176]
abbrev dktX1_newName_2 : List UInt8 := dkwX1_newName_2 ++ []
def dkwX1_newName_1 : List UInt8 := [182, 0, 50, 191, 42, 180, 0, 33, 42, 180, 0, 26, 100, 188, 8, 76, 42, 180, 0, 39, 42, 180, 0, 26]
abbrev dktX1_newName_1 : List UInt8 := dkwX1_newName_1 ++ dktX1_newName_2
def dkwX1_newName_0 : List UInt8 := [42, 182, 0, 107, 153, 0, 17, 42, 182, 0, 110, 199, 0, 10, 42, 182, 0, 114, 198, 0, 8, 42]
abbrev dktX1_newName_0 : List UInt8 := dkwX1_newName_0 ++ dktX1_newName_1
theorem dksX1_newName_0 : cX1_newName.data.toList.drop 0 = dktX1_newName_0 := by decide +kernel
theorem dksX1_newName_1 : cX1_newName.data.toList.drop 22 = dktX1_newName_1 := dk_seg dksX1_newName_0 22 rfl rfl
theorem dksX1_newName_2 : cX1_newName.data.toList.drop 46 = dktX1_newName_2 := dk_seg dksX1_newName_1 24 rfl rfl
theorem dX1_newName_0 : decode cX1_newName 0 = .ok (.aload_n 0, 1) := dk_42 (dk_at dksX1_newName_0 0 rfl rfl)
theorem dX1_newName_1 : decode cX1_newName 1 = .ok (.invokevirtual 107, 3) := dk_182 0 107 (dk_at dksX1_newName_0 1 rfl rfl)
theorem dX1_newName_4 : decode cX1_newName 4 = .ok (.ifCond .eq 17, 3) := dk_153 0 17 (dk_at dksX1_newName_0 4 rfl rfl)
theorem dX1_newName_7 : decode cX1_newName 7 = .ok (.aload_n 0, 1) := dk_42 (dk_at dksX1_newName_0 7 rfl rfl)
theorem dX1_newName_8 : decode cX1_newName 8 = .ok (.invokevirtual 110, 3) := dk_182 0 110 (dk_at dksX1_newName_0 8 rfl rfl)
theorem dX1_newName_11 : decode cX1_newName 11 = .ok (.ifnonnull 10, 3) := dk_199 0 10 (dk_at dksX1_newName_0 11 rfl rfl)
theorem dX1_newName_14 : decode cX1_newName 14 = .ok (.aload_n 0, 1) := dk_42 (dk_at dksX1_newName_0 14 rfl rfl)
theorem dX1_newName_15 : decode cX1_newName 15 = .ok (.invokevirtual 114, 3) := dk_182 0 114 (dk_at dksX1_newName_0 15 rfl rfl)
theorem dX1_newName_18 : decode cX1_newName 18 = .ok (.ifnull 8, 3) := dk_198 0 8 (dk_at dksX1_newName_0 18 rfl rfl)
theorem dX1_newName_21 : decode cX1_newName 21 = .ok (.aload_n 0, 1) := dk_42 (dk_at dksX1_newName_0 21 rfl rfl)
theorem dX1_newName_22 : decode cX1_newName 22 = .ok (.invokevirtual 50, 3) := dk_182 0 50 (dk_at dksX1_newName_1 0 rfl rfl)
theorem dX1_newName_25 : decode cX1_newName 25 = .ok (.athrow, 1) := dk_191 (dk_at dksX1_newName_1 3 rfl rfl)
theorem dX1_newName_26 : decode cX1_newName 26 = .ok (.aload_n 0, 1) := dk_42 (dk_at dksX1_newName_1 4 rfl rfl)
theorem dX1_newName_27 : decode cX1_newName 27 = .ok (.getfield 33, 3) := dk_180 0 33 (dk_at dksX1_newName_1 5 rfl rfl)
theorem dX1_newName_30 : decode cX1_newName 30 = .ok (.aload_n 0, 1) := dk_42 (dk_at dksX1_newName_1 8 rfl rfl)
theorem dX1_newName_31 : decode cX1_newName 31 = .ok (.getfield 26, 3) := dk_180 0 26 (dk_at dksX1_newName_1 9 rfl rfl)
theorem dX1_newName_34 : decode cX1_newName 34 = .ok (.isub, 1) := dk_100 (dk_at dksX1_newName_1 12 rfl rfl)
theorem dX1_newName_35 : decode cX1_newName 35 = .ok (.newarray .byte, 2) := dk_188_8 (dk_at dksX1_newName_1 13 rfl rfl)
theorem dX1_newName_37 : decode cX1_newName 37 = .ok (.astore_n 1, 1) := dk_76 (dk_at dksX1_newName_1 15 rfl rfl)
theorem dX1_newName_38 : decode cX1_newName 38 = .ok (.aload_n 0, 1) := dk_42 (dk_at dksX1_newName_1 16 rfl rfl)
theorem dX1_newName_39 : decode cX1_newName 39 = .ok (.getfield 39, 3) := dk_180 0 39 (dk_at dksX1_newName_1 17 rfl rfl)
theorem dX1_newName_42 : decode cX1_newName 42 = .ok (.aload_n 0, 1) := dk_42 (dk_at dksX1_newName_1 20 rfl rfl)
theorem dX1_newName_43 : decode cX1_newName 43 = .ok (.getfield 26, 3) := dk_180 0 26 (dk_at dksX1_newName_1 21 rfl rfl)
theorem dX1_newName_46 : decode cX1_newName 46 = .ok (.aload_n 1, 1) := dk_43 (dk_at dksX1_newName_2 0 rfl rfl)
theorem dX1_newName_47 : decode cX1_newName 47 = .ok (.iconst 0, 1) := dk_3 (dk_at dksX1_newName_2 1 rfl rfl)
theorem dX1_newName_48 : decode cX1_newName 48 = .ok (.aload_n 1, 1) := dk_43 (dk_at dksX1_newName_2 2 rfl rfl)
theorem dX1_newName_49 : decode cX1_newName 49 = .ok (.arraylength, 1) := dk_190 (dk_at dksX1_newName_2 3 rfl rfl)
theorem dX1_newName_50 : decode cX1_newName 50 = .ok (.invokestatic 118, 3) := dk_184 0 118 (dk_at dksX1_newName_2 4 rfl rfl)
theorem dX1_newName_53 : decode cX1_newName 53 = .ok (.aload_n 0, 1) := dk_42 (dk_at dksX1_newName_2 7 rfl rfl)
theorem dX1_newName_54 : decode cX1_newName 54 = .ok (.invokevirtual 80, 3) := dk_182 0 80 (dk_at dksX1_newName_2 8 rfl rfl)
theorem dX1_newName_57 : decode cX1_newName 57 = .ok (.aload_n 1, 1) := dk_43 (dk_at dksX1_newName_2 11 rfl rfl)
theorem dX1_newName_58 : decode cX1_newName 58 = .ok (.areturn, 1) := dk_176 (dk_at dksX1_newName_2 12 rfl rfl)
abbrev cX1_isName : ByteArray := prog_15_method_12_code
def yX1_isName : MethodName := ⟨RX1, "isName", "()Z"⟩
def dkwX1_isName_1 : List UInt8 := [16, 8, 163, 0, 7, 4, 167, 0, 4, 3, 172]
abbrev dktX1_isName_1 : List UInt8 := dkwX1_isName_1 ++ []
def dkwX1_isName_0 : List UInt8 := [42, 182, 0, 66, 153, 0, 29, 42, 182, 0, 77, 2, 160, 0, 21, 42, 180, 0, 33, 42, 180, 0, 26, 100]
abbrev dktX1_isName_0 : List UInt8 := dkwX1_isName_0 ++ dktX1_isName_1
theorem dksX1_isName_0 : cX1_isName.data.toList.drop 0 = dktX1_isName_0 := by decide +kernel
theorem dksX1_isName_1 : cX1_isName.data.toList.drop 24 = dktX1_isName_1 := dk_seg dksX1_isName_0 24 rfl rfl
theorem dX1_isName_0 : decode cX1_isName 0 = .ok (.aload_n 0, 1) := dk_42 (dk_at dksX1_isName_0 0 rfl rfl)
theorem dX1_isName_1 : decode cX1_isName 1 = .ok (.invokevirtual 66, 3) := dk_182 0 66 (dk_at dksX1_isName_0 1 rfl rfl)
theorem dX1_isName_4 : decode cX1_isName 4 = .ok (.ifCond .eq 29, 3) := dk_153 0 29 (dk_at dksX1_isName_0 4 rfl rfl)
theorem dX1_isName_7 : decode cX1_isName 7 = .ok (.aload_n 0, 1) := dk_42 (dk_at dksX1_isName_0 7 rfl rfl)
theorem dX1_isName_8 : decode cX1_isName 8 = .ok (.invokevirtual 77, 3) := dk_182 0 77 (dk_at dksX1_isName_0 8 rfl rfl)
theorem dX1_isName_11 : decode cX1_isName 11 = .ok (.iconst (-1), 1) := dk_2 (dk_at dksX1_isName_0 11 rfl rfl)
theorem dX1_isName_12 : decode cX1_isName 12 = .ok (.if_icmp .ne 21, 3) := dk_160 0 21 (dk_at dksX1_isName_0 12 rfl rfl)
theorem dX1_isName_15 : decode cX1_isName 15 = .ok (.aload_n 0, 1) := dk_42 (dk_at dksX1_isName_0 15 rfl rfl)
theorem dX1_isName_16 : decode cX1_isName 16 = .ok (.getfield 33, 3) := dk_180 0 33 (dk_at dksX1_isName_0 16 rfl rfl)
theorem dX1_isName_19 : decode cX1_isName 19 = .ok (.aload_n 0, 1) := dk_42 (dk_at dksX1_isName_0 19 rfl rfl)
theorem dX1_isName_20 : decode cX1_isName 20 = .ok (.getfield 26, 3) := dk_180 0 26 (dk_at dksX1_isName_0 20 rfl rfl)
theorem dX1_isName_23 : decode cX1_isName 23 = .ok (.isub, 1) := dk_100 (dk_at dksX1_isName_0 23 rfl rfl)
theorem dX1_isName_24 : decode cX1_isName 24 = .ok (.bipush 8, 2) := dk_16 8 (dk_at dksX1_isName_1 0 rfl rfl)
theorem dX1_isName_26 : decode cX1_isName 26 = .ok (.if_icmp .gt 7, 3) := dk_163 0 7 (dk_at dksX1_isName_1 2 rfl rfl)
theorem dX1_isName_29 : decode cX1_isName 29 = .ok (.iconst 1, 1) := dk_4 (dk_at dksX1_isName_1 5 rfl rfl)
theorem dX1_isName_30 : decode cX1_isName 30 = .ok (.goto 4, 3) := dk_167 0 4 (dk_at dksX1_isName_1 6 rfl rfl)
theorem dX1_isName_33 : decode cX1_isName 33 = .ok (.iconst 0, 1) := dk_3 (dk_at dksX1_isName_1 9 rfl rfl)
theorem dX1_isName_34 : decode cX1_isName 34 = .ok (.ireturn, 1) := dk_172 (dk_at dksX1_isName_1 10 rfl rfl)
abbrev cX1_guestHere : ByteArray := prog_15_method_13_code
def yX1_guestHere : MethodName := ⟨RX1, "guestHere", "()LFirstIn$Guest;"⟩
def dkwX1_guestHere_2 : List UInt8 := [182, 0, 94, 192, 0, 98, 176, 132, 1, 1, 167, 255, 201, 1, 176]
abbrev dktX1_guestHere_2 : List UInt8 := dkwX1_guestHere_2 ++ []
def dkwX1_guestHere_1 : List UInt8 := [42, 180, 0, 39, 42, 180, 0, 26, 42, 180, 0, 33, 182, 0, 100, 153, 0, 15, 42, 180, 0, 12, 27]
abbrev dktX1_guestHere_1 : List UInt8 := dkwX1_guestHere_1 ++ dktX1_guestHere_2
def dkwX1_guestHere_0 : List UInt8 := [3, 60, 27, 42, 180, 0, 12, 182, 0, 92, 162, 0, 50, 42, 180, 0, 12, 27, 182, 0, 94, 192, 0, 98]
abbrev dktX1_guestHere_0 : List UInt8 := dkwX1_guestHere_0 ++ dktX1_guestHere_1
theorem dksX1_guestHere_0 : cX1_guestHere.data.toList.drop 0 = dktX1_guestHere_0 := by decide +kernel
theorem dksX1_guestHere_1 : cX1_guestHere.data.toList.drop 24 = dktX1_guestHere_1 := dk_seg dksX1_guestHere_0 24 rfl rfl
theorem dksX1_guestHere_2 : cX1_guestHere.data.toList.drop 47 = dktX1_guestHere_2 := dk_seg dksX1_guestHere_1 23 rfl rfl
theorem dX1_guestHere_0 : decode cX1_guestHere 0 = .ok (.iconst 0, 1) := dk_3 (dk_at dksX1_guestHere_0 0 rfl rfl)
theorem dX1_guestHere_1 : decode cX1_guestHere 1 = .ok (.istore_n 1, 1) := dk_60 (dk_at dksX1_guestHere_0 1 rfl rfl)
theorem dX1_guestHere_2 : decode cX1_guestHere 2 = .ok (.iload_n 1, 1) := dk_27 (dk_at dksX1_guestHere_0 2 rfl rfl)
theorem dX1_guestHere_3 : decode cX1_guestHere 3 = .ok (.aload_n 0, 1) := dk_42 (dk_at dksX1_guestHere_0 3 rfl rfl)
theorem dX1_guestHere_4 : decode cX1_guestHere 4 = .ok (.getfield 12, 3) := dk_180 0 12 (dk_at dksX1_guestHere_0 4 rfl rfl)
theorem dX1_guestHere_7 : decode cX1_guestHere 7 = .ok (.invokevirtual 92, 3) := dk_182 0 92 (dk_at dksX1_guestHere_0 7 rfl rfl)
theorem dX1_guestHere_10 : decode cX1_guestHere 10 = .ok (.if_icmp .ge 50, 3) := dk_162 0 50 (dk_at dksX1_guestHere_0 10 rfl rfl)
theorem dX1_guestHere_13 : decode cX1_guestHere 13 = .ok (.aload_n 0, 1) := dk_42 (dk_at dksX1_guestHere_0 13 rfl rfl)
theorem dX1_guestHere_14 : decode cX1_guestHere 14 = .ok (.getfield 12, 3) := dk_180 0 12 (dk_at dksX1_guestHere_0 14 rfl rfl)
theorem dX1_guestHere_17 : decode cX1_guestHere 17 = .ok (.iload_n 1, 1) := dk_27 (dk_at dksX1_guestHere_0 17 rfl rfl)
theorem dX1_guestHere_18 : decode cX1_guestHere 18 = .ok (.invokevirtual 94, 3) := dk_182 0 94 (dk_at dksX1_guestHere_0 18 rfl rfl)
theorem dX1_guestHere_21 : decode cX1_guestHere 21 = .ok (.checkcast 98, 3) := dk_192 0 98 (dk_at dksX1_guestHere_0 21 rfl rfl)
theorem dX1_guestHere_24 : decode cX1_guestHere 24 = .ok (.aload_n 0, 1) := dk_42 (dk_at dksX1_guestHere_1 0 rfl rfl)
theorem dX1_guestHere_25 : decode cX1_guestHere 25 = .ok (.getfield 39, 3) := dk_180 0 39 (dk_at dksX1_guestHere_1 1 rfl rfl)
theorem dX1_guestHere_28 : decode cX1_guestHere 28 = .ok (.aload_n 0, 1) := dk_42 (dk_at dksX1_guestHere_1 4 rfl rfl)
theorem dX1_guestHere_29 : decode cX1_guestHere 29 = .ok (.getfield 26, 3) := dk_180 0 26 (dk_at dksX1_guestHere_1 5 rfl rfl)
theorem dX1_guestHere_32 : decode cX1_guestHere 32 = .ok (.aload_n 0, 1) := dk_42 (dk_at dksX1_guestHere_1 8 rfl rfl)
theorem dX1_guestHere_33 : decode cX1_guestHere 33 = .ok (.getfield 33, 3) := dk_180 0 33 (dk_at dksX1_guestHere_1 9 rfl rfl)
theorem dX1_guestHere_36 : decode cX1_guestHere 36 = .ok (.invokevirtual 100, 3) := dk_182 0 100 (dk_at dksX1_guestHere_1 12 rfl rfl)
theorem dX1_guestHere_39 : decode cX1_guestHere 39 = .ok (.ifCond .eq 15, 3) := dk_153 0 15 (dk_at dksX1_guestHere_1 15 rfl rfl)
theorem dX1_guestHere_42 : decode cX1_guestHere 42 = .ok (.aload_n 0, 1) := dk_42 (dk_at dksX1_guestHere_1 18 rfl rfl)
theorem dX1_guestHere_43 : decode cX1_guestHere 43 = .ok (.getfield 12, 3) := dk_180 0 12 (dk_at dksX1_guestHere_1 19 rfl rfl)
theorem dX1_guestHere_46 : decode cX1_guestHere 46 = .ok (.iload_n 1, 1) := dk_27 (dk_at dksX1_guestHere_1 22 rfl rfl)
theorem dX1_guestHere_47 : decode cX1_guestHere 47 = .ok (.invokevirtual 94, 3) := dk_182 0 94 (dk_at dksX1_guestHere_2 0 rfl rfl)
theorem dX1_guestHere_50 : decode cX1_guestHere 50 = .ok (.checkcast 98, 3) := dk_192 0 98 (dk_at dksX1_guestHere_2 3 rfl rfl)
theorem dX1_guestHere_53 : decode cX1_guestHere 53 = .ok (.areturn, 1) := dk_176 (dk_at dksX1_guestHere_2 6 rfl rfl)
theorem dX1_guestHere_54 : decode cX1_guestHere 54 = .ok (.iinc 1 1, 3) := dk_132 1 1 (dk_at dksX1_guestHere_2 7 rfl rfl)
theorem dX1_guestHere_57 : decode cX1_guestHere 57 = .ok (.goto (-55), 3) := dk_167 255 201 (dk_at dksX1_guestHere_2 10 rfl rfl)
theorem dX1_guestHere_60 : decode cX1_guestHere 60 = .ok (.aconst_null, 1) := dk_1 (dk_at dksX1_guestHere_2 13 rfl rfl)
theorem dX1_guestHere_61 : decode cX1_guestHere 61 = .ok (.areturn, 1) := dk_176 (dk_at dksX1_guestHere_2 14 rfl rfl)
abbrev cX1_markHere : ByteArray := prog_15_method_14_code
def yX1_markHere : MethodName := ⟨RX1, "markHere", "()LFirstIn$Mark;"⟩
def dkwX1_markHere_2 : List UInt8 := [182, 0, 94, 192, 0, 104, 176, 132, 1, 1, 167, 255, 201, 1, 176]
abbrev dktX1_markHere_2 : List UInt8 := dkwX1_markHere_2 ++ []
def dkwX1_markHere_1 : List UInt8 := [42, 180, 0, 39, 42, 180, 0, 26, 42, 180, 0, 33, 182, 0, 106, 153, 0, 15, 42, 180, 0, 18, 27]
abbrev dktX1_markHere_1 : List UInt8 := dkwX1_markHere_1 ++ dktX1_markHere_2
def dkwX1_markHere_0 : List UInt8 := [3, 60, 27, 42, 180, 0, 18, 182, 0, 92, 162, 0, 50, 42, 180, 0, 18, 27, 182, 0, 94, 192, 0, 104]
abbrev dktX1_markHere_0 : List UInt8 := dkwX1_markHere_0 ++ dktX1_markHere_1
theorem dksX1_markHere_0 : cX1_markHere.data.toList.drop 0 = dktX1_markHere_0 := by decide +kernel
theorem dksX1_markHere_1 : cX1_markHere.data.toList.drop 24 = dktX1_markHere_1 := dk_seg dksX1_markHere_0 24 rfl rfl
theorem dksX1_markHere_2 : cX1_markHere.data.toList.drop 47 = dktX1_markHere_2 := dk_seg dksX1_markHere_1 23 rfl rfl
theorem dX1_markHere_0 : decode cX1_markHere 0 = .ok (.iconst 0, 1) := dk_3 (dk_at dksX1_markHere_0 0 rfl rfl)
theorem dX1_markHere_1 : decode cX1_markHere 1 = .ok (.istore_n 1, 1) := dk_60 (dk_at dksX1_markHere_0 1 rfl rfl)
theorem dX1_markHere_2 : decode cX1_markHere 2 = .ok (.iload_n 1, 1) := dk_27 (dk_at dksX1_markHere_0 2 rfl rfl)
theorem dX1_markHere_3 : decode cX1_markHere 3 = .ok (.aload_n 0, 1) := dk_42 (dk_at dksX1_markHere_0 3 rfl rfl)
theorem dX1_markHere_4 : decode cX1_markHere 4 = .ok (.getfield 18, 3) := dk_180 0 18 (dk_at dksX1_markHere_0 4 rfl rfl)
theorem dX1_markHere_7 : decode cX1_markHere 7 = .ok (.invokevirtual 92, 3) := dk_182 0 92 (dk_at dksX1_markHere_0 7 rfl rfl)
theorem dX1_markHere_10 : decode cX1_markHere 10 = .ok (.if_icmp .ge 50, 3) := dk_162 0 50 (dk_at dksX1_markHere_0 10 rfl rfl)
theorem dX1_markHere_13 : decode cX1_markHere 13 = .ok (.aload_n 0, 1) := dk_42 (dk_at dksX1_markHere_0 13 rfl rfl)
theorem dX1_markHere_14 : decode cX1_markHere 14 = .ok (.getfield 18, 3) := dk_180 0 18 (dk_at dksX1_markHere_0 14 rfl rfl)
theorem dX1_markHere_17 : decode cX1_markHere 17 = .ok (.iload_n 1, 1) := dk_27 (dk_at dksX1_markHere_0 17 rfl rfl)
theorem dX1_markHere_18 : decode cX1_markHere 18 = .ok (.invokevirtual 94, 3) := dk_182 0 94 (dk_at dksX1_markHere_0 18 rfl rfl)
theorem dX1_markHere_21 : decode cX1_markHere 21 = .ok (.checkcast 104, 3) := dk_192 0 104 (dk_at dksX1_markHere_0 21 rfl rfl)
theorem dX1_markHere_24 : decode cX1_markHere 24 = .ok (.aload_n 0, 1) := dk_42 (dk_at dksX1_markHere_1 0 rfl rfl)
theorem dX1_markHere_25 : decode cX1_markHere 25 = .ok (.getfield 39, 3) := dk_180 0 39 (dk_at dksX1_markHere_1 1 rfl rfl)
theorem dX1_markHere_28 : decode cX1_markHere 28 = .ok (.aload_n 0, 1) := dk_42 (dk_at dksX1_markHere_1 4 rfl rfl)
theorem dX1_markHere_29 : decode cX1_markHere 29 = .ok (.getfield 26, 3) := dk_180 0 26 (dk_at dksX1_markHere_1 5 rfl rfl)
theorem dX1_markHere_32 : decode cX1_markHere 32 = .ok (.aload_n 0, 1) := dk_42 (dk_at dksX1_markHere_1 8 rfl rfl)
theorem dX1_markHere_33 : decode cX1_markHere 33 = .ok (.getfield 33, 3) := dk_180 0 33 (dk_at dksX1_markHere_1 9 rfl rfl)
theorem dX1_markHere_36 : decode cX1_markHere 36 = .ok (.invokevirtual 106, 3) := dk_182 0 106 (dk_at dksX1_markHere_1 12 rfl rfl)
theorem dX1_markHere_39 : decode cX1_markHere 39 = .ok (.ifCond .eq 15, 3) := dk_153 0 15 (dk_at dksX1_markHere_1 15 rfl rfl)
theorem dX1_markHere_42 : decode cX1_markHere 42 = .ok (.aload_n 0, 1) := dk_42 (dk_at dksX1_markHere_1 18 rfl rfl)
theorem dX1_markHere_43 : decode cX1_markHere 43 = .ok (.getfield 18, 3) := dk_180 0 18 (dk_at dksX1_markHere_1 19 rfl rfl)
theorem dX1_markHere_46 : decode cX1_markHere 46 = .ok (.iload_n 1, 1) := dk_27 (dk_at dksX1_markHere_1 22 rfl rfl)
theorem dX1_markHere_47 : decode cX1_markHere 47 = .ok (.invokevirtual 94, 3) := dk_182 0 94 (dk_at dksX1_markHere_2 0 rfl rfl)
theorem dX1_markHere_50 : decode cX1_markHere 50 = .ok (.checkcast 104, 3) := dk_192 0 104 (dk_at dksX1_markHere_2 3 rfl rfl)
theorem dX1_markHere_53 : decode cX1_markHere 53 = .ok (.areturn, 1) := dk_176 (dk_at dksX1_markHere_2 6 rfl rfl)
theorem dX1_markHere_54 : decode cX1_markHere 54 = .ok (.iinc 1 1, 3) := dk_132 1 1 (dk_at dksX1_markHere_2 7 rfl rfl)
theorem dX1_markHere_57 : decode cX1_markHere 57 = .ok (.goto (-55), 3) := dk_167 255 201 (dk_at dksX1_markHere_2 10 rfl rfl)
theorem dX1_markHere_60 : decode cX1_markHere 60 = .ok (.aconst_null, 1) := dk_1 (dk_at dksX1_markHere_2 13 rfl rfl)
theorem dX1_markHere_61 : decode cX1_markHere 61 = .ok (.areturn, 1) := dk_176 (dk_at dksX1_markHere_2 14 rfl rfl)
abbrev cX1_mark : ByteArray := prog_15_method_18_code
def yX1_mark : MethodName := ⟨RX1, "mark", "()V"⟩
def dkwX1_mark_2 : List UInt8 := [43, 182, 0, 131, 87, 177]
abbrev dktX1_mark_2 : List UInt8 := dkwX1_mark_2 ++ []
def dkwX1_mark_1 : List UInt8 := [42, 43, 182, 0, 148, 42, 182, 0, 66, 153, 0, 11, 42, 43, 182, 0, 148, 167, 255, 244, 42, 180, 0, 18]
abbrev dktX1_mark_1 : List UInt8 := dkwX1_mark_1 ++ dktX1_mark_2
def dkwX1_mark_0 : List UInt8 := [187, 0, 104, 89, 42, 182, 0, 124, 42, 180, 0, 18, 182, 0, 92, 183, 0, 144, 76, 42, 8, 182, 0, 145]
abbrev dktX1_mark_0 : List UInt8 := dkwX1_mark_0 ++ dktX1_mark_1
theorem dksX1_mark_0 : cX1_mark.data.toList.drop 0 = dktX1_mark_0 := by decide +kernel
theorem dksX1_mark_1 : cX1_mark.data.toList.drop 24 = dktX1_mark_1 := dk_seg dksX1_mark_0 24 rfl rfl
theorem dksX1_mark_2 : cX1_mark.data.toList.drop 48 = dktX1_mark_2 := dk_seg dksX1_mark_1 24 rfl rfl
theorem dX1_mark_0 : decode cX1_mark 0 = .ok (.new 104, 3) := dk_187 0 104 (dk_at dksX1_mark_0 0 rfl rfl)
theorem dX1_mark_3 : decode cX1_mark 3 = .ok (.dup, 1) := dk_89 (dk_at dksX1_mark_0 3 rfl rfl)
theorem dX1_mark_4 : decode cX1_mark 4 = .ok (.aload_n 0, 1) := dk_42 (dk_at dksX1_mark_0 4 rfl rfl)
theorem dX1_mark_5 : decode cX1_mark 5 = .ok (.invokevirtual 124, 3) := dk_182 0 124 (dk_at dksX1_mark_0 5 rfl rfl)
theorem dX1_mark_8 : decode cX1_mark 8 = .ok (.aload_n 0, 1) := dk_42 (dk_at dksX1_mark_0 8 rfl rfl)
theorem dX1_mark_9 : decode cX1_mark 9 = .ok (.getfield 18, 3) := dk_180 0 18 (dk_at dksX1_mark_0 9 rfl rfl)
theorem dX1_mark_12 : decode cX1_mark 12 = .ok (.invokevirtual 92, 3) := dk_182 0 92 (dk_at dksX1_mark_0 12 rfl rfl)
theorem dX1_mark_15 : decode cX1_mark 15 = .ok (.invokespecial 144, 3) := dk_183 0 144 (dk_at dksX1_mark_0 15 rfl rfl)
theorem dX1_mark_18 : decode cX1_mark 18 = .ok (.astore_n 1, 1) := dk_76 (dk_at dksX1_mark_0 18 rfl rfl)
theorem dX1_mark_19 : decode cX1_mark 19 = .ok (.aload_n 0, 1) := dk_42 (dk_at dksX1_mark_0 19 rfl rfl)
theorem dX1_mark_20 : decode cX1_mark 20 = .ok (.iconst 5, 1) := dk_8 (dk_at dksX1_mark_0 20 rfl rfl)
theorem dX1_mark_21 : decode cX1_mark 21 = .ok (.invokevirtual 145, 3) := dk_182 0 145 (dk_at dksX1_mark_0 21 rfl rfl)
theorem dX1_mark_24 : decode cX1_mark 24 = .ok (.aload_n 0, 1) := dk_42 (dk_at dksX1_mark_1 0 rfl rfl)
theorem dX1_mark_25 : decode cX1_mark 25 = .ok (.aload_n 1, 1) := dk_43 (dk_at dksX1_mark_1 1 rfl rfl)
theorem dX1_mark_26 : decode cX1_mark 26 = .ok (.invokevirtual 148, 3) := dk_182 0 148 (dk_at dksX1_mark_1 2 rfl rfl)
theorem dX1_mark_29 : decode cX1_mark 29 = .ok (.aload_n 0, 1) := dk_42 (dk_at dksX1_mark_1 5 rfl rfl)
theorem dX1_mark_30 : decode cX1_mark 30 = .ok (.invokevirtual 66, 3) := dk_182 0 66 (dk_at dksX1_mark_1 6 rfl rfl)
theorem dX1_mark_33 : decode cX1_mark 33 = .ok (.ifCond .eq 11, 3) := dk_153 0 11 (dk_at dksX1_mark_1 9 rfl rfl)
theorem dX1_mark_36 : decode cX1_mark 36 = .ok (.aload_n 0, 1) := dk_42 (dk_at dksX1_mark_1 12 rfl rfl)
theorem dX1_mark_37 : decode cX1_mark 37 = .ok (.aload_n 1, 1) := dk_43 (dk_at dksX1_mark_1 13 rfl rfl)
theorem dX1_mark_38 : decode cX1_mark 38 = .ok (.invokevirtual 148, 3) := dk_182 0 148 (dk_at dksX1_mark_1 14 rfl rfl)
theorem dX1_mark_41 : decode cX1_mark 41 = .ok (.goto (-12), 3) := dk_167 255 244 (dk_at dksX1_mark_1 17 rfl rfl)
theorem dX1_mark_44 : decode cX1_mark 44 = .ok (.aload_n 0, 1) := dk_42 (dk_at dksX1_mark_1 20 rfl rfl)
theorem dX1_mark_45 : decode cX1_mark 45 = .ok (.getfield 18, 3) := dk_180 0 18 (dk_at dksX1_mark_1 21 rfl rfl)
theorem dX1_mark_48 : decode cX1_mark 48 = .ok (.aload_n 1, 1) := dk_43 (dk_at dksX1_mark_2 0 rfl rfl)
theorem dX1_mark_49 : decode cX1_mark 49 = .ok (.invokevirtual 131, 3) := dk_182 0 131 (dk_at dksX1_mark_2 1 rfl rfl)
theorem dX1_mark_52 : decode cX1_mark 52 = .ok (.pop, 1) := dk_87 (dk_at dksX1_mark_2 4 rfl rfl)
theorem dX1_mark_53 : decode cX1_mark 53 = .ok (.return_, 1) := dk_177 (dk_at dksX1_mark_2 5 rfl rfl)
abbrev cX1_needsWord : ByteArray := prog_15_method_9_code
def yX1_needsWord : MethodName := ⟨RX1, "needsWord", "(I)V"⟩
def dkwX1_needsWord_0 : List UInt8 := [42, 182, 0, 77, 27, 159, 0, 8, 42, 182, 0, 50, 191, 42, 182, 0, 80, 177]
abbrev dktX1_needsWord_0 : List UInt8 := dkwX1_needsWord_0 ++ []
theorem dksX1_needsWord_0 : cX1_needsWord.data.toList.drop 0 = dktX1_needsWord_0 := by decide +kernel
theorem dX1_needsWord_0 : decode cX1_needsWord 0 = .ok (.aload_n 0, 1) := dk_42 (dk_at dksX1_needsWord_0 0 rfl rfl)
theorem dX1_needsWord_1 : decode cX1_needsWord 1 = .ok (.invokevirtual 77, 3) := dk_182 0 77 (dk_at dksX1_needsWord_0 1 rfl rfl)
theorem dX1_needsWord_4 : decode cX1_needsWord 4 = .ok (.iload_n 1, 1) := dk_27 (dk_at dksX1_needsWord_0 4 rfl rfl)
theorem dX1_needsWord_5 : decode cX1_needsWord 5 = .ok (.if_icmp .eq 8, 3) := dk_159 0 8 (dk_at dksX1_needsWord_0 5 rfl rfl)
theorem dX1_needsWord_8 : decode cX1_needsWord 8 = .ok (.aload_n 0, 1) := dk_42 (dk_at dksX1_needsWord_0 8 rfl rfl)
theorem dX1_needsWord_9 : decode cX1_needsWord 9 = .ok (.invokevirtual 50, 3) := dk_182 0 50 (dk_at dksX1_needsWord_0 9 rfl rfl)
theorem dX1_needsWord_12 : decode cX1_needsWord 12 = .ok (.athrow, 1) := dk_191 (dk_at dksX1_needsWord_0 12 rfl rfl)
theorem dX1_needsWord_13 : decode cX1_needsWord 13 = .ok (.aload_n 0, 1) := dk_42 (dk_at dksX1_needsWord_0 13 rfl rfl)
theorem dX1_needsWord_14 : decode cX1_needsWord 14 = .ok (.invokevirtual 80, 3) := dk_182 0 80 (dk_at dksX1_needsWord_0 14 rfl rfl)
theorem dX1_needsWord_17 : decode cX1_needsWord 17 = .ok (.return_, 1) := dk_177 (dk_at dksX1_needsWord_0 17 rfl rfl)
abbrev cX1_member : ByteArray := prog_15_method_19_code
def yX1_member : MethodName := ⟨RX1, "member", "(LFirstIn$Mark;)V"⟩
def dkwX1_member_2 : List UInt8 := [180, 0, 154, 120, 128, 181, 0, 152, 42, 182, 0, 80, 177]
abbrev dktX1_member_2 : List UInt8 := dkwX1_member_2 ++ []
def dkwX1_member_1 : List UInt8 := [44, 180, 0, 154, 122, 4, 126, 4, 160, 0, 8, 42, 182, 0, 50, 191, 43, 89, 180, 0, 152, 4, 44]
abbrev dktX1_member_1 : List UInt8 := dkwX1_member_1 ++ dktX1_member_2
def dkwX1_member_0 : List UInt8 := [42, 182, 0, 107, 153, 0, 10, 42, 182, 0, 110, 167, 0, 4, 1, 77, 44, 198, 0, 18, 43, 180, 0, 152]
abbrev dktX1_member_0 : List UInt8 := dkwX1_member_0 ++ dktX1_member_1
theorem dksX1_member_0 : cX1_member.data.toList.drop 0 = dktX1_member_0 := by decide +kernel
theorem dksX1_member_1 : cX1_member.data.toList.drop 24 = dktX1_member_1 := dk_seg dksX1_member_0 24 rfl rfl
theorem dksX1_member_2 : cX1_member.data.toList.drop 47 = dktX1_member_2 := dk_seg dksX1_member_1 23 rfl rfl
theorem dX1_member_0 : decode cX1_member 0 = .ok (.aload_n 0, 1) := dk_42 (dk_at dksX1_member_0 0 rfl rfl)
theorem dX1_member_1 : decode cX1_member 1 = .ok (.invokevirtual 107, 3) := dk_182 0 107 (dk_at dksX1_member_0 1 rfl rfl)
theorem dX1_member_4 : decode cX1_member 4 = .ok (.ifCond .eq 10, 3) := dk_153 0 10 (dk_at dksX1_member_0 4 rfl rfl)
theorem dX1_member_7 : decode cX1_member 7 = .ok (.aload_n 0, 1) := dk_42 (dk_at dksX1_member_0 7 rfl rfl)
theorem dX1_member_8 : decode cX1_member 8 = .ok (.invokevirtual 110, 3) := dk_182 0 110 (dk_at dksX1_member_0 8 rfl rfl)
theorem dX1_member_11 : decode cX1_member 11 = .ok (.goto 4, 3) := dk_167 0 4 (dk_at dksX1_member_0 11 rfl rfl)
theorem dX1_member_14 : decode cX1_member 14 = .ok (.aconst_null, 1) := dk_1 (dk_at dksX1_member_0 14 rfl rfl)
theorem dX1_member_15 : decode cX1_member 15 = .ok (.astore_n 2, 1) := dk_77 (dk_at dksX1_member_0 15 rfl rfl)
theorem dX1_member_16 : decode cX1_member 16 = .ok (.aload_n 2, 1) := dk_44 (dk_at dksX1_member_0 16 rfl rfl)
theorem dX1_member_17 : decode cX1_member 17 = .ok (.ifnull 18, 3) := dk_198 0 18 (dk_at dksX1_member_0 17 rfl rfl)
theorem dX1_member_20 : decode cX1_member 20 = .ok (.aload_n 1, 1) := dk_43 (dk_at dksX1_member_0 20 rfl rfl)
theorem dX1_member_21 : decode cX1_member 21 = .ok (.getfield 152, 3) := dk_180 0 152 (dk_at dksX1_member_0 21 rfl rfl)
theorem dX1_member_24 : decode cX1_member 24 = .ok (.aload_n 2, 1) := dk_44 (dk_at dksX1_member_1 0 rfl rfl)
theorem dX1_member_25 : decode cX1_member 25 = .ok (.getfield 154, 3) := dk_180 0 154 (dk_at dksX1_member_1 1 rfl rfl)
theorem dX1_member_28 : decode cX1_member 28 = .ok (.ishr, 1) := dk_122 (dk_at dksX1_member_1 4 rfl rfl)
theorem dX1_member_29 : decode cX1_member 29 = .ok (.iconst 1, 1) := dk_4 (dk_at dksX1_member_1 5 rfl rfl)
theorem dX1_member_30 : decode cX1_member 30 = .ok (.iand, 1) := dk_126 (dk_at dksX1_member_1 6 rfl rfl)
theorem dX1_member_31 : decode cX1_member 31 = .ok (.iconst 1, 1) := dk_4 (dk_at dksX1_member_1 7 rfl rfl)
theorem dX1_member_32 : decode cX1_member 32 = .ok (.if_icmp .ne 8, 3) := dk_160 0 8 (dk_at dksX1_member_1 8 rfl rfl)
theorem dX1_member_35 : decode cX1_member 35 = .ok (.aload_n 0, 1) := dk_42 (dk_at dksX1_member_1 11 rfl rfl)
theorem dX1_member_36 : decode cX1_member 36 = .ok (.invokevirtual 50, 3) := dk_182 0 50 (dk_at dksX1_member_1 12 rfl rfl)
theorem dX1_member_39 : decode cX1_member 39 = .ok (.athrow, 1) := dk_191 (dk_at dksX1_member_1 15 rfl rfl)
theorem dX1_member_40 : decode cX1_member 40 = .ok (.aload_n 1, 1) := dk_43 (dk_at dksX1_member_1 16 rfl rfl)
theorem dX1_member_41 : decode cX1_member 41 = .ok (.dup, 1) := dk_89 (dk_at dksX1_member_1 17 rfl rfl)
theorem dX1_member_42 : decode cX1_member 42 = .ok (.getfield 152, 3) := dk_180 0 152 (dk_at dksX1_member_1 18 rfl rfl)
theorem dX1_member_45 : decode cX1_member 45 = .ok (.iconst 1, 1) := dk_4 (dk_at dksX1_member_1 21 rfl rfl)
theorem dX1_member_46 : decode cX1_member 46 = .ok (.aload_n 2, 1) := dk_44 (dk_at dksX1_member_1 22 rfl rfl)
theorem dX1_member_47 : decode cX1_member 47 = .ok (.getfield 154, 3) := dk_180 0 154 (dk_at dksX1_member_2 0 rfl rfl)
theorem dX1_member_50 : decode cX1_member 50 = .ok (.ishl, 1) := dk_120 (dk_at dksX1_member_2 3 rfl rfl)
theorem dX1_member_51 : decode cX1_member 51 = .ok (.ior, 1) := dk_128 (dk_at dksX1_member_2 4 rfl rfl)
theorem dX1_member_52 : decode cX1_member 52 = .ok (.putfield 152, 3) := dk_181 0 152 (dk_at dksX1_member_2 5 rfl rfl)
theorem dX1_member_55 : decode cX1_member 55 = .ok (.aload_n 0, 1) := dk_42 (dk_at dksX1_member_2 8 rfl rfl)
theorem dX1_member_56 : decode cX1_member 56 = .ok (.invokevirtual 80, 3) := dk_182 0 80 (dk_at dksX1_member_2 9 rfl rfl)
theorem dX1_member_59 : decode cX1_member 59 = .ok (.return_, 1) := dk_177 (dk_at dksX1_member_2 12 rfl rfl)
abbrev cX1_rule : ByteArray := prog_15_method_20_code
def yX1_rule : MethodName := ⟨RX1, "rule", "(I)V"⟩
def dkwX1_rule_9 : List UInt8 := [183, 0, 173, 182, 0, 131, 87, 177]
abbrev dktX1_rule_9 : List UInt8 := dkwX1_rule_9 ++ []
def dkwX1_rule_8 : List UInt8 := [182, 0, 131, 87, 167, 0, 26, 42, 180, 0, 21, 187, 0, 171, 89, 44, 45, 21, 4, 21, 5, 25, 6]
abbrev dktX1_rule_8 : List UInt8 := dkwX1_rule_8 ++ dktX1_rule_9
def dkwX1_rule_7 : List UInt8 := [167, 0, 52, 42, 180, 0, 21, 187, 0, 168, 89, 44, 45, 21, 4, 21, 5, 25, 6, 183, 0, 170]
abbrev dktX1_rule_7 : List UInt8 := dkwX1_rule_7 ++ dktX1_rule_8
def dkwX1_rule_6 : List UInt8 := [42, 180, 0, 21, 187, 0, 163, 89, 44, 45, 21, 4, 21, 5, 25, 6, 183, 0, 165, 182, 0, 131, 87]
abbrev dktX1_rule_6 : List UInt8 := dkwX1_rule_6 ++ dktX1_rule_7
def dkwX1_rule_5 : List UInt8 := [171, 0, 0, 0, 0, 0, 79, 0, 0, 0, 2, 0, 0, 0, 0, 0, 0, 0, 27, 0, 0, 0, 1, 0, 0, 0, 53]
abbrev dktX1_rule_5 : List UInt8 := dkwX1_rule_5 ++ dktX1_rule_6
def dkwX1_rule_4 : List UInt8 := [182, 0, 80, 27]
abbrev dktX1_rule_4 : List UInt8 := dkwX1_rule_4 ++ dktX1_rule_5
def dkwX1_rule_3 : List UInt8 := [153, 0, 10, 42, 182, 0, 114, 167, 0, 4, 1, 58, 6, 25, 6, 199, 0, 8, 42, 182, 0, 50, 191, 42]
abbrev dktX1_rule_3 : List UInt8 := dkwX1_rule_3 ++ dktX1_rule_4
def dkwX1_rule_2 : List UInt8 := [182, 0, 161, 54, 5, 42, 182, 0, 77, 16, 8, 160, 0, 38, 42, 182, 0, 80, 42, 182, 0, 107]
abbrev dktX1_rule_2 : List UInt8 := dkwX1_rule_2 ++ dktX1_rule_3
def dkwX1_rule_1 : List UInt8 := [54, 4, 2, 54, 5, 1, 58, 6, 42, 182, 0, 77, 16, 7, 160, 0, 15, 42, 182, 0, 80, 42, 3, 6]
abbrev dktX1_rule_1 : List UInt8 := dkwX1_rule_1 ++ dktX1_rule_2
def dkwX1_rule_0 : List UInt8 := [42, 182, 0, 157, 77, 42, 182, 0, 157, 78, 42, 16, 6, 182, 0, 145, 42, 4, 16, 9, 182, 0, 161]
abbrev dktX1_rule_0 : List UInt8 := dkwX1_rule_0 ++ dktX1_rule_1
theorem dksX1_rule_0 : cX1_rule.data.toList.drop 0 = dktX1_rule_0 := by decide +kernel
theorem dksX1_rule_1 : cX1_rule.data.toList.drop 23 = dktX1_rule_1 := dk_seg dksX1_rule_0 23 rfl rfl
theorem dksX1_rule_2 : cX1_rule.data.toList.drop 47 = dktX1_rule_2 := dk_seg dksX1_rule_1 24 rfl rfl
theorem dksX1_rule_3 : cX1_rule.data.toList.drop 69 = dktX1_rule_3 := dk_seg dksX1_rule_2 22 rfl rfl
theorem dksX1_rule_4 : cX1_rule.data.toList.drop 93 = dktX1_rule_4 := dk_seg dksX1_rule_3 24 rfl rfl
theorem dksX1_rule_5 : cX1_rule.data.toList.drop 97 = dktX1_rule_5 := dk_seg dksX1_rule_4 4 rfl rfl
theorem dksX1_rule_6 : cX1_rule.data.toList.drop 124 = dktX1_rule_6 := dk_seg dksX1_rule_5 27 rfl rfl
theorem dksX1_rule_7 : cX1_rule.data.toList.drop 147 = dktX1_rule_7 := dk_seg dksX1_rule_6 23 rfl rfl
theorem dksX1_rule_8 : cX1_rule.data.toList.drop 169 = dktX1_rule_8 := dk_seg dksX1_rule_7 22 rfl rfl
theorem dksX1_rule_9 : cX1_rule.data.toList.drop 192 = dktX1_rule_9 := dk_seg dksX1_rule_8 23 rfl rfl
theorem dX1_rule_0 : decode cX1_rule 0 = .ok (.aload_n 0, 1) := dk_42 (dk_at dksX1_rule_0 0 rfl rfl)
theorem dX1_rule_1 : decode cX1_rule 1 = .ok (.invokevirtual 157, 3) := dk_182 0 157 (dk_at dksX1_rule_0 1 rfl rfl)
theorem dX1_rule_4 : decode cX1_rule 4 = .ok (.astore_n 2, 1) := dk_77 (dk_at dksX1_rule_0 4 rfl rfl)
theorem dX1_rule_5 : decode cX1_rule 5 = .ok (.aload_n 0, 1) := dk_42 (dk_at dksX1_rule_0 5 rfl rfl)
theorem dX1_rule_6 : decode cX1_rule 6 = .ok (.invokevirtual 157, 3) := dk_182 0 157 (dk_at dksX1_rule_0 6 rfl rfl)
theorem dX1_rule_9 : decode cX1_rule 9 = .ok (.astore_n 3, 1) := dk_78 (dk_at dksX1_rule_0 9 rfl rfl)
theorem dX1_rule_10 : decode cX1_rule 10 = .ok (.aload_n 0, 1) := dk_42 (dk_at dksX1_rule_0 10 rfl rfl)
theorem dX1_rule_11 : decode cX1_rule 11 = .ok (.bipush 6, 2) := dk_16 6 (dk_at dksX1_rule_0 11 rfl rfl)
theorem dX1_rule_13 : decode cX1_rule 13 = .ok (.invokevirtual 145, 3) := dk_182 0 145 (dk_at dksX1_rule_0 13 rfl rfl)
theorem dX1_rule_16 : decode cX1_rule 16 = .ok (.aload_n 0, 1) := dk_42 (dk_at dksX1_rule_0 16 rfl rfl)
theorem dX1_rule_17 : decode cX1_rule 17 = .ok (.iconst 1, 1) := dk_4 (dk_at dksX1_rule_0 17 rfl rfl)
theorem dX1_rule_18 : decode cX1_rule 18 = .ok (.bipush 9, 2) := dk_16 9 (dk_at dksX1_rule_0 18 rfl rfl)
theorem dX1_rule_20 : decode cX1_rule 20 = .ok (.invokevirtual 161, 3) := dk_182 0 161 (dk_at dksX1_rule_0 20 rfl rfl)
theorem dX1_rule_23 : decode cX1_rule 23 = .ok (.istore 4, 2) := dk_54 4 (dk_at dksX1_rule_1 0 rfl rfl)
theorem dX1_rule_25 : decode cX1_rule 25 = .ok (.iconst (-1), 1) := dk_2 (dk_at dksX1_rule_1 2 rfl rfl)
theorem dX1_rule_26 : decode cX1_rule 26 = .ok (.istore 5, 2) := dk_54 5 (dk_at dksX1_rule_1 3 rfl rfl)
theorem dX1_rule_28 : decode cX1_rule 28 = .ok (.aconst_null, 1) := dk_1 (dk_at dksX1_rule_1 5 rfl rfl)
theorem dX1_rule_29 : decode cX1_rule 29 = .ok (.astore 6, 2) := dk_58 6 (dk_at dksX1_rule_1 6 rfl rfl)
theorem dX1_rule_31 : decode cX1_rule 31 = .ok (.aload_n 0, 1) := dk_42 (dk_at dksX1_rule_1 8 rfl rfl)
theorem dX1_rule_32 : decode cX1_rule 32 = .ok (.invokevirtual 77, 3) := dk_182 0 77 (dk_at dksX1_rule_1 9 rfl rfl)
theorem dX1_rule_35 : decode cX1_rule 35 = .ok (.bipush 7, 2) := dk_16 7 (dk_at dksX1_rule_1 12 rfl rfl)
theorem dX1_rule_37 : decode cX1_rule 37 = .ok (.if_icmp .ne 15, 3) := dk_160 0 15 (dk_at dksX1_rule_1 14 rfl rfl)
theorem dX1_rule_40 : decode cX1_rule 40 = .ok (.aload_n 0, 1) := dk_42 (dk_at dksX1_rule_1 17 rfl rfl)
theorem dX1_rule_41 : decode cX1_rule 41 = .ok (.invokevirtual 80, 3) := dk_182 0 80 (dk_at dksX1_rule_1 18 rfl rfl)
theorem dX1_rule_44 : decode cX1_rule 44 = .ok (.aload_n 0, 1) := dk_42 (dk_at dksX1_rule_1 21 rfl rfl)
theorem dX1_rule_45 : decode cX1_rule 45 = .ok (.iconst 0, 1) := dk_3 (dk_at dksX1_rule_1 22 rfl rfl)
theorem dX1_rule_46 : decode cX1_rule 46 = .ok (.iconst 3, 1) := dk_6 (dk_at dksX1_rule_1 23 rfl rfl)
theorem dX1_rule_47 : decode cX1_rule 47 = .ok (.invokevirtual 161, 3) := dk_182 0 161 (dk_at dksX1_rule_2 0 rfl rfl)
theorem dX1_rule_50 : decode cX1_rule 50 = .ok (.istore 5, 2) := dk_54 5 (dk_at dksX1_rule_2 3 rfl rfl)
theorem dX1_rule_52 : decode cX1_rule 52 = .ok (.aload_n 0, 1) := dk_42 (dk_at dksX1_rule_2 5 rfl rfl)
theorem dX1_rule_53 : decode cX1_rule 53 = .ok (.invokevirtual 77, 3) := dk_182 0 77 (dk_at dksX1_rule_2 6 rfl rfl)
theorem dX1_rule_56 : decode cX1_rule 56 = .ok (.bipush 8, 2) := dk_16 8 (dk_at dksX1_rule_2 9 rfl rfl)
theorem dX1_rule_58 : decode cX1_rule 58 = .ok (.if_icmp .ne 38, 3) := dk_160 0 38 (dk_at dksX1_rule_2 11 rfl rfl)
theorem dX1_rule_61 : decode cX1_rule 61 = .ok (.aload_n 0, 1) := dk_42 (dk_at dksX1_rule_2 14 rfl rfl)
theorem dX1_rule_62 : decode cX1_rule 62 = .ok (.invokevirtual 80, 3) := dk_182 0 80 (dk_at dksX1_rule_2 15 rfl rfl)
theorem dX1_rule_65 : decode cX1_rule 65 = .ok (.aload_n 0, 1) := dk_42 (dk_at dksX1_rule_2 18 rfl rfl)
theorem dX1_rule_66 : decode cX1_rule 66 = .ok (.invokevirtual 107, 3) := dk_182 0 107 (dk_at dksX1_rule_2 19 rfl rfl)
theorem dX1_rule_69 : decode cX1_rule 69 = .ok (.ifCond .eq 10, 3) := dk_153 0 10 (dk_at dksX1_rule_3 0 rfl rfl)
theorem dX1_rule_72 : decode cX1_rule 72 = .ok (.aload_n 0, 1) := dk_42 (dk_at dksX1_rule_3 3 rfl rfl)
theorem dX1_rule_73 : decode cX1_rule 73 = .ok (.invokevirtual 114, 3) := dk_182 0 114 (dk_at dksX1_rule_3 4 rfl rfl)
theorem dX1_rule_76 : decode cX1_rule 76 = .ok (.goto 4, 3) := dk_167 0 4 (dk_at dksX1_rule_3 7 rfl rfl)
theorem dX1_rule_79 : decode cX1_rule 79 = .ok (.aconst_null, 1) := dk_1 (dk_at dksX1_rule_3 10 rfl rfl)
theorem dX1_rule_80 : decode cX1_rule 80 = .ok (.astore 6, 2) := dk_58 6 (dk_at dksX1_rule_3 11 rfl rfl)
theorem dX1_rule_82 : decode cX1_rule 82 = .ok (.aload 6, 2) := dk_25 6 (dk_at dksX1_rule_3 13 rfl rfl)
theorem dX1_rule_84 : decode cX1_rule 84 = .ok (.ifnonnull 8, 3) := dk_199 0 8 (dk_at dksX1_rule_3 15 rfl rfl)
theorem dX1_rule_87 : decode cX1_rule 87 = .ok (.aload_n 0, 1) := dk_42 (dk_at dksX1_rule_3 18 rfl rfl)
theorem dX1_rule_88 : decode cX1_rule 88 = .ok (.invokevirtual 50, 3) := dk_182 0 50 (dk_at dksX1_rule_3 19 rfl rfl)
theorem dX1_rule_91 : decode cX1_rule 91 = .ok (.athrow, 1) := dk_191 (dk_at dksX1_rule_3 22 rfl rfl)
theorem dX1_rule_92 : decode cX1_rule 92 = .ok (.aload_n 0, 1) := dk_42 (dk_at dksX1_rule_3 23 rfl rfl)
theorem dX1_rule_93 : decode cX1_rule 93 = .ok (.invokevirtual 80, 3) := dk_182 0 80 (dk_at dksX1_rule_4 0 rfl rfl)
theorem dX1_rule_96 : decode cX1_rule 96 = .ok (.iload_n 1, 1) := dk_27 (dk_at dksX1_rule_4 3 rfl rfl)
theorem dX1_rule_97 : decode cX1_rule 97 = .ok (.lookupswitch 79 #[(0, 27), (1, 53)], 27) := by decide +kernel
theorem dX1_rule_124 : decode cX1_rule 124 = .ok (.aload_n 0, 1) := dk_42 (dk_at dksX1_rule_6 0 rfl rfl)
theorem dX1_rule_125 : decode cX1_rule 125 = .ok (.getfield 21, 3) := dk_180 0 21 (dk_at dksX1_rule_6 1 rfl rfl)
theorem dX1_rule_128 : decode cX1_rule 128 = .ok (.new 163, 3) := dk_187 0 163 (dk_at dksX1_rule_6 4 rfl rfl)
theorem dX1_rule_131 : decode cX1_rule 131 = .ok (.dup, 1) := dk_89 (dk_at dksX1_rule_6 7 rfl rfl)
theorem dX1_rule_132 : decode cX1_rule 132 = .ok (.aload_n 2, 1) := dk_44 (dk_at dksX1_rule_6 8 rfl rfl)
theorem dX1_rule_133 : decode cX1_rule 133 = .ok (.aload_n 3, 1) := dk_45 (dk_at dksX1_rule_6 9 rfl rfl)
theorem dX1_rule_134 : decode cX1_rule 134 = .ok (.iload 4, 2) := dk_21 4 (dk_at dksX1_rule_6 10 rfl rfl)
theorem dX1_rule_136 : decode cX1_rule 136 = .ok (.iload 5, 2) := dk_21 5 (dk_at dksX1_rule_6 12 rfl rfl)
theorem dX1_rule_138 : decode cX1_rule 138 = .ok (.aload 6, 2) := dk_25 6 (dk_at dksX1_rule_6 14 rfl rfl)
theorem dX1_rule_140 : decode cX1_rule 140 = .ok (.invokespecial 165, 3) := dk_183 0 165 (dk_at dksX1_rule_6 16 rfl rfl)
theorem dX1_rule_143 : decode cX1_rule 143 = .ok (.invokevirtual 131, 3) := dk_182 0 131 (dk_at dksX1_rule_6 19 rfl rfl)
theorem dX1_rule_146 : decode cX1_rule 146 = .ok (.pop, 1) := dk_87 (dk_at dksX1_rule_6 22 rfl rfl)
theorem dX1_rule_147 : decode cX1_rule 147 = .ok (.goto 52, 3) := dk_167 0 52 (dk_at dksX1_rule_7 0 rfl rfl)
theorem dX1_rule_150 : decode cX1_rule 150 = .ok (.aload_n 0, 1) := dk_42 (dk_at dksX1_rule_7 3 rfl rfl)
theorem dX1_rule_151 : decode cX1_rule 151 = .ok (.getfield 21, 3) := dk_180 0 21 (dk_at dksX1_rule_7 4 rfl rfl)
theorem dX1_rule_154 : decode cX1_rule 154 = .ok (.new 168, 3) := dk_187 0 168 (dk_at dksX1_rule_7 7 rfl rfl)
theorem dX1_rule_157 : decode cX1_rule 157 = .ok (.dup, 1) := dk_89 (dk_at dksX1_rule_7 10 rfl rfl)
theorem dX1_rule_158 : decode cX1_rule 158 = .ok (.aload_n 2, 1) := dk_44 (dk_at dksX1_rule_7 11 rfl rfl)
theorem dX1_rule_159 : decode cX1_rule 159 = .ok (.aload_n 3, 1) := dk_45 (dk_at dksX1_rule_7 12 rfl rfl)
theorem dX1_rule_160 : decode cX1_rule 160 = .ok (.iload 4, 2) := dk_21 4 (dk_at dksX1_rule_7 13 rfl rfl)
theorem dX1_rule_162 : decode cX1_rule 162 = .ok (.iload 5, 2) := dk_21 5 (dk_at dksX1_rule_7 15 rfl rfl)
theorem dX1_rule_164 : decode cX1_rule 164 = .ok (.aload 6, 2) := dk_25 6 (dk_at dksX1_rule_7 17 rfl rfl)
theorem dX1_rule_166 : decode cX1_rule 166 = .ok (.invokespecial 170, 3) := dk_183 0 170 (dk_at dksX1_rule_7 19 rfl rfl)
theorem dX1_rule_169 : decode cX1_rule 169 = .ok (.invokevirtual 131, 3) := dk_182 0 131 (dk_at dksX1_rule_8 0 rfl rfl)
theorem dX1_rule_172 : decode cX1_rule 172 = .ok (.pop, 1) := dk_87 (dk_at dksX1_rule_8 3 rfl rfl)
theorem dX1_rule_173 : decode cX1_rule 173 = .ok (.goto 26, 3) := dk_167 0 26 (dk_at dksX1_rule_8 4 rfl rfl)
theorem dX1_rule_176 : decode cX1_rule 176 = .ok (.aload_n 0, 1) := dk_42 (dk_at dksX1_rule_8 7 rfl rfl)
theorem dX1_rule_177 : decode cX1_rule 177 = .ok (.getfield 21, 3) := dk_180 0 21 (dk_at dksX1_rule_8 8 rfl rfl)
theorem dX1_rule_180 : decode cX1_rule 180 = .ok (.new 171, 3) := dk_187 0 171 (dk_at dksX1_rule_8 11 rfl rfl)
theorem dX1_rule_183 : decode cX1_rule 183 = .ok (.dup, 1) := dk_89 (dk_at dksX1_rule_8 14 rfl rfl)
theorem dX1_rule_184 : decode cX1_rule 184 = .ok (.aload_n 2, 1) := dk_44 (dk_at dksX1_rule_8 15 rfl rfl)
theorem dX1_rule_185 : decode cX1_rule 185 = .ok (.aload_n 3, 1) := dk_45 (dk_at dksX1_rule_8 16 rfl rfl)
theorem dX1_rule_186 : decode cX1_rule 186 = .ok (.iload 4, 2) := dk_21 4 (dk_at dksX1_rule_8 17 rfl rfl)
theorem dX1_rule_188 : decode cX1_rule 188 = .ok (.iload 5, 2) := dk_21 5 (dk_at dksX1_rule_8 19 rfl rfl)
theorem dX1_rule_190 : decode cX1_rule 190 = .ok (.aload 6, 2) := dk_25 6 (dk_at dksX1_rule_8 21 rfl rfl)
theorem dX1_rule_192 : decode cX1_rule 192 = .ok (.invokespecial 173, 3) := dk_183 0 173 (dk_at dksX1_rule_9 0 rfl rfl)
theorem dX1_rule_195 : decode cX1_rule 195 = .ok (.invokevirtual 131, 3) := dk_182 0 131 (dk_at dksX1_rule_9 3 rfl rfl)
theorem dX1_rule_198 : decode cX1_rule 198 = .ok (.pop, 1) := dk_87 (dk_at dksX1_rule_9 6 rfl rfl)
theorem dX1_rule_199 : decode cX1_rule 199 = .ok (.return_, 1) := dk_177 (dk_at dksX1_rule_9 7 rfl rfl)
abbrev cX1_side : ByteArray := prog_15_method_16_code
def yX1_side : MethodName := ⟨RX1, "side", "()LFirstIn$Side;"⟩
def dkwX1_side_1 : List UInt8 := [182, 0, 114, 76, 43, 199, 0, 8, 42, 182, 0, 50, 191, 42, 182, 0, 80, 43, 176]
abbrev dktX1_side_1 : List UInt8 := dkwX1_side_1 ++ []
def dkwX1_side_0 : List UInt8 := [42, 182, 0, 107, 154, 0, 8, 42, 182, 0, 50, 191, 42, 182, 0, 110, 76, 43, 199, 0, 8, 42]
abbrev dktX1_side_0 : List UInt8 := dkwX1_side_0 ++ dktX1_side_1
theorem dksX1_side_0 : cX1_side.data.toList.drop 0 = dktX1_side_0 := by decide +kernel
theorem dksX1_side_1 : cX1_side.data.toList.drop 22 = dktX1_side_1 := dk_seg dksX1_side_0 22 rfl rfl
theorem dX1_side_0 : decode cX1_side 0 = .ok (.aload_n 0, 1) := dk_42 (dk_at dksX1_side_0 0 rfl rfl)
theorem dX1_side_1 : decode cX1_side 1 = .ok (.invokevirtual 107, 3) := dk_182 0 107 (dk_at dksX1_side_0 1 rfl rfl)
theorem dX1_side_4 : decode cX1_side 4 = .ok (.ifCond .ne 8, 3) := dk_154 0 8 (dk_at dksX1_side_0 4 rfl rfl)
theorem dX1_side_7 : decode cX1_side 7 = .ok (.aload_n 0, 1) := dk_42 (dk_at dksX1_side_0 7 rfl rfl)
theorem dX1_side_8 : decode cX1_side 8 = .ok (.invokevirtual 50, 3) := dk_182 0 50 (dk_at dksX1_side_0 8 rfl rfl)
theorem dX1_side_11 : decode cX1_side 11 = .ok (.athrow, 1) := dk_191 (dk_at dksX1_side_0 11 rfl rfl)
theorem dX1_side_12 : decode cX1_side 12 = .ok (.aload_n 0, 1) := dk_42 (dk_at dksX1_side_0 12 rfl rfl)
theorem dX1_side_13 : decode cX1_side 13 = .ok (.invokevirtual 110, 3) := dk_182 0 110 (dk_at dksX1_side_0 13 rfl rfl)
theorem dX1_side_16 : decode cX1_side 16 = .ok (.astore_n 1, 1) := dk_76 (dk_at dksX1_side_0 16 rfl rfl)
theorem dX1_side_17 : decode cX1_side 17 = .ok (.aload_n 1, 1) := dk_43 (dk_at dksX1_side_0 17 rfl rfl)
theorem dX1_side_18 : decode cX1_side 18 = .ok (.ifnonnull 8, 3) := dk_199 0 8 (dk_at dksX1_side_0 18 rfl rfl)
theorem dX1_side_21 : decode cX1_side 21 = .ok (.aload_n 0, 1) := dk_42 (dk_at dksX1_side_0 21 rfl rfl)
theorem dX1_side_22 : decode cX1_side 22 = .ok (.invokevirtual 114, 3) := dk_182 0 114 (dk_at dksX1_side_1 0 rfl rfl)
theorem dX1_side_25 : decode cX1_side 25 = .ok (.astore_n 1, 1) := dk_76 (dk_at dksX1_side_1 3 rfl rfl)
theorem dX1_side_26 : decode cX1_side 26 = .ok (.aload_n 1, 1) := dk_43 (dk_at dksX1_side_1 4 rfl rfl)
theorem dX1_side_27 : decode cX1_side 27 = .ok (.ifnonnull 8, 3) := dk_199 0 8 (dk_at dksX1_side_1 5 rfl rfl)
theorem dX1_side_30 : decode cX1_side 30 = .ok (.aload_n 0, 1) := dk_42 (dk_at dksX1_side_1 8 rfl rfl)
theorem dX1_side_31 : decode cX1_side 31 = .ok (.invokevirtual 50, 3) := dk_182 0 50 (dk_at dksX1_side_1 9 rfl rfl)
theorem dX1_side_34 : decode cX1_side 34 = .ok (.athrow, 1) := dk_191 (dk_at dksX1_side_1 12 rfl rfl)
theorem dX1_side_35 : decode cX1_side 35 = .ok (.aload_n 0, 1) := dk_42 (dk_at dksX1_side_1 13 rfl rfl)
theorem dX1_side_36 : decode cX1_side 36 = .ok (.invokevirtual 80, 3) := dk_182 0 80 (dk_at dksX1_side_1 14 rfl rfl)
theorem dX1_side_39 : decode cX1_side 39 = .ok (.aload_n 1, 1) := dk_43 (dk_at dksX1_side_1 17 rfl rfl)
theorem dX1_side_40 : decode cX1_side 40 = .ok (.areturn, 1) := dk_176 (dk_at dksX1_side_1 18 rfl rfl)
abbrev cX1_number : ByteArray := prog_15_method_11_code
def yX1_number : MethodName := ⟨RX1, "number", "(II)I"⟩
def dkwX1_number_3 : List UInt8 := [167, 255, 222, 29, 27, 28, 184, 0, 88, 154, 0, 8, 42, 182, 0, 50, 191, 42, 182, 0, 80, 29, 172]
abbrev dktX1_number_3 : List UInt8 := dkwX1_number_3 ++ []
def dkwX1_number_2 : List UInt8 := [16, 10, 29, 104, 42, 180, 0, 39, 21, 4, 51, 96, 16, 48, 100, 184, 0, 83, 62, 132, 4, 1]
abbrev dktX1_number_2 : List UInt8 := dkwX1_number_2 ++ dktX1_number_3
def dkwX1_number_1 : List UInt8 := [182, 0, 50, 191, 3, 62, 42, 180, 0, 26, 54, 4, 21, 4, 42, 180, 0, 33, 162, 0, 31, 17, 3, 232]
abbrev dktX1_number_1 : List UInt8 := dkwX1_number_1 ++ dktX1_number_2
def dkwX1_number_0 : List UInt8 := [42, 182, 0, 54, 154, 0, 18, 42, 180, 0, 39, 42, 180, 0, 26, 51, 184, 0, 47, 154, 0, 8, 42]
abbrev dktX1_number_0 : List UInt8 := dkwX1_number_0 ++ dktX1_number_1
theorem dksX1_number_0 : cX1_number.data.toList.drop 0 = dktX1_number_0 := by decide +kernel
theorem dksX1_number_1 : cX1_number.data.toList.drop 23 = dktX1_number_1 := dk_seg dksX1_number_0 23 rfl rfl
theorem dksX1_number_2 : cX1_number.data.toList.drop 47 = dktX1_number_2 := dk_seg dksX1_number_1 24 rfl rfl
theorem dksX1_number_3 : cX1_number.data.toList.drop 69 = dktX1_number_3 := dk_seg dksX1_number_2 22 rfl rfl
theorem dX1_number_0 : decode cX1_number 0 = .ok (.aload_n 0, 1) := dk_42 (dk_at dksX1_number_0 0 rfl rfl)
theorem dX1_number_1 : decode cX1_number 1 = .ok (.invokevirtual 54, 3) := dk_182 0 54 (dk_at dksX1_number_0 1 rfl rfl)
theorem dX1_number_4 : decode cX1_number 4 = .ok (.ifCond .ne 18, 3) := dk_154 0 18 (dk_at dksX1_number_0 4 rfl rfl)
theorem dX1_number_7 : decode cX1_number 7 = .ok (.aload_n 0, 1) := dk_42 (dk_at dksX1_number_0 7 rfl rfl)
theorem dX1_number_8 : decode cX1_number 8 = .ok (.getfield 39, 3) := dk_180 0 39 (dk_at dksX1_number_0 8 rfl rfl)
theorem dX1_number_11 : decode cX1_number 11 = .ok (.aload_n 0, 1) := dk_42 (dk_at dksX1_number_0 11 rfl rfl)
theorem dX1_number_12 : decode cX1_number 12 = .ok (.getfield 26, 3) := dk_180 0 26 (dk_at dksX1_number_0 12 rfl rfl)
theorem dX1_number_15 : decode cX1_number 15 = .ok (.baload, 1) := dk_51 (dk_at dksX1_number_0 15 rfl rfl)
theorem dX1_number_16 : decode cX1_number 16 = .ok (.invokestatic 47, 3) := dk_184 0 47 (dk_at dksX1_number_0 16 rfl rfl)
theorem dX1_number_19 : decode cX1_number 19 = .ok (.ifCond .ne 8, 3) := dk_154 0 8 (dk_at dksX1_number_0 19 rfl rfl)
theorem dX1_number_22 : decode cX1_number 22 = .ok (.aload_n 0, 1) := dk_42 (dk_at dksX1_number_0 22 rfl rfl)
theorem dX1_number_23 : decode cX1_number 23 = .ok (.invokevirtual 50, 3) := dk_182 0 50 (dk_at dksX1_number_1 0 rfl rfl)
theorem dX1_number_26 : decode cX1_number 26 = .ok (.athrow, 1) := dk_191 (dk_at dksX1_number_1 3 rfl rfl)
theorem dX1_number_27 : decode cX1_number 27 = .ok (.iconst 0, 1) := dk_3 (dk_at dksX1_number_1 4 rfl rfl)
theorem dX1_number_28 : decode cX1_number 28 = .ok (.istore_n 3, 1) := dk_62 (dk_at dksX1_number_1 5 rfl rfl)
theorem dX1_number_29 : decode cX1_number 29 = .ok (.aload_n 0, 1) := dk_42 (dk_at dksX1_number_1 6 rfl rfl)
theorem dX1_number_30 : decode cX1_number 30 = .ok (.getfield 26, 3) := dk_180 0 26 (dk_at dksX1_number_1 7 rfl rfl)
theorem dX1_number_33 : decode cX1_number 33 = .ok (.istore 4, 2) := dk_54 4 (dk_at dksX1_number_1 10 rfl rfl)
theorem dX1_number_35 : decode cX1_number 35 = .ok (.iload 4, 2) := dk_21 4 (dk_at dksX1_number_1 12 rfl rfl)
theorem dX1_number_37 : decode cX1_number 37 = .ok (.aload_n 0, 1) := dk_42 (dk_at dksX1_number_1 14 rfl rfl)
theorem dX1_number_38 : decode cX1_number 38 = .ok (.getfield 33, 3) := dk_180 0 33 (dk_at dksX1_number_1 15 rfl rfl)
theorem dX1_number_41 : decode cX1_number 41 = .ok (.if_icmp .ge 31, 3) := dk_162 0 31 (dk_at dksX1_number_1 18 rfl rfl)
theorem dX1_number_44 : decode cX1_number 44 = .ok (.sipush 1000, 3) := dk_17 3 232 (dk_at dksX1_number_1 21 rfl rfl)
theorem dX1_number_47 : decode cX1_number 47 = .ok (.bipush 10, 2) := dk_16 10 (dk_at dksX1_number_2 0 rfl rfl)
theorem dX1_number_49 : decode cX1_number 49 = .ok (.iload_n 3, 1) := dk_29 (dk_at dksX1_number_2 2 rfl rfl)
theorem dX1_number_50 : decode cX1_number 50 = .ok (.imul, 1) := dk_104 (dk_at dksX1_number_2 3 rfl rfl)
theorem dX1_number_51 : decode cX1_number 51 = .ok (.aload_n 0, 1) := dk_42 (dk_at dksX1_number_2 4 rfl rfl)
theorem dX1_number_52 : decode cX1_number 52 = .ok (.getfield 39, 3) := dk_180 0 39 (dk_at dksX1_number_2 5 rfl rfl)
theorem dX1_number_55 : decode cX1_number 55 = .ok (.iload 4, 2) := dk_21 4 (dk_at dksX1_number_2 8 rfl rfl)
theorem dX1_number_57 : decode cX1_number 57 = .ok (.baload, 1) := dk_51 (dk_at dksX1_number_2 10 rfl rfl)
theorem dX1_number_58 : decode cX1_number 58 = .ok (.iadd, 1) := dk_96 (dk_at dksX1_number_2 11 rfl rfl)
theorem dX1_number_59 : decode cX1_number 59 = .ok (.bipush 48, 2) := dk_16 48 (dk_at dksX1_number_2 12 rfl rfl)
theorem dX1_number_61 : decode cX1_number 61 = .ok (.isub, 1) := dk_100 (dk_at dksX1_number_2 14 rfl rfl)
theorem dX1_number_62 : decode cX1_number 62 = .ok (.invokestatic 83, 3) := dk_184 0 83 (dk_at dksX1_number_2 15 rfl rfl)
theorem dX1_number_65 : decode cX1_number 65 = .ok (.istore_n 3, 1) := dk_62 (dk_at dksX1_number_2 18 rfl rfl)
theorem dX1_number_66 : decode cX1_number 66 = .ok (.iinc 4 1, 3) := dk_132 4 1 (dk_at dksX1_number_2 19 rfl rfl)
theorem dX1_number_69 : decode cX1_number 69 = .ok (.goto (-34), 3) := dk_167 255 222 (dk_at dksX1_number_3 0 rfl rfl)
theorem dX1_number_72 : decode cX1_number 72 = .ok (.iload_n 3, 1) := dk_29 (dk_at dksX1_number_3 3 rfl rfl)
theorem dX1_number_73 : decode cX1_number 73 = .ok (.iload_n 1, 1) := dk_27 (dk_at dksX1_number_3 4 rfl rfl)
theorem dX1_number_74 : decode cX1_number 74 = .ok (.iload_n 2, 1) := dk_28 (dk_at dksX1_number_3 5 rfl rfl)
theorem dX1_number_75 : decode cX1_number 75 = .ok (.invokestatic 88, 3) := dk_184 0 88 (dk_at dksX1_number_3 6 rfl rfl)
theorem dX1_number_78 : decode cX1_number 78 = .ok (.ifCond .ne 8, 3) := dk_154 0 8 (dk_at dksX1_number_3 9 rfl rfl)
theorem dX1_number_81 : decode cX1_number 81 = .ok (.aload_n 0, 1) := dk_42 (dk_at dksX1_number_3 12 rfl rfl)
theorem dX1_number_82 : decode cX1_number 82 = .ok (.invokevirtual 50, 3) := dk_182 0 50 (dk_at dksX1_number_3 13 rfl rfl)
theorem dX1_number_85 : decode cX1_number 85 = .ok (.athrow, 1) := dk_191 (dk_at dksX1_number_3 16 rfl rfl)
theorem dX1_number_86 : decode cX1_number 86 = .ok (.aload_n 0, 1) := dk_42 (dk_at dksX1_number_3 17 rfl rfl)
theorem dX1_number_87 : decode cX1_number 87 = .ok (.invokevirtual 80, 3) := dk_182 0 80 (dk_at dksX1_number_3 18 rfl rfl)
theorem dX1_number_90 : decode cX1_number 90 = .ok (.iload_n 3, 1) := dk_29 (dk_at dksX1_number_3 21 rfl rfl)
theorem dX1_number_91 : decode cX1_number 91 = .ok (.ireturn, 1) := dk_172 (dk_at dksX1_number_3 22 rfl rfl)
abbrev cX1_over : ByteArray := prog_15_method_10_code
def yX1_over : MethodName := ⟨RX1, "over", "()V"⟩
def dkwX1_over_1 : List UInt8 := [182, 0, 50, 191, 42, 182, 0, 80, 177]
abbrev dktX1_over_1 : List UInt8 := dkwX1_over_1 ++ []
def dkwX1_over_0 : List UInt8 := [42, 182, 0, 54, 154, 0, 17, 42, 180, 0, 39, 42, 180, 0, 26, 51, 16, 59, 159, 0, 8, 42]
abbrev dktX1_over_0 : List UInt8 := dkwX1_over_0 ++ dktX1_over_1
theorem dksX1_over_0 : cX1_over.data.toList.drop 0 = dktX1_over_0 := by decide +kernel
theorem dksX1_over_1 : cX1_over.data.toList.drop 22 = dktX1_over_1 := dk_seg dksX1_over_0 22 rfl rfl
theorem dX1_over_0 : decode cX1_over 0 = .ok (.aload_n 0, 1) := dk_42 (dk_at dksX1_over_0 0 rfl rfl)
theorem dX1_over_1 : decode cX1_over 1 = .ok (.invokevirtual 54, 3) := dk_182 0 54 (dk_at dksX1_over_0 1 rfl rfl)
theorem dX1_over_4 : decode cX1_over 4 = .ok (.ifCond .ne 17, 3) := dk_154 0 17 (dk_at dksX1_over_0 4 rfl rfl)
theorem dX1_over_7 : decode cX1_over 7 = .ok (.aload_n 0, 1) := dk_42 (dk_at dksX1_over_0 7 rfl rfl)
theorem dX1_over_8 : decode cX1_over 8 = .ok (.getfield 39, 3) := dk_180 0 39 (dk_at dksX1_over_0 8 rfl rfl)
theorem dX1_over_11 : decode cX1_over 11 = .ok (.aload_n 0, 1) := dk_42 (dk_at dksX1_over_0 11 rfl rfl)
theorem dX1_over_12 : decode cX1_over 12 = .ok (.getfield 26, 3) := dk_180 0 26 (dk_at dksX1_over_0 12 rfl rfl)
theorem dX1_over_15 : decode cX1_over 15 = .ok (.baload, 1) := dk_51 (dk_at dksX1_over_0 15 rfl rfl)
theorem dX1_over_16 : decode cX1_over 16 = .ok (.bipush 59, 2) := dk_16 59 (dk_at dksX1_over_0 16 rfl rfl)
theorem dX1_over_18 : decode cX1_over 18 = .ok (.if_icmp .eq 8, 3) := dk_159 0 8 (dk_at dksX1_over_0 18 rfl rfl)
theorem dX1_over_21 : decode cX1_over 21 = .ok (.aload_n 0, 1) := dk_42 (dk_at dksX1_over_0 21 rfl rfl)
theorem dX1_over_22 : decode cX1_over 22 = .ok (.invokevirtual 50, 3) := dk_182 0 50 (dk_at dksX1_over_1 0 rfl rfl)
theorem dX1_over_25 : decode cX1_over 25 = .ok (.athrow, 1) := dk_191 (dk_at dksX1_over_1 3 rfl rfl)
theorem dX1_over_26 : decode cX1_over 26 = .ok (.aload_n 0, 1) := dk_42 (dk_at dksX1_over_1 4 rfl rfl)
theorem dX1_over_27 : decode cX1_over 27 = .ok (.invokevirtual 80, 3) := dk_182 0 80 (dk_at dksX1_over_1 5 rfl rfl)
theorem dX1_over_30 : decode cX1_over 30 = .ok (.return_, 1) := dk_177 (dk_at dksX1_over_1 8 rfl rfl)
theorem q103 : (Jvm.Cond.initialized "FirstIn$Reader") ∈ lw_all := lw_g (lw_at lw_m1 2 rfl) rfl
theorem q153 : (Jvm.Cond.instantiable "FirstIn$Reader" (7 : Nat)) ∈ lw_all := lw_g (lw_at lw_m1 52 rfl) rfl
theorem q155 : (Jvm.Cond.instanceMethod ({ cls := "FirstIn$Reader", name := "<init>", desc := "()V" } : Jvm.MethodName)) ∈ lw_all := lw_g (lw_at lw_m1 54 rfl) rfl
theorem q156 : (Jvm.Cond.code ({ cls := "FirstIn$Reader", name := "<init>", desc := "()V" } : Jvm.MethodName) prog_15_method_1_code (1 : Nat) (Option.none : Option Jvm.ClassFile.FieldType)) ∈ lw_all := lw_g (lw_at lw_m1 55 rfl) rfl
theorem q157 : (Jvm.Cond.methodLink "FirstIn$Reader" (3 : Nat) ({ cls := "java/lang/Object", name := "<init>", desc := "()V" } : Jvm.MethodName)) ∈ lw_all := lw_g (lw_at lw_m1 56 rfl) rfl
theorem q158 : (Jvm.Cond.classLink "FirstIn$Reader" (9 : Nat) "java/util/ArrayList") ∈ lw_all := lw_g (lw_at lw_m1 57 rfl) rfl
theorem q160 : (Jvm.Cond.methodLink "FirstIn$Reader" (11 : Nat) ({ cls := "java/util/ArrayList", name := "<init>", desc := "()V" } : Jvm.MethodName)) ∈ lw_all := lw_g (lw_at lw_m1 59 rfl) rfl
theorem q185 : (Jvm.Cond.fieldLink "FirstIn$Reader" (39 : Nat) "FirstIn$Reader" "text" "[B") ∈ lw_all := lw_g (lw_at lw_m1 84 rfl) rfl
theorem q186 : (Jvm.Cond.fieldLink "FirstIn$Reader" (36 : Nat) "FirstIn$Reader" "size" "I") ∈ lw_all := lw_g (lw_at lw_m1 85 rfl) rfl
theorem q187 : (Jvm.Cond.fieldLink "FirstIn$Reader" (33 : Nat) "FirstIn$Reader" "at" "I") ∈ lw_all := lw_g (lw_at lw_m1 86 rfl) rfl
theorem q188 : (Jvm.Cond.fieldLink "FirstIn$Reader" (26 : Nat) "FirstIn$Reader" "begin" "I") ∈ lw_all := lw_g (lw_at lw_m1 87 rfl) rfl
theorem q189 : (Jvm.Cond.fieldLink "FirstIn$Reader" (12 : Nat) "FirstIn$Reader" "guests" "Ljava/util/ArrayList;") ∈ lw_all := lw_g (lw_at lw_m1 88 rfl) rfl
theorem q191 : (Jvm.Cond.fieldLink "FirstIn$Reader" (18 : Nat) "FirstIn$Reader" "marks" "Ljava/util/ArrayList;") ∈ lw_all := lw_g (lw_at lw_m1 90 rfl) rfl
theorem q193 : (Jvm.Cond.fieldLink "FirstIn$Reader" (21 : Nat) "FirstIn$Reader" "rules" "Ljava/util/ArrayList;") ∈ lw_all := lw_g (lw_at lw_m1 92 rfl) rfl
theorem q195 : (Jvm.Cond.lays "FirstIn$Reader" "FirstIn$Reader" "text" "[B") ∈ lw_all := lw_g (lw_at lw_m1 94 rfl) rfl
theorem q196 : (Jvm.Cond.soleField "FirstIn$Reader" "text") ∈ lw_all := lw_g (lw_at lw_m1 95 rfl) rfl
theorem q197 : (Jvm.Cond.lays "FirstIn$Reader" "FirstIn$Reader" "size" "I") ∈ lw_all := lw_g (lw_at lw_m1 96 rfl) rfl
theorem q198 : (Jvm.Cond.soleField "FirstIn$Reader" "size") ∈ lw_all := lw_g (lw_at lw_m1 97 rfl) rfl
theorem q199 : (Jvm.Cond.lays "FirstIn$Reader" "FirstIn$Reader" "at" "I") ∈ lw_all := lw_g (lw_at lw_m1 98 rfl) rfl
theorem q200 : (Jvm.Cond.soleField "FirstIn$Reader" "at") ∈ lw_all := lw_g (lw_at lw_m1 99 rfl) rfl
theorem q201 : (Jvm.Cond.lays "FirstIn$Reader" "FirstIn$Reader" "begin" "I") ∈ lw_all := lw_g (lw_at lw_m1 100 rfl) rfl
theorem q202 : (Jvm.Cond.soleField "FirstIn$Reader" "begin") ∈ lw_all := lw_g (lw_at lw_m1 101 rfl) rfl
theorem q203 : (Jvm.Cond.laysFinal "FirstIn$Reader" "FirstIn$Reader" "guests" "Ljava/util/ArrayList;") ∈ lw_all := lw_g (lw_at lw_m1 102 rfl) rfl
theorem q204 : (Jvm.Cond.soleField "FirstIn$Reader" "guests") ∈ lw_all := lw_g (lw_at lw_m1 103 rfl) rfl
theorem q205 : (Jvm.Cond.laysFinal "FirstIn$Reader" "FirstIn$Reader" "marks" "Ljava/util/ArrayList;") ∈ lw_all := lw_g (lw_at lw_m1 104 rfl) rfl
theorem q206 : (Jvm.Cond.soleField "FirstIn$Reader" "marks") ∈ lw_all := lw_g (lw_at lw_m1 105 rfl) rfl
theorem q207 : (Jvm.Cond.laysFinal "FirstIn$Reader" "FirstIn$Reader" "rules" "Ljava/util/ArrayList;") ∈ lw_all := lw_g (lw_at lw_m1 106 rfl) rfl
theorem q208 : (Jvm.Cond.soleField "FirstIn$Reader" "rules") ∈ lw_all := lw_g (lw_at lw_m1 107 rfl) rfl
theorem q209 : (Jvm.Cond.superclass "FirstIn$Reader" "java/lang/Object") ∈ lw_all := lw_g (lw_at lw_m1 108 rfl) rfl
theorem q277 : (Jvm.Cond.instanceMethod ({ cls := "FirstIn$Reader", name := "read", desc := "([BI)V" } : Jvm.MethodName)) ∈ lw_all := lw_g (lw_at lw_m1 176 rfl) rfl
theorem q278 : (Jvm.Cond.selects "FirstIn$Reader" ({ cls := "FirstIn$Reader", name := "read", desc := "([BI)V" } : Jvm.MethodName) ({ cls := "FirstIn$Reader", name := "read", desc := "([BI)V" } : Jvm.MethodName)) ∈ lw_all := lw_g (lw_at lw_m1 177 rfl) rfl
theorem q279 : (Jvm.Cond.code ({ cls := "FirstIn$Reader", name := "read", desc := "([BI)V" } : Jvm.MethodName) prog_15_method_21_code (3 : Nat) (Option.none : Option Jvm.ClassFile.FieldType)) ∈ lw_all := lw_g (lw_at lw_m1 178 rfl) rfl
theorem q280 : (Jvm.Cond.methodLink "FirstIn$Reader" (174 : Nat) ({ cls := "java/util/ArrayList", name := "clear", desc := "()V" } : Jvm.MethodName)) ∈ lw_all := lw_g (lw_at lw_m1 179 rfl) rfl
theorem q284 : (Jvm.Cond.methodLink "FirstIn$Reader" (80 : Nat) ({ cls := "FirstIn$Reader", name := "next", desc := "()V" } : Jvm.MethodName)) ∈ lw_all := lw_g (lw_at lw_m1 183 rfl) rfl
theorem q285 : (Jvm.Cond.privateMethod ({ cls := "FirstIn$Reader", name := "next", desc := "()V" } : Jvm.MethodName)) ∈ lw_tbl := lw_at lw_m1 184 rfl
theorem q286 : (Jvm.Cond.instanceMethod ({ cls := "FirstIn$Reader", name := "next", desc := "()V" } : Jvm.MethodName)) ∈ lw_all := lw_g (lw_at lw_m1 185 rfl) rfl
theorem q287 : (Jvm.Cond.code ({ cls := "FirstIn$Reader", name := "next", desc := "()V" } : Jvm.MethodName) prog_15_method_5_code (2 : Nat) (Option.none : Option Jvm.ClassFile.FieldType)) ∈ lw_all := lw_g (lw_at lw_m1 186 rfl) rfl
theorem q288 : (Jvm.Cond.methodLink "FirstIn$Reader" (43 : Nat) ({ cls := "FirstIn$Reader", name := "isLetter", desc := "(I)Z" } : Jvm.MethodName)) ∈ lw_all := lw_g (lw_at lw_m1 187 rfl) rfl
theorem q289 : (Jvm.Cond.static ({ cls := "FirstIn$Reader", name := "isLetter", desc := "(I)Z" } : Jvm.MethodName)) ∈ lw_all := lw_g (lw_at lw_m1 188 rfl) rfl
theorem q290 : (Jvm.Cond.code ({ cls := "FirstIn$Reader", name := "isLetter", desc := "(I)Z" } : Jvm.MethodName) prog_15_method_2_code (1 : Nat) (Option.some Jvm.ClassFile.FieldType.boolean)) ∈ lw_all := lw_g (lw_at lw_m1 189 rfl) rfl
theorem q291 : (Jvm.Cond.methodLink "FirstIn$Reader" (47 : Nat) ({ cls := "FirstIn$Reader", name := "isDigit", desc := "(I)Z" } : Jvm.MethodName)) ∈ lw_all := lw_g (lw_at lw_m1 190 rfl) rfl
theorem q292 : (Jvm.Cond.static ({ cls := "FirstIn$Reader", name := "isDigit", desc := "(I)Z" } : Jvm.MethodName)) ∈ lw_all := lw_g (lw_at lw_m1 191 rfl) rfl
theorem q293 : (Jvm.Cond.code ({ cls := "FirstIn$Reader", name := "isDigit", desc := "(I)Z" } : Jvm.MethodName) prog_15_method_3_code (1 : Nat) (Option.some Jvm.ClassFile.FieldType.boolean)) ∈ lw_all := lw_g (lw_at lw_m1 192 rfl) rfl
theorem q294 : (Jvm.Cond.methodLink "FirstIn$Reader" (50 : Nat) ({ cls := "FirstIn$Reader", name := "wrong", desc := "()LFirstIn$Fault;" } : Jvm.MethodName)) ∈ lw_all := lw_g (lw_at lw_m1 193 rfl) rfl
theorem q295 : (Jvm.Cond.privateMethod ({ cls := "FirstIn$Reader", name := "wrong", desc := "()LFirstIn$Fault;" } : Jvm.MethodName)) ∈ lw_tbl := lw_at lw_m1 194 rfl
theorem q296 : (Jvm.Cond.instanceMethod ({ cls := "FirstIn$Reader", name := "wrong", desc := "()LFirstIn$Fault;" } : Jvm.MethodName)) ∈ lw_all := lw_g (lw_at lw_m1 195 rfl) rfl
theorem q297 : (Jvm.Cond.code ({ cls := "FirstIn$Reader", name := "wrong", desc := "()LFirstIn$Fault;" } : Jvm.MethodName) prog_15_method_4_code (1 : Nat) (Option.some (Jvm.ClassFile.FieldType.object "FirstIn$Fault"))) ∈ lw_all := lw_g (lw_at lw_m1 196 rfl) rfl
theorem q298 : (Jvm.Cond.classLink "FirstIn$Reader" (24 : Nat) "FirstIn$Fault") ∈ lw_all := lw_g (lw_at lw_m1 197 rfl) rfl
theorem q337 : (Jvm.Cond.methodLink "FirstIn$Reader" (30 : Nat) ({ cls := "FirstIn$Fault", name := "<init>", desc := "(I)V" } : Jvm.MethodName)) ∈ lw_all := lw_g (lw_at lw_m1 236 rfl) rfl
theorem q366 : (Jvm.Cond.methodLink "FirstIn$Reader" (177 : Nat) ({ cls := "FirstIn$Reader", name := "line", desc := "()V" } : Jvm.MethodName)) ∈ lw_all := lw_g (lw_at lw_m2 25 rfl) rfl
theorem q367 : (Jvm.Cond.privateMethod ({ cls := "FirstIn$Reader", name := "line", desc := "()V" } : Jvm.MethodName)) ∈ lw_tbl := lw_at lw_m2 26 rfl
theorem q368 : (Jvm.Cond.instanceMethod ({ cls := "FirstIn$Reader", name := "line", desc := "()V" } : Jvm.MethodName)) ∈ lw_all := lw_g (lw_at lw_m2 27 rfl) rfl
theorem q369 : (Jvm.Cond.code ({ cls := "FirstIn$Reader", name := "line", desc := "()V" } : Jvm.MethodName) prog_15_method_17_code (3 : Nat) (Option.none : Option Jvm.ClassFile.FieldType)) ∈ lw_all := lw_g (lw_at lw_m2 28 rfl) rfl
theorem q370 : (Jvm.Cond.methodLink "FirstIn$Reader" (77 : Nat) ({ cls := "FirstIn$Reader", name := "word", desc := "()I" } : Jvm.MethodName)) ∈ lw_all := lw_g (lw_at lw_m2 29 rfl) rfl
theorem q371 : (Jvm.Cond.privateMethod ({ cls := "FirstIn$Reader", name := "word", desc := "()I" } : Jvm.MethodName)) ∈ lw_tbl := lw_at lw_m2 30 rfl
theorem q372 : (Jvm.Cond.instanceMethod ({ cls := "FirstIn$Reader", name := "word", desc := "()I" } : Jvm.MethodName)) ∈ lw_all := lw_g (lw_at lw_m2 31 rfl) rfl
theorem q373 : (Jvm.Cond.code ({ cls := "FirstIn$Reader", name := "word", desc := "()I" } : Jvm.MethodName) prog_15_method_8_code (5 : Nat) (Option.some Jvm.ClassFile.FieldType.int)) ∈ lw_all := lw_g (lw_at lw_m2 32 rfl) rfl
theorem q374 : (Jvm.Cond.stringRef "FirstIn$Reader" (58 : Nat) "guest mark above even apart is by in unless ") ∈ lw_tbl := lw_at lw_m2 33 rfl
theorem q375 : (Jvm.Cond.methodLink "FirstIn$Reader" (60 : Nat) ({ cls := "java/lang/String", name := "length", desc := "()I" } : Jvm.MethodName)) ∈ lw_all := lw_g (lw_at lw_m2 34 rfl) rfl
theorem q385 : (Jvm.Cond.methodLink "FirstIn$Reader" (66 : Nat) ({ cls := "FirstIn$Reader", name := "isWord", desc := "()Z" } : Jvm.MethodName)) ∈ lw_all := lw_g (lw_at lw_m2 44 rfl) rfl
theorem q386 : (Jvm.Cond.privateMethod ({ cls := "FirstIn$Reader", name := "isWord", desc := "()Z" } : Jvm.MethodName)) ∈ lw_tbl := lw_at lw_m2 45 rfl
theorem q387 : (Jvm.Cond.instanceMethod ({ cls := "FirstIn$Reader", name := "isWord", desc := "()Z" } : Jvm.MethodName)) ∈ lw_all := lw_g (lw_at lw_m2 46 rfl) rfl
theorem q388 : (Jvm.Cond.code ({ cls := "FirstIn$Reader", name := "isWord", desc := "()Z" } : Jvm.MethodName) prog_15_method_7_code (1 : Nat) (Option.some Jvm.ClassFile.FieldType.boolean)) ∈ lw_all := lw_g (lw_at lw_m2 47 rfl) rfl
theorem q389 : (Jvm.Cond.methodLink "FirstIn$Reader" (54 : Nat) ({ cls := "FirstIn$Reader", name := "isOver", desc := "()Z" } : Jvm.MethodName)) ∈ lw_all := lw_g (lw_at lw_m2 48 rfl) rfl
theorem q390 : (Jvm.Cond.privateMethod ({ cls := "FirstIn$Reader", name := "isOver", desc := "()Z" } : Jvm.MethodName)) ∈ lw_tbl := lw_at lw_m2 49 rfl
theorem q391 : (Jvm.Cond.instanceMethod ({ cls := "FirstIn$Reader", name := "isOver", desc := "()Z" } : Jvm.MethodName)) ∈ lw_all := lw_g (lw_at lw_m2 50 rfl) rfl
theorem q392 : (Jvm.Cond.code ({ cls := "FirstIn$Reader", name := "isOver", desc := "()Z" } : Jvm.MethodName) prog_15_method_6_code (1 : Nat) (Option.some Jvm.ClassFile.FieldType.boolean)) ∈ lw_all := lw_g (lw_at lw_m2 51 rfl) rfl
theorem q393 : (Jvm.Cond.methodLink "FirstIn$Reader" (69 : Nat) ({ cls := "java/lang/String", name := "indexOf", desc := "(II)I" } : Jvm.MethodName)) ∈ lw_all := lw_g (lw_at lw_m2 52 rfl) rfl
theorem q466 : (Jvm.Cond.methodLink "FirstIn$Reader" (73 : Nat) ({ cls := "java/lang/String", name := "charAt", desc := "(I)C" } : Jvm.MethodName)) ∈ lw_all := lw_g (lw_at lw_m2 125 rfl) rfl
theorem q486 : (Jvm.Cond.methodLink "FirstIn$Reader" (92 : Nat) ({ cls := "java/util/ArrayList", name := "size", desc := "()I" } : Jvm.MethodName)) ∈ lw_all := lw_g (lw_at lw_m2 145 rfl) rfl
theorem q490 : (Jvm.Cond.methodLinkNest "FirstIn$Reader" (88 : Nat) ({ cls := "FirstIn", name := "in", desc := "(III)Z" } : Jvm.MethodName) "FirstIn") ∈ lw_tbl := lw_at lw_m2 149 rfl
theorem q491 : (Jvm.Cond.classLink "FirstIn$Reader" (98 : Nat) "FirstIn$Guest") ∈ lw_all := lw_g (lw_at lw_m2 150 rfl) rfl
theorem q493 : (Jvm.Cond.methodLink "FirstIn$Reader" (124 : Nat) ({ cls := "FirstIn$Reader", name := "newName", desc := "()[B" } : Jvm.MethodName)) ∈ lw_all := lw_g (lw_at lw_m2 152 rfl) rfl
theorem q494 : (Jvm.Cond.privateMethod ({ cls := "FirstIn$Reader", name := "newName", desc := "()[B" } : Jvm.MethodName)) ∈ lw_tbl := lw_at lw_m2 153 rfl
theorem q495 : (Jvm.Cond.instanceMethod ({ cls := "FirstIn$Reader", name := "newName", desc := "()[B" } : Jvm.MethodName)) ∈ lw_all := lw_g (lw_at lw_m2 154 rfl) rfl
theorem q496 : (Jvm.Cond.code ({ cls := "FirstIn$Reader", name := "newName", desc := "()[B" } : Jvm.MethodName) prog_15_method_15_code (2 : Nat) (Option.some (Jvm.ClassFile.FieldType.array Jvm.ClassFile.FieldType.byte))) ∈ lw_all := lw_g (lw_at lw_m2 155 rfl) rfl
theorem q497 : (Jvm.Cond.methodLink "FirstIn$Reader" (107 : Nat) ({ cls := "FirstIn$Reader", name := "isName", desc := "()Z" } : Jvm.MethodName)) ∈ lw_all := lw_g (lw_at lw_m2 156 rfl) rfl
theorem q498 : (Jvm.Cond.privateMethod ({ cls := "FirstIn$Reader", name := "isName", desc := "()Z" } : Jvm.MethodName)) ∈ lw_tbl := lw_at lw_m2 157 rfl
theorem q499 : (Jvm.Cond.instanceMethod ({ cls := "FirstIn$Reader", name := "isName", desc := "()Z" } : Jvm.MethodName)) ∈ lw_all := lw_g (lw_at lw_m2 158 rfl) rfl
theorem q500 : (Jvm.Cond.code ({ cls := "FirstIn$Reader", name := "isName", desc := "()Z" } : Jvm.MethodName) prog_15_method_12_code (1 : Nat) (Option.some Jvm.ClassFile.FieldType.boolean)) ∈ lw_all := lw_g (lw_at lw_m2 159 rfl) rfl
theorem q501 : (Jvm.Cond.methodLink "FirstIn$Reader" (110 : Nat) ({ cls := "FirstIn$Reader", name := "guestHere", desc := "()LFirstIn$Guest;" } : Jvm.MethodName)) ∈ lw_all := lw_g (lw_at lw_m2 160 rfl) rfl
theorem q502 : (Jvm.Cond.privateMethod ({ cls := "FirstIn$Reader", name := "guestHere", desc := "()LFirstIn$Guest;" } : Jvm.MethodName)) ∈ lw_tbl := lw_at lw_m2 161 rfl
theorem q503 : (Jvm.Cond.instanceMethod ({ cls := "FirstIn$Reader", name := "guestHere", desc := "()LFirstIn$Guest;" } : Jvm.MethodName)) ∈ lw_all := lw_g (lw_at lw_m2 162 rfl) rfl
theorem q504 : (Jvm.Cond.code ({ cls := "FirstIn$Reader", name := "guestHere", desc := "()LFirstIn$Guest;" } : Jvm.MethodName) prog_15_method_13_code (2 : Nat) (Option.some (Jvm.ClassFile.FieldType.object "FirstIn$Guest"))) ∈ lw_all := lw_g (lw_at lw_m2 163 rfl) rfl
theorem q505 : (Jvm.Cond.methodLink "FirstIn$Reader" (94 : Nat) ({ cls := "java/util/ArrayList", name := "get", desc := "(I)Ljava/lang/Object;" } : Jvm.MethodName)) ∈ lw_all := lw_g (lw_at lw_m2 164 rfl) rfl
theorem q517 : (Jvm.Cond.methodLink "FirstIn$Reader" (100 : Nat) ({ cls := "FirstIn$Guest", name := "isNamed", desc := "([BII)Z" } : Jvm.MethodName)) ∈ lw_all := lw_g (lw_at lw_m2 176 rfl) rfl
theorem q523 : (Jvm.Cond.methodLink "FirstIn$Reader" (114 : Nat) ({ cls := "FirstIn$Reader", name := "markHere", desc := "()LFirstIn$Mark;" } : Jvm.MethodName)) ∈ lw_all := lw_g (lw_at lw_m2 182 rfl) rfl
theorem q524 : (Jvm.Cond.privateMethod ({ cls := "FirstIn$Reader", name := "markHere", desc := "()LFirstIn$Mark;" } : Jvm.MethodName)) ∈ lw_tbl := lw_at lw_m2 183 rfl
theorem q525 : (Jvm.Cond.instanceMethod ({ cls := "FirstIn$Reader", name := "markHere", desc := "()LFirstIn$Mark;" } : Jvm.MethodName)) ∈ lw_all := lw_g (lw_at lw_m2 184 rfl) rfl
theorem q526 : (Jvm.Cond.code ({ cls := "FirstIn$Reader", name := "markHere", desc := "()LFirstIn$Mark;" } : Jvm.MethodName) prog_15_method_14_code (2 : Nat) (Option.some (Jvm.ClassFile.FieldType.object "FirstIn$Mark"))) ∈ lw_all := lw_g (lw_at lw_m2 185 rfl) rfl
theorem q527 : (Jvm.Cond.classLink "FirstIn$Reader" (104 : Nat) "FirstIn$Mark") ∈ lw_all := lw_g (lw_at lw_m2 186 rfl) rfl
theorem q528 : (Jvm.Cond.methodLink "FirstIn$Reader" (106 : Nat) ({ cls := "FirstIn$Mark", name := "isNamed", desc := "([BII)Z" } : Jvm.MethodName)) ∈ lw_all := lw_g (lw_at lw_m2 187 rfl) rfl
theorem q531 : (Jvm.Cond.methodLink "FirstIn$Reader" (118 : Nat) ({ cls := "java/lang/System", name := "arraycopy", desc := "(Ljava/lang/Object;ILjava/lang/Object;II)V" } : Jvm.MethodName)) ∈ lw_all := lw_g (lw_at lw_m2 190 rfl) rfl
theorem q534 : (Jvm.Cond.methodLink "FirstIn$Reader" (128 : Nat) ({ cls := "FirstIn$Guest", name := "<init>", desc := "([BI)V" } : Jvm.MethodName)) ∈ lw_all := lw_g (lw_at lw_m2 193 rfl) rfl
theorem q561 : (Jvm.Cond.fieldLink "FirstIn$Reader" (154 : Nat) "FirstIn$Guest" "number" "I") ∈ lw_all := lw_g (lw_at lw_m2 220 rfl) rfl
theorem q576 : (Jvm.Cond.methodLink "FirstIn$Reader" (131 : Nat) ({ cls := "java/util/ArrayList", name := "add", desc := "(Ljava/lang/Object;)Z" } : Jvm.MethodName)) ∈ lw_all := lw_g (lw_at lw_m2 235 rfl) rfl
theorem q619 : (Jvm.Cond.selects "FirstIn$Reader" ({ cls := "java/lang/Object", name := "getClass", desc := "()Ljava/lang/Class;" } : Jvm.MethodName) ({ cls := "java/lang/Object", name := "getClass", desc := "()Ljava/lang/Class;" } : Jvm.MethodName)) ∈ lw_all := lw_g (lw_at lw_m3 38 rfl) rfl
theorem q638 : (Jvm.Cond.methodLink "FirstIn$Reader" (135 : Nat) ({ cls := "FirstIn$Reader", name := "mark", desc := "()V" } : Jvm.MethodName)) ∈ lw_all := lw_g (lw_at lw_m3 57 rfl) rfl
theorem q639 : (Jvm.Cond.privateMethod ({ cls := "FirstIn$Reader", name := "mark", desc := "()V" } : Jvm.MethodName)) ∈ lw_tbl := lw_at lw_m3 58 rfl
theorem q640 : (Jvm.Cond.instanceMethod ({ cls := "FirstIn$Reader", name := "mark", desc := "()V" } : Jvm.MethodName)) ∈ lw_all := lw_g (lw_at lw_m3 59 rfl) rfl
theorem q641 : (Jvm.Cond.code ({ cls := "FirstIn$Reader", name := "mark", desc := "()V" } : Jvm.MethodName) prog_15_method_18_code (2 : Nat) (Option.none : Option Jvm.ClassFile.FieldType)) ∈ lw_all := lw_g (lw_at lw_m3 60 rfl) rfl
theorem q643 : (Jvm.Cond.methodLink "FirstIn$Reader" (144 : Nat) ({ cls := "FirstIn$Mark", name := "<init>", desc := "([BI)V" } : Jvm.MethodName)) ∈ lw_all := lw_g (lw_at lw_m3 62 rfl) rfl
theorem q649 : (Jvm.Cond.fieldLinkNest "FirstIn$Reader" (152 : Nat) "FirstIn$Mark" "guests" "I" "FirstIn") ∈ lw_tbl := lw_at lw_m3 68 rfl
theorem q655 : (Jvm.Cond.methodLink "FirstIn$Reader" (145 : Nat) ({ cls := "FirstIn$Reader", name := "needsWord", desc := "(I)V" } : Jvm.MethodName)) ∈ lw_all := lw_g (lw_at lw_m3 74 rfl) rfl
theorem q656 : (Jvm.Cond.privateMethod ({ cls := "FirstIn$Reader", name := "needsWord", desc := "(I)V" } : Jvm.MethodName)) ∈ lw_tbl := lw_at lw_m3 75 rfl
theorem q657 : (Jvm.Cond.instanceMethod ({ cls := "FirstIn$Reader", name := "needsWord", desc := "(I)V" } : Jvm.MethodName)) ∈ lw_all := lw_g (lw_at lw_m3 76 rfl) rfl
theorem q658 : (Jvm.Cond.code ({ cls := "FirstIn$Reader", name := "needsWord", desc := "(I)V" } : Jvm.MethodName) prog_15_method_9_code (2 : Nat) (Option.none : Option Jvm.ClassFile.FieldType)) ∈ lw_all := lw_g (lw_at lw_m3 77 rfl) rfl
theorem q659 : (Jvm.Cond.methodLink "FirstIn$Reader" (148 : Nat) ({ cls := "FirstIn$Reader", name := "member", desc := "(LFirstIn$Mark;)V" } : Jvm.MethodName)) ∈ lw_all := lw_g (lw_at lw_m3 78 rfl) rfl
theorem q660 : (Jvm.Cond.privateMethod ({ cls := "FirstIn$Reader", name := "member", desc := "(LFirstIn$Mark;)V" } : Jvm.MethodName)) ∈ lw_tbl := lw_at lw_m3 79 rfl
theorem q661 : (Jvm.Cond.instanceMethod ({ cls := "FirstIn$Reader", name := "member", desc := "(LFirstIn$Mark;)V" } : Jvm.MethodName)) ∈ lw_all := lw_g (lw_at lw_m3 80 rfl) rfl
theorem q662 : (Jvm.Cond.code ({ cls := "FirstIn$Reader", name := "member", desc := "(LFirstIn$Mark;)V" } : Jvm.MethodName) prog_15_method_19_code (3 : Nat) (Option.none : Option Jvm.ClassFile.FieldType)) ∈ lw_all := lw_g (lw_at lw_m3 81 rfl) rfl
theorem q663 : (Jvm.Cond.methodLink "FirstIn$Reader" (138 : Nat) ({ cls := "FirstIn$Reader", name := "rule", desc := "(I)V" } : Jvm.MethodName)) ∈ lw_all := lw_g (lw_at lw_m3 82 rfl) rfl
theorem q664 : (Jvm.Cond.privateMethod ({ cls := "FirstIn$Reader", name := "rule", desc := "(I)V" } : Jvm.MethodName)) ∈ lw_tbl := lw_at lw_m3 83 rfl
theorem q665 : (Jvm.Cond.instanceMethod ({ cls := "FirstIn$Reader", name := "rule", desc := "(I)V" } : Jvm.MethodName)) ∈ lw_all := lw_g (lw_at lw_m3 84 rfl) rfl
theorem q666 : (Jvm.Cond.code ({ cls := "FirstIn$Reader", name := "rule", desc := "(I)V" } : Jvm.MethodName) prog_15_method_20_code (7 : Nat) (Option.none : Option Jvm.ClassFile.FieldType)) ∈ lw_all := lw_g (lw_at lw_m3 85 rfl) rfl
theorem q667 : (Jvm.Cond.methodLink "FirstIn$Reader" (157 : Nat) ({ cls := "FirstIn$Reader", name := "side", desc := "()LFirstIn$Side;" } : Jvm.MethodName)) ∈ lw_all := lw_g (lw_at lw_m3 86 rfl) rfl
theorem q668 : (Jvm.Cond.privateMethod ({ cls := "FirstIn$Reader", name := "side", desc := "()LFirstIn$Side;" } : Jvm.MethodName)) ∈ lw_tbl := lw_at lw_m3 87 rfl
theorem q669 : (Jvm.Cond.instanceMethod ({ cls := "FirstIn$Reader", name := "side", desc := "()LFirstIn$Side;" } : Jvm.MethodName)) ∈ lw_all := lw_g (lw_at lw_m3 88 rfl) rfl
theorem q670 : (Jvm.Cond.code ({ cls := "FirstIn$Reader", name := "side", desc := "()LFirstIn$Side;" } : Jvm.MethodName) prog_15_method_16_code (2 : Nat) (Option.some (Jvm.ClassFile.FieldType.object "FirstIn$Side"))) ∈ lw_all := lw_g (lw_at lw_m3 89 rfl) rfl
theorem q671 : (Jvm.Cond.methodLink "FirstIn$Reader" (161 : Nat) ({ cls := "FirstIn$Reader", name := "number", desc := "(II)I" } : Jvm.MethodName)) ∈ lw_all := lw_g (lw_at lw_m3 90 rfl) rfl
theorem q672 : (Jvm.Cond.privateMethod ({ cls := "FirstIn$Reader", name := "number", desc := "(II)I" } : Jvm.MethodName)) ∈ lw_tbl := lw_at lw_m3 91 rfl
theorem q673 : (Jvm.Cond.instanceMethod ({ cls := "FirstIn$Reader", name := "number", desc := "(II)I" } : Jvm.MethodName)) ∈ lw_all := lw_g (lw_at lw_m3 92 rfl) rfl
theorem q674 : (Jvm.Cond.code ({ cls := "FirstIn$Reader", name := "number", desc := "(II)I" } : Jvm.MethodName) prog_15_method_11_code (5 : Nat) (Option.some Jvm.ClassFile.FieldType.int)) ∈ lw_all := lw_g (lw_at lw_m3 93 rfl) rfl
theorem q675 : (Jvm.Cond.methodLink "FirstIn$Reader" (83 : Nat) ({ cls := "java/lang/Math", name := "min", desc := "(II)I" } : Jvm.MethodName)) ∈ lw_all := lw_g (lw_at lw_m3 94 rfl) rfl
theorem q676 : (Jvm.Cond.classLink "FirstIn$Reader" (163 : Nat) "FirstIn$AboveRule") ∈ lw_all := lw_g (lw_at lw_m3 95 rfl) rfl
theorem q678 : (Jvm.Cond.methodLink "FirstIn$Reader" (165 : Nat) ({ cls := "FirstIn$AboveRule", name := "<init>", desc := "(LFirstIn$Side;LFirstIn$Side;IILFirstIn$Mark;)V" } : Jvm.MethodName)) ∈ lw_all := lw_g (lw_at lw_m3 97 rfl) rfl
theorem q762 : (Jvm.Cond.classLink "FirstIn$Reader" (168 : Nat) "FirstIn$EvenRule") ∈ lw_all := lw_g (lw_at lw_m3 181 rfl) rfl
theorem q764 : (Jvm.Cond.methodLink "FirstIn$Reader" (170 : Nat) ({ cls := "FirstIn$EvenRule", name := "<init>", desc := "(LFirstIn$Side;LFirstIn$Side;IILFirstIn$Mark;)V" } : Jvm.MethodName)) ∈ lw_all := lw_g (lw_at lw_m3 183 rfl) rfl
theorem q779 : (Jvm.Cond.classLink "FirstIn$Reader" (171 : Nat) "FirstIn$ApartRule") ∈ lw_all := lw_g (lw_at lw_m3 198 rfl) rfl
theorem q781 : (Jvm.Cond.methodLink "FirstIn$Reader" (173 : Nat) ({ cls := "FirstIn$ApartRule", name := "<init>", desc := "(LFirstIn$Side;LFirstIn$Side;IILFirstIn$Mark;)V" } : Jvm.MethodName)) ∈ lw_all := lw_g (lw_at lw_m3 200 rfl) rfl
theorem q793 : (Jvm.Cond.methodLink "FirstIn$Reader" (141 : Nat) ({ cls := "FirstIn$Reader", name := "over", desc := "()V" } : Jvm.MethodName)) ∈ lw_all := lw_g (lw_at lw_m3 212 rfl) rfl
theorem q794 : (Jvm.Cond.privateMethod ({ cls := "FirstIn$Reader", name := "over", desc := "()V" } : Jvm.MethodName)) ∈ lw_tbl := lw_at lw_m3 213 rfl
theorem q795 : (Jvm.Cond.instanceMethod ({ cls := "FirstIn$Reader", name := "over", desc := "()V" } : Jvm.MethodName)) ∈ lw_all := lw_g (lw_at lw_m3 214 rfl) rfl
theorem q796 : (Jvm.Cond.code ({ cls := "FirstIn$Reader", name := "over", desc := "()V" } : Jvm.MethodName) prog_15_method_10_code (1 : Nat) (Option.none : Option Jvm.ClassFile.FieldType)) ∈ lw_all := lw_g (lw_at lw_m3 215 rfl) rfl
theorem q797 : (Jvm.Cond.methodLink "FirstIn$Reader" (180 : Nat) ({ cls := "java/util/ArrayList", name := "isEmpty", desc := "()Z" } : Jvm.MethodName)) ∈ lw_all := lw_g (lw_at lw_m3 216 rfl) rfl
theorem q2009 : (Jvm.Cond.castable "FirstIn$Reader" "java/lang/Object") ∈ lw_tbl := lw_at lw_m8 228 rfl
theorem in_X1 : ∀ w ∈ wsX10, w ∈ lw_all := lw_in wsX10 [195, 197, 199, 201, 203, 205, 207] (by decide +kernel) (by decide +kernel)

/-! FirstIn$Mutual -/
set_option maxRecDepth 100000
def RX10 : String := "FirstIn$Mutual"
abbrev cX10_holds : ByteArray := prog_14_method_2_code
def yX10_holds : MethodName := ⟨RX10, "holds", "(II)Z"⟩
def dkwX10_holds_1 : List UInt8 := [167, 0, 4, 3, 172]
abbrev dktX10_holds_1 : List UInt8 := dkwX10_holds_1 ++ []
def dkwX10_holds_0 : List UInt8 := [27, 28, 162, 0, 25, 42, 27, 28, 182, 0, 7, 154, 0, 12, 42, 28, 27, 182, 0, 7, 153, 0, 7, 4]
abbrev dktX10_holds_0 : List UInt8 := dkwX10_holds_0 ++ dktX10_holds_1
theorem dksX10_holds_0 : cX10_holds.data.toList.drop 0 = dktX10_holds_0 := by decide +kernel
theorem dksX10_holds_1 : cX10_holds.data.toList.drop 24 = dktX10_holds_1 := dk_seg dksX10_holds_0 24 rfl rfl
theorem dX10_holds_0 : decode cX10_holds 0 = .ok (.iload_n 1, 1) := dk_27 (dk_at dksX10_holds_0 0 rfl rfl)
theorem dX10_holds_1 : decode cX10_holds 1 = .ok (.iload_n 2, 1) := dk_28 (dk_at dksX10_holds_0 1 rfl rfl)
theorem dX10_holds_2 : decode cX10_holds 2 = .ok (.if_icmp .ge 25, 3) := dk_162 0 25 (dk_at dksX10_holds_0 2 rfl rfl)
theorem dX10_holds_5 : decode cX10_holds 5 = .ok (.aload_n 0, 1) := dk_42 (dk_at dksX10_holds_0 5 rfl rfl)
theorem dX10_holds_6 : decode cX10_holds 6 = .ok (.iload_n 1, 1) := dk_27 (dk_at dksX10_holds_0 6 rfl rfl)
theorem dX10_holds_7 : decode cX10_holds 7 = .ok (.iload_n 2, 1) := dk_28 (dk_at dksX10_holds_0 7 rfl rfl)
theorem dX10_holds_8 : decode cX10_holds 8 = .ok (.invokevirtual 7, 3) := dk_182 0 7 (dk_at dksX10_holds_0 8 rfl rfl)
theorem dX10_holds_11 : decode cX10_holds 11 = .ok (.ifCond .ne 12, 3) := dk_154 0 12 (dk_at dksX10_holds_0 11 rfl rfl)
theorem dX10_holds_14 : decode cX10_holds 14 = .ok (.aload_n 0, 1) := dk_42 (dk_at dksX10_holds_0 14 rfl rfl)
theorem dX10_holds_15 : decode cX10_holds 15 = .ok (.iload_n 2, 1) := dk_28 (dk_at dksX10_holds_0 15 rfl rfl)
theorem dX10_holds_16 : decode cX10_holds 16 = .ok (.iload_n 1, 1) := dk_27 (dk_at dksX10_holds_0 16 rfl rfl)
theorem dX10_holds_17 : decode cX10_holds 17 = .ok (.invokevirtual 7, 3) := dk_182 0 7 (dk_at dksX10_holds_0 17 rfl rfl)
theorem dX10_holds_20 : decode cX10_holds 20 = .ok (.ifCond .eq 7, 3) := dk_153 0 7 (dk_at dksX10_holds_0 20 rfl rfl)
theorem dX10_holds_23 : decode cX10_holds 23 = .ok (.iconst 1, 1) := dk_4 (dk_at dksX10_holds_0 23 rfl rfl)
theorem dX10_holds_24 : decode cX10_holds 24 = .ok (.goto 4, 3) := dk_167 0 4 (dk_at dksX10_holds_1 0 rfl rfl)
theorem dX10_holds_27 : decode cX10_holds 27 = .ok (.iconst 0, 1) := dk_3 (dk_at dksX10_holds_1 3 rfl rfl)
theorem dX10_holds_28 : decode cX10_holds 28 = .ok (.ireturn, 1) := dk_172 (dk_at dksX10_holds_1 4 rfl rfl)
abbrev cX10_init : ByteArray := prog_14_method_1_code
def yX10_init : MethodName := ⟨RX10, "<init>", "(LFirstIn$Side;LFirstIn$Side;IILFirstIn$Mark;)V"⟩
def dkwX10_init_0 : List UInt8 := [42, 43, 44, 29, 21, 4, 25, 5, 183, 0, 1, 177]
abbrev dktX10_init_0 : List UInt8 := dkwX10_init_0 ++ []
theorem dksX10_init_0 : cX10_init.data.toList.drop 0 = dktX10_init_0 := by decide +kernel
theorem dX10_init_0 : decode cX10_init 0 = .ok (.aload_n 0, 1) := dk_42 (dk_at dksX10_init_0 0 rfl rfl)
theorem dX10_init_1 : decode cX10_init 1 = .ok (.aload_n 1, 1) := dk_43 (dk_at dksX10_init_0 1 rfl rfl)
theorem dX10_init_2 : decode cX10_init 2 = .ok (.aload_n 2, 1) := dk_44 (dk_at dksX10_init_0 2 rfl rfl)
theorem dX10_init_3 : decode cX10_init 3 = .ok (.iload_n 3, 1) := dk_29 (dk_at dksX10_init_0 3 rfl rfl)
theorem dX10_init_4 : decode cX10_init 4 = .ok (.iload 4, 2) := dk_21 4 (dk_at dksX10_init_0 4 rfl rfl)
theorem dX10_init_6 : decode cX10_init 6 = .ok (.aload 5, 2) := dk_25 5 (dk_at dksX10_init_0 6 rfl rfl)
theorem dX10_init_8 : decode cX10_init 8 = .ok (.invokespecial 1, 3) := dk_183 0 1 (dk_at dksX10_init_0 8 rfl rfl)
theorem dX10_init_11 : decode cX10_init 11 = .ok (.return_, 1) := dk_177 (dk_at dksX10_init_0 11 rfl rfl)
theorem q128 : (Jvm.Cond.initialized "FirstIn$Mutual") ∈ lw_all := lw_g (lw_at lw_m1 27 rfl) rfl
theorem q692 : (Jvm.Cond.instanceMethod ({ cls := "FirstIn$Mutual", name := "holds", desc := "(II)Z" } : Jvm.MethodName)) ∈ lw_all := lw_g (lw_at lw_m3 111 rfl) rfl
theorem q693 : (Jvm.Cond.code ({ cls := "FirstIn$Mutual", name := "holds", desc := "(II)Z" } : Jvm.MethodName) prog_14_method_2_code (3 : Nat) (Option.some Jvm.ClassFile.FieldType.boolean)) ∈ lw_all := lw_g (lw_at lw_m3 112 rfl) rfl
theorem q694 : (Jvm.Cond.methodLink "FirstIn$Mutual" (7 : Nat) ({ cls := "FirstIn$Mutual", name := "isTold", desc := "(II)Z" } : Jvm.MethodName)) ∈ lw_all := lw_g (lw_at lw_m3 113 rfl) rfl
theorem q695 : (Jvm.Cond.sameMethod "FirstIn$Mutual" "FirstIn$Rule" "isTold" "(II)Z") ∈ lw_all := lw_g (lw_at lw_m3 114 rfl) rfl
theorem q768 : (Jvm.Cond.instanceMethod ({ cls := "FirstIn$Mutual", name := "<init>", desc := "(LFirstIn$Side;LFirstIn$Side;IILFirstIn$Mark;)V" } : Jvm.MethodName)) ∈ lw_all := lw_g (lw_at lw_m3 187 rfl) rfl
theorem q769 : (Jvm.Cond.code ({ cls := "FirstIn$Mutual", name := "<init>", desc := "(LFirstIn$Side;LFirstIn$Side;IILFirstIn$Mark;)V" } : Jvm.MethodName) prog_14_method_1_code (6 : Nat) (Option.none : Option Jvm.ClassFile.FieldType)) ∈ lw_all := lw_g (lw_at lw_m3 188 rfl) rfl
theorem q770 : (Jvm.Cond.methodLink "FirstIn$Mutual" (1 : Nat) ({ cls := "FirstIn$Rule", name := "<init>", desc := "(LFirstIn$Side;LFirstIn$Side;IILFirstIn$Mark;)V" } : Jvm.MethodName)) ∈ lw_all := lw_g (lw_at lw_m3 189 rfl) rfl

/-! FirstIn$EvenRule -/
set_option maxRecDepth 100000
def RX11 : String := "FirstIn$EvenRule"
def TX11 : u_T := fun k => match k with
  | 0 => ("FirstIn$Rule", "first", "LFirstIn$Side;", true)
  | 1 => ("FirstIn$Rule", "second", "LFirstIn$Side;", true)
  | 2 => ("FirstIn$Rule", "weight", "I", true)
  | 3 => ("FirstIn$Rule", "room", "I", true)
  | 4 => ("FirstIn$Rule", "unless", "LFirstIn$Mark;", true)
  | 5 => ("FirstIn$Rule", "rests", "Z", false)
  | _ => ("FirstIn$Rule", "couples", "Ljava/util/ArrayList;", true)
def tyX11 : Nat → FieldType := fun k => match k with
  | 0 => .object "FirstIn$Side"
  | 1 => .object "FirstIn$Side"
  | 2 => .int
  | 3 => .int
  | 4 => .object "FirstIn$Mark"
  | 5 => .boolean
  | _ => .object "java/util/ArrayList"
abbrev wsX110 : List Cond := u_ws RX11 TX11 7
theorem nmX11 : ∀ a, a < 7 → ∀ b, b < 7 → a ≠ b → (TX11 a).2.1 ≠ (TX11 b).2.1 := by decide +kernel
theorem tyX11_ok : ∀ k, k < 7 → parseFieldDescriptor (TX11 k).2.2.1 = some (tyX11 k) := by decide +kernel
abbrev cX11_init : ByteArray := prog_7_method_1_code
def yX11_init : MethodName := ⟨RX11, "<init>", "(LFirstIn$Side;LFirstIn$Side;IILFirstIn$Mark;)V"⟩
def dkwX11_init_0 : List UInt8 := [42, 43, 44, 29, 21, 4, 25, 5, 183, 0, 3, 177]
abbrev dktX11_init_0 : List UInt8 := dkwX11_init_0 ++ []
theorem dksX11_init_0 : cX11_init.data.toList.drop 0 = dktX11_init_0 := by decide +kernel
theorem dX11_init_0 : decode cX11_init 0 = .ok (.aload_n 0, 1) := dk_42 (dk_at dksX11_init_0 0 rfl rfl)
theorem dX11_init_1 : decode cX11_init 1 = .ok (.aload_n 1, 1) := dk_43 (dk_at dksX11_init_0 1 rfl rfl)
theorem dX11_init_2 : decode cX11_init 2 = .ok (.aload_n 2, 1) := dk_44 (dk_at dksX11_init_0 2 rfl rfl)
theorem dX11_init_3 : decode cX11_init 3 = .ok (.iload_n 3, 1) := dk_29 (dk_at dksX11_init_0 3 rfl rfl)
theorem dX11_init_4 : decode cX11_init 4 = .ok (.iload 4, 2) := dk_21 4 (dk_at dksX11_init_0 4 rfl rfl)
theorem dX11_init_6 : decode cX11_init 6 = .ok (.aload 5, 2) := dk_25 5 (dk_at dksX11_init_0 6 rfl rfl)
theorem dX11_init_8 : decode cX11_init 8 = .ok (.invokespecial 3, 3) := dk_183 0 3 (dk_at dksX11_init_0 8 rfl rfl)
theorem dX11_init_11 : decode cX11_init 11 = .ok (.return_, 1) := dk_177 (dk_at dksX11_init_0 11 rfl rfl)
abbrev cX11_kind : ByteArray := prog_7_method_2_code
def yX11_kind : MethodName := ⟨RX11, "kind", "()I"⟩
theorem dX11_kind_0 : decode cX11_kind 0 = .ok (.iconst 1, 1) := by decide +kernel
theorem dX11_kind_1 : decode cX11_kind 1 = .ok (.ireturn, 1) := by decide +kernel
abbrev cX11_minds : ByteArray := prog_7_method_3_code
def yX11_minds : MethodName := ⟨RX11, "minds", "(LFirstIn$Room;III)I"⟩
def dkwX11_minds_1 : List UInt8 := [160, 0, 7, 4, 167, 0, 4, 3, 172]
abbrev dktX11_minds_1 : List UInt8 := dkwX11_minds_1 ++ []
def dkwX11_minds_0 : List UInt8 := [43, 28, 29, 21, 4, 182, 0, 9, 54, 5, 21, 5, 4, 160, 0, 7, 5, 167, 0, 14, 21, 5, 5]
abbrev dktX11_minds_0 : List UInt8 := dkwX11_minds_0 ++ dktX11_minds_1
theorem dksX11_minds_0 : cX11_minds.data.toList.drop 0 = dktX11_minds_0 := by decide +kernel
theorem dksX11_minds_1 : cX11_minds.data.toList.drop 23 = dktX11_minds_1 := dk_seg dksX11_minds_0 23 rfl rfl
theorem dX11_minds_0 : decode cX11_minds 0 = .ok (.aload_n 1, 1) := dk_43 (dk_at dksX11_minds_0 0 rfl rfl)
theorem dX11_minds_1 : decode cX11_minds 1 = .ok (.iload_n 2, 1) := dk_28 (dk_at dksX11_minds_0 1 rfl rfl)
theorem dX11_minds_2 : decode cX11_minds 2 = .ok (.iload_n 3, 1) := dk_29 (dk_at dksX11_minds_0 2 rfl rfl)
theorem dX11_minds_3 : decode cX11_minds 3 = .ok (.iload 4, 2) := dk_21 4 (dk_at dksX11_minds_0 3 rfl rfl)
theorem dX11_minds_5 : decode cX11_minds 5 = .ok (.invokevirtual 9, 3) := dk_182 0 9 (dk_at dksX11_minds_0 5 rfl rfl)
theorem dX11_minds_8 : decode cX11_minds 8 = .ok (.istore 5, 2) := dk_54 5 (dk_at dksX11_minds_0 8 rfl rfl)
theorem dX11_minds_10 : decode cX11_minds 10 = .ok (.iload 5, 2) := dk_21 5 (dk_at dksX11_minds_0 10 rfl rfl)
theorem dX11_minds_12 : decode cX11_minds 12 = .ok (.iconst 1, 1) := dk_4 (dk_at dksX11_minds_0 12 rfl rfl)
theorem dX11_minds_13 : decode cX11_minds 13 = .ok (.if_icmp .ne 7, 3) := dk_160 0 7 (dk_at dksX11_minds_0 13 rfl rfl)
theorem dX11_minds_16 : decode cX11_minds 16 = .ok (.iconst 2, 1) := dk_5 (dk_at dksX11_minds_0 16 rfl rfl)
theorem dX11_minds_17 : decode cX11_minds 17 = .ok (.goto 14, 3) := dk_167 0 14 (dk_at dksX11_minds_0 17 rfl rfl)
theorem dX11_minds_20 : decode cX11_minds 20 = .ok (.iload 5, 2) := dk_21 5 (dk_at dksX11_minds_0 20 rfl rfl)
theorem dX11_minds_22 : decode cX11_minds 22 = .ok (.iconst 2, 1) := dk_5 (dk_at dksX11_minds_0 22 rfl rfl)
theorem dX11_minds_23 : decode cX11_minds 23 = .ok (.if_icmp .ne 7, 3) := dk_160 0 7 (dk_at dksX11_minds_1 0 rfl rfl)
theorem dX11_minds_26 : decode cX11_minds 26 = .ok (.iconst 1, 1) := dk_4 (dk_at dksX11_minds_1 3 rfl rfl)
theorem dX11_minds_27 : decode cX11_minds 27 = .ok (.goto 4, 3) := dk_167 0 4 (dk_at dksX11_minds_1 4 rfl rfl)
theorem dX11_minds_30 : decode cX11_minds 30 = .ok (.iconst 0, 1) := dk_3 (dk_at dksX11_minds_1 7 rfl rfl)
theorem dX11_minds_31 : decode cX11_minds 31 = .ok (.ireturn, 1) := dk_172 (dk_at dksX11_minds_1 8 rfl rfl)
theorem q129 : (Jvm.Cond.initialized "FirstIn$EvenRule") ∈ lw_all := lw_g (lw_at lw_m1 28 rfl) rfl
theorem q612 : (Jvm.Cond.selects "FirstIn$EvenRule" ({ cls := "java/lang/Object", name := "getClass", desc := "()Ljava/lang/Class;" } : Jvm.MethodName) ({ cls := "java/lang/Object", name := "getClass", desc := "()Ljava/lang/Class;" } : Jvm.MethodName)) ∈ lw_all := lw_g (lw_at lw_m3 31 rfl) rfl
theorem q698 : (Jvm.Cond.selects "FirstIn$EvenRule" ({ cls := "FirstIn$Mutual", name := "isTold", desc := "(II)Z" } : Jvm.MethodName) ({ cls := "FirstIn$Rule", name := "isTold", desc := "(II)Z" } : Jvm.MethodName)) ∈ lw_all := lw_g (lw_at lw_m3 117 rfl) rfl
theorem q711 : (Jvm.Cond.selects "FirstIn$EvenRule" ({ cls := "FirstIn$Rule", name := "holds", desc := "(II)Z" } : Jvm.MethodName) ({ cls := "FirstIn$Mutual", name := "holds", desc := "(II)Z" } : Jvm.MethodName)) ∈ lw_all := lw_g (lw_at lw_m3 130 rfl) rfl
theorem q763 : (Jvm.Cond.instantiable "FirstIn$EvenRule" (7 : Nat)) ∈ lw_all := lw_g (lw_at lw_m3 182 rfl) rfl
theorem q765 : (Jvm.Cond.instanceMethod ({ cls := "FirstIn$EvenRule", name := "<init>", desc := "(LFirstIn$Side;LFirstIn$Side;IILFirstIn$Mark;)V" } : Jvm.MethodName)) ∈ lw_all := lw_g (lw_at lw_m3 184 rfl) rfl
theorem q766 : (Jvm.Cond.code ({ cls := "FirstIn$EvenRule", name := "<init>", desc := "(LFirstIn$Side;LFirstIn$Side;IILFirstIn$Mark;)V" } : Jvm.MethodName) prog_7_method_1_code (6 : Nat) (Option.none : Option Jvm.ClassFile.FieldType)) ∈ lw_all := lw_g (lw_at lw_m3 185 rfl) rfl
theorem q767 : (Jvm.Cond.methodLink "FirstIn$EvenRule" (3 : Nat) ({ cls := "FirstIn$Mutual", name := "<init>", desc := "(LFirstIn$Side;LFirstIn$Side;IILFirstIn$Mark;)V" } : Jvm.MethodName)) ∈ lw_all := lw_g (lw_at lw_m3 186 rfl) rfl
theorem q771 : (Jvm.Cond.laysFinal "FirstIn$EvenRule" "FirstIn$Rule" "first" "LFirstIn$Side;") ∈ lw_all := lw_g (lw_at lw_m3 190 rfl) rfl
theorem q772 : (Jvm.Cond.laysFinal "FirstIn$EvenRule" "FirstIn$Rule" "second" "LFirstIn$Side;") ∈ lw_all := lw_g (lw_at lw_m3 191 rfl) rfl
theorem q773 : (Jvm.Cond.laysFinal "FirstIn$EvenRule" "FirstIn$Rule" "weight" "I") ∈ lw_all := lw_g (lw_at lw_m3 192 rfl) rfl
theorem q774 : (Jvm.Cond.laysFinal "FirstIn$EvenRule" "FirstIn$Rule" "room" "I") ∈ lw_all := lw_g (lw_at lw_m3 193 rfl) rfl
theorem q775 : (Jvm.Cond.laysFinal "FirstIn$EvenRule" "FirstIn$Rule" "unless" "LFirstIn$Mark;") ∈ lw_all := lw_g (lw_at lw_m3 194 rfl) rfl
theorem q776 : (Jvm.Cond.lays "FirstIn$EvenRule" "FirstIn$Rule" "rests" "Z") ∈ lw_all := lw_g (lw_at lw_m3 195 rfl) rfl
theorem q777 : (Jvm.Cond.laysFinal "FirstIn$EvenRule" "FirstIn$Rule" "couples" "Ljava/util/ArrayList;") ∈ lw_all := lw_g (lw_at lw_m3 196 rfl) rfl
theorem q778 : (Jvm.Cond.superclass "FirstIn$EvenRule" "FirstIn$Mutual") ∈ lw_all := lw_g (lw_at lw_m3 197 rfl) rfl
theorem q896 : (Jvm.Cond.selects "FirstIn$EvenRule" ({ cls := "FirstIn$Rule", name := "kind", desc := "()I" } : Jvm.MethodName) ({ cls := "FirstIn$EvenRule", name := "kind", desc := "()I" } : Jvm.MethodName)) ∈ lw_all := lw_g (lw_at lw_m4 75 rfl) rfl
theorem q897 : (Jvm.Cond.instanceMethod ({ cls := "FirstIn$EvenRule", name := "kind", desc := "()I" } : Jvm.MethodName)) ∈ lw_all := lw_g (lw_at lw_m4 76 rfl) rfl
theorem q898 : (Jvm.Cond.code ({ cls := "FirstIn$EvenRule", name := "kind", desc := "()I" } : Jvm.MethodName) prog_7_method_2_code (1 : Nat) (Option.some Jvm.ClassFile.FieldType.int)) ∈ lw_all := lw_g (lw_at lw_m4 77 rfl) rfl
theorem q998 : (Jvm.Cond.selects "FirstIn$EvenRule" ({ cls := "FirstIn$Rule", name := "countsIn", desc := "(I)Z" } : Jvm.MethodName) ({ cls := "FirstIn$Rule", name := "countsIn", desc := "(I)Z" } : Jvm.MethodName)) ∈ lw_all := lw_g (lw_at lw_m4 177 rfl) rfl
theorem q1052 : (Jvm.Cond.selects "FirstIn$EvenRule" ({ cls := "FirstIn$Rule", name := "minds", desc := "(LFirstIn$Room;III)I" } : Jvm.MethodName) ({ cls := "FirstIn$EvenRule", name := "minds", desc := "(LFirstIn$Room;III)I" } : Jvm.MethodName)) ∈ lw_all := lw_g (lw_at lw_m4 231 rfl) rfl
theorem q1053 : (Jvm.Cond.instanceMethod ({ cls := "FirstIn$EvenRule", name := "minds", desc := "(LFirstIn$Room;III)I" } : Jvm.MethodName)) ∈ lw_all := lw_g (lw_at lw_m4 232 rfl) rfl
theorem q1054 : (Jvm.Cond.code ({ cls := "FirstIn$EvenRule", name := "minds", desc := "(LFirstIn$Room;III)I" } : Jvm.MethodName) prog_7_method_3_code (6 : Nat) (Option.some Jvm.ClassFile.FieldType.int)) ∈ lw_all := lw_g (lw_at lw_m4 233 rfl) rfl
theorem q1055 : (Jvm.Cond.methodLink "FirstIn$EvenRule" (9 : Nat) ({ cls := "FirstIn$Room", name := "higher", desc := "(III)I" } : Jvm.MethodName)) ∈ lw_all := lw_g (lw_at lw_m4 234 rfl) rfl
theorem q1997 : (Jvm.Cond.selects "FirstIn$EvenRule" ({ cls := "FirstIn$Rule", name := "isTold", desc := "(II)Z" } : Jvm.MethodName) ({ cls := "FirstIn$Rule", name := "isTold", desc := "(II)Z" } : Jvm.MethodName)) ∈ lw_all := lw_g (lw_at lw_m8 216 rfl) rfl
theorem q2001 : (Jvm.Cond.castable "FirstIn$EvenRule" "FirstIn$Rule") ∈ lw_tbl := lw_at lw_m8 220 rfl
theorem q2017 : (Jvm.Cond.castable "FirstIn$EvenRule" "java/lang/Object") ∈ lw_tbl := lw_at lw_m8 236 rfl
theorem in_X11 : ∀ w ∈ wsX110, w ∈ lw_all := lw_in wsX110 [771, 772, 773, 774, 775, 776, 777] (by decide +kernel) (by decide +kernel)

/-! FirstIn$ApartRule -/
set_option maxRecDepth 100000
def RX12 : String := "FirstIn$ApartRule"
def TX12 : u_T := fun k => match k with
  | 0 => ("FirstIn$Rule", "first", "LFirstIn$Side;", true)
  | 1 => ("FirstIn$Rule", "second", "LFirstIn$Side;", true)
  | 2 => ("FirstIn$Rule", "weight", "I", true)
  | 3 => ("FirstIn$Rule", "room", "I", true)
  | 4 => ("FirstIn$Rule", "unless", "LFirstIn$Mark;", true)
  | 5 => ("FirstIn$Rule", "rests", "Z", false)
  | _ => ("FirstIn$Rule", "couples", "Ljava/util/ArrayList;", true)
def tyX12 : Nat → FieldType := fun k => match k with
  | 0 => .object "FirstIn$Side"
  | 1 => .object "FirstIn$Side"
  | 2 => .int
  | 3 => .int
  | 4 => .object "FirstIn$Mark"
  | 5 => .boolean
  | _ => .object "java/util/ArrayList"
abbrev wsX120 : List Cond := u_ws RX12 TX12 7
theorem nmX12 : ∀ a, a < 7 → ∀ b, b < 7 → a ≠ b → (TX12 a).2.1 ≠ (TX12 b).2.1 := by decide +kernel
theorem tyX12_ok : ∀ k, k < 7 → parseFieldDescriptor (TX12 k).2.2.1 = some (tyX12 k) := by decide +kernel
abbrev cX12_init : ByteArray := prog_3_method_1_code
def yX12_init : MethodName := ⟨RX12, "<init>", "(LFirstIn$Side;LFirstIn$Side;IILFirstIn$Mark;)V"⟩
def dkwX12_init_0 : List UInt8 := [42, 43, 44, 29, 21, 4, 25, 5, 183, 0, 3, 177]
abbrev dktX12_init_0 : List UInt8 := dkwX12_init_0 ++ []
theorem dksX12_init_0 : cX12_init.data.toList.drop 0 = dktX12_init_0 := by decide +kernel
theorem dX12_init_0 : decode cX12_init 0 = .ok (.aload_n 0, 1) := dk_42 (dk_at dksX12_init_0 0 rfl rfl)
theorem dX12_init_1 : decode cX12_init 1 = .ok (.aload_n 1, 1) := dk_43 (dk_at dksX12_init_0 1 rfl rfl)
theorem dX12_init_2 : decode cX12_init 2 = .ok (.aload_n 2, 1) := dk_44 (dk_at dksX12_init_0 2 rfl rfl)
theorem dX12_init_3 : decode cX12_init 3 = .ok (.iload_n 3, 1) := dk_29 (dk_at dksX12_init_0 3 rfl rfl)
theorem dX12_init_4 : decode cX12_init 4 = .ok (.iload 4, 2) := dk_21 4 (dk_at dksX12_init_0 4 rfl rfl)
theorem dX12_init_6 : decode cX12_init 6 = .ok (.aload 5, 2) := dk_25 5 (dk_at dksX12_init_0 6 rfl rfl)
theorem dX12_init_8 : decode cX12_init 8 = .ok (.invokespecial 3, 3) := dk_183 0 3 (dk_at dksX12_init_0 8 rfl rfl)
theorem dX12_init_11 : decode cX12_init 11 = .ok (.return_, 1) := dk_177 (dk_at dksX12_init_0 11 rfl rfl)
abbrev cX12_kind : ByteArray := prog_3_method_2_code
def yX12_kind : MethodName := ⟨RX12, "kind", "()I"⟩
theorem dX12_kind_0 : decode cX12_kind 0 = .ok (.iconst 2, 1) := by decide +kernel
theorem dX12_kind_1 : decode cX12_kind 1 = .ok (.ireturn, 1) := by decide +kernel
abbrev cX12_minds : ByteArray := prog_3_method_3_code
def yX12_minds : MethodName := ⟨RX12, "minds", "(LFirstIn$Room;III)I"⟩
def dkwX12_minds_0 : List UInt8 := [43, 29, 21, 4, 182, 0, 9, 153, 0, 7, 6, 167, 0, 4, 3, 172]
abbrev dktX12_minds_0 : List UInt8 := dkwX12_minds_0 ++ []
theorem dksX12_minds_0 : cX12_minds.data.toList.drop 0 = dktX12_minds_0 := by decide +kernel
theorem dX12_minds_0 : decode cX12_minds 0 = .ok (.aload_n 1, 1) := dk_43 (dk_at dksX12_minds_0 0 rfl rfl)
theorem dX12_minds_1 : decode cX12_minds 1 = .ok (.iload_n 3, 1) := dk_29 (dk_at dksX12_minds_0 1 rfl rfl)
theorem dX12_minds_2 : decode cX12_minds 2 = .ok (.iload 4, 2) := dk_21 4 (dk_at dksX12_minds_0 2 rfl rfl)
theorem dX12_minds_4 : decode cX12_minds 4 = .ok (.invokevirtual 9, 3) := dk_182 0 9 (dk_at dksX12_minds_0 4 rfl rfl)
theorem dX12_minds_7 : decode cX12_minds 7 = .ok (.ifCond .eq 7, 3) := dk_153 0 7 (dk_at dksX12_minds_0 7 rfl rfl)
theorem dX12_minds_10 : decode cX12_minds 10 = .ok (.iconst 3, 1) := dk_6 (dk_at dksX12_minds_0 10 rfl rfl)
theorem dX12_minds_11 : decode cX12_minds 11 = .ok (.goto 4, 3) := dk_167 0 4 (dk_at dksX12_minds_0 11 rfl rfl)
theorem dX12_minds_14 : decode cX12_minds 14 = .ok (.iconst 0, 1) := dk_3 (dk_at dksX12_minds_0 14 rfl rfl)
theorem dX12_minds_15 : decode cX12_minds 15 = .ok (.ireturn, 1) := dk_172 (dk_at dksX12_minds_0 15 rfl rfl)
theorem q130 : (Jvm.Cond.initialized "FirstIn$ApartRule") ∈ lw_all := lw_g (lw_at lw_m1 29 rfl) rfl
theorem q608 : (Jvm.Cond.selects "FirstIn$ApartRule" ({ cls := "java/lang/Object", name := "getClass", desc := "()Ljava/lang/Class;" } : Jvm.MethodName) ({ cls := "java/lang/Object", name := "getClass", desc := "()Ljava/lang/Class;" } : Jvm.MethodName)) ∈ lw_all := lw_g (lw_at lw_m3 27 rfl) rfl
theorem q691 : (Jvm.Cond.selects "FirstIn$ApartRule" ({ cls := "FirstIn$Rule", name := "holds", desc := "(II)Z" } : Jvm.MethodName) ({ cls := "FirstIn$Mutual", name := "holds", desc := "(II)Z" } : Jvm.MethodName)) ∈ lw_all := lw_g (lw_at lw_m3 110 rfl) rfl
theorem q697 : (Jvm.Cond.selects "FirstIn$ApartRule" ({ cls := "FirstIn$Mutual", name := "isTold", desc := "(II)Z" } : Jvm.MethodName) ({ cls := "FirstIn$Rule", name := "isTold", desc := "(II)Z" } : Jvm.MethodName)) ∈ lw_all := lw_g (lw_at lw_m3 116 rfl) rfl
theorem q780 : (Jvm.Cond.instantiable "FirstIn$ApartRule" (7 : Nat)) ∈ lw_all := lw_g (lw_at lw_m3 199 rfl) rfl
theorem q782 : (Jvm.Cond.instanceMethod ({ cls := "FirstIn$ApartRule", name := "<init>", desc := "(LFirstIn$Side;LFirstIn$Side;IILFirstIn$Mark;)V" } : Jvm.MethodName)) ∈ lw_all := lw_g (lw_at lw_m3 201 rfl) rfl
theorem q783 : (Jvm.Cond.code ({ cls := "FirstIn$ApartRule", name := "<init>", desc := "(LFirstIn$Side;LFirstIn$Side;IILFirstIn$Mark;)V" } : Jvm.MethodName) prog_3_method_1_code (6 : Nat) (Option.none : Option Jvm.ClassFile.FieldType)) ∈ lw_all := lw_g (lw_at lw_m3 202 rfl) rfl
theorem q784 : (Jvm.Cond.methodLink "FirstIn$ApartRule" (3 : Nat) ({ cls := "FirstIn$Mutual", name := "<init>", desc := "(LFirstIn$Side;LFirstIn$Side;IILFirstIn$Mark;)V" } : Jvm.MethodName)) ∈ lw_all := lw_g (lw_at lw_m3 203 rfl) rfl
theorem q785 : (Jvm.Cond.laysFinal "FirstIn$ApartRule" "FirstIn$Rule" "first" "LFirstIn$Side;") ∈ lw_all := lw_g (lw_at lw_m3 204 rfl) rfl
theorem q786 : (Jvm.Cond.laysFinal "FirstIn$ApartRule" "FirstIn$Rule" "second" "LFirstIn$Side;") ∈ lw_all := lw_g (lw_at lw_m3 205 rfl) rfl
theorem q787 : (Jvm.Cond.laysFinal "FirstIn$ApartRule" "FirstIn$Rule" "weight" "I") ∈ lw_all := lw_g (lw_at lw_m3 206 rfl) rfl
theorem q788 : (Jvm.Cond.laysFinal "FirstIn$ApartRule" "FirstIn$Rule" "room" "I") ∈ lw_all := lw_g (lw_at lw_m3 207 rfl) rfl
theorem q789 : (Jvm.Cond.laysFinal "FirstIn$ApartRule" "FirstIn$Rule" "unless" "LFirstIn$Mark;") ∈ lw_all := lw_g (lw_at lw_m3 208 rfl) rfl
theorem q790 : (Jvm.Cond.lays "FirstIn$ApartRule" "FirstIn$Rule" "rests" "Z") ∈ lw_all := lw_g (lw_at lw_m3 209 rfl) rfl
theorem q791 : (Jvm.Cond.laysFinal "FirstIn$ApartRule" "FirstIn$Rule" "couples" "Ljava/util/ArrayList;") ∈ lw_all := lw_g (lw_at lw_m3 210 rfl) rfl
theorem q792 : (Jvm.Cond.superclass "FirstIn$ApartRule" "FirstIn$Mutual") ∈ lw_all := lw_g (lw_at lw_m3 211 rfl) rfl
theorem q893 : (Jvm.Cond.selects "FirstIn$ApartRule" ({ cls := "FirstIn$Rule", name := "kind", desc := "()I" } : Jvm.MethodName) ({ cls := "FirstIn$ApartRule", name := "kind", desc := "()I" } : Jvm.MethodName)) ∈ lw_all := lw_g (lw_at lw_m4 72 rfl) rfl
theorem q894 : (Jvm.Cond.instanceMethod ({ cls := "FirstIn$ApartRule", name := "kind", desc := "()I" } : Jvm.MethodName)) ∈ lw_all := lw_g (lw_at lw_m4 73 rfl) rfl
theorem q895 : (Jvm.Cond.code ({ cls := "FirstIn$ApartRule", name := "kind", desc := "()I" } : Jvm.MethodName) prog_3_method_2_code (1 : Nat) (Option.some Jvm.ClassFile.FieldType.int)) ∈ lw_all := lw_g (lw_at lw_m4 74 rfl) rfl
theorem q997 : (Jvm.Cond.selects "FirstIn$ApartRule" ({ cls := "FirstIn$Rule", name := "countsIn", desc := "(I)Z" } : Jvm.MethodName) ({ cls := "FirstIn$Rule", name := "countsIn", desc := "(I)Z" } : Jvm.MethodName)) ∈ lw_all := lw_g (lw_at lw_m4 176 rfl) rfl
theorem q1028 : (Jvm.Cond.selects "FirstIn$ApartRule" ({ cls := "FirstIn$Rule", name := "minds", desc := "(LFirstIn$Room;III)I" } : Jvm.MethodName) ({ cls := "FirstIn$ApartRule", name := "minds", desc := "(LFirstIn$Room;III)I" } : Jvm.MethodName)) ∈ lw_all := lw_g (lw_at lw_m4 207 rfl) rfl
theorem q1029 : (Jvm.Cond.instanceMethod ({ cls := "FirstIn$ApartRule", name := "minds", desc := "(LFirstIn$Room;III)I" } : Jvm.MethodName)) ∈ lw_all := lw_g (lw_at lw_m4 208 rfl) rfl
theorem q1030 : (Jvm.Cond.code ({ cls := "FirstIn$ApartRule", name := "minds", desc := "(LFirstIn$Room;III)I" } : Jvm.MethodName) prog_3_method_3_code (5 : Nat) (Option.some Jvm.ClassFile.FieldType.int)) ∈ lw_all := lw_g (lw_at lw_m4 209 rfl) rfl
theorem q1031 : (Jvm.Cond.methodLink "FirstIn$ApartRule" (9 : Nat) ({ cls := "FirstIn$Room", name := "areBeside", desc := "(II)Z" } : Jvm.MethodName)) ∈ lw_all := lw_g (lw_at lw_m4 210 rfl) rfl
theorem q1996 : (Jvm.Cond.selects "FirstIn$ApartRule" ({ cls := "FirstIn$Rule", name := "isTold", desc := "(II)Z" } : Jvm.MethodName) ({ cls := "FirstIn$Rule", name := "isTold", desc := "(II)Z" } : Jvm.MethodName)) ∈ lw_all := lw_g (lw_at lw_m8 215 rfl) rfl
theorem q2000 : (Jvm.Cond.castable "FirstIn$ApartRule" "FirstIn$Rule") ∈ lw_tbl := lw_at lw_m8 219 rfl
theorem q2018 : (Jvm.Cond.castable "FirstIn$ApartRule" "java/lang/Object") ∈ lw_tbl := lw_at lw_m8 237 rfl
theorem in_X12 : ∀ w ∈ wsX120, w ∈ lw_all := lw_in wsX120 [785, 786, 787, 788, 789, 790, 791] (by decide +kernel) (by decide +kernel)

/-! FirstIn$Room -/
set_option maxRecDepth 100000
def RX13 : String := "FirstIn$Room"
abbrev cX13_init : ByteArray := prog_17_method_1_code
def yX13_init : MethodName := ⟨RX13, "<init>", "(I)V"⟩
def dkwX13_init_0 : List UInt8 := [42, 183, 0, 1, 42, 27, 181, 0, 7, 177]
abbrev dktX13_init_0 : List UInt8 := dkwX13_init_0 ++ []
theorem dksX13_init_0 : cX13_init.data.toList.drop 0 = dktX13_init_0 := by decide +kernel
theorem dX13_init_0 : decode cX13_init 0 = .ok (.aload_n 0, 1) := dk_42 (dk_at dksX13_init_0 0 rfl rfl)
theorem dX13_init_1 : decode cX13_init 1 = .ok (.invokespecial 1, 3) := dk_183 0 1 (dk_at dksX13_init_0 1 rfl rfl)
theorem dX13_init_4 : decode cX13_init 4 = .ok (.aload_n 0, 1) := dk_42 (dk_at dksX13_init_0 4 rfl rfl)
theorem dX13_init_5 : decode cX13_init 5 = .ok (.iload_n 1, 1) := dk_27 (dk_at dksX13_init_0 5 rfl rfl)
theorem dX13_init_6 : decode cX13_init 6 = .ok (.putfield 7, 3) := dk_181 0 7 (dk_at dksX13_init_0 6 rfl rfl)
theorem dX13_init_9 : decode cX13_init 9 = .ok (.return_, 1) := dk_177 (dk_at dksX13_init_0 9 rfl rfl)
abbrev cX13_higher : ByteArray := prog_17_method_2_code
def yX13_higher : MethodName := ⟨RX13, "higher", "(III)I"⟩
def dkwX13_higher_2 : List UInt8 := [167, 0, 4, 5, 172]
abbrev dktX13_higher_2 : List UInt8 := dkwX13_higher_2 ++ []
def dkwX13_higher_1 : List UInt8 := [21, 4, 21, 5, 160, 0, 10, 42, 182, 0, 17, 167, 0, 15, 21, 4, 21, 5, 162, 0, 7, 4]
abbrev dktX13_higher_1 : List UInt8 := dkwX13_higher_1 ++ dktX13_higher_2
def dkwX13_higher_0 : List UInt8 := [28, 29, 160, 0, 5, 3, 172, 42, 27, 28, 182, 0, 13, 54, 4, 42, 27, 29, 182, 0, 13, 54, 5]
abbrev dktX13_higher_0 : List UInt8 := dkwX13_higher_0 ++ dktX13_higher_1
theorem dksX13_higher_0 : cX13_higher.data.toList.drop 0 = dktX13_higher_0 := by decide +kernel
theorem dksX13_higher_1 : cX13_higher.data.toList.drop 23 = dktX13_higher_1 := dk_seg dksX13_higher_0 23 rfl rfl
theorem dksX13_higher_2 : cX13_higher.data.toList.drop 45 = dktX13_higher_2 := dk_seg dksX13_higher_1 22 rfl rfl
theorem dX13_higher_0 : decode cX13_higher 0 = .ok (.iload_n 2, 1) := dk_28 (dk_at dksX13_higher_0 0 rfl rfl)
theorem dX13_higher_1 : decode cX13_higher 1 = .ok (.iload_n 3, 1) := dk_29 (dk_at dksX13_higher_0 1 rfl rfl)
theorem dX13_higher_2 : decode cX13_higher 2 = .ok (.if_icmp .ne 5, 3) := dk_160 0 5 (dk_at dksX13_higher_0 2 rfl rfl)
theorem dX13_higher_5 : decode cX13_higher 5 = .ok (.iconst 0, 1) := dk_3 (dk_at dksX13_higher_0 5 rfl rfl)
theorem dX13_higher_6 : decode cX13_higher 6 = .ok (.ireturn, 1) := dk_172 (dk_at dksX13_higher_0 6 rfl rfl)
theorem dX13_higher_7 : decode cX13_higher 7 = .ok (.aload_n 0, 1) := dk_42 (dk_at dksX13_higher_0 7 rfl rfl)
theorem dX13_higher_8 : decode cX13_higher 8 = .ok (.iload_n 1, 1) := dk_27 (dk_at dksX13_higher_0 8 rfl rfl)
theorem dX13_higher_9 : decode cX13_higher 9 = .ok (.iload_n 2, 1) := dk_28 (dk_at dksX13_higher_0 9 rfl rfl)
theorem dX13_higher_10 : decode cX13_higher 10 = .ok (.invokevirtual 13, 3) := dk_182 0 13 (dk_at dksX13_higher_0 10 rfl rfl)
theorem dX13_higher_13 : decode cX13_higher 13 = .ok (.istore 4, 2) := dk_54 4 (dk_at dksX13_higher_0 13 rfl rfl)
theorem dX13_higher_15 : decode cX13_higher 15 = .ok (.aload_n 0, 1) := dk_42 (dk_at dksX13_higher_0 15 rfl rfl)
theorem dX13_higher_16 : decode cX13_higher 16 = .ok (.iload_n 1, 1) := dk_27 (dk_at dksX13_higher_0 16 rfl rfl)
theorem dX13_higher_17 : decode cX13_higher 17 = .ok (.iload_n 3, 1) := dk_29 (dk_at dksX13_higher_0 17 rfl rfl)
theorem dX13_higher_18 : decode cX13_higher 18 = .ok (.invokevirtual 13, 3) := dk_182 0 13 (dk_at dksX13_higher_0 18 rfl rfl)
theorem dX13_higher_21 : decode cX13_higher 21 = .ok (.istore 5, 2) := dk_54 5 (dk_at dksX13_higher_0 21 rfl rfl)
theorem dX13_higher_23 : decode cX13_higher 23 = .ok (.iload 4, 2) := dk_21 4 (dk_at dksX13_higher_1 0 rfl rfl)
theorem dX13_higher_25 : decode cX13_higher 25 = .ok (.iload 5, 2) := dk_21 5 (dk_at dksX13_higher_1 2 rfl rfl)
theorem dX13_higher_27 : decode cX13_higher 27 = .ok (.if_icmp .ne 10, 3) := dk_160 0 10 (dk_at dksX13_higher_1 4 rfl rfl)
theorem dX13_higher_30 : decode cX13_higher 30 = .ok (.aload_n 0, 1) := dk_42 (dk_at dksX13_higher_1 7 rfl rfl)
theorem dX13_higher_31 : decode cX13_higher 31 = .ok (.invokevirtual 17, 3) := dk_182 0 17 (dk_at dksX13_higher_1 8 rfl rfl)
theorem dX13_higher_34 : decode cX13_higher 34 = .ok (.goto 15, 3) := dk_167 0 15 (dk_at dksX13_higher_1 11 rfl rfl)
theorem dX13_higher_37 : decode cX13_higher 37 = .ok (.iload 4, 2) := dk_21 4 (dk_at dksX13_higher_1 14 rfl rfl)
theorem dX13_higher_39 : decode cX13_higher 39 = .ok (.iload 5, 2) := dk_21 5 (dk_at dksX13_higher_1 16 rfl rfl)
theorem dX13_higher_41 : decode cX13_higher 41 = .ok (.if_icmp .ge 7, 3) := dk_162 0 7 (dk_at dksX13_higher_1 18 rfl rfl)
theorem dX13_higher_44 : decode cX13_higher 44 = .ok (.iconst 1, 1) := dk_4 (dk_at dksX13_higher_1 21 rfl rfl)
theorem dX13_higher_45 : decode cX13_higher 45 = .ok (.goto 4, 3) := dk_167 0 4 (dk_at dksX13_higher_2 0 rfl rfl)
theorem dX13_higher_48 : decode cX13_higher 48 = .ok (.iconst 2, 1) := dk_5 (dk_at dksX13_higher_2 3 rfl rfl)
theorem dX13_higher_49 : decode cX13_higher 49 = .ok (.ireturn, 1) := dk_172 (dk_at dksX13_higher_2 4 rfl rfl)
abbrev cX13_alike : ByteArray := prog_17_method_4_code
def yX13_alike : MethodName := ⟨RX13, "alike", "()I"⟩
theorem dX13_alike_0 : decode cX13_alike 0 = .ok (.iconst 0, 1) := by decide +kernel
theorem dX13_alike_1 : decode cX13_alike 1 = .ok (.ireturn, 1) := by decide +kernel
theorem q131 : (Jvm.Cond.initialized "FirstIn$Room") ∈ lw_all := lw_g (lw_at lw_m1 30 rfl) rfl
theorem q826 : (Jvm.Cond.instanceMethod ({ cls := "FirstIn$Room", name := "<init>", desc := "(I)V" } : Jvm.MethodName)) ∈ lw_all := lw_g (lw_at lw_m4 5 rfl) rfl
theorem q827 : (Jvm.Cond.code ({ cls := "FirstIn$Room", name := "<init>", desc := "(I)V" } : Jvm.MethodName) prog_17_method_1_code (2 : Nat) (Option.none : Option Jvm.ClassFile.FieldType)) ∈ lw_all := lw_g (lw_at lw_m4 6 rfl) rfl
theorem q828 : (Jvm.Cond.methodLink "FirstIn$Room" (1 : Nat) ({ cls := "java/lang/Object", name := "<init>", desc := "()V" } : Jvm.MethodName)) ∈ lw_all := lw_g (lw_at lw_m4 7 rfl) rfl
theorem q829 : (Jvm.Cond.fieldLink "FirstIn$Room" (7 : Nat) "FirstIn$Room" "places" "I") ∈ lw_all := lw_g (lw_at lw_m4 8 rfl) rfl
theorem q837 : (Jvm.Cond.soleField "FirstIn$Room" "places") ∈ lw_all := lw_g (lw_at lw_m4 16 rfl) rfl
theorem q946 : (Jvm.Cond.instanceMethod ({ cls := "FirstIn$Room", name := "higher", desc := "(III)I" } : Jvm.MethodName)) ∈ lw_all := lw_g (lw_at lw_m4 125 rfl) rfl
theorem q947 : (Jvm.Cond.sameMethod "FirstIn$Room" "FirstIn$Room" "higher" "(III)I") ∈ lw_all := lw_g (lw_at lw_m4 126 rfl) rfl
theorem q953 : (Jvm.Cond.code ({ cls := "FirstIn$Room", name := "higher", desc := "(III)I" } : Jvm.MethodName) prog_17_method_2_code (6 : Nat) (Option.some Jvm.ClassFile.FieldType.int)) ∈ lw_all := lw_g (lw_at lw_m4 132 rfl) rfl
theorem q954 : (Jvm.Cond.methodLink "FirstIn$Room" (13 : Nat) ({ cls := "FirstIn$Room", name := "height", desc := "(II)I" } : Jvm.MethodName)) ∈ lw_all := lw_g (lw_at lw_m4 133 rfl) rfl
theorem q955 : (Jvm.Cond.declares ({ cls := "FirstIn$Room", name := "height", desc := "(II)I" } : Jvm.MethodName)) ∈ lw_tbl := lw_at lw_m4 134 rfl
theorem q956 : (Jvm.Cond.sameMethod "FirstIn$Room" "FirstIn$Room" "height" "(II)I") ∈ lw_all := lw_g (lw_at lw_m4 135 rfl) rfl
theorem q970 : (Jvm.Cond.methodLink "FirstIn$Room" (17 : Nat) ({ cls := "FirstIn$Room", name := "alike", desc := "()I" } : Jvm.MethodName)) ∈ lw_all := lw_g (lw_at lw_m4 149 rfl) rfl
theorem q971 : (Jvm.Cond.instanceMethod ({ cls := "FirstIn$Room", name := "alike", desc := "()I" } : Jvm.MethodName)) ∈ lw_all := lw_g (lw_at lw_m4 150 rfl) rfl
theorem q972 : (Jvm.Cond.sameMethod "FirstIn$Room" "FirstIn$Room" "alike" "()I") ∈ lw_all := lw_g (lw_at lw_m4 151 rfl) rfl
theorem q984 : (Jvm.Cond.code ({ cls := "FirstIn$Room", name := "alike", desc := "()I" } : Jvm.MethodName) prog_17_method_4_code (1 : Nat) (Option.some Jvm.ClassFile.FieldType.int)) ∈ lw_all := lw_g (lw_at lw_m4 163 rfl) rfl
theorem q1032 : (Jvm.Cond.declares ({ cls := "FirstIn$Room", name := "areBeside", desc := "(II)Z" } : Jvm.MethodName)) ∈ lw_tbl := lw_at lw_m4 211 rfl
theorem q1033 : (Jvm.Cond.sameMethod "FirstIn$Room" "FirstIn$Room" "areBeside" "(II)Z") ∈ lw_all := lw_g (lw_at lw_m4 212 rfl) rfl

/-! FirstIn$Row -/
set_option maxRecDepth 100000
def RX14 : String := "FirstIn$Row"
def TX14 : u_T := fun k => match k with
  | _ => ("FirstIn$Room", "places", "I", true)
def tyX14 : Nat → FieldType := fun k => match k with
  | _ => .int
abbrev wsX140 : List Cond := u_ws RX14 TX14 1
theorem nmX14 : ∀ a, a < 1 → ∀ b, b < 1 → a ≠ b → (TX14 a).2.1 ≠ (TX14 b).2.1 := by decide +kernel
theorem tyX14_ok : ∀ k, k < 1 → parseFieldDescriptor (TX14 k).2.2.1 = some (tyX14 k) := by decide +kernel
abbrev cX14_init : ByteArray := prog_18_method_1_code
def yX14_init : MethodName := ⟨RX14, "<init>", "(I)V"⟩
def dkwX14_init_0 : List UInt8 := [42, 27, 183, 0, 1, 177]
abbrev dktX14_init_0 : List UInt8 := dkwX14_init_0 ++ []
theorem dksX14_init_0 : cX14_init.data.toList.drop 0 = dktX14_init_0 := by decide +kernel
theorem dX14_init_0 : decode cX14_init 0 = .ok (.aload_n 0, 1) := dk_42 (dk_at dksX14_init_0 0 rfl rfl)
theorem dX14_init_1 : decode cX14_init 1 = .ok (.iload_n 1, 1) := dk_27 (dk_at dksX14_init_0 1 rfl rfl)
theorem dX14_init_2 : decode cX14_init 2 = .ok (.invokespecial 1, 3) := dk_183 0 1 (dk_at dksX14_init_0 2 rfl rfl)
theorem dX14_init_5 : decode cX14_init 5 = .ok (.return_, 1) := dk_177 (dk_at dksX14_init_0 5 rfl rfl)
abbrev cX14_height : ByteArray := prog_18_method_2_code
def yX14_height : MethodName := ⟨RX14, "height", "(II)I"⟩
theorem dX14_height_0 : decode cX14_height 0 = .ok (.iload_n 2, 1) := by decide +kernel
theorem dX14_height_1 : decode cX14_height 1 = .ok (.ireturn, 1) := by decide +kernel
abbrev cX14_areBeside : ByteArray := prog_18_method_3_code
def yX14_areBeside : MethodName := ⟨RX14, "areBeside", "(II)Z"⟩
def dkwX14_areBeside_0 : List UInt8 := [27, 28, 100, 184, 0, 7, 4, 160, 0, 7, 4, 167, 0, 4, 3, 172]
abbrev dktX14_areBeside_0 : List UInt8 := dkwX14_areBeside_0 ++ []
theorem dksX14_areBeside_0 : cX14_areBeside.data.toList.drop 0 = dktX14_areBeside_0 := by decide +kernel
theorem dX14_areBeside_0 : decode cX14_areBeside 0 = .ok (.iload_n 1, 1) := dk_27 (dk_at dksX14_areBeside_0 0 rfl rfl)
theorem dX14_areBeside_1 : decode cX14_areBeside 1 = .ok (.iload_n 2, 1) := dk_28 (dk_at dksX14_areBeside_0 1 rfl rfl)
theorem dX14_areBeside_2 : decode cX14_areBeside 2 = .ok (.isub, 1) := dk_100 (dk_at dksX14_areBeside_0 2 rfl rfl)
theorem dX14_areBeside_3 : decode cX14_areBeside 3 = .ok (.invokestatic 7, 3) := dk_184 0 7 (dk_at dksX14_areBeside_0 3 rfl rfl)
theorem dX14_areBeside_6 : decode cX14_areBeside 6 = .ok (.iconst 1, 1) := dk_4 (dk_at dksX14_areBeside_0 6 rfl rfl)
theorem dX14_areBeside_7 : decode cX14_areBeside 7 = .ok (.if_icmp .ne 7, 3) := dk_160 0 7 (dk_at dksX14_areBeside_0 7 rfl rfl)
theorem dX14_areBeside_10 : decode cX14_areBeside 10 = .ok (.iconst 1, 1) := dk_4 (dk_at dksX14_areBeside_0 10 rfl rfl)
theorem dX14_areBeside_11 : decode cX14_areBeside 11 = .ok (.goto 4, 3) := dk_167 0 4 (dk_at dksX14_areBeside_0 11 rfl rfl)
theorem dX14_areBeside_14 : decode cX14_areBeside 14 = .ok (.iconst 0, 1) := dk_3 (dk_at dksX14_areBeside_0 14 rfl rfl)
theorem dX14_areBeside_15 : decode cX14_areBeside 15 = .ok (.ireturn, 1) := dk_172 (dk_at dksX14_areBeside_0 15 rfl rfl)
theorem q132 : (Jvm.Cond.initialized "FirstIn$Row") ∈ lw_all := lw_g (lw_at lw_m1 31 rfl) rfl
theorem q621 : (Jvm.Cond.selects "FirstIn$Row" ({ cls := "java/lang/Object", name := "getClass", desc := "()Ljava/lang/Class;" } : Jvm.MethodName) ({ cls := "java/lang/Object", name := "getClass", desc := "()Ljava/lang/Class;" } : Jvm.MethodName)) ∈ lw_all := lw_g (lw_at lw_m3 40 rfl) rfl
theorem q821 : (Jvm.Cond.instantiable "FirstIn$Row" (1 : Nat)) ∈ lw_all := lw_g (lw_at lw_m4 0 rfl) rfl
theorem q823 : (Jvm.Cond.instanceMethod ({ cls := "FirstIn$Row", name := "<init>", desc := "(I)V" } : Jvm.MethodName)) ∈ lw_all := lw_g (lw_at lw_m4 2 rfl) rfl
theorem q824 : (Jvm.Cond.code ({ cls := "FirstIn$Row", name := "<init>", desc := "(I)V" } : Jvm.MethodName) prog_18_method_1_code (2 : Nat) (Option.none : Option Jvm.ClassFile.FieldType)) ∈ lw_all := lw_g (lw_at lw_m4 3 rfl) rfl
theorem q825 : (Jvm.Cond.methodLink "FirstIn$Row" (1 : Nat) ({ cls := "FirstIn$Room", name := "<init>", desc := "(I)V" } : Jvm.MethodName)) ∈ lw_all := lw_g (lw_at lw_m4 4 rfl) rfl
theorem q836 : (Jvm.Cond.laysFinal "FirstIn$Row" "FirstIn$Room" "places" "I") ∈ lw_all := lw_g (lw_at lw_m4 15 rfl) rfl
theorem q838 : (Jvm.Cond.superclass "FirstIn$Row" "FirstIn$Room") ∈ lw_all := lw_g (lw_at lw_m4 17 rfl) rfl
theorem q950 : (Jvm.Cond.selects "FirstIn$Row" ({ cls := "FirstIn$Room", name := "higher", desc := "(III)I" } : Jvm.MethodName) ({ cls := "FirstIn$Room", name := "higher", desc := "(III)I" } : Jvm.MethodName)) ∈ lw_all := lw_g (lw_at lw_m4 129 rfl) rfl
theorem q963 : (Jvm.Cond.selects "FirstIn$Row" ({ cls := "FirstIn$Room", name := "height", desc := "(II)I" } : Jvm.MethodName) ({ cls := "FirstIn$Row", name := "height", desc := "(II)I" } : Jvm.MethodName)) ∈ lw_all := lw_g (lw_at lw_m4 142 rfl) rfl
theorem q964 : (Jvm.Cond.instanceMethod ({ cls := "FirstIn$Row", name := "height", desc := "(II)I" } : Jvm.MethodName)) ∈ lw_all := lw_g (lw_at lw_m4 143 rfl) rfl
theorem q965 : (Jvm.Cond.code ({ cls := "FirstIn$Row", name := "height", desc := "(II)I" } : Jvm.MethodName) prog_18_method_2_code (3 : Nat) (Option.some Jvm.ClassFile.FieldType.int)) ∈ lw_all := lw_g (lw_at lw_m4 144 rfl) rfl
theorem q979 : (Jvm.Cond.selects "FirstIn$Row" ({ cls := "FirstIn$Room", name := "alike", desc := "()I" } : Jvm.MethodName) ({ cls := "FirstIn$Room", name := "alike", desc := "()I" } : Jvm.MethodName)) ∈ lw_all := lw_g (lw_at lw_m4 158 rfl) rfl
theorem q1043 : (Jvm.Cond.selects "FirstIn$Row" ({ cls := "FirstIn$Room", name := "areBeside", desc := "(II)Z" } : Jvm.MethodName) ({ cls := "FirstIn$Row", name := "areBeside", desc := "(II)Z" } : Jvm.MethodName)) ∈ lw_all := lw_g (lw_at lw_m4 222 rfl) rfl
theorem q1044 : (Jvm.Cond.instanceMethod ({ cls := "FirstIn$Row", name := "areBeside", desc := "(II)Z" } : Jvm.MethodName)) ∈ lw_all := lw_g (lw_at lw_m4 223 rfl) rfl
theorem q1045 : (Jvm.Cond.code ({ cls := "FirstIn$Row", name := "areBeside", desc := "(II)Z" } : Jvm.MethodName) prog_18_method_3_code (3 : Nat) (Option.some Jvm.ClassFile.FieldType.boolean)) ∈ lw_all := lw_g (lw_at lw_m4 224 rfl) rfl
theorem q1046 : (Jvm.Cond.methodLink "FirstIn$Row" (7 : Nat) ({ cls := "java/lang/Math", name := "abs", desc := "(I)I" } : Jvm.MethodName)) ∈ lw_all := lw_g (lw_at lw_m4 225 rfl) rfl
theorem q2004 : (Jvm.Cond.castable "FirstIn$Row" "FirstIn$Room") ∈ lw_tbl := lw_at lw_m8 223 rfl
theorem q2019 : (Jvm.Cond.castable "FirstIn$Row" "java/lang/Object") ∈ lw_tbl := lw_at lw_m8 238 rfl
theorem in_X14 : ∀ w ∈ wsX140, w ∈ lw_all := lw_in wsX140 [836] (by decide +kernel) (by decide +kernel)

/-! FirstIn$Table -/
set_option maxRecDepth 100000
def RX15 : String := "FirstIn$Table"
def TX15 : u_T := fun k => match k with
  | _ => ("FirstIn$Room", "places", "I", true)
def tyX15 : Nat → FieldType := fun k => match k with
  | _ => .int
abbrev wsX150 : List Cond := u_ws RX15 TX15 1
theorem nmX15 : ∀ a, a < 1 → ∀ b, b < 1 → a ≠ b → (TX15 a).2.1 ≠ (TX15 b).2.1 := by decide +kernel
theorem tyX15_ok : ∀ k, k < 1 → parseFieldDescriptor (TX15 k).2.2.1 = some (tyX15 k) := by decide +kernel
abbrev cX15_init : ByteArray := prog_23_method_1_code
def yX15_init : MethodName := ⟨RX15, "<init>", "(I)V"⟩
def dkwX15_init_0 : List UInt8 := [42, 27, 183, 0, 1, 177]
abbrev dktX15_init_0 : List UInt8 := dkwX15_init_0 ++ []
theorem dksX15_init_0 : cX15_init.data.toList.drop 0 = dktX15_init_0 := by decide +kernel
theorem dX15_init_0 : decode cX15_init 0 = .ok (.aload_n 0, 1) := dk_42 (dk_at dksX15_init_0 0 rfl rfl)
theorem dX15_init_1 : decode cX15_init 1 = .ok (.iload_n 1, 1) := dk_27 (dk_at dksX15_init_0 1 rfl rfl)
theorem dX15_init_2 : decode cX15_init 2 = .ok (.invokespecial 1, 3) := dk_183 0 1 (dk_at dksX15_init_0 2 rfl rfl)
theorem dX15_init_5 : decode cX15_init 5 = .ok (.return_, 1) := dk_177 (dk_at dksX15_init_0 5 rfl rfl)
abbrev cX15_height : ByteArray := prog_23_method_2_code
def yX15_height : MethodName := ⟨RX15, "height", "(II)I"⟩
def dkwX15_height_0 : List UInt8 := [28, 5, 108, 172]
abbrev dktX15_height_0 : List UInt8 := dkwX15_height_0 ++ []
theorem dksX15_height_0 : cX15_height.data.toList.drop 0 = dktX15_height_0 := by decide +kernel
theorem dX15_height_0 : decode cX15_height 0 = .ok (.iload_n 2, 1) := dk_28 (dk_at dksX15_height_0 0 rfl rfl)
theorem dX15_height_1 : decode cX15_height 1 = .ok (.iconst 2, 1) := dk_5 (dk_at dksX15_height_0 1 rfl rfl)
theorem dX15_height_2 : decode cX15_height 2 = .ok (.idiv, 1) := dk_108 (dk_at dksX15_height_0 2 rfl rfl)
theorem dX15_height_3 : decode cX15_height 3 = .ok (.ireturn, 1) := dk_172 (dk_at dksX15_height_0 3 rfl rfl)
abbrev cX15_alike : ByteArray := prog_23_method_3_code
def yX15_alike : MethodName := ⟨RX15, "alike", "()I"⟩
theorem dX15_alike_0 : decode cX15_alike 0 = .ok (.iconst (-1), 1) := by decide +kernel
theorem dX15_alike_1 : decode cX15_alike 1 = .ok (.ireturn, 1) := by decide +kernel
abbrev cX15_areBeside : ByteArray := prog_23_method_4_code
def yX15_areBeside : MethodName := ⟨RX15, "areBeside", "(II)Z"⟩
def dkwX15_areBeside_0 : List UInt8 := [27, 28, 100, 184, 0, 7, 5, 160, 0, 7, 4, 167, 0, 4, 3, 172]
abbrev dktX15_areBeside_0 : List UInt8 := dkwX15_areBeside_0 ++ []
theorem dksX15_areBeside_0 : cX15_areBeside.data.toList.drop 0 = dktX15_areBeside_0 := by decide +kernel
theorem dX15_areBeside_0 : decode cX15_areBeside 0 = .ok (.iload_n 1, 1) := dk_27 (dk_at dksX15_areBeside_0 0 rfl rfl)
theorem dX15_areBeside_1 : decode cX15_areBeside 1 = .ok (.iload_n 2, 1) := dk_28 (dk_at dksX15_areBeside_0 1 rfl rfl)
theorem dX15_areBeside_2 : decode cX15_areBeside 2 = .ok (.isub, 1) := dk_100 (dk_at dksX15_areBeside_0 2 rfl rfl)
theorem dX15_areBeside_3 : decode cX15_areBeside 3 = .ok (.invokestatic 7, 3) := dk_184 0 7 (dk_at dksX15_areBeside_0 3 rfl rfl)
theorem dX15_areBeside_6 : decode cX15_areBeside 6 = .ok (.iconst 2, 1) := dk_5 (dk_at dksX15_areBeside_0 6 rfl rfl)
theorem dX15_areBeside_7 : decode cX15_areBeside 7 = .ok (.if_icmp .ne 7, 3) := dk_160 0 7 (dk_at dksX15_areBeside_0 7 rfl rfl)
theorem dX15_areBeside_10 : decode cX15_areBeside 10 = .ok (.iconst 1, 1) := dk_4 (dk_at dksX15_areBeside_0 10 rfl rfl)
theorem dX15_areBeside_11 : decode cX15_areBeside 11 = .ok (.goto 4, 3) := dk_167 0 4 (dk_at dksX15_areBeside_0 11 rfl rfl)
theorem dX15_areBeside_14 : decode cX15_areBeside 14 = .ok (.iconst 0, 1) := dk_3 (dk_at dksX15_areBeside_0 14 rfl rfl)
theorem dX15_areBeside_15 : decode cX15_areBeside 15 = .ok (.ireturn, 1) := dk_172 (dk_at dksX15_areBeside_0 15 rfl rfl)
theorem q133 : (Jvm.Cond.initialized "FirstIn$Table") ∈ lw_all := lw_g (lw_at lw_m1 32 rfl) rfl
theorem q623 : (Jvm.Cond.selects "FirstIn$Table" ({ cls := "java/lang/Object", name := "getClass", desc := "()Ljava/lang/Class;" } : Jvm.MethodName) ({ cls := "java/lang/Object", name := "getClass", desc := "()Ljava/lang/Class;" } : Jvm.MethodName)) ∈ lw_all := lw_g (lw_at lw_m3 42 rfl) rfl
theorem q840 : (Jvm.Cond.instantiable "FirstIn$Table" (1 : Nat)) ∈ lw_all := lw_g (lw_at lw_m4 19 rfl) rfl
theorem q842 : (Jvm.Cond.instanceMethod ({ cls := "FirstIn$Table", name := "<init>", desc := "(I)V" } : Jvm.MethodName)) ∈ lw_all := lw_g (lw_at lw_m4 21 rfl) rfl
theorem q843 : (Jvm.Cond.code ({ cls := "FirstIn$Table", name := "<init>", desc := "(I)V" } : Jvm.MethodName) prog_23_method_1_code (2 : Nat) (Option.none : Option Jvm.ClassFile.FieldType)) ∈ lw_all := lw_g (lw_at lw_m4 22 rfl) rfl
theorem q844 : (Jvm.Cond.methodLink "FirstIn$Table" (1 : Nat) ({ cls := "FirstIn$Room", name := "<init>", desc := "(I)V" } : Jvm.MethodName)) ∈ lw_all := lw_g (lw_at lw_m4 23 rfl) rfl
theorem q845 : (Jvm.Cond.laysFinal "FirstIn$Table" "FirstIn$Room" "places" "I") ∈ lw_all := lw_g (lw_at lw_m4 24 rfl) rfl
theorem q846 : (Jvm.Cond.superclass "FirstIn$Table" "FirstIn$Room") ∈ lw_all := lw_g (lw_at lw_m4 25 rfl) rfl
theorem q951 : (Jvm.Cond.selects "FirstIn$Table" ({ cls := "FirstIn$Room", name := "higher", desc := "(III)I" } : Jvm.MethodName) ({ cls := "FirstIn$Room", name := "higher", desc := "(III)I" } : Jvm.MethodName)) ∈ lw_all := lw_g (lw_at lw_m4 130 rfl) rfl
theorem q958 : (Jvm.Cond.instanceMethod ({ cls := "FirstIn$Table", name := "height", desc := "(II)I" } : Jvm.MethodName)) ∈ lw_all := lw_g (lw_at lw_m4 137 rfl) rfl
theorem q959 : (Jvm.Cond.code ({ cls := "FirstIn$Table", name := "height", desc := "(II)I" } : Jvm.MethodName) prog_23_method_2_code (3 : Nat) (Option.some Jvm.ClassFile.FieldType.int)) ∈ lw_all := lw_g (lw_at lw_m4 138 rfl) rfl
theorem q966 : (Jvm.Cond.selects "FirstIn$Table" ({ cls := "FirstIn$Room", name := "height", desc := "(II)I" } : Jvm.MethodName) ({ cls := "FirstIn$Table", name := "height", desc := "(II)I" } : Jvm.MethodName)) ∈ lw_all := lw_g (lw_at lw_m4 145 rfl) rfl
theorem q980 : (Jvm.Cond.selects "FirstIn$Table" ({ cls := "FirstIn$Room", name := "alike", desc := "()I" } : Jvm.MethodName) ({ cls := "FirstIn$Table", name := "alike", desc := "()I" } : Jvm.MethodName)) ∈ lw_all := lw_g (lw_at lw_m4 159 rfl) rfl
theorem q981 : (Jvm.Cond.instanceMethod ({ cls := "FirstIn$Table", name := "alike", desc := "()I" } : Jvm.MethodName)) ∈ lw_all := lw_g (lw_at lw_m4 160 rfl) rfl
theorem q982 : (Jvm.Cond.code ({ cls := "FirstIn$Table", name := "alike", desc := "()I" } : Jvm.MethodName) prog_23_method_3_code (1 : Nat) (Option.some Jvm.ClassFile.FieldType.int)) ∈ lw_all := lw_g (lw_at lw_m4 161 rfl) rfl
theorem q1047 : (Jvm.Cond.selects "FirstIn$Table" ({ cls := "FirstIn$Room", name := "areBeside", desc := "(II)Z" } : Jvm.MethodName) ({ cls := "FirstIn$Table", name := "areBeside", desc := "(II)Z" } : Jvm.MethodName)) ∈ lw_all := lw_g (lw_at lw_m4 226 rfl) rfl
theorem q1048 : (Jvm.Cond.instanceMethod ({ cls := "FirstIn$Table", name := "areBeside", desc := "(II)Z" } : Jvm.MethodName)) ∈ lw_all := lw_g (lw_at lw_m4 227 rfl) rfl
theorem q1049 : (Jvm.Cond.code ({ cls := "FirstIn$Table", name := "areBeside", desc := "(II)Z" } : Jvm.MethodName) prog_23_method_4_code (3 : Nat) (Option.some Jvm.ClassFile.FieldType.boolean)) ∈ lw_all := lw_g (lw_at lw_m4 228 rfl) rfl
theorem q1050 : (Jvm.Cond.methodLink "FirstIn$Table" (7 : Nat) ({ cls := "java/lang/Math", name := "abs", desc := "(I)I" } : Jvm.MethodName)) ∈ lw_all := lw_g (lw_at lw_m4 229 rfl) rfl
theorem q2005 : (Jvm.Cond.castable "FirstIn$Table" "FirstIn$Room") ∈ lw_tbl := lw_at lw_m8 224 rfl
theorem q2020 : (Jvm.Cond.castable "FirstIn$Table" "java/lang/Object") ∈ lw_tbl := lw_at lw_m8 239 rfl
theorem in_X15 : ∀ w ∈ wsX150, w ∈ lw_all := lw_in wsX150 [845] (by decide +kernel) (by decide +kernel)

/-! FirstIn$Ring -/
set_option maxRecDepth 100000
def RX16 : String := "FirstIn$Ring"
def TX16 : u_T := fun k => match k with
  | _ => ("FirstIn$Room", "places", "I", true)
def tyX16 : Nat → FieldType := fun k => match k with
  | _ => .int
abbrev wsX160 : List Cond := u_ws RX16 TX16 1
theorem nmX16 : ∀ a, a < 1 → ∀ b, b < 1 → a ≠ b → (TX16 a).2.1 ≠ (TX16 b).2.1 := by decide +kernel
theorem tyX16_ok : ∀ k, k < 1 → parseFieldDescriptor (TX16 k).2.2.1 = some (tyX16 k) := by decide +kernel
abbrev cX16_init : ByteArray := prog_16_method_1_code
def yX16_init : MethodName := ⟨RX16, "<init>", "(I)V"⟩
def dkwX16_init_0 : List UInt8 := [42, 27, 183, 0, 1, 177]
abbrev dktX16_init_0 : List UInt8 := dkwX16_init_0 ++ []
theorem dksX16_init_0 : cX16_init.data.toList.drop 0 = dktX16_init_0 := by decide +kernel
theorem dX16_init_0 : decode cX16_init 0 = .ok (.aload_n 0, 1) := dk_42 (dk_at dksX16_init_0 0 rfl rfl)
theorem dX16_init_1 : decode cX16_init 1 = .ok (.iload_n 1, 1) := dk_27 (dk_at dksX16_init_0 1 rfl rfl)
theorem dX16_init_2 : decode cX16_init 2 = .ok (.invokespecial 1, 3) := dk_183 0 1 (dk_at dksX16_init_0 2 rfl rfl)
theorem dX16_init_5 : decode cX16_init 5 = .ok (.return_, 1) := dk_177 (dk_at dksX16_init_0 5 rfl rfl)
abbrev cX16_height : ByteArray := prog_16_method_2_code
def yX16_height : MethodName := ⟨RX16, "height", "(II)I"⟩
theorem dX16_height_0 : decode cX16_height 0 = .ok (.iconst 0, 1) := by decide +kernel
theorem dX16_height_1 : decode cX16_height 1 = .ok (.ireturn, 1) := by decide +kernel
abbrev cX16_alike : ByteArray := prog_16_method_3_code
def yX16_alike : MethodName := ⟨RX16, "alike", "()I"⟩
theorem dX16_alike_0 : decode cX16_alike 0 = .ok (.iconst (-1), 1) := by decide +kernel
theorem dX16_alike_1 : decode cX16_alike 1 = .ok (.ireturn, 1) := by decide +kernel
abbrev cX16_areBeside : ByteArray := prog_16_method_4_code
def yX16_areBeside : MethodName := ⟨RX16, "areBeside", "(II)Z"⟩
def dkwX16_areBeside_1 : List UInt8 := [180, 0, 13, 4, 100, 160, 0, 7, 4, 167, 0, 4, 3, 172]
abbrev dktX16_areBeside_1 : List UInt8 := dkwX16_areBeside_1 ++ []
def dkwX16_areBeside_0 : List UInt8 := [27, 28, 159, 0, 32, 27, 28, 100, 184, 0, 7, 4, 159, 0, 18, 27, 28, 100, 184, 0, 7, 42]
abbrev dktX16_areBeside_0 : List UInt8 := dkwX16_areBeside_0 ++ dktX16_areBeside_1
theorem dksX16_areBeside_0 : cX16_areBeside.data.toList.drop 0 = dktX16_areBeside_0 := by decide +kernel
theorem dksX16_areBeside_1 : cX16_areBeside.data.toList.drop 22 = dktX16_areBeside_1 := dk_seg dksX16_areBeside_0 22 rfl rfl
theorem dX16_areBeside_0 : decode cX16_areBeside 0 = .ok (.iload_n 1, 1) := dk_27 (dk_at dksX16_areBeside_0 0 rfl rfl)
theorem dX16_areBeside_1 : decode cX16_areBeside 1 = .ok (.iload_n 2, 1) := dk_28 (dk_at dksX16_areBeside_0 1 rfl rfl)
theorem dX16_areBeside_2 : decode cX16_areBeside 2 = .ok (.if_icmp .eq 32, 3) := dk_159 0 32 (dk_at dksX16_areBeside_0 2 rfl rfl)
theorem dX16_areBeside_5 : decode cX16_areBeside 5 = .ok (.iload_n 1, 1) := dk_27 (dk_at dksX16_areBeside_0 5 rfl rfl)
theorem dX16_areBeside_6 : decode cX16_areBeside 6 = .ok (.iload_n 2, 1) := dk_28 (dk_at dksX16_areBeside_0 6 rfl rfl)
theorem dX16_areBeside_7 : decode cX16_areBeside 7 = .ok (.isub, 1) := dk_100 (dk_at dksX16_areBeside_0 7 rfl rfl)
theorem dX16_areBeside_8 : decode cX16_areBeside 8 = .ok (.invokestatic 7, 3) := dk_184 0 7 (dk_at dksX16_areBeside_0 8 rfl rfl)
theorem dX16_areBeside_11 : decode cX16_areBeside 11 = .ok (.iconst 1, 1) := dk_4 (dk_at dksX16_areBeside_0 11 rfl rfl)
theorem dX16_areBeside_12 : decode cX16_areBeside 12 = .ok (.if_icmp .eq 18, 3) := dk_159 0 18 (dk_at dksX16_areBeside_0 12 rfl rfl)
theorem dX16_areBeside_15 : decode cX16_areBeside 15 = .ok (.iload_n 1, 1) := dk_27 (dk_at dksX16_areBeside_0 15 rfl rfl)
theorem dX16_areBeside_16 : decode cX16_areBeside 16 = .ok (.iload_n 2, 1) := dk_28 (dk_at dksX16_areBeside_0 16 rfl rfl)
theorem dX16_areBeside_17 : decode cX16_areBeside 17 = .ok (.isub, 1) := dk_100 (dk_at dksX16_areBeside_0 17 rfl rfl)
theorem dX16_areBeside_18 : decode cX16_areBeside 18 = .ok (.invokestatic 7, 3) := dk_184 0 7 (dk_at dksX16_areBeside_0 18 rfl rfl)
theorem dX16_areBeside_21 : decode cX16_areBeside 21 = .ok (.aload_n 0, 1) := dk_42 (dk_at dksX16_areBeside_0 21 rfl rfl)
theorem dX16_areBeside_22 : decode cX16_areBeside 22 = .ok (.getfield 13, 3) := dk_180 0 13 (dk_at dksX16_areBeside_1 0 rfl rfl)
theorem dX16_areBeside_25 : decode cX16_areBeside 25 = .ok (.iconst 1, 1) := dk_4 (dk_at dksX16_areBeside_1 3 rfl rfl)
theorem dX16_areBeside_26 : decode cX16_areBeside 26 = .ok (.isub, 1) := dk_100 (dk_at dksX16_areBeside_1 4 rfl rfl)
theorem dX16_areBeside_27 : decode cX16_areBeside 27 = .ok (.if_icmp .ne 7, 3) := dk_160 0 7 (dk_at dksX16_areBeside_1 5 rfl rfl)
theorem dX16_areBeside_30 : decode cX16_areBeside 30 = .ok (.iconst 1, 1) := dk_4 (dk_at dksX16_areBeside_1 8 rfl rfl)
theorem dX16_areBeside_31 : decode cX16_areBeside 31 = .ok (.goto 4, 3) := dk_167 0 4 (dk_at dksX16_areBeside_1 9 rfl rfl)
theorem dX16_areBeside_34 : decode cX16_areBeside 34 = .ok (.iconst 0, 1) := dk_3 (dk_at dksX16_areBeside_1 12 rfl rfl)
theorem dX16_areBeside_35 : decode cX16_areBeside 35 = .ok (.ireturn, 1) := dk_172 (dk_at dksX16_areBeside_1 13 rfl rfl)
theorem q134 : (Jvm.Cond.initialized "FirstIn$Ring") ∈ lw_all := lw_g (lw_at lw_m1 33 rfl) rfl
theorem q620 : (Jvm.Cond.selects "FirstIn$Ring" ({ cls := "java/lang/Object", name := "getClass", desc := "()Ljava/lang/Class;" } : Jvm.MethodName) ({ cls := "java/lang/Object", name := "getClass", desc := "()Ljava/lang/Class;" } : Jvm.MethodName)) ∈ lw_all := lw_g (lw_at lw_m3 39 rfl) rfl
theorem q832 : (Jvm.Cond.fieldLink "FirstIn$Ring" (13 : Nat) "FirstIn$Ring" "places" "I") ∈ lw_all := lw_g (lw_at lw_m4 11 rfl) rfl
theorem q833 : (Jvm.Cond.sameField "FirstIn$Ring" "FirstIn$Room" "places" "I") ∈ lw_all := lw_g (lw_at lw_m4 12 rfl) rfl
theorem q848 : (Jvm.Cond.instantiable "FirstIn$Ring" (1 : Nat)) ∈ lw_all := lw_g (lw_at lw_m4 27 rfl) rfl
theorem q850 : (Jvm.Cond.instanceMethod ({ cls := "FirstIn$Ring", name := "<init>", desc := "(I)V" } : Jvm.MethodName)) ∈ lw_all := lw_g (lw_at lw_m4 29 rfl) rfl
theorem q851 : (Jvm.Cond.code ({ cls := "FirstIn$Ring", name := "<init>", desc := "(I)V" } : Jvm.MethodName) prog_16_method_1_code (2 : Nat) (Option.none : Option Jvm.ClassFile.FieldType)) ∈ lw_all := lw_g (lw_at lw_m4 30 rfl) rfl
theorem q852 : (Jvm.Cond.methodLink "FirstIn$Ring" (1 : Nat) ({ cls := "FirstIn$Room", name := "<init>", desc := "(I)V" } : Jvm.MethodName)) ∈ lw_all := lw_g (lw_at lw_m4 31 rfl) rfl
theorem q853 : (Jvm.Cond.laysFinal "FirstIn$Ring" "FirstIn$Room" "places" "I") ∈ lw_all := lw_g (lw_at lw_m4 32 rfl) rfl
theorem q854 : (Jvm.Cond.superclass "FirstIn$Ring" "FirstIn$Room") ∈ lw_all := lw_g (lw_at lw_m4 33 rfl) rfl
theorem q949 : (Jvm.Cond.selects "FirstIn$Ring" ({ cls := "FirstIn$Room", name := "higher", desc := "(III)I" } : Jvm.MethodName) ({ cls := "FirstIn$Room", name := "higher", desc := "(III)I" } : Jvm.MethodName)) ∈ lw_all := lw_g (lw_at lw_m4 128 rfl) rfl
theorem q960 : (Jvm.Cond.selects "FirstIn$Ring" ({ cls := "FirstIn$Room", name := "height", desc := "(II)I" } : Jvm.MethodName) ({ cls := "FirstIn$Ring", name := "height", desc := "(II)I" } : Jvm.MethodName)) ∈ lw_all := lw_g (lw_at lw_m4 139 rfl) rfl
theorem q961 : (Jvm.Cond.instanceMethod ({ cls := "FirstIn$Ring", name := "height", desc := "(II)I" } : Jvm.MethodName)) ∈ lw_all := lw_g (lw_at lw_m4 140 rfl) rfl
theorem q962 : (Jvm.Cond.code ({ cls := "FirstIn$Ring", name := "height", desc := "(II)I" } : Jvm.MethodName) prog_16_method_2_code (3 : Nat) (Option.some Jvm.ClassFile.FieldType.int)) ∈ lw_all := lw_g (lw_at lw_m4 141 rfl) rfl
theorem q976 : (Jvm.Cond.selects "FirstIn$Ring" ({ cls := "FirstIn$Room", name := "alike", desc := "()I" } : Jvm.MethodName) ({ cls := "FirstIn$Ring", name := "alike", desc := "()I" } : Jvm.MethodName)) ∈ lw_all := lw_g (lw_at lw_m4 155 rfl) rfl
theorem q977 : (Jvm.Cond.instanceMethod ({ cls := "FirstIn$Ring", name := "alike", desc := "()I" } : Jvm.MethodName)) ∈ lw_all := lw_g (lw_at lw_m4 156 rfl) rfl
theorem q978 : (Jvm.Cond.code ({ cls := "FirstIn$Ring", name := "alike", desc := "()I" } : Jvm.MethodName) prog_16_method_3_code (1 : Nat) (Option.some Jvm.ClassFile.FieldType.int)) ∈ lw_all := lw_g (lw_at lw_m4 157 rfl) rfl
theorem q1037 : (Jvm.Cond.selects "FirstIn$Ring" ({ cls := "FirstIn$Room", name := "areBeside", desc := "(II)Z" } : Jvm.MethodName) ({ cls := "FirstIn$Ring", name := "areBeside", desc := "(II)Z" } : Jvm.MethodName)) ∈ lw_all := lw_g (lw_at lw_m4 216 rfl) rfl
theorem q1038 : (Jvm.Cond.instanceMethod ({ cls := "FirstIn$Ring", name := "areBeside", desc := "(II)Z" } : Jvm.MethodName)) ∈ lw_all := lw_g (lw_at lw_m4 217 rfl) rfl
theorem q1039 : (Jvm.Cond.code ({ cls := "FirstIn$Ring", name := "areBeside", desc := "(II)Z" } : Jvm.MethodName) prog_16_method_4_code (3 : Nat) (Option.some Jvm.ClassFile.FieldType.boolean)) ∈ lw_all := lw_g (lw_at lw_m4 218 rfl) rfl
theorem q1040 : (Jvm.Cond.methodLink "FirstIn$Ring" (7 : Nat) ({ cls := "java/lang/Math", name := "abs", desc := "(I)I" } : Jvm.MethodName)) ∈ lw_all := lw_g (lw_at lw_m4 219 rfl) rfl
theorem q2003 : (Jvm.Cond.castable "FirstIn$Ring" "FirstIn$Room") ∈ lw_tbl := lw_at lw_m8 222 rfl
theorem q2021 : (Jvm.Cond.castable "FirstIn$Ring" "java/lang/Object") ∈ lw_tbl := lw_at lw_m9 0 rfl
theorem in_X16 : ∀ w ∈ wsX160, w ∈ lw_all := lw_in wsX160 [853] (by decide +kernel) (by decide +kernel)

/-! FirstIn$Door -/
set_option maxRecDepth 100000
def RX17 : String := "FirstIn$Door"
def TX17 : u_T := fun k => match k with
  | _ => ("FirstIn$Room", "places", "I", true)
def tyX17 : Nat → FieldType := fun k => match k with
  | _ => .int
abbrev wsX170 : List Cond := u_ws RX17 TX17 1
theorem nmX17 : ∀ a, a < 1 → ∀ b, b < 1 → a ≠ b → (TX17 a).2.1 ≠ (TX17 b).2.1 := by decide +kernel
theorem tyX17_ok : ∀ k, k < 1 → parseFieldDescriptor (TX17 k).2.2.1 = some (tyX17 k) := by decide +kernel
abbrev cX17_init : ByteArray := prog_6_method_1_code
def yX17_init : MethodName := ⟨RX17, "<init>", "(I)V"⟩
def dkwX17_init_0 : List UInt8 := [42, 27, 183, 0, 1, 177]
abbrev dktX17_init_0 : List UInt8 := dkwX17_init_0 ++ []
theorem dksX17_init_0 : cX17_init.data.toList.drop 0 = dktX17_init_0 := by decide +kernel
theorem dX17_init_0 : decode cX17_init 0 = .ok (.aload_n 0, 1) := dk_42 (dk_at dksX17_init_0 0 rfl rfl)
theorem dX17_init_1 : decode cX17_init 1 = .ok (.iload_n 1, 1) := dk_27 (dk_at dksX17_init_0 1 rfl rfl)
theorem dX17_init_2 : decode cX17_init 2 = .ok (.invokespecial 1, 3) := dk_183 0 1 (dk_at dksX17_init_0 2 rfl rfl)
theorem dX17_init_5 : decode cX17_init 5 = .ok (.return_, 1) := dk_177 (dk_at dksX17_init_0 5 rfl rfl)
abbrev cX17_alike : ByteArray := prog_6_method_2_code
def yX17_alike : MethodName := ⟨RX17, "alike", "()I"⟩
theorem dX17_alike_0 : decode cX17_alike 0 = .ok (.iconst 0, 1) := by decide +kernel
theorem dX17_alike_1 : decode cX17_alike 1 = .ok (.ireturn, 1) := by decide +kernel
abbrev cX17_areBeside : ByteArray := prog_6_method_3_code
def yX17_areBeside : MethodName := ⟨RX17, "areBeside", "(II)Z"⟩
def dkwX17_areBeside_0 : List UInt8 := [27, 28, 159, 0, 16, 27, 5, 108, 28, 5, 108, 160, 0, 7, 4, 167, 0, 4, 3, 172]
abbrev dktX17_areBeside_0 : List UInt8 := dkwX17_areBeside_0 ++ []
theorem dksX17_areBeside_0 : cX17_areBeside.data.toList.drop 0 = dktX17_areBeside_0 := by decide +kernel
theorem dX17_areBeside_0 : decode cX17_areBeside 0 = .ok (.iload_n 1, 1) := dk_27 (dk_at dksX17_areBeside_0 0 rfl rfl)
theorem dX17_areBeside_1 : decode cX17_areBeside 1 = .ok (.iload_n 2, 1) := dk_28 (dk_at dksX17_areBeside_0 1 rfl rfl)
theorem dX17_areBeside_2 : decode cX17_areBeside 2 = .ok (.if_icmp .eq 16, 3) := dk_159 0 16 (dk_at dksX17_areBeside_0 2 rfl rfl)
theorem dX17_areBeside_5 : decode cX17_areBeside 5 = .ok (.iload_n 1, 1) := dk_27 (dk_at dksX17_areBeside_0 5 rfl rfl)
theorem dX17_areBeside_6 : decode cX17_areBeside 6 = .ok (.iconst 2, 1) := dk_5 (dk_at dksX17_areBeside_0 6 rfl rfl)
theorem dX17_areBeside_7 : decode cX17_areBeside 7 = .ok (.idiv, 1) := dk_108 (dk_at dksX17_areBeside_0 7 rfl rfl)
theorem dX17_areBeside_8 : decode cX17_areBeside 8 = .ok (.iload_n 2, 1) := dk_28 (dk_at dksX17_areBeside_0 8 rfl rfl)
theorem dX17_areBeside_9 : decode cX17_areBeside 9 = .ok (.iconst 2, 1) := dk_5 (dk_at dksX17_areBeside_0 9 rfl rfl)
theorem dX17_areBeside_10 : decode cX17_areBeside 10 = .ok (.idiv, 1) := dk_108 (dk_at dksX17_areBeside_0 10 rfl rfl)
theorem dX17_areBeside_11 : decode cX17_areBeside 11 = .ok (.if_icmp .ne 7, 3) := dk_160 0 7 (dk_at dksX17_areBeside_0 11 rfl rfl)
theorem dX17_areBeside_14 : decode cX17_areBeside 14 = .ok (.iconst 1, 1) := dk_4 (dk_at dksX17_areBeside_0 14 rfl rfl)
theorem dX17_areBeside_15 : decode cX17_areBeside 15 = .ok (.goto 4, 3) := dk_167 0 4 (dk_at dksX17_areBeside_0 15 rfl rfl)
theorem dX17_areBeside_18 : decode cX17_areBeside 18 = .ok (.iconst 0, 1) := dk_3 (dk_at dksX17_areBeside_0 18 rfl rfl)
theorem dX17_areBeside_19 : decode cX17_areBeside 19 = .ok (.ireturn, 1) := dk_172 (dk_at dksX17_areBeside_0 19 rfl rfl)
theorem q135 : (Jvm.Cond.initialized "FirstIn$Door") ∈ lw_all := lw_g (lw_at lw_m1 34 rfl) rfl
theorem q611 : (Jvm.Cond.selects "FirstIn$Door" ({ cls := "java/lang/Object", name := "getClass", desc := "()Ljava/lang/Class;" } : Jvm.MethodName) ({ cls := "java/lang/Object", name := "getClass", desc := "()Ljava/lang/Class;" } : Jvm.MethodName)) ∈ lw_all := lw_g (lw_at lw_m3 30 rfl) rfl
theorem q856 : (Jvm.Cond.instantiable "FirstIn$Door" (1 : Nat)) ∈ lw_all := lw_g (lw_at lw_m4 35 rfl) rfl
theorem q858 : (Jvm.Cond.instanceMethod ({ cls := "FirstIn$Door", name := "<init>", desc := "(I)V" } : Jvm.MethodName)) ∈ lw_all := lw_g (lw_at lw_m4 37 rfl) rfl
theorem q859 : (Jvm.Cond.code ({ cls := "FirstIn$Door", name := "<init>", desc := "(I)V" } : Jvm.MethodName) prog_6_method_1_code (2 : Nat) (Option.none : Option Jvm.ClassFile.FieldType)) ∈ lw_all := lw_g (lw_at lw_m4 38 rfl) rfl
theorem q860 : (Jvm.Cond.methodLink "FirstIn$Door" (1 : Nat) ({ cls := "FirstIn$Table", name := "<init>", desc := "(I)V" } : Jvm.MethodName)) ∈ lw_all := lw_g (lw_at lw_m4 39 rfl) rfl
theorem q861 : (Jvm.Cond.laysFinal "FirstIn$Door" "FirstIn$Room" "places" "I") ∈ lw_all := lw_g (lw_at lw_m4 40 rfl) rfl
theorem q862 : (Jvm.Cond.superclass "FirstIn$Door" "FirstIn$Table") ∈ lw_all := lw_g (lw_at lw_m4 41 rfl) rfl
theorem q948 : (Jvm.Cond.selects "FirstIn$Door" ({ cls := "FirstIn$Room", name := "higher", desc := "(III)I" } : Jvm.MethodName) ({ cls := "FirstIn$Room", name := "higher", desc := "(III)I" } : Jvm.MethodName)) ∈ lw_all := lw_g (lw_at lw_m4 127 rfl) rfl
theorem q957 : (Jvm.Cond.selects "FirstIn$Door" ({ cls := "FirstIn$Room", name := "height", desc := "(II)I" } : Jvm.MethodName) ({ cls := "FirstIn$Table", name := "height", desc := "(II)I" } : Jvm.MethodName)) ∈ lw_all := lw_g (lw_at lw_m4 136 rfl) rfl
theorem q973 : (Jvm.Cond.selects "FirstIn$Door" ({ cls := "FirstIn$Room", name := "alike", desc := "()I" } : Jvm.MethodName) ({ cls := "FirstIn$Door", name := "alike", desc := "()I" } : Jvm.MethodName)) ∈ lw_all := lw_g (lw_at lw_m4 152 rfl) rfl
theorem q974 : (Jvm.Cond.instanceMethod ({ cls := "FirstIn$Door", name := "alike", desc := "()I" } : Jvm.MethodName)) ∈ lw_all := lw_g (lw_at lw_m4 153 rfl) rfl
theorem q975 : (Jvm.Cond.code ({ cls := "FirstIn$Door", name := "alike", desc := "()I" } : Jvm.MethodName) prog_6_method_2_code (1 : Nat) (Option.some Jvm.ClassFile.FieldType.int)) ∈ lw_all := lw_g (lw_at lw_m4 154 rfl) rfl
theorem q1034 : (Jvm.Cond.selects "FirstIn$Door" ({ cls := "FirstIn$Room", name := "areBeside", desc := "(II)Z" } : Jvm.MethodName) ({ cls := "FirstIn$Door", name := "areBeside", desc := "(II)Z" } : Jvm.MethodName)) ∈ lw_all := lw_g (lw_at lw_m4 213 rfl) rfl
theorem q1035 : (Jvm.Cond.instanceMethod ({ cls := "FirstIn$Door", name := "areBeside", desc := "(II)Z" } : Jvm.MethodName)) ∈ lw_all := lw_g (lw_at lw_m4 214 rfl) rfl
theorem q1036 : (Jvm.Cond.code ({ cls := "FirstIn$Door", name := "areBeside", desc := "(II)Z" } : Jvm.MethodName) prog_6_method_3_code (3 : Nat) (Option.some Jvm.ClassFile.FieldType.boolean)) ∈ lw_all := lw_g (lw_at lw_m4 215 rfl) rfl
theorem q2002 : (Jvm.Cond.castable "FirstIn$Door" "FirstIn$Room") ∈ lw_tbl := lw_at lw_m8 221 rfl
theorem q2022 : (Jvm.Cond.castable "FirstIn$Door" "java/lang/Object") ∈ lw_tbl := lw_at lw_m9 1 rfl
theorem in_X17 : ∀ w ∈ wsX170, w ∈ lw_all := lw_in wsX170 [861] (by decide +kernel) (by decide +kernel)

/-! FirstIn$Turn -/
set_option maxRecDepth 100000
def RX18 : String := "FirstIn$Turn"
def TX18 : u_T := fun k => match k with
  | _ => ("FirstIn$Room", "places", "I", true)
def tyX18 : Nat → FieldType := fun k => match k with
  | _ => .int
abbrev wsX180 : List Cond := u_ws RX18 TX18 1
theorem nmX18 : ∀ a, a < 1 → ∀ b, b < 1 → a ≠ b → (TX18 a).2.1 ≠ (TX18 b).2.1 := by decide +kernel
theorem tyX18_ok : ∀ k, k < 1 → parseFieldDescriptor (TX18 k).2.2.1 = some (tyX18 k) := by decide +kernel
abbrev cX18_init : ByteArray := prog_24_method_1_code
def yX18_init : MethodName := ⟨RX18, "<init>", "(I)V"⟩
def dkwX18_init_0 : List UInt8 := [42, 27, 183, 0, 1, 177]
abbrev dktX18_init_0 : List UInt8 := dkwX18_init_0 ++ []
theorem dksX18_init_0 : cX18_init.data.toList.drop 0 = dktX18_init_0 := by decide +kernel
theorem dX18_init_0 : decode cX18_init 0 = .ok (.aload_n 0, 1) := dk_42 (dk_at dksX18_init_0 0 rfl rfl)
theorem dX18_init_1 : decode cX18_init 1 = .ok (.iload_n 1, 1) := dk_27 (dk_at dksX18_init_0 1 rfl rfl)
theorem dX18_init_2 : decode cX18_init 2 = .ok (.invokespecial 1, 3) := dk_183 0 1 (dk_at dksX18_init_0 2 rfl rfl)
theorem dX18_init_5 : decode cX18_init 5 = .ok (.return_, 1) := dk_177 (dk_at dksX18_init_0 5 rfl rfl)
abbrev cX18_height : ByteArray := prog_24_method_2_code
def yX18_height : MethodName := ⟨RX18, "height", "(II)I"⟩
def dkwX18_height_0 : List UInt8 := [28, 27, 96, 42, 180, 0, 7, 112, 172]
abbrev dktX18_height_0 : List UInt8 := dkwX18_height_0 ++ []
theorem dksX18_height_0 : cX18_height.data.toList.drop 0 = dktX18_height_0 := by decide +kernel
theorem dX18_height_0 : decode cX18_height 0 = .ok (.iload_n 2, 1) := dk_28 (dk_at dksX18_height_0 0 rfl rfl)
theorem dX18_height_1 : decode cX18_height 1 = .ok (.iload_n 1, 1) := dk_27 (dk_at dksX18_height_0 1 rfl rfl)
theorem dX18_height_2 : decode cX18_height 2 = .ok (.iadd, 1) := dk_96 (dk_at dksX18_height_0 2 rfl rfl)
theorem dX18_height_3 : decode cX18_height 3 = .ok (.aload_n 0, 1) := dk_42 (dk_at dksX18_height_0 3 rfl rfl)
theorem dX18_height_4 : decode cX18_height 4 = .ok (.getfield 7, 3) := dk_180 0 7 (dk_at dksX18_height_0 4 rfl rfl)
theorem dX18_height_7 : decode cX18_height 7 = .ok (.irem, 1) := dk_112 (dk_at dksX18_height_0 7 rfl rfl)
theorem dX18_height_8 : decode cX18_height 8 = .ok (.ireturn, 1) := dk_172 (dk_at dksX18_height_0 8 rfl rfl)
theorem q136 : (Jvm.Cond.initialized "FirstIn$Turn") ∈ lw_all := lw_g (lw_at lw_m1 35 rfl) rfl
theorem q624 : (Jvm.Cond.selects "FirstIn$Turn" ({ cls := "java/lang/Object", name := "getClass", desc := "()Ljava/lang/Class;" } : Jvm.MethodName) ({ cls := "java/lang/Object", name := "getClass", desc := "()Ljava/lang/Class;" } : Jvm.MethodName)) ∈ lw_all := lw_g (lw_at lw_m3 43 rfl) rfl
theorem q830 : (Jvm.Cond.fieldLink "FirstIn$Turn" (7 : Nat) "FirstIn$Turn" "places" "I") ∈ lw_all := lw_g (lw_at lw_m4 9 rfl) rfl
theorem q831 : (Jvm.Cond.sameField "FirstIn$Turn" "FirstIn$Room" "places" "I") ∈ lw_all := lw_g (lw_at lw_m4 10 rfl) rfl
theorem q864 : (Jvm.Cond.instantiable "FirstIn$Turn" (1 : Nat)) ∈ lw_all := lw_g (lw_at lw_m4 43 rfl) rfl
theorem q866 : (Jvm.Cond.instanceMethod ({ cls := "FirstIn$Turn", name := "<init>", desc := "(I)V" } : Jvm.MethodName)) ∈ lw_all := lw_g (lw_at lw_m4 45 rfl) rfl
theorem q867 : (Jvm.Cond.code ({ cls := "FirstIn$Turn", name := "<init>", desc := "(I)V" } : Jvm.MethodName) prog_24_method_1_code (2 : Nat) (Option.none : Option Jvm.ClassFile.FieldType)) ∈ lw_all := lw_g (lw_at lw_m4 46 rfl) rfl
theorem q868 : (Jvm.Cond.methodLink "FirstIn$Turn" (1 : Nat) ({ cls := "FirstIn$Row", name := "<init>", desc := "(I)V" } : Jvm.MethodName)) ∈ lw_all := lw_g (lw_at lw_m4 47 rfl) rfl
theorem q869 : (Jvm.Cond.laysFinal "FirstIn$Turn" "FirstIn$Room" "places" "I") ∈ lw_all := lw_g (lw_at lw_m4 48 rfl) rfl
theorem q870 : (Jvm.Cond.superclass "FirstIn$Turn" "FirstIn$Row") ∈ lw_all := lw_g (lw_at lw_m4 49 rfl) rfl
theorem q952 : (Jvm.Cond.selects "FirstIn$Turn" ({ cls := "FirstIn$Room", name := "higher", desc := "(III)I" } : Jvm.MethodName) ({ cls := "FirstIn$Room", name := "higher", desc := "(III)I" } : Jvm.MethodName)) ∈ lw_all := lw_g (lw_at lw_m4 131 rfl) rfl
theorem q967 : (Jvm.Cond.selects "FirstIn$Turn" ({ cls := "FirstIn$Room", name := "height", desc := "(II)I" } : Jvm.MethodName) ({ cls := "FirstIn$Turn", name := "height", desc := "(II)I" } : Jvm.MethodName)) ∈ lw_all := lw_g (lw_at lw_m4 146 rfl) rfl
theorem q968 : (Jvm.Cond.instanceMethod ({ cls := "FirstIn$Turn", name := "height", desc := "(II)I" } : Jvm.MethodName)) ∈ lw_all := lw_g (lw_at lw_m4 147 rfl) rfl
theorem q969 : (Jvm.Cond.code ({ cls := "FirstIn$Turn", name := "height", desc := "(II)I" } : Jvm.MethodName) prog_24_method_2_code (3 : Nat) (Option.some Jvm.ClassFile.FieldType.int)) ∈ lw_all := lw_g (lw_at lw_m4 148 rfl) rfl
theorem q983 : (Jvm.Cond.selects "FirstIn$Turn" ({ cls := "FirstIn$Room", name := "alike", desc := "()I" } : Jvm.MethodName) ({ cls := "FirstIn$Room", name := "alike", desc := "()I" } : Jvm.MethodName)) ∈ lw_all := lw_g (lw_at lw_m4 162 rfl) rfl
theorem q1051 : (Jvm.Cond.selects "FirstIn$Turn" ({ cls := "FirstIn$Room", name := "areBeside", desc := "(II)Z" } : Jvm.MethodName) ({ cls := "FirstIn$Row", name := "areBeside", desc := "(II)Z" } : Jvm.MethodName)) ∈ lw_all := lw_g (lw_at lw_m4 230 rfl) rfl
theorem q2006 : (Jvm.Cond.castable "FirstIn$Turn" "FirstIn$Room") ∈ lw_tbl := lw_at lw_m8 225 rfl
theorem q2023 : (Jvm.Cond.castable "FirstIn$Turn" "java/lang/Object") ∈ lw_tbl := lw_at lw_m9 2 rfl
theorem in_X18 : ∀ w ∈ wsX180, w ∈ lw_all := lw_in wsX180 [869] (by decide +kernel) (by decide +kernel)

/-! FirstIn$Slight -/
set_option maxRecDepth 100000
def RX19 : String := "FirstIn$Slight"
def TX19 : u_T := fun k => match k with
  | 0 => ("FirstIn$Slight", "rule", "I", true)
  | 1 => ("FirstIn$Slight", "x", "I", true)
  | 2 => ("FirstIn$Slight", "y", "I", true)
  | 3 => ("FirstIn$Slight", "weight", "I", true)
  | _ => ("FirstIn$Slight", "who", "I", true)
def tyX19 : Nat → FieldType := fun k => match k with
  | 0 => .int
  | 1 => .int
  | 2 => .int
  | 3 => .int
  | _ => .int
abbrev wsX190 : List Cond := u_ws RX19 TX19 5
theorem nmX19 : ∀ a, a < 5 → ∀ b, b < 5 → a ≠ b → (TX19 a).2.1 ≠ (TX19 b).2.1 := by decide +kernel
theorem tyX19_ok : ∀ k, k < 5 → parseFieldDescriptor (TX19 k).2.2.1 = some (tyX19 k) := by decide +kernel
abbrev cX19_init : ByteArray := prog_22_method_1_code
def yX19_init : MethodName := ⟨RX19, "<init>", "(IIIII)V"⟩
def dkwX19_init_1 : List UInt8 := [181, 0, 19, 42, 21, 5, 181, 0, 22, 177]
abbrev dktX19_init_1 : List UInt8 := dkwX19_init_1 ++ []
def dkwX19_init_0 : List UInt8 := [42, 183, 0, 1, 42, 27, 181, 0, 7, 42, 28, 181, 0, 13, 42, 29, 181, 0, 16, 42, 21, 4]
abbrev dktX19_init_0 : List UInt8 := dkwX19_init_0 ++ dktX19_init_1
theorem dksX19_init_0 : cX19_init.data.toList.drop 0 = dktX19_init_0 := by decide +kernel
theorem dksX19_init_1 : cX19_init.data.toList.drop 22 = dktX19_init_1 := dk_seg dksX19_init_0 22 rfl rfl
theorem dX19_init_0 : decode cX19_init 0 = .ok (.aload_n 0, 1) := dk_42 (dk_at dksX19_init_0 0 rfl rfl)
theorem dX19_init_1 : decode cX19_init 1 = .ok (.invokespecial 1, 3) := dk_183 0 1 (dk_at dksX19_init_0 1 rfl rfl)
theorem dX19_init_4 : decode cX19_init 4 = .ok (.aload_n 0, 1) := dk_42 (dk_at dksX19_init_0 4 rfl rfl)
theorem dX19_init_5 : decode cX19_init 5 = .ok (.iload_n 1, 1) := dk_27 (dk_at dksX19_init_0 5 rfl rfl)
theorem dX19_init_6 : decode cX19_init 6 = .ok (.putfield 7, 3) := dk_181 0 7 (dk_at dksX19_init_0 6 rfl rfl)
theorem dX19_init_9 : decode cX19_init 9 = .ok (.aload_n 0, 1) := dk_42 (dk_at dksX19_init_0 9 rfl rfl)
theorem dX19_init_10 : decode cX19_init 10 = .ok (.iload_n 2, 1) := dk_28 (dk_at dksX19_init_0 10 rfl rfl)
theorem dX19_init_11 : decode cX19_init 11 = .ok (.putfield 13, 3) := dk_181 0 13 (dk_at dksX19_init_0 11 rfl rfl)
theorem dX19_init_14 : decode cX19_init 14 = .ok (.aload_n 0, 1) := dk_42 (dk_at dksX19_init_0 14 rfl rfl)
theorem dX19_init_15 : decode cX19_init 15 = .ok (.iload_n 3, 1) := dk_29 (dk_at dksX19_init_0 15 rfl rfl)
theorem dX19_init_16 : decode cX19_init 16 = .ok (.putfield 16, 3) := dk_181 0 16 (dk_at dksX19_init_0 16 rfl rfl)
theorem dX19_init_19 : decode cX19_init 19 = .ok (.aload_n 0, 1) := dk_42 (dk_at dksX19_init_0 19 rfl rfl)
theorem dX19_init_20 : decode cX19_init 20 = .ok (.iload 4, 2) := dk_21 4 (dk_at dksX19_init_0 20 rfl rfl)
theorem dX19_init_22 : decode cX19_init 22 = .ok (.putfield 19, 3) := dk_181 0 19 (dk_at dksX19_init_1 0 rfl rfl)
theorem dX19_init_25 : decode cX19_init 25 = .ok (.aload_n 0, 1) := dk_42 (dk_at dksX19_init_1 3 rfl rfl)
theorem dX19_init_26 : decode cX19_init 26 = .ok (.iload 5, 2) := dk_21 5 (dk_at dksX19_init_1 4 rfl rfl)
theorem dX19_init_28 : decode cX19_init 28 = .ok (.putfield 22, 3) := dk_181 0 22 (dk_at dksX19_init_1 6 rfl rfl)
theorem dX19_init_31 : decode cX19_init 31 = .ok (.return_, 1) := dk_177 (dk_at dksX19_init_1 9 rfl rfl)
theorem q137 : (Jvm.Cond.initialized "FirstIn$Slight") ∈ lw_all := lw_g (lw_at lw_m1 36 rfl) rfl
theorem q622 : (Jvm.Cond.selects "FirstIn$Slight" ({ cls := "java/lang/Object", name := "getClass", desc := "()Ljava/lang/Class;" } : Jvm.MethodName) ({ cls := "java/lang/Object", name := "getClass", desc := "()Ljava/lang/Class;" } : Jvm.MethodName)) ∈ lw_all := lw_g (lw_at lw_m3 41 rfl) rfl
theorem q1057 : (Jvm.Cond.instantiable "FirstIn$Slight" (5 : Nat)) ∈ lw_all := lw_g (lw_at lw_m4 236 rfl) rfl
theorem q1059 : (Jvm.Cond.instanceMethod ({ cls := "FirstIn$Slight", name := "<init>", desc := "(IIIII)V" } : Jvm.MethodName)) ∈ lw_all := lw_g (lw_at lw_m4 238 rfl) rfl
theorem q1060 : (Jvm.Cond.code ({ cls := "FirstIn$Slight", name := "<init>", desc := "(IIIII)V" } : Jvm.MethodName) prog_22_method_1_code (6 : Nat) (Option.none : Option Jvm.ClassFile.FieldType)) ∈ lw_all := lw_g (lw_at lw_m4 239 rfl) rfl
theorem q1061 : (Jvm.Cond.methodLink "FirstIn$Slight" (1 : Nat) ({ cls := "java/lang/Object", name := "<init>", desc := "()V" } : Jvm.MethodName)) ∈ lw_all := lw_g (lw_at lw_m5 0 rfl) rfl
theorem q1062 : (Jvm.Cond.fieldLink "FirstIn$Slight" (7 : Nat) "FirstIn$Slight" "rule" "I") ∈ lw_all := lw_g (lw_at lw_m5 1 rfl) rfl
theorem q1064 : (Jvm.Cond.fieldLink "FirstIn$Slight" (13 : Nat) "FirstIn$Slight" "x" "I") ∈ lw_all := lw_g (lw_at lw_m5 3 rfl) rfl
theorem q1066 : (Jvm.Cond.fieldLink "FirstIn$Slight" (16 : Nat) "FirstIn$Slight" "y" "I") ∈ lw_all := lw_g (lw_at lw_m5 5 rfl) rfl
theorem q1068 : (Jvm.Cond.fieldLink "FirstIn$Slight" (19 : Nat) "FirstIn$Slight" "weight" "I") ∈ lw_all := lw_g (lw_at lw_m5 7 rfl) rfl
theorem q1070 : (Jvm.Cond.fieldLink "FirstIn$Slight" (22 : Nat) "FirstIn$Slight" "who" "I") ∈ lw_all := lw_g (lw_at lw_m5 9 rfl) rfl
theorem q1072 : (Jvm.Cond.laysFinal "FirstIn$Slight" "FirstIn$Slight" "rule" "I") ∈ lw_all := lw_g (lw_at lw_m5 11 rfl) rfl
theorem q1073 : (Jvm.Cond.soleField "FirstIn$Slight" "rule") ∈ lw_all := lw_g (lw_at lw_m5 12 rfl) rfl
theorem q1074 : (Jvm.Cond.laysFinal "FirstIn$Slight" "FirstIn$Slight" "x" "I") ∈ lw_all := lw_g (lw_at lw_m5 13 rfl) rfl
theorem q1075 : (Jvm.Cond.soleField "FirstIn$Slight" "x") ∈ lw_all := lw_g (lw_at lw_m5 14 rfl) rfl
theorem q1076 : (Jvm.Cond.laysFinal "FirstIn$Slight" "FirstIn$Slight" "y" "I") ∈ lw_all := lw_g (lw_at lw_m5 15 rfl) rfl
theorem q1077 : (Jvm.Cond.soleField "FirstIn$Slight" "y") ∈ lw_all := lw_g (lw_at lw_m5 16 rfl) rfl
theorem q1078 : (Jvm.Cond.laysFinal "FirstIn$Slight" "FirstIn$Slight" "weight" "I") ∈ lw_all := lw_g (lw_at lw_m5 17 rfl) rfl
theorem q1079 : (Jvm.Cond.soleField "FirstIn$Slight" "weight") ∈ lw_all := lw_g (lw_at lw_m5 18 rfl) rfl
theorem q1080 : (Jvm.Cond.laysFinal "FirstIn$Slight" "FirstIn$Slight" "who" "I") ∈ lw_all := lw_g (lw_at lw_m5 19 rfl) rfl
theorem q1081 : (Jvm.Cond.soleField "FirstIn$Slight" "who") ∈ lw_all := lw_g (lw_at lw_m5 20 rfl) rfl
theorem q1082 : (Jvm.Cond.superclass "FirstIn$Slight" "java/lang/Object") ∈ lw_all := lw_g (lw_at lw_m5 21 rfl) rfl
theorem q2024 : (Jvm.Cond.castable "FirstIn$Slight" "java/lang/Object") ∈ lw_tbl := lw_at lw_m9 3 rfl
theorem in_X19 : ∀ w ∈ wsX190, w ∈ lw_all := lw_in wsX190 [1072, 1074, 1076, 1078, 1080] (by decide +kernel) (by decide +kernel)

/-! FirstIn$Search -/
set_option maxRecDepth 100000
def RX20 : String := "FirstIn$Search"
abbrev cX20_init : ByteArray := prog_20_method_1_code
def yX20_init : MethodName := ⟨RX20, "<init>", "(LFirstIn$Room;Ljava/util/ArrayList;Ljava/util/ArrayList;)V"⟩
def dkwX20_init_2 : List UInt8 := [180, 0, 9, 21, 4, 2, 79, 42, 180, 0, 15, 21, 4, 2, 79, 132, 4, 1, 167, 255, 230, 177]
abbrev dktX20_init_2 : List UInt8 := dkwX20_init_2 ++ []
def dkwX20_init_1 : List UInt8 := [181, 0, 18, 42, 44, 181, 0, 22, 42, 45, 181, 0, 26, 3, 54, 4, 21, 4, 16, 10, 162, 0, 25, 42]
abbrev dktX20_init_1 : List UInt8 := dkwX20_init_1 ++ dktX20_init_2
def dkwX20_init_0 : List UInt8 := [42, 183, 0, 3, 42, 16, 10, 188, 10, 181, 0, 9, 42, 16, 10, 188, 10, 181, 0, 15, 42, 43]
abbrev dktX20_init_0 : List UInt8 := dkwX20_init_0 ++ dktX20_init_1
theorem dksX20_init_0 : cX20_init.data.toList.drop 0 = dktX20_init_0 := by decide +kernel
theorem dksX20_init_1 : cX20_init.data.toList.drop 22 = dktX20_init_1 := dk_seg dksX20_init_0 22 rfl rfl
theorem dksX20_init_2 : cX20_init.data.toList.drop 46 = dktX20_init_2 := dk_seg dksX20_init_1 24 rfl rfl
theorem dX20_init_0 : decode cX20_init 0 = .ok (.aload_n 0, 1) := dk_42 (dk_at dksX20_init_0 0 rfl rfl)
theorem dX20_init_1 : decode cX20_init 1 = .ok (.invokespecial 3, 3) := dk_183 0 3 (dk_at dksX20_init_0 1 rfl rfl)
theorem dX20_init_4 : decode cX20_init 4 = .ok (.aload_n 0, 1) := dk_42 (dk_at dksX20_init_0 4 rfl rfl)
theorem dX20_init_5 : decode cX20_init 5 = .ok (.bipush 10, 2) := dk_16 10 (dk_at dksX20_init_0 5 rfl rfl)
theorem dX20_init_7 : decode cX20_init 7 = .ok (.newarray .int, 2) := dk_188_10 (dk_at dksX20_init_0 7 rfl rfl)
theorem dX20_init_9 : decode cX20_init 9 = .ok (.putfield 9, 3) := dk_181 0 9 (dk_at dksX20_init_0 9 rfl rfl)
theorem dX20_init_12 : decode cX20_init 12 = .ok (.aload_n 0, 1) := dk_42 (dk_at dksX20_init_0 12 rfl rfl)
theorem dX20_init_13 : decode cX20_init 13 = .ok (.bipush 10, 2) := dk_16 10 (dk_at dksX20_init_0 13 rfl rfl)
theorem dX20_init_15 : decode cX20_init 15 = .ok (.newarray .int, 2) := dk_188_10 (dk_at dksX20_init_0 15 rfl rfl)
theorem dX20_init_17 : decode cX20_init 17 = .ok (.putfield 15, 3) := dk_181 0 15 (dk_at dksX20_init_0 17 rfl rfl)
theorem dX20_init_20 : decode cX20_init 20 = .ok (.aload_n 0, 1) := dk_42 (dk_at dksX20_init_0 20 rfl rfl)
theorem dX20_init_21 : decode cX20_init 21 = .ok (.aload_n 1, 1) := dk_43 (dk_at dksX20_init_0 21 rfl rfl)
theorem dX20_init_22 : decode cX20_init 22 = .ok (.putfield 18, 3) := dk_181 0 18 (dk_at dksX20_init_1 0 rfl rfl)
theorem dX20_init_25 : decode cX20_init 25 = .ok (.aload_n 0, 1) := dk_42 (dk_at dksX20_init_1 3 rfl rfl)
theorem dX20_init_26 : decode cX20_init 26 = .ok (.aload_n 2, 1) := dk_44 (dk_at dksX20_init_1 4 rfl rfl)
theorem dX20_init_27 : decode cX20_init 27 = .ok (.putfield 22, 3) := dk_181 0 22 (dk_at dksX20_init_1 5 rfl rfl)
theorem dX20_init_30 : decode cX20_init 30 = .ok (.aload_n 0, 1) := dk_42 (dk_at dksX20_init_1 8 rfl rfl)
theorem dX20_init_31 : decode cX20_init 31 = .ok (.aload_n 3, 1) := dk_45 (dk_at dksX20_init_1 9 rfl rfl)
theorem dX20_init_32 : decode cX20_init 32 = .ok (.putfield 26, 3) := dk_181 0 26 (dk_at dksX20_init_1 10 rfl rfl)
theorem dX20_init_35 : decode cX20_init 35 = .ok (.iconst 0, 1) := dk_3 (dk_at dksX20_init_1 13 rfl rfl)
theorem dX20_init_36 : decode cX20_init 36 = .ok (.istore 4, 2) := dk_54 4 (dk_at dksX20_init_1 14 rfl rfl)
theorem dX20_init_38 : decode cX20_init 38 = .ok (.iload 4, 2) := dk_21 4 (dk_at dksX20_init_1 16 rfl rfl)
theorem dX20_init_40 : decode cX20_init 40 = .ok (.bipush 10, 2) := dk_16 10 (dk_at dksX20_init_1 18 rfl rfl)
theorem dX20_init_42 : decode cX20_init 42 = .ok (.if_icmp .ge 25, 3) := dk_162 0 25 (dk_at dksX20_init_1 20 rfl rfl)
theorem dX20_init_45 : decode cX20_init 45 = .ok (.aload_n 0, 1) := dk_42 (dk_at dksX20_init_1 23 rfl rfl)
theorem dX20_init_46 : decode cX20_init 46 = .ok (.getfield 9, 3) := dk_180 0 9 (dk_at dksX20_init_2 0 rfl rfl)
theorem dX20_init_49 : decode cX20_init 49 = .ok (.iload 4, 2) := dk_21 4 (dk_at dksX20_init_2 3 rfl rfl)
theorem dX20_init_51 : decode cX20_init 51 = .ok (.iconst (-1), 1) := dk_2 (dk_at dksX20_init_2 5 rfl rfl)
theorem dX20_init_52 : decode cX20_init 52 = .ok (.iastore, 1) := dk_79 (dk_at dksX20_init_2 6 rfl rfl)
theorem dX20_init_53 : decode cX20_init 53 = .ok (.aload_n 0, 1) := dk_42 (dk_at dksX20_init_2 7 rfl rfl)
theorem dX20_init_54 : decode cX20_init 54 = .ok (.getfield 15, 3) := dk_180 0 15 (dk_at dksX20_init_2 8 rfl rfl)
theorem dX20_init_57 : decode cX20_init 57 = .ok (.iload 4, 2) := dk_21 4 (dk_at dksX20_init_2 11 rfl rfl)
theorem dX20_init_59 : decode cX20_init 59 = .ok (.iconst (-1), 1) := dk_2 (dk_at dksX20_init_2 13 rfl rfl)
theorem dX20_init_60 : decode cX20_init 60 = .ok (.iastore, 1) := dk_79 (dk_at dksX20_init_2 14 rfl rfl)
theorem dX20_init_61 : decode cX20_init 61 = .ok (.iinc 4 1, 3) := dk_132 4 1 (dk_at dksX20_init_2 15 rfl rfl)
theorem dX20_init_64 : decode cX20_init 64 = .ok (.goto (-26), 3) := dk_167 255 230 (dk_at dksX20_init_2 18 rfl rfl)
theorem dX20_init_67 : decode cX20_init 67 = .ok (.return_, 1) := dk_177 (dk_at dksX20_init_2 21 rfl rfl)
abbrev cX20_run : ByteArray := prog_20_method_7_code
def yX20_run : MethodName := ⟨RX20, "run", "()V"⟩
def dkwX20_run_0 : List UInt8 := [42, 3, 3, 3, 3, 182, 0, 35, 177]
abbrev dktX20_run_0 : List UInt8 := dkwX20_run_0 ++ []
theorem dksX20_run_0 : cX20_run.data.toList.drop 0 = dktX20_run_0 := by decide +kernel
theorem dX20_run_0 : decode cX20_run 0 = .ok (.aload_n 0, 1) := dk_42 (dk_at dksX20_run_0 0 rfl rfl)
theorem dX20_run_1 : decode cX20_run 1 = .ok (.iconst 0, 1) := dk_3 (dk_at dksX20_run_0 1 rfl rfl)
theorem dX20_run_2 : decode cX20_run 2 = .ok (.iconst 0, 1) := dk_3 (dk_at dksX20_run_0 2 rfl rfl)
theorem dX20_run_3 : decode cX20_run 3 = .ok (.iconst 0, 1) := dk_3 (dk_at dksX20_run_0 3 rfl rfl)
theorem dX20_run_4 : decode cX20_run 4 = .ok (.iconst 0, 1) := dk_3 (dk_at dksX20_run_0 4 rfl rfl)
theorem dX20_run_5 : decode cX20_run 5 = .ok (.invokevirtual 35, 3) := dk_182 0 35 (dk_at dksX20_run_0 5 rfl rfl)
theorem dX20_run_8 : decode cX20_run 8 = .ok (.return_, 1) := dk_177 (dk_at dksX20_run_0 8 rfl rfl)
abbrev cX20_goes : ByteArray := prog_20_method_8_code
def yX20_goes : MethodName := ⟨RX20, "goes", "(IIII)V"⟩
def dkwX20_goes_14 : List UInt8 := [167, 254, 235, 177]
abbrev dktX20_goes_14 : List UInt8 := dkwX20_goes_14 ++ []
def dkwX20_goes_13 : List UInt8 := [25, 5, 180, 0, 72, 2, 79, 42, 89, 180, 0, 65, 4, 21, 6, 120, 130, 181, 0, 65, 132, 6, 1]
abbrev dktX20_goes_13 : List UInt8 := dkwX20_goes_13 ++ dktX20_goes_14
def dkwX20_goes_12 : List UInt8 := [21, 7, 96, 21, 8, 21, 4, 42, 25, 5, 21, 6, 182, 0, 102, 96, 182, 0, 35, 42, 180, 0, 9]
abbrev dktX20_goes_12 : List UInt8 := dkwX20_goes_12 ++ dktX20_goes_13
def dkwX20_goes_11 : List UInt8 := [25, 10, 180, 0, 83, 180, 0, 93, 184, 0, 96, 54, 8, 132, 9, 1, 167, 255, 106, 42, 27, 4, 96, 28]
abbrev dktX20_goes_11 : List UInt8 := dkwX20_goes_11 ++ dktX20_goes_12
def dkwX20_goes_10 : List UInt8 := [182, 0, 87, 154, 0, 6, 167, 0, 31, 21, 7, 25, 10, 180, 0, 83, 180, 0, 93, 96, 54, 7, 21, 8]
abbrev dktX20_goes_10 : List UInt8 := dkwX20_goes_10 ++ dktX20_goes_11
def dkwX20_goes_9 : List UInt8 := [180, 0, 18, 3, 42, 180, 0, 9, 25, 10, 180, 0, 77, 46, 42, 180, 0, 9, 25, 10, 180, 0, 80, 46]
abbrev dktX20_goes_9 : List UInt8 := dkwX20_goes_9 ++ dktX20_goes_10
def dkwX20_goes_8 : List UInt8 := [159, 0, 84, 42, 180, 0, 9, 25, 10, 180, 0, 80, 46, 2, 159, 0, 70, 25, 10, 180, 0, 83, 42]
abbrev dktX20_goes_8 : List UInt8 := dkwX20_goes_8 ++ dktX20_goes_9
def dkwX20_goes_7 : List UInt8 := [180, 0, 80, 25, 5, 180, 0, 72, 160, 0, 98, 42, 180, 0, 9, 25, 10, 180, 0, 77, 46, 2]
abbrev dktX20_goes_7 : List UInt8 := dkwX20_goes_7 ++ dktX20_goes_8
def dkwX20_goes_6 : List UInt8 := [182, 0, 53, 192, 0, 75, 58, 10, 25, 10, 180, 0, 77, 25, 5, 180, 0, 72, 159, 0, 16, 25, 10]
abbrev dktX20_goes_6 : List UInt8 := dkwX20_goes_6 ++ dktX20_goes_7
def dkwX20_goes_5 : List UInt8 := [54, 8, 3, 54, 9, 21, 9, 42, 180, 0, 22, 182, 0, 43, 162, 0, 144, 42, 180, 0, 22, 21, 9]
abbrev dktX20_goes_5 : List UInt8 := dkwX20_goes_5 ++ dktX20_goes_6
def dkwX20_goes_4 : List UInt8 := [21, 6, 120, 128, 181, 0, 65, 42, 180, 0, 9, 25, 5, 180, 0, 72, 21, 6, 79, 3, 54, 7, 29]
abbrev dktX20_goes_4 : List UInt8 := dkwX20_goes_4 ++ dktX20_goes_5
def dkwX20_goes_3 : List UInt8 := [159, 0, 252, 42, 25, 5, 21, 6, 182, 0, 68, 154, 0, 6, 167, 0, 238, 42, 89, 180, 0, 65, 4]
abbrev dktX20_goes_3 : List UInt8 := dkwX20_goes_3 ++ dktX20_goes_4
def dkwX20_goes_2 : List UInt8 := [21, 6, 42, 180, 0, 18, 180, 0, 59, 162, 1, 15, 42, 180, 0, 65, 21, 6, 122, 4, 126, 4]
abbrev dktX20_goes_2 : List UInt8 := dkwX20_goes_2 ++ dktX20_goes_3
def dkwX20_goes_1 : List UInt8 := [28, 29, 21, 4, 182, 0, 49, 177, 42, 180, 0, 26, 27, 182, 0, 53, 192, 0, 57, 58, 5, 3, 54, 6]
abbrev dktX20_goes_1 : List UInt8 := dkwX20_goes_1 ++ dktX20_goes_2
def dkwX20_goes_0 : List UInt8 := [42, 28, 29, 21, 4, 182, 0, 39, 154, 0, 4, 177, 27, 42, 180, 0, 26, 182, 0, 43, 160, 0, 12, 42]
abbrev dktX20_goes_0 : List UInt8 := dkwX20_goes_0 ++ dktX20_goes_1
theorem dksX20_goes_0 : cX20_goes.data.toList.drop 0 = dktX20_goes_0 := by decide +kernel
theorem dksX20_goes_1 : cX20_goes.data.toList.drop 24 = dktX20_goes_1 := dk_seg dksX20_goes_0 24 rfl rfl
theorem dksX20_goes_2 : cX20_goes.data.toList.drop 48 = dktX20_goes_2 := dk_seg dksX20_goes_1 24 rfl rfl
theorem dksX20_goes_3 : cX20_goes.data.toList.drop 70 = dktX20_goes_3 := dk_seg dksX20_goes_2 22 rfl rfl
theorem dksX20_goes_4 : cX20_goes.data.toList.drop 93 = dktX20_goes_4 := dk_seg dksX20_goes_3 23 rfl rfl
theorem dksX20_goes_5 : cX20_goes.data.toList.drop 116 = dktX20_goes_5 := dk_seg dksX20_goes_4 23 rfl rfl
theorem dksX20_goes_6 : cX20_goes.data.toList.drop 139 = dktX20_goes_6 := dk_seg dksX20_goes_5 23 rfl rfl
theorem dksX20_goes_7 : cX20_goes.data.toList.drop 162 = dktX20_goes_7 := dk_seg dksX20_goes_6 23 rfl rfl
theorem dksX20_goes_8 : cX20_goes.data.toList.drop 184 = dktX20_goes_8 := dk_seg dksX20_goes_7 22 rfl rfl
theorem dksX20_goes_9 : cX20_goes.data.toList.drop 207 = dktX20_goes_9 := dk_seg dksX20_goes_8 23 rfl rfl
theorem dksX20_goes_10 : cX20_goes.data.toList.drop 231 = dktX20_goes_10 := dk_seg dksX20_goes_9 24 rfl rfl
theorem dksX20_goes_11 : cX20_goes.data.toList.drop 255 = dktX20_goes_11 := dk_seg dksX20_goes_10 24 rfl rfl
theorem dksX20_goes_12 : cX20_goes.data.toList.drop 279 = dktX20_goes_12 := dk_seg dksX20_goes_11 24 rfl rfl
theorem dksX20_goes_13 : cX20_goes.data.toList.drop 302 = dktX20_goes_13 := dk_seg dksX20_goes_12 23 rfl rfl
theorem dksX20_goes_14 : cX20_goes.data.toList.drop 325 = dktX20_goes_14 := dk_seg dksX20_goes_13 23 rfl rfl
theorem dX20_goes_0 : decode cX20_goes 0 = .ok (.aload_n 0, 1) := dk_42 (dk_at dksX20_goes_0 0 rfl rfl)
theorem dX20_goes_1 : decode cX20_goes 1 = .ok (.iload_n 2, 1) := dk_28 (dk_at dksX20_goes_0 1 rfl rfl)
theorem dX20_goes_2 : decode cX20_goes 2 = .ok (.iload_n 3, 1) := dk_29 (dk_at dksX20_goes_0 2 rfl rfl)
theorem dX20_goes_3 : decode cX20_goes 3 = .ok (.iload 4, 2) := dk_21 4 (dk_at dksX20_goes_0 3 rfl rfl)
theorem dX20_goes_5 : decode cX20_goes 5 = .ok (.invokevirtual 39, 3) := dk_182 0 39 (dk_at dksX20_goes_0 5 rfl rfl)
theorem dX20_goes_8 : decode cX20_goes 8 = .ok (.ifCond .ne 4, 3) := dk_154 0 4 (dk_at dksX20_goes_0 8 rfl rfl)
theorem dX20_goes_11 : decode cX20_goes 11 = .ok (.return_, 1) := dk_177 (dk_at dksX20_goes_0 11 rfl rfl)
theorem dX20_goes_12 : decode cX20_goes 12 = .ok (.iload_n 1, 1) := dk_27 (dk_at dksX20_goes_0 12 rfl rfl)
theorem dX20_goes_13 : decode cX20_goes 13 = .ok (.aload_n 0, 1) := dk_42 (dk_at dksX20_goes_0 13 rfl rfl)
theorem dX20_goes_14 : decode cX20_goes 14 = .ok (.getfield 26, 3) := dk_180 0 26 (dk_at dksX20_goes_0 14 rfl rfl)
theorem dX20_goes_17 : decode cX20_goes 17 = .ok (.invokevirtual 43, 3) := dk_182 0 43 (dk_at dksX20_goes_0 17 rfl rfl)
theorem dX20_goes_20 : decode cX20_goes 20 = .ok (.if_icmp .ne 12, 3) := dk_160 0 12 (dk_at dksX20_goes_0 20 rfl rfl)
theorem dX20_goes_23 : decode cX20_goes 23 = .ok (.aload_n 0, 1) := dk_42 (dk_at dksX20_goes_0 23 rfl rfl)
theorem dX20_goes_24 : decode cX20_goes 24 = .ok (.iload_n 2, 1) := dk_28 (dk_at dksX20_goes_1 0 rfl rfl)
theorem dX20_goes_25 : decode cX20_goes 25 = .ok (.iload_n 3, 1) := dk_29 (dk_at dksX20_goes_1 1 rfl rfl)
theorem dX20_goes_26 : decode cX20_goes 26 = .ok (.iload 4, 2) := dk_21 4 (dk_at dksX20_goes_1 2 rfl rfl)
theorem dX20_goes_28 : decode cX20_goes 28 = .ok (.invokevirtual 49, 3) := dk_182 0 49 (dk_at dksX20_goes_1 4 rfl rfl)
theorem dX20_goes_31 : decode cX20_goes 31 = .ok (.return_, 1) := dk_177 (dk_at dksX20_goes_1 7 rfl rfl)
theorem dX20_goes_32 : decode cX20_goes 32 = .ok (.aload_n 0, 1) := dk_42 (dk_at dksX20_goes_1 8 rfl rfl)
theorem dX20_goes_33 : decode cX20_goes 33 = .ok (.getfield 26, 3) := dk_180 0 26 (dk_at dksX20_goes_1 9 rfl rfl)
theorem dX20_goes_36 : decode cX20_goes 36 = .ok (.iload_n 1, 1) := dk_27 (dk_at dksX20_goes_1 12 rfl rfl)
theorem dX20_goes_37 : decode cX20_goes 37 = .ok (.invokevirtual 53, 3) := dk_182 0 53 (dk_at dksX20_goes_1 13 rfl rfl)
theorem dX20_goes_40 : decode cX20_goes 40 = .ok (.checkcast 57, 3) := dk_192 0 57 (dk_at dksX20_goes_1 16 rfl rfl)
theorem dX20_goes_43 : decode cX20_goes 43 = .ok (.astore 5, 2) := dk_58 5 (dk_at dksX20_goes_1 19 rfl rfl)
theorem dX20_goes_45 : decode cX20_goes 45 = .ok (.iconst 0, 1) := dk_3 (dk_at dksX20_goes_1 21 rfl rfl)
theorem dX20_goes_46 : decode cX20_goes 46 = .ok (.istore 6, 2) := dk_54 6 (dk_at dksX20_goes_1 22 rfl rfl)
theorem dX20_goes_48 : decode cX20_goes 48 = .ok (.iload 6, 2) := dk_21 6 (dk_at dksX20_goes_2 0 rfl rfl)
theorem dX20_goes_50 : decode cX20_goes 50 = .ok (.aload_n 0, 1) := dk_42 (dk_at dksX20_goes_2 2 rfl rfl)
theorem dX20_goes_51 : decode cX20_goes 51 = .ok (.getfield 18, 3) := dk_180 0 18 (dk_at dksX20_goes_2 3 rfl rfl)
theorem dX20_goes_54 : decode cX20_goes 54 = .ok (.getfield 59, 3) := dk_180 0 59 (dk_at dksX20_goes_2 6 rfl rfl)
theorem dX20_goes_57 : decode cX20_goes 57 = .ok (.if_icmp .ge 271, 3) := dk_162 1 15 (dk_at dksX20_goes_2 9 rfl rfl)
theorem dX20_goes_60 : decode cX20_goes 60 = .ok (.aload_n 0, 1) := dk_42 (dk_at dksX20_goes_2 12 rfl rfl)
theorem dX20_goes_61 : decode cX20_goes 61 = .ok (.getfield 65, 3) := dk_180 0 65 (dk_at dksX20_goes_2 13 rfl rfl)
theorem dX20_goes_64 : decode cX20_goes 64 = .ok (.iload 6, 2) := dk_21 6 (dk_at dksX20_goes_2 16 rfl rfl)
theorem dX20_goes_66 : decode cX20_goes 66 = .ok (.ishr, 1) := dk_122 (dk_at dksX20_goes_2 18 rfl rfl)
theorem dX20_goes_67 : decode cX20_goes 67 = .ok (.iconst 1, 1) := dk_4 (dk_at dksX20_goes_2 19 rfl rfl)
theorem dX20_goes_68 : decode cX20_goes 68 = .ok (.iand, 1) := dk_126 (dk_at dksX20_goes_2 20 rfl rfl)
theorem dX20_goes_69 : decode cX20_goes 69 = .ok (.iconst 1, 1) := dk_4 (dk_at dksX20_goes_2 21 rfl rfl)
theorem dX20_goes_70 : decode cX20_goes 70 = .ok (.if_icmp .eq 252, 3) := dk_159 0 252 (dk_at dksX20_goes_3 0 rfl rfl)
theorem dX20_goes_73 : decode cX20_goes 73 = .ok (.aload_n 0, 1) := dk_42 (dk_at dksX20_goes_3 3 rfl rfl)
theorem dX20_goes_74 : decode cX20_goes 74 = .ok (.aload 5, 2) := dk_25 5 (dk_at dksX20_goes_3 4 rfl rfl)
theorem dX20_goes_76 : decode cX20_goes 76 = .ok (.iload 6, 2) := dk_21 6 (dk_at dksX20_goes_3 6 rfl rfl)
theorem dX20_goes_78 : decode cX20_goes 78 = .ok (.invokevirtual 68, 3) := dk_182 0 68 (dk_at dksX20_goes_3 8 rfl rfl)
theorem dX20_goes_81 : decode cX20_goes 81 = .ok (.ifCond .ne 6, 3) := dk_154 0 6 (dk_at dksX20_goes_3 11 rfl rfl)
theorem dX20_goes_84 : decode cX20_goes 84 = .ok (.goto 238, 3) := dk_167 0 238 (dk_at dksX20_goes_3 14 rfl rfl)
theorem dX20_goes_87 : decode cX20_goes 87 = .ok (.aload_n 0, 1) := dk_42 (dk_at dksX20_goes_3 17 rfl rfl)
theorem dX20_goes_88 : decode cX20_goes 88 = .ok (.dup, 1) := dk_89 (dk_at dksX20_goes_3 18 rfl rfl)
theorem dX20_goes_89 : decode cX20_goes 89 = .ok (.getfield 65, 3) := dk_180 0 65 (dk_at dksX20_goes_3 19 rfl rfl)
theorem dX20_goes_92 : decode cX20_goes 92 = .ok (.iconst 1, 1) := dk_4 (dk_at dksX20_goes_3 22 rfl rfl)
theorem dX20_goes_93 : decode cX20_goes 93 = .ok (.iload 6, 2) := dk_21 6 (dk_at dksX20_goes_4 0 rfl rfl)
theorem dX20_goes_95 : decode cX20_goes 95 = .ok (.ishl, 1) := dk_120 (dk_at dksX20_goes_4 2 rfl rfl)
theorem dX20_goes_96 : decode cX20_goes 96 = .ok (.ior, 1) := dk_128 (dk_at dksX20_goes_4 3 rfl rfl)
theorem dX20_goes_97 : decode cX20_goes 97 = .ok (.putfield 65, 3) := dk_181 0 65 (dk_at dksX20_goes_4 4 rfl rfl)
theorem dX20_goes_100 : decode cX20_goes 100 = .ok (.aload_n 0, 1) := dk_42 (dk_at dksX20_goes_4 7 rfl rfl)
theorem dX20_goes_101 : decode cX20_goes 101 = .ok (.getfield 9, 3) := dk_180 0 9 (dk_at dksX20_goes_4 8 rfl rfl)
theorem dX20_goes_104 : decode cX20_goes 104 = .ok (.aload 5, 2) := dk_25 5 (dk_at dksX20_goes_4 11 rfl rfl)
theorem dX20_goes_106 : decode cX20_goes 106 = .ok (.getfield 72, 3) := dk_180 0 72 (dk_at dksX20_goes_4 13 rfl rfl)
theorem dX20_goes_109 : decode cX20_goes 109 = .ok (.iload 6, 2) := dk_21 6 (dk_at dksX20_goes_4 16 rfl rfl)
theorem dX20_goes_111 : decode cX20_goes 111 = .ok (.iastore, 1) := dk_79 (dk_at dksX20_goes_4 18 rfl rfl)
theorem dX20_goes_112 : decode cX20_goes 112 = .ok (.iconst 0, 1) := dk_3 (dk_at dksX20_goes_4 19 rfl rfl)
theorem dX20_goes_113 : decode cX20_goes 113 = .ok (.istore 7, 2) := dk_54 7 (dk_at dksX20_goes_4 20 rfl rfl)
theorem dX20_goes_115 : decode cX20_goes 115 = .ok (.iload_n 3, 1) := dk_29 (dk_at dksX20_goes_4 22 rfl rfl)
theorem dX20_goes_116 : decode cX20_goes 116 = .ok (.istore 8, 2) := dk_54 8 (dk_at dksX20_goes_5 0 rfl rfl)
theorem dX20_goes_118 : decode cX20_goes 118 = .ok (.iconst 0, 1) := dk_3 (dk_at dksX20_goes_5 2 rfl rfl)
theorem dX20_goes_119 : decode cX20_goes 119 = .ok (.istore 9, 2) := dk_54 9 (dk_at dksX20_goes_5 3 rfl rfl)
theorem dX20_goes_121 : decode cX20_goes 121 = .ok (.iload 9, 2) := dk_21 9 (dk_at dksX20_goes_5 5 rfl rfl)
theorem dX20_goes_123 : decode cX20_goes 123 = .ok (.aload_n 0, 1) := dk_42 (dk_at dksX20_goes_5 7 rfl rfl)
theorem dX20_goes_124 : decode cX20_goes 124 = .ok (.getfield 22, 3) := dk_180 0 22 (dk_at dksX20_goes_5 8 rfl rfl)
theorem dX20_goes_127 : decode cX20_goes 127 = .ok (.invokevirtual 43, 3) := dk_182 0 43 (dk_at dksX20_goes_5 11 rfl rfl)
theorem dX20_goes_130 : decode cX20_goes 130 = .ok (.if_icmp .ge 144, 3) := dk_162 0 144 (dk_at dksX20_goes_5 14 rfl rfl)
theorem dX20_goes_133 : decode cX20_goes 133 = .ok (.aload_n 0, 1) := dk_42 (dk_at dksX20_goes_5 17 rfl rfl)
theorem dX20_goes_134 : decode cX20_goes 134 = .ok (.getfield 22, 3) := dk_180 0 22 (dk_at dksX20_goes_5 18 rfl rfl)
theorem dX20_goes_137 : decode cX20_goes 137 = .ok (.iload 9, 2) := dk_21 9 (dk_at dksX20_goes_5 21 rfl rfl)
theorem dX20_goes_139 : decode cX20_goes 139 = .ok (.invokevirtual 53, 3) := dk_182 0 53 (dk_at dksX20_goes_6 0 rfl rfl)
theorem dX20_goes_142 : decode cX20_goes 142 = .ok (.checkcast 75, 3) := dk_192 0 75 (dk_at dksX20_goes_6 3 rfl rfl)
theorem dX20_goes_145 : decode cX20_goes 145 = .ok (.astore 10, 2) := dk_58 10 (dk_at dksX20_goes_6 6 rfl rfl)
theorem dX20_goes_147 : decode cX20_goes 147 = .ok (.aload 10, 2) := dk_25 10 (dk_at dksX20_goes_6 8 rfl rfl)
theorem dX20_goes_149 : decode cX20_goes 149 = .ok (.getfield 77, 3) := dk_180 0 77 (dk_at dksX20_goes_6 10 rfl rfl)
theorem dX20_goes_152 : decode cX20_goes 152 = .ok (.aload 5, 2) := dk_25 5 (dk_at dksX20_goes_6 13 rfl rfl)
theorem dX20_goes_154 : decode cX20_goes 154 = .ok (.getfield 72, 3) := dk_180 0 72 (dk_at dksX20_goes_6 15 rfl rfl)
theorem dX20_goes_157 : decode cX20_goes 157 = .ok (.if_icmp .eq 16, 3) := dk_159 0 16 (dk_at dksX20_goes_6 18 rfl rfl)
theorem dX20_goes_160 : decode cX20_goes 160 = .ok (.aload 10, 2) := dk_25 10 (dk_at dksX20_goes_6 21 rfl rfl)
theorem dX20_goes_162 : decode cX20_goes 162 = .ok (.getfield 80, 3) := dk_180 0 80 (dk_at dksX20_goes_7 0 rfl rfl)
theorem dX20_goes_165 : decode cX20_goes 165 = .ok (.aload 5, 2) := dk_25 5 (dk_at dksX20_goes_7 3 rfl rfl)
theorem dX20_goes_167 : decode cX20_goes 167 = .ok (.getfield 72, 3) := dk_180 0 72 (dk_at dksX20_goes_7 5 rfl rfl)
theorem dX20_goes_170 : decode cX20_goes 170 = .ok (.if_icmp .ne 98, 3) := dk_160 0 98 (dk_at dksX20_goes_7 8 rfl rfl)
theorem dX20_goes_173 : decode cX20_goes 173 = .ok (.aload_n 0, 1) := dk_42 (dk_at dksX20_goes_7 11 rfl rfl)
theorem dX20_goes_174 : decode cX20_goes 174 = .ok (.getfield 9, 3) := dk_180 0 9 (dk_at dksX20_goes_7 12 rfl rfl)
theorem dX20_goes_177 : decode cX20_goes 177 = .ok (.aload 10, 2) := dk_25 10 (dk_at dksX20_goes_7 15 rfl rfl)
theorem dX20_goes_179 : decode cX20_goes 179 = .ok (.getfield 77, 3) := dk_180 0 77 (dk_at dksX20_goes_7 17 rfl rfl)
theorem dX20_goes_182 : decode cX20_goes 182 = .ok (.iaload, 1) := dk_46 (dk_at dksX20_goes_7 20 rfl rfl)
theorem dX20_goes_183 : decode cX20_goes 183 = .ok (.iconst (-1), 1) := dk_2 (dk_at dksX20_goes_7 21 rfl rfl)
theorem dX20_goes_184 : decode cX20_goes 184 = .ok (.if_icmp .eq 84, 3) := dk_159 0 84 (dk_at dksX20_goes_8 0 rfl rfl)
theorem dX20_goes_187 : decode cX20_goes 187 = .ok (.aload_n 0, 1) := dk_42 (dk_at dksX20_goes_8 3 rfl rfl)
theorem dX20_goes_188 : decode cX20_goes 188 = .ok (.getfield 9, 3) := dk_180 0 9 (dk_at dksX20_goes_8 4 rfl rfl)
theorem dX20_goes_191 : decode cX20_goes 191 = .ok (.aload 10, 2) := dk_25 10 (dk_at dksX20_goes_8 7 rfl rfl)
theorem dX20_goes_193 : decode cX20_goes 193 = .ok (.getfield 80, 3) := dk_180 0 80 (dk_at dksX20_goes_8 9 rfl rfl)
theorem dX20_goes_196 : decode cX20_goes 196 = .ok (.iaload, 1) := dk_46 (dk_at dksX20_goes_8 12 rfl rfl)
theorem dX20_goes_197 : decode cX20_goes 197 = .ok (.iconst (-1), 1) := dk_2 (dk_at dksX20_goes_8 13 rfl rfl)
theorem dX20_goes_198 : decode cX20_goes 198 = .ok (.if_icmp .eq 70, 3) := dk_159 0 70 (dk_at dksX20_goes_8 14 rfl rfl)
theorem dX20_goes_201 : decode cX20_goes 201 = .ok (.aload 10, 2) := dk_25 10 (dk_at dksX20_goes_8 17 rfl rfl)
theorem dX20_goes_203 : decode cX20_goes 203 = .ok (.getfield 83, 3) := dk_180 0 83 (dk_at dksX20_goes_8 19 rfl rfl)
theorem dX20_goes_206 : decode cX20_goes 206 = .ok (.aload_n 0, 1) := dk_42 (dk_at dksX20_goes_8 22 rfl rfl)
theorem dX20_goes_207 : decode cX20_goes 207 = .ok (.getfield 18, 3) := dk_180 0 18 (dk_at dksX20_goes_9 0 rfl rfl)
theorem dX20_goes_210 : decode cX20_goes 210 = .ok (.iconst 0, 1) := dk_3 (dk_at dksX20_goes_9 3 rfl rfl)
theorem dX20_goes_211 : decode cX20_goes 211 = .ok (.aload_n 0, 1) := dk_42 (dk_at dksX20_goes_9 4 rfl rfl)
theorem dX20_goes_212 : decode cX20_goes 212 = .ok (.getfield 9, 3) := dk_180 0 9 (dk_at dksX20_goes_9 5 rfl rfl)
theorem dX20_goes_215 : decode cX20_goes 215 = .ok (.aload 10, 2) := dk_25 10 (dk_at dksX20_goes_9 8 rfl rfl)
theorem dX20_goes_217 : decode cX20_goes 217 = .ok (.getfield 77, 3) := dk_180 0 77 (dk_at dksX20_goes_9 10 rfl rfl)
theorem dX20_goes_220 : decode cX20_goes 220 = .ok (.iaload, 1) := dk_46 (dk_at dksX20_goes_9 13 rfl rfl)
theorem dX20_goes_221 : decode cX20_goes 221 = .ok (.aload_n 0, 1) := dk_42 (dk_at dksX20_goes_9 14 rfl rfl)
theorem dX20_goes_222 : decode cX20_goes 222 = .ok (.getfield 9, 3) := dk_180 0 9 (dk_at dksX20_goes_9 15 rfl rfl)
theorem dX20_goes_225 : decode cX20_goes 225 = .ok (.aload 10, 2) := dk_25 10 (dk_at dksX20_goes_9 18 rfl rfl)
theorem dX20_goes_227 : decode cX20_goes 227 = .ok (.getfield 80, 3) := dk_180 0 80 (dk_at dksX20_goes_9 20 rfl rfl)
theorem dX20_goes_230 : decode cX20_goes 230 = .ok (.iaload, 1) := dk_46 (dk_at dksX20_goes_9 23 rfl rfl)
theorem dX20_goes_231 : decode cX20_goes 231 = .ok (.invokevirtual 87, 3) := dk_182 0 87 (dk_at dksX20_goes_10 0 rfl rfl)
theorem dX20_goes_234 : decode cX20_goes 234 = .ok (.ifCond .ne 6, 3) := dk_154 0 6 (dk_at dksX20_goes_10 3 rfl rfl)
theorem dX20_goes_237 : decode cX20_goes 237 = .ok (.goto 31, 3) := dk_167 0 31 (dk_at dksX20_goes_10 6 rfl rfl)
theorem dX20_goes_240 : decode cX20_goes 240 = .ok (.iload 7, 2) := dk_21 7 (dk_at dksX20_goes_10 9 rfl rfl)
theorem dX20_goes_242 : decode cX20_goes 242 = .ok (.aload 10, 2) := dk_25 10 (dk_at dksX20_goes_10 11 rfl rfl)
theorem dX20_goes_244 : decode cX20_goes 244 = .ok (.getfield 83, 3) := dk_180 0 83 (dk_at dksX20_goes_10 13 rfl rfl)
theorem dX20_goes_247 : decode cX20_goes 247 = .ok (.getfield 93, 3) := dk_180 0 93 (dk_at dksX20_goes_10 16 rfl rfl)
theorem dX20_goes_250 : decode cX20_goes 250 = .ok (.iadd, 1) := dk_96 (dk_at dksX20_goes_10 19 rfl rfl)
theorem dX20_goes_251 : decode cX20_goes 251 = .ok (.istore 7, 2) := dk_54 7 (dk_at dksX20_goes_10 20 rfl rfl)
theorem dX20_goes_253 : decode cX20_goes 253 = .ok (.iload 8, 2) := dk_21 8 (dk_at dksX20_goes_10 22 rfl rfl)
theorem dX20_goes_255 : decode cX20_goes 255 = .ok (.aload 10, 2) := dk_25 10 (dk_at dksX20_goes_11 0 rfl rfl)
theorem dX20_goes_257 : decode cX20_goes 257 = .ok (.getfield 83, 3) := dk_180 0 83 (dk_at dksX20_goes_11 2 rfl rfl)
theorem dX20_goes_260 : decode cX20_goes 260 = .ok (.getfield 93, 3) := dk_180 0 93 (dk_at dksX20_goes_11 5 rfl rfl)
theorem dX20_goes_263 : decode cX20_goes 263 = .ok (.invokestatic 96, 3) := dk_184 0 96 (dk_at dksX20_goes_11 8 rfl rfl)
theorem dX20_goes_266 : decode cX20_goes 266 = .ok (.istore 8, 2) := dk_54 8 (dk_at dksX20_goes_11 11 rfl rfl)
theorem dX20_goes_268 : decode cX20_goes 268 = .ok (.iinc 9 1, 3) := dk_132 9 1 (dk_at dksX20_goes_11 13 rfl rfl)
theorem dX20_goes_271 : decode cX20_goes 271 = .ok (.goto (-150), 3) := dk_167 255 106 (dk_at dksX20_goes_11 16 rfl rfl)
theorem dX20_goes_274 : decode cX20_goes 274 = .ok (.aload_n 0, 1) := dk_42 (dk_at dksX20_goes_11 19 rfl rfl)
theorem dX20_goes_275 : decode cX20_goes 275 = .ok (.iload_n 1, 1) := dk_27 (dk_at dksX20_goes_11 20 rfl rfl)
theorem dX20_goes_276 : decode cX20_goes 276 = .ok (.iconst 1, 1) := dk_4 (dk_at dksX20_goes_11 21 rfl rfl)
theorem dX20_goes_277 : decode cX20_goes 277 = .ok (.iadd, 1) := dk_96 (dk_at dksX20_goes_11 22 rfl rfl)
theorem dX20_goes_278 : decode cX20_goes 278 = .ok (.iload_n 2, 1) := dk_28 (dk_at dksX20_goes_11 23 rfl rfl)
theorem dX20_goes_279 : decode cX20_goes 279 = .ok (.iload 7, 2) := dk_21 7 (dk_at dksX20_goes_12 0 rfl rfl)
theorem dX20_goes_281 : decode cX20_goes 281 = .ok (.iadd, 1) := dk_96 (dk_at dksX20_goes_12 2 rfl rfl)
theorem dX20_goes_282 : decode cX20_goes 282 = .ok (.iload 8, 2) := dk_21 8 (dk_at dksX20_goes_12 3 rfl rfl)
theorem dX20_goes_284 : decode cX20_goes 284 = .ok (.iload 4, 2) := dk_21 4 (dk_at dksX20_goes_12 5 rfl rfl)
theorem dX20_goes_286 : decode cX20_goes 286 = .ok (.aload_n 0, 1) := dk_42 (dk_at dksX20_goes_12 7 rfl rfl)
theorem dX20_goes_287 : decode cX20_goes 287 = .ok (.aload 5, 2) := dk_25 5 (dk_at dksX20_goes_12 8 rfl rfl)
theorem dX20_goes_289 : decode cX20_goes 289 = .ok (.iload 6, 2) := dk_21 6 (dk_at dksX20_goes_12 10 rfl rfl)
theorem dX20_goes_291 : decode cX20_goes 291 = .ok (.invokevirtual 102, 3) := dk_182 0 102 (dk_at dksX20_goes_12 12 rfl rfl)
theorem dX20_goes_294 : decode cX20_goes 294 = .ok (.iadd, 1) := dk_96 (dk_at dksX20_goes_12 15 rfl rfl)
theorem dX20_goes_295 : decode cX20_goes 295 = .ok (.invokevirtual 35, 3) := dk_182 0 35 (dk_at dksX20_goes_12 16 rfl rfl)
theorem dX20_goes_298 : decode cX20_goes 298 = .ok (.aload_n 0, 1) := dk_42 (dk_at dksX20_goes_12 19 rfl rfl)
theorem dX20_goes_299 : decode cX20_goes 299 = .ok (.getfield 9, 3) := dk_180 0 9 (dk_at dksX20_goes_12 20 rfl rfl)
theorem dX20_goes_302 : decode cX20_goes 302 = .ok (.aload 5, 2) := dk_25 5 (dk_at dksX20_goes_13 0 rfl rfl)
theorem dX20_goes_304 : decode cX20_goes 304 = .ok (.getfield 72, 3) := dk_180 0 72 (dk_at dksX20_goes_13 2 rfl rfl)
theorem dX20_goes_307 : decode cX20_goes 307 = .ok (.iconst (-1), 1) := dk_2 (dk_at dksX20_goes_13 5 rfl rfl)
theorem dX20_goes_308 : decode cX20_goes 308 = .ok (.iastore, 1) := dk_79 (dk_at dksX20_goes_13 6 rfl rfl)
theorem dX20_goes_309 : decode cX20_goes 309 = .ok (.aload_n 0, 1) := dk_42 (dk_at dksX20_goes_13 7 rfl rfl)
theorem dX20_goes_310 : decode cX20_goes 310 = .ok (.dup, 1) := dk_89 (dk_at dksX20_goes_13 8 rfl rfl)
theorem dX20_goes_311 : decode cX20_goes 311 = .ok (.getfield 65, 3) := dk_180 0 65 (dk_at dksX20_goes_13 9 rfl rfl)
theorem dX20_goes_314 : decode cX20_goes 314 = .ok (.iconst 1, 1) := dk_4 (dk_at dksX20_goes_13 12 rfl rfl)
theorem dX20_goes_315 : decode cX20_goes 315 = .ok (.iload 6, 2) := dk_21 6 (dk_at dksX20_goes_13 13 rfl rfl)
theorem dX20_goes_317 : decode cX20_goes 317 = .ok (.ishl, 1) := dk_120 (dk_at dksX20_goes_13 15 rfl rfl)
theorem dX20_goes_318 : decode cX20_goes 318 = .ok (.ixor, 1) := dk_130 (dk_at dksX20_goes_13 16 rfl rfl)
theorem dX20_goes_319 : decode cX20_goes 319 = .ok (.putfield 65, 3) := dk_181 0 65 (dk_at dksX20_goes_13 17 rfl rfl)
theorem dX20_goes_322 : decode cX20_goes 322 = .ok (.iinc 6 1, 3) := dk_132 6 1 (dk_at dksX20_goes_13 20 rfl rfl)
theorem dX20_goes_325 : decode cX20_goes 325 = .ok (.goto (-277), 3) := dk_167 254 235 (dk_at dksX20_goes_14 0 rfl rfl)
theorem dX20_goes_328 : decode cX20_goes 328 = .ok (.return_, 1) := dk_177 (dk_at dksX20_goes_14 3 rfl rfl)
abbrev cX20_keeps : ByteArray := prog_20_method_6_code
def yX20_keeps : MethodName := ⟨RX20, "keeps", "()V"⟩
def dkwX20_keeps_0 : List UInt8 := [42, 180, 0, 9, 3, 42, 180, 0, 15, 3, 16, 10, 184, 0, 29, 177]
abbrev dktX20_keeps_0 : List UInt8 := dkwX20_keeps_0 ++ []
theorem dksX20_keeps_0 : cX20_keeps.data.toList.drop 0 = dktX20_keeps_0 := by decide +kernel
theorem dX20_keeps_0 : decode cX20_keeps 0 = .ok (.aload_n 0, 1) := dk_42 (dk_at dksX20_keeps_0 0 rfl rfl)
theorem dX20_keeps_1 : decode cX20_keeps 1 = .ok (.getfield 9, 3) := dk_180 0 9 (dk_at dksX20_keeps_0 1 rfl rfl)
theorem dX20_keeps_4 : decode cX20_keeps 4 = .ok (.iconst 0, 1) := dk_3 (dk_at dksX20_keeps_0 4 rfl rfl)
theorem dX20_keeps_5 : decode cX20_keeps 5 = .ok (.aload_n 0, 1) := dk_42 (dk_at dksX20_keeps_0 5 rfl rfl)
theorem dX20_keeps_6 : decode cX20_keeps 6 = .ok (.getfield 15, 3) := dk_180 0 15 (dk_at dksX20_keeps_0 6 rfl rfl)
theorem dX20_keeps_9 : decode cX20_keeps 9 = .ok (.iconst 0, 1) := dk_3 (dk_at dksX20_keeps_0 9 rfl rfl)
theorem dX20_keeps_10 : decode cX20_keeps 10 = .ok (.bipush 10, 2) := dk_16 10 (dk_at dksX20_keeps_0 10 rfl rfl)
theorem dX20_keeps_12 : decode cX20_keeps 12 = .ok (.invokestatic 29, 3) := dk_184 0 29 (dk_at dksX20_keeps_0 12 rfl rfl)
theorem dX20_keeps_15 : decode cX20_keeps 15 = .ok (.return_, 1) := dk_177 (dk_at dksX20_keeps_0 15 rfl rfl)
abbrev cX20_mayBe : ByteArray := prog_20_method_4_code
def yX20_mayBe : MethodName := ⟨RX20, "mayBe", "(LFirstIn$Guest;I)Z"⟩
theorem dX20_mayBe_0 : decode cX20_mayBe 0 = .ok (.iconst 1, 1) := by decide +kernel
theorem dX20_mayBe_1 : decode cX20_mayBe 1 = .ok (.ireturn, 1) := by decide +kernel
abbrev cX20_moves : ByteArray := prog_20_method_5_code
def yX20_moves : MethodName := ⟨RX20, "moves", "(LFirstIn$Guest;I)I"⟩
theorem dX20_moves_0 : decode cX20_moves 0 = .ok (.iconst 0, 1) := by decide +kernel
theorem dX20_moves_1 : decode cX20_moves 1 = .ok (.ireturn, 1) := by decide +kernel
theorem q139 : (Jvm.Cond.initialized "FirstIn$Search") ∈ lw_all := lw_g (lw_at lw_m1 38 rfl) rfl
theorem q559 : (Jvm.Cond.fieldLink "FirstIn$Search" (72 : Nat) "FirstIn$Guest" "number" "I") ∈ lw_all := lw_g (lw_at lw_m2 218 rfl) rfl
theorem q737 : (Jvm.Cond.fieldLink "FirstIn$Search" (93 : Nat) "FirstIn$Rule" "weight" "I") ∈ lw_all := lw_g (lw_at lw_m3 156 rfl) rfl
theorem q834 : (Jvm.Cond.fieldLink "FirstIn$Search" (59 : Nat) "FirstIn$Room" "places" "I") ∈ lw_all := lw_g (lw_at lw_m4 13 rfl) rfl
theorem q1215 : (Jvm.Cond.fieldLinkNest "FirstIn$Search" (83 : Nat) "FirstIn$Bond" "rule" "LFirstIn$Rule;" "FirstIn") ∈ lw_tbl := lw_at lw_m5 154 rfl
theorem q1217 : (Jvm.Cond.fieldLinkNest "FirstIn$Search" (77 : Nat) "FirstIn$Bond" "x" "I" "FirstIn") ∈ lw_tbl := lw_at lw_m5 156 rfl
theorem q1219 : (Jvm.Cond.fieldLinkNest "FirstIn$Search" (80 : Nat) "FirstIn$Bond" "y" "I" "FirstIn") ∈ lw_tbl := lw_at lw_m5 158 rfl
theorem q1231 : (Jvm.Cond.instanceMethod ({ cls := "FirstIn$Search", name := "<init>", desc := "(LFirstIn$Room;Ljava/util/ArrayList;Ljava/util/ArrayList;)V" } : Jvm.MethodName)) ∈ lw_all := lw_g (lw_at lw_m5 170 rfl) rfl
theorem q1232 : (Jvm.Cond.code ({ cls := "FirstIn$Search", name := "<init>", desc := "(LFirstIn$Room;Ljava/util/ArrayList;Ljava/util/ArrayList;)V" } : Jvm.MethodName) prog_20_method_1_code (5 : Nat) (Option.none : Option Jvm.ClassFile.FieldType)) ∈ lw_all := lw_g (lw_at lw_m5 171 rfl) rfl
theorem q1233 : (Jvm.Cond.methodLink "FirstIn$Search" (3 : Nat) ({ cls := "java/lang/Object", name := "<init>", desc := "()V" } : Jvm.MethodName)) ∈ lw_all := lw_g (lw_at lw_m5 172 rfl) rfl
theorem q1241 : (Jvm.Cond.fieldLink "FirstIn$Search" (18 : Nat) "FirstIn$Search" "room" "LFirstIn$Room;") ∈ lw_all := lw_g (lw_at lw_m5 180 rfl) rfl
theorem q1242 : (Jvm.Cond.fieldLink "FirstIn$Search" (22 : Nat) "FirstIn$Search" "bonds" "Ljava/util/ArrayList;") ∈ lw_all := lw_g (lw_at lw_m5 181 rfl) rfl
theorem q1243 : (Jvm.Cond.fieldLink "FirstIn$Search" (26 : Nat) "FirstIn$Search" "guests" "Ljava/util/ArrayList;") ∈ lw_all := lw_g (lw_at lw_m5 182 rfl) rfl
theorem q1246 : (Jvm.Cond.fieldLink "FirstIn$Search" (9 : Nat) "FirstIn$Search" "at" "[I") ∈ lw_all := lw_g (lw_at lw_m5 185 rfl) rfl
theorem q1249 : (Jvm.Cond.fieldLink "FirstIn$Search" (15 : Nat) "FirstIn$Search" "first" "[I") ∈ lw_all := lw_g (lw_at lw_m5 188 rfl) rfl
theorem q1253 : (Jvm.Cond.fieldLink "FirstIn$Search" (65 : Nat) "FirstIn$Search" "taken" "I") ∈ lw_all := lw_g (lw_at lw_m5 192 rfl) rfl
theorem q1261 : (Jvm.Cond.soleField "FirstIn$Search" "room") ∈ lw_all := lw_g (lw_at lw_m5 200 rfl) rfl
theorem q1263 : (Jvm.Cond.soleField "FirstIn$Search" "bonds") ∈ lw_all := lw_g (lw_at lw_m5 202 rfl) rfl
theorem q1265 : (Jvm.Cond.soleField "FirstIn$Search" "guests") ∈ lw_all := lw_g (lw_at lw_m5 204 rfl) rfl
theorem q1267 : (Jvm.Cond.soleField "FirstIn$Search" "at") ∈ lw_all := lw_g (lw_at lw_m5 206 rfl) rfl
theorem q1269 : (Jvm.Cond.soleField "FirstIn$Search" "first") ∈ lw_all := lw_g (lw_at lw_m5 208 rfl) rfl
theorem q1271 : (Jvm.Cond.soleField "FirstIn$Search" "taken") ∈ lw_all := lw_g (lw_at lw_m5 210 rfl) rfl
theorem q1275 : (Jvm.Cond.declares ({ cls := "FirstIn$Search", name := "run", desc := "()V" } : Jvm.MethodName)) ∈ lw_tbl := lw_at lw_m5 214 rfl
theorem q1277 : (Jvm.Cond.instanceMethod ({ cls := "FirstIn$Search", name := "run", desc := "()V" } : Jvm.MethodName)) ∈ lw_all := lw_g (lw_at lw_m5 216 rfl) rfl
theorem q1278 : (Jvm.Cond.code ({ cls := "FirstIn$Search", name := "run", desc := "()V" } : Jvm.MethodName) prog_20_method_7_code (1 : Nat) (Option.none : Option Jvm.ClassFile.FieldType)) ∈ lw_all := lw_g (lw_at lw_m5 217 rfl) rfl
theorem q1279 : (Jvm.Cond.methodLink "FirstIn$Search" (35 : Nat) ({ cls := "FirstIn$Search", name := "goes", desc := "(IIII)V" } : Jvm.MethodName)) ∈ lw_all := lw_g (lw_at lw_m5 218 rfl) rfl
theorem q1280 : (Jvm.Cond.privateMethod ({ cls := "FirstIn$Search", name := "goes", desc := "(IIII)V" } : Jvm.MethodName)) ∈ lw_tbl := lw_at lw_m5 219 rfl
theorem q1281 : (Jvm.Cond.instanceMethod ({ cls := "FirstIn$Search", name := "goes", desc := "(IIII)V" } : Jvm.MethodName)) ∈ lw_all := lw_g (lw_at lw_m5 220 rfl) rfl
theorem q1282 : (Jvm.Cond.code ({ cls := "FirstIn$Search", name := "goes", desc := "(IIII)V" } : Jvm.MethodName) prog_20_method_8_code (11 : Nat) (Option.none : Option Jvm.ClassFile.FieldType)) ∈ lw_all := lw_g (lw_at lw_m5 221 rfl) rfl
theorem q1283 : (Jvm.Cond.methodLink "FirstIn$Search" (39 : Nat) ({ cls := "FirstIn$Search", name := "goesOn", desc := "(III)Z" } : Jvm.MethodName)) ∈ lw_all := lw_g (lw_at lw_m5 222 rfl) rfl
theorem q1284 : (Jvm.Cond.declares ({ cls := "FirstIn$Search", name := "goesOn", desc := "(III)Z" } : Jvm.MethodName)) ∈ lw_tbl := lw_at lw_m5 223 rfl
theorem q1285 : (Jvm.Cond.sameMethod "FirstIn$Search" "FirstIn$Search" "goesOn" "(III)Z") ∈ lw_all := lw_g (lw_at lw_m5 224 rfl) rfl
theorem q1295 : (Jvm.Cond.methodLink "FirstIn$Search" (43 : Nat) ({ cls := "java/util/ArrayList", name := "size", desc := "()I" } : Jvm.MethodName)) ∈ lw_all := lw_g (lw_at lw_m5 234 rfl) rfl
theorem q1296 : (Jvm.Cond.methodLink "FirstIn$Search" (49 : Nat) ({ cls := "FirstIn$Search", name := "found", desc := "(III)V" } : Jvm.MethodName)) ∈ lw_all := lw_g (lw_at lw_m5 235 rfl) rfl
theorem q1297 : (Jvm.Cond.declares ({ cls := "FirstIn$Search", name := "found", desc := "(III)V" } : Jvm.MethodName)) ∈ lw_tbl := lw_at lw_m5 236 rfl
theorem q1298 : (Jvm.Cond.sameMethod "FirstIn$Search" "FirstIn$Search" "found" "(III)V") ∈ lw_all := lw_g (lw_at lw_m5 237 rfl) rfl
theorem q1304 : (Jvm.Cond.declares ({ cls := "FirstIn$Search", name := "keeps", desc := "()V" } : Jvm.MethodName)) ∈ lw_tbl := lw_at lw_m6 3 rfl
theorem q1306 : (Jvm.Cond.instanceMethod ({ cls := "FirstIn$Search", name := "keeps", desc := "()V" } : Jvm.MethodName)) ∈ lw_all := lw_g (lw_at lw_m6 5 rfl) rfl
theorem q1307 : (Jvm.Cond.code ({ cls := "FirstIn$Search", name := "keeps", desc := "()V" } : Jvm.MethodName) prog_20_method_6_code (1 : Nat) (Option.none : Option Jvm.ClassFile.FieldType)) ∈ lw_all := lw_g (lw_at lw_m6 6 rfl) rfl
theorem q1308 : (Jvm.Cond.methodLink "FirstIn$Search" (29 : Nat) ({ cls := "java/lang/System", name := "arraycopy", desc := "(Ljava/lang/Object;ILjava/lang/Object;II)V" } : Jvm.MethodName)) ∈ lw_all := lw_g (lw_at lw_m6 7 rfl) rfl
theorem q1324 : (Jvm.Cond.methodLink "FirstIn$Search" (53 : Nat) ({ cls := "java/util/ArrayList", name := "get", desc := "(I)Ljava/lang/Object;" } : Jvm.MethodName)) ∈ lw_all := lw_g (lw_at lw_m6 23 rfl) rfl
theorem q1325 : (Jvm.Cond.classLink "FirstIn$Search" (57 : Nat) "FirstIn$Guest") ∈ lw_all := lw_g (lw_at lw_m6 24 rfl) rfl
theorem q1326 : (Jvm.Cond.methodLink "FirstIn$Search" (68 : Nat) ({ cls := "FirstIn$Search", name := "mayBe", desc := "(LFirstIn$Guest;I)Z" } : Jvm.MethodName)) ∈ lw_all := lw_g (lw_at lw_m6 25 rfl) rfl
theorem q1327 : (Jvm.Cond.instanceMethod ({ cls := "FirstIn$Search", name := "mayBe", desc := "(LFirstIn$Guest;I)Z" } : Jvm.MethodName)) ∈ lw_all := lw_g (lw_at lw_m6 26 rfl) rfl
theorem q1328 : (Jvm.Cond.sameMethod "FirstIn$Search" "FirstIn$Search" "mayBe" "(LFirstIn$Guest;I)Z") ∈ lw_all := lw_g (lw_at lw_m6 27 rfl) rfl
theorem q1334 : (Jvm.Cond.code ({ cls := "FirstIn$Search", name := "mayBe", desc := "(LFirstIn$Guest;I)Z" } : Jvm.MethodName) prog_20_method_4_code (3 : Nat) (Option.some Jvm.ClassFile.FieldType.boolean)) ∈ lw_all := lw_g (lw_at lw_m6 33 rfl) rfl
theorem q1335 : (Jvm.Cond.classLink "FirstIn$Search" (75 : Nat) "FirstIn$Bond") ∈ lw_all := lw_g (lw_at lw_m6 34 rfl) rfl
theorem q1336 : (Jvm.Cond.methodLink "FirstIn$Search" (87 : Nat) ({ cls := "FirstIn$Rule", name := "minds", desc := "(LFirstIn$Room;III)I" } : Jvm.MethodName)) ∈ lw_all := lw_g (lw_at lw_m6 35 rfl) rfl
theorem q1337 : (Jvm.Cond.methodLink "FirstIn$Search" (96 : Nat) ({ cls := "java/lang/Math", name := "max", desc := "(II)I" } : Jvm.MethodName)) ∈ lw_all := lw_g (lw_at lw_m6 36 rfl) rfl
theorem q1338 : (Jvm.Cond.methodLink "FirstIn$Search" (102 : Nat) ({ cls := "FirstIn$Search", name := "moves", desc := "(LFirstIn$Guest;I)I" } : Jvm.MethodName)) ∈ lw_all := lw_g (lw_at lw_m6 37 rfl) rfl
theorem q1339 : (Jvm.Cond.instanceMethod ({ cls := "FirstIn$Search", name := "moves", desc := "(LFirstIn$Guest;I)I" } : Jvm.MethodName)) ∈ lw_all := lw_g (lw_at lw_m6 38 rfl) rfl
theorem q1340 : (Jvm.Cond.sameMethod "FirstIn$Search" "FirstIn$Search" "moves" "(LFirstIn$Guest;I)I") ∈ lw_all := lw_g (lw_at lw_m6 39 rfl) rfl
theorem q1346 : (Jvm.Cond.code ({ cls := "FirstIn$Search", name := "moves", desc := "(LFirstIn$Guest;I)I" } : Jvm.MethodName) prog_20_method_5_code (3 : Nat) (Option.some Jvm.ClassFile.FieldType.int)) ∈ lw_all := lw_g (lw_at lw_m6 45 rfl) rfl
theorem q1998 : (Jvm.Cond.sameMethod "FirstIn$Search" "FirstIn$Search" "goes" "(IIII)V") ∈ lw_all := lw_g (lw_at lw_m8 217 rfl) rfl

/-! FirstIn$Least -/
set_option maxRecDepth 100000
def RX21 : String := "FirstIn$Least"
def TX21 : u_T := fun k => match k with
  | 0 => ("FirstIn$Search", "room", "LFirstIn$Room;", true)
  | 1 => ("FirstIn$Search", "bonds", "Ljava/util/ArrayList;", true)
  | 2 => ("FirstIn$Search", "guests", "Ljava/util/ArrayList;", true)
  | 3 => ("FirstIn$Search", "at", "[I", true)
  | 4 => ("FirstIn$Search", "first", "[I", true)
  | 5 => ("FirstIn$Search", "taken", "I", false)
  | 6 => ("FirstIn$Least", "best", "I", false)
  | 7 => ("FirstIn$Least", "many", "I", false)
  | _ => ("FirstIn$Least", "places", "[I", true)
def tyX21 : Nat → FieldType := fun k => match k with
  | 0 => .object "FirstIn$Room"
  | 1 => .object "java/util/ArrayList"
  | 2 => .object "java/util/ArrayList"
  | 3 => .array .int
  | 4 => .array .int
  | 5 => .int
  | 6 => .int
  | 7 => .int
  | _ => .array .int
abbrev wsX210 : List Cond := u_ws RX21 TX21 9
theorem nmX21 : ∀ a, a < 9 → ∀ b, b < 9 → a ≠ b → (TX21 a).2.1 ≠ (TX21 b).2.1 := by decide +kernel
theorem tyX21_ok : ∀ k, k < 9 → parseFieldDescriptor (TX21 k).2.2.1 = some (tyX21 k) := by decide +kernel
abbrev cX21_init : ByteArray := prog_10_method_1_code
def yX21_init : MethodName := ⟨RX21, "<init>", "(LFirstIn$Room;Ljava/util/ArrayList;Ljava/util/ArrayList;)V"⟩
def dkwX21_init_0 : List UInt8 := [42, 43, 44, 45, 183, 0, 3, 42, 18, 9, 181, 0, 10, 42, 16, 10, 188, 10, 181, 0, 16, 177]
abbrev dktX21_init_0 : List UInt8 := dkwX21_init_0 ++ []
theorem dksX21_init_0 : cX21_init.data.toList.drop 0 = dktX21_init_0 := by decide +kernel
theorem dX21_init_0 : decode cX21_init 0 = .ok (.aload_n 0, 1) := dk_42 (dk_at dksX21_init_0 0 rfl rfl)
theorem dX21_init_1 : decode cX21_init 1 = .ok (.aload_n 1, 1) := dk_43 (dk_at dksX21_init_0 1 rfl rfl)
theorem dX21_init_2 : decode cX21_init 2 = .ok (.aload_n 2, 1) := dk_44 (dk_at dksX21_init_0 2 rfl rfl)
theorem dX21_init_3 : decode cX21_init 3 = .ok (.aload_n 3, 1) := dk_45 (dk_at dksX21_init_0 3 rfl rfl)
theorem dX21_init_4 : decode cX21_init 4 = .ok (.invokespecial 3, 3) := dk_183 0 3 (dk_at dksX21_init_0 4 rfl rfl)
theorem dX21_init_7 : decode cX21_init 7 = .ok (.aload_n 0, 1) := dk_42 (dk_at dksX21_init_0 7 rfl rfl)
theorem dX21_init_8 : decode cX21_init 8 = .ok (.ldc 9, 2) := dk_18 9 (dk_at dksX21_init_0 8 rfl rfl)
theorem dX21_init_10 : decode cX21_init 10 = .ok (.putfield 10, 3) := dk_181 0 10 (dk_at dksX21_init_0 10 rfl rfl)
theorem dX21_init_13 : decode cX21_init 13 = .ok (.aload_n 0, 1) := dk_42 (dk_at dksX21_init_0 13 rfl rfl)
theorem dX21_init_14 : decode cX21_init 14 = .ok (.bipush 10, 2) := dk_16 10 (dk_at dksX21_init_0 14 rfl rfl)
theorem dX21_init_16 : decode cX21_init 16 = .ok (.newarray .int, 2) := dk_188_10 (dk_at dksX21_init_0 16 rfl rfl)
theorem dX21_init_18 : decode cX21_init 18 = .ok (.putfield 16, 3) := dk_181 0 16 (dk_at dksX21_init_0 18 rfl rfl)
theorem dX21_init_21 : decode cX21_init 21 = .ok (.return_, 1) := dk_177 (dk_at dksX21_init_0 21 rfl rfl)
abbrev cX21_goesOn : ByteArray := prog_10_method_2_code
def yX21_goesOn : MethodName := ⟨RX21, "goesOn", "(III)Z"⟩
def dkwX21_goesOn_0 : List UInt8 := [27, 42, 180, 0, 10, 163, 0, 7, 4, 167, 0, 4, 3, 172]
abbrev dktX21_goesOn_0 : List UInt8 := dkwX21_goesOn_0 ++ []
theorem dksX21_goesOn_0 : cX21_goesOn.data.toList.drop 0 = dktX21_goesOn_0 := by decide +kernel
theorem dX21_goesOn_0 : decode cX21_goesOn 0 = .ok (.iload_n 1, 1) := dk_27 (dk_at dksX21_goesOn_0 0 rfl rfl)
theorem dX21_goesOn_1 : decode cX21_goesOn 1 = .ok (.aload_n 0, 1) := dk_42 (dk_at dksX21_goesOn_0 1 rfl rfl)
theorem dX21_goesOn_2 : decode cX21_goesOn 2 = .ok (.getfield 10, 3) := dk_180 0 10 (dk_at dksX21_goesOn_0 2 rfl rfl)
theorem dX21_goesOn_5 : decode cX21_goesOn 5 = .ok (.if_icmp .gt 7, 3) := dk_163 0 7 (dk_at dksX21_goesOn_0 5 rfl rfl)
theorem dX21_goesOn_8 : decode cX21_goesOn 8 = .ok (.iconst 1, 1) := dk_4 (dk_at dksX21_goesOn_0 8 rfl rfl)
theorem dX21_goesOn_9 : decode cX21_goesOn 9 = .ok (.goto 4, 3) := dk_167 0 4 (dk_at dksX21_goesOn_0 9 rfl rfl)
theorem dX21_goesOn_12 : decode cX21_goesOn 12 = .ok (.iconst 0, 1) := dk_3 (dk_at dksX21_goesOn_0 12 rfl rfl)
theorem dX21_goesOn_13 : decode cX21_goesOn 13 = .ok (.ireturn, 1) := dk_172 (dk_at dksX21_goesOn_0 13 rfl rfl)
abbrev cX21_found : ByteArray := prog_10_method_3_code
def yX21_found : MethodName := ⟨RX21, "found", "(III)V"⟩
def dkwX21_found_5 : List UInt8 := [132, 4, 1, 167, 255, 196, 177]
abbrev dktX21_found_5 : List UInt8 := dkwX21_found_5 ++ []
def dkwX21_found_4 : List UInt8 := [180, 0, 46, 42, 180, 0, 27, 21, 4, 182, 0, 37, 192, 0, 41, 180, 0, 43, 46, 120, 128, 79]
abbrev dktX21_found_4 : List UInt8 := dkwX21_found_4 ++ dktX21_found_5
def dkwX21_found_3 : List UInt8 := [42, 180, 0, 16, 42, 180, 0, 27, 21, 4, 182, 0, 37, 192, 0, 41, 180, 0, 43, 92, 46, 4, 42]
abbrev dktX21_found_3 : List UInt8 := dkwX21_found_3 ++ dktX21_found_4
def dkwX21_found_2 : List UInt8 := [89, 180, 0, 20, 4, 96, 181, 0, 20, 3, 54, 4, 21, 4, 42, 180, 0, 27, 182, 0, 31, 162, 0, 54]
abbrev dktX21_found_2 : List UInt8 := dkwX21_found_2 ++ dktX21_found_3
def dkwX21_found_1 : List UInt8 := [54, 4, 21, 4, 16, 10, 162, 0, 17, 42, 180, 0, 16, 21, 4, 3, 79, 132, 4, 1, 167, 255, 238, 42]
abbrev dktX21_found_1 : List UInt8 := dkwX21_found_1 ++ dktX21_found_2
def dkwX21_found_0 : List UInt8 := [27, 42, 180, 0, 10, 162, 0, 41, 42, 27, 181, 0, 10, 42, 3, 181, 0, 20, 42, 182, 0, 23, 3]
abbrev dktX21_found_0 : List UInt8 := dkwX21_found_0 ++ dktX21_found_1
theorem dksX21_found_0 : cX21_found.data.toList.drop 0 = dktX21_found_0 := by decide +kernel
theorem dksX21_found_1 : cX21_found.data.toList.drop 23 = dktX21_found_1 := dk_seg dksX21_found_0 23 rfl rfl
theorem dksX21_found_2 : cX21_found.data.toList.drop 47 = dktX21_found_2 := dk_seg dksX21_found_1 24 rfl rfl
theorem dksX21_found_3 : cX21_found.data.toList.drop 71 = dktX21_found_3 := dk_seg dksX21_found_2 24 rfl rfl
theorem dksX21_found_4 : cX21_found.data.toList.drop 94 = dktX21_found_4 := dk_seg dksX21_found_3 23 rfl rfl
theorem dksX21_found_5 : cX21_found.data.toList.drop 116 = dktX21_found_5 := dk_seg dksX21_found_4 22 rfl rfl
theorem dX21_found_0 : decode cX21_found 0 = .ok (.iload_n 1, 1) := dk_27 (dk_at dksX21_found_0 0 rfl rfl)
theorem dX21_found_1 : decode cX21_found 1 = .ok (.aload_n 0, 1) := dk_42 (dk_at dksX21_found_0 1 rfl rfl)
theorem dX21_found_2 : decode cX21_found 2 = .ok (.getfield 10, 3) := dk_180 0 10 (dk_at dksX21_found_0 2 rfl rfl)
theorem dX21_found_5 : decode cX21_found 5 = .ok (.if_icmp .ge 41, 3) := dk_162 0 41 (dk_at dksX21_found_0 5 rfl rfl)
theorem dX21_found_8 : decode cX21_found 8 = .ok (.aload_n 0, 1) := dk_42 (dk_at dksX21_found_0 8 rfl rfl)
theorem dX21_found_9 : decode cX21_found 9 = .ok (.iload_n 1, 1) := dk_27 (dk_at dksX21_found_0 9 rfl rfl)
theorem dX21_found_10 : decode cX21_found 10 = .ok (.putfield 10, 3) := dk_181 0 10 (dk_at dksX21_found_0 10 rfl rfl)
theorem dX21_found_13 : decode cX21_found 13 = .ok (.aload_n 0, 1) := dk_42 (dk_at dksX21_found_0 13 rfl rfl)
theorem dX21_found_14 : decode cX21_found 14 = .ok (.iconst 0, 1) := dk_3 (dk_at dksX21_found_0 14 rfl rfl)
theorem dX21_found_15 : decode cX21_found 15 = .ok (.putfield 20, 3) := dk_181 0 20 (dk_at dksX21_found_0 15 rfl rfl)
theorem dX21_found_18 : decode cX21_found 18 = .ok (.aload_n 0, 1) := dk_42 (dk_at dksX21_found_0 18 rfl rfl)
theorem dX21_found_19 : decode cX21_found 19 = .ok (.invokevirtual 23, 3) := dk_182 0 23 (dk_at dksX21_found_0 19 rfl rfl)
theorem dX21_found_22 : decode cX21_found 22 = .ok (.iconst 0, 1) := dk_3 (dk_at dksX21_found_0 22 rfl rfl)
theorem dX21_found_23 : decode cX21_found 23 = .ok (.istore 4, 2) := dk_54 4 (dk_at dksX21_found_1 0 rfl rfl)
theorem dX21_found_25 : decode cX21_found 25 = .ok (.iload 4, 2) := dk_21 4 (dk_at dksX21_found_1 2 rfl rfl)
theorem dX21_found_27 : decode cX21_found 27 = .ok (.bipush 10, 2) := dk_16 10 (dk_at dksX21_found_1 4 rfl rfl)
theorem dX21_found_29 : decode cX21_found 29 = .ok (.if_icmp .ge 17, 3) := dk_162 0 17 (dk_at dksX21_found_1 6 rfl rfl)
theorem dX21_found_32 : decode cX21_found 32 = .ok (.aload_n 0, 1) := dk_42 (dk_at dksX21_found_1 9 rfl rfl)
theorem dX21_found_33 : decode cX21_found 33 = .ok (.getfield 16, 3) := dk_180 0 16 (dk_at dksX21_found_1 10 rfl rfl)
theorem dX21_found_36 : decode cX21_found 36 = .ok (.iload 4, 2) := dk_21 4 (dk_at dksX21_found_1 13 rfl rfl)
theorem dX21_found_38 : decode cX21_found 38 = .ok (.iconst 0, 1) := dk_3 (dk_at dksX21_found_1 15 rfl rfl)
theorem dX21_found_39 : decode cX21_found 39 = .ok (.iastore, 1) := dk_79 (dk_at dksX21_found_1 16 rfl rfl)
theorem dX21_found_40 : decode cX21_found 40 = .ok (.iinc 4 1, 3) := dk_132 4 1 (dk_at dksX21_found_1 17 rfl rfl)
theorem dX21_found_43 : decode cX21_found 43 = .ok (.goto (-18), 3) := dk_167 255 238 (dk_at dksX21_found_1 20 rfl rfl)
theorem dX21_found_46 : decode cX21_found 46 = .ok (.aload_n 0, 1) := dk_42 (dk_at dksX21_found_1 23 rfl rfl)
theorem dX21_found_47 : decode cX21_found 47 = .ok (.dup, 1) := dk_89 (dk_at dksX21_found_2 0 rfl rfl)
theorem dX21_found_48 : decode cX21_found 48 = .ok (.getfield 20, 3) := dk_180 0 20 (dk_at dksX21_found_2 1 rfl rfl)
theorem dX21_found_51 : decode cX21_found 51 = .ok (.iconst 1, 1) := dk_4 (dk_at dksX21_found_2 4 rfl rfl)
theorem dX21_found_52 : decode cX21_found 52 = .ok (.iadd, 1) := dk_96 (dk_at dksX21_found_2 5 rfl rfl)
theorem dX21_found_53 : decode cX21_found 53 = .ok (.putfield 20, 3) := dk_181 0 20 (dk_at dksX21_found_2 6 rfl rfl)
theorem dX21_found_56 : decode cX21_found 56 = .ok (.iconst 0, 1) := dk_3 (dk_at dksX21_found_2 9 rfl rfl)
theorem dX21_found_57 : decode cX21_found 57 = .ok (.istore 4, 2) := dk_54 4 (dk_at dksX21_found_2 10 rfl rfl)
theorem dX21_found_59 : decode cX21_found 59 = .ok (.iload 4, 2) := dk_21 4 (dk_at dksX21_found_2 12 rfl rfl)
theorem dX21_found_61 : decode cX21_found 61 = .ok (.aload_n 0, 1) := dk_42 (dk_at dksX21_found_2 14 rfl rfl)
theorem dX21_found_62 : decode cX21_found 62 = .ok (.getfield 27, 3) := dk_180 0 27 (dk_at dksX21_found_2 15 rfl rfl)
theorem dX21_found_65 : decode cX21_found 65 = .ok (.invokevirtual 31, 3) := dk_182 0 31 (dk_at dksX21_found_2 18 rfl rfl)
theorem dX21_found_68 : decode cX21_found 68 = .ok (.if_icmp .ge 54, 3) := dk_162 0 54 (dk_at dksX21_found_2 21 rfl rfl)
theorem dX21_found_71 : decode cX21_found 71 = .ok (.aload_n 0, 1) := dk_42 (dk_at dksX21_found_3 0 rfl rfl)
theorem dX21_found_72 : decode cX21_found 72 = .ok (.getfield 16, 3) := dk_180 0 16 (dk_at dksX21_found_3 1 rfl rfl)
theorem dX21_found_75 : decode cX21_found 75 = .ok (.aload_n 0, 1) := dk_42 (dk_at dksX21_found_3 4 rfl rfl)
theorem dX21_found_76 : decode cX21_found 76 = .ok (.getfield 27, 3) := dk_180 0 27 (dk_at dksX21_found_3 5 rfl rfl)
theorem dX21_found_79 : decode cX21_found 79 = .ok (.iload 4, 2) := dk_21 4 (dk_at dksX21_found_3 8 rfl rfl)
theorem dX21_found_81 : decode cX21_found 81 = .ok (.invokevirtual 37, 3) := dk_182 0 37 (dk_at dksX21_found_3 10 rfl rfl)
theorem dX21_found_84 : decode cX21_found 84 = .ok (.checkcast 41, 3) := dk_192 0 41 (dk_at dksX21_found_3 13 rfl rfl)
theorem dX21_found_87 : decode cX21_found 87 = .ok (.getfield 43, 3) := dk_180 0 43 (dk_at dksX21_found_3 16 rfl rfl)
theorem dX21_found_90 : decode cX21_found 90 = .ok (.dup2, 1) := dk_92 (dk_at dksX21_found_3 19 rfl rfl)
theorem dX21_found_91 : decode cX21_found 91 = .ok (.iaload, 1) := dk_46 (dk_at dksX21_found_3 20 rfl rfl)
theorem dX21_found_92 : decode cX21_found 92 = .ok (.iconst 1, 1) := dk_4 (dk_at dksX21_found_3 21 rfl rfl)
theorem dX21_found_93 : decode cX21_found 93 = .ok (.aload_n 0, 1) := dk_42 (dk_at dksX21_found_3 22 rfl rfl)
theorem dX21_found_94 : decode cX21_found 94 = .ok (.getfield 46, 3) := dk_180 0 46 (dk_at dksX21_found_4 0 rfl rfl)
theorem dX21_found_97 : decode cX21_found 97 = .ok (.aload_n 0, 1) := dk_42 (dk_at dksX21_found_4 3 rfl rfl)
theorem dX21_found_98 : decode cX21_found 98 = .ok (.getfield 27, 3) := dk_180 0 27 (dk_at dksX21_found_4 4 rfl rfl)
theorem dX21_found_101 : decode cX21_found 101 = .ok (.iload 4, 2) := dk_21 4 (dk_at dksX21_found_4 7 rfl rfl)
theorem dX21_found_103 : decode cX21_found 103 = .ok (.invokevirtual 37, 3) := dk_182 0 37 (dk_at dksX21_found_4 9 rfl rfl)
theorem dX21_found_106 : decode cX21_found 106 = .ok (.checkcast 41, 3) := dk_192 0 41 (dk_at dksX21_found_4 12 rfl rfl)
theorem dX21_found_109 : decode cX21_found 109 = .ok (.getfield 43, 3) := dk_180 0 43 (dk_at dksX21_found_4 15 rfl rfl)
theorem dX21_found_112 : decode cX21_found 112 = .ok (.iaload, 1) := dk_46 (dk_at dksX21_found_4 18 rfl rfl)
theorem dX21_found_113 : decode cX21_found 113 = .ok (.ishl, 1) := dk_120 (dk_at dksX21_found_4 19 rfl rfl)
theorem dX21_found_114 : decode cX21_found 114 = .ok (.ior, 1) := dk_128 (dk_at dksX21_found_4 20 rfl rfl)
theorem dX21_found_115 : decode cX21_found 115 = .ok (.iastore, 1) := dk_79 (dk_at dksX21_found_4 21 rfl rfl)
theorem dX21_found_116 : decode cX21_found 116 = .ok (.iinc 4 1, 3) := dk_132 4 1 (dk_at dksX21_found_5 0 rfl rfl)
theorem dX21_found_119 : decode cX21_found 119 = .ok (.goto (-60), 3) := dk_167 255 196 (dk_at dksX21_found_5 3 rfl rfl)
theorem dX21_found_122 : decode cX21_found 122 = .ok (.return_, 1) := dk_177 (dk_at dksX21_found_5 6 rfl rfl)
theorem q140 : (Jvm.Cond.initialized "FirstIn$Least") ∈ lw_all := lw_g (lw_at lw_m1 39 rfl) rfl
theorem q558 : (Jvm.Cond.fieldLink "FirstIn$Least" (43 : Nat) "FirstIn$Guest" "number" "I") ∈ lw_all := lw_g (lw_at lw_m2 217 rfl) rfl
theorem q615 : (Jvm.Cond.selects "FirstIn$Least" ({ cls := "java/lang/Object", name := "getClass", desc := "()Ljava/lang/Class;" } : Jvm.MethodName) ({ cls := "java/lang/Object", name := "getClass", desc := "()Ljava/lang/Class;" } : Jvm.MethodName)) ∈ lw_all := lw_g (lw_at lw_m3 34 rfl) rfl
theorem q1203 : (Jvm.Cond.instantiable "FirstIn$Least" (9 : Nat)) ∈ lw_all := lw_g (lw_at lw_m5 142 rfl) rfl
theorem q1228 : (Jvm.Cond.instanceMethod ({ cls := "FirstIn$Least", name := "<init>", desc := "(LFirstIn$Room;Ljava/util/ArrayList;Ljava/util/ArrayList;)V" } : Jvm.MethodName)) ∈ lw_all := lw_g (lw_at lw_m5 167 rfl) rfl
theorem q1229 : (Jvm.Cond.code ({ cls := "FirstIn$Least", name := "<init>", desc := "(LFirstIn$Room;Ljava/util/ArrayList;Ljava/util/ArrayList;)V" } : Jvm.MethodName) prog_10_method_1_code (4 : Nat) (Option.none : Option Jvm.ClassFile.FieldType)) ∈ lw_all := lw_g (lw_at lw_m5 168 rfl) rfl
theorem q1230 : (Jvm.Cond.methodLink "FirstIn$Least" (3 : Nat) ({ cls := "FirstIn$Search", name := "<init>", desc := "(LFirstIn$Room;Ljava/util/ArrayList;Ljava/util/ArrayList;)V" } : Jvm.MethodName)) ∈ lw_all := lw_g (lw_at lw_m5 169 rfl) rfl
theorem q1234 : (Jvm.Cond.constant "FirstIn$Least" (9 : Nat) (1000000 : Int32)) ∈ lw_all := lw_g (lw_at lw_m5 173 rfl) rfl
theorem q1235 : (Jvm.Cond.fieldLink "FirstIn$Least" (10 : Nat) "FirstIn$Least" "best" "I") ∈ lw_all := lw_g (lw_at lw_m5 174 rfl) rfl
theorem q1237 : (Jvm.Cond.fieldLink "FirstIn$Least" (20 : Nat) "FirstIn$Least" "many" "I") ∈ lw_all := lw_g (lw_at lw_m5 176 rfl) rfl
theorem q1239 : (Jvm.Cond.fieldLink "FirstIn$Least" (16 : Nat) "FirstIn$Least" "places" "[I") ∈ lw_all := lw_g (lw_at lw_m5 178 rfl) rfl
theorem q1244 : (Jvm.Cond.fieldLink "FirstIn$Least" (27 : Nat) "FirstIn$Least" "guests" "Ljava/util/ArrayList;") ∈ lw_all := lw_g (lw_at lw_m5 183 rfl) rfl
theorem q1245 : (Jvm.Cond.sameField "FirstIn$Least" "FirstIn$Search" "guests" "Ljava/util/ArrayList;") ∈ lw_all := lw_g (lw_at lw_m5 184 rfl) rfl
theorem q1247 : (Jvm.Cond.fieldLink "FirstIn$Least" (46 : Nat) "FirstIn$Least" "at" "[I") ∈ lw_all := lw_g (lw_at lw_m5 186 rfl) rfl
theorem q1248 : (Jvm.Cond.sameField "FirstIn$Least" "FirstIn$Search" "at" "[I") ∈ lw_all := lw_g (lw_at lw_m5 187 rfl) rfl
theorem q1254 : (Jvm.Cond.lays "FirstIn$Least" "FirstIn$Least" "best" "I") ∈ lw_all := lw_g (lw_at lw_m5 193 rfl) rfl
theorem q1255 : (Jvm.Cond.soleField "FirstIn$Least" "best") ∈ lw_all := lw_g (lw_at lw_m5 194 rfl) rfl
theorem q1256 : (Jvm.Cond.lays "FirstIn$Least" "FirstIn$Least" "many" "I") ∈ lw_all := lw_g (lw_at lw_m5 195 rfl) rfl
theorem q1257 : (Jvm.Cond.soleField "FirstIn$Least" "many") ∈ lw_all := lw_g (lw_at lw_m5 196 rfl) rfl
theorem q1258 : (Jvm.Cond.laysFinal "FirstIn$Least" "FirstIn$Least" "places" "[I") ∈ lw_all := lw_g (lw_at lw_m5 197 rfl) rfl
theorem q1259 : (Jvm.Cond.soleField "FirstIn$Least" "places") ∈ lw_all := lw_g (lw_at lw_m5 198 rfl) rfl
theorem q1260 : (Jvm.Cond.laysFinal "FirstIn$Least" "FirstIn$Search" "room" "LFirstIn$Room;") ∈ lw_all := lw_g (lw_at lw_m5 199 rfl) rfl
theorem q1262 : (Jvm.Cond.laysFinal "FirstIn$Least" "FirstIn$Search" "bonds" "Ljava/util/ArrayList;") ∈ lw_all := lw_g (lw_at lw_m5 201 rfl) rfl
theorem q1264 : (Jvm.Cond.laysFinal "FirstIn$Least" "FirstIn$Search" "guests" "Ljava/util/ArrayList;") ∈ lw_all := lw_g (lw_at lw_m5 203 rfl) rfl
theorem q1266 : (Jvm.Cond.laysFinal "FirstIn$Least" "FirstIn$Search" "at" "[I") ∈ lw_all := lw_g (lw_at lw_m5 205 rfl) rfl
theorem q1268 : (Jvm.Cond.laysFinal "FirstIn$Least" "FirstIn$Search" "first" "[I") ∈ lw_all := lw_g (lw_at lw_m5 207 rfl) rfl
theorem q1270 : (Jvm.Cond.lays "FirstIn$Least" "FirstIn$Search" "taken" "I") ∈ lw_all := lw_g (lw_at lw_m5 209 rfl) rfl
theorem q1272 : (Jvm.Cond.superclass "FirstIn$Least" "FirstIn$Search") ∈ lw_all := lw_g (lw_at lw_m5 211 rfl) rfl
theorem q1274 : (Jvm.Cond.sameMethod "FirstIn$Least" "FirstIn$Search" "run" "()V") ∈ lw_all := lw_g (lw_at lw_m5 213 rfl) rfl
theorem q1276 : (Jvm.Cond.selects "FirstIn$Least" ({ cls := "FirstIn$Least", name := "run", desc := "()V" } : Jvm.MethodName) ({ cls := "FirstIn$Search", name := "run", desc := "()V" } : Jvm.MethodName)) ∈ lw_all := lw_g (lw_at lw_m5 215 rfl) rfl
theorem q1286 : (Jvm.Cond.selects "FirstIn$Least" ({ cls := "FirstIn$Search", name := "goesOn", desc := "(III)Z" } : Jvm.MethodName) ({ cls := "FirstIn$Least", name := "goesOn", desc := "(III)Z" } : Jvm.MethodName)) ∈ lw_all := lw_g (lw_at lw_m5 225 rfl) rfl
theorem q1287 : (Jvm.Cond.instanceMethod ({ cls := "FirstIn$Least", name := "goesOn", desc := "(III)Z" } : Jvm.MethodName)) ∈ lw_all := lw_g (lw_at lw_m5 226 rfl) rfl
theorem q1288 : (Jvm.Cond.code ({ cls := "FirstIn$Least", name := "goesOn", desc := "(III)Z" } : Jvm.MethodName) prog_10_method_2_code (4 : Nat) (Option.some Jvm.ClassFile.FieldType.boolean)) ∈ lw_all := lw_g (lw_at lw_m5 227 rfl) rfl
theorem q1299 : (Jvm.Cond.selects "FirstIn$Least" ({ cls := "FirstIn$Search", name := "found", desc := "(III)V" } : Jvm.MethodName) ({ cls := "FirstIn$Least", name := "found", desc := "(III)V" } : Jvm.MethodName)) ∈ lw_all := lw_g (lw_at lw_m5 238 rfl) rfl
theorem q1300 : (Jvm.Cond.instanceMethod ({ cls := "FirstIn$Least", name := "found", desc := "(III)V" } : Jvm.MethodName)) ∈ lw_all := lw_g (lw_at lw_m5 239 rfl) rfl
theorem q1301 : (Jvm.Cond.code ({ cls := "FirstIn$Least", name := "found", desc := "(III)V" } : Jvm.MethodName) prog_10_method_3_code (5 : Nat) (Option.none : Option Jvm.ClassFile.FieldType)) ∈ lw_all := lw_g (lw_at lw_m6 0 rfl) rfl
theorem q1302 : (Jvm.Cond.methodLink "FirstIn$Least" (23 : Nat) ({ cls := "FirstIn$Least", name := "keeps", desc := "()V" } : Jvm.MethodName)) ∈ lw_all := lw_g (lw_at lw_m6 1 rfl) rfl
theorem q1303 : (Jvm.Cond.sameMethod "FirstIn$Least" "FirstIn$Search" "keeps" "()V") ∈ lw_all := lw_g (lw_at lw_m6 2 rfl) rfl
theorem q1305 : (Jvm.Cond.selects "FirstIn$Least" ({ cls := "FirstIn$Least", name := "keeps", desc := "()V" } : Jvm.MethodName) ({ cls := "FirstIn$Search", name := "keeps", desc := "()V" } : Jvm.MethodName)) ∈ lw_all := lw_g (lw_at lw_m6 4 rfl) rfl
theorem q1309 : (Jvm.Cond.methodLink "FirstIn$Least" (31 : Nat) ({ cls := "java/util/ArrayList", name := "size", desc := "()I" } : Jvm.MethodName)) ∈ lw_all := lw_g (lw_at lw_m6 8 rfl) rfl
theorem q1310 : (Jvm.Cond.methodLink "FirstIn$Least" (37 : Nat) ({ cls := "java/util/ArrayList", name := "get", desc := "(I)Ljava/lang/Object;" } : Jvm.MethodName)) ∈ lw_all := lw_g (lw_at lw_m6 9 rfl) rfl
theorem q1311 : (Jvm.Cond.classLink "FirstIn$Least" (41 : Nat) "FirstIn$Guest") ∈ lw_all := lw_g (lw_at lw_m6 10 rfl) rfl
theorem q1329 : (Jvm.Cond.selects "FirstIn$Least" ({ cls := "FirstIn$Search", name := "mayBe", desc := "(LFirstIn$Guest;I)Z" } : Jvm.MethodName) ({ cls := "FirstIn$Search", name := "mayBe", desc := "(LFirstIn$Guest;I)Z" } : Jvm.MethodName)) ∈ lw_all := lw_g (lw_at lw_m6 28 rfl) rfl
theorem q1341 : (Jvm.Cond.selects "FirstIn$Least" ({ cls := "FirstIn$Search", name := "moves", desc := "(LFirstIn$Guest;I)I" } : Jvm.MethodName) ({ cls := "FirstIn$Search", name := "moves", desc := "(LFirstIn$Guest;I)I" } : Jvm.MethodName)) ∈ lw_all := lw_g (lw_at lw_m6 40 rfl) rfl
theorem q2025 : (Jvm.Cond.castable "FirstIn$Least" "java/lang/Object") ∈ lw_tbl := lw_at lw_m9 4 rfl
theorem in_X21 : ∀ w ∈ wsX210, w ∈ lw_all := lw_in wsX210 [1260, 1262, 1264, 1266, 1268, 1270, 1254, 1256, 1258] (by decide +kernel) (by decide +kernel)

/-! FirstIn$Bond -/
set_option maxRecDepth 100000
def RX22 : String := "FirstIn$Bond"
def TX22 : u_T := fun k => match k with
  | 0 => ("FirstIn$Bond", "rule", "LFirstIn$Rule;", true)
  | 1 => ("FirstIn$Bond", "x", "I", true)
  | _ => ("FirstIn$Bond", "y", "I", true)
def tyX22 : Nat → FieldType := fun k => match k with
  | 0 => .object "FirstIn$Rule"
  | 1 => .int
  | _ => .int
abbrev wsX220 : List Cond := u_ws RX22 TX22 3
theorem nmX22 : ∀ a, a < 3 → ∀ b, b < 3 → a ≠ b → (TX22 a).2.1 ≠ (TX22 b).2.1 := by decide +kernel
theorem tyX22_ok : ∀ k, k < 3 → parseFieldDescriptor (TX22 k).2.2.1 = some (tyX22 k) := by decide +kernel
abbrev cX22_init : ByteArray := prog_4_method_1_code
def yX22_init : MethodName := ⟨RX22, "<init>", "(LFirstIn$Rule;LFirstIn$Couple;)V"⟩
def dkwX22_init_1 : List UInt8 := [181, 0, 23, 177]
abbrev dktX22_init_1 : List UInt8 := dkwX22_init_1 ++ []
def dkwX22_init_0 : List UInt8 := [42, 183, 0, 1, 42, 43, 181, 0, 7, 42, 44, 180, 0, 13, 181, 0, 19, 42, 44, 180, 0, 20]
abbrev dktX22_init_0 : List UInt8 := dkwX22_init_0 ++ dktX22_init_1
theorem dksX22_init_0 : cX22_init.data.toList.drop 0 = dktX22_init_0 := by decide +kernel
theorem dksX22_init_1 : cX22_init.data.toList.drop 22 = dktX22_init_1 := dk_seg dksX22_init_0 22 rfl rfl
theorem dX22_init_0 : decode cX22_init 0 = .ok (.aload_n 0, 1) := dk_42 (dk_at dksX22_init_0 0 rfl rfl)
theorem dX22_init_1 : decode cX22_init 1 = .ok (.invokespecial 1, 3) := dk_183 0 1 (dk_at dksX22_init_0 1 rfl rfl)
theorem dX22_init_4 : decode cX22_init 4 = .ok (.aload_n 0, 1) := dk_42 (dk_at dksX22_init_0 4 rfl rfl)
theorem dX22_init_5 : decode cX22_init 5 = .ok (.aload_n 1, 1) := dk_43 (dk_at dksX22_init_0 5 rfl rfl)
theorem dX22_init_6 : decode cX22_init 6 = .ok (.putfield 7, 3) := dk_181 0 7 (dk_at dksX22_init_0 6 rfl rfl)
theorem dX22_init_9 : decode cX22_init 9 = .ok (.aload_n 0, 1) := dk_42 (dk_at dksX22_init_0 9 rfl rfl)
theorem dX22_init_10 : decode cX22_init 10 = .ok (.aload_n 2, 1) := dk_44 (dk_at dksX22_init_0 10 rfl rfl)
theorem dX22_init_11 : decode cX22_init 11 = .ok (.getfield 13, 3) := dk_180 0 13 (dk_at dksX22_init_0 11 rfl rfl)
theorem dX22_init_14 : decode cX22_init 14 = .ok (.putfield 19, 3) := dk_181 0 19 (dk_at dksX22_init_0 14 rfl rfl)
theorem dX22_init_17 : decode cX22_init 17 = .ok (.aload_n 0, 1) := dk_42 (dk_at dksX22_init_0 17 rfl rfl)
theorem dX22_init_18 : decode cX22_init 18 = .ok (.aload_n 2, 1) := dk_44 (dk_at dksX22_init_0 18 rfl rfl)
theorem dX22_init_19 : decode cX22_init 19 = .ok (.getfield 20, 3) := dk_180 0 20 (dk_at dksX22_init_0 19 rfl rfl)
theorem dX22_init_22 : decode cX22_init 22 = .ok (.putfield 23, 3) := dk_181 0 23 (dk_at dksX22_init_1 0 rfl rfl)
theorem dX22_init_25 : decode cX22_init 25 = .ok (.return_, 1) := dk_177 (dk_at dksX22_init_1 3 rfl rfl)
theorem q141 : (Jvm.Cond.initialized "FirstIn$Bond") ∈ lw_all := lw_g (lw_at lw_m1 40 rfl) rfl
theorem q609 : (Jvm.Cond.selects "FirstIn$Bond" ({ cls := "java/lang/Object", name := "getClass", desc := "()Ljava/lang/Class;" } : Jvm.MethodName) ({ cls := "java/lang/Object", name := "getClass", desc := "()Ljava/lang/Class;" } : Jvm.MethodName)) ∈ lw_all := lw_g (lw_at lw_m3 28 rfl) rfl
theorem q721 : (Jvm.Cond.fieldLinkNest "FirstIn$Bond" (13 : Nat) "FirstIn$Couple" "x" "I" "FirstIn") ∈ lw_tbl := lw_at lw_m3 140 rfl
theorem q724 : (Jvm.Cond.fieldLinkNest "FirstIn$Bond" (20 : Nat) "FirstIn$Couple" "y" "I" "FirstIn") ∈ lw_tbl := lw_at lw_m3 143 rfl
theorem q1209 : (Jvm.Cond.instantiable "FirstIn$Bond" (3 : Nat)) ∈ lw_all := lw_g (lw_at lw_m5 148 rfl) rfl
theorem q1211 : (Jvm.Cond.instanceMethod ({ cls := "FirstIn$Bond", name := "<init>", desc := "(LFirstIn$Rule;LFirstIn$Couple;)V" } : Jvm.MethodName)) ∈ lw_all := lw_g (lw_at lw_m5 150 rfl) rfl
theorem q1212 : (Jvm.Cond.code ({ cls := "FirstIn$Bond", name := "<init>", desc := "(LFirstIn$Rule;LFirstIn$Couple;)V" } : Jvm.MethodName) prog_4_method_1_code (3 : Nat) (Option.none : Option Jvm.ClassFile.FieldType)) ∈ lw_all := lw_g (lw_at lw_m5 151 rfl) rfl
theorem q1213 : (Jvm.Cond.methodLink "FirstIn$Bond" (1 : Nat) ({ cls := "java/lang/Object", name := "<init>", desc := "()V" } : Jvm.MethodName)) ∈ lw_all := lw_g (lw_at lw_m5 152 rfl) rfl
theorem q1214 : (Jvm.Cond.fieldLink "FirstIn$Bond" (7 : Nat) "FirstIn$Bond" "rule" "LFirstIn$Rule;") ∈ lw_all := lw_g (lw_at lw_m5 153 rfl) rfl
theorem q1216 : (Jvm.Cond.fieldLink "FirstIn$Bond" (19 : Nat) "FirstIn$Bond" "x" "I") ∈ lw_all := lw_g (lw_at lw_m5 155 rfl) rfl
theorem q1218 : (Jvm.Cond.fieldLink "FirstIn$Bond" (23 : Nat) "FirstIn$Bond" "y" "I") ∈ lw_all := lw_g (lw_at lw_m5 157 rfl) rfl
theorem q1220 : (Jvm.Cond.laysFinal "FirstIn$Bond" "FirstIn$Bond" "rule" "LFirstIn$Rule;") ∈ lw_all := lw_g (lw_at lw_m5 159 rfl) rfl
theorem q1221 : (Jvm.Cond.soleField "FirstIn$Bond" "rule") ∈ lw_all := lw_g (lw_at lw_m5 160 rfl) rfl
theorem q1222 : (Jvm.Cond.laysFinal "FirstIn$Bond" "FirstIn$Bond" "x" "I") ∈ lw_all := lw_g (lw_at lw_m5 161 rfl) rfl
theorem q1223 : (Jvm.Cond.soleField "FirstIn$Bond" "x") ∈ lw_all := lw_g (lw_at lw_m5 162 rfl) rfl
theorem q1224 : (Jvm.Cond.laysFinal "FirstIn$Bond" "FirstIn$Bond" "y" "I") ∈ lw_all := lw_g (lw_at lw_m5 163 rfl) rfl
theorem q1225 : (Jvm.Cond.soleField "FirstIn$Bond" "y") ∈ lw_all := lw_g (lw_at lw_m5 164 rfl) rfl
theorem q1226 : (Jvm.Cond.superclass "FirstIn$Bond" "java/lang/Object") ∈ lw_all := lw_g (lw_at lw_m5 165 rfl) rfl
theorem q2026 : (Jvm.Cond.castable "FirstIn$Bond" "java/lang/Object") ∈ lw_tbl := lw_at lw_m9 5 rfl
theorem in_X22 : ∀ w ∈ wsX220, w ∈ lw_all := lw_in wsX220 [1220, 1222, 1224] (by decide +kernel) (by decide +kernel)

/-! FirstIn$Mildest -/
set_option maxRecDepth 100000
def RX23 : String := "FirstIn$Mildest"
def TX23 : u_T := fun k => match k with
  | 0 => ("FirstIn$Search", "room", "LFirstIn$Room;", true)
  | 1 => ("FirstIn$Search", "bonds", "Ljava/util/ArrayList;", true)
  | 2 => ("FirstIn$Search", "guests", "Ljava/util/ArrayList;", true)
  | 3 => ("FirstIn$Search", "at", "[I", true)
  | 4 => ("FirstIn$Search", "first", "[I", true)
  | 5 => ("FirstIn$Search", "taken", "I", false)
  | 6 => ("FirstIn$Mildest", "best", "I", false)
  | _ => ("FirstIn$Mildest", "heaviest", "I", false)
def tyX23 : Nat → FieldType := fun k => match k with
  | 0 => .object "FirstIn$Room"
  | 1 => .object "java/util/ArrayList"
  | 2 => .object "java/util/ArrayList"
  | 3 => .array .int
  | 4 => .array .int
  | 5 => .int
  | 6 => .int
  | _ => .int
abbrev wsX230 : List Cond := u_ws RX23 TX23 8
theorem nmX23 : ∀ a, a < 8 → ∀ b, b < 8 → a ≠ b → (TX23 a).2.1 ≠ (TX23 b).2.1 := by decide +kernel
theorem tyX23_ok : ∀ k, k < 8 → parseFieldDescriptor (TX23 k).2.2.1 = some (tyX23 k) := by decide +kernel
abbrev cX23_goesOn : ByteArray := prog_13_method_2_code
def yX23_goesOn : MethodName := ⟨RX23, "goesOn", "(III)Z"⟩
def dkwX23_goesOn_1 : List UInt8 := [4, 167, 0, 4, 3, 172]
abbrev dktX23_goesOn_1 : List UInt8 := dkwX23_goesOn_1 ++ []
def dkwX23_goesOn_0 : List UInt8 := [28, 42, 180, 0, 16, 161, 0, 19, 28, 42, 180, 0, 16, 160, 0, 15, 27, 42, 180, 0, 10, 162, 0, 7]
abbrev dktX23_goesOn_0 : List UInt8 := dkwX23_goesOn_0 ++ dktX23_goesOn_1
theorem dksX23_goesOn_0 : cX23_goesOn.data.toList.drop 0 = dktX23_goesOn_0 := by decide +kernel
theorem dksX23_goesOn_1 : cX23_goesOn.data.toList.drop 24 = dktX23_goesOn_1 := dk_seg dksX23_goesOn_0 24 rfl rfl
theorem dX23_goesOn_0 : decode cX23_goesOn 0 = .ok (.iload_n 2, 1) := dk_28 (dk_at dksX23_goesOn_0 0 rfl rfl)
theorem dX23_goesOn_1 : decode cX23_goesOn 1 = .ok (.aload_n 0, 1) := dk_42 (dk_at dksX23_goesOn_0 1 rfl rfl)
theorem dX23_goesOn_2 : decode cX23_goesOn 2 = .ok (.getfield 16, 3) := dk_180 0 16 (dk_at dksX23_goesOn_0 2 rfl rfl)
theorem dX23_goesOn_5 : decode cX23_goesOn 5 = .ok (.if_icmp .lt 19, 3) := dk_161 0 19 (dk_at dksX23_goesOn_0 5 rfl rfl)
theorem dX23_goesOn_8 : decode cX23_goesOn 8 = .ok (.iload_n 2, 1) := dk_28 (dk_at dksX23_goesOn_0 8 rfl rfl)
theorem dX23_goesOn_9 : decode cX23_goesOn 9 = .ok (.aload_n 0, 1) := dk_42 (dk_at dksX23_goesOn_0 9 rfl rfl)
theorem dX23_goesOn_10 : decode cX23_goesOn 10 = .ok (.getfield 16, 3) := dk_180 0 16 (dk_at dksX23_goesOn_0 10 rfl rfl)
theorem dX23_goesOn_13 : decode cX23_goesOn 13 = .ok (.if_icmp .ne 15, 3) := dk_160 0 15 (dk_at dksX23_goesOn_0 13 rfl rfl)
theorem dX23_goesOn_16 : decode cX23_goesOn 16 = .ok (.iload_n 1, 1) := dk_27 (dk_at dksX23_goesOn_0 16 rfl rfl)
theorem dX23_goesOn_17 : decode cX23_goesOn 17 = .ok (.aload_n 0, 1) := dk_42 (dk_at dksX23_goesOn_0 17 rfl rfl)
theorem dX23_goesOn_18 : decode cX23_goesOn 18 = .ok (.getfield 10, 3) := dk_180 0 10 (dk_at dksX23_goesOn_0 18 rfl rfl)
theorem dX23_goesOn_21 : decode cX23_goesOn 21 = .ok (.if_icmp .ge 7, 3) := dk_162 0 7 (dk_at dksX23_goesOn_0 21 rfl rfl)
theorem dX23_goesOn_24 : decode cX23_goesOn 24 = .ok (.iconst 1, 1) := dk_4 (dk_at dksX23_goesOn_1 0 rfl rfl)
theorem dX23_goesOn_25 : decode cX23_goesOn 25 = .ok (.goto 4, 3) := dk_167 0 4 (dk_at dksX23_goesOn_1 1 rfl rfl)
theorem dX23_goesOn_28 : decode cX23_goesOn 28 = .ok (.iconst 0, 1) := dk_3 (dk_at dksX23_goesOn_1 4 rfl rfl)
theorem dX23_goesOn_29 : decode cX23_goesOn 29 = .ok (.ireturn, 1) := dk_172 (dk_at dksX23_goesOn_1 5 rfl rfl)
abbrev cX23_found : ByteArray := prog_13_method_3_code
def yX23_found : MethodName := ⟨RX23, "found", "(III)V"⟩
def dkwX23_found_0 : List UInt8 := [42, 27, 181, 0, 10, 42, 28, 181, 0, 16, 42, 182, 0, 19, 177]
abbrev dktX23_found_0 : List UInt8 := dkwX23_found_0 ++ []
theorem dksX23_found_0 : cX23_found.data.toList.drop 0 = dktX23_found_0 := by decide +kernel
theorem dX23_found_0 : decode cX23_found 0 = .ok (.aload_n 0, 1) := dk_42 (dk_at dksX23_found_0 0 rfl rfl)
theorem dX23_found_1 : decode cX23_found 1 = .ok (.iload_n 1, 1) := dk_27 (dk_at dksX23_found_0 1 rfl rfl)
theorem dX23_found_2 : decode cX23_found 2 = .ok (.putfield 10, 3) := dk_181 0 10 (dk_at dksX23_found_0 2 rfl rfl)
theorem dX23_found_5 : decode cX23_found 5 = .ok (.aload_n 0, 1) := dk_42 (dk_at dksX23_found_0 5 rfl rfl)
theorem dX23_found_6 : decode cX23_found 6 = .ok (.iload_n 2, 1) := dk_28 (dk_at dksX23_found_0 6 rfl rfl)
theorem dX23_found_7 : decode cX23_found 7 = .ok (.putfield 16, 3) := dk_181 0 16 (dk_at dksX23_found_0 7 rfl rfl)
theorem dX23_found_10 : decode cX23_found 10 = .ok (.aload_n 0, 1) := dk_42 (dk_at dksX23_found_0 10 rfl rfl)
theorem dX23_found_11 : decode cX23_found 11 = .ok (.invokevirtual 19, 3) := dk_182 0 19 (dk_at dksX23_found_0 11 rfl rfl)
theorem dX23_found_14 : decode cX23_found 14 = .ok (.return_, 1) := dk_177 (dk_at dksX23_found_0 14 rfl rfl)
abbrev cX23_init : ByteArray := prog_13_method_1_code
def yX23_init : MethodName := ⟨RX23, "<init>", "(LFirstIn$Room;Ljava/util/ArrayList;Ljava/util/ArrayList;)V"⟩
def dkwX23_init_0 : List UInt8 := [42, 43, 44, 45, 183, 0, 3, 42, 18, 9, 181, 0, 10, 42, 18, 9, 181, 0, 16, 177]
abbrev dktX23_init_0 : List UInt8 := dkwX23_init_0 ++ []
theorem dksX23_init_0 : cX23_init.data.toList.drop 0 = dktX23_init_0 := by decide +kernel
theorem dX23_init_0 : decode cX23_init 0 = .ok (.aload_n 0, 1) := dk_42 (dk_at dksX23_init_0 0 rfl rfl)
theorem dX23_init_1 : decode cX23_init 1 = .ok (.aload_n 1, 1) := dk_43 (dk_at dksX23_init_0 1 rfl rfl)
theorem dX23_init_2 : decode cX23_init 2 = .ok (.aload_n 2, 1) := dk_44 (dk_at dksX23_init_0 2 rfl rfl)
theorem dX23_init_3 : decode cX23_init 3 = .ok (.aload_n 3, 1) := dk_45 (dk_at dksX23_init_0 3 rfl rfl)
theorem dX23_init_4 : decode cX23_init 4 = .ok (.invokespecial 3, 3) := dk_183 0 3 (dk_at dksX23_init_0 4 rfl rfl)
theorem dX23_init_7 : decode cX23_init 7 = .ok (.aload_n 0, 1) := dk_42 (dk_at dksX23_init_0 7 rfl rfl)
theorem dX23_init_8 : decode cX23_init 8 = .ok (.ldc 9, 2) := dk_18 9 (dk_at dksX23_init_0 8 rfl rfl)
theorem dX23_init_10 : decode cX23_init 10 = .ok (.putfield 10, 3) := dk_181 0 10 (dk_at dksX23_init_0 10 rfl rfl)
theorem dX23_init_13 : decode cX23_init 13 = .ok (.aload_n 0, 1) := dk_42 (dk_at dksX23_init_0 13 rfl rfl)
theorem dX23_init_14 : decode cX23_init 14 = .ok (.ldc 9, 2) := dk_18 9 (dk_at dksX23_init_0 14 rfl rfl)
theorem dX23_init_16 : decode cX23_init 16 = .ok (.putfield 16, 3) := dk_181 0 16 (dk_at dksX23_init_0 16 rfl rfl)
theorem dX23_init_19 : decode cX23_init 19 = .ok (.return_, 1) := dk_177 (dk_at dksX23_init_0 19 rfl rfl)
theorem q142 : (Jvm.Cond.initialized "FirstIn$Mildest") ∈ lw_all := lw_g (lw_at lw_m1 41 rfl) rfl
theorem q618 : (Jvm.Cond.selects "FirstIn$Mildest" ({ cls := "java/lang/Object", name := "getClass", desc := "()Ljava/lang/Class;" } : Jvm.MethodName) ({ cls := "java/lang/Object", name := "getClass", desc := "()Ljava/lang/Class;" } : Jvm.MethodName)) ∈ lw_all := lw_g (lw_at lw_m3 37 rfl) rfl
theorem q1292 : (Jvm.Cond.selects "FirstIn$Mildest" ({ cls := "FirstIn$Search", name := "goesOn", desc := "(III)Z" } : Jvm.MethodName) ({ cls := "FirstIn$Mildest", name := "goesOn", desc := "(III)Z" } : Jvm.MethodName)) ∈ lw_all := lw_g (lw_at lw_m5 231 rfl) rfl
theorem q1293 : (Jvm.Cond.instanceMethod ({ cls := "FirstIn$Mildest", name := "goesOn", desc := "(III)Z" } : Jvm.MethodName)) ∈ lw_all := lw_g (lw_at lw_m5 232 rfl) rfl
theorem q1294 : (Jvm.Cond.code ({ cls := "FirstIn$Mildest", name := "goesOn", desc := "(III)Z" } : Jvm.MethodName) prog_13_method_2_code (4 : Nat) (Option.some Jvm.ClassFile.FieldType.boolean)) ∈ lw_all := lw_g (lw_at lw_m5 233 rfl) rfl
theorem q1318 : (Jvm.Cond.selects "FirstIn$Mildest" ({ cls := "FirstIn$Search", name := "found", desc := "(III)V" } : Jvm.MethodName) ({ cls := "FirstIn$Mildest", name := "found", desc := "(III)V" } : Jvm.MethodName)) ∈ lw_all := lw_g (lw_at lw_m6 17 rfl) rfl
theorem q1319 : (Jvm.Cond.instanceMethod ({ cls := "FirstIn$Mildest", name := "found", desc := "(III)V" } : Jvm.MethodName)) ∈ lw_all := lw_g (lw_at lw_m6 18 rfl) rfl
theorem q1320 : (Jvm.Cond.code ({ cls := "FirstIn$Mildest", name := "found", desc := "(III)V" } : Jvm.MethodName) prog_13_method_3_code (4 : Nat) (Option.none : Option Jvm.ClassFile.FieldType)) ∈ lw_all := lw_g (lw_at lw_m6 19 rfl) rfl
theorem q1321 : (Jvm.Cond.methodLink "FirstIn$Mildest" (19 : Nat) ({ cls := "FirstIn$Mildest", name := "keeps", desc := "()V" } : Jvm.MethodName)) ∈ lw_all := lw_g (lw_at lw_m6 20 rfl) rfl
theorem q1322 : (Jvm.Cond.sameMethod "FirstIn$Mildest" "FirstIn$Search" "keeps" "()V") ∈ lw_all := lw_g (lw_at lw_m6 21 rfl) rfl
theorem q1323 : (Jvm.Cond.selects "FirstIn$Mildest" ({ cls := "FirstIn$Mildest", name := "keeps", desc := "()V" } : Jvm.MethodName) ({ cls := "FirstIn$Search", name := "keeps", desc := "()V" } : Jvm.MethodName)) ∈ lw_all := lw_g (lw_at lw_m6 22 rfl) rfl
theorem q1333 : (Jvm.Cond.selects "FirstIn$Mildest" ({ cls := "FirstIn$Search", name := "mayBe", desc := "(LFirstIn$Guest;I)Z" } : Jvm.MethodName) ({ cls := "FirstIn$Search", name := "mayBe", desc := "(LFirstIn$Guest;I)Z" } : Jvm.MethodName)) ∈ lw_all := lw_g (lw_at lw_m6 32 rfl) rfl
theorem q1345 : (Jvm.Cond.selects "FirstIn$Mildest" ({ cls := "FirstIn$Search", name := "moves", desc := "(LFirstIn$Guest;I)I" } : Jvm.MethodName) ({ cls := "FirstIn$Search", name := "moves", desc := "(LFirstIn$Guest;I)I" } : Jvm.MethodName)) ∈ lw_all := lw_g (lw_at lw_m6 44 rfl) rfl
theorem q1352 : (Jvm.Cond.instantiable "FirstIn$Mildest" (8 : Nat)) ∈ lw_all := lw_g (lw_at lw_m6 51 rfl) rfl
theorem q1354 : (Jvm.Cond.instanceMethod ({ cls := "FirstIn$Mildest", name := "<init>", desc := "(LFirstIn$Room;Ljava/util/ArrayList;Ljava/util/ArrayList;)V" } : Jvm.MethodName)) ∈ lw_all := lw_g (lw_at lw_m6 53 rfl) rfl
theorem q1355 : (Jvm.Cond.code ({ cls := "FirstIn$Mildest", name := "<init>", desc := "(LFirstIn$Room;Ljava/util/ArrayList;Ljava/util/ArrayList;)V" } : Jvm.MethodName) prog_13_method_1_code (4 : Nat) (Option.none : Option Jvm.ClassFile.FieldType)) ∈ lw_all := lw_g (lw_at lw_m6 54 rfl) rfl
theorem q1356 : (Jvm.Cond.methodLink "FirstIn$Mildest" (3 : Nat) ({ cls := "FirstIn$Search", name := "<init>", desc := "(LFirstIn$Room;Ljava/util/ArrayList;Ljava/util/ArrayList;)V" } : Jvm.MethodName)) ∈ lw_all := lw_g (lw_at lw_m6 55 rfl) rfl
theorem q1357 : (Jvm.Cond.constant "FirstIn$Mildest" (9 : Nat) (1000000 : Int32)) ∈ lw_all := lw_g (lw_at lw_m6 56 rfl) rfl
theorem q1358 : (Jvm.Cond.fieldLink "FirstIn$Mildest" (10 : Nat) "FirstIn$Mildest" "best" "I") ∈ lw_all := lw_g (lw_at lw_m6 57 rfl) rfl
theorem q1360 : (Jvm.Cond.fieldLink "FirstIn$Mildest" (16 : Nat) "FirstIn$Mildest" "heaviest" "I") ∈ lw_all := lw_g (lw_at lw_m6 59 rfl) rfl
theorem q1362 : (Jvm.Cond.lays "FirstIn$Mildest" "FirstIn$Mildest" "best" "I") ∈ lw_all := lw_g (lw_at lw_m6 61 rfl) rfl
theorem q1363 : (Jvm.Cond.soleField "FirstIn$Mildest" "best") ∈ lw_all := lw_g (lw_at lw_m6 62 rfl) rfl
theorem q1364 : (Jvm.Cond.lays "FirstIn$Mildest" "FirstIn$Mildest" "heaviest" "I") ∈ lw_all := lw_g (lw_at lw_m6 63 rfl) rfl
theorem q1365 : (Jvm.Cond.soleField "FirstIn$Mildest" "heaviest") ∈ lw_all := lw_g (lw_at lw_m6 64 rfl) rfl
theorem q1366 : (Jvm.Cond.laysFinal "FirstIn$Mildest" "FirstIn$Search" "room" "LFirstIn$Room;") ∈ lw_all := lw_g (lw_at lw_m6 65 rfl) rfl
theorem q1367 : (Jvm.Cond.laysFinal "FirstIn$Mildest" "FirstIn$Search" "bonds" "Ljava/util/ArrayList;") ∈ lw_all := lw_g (lw_at lw_m6 66 rfl) rfl
theorem q1368 : (Jvm.Cond.laysFinal "FirstIn$Mildest" "FirstIn$Search" "guests" "Ljava/util/ArrayList;") ∈ lw_all := lw_g (lw_at lw_m6 67 rfl) rfl
theorem q1369 : (Jvm.Cond.laysFinal "FirstIn$Mildest" "FirstIn$Search" "at" "[I") ∈ lw_all := lw_g (lw_at lw_m6 68 rfl) rfl
theorem q1370 : (Jvm.Cond.laysFinal "FirstIn$Mildest" "FirstIn$Search" "first" "[I") ∈ lw_all := lw_g (lw_at lw_m6 69 rfl) rfl
theorem q1371 : (Jvm.Cond.lays "FirstIn$Mildest" "FirstIn$Search" "taken" "I") ∈ lw_all := lw_g (lw_at lw_m6 70 rfl) rfl
theorem q1372 : (Jvm.Cond.superclass "FirstIn$Mildest" "FirstIn$Search") ∈ lw_all := lw_g (lw_at lw_m6 71 rfl) rfl
theorem q1374 : (Jvm.Cond.sameMethod "FirstIn$Mildest" "FirstIn$Search" "run" "()V") ∈ lw_all := lw_g (lw_at lw_m6 73 rfl) rfl
theorem q1375 : (Jvm.Cond.selects "FirstIn$Mildest" ({ cls := "FirstIn$Mildest", name := "run", desc := "()V" } : Jvm.MethodName) ({ cls := "FirstIn$Search", name := "run", desc := "()V" } : Jvm.MethodName)) ∈ lw_all := lw_g (lw_at lw_m6 74 rfl) rfl
theorem q2027 : (Jvm.Cond.castable "FirstIn$Mildest" "java/lang/Object") ∈ lw_tbl := lw_at lw_m9 6 rfl
theorem in_X23 : ∀ w ∈ wsX230, w ∈ lw_all := lw_in wsX230 [1366, 1367, 1368, 1369, 1370, 1371, 1362, 1364] (by decide +kernel) (by decide +kernel)

/-! FirstIn$Mended -/
set_option maxRecDepth 100000
def RX24 : String := "FirstIn$Mended"
def TX24 : u_T := fun k => match k with
  | 0 => ("FirstIn$Search", "room", "LFirstIn$Room;", true)
  | 1 => ("FirstIn$Search", "bonds", "Ljava/util/ArrayList;", true)
  | 2 => ("FirstIn$Search", "guests", "Ljava/util/ArrayList;", true)
  | 3 => ("FirstIn$Search", "at", "[I", true)
  | 4 => ("FirstIn$Search", "first", "[I", true)
  | 5 => ("FirstIn$Search", "taken", "I", false)
  | 6 => ("FirstIn$Mended", "roomNumber", "I", true)
  | 7 => ("FirstIn$Mended", "limit", "I", true)
  | _ => ("FirstIn$Mended", "fewest", "I", false)
def tyX24 : Nat → FieldType := fun k => match k with
  | 0 => .object "FirstIn$Room"
  | 1 => .object "java/util/ArrayList"
  | 2 => .object "java/util/ArrayList"
  | 3 => .array .int
  | 4 => .array .int
  | 5 => .int
  | 6 => .int
  | 7 => .int
  | _ => .int
abbrev wsX240 : List Cond := u_ws RX24 TX24 9
theorem nmX24 : ∀ a, a < 9 → ∀ b, b < 9 → a ≠ b → (TX24 a).2.1 ≠ (TX24 b).2.1 := by decide +kernel
theorem tyX24_ok : ∀ k, k < 9 → parseFieldDescriptor (TX24 k).2.2.1 = some (tyX24 k) := by decide +kernel
abbrev cX24_goesOn : ByteArray := prog_12_method_4_code
def yX24_goesOn : MethodName := ⟨RX24, "goesOn", "(III)Z"⟩
def dkwX24_goesOn_0 : List UInt8 := [27, 42, 180, 0, 19, 163, 0, 15, 29, 42, 180, 0, 10, 162, 0, 7, 4, 167, 0, 4, 3, 172]
abbrev dktX24_goesOn_0 : List UInt8 := dkwX24_goesOn_0 ++ []
theorem dksX24_goesOn_0 : cX24_goesOn.data.toList.drop 0 = dktX24_goesOn_0 := by decide +kernel
theorem dX24_goesOn_0 : decode cX24_goesOn 0 = .ok (.iload_n 1, 1) := dk_27 (dk_at dksX24_goesOn_0 0 rfl rfl)
theorem dX24_goesOn_1 : decode cX24_goesOn 1 = .ok (.aload_n 0, 1) := dk_42 (dk_at dksX24_goesOn_0 1 rfl rfl)
theorem dX24_goesOn_2 : decode cX24_goesOn 2 = .ok (.getfield 19, 3) := dk_180 0 19 (dk_at dksX24_goesOn_0 2 rfl rfl)
theorem dX24_goesOn_5 : decode cX24_goesOn 5 = .ok (.if_icmp .gt 15, 3) := dk_163 0 15 (dk_at dksX24_goesOn_0 5 rfl rfl)
theorem dX24_goesOn_8 : decode cX24_goesOn 8 = .ok (.iload_n 3, 1) := dk_29 (dk_at dksX24_goesOn_0 8 rfl rfl)
theorem dX24_goesOn_9 : decode cX24_goesOn 9 = .ok (.aload_n 0, 1) := dk_42 (dk_at dksX24_goesOn_0 9 rfl rfl)
theorem dX24_goesOn_10 : decode cX24_goesOn 10 = .ok (.getfield 10, 3) := dk_180 0 10 (dk_at dksX24_goesOn_0 10 rfl rfl)
theorem dX24_goesOn_13 : decode cX24_goesOn 13 = .ok (.if_icmp .ge 7, 3) := dk_162 0 7 (dk_at dksX24_goesOn_0 13 rfl rfl)
theorem dX24_goesOn_16 : decode cX24_goesOn 16 = .ok (.iconst 1, 1) := dk_4 (dk_at dksX24_goesOn_0 16 rfl rfl)
theorem dX24_goesOn_17 : decode cX24_goesOn 17 = .ok (.goto 4, 3) := dk_167 0 4 (dk_at dksX24_goesOn_0 17 rfl rfl)
theorem dX24_goesOn_20 : decode cX24_goesOn 20 = .ok (.iconst 0, 1) := dk_3 (dk_at dksX24_goesOn_0 20 rfl rfl)
theorem dX24_goesOn_21 : decode cX24_goesOn 21 = .ok (.ireturn, 1) := dk_172 (dk_at dksX24_goesOn_0 21 rfl rfl)
abbrev cX24_found : ByteArray := prog_12_method_5_code
def yX24_found : MethodName := ⟨RX24, "found", "(III)V"⟩
def dkwX24_found_0 : List UInt8 := [42, 29, 181, 0, 10, 42, 182, 0, 34, 177]
abbrev dktX24_found_0 : List UInt8 := dkwX24_found_0 ++ []
theorem dksX24_found_0 : cX24_found.data.toList.drop 0 = dktX24_found_0 := by decide +kernel
theorem dX24_found_0 : decode cX24_found 0 = .ok (.aload_n 0, 1) := dk_42 (dk_at dksX24_found_0 0 rfl rfl)
theorem dX24_found_1 : decode cX24_found 1 = .ok (.iload_n 3, 1) := dk_29 (dk_at dksX24_found_0 1 rfl rfl)
theorem dX24_found_2 : decode cX24_found 2 = .ok (.putfield 10, 3) := dk_181 0 10 (dk_at dksX24_found_0 2 rfl rfl)
theorem dX24_found_5 : decode cX24_found 5 = .ok (.aload_n 0, 1) := dk_42 (dk_at dksX24_found_0 5 rfl rfl)
theorem dX24_found_6 : decode cX24_found 6 = .ok (.invokevirtual 34, 3) := dk_182 0 34 (dk_at dksX24_found_0 6 rfl rfl)
theorem dX24_found_9 : decode cX24_found 9 = .ok (.return_, 1) := dk_177 (dk_at dksX24_found_0 9 rfl rfl)
abbrev cX24_mayBe : ByteArray := prog_12_method_2_code
def yX24_mayBe : MethodName := ⟨RX24, "mayBe", "(LFirstIn$Guest;I)Z"⟩
def dkwX24_mayBe_1 : List UInt8 := [160, 0, 7, 4, 167, 0, 4, 3, 172]
abbrev dktX24_mayBe_1 : List UInt8 := dkwX24_mayBe_1 ++ []
def dkwX24_mayBe_0 : List UInt8 := [43, 180, 0, 22, 153, 0, 22, 43, 180, 0, 28, 42, 180, 0, 16, 160, 0, 11, 43, 180, 0, 31, 28]
abbrev dktX24_mayBe_0 : List UInt8 := dkwX24_mayBe_0 ++ dktX24_mayBe_1
theorem dksX24_mayBe_0 : cX24_mayBe.data.toList.drop 0 = dktX24_mayBe_0 := by decide +kernel
theorem dksX24_mayBe_1 : cX24_mayBe.data.toList.drop 23 = dktX24_mayBe_1 := dk_seg dksX24_mayBe_0 23 rfl rfl
theorem dX24_mayBe_0 : decode cX24_mayBe 0 = .ok (.aload_n 1, 1) := dk_43 (dk_at dksX24_mayBe_0 0 rfl rfl)
theorem dX24_mayBe_1 : decode cX24_mayBe 1 = .ok (.getfield 22, 3) := dk_180 0 22 (dk_at dksX24_mayBe_0 1 rfl rfl)
theorem dX24_mayBe_4 : decode cX24_mayBe 4 = .ok (.ifCond .eq 22, 3) := dk_153 0 22 (dk_at dksX24_mayBe_0 4 rfl rfl)
theorem dX24_mayBe_7 : decode cX24_mayBe 7 = .ok (.aload_n 1, 1) := dk_43 (dk_at dksX24_mayBe_0 7 rfl rfl)
theorem dX24_mayBe_8 : decode cX24_mayBe 8 = .ok (.getfield 28, 3) := dk_180 0 28 (dk_at dksX24_mayBe_0 8 rfl rfl)
theorem dX24_mayBe_11 : decode cX24_mayBe 11 = .ok (.aload_n 0, 1) := dk_42 (dk_at dksX24_mayBe_0 11 rfl rfl)
theorem dX24_mayBe_12 : decode cX24_mayBe 12 = .ok (.getfield 16, 3) := dk_180 0 16 (dk_at dksX24_mayBe_0 12 rfl rfl)
theorem dX24_mayBe_15 : decode cX24_mayBe 15 = .ok (.if_icmp .ne 11, 3) := dk_160 0 11 (dk_at dksX24_mayBe_0 15 rfl rfl)
theorem dX24_mayBe_18 : decode cX24_mayBe 18 = .ok (.aload_n 1, 1) := dk_43 (dk_at dksX24_mayBe_0 18 rfl rfl)
theorem dX24_mayBe_19 : decode cX24_mayBe 19 = .ok (.getfield 31, 3) := dk_180 0 31 (dk_at dksX24_mayBe_0 19 rfl rfl)
theorem dX24_mayBe_22 : decode cX24_mayBe 22 = .ok (.iload_n 2, 1) := dk_28 (dk_at dksX24_mayBe_0 22 rfl rfl)
theorem dX24_mayBe_23 : decode cX24_mayBe 23 = .ok (.if_icmp .ne 7, 3) := dk_160 0 7 (dk_at dksX24_mayBe_1 0 rfl rfl)
theorem dX24_mayBe_26 : decode cX24_mayBe 26 = .ok (.iconst 1, 1) := dk_4 (dk_at dksX24_mayBe_1 3 rfl rfl)
theorem dX24_mayBe_27 : decode cX24_mayBe 27 = .ok (.goto 4, 3) := dk_167 0 4 (dk_at dksX24_mayBe_1 4 rfl rfl)
theorem dX24_mayBe_30 : decode cX24_mayBe 30 = .ok (.iconst 0, 1) := dk_3 (dk_at dksX24_mayBe_1 7 rfl rfl)
theorem dX24_mayBe_31 : decode cX24_mayBe 31 = .ok (.ireturn, 1) := dk_172 (dk_at dksX24_mayBe_1 8 rfl rfl)
abbrev cX24_moves : ByteArray := prog_12_method_3_code
def yX24_moves : MethodName := ⟨RX24, "moves", "(LFirstIn$Guest;I)I"⟩
def dkwX24_moves_1 : List UInt8 := [172]
abbrev dktX24_moves_1 : List UInt8 := dkwX24_moves_1 ++ []
def dkwX24_moves_0 : List UInt8 := [43, 180, 0, 28, 42, 180, 0, 16, 160, 0, 15, 43, 180, 0, 31, 28, 159, 0, 7, 4, 167, 0, 4, 3]
abbrev dktX24_moves_0 : List UInt8 := dkwX24_moves_0 ++ dktX24_moves_1
theorem dksX24_moves_0 : cX24_moves.data.toList.drop 0 = dktX24_moves_0 := by decide +kernel
theorem dksX24_moves_1 : cX24_moves.data.toList.drop 24 = dktX24_moves_1 := dk_seg dksX24_moves_0 24 rfl rfl
theorem dX24_moves_0 : decode cX24_moves 0 = .ok (.aload_n 1, 1) := dk_43 (dk_at dksX24_moves_0 0 rfl rfl)
theorem dX24_moves_1 : decode cX24_moves 1 = .ok (.getfield 28, 3) := dk_180 0 28 (dk_at dksX24_moves_0 1 rfl rfl)
theorem dX24_moves_4 : decode cX24_moves 4 = .ok (.aload_n 0, 1) := dk_42 (dk_at dksX24_moves_0 4 rfl rfl)
theorem dX24_moves_5 : decode cX24_moves 5 = .ok (.getfield 16, 3) := dk_180 0 16 (dk_at dksX24_moves_0 5 rfl rfl)
theorem dX24_moves_8 : decode cX24_moves 8 = .ok (.if_icmp .ne 15, 3) := dk_160 0 15 (dk_at dksX24_moves_0 8 rfl rfl)
theorem dX24_moves_11 : decode cX24_moves 11 = .ok (.aload_n 1, 1) := dk_43 (dk_at dksX24_moves_0 11 rfl rfl)
theorem dX24_moves_12 : decode cX24_moves 12 = .ok (.getfield 31, 3) := dk_180 0 31 (dk_at dksX24_moves_0 12 rfl rfl)
theorem dX24_moves_15 : decode cX24_moves 15 = .ok (.iload_n 2, 1) := dk_28 (dk_at dksX24_moves_0 15 rfl rfl)
theorem dX24_moves_16 : decode cX24_moves 16 = .ok (.if_icmp .eq 7, 3) := dk_159 0 7 (dk_at dksX24_moves_0 16 rfl rfl)
theorem dX24_moves_19 : decode cX24_moves 19 = .ok (.iconst 1, 1) := dk_4 (dk_at dksX24_moves_0 19 rfl rfl)
theorem dX24_moves_20 : decode cX24_moves 20 = .ok (.goto 4, 3) := dk_167 0 4 (dk_at dksX24_moves_0 20 rfl rfl)
theorem dX24_moves_23 : decode cX24_moves 23 = .ok (.iconst 0, 1) := dk_3 (dk_at dksX24_moves_0 23 rfl rfl)
theorem dX24_moves_24 : decode cX24_moves 24 = .ok (.ireturn, 1) := dk_172 (dk_at dksX24_moves_1 0 rfl rfl)
abbrev cX24_init : ByteArray := prog_12_method_1_code
def yX24_init : MethodName := ⟨RX24, "<init>", "(LFirstIn$Room;IILjava/util/ArrayList;Ljava/util/ArrayList;)V"⟩
def dkwX24_init_1 : List UInt8 := [181, 0, 19, 177]
abbrev dktX24_init_1 : List UInt8 := dkwX24_init_1 ++ []
def dkwX24_init_0 : List UInt8 := [42, 43, 25, 4, 25, 5, 183, 0, 3, 42, 18, 9, 181, 0, 10, 42, 28, 181, 0, 16, 42, 29]
abbrev dktX24_init_0 : List UInt8 := dkwX24_init_0 ++ dktX24_init_1
theorem dksX24_init_0 : cX24_init.data.toList.drop 0 = dktX24_init_0 := by decide +kernel
theorem dksX24_init_1 : cX24_init.data.toList.drop 22 = dktX24_init_1 := dk_seg dksX24_init_0 22 rfl rfl
theorem dX24_init_0 : decode cX24_init 0 = .ok (.aload_n 0, 1) := dk_42 (dk_at dksX24_init_0 0 rfl rfl)
theorem dX24_init_1 : decode cX24_init 1 = .ok (.aload_n 1, 1) := dk_43 (dk_at dksX24_init_0 1 rfl rfl)
theorem dX24_init_2 : decode cX24_init 2 = .ok (.aload 4, 2) := dk_25 4 (dk_at dksX24_init_0 2 rfl rfl)
theorem dX24_init_4 : decode cX24_init 4 = .ok (.aload 5, 2) := dk_25 5 (dk_at dksX24_init_0 4 rfl rfl)
theorem dX24_init_6 : decode cX24_init 6 = .ok (.invokespecial 3, 3) := dk_183 0 3 (dk_at dksX24_init_0 6 rfl rfl)
theorem dX24_init_9 : decode cX24_init 9 = .ok (.aload_n 0, 1) := dk_42 (dk_at dksX24_init_0 9 rfl rfl)
theorem dX24_init_10 : decode cX24_init 10 = .ok (.ldc 9, 2) := dk_18 9 (dk_at dksX24_init_0 10 rfl rfl)
theorem dX24_init_12 : decode cX24_init 12 = .ok (.putfield 10, 3) := dk_181 0 10 (dk_at dksX24_init_0 12 rfl rfl)
theorem dX24_init_15 : decode cX24_init 15 = .ok (.aload_n 0, 1) := dk_42 (dk_at dksX24_init_0 15 rfl rfl)
theorem dX24_init_16 : decode cX24_init 16 = .ok (.iload_n 2, 1) := dk_28 (dk_at dksX24_init_0 16 rfl rfl)
theorem dX24_init_17 : decode cX24_init 17 = .ok (.putfield 16, 3) := dk_181 0 16 (dk_at dksX24_init_0 17 rfl rfl)
theorem dX24_init_20 : decode cX24_init 20 = .ok (.aload_n 0, 1) := dk_42 (dk_at dksX24_init_0 20 rfl rfl)
theorem dX24_init_21 : decode cX24_init 21 = .ok (.iload_n 3, 1) := dk_29 (dk_at dksX24_init_0 21 rfl rfl)
theorem dX24_init_22 : decode cX24_init 22 = .ok (.putfield 19, 3) := dk_181 0 19 (dk_at dksX24_init_1 0 rfl rfl)
theorem dX24_init_25 : decode cX24_init 25 = .ok (.return_, 1) := dk_177 (dk_at dksX24_init_1 3 rfl rfl)
theorem q143 : (Jvm.Cond.initialized "FirstIn$Mended") ∈ lw_all := lw_g (lw_at lw_m1 42 rfl) rfl
theorem q543 : (Jvm.Cond.fieldLinkNest "FirstIn$Mended" (22 : Nat) "FirstIn$Guest" "sits" "Z" "FirstIn") ∈ lw_tbl := lw_at lw_m2 202 rfl
theorem q547 : (Jvm.Cond.fieldLinkNest "FirstIn$Mended" (28 : Nat) "FirstIn$Guest" "room" "I" "FirstIn") ∈ lw_tbl := lw_at lw_m2 206 rfl
theorem q550 : (Jvm.Cond.fieldLinkNest "FirstIn$Mended" (31 : Nat) "FirstIn$Guest" "place" "I" "FirstIn") ∈ lw_tbl := lw_at lw_m2 209 rfl
theorem q617 : (Jvm.Cond.selects "FirstIn$Mended" ({ cls := "java/lang/Object", name := "getClass", desc := "()Ljava/lang/Class;" } : Jvm.MethodName) ({ cls := "java/lang/Object", name := "getClass", desc := "()Ljava/lang/Class;" } : Jvm.MethodName)) ∈ lw_all := lw_g (lw_at lw_m3 36 rfl) rfl
theorem q1252 : (Jvm.Cond.sameField "FirstIn$Mended" "FirstIn$Search" "first" "[I") ∈ lw_all := lw_g (lw_at lw_m5 191 rfl) rfl
theorem q1289 : (Jvm.Cond.selects "FirstIn$Mended" ({ cls := "FirstIn$Search", name := "goesOn", desc := "(III)Z" } : Jvm.MethodName) ({ cls := "FirstIn$Mended", name := "goesOn", desc := "(III)Z" } : Jvm.MethodName)) ∈ lw_all := lw_g (lw_at lw_m5 228 rfl) rfl
theorem q1290 : (Jvm.Cond.instanceMethod ({ cls := "FirstIn$Mended", name := "goesOn", desc := "(III)Z" } : Jvm.MethodName)) ∈ lw_all := lw_g (lw_at lw_m5 229 rfl) rfl
theorem q1291 : (Jvm.Cond.code ({ cls := "FirstIn$Mended", name := "goesOn", desc := "(III)Z" } : Jvm.MethodName) prog_12_method_4_code (4 : Nat) (Option.some Jvm.ClassFile.FieldType.boolean)) ∈ lw_all := lw_g (lw_at lw_m5 230 rfl) rfl
theorem q1312 : (Jvm.Cond.selects "FirstIn$Mended" ({ cls := "FirstIn$Search", name := "found", desc := "(III)V" } : Jvm.MethodName) ({ cls := "FirstIn$Mended", name := "found", desc := "(III)V" } : Jvm.MethodName)) ∈ lw_all := lw_g (lw_at lw_m6 11 rfl) rfl
theorem q1313 : (Jvm.Cond.instanceMethod ({ cls := "FirstIn$Mended", name := "found", desc := "(III)V" } : Jvm.MethodName)) ∈ lw_all := lw_g (lw_at lw_m6 12 rfl) rfl
theorem q1314 : (Jvm.Cond.code ({ cls := "FirstIn$Mended", name := "found", desc := "(III)V" } : Jvm.MethodName) prog_12_method_5_code (4 : Nat) (Option.none : Option Jvm.ClassFile.FieldType)) ∈ lw_all := lw_g (lw_at lw_m6 13 rfl) rfl
theorem q1315 : (Jvm.Cond.methodLink "FirstIn$Mended" (34 : Nat) ({ cls := "FirstIn$Mended", name := "keeps", desc := "()V" } : Jvm.MethodName)) ∈ lw_all := lw_g (lw_at lw_m6 14 rfl) rfl
theorem q1316 : (Jvm.Cond.sameMethod "FirstIn$Mended" "FirstIn$Search" "keeps" "()V") ∈ lw_all := lw_g (lw_at lw_m6 15 rfl) rfl
theorem q1317 : (Jvm.Cond.selects "FirstIn$Mended" ({ cls := "FirstIn$Mended", name := "keeps", desc := "()V" } : Jvm.MethodName) ({ cls := "FirstIn$Search", name := "keeps", desc := "()V" } : Jvm.MethodName)) ∈ lw_all := lw_g (lw_at lw_m6 16 rfl) rfl
theorem q1330 : (Jvm.Cond.selects "FirstIn$Mended" ({ cls := "FirstIn$Search", name := "mayBe", desc := "(LFirstIn$Guest;I)Z" } : Jvm.MethodName) ({ cls := "FirstIn$Mended", name := "mayBe", desc := "(LFirstIn$Guest;I)Z" } : Jvm.MethodName)) ∈ lw_all := lw_g (lw_at lw_m6 29 rfl) rfl
theorem q1331 : (Jvm.Cond.instanceMethod ({ cls := "FirstIn$Mended", name := "mayBe", desc := "(LFirstIn$Guest;I)Z" } : Jvm.MethodName)) ∈ lw_all := lw_g (lw_at lw_m6 30 rfl) rfl
theorem q1332 : (Jvm.Cond.code ({ cls := "FirstIn$Mended", name := "mayBe", desc := "(LFirstIn$Guest;I)Z" } : Jvm.MethodName) prog_12_method_2_code (3 : Nat) (Option.some Jvm.ClassFile.FieldType.boolean)) ∈ lw_all := lw_g (lw_at lw_m6 31 rfl) rfl
theorem q1342 : (Jvm.Cond.selects "FirstIn$Mended" ({ cls := "FirstIn$Search", name := "moves", desc := "(LFirstIn$Guest;I)I" } : Jvm.MethodName) ({ cls := "FirstIn$Mended", name := "moves", desc := "(LFirstIn$Guest;I)I" } : Jvm.MethodName)) ∈ lw_all := lw_g (lw_at lw_m6 41 rfl) rfl
theorem q1343 : (Jvm.Cond.instanceMethod ({ cls := "FirstIn$Mended", name := "moves", desc := "(LFirstIn$Guest;I)I" } : Jvm.MethodName)) ∈ lw_all := lw_g (lw_at lw_m6 42 rfl) rfl
theorem q1344 : (Jvm.Cond.code ({ cls := "FirstIn$Mended", name := "moves", desc := "(LFirstIn$Guest;I)I" } : Jvm.MethodName) prog_12_method_3_code (3 : Nat) (Option.some Jvm.ClassFile.FieldType.int)) ∈ lw_all := lw_g (lw_at lw_m6 43 rfl) rfl
theorem q1397 : (Jvm.Cond.instantiable "FirstIn$Mended" (9 : Nat)) ∈ lw_all := lw_g (lw_at lw_m6 96 rfl) rfl
theorem q1399 : (Jvm.Cond.instanceMethod ({ cls := "FirstIn$Mended", name := "<init>", desc := "(LFirstIn$Room;IILjava/util/ArrayList;Ljava/util/ArrayList;)V" } : Jvm.MethodName)) ∈ lw_all := lw_g (lw_at lw_m6 98 rfl) rfl
theorem q1400 : (Jvm.Cond.code ({ cls := "FirstIn$Mended", name := "<init>", desc := "(LFirstIn$Room;IILjava/util/ArrayList;Ljava/util/ArrayList;)V" } : Jvm.MethodName) prog_12_method_1_code (6 : Nat) (Option.none : Option Jvm.ClassFile.FieldType)) ∈ lw_all := lw_g (lw_at lw_m6 99 rfl) rfl
theorem q1401 : (Jvm.Cond.methodLink "FirstIn$Mended" (3 : Nat) ({ cls := "FirstIn$Search", name := "<init>", desc := "(LFirstIn$Room;Ljava/util/ArrayList;Ljava/util/ArrayList;)V" } : Jvm.MethodName)) ∈ lw_all := lw_g (lw_at lw_m6 100 rfl) rfl
theorem q1402 : (Jvm.Cond.constant "FirstIn$Mended" (9 : Nat) (1000000 : Int32)) ∈ lw_all := lw_g (lw_at lw_m6 101 rfl) rfl
theorem q1403 : (Jvm.Cond.fieldLink "FirstIn$Mended" (16 : Nat) "FirstIn$Mended" "roomNumber" "I") ∈ lw_all := lw_g (lw_at lw_m6 102 rfl) rfl
theorem q1404 : (Jvm.Cond.fieldLink "FirstIn$Mended" (19 : Nat) "FirstIn$Mended" "limit" "I") ∈ lw_all := lw_g (lw_at lw_m6 103 rfl) rfl
theorem q1405 : (Jvm.Cond.fieldLink "FirstIn$Mended" (10 : Nat) "FirstIn$Mended" "fewest" "I") ∈ lw_all := lw_g (lw_at lw_m6 104 rfl) rfl
theorem q1407 : (Jvm.Cond.laysFinal "FirstIn$Mended" "FirstIn$Mended" "roomNumber" "I") ∈ lw_all := lw_g (lw_at lw_m6 106 rfl) rfl
theorem q1408 : (Jvm.Cond.soleField "FirstIn$Mended" "roomNumber") ∈ lw_all := lw_g (lw_at lw_m6 107 rfl) rfl
theorem q1409 : (Jvm.Cond.laysFinal "FirstIn$Mended" "FirstIn$Mended" "limit" "I") ∈ lw_all := lw_g (lw_at lw_m6 108 rfl) rfl
theorem q1410 : (Jvm.Cond.soleField "FirstIn$Mended" "limit") ∈ lw_all := lw_g (lw_at lw_m6 109 rfl) rfl
theorem q1411 : (Jvm.Cond.lays "FirstIn$Mended" "FirstIn$Mended" "fewest" "I") ∈ lw_all := lw_g (lw_at lw_m6 110 rfl) rfl
theorem q1412 : (Jvm.Cond.soleField "FirstIn$Mended" "fewest") ∈ lw_all := lw_g (lw_at lw_m6 111 rfl) rfl
theorem q1413 : (Jvm.Cond.laysFinal "FirstIn$Mended" "FirstIn$Search" "room" "LFirstIn$Room;") ∈ lw_all := lw_g (lw_at lw_m6 112 rfl) rfl
theorem q1414 : (Jvm.Cond.laysFinal "FirstIn$Mended" "FirstIn$Search" "bonds" "Ljava/util/ArrayList;") ∈ lw_all := lw_g (lw_at lw_m6 113 rfl) rfl
theorem q1415 : (Jvm.Cond.laysFinal "FirstIn$Mended" "FirstIn$Search" "guests" "Ljava/util/ArrayList;") ∈ lw_all := lw_g (lw_at lw_m6 114 rfl) rfl
theorem q1416 : (Jvm.Cond.laysFinal "FirstIn$Mended" "FirstIn$Search" "at" "[I") ∈ lw_all := lw_g (lw_at lw_m6 115 rfl) rfl
theorem q1417 : (Jvm.Cond.laysFinal "FirstIn$Mended" "FirstIn$Search" "first" "[I") ∈ lw_all := lw_g (lw_at lw_m6 116 rfl) rfl
theorem q1418 : (Jvm.Cond.lays "FirstIn$Mended" "FirstIn$Search" "taken" "I") ∈ lw_all := lw_g (lw_at lw_m6 117 rfl) rfl
theorem q1419 : (Jvm.Cond.superclass "FirstIn$Mended" "FirstIn$Search") ∈ lw_all := lw_g (lw_at lw_m6 118 rfl) rfl
theorem q1421 : (Jvm.Cond.sameMethod "FirstIn$Mended" "FirstIn$Search" "run" "()V") ∈ lw_all := lw_g (lw_at lw_m6 120 rfl) rfl
theorem q1422 : (Jvm.Cond.selects "FirstIn$Mended" ({ cls := "FirstIn$Mended", name := "run", desc := "()V" } : Jvm.MethodName) ({ cls := "FirstIn$Search", name := "run", desc := "()V" } : Jvm.MethodName)) ∈ lw_all := lw_g (lw_at lw_m6 121 rfl) rfl
theorem q2028 : (Jvm.Cond.castable "FirstIn$Mended" "java/lang/Object") ∈ lw_tbl := lw_at lw_m9 7 rfl
theorem in_X24 : ∀ w ∈ wsX240, w ∈ lw_all := lw_in wsX240 [1413, 1414, 1415, 1416, 1417, 1418, 1407, 1409, 1411] (by decide +kernel) (by decide +kernel)

/-! FirstIn$Fault -/
set_option maxRecDepth 100000
def RX3 : String := "FirstIn$Fault"
def TX3 : u_T := fun k => match k with
  | 0 => ("java/lang/Throwable", "cause", "Ljava/lang/Throwable;", false)
  | 1 => ("java/lang/Throwable", "stackTrace", "[Ljava/lang/StackTraceElement;", false)
  | 2 => ("java/lang/Throwable", "suppressedExceptions", "Ljava/util/List;", false)
  | 3 => ("java/lang/Throwable", "detailMessage", "Ljava/lang/String;", false)
  | 4 => ("java/lang/Throwable", "backtrace", "Ljava/lang/Object;", false)
  | 5 => ("java/lang/Throwable", "depth", "I", false)
  | _ => ("FirstIn$Fault", "place", "I", true)
def tyX3 : Nat → FieldType := fun k => match k with
  | 0 => .object "java/lang/Throwable"
  | 1 => .array (.object "java/lang/StackTraceElement")
  | 2 => .object "java/util/List"
  | 3 => .object "java/lang/String"
  | 4 => .object "java/lang/Object"
  | 5 => .int
  | _ => .int
abbrev wsX30 : List Cond := u_ws RX3 TX3 7
theorem nmX3 : ∀ a, a < 7 → ∀ b, b < 7 → a ≠ b → (TX3 a).2.1 ≠ (TX3 b).2.1 := by decide +kernel
theorem tyX3_ok : ∀ k, k < 7 → parseFieldDescriptor (TX3 k).2.2.1 = some (tyX3 k) := by decide +kernel
abbrev cX3_init : ByteArray := prog_8_method_1_code
def yX3_init : MethodName := ⟨RX3, "<init>", "(I)V"⟩
def dkwX3_init_0 : List UInt8 := [42, 1, 1, 3, 3, 183, 0, 1, 42, 27, 181, 0, 7, 177]
abbrev dktX3_init_0 : List UInt8 := dkwX3_init_0 ++ []
theorem dksX3_init_0 : cX3_init.data.toList.drop 0 = dktX3_init_0 := by decide +kernel
theorem dX3_init_0 : decode cX3_init 0 = .ok (.aload_n 0, 1) := dk_42 (dk_at dksX3_init_0 0 rfl rfl)
theorem dX3_init_1 : decode cX3_init 1 = .ok (.aconst_null, 1) := dk_1 (dk_at dksX3_init_0 1 rfl rfl)
theorem dX3_init_2 : decode cX3_init 2 = .ok (.aconst_null, 1) := dk_1 (dk_at dksX3_init_0 2 rfl rfl)
theorem dX3_init_3 : decode cX3_init 3 = .ok (.iconst 0, 1) := dk_3 (dk_at dksX3_init_0 3 rfl rfl)
theorem dX3_init_4 : decode cX3_init 4 = .ok (.iconst 0, 1) := dk_3 (dk_at dksX3_init_0 4 rfl rfl)
theorem dX3_init_5 : decode cX3_init 5 = .ok (.invokespecial 1, 3) := dk_183 0 1 (dk_at dksX3_init_0 5 rfl rfl)
theorem dX3_init_8 : decode cX3_init 8 = .ok (.aload_n 0, 1) := dk_42 (dk_at dksX3_init_0 8 rfl rfl)
theorem dX3_init_9 : decode cX3_init 9 = .ok (.iload_n 1, 1) := dk_27 (dk_at dksX3_init_0 9 rfl rfl)
theorem dX3_init_10 : decode cX3_init 10 = .ok (.putfield 7, 3) := dk_181 0 7 (dk_at dksX3_init_0 10 rfl rfl)
theorem dX3_init_13 : decode cX3_init 13 = .ok (.return_, 1) := dk_177 (dk_at dksX3_init_0 13 rfl rfl)
theorem q111 : (Jvm.Cond.initialized "FirstIn$Fault") ∈ lw_all := lw_g (lw_at lw_m1 10 rfl) rfl
theorem q299 : (Jvm.Cond.instantiable "FirstIn$Fault" (7 : Nat)) ∈ lw_all := lw_g (lw_at lw_m1 198 rfl) rfl
theorem q300 : (Jvm.Cond.castable "FirstIn$Fault" "FirstIn$Fault") ∈ lw_tbl := lw_at lw_m1 199 rfl
theorem q307 : (Jvm.Cond.selects "FirstIn$Fault" ({ cls := "java/lang/Throwable", name := "fillInStackTrace", desc := "(I)Ljava/lang/Throwable;" } : Jvm.MethodName) ({ cls := "java/lang/Throwable", name := "fillInStackTrace", desc := "(I)Ljava/lang/Throwable;" } : Jvm.MethodName)) ∈ lw_all := lw_g (lw_at lw_m1 206 rfl) rfl
theorem q308 : (Jvm.Cond.selects "FirstIn$Fault" ({ cls := "java/lang/Throwable", name := "fillInStackTrace", desc := "()Ljava/lang/Throwable;" } : Jvm.MethodName) ({ cls := "java/lang/Throwable", name := "fillInStackTrace", desc := "()Ljava/lang/Throwable;" } : Jvm.MethodName)) ∈ lw_all := lw_g (lw_at lw_m1 207 rfl) rfl
theorem q309 : (Jvm.Cond.lays "FirstIn$Fault" "java/lang/Throwable" "cause" "Ljava/lang/Throwable;") ∈ lw_all := lw_g (lw_at lw_m1 208 rfl) rfl
theorem q311 : (Jvm.Cond.lays "FirstIn$Fault" "java/lang/Throwable" "stackTrace" "[Ljava/lang/StackTraceElement;") ∈ lw_all := lw_g (lw_at lw_m1 210 rfl) rfl
theorem q313 : (Jvm.Cond.lays "FirstIn$Fault" "java/lang/Throwable" "suppressedExceptions" "Ljava/util/List;") ∈ lw_all := lw_g (lw_at lw_m1 212 rfl) rfl
theorem q315 : (Jvm.Cond.lays "FirstIn$Fault" "java/lang/Throwable" "detailMessage" "Ljava/lang/String;") ∈ lw_all := lw_g (lw_at lw_m1 214 rfl) rfl
theorem q317 : (Jvm.Cond.lays "FirstIn$Fault" "java/lang/Throwable" "backtrace" "Ljava/lang/Object;") ∈ lw_all := lw_g (lw_at lw_m1 216 rfl) rfl
theorem q338 : (Jvm.Cond.instanceMethod ({ cls := "FirstIn$Fault", name := "<init>", desc := "(I)V" } : Jvm.MethodName)) ∈ lw_all := lw_g (lw_at lw_m1 237 rfl) rfl
theorem q339 : (Jvm.Cond.code ({ cls := "FirstIn$Fault", name := "<init>", desc := "(I)V" } : Jvm.MethodName) prog_8_method_1_code (2 : Nat) (Option.none : Option Jvm.ClassFile.FieldType)) ∈ lw_all := lw_g (lw_at lw_m1 238 rfl) rfl
theorem q340 : (Jvm.Cond.methodLink "FirstIn$Fault" (1 : Nat) ({ cls := "java/lang/RuntimeException", name := "<init>", desc := "(Ljava/lang/String;Ljava/lang/Throwable;ZZ)V" } : Jvm.MethodName)) ∈ lw_all := lw_g (lw_at lw_m1 239 rfl) rfl
theorem q349 : (Jvm.Cond.fieldLink "FirstIn$Fault" (7 : Nat) "FirstIn$Fault" "place" "I") ∈ lw_all := lw_g (lw_at lw_m2 8 rfl) rfl
theorem q356 : (Jvm.Cond.laysFinal "FirstIn$Fault" "FirstIn$Fault" "place" "I") ∈ lw_all := lw_g (lw_at lw_m2 15 rfl) rfl
theorem q357 : (Jvm.Cond.soleField "FirstIn$Fault" "place") ∈ lw_all := lw_g (lw_at lw_m2 16 rfl) rfl
theorem q362 : (Jvm.Cond.lays "FirstIn$Fault" "java/lang/Throwable" "depth" "I") ∈ lw_all := lw_g (lw_at lw_m2 21 rfl) rfl
theorem q365 : (Jvm.Cond.superclass "FirstIn$Fault" "java/lang/RuntimeException") ∈ lw_all := lw_g (lw_at lw_m2 24 rfl) rfl
theorem q613 : (Jvm.Cond.selects "FirstIn$Fault" ({ cls := "java/lang/Object", name := "getClass", desc := "()Ljava/lang/Class;" } : Jvm.MethodName) ({ cls := "java/lang/Object", name := "getClass", desc := "()Ljava/lang/Class;" } : Jvm.MethodName)) ∈ lw_all := lw_g (lw_at lw_m3 32 rfl) rfl
theorem q2012 : (Jvm.Cond.castable "FirstIn$Fault" "java/lang/Object") ∈ lw_tbl := lw_at lw_m8 231 rfl
theorem in_X3 : ∀ w ∈ wsX30, w ∈ lw_all := lw_in wsX30 [309, 311, 313, 315, 317, 362, 356] (by decide +kernel) (by decide +kernel)

/-! FirstIn$Side -/
set_option maxRecDepth 100000
def RX4 : String := "FirstIn$Side"
abbrev cX4_isNamed : ByteArray := prog_21_method_4_code
def yX4_isNamed : MethodName := ⟨RX4, "isNamed", "([BII)Z"⟩
def dkwX4_isNamed_2 : List UInt8 := [51, 160, 0, 7, 4, 167, 0, 4, 3, 54, 4, 132, 5, 1, 167, 255, 215, 21, 4, 172]
abbrev dktX4_isNamed_2 : List UInt8 := dkwX4_isNamed_2 ++ []
def dkwX4_isNamed_1 : List UInt8 := [180, 0, 7, 190, 162, 0, 37, 21, 4, 153, 0, 32, 43, 28, 21, 5, 96, 51, 42, 180, 0, 7, 21, 5]
abbrev dktX4_isNamed_1 : List UInt8 := dkwX4_isNamed_1 ++ dktX4_isNamed_2
def dkwX4_isNamed_0 : List UInt8 := [29, 28, 100, 42, 180, 0, 7, 190, 160, 0, 7, 4, 167, 0, 4, 3, 54, 4, 3, 54, 5, 21, 5, 42]
abbrev dktX4_isNamed_0 : List UInt8 := dkwX4_isNamed_0 ++ dktX4_isNamed_1
theorem dksX4_isNamed_0 : cX4_isNamed.data.toList.drop 0 = dktX4_isNamed_0 := by decide +kernel
theorem dksX4_isNamed_1 : cX4_isNamed.data.toList.drop 24 = dktX4_isNamed_1 := dk_seg dksX4_isNamed_0 24 rfl rfl
theorem dksX4_isNamed_2 : cX4_isNamed.data.toList.drop 48 = dktX4_isNamed_2 := dk_seg dksX4_isNamed_1 24 rfl rfl
theorem dX4_isNamed_0 : decode cX4_isNamed 0 = .ok (.iload_n 3, 1) := dk_29 (dk_at dksX4_isNamed_0 0 rfl rfl)
theorem dX4_isNamed_1 : decode cX4_isNamed 1 = .ok (.iload_n 2, 1) := dk_28 (dk_at dksX4_isNamed_0 1 rfl rfl)
theorem dX4_isNamed_2 : decode cX4_isNamed 2 = .ok (.isub, 1) := dk_100 (dk_at dksX4_isNamed_0 2 rfl rfl)
theorem dX4_isNamed_3 : decode cX4_isNamed 3 = .ok (.aload_n 0, 1) := dk_42 (dk_at dksX4_isNamed_0 3 rfl rfl)
theorem dX4_isNamed_4 : decode cX4_isNamed 4 = .ok (.getfield 7, 3) := dk_180 0 7 (dk_at dksX4_isNamed_0 4 rfl rfl)
theorem dX4_isNamed_7 : decode cX4_isNamed 7 = .ok (.arraylength, 1) := dk_190 (dk_at dksX4_isNamed_0 7 rfl rfl)
theorem dX4_isNamed_8 : decode cX4_isNamed 8 = .ok (.if_icmp .ne 7, 3) := dk_160 0 7 (dk_at dksX4_isNamed_0 8 rfl rfl)
theorem dX4_isNamed_11 : decode cX4_isNamed 11 = .ok (.iconst 1, 1) := dk_4 (dk_at dksX4_isNamed_0 11 rfl rfl)
theorem dX4_isNamed_12 : decode cX4_isNamed 12 = .ok (.goto 4, 3) := dk_167 0 4 (dk_at dksX4_isNamed_0 12 rfl rfl)
theorem dX4_isNamed_15 : decode cX4_isNamed 15 = .ok (.iconst 0, 1) := dk_3 (dk_at dksX4_isNamed_0 15 rfl rfl)
theorem dX4_isNamed_16 : decode cX4_isNamed 16 = .ok (.istore 4, 2) := dk_54 4 (dk_at dksX4_isNamed_0 16 rfl rfl)
theorem dX4_isNamed_18 : decode cX4_isNamed 18 = .ok (.iconst 0, 1) := dk_3 (dk_at dksX4_isNamed_0 18 rfl rfl)
theorem dX4_isNamed_19 : decode cX4_isNamed 19 = .ok (.istore 5, 2) := dk_54 5 (dk_at dksX4_isNamed_0 19 rfl rfl)
theorem dX4_isNamed_21 : decode cX4_isNamed 21 = .ok (.iload 5, 2) := dk_21 5 (dk_at dksX4_isNamed_0 21 rfl rfl)
theorem dX4_isNamed_23 : decode cX4_isNamed 23 = .ok (.aload_n 0, 1) := dk_42 (dk_at dksX4_isNamed_0 23 rfl rfl)
theorem dX4_isNamed_24 : decode cX4_isNamed 24 = .ok (.getfield 7, 3) := dk_180 0 7 (dk_at dksX4_isNamed_1 0 rfl rfl)
theorem dX4_isNamed_27 : decode cX4_isNamed 27 = .ok (.arraylength, 1) := dk_190 (dk_at dksX4_isNamed_1 3 rfl rfl)
theorem dX4_isNamed_28 : decode cX4_isNamed 28 = .ok (.if_icmp .ge 37, 3) := dk_162 0 37 (dk_at dksX4_isNamed_1 4 rfl rfl)
theorem dX4_isNamed_31 : decode cX4_isNamed 31 = .ok (.iload 4, 2) := dk_21 4 (dk_at dksX4_isNamed_1 7 rfl rfl)
theorem dX4_isNamed_33 : decode cX4_isNamed 33 = .ok (.ifCond .eq 32, 3) := dk_153 0 32 (dk_at dksX4_isNamed_1 9 rfl rfl)
theorem dX4_isNamed_36 : decode cX4_isNamed 36 = .ok (.aload_n 1, 1) := dk_43 (dk_at dksX4_isNamed_1 12 rfl rfl)
theorem dX4_isNamed_37 : decode cX4_isNamed 37 = .ok (.iload_n 2, 1) := dk_28 (dk_at dksX4_isNamed_1 13 rfl rfl)
theorem dX4_isNamed_38 : decode cX4_isNamed 38 = .ok (.iload 5, 2) := dk_21 5 (dk_at dksX4_isNamed_1 14 rfl rfl)
theorem dX4_isNamed_40 : decode cX4_isNamed 40 = .ok (.iadd, 1) := dk_96 (dk_at dksX4_isNamed_1 16 rfl rfl)
theorem dX4_isNamed_41 : decode cX4_isNamed 41 = .ok (.baload, 1) := dk_51 (dk_at dksX4_isNamed_1 17 rfl rfl)
theorem dX4_isNamed_42 : decode cX4_isNamed 42 = .ok (.aload_n 0, 1) := dk_42 (dk_at dksX4_isNamed_1 18 rfl rfl)
theorem dX4_isNamed_43 : decode cX4_isNamed 43 = .ok (.getfield 7, 3) := dk_180 0 7 (dk_at dksX4_isNamed_1 19 rfl rfl)
theorem dX4_isNamed_46 : decode cX4_isNamed 46 = .ok (.iload 5, 2) := dk_21 5 (dk_at dksX4_isNamed_1 22 rfl rfl)
theorem dX4_isNamed_48 : decode cX4_isNamed 48 = .ok (.baload, 1) := dk_51 (dk_at dksX4_isNamed_2 0 rfl rfl)
theorem dX4_isNamed_49 : decode cX4_isNamed 49 = .ok (.if_icmp .ne 7, 3) := dk_160 0 7 (dk_at dksX4_isNamed_2 1 rfl rfl)
theorem dX4_isNamed_52 : decode cX4_isNamed 52 = .ok (.iconst 1, 1) := dk_4 (dk_at dksX4_isNamed_2 4 rfl rfl)
theorem dX4_isNamed_53 : decode cX4_isNamed 53 = .ok (.goto 4, 3) := dk_167 0 4 (dk_at dksX4_isNamed_2 5 rfl rfl)
theorem dX4_isNamed_56 : decode cX4_isNamed 56 = .ok (.iconst 0, 1) := dk_3 (dk_at dksX4_isNamed_2 8 rfl rfl)
theorem dX4_isNamed_57 : decode cX4_isNamed 57 = .ok (.istore 4, 2) := dk_54 4 (dk_at dksX4_isNamed_2 9 rfl rfl)
theorem dX4_isNamed_59 : decode cX4_isNamed 59 = .ok (.iinc 5 1, 3) := dk_132 5 1 (dk_at dksX4_isNamed_2 11 rfl rfl)
theorem dX4_isNamed_62 : decode cX4_isNamed 62 = .ok (.goto (-41), 3) := dk_167 255 215 (dk_at dksX4_isNamed_2 14 rfl rfl)
theorem dX4_isNamed_65 : decode cX4_isNamed 65 = .ok (.iload 4, 2) := dk_21 4 (dk_at dksX4_isNamed_2 17 rfl rfl)
theorem dX4_isNamed_67 : decode cX4_isNamed 67 = .ok (.ireturn, 1) := dk_172 (dk_at dksX4_isNamed_2 19 rfl rfl)
abbrev cX4_init : ByteArray := prog_21_method_1_code
def yX4_init : MethodName := ⟨RX4, "<init>", "([BI)V"⟩
def dkwX4_init_0 : List UInt8 := [42, 183, 0, 1, 42, 43, 181, 0, 7, 42, 28, 181, 0, 13, 177]
abbrev dktX4_init_0 : List UInt8 := dkwX4_init_0 ++ []
theorem dksX4_init_0 : cX4_init.data.toList.drop 0 = dktX4_init_0 := by decide +kernel
theorem dX4_init_0 : decode cX4_init 0 = .ok (.aload_n 0, 1) := dk_42 (dk_at dksX4_init_0 0 rfl rfl)
theorem dX4_init_1 : decode cX4_init 1 = .ok (.invokespecial 1, 3) := dk_183 0 1 (dk_at dksX4_init_0 1 rfl rfl)
theorem dX4_init_4 : decode cX4_init 4 = .ok (.aload_n 0, 1) := dk_42 (dk_at dksX4_init_0 4 rfl rfl)
theorem dX4_init_5 : decode cX4_init 5 = .ok (.aload_n 1, 1) := dk_43 (dk_at dksX4_init_0 5 rfl rfl)
theorem dX4_init_6 : decode cX4_init 6 = .ok (.putfield 7, 3) := dk_181 0 7 (dk_at dksX4_init_0 6 rfl rfl)
theorem dX4_init_9 : decode cX4_init 9 = .ok (.aload_n 0, 1) := dk_42 (dk_at dksX4_init_0 9 rfl rfl)
theorem dX4_init_10 : decode cX4_init 10 = .ok (.iload_n 2, 1) := dk_28 (dk_at dksX4_init_0 10 rfl rfl)
theorem dX4_init_11 : decode cX4_init 11 = .ok (.putfield 13, 3) := dk_181 0 13 (dk_at dksX4_init_0 11 rfl rfl)
theorem dX4_init_14 : decode cX4_init 14 = .ok (.return_, 1) := dk_177 (dk_at dksX4_init_0 14 rfl rfl)
theorem q118 : (Jvm.Cond.initialized "FirstIn$Side") ∈ lw_all := lw_g (lw_at lw_m1 17 rfl) rfl
theorem q519 : (Jvm.Cond.declares ({ cls := "FirstIn$Side", name := "isNamed", desc := "([BII)Z" } : Jvm.MethodName)) ∈ lw_tbl := lw_at lw_m2 178 rfl
theorem q521 : (Jvm.Cond.instanceMethod ({ cls := "FirstIn$Side", name := "isNamed", desc := "([BII)Z" } : Jvm.MethodName)) ∈ lw_all := lw_g (lw_at lw_m2 180 rfl) rfl
theorem q522 : (Jvm.Cond.code ({ cls := "FirstIn$Side", name := "isNamed", desc := "([BII)Z" } : Jvm.MethodName) prog_21_method_4_code (6 : Nat) (Option.some Jvm.ClassFile.FieldType.boolean)) ∈ lw_all := lw_g (lw_at lw_m2 181 rfl) rfl
theorem q538 : (Jvm.Cond.instanceMethod ({ cls := "FirstIn$Side", name := "<init>", desc := "([BI)V" } : Jvm.MethodName)) ∈ lw_all := lw_g (lw_at lw_m2 197 rfl) rfl
theorem q539 : (Jvm.Cond.code ({ cls := "FirstIn$Side", name := "<init>", desc := "([BI)V" } : Jvm.MethodName) prog_21_method_1_code (3 : Nat) (Option.none : Option Jvm.ClassFile.FieldType)) ∈ lw_all := lw_g (lw_at lw_m2 198 rfl) rfl
theorem q540 : (Jvm.Cond.methodLink "FirstIn$Side" (1 : Nat) ({ cls := "java/lang/Object", name := "<init>", desc := "()V" } : Jvm.MethodName)) ∈ lw_all := lw_g (lw_at lw_m2 199 rfl) rfl
theorem q552 : (Jvm.Cond.fieldLink "FirstIn$Side" (7 : Nat) "FirstIn$Side" "name" "[B") ∈ lw_all := lw_g (lw_at lw_m2 211 rfl) rfl
theorem q553 : (Jvm.Cond.fieldLink "FirstIn$Side" (13 : Nat) "FirstIn$Side" "number" "I") ∈ lw_all := lw_g (lw_at lw_m2 212 rfl) rfl
theorem q572 : (Jvm.Cond.soleField "FirstIn$Side" "name") ∈ lw_all := lw_g (lw_at lw_m2 231 rfl) rfl
theorem q574 : (Jvm.Cond.soleField "FirstIn$Side" "number") ∈ lw_all := lw_g (lw_at lw_m2 233 rfl) rfl
theorem q702 : (Jvm.Cond.declares ({ cls := "FirstIn$Side", name := "who", desc := "()I" } : Jvm.MethodName)) ∈ lw_tbl := lw_at lw_m3 121 rfl
theorem q703 : (Jvm.Cond.sameMethod "FirstIn$Side" "FirstIn$Side" "who" "()I") ∈ lw_all := lw_g (lw_at lw_m3 122 rfl) rfl
theorem q900 : (Jvm.Cond.declares ({ cls := "FirstIn$Side", name := "code", desc := "()I" } : Jvm.MethodName)) ∈ lw_tbl := lw_at lw_m4 79 rfl
theorem q901 : (Jvm.Cond.sameMethod "FirstIn$Side" "FirstIn$Side" "code" "()I") ∈ lw_all := lw_g (lw_at lw_m4 80 rfl) rfl

/-! FirstIn$Guest -/
set_option maxRecDepth 100000
def RX5 : String := "FirstIn$Guest"
def TX5 : u_T := fun k => match k with
  | 0 => ("FirstIn$Side", "name", "[B", true)
  | 1 => ("FirstIn$Side", "number", "I", true)
  | 2 => ("FirstIn$Guest", "comes", "Z", false)
  | 3 => ("FirstIn$Guest", "sits", "Z", false)
  | 4 => ("FirstIn$Guest", "room", "I", false)
  | _ => ("FirstIn$Guest", "place", "I", false)
def tyX5 : Nat → FieldType := fun k => match k with
  | 0 => .array .byte
  | 1 => .int
  | 2 => .boolean
  | 3 => .boolean
  | 4 => .int
  | _ => .int
abbrev wsX50 : List Cond := u_ws RX5 TX5 6
theorem nmX5 : ∀ a, a < 6 → ∀ b, b < 6 → a ≠ b → (TX5 a).2.1 ≠ (TX5 b).2.1 := by decide +kernel
theorem tyX5_ok : ∀ k, k < 6 → parseFieldDescriptor (TX5 k).2.2.1 = some (tyX5 k) := by decide +kernel
abbrev cX5_init : ByteArray := prog_9_method_1_code
def yX5_init : MethodName := ⟨RX5, "<init>", "([BI)V"⟩
def dkwX5_init_0 : List UInt8 := [42, 43, 28, 183, 0, 3, 42, 4, 181, 0, 9, 42, 2, 181, 0, 15, 42, 2, 181, 0, 19, 177]
abbrev dktX5_init_0 : List UInt8 := dkwX5_init_0 ++ []
theorem dksX5_init_0 : cX5_init.data.toList.drop 0 = dktX5_init_0 := by decide +kernel
theorem dX5_init_0 : decode cX5_init 0 = .ok (.aload_n 0, 1) := dk_42 (dk_at dksX5_init_0 0 rfl rfl)
theorem dX5_init_1 : decode cX5_init 1 = .ok (.aload_n 1, 1) := dk_43 (dk_at dksX5_init_0 1 rfl rfl)
theorem dX5_init_2 : decode cX5_init 2 = .ok (.iload_n 2, 1) := dk_28 (dk_at dksX5_init_0 2 rfl rfl)
theorem dX5_init_3 : decode cX5_init 3 = .ok (.invokespecial 3, 3) := dk_183 0 3 (dk_at dksX5_init_0 3 rfl rfl)
theorem dX5_init_6 : decode cX5_init 6 = .ok (.aload_n 0, 1) := dk_42 (dk_at dksX5_init_0 6 rfl rfl)
theorem dX5_init_7 : decode cX5_init 7 = .ok (.iconst 1, 1) := dk_4 (dk_at dksX5_init_0 7 rfl rfl)
theorem dX5_init_8 : decode cX5_init 8 = .ok (.putfield 9, 3) := dk_181 0 9 (dk_at dksX5_init_0 8 rfl rfl)
theorem dX5_init_11 : decode cX5_init 11 = .ok (.aload_n 0, 1) := dk_42 (dk_at dksX5_init_0 11 rfl rfl)
theorem dX5_init_12 : decode cX5_init 12 = .ok (.iconst (-1), 1) := dk_2 (dk_at dksX5_init_0 12 rfl rfl)
theorem dX5_init_13 : decode cX5_init 13 = .ok (.putfield 15, 3) := dk_181 0 15 (dk_at dksX5_init_0 13 rfl rfl)
theorem dX5_init_16 : decode cX5_init 16 = .ok (.aload_n 0, 1) := dk_42 (dk_at dksX5_init_0 16 rfl rfl)
theorem dX5_init_17 : decode cX5_init 17 = .ok (.iconst (-1), 1) := dk_2 (dk_at dksX5_init_0 17 rfl rfl)
theorem dX5_init_18 : decode cX5_init 18 = .ok (.putfield 19, 3) := dk_181 0 19 (dk_at dksX5_init_0 18 rfl rfl)
theorem dX5_init_21 : decode cX5_init 21 = .ok (.return_, 1) := dk_177 (dk_at dksX5_init_0 21 rfl rfl)
abbrev cX5_who : ByteArray := prog_9_method_2_code
def yX5_who : MethodName := ⟨RX5, "who", "()I"⟩
def dkwX5_who_0 : List UInt8 := [4, 42, 180, 0, 22, 120, 172]
abbrev dktX5_who_0 : List UInt8 := dkwX5_who_0 ++ []
theorem dksX5_who_0 : cX5_who.data.toList.drop 0 = dktX5_who_0 := by decide +kernel
theorem dX5_who_0 : decode cX5_who 0 = .ok (.iconst 1, 1) := dk_4 (dk_at dksX5_who_0 0 rfl rfl)
theorem dX5_who_1 : decode cX5_who 1 = .ok (.aload_n 0, 1) := dk_42 (dk_at dksX5_who_0 1 rfl rfl)
theorem dX5_who_2 : decode cX5_who 2 = .ok (.getfield 22, 3) := dk_180 0 22 (dk_at dksX5_who_0 2 rfl rfl)
theorem dX5_who_5 : decode cX5_who 5 = .ok (.ishl, 1) := dk_120 (dk_at dksX5_who_0 5 rfl rfl)
theorem dX5_who_6 : decode cX5_who 6 = .ok (.ireturn, 1) := dk_172 (dk_at dksX5_who_0 6 rfl rfl)
abbrev cX5_code : ByteArray := prog_9_method_3_code
def yX5_code : MethodName := ⟨RX5, "code", "()I"⟩
theorem dX5_code_0 : decode cX5_code 0 = .ok (.aload_n 0, 1) := by decide +kernel
theorem dX5_code_1 : decode cX5_code 1 = .ok (.getfield 22, 3) := by decide +kernel
theorem dX5_code_4 : decode cX5_code 4 = .ok (.ireturn, 1) := by decide +kernel
abbrev cX5_goes : ByteArray := prog_9_method_4_code
def yX5_goes : MethodName := ⟨RX5, "goes", "()V"⟩
def dkwX5_goes_0 : List UInt8 := [42, 2, 181, 0, 15, 42, 2, 181, 0, 19, 42, 3, 181, 0, 25, 177]
abbrev dktX5_goes_0 : List UInt8 := dkwX5_goes_0 ++ []
theorem dksX5_goes_0 : cX5_goes.data.toList.drop 0 = dktX5_goes_0 := by decide +kernel
theorem dX5_goes_0 : decode cX5_goes 0 = .ok (.aload_n 0, 1) := dk_42 (dk_at dksX5_goes_0 0 rfl rfl)
theorem dX5_goes_1 : decode cX5_goes 1 = .ok (.iconst (-1), 1) := dk_2 (dk_at dksX5_goes_0 1 rfl rfl)
theorem dX5_goes_2 : decode cX5_goes 2 = .ok (.putfield 15, 3) := dk_181 0 15 (dk_at dksX5_goes_0 2 rfl rfl)
theorem dX5_goes_5 : decode cX5_goes 5 = .ok (.aload_n 0, 1) := dk_42 (dk_at dksX5_goes_0 5 rfl rfl)
theorem dX5_goes_6 : decode cX5_goes 6 = .ok (.iconst (-1), 1) := dk_2 (dk_at dksX5_goes_0 6 rfl rfl)
theorem dX5_goes_7 : decode cX5_goes 7 = .ok (.putfield 19, 3) := dk_181 0 19 (dk_at dksX5_goes_0 7 rfl rfl)
theorem dX5_goes_10 : decode cX5_goes 10 = .ok (.aload_n 0, 1) := dk_42 (dk_at dksX5_goes_0 10 rfl rfl)
theorem dX5_goes_11 : decode cX5_goes 11 = .ok (.iconst 0, 1) := dk_3 (dk_at dksX5_goes_0 11 rfl rfl)
theorem dX5_goes_12 : decode cX5_goes 12 = .ok (.putfield 25, 3) := dk_181 0 25 (dk_at dksX5_goes_0 12 rfl rfl)
theorem dX5_goes_15 : decode cX5_goes 15 = .ok (.return_, 1) := dk_177 (dk_at dksX5_goes_0 15 rfl rfl)
theorem q119 : (Jvm.Cond.initialized "FirstIn$Guest") ∈ lw_all := lw_g (lw_at lw_m1 18 rfl) rfl
theorem q492 : (Jvm.Cond.instantiable "FirstIn$Guest" (6 : Nat)) ∈ lw_all := lw_g (lw_at lw_m2 151 rfl) rfl
theorem q518 : (Jvm.Cond.sameMethod "FirstIn$Guest" "FirstIn$Side" "isNamed" "([BII)Z") ∈ lw_all := lw_g (lw_at lw_m2 177 rfl) rfl
theorem q520 : (Jvm.Cond.selects "FirstIn$Guest" ({ cls := "FirstIn$Guest", name := "isNamed", desc := "([BII)Z" } : Jvm.MethodName) ({ cls := "FirstIn$Side", name := "isNamed", desc := "([BII)Z" } : Jvm.MethodName)) ∈ lw_all := lw_g (lw_at lw_m2 179 rfl) rfl
theorem q535 : (Jvm.Cond.instanceMethod ({ cls := "FirstIn$Guest", name := "<init>", desc := "([BI)V" } : Jvm.MethodName)) ∈ lw_all := lw_g (lw_at lw_m2 194 rfl) rfl
theorem q536 : (Jvm.Cond.code ({ cls := "FirstIn$Guest", name := "<init>", desc := "([BI)V" } : Jvm.MethodName) prog_9_method_1_code (3 : Nat) (Option.none : Option Jvm.ClassFile.FieldType)) ∈ lw_all := lw_g (lw_at lw_m2 195 rfl) rfl
theorem q537 : (Jvm.Cond.methodLink "FirstIn$Guest" (3 : Nat) ({ cls := "FirstIn$Side", name := "<init>", desc := "([BI)V" } : Jvm.MethodName)) ∈ lw_all := lw_g (lw_at lw_m2 196 rfl) rfl
theorem q541 : (Jvm.Cond.fieldLink "FirstIn$Guest" (9 : Nat) "FirstIn$Guest" "comes" "Z") ∈ lw_all := lw_g (lw_at lw_m2 200 rfl) rfl
theorem q544 : (Jvm.Cond.fieldLink "FirstIn$Guest" (25 : Nat) "FirstIn$Guest" "sits" "Z") ∈ lw_all := lw_g (lw_at lw_m2 203 rfl) rfl
theorem q546 : (Jvm.Cond.fieldLink "FirstIn$Guest" (15 : Nat) "FirstIn$Guest" "room" "I") ∈ lw_all := lw_g (lw_at lw_m2 205 rfl) rfl
theorem q549 : (Jvm.Cond.fieldLink "FirstIn$Guest" (19 : Nat) "FirstIn$Guest" "place" "I") ∈ lw_all := lw_g (lw_at lw_m2 208 rfl) rfl
theorem q554 : (Jvm.Cond.fieldLink "FirstIn$Guest" (22 : Nat) "FirstIn$Guest" "number" "I") ∈ lw_all := lw_g (lw_at lw_m2 213 rfl) rfl
theorem q555 : (Jvm.Cond.sameField "FirstIn$Guest" "FirstIn$Side" "number" "I") ∈ lw_all := lw_g (lw_at lw_m2 214 rfl) rfl
theorem q563 : (Jvm.Cond.lays "FirstIn$Guest" "FirstIn$Guest" "comes" "Z") ∈ lw_all := lw_g (lw_at lw_m2 222 rfl) rfl
theorem q564 : (Jvm.Cond.soleField "FirstIn$Guest" "comes") ∈ lw_all := lw_g (lw_at lw_m2 223 rfl) rfl
theorem q565 : (Jvm.Cond.lays "FirstIn$Guest" "FirstIn$Guest" "sits" "Z") ∈ lw_all := lw_g (lw_at lw_m2 224 rfl) rfl
theorem q566 : (Jvm.Cond.soleField "FirstIn$Guest" "sits") ∈ lw_all := lw_g (lw_at lw_m2 225 rfl) rfl
theorem q567 : (Jvm.Cond.lays "FirstIn$Guest" "FirstIn$Guest" "room" "I") ∈ lw_all := lw_g (lw_at lw_m2 226 rfl) rfl
theorem q568 : (Jvm.Cond.soleField "FirstIn$Guest" "room") ∈ lw_all := lw_g (lw_at lw_m2 227 rfl) rfl
theorem q569 : (Jvm.Cond.lays "FirstIn$Guest" "FirstIn$Guest" "place" "I") ∈ lw_all := lw_g (lw_at lw_m2 228 rfl) rfl
theorem q570 : (Jvm.Cond.soleField "FirstIn$Guest" "place") ∈ lw_all := lw_g (lw_at lw_m2 229 rfl) rfl
theorem q571 : (Jvm.Cond.laysFinal "FirstIn$Guest" "FirstIn$Side" "name" "[B") ∈ lw_all := lw_g (lw_at lw_m2 230 rfl) rfl
theorem q573 : (Jvm.Cond.laysFinal "FirstIn$Guest" "FirstIn$Side" "number" "I") ∈ lw_all := lw_g (lw_at lw_m2 232 rfl) rfl
theorem q575 : (Jvm.Cond.superclass "FirstIn$Guest" "FirstIn$Side") ∈ lw_all := lw_g (lw_at lw_m2 234 rfl) rfl
theorem q614 : (Jvm.Cond.selects "FirstIn$Guest" ({ cls := "java/lang/Object", name := "getClass", desc := "()Ljava/lang/Class;" } : Jvm.MethodName) ({ cls := "java/lang/Object", name := "getClass", desc := "()Ljava/lang/Class;" } : Jvm.MethodName)) ∈ lw_all := lw_g (lw_at lw_m3 33 rfl) rfl
theorem q704 : (Jvm.Cond.selects "FirstIn$Guest" ({ cls := "FirstIn$Side", name := "who", desc := "()I" } : Jvm.MethodName) ({ cls := "FirstIn$Guest", name := "who", desc := "()I" } : Jvm.MethodName)) ∈ lw_all := lw_g (lw_at lw_m3 123 rfl) rfl
theorem q705 : (Jvm.Cond.instanceMethod ({ cls := "FirstIn$Guest", name := "who", desc := "()I" } : Jvm.MethodName)) ∈ lw_all := lw_g (lw_at lw_m3 124 rfl) rfl
theorem q706 : (Jvm.Cond.code ({ cls := "FirstIn$Guest", name := "who", desc := "()I" } : Jvm.MethodName) prog_9_method_2_code (1 : Nat) (Option.some Jvm.ClassFile.FieldType.int)) ∈ lw_all := lw_g (lw_at lw_m3 125 rfl) rfl
theorem q902 : (Jvm.Cond.selects "FirstIn$Guest" ({ cls := "FirstIn$Side", name := "code", desc := "()I" } : Jvm.MethodName) ({ cls := "FirstIn$Guest", name := "code", desc := "()I" } : Jvm.MethodName)) ∈ lw_all := lw_g (lw_at lw_m4 81 rfl) rfl
theorem q903 : (Jvm.Cond.instanceMethod ({ cls := "FirstIn$Guest", name := "code", desc := "()I" } : Jvm.MethodName)) ∈ lw_all := lw_g (lw_at lw_m4 82 rfl) rfl
theorem q904 : (Jvm.Cond.code ({ cls := "FirstIn$Guest", name := "code", desc := "()I" } : Jvm.MethodName) prog_9_method_3_code (1 : Nat) (Option.some Jvm.ClassFile.FieldType.int)) ∈ lw_all := lw_g (lw_at lw_m4 83 rfl) rfl
theorem q917 : (Jvm.Cond.instanceMethod ({ cls := "FirstIn$Guest", name := "goes", desc := "()V" } : Jvm.MethodName)) ∈ lw_all := lw_g (lw_at lw_m4 96 rfl) rfl
theorem q918 : (Jvm.Cond.selects "FirstIn$Guest" ({ cls := "FirstIn$Guest", name := "goes", desc := "()V" } : Jvm.MethodName) ({ cls := "FirstIn$Guest", name := "goes", desc := "()V" } : Jvm.MethodName)) ∈ lw_all := lw_g (lw_at lw_m4 97 rfl) rfl
theorem q919 : (Jvm.Cond.code ({ cls := "FirstIn$Guest", name := "goes", desc := "()V" } : Jvm.MethodName) prog_9_method_4_code (1 : Nat) (Option.none : Option Jvm.ClassFile.FieldType)) ∈ lw_all := lw_g (lw_at lw_m4 98 rfl) rfl
theorem q2013 : (Jvm.Cond.castable "FirstIn$Guest" "java/lang/Object") ∈ lw_tbl := lw_at lw_m8 232 rfl
theorem in_X5 : ∀ w ∈ wsX50, w ∈ lw_all := lw_in wsX50 [571, 573, 563, 565, 567, 569] (by decide +kernel) (by decide +kernel)

/-! FirstIn$Mark -/
set_option maxRecDepth 100000
def RX6 : String := "FirstIn$Mark"
def TX6 : u_T := fun k => match k with
  | 0 => ("FirstIn$Side", "name", "[B", true)
  | 1 => ("FirstIn$Side", "number", "I", true)
  | _ => ("FirstIn$Mark", "guests", "I", false)
def tyX6 : Nat → FieldType := fun k => match k with
  | 0 => .array .byte
  | 1 => .int
  | _ => .int
abbrev wsX60 : List Cond := u_ws RX6 TX6 3
theorem nmX6 : ∀ a, a < 3 → ∀ b, b < 3 → a ≠ b → (TX6 a).2.1 ≠ (TX6 b).2.1 := by decide +kernel
theorem tyX6_ok : ∀ k, k < 3 → parseFieldDescriptor (TX6 k).2.2.1 = some (tyX6 k) := by decide +kernel
abbrev cX6_init : ByteArray := prog_11_method_1_code
def yX6_init : MethodName := ⟨RX6, "<init>", "([BI)V"⟩
def dkwX6_init_0 : List UInt8 := [42, 43, 28, 183, 0, 3, 177]
abbrev dktX6_init_0 : List UInt8 := dkwX6_init_0 ++ []
theorem dksX6_init_0 : cX6_init.data.toList.drop 0 = dktX6_init_0 := by decide +kernel
theorem dX6_init_0 : decode cX6_init 0 = .ok (.aload_n 0, 1) := dk_42 (dk_at dksX6_init_0 0 rfl rfl)
theorem dX6_init_1 : decode cX6_init 1 = .ok (.aload_n 1, 1) := dk_43 (dk_at dksX6_init_0 1 rfl rfl)
theorem dX6_init_2 : decode cX6_init 2 = .ok (.iload_n 2, 1) := dk_28 (dk_at dksX6_init_0 2 rfl rfl)
theorem dX6_init_3 : decode cX6_init 3 = .ok (.invokespecial 3, 3) := dk_183 0 3 (dk_at dksX6_init_0 3 rfl rfl)
theorem dX6_init_6 : decode cX6_init 6 = .ok (.return_, 1) := dk_177 (dk_at dksX6_init_0 6 rfl rfl)
abbrev cX6_who : ByteArray := prog_11_method_2_code
def yX6_who : MethodName := ⟨RX6, "who", "()I"⟩
theorem dX6_who_0 : decode cX6_who 0 = .ok (.aload_n 0, 1) := by decide +kernel
theorem dX6_who_1 : decode cX6_who 1 = .ok (.getfield 9, 3) := by decide +kernel
theorem dX6_who_4 : decode cX6_who 4 = .ok (.ireturn, 1) := by decide +kernel
abbrev cX6_code : ByteArray := prog_11_method_3_code
def yX6_code : MethodName := ⟨RX6, "code", "()I"⟩
def dkwX6_code_0 : List UInt8 := [16, 100, 42, 180, 0, 15, 96, 172]
abbrev dktX6_code_0 : List UInt8 := dkwX6_code_0 ++ []
theorem dksX6_code_0 : cX6_code.data.toList.drop 0 = dktX6_code_0 := by decide +kernel
theorem dX6_code_0 : decode cX6_code 0 = .ok (.bipush 100, 2) := dk_16 100 (dk_at dksX6_code_0 0 rfl rfl)
theorem dX6_code_2 : decode cX6_code 2 = .ok (.aload_n 0, 1) := dk_42 (dk_at dksX6_code_0 2 rfl rfl)
theorem dX6_code_3 : decode cX6_code 3 = .ok (.getfield 15, 3) := dk_180 0 15 (dk_at dksX6_code_0 3 rfl rfl)
theorem dX6_code_6 : decode cX6_code 6 = .ok (.iadd, 1) := dk_96 (dk_at dksX6_code_0 6 rfl rfl)
theorem dX6_code_7 : decode cX6_code 7 = .ok (.ireturn, 1) := dk_172 (dk_at dksX6_code_0 7 rfl rfl)
theorem q124 : (Jvm.Cond.initialized "FirstIn$Mark") ∈ lw_all := lw_g (lw_at lw_m1 23 rfl) rfl
theorem q529 : (Jvm.Cond.sameMethod "FirstIn$Mark" "FirstIn$Side" "isNamed" "([BII)Z") ∈ lw_all := lw_g (lw_at lw_m2 188 rfl) rfl
theorem q530 : (Jvm.Cond.selects "FirstIn$Mark" ({ cls := "FirstIn$Mark", name := "isNamed", desc := "([BII)Z" } : Jvm.MethodName) ({ cls := "FirstIn$Side", name := "isNamed", desc := "([BII)Z" } : Jvm.MethodName)) ∈ lw_all := lw_g (lw_at lw_m2 189 rfl) rfl
theorem q556 : (Jvm.Cond.fieldLink "FirstIn$Mark" (15 : Nat) "FirstIn$Mark" "number" "I") ∈ lw_all := lw_g (lw_at lw_m2 215 rfl) rfl
theorem q557 : (Jvm.Cond.sameField "FirstIn$Mark" "FirstIn$Side" "number" "I") ∈ lw_all := lw_g (lw_at lw_m2 216 rfl) rfl
theorem q616 : (Jvm.Cond.selects "FirstIn$Mark" ({ cls := "java/lang/Object", name := "getClass", desc := "()Ljava/lang/Class;" } : Jvm.MethodName) ({ cls := "java/lang/Object", name := "getClass", desc := "()Ljava/lang/Class;" } : Jvm.MethodName)) ∈ lw_all := lw_g (lw_at lw_m3 35 rfl) rfl
theorem q642 : (Jvm.Cond.instantiable "FirstIn$Mark" (3 : Nat)) ∈ lw_all := lw_g (lw_at lw_m3 61 rfl) rfl
theorem q644 : (Jvm.Cond.instanceMethod ({ cls := "FirstIn$Mark", name := "<init>", desc := "([BI)V" } : Jvm.MethodName)) ∈ lw_all := lw_g (lw_at lw_m3 63 rfl) rfl
theorem q645 : (Jvm.Cond.code ({ cls := "FirstIn$Mark", name := "<init>", desc := "([BI)V" } : Jvm.MethodName) prog_11_method_1_code (3 : Nat) (Option.none : Option Jvm.ClassFile.FieldType)) ∈ lw_all := lw_g (lw_at lw_m3 64 rfl) rfl
theorem q646 : (Jvm.Cond.methodLink "FirstIn$Mark" (3 : Nat) ({ cls := "FirstIn$Side", name := "<init>", desc := "([BI)V" } : Jvm.MethodName)) ∈ lw_all := lw_g (lw_at lw_m3 65 rfl) rfl
theorem q647 : (Jvm.Cond.fieldLink "FirstIn$Mark" (9 : Nat) "FirstIn$Mark" "guests" "I") ∈ lw_all := lw_g (lw_at lw_m3 66 rfl) rfl
theorem q650 : (Jvm.Cond.lays "FirstIn$Mark" "FirstIn$Mark" "guests" "I") ∈ lw_all := lw_g (lw_at lw_m3 69 rfl) rfl
theorem q651 : (Jvm.Cond.soleField "FirstIn$Mark" "guests") ∈ lw_all := lw_g (lw_at lw_m3 70 rfl) rfl
theorem q652 : (Jvm.Cond.laysFinal "FirstIn$Mark" "FirstIn$Side" "name" "[B") ∈ lw_all := lw_g (lw_at lw_m3 71 rfl) rfl
theorem q653 : (Jvm.Cond.laysFinal "FirstIn$Mark" "FirstIn$Side" "number" "I") ∈ lw_all := lw_g (lw_at lw_m3 72 rfl) rfl
theorem q654 : (Jvm.Cond.superclass "FirstIn$Mark" "FirstIn$Side") ∈ lw_all := lw_g (lw_at lw_m3 73 rfl) rfl
theorem q707 : (Jvm.Cond.selects "FirstIn$Mark" ({ cls := "FirstIn$Side", name := "who", desc := "()I" } : Jvm.MethodName) ({ cls := "FirstIn$Mark", name := "who", desc := "()I" } : Jvm.MethodName)) ∈ lw_all := lw_g (lw_at lw_m3 126 rfl) rfl
theorem q708 : (Jvm.Cond.instanceMethod ({ cls := "FirstIn$Mark", name := "who", desc := "()I" } : Jvm.MethodName)) ∈ lw_all := lw_g (lw_at lw_m3 127 rfl) rfl
theorem q709 : (Jvm.Cond.code ({ cls := "FirstIn$Mark", name := "who", desc := "()I" } : Jvm.MethodName) prog_11_method_2_code (1 : Nat) (Option.some Jvm.ClassFile.FieldType.int)) ∈ lw_all := lw_g (lw_at lw_m3 128 rfl) rfl
theorem q905 : (Jvm.Cond.selects "FirstIn$Mark" ({ cls := "FirstIn$Side", name := "code", desc := "()I" } : Jvm.MethodName) ({ cls := "FirstIn$Mark", name := "code", desc := "()I" } : Jvm.MethodName)) ∈ lw_all := lw_g (lw_at lw_m4 84 rfl) rfl
theorem q906 : (Jvm.Cond.instanceMethod ({ cls := "FirstIn$Mark", name := "code", desc := "()I" } : Jvm.MethodName)) ∈ lw_all := lw_g (lw_at lw_m4 85 rfl) rfl
theorem q907 : (Jvm.Cond.code ({ cls := "FirstIn$Mark", name := "code", desc := "()I" } : Jvm.MethodName) prog_11_method_3_code (1 : Nat) (Option.some Jvm.ClassFile.FieldType.int)) ∈ lw_all := lw_g (lw_at lw_m4 86 rfl) rfl
theorem q1993 : (Jvm.Cond.selects "FirstIn$Mark" ({ cls := "FirstIn$Mark", name := "who", desc := "()I" } : Jvm.MethodName) ({ cls := "FirstIn$Mark", name := "who", desc := "()I" } : Jvm.MethodName)) ∈ lw_all := lw_g (lw_at lw_m8 212 rfl) rfl
theorem q2014 : (Jvm.Cond.castable "FirstIn$Mark" "java/lang/Object") ∈ lw_tbl := lw_at lw_m8 233 rfl
theorem in_X6 : ∀ w ∈ wsX60, w ∈ lw_all := lw_in wsX60 [652, 653, 650] (by decide +kernel) (by decide +kernel)

/-! FirstIn$Rule -/
set_option maxRecDepth 100000
def RX7 : String := "FirstIn$Rule"
abbrev cX7_init : ByteArray := prog_19_method_1_code
def yX7_init : MethodName := ⟨RX7, "<init>", "(LFirstIn$Side;LFirstIn$Side;IILFirstIn$Mark;)V"⟩
def dkwX7_init_4 : List UInt8 := [87, 132, 7, 1, 167, 255, 216, 132, 6, 1, 167, 255, 200, 177]
abbrev dktX7_init_4 : List UInt8 := dkwX7_init_4 ++ []
def dkwX7_init_3 : List UInt8 := [182, 0, 36, 153, 0, 22, 42, 180, 0, 12, 187, 0, 40, 89, 21, 6, 21, 7, 183, 0, 42, 182, 0, 45]
abbrev dktX7_init_3 : List UInt8 := dkwX7_init_3 ++ dktX7_init_4
def dkwX7_init_2 : List UInt8 := [21, 6, 16, 10, 162, 0, 55, 3, 54, 7, 21, 7, 16, 10, 162, 0, 39, 42, 21, 6, 21, 7]
abbrev dktX7_init_2 : List UInt8 := dkwX7_init_2 ++ dktX7_init_3
def dkwX7_init_1 : List UInt8 := [181, 0, 22, 42, 29, 181, 0, 25, 42, 21, 4, 181, 0, 29, 42, 25, 5, 181, 0, 32, 3, 54, 6]
abbrev dktX7_init_1 : List UInt8 := dkwX7_init_1 ++ dktX7_init_2
def dkwX7_init_0 : List UInt8 := [42, 183, 0, 3, 42, 187, 0, 9, 89, 183, 0, 11, 181, 0, 12, 42, 43, 181, 0, 18, 42, 44]
abbrev dktX7_init_0 : List UInt8 := dkwX7_init_0 ++ dktX7_init_1
theorem dksX7_init_0 : cX7_init.data.toList.drop 0 = dktX7_init_0 := by decide +kernel
theorem dksX7_init_1 : cX7_init.data.toList.drop 22 = dktX7_init_1 := dk_seg dksX7_init_0 22 rfl rfl
theorem dksX7_init_2 : cX7_init.data.toList.drop 45 = dktX7_init_2 := dk_seg dksX7_init_1 23 rfl rfl
theorem dksX7_init_3 : cX7_init.data.toList.drop 67 = dktX7_init_3 := dk_seg dksX7_init_2 22 rfl rfl
theorem dksX7_init_4 : cX7_init.data.toList.drop 91 = dktX7_init_4 := dk_seg dksX7_init_3 24 rfl rfl
theorem dX7_init_0 : decode cX7_init 0 = .ok (.aload_n 0, 1) := dk_42 (dk_at dksX7_init_0 0 rfl rfl)
theorem dX7_init_1 : decode cX7_init 1 = .ok (.invokespecial 3, 3) := dk_183 0 3 (dk_at dksX7_init_0 1 rfl rfl)
theorem dX7_init_4 : decode cX7_init 4 = .ok (.aload_n 0, 1) := dk_42 (dk_at dksX7_init_0 4 rfl rfl)
theorem dX7_init_5 : decode cX7_init 5 = .ok (.new 9, 3) := dk_187 0 9 (dk_at dksX7_init_0 5 rfl rfl)
theorem dX7_init_8 : decode cX7_init 8 = .ok (.dup, 1) := dk_89 (dk_at dksX7_init_0 8 rfl rfl)
theorem dX7_init_9 : decode cX7_init 9 = .ok (.invokespecial 11, 3) := dk_183 0 11 (dk_at dksX7_init_0 9 rfl rfl)
theorem dX7_init_12 : decode cX7_init 12 = .ok (.putfield 12, 3) := dk_181 0 12 (dk_at dksX7_init_0 12 rfl rfl)
theorem dX7_init_15 : decode cX7_init 15 = .ok (.aload_n 0, 1) := dk_42 (dk_at dksX7_init_0 15 rfl rfl)
theorem dX7_init_16 : decode cX7_init 16 = .ok (.aload_n 1, 1) := dk_43 (dk_at dksX7_init_0 16 rfl rfl)
theorem dX7_init_17 : decode cX7_init 17 = .ok (.putfield 18, 3) := dk_181 0 18 (dk_at dksX7_init_0 17 rfl rfl)
theorem dX7_init_20 : decode cX7_init 20 = .ok (.aload_n 0, 1) := dk_42 (dk_at dksX7_init_0 20 rfl rfl)
theorem dX7_init_21 : decode cX7_init 21 = .ok (.aload_n 2, 1) := dk_44 (dk_at dksX7_init_0 21 rfl rfl)
theorem dX7_init_22 : decode cX7_init 22 = .ok (.putfield 22, 3) := dk_181 0 22 (dk_at dksX7_init_1 0 rfl rfl)
theorem dX7_init_25 : decode cX7_init 25 = .ok (.aload_n 0, 1) := dk_42 (dk_at dksX7_init_1 3 rfl rfl)
theorem dX7_init_26 : decode cX7_init 26 = .ok (.iload_n 3, 1) := dk_29 (dk_at dksX7_init_1 4 rfl rfl)
theorem dX7_init_27 : decode cX7_init 27 = .ok (.putfield 25, 3) := dk_181 0 25 (dk_at dksX7_init_1 5 rfl rfl)
theorem dX7_init_30 : decode cX7_init 30 = .ok (.aload_n 0, 1) := dk_42 (dk_at dksX7_init_1 8 rfl rfl)
theorem dX7_init_31 : decode cX7_init 31 = .ok (.iload 4, 2) := dk_21 4 (dk_at dksX7_init_1 9 rfl rfl)
theorem dX7_init_33 : decode cX7_init 33 = .ok (.putfield 29, 3) := dk_181 0 29 (dk_at dksX7_init_1 11 rfl rfl)
theorem dX7_init_36 : decode cX7_init 36 = .ok (.aload_n 0, 1) := dk_42 (dk_at dksX7_init_1 14 rfl rfl)
theorem dX7_init_37 : decode cX7_init 37 = .ok (.aload 5, 2) := dk_25 5 (dk_at dksX7_init_1 15 rfl rfl)
theorem dX7_init_39 : decode cX7_init 39 = .ok (.putfield 32, 3) := dk_181 0 32 (dk_at dksX7_init_1 17 rfl rfl)
theorem dX7_init_42 : decode cX7_init 42 = .ok (.iconst 0, 1) := dk_3 (dk_at dksX7_init_1 20 rfl rfl)
theorem dX7_init_43 : decode cX7_init 43 = .ok (.istore 6, 2) := dk_54 6 (dk_at dksX7_init_1 21 rfl rfl)
theorem dX7_init_45 : decode cX7_init 45 = .ok (.iload 6, 2) := dk_21 6 (dk_at dksX7_init_2 0 rfl rfl)
theorem dX7_init_47 : decode cX7_init 47 = .ok (.bipush 10, 2) := dk_16 10 (dk_at dksX7_init_2 2 rfl rfl)
theorem dX7_init_49 : decode cX7_init 49 = .ok (.if_icmp .ge 55, 3) := dk_162 0 55 (dk_at dksX7_init_2 4 rfl rfl)
theorem dX7_init_52 : decode cX7_init 52 = .ok (.iconst 0, 1) := dk_3 (dk_at dksX7_init_2 7 rfl rfl)
theorem dX7_init_53 : decode cX7_init 53 = .ok (.istore 7, 2) := dk_54 7 (dk_at dksX7_init_2 8 rfl rfl)
theorem dX7_init_55 : decode cX7_init 55 = .ok (.iload 7, 2) := dk_21 7 (dk_at dksX7_init_2 10 rfl rfl)
theorem dX7_init_57 : decode cX7_init 57 = .ok (.bipush 10, 2) := dk_16 10 (dk_at dksX7_init_2 12 rfl rfl)
theorem dX7_init_59 : decode cX7_init 59 = .ok (.if_icmp .ge 39, 3) := dk_162 0 39 (dk_at dksX7_init_2 14 rfl rfl)
theorem dX7_init_62 : decode cX7_init 62 = .ok (.aload_n 0, 1) := dk_42 (dk_at dksX7_init_2 17 rfl rfl)
theorem dX7_init_63 : decode cX7_init 63 = .ok (.iload 6, 2) := dk_21 6 (dk_at dksX7_init_2 18 rfl rfl)
theorem dX7_init_65 : decode cX7_init 65 = .ok (.iload 7, 2) := dk_21 7 (dk_at dksX7_init_2 20 rfl rfl)
theorem dX7_init_67 : decode cX7_init 67 = .ok (.invokevirtual 36, 3) := dk_182 0 36 (dk_at dksX7_init_3 0 rfl rfl)
theorem dX7_init_70 : decode cX7_init 70 = .ok (.ifCond .eq 22, 3) := dk_153 0 22 (dk_at dksX7_init_3 3 rfl rfl)
theorem dX7_init_73 : decode cX7_init 73 = .ok (.aload_n 0, 1) := dk_42 (dk_at dksX7_init_3 6 rfl rfl)
theorem dX7_init_74 : decode cX7_init 74 = .ok (.getfield 12, 3) := dk_180 0 12 (dk_at dksX7_init_3 7 rfl rfl)
theorem dX7_init_77 : decode cX7_init 77 = .ok (.new 40, 3) := dk_187 0 40 (dk_at dksX7_init_3 10 rfl rfl)
theorem dX7_init_80 : decode cX7_init 80 = .ok (.dup, 1) := dk_89 (dk_at dksX7_init_3 13 rfl rfl)
theorem dX7_init_81 : decode cX7_init 81 = .ok (.iload 6, 2) := dk_21 6 (dk_at dksX7_init_3 14 rfl rfl)
theorem dX7_init_83 : decode cX7_init 83 = .ok (.iload 7, 2) := dk_21 7 (dk_at dksX7_init_3 16 rfl rfl)
theorem dX7_init_85 : decode cX7_init 85 = .ok (.invokespecial 42, 3) := dk_183 0 42 (dk_at dksX7_init_3 18 rfl rfl)
theorem dX7_init_88 : decode cX7_init 88 = .ok (.invokevirtual 45, 3) := dk_182 0 45 (dk_at dksX7_init_3 21 rfl rfl)
theorem dX7_init_91 : decode cX7_init 91 = .ok (.pop, 1) := dk_87 (dk_at dksX7_init_4 0 rfl rfl)
theorem dX7_init_92 : decode cX7_init 92 = .ok (.iinc 7 1, 3) := dk_132 7 1 (dk_at dksX7_init_4 1 rfl rfl)
theorem dX7_init_95 : decode cX7_init 95 = .ok (.goto (-40), 3) := dk_167 255 216 (dk_at dksX7_init_4 4 rfl rfl)
theorem dX7_init_98 : decode cX7_init 98 = .ok (.iinc 6 1, 3) := dk_132 6 1 (dk_at dksX7_init_4 7 rfl rfl)
theorem dX7_init_101 : decode cX7_init 101 = .ok (.goto (-56), 3) := dk_167 255 200 (dk_at dksX7_init_4 10 rfl rfl)
theorem dX7_init_104 : decode cX7_init 104 = .ok (.return_, 1) := dk_177 (dk_at dksX7_init_4 13 rfl rfl)
abbrev cX7_isTold : ByteArray := prog_19_method_2_code
def yX7_isTold : MethodName := ⟨RX7, "isTold", "(II)Z"⟩
def dkwX7_isTold_2 : List UInt8 := [182, 0, 55, 28, 122, 4, 126, 154, 0, 7, 4, 167, 0, 4, 3, 172]
abbrev dktX7_isTold_2 : List UInt8 := dkwX7_isTold_2 ++ []
def dkwX7_isTold_1 : List UInt8 := [182, 0, 49, 28, 122, 4, 126, 4, 160, 0, 28, 42, 180, 0, 32, 198, 0, 17, 42, 180, 0, 32]
abbrev dktX7_isTold_1 : List UInt8 := dkwX7_isTold_1 ++ dktX7_isTold_2
def dkwX7_isTold_0 : List UInt8 := [27, 28, 159, 0, 58, 42, 180, 0, 18, 182, 0, 49, 27, 122, 4, 126, 4, 160, 0, 43, 42, 180, 0, 22]
abbrev dktX7_isTold_0 : List UInt8 := dkwX7_isTold_0 ++ dktX7_isTold_1
theorem dksX7_isTold_0 : cX7_isTold.data.toList.drop 0 = dktX7_isTold_0 := by decide +kernel
theorem dksX7_isTold_1 : cX7_isTold.data.toList.drop 24 = dktX7_isTold_1 := dk_seg dksX7_isTold_0 24 rfl rfl
theorem dksX7_isTold_2 : cX7_isTold.data.toList.drop 46 = dktX7_isTold_2 := dk_seg dksX7_isTold_1 22 rfl rfl
theorem dX7_isTold_0 : decode cX7_isTold 0 = .ok (.iload_n 1, 1) := dk_27 (dk_at dksX7_isTold_0 0 rfl rfl)
theorem dX7_isTold_1 : decode cX7_isTold 1 = .ok (.iload_n 2, 1) := dk_28 (dk_at dksX7_isTold_0 1 rfl rfl)
theorem dX7_isTold_2 : decode cX7_isTold 2 = .ok (.if_icmp .eq 58, 3) := dk_159 0 58 (dk_at dksX7_isTold_0 2 rfl rfl)
theorem dX7_isTold_5 : decode cX7_isTold 5 = .ok (.aload_n 0, 1) := dk_42 (dk_at dksX7_isTold_0 5 rfl rfl)
theorem dX7_isTold_6 : decode cX7_isTold 6 = .ok (.getfield 18, 3) := dk_180 0 18 (dk_at dksX7_isTold_0 6 rfl rfl)
theorem dX7_isTold_9 : decode cX7_isTold 9 = .ok (.invokevirtual 49, 3) := dk_182 0 49 (dk_at dksX7_isTold_0 9 rfl rfl)
theorem dX7_isTold_12 : decode cX7_isTold 12 = .ok (.iload_n 1, 1) := dk_27 (dk_at dksX7_isTold_0 12 rfl rfl)
theorem dX7_isTold_13 : decode cX7_isTold 13 = .ok (.ishr, 1) := dk_122 (dk_at dksX7_isTold_0 13 rfl rfl)
theorem dX7_isTold_14 : decode cX7_isTold 14 = .ok (.iconst 1, 1) := dk_4 (dk_at dksX7_isTold_0 14 rfl rfl)
theorem dX7_isTold_15 : decode cX7_isTold 15 = .ok (.iand, 1) := dk_126 (dk_at dksX7_isTold_0 15 rfl rfl)
theorem dX7_isTold_16 : decode cX7_isTold 16 = .ok (.iconst 1, 1) := dk_4 (dk_at dksX7_isTold_0 16 rfl rfl)
theorem dX7_isTold_17 : decode cX7_isTold 17 = .ok (.if_icmp .ne 43, 3) := dk_160 0 43 (dk_at dksX7_isTold_0 17 rfl rfl)
theorem dX7_isTold_20 : decode cX7_isTold 20 = .ok (.aload_n 0, 1) := dk_42 (dk_at dksX7_isTold_0 20 rfl rfl)
theorem dX7_isTold_21 : decode cX7_isTold 21 = .ok (.getfield 22, 3) := dk_180 0 22 (dk_at dksX7_isTold_0 21 rfl rfl)
theorem dX7_isTold_24 : decode cX7_isTold 24 = .ok (.invokevirtual 49, 3) := dk_182 0 49 (dk_at dksX7_isTold_1 0 rfl rfl)
theorem dX7_isTold_27 : decode cX7_isTold 27 = .ok (.iload_n 2, 1) := dk_28 (dk_at dksX7_isTold_1 3 rfl rfl)
theorem dX7_isTold_28 : decode cX7_isTold 28 = .ok (.ishr, 1) := dk_122 (dk_at dksX7_isTold_1 4 rfl rfl)
theorem dX7_isTold_29 : decode cX7_isTold 29 = .ok (.iconst 1, 1) := dk_4 (dk_at dksX7_isTold_1 5 rfl rfl)
theorem dX7_isTold_30 : decode cX7_isTold 30 = .ok (.iand, 1) := dk_126 (dk_at dksX7_isTold_1 6 rfl rfl)
theorem dX7_isTold_31 : decode cX7_isTold 31 = .ok (.iconst 1, 1) := dk_4 (dk_at dksX7_isTold_1 7 rfl rfl)
theorem dX7_isTold_32 : decode cX7_isTold 32 = .ok (.if_icmp .ne 28, 3) := dk_160 0 28 (dk_at dksX7_isTold_1 8 rfl rfl)
theorem dX7_isTold_35 : decode cX7_isTold 35 = .ok (.aload_n 0, 1) := dk_42 (dk_at dksX7_isTold_1 11 rfl rfl)
theorem dX7_isTold_36 : decode cX7_isTold 36 = .ok (.getfield 32, 3) := dk_180 0 32 (dk_at dksX7_isTold_1 12 rfl rfl)
theorem dX7_isTold_39 : decode cX7_isTold 39 = .ok (.ifnull 17, 3) := dk_198 0 17 (dk_at dksX7_isTold_1 15 rfl rfl)
theorem dX7_isTold_42 : decode cX7_isTold 42 = .ok (.aload_n 0, 1) := dk_42 (dk_at dksX7_isTold_1 18 rfl rfl)
theorem dX7_isTold_43 : decode cX7_isTold 43 = .ok (.getfield 32, 3) := dk_180 0 32 (dk_at dksX7_isTold_1 19 rfl rfl)
theorem dX7_isTold_46 : decode cX7_isTold 46 = .ok (.invokevirtual 55, 3) := dk_182 0 55 (dk_at dksX7_isTold_2 0 rfl rfl)
theorem dX7_isTold_49 : decode cX7_isTold 49 = .ok (.iload_n 2, 1) := dk_28 (dk_at dksX7_isTold_2 3 rfl rfl)
theorem dX7_isTold_50 : decode cX7_isTold 50 = .ok (.ishr, 1) := dk_122 (dk_at dksX7_isTold_2 4 rfl rfl)
theorem dX7_isTold_51 : decode cX7_isTold 51 = .ok (.iconst 1, 1) := dk_4 (dk_at dksX7_isTold_2 5 rfl rfl)
theorem dX7_isTold_52 : decode cX7_isTold 52 = .ok (.iand, 1) := dk_126 (dk_at dksX7_isTold_2 6 rfl rfl)
theorem dX7_isTold_53 : decode cX7_isTold 53 = .ok (.ifCond .ne 7, 3) := dk_154 0 7 (dk_at dksX7_isTold_2 7 rfl rfl)
theorem dX7_isTold_56 : decode cX7_isTold 56 = .ok (.iconst 1, 1) := dk_4 (dk_at dksX7_isTold_2 10 rfl rfl)
theorem dX7_isTold_57 : decode cX7_isTold 57 = .ok (.goto 4, 3) := dk_167 0 4 (dk_at dksX7_isTold_2 11 rfl rfl)
theorem dX7_isTold_60 : decode cX7_isTold 60 = .ok (.iconst 0, 1) := dk_3 (dk_at dksX7_isTold_2 14 rfl rfl)
theorem dX7_isTold_61 : decode cX7_isTold 61 = .ok (.ireturn, 1) := dk_172 (dk_at dksX7_isTold_2 15 rfl rfl)
abbrev cX7_holds : ByteArray := prog_19_method_3_code
def yX7_holds : MethodName := ⟨RX7, "holds", "(II)Z"⟩
def dkwX7_holds_0 : List UInt8 := [42, 27, 28, 182, 0, 58, 172]
abbrev dktX7_holds_0 : List UInt8 := dkwX7_holds_0 ++ []
theorem dksX7_holds_0 : cX7_holds.data.toList.drop 0 = dktX7_holds_0 := by decide +kernel
theorem dX7_holds_0 : decode cX7_holds 0 = .ok (.aload_n 0, 1) := dk_42 (dk_at dksX7_holds_0 0 rfl rfl)
theorem dX7_holds_1 : decode cX7_holds 1 = .ok (.iload_n 1, 1) := dk_27 (dk_at dksX7_holds_0 1 rfl rfl)
theorem dX7_holds_2 : decode cX7_holds 2 = .ok (.iload_n 2, 1) := dk_28 (dk_at dksX7_holds_0 2 rfl rfl)
theorem dX7_holds_3 : decode cX7_holds 3 = .ok (.invokevirtual 58, 3) := dk_182 0 58 (dk_at dksX7_holds_0 3 rfl rfl)
theorem dX7_holds_6 : decode cX7_holds 6 = .ok (.ireturn, 1) := dk_172 (dk_at dksX7_holds_0 6 rfl rfl)
abbrev cX7_countsIn : ByteArray := prog_19_method_5_code
def yX7_countsIn : MethodName := ⟨RX7, "countsIn", "(I)Z"⟩
def dkwX7_countsIn_1 : List UInt8 := [167, 0, 4, 3, 172]
abbrev dktX7_countsIn_1 : List UInt8 := dkwX7_countsIn_1 ++ []
def dkwX7_countsIn_0 : List UInt8 := [42, 180, 0, 61, 154, 0, 23, 42, 180, 0, 29, 2, 159, 0, 11, 42, 180, 0, 29, 27, 160, 0, 7, 4]
abbrev dktX7_countsIn_0 : List UInt8 := dkwX7_countsIn_0 ++ dktX7_countsIn_1
theorem dksX7_countsIn_0 : cX7_countsIn.data.toList.drop 0 = dktX7_countsIn_0 := by decide +kernel
theorem dksX7_countsIn_1 : cX7_countsIn.data.toList.drop 24 = dktX7_countsIn_1 := dk_seg dksX7_countsIn_0 24 rfl rfl
theorem dX7_countsIn_0 : decode cX7_countsIn 0 = .ok (.aload_n 0, 1) := dk_42 (dk_at dksX7_countsIn_0 0 rfl rfl)
theorem dX7_countsIn_1 : decode cX7_countsIn 1 = .ok (.getfield 61, 3) := dk_180 0 61 (dk_at dksX7_countsIn_0 1 rfl rfl)
theorem dX7_countsIn_4 : decode cX7_countsIn 4 = .ok (.ifCond .ne 23, 3) := dk_154 0 23 (dk_at dksX7_countsIn_0 4 rfl rfl)
theorem dX7_countsIn_7 : decode cX7_countsIn 7 = .ok (.aload_n 0, 1) := dk_42 (dk_at dksX7_countsIn_0 7 rfl rfl)
theorem dX7_countsIn_8 : decode cX7_countsIn 8 = .ok (.getfield 29, 3) := dk_180 0 29 (dk_at dksX7_countsIn_0 8 rfl rfl)
theorem dX7_countsIn_11 : decode cX7_countsIn 11 = .ok (.iconst (-1), 1) := dk_2 (dk_at dksX7_countsIn_0 11 rfl rfl)
theorem dX7_countsIn_12 : decode cX7_countsIn 12 = .ok (.if_icmp .eq 11, 3) := dk_159 0 11 (dk_at dksX7_countsIn_0 12 rfl rfl)
theorem dX7_countsIn_15 : decode cX7_countsIn 15 = .ok (.aload_n 0, 1) := dk_42 (dk_at dksX7_countsIn_0 15 rfl rfl)
theorem dX7_countsIn_16 : decode cX7_countsIn 16 = .ok (.getfield 29, 3) := dk_180 0 29 (dk_at dksX7_countsIn_0 16 rfl rfl)
theorem dX7_countsIn_19 : decode cX7_countsIn 19 = .ok (.iload_n 1, 1) := dk_27 (dk_at dksX7_countsIn_0 19 rfl rfl)
theorem dX7_countsIn_20 : decode cX7_countsIn 20 = .ok (.if_icmp .ne 7, 3) := dk_160 0 7 (dk_at dksX7_countsIn_0 20 rfl rfl)
theorem dX7_countsIn_23 : decode cX7_countsIn 23 = .ok (.iconst 1, 1) := dk_4 (dk_at dksX7_countsIn_0 23 rfl rfl)
theorem dX7_countsIn_24 : decode cX7_countsIn 24 = .ok (.goto 4, 3) := dk_167 0 4 (dk_at dksX7_countsIn_1 0 rfl rfl)
theorem dX7_countsIn_27 : decode cX7_countsIn 27 = .ok (.iconst 0, 1) := dk_3 (dk_at dksX7_countsIn_1 3 rfl rfl)
theorem dX7_countsIn_28 : decode cX7_countsIn 28 = .ok (.ireturn, 1) := dk_172 (dk_at dksX7_countsIn_1 4 rfl rfl)
theorem q125 : (Jvm.Cond.initialized "FirstIn$Rule") ∈ lw_all := lw_g (lw_at lw_m1 24 rfl) rfl
theorem q682 : (Jvm.Cond.instanceMethod ({ cls := "FirstIn$Rule", name := "<init>", desc := "(LFirstIn$Side;LFirstIn$Side;IILFirstIn$Mark;)V" } : Jvm.MethodName)) ∈ lw_all := lw_g (lw_at lw_m3 101 rfl) rfl
theorem q683 : (Jvm.Cond.code ({ cls := "FirstIn$Rule", name := "<init>", desc := "(LFirstIn$Side;LFirstIn$Side;IILFirstIn$Mark;)V" } : Jvm.MethodName) prog_19_method_1_code (8 : Nat) (Option.none : Option Jvm.ClassFile.FieldType)) ∈ lw_all := lw_g (lw_at lw_m3 102 rfl) rfl
theorem q684 : (Jvm.Cond.methodLink "FirstIn$Rule" (3 : Nat) ({ cls := "java/lang/Object", name := "<init>", desc := "()V" } : Jvm.MethodName)) ∈ lw_all := lw_g (lw_at lw_m3 103 rfl) rfl
theorem q685 : (Jvm.Cond.classLink "FirstIn$Rule" (9 : Nat) "java/util/ArrayList") ∈ lw_all := lw_g (lw_at lw_m3 104 rfl) rfl
theorem q686 : (Jvm.Cond.methodLink "FirstIn$Rule" (11 : Nat) ({ cls := "java/util/ArrayList", name := "<init>", desc := "()V" } : Jvm.MethodName)) ∈ lw_all := lw_g (lw_at lw_m3 105 rfl) rfl
theorem q687 : (Jvm.Cond.methodLink "FirstIn$Rule" (36 : Nat) ({ cls := "FirstIn$Rule", name := "holds", desc := "(II)Z" } : Jvm.MethodName)) ∈ lw_all := lw_g (lw_at lw_m3 106 rfl) rfl
theorem q688 : (Jvm.Cond.instanceMethod ({ cls := "FirstIn$Rule", name := "holds", desc := "(II)Z" } : Jvm.MethodName)) ∈ lw_all := lw_g (lw_at lw_m3 107 rfl) rfl
theorem q689 : (Jvm.Cond.sameMethod "FirstIn$Rule" "FirstIn$Rule" "holds" "(II)Z") ∈ lw_all := lw_g (lw_at lw_m3 108 rfl) rfl
theorem q696 : (Jvm.Cond.declares ({ cls := "FirstIn$Rule", name := "isTold", desc := "(II)Z" } : Jvm.MethodName)) ∈ lw_tbl := lw_at lw_m3 115 rfl
theorem q699 : (Jvm.Cond.instanceMethod ({ cls := "FirstIn$Rule", name := "isTold", desc := "(II)Z" } : Jvm.MethodName)) ∈ lw_all := lw_g (lw_at lw_m3 118 rfl) rfl
theorem q700 : (Jvm.Cond.code ({ cls := "FirstIn$Rule", name := "isTold", desc := "(II)Z" } : Jvm.MethodName) prog_19_method_2_code (3 : Nat) (Option.some Jvm.ClassFile.FieldType.boolean)) ∈ lw_all := lw_g (lw_at lw_m3 119 rfl) rfl
theorem q701 : (Jvm.Cond.methodLink "FirstIn$Rule" (49 : Nat) ({ cls := "FirstIn$Side", name := "who", desc := "()I" } : Jvm.MethodName)) ∈ lw_all := lw_g (lw_at lw_m3 120 rfl) rfl
theorem q710 : (Jvm.Cond.methodLink "FirstIn$Rule" (55 : Nat) ({ cls := "FirstIn$Mark", name := "who", desc := "()I" } : Jvm.MethodName)) ∈ lw_all := lw_g (lw_at lw_m3 129 rfl) rfl
theorem q712 : (Jvm.Cond.code ({ cls := "FirstIn$Rule", name := "holds", desc := "(II)Z" } : Jvm.MethodName) prog_19_method_3_code (3 : Nat) (Option.some Jvm.ClassFile.FieldType.boolean)) ∈ lw_all := lw_g (lw_at lw_m3 131 rfl) rfl
theorem q713 : (Jvm.Cond.methodLink "FirstIn$Rule" (58 : Nat) ({ cls := "FirstIn$Rule", name := "isTold", desc := "(II)Z" } : Jvm.MethodName)) ∈ lw_all := lw_g (lw_at lw_m3 132 rfl) rfl
theorem q714 : (Jvm.Cond.classLink "FirstIn$Rule" (40 : Nat) "FirstIn$Couple") ∈ lw_all := lw_g (lw_at lw_m3 133 rfl) rfl
theorem q716 : (Jvm.Cond.methodLink "FirstIn$Rule" (42 : Nat) ({ cls := "FirstIn$Couple", name := "<init>", desc := "(II)V" } : Jvm.MethodName)) ∈ lw_all := lw_g (lw_at lw_m3 135 rfl) rfl
theorem q731 : (Jvm.Cond.methodLink "FirstIn$Rule" (45 : Nat) ({ cls := "java/util/ArrayList", name := "add", desc := "(Ljava/lang/Object;)Z" } : Jvm.MethodName)) ∈ lw_all := lw_g (lw_at lw_m3 150 rfl) rfl
theorem q732 : (Jvm.Cond.fieldLink "FirstIn$Rule" (18 : Nat) "FirstIn$Rule" "first" "LFirstIn$Side;") ∈ lw_all := lw_g (lw_at lw_m3 151 rfl) rfl
theorem q734 : (Jvm.Cond.fieldLink "FirstIn$Rule" (22 : Nat) "FirstIn$Rule" "second" "LFirstIn$Side;") ∈ lw_all := lw_g (lw_at lw_m3 153 rfl) rfl
theorem q736 : (Jvm.Cond.fieldLink "FirstIn$Rule" (25 : Nat) "FirstIn$Rule" "weight" "I") ∈ lw_all := lw_g (lw_at lw_m3 155 rfl) rfl
theorem q739 : (Jvm.Cond.fieldLink "FirstIn$Rule" (29 : Nat) "FirstIn$Rule" "room" "I") ∈ lw_all := lw_g (lw_at lw_m3 158 rfl) rfl
theorem q741 : (Jvm.Cond.fieldLink "FirstIn$Rule" (32 : Nat) "FirstIn$Rule" "unless" "LFirstIn$Mark;") ∈ lw_all := lw_g (lw_at lw_m3 160 rfl) rfl
theorem q743 : (Jvm.Cond.fieldLink "FirstIn$Rule" (61 : Nat) "FirstIn$Rule" "rests" "Z") ∈ lw_all := lw_g (lw_at lw_m3 162 rfl) rfl
theorem q745 : (Jvm.Cond.fieldLink "FirstIn$Rule" (12 : Nat) "FirstIn$Rule" "couples" "Ljava/util/ArrayList;") ∈ lw_all := lw_g (lw_at lw_m3 164 rfl) rfl
theorem q748 : (Jvm.Cond.soleField "FirstIn$Rule" "first") ∈ lw_all := lw_g (lw_at lw_m3 167 rfl) rfl
theorem q750 : (Jvm.Cond.soleField "FirstIn$Rule" "second") ∈ lw_all := lw_g (lw_at lw_m3 169 rfl) rfl
theorem q752 : (Jvm.Cond.soleField "FirstIn$Rule" "weight") ∈ lw_all := lw_g (lw_at lw_m3 171 rfl) rfl
theorem q754 : (Jvm.Cond.soleField "FirstIn$Rule" "room") ∈ lw_all := lw_g (lw_at lw_m3 173 rfl) rfl
theorem q756 : (Jvm.Cond.soleField "FirstIn$Rule" "unless") ∈ lw_all := lw_g (lw_at lw_m3 175 rfl) rfl
theorem q758 : (Jvm.Cond.soleField "FirstIn$Rule" "rests") ∈ lw_all := lw_g (lw_at lw_m3 177 rfl) rfl
theorem q760 : (Jvm.Cond.soleField "FirstIn$Rule" "couples") ∈ lw_all := lw_g (lw_at lw_m3 179 rfl) rfl
theorem q888 : (Jvm.Cond.declares ({ cls := "FirstIn$Rule", name := "kind", desc := "()I" } : Jvm.MethodName)) ∈ lw_tbl := lw_at lw_m4 67 rfl
theorem q889 : (Jvm.Cond.sameMethod "FirstIn$Rule" "FirstIn$Rule" "kind" "()I") ∈ lw_all := lw_g (lw_at lw_m4 68 rfl) rfl
theorem q994 : (Jvm.Cond.instanceMethod ({ cls := "FirstIn$Rule", name := "countsIn", desc := "(I)Z" } : Jvm.MethodName)) ∈ lw_all := lw_g (lw_at lw_m4 173 rfl) rfl
theorem q995 : (Jvm.Cond.sameMethod "FirstIn$Rule" "FirstIn$Rule" "countsIn" "(I)Z") ∈ lw_all := lw_g (lw_at lw_m4 174 rfl) rfl
theorem q999 : (Jvm.Cond.code ({ cls := "FirstIn$Rule", name := "countsIn", desc := "(I)Z" } : Jvm.MethodName) prog_19_method_5_code (2 : Nat) (Option.some Jvm.ClassFile.FieldType.boolean)) ∈ lw_all := lw_g (lw_at lw_m4 178 rfl) rfl
theorem q1022 : (Jvm.Cond.declares ({ cls := "FirstIn$Rule", name := "minds", desc := "(LFirstIn$Room;III)I" } : Jvm.MethodName)) ∈ lw_tbl := lw_at lw_m4 201 rfl
theorem q1023 : (Jvm.Cond.sameMethod "FirstIn$Rule" "FirstIn$Rule" "minds" "(LFirstIn$Room;III)I") ∈ lw_all := lw_g (lw_at lw_m4 202 rfl) rfl
theorem q1994 : (Jvm.Cond.sameMethod "FirstIn$Rule" "FirstIn$Rule" "isTold" "(II)Z") ∈ lw_all := lw_g (lw_at lw_m8 213 rfl) rfl

/-! FirstIn$AboveRule -/
set_option maxRecDepth 100000
def RX8 : String := "FirstIn$AboveRule"
def TX8 : u_T := fun k => match k with
  | 0 => ("FirstIn$Rule", "first", "LFirstIn$Side;", true)
  | 1 => ("FirstIn$Rule", "second", "LFirstIn$Side;", true)
  | 2 => ("FirstIn$Rule", "weight", "I", true)
  | 3 => ("FirstIn$Rule", "room", "I", true)
  | 4 => ("FirstIn$Rule", "unless", "LFirstIn$Mark;", true)
  | 5 => ("FirstIn$Rule", "rests", "Z", false)
  | _ => ("FirstIn$Rule", "couples", "Ljava/util/ArrayList;", true)
def tyX8 : Nat → FieldType := fun k => match k with
  | 0 => .object "FirstIn$Side"
  | 1 => .object "FirstIn$Side"
  | 2 => .int
  | 3 => .int
  | 4 => .object "FirstIn$Mark"
  | 5 => .boolean
  | _ => .object "java/util/ArrayList"
abbrev wsX80 : List Cond := u_ws RX8 TX8 7
theorem nmX8 : ∀ a, a < 7 → ∀ b, b < 7 → a ≠ b → (TX8 a).2.1 ≠ (TX8 b).2.1 := by decide +kernel
theorem tyX8_ok : ∀ k, k < 7 → parseFieldDescriptor (TX8 k).2.2.1 = some (tyX8 k) := by decide +kernel
abbrev cX8_init : ByteArray := prog_2_method_1_code
def yX8_init : MethodName := ⟨RX8, "<init>", "(LFirstIn$Side;LFirstIn$Side;IILFirstIn$Mark;)V"⟩
def dkwX8_init_0 : List UInt8 := [42, 43, 44, 29, 21, 4, 25, 5, 183, 0, 3, 177]
abbrev dktX8_init_0 : List UInt8 := dkwX8_init_0 ++ []
theorem dksX8_init_0 : cX8_init.data.toList.drop 0 = dktX8_init_0 := by decide +kernel
theorem dX8_init_0 : decode cX8_init 0 = .ok (.aload_n 0, 1) := dk_42 (dk_at dksX8_init_0 0 rfl rfl)
theorem dX8_init_1 : decode cX8_init 1 = .ok (.aload_n 1, 1) := dk_43 (dk_at dksX8_init_0 1 rfl rfl)
theorem dX8_init_2 : decode cX8_init 2 = .ok (.aload_n 2, 1) := dk_44 (dk_at dksX8_init_0 2 rfl rfl)
theorem dX8_init_3 : decode cX8_init 3 = .ok (.iload_n 3, 1) := dk_29 (dk_at dksX8_init_0 3 rfl rfl)
theorem dX8_init_4 : decode cX8_init 4 = .ok (.iload 4, 2) := dk_21 4 (dk_at dksX8_init_0 4 rfl rfl)
theorem dX8_init_6 : decode cX8_init 6 = .ok (.aload 5, 2) := dk_25 5 (dk_at dksX8_init_0 6 rfl rfl)
theorem dX8_init_8 : decode cX8_init 8 = .ok (.invokespecial 3, 3) := dk_183 0 3 (dk_at dksX8_init_0 8 rfl rfl)
theorem dX8_init_11 : decode cX8_init 11 = .ok (.return_, 1) := dk_177 (dk_at dksX8_init_0 11 rfl rfl)
abbrev cX8_kind : ByteArray := prog_2_method_2_code
def yX8_kind : MethodName := ⟨RX8, "kind", "()I"⟩
theorem dX8_kind_0 : decode cX8_kind 0 = .ok (.iconst 0, 1) := by decide +kernel
theorem dX8_kind_1 : decode cX8_kind 1 = .ok (.ireturn, 1) := by decide +kernel
abbrev cX8_minds : ByteArray := prog_2_method_3_code
def yX8_minds : MethodName := ⟨RX8, "minds", "(LFirstIn$Room;III)I"⟩
def dkwX8_minds_1 : List UInt8 := [167, 0, 4, 3, 172]
abbrev dktX8_minds_1 : List UInt8 := dkwX8_minds_1 ++ []
def dkwX8_minds_0 : List UInt8 := [43, 28, 29, 21, 4, 182, 0, 9, 54, 5, 21, 5, 5, 159, 0, 8, 21, 5, 154, 0, 7, 4]
abbrev dktX8_minds_0 : List UInt8 := dkwX8_minds_0 ++ dktX8_minds_1
theorem dksX8_minds_0 : cX8_minds.data.toList.drop 0 = dktX8_minds_0 := by decide +kernel
theorem dksX8_minds_1 : cX8_minds.data.toList.drop 22 = dktX8_minds_1 := dk_seg dksX8_minds_0 22 rfl rfl
theorem dX8_minds_0 : decode cX8_minds 0 = .ok (.aload_n 1, 1) := dk_43 (dk_at dksX8_minds_0 0 rfl rfl)
theorem dX8_minds_1 : decode cX8_minds 1 = .ok (.iload_n 2, 1) := dk_28 (dk_at dksX8_minds_0 1 rfl rfl)
theorem dX8_minds_2 : decode cX8_minds 2 = .ok (.iload_n 3, 1) := dk_29 (dk_at dksX8_minds_0 2 rfl rfl)
theorem dX8_minds_3 : decode cX8_minds 3 = .ok (.iload 4, 2) := dk_21 4 (dk_at dksX8_minds_0 3 rfl rfl)
theorem dX8_minds_5 : decode cX8_minds 5 = .ok (.invokevirtual 9, 3) := dk_182 0 9 (dk_at dksX8_minds_0 5 rfl rfl)
theorem dX8_minds_8 : decode cX8_minds 8 = .ok (.istore 5, 2) := dk_54 5 (dk_at dksX8_minds_0 8 rfl rfl)
theorem dX8_minds_10 : decode cX8_minds 10 = .ok (.iload 5, 2) := dk_21 5 (dk_at dksX8_minds_0 10 rfl rfl)
theorem dX8_minds_12 : decode cX8_minds 12 = .ok (.iconst 2, 1) := dk_5 (dk_at dksX8_minds_0 12 rfl rfl)
theorem dX8_minds_13 : decode cX8_minds 13 = .ok (.if_icmp .eq 8, 3) := dk_159 0 8 (dk_at dksX8_minds_0 13 rfl rfl)
theorem dX8_minds_16 : decode cX8_minds 16 = .ok (.iload 5, 2) := dk_21 5 (dk_at dksX8_minds_0 16 rfl rfl)
theorem dX8_minds_18 : decode cX8_minds 18 = .ok (.ifCond .ne 7, 3) := dk_154 0 7 (dk_at dksX8_minds_0 18 rfl rfl)
theorem dX8_minds_21 : decode cX8_minds 21 = .ok (.iconst 1, 1) := dk_4 (dk_at dksX8_minds_0 21 rfl rfl)
theorem dX8_minds_22 : decode cX8_minds 22 = .ok (.goto 4, 3) := dk_167 0 4 (dk_at dksX8_minds_1 0 rfl rfl)
theorem dX8_minds_25 : decode cX8_minds 25 = .ok (.iconst 0, 1) := dk_3 (dk_at dksX8_minds_1 3 rfl rfl)
theorem dX8_minds_26 : decode cX8_minds 26 = .ok (.ireturn, 1) := dk_172 (dk_at dksX8_minds_1 4 rfl rfl)
theorem q126 : (Jvm.Cond.initialized "FirstIn$AboveRule") ∈ lw_all := lw_g (lw_at lw_m1 25 rfl) rfl
theorem q607 : (Jvm.Cond.selects "FirstIn$AboveRule" ({ cls := "java/lang/Object", name := "getClass", desc := "()Ljava/lang/Class;" } : Jvm.MethodName) ({ cls := "java/lang/Object", name := "getClass", desc := "()Ljava/lang/Class;" } : Jvm.MethodName)) ∈ lw_all := lw_g (lw_at lw_m3 26 rfl) rfl
theorem q677 : (Jvm.Cond.instantiable "FirstIn$AboveRule" (7 : Nat)) ∈ lw_all := lw_g (lw_at lw_m3 96 rfl) rfl
theorem q679 : (Jvm.Cond.instanceMethod ({ cls := "FirstIn$AboveRule", name := "<init>", desc := "(LFirstIn$Side;LFirstIn$Side;IILFirstIn$Mark;)V" } : Jvm.MethodName)) ∈ lw_all := lw_g (lw_at lw_m3 98 rfl) rfl
theorem q680 : (Jvm.Cond.code ({ cls := "FirstIn$AboveRule", name := "<init>", desc := "(LFirstIn$Side;LFirstIn$Side;IILFirstIn$Mark;)V" } : Jvm.MethodName) prog_2_method_1_code (6 : Nat) (Option.none : Option Jvm.ClassFile.FieldType)) ∈ lw_all := lw_g (lw_at lw_m3 99 rfl) rfl
theorem q681 : (Jvm.Cond.methodLink "FirstIn$AboveRule" (3 : Nat) ({ cls := "FirstIn$Rule", name := "<init>", desc := "(LFirstIn$Side;LFirstIn$Side;IILFirstIn$Mark;)V" } : Jvm.MethodName)) ∈ lw_all := lw_g (lw_at lw_m3 100 rfl) rfl
theorem q690 : (Jvm.Cond.selects "FirstIn$AboveRule" ({ cls := "FirstIn$Rule", name := "holds", desc := "(II)Z" } : Jvm.MethodName) ({ cls := "FirstIn$Rule", name := "holds", desc := "(II)Z" } : Jvm.MethodName)) ∈ lw_all := lw_g (lw_at lw_m3 109 rfl) rfl
theorem q747 : (Jvm.Cond.laysFinal "FirstIn$AboveRule" "FirstIn$Rule" "first" "LFirstIn$Side;") ∈ lw_all := lw_g (lw_at lw_m3 166 rfl) rfl
theorem q749 : (Jvm.Cond.laysFinal "FirstIn$AboveRule" "FirstIn$Rule" "second" "LFirstIn$Side;") ∈ lw_all := lw_g (lw_at lw_m3 168 rfl) rfl
theorem q751 : (Jvm.Cond.laysFinal "FirstIn$AboveRule" "FirstIn$Rule" "weight" "I") ∈ lw_all := lw_g (lw_at lw_m3 170 rfl) rfl
theorem q753 : (Jvm.Cond.laysFinal "FirstIn$AboveRule" "FirstIn$Rule" "room" "I") ∈ lw_all := lw_g (lw_at lw_m3 172 rfl) rfl
theorem q755 : (Jvm.Cond.laysFinal "FirstIn$AboveRule" "FirstIn$Rule" "unless" "LFirstIn$Mark;") ∈ lw_all := lw_g (lw_at lw_m3 174 rfl) rfl
theorem q757 : (Jvm.Cond.lays "FirstIn$AboveRule" "FirstIn$Rule" "rests" "Z") ∈ lw_all := lw_g (lw_at lw_m3 176 rfl) rfl
theorem q759 : (Jvm.Cond.laysFinal "FirstIn$AboveRule" "FirstIn$Rule" "couples" "Ljava/util/ArrayList;") ∈ lw_all := lw_g (lw_at lw_m3 178 rfl) rfl
theorem q761 : (Jvm.Cond.superclass "FirstIn$AboveRule" "FirstIn$Rule") ∈ lw_all := lw_g (lw_at lw_m3 180 rfl) rfl
theorem q890 : (Jvm.Cond.selects "FirstIn$AboveRule" ({ cls := "FirstIn$Rule", name := "kind", desc := "()I" } : Jvm.MethodName) ({ cls := "FirstIn$AboveRule", name := "kind", desc := "()I" } : Jvm.MethodName)) ∈ lw_all := lw_g (lw_at lw_m4 69 rfl) rfl
theorem q891 : (Jvm.Cond.instanceMethod ({ cls := "FirstIn$AboveRule", name := "kind", desc := "()I" } : Jvm.MethodName)) ∈ lw_all := lw_g (lw_at lw_m4 70 rfl) rfl
theorem q892 : (Jvm.Cond.code ({ cls := "FirstIn$AboveRule", name := "kind", desc := "()I" } : Jvm.MethodName) prog_2_method_2_code (1 : Nat) (Option.some Jvm.ClassFile.FieldType.int)) ∈ lw_all := lw_g (lw_at lw_m4 71 rfl) rfl
theorem q996 : (Jvm.Cond.selects "FirstIn$AboveRule" ({ cls := "FirstIn$Rule", name := "countsIn", desc := "(I)Z" } : Jvm.MethodName) ({ cls := "FirstIn$Rule", name := "countsIn", desc := "(I)Z" } : Jvm.MethodName)) ∈ lw_all := lw_g (lw_at lw_m4 175 rfl) rfl
theorem q1024 : (Jvm.Cond.selects "FirstIn$AboveRule" ({ cls := "FirstIn$Rule", name := "minds", desc := "(LFirstIn$Room;III)I" } : Jvm.MethodName) ({ cls := "FirstIn$AboveRule", name := "minds", desc := "(LFirstIn$Room;III)I" } : Jvm.MethodName)) ∈ lw_all := lw_g (lw_at lw_m4 203 rfl) rfl
theorem q1025 : (Jvm.Cond.instanceMethod ({ cls := "FirstIn$AboveRule", name := "minds", desc := "(LFirstIn$Room;III)I" } : Jvm.MethodName)) ∈ lw_all := lw_g (lw_at lw_m4 204 rfl) rfl
theorem q1026 : (Jvm.Cond.code ({ cls := "FirstIn$AboveRule", name := "minds", desc := "(LFirstIn$Room;III)I" } : Jvm.MethodName) prog_2_method_3_code (6 : Nat) (Option.some Jvm.ClassFile.FieldType.int)) ∈ lw_all := lw_g (lw_at lw_m4 205 rfl) rfl
theorem q1027 : (Jvm.Cond.methodLink "FirstIn$AboveRule" (9 : Nat) ({ cls := "FirstIn$Room", name := "higher", desc := "(III)I" } : Jvm.MethodName)) ∈ lw_all := lw_g (lw_at lw_m4 206 rfl) rfl
theorem q1995 : (Jvm.Cond.selects "FirstIn$AboveRule" ({ cls := "FirstIn$Rule", name := "isTold", desc := "(II)Z" } : Jvm.MethodName) ({ cls := "FirstIn$Rule", name := "isTold", desc := "(II)Z" } : Jvm.MethodName)) ∈ lw_all := lw_g (lw_at lw_m8 214 rfl) rfl
theorem q1999 : (Jvm.Cond.castable "FirstIn$AboveRule" "FirstIn$Rule") ∈ lw_tbl := lw_at lw_m8 218 rfl
theorem q2015 : (Jvm.Cond.castable "FirstIn$AboveRule" "java/lang/Object") ∈ lw_tbl := lw_at lw_m8 234 rfl
theorem in_X8 : ∀ w ∈ wsX80, w ∈ lw_all := lw_in wsX80 [747, 749, 751, 753, 755, 757, 759] (by decide +kernel) (by decide +kernel)

/-! FirstIn$Couple -/
set_option maxRecDepth 100000
def RX9 : String := "FirstIn$Couple"
def TX9 : u_T := fun k => match k with
  | 0 => ("FirstIn$Couple", "x", "I", true)
  | _ => ("FirstIn$Couple", "y", "I", true)
def tyX9 : Nat → FieldType := fun k => match k with
  | 0 => .int
  | _ => .int
abbrev wsX90 : List Cond := u_ws RX9 TX9 2
theorem nmX9 : ∀ a, a < 2 → ∀ b, b < 2 → a ≠ b → (TX9 a).2.1 ≠ (TX9 b).2.1 := by decide +kernel
theorem tyX9_ok : ∀ k, k < 2 → parseFieldDescriptor (TX9 k).2.2.1 = some (tyX9 k) := by decide +kernel
abbrev cX9_init : ByteArray := prog_5_method_1_code
def yX9_init : MethodName := ⟨RX9, "<init>", "(II)V"⟩
def dkwX9_init_0 : List UInt8 := [42, 183, 0, 1, 42, 27, 181, 0, 7, 42, 28, 181, 0, 13, 177]
abbrev dktX9_init_0 : List UInt8 := dkwX9_init_0 ++ []
theorem dksX9_init_0 : cX9_init.data.toList.drop 0 = dktX9_init_0 := by decide +kernel
theorem dX9_init_0 : decode cX9_init 0 = .ok (.aload_n 0, 1) := dk_42 (dk_at dksX9_init_0 0 rfl rfl)
theorem dX9_init_1 : decode cX9_init 1 = .ok (.invokespecial 1, 3) := dk_183 0 1 (dk_at dksX9_init_0 1 rfl rfl)
theorem dX9_init_4 : decode cX9_init 4 = .ok (.aload_n 0, 1) := dk_42 (dk_at dksX9_init_0 4 rfl rfl)
theorem dX9_init_5 : decode cX9_init 5 = .ok (.iload_n 1, 1) := dk_27 (dk_at dksX9_init_0 5 rfl rfl)
theorem dX9_init_6 : decode cX9_init 6 = .ok (.putfield 7, 3) := dk_181 0 7 (dk_at dksX9_init_0 6 rfl rfl)
theorem dX9_init_9 : decode cX9_init 9 = .ok (.aload_n 0, 1) := dk_42 (dk_at dksX9_init_0 9 rfl rfl)
theorem dX9_init_10 : decode cX9_init 10 = .ok (.iload_n 2, 1) := dk_28 (dk_at dksX9_init_0 10 rfl rfl)
theorem dX9_init_11 : decode cX9_init 11 = .ok (.putfield 13, 3) := dk_181 0 13 (dk_at dksX9_init_0 11 rfl rfl)
theorem dX9_init_14 : decode cX9_init 14 = .ok (.return_, 1) := dk_177 (dk_at dksX9_init_0 14 rfl rfl)
theorem q127 : (Jvm.Cond.initialized "FirstIn$Couple") ∈ lw_all := lw_g (lw_at lw_m1 26 rfl) rfl
theorem q610 : (Jvm.Cond.selects "FirstIn$Couple" ({ cls := "java/lang/Object", name := "getClass", desc := "()Ljava/lang/Class;" } : Jvm.MethodName) ({ cls := "java/lang/Object", name := "getClass", desc := "()Ljava/lang/Class;" } : Jvm.MethodName)) ∈ lw_all := lw_g (lw_at lw_m3 29 rfl) rfl
theorem q715 : (Jvm.Cond.instantiable "FirstIn$Couple" (2 : Nat)) ∈ lw_all := lw_g (lw_at lw_m3 134 rfl) rfl
theorem q717 : (Jvm.Cond.instanceMethod ({ cls := "FirstIn$Couple", name := "<init>", desc := "(II)V" } : Jvm.MethodName)) ∈ lw_all := lw_g (lw_at lw_m3 136 rfl) rfl
theorem q718 : (Jvm.Cond.code ({ cls := "FirstIn$Couple", name := "<init>", desc := "(II)V" } : Jvm.MethodName) prog_5_method_1_code (3 : Nat) (Option.none : Option Jvm.ClassFile.FieldType)) ∈ lw_all := lw_g (lw_at lw_m3 137 rfl) rfl
theorem q719 : (Jvm.Cond.methodLink "FirstIn$Couple" (1 : Nat) ({ cls := "java/lang/Object", name := "<init>", desc := "()V" } : Jvm.MethodName)) ∈ lw_all := lw_g (lw_at lw_m3 138 rfl) rfl
theorem q720 : (Jvm.Cond.fieldLink "FirstIn$Couple" (7 : Nat) "FirstIn$Couple" "x" "I") ∈ lw_all := lw_g (lw_at lw_m3 139 rfl) rfl
theorem q723 : (Jvm.Cond.fieldLink "FirstIn$Couple" (13 : Nat) "FirstIn$Couple" "y" "I") ∈ lw_all := lw_g (lw_at lw_m3 142 rfl) rfl
theorem q726 : (Jvm.Cond.laysFinal "FirstIn$Couple" "FirstIn$Couple" "x" "I") ∈ lw_all := lw_g (lw_at lw_m3 145 rfl) rfl
theorem q727 : (Jvm.Cond.soleField "FirstIn$Couple" "x") ∈ lw_all := lw_g (lw_at lw_m3 146 rfl) rfl
theorem q728 : (Jvm.Cond.laysFinal "FirstIn$Couple" "FirstIn$Couple" "y" "I") ∈ lw_all := lw_g (lw_at lw_m3 147 rfl) rfl
theorem q729 : (Jvm.Cond.soleField "FirstIn$Couple" "y") ∈ lw_all := lw_g (lw_at lw_m3 148 rfl) rfl
theorem q730 : (Jvm.Cond.superclass "FirstIn$Couple" "java/lang/Object") ∈ lw_all := lw_g (lw_at lw_m3 149 rfl) rfl
theorem q2016 : (Jvm.Cond.castable "FirstIn$Couple" "java/lang/Object") ∈ lw_tbl := lw_at lw_m8 235 rfl
theorem in_X9 : ∀ w ∈ wsX90, w ∈ lw_all := lw_in wsX90 [726, 728] (by decide +kernel) (by decide +kernel)

