/-! FirstIn -/
set_option maxRecDepth 100000
def RX0 : String := "FirstIn"
def TX0 : u_T := fun k => match k with
  | 0 => ("FirstIn", "text", "[B", true)
  | 1 => ("FirstIn", "reader", "LFirstIn$Reader;", true)
  | 2 => ("FirstIn", "guests", "Ljava/util/ArrayList;", true)
  | 3 => ("FirstIn", "marks", "Ljava/util/ArrayList;", true)
  | 4 => ("FirstIn", "rules", "Ljava/util/ArrayList;", true)
  | 5 => ("FirstIn", "rooms", "Ljava/util/ArrayList;", true)
  | 6 => ("FirstIn", "size", "I", false)
  | 7 => ("FirstIn", "above", "[I", true)
  | 8 => ("FirstIn", "steps", "[I", true)
  | 9 => ("FirstIn", "heapOf", "[I", true)
  | 10 => ("FirstIn", "heapMask", "[I", true)
  | 11 => ("FirstIn", "heaped", "[I", true)
  | 12 => ("FirstIn", "bestHeaped", "[I", true)
  | _ => ("FirstIn", "fewest", "I", false)
def tyX0 : Nat → FieldType := fun k => match k with
  | 0 => .array .byte
  | 1 => .object "FirstIn$Reader"
  | 2 => .object "java/util/ArrayList"
  | 3 => .object "java/util/ArrayList"
  | 4 => .object "java/util/ArrayList"
  | 5 => .object "java/util/ArrayList"
  | 6 => .int
  | 7 => .array .int
  | 8 => .array .int
  | 9 => .array .int
  | 10 => .array .int
  | 11 => .array .int
  | 12 => .array .int
  | _ => .int
abbrev wsX00 : List Cond := u_ws RX0 TX0 14
set_option maxRecDepth 100000 in
theorem nmX0 : ∀ a, a < 14 → ∀ b, b < 14 → a ≠ b → (TX0 a).2.1 ≠ (TX0 b).2.1 := by decide +kernel
set_option maxRecDepth 100000 in
theorem tyX0_ok : ∀ k, k < 14 → parseFieldDescriptor (TX0 k).2.2.1 = some (tyX0 k) := by decide +kernel
abbrev cX0_init : ByteArray := prog_1_method_3_code
def yX0_init : MethodName := ⟨RX0, "<init>", "()V"⟩
def dkwX0_init_4 : List UInt8 := [188, 10, 181, 0, 63, 42, 16, 10, 188, 10, 181, 0, 66, 42, 16, 10, 188, 10, 181, 0, 69, 177]
abbrev dktX0_init_4 : List UInt8 := dkwX0_init_4 ++ []
def dkwX0_init_3 : List UInt8 := [188, 10, 181, 0, 53, 42, 16, 10, 188, 10, 181, 0, 57, 42, 16, 10, 188, 10, 181, 0, 60, 42, 16, 10]
abbrev dktX0_init_3 : List UInt8 := dkwX0_init_3 ++ dktX0_init_4
def dkwX0_init_2 : List UInt8 := [187, 0, 37, 89, 183, 0, 39, 181, 0, 47, 42, 187, 0, 37, 89, 183, 0, 39, 181, 0, 50, 42, 16, 10]
abbrev dktX0_init_2 : List UInt8 := dkwX0_init_2 ++ dktX0_init_3
def dkwX0_init_1 : List UInt8 := [42, 187, 0, 37, 89, 183, 0, 39, 181, 0, 40, 42, 187, 0, 37, 89, 183, 0, 39, 181, 0, 44, 42]
abbrev dktX0_init_1 : List UInt8 := dkwX0_init_1 ++ dktX0_init_2
def dkwX0_init_0 : List UInt8 := [42, 183, 0, 19, 42, 17, 2, 188, 188, 8, 181, 0, 26, 42, 187, 0, 30, 89, 183, 0, 32, 181, 0, 33]
abbrev dktX0_init_0 : List UInt8 := dkwX0_init_0 ++ dktX0_init_1
theorem dksX0_init_0 : cX0_init.data.toList.drop 0 = dktX0_init_0 := by decide +kernel
theorem dksX0_init_1 : cX0_init.data.toList.drop 24 = dktX0_init_1 := dk_seg dksX0_init_0 24 rfl rfl
theorem dksX0_init_2 : cX0_init.data.toList.drop 47 = dktX0_init_2 := dk_seg dksX0_init_1 23 rfl rfl
theorem dksX0_init_3 : cX0_init.data.toList.drop 71 = dktX0_init_3 := dk_seg dksX0_init_2 24 rfl rfl
theorem dksX0_init_4 : cX0_init.data.toList.drop 95 = dktX0_init_4 := dk_seg dksX0_init_3 24 rfl rfl
theorem dX0_init_0 : decode cX0_init 0 = .ok (.aload_n 0, 1) := dk_42 (dk_at dksX0_init_0 0 rfl rfl)
theorem dX0_init_1 : decode cX0_init 1 = .ok (.invokespecial 19, 3) := dk_183 0 19 (dk_at dksX0_init_0 1 rfl rfl)
theorem dX0_init_4 : decode cX0_init 4 = .ok (.aload_n 0, 1) := dk_42 (dk_at dksX0_init_0 4 rfl rfl)
theorem dX0_init_5 : decode cX0_init 5 = .ok (.sipush 700, 3) := dk_17 2 188 (dk_at dksX0_init_0 5 rfl rfl)
theorem dX0_init_8 : decode cX0_init 8 = .ok (.newarray .byte, 2) := dk_188_8 (dk_at dksX0_init_0 8 rfl rfl)
theorem dX0_init_10 : decode cX0_init 10 = .ok (.putfield 26, 3) := dk_181 0 26 (dk_at dksX0_init_0 10 rfl rfl)
theorem dX0_init_13 : decode cX0_init 13 = .ok (.aload_n 0, 1) := dk_42 (dk_at dksX0_init_0 13 rfl rfl)
theorem dX0_init_14 : decode cX0_init 14 = .ok (.new 30, 3) := dk_187 0 30 (dk_at dksX0_init_0 14 rfl rfl)
theorem dX0_init_17 : decode cX0_init 17 = .ok (.dup, 1) := dk_89 (dk_at dksX0_init_0 17 rfl rfl)
theorem dX0_init_18 : decode cX0_init 18 = .ok (.invokespecial 32, 3) := dk_183 0 32 (dk_at dksX0_init_0 18 rfl rfl)
theorem dX0_init_21 : decode cX0_init 21 = .ok (.putfield 33, 3) := dk_181 0 33 (dk_at dksX0_init_0 21 rfl rfl)
theorem dX0_init_24 : decode cX0_init 24 = .ok (.aload_n 0, 1) := dk_42 (dk_at dksX0_init_1 0 rfl rfl)
theorem dX0_init_25 : decode cX0_init 25 = .ok (.new 37, 3) := dk_187 0 37 (dk_at dksX0_init_1 1 rfl rfl)
theorem dX0_init_28 : decode cX0_init 28 = .ok (.dup, 1) := dk_89 (dk_at dksX0_init_1 4 rfl rfl)
theorem dX0_init_29 : decode cX0_init 29 = .ok (.invokespecial 39, 3) := dk_183 0 39 (dk_at dksX0_init_1 5 rfl rfl)
theorem dX0_init_32 : decode cX0_init 32 = .ok (.putfield 40, 3) := dk_181 0 40 (dk_at dksX0_init_1 8 rfl rfl)
theorem dX0_init_35 : decode cX0_init 35 = .ok (.aload_n 0, 1) := dk_42 (dk_at dksX0_init_1 11 rfl rfl)
theorem dX0_init_36 : decode cX0_init 36 = .ok (.new 37, 3) := dk_187 0 37 (dk_at dksX0_init_1 12 rfl rfl)
theorem dX0_init_39 : decode cX0_init 39 = .ok (.dup, 1) := dk_89 (dk_at dksX0_init_1 15 rfl rfl)
theorem dX0_init_40 : decode cX0_init 40 = .ok (.invokespecial 39, 3) := dk_183 0 39 (dk_at dksX0_init_1 16 rfl rfl)
theorem dX0_init_43 : decode cX0_init 43 = .ok (.putfield 44, 3) := dk_181 0 44 (dk_at dksX0_init_1 19 rfl rfl)
theorem dX0_init_46 : decode cX0_init 46 = .ok (.aload_n 0, 1) := dk_42 (dk_at dksX0_init_1 22 rfl rfl)
theorem dX0_init_47 : decode cX0_init 47 = .ok (.new 37, 3) := dk_187 0 37 (dk_at dksX0_init_2 0 rfl rfl)
theorem dX0_init_50 : decode cX0_init 50 = .ok (.dup, 1) := dk_89 (dk_at dksX0_init_2 3 rfl rfl)
theorem dX0_init_51 : decode cX0_init 51 = .ok (.invokespecial 39, 3) := dk_183 0 39 (dk_at dksX0_init_2 4 rfl rfl)
theorem dX0_init_54 : decode cX0_init 54 = .ok (.putfield 47, 3) := dk_181 0 47 (dk_at dksX0_init_2 7 rfl rfl)
theorem dX0_init_57 : decode cX0_init 57 = .ok (.aload_n 0, 1) := dk_42 (dk_at dksX0_init_2 10 rfl rfl)
theorem dX0_init_58 : decode cX0_init 58 = .ok (.new 37, 3) := dk_187 0 37 (dk_at dksX0_init_2 11 rfl rfl)
theorem dX0_init_61 : decode cX0_init 61 = .ok (.dup, 1) := dk_89 (dk_at dksX0_init_2 14 rfl rfl)
theorem dX0_init_62 : decode cX0_init 62 = .ok (.invokespecial 39, 3) := dk_183 0 39 (dk_at dksX0_init_2 15 rfl rfl)
theorem dX0_init_65 : decode cX0_init 65 = .ok (.putfield 50, 3) := dk_181 0 50 (dk_at dksX0_init_2 18 rfl rfl)
theorem dX0_init_68 : decode cX0_init 68 = .ok (.aload_n 0, 1) := dk_42 (dk_at dksX0_init_2 21 rfl rfl)
theorem dX0_init_69 : decode cX0_init 69 = .ok (.bipush 10, 2) := dk_16 10 (dk_at dksX0_init_2 22 rfl rfl)
theorem dX0_init_71 : decode cX0_init 71 = .ok (.newarray .int, 2) := dk_188_10 (dk_at dksX0_init_3 0 rfl rfl)
theorem dX0_init_73 : decode cX0_init 73 = .ok (.putfield 53, 3) := dk_181 0 53 (dk_at dksX0_init_3 2 rfl rfl)
theorem dX0_init_76 : decode cX0_init 76 = .ok (.aload_n 0, 1) := dk_42 (dk_at dksX0_init_3 5 rfl rfl)
theorem dX0_init_77 : decode cX0_init 77 = .ok (.bipush 10, 2) := dk_16 10 (dk_at dksX0_init_3 6 rfl rfl)
theorem dX0_init_79 : decode cX0_init 79 = .ok (.newarray .int, 2) := dk_188_10 (dk_at dksX0_init_3 8 rfl rfl)
theorem dX0_init_81 : decode cX0_init 81 = .ok (.putfield 57, 3) := dk_181 0 57 (dk_at dksX0_init_3 10 rfl rfl)
theorem dX0_init_84 : decode cX0_init 84 = .ok (.aload_n 0, 1) := dk_42 (dk_at dksX0_init_3 13 rfl rfl)
theorem dX0_init_85 : decode cX0_init 85 = .ok (.bipush 10, 2) := dk_16 10 (dk_at dksX0_init_3 14 rfl rfl)
theorem dX0_init_87 : decode cX0_init 87 = .ok (.newarray .int, 2) := dk_188_10 (dk_at dksX0_init_3 16 rfl rfl)
theorem dX0_init_89 : decode cX0_init 89 = .ok (.putfield 60, 3) := dk_181 0 60 (dk_at dksX0_init_3 18 rfl rfl)
theorem dX0_init_92 : decode cX0_init 92 = .ok (.aload_n 0, 1) := dk_42 (dk_at dksX0_init_3 21 rfl rfl)
theorem dX0_init_93 : decode cX0_init 93 = .ok (.bipush 10, 2) := dk_16 10 (dk_at dksX0_init_3 22 rfl rfl)
theorem dX0_init_95 : decode cX0_init 95 = .ok (.newarray .int, 2) := dk_188_10 (dk_at dksX0_init_4 0 rfl rfl)
theorem dX0_init_97 : decode cX0_init 97 = .ok (.putfield 63, 3) := dk_181 0 63 (dk_at dksX0_init_4 2 rfl rfl)
theorem dX0_init_100 : decode cX0_init 100 = .ok (.aload_n 0, 1) := dk_42 (dk_at dksX0_init_4 5 rfl rfl)
theorem dX0_init_101 : decode cX0_init 101 = .ok (.bipush 10, 2) := dk_16 10 (dk_at dksX0_init_4 6 rfl rfl)
theorem dX0_init_103 : decode cX0_init 103 = .ok (.newarray .int, 2) := dk_188_10 (dk_at dksX0_init_4 8 rfl rfl)
theorem dX0_init_105 : decode cX0_init 105 = .ok (.putfield 66, 3) := dk_181 0 66 (dk_at dksX0_init_4 10 rfl rfl)
theorem dX0_init_108 : decode cX0_init 108 = .ok (.aload_n 0, 1) := dk_42 (dk_at dksX0_init_4 13 rfl rfl)
theorem dX0_init_109 : decode cX0_init 109 = .ok (.bipush 10, 2) := dk_16 10 (dk_at dksX0_init_4 14 rfl rfl)
theorem dX0_init_111 : decode cX0_init 111 = .ok (.newarray .int, 2) := dk_188_10 (dk_at dksX0_init_4 16 rfl rfl)
theorem dX0_init_113 : decode cX0_init 113 = .ok (.putfield 69, 3) := dk_181 0 69 (dk_at dksX0_init_4 18 rfl rfl)
theorem dX0_init_116 : decode cX0_init 116 = .ok (.return_, 1) := dk_177 (dk_at dksX0_init_4 21 rfl rfl)
abbrev cX0_feed : ByteArray := prog_1_method_8_code
def yX0_feed : MethodName := ⟨RX0, "feed", "(IIIII)I"⟩
def dkwX0_feed_2 : List UInt8 := [172]
abbrev dktX0_feed_2 : List UInt8 := dkwX0_feed_2 ++ []
def dkwX0_feed_1 : List UInt8 := [182, 0, 101, 42, 29, 182, 0, 101, 42, 21, 4, 182, 0, 101, 42, 21, 5, 182, 0, 101, 42, 180, 0, 98]
abbrev dktX0_feed_1 : List UInt8 := dkwX0_feed_1 ++ dktX0_feed_2
def dkwX0_feed_0 : List UInt8 := [42, 180, 0, 98, 16, 20, 96, 17, 2, 188, 164, 0, 5, 2, 172, 42, 27, 182, 0, 101, 42, 28]
abbrev dktX0_feed_0 : List UInt8 := dkwX0_feed_0 ++ dktX0_feed_1
theorem dksX0_feed_0 : cX0_feed.data.toList.drop 0 = dktX0_feed_0 := by decide +kernel
theorem dksX0_feed_1 : cX0_feed.data.toList.drop 22 = dktX0_feed_1 := dk_seg dksX0_feed_0 22 rfl rfl
theorem dksX0_feed_2 : cX0_feed.data.toList.drop 46 = dktX0_feed_2 := dk_seg dksX0_feed_1 24 rfl rfl
theorem dX0_feed_0 : decode cX0_feed 0 = .ok (.aload_n 0, 1) := dk_42 (dk_at dksX0_feed_0 0 rfl rfl)
theorem dX0_feed_1 : decode cX0_feed 1 = .ok (.getfield 98, 3) := dk_180 0 98 (dk_at dksX0_feed_0 1 rfl rfl)
theorem dX0_feed_4 : decode cX0_feed 4 = .ok (.bipush 20, 2) := dk_16 20 (dk_at dksX0_feed_0 4 rfl rfl)
theorem dX0_feed_6 : decode cX0_feed 6 = .ok (.iadd, 1) := dk_96 (dk_at dksX0_feed_0 6 rfl rfl)
theorem dX0_feed_7 : decode cX0_feed 7 = .ok (.sipush 700, 3) := dk_17 2 188 (dk_at dksX0_feed_0 7 rfl rfl)
theorem dX0_feed_10 : decode cX0_feed 10 = .ok (.if_icmp .le 5, 3) := dk_164 0 5 (dk_at dksX0_feed_0 10 rfl rfl)
theorem dX0_feed_13 : decode cX0_feed 13 = .ok (.iconst (-1), 1) := dk_2 (dk_at dksX0_feed_0 13 rfl rfl)
theorem dX0_feed_14 : decode cX0_feed 14 = .ok (.ireturn, 1) := dk_172 (dk_at dksX0_feed_0 14 rfl rfl)
theorem dX0_feed_15 : decode cX0_feed 15 = .ok (.aload_n 0, 1) := dk_42 (dk_at dksX0_feed_0 15 rfl rfl)
theorem dX0_feed_16 : decode cX0_feed 16 = .ok (.iload_n 1, 1) := dk_27 (dk_at dksX0_feed_0 16 rfl rfl)
theorem dX0_feed_17 : decode cX0_feed 17 = .ok (.invokevirtual 101, 3) := dk_182 0 101 (dk_at dksX0_feed_0 17 rfl rfl)
theorem dX0_feed_20 : decode cX0_feed 20 = .ok (.aload_n 0, 1) := dk_42 (dk_at dksX0_feed_0 20 rfl rfl)
theorem dX0_feed_21 : decode cX0_feed 21 = .ok (.iload_n 2, 1) := dk_28 (dk_at dksX0_feed_0 21 rfl rfl)
theorem dX0_feed_22 : decode cX0_feed 22 = .ok (.invokevirtual 101, 3) := dk_182 0 101 (dk_at dksX0_feed_1 0 rfl rfl)
theorem dX0_feed_25 : decode cX0_feed 25 = .ok (.aload_n 0, 1) := dk_42 (dk_at dksX0_feed_1 3 rfl rfl)
theorem dX0_feed_26 : decode cX0_feed 26 = .ok (.iload_n 3, 1) := dk_29 (dk_at dksX0_feed_1 4 rfl rfl)
theorem dX0_feed_27 : decode cX0_feed 27 = .ok (.invokevirtual 101, 3) := dk_182 0 101 (dk_at dksX0_feed_1 5 rfl rfl)
theorem dX0_feed_30 : decode cX0_feed 30 = .ok (.aload_n 0, 1) := dk_42 (dk_at dksX0_feed_1 8 rfl rfl)
theorem dX0_feed_31 : decode cX0_feed 31 = .ok (.iload 4, 2) := dk_21 4 (dk_at dksX0_feed_1 9 rfl rfl)
theorem dX0_feed_33 : decode cX0_feed 33 = .ok (.invokevirtual 101, 3) := dk_182 0 101 (dk_at dksX0_feed_1 11 rfl rfl)
theorem dX0_feed_36 : decode cX0_feed 36 = .ok (.aload_n 0, 1) := dk_42 (dk_at dksX0_feed_1 14 rfl rfl)
theorem dX0_feed_37 : decode cX0_feed 37 = .ok (.iload 5, 2) := dk_21 5 (dk_at dksX0_feed_1 15 rfl rfl)
theorem dX0_feed_39 : decode cX0_feed 39 = .ok (.invokevirtual 101, 3) := dk_182 0 101 (dk_at dksX0_feed_1 17 rfl rfl)
theorem dX0_feed_42 : decode cX0_feed 42 = .ok (.aload_n 0, 1) := dk_42 (dk_at dksX0_feed_1 20 rfl rfl)
theorem dX0_feed_43 : decode cX0_feed 43 = .ok (.getfield 98, 3) := dk_180 0 98 (dk_at dksX0_feed_1 21 rfl rfl)
theorem dX0_feed_46 : decode cX0_feed 46 = .ok (.ireturn, 1) := dk_172 (dk_at dksX0_feed_2 0 rfl rfl)
abbrev cX0_feeds : ByteArray := prog_1_method_9_code
def yX0_feeds : MethodName := ⟨RX0, "feeds", "(I)V"⟩
def dkwX0_feeds_1 : List UInt8 := [180, 0, 98, 4, 96, 181, 0, 98, 132, 2, 248, 167, 255, 226, 177]
abbrev dktX0_feeds_1 : List UInt8 := dkwX0_feeds_1 ++ []
def dkwX0_feeds_0 : List UInt8 := [16, 24, 61, 28, 155, 0, 32, 42, 180, 0, 26, 42, 180, 0, 98, 27, 28, 122, 145, 84, 42, 89]
abbrev dktX0_feeds_0 : List UInt8 := dkwX0_feeds_0 ++ dktX0_feeds_1
theorem dksX0_feeds_0 : cX0_feeds.data.toList.drop 0 = dktX0_feeds_0 := by decide +kernel
theorem dksX0_feeds_1 : cX0_feeds.data.toList.drop 22 = dktX0_feeds_1 := dk_seg dksX0_feeds_0 22 rfl rfl
theorem dX0_feeds_0 : decode cX0_feeds 0 = .ok (.bipush 24, 2) := dk_16 24 (dk_at dksX0_feeds_0 0 rfl rfl)
theorem dX0_feeds_2 : decode cX0_feeds 2 = .ok (.istore_n 2, 1) := dk_61 (dk_at dksX0_feeds_0 2 rfl rfl)
theorem dX0_feeds_3 : decode cX0_feeds 3 = .ok (.iload_n 2, 1) := dk_28 (dk_at dksX0_feeds_0 3 rfl rfl)
theorem dX0_feeds_4 : decode cX0_feeds 4 = .ok (.ifCond .lt 32, 3) := dk_155 0 32 (dk_at dksX0_feeds_0 4 rfl rfl)
theorem dX0_feeds_7 : decode cX0_feeds 7 = .ok (.aload_n 0, 1) := dk_42 (dk_at dksX0_feeds_0 7 rfl rfl)
theorem dX0_feeds_8 : decode cX0_feeds 8 = .ok (.getfield 26, 3) := dk_180 0 26 (dk_at dksX0_feeds_0 8 rfl rfl)
theorem dX0_feeds_11 : decode cX0_feeds 11 = .ok (.aload_n 0, 1) := dk_42 (dk_at dksX0_feeds_0 11 rfl rfl)
theorem dX0_feeds_12 : decode cX0_feeds 12 = .ok (.getfield 98, 3) := dk_180 0 98 (dk_at dksX0_feeds_0 12 rfl rfl)
theorem dX0_feeds_15 : decode cX0_feeds 15 = .ok (.iload_n 1, 1) := dk_27 (dk_at dksX0_feeds_0 15 rfl rfl)
theorem dX0_feeds_16 : decode cX0_feeds 16 = .ok (.iload_n 2, 1) := dk_28 (dk_at dksX0_feeds_0 16 rfl rfl)
theorem dX0_feeds_17 : decode cX0_feeds 17 = .ok (.ishr, 1) := dk_122 (dk_at dksX0_feeds_0 17 rfl rfl)
theorem dX0_feeds_18 : decode cX0_feeds 18 = .ok (.i2b, 1) := dk_145 (dk_at dksX0_feeds_0 18 rfl rfl)
theorem dX0_feeds_19 : decode cX0_feeds 19 = .ok (.bastore, 1) := dk_84 (dk_at dksX0_feeds_0 19 rfl rfl)
theorem dX0_feeds_20 : decode cX0_feeds 20 = .ok (.aload_n 0, 1) := dk_42 (dk_at dksX0_feeds_0 20 rfl rfl)
theorem dX0_feeds_21 : decode cX0_feeds 21 = .ok (.dup, 1) := dk_89 (dk_at dksX0_feeds_0 21 rfl rfl)
theorem dX0_feeds_22 : decode cX0_feeds 22 = .ok (.getfield 98, 3) := dk_180 0 98 (dk_at dksX0_feeds_1 0 rfl rfl)
theorem dX0_feeds_25 : decode cX0_feeds 25 = .ok (.iconst 1, 1) := dk_4 (dk_at dksX0_feeds_1 3 rfl rfl)
theorem dX0_feeds_26 : decode cX0_feeds 26 = .ok (.iadd, 1) := dk_96 (dk_at dksX0_feeds_1 4 rfl rfl)
theorem dX0_feeds_27 : decode cX0_feeds 27 = .ok (.putfield 98, 3) := dk_181 0 98 (dk_at dksX0_feeds_1 5 rfl rfl)
theorem dX0_feeds_30 : decode cX0_feeds 30 = .ok (.iinc 2 (-8), 3) := dk_132 2 248 (dk_at dksX0_feeds_1 8 rfl rfl)
theorem dX0_feeds_33 : decode cX0_feeds 33 = .ok (.goto (-30), 3) := dk_167 255 226 (dk_at dksX0_feeds_1 11 rfl rfl)
theorem dX0_feeds_36 : decode cX0_feeds 36 = .ok (.return_, 1) := dk_177 (dk_at dksX0_feeds_1 14 rfl rfl)
abbrev cX0_end : ByteArray := prog_1_method_10_code
def yX0_end : MethodName := ⟨RX0, "end", "(I)Z"⟩
def dkwX0_end_0 : List UInt8 := [27, 3, 42, 180, 0, 98, 184, 0, 76, 154, 0, 5, 3, 172, 42, 27, 181, 0, 98, 4, 172]
abbrev dktX0_end_0 : List UInt8 := dkwX0_end_0 ++ []
theorem dksX0_end_0 : cX0_end.data.toList.drop 0 = dktX0_end_0 := by decide +kernel
theorem dX0_end_0 : decode cX0_end 0 = .ok (.iload_n 1, 1) := dk_27 (dk_at dksX0_end_0 0 rfl rfl)
theorem dX0_end_1 : decode cX0_end 1 = .ok (.iconst 0, 1) := dk_3 (dk_at dksX0_end_0 1 rfl rfl)
theorem dX0_end_2 : decode cX0_end 2 = .ok (.aload_n 0, 1) := dk_42 (dk_at dksX0_end_0 2 rfl rfl)
theorem dX0_end_3 : decode cX0_end 3 = .ok (.getfield 98, 3) := dk_180 0 98 (dk_at dksX0_end_0 3 rfl rfl)
theorem dX0_end_6 : decode cX0_end 6 = .ok (.invokestatic 76, 3) := dk_184 0 76 (dk_at dksX0_end_0 6 rfl rfl)
theorem dX0_end_9 : decode cX0_end 9 = .ok (.ifCond .ne 5, 3) := dk_154 0 5 (dk_at dksX0_end_0 9 rfl rfl)
theorem dX0_end_12 : decode cX0_end 12 = .ok (.iconst 0, 1) := dk_3 (dk_at dksX0_end_0 12 rfl rfl)
theorem dX0_end_13 : decode cX0_end 13 = .ok (.ireturn, 1) := dk_172 (dk_at dksX0_end_0 13 rfl rfl)
theorem dX0_end_14 : decode cX0_end 14 = .ok (.aload_n 0, 1) := dk_42 (dk_at dksX0_end_0 14 rfl rfl)
theorem dX0_end_15 : decode cX0_end 15 = .ok (.iload_n 1, 1) := dk_27 (dk_at dksX0_end_0 15 rfl rfl)
theorem dX0_end_16 : decode cX0_end 16 = .ok (.putfield 98, 3) := dk_181 0 98 (dk_at dksX0_end_0 16 rfl rfl)
theorem dX0_end_19 : decode cX0_end 19 = .ok (.iconst 1, 1) := dk_4 (dk_at dksX0_end_0 19 rfl rfl)
theorem dX0_end_20 : decode cX0_end 20 = .ok (.ireturn, 1) := dk_172 (dk_at dksX0_end_0 20 rfl rfl)
abbrev cX0_in : ByteArray := prog_1_method_1_code
def yX0_in : MethodName := ⟨RX0, "in", "(III)Z"⟩
def dkwX0_in_0 : List UInt8 := [26, 27, 161, 0, 12, 26, 28, 163, 0, 7, 4, 167, 0, 4, 3, 172]
abbrev dktX0_in_0 : List UInt8 := dkwX0_in_0 ++ []
theorem dksX0_in_0 : cX0_in.data.toList.drop 0 = dktX0_in_0 := by decide +kernel
theorem dX0_in_0 : decode cX0_in 0 = .ok (.iload_n 0, 1) := dk_26 (dk_at dksX0_in_0 0 rfl rfl)
theorem dX0_in_1 : decode cX0_in 1 = .ok (.iload_n 1, 1) := dk_27 (dk_at dksX0_in_0 1 rfl rfl)
theorem dX0_in_2 : decode cX0_in 2 = .ok (.if_icmp .lt 12, 3) := dk_161 0 12 (dk_at dksX0_in_0 2 rfl rfl)
theorem dX0_in_5 : decode cX0_in 5 = .ok (.iload_n 0, 1) := dk_26 (dk_at dksX0_in_0 5 rfl rfl)
theorem dX0_in_6 : decode cX0_in 6 = .ok (.iload_n 2, 1) := dk_28 (dk_at dksX0_in_0 6 rfl rfl)
theorem dX0_in_7 : decode cX0_in 7 = .ok (.if_icmp .gt 7, 3) := dk_163 0 7 (dk_at dksX0_in_0 7 rfl rfl)
theorem dX0_in_10 : decode cX0_in 10 = .ok (.iconst 1, 1) := dk_4 (dk_at dksX0_in_0 10 rfl rfl)
theorem dX0_in_11 : decode cX0_in 11 = .ok (.goto 4, 3) := dk_167 0 4 (dk_at dksX0_in_0 11 rfl rfl)
theorem dX0_in_14 : decode cX0_in 14 = .ok (.iconst 0, 1) := dk_3 (dk_at dksX0_in_0 14 rfl rfl)
theorem dX0_in_15 : decode cX0_in 15 = .ok (.ireturn, 1) := dk_172 (dk_at dksX0_in_0 15 rfl rfl)
abbrev cX0_fault : ByteArray := prog_1_method_11_code
def yX0_fault : MethodName := ⟨RX0, "fault", "()I"⟩
def dkwX0_fault_0 : List UInt8 := [42, 180, 0, 33, 42, 180, 0, 26, 42, 180, 0, 98, 182, 0, 104, 2, 172, 76, 43, 180, 0, 110, 172]
abbrev dktX0_fault_0 : List UInt8 := dkwX0_fault_0 ++ []
theorem dksX0_fault_0 : cX0_fault.data.toList.drop 0 = dktX0_fault_0 := by decide +kernel
theorem dX0_fault_0 : decode cX0_fault 0 = .ok (.aload_n 0, 1) := dk_42 (dk_at dksX0_fault_0 0 rfl rfl)
theorem dX0_fault_1 : decode cX0_fault 1 = .ok (.getfield 33, 3) := dk_180 0 33 (dk_at dksX0_fault_0 1 rfl rfl)
theorem dX0_fault_4 : decode cX0_fault 4 = .ok (.aload_n 0, 1) := dk_42 (dk_at dksX0_fault_0 4 rfl rfl)
theorem dX0_fault_5 : decode cX0_fault 5 = .ok (.getfield 26, 3) := dk_180 0 26 (dk_at dksX0_fault_0 5 rfl rfl)
theorem dX0_fault_8 : decode cX0_fault 8 = .ok (.aload_n 0, 1) := dk_42 (dk_at dksX0_fault_0 8 rfl rfl)
theorem dX0_fault_9 : decode cX0_fault 9 = .ok (.getfield 98, 3) := dk_180 0 98 (dk_at dksX0_fault_0 9 rfl rfl)
theorem dX0_fault_12 : decode cX0_fault 12 = .ok (.invokevirtual 104, 3) := dk_182 0 104 (dk_at dksX0_fault_0 12 rfl rfl)
theorem dX0_fault_15 : decode cX0_fault 15 = .ok (.iconst (-1), 1) := dk_2 (dk_at dksX0_fault_0 15 rfl rfl)
theorem dX0_fault_16 : decode cX0_fault 16 = .ok (.ireturn, 1) := dk_172 (dk_at dksX0_fault_0 16 rfl rfl)
theorem dX0_fault_17 : decode cX0_fault 17 = .ok (.astore_n 1, 1) := dk_76 (dk_at dksX0_fault_0 17 rfl rfl)
theorem dX0_fault_18 : decode cX0_fault 18 = .ok (.aload_n 1, 1) := dk_43 (dk_at dksX0_fault_0 18 rfl rfl)
theorem dX0_fault_19 : decode cX0_fault 19 = .ok (.getfield 110, 3) := dk_180 0 110 (dk_at dksX0_fault_0 19 rfl rfl)
theorem dX0_fault_22 : decode cX0_fault 22 = .ok (.ireturn, 1) := dk_172 (dk_at dksX0_fault_0 22 rfl rfl)
abbrev cX0_court : ByteArray := prog_1_method_12_code
def yX0_court : MethodName := ⟨RX0, "court", "()I"⟩
def dkwX0_court_7 : List UInt8 := [181, 0, 98, 42, 180, 0, 40, 182, 0, 72, 172]
abbrev dktX0_court_7 : List UInt8 := dkwX0_court_7 ++ []
def dkwX0_court_6 : List UInt8 := [180, 0, 123, 27, 182, 0, 80, 192, 0, 86, 182, 0, 94, 87, 132, 1, 1, 167, 255, 217, 42, 3]
abbrev dktX0_court_6 : List UInt8 := dkwX0_court_6 ++ dktX0_court_7
def dkwX0_court_5 : List UInt8 := [60, 27, 42, 180, 0, 33, 180, 0, 123, 182, 0, 72, 162, 0, 31, 42, 180, 0, 47, 42, 180, 0, 33]
abbrev dktX0_court_5 : List UInt8 := dkwX0_court_5 ++ dktX0_court_6
def dkwX0_court_4 : List UInt8 := [180, 0, 33, 180, 0, 120, 27, 182, 0, 80, 192, 0, 121, 182, 0, 94, 87, 132, 1, 1, 167, 255, 217, 3]
abbrev dktX0_court_4 : List UInt8 := dkwX0_court_4 ++ dktX0_court_5
def dkwX0_court_3 : List UInt8 := [167, 255, 217, 3, 60, 27, 42, 180, 0, 33, 180, 0, 120, 182, 0, 72, 162, 0, 31, 42, 180, 0, 44, 42]
abbrev dktX0_court_3 : List UInt8 := dkwX0_court_3 ++ dktX0_court_4
def dkwX0_court_2 : List UInt8 := [180, 0, 40, 42, 180, 0, 33, 180, 0, 119, 27, 182, 0, 80, 192, 0, 84, 182, 0, 94, 87, 132, 1, 1]
abbrev dktX0_court_2 : List UInt8 := dkwX0_court_2 ++ dktX0_court_3
def dkwX0_court_1 : List UInt8 := [42, 180, 0, 47, 182, 0, 116, 3, 60, 27, 42, 180, 0, 33, 180, 0, 119, 182, 0, 72, 162, 0, 31, 42]
abbrev dktX0_court_1 : List UInt8 := dkwX0_court_1 ++ dktX0_court_2
def dkwX0_court_0 : List UInt8 := [42, 182, 0, 113, 2, 159, 0, 5, 2, 172, 42, 180, 0, 40, 182, 0, 116, 42, 180, 0, 44, 182, 0, 116]
abbrev dktX0_court_0 : List UInt8 := dkwX0_court_0 ++ dktX0_court_1
theorem dksX0_court_0 : cX0_court.data.toList.drop 0 = dktX0_court_0 := by decide +kernel
theorem dksX0_court_1 : cX0_court.data.toList.drop 24 = dktX0_court_1 := dk_seg dksX0_court_0 24 rfl rfl
theorem dksX0_court_2 : cX0_court.data.toList.drop 48 = dktX0_court_2 := dk_seg dksX0_court_1 24 rfl rfl
theorem dksX0_court_3 : cX0_court.data.toList.drop 72 = dktX0_court_3 := dk_seg dksX0_court_2 24 rfl rfl
theorem dksX0_court_4 : cX0_court.data.toList.drop 96 = dktX0_court_4 := dk_seg dksX0_court_3 24 rfl rfl
theorem dksX0_court_5 : cX0_court.data.toList.drop 120 = dktX0_court_5 := dk_seg dksX0_court_4 24 rfl rfl
theorem dksX0_court_6 : cX0_court.data.toList.drop 143 = dktX0_court_6 := dk_seg dksX0_court_5 23 rfl rfl
theorem dksX0_court_7 : cX0_court.data.toList.drop 165 = dktX0_court_7 := dk_seg dksX0_court_6 22 rfl rfl
theorem dX0_court_0 : decode cX0_court 0 = .ok (.aload_n 0, 1) := dk_42 (dk_at dksX0_court_0 0 rfl rfl)
theorem dX0_court_1 : decode cX0_court 1 = .ok (.invokevirtual 113, 3) := dk_182 0 113 (dk_at dksX0_court_0 1 rfl rfl)
theorem dX0_court_4 : decode cX0_court 4 = .ok (.iconst (-1), 1) := dk_2 (dk_at dksX0_court_0 4 rfl rfl)
theorem dX0_court_5 : decode cX0_court 5 = .ok (.if_icmp .eq 5, 3) := dk_159 0 5 (dk_at dksX0_court_0 5 rfl rfl)
theorem dX0_court_8 : decode cX0_court 8 = .ok (.iconst (-1), 1) := dk_2 (dk_at dksX0_court_0 8 rfl rfl)
theorem dX0_court_9 : decode cX0_court 9 = .ok (.ireturn, 1) := dk_172 (dk_at dksX0_court_0 9 rfl rfl)
theorem dX0_court_10 : decode cX0_court 10 = .ok (.aload_n 0, 1) := dk_42 (dk_at dksX0_court_0 10 rfl rfl)
theorem dX0_court_11 : decode cX0_court 11 = .ok (.getfield 40, 3) := dk_180 0 40 (dk_at dksX0_court_0 11 rfl rfl)
theorem dX0_court_14 : decode cX0_court 14 = .ok (.invokevirtual 116, 3) := dk_182 0 116 (dk_at dksX0_court_0 14 rfl rfl)
theorem dX0_court_17 : decode cX0_court 17 = .ok (.aload_n 0, 1) := dk_42 (dk_at dksX0_court_0 17 rfl rfl)
theorem dX0_court_18 : decode cX0_court 18 = .ok (.getfield 44, 3) := dk_180 0 44 (dk_at dksX0_court_0 18 rfl rfl)
theorem dX0_court_21 : decode cX0_court 21 = .ok (.invokevirtual 116, 3) := dk_182 0 116 (dk_at dksX0_court_0 21 rfl rfl)
theorem dX0_court_24 : decode cX0_court 24 = .ok (.aload_n 0, 1) := dk_42 (dk_at dksX0_court_1 0 rfl rfl)
theorem dX0_court_25 : decode cX0_court 25 = .ok (.getfield 47, 3) := dk_180 0 47 (dk_at dksX0_court_1 1 rfl rfl)
theorem dX0_court_28 : decode cX0_court 28 = .ok (.invokevirtual 116, 3) := dk_182 0 116 (dk_at dksX0_court_1 4 rfl rfl)
theorem dX0_court_31 : decode cX0_court 31 = .ok (.iconst 0, 1) := dk_3 (dk_at dksX0_court_1 7 rfl rfl)
theorem dX0_court_32 : decode cX0_court 32 = .ok (.istore_n 1, 1) := dk_60 (dk_at dksX0_court_1 8 rfl rfl)
theorem dX0_court_33 : decode cX0_court 33 = .ok (.iload_n 1, 1) := dk_27 (dk_at dksX0_court_1 9 rfl rfl)
theorem dX0_court_34 : decode cX0_court 34 = .ok (.aload_n 0, 1) := dk_42 (dk_at dksX0_court_1 10 rfl rfl)
theorem dX0_court_35 : decode cX0_court 35 = .ok (.getfield 33, 3) := dk_180 0 33 (dk_at dksX0_court_1 11 rfl rfl)
theorem dX0_court_38 : decode cX0_court 38 = .ok (.getfield 119, 3) := dk_180 0 119 (dk_at dksX0_court_1 14 rfl rfl)
theorem dX0_court_41 : decode cX0_court 41 = .ok (.invokevirtual 72, 3) := dk_182 0 72 (dk_at dksX0_court_1 17 rfl rfl)
theorem dX0_court_44 : decode cX0_court 44 = .ok (.if_icmp .ge 31, 3) := dk_162 0 31 (dk_at dksX0_court_1 20 rfl rfl)
theorem dX0_court_47 : decode cX0_court 47 = .ok (.aload_n 0, 1) := dk_42 (dk_at dksX0_court_1 23 rfl rfl)
theorem dX0_court_48 : decode cX0_court 48 = .ok (.getfield 40, 3) := dk_180 0 40 (dk_at dksX0_court_2 0 rfl rfl)
theorem dX0_court_51 : decode cX0_court 51 = .ok (.aload_n 0, 1) := dk_42 (dk_at dksX0_court_2 3 rfl rfl)
theorem dX0_court_52 : decode cX0_court 52 = .ok (.getfield 33, 3) := dk_180 0 33 (dk_at dksX0_court_2 4 rfl rfl)
theorem dX0_court_55 : decode cX0_court 55 = .ok (.getfield 119, 3) := dk_180 0 119 (dk_at dksX0_court_2 7 rfl rfl)
theorem dX0_court_58 : decode cX0_court 58 = .ok (.iload_n 1, 1) := dk_27 (dk_at dksX0_court_2 10 rfl rfl)
theorem dX0_court_59 : decode cX0_court 59 = .ok (.invokevirtual 80, 3) := dk_182 0 80 (dk_at dksX0_court_2 11 rfl rfl)
theorem dX0_court_62 : decode cX0_court 62 = .ok (.checkcast 84, 3) := dk_192 0 84 (dk_at dksX0_court_2 14 rfl rfl)
theorem dX0_court_65 : decode cX0_court 65 = .ok (.invokevirtual 94, 3) := dk_182 0 94 (dk_at dksX0_court_2 17 rfl rfl)
theorem dX0_court_68 : decode cX0_court 68 = .ok (.pop, 1) := dk_87 (dk_at dksX0_court_2 20 rfl rfl)
theorem dX0_court_69 : decode cX0_court 69 = .ok (.iinc 1 1, 3) := dk_132 1 1 (dk_at dksX0_court_2 21 rfl rfl)
theorem dX0_court_72 : decode cX0_court 72 = .ok (.goto (-39), 3) := dk_167 255 217 (dk_at dksX0_court_3 0 rfl rfl)
theorem dX0_court_75 : decode cX0_court 75 = .ok (.iconst 0, 1) := dk_3 (dk_at dksX0_court_3 3 rfl rfl)
theorem dX0_court_76 : decode cX0_court 76 = .ok (.istore_n 1, 1) := dk_60 (dk_at dksX0_court_3 4 rfl rfl)
theorem dX0_court_77 : decode cX0_court 77 = .ok (.iload_n 1, 1) := dk_27 (dk_at dksX0_court_3 5 rfl rfl)
theorem dX0_court_78 : decode cX0_court 78 = .ok (.aload_n 0, 1) := dk_42 (dk_at dksX0_court_3 6 rfl rfl)
theorem dX0_court_79 : decode cX0_court 79 = .ok (.getfield 33, 3) := dk_180 0 33 (dk_at dksX0_court_3 7 rfl rfl)
theorem dX0_court_82 : decode cX0_court 82 = .ok (.getfield 120, 3) := dk_180 0 120 (dk_at dksX0_court_3 10 rfl rfl)
theorem dX0_court_85 : decode cX0_court 85 = .ok (.invokevirtual 72, 3) := dk_182 0 72 (dk_at dksX0_court_3 13 rfl rfl)
theorem dX0_court_88 : decode cX0_court 88 = .ok (.if_icmp .ge 31, 3) := dk_162 0 31 (dk_at dksX0_court_3 16 rfl rfl)
theorem dX0_court_91 : decode cX0_court 91 = .ok (.aload_n 0, 1) := dk_42 (dk_at dksX0_court_3 19 rfl rfl)
theorem dX0_court_92 : decode cX0_court 92 = .ok (.getfield 44, 3) := dk_180 0 44 (dk_at dksX0_court_3 20 rfl rfl)
theorem dX0_court_95 : decode cX0_court 95 = .ok (.aload_n 0, 1) := dk_42 (dk_at dksX0_court_3 23 rfl rfl)
theorem dX0_court_96 : decode cX0_court 96 = .ok (.getfield 33, 3) := dk_180 0 33 (dk_at dksX0_court_4 0 rfl rfl)
theorem dX0_court_99 : decode cX0_court 99 = .ok (.getfield 120, 3) := dk_180 0 120 (dk_at dksX0_court_4 3 rfl rfl)
theorem dX0_court_102 : decode cX0_court 102 = .ok (.iload_n 1, 1) := dk_27 (dk_at dksX0_court_4 6 rfl rfl)
theorem dX0_court_103 : decode cX0_court 103 = .ok (.invokevirtual 80, 3) := dk_182 0 80 (dk_at dksX0_court_4 7 rfl rfl)
theorem dX0_court_106 : decode cX0_court 106 = .ok (.checkcast 121, 3) := dk_192 0 121 (dk_at dksX0_court_4 10 rfl rfl)
theorem dX0_court_109 : decode cX0_court 109 = .ok (.invokevirtual 94, 3) := dk_182 0 94 (dk_at dksX0_court_4 13 rfl rfl)
theorem dX0_court_112 : decode cX0_court 112 = .ok (.pop, 1) := dk_87 (dk_at dksX0_court_4 16 rfl rfl)
theorem dX0_court_113 : decode cX0_court 113 = .ok (.iinc 1 1, 3) := dk_132 1 1 (dk_at dksX0_court_4 17 rfl rfl)
theorem dX0_court_116 : decode cX0_court 116 = .ok (.goto (-39), 3) := dk_167 255 217 (dk_at dksX0_court_4 20 rfl rfl)
theorem dX0_court_119 : decode cX0_court 119 = .ok (.iconst 0, 1) := dk_3 (dk_at dksX0_court_4 23 rfl rfl)
theorem dX0_court_120 : decode cX0_court 120 = .ok (.istore_n 1, 1) := dk_60 (dk_at dksX0_court_5 0 rfl rfl)
theorem dX0_court_121 : decode cX0_court 121 = .ok (.iload_n 1, 1) := dk_27 (dk_at dksX0_court_5 1 rfl rfl)
theorem dX0_court_122 : decode cX0_court 122 = .ok (.aload_n 0, 1) := dk_42 (dk_at dksX0_court_5 2 rfl rfl)
theorem dX0_court_123 : decode cX0_court 123 = .ok (.getfield 33, 3) := dk_180 0 33 (dk_at dksX0_court_5 3 rfl rfl)
theorem dX0_court_126 : decode cX0_court 126 = .ok (.getfield 123, 3) := dk_180 0 123 (dk_at dksX0_court_5 6 rfl rfl)
theorem dX0_court_129 : decode cX0_court 129 = .ok (.invokevirtual 72, 3) := dk_182 0 72 (dk_at dksX0_court_5 9 rfl rfl)
theorem dX0_court_132 : decode cX0_court 132 = .ok (.if_icmp .ge 31, 3) := dk_162 0 31 (dk_at dksX0_court_5 12 rfl rfl)
theorem dX0_court_135 : decode cX0_court 135 = .ok (.aload_n 0, 1) := dk_42 (dk_at dksX0_court_5 15 rfl rfl)
theorem dX0_court_136 : decode cX0_court 136 = .ok (.getfield 47, 3) := dk_180 0 47 (dk_at dksX0_court_5 16 rfl rfl)
theorem dX0_court_139 : decode cX0_court 139 = .ok (.aload_n 0, 1) := dk_42 (dk_at dksX0_court_5 19 rfl rfl)
theorem dX0_court_140 : decode cX0_court 140 = .ok (.getfield 33, 3) := dk_180 0 33 (dk_at dksX0_court_5 20 rfl rfl)
theorem dX0_court_143 : decode cX0_court 143 = .ok (.getfield 123, 3) := dk_180 0 123 (dk_at dksX0_court_6 0 rfl rfl)
theorem dX0_court_146 : decode cX0_court 146 = .ok (.iload_n 1, 1) := dk_27 (dk_at dksX0_court_6 3 rfl rfl)
theorem dX0_court_147 : decode cX0_court 147 = .ok (.invokevirtual 80, 3) := dk_182 0 80 (dk_at dksX0_court_6 4 rfl rfl)
theorem dX0_court_150 : decode cX0_court 150 = .ok (.checkcast 86, 3) := dk_192 0 86 (dk_at dksX0_court_6 7 rfl rfl)
theorem dX0_court_153 : decode cX0_court 153 = .ok (.invokevirtual 94, 3) := dk_182 0 94 (dk_at dksX0_court_6 10 rfl rfl)
theorem dX0_court_156 : decode cX0_court 156 = .ok (.pop, 1) := dk_87 (dk_at dksX0_court_6 13 rfl rfl)
theorem dX0_court_157 : decode cX0_court 157 = .ok (.iinc 1 1, 3) := dk_132 1 1 (dk_at dksX0_court_6 14 rfl rfl)
theorem dX0_court_160 : decode cX0_court 160 = .ok (.goto (-39), 3) := dk_167 255 217 (dk_at dksX0_court_6 17 rfl rfl)
theorem dX0_court_163 : decode cX0_court 163 = .ok (.aload_n 0, 1) := dk_42 (dk_at dksX0_court_6 20 rfl rfl)
theorem dX0_court_164 : decode cX0_court 164 = .ok (.iconst 0, 1) := dk_3 (dk_at dksX0_court_6 21 rfl rfl)
theorem dX0_court_165 : decode cX0_court 165 = .ok (.putfield 98, 3) := dk_181 0 98 (dk_at dksX0_court_7 0 rfl rfl)
theorem dX0_court_168 : decode cX0_court 168 = .ok (.aload_n 0, 1) := dk_42 (dk_at dksX0_court_7 3 rfl rfl)
theorem dX0_court_169 : decode cX0_court 169 = .ok (.getfield 40, 3) := dk_180 0 40 (dk_at dksX0_court_7 4 rfl rfl)
theorem dX0_court_172 : decode cX0_court 172 = .ok (.invokevirtual 72, 3) := dk_182 0 72 (dk_at dksX0_court_7 7 rfl rfl)
theorem dX0_court_175 : decode cX0_court 175 = .ok (.ireturn, 1) := dk_172 (dk_at dksX0_court_7 10 rfl rfl)
abbrev cX0_room : ByteArray := prog_1_method_13_code
def yX0_room : MethodName := ⟨RX0, "room", "(II)I"⟩
def dkwX0_room_2 : List UInt8 := [180, 0, 50, 182, 0, 72, 4, 100, 172]
abbrev dktX0_room_2 : List UInt8 := dkwX0_room_2 ++ []
def dkwX0_room_1 : List UInt8 := [182, 0, 72, 7, 160, 0, 5, 2, 172, 42, 180, 0, 50, 27, 28, 184, 0, 124, 182, 0, 94, 87, 42]
abbrev dktX0_room_1 : List UInt8 := dkwX0_room_1 ++ dktX0_room_2
def dkwX0_room_0 : List UInt8 := [27, 3, 7, 184, 0, 76, 153, 0, 24, 28, 4, 16, 10, 184, 0, 76, 153, 0, 14, 42, 180, 0, 50]
abbrev dktX0_room_0 : List UInt8 := dkwX0_room_0 ++ dktX0_room_1
theorem dksX0_room_0 : cX0_room.data.toList.drop 0 = dktX0_room_0 := by decide +kernel
theorem dksX0_room_1 : cX0_room.data.toList.drop 23 = dktX0_room_1 := dk_seg dksX0_room_0 23 rfl rfl
theorem dksX0_room_2 : cX0_room.data.toList.drop 46 = dktX0_room_2 := dk_seg dksX0_room_1 23 rfl rfl
theorem dX0_room_0 : decode cX0_room 0 = .ok (.iload_n 1, 1) := dk_27 (dk_at dksX0_room_0 0 rfl rfl)
theorem dX0_room_1 : decode cX0_room 1 = .ok (.iconst 0, 1) := dk_3 (dk_at dksX0_room_0 1 rfl rfl)
theorem dX0_room_2 : decode cX0_room 2 = .ok (.iconst 4, 1) := dk_7 (dk_at dksX0_room_0 2 rfl rfl)
theorem dX0_room_3 : decode cX0_room 3 = .ok (.invokestatic 76, 3) := dk_184 0 76 (dk_at dksX0_room_0 3 rfl rfl)
theorem dX0_room_6 : decode cX0_room 6 = .ok (.ifCond .eq 24, 3) := dk_153 0 24 (dk_at dksX0_room_0 6 rfl rfl)
theorem dX0_room_9 : decode cX0_room 9 = .ok (.iload_n 2, 1) := dk_28 (dk_at dksX0_room_0 9 rfl rfl)
theorem dX0_room_10 : decode cX0_room 10 = .ok (.iconst 1, 1) := dk_4 (dk_at dksX0_room_0 10 rfl rfl)
theorem dX0_room_11 : decode cX0_room 11 = .ok (.bipush 10, 2) := dk_16 10 (dk_at dksX0_room_0 11 rfl rfl)
theorem dX0_room_13 : decode cX0_room 13 = .ok (.invokestatic 76, 3) := dk_184 0 76 (dk_at dksX0_room_0 13 rfl rfl)
theorem dX0_room_16 : decode cX0_room 16 = .ok (.ifCond .eq 14, 3) := dk_153 0 14 (dk_at dksX0_room_0 16 rfl rfl)
theorem dX0_room_19 : decode cX0_room 19 = .ok (.aload_n 0, 1) := dk_42 (dk_at dksX0_room_0 19 rfl rfl)
theorem dX0_room_20 : decode cX0_room 20 = .ok (.getfield 50, 3) := dk_180 0 50 (dk_at dksX0_room_0 20 rfl rfl)
theorem dX0_room_23 : decode cX0_room 23 = .ok (.invokevirtual 72, 3) := dk_182 0 72 (dk_at dksX0_room_1 0 rfl rfl)
theorem dX0_room_26 : decode cX0_room 26 = .ok (.iconst 4, 1) := dk_7 (dk_at dksX0_room_1 3 rfl rfl)
theorem dX0_room_27 : decode cX0_room 27 = .ok (.if_icmp .ne 5, 3) := dk_160 0 5 (dk_at dksX0_room_1 4 rfl rfl)
theorem dX0_room_30 : decode cX0_room 30 = .ok (.iconst (-1), 1) := dk_2 (dk_at dksX0_room_1 7 rfl rfl)
theorem dX0_room_31 : decode cX0_room 31 = .ok (.ireturn, 1) := dk_172 (dk_at dksX0_room_1 8 rfl rfl)
theorem dX0_room_32 : decode cX0_room 32 = .ok (.aload_n 0, 1) := dk_42 (dk_at dksX0_room_1 9 rfl rfl)
theorem dX0_room_33 : decode cX0_room 33 = .ok (.getfield 50, 3) := dk_180 0 50 (dk_at dksX0_room_1 10 rfl rfl)
theorem dX0_room_36 : decode cX0_room 36 = .ok (.iload_n 1, 1) := dk_27 (dk_at dksX0_room_1 13 rfl rfl)
theorem dX0_room_37 : decode cX0_room 37 = .ok (.iload_n 2, 1) := dk_28 (dk_at dksX0_room_1 14 rfl rfl)
theorem dX0_room_38 : decode cX0_room 38 = .ok (.invokestatic 124, 3) := dk_184 0 124 (dk_at dksX0_room_1 15 rfl rfl)
theorem dX0_room_41 : decode cX0_room 41 = .ok (.invokevirtual 94, 3) := dk_182 0 94 (dk_at dksX0_room_1 18 rfl rfl)
theorem dX0_room_44 : decode cX0_room 44 = .ok (.pop, 1) := dk_87 (dk_at dksX0_room_1 21 rfl rfl)
theorem dX0_room_45 : decode cX0_room 45 = .ok (.aload_n 0, 1) := dk_42 (dk_at dksX0_room_1 22 rfl rfl)
theorem dX0_room_46 : decode cX0_room 46 = .ok (.getfield 50, 3) := dk_180 0 50 (dk_at dksX0_room_2 0 rfl rfl)
theorem dX0_room_49 : decode cX0_room 49 = .ok (.invokevirtual 72, 3) := dk_182 0 72 (dk_at dksX0_room_2 3 rfl rfl)
theorem dX0_room_52 : decode cX0_room 52 = .ok (.iconst 1, 1) := dk_4 (dk_at dksX0_room_2 6 rfl rfl)
theorem dX0_room_53 : decode cX0_room 53 = .ok (.isub, 1) := dk_100 (dk_at dksX0_room_2 7 rfl rfl)
theorem dX0_room_54 : decode cX0_room 54 = .ok (.ireturn, 1) := dk_172 (dk_at dksX0_room_2 8 rfl rfl)
abbrev cX0_madeRoom : ByteArray := prog_1_method_2_code
def yX0_madeRoom : MethodName := ⟨RX0, "madeRoom", "(II)LFirstIn$Room;"⟩
def dkwX0_madeRoom_3 : List UInt8 := [183, 0, 12, 176, 187, 0, 13, 89, 27, 183, 0, 15, 176, 187, 0, 16, 89, 27, 183, 0, 18, 176]
abbrev dktX0_madeRoom_3 : List UInt8 := dkwX0_madeRoom_3 ++ []
def dkwX0_madeRoom_2 : List UInt8 := [187, 0, 1, 89, 27, 183, 0, 3, 176, 187, 0, 7, 89, 27, 183, 0, 9, 176, 187, 0, 10, 89, 27]
abbrev dktX0_madeRoom_2 : List UInt8 := dkwX0_madeRoom_2 ++ dktX0_madeRoom_3
def dkwX0_madeRoom_1 : List UInt8 := [170, 0, 0, 0, 0, 0, 67, 0, 0, 0, 0, 0, 0, 0, 3, 0, 0, 0, 31, 0, 0, 0, 40, 0, 0, 0, 49, 0, 0, 0, 58]
abbrev dktX0_madeRoom_1 : List UInt8 := dkwX0_madeRoom_1 ++ dktX0_madeRoom_2
def dkwX0_madeRoom_0 : List UInt8 := [26]
abbrev dktX0_madeRoom_0 : List UInt8 := dkwX0_madeRoom_0 ++ dktX0_madeRoom_1
theorem dksX0_madeRoom_0 : cX0_madeRoom.data.toList.drop 0 = dktX0_madeRoom_0 := by decide +kernel
theorem dksX0_madeRoom_1 : cX0_madeRoom.data.toList.drop 1 = dktX0_madeRoom_1 := dk_seg dksX0_madeRoom_0 1 rfl rfl
theorem dksX0_madeRoom_2 : cX0_madeRoom.data.toList.drop 32 = dktX0_madeRoom_2 := dk_seg dksX0_madeRoom_1 31 rfl rfl
theorem dksX0_madeRoom_3 : cX0_madeRoom.data.toList.drop 55 = dktX0_madeRoom_3 := dk_seg dksX0_madeRoom_2 23 rfl rfl
theorem dX0_madeRoom_0 : decode cX0_madeRoom 0 = .ok (.iload_n 0, 1) := dk_26 (dk_at dksX0_madeRoom_0 0 rfl rfl)
theorem dX0_madeRoom_1 : decode cX0_madeRoom 1 = .ok (.tableswitch 67 0 3 #[31, 40, 49, 58], 31) := by decide +kernel
theorem dX0_madeRoom_32 : decode cX0_madeRoom 32 = .ok (.new 1, 3) := dk_187 0 1 (dk_at dksX0_madeRoom_2 0 rfl rfl)
theorem dX0_madeRoom_35 : decode cX0_madeRoom 35 = .ok (.dup, 1) := dk_89 (dk_at dksX0_madeRoom_2 3 rfl rfl)
theorem dX0_madeRoom_36 : decode cX0_madeRoom 36 = .ok (.iload_n 1, 1) := dk_27 (dk_at dksX0_madeRoom_2 4 rfl rfl)
theorem dX0_madeRoom_37 : decode cX0_madeRoom 37 = .ok (.invokespecial 3, 3) := dk_183 0 3 (dk_at dksX0_madeRoom_2 5 rfl rfl)
theorem dX0_madeRoom_40 : decode cX0_madeRoom 40 = .ok (.areturn, 1) := dk_176 (dk_at dksX0_madeRoom_2 8 rfl rfl)
theorem dX0_madeRoom_41 : decode cX0_madeRoom 41 = .ok (.new 7, 3) := dk_187 0 7 (dk_at dksX0_madeRoom_2 9 rfl rfl)
theorem dX0_madeRoom_44 : decode cX0_madeRoom 44 = .ok (.dup, 1) := dk_89 (dk_at dksX0_madeRoom_2 12 rfl rfl)
theorem dX0_madeRoom_45 : decode cX0_madeRoom 45 = .ok (.iload_n 1, 1) := dk_27 (dk_at dksX0_madeRoom_2 13 rfl rfl)
theorem dX0_madeRoom_46 : decode cX0_madeRoom 46 = .ok (.invokespecial 9, 3) := dk_183 0 9 (dk_at dksX0_madeRoom_2 14 rfl rfl)
theorem dX0_madeRoom_49 : decode cX0_madeRoom 49 = .ok (.areturn, 1) := dk_176 (dk_at dksX0_madeRoom_2 17 rfl rfl)
theorem dX0_madeRoom_50 : decode cX0_madeRoom 50 = .ok (.new 10, 3) := dk_187 0 10 (dk_at dksX0_madeRoom_2 18 rfl rfl)
theorem dX0_madeRoom_53 : decode cX0_madeRoom 53 = .ok (.dup, 1) := dk_89 (dk_at dksX0_madeRoom_2 21 rfl rfl)
theorem dX0_madeRoom_54 : decode cX0_madeRoom 54 = .ok (.iload_n 1, 1) := dk_27 (dk_at dksX0_madeRoom_2 22 rfl rfl)
theorem dX0_madeRoom_55 : decode cX0_madeRoom 55 = .ok (.invokespecial 12, 3) := dk_183 0 12 (dk_at dksX0_madeRoom_3 0 rfl rfl)
theorem dX0_madeRoom_58 : decode cX0_madeRoom 58 = .ok (.areturn, 1) := dk_176 (dk_at dksX0_madeRoom_3 3 rfl rfl)
theorem dX0_madeRoom_59 : decode cX0_madeRoom 59 = .ok (.new 13, 3) := dk_187 0 13 (dk_at dksX0_madeRoom_3 4 rfl rfl)
theorem dX0_madeRoom_62 : decode cX0_madeRoom 62 = .ok (.dup, 1) := dk_89 (dk_at dksX0_madeRoom_3 7 rfl rfl)
theorem dX0_madeRoom_63 : decode cX0_madeRoom 63 = .ok (.iload_n 1, 1) := dk_27 (dk_at dksX0_madeRoom_3 8 rfl rfl)
theorem dX0_madeRoom_64 : decode cX0_madeRoom 64 = .ok (.invokespecial 15, 3) := dk_183 0 15 (dk_at dksX0_madeRoom_3 9 rfl rfl)
theorem dX0_madeRoom_67 : decode cX0_madeRoom 67 = .ok (.areturn, 1) := dk_176 (dk_at dksX0_madeRoom_3 12 rfl rfl)
theorem dX0_madeRoom_68 : decode cX0_madeRoom 68 = .ok (.new 16, 3) := dk_187 0 16 (dk_at dksX0_madeRoom_3 13 rfl rfl)
theorem dX0_madeRoom_71 : decode cX0_madeRoom 71 = .ok (.dup, 1) := dk_89 (dk_at dksX0_madeRoom_3 16 rfl rfl)
theorem dX0_madeRoom_72 : decode cX0_madeRoom 72 = .ok (.iload_n 1, 1) := dk_27 (dk_at dksX0_madeRoom_3 17 rfl rfl)
theorem dX0_madeRoom_73 : decode cX0_madeRoom 73 = .ok (.invokespecial 18, 3) := dk_183 0 18 (dk_at dksX0_madeRoom_3 18 rfl rfl)
theorem dX0_madeRoom_76 : decode cX0_madeRoom 76 = .ok (.areturn, 1) := dk_176 (dk_at dksX0_madeRoom_3 21 rfl rfl)
abbrev cX0_guest : ByteArray := prog_1_method_14_code
def yX0_guest : MethodName := ⟨RX0, "guest", "(II)I"⟩
def dkwX0_guest_5 : List UInt8 := [180, 0, 137, 172, 45, 180, 0, 138, 153, 0, 7, 4, 167, 0, 4, 3, 172, 2, 172]
abbrev dktX0_guest_5 : List UInt8 := dkwX0_guest_5 ++ []
def dkwX0_guest_4 : List UInt8 := [122, 4, 126, 21, 5, 120, 128, 54, 4, 132, 5, 1, 167, 255, 214, 21, 4, 172, 45, 180, 0, 134, 172, 45]
abbrev dktX0_guest_4 : List UInt8 := dkwX0_guest_4 ++ dktX0_guest_5
def dkwX0_guest_3 : List UInt8 := [182, 0, 72, 162, 0, 36, 21, 4, 42, 180, 0, 44, 21, 5, 182, 0, 80, 192, 0, 121, 180, 0, 132, 27]
abbrev dktX0_guest_3 : List UInt8 := dkwX0_guest_3 ++ dktX0_guest_4
def dkwX0_guest_2 : List UInt8 := [45, 180, 0, 90, 153, 0, 7, 4, 167, 0, 4, 3, 172, 3, 54, 5, 21, 5, 42, 180, 0, 44]
abbrev dktX0_guest_2 : List UInt8 := dkwX0_guest_2 ++ dktX0_guest_3
def dkwX0_guest_1 : List UInt8 := [170, 0, 0, 0, 0, 0, 0, 123, 0, 0, 0, 0, 0, 0, 0, 4, 0, 0, 0, 36, 0, 0, 0, 49, 0, 0, 0, 100, 0, 0, 0, 105, 0, 0, 0, 110]
abbrev dktX0_guest_1 : List UInt8 := dkwX0_guest_1 ++ dktX0_guest_2
def dkwX0_guest_0 : List UInt8 := [42, 27, 182, 0, 128, 78, 45, 199, 0, 5, 2, 172, 3, 54, 4, 28]
abbrev dktX0_guest_0 : List UInt8 := dkwX0_guest_0 ++ dktX0_guest_1
theorem dksX0_guest_0 : cX0_guest.data.toList.drop 0 = dktX0_guest_0 := by decide +kernel
theorem dksX0_guest_1 : cX0_guest.data.toList.drop 16 = dktX0_guest_1 := dk_seg dksX0_guest_0 16 rfl rfl
theorem dksX0_guest_2 : cX0_guest.data.toList.drop 52 = dktX0_guest_2 := dk_seg dksX0_guest_1 36 rfl rfl
theorem dksX0_guest_3 : cX0_guest.data.toList.drop 74 = dktX0_guest_3 := dk_seg dksX0_guest_2 22 rfl rfl
theorem dksX0_guest_4 : cX0_guest.data.toList.drop 98 = dktX0_guest_4 := dk_seg dksX0_guest_3 24 rfl rfl
theorem dksX0_guest_5 : cX0_guest.data.toList.drop 122 = dktX0_guest_5 := dk_seg dksX0_guest_4 24 rfl rfl
theorem dX0_guest_0 : decode cX0_guest 0 = .ok (.aload_n 0, 1) := dk_42 (dk_at dksX0_guest_0 0 rfl rfl)
theorem dX0_guest_1 : decode cX0_guest 1 = .ok (.iload_n 1, 1) := dk_27 (dk_at dksX0_guest_0 1 rfl rfl)
theorem dX0_guest_2 : decode cX0_guest 2 = .ok (.invokevirtual 128, 3) := dk_182 0 128 (dk_at dksX0_guest_0 2 rfl rfl)
theorem dX0_guest_5 : decode cX0_guest 5 = .ok (.astore_n 3, 1) := dk_78 (dk_at dksX0_guest_0 5 rfl rfl)
theorem dX0_guest_6 : decode cX0_guest 6 = .ok (.aload_n 3, 1) := dk_45 (dk_at dksX0_guest_0 6 rfl rfl)
theorem dX0_guest_7 : decode cX0_guest 7 = .ok (.ifnonnull 5, 3) := dk_199 0 5 (dk_at dksX0_guest_0 7 rfl rfl)
theorem dX0_guest_10 : decode cX0_guest 10 = .ok (.iconst (-1), 1) := dk_2 (dk_at dksX0_guest_0 10 rfl rfl)
theorem dX0_guest_11 : decode cX0_guest 11 = .ok (.ireturn, 1) := dk_172 (dk_at dksX0_guest_0 11 rfl rfl)
theorem dX0_guest_12 : decode cX0_guest 12 = .ok (.iconst 0, 1) := dk_3 (dk_at dksX0_guest_0 12 rfl rfl)
theorem dX0_guest_13 : decode cX0_guest 13 = .ok (.istore 4, 2) := dk_54 4 (dk_at dksX0_guest_0 13 rfl rfl)
theorem dX0_guest_15 : decode cX0_guest 15 = .ok (.iload_n 2, 1) := dk_28 (dk_at dksX0_guest_0 15 rfl rfl)
theorem dX0_guest_16 : decode cX0_guest 16 = .ok (.tableswitch 123 0 4 #[36, 49, 100, 105, 110], 36) := by decide +kernel
theorem dX0_guest_52 : decode cX0_guest 52 = .ok (.aload_n 3, 1) := dk_45 (dk_at dksX0_guest_2 0 rfl rfl)
theorem dX0_guest_53 : decode cX0_guest 53 = .ok (.getfield 90, 3) := dk_180 0 90 (dk_at dksX0_guest_2 1 rfl rfl)
theorem dX0_guest_56 : decode cX0_guest 56 = .ok (.ifCond .eq 7, 3) := dk_153 0 7 (dk_at dksX0_guest_2 4 rfl rfl)
theorem dX0_guest_59 : decode cX0_guest 59 = .ok (.iconst 1, 1) := dk_4 (dk_at dksX0_guest_2 7 rfl rfl)
theorem dX0_guest_60 : decode cX0_guest 60 = .ok (.goto 4, 3) := dk_167 0 4 (dk_at dksX0_guest_2 8 rfl rfl)
theorem dX0_guest_63 : decode cX0_guest 63 = .ok (.iconst 0, 1) := dk_3 (dk_at dksX0_guest_2 11 rfl rfl)
theorem dX0_guest_64 : decode cX0_guest 64 = .ok (.ireturn, 1) := dk_172 (dk_at dksX0_guest_2 12 rfl rfl)
theorem dX0_guest_65 : decode cX0_guest 65 = .ok (.iconst 0, 1) := dk_3 (dk_at dksX0_guest_2 13 rfl rfl)
theorem dX0_guest_66 : decode cX0_guest 66 = .ok (.istore 5, 2) := dk_54 5 (dk_at dksX0_guest_2 14 rfl rfl)
theorem dX0_guest_68 : decode cX0_guest 68 = .ok (.iload 5, 2) := dk_21 5 (dk_at dksX0_guest_2 16 rfl rfl)
theorem dX0_guest_70 : decode cX0_guest 70 = .ok (.aload_n 0, 1) := dk_42 (dk_at dksX0_guest_2 18 rfl rfl)
theorem dX0_guest_71 : decode cX0_guest 71 = .ok (.getfield 44, 3) := dk_180 0 44 (dk_at dksX0_guest_2 19 rfl rfl)
theorem dX0_guest_74 : decode cX0_guest 74 = .ok (.invokevirtual 72, 3) := dk_182 0 72 (dk_at dksX0_guest_3 0 rfl rfl)
theorem dX0_guest_77 : decode cX0_guest 77 = .ok (.if_icmp .ge 36, 3) := dk_162 0 36 (dk_at dksX0_guest_3 3 rfl rfl)
theorem dX0_guest_80 : decode cX0_guest 80 = .ok (.iload 4, 2) := dk_21 4 (dk_at dksX0_guest_3 6 rfl rfl)
theorem dX0_guest_82 : decode cX0_guest 82 = .ok (.aload_n 0, 1) := dk_42 (dk_at dksX0_guest_3 8 rfl rfl)
theorem dX0_guest_83 : decode cX0_guest 83 = .ok (.getfield 44, 3) := dk_180 0 44 (dk_at dksX0_guest_3 9 rfl rfl)
theorem dX0_guest_86 : decode cX0_guest 86 = .ok (.iload 5, 2) := dk_21 5 (dk_at dksX0_guest_3 12 rfl rfl)
theorem dX0_guest_88 : decode cX0_guest 88 = .ok (.invokevirtual 80, 3) := dk_182 0 80 (dk_at dksX0_guest_3 14 rfl rfl)
theorem dX0_guest_91 : decode cX0_guest 91 = .ok (.checkcast 121, 3) := dk_192 0 121 (dk_at dksX0_guest_3 17 rfl rfl)
theorem dX0_guest_94 : decode cX0_guest 94 = .ok (.getfield 132, 3) := dk_180 0 132 (dk_at dksX0_guest_3 20 rfl rfl)
theorem dX0_guest_97 : decode cX0_guest 97 = .ok (.iload_n 1, 1) := dk_27 (dk_at dksX0_guest_3 23 rfl rfl)
theorem dX0_guest_98 : decode cX0_guest 98 = .ok (.ishr, 1) := dk_122 (dk_at dksX0_guest_4 0 rfl rfl)
theorem dX0_guest_99 : decode cX0_guest 99 = .ok (.iconst 1, 1) := dk_4 (dk_at dksX0_guest_4 1 rfl rfl)
theorem dX0_guest_100 : decode cX0_guest 100 = .ok (.iand, 1) := dk_126 (dk_at dksX0_guest_4 2 rfl rfl)
theorem dX0_guest_101 : decode cX0_guest 101 = .ok (.iload 5, 2) := dk_21 5 (dk_at dksX0_guest_4 3 rfl rfl)
theorem dX0_guest_103 : decode cX0_guest 103 = .ok (.ishl, 1) := dk_120 (dk_at dksX0_guest_4 5 rfl rfl)
theorem dX0_guest_104 : decode cX0_guest 104 = .ok (.ior, 1) := dk_128 (dk_at dksX0_guest_4 6 rfl rfl)
theorem dX0_guest_105 : decode cX0_guest 105 = .ok (.istore 4, 2) := dk_54 4 (dk_at dksX0_guest_4 7 rfl rfl)
theorem dX0_guest_107 : decode cX0_guest 107 = .ok (.iinc 5 1, 3) := dk_132 5 1 (dk_at dksX0_guest_4 9 rfl rfl)
theorem dX0_guest_110 : decode cX0_guest 110 = .ok (.goto (-42), 3) := dk_167 255 214 (dk_at dksX0_guest_4 12 rfl rfl)
theorem dX0_guest_113 : decode cX0_guest 113 = .ok (.iload 4, 2) := dk_21 4 (dk_at dksX0_guest_4 15 rfl rfl)
theorem dX0_guest_115 : decode cX0_guest 115 = .ok (.ireturn, 1) := dk_172 (dk_at dksX0_guest_4 17 rfl rfl)
theorem dX0_guest_116 : decode cX0_guest 116 = .ok (.aload_n 3, 1) := dk_45 (dk_at dksX0_guest_4 18 rfl rfl)
theorem dX0_guest_117 : decode cX0_guest 117 = .ok (.getfield 134, 3) := dk_180 0 134 (dk_at dksX0_guest_4 19 rfl rfl)
theorem dX0_guest_120 : decode cX0_guest 120 = .ok (.ireturn, 1) := dk_172 (dk_at dksX0_guest_4 22 rfl rfl)
theorem dX0_guest_121 : decode cX0_guest 121 = .ok (.aload_n 3, 1) := dk_45 (dk_at dksX0_guest_4 23 rfl rfl)
theorem dX0_guest_122 : decode cX0_guest 122 = .ok (.getfield 137, 3) := dk_180 0 137 (dk_at dksX0_guest_5 0 rfl rfl)
theorem dX0_guest_125 : decode cX0_guest 125 = .ok (.ireturn, 1) := dk_172 (dk_at dksX0_guest_5 3 rfl rfl)
theorem dX0_guest_126 : decode cX0_guest 126 = .ok (.aload_n 3, 1) := dk_45 (dk_at dksX0_guest_5 4 rfl rfl)
theorem dX0_guest_127 : decode cX0_guest 127 = .ok (.getfield 138, 3) := dk_180 0 138 (dk_at dksX0_guest_5 5 rfl rfl)
theorem dX0_guest_130 : decode cX0_guest 130 = .ok (.ifCond .eq 7, 3) := dk_153 0 7 (dk_at dksX0_guest_5 8 rfl rfl)
theorem dX0_guest_133 : decode cX0_guest 133 = .ok (.iconst 1, 1) := dk_4 (dk_at dksX0_guest_5 11 rfl rfl)
theorem dX0_guest_134 : decode cX0_guest 134 = .ok (.goto 4, 3) := dk_167 0 4 (dk_at dksX0_guest_5 12 rfl rfl)
theorem dX0_guest_137 : decode cX0_guest 137 = .ok (.iconst 0, 1) := dk_3 (dk_at dksX0_guest_5 15 rfl rfl)
theorem dX0_guest_138 : decode cX0_guest 138 = .ok (.ireturn, 1) := dk_172 (dk_at dksX0_guest_5 16 rfl rfl)
theorem dX0_guest_139 : decode cX0_guest 139 = .ok (.iconst (-1), 1) := dk_2 (dk_at dksX0_guest_5 17 rfl rfl)
theorem dX0_guest_140 : decode cX0_guest 140 = .ok (.ireturn, 1) := dk_172 (dk_at dksX0_guest_5 18 rfl rfl)
abbrev cX0_guestAt : ByteArray := prog_1_method_4_code
def yX0_guestAt : MethodName := ⟨RX0, "guestAt", "(I)LFirstIn$Guest;"⟩
def dkwX0_guestAt_1 : List UInt8 := [182, 0, 80, 192, 0, 84, 167, 0, 4, 1, 176]
abbrev dktX0_guestAt_1 : List UInt8 := dkwX0_guestAt_1 ++ []
def dkwX0_guestAt_0 : List UInt8 := [27, 3, 42, 180, 0, 40, 182, 0, 72, 4, 100, 184, 0, 76, 153, 0, 17, 42, 180, 0, 40, 27]
abbrev dktX0_guestAt_0 : List UInt8 := dkwX0_guestAt_0 ++ dktX0_guestAt_1
theorem dksX0_guestAt_0 : cX0_guestAt.data.toList.drop 0 = dktX0_guestAt_0 := by decide +kernel
theorem dksX0_guestAt_1 : cX0_guestAt.data.toList.drop 22 = dktX0_guestAt_1 := dk_seg dksX0_guestAt_0 22 rfl rfl
theorem dX0_guestAt_0 : decode cX0_guestAt 0 = .ok (.iload_n 1, 1) := dk_27 (dk_at dksX0_guestAt_0 0 rfl rfl)
theorem dX0_guestAt_1 : decode cX0_guestAt 1 = .ok (.iconst 0, 1) := dk_3 (dk_at dksX0_guestAt_0 1 rfl rfl)
theorem dX0_guestAt_2 : decode cX0_guestAt 2 = .ok (.aload_n 0, 1) := dk_42 (dk_at dksX0_guestAt_0 2 rfl rfl)
theorem dX0_guestAt_3 : decode cX0_guestAt 3 = .ok (.getfield 40, 3) := dk_180 0 40 (dk_at dksX0_guestAt_0 3 rfl rfl)
theorem dX0_guestAt_6 : decode cX0_guestAt 6 = .ok (.invokevirtual 72, 3) := dk_182 0 72 (dk_at dksX0_guestAt_0 6 rfl rfl)
theorem dX0_guestAt_9 : decode cX0_guestAt 9 = .ok (.iconst 1, 1) := dk_4 (dk_at dksX0_guestAt_0 9 rfl rfl)
theorem dX0_guestAt_10 : decode cX0_guestAt 10 = .ok (.isub, 1) := dk_100 (dk_at dksX0_guestAt_0 10 rfl rfl)
theorem dX0_guestAt_11 : decode cX0_guestAt 11 = .ok (.invokestatic 76, 3) := dk_184 0 76 (dk_at dksX0_guestAt_0 11 rfl rfl)
theorem dX0_guestAt_14 : decode cX0_guestAt 14 = .ok (.ifCond .eq 17, 3) := dk_153 0 17 (dk_at dksX0_guestAt_0 14 rfl rfl)
theorem dX0_guestAt_17 : decode cX0_guestAt 17 = .ok (.aload_n 0, 1) := dk_42 (dk_at dksX0_guestAt_0 17 rfl rfl)
theorem dX0_guestAt_18 : decode cX0_guestAt 18 = .ok (.getfield 40, 3) := dk_180 0 40 (dk_at dksX0_guestAt_0 18 rfl rfl)
theorem dX0_guestAt_21 : decode cX0_guestAt 21 = .ok (.iload_n 1, 1) := dk_27 (dk_at dksX0_guestAt_0 21 rfl rfl)
theorem dX0_guestAt_22 : decode cX0_guestAt 22 = .ok (.invokevirtual 80, 3) := dk_182 0 80 (dk_at dksX0_guestAt_1 0 rfl rfl)
theorem dX0_guestAt_25 : decode cX0_guestAt 25 = .ok (.checkcast 84, 3) := dk_192 0 84 (dk_at dksX0_guestAt_1 3 rfl rfl)
theorem dX0_guestAt_28 : decode cX0_guestAt 28 = .ok (.goto 4, 3) := dk_167 0 4 (dk_at dksX0_guestAt_1 6 rfl rfl)
theorem dX0_guestAt_31 : decode cX0_guestAt 31 = .ok (.aconst_null, 1) := dk_1 (dk_at dksX0_guestAt_1 9 rfl rfl)
theorem dX0_guestAt_32 : decode cX0_guestAt 32 = .ok (.areturn, 1) := dk_176 (dk_at dksX0_guestAt_1 10 rfl rfl)
abbrev cX0_rule : ByteArray := prog_1_method_15_code
def yX0_rule : MethodName := ⟨RX0, "rule", "(II)I"⟩
def dkwX0_rule_5 : List UInt8 := [172, 2, 172]
abbrev dktX0_rule_5 : List UInt8 := dkwX0_rule_5 ++ []
def dkwX0_rule_4 : List UInt8 := [180, 0, 168, 172, 45, 180, 0, 171, 182, 0, 72, 172, 45, 180, 0, 174, 153, 0, 7, 4, 167, 0, 4, 3]
abbrev dktX0_rule_4 : List UInt8 := dkwX0_rule_4 ++ dktX0_rule_5
def dkwX0_rule_3 : List UInt8 := [180, 0, 160, 172, 45, 180, 0, 163, 172, 45, 180, 0, 164, 199, 0, 7, 2, 167, 0, 10, 45, 180, 0, 164]
abbrev dktX0_rule_3 : List UInt8 := dkwX0_rule_3 ++ dktX0_rule_4
def dkwX0_rule_2 : List UInt8 := [45, 182, 0, 145, 172, 45, 180, 0, 148, 182, 0, 152, 172, 45, 180, 0, 157, 182, 0, 152, 172, 45]
abbrev dktX0_rule_2 : List UInt8 := dkwX0_rule_2 ++ dktX0_rule_3
def dkwX0_rule_1 : List UInt8 := [170, 0, 0, 0, 0, 0, 118, 0, 0, 0, 0, 0, 0, 0, 7, 0, 0, 0, 47, 0, 0, 0, 52, 0, 0, 0, 60, 0, 0, 0, 68, 0, 0, 0, 73, 0, 0, 0, 78, 0, 0, 0, 97, 0, 0, 0, 105]
abbrev dktX0_rule_1 : List UInt8 := dkwX0_rule_1 ++ dktX0_rule_2
def dkwX0_rule_0 : List UInt8 := [42, 27, 182, 0, 141, 78, 45, 199, 0, 5, 2, 172, 28]
abbrev dktX0_rule_0 : List UInt8 := dkwX0_rule_0 ++ dktX0_rule_1
theorem dksX0_rule_0 : cX0_rule.data.toList.drop 0 = dktX0_rule_0 := by decide +kernel
theorem dksX0_rule_1 : cX0_rule.data.toList.drop 13 = dktX0_rule_1 := dk_seg dksX0_rule_0 13 rfl rfl
theorem dksX0_rule_2 : cX0_rule.data.toList.drop 60 = dktX0_rule_2 := dk_seg dksX0_rule_1 47 rfl rfl
theorem dksX0_rule_3 : cX0_rule.data.toList.drop 82 = dktX0_rule_3 := dk_seg dksX0_rule_2 22 rfl rfl
theorem dksX0_rule_4 : cX0_rule.data.toList.drop 106 = dktX0_rule_4 := dk_seg dksX0_rule_3 24 rfl rfl
theorem dksX0_rule_5 : cX0_rule.data.toList.drop 130 = dktX0_rule_5 := dk_seg dksX0_rule_4 24 rfl rfl
theorem dX0_rule_0 : decode cX0_rule 0 = .ok (.aload_n 0, 1) := dk_42 (dk_at dksX0_rule_0 0 rfl rfl)
theorem dX0_rule_1 : decode cX0_rule 1 = .ok (.iload_n 1, 1) := dk_27 (dk_at dksX0_rule_0 1 rfl rfl)
theorem dX0_rule_2 : decode cX0_rule 2 = .ok (.invokevirtual 141, 3) := dk_182 0 141 (dk_at dksX0_rule_0 2 rfl rfl)
theorem dX0_rule_5 : decode cX0_rule 5 = .ok (.astore_n 3, 1) := dk_78 (dk_at dksX0_rule_0 5 rfl rfl)
theorem dX0_rule_6 : decode cX0_rule 6 = .ok (.aload_n 3, 1) := dk_45 (dk_at dksX0_rule_0 6 rfl rfl)
theorem dX0_rule_7 : decode cX0_rule 7 = .ok (.ifnonnull 5, 3) := dk_199 0 5 (dk_at dksX0_rule_0 7 rfl rfl)
theorem dX0_rule_10 : decode cX0_rule 10 = .ok (.iconst (-1), 1) := dk_2 (dk_at dksX0_rule_0 10 rfl rfl)
theorem dX0_rule_11 : decode cX0_rule 11 = .ok (.ireturn, 1) := dk_172 (dk_at dksX0_rule_0 11 rfl rfl)
theorem dX0_rule_12 : decode cX0_rule 12 = .ok (.iload_n 2, 1) := dk_28 (dk_at dksX0_rule_0 12 rfl rfl)
theorem dX0_rule_13 : decode cX0_rule 13 = .ok (.tableswitch 118 0 7 #[47, 52, 60, 68, 73, 78, 97, 105], 47) := by decide +kernel
theorem dX0_rule_60 : decode cX0_rule 60 = .ok (.aload_n 3, 1) := dk_45 (dk_at dksX0_rule_2 0 rfl rfl)
theorem dX0_rule_61 : decode cX0_rule 61 = .ok (.invokevirtual 145, 3) := dk_182 0 145 (dk_at dksX0_rule_2 1 rfl rfl)
theorem dX0_rule_64 : decode cX0_rule 64 = .ok (.ireturn, 1) := dk_172 (dk_at dksX0_rule_2 4 rfl rfl)
theorem dX0_rule_65 : decode cX0_rule 65 = .ok (.aload_n 3, 1) := dk_45 (dk_at dksX0_rule_2 5 rfl rfl)
theorem dX0_rule_66 : decode cX0_rule 66 = .ok (.getfield 148, 3) := dk_180 0 148 (dk_at dksX0_rule_2 6 rfl rfl)
theorem dX0_rule_69 : decode cX0_rule 69 = .ok (.invokevirtual 152, 3) := dk_182 0 152 (dk_at dksX0_rule_2 9 rfl rfl)
theorem dX0_rule_72 : decode cX0_rule 72 = .ok (.ireturn, 1) := dk_172 (dk_at dksX0_rule_2 12 rfl rfl)
theorem dX0_rule_73 : decode cX0_rule 73 = .ok (.aload_n 3, 1) := dk_45 (dk_at dksX0_rule_2 13 rfl rfl)
theorem dX0_rule_74 : decode cX0_rule 74 = .ok (.getfield 157, 3) := dk_180 0 157 (dk_at dksX0_rule_2 14 rfl rfl)
theorem dX0_rule_77 : decode cX0_rule 77 = .ok (.invokevirtual 152, 3) := dk_182 0 152 (dk_at dksX0_rule_2 17 rfl rfl)
theorem dX0_rule_80 : decode cX0_rule 80 = .ok (.ireturn, 1) := dk_172 (dk_at dksX0_rule_2 20 rfl rfl)
theorem dX0_rule_81 : decode cX0_rule 81 = .ok (.aload_n 3, 1) := dk_45 (dk_at dksX0_rule_2 21 rfl rfl)
theorem dX0_rule_82 : decode cX0_rule 82 = .ok (.getfield 160, 3) := dk_180 0 160 (dk_at dksX0_rule_3 0 rfl rfl)
theorem dX0_rule_85 : decode cX0_rule 85 = .ok (.ireturn, 1) := dk_172 (dk_at dksX0_rule_3 3 rfl rfl)
theorem dX0_rule_86 : decode cX0_rule 86 = .ok (.aload_n 3, 1) := dk_45 (dk_at dksX0_rule_3 4 rfl rfl)
theorem dX0_rule_87 : decode cX0_rule 87 = .ok (.getfield 163, 3) := dk_180 0 163 (dk_at dksX0_rule_3 5 rfl rfl)
theorem dX0_rule_90 : decode cX0_rule 90 = .ok (.ireturn, 1) := dk_172 (dk_at dksX0_rule_3 8 rfl rfl)
theorem dX0_rule_91 : decode cX0_rule 91 = .ok (.aload_n 3, 1) := dk_45 (dk_at dksX0_rule_3 9 rfl rfl)
theorem dX0_rule_92 : decode cX0_rule 92 = .ok (.getfield 164, 3) := dk_180 0 164 (dk_at dksX0_rule_3 10 rfl rfl)
theorem dX0_rule_95 : decode cX0_rule 95 = .ok (.ifnonnull 7, 3) := dk_199 0 7 (dk_at dksX0_rule_3 13 rfl rfl)
theorem dX0_rule_98 : decode cX0_rule 98 = .ok (.iconst (-1), 1) := dk_2 (dk_at dksX0_rule_3 16 rfl rfl)
theorem dX0_rule_99 : decode cX0_rule 99 = .ok (.goto 10, 3) := dk_167 0 10 (dk_at dksX0_rule_3 17 rfl rfl)
theorem dX0_rule_102 : decode cX0_rule 102 = .ok (.aload_n 3, 1) := dk_45 (dk_at dksX0_rule_3 20 rfl rfl)
theorem dX0_rule_103 : decode cX0_rule 103 = .ok (.getfield 164, 3) := dk_180 0 164 (dk_at dksX0_rule_3 21 rfl rfl)
theorem dX0_rule_106 : decode cX0_rule 106 = .ok (.getfield 168, 3) := dk_180 0 168 (dk_at dksX0_rule_4 0 rfl rfl)
theorem dX0_rule_109 : decode cX0_rule 109 = .ok (.ireturn, 1) := dk_172 (dk_at dksX0_rule_4 3 rfl rfl)
theorem dX0_rule_110 : decode cX0_rule 110 = .ok (.aload_n 3, 1) := dk_45 (dk_at dksX0_rule_4 4 rfl rfl)
theorem dX0_rule_111 : decode cX0_rule 111 = .ok (.getfield 171, 3) := dk_180 0 171 (dk_at dksX0_rule_4 5 rfl rfl)
theorem dX0_rule_114 : decode cX0_rule 114 = .ok (.invokevirtual 72, 3) := dk_182 0 72 (dk_at dksX0_rule_4 8 rfl rfl)
theorem dX0_rule_117 : decode cX0_rule 117 = .ok (.ireturn, 1) := dk_172 (dk_at dksX0_rule_4 11 rfl rfl)
theorem dX0_rule_118 : decode cX0_rule 118 = .ok (.aload_n 3, 1) := dk_45 (dk_at dksX0_rule_4 12 rfl rfl)
theorem dX0_rule_119 : decode cX0_rule 119 = .ok (.getfield 174, 3) := dk_180 0 174 (dk_at dksX0_rule_4 13 rfl rfl)
theorem dX0_rule_122 : decode cX0_rule 122 = .ok (.ifCond .eq 7, 3) := dk_153 0 7 (dk_at dksX0_rule_4 16 rfl rfl)
theorem dX0_rule_125 : decode cX0_rule 125 = .ok (.iconst 1, 1) := dk_4 (dk_at dksX0_rule_4 19 rfl rfl)
theorem dX0_rule_126 : decode cX0_rule 126 = .ok (.goto 4, 3) := dk_167 0 4 (dk_at dksX0_rule_4 20 rfl rfl)
theorem dX0_rule_129 : decode cX0_rule 129 = .ok (.iconst 0, 1) := dk_3 (dk_at dksX0_rule_4 23 rfl rfl)
theorem dX0_rule_130 : decode cX0_rule 130 = .ok (.ireturn, 1) := dk_172 (dk_at dksX0_rule_5 0 rfl rfl)
theorem dX0_rule_131 : decode cX0_rule 131 = .ok (.iconst (-1), 1) := dk_2 (dk_at dksX0_rule_5 1 rfl rfl)
theorem dX0_rule_132 : decode cX0_rule 132 = .ok (.ireturn, 1) := dk_172 (dk_at dksX0_rule_5 2 rfl rfl)
abbrev cX0_ruleAt : ByteArray := prog_1_method_5_code
def yX0_ruleAt : MethodName := ⟨RX0, "ruleAt", "(I)LFirstIn$Rule;"⟩
def dkwX0_ruleAt_1 : List UInt8 := [182, 0, 80, 192, 0, 86, 167, 0, 4, 1, 176]
abbrev dktX0_ruleAt_1 : List UInt8 := dkwX0_ruleAt_1 ++ []
def dkwX0_ruleAt_0 : List UInt8 := [27, 3, 42, 180, 0, 47, 182, 0, 72, 4, 100, 184, 0, 76, 153, 0, 17, 42, 180, 0, 47, 27]
abbrev dktX0_ruleAt_0 : List UInt8 := dkwX0_ruleAt_0 ++ dktX0_ruleAt_1
theorem dksX0_ruleAt_0 : cX0_ruleAt.data.toList.drop 0 = dktX0_ruleAt_0 := by decide +kernel
theorem dksX0_ruleAt_1 : cX0_ruleAt.data.toList.drop 22 = dktX0_ruleAt_1 := dk_seg dksX0_ruleAt_0 22 rfl rfl
theorem dX0_ruleAt_0 : decode cX0_ruleAt 0 = .ok (.iload_n 1, 1) := dk_27 (dk_at dksX0_ruleAt_0 0 rfl rfl)
theorem dX0_ruleAt_1 : decode cX0_ruleAt 1 = .ok (.iconst 0, 1) := dk_3 (dk_at dksX0_ruleAt_0 1 rfl rfl)
theorem dX0_ruleAt_2 : decode cX0_ruleAt 2 = .ok (.aload_n 0, 1) := dk_42 (dk_at dksX0_ruleAt_0 2 rfl rfl)
theorem dX0_ruleAt_3 : decode cX0_ruleAt 3 = .ok (.getfield 47, 3) := dk_180 0 47 (dk_at dksX0_ruleAt_0 3 rfl rfl)
theorem dX0_ruleAt_6 : decode cX0_ruleAt 6 = .ok (.invokevirtual 72, 3) := dk_182 0 72 (dk_at dksX0_ruleAt_0 6 rfl rfl)
theorem dX0_ruleAt_9 : decode cX0_ruleAt 9 = .ok (.iconst 1, 1) := dk_4 (dk_at dksX0_ruleAt_0 9 rfl rfl)
theorem dX0_ruleAt_10 : decode cX0_ruleAt 10 = .ok (.isub, 1) := dk_100 (dk_at dksX0_ruleAt_0 10 rfl rfl)
theorem dX0_ruleAt_11 : decode cX0_ruleAt 11 = .ok (.invokestatic 76, 3) := dk_184 0 76 (dk_at dksX0_ruleAt_0 11 rfl rfl)
theorem dX0_ruleAt_14 : decode cX0_ruleAt 14 = .ok (.ifCond .eq 17, 3) := dk_153 0 17 (dk_at dksX0_ruleAt_0 14 rfl rfl)
theorem dX0_ruleAt_17 : decode cX0_ruleAt 17 = .ok (.aload_n 0, 1) := dk_42 (dk_at dksX0_ruleAt_0 17 rfl rfl)
theorem dX0_ruleAt_18 : decode cX0_ruleAt 18 = .ok (.getfield 47, 3) := dk_180 0 47 (dk_at dksX0_ruleAt_0 18 rfl rfl)
theorem dX0_ruleAt_21 : decode cX0_ruleAt 21 = .ok (.iload_n 1, 1) := dk_27 (dk_at dksX0_ruleAt_0 21 rfl rfl)
theorem dX0_ruleAt_22 : decode cX0_ruleAt 22 = .ok (.invokevirtual 80, 3) := dk_182 0 80 (dk_at dksX0_ruleAt_1 0 rfl rfl)
theorem dX0_ruleAt_25 : decode cX0_ruleAt 25 = .ok (.checkcast 86, 3) := dk_192 0 86 (dk_at dksX0_ruleAt_1 3 rfl rfl)
theorem dX0_ruleAt_28 : decode cX0_ruleAt 28 = .ok (.goto 4, 3) := dk_167 0 4 (dk_at dksX0_ruleAt_1 6 rfl rfl)
theorem dX0_ruleAt_31 : decode cX0_ruleAt 31 = .ok (.aconst_null, 1) := dk_1 (dk_at dksX0_ruleAt_1 9 rfl rfl)
theorem dX0_ruleAt_32 : decode cX0_ruleAt 32 = .ok (.areturn, 1) := dk_176 (dk_at dksX0_ruleAt_1 10 rfl rfl)
abbrev cX0_rest : ByteArray := prog_1_method_16_code
def yX0_rest : MethodName := ⟨RX0, "rest", "(IZ)Z"⟩
def dkwX0_rest_1 : List UInt8 := [181, 0, 174, 4, 172]
abbrev dktX0_rest_1 : List UInt8 := dkwX0_rest_1 ++ []
def dkwX0_rest_0 : List UInt8 := [42, 27, 182, 0, 141, 78, 45, 198, 0, 11, 45, 180, 0, 174, 28, 160, 0, 5, 3, 172, 45, 28]
abbrev dktX0_rest_0 : List UInt8 := dkwX0_rest_0 ++ dktX0_rest_1
theorem dksX0_rest_0 : cX0_rest.data.toList.drop 0 = dktX0_rest_0 := by decide +kernel
theorem dksX0_rest_1 : cX0_rest.data.toList.drop 22 = dktX0_rest_1 := dk_seg dksX0_rest_0 22 rfl rfl
theorem dX0_rest_0 : decode cX0_rest 0 = .ok (.aload_n 0, 1) := dk_42 (dk_at dksX0_rest_0 0 rfl rfl)
theorem dX0_rest_1 : decode cX0_rest 1 = .ok (.iload_n 1, 1) := dk_27 (dk_at dksX0_rest_0 1 rfl rfl)
theorem dX0_rest_2 : decode cX0_rest 2 = .ok (.invokevirtual 141, 3) := dk_182 0 141 (dk_at dksX0_rest_0 2 rfl rfl)
theorem dX0_rest_5 : decode cX0_rest 5 = .ok (.astore_n 3, 1) := dk_78 (dk_at dksX0_rest_0 5 rfl rfl)
theorem dX0_rest_6 : decode cX0_rest 6 = .ok (.aload_n 3, 1) := dk_45 (dk_at dksX0_rest_0 6 rfl rfl)
theorem dX0_rest_7 : decode cX0_rest 7 = .ok (.ifnull 11, 3) := dk_198 0 11 (dk_at dksX0_rest_0 7 rfl rfl)
theorem dX0_rest_10 : decode cX0_rest 10 = .ok (.aload_n 3, 1) := dk_45 (dk_at dksX0_rest_0 10 rfl rfl)
theorem dX0_rest_11 : decode cX0_rest 11 = .ok (.getfield 174, 3) := dk_180 0 174 (dk_at dksX0_rest_0 11 rfl rfl)
theorem dX0_rest_14 : decode cX0_rest 14 = .ok (.iload_n 2, 1) := dk_28 (dk_at dksX0_rest_0 14 rfl rfl)
theorem dX0_rest_15 : decode cX0_rest 15 = .ok (.if_icmp .ne 5, 3) := dk_160 0 5 (dk_at dksX0_rest_0 15 rfl rfl)
theorem dX0_rest_18 : decode cX0_rest 18 = .ok (.iconst 0, 1) := dk_3 (dk_at dksX0_rest_0 18 rfl rfl)
theorem dX0_rest_19 : decode cX0_rest 19 = .ok (.ireturn, 1) := dk_172 (dk_at dksX0_rest_0 19 rfl rfl)
theorem dX0_rest_20 : decode cX0_rest 20 = .ok (.aload_n 3, 1) := dk_45 (dk_at dksX0_rest_0 20 rfl rfl)
theorem dX0_rest_21 : decode cX0_rest 21 = .ok (.iload_n 2, 1) := dk_28 (dk_at dksX0_rest_0 21 rfl rfl)
theorem dX0_rest_22 : decode cX0_rest 22 = .ok (.putfield 174, 3) := dk_181 0 174 (dk_at dksX0_rest_1 0 rfl rfl)
theorem dX0_rest_25 : decode cX0_rest 25 = .ok (.iconst 1, 1) := dk_4 (dk_at dksX0_rest_1 3 rfl rfl)
theorem dX0_rest_26 : decode cX0_rest 26 = .ok (.ireturn, 1) := dk_172 (dk_at dksX0_rest_1 4 rfl rfl)
abbrev cX0_comes : ByteArray := prog_1_method_17_code
def yX0_comes : MethodName := ⟨RX0, "comes", "(IZ)Z"⟩
def dkwX0_comes_1 : List UInt8 := [181, 0, 90, 45, 182, 0, 177, 4, 172]
abbrev dktX0_comes_1 : List UInt8 := dkwX0_comes_1 ++ []
def dkwX0_comes_0 : List UInt8 := [42, 27, 182, 0, 128, 78, 45, 198, 0, 11, 45, 180, 0, 90, 28, 160, 0, 5, 3, 172, 45, 28]
abbrev dktX0_comes_0 : List UInt8 := dkwX0_comes_0 ++ dktX0_comes_1
theorem dksX0_comes_0 : cX0_comes.data.toList.drop 0 = dktX0_comes_0 := by decide +kernel
theorem dksX0_comes_1 : cX0_comes.data.toList.drop 22 = dktX0_comes_1 := dk_seg dksX0_comes_0 22 rfl rfl
theorem dX0_comes_0 : decode cX0_comes 0 = .ok (.aload_n 0, 1) := dk_42 (dk_at dksX0_comes_0 0 rfl rfl)
theorem dX0_comes_1 : decode cX0_comes 1 = .ok (.iload_n 1, 1) := dk_27 (dk_at dksX0_comes_0 1 rfl rfl)
theorem dX0_comes_2 : decode cX0_comes 2 = .ok (.invokevirtual 128, 3) := dk_182 0 128 (dk_at dksX0_comes_0 2 rfl rfl)
theorem dX0_comes_5 : decode cX0_comes 5 = .ok (.astore_n 3, 1) := dk_78 (dk_at dksX0_comes_0 5 rfl rfl)
theorem dX0_comes_6 : decode cX0_comes 6 = .ok (.aload_n 3, 1) := dk_45 (dk_at dksX0_comes_0 6 rfl rfl)
theorem dX0_comes_7 : decode cX0_comes 7 = .ok (.ifnull 11, 3) := dk_198 0 11 (dk_at dksX0_comes_0 7 rfl rfl)
theorem dX0_comes_10 : decode cX0_comes 10 = .ok (.aload_n 3, 1) := dk_45 (dk_at dksX0_comes_0 10 rfl rfl)
theorem dX0_comes_11 : decode cX0_comes 11 = .ok (.getfield 90, 3) := dk_180 0 90 (dk_at dksX0_comes_0 11 rfl rfl)
theorem dX0_comes_14 : decode cX0_comes 14 = .ok (.iload_n 2, 1) := dk_28 (dk_at dksX0_comes_0 14 rfl rfl)
theorem dX0_comes_15 : decode cX0_comes 15 = .ok (.if_icmp .ne 5, 3) := dk_160 0 5 (dk_at dksX0_comes_0 15 rfl rfl)
theorem dX0_comes_18 : decode cX0_comes 18 = .ok (.iconst 0, 1) := dk_3 (dk_at dksX0_comes_0 18 rfl rfl)
theorem dX0_comes_19 : decode cX0_comes 19 = .ok (.ireturn, 1) := dk_172 (dk_at dksX0_comes_0 19 rfl rfl)
theorem dX0_comes_20 : decode cX0_comes 20 = .ok (.aload_n 3, 1) := dk_45 (dk_at dksX0_comes_0 20 rfl rfl)
theorem dX0_comes_21 : decode cX0_comes 21 = .ok (.iload_n 2, 1) := dk_28 (dk_at dksX0_comes_0 21 rfl rfl)
theorem dX0_comes_22 : decode cX0_comes 22 = .ok (.putfield 90, 3) := dk_181 0 90 (dk_at dksX0_comes_1 0 rfl rfl)
theorem dX0_comes_25 : decode cX0_comes 25 = .ok (.aload_n 3, 1) := dk_45 (dk_at dksX0_comes_1 3 rfl rfl)
theorem dX0_comes_26 : decode cX0_comes 26 = .ok (.invokevirtual 177, 3) := dk_182 0 177 (dk_at dksX0_comes_1 4 rfl rfl)
theorem dX0_comes_29 : decode cX0_comes 29 = .ok (.iconst 1, 1) := dk_4 (dk_at dksX0_comes_1 7 rfl rfl)
theorem dX0_comes_30 : decode cX0_comes 30 = .ok (.ireturn, 1) := dk_172 (dk_at dksX0_comes_1 8 rfl rfl)
abbrev cX0_seat : ByteArray := prog_1_method_19_code
def yX0_seat : MethodName := ⟨RX0, "seat", "(III)Z"⟩
def dkwX0_seat_3 : List UInt8 := [25, 4, 29, 181, 0, 137, 4, 172]
abbrev dktX0_seat_3 : List UInt8 := dkwX0_seat_3 ++ []
def dkwX0_seat_2 : List UInt8 := [100, 184, 0, 76, 153, 0, 12, 42, 28, 29, 182, 0, 187, 198, 0, 5, 3, 172, 25, 4, 28, 181, 0, 134]
abbrev dktX0_seat_2 : List UInt8 := dkwX0_seat_2 ++ dktX0_seat_3
def dkwX0_seat_1 : List UInt8 := [153, 0, 40, 25, 4, 180, 0, 138, 154, 0, 32, 25, 5, 198, 0, 27, 29, 3, 25, 5, 180, 0, 184, 4]
abbrev dktX0_seat_1 : List UInt8 := dkwX0_seat_1 ++ dktX0_seat_2
def dkwX0_seat_0 : List UInt8 := [42, 27, 182, 0, 128, 58, 4, 42, 28, 182, 0, 180, 58, 5, 25, 4, 198, 0, 48, 25, 4, 180, 0, 90]
abbrev dktX0_seat_0 : List UInt8 := dkwX0_seat_0 ++ dktX0_seat_1
theorem dksX0_seat_0 : cX0_seat.data.toList.drop 0 = dktX0_seat_0 := by decide +kernel
theorem dksX0_seat_1 : cX0_seat.data.toList.drop 24 = dktX0_seat_1 := dk_seg dksX0_seat_0 24 rfl rfl
theorem dksX0_seat_2 : cX0_seat.data.toList.drop 48 = dktX0_seat_2 := dk_seg dksX0_seat_1 24 rfl rfl
theorem dksX0_seat_3 : cX0_seat.data.toList.drop 72 = dktX0_seat_3 := dk_seg dksX0_seat_2 24 rfl rfl
theorem dX0_seat_0 : decode cX0_seat 0 = .ok (.aload_n 0, 1) := dk_42 (dk_at dksX0_seat_0 0 rfl rfl)
theorem dX0_seat_1 : decode cX0_seat 1 = .ok (.iload_n 1, 1) := dk_27 (dk_at dksX0_seat_0 1 rfl rfl)
theorem dX0_seat_2 : decode cX0_seat 2 = .ok (.invokevirtual 128, 3) := dk_182 0 128 (dk_at dksX0_seat_0 2 rfl rfl)
theorem dX0_seat_5 : decode cX0_seat 5 = .ok (.astore 4, 2) := dk_58 4 (dk_at dksX0_seat_0 5 rfl rfl)
theorem dX0_seat_7 : decode cX0_seat 7 = .ok (.aload_n 0, 1) := dk_42 (dk_at dksX0_seat_0 7 rfl rfl)
theorem dX0_seat_8 : decode cX0_seat 8 = .ok (.iload_n 2, 1) := dk_28 (dk_at dksX0_seat_0 8 rfl rfl)
theorem dX0_seat_9 : decode cX0_seat 9 = .ok (.invokevirtual 180, 3) := dk_182 0 180 (dk_at dksX0_seat_0 9 rfl rfl)
theorem dX0_seat_12 : decode cX0_seat 12 = .ok (.astore 5, 2) := dk_58 5 (dk_at dksX0_seat_0 12 rfl rfl)
theorem dX0_seat_14 : decode cX0_seat 14 = .ok (.aload 4, 2) := dk_25 4 (dk_at dksX0_seat_0 14 rfl rfl)
theorem dX0_seat_16 : decode cX0_seat 16 = .ok (.ifnull 48, 3) := dk_198 0 48 (dk_at dksX0_seat_0 16 rfl rfl)
theorem dX0_seat_19 : decode cX0_seat 19 = .ok (.aload 4, 2) := dk_25 4 (dk_at dksX0_seat_0 19 rfl rfl)
theorem dX0_seat_21 : decode cX0_seat 21 = .ok (.getfield 90, 3) := dk_180 0 90 (dk_at dksX0_seat_0 21 rfl rfl)
theorem dX0_seat_24 : decode cX0_seat 24 = .ok (.ifCond .eq 40, 3) := dk_153 0 40 (dk_at dksX0_seat_1 0 rfl rfl)
theorem dX0_seat_27 : decode cX0_seat 27 = .ok (.aload 4, 2) := dk_25 4 (dk_at dksX0_seat_1 3 rfl rfl)
theorem dX0_seat_29 : decode cX0_seat 29 = .ok (.getfield 138, 3) := dk_180 0 138 (dk_at dksX0_seat_1 5 rfl rfl)
theorem dX0_seat_32 : decode cX0_seat 32 = .ok (.ifCond .ne 32, 3) := dk_154 0 32 (dk_at dksX0_seat_1 8 rfl rfl)
theorem dX0_seat_35 : decode cX0_seat 35 = .ok (.aload 5, 2) := dk_25 5 (dk_at dksX0_seat_1 11 rfl rfl)
theorem dX0_seat_37 : decode cX0_seat 37 = .ok (.ifnull 27, 3) := dk_198 0 27 (dk_at dksX0_seat_1 13 rfl rfl)
theorem dX0_seat_40 : decode cX0_seat 40 = .ok (.iload_n 3, 1) := dk_29 (dk_at dksX0_seat_1 16 rfl rfl)
theorem dX0_seat_41 : decode cX0_seat 41 = .ok (.iconst 0, 1) := dk_3 (dk_at dksX0_seat_1 17 rfl rfl)
theorem dX0_seat_42 : decode cX0_seat 42 = .ok (.aload 5, 2) := dk_25 5 (dk_at dksX0_seat_1 18 rfl rfl)
theorem dX0_seat_44 : decode cX0_seat 44 = .ok (.getfield 184, 3) := dk_180 0 184 (dk_at dksX0_seat_1 20 rfl rfl)
theorem dX0_seat_47 : decode cX0_seat 47 = .ok (.iconst 1, 1) := dk_4 (dk_at dksX0_seat_1 23 rfl rfl)
theorem dX0_seat_48 : decode cX0_seat 48 = .ok (.isub, 1) := dk_100 (dk_at dksX0_seat_2 0 rfl rfl)
theorem dX0_seat_49 : decode cX0_seat 49 = .ok (.invokestatic 76, 3) := dk_184 0 76 (dk_at dksX0_seat_2 1 rfl rfl)
theorem dX0_seat_52 : decode cX0_seat 52 = .ok (.ifCond .eq 12, 3) := dk_153 0 12 (dk_at dksX0_seat_2 4 rfl rfl)
theorem dX0_seat_55 : decode cX0_seat 55 = .ok (.aload_n 0, 1) := dk_42 (dk_at dksX0_seat_2 7 rfl rfl)
theorem dX0_seat_56 : decode cX0_seat 56 = .ok (.iload_n 2, 1) := dk_28 (dk_at dksX0_seat_2 8 rfl rfl)
theorem dX0_seat_57 : decode cX0_seat 57 = .ok (.iload_n 3, 1) := dk_29 (dk_at dksX0_seat_2 9 rfl rfl)
theorem dX0_seat_58 : decode cX0_seat 58 = .ok (.invokevirtual 187, 3) := dk_182 0 187 (dk_at dksX0_seat_2 10 rfl rfl)
theorem dX0_seat_61 : decode cX0_seat 61 = .ok (.ifnull 5, 3) := dk_198 0 5 (dk_at dksX0_seat_2 13 rfl rfl)
theorem dX0_seat_64 : decode cX0_seat 64 = .ok (.iconst 0, 1) := dk_3 (dk_at dksX0_seat_2 16 rfl rfl)
theorem dX0_seat_65 : decode cX0_seat 65 = .ok (.ireturn, 1) := dk_172 (dk_at dksX0_seat_2 17 rfl rfl)
theorem dX0_seat_66 : decode cX0_seat 66 = .ok (.aload 4, 2) := dk_25 4 (dk_at dksX0_seat_2 18 rfl rfl)
theorem dX0_seat_68 : decode cX0_seat 68 = .ok (.iload_n 2, 1) := dk_28 (dk_at dksX0_seat_2 20 rfl rfl)
theorem dX0_seat_69 : decode cX0_seat 69 = .ok (.putfield 134, 3) := dk_181 0 134 (dk_at dksX0_seat_2 21 rfl rfl)
theorem dX0_seat_72 : decode cX0_seat 72 = .ok (.aload 4, 2) := dk_25 4 (dk_at dksX0_seat_3 0 rfl rfl)
theorem dX0_seat_74 : decode cX0_seat 74 = .ok (.iload_n 3, 1) := dk_29 (dk_at dksX0_seat_3 2 rfl rfl)
theorem dX0_seat_75 : decode cX0_seat 75 = .ok (.putfield 137, 3) := dk_181 0 137 (dk_at dksX0_seat_3 3 rfl rfl)
theorem dX0_seat_78 : decode cX0_seat 78 = .ok (.iconst 1, 1) := dk_4 (dk_at dksX0_seat_3 6 rfl rfl)
theorem dX0_seat_79 : decode cX0_seat 79 = .ok (.ireturn, 1) := dk_172 (dk_at dksX0_seat_3 7 rfl rfl)
abbrev cX0_roomAt : ByteArray := prog_1_method_6_code
def yX0_roomAt : MethodName := ⟨RX0, "roomAt", "(I)LFirstIn$Room;"⟩
def dkwX0_roomAt_1 : List UInt8 := [182, 0, 80, 192, 0, 88, 167, 0, 4, 1, 176]
abbrev dktX0_roomAt_1 : List UInt8 := dkwX0_roomAt_1 ++ []
def dkwX0_roomAt_0 : List UInt8 := [27, 3, 42, 180, 0, 50, 182, 0, 72, 4, 100, 184, 0, 76, 153, 0, 17, 42, 180, 0, 50, 27]
abbrev dktX0_roomAt_0 : List UInt8 := dkwX0_roomAt_0 ++ dktX0_roomAt_1
theorem dksX0_roomAt_0 : cX0_roomAt.data.toList.drop 0 = dktX0_roomAt_0 := by decide +kernel
theorem dksX0_roomAt_1 : cX0_roomAt.data.toList.drop 22 = dktX0_roomAt_1 := dk_seg dksX0_roomAt_0 22 rfl rfl
theorem dX0_roomAt_0 : decode cX0_roomAt 0 = .ok (.iload_n 1, 1) := dk_27 (dk_at dksX0_roomAt_0 0 rfl rfl)
theorem dX0_roomAt_1 : decode cX0_roomAt 1 = .ok (.iconst 0, 1) := dk_3 (dk_at dksX0_roomAt_0 1 rfl rfl)
theorem dX0_roomAt_2 : decode cX0_roomAt 2 = .ok (.aload_n 0, 1) := dk_42 (dk_at dksX0_roomAt_0 2 rfl rfl)
theorem dX0_roomAt_3 : decode cX0_roomAt 3 = .ok (.getfield 50, 3) := dk_180 0 50 (dk_at dksX0_roomAt_0 3 rfl rfl)
theorem dX0_roomAt_6 : decode cX0_roomAt 6 = .ok (.invokevirtual 72, 3) := dk_182 0 72 (dk_at dksX0_roomAt_0 6 rfl rfl)
theorem dX0_roomAt_9 : decode cX0_roomAt 9 = .ok (.iconst 1, 1) := dk_4 (dk_at dksX0_roomAt_0 9 rfl rfl)
theorem dX0_roomAt_10 : decode cX0_roomAt 10 = .ok (.isub, 1) := dk_100 (dk_at dksX0_roomAt_0 10 rfl rfl)
theorem dX0_roomAt_11 : decode cX0_roomAt 11 = .ok (.invokestatic 76, 3) := dk_184 0 76 (dk_at dksX0_roomAt_0 11 rfl rfl)
theorem dX0_roomAt_14 : decode cX0_roomAt 14 = .ok (.ifCond .eq 17, 3) := dk_153 0 17 (dk_at dksX0_roomAt_0 14 rfl rfl)
theorem dX0_roomAt_17 : decode cX0_roomAt 17 = .ok (.aload_n 0, 1) := dk_42 (dk_at dksX0_roomAt_0 17 rfl rfl)
theorem dX0_roomAt_18 : decode cX0_roomAt 18 = .ok (.getfield 50, 3) := dk_180 0 50 (dk_at dksX0_roomAt_0 18 rfl rfl)
theorem dX0_roomAt_21 : decode cX0_roomAt 21 = .ok (.iload_n 1, 1) := dk_27 (dk_at dksX0_roomAt_0 21 rfl rfl)
theorem dX0_roomAt_22 : decode cX0_roomAt 22 = .ok (.invokevirtual 80, 3) := dk_182 0 80 (dk_at dksX0_roomAt_1 0 rfl rfl)
theorem dX0_roomAt_25 : decode cX0_roomAt 25 = .ok (.checkcast 88, 3) := dk_192 0 88 (dk_at dksX0_roomAt_1 3 rfl rfl)
theorem dX0_roomAt_28 : decode cX0_roomAt 28 = .ok (.goto 4, 3) := dk_167 0 4 (dk_at dksX0_roomAt_1 6 rfl rfl)
theorem dX0_roomAt_31 : decode cX0_roomAt 31 = .ok (.aconst_null, 1) := dk_1 (dk_at dksX0_roomAt_1 9 rfl rfl)
theorem dX0_roomAt_32 : decode cX0_roomAt 32 = .ok (.areturn, 1) := dk_176 (dk_at dksX0_roomAt_1 10 rfl rfl)
abbrev cX0_who : ByteArray := prog_1_method_18_code
def yX0_who : MethodName := ⟨RX0, "who", "(II)LFirstIn$Guest;"⟩
def dkwX0_who_2 : List UInt8 := [160, 0, 15, 42, 180, 0, 40, 29, 182, 0, 80, 192, 0, 84, 176, 132, 3, 1, 167, 255, 194, 1, 176]
abbrev dktX0_who_2 : List UInt8 := dkwX0_who_2 ++ []
def dkwX0_who_1 : List UInt8 := [180, 0, 134, 27, 160, 0, 33, 42, 180, 0, 40, 29, 182, 0, 80, 192, 0, 84, 180, 0, 137, 28]
abbrev dktX0_who_1 : List UInt8 := dkwX0_who_1 ++ dktX0_who_2
def dkwX0_who_0 : List UInt8 := [3, 62, 29, 42, 180, 0, 40, 182, 0, 72, 162, 0, 57, 42, 180, 0, 40, 29, 182, 0, 80, 192, 0, 84]
abbrev dktX0_who_0 : List UInt8 := dkwX0_who_0 ++ dktX0_who_1
theorem dksX0_who_0 : cX0_who.data.toList.drop 0 = dktX0_who_0 := by decide +kernel
theorem dksX0_who_1 : cX0_who.data.toList.drop 24 = dktX0_who_1 := dk_seg dksX0_who_0 24 rfl rfl
theorem dksX0_who_2 : cX0_who.data.toList.drop 46 = dktX0_who_2 := dk_seg dksX0_who_1 22 rfl rfl
theorem dX0_who_0 : decode cX0_who 0 = .ok (.iconst 0, 1) := dk_3 (dk_at dksX0_who_0 0 rfl rfl)
theorem dX0_who_1 : decode cX0_who 1 = .ok (.istore_n 3, 1) := dk_62 (dk_at dksX0_who_0 1 rfl rfl)
theorem dX0_who_2 : decode cX0_who 2 = .ok (.iload_n 3, 1) := dk_29 (dk_at dksX0_who_0 2 rfl rfl)
theorem dX0_who_3 : decode cX0_who 3 = .ok (.aload_n 0, 1) := dk_42 (dk_at dksX0_who_0 3 rfl rfl)
theorem dX0_who_4 : decode cX0_who 4 = .ok (.getfield 40, 3) := dk_180 0 40 (dk_at dksX0_who_0 4 rfl rfl)
theorem dX0_who_7 : decode cX0_who 7 = .ok (.invokevirtual 72, 3) := dk_182 0 72 (dk_at dksX0_who_0 7 rfl rfl)
theorem dX0_who_10 : decode cX0_who 10 = .ok (.if_icmp .ge 57, 3) := dk_162 0 57 (dk_at dksX0_who_0 10 rfl rfl)
theorem dX0_who_13 : decode cX0_who 13 = .ok (.aload_n 0, 1) := dk_42 (dk_at dksX0_who_0 13 rfl rfl)
theorem dX0_who_14 : decode cX0_who 14 = .ok (.getfield 40, 3) := dk_180 0 40 (dk_at dksX0_who_0 14 rfl rfl)
theorem dX0_who_17 : decode cX0_who 17 = .ok (.iload_n 3, 1) := dk_29 (dk_at dksX0_who_0 17 rfl rfl)
theorem dX0_who_18 : decode cX0_who 18 = .ok (.invokevirtual 80, 3) := dk_182 0 80 (dk_at dksX0_who_0 18 rfl rfl)
theorem dX0_who_21 : decode cX0_who 21 = .ok (.checkcast 84, 3) := dk_192 0 84 (dk_at dksX0_who_0 21 rfl rfl)
theorem dX0_who_24 : decode cX0_who 24 = .ok (.getfield 134, 3) := dk_180 0 134 (dk_at dksX0_who_1 0 rfl rfl)
theorem dX0_who_27 : decode cX0_who 27 = .ok (.iload_n 1, 1) := dk_27 (dk_at dksX0_who_1 3 rfl rfl)
theorem dX0_who_28 : decode cX0_who 28 = .ok (.if_icmp .ne 33, 3) := dk_160 0 33 (dk_at dksX0_who_1 4 rfl rfl)
theorem dX0_who_31 : decode cX0_who 31 = .ok (.aload_n 0, 1) := dk_42 (dk_at dksX0_who_1 7 rfl rfl)
theorem dX0_who_32 : decode cX0_who 32 = .ok (.getfield 40, 3) := dk_180 0 40 (dk_at dksX0_who_1 8 rfl rfl)
theorem dX0_who_35 : decode cX0_who 35 = .ok (.iload_n 3, 1) := dk_29 (dk_at dksX0_who_1 11 rfl rfl)
theorem dX0_who_36 : decode cX0_who 36 = .ok (.invokevirtual 80, 3) := dk_182 0 80 (dk_at dksX0_who_1 12 rfl rfl)
theorem dX0_who_39 : decode cX0_who 39 = .ok (.checkcast 84, 3) := dk_192 0 84 (dk_at dksX0_who_1 15 rfl rfl)
theorem dX0_who_42 : decode cX0_who 42 = .ok (.getfield 137, 3) := dk_180 0 137 (dk_at dksX0_who_1 18 rfl rfl)
theorem dX0_who_45 : decode cX0_who 45 = .ok (.iload_n 2, 1) := dk_28 (dk_at dksX0_who_1 21 rfl rfl)
theorem dX0_who_46 : decode cX0_who 46 = .ok (.if_icmp .ne 15, 3) := dk_160 0 15 (dk_at dksX0_who_2 0 rfl rfl)
theorem dX0_who_49 : decode cX0_who 49 = .ok (.aload_n 0, 1) := dk_42 (dk_at dksX0_who_2 3 rfl rfl)
theorem dX0_who_50 : decode cX0_who 50 = .ok (.getfield 40, 3) := dk_180 0 40 (dk_at dksX0_who_2 4 rfl rfl)
theorem dX0_who_53 : decode cX0_who 53 = .ok (.iload_n 3, 1) := dk_29 (dk_at dksX0_who_2 7 rfl rfl)
theorem dX0_who_54 : decode cX0_who 54 = .ok (.invokevirtual 80, 3) := dk_182 0 80 (dk_at dksX0_who_2 8 rfl rfl)
theorem dX0_who_57 : decode cX0_who 57 = .ok (.checkcast 84, 3) := dk_192 0 84 (dk_at dksX0_who_2 11 rfl rfl)
theorem dX0_who_60 : decode cX0_who 60 = .ok (.areturn, 1) := dk_176 (dk_at dksX0_who_2 14 rfl rfl)
theorem dX0_who_61 : decode cX0_who 61 = .ok (.iinc 3 1, 3) := dk_132 3 1 (dk_at dksX0_who_2 15 rfl rfl)
theorem dX0_who_64 : decode cX0_who 64 = .ok (.goto (-62), 3) := dk_167 255 194 (dk_at dksX0_who_2 18 rfl rfl)
theorem dX0_who_67 : decode cX0_who 67 = .ok (.aconst_null, 1) := dk_1 (dk_at dksX0_who_2 21 rfl rfl)
theorem dX0_who_68 : decode cX0_who 68 = .ok (.areturn, 1) := dk_176 (dk_at dksX0_who_2 22 rfl rfl)
abbrev cX0_leave : ByteArray := prog_1_method_20_code
def yX0_leave : MethodName := ⟨RX0, "leave", "(I)Z"⟩
def dkwX0_leave_1 : List UInt8 := [153, 0, 5, 3, 172, 44, 182, 0, 177, 4, 172]
abbrev dktX0_leave_1 : List UInt8 := dkwX0_leave_1 ++ []
def dkwX0_leave_0 : List UInt8 := [42, 27, 182, 0, 128, 77, 44, 198, 0, 18, 44, 180, 0, 134, 2, 159, 0, 10, 44, 180, 0, 138]
abbrev dktX0_leave_0 : List UInt8 := dkwX0_leave_0 ++ dktX0_leave_1
theorem dksX0_leave_0 : cX0_leave.data.toList.drop 0 = dktX0_leave_0 := by decide +kernel
theorem dksX0_leave_1 : cX0_leave.data.toList.drop 22 = dktX0_leave_1 := dk_seg dksX0_leave_0 22 rfl rfl
theorem dX0_leave_0 : decode cX0_leave 0 = .ok (.aload_n 0, 1) := dk_42 (dk_at dksX0_leave_0 0 rfl rfl)
theorem dX0_leave_1 : decode cX0_leave 1 = .ok (.iload_n 1, 1) := dk_27 (dk_at dksX0_leave_0 1 rfl rfl)
theorem dX0_leave_2 : decode cX0_leave 2 = .ok (.invokevirtual 128, 3) := dk_182 0 128 (dk_at dksX0_leave_0 2 rfl rfl)
theorem dX0_leave_5 : decode cX0_leave 5 = .ok (.astore_n 2, 1) := dk_77 (dk_at dksX0_leave_0 5 rfl rfl)
theorem dX0_leave_6 : decode cX0_leave 6 = .ok (.aload_n 2, 1) := dk_44 (dk_at dksX0_leave_0 6 rfl rfl)
theorem dX0_leave_7 : decode cX0_leave 7 = .ok (.ifnull 18, 3) := dk_198 0 18 (dk_at dksX0_leave_0 7 rfl rfl)
theorem dX0_leave_10 : decode cX0_leave 10 = .ok (.aload_n 2, 1) := dk_44 (dk_at dksX0_leave_0 10 rfl rfl)
theorem dX0_leave_11 : decode cX0_leave 11 = .ok (.getfield 134, 3) := dk_180 0 134 (dk_at dksX0_leave_0 11 rfl rfl)
theorem dX0_leave_14 : decode cX0_leave 14 = .ok (.iconst (-1), 1) := dk_2 (dk_at dksX0_leave_0 14 rfl rfl)
theorem dX0_leave_15 : decode cX0_leave 15 = .ok (.if_icmp .eq 10, 3) := dk_159 0 10 (dk_at dksX0_leave_0 15 rfl rfl)
theorem dX0_leave_18 : decode cX0_leave 18 = .ok (.aload_n 2, 1) := dk_44 (dk_at dksX0_leave_0 18 rfl rfl)
theorem dX0_leave_19 : decode cX0_leave 19 = .ok (.getfield 138, 3) := dk_180 0 138 (dk_at dksX0_leave_0 19 rfl rfl)
theorem dX0_leave_22 : decode cX0_leave 22 = .ok (.ifCond .eq 5, 3) := dk_153 0 5 (dk_at dksX0_leave_1 0 rfl rfl)
theorem dX0_leave_25 : decode cX0_leave 25 = .ok (.iconst 0, 1) := dk_3 (dk_at dksX0_leave_1 3 rfl rfl)
theorem dX0_leave_26 : decode cX0_leave 26 = .ok (.ireturn, 1) := dk_172 (dk_at dksX0_leave_1 4 rfl rfl)
theorem dX0_leave_27 : decode cX0_leave 27 = .ok (.aload_n 2, 1) := dk_44 (dk_at dksX0_leave_1 5 rfl rfl)
theorem dX0_leave_28 : decode cX0_leave 28 = .ok (.invokevirtual 177, 3) := dk_182 0 177 (dk_at dksX0_leave_1 6 rfl rfl)
theorem dX0_leave_31 : decode cX0_leave 31 = .ok (.iconst 1, 1) := dk_4 (dk_at dksX0_leave_1 9 rfl rfl)
theorem dX0_leave_32 : decode cX0_leave 32 = .ok (.ireturn, 1) := dk_172 (dk_at dksX0_leave_1 10 rfl rfl)
abbrev cX0_sits : ByteArray := prog_1_method_21_code
def yX0_sits : MethodName := ⟨RX0, "sits", "(IZ)Z"⟩
def dkwX0_sits_1 : List UInt8 := [160, 0, 5, 3, 172, 45, 28, 181, 0, 138, 4, 172]
abbrev dktX0_sits_1 : List UInt8 := dkwX0_sits_1 ++ []
def dkwX0_sits_0 : List UInt8 := [42, 27, 182, 0, 128, 78, 45, 198, 0, 19, 45, 180, 0, 134, 2, 159, 0, 11, 45, 180, 0, 138, 28]
abbrev dktX0_sits_0 : List UInt8 := dkwX0_sits_0 ++ dktX0_sits_1
theorem dksX0_sits_0 : cX0_sits.data.toList.drop 0 = dktX0_sits_0 := by decide +kernel
theorem dksX0_sits_1 : cX0_sits.data.toList.drop 23 = dktX0_sits_1 := dk_seg dksX0_sits_0 23 rfl rfl
theorem dX0_sits_0 : decode cX0_sits 0 = .ok (.aload_n 0, 1) := dk_42 (dk_at dksX0_sits_0 0 rfl rfl)
theorem dX0_sits_1 : decode cX0_sits 1 = .ok (.iload_n 1, 1) := dk_27 (dk_at dksX0_sits_0 1 rfl rfl)
theorem dX0_sits_2 : decode cX0_sits 2 = .ok (.invokevirtual 128, 3) := dk_182 0 128 (dk_at dksX0_sits_0 2 rfl rfl)
theorem dX0_sits_5 : decode cX0_sits 5 = .ok (.astore_n 3, 1) := dk_78 (dk_at dksX0_sits_0 5 rfl rfl)
theorem dX0_sits_6 : decode cX0_sits 6 = .ok (.aload_n 3, 1) := dk_45 (dk_at dksX0_sits_0 6 rfl rfl)
theorem dX0_sits_7 : decode cX0_sits 7 = .ok (.ifnull 19, 3) := dk_198 0 19 (dk_at dksX0_sits_0 7 rfl rfl)
theorem dX0_sits_10 : decode cX0_sits 10 = .ok (.aload_n 3, 1) := dk_45 (dk_at dksX0_sits_0 10 rfl rfl)
theorem dX0_sits_11 : decode cX0_sits 11 = .ok (.getfield 134, 3) := dk_180 0 134 (dk_at dksX0_sits_0 11 rfl rfl)
theorem dX0_sits_14 : decode cX0_sits 14 = .ok (.iconst (-1), 1) := dk_2 (dk_at dksX0_sits_0 14 rfl rfl)
theorem dX0_sits_15 : decode cX0_sits 15 = .ok (.if_icmp .eq 11, 3) := dk_159 0 11 (dk_at dksX0_sits_0 15 rfl rfl)
theorem dX0_sits_18 : decode cX0_sits 18 = .ok (.aload_n 3, 1) := dk_45 (dk_at dksX0_sits_0 18 rfl rfl)
theorem dX0_sits_19 : decode cX0_sits 19 = .ok (.getfield 138, 3) := dk_180 0 138 (dk_at dksX0_sits_0 19 rfl rfl)
theorem dX0_sits_22 : decode cX0_sits 22 = .ok (.iload_n 2, 1) := dk_28 (dk_at dksX0_sits_0 22 rfl rfl)
theorem dX0_sits_23 : decode cX0_sits 23 = .ok (.if_icmp .ne 5, 3) := dk_160 0 5 (dk_at dksX0_sits_1 0 rfl rfl)
theorem dX0_sits_26 : decode cX0_sits 26 = .ok (.iconst 0, 1) := dk_3 (dk_at dksX0_sits_1 3 rfl rfl)
theorem dX0_sits_27 : decode cX0_sits 27 = .ok (.ireturn, 1) := dk_172 (dk_at dksX0_sits_1 4 rfl rfl)
theorem dX0_sits_28 : decode cX0_sits 28 = .ok (.aload_n 3, 1) := dk_45 (dk_at dksX0_sits_1 5 rfl rfl)
theorem dX0_sits_29 : decode cX0_sits 29 = .ok (.iload_n 2, 1) := dk_28 (dk_at dksX0_sits_1 6 rfl rfl)
theorem dX0_sits_30 : decode cX0_sits 30 = .ok (.putfield 138, 3) := dk_181 0 138 (dk_at dksX0_sits_1 7 rfl rfl)
theorem dX0_sits_33 : decode cX0_sits 33 = .ok (.iconst 1, 1) := dk_4 (dk_at dksX0_sits_1 10 rfl rfl)
theorem dX0_sits_34 : decode cX0_sits 34 = .ok (.ireturn, 1) := dk_172 (dk_at dksX0_sits_1 11 rfl rfl)
abbrev cX0_higher : ByteArray := prog_1_method_22_code
def yX0_higher : MethodName := ⟨RX0, "higher", "(IIII)I"⟩
def dkwX0_higher_2 : List UInt8 := [184, 0, 76, 154, 0, 7, 2, 167, 0, 12, 25, 5, 28, 29, 21, 4, 182, 0, 191, 172]
abbrev dktX0_higher_2 : List UInt8 := dkwX0_higher_2 ++ []
def dkwX0_higher_1 : List UInt8 := [25, 5, 180, 0, 184, 4, 100, 184, 0, 76, 153, 0, 19, 21, 4, 3, 25, 5, 180, 0, 184, 4, 100]
abbrev dktX0_higher_1 : List UInt8 := dkwX0_higher_1 ++ dktX0_higher_2
def dkwX0_higher_0 : List UInt8 := [42, 27, 182, 0, 180, 58, 5, 25, 5, 198, 0, 44, 28, 3, 16, 9, 184, 0, 76, 153, 0, 34, 29, 3]
abbrev dktX0_higher_0 : List UInt8 := dkwX0_higher_0 ++ dktX0_higher_1
theorem dksX0_higher_0 : cX0_higher.data.toList.drop 0 = dktX0_higher_0 := by decide +kernel
theorem dksX0_higher_1 : cX0_higher.data.toList.drop 24 = dktX0_higher_1 := dk_seg dksX0_higher_0 24 rfl rfl
theorem dksX0_higher_2 : cX0_higher.data.toList.drop 47 = dktX0_higher_2 := dk_seg dksX0_higher_1 23 rfl rfl
theorem dX0_higher_0 : decode cX0_higher 0 = .ok (.aload_n 0, 1) := dk_42 (dk_at dksX0_higher_0 0 rfl rfl)
theorem dX0_higher_1 : decode cX0_higher 1 = .ok (.iload_n 1, 1) := dk_27 (dk_at dksX0_higher_0 1 rfl rfl)
theorem dX0_higher_2 : decode cX0_higher 2 = .ok (.invokevirtual 180, 3) := dk_182 0 180 (dk_at dksX0_higher_0 2 rfl rfl)
theorem dX0_higher_5 : decode cX0_higher 5 = .ok (.astore 5, 2) := dk_58 5 (dk_at dksX0_higher_0 5 rfl rfl)
theorem dX0_higher_7 : decode cX0_higher 7 = .ok (.aload 5, 2) := dk_25 5 (dk_at dksX0_higher_0 7 rfl rfl)
theorem dX0_higher_9 : decode cX0_higher 9 = .ok (.ifnull 44, 3) := dk_198 0 44 (dk_at dksX0_higher_0 9 rfl rfl)
theorem dX0_higher_12 : decode cX0_higher 12 = .ok (.iload_n 2, 1) := dk_28 (dk_at dksX0_higher_0 12 rfl rfl)
theorem dX0_higher_13 : decode cX0_higher 13 = .ok (.iconst 0, 1) := dk_3 (dk_at dksX0_higher_0 13 rfl rfl)
theorem dX0_higher_14 : decode cX0_higher 14 = .ok (.bipush 9, 2) := dk_16 9 (dk_at dksX0_higher_0 14 rfl rfl)
theorem dX0_higher_16 : decode cX0_higher 16 = .ok (.invokestatic 76, 3) := dk_184 0 76 (dk_at dksX0_higher_0 16 rfl rfl)
theorem dX0_higher_19 : decode cX0_higher 19 = .ok (.ifCond .eq 34, 3) := dk_153 0 34 (dk_at dksX0_higher_0 19 rfl rfl)
theorem dX0_higher_22 : decode cX0_higher 22 = .ok (.iload_n 3, 1) := dk_29 (dk_at dksX0_higher_0 22 rfl rfl)
theorem dX0_higher_23 : decode cX0_higher 23 = .ok (.iconst 0, 1) := dk_3 (dk_at dksX0_higher_0 23 rfl rfl)
theorem dX0_higher_24 : decode cX0_higher 24 = .ok (.aload 5, 2) := dk_25 5 (dk_at dksX0_higher_1 0 rfl rfl)
theorem dX0_higher_26 : decode cX0_higher 26 = .ok (.getfield 184, 3) := dk_180 0 184 (dk_at dksX0_higher_1 2 rfl rfl)
theorem dX0_higher_29 : decode cX0_higher 29 = .ok (.iconst 1, 1) := dk_4 (dk_at dksX0_higher_1 5 rfl rfl)
theorem dX0_higher_30 : decode cX0_higher 30 = .ok (.isub, 1) := dk_100 (dk_at dksX0_higher_1 6 rfl rfl)
theorem dX0_higher_31 : decode cX0_higher 31 = .ok (.invokestatic 76, 3) := dk_184 0 76 (dk_at dksX0_higher_1 7 rfl rfl)
theorem dX0_higher_34 : decode cX0_higher 34 = .ok (.ifCond .eq 19, 3) := dk_153 0 19 (dk_at dksX0_higher_1 10 rfl rfl)
theorem dX0_higher_37 : decode cX0_higher 37 = .ok (.iload 4, 2) := dk_21 4 (dk_at dksX0_higher_1 13 rfl rfl)
theorem dX0_higher_39 : decode cX0_higher 39 = .ok (.iconst 0, 1) := dk_3 (dk_at dksX0_higher_1 15 rfl rfl)
theorem dX0_higher_40 : decode cX0_higher 40 = .ok (.aload 5, 2) := dk_25 5 (dk_at dksX0_higher_1 16 rfl rfl)
theorem dX0_higher_42 : decode cX0_higher 42 = .ok (.getfield 184, 3) := dk_180 0 184 (dk_at dksX0_higher_1 18 rfl rfl)
theorem dX0_higher_45 : decode cX0_higher 45 = .ok (.iconst 1, 1) := dk_4 (dk_at dksX0_higher_1 21 rfl rfl)
theorem dX0_higher_46 : decode cX0_higher 46 = .ok (.isub, 1) := dk_100 (dk_at dksX0_higher_1 22 rfl rfl)
theorem dX0_higher_47 : decode cX0_higher 47 = .ok (.invokestatic 76, 3) := dk_184 0 76 (dk_at dksX0_higher_2 0 rfl rfl)
theorem dX0_higher_50 : decode cX0_higher 50 = .ok (.ifCond .ne 7, 3) := dk_154 0 7 (dk_at dksX0_higher_2 3 rfl rfl)
theorem dX0_higher_53 : decode cX0_higher 53 = .ok (.iconst (-1), 1) := dk_2 (dk_at dksX0_higher_2 6 rfl rfl)
theorem dX0_higher_54 : decode cX0_higher 54 = .ok (.goto 12, 3) := dk_167 0 12 (dk_at dksX0_higher_2 7 rfl rfl)
theorem dX0_higher_57 : decode cX0_higher 57 = .ok (.aload 5, 2) := dk_25 5 (dk_at dksX0_higher_2 10 rfl rfl)
theorem dX0_higher_59 : decode cX0_higher 59 = .ok (.iload_n 2, 1) := dk_28 (dk_at dksX0_higher_2 12 rfl rfl)
theorem dX0_higher_60 : decode cX0_higher 60 = .ok (.iload_n 3, 1) := dk_29 (dk_at dksX0_higher_2 13 rfl rfl)
theorem dX0_higher_61 : decode cX0_higher 61 = .ok (.iload 4, 2) := dk_21 4 (dk_at dksX0_higher_2 14 rfl rfl)
theorem dX0_higher_63 : decode cX0_higher 63 = .ok (.invokevirtual 191, 3) := dk_182 0 191 (dk_at dksX0_higher_2 16 rfl rfl)
theorem dX0_higher_66 : decode cX0_higher 66 = .ok (.ireturn, 1) := dk_172 (dk_at dksX0_higher_2 19 rfl rfl)
abbrev cX0_source : ByteArray := prog_1_method_28_code
def yX0_source : MethodName := ⟨RX0, "source", "(III)I"⟩
def dkwX0_source_1 : List UInt8 := [2, 167, 0, 10, 42, 27, 28, 29, 182, 0, 215, 172]
abbrev dktX0_source_1 : List UInt8 := dkwX0_source_1 ++ []
def dkwX0_source_0 : List UInt8 := [42, 27, 182, 0, 180, 198, 0, 19, 42, 28, 182, 0, 128, 198, 0, 11, 42, 29, 182, 0, 128, 199, 0, 7]
abbrev dktX0_source_0 : List UInt8 := dkwX0_source_0 ++ dktX0_source_1
theorem dksX0_source_0 : cX0_source.data.toList.drop 0 = dktX0_source_0 := by decide +kernel
theorem dksX0_source_1 : cX0_source.data.toList.drop 24 = dktX0_source_1 := dk_seg dksX0_source_0 24 rfl rfl
theorem dX0_source_0 : decode cX0_source 0 = .ok (.aload_n 0, 1) := dk_42 (dk_at dksX0_source_0 0 rfl rfl)
theorem dX0_source_1 : decode cX0_source 1 = .ok (.iload_n 1, 1) := dk_27 (dk_at dksX0_source_0 1 rfl rfl)
theorem dX0_source_2 : decode cX0_source 2 = .ok (.invokevirtual 180, 3) := dk_182 0 180 (dk_at dksX0_source_0 2 rfl rfl)
theorem dX0_source_5 : decode cX0_source 5 = .ok (.ifnull 19, 3) := dk_198 0 19 (dk_at dksX0_source_0 5 rfl rfl)
theorem dX0_source_8 : decode cX0_source 8 = .ok (.aload_n 0, 1) := dk_42 (dk_at dksX0_source_0 8 rfl rfl)
theorem dX0_source_9 : decode cX0_source 9 = .ok (.iload_n 2, 1) := dk_28 (dk_at dksX0_source_0 9 rfl rfl)
theorem dX0_source_10 : decode cX0_source 10 = .ok (.invokevirtual 128, 3) := dk_182 0 128 (dk_at dksX0_source_0 10 rfl rfl)
theorem dX0_source_13 : decode cX0_source 13 = .ok (.ifnull 11, 3) := dk_198 0 11 (dk_at dksX0_source_0 13 rfl rfl)
theorem dX0_source_16 : decode cX0_source 16 = .ok (.aload_n 0, 1) := dk_42 (dk_at dksX0_source_0 16 rfl rfl)
theorem dX0_source_17 : decode cX0_source 17 = .ok (.iload_n 3, 1) := dk_29 (dk_at dksX0_source_0 17 rfl rfl)
theorem dX0_source_18 : decode cX0_source 18 = .ok (.invokevirtual 128, 3) := dk_182 0 128 (dk_at dksX0_source_0 18 rfl rfl)
theorem dX0_source_21 : decode cX0_source 21 = .ok (.ifnonnull 7, 3) := dk_199 0 7 (dk_at dksX0_source_0 21 rfl rfl)
theorem dX0_source_24 : decode cX0_source 24 = .ok (.iconst (-1), 1) := dk_2 (dk_at dksX0_source_1 0 rfl rfl)
theorem dX0_source_25 : decode cX0_source 25 = .ok (.goto 10, 3) := dk_167 0 10 (dk_at dksX0_source_1 1 rfl rfl)
theorem dX0_source_28 : decode cX0_source 28 = .ok (.aload_n 0, 1) := dk_42 (dk_at dksX0_source_1 4 rfl rfl)
theorem dX0_source_29 : decode cX0_source 29 = .ok (.iload_n 1, 1) := dk_27 (dk_at dksX0_source_1 5 rfl rfl)
theorem dX0_source_30 : decode cX0_source 30 = .ok (.iload_n 2, 1) := dk_28 (dk_at dksX0_source_1 6 rfl rfl)
theorem dX0_source_31 : decode cX0_source 31 = .ok (.iload_n 3, 1) := dk_29 (dk_at dksX0_source_1 7 rfl rfl)
theorem dX0_source_32 : decode cX0_source 32 = .ok (.invokevirtual 215, 3) := dk_182 0 215 (dk_at dksX0_source_1 8 rfl rfl)
theorem dX0_source_35 : decode cX0_source 35 = .ok (.ireturn, 1) := dk_172 (dk_at dksX0_source_1 11 rfl rfl)
abbrev cX0_sourceOf : ByteArray := prog_1_method_27_code
def yX0_sourceOf : MethodName := ⟨RX0, "sourceOf", "(III)I"⟩
def dkwX0_sourceOf_4 : List UInt8 := [21, 5, 54, 4, 132, 5, 1, 167, 255, 163, 21, 4, 172]
abbrev dktX0_sourceOf_4 : List UInt8 := dkwX0_sourceOf_4 ++ []
def dkwX0_sourceOf_3 : List UInt8 := [25, 6, 180, 0, 160, 42, 180, 0, 47, 21, 4, 182, 0, 80, 192, 0, 86, 180, 0, 160, 164, 0, 7]
abbrev dktX0_sourceOf_3 : List UInt8 := dkwX0_sourceOf_3 ++ dktX0_sourceOf_4
def dkwX0_sourceOf_2 : List UInt8 := [153, 0, 50, 42, 25, 6, 28, 29, 182, 0, 211, 154, 0, 6, 167, 0, 36, 21, 4, 2, 159, 0, 26]
abbrev dktX0_sourceOf_2 : List UInt8 := dkwX0_sourceOf_2 ++ dktX0_sourceOf_3
def dkwX0_sourceOf_1 : List UInt8 := [182, 0, 80, 192, 0, 86, 58, 6, 25, 6, 182, 0, 145, 154, 0, 59, 25, 6, 27, 182, 0, 203]
abbrev dktX0_sourceOf_1 : List UInt8 := dkwX0_sourceOf_1 ++ dktX0_sourceOf_2
def dkwX0_sourceOf_0 : List UInt8 := [2, 54, 4, 3, 54, 5, 21, 5, 42, 180, 0, 47, 182, 0, 72, 162, 0, 87, 42, 180, 0, 47, 21, 5]
abbrev dktX0_sourceOf_0 : List UInt8 := dkwX0_sourceOf_0 ++ dktX0_sourceOf_1
theorem dksX0_sourceOf_0 : cX0_sourceOf.data.toList.drop 0 = dktX0_sourceOf_0 := by decide +kernel
theorem dksX0_sourceOf_1 : cX0_sourceOf.data.toList.drop 24 = dktX0_sourceOf_1 := dk_seg dksX0_sourceOf_0 24 rfl rfl
theorem dksX0_sourceOf_2 : cX0_sourceOf.data.toList.drop 46 = dktX0_sourceOf_2 := dk_seg dksX0_sourceOf_1 22 rfl rfl
theorem dksX0_sourceOf_3 : cX0_sourceOf.data.toList.drop 69 = dktX0_sourceOf_3 := dk_seg dksX0_sourceOf_2 23 rfl rfl
theorem dksX0_sourceOf_4 : cX0_sourceOf.data.toList.drop 92 = dktX0_sourceOf_4 := dk_seg dksX0_sourceOf_3 23 rfl rfl
theorem dX0_sourceOf_0 : decode cX0_sourceOf 0 = .ok (.iconst (-1), 1) := dk_2 (dk_at dksX0_sourceOf_0 0 rfl rfl)
theorem dX0_sourceOf_1 : decode cX0_sourceOf 1 = .ok (.istore 4, 2) := dk_54 4 (dk_at dksX0_sourceOf_0 1 rfl rfl)
theorem dX0_sourceOf_3 : decode cX0_sourceOf 3 = .ok (.iconst 0, 1) := dk_3 (dk_at dksX0_sourceOf_0 3 rfl rfl)
theorem dX0_sourceOf_4 : decode cX0_sourceOf 4 = .ok (.istore 5, 2) := dk_54 5 (dk_at dksX0_sourceOf_0 4 rfl rfl)
theorem dX0_sourceOf_6 : decode cX0_sourceOf 6 = .ok (.iload 5, 2) := dk_21 5 (dk_at dksX0_sourceOf_0 6 rfl rfl)
theorem dX0_sourceOf_8 : decode cX0_sourceOf 8 = .ok (.aload_n 0, 1) := dk_42 (dk_at dksX0_sourceOf_0 8 rfl rfl)
theorem dX0_sourceOf_9 : decode cX0_sourceOf 9 = .ok (.getfield 47, 3) := dk_180 0 47 (dk_at dksX0_sourceOf_0 9 rfl rfl)
theorem dX0_sourceOf_12 : decode cX0_sourceOf 12 = .ok (.invokevirtual 72, 3) := dk_182 0 72 (dk_at dksX0_sourceOf_0 12 rfl rfl)
theorem dX0_sourceOf_15 : decode cX0_sourceOf 15 = .ok (.if_icmp .ge 87, 3) := dk_162 0 87 (dk_at dksX0_sourceOf_0 15 rfl rfl)
theorem dX0_sourceOf_18 : decode cX0_sourceOf 18 = .ok (.aload_n 0, 1) := dk_42 (dk_at dksX0_sourceOf_0 18 rfl rfl)
theorem dX0_sourceOf_19 : decode cX0_sourceOf 19 = .ok (.getfield 47, 3) := dk_180 0 47 (dk_at dksX0_sourceOf_0 19 rfl rfl)
theorem dX0_sourceOf_22 : decode cX0_sourceOf 22 = .ok (.iload 5, 2) := dk_21 5 (dk_at dksX0_sourceOf_0 22 rfl rfl)
theorem dX0_sourceOf_24 : decode cX0_sourceOf 24 = .ok (.invokevirtual 80, 3) := dk_182 0 80 (dk_at dksX0_sourceOf_1 0 rfl rfl)
theorem dX0_sourceOf_27 : decode cX0_sourceOf 27 = .ok (.checkcast 86, 3) := dk_192 0 86 (dk_at dksX0_sourceOf_1 3 rfl rfl)
theorem dX0_sourceOf_30 : decode cX0_sourceOf 30 = .ok (.astore 6, 2) := dk_58 6 (dk_at dksX0_sourceOf_1 6 rfl rfl)
theorem dX0_sourceOf_32 : decode cX0_sourceOf 32 = .ok (.aload 6, 2) := dk_25 6 (dk_at dksX0_sourceOf_1 8 rfl rfl)
theorem dX0_sourceOf_34 : decode cX0_sourceOf 34 = .ok (.invokevirtual 145, 3) := dk_182 0 145 (dk_at dksX0_sourceOf_1 10 rfl rfl)
theorem dX0_sourceOf_37 : decode cX0_sourceOf 37 = .ok (.ifCond .ne 59, 3) := dk_154 0 59 (dk_at dksX0_sourceOf_1 13 rfl rfl)
theorem dX0_sourceOf_40 : decode cX0_sourceOf 40 = .ok (.aload 6, 2) := dk_25 6 (dk_at dksX0_sourceOf_1 16 rfl rfl)
theorem dX0_sourceOf_42 : decode cX0_sourceOf 42 = .ok (.iload_n 1, 1) := dk_27 (dk_at dksX0_sourceOf_1 18 rfl rfl)
theorem dX0_sourceOf_43 : decode cX0_sourceOf 43 = .ok (.invokevirtual 203, 3) := dk_182 0 203 (dk_at dksX0_sourceOf_1 19 rfl rfl)
theorem dX0_sourceOf_46 : decode cX0_sourceOf 46 = .ok (.ifCond .eq 50, 3) := dk_153 0 50 (dk_at dksX0_sourceOf_2 0 rfl rfl)
theorem dX0_sourceOf_49 : decode cX0_sourceOf 49 = .ok (.aload_n 0, 1) := dk_42 (dk_at dksX0_sourceOf_2 3 rfl rfl)
theorem dX0_sourceOf_50 : decode cX0_sourceOf 50 = .ok (.aload 6, 2) := dk_25 6 (dk_at dksX0_sourceOf_2 4 rfl rfl)
theorem dX0_sourceOf_52 : decode cX0_sourceOf 52 = .ok (.iload_n 2, 1) := dk_28 (dk_at dksX0_sourceOf_2 6 rfl rfl)
theorem dX0_sourceOf_53 : decode cX0_sourceOf 53 = .ok (.iload_n 3, 1) := dk_29 (dk_at dksX0_sourceOf_2 7 rfl rfl)
theorem dX0_sourceOf_54 : decode cX0_sourceOf 54 = .ok (.invokevirtual 211, 3) := dk_182 0 211 (dk_at dksX0_sourceOf_2 8 rfl rfl)
theorem dX0_sourceOf_57 : decode cX0_sourceOf 57 = .ok (.ifCond .ne 6, 3) := dk_154 0 6 (dk_at dksX0_sourceOf_2 11 rfl rfl)
theorem dX0_sourceOf_60 : decode cX0_sourceOf 60 = .ok (.goto 36, 3) := dk_167 0 36 (dk_at dksX0_sourceOf_2 14 rfl rfl)
theorem dX0_sourceOf_63 : decode cX0_sourceOf 63 = .ok (.iload 4, 2) := dk_21 4 (dk_at dksX0_sourceOf_2 17 rfl rfl)
theorem dX0_sourceOf_65 : decode cX0_sourceOf 65 = .ok (.iconst (-1), 1) := dk_2 (dk_at dksX0_sourceOf_2 19 rfl rfl)
theorem dX0_sourceOf_66 : decode cX0_sourceOf 66 = .ok (.if_icmp .eq 26, 3) := dk_159 0 26 (dk_at dksX0_sourceOf_2 20 rfl rfl)
theorem dX0_sourceOf_69 : decode cX0_sourceOf 69 = .ok (.aload 6, 2) := dk_25 6 (dk_at dksX0_sourceOf_3 0 rfl rfl)
theorem dX0_sourceOf_71 : decode cX0_sourceOf 71 = .ok (.getfield 160, 3) := dk_180 0 160 (dk_at dksX0_sourceOf_3 2 rfl rfl)
theorem dX0_sourceOf_74 : decode cX0_sourceOf 74 = .ok (.aload_n 0, 1) := dk_42 (dk_at dksX0_sourceOf_3 5 rfl rfl)
theorem dX0_sourceOf_75 : decode cX0_sourceOf 75 = .ok (.getfield 47, 3) := dk_180 0 47 (dk_at dksX0_sourceOf_3 6 rfl rfl)
theorem dX0_sourceOf_78 : decode cX0_sourceOf 78 = .ok (.iload 4, 2) := dk_21 4 (dk_at dksX0_sourceOf_3 9 rfl rfl)
theorem dX0_sourceOf_80 : decode cX0_sourceOf 80 = .ok (.invokevirtual 80, 3) := dk_182 0 80 (dk_at dksX0_sourceOf_3 11 rfl rfl)
theorem dX0_sourceOf_83 : decode cX0_sourceOf 83 = .ok (.checkcast 86, 3) := dk_192 0 86 (dk_at dksX0_sourceOf_3 14 rfl rfl)
theorem dX0_sourceOf_86 : decode cX0_sourceOf 86 = .ok (.getfield 160, 3) := dk_180 0 160 (dk_at dksX0_sourceOf_3 17 rfl rfl)
theorem dX0_sourceOf_89 : decode cX0_sourceOf 89 = .ok (.if_icmp .le 7, 3) := dk_164 0 7 (dk_at dksX0_sourceOf_3 20 rfl rfl)
theorem dX0_sourceOf_92 : decode cX0_sourceOf 92 = .ok (.iload 5, 2) := dk_21 5 (dk_at dksX0_sourceOf_4 0 rfl rfl)
theorem dX0_sourceOf_94 : decode cX0_sourceOf 94 = .ok (.istore 4, 2) := dk_54 4 (dk_at dksX0_sourceOf_4 2 rfl rfl)
theorem dX0_sourceOf_96 : decode cX0_sourceOf 96 = .ok (.iinc 5 1, 3) := dk_132 5 1 (dk_at dksX0_sourceOf_4 4 rfl rfl)
theorem dX0_sourceOf_99 : decode cX0_sourceOf 99 = .ok (.goto (-93), 3) := dk_167 255 163 (dk_at dksX0_sourceOf_4 7 rfl rfl)
theorem dX0_sourceOf_102 : decode cX0_sourceOf 102 = .ok (.iload 4, 2) := dk_21 4 (dk_at dksX0_sourceOf_4 10 rfl rfl)
theorem dX0_sourceOf_104 : decode cX0_sourceOf 104 = .ok (.ireturn, 1) := dk_172 (dk_at dksX0_sourceOf_4 12 rfl rfl)
abbrev cX0_hasCouple : ByteArray := prog_1_method_26_code
def yX0_hasCouple : MethodName := ⟨RX0, "hasCouple", "(LFirstIn$Rule;II)Z"⟩
def dkwX0_hasCouple_3 : List UInt8 := [132, 4, 1, 167, 255, 186, 3, 172]
abbrev dktX0_hasCouple_3 : List UInt8 := dkwX0_hasCouple_3 ++ []
def dkwX0_hasCouple_2 : List UInt8 := [180, 0, 200, 29, 160, 0, 20, 42, 43, 180, 0, 171, 21, 4, 182, 0, 80, 192, 0, 196, 182, 0, 207, 172]
abbrev dktX0_hasCouple_2 : List UInt8 := dkwX0_hasCouple_2 ++ dktX0_hasCouple_3
def dkwX0_hasCouple_1 : List UInt8 := [192, 0, 196, 180, 0, 195, 28, 160, 0, 39, 43, 180, 0, 171, 21, 4, 182, 0, 80, 192, 0, 196]
abbrev dktX0_hasCouple_1 : List UInt8 := dkwX0_hasCouple_1 ++ dktX0_hasCouple_2
def dkwX0_hasCouple_0 : List UInt8 := [3, 54, 4, 21, 4, 43, 180, 0, 171, 182, 0, 72, 162, 0, 64, 43, 180, 0, 171, 21, 4, 182, 0, 80]
abbrev dktX0_hasCouple_0 : List UInt8 := dkwX0_hasCouple_0 ++ dktX0_hasCouple_1
theorem dksX0_hasCouple_0 : cX0_hasCouple.data.toList.drop 0 = dktX0_hasCouple_0 := by decide +kernel
theorem dksX0_hasCouple_1 : cX0_hasCouple.data.toList.drop 24 = dktX0_hasCouple_1 := dk_seg dksX0_hasCouple_0 24 rfl rfl
theorem dksX0_hasCouple_2 : cX0_hasCouple.data.toList.drop 46 = dktX0_hasCouple_2 := dk_seg dksX0_hasCouple_1 22 rfl rfl
theorem dksX0_hasCouple_3 : cX0_hasCouple.data.toList.drop 70 = dktX0_hasCouple_3 := dk_seg dksX0_hasCouple_2 24 rfl rfl
theorem dX0_hasCouple_0 : decode cX0_hasCouple 0 = .ok (.iconst 0, 1) := dk_3 (dk_at dksX0_hasCouple_0 0 rfl rfl)
theorem dX0_hasCouple_1 : decode cX0_hasCouple 1 = .ok (.istore 4, 2) := dk_54 4 (dk_at dksX0_hasCouple_0 1 rfl rfl)
theorem dX0_hasCouple_3 : decode cX0_hasCouple 3 = .ok (.iload 4, 2) := dk_21 4 (dk_at dksX0_hasCouple_0 3 rfl rfl)
theorem dX0_hasCouple_5 : decode cX0_hasCouple 5 = .ok (.aload_n 1, 1) := dk_43 (dk_at dksX0_hasCouple_0 5 rfl rfl)
theorem dX0_hasCouple_6 : decode cX0_hasCouple 6 = .ok (.getfield 171, 3) := dk_180 0 171 (dk_at dksX0_hasCouple_0 6 rfl rfl)
theorem dX0_hasCouple_9 : decode cX0_hasCouple 9 = .ok (.invokevirtual 72, 3) := dk_182 0 72 (dk_at dksX0_hasCouple_0 9 rfl rfl)
theorem dX0_hasCouple_12 : decode cX0_hasCouple 12 = .ok (.if_icmp .ge 64, 3) := dk_162 0 64 (dk_at dksX0_hasCouple_0 12 rfl rfl)
theorem dX0_hasCouple_15 : decode cX0_hasCouple 15 = .ok (.aload_n 1, 1) := dk_43 (dk_at dksX0_hasCouple_0 15 rfl rfl)
theorem dX0_hasCouple_16 : decode cX0_hasCouple 16 = .ok (.getfield 171, 3) := dk_180 0 171 (dk_at dksX0_hasCouple_0 16 rfl rfl)
theorem dX0_hasCouple_19 : decode cX0_hasCouple 19 = .ok (.iload 4, 2) := dk_21 4 (dk_at dksX0_hasCouple_0 19 rfl rfl)
theorem dX0_hasCouple_21 : decode cX0_hasCouple 21 = .ok (.invokevirtual 80, 3) := dk_182 0 80 (dk_at dksX0_hasCouple_0 21 rfl rfl)
theorem dX0_hasCouple_24 : decode cX0_hasCouple 24 = .ok (.checkcast 196, 3) := dk_192 0 196 (dk_at dksX0_hasCouple_1 0 rfl rfl)
theorem dX0_hasCouple_27 : decode cX0_hasCouple 27 = .ok (.getfield 195, 3) := dk_180 0 195 (dk_at dksX0_hasCouple_1 3 rfl rfl)
theorem dX0_hasCouple_30 : decode cX0_hasCouple 30 = .ok (.iload_n 2, 1) := dk_28 (dk_at dksX0_hasCouple_1 6 rfl rfl)
theorem dX0_hasCouple_31 : decode cX0_hasCouple 31 = .ok (.if_icmp .ne 39, 3) := dk_160 0 39 (dk_at dksX0_hasCouple_1 7 rfl rfl)
theorem dX0_hasCouple_34 : decode cX0_hasCouple 34 = .ok (.aload_n 1, 1) := dk_43 (dk_at dksX0_hasCouple_1 10 rfl rfl)
theorem dX0_hasCouple_35 : decode cX0_hasCouple 35 = .ok (.getfield 171, 3) := dk_180 0 171 (dk_at dksX0_hasCouple_1 11 rfl rfl)
theorem dX0_hasCouple_38 : decode cX0_hasCouple 38 = .ok (.iload 4, 2) := dk_21 4 (dk_at dksX0_hasCouple_1 14 rfl rfl)
theorem dX0_hasCouple_40 : decode cX0_hasCouple 40 = .ok (.invokevirtual 80, 3) := dk_182 0 80 (dk_at dksX0_hasCouple_1 16 rfl rfl)
theorem dX0_hasCouple_43 : decode cX0_hasCouple 43 = .ok (.checkcast 196, 3) := dk_192 0 196 (dk_at dksX0_hasCouple_1 19 rfl rfl)
theorem dX0_hasCouple_46 : decode cX0_hasCouple 46 = .ok (.getfield 200, 3) := dk_180 0 200 (dk_at dksX0_hasCouple_2 0 rfl rfl)
theorem dX0_hasCouple_49 : decode cX0_hasCouple 49 = .ok (.iload_n 3, 1) := dk_29 (dk_at dksX0_hasCouple_2 3 rfl rfl)
theorem dX0_hasCouple_50 : decode cX0_hasCouple 50 = .ok (.if_icmp .ne 20, 3) := dk_160 0 20 (dk_at dksX0_hasCouple_2 4 rfl rfl)
theorem dX0_hasCouple_53 : decode cX0_hasCouple 53 = .ok (.aload_n 0, 1) := dk_42 (dk_at dksX0_hasCouple_2 7 rfl rfl)
theorem dX0_hasCouple_54 : decode cX0_hasCouple 54 = .ok (.aload_n 1, 1) := dk_43 (dk_at dksX0_hasCouple_2 8 rfl rfl)
theorem dX0_hasCouple_55 : decode cX0_hasCouple 55 = .ok (.getfield 171, 3) := dk_180 0 171 (dk_at dksX0_hasCouple_2 9 rfl rfl)
theorem dX0_hasCouple_58 : decode cX0_hasCouple 58 = .ok (.iload 4, 2) := dk_21 4 (dk_at dksX0_hasCouple_2 12 rfl rfl)
theorem dX0_hasCouple_60 : decode cX0_hasCouple 60 = .ok (.invokevirtual 80, 3) := dk_182 0 80 (dk_at dksX0_hasCouple_2 14 rfl rfl)
theorem dX0_hasCouple_63 : decode cX0_hasCouple 63 = .ok (.checkcast 196, 3) := dk_192 0 196 (dk_at dksX0_hasCouple_2 17 rfl rfl)
theorem dX0_hasCouple_66 : decode cX0_hasCouple 66 = .ok (.invokevirtual 207, 3) := dk_182 0 207 (dk_at dksX0_hasCouple_2 20 rfl rfl)
theorem dX0_hasCouple_69 : decode cX0_hasCouple 69 = .ok (.ireturn, 1) := dk_172 (dk_at dksX0_hasCouple_2 23 rfl rfl)
theorem dX0_hasCouple_70 : decode cX0_hasCouple 70 = .ok (.iinc 4 1, 3) := dk_132 4 1 (dk_at dksX0_hasCouple_3 0 rfl rfl)
theorem dX0_hasCouple_73 : decode cX0_hasCouple 73 = .ok (.goto (-70), 3) := dk_167 255 186 (dk_at dksX0_hasCouple_3 3 rfl rfl)
theorem dX0_hasCouple_76 : decode cX0_hasCouple 76 = .ok (.iconst 0, 1) := dk_3 (dk_at dksX0_hasCouple_3 6 rfl rfl)
theorem dX0_hasCouple_77 : decode cX0_hasCouple 77 = .ok (.ireturn, 1) := dk_172 (dk_at dksX0_hasCouple_3 7 rfl rfl)
abbrev cX0_areComing : ByteArray := prog_1_method_23_code
def yX0_areComing : MethodName := ⟨RX0, "areComing", "(LFirstIn$Couple;)Z"⟩
def dkwX0_areComing_1 : List UInt8 := [43, 180, 0, 200, 182, 0, 80, 192, 0, 84, 180, 0, 90, 153, 0, 7, 4, 167, 0, 4, 3, 172]
abbrev dktX0_areComing_1 : List UInt8 := dkwX0_areComing_1 ++ []
def dkwX0_areComing_0 : List UInt8 := [42, 180, 0, 40, 43, 180, 0, 195, 182, 0, 80, 192, 0, 84, 180, 0, 90, 153, 0, 27, 42, 180, 0, 40]
abbrev dktX0_areComing_0 : List UInt8 := dkwX0_areComing_0 ++ dktX0_areComing_1
theorem dksX0_areComing_0 : cX0_areComing.data.toList.drop 0 = dktX0_areComing_0 := by decide +kernel
theorem dksX0_areComing_1 : cX0_areComing.data.toList.drop 24 = dktX0_areComing_1 := dk_seg dksX0_areComing_0 24 rfl rfl
theorem dX0_areComing_0 : decode cX0_areComing 0 = .ok (.aload_n 0, 1) := dk_42 (dk_at dksX0_areComing_0 0 rfl rfl)
theorem dX0_areComing_1 : decode cX0_areComing 1 = .ok (.getfield 40, 3) := dk_180 0 40 (dk_at dksX0_areComing_0 1 rfl rfl)
theorem dX0_areComing_4 : decode cX0_areComing 4 = .ok (.aload_n 1, 1) := dk_43 (dk_at dksX0_areComing_0 4 rfl rfl)
theorem dX0_areComing_5 : decode cX0_areComing 5 = .ok (.getfield 195, 3) := dk_180 0 195 (dk_at dksX0_areComing_0 5 rfl rfl)
theorem dX0_areComing_8 : decode cX0_areComing 8 = .ok (.invokevirtual 80, 3) := dk_182 0 80 (dk_at dksX0_areComing_0 8 rfl rfl)
theorem dX0_areComing_11 : decode cX0_areComing 11 = .ok (.checkcast 84, 3) := dk_192 0 84 (dk_at dksX0_areComing_0 11 rfl rfl)
theorem dX0_areComing_14 : decode cX0_areComing 14 = .ok (.getfield 90, 3) := dk_180 0 90 (dk_at dksX0_areComing_0 14 rfl rfl)
theorem dX0_areComing_17 : decode cX0_areComing 17 = .ok (.ifCond .eq 27, 3) := dk_153 0 27 (dk_at dksX0_areComing_0 17 rfl rfl)
theorem dX0_areComing_20 : decode cX0_areComing 20 = .ok (.aload_n 0, 1) := dk_42 (dk_at dksX0_areComing_0 20 rfl rfl)
theorem dX0_areComing_21 : decode cX0_areComing 21 = .ok (.getfield 40, 3) := dk_180 0 40 (dk_at dksX0_areComing_0 21 rfl rfl)
theorem dX0_areComing_24 : decode cX0_areComing 24 = .ok (.aload_n 1, 1) := dk_43 (dk_at dksX0_areComing_1 0 rfl rfl)
theorem dX0_areComing_25 : decode cX0_areComing 25 = .ok (.getfield 200, 3) := dk_180 0 200 (dk_at dksX0_areComing_1 1 rfl rfl)
theorem dX0_areComing_28 : decode cX0_areComing 28 = .ok (.invokevirtual 80, 3) := dk_182 0 80 (dk_at dksX0_areComing_1 4 rfl rfl)
theorem dX0_areComing_31 : decode cX0_areComing 31 = .ok (.checkcast 84, 3) := dk_192 0 84 (dk_at dksX0_areComing_1 7 rfl rfl)
theorem dX0_areComing_34 : decode cX0_areComing 34 = .ok (.getfield 90, 3) := dk_180 0 90 (dk_at dksX0_areComing_1 10 rfl rfl)
theorem dX0_areComing_37 : decode cX0_areComing 37 = .ok (.ifCond .eq 7, 3) := dk_153 0 7 (dk_at dksX0_areComing_1 13 rfl rfl)
theorem dX0_areComing_40 : decode cX0_areComing 40 = .ok (.iconst 1, 1) := dk_4 (dk_at dksX0_areComing_1 16 rfl rfl)
theorem dX0_areComing_41 : decode cX0_areComing 41 = .ok (.goto 4, 3) := dk_167 0 4 (dk_at dksX0_areComing_1 17 rfl rfl)
theorem dX0_areComing_44 : decode cX0_areComing 44 = .ok (.iconst 0, 1) := dk_3 (dk_at dksX0_areComing_1 20 rfl rfl)
theorem dX0_areComing_45 : decode cX0_areComing 45 = .ok (.ireturn, 1) := dk_172 (dk_at dksX0_areComing_1 21 rfl rfl)
abbrev cX0_slights : ByteArray := prog_1_method_32_code
def yX0_slights : MethodName := ⟨RX0, "slights", "(III)I"⟩
def dkwX0_slights_4 : List UInt8 := [21, 5, 167, 0, 18, 29, 4, 160, 0, 11, 25, 4, 182, 0, 72, 167, 0, 5, 21, 6, 172]
abbrev dktX0_slights_4 : List UInt8 := dkwX0_slights_4 ++ []
def dkwX0_slights_3 : List UInt8 := [182, 0, 80, 192, 0, 222, 180, 0, 231, 184, 0, 240, 54, 6, 132, 7, 1, 167, 255, 205, 29, 154, 0, 8]
abbrev dktX0_slights_3 : List UInt8 := dkwX0_slights_3 ++ dktX0_slights_4
def dkwX0_slights_2 : List UInt8 := [21, 5, 25, 4, 21, 7, 182, 0, 80, 192, 0, 222, 180, 0, 231, 96, 54, 5, 21, 6, 25, 4, 21, 7]
abbrev dktX0_slights_2 : List UInt8 := dkwX0_slights_2 ++ dktX0_slights_3
def dkwX0_slights_1 : List UInt8 := [182, 0, 236, 58, 4, 3, 54, 5, 3, 54, 6, 3, 54, 7, 21, 7, 25, 4, 182, 0, 72, 162, 0, 47]
abbrev dktX0_slights_1 : List UInt8 := dkwX0_slights_1 ++ dktX0_slights_2
def dkwX0_slights_0 : List UInt8 := [42, 27, 28, 182, 0, 232, 153, 0, 12, 29, 3, 5, 184, 0, 76, 154, 0, 5, 2, 172, 42, 27, 28, 3]
abbrev dktX0_slights_0 : List UInt8 := dkwX0_slights_0 ++ dktX0_slights_1
theorem dksX0_slights_0 : cX0_slights.data.toList.drop 0 = dktX0_slights_0 := by decide +kernel
theorem dksX0_slights_1 : cX0_slights.data.toList.drop 24 = dktX0_slights_1 := dk_seg dksX0_slights_0 24 rfl rfl
theorem dksX0_slights_2 : cX0_slights.data.toList.drop 48 = dktX0_slights_2 := dk_seg dksX0_slights_1 24 rfl rfl
theorem dksX0_slights_3 : cX0_slights.data.toList.drop 72 = dktX0_slights_3 := dk_seg dksX0_slights_2 24 rfl rfl
theorem dksX0_slights_4 : cX0_slights.data.toList.drop 96 = dktX0_slights_4 := dk_seg dksX0_slights_3 24 rfl rfl
theorem dX0_slights_0 : decode cX0_slights 0 = .ok (.aload_n 0, 1) := dk_42 (dk_at dksX0_slights_0 0 rfl rfl)
theorem dX0_slights_1 : decode cX0_slights 1 = .ok (.iload_n 1, 1) := dk_27 (dk_at dksX0_slights_0 1 rfl rfl)
theorem dX0_slights_2 : decode cX0_slights 2 = .ok (.iload_n 2, 1) := dk_28 (dk_at dksX0_slights_0 2 rfl rfl)
theorem dX0_slights_3 : decode cX0_slights 3 = .ok (.invokevirtual 232, 3) := dk_182 0 232 (dk_at dksX0_slights_0 3 rfl rfl)
theorem dX0_slights_6 : decode cX0_slights 6 = .ok (.ifCond .eq 12, 3) := dk_153 0 12 (dk_at dksX0_slights_0 6 rfl rfl)
theorem dX0_slights_9 : decode cX0_slights 9 = .ok (.iload_n 3, 1) := dk_29 (dk_at dksX0_slights_0 9 rfl rfl)
theorem dX0_slights_10 : decode cX0_slights 10 = .ok (.iconst 0, 1) := dk_3 (dk_at dksX0_slights_0 10 rfl rfl)
theorem dX0_slights_11 : decode cX0_slights 11 = .ok (.iconst 2, 1) := dk_5 (dk_at dksX0_slights_0 11 rfl rfl)
theorem dX0_slights_12 : decode cX0_slights 12 = .ok (.invokestatic 76, 3) := dk_184 0 76 (dk_at dksX0_slights_0 12 rfl rfl)
theorem dX0_slights_15 : decode cX0_slights 15 = .ok (.ifCond .ne 5, 3) := dk_154 0 5 (dk_at dksX0_slights_0 15 rfl rfl)
theorem dX0_slights_18 : decode cX0_slights 18 = .ok (.iconst (-1), 1) := dk_2 (dk_at dksX0_slights_0 18 rfl rfl)
theorem dX0_slights_19 : decode cX0_slights 19 = .ok (.ireturn, 1) := dk_172 (dk_at dksX0_slights_0 19 rfl rfl)
theorem dX0_slights_20 : decode cX0_slights 20 = .ok (.aload_n 0, 1) := dk_42 (dk_at dksX0_slights_0 20 rfl rfl)
theorem dX0_slights_21 : decode cX0_slights 21 = .ok (.iload_n 1, 1) := dk_27 (dk_at dksX0_slights_0 21 rfl rfl)
theorem dX0_slights_22 : decode cX0_slights 22 = .ok (.iload_n 2, 1) := dk_28 (dk_at dksX0_slights_0 22 rfl rfl)
theorem dX0_slights_23 : decode cX0_slights 23 = .ok (.iconst 0, 1) := dk_3 (dk_at dksX0_slights_0 23 rfl rfl)
theorem dX0_slights_24 : decode cX0_slights 24 = .ok (.invokevirtual 236, 3) := dk_182 0 236 (dk_at dksX0_slights_1 0 rfl rfl)
theorem dX0_slights_27 : decode cX0_slights 27 = .ok (.astore 4, 2) := dk_58 4 (dk_at dksX0_slights_1 3 rfl rfl)
theorem dX0_slights_29 : decode cX0_slights 29 = .ok (.iconst 0, 1) := dk_3 (dk_at dksX0_slights_1 5 rfl rfl)
theorem dX0_slights_30 : decode cX0_slights 30 = .ok (.istore 5, 2) := dk_54 5 (dk_at dksX0_slights_1 6 rfl rfl)
theorem dX0_slights_32 : decode cX0_slights 32 = .ok (.iconst 0, 1) := dk_3 (dk_at dksX0_slights_1 8 rfl rfl)
theorem dX0_slights_33 : decode cX0_slights 33 = .ok (.istore 6, 2) := dk_54 6 (dk_at dksX0_slights_1 9 rfl rfl)
theorem dX0_slights_35 : decode cX0_slights 35 = .ok (.iconst 0, 1) := dk_3 (dk_at dksX0_slights_1 11 rfl rfl)
theorem dX0_slights_36 : decode cX0_slights 36 = .ok (.istore 7, 2) := dk_54 7 (dk_at dksX0_slights_1 12 rfl rfl)
theorem dX0_slights_38 : decode cX0_slights 38 = .ok (.iload 7, 2) := dk_21 7 (dk_at dksX0_slights_1 14 rfl rfl)
theorem dX0_slights_40 : decode cX0_slights 40 = .ok (.aload 4, 2) := dk_25 4 (dk_at dksX0_slights_1 16 rfl rfl)
theorem dX0_slights_42 : decode cX0_slights 42 = .ok (.invokevirtual 72, 3) := dk_182 0 72 (dk_at dksX0_slights_1 18 rfl rfl)
theorem dX0_slights_45 : decode cX0_slights 45 = .ok (.if_icmp .ge 47, 3) := dk_162 0 47 (dk_at dksX0_slights_1 21 rfl rfl)
theorem dX0_slights_48 : decode cX0_slights 48 = .ok (.iload 5, 2) := dk_21 5 (dk_at dksX0_slights_2 0 rfl rfl)
theorem dX0_slights_50 : decode cX0_slights 50 = .ok (.aload 4, 2) := dk_25 4 (dk_at dksX0_slights_2 2 rfl rfl)
theorem dX0_slights_52 : decode cX0_slights 52 = .ok (.iload 7, 2) := dk_21 7 (dk_at dksX0_slights_2 4 rfl rfl)
theorem dX0_slights_54 : decode cX0_slights 54 = .ok (.invokevirtual 80, 3) := dk_182 0 80 (dk_at dksX0_slights_2 6 rfl rfl)
theorem dX0_slights_57 : decode cX0_slights 57 = .ok (.checkcast 222, 3) := dk_192 0 222 (dk_at dksX0_slights_2 9 rfl rfl)
theorem dX0_slights_60 : decode cX0_slights 60 = .ok (.getfield 231, 3) := dk_180 0 231 (dk_at dksX0_slights_2 12 rfl rfl)
theorem dX0_slights_63 : decode cX0_slights 63 = .ok (.iadd, 1) := dk_96 (dk_at dksX0_slights_2 15 rfl rfl)
theorem dX0_slights_64 : decode cX0_slights 64 = .ok (.istore 5, 2) := dk_54 5 (dk_at dksX0_slights_2 16 rfl rfl)
theorem dX0_slights_66 : decode cX0_slights 66 = .ok (.iload 6, 2) := dk_21 6 (dk_at dksX0_slights_2 18 rfl rfl)
theorem dX0_slights_68 : decode cX0_slights 68 = .ok (.aload 4, 2) := dk_25 4 (dk_at dksX0_slights_2 20 rfl rfl)
theorem dX0_slights_70 : decode cX0_slights 70 = .ok (.iload 7, 2) := dk_21 7 (dk_at dksX0_slights_2 22 rfl rfl)
theorem dX0_slights_72 : decode cX0_slights 72 = .ok (.invokevirtual 80, 3) := dk_182 0 80 (dk_at dksX0_slights_3 0 rfl rfl)
theorem dX0_slights_75 : decode cX0_slights 75 = .ok (.checkcast 222, 3) := dk_192 0 222 (dk_at dksX0_slights_3 3 rfl rfl)
theorem dX0_slights_78 : decode cX0_slights 78 = .ok (.getfield 231, 3) := dk_180 0 231 (dk_at dksX0_slights_3 6 rfl rfl)
theorem dX0_slights_81 : decode cX0_slights 81 = .ok (.invokestatic 240, 3) := dk_184 0 240 (dk_at dksX0_slights_3 9 rfl rfl)
theorem dX0_slights_84 : decode cX0_slights 84 = .ok (.istore 6, 2) := dk_54 6 (dk_at dksX0_slights_3 12 rfl rfl)
theorem dX0_slights_86 : decode cX0_slights 86 = .ok (.iinc 7 1, 3) := dk_132 7 1 (dk_at dksX0_slights_3 14 rfl rfl)
theorem dX0_slights_89 : decode cX0_slights 89 = .ok (.goto (-51), 3) := dk_167 255 205 (dk_at dksX0_slights_3 17 rfl rfl)
theorem dX0_slights_92 : decode cX0_slights 92 = .ok (.iload_n 3, 1) := dk_29 (dk_at dksX0_slights_3 20 rfl rfl)
theorem dX0_slights_93 : decode cX0_slights 93 = .ok (.ifCond .ne 8, 3) := dk_154 0 8 (dk_at dksX0_slights_3 21 rfl rfl)
theorem dX0_slights_96 : decode cX0_slights 96 = .ok (.iload 5, 2) := dk_21 5 (dk_at dksX0_slights_4 0 rfl rfl)
theorem dX0_slights_98 : decode cX0_slights 98 = .ok (.goto 18, 3) := dk_167 0 18 (dk_at dksX0_slights_4 2 rfl rfl)
theorem dX0_slights_101 : decode cX0_slights 101 = .ok (.iload_n 3, 1) := dk_29 (dk_at dksX0_slights_4 5 rfl rfl)
theorem dX0_slights_102 : decode cX0_slights 102 = .ok (.iconst 1, 1) := dk_4 (dk_at dksX0_slights_4 6 rfl rfl)
theorem dX0_slights_103 : decode cX0_slights 103 = .ok (.if_icmp .ne 11, 3) := dk_160 0 11 (dk_at dksX0_slights_4 7 rfl rfl)
theorem dX0_slights_106 : decode cX0_slights 106 = .ok (.aload 4, 2) := dk_25 4 (dk_at dksX0_slights_4 10 rfl rfl)
theorem dX0_slights_108 : decode cX0_slights 108 = .ok (.invokevirtual 72, 3) := dk_182 0 72 (dk_at dksX0_slights_4 12 rfl rfl)
theorem dX0_slights_111 : decode cX0_slights 111 = .ok (.goto 5, 3) := dk_167 0 5 (dk_at dksX0_slights_4 15 rfl rfl)
theorem dX0_slights_114 : decode cX0_slights 114 = .ok (.iload 6, 2) := dk_21 6 (dk_at dksX0_slights_4 18 rfl rfl)
theorem dX0_slights_116 : decode cX0_slights 116 = .ok (.ireturn, 1) := dk_172 (dk_at dksX0_slights_4 20 rfl rfl)
abbrev cX0_isCourse : ByteArray := prog_1_method_31_code
def yX0_isCourse : MethodName := ⟨RX0, "isCourse", "(II)Z"⟩
def dkwX0_isCourse_0 : List UInt8 := [42, 27, 182, 0, 180, 198, 0, 17, 28, 3, 16, 9, 184, 0, 76, 153, 0, 7, 4, 167, 0, 4, 3, 172]
abbrev dktX0_isCourse_0 : List UInt8 := dkwX0_isCourse_0 ++ []
theorem dksX0_isCourse_0 : cX0_isCourse.data.toList.drop 0 = dktX0_isCourse_0 := by decide +kernel
theorem dX0_isCourse_0 : decode cX0_isCourse 0 = .ok (.aload_n 0, 1) := dk_42 (dk_at dksX0_isCourse_0 0 rfl rfl)
theorem dX0_isCourse_1 : decode cX0_isCourse 1 = .ok (.iload_n 1, 1) := dk_27 (dk_at dksX0_isCourse_0 1 rfl rfl)
theorem dX0_isCourse_2 : decode cX0_isCourse 2 = .ok (.invokevirtual 180, 3) := dk_182 0 180 (dk_at dksX0_isCourse_0 2 rfl rfl)
theorem dX0_isCourse_5 : decode cX0_isCourse 5 = .ok (.ifnull 17, 3) := dk_198 0 17 (dk_at dksX0_isCourse_0 5 rfl rfl)
theorem dX0_isCourse_8 : decode cX0_isCourse 8 = .ok (.iload_n 2, 1) := dk_28 (dk_at dksX0_isCourse_0 8 rfl rfl)
theorem dX0_isCourse_9 : decode cX0_isCourse 9 = .ok (.iconst 0, 1) := dk_3 (dk_at dksX0_isCourse_0 9 rfl rfl)
theorem dX0_isCourse_10 : decode cX0_isCourse 10 = .ok (.bipush 9, 2) := dk_16 9 (dk_at dksX0_isCourse_0 10 rfl rfl)
theorem dX0_isCourse_12 : decode cX0_isCourse 12 = .ok (.invokestatic 76, 3) := dk_184 0 76 (dk_at dksX0_isCourse_0 12 rfl rfl)
theorem dX0_isCourse_15 : decode cX0_isCourse 15 = .ok (.ifCond .eq 7, 3) := dk_153 0 7 (dk_at dksX0_isCourse_0 15 rfl rfl)
theorem dX0_isCourse_18 : decode cX0_isCourse 18 = .ok (.iconst 1, 1) := dk_4 (dk_at dksX0_isCourse_0 18 rfl rfl)
theorem dX0_isCourse_19 : decode cX0_isCourse 19 = .ok (.goto 4, 3) := dk_167 0 4 (dk_at dksX0_isCourse_0 19 rfl rfl)
theorem dX0_isCourse_22 : decode cX0_isCourse 22 = .ok (.iconst 0, 1) := dk_3 (dk_at dksX0_isCourse_0 22 rfl rfl)
theorem dX0_isCourse_23 : decode cX0_isCourse 23 = .ok (.ireturn, 1) := dk_172 (dk_at dksX0_isCourse_0 23 rfl rfl)
abbrev cX0_slightsIn : ByteArray := prog_1_method_29_code
def yX0_slightsIn : MethodName := ⟨RX0, "slightsIn", "(III)Ljava/util/ArrayList;"⟩
def dkwX0_slightsIn_10 : List UInt8 := [25, 4, 176]
abbrev dktX0_slightsIn_10 : List UInt8 := dkwX0_slightsIn_10 ++ []
def dkwX0_slightsIn_9 : List UInt8 := [180, 0, 160, 21, 12, 183, 0, 224, 182, 0, 94, 87, 132, 8, 1, 167, 255, 88, 132, 6, 1, 167, 255, 53]
abbrev dktX0_slightsIn_9 : List UInt8 := dkwX0_slightsIn_9 ++ dktX0_slightsIn_10
def dkwX0_slightsIn_8 : List UInt8 := [153, 0, 35, 25, 4, 187, 0, 222, 89, 21, 6, 25, 9, 180, 0, 195, 25, 9, 180, 0, 200, 25, 7]
abbrev dktX0_slightsIn_8 : List UInt8 := dkwX0_slightsIn_8 ++ dktX0_slightsIn_9
def dkwX0_slightsIn_7 : List UInt8 := [180, 0, 184, 112, 25, 11, 180, 0, 137, 29, 96, 25, 5, 180, 0, 184, 112, 182, 0, 218, 54, 12, 21, 12]
abbrev dktX0_slightsIn_7 : List UInt8 := dkwX0_slightsIn_7 ++ dktX0_slightsIn_8
def dkwX0_slightsIn_6 : List UInt8 := [180, 0, 134, 27, 159, 0, 6, 167, 0, 76, 25, 7, 25, 5, 28, 25, 10, 180, 0, 137, 29, 96, 25, 5]
abbrev dktX0_slightsIn_6 : List UInt8 := dkwX0_slightsIn_6 ++ dktX0_slightsIn_7
def dkwX0_slightsIn_5 : List UInt8 := [180, 0, 200, 182, 0, 80, 192, 0, 84, 58, 11, 25, 10, 180, 0, 134, 27, 160, 0, 88, 25, 11]
abbrev dktX0_slightsIn_5 : List UInt8 := dkwX0_slightsIn_5 ++ dktX0_slightsIn_6
def dkwX0_slightsIn_4 : List UInt8 := [180, 0, 40, 25, 9, 180, 0, 195, 182, 0, 80, 192, 0, 84, 58, 10, 42, 180, 0, 40, 25, 9]
abbrev dktX0_slightsIn_4 : List UInt8 := dkwX0_slightsIn_4 ++ dktX0_slightsIn_5
def dkwX0_slightsIn_3 : List UInt8 := [182, 0, 203, 153, 0, 152, 25, 7, 180, 0, 171, 21, 8, 182, 0, 80, 192, 0, 196, 58, 9, 42]
abbrev dktX0_slightsIn_3 : List UInt8 := dkwX0_slightsIn_3 ++ dktX0_slightsIn_4
def dkwX0_slightsIn_2 : List UInt8 := [192, 0, 86, 58, 7, 3, 54, 8, 21, 8, 25, 7, 180, 0, 171, 182, 0, 72, 162, 0, 161, 25, 7, 27]
abbrev dktX0_slightsIn_2 : List UInt8 := dkwX0_slightsIn_2 ++ dktX0_slightsIn_3
def dkwX0_slightsIn_1 : List UInt8 := [54, 6, 21, 6, 42, 180, 0, 47, 182, 0, 72, 162, 0, 197, 42, 180, 0, 47, 21, 6, 182, 0, 80]
abbrev dktX0_slightsIn_1 : List UInt8 := dkwX0_slightsIn_1 ++ dktX0_slightsIn_2
def dkwX0_slightsIn_0 : List UInt8 := [187, 0, 37, 89, 183, 0, 39, 58, 4, 42, 180, 0, 50, 27, 182, 0, 80, 192, 0, 88, 58, 5, 3]
abbrev dktX0_slightsIn_0 : List UInt8 := dkwX0_slightsIn_0 ++ dktX0_slightsIn_1
theorem dksX0_slightsIn_0 : cX0_slightsIn.data.toList.drop 0 = dktX0_slightsIn_0 := by decide +kernel
theorem dksX0_slightsIn_1 : cX0_slightsIn.data.toList.drop 23 = dktX0_slightsIn_1 := dk_seg dksX0_slightsIn_0 23 rfl rfl
theorem dksX0_slightsIn_2 : cX0_slightsIn.data.toList.drop 46 = dktX0_slightsIn_2 := dk_seg dksX0_slightsIn_1 23 rfl rfl
theorem dksX0_slightsIn_3 : cX0_slightsIn.data.toList.drop 70 = dktX0_slightsIn_3 := dk_seg dksX0_slightsIn_2 24 rfl rfl
theorem dksX0_slightsIn_4 : cX0_slightsIn.data.toList.drop 92 = dktX0_slightsIn_4 := dk_seg dksX0_slightsIn_3 22 rfl rfl
theorem dksX0_slightsIn_5 : cX0_slightsIn.data.toList.drop 114 = dktX0_slightsIn_5 := dk_seg dksX0_slightsIn_4 22 rfl rfl
theorem dksX0_slightsIn_6 : cX0_slightsIn.data.toList.drop 136 = dktX0_slightsIn_6 := dk_seg dksX0_slightsIn_5 22 rfl rfl
theorem dksX0_slightsIn_7 : cX0_slightsIn.data.toList.drop 160 = dktX0_slightsIn_7 := dk_seg dksX0_slightsIn_6 24 rfl rfl
theorem dksX0_slightsIn_8 : cX0_slightsIn.data.toList.drop 184 = dktX0_slightsIn_8 := dk_seg dksX0_slightsIn_7 24 rfl rfl
theorem dksX0_slightsIn_9 : cX0_slightsIn.data.toList.drop 207 = dktX0_slightsIn_9 := dk_seg dksX0_slightsIn_8 23 rfl rfl
theorem dksX0_slightsIn_10 : cX0_slightsIn.data.toList.drop 231 = dktX0_slightsIn_10 := dk_seg dksX0_slightsIn_9 24 rfl rfl
theorem dX0_slightsIn_0 : decode cX0_slightsIn 0 = .ok (.new 37, 3) := dk_187 0 37 (dk_at dksX0_slightsIn_0 0 rfl rfl)
theorem dX0_slightsIn_3 : decode cX0_slightsIn 3 = .ok (.dup, 1) := dk_89 (dk_at dksX0_slightsIn_0 3 rfl rfl)
theorem dX0_slightsIn_4 : decode cX0_slightsIn 4 = .ok (.invokespecial 39, 3) := dk_183 0 39 (dk_at dksX0_slightsIn_0 4 rfl rfl)
theorem dX0_slightsIn_7 : decode cX0_slightsIn 7 = .ok (.astore 4, 2) := dk_58 4 (dk_at dksX0_slightsIn_0 7 rfl rfl)
theorem dX0_slightsIn_9 : decode cX0_slightsIn 9 = .ok (.aload_n 0, 1) := dk_42 (dk_at dksX0_slightsIn_0 9 rfl rfl)
theorem dX0_slightsIn_10 : decode cX0_slightsIn 10 = .ok (.getfield 50, 3) := dk_180 0 50 (dk_at dksX0_slightsIn_0 10 rfl rfl)
theorem dX0_slightsIn_13 : decode cX0_slightsIn 13 = .ok (.iload_n 1, 1) := dk_27 (dk_at dksX0_slightsIn_0 13 rfl rfl)
theorem dX0_slightsIn_14 : decode cX0_slightsIn 14 = .ok (.invokevirtual 80, 3) := dk_182 0 80 (dk_at dksX0_slightsIn_0 14 rfl rfl)
theorem dX0_slightsIn_17 : decode cX0_slightsIn 17 = .ok (.checkcast 88, 3) := dk_192 0 88 (dk_at dksX0_slightsIn_0 17 rfl rfl)
theorem dX0_slightsIn_20 : decode cX0_slightsIn 20 = .ok (.astore 5, 2) := dk_58 5 (dk_at dksX0_slightsIn_0 20 rfl rfl)
theorem dX0_slightsIn_22 : decode cX0_slightsIn 22 = .ok (.iconst 0, 1) := dk_3 (dk_at dksX0_slightsIn_0 22 rfl rfl)
theorem dX0_slightsIn_23 : decode cX0_slightsIn 23 = .ok (.istore 6, 2) := dk_54 6 (dk_at dksX0_slightsIn_1 0 rfl rfl)
theorem dX0_slightsIn_25 : decode cX0_slightsIn 25 = .ok (.iload 6, 2) := dk_21 6 (dk_at dksX0_slightsIn_1 2 rfl rfl)
theorem dX0_slightsIn_27 : decode cX0_slightsIn 27 = .ok (.aload_n 0, 1) := dk_42 (dk_at dksX0_slightsIn_1 4 rfl rfl)
theorem dX0_slightsIn_28 : decode cX0_slightsIn 28 = .ok (.getfield 47, 3) := dk_180 0 47 (dk_at dksX0_slightsIn_1 5 rfl rfl)
theorem dX0_slightsIn_31 : decode cX0_slightsIn 31 = .ok (.invokevirtual 72, 3) := dk_182 0 72 (dk_at dksX0_slightsIn_1 8 rfl rfl)
theorem dX0_slightsIn_34 : decode cX0_slightsIn 34 = .ok (.if_icmp .ge 197, 3) := dk_162 0 197 (dk_at dksX0_slightsIn_1 11 rfl rfl)
theorem dX0_slightsIn_37 : decode cX0_slightsIn 37 = .ok (.aload_n 0, 1) := dk_42 (dk_at dksX0_slightsIn_1 14 rfl rfl)
theorem dX0_slightsIn_38 : decode cX0_slightsIn 38 = .ok (.getfield 47, 3) := dk_180 0 47 (dk_at dksX0_slightsIn_1 15 rfl rfl)
theorem dX0_slightsIn_41 : decode cX0_slightsIn 41 = .ok (.iload 6, 2) := dk_21 6 (dk_at dksX0_slightsIn_1 18 rfl rfl)
theorem dX0_slightsIn_43 : decode cX0_slightsIn 43 = .ok (.invokevirtual 80, 3) := dk_182 0 80 (dk_at dksX0_slightsIn_1 20 rfl rfl)
theorem dX0_slightsIn_46 : decode cX0_slightsIn 46 = .ok (.checkcast 86, 3) := dk_192 0 86 (dk_at dksX0_slightsIn_2 0 rfl rfl)
theorem dX0_slightsIn_49 : decode cX0_slightsIn 49 = .ok (.astore 7, 2) := dk_58 7 (dk_at dksX0_slightsIn_2 3 rfl rfl)
theorem dX0_slightsIn_51 : decode cX0_slightsIn 51 = .ok (.iconst 0, 1) := dk_3 (dk_at dksX0_slightsIn_2 5 rfl rfl)
theorem dX0_slightsIn_52 : decode cX0_slightsIn 52 = .ok (.istore 8, 2) := dk_54 8 (dk_at dksX0_slightsIn_2 6 rfl rfl)
theorem dX0_slightsIn_54 : decode cX0_slightsIn 54 = .ok (.iload 8, 2) := dk_21 8 (dk_at dksX0_slightsIn_2 8 rfl rfl)
theorem dX0_slightsIn_56 : decode cX0_slightsIn 56 = .ok (.aload 7, 2) := dk_25 7 (dk_at dksX0_slightsIn_2 10 rfl rfl)
theorem dX0_slightsIn_58 : decode cX0_slightsIn 58 = .ok (.getfield 171, 3) := dk_180 0 171 (dk_at dksX0_slightsIn_2 12 rfl rfl)
theorem dX0_slightsIn_61 : decode cX0_slightsIn 61 = .ok (.invokevirtual 72, 3) := dk_182 0 72 (dk_at dksX0_slightsIn_2 15 rfl rfl)
theorem dX0_slightsIn_64 : decode cX0_slightsIn 64 = .ok (.if_icmp .ge 161, 3) := dk_162 0 161 (dk_at dksX0_slightsIn_2 18 rfl rfl)
theorem dX0_slightsIn_67 : decode cX0_slightsIn 67 = .ok (.aload 7, 2) := dk_25 7 (dk_at dksX0_slightsIn_2 21 rfl rfl)
theorem dX0_slightsIn_69 : decode cX0_slightsIn 69 = .ok (.iload_n 1, 1) := dk_27 (dk_at dksX0_slightsIn_2 23 rfl rfl)
theorem dX0_slightsIn_70 : decode cX0_slightsIn 70 = .ok (.invokevirtual 203, 3) := dk_182 0 203 (dk_at dksX0_slightsIn_3 0 rfl rfl)
theorem dX0_slightsIn_73 : decode cX0_slightsIn 73 = .ok (.ifCond .eq 152, 3) := dk_153 0 152 (dk_at dksX0_slightsIn_3 3 rfl rfl)
theorem dX0_slightsIn_76 : decode cX0_slightsIn 76 = .ok (.aload 7, 2) := dk_25 7 (dk_at dksX0_slightsIn_3 6 rfl rfl)
theorem dX0_slightsIn_78 : decode cX0_slightsIn 78 = .ok (.getfield 171, 3) := dk_180 0 171 (dk_at dksX0_slightsIn_3 8 rfl rfl)
theorem dX0_slightsIn_81 : decode cX0_slightsIn 81 = .ok (.iload 8, 2) := dk_21 8 (dk_at dksX0_slightsIn_3 11 rfl rfl)
theorem dX0_slightsIn_83 : decode cX0_slightsIn 83 = .ok (.invokevirtual 80, 3) := dk_182 0 80 (dk_at dksX0_slightsIn_3 13 rfl rfl)
theorem dX0_slightsIn_86 : decode cX0_slightsIn 86 = .ok (.checkcast 196, 3) := dk_192 0 196 (dk_at dksX0_slightsIn_3 16 rfl rfl)
theorem dX0_slightsIn_89 : decode cX0_slightsIn 89 = .ok (.astore 9, 2) := dk_58 9 (dk_at dksX0_slightsIn_3 19 rfl rfl)
theorem dX0_slightsIn_91 : decode cX0_slightsIn 91 = .ok (.aload_n 0, 1) := dk_42 (dk_at dksX0_slightsIn_3 21 rfl rfl)
theorem dX0_slightsIn_92 : decode cX0_slightsIn 92 = .ok (.getfield 40, 3) := dk_180 0 40 (dk_at dksX0_slightsIn_4 0 rfl rfl)
theorem dX0_slightsIn_95 : decode cX0_slightsIn 95 = .ok (.aload 9, 2) := dk_25 9 (dk_at dksX0_slightsIn_4 3 rfl rfl)
theorem dX0_slightsIn_97 : decode cX0_slightsIn 97 = .ok (.getfield 195, 3) := dk_180 0 195 (dk_at dksX0_slightsIn_4 5 rfl rfl)
theorem dX0_slightsIn_100 : decode cX0_slightsIn 100 = .ok (.invokevirtual 80, 3) := dk_182 0 80 (dk_at dksX0_slightsIn_4 8 rfl rfl)
theorem dX0_slightsIn_103 : decode cX0_slightsIn 103 = .ok (.checkcast 84, 3) := dk_192 0 84 (dk_at dksX0_slightsIn_4 11 rfl rfl)
theorem dX0_slightsIn_106 : decode cX0_slightsIn 106 = .ok (.astore 10, 2) := dk_58 10 (dk_at dksX0_slightsIn_4 14 rfl rfl)
theorem dX0_slightsIn_108 : decode cX0_slightsIn 108 = .ok (.aload_n 0, 1) := dk_42 (dk_at dksX0_slightsIn_4 16 rfl rfl)
theorem dX0_slightsIn_109 : decode cX0_slightsIn 109 = .ok (.getfield 40, 3) := dk_180 0 40 (dk_at dksX0_slightsIn_4 17 rfl rfl)
theorem dX0_slightsIn_112 : decode cX0_slightsIn 112 = .ok (.aload 9, 2) := dk_25 9 (dk_at dksX0_slightsIn_4 20 rfl rfl)
theorem dX0_slightsIn_114 : decode cX0_slightsIn 114 = .ok (.getfield 200, 3) := dk_180 0 200 (dk_at dksX0_slightsIn_5 0 rfl rfl)
theorem dX0_slightsIn_117 : decode cX0_slightsIn 117 = .ok (.invokevirtual 80, 3) := dk_182 0 80 (dk_at dksX0_slightsIn_5 3 rfl rfl)
theorem dX0_slightsIn_120 : decode cX0_slightsIn 120 = .ok (.checkcast 84, 3) := dk_192 0 84 (dk_at dksX0_slightsIn_5 6 rfl rfl)
theorem dX0_slightsIn_123 : decode cX0_slightsIn 123 = .ok (.astore 11, 2) := dk_58 11 (dk_at dksX0_slightsIn_5 9 rfl rfl)
theorem dX0_slightsIn_125 : decode cX0_slightsIn 125 = .ok (.aload 10, 2) := dk_25 10 (dk_at dksX0_slightsIn_5 11 rfl rfl)
theorem dX0_slightsIn_127 : decode cX0_slightsIn 127 = .ok (.getfield 134, 3) := dk_180 0 134 (dk_at dksX0_slightsIn_5 13 rfl rfl)
theorem dX0_slightsIn_130 : decode cX0_slightsIn 130 = .ok (.iload_n 1, 1) := dk_27 (dk_at dksX0_slightsIn_5 16 rfl rfl)
theorem dX0_slightsIn_131 : decode cX0_slightsIn 131 = .ok (.if_icmp .ne 88, 3) := dk_160 0 88 (dk_at dksX0_slightsIn_5 17 rfl rfl)
theorem dX0_slightsIn_134 : decode cX0_slightsIn 134 = .ok (.aload 11, 2) := dk_25 11 (dk_at dksX0_slightsIn_5 20 rfl rfl)
theorem dX0_slightsIn_136 : decode cX0_slightsIn 136 = .ok (.getfield 134, 3) := dk_180 0 134 (dk_at dksX0_slightsIn_6 0 rfl rfl)
theorem dX0_slightsIn_139 : decode cX0_slightsIn 139 = .ok (.iload_n 1, 1) := dk_27 (dk_at dksX0_slightsIn_6 3 rfl rfl)
theorem dX0_slightsIn_140 : decode cX0_slightsIn 140 = .ok (.if_icmp .eq 6, 3) := dk_159 0 6 (dk_at dksX0_slightsIn_6 4 rfl rfl)
theorem dX0_slightsIn_143 : decode cX0_slightsIn 143 = .ok (.goto 76, 3) := dk_167 0 76 (dk_at dksX0_slightsIn_6 7 rfl rfl)
theorem dX0_slightsIn_146 : decode cX0_slightsIn 146 = .ok (.aload 7, 2) := dk_25 7 (dk_at dksX0_slightsIn_6 10 rfl rfl)
theorem dX0_slightsIn_148 : decode cX0_slightsIn 148 = .ok (.aload 5, 2) := dk_25 5 (dk_at dksX0_slightsIn_6 12 rfl rfl)
theorem dX0_slightsIn_150 : decode cX0_slightsIn 150 = .ok (.iload_n 2, 1) := dk_28 (dk_at dksX0_slightsIn_6 14 rfl rfl)
theorem dX0_slightsIn_151 : decode cX0_slightsIn 151 = .ok (.aload 10, 2) := dk_25 10 (dk_at dksX0_slightsIn_6 15 rfl rfl)
theorem dX0_slightsIn_153 : decode cX0_slightsIn 153 = .ok (.getfield 137, 3) := dk_180 0 137 (dk_at dksX0_slightsIn_6 17 rfl rfl)
theorem dX0_slightsIn_156 : decode cX0_slightsIn 156 = .ok (.iload_n 3, 1) := dk_29 (dk_at dksX0_slightsIn_6 20 rfl rfl)
theorem dX0_slightsIn_157 : decode cX0_slightsIn 157 = .ok (.iadd, 1) := dk_96 (dk_at dksX0_slightsIn_6 21 rfl rfl)
theorem dX0_slightsIn_158 : decode cX0_slightsIn 158 = .ok (.aload 5, 2) := dk_25 5 (dk_at dksX0_slightsIn_6 22 rfl rfl)
theorem dX0_slightsIn_160 : decode cX0_slightsIn 160 = .ok (.getfield 184, 3) := dk_180 0 184 (dk_at dksX0_slightsIn_7 0 rfl rfl)
theorem dX0_slightsIn_163 : decode cX0_slightsIn 163 = .ok (.irem, 1) := dk_112 (dk_at dksX0_slightsIn_7 3 rfl rfl)
theorem dX0_slightsIn_164 : decode cX0_slightsIn 164 = .ok (.aload 11, 2) := dk_25 11 (dk_at dksX0_slightsIn_7 4 rfl rfl)
theorem dX0_slightsIn_166 : decode cX0_slightsIn 166 = .ok (.getfield 137, 3) := dk_180 0 137 (dk_at dksX0_slightsIn_7 6 rfl rfl)
theorem dX0_slightsIn_169 : decode cX0_slightsIn 169 = .ok (.iload_n 3, 1) := dk_29 (dk_at dksX0_slightsIn_7 9 rfl rfl)
theorem dX0_slightsIn_170 : decode cX0_slightsIn 170 = .ok (.iadd, 1) := dk_96 (dk_at dksX0_slightsIn_7 10 rfl rfl)
theorem dX0_slightsIn_171 : decode cX0_slightsIn 171 = .ok (.aload 5, 2) := dk_25 5 (dk_at dksX0_slightsIn_7 11 rfl rfl)
theorem dX0_slightsIn_173 : decode cX0_slightsIn 173 = .ok (.getfield 184, 3) := dk_180 0 184 (dk_at dksX0_slightsIn_7 13 rfl rfl)
theorem dX0_slightsIn_176 : decode cX0_slightsIn 176 = .ok (.irem, 1) := dk_112 (dk_at dksX0_slightsIn_7 16 rfl rfl)
theorem dX0_slightsIn_177 : decode cX0_slightsIn 177 = .ok (.invokevirtual 218, 3) := dk_182 0 218 (dk_at dksX0_slightsIn_7 17 rfl rfl)
theorem dX0_slightsIn_180 : decode cX0_slightsIn 180 = .ok (.istore 12, 2) := dk_54 12 (dk_at dksX0_slightsIn_7 20 rfl rfl)
theorem dX0_slightsIn_182 : decode cX0_slightsIn 182 = .ok (.iload 12, 2) := dk_21 12 (dk_at dksX0_slightsIn_7 22 rfl rfl)
theorem dX0_slightsIn_184 : decode cX0_slightsIn 184 = .ok (.ifCond .eq 35, 3) := dk_153 0 35 (dk_at dksX0_slightsIn_8 0 rfl rfl)
theorem dX0_slightsIn_187 : decode cX0_slightsIn 187 = .ok (.aload 4, 2) := dk_25 4 (dk_at dksX0_slightsIn_8 3 rfl rfl)
theorem dX0_slightsIn_189 : decode cX0_slightsIn 189 = .ok (.new 222, 3) := dk_187 0 222 (dk_at dksX0_slightsIn_8 5 rfl rfl)
theorem dX0_slightsIn_192 : decode cX0_slightsIn 192 = .ok (.dup, 1) := dk_89 (dk_at dksX0_slightsIn_8 8 rfl rfl)
theorem dX0_slightsIn_193 : decode cX0_slightsIn 193 = .ok (.iload 6, 2) := dk_21 6 (dk_at dksX0_slightsIn_8 9 rfl rfl)
theorem dX0_slightsIn_195 : decode cX0_slightsIn 195 = .ok (.aload 9, 2) := dk_25 9 (dk_at dksX0_slightsIn_8 11 rfl rfl)
theorem dX0_slightsIn_197 : decode cX0_slightsIn 197 = .ok (.getfield 195, 3) := dk_180 0 195 (dk_at dksX0_slightsIn_8 13 rfl rfl)
theorem dX0_slightsIn_200 : decode cX0_slightsIn 200 = .ok (.aload 9, 2) := dk_25 9 (dk_at dksX0_slightsIn_8 16 rfl rfl)
theorem dX0_slightsIn_202 : decode cX0_slightsIn 202 = .ok (.getfield 200, 3) := dk_180 0 200 (dk_at dksX0_slightsIn_8 18 rfl rfl)
theorem dX0_slightsIn_205 : decode cX0_slightsIn 205 = .ok (.aload 7, 2) := dk_25 7 (dk_at dksX0_slightsIn_8 21 rfl rfl)
theorem dX0_slightsIn_207 : decode cX0_slightsIn 207 = .ok (.getfield 160, 3) := dk_180 0 160 (dk_at dksX0_slightsIn_9 0 rfl rfl)
theorem dX0_slightsIn_210 : decode cX0_slightsIn 210 = .ok (.iload 12, 2) := dk_21 12 (dk_at dksX0_slightsIn_9 3 rfl rfl)
theorem dX0_slightsIn_212 : decode cX0_slightsIn 212 = .ok (.invokespecial 224, 3) := dk_183 0 224 (dk_at dksX0_slightsIn_9 5 rfl rfl)
theorem dX0_slightsIn_215 : decode cX0_slightsIn 215 = .ok (.invokevirtual 94, 3) := dk_182 0 94 (dk_at dksX0_slightsIn_9 8 rfl rfl)
theorem dX0_slightsIn_218 : decode cX0_slightsIn 218 = .ok (.pop, 1) := dk_87 (dk_at dksX0_slightsIn_9 11 rfl rfl)
theorem dX0_slightsIn_219 : decode cX0_slightsIn 219 = .ok (.iinc 8 1, 3) := dk_132 8 1 (dk_at dksX0_slightsIn_9 12 rfl rfl)
theorem dX0_slightsIn_222 : decode cX0_slightsIn 222 = .ok (.goto (-168), 3) := dk_167 255 88 (dk_at dksX0_slightsIn_9 15 rfl rfl)
theorem dX0_slightsIn_225 : decode cX0_slightsIn 225 = .ok (.iinc 6 1, 3) := dk_132 6 1 (dk_at dksX0_slightsIn_9 18 rfl rfl)
theorem dX0_slightsIn_228 : decode cX0_slightsIn 228 = .ok (.goto (-203), 3) := dk_167 255 53 (dk_at dksX0_slightsIn_9 21 rfl rfl)
theorem dX0_slightsIn_231 : decode cX0_slightsIn 231 = .ok (.aload 4, 2) := dk_25 4 (dk_at dksX0_slightsIn_10 0 rfl rfl)
theorem dX0_slightsIn_233 : decode cX0_slightsIn 233 = .ok (.areturn, 1) := dk_176 (dk_at dksX0_slightsIn_10 2 rfl rfl)
abbrev cX0_slight : ByteArray := prog_1_method_33_code
def yX0_slight : MethodName := ⟨RX0, "slight", "(IIII)I"⟩
def dkwX0_slight_6 : List UInt8 := [180, 0, 227, 182, 0, 215, 167, 0, 4, 2, 172, 2, 172]
abbrev dktX0_slight_6 : List UInt8 := dkwX0_slight_6 ++ []
def dkwX0_slight_5 : List UInt8 := [180, 0, 246, 182, 0, 80, 192, 0, 86, 182, 0, 145, 154, 0, 21, 42, 27, 25, 6, 180, 0, 230, 25, 6]
abbrev dktX0_slight_5 : List UInt8 := dkwX0_slight_5 ++ dktX0_slight_6
def dkwX0_slight_4 : List UInt8 := [25, 6, 180, 0, 246, 172, 25, 6, 180, 0, 227, 172, 25, 6, 180, 0, 230, 172, 42, 180, 0, 47, 25, 6]
abbrev dktX0_slight_4 : List UInt8 := dkwX0_slight_4 ++ dktX0_slight_5
def dkwX0_slight_3 : List UInt8 := [170, 0, 0, 0, 0, 89, 0, 0, 0, 0, 0, 0, 0, 3, 0, 0, 0, 30, 0, 0, 0, 36, 0, 0, 0, 42, 0, 0, 0, 48]
abbrev dktX0_slight_3 : List UInt8 := dkwX0_slight_3 ++ dktX0_slight_4
def dkwX0_slight_2 : List UInt8 := [21, 4]
abbrev dktX0_slight_2 : List UInt8 := dkwX0_slight_2 ++ dktX0_slight_3
def dkwX0_slight_1 : List UInt8 := [182, 0, 72, 4, 100, 184, 0, 76, 154, 0, 5, 2, 172, 25, 5, 29, 182, 0, 80, 192, 0, 222, 58, 6]
abbrev dktX0_slight_1 : List UInt8 := dkwX0_slight_1 ++ dktX0_slight_2
def dkwX0_slight_0 : List UInt8 := [42, 27, 28, 182, 0, 232, 154, 0, 5, 2, 172, 42, 27, 28, 3, 182, 0, 236, 58, 5, 29, 3, 25, 5]
abbrev dktX0_slight_0 : List UInt8 := dkwX0_slight_0 ++ dktX0_slight_1
theorem dksX0_slight_0 : cX0_slight.data.toList.drop 0 = dktX0_slight_0 := by decide +kernel
theorem dksX0_slight_1 : cX0_slight.data.toList.drop 24 = dktX0_slight_1 := dk_seg dksX0_slight_0 24 rfl rfl
theorem dksX0_slight_2 : cX0_slight.data.toList.drop 48 = dktX0_slight_2 := dk_seg dksX0_slight_1 24 rfl rfl
theorem dksX0_slight_3 : cX0_slight.data.toList.drop 50 = dktX0_slight_3 := dk_seg dksX0_slight_2 2 rfl rfl
theorem dksX0_slight_4 : cX0_slight.data.toList.drop 80 = dktX0_slight_4 := dk_seg dksX0_slight_3 30 rfl rfl
theorem dksX0_slight_5 : cX0_slight.data.toList.drop 104 = dktX0_slight_5 := dk_seg dksX0_slight_4 24 rfl rfl
theorem dksX0_slight_6 : cX0_slight.data.toList.drop 128 = dktX0_slight_6 := dk_seg dksX0_slight_5 24 rfl rfl
theorem dX0_slight_0 : decode cX0_slight 0 = .ok (.aload_n 0, 1) := dk_42 (dk_at dksX0_slight_0 0 rfl rfl)
theorem dX0_slight_1 : decode cX0_slight 1 = .ok (.iload_n 1, 1) := dk_27 (dk_at dksX0_slight_0 1 rfl rfl)
theorem dX0_slight_2 : decode cX0_slight 2 = .ok (.iload_n 2, 1) := dk_28 (dk_at dksX0_slight_0 2 rfl rfl)
theorem dX0_slight_3 : decode cX0_slight 3 = .ok (.invokevirtual 232, 3) := dk_182 0 232 (dk_at dksX0_slight_0 3 rfl rfl)
theorem dX0_slight_6 : decode cX0_slight 6 = .ok (.ifCond .ne 5, 3) := dk_154 0 5 (dk_at dksX0_slight_0 6 rfl rfl)
theorem dX0_slight_9 : decode cX0_slight 9 = .ok (.iconst (-1), 1) := dk_2 (dk_at dksX0_slight_0 9 rfl rfl)
theorem dX0_slight_10 : decode cX0_slight 10 = .ok (.ireturn, 1) := dk_172 (dk_at dksX0_slight_0 10 rfl rfl)
theorem dX0_slight_11 : decode cX0_slight 11 = .ok (.aload_n 0, 1) := dk_42 (dk_at dksX0_slight_0 11 rfl rfl)
theorem dX0_slight_12 : decode cX0_slight 12 = .ok (.iload_n 1, 1) := dk_27 (dk_at dksX0_slight_0 12 rfl rfl)
theorem dX0_slight_13 : decode cX0_slight 13 = .ok (.iload_n 2, 1) := dk_28 (dk_at dksX0_slight_0 13 rfl rfl)
theorem dX0_slight_14 : decode cX0_slight 14 = .ok (.iconst 0, 1) := dk_3 (dk_at dksX0_slight_0 14 rfl rfl)
theorem dX0_slight_15 : decode cX0_slight 15 = .ok (.invokevirtual 236, 3) := dk_182 0 236 (dk_at dksX0_slight_0 15 rfl rfl)
theorem dX0_slight_18 : decode cX0_slight 18 = .ok (.astore 5, 2) := dk_58 5 (dk_at dksX0_slight_0 18 rfl rfl)
theorem dX0_slight_20 : decode cX0_slight 20 = .ok (.iload_n 3, 1) := dk_29 (dk_at dksX0_slight_0 20 rfl rfl)
theorem dX0_slight_21 : decode cX0_slight 21 = .ok (.iconst 0, 1) := dk_3 (dk_at dksX0_slight_0 21 rfl rfl)
theorem dX0_slight_22 : decode cX0_slight 22 = .ok (.aload 5, 2) := dk_25 5 (dk_at dksX0_slight_0 22 rfl rfl)
theorem dX0_slight_24 : decode cX0_slight 24 = .ok (.invokevirtual 72, 3) := dk_182 0 72 (dk_at dksX0_slight_1 0 rfl rfl)
theorem dX0_slight_27 : decode cX0_slight 27 = .ok (.iconst 1, 1) := dk_4 (dk_at dksX0_slight_1 3 rfl rfl)
theorem dX0_slight_28 : decode cX0_slight 28 = .ok (.isub, 1) := dk_100 (dk_at dksX0_slight_1 4 rfl rfl)
theorem dX0_slight_29 : decode cX0_slight 29 = .ok (.invokestatic 76, 3) := dk_184 0 76 (dk_at dksX0_slight_1 5 rfl rfl)
theorem dX0_slight_32 : decode cX0_slight 32 = .ok (.ifCond .ne 5, 3) := dk_154 0 5 (dk_at dksX0_slight_1 8 rfl rfl)
theorem dX0_slight_35 : decode cX0_slight 35 = .ok (.iconst (-1), 1) := dk_2 (dk_at dksX0_slight_1 11 rfl rfl)
theorem dX0_slight_36 : decode cX0_slight 36 = .ok (.ireturn, 1) := dk_172 (dk_at dksX0_slight_1 12 rfl rfl)
theorem dX0_slight_37 : decode cX0_slight 37 = .ok (.aload 5, 2) := dk_25 5 (dk_at dksX0_slight_1 13 rfl rfl)
theorem dX0_slight_39 : decode cX0_slight 39 = .ok (.iload_n 3, 1) := dk_29 (dk_at dksX0_slight_1 15 rfl rfl)
theorem dX0_slight_40 : decode cX0_slight 40 = .ok (.invokevirtual 80, 3) := dk_182 0 80 (dk_at dksX0_slight_1 16 rfl rfl)
theorem dX0_slight_43 : decode cX0_slight 43 = .ok (.checkcast 222, 3) := dk_192 0 222 (dk_at dksX0_slight_1 19 rfl rfl)
theorem dX0_slight_46 : decode cX0_slight 46 = .ok (.astore 6, 2) := dk_58 6 (dk_at dksX0_slight_1 22 rfl rfl)
theorem dX0_slight_48 : decode cX0_slight 48 = .ok (.iload 4, 2) := dk_21 4 (dk_at dksX0_slight_2 0 rfl rfl)
theorem dX0_slight_50 : decode cX0_slight 50 = .ok (.tableswitch 89 0 3 #[30, 36, 42, 48], 30) := by decide +kernel
theorem dX0_slight_80 : decode cX0_slight 80 = .ok (.aload 6, 2) := dk_25 6 (dk_at dksX0_slight_4 0 rfl rfl)
theorem dX0_slight_82 : decode cX0_slight 82 = .ok (.getfield 246, 3) := dk_180 0 246 (dk_at dksX0_slight_4 2 rfl rfl)
theorem dX0_slight_85 : decode cX0_slight 85 = .ok (.ireturn, 1) := dk_172 (dk_at dksX0_slight_4 5 rfl rfl)
theorem dX0_slight_86 : decode cX0_slight 86 = .ok (.aload 6, 2) := dk_25 6 (dk_at dksX0_slight_4 6 rfl rfl)
theorem dX0_slight_88 : decode cX0_slight 88 = .ok (.getfield 227, 3) := dk_180 0 227 (dk_at dksX0_slight_4 8 rfl rfl)
theorem dX0_slight_91 : decode cX0_slight 91 = .ok (.ireturn, 1) := dk_172 (dk_at dksX0_slight_4 11 rfl rfl)
theorem dX0_slight_92 : decode cX0_slight 92 = .ok (.aload 6, 2) := dk_25 6 (dk_at dksX0_slight_4 12 rfl rfl)
theorem dX0_slight_94 : decode cX0_slight 94 = .ok (.getfield 230, 3) := dk_180 0 230 (dk_at dksX0_slight_4 14 rfl rfl)
theorem dX0_slight_97 : decode cX0_slight 97 = .ok (.ireturn, 1) := dk_172 (dk_at dksX0_slight_4 17 rfl rfl)
theorem dX0_slight_98 : decode cX0_slight 98 = .ok (.aload_n 0, 1) := dk_42 (dk_at dksX0_slight_4 18 rfl rfl)
theorem dX0_slight_99 : decode cX0_slight 99 = .ok (.getfield 47, 3) := dk_180 0 47 (dk_at dksX0_slight_4 19 rfl rfl)
theorem dX0_slight_102 : decode cX0_slight 102 = .ok (.aload 6, 2) := dk_25 6 (dk_at dksX0_slight_4 22 rfl rfl)
theorem dX0_slight_104 : decode cX0_slight 104 = .ok (.getfield 246, 3) := dk_180 0 246 (dk_at dksX0_slight_5 0 rfl rfl)
theorem dX0_slight_107 : decode cX0_slight 107 = .ok (.invokevirtual 80, 3) := dk_182 0 80 (dk_at dksX0_slight_5 3 rfl rfl)
theorem dX0_slight_110 : decode cX0_slight 110 = .ok (.checkcast 86, 3) := dk_192 0 86 (dk_at dksX0_slight_5 6 rfl rfl)
theorem dX0_slight_113 : decode cX0_slight 113 = .ok (.invokevirtual 145, 3) := dk_182 0 145 (dk_at dksX0_slight_5 9 rfl rfl)
theorem dX0_slight_116 : decode cX0_slight 116 = .ok (.ifCond .ne 21, 3) := dk_154 0 21 (dk_at dksX0_slight_5 12 rfl rfl)
theorem dX0_slight_119 : decode cX0_slight 119 = .ok (.aload_n 0, 1) := dk_42 (dk_at dksX0_slight_5 15 rfl rfl)
theorem dX0_slight_120 : decode cX0_slight 120 = .ok (.iload_n 1, 1) := dk_27 (dk_at dksX0_slight_5 16 rfl rfl)
theorem dX0_slight_121 : decode cX0_slight 121 = .ok (.aload 6, 2) := dk_25 6 (dk_at dksX0_slight_5 17 rfl rfl)
theorem dX0_slight_123 : decode cX0_slight 123 = .ok (.getfield 230, 3) := dk_180 0 230 (dk_at dksX0_slight_5 19 rfl rfl)
theorem dX0_slight_126 : decode cX0_slight 126 = .ok (.aload 6, 2) := dk_25 6 (dk_at dksX0_slight_5 22 rfl rfl)
theorem dX0_slight_128 : decode cX0_slight 128 = .ok (.getfield 227, 3) := dk_180 0 227 (dk_at dksX0_slight_6 0 rfl rfl)
theorem dX0_slight_131 : decode cX0_slight 131 = .ok (.invokevirtual 215, 3) := dk_182 0 215 (dk_at dksX0_slight_6 3 rfl rfl)
theorem dX0_slight_134 : decode cX0_slight 134 = .ok (.goto 4, 3) := dk_167 0 4 (dk_at dksX0_slight_6 6 rfl rfl)
theorem dX0_slight_137 : decode cX0_slight 137 = .ok (.iconst (-1), 1) := dk_2 (dk_at dksX0_slight_6 9 rfl rfl)
theorem dX0_slight_138 : decode cX0_slight 138 = .ok (.ireturn, 1) := dk_172 (dk_at dksX0_slight_6 10 rfl rfl)
theorem dX0_slight_139 : decode cX0_slight 139 = .ok (.iconst (-1), 1) := dk_2 (dk_at dksX0_slight_6 11 rfl rfl)
theorem dX0_slight_140 : decode cX0_slight 140 = .ok (.ireturn, 1) := dk_172 (dk_at dksX0_slight_6 12 rfl rfl)
abbrev cX0_minds : ByteArray := prog_1_method_34_code
def yX0_minds : MethodName := ⟨RX0, "minds", "(III)I"⟩
def dkwX0_minds_4 : List UInt8 := [132, 7, 1, 167, 255, 214, 21, 5, 172]
abbrev dktX0_minds_4 : List UInt8 := dkwX0_minds_4 ++ []
def dkwX0_minds_3 : List UInt8 := [184, 0, 249, 54, 8, 21, 8, 21, 6, 163, 0, 6, 167, 0, 11, 21, 8, 54, 6, 21, 7, 54, 5]
abbrev dktX0_minds_3 : List UInt8 := dkwX0_minds_3 ++ dktX0_minds_4
def dkwX0_minds_2 : List UInt8 := [3, 54, 6, 3, 54, 7, 21, 7, 42, 180, 0, 40, 182, 0, 72, 162, 0, 36, 25, 4, 21, 7]
abbrev dktX0_minds_2 : List UInt8 := dkwX0_minds_2 ++ dktX0_minds_3
def dkwX0_minds_1 : List UInt8 := [42, 27, 28, 3, 182, 0, 236, 58, 4, 29, 2, 159, 0, 10, 25, 4, 29, 184, 0, 249, 172, 2, 54, 5]
abbrev dktX0_minds_1 : List UInt8 := dkwX0_minds_1 ++ dktX0_minds_2
def dkwX0_minds_0 : List UInt8 := [42, 27, 28, 182, 0, 232, 153, 0, 16, 29, 2, 159, 0, 13, 42, 29, 182, 0, 128, 199, 0, 5, 2, 172]
abbrev dktX0_minds_0 : List UInt8 := dkwX0_minds_0 ++ dktX0_minds_1
theorem dksX0_minds_0 : cX0_minds.data.toList.drop 0 = dktX0_minds_0 := by decide +kernel
theorem dksX0_minds_1 : cX0_minds.data.toList.drop 24 = dktX0_minds_1 := dk_seg dksX0_minds_0 24 rfl rfl
theorem dksX0_minds_2 : cX0_minds.data.toList.drop 48 = dktX0_minds_2 := dk_seg dksX0_minds_1 24 rfl rfl
theorem dksX0_minds_3 : cX0_minds.data.toList.drop 70 = dktX0_minds_3 := dk_seg dksX0_minds_2 22 rfl rfl
theorem dksX0_minds_4 : cX0_minds.data.toList.drop 93 = dktX0_minds_4 := dk_seg dksX0_minds_3 23 rfl rfl
theorem dX0_minds_0 : decode cX0_minds 0 = .ok (.aload_n 0, 1) := dk_42 (dk_at dksX0_minds_0 0 rfl rfl)
theorem dX0_minds_1 : decode cX0_minds 1 = .ok (.iload_n 1, 1) := dk_27 (dk_at dksX0_minds_0 1 rfl rfl)
theorem dX0_minds_2 : decode cX0_minds 2 = .ok (.iload_n 2, 1) := dk_28 (dk_at dksX0_minds_0 2 rfl rfl)
theorem dX0_minds_3 : decode cX0_minds 3 = .ok (.invokevirtual 232, 3) := dk_182 0 232 (dk_at dksX0_minds_0 3 rfl rfl)
theorem dX0_minds_6 : decode cX0_minds 6 = .ok (.ifCond .eq 16, 3) := dk_153 0 16 (dk_at dksX0_minds_0 6 rfl rfl)
theorem dX0_minds_9 : decode cX0_minds 9 = .ok (.iload_n 3, 1) := dk_29 (dk_at dksX0_minds_0 9 rfl rfl)
theorem dX0_minds_10 : decode cX0_minds 10 = .ok (.iconst (-1), 1) := dk_2 (dk_at dksX0_minds_0 10 rfl rfl)
theorem dX0_minds_11 : decode cX0_minds 11 = .ok (.if_icmp .eq 13, 3) := dk_159 0 13 (dk_at dksX0_minds_0 11 rfl rfl)
theorem dX0_minds_14 : decode cX0_minds 14 = .ok (.aload_n 0, 1) := dk_42 (dk_at dksX0_minds_0 14 rfl rfl)
theorem dX0_minds_15 : decode cX0_minds 15 = .ok (.iload_n 3, 1) := dk_29 (dk_at dksX0_minds_0 15 rfl rfl)
theorem dX0_minds_16 : decode cX0_minds 16 = .ok (.invokevirtual 128, 3) := dk_182 0 128 (dk_at dksX0_minds_0 16 rfl rfl)
theorem dX0_minds_19 : decode cX0_minds 19 = .ok (.ifnonnull 5, 3) := dk_199 0 5 (dk_at dksX0_minds_0 19 rfl rfl)
theorem dX0_minds_22 : decode cX0_minds 22 = .ok (.iconst (-1), 1) := dk_2 (dk_at dksX0_minds_0 22 rfl rfl)
theorem dX0_minds_23 : decode cX0_minds 23 = .ok (.ireturn, 1) := dk_172 (dk_at dksX0_minds_0 23 rfl rfl)
theorem dX0_minds_24 : decode cX0_minds 24 = .ok (.aload_n 0, 1) := dk_42 (dk_at dksX0_minds_1 0 rfl rfl)
theorem dX0_minds_25 : decode cX0_minds 25 = .ok (.iload_n 1, 1) := dk_27 (dk_at dksX0_minds_1 1 rfl rfl)
theorem dX0_minds_26 : decode cX0_minds 26 = .ok (.iload_n 2, 1) := dk_28 (dk_at dksX0_minds_1 2 rfl rfl)
theorem dX0_minds_27 : decode cX0_minds 27 = .ok (.iconst 0, 1) := dk_3 (dk_at dksX0_minds_1 3 rfl rfl)
theorem dX0_minds_28 : decode cX0_minds 28 = .ok (.invokevirtual 236, 3) := dk_182 0 236 (dk_at dksX0_minds_1 4 rfl rfl)
theorem dX0_minds_31 : decode cX0_minds 31 = .ok (.astore 4, 2) := dk_58 4 (dk_at dksX0_minds_1 7 rfl rfl)
theorem dX0_minds_33 : decode cX0_minds 33 = .ok (.iload_n 3, 1) := dk_29 (dk_at dksX0_minds_1 9 rfl rfl)
theorem dX0_minds_34 : decode cX0_minds 34 = .ok (.iconst (-1), 1) := dk_2 (dk_at dksX0_minds_1 10 rfl rfl)
theorem dX0_minds_35 : decode cX0_minds 35 = .ok (.if_icmp .eq 10, 3) := dk_159 0 10 (dk_at dksX0_minds_1 11 rfl rfl)
theorem dX0_minds_38 : decode cX0_minds 38 = .ok (.aload 4, 2) := dk_25 4 (dk_at dksX0_minds_1 14 rfl rfl)
theorem dX0_minds_40 : decode cX0_minds 40 = .ok (.iload_n 3, 1) := dk_29 (dk_at dksX0_minds_1 16 rfl rfl)
theorem dX0_minds_41 : decode cX0_minds 41 = .ok (.invokestatic 249, 3) := dk_184 0 249 (dk_at dksX0_minds_1 17 rfl rfl)
theorem dX0_minds_44 : decode cX0_minds 44 = .ok (.ireturn, 1) := dk_172 (dk_at dksX0_minds_1 20 rfl rfl)
theorem dX0_minds_45 : decode cX0_minds 45 = .ok (.iconst (-1), 1) := dk_2 (dk_at dksX0_minds_1 21 rfl rfl)
theorem dX0_minds_46 : decode cX0_minds 46 = .ok (.istore 5, 2) := dk_54 5 (dk_at dksX0_minds_1 22 rfl rfl)
theorem dX0_minds_48 : decode cX0_minds 48 = .ok (.iconst 0, 1) := dk_3 (dk_at dksX0_minds_2 0 rfl rfl)
theorem dX0_minds_49 : decode cX0_minds 49 = .ok (.istore 6, 2) := dk_54 6 (dk_at dksX0_minds_2 1 rfl rfl)
theorem dX0_minds_51 : decode cX0_minds 51 = .ok (.iconst 0, 1) := dk_3 (dk_at dksX0_minds_2 3 rfl rfl)
theorem dX0_minds_52 : decode cX0_minds 52 = .ok (.istore 7, 2) := dk_54 7 (dk_at dksX0_minds_2 4 rfl rfl)
theorem dX0_minds_54 : decode cX0_minds 54 = .ok (.iload 7, 2) := dk_21 7 (dk_at dksX0_minds_2 6 rfl rfl)
theorem dX0_minds_56 : decode cX0_minds 56 = .ok (.aload_n 0, 1) := dk_42 (dk_at dksX0_minds_2 8 rfl rfl)
theorem dX0_minds_57 : decode cX0_minds 57 = .ok (.getfield 40, 3) := dk_180 0 40 (dk_at dksX0_minds_2 9 rfl rfl)
theorem dX0_minds_60 : decode cX0_minds 60 = .ok (.invokevirtual 72, 3) := dk_182 0 72 (dk_at dksX0_minds_2 12 rfl rfl)
theorem dX0_minds_63 : decode cX0_minds 63 = .ok (.if_icmp .ge 36, 3) := dk_162 0 36 (dk_at dksX0_minds_2 15 rfl rfl)
theorem dX0_minds_66 : decode cX0_minds 66 = .ok (.aload 4, 2) := dk_25 4 (dk_at dksX0_minds_2 18 rfl rfl)
theorem dX0_minds_68 : decode cX0_minds 68 = .ok (.iload 7, 2) := dk_21 7 (dk_at dksX0_minds_2 20 rfl rfl)
theorem dX0_minds_70 : decode cX0_minds 70 = .ok (.invokestatic 249, 3) := dk_184 0 249 (dk_at dksX0_minds_3 0 rfl rfl)
theorem dX0_minds_73 : decode cX0_minds 73 = .ok (.istore 8, 2) := dk_54 8 (dk_at dksX0_minds_3 3 rfl rfl)
theorem dX0_minds_75 : decode cX0_minds 75 = .ok (.iload 8, 2) := dk_21 8 (dk_at dksX0_minds_3 5 rfl rfl)
theorem dX0_minds_77 : decode cX0_minds 77 = .ok (.iload 6, 2) := dk_21 6 (dk_at dksX0_minds_3 7 rfl rfl)
theorem dX0_minds_79 : decode cX0_minds 79 = .ok (.if_icmp .gt 6, 3) := dk_163 0 6 (dk_at dksX0_minds_3 9 rfl rfl)
theorem dX0_minds_82 : decode cX0_minds 82 = .ok (.goto 11, 3) := dk_167 0 11 (dk_at dksX0_minds_3 12 rfl rfl)
theorem dX0_minds_85 : decode cX0_minds 85 = .ok (.iload 8, 2) := dk_21 8 (dk_at dksX0_minds_3 15 rfl rfl)
theorem dX0_minds_87 : decode cX0_minds 87 = .ok (.istore 6, 2) := dk_54 6 (dk_at dksX0_minds_3 17 rfl rfl)
theorem dX0_minds_89 : decode cX0_minds 89 = .ok (.iload 7, 2) := dk_21 7 (dk_at dksX0_minds_3 19 rfl rfl)
theorem dX0_minds_91 : decode cX0_minds 91 = .ok (.istore 5, 2) := dk_54 5 (dk_at dksX0_minds_3 21 rfl rfl)
theorem dX0_minds_93 : decode cX0_minds 93 = .ok (.iinc 7 1, 3) := dk_132 7 1 (dk_at dksX0_minds_4 0 rfl rfl)
theorem dX0_minds_96 : decode cX0_minds 96 = .ok (.goto (-42), 3) := dk_167 255 214 (dk_at dksX0_minds_4 3 rfl rfl)
theorem dX0_minds_99 : decode cX0_minds 99 = .ok (.iload 5, 2) := dk_21 5 (dk_at dksX0_minds_4 6 rfl rfl)
theorem dX0_minds_101 : decode cX0_minds 101 = .ok (.ireturn, 1) := dk_172 (dk_at dksX0_minds_4 8 rfl rfl)
abbrev cX0_minded : ByteArray := prog_1_method_30_code
def yX0_minded : MethodName := ⟨RX0, "minded", "(Ljava/util/ArrayList;I)I"⟩
def dkwX0_minded_3 : List UInt8 := [167, 0, 4, 3, 96, 61, 132, 3, 1, 167, 255, 183, 28, 172]
abbrev dktX0_minded_3 : List UInt8 := dkwX0_minded_3 ++ []
def dkwX0_minded_2 : List UInt8 := [180, 0, 230, 27, 160, 0, 22, 25, 4, 180, 0, 228, 5, 126, 5, 160, 0, 11, 25, 4, 180, 0, 231]
abbrev dktX0_minded_2 : List UInt8 := dkwX0_minded_2 ++ dktX0_minded_3
def dkwX0_minded_1 : List UInt8 := [25, 4, 180, 0, 227, 27, 160, 0, 14, 25, 4, 180, 0, 228, 4, 126, 4, 159, 0, 23, 25, 4]
abbrev dktX0_minded_1 : List UInt8 := dkwX0_minded_1 ++ dktX0_minded_2
def dkwX0_minded_0 : List UInt8 := [3, 61, 3, 62, 29, 42, 182, 0, 72, 162, 0, 71, 42, 29, 182, 0, 80, 192, 0, 222, 58, 4, 28]
abbrev dktX0_minded_0 : List UInt8 := dkwX0_minded_0 ++ dktX0_minded_1
theorem dksX0_minded_0 : cX0_minded.data.toList.drop 0 = dktX0_minded_0 := by decide +kernel
theorem dksX0_minded_1 : cX0_minded.data.toList.drop 23 = dktX0_minded_1 := dk_seg dksX0_minded_0 23 rfl rfl
theorem dksX0_minded_2 : cX0_minded.data.toList.drop 45 = dktX0_minded_2 := dk_seg dksX0_minded_1 22 rfl rfl
theorem dksX0_minded_3 : cX0_minded.data.toList.drop 68 = dktX0_minded_3 := dk_seg dksX0_minded_2 23 rfl rfl
theorem dX0_minded_0 : decode cX0_minded 0 = .ok (.iconst 0, 1) := dk_3 (dk_at dksX0_minded_0 0 rfl rfl)
theorem dX0_minded_1 : decode cX0_minded 1 = .ok (.istore_n 2, 1) := dk_61 (dk_at dksX0_minded_0 1 rfl rfl)
theorem dX0_minded_2 : decode cX0_minded 2 = .ok (.iconst 0, 1) := dk_3 (dk_at dksX0_minded_0 2 rfl rfl)
theorem dX0_minded_3 : decode cX0_minded 3 = .ok (.istore_n 3, 1) := dk_62 (dk_at dksX0_minded_0 3 rfl rfl)
theorem dX0_minded_4 : decode cX0_minded 4 = .ok (.iload_n 3, 1) := dk_29 (dk_at dksX0_minded_0 4 rfl rfl)
theorem dX0_minded_5 : decode cX0_minded 5 = .ok (.aload_n 0, 1) := dk_42 (dk_at dksX0_minded_0 5 rfl rfl)
theorem dX0_minded_6 : decode cX0_minded 6 = .ok (.invokevirtual 72, 3) := dk_182 0 72 (dk_at dksX0_minded_0 6 rfl rfl)
theorem dX0_minded_9 : decode cX0_minded 9 = .ok (.if_icmp .ge 71, 3) := dk_162 0 71 (dk_at dksX0_minded_0 9 rfl rfl)
theorem dX0_minded_12 : decode cX0_minded 12 = .ok (.aload_n 0, 1) := dk_42 (dk_at dksX0_minded_0 12 rfl rfl)
theorem dX0_minded_13 : decode cX0_minded 13 = .ok (.iload_n 3, 1) := dk_29 (dk_at dksX0_minded_0 13 rfl rfl)
theorem dX0_minded_14 : decode cX0_minded 14 = .ok (.invokevirtual 80, 3) := dk_182 0 80 (dk_at dksX0_minded_0 14 rfl rfl)
theorem dX0_minded_17 : decode cX0_minded 17 = .ok (.checkcast 222, 3) := dk_192 0 222 (dk_at dksX0_minded_0 17 rfl rfl)
theorem dX0_minded_20 : decode cX0_minded 20 = .ok (.astore 4, 2) := dk_58 4 (dk_at dksX0_minded_0 20 rfl rfl)
theorem dX0_minded_22 : decode cX0_minded 22 = .ok (.iload_n 2, 1) := dk_28 (dk_at dksX0_minded_0 22 rfl rfl)
theorem dX0_minded_23 : decode cX0_minded 23 = .ok (.aload 4, 2) := dk_25 4 (dk_at dksX0_minded_1 0 rfl rfl)
theorem dX0_minded_25 : decode cX0_minded 25 = .ok (.getfield 227, 3) := dk_180 0 227 (dk_at dksX0_minded_1 2 rfl rfl)
theorem dX0_minded_28 : decode cX0_minded 28 = .ok (.iload_n 1, 1) := dk_27 (dk_at dksX0_minded_1 5 rfl rfl)
theorem dX0_minded_29 : decode cX0_minded 29 = .ok (.if_icmp .ne 14, 3) := dk_160 0 14 (dk_at dksX0_minded_1 6 rfl rfl)
theorem dX0_minded_32 : decode cX0_minded 32 = .ok (.aload 4, 2) := dk_25 4 (dk_at dksX0_minded_1 9 rfl rfl)
theorem dX0_minded_34 : decode cX0_minded 34 = .ok (.getfield 228, 3) := dk_180 0 228 (dk_at dksX0_minded_1 11 rfl rfl)
theorem dX0_minded_37 : decode cX0_minded 37 = .ok (.iconst 1, 1) := dk_4 (dk_at dksX0_minded_1 14 rfl rfl)
theorem dX0_minded_38 : decode cX0_minded 38 = .ok (.iand, 1) := dk_126 (dk_at dksX0_minded_1 15 rfl rfl)
theorem dX0_minded_39 : decode cX0_minded 39 = .ok (.iconst 1, 1) := dk_4 (dk_at dksX0_minded_1 16 rfl rfl)
theorem dX0_minded_40 : decode cX0_minded 40 = .ok (.if_icmp .eq 23, 3) := dk_159 0 23 (dk_at dksX0_minded_1 17 rfl rfl)
theorem dX0_minded_43 : decode cX0_minded 43 = .ok (.aload 4, 2) := dk_25 4 (dk_at dksX0_minded_1 20 rfl rfl)
theorem dX0_minded_45 : decode cX0_minded 45 = .ok (.getfield 230, 3) := dk_180 0 230 (dk_at dksX0_minded_2 0 rfl rfl)
theorem dX0_minded_48 : decode cX0_minded 48 = .ok (.iload_n 1, 1) := dk_27 (dk_at dksX0_minded_2 3 rfl rfl)
theorem dX0_minded_49 : decode cX0_minded 49 = .ok (.if_icmp .ne 22, 3) := dk_160 0 22 (dk_at dksX0_minded_2 4 rfl rfl)
theorem dX0_minded_52 : decode cX0_minded 52 = .ok (.aload 4, 2) := dk_25 4 (dk_at dksX0_minded_2 7 rfl rfl)
theorem dX0_minded_54 : decode cX0_minded 54 = .ok (.getfield 228, 3) := dk_180 0 228 (dk_at dksX0_minded_2 9 rfl rfl)
theorem dX0_minded_57 : decode cX0_minded 57 = .ok (.iconst 2, 1) := dk_5 (dk_at dksX0_minded_2 12 rfl rfl)
theorem dX0_minded_58 : decode cX0_minded 58 = .ok (.iand, 1) := dk_126 (dk_at dksX0_minded_2 13 rfl rfl)
theorem dX0_minded_59 : decode cX0_minded 59 = .ok (.iconst 2, 1) := dk_5 (dk_at dksX0_minded_2 14 rfl rfl)
theorem dX0_minded_60 : decode cX0_minded 60 = .ok (.if_icmp .ne 11, 3) := dk_160 0 11 (dk_at dksX0_minded_2 15 rfl rfl)
theorem dX0_minded_63 : decode cX0_minded 63 = .ok (.aload 4, 2) := dk_25 4 (dk_at dksX0_minded_2 18 rfl rfl)
theorem dX0_minded_65 : decode cX0_minded 65 = .ok (.getfield 231, 3) := dk_180 0 231 (dk_at dksX0_minded_2 20 rfl rfl)
theorem dX0_minded_68 : decode cX0_minded 68 = .ok (.goto 4, 3) := dk_167 0 4 (dk_at dksX0_minded_3 0 rfl rfl)
theorem dX0_minded_71 : decode cX0_minded 71 = .ok (.iconst 0, 1) := dk_3 (dk_at dksX0_minded_3 3 rfl rfl)
theorem dX0_minded_72 : decode cX0_minded 72 = .ok (.iadd, 1) := dk_96 (dk_at dksX0_minded_3 4 rfl rfl)
theorem dX0_minded_73 : decode cX0_minded 73 = .ok (.istore_n 2, 1) := dk_61 (dk_at dksX0_minded_3 5 rfl rfl)
theorem dX0_minded_74 : decode cX0_minded 74 = .ok (.iinc 3 1, 3) := dk_132 3 1 (dk_at dksX0_minded_3 6 rfl rfl)
theorem dX0_minded_77 : decode cX0_minded 77 = .ok (.goto (-73), 3) := dk_167 255 183 (dk_at dksX0_minded_3 9 rfl rfl)
theorem dX0_minded_80 : decode cX0_minded 80 = .ok (.iload_n 2, 1) := dk_28 (dk_at dksX0_minded_3 12 rfl rfl)
theorem dX0_minded_81 : decode cX0_minded 81 = .ok (.ireturn, 1) := dk_172 (dk_at dksX0_minded_3 13 rfl rfl)
abbrev cX0_ring : ByteArray := prog_1_method_37_code
def yX0_ring : MethodName := ⟨RX0, "ring", "(II)I"⟩
def dkwX0_ring_8 : List UInt8 := [54, 5, 132, 6, 1, 167, 255, 200, 21, 5, 172]
abbrev dktX0_ring_8 : List UInt8 := dkwX0_ring_8 ++ []
def dkwX0_ring_7 : List UInt8 := [21, 4, 4, 100, 21, 6, 100, 160, 0, 9, 21, 7, 29, 160, 0, 9, 132, 7, 1, 167, 255, 219, 21, 7]
abbrev dktX0_ring_7 : List UInt8 := dkwX0_ring_7 ++ dktX0_ring_8
def dkwX0_ring_6 : List UInt8 := [162, 0, 56, 3, 54, 7, 42, 21, 5, 21, 7, 182, 0, 253, 153, 0, 26, 42, 180, 0, 57, 21, 7, 46]
abbrev dktX0_ring_6 : List UInt8 := dkwX0_ring_6 ++ dktX0_ring_7
def dkwX0_ring_5 : List UInt8 := [4, 100, 184, 0, 76, 154, 0, 5, 2, 172, 42, 29, 182, 1, 0, 29, 54, 5, 3, 54, 6, 21, 6, 28]
abbrev dktX0_ring_5 : List UInt8 := dkwX0_ring_5 ++ dktX0_ring_6
def dkwX0_ring_4 : List UInt8 := [159, 0, 8, 28, 2, 160, 0, 15, 29, 2, 160, 0, 7, 2, 167, 0, 5, 21, 4, 172, 28, 3, 21, 4]
abbrev dktX0_ring_4 : List UInt8 := dkwX0_ring_4 ++ dktX0_ring_5
def dkwX0_ring_3 : List UInt8 := [167, 0, 15, 21, 5, 62, 42, 180, 0, 57, 21, 5, 46, 54, 4, 132, 5, 1, 167, 255, 192, 29, 2]
abbrev dktX0_ring_3 : List UInt8 := dkwX0_ring_3 ++ dktX0_ring_4
def dkwX0_ring_2 : List UInt8 := [46, 2, 159, 0, 35, 29, 2, 159, 0, 18, 42, 180, 0, 57, 21, 5, 46, 21, 4, 161, 0, 6]
abbrev dktX0_ring_2 : List UInt8 := dkwX0_ring_2 ++ dktX0_ring_3
def dkwX0_ring_1 : List UInt8 := [21, 5, 42, 180, 0, 40, 182, 0, 72, 162, 0, 58, 42, 21, 5, 182, 1, 0, 42, 180, 0, 57, 21, 5]
abbrev dktX0_ring_1 : List UInt8 := dkwX0_ring_1 ++ dktX0_ring_2
def dkwX0_ring_0 : List UInt8 := [42, 27, 182, 0, 180, 199, 0, 5, 2, 172, 42, 27, 3, 182, 1, 3, 2, 62, 3, 54, 4, 3, 54, 5]
abbrev dktX0_ring_0 : List UInt8 := dkwX0_ring_0 ++ dktX0_ring_1
theorem dksX0_ring_0 : cX0_ring.data.toList.drop 0 = dktX0_ring_0 := by decide +kernel
theorem dksX0_ring_1 : cX0_ring.data.toList.drop 24 = dktX0_ring_1 := dk_seg dksX0_ring_0 24 rfl rfl
theorem dksX0_ring_2 : cX0_ring.data.toList.drop 48 = dktX0_ring_2 := dk_seg dksX0_ring_1 24 rfl rfl
theorem dksX0_ring_3 : cX0_ring.data.toList.drop 70 = dktX0_ring_3 := dk_seg dksX0_ring_2 22 rfl rfl
theorem dksX0_ring_4 : cX0_ring.data.toList.drop 93 = dktX0_ring_4 := dk_seg dksX0_ring_3 23 rfl rfl
theorem dksX0_ring_5 : cX0_ring.data.toList.drop 117 = dktX0_ring_5 := dk_seg dksX0_ring_4 24 rfl rfl
theorem dksX0_ring_6 : cX0_ring.data.toList.drop 141 = dktX0_ring_6 := dk_seg dksX0_ring_5 24 rfl rfl
theorem dksX0_ring_7 : cX0_ring.data.toList.drop 165 = dktX0_ring_7 := dk_seg dksX0_ring_6 24 rfl rfl
theorem dksX0_ring_8 : cX0_ring.data.toList.drop 189 = dktX0_ring_8 := dk_seg dksX0_ring_7 24 rfl rfl
theorem dX0_ring_0 : decode cX0_ring 0 = .ok (.aload_n 0, 1) := dk_42 (dk_at dksX0_ring_0 0 rfl rfl)
theorem dX0_ring_1 : decode cX0_ring 1 = .ok (.iload_n 1, 1) := dk_27 (dk_at dksX0_ring_0 1 rfl rfl)
theorem dX0_ring_2 : decode cX0_ring 2 = .ok (.invokevirtual 180, 3) := dk_182 0 180 (dk_at dksX0_ring_0 2 rfl rfl)
theorem dX0_ring_5 : decode cX0_ring 5 = .ok (.ifnonnull 5, 3) := dk_199 0 5 (dk_at dksX0_ring_0 5 rfl rfl)
theorem dX0_ring_8 : decode cX0_ring 8 = .ok (.iconst (-1), 1) := dk_2 (dk_at dksX0_ring_0 8 rfl rfl)
theorem dX0_ring_9 : decode cX0_ring 9 = .ok (.ireturn, 1) := dk_172 (dk_at dksX0_ring_0 9 rfl rfl)
theorem dX0_ring_10 : decode cX0_ring 10 = .ok (.aload_n 0, 1) := dk_42 (dk_at dksX0_ring_0 10 rfl rfl)
theorem dX0_ring_11 : decode cX0_ring 11 = .ok (.iload_n 1, 1) := dk_27 (dk_at dksX0_ring_0 11 rfl rfl)
theorem dX0_ring_12 : decode cX0_ring 12 = .ok (.iconst 0, 1) := dk_3 (dk_at dksX0_ring_0 12 rfl rfl)
theorem dX0_ring_13 : decode cX0_ring 13 = .ok (.invokevirtual 259, 3) := dk_182 1 3 (dk_at dksX0_ring_0 13 rfl rfl)
theorem dX0_ring_16 : decode cX0_ring 16 = .ok (.iconst (-1), 1) := dk_2 (dk_at dksX0_ring_0 16 rfl rfl)
theorem dX0_ring_17 : decode cX0_ring 17 = .ok (.istore_n 3, 1) := dk_62 (dk_at dksX0_ring_0 17 rfl rfl)
theorem dX0_ring_18 : decode cX0_ring 18 = .ok (.iconst 0, 1) := dk_3 (dk_at dksX0_ring_0 18 rfl rfl)
theorem dX0_ring_19 : decode cX0_ring 19 = .ok (.istore 4, 2) := dk_54 4 (dk_at dksX0_ring_0 19 rfl rfl)
theorem dX0_ring_21 : decode cX0_ring 21 = .ok (.iconst 0, 1) := dk_3 (dk_at dksX0_ring_0 21 rfl rfl)
theorem dX0_ring_22 : decode cX0_ring 22 = .ok (.istore 5, 2) := dk_54 5 (dk_at dksX0_ring_0 22 rfl rfl)
theorem dX0_ring_24 : decode cX0_ring 24 = .ok (.iload 5, 2) := dk_21 5 (dk_at dksX0_ring_1 0 rfl rfl)
theorem dX0_ring_26 : decode cX0_ring 26 = .ok (.aload_n 0, 1) := dk_42 (dk_at dksX0_ring_1 2 rfl rfl)
theorem dX0_ring_27 : decode cX0_ring 27 = .ok (.getfield 40, 3) := dk_180 0 40 (dk_at dksX0_ring_1 3 rfl rfl)
theorem dX0_ring_30 : decode cX0_ring 30 = .ok (.invokevirtual 72, 3) := dk_182 0 72 (dk_at dksX0_ring_1 6 rfl rfl)
theorem dX0_ring_33 : decode cX0_ring 33 = .ok (.if_icmp .ge 58, 3) := dk_162 0 58 (dk_at dksX0_ring_1 9 rfl rfl)
theorem dX0_ring_36 : decode cX0_ring 36 = .ok (.aload_n 0, 1) := dk_42 (dk_at dksX0_ring_1 12 rfl rfl)
theorem dX0_ring_37 : decode cX0_ring 37 = .ok (.iload 5, 2) := dk_21 5 (dk_at dksX0_ring_1 13 rfl rfl)
theorem dX0_ring_39 : decode cX0_ring 39 = .ok (.invokevirtual 256, 3) := dk_182 1 0 (dk_at dksX0_ring_1 15 rfl rfl)
theorem dX0_ring_42 : decode cX0_ring 42 = .ok (.aload_n 0, 1) := dk_42 (dk_at dksX0_ring_1 18 rfl rfl)
theorem dX0_ring_43 : decode cX0_ring 43 = .ok (.getfield 57, 3) := dk_180 0 57 (dk_at dksX0_ring_1 19 rfl rfl)
theorem dX0_ring_46 : decode cX0_ring 46 = .ok (.iload 5, 2) := dk_21 5 (dk_at dksX0_ring_1 22 rfl rfl)
theorem dX0_ring_48 : decode cX0_ring 48 = .ok (.iaload, 1) := dk_46 (dk_at dksX0_ring_2 0 rfl rfl)
theorem dX0_ring_49 : decode cX0_ring 49 = .ok (.iconst (-1), 1) := dk_2 (dk_at dksX0_ring_2 1 rfl rfl)
theorem dX0_ring_50 : decode cX0_ring 50 = .ok (.if_icmp .eq 35, 3) := dk_159 0 35 (dk_at dksX0_ring_2 2 rfl rfl)
theorem dX0_ring_53 : decode cX0_ring 53 = .ok (.iload_n 3, 1) := dk_29 (dk_at dksX0_ring_2 5 rfl rfl)
theorem dX0_ring_54 : decode cX0_ring 54 = .ok (.iconst (-1), 1) := dk_2 (dk_at dksX0_ring_2 6 rfl rfl)
theorem dX0_ring_55 : decode cX0_ring 55 = .ok (.if_icmp .eq 18, 3) := dk_159 0 18 (dk_at dksX0_ring_2 7 rfl rfl)
theorem dX0_ring_58 : decode cX0_ring 58 = .ok (.aload_n 0, 1) := dk_42 (dk_at dksX0_ring_2 10 rfl rfl)
theorem dX0_ring_59 : decode cX0_ring 59 = .ok (.getfield 57, 3) := dk_180 0 57 (dk_at dksX0_ring_2 11 rfl rfl)
theorem dX0_ring_62 : decode cX0_ring 62 = .ok (.iload 5, 2) := dk_21 5 (dk_at dksX0_ring_2 14 rfl rfl)
theorem dX0_ring_64 : decode cX0_ring 64 = .ok (.iaload, 1) := dk_46 (dk_at dksX0_ring_2 16 rfl rfl)
theorem dX0_ring_65 : decode cX0_ring 65 = .ok (.iload 4, 2) := dk_21 4 (dk_at dksX0_ring_2 17 rfl rfl)
theorem dX0_ring_67 : decode cX0_ring 67 = .ok (.if_icmp .lt 6, 3) := dk_161 0 6 (dk_at dksX0_ring_2 19 rfl rfl)
theorem dX0_ring_70 : decode cX0_ring 70 = .ok (.goto 15, 3) := dk_167 0 15 (dk_at dksX0_ring_3 0 rfl rfl)
theorem dX0_ring_73 : decode cX0_ring 73 = .ok (.iload 5, 2) := dk_21 5 (dk_at dksX0_ring_3 3 rfl rfl)
theorem dX0_ring_75 : decode cX0_ring 75 = .ok (.istore_n 3, 1) := dk_62 (dk_at dksX0_ring_3 5 rfl rfl)
theorem dX0_ring_76 : decode cX0_ring 76 = .ok (.aload_n 0, 1) := dk_42 (dk_at dksX0_ring_3 6 rfl rfl)
theorem dX0_ring_77 : decode cX0_ring 77 = .ok (.getfield 57, 3) := dk_180 0 57 (dk_at dksX0_ring_3 7 rfl rfl)
theorem dX0_ring_80 : decode cX0_ring 80 = .ok (.iload 5, 2) := dk_21 5 (dk_at dksX0_ring_3 10 rfl rfl)
theorem dX0_ring_82 : decode cX0_ring 82 = .ok (.iaload, 1) := dk_46 (dk_at dksX0_ring_3 12 rfl rfl)
theorem dX0_ring_83 : decode cX0_ring 83 = .ok (.istore 4, 2) := dk_54 4 (dk_at dksX0_ring_3 13 rfl rfl)
theorem dX0_ring_85 : decode cX0_ring 85 = .ok (.iinc 5 1, 3) := dk_132 5 1 (dk_at dksX0_ring_3 15 rfl rfl)
theorem dX0_ring_88 : decode cX0_ring 88 = .ok (.goto (-64), 3) := dk_167 255 192 (dk_at dksX0_ring_3 18 rfl rfl)
theorem dX0_ring_91 : decode cX0_ring 91 = .ok (.iload_n 3, 1) := dk_29 (dk_at dksX0_ring_3 21 rfl rfl)
theorem dX0_ring_92 : decode cX0_ring 92 = .ok (.iconst (-1), 1) := dk_2 (dk_at dksX0_ring_3 22 rfl rfl)
theorem dX0_ring_93 : decode cX0_ring 93 = .ok (.if_icmp .eq 8, 3) := dk_159 0 8 (dk_at dksX0_ring_4 0 rfl rfl)
theorem dX0_ring_96 : decode cX0_ring 96 = .ok (.iload_n 2, 1) := dk_28 (dk_at dksX0_ring_4 3 rfl rfl)
theorem dX0_ring_97 : decode cX0_ring 97 = .ok (.iconst (-1), 1) := dk_2 (dk_at dksX0_ring_4 4 rfl rfl)
theorem dX0_ring_98 : decode cX0_ring 98 = .ok (.if_icmp .ne 15, 3) := dk_160 0 15 (dk_at dksX0_ring_4 5 rfl rfl)
theorem dX0_ring_101 : decode cX0_ring 101 = .ok (.iload_n 3, 1) := dk_29 (dk_at dksX0_ring_4 8 rfl rfl)
theorem dX0_ring_102 : decode cX0_ring 102 = .ok (.iconst (-1), 1) := dk_2 (dk_at dksX0_ring_4 9 rfl rfl)
theorem dX0_ring_103 : decode cX0_ring 103 = .ok (.if_icmp .ne 7, 3) := dk_160 0 7 (dk_at dksX0_ring_4 10 rfl rfl)
theorem dX0_ring_106 : decode cX0_ring 106 = .ok (.iconst (-1), 1) := dk_2 (dk_at dksX0_ring_4 13 rfl rfl)
theorem dX0_ring_107 : decode cX0_ring 107 = .ok (.goto 5, 3) := dk_167 0 5 (dk_at dksX0_ring_4 14 rfl rfl)
theorem dX0_ring_110 : decode cX0_ring 110 = .ok (.iload 4, 2) := dk_21 4 (dk_at dksX0_ring_4 17 rfl rfl)
theorem dX0_ring_112 : decode cX0_ring 112 = .ok (.ireturn, 1) := dk_172 (dk_at dksX0_ring_4 19 rfl rfl)
theorem dX0_ring_113 : decode cX0_ring 113 = .ok (.iload_n 2, 1) := dk_28 (dk_at dksX0_ring_4 20 rfl rfl)
theorem dX0_ring_114 : decode cX0_ring 114 = .ok (.iconst 0, 1) := dk_3 (dk_at dksX0_ring_4 21 rfl rfl)
theorem dX0_ring_115 : decode cX0_ring 115 = .ok (.iload 4, 2) := dk_21 4 (dk_at dksX0_ring_4 22 rfl rfl)
theorem dX0_ring_117 : decode cX0_ring 117 = .ok (.iconst 1, 1) := dk_4 (dk_at dksX0_ring_5 0 rfl rfl)
theorem dX0_ring_118 : decode cX0_ring 118 = .ok (.isub, 1) := dk_100 (dk_at dksX0_ring_5 1 rfl rfl)
theorem dX0_ring_119 : decode cX0_ring 119 = .ok (.invokestatic 76, 3) := dk_184 0 76 (dk_at dksX0_ring_5 2 rfl rfl)
theorem dX0_ring_122 : decode cX0_ring 122 = .ok (.ifCond .ne 5, 3) := dk_154 0 5 (dk_at dksX0_ring_5 5 rfl rfl)
theorem dX0_ring_125 : decode cX0_ring 125 = .ok (.iconst (-1), 1) := dk_2 (dk_at dksX0_ring_5 8 rfl rfl)
theorem dX0_ring_126 : decode cX0_ring 126 = .ok (.ireturn, 1) := dk_172 (dk_at dksX0_ring_5 9 rfl rfl)
theorem dX0_ring_127 : decode cX0_ring 127 = .ok (.aload_n 0, 1) := dk_42 (dk_at dksX0_ring_5 10 rfl rfl)
theorem dX0_ring_128 : decode cX0_ring 128 = .ok (.iload_n 3, 1) := dk_29 (dk_at dksX0_ring_5 11 rfl rfl)
theorem dX0_ring_129 : decode cX0_ring 129 = .ok (.invokevirtual 256, 3) := dk_182 1 0 (dk_at dksX0_ring_5 12 rfl rfl)
theorem dX0_ring_132 : decode cX0_ring 132 = .ok (.iload_n 3, 1) := dk_29 (dk_at dksX0_ring_5 15 rfl rfl)
theorem dX0_ring_133 : decode cX0_ring 133 = .ok (.istore 5, 2) := dk_54 5 (dk_at dksX0_ring_5 16 rfl rfl)
theorem dX0_ring_135 : decode cX0_ring 135 = .ok (.iconst 0, 1) := dk_3 (dk_at dksX0_ring_5 18 rfl rfl)
theorem dX0_ring_136 : decode cX0_ring 136 = .ok (.istore 6, 2) := dk_54 6 (dk_at dksX0_ring_5 19 rfl rfl)
theorem dX0_ring_138 : decode cX0_ring 138 = .ok (.iload 6, 2) := dk_21 6 (dk_at dksX0_ring_5 21 rfl rfl)
theorem dX0_ring_140 : decode cX0_ring 140 = .ok (.iload_n 2, 1) := dk_28 (dk_at dksX0_ring_5 23 rfl rfl)
theorem dX0_ring_141 : decode cX0_ring 141 = .ok (.if_icmp .ge 56, 3) := dk_162 0 56 (dk_at dksX0_ring_6 0 rfl rfl)
theorem dX0_ring_144 : decode cX0_ring 144 = .ok (.iconst 0, 1) := dk_3 (dk_at dksX0_ring_6 3 rfl rfl)
theorem dX0_ring_145 : decode cX0_ring 145 = .ok (.istore 7, 2) := dk_54 7 (dk_at dksX0_ring_6 4 rfl rfl)
theorem dX0_ring_147 : decode cX0_ring 147 = .ok (.aload_n 0, 1) := dk_42 (dk_at dksX0_ring_6 6 rfl rfl)
theorem dX0_ring_148 : decode cX0_ring 148 = .ok (.iload 5, 2) := dk_21 5 (dk_at dksX0_ring_6 7 rfl rfl)
theorem dX0_ring_150 : decode cX0_ring 150 = .ok (.iload 7, 2) := dk_21 7 (dk_at dksX0_ring_6 9 rfl rfl)
theorem dX0_ring_152 : decode cX0_ring 152 = .ok (.invokevirtual 253, 3) := dk_182 0 253 (dk_at dksX0_ring_6 11 rfl rfl)
theorem dX0_ring_155 : decode cX0_ring 155 = .ok (.ifCond .eq 26, 3) := dk_153 0 26 (dk_at dksX0_ring_6 14 rfl rfl)
theorem dX0_ring_158 : decode cX0_ring 158 = .ok (.aload_n 0, 1) := dk_42 (dk_at dksX0_ring_6 17 rfl rfl)
theorem dX0_ring_159 : decode cX0_ring 159 = .ok (.getfield 57, 3) := dk_180 0 57 (dk_at dksX0_ring_6 18 rfl rfl)
theorem dX0_ring_162 : decode cX0_ring 162 = .ok (.iload 7, 2) := dk_21 7 (dk_at dksX0_ring_6 21 rfl rfl)
theorem dX0_ring_164 : decode cX0_ring 164 = .ok (.iaload, 1) := dk_46 (dk_at dksX0_ring_6 23 rfl rfl)
theorem dX0_ring_165 : decode cX0_ring 165 = .ok (.iload 4, 2) := dk_21 4 (dk_at dksX0_ring_7 0 rfl rfl)
theorem dX0_ring_167 : decode cX0_ring 167 = .ok (.iconst 1, 1) := dk_4 (dk_at dksX0_ring_7 2 rfl rfl)
theorem dX0_ring_168 : decode cX0_ring 168 = .ok (.isub, 1) := dk_100 (dk_at dksX0_ring_7 3 rfl rfl)
theorem dX0_ring_169 : decode cX0_ring 169 = .ok (.iload 6, 2) := dk_21 6 (dk_at dksX0_ring_7 4 rfl rfl)
theorem dX0_ring_171 : decode cX0_ring 171 = .ok (.isub, 1) := dk_100 (dk_at dksX0_ring_7 6 rfl rfl)
theorem dX0_ring_172 : decode cX0_ring 172 = .ok (.if_icmp .ne 9, 3) := dk_160 0 9 (dk_at dksX0_ring_7 7 rfl rfl)
theorem dX0_ring_175 : decode cX0_ring 175 = .ok (.iload 7, 2) := dk_21 7 (dk_at dksX0_ring_7 10 rfl rfl)
theorem dX0_ring_177 : decode cX0_ring 177 = .ok (.iload_n 3, 1) := dk_29 (dk_at dksX0_ring_7 12 rfl rfl)
theorem dX0_ring_178 : decode cX0_ring 178 = .ok (.if_icmp .ne 9, 3) := dk_160 0 9 (dk_at dksX0_ring_7 13 rfl rfl)
theorem dX0_ring_181 : decode cX0_ring 181 = .ok (.iinc 7 1, 3) := dk_132 7 1 (dk_at dksX0_ring_7 16 rfl rfl)
theorem dX0_ring_184 : decode cX0_ring 184 = .ok (.goto (-37), 3) := dk_167 255 219 (dk_at dksX0_ring_7 19 rfl rfl)
theorem dX0_ring_187 : decode cX0_ring 187 = .ok (.iload 7, 2) := dk_21 7 (dk_at dksX0_ring_7 22 rfl rfl)
theorem dX0_ring_189 : decode cX0_ring 189 = .ok (.istore 5, 2) := dk_54 5 (dk_at dksX0_ring_8 0 rfl rfl)
theorem dX0_ring_191 : decode cX0_ring 191 = .ok (.iinc 6 1, 3) := dk_132 6 1 (dk_at dksX0_ring_8 2 rfl rfl)
theorem dX0_ring_194 : decode cX0_ring 194 = .ok (.goto (-56), 3) := dk_167 255 200 (dk_at dksX0_ring_8 5 rfl rfl)
theorem dX0_ring_197 : decode cX0_ring 197 = .ok (.iload 5, 2) := dk_21 5 (dk_at dksX0_ring_8 8 rfl rfl)
theorem dX0_ring_199 : decode cX0_ring 199 = .ok (.ireturn, 1) := dk_172 (dk_at dksX0_ring_8 10 rfl rfl)
abbrev cX0_findAbove : ByteArray := prog_1_method_24_code
def yX0_findAbove : MethodName := ⟨RX0, "findAbove", "(II)V"⟩
def dkwX0_findAbove_7 : List UInt8 := [167, 255, 116, 177]
abbrev dktX0_findAbove_7 : List UInt8 := dkwX0_findAbove_7 ++ []
def dkwX0_findAbove_6 : List UInt8 := [21, 5, 182, 0, 80, 192, 0, 196, 180, 0, 200, 120, 128, 79, 132, 5, 1, 167, 255, 178, 132, 3, 1]
abbrev dktX0_findAbove_6 : List UInt8 := dkwX0_findAbove_6 ++ dktX0_findAbove_7
def dkwX0_findAbove_5 : List UInt8 := [25, 4, 180, 0, 171, 21, 5, 182, 0, 80, 192, 0, 196, 180, 0, 195, 92, 46, 4, 25, 4, 180, 0, 171]
abbrev dktX0_findAbove_5 : List UInt8 := dkwX0_findAbove_5 ++ dktX0_findAbove_6
def dkwX0_findAbove_4 : List UInt8 := [25, 4, 180, 0, 171, 21, 5, 182, 0, 80, 192, 0, 196, 182, 0, 207, 153, 0, 45, 42, 180, 0, 53]
abbrev dktX0_findAbove_4 : List UInt8 := dkwX0_findAbove_4 ++ dktX0_findAbove_5
def dkwX0_findAbove_3 : List UInt8 := [160, 0, 6, 167, 0, 87, 3, 54, 5, 21, 5, 25, 4, 180, 0, 171, 182, 0, 72, 162, 0, 71, 42]
abbrev dktX0_findAbove_3 : List UInt8 := dkwX0_findAbove_3 ++ dktX0_findAbove_4
def dkwX0_findAbove_2 : List UInt8 := [25, 4, 182, 0, 145, 154, 0, 108, 25, 4, 27, 182, 0, 203, 153, 0, 99, 28, 29, 122, 4, 126, 4]
abbrev dktX0_findAbove_2 : List UInt8 := dkwX0_findAbove_2 ++ dktX0_findAbove_3
def dkwX0_findAbove_1 : List UInt8 := [42, 180, 0, 47, 182, 0, 72, 162, 0, 135, 42, 180, 0, 47, 29, 182, 0, 80, 192, 0, 86, 58, 4]
abbrev dktX0_findAbove_1 : List UInt8 := dkwX0_findAbove_1 ++ dktX0_findAbove_2
def dkwX0_findAbove_0 : List UInt8 := [3, 62, 29, 16, 10, 162, 0, 16, 42, 180, 0, 53, 29, 3, 79, 132, 3, 1, 167, 255, 240, 3, 62, 29]
abbrev dktX0_findAbove_0 : List UInt8 := dkwX0_findAbove_0 ++ dktX0_findAbove_1
theorem dksX0_findAbove_0 : cX0_findAbove.data.toList.drop 0 = dktX0_findAbove_0 := by decide +kernel
theorem dksX0_findAbove_1 : cX0_findAbove.data.toList.drop 24 = dktX0_findAbove_1 := dk_seg dksX0_findAbove_0 24 rfl rfl
theorem dksX0_findAbove_2 : cX0_findAbove.data.toList.drop 47 = dktX0_findAbove_2 := dk_seg dksX0_findAbove_1 23 rfl rfl
theorem dksX0_findAbove_3 : cX0_findAbove.data.toList.drop 70 = dktX0_findAbove_3 := dk_seg dksX0_findAbove_2 23 rfl rfl
theorem dksX0_findAbove_4 : cX0_findAbove.data.toList.drop 93 = dktX0_findAbove_4 := dk_seg dksX0_findAbove_3 23 rfl rfl
theorem dksX0_findAbove_5 : cX0_findAbove.data.toList.drop 116 = dktX0_findAbove_5 := dk_seg dksX0_findAbove_4 23 rfl rfl
theorem dksX0_findAbove_6 : cX0_findAbove.data.toList.drop 140 = dktX0_findAbove_6 := dk_seg dksX0_findAbove_5 24 rfl rfl
theorem dksX0_findAbove_7 : cX0_findAbove.data.toList.drop 163 = dktX0_findAbove_7 := dk_seg dksX0_findAbove_6 23 rfl rfl
theorem dX0_findAbove_0 : decode cX0_findAbove 0 = .ok (.iconst 0, 1) := dk_3 (dk_at dksX0_findAbove_0 0 rfl rfl)
theorem dX0_findAbove_1 : decode cX0_findAbove 1 = .ok (.istore_n 3, 1) := dk_62 (dk_at dksX0_findAbove_0 1 rfl rfl)
theorem dX0_findAbove_2 : decode cX0_findAbove 2 = .ok (.iload_n 3, 1) := dk_29 (dk_at dksX0_findAbove_0 2 rfl rfl)
theorem dX0_findAbove_3 : decode cX0_findAbove 3 = .ok (.bipush 10, 2) := dk_16 10 (dk_at dksX0_findAbove_0 3 rfl rfl)
theorem dX0_findAbove_5 : decode cX0_findAbove 5 = .ok (.if_icmp .ge 16, 3) := dk_162 0 16 (dk_at dksX0_findAbove_0 5 rfl rfl)
theorem dX0_findAbove_8 : decode cX0_findAbove 8 = .ok (.aload_n 0, 1) := dk_42 (dk_at dksX0_findAbove_0 8 rfl rfl)
theorem dX0_findAbove_9 : decode cX0_findAbove 9 = .ok (.getfield 53, 3) := dk_180 0 53 (dk_at dksX0_findAbove_0 9 rfl rfl)
theorem dX0_findAbove_12 : decode cX0_findAbove 12 = .ok (.iload_n 3, 1) := dk_29 (dk_at dksX0_findAbove_0 12 rfl rfl)
theorem dX0_findAbove_13 : decode cX0_findAbove 13 = .ok (.iconst 0, 1) := dk_3 (dk_at dksX0_findAbove_0 13 rfl rfl)
theorem dX0_findAbove_14 : decode cX0_findAbove 14 = .ok (.iastore, 1) := dk_79 (dk_at dksX0_findAbove_0 14 rfl rfl)
theorem dX0_findAbove_15 : decode cX0_findAbove 15 = .ok (.iinc 3 1, 3) := dk_132 3 1 (dk_at dksX0_findAbove_0 15 rfl rfl)
theorem dX0_findAbove_18 : decode cX0_findAbove 18 = .ok (.goto (-16), 3) := dk_167 255 240 (dk_at dksX0_findAbove_0 18 rfl rfl)
theorem dX0_findAbove_21 : decode cX0_findAbove 21 = .ok (.iconst 0, 1) := dk_3 (dk_at dksX0_findAbove_0 21 rfl rfl)
theorem dX0_findAbove_22 : decode cX0_findAbove 22 = .ok (.istore_n 3, 1) := dk_62 (dk_at dksX0_findAbove_0 22 rfl rfl)
theorem dX0_findAbove_23 : decode cX0_findAbove 23 = .ok (.iload_n 3, 1) := dk_29 (dk_at dksX0_findAbove_0 23 rfl rfl)
theorem dX0_findAbove_24 : decode cX0_findAbove 24 = .ok (.aload_n 0, 1) := dk_42 (dk_at dksX0_findAbove_1 0 rfl rfl)
theorem dX0_findAbove_25 : decode cX0_findAbove 25 = .ok (.getfield 47, 3) := dk_180 0 47 (dk_at dksX0_findAbove_1 1 rfl rfl)
theorem dX0_findAbove_28 : decode cX0_findAbove 28 = .ok (.invokevirtual 72, 3) := dk_182 0 72 (dk_at dksX0_findAbove_1 4 rfl rfl)
theorem dX0_findAbove_31 : decode cX0_findAbove 31 = .ok (.if_icmp .ge 135, 3) := dk_162 0 135 (dk_at dksX0_findAbove_1 7 rfl rfl)
theorem dX0_findAbove_34 : decode cX0_findAbove 34 = .ok (.aload_n 0, 1) := dk_42 (dk_at dksX0_findAbove_1 10 rfl rfl)
theorem dX0_findAbove_35 : decode cX0_findAbove 35 = .ok (.getfield 47, 3) := dk_180 0 47 (dk_at dksX0_findAbove_1 11 rfl rfl)
theorem dX0_findAbove_38 : decode cX0_findAbove 38 = .ok (.iload_n 3, 1) := dk_29 (dk_at dksX0_findAbove_1 14 rfl rfl)
theorem dX0_findAbove_39 : decode cX0_findAbove 39 = .ok (.invokevirtual 80, 3) := dk_182 0 80 (dk_at dksX0_findAbove_1 15 rfl rfl)
theorem dX0_findAbove_42 : decode cX0_findAbove 42 = .ok (.checkcast 86, 3) := dk_192 0 86 (dk_at dksX0_findAbove_1 18 rfl rfl)
theorem dX0_findAbove_45 : decode cX0_findAbove 45 = .ok (.astore 4, 2) := dk_58 4 (dk_at dksX0_findAbove_1 21 rfl rfl)
theorem dX0_findAbove_47 : decode cX0_findAbove 47 = .ok (.aload 4, 2) := dk_25 4 (dk_at dksX0_findAbove_2 0 rfl rfl)
theorem dX0_findAbove_49 : decode cX0_findAbove 49 = .ok (.invokevirtual 145, 3) := dk_182 0 145 (dk_at dksX0_findAbove_2 2 rfl rfl)
theorem dX0_findAbove_52 : decode cX0_findAbove 52 = .ok (.ifCond .ne 108, 3) := dk_154 0 108 (dk_at dksX0_findAbove_2 5 rfl rfl)
theorem dX0_findAbove_55 : decode cX0_findAbove 55 = .ok (.aload 4, 2) := dk_25 4 (dk_at dksX0_findAbove_2 8 rfl rfl)
theorem dX0_findAbove_57 : decode cX0_findAbove 57 = .ok (.iload_n 1, 1) := dk_27 (dk_at dksX0_findAbove_2 10 rfl rfl)
theorem dX0_findAbove_58 : decode cX0_findAbove 58 = .ok (.invokevirtual 203, 3) := dk_182 0 203 (dk_at dksX0_findAbove_2 11 rfl rfl)
theorem dX0_findAbove_61 : decode cX0_findAbove 61 = .ok (.ifCond .eq 99, 3) := dk_153 0 99 (dk_at dksX0_findAbove_2 14 rfl rfl)
theorem dX0_findAbove_64 : decode cX0_findAbove 64 = .ok (.iload_n 2, 1) := dk_28 (dk_at dksX0_findAbove_2 17 rfl rfl)
theorem dX0_findAbove_65 : decode cX0_findAbove 65 = .ok (.iload_n 3, 1) := dk_29 (dk_at dksX0_findAbove_2 18 rfl rfl)
theorem dX0_findAbove_66 : decode cX0_findAbove 66 = .ok (.ishr, 1) := dk_122 (dk_at dksX0_findAbove_2 19 rfl rfl)
theorem dX0_findAbove_67 : decode cX0_findAbove 67 = .ok (.iconst 1, 1) := dk_4 (dk_at dksX0_findAbove_2 20 rfl rfl)
theorem dX0_findAbove_68 : decode cX0_findAbove 68 = .ok (.iand, 1) := dk_126 (dk_at dksX0_findAbove_2 21 rfl rfl)
theorem dX0_findAbove_69 : decode cX0_findAbove 69 = .ok (.iconst 1, 1) := dk_4 (dk_at dksX0_findAbove_2 22 rfl rfl)
theorem dX0_findAbove_70 : decode cX0_findAbove 70 = .ok (.if_icmp .ne 6, 3) := dk_160 0 6 (dk_at dksX0_findAbove_3 0 rfl rfl)
theorem dX0_findAbove_73 : decode cX0_findAbove 73 = .ok (.goto 87, 3) := dk_167 0 87 (dk_at dksX0_findAbove_3 3 rfl rfl)
theorem dX0_findAbove_76 : decode cX0_findAbove 76 = .ok (.iconst 0, 1) := dk_3 (dk_at dksX0_findAbove_3 6 rfl rfl)
theorem dX0_findAbove_77 : decode cX0_findAbove 77 = .ok (.istore 5, 2) := dk_54 5 (dk_at dksX0_findAbove_3 7 rfl rfl)
theorem dX0_findAbove_79 : decode cX0_findAbove 79 = .ok (.iload 5, 2) := dk_21 5 (dk_at dksX0_findAbove_3 9 rfl rfl)
theorem dX0_findAbove_81 : decode cX0_findAbove 81 = .ok (.aload 4, 2) := dk_25 4 (dk_at dksX0_findAbove_3 11 rfl rfl)
theorem dX0_findAbove_83 : decode cX0_findAbove 83 = .ok (.getfield 171, 3) := dk_180 0 171 (dk_at dksX0_findAbove_3 13 rfl rfl)
theorem dX0_findAbove_86 : decode cX0_findAbove 86 = .ok (.invokevirtual 72, 3) := dk_182 0 72 (dk_at dksX0_findAbove_3 16 rfl rfl)
theorem dX0_findAbove_89 : decode cX0_findAbove 89 = .ok (.if_icmp .ge 71, 3) := dk_162 0 71 (dk_at dksX0_findAbove_3 19 rfl rfl)
theorem dX0_findAbove_92 : decode cX0_findAbove 92 = .ok (.aload_n 0, 1) := dk_42 (dk_at dksX0_findAbove_3 22 rfl rfl)
theorem dX0_findAbove_93 : decode cX0_findAbove 93 = .ok (.aload 4, 2) := dk_25 4 (dk_at dksX0_findAbove_4 0 rfl rfl)
theorem dX0_findAbove_95 : decode cX0_findAbove 95 = .ok (.getfield 171, 3) := dk_180 0 171 (dk_at dksX0_findAbove_4 2 rfl rfl)
theorem dX0_findAbove_98 : decode cX0_findAbove 98 = .ok (.iload 5, 2) := dk_21 5 (dk_at dksX0_findAbove_4 5 rfl rfl)
theorem dX0_findAbove_100 : decode cX0_findAbove 100 = .ok (.invokevirtual 80, 3) := dk_182 0 80 (dk_at dksX0_findAbove_4 7 rfl rfl)
theorem dX0_findAbove_103 : decode cX0_findAbove 103 = .ok (.checkcast 196, 3) := dk_192 0 196 (dk_at dksX0_findAbove_4 10 rfl rfl)
theorem dX0_findAbove_106 : decode cX0_findAbove 106 = .ok (.invokevirtual 207, 3) := dk_182 0 207 (dk_at dksX0_findAbove_4 13 rfl rfl)
theorem dX0_findAbove_109 : decode cX0_findAbove 109 = .ok (.ifCond .eq 45, 3) := dk_153 0 45 (dk_at dksX0_findAbove_4 16 rfl rfl)
theorem dX0_findAbove_112 : decode cX0_findAbove 112 = .ok (.aload_n 0, 1) := dk_42 (dk_at dksX0_findAbove_4 19 rfl rfl)
theorem dX0_findAbove_113 : decode cX0_findAbove 113 = .ok (.getfield 53, 3) := dk_180 0 53 (dk_at dksX0_findAbove_4 20 rfl rfl)
theorem dX0_findAbove_116 : decode cX0_findAbove 116 = .ok (.aload 4, 2) := dk_25 4 (dk_at dksX0_findAbove_5 0 rfl rfl)
theorem dX0_findAbove_118 : decode cX0_findAbove 118 = .ok (.getfield 171, 3) := dk_180 0 171 (dk_at dksX0_findAbove_5 2 rfl rfl)
theorem dX0_findAbove_121 : decode cX0_findAbove 121 = .ok (.iload 5, 2) := dk_21 5 (dk_at dksX0_findAbove_5 5 rfl rfl)
theorem dX0_findAbove_123 : decode cX0_findAbove 123 = .ok (.invokevirtual 80, 3) := dk_182 0 80 (dk_at dksX0_findAbove_5 7 rfl rfl)
theorem dX0_findAbove_126 : decode cX0_findAbove 126 = .ok (.checkcast 196, 3) := dk_192 0 196 (dk_at dksX0_findAbove_5 10 rfl rfl)
theorem dX0_findAbove_129 : decode cX0_findAbove 129 = .ok (.getfield 195, 3) := dk_180 0 195 (dk_at dksX0_findAbove_5 13 rfl rfl)
theorem dX0_findAbove_132 : decode cX0_findAbove 132 = .ok (.dup2, 1) := dk_92 (dk_at dksX0_findAbove_5 16 rfl rfl)
theorem dX0_findAbove_133 : decode cX0_findAbove 133 = .ok (.iaload, 1) := dk_46 (dk_at dksX0_findAbove_5 17 rfl rfl)
theorem dX0_findAbove_134 : decode cX0_findAbove 134 = .ok (.iconst 1, 1) := dk_4 (dk_at dksX0_findAbove_5 18 rfl rfl)
theorem dX0_findAbove_135 : decode cX0_findAbove 135 = .ok (.aload 4, 2) := dk_25 4 (dk_at dksX0_findAbove_5 19 rfl rfl)
theorem dX0_findAbove_137 : decode cX0_findAbove 137 = .ok (.getfield 171, 3) := dk_180 0 171 (dk_at dksX0_findAbove_5 21 rfl rfl)
theorem dX0_findAbove_140 : decode cX0_findAbove 140 = .ok (.iload 5, 2) := dk_21 5 (dk_at dksX0_findAbove_6 0 rfl rfl)
theorem dX0_findAbove_142 : decode cX0_findAbove 142 = .ok (.invokevirtual 80, 3) := dk_182 0 80 (dk_at dksX0_findAbove_6 2 rfl rfl)
theorem dX0_findAbove_145 : decode cX0_findAbove 145 = .ok (.checkcast 196, 3) := dk_192 0 196 (dk_at dksX0_findAbove_6 5 rfl rfl)
theorem dX0_findAbove_148 : decode cX0_findAbove 148 = .ok (.getfield 200, 3) := dk_180 0 200 (dk_at dksX0_findAbove_6 8 rfl rfl)
theorem dX0_findAbove_151 : decode cX0_findAbove 151 = .ok (.ishl, 1) := dk_120 (dk_at dksX0_findAbove_6 11 rfl rfl)
theorem dX0_findAbove_152 : decode cX0_findAbove 152 = .ok (.ior, 1) := dk_128 (dk_at dksX0_findAbove_6 12 rfl rfl)
theorem dX0_findAbove_153 : decode cX0_findAbove 153 = .ok (.iastore, 1) := dk_79 (dk_at dksX0_findAbove_6 13 rfl rfl)
theorem dX0_findAbove_154 : decode cX0_findAbove 154 = .ok (.iinc 5 1, 3) := dk_132 5 1 (dk_at dksX0_findAbove_6 14 rfl rfl)
theorem dX0_findAbove_157 : decode cX0_findAbove 157 = .ok (.goto (-78), 3) := dk_167 255 178 (dk_at dksX0_findAbove_6 17 rfl rfl)
theorem dX0_findAbove_160 : decode cX0_findAbove 160 = .ok (.iinc 3 1, 3) := dk_132 3 1 (dk_at dksX0_findAbove_6 20 rfl rfl)
theorem dX0_findAbove_163 : decode cX0_findAbove 163 = .ok (.goto (-140), 3) := dk_167 255 116 (dk_at dksX0_findAbove_7 0 rfl rfl)
theorem dX0_findAbove_166 : decode cX0_findAbove 166 = .ok (.return_, 1) := dk_177 (dk_at dksX0_findAbove_7 3 rfl rfl)
abbrev cX0_findSteps : ByteArray := prog_1_method_35_code
def yX0_findSteps : MethodName := ⟨RX0, "findSteps", "(I)V"⟩
def dkwX0_findSteps_7 : List UInt8 := [167, 255, 115, 177]
abbrev dktX0_findSteps_7 : List UInt8 := dkwX0_findSteps_7 ++ []
def dkwX0_findSteps_6 : List UInt8 := [167, 255, 195, 21, 4, 153, 0, 10, 42, 180, 0, 57, 29, 28, 79, 132, 3, 1, 167, 255, 129, 132, 2, 1]
abbrev dktX0_findSteps_6 : List UInt8 := dkwX0_findSteps_6 ++ dktX0_findSteps_7
def dkwX0_findSteps_5 : List UInt8 := [160, 0, 17, 42, 29, 21, 5, 182, 0, 253, 153, 0, 7, 4, 167, 0, 4, 3, 54, 4, 132, 5, 1]
abbrev dktX0_findSteps_5 : List UInt8 := dkwX0_findSteps_5 ++ dktX0_findSteps_6
def dkwX0_findSteps_4 : List UInt8 := [164, 0, 50, 21, 4, 154, 0, 45, 21, 5, 27, 159, 0, 30, 42, 180, 0, 57, 21, 5, 46, 28, 4, 100]
abbrev dktX0_findSteps_4 : List UInt8 := dkwX0_findSteps_4 ++ dktX0_findSteps_5
def dkwX0_findSteps_3 : List UInt8 := [167, 0, 4, 3, 54, 4, 3, 54, 5, 21, 5, 42, 180, 0, 40, 182, 0, 72, 162, 0, 55, 28, 4]
abbrev dktX0_findSteps_3 : List UInt8 := dkwX0_findSteps_3 ++ dktX0_findSteps_4
def dkwX0_findSteps_2 : List UInt8 := [2, 159, 0, 6, 167, 0, 103, 28, 4, 160, 0, 16, 42, 29, 27, 182, 0, 253, 153, 0, 7, 4]
abbrev dktX0_findSteps_2 : List UInt8 := dkwX0_findSteps_2 ++ dktX0_findSteps_3
def dkwX0_findSteps_1 : List UInt8 := [16, 10, 163, 0, 141, 3, 62, 29, 42, 180, 0, 40, 182, 0, 72, 162, 0, 122, 42, 180, 0, 57, 29, 46]
abbrev dktX0_findSteps_1 : List UInt8 := dkwX0_findSteps_1 ++ dktX0_findSteps_2
def dkwX0_findSteps_0 : List UInt8 := [3, 61, 28, 16, 10, 162, 0, 16, 42, 180, 0, 57, 28, 2, 79, 132, 2, 1, 167, 255, 240, 4, 61, 28]
abbrev dktX0_findSteps_0 : List UInt8 := dkwX0_findSteps_0 ++ dktX0_findSteps_1
theorem dksX0_findSteps_0 : cX0_findSteps.data.toList.drop 0 = dktX0_findSteps_0 := by decide +kernel
theorem dksX0_findSteps_1 : cX0_findSteps.data.toList.drop 24 = dktX0_findSteps_1 := dk_seg dksX0_findSteps_0 24 rfl rfl
theorem dksX0_findSteps_2 : cX0_findSteps.data.toList.drop 48 = dktX0_findSteps_2 := dk_seg dksX0_findSteps_1 24 rfl rfl
theorem dksX0_findSteps_3 : cX0_findSteps.data.toList.drop 70 = dktX0_findSteps_3 := dk_seg dksX0_findSteps_2 22 rfl rfl
theorem dksX0_findSteps_4 : cX0_findSteps.data.toList.drop 93 = dktX0_findSteps_4 := dk_seg dksX0_findSteps_3 23 rfl rfl
theorem dksX0_findSteps_5 : cX0_findSteps.data.toList.drop 117 = dktX0_findSteps_5 := dk_seg dksX0_findSteps_4 24 rfl rfl
theorem dksX0_findSteps_6 : cX0_findSteps.data.toList.drop 140 = dktX0_findSteps_6 := dk_seg dksX0_findSteps_5 23 rfl rfl
theorem dksX0_findSteps_7 : cX0_findSteps.data.toList.drop 164 = dktX0_findSteps_7 := dk_seg dksX0_findSteps_6 24 rfl rfl
theorem dX0_findSteps_0 : decode cX0_findSteps 0 = .ok (.iconst 0, 1) := dk_3 (dk_at dksX0_findSteps_0 0 rfl rfl)
theorem dX0_findSteps_1 : decode cX0_findSteps 1 = .ok (.istore_n 2, 1) := dk_61 (dk_at dksX0_findSteps_0 1 rfl rfl)
theorem dX0_findSteps_2 : decode cX0_findSteps 2 = .ok (.iload_n 2, 1) := dk_28 (dk_at dksX0_findSteps_0 2 rfl rfl)
theorem dX0_findSteps_3 : decode cX0_findSteps 3 = .ok (.bipush 10, 2) := dk_16 10 (dk_at dksX0_findSteps_0 3 rfl rfl)
theorem dX0_findSteps_5 : decode cX0_findSteps 5 = .ok (.if_icmp .ge 16, 3) := dk_162 0 16 (dk_at dksX0_findSteps_0 5 rfl rfl)
theorem dX0_findSteps_8 : decode cX0_findSteps 8 = .ok (.aload_n 0, 1) := dk_42 (dk_at dksX0_findSteps_0 8 rfl rfl)
theorem dX0_findSteps_9 : decode cX0_findSteps 9 = .ok (.getfield 57, 3) := dk_180 0 57 (dk_at dksX0_findSteps_0 9 rfl rfl)
theorem dX0_findSteps_12 : decode cX0_findSteps 12 = .ok (.iload_n 2, 1) := dk_28 (dk_at dksX0_findSteps_0 12 rfl rfl)
theorem dX0_findSteps_13 : decode cX0_findSteps 13 = .ok (.iconst (-1), 1) := dk_2 (dk_at dksX0_findSteps_0 13 rfl rfl)
theorem dX0_findSteps_14 : decode cX0_findSteps 14 = .ok (.iastore, 1) := dk_79 (dk_at dksX0_findSteps_0 14 rfl rfl)
theorem dX0_findSteps_15 : decode cX0_findSteps 15 = .ok (.iinc 2 1, 3) := dk_132 2 1 (dk_at dksX0_findSteps_0 15 rfl rfl)
theorem dX0_findSteps_18 : decode cX0_findSteps 18 = .ok (.goto (-16), 3) := dk_167 255 240 (dk_at dksX0_findSteps_0 18 rfl rfl)
theorem dX0_findSteps_21 : decode cX0_findSteps 21 = .ok (.iconst 1, 1) := dk_4 (dk_at dksX0_findSteps_0 21 rfl rfl)
theorem dX0_findSteps_22 : decode cX0_findSteps 22 = .ok (.istore_n 2, 1) := dk_61 (dk_at dksX0_findSteps_0 22 rfl rfl)
theorem dX0_findSteps_23 : decode cX0_findSteps 23 = .ok (.iload_n 2, 1) := dk_28 (dk_at dksX0_findSteps_0 23 rfl rfl)
theorem dX0_findSteps_24 : decode cX0_findSteps 24 = .ok (.bipush 10, 2) := dk_16 10 (dk_at dksX0_findSteps_1 0 rfl rfl)
theorem dX0_findSteps_26 : decode cX0_findSteps 26 = .ok (.if_icmp .gt 141, 3) := dk_163 0 141 (dk_at dksX0_findSteps_1 2 rfl rfl)
theorem dX0_findSteps_29 : decode cX0_findSteps 29 = .ok (.iconst 0, 1) := dk_3 (dk_at dksX0_findSteps_1 5 rfl rfl)
theorem dX0_findSteps_30 : decode cX0_findSteps 30 = .ok (.istore_n 3, 1) := dk_62 (dk_at dksX0_findSteps_1 6 rfl rfl)
theorem dX0_findSteps_31 : decode cX0_findSteps 31 = .ok (.iload_n 3, 1) := dk_29 (dk_at dksX0_findSteps_1 7 rfl rfl)
theorem dX0_findSteps_32 : decode cX0_findSteps 32 = .ok (.aload_n 0, 1) := dk_42 (dk_at dksX0_findSteps_1 8 rfl rfl)
theorem dX0_findSteps_33 : decode cX0_findSteps 33 = .ok (.getfield 40, 3) := dk_180 0 40 (dk_at dksX0_findSteps_1 9 rfl rfl)
theorem dX0_findSteps_36 : decode cX0_findSteps 36 = .ok (.invokevirtual 72, 3) := dk_182 0 72 (dk_at dksX0_findSteps_1 12 rfl rfl)
theorem dX0_findSteps_39 : decode cX0_findSteps 39 = .ok (.if_icmp .ge 122, 3) := dk_162 0 122 (dk_at dksX0_findSteps_1 15 rfl rfl)
theorem dX0_findSteps_42 : decode cX0_findSteps 42 = .ok (.aload_n 0, 1) := dk_42 (dk_at dksX0_findSteps_1 18 rfl rfl)
theorem dX0_findSteps_43 : decode cX0_findSteps 43 = .ok (.getfield 57, 3) := dk_180 0 57 (dk_at dksX0_findSteps_1 19 rfl rfl)
theorem dX0_findSteps_46 : decode cX0_findSteps 46 = .ok (.iload_n 3, 1) := dk_29 (dk_at dksX0_findSteps_1 22 rfl rfl)
theorem dX0_findSteps_47 : decode cX0_findSteps 47 = .ok (.iaload, 1) := dk_46 (dk_at dksX0_findSteps_1 23 rfl rfl)
theorem dX0_findSteps_48 : decode cX0_findSteps 48 = .ok (.iconst (-1), 1) := dk_2 (dk_at dksX0_findSteps_2 0 rfl rfl)
theorem dX0_findSteps_49 : decode cX0_findSteps 49 = .ok (.if_icmp .eq 6, 3) := dk_159 0 6 (dk_at dksX0_findSteps_2 1 rfl rfl)
theorem dX0_findSteps_52 : decode cX0_findSteps 52 = .ok (.goto 103, 3) := dk_167 0 103 (dk_at dksX0_findSteps_2 4 rfl rfl)
theorem dX0_findSteps_55 : decode cX0_findSteps 55 = .ok (.iload_n 2, 1) := dk_28 (dk_at dksX0_findSteps_2 7 rfl rfl)
theorem dX0_findSteps_56 : decode cX0_findSteps 56 = .ok (.iconst 1, 1) := dk_4 (dk_at dksX0_findSteps_2 8 rfl rfl)
theorem dX0_findSteps_57 : decode cX0_findSteps 57 = .ok (.if_icmp .ne 16, 3) := dk_160 0 16 (dk_at dksX0_findSteps_2 9 rfl rfl)
theorem dX0_findSteps_60 : decode cX0_findSteps 60 = .ok (.aload_n 0, 1) := dk_42 (dk_at dksX0_findSteps_2 12 rfl rfl)
theorem dX0_findSteps_61 : decode cX0_findSteps 61 = .ok (.iload_n 3, 1) := dk_29 (dk_at dksX0_findSteps_2 13 rfl rfl)
theorem dX0_findSteps_62 : decode cX0_findSteps 62 = .ok (.iload_n 1, 1) := dk_27 (dk_at dksX0_findSteps_2 14 rfl rfl)
theorem dX0_findSteps_63 : decode cX0_findSteps 63 = .ok (.invokevirtual 253, 3) := dk_182 0 253 (dk_at dksX0_findSteps_2 15 rfl rfl)
theorem dX0_findSteps_66 : decode cX0_findSteps 66 = .ok (.ifCond .eq 7, 3) := dk_153 0 7 (dk_at dksX0_findSteps_2 18 rfl rfl)
theorem dX0_findSteps_69 : decode cX0_findSteps 69 = .ok (.iconst 1, 1) := dk_4 (dk_at dksX0_findSteps_2 21 rfl rfl)
theorem dX0_findSteps_70 : decode cX0_findSteps 70 = .ok (.goto 4, 3) := dk_167 0 4 (dk_at dksX0_findSteps_3 0 rfl rfl)
theorem dX0_findSteps_73 : decode cX0_findSteps 73 = .ok (.iconst 0, 1) := dk_3 (dk_at dksX0_findSteps_3 3 rfl rfl)
theorem dX0_findSteps_74 : decode cX0_findSteps 74 = .ok (.istore 4, 2) := dk_54 4 (dk_at dksX0_findSteps_3 4 rfl rfl)
theorem dX0_findSteps_76 : decode cX0_findSteps 76 = .ok (.iconst 0, 1) := dk_3 (dk_at dksX0_findSteps_3 6 rfl rfl)
theorem dX0_findSteps_77 : decode cX0_findSteps 77 = .ok (.istore 5, 2) := dk_54 5 (dk_at dksX0_findSteps_3 7 rfl rfl)
theorem dX0_findSteps_79 : decode cX0_findSteps 79 = .ok (.iload 5, 2) := dk_21 5 (dk_at dksX0_findSteps_3 9 rfl rfl)
theorem dX0_findSteps_81 : decode cX0_findSteps 81 = .ok (.aload_n 0, 1) := dk_42 (dk_at dksX0_findSteps_3 11 rfl rfl)
theorem dX0_findSteps_82 : decode cX0_findSteps 82 = .ok (.getfield 40, 3) := dk_180 0 40 (dk_at dksX0_findSteps_3 12 rfl rfl)
theorem dX0_findSteps_85 : decode cX0_findSteps 85 = .ok (.invokevirtual 72, 3) := dk_182 0 72 (dk_at dksX0_findSteps_3 15 rfl rfl)
theorem dX0_findSteps_88 : decode cX0_findSteps 88 = .ok (.if_icmp .ge 55, 3) := dk_162 0 55 (dk_at dksX0_findSteps_3 18 rfl rfl)
theorem dX0_findSteps_91 : decode cX0_findSteps 91 = .ok (.iload_n 2, 1) := dk_28 (dk_at dksX0_findSteps_3 21 rfl rfl)
theorem dX0_findSteps_92 : decode cX0_findSteps 92 = .ok (.iconst 1, 1) := dk_4 (dk_at dksX0_findSteps_3 22 rfl rfl)
theorem dX0_findSteps_93 : decode cX0_findSteps 93 = .ok (.if_icmp .le 50, 3) := dk_164 0 50 (dk_at dksX0_findSteps_4 0 rfl rfl)
theorem dX0_findSteps_96 : decode cX0_findSteps 96 = .ok (.iload 4, 2) := dk_21 4 (dk_at dksX0_findSteps_4 3 rfl rfl)
theorem dX0_findSteps_98 : decode cX0_findSteps 98 = .ok (.ifCond .ne 45, 3) := dk_154 0 45 (dk_at dksX0_findSteps_4 5 rfl rfl)
theorem dX0_findSteps_101 : decode cX0_findSteps 101 = .ok (.iload 5, 2) := dk_21 5 (dk_at dksX0_findSteps_4 8 rfl rfl)
theorem dX0_findSteps_103 : decode cX0_findSteps 103 = .ok (.iload_n 1, 1) := dk_27 (dk_at dksX0_findSteps_4 10 rfl rfl)
theorem dX0_findSteps_104 : decode cX0_findSteps 104 = .ok (.if_icmp .eq 30, 3) := dk_159 0 30 (dk_at dksX0_findSteps_4 11 rfl rfl)
theorem dX0_findSteps_107 : decode cX0_findSteps 107 = .ok (.aload_n 0, 1) := dk_42 (dk_at dksX0_findSteps_4 14 rfl rfl)
theorem dX0_findSteps_108 : decode cX0_findSteps 108 = .ok (.getfield 57, 3) := dk_180 0 57 (dk_at dksX0_findSteps_4 15 rfl rfl)
theorem dX0_findSteps_111 : decode cX0_findSteps 111 = .ok (.iload 5, 2) := dk_21 5 (dk_at dksX0_findSteps_4 18 rfl rfl)
theorem dX0_findSteps_113 : decode cX0_findSteps 113 = .ok (.iaload, 1) := dk_46 (dk_at dksX0_findSteps_4 20 rfl rfl)
theorem dX0_findSteps_114 : decode cX0_findSteps 114 = .ok (.iload_n 2, 1) := dk_28 (dk_at dksX0_findSteps_4 21 rfl rfl)
theorem dX0_findSteps_115 : decode cX0_findSteps 115 = .ok (.iconst 1, 1) := dk_4 (dk_at dksX0_findSteps_4 22 rfl rfl)
theorem dX0_findSteps_116 : decode cX0_findSteps 116 = .ok (.isub, 1) := dk_100 (dk_at dksX0_findSteps_4 23 rfl rfl)
theorem dX0_findSteps_117 : decode cX0_findSteps 117 = .ok (.if_icmp .ne 17, 3) := dk_160 0 17 (dk_at dksX0_findSteps_5 0 rfl rfl)
theorem dX0_findSteps_120 : decode cX0_findSteps 120 = .ok (.aload_n 0, 1) := dk_42 (dk_at dksX0_findSteps_5 3 rfl rfl)
theorem dX0_findSteps_121 : decode cX0_findSteps 121 = .ok (.iload_n 3, 1) := dk_29 (dk_at dksX0_findSteps_5 4 rfl rfl)
theorem dX0_findSteps_122 : decode cX0_findSteps 122 = .ok (.iload 5, 2) := dk_21 5 (dk_at dksX0_findSteps_5 5 rfl rfl)
theorem dX0_findSteps_124 : decode cX0_findSteps 124 = .ok (.invokevirtual 253, 3) := dk_182 0 253 (dk_at dksX0_findSteps_5 7 rfl rfl)
theorem dX0_findSteps_127 : decode cX0_findSteps 127 = .ok (.ifCond .eq 7, 3) := dk_153 0 7 (dk_at dksX0_findSteps_5 10 rfl rfl)
theorem dX0_findSteps_130 : decode cX0_findSteps 130 = .ok (.iconst 1, 1) := dk_4 (dk_at dksX0_findSteps_5 13 rfl rfl)
theorem dX0_findSteps_131 : decode cX0_findSteps 131 = .ok (.goto 4, 3) := dk_167 0 4 (dk_at dksX0_findSteps_5 14 rfl rfl)
theorem dX0_findSteps_134 : decode cX0_findSteps 134 = .ok (.iconst 0, 1) := dk_3 (dk_at dksX0_findSteps_5 17 rfl rfl)
theorem dX0_findSteps_135 : decode cX0_findSteps 135 = .ok (.istore 4, 2) := dk_54 4 (dk_at dksX0_findSteps_5 18 rfl rfl)
theorem dX0_findSteps_137 : decode cX0_findSteps 137 = .ok (.iinc 5 1, 3) := dk_132 5 1 (dk_at dksX0_findSteps_5 20 rfl rfl)
theorem dX0_findSteps_140 : decode cX0_findSteps 140 = .ok (.goto (-61), 3) := dk_167 255 195 (dk_at dksX0_findSteps_6 0 rfl rfl)
theorem dX0_findSteps_143 : decode cX0_findSteps 143 = .ok (.iload 4, 2) := dk_21 4 (dk_at dksX0_findSteps_6 3 rfl rfl)
theorem dX0_findSteps_145 : decode cX0_findSteps 145 = .ok (.ifCond .eq 10, 3) := dk_153 0 10 (dk_at dksX0_findSteps_6 5 rfl rfl)
theorem dX0_findSteps_148 : decode cX0_findSteps 148 = .ok (.aload_n 0, 1) := dk_42 (dk_at dksX0_findSteps_6 8 rfl rfl)
theorem dX0_findSteps_149 : decode cX0_findSteps 149 = .ok (.getfield 57, 3) := dk_180 0 57 (dk_at dksX0_findSteps_6 9 rfl rfl)
theorem dX0_findSteps_152 : decode cX0_findSteps 152 = .ok (.iload_n 3, 1) := dk_29 (dk_at dksX0_findSteps_6 12 rfl rfl)
theorem dX0_findSteps_153 : decode cX0_findSteps 153 = .ok (.iload_n 2, 1) := dk_28 (dk_at dksX0_findSteps_6 13 rfl rfl)
theorem dX0_findSteps_154 : decode cX0_findSteps 154 = .ok (.iastore, 1) := dk_79 (dk_at dksX0_findSteps_6 14 rfl rfl)
theorem dX0_findSteps_155 : decode cX0_findSteps 155 = .ok (.iinc 3 1, 3) := dk_132 3 1 (dk_at dksX0_findSteps_6 15 rfl rfl)
theorem dX0_findSteps_158 : decode cX0_findSteps 158 = .ok (.goto (-127), 3) := dk_167 255 129 (dk_at dksX0_findSteps_6 18 rfl rfl)
theorem dX0_findSteps_161 : decode cX0_findSteps 161 = .ok (.iinc 2 1, 3) := dk_132 2 1 (dk_at dksX0_findSteps_6 21 rfl rfl)
theorem dX0_findSteps_164 : decode cX0_findSteps 164 = .ok (.goto (-141), 3) := dk_167 255 115 (dk_at dksX0_findSteps_7 0 rfl rfl)
theorem dX0_findSteps_167 : decode cX0_findSteps 167 = .ok (.return_, 1) := dk_177 (dk_at dksX0_findSteps_7 3 rfl rfl)
abbrev cX0_isAbove : ByteArray := prog_1_method_25_code
def yX0_isAbove : MethodName := ⟨RX0, "isAbove", "(II)Z"⟩
def dkwX0_isAbove_0 : List UInt8 := [42, 180, 0, 53, 27, 46, 28, 122, 4, 126, 4, 160, 0, 7, 4, 167, 0, 4, 3, 172]
abbrev dktX0_isAbove_0 : List UInt8 := dkwX0_isAbove_0 ++ []
theorem dksX0_isAbove_0 : cX0_isAbove.data.toList.drop 0 = dktX0_isAbove_0 := by decide +kernel
theorem dX0_isAbove_0 : decode cX0_isAbove 0 = .ok (.aload_n 0, 1) := dk_42 (dk_at dksX0_isAbove_0 0 rfl rfl)
theorem dX0_isAbove_1 : decode cX0_isAbove 1 = .ok (.getfield 53, 3) := dk_180 0 53 (dk_at dksX0_isAbove_0 1 rfl rfl)
theorem dX0_isAbove_4 : decode cX0_isAbove 4 = .ok (.iload_n 1, 1) := dk_27 (dk_at dksX0_isAbove_0 4 rfl rfl)
theorem dX0_isAbove_5 : decode cX0_isAbove 5 = .ok (.iaload, 1) := dk_46 (dk_at dksX0_isAbove_0 5 rfl rfl)
theorem dX0_isAbove_6 : decode cX0_isAbove 6 = .ok (.iload_n 2, 1) := dk_28 (dk_at dksX0_isAbove_0 6 rfl rfl)
theorem dX0_isAbove_7 : decode cX0_isAbove 7 = .ok (.ishr, 1) := dk_122 (dk_at dksX0_isAbove_0 7 rfl rfl)
theorem dX0_isAbove_8 : decode cX0_isAbove 8 = .ok (.iconst 1, 1) := dk_4 (dk_at dksX0_isAbove_0 8 rfl rfl)
theorem dX0_isAbove_9 : decode cX0_isAbove 9 = .ok (.iand, 1) := dk_126 (dk_at dksX0_isAbove_0 9 rfl rfl)
theorem dX0_isAbove_10 : decode cX0_isAbove 10 = .ok (.iconst 1, 1) := dk_4 (dk_at dksX0_isAbove_0 10 rfl rfl)
theorem dX0_isAbove_11 : decode cX0_isAbove 11 = .ok (.if_icmp .ne 7, 3) := dk_160 0 7 (dk_at dksX0_isAbove_0 11 rfl rfl)
theorem dX0_isAbove_14 : decode cX0_isAbove 14 = .ok (.iconst 1, 1) := dk_4 (dk_at dksX0_isAbove_0 14 rfl rfl)
theorem dX0_isAbove_15 : decode cX0_isAbove 15 = .ok (.goto 4, 3) := dk_167 0 4 (dk_at dksX0_isAbove_0 15 rfl rfl)
theorem dX0_isAbove_18 : decode cX0_isAbove 18 = .ok (.iconst 0, 1) := dk_3 (dk_at dksX0_isAbove_0 18 rfl rfl)
theorem dX0_isAbove_19 : decode cX0_isAbove 19 = .ok (.ireturn, 1) := dk_172 (dk_at dksX0_isAbove_0 19 rfl rfl)
abbrev cX0_quarrels : ByteArray := prog_1_method_38_code
def yX0_quarrels : MethodName := ⟨RX0, "quarrels", "(I)I"⟩
def dkwX0_quarrels_3 : List UInt8 := [132, 4, 1, 167, 255, 219, 132, 3, 1, 167, 255, 199, 28, 172]
abbrev dktX0_quarrels_3 : List UInt8 := dkwX0_quarrels_3 ++ []
def dkwX0_quarrels_2 : List UInt8 := [182, 0, 253, 153, 0, 17, 42, 21, 4, 29, 182, 0, 253, 153, 0, 7, 4, 167, 0, 4, 3, 96, 61]
abbrev dktX0_quarrels_2 : List UInt8 := dkwX0_quarrels_2 ++ dktX0_quarrels_3
def dkwX0_quarrels_1 : List UInt8 := [180, 0, 40, 182, 0, 72, 162, 0, 52, 3, 54, 4, 21, 4, 29, 162, 0, 37, 28, 42, 29, 21, 4]
abbrev dktX0_quarrels_1 : List UInt8 := dkwX0_quarrels_1 ++ dktX0_quarrels_2
def dkwX0_quarrels_0 : List UInt8 := [42, 27, 182, 0, 180, 199, 0, 5, 2, 172, 42, 27, 3, 182, 1, 3, 3, 61, 3, 62, 29, 42]
abbrev dktX0_quarrels_0 : List UInt8 := dkwX0_quarrels_0 ++ dktX0_quarrels_1
theorem dksX0_quarrels_0 : cX0_quarrels.data.toList.drop 0 = dktX0_quarrels_0 := by decide +kernel
theorem dksX0_quarrels_1 : cX0_quarrels.data.toList.drop 22 = dktX0_quarrels_1 := dk_seg dksX0_quarrels_0 22 rfl rfl
theorem dksX0_quarrels_2 : cX0_quarrels.data.toList.drop 45 = dktX0_quarrels_2 := dk_seg dksX0_quarrels_1 23 rfl rfl
theorem dksX0_quarrels_3 : cX0_quarrels.data.toList.drop 68 = dktX0_quarrels_3 := dk_seg dksX0_quarrels_2 23 rfl rfl
theorem dX0_quarrels_0 : decode cX0_quarrels 0 = .ok (.aload_n 0, 1) := dk_42 (dk_at dksX0_quarrels_0 0 rfl rfl)
theorem dX0_quarrels_1 : decode cX0_quarrels 1 = .ok (.iload_n 1, 1) := dk_27 (dk_at dksX0_quarrels_0 1 rfl rfl)
theorem dX0_quarrels_2 : decode cX0_quarrels 2 = .ok (.invokevirtual 180, 3) := dk_182 0 180 (dk_at dksX0_quarrels_0 2 rfl rfl)
theorem dX0_quarrels_5 : decode cX0_quarrels 5 = .ok (.ifnonnull 5, 3) := dk_199 0 5 (dk_at dksX0_quarrels_0 5 rfl rfl)
theorem dX0_quarrels_8 : decode cX0_quarrels 8 = .ok (.iconst (-1), 1) := dk_2 (dk_at dksX0_quarrels_0 8 rfl rfl)
theorem dX0_quarrels_9 : decode cX0_quarrels 9 = .ok (.ireturn, 1) := dk_172 (dk_at dksX0_quarrels_0 9 rfl rfl)
theorem dX0_quarrels_10 : decode cX0_quarrels 10 = .ok (.aload_n 0, 1) := dk_42 (dk_at dksX0_quarrels_0 10 rfl rfl)
theorem dX0_quarrels_11 : decode cX0_quarrels 11 = .ok (.iload_n 1, 1) := dk_27 (dk_at dksX0_quarrels_0 11 rfl rfl)
theorem dX0_quarrels_12 : decode cX0_quarrels 12 = .ok (.iconst 0, 1) := dk_3 (dk_at dksX0_quarrels_0 12 rfl rfl)
theorem dX0_quarrels_13 : decode cX0_quarrels 13 = .ok (.invokevirtual 259, 3) := dk_182 1 3 (dk_at dksX0_quarrels_0 13 rfl rfl)
theorem dX0_quarrels_16 : decode cX0_quarrels 16 = .ok (.iconst 0, 1) := dk_3 (dk_at dksX0_quarrels_0 16 rfl rfl)
theorem dX0_quarrels_17 : decode cX0_quarrels 17 = .ok (.istore_n 2, 1) := dk_61 (dk_at dksX0_quarrels_0 17 rfl rfl)
theorem dX0_quarrels_18 : decode cX0_quarrels 18 = .ok (.iconst 0, 1) := dk_3 (dk_at dksX0_quarrels_0 18 rfl rfl)
theorem dX0_quarrels_19 : decode cX0_quarrels 19 = .ok (.istore_n 3, 1) := dk_62 (dk_at dksX0_quarrels_0 19 rfl rfl)
theorem dX0_quarrels_20 : decode cX0_quarrels 20 = .ok (.iload_n 3, 1) := dk_29 (dk_at dksX0_quarrels_0 20 rfl rfl)
theorem dX0_quarrels_21 : decode cX0_quarrels 21 = .ok (.aload_n 0, 1) := dk_42 (dk_at dksX0_quarrels_0 21 rfl rfl)
theorem dX0_quarrels_22 : decode cX0_quarrels 22 = .ok (.getfield 40, 3) := dk_180 0 40 (dk_at dksX0_quarrels_1 0 rfl rfl)
theorem dX0_quarrels_25 : decode cX0_quarrels 25 = .ok (.invokevirtual 72, 3) := dk_182 0 72 (dk_at dksX0_quarrels_1 3 rfl rfl)
theorem dX0_quarrels_28 : decode cX0_quarrels 28 = .ok (.if_icmp .ge 52, 3) := dk_162 0 52 (dk_at dksX0_quarrels_1 6 rfl rfl)
theorem dX0_quarrels_31 : decode cX0_quarrels 31 = .ok (.iconst 0, 1) := dk_3 (dk_at dksX0_quarrels_1 9 rfl rfl)
theorem dX0_quarrels_32 : decode cX0_quarrels 32 = .ok (.istore 4, 2) := dk_54 4 (dk_at dksX0_quarrels_1 10 rfl rfl)
theorem dX0_quarrels_34 : decode cX0_quarrels 34 = .ok (.iload 4, 2) := dk_21 4 (dk_at dksX0_quarrels_1 12 rfl rfl)
theorem dX0_quarrels_36 : decode cX0_quarrels 36 = .ok (.iload_n 3, 1) := dk_29 (dk_at dksX0_quarrels_1 14 rfl rfl)
theorem dX0_quarrels_37 : decode cX0_quarrels 37 = .ok (.if_icmp .ge 37, 3) := dk_162 0 37 (dk_at dksX0_quarrels_1 15 rfl rfl)
theorem dX0_quarrels_40 : decode cX0_quarrels 40 = .ok (.iload_n 2, 1) := dk_28 (dk_at dksX0_quarrels_1 18 rfl rfl)
theorem dX0_quarrels_41 : decode cX0_quarrels 41 = .ok (.aload_n 0, 1) := dk_42 (dk_at dksX0_quarrels_1 19 rfl rfl)
theorem dX0_quarrels_42 : decode cX0_quarrels 42 = .ok (.iload_n 3, 1) := dk_29 (dk_at dksX0_quarrels_1 20 rfl rfl)
theorem dX0_quarrels_43 : decode cX0_quarrels 43 = .ok (.iload 4, 2) := dk_21 4 (dk_at dksX0_quarrels_1 21 rfl rfl)
theorem dX0_quarrels_45 : decode cX0_quarrels 45 = .ok (.invokevirtual 253, 3) := dk_182 0 253 (dk_at dksX0_quarrels_2 0 rfl rfl)
theorem dX0_quarrels_48 : decode cX0_quarrels 48 = .ok (.ifCond .eq 17, 3) := dk_153 0 17 (dk_at dksX0_quarrels_2 3 rfl rfl)
theorem dX0_quarrels_51 : decode cX0_quarrels 51 = .ok (.aload_n 0, 1) := dk_42 (dk_at dksX0_quarrels_2 6 rfl rfl)
theorem dX0_quarrels_52 : decode cX0_quarrels 52 = .ok (.iload 4, 2) := dk_21 4 (dk_at dksX0_quarrels_2 7 rfl rfl)
theorem dX0_quarrels_54 : decode cX0_quarrels 54 = .ok (.iload_n 3, 1) := dk_29 (dk_at dksX0_quarrels_2 9 rfl rfl)
theorem dX0_quarrels_55 : decode cX0_quarrels 55 = .ok (.invokevirtual 253, 3) := dk_182 0 253 (dk_at dksX0_quarrels_2 10 rfl rfl)
theorem dX0_quarrels_58 : decode cX0_quarrels 58 = .ok (.ifCond .eq 7, 3) := dk_153 0 7 (dk_at dksX0_quarrels_2 13 rfl rfl)
theorem dX0_quarrels_61 : decode cX0_quarrels 61 = .ok (.iconst 1, 1) := dk_4 (dk_at dksX0_quarrels_2 16 rfl rfl)
theorem dX0_quarrels_62 : decode cX0_quarrels 62 = .ok (.goto 4, 3) := dk_167 0 4 (dk_at dksX0_quarrels_2 17 rfl rfl)
theorem dX0_quarrels_65 : decode cX0_quarrels 65 = .ok (.iconst 0, 1) := dk_3 (dk_at dksX0_quarrels_2 20 rfl rfl)
theorem dX0_quarrels_66 : decode cX0_quarrels 66 = .ok (.iadd, 1) := dk_96 (dk_at dksX0_quarrels_2 21 rfl rfl)
theorem dX0_quarrels_67 : decode cX0_quarrels 67 = .ok (.istore_n 2, 1) := dk_61 (dk_at dksX0_quarrels_2 22 rfl rfl)
theorem dX0_quarrels_68 : decode cX0_quarrels 68 = .ok (.iinc 4 1, 3) := dk_132 4 1 (dk_at dksX0_quarrels_3 0 rfl rfl)
theorem dX0_quarrels_71 : decode cX0_quarrels 71 = .ok (.goto (-37), 3) := dk_167 255 219 (dk_at dksX0_quarrels_3 3 rfl rfl)
theorem dX0_quarrels_74 : decode cX0_quarrels 74 = .ok (.iinc 3 1, 3) := dk_132 3 1 (dk_at dksX0_quarrels_3 6 rfl rfl)
theorem dX0_quarrels_77 : decode cX0_quarrels 77 = .ok (.goto (-57), 3) := dk_167 255 199 (dk_at dksX0_quarrels_3 9 rfl rfl)
theorem dX0_quarrels_80 : decode cX0_quarrels 80 = .ok (.iload_n 2, 1) := dk_28 (dk_at dksX0_quarrels_3 12 rfl rfl)
theorem dX0_quarrels_81 : decode cX0_quarrels 81 = .ok (.ireturn, 1) := dk_172 (dk_at dksX0_quarrels_3 13 rfl rfl)
abbrev cX0_toRest : ByteArray := prog_1_method_41_code
def yX0_toRest : MethodName := ⟨RX0, "toRest", "(II)I"⟩
def dkwX0_toRest_5 : List UInt8 := [132, 4, 1, 167, 255, 161, 28, 154, 0, 7, 29, 167, 0, 8, 42, 29, 182, 1, 10, 172]
abbrev dktX0_toRest_5 : List UInt8 := dkwX0_toRest_5 ++ []
def dkwX0_toRest_4 : List UInt8 := [161, 0, 6, 167, 0, 20, 42, 27, 21, 4, 182, 1, 3, 42, 182, 1, 19, 154, 0, 6, 21, 4, 62]
abbrev dktX0_toRest_4 : List UInt8 := dkwX0_toRest_4 ++ dktX0_toRest_5
def dkwX0_toRest_3 : List UInt8 := [163, 0, 45, 21, 5, 42, 29, 182, 1, 10, 160, 0, 18, 21, 4, 184, 1, 14, 29, 184, 1, 14]
abbrev dktX0_toRest_3 : List UInt8 := dkwX0_toRest_3 ++ dktX0_toRest_4
def dkwX0_toRest_2 : List UInt8 := [167, 0, 68, 42, 21, 4, 182, 1, 10, 54, 5, 29, 2, 159, 0, 38, 21, 5, 42, 29, 182, 1, 10]
abbrev dktX0_toRest_2 : List UInt8 := dkwX0_toRest_2 ++ dktX0_toRest_3
def dkwX0_toRest_1 : List UInt8 := [21, 4, 4, 42, 180, 0, 47, 182, 0, 72, 120, 162, 0, 87, 42, 21, 4, 27, 182, 1, 7, 154, 0, 6]
abbrev dktX0_toRest_1 : List UInt8 := dkwX0_toRest_1 ++ dktX0_toRest_2
def dkwX0_toRest_0 : List UInt8 := [42, 27, 182, 0, 180, 198, 0, 12, 28, 3, 4, 184, 0, 76, 154, 0, 5, 2, 172, 2, 62, 3, 54, 4]
abbrev dktX0_toRest_0 : List UInt8 := dkwX0_toRest_0 ++ dktX0_toRest_1
theorem dksX0_toRest_0 : cX0_toRest.data.toList.drop 0 = dktX0_toRest_0 := by decide +kernel
theorem dksX0_toRest_1 : cX0_toRest.data.toList.drop 24 = dktX0_toRest_1 := dk_seg dksX0_toRest_0 24 rfl rfl
theorem dksX0_toRest_2 : cX0_toRest.data.toList.drop 48 = dktX0_toRest_2 := dk_seg dksX0_toRest_1 24 rfl rfl
theorem dksX0_toRest_3 : cX0_toRest.data.toList.drop 71 = dktX0_toRest_3 := dk_seg dksX0_toRest_2 23 rfl rfl
theorem dksX0_toRest_4 : cX0_toRest.data.toList.drop 93 = dktX0_toRest_4 := dk_seg dksX0_toRest_3 22 rfl rfl
theorem dksX0_toRest_5 : cX0_toRest.data.toList.drop 116 = dktX0_toRest_5 := dk_seg dksX0_toRest_4 23 rfl rfl
theorem dX0_toRest_0 : decode cX0_toRest 0 = .ok (.aload_n 0, 1) := dk_42 (dk_at dksX0_toRest_0 0 rfl rfl)
theorem dX0_toRest_1 : decode cX0_toRest 1 = .ok (.iload_n 1, 1) := dk_27 (dk_at dksX0_toRest_0 1 rfl rfl)
theorem dX0_toRest_2 : decode cX0_toRest 2 = .ok (.invokevirtual 180, 3) := dk_182 0 180 (dk_at dksX0_toRest_0 2 rfl rfl)
theorem dX0_toRest_5 : decode cX0_toRest 5 = .ok (.ifnull 12, 3) := dk_198 0 12 (dk_at dksX0_toRest_0 5 rfl rfl)
theorem dX0_toRest_8 : decode cX0_toRest 8 = .ok (.iload_n 2, 1) := dk_28 (dk_at dksX0_toRest_0 8 rfl rfl)
theorem dX0_toRest_9 : decode cX0_toRest 9 = .ok (.iconst 0, 1) := dk_3 (dk_at dksX0_toRest_0 9 rfl rfl)
theorem dX0_toRest_10 : decode cX0_toRest 10 = .ok (.iconst 1, 1) := dk_4 (dk_at dksX0_toRest_0 10 rfl rfl)
theorem dX0_toRest_11 : decode cX0_toRest 11 = .ok (.invokestatic 76, 3) := dk_184 0 76 (dk_at dksX0_toRest_0 11 rfl rfl)
theorem dX0_toRest_14 : decode cX0_toRest 14 = .ok (.ifCond .ne 5, 3) := dk_154 0 5 (dk_at dksX0_toRest_0 14 rfl rfl)
theorem dX0_toRest_17 : decode cX0_toRest 17 = .ok (.iconst (-1), 1) := dk_2 (dk_at dksX0_toRest_0 17 rfl rfl)
theorem dX0_toRest_18 : decode cX0_toRest 18 = .ok (.ireturn, 1) := dk_172 (dk_at dksX0_toRest_0 18 rfl rfl)
theorem dX0_toRest_19 : decode cX0_toRest 19 = .ok (.iconst (-1), 1) := dk_2 (dk_at dksX0_toRest_0 19 rfl rfl)
theorem dX0_toRest_20 : decode cX0_toRest 20 = .ok (.istore_n 3, 1) := dk_62 (dk_at dksX0_toRest_0 20 rfl rfl)
theorem dX0_toRest_21 : decode cX0_toRest 21 = .ok (.iconst 0, 1) := dk_3 (dk_at dksX0_toRest_0 21 rfl rfl)
theorem dX0_toRest_22 : decode cX0_toRest 22 = .ok (.istore 4, 2) := dk_54 4 (dk_at dksX0_toRest_0 22 rfl rfl)
theorem dX0_toRest_24 : decode cX0_toRest 24 = .ok (.iload 4, 2) := dk_21 4 (dk_at dksX0_toRest_1 0 rfl rfl)
theorem dX0_toRest_26 : decode cX0_toRest 26 = .ok (.iconst 1, 1) := dk_4 (dk_at dksX0_toRest_1 2 rfl rfl)
theorem dX0_toRest_27 : decode cX0_toRest 27 = .ok (.aload_n 0, 1) := dk_42 (dk_at dksX0_toRest_1 3 rfl rfl)
theorem dX0_toRest_28 : decode cX0_toRest 28 = .ok (.getfield 47, 3) := dk_180 0 47 (dk_at dksX0_toRest_1 4 rfl rfl)
theorem dX0_toRest_31 : decode cX0_toRest 31 = .ok (.invokevirtual 72, 3) := dk_182 0 72 (dk_at dksX0_toRest_1 7 rfl rfl)
theorem dX0_toRest_34 : decode cX0_toRest 34 = .ok (.ishl, 1) := dk_120 (dk_at dksX0_toRest_1 10 rfl rfl)
theorem dX0_toRest_35 : decode cX0_toRest 35 = .ok (.if_icmp .ge 87, 3) := dk_162 0 87 (dk_at dksX0_toRest_1 11 rfl rfl)
theorem dX0_toRest_38 : decode cX0_toRest 38 = .ok (.aload_n 0, 1) := dk_42 (dk_at dksX0_toRest_1 14 rfl rfl)
theorem dX0_toRest_39 : decode cX0_toRest 39 = .ok (.iload 4, 2) := dk_21 4 (dk_at dksX0_toRest_1 15 rfl rfl)
theorem dX0_toRest_41 : decode cX0_toRest 41 = .ok (.iload_n 1, 1) := dk_27 (dk_at dksX0_toRest_1 17 rfl rfl)
theorem dX0_toRest_42 : decode cX0_toRest 42 = .ok (.invokevirtual 263, 3) := dk_182 1 7 (dk_at dksX0_toRest_1 18 rfl rfl)
theorem dX0_toRest_45 : decode cX0_toRest 45 = .ok (.ifCond .ne 6, 3) := dk_154 0 6 (dk_at dksX0_toRest_1 21 rfl rfl)
theorem dX0_toRest_48 : decode cX0_toRest 48 = .ok (.goto 68, 3) := dk_167 0 68 (dk_at dksX0_toRest_2 0 rfl rfl)
theorem dX0_toRest_51 : decode cX0_toRest 51 = .ok (.aload_n 0, 1) := dk_42 (dk_at dksX0_toRest_2 3 rfl rfl)
theorem dX0_toRest_52 : decode cX0_toRest 52 = .ok (.iload 4, 2) := dk_21 4 (dk_at dksX0_toRest_2 4 rfl rfl)
theorem dX0_toRest_54 : decode cX0_toRest 54 = .ok (.invokevirtual 266, 3) := dk_182 1 10 (dk_at dksX0_toRest_2 6 rfl rfl)
theorem dX0_toRest_57 : decode cX0_toRest 57 = .ok (.istore 5, 2) := dk_54 5 (dk_at dksX0_toRest_2 9 rfl rfl)
theorem dX0_toRest_59 : decode cX0_toRest 59 = .ok (.iload_n 3, 1) := dk_29 (dk_at dksX0_toRest_2 11 rfl rfl)
theorem dX0_toRest_60 : decode cX0_toRest 60 = .ok (.iconst (-1), 1) := dk_2 (dk_at dksX0_toRest_2 12 rfl rfl)
theorem dX0_toRest_61 : decode cX0_toRest 61 = .ok (.if_icmp .eq 38, 3) := dk_159 0 38 (dk_at dksX0_toRest_2 13 rfl rfl)
theorem dX0_toRest_64 : decode cX0_toRest 64 = .ok (.iload 5, 2) := dk_21 5 (dk_at dksX0_toRest_2 16 rfl rfl)
theorem dX0_toRest_66 : decode cX0_toRest 66 = .ok (.aload_n 0, 1) := dk_42 (dk_at dksX0_toRest_2 18 rfl rfl)
theorem dX0_toRest_67 : decode cX0_toRest 67 = .ok (.iload_n 3, 1) := dk_29 (dk_at dksX0_toRest_2 19 rfl rfl)
theorem dX0_toRest_68 : decode cX0_toRest 68 = .ok (.invokevirtual 266, 3) := dk_182 1 10 (dk_at dksX0_toRest_2 20 rfl rfl)
theorem dX0_toRest_71 : decode cX0_toRest 71 = .ok (.if_icmp .gt 45, 3) := dk_163 0 45 (dk_at dksX0_toRest_3 0 rfl rfl)
theorem dX0_toRest_74 : decode cX0_toRest 74 = .ok (.iload 5, 2) := dk_21 5 (dk_at dksX0_toRest_3 3 rfl rfl)
theorem dX0_toRest_76 : decode cX0_toRest 76 = .ok (.aload_n 0, 1) := dk_42 (dk_at dksX0_toRest_3 5 rfl rfl)
theorem dX0_toRest_77 : decode cX0_toRest 77 = .ok (.iload_n 3, 1) := dk_29 (dk_at dksX0_toRest_3 6 rfl rfl)
theorem dX0_toRest_78 : decode cX0_toRest 78 = .ok (.invokevirtual 266, 3) := dk_182 1 10 (dk_at dksX0_toRest_3 7 rfl rfl)
theorem dX0_toRest_81 : decode cX0_toRest 81 = .ok (.if_icmp .ne 18, 3) := dk_160 0 18 (dk_at dksX0_toRest_3 10 rfl rfl)
theorem dX0_toRest_84 : decode cX0_toRest 84 = .ok (.iload 4, 2) := dk_21 4 (dk_at dksX0_toRest_3 13 rfl rfl)
theorem dX0_toRest_86 : decode cX0_toRest 86 = .ok (.invokestatic 270, 3) := dk_184 1 14 (dk_at dksX0_toRest_3 15 rfl rfl)
theorem dX0_toRest_89 : decode cX0_toRest 89 = .ok (.iload_n 3, 1) := dk_29 (dk_at dksX0_toRest_3 18 rfl rfl)
theorem dX0_toRest_90 : decode cX0_toRest 90 = .ok (.invokestatic 270, 3) := dk_184 1 14 (dk_at dksX0_toRest_3 19 rfl rfl)
theorem dX0_toRest_93 : decode cX0_toRest 93 = .ok (.if_icmp .lt 6, 3) := dk_161 0 6 (dk_at dksX0_toRest_4 0 rfl rfl)
theorem dX0_toRest_96 : decode cX0_toRest 96 = .ok (.goto 20, 3) := dk_167 0 20 (dk_at dksX0_toRest_4 3 rfl rfl)
theorem dX0_toRest_99 : decode cX0_toRest 99 = .ok (.aload_n 0, 1) := dk_42 (dk_at dksX0_toRest_4 6 rfl rfl)
theorem dX0_toRest_100 : decode cX0_toRest 100 = .ok (.iload_n 1, 1) := dk_27 (dk_at dksX0_toRest_4 7 rfl rfl)
theorem dX0_toRest_101 : decode cX0_toRest 101 = .ok (.iload 4, 2) := dk_21 4 (dk_at dksX0_toRest_4 8 rfl rfl)
theorem dX0_toRest_103 : decode cX0_toRest 103 = .ok (.invokevirtual 259, 3) := dk_182 1 3 (dk_at dksX0_toRest_4 10 rfl rfl)
theorem dX0_toRest_106 : decode cX0_toRest 106 = .ok (.aload_n 0, 1) := dk_42 (dk_at dksX0_toRest_4 13 rfl rfl)
theorem dX0_toRest_107 : decode cX0_toRest 107 = .ok (.invokevirtual 275, 3) := dk_182 1 19 (dk_at dksX0_toRest_4 14 rfl rfl)
theorem dX0_toRest_110 : decode cX0_toRest 110 = .ok (.ifCond .ne 6, 3) := dk_154 0 6 (dk_at dksX0_toRest_4 17 rfl rfl)
theorem dX0_toRest_113 : decode cX0_toRest 113 = .ok (.iload 4, 2) := dk_21 4 (dk_at dksX0_toRest_4 20 rfl rfl)
theorem dX0_toRest_115 : decode cX0_toRest 115 = .ok (.istore_n 3, 1) := dk_62 (dk_at dksX0_toRest_4 22 rfl rfl)
theorem dX0_toRest_116 : decode cX0_toRest 116 = .ok (.iinc 4 1, 3) := dk_132 4 1 (dk_at dksX0_toRest_5 0 rfl rfl)
theorem dX0_toRest_119 : decode cX0_toRest 119 = .ok (.goto (-95), 3) := dk_167 255 161 (dk_at dksX0_toRest_5 3 rfl rfl)
theorem dX0_toRest_122 : decode cX0_toRest 122 = .ok (.iload_n 2, 1) := dk_28 (dk_at dksX0_toRest_5 6 rfl rfl)
theorem dX0_toRest_123 : decode cX0_toRest 123 = .ok (.ifCond .ne 7, 3) := dk_154 0 7 (dk_at dksX0_toRest_5 7 rfl rfl)
theorem dX0_toRest_126 : decode cX0_toRest 126 = .ok (.iload_n 3, 1) := dk_29 (dk_at dksX0_toRest_5 10 rfl rfl)
theorem dX0_toRest_127 : decode cX0_toRest 127 = .ok (.goto 8, 3) := dk_167 0 8 (dk_at dksX0_toRest_5 11 rfl rfl)
theorem dX0_toRest_130 : decode cX0_toRest 130 = .ok (.aload_n 0, 1) := dk_42 (dk_at dksX0_toRest_5 14 rfl rfl)
theorem dX0_toRest_131 : decode cX0_toRest 131 = .ok (.iload_n 3, 1) := dk_29 (dk_at dksX0_toRest_5 15 rfl rfl)
theorem dX0_toRest_132 : decode cX0_toRest 132 = .ok (.invokevirtual 266, 3) := dk_182 1 10 (dk_at dksX0_toRest_5 16 rfl rfl)
theorem dX0_toRest_135 : decode cX0_toRest 135 = .ok (.ireturn, 1) := dk_172 (dk_at dksX0_toRest_5 19 rfl rfl)
abbrev cX0_isAboveOnly : ByteArray := prog_1_method_40_code
def yX0_isAboveOnly : MethodName := ⟨RX0, "isAboveOnly", "(II)Z"⟩
def dkwX0_isAboveOnly_2 : List UInt8 := [192, 0, 86, 28, 182, 0, 203, 154, 0, 5, 3, 172, 132, 3, 1, 167, 255, 196, 4, 172]
abbrev dktX0_isAboveOnly_2 : List UInt8 := dkwX0_isAboveOnly_2 ++ []
def dkwX0_isAboveOnly_1 : List UInt8 := [180, 0, 47, 29, 182, 0, 80, 192, 0, 86, 182, 0, 145, 154, 0, 21, 42, 180, 0, 47, 29, 182, 0, 80]
abbrev dktX0_isAboveOnly_1 : List UInt8 := dkwX0_isAboveOnly_1 ++ dktX0_isAboveOnly_2
def dkwX0_isAboveOnly_0 : List UInt8 := [3, 62, 29, 42, 180, 0, 47, 182, 0, 72, 162, 0, 55, 27, 29, 122, 4, 126, 4, 160, 0, 40, 42]
abbrev dktX0_isAboveOnly_0 : List UInt8 := dkwX0_isAboveOnly_0 ++ dktX0_isAboveOnly_1
theorem dksX0_isAboveOnly_0 : cX0_isAboveOnly.data.toList.drop 0 = dktX0_isAboveOnly_0 := by decide +kernel
theorem dksX0_isAboveOnly_1 : cX0_isAboveOnly.data.toList.drop 23 = dktX0_isAboveOnly_1 := dk_seg dksX0_isAboveOnly_0 23 rfl rfl
theorem dksX0_isAboveOnly_2 : cX0_isAboveOnly.data.toList.drop 47 = dktX0_isAboveOnly_2 := dk_seg dksX0_isAboveOnly_1 24 rfl rfl
theorem dX0_isAboveOnly_0 : decode cX0_isAboveOnly 0 = .ok (.iconst 0, 1) := dk_3 (dk_at dksX0_isAboveOnly_0 0 rfl rfl)
theorem dX0_isAboveOnly_1 : decode cX0_isAboveOnly 1 = .ok (.istore_n 3, 1) := dk_62 (dk_at dksX0_isAboveOnly_0 1 rfl rfl)
theorem dX0_isAboveOnly_2 : decode cX0_isAboveOnly 2 = .ok (.iload_n 3, 1) := dk_29 (dk_at dksX0_isAboveOnly_0 2 rfl rfl)
theorem dX0_isAboveOnly_3 : decode cX0_isAboveOnly 3 = .ok (.aload_n 0, 1) := dk_42 (dk_at dksX0_isAboveOnly_0 3 rfl rfl)
theorem dX0_isAboveOnly_4 : decode cX0_isAboveOnly 4 = .ok (.getfield 47, 3) := dk_180 0 47 (dk_at dksX0_isAboveOnly_0 4 rfl rfl)
theorem dX0_isAboveOnly_7 : decode cX0_isAboveOnly 7 = .ok (.invokevirtual 72, 3) := dk_182 0 72 (dk_at dksX0_isAboveOnly_0 7 rfl rfl)
theorem dX0_isAboveOnly_10 : decode cX0_isAboveOnly 10 = .ok (.if_icmp .ge 55, 3) := dk_162 0 55 (dk_at dksX0_isAboveOnly_0 10 rfl rfl)
theorem dX0_isAboveOnly_13 : decode cX0_isAboveOnly 13 = .ok (.iload_n 1, 1) := dk_27 (dk_at dksX0_isAboveOnly_0 13 rfl rfl)
theorem dX0_isAboveOnly_14 : decode cX0_isAboveOnly 14 = .ok (.iload_n 3, 1) := dk_29 (dk_at dksX0_isAboveOnly_0 14 rfl rfl)
theorem dX0_isAboveOnly_15 : decode cX0_isAboveOnly 15 = .ok (.ishr, 1) := dk_122 (dk_at dksX0_isAboveOnly_0 15 rfl rfl)
theorem dX0_isAboveOnly_16 : decode cX0_isAboveOnly 16 = .ok (.iconst 1, 1) := dk_4 (dk_at dksX0_isAboveOnly_0 16 rfl rfl)
theorem dX0_isAboveOnly_17 : decode cX0_isAboveOnly 17 = .ok (.iand, 1) := dk_126 (dk_at dksX0_isAboveOnly_0 17 rfl rfl)
theorem dX0_isAboveOnly_18 : decode cX0_isAboveOnly 18 = .ok (.iconst 1, 1) := dk_4 (dk_at dksX0_isAboveOnly_0 18 rfl rfl)
theorem dX0_isAboveOnly_19 : decode cX0_isAboveOnly 19 = .ok (.if_icmp .ne 40, 3) := dk_160 0 40 (dk_at dksX0_isAboveOnly_0 19 rfl rfl)
theorem dX0_isAboveOnly_22 : decode cX0_isAboveOnly 22 = .ok (.aload_n 0, 1) := dk_42 (dk_at dksX0_isAboveOnly_0 22 rfl rfl)
theorem dX0_isAboveOnly_23 : decode cX0_isAboveOnly 23 = .ok (.getfield 47, 3) := dk_180 0 47 (dk_at dksX0_isAboveOnly_1 0 rfl rfl)
theorem dX0_isAboveOnly_26 : decode cX0_isAboveOnly 26 = .ok (.iload_n 3, 1) := dk_29 (dk_at dksX0_isAboveOnly_1 3 rfl rfl)
theorem dX0_isAboveOnly_27 : decode cX0_isAboveOnly 27 = .ok (.invokevirtual 80, 3) := dk_182 0 80 (dk_at dksX0_isAboveOnly_1 4 rfl rfl)
theorem dX0_isAboveOnly_30 : decode cX0_isAboveOnly 30 = .ok (.checkcast 86, 3) := dk_192 0 86 (dk_at dksX0_isAboveOnly_1 7 rfl rfl)
theorem dX0_isAboveOnly_33 : decode cX0_isAboveOnly 33 = .ok (.invokevirtual 145, 3) := dk_182 0 145 (dk_at dksX0_isAboveOnly_1 10 rfl rfl)
theorem dX0_isAboveOnly_36 : decode cX0_isAboveOnly 36 = .ok (.ifCond .ne 21, 3) := dk_154 0 21 (dk_at dksX0_isAboveOnly_1 13 rfl rfl)
theorem dX0_isAboveOnly_39 : decode cX0_isAboveOnly 39 = .ok (.aload_n 0, 1) := dk_42 (dk_at dksX0_isAboveOnly_1 16 rfl rfl)
theorem dX0_isAboveOnly_40 : decode cX0_isAboveOnly 40 = .ok (.getfield 47, 3) := dk_180 0 47 (dk_at dksX0_isAboveOnly_1 17 rfl rfl)
theorem dX0_isAboveOnly_43 : decode cX0_isAboveOnly 43 = .ok (.iload_n 3, 1) := dk_29 (dk_at dksX0_isAboveOnly_1 20 rfl rfl)
theorem dX0_isAboveOnly_44 : decode cX0_isAboveOnly 44 = .ok (.invokevirtual 80, 3) := dk_182 0 80 (dk_at dksX0_isAboveOnly_1 21 rfl rfl)
theorem dX0_isAboveOnly_47 : decode cX0_isAboveOnly 47 = .ok (.checkcast 86, 3) := dk_192 0 86 (dk_at dksX0_isAboveOnly_2 0 rfl rfl)
theorem dX0_isAboveOnly_50 : decode cX0_isAboveOnly 50 = .ok (.iload_n 2, 1) := dk_28 (dk_at dksX0_isAboveOnly_2 3 rfl rfl)
theorem dX0_isAboveOnly_51 : decode cX0_isAboveOnly 51 = .ok (.invokevirtual 203, 3) := dk_182 0 203 (dk_at dksX0_isAboveOnly_2 4 rfl rfl)
theorem dX0_isAboveOnly_54 : decode cX0_isAboveOnly 54 = .ok (.ifCond .ne 5, 3) := dk_154 0 5 (dk_at dksX0_isAboveOnly_2 7 rfl rfl)
theorem dX0_isAboveOnly_57 : decode cX0_isAboveOnly 57 = .ok (.iconst 0, 1) := dk_3 (dk_at dksX0_isAboveOnly_2 10 rfl rfl)
theorem dX0_isAboveOnly_58 : decode cX0_isAboveOnly 58 = .ok (.ireturn, 1) := dk_172 (dk_at dksX0_isAboveOnly_2 11 rfl rfl)
theorem dX0_isAboveOnly_59 : decode cX0_isAboveOnly 59 = .ok (.iinc 3 1, 3) := dk_132 3 1 (dk_at dksX0_isAboveOnly_2 12 rfl rfl)
theorem dX0_isAboveOnly_62 : decode cX0_isAboveOnly 62 = .ok (.goto (-60), 3) := dk_167 255 196 (dk_at dksX0_isAboveOnly_2 15 rfl rfl)
theorem dX0_isAboveOnly_65 : decode cX0_isAboveOnly 65 = .ok (.iconst 1, 1) := dk_4 (dk_at dksX0_isAboveOnly_2 18 rfl rfl)
theorem dX0_isAboveOnly_66 : decode cX0_isAboveOnly 66 = .ok (.ireturn, 1) := dk_172 (dk_at dksX0_isAboveOnly_2 19 rfl rfl)
abbrev cX0_weightOf : ByteArray := prog_1_method_39_code
def yX0_weightOf : MethodName := ⟨RX0, "weightOf", "(I)I"⟩
def dkwX0_weightOf_1 : List UInt8 := [180, 0, 47, 29, 182, 0, 80, 192, 0, 86, 180, 0, 160, 104, 96, 61, 132, 3, 1, 167, 255, 219, 28, 172]
abbrev dktX0_weightOf_1 : List UInt8 := dkwX0_weightOf_1 ++ []
def dkwX0_weightOf_0 : List UInt8 := [3, 61, 3, 62, 29, 42, 180, 0, 47, 182, 0, 72, 162, 0, 32, 28, 27, 29, 122, 4, 126, 42]
abbrev dktX0_weightOf_0 : List UInt8 := dkwX0_weightOf_0 ++ dktX0_weightOf_1
theorem dksX0_weightOf_0 : cX0_weightOf.data.toList.drop 0 = dktX0_weightOf_0 := by decide +kernel
theorem dksX0_weightOf_1 : cX0_weightOf.data.toList.drop 22 = dktX0_weightOf_1 := dk_seg dksX0_weightOf_0 22 rfl rfl
theorem dX0_weightOf_0 : decode cX0_weightOf 0 = .ok (.iconst 0, 1) := dk_3 (dk_at dksX0_weightOf_0 0 rfl rfl)
theorem dX0_weightOf_1 : decode cX0_weightOf 1 = .ok (.istore_n 2, 1) := dk_61 (dk_at dksX0_weightOf_0 1 rfl rfl)
theorem dX0_weightOf_2 : decode cX0_weightOf 2 = .ok (.iconst 0, 1) := dk_3 (dk_at dksX0_weightOf_0 2 rfl rfl)
theorem dX0_weightOf_3 : decode cX0_weightOf 3 = .ok (.istore_n 3, 1) := dk_62 (dk_at dksX0_weightOf_0 3 rfl rfl)
theorem dX0_weightOf_4 : decode cX0_weightOf 4 = .ok (.iload_n 3, 1) := dk_29 (dk_at dksX0_weightOf_0 4 rfl rfl)
theorem dX0_weightOf_5 : decode cX0_weightOf 5 = .ok (.aload_n 0, 1) := dk_42 (dk_at dksX0_weightOf_0 5 rfl rfl)
theorem dX0_weightOf_6 : decode cX0_weightOf 6 = .ok (.getfield 47, 3) := dk_180 0 47 (dk_at dksX0_weightOf_0 6 rfl rfl)
theorem dX0_weightOf_9 : decode cX0_weightOf 9 = .ok (.invokevirtual 72, 3) := dk_182 0 72 (dk_at dksX0_weightOf_0 9 rfl rfl)
theorem dX0_weightOf_12 : decode cX0_weightOf 12 = .ok (.if_icmp .ge 32, 3) := dk_162 0 32 (dk_at dksX0_weightOf_0 12 rfl rfl)
theorem dX0_weightOf_15 : decode cX0_weightOf 15 = .ok (.iload_n 2, 1) := dk_28 (dk_at dksX0_weightOf_0 15 rfl rfl)
theorem dX0_weightOf_16 : decode cX0_weightOf 16 = .ok (.iload_n 1, 1) := dk_27 (dk_at dksX0_weightOf_0 16 rfl rfl)
theorem dX0_weightOf_17 : decode cX0_weightOf 17 = .ok (.iload_n 3, 1) := dk_29 (dk_at dksX0_weightOf_0 17 rfl rfl)
theorem dX0_weightOf_18 : decode cX0_weightOf 18 = .ok (.ishr, 1) := dk_122 (dk_at dksX0_weightOf_0 18 rfl rfl)
theorem dX0_weightOf_19 : decode cX0_weightOf 19 = .ok (.iconst 1, 1) := dk_4 (dk_at dksX0_weightOf_0 19 rfl rfl)
theorem dX0_weightOf_20 : decode cX0_weightOf 20 = .ok (.iand, 1) := dk_126 (dk_at dksX0_weightOf_0 20 rfl rfl)
theorem dX0_weightOf_21 : decode cX0_weightOf 21 = .ok (.aload_n 0, 1) := dk_42 (dk_at dksX0_weightOf_0 21 rfl rfl)
theorem dX0_weightOf_22 : decode cX0_weightOf 22 = .ok (.getfield 47, 3) := dk_180 0 47 (dk_at dksX0_weightOf_1 0 rfl rfl)
theorem dX0_weightOf_25 : decode cX0_weightOf 25 = .ok (.iload_n 3, 1) := dk_29 (dk_at dksX0_weightOf_1 3 rfl rfl)
theorem dX0_weightOf_26 : decode cX0_weightOf 26 = .ok (.invokevirtual 80, 3) := dk_182 0 80 (dk_at dksX0_weightOf_1 4 rfl rfl)
theorem dX0_weightOf_29 : decode cX0_weightOf 29 = .ok (.checkcast 86, 3) := dk_192 0 86 (dk_at dksX0_weightOf_1 7 rfl rfl)
theorem dX0_weightOf_32 : decode cX0_weightOf 32 = .ok (.getfield 160, 3) := dk_180 0 160 (dk_at dksX0_weightOf_1 10 rfl rfl)
theorem dX0_weightOf_35 : decode cX0_weightOf 35 = .ok (.imul, 1) := dk_104 (dk_at dksX0_weightOf_1 13 rfl rfl)
theorem dX0_weightOf_36 : decode cX0_weightOf 36 = .ok (.iadd, 1) := dk_96 (dk_at dksX0_weightOf_1 14 rfl rfl)
theorem dX0_weightOf_37 : decode cX0_weightOf 37 = .ok (.istore_n 2, 1) := dk_61 (dk_at dksX0_weightOf_1 15 rfl rfl)
theorem dX0_weightOf_38 : decode cX0_weightOf 38 = .ok (.iinc 3 1, 3) := dk_132 3 1 (dk_at dksX0_weightOf_1 16 rfl rfl)
theorem dX0_weightOf_41 : decode cX0_weightOf 41 = .ok (.goto (-37), 3) := dk_167 255 219 (dk_at dksX0_weightOf_1 19 rfl rfl)
theorem dX0_weightOf_44 : decode cX0_weightOf 44 = .ok (.iload_n 2, 1) := dk_28 (dk_at dksX0_weightOf_1 22 rfl rfl)
theorem dX0_weightOf_45 : decode cX0_weightOf 45 = .ok (.ireturn, 1) := dk_172 (dk_at dksX0_weightOf_1 23 rfl rfl)
abbrev cX0_hasRing : ByteArray := prog_1_method_36_code
def yX0_hasRing : MethodName := ⟨RX0, "hasRing", "()Z"⟩
def dkwX0_hasRing_1 : List UInt8 := [2, 159, 0, 5, 4, 172, 132, 1, 1, 167, 255, 225, 3, 172]
abbrev dktX0_hasRing_1 : List UInt8 := dkwX0_hasRing_1 ++ []
def dkwX0_hasRing_0 : List UInt8 := [3, 60, 27, 42, 180, 0, 40, 182, 0, 72, 162, 0, 26, 42, 27, 182, 1, 0, 42, 180, 0, 57, 27, 46]
abbrev dktX0_hasRing_0 : List UInt8 := dkwX0_hasRing_0 ++ dktX0_hasRing_1
theorem dksX0_hasRing_0 : cX0_hasRing.data.toList.drop 0 = dktX0_hasRing_0 := by decide +kernel
theorem dksX0_hasRing_1 : cX0_hasRing.data.toList.drop 24 = dktX0_hasRing_1 := dk_seg dksX0_hasRing_0 24 rfl rfl
theorem dX0_hasRing_0 : decode cX0_hasRing 0 = .ok (.iconst 0, 1) := dk_3 (dk_at dksX0_hasRing_0 0 rfl rfl)
theorem dX0_hasRing_1 : decode cX0_hasRing 1 = .ok (.istore_n 1, 1) := dk_60 (dk_at dksX0_hasRing_0 1 rfl rfl)
theorem dX0_hasRing_2 : decode cX0_hasRing 2 = .ok (.iload_n 1, 1) := dk_27 (dk_at dksX0_hasRing_0 2 rfl rfl)
theorem dX0_hasRing_3 : decode cX0_hasRing 3 = .ok (.aload_n 0, 1) := dk_42 (dk_at dksX0_hasRing_0 3 rfl rfl)
theorem dX0_hasRing_4 : decode cX0_hasRing 4 = .ok (.getfield 40, 3) := dk_180 0 40 (dk_at dksX0_hasRing_0 4 rfl rfl)
theorem dX0_hasRing_7 : decode cX0_hasRing 7 = .ok (.invokevirtual 72, 3) := dk_182 0 72 (dk_at dksX0_hasRing_0 7 rfl rfl)
theorem dX0_hasRing_10 : decode cX0_hasRing 10 = .ok (.if_icmp .ge 26, 3) := dk_162 0 26 (dk_at dksX0_hasRing_0 10 rfl rfl)
theorem dX0_hasRing_13 : decode cX0_hasRing 13 = .ok (.aload_n 0, 1) := dk_42 (dk_at dksX0_hasRing_0 13 rfl rfl)
theorem dX0_hasRing_14 : decode cX0_hasRing 14 = .ok (.iload_n 1, 1) := dk_27 (dk_at dksX0_hasRing_0 14 rfl rfl)
theorem dX0_hasRing_15 : decode cX0_hasRing 15 = .ok (.invokevirtual 256, 3) := dk_182 1 0 (dk_at dksX0_hasRing_0 15 rfl rfl)
theorem dX0_hasRing_18 : decode cX0_hasRing 18 = .ok (.aload_n 0, 1) := dk_42 (dk_at dksX0_hasRing_0 18 rfl rfl)
theorem dX0_hasRing_19 : decode cX0_hasRing 19 = .ok (.getfield 57, 3) := dk_180 0 57 (dk_at dksX0_hasRing_0 19 rfl rfl)
theorem dX0_hasRing_22 : decode cX0_hasRing 22 = .ok (.iload_n 1, 1) := dk_27 (dk_at dksX0_hasRing_0 22 rfl rfl)
theorem dX0_hasRing_23 : decode cX0_hasRing 23 = .ok (.iaload, 1) := dk_46 (dk_at dksX0_hasRing_0 23 rfl rfl)
theorem dX0_hasRing_24 : decode cX0_hasRing 24 = .ok (.iconst (-1), 1) := dk_2 (dk_at dksX0_hasRing_1 0 rfl rfl)
theorem dX0_hasRing_25 : decode cX0_hasRing 25 = .ok (.if_icmp .eq 5, 3) := dk_159 0 5 (dk_at dksX0_hasRing_1 1 rfl rfl)
theorem dX0_hasRing_28 : decode cX0_hasRing 28 = .ok (.iconst 1, 1) := dk_4 (dk_at dksX0_hasRing_1 4 rfl rfl)
theorem dX0_hasRing_29 : decode cX0_hasRing 29 = .ok (.ireturn, 1) := dk_172 (dk_at dksX0_hasRing_1 5 rfl rfl)
theorem dX0_hasRing_30 : decode cX0_hasRing 30 = .ok (.iinc 1 1, 3) := dk_132 1 1 (dk_at dksX0_hasRing_1 6 rfl rfl)
theorem dX0_hasRing_33 : decode cX0_hasRing 33 = .ok (.goto (-31), 3) := dk_167 255 225 (dk_at dksX0_hasRing_1 9 rfl rfl)
theorem dX0_hasRing_36 : decode cX0_hasRing 36 = .ok (.iconst 0, 1) := dk_3 (dk_at dksX0_hasRing_1 12 rfl rfl)
theorem dX0_hasRing_37 : decode cX0_hasRing 37 = .ok (.ireturn, 1) := dk_172 (dk_at dksX0_hasRing_1 13 rfl rfl)
abbrev cX0_order : ByteArray := prog_1_method_42_code
def yX0_order : MethodName := ⟨RX0, "order", "(II)I"⟩
def dkwX0_order_4 : List UInt8 := [172, 45, 21, 5, 182, 1, 32, 87, 132, 4, 1, 167, 255, 198]
abbrev dktX0_order_4 : List UInt8 := dkwX0_order_4 ++ []
def dkwX0_order_3 : List UInt8 := [132, 5, 1, 167, 255, 233, 21, 4, 28, 160, 0, 16, 45, 21, 5, 182, 0, 80, 192, 0, 84, 180, 1, 27]
abbrev dktX0_order_3 : List UInt8 := dkwX0_order_3 ++ dktX0_order_4
def dkwX0_order_2 : List UInt8 := [54, 5, 42, 45, 45, 21, 5, 182, 0, 80, 192, 0, 84, 180, 1, 27, 182, 1, 28, 153, 0, 9]
abbrev dktX0_order_2 : List UInt8 := dkwX0_order_2 ++ dktX0_order_3
def dkwX0_order_1 : List UInt8 := [154, 0, 5, 2, 172, 42, 27, 3, 182, 1, 3, 42, 182, 1, 19, 153, 0, 5, 2, 172, 3, 54, 4, 3]
abbrev dktX0_order_1 : List UInt8 := dkwX0_order_1 ++ dktX0_order_2
def dkwX0_order_0 : List UInt8 := [42, 182, 1, 23, 78, 42, 27, 182, 0, 180, 198, 0, 17, 28, 3, 45, 182, 0, 72, 4, 100, 184, 0, 76]
abbrev dktX0_order_0 : List UInt8 := dkwX0_order_0 ++ dktX0_order_1
theorem dksX0_order_0 : cX0_order.data.toList.drop 0 = dktX0_order_0 := by decide +kernel
theorem dksX0_order_1 : cX0_order.data.toList.drop 24 = dktX0_order_1 := dk_seg dksX0_order_0 24 rfl rfl
theorem dksX0_order_2 : cX0_order.data.toList.drop 48 = dktX0_order_2 := dk_seg dksX0_order_1 24 rfl rfl
theorem dksX0_order_3 : cX0_order.data.toList.drop 70 = dktX0_order_3 := dk_seg dksX0_order_2 22 rfl rfl
theorem dksX0_order_4 : cX0_order.data.toList.drop 94 = dktX0_order_4 := dk_seg dksX0_order_3 24 rfl rfl
theorem dX0_order_0 : decode cX0_order 0 = .ok (.aload_n 0, 1) := dk_42 (dk_at dksX0_order_0 0 rfl rfl)
theorem dX0_order_1 : decode cX0_order 1 = .ok (.invokevirtual 279, 3) := dk_182 1 23 (dk_at dksX0_order_0 1 rfl rfl)
theorem dX0_order_4 : decode cX0_order 4 = .ok (.astore_n 3, 1) := dk_78 (dk_at dksX0_order_0 4 rfl rfl)
theorem dX0_order_5 : decode cX0_order 5 = .ok (.aload_n 0, 1) := dk_42 (dk_at dksX0_order_0 5 rfl rfl)
theorem dX0_order_6 : decode cX0_order 6 = .ok (.iload_n 1, 1) := dk_27 (dk_at dksX0_order_0 6 rfl rfl)
theorem dX0_order_7 : decode cX0_order 7 = .ok (.invokevirtual 180, 3) := dk_182 0 180 (dk_at dksX0_order_0 7 rfl rfl)
theorem dX0_order_10 : decode cX0_order 10 = .ok (.ifnull 17, 3) := dk_198 0 17 (dk_at dksX0_order_0 10 rfl rfl)
theorem dX0_order_13 : decode cX0_order 13 = .ok (.iload_n 2, 1) := dk_28 (dk_at dksX0_order_0 13 rfl rfl)
theorem dX0_order_14 : decode cX0_order 14 = .ok (.iconst 0, 1) := dk_3 (dk_at dksX0_order_0 14 rfl rfl)
theorem dX0_order_15 : decode cX0_order 15 = .ok (.aload_n 3, 1) := dk_45 (dk_at dksX0_order_0 15 rfl rfl)
theorem dX0_order_16 : decode cX0_order 16 = .ok (.invokevirtual 72, 3) := dk_182 0 72 (dk_at dksX0_order_0 16 rfl rfl)
theorem dX0_order_19 : decode cX0_order 19 = .ok (.iconst 1, 1) := dk_4 (dk_at dksX0_order_0 19 rfl rfl)
theorem dX0_order_20 : decode cX0_order 20 = .ok (.isub, 1) := dk_100 (dk_at dksX0_order_0 20 rfl rfl)
theorem dX0_order_21 : decode cX0_order 21 = .ok (.invokestatic 76, 3) := dk_184 0 76 (dk_at dksX0_order_0 21 rfl rfl)
theorem dX0_order_24 : decode cX0_order 24 = .ok (.ifCond .ne 5, 3) := dk_154 0 5 (dk_at dksX0_order_1 0 rfl rfl)
theorem dX0_order_27 : decode cX0_order 27 = .ok (.iconst (-1), 1) := dk_2 (dk_at dksX0_order_1 3 rfl rfl)
theorem dX0_order_28 : decode cX0_order 28 = .ok (.ireturn, 1) := dk_172 (dk_at dksX0_order_1 4 rfl rfl)
theorem dX0_order_29 : decode cX0_order 29 = .ok (.aload_n 0, 1) := dk_42 (dk_at dksX0_order_1 5 rfl rfl)
theorem dX0_order_30 : decode cX0_order 30 = .ok (.iload_n 1, 1) := dk_27 (dk_at dksX0_order_1 6 rfl rfl)
theorem dX0_order_31 : decode cX0_order 31 = .ok (.iconst 0, 1) := dk_3 (dk_at dksX0_order_1 7 rfl rfl)
theorem dX0_order_32 : decode cX0_order 32 = .ok (.invokevirtual 259, 3) := dk_182 1 3 (dk_at dksX0_order_1 8 rfl rfl)
theorem dX0_order_35 : decode cX0_order 35 = .ok (.aload_n 0, 1) := dk_42 (dk_at dksX0_order_1 11 rfl rfl)
theorem dX0_order_36 : decode cX0_order 36 = .ok (.invokevirtual 275, 3) := dk_182 1 19 (dk_at dksX0_order_1 12 rfl rfl)
theorem dX0_order_39 : decode cX0_order 39 = .ok (.ifCond .eq 5, 3) := dk_153 0 5 (dk_at dksX0_order_1 15 rfl rfl)
theorem dX0_order_42 : decode cX0_order 42 = .ok (.iconst (-1), 1) := dk_2 (dk_at dksX0_order_1 18 rfl rfl)
theorem dX0_order_43 : decode cX0_order 43 = .ok (.ireturn, 1) := dk_172 (dk_at dksX0_order_1 19 rfl rfl)
theorem dX0_order_44 : decode cX0_order 44 = .ok (.iconst 0, 1) := dk_3 (dk_at dksX0_order_1 20 rfl rfl)
theorem dX0_order_45 : decode cX0_order 45 = .ok (.istore 4, 2) := dk_54 4 (dk_at dksX0_order_1 21 rfl rfl)
theorem dX0_order_47 : decode cX0_order 47 = .ok (.iconst 0, 1) := dk_3 (dk_at dksX0_order_1 23 rfl rfl)
theorem dX0_order_48 : decode cX0_order 48 = .ok (.istore 5, 2) := dk_54 5 (dk_at dksX0_order_2 0 rfl rfl)
theorem dX0_order_50 : decode cX0_order 50 = .ok (.aload_n 0, 1) := dk_42 (dk_at dksX0_order_2 2 rfl rfl)
theorem dX0_order_51 : decode cX0_order 51 = .ok (.aload_n 3, 1) := dk_45 (dk_at dksX0_order_2 3 rfl rfl)
theorem dX0_order_52 : decode cX0_order 52 = .ok (.aload_n 3, 1) := dk_45 (dk_at dksX0_order_2 4 rfl rfl)
theorem dX0_order_53 : decode cX0_order 53 = .ok (.iload 5, 2) := dk_21 5 (dk_at dksX0_order_2 5 rfl rfl)
theorem dX0_order_55 : decode cX0_order 55 = .ok (.invokevirtual 80, 3) := dk_182 0 80 (dk_at dksX0_order_2 7 rfl rfl)
theorem dX0_order_58 : decode cX0_order 58 = .ok (.checkcast 84, 3) := dk_192 0 84 (dk_at dksX0_order_2 10 rfl rfl)
theorem dX0_order_61 : decode cX0_order 61 = .ok (.getfield 283, 3) := dk_180 1 27 (dk_at dksX0_order_2 13 rfl rfl)
theorem dX0_order_64 : decode cX0_order 64 = .ok (.invokevirtual 284, 3) := dk_182 1 28 (dk_at dksX0_order_2 16 rfl rfl)
theorem dX0_order_67 : decode cX0_order 67 = .ok (.ifCond .eq 9, 3) := dk_153 0 9 (dk_at dksX0_order_2 19 rfl rfl)
theorem dX0_order_70 : decode cX0_order 70 = .ok (.iinc 5 1, 3) := dk_132 5 1 (dk_at dksX0_order_3 0 rfl rfl)
theorem dX0_order_73 : decode cX0_order 73 = .ok (.goto (-23), 3) := dk_167 255 233 (dk_at dksX0_order_3 3 rfl rfl)
theorem dX0_order_76 : decode cX0_order 76 = .ok (.iload 4, 2) := dk_21 4 (dk_at dksX0_order_3 6 rfl rfl)
theorem dX0_order_78 : decode cX0_order 78 = .ok (.iload_n 2, 1) := dk_28 (dk_at dksX0_order_3 8 rfl rfl)
theorem dX0_order_79 : decode cX0_order 79 = .ok (.if_icmp .ne 16, 3) := dk_160 0 16 (dk_at dksX0_order_3 9 rfl rfl)
theorem dX0_order_82 : decode cX0_order 82 = .ok (.aload_n 3, 1) := dk_45 (dk_at dksX0_order_3 12 rfl rfl)
theorem dX0_order_83 : decode cX0_order 83 = .ok (.iload 5, 2) := dk_21 5 (dk_at dksX0_order_3 13 rfl rfl)
theorem dX0_order_85 : decode cX0_order 85 = .ok (.invokevirtual 80, 3) := dk_182 0 80 (dk_at dksX0_order_3 15 rfl rfl)
theorem dX0_order_88 : decode cX0_order 88 = .ok (.checkcast 84, 3) := dk_192 0 84 (dk_at dksX0_order_3 18 rfl rfl)
theorem dX0_order_91 : decode cX0_order 91 = .ok (.getfield 283, 3) := dk_180 1 27 (dk_at dksX0_order_3 21 rfl rfl)
theorem dX0_order_94 : decode cX0_order 94 = .ok (.ireturn, 1) := dk_172 (dk_at dksX0_order_4 0 rfl rfl)
theorem dX0_order_95 : decode cX0_order 95 = .ok (.aload_n 3, 1) := dk_45 (dk_at dksX0_order_4 1 rfl rfl)
theorem dX0_order_96 : decode cX0_order 96 = .ok (.iload 5, 2) := dk_21 5 (dk_at dksX0_order_4 2 rfl rfl)
theorem dX0_order_98 : decode cX0_order 98 = .ok (.invokevirtual 288, 3) := dk_182 1 32 (dk_at dksX0_order_4 4 rfl rfl)
theorem dX0_order_101 : decode cX0_order 101 = .ok (.pop, 1) := dk_87 (dk_at dksX0_order_4 7 rfl rfl)
theorem dX0_order_102 : decode cX0_order 102 = .ok (.iinc 4 1, 3) := dk_132 4 1 (dk_at dksX0_order_4 8 rfl rfl)
theorem dX0_order_105 : decode cX0_order 105 = .ok (.goto (-58), 3) := dk_167 255 198 (dk_at dksX0_order_4 11 rfl rfl)
abbrev cX0_coming : ByteArray := prog_1_method_7_code
def yX0_coming : MethodName := ⟨RX0, "coming", "()Ljava/util/ArrayList;"⟩
def dkwX0_coming_2 : List UInt8 := [182, 0, 80, 192, 0, 84, 182, 0, 94, 87, 132, 2, 1, 167, 255, 209, 43, 176]
abbrev dktX0_coming_2 : List UInt8 := dkwX0_coming_2 ++ []
def dkwX0_coming_1 : List UInt8 := [180, 0, 40, 28, 182, 0, 80, 192, 0, 84, 180, 0, 90, 153, 0, 19, 43, 42, 180, 0, 40, 28]
abbrev dktX0_coming_1 : List UInt8 := dkwX0_coming_1 ++ dktX0_coming_2
def dkwX0_coming_0 : List UInt8 := [187, 0, 37, 89, 183, 0, 39, 76, 3, 61, 28, 42, 180, 0, 40, 182, 0, 72, 162, 0, 42, 42]
abbrev dktX0_coming_0 : List UInt8 := dkwX0_coming_0 ++ dktX0_coming_1
theorem dksX0_coming_0 : cX0_coming.data.toList.drop 0 = dktX0_coming_0 := by decide +kernel
theorem dksX0_coming_1 : cX0_coming.data.toList.drop 22 = dktX0_coming_1 := dk_seg dksX0_coming_0 22 rfl rfl
theorem dksX0_coming_2 : cX0_coming.data.toList.drop 44 = dktX0_coming_2 := dk_seg dksX0_coming_1 22 rfl rfl
theorem dX0_coming_0 : decode cX0_coming 0 = .ok (.new 37, 3) := dk_187 0 37 (dk_at dksX0_coming_0 0 rfl rfl)
theorem dX0_coming_3 : decode cX0_coming 3 = .ok (.dup, 1) := dk_89 (dk_at dksX0_coming_0 3 rfl rfl)
theorem dX0_coming_4 : decode cX0_coming 4 = .ok (.invokespecial 39, 3) := dk_183 0 39 (dk_at dksX0_coming_0 4 rfl rfl)
theorem dX0_coming_7 : decode cX0_coming 7 = .ok (.astore_n 1, 1) := dk_76 (dk_at dksX0_coming_0 7 rfl rfl)
theorem dX0_coming_8 : decode cX0_coming 8 = .ok (.iconst 0, 1) := dk_3 (dk_at dksX0_coming_0 8 rfl rfl)
theorem dX0_coming_9 : decode cX0_coming 9 = .ok (.istore_n 2, 1) := dk_61 (dk_at dksX0_coming_0 9 rfl rfl)
theorem dX0_coming_10 : decode cX0_coming 10 = .ok (.iload_n 2, 1) := dk_28 (dk_at dksX0_coming_0 10 rfl rfl)
theorem dX0_coming_11 : decode cX0_coming 11 = .ok (.aload_n 0, 1) := dk_42 (dk_at dksX0_coming_0 11 rfl rfl)
theorem dX0_coming_12 : decode cX0_coming 12 = .ok (.getfield 40, 3) := dk_180 0 40 (dk_at dksX0_coming_0 12 rfl rfl)
theorem dX0_coming_15 : decode cX0_coming 15 = .ok (.invokevirtual 72, 3) := dk_182 0 72 (dk_at dksX0_coming_0 15 rfl rfl)
theorem dX0_coming_18 : decode cX0_coming 18 = .ok (.if_icmp .ge 42, 3) := dk_162 0 42 (dk_at dksX0_coming_0 18 rfl rfl)
theorem dX0_coming_21 : decode cX0_coming 21 = .ok (.aload_n 0, 1) := dk_42 (dk_at dksX0_coming_0 21 rfl rfl)
theorem dX0_coming_22 : decode cX0_coming 22 = .ok (.getfield 40, 3) := dk_180 0 40 (dk_at dksX0_coming_1 0 rfl rfl)
theorem dX0_coming_25 : decode cX0_coming 25 = .ok (.iload_n 2, 1) := dk_28 (dk_at dksX0_coming_1 3 rfl rfl)
theorem dX0_coming_26 : decode cX0_coming 26 = .ok (.invokevirtual 80, 3) := dk_182 0 80 (dk_at dksX0_coming_1 4 rfl rfl)
theorem dX0_coming_29 : decode cX0_coming 29 = .ok (.checkcast 84, 3) := dk_192 0 84 (dk_at dksX0_coming_1 7 rfl rfl)
theorem dX0_coming_32 : decode cX0_coming 32 = .ok (.getfield 90, 3) := dk_180 0 90 (dk_at dksX0_coming_1 10 rfl rfl)
theorem dX0_coming_35 : decode cX0_coming 35 = .ok (.ifCond .eq 19, 3) := dk_153 0 19 (dk_at dksX0_coming_1 13 rfl rfl)
theorem dX0_coming_38 : decode cX0_coming 38 = .ok (.aload_n 1, 1) := dk_43 (dk_at dksX0_coming_1 16 rfl rfl)
theorem dX0_coming_39 : decode cX0_coming 39 = .ok (.aload_n 0, 1) := dk_42 (dk_at dksX0_coming_1 17 rfl rfl)
theorem dX0_coming_40 : decode cX0_coming 40 = .ok (.getfield 40, 3) := dk_180 0 40 (dk_at dksX0_coming_1 18 rfl rfl)
theorem dX0_coming_43 : decode cX0_coming 43 = .ok (.iload_n 2, 1) := dk_28 (dk_at dksX0_coming_1 21 rfl rfl)
theorem dX0_coming_44 : decode cX0_coming 44 = .ok (.invokevirtual 80, 3) := dk_182 0 80 (dk_at dksX0_coming_2 0 rfl rfl)
theorem dX0_coming_47 : decode cX0_coming 47 = .ok (.checkcast 84, 3) := dk_192 0 84 (dk_at dksX0_coming_2 3 rfl rfl)
theorem dX0_coming_50 : decode cX0_coming 50 = .ok (.invokevirtual 94, 3) := dk_182 0 94 (dk_at dksX0_coming_2 6 rfl rfl)
theorem dX0_coming_53 : decode cX0_coming 53 = .ok (.pop, 1) := dk_87 (dk_at dksX0_coming_2 9 rfl rfl)
theorem dX0_coming_54 : decode cX0_coming 54 = .ok (.iinc 2 1, 3) := dk_132 2 1 (dk_at dksX0_coming_2 10 rfl rfl)
theorem dX0_coming_57 : decode cX0_coming 57 = .ok (.goto (-47), 3) := dk_167 255 209 (dk_at dksX0_coming_2 13 rfl rfl)
theorem dX0_coming_60 : decode cX0_coming 60 = .ok (.aload_n 1, 1) := dk_43 (dk_at dksX0_coming_2 16 rfl rfl)
theorem dX0_coming_61 : decode cX0_coming 61 = .ok (.areturn, 1) := dk_176 (dk_at dksX0_coming_2 17 rfl rfl)
abbrev cX0_isHeldBack : ByteArray := prog_1_method_43_code
def yX0_isHeldBack : MethodName := ⟨RX0, "isHeldBack", "(Ljava/util/ArrayList;I)Z"⟩
def dkwX0_isHeldBack_1 : List UInt8 := [182, 0, 253, 153, 0, 5, 4, 172, 132, 3, 1, 167, 255, 224, 3, 172]
abbrev dktX0_isHeldBack_1 : List UInt8 := dkwX0_isHeldBack_1 ++ []
def dkwX0_isHeldBack_0 : List UInt8 := [3, 62, 29, 43, 182, 0, 72, 162, 0, 30, 42, 43, 29, 182, 0, 80, 192, 0, 84, 180, 1, 27, 28]
abbrev dktX0_isHeldBack_0 : List UInt8 := dkwX0_isHeldBack_0 ++ dktX0_isHeldBack_1
theorem dksX0_isHeldBack_0 : cX0_isHeldBack.data.toList.drop 0 = dktX0_isHeldBack_0 := by decide +kernel
theorem dksX0_isHeldBack_1 : cX0_isHeldBack.data.toList.drop 23 = dktX0_isHeldBack_1 := dk_seg dksX0_isHeldBack_0 23 rfl rfl
theorem dX0_isHeldBack_0 : decode cX0_isHeldBack 0 = .ok (.iconst 0, 1) := dk_3 (dk_at dksX0_isHeldBack_0 0 rfl rfl)
theorem dX0_isHeldBack_1 : decode cX0_isHeldBack 1 = .ok (.istore_n 3, 1) := dk_62 (dk_at dksX0_isHeldBack_0 1 rfl rfl)
theorem dX0_isHeldBack_2 : decode cX0_isHeldBack 2 = .ok (.iload_n 3, 1) := dk_29 (dk_at dksX0_isHeldBack_0 2 rfl rfl)
theorem dX0_isHeldBack_3 : decode cX0_isHeldBack 3 = .ok (.aload_n 1, 1) := dk_43 (dk_at dksX0_isHeldBack_0 3 rfl rfl)
theorem dX0_isHeldBack_4 : decode cX0_isHeldBack 4 = .ok (.invokevirtual 72, 3) := dk_182 0 72 (dk_at dksX0_isHeldBack_0 4 rfl rfl)
theorem dX0_isHeldBack_7 : decode cX0_isHeldBack 7 = .ok (.if_icmp .ge 30, 3) := dk_162 0 30 (dk_at dksX0_isHeldBack_0 7 rfl rfl)
theorem dX0_isHeldBack_10 : decode cX0_isHeldBack 10 = .ok (.aload_n 0, 1) := dk_42 (dk_at dksX0_isHeldBack_0 10 rfl rfl)
theorem dX0_isHeldBack_11 : decode cX0_isHeldBack 11 = .ok (.aload_n 1, 1) := dk_43 (dk_at dksX0_isHeldBack_0 11 rfl rfl)
theorem dX0_isHeldBack_12 : decode cX0_isHeldBack 12 = .ok (.iload_n 3, 1) := dk_29 (dk_at dksX0_isHeldBack_0 12 rfl rfl)
theorem dX0_isHeldBack_13 : decode cX0_isHeldBack 13 = .ok (.invokevirtual 80, 3) := dk_182 0 80 (dk_at dksX0_isHeldBack_0 13 rfl rfl)
theorem dX0_isHeldBack_16 : decode cX0_isHeldBack 16 = .ok (.checkcast 84, 3) := dk_192 0 84 (dk_at dksX0_isHeldBack_0 16 rfl rfl)
theorem dX0_isHeldBack_19 : decode cX0_isHeldBack 19 = .ok (.getfield 283, 3) := dk_180 1 27 (dk_at dksX0_isHeldBack_0 19 rfl rfl)
theorem dX0_isHeldBack_22 : decode cX0_isHeldBack 22 = .ok (.iload_n 2, 1) := dk_28 (dk_at dksX0_isHeldBack_0 22 rfl rfl)
theorem dX0_isHeldBack_23 : decode cX0_isHeldBack 23 = .ok (.invokevirtual 253, 3) := dk_182 0 253 (dk_at dksX0_isHeldBack_1 0 rfl rfl)
theorem dX0_isHeldBack_26 : decode cX0_isHeldBack 26 = .ok (.ifCond .eq 5, 3) := dk_153 0 5 (dk_at dksX0_isHeldBack_1 3 rfl rfl)
theorem dX0_isHeldBack_29 : decode cX0_isHeldBack 29 = .ok (.iconst 1, 1) := dk_4 (dk_at dksX0_isHeldBack_1 6 rfl rfl)
theorem dX0_isHeldBack_30 : decode cX0_isHeldBack 30 = .ok (.ireturn, 1) := dk_172 (dk_at dksX0_isHeldBack_1 7 rfl rfl)
theorem dX0_isHeldBack_31 : decode cX0_isHeldBack 31 = .ok (.iinc 3 1, 3) := dk_132 3 1 (dk_at dksX0_isHeldBack_1 8 rfl rfl)
theorem dX0_isHeldBack_34 : decode cX0_isHeldBack 34 = .ok (.goto (-32), 3) := dk_167 255 224 (dk_at dksX0_isHeldBack_1 11 rfl rfl)
theorem dX0_isHeldBack_37 : decode cX0_isHeldBack 37 = .ok (.iconst 0, 1) := dk_3 (dk_at dksX0_isHeldBack_1 14 rfl rfl)
theorem dX0_isHeldBack_38 : decode cX0_isHeldBack 38 = .ok (.ireturn, 1) := dk_172 (dk_at dksX0_isHeldBack_1 15 rfl rfl)
abbrev cX0_rounds : ByteArray := prog_1_method_46_code
def yX0_rounds : MethodName := ⟨RX0, "rounds", "(II)I"⟩
def dkwX0_rounds_16 : List UInt8 := [167, 0, 7, 25, 7, 29, 46, 172]
abbrev dktX0_rounds_16 : List UInt8 := dkwX0_rounds_16 ++ []
def dkwX0_rounds_15 : List UInt8 := [54, 10, 167, 255, 192, 132, 8, 1, 167, 255, 145, 25, 7, 29, 46, 19, 1, 45, 160, 0, 7, 2]
abbrev dktX0_rounds_15 : List UInt8 := dkwX0_rounds_15 ++ dktX0_rounds_16
def dkwX0_rounds_14 : List UInt8 := [21, 8, 21, 10, 128, 46, 25, 7, 21, 8, 46, 4, 96, 184, 1, 39, 79, 21, 10, 4, 100, 21, 9, 126]
abbrev dktX0_rounds_14 : List UInt8 := dkwX0_rounds_14 ++ dktX0_rounds_15
def dkwX0_rounds_13 : List UInt8 := [21, 8, 21, 10, 25, 5, 25, 6, 182, 1, 46, 153, 0, 29, 25, 7, 21, 8, 21, 10, 128, 25, 7]
abbrev dktX0_rounds_13 : List UInt8 := dkwX0_rounds_13 ++ dktX0_rounds_14
def dkwX0_rounds_12 : List UInt8 := [130, 126, 54, 9, 21, 9, 54, 10, 21, 10, 158, 0, 65, 21, 10, 184, 1, 14, 28, 163, 0, 44, 42]
abbrev dktX0_rounds_12 : List UInt8 := dkwX0_rounds_12 ++ dktX0_rounds_13
def dkwX0_rounds_11 : List UInt8 := [2, 130, 126, 154, 0, 96, 25, 7, 21, 8, 46, 19, 1, 45, 160, 0, 6, 167, 0, 82, 29, 21, 8, 2]
abbrev dktX0_rounds_11 : List UInt8 := dkwX0_rounds_11 ++ dktX0_rounds_12
def dkwX0_rounds_10 : List UInt8 := [21, 8, 19, 1, 45, 79, 132, 8, 1, 167, 255, 239, 3, 54, 8, 21, 8, 29, 162, 0, 111, 21, 8, 29]
abbrev dktX0_rounds_10 : List UInt8 := dkwX0_rounds_10 ++ dktX0_rounds_11
def dkwX0_rounds_9 : List UInt8 := [132, 7, 1, 167, 255, 138, 17, 4, 0, 188, 10, 58, 7, 4, 54, 8, 21, 8, 29, 163, 0, 17, 25, 7]
abbrev dktX0_rounds_9 : List UInt8 := dkwX0_rounds_9 ++ dktX0_rounds_10
def dkwX0_rounds_8 : List UInt8 := [182, 0, 80, 192, 0, 84, 180, 1, 27, 120, 167, 0, 4, 3, 128, 79, 132, 9, 1, 167, 255, 189]
abbrev dktX0_rounds_8 : List UInt8 := dkwX0_rounds_8 ++ dktX0_rounds_9
def dkwX0_rounds_7 : List UInt8 := [182, 0, 80, 192, 0, 84, 180, 1, 27, 21, 8, 182, 0, 253, 153, 0, 21, 4, 25, 4, 21, 9]
abbrev dktX0_rounds_7 : List UInt8 := dkwX0_rounds_7 ++ dktX0_rounds_8
def dkwX0_rounds_6 : List UInt8 := [182, 0, 72, 162, 0, 63, 25, 6, 42, 180, 0, 60, 21, 8, 46, 92, 46, 42, 25, 4, 21, 9]
abbrev dktX0_rounds_6 : List UInt8 := dkwX0_rounds_6 ++ dktX0_rounds_7
def dkwX0_rounds_5 : List UInt8 := [25, 5, 42, 180, 0, 60, 21, 8, 46, 92, 46, 4, 21, 8, 120, 128, 79, 3, 54, 9, 21, 9, 25, 4]
abbrev dktX0_rounds_5 : List UInt8 := dkwX0_rounds_5 ++ dktX0_rounds_6
def dkwX0_rounds_4 : List UInt8 := [25, 4, 182, 0, 72, 162, 0, 114, 25, 4, 21, 7, 182, 0, 80, 192, 0, 84, 180, 1, 27, 54, 8]
abbrev dktX0_rounds_4 : List UInt8 := dkwX0_rounds_4 ++ dktX0_rounds_5
def dkwX0_rounds_3 : List UInt8 := [132, 5, 1, 167, 255, 225, 16, 10, 188, 10, 58, 5, 16, 10, 188, 10, 58, 6, 3, 54, 7, 21, 7]
abbrev dktX0_rounds_3 : List UInt8 := dkwX0_rounds_3 ++ dktX0_rounds_4
def dkwX0_rounds_2 : List UInt8 := [182, 0, 72, 162, 0, 27, 29, 4, 25, 4, 21, 5, 182, 0, 80, 192, 0, 84, 180, 1, 27, 120, 128, 62]
abbrev dktX0_rounds_2 : List UInt8 := dkwX0_rounds_2 ++ dktX0_rounds_3
def dkwX0_rounds_1 : List UInt8 := [182, 1, 3, 42, 27, 182, 1, 42, 3, 62, 42, 182, 1, 23, 58, 4, 3, 54, 5, 21, 5, 25, 4]
abbrev dktX0_rounds_1 : List UInt8 := dkwX0_rounds_1 ++ dktX0_rounds_2
def dkwX0_rounds_0 : List UInt8 := [42, 27, 182, 0, 180, 198, 0, 12, 28, 4, 7, 184, 0, 76, 154, 0, 5, 2, 172, 42, 27, 3]
abbrev dktX0_rounds_0 : List UInt8 := dkwX0_rounds_0 ++ dktX0_rounds_1
theorem dksX0_rounds_0 : cX0_rounds.data.toList.drop 0 = dktX0_rounds_0 := by decide +kernel
theorem dksX0_rounds_1 : cX0_rounds.data.toList.drop 22 = dktX0_rounds_1 := dk_seg dksX0_rounds_0 22 rfl rfl
theorem dksX0_rounds_2 : cX0_rounds.data.toList.drop 45 = dktX0_rounds_2 := dk_seg dksX0_rounds_1 23 rfl rfl
theorem dksX0_rounds_3 : cX0_rounds.data.toList.drop 69 = dktX0_rounds_3 := dk_seg dksX0_rounds_2 24 rfl rfl
theorem dksX0_rounds_4 : cX0_rounds.data.toList.drop 92 = dktX0_rounds_4 := dk_seg dksX0_rounds_3 23 rfl rfl
theorem dksX0_rounds_5 : cX0_rounds.data.toList.drop 115 = dktX0_rounds_5 := dk_seg dksX0_rounds_4 23 rfl rfl
theorem dksX0_rounds_6 : cX0_rounds.data.toList.drop 139 = dktX0_rounds_6 := dk_seg dksX0_rounds_5 24 rfl rfl
theorem dksX0_rounds_7 : cX0_rounds.data.toList.drop 161 = dktX0_rounds_7 := dk_seg dksX0_rounds_6 22 rfl rfl
theorem dksX0_rounds_8 : cX0_rounds.data.toList.drop 183 = dktX0_rounds_8 := dk_seg dksX0_rounds_7 22 rfl rfl
theorem dksX0_rounds_9 : cX0_rounds.data.toList.drop 205 = dktX0_rounds_9 := dk_seg dksX0_rounds_8 22 rfl rfl
theorem dksX0_rounds_10 : cX0_rounds.data.toList.drop 229 = dktX0_rounds_10 := dk_seg dksX0_rounds_9 24 rfl rfl
theorem dksX0_rounds_11 : cX0_rounds.data.toList.drop 253 = dktX0_rounds_11 := dk_seg dksX0_rounds_10 24 rfl rfl
theorem dksX0_rounds_12 : cX0_rounds.data.toList.drop 277 = dktX0_rounds_12 := dk_seg dksX0_rounds_11 24 rfl rfl
theorem dksX0_rounds_13 : cX0_rounds.data.toList.drop 300 = dktX0_rounds_13 := dk_seg dksX0_rounds_12 23 rfl rfl
theorem dksX0_rounds_14 : cX0_rounds.data.toList.drop 323 = dktX0_rounds_14 := dk_seg dksX0_rounds_13 23 rfl rfl
theorem dksX0_rounds_15 : cX0_rounds.data.toList.drop 347 = dktX0_rounds_15 := dk_seg dksX0_rounds_14 24 rfl rfl
theorem dksX0_rounds_16 : cX0_rounds.data.toList.drop 369 = dktX0_rounds_16 := dk_seg dksX0_rounds_15 22 rfl rfl
theorem dX0_rounds_0 : decode cX0_rounds 0 = .ok (.aload_n 0, 1) := dk_42 (dk_at dksX0_rounds_0 0 rfl rfl)
theorem dX0_rounds_1 : decode cX0_rounds 1 = .ok (.iload_n 1, 1) := dk_27 (dk_at dksX0_rounds_0 1 rfl rfl)
theorem dX0_rounds_2 : decode cX0_rounds 2 = .ok (.invokevirtual 180, 3) := dk_182 0 180 (dk_at dksX0_rounds_0 2 rfl rfl)
theorem dX0_rounds_5 : decode cX0_rounds 5 = .ok (.ifnull 12, 3) := dk_198 0 12 (dk_at dksX0_rounds_0 5 rfl rfl)
theorem dX0_rounds_8 : decode cX0_rounds 8 = .ok (.iload_n 2, 1) := dk_28 (dk_at dksX0_rounds_0 8 rfl rfl)
theorem dX0_rounds_9 : decode cX0_rounds 9 = .ok (.iconst 1, 1) := dk_4 (dk_at dksX0_rounds_0 9 rfl rfl)
theorem dX0_rounds_10 : decode cX0_rounds 10 = .ok (.iconst 4, 1) := dk_7 (dk_at dksX0_rounds_0 10 rfl rfl)
theorem dX0_rounds_11 : decode cX0_rounds 11 = .ok (.invokestatic 76, 3) := dk_184 0 76 (dk_at dksX0_rounds_0 11 rfl rfl)
theorem dX0_rounds_14 : decode cX0_rounds 14 = .ok (.ifCond .ne 5, 3) := dk_154 0 5 (dk_at dksX0_rounds_0 14 rfl rfl)
theorem dX0_rounds_17 : decode cX0_rounds 17 = .ok (.iconst (-1), 1) := dk_2 (dk_at dksX0_rounds_0 17 rfl rfl)
theorem dX0_rounds_18 : decode cX0_rounds 18 = .ok (.ireturn, 1) := dk_172 (dk_at dksX0_rounds_0 18 rfl rfl)
theorem dX0_rounds_19 : decode cX0_rounds 19 = .ok (.aload_n 0, 1) := dk_42 (dk_at dksX0_rounds_0 19 rfl rfl)
theorem dX0_rounds_20 : decode cX0_rounds 20 = .ok (.iload_n 1, 1) := dk_27 (dk_at dksX0_rounds_0 20 rfl rfl)
theorem dX0_rounds_21 : decode cX0_rounds 21 = .ok (.iconst 0, 1) := dk_3 (dk_at dksX0_rounds_0 21 rfl rfl)
theorem dX0_rounds_22 : decode cX0_rounds 22 = .ok (.invokevirtual 259, 3) := dk_182 1 3 (dk_at dksX0_rounds_1 0 rfl rfl)
theorem dX0_rounds_25 : decode cX0_rounds 25 = .ok (.aload_n 0, 1) := dk_42 (dk_at dksX0_rounds_1 3 rfl rfl)
theorem dX0_rounds_26 : decode cX0_rounds 26 = .ok (.iload_n 1, 1) := dk_27 (dk_at dksX0_rounds_1 4 rfl rfl)
theorem dX0_rounds_27 : decode cX0_rounds 27 = .ok (.invokevirtual 298, 3) := dk_182 1 42 (dk_at dksX0_rounds_1 5 rfl rfl)
theorem dX0_rounds_30 : decode cX0_rounds 30 = .ok (.iconst 0, 1) := dk_3 (dk_at dksX0_rounds_1 8 rfl rfl)
theorem dX0_rounds_31 : decode cX0_rounds 31 = .ok (.istore_n 3, 1) := dk_62 (dk_at dksX0_rounds_1 9 rfl rfl)
theorem dX0_rounds_32 : decode cX0_rounds 32 = .ok (.aload_n 0, 1) := dk_42 (dk_at dksX0_rounds_1 10 rfl rfl)
theorem dX0_rounds_33 : decode cX0_rounds 33 = .ok (.invokevirtual 279, 3) := dk_182 1 23 (dk_at dksX0_rounds_1 11 rfl rfl)
theorem dX0_rounds_36 : decode cX0_rounds 36 = .ok (.astore 4, 2) := dk_58 4 (dk_at dksX0_rounds_1 14 rfl rfl)
theorem dX0_rounds_38 : decode cX0_rounds 38 = .ok (.iconst 0, 1) := dk_3 (dk_at dksX0_rounds_1 16 rfl rfl)
theorem dX0_rounds_39 : decode cX0_rounds 39 = .ok (.istore 5, 2) := dk_54 5 (dk_at dksX0_rounds_1 17 rfl rfl)
theorem dX0_rounds_41 : decode cX0_rounds 41 = .ok (.iload 5, 2) := dk_21 5 (dk_at dksX0_rounds_1 19 rfl rfl)
theorem dX0_rounds_43 : decode cX0_rounds 43 = .ok (.aload 4, 2) := dk_25 4 (dk_at dksX0_rounds_1 21 rfl rfl)
theorem dX0_rounds_45 : decode cX0_rounds 45 = .ok (.invokevirtual 72, 3) := dk_182 0 72 (dk_at dksX0_rounds_2 0 rfl rfl)
theorem dX0_rounds_48 : decode cX0_rounds 48 = .ok (.if_icmp .ge 27, 3) := dk_162 0 27 (dk_at dksX0_rounds_2 3 rfl rfl)
theorem dX0_rounds_51 : decode cX0_rounds 51 = .ok (.iload_n 3, 1) := dk_29 (dk_at dksX0_rounds_2 6 rfl rfl)
theorem dX0_rounds_52 : decode cX0_rounds 52 = .ok (.iconst 1, 1) := dk_4 (dk_at dksX0_rounds_2 7 rfl rfl)
theorem dX0_rounds_53 : decode cX0_rounds 53 = .ok (.aload 4, 2) := dk_25 4 (dk_at dksX0_rounds_2 8 rfl rfl)
theorem dX0_rounds_55 : decode cX0_rounds 55 = .ok (.iload 5, 2) := dk_21 5 (dk_at dksX0_rounds_2 10 rfl rfl)
theorem dX0_rounds_57 : decode cX0_rounds 57 = .ok (.invokevirtual 80, 3) := dk_182 0 80 (dk_at dksX0_rounds_2 12 rfl rfl)
theorem dX0_rounds_60 : decode cX0_rounds 60 = .ok (.checkcast 84, 3) := dk_192 0 84 (dk_at dksX0_rounds_2 15 rfl rfl)
theorem dX0_rounds_63 : decode cX0_rounds 63 = .ok (.getfield 283, 3) := dk_180 1 27 (dk_at dksX0_rounds_2 18 rfl rfl)
theorem dX0_rounds_66 : decode cX0_rounds 66 = .ok (.ishl, 1) := dk_120 (dk_at dksX0_rounds_2 21 rfl rfl)
theorem dX0_rounds_67 : decode cX0_rounds 67 = .ok (.ior, 1) := dk_128 (dk_at dksX0_rounds_2 22 rfl rfl)
theorem dX0_rounds_68 : decode cX0_rounds 68 = .ok (.istore_n 3, 1) := dk_62 (dk_at dksX0_rounds_2 23 rfl rfl)
theorem dX0_rounds_69 : decode cX0_rounds 69 = .ok (.iinc 5 1, 3) := dk_132 5 1 (dk_at dksX0_rounds_3 0 rfl rfl)
theorem dX0_rounds_72 : decode cX0_rounds 72 = .ok (.goto (-31), 3) := dk_167 255 225 (dk_at dksX0_rounds_3 3 rfl rfl)
theorem dX0_rounds_75 : decode cX0_rounds 75 = .ok (.bipush 10, 2) := dk_16 10 (dk_at dksX0_rounds_3 6 rfl rfl)
theorem dX0_rounds_77 : decode cX0_rounds 77 = .ok (.newarray .int, 2) := dk_188_10 (dk_at dksX0_rounds_3 8 rfl rfl)
theorem dX0_rounds_79 : decode cX0_rounds 79 = .ok (.astore 5, 2) := dk_58 5 (dk_at dksX0_rounds_3 10 rfl rfl)
theorem dX0_rounds_81 : decode cX0_rounds 81 = .ok (.bipush 10, 2) := dk_16 10 (dk_at dksX0_rounds_3 12 rfl rfl)
theorem dX0_rounds_83 : decode cX0_rounds 83 = .ok (.newarray .int, 2) := dk_188_10 (dk_at dksX0_rounds_3 14 rfl rfl)
theorem dX0_rounds_85 : decode cX0_rounds 85 = .ok (.astore 6, 2) := dk_58 6 (dk_at dksX0_rounds_3 16 rfl rfl)
theorem dX0_rounds_87 : decode cX0_rounds 87 = .ok (.iconst 0, 1) := dk_3 (dk_at dksX0_rounds_3 18 rfl rfl)
theorem dX0_rounds_88 : decode cX0_rounds 88 = .ok (.istore 7, 2) := dk_54 7 (dk_at dksX0_rounds_3 19 rfl rfl)
theorem dX0_rounds_90 : decode cX0_rounds 90 = .ok (.iload 7, 2) := dk_21 7 (dk_at dksX0_rounds_3 21 rfl rfl)
theorem dX0_rounds_92 : decode cX0_rounds 92 = .ok (.aload 4, 2) := dk_25 4 (dk_at dksX0_rounds_4 0 rfl rfl)
theorem dX0_rounds_94 : decode cX0_rounds 94 = .ok (.invokevirtual 72, 3) := dk_182 0 72 (dk_at dksX0_rounds_4 2 rfl rfl)
theorem dX0_rounds_97 : decode cX0_rounds 97 = .ok (.if_icmp .ge 114, 3) := dk_162 0 114 (dk_at dksX0_rounds_4 5 rfl rfl)
theorem dX0_rounds_100 : decode cX0_rounds 100 = .ok (.aload 4, 2) := dk_25 4 (dk_at dksX0_rounds_4 8 rfl rfl)
theorem dX0_rounds_102 : decode cX0_rounds 102 = .ok (.iload 7, 2) := dk_21 7 (dk_at dksX0_rounds_4 10 rfl rfl)
theorem dX0_rounds_104 : decode cX0_rounds 104 = .ok (.invokevirtual 80, 3) := dk_182 0 80 (dk_at dksX0_rounds_4 12 rfl rfl)
theorem dX0_rounds_107 : decode cX0_rounds 107 = .ok (.checkcast 84, 3) := dk_192 0 84 (dk_at dksX0_rounds_4 15 rfl rfl)
theorem dX0_rounds_110 : decode cX0_rounds 110 = .ok (.getfield 283, 3) := dk_180 1 27 (dk_at dksX0_rounds_4 18 rfl rfl)
theorem dX0_rounds_113 : decode cX0_rounds 113 = .ok (.istore 8, 2) := dk_54 8 (dk_at dksX0_rounds_4 21 rfl rfl)
theorem dX0_rounds_115 : decode cX0_rounds 115 = .ok (.aload 5, 2) := dk_25 5 (dk_at dksX0_rounds_5 0 rfl rfl)
theorem dX0_rounds_117 : decode cX0_rounds 117 = .ok (.aload_n 0, 1) := dk_42 (dk_at dksX0_rounds_5 2 rfl rfl)
theorem dX0_rounds_118 : decode cX0_rounds 118 = .ok (.getfield 60, 3) := dk_180 0 60 (dk_at dksX0_rounds_5 3 rfl rfl)
theorem dX0_rounds_121 : decode cX0_rounds 121 = .ok (.iload 8, 2) := dk_21 8 (dk_at dksX0_rounds_5 6 rfl rfl)
theorem dX0_rounds_123 : decode cX0_rounds 123 = .ok (.iaload, 1) := dk_46 (dk_at dksX0_rounds_5 8 rfl rfl)
theorem dX0_rounds_124 : decode cX0_rounds 124 = .ok (.dup2, 1) := dk_92 (dk_at dksX0_rounds_5 9 rfl rfl)
theorem dX0_rounds_125 : decode cX0_rounds 125 = .ok (.iaload, 1) := dk_46 (dk_at dksX0_rounds_5 10 rfl rfl)
theorem dX0_rounds_126 : decode cX0_rounds 126 = .ok (.iconst 1, 1) := dk_4 (dk_at dksX0_rounds_5 11 rfl rfl)
theorem dX0_rounds_127 : decode cX0_rounds 127 = .ok (.iload 8, 2) := dk_21 8 (dk_at dksX0_rounds_5 12 rfl rfl)
theorem dX0_rounds_129 : decode cX0_rounds 129 = .ok (.ishl, 1) := dk_120 (dk_at dksX0_rounds_5 14 rfl rfl)
theorem dX0_rounds_130 : decode cX0_rounds 130 = .ok (.ior, 1) := dk_128 (dk_at dksX0_rounds_5 15 rfl rfl)
theorem dX0_rounds_131 : decode cX0_rounds 131 = .ok (.iastore, 1) := dk_79 (dk_at dksX0_rounds_5 16 rfl rfl)
theorem dX0_rounds_132 : decode cX0_rounds 132 = .ok (.iconst 0, 1) := dk_3 (dk_at dksX0_rounds_5 17 rfl rfl)
theorem dX0_rounds_133 : decode cX0_rounds 133 = .ok (.istore 9, 2) := dk_54 9 (dk_at dksX0_rounds_5 18 rfl rfl)
theorem dX0_rounds_135 : decode cX0_rounds 135 = .ok (.iload 9, 2) := dk_21 9 (dk_at dksX0_rounds_5 20 rfl rfl)
theorem dX0_rounds_137 : decode cX0_rounds 137 = .ok (.aload 4, 2) := dk_25 4 (dk_at dksX0_rounds_5 22 rfl rfl)
theorem dX0_rounds_139 : decode cX0_rounds 139 = .ok (.invokevirtual 72, 3) := dk_182 0 72 (dk_at dksX0_rounds_6 0 rfl rfl)
theorem dX0_rounds_142 : decode cX0_rounds 142 = .ok (.if_icmp .ge 63, 3) := dk_162 0 63 (dk_at dksX0_rounds_6 3 rfl rfl)
theorem dX0_rounds_145 : decode cX0_rounds 145 = .ok (.aload 6, 2) := dk_25 6 (dk_at dksX0_rounds_6 6 rfl rfl)
theorem dX0_rounds_147 : decode cX0_rounds 147 = .ok (.aload_n 0, 1) := dk_42 (dk_at dksX0_rounds_6 8 rfl rfl)
theorem dX0_rounds_148 : decode cX0_rounds 148 = .ok (.getfield 60, 3) := dk_180 0 60 (dk_at dksX0_rounds_6 9 rfl rfl)
theorem dX0_rounds_151 : decode cX0_rounds 151 = .ok (.iload 8, 2) := dk_21 8 (dk_at dksX0_rounds_6 12 rfl rfl)
theorem dX0_rounds_153 : decode cX0_rounds 153 = .ok (.iaload, 1) := dk_46 (dk_at dksX0_rounds_6 14 rfl rfl)
theorem dX0_rounds_154 : decode cX0_rounds 154 = .ok (.dup2, 1) := dk_92 (dk_at dksX0_rounds_6 15 rfl rfl)
theorem dX0_rounds_155 : decode cX0_rounds 155 = .ok (.iaload, 1) := dk_46 (dk_at dksX0_rounds_6 16 rfl rfl)
theorem dX0_rounds_156 : decode cX0_rounds 156 = .ok (.aload_n 0, 1) := dk_42 (dk_at dksX0_rounds_6 17 rfl rfl)
theorem dX0_rounds_157 : decode cX0_rounds 157 = .ok (.aload 4, 2) := dk_25 4 (dk_at dksX0_rounds_6 18 rfl rfl)
theorem dX0_rounds_159 : decode cX0_rounds 159 = .ok (.iload 9, 2) := dk_21 9 (dk_at dksX0_rounds_6 20 rfl rfl)
theorem dX0_rounds_161 : decode cX0_rounds 161 = .ok (.invokevirtual 80, 3) := dk_182 0 80 (dk_at dksX0_rounds_7 0 rfl rfl)
theorem dX0_rounds_164 : decode cX0_rounds 164 = .ok (.checkcast 84, 3) := dk_192 0 84 (dk_at dksX0_rounds_7 3 rfl rfl)
theorem dX0_rounds_167 : decode cX0_rounds 167 = .ok (.getfield 283, 3) := dk_180 1 27 (dk_at dksX0_rounds_7 6 rfl rfl)
theorem dX0_rounds_170 : decode cX0_rounds 170 = .ok (.iload 8, 2) := dk_21 8 (dk_at dksX0_rounds_7 9 rfl rfl)
theorem dX0_rounds_172 : decode cX0_rounds 172 = .ok (.invokevirtual 253, 3) := dk_182 0 253 (dk_at dksX0_rounds_7 11 rfl rfl)
theorem dX0_rounds_175 : decode cX0_rounds 175 = .ok (.ifCond .eq 21, 3) := dk_153 0 21 (dk_at dksX0_rounds_7 14 rfl rfl)
theorem dX0_rounds_178 : decode cX0_rounds 178 = .ok (.iconst 1, 1) := dk_4 (dk_at dksX0_rounds_7 17 rfl rfl)
theorem dX0_rounds_179 : decode cX0_rounds 179 = .ok (.aload 4, 2) := dk_25 4 (dk_at dksX0_rounds_7 18 rfl rfl)
theorem dX0_rounds_181 : decode cX0_rounds 181 = .ok (.iload 9, 2) := dk_21 9 (dk_at dksX0_rounds_7 20 rfl rfl)
theorem dX0_rounds_183 : decode cX0_rounds 183 = .ok (.invokevirtual 80, 3) := dk_182 0 80 (dk_at dksX0_rounds_8 0 rfl rfl)
theorem dX0_rounds_186 : decode cX0_rounds 186 = .ok (.checkcast 84, 3) := dk_192 0 84 (dk_at dksX0_rounds_8 3 rfl rfl)
theorem dX0_rounds_189 : decode cX0_rounds 189 = .ok (.getfield 283, 3) := dk_180 1 27 (dk_at dksX0_rounds_8 6 rfl rfl)
theorem dX0_rounds_192 : decode cX0_rounds 192 = .ok (.ishl, 1) := dk_120 (dk_at dksX0_rounds_8 9 rfl rfl)
theorem dX0_rounds_193 : decode cX0_rounds 193 = .ok (.goto 4, 3) := dk_167 0 4 (dk_at dksX0_rounds_8 10 rfl rfl)
theorem dX0_rounds_196 : decode cX0_rounds 196 = .ok (.iconst 0, 1) := dk_3 (dk_at dksX0_rounds_8 13 rfl rfl)
theorem dX0_rounds_197 : decode cX0_rounds 197 = .ok (.ior, 1) := dk_128 (dk_at dksX0_rounds_8 14 rfl rfl)
theorem dX0_rounds_198 : decode cX0_rounds 198 = .ok (.iastore, 1) := dk_79 (dk_at dksX0_rounds_8 15 rfl rfl)
theorem dX0_rounds_199 : decode cX0_rounds 199 = .ok (.iinc 9 1, 3) := dk_132 9 1 (dk_at dksX0_rounds_8 16 rfl rfl)
theorem dX0_rounds_202 : decode cX0_rounds 202 = .ok (.goto (-67), 3) := dk_167 255 189 (dk_at dksX0_rounds_8 19 rfl rfl)
theorem dX0_rounds_205 : decode cX0_rounds 205 = .ok (.iinc 7 1, 3) := dk_132 7 1 (dk_at dksX0_rounds_9 0 rfl rfl)
theorem dX0_rounds_208 : decode cX0_rounds 208 = .ok (.goto (-118), 3) := dk_167 255 138 (dk_at dksX0_rounds_9 3 rfl rfl)
theorem dX0_rounds_211 : decode cX0_rounds 211 = .ok (.sipush 1024, 3) := dk_17 4 0 (dk_at dksX0_rounds_9 6 rfl rfl)
theorem dX0_rounds_214 : decode cX0_rounds 214 = .ok (.newarray .int, 2) := dk_188_10 (dk_at dksX0_rounds_9 9 rfl rfl)
theorem dX0_rounds_216 : decode cX0_rounds 216 = .ok (.astore 7, 2) := dk_58 7 (dk_at dksX0_rounds_9 11 rfl rfl)
theorem dX0_rounds_218 : decode cX0_rounds 218 = .ok (.iconst 1, 1) := dk_4 (dk_at dksX0_rounds_9 13 rfl rfl)
theorem dX0_rounds_219 : decode cX0_rounds 219 = .ok (.istore 8, 2) := dk_54 8 (dk_at dksX0_rounds_9 14 rfl rfl)
theorem dX0_rounds_221 : decode cX0_rounds 221 = .ok (.iload 8, 2) := dk_21 8 (dk_at dksX0_rounds_9 16 rfl rfl)
theorem dX0_rounds_223 : decode cX0_rounds 223 = .ok (.iload_n 3, 1) := dk_29 (dk_at dksX0_rounds_9 18 rfl rfl)
theorem dX0_rounds_224 : decode cX0_rounds 224 = .ok (.if_icmp .gt 17, 3) := dk_163 0 17 (dk_at dksX0_rounds_9 19 rfl rfl)
theorem dX0_rounds_227 : decode cX0_rounds 227 = .ok (.aload 7, 2) := dk_25 7 (dk_at dksX0_rounds_9 22 rfl rfl)
theorem dX0_rounds_229 : decode cX0_rounds 229 = .ok (.iload 8, 2) := dk_21 8 (dk_at dksX0_rounds_10 0 rfl rfl)
theorem dX0_rounds_231 : decode cX0_rounds 231 = .ok (.ldc_w 301, 3) := dk_19 1 45 (dk_at dksX0_rounds_10 2 rfl rfl)
theorem dX0_rounds_234 : decode cX0_rounds 234 = .ok (.iastore, 1) := dk_79 (dk_at dksX0_rounds_10 5 rfl rfl)
theorem dX0_rounds_235 : decode cX0_rounds 235 = .ok (.iinc 8 1, 3) := dk_132 8 1 (dk_at dksX0_rounds_10 6 rfl rfl)
theorem dX0_rounds_238 : decode cX0_rounds 238 = .ok (.goto (-17), 3) := dk_167 255 239 (dk_at dksX0_rounds_10 9 rfl rfl)
theorem dX0_rounds_241 : decode cX0_rounds 241 = .ok (.iconst 0, 1) := dk_3 (dk_at dksX0_rounds_10 12 rfl rfl)
theorem dX0_rounds_242 : decode cX0_rounds 242 = .ok (.istore 8, 2) := dk_54 8 (dk_at dksX0_rounds_10 13 rfl rfl)
theorem dX0_rounds_244 : decode cX0_rounds 244 = .ok (.iload 8, 2) := dk_21 8 (dk_at dksX0_rounds_10 15 rfl rfl)
theorem dX0_rounds_246 : decode cX0_rounds 246 = .ok (.iload_n 3, 1) := dk_29 (dk_at dksX0_rounds_10 17 rfl rfl)
theorem dX0_rounds_247 : decode cX0_rounds 247 = .ok (.if_icmp .ge 111, 3) := dk_162 0 111 (dk_at dksX0_rounds_10 18 rfl rfl)
theorem dX0_rounds_250 : decode cX0_rounds 250 = .ok (.iload 8, 2) := dk_21 8 (dk_at dksX0_rounds_10 21 rfl rfl)
theorem dX0_rounds_252 : decode cX0_rounds 252 = .ok (.iload_n 3, 1) := dk_29 (dk_at dksX0_rounds_10 23 rfl rfl)
theorem dX0_rounds_253 : decode cX0_rounds 253 = .ok (.iconst (-1), 1) := dk_2 (dk_at dksX0_rounds_11 0 rfl rfl)
theorem dX0_rounds_254 : decode cX0_rounds 254 = .ok (.ixor, 1) := dk_130 (dk_at dksX0_rounds_11 1 rfl rfl)
theorem dX0_rounds_255 : decode cX0_rounds 255 = .ok (.iand, 1) := dk_126 (dk_at dksX0_rounds_11 2 rfl rfl)
theorem dX0_rounds_256 : decode cX0_rounds 256 = .ok (.ifCond .ne 96, 3) := dk_154 0 96 (dk_at dksX0_rounds_11 3 rfl rfl)
theorem dX0_rounds_259 : decode cX0_rounds 259 = .ok (.aload 7, 2) := dk_25 7 (dk_at dksX0_rounds_11 6 rfl rfl)
theorem dX0_rounds_261 : decode cX0_rounds 261 = .ok (.iload 8, 2) := dk_21 8 (dk_at dksX0_rounds_11 8 rfl rfl)
theorem dX0_rounds_263 : decode cX0_rounds 263 = .ok (.iaload, 1) := dk_46 (dk_at dksX0_rounds_11 10 rfl rfl)
theorem dX0_rounds_264 : decode cX0_rounds 264 = .ok (.ldc_w 301, 3) := dk_19 1 45 (dk_at dksX0_rounds_11 11 rfl rfl)
theorem dX0_rounds_267 : decode cX0_rounds 267 = .ok (.if_icmp .ne 6, 3) := dk_160 0 6 (dk_at dksX0_rounds_11 14 rfl rfl)
theorem dX0_rounds_270 : decode cX0_rounds 270 = .ok (.goto 82, 3) := dk_167 0 82 (dk_at dksX0_rounds_11 17 rfl rfl)
theorem dX0_rounds_273 : decode cX0_rounds 273 = .ok (.iload_n 3, 1) := dk_29 (dk_at dksX0_rounds_11 20 rfl rfl)
theorem dX0_rounds_274 : decode cX0_rounds 274 = .ok (.iload 8, 2) := dk_21 8 (dk_at dksX0_rounds_11 21 rfl rfl)
theorem dX0_rounds_276 : decode cX0_rounds 276 = .ok (.iconst (-1), 1) := dk_2 (dk_at dksX0_rounds_11 23 rfl rfl)
theorem dX0_rounds_277 : decode cX0_rounds 277 = .ok (.ixor, 1) := dk_130 (dk_at dksX0_rounds_12 0 rfl rfl)
theorem dX0_rounds_278 : decode cX0_rounds 278 = .ok (.iand, 1) := dk_126 (dk_at dksX0_rounds_12 1 rfl rfl)
theorem dX0_rounds_279 : decode cX0_rounds 279 = .ok (.istore 9, 2) := dk_54 9 (dk_at dksX0_rounds_12 2 rfl rfl)
theorem dX0_rounds_281 : decode cX0_rounds 281 = .ok (.iload 9, 2) := dk_21 9 (dk_at dksX0_rounds_12 4 rfl rfl)
theorem dX0_rounds_283 : decode cX0_rounds 283 = .ok (.istore 10, 2) := dk_54 10 (dk_at dksX0_rounds_12 6 rfl rfl)
theorem dX0_rounds_285 : decode cX0_rounds 285 = .ok (.iload 10, 2) := dk_21 10 (dk_at dksX0_rounds_12 8 rfl rfl)
theorem dX0_rounds_287 : decode cX0_rounds 287 = .ok (.ifCond .le 65, 3) := dk_158 0 65 (dk_at dksX0_rounds_12 10 rfl rfl)
theorem dX0_rounds_290 : decode cX0_rounds 290 = .ok (.iload 10, 2) := dk_21 10 (dk_at dksX0_rounds_12 13 rfl rfl)
theorem dX0_rounds_292 : decode cX0_rounds 292 = .ok (.invokestatic 270, 3) := dk_184 1 14 (dk_at dksX0_rounds_12 15 rfl rfl)
theorem dX0_rounds_295 : decode cX0_rounds 295 = .ok (.iload_n 2, 1) := dk_28 (dk_at dksX0_rounds_12 18 rfl rfl)
theorem dX0_rounds_296 : decode cX0_rounds 296 = .ok (.if_icmp .gt 44, 3) := dk_163 0 44 (dk_at dksX0_rounds_12 19 rfl rfl)
theorem dX0_rounds_299 : decode cX0_rounds 299 = .ok (.aload_n 0, 1) := dk_42 (dk_at dksX0_rounds_12 22 rfl rfl)
theorem dX0_rounds_300 : decode cX0_rounds 300 = .ok (.iload 8, 2) := dk_21 8 (dk_at dksX0_rounds_13 0 rfl rfl)
theorem dX0_rounds_302 : decode cX0_rounds 302 = .ok (.iload 10, 2) := dk_21 10 (dk_at dksX0_rounds_13 2 rfl rfl)
theorem dX0_rounds_304 : decode cX0_rounds 304 = .ok (.aload 5, 2) := dk_25 5 (dk_at dksX0_rounds_13 4 rfl rfl)
theorem dX0_rounds_306 : decode cX0_rounds 306 = .ok (.aload 6, 2) := dk_25 6 (dk_at dksX0_rounds_13 6 rfl rfl)
theorem dX0_rounds_308 : decode cX0_rounds 308 = .ok (.invokevirtual 302, 3) := dk_182 1 46 (dk_at dksX0_rounds_13 8 rfl rfl)
theorem dX0_rounds_311 : decode cX0_rounds 311 = .ok (.ifCond .eq 29, 3) := dk_153 0 29 (dk_at dksX0_rounds_13 11 rfl rfl)
theorem dX0_rounds_314 : decode cX0_rounds 314 = .ok (.aload 7, 2) := dk_25 7 (dk_at dksX0_rounds_13 14 rfl rfl)
theorem dX0_rounds_316 : decode cX0_rounds 316 = .ok (.iload 8, 2) := dk_21 8 (dk_at dksX0_rounds_13 16 rfl rfl)
theorem dX0_rounds_318 : decode cX0_rounds 318 = .ok (.iload 10, 2) := dk_21 10 (dk_at dksX0_rounds_13 18 rfl rfl)
theorem dX0_rounds_320 : decode cX0_rounds 320 = .ok (.ior, 1) := dk_128 (dk_at dksX0_rounds_13 20 rfl rfl)
theorem dX0_rounds_321 : decode cX0_rounds 321 = .ok (.aload 7, 2) := dk_25 7 (dk_at dksX0_rounds_13 21 rfl rfl)
theorem dX0_rounds_323 : decode cX0_rounds 323 = .ok (.iload 8, 2) := dk_21 8 (dk_at dksX0_rounds_14 0 rfl rfl)
theorem dX0_rounds_325 : decode cX0_rounds 325 = .ok (.iload 10, 2) := dk_21 10 (dk_at dksX0_rounds_14 2 rfl rfl)
theorem dX0_rounds_327 : decode cX0_rounds 327 = .ok (.ior, 1) := dk_128 (dk_at dksX0_rounds_14 4 rfl rfl)
theorem dX0_rounds_328 : decode cX0_rounds 328 = .ok (.iaload, 1) := dk_46 (dk_at dksX0_rounds_14 5 rfl rfl)
theorem dX0_rounds_329 : decode cX0_rounds 329 = .ok (.aload 7, 2) := dk_25 7 (dk_at dksX0_rounds_14 6 rfl rfl)
theorem dX0_rounds_331 : decode cX0_rounds 331 = .ok (.iload 8, 2) := dk_21 8 (dk_at dksX0_rounds_14 8 rfl rfl)
theorem dX0_rounds_333 : decode cX0_rounds 333 = .ok (.iaload, 1) := dk_46 (dk_at dksX0_rounds_14 10 rfl rfl)
theorem dX0_rounds_334 : decode cX0_rounds 334 = .ok (.iconst 1, 1) := dk_4 (dk_at dksX0_rounds_14 11 rfl rfl)
theorem dX0_rounds_335 : decode cX0_rounds 335 = .ok (.iadd, 1) := dk_96 (dk_at dksX0_rounds_14 12 rfl rfl)
theorem dX0_rounds_336 : decode cX0_rounds 336 = .ok (.invokestatic 295, 3) := dk_184 1 39 (dk_at dksX0_rounds_14 13 rfl rfl)
theorem dX0_rounds_339 : decode cX0_rounds 339 = .ok (.iastore, 1) := dk_79 (dk_at dksX0_rounds_14 16 rfl rfl)
theorem dX0_rounds_340 : decode cX0_rounds 340 = .ok (.iload 10, 2) := dk_21 10 (dk_at dksX0_rounds_14 17 rfl rfl)
theorem dX0_rounds_342 : decode cX0_rounds 342 = .ok (.iconst 1, 1) := dk_4 (dk_at dksX0_rounds_14 19 rfl rfl)
theorem dX0_rounds_343 : decode cX0_rounds 343 = .ok (.isub, 1) := dk_100 (dk_at dksX0_rounds_14 20 rfl rfl)
theorem dX0_rounds_344 : decode cX0_rounds 344 = .ok (.iload 9, 2) := dk_21 9 (dk_at dksX0_rounds_14 21 rfl rfl)
theorem dX0_rounds_346 : decode cX0_rounds 346 = .ok (.iand, 1) := dk_126 (dk_at dksX0_rounds_14 23 rfl rfl)
theorem dX0_rounds_347 : decode cX0_rounds 347 = .ok (.istore 10, 2) := dk_54 10 (dk_at dksX0_rounds_15 0 rfl rfl)
theorem dX0_rounds_349 : decode cX0_rounds 349 = .ok (.goto (-64), 3) := dk_167 255 192 (dk_at dksX0_rounds_15 2 rfl rfl)
theorem dX0_rounds_352 : decode cX0_rounds 352 = .ok (.iinc 8 1, 3) := dk_132 8 1 (dk_at dksX0_rounds_15 5 rfl rfl)
theorem dX0_rounds_355 : decode cX0_rounds 355 = .ok (.goto (-111), 3) := dk_167 255 145 (dk_at dksX0_rounds_15 8 rfl rfl)
theorem dX0_rounds_358 : decode cX0_rounds 358 = .ok (.aload 7, 2) := dk_25 7 (dk_at dksX0_rounds_15 11 rfl rfl)
theorem dX0_rounds_360 : decode cX0_rounds 360 = .ok (.iload_n 3, 1) := dk_29 (dk_at dksX0_rounds_15 13 rfl rfl)
theorem dX0_rounds_361 : decode cX0_rounds 361 = .ok (.iaload, 1) := dk_46 (dk_at dksX0_rounds_15 14 rfl rfl)
theorem dX0_rounds_362 : decode cX0_rounds 362 = .ok (.ldc_w 301, 3) := dk_19 1 45 (dk_at dksX0_rounds_15 15 rfl rfl)
theorem dX0_rounds_365 : decode cX0_rounds 365 = .ok (.if_icmp .ne 7, 3) := dk_160 0 7 (dk_at dksX0_rounds_15 18 rfl rfl)
theorem dX0_rounds_368 : decode cX0_rounds 368 = .ok (.iconst (-1), 1) := dk_2 (dk_at dksX0_rounds_15 21 rfl rfl)
theorem dX0_rounds_369 : decode cX0_rounds 369 = .ok (.goto 7, 3) := dk_167 0 7 (dk_at dksX0_rounds_16 0 rfl rfl)
theorem dX0_rounds_372 : decode cX0_rounds 372 = .ok (.aload 7, 2) := dk_25 7 (dk_at dksX0_rounds_16 3 rfl rfl)
theorem dX0_rounds_374 : decode cX0_rounds 374 = .ok (.iload_n 3, 1) := dk_29 (dk_at dksX0_rounds_16 5 rfl rfl)
theorem dX0_rounds_375 : decode cX0_rounds 375 = .ok (.iaload, 1) := dk_46 (dk_at dksX0_rounds_16 6 rfl rfl)
theorem dX0_rounds_376 : decode cX0_rounds 376 = .ok (.ireturn, 1) := dk_172 (dk_at dksX0_rounds_16 7 rfl rfl)
abbrev cX0_findTogether : ByteArray := prog_1_method_45_code
def yX0_findTogether : MethodName := ⟨RX0, "findTogether", "(I)V"⟩
def dkwX0_findTogether_7 : List UInt8 := [167, 255, 121, 132, 2, 1, 167, 255, 107, 177]
abbrev dktX0_findTogether_7 : List UInt8 := dkwX0_findTogether_7 ++ []
def dkwX0_findTogether_6 : List UInt8 := [21, 7, 79, 42, 180, 0, 60, 25, 6, 180, 0, 200, 21, 7, 79, 132, 5, 1, 167, 255, 154, 132, 3, 1]
abbrev dktX0_findTogether_6 : List UInt8 := dkwX0_findTogether_6 ++ dktX0_findTogether_7
def dkwX0_findTogether_5 : List UInt8 := [42, 180, 0, 60, 25, 6, 180, 0, 200, 46, 184, 1, 39, 54, 7, 42, 180, 0, 60, 25, 6, 180, 0, 195]
abbrev dktX0_findTogether_5 : List UInt8 := dkwX0_findTogether_5 ++ dktX0_findTogether_6
def dkwX0_findTogether_4 : List UInt8 := [58, 6, 42, 25, 6, 182, 0, 207, 154, 0, 6, 167, 0, 52, 42, 180, 0, 60, 25, 6, 180, 0, 195, 46]
abbrev dktX0_findTogether_4 : List UInt8 := dkwX0_findTogether_4 ++ dktX0_findTogether_5
def dkwX0_findTogether_3 : List UInt8 := [42, 25, 4, 27, 182, 1, 35, 153, 0, 85, 25, 4, 180, 0, 171, 21, 5, 182, 0, 80, 192, 0, 196]
abbrev dktX0_findTogether_3 : List UInt8 := dkwX0_findTogether_3 ++ dktX0_findTogether_4
def dkwX0_findTogether_2 : List UInt8 := [182, 0, 80, 192, 0, 86, 58, 4, 3, 54, 5, 21, 5, 25, 4, 180, 0, 171, 182, 0, 72, 162, 0, 95]
abbrev dktX0_findTogether_2 : List UInt8 := dkwX0_findTogether_2 ++ dktX0_findTogether_3
def dkwX0_findTogether_1 : List UInt8 := [16, 10, 162, 0, 149, 3, 62, 29, 42, 180, 0, 47, 182, 0, 72, 162, 0, 130, 42, 180, 0, 47, 29]
abbrev dktX0_findTogether_1 : List UInt8 := dkwX0_findTogether_1 ++ dktX0_findTogether_2
def dkwX0_findTogether_0 : List UInt8 := [3, 61, 28, 16, 10, 162, 0, 16, 42, 180, 0, 60, 28, 28, 79, 132, 2, 1, 167, 255, 240, 3, 61, 28]
abbrev dktX0_findTogether_0 : List UInt8 := dkwX0_findTogether_0 ++ dktX0_findTogether_1
theorem dksX0_findTogether_0 : cX0_findTogether.data.toList.drop 0 = dktX0_findTogether_0 := by decide +kernel
theorem dksX0_findTogether_1 : cX0_findTogether.data.toList.drop 24 = dktX0_findTogether_1 := dk_seg dksX0_findTogether_0 24 rfl rfl
theorem dksX0_findTogether_2 : cX0_findTogether.data.toList.drop 47 = dktX0_findTogether_2 := dk_seg dksX0_findTogether_1 23 rfl rfl
theorem dksX0_findTogether_3 : cX0_findTogether.data.toList.drop 71 = dktX0_findTogether_3 := dk_seg dksX0_findTogether_2 24 rfl rfl
theorem dksX0_findTogether_4 : cX0_findTogether.data.toList.drop 94 = dktX0_findTogether_4 := dk_seg dksX0_findTogether_3 23 rfl rfl
theorem dksX0_findTogether_5 : cX0_findTogether.data.toList.drop 118 = dktX0_findTogether_5 := dk_seg dksX0_findTogether_4 24 rfl rfl
theorem dksX0_findTogether_6 : cX0_findTogether.data.toList.drop 142 = dktX0_findTogether_6 := dk_seg dksX0_findTogether_5 24 rfl rfl
theorem dksX0_findTogether_7 : cX0_findTogether.data.toList.drop 166 = dktX0_findTogether_7 := dk_seg dksX0_findTogether_6 24 rfl rfl
theorem dX0_findTogether_0 : decode cX0_findTogether 0 = .ok (.iconst 0, 1) := dk_3 (dk_at dksX0_findTogether_0 0 rfl rfl)
theorem dX0_findTogether_1 : decode cX0_findTogether 1 = .ok (.istore_n 2, 1) := dk_61 (dk_at dksX0_findTogether_0 1 rfl rfl)
theorem dX0_findTogether_2 : decode cX0_findTogether 2 = .ok (.iload_n 2, 1) := dk_28 (dk_at dksX0_findTogether_0 2 rfl rfl)
theorem dX0_findTogether_3 : decode cX0_findTogether 3 = .ok (.bipush 10, 2) := dk_16 10 (dk_at dksX0_findTogether_0 3 rfl rfl)
theorem dX0_findTogether_5 : decode cX0_findTogether 5 = .ok (.if_icmp .ge 16, 3) := dk_162 0 16 (dk_at dksX0_findTogether_0 5 rfl rfl)
theorem dX0_findTogether_8 : decode cX0_findTogether 8 = .ok (.aload_n 0, 1) := dk_42 (dk_at dksX0_findTogether_0 8 rfl rfl)
theorem dX0_findTogether_9 : decode cX0_findTogether 9 = .ok (.getfield 60, 3) := dk_180 0 60 (dk_at dksX0_findTogether_0 9 rfl rfl)
theorem dX0_findTogether_12 : decode cX0_findTogether 12 = .ok (.iload_n 2, 1) := dk_28 (dk_at dksX0_findTogether_0 12 rfl rfl)
theorem dX0_findTogether_13 : decode cX0_findTogether 13 = .ok (.iload_n 2, 1) := dk_28 (dk_at dksX0_findTogether_0 13 rfl rfl)
theorem dX0_findTogether_14 : decode cX0_findTogether 14 = .ok (.iastore, 1) := dk_79 (dk_at dksX0_findTogether_0 14 rfl rfl)
theorem dX0_findTogether_15 : decode cX0_findTogether 15 = .ok (.iinc 2 1, 3) := dk_132 2 1 (dk_at dksX0_findTogether_0 15 rfl rfl)
theorem dX0_findTogether_18 : decode cX0_findTogether 18 = .ok (.goto (-16), 3) := dk_167 255 240 (dk_at dksX0_findTogether_0 18 rfl rfl)
theorem dX0_findTogether_21 : decode cX0_findTogether 21 = .ok (.iconst 0, 1) := dk_3 (dk_at dksX0_findTogether_0 21 rfl rfl)
theorem dX0_findTogether_22 : decode cX0_findTogether 22 = .ok (.istore_n 2, 1) := dk_61 (dk_at dksX0_findTogether_0 22 rfl rfl)
theorem dX0_findTogether_23 : decode cX0_findTogether 23 = .ok (.iload_n 2, 1) := dk_28 (dk_at dksX0_findTogether_0 23 rfl rfl)
theorem dX0_findTogether_24 : decode cX0_findTogether 24 = .ok (.bipush 10, 2) := dk_16 10 (dk_at dksX0_findTogether_1 0 rfl rfl)
theorem dX0_findTogether_26 : decode cX0_findTogether 26 = .ok (.if_icmp .ge 149, 3) := dk_162 0 149 (dk_at dksX0_findTogether_1 2 rfl rfl)
theorem dX0_findTogether_29 : decode cX0_findTogether 29 = .ok (.iconst 0, 1) := dk_3 (dk_at dksX0_findTogether_1 5 rfl rfl)
theorem dX0_findTogether_30 : decode cX0_findTogether 30 = .ok (.istore_n 3, 1) := dk_62 (dk_at dksX0_findTogether_1 6 rfl rfl)
theorem dX0_findTogether_31 : decode cX0_findTogether 31 = .ok (.iload_n 3, 1) := dk_29 (dk_at dksX0_findTogether_1 7 rfl rfl)
theorem dX0_findTogether_32 : decode cX0_findTogether 32 = .ok (.aload_n 0, 1) := dk_42 (dk_at dksX0_findTogether_1 8 rfl rfl)
theorem dX0_findTogether_33 : decode cX0_findTogether 33 = .ok (.getfield 47, 3) := dk_180 0 47 (dk_at dksX0_findTogether_1 9 rfl rfl)
theorem dX0_findTogether_36 : decode cX0_findTogether 36 = .ok (.invokevirtual 72, 3) := dk_182 0 72 (dk_at dksX0_findTogether_1 12 rfl rfl)
theorem dX0_findTogether_39 : decode cX0_findTogether 39 = .ok (.if_icmp .ge 130, 3) := dk_162 0 130 (dk_at dksX0_findTogether_1 15 rfl rfl)
theorem dX0_findTogether_42 : decode cX0_findTogether 42 = .ok (.aload_n 0, 1) := dk_42 (dk_at dksX0_findTogether_1 18 rfl rfl)
theorem dX0_findTogether_43 : decode cX0_findTogether 43 = .ok (.getfield 47, 3) := dk_180 0 47 (dk_at dksX0_findTogether_1 19 rfl rfl)
theorem dX0_findTogether_46 : decode cX0_findTogether 46 = .ok (.iload_n 3, 1) := dk_29 (dk_at dksX0_findTogether_1 22 rfl rfl)
theorem dX0_findTogether_47 : decode cX0_findTogether 47 = .ok (.invokevirtual 80, 3) := dk_182 0 80 (dk_at dksX0_findTogether_2 0 rfl rfl)
theorem dX0_findTogether_50 : decode cX0_findTogether 50 = .ok (.checkcast 86, 3) := dk_192 0 86 (dk_at dksX0_findTogether_2 3 rfl rfl)
theorem dX0_findTogether_53 : decode cX0_findTogether 53 = .ok (.astore 4, 2) := dk_58 4 (dk_at dksX0_findTogether_2 6 rfl rfl)
theorem dX0_findTogether_55 : decode cX0_findTogether 55 = .ok (.iconst 0, 1) := dk_3 (dk_at dksX0_findTogether_2 8 rfl rfl)
theorem dX0_findTogether_56 : decode cX0_findTogether 56 = .ok (.istore 5, 2) := dk_54 5 (dk_at dksX0_findTogether_2 9 rfl rfl)
theorem dX0_findTogether_58 : decode cX0_findTogether 58 = .ok (.iload 5, 2) := dk_21 5 (dk_at dksX0_findTogether_2 11 rfl rfl)
theorem dX0_findTogether_60 : decode cX0_findTogether 60 = .ok (.aload 4, 2) := dk_25 4 (dk_at dksX0_findTogether_2 13 rfl rfl)
theorem dX0_findTogether_62 : decode cX0_findTogether 62 = .ok (.getfield 171, 3) := dk_180 0 171 (dk_at dksX0_findTogether_2 15 rfl rfl)
theorem dX0_findTogether_65 : decode cX0_findTogether 65 = .ok (.invokevirtual 72, 3) := dk_182 0 72 (dk_at dksX0_findTogether_2 18 rfl rfl)
theorem dX0_findTogether_68 : decode cX0_findTogether 68 = .ok (.if_icmp .ge 95, 3) := dk_162 0 95 (dk_at dksX0_findTogether_2 21 rfl rfl)
theorem dX0_findTogether_71 : decode cX0_findTogether 71 = .ok (.aload_n 0, 1) := dk_42 (dk_at dksX0_findTogether_3 0 rfl rfl)
theorem dX0_findTogether_72 : decode cX0_findTogether 72 = .ok (.aload 4, 2) := dk_25 4 (dk_at dksX0_findTogether_3 1 rfl rfl)
theorem dX0_findTogether_74 : decode cX0_findTogether 74 = .ok (.iload_n 1, 1) := dk_27 (dk_at dksX0_findTogether_3 3 rfl rfl)
theorem dX0_findTogether_75 : decode cX0_findTogether 75 = .ok (.invokevirtual 291, 3) := dk_182 1 35 (dk_at dksX0_findTogether_3 4 rfl rfl)
theorem dX0_findTogether_78 : decode cX0_findTogether 78 = .ok (.ifCond .eq 85, 3) := dk_153 0 85 (dk_at dksX0_findTogether_3 7 rfl rfl)
theorem dX0_findTogether_81 : decode cX0_findTogether 81 = .ok (.aload 4, 2) := dk_25 4 (dk_at dksX0_findTogether_3 10 rfl rfl)
theorem dX0_findTogether_83 : decode cX0_findTogether 83 = .ok (.getfield 171, 3) := dk_180 0 171 (dk_at dksX0_findTogether_3 12 rfl rfl)
theorem dX0_findTogether_86 : decode cX0_findTogether 86 = .ok (.iload 5, 2) := dk_21 5 (dk_at dksX0_findTogether_3 15 rfl rfl)
theorem dX0_findTogether_88 : decode cX0_findTogether 88 = .ok (.invokevirtual 80, 3) := dk_182 0 80 (dk_at dksX0_findTogether_3 17 rfl rfl)
theorem dX0_findTogether_91 : decode cX0_findTogether 91 = .ok (.checkcast 196, 3) := dk_192 0 196 (dk_at dksX0_findTogether_3 20 rfl rfl)
theorem dX0_findTogether_94 : decode cX0_findTogether 94 = .ok (.astore 6, 2) := dk_58 6 (dk_at dksX0_findTogether_4 0 rfl rfl)
theorem dX0_findTogether_96 : decode cX0_findTogether 96 = .ok (.aload_n 0, 1) := dk_42 (dk_at dksX0_findTogether_4 2 rfl rfl)
theorem dX0_findTogether_97 : decode cX0_findTogether 97 = .ok (.aload 6, 2) := dk_25 6 (dk_at dksX0_findTogether_4 3 rfl rfl)
theorem dX0_findTogether_99 : decode cX0_findTogether 99 = .ok (.invokevirtual 207, 3) := dk_182 0 207 (dk_at dksX0_findTogether_4 5 rfl rfl)
theorem dX0_findTogether_102 : decode cX0_findTogether 102 = .ok (.ifCond .ne 6, 3) := dk_154 0 6 (dk_at dksX0_findTogether_4 8 rfl rfl)
theorem dX0_findTogether_105 : decode cX0_findTogether 105 = .ok (.goto 52, 3) := dk_167 0 52 (dk_at dksX0_findTogether_4 11 rfl rfl)
theorem dX0_findTogether_108 : decode cX0_findTogether 108 = .ok (.aload_n 0, 1) := dk_42 (dk_at dksX0_findTogether_4 14 rfl rfl)
theorem dX0_findTogether_109 : decode cX0_findTogether 109 = .ok (.getfield 60, 3) := dk_180 0 60 (dk_at dksX0_findTogether_4 15 rfl rfl)
theorem dX0_findTogether_112 : decode cX0_findTogether 112 = .ok (.aload 6, 2) := dk_25 6 (dk_at dksX0_findTogether_4 18 rfl rfl)
theorem dX0_findTogether_114 : decode cX0_findTogether 114 = .ok (.getfield 195, 3) := dk_180 0 195 (dk_at dksX0_findTogether_4 20 rfl rfl)
theorem dX0_findTogether_117 : decode cX0_findTogether 117 = .ok (.iaload, 1) := dk_46 (dk_at dksX0_findTogether_4 23 rfl rfl)
theorem dX0_findTogether_118 : decode cX0_findTogether 118 = .ok (.aload_n 0, 1) := dk_42 (dk_at dksX0_findTogether_5 0 rfl rfl)
theorem dX0_findTogether_119 : decode cX0_findTogether 119 = .ok (.getfield 60, 3) := dk_180 0 60 (dk_at dksX0_findTogether_5 1 rfl rfl)
theorem dX0_findTogether_122 : decode cX0_findTogether 122 = .ok (.aload 6, 2) := dk_25 6 (dk_at dksX0_findTogether_5 4 rfl rfl)
theorem dX0_findTogether_124 : decode cX0_findTogether 124 = .ok (.getfield 200, 3) := dk_180 0 200 (dk_at dksX0_findTogether_5 6 rfl rfl)
theorem dX0_findTogether_127 : decode cX0_findTogether 127 = .ok (.iaload, 1) := dk_46 (dk_at dksX0_findTogether_5 9 rfl rfl)
theorem dX0_findTogether_128 : decode cX0_findTogether 128 = .ok (.invokestatic 295, 3) := dk_184 1 39 (dk_at dksX0_findTogether_5 10 rfl rfl)
theorem dX0_findTogether_131 : decode cX0_findTogether 131 = .ok (.istore 7, 2) := dk_54 7 (dk_at dksX0_findTogether_5 13 rfl rfl)
theorem dX0_findTogether_133 : decode cX0_findTogether 133 = .ok (.aload_n 0, 1) := dk_42 (dk_at dksX0_findTogether_5 15 rfl rfl)
theorem dX0_findTogether_134 : decode cX0_findTogether 134 = .ok (.getfield 60, 3) := dk_180 0 60 (dk_at dksX0_findTogether_5 16 rfl rfl)
theorem dX0_findTogether_137 : decode cX0_findTogether 137 = .ok (.aload 6, 2) := dk_25 6 (dk_at dksX0_findTogether_5 19 rfl rfl)
theorem dX0_findTogether_139 : decode cX0_findTogether 139 = .ok (.getfield 195, 3) := dk_180 0 195 (dk_at dksX0_findTogether_5 21 rfl rfl)
theorem dX0_findTogether_142 : decode cX0_findTogether 142 = .ok (.iload 7, 2) := dk_21 7 (dk_at dksX0_findTogether_6 0 rfl rfl)
theorem dX0_findTogether_144 : decode cX0_findTogether 144 = .ok (.iastore, 1) := dk_79 (dk_at dksX0_findTogether_6 2 rfl rfl)
theorem dX0_findTogether_145 : decode cX0_findTogether 145 = .ok (.aload_n 0, 1) := dk_42 (dk_at dksX0_findTogether_6 3 rfl rfl)
theorem dX0_findTogether_146 : decode cX0_findTogether 146 = .ok (.getfield 60, 3) := dk_180 0 60 (dk_at dksX0_findTogether_6 4 rfl rfl)
theorem dX0_findTogether_149 : decode cX0_findTogether 149 = .ok (.aload 6, 2) := dk_25 6 (dk_at dksX0_findTogether_6 7 rfl rfl)
theorem dX0_findTogether_151 : decode cX0_findTogether 151 = .ok (.getfield 200, 3) := dk_180 0 200 (dk_at dksX0_findTogether_6 9 rfl rfl)
theorem dX0_findTogether_154 : decode cX0_findTogether 154 = .ok (.iload 7, 2) := dk_21 7 (dk_at dksX0_findTogether_6 12 rfl rfl)
theorem dX0_findTogether_156 : decode cX0_findTogether 156 = .ok (.iastore, 1) := dk_79 (dk_at dksX0_findTogether_6 14 rfl rfl)
theorem dX0_findTogether_157 : decode cX0_findTogether 157 = .ok (.iinc 5 1, 3) := dk_132 5 1 (dk_at dksX0_findTogether_6 15 rfl rfl)
theorem dX0_findTogether_160 : decode cX0_findTogether 160 = .ok (.goto (-102), 3) := dk_167 255 154 (dk_at dksX0_findTogether_6 18 rfl rfl)
theorem dX0_findTogether_163 : decode cX0_findTogether 163 = .ok (.iinc 3 1, 3) := dk_132 3 1 (dk_at dksX0_findTogether_6 21 rfl rfl)
theorem dX0_findTogether_166 : decode cX0_findTogether 166 = .ok (.goto (-135), 3) := dk_167 255 121 (dk_at dksX0_findTogether_7 0 rfl rfl)
theorem dX0_findTogether_169 : decode cX0_findTogether 169 = .ok (.iinc 2 1, 3) := dk_132 2 1 (dk_at dksX0_findTogether_7 3 rfl rfl)
theorem dX0_findTogether_172 : decode cX0_findTogether 172 = .ok (.goto (-149), 3) := dk_167 255 107 (dk_at dksX0_findTogether_7 6 rfl rfl)
theorem dX0_findTogether_175 : decode cX0_findTogether 175 = .ok (.return_, 1) := dk_177 (dk_at dksX0_findTogether_7 9 rfl rfl)
abbrev cX0_isEven : ByteArray := prog_1_method_44_code
def yX0_isEven : MethodName := ⟨RX0, "isEven", "(LFirstIn$Rule;I)Z"⟩
def dkwX0_isEven_0 : List UInt8 := [43, 182, 0, 145, 4, 160, 0, 15, 43, 28, 182, 0, 203, 153, 0, 7, 4, 167, 0, 4, 3, 172]
abbrev dktX0_isEven_0 : List UInt8 := dkwX0_isEven_0 ++ []
theorem dksX0_isEven_0 : cX0_isEven.data.toList.drop 0 = dktX0_isEven_0 := by decide +kernel
theorem dX0_isEven_0 : decode cX0_isEven 0 = .ok (.aload_n 1, 1) := dk_43 (dk_at dksX0_isEven_0 0 rfl rfl)
theorem dX0_isEven_1 : decode cX0_isEven 1 = .ok (.invokevirtual 145, 3) := dk_182 0 145 (dk_at dksX0_isEven_0 1 rfl rfl)
theorem dX0_isEven_4 : decode cX0_isEven 4 = .ok (.iconst 1, 1) := dk_4 (dk_at dksX0_isEven_0 4 rfl rfl)
theorem dX0_isEven_5 : decode cX0_isEven 5 = .ok (.if_icmp .ne 15, 3) := dk_160 0 15 (dk_at dksX0_isEven_0 5 rfl rfl)
theorem dX0_isEven_8 : decode cX0_isEven 8 = .ok (.aload_n 1, 1) := dk_43 (dk_at dksX0_isEven_0 8 rfl rfl)
theorem dX0_isEven_9 : decode cX0_isEven 9 = .ok (.iload_n 2, 1) := dk_28 (dk_at dksX0_isEven_0 9 rfl rfl)
theorem dX0_isEven_10 : decode cX0_isEven 10 = .ok (.invokevirtual 203, 3) := dk_182 0 203 (dk_at dksX0_isEven_0 10 rfl rfl)
theorem dX0_isEven_13 : decode cX0_isEven 13 = .ok (.ifCond .eq 7, 3) := dk_153 0 7 (dk_at dksX0_isEven_0 13 rfl rfl)
theorem dX0_isEven_16 : decode cX0_isEven 16 = .ok (.iconst 1, 1) := dk_4 (dk_at dksX0_isEven_0 16 rfl rfl)
theorem dX0_isEven_17 : decode cX0_isEven 17 = .ok (.goto 4, 3) := dk_167 0 4 (dk_at dksX0_isEven_0 17 rfl rfl)
theorem dX0_isEven_20 : decode cX0_isEven 20 = .ok (.iconst 0, 1) := dk_3 (dk_at dksX0_isEven_0 20 rfl rfl)
theorem dX0_isEven_21 : decode cX0_isEven 21 = .ok (.ireturn, 1) := dk_172 (dk_at dksX0_isEven_0 21 rfl rfl)
abbrev cX0_mayGo : ByteArray := prog_1_method_47_code
def yX0_mayGo : MethodName := ⟨RX0, "mayGo", "(II[I[I)Z"⟩
def dkwX0_mayGo_2 : List UInt8 := [132, 5, 1, 167, 255, 210, 4, 172]
abbrev dktX0_mayGo_2 : List UInt8 := dkwX0_mayGo_2 ++ []
def dkwX0_mayGo_1 : List UInt8 := [21, 6, 45, 21, 5, 46, 160, 0, 15, 25, 4, 21, 5, 46, 27, 2, 130, 126, 153, 0, 5, 3, 172]
abbrev dktX0_mayGo_1 : List UInt8 := dkwX0_mayGo_1 ++ dktX0_mayGo_2
def dkwX0_mayGo_0 : List UInt8 := [3, 54, 5, 21, 5, 16, 10, 162, 0, 45, 45, 21, 5, 46, 28, 126, 54, 6, 21, 6, 153, 0, 26]
abbrev dktX0_mayGo_0 : List UInt8 := dkwX0_mayGo_0 ++ dktX0_mayGo_1
theorem dksX0_mayGo_0 : cX0_mayGo.data.toList.drop 0 = dktX0_mayGo_0 := by decide +kernel
theorem dksX0_mayGo_1 : cX0_mayGo.data.toList.drop 23 = dktX0_mayGo_1 := dk_seg dksX0_mayGo_0 23 rfl rfl
theorem dksX0_mayGo_2 : cX0_mayGo.data.toList.drop 46 = dktX0_mayGo_2 := dk_seg dksX0_mayGo_1 23 rfl rfl
theorem dX0_mayGo_0 : decode cX0_mayGo 0 = .ok (.iconst 0, 1) := dk_3 (dk_at dksX0_mayGo_0 0 rfl rfl)
theorem dX0_mayGo_1 : decode cX0_mayGo 1 = .ok (.istore 5, 2) := dk_54 5 (dk_at dksX0_mayGo_0 1 rfl rfl)
theorem dX0_mayGo_3 : decode cX0_mayGo 3 = .ok (.iload 5, 2) := dk_21 5 (dk_at dksX0_mayGo_0 3 rfl rfl)
theorem dX0_mayGo_5 : decode cX0_mayGo 5 = .ok (.bipush 10, 2) := dk_16 10 (dk_at dksX0_mayGo_0 5 rfl rfl)
theorem dX0_mayGo_7 : decode cX0_mayGo 7 = .ok (.if_icmp .ge 45, 3) := dk_162 0 45 (dk_at dksX0_mayGo_0 7 rfl rfl)
theorem dX0_mayGo_10 : decode cX0_mayGo 10 = .ok (.aload_n 3, 1) := dk_45 (dk_at dksX0_mayGo_0 10 rfl rfl)
theorem dX0_mayGo_11 : decode cX0_mayGo 11 = .ok (.iload 5, 2) := dk_21 5 (dk_at dksX0_mayGo_0 11 rfl rfl)
theorem dX0_mayGo_13 : decode cX0_mayGo 13 = .ok (.iaload, 1) := dk_46 (dk_at dksX0_mayGo_0 13 rfl rfl)
theorem dX0_mayGo_14 : decode cX0_mayGo 14 = .ok (.iload_n 2, 1) := dk_28 (dk_at dksX0_mayGo_0 14 rfl rfl)
theorem dX0_mayGo_15 : decode cX0_mayGo 15 = .ok (.iand, 1) := dk_126 (dk_at dksX0_mayGo_0 15 rfl rfl)
theorem dX0_mayGo_16 : decode cX0_mayGo 16 = .ok (.istore 6, 2) := dk_54 6 (dk_at dksX0_mayGo_0 16 rfl rfl)
theorem dX0_mayGo_18 : decode cX0_mayGo 18 = .ok (.iload 6, 2) := dk_21 6 (dk_at dksX0_mayGo_0 18 rfl rfl)
theorem dX0_mayGo_20 : decode cX0_mayGo 20 = .ok (.ifCond .eq 26, 3) := dk_153 0 26 (dk_at dksX0_mayGo_0 20 rfl rfl)
theorem dX0_mayGo_23 : decode cX0_mayGo 23 = .ok (.iload 6, 2) := dk_21 6 (dk_at dksX0_mayGo_1 0 rfl rfl)
theorem dX0_mayGo_25 : decode cX0_mayGo 25 = .ok (.aload_n 3, 1) := dk_45 (dk_at dksX0_mayGo_1 2 rfl rfl)
theorem dX0_mayGo_26 : decode cX0_mayGo 26 = .ok (.iload 5, 2) := dk_21 5 (dk_at dksX0_mayGo_1 3 rfl rfl)
theorem dX0_mayGo_28 : decode cX0_mayGo 28 = .ok (.iaload, 1) := dk_46 (dk_at dksX0_mayGo_1 5 rfl rfl)
theorem dX0_mayGo_29 : decode cX0_mayGo 29 = .ok (.if_icmp .ne 15, 3) := dk_160 0 15 (dk_at dksX0_mayGo_1 6 rfl rfl)
theorem dX0_mayGo_32 : decode cX0_mayGo 32 = .ok (.aload 4, 2) := dk_25 4 (dk_at dksX0_mayGo_1 9 rfl rfl)
theorem dX0_mayGo_34 : decode cX0_mayGo 34 = .ok (.iload 5, 2) := dk_21 5 (dk_at dksX0_mayGo_1 11 rfl rfl)
theorem dX0_mayGo_36 : decode cX0_mayGo 36 = .ok (.iaload, 1) := dk_46 (dk_at dksX0_mayGo_1 13 rfl rfl)
theorem dX0_mayGo_37 : decode cX0_mayGo 37 = .ok (.iload_n 1, 1) := dk_27 (dk_at dksX0_mayGo_1 14 rfl rfl)
theorem dX0_mayGo_38 : decode cX0_mayGo 38 = .ok (.iconst (-1), 1) := dk_2 (dk_at dksX0_mayGo_1 15 rfl rfl)
theorem dX0_mayGo_39 : decode cX0_mayGo 39 = .ok (.ixor, 1) := dk_130 (dk_at dksX0_mayGo_1 16 rfl rfl)
theorem dX0_mayGo_40 : decode cX0_mayGo 40 = .ok (.iand, 1) := dk_126 (dk_at dksX0_mayGo_1 17 rfl rfl)
theorem dX0_mayGo_41 : decode cX0_mayGo 41 = .ok (.ifCond .eq 5, 3) := dk_153 0 5 (dk_at dksX0_mayGo_1 18 rfl rfl)
theorem dX0_mayGo_44 : decode cX0_mayGo 44 = .ok (.iconst 0, 1) := dk_3 (dk_at dksX0_mayGo_1 21 rfl rfl)
theorem dX0_mayGo_45 : decode cX0_mayGo 45 = .ok (.ireturn, 1) := dk_172 (dk_at dksX0_mayGo_1 22 rfl rfl)
theorem dX0_mayGo_46 : decode cX0_mayGo 46 = .ok (.iinc 5 1, 3) := dk_132 5 1 (dk_at dksX0_mayGo_2 0 rfl rfl)
theorem dX0_mayGo_49 : decode cX0_mayGo 49 = .ok (.goto (-46), 3) := dk_167 255 210 (dk_at dksX0_mayGo_2 3 rfl rfl)
theorem dX0_mayGo_52 : decode cX0_mayGo 52 = .ok (.iconst 1, 1) := dk_4 (dk_at dksX0_mayGo_2 6 rfl rfl)
theorem dX0_mayGo_53 : decode cX0_mayGo 53 = .ok (.ireturn, 1) := dk_172 (dk_at dksX0_mayGo_2 7 rfl rfl)
abbrev cX0_few : ByteArray := prog_1_method_50_code
def yX0_few : MethodName := ⟨RX0, "few", "(II)I"⟩
def dkwX0_few_8 : List UInt8 := [180, 1, 27, 172, 132, 6, 1, 167, 255, 202, 2, 172]
abbrev dktX0_few_8 : List UInt8 := dkwX0_few_8 ++ []
def dkwX0_few_7 : List UInt8 := [180, 1, 27, 46, 42, 180, 0, 69, 28, 46, 160, 0, 17, 25, 4, 21, 6, 182, 0, 80, 192, 0, 84]
abbrev dktX0_few_7 : List UInt8 := dkwX0_few_7 ++ dktX0_few_8
def dkwX0_few_6 : List UInt8 := [21, 6, 25, 4, 182, 0, 72, 162, 0, 50, 42, 180, 0, 69, 25, 4, 21, 6, 182, 0, 80, 192, 0, 84]
abbrev dktX0_few_6 : List UInt8 := dkwX0_few_6 ++ dktX0_few_7
def dkwX0_few_5 : List UInt8 := [42, 25, 4, 3, 3, 25, 5, 182, 1, 59, 28, 2, 160, 0, 8, 42, 180, 1, 50, 172, 3, 54, 6]
abbrev dktX0_few_5 : List UInt8 := dkwX0_few_5 ++ dktX0_few_6
def dkwX0_few_4 : List UInt8 := [162, 0, 17, 42, 180, 0, 63, 21, 6, 3, 79, 132, 6, 1, 167, 255, 238, 42, 19, 1, 45, 181, 1, 50]
abbrev dktX0_few_4 : List UInt8 := dkwX0_few_4 ++ dktX0_few_5
def dkwX0_few_3 : List UInt8 := [21, 6, 42, 21, 6, 27, 182, 1, 63, 84, 132, 6, 1, 167, 255, 227, 3, 54, 6, 21, 6, 16, 10]
abbrev dktX0_few_3 : List UInt8 := dkwX0_few_3 ++ dktX0_few_4
def dkwX0_few_2 : List UInt8 := [188, 4, 58, 5, 3, 54, 6, 21, 6, 4, 42, 180, 0, 40, 182, 0, 72, 120, 162, 0, 21, 25, 5]
abbrev dktX0_few_2 : List UInt8 := dkwX0_few_2 ++ dktX0_few_3
def dkwX0_few_1 : List UInt8 := [180, 0, 90, 154, 0, 5, 2, 172, 42, 27, 3, 182, 1, 3, 42, 182, 1, 23, 58, 4, 17, 4, 0]
abbrev dktX0_few_1 : List UInt8 := dkwX0_few_1 ++ dktX0_few_2
def dkwX0_few_0 : List UInt8 := [42, 28, 182, 0, 128, 78, 42, 27, 182, 0, 180, 198, 0, 19, 28, 2, 159, 0, 16, 45, 198, 0, 10, 45]
abbrev dktX0_few_0 : List UInt8 := dkwX0_few_0 ++ dktX0_few_1
theorem dksX0_few_0 : cX0_few.data.toList.drop 0 = dktX0_few_0 := by decide +kernel
theorem dksX0_few_1 : cX0_few.data.toList.drop 24 = dktX0_few_1 := dk_seg dksX0_few_0 24 rfl rfl
theorem dksX0_few_2 : cX0_few.data.toList.drop 47 = dktX0_few_2 := dk_seg dksX0_few_1 23 rfl rfl
theorem dksX0_few_3 : cX0_few.data.toList.drop 70 = dktX0_few_3 := dk_seg dksX0_few_2 23 rfl rfl
theorem dksX0_few_4 : cX0_few.data.toList.drop 93 = dktX0_few_4 := dk_seg dksX0_few_3 23 rfl rfl
theorem dksX0_few_5 : cX0_few.data.toList.drop 117 = dktX0_few_5 := dk_seg dksX0_few_4 24 rfl rfl
theorem dksX0_few_6 : cX0_few.data.toList.drop 140 = dktX0_few_6 := dk_seg dksX0_few_5 23 rfl rfl
theorem dksX0_few_7 : cX0_few.data.toList.drop 164 = dktX0_few_7 := dk_seg dksX0_few_6 24 rfl rfl
theorem dksX0_few_8 : cX0_few.data.toList.drop 187 = dktX0_few_8 := dk_seg dksX0_few_7 23 rfl rfl
theorem dX0_few_0 : decode cX0_few 0 = .ok (.aload_n 0, 1) := dk_42 (dk_at dksX0_few_0 0 rfl rfl)
theorem dX0_few_1 : decode cX0_few 1 = .ok (.iload_n 2, 1) := dk_28 (dk_at dksX0_few_0 1 rfl rfl)
theorem dX0_few_2 : decode cX0_few 2 = .ok (.invokevirtual 128, 3) := dk_182 0 128 (dk_at dksX0_few_0 2 rfl rfl)
theorem dX0_few_5 : decode cX0_few 5 = .ok (.astore_n 3, 1) := dk_78 (dk_at dksX0_few_0 5 rfl rfl)
theorem dX0_few_6 : decode cX0_few 6 = .ok (.aload_n 0, 1) := dk_42 (dk_at dksX0_few_0 6 rfl rfl)
theorem dX0_few_7 : decode cX0_few 7 = .ok (.iload_n 1, 1) := dk_27 (dk_at dksX0_few_0 7 rfl rfl)
theorem dX0_few_8 : decode cX0_few 8 = .ok (.invokevirtual 180, 3) := dk_182 0 180 (dk_at dksX0_few_0 8 rfl rfl)
theorem dX0_few_11 : decode cX0_few 11 = .ok (.ifnull 19, 3) := dk_198 0 19 (dk_at dksX0_few_0 11 rfl rfl)
theorem dX0_few_14 : decode cX0_few 14 = .ok (.iload_n 2, 1) := dk_28 (dk_at dksX0_few_0 14 rfl rfl)
theorem dX0_few_15 : decode cX0_few 15 = .ok (.iconst (-1), 1) := dk_2 (dk_at dksX0_few_0 15 rfl rfl)
theorem dX0_few_16 : decode cX0_few 16 = .ok (.if_icmp .eq 16, 3) := dk_159 0 16 (dk_at dksX0_few_0 16 rfl rfl)
theorem dX0_few_19 : decode cX0_few 19 = .ok (.aload_n 3, 1) := dk_45 (dk_at dksX0_few_0 19 rfl rfl)
theorem dX0_few_20 : decode cX0_few 20 = .ok (.ifnull 10, 3) := dk_198 0 10 (dk_at dksX0_few_0 20 rfl rfl)
theorem dX0_few_23 : decode cX0_few 23 = .ok (.aload_n 3, 1) := dk_45 (dk_at dksX0_few_0 23 rfl rfl)
theorem dX0_few_24 : decode cX0_few 24 = .ok (.getfield 90, 3) := dk_180 0 90 (dk_at dksX0_few_1 0 rfl rfl)
theorem dX0_few_27 : decode cX0_few 27 = .ok (.ifCond .ne 5, 3) := dk_154 0 5 (dk_at dksX0_few_1 3 rfl rfl)
theorem dX0_few_30 : decode cX0_few 30 = .ok (.iconst (-1), 1) := dk_2 (dk_at dksX0_few_1 6 rfl rfl)
theorem dX0_few_31 : decode cX0_few 31 = .ok (.ireturn, 1) := dk_172 (dk_at dksX0_few_1 7 rfl rfl)
theorem dX0_few_32 : decode cX0_few 32 = .ok (.aload_n 0, 1) := dk_42 (dk_at dksX0_few_1 8 rfl rfl)
theorem dX0_few_33 : decode cX0_few 33 = .ok (.iload_n 1, 1) := dk_27 (dk_at dksX0_few_1 9 rfl rfl)
theorem dX0_few_34 : decode cX0_few 34 = .ok (.iconst 0, 1) := dk_3 (dk_at dksX0_few_1 10 rfl rfl)
theorem dX0_few_35 : decode cX0_few 35 = .ok (.invokevirtual 259, 3) := dk_182 1 3 (dk_at dksX0_few_1 11 rfl rfl)
theorem dX0_few_38 : decode cX0_few 38 = .ok (.aload_n 0, 1) := dk_42 (dk_at dksX0_few_1 14 rfl rfl)
theorem dX0_few_39 : decode cX0_few 39 = .ok (.invokevirtual 279, 3) := dk_182 1 23 (dk_at dksX0_few_1 15 rfl rfl)
theorem dX0_few_42 : decode cX0_few 42 = .ok (.astore 4, 2) := dk_58 4 (dk_at dksX0_few_1 18 rfl rfl)
theorem dX0_few_44 : decode cX0_few 44 = .ok (.sipush 1024, 3) := dk_17 4 0 (dk_at dksX0_few_1 20 rfl rfl)
theorem dX0_few_47 : decode cX0_few 47 = .ok (.newarray .boolean, 2) := dk_188_4 (dk_at dksX0_few_2 0 rfl rfl)
theorem dX0_few_49 : decode cX0_few 49 = .ok (.astore 5, 2) := dk_58 5 (dk_at dksX0_few_2 2 rfl rfl)
theorem dX0_few_51 : decode cX0_few 51 = .ok (.iconst 0, 1) := dk_3 (dk_at dksX0_few_2 4 rfl rfl)
theorem dX0_few_52 : decode cX0_few 52 = .ok (.istore 6, 2) := dk_54 6 (dk_at dksX0_few_2 5 rfl rfl)
theorem dX0_few_54 : decode cX0_few 54 = .ok (.iload 6, 2) := dk_21 6 (dk_at dksX0_few_2 7 rfl rfl)
theorem dX0_few_56 : decode cX0_few 56 = .ok (.iconst 1, 1) := dk_4 (dk_at dksX0_few_2 9 rfl rfl)
theorem dX0_few_57 : decode cX0_few 57 = .ok (.aload_n 0, 1) := dk_42 (dk_at dksX0_few_2 10 rfl rfl)
theorem dX0_few_58 : decode cX0_few 58 = .ok (.getfield 40, 3) := dk_180 0 40 (dk_at dksX0_few_2 11 rfl rfl)
theorem dX0_few_61 : decode cX0_few 61 = .ok (.invokevirtual 72, 3) := dk_182 0 72 (dk_at dksX0_few_2 14 rfl rfl)
theorem dX0_few_64 : decode cX0_few 64 = .ok (.ishl, 1) := dk_120 (dk_at dksX0_few_2 17 rfl rfl)
theorem dX0_few_65 : decode cX0_few 65 = .ok (.if_icmp .ge 21, 3) := dk_162 0 21 (dk_at dksX0_few_2 18 rfl rfl)
theorem dX0_few_68 : decode cX0_few 68 = .ok (.aload 5, 2) := dk_25 5 (dk_at dksX0_few_2 21 rfl rfl)
theorem dX0_few_70 : decode cX0_few 70 = .ok (.iload 6, 2) := dk_21 6 (dk_at dksX0_few_3 0 rfl rfl)
theorem dX0_few_72 : decode cX0_few 72 = .ok (.aload_n 0, 1) := dk_42 (dk_at dksX0_few_3 2 rfl rfl)
theorem dX0_few_73 : decode cX0_few 73 = .ok (.iload 6, 2) := dk_21 6 (dk_at dksX0_few_3 3 rfl rfl)
theorem dX0_few_75 : decode cX0_few 75 = .ok (.iload_n 1, 1) := dk_27 (dk_at dksX0_few_3 5 rfl rfl)
theorem dX0_few_76 : decode cX0_few 76 = .ok (.invokevirtual 319, 3) := dk_182 1 63 (dk_at dksX0_few_3 6 rfl rfl)
theorem dX0_few_79 : decode cX0_few 79 = .ok (.bastore, 1) := dk_84 (dk_at dksX0_few_3 9 rfl rfl)
theorem dX0_few_80 : decode cX0_few 80 = .ok (.iinc 6 1, 3) := dk_132 6 1 (dk_at dksX0_few_3 10 rfl rfl)
theorem dX0_few_83 : decode cX0_few 83 = .ok (.goto (-29), 3) := dk_167 255 227 (dk_at dksX0_few_3 13 rfl rfl)
theorem dX0_few_86 : decode cX0_few 86 = .ok (.iconst 0, 1) := dk_3 (dk_at dksX0_few_3 16 rfl rfl)
theorem dX0_few_87 : decode cX0_few 87 = .ok (.istore 6, 2) := dk_54 6 (dk_at dksX0_few_3 17 rfl rfl)
theorem dX0_few_89 : decode cX0_few 89 = .ok (.iload 6, 2) := dk_21 6 (dk_at dksX0_few_3 19 rfl rfl)
theorem dX0_few_91 : decode cX0_few 91 = .ok (.bipush 10, 2) := dk_16 10 (dk_at dksX0_few_3 21 rfl rfl)
theorem dX0_few_93 : decode cX0_few 93 = .ok (.if_icmp .ge 17, 3) := dk_162 0 17 (dk_at dksX0_few_4 0 rfl rfl)
theorem dX0_few_96 : decode cX0_few 96 = .ok (.aload_n 0, 1) := dk_42 (dk_at dksX0_few_4 3 rfl rfl)
theorem dX0_few_97 : decode cX0_few 97 = .ok (.getfield 63, 3) := dk_180 0 63 (dk_at dksX0_few_4 4 rfl rfl)
theorem dX0_few_100 : decode cX0_few 100 = .ok (.iload 6, 2) := dk_21 6 (dk_at dksX0_few_4 7 rfl rfl)
theorem dX0_few_102 : decode cX0_few 102 = .ok (.iconst 0, 1) := dk_3 (dk_at dksX0_few_4 9 rfl rfl)
theorem dX0_few_103 : decode cX0_few 103 = .ok (.iastore, 1) := dk_79 (dk_at dksX0_few_4 10 rfl rfl)
theorem dX0_few_104 : decode cX0_few 104 = .ok (.iinc 6 1, 3) := dk_132 6 1 (dk_at dksX0_few_4 11 rfl rfl)
theorem dX0_few_107 : decode cX0_few 107 = .ok (.goto (-18), 3) := dk_167 255 238 (dk_at dksX0_few_4 14 rfl rfl)
theorem dX0_few_110 : decode cX0_few 110 = .ok (.aload_n 0, 1) := dk_42 (dk_at dksX0_few_4 17 rfl rfl)
theorem dX0_few_111 : decode cX0_few 111 = .ok (.ldc_w 301, 3) := dk_19 1 45 (dk_at dksX0_few_4 18 rfl rfl)
theorem dX0_few_114 : decode cX0_few 114 = .ok (.putfield 306, 3) := dk_181 1 50 (dk_at dksX0_few_4 21 rfl rfl)
theorem dX0_few_117 : decode cX0_few 117 = .ok (.aload_n 0, 1) := dk_42 (dk_at dksX0_few_5 0 rfl rfl)
theorem dX0_few_118 : decode cX0_few 118 = .ok (.aload 4, 2) := dk_25 4 (dk_at dksX0_few_5 1 rfl rfl)
theorem dX0_few_120 : decode cX0_few 120 = .ok (.iconst 0, 1) := dk_3 (dk_at dksX0_few_5 3 rfl rfl)
theorem dX0_few_121 : decode cX0_few 121 = .ok (.iconst 0, 1) := dk_3 (dk_at dksX0_few_5 4 rfl rfl)
theorem dX0_few_122 : decode cX0_few 122 = .ok (.aload 5, 2) := dk_25 5 (dk_at dksX0_few_5 5 rfl rfl)
theorem dX0_few_124 : decode cX0_few 124 = .ok (.invokevirtual 315, 3) := dk_182 1 59 (dk_at dksX0_few_5 7 rfl rfl)
theorem dX0_few_127 : decode cX0_few 127 = .ok (.iload_n 2, 1) := dk_28 (dk_at dksX0_few_5 10 rfl rfl)
theorem dX0_few_128 : decode cX0_few 128 = .ok (.iconst (-1), 1) := dk_2 (dk_at dksX0_few_5 11 rfl rfl)
theorem dX0_few_129 : decode cX0_few 129 = .ok (.if_icmp .ne 8, 3) := dk_160 0 8 (dk_at dksX0_few_5 12 rfl rfl)
theorem dX0_few_132 : decode cX0_few 132 = .ok (.aload_n 0, 1) := dk_42 (dk_at dksX0_few_5 15 rfl rfl)
theorem dX0_few_133 : decode cX0_few 133 = .ok (.getfield 306, 3) := dk_180 1 50 (dk_at dksX0_few_5 16 rfl rfl)
theorem dX0_few_136 : decode cX0_few 136 = .ok (.ireturn, 1) := dk_172 (dk_at dksX0_few_5 19 rfl rfl)
theorem dX0_few_137 : decode cX0_few 137 = .ok (.iconst 0, 1) := dk_3 (dk_at dksX0_few_5 20 rfl rfl)
theorem dX0_few_138 : decode cX0_few 138 = .ok (.istore 6, 2) := dk_54 6 (dk_at dksX0_few_5 21 rfl rfl)
theorem dX0_few_140 : decode cX0_few 140 = .ok (.iload 6, 2) := dk_21 6 (dk_at dksX0_few_6 0 rfl rfl)
theorem dX0_few_142 : decode cX0_few 142 = .ok (.aload 4, 2) := dk_25 4 (dk_at dksX0_few_6 2 rfl rfl)
theorem dX0_few_144 : decode cX0_few 144 = .ok (.invokevirtual 72, 3) := dk_182 0 72 (dk_at dksX0_few_6 4 rfl rfl)
theorem dX0_few_147 : decode cX0_few 147 = .ok (.if_icmp .ge 50, 3) := dk_162 0 50 (dk_at dksX0_few_6 7 rfl rfl)
theorem dX0_few_150 : decode cX0_few 150 = .ok (.aload_n 0, 1) := dk_42 (dk_at dksX0_few_6 10 rfl rfl)
theorem dX0_few_151 : decode cX0_few 151 = .ok (.getfield 69, 3) := dk_180 0 69 (dk_at dksX0_few_6 11 rfl rfl)
theorem dX0_few_154 : decode cX0_few 154 = .ok (.aload 4, 2) := dk_25 4 (dk_at dksX0_few_6 14 rfl rfl)
theorem dX0_few_156 : decode cX0_few 156 = .ok (.iload 6, 2) := dk_21 6 (dk_at dksX0_few_6 16 rfl rfl)
theorem dX0_few_158 : decode cX0_few 158 = .ok (.invokevirtual 80, 3) := dk_182 0 80 (dk_at dksX0_few_6 18 rfl rfl)
theorem dX0_few_161 : decode cX0_few 161 = .ok (.checkcast 84, 3) := dk_192 0 84 (dk_at dksX0_few_6 21 rfl rfl)
theorem dX0_few_164 : decode cX0_few 164 = .ok (.getfield 283, 3) := dk_180 1 27 (dk_at dksX0_few_7 0 rfl rfl)
theorem dX0_few_167 : decode cX0_few 167 = .ok (.iaload, 1) := dk_46 (dk_at dksX0_few_7 3 rfl rfl)
theorem dX0_few_168 : decode cX0_few 168 = .ok (.aload_n 0, 1) := dk_42 (dk_at dksX0_few_7 4 rfl rfl)
theorem dX0_few_169 : decode cX0_few 169 = .ok (.getfield 69, 3) := dk_180 0 69 (dk_at dksX0_few_7 5 rfl rfl)
theorem dX0_few_172 : decode cX0_few 172 = .ok (.iload_n 2, 1) := dk_28 (dk_at dksX0_few_7 8 rfl rfl)
theorem dX0_few_173 : decode cX0_few 173 = .ok (.iaload, 1) := dk_46 (dk_at dksX0_few_7 9 rfl rfl)
theorem dX0_few_174 : decode cX0_few 174 = .ok (.if_icmp .ne 17, 3) := dk_160 0 17 (dk_at dksX0_few_7 10 rfl rfl)
theorem dX0_few_177 : decode cX0_few 177 = .ok (.aload 4, 2) := dk_25 4 (dk_at dksX0_few_7 13 rfl rfl)
theorem dX0_few_179 : decode cX0_few 179 = .ok (.iload 6, 2) := dk_21 6 (dk_at dksX0_few_7 15 rfl rfl)
theorem dX0_few_181 : decode cX0_few 181 = .ok (.invokevirtual 80, 3) := dk_182 0 80 (dk_at dksX0_few_7 17 rfl rfl)
theorem dX0_few_184 : decode cX0_few 184 = .ok (.checkcast 84, 3) := dk_192 0 84 (dk_at dksX0_few_7 20 rfl rfl)
theorem dX0_few_187 : decode cX0_few 187 = .ok (.getfield 283, 3) := dk_180 1 27 (dk_at dksX0_few_8 0 rfl rfl)
theorem dX0_few_190 : decode cX0_few 190 = .ok (.ireturn, 1) := dk_172 (dk_at dksX0_few_8 3 rfl rfl)
theorem dX0_few_191 : decode cX0_few 191 = .ok (.iinc 6 1, 3) := dk_132 6 1 (dk_at dksX0_few_8 4 rfl rfl)
theorem dX0_few_194 : decode cX0_few 194 = .ok (.goto (-54), 3) := dk_167 255 202 (dk_at dksX0_few_8 7 rfl rfl)
theorem dX0_few_197 : decode cX0_few 197 = .ok (.iconst (-1), 1) := dk_2 (dk_at dksX0_few_8 10 rfl rfl)
theorem dX0_few_198 : decode cX0_few 198 = .ok (.ireturn, 1) := dk_172 (dk_at dksX0_few_8 11 rfl rfl)
abbrev cX0_isHeap : ByteArray := prog_1_method_48_code
def yX0_isHeap : MethodName := ⟨RX0, "isHeap", "(II)Z"⟩
def dkwX0_isHeap_10 : List UInt8 := [172]
abbrev dktX0_isHeap_10 : List UInt8 := dkwX0_isHeap_10 ++ []
def dkwX0_isHeap_9 : List UInt8 := [180, 0, 195, 182, 0, 253, 153, 0, 5, 3, 172, 132, 7, 1, 167, 255, 141, 132, 5, 1, 167, 255, 106, 4]
abbrev dktX0_isHeap_9 : List UInt8 := dkwX0_isHeap_9 ++ dktX0_isHeap_10
def dkwX0_isHeap_8 : List UInt8 := [25, 8, 180, 0, 195, 25, 8, 180, 0, 200, 182, 0, 253, 154, 0, 20, 42, 25, 8, 180, 0, 200, 25, 8]
abbrev dktX0_isHeap_8 : List UInt8 := dkwX0_isHeap_8 ++ dktX0_isHeap_9
def dkwX0_isHeap_7 : List UInt8 := [180, 0, 200, 122, 4, 126, 4, 160, 0, 7, 4, 167, 0, 4, 3, 54, 9, 21, 9, 153, 0, 39, 42]
abbrev dktX0_isHeap_7 : List UInt8 := dkwX0_isHeap_7 ++ dktX0_isHeap_8
def dkwX0_isHeap_6 : List UInt8 := [182, 0, 80, 192, 0, 196, 58, 8, 27, 25, 8, 180, 0, 195, 122, 4, 126, 4, 160, 0, 20, 27, 25, 8]
abbrev dktX0_isHeap_6 : List UInt8 := dkwX0_isHeap_6 ++ dktX0_isHeap_7
def dkwX0_isHeap_5 : List UInt8 := [182, 0, 72, 162, 0, 108, 42, 25, 6, 28, 182, 1, 35, 153, 0, 98, 25, 6, 180, 0, 171, 21, 7]
abbrev dktX0_isHeap_5 : List UInt8 := dkwX0_isHeap_5 ++ dktX0_isHeap_6
def dkwX0_isHeap_4 : List UInt8 := [42, 180, 0, 47, 21, 5, 182, 0, 80, 192, 0, 86, 58, 6, 3, 54, 7, 21, 7, 25, 6, 180, 0, 171]
abbrev dktX0_isHeap_4 : List UInt8 := dkwX0_isHeap_4 ++ dktX0_isHeap_5
def dkwX0_isHeap_3 : List UInt8 := [167, 255, 193, 29, 153, 0, 5, 3, 172, 3, 54, 5, 21, 5, 42, 180, 0, 47, 182, 0, 72, 162, 0, 144]
abbrev dktX0_isHeap_3 : List UInt8 := dkwX0_isHeap_3 ++ dktX0_isHeap_4
def dkwX0_isHeap_2 : List UInt8 := [153, 0, 6, 167, 0, 13, 29, 4, 21, 5, 120, 130, 62, 4, 54, 4, 132, 5, 1, 167, 255, 207]
abbrev dktX0_isHeap_2 : List UInt8 := dkwX0_isHeap_2 ++ dktX0_isHeap_3
def dkwX0_isHeap_1 : List UInt8 := [182, 0, 72, 162, 0, 43, 29, 21, 5, 122, 4, 126, 153, 0, 28, 42, 180, 0, 53, 21, 5, 46, 29, 126]
abbrev dktX0_isHeap_1 : List UInt8 := dkwX0_isHeap_1 ++ dktX0_isHeap_2
def dkwX0_isHeap_0 : List UInt8 := [27, 62, 4, 54, 4, 21, 4, 153, 0, 64, 3, 54, 4, 3, 54, 5, 21, 5, 42, 180, 0, 40]
abbrev dktX0_isHeap_0 : List UInt8 := dkwX0_isHeap_0 ++ dktX0_isHeap_1
theorem dksX0_isHeap_0 : cX0_isHeap.data.toList.drop 0 = dktX0_isHeap_0 := by decide +kernel
theorem dksX0_isHeap_1 : cX0_isHeap.data.toList.drop 22 = dktX0_isHeap_1 := dk_seg dksX0_isHeap_0 22 rfl rfl
theorem dksX0_isHeap_2 : cX0_isHeap.data.toList.drop 46 = dktX0_isHeap_2 := dk_seg dksX0_isHeap_1 24 rfl rfl
theorem dksX0_isHeap_3 : cX0_isHeap.data.toList.drop 68 = dktX0_isHeap_3 := dk_seg dksX0_isHeap_2 22 rfl rfl
theorem dksX0_isHeap_4 : cX0_isHeap.data.toList.drop 92 = dktX0_isHeap_4 := dk_seg dksX0_isHeap_3 24 rfl rfl
theorem dksX0_isHeap_5 : cX0_isHeap.data.toList.drop 116 = dktX0_isHeap_5 := dk_seg dksX0_isHeap_4 24 rfl rfl
theorem dksX0_isHeap_6 : cX0_isHeap.data.toList.drop 139 = dktX0_isHeap_6 := dk_seg dksX0_isHeap_5 23 rfl rfl
theorem dksX0_isHeap_7 : cX0_isHeap.data.toList.drop 163 = dktX0_isHeap_7 := dk_seg dksX0_isHeap_6 24 rfl rfl
theorem dksX0_isHeap_8 : cX0_isHeap.data.toList.drop 186 = dktX0_isHeap_8 := dk_seg dksX0_isHeap_7 23 rfl rfl
theorem dksX0_isHeap_9 : cX0_isHeap.data.toList.drop 210 = dktX0_isHeap_9 := dk_seg dksX0_isHeap_8 24 rfl rfl
theorem dksX0_isHeap_10 : cX0_isHeap.data.toList.drop 234 = dktX0_isHeap_10 := dk_seg dksX0_isHeap_9 24 rfl rfl
theorem dX0_isHeap_0 : decode cX0_isHeap 0 = .ok (.iload_n 1, 1) := dk_27 (dk_at dksX0_isHeap_0 0 rfl rfl)
theorem dX0_isHeap_1 : decode cX0_isHeap 1 = .ok (.istore_n 3, 1) := dk_62 (dk_at dksX0_isHeap_0 1 rfl rfl)
theorem dX0_isHeap_2 : decode cX0_isHeap 2 = .ok (.iconst 1, 1) := dk_4 (dk_at dksX0_isHeap_0 2 rfl rfl)
theorem dX0_isHeap_3 : decode cX0_isHeap 3 = .ok (.istore 4, 2) := dk_54 4 (dk_at dksX0_isHeap_0 3 rfl rfl)
theorem dX0_isHeap_5 : decode cX0_isHeap 5 = .ok (.iload 4, 2) := dk_21 4 (dk_at dksX0_isHeap_0 5 rfl rfl)
theorem dX0_isHeap_7 : decode cX0_isHeap 7 = .ok (.ifCond .eq 64, 3) := dk_153 0 64 (dk_at dksX0_isHeap_0 7 rfl rfl)
theorem dX0_isHeap_10 : decode cX0_isHeap 10 = .ok (.iconst 0, 1) := dk_3 (dk_at dksX0_isHeap_0 10 rfl rfl)
theorem dX0_isHeap_11 : decode cX0_isHeap 11 = .ok (.istore 4, 2) := dk_54 4 (dk_at dksX0_isHeap_0 11 rfl rfl)
theorem dX0_isHeap_13 : decode cX0_isHeap 13 = .ok (.iconst 0, 1) := dk_3 (dk_at dksX0_isHeap_0 13 rfl rfl)
theorem dX0_isHeap_14 : decode cX0_isHeap 14 = .ok (.istore 5, 2) := dk_54 5 (dk_at dksX0_isHeap_0 14 rfl rfl)
theorem dX0_isHeap_16 : decode cX0_isHeap 16 = .ok (.iload 5, 2) := dk_21 5 (dk_at dksX0_isHeap_0 16 rfl rfl)
theorem dX0_isHeap_18 : decode cX0_isHeap 18 = .ok (.aload_n 0, 1) := dk_42 (dk_at dksX0_isHeap_0 18 rfl rfl)
theorem dX0_isHeap_19 : decode cX0_isHeap 19 = .ok (.getfield 40, 3) := dk_180 0 40 (dk_at dksX0_isHeap_0 19 rfl rfl)
theorem dX0_isHeap_22 : decode cX0_isHeap 22 = .ok (.invokevirtual 72, 3) := dk_182 0 72 (dk_at dksX0_isHeap_1 0 rfl rfl)
theorem dX0_isHeap_25 : decode cX0_isHeap 25 = .ok (.if_icmp .ge 43, 3) := dk_162 0 43 (dk_at dksX0_isHeap_1 3 rfl rfl)
theorem dX0_isHeap_28 : decode cX0_isHeap 28 = .ok (.iload_n 3, 1) := dk_29 (dk_at dksX0_isHeap_1 6 rfl rfl)
theorem dX0_isHeap_29 : decode cX0_isHeap 29 = .ok (.iload 5, 2) := dk_21 5 (dk_at dksX0_isHeap_1 7 rfl rfl)
theorem dX0_isHeap_31 : decode cX0_isHeap 31 = .ok (.ishr, 1) := dk_122 (dk_at dksX0_isHeap_1 9 rfl rfl)
theorem dX0_isHeap_32 : decode cX0_isHeap 32 = .ok (.iconst 1, 1) := dk_4 (dk_at dksX0_isHeap_1 10 rfl rfl)
theorem dX0_isHeap_33 : decode cX0_isHeap 33 = .ok (.iand, 1) := dk_126 (dk_at dksX0_isHeap_1 11 rfl rfl)
theorem dX0_isHeap_34 : decode cX0_isHeap 34 = .ok (.ifCond .eq 28, 3) := dk_153 0 28 (dk_at dksX0_isHeap_1 12 rfl rfl)
theorem dX0_isHeap_37 : decode cX0_isHeap 37 = .ok (.aload_n 0, 1) := dk_42 (dk_at dksX0_isHeap_1 15 rfl rfl)
theorem dX0_isHeap_38 : decode cX0_isHeap 38 = .ok (.getfield 53, 3) := dk_180 0 53 (dk_at dksX0_isHeap_1 16 rfl rfl)
theorem dX0_isHeap_41 : decode cX0_isHeap 41 = .ok (.iload 5, 2) := dk_21 5 (dk_at dksX0_isHeap_1 19 rfl rfl)
theorem dX0_isHeap_43 : decode cX0_isHeap 43 = .ok (.iaload, 1) := dk_46 (dk_at dksX0_isHeap_1 21 rfl rfl)
theorem dX0_isHeap_44 : decode cX0_isHeap 44 = .ok (.iload_n 3, 1) := dk_29 (dk_at dksX0_isHeap_1 22 rfl rfl)
theorem dX0_isHeap_45 : decode cX0_isHeap 45 = .ok (.iand, 1) := dk_126 (dk_at dksX0_isHeap_1 23 rfl rfl)
theorem dX0_isHeap_46 : decode cX0_isHeap 46 = .ok (.ifCond .eq 6, 3) := dk_153 0 6 (dk_at dksX0_isHeap_2 0 rfl rfl)
theorem dX0_isHeap_49 : decode cX0_isHeap 49 = .ok (.goto 13, 3) := dk_167 0 13 (dk_at dksX0_isHeap_2 3 rfl rfl)
theorem dX0_isHeap_52 : decode cX0_isHeap 52 = .ok (.iload_n 3, 1) := dk_29 (dk_at dksX0_isHeap_2 6 rfl rfl)
theorem dX0_isHeap_53 : decode cX0_isHeap 53 = .ok (.iconst 1, 1) := dk_4 (dk_at dksX0_isHeap_2 7 rfl rfl)
theorem dX0_isHeap_54 : decode cX0_isHeap 54 = .ok (.iload 5, 2) := dk_21 5 (dk_at dksX0_isHeap_2 8 rfl rfl)
theorem dX0_isHeap_56 : decode cX0_isHeap 56 = .ok (.ishl, 1) := dk_120 (dk_at dksX0_isHeap_2 10 rfl rfl)
theorem dX0_isHeap_57 : decode cX0_isHeap 57 = .ok (.ixor, 1) := dk_130 (dk_at dksX0_isHeap_2 11 rfl rfl)
theorem dX0_isHeap_58 : decode cX0_isHeap 58 = .ok (.istore_n 3, 1) := dk_62 (dk_at dksX0_isHeap_2 12 rfl rfl)
theorem dX0_isHeap_59 : decode cX0_isHeap 59 = .ok (.iconst 1, 1) := dk_4 (dk_at dksX0_isHeap_2 13 rfl rfl)
theorem dX0_isHeap_60 : decode cX0_isHeap 60 = .ok (.istore 4, 2) := dk_54 4 (dk_at dksX0_isHeap_2 14 rfl rfl)
theorem dX0_isHeap_62 : decode cX0_isHeap 62 = .ok (.iinc 5 1, 3) := dk_132 5 1 (dk_at dksX0_isHeap_2 16 rfl rfl)
theorem dX0_isHeap_65 : decode cX0_isHeap 65 = .ok (.goto (-49), 3) := dk_167 255 207 (dk_at dksX0_isHeap_2 19 rfl rfl)
theorem dX0_isHeap_68 : decode cX0_isHeap 68 = .ok (.goto (-63), 3) := dk_167 255 193 (dk_at dksX0_isHeap_3 0 rfl rfl)
theorem dX0_isHeap_71 : decode cX0_isHeap 71 = .ok (.iload_n 3, 1) := dk_29 (dk_at dksX0_isHeap_3 3 rfl rfl)
theorem dX0_isHeap_72 : decode cX0_isHeap 72 = .ok (.ifCond .eq 5, 3) := dk_153 0 5 (dk_at dksX0_isHeap_3 4 rfl rfl)
theorem dX0_isHeap_75 : decode cX0_isHeap 75 = .ok (.iconst 0, 1) := dk_3 (dk_at dksX0_isHeap_3 7 rfl rfl)
theorem dX0_isHeap_76 : decode cX0_isHeap 76 = .ok (.ireturn, 1) := dk_172 (dk_at dksX0_isHeap_3 8 rfl rfl)
theorem dX0_isHeap_77 : decode cX0_isHeap 77 = .ok (.iconst 0, 1) := dk_3 (dk_at dksX0_isHeap_3 9 rfl rfl)
theorem dX0_isHeap_78 : decode cX0_isHeap 78 = .ok (.istore 5, 2) := dk_54 5 (dk_at dksX0_isHeap_3 10 rfl rfl)
theorem dX0_isHeap_80 : decode cX0_isHeap 80 = .ok (.iload 5, 2) := dk_21 5 (dk_at dksX0_isHeap_3 12 rfl rfl)
theorem dX0_isHeap_82 : decode cX0_isHeap 82 = .ok (.aload_n 0, 1) := dk_42 (dk_at dksX0_isHeap_3 14 rfl rfl)
theorem dX0_isHeap_83 : decode cX0_isHeap 83 = .ok (.getfield 47, 3) := dk_180 0 47 (dk_at dksX0_isHeap_3 15 rfl rfl)
theorem dX0_isHeap_86 : decode cX0_isHeap 86 = .ok (.invokevirtual 72, 3) := dk_182 0 72 (dk_at dksX0_isHeap_3 18 rfl rfl)
theorem dX0_isHeap_89 : decode cX0_isHeap 89 = .ok (.if_icmp .ge 144, 3) := dk_162 0 144 (dk_at dksX0_isHeap_3 21 rfl rfl)
theorem dX0_isHeap_92 : decode cX0_isHeap 92 = .ok (.aload_n 0, 1) := dk_42 (dk_at dksX0_isHeap_4 0 rfl rfl)
theorem dX0_isHeap_93 : decode cX0_isHeap 93 = .ok (.getfield 47, 3) := dk_180 0 47 (dk_at dksX0_isHeap_4 1 rfl rfl)
theorem dX0_isHeap_96 : decode cX0_isHeap 96 = .ok (.iload 5, 2) := dk_21 5 (dk_at dksX0_isHeap_4 4 rfl rfl)
theorem dX0_isHeap_98 : decode cX0_isHeap 98 = .ok (.invokevirtual 80, 3) := dk_182 0 80 (dk_at dksX0_isHeap_4 6 rfl rfl)
theorem dX0_isHeap_101 : decode cX0_isHeap 101 = .ok (.checkcast 86, 3) := dk_192 0 86 (dk_at dksX0_isHeap_4 9 rfl rfl)
theorem dX0_isHeap_104 : decode cX0_isHeap 104 = .ok (.astore 6, 2) := dk_58 6 (dk_at dksX0_isHeap_4 12 rfl rfl)
theorem dX0_isHeap_106 : decode cX0_isHeap 106 = .ok (.iconst 0, 1) := dk_3 (dk_at dksX0_isHeap_4 14 rfl rfl)
theorem dX0_isHeap_107 : decode cX0_isHeap 107 = .ok (.istore 7, 2) := dk_54 7 (dk_at dksX0_isHeap_4 15 rfl rfl)
theorem dX0_isHeap_109 : decode cX0_isHeap 109 = .ok (.iload 7, 2) := dk_21 7 (dk_at dksX0_isHeap_4 17 rfl rfl)
theorem dX0_isHeap_111 : decode cX0_isHeap 111 = .ok (.aload 6, 2) := dk_25 6 (dk_at dksX0_isHeap_4 19 rfl rfl)
theorem dX0_isHeap_113 : decode cX0_isHeap 113 = .ok (.getfield 171, 3) := dk_180 0 171 (dk_at dksX0_isHeap_4 21 rfl rfl)
theorem dX0_isHeap_116 : decode cX0_isHeap 116 = .ok (.invokevirtual 72, 3) := dk_182 0 72 (dk_at dksX0_isHeap_5 0 rfl rfl)
theorem dX0_isHeap_119 : decode cX0_isHeap 119 = .ok (.if_icmp .ge 108, 3) := dk_162 0 108 (dk_at dksX0_isHeap_5 3 rfl rfl)
theorem dX0_isHeap_122 : decode cX0_isHeap 122 = .ok (.aload_n 0, 1) := dk_42 (dk_at dksX0_isHeap_5 6 rfl rfl)
theorem dX0_isHeap_123 : decode cX0_isHeap 123 = .ok (.aload 6, 2) := dk_25 6 (dk_at dksX0_isHeap_5 7 rfl rfl)
theorem dX0_isHeap_125 : decode cX0_isHeap 125 = .ok (.iload_n 2, 1) := dk_28 (dk_at dksX0_isHeap_5 9 rfl rfl)
theorem dX0_isHeap_126 : decode cX0_isHeap 126 = .ok (.invokevirtual 291, 3) := dk_182 1 35 (dk_at dksX0_isHeap_5 10 rfl rfl)
theorem dX0_isHeap_129 : decode cX0_isHeap 129 = .ok (.ifCond .eq 98, 3) := dk_153 0 98 (dk_at dksX0_isHeap_5 13 rfl rfl)
theorem dX0_isHeap_132 : decode cX0_isHeap 132 = .ok (.aload 6, 2) := dk_25 6 (dk_at dksX0_isHeap_5 16 rfl rfl)
theorem dX0_isHeap_134 : decode cX0_isHeap 134 = .ok (.getfield 171, 3) := dk_180 0 171 (dk_at dksX0_isHeap_5 18 rfl rfl)
theorem dX0_isHeap_137 : decode cX0_isHeap 137 = .ok (.iload 7, 2) := dk_21 7 (dk_at dksX0_isHeap_5 21 rfl rfl)
theorem dX0_isHeap_139 : decode cX0_isHeap 139 = .ok (.invokevirtual 80, 3) := dk_182 0 80 (dk_at dksX0_isHeap_6 0 rfl rfl)
theorem dX0_isHeap_142 : decode cX0_isHeap 142 = .ok (.checkcast 196, 3) := dk_192 0 196 (dk_at dksX0_isHeap_6 3 rfl rfl)
theorem dX0_isHeap_145 : decode cX0_isHeap 145 = .ok (.astore 8, 2) := dk_58 8 (dk_at dksX0_isHeap_6 6 rfl rfl)
theorem dX0_isHeap_147 : decode cX0_isHeap 147 = .ok (.iload_n 1, 1) := dk_27 (dk_at dksX0_isHeap_6 8 rfl rfl)
theorem dX0_isHeap_148 : decode cX0_isHeap 148 = .ok (.aload 8, 2) := dk_25 8 (dk_at dksX0_isHeap_6 9 rfl rfl)
theorem dX0_isHeap_150 : decode cX0_isHeap 150 = .ok (.getfield 195, 3) := dk_180 0 195 (dk_at dksX0_isHeap_6 11 rfl rfl)
theorem dX0_isHeap_153 : decode cX0_isHeap 153 = .ok (.ishr, 1) := dk_122 (dk_at dksX0_isHeap_6 14 rfl rfl)
theorem dX0_isHeap_154 : decode cX0_isHeap 154 = .ok (.iconst 1, 1) := dk_4 (dk_at dksX0_isHeap_6 15 rfl rfl)
theorem dX0_isHeap_155 : decode cX0_isHeap 155 = .ok (.iand, 1) := dk_126 (dk_at dksX0_isHeap_6 16 rfl rfl)
theorem dX0_isHeap_156 : decode cX0_isHeap 156 = .ok (.iconst 1, 1) := dk_4 (dk_at dksX0_isHeap_6 17 rfl rfl)
theorem dX0_isHeap_157 : decode cX0_isHeap 157 = .ok (.if_icmp .ne 20, 3) := dk_160 0 20 (dk_at dksX0_isHeap_6 18 rfl rfl)
theorem dX0_isHeap_160 : decode cX0_isHeap 160 = .ok (.iload_n 1, 1) := dk_27 (dk_at dksX0_isHeap_6 21 rfl rfl)
theorem dX0_isHeap_161 : decode cX0_isHeap 161 = .ok (.aload 8, 2) := dk_25 8 (dk_at dksX0_isHeap_6 22 rfl rfl)
theorem dX0_isHeap_163 : decode cX0_isHeap 163 = .ok (.getfield 200, 3) := dk_180 0 200 (dk_at dksX0_isHeap_7 0 rfl rfl)
theorem dX0_isHeap_166 : decode cX0_isHeap 166 = .ok (.ishr, 1) := dk_122 (dk_at dksX0_isHeap_7 3 rfl rfl)
theorem dX0_isHeap_167 : decode cX0_isHeap 167 = .ok (.iconst 1, 1) := dk_4 (dk_at dksX0_isHeap_7 4 rfl rfl)
theorem dX0_isHeap_168 : decode cX0_isHeap 168 = .ok (.iand, 1) := dk_126 (dk_at dksX0_isHeap_7 5 rfl rfl)
theorem dX0_isHeap_169 : decode cX0_isHeap 169 = .ok (.iconst 1, 1) := dk_4 (dk_at dksX0_isHeap_7 6 rfl rfl)
theorem dX0_isHeap_170 : decode cX0_isHeap 170 = .ok (.if_icmp .ne 7, 3) := dk_160 0 7 (dk_at dksX0_isHeap_7 7 rfl rfl)
theorem dX0_isHeap_173 : decode cX0_isHeap 173 = .ok (.iconst 1, 1) := dk_4 (dk_at dksX0_isHeap_7 10 rfl rfl)
theorem dX0_isHeap_174 : decode cX0_isHeap 174 = .ok (.goto 4, 3) := dk_167 0 4 (dk_at dksX0_isHeap_7 11 rfl rfl)
theorem dX0_isHeap_177 : decode cX0_isHeap 177 = .ok (.iconst 0, 1) := dk_3 (dk_at dksX0_isHeap_7 14 rfl rfl)
theorem dX0_isHeap_178 : decode cX0_isHeap 178 = .ok (.istore 9, 2) := dk_54 9 (dk_at dksX0_isHeap_7 15 rfl rfl)
theorem dX0_isHeap_180 : decode cX0_isHeap 180 = .ok (.iload 9, 2) := dk_21 9 (dk_at dksX0_isHeap_7 17 rfl rfl)
theorem dX0_isHeap_182 : decode cX0_isHeap 182 = .ok (.ifCond .eq 39, 3) := dk_153 0 39 (dk_at dksX0_isHeap_7 19 rfl rfl)
theorem dX0_isHeap_185 : decode cX0_isHeap 185 = .ok (.aload_n 0, 1) := dk_42 (dk_at dksX0_isHeap_7 22 rfl rfl)
theorem dX0_isHeap_186 : decode cX0_isHeap 186 = .ok (.aload 8, 2) := dk_25 8 (dk_at dksX0_isHeap_8 0 rfl rfl)
theorem dX0_isHeap_188 : decode cX0_isHeap 188 = .ok (.getfield 195, 3) := dk_180 0 195 (dk_at dksX0_isHeap_8 2 rfl rfl)
theorem dX0_isHeap_191 : decode cX0_isHeap 191 = .ok (.aload 8, 2) := dk_25 8 (dk_at dksX0_isHeap_8 5 rfl rfl)
theorem dX0_isHeap_193 : decode cX0_isHeap 193 = .ok (.getfield 200, 3) := dk_180 0 200 (dk_at dksX0_isHeap_8 7 rfl rfl)
theorem dX0_isHeap_196 : decode cX0_isHeap 196 = .ok (.invokevirtual 253, 3) := dk_182 0 253 (dk_at dksX0_isHeap_8 10 rfl rfl)
theorem dX0_isHeap_199 : decode cX0_isHeap 199 = .ok (.ifCond .ne 20, 3) := dk_154 0 20 (dk_at dksX0_isHeap_8 13 rfl rfl)
theorem dX0_isHeap_202 : decode cX0_isHeap 202 = .ok (.aload_n 0, 1) := dk_42 (dk_at dksX0_isHeap_8 16 rfl rfl)
theorem dX0_isHeap_203 : decode cX0_isHeap 203 = .ok (.aload 8, 2) := dk_25 8 (dk_at dksX0_isHeap_8 17 rfl rfl)
theorem dX0_isHeap_205 : decode cX0_isHeap 205 = .ok (.getfield 200, 3) := dk_180 0 200 (dk_at dksX0_isHeap_8 19 rfl rfl)
theorem dX0_isHeap_208 : decode cX0_isHeap 208 = .ok (.aload 8, 2) := dk_25 8 (dk_at dksX0_isHeap_8 22 rfl rfl)
theorem dX0_isHeap_210 : decode cX0_isHeap 210 = .ok (.getfield 195, 3) := dk_180 0 195 (dk_at dksX0_isHeap_9 0 rfl rfl)
theorem dX0_isHeap_213 : decode cX0_isHeap 213 = .ok (.invokevirtual 253, 3) := dk_182 0 253 (dk_at dksX0_isHeap_9 3 rfl rfl)
theorem dX0_isHeap_216 : decode cX0_isHeap 216 = .ok (.ifCond .eq 5, 3) := dk_153 0 5 (dk_at dksX0_isHeap_9 6 rfl rfl)
theorem dX0_isHeap_219 : decode cX0_isHeap 219 = .ok (.iconst 0, 1) := dk_3 (dk_at dksX0_isHeap_9 9 rfl rfl)
theorem dX0_isHeap_220 : decode cX0_isHeap 220 = .ok (.ireturn, 1) := dk_172 (dk_at dksX0_isHeap_9 10 rfl rfl)
theorem dX0_isHeap_221 : decode cX0_isHeap 221 = .ok (.iinc 7 1, 3) := dk_132 7 1 (dk_at dksX0_isHeap_9 11 rfl rfl)
theorem dX0_isHeap_224 : decode cX0_isHeap 224 = .ok (.goto (-115), 3) := dk_167 255 141 (dk_at dksX0_isHeap_9 14 rfl rfl)
theorem dX0_isHeap_227 : decode cX0_isHeap 227 = .ok (.iinc 5 1, 3) := dk_132 5 1 (dk_at dksX0_isHeap_9 17 rfl rfl)
theorem dX0_isHeap_230 : decode cX0_isHeap 230 = .ok (.goto (-150), 3) := dk_167 255 106 (dk_at dksX0_isHeap_9 20 rfl rfl)
theorem dX0_isHeap_233 : decode cX0_isHeap 233 = .ok (.iconst 1, 1) := dk_4 (dk_at dksX0_isHeap_9 23 rfl rfl)
theorem dX0_isHeap_234 : decode cX0_isHeap 234 = .ok (.ireturn, 1) := dk_172 (dk_at dksX0_isHeap_10 0 rfl rfl)
abbrev cX0_heaps : ByteArray := prog_1_method_49_code
def yX0_heaps : MethodName := ⟨RX0, "heaps", "(Ljava/util/ArrayList;II[Z)V"⟩
def dkwX0_heaps_6 : List UInt8 := [130, 79, 132, 6, 1, 167, 255, 164, 177]
abbrev dktX0_heaps_6 : List UInt8 := dkwX0_heaps_6 ++ []
def dkwX0_heaps_5 : List UInt8 := [21, 6, 4, 96, 184, 0, 240, 25, 4, 182, 1, 59, 42, 180, 0, 63, 21, 6, 92, 46, 4, 21, 5, 120]
abbrev dktX0_heaps_5 : List UInt8 := dkwX0_heaps_5 ++ dktX0_heaps_6
def dkwX0_heaps_4 : List UInt8 := [92, 46, 4, 21, 5, 120, 128, 79, 42, 180, 0, 66, 21, 5, 21, 6, 79, 42, 43, 28, 4, 96, 29]
abbrev dktX0_heaps_4 : List UInt8 := dkwX0_heaps_4 ++ dktX0_heaps_5
def dkwX0_heaps_3 : List UInt8 := [180, 0, 63, 21, 6, 46, 4, 21, 5, 120, 128, 51, 154, 0, 6, 167, 0, 58, 42, 180, 0, 63, 21, 6]
abbrev dktX0_heaps_3 : List UInt8 := dkwX0_heaps_3 ++ dktX0_heaps_4
def dkwX0_heaps_2 : List UInt8 := [180, 1, 27, 54, 5, 3, 54, 6, 21, 6, 29, 163, 0, 92, 21, 6, 16, 10, 162, 0, 85, 25, 4, 42]
abbrev dktX0_heaps_2 : List UInt8 := dkwX0_heaps_2 ++ dktX0_heaps_3
def dkwX0_heaps_1 : List UInt8 := [180, 0, 66, 3, 42, 180, 0, 69, 3, 16, 10, 184, 1, 53, 177, 43, 28, 182, 0, 80, 192, 0, 84]
abbrev dktX0_heaps_1 : List UInt8 := dkwX0_heaps_1 ++ dktX0_heaps_2
def dkwX0_heaps_0 : List UInt8 := [29, 42, 180, 1, 50, 161, 0, 4, 177, 28, 43, 182, 0, 72, 160, 0, 24, 42, 29, 181, 1, 50, 42]
abbrev dktX0_heaps_0 : List UInt8 := dkwX0_heaps_0 ++ dktX0_heaps_1
theorem dksX0_heaps_0 : cX0_heaps.data.toList.drop 0 = dktX0_heaps_0 := by decide +kernel
theorem dksX0_heaps_1 : cX0_heaps.data.toList.drop 23 = dktX0_heaps_1 := dk_seg dksX0_heaps_0 23 rfl rfl
theorem dksX0_heaps_2 : cX0_heaps.data.toList.drop 46 = dktX0_heaps_2 := dk_seg dksX0_heaps_1 23 rfl rfl
theorem dksX0_heaps_3 : cX0_heaps.data.toList.drop 70 = dktX0_heaps_3 := dk_seg dksX0_heaps_2 24 rfl rfl
theorem dksX0_heaps_4 : cX0_heaps.data.toList.drop 94 = dktX0_heaps_4 := dk_seg dksX0_heaps_3 24 rfl rfl
theorem dksX0_heaps_5 : cX0_heaps.data.toList.drop 117 = dktX0_heaps_5 := dk_seg dksX0_heaps_4 23 rfl rfl
theorem dksX0_heaps_6 : cX0_heaps.data.toList.drop 141 = dktX0_heaps_6 := dk_seg dksX0_heaps_5 24 rfl rfl
theorem dX0_heaps_0 : decode cX0_heaps 0 = .ok (.iload_n 3, 1) := dk_29 (dk_at dksX0_heaps_0 0 rfl rfl)
theorem dX0_heaps_1 : decode cX0_heaps 1 = .ok (.aload_n 0, 1) := dk_42 (dk_at dksX0_heaps_0 1 rfl rfl)
theorem dX0_heaps_2 : decode cX0_heaps 2 = .ok (.getfield 306, 3) := dk_180 1 50 (dk_at dksX0_heaps_0 2 rfl rfl)
theorem dX0_heaps_5 : decode cX0_heaps 5 = .ok (.if_icmp .lt 4, 3) := dk_161 0 4 (dk_at dksX0_heaps_0 5 rfl rfl)
theorem dX0_heaps_8 : decode cX0_heaps 8 = .ok (.return_, 1) := dk_177 (dk_at dksX0_heaps_0 8 rfl rfl)
theorem dX0_heaps_9 : decode cX0_heaps 9 = .ok (.iload_n 2, 1) := dk_28 (dk_at dksX0_heaps_0 9 rfl rfl)
theorem dX0_heaps_10 : decode cX0_heaps 10 = .ok (.aload_n 1, 1) := dk_43 (dk_at dksX0_heaps_0 10 rfl rfl)
theorem dX0_heaps_11 : decode cX0_heaps 11 = .ok (.invokevirtual 72, 3) := dk_182 0 72 (dk_at dksX0_heaps_0 11 rfl rfl)
theorem dX0_heaps_14 : decode cX0_heaps 14 = .ok (.if_icmp .ne 24, 3) := dk_160 0 24 (dk_at dksX0_heaps_0 14 rfl rfl)
theorem dX0_heaps_17 : decode cX0_heaps 17 = .ok (.aload_n 0, 1) := dk_42 (dk_at dksX0_heaps_0 17 rfl rfl)
theorem dX0_heaps_18 : decode cX0_heaps 18 = .ok (.iload_n 3, 1) := dk_29 (dk_at dksX0_heaps_0 18 rfl rfl)
theorem dX0_heaps_19 : decode cX0_heaps 19 = .ok (.putfield 306, 3) := dk_181 1 50 (dk_at dksX0_heaps_0 19 rfl rfl)
theorem dX0_heaps_22 : decode cX0_heaps 22 = .ok (.aload_n 0, 1) := dk_42 (dk_at dksX0_heaps_0 22 rfl rfl)
theorem dX0_heaps_23 : decode cX0_heaps 23 = .ok (.getfield 66, 3) := dk_180 0 66 (dk_at dksX0_heaps_1 0 rfl rfl)
theorem dX0_heaps_26 : decode cX0_heaps 26 = .ok (.iconst 0, 1) := dk_3 (dk_at dksX0_heaps_1 3 rfl rfl)
theorem dX0_heaps_27 : decode cX0_heaps 27 = .ok (.aload_n 0, 1) := dk_42 (dk_at dksX0_heaps_1 4 rfl rfl)
theorem dX0_heaps_28 : decode cX0_heaps 28 = .ok (.getfield 69, 3) := dk_180 0 69 (dk_at dksX0_heaps_1 5 rfl rfl)
theorem dX0_heaps_31 : decode cX0_heaps 31 = .ok (.iconst 0, 1) := dk_3 (dk_at dksX0_heaps_1 8 rfl rfl)
theorem dX0_heaps_32 : decode cX0_heaps 32 = .ok (.bipush 10, 2) := dk_16 10 (dk_at dksX0_heaps_1 9 rfl rfl)
theorem dX0_heaps_34 : decode cX0_heaps 34 = .ok (.invokestatic 309, 3) := dk_184 1 53 (dk_at dksX0_heaps_1 11 rfl rfl)
theorem dX0_heaps_37 : decode cX0_heaps 37 = .ok (.return_, 1) := dk_177 (dk_at dksX0_heaps_1 14 rfl rfl)
theorem dX0_heaps_38 : decode cX0_heaps 38 = .ok (.aload_n 1, 1) := dk_43 (dk_at dksX0_heaps_1 15 rfl rfl)
theorem dX0_heaps_39 : decode cX0_heaps 39 = .ok (.iload_n 2, 1) := dk_28 (dk_at dksX0_heaps_1 16 rfl rfl)
theorem dX0_heaps_40 : decode cX0_heaps 40 = .ok (.invokevirtual 80, 3) := dk_182 0 80 (dk_at dksX0_heaps_1 17 rfl rfl)
theorem dX0_heaps_43 : decode cX0_heaps 43 = .ok (.checkcast 84, 3) := dk_192 0 84 (dk_at dksX0_heaps_1 20 rfl rfl)
theorem dX0_heaps_46 : decode cX0_heaps 46 = .ok (.getfield 283, 3) := dk_180 1 27 (dk_at dksX0_heaps_2 0 rfl rfl)
theorem dX0_heaps_49 : decode cX0_heaps 49 = .ok (.istore 5, 2) := dk_54 5 (dk_at dksX0_heaps_2 3 rfl rfl)
theorem dX0_heaps_51 : decode cX0_heaps 51 = .ok (.iconst 0, 1) := dk_3 (dk_at dksX0_heaps_2 5 rfl rfl)
theorem dX0_heaps_52 : decode cX0_heaps 52 = .ok (.istore 6, 2) := dk_54 6 (dk_at dksX0_heaps_2 6 rfl rfl)
theorem dX0_heaps_54 : decode cX0_heaps 54 = .ok (.iload 6, 2) := dk_21 6 (dk_at dksX0_heaps_2 8 rfl rfl)
theorem dX0_heaps_56 : decode cX0_heaps 56 = .ok (.iload_n 3, 1) := dk_29 (dk_at dksX0_heaps_2 10 rfl rfl)
theorem dX0_heaps_57 : decode cX0_heaps 57 = .ok (.if_icmp .gt 92, 3) := dk_163 0 92 (dk_at dksX0_heaps_2 11 rfl rfl)
theorem dX0_heaps_60 : decode cX0_heaps 60 = .ok (.iload 6, 2) := dk_21 6 (dk_at dksX0_heaps_2 14 rfl rfl)
theorem dX0_heaps_62 : decode cX0_heaps 62 = .ok (.bipush 10, 2) := dk_16 10 (dk_at dksX0_heaps_2 16 rfl rfl)
theorem dX0_heaps_64 : decode cX0_heaps 64 = .ok (.if_icmp .ge 85, 3) := dk_162 0 85 (dk_at dksX0_heaps_2 18 rfl rfl)
theorem dX0_heaps_67 : decode cX0_heaps 67 = .ok (.aload 4, 2) := dk_25 4 (dk_at dksX0_heaps_2 21 rfl rfl)
theorem dX0_heaps_69 : decode cX0_heaps 69 = .ok (.aload_n 0, 1) := dk_42 (dk_at dksX0_heaps_2 23 rfl rfl)
theorem dX0_heaps_70 : decode cX0_heaps 70 = .ok (.getfield 63, 3) := dk_180 0 63 (dk_at dksX0_heaps_3 0 rfl rfl)
theorem dX0_heaps_73 : decode cX0_heaps 73 = .ok (.iload 6, 2) := dk_21 6 (dk_at dksX0_heaps_3 3 rfl rfl)
theorem dX0_heaps_75 : decode cX0_heaps 75 = .ok (.iaload, 1) := dk_46 (dk_at dksX0_heaps_3 5 rfl rfl)
theorem dX0_heaps_76 : decode cX0_heaps 76 = .ok (.iconst 1, 1) := dk_4 (dk_at dksX0_heaps_3 6 rfl rfl)
theorem dX0_heaps_77 : decode cX0_heaps 77 = .ok (.iload 5, 2) := dk_21 5 (dk_at dksX0_heaps_3 7 rfl rfl)
theorem dX0_heaps_79 : decode cX0_heaps 79 = .ok (.ishl, 1) := dk_120 (dk_at dksX0_heaps_3 9 rfl rfl)
theorem dX0_heaps_80 : decode cX0_heaps 80 = .ok (.ior, 1) := dk_128 (dk_at dksX0_heaps_3 10 rfl rfl)
theorem dX0_heaps_81 : decode cX0_heaps 81 = .ok (.baload, 1) := dk_51 (dk_at dksX0_heaps_3 11 rfl rfl)
theorem dX0_heaps_82 : decode cX0_heaps 82 = .ok (.ifCond .ne 6, 3) := dk_154 0 6 (dk_at dksX0_heaps_3 12 rfl rfl)
theorem dX0_heaps_85 : decode cX0_heaps 85 = .ok (.goto 58, 3) := dk_167 0 58 (dk_at dksX0_heaps_3 15 rfl rfl)
theorem dX0_heaps_88 : decode cX0_heaps 88 = .ok (.aload_n 0, 1) := dk_42 (dk_at dksX0_heaps_3 18 rfl rfl)
theorem dX0_heaps_89 : decode cX0_heaps 89 = .ok (.getfield 63, 3) := dk_180 0 63 (dk_at dksX0_heaps_3 19 rfl rfl)
theorem dX0_heaps_92 : decode cX0_heaps 92 = .ok (.iload 6, 2) := dk_21 6 (dk_at dksX0_heaps_3 22 rfl rfl)
theorem dX0_heaps_94 : decode cX0_heaps 94 = .ok (.dup2, 1) := dk_92 (dk_at dksX0_heaps_4 0 rfl rfl)
theorem dX0_heaps_95 : decode cX0_heaps 95 = .ok (.iaload, 1) := dk_46 (dk_at dksX0_heaps_4 1 rfl rfl)
theorem dX0_heaps_96 : decode cX0_heaps 96 = .ok (.iconst 1, 1) := dk_4 (dk_at dksX0_heaps_4 2 rfl rfl)
theorem dX0_heaps_97 : decode cX0_heaps 97 = .ok (.iload 5, 2) := dk_21 5 (dk_at dksX0_heaps_4 3 rfl rfl)
theorem dX0_heaps_99 : decode cX0_heaps 99 = .ok (.ishl, 1) := dk_120 (dk_at dksX0_heaps_4 5 rfl rfl)
theorem dX0_heaps_100 : decode cX0_heaps 100 = .ok (.ior, 1) := dk_128 (dk_at dksX0_heaps_4 6 rfl rfl)
theorem dX0_heaps_101 : decode cX0_heaps 101 = .ok (.iastore, 1) := dk_79 (dk_at dksX0_heaps_4 7 rfl rfl)
theorem dX0_heaps_102 : decode cX0_heaps 102 = .ok (.aload_n 0, 1) := dk_42 (dk_at dksX0_heaps_4 8 rfl rfl)
theorem dX0_heaps_103 : decode cX0_heaps 103 = .ok (.getfield 66, 3) := dk_180 0 66 (dk_at dksX0_heaps_4 9 rfl rfl)
theorem dX0_heaps_106 : decode cX0_heaps 106 = .ok (.iload 5, 2) := dk_21 5 (dk_at dksX0_heaps_4 12 rfl rfl)
theorem dX0_heaps_108 : decode cX0_heaps 108 = .ok (.iload 6, 2) := dk_21 6 (dk_at dksX0_heaps_4 14 rfl rfl)
theorem dX0_heaps_110 : decode cX0_heaps 110 = .ok (.iastore, 1) := dk_79 (dk_at dksX0_heaps_4 16 rfl rfl)
theorem dX0_heaps_111 : decode cX0_heaps 111 = .ok (.aload_n 0, 1) := dk_42 (dk_at dksX0_heaps_4 17 rfl rfl)
theorem dX0_heaps_112 : decode cX0_heaps 112 = .ok (.aload_n 1, 1) := dk_43 (dk_at dksX0_heaps_4 18 rfl rfl)
theorem dX0_heaps_113 : decode cX0_heaps 113 = .ok (.iload_n 2, 1) := dk_28 (dk_at dksX0_heaps_4 19 rfl rfl)
theorem dX0_heaps_114 : decode cX0_heaps 114 = .ok (.iconst 1, 1) := dk_4 (dk_at dksX0_heaps_4 20 rfl rfl)
theorem dX0_heaps_115 : decode cX0_heaps 115 = .ok (.iadd, 1) := dk_96 (dk_at dksX0_heaps_4 21 rfl rfl)
theorem dX0_heaps_116 : decode cX0_heaps 116 = .ok (.iload_n 3, 1) := dk_29 (dk_at dksX0_heaps_4 22 rfl rfl)
theorem dX0_heaps_117 : decode cX0_heaps 117 = .ok (.iload 6, 2) := dk_21 6 (dk_at dksX0_heaps_5 0 rfl rfl)
theorem dX0_heaps_119 : decode cX0_heaps 119 = .ok (.iconst 1, 1) := dk_4 (dk_at dksX0_heaps_5 2 rfl rfl)
theorem dX0_heaps_120 : decode cX0_heaps 120 = .ok (.iadd, 1) := dk_96 (dk_at dksX0_heaps_5 3 rfl rfl)
theorem dX0_heaps_121 : decode cX0_heaps 121 = .ok (.invokestatic 240, 3) := dk_184 0 240 (dk_at dksX0_heaps_5 4 rfl rfl)
theorem dX0_heaps_124 : decode cX0_heaps 124 = .ok (.aload 4, 2) := dk_25 4 (dk_at dksX0_heaps_5 7 rfl rfl)
theorem dX0_heaps_126 : decode cX0_heaps 126 = .ok (.invokevirtual 315, 3) := dk_182 1 59 (dk_at dksX0_heaps_5 9 rfl rfl)
theorem dX0_heaps_129 : decode cX0_heaps 129 = .ok (.aload_n 0, 1) := dk_42 (dk_at dksX0_heaps_5 12 rfl rfl)
theorem dX0_heaps_130 : decode cX0_heaps 130 = .ok (.getfield 63, 3) := dk_180 0 63 (dk_at dksX0_heaps_5 13 rfl rfl)
theorem dX0_heaps_133 : decode cX0_heaps 133 = .ok (.iload 6, 2) := dk_21 6 (dk_at dksX0_heaps_5 16 rfl rfl)
theorem dX0_heaps_135 : decode cX0_heaps 135 = .ok (.dup2, 1) := dk_92 (dk_at dksX0_heaps_5 18 rfl rfl)
theorem dX0_heaps_136 : decode cX0_heaps 136 = .ok (.iaload, 1) := dk_46 (dk_at dksX0_heaps_5 19 rfl rfl)
theorem dX0_heaps_137 : decode cX0_heaps 137 = .ok (.iconst 1, 1) := dk_4 (dk_at dksX0_heaps_5 20 rfl rfl)
theorem dX0_heaps_138 : decode cX0_heaps 138 = .ok (.iload 5, 2) := dk_21 5 (dk_at dksX0_heaps_5 21 rfl rfl)
theorem dX0_heaps_140 : decode cX0_heaps 140 = .ok (.ishl, 1) := dk_120 (dk_at dksX0_heaps_5 23 rfl rfl)
theorem dX0_heaps_141 : decode cX0_heaps 141 = .ok (.ixor, 1) := dk_130 (dk_at dksX0_heaps_6 0 rfl rfl)
theorem dX0_heaps_142 : decode cX0_heaps 142 = .ok (.iastore, 1) := dk_79 (dk_at dksX0_heaps_6 1 rfl rfl)
theorem dX0_heaps_143 : decode cX0_heaps 143 = .ok (.iinc 6 1, 3) := dk_132 6 1 (dk_at dksX0_heaps_6 2 rfl rfl)
theorem dX0_heaps_146 : decode cX0_heaps 146 = .ok (.goto (-92), 3) := dk_167 255 164 (dk_at dksX0_heaps_6 5 rfl rfl)
theorem dX0_heaps_149 : decode cX0_heaps 149 = .ok (.return_, 1) := dk_177 (dk_at dksX0_heaps_6 8 rfl rfl)
abbrev cX0_least : ByteArray := prog_1_method_55_code
def yX0_least : MethodName := ⟨RX0, "least", "(II)I"⟩
def dkwX0_least_2 : List UInt8 := [42, 27, 182, 1, 100, 78, 28, 5, 160, 0, 10, 45, 180, 1, 104, 167, 0, 7, 45, 180, 1, 105, 172]
abbrev dktX0_least_2 : List UInt8 := dkwX0_least_2 ++ []
def dkwX0_least_1 : List UInt8 := [28, 154, 0, 14, 42, 27, 182, 1, 90, 180, 1, 94, 167, 0, 11, 42, 27, 182, 1, 90, 180, 1, 97, 172]
abbrev dktX0_least_1 : List UInt8 := dkwX0_least_1 ++ dktX0_least_2
def dkwX0_least_0 : List UInt8 := [42, 27, 182, 1, 87, 153, 0, 12, 28, 3, 6, 184, 0, 76, 154, 0, 5, 2, 172, 28, 5, 162, 0, 27]
abbrev dktX0_least_0 : List UInt8 := dkwX0_least_0 ++ dktX0_least_1
theorem dksX0_least_0 : cX0_least.data.toList.drop 0 = dktX0_least_0 := by decide +kernel
theorem dksX0_least_1 : cX0_least.data.toList.drop 24 = dktX0_least_1 := dk_seg dksX0_least_0 24 rfl rfl
theorem dksX0_least_2 : cX0_least.data.toList.drop 48 = dktX0_least_2 := dk_seg dksX0_least_1 24 rfl rfl
theorem dX0_least_0 : decode cX0_least 0 = .ok (.aload_n 0, 1) := dk_42 (dk_at dksX0_least_0 0 rfl rfl)
theorem dX0_least_1 : decode cX0_least 1 = .ok (.iload_n 1, 1) := dk_27 (dk_at dksX0_least_0 1 rfl rfl)
theorem dX0_least_2 : decode cX0_least 2 = .ok (.invokevirtual 343, 3) := dk_182 1 87 (dk_at dksX0_least_0 2 rfl rfl)
theorem dX0_least_5 : decode cX0_least 5 = .ok (.ifCond .eq 12, 3) := dk_153 0 12 (dk_at dksX0_least_0 5 rfl rfl)
theorem dX0_least_8 : decode cX0_least 8 = .ok (.iload_n 2, 1) := dk_28 (dk_at dksX0_least_0 8 rfl rfl)
theorem dX0_least_9 : decode cX0_least 9 = .ok (.iconst 0, 1) := dk_3 (dk_at dksX0_least_0 9 rfl rfl)
theorem dX0_least_10 : decode cX0_least 10 = .ok (.iconst 3, 1) := dk_6 (dk_at dksX0_least_0 10 rfl rfl)
theorem dX0_least_11 : decode cX0_least 11 = .ok (.invokestatic 76, 3) := dk_184 0 76 (dk_at dksX0_least_0 11 rfl rfl)
theorem dX0_least_14 : decode cX0_least 14 = .ok (.ifCond .ne 5, 3) := dk_154 0 5 (dk_at dksX0_least_0 14 rfl rfl)
theorem dX0_least_17 : decode cX0_least 17 = .ok (.iconst (-1), 1) := dk_2 (dk_at dksX0_least_0 17 rfl rfl)
theorem dX0_least_18 : decode cX0_least 18 = .ok (.ireturn, 1) := dk_172 (dk_at dksX0_least_0 18 rfl rfl)
theorem dX0_least_19 : decode cX0_least 19 = .ok (.iload_n 2, 1) := dk_28 (dk_at dksX0_least_0 19 rfl rfl)
theorem dX0_least_20 : decode cX0_least 20 = .ok (.iconst 2, 1) := dk_5 (dk_at dksX0_least_0 20 rfl rfl)
theorem dX0_least_21 : decode cX0_least 21 = .ok (.if_icmp .ge 27, 3) := dk_162 0 27 (dk_at dksX0_least_0 21 rfl rfl)
theorem dX0_least_24 : decode cX0_least 24 = .ok (.iload_n 2, 1) := dk_28 (dk_at dksX0_least_1 0 rfl rfl)
theorem dX0_least_25 : decode cX0_least 25 = .ok (.ifCond .ne 14, 3) := dk_154 0 14 (dk_at dksX0_least_1 1 rfl rfl)
theorem dX0_least_28 : decode cX0_least 28 = .ok (.aload_n 0, 1) := dk_42 (dk_at dksX0_least_1 4 rfl rfl)
theorem dX0_least_29 : decode cX0_least 29 = .ok (.iload_n 1, 1) := dk_27 (dk_at dksX0_least_1 5 rfl rfl)
theorem dX0_least_30 : decode cX0_least 30 = .ok (.invokevirtual 346, 3) := dk_182 1 90 (dk_at dksX0_least_1 6 rfl rfl)
theorem dX0_least_33 : decode cX0_least 33 = .ok (.getfield 350, 3) := dk_180 1 94 (dk_at dksX0_least_1 9 rfl rfl)
theorem dX0_least_36 : decode cX0_least 36 = .ok (.goto 11, 3) := dk_167 0 11 (dk_at dksX0_least_1 12 rfl rfl)
theorem dX0_least_39 : decode cX0_least 39 = .ok (.aload_n 0, 1) := dk_42 (dk_at dksX0_least_1 15 rfl rfl)
theorem dX0_least_40 : decode cX0_least 40 = .ok (.iload_n 1, 1) := dk_27 (dk_at dksX0_least_1 16 rfl rfl)
theorem dX0_least_41 : decode cX0_least 41 = .ok (.invokevirtual 346, 3) := dk_182 1 90 (dk_at dksX0_least_1 17 rfl rfl)
theorem dX0_least_44 : decode cX0_least 44 = .ok (.getfield 353, 3) := dk_180 1 97 (dk_at dksX0_least_1 20 rfl rfl)
theorem dX0_least_47 : decode cX0_least 47 = .ok (.ireturn, 1) := dk_172 (dk_at dksX0_least_1 23 rfl rfl)
theorem dX0_least_48 : decode cX0_least 48 = .ok (.aload_n 0, 1) := dk_42 (dk_at dksX0_least_2 0 rfl rfl)
theorem dX0_least_49 : decode cX0_least 49 = .ok (.iload_n 1, 1) := dk_27 (dk_at dksX0_least_2 1 rfl rfl)
theorem dX0_least_50 : decode cX0_least 50 = .ok (.invokevirtual 356, 3) := dk_182 1 100 (dk_at dksX0_least_2 2 rfl rfl)
theorem dX0_least_53 : decode cX0_least 53 = .ok (.astore_n 3, 1) := dk_78 (dk_at dksX0_least_2 5 rfl rfl)
theorem dX0_least_54 : decode cX0_least 54 = .ok (.iload_n 2, 1) := dk_28 (dk_at dksX0_least_2 6 rfl rfl)
theorem dX0_least_55 : decode cX0_least 55 = .ok (.iconst 2, 1) := dk_5 (dk_at dksX0_least_2 7 rfl rfl)
theorem dX0_least_56 : decode cX0_least 56 = .ok (.if_icmp .ne 10, 3) := dk_160 0 10 (dk_at dksX0_least_2 8 rfl rfl)
theorem dX0_least_59 : decode cX0_least 59 = .ok (.aload_n 3, 1) := dk_45 (dk_at dksX0_least_2 11 rfl rfl)
theorem dX0_least_60 : decode cX0_least 60 = .ok (.getfield 360, 3) := dk_180 1 104 (dk_at dksX0_least_2 12 rfl rfl)
theorem dX0_least_63 : decode cX0_least 63 = .ok (.goto 7, 3) := dk_167 0 7 (dk_at dksX0_least_2 15 rfl rfl)
theorem dX0_least_66 : decode cX0_least 66 = .ok (.aload_n 3, 1) := dk_45 (dk_at dksX0_least_2 18 rfl rfl)
theorem dX0_least_67 : decode cX0_least 67 = .ok (.getfield 361, 3) := dk_180 1 105 (dk_at dksX0_least_2 19 rfl rfl)
theorem dX0_least_70 : decode cX0_least 70 = .ok (.ireturn, 1) := dk_172 (dk_at dksX0_least_2 22 rfl rfl)
abbrev cX0_canBeAsked : ByteArray := prog_1_method_52_code
def yX0_canBeAsked : MethodName := ⟨RX0, "canBeAsked", "(I)Z"⟩
def dkwX0_canBeAsked_1 : List UInt8 := [44, 180, 0, 184, 16, 8, 163, 0, 15, 29, 44, 180, 0, 184, 163, 0, 7, 4, 167, 0, 4, 3, 172]
abbrev dktX0_canBeAsked_1 : List UInt8 := dkwX0_canBeAsked_1 ++ []
def dkwX0_canBeAsked_0 : List UInt8 := [42, 27, 182, 0, 180, 77, 42, 182, 1, 23, 182, 0, 72, 62, 44, 198, 0, 30, 29, 16, 7, 163, 0, 24]
abbrev dktX0_canBeAsked_0 : List UInt8 := dkwX0_canBeAsked_0 ++ dktX0_canBeAsked_1
theorem dksX0_canBeAsked_0 : cX0_canBeAsked.data.toList.drop 0 = dktX0_canBeAsked_0 := by decide +kernel
theorem dksX0_canBeAsked_1 : cX0_canBeAsked.data.toList.drop 24 = dktX0_canBeAsked_1 := dk_seg dksX0_canBeAsked_0 24 rfl rfl
theorem dX0_canBeAsked_0 : decode cX0_canBeAsked 0 = .ok (.aload_n 0, 1) := dk_42 (dk_at dksX0_canBeAsked_0 0 rfl rfl)
theorem dX0_canBeAsked_1 : decode cX0_canBeAsked 1 = .ok (.iload_n 1, 1) := dk_27 (dk_at dksX0_canBeAsked_0 1 rfl rfl)
theorem dX0_canBeAsked_2 : decode cX0_canBeAsked 2 = .ok (.invokevirtual 180, 3) := dk_182 0 180 (dk_at dksX0_canBeAsked_0 2 rfl rfl)
theorem dX0_canBeAsked_5 : decode cX0_canBeAsked 5 = .ok (.astore_n 2, 1) := dk_77 (dk_at dksX0_canBeAsked_0 5 rfl rfl)
theorem dX0_canBeAsked_6 : decode cX0_canBeAsked 6 = .ok (.aload_n 0, 1) := dk_42 (dk_at dksX0_canBeAsked_0 6 rfl rfl)
theorem dX0_canBeAsked_7 : decode cX0_canBeAsked 7 = .ok (.invokevirtual 279, 3) := dk_182 1 23 (dk_at dksX0_canBeAsked_0 7 rfl rfl)
theorem dX0_canBeAsked_10 : decode cX0_canBeAsked 10 = .ok (.invokevirtual 72, 3) := dk_182 0 72 (dk_at dksX0_canBeAsked_0 10 rfl rfl)
theorem dX0_canBeAsked_13 : decode cX0_canBeAsked 13 = .ok (.istore_n 3, 1) := dk_62 (dk_at dksX0_canBeAsked_0 13 rfl rfl)
theorem dX0_canBeAsked_14 : decode cX0_canBeAsked 14 = .ok (.aload_n 2, 1) := dk_44 (dk_at dksX0_canBeAsked_0 14 rfl rfl)
theorem dX0_canBeAsked_15 : decode cX0_canBeAsked 15 = .ok (.ifnull 30, 3) := dk_198 0 30 (dk_at dksX0_canBeAsked_0 15 rfl rfl)
theorem dX0_canBeAsked_18 : decode cX0_canBeAsked 18 = .ok (.iload_n 3, 1) := dk_29 (dk_at dksX0_canBeAsked_0 18 rfl rfl)
theorem dX0_canBeAsked_19 : decode cX0_canBeAsked 19 = .ok (.bipush 7, 2) := dk_16 7 (dk_at dksX0_canBeAsked_0 19 rfl rfl)
theorem dX0_canBeAsked_21 : decode cX0_canBeAsked 21 = .ok (.if_icmp .gt 24, 3) := dk_163 0 24 (dk_at dksX0_canBeAsked_0 21 rfl rfl)
theorem dX0_canBeAsked_24 : decode cX0_canBeAsked 24 = .ok (.aload_n 2, 1) := dk_44 (dk_at dksX0_canBeAsked_1 0 rfl rfl)
theorem dX0_canBeAsked_25 : decode cX0_canBeAsked 25 = .ok (.getfield 184, 3) := dk_180 0 184 (dk_at dksX0_canBeAsked_1 1 rfl rfl)
theorem dX0_canBeAsked_28 : decode cX0_canBeAsked 28 = .ok (.bipush 8, 2) := dk_16 8 (dk_at dksX0_canBeAsked_1 4 rfl rfl)
theorem dX0_canBeAsked_30 : decode cX0_canBeAsked 30 = .ok (.if_icmp .gt 15, 3) := dk_163 0 15 (dk_at dksX0_canBeAsked_1 6 rfl rfl)
theorem dX0_canBeAsked_33 : decode cX0_canBeAsked 33 = .ok (.iload_n 3, 1) := dk_29 (dk_at dksX0_canBeAsked_1 9 rfl rfl)
theorem dX0_canBeAsked_34 : decode cX0_canBeAsked 34 = .ok (.aload_n 2, 1) := dk_44 (dk_at dksX0_canBeAsked_1 10 rfl rfl)
theorem dX0_canBeAsked_35 : decode cX0_canBeAsked 35 = .ok (.getfield 184, 3) := dk_180 0 184 (dk_at dksX0_canBeAsked_1 11 rfl rfl)
theorem dX0_canBeAsked_38 : decode cX0_canBeAsked 38 = .ok (.if_icmp .gt 7, 3) := dk_163 0 7 (dk_at dksX0_canBeAsked_1 14 rfl rfl)
theorem dX0_canBeAsked_41 : decode cX0_canBeAsked 41 = .ok (.iconst 1, 1) := dk_4 (dk_at dksX0_canBeAsked_1 17 rfl rfl)
theorem dX0_canBeAsked_42 : decode cX0_canBeAsked 42 = .ok (.goto 4, 3) := dk_167 0 4 (dk_at dksX0_canBeAsked_1 18 rfl rfl)
theorem dX0_canBeAsked_45 : decode cX0_canBeAsked 45 = .ok (.iconst 0, 1) := dk_3 (dk_at dksX0_canBeAsked_1 21 rfl rfl)
theorem dX0_canBeAsked_46 : decode cX0_canBeAsked 46 = .ok (.ireturn, 1) := dk_172 (dk_at dksX0_canBeAsked_1 22 rfl rfl)
abbrev cX0_findLeast : ByteArray := prog_1_method_53_code
def yX0_findLeast : MethodName := ⟨RX0, "findLeast", "(I)LFirstIn$Least;"⟩
def dkwX0_findLeast_1 : List UInt8 := [183, 1, 77, 77, 44, 182, 1, 80, 44, 176]
abbrev dktX0_findLeast_1 : List UInt8 := dkwX0_findLeast_1 ++ []
def dkwX0_findLeast_0 : List UInt8 := [187, 1, 71, 89, 42, 180, 0, 50, 27, 182, 0, 80, 192, 0, 88, 42, 27, 182, 1, 73, 42, 182, 1, 23]
abbrev dktX0_findLeast_0 : List UInt8 := dkwX0_findLeast_0 ++ dktX0_findLeast_1
theorem dksX0_findLeast_0 : cX0_findLeast.data.toList.drop 0 = dktX0_findLeast_0 := by decide +kernel
theorem dksX0_findLeast_1 : cX0_findLeast.data.toList.drop 24 = dktX0_findLeast_1 := dk_seg dksX0_findLeast_0 24 rfl rfl
theorem dX0_findLeast_0 : decode cX0_findLeast 0 = .ok (.new 327, 3) := dk_187 1 71 (dk_at dksX0_findLeast_0 0 rfl rfl)
theorem dX0_findLeast_3 : decode cX0_findLeast 3 = .ok (.dup, 1) := dk_89 (dk_at dksX0_findLeast_0 3 rfl rfl)
theorem dX0_findLeast_4 : decode cX0_findLeast 4 = .ok (.aload_n 0, 1) := dk_42 (dk_at dksX0_findLeast_0 4 rfl rfl)
theorem dX0_findLeast_5 : decode cX0_findLeast 5 = .ok (.getfield 50, 3) := dk_180 0 50 (dk_at dksX0_findLeast_0 5 rfl rfl)
theorem dX0_findLeast_8 : decode cX0_findLeast 8 = .ok (.iload_n 1, 1) := dk_27 (dk_at dksX0_findLeast_0 8 rfl rfl)
theorem dX0_findLeast_9 : decode cX0_findLeast 9 = .ok (.invokevirtual 80, 3) := dk_182 0 80 (dk_at dksX0_findLeast_0 9 rfl rfl)
theorem dX0_findLeast_12 : decode cX0_findLeast 12 = .ok (.checkcast 88, 3) := dk_192 0 88 (dk_at dksX0_findLeast_0 12 rfl rfl)
theorem dX0_findLeast_15 : decode cX0_findLeast 15 = .ok (.aload_n 0, 1) := dk_42 (dk_at dksX0_findLeast_0 15 rfl rfl)
theorem dX0_findLeast_16 : decode cX0_findLeast 16 = .ok (.iload_n 1, 1) := dk_27 (dk_at dksX0_findLeast_0 16 rfl rfl)
theorem dX0_findLeast_17 : decode cX0_findLeast 17 = .ok (.invokevirtual 329, 3) := dk_182 1 73 (dk_at dksX0_findLeast_0 17 rfl rfl)
theorem dX0_findLeast_20 : decode cX0_findLeast 20 = .ok (.aload_n 0, 1) := dk_42 (dk_at dksX0_findLeast_0 20 rfl rfl)
theorem dX0_findLeast_21 : decode cX0_findLeast 21 = .ok (.invokevirtual 279, 3) := dk_182 1 23 (dk_at dksX0_findLeast_0 21 rfl rfl)
theorem dX0_findLeast_24 : decode cX0_findLeast 24 = .ok (.invokespecial 333, 3) := dk_183 1 77 (dk_at dksX0_findLeast_1 0 rfl rfl)
theorem dX0_findLeast_27 : decode cX0_findLeast 27 = .ok (.astore_n 2, 1) := dk_77 (dk_at dksX0_findLeast_1 3 rfl rfl)
theorem dX0_findLeast_28 : decode cX0_findLeast 28 = .ok (.aload_n 2, 1) := dk_44 (dk_at dksX0_findLeast_1 4 rfl rfl)
theorem dX0_findLeast_29 : decode cX0_findLeast 29 = .ok (.invokevirtual 336, 3) := dk_182 1 80 (dk_at dksX0_findLeast_1 5 rfl rfl)
theorem dX0_findLeast_32 : decode cX0_findLeast 32 = .ok (.aload_n 2, 1) := dk_44 (dk_at dksX0_findLeast_1 8 rfl rfl)
theorem dX0_findLeast_33 : decode cX0_findLeast 33 = .ok (.areturn, 1) := dk_176 (dk_at dksX0_findLeast_1 9 rfl rfl)
abbrev cX0_bonds : ByteArray := prog_1_method_51_code
def yX0_bonds : MethodName := ⟨RX0, "bonds", "(I)Ljava/util/ArrayList;"⟩
def dkwX0_bonds_5 : List UInt8 := [167, 255, 151, 44, 176]
abbrev dktX0_bonds_5 : List UInt8 := dkwX0_bonds_5 ++ []
def dkwX0_bonds_4 : List UInt8 := [21, 5, 182, 0, 80, 192, 0, 196, 183, 1, 68, 182, 0, 94, 87, 132, 5, 1, 167, 255, 184, 132, 3, 1]
abbrev dktX0_bonds_4 : List UInt8 := dkwX0_bonds_4 ++ dktX0_bonds_5
def dkwX0_bonds_3 : List UInt8 := [182, 0, 80, 192, 0, 196, 182, 0, 207, 153, 0, 30, 44, 187, 1, 66, 89, 25, 4, 25, 4, 180, 0, 171]
abbrev dktX0_bonds_3 : List UInt8 := dkwX0_bonds_3 ++ dktX0_bonds_4
def dkwX0_bonds_2 : List UInt8 := [182, 0, 72, 162, 0, 65, 25, 4, 27, 182, 0, 203, 153, 0, 56, 42, 25, 4, 180, 0, 171, 21, 5]
abbrev dktX0_bonds_2 : List UInt8 := dkwX0_bonds_2 ++ dktX0_bonds_3
def dkwX0_bonds_1 : List UInt8 := [180, 0, 47, 29, 182, 0, 80, 192, 0, 86, 58, 4, 3, 54, 5, 21, 5, 25, 4, 180, 0, 171]
abbrev dktX0_bonds_1 : List UInt8 := dkwX0_bonds_1 ++ dktX0_bonds_2
def dkwX0_bonds_0 : List UInt8 := [187, 0, 37, 89, 183, 0, 39, 77, 3, 62, 29, 42, 180, 0, 47, 182, 0, 72, 162, 0, 100, 42]
abbrev dktX0_bonds_0 : List UInt8 := dkwX0_bonds_0 ++ dktX0_bonds_1
theorem dksX0_bonds_0 : cX0_bonds.data.toList.drop 0 = dktX0_bonds_0 := by decide +kernel
theorem dksX0_bonds_1 : cX0_bonds.data.toList.drop 22 = dktX0_bonds_1 := dk_seg dksX0_bonds_0 22 rfl rfl
theorem dksX0_bonds_2 : cX0_bonds.data.toList.drop 44 = dktX0_bonds_2 := dk_seg dksX0_bonds_1 22 rfl rfl
theorem dksX0_bonds_3 : cX0_bonds.data.toList.drop 67 = dktX0_bonds_3 := dk_seg dksX0_bonds_2 23 rfl rfl
theorem dksX0_bonds_4 : cX0_bonds.data.toList.drop 91 = dktX0_bonds_4 := dk_seg dksX0_bonds_3 24 rfl rfl
theorem dksX0_bonds_5 : cX0_bonds.data.toList.drop 115 = dktX0_bonds_5 := dk_seg dksX0_bonds_4 24 rfl rfl
theorem dX0_bonds_0 : decode cX0_bonds 0 = .ok (.new 37, 3) := dk_187 0 37 (dk_at dksX0_bonds_0 0 rfl rfl)
theorem dX0_bonds_3 : decode cX0_bonds 3 = .ok (.dup, 1) := dk_89 (dk_at dksX0_bonds_0 3 rfl rfl)
theorem dX0_bonds_4 : decode cX0_bonds 4 = .ok (.invokespecial 39, 3) := dk_183 0 39 (dk_at dksX0_bonds_0 4 rfl rfl)
theorem dX0_bonds_7 : decode cX0_bonds 7 = .ok (.astore_n 2, 1) := dk_77 (dk_at dksX0_bonds_0 7 rfl rfl)
theorem dX0_bonds_8 : decode cX0_bonds 8 = .ok (.iconst 0, 1) := dk_3 (dk_at dksX0_bonds_0 8 rfl rfl)
theorem dX0_bonds_9 : decode cX0_bonds 9 = .ok (.istore_n 3, 1) := dk_62 (dk_at dksX0_bonds_0 9 rfl rfl)
theorem dX0_bonds_10 : decode cX0_bonds 10 = .ok (.iload_n 3, 1) := dk_29 (dk_at dksX0_bonds_0 10 rfl rfl)
theorem dX0_bonds_11 : decode cX0_bonds 11 = .ok (.aload_n 0, 1) := dk_42 (dk_at dksX0_bonds_0 11 rfl rfl)
theorem dX0_bonds_12 : decode cX0_bonds 12 = .ok (.getfield 47, 3) := dk_180 0 47 (dk_at dksX0_bonds_0 12 rfl rfl)
theorem dX0_bonds_15 : decode cX0_bonds 15 = .ok (.invokevirtual 72, 3) := dk_182 0 72 (dk_at dksX0_bonds_0 15 rfl rfl)
theorem dX0_bonds_18 : decode cX0_bonds 18 = .ok (.if_icmp .ge 100, 3) := dk_162 0 100 (dk_at dksX0_bonds_0 18 rfl rfl)
theorem dX0_bonds_21 : decode cX0_bonds 21 = .ok (.aload_n 0, 1) := dk_42 (dk_at dksX0_bonds_0 21 rfl rfl)
theorem dX0_bonds_22 : decode cX0_bonds 22 = .ok (.getfield 47, 3) := dk_180 0 47 (dk_at dksX0_bonds_1 0 rfl rfl)
theorem dX0_bonds_25 : decode cX0_bonds 25 = .ok (.iload_n 3, 1) := dk_29 (dk_at dksX0_bonds_1 3 rfl rfl)
theorem dX0_bonds_26 : decode cX0_bonds 26 = .ok (.invokevirtual 80, 3) := dk_182 0 80 (dk_at dksX0_bonds_1 4 rfl rfl)
theorem dX0_bonds_29 : decode cX0_bonds 29 = .ok (.checkcast 86, 3) := dk_192 0 86 (dk_at dksX0_bonds_1 7 rfl rfl)
theorem dX0_bonds_32 : decode cX0_bonds 32 = .ok (.astore 4, 2) := dk_58 4 (dk_at dksX0_bonds_1 10 rfl rfl)
theorem dX0_bonds_34 : decode cX0_bonds 34 = .ok (.iconst 0, 1) := dk_3 (dk_at dksX0_bonds_1 12 rfl rfl)
theorem dX0_bonds_35 : decode cX0_bonds 35 = .ok (.istore 5, 2) := dk_54 5 (dk_at dksX0_bonds_1 13 rfl rfl)
theorem dX0_bonds_37 : decode cX0_bonds 37 = .ok (.iload 5, 2) := dk_21 5 (dk_at dksX0_bonds_1 15 rfl rfl)
theorem dX0_bonds_39 : decode cX0_bonds 39 = .ok (.aload 4, 2) := dk_25 4 (dk_at dksX0_bonds_1 17 rfl rfl)
theorem dX0_bonds_41 : decode cX0_bonds 41 = .ok (.getfield 171, 3) := dk_180 0 171 (dk_at dksX0_bonds_1 19 rfl rfl)
theorem dX0_bonds_44 : decode cX0_bonds 44 = .ok (.invokevirtual 72, 3) := dk_182 0 72 (dk_at dksX0_bonds_2 0 rfl rfl)
theorem dX0_bonds_47 : decode cX0_bonds 47 = .ok (.if_icmp .ge 65, 3) := dk_162 0 65 (dk_at dksX0_bonds_2 3 rfl rfl)
theorem dX0_bonds_50 : decode cX0_bonds 50 = .ok (.aload 4, 2) := dk_25 4 (dk_at dksX0_bonds_2 6 rfl rfl)
theorem dX0_bonds_52 : decode cX0_bonds 52 = .ok (.iload_n 1, 1) := dk_27 (dk_at dksX0_bonds_2 8 rfl rfl)
theorem dX0_bonds_53 : decode cX0_bonds 53 = .ok (.invokevirtual 203, 3) := dk_182 0 203 (dk_at dksX0_bonds_2 9 rfl rfl)
theorem dX0_bonds_56 : decode cX0_bonds 56 = .ok (.ifCond .eq 56, 3) := dk_153 0 56 (dk_at dksX0_bonds_2 12 rfl rfl)
theorem dX0_bonds_59 : decode cX0_bonds 59 = .ok (.aload_n 0, 1) := dk_42 (dk_at dksX0_bonds_2 15 rfl rfl)
theorem dX0_bonds_60 : decode cX0_bonds 60 = .ok (.aload 4, 2) := dk_25 4 (dk_at dksX0_bonds_2 16 rfl rfl)
theorem dX0_bonds_62 : decode cX0_bonds 62 = .ok (.getfield 171, 3) := dk_180 0 171 (dk_at dksX0_bonds_2 18 rfl rfl)
theorem dX0_bonds_65 : decode cX0_bonds 65 = .ok (.iload 5, 2) := dk_21 5 (dk_at dksX0_bonds_2 21 rfl rfl)
theorem dX0_bonds_67 : decode cX0_bonds 67 = .ok (.invokevirtual 80, 3) := dk_182 0 80 (dk_at dksX0_bonds_3 0 rfl rfl)
theorem dX0_bonds_70 : decode cX0_bonds 70 = .ok (.checkcast 196, 3) := dk_192 0 196 (dk_at dksX0_bonds_3 3 rfl rfl)
theorem dX0_bonds_73 : decode cX0_bonds 73 = .ok (.invokevirtual 207, 3) := dk_182 0 207 (dk_at dksX0_bonds_3 6 rfl rfl)
theorem dX0_bonds_76 : decode cX0_bonds 76 = .ok (.ifCond .eq 30, 3) := dk_153 0 30 (dk_at dksX0_bonds_3 9 rfl rfl)
theorem dX0_bonds_79 : decode cX0_bonds 79 = .ok (.aload_n 2, 1) := dk_44 (dk_at dksX0_bonds_3 12 rfl rfl)
theorem dX0_bonds_80 : decode cX0_bonds 80 = .ok (.new 322, 3) := dk_187 1 66 (dk_at dksX0_bonds_3 13 rfl rfl)
theorem dX0_bonds_83 : decode cX0_bonds 83 = .ok (.dup, 1) := dk_89 (dk_at dksX0_bonds_3 16 rfl rfl)
theorem dX0_bonds_84 : decode cX0_bonds 84 = .ok (.aload 4, 2) := dk_25 4 (dk_at dksX0_bonds_3 17 rfl rfl)
theorem dX0_bonds_86 : decode cX0_bonds 86 = .ok (.aload 4, 2) := dk_25 4 (dk_at dksX0_bonds_3 19 rfl rfl)
theorem dX0_bonds_88 : decode cX0_bonds 88 = .ok (.getfield 171, 3) := dk_180 0 171 (dk_at dksX0_bonds_3 21 rfl rfl)
theorem dX0_bonds_91 : decode cX0_bonds 91 = .ok (.iload 5, 2) := dk_21 5 (dk_at dksX0_bonds_4 0 rfl rfl)
theorem dX0_bonds_93 : decode cX0_bonds 93 = .ok (.invokevirtual 80, 3) := dk_182 0 80 (dk_at dksX0_bonds_4 2 rfl rfl)
theorem dX0_bonds_96 : decode cX0_bonds 96 = .ok (.checkcast 196, 3) := dk_192 0 196 (dk_at dksX0_bonds_4 5 rfl rfl)
theorem dX0_bonds_99 : decode cX0_bonds 99 = .ok (.invokespecial 324, 3) := dk_183 1 68 (dk_at dksX0_bonds_4 8 rfl rfl)
theorem dX0_bonds_102 : decode cX0_bonds 102 = .ok (.invokevirtual 94, 3) := dk_182 0 94 (dk_at dksX0_bonds_4 11 rfl rfl)
theorem dX0_bonds_105 : decode cX0_bonds 105 = .ok (.pop, 1) := dk_87 (dk_at dksX0_bonds_4 14 rfl rfl)
theorem dX0_bonds_106 : decode cX0_bonds 106 = .ok (.iinc 5 1, 3) := dk_132 5 1 (dk_at dksX0_bonds_4 15 rfl rfl)
theorem dX0_bonds_109 : decode cX0_bonds 109 = .ok (.goto (-72), 3) := dk_167 255 184 (dk_at dksX0_bonds_4 18 rfl rfl)
theorem dX0_bonds_112 : decode cX0_bonds 112 = .ok (.iinc 3 1, 3) := dk_132 3 1 (dk_at dksX0_bonds_4 21 rfl rfl)
theorem dX0_bonds_115 : decode cX0_bonds 115 = .ok (.goto (-105), 3) := dk_167 255 151 (dk_at dksX0_bonds_5 0 rfl rfl)
theorem dX0_bonds_118 : decode cX0_bonds 118 = .ok (.aload_n 2, 1) := dk_44 (dk_at dksX0_bonds_5 3 rfl rfl)
theorem dX0_bonds_119 : decode cX0_bonds 119 = .ok (.areturn, 1) := dk_176 (dk_at dksX0_bonds_5 4 rfl rfl)
abbrev cX0_findMildest : ByteArray := prog_1_method_54_code
def yX0_findMildest : MethodName := ⟨RX0, "findMildest", "(I)LFirstIn$Mildest;"⟩
def dkwX0_findMildest_1 : List UInt8 := [183, 1, 85, 77, 44, 182, 1, 86, 44, 176]
abbrev dktX0_findMildest_1 : List UInt8 := dkwX0_findMildest_1 ++ []
def dkwX0_findMildest_0 : List UInt8 := [187, 1, 83, 89, 42, 180, 0, 50, 27, 182, 0, 80, 192, 0, 88, 42, 27, 182, 1, 73, 42, 182, 1, 23]
abbrev dktX0_findMildest_0 : List UInt8 := dkwX0_findMildest_0 ++ dktX0_findMildest_1
theorem dksX0_findMildest_0 : cX0_findMildest.data.toList.drop 0 = dktX0_findMildest_0 := by decide +kernel
theorem dksX0_findMildest_1 : cX0_findMildest.data.toList.drop 24 = dktX0_findMildest_1 := dk_seg dksX0_findMildest_0 24 rfl rfl
theorem dX0_findMildest_0 : decode cX0_findMildest 0 = .ok (.new 339, 3) := dk_187 1 83 (dk_at dksX0_findMildest_0 0 rfl rfl)
theorem dX0_findMildest_3 : decode cX0_findMildest 3 = .ok (.dup, 1) := dk_89 (dk_at dksX0_findMildest_0 3 rfl rfl)
theorem dX0_findMildest_4 : decode cX0_findMildest 4 = .ok (.aload_n 0, 1) := dk_42 (dk_at dksX0_findMildest_0 4 rfl rfl)
theorem dX0_findMildest_5 : decode cX0_findMildest 5 = .ok (.getfield 50, 3) := dk_180 0 50 (dk_at dksX0_findMildest_0 5 rfl rfl)
theorem dX0_findMildest_8 : decode cX0_findMildest 8 = .ok (.iload_n 1, 1) := dk_27 (dk_at dksX0_findMildest_0 8 rfl rfl)
theorem dX0_findMildest_9 : decode cX0_findMildest 9 = .ok (.invokevirtual 80, 3) := dk_182 0 80 (dk_at dksX0_findMildest_0 9 rfl rfl)
theorem dX0_findMildest_12 : decode cX0_findMildest 12 = .ok (.checkcast 88, 3) := dk_192 0 88 (dk_at dksX0_findMildest_0 12 rfl rfl)
theorem dX0_findMildest_15 : decode cX0_findMildest 15 = .ok (.aload_n 0, 1) := dk_42 (dk_at dksX0_findMildest_0 15 rfl rfl)
theorem dX0_findMildest_16 : decode cX0_findMildest 16 = .ok (.iload_n 1, 1) := dk_27 (dk_at dksX0_findMildest_0 16 rfl rfl)
theorem dX0_findMildest_17 : decode cX0_findMildest 17 = .ok (.invokevirtual 329, 3) := dk_182 1 73 (dk_at dksX0_findMildest_0 17 rfl rfl)
theorem dX0_findMildest_20 : decode cX0_findMildest 20 = .ok (.aload_n 0, 1) := dk_42 (dk_at dksX0_findMildest_0 20 rfl rfl)
theorem dX0_findMildest_21 : decode cX0_findMildest 21 = .ok (.invokevirtual 279, 3) := dk_182 1 23 (dk_at dksX0_findMildest_0 21 rfl rfl)
theorem dX0_findMildest_24 : decode cX0_findMildest 24 = .ok (.invokespecial 341, 3) := dk_183 1 85 (dk_at dksX0_findMildest_1 0 rfl rfl)
theorem dX0_findMildest_27 : decode cX0_findMildest 27 = .ok (.astore_n 2, 1) := dk_77 (dk_at dksX0_findMildest_1 3 rfl rfl)
theorem dX0_findMildest_28 : decode cX0_findMildest 28 = .ok (.aload_n 2, 1) := dk_44 (dk_at dksX0_findMildest_1 4 rfl rfl)
theorem dX0_findMildest_29 : decode cX0_findMildest 29 = .ok (.invokevirtual 342, 3) := dk_182 1 86 (dk_at dksX0_findMildest_1 5 rfl rfl)
theorem dX0_findMildest_32 : decode cX0_findMildest 32 = .ok (.aload_n 2, 1) := dk_44 (dk_at dksX0_findMildest_1 8 rfl rfl)
theorem dX0_findMildest_33 : decode cX0_findMildest 33 = .ok (.areturn, 1) := dk_176 (dk_at dksX0_findMildest_1 9 rfl rfl)
abbrev cX0_best : ByteArray := prog_1_method_56_code
def yX0_best : MethodName := ⟨RX0, "best", "(IIZ)I"⟩
def dkwX0_best_2 : List UInt8 := [182, 1, 90, 58, 5, 25, 5, 180, 1, 108, 28, 46, 172]
abbrev dktX0_best_2 : List UInt8 := dkwX0_best_2 ++ []
def dkwX0_best_1 : List UInt8 := [182, 1, 87, 154, 0, 5, 2, 172, 29, 153, 0, 11, 42, 27, 182, 1, 100, 167, 0, 8, 42, 27]
abbrev dktX0_best_1 : List UInt8 := dkwX0_best_1 ++ dktX0_best_2
def dkwX0_best_0 : List UInt8 := [42, 28, 182, 0, 128, 58, 4, 25, 4, 198, 0, 19, 25, 4, 180, 0, 90, 153, 0, 11, 42, 27]
abbrev dktX0_best_0 : List UInt8 := dkwX0_best_0 ++ dktX0_best_1
theorem dksX0_best_0 : cX0_best.data.toList.drop 0 = dktX0_best_0 := by decide +kernel
theorem dksX0_best_1 : cX0_best.data.toList.drop 22 = dktX0_best_1 := dk_seg dksX0_best_0 22 rfl rfl
theorem dksX0_best_2 : cX0_best.data.toList.drop 44 = dktX0_best_2 := dk_seg dksX0_best_1 22 rfl rfl
theorem dX0_best_0 : decode cX0_best 0 = .ok (.aload_n 0, 1) := dk_42 (dk_at dksX0_best_0 0 rfl rfl)
theorem dX0_best_1 : decode cX0_best 1 = .ok (.iload_n 2, 1) := dk_28 (dk_at dksX0_best_0 1 rfl rfl)
theorem dX0_best_2 : decode cX0_best 2 = .ok (.invokevirtual 128, 3) := dk_182 0 128 (dk_at dksX0_best_0 2 rfl rfl)
theorem dX0_best_5 : decode cX0_best 5 = .ok (.astore 4, 2) := dk_58 4 (dk_at dksX0_best_0 5 rfl rfl)
theorem dX0_best_7 : decode cX0_best 7 = .ok (.aload 4, 2) := dk_25 4 (dk_at dksX0_best_0 7 rfl rfl)
theorem dX0_best_9 : decode cX0_best 9 = .ok (.ifnull 19, 3) := dk_198 0 19 (dk_at dksX0_best_0 9 rfl rfl)
theorem dX0_best_12 : decode cX0_best 12 = .ok (.aload 4, 2) := dk_25 4 (dk_at dksX0_best_0 12 rfl rfl)
theorem dX0_best_14 : decode cX0_best 14 = .ok (.getfield 90, 3) := dk_180 0 90 (dk_at dksX0_best_0 14 rfl rfl)
theorem dX0_best_17 : decode cX0_best 17 = .ok (.ifCond .eq 11, 3) := dk_153 0 11 (dk_at dksX0_best_0 17 rfl rfl)
theorem dX0_best_20 : decode cX0_best 20 = .ok (.aload_n 0, 1) := dk_42 (dk_at dksX0_best_0 20 rfl rfl)
theorem dX0_best_21 : decode cX0_best 21 = .ok (.iload_n 1, 1) := dk_27 (dk_at dksX0_best_0 21 rfl rfl)
theorem dX0_best_22 : decode cX0_best 22 = .ok (.invokevirtual 343, 3) := dk_182 1 87 (dk_at dksX0_best_1 0 rfl rfl)
theorem dX0_best_25 : decode cX0_best 25 = .ok (.ifCond .ne 5, 3) := dk_154 0 5 (dk_at dksX0_best_1 3 rfl rfl)
theorem dX0_best_28 : decode cX0_best 28 = .ok (.iconst (-1), 1) := dk_2 (dk_at dksX0_best_1 6 rfl rfl)
theorem dX0_best_29 : decode cX0_best 29 = .ok (.ireturn, 1) := dk_172 (dk_at dksX0_best_1 7 rfl rfl)
theorem dX0_best_30 : decode cX0_best 30 = .ok (.iload_n 3, 1) := dk_29 (dk_at dksX0_best_1 8 rfl rfl)
theorem dX0_best_31 : decode cX0_best 31 = .ok (.ifCond .eq 11, 3) := dk_153 0 11 (dk_at dksX0_best_1 9 rfl rfl)
theorem dX0_best_34 : decode cX0_best 34 = .ok (.aload_n 0, 1) := dk_42 (dk_at dksX0_best_1 12 rfl rfl)
theorem dX0_best_35 : decode cX0_best 35 = .ok (.iload_n 1, 1) := dk_27 (dk_at dksX0_best_1 13 rfl rfl)
theorem dX0_best_36 : decode cX0_best 36 = .ok (.invokevirtual 356, 3) := dk_182 1 100 (dk_at dksX0_best_1 14 rfl rfl)
theorem dX0_best_39 : decode cX0_best 39 = .ok (.goto 8, 3) := dk_167 0 8 (dk_at dksX0_best_1 17 rfl rfl)
theorem dX0_best_42 : decode cX0_best 42 = .ok (.aload_n 0, 1) := dk_42 (dk_at dksX0_best_1 20 rfl rfl)
theorem dX0_best_43 : decode cX0_best 43 = .ok (.iload_n 1, 1) := dk_27 (dk_at dksX0_best_1 21 rfl rfl)
theorem dX0_best_44 : decode cX0_best 44 = .ok (.invokevirtual 346, 3) := dk_182 1 90 (dk_at dksX0_best_2 0 rfl rfl)
theorem dX0_best_47 : decode cX0_best 47 = .ok (.astore 5, 2) := dk_58 5 (dk_at dksX0_best_2 3 rfl rfl)
theorem dX0_best_49 : decode cX0_best 49 = .ok (.aload 5, 2) := dk_25 5 (dk_at dksX0_best_2 5 rfl rfl)
theorem dX0_best_51 : decode cX0_best 51 = .ok (.getfield 364, 3) := dk_180 1 108 (dk_at dksX0_best_2 7 rfl rfl)
theorem dX0_best_54 : decode cX0_best 54 = .ok (.iload_n 2, 1) := dk_28 (dk_at dksX0_best_2 10 rfl rfl)
theorem dX0_best_55 : decode cX0_best 55 = .ok (.iaload, 1) := dk_46 (dk_at dksX0_best_2 11 rfl rfl)
theorem dX0_best_56 : decode cX0_best 56 = .ok (.ireturn, 1) := dk_172 (dk_at dksX0_best_2 12 rfl rfl)
abbrev cX0_must : ByteArray := prog_1_method_57_code
def yX0_must : MethodName := ⟨RX0, "must", "(II)I"⟩
def dkwX0_must_2 : List UInt8 := [160, 0, 11, 21, 4, 184, 1, 114, 167, 0, 4, 2, 172]
abbrev dktX0_must_2 : List UInt8 := dkwX0_must_2 ++ []
def dkwX0_must_1 : List UInt8 := [154, 0, 5, 2, 172, 42, 27, 182, 1, 90, 180, 1, 112, 28, 46, 54, 4, 21, 4, 184, 1, 14, 4]
abbrev dktX0_must_1 : List UInt8 := dkwX0_must_1 ++ dktX0_must_2
def dkwX0_must_0 : List UInt8 := [42, 28, 182, 0, 128, 78, 45, 198, 0, 18, 45, 180, 0, 90, 153, 0, 11, 42, 27, 182, 1, 87]
abbrev dktX0_must_0 : List UInt8 := dkwX0_must_0 ++ dktX0_must_1
theorem dksX0_must_0 : cX0_must.data.toList.drop 0 = dktX0_must_0 := by decide +kernel
theorem dksX0_must_1 : cX0_must.data.toList.drop 22 = dktX0_must_1 := dk_seg dksX0_must_0 22 rfl rfl
theorem dksX0_must_2 : cX0_must.data.toList.drop 45 = dktX0_must_2 := dk_seg dksX0_must_1 23 rfl rfl
theorem dX0_must_0 : decode cX0_must 0 = .ok (.aload_n 0, 1) := dk_42 (dk_at dksX0_must_0 0 rfl rfl)
theorem dX0_must_1 : decode cX0_must 1 = .ok (.iload_n 2, 1) := dk_28 (dk_at dksX0_must_0 1 rfl rfl)
theorem dX0_must_2 : decode cX0_must 2 = .ok (.invokevirtual 128, 3) := dk_182 0 128 (dk_at dksX0_must_0 2 rfl rfl)
theorem dX0_must_5 : decode cX0_must 5 = .ok (.astore_n 3, 1) := dk_78 (dk_at dksX0_must_0 5 rfl rfl)
theorem dX0_must_6 : decode cX0_must 6 = .ok (.aload_n 3, 1) := dk_45 (dk_at dksX0_must_0 6 rfl rfl)
theorem dX0_must_7 : decode cX0_must 7 = .ok (.ifnull 18, 3) := dk_198 0 18 (dk_at dksX0_must_0 7 rfl rfl)
theorem dX0_must_10 : decode cX0_must 10 = .ok (.aload_n 3, 1) := dk_45 (dk_at dksX0_must_0 10 rfl rfl)
theorem dX0_must_11 : decode cX0_must 11 = .ok (.getfield 90, 3) := dk_180 0 90 (dk_at dksX0_must_0 11 rfl rfl)
theorem dX0_must_14 : decode cX0_must 14 = .ok (.ifCond .eq 11, 3) := dk_153 0 11 (dk_at dksX0_must_0 14 rfl rfl)
theorem dX0_must_17 : decode cX0_must 17 = .ok (.aload_n 0, 1) := dk_42 (dk_at dksX0_must_0 17 rfl rfl)
theorem dX0_must_18 : decode cX0_must 18 = .ok (.iload_n 1, 1) := dk_27 (dk_at dksX0_must_0 18 rfl rfl)
theorem dX0_must_19 : decode cX0_must 19 = .ok (.invokevirtual 343, 3) := dk_182 1 87 (dk_at dksX0_must_0 19 rfl rfl)
theorem dX0_must_22 : decode cX0_must 22 = .ok (.ifCond .ne 5, 3) := dk_154 0 5 (dk_at dksX0_must_1 0 rfl rfl)
theorem dX0_must_25 : decode cX0_must 25 = .ok (.iconst (-1), 1) := dk_2 (dk_at dksX0_must_1 3 rfl rfl)
theorem dX0_must_26 : decode cX0_must 26 = .ok (.ireturn, 1) := dk_172 (dk_at dksX0_must_1 4 rfl rfl)
theorem dX0_must_27 : decode cX0_must 27 = .ok (.aload_n 0, 1) := dk_42 (dk_at dksX0_must_1 5 rfl rfl)
theorem dX0_must_28 : decode cX0_must 28 = .ok (.iload_n 1, 1) := dk_27 (dk_at dksX0_must_1 6 rfl rfl)
theorem dX0_must_29 : decode cX0_must 29 = .ok (.invokevirtual 346, 3) := dk_182 1 90 (dk_at dksX0_must_1 7 rfl rfl)
theorem dX0_must_32 : decode cX0_must 32 = .ok (.getfield 368, 3) := dk_180 1 112 (dk_at dksX0_must_1 10 rfl rfl)
theorem dX0_must_35 : decode cX0_must 35 = .ok (.iload_n 2, 1) := dk_28 (dk_at dksX0_must_1 13 rfl rfl)
theorem dX0_must_36 : decode cX0_must 36 = .ok (.iaload, 1) := dk_46 (dk_at dksX0_must_1 14 rfl rfl)
theorem dX0_must_37 : decode cX0_must 37 = .ok (.istore 4, 2) := dk_54 4 (dk_at dksX0_must_1 15 rfl rfl)
theorem dX0_must_39 : decode cX0_must 39 = .ok (.iload 4, 2) := dk_21 4 (dk_at dksX0_must_1 17 rfl rfl)
theorem dX0_must_41 : decode cX0_must 41 = .ok (.invokestatic 270, 3) := dk_184 1 14 (dk_at dksX0_must_1 19 rfl rfl)
theorem dX0_must_44 : decode cX0_must 44 = .ok (.iconst 1, 1) := dk_4 (dk_at dksX0_must_1 22 rfl rfl)
theorem dX0_must_45 : decode cX0_must 45 = .ok (.if_icmp .ne 11, 3) := dk_160 0 11 (dk_at dksX0_must_2 0 rfl rfl)
theorem dX0_must_48 : decode cX0_must 48 = .ok (.iload 4, 2) := dk_21 4 (dk_at dksX0_must_2 3 rfl rfl)
theorem dX0_must_50 : decode cX0_must 50 = .ok (.invokestatic 370, 3) := dk_184 1 114 (dk_at dksX0_must_2 5 rfl rfl)
theorem dX0_must_53 : decode cX0_must 53 = .ok (.goto 4, 3) := dk_167 0 4 (dk_at dksX0_must_2 8 rfl rfl)
theorem dX0_must_56 : decode cX0_must 56 = .ok (.iconst (-1), 1) := dk_2 (dk_at dksX0_must_2 11 rfl rfl)
theorem dX0_must_57 : decode cX0_must 57 = .ok (.ireturn, 1) := dk_172 (dk_at dksX0_must_2 12 rfl rfl)
abbrev cX0_free : ByteArray := prog_1_method_58_code
def yX0_free : MethodName := ⟨RX0, "free", "(II)I"⟩
def dkwX0_free_3 : List UInt8 := [54, 4, 132, 5, 1, 167, 255, 225, 21, 4, 172]
abbrev dktX0_free_3 : List UInt8 := dkwX0_free_3 ++ []
def dkwX0_free_2 : List UInt8 := [42, 180, 0, 40, 182, 0, 72, 162, 0, 25, 21, 4, 45, 180, 1, 112, 21, 5, 46, 28, 122, 4, 126, 96]
abbrev dktX0_free_2 : List UInt8 := dkwX0_free_2 ++ dktX0_free_3
def dkwX0_free_1 : List UInt8 := [4, 100, 184, 0, 76, 154, 0, 5, 2, 172, 42, 27, 182, 1, 90, 78, 3, 54, 4, 3, 54, 5, 21, 5]
abbrev dktX0_free_1 : List UInt8 := dkwX0_free_1 ++ dktX0_free_2
def dkwX0_free_0 : List UInt8 := [42, 27, 182, 1, 87, 153, 0, 27, 28, 3, 42, 180, 0, 50, 27, 182, 0, 80, 192, 0, 88, 180, 0, 184]
abbrev dktX0_free_0 : List UInt8 := dkwX0_free_0 ++ dktX0_free_1
theorem dksX0_free_0 : cX0_free.data.toList.drop 0 = dktX0_free_0 := by decide +kernel
theorem dksX0_free_1 : cX0_free.data.toList.drop 24 = dktX0_free_1 := dk_seg dksX0_free_0 24 rfl rfl
theorem dksX0_free_2 : cX0_free.data.toList.drop 48 = dktX0_free_2 := dk_seg dksX0_free_1 24 rfl rfl
theorem dksX0_free_3 : cX0_free.data.toList.drop 72 = dktX0_free_3 := dk_seg dksX0_free_2 24 rfl rfl
theorem dX0_free_0 : decode cX0_free 0 = .ok (.aload_n 0, 1) := dk_42 (dk_at dksX0_free_0 0 rfl rfl)
theorem dX0_free_1 : decode cX0_free 1 = .ok (.iload_n 1, 1) := dk_27 (dk_at dksX0_free_0 1 rfl rfl)
theorem dX0_free_2 : decode cX0_free 2 = .ok (.invokevirtual 343, 3) := dk_182 1 87 (dk_at dksX0_free_0 2 rfl rfl)
theorem dX0_free_5 : decode cX0_free 5 = .ok (.ifCond .eq 27, 3) := dk_153 0 27 (dk_at dksX0_free_0 5 rfl rfl)
theorem dX0_free_8 : decode cX0_free 8 = .ok (.iload_n 2, 1) := dk_28 (dk_at dksX0_free_0 8 rfl rfl)
theorem dX0_free_9 : decode cX0_free 9 = .ok (.iconst 0, 1) := dk_3 (dk_at dksX0_free_0 9 rfl rfl)
theorem dX0_free_10 : decode cX0_free 10 = .ok (.aload_n 0, 1) := dk_42 (dk_at dksX0_free_0 10 rfl rfl)
theorem dX0_free_11 : decode cX0_free 11 = .ok (.getfield 50, 3) := dk_180 0 50 (dk_at dksX0_free_0 11 rfl rfl)
theorem dX0_free_14 : decode cX0_free 14 = .ok (.iload_n 1, 1) := dk_27 (dk_at dksX0_free_0 14 rfl rfl)
theorem dX0_free_15 : decode cX0_free 15 = .ok (.invokevirtual 80, 3) := dk_182 0 80 (dk_at dksX0_free_0 15 rfl rfl)
theorem dX0_free_18 : decode cX0_free 18 = .ok (.checkcast 88, 3) := dk_192 0 88 (dk_at dksX0_free_0 18 rfl rfl)
theorem dX0_free_21 : decode cX0_free 21 = .ok (.getfield 184, 3) := dk_180 0 184 (dk_at dksX0_free_0 21 rfl rfl)
theorem dX0_free_24 : decode cX0_free 24 = .ok (.iconst 1, 1) := dk_4 (dk_at dksX0_free_1 0 rfl rfl)
theorem dX0_free_25 : decode cX0_free 25 = .ok (.isub, 1) := dk_100 (dk_at dksX0_free_1 1 rfl rfl)
theorem dX0_free_26 : decode cX0_free 26 = .ok (.invokestatic 76, 3) := dk_184 0 76 (dk_at dksX0_free_1 2 rfl rfl)
theorem dX0_free_29 : decode cX0_free 29 = .ok (.ifCond .ne 5, 3) := dk_154 0 5 (dk_at dksX0_free_1 5 rfl rfl)
theorem dX0_free_32 : decode cX0_free 32 = .ok (.iconst (-1), 1) := dk_2 (dk_at dksX0_free_1 8 rfl rfl)
theorem dX0_free_33 : decode cX0_free 33 = .ok (.ireturn, 1) := dk_172 (dk_at dksX0_free_1 9 rfl rfl)
theorem dX0_free_34 : decode cX0_free 34 = .ok (.aload_n 0, 1) := dk_42 (dk_at dksX0_free_1 10 rfl rfl)
theorem dX0_free_35 : decode cX0_free 35 = .ok (.iload_n 1, 1) := dk_27 (dk_at dksX0_free_1 11 rfl rfl)
theorem dX0_free_36 : decode cX0_free 36 = .ok (.invokevirtual 346, 3) := dk_182 1 90 (dk_at dksX0_free_1 12 rfl rfl)
theorem dX0_free_39 : decode cX0_free 39 = .ok (.astore_n 3, 1) := dk_78 (dk_at dksX0_free_1 15 rfl rfl)
theorem dX0_free_40 : decode cX0_free 40 = .ok (.iconst 0, 1) := dk_3 (dk_at dksX0_free_1 16 rfl rfl)
theorem dX0_free_41 : decode cX0_free 41 = .ok (.istore 4, 2) := dk_54 4 (dk_at dksX0_free_1 17 rfl rfl)
theorem dX0_free_43 : decode cX0_free 43 = .ok (.iconst 0, 1) := dk_3 (dk_at dksX0_free_1 19 rfl rfl)
theorem dX0_free_44 : decode cX0_free 44 = .ok (.istore 5, 2) := dk_54 5 (dk_at dksX0_free_1 20 rfl rfl)
theorem dX0_free_46 : decode cX0_free 46 = .ok (.iload 5, 2) := dk_21 5 (dk_at dksX0_free_1 22 rfl rfl)
theorem dX0_free_48 : decode cX0_free 48 = .ok (.aload_n 0, 1) := dk_42 (dk_at dksX0_free_2 0 rfl rfl)
theorem dX0_free_49 : decode cX0_free 49 = .ok (.getfield 40, 3) := dk_180 0 40 (dk_at dksX0_free_2 1 rfl rfl)
theorem dX0_free_52 : decode cX0_free 52 = .ok (.invokevirtual 72, 3) := dk_182 0 72 (dk_at dksX0_free_2 4 rfl rfl)
theorem dX0_free_55 : decode cX0_free 55 = .ok (.if_icmp .ge 25, 3) := dk_162 0 25 (dk_at dksX0_free_2 7 rfl rfl)
theorem dX0_free_58 : decode cX0_free 58 = .ok (.iload 4, 2) := dk_21 4 (dk_at dksX0_free_2 10 rfl rfl)
theorem dX0_free_60 : decode cX0_free 60 = .ok (.aload_n 3, 1) := dk_45 (dk_at dksX0_free_2 12 rfl rfl)
theorem dX0_free_61 : decode cX0_free 61 = .ok (.getfield 368, 3) := dk_180 1 112 (dk_at dksX0_free_2 13 rfl rfl)
theorem dX0_free_64 : decode cX0_free 64 = .ok (.iload 5, 2) := dk_21 5 (dk_at dksX0_free_2 16 rfl rfl)
theorem dX0_free_66 : decode cX0_free 66 = .ok (.iaload, 1) := dk_46 (dk_at dksX0_free_2 18 rfl rfl)
theorem dX0_free_67 : decode cX0_free 67 = .ok (.iload_n 2, 1) := dk_28 (dk_at dksX0_free_2 19 rfl rfl)
theorem dX0_free_68 : decode cX0_free 68 = .ok (.ishr, 1) := dk_122 (dk_at dksX0_free_2 20 rfl rfl)
theorem dX0_free_69 : decode cX0_free 69 = .ok (.iconst 1, 1) := dk_4 (dk_at dksX0_free_2 21 rfl rfl)
theorem dX0_free_70 : decode cX0_free 70 = .ok (.iand, 1) := dk_126 (dk_at dksX0_free_2 22 rfl rfl)
theorem dX0_free_71 : decode cX0_free 71 = .ok (.iadd, 1) := dk_96 (dk_at dksX0_free_2 23 rfl rfl)
theorem dX0_free_72 : decode cX0_free 72 = .ok (.istore 4, 2) := dk_54 4 (dk_at dksX0_free_3 0 rfl rfl)
theorem dX0_free_74 : decode cX0_free 74 = .ok (.iinc 5 1, 3) := dk_132 5 1 (dk_at dksX0_free_3 2 rfl rfl)
theorem dX0_free_77 : decode cX0_free 77 = .ok (.goto (-31), 3) := dk_167 255 225 (dk_at dksX0_free_3 5 rfl rfl)
theorem dX0_free_80 : decode cX0_free 80 = .ok (.iload 4, 2) := dk_21 4 (dk_at dksX0_free_3 8 rfl rfl)
theorem dX0_free_82 : decode cX0_free 82 = .ok (.ireturn, 1) := dk_172 (dk_at dksX0_free_3 10 rfl rfl)
abbrev cX0_mended : ByteArray := prog_1_method_59_code
def yX0_mended : MethodName := ⟨RX0, "mended", "(III)I"⟩
def dkwX0_mended_4 : List UInt8 := [25, 5, 180, 1, 123, 167, 0, 10, 25, 5, 180, 1, 124, 29, 46, 172]
abbrev dktX0_mended_4 : List UInt8 := dkwX0_mended_4 ++ []
def dkwX0_mended_3 : List UInt8 := [182, 1, 122, 25, 5, 180, 1, 123, 19, 1, 45, 160, 0, 7, 2, 167, 0, 23, 29, 2, 160, 0, 11]
abbrev dktX0_mended_3 : List UInt8 := dkwX0_mended_3 ++ dktX0_mended_4
def dkwX0_mended_2 : List UInt8 := [182, 0, 80, 192, 0, 88, 27, 28, 42, 27, 182, 1, 73, 42, 182, 1, 23, 183, 1, 119, 58, 5, 25, 5]
abbrev dktX0_mended_2 : List UInt8 := dkwX0_mended_2 ++ dktX0_mended_3
def dkwX0_mended_1 : List UInt8 := [198, 0, 11, 25, 4, 180, 0, 90, 154, 0, 5, 2, 172, 187, 1, 117, 89, 42, 180, 0, 50, 27]
abbrev dktX0_mended_1 : List UInt8 := dkwX0_mended_1 ++ dktX0_mended_2
def dkwX0_mended_0 : List UInt8 := [42, 29, 182, 0, 128, 58, 4, 42, 27, 182, 1, 87, 153, 0, 21, 29, 2, 159, 0, 18, 25, 4]
abbrev dktX0_mended_0 : List UInt8 := dkwX0_mended_0 ++ dktX0_mended_1
theorem dksX0_mended_0 : cX0_mended.data.toList.drop 0 = dktX0_mended_0 := by decide +kernel
theorem dksX0_mended_1 : cX0_mended.data.toList.drop 22 = dktX0_mended_1 := dk_seg dksX0_mended_0 22 rfl rfl
theorem dksX0_mended_2 : cX0_mended.data.toList.drop 44 = dktX0_mended_2 := dk_seg dksX0_mended_1 22 rfl rfl
theorem dksX0_mended_3 : cX0_mended.data.toList.drop 68 = dktX0_mended_3 := dk_seg dksX0_mended_2 24 rfl rfl
theorem dksX0_mended_4 : cX0_mended.data.toList.drop 91 = dktX0_mended_4 := dk_seg dksX0_mended_3 23 rfl rfl
theorem dX0_mended_0 : decode cX0_mended 0 = .ok (.aload_n 0, 1) := dk_42 (dk_at dksX0_mended_0 0 rfl rfl)
theorem dX0_mended_1 : decode cX0_mended 1 = .ok (.iload_n 3, 1) := dk_29 (dk_at dksX0_mended_0 1 rfl rfl)
theorem dX0_mended_2 : decode cX0_mended 2 = .ok (.invokevirtual 128, 3) := dk_182 0 128 (dk_at dksX0_mended_0 2 rfl rfl)
theorem dX0_mended_5 : decode cX0_mended 5 = .ok (.astore 4, 2) := dk_58 4 (dk_at dksX0_mended_0 5 rfl rfl)
theorem dX0_mended_7 : decode cX0_mended 7 = .ok (.aload_n 0, 1) := dk_42 (dk_at dksX0_mended_0 7 rfl rfl)
theorem dX0_mended_8 : decode cX0_mended 8 = .ok (.iload_n 1, 1) := dk_27 (dk_at dksX0_mended_0 8 rfl rfl)
theorem dX0_mended_9 : decode cX0_mended 9 = .ok (.invokevirtual 343, 3) := dk_182 1 87 (dk_at dksX0_mended_0 9 rfl rfl)
theorem dX0_mended_12 : decode cX0_mended 12 = .ok (.ifCond .eq 21, 3) := dk_153 0 21 (dk_at dksX0_mended_0 12 rfl rfl)
theorem dX0_mended_15 : decode cX0_mended 15 = .ok (.iload_n 3, 1) := dk_29 (dk_at dksX0_mended_0 15 rfl rfl)
theorem dX0_mended_16 : decode cX0_mended 16 = .ok (.iconst (-1), 1) := dk_2 (dk_at dksX0_mended_0 16 rfl rfl)
theorem dX0_mended_17 : decode cX0_mended 17 = .ok (.if_icmp .eq 18, 3) := dk_159 0 18 (dk_at dksX0_mended_0 17 rfl rfl)
theorem dX0_mended_20 : decode cX0_mended 20 = .ok (.aload 4, 2) := dk_25 4 (dk_at dksX0_mended_0 20 rfl rfl)
theorem dX0_mended_22 : decode cX0_mended 22 = .ok (.ifnull 11, 3) := dk_198 0 11 (dk_at dksX0_mended_1 0 rfl rfl)
theorem dX0_mended_25 : decode cX0_mended 25 = .ok (.aload 4, 2) := dk_25 4 (dk_at dksX0_mended_1 3 rfl rfl)
theorem dX0_mended_27 : decode cX0_mended 27 = .ok (.getfield 90, 3) := dk_180 0 90 (dk_at dksX0_mended_1 5 rfl rfl)
theorem dX0_mended_30 : decode cX0_mended 30 = .ok (.ifCond .ne 5, 3) := dk_154 0 5 (dk_at dksX0_mended_1 8 rfl rfl)
theorem dX0_mended_33 : decode cX0_mended 33 = .ok (.iconst (-1), 1) := dk_2 (dk_at dksX0_mended_1 11 rfl rfl)
theorem dX0_mended_34 : decode cX0_mended 34 = .ok (.ireturn, 1) := dk_172 (dk_at dksX0_mended_1 12 rfl rfl)
theorem dX0_mended_35 : decode cX0_mended 35 = .ok (.new 373, 3) := dk_187 1 117 (dk_at dksX0_mended_1 13 rfl rfl)
theorem dX0_mended_38 : decode cX0_mended 38 = .ok (.dup, 1) := dk_89 (dk_at dksX0_mended_1 16 rfl rfl)
theorem dX0_mended_39 : decode cX0_mended 39 = .ok (.aload_n 0, 1) := dk_42 (dk_at dksX0_mended_1 17 rfl rfl)
theorem dX0_mended_40 : decode cX0_mended 40 = .ok (.getfield 50, 3) := dk_180 0 50 (dk_at dksX0_mended_1 18 rfl rfl)
theorem dX0_mended_43 : decode cX0_mended 43 = .ok (.iload_n 1, 1) := dk_27 (dk_at dksX0_mended_1 21 rfl rfl)
theorem dX0_mended_44 : decode cX0_mended 44 = .ok (.invokevirtual 80, 3) := dk_182 0 80 (dk_at dksX0_mended_2 0 rfl rfl)
theorem dX0_mended_47 : decode cX0_mended 47 = .ok (.checkcast 88, 3) := dk_192 0 88 (dk_at dksX0_mended_2 3 rfl rfl)
theorem dX0_mended_50 : decode cX0_mended 50 = .ok (.iload_n 1, 1) := dk_27 (dk_at dksX0_mended_2 6 rfl rfl)
theorem dX0_mended_51 : decode cX0_mended 51 = .ok (.iload_n 2, 1) := dk_28 (dk_at dksX0_mended_2 7 rfl rfl)
theorem dX0_mended_52 : decode cX0_mended 52 = .ok (.aload_n 0, 1) := dk_42 (dk_at dksX0_mended_2 8 rfl rfl)
theorem dX0_mended_53 : decode cX0_mended 53 = .ok (.iload_n 1, 1) := dk_27 (dk_at dksX0_mended_2 9 rfl rfl)
theorem dX0_mended_54 : decode cX0_mended 54 = .ok (.invokevirtual 329, 3) := dk_182 1 73 (dk_at dksX0_mended_2 10 rfl rfl)
theorem dX0_mended_57 : decode cX0_mended 57 = .ok (.aload_n 0, 1) := dk_42 (dk_at dksX0_mended_2 13 rfl rfl)
theorem dX0_mended_58 : decode cX0_mended 58 = .ok (.invokevirtual 279, 3) := dk_182 1 23 (dk_at dksX0_mended_2 14 rfl rfl)
theorem dX0_mended_61 : decode cX0_mended 61 = .ok (.invokespecial 375, 3) := dk_183 1 119 (dk_at dksX0_mended_2 17 rfl rfl)
theorem dX0_mended_64 : decode cX0_mended 64 = .ok (.astore 5, 2) := dk_58 5 (dk_at dksX0_mended_2 20 rfl rfl)
theorem dX0_mended_66 : decode cX0_mended 66 = .ok (.aload 5, 2) := dk_25 5 (dk_at dksX0_mended_2 22 rfl rfl)
theorem dX0_mended_68 : decode cX0_mended 68 = .ok (.invokevirtual 378, 3) := dk_182 1 122 (dk_at dksX0_mended_3 0 rfl rfl)
theorem dX0_mended_71 : decode cX0_mended 71 = .ok (.aload 5, 2) := dk_25 5 (dk_at dksX0_mended_3 3 rfl rfl)
theorem dX0_mended_73 : decode cX0_mended 73 = .ok (.getfield 379, 3) := dk_180 1 123 (dk_at dksX0_mended_3 5 rfl rfl)
theorem dX0_mended_76 : decode cX0_mended 76 = .ok (.ldc_w 301, 3) := dk_19 1 45 (dk_at dksX0_mended_3 8 rfl rfl)
theorem dX0_mended_79 : decode cX0_mended 79 = .ok (.if_icmp .ne 7, 3) := dk_160 0 7 (dk_at dksX0_mended_3 11 rfl rfl)
theorem dX0_mended_82 : decode cX0_mended 82 = .ok (.iconst (-1), 1) := dk_2 (dk_at dksX0_mended_3 14 rfl rfl)
theorem dX0_mended_83 : decode cX0_mended 83 = .ok (.goto 23, 3) := dk_167 0 23 (dk_at dksX0_mended_3 15 rfl rfl)
theorem dX0_mended_86 : decode cX0_mended 86 = .ok (.iload_n 3, 1) := dk_29 (dk_at dksX0_mended_3 18 rfl rfl)
theorem dX0_mended_87 : decode cX0_mended 87 = .ok (.iconst (-1), 1) := dk_2 (dk_at dksX0_mended_3 19 rfl rfl)
theorem dX0_mended_88 : decode cX0_mended 88 = .ok (.if_icmp .ne 11, 3) := dk_160 0 11 (dk_at dksX0_mended_3 20 rfl rfl)
theorem dX0_mended_91 : decode cX0_mended 91 = .ok (.aload 5, 2) := dk_25 5 (dk_at dksX0_mended_4 0 rfl rfl)
theorem dX0_mended_93 : decode cX0_mended 93 = .ok (.getfield 379, 3) := dk_180 1 123 (dk_at dksX0_mended_4 2 rfl rfl)
theorem dX0_mended_96 : decode cX0_mended 96 = .ok (.goto 10, 3) := dk_167 0 10 (dk_at dksX0_mended_4 5 rfl rfl)
theorem dX0_mended_99 : decode cX0_mended 99 = .ok (.aload 5, 2) := dk_25 5 (dk_at dksX0_mended_4 8 rfl rfl)
theorem dX0_mended_101 : decode cX0_mended 101 = .ok (.getfield 380, 3) := dk_180 1 124 (dk_at dksX0_mended_4 10 rfl rfl)
theorem dX0_mended_104 : decode cX0_mended 104 = .ok (.iload_n 3, 1) := dk_29 (dk_at dksX0_mended_4 13 rfl rfl)
theorem dX0_mended_105 : decode cX0_mended 105 = .ok (.iaload, 1) := dk_46 (dk_at dksX0_mended_4 14 rfl rfl)
theorem dX0_mended_106 : decode cX0_mended 106 = .ok (.ireturn, 1) := dk_172 (dk_at dksX0_mended_4 15 rfl rfl)
abbrev cX0_evened : ByteArray := prog_1_method_60_code
def yX0_evened : MethodName := ⟨RX0, "evened", "(III)I"⟩
def dkwX0_evened_13 : List UInt8 := [132, 10, 255, 167, 255, 240, 21, 8, 21, 5, 112, 172]
abbrev dktX0_evened_13 : List UInt8 := dkwX0_evened_13 ++ []
def dkwX0_evened_12 : List UInt8 := [160, 0, 6, 21, 9, 172, 28, 4, 100, 54, 10, 21, 10, 29, 164, 0, 16, 21, 8, 21, 5, 108, 54, 8]
abbrev dktX0_evened_12 : List UInt8 := dkwX0_evened_12 ++ dktX0_evened_13
def dkwX0_evened_11 : List UInt8 := [21, 9, 161, 0, 6, 167, 0, 11, 21, 11, 54, 9, 21, 10, 54, 8, 132, 10, 1, 167, 255, 147, 29, 2]
abbrev dktX0_evened_11 : List UInt8 := dkwX0_evened_11 ++ dktX0_evened_12
def dkwX0_evened_10 : List UInt8 := [132, 15, 1, 167, 255, 221, 21, 11, 21, 13, 184, 0, 240, 54, 11, 132, 12, 1, 167, 255, 184, 21, 11]
abbrev dktX0_evened_10 : List UInt8 := dkwX0_evened_10 ++ dktX0_evened_11
def dkwX0_evened_9 : List UInt8 := [16, 10, 21, 14, 21, 5, 112, 104, 21, 12, 96, 46, 96, 54, 13, 21, 14, 21, 5, 108, 54, 14]
abbrev dktX0_evened_9 : List UInt8 := dkwX0_evened_9 ++ dktX0_evened_10
def dkwX0_evened_8 : List UInt8 := [162, 0, 66, 3, 54, 13, 21, 10, 54, 14, 3, 54, 15, 21, 15, 28, 162, 0, 35, 21, 13, 25, 7]
abbrev dktX0_evened_8 : List UInt8 := dkwX0_evened_8 ++ dktX0_evened_9
def dkwX0_evened_7 : List UInt8 := [21, 10, 21, 6, 162, 0, 108, 3, 54, 11, 3, 54, 12, 21, 12, 42, 180, 0, 40, 182, 0, 72]
abbrev dktX0_evened_7 : List UInt8 := dkwX0_evened_7 ++ dktX0_evened_8
def dkwX0_evened_6 : List UInt8 := [132, 10, 1, 167, 255, 223, 132, 8, 1, 167, 255, 197, 3, 54, 8, 19, 1, 45, 54, 9, 3, 54, 10]
abbrev dktX0_evened_6 : List UInt8 := dkwX0_evened_6 ++ dktX0_evened_7
def dkwX0_evened_5 : List UInt8 := [182, 0, 72, 162, 0, 27, 25, 7, 16, 10, 21, 8, 104, 21, 10, 96, 25, 9, 21, 10, 184, 0, 249, 79]
abbrev dktX0_evened_5 : List UInt8 := dkwX0_evened_5 ++ dktX0_evened_6
def dkwX0_evened_4 : List UInt8 := [162, 0, 58, 42, 27, 3, 21, 8, 182, 0, 236, 58, 9, 3, 54, 10, 21, 10, 42, 180, 0, 40]
abbrev dktX0_evened_4 : List UInt8 := dkwX0_evened_4 ++ dktX0_evened_5
def dkwX0_evened_3 : List UInt8 := [104, 54, 6, 132, 7, 1, 167, 255, 240, 16, 80, 188, 10, 58, 7, 3, 54, 8, 21, 8, 21, 5]
abbrev dktX0_evened_3 : List UInt8 := dkwX0_evened_3 ++ dktX0_evened_4
def dkwX0_evened_2 : List UInt8 := [172, 25, 4, 180, 0, 184, 54, 5, 4, 54, 6, 3, 54, 7, 21, 7, 28, 162, 0, 16, 21, 6, 21, 5]
abbrev dktX0_evened_2 : List UInt8 := dkwX0_evened_2 ++ dktX0_evened_3
def dkwX0_evened_1 : List UInt8 := [163, 0, 23, 28, 4, 6, 184, 0, 76, 153, 0, 14, 29, 2, 28, 4, 100, 184, 0, 76, 154, 0, 5, 2]
abbrev dktX0_evened_1 : List UInt8 := dkwX0_evened_1 ++ dktX0_evened_2
def dkwX0_evened_0 : List UInt8 := [42, 27, 182, 0, 180, 58, 4, 25, 4, 193, 0, 16, 153, 0, 33, 25, 4, 180, 0, 184, 16, 8]
abbrev dktX0_evened_0 : List UInt8 := dkwX0_evened_0 ++ dktX0_evened_1
theorem dksX0_evened_0 : cX0_evened.data.toList.drop 0 = dktX0_evened_0 := by decide +kernel
theorem dksX0_evened_1 : cX0_evened.data.toList.drop 22 = dktX0_evened_1 := dk_seg dksX0_evened_0 22 rfl rfl
theorem dksX0_evened_2 : cX0_evened.data.toList.drop 46 = dktX0_evened_2 := dk_seg dksX0_evened_1 24 rfl rfl
theorem dksX0_evened_3 : cX0_evened.data.toList.drop 70 = dktX0_evened_3 := dk_seg dksX0_evened_2 24 rfl rfl
theorem dksX0_evened_4 : cX0_evened.data.toList.drop 92 = dktX0_evened_4 := dk_seg dksX0_evened_3 22 rfl rfl
theorem dksX0_evened_5 : cX0_evened.data.toList.drop 114 = dktX0_evened_5 := dk_seg dksX0_evened_4 22 rfl rfl
theorem dksX0_evened_6 : cX0_evened.data.toList.drop 138 = dktX0_evened_6 := dk_seg dksX0_evened_5 24 rfl rfl
theorem dksX0_evened_7 : cX0_evened.data.toList.drop 161 = dktX0_evened_7 := dk_seg dksX0_evened_6 23 rfl rfl
theorem dksX0_evened_8 : cX0_evened.data.toList.drop 183 = dktX0_evened_8 := dk_seg dksX0_evened_7 22 rfl rfl
theorem dksX0_evened_9 : cX0_evened.data.toList.drop 206 = dktX0_evened_9 := dk_seg dksX0_evened_8 23 rfl rfl
theorem dksX0_evened_10 : cX0_evened.data.toList.drop 228 = dktX0_evened_10 := dk_seg dksX0_evened_9 22 rfl rfl
theorem dksX0_evened_11 : cX0_evened.data.toList.drop 251 = dktX0_evened_11 := dk_seg dksX0_evened_10 23 rfl rfl
theorem dksX0_evened_12 : cX0_evened.data.toList.drop 275 = dktX0_evened_12 := dk_seg dksX0_evened_11 24 rfl rfl
theorem dksX0_evened_13 : cX0_evened.data.toList.drop 299 = dktX0_evened_13 := dk_seg dksX0_evened_12 24 rfl rfl
theorem dX0_evened_0 : decode cX0_evened 0 = .ok (.aload_n 0, 1) := dk_42 (dk_at dksX0_evened_0 0 rfl rfl)
theorem dX0_evened_1 : decode cX0_evened 1 = .ok (.iload_n 1, 1) := dk_27 (dk_at dksX0_evened_0 1 rfl rfl)
theorem dX0_evened_2 : decode cX0_evened 2 = .ok (.invokevirtual 180, 3) := dk_182 0 180 (dk_at dksX0_evened_0 2 rfl rfl)
theorem dX0_evened_5 : decode cX0_evened 5 = .ok (.astore 4, 2) := dk_58 4 (dk_at dksX0_evened_0 5 rfl rfl)
theorem dX0_evened_7 : decode cX0_evened 7 = .ok (.aload 4, 2) := dk_25 4 (dk_at dksX0_evened_0 7 rfl rfl)
theorem dX0_evened_9 : decode cX0_evened 9 = .ok (.instanceof 16, 3) := dk_193 0 16 (dk_at dksX0_evened_0 9 rfl rfl)
theorem dX0_evened_12 : decode cX0_evened 12 = .ok (.ifCond .eq 33, 3) := dk_153 0 33 (dk_at dksX0_evened_0 12 rfl rfl)
theorem dX0_evened_15 : decode cX0_evened 15 = .ok (.aload 4, 2) := dk_25 4 (dk_at dksX0_evened_0 15 rfl rfl)
theorem dX0_evened_17 : decode cX0_evened 17 = .ok (.getfield 184, 3) := dk_180 0 184 (dk_at dksX0_evened_0 17 rfl rfl)
theorem dX0_evened_20 : decode cX0_evened 20 = .ok (.bipush 8, 2) := dk_16 8 (dk_at dksX0_evened_0 20 rfl rfl)
theorem dX0_evened_22 : decode cX0_evened 22 = .ok (.if_icmp .gt 23, 3) := dk_163 0 23 (dk_at dksX0_evened_1 0 rfl rfl)
theorem dX0_evened_25 : decode cX0_evened 25 = .ok (.iload_n 2, 1) := dk_28 (dk_at dksX0_evened_1 3 rfl rfl)
theorem dX0_evened_26 : decode cX0_evened 26 = .ok (.iconst 1, 1) := dk_4 (dk_at dksX0_evened_1 4 rfl rfl)
theorem dX0_evened_27 : decode cX0_evened 27 = .ok (.iconst 3, 1) := dk_6 (dk_at dksX0_evened_1 5 rfl rfl)
theorem dX0_evened_28 : decode cX0_evened 28 = .ok (.invokestatic 76, 3) := dk_184 0 76 (dk_at dksX0_evened_1 6 rfl rfl)
theorem dX0_evened_31 : decode cX0_evened 31 = .ok (.ifCond .eq 14, 3) := dk_153 0 14 (dk_at dksX0_evened_1 9 rfl rfl)
theorem dX0_evened_34 : decode cX0_evened 34 = .ok (.iload_n 3, 1) := dk_29 (dk_at dksX0_evened_1 12 rfl rfl)
theorem dX0_evened_35 : decode cX0_evened 35 = .ok (.iconst (-1), 1) := dk_2 (dk_at dksX0_evened_1 13 rfl rfl)
theorem dX0_evened_36 : decode cX0_evened 36 = .ok (.iload_n 2, 1) := dk_28 (dk_at dksX0_evened_1 14 rfl rfl)
theorem dX0_evened_37 : decode cX0_evened 37 = .ok (.iconst 1, 1) := dk_4 (dk_at dksX0_evened_1 15 rfl rfl)
theorem dX0_evened_38 : decode cX0_evened 38 = .ok (.isub, 1) := dk_100 (dk_at dksX0_evened_1 16 rfl rfl)
theorem dX0_evened_39 : decode cX0_evened 39 = .ok (.invokestatic 76, 3) := dk_184 0 76 (dk_at dksX0_evened_1 17 rfl rfl)
theorem dX0_evened_42 : decode cX0_evened 42 = .ok (.ifCond .ne 5, 3) := dk_154 0 5 (dk_at dksX0_evened_1 20 rfl rfl)
theorem dX0_evened_45 : decode cX0_evened 45 = .ok (.iconst (-1), 1) := dk_2 (dk_at dksX0_evened_1 23 rfl rfl)
theorem dX0_evened_46 : decode cX0_evened 46 = .ok (.ireturn, 1) := dk_172 (dk_at dksX0_evened_2 0 rfl rfl)
theorem dX0_evened_47 : decode cX0_evened 47 = .ok (.aload 4, 2) := dk_25 4 (dk_at dksX0_evened_2 1 rfl rfl)
theorem dX0_evened_49 : decode cX0_evened 49 = .ok (.getfield 184, 3) := dk_180 0 184 (dk_at dksX0_evened_2 3 rfl rfl)
theorem dX0_evened_52 : decode cX0_evened 52 = .ok (.istore 5, 2) := dk_54 5 (dk_at dksX0_evened_2 6 rfl rfl)
theorem dX0_evened_54 : decode cX0_evened 54 = .ok (.iconst 1, 1) := dk_4 (dk_at dksX0_evened_2 8 rfl rfl)
theorem dX0_evened_55 : decode cX0_evened 55 = .ok (.istore 6, 2) := dk_54 6 (dk_at dksX0_evened_2 9 rfl rfl)
theorem dX0_evened_57 : decode cX0_evened 57 = .ok (.iconst 0, 1) := dk_3 (dk_at dksX0_evened_2 11 rfl rfl)
theorem dX0_evened_58 : decode cX0_evened 58 = .ok (.istore 7, 2) := dk_54 7 (dk_at dksX0_evened_2 12 rfl rfl)
theorem dX0_evened_60 : decode cX0_evened 60 = .ok (.iload 7, 2) := dk_21 7 (dk_at dksX0_evened_2 14 rfl rfl)
theorem dX0_evened_62 : decode cX0_evened 62 = .ok (.iload_n 2, 1) := dk_28 (dk_at dksX0_evened_2 16 rfl rfl)
theorem dX0_evened_63 : decode cX0_evened 63 = .ok (.if_icmp .ge 16, 3) := dk_162 0 16 (dk_at dksX0_evened_2 17 rfl rfl)
theorem dX0_evened_66 : decode cX0_evened 66 = .ok (.iload 6, 2) := dk_21 6 (dk_at dksX0_evened_2 20 rfl rfl)
theorem dX0_evened_68 : decode cX0_evened 68 = .ok (.iload 5, 2) := dk_21 5 (dk_at dksX0_evened_2 22 rfl rfl)
theorem dX0_evened_70 : decode cX0_evened 70 = .ok (.imul, 1) := dk_104 (dk_at dksX0_evened_3 0 rfl rfl)
theorem dX0_evened_71 : decode cX0_evened 71 = .ok (.istore 6, 2) := dk_54 6 (dk_at dksX0_evened_3 1 rfl rfl)
theorem dX0_evened_73 : decode cX0_evened 73 = .ok (.iinc 7 1, 3) := dk_132 7 1 (dk_at dksX0_evened_3 3 rfl rfl)
theorem dX0_evened_76 : decode cX0_evened 76 = .ok (.goto (-16), 3) := dk_167 255 240 (dk_at dksX0_evened_3 6 rfl rfl)
theorem dX0_evened_79 : decode cX0_evened 79 = .ok (.bipush 80, 2) := dk_16 80 (dk_at dksX0_evened_3 9 rfl rfl)
theorem dX0_evened_81 : decode cX0_evened 81 = .ok (.newarray .int, 2) := dk_188_10 (dk_at dksX0_evened_3 11 rfl rfl)
theorem dX0_evened_83 : decode cX0_evened 83 = .ok (.astore 7, 2) := dk_58 7 (dk_at dksX0_evened_3 13 rfl rfl)
theorem dX0_evened_85 : decode cX0_evened 85 = .ok (.iconst 0, 1) := dk_3 (dk_at dksX0_evened_3 15 rfl rfl)
theorem dX0_evened_86 : decode cX0_evened 86 = .ok (.istore 8, 2) := dk_54 8 (dk_at dksX0_evened_3 16 rfl rfl)
theorem dX0_evened_88 : decode cX0_evened 88 = .ok (.iload 8, 2) := dk_21 8 (dk_at dksX0_evened_3 18 rfl rfl)
theorem dX0_evened_90 : decode cX0_evened 90 = .ok (.iload 5, 2) := dk_21 5 (dk_at dksX0_evened_3 20 rfl rfl)
theorem dX0_evened_92 : decode cX0_evened 92 = .ok (.if_icmp .ge 58, 3) := dk_162 0 58 (dk_at dksX0_evened_4 0 rfl rfl)
theorem dX0_evened_95 : decode cX0_evened 95 = .ok (.aload_n 0, 1) := dk_42 (dk_at dksX0_evened_4 3 rfl rfl)
theorem dX0_evened_96 : decode cX0_evened 96 = .ok (.iload_n 1, 1) := dk_27 (dk_at dksX0_evened_4 4 rfl rfl)
theorem dX0_evened_97 : decode cX0_evened 97 = .ok (.iconst 0, 1) := dk_3 (dk_at dksX0_evened_4 5 rfl rfl)
theorem dX0_evened_98 : decode cX0_evened 98 = .ok (.iload 8, 2) := dk_21 8 (dk_at dksX0_evened_4 6 rfl rfl)
theorem dX0_evened_100 : decode cX0_evened 100 = .ok (.invokevirtual 236, 3) := dk_182 0 236 (dk_at dksX0_evened_4 8 rfl rfl)
theorem dX0_evened_103 : decode cX0_evened 103 = .ok (.astore 9, 2) := dk_58 9 (dk_at dksX0_evened_4 11 rfl rfl)
theorem dX0_evened_105 : decode cX0_evened 105 = .ok (.iconst 0, 1) := dk_3 (dk_at dksX0_evened_4 13 rfl rfl)
theorem dX0_evened_106 : decode cX0_evened 106 = .ok (.istore 10, 2) := dk_54 10 (dk_at dksX0_evened_4 14 rfl rfl)
theorem dX0_evened_108 : decode cX0_evened 108 = .ok (.iload 10, 2) := dk_21 10 (dk_at dksX0_evened_4 16 rfl rfl)
theorem dX0_evened_110 : decode cX0_evened 110 = .ok (.aload_n 0, 1) := dk_42 (dk_at dksX0_evened_4 18 rfl rfl)
theorem dX0_evened_111 : decode cX0_evened 111 = .ok (.getfield 40, 3) := dk_180 0 40 (dk_at dksX0_evened_4 19 rfl rfl)
theorem dX0_evened_114 : decode cX0_evened 114 = .ok (.invokevirtual 72, 3) := dk_182 0 72 (dk_at dksX0_evened_5 0 rfl rfl)
theorem dX0_evened_117 : decode cX0_evened 117 = .ok (.if_icmp .ge 27, 3) := dk_162 0 27 (dk_at dksX0_evened_5 3 rfl rfl)
theorem dX0_evened_120 : decode cX0_evened 120 = .ok (.aload 7, 2) := dk_25 7 (dk_at dksX0_evened_5 6 rfl rfl)
theorem dX0_evened_122 : decode cX0_evened 122 = .ok (.bipush 10, 2) := dk_16 10 (dk_at dksX0_evened_5 8 rfl rfl)
theorem dX0_evened_124 : decode cX0_evened 124 = .ok (.iload 8, 2) := dk_21 8 (dk_at dksX0_evened_5 10 rfl rfl)
theorem dX0_evened_126 : decode cX0_evened 126 = .ok (.imul, 1) := dk_104 (dk_at dksX0_evened_5 12 rfl rfl)
theorem dX0_evened_127 : decode cX0_evened 127 = .ok (.iload 10, 2) := dk_21 10 (dk_at dksX0_evened_5 13 rfl rfl)
theorem dX0_evened_129 : decode cX0_evened 129 = .ok (.iadd, 1) := dk_96 (dk_at dksX0_evened_5 15 rfl rfl)
theorem dX0_evened_130 : decode cX0_evened 130 = .ok (.aload 9, 2) := dk_25 9 (dk_at dksX0_evened_5 16 rfl rfl)
theorem dX0_evened_132 : decode cX0_evened 132 = .ok (.iload 10, 2) := dk_21 10 (dk_at dksX0_evened_5 18 rfl rfl)
theorem dX0_evened_134 : decode cX0_evened 134 = .ok (.invokestatic 249, 3) := dk_184 0 249 (dk_at dksX0_evened_5 20 rfl rfl)
theorem dX0_evened_137 : decode cX0_evened 137 = .ok (.iastore, 1) := dk_79 (dk_at dksX0_evened_5 23 rfl rfl)
theorem dX0_evened_138 : decode cX0_evened 138 = .ok (.iinc 10 1, 3) := dk_132 10 1 (dk_at dksX0_evened_6 0 rfl rfl)
theorem dX0_evened_141 : decode cX0_evened 141 = .ok (.goto (-33), 3) := dk_167 255 223 (dk_at dksX0_evened_6 3 rfl rfl)
theorem dX0_evened_144 : decode cX0_evened 144 = .ok (.iinc 8 1, 3) := dk_132 8 1 (dk_at dksX0_evened_6 6 rfl rfl)
theorem dX0_evened_147 : decode cX0_evened 147 = .ok (.goto (-59), 3) := dk_167 255 197 (dk_at dksX0_evened_6 9 rfl rfl)
theorem dX0_evened_150 : decode cX0_evened 150 = .ok (.iconst 0, 1) := dk_3 (dk_at dksX0_evened_6 12 rfl rfl)
theorem dX0_evened_151 : decode cX0_evened 151 = .ok (.istore 8, 2) := dk_54 8 (dk_at dksX0_evened_6 13 rfl rfl)
theorem dX0_evened_153 : decode cX0_evened 153 = .ok (.ldc_w 301, 3) := dk_19 1 45 (dk_at dksX0_evened_6 15 rfl rfl)
theorem dX0_evened_156 : decode cX0_evened 156 = .ok (.istore 9, 2) := dk_54 9 (dk_at dksX0_evened_6 18 rfl rfl)
theorem dX0_evened_158 : decode cX0_evened 158 = .ok (.iconst 0, 1) := dk_3 (dk_at dksX0_evened_6 20 rfl rfl)
theorem dX0_evened_159 : decode cX0_evened 159 = .ok (.istore 10, 2) := dk_54 10 (dk_at dksX0_evened_6 21 rfl rfl)
theorem dX0_evened_161 : decode cX0_evened 161 = .ok (.iload 10, 2) := dk_21 10 (dk_at dksX0_evened_7 0 rfl rfl)
theorem dX0_evened_163 : decode cX0_evened 163 = .ok (.iload 6, 2) := dk_21 6 (dk_at dksX0_evened_7 2 rfl rfl)
theorem dX0_evened_165 : decode cX0_evened 165 = .ok (.if_icmp .ge 108, 3) := dk_162 0 108 (dk_at dksX0_evened_7 4 rfl rfl)
theorem dX0_evened_168 : decode cX0_evened 168 = .ok (.iconst 0, 1) := dk_3 (dk_at dksX0_evened_7 7 rfl rfl)
theorem dX0_evened_169 : decode cX0_evened 169 = .ok (.istore 11, 2) := dk_54 11 (dk_at dksX0_evened_7 8 rfl rfl)
theorem dX0_evened_171 : decode cX0_evened 171 = .ok (.iconst 0, 1) := dk_3 (dk_at dksX0_evened_7 10 rfl rfl)
theorem dX0_evened_172 : decode cX0_evened 172 = .ok (.istore 12, 2) := dk_54 12 (dk_at dksX0_evened_7 11 rfl rfl)
theorem dX0_evened_174 : decode cX0_evened 174 = .ok (.iload 12, 2) := dk_21 12 (dk_at dksX0_evened_7 13 rfl rfl)
theorem dX0_evened_176 : decode cX0_evened 176 = .ok (.aload_n 0, 1) := dk_42 (dk_at dksX0_evened_7 15 rfl rfl)
theorem dX0_evened_177 : decode cX0_evened 177 = .ok (.getfield 40, 3) := dk_180 0 40 (dk_at dksX0_evened_7 16 rfl rfl)
theorem dX0_evened_180 : decode cX0_evened 180 = .ok (.invokevirtual 72, 3) := dk_182 0 72 (dk_at dksX0_evened_7 19 rfl rfl)
theorem dX0_evened_183 : decode cX0_evened 183 = .ok (.if_icmp .ge 66, 3) := dk_162 0 66 (dk_at dksX0_evened_8 0 rfl rfl)
theorem dX0_evened_186 : decode cX0_evened 186 = .ok (.iconst 0, 1) := dk_3 (dk_at dksX0_evened_8 3 rfl rfl)
theorem dX0_evened_187 : decode cX0_evened 187 = .ok (.istore 13, 2) := dk_54 13 (dk_at dksX0_evened_8 4 rfl rfl)
theorem dX0_evened_189 : decode cX0_evened 189 = .ok (.iload 10, 2) := dk_21 10 (dk_at dksX0_evened_8 6 rfl rfl)
theorem dX0_evened_191 : decode cX0_evened 191 = .ok (.istore 14, 2) := dk_54 14 (dk_at dksX0_evened_8 8 rfl rfl)
theorem dX0_evened_193 : decode cX0_evened 193 = .ok (.iconst 0, 1) := dk_3 (dk_at dksX0_evened_8 10 rfl rfl)
theorem dX0_evened_194 : decode cX0_evened 194 = .ok (.istore 15, 2) := dk_54 15 (dk_at dksX0_evened_8 11 rfl rfl)
theorem dX0_evened_196 : decode cX0_evened 196 = .ok (.iload 15, 2) := dk_21 15 (dk_at dksX0_evened_8 13 rfl rfl)
theorem dX0_evened_198 : decode cX0_evened 198 = .ok (.iload_n 2, 1) := dk_28 (dk_at dksX0_evened_8 15 rfl rfl)
theorem dX0_evened_199 : decode cX0_evened 199 = .ok (.if_icmp .ge 35, 3) := dk_162 0 35 (dk_at dksX0_evened_8 16 rfl rfl)
theorem dX0_evened_202 : decode cX0_evened 202 = .ok (.iload 13, 2) := dk_21 13 (dk_at dksX0_evened_8 19 rfl rfl)
theorem dX0_evened_204 : decode cX0_evened 204 = .ok (.aload 7, 2) := dk_25 7 (dk_at dksX0_evened_8 21 rfl rfl)
theorem dX0_evened_206 : decode cX0_evened 206 = .ok (.bipush 10, 2) := dk_16 10 (dk_at dksX0_evened_9 0 rfl rfl)
theorem dX0_evened_208 : decode cX0_evened 208 = .ok (.iload 14, 2) := dk_21 14 (dk_at dksX0_evened_9 2 rfl rfl)
theorem dX0_evened_210 : decode cX0_evened 210 = .ok (.iload 5, 2) := dk_21 5 (dk_at dksX0_evened_9 4 rfl rfl)
theorem dX0_evened_212 : decode cX0_evened 212 = .ok (.irem, 1) := dk_112 (dk_at dksX0_evened_9 6 rfl rfl)
theorem dX0_evened_213 : decode cX0_evened 213 = .ok (.imul, 1) := dk_104 (dk_at dksX0_evened_9 7 rfl rfl)
theorem dX0_evened_214 : decode cX0_evened 214 = .ok (.iload 12, 2) := dk_21 12 (dk_at dksX0_evened_9 8 rfl rfl)
theorem dX0_evened_216 : decode cX0_evened 216 = .ok (.iadd, 1) := dk_96 (dk_at dksX0_evened_9 10 rfl rfl)
theorem dX0_evened_217 : decode cX0_evened 217 = .ok (.iaload, 1) := dk_46 (dk_at dksX0_evened_9 11 rfl rfl)
theorem dX0_evened_218 : decode cX0_evened 218 = .ok (.iadd, 1) := dk_96 (dk_at dksX0_evened_9 12 rfl rfl)
theorem dX0_evened_219 : decode cX0_evened 219 = .ok (.istore 13, 2) := dk_54 13 (dk_at dksX0_evened_9 13 rfl rfl)
theorem dX0_evened_221 : decode cX0_evened 221 = .ok (.iload 14, 2) := dk_21 14 (dk_at dksX0_evened_9 15 rfl rfl)
theorem dX0_evened_223 : decode cX0_evened 223 = .ok (.iload 5, 2) := dk_21 5 (dk_at dksX0_evened_9 17 rfl rfl)
theorem dX0_evened_225 : decode cX0_evened 225 = .ok (.idiv, 1) := dk_108 (dk_at dksX0_evened_9 19 rfl rfl)
theorem dX0_evened_226 : decode cX0_evened 226 = .ok (.istore 14, 2) := dk_54 14 (dk_at dksX0_evened_9 20 rfl rfl)
theorem dX0_evened_228 : decode cX0_evened 228 = .ok (.iinc 15 1, 3) := dk_132 15 1 (dk_at dksX0_evened_10 0 rfl rfl)
theorem dX0_evened_231 : decode cX0_evened 231 = .ok (.goto (-35), 3) := dk_167 255 221 (dk_at dksX0_evened_10 3 rfl rfl)
theorem dX0_evened_234 : decode cX0_evened 234 = .ok (.iload 11, 2) := dk_21 11 (dk_at dksX0_evened_10 6 rfl rfl)
theorem dX0_evened_236 : decode cX0_evened 236 = .ok (.iload 13, 2) := dk_21 13 (dk_at dksX0_evened_10 8 rfl rfl)
theorem dX0_evened_238 : decode cX0_evened 238 = .ok (.invokestatic 240, 3) := dk_184 0 240 (dk_at dksX0_evened_10 10 rfl rfl)
theorem dX0_evened_241 : decode cX0_evened 241 = .ok (.istore 11, 2) := dk_54 11 (dk_at dksX0_evened_10 13 rfl rfl)
theorem dX0_evened_243 : decode cX0_evened 243 = .ok (.iinc 12 1, 3) := dk_132 12 1 (dk_at dksX0_evened_10 15 rfl rfl)
theorem dX0_evened_246 : decode cX0_evened 246 = .ok (.goto (-72), 3) := dk_167 255 184 (dk_at dksX0_evened_10 18 rfl rfl)
theorem dX0_evened_249 : decode cX0_evened 249 = .ok (.iload 11, 2) := dk_21 11 (dk_at dksX0_evened_10 21 rfl rfl)
theorem dX0_evened_251 : decode cX0_evened 251 = .ok (.iload 9, 2) := dk_21 9 (dk_at dksX0_evened_11 0 rfl rfl)
theorem dX0_evened_253 : decode cX0_evened 253 = .ok (.if_icmp .lt 6, 3) := dk_161 0 6 (dk_at dksX0_evened_11 2 rfl rfl)
theorem dX0_evened_256 : decode cX0_evened 256 = .ok (.goto 11, 3) := dk_167 0 11 (dk_at dksX0_evened_11 5 rfl rfl)
theorem dX0_evened_259 : decode cX0_evened 259 = .ok (.iload 11, 2) := dk_21 11 (dk_at dksX0_evened_11 8 rfl rfl)
theorem dX0_evened_261 : decode cX0_evened 261 = .ok (.istore 9, 2) := dk_54 9 (dk_at dksX0_evened_11 10 rfl rfl)
theorem dX0_evened_263 : decode cX0_evened 263 = .ok (.iload 10, 2) := dk_21 10 (dk_at dksX0_evened_11 12 rfl rfl)
theorem dX0_evened_265 : decode cX0_evened 265 = .ok (.istore 8, 2) := dk_54 8 (dk_at dksX0_evened_11 14 rfl rfl)
theorem dX0_evened_267 : decode cX0_evened 267 = .ok (.iinc 10 1, 3) := dk_132 10 1 (dk_at dksX0_evened_11 16 rfl rfl)
theorem dX0_evened_270 : decode cX0_evened 270 = .ok (.goto (-109), 3) := dk_167 255 147 (dk_at dksX0_evened_11 19 rfl rfl)
theorem dX0_evened_273 : decode cX0_evened 273 = .ok (.iload_n 3, 1) := dk_29 (dk_at dksX0_evened_11 22 rfl rfl)
theorem dX0_evened_274 : decode cX0_evened 274 = .ok (.iconst (-1), 1) := dk_2 (dk_at dksX0_evened_11 23 rfl rfl)
theorem dX0_evened_275 : decode cX0_evened 275 = .ok (.if_icmp .ne 6, 3) := dk_160 0 6 (dk_at dksX0_evened_12 0 rfl rfl)
theorem dX0_evened_278 : decode cX0_evened 278 = .ok (.iload 9, 2) := dk_21 9 (dk_at dksX0_evened_12 3 rfl rfl)
theorem dX0_evened_280 : decode cX0_evened 280 = .ok (.ireturn, 1) := dk_172 (dk_at dksX0_evened_12 5 rfl rfl)
theorem dX0_evened_281 : decode cX0_evened 281 = .ok (.iload_n 2, 1) := dk_28 (dk_at dksX0_evened_12 6 rfl rfl)
theorem dX0_evened_282 : decode cX0_evened 282 = .ok (.iconst 1, 1) := dk_4 (dk_at dksX0_evened_12 7 rfl rfl)
theorem dX0_evened_283 : decode cX0_evened 283 = .ok (.isub, 1) := dk_100 (dk_at dksX0_evened_12 8 rfl rfl)
theorem dX0_evened_284 : decode cX0_evened 284 = .ok (.istore 10, 2) := dk_54 10 (dk_at dksX0_evened_12 9 rfl rfl)
theorem dX0_evened_286 : decode cX0_evened 286 = .ok (.iload 10, 2) := dk_21 10 (dk_at dksX0_evened_12 11 rfl rfl)
theorem dX0_evened_288 : decode cX0_evened 288 = .ok (.iload_n 3, 1) := dk_29 (dk_at dksX0_evened_12 13 rfl rfl)
theorem dX0_evened_289 : decode cX0_evened 289 = .ok (.if_icmp .le 16, 3) := dk_164 0 16 (dk_at dksX0_evened_12 14 rfl rfl)
theorem dX0_evened_292 : decode cX0_evened 292 = .ok (.iload 8, 2) := dk_21 8 (dk_at dksX0_evened_12 17 rfl rfl)
theorem dX0_evened_294 : decode cX0_evened 294 = .ok (.iload 5, 2) := dk_21 5 (dk_at dksX0_evened_12 19 rfl rfl)
theorem dX0_evened_296 : decode cX0_evened 296 = .ok (.idiv, 1) := dk_108 (dk_at dksX0_evened_12 21 rfl rfl)
theorem dX0_evened_297 : decode cX0_evened 297 = .ok (.istore 8, 2) := dk_54 8 (dk_at dksX0_evened_12 22 rfl rfl)
theorem dX0_evened_299 : decode cX0_evened 299 = .ok (.iinc 10 (-1), 3) := dk_132 10 255 (dk_at dksX0_evened_13 0 rfl rfl)
theorem dX0_evened_302 : decode cX0_evened 302 = .ok (.goto (-16), 3) := dk_167 255 240 (dk_at dksX0_evened_13 3 rfl rfl)
theorem dX0_evened_305 : decode cX0_evened 305 = .ok (.iload 8, 2) := dk_21 8 (dk_at dksX0_evened_13 6 rfl rfl)
theorem dX0_evened_307 : decode cX0_evened 307 = .ok (.iload 5, 2) := dk_21 5 (dk_at dksX0_evened_13 8 rfl rfl)
theorem dX0_evened_309 : decode cX0_evened 309 = .ok (.irem, 1) := dk_112 (dk_at dksX0_evened_13 10 rfl rfl)
theorem dX0_evened_310 : decode cX0_evened 310 = .ok (.ireturn, 1) := dk_172 (dk_at dksX0_evened_13 11 rfl rfl)
abbrev cX0_count : ByteArray := prog_1_method_61_code
def yX0_count : MethodName := ⟨RX0, "count", "(I)I"⟩
def dkwX0_count_9 : List UInt8 := [180, 0, 174, 153, 0, 7, 4, 167, 0, 4, 3, 96, 61, 132, 3, 1, 167, 255, 217, 28, 172, 2, 172]
abbrev dktX0_count_9 : List UInt8 := dkwX0_count_9 ++ []
def dkwX0_count_8 : List UInt8 := [42, 180, 0, 47, 182, 0, 72, 162, 0, 34, 28, 42, 180, 0, 47, 29, 182, 0, 80, 192, 0, 86]
abbrev dktX0_count_8 : List UInt8 := dkwX0_count_8 ++ dktX0_count_9
def dkwX0_count_7 : List UInt8 := [180, 0, 138, 153, 0, 7, 4, 167, 0, 4, 3, 96, 61, 132, 3, 1, 167, 255, 217, 28, 172, 3, 62, 29]
abbrev dktX0_count_7 : List UInt8 := dkwX0_count_7 ++ dktX0_count_8
def dkwX0_count_6 : List UInt8 := [29, 42, 180, 0, 40, 182, 0, 72, 162, 0, 34, 28, 42, 180, 0, 40, 29, 182, 0, 80, 192, 0, 84]
abbrev dktX0_count_6 : List UInt8 := dkwX0_count_6 ++ dktX0_count_7
def dkwX0_count_5 : List UInt8 := [180, 0, 134, 2, 160, 0, 7, 3, 167, 0, 4, 4, 96, 61, 132, 3, 1, 167, 255, 216, 28, 172, 3, 62]
abbrev dktX0_count_5 : List UInt8 := dkwX0_count_5 ++ dktX0_count_6
def dkwX0_count_4 : List UInt8 := [42, 180, 0, 40, 182, 0, 72, 162, 0, 35, 28, 42, 180, 0, 40, 29, 182, 0, 80, 192, 0, 84]
abbrev dktX0_count_4 : List UInt8 := dkwX0_count_4 ++ dktX0_count_5
def dkwX0_count_3 : List UInt8 := [42, 180, 0, 50, 182, 0, 72, 172, 42, 180, 0, 98, 172, 42, 182, 1, 23, 182, 0, 72, 172, 3, 62, 29]
abbrev dktX0_count_3 : List UInt8 := dkwX0_count_3 ++ dktX0_count_4
def dkwX0_count_2 : List UInt8 := [42, 180, 0, 40, 182, 0, 72, 172, 42, 180, 0, 44, 182, 0, 72, 172, 42, 180, 0, 47, 182, 0, 72, 172]
abbrev dktX0_count_2 : List UInt8 := dkwX0_count_2 ++ dktX0_count_3
def dkwX0_count_1 : List UInt8 := [170, 0, 0, 0, 233, 0, 0, 0, 0, 0, 0, 0, 8, 0, 0, 0, 49, 0, 0, 0, 57, 0, 0, 0, 65, 0, 0, 0, 73, 0, 0, 0, 81, 0, 0, 0, 86, 0, 0, 0, 94, 0, 0, 0, 141, 0, 0, 0, 187]
abbrev dktX0_count_1 : List UInt8 := dkwX0_count_1 ++ dktX0_count_2
def dkwX0_count_0 : List UInt8 := [3, 61, 27]
abbrev dktX0_count_0 : List UInt8 := dkwX0_count_0 ++ dktX0_count_1
theorem dksX0_count_0 : cX0_count.data.toList.drop 0 = dktX0_count_0 := by decide +kernel
theorem dksX0_count_1 : cX0_count.data.toList.drop 3 = dktX0_count_1 := dk_seg dksX0_count_0 3 rfl rfl
theorem dksX0_count_2 : cX0_count.data.toList.drop 52 = dktX0_count_2 := dk_seg dksX0_count_1 49 rfl rfl
theorem dksX0_count_3 : cX0_count.data.toList.drop 76 = dktX0_count_3 := dk_seg dksX0_count_2 24 rfl rfl
theorem dksX0_count_4 : cX0_count.data.toList.drop 100 = dktX0_count_4 := dk_seg dksX0_count_3 24 rfl rfl
theorem dksX0_count_5 : cX0_count.data.toList.drop 122 = dktX0_count_5 := dk_seg dksX0_count_4 22 rfl rfl
theorem dksX0_count_6 : cX0_count.data.toList.drop 146 = dktX0_count_6 := dk_seg dksX0_count_5 24 rfl rfl
theorem dksX0_count_7 : cX0_count.data.toList.drop 169 = dktX0_count_7 := dk_seg dksX0_count_6 23 rfl rfl
theorem dksX0_count_8 : cX0_count.data.toList.drop 193 = dktX0_count_8 := dk_seg dksX0_count_7 24 rfl rfl
theorem dksX0_count_9 : cX0_count.data.toList.drop 215 = dktX0_count_9 := dk_seg dksX0_count_8 22 rfl rfl
theorem dX0_count_0 : decode cX0_count 0 = .ok (.iconst 0, 1) := dk_3 (dk_at dksX0_count_0 0 rfl rfl)
theorem dX0_count_1 : decode cX0_count 1 = .ok (.istore_n 2, 1) := dk_61 (dk_at dksX0_count_0 1 rfl rfl)
theorem dX0_count_2 : decode cX0_count 2 = .ok (.iload_n 1, 1) := dk_27 (dk_at dksX0_count_0 2 rfl rfl)
theorem dX0_count_3 : decode cX0_count 3 = .ok (.tableswitch 233 0 8 #[49, 57, 65, 73, 81, 86, 94, 141, 187], 49) := by decide +kernel
theorem dX0_count_52 : decode cX0_count 52 = .ok (.aload_n 0, 1) := dk_42 (dk_at dksX0_count_2 0 rfl rfl)
theorem dX0_count_53 : decode cX0_count 53 = .ok (.getfield 40, 3) := dk_180 0 40 (dk_at dksX0_count_2 1 rfl rfl)
theorem dX0_count_56 : decode cX0_count 56 = .ok (.invokevirtual 72, 3) := dk_182 0 72 (dk_at dksX0_count_2 4 rfl rfl)
theorem dX0_count_59 : decode cX0_count 59 = .ok (.ireturn, 1) := dk_172 (dk_at dksX0_count_2 7 rfl rfl)
theorem dX0_count_60 : decode cX0_count 60 = .ok (.aload_n 0, 1) := dk_42 (dk_at dksX0_count_2 8 rfl rfl)
theorem dX0_count_61 : decode cX0_count 61 = .ok (.getfield 44, 3) := dk_180 0 44 (dk_at dksX0_count_2 9 rfl rfl)
theorem dX0_count_64 : decode cX0_count 64 = .ok (.invokevirtual 72, 3) := dk_182 0 72 (dk_at dksX0_count_2 12 rfl rfl)
theorem dX0_count_67 : decode cX0_count 67 = .ok (.ireturn, 1) := dk_172 (dk_at dksX0_count_2 15 rfl rfl)
theorem dX0_count_68 : decode cX0_count 68 = .ok (.aload_n 0, 1) := dk_42 (dk_at dksX0_count_2 16 rfl rfl)
theorem dX0_count_69 : decode cX0_count 69 = .ok (.getfield 47, 3) := dk_180 0 47 (dk_at dksX0_count_2 17 rfl rfl)
theorem dX0_count_72 : decode cX0_count 72 = .ok (.invokevirtual 72, 3) := dk_182 0 72 (dk_at dksX0_count_2 20 rfl rfl)
theorem dX0_count_75 : decode cX0_count 75 = .ok (.ireturn, 1) := dk_172 (dk_at dksX0_count_2 23 rfl rfl)
theorem dX0_count_76 : decode cX0_count 76 = .ok (.aload_n 0, 1) := dk_42 (dk_at dksX0_count_3 0 rfl rfl)
theorem dX0_count_77 : decode cX0_count 77 = .ok (.getfield 50, 3) := dk_180 0 50 (dk_at dksX0_count_3 1 rfl rfl)
theorem dX0_count_80 : decode cX0_count 80 = .ok (.invokevirtual 72, 3) := dk_182 0 72 (dk_at dksX0_count_3 4 rfl rfl)
theorem dX0_count_83 : decode cX0_count 83 = .ok (.ireturn, 1) := dk_172 (dk_at dksX0_count_3 7 rfl rfl)
theorem dX0_count_84 : decode cX0_count 84 = .ok (.aload_n 0, 1) := dk_42 (dk_at dksX0_count_3 8 rfl rfl)
theorem dX0_count_85 : decode cX0_count 85 = .ok (.getfield 98, 3) := dk_180 0 98 (dk_at dksX0_count_3 9 rfl rfl)
theorem dX0_count_88 : decode cX0_count 88 = .ok (.ireturn, 1) := dk_172 (dk_at dksX0_count_3 12 rfl rfl)
theorem dX0_count_89 : decode cX0_count 89 = .ok (.aload_n 0, 1) := dk_42 (dk_at dksX0_count_3 13 rfl rfl)
theorem dX0_count_90 : decode cX0_count 90 = .ok (.invokevirtual 279, 3) := dk_182 1 23 (dk_at dksX0_count_3 14 rfl rfl)
theorem dX0_count_93 : decode cX0_count 93 = .ok (.invokevirtual 72, 3) := dk_182 0 72 (dk_at dksX0_count_3 17 rfl rfl)
theorem dX0_count_96 : decode cX0_count 96 = .ok (.ireturn, 1) := dk_172 (dk_at dksX0_count_3 20 rfl rfl)
theorem dX0_count_97 : decode cX0_count 97 = .ok (.iconst 0, 1) := dk_3 (dk_at dksX0_count_3 21 rfl rfl)
theorem dX0_count_98 : decode cX0_count 98 = .ok (.istore_n 3, 1) := dk_62 (dk_at dksX0_count_3 22 rfl rfl)
theorem dX0_count_99 : decode cX0_count 99 = .ok (.iload_n 3, 1) := dk_29 (dk_at dksX0_count_3 23 rfl rfl)
theorem dX0_count_100 : decode cX0_count 100 = .ok (.aload_n 0, 1) := dk_42 (dk_at dksX0_count_4 0 rfl rfl)
theorem dX0_count_101 : decode cX0_count 101 = .ok (.getfield 40, 3) := dk_180 0 40 (dk_at dksX0_count_4 1 rfl rfl)
theorem dX0_count_104 : decode cX0_count 104 = .ok (.invokevirtual 72, 3) := dk_182 0 72 (dk_at dksX0_count_4 4 rfl rfl)
theorem dX0_count_107 : decode cX0_count 107 = .ok (.if_icmp .ge 35, 3) := dk_162 0 35 (dk_at dksX0_count_4 7 rfl rfl)
theorem dX0_count_110 : decode cX0_count 110 = .ok (.iload_n 2, 1) := dk_28 (dk_at dksX0_count_4 10 rfl rfl)
theorem dX0_count_111 : decode cX0_count 111 = .ok (.aload_n 0, 1) := dk_42 (dk_at dksX0_count_4 11 rfl rfl)
theorem dX0_count_112 : decode cX0_count 112 = .ok (.getfield 40, 3) := dk_180 0 40 (dk_at dksX0_count_4 12 rfl rfl)
theorem dX0_count_115 : decode cX0_count 115 = .ok (.iload_n 3, 1) := dk_29 (dk_at dksX0_count_4 15 rfl rfl)
theorem dX0_count_116 : decode cX0_count 116 = .ok (.invokevirtual 80, 3) := dk_182 0 80 (dk_at dksX0_count_4 16 rfl rfl)
theorem dX0_count_119 : decode cX0_count 119 = .ok (.checkcast 84, 3) := dk_192 0 84 (dk_at dksX0_count_4 19 rfl rfl)
theorem dX0_count_122 : decode cX0_count 122 = .ok (.getfield 134, 3) := dk_180 0 134 (dk_at dksX0_count_5 0 rfl rfl)
theorem dX0_count_125 : decode cX0_count 125 = .ok (.iconst (-1), 1) := dk_2 (dk_at dksX0_count_5 3 rfl rfl)
theorem dX0_count_126 : decode cX0_count 126 = .ok (.if_icmp .ne 7, 3) := dk_160 0 7 (dk_at dksX0_count_5 4 rfl rfl)
theorem dX0_count_129 : decode cX0_count 129 = .ok (.iconst 0, 1) := dk_3 (dk_at dksX0_count_5 7 rfl rfl)
theorem dX0_count_130 : decode cX0_count 130 = .ok (.goto 4, 3) := dk_167 0 4 (dk_at dksX0_count_5 8 rfl rfl)
theorem dX0_count_133 : decode cX0_count 133 = .ok (.iconst 1, 1) := dk_4 (dk_at dksX0_count_5 11 rfl rfl)
theorem dX0_count_134 : decode cX0_count 134 = .ok (.iadd, 1) := dk_96 (dk_at dksX0_count_5 12 rfl rfl)
theorem dX0_count_135 : decode cX0_count 135 = .ok (.istore_n 2, 1) := dk_61 (dk_at dksX0_count_5 13 rfl rfl)
theorem dX0_count_136 : decode cX0_count 136 = .ok (.iinc 3 1, 3) := dk_132 3 1 (dk_at dksX0_count_5 14 rfl rfl)
theorem dX0_count_139 : decode cX0_count 139 = .ok (.goto (-40), 3) := dk_167 255 216 (dk_at dksX0_count_5 17 rfl rfl)
theorem dX0_count_142 : decode cX0_count 142 = .ok (.iload_n 2, 1) := dk_28 (dk_at dksX0_count_5 20 rfl rfl)
theorem dX0_count_143 : decode cX0_count 143 = .ok (.ireturn, 1) := dk_172 (dk_at dksX0_count_5 21 rfl rfl)
theorem dX0_count_144 : decode cX0_count 144 = .ok (.iconst 0, 1) := dk_3 (dk_at dksX0_count_5 22 rfl rfl)
theorem dX0_count_145 : decode cX0_count 145 = .ok (.istore_n 3, 1) := dk_62 (dk_at dksX0_count_5 23 rfl rfl)
theorem dX0_count_146 : decode cX0_count 146 = .ok (.iload_n 3, 1) := dk_29 (dk_at dksX0_count_6 0 rfl rfl)
theorem dX0_count_147 : decode cX0_count 147 = .ok (.aload_n 0, 1) := dk_42 (dk_at dksX0_count_6 1 rfl rfl)
theorem dX0_count_148 : decode cX0_count 148 = .ok (.getfield 40, 3) := dk_180 0 40 (dk_at dksX0_count_6 2 rfl rfl)
theorem dX0_count_151 : decode cX0_count 151 = .ok (.invokevirtual 72, 3) := dk_182 0 72 (dk_at dksX0_count_6 5 rfl rfl)
theorem dX0_count_154 : decode cX0_count 154 = .ok (.if_icmp .ge 34, 3) := dk_162 0 34 (dk_at dksX0_count_6 8 rfl rfl)
theorem dX0_count_157 : decode cX0_count 157 = .ok (.iload_n 2, 1) := dk_28 (dk_at dksX0_count_6 11 rfl rfl)
theorem dX0_count_158 : decode cX0_count 158 = .ok (.aload_n 0, 1) := dk_42 (dk_at dksX0_count_6 12 rfl rfl)
theorem dX0_count_159 : decode cX0_count 159 = .ok (.getfield 40, 3) := dk_180 0 40 (dk_at dksX0_count_6 13 rfl rfl)
theorem dX0_count_162 : decode cX0_count 162 = .ok (.iload_n 3, 1) := dk_29 (dk_at dksX0_count_6 16 rfl rfl)
theorem dX0_count_163 : decode cX0_count 163 = .ok (.invokevirtual 80, 3) := dk_182 0 80 (dk_at dksX0_count_6 17 rfl rfl)
theorem dX0_count_166 : decode cX0_count 166 = .ok (.checkcast 84, 3) := dk_192 0 84 (dk_at dksX0_count_6 20 rfl rfl)
theorem dX0_count_169 : decode cX0_count 169 = .ok (.getfield 138, 3) := dk_180 0 138 (dk_at dksX0_count_7 0 rfl rfl)
theorem dX0_count_172 : decode cX0_count 172 = .ok (.ifCond .eq 7, 3) := dk_153 0 7 (dk_at dksX0_count_7 3 rfl rfl)
theorem dX0_count_175 : decode cX0_count 175 = .ok (.iconst 1, 1) := dk_4 (dk_at dksX0_count_7 6 rfl rfl)
theorem dX0_count_176 : decode cX0_count 176 = .ok (.goto 4, 3) := dk_167 0 4 (dk_at dksX0_count_7 7 rfl rfl)
theorem dX0_count_179 : decode cX0_count 179 = .ok (.iconst 0, 1) := dk_3 (dk_at dksX0_count_7 10 rfl rfl)
theorem dX0_count_180 : decode cX0_count 180 = .ok (.iadd, 1) := dk_96 (dk_at dksX0_count_7 11 rfl rfl)
theorem dX0_count_181 : decode cX0_count 181 = .ok (.istore_n 2, 1) := dk_61 (dk_at dksX0_count_7 12 rfl rfl)
theorem dX0_count_182 : decode cX0_count 182 = .ok (.iinc 3 1, 3) := dk_132 3 1 (dk_at dksX0_count_7 13 rfl rfl)
theorem dX0_count_185 : decode cX0_count 185 = .ok (.goto (-39), 3) := dk_167 255 217 (dk_at dksX0_count_7 16 rfl rfl)
theorem dX0_count_188 : decode cX0_count 188 = .ok (.iload_n 2, 1) := dk_28 (dk_at dksX0_count_7 19 rfl rfl)
theorem dX0_count_189 : decode cX0_count 189 = .ok (.ireturn, 1) := dk_172 (dk_at dksX0_count_7 20 rfl rfl)
theorem dX0_count_190 : decode cX0_count 190 = .ok (.iconst 0, 1) := dk_3 (dk_at dksX0_count_7 21 rfl rfl)
theorem dX0_count_191 : decode cX0_count 191 = .ok (.istore_n 3, 1) := dk_62 (dk_at dksX0_count_7 22 rfl rfl)
theorem dX0_count_192 : decode cX0_count 192 = .ok (.iload_n 3, 1) := dk_29 (dk_at dksX0_count_7 23 rfl rfl)
theorem dX0_count_193 : decode cX0_count 193 = .ok (.aload_n 0, 1) := dk_42 (dk_at dksX0_count_8 0 rfl rfl)
theorem dX0_count_194 : decode cX0_count 194 = .ok (.getfield 47, 3) := dk_180 0 47 (dk_at dksX0_count_8 1 rfl rfl)
theorem dX0_count_197 : decode cX0_count 197 = .ok (.invokevirtual 72, 3) := dk_182 0 72 (dk_at dksX0_count_8 4 rfl rfl)
theorem dX0_count_200 : decode cX0_count 200 = .ok (.if_icmp .ge 34, 3) := dk_162 0 34 (dk_at dksX0_count_8 7 rfl rfl)
theorem dX0_count_203 : decode cX0_count 203 = .ok (.iload_n 2, 1) := dk_28 (dk_at dksX0_count_8 10 rfl rfl)
theorem dX0_count_204 : decode cX0_count 204 = .ok (.aload_n 0, 1) := dk_42 (dk_at dksX0_count_8 11 rfl rfl)
theorem dX0_count_205 : decode cX0_count 205 = .ok (.getfield 47, 3) := dk_180 0 47 (dk_at dksX0_count_8 12 rfl rfl)
theorem dX0_count_208 : decode cX0_count 208 = .ok (.iload_n 3, 1) := dk_29 (dk_at dksX0_count_8 15 rfl rfl)
theorem dX0_count_209 : decode cX0_count 209 = .ok (.invokevirtual 80, 3) := dk_182 0 80 (dk_at dksX0_count_8 16 rfl rfl)
theorem dX0_count_212 : decode cX0_count 212 = .ok (.checkcast 86, 3) := dk_192 0 86 (dk_at dksX0_count_8 19 rfl rfl)
theorem dX0_count_215 : decode cX0_count 215 = .ok (.getfield 174, 3) := dk_180 0 174 (dk_at dksX0_count_9 0 rfl rfl)
theorem dX0_count_218 : decode cX0_count 218 = .ok (.ifCond .eq 7, 3) := dk_153 0 7 (dk_at dksX0_count_9 3 rfl rfl)
theorem dX0_count_221 : decode cX0_count 221 = .ok (.iconst 1, 1) := dk_4 (dk_at dksX0_count_9 6 rfl rfl)
theorem dX0_count_222 : decode cX0_count 222 = .ok (.goto 4, 3) := dk_167 0 4 (dk_at dksX0_count_9 7 rfl rfl)
theorem dX0_count_225 : decode cX0_count 225 = .ok (.iconst 0, 1) := dk_3 (dk_at dksX0_count_9 10 rfl rfl)
theorem dX0_count_226 : decode cX0_count 226 = .ok (.iadd, 1) := dk_96 (dk_at dksX0_count_9 11 rfl rfl)
theorem dX0_count_227 : decode cX0_count 227 = .ok (.istore_n 2, 1) := dk_61 (dk_at dksX0_count_9 12 rfl rfl)
theorem dX0_count_228 : decode cX0_count 228 = .ok (.iinc 3 1, 3) := dk_132 3 1 (dk_at dksX0_count_9 13 rfl rfl)
theorem dX0_count_231 : decode cX0_count 231 = .ok (.goto (-39), 3) := dk_167 255 217 (dk_at dksX0_count_9 16 rfl rfl)
theorem dX0_count_234 : decode cX0_count 234 = .ok (.iload_n 2, 1) := dk_28 (dk_at dksX0_count_9 19 rfl rfl)
theorem dX0_count_235 : decode cX0_count 235 = .ok (.ireturn, 1) := dk_172 (dk_at dksX0_count_9 20 rfl rfl)
theorem dX0_count_236 : decode cX0_count 236 = .ok (.iconst (-1), 1) := dk_2 (dk_at dksX0_count_9 21 rfl rfl)
theorem dX0_count_237 : decode cX0_count 237 = .ok (.ireturn, 1) := dk_172 (dk_at dksX0_count_9 22 rfl rfl)
theorem q102 : (Jvm.Cond.initialized "FirstIn") ∈ lw_all := lw_g (lw_at lw_m1 1 rfl) rfl
theorem q145 : (Jvm.Cond.instantiable "FirstIn" (14 : Nat)) ∈ lw_all := lw_g (lw_at lw_m1 44 rfl) rfl
theorem q147 : (Jvm.Cond.instanceMethod ({ cls := "FirstIn", name := "<init>", desc := "()V" } : Jvm.MethodName)) ∈ lw_all := lw_g (lw_at lw_m1 46 rfl) rfl
theorem q148 : (Jvm.Cond.code ({ cls := "FirstIn", name := "<init>", desc := "()V" } : Jvm.MethodName) prog_1_method_3_code (1 : Nat) (Option.none : Option Jvm.ClassFile.FieldType)) ∈ lw_all := lw_g (lw_at lw_m1 47 rfl) rfl
theorem q149 : (Jvm.Cond.methodLink "FirstIn" (19 : Nat) ({ cls := "java/lang/Object", name := "<init>", desc := "()V" } : Jvm.MethodName)) ∈ lw_all := lw_g (lw_at lw_m1 48 rfl) rfl
theorem q152 : (Jvm.Cond.classLink "FirstIn" (30 : Nat) "FirstIn$Reader") ∈ lw_all := lw_g (lw_at lw_m1 51 rfl) rfl
theorem q154 : (Jvm.Cond.methodLinkNest "FirstIn" (32 : Nat) ({ cls := "FirstIn$Reader", name := "<init>", desc := "()V" } : Jvm.MethodName) "FirstIn") ∈ lw_tbl := lw_at lw_m1 53 rfl
theorem q190 : (Jvm.Cond.fieldLinkNest "FirstIn" (119 : Nat) "FirstIn$Reader" "guests" "Ljava/util/ArrayList;" "FirstIn") ∈ lw_tbl := lw_at lw_m1 89 rfl
theorem q192 : (Jvm.Cond.fieldLinkNest "FirstIn" (120 : Nat) "FirstIn$Reader" "marks" "Ljava/util/ArrayList;" "FirstIn") ∈ lw_tbl := lw_at lw_m1 91 rfl
theorem q194 : (Jvm.Cond.fieldLinkNest "FirstIn" (123 : Nat) "FirstIn$Reader" "rules" "Ljava/util/ArrayList;" "FirstIn") ∈ lw_tbl := lw_at lw_m1 93 rfl
theorem q210 : (Jvm.Cond.classLink "FirstIn" (37 : Nat) "java/util/ArrayList") ∈ lw_all := lw_g (lw_at lw_m1 109 rfl) rfl
theorem q211 : (Jvm.Cond.methodLink "FirstIn" (39 : Nat) ({ cls := "java/util/ArrayList", name := "<init>", desc := "()V" } : Jvm.MethodName)) ∈ lw_all := lw_g (lw_at lw_m1 110 rfl) rfl
theorem q212 : (Jvm.Cond.fieldLink "FirstIn" (26 : Nat) "FirstIn" "text" "[B") ∈ lw_all := lw_g (lw_at lw_m1 111 rfl) rfl
theorem q213 : (Jvm.Cond.fieldLink "FirstIn" (33 : Nat) "FirstIn" "reader" "LFirstIn$Reader;") ∈ lw_all := lw_g (lw_at lw_m1 112 rfl) rfl
theorem q214 : (Jvm.Cond.fieldLink "FirstIn" (40 : Nat) "FirstIn" "guests" "Ljava/util/ArrayList;") ∈ lw_all := lw_g (lw_at lw_m1 113 rfl) rfl
theorem q215 : (Jvm.Cond.fieldLink "FirstIn" (44 : Nat) "FirstIn" "marks" "Ljava/util/ArrayList;") ∈ lw_all := lw_g (lw_at lw_m1 114 rfl) rfl
theorem q216 : (Jvm.Cond.fieldLink "FirstIn" (47 : Nat) "FirstIn" "rules" "Ljava/util/ArrayList;") ∈ lw_all := lw_g (lw_at lw_m1 115 rfl) rfl
theorem q217 : (Jvm.Cond.fieldLink "FirstIn" (50 : Nat) "FirstIn" "rooms" "Ljava/util/ArrayList;") ∈ lw_all := lw_g (lw_at lw_m1 116 rfl) rfl
theorem q218 : (Jvm.Cond.fieldLink "FirstIn" (98 : Nat) "FirstIn" "size" "I") ∈ lw_all := lw_g (lw_at lw_m1 117 rfl) rfl
theorem q219 : (Jvm.Cond.fieldLink "FirstIn" (53 : Nat) "FirstIn" "above" "[I") ∈ lw_all := lw_g (lw_at lw_m1 118 rfl) rfl
theorem q220 : (Jvm.Cond.fieldLink "FirstIn" (57 : Nat) "FirstIn" "steps" "[I") ∈ lw_all := lw_g (lw_at lw_m1 119 rfl) rfl
theorem q221 : (Jvm.Cond.fieldLink "FirstIn" (60 : Nat) "FirstIn" "heapOf" "[I") ∈ lw_all := lw_g (lw_at lw_m1 120 rfl) rfl
theorem q222 : (Jvm.Cond.fieldLink "FirstIn" (63 : Nat) "FirstIn" "heapMask" "[I") ∈ lw_all := lw_g (lw_at lw_m1 121 rfl) rfl
theorem q223 : (Jvm.Cond.fieldLink "FirstIn" (66 : Nat) "FirstIn" "heaped" "[I") ∈ lw_all := lw_g (lw_at lw_m1 122 rfl) rfl
theorem q224 : (Jvm.Cond.fieldLink "FirstIn" (69 : Nat) "FirstIn" "bestHeaped" "[I") ∈ lw_all := lw_g (lw_at lw_m1 123 rfl) rfl
theorem q225 : (Jvm.Cond.fieldLink "FirstIn" (306 : Nat) "FirstIn" "fewest" "I") ∈ lw_all := lw_g (lw_at lw_m1 124 rfl) rfl
theorem q226 : (Jvm.Cond.laysFinal "FirstIn" "FirstIn" "text" "[B") ∈ lw_all := lw_g (lw_at lw_m1 125 rfl) rfl
theorem q227 : (Jvm.Cond.soleField "FirstIn" "text") ∈ lw_all := lw_g (lw_at lw_m1 126 rfl) rfl
theorem q228 : (Jvm.Cond.laysFinal "FirstIn" "FirstIn" "reader" "LFirstIn$Reader;") ∈ lw_all := lw_g (lw_at lw_m1 127 rfl) rfl
theorem q229 : (Jvm.Cond.soleField "FirstIn" "reader") ∈ lw_all := lw_g (lw_at lw_m1 128 rfl) rfl
theorem q230 : (Jvm.Cond.laysFinal "FirstIn" "FirstIn" "guests" "Ljava/util/ArrayList;") ∈ lw_all := lw_g (lw_at lw_m1 129 rfl) rfl
theorem q231 : (Jvm.Cond.soleField "FirstIn" "guests") ∈ lw_all := lw_g (lw_at lw_m1 130 rfl) rfl
theorem q232 : (Jvm.Cond.laysFinal "FirstIn" "FirstIn" "marks" "Ljava/util/ArrayList;") ∈ lw_all := lw_g (lw_at lw_m1 131 rfl) rfl
theorem q233 : (Jvm.Cond.soleField "FirstIn" "marks") ∈ lw_all := lw_g (lw_at lw_m1 132 rfl) rfl
theorem q234 : (Jvm.Cond.laysFinal "FirstIn" "FirstIn" "rules" "Ljava/util/ArrayList;") ∈ lw_all := lw_g (lw_at lw_m1 133 rfl) rfl
theorem q235 : (Jvm.Cond.soleField "FirstIn" "rules") ∈ lw_all := lw_g (lw_at lw_m1 134 rfl) rfl
theorem q236 : (Jvm.Cond.laysFinal "FirstIn" "FirstIn" "rooms" "Ljava/util/ArrayList;") ∈ lw_all := lw_g (lw_at lw_m1 135 rfl) rfl
theorem q237 : (Jvm.Cond.soleField "FirstIn" "rooms") ∈ lw_all := lw_g (lw_at lw_m1 136 rfl) rfl
theorem q238 : (Jvm.Cond.lays "FirstIn" "FirstIn" "size" "I") ∈ lw_all := lw_g (lw_at lw_m1 137 rfl) rfl
theorem q239 : (Jvm.Cond.soleField "FirstIn" "size") ∈ lw_all := lw_g (lw_at lw_m1 138 rfl) rfl
theorem q240 : (Jvm.Cond.laysFinal "FirstIn" "FirstIn" "above" "[I") ∈ lw_all := lw_g (lw_at lw_m1 139 rfl) rfl
theorem q241 : (Jvm.Cond.soleField "FirstIn" "above") ∈ lw_all := lw_g (lw_at lw_m1 140 rfl) rfl
theorem q242 : (Jvm.Cond.laysFinal "FirstIn" "FirstIn" "steps" "[I") ∈ lw_all := lw_g (lw_at lw_m1 141 rfl) rfl
theorem q243 : (Jvm.Cond.soleField "FirstIn" "steps") ∈ lw_all := lw_g (lw_at lw_m1 142 rfl) rfl
theorem q244 : (Jvm.Cond.laysFinal "FirstIn" "FirstIn" "heapOf" "[I") ∈ lw_all := lw_g (lw_at lw_m1 143 rfl) rfl
theorem q245 : (Jvm.Cond.soleField "FirstIn" "heapOf") ∈ lw_all := lw_g (lw_at lw_m1 144 rfl) rfl
theorem q246 : (Jvm.Cond.laysFinal "FirstIn" "FirstIn" "heapMask" "[I") ∈ lw_all := lw_g (lw_at lw_m1 145 rfl) rfl
theorem q247 : (Jvm.Cond.soleField "FirstIn" "heapMask") ∈ lw_all := lw_g (lw_at lw_m1 146 rfl) rfl
theorem q248 : (Jvm.Cond.laysFinal "FirstIn" "FirstIn" "heaped" "[I") ∈ lw_all := lw_g (lw_at lw_m1 147 rfl) rfl
theorem q249 : (Jvm.Cond.soleField "FirstIn" "heaped") ∈ lw_all := lw_g (lw_at lw_m1 148 rfl) rfl
theorem q250 : (Jvm.Cond.laysFinal "FirstIn" "FirstIn" "bestHeaped" "[I") ∈ lw_all := lw_g (lw_at lw_m1 149 rfl) rfl
theorem q251 : (Jvm.Cond.soleField "FirstIn" "bestHeaped") ∈ lw_all := lw_g (lw_at lw_m1 150 rfl) rfl
theorem q252 : (Jvm.Cond.lays "FirstIn" "FirstIn" "fewest" "I") ∈ lw_all := lw_g (lw_at lw_m1 151 rfl) rfl
theorem q253 : (Jvm.Cond.soleField "FirstIn" "fewest") ∈ lw_all := lw_g (lw_at lw_m1 152 rfl) rfl
theorem q254 : (Jvm.Cond.superclass "FirstIn" "java/lang/Object") ∈ lw_all := lw_g (lw_at lw_m1 153 rfl) rfl
theorem q257 : (Jvm.Cond.instanceMethod ({ cls := "FirstIn", name := "feed", desc := "(IIIII)I" } : Jvm.MethodName)) ∈ lw_all := lw_g (lw_at lw_m1 156 rfl) rfl
theorem q258 : (Jvm.Cond.selects "FirstIn" ({ cls := "FirstIn", name := "feed", desc := "(IIIII)I" } : Jvm.MethodName) ({ cls := "FirstIn", name := "feed", desc := "(IIIII)I" } : Jvm.MethodName)) ∈ lw_all := lw_g (lw_at lw_m1 157 rfl) rfl
theorem q259 : (Jvm.Cond.code ({ cls := "FirstIn", name := "feed", desc := "(IIIII)I" } : Jvm.MethodName) prog_1_method_8_code (6 : Nat) (Option.some Jvm.ClassFile.FieldType.int)) ∈ lw_all := lw_g (lw_at lw_m1 158 rfl) rfl
theorem q260 : (Jvm.Cond.methodLink "FirstIn" (101 : Nat) ({ cls := "FirstIn", name := "feeds", desc := "(I)V" } : Jvm.MethodName)) ∈ lw_all := lw_g (lw_at lw_m1 159 rfl) rfl
theorem q261 : (Jvm.Cond.privateMethod ({ cls := "FirstIn", name := "feeds", desc := "(I)V" } : Jvm.MethodName)) ∈ lw_tbl := lw_at lw_m1 160 rfl
theorem q262 : (Jvm.Cond.instanceMethod ({ cls := "FirstIn", name := "feeds", desc := "(I)V" } : Jvm.MethodName)) ∈ lw_all := lw_g (lw_at lw_m1 161 rfl) rfl
theorem q263 : (Jvm.Cond.code ({ cls := "FirstIn", name := "feeds", desc := "(I)V" } : Jvm.MethodName) prog_1_method_9_code (3 : Nat) (Option.none : Option Jvm.ClassFile.FieldType)) ∈ lw_all := lw_g (lw_at lw_m1 162 rfl) rfl
theorem q265 : (Jvm.Cond.instanceMethod ({ cls := "FirstIn", name := "end", desc := "(I)Z" } : Jvm.MethodName)) ∈ lw_all := lw_g (lw_at lw_m1 164 rfl) rfl
theorem q266 : (Jvm.Cond.selects "FirstIn" ({ cls := "FirstIn", name := "end", desc := "(I)Z" } : Jvm.MethodName) ({ cls := "FirstIn", name := "end", desc := "(I)Z" } : Jvm.MethodName)) ∈ lw_all := lw_g (lw_at lw_m1 165 rfl) rfl
theorem q267 : (Jvm.Cond.code ({ cls := "FirstIn", name := "end", desc := "(I)Z" } : Jvm.MethodName) prog_1_method_10_code (2 : Nat) (Option.some Jvm.ClassFile.FieldType.boolean)) ∈ lw_all := lw_g (lw_at lw_m1 166 rfl) rfl
theorem q268 : (Jvm.Cond.methodLink "FirstIn" (76 : Nat) ({ cls := "FirstIn", name := "in", desc := "(III)Z" } : Jvm.MethodName)) ∈ lw_all := lw_g (lw_at lw_m1 167 rfl) rfl
theorem q269 : (Jvm.Cond.static ({ cls := "FirstIn", name := "in", desc := "(III)Z" } : Jvm.MethodName)) ∈ lw_all := lw_g (lw_at lw_m1 168 rfl) rfl
theorem q270 : (Jvm.Cond.code ({ cls := "FirstIn", name := "in", desc := "(III)Z" } : Jvm.MethodName) prog_1_method_1_code (3 : Nat) (Option.some Jvm.ClassFile.FieldType.boolean)) ∈ lw_all := lw_g (lw_at lw_m1 169 rfl) rfl
theorem q272 : (Jvm.Cond.instanceMethod ({ cls := "FirstIn", name := "fault", desc := "()I" } : Jvm.MethodName)) ∈ lw_all := lw_g (lw_at lw_m1 171 rfl) rfl
theorem q273 : (Jvm.Cond.selects "FirstIn" ({ cls := "FirstIn", name := "fault", desc := "()I" } : Jvm.MethodName) ({ cls := "FirstIn", name := "fault", desc := "()I" } : Jvm.MethodName)) ∈ lw_all := lw_g (lw_at lw_m1 172 rfl) rfl
theorem q274 : (Jvm.Cond.codeWith ({ cls := "FirstIn", name := "fault", desc := "()I" } : Jvm.MethodName) prog_1_method_11_code (2 : Nat) (Option.some Jvm.ClassFile.FieldType.int) [((0 : Nat), (16 : Nat), (17 : Nat), (108 : Nat))]) ∈ lw_all := lw_g (lw_at lw_m1 173 rfl) rfl
theorem q275 : (Jvm.Cond.classLink "FirstIn" (108 : Nat) "FirstIn$Fault") ∈ lw_all := lw_g (lw_at lw_m1 174 rfl) rfl
theorem q276 : (Jvm.Cond.methodLink "FirstIn" (104 : Nat) ({ cls := "FirstIn$Reader", name := "read", desc := "([BI)V" } : Jvm.MethodName)) ∈ lw_all := lw_g (lw_at lw_m1 175 rfl) rfl
theorem q350 : (Jvm.Cond.fieldLinkNest "FirstIn" (110 : Nat) "FirstIn$Fault" "place" "I" "FirstIn") ∈ lw_tbl := lw_at lw_m2 9 rfl
theorem q542 : (Jvm.Cond.fieldLinkNest "FirstIn" (90 : Nat) "FirstIn$Guest" "comes" "Z" "FirstIn") ∈ lw_tbl := lw_at lw_m2 201 rfl
theorem q545 : (Jvm.Cond.fieldLinkNest "FirstIn" (138 : Nat) "FirstIn$Guest" "sits" "Z" "FirstIn") ∈ lw_tbl := lw_at lw_m2 204 rfl
theorem q548 : (Jvm.Cond.fieldLinkNest "FirstIn" (134 : Nat) "FirstIn$Guest" "room" "I" "FirstIn") ∈ lw_tbl := lw_at lw_m2 207 rfl
theorem q551 : (Jvm.Cond.fieldLinkNest "FirstIn" (137 : Nat) "FirstIn$Guest" "place" "I" "FirstIn") ∈ lw_tbl := lw_at lw_m2 210 rfl
theorem q560 : (Jvm.Cond.fieldLink "FirstIn" (168 : Nat) "FirstIn$Mark" "number" "I") ∈ lw_all := lw_g (lw_at lw_m2 219 rfl) rfl
theorem q562 : (Jvm.Cond.fieldLink "FirstIn" (283 : Nat) "FirstIn$Guest" "number" "I") ∈ lw_all := lw_g (lw_at lw_m2 221 rfl) rfl
theorem q606 : (Jvm.Cond.selects "FirstIn" ({ cls := "java/lang/Object", name := "getClass", desc := "()Ljava/lang/Class;" } : Jvm.MethodName) ({ cls := "java/lang/Object", name := "getClass", desc := "()Ljava/lang/Class;" } : Jvm.MethodName)) ∈ lw_all := lw_g (lw_at lw_m3 25 rfl) rfl
theorem q648 : (Jvm.Cond.fieldLinkNest "FirstIn" (132 : Nat) "FirstIn$Mark" "guests" "I" "FirstIn") ∈ lw_tbl := lw_at lw_m3 67 rfl
theorem q722 : (Jvm.Cond.fieldLinkNest "FirstIn" (195 : Nat) "FirstIn$Couple" "x" "I" "FirstIn") ∈ lw_tbl := lw_at lw_m3 141 rfl
theorem q725 : (Jvm.Cond.fieldLinkNest "FirstIn" (200 : Nat) "FirstIn$Couple" "y" "I" "FirstIn") ∈ lw_tbl := lw_at lw_m3 144 rfl
theorem q733 : (Jvm.Cond.fieldLink "FirstIn" (148 : Nat) "FirstIn$Rule" "first" "LFirstIn$Side;") ∈ lw_all := lw_g (lw_at lw_m3 152 rfl) rfl
theorem q735 : (Jvm.Cond.fieldLink "FirstIn" (157 : Nat) "FirstIn$Rule" "second" "LFirstIn$Side;") ∈ lw_all := lw_g (lw_at lw_m3 154 rfl) rfl
theorem q738 : (Jvm.Cond.fieldLink "FirstIn" (160 : Nat) "FirstIn$Rule" "weight" "I") ∈ lw_all := lw_g (lw_at lw_m3 157 rfl) rfl
theorem q740 : (Jvm.Cond.fieldLink "FirstIn" (163 : Nat) "FirstIn$Rule" "room" "I") ∈ lw_all := lw_g (lw_at lw_m3 159 rfl) rfl
theorem q742 : (Jvm.Cond.fieldLink "FirstIn" (164 : Nat) "FirstIn$Rule" "unless" "LFirstIn$Mark;") ∈ lw_all := lw_g (lw_at lw_m3 161 rfl) rfl
theorem q744 : (Jvm.Cond.fieldLink "FirstIn" (174 : Nat) "FirstIn$Rule" "rests" "Z") ∈ lw_all := lw_g (lw_at lw_m3 163 rfl) rfl
theorem q746 : (Jvm.Cond.fieldLinkNest "FirstIn" (171 : Nat) "FirstIn$Rule" "couples" "Ljava/util/ArrayList;" "FirstIn") ∈ lw_tbl := lw_at lw_m3 165 rfl
theorem q802 : (Jvm.Cond.instanceMethod ({ cls := "FirstIn", name := "court", desc := "()I" } : Jvm.MethodName)) ∈ lw_all := lw_g (lw_at lw_m3 221 rfl) rfl
theorem q803 : (Jvm.Cond.selects "FirstIn" ({ cls := "FirstIn", name := "court", desc := "()I" } : Jvm.MethodName) ({ cls := "FirstIn", name := "court", desc := "()I" } : Jvm.MethodName)) ∈ lw_all := lw_g (lw_at lw_m3 222 rfl) rfl
theorem q804 : (Jvm.Cond.code ({ cls := "FirstIn", name := "court", desc := "()I" } : Jvm.MethodName) prog_1_method_12_code (2 : Nat) (Option.some Jvm.ClassFile.FieldType.int)) ∈ lw_all := lw_g (lw_at lw_m3 223 rfl) rfl
theorem q805 : (Jvm.Cond.methodLink "FirstIn" (113 : Nat) ({ cls := "FirstIn", name := "fault", desc := "()I" } : Jvm.MethodName)) ∈ lw_all := lw_g (lw_at lw_m3 224 rfl) rfl
theorem q806 : (Jvm.Cond.methodLink "FirstIn" (116 : Nat) ({ cls := "java/util/ArrayList", name := "clear", desc := "()V" } : Jvm.MethodName)) ∈ lw_all := lw_g (lw_at lw_m3 225 rfl) rfl
theorem q807 : (Jvm.Cond.methodLink "FirstIn" (72 : Nat) ({ cls := "java/util/ArrayList", name := "size", desc := "()I" } : Jvm.MethodName)) ∈ lw_all := lw_g (lw_at lw_m3 226 rfl) rfl
theorem q808 : (Jvm.Cond.methodLink "FirstIn" (80 : Nat) ({ cls := "java/util/ArrayList", name := "get", desc := "(I)Ljava/lang/Object;" } : Jvm.MethodName)) ∈ lw_all := lw_g (lw_at lw_m3 227 rfl) rfl
theorem q809 : (Jvm.Cond.classLink "FirstIn" (84 : Nat) "FirstIn$Guest") ∈ lw_all := lw_g (lw_at lw_m3 228 rfl) rfl
theorem q810 : (Jvm.Cond.methodLink "FirstIn" (94 : Nat) ({ cls := "java/util/ArrayList", name := "add", desc := "(Ljava/lang/Object;)Z" } : Jvm.MethodName)) ∈ lw_all := lw_g (lw_at lw_m3 229 rfl) rfl
theorem q811 : (Jvm.Cond.classLink "FirstIn" (121 : Nat) "FirstIn$Mark") ∈ lw_all := lw_g (lw_at lw_m3 230 rfl) rfl
theorem q812 : (Jvm.Cond.classLink "FirstIn" (86 : Nat) "FirstIn$Rule") ∈ lw_all := lw_g (lw_at lw_m3 231 rfl) rfl
theorem q814 : (Jvm.Cond.instanceMethod ({ cls := "FirstIn", name := "room", desc := "(II)I" } : Jvm.MethodName)) ∈ lw_all := lw_g (lw_at lw_m3 233 rfl) rfl
theorem q815 : (Jvm.Cond.selects "FirstIn" ({ cls := "FirstIn", name := "room", desc := "(II)I" } : Jvm.MethodName) ({ cls := "FirstIn", name := "room", desc := "(II)I" } : Jvm.MethodName)) ∈ lw_all := lw_g (lw_at lw_m3 234 rfl) rfl
theorem q816 : (Jvm.Cond.code ({ cls := "FirstIn", name := "room", desc := "(II)I" } : Jvm.MethodName) prog_1_method_13_code (3 : Nat) (Option.some Jvm.ClassFile.FieldType.int)) ∈ lw_all := lw_g (lw_at lw_m3 235 rfl) rfl
theorem q817 : (Jvm.Cond.methodLink "FirstIn" (124 : Nat) ({ cls := "FirstIn", name := "madeRoom", desc := "(II)LFirstIn$Room;" } : Jvm.MethodName)) ∈ lw_all := lw_g (lw_at lw_m3 236 rfl) rfl
theorem q818 : (Jvm.Cond.static ({ cls := "FirstIn", name := "madeRoom", desc := "(II)LFirstIn$Room;" } : Jvm.MethodName)) ∈ lw_all := lw_g (lw_at lw_m3 237 rfl) rfl
theorem q819 : (Jvm.Cond.code ({ cls := "FirstIn", name := "madeRoom", desc := "(II)LFirstIn$Room;" } : Jvm.MethodName) prog_1_method_2_code (2 : Nat) (Option.some (Jvm.ClassFile.FieldType.object "FirstIn$Room"))) ∈ lw_all := lw_g (lw_at lw_m3 238 rfl) rfl
theorem q820 : (Jvm.Cond.classLink "FirstIn" (1 : Nat) "FirstIn$Row") ∈ lw_all := lw_g (lw_at lw_m3 239 rfl) rfl
theorem q822 : (Jvm.Cond.methodLink "FirstIn" (3 : Nat) ({ cls := "FirstIn$Row", name := "<init>", desc := "(I)V" } : Jvm.MethodName)) ∈ lw_all := lw_g (lw_at lw_m4 1 rfl) rfl
theorem q835 : (Jvm.Cond.fieldLink "FirstIn" (184 : Nat) "FirstIn$Room" "places" "I") ∈ lw_all := lw_g (lw_at lw_m4 14 rfl) rfl
theorem q839 : (Jvm.Cond.classLink "FirstIn" (7 : Nat) "FirstIn$Table") ∈ lw_all := lw_g (lw_at lw_m4 18 rfl) rfl
theorem q841 : (Jvm.Cond.methodLink "FirstIn" (9 : Nat) ({ cls := "FirstIn$Table", name := "<init>", desc := "(I)V" } : Jvm.MethodName)) ∈ lw_all := lw_g (lw_at lw_m4 20 rfl) rfl
theorem q847 : (Jvm.Cond.classLink "FirstIn" (10 : Nat) "FirstIn$Ring") ∈ lw_all := lw_g (lw_at lw_m4 26 rfl) rfl
theorem q849 : (Jvm.Cond.methodLink "FirstIn" (12 : Nat) ({ cls := "FirstIn$Ring", name := "<init>", desc := "(I)V" } : Jvm.MethodName)) ∈ lw_all := lw_g (lw_at lw_m4 28 rfl) rfl
theorem q855 : (Jvm.Cond.classLink "FirstIn" (13 : Nat) "FirstIn$Door") ∈ lw_all := lw_g (lw_at lw_m4 34 rfl) rfl
theorem q857 : (Jvm.Cond.methodLink "FirstIn" (15 : Nat) ({ cls := "FirstIn$Door", name := "<init>", desc := "(I)V" } : Jvm.MethodName)) ∈ lw_all := lw_g (lw_at lw_m4 36 rfl) rfl
theorem q863 : (Jvm.Cond.classLink "FirstIn" (16 : Nat) "FirstIn$Turn") ∈ lw_all := lw_g (lw_at lw_m4 42 rfl) rfl
theorem q865 : (Jvm.Cond.methodLink "FirstIn" (18 : Nat) ({ cls := "FirstIn$Turn", name := "<init>", desc := "(I)V" } : Jvm.MethodName)) ∈ lw_all := lw_g (lw_at lw_m4 44 rfl) rfl
theorem q872 : (Jvm.Cond.instanceMethod ({ cls := "FirstIn", name := "guest", desc := "(II)I" } : Jvm.MethodName)) ∈ lw_all := lw_g (lw_at lw_m4 51 rfl) rfl
theorem q873 : (Jvm.Cond.selects "FirstIn" ({ cls := "FirstIn", name := "guest", desc := "(II)I" } : Jvm.MethodName) ({ cls := "FirstIn", name := "guest", desc := "(II)I" } : Jvm.MethodName)) ∈ lw_all := lw_g (lw_at lw_m4 52 rfl) rfl
theorem q874 : (Jvm.Cond.code ({ cls := "FirstIn", name := "guest", desc := "(II)I" } : Jvm.MethodName) prog_1_method_14_code (6 : Nat) (Option.some Jvm.ClassFile.FieldType.int)) ∈ lw_all := lw_g (lw_at lw_m4 53 rfl) rfl
theorem q875 : (Jvm.Cond.methodLink "FirstIn" (128 : Nat) ({ cls := "FirstIn", name := "guestAt", desc := "(I)LFirstIn$Guest;" } : Jvm.MethodName)) ∈ lw_all := lw_g (lw_at lw_m4 54 rfl) rfl
theorem q876 : (Jvm.Cond.privateMethod ({ cls := "FirstIn", name := "guestAt", desc := "(I)LFirstIn$Guest;" } : Jvm.MethodName)) ∈ lw_tbl := lw_at lw_m4 55 rfl
theorem q877 : (Jvm.Cond.instanceMethod ({ cls := "FirstIn", name := "guestAt", desc := "(I)LFirstIn$Guest;" } : Jvm.MethodName)) ∈ lw_all := lw_g (lw_at lw_m4 56 rfl) rfl
theorem q878 : (Jvm.Cond.code ({ cls := "FirstIn", name := "guestAt", desc := "(I)LFirstIn$Guest;" } : Jvm.MethodName) prog_1_method_4_code (2 : Nat) (Option.some (Jvm.ClassFile.FieldType.object "FirstIn$Guest"))) ∈ lw_all := lw_g (lw_at lw_m4 57 rfl) rfl
theorem q880 : (Jvm.Cond.instanceMethod ({ cls := "FirstIn", name := "rule", desc := "(II)I" } : Jvm.MethodName)) ∈ lw_all := lw_g (lw_at lw_m4 59 rfl) rfl
theorem q881 : (Jvm.Cond.selects "FirstIn" ({ cls := "FirstIn", name := "rule", desc := "(II)I" } : Jvm.MethodName) ({ cls := "FirstIn", name := "rule", desc := "(II)I" } : Jvm.MethodName)) ∈ lw_all := lw_g (lw_at lw_m4 60 rfl) rfl
theorem q882 : (Jvm.Cond.code ({ cls := "FirstIn", name := "rule", desc := "(II)I" } : Jvm.MethodName) prog_1_method_15_code (4 : Nat) (Option.some Jvm.ClassFile.FieldType.int)) ∈ lw_all := lw_g (lw_at lw_m4 61 rfl) rfl
theorem q883 : (Jvm.Cond.methodLink "FirstIn" (141 : Nat) ({ cls := "FirstIn", name := "ruleAt", desc := "(I)LFirstIn$Rule;" } : Jvm.MethodName)) ∈ lw_all := lw_g (lw_at lw_m4 62 rfl) rfl
theorem q884 : (Jvm.Cond.privateMethod ({ cls := "FirstIn", name := "ruleAt", desc := "(I)LFirstIn$Rule;" } : Jvm.MethodName)) ∈ lw_tbl := lw_at lw_m4 63 rfl
theorem q885 : (Jvm.Cond.instanceMethod ({ cls := "FirstIn", name := "ruleAt", desc := "(I)LFirstIn$Rule;" } : Jvm.MethodName)) ∈ lw_all := lw_g (lw_at lw_m4 64 rfl) rfl
theorem q886 : (Jvm.Cond.code ({ cls := "FirstIn", name := "ruleAt", desc := "(I)LFirstIn$Rule;" } : Jvm.MethodName) prog_1_method_5_code (2 : Nat) (Option.some (Jvm.ClassFile.FieldType.object "FirstIn$Rule"))) ∈ lw_all := lw_g (lw_at lw_m4 65 rfl) rfl
theorem q887 : (Jvm.Cond.methodLink "FirstIn" (145 : Nat) ({ cls := "FirstIn$Rule", name := "kind", desc := "()I" } : Jvm.MethodName)) ∈ lw_all := lw_g (lw_at lw_m4 66 rfl) rfl
theorem q899 : (Jvm.Cond.methodLink "FirstIn" (152 : Nat) ({ cls := "FirstIn$Side", name := "code", desc := "()I" } : Jvm.MethodName)) ∈ lw_all := lw_g (lw_at lw_m4 78 rfl) rfl
theorem q909 : (Jvm.Cond.instanceMethod ({ cls := "FirstIn", name := "rest", desc := "(IZ)Z" } : Jvm.MethodName)) ∈ lw_all := lw_g (lw_at lw_m4 88 rfl) rfl
theorem q910 : (Jvm.Cond.selects "FirstIn" ({ cls := "FirstIn", name := "rest", desc := "(IZ)Z" } : Jvm.MethodName) ({ cls := "FirstIn", name := "rest", desc := "(IZ)Z" } : Jvm.MethodName)) ∈ lw_all := lw_g (lw_at lw_m4 89 rfl) rfl
theorem q911 : (Jvm.Cond.code ({ cls := "FirstIn", name := "rest", desc := "(IZ)Z" } : Jvm.MethodName) prog_1_method_16_code (4 : Nat) (Option.some Jvm.ClassFile.FieldType.boolean)) ∈ lw_all := lw_g (lw_at lw_m4 90 rfl) rfl
theorem q913 : (Jvm.Cond.instanceMethod ({ cls := "FirstIn", name := "comes", desc := "(IZ)Z" } : Jvm.MethodName)) ∈ lw_all := lw_g (lw_at lw_m4 92 rfl) rfl
theorem q914 : (Jvm.Cond.selects "FirstIn" ({ cls := "FirstIn", name := "comes", desc := "(IZ)Z" } : Jvm.MethodName) ({ cls := "FirstIn", name := "comes", desc := "(IZ)Z" } : Jvm.MethodName)) ∈ lw_all := lw_g (lw_at lw_m4 93 rfl) rfl
theorem q915 : (Jvm.Cond.code ({ cls := "FirstIn", name := "comes", desc := "(IZ)Z" } : Jvm.MethodName) prog_1_method_17_code (4 : Nat) (Option.some Jvm.ClassFile.FieldType.boolean)) ∈ lw_all := lw_g (lw_at lw_m4 94 rfl) rfl
theorem q916 : (Jvm.Cond.methodLink "FirstIn" (177 : Nat) ({ cls := "FirstIn$Guest", name := "goes", desc := "()V" } : Jvm.MethodName)) ∈ lw_all := lw_g (lw_at lw_m4 95 rfl) rfl
theorem q921 : (Jvm.Cond.instanceMethod ({ cls := "FirstIn", name := "seat", desc := "(III)Z" } : Jvm.MethodName)) ∈ lw_all := lw_g (lw_at lw_m4 100 rfl) rfl
theorem q922 : (Jvm.Cond.selects "FirstIn" ({ cls := "FirstIn", name := "seat", desc := "(III)Z" } : Jvm.MethodName) ({ cls := "FirstIn", name := "seat", desc := "(III)Z" } : Jvm.MethodName)) ∈ lw_all := lw_g (lw_at lw_m4 101 rfl) rfl
theorem q923 : (Jvm.Cond.code ({ cls := "FirstIn", name := "seat", desc := "(III)Z" } : Jvm.MethodName) prog_1_method_19_code (6 : Nat) (Option.some Jvm.ClassFile.FieldType.boolean)) ∈ lw_all := lw_g (lw_at lw_m4 102 rfl) rfl
theorem q924 : (Jvm.Cond.methodLink "FirstIn" (180 : Nat) ({ cls := "FirstIn", name := "roomAt", desc := "(I)LFirstIn$Room;" } : Jvm.MethodName)) ∈ lw_all := lw_g (lw_at lw_m4 103 rfl) rfl
theorem q925 : (Jvm.Cond.privateMethod ({ cls := "FirstIn", name := "roomAt", desc := "(I)LFirstIn$Room;" } : Jvm.MethodName)) ∈ lw_tbl := lw_at lw_m4 104 rfl
theorem q926 : (Jvm.Cond.instanceMethod ({ cls := "FirstIn", name := "roomAt", desc := "(I)LFirstIn$Room;" } : Jvm.MethodName)) ∈ lw_all := lw_g (lw_at lw_m4 105 rfl) rfl
theorem q927 : (Jvm.Cond.code ({ cls := "FirstIn", name := "roomAt", desc := "(I)LFirstIn$Room;" } : Jvm.MethodName) prog_1_method_6_code (2 : Nat) (Option.some (Jvm.ClassFile.FieldType.object "FirstIn$Room"))) ∈ lw_all := lw_g (lw_at lw_m4 106 rfl) rfl
theorem q928 : (Jvm.Cond.classLink "FirstIn" (88 : Nat) "FirstIn$Room") ∈ lw_all := lw_g (lw_at lw_m4 107 rfl) rfl
theorem q929 : (Jvm.Cond.methodLink "FirstIn" (187 : Nat) ({ cls := "FirstIn", name := "who", desc := "(II)LFirstIn$Guest;" } : Jvm.MethodName)) ∈ lw_all := lw_g (lw_at lw_m4 108 rfl) rfl
theorem q930 : (Jvm.Cond.privateMethod ({ cls := "FirstIn", name := "who", desc := "(II)LFirstIn$Guest;" } : Jvm.MethodName)) ∈ lw_tbl := lw_at lw_m4 109 rfl
theorem q931 : (Jvm.Cond.instanceMethod ({ cls := "FirstIn", name := "who", desc := "(II)LFirstIn$Guest;" } : Jvm.MethodName)) ∈ lw_all := lw_g (lw_at lw_m4 110 rfl) rfl
theorem q932 : (Jvm.Cond.code ({ cls := "FirstIn", name := "who", desc := "(II)LFirstIn$Guest;" } : Jvm.MethodName) prog_1_method_18_code (4 : Nat) (Option.some (Jvm.ClassFile.FieldType.object "FirstIn$Guest"))) ∈ lw_all := lw_g (lw_at lw_m4 111 rfl) rfl
theorem q934 : (Jvm.Cond.instanceMethod ({ cls := "FirstIn", name := "leave", desc := "(I)Z" } : Jvm.MethodName)) ∈ lw_all := lw_g (lw_at lw_m4 113 rfl) rfl
theorem q935 : (Jvm.Cond.selects "FirstIn" ({ cls := "FirstIn", name := "leave", desc := "(I)Z" } : Jvm.MethodName) ({ cls := "FirstIn", name := "leave", desc := "(I)Z" } : Jvm.MethodName)) ∈ lw_all := lw_g (lw_at lw_m4 114 rfl) rfl
theorem q936 : (Jvm.Cond.code ({ cls := "FirstIn", name := "leave", desc := "(I)Z" } : Jvm.MethodName) prog_1_method_20_code (3 : Nat) (Option.some Jvm.ClassFile.FieldType.boolean)) ∈ lw_all := lw_g (lw_at lw_m4 115 rfl) rfl
theorem q938 : (Jvm.Cond.instanceMethod ({ cls := "FirstIn", name := "sits", desc := "(IZ)Z" } : Jvm.MethodName)) ∈ lw_all := lw_g (lw_at lw_m4 117 rfl) rfl
theorem q939 : (Jvm.Cond.selects "FirstIn" ({ cls := "FirstIn", name := "sits", desc := "(IZ)Z" } : Jvm.MethodName) ({ cls := "FirstIn", name := "sits", desc := "(IZ)Z" } : Jvm.MethodName)) ∈ lw_all := lw_g (lw_at lw_m4 118 rfl) rfl
theorem q940 : (Jvm.Cond.code ({ cls := "FirstIn", name := "sits", desc := "(IZ)Z" } : Jvm.MethodName) prog_1_method_21_code (4 : Nat) (Option.some Jvm.ClassFile.FieldType.boolean)) ∈ lw_all := lw_g (lw_at lw_m4 119 rfl) rfl
theorem q942 : (Jvm.Cond.instanceMethod ({ cls := "FirstIn", name := "higher", desc := "(IIII)I" } : Jvm.MethodName)) ∈ lw_all := lw_g (lw_at lw_m4 121 rfl) rfl
theorem q943 : (Jvm.Cond.selects "FirstIn" ({ cls := "FirstIn", name := "higher", desc := "(IIII)I" } : Jvm.MethodName) ({ cls := "FirstIn", name := "higher", desc := "(IIII)I" } : Jvm.MethodName)) ∈ lw_all := lw_g (lw_at lw_m4 122 rfl) rfl
theorem q944 : (Jvm.Cond.code ({ cls := "FirstIn", name := "higher", desc := "(IIII)I" } : Jvm.MethodName) prog_1_method_22_code (6 : Nat) (Option.some Jvm.ClassFile.FieldType.int)) ∈ lw_all := lw_g (lw_at lw_m4 123 rfl) rfl
theorem q945 : (Jvm.Cond.methodLink "FirstIn" (191 : Nat) ({ cls := "FirstIn$Room", name := "higher", desc := "(III)I" } : Jvm.MethodName)) ∈ lw_all := lw_g (lw_at lw_m4 124 rfl) rfl
theorem q986 : (Jvm.Cond.instanceMethod ({ cls := "FirstIn", name := "source", desc := "(III)I" } : Jvm.MethodName)) ∈ lw_all := lw_g (lw_at lw_m4 165 rfl) rfl
theorem q987 : (Jvm.Cond.selects "FirstIn" ({ cls := "FirstIn", name := "source", desc := "(III)I" } : Jvm.MethodName) ({ cls := "FirstIn", name := "source", desc := "(III)I" } : Jvm.MethodName)) ∈ lw_all := lw_g (lw_at lw_m4 166 rfl) rfl
theorem q988 : (Jvm.Cond.code ({ cls := "FirstIn", name := "source", desc := "(III)I" } : Jvm.MethodName) prog_1_method_28_code (4 : Nat) (Option.some Jvm.ClassFile.FieldType.int)) ∈ lw_all := lw_g (lw_at lw_m4 167 rfl) rfl
theorem q989 : (Jvm.Cond.methodLink "FirstIn" (215 : Nat) ({ cls := "FirstIn", name := "sourceOf", desc := "(III)I" } : Jvm.MethodName)) ∈ lw_all := lw_g (lw_at lw_m4 168 rfl) rfl
theorem q990 : (Jvm.Cond.privateMethod ({ cls := "FirstIn", name := "sourceOf", desc := "(III)I" } : Jvm.MethodName)) ∈ lw_tbl := lw_at lw_m4 169 rfl
theorem q991 : (Jvm.Cond.instanceMethod ({ cls := "FirstIn", name := "sourceOf", desc := "(III)I" } : Jvm.MethodName)) ∈ lw_all := lw_g (lw_at lw_m4 170 rfl) rfl
theorem q992 : (Jvm.Cond.code ({ cls := "FirstIn", name := "sourceOf", desc := "(III)I" } : Jvm.MethodName) prog_1_method_27_code (7 : Nat) (Option.some Jvm.ClassFile.FieldType.int)) ∈ lw_all := lw_g (lw_at lw_m4 171 rfl) rfl
theorem q993 : (Jvm.Cond.methodLink "FirstIn" (203 : Nat) ({ cls := "FirstIn$Rule", name := "countsIn", desc := "(I)Z" } : Jvm.MethodName)) ∈ lw_all := lw_g (lw_at lw_m4 172 rfl) rfl
theorem q1000 : (Jvm.Cond.methodLink "FirstIn" (211 : Nat) ({ cls := "FirstIn", name := "hasCouple", desc := "(LFirstIn$Rule;II)Z" } : Jvm.MethodName)) ∈ lw_all := lw_g (lw_at lw_m4 179 rfl) rfl
theorem q1001 : (Jvm.Cond.privateMethod ({ cls := "FirstIn", name := "hasCouple", desc := "(LFirstIn$Rule;II)Z" } : Jvm.MethodName)) ∈ lw_tbl := lw_at lw_m4 180 rfl
theorem q1002 : (Jvm.Cond.instanceMethod ({ cls := "FirstIn", name := "hasCouple", desc := "(LFirstIn$Rule;II)Z" } : Jvm.MethodName)) ∈ lw_all := lw_g (lw_at lw_m4 181 rfl) rfl
theorem q1003 : (Jvm.Cond.code ({ cls := "FirstIn", name := "hasCouple", desc := "(LFirstIn$Rule;II)Z" } : Jvm.MethodName) prog_1_method_26_code (5 : Nat) (Option.some Jvm.ClassFile.FieldType.boolean)) ∈ lw_all := lw_g (lw_at lw_m4 182 rfl) rfl
theorem q1004 : (Jvm.Cond.classLink "FirstIn" (196 : Nat) "FirstIn$Couple") ∈ lw_all := lw_g (lw_at lw_m4 183 rfl) rfl
theorem q1005 : (Jvm.Cond.methodLink "FirstIn" (207 : Nat) ({ cls := "FirstIn", name := "areComing", desc := "(LFirstIn$Couple;)Z" } : Jvm.MethodName)) ∈ lw_all := lw_g (lw_at lw_m4 184 rfl) rfl
theorem q1006 : (Jvm.Cond.privateMethod ({ cls := "FirstIn", name := "areComing", desc := "(LFirstIn$Couple;)Z" } : Jvm.MethodName)) ∈ lw_tbl := lw_at lw_m4 185 rfl
theorem q1007 : (Jvm.Cond.instanceMethod ({ cls := "FirstIn", name := "areComing", desc := "(LFirstIn$Couple;)Z" } : Jvm.MethodName)) ∈ lw_all := lw_g (lw_at lw_m4 186 rfl) rfl
theorem q1008 : (Jvm.Cond.code ({ cls := "FirstIn", name := "areComing", desc := "(LFirstIn$Couple;)Z" } : Jvm.MethodName) prog_1_method_23_code (2 : Nat) (Option.some Jvm.ClassFile.FieldType.boolean)) ∈ lw_all := lw_g (lw_at lw_m4 187 rfl) rfl
theorem q1010 : (Jvm.Cond.instanceMethod ({ cls := "FirstIn", name := "slights", desc := "(III)I" } : Jvm.MethodName)) ∈ lw_all := lw_g (lw_at lw_m4 189 rfl) rfl
theorem q1011 : (Jvm.Cond.selects "FirstIn" ({ cls := "FirstIn", name := "slights", desc := "(III)I" } : Jvm.MethodName) ({ cls := "FirstIn", name := "slights", desc := "(III)I" } : Jvm.MethodName)) ∈ lw_all := lw_g (lw_at lw_m4 190 rfl) rfl
theorem q1012 : (Jvm.Cond.code ({ cls := "FirstIn", name := "slights", desc := "(III)I" } : Jvm.MethodName) prog_1_method_32_code (8 : Nat) (Option.some Jvm.ClassFile.FieldType.int)) ∈ lw_all := lw_g (lw_at lw_m4 191 rfl) rfl
theorem q1013 : (Jvm.Cond.methodLink "FirstIn" (232 : Nat) ({ cls := "FirstIn", name := "isCourse", desc := "(II)Z" } : Jvm.MethodName)) ∈ lw_all := lw_g (lw_at lw_m4 192 rfl) rfl
theorem q1014 : (Jvm.Cond.privateMethod ({ cls := "FirstIn", name := "isCourse", desc := "(II)Z" } : Jvm.MethodName)) ∈ lw_tbl := lw_at lw_m4 193 rfl
theorem q1015 : (Jvm.Cond.instanceMethod ({ cls := "FirstIn", name := "isCourse", desc := "(II)Z" } : Jvm.MethodName)) ∈ lw_all := lw_g (lw_at lw_m4 194 rfl) rfl
theorem q1016 : (Jvm.Cond.code ({ cls := "FirstIn", name := "isCourse", desc := "(II)Z" } : Jvm.MethodName) prog_1_method_31_code (3 : Nat) (Option.some Jvm.ClassFile.FieldType.boolean)) ∈ lw_all := lw_g (lw_at lw_m4 195 rfl) rfl
theorem q1017 : (Jvm.Cond.methodLink "FirstIn" (236 : Nat) ({ cls := "FirstIn", name := "slightsIn", desc := "(III)Ljava/util/ArrayList;" } : Jvm.MethodName)) ∈ lw_all := lw_g (lw_at lw_m4 196 rfl) rfl
theorem q1018 : (Jvm.Cond.privateMethod ({ cls := "FirstIn", name := "slightsIn", desc := "(III)Ljava/util/ArrayList;" } : Jvm.MethodName)) ∈ lw_tbl := lw_at lw_m4 197 rfl
theorem q1019 : (Jvm.Cond.instanceMethod ({ cls := "FirstIn", name := "slightsIn", desc := "(III)Ljava/util/ArrayList;" } : Jvm.MethodName)) ∈ lw_all := lw_g (lw_at lw_m4 198 rfl) rfl
theorem q1020 : (Jvm.Cond.code ({ cls := "FirstIn", name := "slightsIn", desc := "(III)Ljava/util/ArrayList;" } : Jvm.MethodName) prog_1_method_29_code (13 : Nat) (Option.some (Jvm.ClassFile.FieldType.object "java/util/ArrayList"))) ∈ lw_all := lw_g (lw_at lw_m4 199 rfl) rfl
theorem q1021 : (Jvm.Cond.methodLink "FirstIn" (218 : Nat) ({ cls := "FirstIn$Rule", name := "minds", desc := "(LFirstIn$Room;III)I" } : Jvm.MethodName)) ∈ lw_all := lw_g (lw_at lw_m4 200 rfl) rfl
theorem q1056 : (Jvm.Cond.classLink "FirstIn" (222 : Nat) "FirstIn$Slight") ∈ lw_all := lw_g (lw_at lw_m4 235 rfl) rfl
theorem q1058 : (Jvm.Cond.methodLink "FirstIn" (224 : Nat) ({ cls := "FirstIn$Slight", name := "<init>", desc := "(IIIII)V" } : Jvm.MethodName)) ∈ lw_all := lw_g (lw_at lw_m4 237 rfl) rfl
theorem q1063 : (Jvm.Cond.fieldLinkNest "FirstIn" (246 : Nat) "FirstIn$Slight" "rule" "I" "FirstIn") ∈ lw_tbl := lw_at lw_m5 2 rfl
theorem q1065 : (Jvm.Cond.fieldLinkNest "FirstIn" (227 : Nat) "FirstIn$Slight" "x" "I" "FirstIn") ∈ lw_tbl := lw_at lw_m5 4 rfl
theorem q1067 : (Jvm.Cond.fieldLinkNest "FirstIn" (230 : Nat) "FirstIn$Slight" "y" "I" "FirstIn") ∈ lw_tbl := lw_at lw_m5 6 rfl
theorem q1069 : (Jvm.Cond.fieldLinkNest "FirstIn" (231 : Nat) "FirstIn$Slight" "weight" "I" "FirstIn") ∈ lw_tbl := lw_at lw_m5 8 rfl
theorem q1071 : (Jvm.Cond.fieldLinkNest "FirstIn" (228 : Nat) "FirstIn$Slight" "who" "I" "FirstIn") ∈ lw_tbl := lw_at lw_m5 10 rfl
theorem q1083 : (Jvm.Cond.methodLink "FirstIn" (240 : Nat) ({ cls := "java/lang/Math", name := "max", desc := "(II)I" } : Jvm.MethodName)) ∈ lw_all := lw_g (lw_at lw_m5 22 rfl) rfl
theorem q1085 : (Jvm.Cond.instanceMethod ({ cls := "FirstIn", name := "slight", desc := "(IIII)I" } : Jvm.MethodName)) ∈ lw_all := lw_g (lw_at lw_m5 24 rfl) rfl
theorem q1086 : (Jvm.Cond.selects "FirstIn" ({ cls := "FirstIn", name := "slight", desc := "(IIII)I" } : Jvm.MethodName) ({ cls := "FirstIn", name := "slight", desc := "(IIII)I" } : Jvm.MethodName)) ∈ lw_all := lw_g (lw_at lw_m5 25 rfl) rfl
theorem q1087 : (Jvm.Cond.code ({ cls := "FirstIn", name := "slight", desc := "(IIII)I" } : Jvm.MethodName) prog_1_method_33_code (7 : Nat) (Option.some Jvm.ClassFile.FieldType.int)) ∈ lw_all := lw_g (lw_at lw_m5 26 rfl) rfl
theorem q1089 : (Jvm.Cond.instanceMethod ({ cls := "FirstIn", name := "minds", desc := "(III)I" } : Jvm.MethodName)) ∈ lw_all := lw_g (lw_at lw_m5 28 rfl) rfl
theorem q1090 : (Jvm.Cond.selects "FirstIn" ({ cls := "FirstIn", name := "minds", desc := "(III)I" } : Jvm.MethodName) ({ cls := "FirstIn", name := "minds", desc := "(III)I" } : Jvm.MethodName)) ∈ lw_all := lw_g (lw_at lw_m5 29 rfl) rfl
theorem q1091 : (Jvm.Cond.code ({ cls := "FirstIn", name := "minds", desc := "(III)I" } : Jvm.MethodName) prog_1_method_34_code (9 : Nat) (Option.some Jvm.ClassFile.FieldType.int)) ∈ lw_all := lw_g (lw_at lw_m5 30 rfl) rfl
theorem q1092 : (Jvm.Cond.methodLink "FirstIn" (249 : Nat) ({ cls := "FirstIn", name := "minded", desc := "(Ljava/util/ArrayList;I)I" } : Jvm.MethodName)) ∈ lw_all := lw_g (lw_at lw_m5 31 rfl) rfl
theorem q1093 : (Jvm.Cond.static ({ cls := "FirstIn", name := "minded", desc := "(Ljava/util/ArrayList;I)I" } : Jvm.MethodName)) ∈ lw_all := lw_g (lw_at lw_m5 32 rfl) rfl
theorem q1094 : (Jvm.Cond.code ({ cls := "FirstIn", name := "minded", desc := "(Ljava/util/ArrayList;I)I" } : Jvm.MethodName) prog_1_method_30_code (5 : Nat) (Option.some Jvm.ClassFile.FieldType.int)) ∈ lw_all := lw_g (lw_at lw_m5 33 rfl) rfl
theorem q1096 : (Jvm.Cond.instanceMethod ({ cls := "FirstIn", name := "ring", desc := "(II)I" } : Jvm.MethodName)) ∈ lw_all := lw_g (lw_at lw_m5 35 rfl) rfl
theorem q1097 : (Jvm.Cond.selects "FirstIn" ({ cls := "FirstIn", name := "ring", desc := "(II)I" } : Jvm.MethodName) ({ cls := "FirstIn", name := "ring", desc := "(II)I" } : Jvm.MethodName)) ∈ lw_all := lw_g (lw_at lw_m5 36 rfl) rfl
theorem q1098 : (Jvm.Cond.code ({ cls := "FirstIn", name := "ring", desc := "(II)I" } : Jvm.MethodName) prog_1_method_37_code (8 : Nat) (Option.some Jvm.ClassFile.FieldType.int)) ∈ lw_all := lw_g (lw_at lw_m5 37 rfl) rfl
theorem q1099 : (Jvm.Cond.methodLink "FirstIn" (259 : Nat) ({ cls := "FirstIn", name := "findAbove", desc := "(II)V" } : Jvm.MethodName)) ∈ lw_all := lw_g (lw_at lw_m5 38 rfl) rfl
theorem q1100 : (Jvm.Cond.privateMethod ({ cls := "FirstIn", name := "findAbove", desc := "(II)V" } : Jvm.MethodName)) ∈ lw_tbl := lw_at lw_m5 39 rfl
theorem q1101 : (Jvm.Cond.instanceMethod ({ cls := "FirstIn", name := "findAbove", desc := "(II)V" } : Jvm.MethodName)) ∈ lw_all := lw_g (lw_at lw_m5 40 rfl) rfl
theorem q1102 : (Jvm.Cond.code ({ cls := "FirstIn", name := "findAbove", desc := "(II)V" } : Jvm.MethodName) prog_1_method_24_code (6 : Nat) (Option.none : Option Jvm.ClassFile.FieldType)) ∈ lw_all := lw_g (lw_at lw_m5 41 rfl) rfl
theorem q1103 : (Jvm.Cond.methodLink "FirstIn" (256 : Nat) ({ cls := "FirstIn", name := "findSteps", desc := "(I)V" } : Jvm.MethodName)) ∈ lw_all := lw_g (lw_at lw_m5 42 rfl) rfl
theorem q1104 : (Jvm.Cond.privateMethod ({ cls := "FirstIn", name := "findSteps", desc := "(I)V" } : Jvm.MethodName)) ∈ lw_tbl := lw_at lw_m5 43 rfl
theorem q1105 : (Jvm.Cond.instanceMethod ({ cls := "FirstIn", name := "findSteps", desc := "(I)V" } : Jvm.MethodName)) ∈ lw_all := lw_g (lw_at lw_m5 44 rfl) rfl
theorem q1106 : (Jvm.Cond.code ({ cls := "FirstIn", name := "findSteps", desc := "(I)V" } : Jvm.MethodName) prog_1_method_35_code (6 : Nat) (Option.none : Option Jvm.ClassFile.FieldType)) ∈ lw_all := lw_g (lw_at lw_m5 45 rfl) rfl
theorem q1107 : (Jvm.Cond.methodLink "FirstIn" (253 : Nat) ({ cls := "FirstIn", name := "isAbove", desc := "(II)Z" } : Jvm.MethodName)) ∈ lw_all := lw_g (lw_at lw_m5 46 rfl) rfl
theorem q1108 : (Jvm.Cond.privateMethod ({ cls := "FirstIn", name := "isAbove", desc := "(II)Z" } : Jvm.MethodName)) ∈ lw_tbl := lw_at lw_m5 47 rfl
theorem q1109 : (Jvm.Cond.instanceMethod ({ cls := "FirstIn", name := "isAbove", desc := "(II)Z" } : Jvm.MethodName)) ∈ lw_all := lw_g (lw_at lw_m5 48 rfl) rfl
theorem q1110 : (Jvm.Cond.code ({ cls := "FirstIn", name := "isAbove", desc := "(II)Z" } : Jvm.MethodName) prog_1_method_25_code (3 : Nat) (Option.some Jvm.ClassFile.FieldType.boolean)) ∈ lw_all := lw_g (lw_at lw_m5 49 rfl) rfl
theorem q1112 : (Jvm.Cond.instanceMethod ({ cls := "FirstIn", name := "quarrels", desc := "(I)I" } : Jvm.MethodName)) ∈ lw_all := lw_g (lw_at lw_m5 51 rfl) rfl
theorem q1113 : (Jvm.Cond.selects "FirstIn" ({ cls := "FirstIn", name := "quarrels", desc := "(I)I" } : Jvm.MethodName) ({ cls := "FirstIn", name := "quarrels", desc := "(I)I" } : Jvm.MethodName)) ∈ lw_all := lw_g (lw_at lw_m5 52 rfl) rfl
theorem q1114 : (Jvm.Cond.code ({ cls := "FirstIn", name := "quarrels", desc := "(I)I" } : Jvm.MethodName) prog_1_method_38_code (5 : Nat) (Option.some Jvm.ClassFile.FieldType.int)) ∈ lw_all := lw_g (lw_at lw_m5 53 rfl) rfl
theorem q1116 : (Jvm.Cond.instanceMethod ({ cls := "FirstIn", name := "toRest", desc := "(II)I" } : Jvm.MethodName)) ∈ lw_all := lw_g (lw_at lw_m5 55 rfl) rfl
theorem q1117 : (Jvm.Cond.selects "FirstIn" ({ cls := "FirstIn", name := "toRest", desc := "(II)I" } : Jvm.MethodName) ({ cls := "FirstIn", name := "toRest", desc := "(II)I" } : Jvm.MethodName)) ∈ lw_all := lw_g (lw_at lw_m5 56 rfl) rfl
theorem q1118 : (Jvm.Cond.code ({ cls := "FirstIn", name := "toRest", desc := "(II)I" } : Jvm.MethodName) prog_1_method_41_code (6 : Nat) (Option.some Jvm.ClassFile.FieldType.int)) ∈ lw_all := lw_g (lw_at lw_m5 57 rfl) rfl
theorem q1119 : (Jvm.Cond.methodLink "FirstIn" (263 : Nat) ({ cls := "FirstIn", name := "isAboveOnly", desc := "(II)Z" } : Jvm.MethodName)) ∈ lw_all := lw_g (lw_at lw_m5 58 rfl) rfl
theorem q1120 : (Jvm.Cond.privateMethod ({ cls := "FirstIn", name := "isAboveOnly", desc := "(II)Z" } : Jvm.MethodName)) ∈ lw_tbl := lw_at lw_m5 59 rfl
theorem q1121 : (Jvm.Cond.instanceMethod ({ cls := "FirstIn", name := "isAboveOnly", desc := "(II)Z" } : Jvm.MethodName)) ∈ lw_all := lw_g (lw_at lw_m5 60 rfl) rfl
theorem q1122 : (Jvm.Cond.code ({ cls := "FirstIn", name := "isAboveOnly", desc := "(II)Z" } : Jvm.MethodName) prog_1_method_40_code (4 : Nat) (Option.some Jvm.ClassFile.FieldType.boolean)) ∈ lw_all := lw_g (lw_at lw_m5 61 rfl) rfl
theorem q1123 : (Jvm.Cond.methodLink "FirstIn" (266 : Nat) ({ cls := "FirstIn", name := "weightOf", desc := "(I)I" } : Jvm.MethodName)) ∈ lw_all := lw_g (lw_at lw_m5 62 rfl) rfl
theorem q1124 : (Jvm.Cond.privateMethod ({ cls := "FirstIn", name := "weightOf", desc := "(I)I" } : Jvm.MethodName)) ∈ lw_tbl := lw_at lw_m5 63 rfl
theorem q1125 : (Jvm.Cond.instanceMethod ({ cls := "FirstIn", name := "weightOf", desc := "(I)I" } : Jvm.MethodName)) ∈ lw_all := lw_g (lw_at lw_m5 64 rfl) rfl
theorem q1126 : (Jvm.Cond.code ({ cls := "FirstIn", name := "weightOf", desc := "(I)I" } : Jvm.MethodName) prog_1_method_39_code (4 : Nat) (Option.some Jvm.ClassFile.FieldType.int)) ∈ lw_all := lw_g (lw_at lw_m5 65 rfl) rfl
theorem q1127 : (Jvm.Cond.methodLink "FirstIn" (270 : Nat) ({ cls := "java/lang/Integer", name := "bitCount", desc := "(I)I" } : Jvm.MethodName)) ∈ lw_all := lw_g (lw_at lw_m5 66 rfl) rfl
theorem q1133 : (Jvm.Cond.methodLink "FirstIn" (275 : Nat) ({ cls := "FirstIn", name := "hasRing", desc := "()Z" } : Jvm.MethodName)) ∈ lw_all := lw_g (lw_at lw_m5 72 rfl) rfl
theorem q1134 : (Jvm.Cond.privateMethod ({ cls := "FirstIn", name := "hasRing", desc := "()Z" } : Jvm.MethodName)) ∈ lw_tbl := lw_at lw_m5 73 rfl
theorem q1135 : (Jvm.Cond.instanceMethod ({ cls := "FirstIn", name := "hasRing", desc := "()Z" } : Jvm.MethodName)) ∈ lw_all := lw_g (lw_at lw_m5 74 rfl) rfl
theorem q1136 : (Jvm.Cond.code ({ cls := "FirstIn", name := "hasRing", desc := "()Z" } : Jvm.MethodName) prog_1_method_36_code (2 : Nat) (Option.some Jvm.ClassFile.FieldType.boolean)) ∈ lw_all := lw_g (lw_at lw_m5 75 rfl) rfl
theorem q1138 : (Jvm.Cond.instanceMethod ({ cls := "FirstIn", name := "order", desc := "(II)I" } : Jvm.MethodName)) ∈ lw_all := lw_g (lw_at lw_m5 77 rfl) rfl
theorem q1139 : (Jvm.Cond.selects "FirstIn" ({ cls := "FirstIn", name := "order", desc := "(II)I" } : Jvm.MethodName) ({ cls := "FirstIn", name := "order", desc := "(II)I" } : Jvm.MethodName)) ∈ lw_all := lw_g (lw_at lw_m5 78 rfl) rfl
theorem q1140 : (Jvm.Cond.code ({ cls := "FirstIn", name := "order", desc := "(II)I" } : Jvm.MethodName) prog_1_method_42_code (6 : Nat) (Option.some Jvm.ClassFile.FieldType.int)) ∈ lw_all := lw_g (lw_at lw_m5 79 rfl) rfl
theorem q1141 : (Jvm.Cond.methodLink "FirstIn" (279 : Nat) ({ cls := "FirstIn", name := "coming", desc := "()Ljava/util/ArrayList;" } : Jvm.MethodName)) ∈ lw_all := lw_g (lw_at lw_m5 80 rfl) rfl
theorem q1142 : (Jvm.Cond.privateMethod ({ cls := "FirstIn", name := "coming", desc := "()Ljava/util/ArrayList;" } : Jvm.MethodName)) ∈ lw_tbl := lw_at lw_m5 81 rfl
theorem q1143 : (Jvm.Cond.instanceMethod ({ cls := "FirstIn", name := "coming", desc := "()Ljava/util/ArrayList;" } : Jvm.MethodName)) ∈ lw_all := lw_g (lw_at lw_m5 82 rfl) rfl
theorem q1144 : (Jvm.Cond.code ({ cls := "FirstIn", name := "coming", desc := "()Ljava/util/ArrayList;" } : Jvm.MethodName) prog_1_method_7_code (3 : Nat) (Option.some (Jvm.ClassFile.FieldType.object "java/util/ArrayList"))) ∈ lw_all := lw_g (lw_at lw_m5 83 rfl) rfl
theorem q1145 : (Jvm.Cond.methodLink "FirstIn" (284 : Nat) ({ cls := "FirstIn", name := "isHeldBack", desc := "(Ljava/util/ArrayList;I)Z" } : Jvm.MethodName)) ∈ lw_all := lw_g (lw_at lw_m5 84 rfl) rfl
theorem q1146 : (Jvm.Cond.privateMethod ({ cls := "FirstIn", name := "isHeldBack", desc := "(Ljava/util/ArrayList;I)Z" } : Jvm.MethodName)) ∈ lw_tbl := lw_at lw_m5 85 rfl
theorem q1147 : (Jvm.Cond.instanceMethod ({ cls := "FirstIn", name := "isHeldBack", desc := "(Ljava/util/ArrayList;I)Z" } : Jvm.MethodName)) ∈ lw_all := lw_g (lw_at lw_m5 86 rfl) rfl
theorem q1148 : (Jvm.Cond.code ({ cls := "FirstIn", name := "isHeldBack", desc := "(Ljava/util/ArrayList;I)Z" } : Jvm.MethodName) prog_1_method_43_code (4 : Nat) (Option.some Jvm.ClassFile.FieldType.boolean)) ∈ lw_all := lw_g (lw_at lw_m5 87 rfl) rfl
theorem q1149 : (Jvm.Cond.methodLink "FirstIn" (288 : Nat) ({ cls := "java/util/ArrayList", name := "remove", desc := "(I)Ljava/lang/Object;" } : Jvm.MethodName)) ∈ lw_all := lw_g (lw_at lw_m5 88 rfl) rfl
theorem q1159 : (Jvm.Cond.instanceMethod ({ cls := "FirstIn", name := "rounds", desc := "(II)I" } : Jvm.MethodName)) ∈ lw_all := lw_g (lw_at lw_m5 98 rfl) rfl
theorem q1160 : (Jvm.Cond.selects "FirstIn" ({ cls := "FirstIn", name := "rounds", desc := "(II)I" } : Jvm.MethodName) ({ cls := "FirstIn", name := "rounds", desc := "(II)I" } : Jvm.MethodName)) ∈ lw_all := lw_g (lw_at lw_m5 99 rfl) rfl
theorem q1161 : (Jvm.Cond.code ({ cls := "FirstIn", name := "rounds", desc := "(II)I" } : Jvm.MethodName) prog_1_method_46_code (11 : Nat) (Option.some Jvm.ClassFile.FieldType.int)) ∈ lw_all := lw_g (lw_at lw_m5 100 rfl) rfl
theorem q1162 : (Jvm.Cond.methodLink "FirstIn" (298 : Nat) ({ cls := "FirstIn", name := "findTogether", desc := "(I)V" } : Jvm.MethodName)) ∈ lw_all := lw_g (lw_at lw_m5 101 rfl) rfl
theorem q1163 : (Jvm.Cond.privateMethod ({ cls := "FirstIn", name := "findTogether", desc := "(I)V" } : Jvm.MethodName)) ∈ lw_tbl := lw_at lw_m5 102 rfl
theorem q1164 : (Jvm.Cond.instanceMethod ({ cls := "FirstIn", name := "findTogether", desc := "(I)V" } : Jvm.MethodName)) ∈ lw_all := lw_g (lw_at lw_m5 103 rfl) rfl
theorem q1165 : (Jvm.Cond.code ({ cls := "FirstIn", name := "findTogether", desc := "(I)V" } : Jvm.MethodName) prog_1_method_45_code (8 : Nat) (Option.none : Option Jvm.ClassFile.FieldType)) ∈ lw_all := lw_g (lw_at lw_m5 104 rfl) rfl
theorem q1166 : (Jvm.Cond.methodLink "FirstIn" (291 : Nat) ({ cls := "FirstIn", name := "isEven", desc := "(LFirstIn$Rule;I)Z" } : Jvm.MethodName)) ∈ lw_all := lw_g (lw_at lw_m5 105 rfl) rfl
theorem q1167 : (Jvm.Cond.privateMethod ({ cls := "FirstIn", name := "isEven", desc := "(LFirstIn$Rule;I)Z" } : Jvm.MethodName)) ∈ lw_tbl := lw_at lw_m5 106 rfl
theorem q1168 : (Jvm.Cond.instanceMethod ({ cls := "FirstIn", name := "isEven", desc := "(LFirstIn$Rule;I)Z" } : Jvm.MethodName)) ∈ lw_all := lw_g (lw_at lw_m5 107 rfl) rfl
theorem q1169 : (Jvm.Cond.code ({ cls := "FirstIn", name := "isEven", desc := "(LFirstIn$Rule;I)Z" } : Jvm.MethodName) prog_1_method_44_code (3 : Nat) (Option.some Jvm.ClassFile.FieldType.boolean)) ∈ lw_all := lw_g (lw_at lw_m5 108 rfl) rfl
theorem q1170 : (Jvm.Cond.methodLink "FirstIn" (295 : Nat) ({ cls := "java/lang/Math", name := "min", desc := "(II)I" } : Jvm.MethodName)) ∈ lw_all := lw_g (lw_at lw_m5 109 rfl) rfl
theorem q1171 : (Jvm.Cond.constant "FirstIn" (301 : Nat) (1000000 : Int32)) ∈ lw_all := lw_g (lw_at lw_m5 110 rfl) rfl
theorem q1172 : (Jvm.Cond.methodLink "FirstIn" (302 : Nat) ({ cls := "FirstIn", name := "mayGo", desc := "(II[I[I)Z" } : Jvm.MethodName)) ∈ lw_all := lw_g (lw_at lw_m5 111 rfl) rfl
theorem q1173 : (Jvm.Cond.privateMethod ({ cls := "FirstIn", name := "mayGo", desc := "(II[I[I)Z" } : Jvm.MethodName)) ∈ lw_tbl := lw_at lw_m5 112 rfl
theorem q1174 : (Jvm.Cond.instanceMethod ({ cls := "FirstIn", name := "mayGo", desc := "(II[I[I)Z" } : Jvm.MethodName)) ∈ lw_all := lw_g (lw_at lw_m5 113 rfl) rfl
theorem q1175 : (Jvm.Cond.code ({ cls := "FirstIn", name := "mayGo", desc := "(II[I[I)Z" } : Jvm.MethodName) prog_1_method_47_code (7 : Nat) (Option.some Jvm.ClassFile.FieldType.boolean)) ∈ lw_all := lw_g (lw_at lw_m5 114 rfl) rfl
theorem q1177 : (Jvm.Cond.instanceMethod ({ cls := "FirstIn", name := "few", desc := "(II)I" } : Jvm.MethodName)) ∈ lw_all := lw_g (lw_at lw_m5 116 rfl) rfl
theorem q1178 : (Jvm.Cond.selects "FirstIn" ({ cls := "FirstIn", name := "few", desc := "(II)I" } : Jvm.MethodName) ({ cls := "FirstIn", name := "few", desc := "(II)I" } : Jvm.MethodName)) ∈ lw_all := lw_g (lw_at lw_m5 117 rfl) rfl
theorem q1179 : (Jvm.Cond.code ({ cls := "FirstIn", name := "few", desc := "(II)I" } : Jvm.MethodName) prog_1_method_50_code (7 : Nat) (Option.some Jvm.ClassFile.FieldType.int)) ∈ lw_all := lw_g (lw_at lw_m5 118 rfl) rfl
theorem q1180 : (Jvm.Cond.methodLink "FirstIn" (319 : Nat) ({ cls := "FirstIn", name := "isHeap", desc := "(II)Z" } : Jvm.MethodName)) ∈ lw_all := lw_g (lw_at lw_m5 119 rfl) rfl
theorem q1181 : (Jvm.Cond.privateMethod ({ cls := "FirstIn", name := "isHeap", desc := "(II)Z" } : Jvm.MethodName)) ∈ lw_tbl := lw_at lw_m5 120 rfl
theorem q1182 : (Jvm.Cond.instanceMethod ({ cls := "FirstIn", name := "isHeap", desc := "(II)Z" } : Jvm.MethodName)) ∈ lw_all := lw_g (lw_at lw_m5 121 rfl) rfl
theorem q1183 : (Jvm.Cond.code ({ cls := "FirstIn", name := "isHeap", desc := "(II)Z" } : Jvm.MethodName) prog_1_method_48_code (10 : Nat) (Option.some Jvm.ClassFile.FieldType.boolean)) ∈ lw_all := lw_g (lw_at lw_m5 122 rfl) rfl
theorem q1184 : (Jvm.Cond.methodLink "FirstIn" (315 : Nat) ({ cls := "FirstIn", name := "heaps", desc := "(Ljava/util/ArrayList;II[Z)V" } : Jvm.MethodName)) ∈ lw_all := lw_g (lw_at lw_m5 123 rfl) rfl
theorem q1185 : (Jvm.Cond.privateMethod ({ cls := "FirstIn", name := "heaps", desc := "(Ljava/util/ArrayList;II[Z)V" } : Jvm.MethodName)) ∈ lw_tbl := lw_at lw_m5 124 rfl
theorem q1186 : (Jvm.Cond.instanceMethod ({ cls := "FirstIn", name := "heaps", desc := "(Ljava/util/ArrayList;II[Z)V" } : Jvm.MethodName)) ∈ lw_all := lw_g (lw_at lw_m5 125 rfl) rfl
theorem q1187 : (Jvm.Cond.code ({ cls := "FirstIn", name := "heaps", desc := "(Ljava/util/ArrayList;II[Z)V" } : Jvm.MethodName) prog_1_method_49_code (7 : Nat) (Option.none : Option Jvm.ClassFile.FieldType)) ∈ lw_all := lw_g (lw_at lw_m5 126 rfl) rfl
theorem q1188 : (Jvm.Cond.methodLink "FirstIn" (309 : Nat) ({ cls := "java/lang/System", name := "arraycopy", desc := "(Ljava/lang/Object;ILjava/lang/Object;II)V" } : Jvm.MethodName)) ∈ lw_all := lw_g (lw_at lw_m5 127 rfl) rfl
theorem q1191 : (Jvm.Cond.instanceMethod ({ cls := "FirstIn", name := "least", desc := "(II)I" } : Jvm.MethodName)) ∈ lw_all := lw_g (lw_at lw_m5 130 rfl) rfl
theorem q1192 : (Jvm.Cond.selects "FirstIn" ({ cls := "FirstIn", name := "least", desc := "(II)I" } : Jvm.MethodName) ({ cls := "FirstIn", name := "least", desc := "(II)I" } : Jvm.MethodName)) ∈ lw_all := lw_g (lw_at lw_m5 131 rfl) rfl
theorem q1193 : (Jvm.Cond.code ({ cls := "FirstIn", name := "least", desc := "(II)I" } : Jvm.MethodName) prog_1_method_55_code (4 : Nat) (Option.some Jvm.ClassFile.FieldType.int)) ∈ lw_all := lw_g (lw_at lw_m5 132 rfl) rfl
theorem q1194 : (Jvm.Cond.methodLink "FirstIn" (343 : Nat) ({ cls := "FirstIn", name := "canBeAsked", desc := "(I)Z" } : Jvm.MethodName)) ∈ lw_all := lw_g (lw_at lw_m5 133 rfl) rfl
theorem q1195 : (Jvm.Cond.privateMethod ({ cls := "FirstIn", name := "canBeAsked", desc := "(I)Z" } : Jvm.MethodName)) ∈ lw_tbl := lw_at lw_m5 134 rfl
theorem q1196 : (Jvm.Cond.instanceMethod ({ cls := "FirstIn", name := "canBeAsked", desc := "(I)Z" } : Jvm.MethodName)) ∈ lw_all := lw_g (lw_at lw_m5 135 rfl) rfl
theorem q1197 : (Jvm.Cond.code ({ cls := "FirstIn", name := "canBeAsked", desc := "(I)Z" } : Jvm.MethodName) prog_1_method_52_code (4 : Nat) (Option.some Jvm.ClassFile.FieldType.boolean)) ∈ lw_all := lw_g (lw_at lw_m5 136 rfl) rfl
theorem q1198 : (Jvm.Cond.methodLink "FirstIn" (346 : Nat) ({ cls := "FirstIn", name := "findLeast", desc := "(I)LFirstIn$Least;" } : Jvm.MethodName)) ∈ lw_all := lw_g (lw_at lw_m5 137 rfl) rfl
theorem q1199 : (Jvm.Cond.privateMethod ({ cls := "FirstIn", name := "findLeast", desc := "(I)LFirstIn$Least;" } : Jvm.MethodName)) ∈ lw_tbl := lw_at lw_m5 138 rfl
theorem q1200 : (Jvm.Cond.instanceMethod ({ cls := "FirstIn", name := "findLeast", desc := "(I)LFirstIn$Least;" } : Jvm.MethodName)) ∈ lw_all := lw_g (lw_at lw_m5 139 rfl) rfl
theorem q1201 : (Jvm.Cond.code ({ cls := "FirstIn", name := "findLeast", desc := "(I)LFirstIn$Least;" } : Jvm.MethodName) prog_1_method_53_code (3 : Nat) (Option.some (Jvm.ClassFile.FieldType.object "FirstIn$Least"))) ∈ lw_all := lw_g (lw_at lw_m5 140 rfl) rfl
theorem q1202 : (Jvm.Cond.classLink "FirstIn" (327 : Nat) "FirstIn$Least") ∈ lw_all := lw_g (lw_at lw_m5 141 rfl) rfl
theorem q1204 : (Jvm.Cond.methodLink "FirstIn" (329 : Nat) ({ cls := "FirstIn", name := "bonds", desc := "(I)Ljava/util/ArrayList;" } : Jvm.MethodName)) ∈ lw_all := lw_g (lw_at lw_m5 143 rfl) rfl
theorem q1205 : (Jvm.Cond.privateMethod ({ cls := "FirstIn", name := "bonds", desc := "(I)Ljava/util/ArrayList;" } : Jvm.MethodName)) ∈ lw_tbl := lw_at lw_m5 144 rfl
theorem q1206 : (Jvm.Cond.instanceMethod ({ cls := "FirstIn", name := "bonds", desc := "(I)Ljava/util/ArrayList;" } : Jvm.MethodName)) ∈ lw_all := lw_g (lw_at lw_m5 145 rfl) rfl
theorem q1207 : (Jvm.Cond.code ({ cls := "FirstIn", name := "bonds", desc := "(I)Ljava/util/ArrayList;" } : Jvm.MethodName) prog_1_method_51_code (6 : Nat) (Option.some (Jvm.ClassFile.FieldType.object "java/util/ArrayList"))) ∈ lw_all := lw_g (lw_at lw_m5 146 rfl) rfl
theorem q1208 : (Jvm.Cond.classLink "FirstIn" (322 : Nat) "FirstIn$Bond") ∈ lw_all := lw_g (lw_at lw_m5 147 rfl) rfl
theorem q1210 : (Jvm.Cond.methodLink "FirstIn" (324 : Nat) ({ cls := "FirstIn$Bond", name := "<init>", desc := "(LFirstIn$Rule;LFirstIn$Couple;)V" } : Jvm.MethodName)) ∈ lw_all := lw_g (lw_at lw_m5 149 rfl) rfl
theorem q1227 : (Jvm.Cond.methodLink "FirstIn" (333 : Nat) ({ cls := "FirstIn$Least", name := "<init>", desc := "(LFirstIn$Room;Ljava/util/ArrayList;Ljava/util/ArrayList;)V" } : Jvm.MethodName)) ∈ lw_all := lw_g (lw_at lw_m5 166 rfl) rfl
theorem q1236 : (Jvm.Cond.fieldLinkNest "FirstIn" (350 : Nat) "FirstIn$Least" "best" "I" "FirstIn") ∈ lw_tbl := lw_at lw_m5 175 rfl
theorem q1238 : (Jvm.Cond.fieldLinkNest "FirstIn" (353 : Nat) "FirstIn$Least" "many" "I" "FirstIn") ∈ lw_tbl := lw_at lw_m5 177 rfl
theorem q1240 : (Jvm.Cond.fieldLinkNest "FirstIn" (368 : Nat) "FirstIn$Least" "places" "[I" "FirstIn") ∈ lw_tbl := lw_at lw_m5 179 rfl
theorem q1250 : (Jvm.Cond.fieldLink "FirstIn" (364 : Nat) "FirstIn$Search" "first" "[I") ∈ lw_all := lw_g (lw_at lw_m5 189 rfl) rfl
theorem q1251 : (Jvm.Cond.fieldLink "FirstIn" (380 : Nat) "FirstIn$Mended" "first" "[I") ∈ lw_all := lw_g (lw_at lw_m5 190 rfl) rfl
theorem q1273 : (Jvm.Cond.methodLink "FirstIn" (336 : Nat) ({ cls := "FirstIn$Least", name := "run", desc := "()V" } : Jvm.MethodName)) ∈ lw_all := lw_g (lw_at lw_m5 212 rfl) rfl
theorem q1347 : (Jvm.Cond.methodLink "FirstIn" (356 : Nat) ({ cls := "FirstIn", name := "findMildest", desc := "(I)LFirstIn$Mildest;" } : Jvm.MethodName)) ∈ lw_all := lw_g (lw_at lw_m6 46 rfl) rfl
theorem q1348 : (Jvm.Cond.privateMethod ({ cls := "FirstIn", name := "findMildest", desc := "(I)LFirstIn$Mildest;" } : Jvm.MethodName)) ∈ lw_tbl := lw_at lw_m6 47 rfl
theorem q1349 : (Jvm.Cond.instanceMethod ({ cls := "FirstIn", name := "findMildest", desc := "(I)LFirstIn$Mildest;" } : Jvm.MethodName)) ∈ lw_all := lw_g (lw_at lw_m6 48 rfl) rfl
theorem q1350 : (Jvm.Cond.code ({ cls := "FirstIn", name := "findMildest", desc := "(I)LFirstIn$Mildest;" } : Jvm.MethodName) prog_1_method_54_code (3 : Nat) (Option.some (Jvm.ClassFile.FieldType.object "FirstIn$Mildest"))) ∈ lw_all := lw_g (lw_at lw_m6 49 rfl) rfl
theorem q1351 : (Jvm.Cond.classLink "FirstIn" (339 : Nat) "FirstIn$Mildest") ∈ lw_all := lw_g (lw_at lw_m6 50 rfl) rfl
theorem q1353 : (Jvm.Cond.methodLink "FirstIn" (341 : Nat) ({ cls := "FirstIn$Mildest", name := "<init>", desc := "(LFirstIn$Room;Ljava/util/ArrayList;Ljava/util/ArrayList;)V" } : Jvm.MethodName)) ∈ lw_all := lw_g (lw_at lw_m6 52 rfl) rfl
theorem q1359 : (Jvm.Cond.fieldLinkNest "FirstIn" (360 : Nat) "FirstIn$Mildest" "best" "I" "FirstIn") ∈ lw_tbl := lw_at lw_m6 58 rfl
theorem q1361 : (Jvm.Cond.fieldLinkNest "FirstIn" (361 : Nat) "FirstIn$Mildest" "heaviest" "I" "FirstIn") ∈ lw_tbl := lw_at lw_m6 60 rfl
theorem q1373 : (Jvm.Cond.methodLink "FirstIn" (342 : Nat) ({ cls := "FirstIn$Mildest", name := "run", desc := "()V" } : Jvm.MethodName)) ∈ lw_all := lw_g (lw_at lw_m6 72 rfl) rfl
theorem q1377 : (Jvm.Cond.instanceMethod ({ cls := "FirstIn", name := "best", desc := "(IIZ)I" } : Jvm.MethodName)) ∈ lw_all := lw_g (lw_at lw_m6 76 rfl) rfl
theorem q1378 : (Jvm.Cond.selects "FirstIn" ({ cls := "FirstIn", name := "best", desc := "(IIZ)I" } : Jvm.MethodName) ({ cls := "FirstIn", name := "best", desc := "(IIZ)I" } : Jvm.MethodName)) ∈ lw_all := lw_g (lw_at lw_m6 77 rfl) rfl
theorem q1379 : (Jvm.Cond.code ({ cls := "FirstIn", name := "best", desc := "(IIZ)I" } : Jvm.MethodName) prog_1_method_56_code (6 : Nat) (Option.some Jvm.ClassFile.FieldType.int)) ∈ lw_all := lw_g (lw_at lw_m6 78 rfl) rfl
theorem q1381 : (Jvm.Cond.instanceMethod ({ cls := "FirstIn", name := "must", desc := "(II)I" } : Jvm.MethodName)) ∈ lw_all := lw_g (lw_at lw_m6 80 rfl) rfl
theorem q1382 : (Jvm.Cond.selects "FirstIn" ({ cls := "FirstIn", name := "must", desc := "(II)I" } : Jvm.MethodName) ({ cls := "FirstIn", name := "must", desc := "(II)I" } : Jvm.MethodName)) ∈ lw_all := lw_g (lw_at lw_m6 81 rfl) rfl
theorem q1383 : (Jvm.Cond.code ({ cls := "FirstIn", name := "must", desc := "(II)I" } : Jvm.MethodName) prog_1_method_57_code (5 : Nat) (Option.some Jvm.ClassFile.FieldType.int)) ∈ lw_all := lw_g (lw_at lw_m6 82 rfl) rfl
theorem q1384 : (Jvm.Cond.methodLink "FirstIn" (370 : Nat) ({ cls := "java/lang/Integer", name := "numberOfTrailingZeros", desc := "(I)I" } : Jvm.MethodName)) ∈ lw_all := lw_g (lw_at lw_m6 83 rfl) rfl
theorem q1389 : (Jvm.Cond.instanceMethod ({ cls := "FirstIn", name := "free", desc := "(II)I" } : Jvm.MethodName)) ∈ lw_all := lw_g (lw_at lw_m6 88 rfl) rfl
theorem q1390 : (Jvm.Cond.selects "FirstIn" ({ cls := "FirstIn", name := "free", desc := "(II)I" } : Jvm.MethodName) ({ cls := "FirstIn", name := "free", desc := "(II)I" } : Jvm.MethodName)) ∈ lw_all := lw_g (lw_at lw_m6 89 rfl) rfl
theorem q1391 : (Jvm.Cond.code ({ cls := "FirstIn", name := "free", desc := "(II)I" } : Jvm.MethodName) prog_1_method_58_code (6 : Nat) (Option.some Jvm.ClassFile.FieldType.int)) ∈ lw_all := lw_g (lw_at lw_m6 90 rfl) rfl
theorem q1393 : (Jvm.Cond.instanceMethod ({ cls := "FirstIn", name := "mended", desc := "(III)I" } : Jvm.MethodName)) ∈ lw_all := lw_g (lw_at lw_m6 92 rfl) rfl
theorem q1394 : (Jvm.Cond.selects "FirstIn" ({ cls := "FirstIn", name := "mended", desc := "(III)I" } : Jvm.MethodName) ({ cls := "FirstIn", name := "mended", desc := "(III)I" } : Jvm.MethodName)) ∈ lw_all := lw_g (lw_at lw_m6 93 rfl) rfl
theorem q1395 : (Jvm.Cond.code ({ cls := "FirstIn", name := "mended", desc := "(III)I" } : Jvm.MethodName) prog_1_method_59_code (6 : Nat) (Option.some Jvm.ClassFile.FieldType.int)) ∈ lw_all := lw_g (lw_at lw_m6 94 rfl) rfl
theorem q1396 : (Jvm.Cond.classLink "FirstIn" (373 : Nat) "FirstIn$Mended") ∈ lw_all := lw_g (lw_at lw_m6 95 rfl) rfl
theorem q1398 : (Jvm.Cond.methodLink "FirstIn" (375 : Nat) ({ cls := "FirstIn$Mended", name := "<init>", desc := "(LFirstIn$Room;IILjava/util/ArrayList;Ljava/util/ArrayList;)V" } : Jvm.MethodName)) ∈ lw_all := lw_g (lw_at lw_m6 97 rfl) rfl
theorem q1406 : (Jvm.Cond.fieldLinkNest "FirstIn" (379 : Nat) "FirstIn$Mended" "fewest" "I" "FirstIn") ∈ lw_tbl := lw_at lw_m6 105 rfl
theorem q1420 : (Jvm.Cond.methodLink "FirstIn" (378 : Nat) ({ cls := "FirstIn$Mended", name := "run", desc := "()V" } : Jvm.MethodName)) ∈ lw_all := lw_g (lw_at lw_m6 119 rfl) rfl
theorem q1424 : (Jvm.Cond.instanceMethod ({ cls := "FirstIn", name := "evened", desc := "(III)I" } : Jvm.MethodName)) ∈ lw_all := lw_g (lw_at lw_m6 123 rfl) rfl
theorem q1425 : (Jvm.Cond.selects "FirstIn" ({ cls := "FirstIn", name := "evened", desc := "(III)I" } : Jvm.MethodName) ({ cls := "FirstIn", name := "evened", desc := "(III)I" } : Jvm.MethodName)) ∈ lw_all := lw_g (lw_at lw_m6 124 rfl) rfl
theorem q1426 : (Jvm.Cond.code ({ cls := "FirstIn", name := "evened", desc := "(III)I" } : Jvm.MethodName) prog_1_method_60_code (16 : Nat) (Option.some Jvm.ClassFile.FieldType.int)) ∈ lw_all := lw_g (lw_at lw_m6 125 rfl) rfl
theorem q1428 : (Jvm.Cond.instanceMethod ({ cls := "FirstIn", name := "count", desc := "(I)I" } : Jvm.MethodName)) ∈ lw_all := lw_g (lw_at lw_m6 127 rfl) rfl
theorem q1429 : (Jvm.Cond.selects "FirstIn" ({ cls := "FirstIn", name := "count", desc := "(I)I" } : Jvm.MethodName) ({ cls := "FirstIn", name := "count", desc := "(I)I" } : Jvm.MethodName)) ∈ lw_all := lw_g (lw_at lw_m6 128 rfl) rfl
theorem q1430 : (Jvm.Cond.code ({ cls := "FirstIn", name := "count", desc := "(I)I" } : Jvm.MethodName) prog_1_method_61_code (4 : Nat) (Option.some Jvm.ClassFile.FieldType.int)) ∈ lw_all := lw_g (lw_at lw_m6 129 rfl) rfl
theorem q2008 : (Jvm.Cond.castable "FirstIn" "java/lang/Object") ∈ lw_tbl := lw_at lw_m8 227 rfl
theorem in_X0 : ∀ w ∈ wsX00, w ∈ lw_all := lw_in wsX00 [226, 228, 230, 232, 234, 236, 238, 240, 242, 244, 246, 248, 250, 252] (by decide +kernel) (by decide +kernel)

