/-! FirstInModel -/
set_option maxRecDepth 100000
def RX2 : String := "FirstInModel"
def TX2 : u_T := fun k => match k with
  | 0 => ("FirstInModel", "text", "[B", true)
  | 1 => ("FirstInModel", "textMany", "I", false)
  | 2 => ("FirstInModel", "at", "I", false)
  | 3 => ("FirstInModel", "to", "I", false)
  | 4 => ("FirstInModel", "faultAt", "I", false)
  | 5 => ("FirstInModel", "value", "I", false)
  | 6 => ("FirstInModel", "guestName", "[[J", true)
  | 7 => ("FirstInModel", "markName", "[[J", true)
  | 8 => ("FirstInModel", "marked", "[[I", true)
  | 9 => ("FirstInModel", "kind", "[[I", true)
  | 10 => ("FirstInModel", "one", "[[I", true)
  | 11 => ("FirstInModel", "other", "[[I", true)
  | 12 => ("FirstInModel", "weight", "[[I", true)
  | 13 => ("FirstInModel", "tells", "[[I", true)
  | 14 => ("FirstInModel", "unless", "[[I", true)
  | 15 => ("FirstInModel", "guests", "[I", true)
  | 16 => ("FirstInModel", "marks", "[I", true)
  | 17 => ("FirstInModel", "rules", "[I", true)
  | 18 => ("FirstInModel", "words", "[Ljava/lang/String;", true)
  | 19 => ("FirstInModel", "rests", "[Z", true)
  | 20 => ("FirstInModel", "coming", "[Z", true)
  | 21 => ("FirstInModel", "sitting", "[Z", true)
  | 22 => ("FirstInModel", "inRoom", "[I", true)
  | 23 => ("FirstInModel", "inPlace", "[I", true)
  | 24 => ("FirstInModel", "roomKind", "[I", true)
  | 25 => ("FirstInModel", "roomPlaces", "[I", true)
  | 26 => ("FirstInModel", "rooms", "I", false)
  | 27 => ("FirstInModel", "slightRule", "[I", true)
  | 28 => ("FirstInModel", "slightX", "[I", true)
  | 29 => ("FirstInModel", "slightY", "[I", true)
  | 30 => ("FirstInModel", "minding", "[I", true)
  | 31 => ("FirstInModel", "slightMany", "I", false)
  | 32 => ("FirstInModel", "above", "[Z", true)
  | 33 => ("FirstInModel", "even", "[Z", true)
  | 34 => ("FirstInModel", "far", "[I", true)
  | 35 => ("FirstInModel", "row", "[I", true)
  | 36 => ("FirstInModel", "together", "[I", true)
  | 37 => ("FirstInModel", "groupBits", "[I", true)
  | 38 => ("FirstInModel", "least", "[I", true)
  | 39 => ("FirstInModel", "heapOf", "[I", true)
  | 40 => ("FirstInModel", "heaps", "[I", true)
  | 41 => ("FirstInModel", "members", "[I", true)
  | 42 => ("FirstInModel", "quiet", "[Z", true)
  | 43 => ("FirstInModel", "memberMany", "I", false)
  | 44 => ("FirstInModel", "weighs", "[I", true)
  | 45 => ("FirstInModel", "heavy", "[I", true)
  | 46 => ("FirstInModel", "place", "[I", true)
  | 47 => ("FirstInModel", "best", "[I", true)
  | 48 => ("FirstInModel", "mild", "[I", true)
  | 49 => ("FirstInModel", "mend", "[I", true)
  | 50 => ("FirstInModel", "same", "[I", true)
  | 51 => ("FirstInModel", "seen", "[I", true)
  | 52 => ("FirstInModel", "seats", "I", false)
  | 53 => ("FirstInModel", "seaterRoom", "I", false)
  | 54 => ("FirstInModel", "leastAll", "I", false)
  | 55 => ("FirstInModel", "leastMany", "I", false)
  | 56 => ("FirstInModel", "mildMost", "I", false)
  | 57 => ("FirstInModel", "mildAll", "I", false)
  | 58 => ("FirstInModel", "limit", "I", false)
  | 59 => ("FirstInModel", "mendLeave", "I", false)
  | 60 => ("FirstInModel", "isMending", "Z", false)
  | 61 => ("FirstInModel", "mindsOn", "[I", true)
  | 62 => ("FirstInModel", "step", "[I", true)
  | _ => ("FirstInModel", "bestStep", "[I", true)
def tyX2 : Nat → FieldType := fun k => match k with
  | 0 => .array .byte
  | 1 => .int
  | 2 => .int
  | 3 => .int
  | 4 => .int
  | 5 => .int
  | 6 => .array (.array .long)
  | 7 => .array (.array .long)
  | 8 => .array (.array .int)
  | 9 => .array (.array .int)
  | 10 => .array (.array .int)
  | 11 => .array (.array .int)
  | 12 => .array (.array .int)
  | 13 => .array (.array .int)
  | 14 => .array (.array .int)
  | 15 => .array .int
  | 16 => .array .int
  | 17 => .array .int
  | 18 => .array (.object "java/lang/String")
  | 19 => .array .boolean
  | 20 => .array .boolean
  | 21 => .array .boolean
  | 22 => .array .int
  | 23 => .array .int
  | 24 => .array .int
  | 25 => .array .int
  | 26 => .int
  | 27 => .array .int
  | 28 => .array .int
  | 29 => .array .int
  | 30 => .array .int
  | 31 => .int
  | 32 => .array .boolean
  | 33 => .array .boolean
  | 34 => .array .int
  | 35 => .array .int
  | 36 => .array .int
  | 37 => .array .int
  | 38 => .array .int
  | 39 => .array .int
  | 40 => .array .int
  | 41 => .array .int
  | 42 => .array .boolean
  | 43 => .int
  | 44 => .array .int
  | 45 => .array .int
  | 46 => .array .int
  | 47 => .array .int
  | 48 => .array .int
  | 49 => .array .int
  | 50 => .array .int
  | 51 => .array .int
  | 52 => .int
  | 53 => .int
  | 54 => .int
  | 55 => .int
  | 56 => .int
  | 57 => .int
  | 58 => .int
  | 59 => .int
  | 60 => .boolean
  | 61 => .array .int
  | 62 => .array .int
  | _ => .array .int
abbrev wsX20 : List Cond := u_ws RX2 TX2 64
set_option maxRecDepth 100000 in
theorem nmX2 : ∀ a, a < 64 → ∀ b, b < 64 → a ≠ b → (TX2 a).2.1 ≠ (TX2 b).2.1 := by decide +kernel
set_option maxRecDepth 100000 in
theorem tyX2_ok : ∀ k, k < 64 → parseFieldDescriptor (TX2 k).2.2.1 = some (tyX2 k) := by decide +kernel
abbrev cX2_init : ByteArray := prog_26_method_1_code
def yX2_init : MethodName := ⟨RX2, "<init>", "()V"⟩
def dkwX2_init_19 : List UInt8 := [188, 10, 181, 0, 169, 42, 6, 188, 10, 181, 0, 172, 177]
abbrev dktX2_init_19 : List UInt8 := dkwX2_init_19 ++ []
def dkwX2_init_18 : List UInt8 := [188, 10, 181, 0, 160, 42, 16, 8, 188, 10, 181, 0, 163, 42, 16, 80, 188, 10, 181, 0, 166, 42, 6]
abbrev dktX2_init_18 : List UInt8 := dkwX2_init_18 ++ dktX2_init_19
def dkwX2_init_17 : List UInt8 := [188, 10, 181, 0, 151, 42, 16, 10, 188, 10, 181, 0, 154, 42, 16, 10, 188, 10, 181, 0, 157, 42, 16, 10]
abbrev dktX2_init_17 : List UInt8 := dkwX2_init_17 ++ dktX2_init_18
def dkwX2_init_16 : List UInt8 := [181, 0, 142, 42, 17, 25, 0, 188, 10, 181, 0, 145, 42, 16, 10, 188, 10, 181, 0, 148, 42, 16, 10]
abbrev dktX2_init_16 : List UInt8 := dkwX2_init_16 ++ dktX2_init_17
def dkwX2_init_15 : List UInt8 := [42, 16, 10, 188, 10, 181, 0, 136, 42, 17, 4, 0, 188, 4, 181, 0, 139, 42, 17, 25, 0, 188, 10]
abbrev dktX2_init_15 : List UInt8 := dkwX2_init_15 ++ dktX2_init_16
def dkwX2_init_14 : List UInt8 := [17, 4, 0, 188, 10, 181, 0, 127, 42, 16, 10, 188, 10, 181, 0, 130, 42, 16, 10, 188, 10, 181, 0, 133]
abbrev dktX2_init_14 : List UInt8 := dkwX2_init_14 ++ dktX2_init_15
def dkwX2_init_13 : List UInt8 := [16, 10, 188, 10, 181, 0, 118, 42, 16, 10, 188, 10, 181, 0, 121, 42, 16, 10, 188, 10, 181, 0, 124, 42]
abbrev dktX2_init_13 : List UInt8 := dkwX2_init_13 ++ dktX2_init_14
def dkwX2_init_12 : List UInt8 := [16, 100, 188, 4, 181, 0, 111, 42, 16, 100, 188, 4, 181, 0, 113, 42, 16, 10, 188, 10, 181, 0, 115, 42]
abbrev dktX2_init_12 : List UInt8 := dkwX2_init_12 ++ dktX2_init_13
def dkwX2_init_11 : List UInt8 := [188, 10, 181, 0, 102, 42, 17, 4, 176, 188, 10, 181, 0, 105, 42, 16, 10, 188, 10, 181, 0, 108, 42]
abbrev dktX2_init_11 : List UInt8 := dkwX2_init_11 ++ dktX2_init_12
def dkwX2_init_10 : List UInt8 := [181, 0, 93, 42, 7, 188, 10, 181, 0, 96, 42, 17, 4, 176, 188, 10, 181, 0, 99, 42, 17, 4, 176]
abbrev dktX2_init_10 : List UInt8 := dkwX2_init_10 ++ dktX2_init_11
def dkwX2_init_9 : List UInt8 := [181, 0, 84, 42, 16, 10, 188, 10, 181, 0, 87, 42, 16, 10, 188, 10, 181, 0, 90, 42, 7, 188, 10]
abbrev dktX2_init_9 : List UInt8 := dkwX2_init_9 ++ dktX2_init_10
def dkwX2_init_8 : List UInt8 := [181, 0, 73, 42, 16, 12, 188, 4, 181, 0, 77, 42, 16, 10, 188, 4, 181, 0, 81, 42, 16, 10, 188, 4]
abbrev dktX2_init_8 : List UInt8 := dkwX2_init_8 ++ dktX2_init_9
def dkwX2_init_7 : List UInt8 := [89, 8, 18, 66, 83, 89, 16, 6, 18, 68, 83, 89, 16, 7, 18, 70, 83, 89, 16, 8, 18, 72, 83]
abbrev dktX2_init_7 : List UInt8 := dkwX2_init_7 ++ dktX2_init_8
def dkwX2_init_6 : List UInt8 := [3, 18, 56, 83, 89, 4, 18, 58, 83, 89, 5, 18, 60, 83, 89, 6, 18, 62, 83, 89, 7, 18, 64, 83]
abbrev dktX2_init_6 : List UInt8 := dkwX2_init_6 ++ dktX2_init_7
def dkwX2_init_5 : List UInt8 := [181, 0, 44, 42, 5, 188, 10, 181, 0, 48, 42, 5, 188, 10, 181, 0, 51, 42, 16, 9, 189, 0, 54, 89]
abbrev dktX2_init_5 : List UInt8 := dkwX2_init_5 ++ dktX2_init_6
def dkwX2_init_4 : List UInt8 := [197, 0, 21, 2, 181, 0, 38, 42, 5, 16, 12, 197, 0, 21, 2, 181, 0, 41, 42, 5, 188, 10]
abbrev dktX2_init_4 : List UInt8 := dkwX2_init_4 ++ dktX2_init_5
def dkwX2_init_3 : List UInt8 := [197, 0, 21, 2, 181, 0, 32, 42, 5, 16, 12, 197, 0, 21, 2, 181, 0, 35, 42, 5, 16, 12]
abbrev dktX2_init_3 : List UInt8 := dkwX2_init_3 ++ dktX2_init_4
def dkwX2_init_2 : List UInt8 := [197, 0, 21, 2, 181, 0, 26, 42, 5, 16, 12, 197, 0, 21, 2, 181, 0, 29, 42, 5, 16, 12]
abbrev dktX2_init_2 : List UInt8 := dkwX2_init_2 ++ dktX2_init_3
def dkwX2_init_1 : List UInt8 := [42, 5, 8, 197, 0, 13, 2, 181, 0, 18, 42, 5, 8, 197, 0, 21, 2, 181, 0, 23, 42, 5, 16, 12]
abbrev dktX2_init_1 : List UInt8 := dkwX2_init_1 ++ dktX2_init_2
def dkwX2_init_0 : List UInt8 := [42, 183, 0, 1, 42, 17, 2, 188, 188, 8, 181, 0, 9, 42, 5, 16, 10, 197, 0, 13, 2, 181, 0, 15]
abbrev dktX2_init_0 : List UInt8 := dkwX2_init_0 ++ dktX2_init_1
theorem dksX2_init_0 : cX2_init.data.toList.drop 0 = dktX2_init_0 := by decide +kernel
theorem dksX2_init_1 : cX2_init.data.toList.drop 24 = dktX2_init_1 := dk_seg dksX2_init_0 24 rfl rfl
theorem dksX2_init_2 : cX2_init.data.toList.drop 48 = dktX2_init_2 := dk_seg dksX2_init_1 24 rfl rfl
theorem dksX2_init_3 : cX2_init.data.toList.drop 70 = dktX2_init_3 := dk_seg dksX2_init_2 22 rfl rfl
theorem dksX2_init_4 : cX2_init.data.toList.drop 92 = dktX2_init_4 := dk_seg dksX2_init_3 22 rfl rfl
theorem dksX2_init_5 : cX2_init.data.toList.drop 114 = dktX2_init_5 := dk_seg dksX2_init_4 22 rfl rfl
theorem dksX2_init_6 : cX2_init.data.toList.drop 138 = dktX2_init_6 := dk_seg dksX2_init_5 24 rfl rfl
theorem dksX2_init_7 : cX2_init.data.toList.drop 162 = dktX2_init_7 := dk_seg dksX2_init_6 24 rfl rfl
theorem dksX2_init_8 : cX2_init.data.toList.drop 185 = dktX2_init_8 := dk_seg dksX2_init_7 23 rfl rfl
theorem dksX2_init_9 : cX2_init.data.toList.drop 209 = dktX2_init_9 := dk_seg dksX2_init_8 24 rfl rfl
theorem dksX2_init_10 : cX2_init.data.toList.drop 232 = dktX2_init_10 := dk_seg dksX2_init_9 23 rfl rfl
theorem dksX2_init_11 : cX2_init.data.toList.drop 255 = dktX2_init_11 := dk_seg dksX2_init_10 23 rfl rfl
theorem dksX2_init_12 : cX2_init.data.toList.drop 278 = dktX2_init_12 := dk_seg dksX2_init_11 23 rfl rfl
theorem dksX2_init_13 : cX2_init.data.toList.drop 302 = dktX2_init_13 := dk_seg dksX2_init_12 24 rfl rfl
theorem dksX2_init_14 : cX2_init.data.toList.drop 326 = dktX2_init_14 := dk_seg dksX2_init_13 24 rfl rfl
theorem dksX2_init_15 : cX2_init.data.toList.drop 350 = dktX2_init_15 := dk_seg dksX2_init_14 24 rfl rfl
theorem dksX2_init_16 : cX2_init.data.toList.drop 373 = dktX2_init_16 := dk_seg dksX2_init_15 23 rfl rfl
theorem dksX2_init_17 : cX2_init.data.toList.drop 396 = dktX2_init_17 := dk_seg dksX2_init_16 23 rfl rfl
theorem dksX2_init_18 : cX2_init.data.toList.drop 420 = dktX2_init_18 := dk_seg dksX2_init_17 24 rfl rfl
theorem dksX2_init_19 : cX2_init.data.toList.drop 443 = dktX2_init_19 := dk_seg dksX2_init_18 23 rfl rfl
theorem dX2_init_0 : decode cX2_init 0 = .ok (.aload_n 0, 1) := dk_42 (dk_at dksX2_init_0 0 rfl rfl)
theorem dX2_init_1 : decode cX2_init 1 = .ok (.invokespecial 1, 3) := dk_183 0 1 (dk_at dksX2_init_0 1 rfl rfl)
theorem dX2_init_4 : decode cX2_init 4 = .ok (.aload_n 0, 1) := dk_42 (dk_at dksX2_init_0 4 rfl rfl)
theorem dX2_init_5 : decode cX2_init 5 = .ok (.sipush 700, 3) := dk_17 2 188 (dk_at dksX2_init_0 5 rfl rfl)
theorem dX2_init_8 : decode cX2_init 8 = .ok (.newarray .byte, 2) := dk_188_8 (dk_at dksX2_init_0 8 rfl rfl)
theorem dX2_init_10 : decode cX2_init 10 = .ok (.putfield 9, 3) := dk_181 0 9 (dk_at dksX2_init_0 10 rfl rfl)
theorem dX2_init_13 : decode cX2_init 13 = .ok (.aload_n 0, 1) := dk_42 (dk_at dksX2_init_0 13 rfl rfl)
theorem dX2_init_14 : decode cX2_init 14 = .ok (.iconst 2, 1) := dk_5 (dk_at dksX2_init_0 14 rfl rfl)
theorem dX2_init_15 : decode cX2_init 15 = .ok (.bipush 10, 2) := dk_16 10 (dk_at dksX2_init_0 15 rfl rfl)
theorem dX2_init_17 : decode cX2_init 17 = .ok (.multianewarray 13 2, 4) := by decide +kernel
theorem dX2_init_21 : decode cX2_init 21 = .ok (.putfield 15, 3) := dk_181 0 15 (dk_at dksX2_init_0 21 rfl rfl)
theorem dX2_init_24 : decode cX2_init 24 = .ok (.aload_n 0, 1) := dk_42 (dk_at dksX2_init_1 0 rfl rfl)
theorem dX2_init_25 : decode cX2_init 25 = .ok (.iconst 2, 1) := dk_5 (dk_at dksX2_init_1 1 rfl rfl)
theorem dX2_init_26 : decode cX2_init 26 = .ok (.iconst 5, 1) := dk_8 (dk_at dksX2_init_1 2 rfl rfl)
theorem dX2_init_27 : decode cX2_init 27 = .ok (.multianewarray 13 2, 4) := by decide +kernel
theorem dX2_init_31 : decode cX2_init 31 = .ok (.putfield 18, 3) := dk_181 0 18 (dk_at dksX2_init_1 7 rfl rfl)
theorem dX2_init_34 : decode cX2_init 34 = .ok (.aload_n 0, 1) := dk_42 (dk_at dksX2_init_1 10 rfl rfl)
theorem dX2_init_35 : decode cX2_init 35 = .ok (.iconst 2, 1) := dk_5 (dk_at dksX2_init_1 11 rfl rfl)
theorem dX2_init_36 : decode cX2_init 36 = .ok (.iconst 5, 1) := dk_8 (dk_at dksX2_init_1 12 rfl rfl)
theorem dX2_init_37 : decode cX2_init 37 = .ok (.multianewarray 21 2, 4) := by decide +kernel
theorem dX2_init_41 : decode cX2_init 41 = .ok (.putfield 23, 3) := dk_181 0 23 (dk_at dksX2_init_1 17 rfl rfl)
theorem dX2_init_44 : decode cX2_init 44 = .ok (.aload_n 0, 1) := dk_42 (dk_at dksX2_init_1 20 rfl rfl)
theorem dX2_init_45 : decode cX2_init 45 = .ok (.iconst 2, 1) := dk_5 (dk_at dksX2_init_1 21 rfl rfl)
theorem dX2_init_46 : decode cX2_init 46 = .ok (.bipush 12, 2) := dk_16 12 (dk_at dksX2_init_1 22 rfl rfl)
theorem dX2_init_48 : decode cX2_init 48 = .ok (.multianewarray 21 2, 4) := by decide +kernel
theorem dX2_init_52 : decode cX2_init 52 = .ok (.putfield 26, 3) := dk_181 0 26 (dk_at dksX2_init_2 4 rfl rfl)
theorem dX2_init_55 : decode cX2_init 55 = .ok (.aload_n 0, 1) := dk_42 (dk_at dksX2_init_2 7 rfl rfl)
theorem dX2_init_56 : decode cX2_init 56 = .ok (.iconst 2, 1) := dk_5 (dk_at dksX2_init_2 8 rfl rfl)
theorem dX2_init_57 : decode cX2_init 57 = .ok (.bipush 12, 2) := dk_16 12 (dk_at dksX2_init_2 9 rfl rfl)
theorem dX2_init_59 : decode cX2_init 59 = .ok (.multianewarray 21 2, 4) := by decide +kernel
theorem dX2_init_63 : decode cX2_init 63 = .ok (.putfield 29, 3) := dk_181 0 29 (dk_at dksX2_init_2 15 rfl rfl)
theorem dX2_init_66 : decode cX2_init 66 = .ok (.aload_n 0, 1) := dk_42 (dk_at dksX2_init_2 18 rfl rfl)
theorem dX2_init_67 : decode cX2_init 67 = .ok (.iconst 2, 1) := dk_5 (dk_at dksX2_init_2 19 rfl rfl)
theorem dX2_init_68 : decode cX2_init 68 = .ok (.bipush 12, 2) := dk_16 12 (dk_at dksX2_init_2 20 rfl rfl)
theorem dX2_init_70 : decode cX2_init 70 = .ok (.multianewarray 21 2, 4) := by decide +kernel
theorem dX2_init_74 : decode cX2_init 74 = .ok (.putfield 32, 3) := dk_181 0 32 (dk_at dksX2_init_3 4 rfl rfl)
theorem dX2_init_77 : decode cX2_init 77 = .ok (.aload_n 0, 1) := dk_42 (dk_at dksX2_init_3 7 rfl rfl)
theorem dX2_init_78 : decode cX2_init 78 = .ok (.iconst 2, 1) := dk_5 (dk_at dksX2_init_3 8 rfl rfl)
theorem dX2_init_79 : decode cX2_init 79 = .ok (.bipush 12, 2) := dk_16 12 (dk_at dksX2_init_3 9 rfl rfl)
theorem dX2_init_81 : decode cX2_init 81 = .ok (.multianewarray 21 2, 4) := by decide +kernel
theorem dX2_init_85 : decode cX2_init 85 = .ok (.putfield 35, 3) := dk_181 0 35 (dk_at dksX2_init_3 15 rfl rfl)
theorem dX2_init_88 : decode cX2_init 88 = .ok (.aload_n 0, 1) := dk_42 (dk_at dksX2_init_3 18 rfl rfl)
theorem dX2_init_89 : decode cX2_init 89 = .ok (.iconst 2, 1) := dk_5 (dk_at dksX2_init_3 19 rfl rfl)
theorem dX2_init_90 : decode cX2_init 90 = .ok (.bipush 12, 2) := dk_16 12 (dk_at dksX2_init_3 20 rfl rfl)
theorem dX2_init_92 : decode cX2_init 92 = .ok (.multianewarray 21 2, 4) := by decide +kernel
theorem dX2_init_96 : decode cX2_init 96 = .ok (.putfield 38, 3) := dk_181 0 38 (dk_at dksX2_init_4 4 rfl rfl)
theorem dX2_init_99 : decode cX2_init 99 = .ok (.aload_n 0, 1) := dk_42 (dk_at dksX2_init_4 7 rfl rfl)
theorem dX2_init_100 : decode cX2_init 100 = .ok (.iconst 2, 1) := dk_5 (dk_at dksX2_init_4 8 rfl rfl)
theorem dX2_init_101 : decode cX2_init 101 = .ok (.bipush 12, 2) := dk_16 12 (dk_at dksX2_init_4 9 rfl rfl)
theorem dX2_init_103 : decode cX2_init 103 = .ok (.multianewarray 21 2, 4) := by decide +kernel
theorem dX2_init_107 : decode cX2_init 107 = .ok (.putfield 41, 3) := dk_181 0 41 (dk_at dksX2_init_4 15 rfl rfl)
theorem dX2_init_110 : decode cX2_init 110 = .ok (.aload_n 0, 1) := dk_42 (dk_at dksX2_init_4 18 rfl rfl)
theorem dX2_init_111 : decode cX2_init 111 = .ok (.iconst 2, 1) := dk_5 (dk_at dksX2_init_4 19 rfl rfl)
theorem dX2_init_112 : decode cX2_init 112 = .ok (.newarray .int, 2) := dk_188_10 (dk_at dksX2_init_4 20 rfl rfl)
theorem dX2_init_114 : decode cX2_init 114 = .ok (.putfield 44, 3) := dk_181 0 44 (dk_at dksX2_init_5 0 rfl rfl)
theorem dX2_init_117 : decode cX2_init 117 = .ok (.aload_n 0, 1) := dk_42 (dk_at dksX2_init_5 3 rfl rfl)
theorem dX2_init_118 : decode cX2_init 118 = .ok (.iconst 2, 1) := dk_5 (dk_at dksX2_init_5 4 rfl rfl)
theorem dX2_init_119 : decode cX2_init 119 = .ok (.newarray .int, 2) := dk_188_10 (dk_at dksX2_init_5 5 rfl rfl)
theorem dX2_init_121 : decode cX2_init 121 = .ok (.putfield 48, 3) := dk_181 0 48 (dk_at dksX2_init_5 7 rfl rfl)
theorem dX2_init_124 : decode cX2_init 124 = .ok (.aload_n 0, 1) := dk_42 (dk_at dksX2_init_5 10 rfl rfl)
theorem dX2_init_125 : decode cX2_init 125 = .ok (.iconst 2, 1) := dk_5 (dk_at dksX2_init_5 11 rfl rfl)
theorem dX2_init_126 : decode cX2_init 126 = .ok (.newarray .int, 2) := dk_188_10 (dk_at dksX2_init_5 12 rfl rfl)
theorem dX2_init_128 : decode cX2_init 128 = .ok (.putfield 51, 3) := dk_181 0 51 (dk_at dksX2_init_5 14 rfl rfl)
theorem dX2_init_131 : decode cX2_init 131 = .ok (.aload_n 0, 1) := dk_42 (dk_at dksX2_init_5 17 rfl rfl)
theorem dX2_init_132 : decode cX2_init 132 = .ok (.bipush 9, 2) := dk_16 9 (dk_at dksX2_init_5 18 rfl rfl)
theorem dX2_init_134 : decode cX2_init 134 = .ok (.anewarray 54, 3) := dk_189 0 54 (dk_at dksX2_init_5 20 rfl rfl)
theorem dX2_init_137 : decode cX2_init 137 = .ok (.dup, 1) := dk_89 (dk_at dksX2_init_5 23 rfl rfl)
theorem dX2_init_138 : decode cX2_init 138 = .ok (.iconst 0, 1) := dk_3 (dk_at dksX2_init_6 0 rfl rfl)
theorem dX2_init_139 : decode cX2_init 139 = .ok (.ldc 56, 2) := dk_18 56 (dk_at dksX2_init_6 1 rfl rfl)
theorem dX2_init_141 : decode cX2_init 141 = .ok (.aastore, 1) := dk_83 (dk_at dksX2_init_6 3 rfl rfl)
theorem dX2_init_142 : decode cX2_init 142 = .ok (.dup, 1) := dk_89 (dk_at dksX2_init_6 4 rfl rfl)
theorem dX2_init_143 : decode cX2_init 143 = .ok (.iconst 1, 1) := dk_4 (dk_at dksX2_init_6 5 rfl rfl)
theorem dX2_init_144 : decode cX2_init 144 = .ok (.ldc 58, 2) := dk_18 58 (dk_at dksX2_init_6 6 rfl rfl)
theorem dX2_init_146 : decode cX2_init 146 = .ok (.aastore, 1) := dk_83 (dk_at dksX2_init_6 8 rfl rfl)
theorem dX2_init_147 : decode cX2_init 147 = .ok (.dup, 1) := dk_89 (dk_at dksX2_init_6 9 rfl rfl)
theorem dX2_init_148 : decode cX2_init 148 = .ok (.iconst 2, 1) := dk_5 (dk_at dksX2_init_6 10 rfl rfl)
theorem dX2_init_149 : decode cX2_init 149 = .ok (.ldc 60, 2) := dk_18 60 (dk_at dksX2_init_6 11 rfl rfl)
theorem dX2_init_151 : decode cX2_init 151 = .ok (.aastore, 1) := dk_83 (dk_at dksX2_init_6 13 rfl rfl)
theorem dX2_init_152 : decode cX2_init 152 = .ok (.dup, 1) := dk_89 (dk_at dksX2_init_6 14 rfl rfl)
theorem dX2_init_153 : decode cX2_init 153 = .ok (.iconst 3, 1) := dk_6 (dk_at dksX2_init_6 15 rfl rfl)
theorem dX2_init_154 : decode cX2_init 154 = .ok (.ldc 62, 2) := dk_18 62 (dk_at dksX2_init_6 16 rfl rfl)
theorem dX2_init_156 : decode cX2_init 156 = .ok (.aastore, 1) := dk_83 (dk_at dksX2_init_6 18 rfl rfl)
theorem dX2_init_157 : decode cX2_init 157 = .ok (.dup, 1) := dk_89 (dk_at dksX2_init_6 19 rfl rfl)
theorem dX2_init_158 : decode cX2_init 158 = .ok (.iconst 4, 1) := dk_7 (dk_at dksX2_init_6 20 rfl rfl)
theorem dX2_init_159 : decode cX2_init 159 = .ok (.ldc 64, 2) := dk_18 64 (dk_at dksX2_init_6 21 rfl rfl)
theorem dX2_init_161 : decode cX2_init 161 = .ok (.aastore, 1) := dk_83 (dk_at dksX2_init_6 23 rfl rfl)
theorem dX2_init_162 : decode cX2_init 162 = .ok (.dup, 1) := dk_89 (dk_at dksX2_init_7 0 rfl rfl)
theorem dX2_init_163 : decode cX2_init 163 = .ok (.iconst 5, 1) := dk_8 (dk_at dksX2_init_7 1 rfl rfl)
theorem dX2_init_164 : decode cX2_init 164 = .ok (.ldc 66, 2) := dk_18 66 (dk_at dksX2_init_7 2 rfl rfl)
theorem dX2_init_166 : decode cX2_init 166 = .ok (.aastore, 1) := dk_83 (dk_at dksX2_init_7 4 rfl rfl)
theorem dX2_init_167 : decode cX2_init 167 = .ok (.dup, 1) := dk_89 (dk_at dksX2_init_7 5 rfl rfl)
theorem dX2_init_168 : decode cX2_init 168 = .ok (.bipush 6, 2) := dk_16 6 (dk_at dksX2_init_7 6 rfl rfl)
theorem dX2_init_170 : decode cX2_init 170 = .ok (.ldc 68, 2) := dk_18 68 (dk_at dksX2_init_7 8 rfl rfl)
theorem dX2_init_172 : decode cX2_init 172 = .ok (.aastore, 1) := dk_83 (dk_at dksX2_init_7 10 rfl rfl)
theorem dX2_init_173 : decode cX2_init 173 = .ok (.dup, 1) := dk_89 (dk_at dksX2_init_7 11 rfl rfl)
theorem dX2_init_174 : decode cX2_init 174 = .ok (.bipush 7, 2) := dk_16 7 (dk_at dksX2_init_7 12 rfl rfl)
theorem dX2_init_176 : decode cX2_init 176 = .ok (.ldc 70, 2) := dk_18 70 (dk_at dksX2_init_7 14 rfl rfl)
theorem dX2_init_178 : decode cX2_init 178 = .ok (.aastore, 1) := dk_83 (dk_at dksX2_init_7 16 rfl rfl)
theorem dX2_init_179 : decode cX2_init 179 = .ok (.dup, 1) := dk_89 (dk_at dksX2_init_7 17 rfl rfl)
theorem dX2_init_180 : decode cX2_init 180 = .ok (.bipush 8, 2) := dk_16 8 (dk_at dksX2_init_7 18 rfl rfl)
theorem dX2_init_182 : decode cX2_init 182 = .ok (.ldc 72, 2) := dk_18 72 (dk_at dksX2_init_7 20 rfl rfl)
theorem dX2_init_184 : decode cX2_init 184 = .ok (.aastore, 1) := dk_83 (dk_at dksX2_init_7 22 rfl rfl)
theorem dX2_init_185 : decode cX2_init 185 = .ok (.putfield 73, 3) := dk_181 0 73 (dk_at dksX2_init_8 0 rfl rfl)
theorem dX2_init_188 : decode cX2_init 188 = .ok (.aload_n 0, 1) := dk_42 (dk_at dksX2_init_8 3 rfl rfl)
theorem dX2_init_189 : decode cX2_init 189 = .ok (.bipush 12, 2) := dk_16 12 (dk_at dksX2_init_8 4 rfl rfl)
theorem dX2_init_191 : decode cX2_init 191 = .ok (.newarray .boolean, 2) := dk_188_4 (dk_at dksX2_init_8 6 rfl rfl)
theorem dX2_init_193 : decode cX2_init 193 = .ok (.putfield 77, 3) := dk_181 0 77 (dk_at dksX2_init_8 8 rfl rfl)
theorem dX2_init_196 : decode cX2_init 196 = .ok (.aload_n 0, 1) := dk_42 (dk_at dksX2_init_8 11 rfl rfl)
theorem dX2_init_197 : decode cX2_init 197 = .ok (.bipush 10, 2) := dk_16 10 (dk_at dksX2_init_8 12 rfl rfl)
theorem dX2_init_199 : decode cX2_init 199 = .ok (.newarray .boolean, 2) := dk_188_4 (dk_at dksX2_init_8 14 rfl rfl)
theorem dX2_init_201 : decode cX2_init 201 = .ok (.putfield 81, 3) := dk_181 0 81 (dk_at dksX2_init_8 16 rfl rfl)
theorem dX2_init_204 : decode cX2_init 204 = .ok (.aload_n 0, 1) := dk_42 (dk_at dksX2_init_8 19 rfl rfl)
theorem dX2_init_205 : decode cX2_init 205 = .ok (.bipush 10, 2) := dk_16 10 (dk_at dksX2_init_8 20 rfl rfl)
theorem dX2_init_207 : decode cX2_init 207 = .ok (.newarray .boolean, 2) := dk_188_4 (dk_at dksX2_init_8 22 rfl rfl)
theorem dX2_init_209 : decode cX2_init 209 = .ok (.putfield 84, 3) := dk_181 0 84 (dk_at dksX2_init_9 0 rfl rfl)
theorem dX2_init_212 : decode cX2_init 212 = .ok (.aload_n 0, 1) := dk_42 (dk_at dksX2_init_9 3 rfl rfl)
theorem dX2_init_213 : decode cX2_init 213 = .ok (.bipush 10, 2) := dk_16 10 (dk_at dksX2_init_9 4 rfl rfl)
theorem dX2_init_215 : decode cX2_init 215 = .ok (.newarray .int, 2) := dk_188_10 (dk_at dksX2_init_9 6 rfl rfl)
theorem dX2_init_217 : decode cX2_init 217 = .ok (.putfield 87, 3) := dk_181 0 87 (dk_at dksX2_init_9 8 rfl rfl)
theorem dX2_init_220 : decode cX2_init 220 = .ok (.aload_n 0, 1) := dk_42 (dk_at dksX2_init_9 11 rfl rfl)
theorem dX2_init_221 : decode cX2_init 221 = .ok (.bipush 10, 2) := dk_16 10 (dk_at dksX2_init_9 12 rfl rfl)
theorem dX2_init_223 : decode cX2_init 223 = .ok (.newarray .int, 2) := dk_188_10 (dk_at dksX2_init_9 14 rfl rfl)
theorem dX2_init_225 : decode cX2_init 225 = .ok (.putfield 90, 3) := dk_181 0 90 (dk_at dksX2_init_9 16 rfl rfl)
theorem dX2_init_228 : decode cX2_init 228 = .ok (.aload_n 0, 1) := dk_42 (dk_at dksX2_init_9 19 rfl rfl)
theorem dX2_init_229 : decode cX2_init 229 = .ok (.iconst 4, 1) := dk_7 (dk_at dksX2_init_9 20 rfl rfl)
theorem dX2_init_230 : decode cX2_init 230 = .ok (.newarray .int, 2) := dk_188_10 (dk_at dksX2_init_9 21 rfl rfl)
theorem dX2_init_232 : decode cX2_init 232 = .ok (.putfield 93, 3) := dk_181 0 93 (dk_at dksX2_init_10 0 rfl rfl)
theorem dX2_init_235 : decode cX2_init 235 = .ok (.aload_n 0, 1) := dk_42 (dk_at dksX2_init_10 3 rfl rfl)
theorem dX2_init_236 : decode cX2_init 236 = .ok (.iconst 4, 1) := dk_7 (dk_at dksX2_init_10 4 rfl rfl)
theorem dX2_init_237 : decode cX2_init 237 = .ok (.newarray .int, 2) := dk_188_10 (dk_at dksX2_init_10 5 rfl rfl)
theorem dX2_init_239 : decode cX2_init 239 = .ok (.putfield 96, 3) := dk_181 0 96 (dk_at dksX2_init_10 7 rfl rfl)
theorem dX2_init_242 : decode cX2_init 242 = .ok (.aload_n 0, 1) := dk_42 (dk_at dksX2_init_10 10 rfl rfl)
theorem dX2_init_243 : decode cX2_init 243 = .ok (.sipush 1200, 3) := dk_17 4 176 (dk_at dksX2_init_10 11 rfl rfl)
theorem dX2_init_246 : decode cX2_init 246 = .ok (.newarray .int, 2) := dk_188_10 (dk_at dksX2_init_10 14 rfl rfl)
theorem dX2_init_248 : decode cX2_init 248 = .ok (.putfield 99, 3) := dk_181 0 99 (dk_at dksX2_init_10 16 rfl rfl)
theorem dX2_init_251 : decode cX2_init 251 = .ok (.aload_n 0, 1) := dk_42 (dk_at dksX2_init_10 19 rfl rfl)
theorem dX2_init_252 : decode cX2_init 252 = .ok (.sipush 1200, 3) := dk_17 4 176 (dk_at dksX2_init_10 20 rfl rfl)
theorem dX2_init_255 : decode cX2_init 255 = .ok (.newarray .int, 2) := dk_188_10 (dk_at dksX2_init_11 0 rfl rfl)
theorem dX2_init_257 : decode cX2_init 257 = .ok (.putfield 102, 3) := dk_181 0 102 (dk_at dksX2_init_11 2 rfl rfl)
theorem dX2_init_260 : decode cX2_init 260 = .ok (.aload_n 0, 1) := dk_42 (dk_at dksX2_init_11 5 rfl rfl)
theorem dX2_init_261 : decode cX2_init 261 = .ok (.sipush 1200, 3) := dk_17 4 176 (dk_at dksX2_init_11 6 rfl rfl)
theorem dX2_init_264 : decode cX2_init 264 = .ok (.newarray .int, 2) := dk_188_10 (dk_at dksX2_init_11 9 rfl rfl)
theorem dX2_init_266 : decode cX2_init 266 = .ok (.putfield 105, 3) := dk_181 0 105 (dk_at dksX2_init_11 11 rfl rfl)
theorem dX2_init_269 : decode cX2_init 269 = .ok (.aload_n 0, 1) := dk_42 (dk_at dksX2_init_11 14 rfl rfl)
theorem dX2_init_270 : decode cX2_init 270 = .ok (.bipush 10, 2) := dk_16 10 (dk_at dksX2_init_11 15 rfl rfl)
theorem dX2_init_272 : decode cX2_init 272 = .ok (.newarray .int, 2) := dk_188_10 (dk_at dksX2_init_11 17 rfl rfl)
theorem dX2_init_274 : decode cX2_init 274 = .ok (.putfield 108, 3) := dk_181 0 108 (dk_at dksX2_init_11 19 rfl rfl)
theorem dX2_init_277 : decode cX2_init 277 = .ok (.aload_n 0, 1) := dk_42 (dk_at dksX2_init_11 22 rfl rfl)
theorem dX2_init_278 : decode cX2_init 278 = .ok (.bipush 100, 2) := dk_16 100 (dk_at dksX2_init_12 0 rfl rfl)
theorem dX2_init_280 : decode cX2_init 280 = .ok (.newarray .boolean, 2) := dk_188_4 (dk_at dksX2_init_12 2 rfl rfl)
theorem dX2_init_282 : decode cX2_init 282 = .ok (.putfield 111, 3) := dk_181 0 111 (dk_at dksX2_init_12 4 rfl rfl)
theorem dX2_init_285 : decode cX2_init 285 = .ok (.aload_n 0, 1) := dk_42 (dk_at dksX2_init_12 7 rfl rfl)
theorem dX2_init_286 : decode cX2_init 286 = .ok (.bipush 100, 2) := dk_16 100 (dk_at dksX2_init_12 8 rfl rfl)
theorem dX2_init_288 : decode cX2_init 288 = .ok (.newarray .boolean, 2) := dk_188_4 (dk_at dksX2_init_12 10 rfl rfl)
theorem dX2_init_290 : decode cX2_init 290 = .ok (.putfield 113, 3) := dk_181 0 113 (dk_at dksX2_init_12 12 rfl rfl)
theorem dX2_init_293 : decode cX2_init 293 = .ok (.aload_n 0, 1) := dk_42 (dk_at dksX2_init_12 15 rfl rfl)
theorem dX2_init_294 : decode cX2_init 294 = .ok (.bipush 10, 2) := dk_16 10 (dk_at dksX2_init_12 16 rfl rfl)
theorem dX2_init_296 : decode cX2_init 296 = .ok (.newarray .int, 2) := dk_188_10 (dk_at dksX2_init_12 18 rfl rfl)
theorem dX2_init_298 : decode cX2_init 298 = .ok (.putfield 115, 3) := dk_181 0 115 (dk_at dksX2_init_12 20 rfl rfl)
theorem dX2_init_301 : decode cX2_init 301 = .ok (.aload_n 0, 1) := dk_42 (dk_at dksX2_init_12 23 rfl rfl)
theorem dX2_init_302 : decode cX2_init 302 = .ok (.bipush 10, 2) := dk_16 10 (dk_at dksX2_init_13 0 rfl rfl)
theorem dX2_init_304 : decode cX2_init 304 = .ok (.newarray .int, 2) := dk_188_10 (dk_at dksX2_init_13 2 rfl rfl)
theorem dX2_init_306 : decode cX2_init 306 = .ok (.putfield 118, 3) := dk_181 0 118 (dk_at dksX2_init_13 4 rfl rfl)
theorem dX2_init_309 : decode cX2_init 309 = .ok (.aload_n 0, 1) := dk_42 (dk_at dksX2_init_13 7 rfl rfl)
theorem dX2_init_310 : decode cX2_init 310 = .ok (.bipush 10, 2) := dk_16 10 (dk_at dksX2_init_13 8 rfl rfl)
theorem dX2_init_312 : decode cX2_init 312 = .ok (.newarray .int, 2) := dk_188_10 (dk_at dksX2_init_13 10 rfl rfl)
theorem dX2_init_314 : decode cX2_init 314 = .ok (.putfield 121, 3) := dk_181 0 121 (dk_at dksX2_init_13 12 rfl rfl)
theorem dX2_init_317 : decode cX2_init 317 = .ok (.aload_n 0, 1) := dk_42 (dk_at dksX2_init_13 15 rfl rfl)
theorem dX2_init_318 : decode cX2_init 318 = .ok (.bipush 10, 2) := dk_16 10 (dk_at dksX2_init_13 16 rfl rfl)
theorem dX2_init_320 : decode cX2_init 320 = .ok (.newarray .int, 2) := dk_188_10 (dk_at dksX2_init_13 18 rfl rfl)
theorem dX2_init_322 : decode cX2_init 322 = .ok (.putfield 124, 3) := dk_181 0 124 (dk_at dksX2_init_13 20 rfl rfl)
theorem dX2_init_325 : decode cX2_init 325 = .ok (.aload_n 0, 1) := dk_42 (dk_at dksX2_init_13 23 rfl rfl)
theorem dX2_init_326 : decode cX2_init 326 = .ok (.sipush 1024, 3) := dk_17 4 0 (dk_at dksX2_init_14 0 rfl rfl)
theorem dX2_init_329 : decode cX2_init 329 = .ok (.newarray .int, 2) := dk_188_10 (dk_at dksX2_init_14 3 rfl rfl)
theorem dX2_init_331 : decode cX2_init 331 = .ok (.putfield 127, 3) := dk_181 0 127 (dk_at dksX2_init_14 5 rfl rfl)
theorem dX2_init_334 : decode cX2_init 334 = .ok (.aload_n 0, 1) := dk_42 (dk_at dksX2_init_14 8 rfl rfl)
theorem dX2_init_335 : decode cX2_init 335 = .ok (.bipush 10, 2) := dk_16 10 (dk_at dksX2_init_14 9 rfl rfl)
theorem dX2_init_337 : decode cX2_init 337 = .ok (.newarray .int, 2) := dk_188_10 (dk_at dksX2_init_14 11 rfl rfl)
theorem dX2_init_339 : decode cX2_init 339 = .ok (.putfield 130, 3) := dk_181 0 130 (dk_at dksX2_init_14 13 rfl rfl)
theorem dX2_init_342 : decode cX2_init 342 = .ok (.aload_n 0, 1) := dk_42 (dk_at dksX2_init_14 16 rfl rfl)
theorem dX2_init_343 : decode cX2_init 343 = .ok (.bipush 10, 2) := dk_16 10 (dk_at dksX2_init_14 17 rfl rfl)
theorem dX2_init_345 : decode cX2_init 345 = .ok (.newarray .int, 2) := dk_188_10 (dk_at dksX2_init_14 19 rfl rfl)
theorem dX2_init_347 : decode cX2_init 347 = .ok (.putfield 133, 3) := dk_181 0 133 (dk_at dksX2_init_14 21 rfl rfl)
theorem dX2_init_350 : decode cX2_init 350 = .ok (.aload_n 0, 1) := dk_42 (dk_at dksX2_init_15 0 rfl rfl)
theorem dX2_init_351 : decode cX2_init 351 = .ok (.bipush 10, 2) := dk_16 10 (dk_at dksX2_init_15 1 rfl rfl)
theorem dX2_init_353 : decode cX2_init 353 = .ok (.newarray .int, 2) := dk_188_10 (dk_at dksX2_init_15 3 rfl rfl)
theorem dX2_init_355 : decode cX2_init 355 = .ok (.putfield 136, 3) := dk_181 0 136 (dk_at dksX2_init_15 5 rfl rfl)
theorem dX2_init_358 : decode cX2_init 358 = .ok (.aload_n 0, 1) := dk_42 (dk_at dksX2_init_15 8 rfl rfl)
theorem dX2_init_359 : decode cX2_init 359 = .ok (.sipush 1024, 3) := dk_17 4 0 (dk_at dksX2_init_15 9 rfl rfl)
theorem dX2_init_362 : decode cX2_init 362 = .ok (.newarray .boolean, 2) := dk_188_4 (dk_at dksX2_init_15 12 rfl rfl)
theorem dX2_init_364 : decode cX2_init 364 = .ok (.putfield 139, 3) := dk_181 0 139 (dk_at dksX2_init_15 14 rfl rfl)
theorem dX2_init_367 : decode cX2_init 367 = .ok (.aload_n 0, 1) := dk_42 (dk_at dksX2_init_15 17 rfl rfl)
theorem dX2_init_368 : decode cX2_init 368 = .ok (.sipush 6400, 3) := dk_17 25 0 (dk_at dksX2_init_15 18 rfl rfl)
theorem dX2_init_371 : decode cX2_init 371 = .ok (.newarray .int, 2) := dk_188_10 (dk_at dksX2_init_15 21 rfl rfl)
theorem dX2_init_373 : decode cX2_init 373 = .ok (.putfield 142, 3) := dk_181 0 142 (dk_at dksX2_init_16 0 rfl rfl)
theorem dX2_init_376 : decode cX2_init 376 = .ok (.aload_n 0, 1) := dk_42 (dk_at dksX2_init_16 3 rfl rfl)
theorem dX2_init_377 : decode cX2_init 377 = .ok (.sipush 6400, 3) := dk_17 25 0 (dk_at dksX2_init_16 4 rfl rfl)
theorem dX2_init_380 : decode cX2_init 380 = .ok (.newarray .int, 2) := dk_188_10 (dk_at dksX2_init_16 7 rfl rfl)
theorem dX2_init_382 : decode cX2_init 382 = .ok (.putfield 145, 3) := dk_181 0 145 (dk_at dksX2_init_16 9 rfl rfl)
theorem dX2_init_385 : decode cX2_init 385 = .ok (.aload_n 0, 1) := dk_42 (dk_at dksX2_init_16 12 rfl rfl)
theorem dX2_init_386 : decode cX2_init 386 = .ok (.bipush 10, 2) := dk_16 10 (dk_at dksX2_init_16 13 rfl rfl)
theorem dX2_init_388 : decode cX2_init 388 = .ok (.newarray .int, 2) := dk_188_10 (dk_at dksX2_init_16 15 rfl rfl)
theorem dX2_init_390 : decode cX2_init 390 = .ok (.putfield 148, 3) := dk_181 0 148 (dk_at dksX2_init_16 17 rfl rfl)
theorem dX2_init_393 : decode cX2_init 393 = .ok (.aload_n 0, 1) := dk_42 (dk_at dksX2_init_16 20 rfl rfl)
theorem dX2_init_394 : decode cX2_init 394 = .ok (.bipush 10, 2) := dk_16 10 (dk_at dksX2_init_16 21 rfl rfl)
theorem dX2_init_396 : decode cX2_init 396 = .ok (.newarray .int, 2) := dk_188_10 (dk_at dksX2_init_17 0 rfl rfl)
theorem dX2_init_398 : decode cX2_init 398 = .ok (.putfield 151, 3) := dk_181 0 151 (dk_at dksX2_init_17 2 rfl rfl)
theorem dX2_init_401 : decode cX2_init 401 = .ok (.aload_n 0, 1) := dk_42 (dk_at dksX2_init_17 5 rfl rfl)
theorem dX2_init_402 : decode cX2_init 402 = .ok (.bipush 10, 2) := dk_16 10 (dk_at dksX2_init_17 6 rfl rfl)
theorem dX2_init_404 : decode cX2_init 404 = .ok (.newarray .int, 2) := dk_188_10 (dk_at dksX2_init_17 8 rfl rfl)
theorem dX2_init_406 : decode cX2_init 406 = .ok (.putfield 154, 3) := dk_181 0 154 (dk_at dksX2_init_17 10 rfl rfl)
theorem dX2_init_409 : decode cX2_init 409 = .ok (.aload_n 0, 1) := dk_42 (dk_at dksX2_init_17 13 rfl rfl)
theorem dX2_init_410 : decode cX2_init 410 = .ok (.bipush 10, 2) := dk_16 10 (dk_at dksX2_init_17 14 rfl rfl)
theorem dX2_init_412 : decode cX2_init 412 = .ok (.newarray .int, 2) := dk_188_10 (dk_at dksX2_init_17 16 rfl rfl)
theorem dX2_init_414 : decode cX2_init 414 = .ok (.putfield 157, 3) := dk_181 0 157 (dk_at dksX2_init_17 18 rfl rfl)
theorem dX2_init_417 : decode cX2_init 417 = .ok (.aload_n 0, 1) := dk_42 (dk_at dksX2_init_17 21 rfl rfl)
theorem dX2_init_418 : decode cX2_init 418 = .ok (.bipush 10, 2) := dk_16 10 (dk_at dksX2_init_17 22 rfl rfl)
theorem dX2_init_420 : decode cX2_init 420 = .ok (.newarray .int, 2) := dk_188_10 (dk_at dksX2_init_18 0 rfl rfl)
theorem dX2_init_422 : decode cX2_init 422 = .ok (.putfield 160, 3) := dk_181 0 160 (dk_at dksX2_init_18 2 rfl rfl)
theorem dX2_init_425 : decode cX2_init 425 = .ok (.aload_n 0, 1) := dk_42 (dk_at dksX2_init_18 5 rfl rfl)
theorem dX2_init_426 : decode cX2_init 426 = .ok (.bipush 8, 2) := dk_16 8 (dk_at dksX2_init_18 6 rfl rfl)
theorem dX2_init_428 : decode cX2_init 428 = .ok (.newarray .int, 2) := dk_188_10 (dk_at dksX2_init_18 8 rfl rfl)
theorem dX2_init_430 : decode cX2_init 430 = .ok (.putfield 163, 3) := dk_181 0 163 (dk_at dksX2_init_18 10 rfl rfl)
theorem dX2_init_433 : decode cX2_init 433 = .ok (.aload_n 0, 1) := dk_42 (dk_at dksX2_init_18 13 rfl rfl)
theorem dX2_init_434 : decode cX2_init 434 = .ok (.bipush 80, 2) := dk_16 80 (dk_at dksX2_init_18 14 rfl rfl)
theorem dX2_init_436 : decode cX2_init 436 = .ok (.newarray .int, 2) := dk_188_10 (dk_at dksX2_init_18 16 rfl rfl)
theorem dX2_init_438 : decode cX2_init 438 = .ok (.putfield 166, 3) := dk_181 0 166 (dk_at dksX2_init_18 18 rfl rfl)
theorem dX2_init_441 : decode cX2_init 441 = .ok (.aload_n 0, 1) := dk_42 (dk_at dksX2_init_18 21 rfl rfl)
theorem dX2_init_442 : decode cX2_init 442 = .ok (.iconst 3, 1) := dk_6 (dk_at dksX2_init_18 22 rfl rfl)
theorem dX2_init_443 : decode cX2_init 443 = .ok (.newarray .int, 2) := dk_188_10 (dk_at dksX2_init_19 0 rfl rfl)
theorem dX2_init_445 : decode cX2_init 445 = .ok (.putfield 169, 3) := dk_181 0 169 (dk_at dksX2_init_19 2 rfl rfl)
theorem dX2_init_448 : decode cX2_init 448 = .ok (.aload_n 0, 1) := dk_42 (dk_at dksX2_init_19 5 rfl rfl)
theorem dX2_init_449 : decode cX2_init 449 = .ok (.iconst 3, 1) := dk_6 (dk_at dksX2_init_19 6 rfl rfl)
theorem dX2_init_450 : decode cX2_init 450 = .ok (.newarray .int, 2) := dk_188_10 (dk_at dksX2_init_19 7 rfl rfl)
theorem dX2_init_452 : decode cX2_init 452 = .ok (.putfield 172, 3) := dk_181 0 172 (dk_at dksX2_init_19 9 rfl rfl)
theorem dX2_init_455 : decode cX2_init 455 = .ok (.return_, 1) := dk_177 (dk_at dksX2_init_19 12 rfl rfl)
abbrev cX2_feed : ByteArray := prog_26_method_4_code
def yX2_feed : MethodName := ⟨RX2, "feed", "(IIIII)I"⟩
def dkwX2_feed_2 : List UInt8 := [172]
abbrev dktX2_feed_2 : List UInt8 := dkwX2_feed_2 ++ []
def dkwX2_feed_1 : List UInt8 := [182, 0, 179, 42, 29, 182, 0, 179, 42, 21, 4, 182, 0, 179, 42, 21, 5, 182, 0, 179, 42, 180, 0, 175]
abbrev dktX2_feed_1 : List UInt8 := dkwX2_feed_1 ++ dktX2_feed_2
def dkwX2_feed_0 : List UInt8 := [42, 180, 0, 175, 16, 20, 96, 17, 2, 188, 164, 0, 5, 2, 172, 42, 27, 182, 0, 179, 42, 28]
abbrev dktX2_feed_0 : List UInt8 := dkwX2_feed_0 ++ dktX2_feed_1
theorem dksX2_feed_0 : cX2_feed.data.toList.drop 0 = dktX2_feed_0 := by decide +kernel
theorem dksX2_feed_1 : cX2_feed.data.toList.drop 22 = dktX2_feed_1 := dk_seg dksX2_feed_0 22 rfl rfl
theorem dksX2_feed_2 : cX2_feed.data.toList.drop 46 = dktX2_feed_2 := dk_seg dksX2_feed_1 24 rfl rfl
theorem dX2_feed_0 : decode cX2_feed 0 = .ok (.aload_n 0, 1) := dk_42 (dk_at dksX2_feed_0 0 rfl rfl)
theorem dX2_feed_1 : decode cX2_feed 1 = .ok (.getfield 175, 3) := dk_180 0 175 (dk_at dksX2_feed_0 1 rfl rfl)
theorem dX2_feed_4 : decode cX2_feed 4 = .ok (.bipush 20, 2) := dk_16 20 (dk_at dksX2_feed_0 4 rfl rfl)
theorem dX2_feed_6 : decode cX2_feed 6 = .ok (.iadd, 1) := dk_96 (dk_at dksX2_feed_0 6 rfl rfl)
theorem dX2_feed_7 : decode cX2_feed 7 = .ok (.sipush 700, 3) := dk_17 2 188 (dk_at dksX2_feed_0 7 rfl rfl)
theorem dX2_feed_10 : decode cX2_feed 10 = .ok (.if_icmp .le 5, 3) := dk_164 0 5 (dk_at dksX2_feed_0 10 rfl rfl)
theorem dX2_feed_13 : decode cX2_feed 13 = .ok (.iconst (-1), 1) := dk_2 (dk_at dksX2_feed_0 13 rfl rfl)
theorem dX2_feed_14 : decode cX2_feed 14 = .ok (.ireturn, 1) := dk_172 (dk_at dksX2_feed_0 14 rfl rfl)
theorem dX2_feed_15 : decode cX2_feed 15 = .ok (.aload_n 0, 1) := dk_42 (dk_at dksX2_feed_0 15 rfl rfl)
theorem dX2_feed_16 : decode cX2_feed 16 = .ok (.iload_n 1, 1) := dk_27 (dk_at dksX2_feed_0 16 rfl rfl)
theorem dX2_feed_17 : decode cX2_feed 17 = .ok (.invokevirtual 179, 3) := dk_182 0 179 (dk_at dksX2_feed_0 17 rfl rfl)
theorem dX2_feed_20 : decode cX2_feed 20 = .ok (.aload_n 0, 1) := dk_42 (dk_at dksX2_feed_0 20 rfl rfl)
theorem dX2_feed_21 : decode cX2_feed 21 = .ok (.iload_n 2, 1) := dk_28 (dk_at dksX2_feed_0 21 rfl rfl)
theorem dX2_feed_22 : decode cX2_feed 22 = .ok (.invokevirtual 179, 3) := dk_182 0 179 (dk_at dksX2_feed_1 0 rfl rfl)
theorem dX2_feed_25 : decode cX2_feed 25 = .ok (.aload_n 0, 1) := dk_42 (dk_at dksX2_feed_1 3 rfl rfl)
theorem dX2_feed_26 : decode cX2_feed 26 = .ok (.iload_n 3, 1) := dk_29 (dk_at dksX2_feed_1 4 rfl rfl)
theorem dX2_feed_27 : decode cX2_feed 27 = .ok (.invokevirtual 179, 3) := dk_182 0 179 (dk_at dksX2_feed_1 5 rfl rfl)
theorem dX2_feed_30 : decode cX2_feed 30 = .ok (.aload_n 0, 1) := dk_42 (dk_at dksX2_feed_1 8 rfl rfl)
theorem dX2_feed_31 : decode cX2_feed 31 = .ok (.iload 4, 2) := dk_21 4 (dk_at dksX2_feed_1 9 rfl rfl)
theorem dX2_feed_33 : decode cX2_feed 33 = .ok (.invokevirtual 179, 3) := dk_182 0 179 (dk_at dksX2_feed_1 11 rfl rfl)
theorem dX2_feed_36 : decode cX2_feed 36 = .ok (.aload_n 0, 1) := dk_42 (dk_at dksX2_feed_1 14 rfl rfl)
theorem dX2_feed_37 : decode cX2_feed 37 = .ok (.iload 5, 2) := dk_21 5 (dk_at dksX2_feed_1 15 rfl rfl)
theorem dX2_feed_39 : decode cX2_feed 39 = .ok (.invokevirtual 179, 3) := dk_182 0 179 (dk_at dksX2_feed_1 17 rfl rfl)
theorem dX2_feed_42 : decode cX2_feed 42 = .ok (.aload_n 0, 1) := dk_42 (dk_at dksX2_feed_1 20 rfl rfl)
theorem dX2_feed_43 : decode cX2_feed 43 = .ok (.getfield 175, 3) := dk_180 0 175 (dk_at dksX2_feed_1 21 rfl rfl)
theorem dX2_feed_46 : decode cX2_feed 46 = .ok (.ireturn, 1) := dk_172 (dk_at dksX2_feed_2 0 rfl rfl)
abbrev cX2_feeds : ByteArray := prog_26_method_3_code
def yX2_feeds : MethodName := ⟨RX2, "feeds", "(I)V"⟩
def dkwX2_feeds_1 : List UInt8 := [180, 0, 175, 4, 96, 181, 0, 175, 132, 2, 255, 167, 255, 223, 177]
abbrev dktX2_feeds_1 : List UInt8 := dkwX2_feeds_1 ++ []
def dkwX2_feeds_0 : List UInt8 := [6, 61, 28, 155, 0, 35, 42, 180, 0, 9, 42, 180, 0, 175, 27, 16, 8, 28, 104, 124, 145, 84, 42, 89]
abbrev dktX2_feeds_0 : List UInt8 := dkwX2_feeds_0 ++ dktX2_feeds_1
theorem dksX2_feeds_0 : cX2_feeds.data.toList.drop 0 = dktX2_feeds_0 := by decide +kernel
theorem dksX2_feeds_1 : cX2_feeds.data.toList.drop 24 = dktX2_feeds_1 := dk_seg dksX2_feeds_0 24 rfl rfl
theorem dX2_feeds_0 : decode cX2_feeds 0 = .ok (.iconst 3, 1) := dk_6 (dk_at dksX2_feeds_0 0 rfl rfl)
theorem dX2_feeds_1 : decode cX2_feeds 1 = .ok (.istore_n 2, 1) := dk_61 (dk_at dksX2_feeds_0 1 rfl rfl)
theorem dX2_feeds_2 : decode cX2_feeds 2 = .ok (.iload_n 2, 1) := dk_28 (dk_at dksX2_feeds_0 2 rfl rfl)
theorem dX2_feeds_3 : decode cX2_feeds 3 = .ok (.ifCond .lt 35, 3) := dk_155 0 35 (dk_at dksX2_feeds_0 3 rfl rfl)
theorem dX2_feeds_6 : decode cX2_feeds 6 = .ok (.aload_n 0, 1) := dk_42 (dk_at dksX2_feeds_0 6 rfl rfl)
theorem dX2_feeds_7 : decode cX2_feeds 7 = .ok (.getfield 9, 3) := dk_180 0 9 (dk_at dksX2_feeds_0 7 rfl rfl)
theorem dX2_feeds_10 : decode cX2_feeds 10 = .ok (.aload_n 0, 1) := dk_42 (dk_at dksX2_feeds_0 10 rfl rfl)
theorem dX2_feeds_11 : decode cX2_feeds 11 = .ok (.getfield 175, 3) := dk_180 0 175 (dk_at dksX2_feeds_0 11 rfl rfl)
theorem dX2_feeds_14 : decode cX2_feeds 14 = .ok (.iload_n 1, 1) := dk_27 (dk_at dksX2_feeds_0 14 rfl rfl)
theorem dX2_feeds_15 : decode cX2_feeds 15 = .ok (.bipush 8, 2) := dk_16 8 (dk_at dksX2_feeds_0 15 rfl rfl)
theorem dX2_feeds_17 : decode cX2_feeds 17 = .ok (.iload_n 2, 1) := dk_28 (dk_at dksX2_feeds_0 17 rfl rfl)
theorem dX2_feeds_18 : decode cX2_feeds 18 = .ok (.imul, 1) := dk_104 (dk_at dksX2_feeds_0 18 rfl rfl)
theorem dX2_feeds_19 : decode cX2_feeds 19 = .ok (.iushr, 1) := dk_124 (dk_at dksX2_feeds_0 19 rfl rfl)
theorem dX2_feeds_20 : decode cX2_feeds 20 = .ok (.i2b, 1) := dk_145 (dk_at dksX2_feeds_0 20 rfl rfl)
theorem dX2_feeds_21 : decode cX2_feeds 21 = .ok (.bastore, 1) := dk_84 (dk_at dksX2_feeds_0 21 rfl rfl)
theorem dX2_feeds_22 : decode cX2_feeds 22 = .ok (.aload_n 0, 1) := dk_42 (dk_at dksX2_feeds_0 22 rfl rfl)
theorem dX2_feeds_23 : decode cX2_feeds 23 = .ok (.dup, 1) := dk_89 (dk_at dksX2_feeds_0 23 rfl rfl)
theorem dX2_feeds_24 : decode cX2_feeds 24 = .ok (.getfield 175, 3) := dk_180 0 175 (dk_at dksX2_feeds_1 0 rfl rfl)
theorem dX2_feeds_27 : decode cX2_feeds 27 = .ok (.iconst 1, 1) := dk_4 (dk_at dksX2_feeds_1 3 rfl rfl)
theorem dX2_feeds_28 : decode cX2_feeds 28 = .ok (.iadd, 1) := dk_96 (dk_at dksX2_feeds_1 4 rfl rfl)
theorem dX2_feeds_29 : decode cX2_feeds 29 = .ok (.putfield 175, 3) := dk_181 0 175 (dk_at dksX2_feeds_1 5 rfl rfl)
theorem dX2_feeds_32 : decode cX2_feeds 32 = .ok (.iinc 2 (-1), 3) := dk_132 2 255 (dk_at dksX2_feeds_1 8 rfl rfl)
theorem dX2_feeds_35 : decode cX2_feeds 35 = .ok (.goto (-33), 3) := dk_167 255 223 (dk_at dksX2_feeds_1 11 rfl rfl)
theorem dX2_feeds_38 : decode cX2_feeds 38 = .ok (.return_, 1) := dk_177 (dk_at dksX2_feeds_1 14 rfl rfl)
abbrev cX2_end : ByteArray := prog_26_method_5_code
def yX2_end : MethodName := ⟨RX2, "end", "(I)Z"⟩
def dkwX2_end_0 : List UInt8 := [27, 133, 9, 42, 180, 0, 175, 133, 184, 0, 183, 154, 0, 5, 3, 172, 42, 27, 181, 0, 175, 4, 172]
abbrev dktX2_end_0 : List UInt8 := dkwX2_end_0 ++ []
theorem dksX2_end_0 : cX2_end.data.toList.drop 0 = dktX2_end_0 := by decide +kernel
theorem dX2_end_0 : decode cX2_end 0 = .ok (.iload_n 1, 1) := dk_27 (dk_at dksX2_end_0 0 rfl rfl)
theorem dX2_end_1 : decode cX2_end 1 = .ok (.i2l, 1) := dk_133 (dk_at dksX2_end_0 1 rfl rfl)
theorem dX2_end_2 : decode cX2_end 2 = .ok (.lconst 0, 1) := dk_9 (dk_at dksX2_end_0 2 rfl rfl)
theorem dX2_end_3 : decode cX2_end 3 = .ok (.aload_n 0, 1) := dk_42 (dk_at dksX2_end_0 3 rfl rfl)
theorem dX2_end_4 : decode cX2_end 4 = .ok (.getfield 175, 3) := dk_180 0 175 (dk_at dksX2_end_0 4 rfl rfl)
theorem dX2_end_7 : decode cX2_end 7 = .ok (.i2l, 1) := dk_133 (dk_at dksX2_end_0 7 rfl rfl)
theorem dX2_end_8 : decode cX2_end 8 = .ok (.invokestatic 183, 3) := dk_184 0 183 (dk_at dksX2_end_0 8 rfl rfl)
theorem dX2_end_11 : decode cX2_end 11 = .ok (.ifCond .ne 5, 3) := dk_154 0 5 (dk_at dksX2_end_0 11 rfl rfl)
theorem dX2_end_14 : decode cX2_end 14 = .ok (.iconst 0, 1) := dk_3 (dk_at dksX2_end_0 14 rfl rfl)
theorem dX2_end_15 : decode cX2_end 15 = .ok (.ireturn, 1) := dk_172 (dk_at dksX2_end_0 15 rfl rfl)
theorem dX2_end_16 : decode cX2_end 16 = .ok (.aload_n 0, 1) := dk_42 (dk_at dksX2_end_0 16 rfl rfl)
theorem dX2_end_17 : decode cX2_end 17 = .ok (.iload_n 1, 1) := dk_27 (dk_at dksX2_end_0 17 rfl rfl)
theorem dX2_end_18 : decode cX2_end 18 = .ok (.putfield 175, 3) := dk_181 0 175 (dk_at dksX2_end_0 18 rfl rfl)
theorem dX2_end_21 : decode cX2_end 21 = .ok (.iconst 1, 1) := dk_4 (dk_at dksX2_end_0 21 rfl rfl)
theorem dX2_end_22 : decode cX2_end 22 = .ok (.ireturn, 1) := dk_172 (dk_at dksX2_end_0 22 rfl rfl)
abbrev cX2_in : ByteArray := prog_26_method_2_code
def yX2_in : MethodName := ⟨RX2, "in", "(JJJ)Z"⟩
def dkwX2_in_0 : List UInt8 := [30, 32, 148, 155, 0, 14, 30, 22, 4, 148, 157, 0, 7, 4, 167, 0, 4, 3, 172]
abbrev dktX2_in_0 : List UInt8 := dkwX2_in_0 ++ []
theorem dksX2_in_0 : cX2_in.data.toList.drop 0 = dktX2_in_0 := by decide +kernel
theorem dX2_in_0 : decode cX2_in 0 = .ok (.lload_n 0, 1) := dk_30 (dk_at dksX2_in_0 0 rfl rfl)
theorem dX2_in_1 : decode cX2_in 1 = .ok (.lload_n 2, 1) := dk_32 (dk_at dksX2_in_0 1 rfl rfl)
theorem dX2_in_2 : decode cX2_in 2 = .ok (.lcmp, 1) := dk_148 (dk_at dksX2_in_0 2 rfl rfl)
theorem dX2_in_3 : decode cX2_in 3 = .ok (.ifCond .lt 14, 3) := dk_155 0 14 (dk_at dksX2_in_0 3 rfl rfl)
theorem dX2_in_6 : decode cX2_in 6 = .ok (.lload_n 0, 1) := dk_30 (dk_at dksX2_in_0 6 rfl rfl)
theorem dX2_in_7 : decode cX2_in 7 = .ok (.lload 4, 2) := dk_22 4 (dk_at dksX2_in_0 7 rfl rfl)
theorem dX2_in_9 : decode cX2_in 9 = .ok (.lcmp, 1) := dk_148 (dk_at dksX2_in_0 9 rfl rfl)
theorem dX2_in_10 : decode cX2_in 10 = .ok (.ifCond .gt 7, 3) := dk_157 0 7 (dk_at dksX2_in_0 10 rfl rfl)
theorem dX2_in_13 : decode cX2_in 13 = .ok (.iconst 1, 1) := dk_4 (dk_at dksX2_in_0 13 rfl rfl)
theorem dX2_in_14 : decode cX2_in 14 = .ok (.goto 4, 3) := dk_167 0 4 (dk_at dksX2_in_0 14 rfl rfl)
theorem dX2_in_17 : decode cX2_in 17 = .ok (.iconst 0, 1) := dk_3 (dk_at dksX2_in_0 17 rfl rfl)
theorem dX2_in_18 : decode cX2_in 18 = .ok (.ireturn, 1) := dk_172 (dk_at dksX2_in_0 18 rfl rfl)
abbrev cX2_fault : ByteArray := prog_26_method_22_code
def yX2_fault : MethodName := ⟨RX2, "fault", "()I"⟩
def dkwX2_fault_0 : List UInt8 := [42, 182, 1, 9, 42, 180, 0, 196, 172]
abbrev dktX2_fault_0 : List UInt8 := dkwX2_fault_0 ++ []
theorem dksX2_fault_0 : cX2_fault.data.toList.drop 0 = dktX2_fault_0 := by decide +kernel
theorem dX2_fault_0 : decode cX2_fault 0 = .ok (.aload_n 0, 1) := dk_42 (dk_at dksX2_fault_0 0 rfl rfl)
theorem dX2_fault_1 : decode cX2_fault 1 = .ok (.invokevirtual 265, 3) := dk_182 1 9 (dk_at dksX2_fault_0 1 rfl rfl)
theorem dX2_fault_4 : decode cX2_fault 4 = .ok (.aload_n 0, 1) := dk_42 (dk_at dksX2_fault_0 4 rfl rfl)
theorem dX2_fault_5 : decode cX2_fault 5 = .ok (.getfield 196, 3) := dk_180 0 196 (dk_at dksX2_fault_0 5 rfl rfl)
theorem dX2_fault_8 : decode cX2_fault 8 = .ok (.ireturn, 1) := dk_172 (dk_at dksX2_fault_0 8 rfl rfl)
abbrev cX2_reads : ByteArray := prog_26_method_21_code
def yX2_reads : MethodName := ⟨RX2, "reads", "()V"⟩
def dkwX2_reads_3 : List UInt8 := [154, 0, 11, 42, 42, 180, 0, 175, 181, 0, 196, 177]
abbrev dktX2_reads_3 : List UInt8 := dkwX2_reads_3 ++ []
def dkwX2_reads_2 : List UInt8 := [180, 0, 175, 162, 0, 11, 42, 182, 1, 6, 60, 167, 255, 236, 27, 153, 0, 20, 42, 180, 0, 44, 4, 46]
abbrev dktX2_reads_2 : List UInt8 := dkwX2_reads_2 ++ dktX2_reads_3
def dkwX2_reads_1 : List UInt8 := [3, 79, 42, 3, 181, 0, 186, 42, 182, 0, 199, 4, 60, 27, 153, 0, 22, 42, 180, 0, 189, 42]
abbrev dktX2_reads_1 : List UInt8 := dkwX2_reads_1 ++ dktX2_reads_2
def dkwX2_reads_0 : List UInt8 := [42, 2, 181, 0, 196, 42, 180, 0, 44, 4, 3, 79, 42, 180, 0, 48, 4, 3, 79, 42, 180, 0, 51, 4]
abbrev dktX2_reads_0 : List UInt8 := dkwX2_reads_0 ++ dktX2_reads_1
theorem dksX2_reads_0 : cX2_reads.data.toList.drop 0 = dktX2_reads_0 := by decide +kernel
theorem dksX2_reads_1 : cX2_reads.data.toList.drop 24 = dktX2_reads_1 := dk_seg dksX2_reads_0 24 rfl rfl
theorem dksX2_reads_2 : cX2_reads.data.toList.drop 46 = dktX2_reads_2 := dk_seg dksX2_reads_1 22 rfl rfl
theorem dksX2_reads_3 : cX2_reads.data.toList.drop 70 = dktX2_reads_3 := dk_seg dksX2_reads_2 24 rfl rfl
theorem dX2_reads_0 : decode cX2_reads 0 = .ok (.aload_n 0, 1) := dk_42 (dk_at dksX2_reads_0 0 rfl rfl)
theorem dX2_reads_1 : decode cX2_reads 1 = .ok (.iconst (-1), 1) := dk_2 (dk_at dksX2_reads_0 1 rfl rfl)
theorem dX2_reads_2 : decode cX2_reads 2 = .ok (.putfield 196, 3) := dk_181 0 196 (dk_at dksX2_reads_0 2 rfl rfl)
theorem dX2_reads_5 : decode cX2_reads 5 = .ok (.aload_n 0, 1) := dk_42 (dk_at dksX2_reads_0 5 rfl rfl)
theorem dX2_reads_6 : decode cX2_reads 6 = .ok (.getfield 44, 3) := dk_180 0 44 (dk_at dksX2_reads_0 6 rfl rfl)
theorem dX2_reads_9 : decode cX2_reads 9 = .ok (.iconst 1, 1) := dk_4 (dk_at dksX2_reads_0 9 rfl rfl)
theorem dX2_reads_10 : decode cX2_reads 10 = .ok (.iconst 0, 1) := dk_3 (dk_at dksX2_reads_0 10 rfl rfl)
theorem dX2_reads_11 : decode cX2_reads 11 = .ok (.iastore, 1) := dk_79 (dk_at dksX2_reads_0 11 rfl rfl)
theorem dX2_reads_12 : decode cX2_reads 12 = .ok (.aload_n 0, 1) := dk_42 (dk_at dksX2_reads_0 12 rfl rfl)
theorem dX2_reads_13 : decode cX2_reads 13 = .ok (.getfield 48, 3) := dk_180 0 48 (dk_at dksX2_reads_0 13 rfl rfl)
theorem dX2_reads_16 : decode cX2_reads 16 = .ok (.iconst 1, 1) := dk_4 (dk_at dksX2_reads_0 16 rfl rfl)
theorem dX2_reads_17 : decode cX2_reads 17 = .ok (.iconst 0, 1) := dk_3 (dk_at dksX2_reads_0 17 rfl rfl)
theorem dX2_reads_18 : decode cX2_reads 18 = .ok (.iastore, 1) := dk_79 (dk_at dksX2_reads_0 18 rfl rfl)
theorem dX2_reads_19 : decode cX2_reads 19 = .ok (.aload_n 0, 1) := dk_42 (dk_at dksX2_reads_0 19 rfl rfl)
theorem dX2_reads_20 : decode cX2_reads 20 = .ok (.getfield 51, 3) := dk_180 0 51 (dk_at dksX2_reads_0 20 rfl rfl)
theorem dX2_reads_23 : decode cX2_reads 23 = .ok (.iconst 1, 1) := dk_4 (dk_at dksX2_reads_0 23 rfl rfl)
theorem dX2_reads_24 : decode cX2_reads 24 = .ok (.iconst 0, 1) := dk_3 (dk_at dksX2_reads_1 0 rfl rfl)
theorem dX2_reads_25 : decode cX2_reads 25 = .ok (.iastore, 1) := dk_79 (dk_at dksX2_reads_1 1 rfl rfl)
theorem dX2_reads_26 : decode cX2_reads 26 = .ok (.aload_n 0, 1) := dk_42 (dk_at dksX2_reads_1 2 rfl rfl)
theorem dX2_reads_27 : decode cX2_reads 27 = .ok (.iconst 0, 1) := dk_3 (dk_at dksX2_reads_1 3 rfl rfl)
theorem dX2_reads_28 : decode cX2_reads 28 = .ok (.putfield 186, 3) := dk_181 0 186 (dk_at dksX2_reads_1 4 rfl rfl)
theorem dX2_reads_31 : decode cX2_reads 31 = .ok (.aload_n 0, 1) := dk_42 (dk_at dksX2_reads_1 7 rfl rfl)
theorem dX2_reads_32 : decode cX2_reads 32 = .ok (.invokevirtual 199, 3) := dk_182 0 199 (dk_at dksX2_reads_1 8 rfl rfl)
theorem dX2_reads_35 : decode cX2_reads 35 = .ok (.iconst 1, 1) := dk_4 (dk_at dksX2_reads_1 11 rfl rfl)
theorem dX2_reads_36 : decode cX2_reads 36 = .ok (.istore_n 1, 1) := dk_60 (dk_at dksX2_reads_1 12 rfl rfl)
theorem dX2_reads_37 : decode cX2_reads 37 = .ok (.iload_n 1, 1) := dk_27 (dk_at dksX2_reads_1 13 rfl rfl)
theorem dX2_reads_38 : decode cX2_reads 38 = .ok (.ifCond .eq 22, 3) := dk_153 0 22 (dk_at dksX2_reads_1 14 rfl rfl)
theorem dX2_reads_41 : decode cX2_reads 41 = .ok (.aload_n 0, 1) := dk_42 (dk_at dksX2_reads_1 17 rfl rfl)
theorem dX2_reads_42 : decode cX2_reads 42 = .ok (.getfield 189, 3) := dk_180 0 189 (dk_at dksX2_reads_1 18 rfl rfl)
theorem dX2_reads_45 : decode cX2_reads 45 = .ok (.aload_n 0, 1) := dk_42 (dk_at dksX2_reads_1 21 rfl rfl)
theorem dX2_reads_46 : decode cX2_reads 46 = .ok (.getfield 175, 3) := dk_180 0 175 (dk_at dksX2_reads_2 0 rfl rfl)
theorem dX2_reads_49 : decode cX2_reads 49 = .ok (.if_icmp .ge 11, 3) := dk_162 0 11 (dk_at dksX2_reads_2 3 rfl rfl)
theorem dX2_reads_52 : decode cX2_reads 52 = .ok (.aload_n 0, 1) := dk_42 (dk_at dksX2_reads_2 6 rfl rfl)
theorem dX2_reads_53 : decode cX2_reads 53 = .ok (.invokevirtual 262, 3) := dk_182 1 6 (dk_at dksX2_reads_2 7 rfl rfl)
theorem dX2_reads_56 : decode cX2_reads 56 = .ok (.istore_n 1, 1) := dk_60 (dk_at dksX2_reads_2 10 rfl rfl)
theorem dX2_reads_57 : decode cX2_reads 57 = .ok (.goto (-20), 3) := dk_167 255 236 (dk_at dksX2_reads_2 11 rfl rfl)
theorem dX2_reads_60 : decode cX2_reads 60 = .ok (.iload_n 1, 1) := dk_27 (dk_at dksX2_reads_2 14 rfl rfl)
theorem dX2_reads_61 : decode cX2_reads 61 = .ok (.ifCond .eq 20, 3) := dk_153 0 20 (dk_at dksX2_reads_2 15 rfl rfl)
theorem dX2_reads_64 : decode cX2_reads 64 = .ok (.aload_n 0, 1) := dk_42 (dk_at dksX2_reads_2 18 rfl rfl)
theorem dX2_reads_65 : decode cX2_reads 65 = .ok (.getfield 44, 3) := dk_180 0 44 (dk_at dksX2_reads_2 19 rfl rfl)
theorem dX2_reads_68 : decode cX2_reads 68 = .ok (.iconst 1, 1) := dk_4 (dk_at dksX2_reads_2 22 rfl rfl)
theorem dX2_reads_69 : decode cX2_reads 69 = .ok (.iaload, 1) := dk_46 (dk_at dksX2_reads_2 23 rfl rfl)
theorem dX2_reads_70 : decode cX2_reads 70 = .ok (.ifCond .ne 11, 3) := dk_154 0 11 (dk_at dksX2_reads_3 0 rfl rfl)
theorem dX2_reads_73 : decode cX2_reads 73 = .ok (.aload_n 0, 1) := dk_42 (dk_at dksX2_reads_3 3 rfl rfl)
theorem dX2_reads_74 : decode cX2_reads 74 = .ok (.aload_n 0, 1) := dk_42 (dk_at dksX2_reads_3 4 rfl rfl)
theorem dX2_reads_75 : decode cX2_reads 75 = .ok (.getfield 175, 3) := dk_180 0 175 (dk_at dksX2_reads_3 5 rfl rfl)
theorem dX2_reads_78 : decode cX2_reads 78 = .ok (.putfield 196, 3) := dk_181 0 196 (dk_at dksX2_reads_3 8 rfl rfl)
theorem dX2_reads_81 : decode cX2_reads 81 = .ok (.return_, 1) := dk_177 (dk_at dksX2_reads_3 11 rfl rfl)
abbrev cX2_next : ByteArray := prog_26_method_7_code
def yX2_next : MethodName := ⟨RX2, "next", "()V"⟩
def dkwX2_next_7 : List UInt8 := [162, 0, 13, 42, 89, 180, 0, 186, 4, 96, 181, 0, 186, 177]
abbrev dktX2_next_7 : List UInt8 := dkwX2_next_7 ++ []
def dkwX2_next_6 : List UInt8 := [153, 0, 37, 42, 89, 180, 0, 186, 4, 96, 181, 0, 186, 167, 255, 231, 42, 180, 0, 189, 42, 180, 0, 175]
abbrev dktX2_next_6 : List UInt8 := dkwX2_next_6 ++ dktX2_next_7
def dkwX2_next_5 : List UInt8 := [16, 48, 16, 57, 182, 0, 192, 153, 0, 31, 42, 42, 180, 0, 186, 16, 48, 16, 57, 182, 0, 192]
abbrev dktX2_next_5 : List UInt8 := dkwX2_next_5 ++ dktX2_next_6
def dkwX2_next_4 : List UInt8 := [182, 0, 192, 153, 0, 80, 42, 89, 180, 0, 186, 4, 96, 181, 0, 186, 167, 255, 231, 42, 42, 180, 0, 189]
abbrev dktX2_next_4 : List UInt8 := dkwX2_next_4 ++ dktX2_next_5
def dkwX2_next_3 : List UInt8 := [180, 0, 189, 16, 97, 16, 122, 182, 0, 192, 153, 0, 31, 42, 42, 180, 0, 186, 16, 97, 16, 122]
abbrev dktX2_next_3 : List UInt8 := dkwX2_next_3 ++ dktX2_next_4
def dkwX2_next_2 : List UInt8 := [89, 180, 0, 189, 4, 96, 181, 0, 189, 167, 255, 207, 42, 42, 180, 0, 189, 181, 0, 186, 42, 42]
abbrev dktX2_next_2 : List UInt8 := dkwX2_next_2 ++ dktX2_next_3
def dkwX2_next_1 : List UInt8 := [180, 0, 189, 51, 16, 32, 159, 0, 17, 42, 180, 0, 9, 42, 180, 0, 189, 51, 16, 10, 160, 0, 16, 42]
abbrev dktX2_next_1 : List UInt8 := dkwX2_next_1 ++ dktX2_next_2
def dkwX2_next_0 : List UInt8 := [42, 42, 180, 0, 186, 181, 0, 189, 42, 180, 0, 189, 42, 180, 0, 175, 162, 0, 44, 42, 180, 0, 9, 42]
abbrev dktX2_next_0 : List UInt8 := dkwX2_next_0 ++ dktX2_next_1
theorem dksX2_next_0 : cX2_next.data.toList.drop 0 = dktX2_next_0 := by decide +kernel
theorem dksX2_next_1 : cX2_next.data.toList.drop 24 = dktX2_next_1 := dk_seg dksX2_next_0 24 rfl rfl
theorem dksX2_next_2 : cX2_next.data.toList.drop 48 = dktX2_next_2 := dk_seg dksX2_next_1 24 rfl rfl
theorem dksX2_next_3 : cX2_next.data.toList.drop 70 = dktX2_next_3 := dk_seg dksX2_next_2 22 rfl rfl
theorem dksX2_next_4 : cX2_next.data.toList.drop 92 = dktX2_next_4 := dk_seg dksX2_next_3 22 rfl rfl
theorem dksX2_next_5 : cX2_next.data.toList.drop 116 = dktX2_next_5 := dk_seg dksX2_next_4 24 rfl rfl
theorem dksX2_next_6 : cX2_next.data.toList.drop 138 = dktX2_next_6 := dk_seg dksX2_next_5 22 rfl rfl
theorem dksX2_next_7 : cX2_next.data.toList.drop 162 = dktX2_next_7 := dk_seg dksX2_next_6 24 rfl rfl
theorem dX2_next_0 : decode cX2_next 0 = .ok (.aload_n 0, 1) := dk_42 (dk_at dksX2_next_0 0 rfl rfl)
theorem dX2_next_1 : decode cX2_next 1 = .ok (.aload_n 0, 1) := dk_42 (dk_at dksX2_next_0 1 rfl rfl)
theorem dX2_next_2 : decode cX2_next 2 = .ok (.getfield 186, 3) := dk_180 0 186 (dk_at dksX2_next_0 2 rfl rfl)
theorem dX2_next_5 : decode cX2_next 5 = .ok (.putfield 189, 3) := dk_181 0 189 (dk_at dksX2_next_0 5 rfl rfl)
theorem dX2_next_8 : decode cX2_next 8 = .ok (.aload_n 0, 1) := dk_42 (dk_at dksX2_next_0 8 rfl rfl)
theorem dX2_next_9 : decode cX2_next 9 = .ok (.getfield 189, 3) := dk_180 0 189 (dk_at dksX2_next_0 9 rfl rfl)
theorem dX2_next_12 : decode cX2_next 12 = .ok (.aload_n 0, 1) := dk_42 (dk_at dksX2_next_0 12 rfl rfl)
theorem dX2_next_13 : decode cX2_next 13 = .ok (.getfield 175, 3) := dk_180 0 175 (dk_at dksX2_next_0 13 rfl rfl)
theorem dX2_next_16 : decode cX2_next 16 = .ok (.if_icmp .ge 44, 3) := dk_162 0 44 (dk_at dksX2_next_0 16 rfl rfl)
theorem dX2_next_19 : decode cX2_next 19 = .ok (.aload_n 0, 1) := dk_42 (dk_at dksX2_next_0 19 rfl rfl)
theorem dX2_next_20 : decode cX2_next 20 = .ok (.getfield 9, 3) := dk_180 0 9 (dk_at dksX2_next_0 20 rfl rfl)
theorem dX2_next_23 : decode cX2_next 23 = .ok (.aload_n 0, 1) := dk_42 (dk_at dksX2_next_0 23 rfl rfl)
theorem dX2_next_24 : decode cX2_next 24 = .ok (.getfield 189, 3) := dk_180 0 189 (dk_at dksX2_next_1 0 rfl rfl)
theorem dX2_next_27 : decode cX2_next 27 = .ok (.baload, 1) := dk_51 (dk_at dksX2_next_1 3 rfl rfl)
theorem dX2_next_28 : decode cX2_next 28 = .ok (.bipush 32, 2) := dk_16 32 (dk_at dksX2_next_1 4 rfl rfl)
theorem dX2_next_30 : decode cX2_next 30 = .ok (.if_icmp .eq 17, 3) := dk_159 0 17 (dk_at dksX2_next_1 6 rfl rfl)
theorem dX2_next_33 : decode cX2_next 33 = .ok (.aload_n 0, 1) := dk_42 (dk_at dksX2_next_1 9 rfl rfl)
theorem dX2_next_34 : decode cX2_next 34 = .ok (.getfield 9, 3) := dk_180 0 9 (dk_at dksX2_next_1 10 rfl rfl)
theorem dX2_next_37 : decode cX2_next 37 = .ok (.aload_n 0, 1) := dk_42 (dk_at dksX2_next_1 13 rfl rfl)
theorem dX2_next_38 : decode cX2_next 38 = .ok (.getfield 189, 3) := dk_180 0 189 (dk_at dksX2_next_1 14 rfl rfl)
theorem dX2_next_41 : decode cX2_next 41 = .ok (.baload, 1) := dk_51 (dk_at dksX2_next_1 17 rfl rfl)
theorem dX2_next_42 : decode cX2_next 42 = .ok (.bipush 10, 2) := dk_16 10 (dk_at dksX2_next_1 18 rfl rfl)
theorem dX2_next_44 : decode cX2_next 44 = .ok (.if_icmp .ne 16, 3) := dk_160 0 16 (dk_at dksX2_next_1 20 rfl rfl)
theorem dX2_next_47 : decode cX2_next 47 = .ok (.aload_n 0, 1) := dk_42 (dk_at dksX2_next_1 23 rfl rfl)
theorem dX2_next_48 : decode cX2_next 48 = .ok (.dup, 1) := dk_89 (dk_at dksX2_next_2 0 rfl rfl)
theorem dX2_next_49 : decode cX2_next 49 = .ok (.getfield 189, 3) := dk_180 0 189 (dk_at dksX2_next_2 1 rfl rfl)
theorem dX2_next_52 : decode cX2_next 52 = .ok (.iconst 1, 1) := dk_4 (dk_at dksX2_next_2 4 rfl rfl)
theorem dX2_next_53 : decode cX2_next 53 = .ok (.iadd, 1) := dk_96 (dk_at dksX2_next_2 5 rfl rfl)
theorem dX2_next_54 : decode cX2_next 54 = .ok (.putfield 189, 3) := dk_181 0 189 (dk_at dksX2_next_2 6 rfl rfl)
theorem dX2_next_57 : decode cX2_next 57 = .ok (.goto (-49), 3) := dk_167 255 207 (dk_at dksX2_next_2 9 rfl rfl)
theorem dX2_next_60 : decode cX2_next 60 = .ok (.aload_n 0, 1) := dk_42 (dk_at dksX2_next_2 12 rfl rfl)
theorem dX2_next_61 : decode cX2_next 61 = .ok (.aload_n 0, 1) := dk_42 (dk_at dksX2_next_2 13 rfl rfl)
theorem dX2_next_62 : decode cX2_next 62 = .ok (.getfield 189, 3) := dk_180 0 189 (dk_at dksX2_next_2 14 rfl rfl)
theorem dX2_next_65 : decode cX2_next 65 = .ok (.putfield 186, 3) := dk_181 0 186 (dk_at dksX2_next_2 17 rfl rfl)
theorem dX2_next_68 : decode cX2_next 68 = .ok (.aload_n 0, 1) := dk_42 (dk_at dksX2_next_2 20 rfl rfl)
theorem dX2_next_69 : decode cX2_next 69 = .ok (.aload_n 0, 1) := dk_42 (dk_at dksX2_next_2 21 rfl rfl)
theorem dX2_next_70 : decode cX2_next 70 = .ok (.getfield 189, 3) := dk_180 0 189 (dk_at dksX2_next_3 0 rfl rfl)
theorem dX2_next_73 : decode cX2_next 73 = .ok (.bipush 97, 2) := dk_16 97 (dk_at dksX2_next_3 3 rfl rfl)
theorem dX2_next_75 : decode cX2_next 75 = .ok (.bipush 122, 2) := dk_16 122 (dk_at dksX2_next_3 5 rfl rfl)
theorem dX2_next_77 : decode cX2_next 77 = .ok (.invokevirtual 192, 3) := dk_182 0 192 (dk_at dksX2_next_3 7 rfl rfl)
theorem dX2_next_80 : decode cX2_next 80 = .ok (.ifCond .eq 31, 3) := dk_153 0 31 (dk_at dksX2_next_3 10 rfl rfl)
theorem dX2_next_83 : decode cX2_next 83 = .ok (.aload_n 0, 1) := dk_42 (dk_at dksX2_next_3 13 rfl rfl)
theorem dX2_next_84 : decode cX2_next 84 = .ok (.aload_n 0, 1) := dk_42 (dk_at dksX2_next_3 14 rfl rfl)
theorem dX2_next_85 : decode cX2_next 85 = .ok (.getfield 186, 3) := dk_180 0 186 (dk_at dksX2_next_3 15 rfl rfl)
theorem dX2_next_88 : decode cX2_next 88 = .ok (.bipush 97, 2) := dk_16 97 (dk_at dksX2_next_3 18 rfl rfl)
theorem dX2_next_90 : decode cX2_next 90 = .ok (.bipush 122, 2) := dk_16 122 (dk_at dksX2_next_3 20 rfl rfl)
theorem dX2_next_92 : decode cX2_next 92 = .ok (.invokevirtual 192, 3) := dk_182 0 192 (dk_at dksX2_next_4 0 rfl rfl)
theorem dX2_next_95 : decode cX2_next 95 = .ok (.ifCond .eq 80, 3) := dk_153 0 80 (dk_at dksX2_next_4 3 rfl rfl)
theorem dX2_next_98 : decode cX2_next 98 = .ok (.aload_n 0, 1) := dk_42 (dk_at dksX2_next_4 6 rfl rfl)
theorem dX2_next_99 : decode cX2_next 99 = .ok (.dup, 1) := dk_89 (dk_at dksX2_next_4 7 rfl rfl)
theorem dX2_next_100 : decode cX2_next 100 = .ok (.getfield 186, 3) := dk_180 0 186 (dk_at dksX2_next_4 8 rfl rfl)
theorem dX2_next_103 : decode cX2_next 103 = .ok (.iconst 1, 1) := dk_4 (dk_at dksX2_next_4 11 rfl rfl)
theorem dX2_next_104 : decode cX2_next 104 = .ok (.iadd, 1) := dk_96 (dk_at dksX2_next_4 12 rfl rfl)
theorem dX2_next_105 : decode cX2_next 105 = .ok (.putfield 186, 3) := dk_181 0 186 (dk_at dksX2_next_4 13 rfl rfl)
theorem dX2_next_108 : decode cX2_next 108 = .ok (.goto (-25), 3) := dk_167 255 231 (dk_at dksX2_next_4 16 rfl rfl)
theorem dX2_next_111 : decode cX2_next 111 = .ok (.aload_n 0, 1) := dk_42 (dk_at dksX2_next_4 19 rfl rfl)
theorem dX2_next_112 : decode cX2_next 112 = .ok (.aload_n 0, 1) := dk_42 (dk_at dksX2_next_4 20 rfl rfl)
theorem dX2_next_113 : decode cX2_next 113 = .ok (.getfield 189, 3) := dk_180 0 189 (dk_at dksX2_next_4 21 rfl rfl)
theorem dX2_next_116 : decode cX2_next 116 = .ok (.bipush 48, 2) := dk_16 48 (dk_at dksX2_next_5 0 rfl rfl)
theorem dX2_next_118 : decode cX2_next 118 = .ok (.bipush 57, 2) := dk_16 57 (dk_at dksX2_next_5 2 rfl rfl)
theorem dX2_next_120 : decode cX2_next 120 = .ok (.invokevirtual 192, 3) := dk_182 0 192 (dk_at dksX2_next_5 4 rfl rfl)
theorem dX2_next_123 : decode cX2_next 123 = .ok (.ifCond .eq 31, 3) := dk_153 0 31 (dk_at dksX2_next_5 7 rfl rfl)
theorem dX2_next_126 : decode cX2_next 126 = .ok (.aload_n 0, 1) := dk_42 (dk_at dksX2_next_5 10 rfl rfl)
theorem dX2_next_127 : decode cX2_next 127 = .ok (.aload_n 0, 1) := dk_42 (dk_at dksX2_next_5 11 rfl rfl)
theorem dX2_next_128 : decode cX2_next 128 = .ok (.getfield 186, 3) := dk_180 0 186 (dk_at dksX2_next_5 12 rfl rfl)
theorem dX2_next_131 : decode cX2_next 131 = .ok (.bipush 48, 2) := dk_16 48 (dk_at dksX2_next_5 15 rfl rfl)
theorem dX2_next_133 : decode cX2_next 133 = .ok (.bipush 57, 2) := dk_16 57 (dk_at dksX2_next_5 17 rfl rfl)
theorem dX2_next_135 : decode cX2_next 135 = .ok (.invokevirtual 192, 3) := dk_182 0 192 (dk_at dksX2_next_5 19 rfl rfl)
theorem dX2_next_138 : decode cX2_next 138 = .ok (.ifCond .eq 37, 3) := dk_153 0 37 (dk_at dksX2_next_6 0 rfl rfl)
theorem dX2_next_141 : decode cX2_next 141 = .ok (.aload_n 0, 1) := dk_42 (dk_at dksX2_next_6 3 rfl rfl)
theorem dX2_next_142 : decode cX2_next 142 = .ok (.dup, 1) := dk_89 (dk_at dksX2_next_6 4 rfl rfl)
theorem dX2_next_143 : decode cX2_next 143 = .ok (.getfield 186, 3) := dk_180 0 186 (dk_at dksX2_next_6 5 rfl rfl)
theorem dX2_next_146 : decode cX2_next 146 = .ok (.iconst 1, 1) := dk_4 (dk_at dksX2_next_6 8 rfl rfl)
theorem dX2_next_147 : decode cX2_next 147 = .ok (.iadd, 1) := dk_96 (dk_at dksX2_next_6 9 rfl rfl)
theorem dX2_next_148 : decode cX2_next 148 = .ok (.putfield 186, 3) := dk_181 0 186 (dk_at dksX2_next_6 10 rfl rfl)
theorem dX2_next_151 : decode cX2_next 151 = .ok (.goto (-25), 3) := dk_167 255 231 (dk_at dksX2_next_6 13 rfl rfl)
theorem dX2_next_154 : decode cX2_next 154 = .ok (.aload_n 0, 1) := dk_42 (dk_at dksX2_next_6 16 rfl rfl)
theorem dX2_next_155 : decode cX2_next 155 = .ok (.getfield 189, 3) := dk_180 0 189 (dk_at dksX2_next_6 17 rfl rfl)
theorem dX2_next_158 : decode cX2_next 158 = .ok (.aload_n 0, 1) := dk_42 (dk_at dksX2_next_6 20 rfl rfl)
theorem dX2_next_159 : decode cX2_next 159 = .ok (.getfield 175, 3) := dk_180 0 175 (dk_at dksX2_next_6 21 rfl rfl)
theorem dX2_next_162 : decode cX2_next 162 = .ok (.if_icmp .ge 13, 3) := dk_162 0 13 (dk_at dksX2_next_7 0 rfl rfl)
theorem dX2_next_165 : decode cX2_next 165 = .ok (.aload_n 0, 1) := dk_42 (dk_at dksX2_next_7 3 rfl rfl)
theorem dX2_next_166 : decode cX2_next 166 = .ok (.dup, 1) := dk_89 (dk_at dksX2_next_7 4 rfl rfl)
theorem dX2_next_167 : decode cX2_next 167 = .ok (.getfield 186, 3) := dk_180 0 186 (dk_at dksX2_next_7 5 rfl rfl)
theorem dX2_next_170 : decode cX2_next 170 = .ok (.iconst 1, 1) := dk_4 (dk_at dksX2_next_7 8 rfl rfl)
theorem dX2_next_171 : decode cX2_next 171 = .ok (.iadd, 1) := dk_96 (dk_at dksX2_next_7 9 rfl rfl)
theorem dX2_next_172 : decode cX2_next 172 = .ok (.putfield 186, 3) := dk_181 0 186 (dk_at dksX2_next_7 10 rfl rfl)
theorem dX2_next_175 : decode cX2_next 175 = .ok (.return_, 1) := dk_177 (dk_at dksX2_next_7 13 rfl rfl)
abbrev cX2_between : ByteArray := prog_26_method_6_code
def yX2_between : MethodName := ⟨RX2, "between", "(III)Z"⟩
def dkwX2_between_1 : List UInt8 := [29, 163, 0, 7, 4, 167, 0, 4, 3, 172]
abbrev dktX2_between_1 : List UInt8 := dkwX2_between_1 ++ []
def dkwX2_between_0 : List UInt8 := [27, 42, 180, 0, 175, 162, 0, 27, 42, 180, 0, 9, 27, 51, 28, 161, 0, 17, 42, 180, 0, 9, 27, 51]
abbrev dktX2_between_0 : List UInt8 := dkwX2_between_0 ++ dktX2_between_1
theorem dksX2_between_0 : cX2_between.data.toList.drop 0 = dktX2_between_0 := by decide +kernel
theorem dksX2_between_1 : cX2_between.data.toList.drop 24 = dktX2_between_1 := dk_seg dksX2_between_0 24 rfl rfl
theorem dX2_between_0 : decode cX2_between 0 = .ok (.iload_n 1, 1) := dk_27 (dk_at dksX2_between_0 0 rfl rfl)
theorem dX2_between_1 : decode cX2_between 1 = .ok (.aload_n 0, 1) := dk_42 (dk_at dksX2_between_0 1 rfl rfl)
theorem dX2_between_2 : decode cX2_between 2 = .ok (.getfield 175, 3) := dk_180 0 175 (dk_at dksX2_between_0 2 rfl rfl)
theorem dX2_between_5 : decode cX2_between 5 = .ok (.if_icmp .ge 27, 3) := dk_162 0 27 (dk_at dksX2_between_0 5 rfl rfl)
theorem dX2_between_8 : decode cX2_between 8 = .ok (.aload_n 0, 1) := dk_42 (dk_at dksX2_between_0 8 rfl rfl)
theorem dX2_between_9 : decode cX2_between 9 = .ok (.getfield 9, 3) := dk_180 0 9 (dk_at dksX2_between_0 9 rfl rfl)
theorem dX2_between_12 : decode cX2_between 12 = .ok (.iload_n 1, 1) := dk_27 (dk_at dksX2_between_0 12 rfl rfl)
theorem dX2_between_13 : decode cX2_between 13 = .ok (.baload, 1) := dk_51 (dk_at dksX2_between_0 13 rfl rfl)
theorem dX2_between_14 : decode cX2_between 14 = .ok (.iload_n 2, 1) := dk_28 (dk_at dksX2_between_0 14 rfl rfl)
theorem dX2_between_15 : decode cX2_between 15 = .ok (.if_icmp .lt 17, 3) := dk_161 0 17 (dk_at dksX2_between_0 15 rfl rfl)
theorem dX2_between_18 : decode cX2_between 18 = .ok (.aload_n 0, 1) := dk_42 (dk_at dksX2_between_0 18 rfl rfl)
theorem dX2_between_19 : decode cX2_between 19 = .ok (.getfield 9, 3) := dk_180 0 9 (dk_at dksX2_between_0 19 rfl rfl)
theorem dX2_between_22 : decode cX2_between 22 = .ok (.iload_n 1, 1) := dk_27 (dk_at dksX2_between_0 22 rfl rfl)
theorem dX2_between_23 : decode cX2_between 23 = .ok (.baload, 1) := dk_51 (dk_at dksX2_between_0 23 rfl rfl)
theorem dX2_between_24 : decode cX2_between 24 = .ok (.iload_n 3, 1) := dk_29 (dk_at dksX2_between_1 0 rfl rfl)
theorem dX2_between_25 : decode cX2_between 25 = .ok (.if_icmp .gt 7, 3) := dk_163 0 7 (dk_at dksX2_between_1 1 rfl rfl)
theorem dX2_between_28 : decode cX2_between 28 = .ok (.iconst 1, 1) := dk_4 (dk_at dksX2_between_1 4 rfl rfl)
theorem dX2_between_29 : decode cX2_between 29 = .ok (.goto 4, 3) := dk_167 0 4 (dk_at dksX2_between_1 5 rfl rfl)
theorem dX2_between_32 : decode cX2_between 32 = .ok (.iconst 0, 1) := dk_3 (dk_at dksX2_between_1 8 rfl rfl)
theorem dX2_between_33 : decode cX2_between 33 = .ok (.ireturn, 1) := dk_172 (dk_at dksX2_between_1 9 rfl rfl)
abbrev cX2_line : ByteArray := prog_26_method_20_code
def yX2_line : MethodName := ⟨RX2, "line", "()Z"⟩
def dkwX2_line_7 : List UInt8 := [167, 0, 4, 3, 172]
abbrev dktX2_line_7 : List UInt8 := dkwX2_line_7 ++ []
def dkwX2_line_6 : List UInt8 := [162, 0, 7, 4, 167, 0, 4, 3, 182, 0, 210, 153, 0, 15, 42, 27, 182, 1, 3, 153, 0, 7, 4]
abbrev dktX2_line_6 : List UInt8 := dkwX2_line_6 ++ dktX2_line_7
def dkwX2_line_5 : List UInt8 := [153, 0, 7, 5, 167, 0, 4, 2, 60, 42, 27, 2, 159, 0, 18, 42, 180, 0, 51, 4, 46, 16, 12]
abbrev dktX2_line_5 : List UInt8 := dkwX2_line_5 ++ dktX2_line_6
def dkwX2_line_4 : List UInt8 := [153, 0, 7, 3, 167, 0, 28, 42, 7, 182, 0, 219, 153, 0, 7, 4, 167, 0, 16, 42, 8, 182, 0, 219]
abbrev dktX2_line_4 : List UInt8 := dkwX2_line_4 ++ dktX2_line_5
def dkwX2_line_3 : List UInt8 := [182, 0, 210, 153, 0, 14, 42, 182, 1, 0, 153, 0, 7, 4, 167, 0, 4, 3, 172, 42, 6, 182, 0, 219]
abbrev dktX2_line_3 : List UInt8 := dkwX2_line_3 ++ dktX2_line_4
def dkwX2_line_2 : List UInt8 := [182, 0, 219, 153, 0, 38, 42, 42, 180, 0, 48, 4, 46, 8, 162, 0, 7, 4, 167, 0, 4, 3]
abbrev dktX2_line_2 : List UInt8 := dkwX2_line_2 ++ dktX2_line_3
def dkwX2_line_1 : List UInt8 := [3, 182, 0, 210, 153, 0, 14, 42, 182, 0, 253, 153, 0, 7, 4, 167, 0, 4, 3, 172, 42, 4]
abbrev dktX2_line_1 : List UInt8 := dkwX2_line_1 ++ dktX2_line_2
def dkwX2_line_0 : List UInt8 := [42, 3, 182, 0, 219, 153, 0, 39, 42, 42, 180, 0, 44, 4, 46, 16, 10, 162, 0, 7, 4, 167, 0, 4]
abbrev dktX2_line_0 : List UInt8 := dkwX2_line_0 ++ dktX2_line_1
theorem dksX2_line_0 : cX2_line.data.toList.drop 0 = dktX2_line_0 := by decide +kernel
theorem dksX2_line_1 : cX2_line.data.toList.drop 24 = dktX2_line_1 := dk_seg dksX2_line_0 24 rfl rfl
theorem dksX2_line_2 : cX2_line.data.toList.drop 46 = dktX2_line_2 := dk_seg dksX2_line_1 22 rfl rfl
theorem dksX2_line_3 : cX2_line.data.toList.drop 68 = dktX2_line_3 := dk_seg dksX2_line_2 22 rfl rfl
theorem dksX2_line_4 : cX2_line.data.toList.drop 92 = dktX2_line_4 := dk_seg dksX2_line_3 24 rfl rfl
theorem dksX2_line_5 : cX2_line.data.toList.drop 116 = dktX2_line_5 := dk_seg dksX2_line_4 24 rfl rfl
theorem dksX2_line_6 : cX2_line.data.toList.drop 139 = dktX2_line_6 := dk_seg dksX2_line_5 23 rfl rfl
theorem dksX2_line_7 : cX2_line.data.toList.drop 162 = dktX2_line_7 := dk_seg dksX2_line_6 23 rfl rfl
theorem dX2_line_0 : decode cX2_line 0 = .ok (.aload_n 0, 1) := dk_42 (dk_at dksX2_line_0 0 rfl rfl)
theorem dX2_line_1 : decode cX2_line 1 = .ok (.iconst 0, 1) := dk_3 (dk_at dksX2_line_0 1 rfl rfl)
theorem dX2_line_2 : decode cX2_line 2 = .ok (.invokevirtual 219, 3) := dk_182 0 219 (dk_at dksX2_line_0 2 rfl rfl)
theorem dX2_line_5 : decode cX2_line 5 = .ok (.ifCond .eq 39, 3) := dk_153 0 39 (dk_at dksX2_line_0 5 rfl rfl)
theorem dX2_line_8 : decode cX2_line 8 = .ok (.aload_n 0, 1) := dk_42 (dk_at dksX2_line_0 8 rfl rfl)
theorem dX2_line_9 : decode cX2_line 9 = .ok (.aload_n 0, 1) := dk_42 (dk_at dksX2_line_0 9 rfl rfl)
theorem dX2_line_10 : decode cX2_line 10 = .ok (.getfield 44, 3) := dk_180 0 44 (dk_at dksX2_line_0 10 rfl rfl)
theorem dX2_line_13 : decode cX2_line 13 = .ok (.iconst 1, 1) := dk_4 (dk_at dksX2_line_0 13 rfl rfl)
theorem dX2_line_14 : decode cX2_line 14 = .ok (.iaload, 1) := dk_46 (dk_at dksX2_line_0 14 rfl rfl)
theorem dX2_line_15 : decode cX2_line 15 = .ok (.bipush 10, 2) := dk_16 10 (dk_at dksX2_line_0 15 rfl rfl)
theorem dX2_line_17 : decode cX2_line 17 = .ok (.if_icmp .ge 7, 3) := dk_162 0 7 (dk_at dksX2_line_0 17 rfl rfl)
theorem dX2_line_20 : decode cX2_line 20 = .ok (.iconst 1, 1) := dk_4 (dk_at dksX2_line_0 20 rfl rfl)
theorem dX2_line_21 : decode cX2_line 21 = .ok (.goto 4, 3) := dk_167 0 4 (dk_at dksX2_line_0 21 rfl rfl)
theorem dX2_line_24 : decode cX2_line 24 = .ok (.iconst 0, 1) := dk_3 (dk_at dksX2_line_1 0 rfl rfl)
theorem dX2_line_25 : decode cX2_line 25 = .ok (.invokevirtual 210, 3) := dk_182 0 210 (dk_at dksX2_line_1 1 rfl rfl)
theorem dX2_line_28 : decode cX2_line 28 = .ok (.ifCond .eq 14, 3) := dk_153 0 14 (dk_at dksX2_line_1 4 rfl rfl)
theorem dX2_line_31 : decode cX2_line 31 = .ok (.aload_n 0, 1) := dk_42 (dk_at dksX2_line_1 7 rfl rfl)
theorem dX2_line_32 : decode cX2_line 32 = .ok (.invokevirtual 253, 3) := dk_182 0 253 (dk_at dksX2_line_1 8 rfl rfl)
theorem dX2_line_35 : decode cX2_line 35 = .ok (.ifCond .eq 7, 3) := dk_153 0 7 (dk_at dksX2_line_1 11 rfl rfl)
theorem dX2_line_38 : decode cX2_line 38 = .ok (.iconst 1, 1) := dk_4 (dk_at dksX2_line_1 14 rfl rfl)
theorem dX2_line_39 : decode cX2_line 39 = .ok (.goto 4, 3) := dk_167 0 4 (dk_at dksX2_line_1 15 rfl rfl)
theorem dX2_line_42 : decode cX2_line 42 = .ok (.iconst 0, 1) := dk_3 (dk_at dksX2_line_1 18 rfl rfl)
theorem dX2_line_43 : decode cX2_line 43 = .ok (.ireturn, 1) := dk_172 (dk_at dksX2_line_1 19 rfl rfl)
theorem dX2_line_44 : decode cX2_line 44 = .ok (.aload_n 0, 1) := dk_42 (dk_at dksX2_line_1 20 rfl rfl)
theorem dX2_line_45 : decode cX2_line 45 = .ok (.iconst 1, 1) := dk_4 (dk_at dksX2_line_1 21 rfl rfl)
theorem dX2_line_46 : decode cX2_line 46 = .ok (.invokevirtual 219, 3) := dk_182 0 219 (dk_at dksX2_line_2 0 rfl rfl)
theorem dX2_line_49 : decode cX2_line 49 = .ok (.ifCond .eq 38, 3) := dk_153 0 38 (dk_at dksX2_line_2 3 rfl rfl)
theorem dX2_line_52 : decode cX2_line 52 = .ok (.aload_n 0, 1) := dk_42 (dk_at dksX2_line_2 6 rfl rfl)
theorem dX2_line_53 : decode cX2_line 53 = .ok (.aload_n 0, 1) := dk_42 (dk_at dksX2_line_2 7 rfl rfl)
theorem dX2_line_54 : decode cX2_line 54 = .ok (.getfield 48, 3) := dk_180 0 48 (dk_at dksX2_line_2 8 rfl rfl)
theorem dX2_line_57 : decode cX2_line 57 = .ok (.iconst 1, 1) := dk_4 (dk_at dksX2_line_2 11 rfl rfl)
theorem dX2_line_58 : decode cX2_line 58 = .ok (.iaload, 1) := dk_46 (dk_at dksX2_line_2 12 rfl rfl)
theorem dX2_line_59 : decode cX2_line 59 = .ok (.iconst 5, 1) := dk_8 (dk_at dksX2_line_2 13 rfl rfl)
theorem dX2_line_60 : decode cX2_line 60 = .ok (.if_icmp .ge 7, 3) := dk_162 0 7 (dk_at dksX2_line_2 14 rfl rfl)
theorem dX2_line_63 : decode cX2_line 63 = .ok (.iconst 1, 1) := dk_4 (dk_at dksX2_line_2 17 rfl rfl)
theorem dX2_line_64 : decode cX2_line 64 = .ok (.goto 4, 3) := dk_167 0 4 (dk_at dksX2_line_2 18 rfl rfl)
theorem dX2_line_67 : decode cX2_line 67 = .ok (.iconst 0, 1) := dk_3 (dk_at dksX2_line_2 21 rfl rfl)
theorem dX2_line_68 : decode cX2_line 68 = .ok (.invokevirtual 210, 3) := dk_182 0 210 (dk_at dksX2_line_3 0 rfl rfl)
theorem dX2_line_71 : decode cX2_line 71 = .ok (.ifCond .eq 14, 3) := dk_153 0 14 (dk_at dksX2_line_3 3 rfl rfl)
theorem dX2_line_74 : decode cX2_line 74 = .ok (.aload_n 0, 1) := dk_42 (dk_at dksX2_line_3 6 rfl rfl)
theorem dX2_line_75 : decode cX2_line 75 = .ok (.invokevirtual 256, 3) := dk_182 1 0 (dk_at dksX2_line_3 7 rfl rfl)
theorem dX2_line_78 : decode cX2_line 78 = .ok (.ifCond .eq 7, 3) := dk_153 0 7 (dk_at dksX2_line_3 10 rfl rfl)
theorem dX2_line_81 : decode cX2_line 81 = .ok (.iconst 1, 1) := dk_4 (dk_at dksX2_line_3 13 rfl rfl)
theorem dX2_line_82 : decode cX2_line 82 = .ok (.goto 4, 3) := dk_167 0 4 (dk_at dksX2_line_3 14 rfl rfl)
theorem dX2_line_85 : decode cX2_line 85 = .ok (.iconst 0, 1) := dk_3 (dk_at dksX2_line_3 17 rfl rfl)
theorem dX2_line_86 : decode cX2_line 86 = .ok (.ireturn, 1) := dk_172 (dk_at dksX2_line_3 18 rfl rfl)
theorem dX2_line_87 : decode cX2_line 87 = .ok (.aload_n 0, 1) := dk_42 (dk_at dksX2_line_3 19 rfl rfl)
theorem dX2_line_88 : decode cX2_line 88 = .ok (.iconst 3, 1) := dk_6 (dk_at dksX2_line_3 20 rfl rfl)
theorem dX2_line_89 : decode cX2_line 89 = .ok (.invokevirtual 219, 3) := dk_182 0 219 (dk_at dksX2_line_3 21 rfl rfl)
theorem dX2_line_92 : decode cX2_line 92 = .ok (.ifCond .eq 7, 3) := dk_153 0 7 (dk_at dksX2_line_4 0 rfl rfl)
theorem dX2_line_95 : decode cX2_line 95 = .ok (.iconst 0, 1) := dk_3 (dk_at dksX2_line_4 3 rfl rfl)
theorem dX2_line_96 : decode cX2_line 96 = .ok (.goto 28, 3) := dk_167 0 28 (dk_at dksX2_line_4 4 rfl rfl)
theorem dX2_line_99 : decode cX2_line 99 = .ok (.aload_n 0, 1) := dk_42 (dk_at dksX2_line_4 7 rfl rfl)
theorem dX2_line_100 : decode cX2_line 100 = .ok (.iconst 4, 1) := dk_7 (dk_at dksX2_line_4 8 rfl rfl)
theorem dX2_line_101 : decode cX2_line 101 = .ok (.invokevirtual 219, 3) := dk_182 0 219 (dk_at dksX2_line_4 9 rfl rfl)
theorem dX2_line_104 : decode cX2_line 104 = .ok (.ifCond .eq 7, 3) := dk_153 0 7 (dk_at dksX2_line_4 12 rfl rfl)
theorem dX2_line_107 : decode cX2_line 107 = .ok (.iconst 1, 1) := dk_4 (dk_at dksX2_line_4 15 rfl rfl)
theorem dX2_line_108 : decode cX2_line 108 = .ok (.goto 16, 3) := dk_167 0 16 (dk_at dksX2_line_4 16 rfl rfl)
theorem dX2_line_111 : decode cX2_line 111 = .ok (.aload_n 0, 1) := dk_42 (dk_at dksX2_line_4 19 rfl rfl)
theorem dX2_line_112 : decode cX2_line 112 = .ok (.iconst 5, 1) := dk_8 (dk_at dksX2_line_4 20 rfl rfl)
theorem dX2_line_113 : decode cX2_line 113 = .ok (.invokevirtual 219, 3) := dk_182 0 219 (dk_at dksX2_line_4 21 rfl rfl)
theorem dX2_line_116 : decode cX2_line 116 = .ok (.ifCond .eq 7, 3) := dk_153 0 7 (dk_at dksX2_line_5 0 rfl rfl)
theorem dX2_line_119 : decode cX2_line 119 = .ok (.iconst 2, 1) := dk_5 (dk_at dksX2_line_5 3 rfl rfl)
theorem dX2_line_120 : decode cX2_line 120 = .ok (.goto 4, 3) := dk_167 0 4 (dk_at dksX2_line_5 4 rfl rfl)
theorem dX2_line_123 : decode cX2_line 123 = .ok (.iconst (-1), 1) := dk_2 (dk_at dksX2_line_5 7 rfl rfl)
theorem dX2_line_124 : decode cX2_line 124 = .ok (.istore_n 1, 1) := dk_60 (dk_at dksX2_line_5 8 rfl rfl)
theorem dX2_line_125 : decode cX2_line 125 = .ok (.aload_n 0, 1) := dk_42 (dk_at dksX2_line_5 9 rfl rfl)
theorem dX2_line_126 : decode cX2_line 126 = .ok (.iload_n 1, 1) := dk_27 (dk_at dksX2_line_5 10 rfl rfl)
theorem dX2_line_127 : decode cX2_line 127 = .ok (.iconst (-1), 1) := dk_2 (dk_at dksX2_line_5 11 rfl rfl)
theorem dX2_line_128 : decode cX2_line 128 = .ok (.if_icmp .eq 18, 3) := dk_159 0 18 (dk_at dksX2_line_5 12 rfl rfl)
theorem dX2_line_131 : decode cX2_line 131 = .ok (.aload_n 0, 1) := dk_42 (dk_at dksX2_line_5 15 rfl rfl)
theorem dX2_line_132 : decode cX2_line 132 = .ok (.getfield 51, 3) := dk_180 0 51 (dk_at dksX2_line_5 16 rfl rfl)
theorem dX2_line_135 : decode cX2_line 135 = .ok (.iconst 1, 1) := dk_4 (dk_at dksX2_line_5 19 rfl rfl)
theorem dX2_line_136 : decode cX2_line 136 = .ok (.iaload, 1) := dk_46 (dk_at dksX2_line_5 20 rfl rfl)
theorem dX2_line_137 : decode cX2_line 137 = .ok (.bipush 12, 2) := dk_16 12 (dk_at dksX2_line_5 21 rfl rfl)
theorem dX2_line_139 : decode cX2_line 139 = .ok (.if_icmp .ge 7, 3) := dk_162 0 7 (dk_at dksX2_line_6 0 rfl rfl)
theorem dX2_line_142 : decode cX2_line 142 = .ok (.iconst 1, 1) := dk_4 (dk_at dksX2_line_6 3 rfl rfl)
theorem dX2_line_143 : decode cX2_line 143 = .ok (.goto 4, 3) := dk_167 0 4 (dk_at dksX2_line_6 4 rfl rfl)
theorem dX2_line_146 : decode cX2_line 146 = .ok (.iconst 0, 1) := dk_3 (dk_at dksX2_line_6 7 rfl rfl)
theorem dX2_line_147 : decode cX2_line 147 = .ok (.invokevirtual 210, 3) := dk_182 0 210 (dk_at dksX2_line_6 8 rfl rfl)
theorem dX2_line_150 : decode cX2_line 150 = .ok (.ifCond .eq 15, 3) := dk_153 0 15 (dk_at dksX2_line_6 11 rfl rfl)
theorem dX2_line_153 : decode cX2_line 153 = .ok (.aload_n 0, 1) := dk_42 (dk_at dksX2_line_6 14 rfl rfl)
theorem dX2_line_154 : decode cX2_line 154 = .ok (.iload_n 1, 1) := dk_27 (dk_at dksX2_line_6 15 rfl rfl)
theorem dX2_line_155 : decode cX2_line 155 = .ok (.invokevirtual 259, 3) := dk_182 1 3 (dk_at dksX2_line_6 16 rfl rfl)
theorem dX2_line_158 : decode cX2_line 158 = .ok (.ifCond .eq 7, 3) := dk_153 0 7 (dk_at dksX2_line_6 19 rfl rfl)
theorem dX2_line_161 : decode cX2_line 161 = .ok (.iconst 1, 1) := dk_4 (dk_at dksX2_line_6 22 rfl rfl)
theorem dX2_line_162 : decode cX2_line 162 = .ok (.goto 4, 3) := dk_167 0 4 (dk_at dksX2_line_7 0 rfl rfl)
theorem dX2_line_165 : decode cX2_line 165 = .ok (.iconst 0, 1) := dk_3 (dk_at dksX2_line_7 3 rfl rfl)
theorem dX2_line_166 : decode cX2_line 166 = .ok (.ireturn, 1) := dk_172 (dk_at dksX2_line_7 4 rfl rfl)
abbrev cX2_isWord : ByteArray := prog_26_method_9_code
def yX2_isWord : MethodName := ⟨RX2, "isWord", "(I)Z"⟩
def dkwX2_isWord_3 : List UInt8 := [172, 132, 2, 1, 167, 255, 219, 4, 172]
abbrev dktX2_isWord_3 : List UInt8 := dkwX2_isWord_3 ++ []
def dkwX2_isWord_2 : List UInt8 := [180, 0, 9, 28, 51, 42, 180, 0, 73, 27, 50, 28, 42, 180, 0, 189, 100, 182, 0, 206, 159, 0, 5, 3]
abbrev dktX2_isWord_2 : List UInt8 := dkwX2_isWord_2 ++ dktX2_isWord_3
def dkwX2_isWord_1 : List UInt8 := [27, 50, 182, 0, 202, 159, 0, 5, 3, 172, 42, 180, 0, 189, 61, 28, 42, 180, 0, 186, 162, 0, 35, 42]
abbrev dktX2_isWord_1 : List UInt8 := dkwX2_isWord_1 ++ dktX2_isWord_2
def dkwX2_isWord_0 : List UInt8 := [42, 180, 0, 189, 42, 180, 0, 175, 159, 0, 24, 42, 180, 0, 186, 42, 180, 0, 189, 100, 42, 180, 0, 73]
abbrev dktX2_isWord_0 : List UInt8 := dkwX2_isWord_0 ++ dktX2_isWord_1
theorem dksX2_isWord_0 : cX2_isWord.data.toList.drop 0 = dktX2_isWord_0 := by decide +kernel
theorem dksX2_isWord_1 : cX2_isWord.data.toList.drop 24 = dktX2_isWord_1 := dk_seg dksX2_isWord_0 24 rfl rfl
theorem dksX2_isWord_2 : cX2_isWord.data.toList.drop 48 = dktX2_isWord_2 := dk_seg dksX2_isWord_1 24 rfl rfl
theorem dksX2_isWord_3 : cX2_isWord.data.toList.drop 72 = dktX2_isWord_3 := dk_seg dksX2_isWord_2 24 rfl rfl
theorem dX2_isWord_0 : decode cX2_isWord 0 = .ok (.aload_n 0, 1) := dk_42 (dk_at dksX2_isWord_0 0 rfl rfl)
theorem dX2_isWord_1 : decode cX2_isWord 1 = .ok (.getfield 189, 3) := dk_180 0 189 (dk_at dksX2_isWord_0 1 rfl rfl)
theorem dX2_isWord_4 : decode cX2_isWord 4 = .ok (.aload_n 0, 1) := dk_42 (dk_at dksX2_isWord_0 4 rfl rfl)
theorem dX2_isWord_5 : decode cX2_isWord 5 = .ok (.getfield 175, 3) := dk_180 0 175 (dk_at dksX2_isWord_0 5 rfl rfl)
theorem dX2_isWord_8 : decode cX2_isWord 8 = .ok (.if_icmp .eq 24, 3) := dk_159 0 24 (dk_at dksX2_isWord_0 8 rfl rfl)
theorem dX2_isWord_11 : decode cX2_isWord 11 = .ok (.aload_n 0, 1) := dk_42 (dk_at dksX2_isWord_0 11 rfl rfl)
theorem dX2_isWord_12 : decode cX2_isWord 12 = .ok (.getfield 186, 3) := dk_180 0 186 (dk_at dksX2_isWord_0 12 rfl rfl)
theorem dX2_isWord_15 : decode cX2_isWord 15 = .ok (.aload_n 0, 1) := dk_42 (dk_at dksX2_isWord_0 15 rfl rfl)
theorem dX2_isWord_16 : decode cX2_isWord 16 = .ok (.getfield 189, 3) := dk_180 0 189 (dk_at dksX2_isWord_0 16 rfl rfl)
theorem dX2_isWord_19 : decode cX2_isWord 19 = .ok (.isub, 1) := dk_100 (dk_at dksX2_isWord_0 19 rfl rfl)
theorem dX2_isWord_20 : decode cX2_isWord 20 = .ok (.aload_n 0, 1) := dk_42 (dk_at dksX2_isWord_0 20 rfl rfl)
theorem dX2_isWord_21 : decode cX2_isWord 21 = .ok (.getfield 73, 3) := dk_180 0 73 (dk_at dksX2_isWord_0 21 rfl rfl)
theorem dX2_isWord_24 : decode cX2_isWord 24 = .ok (.iload_n 1, 1) := dk_27 (dk_at dksX2_isWord_1 0 rfl rfl)
theorem dX2_isWord_25 : decode cX2_isWord 25 = .ok (.aaload, 1) := dk_50 (dk_at dksX2_isWord_1 1 rfl rfl)
theorem dX2_isWord_26 : decode cX2_isWord 26 = .ok (.invokevirtual 202, 3) := dk_182 0 202 (dk_at dksX2_isWord_1 2 rfl rfl)
theorem dX2_isWord_29 : decode cX2_isWord 29 = .ok (.if_icmp .eq 5, 3) := dk_159 0 5 (dk_at dksX2_isWord_1 5 rfl rfl)
theorem dX2_isWord_32 : decode cX2_isWord 32 = .ok (.iconst 0, 1) := dk_3 (dk_at dksX2_isWord_1 8 rfl rfl)
theorem dX2_isWord_33 : decode cX2_isWord 33 = .ok (.ireturn, 1) := dk_172 (dk_at dksX2_isWord_1 9 rfl rfl)
theorem dX2_isWord_34 : decode cX2_isWord 34 = .ok (.aload_n 0, 1) := dk_42 (dk_at dksX2_isWord_1 10 rfl rfl)
theorem dX2_isWord_35 : decode cX2_isWord 35 = .ok (.getfield 189, 3) := dk_180 0 189 (dk_at dksX2_isWord_1 11 rfl rfl)
theorem dX2_isWord_38 : decode cX2_isWord 38 = .ok (.istore_n 2, 1) := dk_61 (dk_at dksX2_isWord_1 14 rfl rfl)
theorem dX2_isWord_39 : decode cX2_isWord 39 = .ok (.iload_n 2, 1) := dk_28 (dk_at dksX2_isWord_1 15 rfl rfl)
theorem dX2_isWord_40 : decode cX2_isWord 40 = .ok (.aload_n 0, 1) := dk_42 (dk_at dksX2_isWord_1 16 rfl rfl)
theorem dX2_isWord_41 : decode cX2_isWord 41 = .ok (.getfield 186, 3) := dk_180 0 186 (dk_at dksX2_isWord_1 17 rfl rfl)
theorem dX2_isWord_44 : decode cX2_isWord 44 = .ok (.if_icmp .ge 35, 3) := dk_162 0 35 (dk_at dksX2_isWord_1 20 rfl rfl)
theorem dX2_isWord_47 : decode cX2_isWord 47 = .ok (.aload_n 0, 1) := dk_42 (dk_at dksX2_isWord_1 23 rfl rfl)
theorem dX2_isWord_48 : decode cX2_isWord 48 = .ok (.getfield 9, 3) := dk_180 0 9 (dk_at dksX2_isWord_2 0 rfl rfl)
theorem dX2_isWord_51 : decode cX2_isWord 51 = .ok (.iload_n 2, 1) := dk_28 (dk_at dksX2_isWord_2 3 rfl rfl)
theorem dX2_isWord_52 : decode cX2_isWord 52 = .ok (.baload, 1) := dk_51 (dk_at dksX2_isWord_2 4 rfl rfl)
theorem dX2_isWord_53 : decode cX2_isWord 53 = .ok (.aload_n 0, 1) := dk_42 (dk_at dksX2_isWord_2 5 rfl rfl)
theorem dX2_isWord_54 : decode cX2_isWord 54 = .ok (.getfield 73, 3) := dk_180 0 73 (dk_at dksX2_isWord_2 6 rfl rfl)
theorem dX2_isWord_57 : decode cX2_isWord 57 = .ok (.iload_n 1, 1) := dk_27 (dk_at dksX2_isWord_2 9 rfl rfl)
theorem dX2_isWord_58 : decode cX2_isWord 58 = .ok (.aaload, 1) := dk_50 (dk_at dksX2_isWord_2 10 rfl rfl)
theorem dX2_isWord_59 : decode cX2_isWord 59 = .ok (.iload_n 2, 1) := dk_28 (dk_at dksX2_isWord_2 11 rfl rfl)
theorem dX2_isWord_60 : decode cX2_isWord 60 = .ok (.aload_n 0, 1) := dk_42 (dk_at dksX2_isWord_2 12 rfl rfl)
theorem dX2_isWord_61 : decode cX2_isWord 61 = .ok (.getfield 189, 3) := dk_180 0 189 (dk_at dksX2_isWord_2 13 rfl rfl)
theorem dX2_isWord_64 : decode cX2_isWord 64 = .ok (.isub, 1) := dk_100 (dk_at dksX2_isWord_2 16 rfl rfl)
theorem dX2_isWord_65 : decode cX2_isWord 65 = .ok (.invokevirtual 206, 3) := dk_182 0 206 (dk_at dksX2_isWord_2 17 rfl rfl)
theorem dX2_isWord_68 : decode cX2_isWord 68 = .ok (.if_icmp .eq 5, 3) := dk_159 0 5 (dk_at dksX2_isWord_2 20 rfl rfl)
theorem dX2_isWord_71 : decode cX2_isWord 71 = .ok (.iconst 0, 1) := dk_3 (dk_at dksX2_isWord_2 23 rfl rfl)
theorem dX2_isWord_72 : decode cX2_isWord 72 = .ok (.ireturn, 1) := dk_172 (dk_at dksX2_isWord_3 0 rfl rfl)
theorem dX2_isWord_73 : decode cX2_isWord 73 = .ok (.iinc 2 1, 3) := dk_132 2 1 (dk_at dksX2_isWord_3 1 rfl rfl)
theorem dX2_isWord_76 : decode cX2_isWord 76 = .ok (.goto (-37), 3) := dk_167 255 219 (dk_at dksX2_isWord_3 4 rfl rfl)
theorem dX2_isWord_79 : decode cX2_isWord 79 = .ok (.iconst 1, 1) := dk_4 (dk_at dksX2_isWord_3 7 rfl rfl)
theorem dX2_isWord_80 : decode cX2_isWord 80 = .ok (.ireturn, 1) := dk_172 (dk_at dksX2_isWord_3 8 rfl rfl)
abbrev cX2_passes : ByteArray := prog_26_method_8_code
def yX2_passes : MethodName := ⟨RX2, "passes", "(Z)Z"⟩
def dkwX2_passes_1 : List UInt8 := [182, 0, 199, 4, 172]
abbrev dktX2_passes_1 : List UInt8 := dkwX2_passes_1 ++ []
def dkwX2_passes_0 : List UInt8 := [27, 154, 0, 21, 42, 180, 0, 196, 2, 160, 0, 11, 42, 42, 180, 0, 189, 181, 0, 196, 3, 172, 42]
abbrev dktX2_passes_0 : List UInt8 := dkwX2_passes_0 ++ dktX2_passes_1
theorem dksX2_passes_0 : cX2_passes.data.toList.drop 0 = dktX2_passes_0 := by decide +kernel
theorem dksX2_passes_1 : cX2_passes.data.toList.drop 23 = dktX2_passes_1 := dk_seg dksX2_passes_0 23 rfl rfl
theorem dX2_passes_0 : decode cX2_passes 0 = .ok (.iload_n 1, 1) := dk_27 (dk_at dksX2_passes_0 0 rfl rfl)
theorem dX2_passes_1 : decode cX2_passes 1 = .ok (.ifCond .ne 21, 3) := dk_154 0 21 (dk_at dksX2_passes_0 1 rfl rfl)
theorem dX2_passes_4 : decode cX2_passes 4 = .ok (.aload_n 0, 1) := dk_42 (dk_at dksX2_passes_0 4 rfl rfl)
theorem dX2_passes_5 : decode cX2_passes 5 = .ok (.getfield 196, 3) := dk_180 0 196 (dk_at dksX2_passes_0 5 rfl rfl)
theorem dX2_passes_8 : decode cX2_passes 8 = .ok (.iconst (-1), 1) := dk_2 (dk_at dksX2_passes_0 8 rfl rfl)
theorem dX2_passes_9 : decode cX2_passes 9 = .ok (.if_icmp .ne 11, 3) := dk_160 0 11 (dk_at dksX2_passes_0 9 rfl rfl)
theorem dX2_passes_12 : decode cX2_passes 12 = .ok (.aload_n 0, 1) := dk_42 (dk_at dksX2_passes_0 12 rfl rfl)
theorem dX2_passes_13 : decode cX2_passes 13 = .ok (.aload_n 0, 1) := dk_42 (dk_at dksX2_passes_0 13 rfl rfl)
theorem dX2_passes_14 : decode cX2_passes 14 = .ok (.getfield 189, 3) := dk_180 0 189 (dk_at dksX2_passes_0 14 rfl rfl)
theorem dX2_passes_17 : decode cX2_passes 17 = .ok (.putfield 196, 3) := dk_181 0 196 (dk_at dksX2_passes_0 17 rfl rfl)
theorem dX2_passes_20 : decode cX2_passes 20 = .ok (.iconst 0, 1) := dk_3 (dk_at dksX2_passes_0 20 rfl rfl)
theorem dX2_passes_21 : decode cX2_passes 21 = .ok (.ireturn, 1) := dk_172 (dk_at dksX2_passes_0 21 rfl rfl)
theorem dX2_passes_22 : decode cX2_passes 22 = .ok (.aload_n 0, 1) := dk_42 (dk_at dksX2_passes_0 22 rfl rfl)
theorem dX2_passes_23 : decode cX2_passes 23 = .ok (.invokevirtual 199, 3) := dk_182 0 199 (dk_at dksX2_passes_1 0 rfl rfl)
theorem dX2_passes_26 : decode cX2_passes 26 = .ok (.iconst 1, 1) := dk_4 (dk_at dksX2_passes_1 3 rfl rfl)
theorem dX2_passes_27 : decode cX2_passes 27 = .ok (.ireturn, 1) := dk_172 (dk_at dksX2_passes_1 4 rfl rfl)
abbrev cX2_guestRead : ByteArray := prog_26_method_16_code
def yX2_guestRead : MethodName := ⟨RX2, "guestRead", "()Z"⟩
def dkwX2_guestRead_1 : List UInt8 := [50, 42, 180, 0, 44, 4, 46, 31, 80, 42, 180, 0, 44, 4, 92, 46, 4, 96, 79, 42, 182, 0, 242, 172]
abbrev dktX2_guestRead_1 : List UInt8 := dkwX2_guestRead_1 ++ []
def dkwX2_guestRead_0 : List UInt8 := [42, 182, 0, 234, 64, 42, 42, 31, 182, 0, 238, 182, 0, 210, 154, 0, 5, 3, 172, 42, 180, 0, 15, 4]
abbrev dktX2_guestRead_0 : List UInt8 := dkwX2_guestRead_0 ++ dktX2_guestRead_1
theorem dksX2_guestRead_0 : cX2_guestRead.data.toList.drop 0 = dktX2_guestRead_0 := by decide +kernel
theorem dksX2_guestRead_1 : cX2_guestRead.data.toList.drop 24 = dktX2_guestRead_1 := dk_seg dksX2_guestRead_0 24 rfl rfl
theorem dX2_guestRead_0 : decode cX2_guestRead 0 = .ok (.aload_n 0, 1) := dk_42 (dk_at dksX2_guestRead_0 0 rfl rfl)
theorem dX2_guestRead_1 : decode cX2_guestRead 1 = .ok (.invokevirtual 234, 3) := dk_182 0 234 (dk_at dksX2_guestRead_0 1 rfl rfl)
theorem dX2_guestRead_4 : decode cX2_guestRead 4 = .ok (.lstore_n 1, 1) := dk_64 (dk_at dksX2_guestRead_0 4 rfl rfl)
theorem dX2_guestRead_5 : decode cX2_guestRead 5 = .ok (.aload_n 0, 1) := dk_42 (dk_at dksX2_guestRead_0 5 rfl rfl)
theorem dX2_guestRead_6 : decode cX2_guestRead 6 = .ok (.aload_n 0, 1) := dk_42 (dk_at dksX2_guestRead_0 6 rfl rfl)
theorem dX2_guestRead_7 : decode cX2_guestRead 7 = .ok (.lload_n 1, 1) := dk_31 (dk_at dksX2_guestRead_0 7 rfl rfl)
theorem dX2_guestRead_8 : decode cX2_guestRead 8 = .ok (.invokevirtual 238, 3) := dk_182 0 238 (dk_at dksX2_guestRead_0 8 rfl rfl)
theorem dX2_guestRead_11 : decode cX2_guestRead 11 = .ok (.invokevirtual 210, 3) := dk_182 0 210 (dk_at dksX2_guestRead_0 11 rfl rfl)
theorem dX2_guestRead_14 : decode cX2_guestRead 14 = .ok (.ifCond .ne 5, 3) := dk_154 0 5 (dk_at dksX2_guestRead_0 14 rfl rfl)
theorem dX2_guestRead_17 : decode cX2_guestRead 17 = .ok (.iconst 0, 1) := dk_3 (dk_at dksX2_guestRead_0 17 rfl rfl)
theorem dX2_guestRead_18 : decode cX2_guestRead 18 = .ok (.ireturn, 1) := dk_172 (dk_at dksX2_guestRead_0 18 rfl rfl)
theorem dX2_guestRead_19 : decode cX2_guestRead 19 = .ok (.aload_n 0, 1) := dk_42 (dk_at dksX2_guestRead_0 19 rfl rfl)
theorem dX2_guestRead_20 : decode cX2_guestRead 20 = .ok (.getfield 15, 3) := dk_180 0 15 (dk_at dksX2_guestRead_0 20 rfl rfl)
theorem dX2_guestRead_23 : decode cX2_guestRead 23 = .ok (.iconst 1, 1) := dk_4 (dk_at dksX2_guestRead_0 23 rfl rfl)
theorem dX2_guestRead_24 : decode cX2_guestRead 24 = .ok (.aaload, 1) := dk_50 (dk_at dksX2_guestRead_1 0 rfl rfl)
theorem dX2_guestRead_25 : decode cX2_guestRead 25 = .ok (.aload_n 0, 1) := dk_42 (dk_at dksX2_guestRead_1 1 rfl rfl)
theorem dX2_guestRead_26 : decode cX2_guestRead 26 = .ok (.getfield 44, 3) := dk_180 0 44 (dk_at dksX2_guestRead_1 2 rfl rfl)
theorem dX2_guestRead_29 : decode cX2_guestRead 29 = .ok (.iconst 1, 1) := dk_4 (dk_at dksX2_guestRead_1 5 rfl rfl)
theorem dX2_guestRead_30 : decode cX2_guestRead 30 = .ok (.iaload, 1) := dk_46 (dk_at dksX2_guestRead_1 6 rfl rfl)
theorem dX2_guestRead_31 : decode cX2_guestRead 31 = .ok (.lload_n 1, 1) := dk_31 (dk_at dksX2_guestRead_1 7 rfl rfl)
theorem dX2_guestRead_32 : decode cX2_guestRead 32 = .ok (.lastore, 1) := dk_80 (dk_at dksX2_guestRead_1 8 rfl rfl)
theorem dX2_guestRead_33 : decode cX2_guestRead 33 = .ok (.aload_n 0, 1) := dk_42 (dk_at dksX2_guestRead_1 9 rfl rfl)
theorem dX2_guestRead_34 : decode cX2_guestRead 34 = .ok (.getfield 44, 3) := dk_180 0 44 (dk_at dksX2_guestRead_1 10 rfl rfl)
theorem dX2_guestRead_37 : decode cX2_guestRead 37 = .ok (.iconst 1, 1) := dk_4 (dk_at dksX2_guestRead_1 13 rfl rfl)
theorem dX2_guestRead_38 : decode cX2_guestRead 38 = .ok (.dup2, 1) := dk_92 (dk_at dksX2_guestRead_1 14 rfl rfl)
theorem dX2_guestRead_39 : decode cX2_guestRead 39 = .ok (.iaload, 1) := dk_46 (dk_at dksX2_guestRead_1 15 rfl rfl)
theorem dX2_guestRead_40 : decode cX2_guestRead 40 = .ok (.iconst 1, 1) := dk_4 (dk_at dksX2_guestRead_1 16 rfl rfl)
theorem dX2_guestRead_41 : decode cX2_guestRead 41 = .ok (.iadd, 1) := dk_96 (dk_at dksX2_guestRead_1 17 rfl rfl)
theorem dX2_guestRead_42 : decode cX2_guestRead 42 = .ok (.iastore, 1) := dk_79 (dk_at dksX2_guestRead_1 18 rfl rfl)
theorem dX2_guestRead_43 : decode cX2_guestRead 43 = .ok (.aload_n 0, 1) := dk_42 (dk_at dksX2_guestRead_1 19 rfl rfl)
theorem dX2_guestRead_44 : decode cX2_guestRead 44 = .ok (.invokevirtual 242, 3) := dk_182 0 242 (dk_at dksX2_guestRead_1 20 rfl rfl)
theorem dX2_guestRead_47 : decode cX2_guestRead 47 = .ok (.ireturn, 1) := dk_172 (dk_at dksX2_guestRead_1 23 rfl rfl)
abbrev cX2_named : ByteArray := prog_26_method_12_code
def yX2_named : MethodName := ⟨RX2, "named", "()J"⟩
def dkwX2_named_4 : List UInt8 := [10, 97, 64, 132, 3, 1, 167, 255, 225, 31, 173]
abbrev dktX2_named_4 : List UInt8 := dkwX2_named_4 ++ []
def dkwX2_named_3 : List UInt8 := [42, 180, 0, 186, 162, 0, 29, 20, 0, 223, 31, 105, 42, 180, 0, 9, 29, 51, 133, 97, 20, 0, 225, 101]
abbrev dktX2_named_3 : List UInt8 := dkwX2_named_3 ++ dktX2_named_4
def dkwX2_named_2 : List UInt8 := [182, 0, 219, 153, 0, 7, 20, 0, 217, 173, 132, 1, 1, 167, 255, 232, 9, 64, 42, 180, 0, 189, 62, 29]
abbrev dktX2_named_2 : List UInt8 := dkwX2_named_2 ++ dktX2_named_3
def dkwX2_named_1 : List UInt8 := [16, 8, 164, 0, 7, 20, 0, 217, 173, 3, 60, 27, 42, 180, 0, 73, 190, 162, 0, 21, 42, 27]
abbrev dktX2_named_1 : List UInt8 := dkwX2_named_1 ++ dktX2_named_2
def dkwX2_named_0 : List UInt8 := [42, 42, 180, 0, 189, 16, 97, 16, 122, 182, 0, 192, 153, 0, 17, 42, 180, 0, 186, 42, 180, 0, 189, 100]
abbrev dktX2_named_0 : List UInt8 := dkwX2_named_0 ++ dktX2_named_1
theorem dksX2_named_0 : cX2_named.data.toList.drop 0 = dktX2_named_0 := by decide +kernel
theorem dksX2_named_1 : cX2_named.data.toList.drop 24 = dktX2_named_1 := dk_seg dksX2_named_0 24 rfl rfl
theorem dksX2_named_2 : cX2_named.data.toList.drop 46 = dktX2_named_2 := dk_seg dksX2_named_1 22 rfl rfl
theorem dksX2_named_3 : cX2_named.data.toList.drop 70 = dktX2_named_3 := dk_seg dksX2_named_2 24 rfl rfl
theorem dksX2_named_4 : cX2_named.data.toList.drop 94 = dktX2_named_4 := dk_seg dksX2_named_3 24 rfl rfl
theorem dX2_named_0 : decode cX2_named 0 = .ok (.aload_n 0, 1) := dk_42 (dk_at dksX2_named_0 0 rfl rfl)
theorem dX2_named_1 : decode cX2_named 1 = .ok (.aload_n 0, 1) := dk_42 (dk_at dksX2_named_0 1 rfl rfl)
theorem dX2_named_2 : decode cX2_named 2 = .ok (.getfield 189, 3) := dk_180 0 189 (dk_at dksX2_named_0 2 rfl rfl)
theorem dX2_named_5 : decode cX2_named 5 = .ok (.bipush 97, 2) := dk_16 97 (dk_at dksX2_named_0 5 rfl rfl)
theorem dX2_named_7 : decode cX2_named 7 = .ok (.bipush 122, 2) := dk_16 122 (dk_at dksX2_named_0 7 rfl rfl)
theorem dX2_named_9 : decode cX2_named 9 = .ok (.invokevirtual 192, 3) := dk_182 0 192 (dk_at dksX2_named_0 9 rfl rfl)
theorem dX2_named_12 : decode cX2_named 12 = .ok (.ifCond .eq 17, 3) := dk_153 0 17 (dk_at dksX2_named_0 12 rfl rfl)
theorem dX2_named_15 : decode cX2_named 15 = .ok (.aload_n 0, 1) := dk_42 (dk_at dksX2_named_0 15 rfl rfl)
theorem dX2_named_16 : decode cX2_named 16 = .ok (.getfield 186, 3) := dk_180 0 186 (dk_at dksX2_named_0 16 rfl rfl)
theorem dX2_named_19 : decode cX2_named 19 = .ok (.aload_n 0, 1) := dk_42 (dk_at dksX2_named_0 19 rfl rfl)
theorem dX2_named_20 : decode cX2_named 20 = .ok (.getfield 189, 3) := dk_180 0 189 (dk_at dksX2_named_0 20 rfl rfl)
theorem dX2_named_23 : decode cX2_named 23 = .ok (.isub, 1) := dk_100 (dk_at dksX2_named_0 23 rfl rfl)
theorem dX2_named_24 : decode cX2_named 24 = .ok (.bipush 8, 2) := dk_16 8 (dk_at dksX2_named_1 0 rfl rfl)
theorem dX2_named_26 : decode cX2_named 26 = .ok (.if_icmp .le 7, 3) := dk_164 0 7 (dk_at dksX2_named_1 2 rfl rfl)
theorem dX2_named_29 : decode cX2_named 29 = .ok (.ldc2_w 217, 3) := dk_20 0 217 (dk_at dksX2_named_1 5 rfl rfl)
theorem dX2_named_32 : decode cX2_named 32 = .ok (.lreturn, 1) := dk_173 (dk_at dksX2_named_1 8 rfl rfl)
theorem dX2_named_33 : decode cX2_named 33 = .ok (.iconst 0, 1) := dk_3 (dk_at dksX2_named_1 9 rfl rfl)
theorem dX2_named_34 : decode cX2_named 34 = .ok (.istore_n 1, 1) := dk_60 (dk_at dksX2_named_1 10 rfl rfl)
theorem dX2_named_35 : decode cX2_named 35 = .ok (.iload_n 1, 1) := dk_27 (dk_at dksX2_named_1 11 rfl rfl)
theorem dX2_named_36 : decode cX2_named 36 = .ok (.aload_n 0, 1) := dk_42 (dk_at dksX2_named_1 12 rfl rfl)
theorem dX2_named_37 : decode cX2_named 37 = .ok (.getfield 73, 3) := dk_180 0 73 (dk_at dksX2_named_1 13 rfl rfl)
theorem dX2_named_40 : decode cX2_named 40 = .ok (.arraylength, 1) := dk_190 (dk_at dksX2_named_1 16 rfl rfl)
theorem dX2_named_41 : decode cX2_named 41 = .ok (.if_icmp .ge 21, 3) := dk_162 0 21 (dk_at dksX2_named_1 17 rfl rfl)
theorem dX2_named_44 : decode cX2_named 44 = .ok (.aload_n 0, 1) := dk_42 (dk_at dksX2_named_1 20 rfl rfl)
theorem dX2_named_45 : decode cX2_named 45 = .ok (.iload_n 1, 1) := dk_27 (dk_at dksX2_named_1 21 rfl rfl)
theorem dX2_named_46 : decode cX2_named 46 = .ok (.invokevirtual 219, 3) := dk_182 0 219 (dk_at dksX2_named_2 0 rfl rfl)
theorem dX2_named_49 : decode cX2_named 49 = .ok (.ifCond .eq 7, 3) := dk_153 0 7 (dk_at dksX2_named_2 3 rfl rfl)
theorem dX2_named_52 : decode cX2_named 52 = .ok (.ldc2_w 217, 3) := dk_20 0 217 (dk_at dksX2_named_2 6 rfl rfl)
theorem dX2_named_55 : decode cX2_named 55 = .ok (.lreturn, 1) := dk_173 (dk_at dksX2_named_2 9 rfl rfl)
theorem dX2_named_56 : decode cX2_named 56 = .ok (.iinc 1 1, 3) := dk_132 1 1 (dk_at dksX2_named_2 10 rfl rfl)
theorem dX2_named_59 : decode cX2_named 59 = .ok (.goto (-24), 3) := dk_167 255 232 (dk_at dksX2_named_2 13 rfl rfl)
theorem dX2_named_62 : decode cX2_named 62 = .ok (.lconst 0, 1) := dk_9 (dk_at dksX2_named_2 16 rfl rfl)
theorem dX2_named_63 : decode cX2_named 63 = .ok (.lstore_n 1, 1) := dk_64 (dk_at dksX2_named_2 17 rfl rfl)
theorem dX2_named_64 : decode cX2_named 64 = .ok (.aload_n 0, 1) := dk_42 (dk_at dksX2_named_2 18 rfl rfl)
theorem dX2_named_65 : decode cX2_named 65 = .ok (.getfield 189, 3) := dk_180 0 189 (dk_at dksX2_named_2 19 rfl rfl)
theorem dX2_named_68 : decode cX2_named 68 = .ok (.istore_n 3, 1) := dk_62 (dk_at dksX2_named_2 22 rfl rfl)
theorem dX2_named_69 : decode cX2_named 69 = .ok (.iload_n 3, 1) := dk_29 (dk_at dksX2_named_2 23 rfl rfl)
theorem dX2_named_70 : decode cX2_named 70 = .ok (.aload_n 0, 1) := dk_42 (dk_at dksX2_named_3 0 rfl rfl)
theorem dX2_named_71 : decode cX2_named 71 = .ok (.getfield 186, 3) := dk_180 0 186 (dk_at dksX2_named_3 1 rfl rfl)
theorem dX2_named_74 : decode cX2_named 74 = .ok (.if_icmp .ge 29, 3) := dk_162 0 29 (dk_at dksX2_named_3 4 rfl rfl)
theorem dX2_named_77 : decode cX2_named 77 = .ok (.ldc2_w 223, 3) := dk_20 0 223 (dk_at dksX2_named_3 7 rfl rfl)
theorem dX2_named_80 : decode cX2_named 80 = .ok (.lload_n 1, 1) := dk_31 (dk_at dksX2_named_3 10 rfl rfl)
theorem dX2_named_81 : decode cX2_named 81 = .ok (.lmul, 1) := dk_105 (dk_at dksX2_named_3 11 rfl rfl)
theorem dX2_named_82 : decode cX2_named 82 = .ok (.aload_n 0, 1) := dk_42 (dk_at dksX2_named_3 12 rfl rfl)
theorem dX2_named_83 : decode cX2_named 83 = .ok (.getfield 9, 3) := dk_180 0 9 (dk_at dksX2_named_3 13 rfl rfl)
theorem dX2_named_86 : decode cX2_named 86 = .ok (.iload_n 3, 1) := dk_29 (dk_at dksX2_named_3 16 rfl rfl)
theorem dX2_named_87 : decode cX2_named 87 = .ok (.baload, 1) := dk_51 (dk_at dksX2_named_3 17 rfl rfl)
theorem dX2_named_88 : decode cX2_named 88 = .ok (.i2l, 1) := dk_133 (dk_at dksX2_named_3 18 rfl rfl)
theorem dX2_named_89 : decode cX2_named 89 = .ok (.ladd, 1) := dk_97 (dk_at dksX2_named_3 19 rfl rfl)
theorem dX2_named_90 : decode cX2_named 90 = .ok (.ldc2_w 225, 3) := dk_20 0 225 (dk_at dksX2_named_3 20 rfl rfl)
theorem dX2_named_93 : decode cX2_named 93 = .ok (.lsub, 1) := dk_101 (dk_at dksX2_named_3 23 rfl rfl)
theorem dX2_named_94 : decode cX2_named 94 = .ok (.lconst 1, 1) := dk_10 (dk_at dksX2_named_4 0 rfl rfl)
theorem dX2_named_95 : decode cX2_named 95 = .ok (.ladd, 1) := dk_97 (dk_at dksX2_named_4 1 rfl rfl)
theorem dX2_named_96 : decode cX2_named 96 = .ok (.lstore_n 1, 1) := dk_64 (dk_at dksX2_named_4 2 rfl rfl)
theorem dX2_named_97 : decode cX2_named 97 = .ok (.iinc 3 1, 3) := dk_132 3 1 (dk_at dksX2_named_4 3 rfl rfl)
theorem dX2_named_100 : decode cX2_named 100 = .ok (.goto (-31), 3) := dk_167 255 225 (dk_at dksX2_named_4 6 rfl rfl)
theorem dX2_named_103 : decode cX2_named 103 = .ok (.lload_n 1, 1) := dk_31 (dk_at dksX2_named_4 9 rfl rfl)
theorem dX2_named_104 : decode cX2_named 104 = .ok (.lreturn, 1) := dk_173 (dk_at dksX2_named_4 10 rfl rfl)
abbrev cX2_isNew : ByteArray := prog_26_method_15_code
def yX2_isNew : MethodName := ⟨RX2, "isNew", "(J)Z"⟩
def dkwX2_isNew_1 : List UInt8 := [160, 0, 7, 4, 167, 0, 4, 3, 172]
abbrev dktX2_isNew_1 : List UInt8 := dkwX2_isNew_1 ++ []
def dkwX2_isNew_0 : List UInt8 := [31, 20, 0, 217, 148, 153, 0, 25, 42, 31, 182, 0, 227, 2, 160, 0, 16, 42, 31, 182, 0, 231, 2]
abbrev dktX2_isNew_0 : List UInt8 := dkwX2_isNew_0 ++ dktX2_isNew_1
theorem dksX2_isNew_0 : cX2_isNew.data.toList.drop 0 = dktX2_isNew_0 := by decide +kernel
theorem dksX2_isNew_1 : cX2_isNew.data.toList.drop 23 = dktX2_isNew_1 := dk_seg dksX2_isNew_0 23 rfl rfl
theorem dX2_isNew_0 : decode cX2_isNew 0 = .ok (.lload_n 1, 1) := dk_31 (dk_at dksX2_isNew_0 0 rfl rfl)
theorem dX2_isNew_1 : decode cX2_isNew 1 = .ok (.ldc2_w 217, 3) := dk_20 0 217 (dk_at dksX2_isNew_0 1 rfl rfl)
theorem dX2_isNew_4 : decode cX2_isNew 4 = .ok (.lcmp, 1) := dk_148 (dk_at dksX2_isNew_0 4 rfl rfl)
theorem dX2_isNew_5 : decode cX2_isNew 5 = .ok (.ifCond .eq 25, 3) := dk_153 0 25 (dk_at dksX2_isNew_0 5 rfl rfl)
theorem dX2_isNew_8 : decode cX2_isNew 8 = .ok (.aload_n 0, 1) := dk_42 (dk_at dksX2_isNew_0 8 rfl rfl)
theorem dX2_isNew_9 : decode cX2_isNew 9 = .ok (.lload_n 1, 1) := dk_31 (dk_at dksX2_isNew_0 9 rfl rfl)
theorem dX2_isNew_10 : decode cX2_isNew 10 = .ok (.invokevirtual 227, 3) := dk_182 0 227 (dk_at dksX2_isNew_0 10 rfl rfl)
theorem dX2_isNew_13 : decode cX2_isNew 13 = .ok (.iconst (-1), 1) := dk_2 (dk_at dksX2_isNew_0 13 rfl rfl)
theorem dX2_isNew_14 : decode cX2_isNew 14 = .ok (.if_icmp .ne 16, 3) := dk_160 0 16 (dk_at dksX2_isNew_0 14 rfl rfl)
theorem dX2_isNew_17 : decode cX2_isNew 17 = .ok (.aload_n 0, 1) := dk_42 (dk_at dksX2_isNew_0 17 rfl rfl)
theorem dX2_isNew_18 : decode cX2_isNew 18 = .ok (.lload_n 1, 1) := dk_31 (dk_at dksX2_isNew_0 18 rfl rfl)
theorem dX2_isNew_19 : decode cX2_isNew 19 = .ok (.invokevirtual 231, 3) := dk_182 0 231 (dk_at dksX2_isNew_0 19 rfl rfl)
theorem dX2_isNew_22 : decode cX2_isNew 22 = .ok (.iconst (-1), 1) := dk_2 (dk_at dksX2_isNew_0 22 rfl rfl)
theorem dX2_isNew_23 : decode cX2_isNew 23 = .ok (.if_icmp .ne 7, 3) := dk_160 0 7 (dk_at dksX2_isNew_1 0 rfl rfl)
theorem dX2_isNew_26 : decode cX2_isNew 26 = .ok (.iconst 1, 1) := dk_4 (dk_at dksX2_isNew_1 3 rfl rfl)
theorem dX2_isNew_27 : decode cX2_isNew 27 = .ok (.goto 4, 3) := dk_167 0 4 (dk_at dksX2_isNew_1 4 rfl rfl)
theorem dX2_isNew_30 : decode cX2_isNew 30 = .ok (.iconst 0, 1) := dk_3 (dk_at dksX2_isNew_1 7 rfl rfl)
theorem dX2_isNew_31 : decode cX2_isNew 31 = .ok (.ireturn, 1) := dk_172 (dk_at dksX2_isNew_1 8 rfl rfl)
abbrev cX2_guestOf : ByteArray := prog_26_method_13_code
def yX2_guestOf : MethodName := ⟨RX2, "guestOf", "(J)I"⟩
def dkwX2_guestOf_1 : List UInt8 := [154, 0, 5, 29, 172, 132, 3, 1, 167, 255, 228, 2, 172]
abbrev dktX2_guestOf_1 : List UInt8 := dkwX2_guestOf_1 ++ []
def dkwX2_guestOf_0 : List UInt8 := [3, 62, 29, 42, 180, 0, 44, 4, 46, 162, 0, 24, 42, 180, 0, 15, 4, 50, 29, 47, 31, 148]
abbrev dktX2_guestOf_0 : List UInt8 := dkwX2_guestOf_0 ++ dktX2_guestOf_1
theorem dksX2_guestOf_0 : cX2_guestOf.data.toList.drop 0 = dktX2_guestOf_0 := by decide +kernel
theorem dksX2_guestOf_1 : cX2_guestOf.data.toList.drop 22 = dktX2_guestOf_1 := dk_seg dksX2_guestOf_0 22 rfl rfl
theorem dX2_guestOf_0 : decode cX2_guestOf 0 = .ok (.iconst 0, 1) := dk_3 (dk_at dksX2_guestOf_0 0 rfl rfl)
theorem dX2_guestOf_1 : decode cX2_guestOf 1 = .ok (.istore_n 3, 1) := dk_62 (dk_at dksX2_guestOf_0 1 rfl rfl)
theorem dX2_guestOf_2 : decode cX2_guestOf 2 = .ok (.iload_n 3, 1) := dk_29 (dk_at dksX2_guestOf_0 2 rfl rfl)
theorem dX2_guestOf_3 : decode cX2_guestOf 3 = .ok (.aload_n 0, 1) := dk_42 (dk_at dksX2_guestOf_0 3 rfl rfl)
theorem dX2_guestOf_4 : decode cX2_guestOf 4 = .ok (.getfield 44, 3) := dk_180 0 44 (dk_at dksX2_guestOf_0 4 rfl rfl)
theorem dX2_guestOf_7 : decode cX2_guestOf 7 = .ok (.iconst 1, 1) := dk_4 (dk_at dksX2_guestOf_0 7 rfl rfl)
theorem dX2_guestOf_8 : decode cX2_guestOf 8 = .ok (.iaload, 1) := dk_46 (dk_at dksX2_guestOf_0 8 rfl rfl)
theorem dX2_guestOf_9 : decode cX2_guestOf 9 = .ok (.if_icmp .ge 24, 3) := dk_162 0 24 (dk_at dksX2_guestOf_0 9 rfl rfl)
theorem dX2_guestOf_12 : decode cX2_guestOf 12 = .ok (.aload_n 0, 1) := dk_42 (dk_at dksX2_guestOf_0 12 rfl rfl)
theorem dX2_guestOf_13 : decode cX2_guestOf 13 = .ok (.getfield 15, 3) := dk_180 0 15 (dk_at dksX2_guestOf_0 13 rfl rfl)
theorem dX2_guestOf_16 : decode cX2_guestOf 16 = .ok (.iconst 1, 1) := dk_4 (dk_at dksX2_guestOf_0 16 rfl rfl)
theorem dX2_guestOf_17 : decode cX2_guestOf 17 = .ok (.aaload, 1) := dk_50 (dk_at dksX2_guestOf_0 17 rfl rfl)
theorem dX2_guestOf_18 : decode cX2_guestOf 18 = .ok (.iload_n 3, 1) := dk_29 (dk_at dksX2_guestOf_0 18 rfl rfl)
theorem dX2_guestOf_19 : decode cX2_guestOf 19 = .ok (.laload, 1) := dk_47 (dk_at dksX2_guestOf_0 19 rfl rfl)
theorem dX2_guestOf_20 : decode cX2_guestOf 20 = .ok (.lload_n 1, 1) := dk_31 (dk_at dksX2_guestOf_0 20 rfl rfl)
theorem dX2_guestOf_21 : decode cX2_guestOf 21 = .ok (.lcmp, 1) := dk_148 (dk_at dksX2_guestOf_0 21 rfl rfl)
theorem dX2_guestOf_22 : decode cX2_guestOf 22 = .ok (.ifCond .ne 5, 3) := dk_154 0 5 (dk_at dksX2_guestOf_1 0 rfl rfl)
theorem dX2_guestOf_25 : decode cX2_guestOf 25 = .ok (.iload_n 3, 1) := dk_29 (dk_at dksX2_guestOf_1 3 rfl rfl)
theorem dX2_guestOf_26 : decode cX2_guestOf 26 = .ok (.ireturn, 1) := dk_172 (dk_at dksX2_guestOf_1 4 rfl rfl)
theorem dX2_guestOf_27 : decode cX2_guestOf 27 = .ok (.iinc 3 1, 3) := dk_132 3 1 (dk_at dksX2_guestOf_1 5 rfl rfl)
theorem dX2_guestOf_30 : decode cX2_guestOf 30 = .ok (.goto (-28), 3) := dk_167 255 228 (dk_at dksX2_guestOf_1 8 rfl rfl)
theorem dX2_guestOf_33 : decode cX2_guestOf 33 = .ok (.iconst (-1), 1) := dk_2 (dk_at dksX2_guestOf_1 11 rfl rfl)
theorem dX2_guestOf_34 : decode cX2_guestOf 34 = .ok (.ireturn, 1) := dk_172 (dk_at dksX2_guestOf_1 12 rfl rfl)
abbrev cX2_markOf : ByteArray := prog_26_method_14_code
def yX2_markOf : MethodName := ⟨RX2, "markOf", "(J)I"⟩
def dkwX2_markOf_1 : List UInt8 := [154, 0, 5, 29, 172, 132, 3, 1, 167, 255, 228, 2, 172]
abbrev dktX2_markOf_1 : List UInt8 := dkwX2_markOf_1 ++ []
def dkwX2_markOf_0 : List UInt8 := [3, 62, 29, 42, 180, 0, 48, 4, 46, 162, 0, 24, 42, 180, 0, 18, 4, 50, 29, 47, 31, 148]
abbrev dktX2_markOf_0 : List UInt8 := dkwX2_markOf_0 ++ dktX2_markOf_1
theorem dksX2_markOf_0 : cX2_markOf.data.toList.drop 0 = dktX2_markOf_0 := by decide +kernel
theorem dksX2_markOf_1 : cX2_markOf.data.toList.drop 22 = dktX2_markOf_1 := dk_seg dksX2_markOf_0 22 rfl rfl
theorem dX2_markOf_0 : decode cX2_markOf 0 = .ok (.iconst 0, 1) := dk_3 (dk_at dksX2_markOf_0 0 rfl rfl)
theorem dX2_markOf_1 : decode cX2_markOf 1 = .ok (.istore_n 3, 1) := dk_62 (dk_at dksX2_markOf_0 1 rfl rfl)
theorem dX2_markOf_2 : decode cX2_markOf 2 = .ok (.iload_n 3, 1) := dk_29 (dk_at dksX2_markOf_0 2 rfl rfl)
theorem dX2_markOf_3 : decode cX2_markOf 3 = .ok (.aload_n 0, 1) := dk_42 (dk_at dksX2_markOf_0 3 rfl rfl)
theorem dX2_markOf_4 : decode cX2_markOf 4 = .ok (.getfield 48, 3) := dk_180 0 48 (dk_at dksX2_markOf_0 4 rfl rfl)
theorem dX2_markOf_7 : decode cX2_markOf 7 = .ok (.iconst 1, 1) := dk_4 (dk_at dksX2_markOf_0 7 rfl rfl)
theorem dX2_markOf_8 : decode cX2_markOf 8 = .ok (.iaload, 1) := dk_46 (dk_at dksX2_markOf_0 8 rfl rfl)
theorem dX2_markOf_9 : decode cX2_markOf 9 = .ok (.if_icmp .ge 24, 3) := dk_162 0 24 (dk_at dksX2_markOf_0 9 rfl rfl)
theorem dX2_markOf_12 : decode cX2_markOf 12 = .ok (.aload_n 0, 1) := dk_42 (dk_at dksX2_markOf_0 12 rfl rfl)
theorem dX2_markOf_13 : decode cX2_markOf 13 = .ok (.getfield 18, 3) := dk_180 0 18 (dk_at dksX2_markOf_0 13 rfl rfl)
theorem dX2_markOf_16 : decode cX2_markOf 16 = .ok (.iconst 1, 1) := dk_4 (dk_at dksX2_markOf_0 16 rfl rfl)
theorem dX2_markOf_17 : decode cX2_markOf 17 = .ok (.aaload, 1) := dk_50 (dk_at dksX2_markOf_0 17 rfl rfl)
theorem dX2_markOf_18 : decode cX2_markOf 18 = .ok (.iload_n 3, 1) := dk_29 (dk_at dksX2_markOf_0 18 rfl rfl)
theorem dX2_markOf_19 : decode cX2_markOf 19 = .ok (.laload, 1) := dk_47 (dk_at dksX2_markOf_0 19 rfl rfl)
theorem dX2_markOf_20 : decode cX2_markOf 20 = .ok (.lload_n 1, 1) := dk_31 (dk_at dksX2_markOf_0 20 rfl rfl)
theorem dX2_markOf_21 : decode cX2_markOf 21 = .ok (.lcmp, 1) := dk_148 (dk_at dksX2_markOf_0 21 rfl rfl)
theorem dX2_markOf_22 : decode cX2_markOf 22 = .ok (.ifCond .ne 5, 3) := dk_154 0 5 (dk_at dksX2_markOf_1 0 rfl rfl)
theorem dX2_markOf_25 : decode cX2_markOf 25 = .ok (.iload_n 3, 1) := dk_29 (dk_at dksX2_markOf_1 3 rfl rfl)
theorem dX2_markOf_26 : decode cX2_markOf 26 = .ok (.ireturn, 1) := dk_172 (dk_at dksX2_markOf_1 4 rfl rfl)
theorem dX2_markOf_27 : decode cX2_markOf 27 = .ok (.iinc 3 1, 3) := dk_132 3 1 (dk_at dksX2_markOf_1 5 rfl rfl)
theorem dX2_markOf_30 : decode cX2_markOf 30 = .ok (.goto (-28), 3) := dk_167 255 228 (dk_at dksX2_markOf_1 8 rfl rfl)
theorem dX2_markOf_33 : decode cX2_markOf 33 = .ok (.iconst (-1), 1) := dk_2 (dk_at dksX2_markOf_1 11 rfl rfl)
theorem dX2_markOf_34 : decode cX2_markOf 34 = .ok (.ireturn, 1) := dk_172 (dk_at dksX2_markOf_1 12 rfl rfl)
abbrev cX2_closes : ByteArray := prog_26_method_10_code
def yX2_closes : MethodName := ⟨RX2, "closes", "()Z"⟩
def dkwX2_closes_1 : List UInt8 := [160, 0, 7, 4, 167, 0, 4, 3, 182, 0, 210, 172]
abbrev dktX2_closes_1 : List UInt8 := dkwX2_closes_1 ++ []
def dkwX2_closes_0 : List UInt8 := [42, 42, 180, 0, 189, 42, 180, 0, 175, 162, 0, 21, 42, 180, 0, 9, 42, 180, 0, 189, 51, 16, 59]
abbrev dktX2_closes_0 : List UInt8 := dkwX2_closes_0 ++ dktX2_closes_1
theorem dksX2_closes_0 : cX2_closes.data.toList.drop 0 = dktX2_closes_0 := by decide +kernel
theorem dksX2_closes_1 : cX2_closes.data.toList.drop 23 = dktX2_closes_1 := dk_seg dksX2_closes_0 23 rfl rfl
theorem dX2_closes_0 : decode cX2_closes 0 = .ok (.aload_n 0, 1) := dk_42 (dk_at dksX2_closes_0 0 rfl rfl)
theorem dX2_closes_1 : decode cX2_closes 1 = .ok (.aload_n 0, 1) := dk_42 (dk_at dksX2_closes_0 1 rfl rfl)
theorem dX2_closes_2 : decode cX2_closes 2 = .ok (.getfield 189, 3) := dk_180 0 189 (dk_at dksX2_closes_0 2 rfl rfl)
theorem dX2_closes_5 : decode cX2_closes 5 = .ok (.aload_n 0, 1) := dk_42 (dk_at dksX2_closes_0 5 rfl rfl)
theorem dX2_closes_6 : decode cX2_closes 6 = .ok (.getfield 175, 3) := dk_180 0 175 (dk_at dksX2_closes_0 6 rfl rfl)
theorem dX2_closes_9 : decode cX2_closes 9 = .ok (.if_icmp .ge 21, 3) := dk_162 0 21 (dk_at dksX2_closes_0 9 rfl rfl)
theorem dX2_closes_12 : decode cX2_closes 12 = .ok (.aload_n 0, 1) := dk_42 (dk_at dksX2_closes_0 12 rfl rfl)
theorem dX2_closes_13 : decode cX2_closes 13 = .ok (.getfield 9, 3) := dk_180 0 9 (dk_at dksX2_closes_0 13 rfl rfl)
theorem dX2_closes_16 : decode cX2_closes 16 = .ok (.aload_n 0, 1) := dk_42 (dk_at dksX2_closes_0 16 rfl rfl)
theorem dX2_closes_17 : decode cX2_closes 17 = .ok (.getfield 189, 3) := dk_180 0 189 (dk_at dksX2_closes_0 17 rfl rfl)
theorem dX2_closes_20 : decode cX2_closes 20 = .ok (.baload, 1) := dk_51 (dk_at dksX2_closes_0 20 rfl rfl)
theorem dX2_closes_21 : decode cX2_closes 21 = .ok (.bipush 59, 2) := dk_16 59 (dk_at dksX2_closes_0 21 rfl rfl)
theorem dX2_closes_23 : decode cX2_closes 23 = .ok (.if_icmp .ne 7, 3) := dk_160 0 7 (dk_at dksX2_closes_1 0 rfl rfl)
theorem dX2_closes_26 : decode cX2_closes 26 = .ok (.iconst 1, 1) := dk_4 (dk_at dksX2_closes_1 3 rfl rfl)
theorem dX2_closes_27 : decode cX2_closes 27 = .ok (.goto 4, 3) := dk_167 0 4 (dk_at dksX2_closes_1 4 rfl rfl)
theorem dX2_closes_30 : decode cX2_closes 30 = .ok (.iconst 0, 1) := dk_3 (dk_at dksX2_closes_1 7 rfl rfl)
theorem dX2_closes_31 : decode cX2_closes 31 = .ok (.invokevirtual 210, 3) := dk_182 0 210 (dk_at dksX2_closes_1 8 rfl rfl)
theorem dX2_closes_34 : decode cX2_closes 34 = .ok (.ireturn, 1) := dk_172 (dk_at dksX2_closes_1 11 rfl rfl)
abbrev cX2_markRead : ByteArray := prog_26_method_17_code
def yX2_markRead : MethodName := ⟨RX2, "markRead", "()Z"⟩
def dkwX2_markRead_7 : List UInt8 := [4, 92, 46, 4, 96, 79, 42, 182, 0, 242, 172]
abbrev dktX2_markRead_7 : List UInt8 := dkwX2_markRead_7 ++ []
def dkwX2_markRead_6 : List UInt8 := [182, 0, 234, 20, 0, 217, 148, 153, 0, 7, 4, 167, 0, 4, 3, 54, 4, 167, 255, 155, 42, 180, 0, 48]
abbrev dktX2_markRead_6 : List UInt8 := dkwX2_markRead_6 ++ dktX2_markRead_7
def dkwX2_markRead_5 : List UInt8 := [182, 0, 210, 154, 0, 5, 3, 172, 42, 180, 0, 23, 4, 50, 29, 92, 46, 4, 21, 7, 120, 128, 79, 42]
abbrev dktX2_markRead_5 : List UInt8 := dkwX2_markRead_5 ++ dktX2_markRead_6
def dkwX2_markRead_4 : List UInt8 := [159, 0, 23, 42, 180, 0, 23, 4, 50, 29, 46, 21, 7, 122, 4, 126, 154, 0, 7, 4, 167, 0, 4, 3]
abbrev dktX2_markRead_4 : List UInt8 := dkwX2_markRead_4 ++ dktX2_markRead_5
def dkwX2_markRead_3 : List UInt8 := [20, 0, 217, 148, 154, 0, 7, 2, 167, 0, 9, 42, 22, 5, 182, 0, 227, 54, 7, 42, 21, 7, 2]
abbrev dktX2_markRead_3 : List UInt8 := dkwX2_markRead_3 ++ dktX2_markRead_4
def dkwX2_markRead_2 : List UInt8 := [180, 0, 23, 4, 50, 29, 3, 79, 4, 54, 4, 21, 4, 153, 0, 102, 42, 182, 0, 234, 55, 5, 22, 5]
abbrev dktX2_markRead_2 : List UInt8 := dkwX2_markRead_2 ++ dktX2_markRead_3
def dkwX2_markRead_1 : List UInt8 := [42, 42, 5, 182, 0, 219, 182, 0, 210, 154, 0, 5, 3, 172, 42, 180, 0, 18, 4, 50, 29, 31, 80, 42]
abbrev dktX2_markRead_1 : List UInt8 := dkwX2_markRead_1 ++ dktX2_markRead_2
def dkwX2_markRead_0 : List UInt8 := [42, 182, 0, 234, 64, 42, 180, 0, 48, 4, 46, 62, 42, 42, 31, 182, 0, 238, 182, 0, 210, 153, 0, 15]
abbrev dktX2_markRead_0 : List UInt8 := dkwX2_markRead_0 ++ dktX2_markRead_1
theorem dksX2_markRead_0 : cX2_markRead.data.toList.drop 0 = dktX2_markRead_0 := by decide +kernel
theorem dksX2_markRead_1 : cX2_markRead.data.toList.drop 24 = dktX2_markRead_1 := dk_seg dksX2_markRead_0 24 rfl rfl
theorem dksX2_markRead_2 : cX2_markRead.data.toList.drop 48 = dktX2_markRead_2 := dk_seg dksX2_markRead_1 24 rfl rfl
theorem dksX2_markRead_3 : cX2_markRead.data.toList.drop 72 = dktX2_markRead_3 := dk_seg dksX2_markRead_2 24 rfl rfl
theorem dksX2_markRead_4 : cX2_markRead.data.toList.drop 95 = dktX2_markRead_4 := dk_seg dksX2_markRead_3 23 rfl rfl
theorem dksX2_markRead_5 : cX2_markRead.data.toList.drop 119 = dktX2_markRead_5 := dk_seg dksX2_markRead_4 24 rfl rfl
theorem dksX2_markRead_6 : cX2_markRead.data.toList.drop 143 = dktX2_markRead_6 := dk_seg dksX2_markRead_5 24 rfl rfl
theorem dksX2_markRead_7 : cX2_markRead.data.toList.drop 167 = dktX2_markRead_7 := dk_seg dksX2_markRead_6 24 rfl rfl
theorem dX2_markRead_0 : decode cX2_markRead 0 = .ok (.aload_n 0, 1) := dk_42 (dk_at dksX2_markRead_0 0 rfl rfl)
theorem dX2_markRead_1 : decode cX2_markRead 1 = .ok (.invokevirtual 234, 3) := dk_182 0 234 (dk_at dksX2_markRead_0 1 rfl rfl)
theorem dX2_markRead_4 : decode cX2_markRead 4 = .ok (.lstore_n 1, 1) := dk_64 (dk_at dksX2_markRead_0 4 rfl rfl)
theorem dX2_markRead_5 : decode cX2_markRead 5 = .ok (.aload_n 0, 1) := dk_42 (dk_at dksX2_markRead_0 5 rfl rfl)
theorem dX2_markRead_6 : decode cX2_markRead 6 = .ok (.getfield 48, 3) := dk_180 0 48 (dk_at dksX2_markRead_0 6 rfl rfl)
theorem dX2_markRead_9 : decode cX2_markRead 9 = .ok (.iconst 1, 1) := dk_4 (dk_at dksX2_markRead_0 9 rfl rfl)
theorem dX2_markRead_10 : decode cX2_markRead 10 = .ok (.iaload, 1) := dk_46 (dk_at dksX2_markRead_0 10 rfl rfl)
theorem dX2_markRead_11 : decode cX2_markRead 11 = .ok (.istore_n 3, 1) := dk_62 (dk_at dksX2_markRead_0 11 rfl rfl)
theorem dX2_markRead_12 : decode cX2_markRead 12 = .ok (.aload_n 0, 1) := dk_42 (dk_at dksX2_markRead_0 12 rfl rfl)
theorem dX2_markRead_13 : decode cX2_markRead 13 = .ok (.aload_n 0, 1) := dk_42 (dk_at dksX2_markRead_0 13 rfl rfl)
theorem dX2_markRead_14 : decode cX2_markRead 14 = .ok (.lload_n 1, 1) := dk_31 (dk_at dksX2_markRead_0 14 rfl rfl)
theorem dX2_markRead_15 : decode cX2_markRead 15 = .ok (.invokevirtual 238, 3) := dk_182 0 238 (dk_at dksX2_markRead_0 15 rfl rfl)
theorem dX2_markRead_18 : decode cX2_markRead 18 = .ok (.invokevirtual 210, 3) := dk_182 0 210 (dk_at dksX2_markRead_0 18 rfl rfl)
theorem dX2_markRead_21 : decode cX2_markRead 21 = .ok (.ifCond .eq 15, 3) := dk_153 0 15 (dk_at dksX2_markRead_0 21 rfl rfl)
theorem dX2_markRead_24 : decode cX2_markRead 24 = .ok (.aload_n 0, 1) := dk_42 (dk_at dksX2_markRead_1 0 rfl rfl)
theorem dX2_markRead_25 : decode cX2_markRead 25 = .ok (.aload_n 0, 1) := dk_42 (dk_at dksX2_markRead_1 1 rfl rfl)
theorem dX2_markRead_26 : decode cX2_markRead 26 = .ok (.iconst 2, 1) := dk_5 (dk_at dksX2_markRead_1 2 rfl rfl)
theorem dX2_markRead_27 : decode cX2_markRead 27 = .ok (.invokevirtual 219, 3) := dk_182 0 219 (dk_at dksX2_markRead_1 3 rfl rfl)
theorem dX2_markRead_30 : decode cX2_markRead 30 = .ok (.invokevirtual 210, 3) := dk_182 0 210 (dk_at dksX2_markRead_1 6 rfl rfl)
theorem dX2_markRead_33 : decode cX2_markRead 33 = .ok (.ifCond .ne 5, 3) := dk_154 0 5 (dk_at dksX2_markRead_1 9 rfl rfl)
theorem dX2_markRead_36 : decode cX2_markRead 36 = .ok (.iconst 0, 1) := dk_3 (dk_at dksX2_markRead_1 12 rfl rfl)
theorem dX2_markRead_37 : decode cX2_markRead 37 = .ok (.ireturn, 1) := dk_172 (dk_at dksX2_markRead_1 13 rfl rfl)
theorem dX2_markRead_38 : decode cX2_markRead 38 = .ok (.aload_n 0, 1) := dk_42 (dk_at dksX2_markRead_1 14 rfl rfl)
theorem dX2_markRead_39 : decode cX2_markRead 39 = .ok (.getfield 18, 3) := dk_180 0 18 (dk_at dksX2_markRead_1 15 rfl rfl)
theorem dX2_markRead_42 : decode cX2_markRead 42 = .ok (.iconst 1, 1) := dk_4 (dk_at dksX2_markRead_1 18 rfl rfl)
theorem dX2_markRead_43 : decode cX2_markRead 43 = .ok (.aaload, 1) := dk_50 (dk_at dksX2_markRead_1 19 rfl rfl)
theorem dX2_markRead_44 : decode cX2_markRead 44 = .ok (.iload_n 3, 1) := dk_29 (dk_at dksX2_markRead_1 20 rfl rfl)
theorem dX2_markRead_45 : decode cX2_markRead 45 = .ok (.lload_n 1, 1) := dk_31 (dk_at dksX2_markRead_1 21 rfl rfl)
theorem dX2_markRead_46 : decode cX2_markRead 46 = .ok (.lastore, 1) := dk_80 (dk_at dksX2_markRead_1 22 rfl rfl)
theorem dX2_markRead_47 : decode cX2_markRead 47 = .ok (.aload_n 0, 1) := dk_42 (dk_at dksX2_markRead_1 23 rfl rfl)
theorem dX2_markRead_48 : decode cX2_markRead 48 = .ok (.getfield 23, 3) := dk_180 0 23 (dk_at dksX2_markRead_2 0 rfl rfl)
theorem dX2_markRead_51 : decode cX2_markRead 51 = .ok (.iconst 1, 1) := dk_4 (dk_at dksX2_markRead_2 3 rfl rfl)
theorem dX2_markRead_52 : decode cX2_markRead 52 = .ok (.aaload, 1) := dk_50 (dk_at dksX2_markRead_2 4 rfl rfl)
theorem dX2_markRead_53 : decode cX2_markRead 53 = .ok (.iload_n 3, 1) := dk_29 (dk_at dksX2_markRead_2 5 rfl rfl)
theorem dX2_markRead_54 : decode cX2_markRead 54 = .ok (.iconst 0, 1) := dk_3 (dk_at dksX2_markRead_2 6 rfl rfl)
theorem dX2_markRead_55 : decode cX2_markRead 55 = .ok (.iastore, 1) := dk_79 (dk_at dksX2_markRead_2 7 rfl rfl)
theorem dX2_markRead_56 : decode cX2_markRead 56 = .ok (.iconst 1, 1) := dk_4 (dk_at dksX2_markRead_2 8 rfl rfl)
theorem dX2_markRead_57 : decode cX2_markRead 57 = .ok (.istore 4, 2) := dk_54 4 (dk_at dksX2_markRead_2 9 rfl rfl)
theorem dX2_markRead_59 : decode cX2_markRead 59 = .ok (.iload 4, 2) := dk_21 4 (dk_at dksX2_markRead_2 11 rfl rfl)
theorem dX2_markRead_61 : decode cX2_markRead 61 = .ok (.ifCond .eq 102, 3) := dk_153 0 102 (dk_at dksX2_markRead_2 13 rfl rfl)
theorem dX2_markRead_64 : decode cX2_markRead 64 = .ok (.aload_n 0, 1) := dk_42 (dk_at dksX2_markRead_2 16 rfl rfl)
theorem dX2_markRead_65 : decode cX2_markRead 65 = .ok (.invokevirtual 234, 3) := dk_182 0 234 (dk_at dksX2_markRead_2 17 rfl rfl)
theorem dX2_markRead_68 : decode cX2_markRead 68 = .ok (.lstore 5, 2) := dk_55 5 (dk_at dksX2_markRead_2 20 rfl rfl)
theorem dX2_markRead_70 : decode cX2_markRead 70 = .ok (.lload 5, 2) := dk_22 5 (dk_at dksX2_markRead_2 22 rfl rfl)
theorem dX2_markRead_72 : decode cX2_markRead 72 = .ok (.ldc2_w 217, 3) := dk_20 0 217 (dk_at dksX2_markRead_3 0 rfl rfl)
theorem dX2_markRead_75 : decode cX2_markRead 75 = .ok (.lcmp, 1) := dk_148 (dk_at dksX2_markRead_3 3 rfl rfl)
theorem dX2_markRead_76 : decode cX2_markRead 76 = .ok (.ifCond .ne 7, 3) := dk_154 0 7 (dk_at dksX2_markRead_3 4 rfl rfl)
theorem dX2_markRead_79 : decode cX2_markRead 79 = .ok (.iconst (-1), 1) := dk_2 (dk_at dksX2_markRead_3 7 rfl rfl)
theorem dX2_markRead_80 : decode cX2_markRead 80 = .ok (.goto 9, 3) := dk_167 0 9 (dk_at dksX2_markRead_3 8 rfl rfl)
theorem dX2_markRead_83 : decode cX2_markRead 83 = .ok (.aload_n 0, 1) := dk_42 (dk_at dksX2_markRead_3 11 rfl rfl)
theorem dX2_markRead_84 : decode cX2_markRead 84 = .ok (.lload 5, 2) := dk_22 5 (dk_at dksX2_markRead_3 12 rfl rfl)
theorem dX2_markRead_86 : decode cX2_markRead 86 = .ok (.invokevirtual 227, 3) := dk_182 0 227 (dk_at dksX2_markRead_3 14 rfl rfl)
theorem dX2_markRead_89 : decode cX2_markRead 89 = .ok (.istore 7, 2) := dk_54 7 (dk_at dksX2_markRead_3 17 rfl rfl)
theorem dX2_markRead_91 : decode cX2_markRead 91 = .ok (.aload_n 0, 1) := dk_42 (dk_at dksX2_markRead_3 19 rfl rfl)
theorem dX2_markRead_92 : decode cX2_markRead 92 = .ok (.iload 7, 2) := dk_21 7 (dk_at dksX2_markRead_3 20 rfl rfl)
theorem dX2_markRead_94 : decode cX2_markRead 94 = .ok (.iconst (-1), 1) := dk_2 (dk_at dksX2_markRead_3 22 rfl rfl)
theorem dX2_markRead_95 : decode cX2_markRead 95 = .ok (.if_icmp .eq 23, 3) := dk_159 0 23 (dk_at dksX2_markRead_4 0 rfl rfl)
theorem dX2_markRead_98 : decode cX2_markRead 98 = .ok (.aload_n 0, 1) := dk_42 (dk_at dksX2_markRead_4 3 rfl rfl)
theorem dX2_markRead_99 : decode cX2_markRead 99 = .ok (.getfield 23, 3) := dk_180 0 23 (dk_at dksX2_markRead_4 4 rfl rfl)
theorem dX2_markRead_102 : decode cX2_markRead 102 = .ok (.iconst 1, 1) := dk_4 (dk_at dksX2_markRead_4 7 rfl rfl)
theorem dX2_markRead_103 : decode cX2_markRead 103 = .ok (.aaload, 1) := dk_50 (dk_at dksX2_markRead_4 8 rfl rfl)
theorem dX2_markRead_104 : decode cX2_markRead 104 = .ok (.iload_n 3, 1) := dk_29 (dk_at dksX2_markRead_4 9 rfl rfl)
theorem dX2_markRead_105 : decode cX2_markRead 105 = .ok (.iaload, 1) := dk_46 (dk_at dksX2_markRead_4 10 rfl rfl)
theorem dX2_markRead_106 : decode cX2_markRead 106 = .ok (.iload 7, 2) := dk_21 7 (dk_at dksX2_markRead_4 11 rfl rfl)
theorem dX2_markRead_108 : decode cX2_markRead 108 = .ok (.ishr, 1) := dk_122 (dk_at dksX2_markRead_4 13 rfl rfl)
theorem dX2_markRead_109 : decode cX2_markRead 109 = .ok (.iconst 1, 1) := dk_4 (dk_at dksX2_markRead_4 14 rfl rfl)
theorem dX2_markRead_110 : decode cX2_markRead 110 = .ok (.iand, 1) := dk_126 (dk_at dksX2_markRead_4 15 rfl rfl)
theorem dX2_markRead_111 : decode cX2_markRead 111 = .ok (.ifCond .ne 7, 3) := dk_154 0 7 (dk_at dksX2_markRead_4 16 rfl rfl)
theorem dX2_markRead_114 : decode cX2_markRead 114 = .ok (.iconst 1, 1) := dk_4 (dk_at dksX2_markRead_4 19 rfl rfl)
theorem dX2_markRead_115 : decode cX2_markRead 115 = .ok (.goto 4, 3) := dk_167 0 4 (dk_at dksX2_markRead_4 20 rfl rfl)
theorem dX2_markRead_118 : decode cX2_markRead 118 = .ok (.iconst 0, 1) := dk_3 (dk_at dksX2_markRead_4 23 rfl rfl)
theorem dX2_markRead_119 : decode cX2_markRead 119 = .ok (.invokevirtual 210, 3) := dk_182 0 210 (dk_at dksX2_markRead_5 0 rfl rfl)
theorem dX2_markRead_122 : decode cX2_markRead 122 = .ok (.ifCond .ne 5, 3) := dk_154 0 5 (dk_at dksX2_markRead_5 3 rfl rfl)
theorem dX2_markRead_125 : decode cX2_markRead 125 = .ok (.iconst 0, 1) := dk_3 (dk_at dksX2_markRead_5 6 rfl rfl)
theorem dX2_markRead_126 : decode cX2_markRead 126 = .ok (.ireturn, 1) := dk_172 (dk_at dksX2_markRead_5 7 rfl rfl)
theorem dX2_markRead_127 : decode cX2_markRead 127 = .ok (.aload_n 0, 1) := dk_42 (dk_at dksX2_markRead_5 8 rfl rfl)
theorem dX2_markRead_128 : decode cX2_markRead 128 = .ok (.getfield 23, 3) := dk_180 0 23 (dk_at dksX2_markRead_5 9 rfl rfl)
theorem dX2_markRead_131 : decode cX2_markRead 131 = .ok (.iconst 1, 1) := dk_4 (dk_at dksX2_markRead_5 12 rfl rfl)
theorem dX2_markRead_132 : decode cX2_markRead 132 = .ok (.aaload, 1) := dk_50 (dk_at dksX2_markRead_5 13 rfl rfl)
theorem dX2_markRead_133 : decode cX2_markRead 133 = .ok (.iload_n 3, 1) := dk_29 (dk_at dksX2_markRead_5 14 rfl rfl)
theorem dX2_markRead_134 : decode cX2_markRead 134 = .ok (.dup2, 1) := dk_92 (dk_at dksX2_markRead_5 15 rfl rfl)
theorem dX2_markRead_135 : decode cX2_markRead 135 = .ok (.iaload, 1) := dk_46 (dk_at dksX2_markRead_5 16 rfl rfl)
theorem dX2_markRead_136 : decode cX2_markRead 136 = .ok (.iconst 1, 1) := dk_4 (dk_at dksX2_markRead_5 17 rfl rfl)
theorem dX2_markRead_137 : decode cX2_markRead 137 = .ok (.iload 7, 2) := dk_21 7 (dk_at dksX2_markRead_5 18 rfl rfl)
theorem dX2_markRead_139 : decode cX2_markRead 139 = .ok (.ishl, 1) := dk_120 (dk_at dksX2_markRead_5 20 rfl rfl)
theorem dX2_markRead_140 : decode cX2_markRead 140 = .ok (.ior, 1) := dk_128 (dk_at dksX2_markRead_5 21 rfl rfl)
theorem dX2_markRead_141 : decode cX2_markRead 141 = .ok (.iastore, 1) := dk_79 (dk_at dksX2_markRead_5 22 rfl rfl)
theorem dX2_markRead_142 : decode cX2_markRead 142 = .ok (.aload_n 0, 1) := dk_42 (dk_at dksX2_markRead_5 23 rfl rfl)
theorem dX2_markRead_143 : decode cX2_markRead 143 = .ok (.invokevirtual 234, 3) := dk_182 0 234 (dk_at dksX2_markRead_6 0 rfl rfl)
theorem dX2_markRead_146 : decode cX2_markRead 146 = .ok (.ldc2_w 217, 3) := dk_20 0 217 (dk_at dksX2_markRead_6 3 rfl rfl)
theorem dX2_markRead_149 : decode cX2_markRead 149 = .ok (.lcmp, 1) := dk_148 (dk_at dksX2_markRead_6 6 rfl rfl)
theorem dX2_markRead_150 : decode cX2_markRead 150 = .ok (.ifCond .eq 7, 3) := dk_153 0 7 (dk_at dksX2_markRead_6 7 rfl rfl)
theorem dX2_markRead_153 : decode cX2_markRead 153 = .ok (.iconst 1, 1) := dk_4 (dk_at dksX2_markRead_6 10 rfl rfl)
theorem dX2_markRead_154 : decode cX2_markRead 154 = .ok (.goto 4, 3) := dk_167 0 4 (dk_at dksX2_markRead_6 11 rfl rfl)
theorem dX2_markRead_157 : decode cX2_markRead 157 = .ok (.iconst 0, 1) := dk_3 (dk_at dksX2_markRead_6 14 rfl rfl)
theorem dX2_markRead_158 : decode cX2_markRead 158 = .ok (.istore 4, 2) := dk_54 4 (dk_at dksX2_markRead_6 15 rfl rfl)
theorem dX2_markRead_160 : decode cX2_markRead 160 = .ok (.goto (-101), 3) := dk_167 255 155 (dk_at dksX2_markRead_6 17 rfl rfl)
theorem dX2_markRead_163 : decode cX2_markRead 163 = .ok (.aload_n 0, 1) := dk_42 (dk_at dksX2_markRead_6 20 rfl rfl)
theorem dX2_markRead_164 : decode cX2_markRead 164 = .ok (.getfield 48, 3) := dk_180 0 48 (dk_at dksX2_markRead_6 21 rfl rfl)
theorem dX2_markRead_167 : decode cX2_markRead 167 = .ok (.iconst 1, 1) := dk_4 (dk_at dksX2_markRead_7 0 rfl rfl)
theorem dX2_markRead_168 : decode cX2_markRead 168 = .ok (.dup2, 1) := dk_92 (dk_at dksX2_markRead_7 1 rfl rfl)
theorem dX2_markRead_169 : decode cX2_markRead 169 = .ok (.iaload, 1) := dk_46 (dk_at dksX2_markRead_7 2 rfl rfl)
theorem dX2_markRead_170 : decode cX2_markRead 170 = .ok (.iconst 1, 1) := dk_4 (dk_at dksX2_markRead_7 3 rfl rfl)
theorem dX2_markRead_171 : decode cX2_markRead 171 = .ok (.iadd, 1) := dk_96 (dk_at dksX2_markRead_7 4 rfl rfl)
theorem dX2_markRead_172 : decode cX2_markRead 172 = .ok (.iastore, 1) := dk_79 (dk_at dksX2_markRead_7 5 rfl rfl)
theorem dX2_markRead_173 : decode cX2_markRead 173 = .ok (.aload_n 0, 1) := dk_42 (dk_at dksX2_markRead_7 6 rfl rfl)
theorem dX2_markRead_174 : decode cX2_markRead 174 = .ok (.invokevirtual 242, 3) := dk_182 0 242 (dk_at dksX2_markRead_7 7 rfl rfl)
theorem dX2_markRead_177 : decode cX2_markRead 177 = .ok (.ireturn, 1) := dk_172 (dk_at dksX2_markRead_7 10 rfl rfl)
abbrev cX2_ruleRead : ByteArray := prog_26_method_19_code
def yX2_ruleRead : MethodName := ⟨RX2, "ruleRead", "(I)Z"⟩
def dkwX2_ruleRead_9 : List UInt8 := [21, 5, 79, 42, 180, 0, 51, 4, 92, 46, 4, 96, 79, 42, 182, 0, 242, 172]
abbrev dktX2_ruleRead_9 : List UInt8 := dkwX2_ruleRead_9 ++ []
def dkwX2_ruleRead_8 : List UInt8 := [159, 0, 7, 4, 167, 0, 4, 3, 182, 0, 210, 154, 0, 5, 3, 172, 42, 180, 0, 41, 4, 50, 28]
abbrev dktX2_ruleRead_8 : List UInt8 := dkwX2_ruleRead_8 ++ dktX2_ruleRead_9
def dkwX2_ruleRead_7 : List UInt8 := [33, 20, 0, 217, 148, 154, 0, 7, 2, 167, 0, 8, 42, 33, 182, 0, 231, 54, 5, 42, 21, 5, 2]
abbrev dktX2_ruleRead_7 : List UInt8 := dkwX2_ruleRead_7 ++ dktX2_ruleRead_8
def dkwX2_ruleRead_6 : List UInt8 := [28, 42, 180, 0, 214, 79, 42, 16, 8, 182, 0, 219, 153, 0, 61, 42, 182, 0, 199, 42, 182, 0, 234, 66]
abbrev dktX2_ruleRead_6 : List UInt8 := dkwX2_ruleRead_6 ++ dktX2_ruleRead_7
def dkwX2_ruleRead_5 : List UInt8 := [153, 0, 30, 42, 182, 0, 199, 42, 3, 6, 182, 0, 249, 154, 0, 5, 3, 172, 42, 180, 0, 38, 4, 50]
abbrev dktX2_ruleRead_5 : List UInt8 := dkwX2_ruleRead_5 ++ dktX2_ruleRead_6
def dkwX2_ruleRead_4 : List UInt8 := [42, 180, 0, 38, 4, 50, 28, 2, 79, 42, 180, 0, 41, 4, 50, 28, 2, 79, 42, 16, 7, 182, 0, 219]
abbrev dktX2_ruleRead_4 : List UInt8 := dkwX2_ruleRead_4 ++ dktX2_ruleRead_5
def dkwX2_ruleRead_3 : List UInt8 := [42, 4, 16, 9, 182, 0, 249, 154, 0, 5, 3, 172, 42, 180, 0, 35, 4, 50, 28, 42, 180, 0, 214, 79]
abbrev dktX2_ruleRead_3 : List UInt8 := dkwX2_ruleRead_3 ++ dktX2_ruleRead_4
def dkwX2_ruleRead_2 : List UInt8 := [180, 0, 32, 4, 50, 28, 42, 180, 0, 214, 79, 42, 42, 16, 6, 182, 0, 219, 182, 0, 210, 153, 0, 13]
abbrev dktX2_ruleRead_2 : List UInt8 := dkwX2_ruleRead_2 ++ dktX2_ruleRead_3
def dkwX2_ruleRead_1 : List UInt8 := [172, 42, 180, 0, 29, 4, 50, 28, 42, 180, 0, 214, 79, 42, 182, 0, 246, 154, 0, 5, 3, 172, 42]
abbrev dktX2_ruleRead_1 : List UInt8 := dkwX2_ruleRead_1 ++ dktX2_ruleRead_2
def dkwX2_ruleRead_0 : List UInt8 := [42, 180, 0, 51, 4, 46, 61, 42, 180, 0, 26, 4, 50, 28, 27, 79, 42, 182, 0, 246, 154, 0, 5, 3]
abbrev dktX2_ruleRead_0 : List UInt8 := dkwX2_ruleRead_0 ++ dktX2_ruleRead_1
theorem dksX2_ruleRead_0 : cX2_ruleRead.data.toList.drop 0 = dktX2_ruleRead_0 := by decide +kernel
theorem dksX2_ruleRead_1 : cX2_ruleRead.data.toList.drop 24 = dktX2_ruleRead_1 := dk_seg dksX2_ruleRead_0 24 rfl rfl
theorem dksX2_ruleRead_2 : cX2_ruleRead.data.toList.drop 47 = dktX2_ruleRead_2 := dk_seg dksX2_ruleRead_1 23 rfl rfl
theorem dksX2_ruleRead_3 : cX2_ruleRead.data.toList.drop 71 = dktX2_ruleRead_3 := dk_seg dksX2_ruleRead_2 24 rfl rfl
theorem dksX2_ruleRead_4 : cX2_ruleRead.data.toList.drop 95 = dktX2_ruleRead_4 := dk_seg dksX2_ruleRead_3 24 rfl rfl
theorem dksX2_ruleRead_5 : cX2_ruleRead.data.toList.drop 119 = dktX2_ruleRead_5 := dk_seg dksX2_ruleRead_4 24 rfl rfl
theorem dksX2_ruleRead_6 : cX2_ruleRead.data.toList.drop 143 = dktX2_ruleRead_6 := dk_seg dksX2_ruleRead_5 24 rfl rfl
theorem dksX2_ruleRead_7 : cX2_ruleRead.data.toList.drop 167 = dktX2_ruleRead_7 := dk_seg dksX2_ruleRead_6 24 rfl rfl
theorem dksX2_ruleRead_8 : cX2_ruleRead.data.toList.drop 190 = dktX2_ruleRead_8 := dk_seg dksX2_ruleRead_7 23 rfl rfl
theorem dksX2_ruleRead_9 : cX2_ruleRead.data.toList.drop 213 = dktX2_ruleRead_9 := dk_seg dksX2_ruleRead_8 23 rfl rfl
theorem dX2_ruleRead_0 : decode cX2_ruleRead 0 = .ok (.aload_n 0, 1) := dk_42 (dk_at dksX2_ruleRead_0 0 rfl rfl)
theorem dX2_ruleRead_1 : decode cX2_ruleRead 1 = .ok (.getfield 51, 3) := dk_180 0 51 (dk_at dksX2_ruleRead_0 1 rfl rfl)
theorem dX2_ruleRead_4 : decode cX2_ruleRead 4 = .ok (.iconst 1, 1) := dk_4 (dk_at dksX2_ruleRead_0 4 rfl rfl)
theorem dX2_ruleRead_5 : decode cX2_ruleRead 5 = .ok (.iaload, 1) := dk_46 (dk_at dksX2_ruleRead_0 5 rfl rfl)
theorem dX2_ruleRead_6 : decode cX2_ruleRead 6 = .ok (.istore_n 2, 1) := dk_61 (dk_at dksX2_ruleRead_0 6 rfl rfl)
theorem dX2_ruleRead_7 : decode cX2_ruleRead 7 = .ok (.aload_n 0, 1) := dk_42 (dk_at dksX2_ruleRead_0 7 rfl rfl)
theorem dX2_ruleRead_8 : decode cX2_ruleRead 8 = .ok (.getfield 26, 3) := dk_180 0 26 (dk_at dksX2_ruleRead_0 8 rfl rfl)
theorem dX2_ruleRead_11 : decode cX2_ruleRead 11 = .ok (.iconst 1, 1) := dk_4 (dk_at dksX2_ruleRead_0 11 rfl rfl)
theorem dX2_ruleRead_12 : decode cX2_ruleRead 12 = .ok (.aaload, 1) := dk_50 (dk_at dksX2_ruleRead_0 12 rfl rfl)
theorem dX2_ruleRead_13 : decode cX2_ruleRead 13 = .ok (.iload_n 2, 1) := dk_28 (dk_at dksX2_ruleRead_0 13 rfl rfl)
theorem dX2_ruleRead_14 : decode cX2_ruleRead 14 = .ok (.iload_n 1, 1) := dk_27 (dk_at dksX2_ruleRead_0 14 rfl rfl)
theorem dX2_ruleRead_15 : decode cX2_ruleRead 15 = .ok (.iastore, 1) := dk_79 (dk_at dksX2_ruleRead_0 15 rfl rfl)
theorem dX2_ruleRead_16 : decode cX2_ruleRead 16 = .ok (.aload_n 0, 1) := dk_42 (dk_at dksX2_ruleRead_0 16 rfl rfl)
theorem dX2_ruleRead_17 : decode cX2_ruleRead 17 = .ok (.invokevirtual 246, 3) := dk_182 0 246 (dk_at dksX2_ruleRead_0 17 rfl rfl)
theorem dX2_ruleRead_20 : decode cX2_ruleRead 20 = .ok (.ifCond .ne 5, 3) := dk_154 0 5 (dk_at dksX2_ruleRead_0 20 rfl rfl)
theorem dX2_ruleRead_23 : decode cX2_ruleRead 23 = .ok (.iconst 0, 1) := dk_3 (dk_at dksX2_ruleRead_0 23 rfl rfl)
theorem dX2_ruleRead_24 : decode cX2_ruleRead 24 = .ok (.ireturn, 1) := dk_172 (dk_at dksX2_ruleRead_1 0 rfl rfl)
theorem dX2_ruleRead_25 : decode cX2_ruleRead 25 = .ok (.aload_n 0, 1) := dk_42 (dk_at dksX2_ruleRead_1 1 rfl rfl)
theorem dX2_ruleRead_26 : decode cX2_ruleRead 26 = .ok (.getfield 29, 3) := dk_180 0 29 (dk_at dksX2_ruleRead_1 2 rfl rfl)
theorem dX2_ruleRead_29 : decode cX2_ruleRead 29 = .ok (.iconst 1, 1) := dk_4 (dk_at dksX2_ruleRead_1 5 rfl rfl)
theorem dX2_ruleRead_30 : decode cX2_ruleRead 30 = .ok (.aaload, 1) := dk_50 (dk_at dksX2_ruleRead_1 6 rfl rfl)
theorem dX2_ruleRead_31 : decode cX2_ruleRead 31 = .ok (.iload_n 2, 1) := dk_28 (dk_at dksX2_ruleRead_1 7 rfl rfl)
theorem dX2_ruleRead_32 : decode cX2_ruleRead 32 = .ok (.aload_n 0, 1) := dk_42 (dk_at dksX2_ruleRead_1 8 rfl rfl)
theorem dX2_ruleRead_33 : decode cX2_ruleRead 33 = .ok (.getfield 214, 3) := dk_180 0 214 (dk_at dksX2_ruleRead_1 9 rfl rfl)
theorem dX2_ruleRead_36 : decode cX2_ruleRead 36 = .ok (.iastore, 1) := dk_79 (dk_at dksX2_ruleRead_1 12 rfl rfl)
theorem dX2_ruleRead_37 : decode cX2_ruleRead 37 = .ok (.aload_n 0, 1) := dk_42 (dk_at dksX2_ruleRead_1 13 rfl rfl)
theorem dX2_ruleRead_38 : decode cX2_ruleRead 38 = .ok (.invokevirtual 246, 3) := dk_182 0 246 (dk_at dksX2_ruleRead_1 14 rfl rfl)
theorem dX2_ruleRead_41 : decode cX2_ruleRead 41 = .ok (.ifCond .ne 5, 3) := dk_154 0 5 (dk_at dksX2_ruleRead_1 17 rfl rfl)
theorem dX2_ruleRead_44 : decode cX2_ruleRead 44 = .ok (.iconst 0, 1) := dk_3 (dk_at dksX2_ruleRead_1 20 rfl rfl)
theorem dX2_ruleRead_45 : decode cX2_ruleRead 45 = .ok (.ireturn, 1) := dk_172 (dk_at dksX2_ruleRead_1 21 rfl rfl)
theorem dX2_ruleRead_46 : decode cX2_ruleRead 46 = .ok (.aload_n 0, 1) := dk_42 (dk_at dksX2_ruleRead_1 22 rfl rfl)
theorem dX2_ruleRead_47 : decode cX2_ruleRead 47 = .ok (.getfield 32, 3) := dk_180 0 32 (dk_at dksX2_ruleRead_2 0 rfl rfl)
theorem dX2_ruleRead_50 : decode cX2_ruleRead 50 = .ok (.iconst 1, 1) := dk_4 (dk_at dksX2_ruleRead_2 3 rfl rfl)
theorem dX2_ruleRead_51 : decode cX2_ruleRead 51 = .ok (.aaload, 1) := dk_50 (dk_at dksX2_ruleRead_2 4 rfl rfl)
theorem dX2_ruleRead_52 : decode cX2_ruleRead 52 = .ok (.iload_n 2, 1) := dk_28 (dk_at dksX2_ruleRead_2 5 rfl rfl)
theorem dX2_ruleRead_53 : decode cX2_ruleRead 53 = .ok (.aload_n 0, 1) := dk_42 (dk_at dksX2_ruleRead_2 6 rfl rfl)
theorem dX2_ruleRead_54 : decode cX2_ruleRead 54 = .ok (.getfield 214, 3) := dk_180 0 214 (dk_at dksX2_ruleRead_2 7 rfl rfl)
theorem dX2_ruleRead_57 : decode cX2_ruleRead 57 = .ok (.iastore, 1) := dk_79 (dk_at dksX2_ruleRead_2 10 rfl rfl)
theorem dX2_ruleRead_58 : decode cX2_ruleRead 58 = .ok (.aload_n 0, 1) := dk_42 (dk_at dksX2_ruleRead_2 11 rfl rfl)
theorem dX2_ruleRead_59 : decode cX2_ruleRead 59 = .ok (.aload_n 0, 1) := dk_42 (dk_at dksX2_ruleRead_2 12 rfl rfl)
theorem dX2_ruleRead_60 : decode cX2_ruleRead 60 = .ok (.bipush 6, 2) := dk_16 6 (dk_at dksX2_ruleRead_2 13 rfl rfl)
theorem dX2_ruleRead_62 : decode cX2_ruleRead 62 = .ok (.invokevirtual 219, 3) := dk_182 0 219 (dk_at dksX2_ruleRead_2 15 rfl rfl)
theorem dX2_ruleRead_65 : decode cX2_ruleRead 65 = .ok (.invokevirtual 210, 3) := dk_182 0 210 (dk_at dksX2_ruleRead_2 18 rfl rfl)
theorem dX2_ruleRead_68 : decode cX2_ruleRead 68 = .ok (.ifCond .eq 13, 3) := dk_153 0 13 (dk_at dksX2_ruleRead_2 21 rfl rfl)
theorem dX2_ruleRead_71 : decode cX2_ruleRead 71 = .ok (.aload_n 0, 1) := dk_42 (dk_at dksX2_ruleRead_3 0 rfl rfl)
theorem dX2_ruleRead_72 : decode cX2_ruleRead 72 = .ok (.iconst 1, 1) := dk_4 (dk_at dksX2_ruleRead_3 1 rfl rfl)
theorem dX2_ruleRead_73 : decode cX2_ruleRead 73 = .ok (.bipush 9, 2) := dk_16 9 (dk_at dksX2_ruleRead_3 2 rfl rfl)
theorem dX2_ruleRead_75 : decode cX2_ruleRead 75 = .ok (.invokevirtual 249, 3) := dk_182 0 249 (dk_at dksX2_ruleRead_3 4 rfl rfl)
theorem dX2_ruleRead_78 : decode cX2_ruleRead 78 = .ok (.ifCond .ne 5, 3) := dk_154 0 5 (dk_at dksX2_ruleRead_3 7 rfl rfl)
theorem dX2_ruleRead_81 : decode cX2_ruleRead 81 = .ok (.iconst 0, 1) := dk_3 (dk_at dksX2_ruleRead_3 10 rfl rfl)
theorem dX2_ruleRead_82 : decode cX2_ruleRead 82 = .ok (.ireturn, 1) := dk_172 (dk_at dksX2_ruleRead_3 11 rfl rfl)
theorem dX2_ruleRead_83 : decode cX2_ruleRead 83 = .ok (.aload_n 0, 1) := dk_42 (dk_at dksX2_ruleRead_3 12 rfl rfl)
theorem dX2_ruleRead_84 : decode cX2_ruleRead 84 = .ok (.getfield 35, 3) := dk_180 0 35 (dk_at dksX2_ruleRead_3 13 rfl rfl)
theorem dX2_ruleRead_87 : decode cX2_ruleRead 87 = .ok (.iconst 1, 1) := dk_4 (dk_at dksX2_ruleRead_3 16 rfl rfl)
theorem dX2_ruleRead_88 : decode cX2_ruleRead 88 = .ok (.aaload, 1) := dk_50 (dk_at dksX2_ruleRead_3 17 rfl rfl)
theorem dX2_ruleRead_89 : decode cX2_ruleRead 89 = .ok (.iload_n 2, 1) := dk_28 (dk_at dksX2_ruleRead_3 18 rfl rfl)
theorem dX2_ruleRead_90 : decode cX2_ruleRead 90 = .ok (.aload_n 0, 1) := dk_42 (dk_at dksX2_ruleRead_3 19 rfl rfl)
theorem dX2_ruleRead_91 : decode cX2_ruleRead 91 = .ok (.getfield 214, 3) := dk_180 0 214 (dk_at dksX2_ruleRead_3 20 rfl rfl)
theorem dX2_ruleRead_94 : decode cX2_ruleRead 94 = .ok (.iastore, 1) := dk_79 (dk_at dksX2_ruleRead_3 23 rfl rfl)
theorem dX2_ruleRead_95 : decode cX2_ruleRead 95 = .ok (.aload_n 0, 1) := dk_42 (dk_at dksX2_ruleRead_4 0 rfl rfl)
theorem dX2_ruleRead_96 : decode cX2_ruleRead 96 = .ok (.getfield 38, 3) := dk_180 0 38 (dk_at dksX2_ruleRead_4 1 rfl rfl)
theorem dX2_ruleRead_99 : decode cX2_ruleRead 99 = .ok (.iconst 1, 1) := dk_4 (dk_at dksX2_ruleRead_4 4 rfl rfl)
theorem dX2_ruleRead_100 : decode cX2_ruleRead 100 = .ok (.aaload, 1) := dk_50 (dk_at dksX2_ruleRead_4 5 rfl rfl)
theorem dX2_ruleRead_101 : decode cX2_ruleRead 101 = .ok (.iload_n 2, 1) := dk_28 (dk_at dksX2_ruleRead_4 6 rfl rfl)
theorem dX2_ruleRead_102 : decode cX2_ruleRead 102 = .ok (.iconst (-1), 1) := dk_2 (dk_at dksX2_ruleRead_4 7 rfl rfl)
theorem dX2_ruleRead_103 : decode cX2_ruleRead 103 = .ok (.iastore, 1) := dk_79 (dk_at dksX2_ruleRead_4 8 rfl rfl)
theorem dX2_ruleRead_104 : decode cX2_ruleRead 104 = .ok (.aload_n 0, 1) := dk_42 (dk_at dksX2_ruleRead_4 9 rfl rfl)
theorem dX2_ruleRead_105 : decode cX2_ruleRead 105 = .ok (.getfield 41, 3) := dk_180 0 41 (dk_at dksX2_ruleRead_4 10 rfl rfl)
theorem dX2_ruleRead_108 : decode cX2_ruleRead 108 = .ok (.iconst 1, 1) := dk_4 (dk_at dksX2_ruleRead_4 13 rfl rfl)
theorem dX2_ruleRead_109 : decode cX2_ruleRead 109 = .ok (.aaload, 1) := dk_50 (dk_at dksX2_ruleRead_4 14 rfl rfl)
theorem dX2_ruleRead_110 : decode cX2_ruleRead 110 = .ok (.iload_n 2, 1) := dk_28 (dk_at dksX2_ruleRead_4 15 rfl rfl)
theorem dX2_ruleRead_111 : decode cX2_ruleRead 111 = .ok (.iconst (-1), 1) := dk_2 (dk_at dksX2_ruleRead_4 16 rfl rfl)
theorem dX2_ruleRead_112 : decode cX2_ruleRead 112 = .ok (.iastore, 1) := dk_79 (dk_at dksX2_ruleRead_4 17 rfl rfl)
theorem dX2_ruleRead_113 : decode cX2_ruleRead 113 = .ok (.aload_n 0, 1) := dk_42 (dk_at dksX2_ruleRead_4 18 rfl rfl)
theorem dX2_ruleRead_114 : decode cX2_ruleRead 114 = .ok (.bipush 7, 2) := dk_16 7 (dk_at dksX2_ruleRead_4 19 rfl rfl)
theorem dX2_ruleRead_116 : decode cX2_ruleRead 116 = .ok (.invokevirtual 219, 3) := dk_182 0 219 (dk_at dksX2_ruleRead_4 21 rfl rfl)
theorem dX2_ruleRead_119 : decode cX2_ruleRead 119 = .ok (.ifCond .eq 30, 3) := dk_153 0 30 (dk_at dksX2_ruleRead_5 0 rfl rfl)
theorem dX2_ruleRead_122 : decode cX2_ruleRead 122 = .ok (.aload_n 0, 1) := dk_42 (dk_at dksX2_ruleRead_5 3 rfl rfl)
theorem dX2_ruleRead_123 : decode cX2_ruleRead 123 = .ok (.invokevirtual 199, 3) := dk_182 0 199 (dk_at dksX2_ruleRead_5 4 rfl rfl)
theorem dX2_ruleRead_126 : decode cX2_ruleRead 126 = .ok (.aload_n 0, 1) := dk_42 (dk_at dksX2_ruleRead_5 7 rfl rfl)
theorem dX2_ruleRead_127 : decode cX2_ruleRead 127 = .ok (.iconst 0, 1) := dk_3 (dk_at dksX2_ruleRead_5 8 rfl rfl)
theorem dX2_ruleRead_128 : decode cX2_ruleRead 128 = .ok (.iconst 3, 1) := dk_6 (dk_at dksX2_ruleRead_5 9 rfl rfl)
theorem dX2_ruleRead_129 : decode cX2_ruleRead 129 = .ok (.invokevirtual 249, 3) := dk_182 0 249 (dk_at dksX2_ruleRead_5 10 rfl rfl)
theorem dX2_ruleRead_132 : decode cX2_ruleRead 132 = .ok (.ifCond .ne 5, 3) := dk_154 0 5 (dk_at dksX2_ruleRead_5 13 rfl rfl)
theorem dX2_ruleRead_135 : decode cX2_ruleRead 135 = .ok (.iconst 0, 1) := dk_3 (dk_at dksX2_ruleRead_5 16 rfl rfl)
theorem dX2_ruleRead_136 : decode cX2_ruleRead 136 = .ok (.ireturn, 1) := dk_172 (dk_at dksX2_ruleRead_5 17 rfl rfl)
theorem dX2_ruleRead_137 : decode cX2_ruleRead 137 = .ok (.aload_n 0, 1) := dk_42 (dk_at dksX2_ruleRead_5 18 rfl rfl)
theorem dX2_ruleRead_138 : decode cX2_ruleRead 138 = .ok (.getfield 38, 3) := dk_180 0 38 (dk_at dksX2_ruleRead_5 19 rfl rfl)
theorem dX2_ruleRead_141 : decode cX2_ruleRead 141 = .ok (.iconst 1, 1) := dk_4 (dk_at dksX2_ruleRead_5 22 rfl rfl)
theorem dX2_ruleRead_142 : decode cX2_ruleRead 142 = .ok (.aaload, 1) := dk_50 (dk_at dksX2_ruleRead_5 23 rfl rfl)
theorem dX2_ruleRead_143 : decode cX2_ruleRead 143 = .ok (.iload_n 2, 1) := dk_28 (dk_at dksX2_ruleRead_6 0 rfl rfl)
theorem dX2_ruleRead_144 : decode cX2_ruleRead 144 = .ok (.aload_n 0, 1) := dk_42 (dk_at dksX2_ruleRead_6 1 rfl rfl)
theorem dX2_ruleRead_145 : decode cX2_ruleRead 145 = .ok (.getfield 214, 3) := dk_180 0 214 (dk_at dksX2_ruleRead_6 2 rfl rfl)
theorem dX2_ruleRead_148 : decode cX2_ruleRead 148 = .ok (.iastore, 1) := dk_79 (dk_at dksX2_ruleRead_6 5 rfl rfl)
theorem dX2_ruleRead_149 : decode cX2_ruleRead 149 = .ok (.aload_n 0, 1) := dk_42 (dk_at dksX2_ruleRead_6 6 rfl rfl)
theorem dX2_ruleRead_150 : decode cX2_ruleRead 150 = .ok (.bipush 8, 2) := dk_16 8 (dk_at dksX2_ruleRead_6 7 rfl rfl)
theorem dX2_ruleRead_152 : decode cX2_ruleRead 152 = .ok (.invokevirtual 219, 3) := dk_182 0 219 (dk_at dksX2_ruleRead_6 9 rfl rfl)
theorem dX2_ruleRead_155 : decode cX2_ruleRead 155 = .ok (.ifCond .eq 61, 3) := dk_153 0 61 (dk_at dksX2_ruleRead_6 12 rfl rfl)
theorem dX2_ruleRead_158 : decode cX2_ruleRead 158 = .ok (.aload_n 0, 1) := dk_42 (dk_at dksX2_ruleRead_6 15 rfl rfl)
theorem dX2_ruleRead_159 : decode cX2_ruleRead 159 = .ok (.invokevirtual 199, 3) := dk_182 0 199 (dk_at dksX2_ruleRead_6 16 rfl rfl)
theorem dX2_ruleRead_162 : decode cX2_ruleRead 162 = .ok (.aload_n 0, 1) := dk_42 (dk_at dksX2_ruleRead_6 19 rfl rfl)
theorem dX2_ruleRead_163 : decode cX2_ruleRead 163 = .ok (.invokevirtual 234, 3) := dk_182 0 234 (dk_at dksX2_ruleRead_6 20 rfl rfl)
theorem dX2_ruleRead_166 : decode cX2_ruleRead 166 = .ok (.lstore_n 3, 1) := dk_66 (dk_at dksX2_ruleRead_6 23 rfl rfl)
theorem dX2_ruleRead_167 : decode cX2_ruleRead 167 = .ok (.lload_n 3, 1) := dk_33 (dk_at dksX2_ruleRead_7 0 rfl rfl)
theorem dX2_ruleRead_168 : decode cX2_ruleRead 168 = .ok (.ldc2_w 217, 3) := dk_20 0 217 (dk_at dksX2_ruleRead_7 1 rfl rfl)
theorem dX2_ruleRead_171 : decode cX2_ruleRead 171 = .ok (.lcmp, 1) := dk_148 (dk_at dksX2_ruleRead_7 4 rfl rfl)
theorem dX2_ruleRead_172 : decode cX2_ruleRead 172 = .ok (.ifCond .ne 7, 3) := dk_154 0 7 (dk_at dksX2_ruleRead_7 5 rfl rfl)
theorem dX2_ruleRead_175 : decode cX2_ruleRead 175 = .ok (.iconst (-1), 1) := dk_2 (dk_at dksX2_ruleRead_7 8 rfl rfl)
theorem dX2_ruleRead_176 : decode cX2_ruleRead 176 = .ok (.goto 8, 3) := dk_167 0 8 (dk_at dksX2_ruleRead_7 9 rfl rfl)
theorem dX2_ruleRead_179 : decode cX2_ruleRead 179 = .ok (.aload_n 0, 1) := dk_42 (dk_at dksX2_ruleRead_7 12 rfl rfl)
theorem dX2_ruleRead_180 : decode cX2_ruleRead 180 = .ok (.lload_n 3, 1) := dk_33 (dk_at dksX2_ruleRead_7 13 rfl rfl)
theorem dX2_ruleRead_181 : decode cX2_ruleRead 181 = .ok (.invokevirtual 231, 3) := dk_182 0 231 (dk_at dksX2_ruleRead_7 14 rfl rfl)
theorem dX2_ruleRead_184 : decode cX2_ruleRead 184 = .ok (.istore 5, 2) := dk_54 5 (dk_at dksX2_ruleRead_7 17 rfl rfl)
theorem dX2_ruleRead_186 : decode cX2_ruleRead 186 = .ok (.aload_n 0, 1) := dk_42 (dk_at dksX2_ruleRead_7 19 rfl rfl)
theorem dX2_ruleRead_187 : decode cX2_ruleRead 187 = .ok (.iload 5, 2) := dk_21 5 (dk_at dksX2_ruleRead_7 20 rfl rfl)
theorem dX2_ruleRead_189 : decode cX2_ruleRead 189 = .ok (.iconst (-1), 1) := dk_2 (dk_at dksX2_ruleRead_7 22 rfl rfl)
theorem dX2_ruleRead_190 : decode cX2_ruleRead 190 = .ok (.if_icmp .eq 7, 3) := dk_159 0 7 (dk_at dksX2_ruleRead_8 0 rfl rfl)
theorem dX2_ruleRead_193 : decode cX2_ruleRead 193 = .ok (.iconst 1, 1) := dk_4 (dk_at dksX2_ruleRead_8 3 rfl rfl)
theorem dX2_ruleRead_194 : decode cX2_ruleRead 194 = .ok (.goto 4, 3) := dk_167 0 4 (dk_at dksX2_ruleRead_8 4 rfl rfl)
theorem dX2_ruleRead_197 : decode cX2_ruleRead 197 = .ok (.iconst 0, 1) := dk_3 (dk_at dksX2_ruleRead_8 7 rfl rfl)
theorem dX2_ruleRead_198 : decode cX2_ruleRead 198 = .ok (.invokevirtual 210, 3) := dk_182 0 210 (dk_at dksX2_ruleRead_8 8 rfl rfl)
theorem dX2_ruleRead_201 : decode cX2_ruleRead 201 = .ok (.ifCond .ne 5, 3) := dk_154 0 5 (dk_at dksX2_ruleRead_8 11 rfl rfl)
theorem dX2_ruleRead_204 : decode cX2_ruleRead 204 = .ok (.iconst 0, 1) := dk_3 (dk_at dksX2_ruleRead_8 14 rfl rfl)
theorem dX2_ruleRead_205 : decode cX2_ruleRead 205 = .ok (.ireturn, 1) := dk_172 (dk_at dksX2_ruleRead_8 15 rfl rfl)
theorem dX2_ruleRead_206 : decode cX2_ruleRead 206 = .ok (.aload_n 0, 1) := dk_42 (dk_at dksX2_ruleRead_8 16 rfl rfl)
theorem dX2_ruleRead_207 : decode cX2_ruleRead 207 = .ok (.getfield 41, 3) := dk_180 0 41 (dk_at dksX2_ruleRead_8 17 rfl rfl)
theorem dX2_ruleRead_210 : decode cX2_ruleRead 210 = .ok (.iconst 1, 1) := dk_4 (dk_at dksX2_ruleRead_8 20 rfl rfl)
theorem dX2_ruleRead_211 : decode cX2_ruleRead 211 = .ok (.aaload, 1) := dk_50 (dk_at dksX2_ruleRead_8 21 rfl rfl)
theorem dX2_ruleRead_212 : decode cX2_ruleRead 212 = .ok (.iload_n 2, 1) := dk_28 (dk_at dksX2_ruleRead_8 22 rfl rfl)
theorem dX2_ruleRead_213 : decode cX2_ruleRead 213 = .ok (.iload 5, 2) := dk_21 5 (dk_at dksX2_ruleRead_9 0 rfl rfl)
theorem dX2_ruleRead_215 : decode cX2_ruleRead 215 = .ok (.iastore, 1) := dk_79 (dk_at dksX2_ruleRead_9 2 rfl rfl)
theorem dX2_ruleRead_216 : decode cX2_ruleRead 216 = .ok (.aload_n 0, 1) := dk_42 (dk_at dksX2_ruleRead_9 3 rfl rfl)
theorem dX2_ruleRead_217 : decode cX2_ruleRead 217 = .ok (.getfield 51, 3) := dk_180 0 51 (dk_at dksX2_ruleRead_9 4 rfl rfl)
theorem dX2_ruleRead_220 : decode cX2_ruleRead 220 = .ok (.iconst 1, 1) := dk_4 (dk_at dksX2_ruleRead_9 7 rfl rfl)
theorem dX2_ruleRead_221 : decode cX2_ruleRead 221 = .ok (.dup2, 1) := dk_92 (dk_at dksX2_ruleRead_9 8 rfl rfl)
theorem dX2_ruleRead_222 : decode cX2_ruleRead 222 = .ok (.iaload, 1) := dk_46 (dk_at dksX2_ruleRead_9 9 rfl rfl)
theorem dX2_ruleRead_223 : decode cX2_ruleRead 223 = .ok (.iconst 1, 1) := dk_4 (dk_at dksX2_ruleRead_9 10 rfl rfl)
theorem dX2_ruleRead_224 : decode cX2_ruleRead 224 = .ok (.iadd, 1) := dk_96 (dk_at dksX2_ruleRead_9 11 rfl rfl)
theorem dX2_ruleRead_225 : decode cX2_ruleRead 225 = .ok (.iastore, 1) := dk_79 (dk_at dksX2_ruleRead_9 12 rfl rfl)
theorem dX2_ruleRead_226 : decode cX2_ruleRead 226 = .ok (.aload_n 0, 1) := dk_42 (dk_at dksX2_ruleRead_9 13 rfl rfl)
theorem dX2_ruleRead_227 : decode cX2_ruleRead 227 = .ok (.invokevirtual 242, 3) := dk_182 0 242 (dk_at dksX2_ruleRead_9 14 rfl rfl)
theorem dX2_ruleRead_230 : decode cX2_ruleRead 230 = .ok (.ireturn, 1) := dk_172 (dk_at dksX2_ruleRead_9 17 rfl rfl)
abbrev cX2_someone : ByteArray := prog_26_method_18_code
def yX2_someone : MethodName := ⟨RX2, "someone", "()Z"⟩
def dkwX2_someone_3 : List UInt8 := [4, 167, 0, 4, 3, 182, 0, 210, 172]
abbrev dktX2_someone_3 : List UInt8 := dkwX2_someone_3 ++ []
def dkwX2_someone_2 : List UInt8 := [29, 167, 0, 8, 16, 100, 21, 4, 96, 181, 0, 214, 42, 29, 2, 160, 0, 9, 21, 4, 2, 159, 0, 7]
abbrev dktX2_someone_2 : List UInt8 := dkwX2_someone_2 ++ dktX2_someone_3
def dkwX2_someone_1 : List UInt8 := [20, 0, 217, 148, 154, 0, 7, 2, 167, 0, 8, 42, 31, 182, 0, 231, 54, 4, 42, 29, 2, 159, 0, 7]
abbrev dktX2_someone_1 : List UInt8 := dkwX2_someone_1 ++ dktX2_someone_2
def dkwX2_someone_0 : List UInt8 := [42, 182, 0, 234, 64, 31, 20, 0, 217, 148, 154, 0, 7, 2, 167, 0, 8, 42, 31, 182, 0, 227, 62, 31]
abbrev dktX2_someone_0 : List UInt8 := dkwX2_someone_0 ++ dktX2_someone_1
theorem dksX2_someone_0 : cX2_someone.data.toList.drop 0 = dktX2_someone_0 := by decide +kernel
theorem dksX2_someone_1 : cX2_someone.data.toList.drop 24 = dktX2_someone_1 := dk_seg dksX2_someone_0 24 rfl rfl
theorem dksX2_someone_2 : cX2_someone.data.toList.drop 48 = dktX2_someone_2 := dk_seg dksX2_someone_1 24 rfl rfl
theorem dksX2_someone_3 : cX2_someone.data.toList.drop 72 = dktX2_someone_3 := dk_seg dksX2_someone_2 24 rfl rfl
theorem dX2_someone_0 : decode cX2_someone 0 = .ok (.aload_n 0, 1) := dk_42 (dk_at dksX2_someone_0 0 rfl rfl)
theorem dX2_someone_1 : decode cX2_someone 1 = .ok (.invokevirtual 234, 3) := dk_182 0 234 (dk_at dksX2_someone_0 1 rfl rfl)
theorem dX2_someone_4 : decode cX2_someone 4 = .ok (.lstore_n 1, 1) := dk_64 (dk_at dksX2_someone_0 4 rfl rfl)
theorem dX2_someone_5 : decode cX2_someone 5 = .ok (.lload_n 1, 1) := dk_31 (dk_at dksX2_someone_0 5 rfl rfl)
theorem dX2_someone_6 : decode cX2_someone 6 = .ok (.ldc2_w 217, 3) := dk_20 0 217 (dk_at dksX2_someone_0 6 rfl rfl)
theorem dX2_someone_9 : decode cX2_someone 9 = .ok (.lcmp, 1) := dk_148 (dk_at dksX2_someone_0 9 rfl rfl)
theorem dX2_someone_10 : decode cX2_someone 10 = .ok (.ifCond .ne 7, 3) := dk_154 0 7 (dk_at dksX2_someone_0 10 rfl rfl)
theorem dX2_someone_13 : decode cX2_someone 13 = .ok (.iconst (-1), 1) := dk_2 (dk_at dksX2_someone_0 13 rfl rfl)
theorem dX2_someone_14 : decode cX2_someone 14 = .ok (.goto 8, 3) := dk_167 0 8 (dk_at dksX2_someone_0 14 rfl rfl)
theorem dX2_someone_17 : decode cX2_someone 17 = .ok (.aload_n 0, 1) := dk_42 (dk_at dksX2_someone_0 17 rfl rfl)
theorem dX2_someone_18 : decode cX2_someone 18 = .ok (.lload_n 1, 1) := dk_31 (dk_at dksX2_someone_0 18 rfl rfl)
theorem dX2_someone_19 : decode cX2_someone 19 = .ok (.invokevirtual 227, 3) := dk_182 0 227 (dk_at dksX2_someone_0 19 rfl rfl)
theorem dX2_someone_22 : decode cX2_someone 22 = .ok (.istore_n 3, 1) := dk_62 (dk_at dksX2_someone_0 22 rfl rfl)
theorem dX2_someone_23 : decode cX2_someone 23 = .ok (.lload_n 1, 1) := dk_31 (dk_at dksX2_someone_0 23 rfl rfl)
theorem dX2_someone_24 : decode cX2_someone 24 = .ok (.ldc2_w 217, 3) := dk_20 0 217 (dk_at dksX2_someone_1 0 rfl rfl)
theorem dX2_someone_27 : decode cX2_someone 27 = .ok (.lcmp, 1) := dk_148 (dk_at dksX2_someone_1 3 rfl rfl)
theorem dX2_someone_28 : decode cX2_someone 28 = .ok (.ifCond .ne 7, 3) := dk_154 0 7 (dk_at dksX2_someone_1 4 rfl rfl)
theorem dX2_someone_31 : decode cX2_someone 31 = .ok (.iconst (-1), 1) := dk_2 (dk_at dksX2_someone_1 7 rfl rfl)
theorem dX2_someone_32 : decode cX2_someone 32 = .ok (.goto 8, 3) := dk_167 0 8 (dk_at dksX2_someone_1 8 rfl rfl)
theorem dX2_someone_35 : decode cX2_someone 35 = .ok (.aload_n 0, 1) := dk_42 (dk_at dksX2_someone_1 11 rfl rfl)
theorem dX2_someone_36 : decode cX2_someone 36 = .ok (.lload_n 1, 1) := dk_31 (dk_at dksX2_someone_1 12 rfl rfl)
theorem dX2_someone_37 : decode cX2_someone 37 = .ok (.invokevirtual 231, 3) := dk_182 0 231 (dk_at dksX2_someone_1 13 rfl rfl)
theorem dX2_someone_40 : decode cX2_someone 40 = .ok (.istore 4, 2) := dk_54 4 (dk_at dksX2_someone_1 16 rfl rfl)
theorem dX2_someone_42 : decode cX2_someone 42 = .ok (.aload_n 0, 1) := dk_42 (dk_at dksX2_someone_1 18 rfl rfl)
theorem dX2_someone_43 : decode cX2_someone 43 = .ok (.iload_n 3, 1) := dk_29 (dk_at dksX2_someone_1 19 rfl rfl)
theorem dX2_someone_44 : decode cX2_someone 44 = .ok (.iconst (-1), 1) := dk_2 (dk_at dksX2_someone_1 20 rfl rfl)
theorem dX2_someone_45 : decode cX2_someone 45 = .ok (.if_icmp .eq 7, 3) := dk_159 0 7 (dk_at dksX2_someone_1 21 rfl rfl)
theorem dX2_someone_48 : decode cX2_someone 48 = .ok (.iload_n 3, 1) := dk_29 (dk_at dksX2_someone_2 0 rfl rfl)
theorem dX2_someone_49 : decode cX2_someone 49 = .ok (.goto 8, 3) := dk_167 0 8 (dk_at dksX2_someone_2 1 rfl rfl)
theorem dX2_someone_52 : decode cX2_someone 52 = .ok (.bipush 100, 2) := dk_16 100 (dk_at dksX2_someone_2 4 rfl rfl)
theorem dX2_someone_54 : decode cX2_someone 54 = .ok (.iload 4, 2) := dk_21 4 (dk_at dksX2_someone_2 6 rfl rfl)
theorem dX2_someone_56 : decode cX2_someone 56 = .ok (.iadd, 1) := dk_96 (dk_at dksX2_someone_2 8 rfl rfl)
theorem dX2_someone_57 : decode cX2_someone 57 = .ok (.putfield 214, 3) := dk_181 0 214 (dk_at dksX2_someone_2 9 rfl rfl)
theorem dX2_someone_60 : decode cX2_someone 60 = .ok (.aload_n 0, 1) := dk_42 (dk_at dksX2_someone_2 12 rfl rfl)
theorem dX2_someone_61 : decode cX2_someone 61 = .ok (.iload_n 3, 1) := dk_29 (dk_at dksX2_someone_2 13 rfl rfl)
theorem dX2_someone_62 : decode cX2_someone 62 = .ok (.iconst (-1), 1) := dk_2 (dk_at dksX2_someone_2 14 rfl rfl)
theorem dX2_someone_63 : decode cX2_someone 63 = .ok (.if_icmp .ne 9, 3) := dk_160 0 9 (dk_at dksX2_someone_2 15 rfl rfl)
theorem dX2_someone_66 : decode cX2_someone 66 = .ok (.iload 4, 2) := dk_21 4 (dk_at dksX2_someone_2 18 rfl rfl)
theorem dX2_someone_68 : decode cX2_someone 68 = .ok (.iconst (-1), 1) := dk_2 (dk_at dksX2_someone_2 20 rfl rfl)
theorem dX2_someone_69 : decode cX2_someone 69 = .ok (.if_icmp .eq 7, 3) := dk_159 0 7 (dk_at dksX2_someone_2 21 rfl rfl)
theorem dX2_someone_72 : decode cX2_someone 72 = .ok (.iconst 1, 1) := dk_4 (dk_at dksX2_someone_3 0 rfl rfl)
theorem dX2_someone_73 : decode cX2_someone 73 = .ok (.goto 4, 3) := dk_167 0 4 (dk_at dksX2_someone_3 1 rfl rfl)
theorem dX2_someone_76 : decode cX2_someone 76 = .ok (.iconst 0, 1) := dk_3 (dk_at dksX2_someone_3 4 rfl rfl)
theorem dX2_someone_77 : decode cX2_someone 77 = .ok (.invokevirtual 210, 3) := dk_182 0 210 (dk_at dksX2_someone_3 5 rfl rfl)
theorem dX2_someone_80 : decode cX2_someone 80 = .ok (.ireturn, 1) := dk_172 (dk_at dksX2_someone_3 8 rfl rfl)
abbrev cX2_number : ByteArray := prog_26_method_11_code
def yX2_number : MethodName := ⟨RX2, "number", "(II)Z"⟩
def dkwX2_number_4 : List UInt8 := [153, 0, 7, 4, 167, 0, 4, 3, 182, 0, 210, 172]
abbrev dktX2_number_4 : List UInt8 := dkwX2_number_4 ++ []
def dkwX2_number_3 : List UInt8 := [167, 255, 209, 42, 21, 4, 181, 0, 214, 42, 29, 153, 0, 20, 21, 4, 133, 27, 133, 28, 133, 184, 0, 183]
abbrev dktX2_number_3 : List UInt8 := dkwX2_number_3 ++ dktX2_number_4
def dkwX2_number_2 : List UInt8 := [167, 0, 19, 16, 10, 21, 4, 104, 42, 180, 0, 9, 21, 5, 51, 96, 16, 48, 100, 54, 4, 132, 5, 1]
abbrev dktX2_number_2 : List UInt8 := dkwX2_number_2 ++ dktX2_number_3
def dkwX2_number_1 : List UInt8 := [153, 0, 49, 21, 5, 42, 180, 0, 186, 162, 0, 40, 21, 4, 16, 99, 164, 0, 9, 17, 3, 231]
abbrev dktX2_number_1 : List UInt8 := dkwX2_number_1 ++ dktX2_number_2
def dkwX2_number_0 : List UInt8 := [42, 42, 180, 0, 189, 16, 48, 16, 57, 182, 0, 192, 62, 3, 54, 4, 42, 180, 0, 189, 54, 5, 29]
abbrev dktX2_number_0 : List UInt8 := dkwX2_number_0 ++ dktX2_number_1
theorem dksX2_number_0 : cX2_number.data.toList.drop 0 = dktX2_number_0 := by decide +kernel
theorem dksX2_number_1 : cX2_number.data.toList.drop 23 = dktX2_number_1 := dk_seg dksX2_number_0 23 rfl rfl
theorem dksX2_number_2 : cX2_number.data.toList.drop 45 = dktX2_number_2 := dk_seg dksX2_number_1 22 rfl rfl
theorem dksX2_number_3 : cX2_number.data.toList.drop 69 = dktX2_number_3 := dk_seg dksX2_number_2 24 rfl rfl
theorem dksX2_number_4 : cX2_number.data.toList.drop 93 = dktX2_number_4 := dk_seg dksX2_number_3 24 rfl rfl
theorem dX2_number_0 : decode cX2_number 0 = .ok (.aload_n 0, 1) := dk_42 (dk_at dksX2_number_0 0 rfl rfl)
theorem dX2_number_1 : decode cX2_number 1 = .ok (.aload_n 0, 1) := dk_42 (dk_at dksX2_number_0 1 rfl rfl)
theorem dX2_number_2 : decode cX2_number 2 = .ok (.getfield 189, 3) := dk_180 0 189 (dk_at dksX2_number_0 2 rfl rfl)
theorem dX2_number_5 : decode cX2_number 5 = .ok (.bipush 48, 2) := dk_16 48 (dk_at dksX2_number_0 5 rfl rfl)
theorem dX2_number_7 : decode cX2_number 7 = .ok (.bipush 57, 2) := dk_16 57 (dk_at dksX2_number_0 7 rfl rfl)
theorem dX2_number_9 : decode cX2_number 9 = .ok (.invokevirtual 192, 3) := dk_182 0 192 (dk_at dksX2_number_0 9 rfl rfl)
theorem dX2_number_12 : decode cX2_number 12 = .ok (.istore_n 3, 1) := dk_62 (dk_at dksX2_number_0 12 rfl rfl)
theorem dX2_number_13 : decode cX2_number 13 = .ok (.iconst 0, 1) := dk_3 (dk_at dksX2_number_0 13 rfl rfl)
theorem dX2_number_14 : decode cX2_number 14 = .ok (.istore 4, 2) := dk_54 4 (dk_at dksX2_number_0 14 rfl rfl)
theorem dX2_number_16 : decode cX2_number 16 = .ok (.aload_n 0, 1) := dk_42 (dk_at dksX2_number_0 16 rfl rfl)
theorem dX2_number_17 : decode cX2_number 17 = .ok (.getfield 189, 3) := dk_180 0 189 (dk_at dksX2_number_0 17 rfl rfl)
theorem dX2_number_20 : decode cX2_number 20 = .ok (.istore 5, 2) := dk_54 5 (dk_at dksX2_number_0 20 rfl rfl)
theorem dX2_number_22 : decode cX2_number 22 = .ok (.iload_n 3, 1) := dk_29 (dk_at dksX2_number_0 22 rfl rfl)
theorem dX2_number_23 : decode cX2_number 23 = .ok (.ifCond .eq 49, 3) := dk_153 0 49 (dk_at dksX2_number_1 0 rfl rfl)
theorem dX2_number_26 : decode cX2_number 26 = .ok (.iload 5, 2) := dk_21 5 (dk_at dksX2_number_1 3 rfl rfl)
theorem dX2_number_28 : decode cX2_number 28 = .ok (.aload_n 0, 1) := dk_42 (dk_at dksX2_number_1 5 rfl rfl)
theorem dX2_number_29 : decode cX2_number 29 = .ok (.getfield 186, 3) := dk_180 0 186 (dk_at dksX2_number_1 6 rfl rfl)
theorem dX2_number_32 : decode cX2_number 32 = .ok (.if_icmp .ge 40, 3) := dk_162 0 40 (dk_at dksX2_number_1 9 rfl rfl)
theorem dX2_number_35 : decode cX2_number 35 = .ok (.iload 4, 2) := dk_21 4 (dk_at dksX2_number_1 12 rfl rfl)
theorem dX2_number_37 : decode cX2_number 37 = .ok (.bipush 99, 2) := dk_16 99 (dk_at dksX2_number_1 14 rfl rfl)
theorem dX2_number_39 : decode cX2_number 39 = .ok (.if_icmp .le 9, 3) := dk_164 0 9 (dk_at dksX2_number_1 16 rfl rfl)
theorem dX2_number_42 : decode cX2_number 42 = .ok (.sipush 999, 3) := dk_17 3 231 (dk_at dksX2_number_1 19 rfl rfl)
theorem dX2_number_45 : decode cX2_number 45 = .ok (.goto 19, 3) := dk_167 0 19 (dk_at dksX2_number_2 0 rfl rfl)
theorem dX2_number_48 : decode cX2_number 48 = .ok (.bipush 10, 2) := dk_16 10 (dk_at dksX2_number_2 3 rfl rfl)
theorem dX2_number_50 : decode cX2_number 50 = .ok (.iload 4, 2) := dk_21 4 (dk_at dksX2_number_2 5 rfl rfl)
theorem dX2_number_52 : decode cX2_number 52 = .ok (.imul, 1) := dk_104 (dk_at dksX2_number_2 7 rfl rfl)
theorem dX2_number_53 : decode cX2_number 53 = .ok (.aload_n 0, 1) := dk_42 (dk_at dksX2_number_2 8 rfl rfl)
theorem dX2_number_54 : decode cX2_number 54 = .ok (.getfield 9, 3) := dk_180 0 9 (dk_at dksX2_number_2 9 rfl rfl)
theorem dX2_number_57 : decode cX2_number 57 = .ok (.iload 5, 2) := dk_21 5 (dk_at dksX2_number_2 12 rfl rfl)
theorem dX2_number_59 : decode cX2_number 59 = .ok (.baload, 1) := dk_51 (dk_at dksX2_number_2 14 rfl rfl)
theorem dX2_number_60 : decode cX2_number 60 = .ok (.iadd, 1) := dk_96 (dk_at dksX2_number_2 15 rfl rfl)
theorem dX2_number_61 : decode cX2_number 61 = .ok (.bipush 48, 2) := dk_16 48 (dk_at dksX2_number_2 16 rfl rfl)
theorem dX2_number_63 : decode cX2_number 63 = .ok (.isub, 1) := dk_100 (dk_at dksX2_number_2 18 rfl rfl)
theorem dX2_number_64 : decode cX2_number 64 = .ok (.istore 4, 2) := dk_54 4 (dk_at dksX2_number_2 19 rfl rfl)
theorem dX2_number_66 : decode cX2_number 66 = .ok (.iinc 5 1, 3) := dk_132 5 1 (dk_at dksX2_number_2 21 rfl rfl)
theorem dX2_number_69 : decode cX2_number 69 = .ok (.goto (-47), 3) := dk_167 255 209 (dk_at dksX2_number_3 0 rfl rfl)
theorem dX2_number_72 : decode cX2_number 72 = .ok (.aload_n 0, 1) := dk_42 (dk_at dksX2_number_3 3 rfl rfl)
theorem dX2_number_73 : decode cX2_number 73 = .ok (.iload 4, 2) := dk_21 4 (dk_at dksX2_number_3 4 rfl rfl)
theorem dX2_number_75 : decode cX2_number 75 = .ok (.putfield 214, 3) := dk_181 0 214 (dk_at dksX2_number_3 6 rfl rfl)
theorem dX2_number_78 : decode cX2_number 78 = .ok (.aload_n 0, 1) := dk_42 (dk_at dksX2_number_3 9 rfl rfl)
theorem dX2_number_79 : decode cX2_number 79 = .ok (.iload_n 3, 1) := dk_29 (dk_at dksX2_number_3 10 rfl rfl)
theorem dX2_number_80 : decode cX2_number 80 = .ok (.ifCond .eq 20, 3) := dk_153 0 20 (dk_at dksX2_number_3 11 rfl rfl)
theorem dX2_number_83 : decode cX2_number 83 = .ok (.iload 4, 2) := dk_21 4 (dk_at dksX2_number_3 14 rfl rfl)
theorem dX2_number_85 : decode cX2_number 85 = .ok (.i2l, 1) := dk_133 (dk_at dksX2_number_3 16 rfl rfl)
theorem dX2_number_86 : decode cX2_number 86 = .ok (.iload_n 1, 1) := dk_27 (dk_at dksX2_number_3 17 rfl rfl)
theorem dX2_number_87 : decode cX2_number 87 = .ok (.i2l, 1) := dk_133 (dk_at dksX2_number_3 18 rfl rfl)
theorem dX2_number_88 : decode cX2_number 88 = .ok (.iload_n 2, 1) := dk_28 (dk_at dksX2_number_3 19 rfl rfl)
theorem dX2_number_89 : decode cX2_number 89 = .ok (.i2l, 1) := dk_133 (dk_at dksX2_number_3 20 rfl rfl)
theorem dX2_number_90 : decode cX2_number 90 = .ok (.invokestatic 183, 3) := dk_184 0 183 (dk_at dksX2_number_3 21 rfl rfl)
theorem dX2_number_93 : decode cX2_number 93 = .ok (.ifCond .eq 7, 3) := dk_153 0 7 (dk_at dksX2_number_4 0 rfl rfl)
theorem dX2_number_96 : decode cX2_number 96 = .ok (.iconst 1, 1) := dk_4 (dk_at dksX2_number_4 3 rfl rfl)
theorem dX2_number_97 : decode cX2_number 97 = .ok (.goto 4, 3) := dk_167 0 4 (dk_at dksX2_number_4 4 rfl rfl)
theorem dX2_number_100 : decode cX2_number 100 = .ok (.iconst 0, 1) := dk_3 (dk_at dksX2_number_4 7 rfl rfl)
theorem dX2_number_101 : decode cX2_number 101 = .ok (.invokevirtual 210, 3) := dk_182 0 210 (dk_at dksX2_number_4 8 rfl rfl)
theorem dX2_number_104 : decode cX2_number 104 = .ok (.ireturn, 1) := dk_172 (dk_at dksX2_number_4 11 rfl rfl)
abbrev cX2_court : ByteArray := prog_26_method_23_code
def yX2_court : MethodName := ⟨RX2, "court", "()I"⟩
def dkwX2_court_10 : List UInt8 := [167, 255, 219, 42, 3, 181, 0, 175, 42, 180, 0, 44, 3, 46, 172]
abbrev dktX2_court_10 : List UInt8 := dkwX2_court_10 ++ []
def dkwX2_court_9 : List UInt8 := [180, 0, 84, 27, 3, 84, 42, 180, 0, 87, 27, 2, 79, 42, 180, 0, 90, 27, 2, 79, 132, 1, 1]
abbrev dktX2_court_9 : List UInt8 := dkwX2_court_9 ++ dktX2_court_10
def dkwX2_court_8 : List UInt8 := [132, 1, 1, 167, 255, 144, 3, 60, 27, 16, 10, 162, 0, 37, 42, 180, 0, 81, 27, 4, 84, 42]
abbrev dktX2_court_8 : List UInt8 := dkwX2_court_8 ++ dktX2_court_9
def dkwX2_court_7 : List UInt8 := [42, 180, 0, 41, 3, 50, 27, 42, 180, 0, 41, 4, 50, 27, 46, 79, 42, 180, 0, 77, 27, 3, 84]
abbrev dktX2_court_7 : List UInt8 := dkwX2_court_7 ++ dktX2_court_8
def dkwX2_court_6 : List UInt8 := [180, 0, 35, 4, 50, 27, 46, 79, 42, 180, 0, 38, 3, 50, 27, 42, 180, 0, 38, 4, 50, 27, 46, 79]
abbrev dktX2_court_6 : List UInt8 := dkwX2_court_6 ++ dktX2_court_7
def dkwX2_court_5 : List UInt8 := [42, 180, 0, 32, 3, 50, 27, 42, 180, 0, 32, 4, 50, 27, 46, 79, 42, 180, 0, 35, 3, 50, 27, 42]
abbrev dktX2_court_5 : List UInt8 := dkwX2_court_5 ++ dktX2_court_6
def dkwX2_court_4 : List UInt8 := [180, 0, 26, 4, 50, 27, 46, 79, 42, 180, 0, 29, 3, 50, 27, 42, 180, 0, 29, 4, 50, 27, 46, 79]
abbrev dktX2_court_4 : List UInt8 := dkwX2_court_4 ++ dktX2_court_5
def dkwX2_court_3 : List UInt8 := [79, 132, 1, 1, 167, 255, 232, 3, 60, 27, 16, 12, 162, 0, 112, 42, 180, 0, 26, 3, 50, 27, 42]
abbrev dktX2_court_3 : List UInt8 := dkwX2_court_3 ++ dktX2_court_4
def dkwX2_court_2 : List UInt8 := [46, 79, 3, 60, 27, 8, 162, 0, 25, 42, 180, 0, 23, 3, 50, 27, 42, 180, 0, 23, 4, 50, 27, 46]
abbrev dktX2_court_2 : List UInt8 := dkwX2_court_2 ++ dktX2_court_3
def dkwX2_court_1 : List UInt8 := [46, 79, 42, 180, 0, 48, 3, 42, 180, 0, 48, 4, 46, 79, 42, 180, 0, 51, 3, 42, 180, 0, 51, 4]
abbrev dktX2_court_1 : List UInt8 := dkwX2_court_1 ++ dktX2_court_2
def dkwX2_court_0 : List UInt8 := [42, 182, 1, 9, 42, 180, 0, 196, 2, 159, 0, 5, 2, 172, 42, 180, 0, 44, 3, 42, 180, 0, 44, 4]
abbrev dktX2_court_0 : List UInt8 := dkwX2_court_0 ++ dktX2_court_1
theorem dksX2_court_0 : cX2_court.data.toList.drop 0 = dktX2_court_0 := by decide +kernel
theorem dksX2_court_1 : cX2_court.data.toList.drop 24 = dktX2_court_1 := dk_seg dksX2_court_0 24 rfl rfl
theorem dksX2_court_2 : cX2_court.data.toList.drop 48 = dktX2_court_2 := dk_seg dksX2_court_1 24 rfl rfl
theorem dksX2_court_3 : cX2_court.data.toList.drop 72 = dktX2_court_3 := dk_seg dksX2_court_2 24 rfl rfl
theorem dksX2_court_4 : cX2_court.data.toList.drop 95 = dktX2_court_4 := dk_seg dksX2_court_3 23 rfl rfl
theorem dksX2_court_5 : cX2_court.data.toList.drop 119 = dktX2_court_5 := dk_seg dksX2_court_4 24 rfl rfl
theorem dksX2_court_6 : cX2_court.data.toList.drop 143 = dktX2_court_6 := dk_seg dksX2_court_5 24 rfl rfl
theorem dksX2_court_7 : cX2_court.data.toList.drop 167 = dktX2_court_7 := dk_seg dksX2_court_6 24 rfl rfl
theorem dksX2_court_8 : cX2_court.data.toList.drop 190 = dktX2_court_8 := dk_seg dksX2_court_7 23 rfl rfl
theorem dksX2_court_9 : cX2_court.data.toList.drop 212 = dktX2_court_9 := dk_seg dksX2_court_8 22 rfl rfl
theorem dksX2_court_10 : cX2_court.data.toList.drop 235 = dktX2_court_10 := dk_seg dksX2_court_9 23 rfl rfl
theorem dX2_court_0 : decode cX2_court 0 = .ok (.aload_n 0, 1) := dk_42 (dk_at dksX2_court_0 0 rfl rfl)
theorem dX2_court_1 : decode cX2_court 1 = .ok (.invokevirtual 265, 3) := dk_182 1 9 (dk_at dksX2_court_0 1 rfl rfl)
theorem dX2_court_4 : decode cX2_court 4 = .ok (.aload_n 0, 1) := dk_42 (dk_at dksX2_court_0 4 rfl rfl)
theorem dX2_court_5 : decode cX2_court 5 = .ok (.getfield 196, 3) := dk_180 0 196 (dk_at dksX2_court_0 5 rfl rfl)
theorem dX2_court_8 : decode cX2_court 8 = .ok (.iconst (-1), 1) := dk_2 (dk_at dksX2_court_0 8 rfl rfl)
theorem dX2_court_9 : decode cX2_court 9 = .ok (.if_icmp .eq 5, 3) := dk_159 0 5 (dk_at dksX2_court_0 9 rfl rfl)
theorem dX2_court_12 : decode cX2_court 12 = .ok (.iconst (-1), 1) := dk_2 (dk_at dksX2_court_0 12 rfl rfl)
theorem dX2_court_13 : decode cX2_court 13 = .ok (.ireturn, 1) := dk_172 (dk_at dksX2_court_0 13 rfl rfl)
theorem dX2_court_14 : decode cX2_court 14 = .ok (.aload_n 0, 1) := dk_42 (dk_at dksX2_court_0 14 rfl rfl)
theorem dX2_court_15 : decode cX2_court 15 = .ok (.getfield 44, 3) := dk_180 0 44 (dk_at dksX2_court_0 15 rfl rfl)
theorem dX2_court_18 : decode cX2_court 18 = .ok (.iconst 0, 1) := dk_3 (dk_at dksX2_court_0 18 rfl rfl)
theorem dX2_court_19 : decode cX2_court 19 = .ok (.aload_n 0, 1) := dk_42 (dk_at dksX2_court_0 19 rfl rfl)
theorem dX2_court_20 : decode cX2_court 20 = .ok (.getfield 44, 3) := dk_180 0 44 (dk_at dksX2_court_0 20 rfl rfl)
theorem dX2_court_23 : decode cX2_court 23 = .ok (.iconst 1, 1) := dk_4 (dk_at dksX2_court_0 23 rfl rfl)
theorem dX2_court_24 : decode cX2_court 24 = .ok (.iaload, 1) := dk_46 (dk_at dksX2_court_1 0 rfl rfl)
theorem dX2_court_25 : decode cX2_court 25 = .ok (.iastore, 1) := dk_79 (dk_at dksX2_court_1 1 rfl rfl)
theorem dX2_court_26 : decode cX2_court 26 = .ok (.aload_n 0, 1) := dk_42 (dk_at dksX2_court_1 2 rfl rfl)
theorem dX2_court_27 : decode cX2_court 27 = .ok (.getfield 48, 3) := dk_180 0 48 (dk_at dksX2_court_1 3 rfl rfl)
theorem dX2_court_30 : decode cX2_court 30 = .ok (.iconst 0, 1) := dk_3 (dk_at dksX2_court_1 6 rfl rfl)
theorem dX2_court_31 : decode cX2_court 31 = .ok (.aload_n 0, 1) := dk_42 (dk_at dksX2_court_1 7 rfl rfl)
theorem dX2_court_32 : decode cX2_court 32 = .ok (.getfield 48, 3) := dk_180 0 48 (dk_at dksX2_court_1 8 rfl rfl)
theorem dX2_court_35 : decode cX2_court 35 = .ok (.iconst 1, 1) := dk_4 (dk_at dksX2_court_1 11 rfl rfl)
theorem dX2_court_36 : decode cX2_court 36 = .ok (.iaload, 1) := dk_46 (dk_at dksX2_court_1 12 rfl rfl)
theorem dX2_court_37 : decode cX2_court 37 = .ok (.iastore, 1) := dk_79 (dk_at dksX2_court_1 13 rfl rfl)
theorem dX2_court_38 : decode cX2_court 38 = .ok (.aload_n 0, 1) := dk_42 (dk_at dksX2_court_1 14 rfl rfl)
theorem dX2_court_39 : decode cX2_court 39 = .ok (.getfield 51, 3) := dk_180 0 51 (dk_at dksX2_court_1 15 rfl rfl)
theorem dX2_court_42 : decode cX2_court 42 = .ok (.iconst 0, 1) := dk_3 (dk_at dksX2_court_1 18 rfl rfl)
theorem dX2_court_43 : decode cX2_court 43 = .ok (.aload_n 0, 1) := dk_42 (dk_at dksX2_court_1 19 rfl rfl)
theorem dX2_court_44 : decode cX2_court 44 = .ok (.getfield 51, 3) := dk_180 0 51 (dk_at dksX2_court_1 20 rfl rfl)
theorem dX2_court_47 : decode cX2_court 47 = .ok (.iconst 1, 1) := dk_4 (dk_at dksX2_court_1 23 rfl rfl)
theorem dX2_court_48 : decode cX2_court 48 = .ok (.iaload, 1) := dk_46 (dk_at dksX2_court_2 0 rfl rfl)
theorem dX2_court_49 : decode cX2_court 49 = .ok (.iastore, 1) := dk_79 (dk_at dksX2_court_2 1 rfl rfl)
theorem dX2_court_50 : decode cX2_court 50 = .ok (.iconst 0, 1) := dk_3 (dk_at dksX2_court_2 2 rfl rfl)
theorem dX2_court_51 : decode cX2_court 51 = .ok (.istore_n 1, 1) := dk_60 (dk_at dksX2_court_2 3 rfl rfl)
theorem dX2_court_52 : decode cX2_court 52 = .ok (.iload_n 1, 1) := dk_27 (dk_at dksX2_court_2 4 rfl rfl)
theorem dX2_court_53 : decode cX2_court 53 = .ok (.iconst 5, 1) := dk_8 (dk_at dksX2_court_2 5 rfl rfl)
theorem dX2_court_54 : decode cX2_court 54 = .ok (.if_icmp .ge 25, 3) := dk_162 0 25 (dk_at dksX2_court_2 6 rfl rfl)
theorem dX2_court_57 : decode cX2_court 57 = .ok (.aload_n 0, 1) := dk_42 (dk_at dksX2_court_2 9 rfl rfl)
theorem dX2_court_58 : decode cX2_court 58 = .ok (.getfield 23, 3) := dk_180 0 23 (dk_at dksX2_court_2 10 rfl rfl)
theorem dX2_court_61 : decode cX2_court 61 = .ok (.iconst 0, 1) := dk_3 (dk_at dksX2_court_2 13 rfl rfl)
theorem dX2_court_62 : decode cX2_court 62 = .ok (.aaload, 1) := dk_50 (dk_at dksX2_court_2 14 rfl rfl)
theorem dX2_court_63 : decode cX2_court 63 = .ok (.iload_n 1, 1) := dk_27 (dk_at dksX2_court_2 15 rfl rfl)
theorem dX2_court_64 : decode cX2_court 64 = .ok (.aload_n 0, 1) := dk_42 (dk_at dksX2_court_2 16 rfl rfl)
theorem dX2_court_65 : decode cX2_court 65 = .ok (.getfield 23, 3) := dk_180 0 23 (dk_at dksX2_court_2 17 rfl rfl)
theorem dX2_court_68 : decode cX2_court 68 = .ok (.iconst 1, 1) := dk_4 (dk_at dksX2_court_2 20 rfl rfl)
theorem dX2_court_69 : decode cX2_court 69 = .ok (.aaload, 1) := dk_50 (dk_at dksX2_court_2 21 rfl rfl)
theorem dX2_court_70 : decode cX2_court 70 = .ok (.iload_n 1, 1) := dk_27 (dk_at dksX2_court_2 22 rfl rfl)
theorem dX2_court_71 : decode cX2_court 71 = .ok (.iaload, 1) := dk_46 (dk_at dksX2_court_2 23 rfl rfl)
theorem dX2_court_72 : decode cX2_court 72 = .ok (.iastore, 1) := dk_79 (dk_at dksX2_court_3 0 rfl rfl)
theorem dX2_court_73 : decode cX2_court 73 = .ok (.iinc 1 1, 3) := dk_132 1 1 (dk_at dksX2_court_3 1 rfl rfl)
theorem dX2_court_76 : decode cX2_court 76 = .ok (.goto (-24), 3) := dk_167 255 232 (dk_at dksX2_court_3 4 rfl rfl)
theorem dX2_court_79 : decode cX2_court 79 = .ok (.iconst 0, 1) := dk_3 (dk_at dksX2_court_3 7 rfl rfl)
theorem dX2_court_80 : decode cX2_court 80 = .ok (.istore_n 1, 1) := dk_60 (dk_at dksX2_court_3 8 rfl rfl)
theorem dX2_court_81 : decode cX2_court 81 = .ok (.iload_n 1, 1) := dk_27 (dk_at dksX2_court_3 9 rfl rfl)
theorem dX2_court_82 : decode cX2_court 82 = .ok (.bipush 12, 2) := dk_16 12 (dk_at dksX2_court_3 10 rfl rfl)
theorem dX2_court_84 : decode cX2_court 84 = .ok (.if_icmp .ge 112, 3) := dk_162 0 112 (dk_at dksX2_court_3 12 rfl rfl)
theorem dX2_court_87 : decode cX2_court 87 = .ok (.aload_n 0, 1) := dk_42 (dk_at dksX2_court_3 15 rfl rfl)
theorem dX2_court_88 : decode cX2_court 88 = .ok (.getfield 26, 3) := dk_180 0 26 (dk_at dksX2_court_3 16 rfl rfl)
theorem dX2_court_91 : decode cX2_court 91 = .ok (.iconst 0, 1) := dk_3 (dk_at dksX2_court_3 19 rfl rfl)
theorem dX2_court_92 : decode cX2_court 92 = .ok (.aaload, 1) := dk_50 (dk_at dksX2_court_3 20 rfl rfl)
theorem dX2_court_93 : decode cX2_court 93 = .ok (.iload_n 1, 1) := dk_27 (dk_at dksX2_court_3 21 rfl rfl)
theorem dX2_court_94 : decode cX2_court 94 = .ok (.aload_n 0, 1) := dk_42 (dk_at dksX2_court_3 22 rfl rfl)
theorem dX2_court_95 : decode cX2_court 95 = .ok (.getfield 26, 3) := dk_180 0 26 (dk_at dksX2_court_4 0 rfl rfl)
theorem dX2_court_98 : decode cX2_court 98 = .ok (.iconst 1, 1) := dk_4 (dk_at dksX2_court_4 3 rfl rfl)
theorem dX2_court_99 : decode cX2_court 99 = .ok (.aaload, 1) := dk_50 (dk_at dksX2_court_4 4 rfl rfl)
theorem dX2_court_100 : decode cX2_court 100 = .ok (.iload_n 1, 1) := dk_27 (dk_at dksX2_court_4 5 rfl rfl)
theorem dX2_court_101 : decode cX2_court 101 = .ok (.iaload, 1) := dk_46 (dk_at dksX2_court_4 6 rfl rfl)
theorem dX2_court_102 : decode cX2_court 102 = .ok (.iastore, 1) := dk_79 (dk_at dksX2_court_4 7 rfl rfl)
theorem dX2_court_103 : decode cX2_court 103 = .ok (.aload_n 0, 1) := dk_42 (dk_at dksX2_court_4 8 rfl rfl)
theorem dX2_court_104 : decode cX2_court 104 = .ok (.getfield 29, 3) := dk_180 0 29 (dk_at dksX2_court_4 9 rfl rfl)
theorem dX2_court_107 : decode cX2_court 107 = .ok (.iconst 0, 1) := dk_3 (dk_at dksX2_court_4 12 rfl rfl)
theorem dX2_court_108 : decode cX2_court 108 = .ok (.aaload, 1) := dk_50 (dk_at dksX2_court_4 13 rfl rfl)
theorem dX2_court_109 : decode cX2_court 109 = .ok (.iload_n 1, 1) := dk_27 (dk_at dksX2_court_4 14 rfl rfl)
theorem dX2_court_110 : decode cX2_court 110 = .ok (.aload_n 0, 1) := dk_42 (dk_at dksX2_court_4 15 rfl rfl)
theorem dX2_court_111 : decode cX2_court 111 = .ok (.getfield 29, 3) := dk_180 0 29 (dk_at dksX2_court_4 16 rfl rfl)
theorem dX2_court_114 : decode cX2_court 114 = .ok (.iconst 1, 1) := dk_4 (dk_at dksX2_court_4 19 rfl rfl)
theorem dX2_court_115 : decode cX2_court 115 = .ok (.aaload, 1) := dk_50 (dk_at dksX2_court_4 20 rfl rfl)
theorem dX2_court_116 : decode cX2_court 116 = .ok (.iload_n 1, 1) := dk_27 (dk_at dksX2_court_4 21 rfl rfl)
theorem dX2_court_117 : decode cX2_court 117 = .ok (.iaload, 1) := dk_46 (dk_at dksX2_court_4 22 rfl rfl)
theorem dX2_court_118 : decode cX2_court 118 = .ok (.iastore, 1) := dk_79 (dk_at dksX2_court_4 23 rfl rfl)
theorem dX2_court_119 : decode cX2_court 119 = .ok (.aload_n 0, 1) := dk_42 (dk_at dksX2_court_5 0 rfl rfl)
theorem dX2_court_120 : decode cX2_court 120 = .ok (.getfield 32, 3) := dk_180 0 32 (dk_at dksX2_court_5 1 rfl rfl)
theorem dX2_court_123 : decode cX2_court 123 = .ok (.iconst 0, 1) := dk_3 (dk_at dksX2_court_5 4 rfl rfl)
theorem dX2_court_124 : decode cX2_court 124 = .ok (.aaload, 1) := dk_50 (dk_at dksX2_court_5 5 rfl rfl)
theorem dX2_court_125 : decode cX2_court 125 = .ok (.iload_n 1, 1) := dk_27 (dk_at dksX2_court_5 6 rfl rfl)
theorem dX2_court_126 : decode cX2_court 126 = .ok (.aload_n 0, 1) := dk_42 (dk_at dksX2_court_5 7 rfl rfl)
theorem dX2_court_127 : decode cX2_court 127 = .ok (.getfield 32, 3) := dk_180 0 32 (dk_at dksX2_court_5 8 rfl rfl)
theorem dX2_court_130 : decode cX2_court 130 = .ok (.iconst 1, 1) := dk_4 (dk_at dksX2_court_5 11 rfl rfl)
theorem dX2_court_131 : decode cX2_court 131 = .ok (.aaload, 1) := dk_50 (dk_at dksX2_court_5 12 rfl rfl)
theorem dX2_court_132 : decode cX2_court 132 = .ok (.iload_n 1, 1) := dk_27 (dk_at dksX2_court_5 13 rfl rfl)
theorem dX2_court_133 : decode cX2_court 133 = .ok (.iaload, 1) := dk_46 (dk_at dksX2_court_5 14 rfl rfl)
theorem dX2_court_134 : decode cX2_court 134 = .ok (.iastore, 1) := dk_79 (dk_at dksX2_court_5 15 rfl rfl)
theorem dX2_court_135 : decode cX2_court 135 = .ok (.aload_n 0, 1) := dk_42 (dk_at dksX2_court_5 16 rfl rfl)
theorem dX2_court_136 : decode cX2_court 136 = .ok (.getfield 35, 3) := dk_180 0 35 (dk_at dksX2_court_5 17 rfl rfl)
theorem dX2_court_139 : decode cX2_court 139 = .ok (.iconst 0, 1) := dk_3 (dk_at dksX2_court_5 20 rfl rfl)
theorem dX2_court_140 : decode cX2_court 140 = .ok (.aaload, 1) := dk_50 (dk_at dksX2_court_5 21 rfl rfl)
theorem dX2_court_141 : decode cX2_court 141 = .ok (.iload_n 1, 1) := dk_27 (dk_at dksX2_court_5 22 rfl rfl)
theorem dX2_court_142 : decode cX2_court 142 = .ok (.aload_n 0, 1) := dk_42 (dk_at dksX2_court_5 23 rfl rfl)
theorem dX2_court_143 : decode cX2_court 143 = .ok (.getfield 35, 3) := dk_180 0 35 (dk_at dksX2_court_6 0 rfl rfl)
theorem dX2_court_146 : decode cX2_court 146 = .ok (.iconst 1, 1) := dk_4 (dk_at dksX2_court_6 3 rfl rfl)
theorem dX2_court_147 : decode cX2_court 147 = .ok (.aaload, 1) := dk_50 (dk_at dksX2_court_6 4 rfl rfl)
theorem dX2_court_148 : decode cX2_court 148 = .ok (.iload_n 1, 1) := dk_27 (dk_at dksX2_court_6 5 rfl rfl)
theorem dX2_court_149 : decode cX2_court 149 = .ok (.iaload, 1) := dk_46 (dk_at dksX2_court_6 6 rfl rfl)
theorem dX2_court_150 : decode cX2_court 150 = .ok (.iastore, 1) := dk_79 (dk_at dksX2_court_6 7 rfl rfl)
theorem dX2_court_151 : decode cX2_court 151 = .ok (.aload_n 0, 1) := dk_42 (dk_at dksX2_court_6 8 rfl rfl)
theorem dX2_court_152 : decode cX2_court 152 = .ok (.getfield 38, 3) := dk_180 0 38 (dk_at dksX2_court_6 9 rfl rfl)
theorem dX2_court_155 : decode cX2_court 155 = .ok (.iconst 0, 1) := dk_3 (dk_at dksX2_court_6 12 rfl rfl)
theorem dX2_court_156 : decode cX2_court 156 = .ok (.aaload, 1) := dk_50 (dk_at dksX2_court_6 13 rfl rfl)
theorem dX2_court_157 : decode cX2_court 157 = .ok (.iload_n 1, 1) := dk_27 (dk_at dksX2_court_6 14 rfl rfl)
theorem dX2_court_158 : decode cX2_court 158 = .ok (.aload_n 0, 1) := dk_42 (dk_at dksX2_court_6 15 rfl rfl)
theorem dX2_court_159 : decode cX2_court 159 = .ok (.getfield 38, 3) := dk_180 0 38 (dk_at dksX2_court_6 16 rfl rfl)
theorem dX2_court_162 : decode cX2_court 162 = .ok (.iconst 1, 1) := dk_4 (dk_at dksX2_court_6 19 rfl rfl)
theorem dX2_court_163 : decode cX2_court 163 = .ok (.aaload, 1) := dk_50 (dk_at dksX2_court_6 20 rfl rfl)
theorem dX2_court_164 : decode cX2_court 164 = .ok (.iload_n 1, 1) := dk_27 (dk_at dksX2_court_6 21 rfl rfl)
theorem dX2_court_165 : decode cX2_court 165 = .ok (.iaload, 1) := dk_46 (dk_at dksX2_court_6 22 rfl rfl)
theorem dX2_court_166 : decode cX2_court 166 = .ok (.iastore, 1) := dk_79 (dk_at dksX2_court_6 23 rfl rfl)
theorem dX2_court_167 : decode cX2_court 167 = .ok (.aload_n 0, 1) := dk_42 (dk_at dksX2_court_7 0 rfl rfl)
theorem dX2_court_168 : decode cX2_court 168 = .ok (.getfield 41, 3) := dk_180 0 41 (dk_at dksX2_court_7 1 rfl rfl)
theorem dX2_court_171 : decode cX2_court 171 = .ok (.iconst 0, 1) := dk_3 (dk_at dksX2_court_7 4 rfl rfl)
theorem dX2_court_172 : decode cX2_court 172 = .ok (.aaload, 1) := dk_50 (dk_at dksX2_court_7 5 rfl rfl)
theorem dX2_court_173 : decode cX2_court 173 = .ok (.iload_n 1, 1) := dk_27 (dk_at dksX2_court_7 6 rfl rfl)
theorem dX2_court_174 : decode cX2_court 174 = .ok (.aload_n 0, 1) := dk_42 (dk_at dksX2_court_7 7 rfl rfl)
theorem dX2_court_175 : decode cX2_court 175 = .ok (.getfield 41, 3) := dk_180 0 41 (dk_at dksX2_court_7 8 rfl rfl)
theorem dX2_court_178 : decode cX2_court 178 = .ok (.iconst 1, 1) := dk_4 (dk_at dksX2_court_7 11 rfl rfl)
theorem dX2_court_179 : decode cX2_court 179 = .ok (.aaload, 1) := dk_50 (dk_at dksX2_court_7 12 rfl rfl)
theorem dX2_court_180 : decode cX2_court 180 = .ok (.iload_n 1, 1) := dk_27 (dk_at dksX2_court_7 13 rfl rfl)
theorem dX2_court_181 : decode cX2_court 181 = .ok (.iaload, 1) := dk_46 (dk_at dksX2_court_7 14 rfl rfl)
theorem dX2_court_182 : decode cX2_court 182 = .ok (.iastore, 1) := dk_79 (dk_at dksX2_court_7 15 rfl rfl)
theorem dX2_court_183 : decode cX2_court 183 = .ok (.aload_n 0, 1) := dk_42 (dk_at dksX2_court_7 16 rfl rfl)
theorem dX2_court_184 : decode cX2_court 184 = .ok (.getfield 77, 3) := dk_180 0 77 (dk_at dksX2_court_7 17 rfl rfl)
theorem dX2_court_187 : decode cX2_court 187 = .ok (.iload_n 1, 1) := dk_27 (dk_at dksX2_court_7 20 rfl rfl)
theorem dX2_court_188 : decode cX2_court 188 = .ok (.iconst 0, 1) := dk_3 (dk_at dksX2_court_7 21 rfl rfl)
theorem dX2_court_189 : decode cX2_court 189 = .ok (.bastore, 1) := dk_84 (dk_at dksX2_court_7 22 rfl rfl)
theorem dX2_court_190 : decode cX2_court 190 = .ok (.iinc 1 1, 3) := dk_132 1 1 (dk_at dksX2_court_8 0 rfl rfl)
theorem dX2_court_193 : decode cX2_court 193 = .ok (.goto (-112), 3) := dk_167 255 144 (dk_at dksX2_court_8 3 rfl rfl)
theorem dX2_court_196 : decode cX2_court 196 = .ok (.iconst 0, 1) := dk_3 (dk_at dksX2_court_8 6 rfl rfl)
theorem dX2_court_197 : decode cX2_court 197 = .ok (.istore_n 1, 1) := dk_60 (dk_at dksX2_court_8 7 rfl rfl)
theorem dX2_court_198 : decode cX2_court 198 = .ok (.iload_n 1, 1) := dk_27 (dk_at dksX2_court_8 8 rfl rfl)
theorem dX2_court_199 : decode cX2_court 199 = .ok (.bipush 10, 2) := dk_16 10 (dk_at dksX2_court_8 9 rfl rfl)
theorem dX2_court_201 : decode cX2_court 201 = .ok (.if_icmp .ge 37, 3) := dk_162 0 37 (dk_at dksX2_court_8 11 rfl rfl)
theorem dX2_court_204 : decode cX2_court 204 = .ok (.aload_n 0, 1) := dk_42 (dk_at dksX2_court_8 14 rfl rfl)
theorem dX2_court_205 : decode cX2_court 205 = .ok (.getfield 81, 3) := dk_180 0 81 (dk_at dksX2_court_8 15 rfl rfl)
theorem dX2_court_208 : decode cX2_court 208 = .ok (.iload_n 1, 1) := dk_27 (dk_at dksX2_court_8 18 rfl rfl)
theorem dX2_court_209 : decode cX2_court 209 = .ok (.iconst 1, 1) := dk_4 (dk_at dksX2_court_8 19 rfl rfl)
theorem dX2_court_210 : decode cX2_court 210 = .ok (.bastore, 1) := dk_84 (dk_at dksX2_court_8 20 rfl rfl)
theorem dX2_court_211 : decode cX2_court 211 = .ok (.aload_n 0, 1) := dk_42 (dk_at dksX2_court_8 21 rfl rfl)
theorem dX2_court_212 : decode cX2_court 212 = .ok (.getfield 84, 3) := dk_180 0 84 (dk_at dksX2_court_9 0 rfl rfl)
theorem dX2_court_215 : decode cX2_court 215 = .ok (.iload_n 1, 1) := dk_27 (dk_at dksX2_court_9 3 rfl rfl)
theorem dX2_court_216 : decode cX2_court 216 = .ok (.iconst 0, 1) := dk_3 (dk_at dksX2_court_9 4 rfl rfl)
theorem dX2_court_217 : decode cX2_court 217 = .ok (.bastore, 1) := dk_84 (dk_at dksX2_court_9 5 rfl rfl)
theorem dX2_court_218 : decode cX2_court 218 = .ok (.aload_n 0, 1) := dk_42 (dk_at dksX2_court_9 6 rfl rfl)
theorem dX2_court_219 : decode cX2_court 219 = .ok (.getfield 87, 3) := dk_180 0 87 (dk_at dksX2_court_9 7 rfl rfl)
theorem dX2_court_222 : decode cX2_court 222 = .ok (.iload_n 1, 1) := dk_27 (dk_at dksX2_court_9 10 rfl rfl)
theorem dX2_court_223 : decode cX2_court 223 = .ok (.iconst (-1), 1) := dk_2 (dk_at dksX2_court_9 11 rfl rfl)
theorem dX2_court_224 : decode cX2_court 224 = .ok (.iastore, 1) := dk_79 (dk_at dksX2_court_9 12 rfl rfl)
theorem dX2_court_225 : decode cX2_court 225 = .ok (.aload_n 0, 1) := dk_42 (dk_at dksX2_court_9 13 rfl rfl)
theorem dX2_court_226 : decode cX2_court 226 = .ok (.getfield 90, 3) := dk_180 0 90 (dk_at dksX2_court_9 14 rfl rfl)
theorem dX2_court_229 : decode cX2_court 229 = .ok (.iload_n 1, 1) := dk_27 (dk_at dksX2_court_9 17 rfl rfl)
theorem dX2_court_230 : decode cX2_court 230 = .ok (.iconst (-1), 1) := dk_2 (dk_at dksX2_court_9 18 rfl rfl)
theorem dX2_court_231 : decode cX2_court 231 = .ok (.iastore, 1) := dk_79 (dk_at dksX2_court_9 19 rfl rfl)
theorem dX2_court_232 : decode cX2_court 232 = .ok (.iinc 1 1, 3) := dk_132 1 1 (dk_at dksX2_court_9 20 rfl rfl)
theorem dX2_court_235 : decode cX2_court 235 = .ok (.goto (-37), 3) := dk_167 255 219 (dk_at dksX2_court_10 0 rfl rfl)
theorem dX2_court_238 : decode cX2_court 238 = .ok (.aload_n 0, 1) := dk_42 (dk_at dksX2_court_10 3 rfl rfl)
theorem dX2_court_239 : decode cX2_court 239 = .ok (.iconst 0, 1) := dk_3 (dk_at dksX2_court_10 4 rfl rfl)
theorem dX2_court_240 : decode cX2_court 240 = .ok (.putfield 175, 3) := dk_181 0 175 (dk_at dksX2_court_10 5 rfl rfl)
theorem dX2_court_243 : decode cX2_court 243 = .ok (.aload_n 0, 1) := dk_42 (dk_at dksX2_court_10 8 rfl rfl)
theorem dX2_court_244 : decode cX2_court 244 = .ok (.getfield 44, 3) := dk_180 0 44 (dk_at dksX2_court_10 9 rfl rfl)
theorem dX2_court_247 : decode cX2_court 247 = .ok (.iconst 0, 1) := dk_3 (dk_at dksX2_court_10 12 rfl rfl)
theorem dX2_court_248 : decode cX2_court 248 = .ok (.iaload, 1) := dk_46 (dk_at dksX2_court_10 13 rfl rfl)
theorem dX2_court_249 : decode cX2_court 249 = .ok (.ireturn, 1) := dk_172 (dk_at dksX2_court_10 14 rfl rfl)
abbrev cX2_room : ByteArray := prog_26_method_27_code
def yX2_room : MethodName := ⟨RX2, "room", "(II)I"⟩
def dkwX2_room_2 : List UInt8 := [42, 180, 1, 12, 28, 79, 42, 89, 180, 1, 12, 4, 96, 181, 1, 12, 42, 180, 1, 12, 4, 100, 172]
abbrev dktX2_room_2 : List UInt8 := dkwX2_room_2 ++ []
def dkwX2_room_1 : List UInt8 := [42, 180, 1, 12, 7, 160, 0, 5, 2, 172, 42, 180, 0, 93, 42, 180, 1, 12, 27, 79, 42, 180, 0, 96]
abbrev dktX2_room_1 : List UInt8 := dkwX2_room_1 ++ dktX2_room_2
def dkwX2_room_0 : List UInt8 := [27, 133, 9, 20, 1, 15, 184, 0, 183, 153, 0, 23, 28, 133, 10, 20, 1, 17, 184, 0, 183, 153, 0, 11]
abbrev dktX2_room_0 : List UInt8 := dkwX2_room_0 ++ dktX2_room_1
theorem dksX2_room_0 : cX2_room.data.toList.drop 0 = dktX2_room_0 := by decide +kernel
theorem dksX2_room_1 : cX2_room.data.toList.drop 24 = dktX2_room_1 := dk_seg dksX2_room_0 24 rfl rfl
theorem dksX2_room_2 : cX2_room.data.toList.drop 48 = dktX2_room_2 := dk_seg dksX2_room_1 24 rfl rfl
theorem dX2_room_0 : decode cX2_room 0 = .ok (.iload_n 1, 1) := dk_27 (dk_at dksX2_room_0 0 rfl rfl)
theorem dX2_room_1 : decode cX2_room 1 = .ok (.i2l, 1) := dk_133 (dk_at dksX2_room_0 1 rfl rfl)
theorem dX2_room_2 : decode cX2_room 2 = .ok (.lconst 0, 1) := dk_9 (dk_at dksX2_room_0 2 rfl rfl)
theorem dX2_room_3 : decode cX2_room 3 = .ok (.ldc2_w 271, 3) := dk_20 1 15 (dk_at dksX2_room_0 3 rfl rfl)
theorem dX2_room_6 : decode cX2_room 6 = .ok (.invokestatic 183, 3) := dk_184 0 183 (dk_at dksX2_room_0 6 rfl rfl)
theorem dX2_room_9 : decode cX2_room 9 = .ok (.ifCond .eq 23, 3) := dk_153 0 23 (dk_at dksX2_room_0 9 rfl rfl)
theorem dX2_room_12 : decode cX2_room 12 = .ok (.iload_n 2, 1) := dk_28 (dk_at dksX2_room_0 12 rfl rfl)
theorem dX2_room_13 : decode cX2_room 13 = .ok (.i2l, 1) := dk_133 (dk_at dksX2_room_0 13 rfl rfl)
theorem dX2_room_14 : decode cX2_room 14 = .ok (.lconst 1, 1) := dk_10 (dk_at dksX2_room_0 14 rfl rfl)
theorem dX2_room_15 : decode cX2_room 15 = .ok (.ldc2_w 273, 3) := dk_20 1 17 (dk_at dksX2_room_0 15 rfl rfl)
theorem dX2_room_18 : decode cX2_room 18 = .ok (.invokestatic 183, 3) := dk_184 0 183 (dk_at dksX2_room_0 18 rfl rfl)
theorem dX2_room_21 : decode cX2_room 21 = .ok (.ifCond .eq 11, 3) := dk_153 0 11 (dk_at dksX2_room_0 21 rfl rfl)
theorem dX2_room_24 : decode cX2_room 24 = .ok (.aload_n 0, 1) := dk_42 (dk_at dksX2_room_1 0 rfl rfl)
theorem dX2_room_25 : decode cX2_room 25 = .ok (.getfield 268, 3) := dk_180 1 12 (dk_at dksX2_room_1 1 rfl rfl)
theorem dX2_room_28 : decode cX2_room 28 = .ok (.iconst 4, 1) := dk_7 (dk_at dksX2_room_1 4 rfl rfl)
theorem dX2_room_29 : decode cX2_room 29 = .ok (.if_icmp .ne 5, 3) := dk_160 0 5 (dk_at dksX2_room_1 5 rfl rfl)
theorem dX2_room_32 : decode cX2_room 32 = .ok (.iconst (-1), 1) := dk_2 (dk_at dksX2_room_1 8 rfl rfl)
theorem dX2_room_33 : decode cX2_room 33 = .ok (.ireturn, 1) := dk_172 (dk_at dksX2_room_1 9 rfl rfl)
theorem dX2_room_34 : decode cX2_room 34 = .ok (.aload_n 0, 1) := dk_42 (dk_at dksX2_room_1 10 rfl rfl)
theorem dX2_room_35 : decode cX2_room 35 = .ok (.getfield 93, 3) := dk_180 0 93 (dk_at dksX2_room_1 11 rfl rfl)
theorem dX2_room_38 : decode cX2_room 38 = .ok (.aload_n 0, 1) := dk_42 (dk_at dksX2_room_1 14 rfl rfl)
theorem dX2_room_39 : decode cX2_room 39 = .ok (.getfield 268, 3) := dk_180 1 12 (dk_at dksX2_room_1 15 rfl rfl)
theorem dX2_room_42 : decode cX2_room 42 = .ok (.iload_n 1, 1) := dk_27 (dk_at dksX2_room_1 18 rfl rfl)
theorem dX2_room_43 : decode cX2_room 43 = .ok (.iastore, 1) := dk_79 (dk_at dksX2_room_1 19 rfl rfl)
theorem dX2_room_44 : decode cX2_room 44 = .ok (.aload_n 0, 1) := dk_42 (dk_at dksX2_room_1 20 rfl rfl)
theorem dX2_room_45 : decode cX2_room 45 = .ok (.getfield 96, 3) := dk_180 0 96 (dk_at dksX2_room_1 21 rfl rfl)
theorem dX2_room_48 : decode cX2_room 48 = .ok (.aload_n 0, 1) := dk_42 (dk_at dksX2_room_2 0 rfl rfl)
theorem dX2_room_49 : decode cX2_room 49 = .ok (.getfield 268, 3) := dk_180 1 12 (dk_at dksX2_room_2 1 rfl rfl)
theorem dX2_room_52 : decode cX2_room 52 = .ok (.iload_n 2, 1) := dk_28 (dk_at dksX2_room_2 4 rfl rfl)
theorem dX2_room_53 : decode cX2_room 53 = .ok (.iastore, 1) := dk_79 (dk_at dksX2_room_2 5 rfl rfl)
theorem dX2_room_54 : decode cX2_room 54 = .ok (.aload_n 0, 1) := dk_42 (dk_at dksX2_room_2 6 rfl rfl)
theorem dX2_room_55 : decode cX2_room 55 = .ok (.dup, 1) := dk_89 (dk_at dksX2_room_2 7 rfl rfl)
theorem dX2_room_56 : decode cX2_room 56 = .ok (.getfield 268, 3) := dk_180 1 12 (dk_at dksX2_room_2 8 rfl rfl)
theorem dX2_room_59 : decode cX2_room 59 = .ok (.iconst 1, 1) := dk_4 (dk_at dksX2_room_2 11 rfl rfl)
theorem dX2_room_60 : decode cX2_room 60 = .ok (.iadd, 1) := dk_96 (dk_at dksX2_room_2 12 rfl rfl)
theorem dX2_room_61 : decode cX2_room 61 = .ok (.putfield 268, 3) := dk_181 1 12 (dk_at dksX2_room_2 13 rfl rfl)
theorem dX2_room_64 : decode cX2_room 64 = .ok (.aload_n 0, 1) := dk_42 (dk_at dksX2_room_2 16 rfl rfl)
theorem dX2_room_65 : decode cX2_room 65 = .ok (.getfield 268, 3) := dk_180 1 12 (dk_at dksX2_room_2 17 rfl rfl)
theorem dX2_room_68 : decode cX2_room 68 = .ok (.iconst 1, 1) := dk_4 (dk_at dksX2_room_2 20 rfl rfl)
theorem dX2_room_69 : decode cX2_room 69 = .ok (.isub, 1) := dk_100 (dk_at dksX2_room_2 21 rfl rfl)
theorem dX2_room_70 : decode cX2_room 70 = .ok (.ireturn, 1) := dk_172 (dk_at dksX2_room_2 22 rfl rfl)
abbrev cX2_guest : ByteArray := prog_26_method_29_code
def yX2_guest : MethodName := ⟨RX2, "guest", "(II)I"⟩
def dkwX2_guest_4 : List UInt8 := [167, 0, 4, 3, 172, 2, 172]
abbrev dktX2_guest_4 : List UInt8 := dkwX2_guest_4 ++ []
def dkwX2_guest_3 : List UInt8 := [180, 0, 87, 27, 46, 172, 42, 180, 0, 90, 27, 46, 172, 42, 180, 0, 84, 27, 51, 153, 0, 7, 4]
abbrev dktX2_guest_3 : List UInt8 := dkwX2_guest_3 ++ dktX2_guest_4
def dkwX2_guest_2 : List UInt8 := [42, 180, 0, 81, 27, 51, 153, 0, 7, 4, 167, 0, 4, 3, 172, 42, 27, 182, 1, 22, 172, 42]
abbrev dktX2_guest_2 : List UInt8 := dkwX2_guest_2 ++ dktX2_guest_3
def dkwX2_guest_1 : List UInt8 := [170, 0, 0, 0, 83, 0, 0, 0, 0, 0, 0, 0, 4, 0, 0, 0, 33, 0, 0, 0, 48, 0, 0, 0, 54, 0, 0, 0, 61, 0, 0, 0, 68]
abbrev dktX2_guest_1 : List UInt8 := dkwX2_guest_1 ++ dktX2_guest_2
def dkwX2_guest_0 : List UInt8 := [42, 27, 182, 1, 19, 154, 0, 5, 2, 172, 28]
abbrev dktX2_guest_0 : List UInt8 := dkwX2_guest_0 ++ dktX2_guest_1
theorem dksX2_guest_0 : cX2_guest.data.toList.drop 0 = dktX2_guest_0 := by decide +kernel
theorem dksX2_guest_1 : cX2_guest.data.toList.drop 11 = dktX2_guest_1 := dk_seg dksX2_guest_0 11 rfl rfl
theorem dksX2_guest_2 : cX2_guest.data.toList.drop 44 = dktX2_guest_2 := dk_seg dksX2_guest_1 33 rfl rfl
theorem dksX2_guest_3 : cX2_guest.data.toList.drop 66 = dktX2_guest_3 := dk_seg dksX2_guest_2 22 rfl rfl
theorem dksX2_guest_4 : cX2_guest.data.toList.drop 89 = dktX2_guest_4 := dk_seg dksX2_guest_3 23 rfl rfl
theorem dX2_guest_0 : decode cX2_guest 0 = .ok (.aload_n 0, 1) := dk_42 (dk_at dksX2_guest_0 0 rfl rfl)
theorem dX2_guest_1 : decode cX2_guest 1 = .ok (.iload_n 1, 1) := dk_27 (dk_at dksX2_guest_0 1 rfl rfl)
theorem dX2_guest_2 : decode cX2_guest 2 = .ok (.invokevirtual 275, 3) := dk_182 1 19 (dk_at dksX2_guest_0 2 rfl rfl)
theorem dX2_guest_5 : decode cX2_guest 5 = .ok (.ifCond .ne 5, 3) := dk_154 0 5 (dk_at dksX2_guest_0 5 rfl rfl)
theorem dX2_guest_8 : decode cX2_guest 8 = .ok (.iconst (-1), 1) := dk_2 (dk_at dksX2_guest_0 8 rfl rfl)
theorem dX2_guest_9 : decode cX2_guest 9 = .ok (.ireturn, 1) := dk_172 (dk_at dksX2_guest_0 9 rfl rfl)
theorem dX2_guest_10 : decode cX2_guest 10 = .ok (.iload_n 2, 1) := dk_28 (dk_at dksX2_guest_0 10 rfl rfl)
theorem dX2_guest_11 : decode cX2_guest 11 = .ok (.tableswitch 83 0 4 #[33, 48, 54, 61, 68], 33) := by decide +kernel
theorem dX2_guest_44 : decode cX2_guest 44 = .ok (.aload_n 0, 1) := dk_42 (dk_at dksX2_guest_2 0 rfl rfl)
theorem dX2_guest_45 : decode cX2_guest 45 = .ok (.getfield 81, 3) := dk_180 0 81 (dk_at dksX2_guest_2 1 rfl rfl)
theorem dX2_guest_48 : decode cX2_guest 48 = .ok (.iload_n 1, 1) := dk_27 (dk_at dksX2_guest_2 4 rfl rfl)
theorem dX2_guest_49 : decode cX2_guest 49 = .ok (.baload, 1) := dk_51 (dk_at dksX2_guest_2 5 rfl rfl)
theorem dX2_guest_50 : decode cX2_guest 50 = .ok (.ifCond .eq 7, 3) := dk_153 0 7 (dk_at dksX2_guest_2 6 rfl rfl)
theorem dX2_guest_53 : decode cX2_guest 53 = .ok (.iconst 1, 1) := dk_4 (dk_at dksX2_guest_2 9 rfl rfl)
theorem dX2_guest_54 : decode cX2_guest 54 = .ok (.goto 4, 3) := dk_167 0 4 (dk_at dksX2_guest_2 10 rfl rfl)
theorem dX2_guest_57 : decode cX2_guest 57 = .ok (.iconst 0, 1) := dk_3 (dk_at dksX2_guest_2 13 rfl rfl)
theorem dX2_guest_58 : decode cX2_guest 58 = .ok (.ireturn, 1) := dk_172 (dk_at dksX2_guest_2 14 rfl rfl)
theorem dX2_guest_59 : decode cX2_guest 59 = .ok (.aload_n 0, 1) := dk_42 (dk_at dksX2_guest_2 15 rfl rfl)
theorem dX2_guest_60 : decode cX2_guest 60 = .ok (.iload_n 1, 1) := dk_27 (dk_at dksX2_guest_2 16 rfl rfl)
theorem dX2_guest_61 : decode cX2_guest 61 = .ok (.invokevirtual 278, 3) := dk_182 1 22 (dk_at dksX2_guest_2 17 rfl rfl)
theorem dX2_guest_64 : decode cX2_guest 64 = .ok (.ireturn, 1) := dk_172 (dk_at dksX2_guest_2 20 rfl rfl)
theorem dX2_guest_65 : decode cX2_guest 65 = .ok (.aload_n 0, 1) := dk_42 (dk_at dksX2_guest_2 21 rfl rfl)
theorem dX2_guest_66 : decode cX2_guest 66 = .ok (.getfield 87, 3) := dk_180 0 87 (dk_at dksX2_guest_3 0 rfl rfl)
theorem dX2_guest_69 : decode cX2_guest 69 = .ok (.iload_n 1, 1) := dk_27 (dk_at dksX2_guest_3 3 rfl rfl)
theorem dX2_guest_70 : decode cX2_guest 70 = .ok (.iaload, 1) := dk_46 (dk_at dksX2_guest_3 4 rfl rfl)
theorem dX2_guest_71 : decode cX2_guest 71 = .ok (.ireturn, 1) := dk_172 (dk_at dksX2_guest_3 5 rfl rfl)
theorem dX2_guest_72 : decode cX2_guest 72 = .ok (.aload_n 0, 1) := dk_42 (dk_at dksX2_guest_3 6 rfl rfl)
theorem dX2_guest_73 : decode cX2_guest 73 = .ok (.getfield 90, 3) := dk_180 0 90 (dk_at dksX2_guest_3 7 rfl rfl)
theorem dX2_guest_76 : decode cX2_guest 76 = .ok (.iload_n 1, 1) := dk_27 (dk_at dksX2_guest_3 10 rfl rfl)
theorem dX2_guest_77 : decode cX2_guest 77 = .ok (.iaload, 1) := dk_46 (dk_at dksX2_guest_3 11 rfl rfl)
theorem dX2_guest_78 : decode cX2_guest 78 = .ok (.ireturn, 1) := dk_172 (dk_at dksX2_guest_3 12 rfl rfl)
theorem dX2_guest_79 : decode cX2_guest 79 = .ok (.aload_n 0, 1) := dk_42 (dk_at dksX2_guest_3 13 rfl rfl)
theorem dX2_guest_80 : decode cX2_guest 80 = .ok (.getfield 84, 3) := dk_180 0 84 (dk_at dksX2_guest_3 14 rfl rfl)
theorem dX2_guest_83 : decode cX2_guest 83 = .ok (.iload_n 1, 1) := dk_27 (dk_at dksX2_guest_3 17 rfl rfl)
theorem dX2_guest_84 : decode cX2_guest 84 = .ok (.baload, 1) := dk_51 (dk_at dksX2_guest_3 18 rfl rfl)
theorem dX2_guest_85 : decode cX2_guest 85 = .ok (.ifCond .eq 7, 3) := dk_153 0 7 (dk_at dksX2_guest_3 19 rfl rfl)
theorem dX2_guest_88 : decode cX2_guest 88 = .ok (.iconst 1, 1) := dk_4 (dk_at dksX2_guest_3 22 rfl rfl)
theorem dX2_guest_89 : decode cX2_guest 89 = .ok (.goto 4, 3) := dk_167 0 4 (dk_at dksX2_guest_4 0 rfl rfl)
theorem dX2_guest_92 : decode cX2_guest 92 = .ok (.iconst 0, 1) := dk_3 (dk_at dksX2_guest_4 3 rfl rfl)
theorem dX2_guest_93 : decode cX2_guest 93 = .ok (.ireturn, 1) := dk_172 (dk_at dksX2_guest_4 4 rfl rfl)
theorem dX2_guest_94 : decode cX2_guest 94 = .ok (.iconst (-1), 1) := dk_2 (dk_at dksX2_guest_4 5 rfl rfl)
theorem dX2_guest_95 : decode cX2_guest 95 = .ok (.ireturn, 1) := dk_172 (dk_at dksX2_guest_4 6 rfl rfl)
abbrev cX2_isGuest : ByteArray := prog_26_method_24_code
def yX2_isGuest : MethodName := ⟨RX2, "isGuest", "(I)Z"⟩
def dkwX2_isGuest_0 : List UInt8 := [27, 133, 9, 42, 180, 0, 44, 3, 46, 4, 100, 133, 184, 0, 183, 172]
abbrev dktX2_isGuest_0 : List UInt8 := dkwX2_isGuest_0 ++ []
theorem dksX2_isGuest_0 : cX2_isGuest.data.toList.drop 0 = dktX2_isGuest_0 := by decide +kernel
theorem dX2_isGuest_0 : decode cX2_isGuest 0 = .ok (.iload_n 1, 1) := dk_27 (dk_at dksX2_isGuest_0 0 rfl rfl)
theorem dX2_isGuest_1 : decode cX2_isGuest 1 = .ok (.i2l, 1) := dk_133 (dk_at dksX2_isGuest_0 1 rfl rfl)
theorem dX2_isGuest_2 : decode cX2_isGuest 2 = .ok (.lconst 0, 1) := dk_9 (dk_at dksX2_isGuest_0 2 rfl rfl)
theorem dX2_isGuest_3 : decode cX2_isGuest 3 = .ok (.aload_n 0, 1) := dk_42 (dk_at dksX2_isGuest_0 3 rfl rfl)
theorem dX2_isGuest_4 : decode cX2_isGuest 4 = .ok (.getfield 44, 3) := dk_180 0 44 (dk_at dksX2_isGuest_0 4 rfl rfl)
theorem dX2_isGuest_7 : decode cX2_isGuest 7 = .ok (.iconst 0, 1) := dk_3 (dk_at dksX2_isGuest_0 7 rfl rfl)
theorem dX2_isGuest_8 : decode cX2_isGuest 8 = .ok (.iaload, 1) := dk_46 (dk_at dksX2_isGuest_0 8 rfl rfl)
theorem dX2_isGuest_9 : decode cX2_isGuest 9 = .ok (.iconst 1, 1) := dk_4 (dk_at dksX2_isGuest_0 9 rfl rfl)
theorem dX2_isGuest_10 : decode cX2_isGuest 10 = .ok (.isub, 1) := dk_100 (dk_at dksX2_isGuest_0 10 rfl rfl)
theorem dX2_isGuest_11 : decode cX2_isGuest 11 = .ok (.i2l, 1) := dk_133 (dk_at dksX2_isGuest_0 11 rfl rfl)
theorem dX2_isGuest_12 : decode cX2_isGuest 12 = .ok (.invokestatic 183, 3) := dk_184 0 183 (dk_at dksX2_isGuest_0 12 rfl rfl)
theorem dX2_isGuest_15 : decode cX2_isGuest 15 = .ok (.ireturn, 1) := dk_172 (dk_at dksX2_isGuest_0 15 rfl rfl)
abbrev cX2_marksOf : ByteArray := prog_26_method_28_code
def yX2_marksOf : MethodName := ⟨RX2, "marksOf", "(I)I"⟩
def dkwX2_marksOf_1 : List UInt8 := [122, 4, 126, 29, 120, 128, 61, 132, 3, 1, 167, 255, 226, 28, 172]
abbrev dktX2_marksOf_1 : List UInt8 := dkwX2_marksOf_1 ++ []
def dkwX2_marksOf_0 : List UInt8 := [3, 61, 3, 62, 29, 42, 180, 0, 48, 3, 46, 162, 0, 26, 28, 42, 180, 0, 23, 3, 50, 29, 46, 27]
abbrev dktX2_marksOf_0 : List UInt8 := dkwX2_marksOf_0 ++ dktX2_marksOf_1
theorem dksX2_marksOf_0 : cX2_marksOf.data.toList.drop 0 = dktX2_marksOf_0 := by decide +kernel
theorem dksX2_marksOf_1 : cX2_marksOf.data.toList.drop 24 = dktX2_marksOf_1 := dk_seg dksX2_marksOf_0 24 rfl rfl
theorem dX2_marksOf_0 : decode cX2_marksOf 0 = .ok (.iconst 0, 1) := dk_3 (dk_at dksX2_marksOf_0 0 rfl rfl)
theorem dX2_marksOf_1 : decode cX2_marksOf 1 = .ok (.istore_n 2, 1) := dk_61 (dk_at dksX2_marksOf_0 1 rfl rfl)
theorem dX2_marksOf_2 : decode cX2_marksOf 2 = .ok (.iconst 0, 1) := dk_3 (dk_at dksX2_marksOf_0 2 rfl rfl)
theorem dX2_marksOf_3 : decode cX2_marksOf 3 = .ok (.istore_n 3, 1) := dk_62 (dk_at dksX2_marksOf_0 3 rfl rfl)
theorem dX2_marksOf_4 : decode cX2_marksOf 4 = .ok (.iload_n 3, 1) := dk_29 (dk_at dksX2_marksOf_0 4 rfl rfl)
theorem dX2_marksOf_5 : decode cX2_marksOf 5 = .ok (.aload_n 0, 1) := dk_42 (dk_at dksX2_marksOf_0 5 rfl rfl)
theorem dX2_marksOf_6 : decode cX2_marksOf 6 = .ok (.getfield 48, 3) := dk_180 0 48 (dk_at dksX2_marksOf_0 6 rfl rfl)
theorem dX2_marksOf_9 : decode cX2_marksOf 9 = .ok (.iconst 0, 1) := dk_3 (dk_at dksX2_marksOf_0 9 rfl rfl)
theorem dX2_marksOf_10 : decode cX2_marksOf 10 = .ok (.iaload, 1) := dk_46 (dk_at dksX2_marksOf_0 10 rfl rfl)
theorem dX2_marksOf_11 : decode cX2_marksOf 11 = .ok (.if_icmp .ge 26, 3) := dk_162 0 26 (dk_at dksX2_marksOf_0 11 rfl rfl)
theorem dX2_marksOf_14 : decode cX2_marksOf 14 = .ok (.iload_n 2, 1) := dk_28 (dk_at dksX2_marksOf_0 14 rfl rfl)
theorem dX2_marksOf_15 : decode cX2_marksOf 15 = .ok (.aload_n 0, 1) := dk_42 (dk_at dksX2_marksOf_0 15 rfl rfl)
theorem dX2_marksOf_16 : decode cX2_marksOf 16 = .ok (.getfield 23, 3) := dk_180 0 23 (dk_at dksX2_marksOf_0 16 rfl rfl)
theorem dX2_marksOf_19 : decode cX2_marksOf 19 = .ok (.iconst 0, 1) := dk_3 (dk_at dksX2_marksOf_0 19 rfl rfl)
theorem dX2_marksOf_20 : decode cX2_marksOf 20 = .ok (.aaload, 1) := dk_50 (dk_at dksX2_marksOf_0 20 rfl rfl)
theorem dX2_marksOf_21 : decode cX2_marksOf 21 = .ok (.iload_n 3, 1) := dk_29 (dk_at dksX2_marksOf_0 21 rfl rfl)
theorem dX2_marksOf_22 : decode cX2_marksOf 22 = .ok (.iaload, 1) := dk_46 (dk_at dksX2_marksOf_0 22 rfl rfl)
theorem dX2_marksOf_23 : decode cX2_marksOf 23 = .ok (.iload_n 1, 1) := dk_27 (dk_at dksX2_marksOf_0 23 rfl rfl)
theorem dX2_marksOf_24 : decode cX2_marksOf 24 = .ok (.ishr, 1) := dk_122 (dk_at dksX2_marksOf_1 0 rfl rfl)
theorem dX2_marksOf_25 : decode cX2_marksOf 25 = .ok (.iconst 1, 1) := dk_4 (dk_at dksX2_marksOf_1 1 rfl rfl)
theorem dX2_marksOf_26 : decode cX2_marksOf 26 = .ok (.iand, 1) := dk_126 (dk_at dksX2_marksOf_1 2 rfl rfl)
theorem dX2_marksOf_27 : decode cX2_marksOf 27 = .ok (.iload_n 3, 1) := dk_29 (dk_at dksX2_marksOf_1 3 rfl rfl)
theorem dX2_marksOf_28 : decode cX2_marksOf 28 = .ok (.ishl, 1) := dk_120 (dk_at dksX2_marksOf_1 4 rfl rfl)
theorem dX2_marksOf_29 : decode cX2_marksOf 29 = .ok (.ior, 1) := dk_128 (dk_at dksX2_marksOf_1 5 rfl rfl)
theorem dX2_marksOf_30 : decode cX2_marksOf 30 = .ok (.istore_n 2, 1) := dk_61 (dk_at dksX2_marksOf_1 6 rfl rfl)
theorem dX2_marksOf_31 : decode cX2_marksOf 31 = .ok (.iinc 3 1, 3) := dk_132 3 1 (dk_at dksX2_marksOf_1 7 rfl rfl)
theorem dX2_marksOf_34 : decode cX2_marksOf 34 = .ok (.goto (-30), 3) := dk_167 255 226 (dk_at dksX2_marksOf_1 10 rfl rfl)
theorem dX2_marksOf_37 : decode cX2_marksOf 37 = .ok (.iload_n 2, 1) := dk_28 (dk_at dksX2_marksOf_1 13 rfl rfl)
theorem dX2_marksOf_38 : decode cX2_marksOf 38 = .ok (.ireturn, 1) := dk_172 (dk_at dksX2_marksOf_1 14 rfl rfl)
abbrev cX2_rule : ByteArray := prog_26_method_35_code
def yX2_rule : MethodName := ⟨RX2, "rule", "(II)I"⟩
def dkwX2_rule_8 : List UInt8 := [27, 51, 153, 0, 7, 4, 167, 0, 4, 3, 172, 2, 172]
abbrev dktX2_rule_8 : List UInt8 := dkwX2_rule_8 ++ []
def dkwX2_rule_7 : List UInt8 := [167, 0, 4, 3, 96, 62, 132, 5, 1, 167, 255, 222, 132, 4, 1, 167, 255, 184, 29, 172, 42, 180, 0, 77]
abbrev dktX2_rule_7 : List UInt8 := dkwX2_rule_7 ++ dktX2_rule_8
def dkwX2_rule_6 : List UInt8 := [180, 0, 44, 3, 46, 162, 0, 29, 29, 42, 27, 21, 4, 21, 5, 182, 1, 35, 153, 0, 7, 4]
abbrev dktX2_rule_6 : List UInt8 := dkwX2_rule_6 ++ dktX2_rule_7
def dkwX2_rule_5 : List UInt8 := [42, 180, 0, 26, 3, 50, 27, 46, 154, 0, 7, 3, 167, 0, 7, 21, 4, 4, 96, 54, 5, 21, 5, 42]
abbrev dktX2_rule_5 : List UInt8 := dkwX2_rule_5 ++ dktX2_rule_6
def dkwX2_rule_4 : List UInt8 := [180, 0, 41, 3, 50, 27, 46, 172, 3, 62, 3, 54, 4, 21, 4, 42, 180, 0, 44, 3, 46, 162, 0, 67]
abbrev dktX2_rule_4 : List UInt8 := dkwX2_rule_4 ++ dktX2_rule_5
def dkwX2_rule_3 : List UInt8 := [27, 46, 172, 42, 180, 0, 35, 3, 50, 27, 46, 172, 42, 180, 0, 38, 3, 50, 27, 46, 172, 42]
abbrev dktX2_rule_3 : List UInt8 := dkwX2_rule_3 ++ dktX2_rule_4
def dkwX2_rule_2 : List UInt8 := [42, 180, 0, 26, 3, 50, 27, 46, 172, 42, 180, 0, 29, 3, 50, 27, 46, 172, 42, 180, 0, 32, 3, 50]
abbrev dktX2_rule_2 : List UInt8 := dkwX2_rule_2 ++ dktX2_rule_3
def dkwX2_rule_1 : List UInt8 := [170, 0, 0, 0, 196, 0, 0, 0, 0, 0, 0, 0, 7, 0, 0, 0, 45, 0, 0, 0, 54, 0, 0, 0, 63, 0, 0, 0, 72, 0, 0, 0, 81, 0, 0, 0, 90, 0, 0, 0, 99, 0, 0, 0, 181]
abbrev dktX2_rule_1 : List UInt8 := dkwX2_rule_1 ++ dktX2_rule_2
def dkwX2_rule_0 : List UInt8 := [42, 27, 182, 1, 38, 154, 0, 5, 2, 172, 28]
abbrev dktX2_rule_0 : List UInt8 := dkwX2_rule_0 ++ dktX2_rule_1
theorem dksX2_rule_0 : cX2_rule.data.toList.drop 0 = dktX2_rule_0 := by decide +kernel
theorem dksX2_rule_1 : cX2_rule.data.toList.drop 11 = dktX2_rule_1 := dk_seg dksX2_rule_0 11 rfl rfl
theorem dksX2_rule_2 : cX2_rule.data.toList.drop 56 = dktX2_rule_2 := dk_seg dksX2_rule_1 45 rfl rfl
theorem dksX2_rule_3 : cX2_rule.data.toList.drop 80 = dktX2_rule_3 := dk_seg dksX2_rule_2 24 rfl rfl
theorem dksX2_rule_4 : cX2_rule.data.toList.drop 102 = dktX2_rule_4 := dk_seg dksX2_rule_3 22 rfl rfl
theorem dksX2_rule_5 : cX2_rule.data.toList.drop 126 = dktX2_rule_5 := dk_seg dksX2_rule_4 24 rfl rfl
theorem dksX2_rule_6 : cX2_rule.data.toList.drop 150 = dktX2_rule_6 := dk_seg dksX2_rule_5 24 rfl rfl
theorem dksX2_rule_7 : cX2_rule.data.toList.drop 172 = dktX2_rule_7 := dk_seg dksX2_rule_6 22 rfl rfl
theorem dksX2_rule_8 : cX2_rule.data.toList.drop 196 = dktX2_rule_8 := dk_seg dksX2_rule_7 24 rfl rfl
theorem dX2_rule_0 : decode cX2_rule 0 = .ok (.aload_n 0, 1) := dk_42 (dk_at dksX2_rule_0 0 rfl rfl)
theorem dX2_rule_1 : decode cX2_rule 1 = .ok (.iload_n 1, 1) := dk_27 (dk_at dksX2_rule_0 1 rfl rfl)
theorem dX2_rule_2 : decode cX2_rule 2 = .ok (.invokevirtual 294, 3) := dk_182 1 38 (dk_at dksX2_rule_0 2 rfl rfl)
theorem dX2_rule_5 : decode cX2_rule 5 = .ok (.ifCond .ne 5, 3) := dk_154 0 5 (dk_at dksX2_rule_0 5 rfl rfl)
theorem dX2_rule_8 : decode cX2_rule 8 = .ok (.iconst (-1), 1) := dk_2 (dk_at dksX2_rule_0 8 rfl rfl)
theorem dX2_rule_9 : decode cX2_rule 9 = .ok (.ireturn, 1) := dk_172 (dk_at dksX2_rule_0 9 rfl rfl)
theorem dX2_rule_10 : decode cX2_rule 10 = .ok (.iload_n 2, 1) := dk_28 (dk_at dksX2_rule_0 10 rfl rfl)
theorem dX2_rule_11 : decode cX2_rule 11 = .ok (.tableswitch 196 0 7 #[45, 54, 63, 72, 81, 90, 99, 181], 45) := by decide +kernel
theorem dX2_rule_56 : decode cX2_rule 56 = .ok (.aload_n 0, 1) := dk_42 (dk_at dksX2_rule_2 0 rfl rfl)
theorem dX2_rule_57 : decode cX2_rule 57 = .ok (.getfield 26, 3) := dk_180 0 26 (dk_at dksX2_rule_2 1 rfl rfl)
theorem dX2_rule_60 : decode cX2_rule 60 = .ok (.iconst 0, 1) := dk_3 (dk_at dksX2_rule_2 4 rfl rfl)
theorem dX2_rule_61 : decode cX2_rule 61 = .ok (.aaload, 1) := dk_50 (dk_at dksX2_rule_2 5 rfl rfl)
theorem dX2_rule_62 : decode cX2_rule 62 = .ok (.iload_n 1, 1) := dk_27 (dk_at dksX2_rule_2 6 rfl rfl)
theorem dX2_rule_63 : decode cX2_rule 63 = .ok (.iaload, 1) := dk_46 (dk_at dksX2_rule_2 7 rfl rfl)
theorem dX2_rule_64 : decode cX2_rule 64 = .ok (.ireturn, 1) := dk_172 (dk_at dksX2_rule_2 8 rfl rfl)
theorem dX2_rule_65 : decode cX2_rule 65 = .ok (.aload_n 0, 1) := dk_42 (dk_at dksX2_rule_2 9 rfl rfl)
theorem dX2_rule_66 : decode cX2_rule 66 = .ok (.getfield 29, 3) := dk_180 0 29 (dk_at dksX2_rule_2 10 rfl rfl)
theorem dX2_rule_69 : decode cX2_rule 69 = .ok (.iconst 0, 1) := dk_3 (dk_at dksX2_rule_2 13 rfl rfl)
theorem dX2_rule_70 : decode cX2_rule 70 = .ok (.aaload, 1) := dk_50 (dk_at dksX2_rule_2 14 rfl rfl)
theorem dX2_rule_71 : decode cX2_rule 71 = .ok (.iload_n 1, 1) := dk_27 (dk_at dksX2_rule_2 15 rfl rfl)
theorem dX2_rule_72 : decode cX2_rule 72 = .ok (.iaload, 1) := dk_46 (dk_at dksX2_rule_2 16 rfl rfl)
theorem dX2_rule_73 : decode cX2_rule 73 = .ok (.ireturn, 1) := dk_172 (dk_at dksX2_rule_2 17 rfl rfl)
theorem dX2_rule_74 : decode cX2_rule 74 = .ok (.aload_n 0, 1) := dk_42 (dk_at dksX2_rule_2 18 rfl rfl)
theorem dX2_rule_75 : decode cX2_rule 75 = .ok (.getfield 32, 3) := dk_180 0 32 (dk_at dksX2_rule_2 19 rfl rfl)
theorem dX2_rule_78 : decode cX2_rule 78 = .ok (.iconst 0, 1) := dk_3 (dk_at dksX2_rule_2 22 rfl rfl)
theorem dX2_rule_79 : decode cX2_rule 79 = .ok (.aaload, 1) := dk_50 (dk_at dksX2_rule_2 23 rfl rfl)
theorem dX2_rule_80 : decode cX2_rule 80 = .ok (.iload_n 1, 1) := dk_27 (dk_at dksX2_rule_3 0 rfl rfl)
theorem dX2_rule_81 : decode cX2_rule 81 = .ok (.iaload, 1) := dk_46 (dk_at dksX2_rule_3 1 rfl rfl)
theorem dX2_rule_82 : decode cX2_rule 82 = .ok (.ireturn, 1) := dk_172 (dk_at dksX2_rule_3 2 rfl rfl)
theorem dX2_rule_83 : decode cX2_rule 83 = .ok (.aload_n 0, 1) := dk_42 (dk_at dksX2_rule_3 3 rfl rfl)
theorem dX2_rule_84 : decode cX2_rule 84 = .ok (.getfield 35, 3) := dk_180 0 35 (dk_at dksX2_rule_3 4 rfl rfl)
theorem dX2_rule_87 : decode cX2_rule 87 = .ok (.iconst 0, 1) := dk_3 (dk_at dksX2_rule_3 7 rfl rfl)
theorem dX2_rule_88 : decode cX2_rule 88 = .ok (.aaload, 1) := dk_50 (dk_at dksX2_rule_3 8 rfl rfl)
theorem dX2_rule_89 : decode cX2_rule 89 = .ok (.iload_n 1, 1) := dk_27 (dk_at dksX2_rule_3 9 rfl rfl)
theorem dX2_rule_90 : decode cX2_rule 90 = .ok (.iaload, 1) := dk_46 (dk_at dksX2_rule_3 10 rfl rfl)
theorem dX2_rule_91 : decode cX2_rule 91 = .ok (.ireturn, 1) := dk_172 (dk_at dksX2_rule_3 11 rfl rfl)
theorem dX2_rule_92 : decode cX2_rule 92 = .ok (.aload_n 0, 1) := dk_42 (dk_at dksX2_rule_3 12 rfl rfl)
theorem dX2_rule_93 : decode cX2_rule 93 = .ok (.getfield 38, 3) := dk_180 0 38 (dk_at dksX2_rule_3 13 rfl rfl)
theorem dX2_rule_96 : decode cX2_rule 96 = .ok (.iconst 0, 1) := dk_3 (dk_at dksX2_rule_3 16 rfl rfl)
theorem dX2_rule_97 : decode cX2_rule 97 = .ok (.aaload, 1) := dk_50 (dk_at dksX2_rule_3 17 rfl rfl)
theorem dX2_rule_98 : decode cX2_rule 98 = .ok (.iload_n 1, 1) := dk_27 (dk_at dksX2_rule_3 18 rfl rfl)
theorem dX2_rule_99 : decode cX2_rule 99 = .ok (.iaload, 1) := dk_46 (dk_at dksX2_rule_3 19 rfl rfl)
theorem dX2_rule_100 : decode cX2_rule 100 = .ok (.ireturn, 1) := dk_172 (dk_at dksX2_rule_3 20 rfl rfl)
theorem dX2_rule_101 : decode cX2_rule 101 = .ok (.aload_n 0, 1) := dk_42 (dk_at dksX2_rule_3 21 rfl rfl)
theorem dX2_rule_102 : decode cX2_rule 102 = .ok (.getfield 41, 3) := dk_180 0 41 (dk_at dksX2_rule_4 0 rfl rfl)
theorem dX2_rule_105 : decode cX2_rule 105 = .ok (.iconst 0, 1) := dk_3 (dk_at dksX2_rule_4 3 rfl rfl)
theorem dX2_rule_106 : decode cX2_rule 106 = .ok (.aaload, 1) := dk_50 (dk_at dksX2_rule_4 4 rfl rfl)
theorem dX2_rule_107 : decode cX2_rule 107 = .ok (.iload_n 1, 1) := dk_27 (dk_at dksX2_rule_4 5 rfl rfl)
theorem dX2_rule_108 : decode cX2_rule 108 = .ok (.iaload, 1) := dk_46 (dk_at dksX2_rule_4 6 rfl rfl)
theorem dX2_rule_109 : decode cX2_rule 109 = .ok (.ireturn, 1) := dk_172 (dk_at dksX2_rule_4 7 rfl rfl)
theorem dX2_rule_110 : decode cX2_rule 110 = .ok (.iconst 0, 1) := dk_3 (dk_at dksX2_rule_4 8 rfl rfl)
theorem dX2_rule_111 : decode cX2_rule 111 = .ok (.istore_n 3, 1) := dk_62 (dk_at dksX2_rule_4 9 rfl rfl)
theorem dX2_rule_112 : decode cX2_rule 112 = .ok (.iconst 0, 1) := dk_3 (dk_at dksX2_rule_4 10 rfl rfl)
theorem dX2_rule_113 : decode cX2_rule 113 = .ok (.istore 4, 2) := dk_54 4 (dk_at dksX2_rule_4 11 rfl rfl)
theorem dX2_rule_115 : decode cX2_rule 115 = .ok (.iload 4, 2) := dk_21 4 (dk_at dksX2_rule_4 13 rfl rfl)
theorem dX2_rule_117 : decode cX2_rule 117 = .ok (.aload_n 0, 1) := dk_42 (dk_at dksX2_rule_4 15 rfl rfl)
theorem dX2_rule_118 : decode cX2_rule 118 = .ok (.getfield 44, 3) := dk_180 0 44 (dk_at dksX2_rule_4 16 rfl rfl)
theorem dX2_rule_121 : decode cX2_rule 121 = .ok (.iconst 0, 1) := dk_3 (dk_at dksX2_rule_4 19 rfl rfl)
theorem dX2_rule_122 : decode cX2_rule 122 = .ok (.iaload, 1) := dk_46 (dk_at dksX2_rule_4 20 rfl rfl)
theorem dX2_rule_123 : decode cX2_rule 123 = .ok (.if_icmp .ge 67, 3) := dk_162 0 67 (dk_at dksX2_rule_4 21 rfl rfl)
theorem dX2_rule_126 : decode cX2_rule 126 = .ok (.aload_n 0, 1) := dk_42 (dk_at dksX2_rule_5 0 rfl rfl)
theorem dX2_rule_127 : decode cX2_rule 127 = .ok (.getfield 26, 3) := dk_180 0 26 (dk_at dksX2_rule_5 1 rfl rfl)
theorem dX2_rule_130 : decode cX2_rule 130 = .ok (.iconst 0, 1) := dk_3 (dk_at dksX2_rule_5 4 rfl rfl)
theorem dX2_rule_131 : decode cX2_rule 131 = .ok (.aaload, 1) := dk_50 (dk_at dksX2_rule_5 5 rfl rfl)
theorem dX2_rule_132 : decode cX2_rule 132 = .ok (.iload_n 1, 1) := dk_27 (dk_at dksX2_rule_5 6 rfl rfl)
theorem dX2_rule_133 : decode cX2_rule 133 = .ok (.iaload, 1) := dk_46 (dk_at dksX2_rule_5 7 rfl rfl)
theorem dX2_rule_134 : decode cX2_rule 134 = .ok (.ifCond .ne 7, 3) := dk_154 0 7 (dk_at dksX2_rule_5 8 rfl rfl)
theorem dX2_rule_137 : decode cX2_rule 137 = .ok (.iconst 0, 1) := dk_3 (dk_at dksX2_rule_5 11 rfl rfl)
theorem dX2_rule_138 : decode cX2_rule 138 = .ok (.goto 7, 3) := dk_167 0 7 (dk_at dksX2_rule_5 12 rfl rfl)
theorem dX2_rule_141 : decode cX2_rule 141 = .ok (.iload 4, 2) := dk_21 4 (dk_at dksX2_rule_5 15 rfl rfl)
theorem dX2_rule_143 : decode cX2_rule 143 = .ok (.iconst 1, 1) := dk_4 (dk_at dksX2_rule_5 17 rfl rfl)
theorem dX2_rule_144 : decode cX2_rule 144 = .ok (.iadd, 1) := dk_96 (dk_at dksX2_rule_5 18 rfl rfl)
theorem dX2_rule_145 : decode cX2_rule 145 = .ok (.istore 5, 2) := dk_54 5 (dk_at dksX2_rule_5 19 rfl rfl)
theorem dX2_rule_147 : decode cX2_rule 147 = .ok (.iload 5, 2) := dk_21 5 (dk_at dksX2_rule_5 21 rfl rfl)
theorem dX2_rule_149 : decode cX2_rule 149 = .ok (.aload_n 0, 1) := dk_42 (dk_at dksX2_rule_5 23 rfl rfl)
theorem dX2_rule_150 : decode cX2_rule 150 = .ok (.getfield 44, 3) := dk_180 0 44 (dk_at dksX2_rule_6 0 rfl rfl)
theorem dX2_rule_153 : decode cX2_rule 153 = .ok (.iconst 0, 1) := dk_3 (dk_at dksX2_rule_6 3 rfl rfl)
theorem dX2_rule_154 : decode cX2_rule 154 = .ok (.iaload, 1) := dk_46 (dk_at dksX2_rule_6 4 rfl rfl)
theorem dX2_rule_155 : decode cX2_rule 155 = .ok (.if_icmp .ge 29, 3) := dk_162 0 29 (dk_at dksX2_rule_6 5 rfl rfl)
theorem dX2_rule_158 : decode cX2_rule 158 = .ok (.iload_n 3, 1) := dk_29 (dk_at dksX2_rule_6 8 rfl rfl)
theorem dX2_rule_159 : decode cX2_rule 159 = .ok (.aload_n 0, 1) := dk_42 (dk_at dksX2_rule_6 9 rfl rfl)
theorem dX2_rule_160 : decode cX2_rule 160 = .ok (.iload_n 1, 1) := dk_27 (dk_at dksX2_rule_6 10 rfl rfl)
theorem dX2_rule_161 : decode cX2_rule 161 = .ok (.iload 4, 2) := dk_21 4 (dk_at dksX2_rule_6 11 rfl rfl)
theorem dX2_rule_163 : decode cX2_rule 163 = .ok (.iload 5, 2) := dk_21 5 (dk_at dksX2_rule_6 13 rfl rfl)
theorem dX2_rule_165 : decode cX2_rule 165 = .ok (.invokevirtual 291, 3) := dk_182 1 35 (dk_at dksX2_rule_6 15 rfl rfl)
theorem dX2_rule_168 : decode cX2_rule 168 = .ok (.ifCond .eq 7, 3) := dk_153 0 7 (dk_at dksX2_rule_6 18 rfl rfl)
theorem dX2_rule_171 : decode cX2_rule 171 = .ok (.iconst 1, 1) := dk_4 (dk_at dksX2_rule_6 21 rfl rfl)
theorem dX2_rule_172 : decode cX2_rule 172 = .ok (.goto 4, 3) := dk_167 0 4 (dk_at dksX2_rule_7 0 rfl rfl)
theorem dX2_rule_175 : decode cX2_rule 175 = .ok (.iconst 0, 1) := dk_3 (dk_at dksX2_rule_7 3 rfl rfl)
theorem dX2_rule_176 : decode cX2_rule 176 = .ok (.iadd, 1) := dk_96 (dk_at dksX2_rule_7 4 rfl rfl)
theorem dX2_rule_177 : decode cX2_rule 177 = .ok (.istore_n 3, 1) := dk_62 (dk_at dksX2_rule_7 5 rfl rfl)
theorem dX2_rule_178 : decode cX2_rule 178 = .ok (.iinc 5 1, 3) := dk_132 5 1 (dk_at dksX2_rule_7 6 rfl rfl)
theorem dX2_rule_181 : decode cX2_rule 181 = .ok (.goto (-34), 3) := dk_167 255 222 (dk_at dksX2_rule_7 9 rfl rfl)
theorem dX2_rule_184 : decode cX2_rule 184 = .ok (.iinc 4 1, 3) := dk_132 4 1 (dk_at dksX2_rule_7 12 rfl rfl)
theorem dX2_rule_187 : decode cX2_rule 187 = .ok (.goto (-72), 3) := dk_167 255 184 (dk_at dksX2_rule_7 15 rfl rfl)
theorem dX2_rule_190 : decode cX2_rule 190 = .ok (.iload_n 3, 1) := dk_29 (dk_at dksX2_rule_7 18 rfl rfl)
theorem dX2_rule_191 : decode cX2_rule 191 = .ok (.ireturn, 1) := dk_172 (dk_at dksX2_rule_7 19 rfl rfl)
theorem dX2_rule_192 : decode cX2_rule 192 = .ok (.aload_n 0, 1) := dk_42 (dk_at dksX2_rule_7 20 rfl rfl)
theorem dX2_rule_193 : decode cX2_rule 193 = .ok (.getfield 77, 3) := dk_180 0 77 (dk_at dksX2_rule_7 21 rfl rfl)
theorem dX2_rule_196 : decode cX2_rule 196 = .ok (.iload_n 1, 1) := dk_27 (dk_at dksX2_rule_8 0 rfl rfl)
theorem dX2_rule_197 : decode cX2_rule 197 = .ok (.baload, 1) := dk_51 (dk_at dksX2_rule_8 1 rfl rfl)
theorem dX2_rule_198 : decode cX2_rule 198 = .ok (.ifCond .eq 7, 3) := dk_153 0 7 (dk_at dksX2_rule_8 2 rfl rfl)
theorem dX2_rule_201 : decode cX2_rule 201 = .ok (.iconst 1, 1) := dk_4 (dk_at dksX2_rule_8 5 rfl rfl)
theorem dX2_rule_202 : decode cX2_rule 202 = .ok (.goto 4, 3) := dk_167 0 4 (dk_at dksX2_rule_8 6 rfl rfl)
theorem dX2_rule_205 : decode cX2_rule 205 = .ok (.iconst 0, 1) := dk_3 (dk_at dksX2_rule_8 9 rfl rfl)
theorem dX2_rule_206 : decode cX2_rule 206 = .ok (.ireturn, 1) := dk_172 (dk_at dksX2_rule_8 10 rfl rfl)
theorem dX2_rule_207 : decode cX2_rule 207 = .ok (.iconst (-1), 1) := dk_2 (dk_at dksX2_rule_8 11 rfl rfl)
theorem dX2_rule_208 : decode cX2_rule 208 = .ok (.ireturn, 1) := dk_172 (dk_at dksX2_rule_8 12 rfl rfl)
abbrev cX2_isRule : ByteArray := prog_26_method_25_code
def yX2_isRule : MethodName := ⟨RX2, "isRule", "(I)Z"⟩
def dkwX2_isRule_0 : List UInt8 := [27, 133, 9, 42, 180, 0, 51, 3, 46, 4, 100, 133, 184, 0, 183, 172]
abbrev dktX2_isRule_0 : List UInt8 := dkwX2_isRule_0 ++ []
theorem dksX2_isRule_0 : cX2_isRule.data.toList.drop 0 = dktX2_isRule_0 := by decide +kernel
theorem dX2_isRule_0 : decode cX2_isRule 0 = .ok (.iload_n 1, 1) := dk_27 (dk_at dksX2_isRule_0 0 rfl rfl)
theorem dX2_isRule_1 : decode cX2_isRule 1 = .ok (.i2l, 1) := dk_133 (dk_at dksX2_isRule_0 1 rfl rfl)
theorem dX2_isRule_2 : decode cX2_isRule 2 = .ok (.lconst 0, 1) := dk_9 (dk_at dksX2_isRule_0 2 rfl rfl)
theorem dX2_isRule_3 : decode cX2_isRule 3 = .ok (.aload_n 0, 1) := dk_42 (dk_at dksX2_isRule_0 3 rfl rfl)
theorem dX2_isRule_4 : decode cX2_isRule 4 = .ok (.getfield 51, 3) := dk_180 0 51 (dk_at dksX2_isRule_0 4 rfl rfl)
theorem dX2_isRule_7 : decode cX2_isRule 7 = .ok (.iconst 0, 1) := dk_3 (dk_at dksX2_isRule_0 7 rfl rfl)
theorem dX2_isRule_8 : decode cX2_isRule 8 = .ok (.iaload, 1) := dk_46 (dk_at dksX2_isRule_0 8 rfl rfl)
theorem dX2_isRule_9 : decode cX2_isRule 9 = .ok (.iconst 1, 1) := dk_4 (dk_at dksX2_isRule_0 9 rfl rfl)
theorem dX2_isRule_10 : decode cX2_isRule 10 = .ok (.isub, 1) := dk_100 (dk_at dksX2_isRule_0 10 rfl rfl)
theorem dX2_isRule_11 : decode cX2_isRule 11 = .ok (.i2l, 1) := dk_133 (dk_at dksX2_isRule_0 11 rfl rfl)
theorem dX2_isRule_12 : decode cX2_isRule 12 = .ok (.invokestatic 183, 3) := dk_184 0 183 (dk_at dksX2_isRule_0 12 rfl rfl)
theorem dX2_isRule_15 : decode cX2_isRule 15 = .ok (.ireturn, 1) := dk_172 (dk_at dksX2_isRule_0 15 rfl rfl)
abbrev cX2_hasCouple : ByteArray := prog_26_method_32_code
def yX2_hasCouple : MethodName := ⟨RX2, "hasCouple", "(III)Z"⟩
def dkwX2_hasCouple_1 : List UInt8 := [28, 182, 1, 29, 153, 0, 7, 4, 167, 0, 4, 3, 172]
abbrev dktX2_hasCouple_1 : List UInt8 := dkwX2_hasCouple_1 ++ []
def dkwX2_hasCouple_0 : List UInt8 := [42, 27, 28, 29, 182, 1, 29, 154, 0, 24, 42, 180, 0, 26, 3, 50, 27, 46, 153, 0, 17, 42, 27, 29]
abbrev dktX2_hasCouple_0 : List UInt8 := dkwX2_hasCouple_0 ++ dktX2_hasCouple_1
theorem dksX2_hasCouple_0 : cX2_hasCouple.data.toList.drop 0 = dktX2_hasCouple_0 := by decide +kernel
theorem dksX2_hasCouple_1 : cX2_hasCouple.data.toList.drop 24 = dktX2_hasCouple_1 := dk_seg dksX2_hasCouple_0 24 rfl rfl
theorem dX2_hasCouple_0 : decode cX2_hasCouple 0 = .ok (.aload_n 0, 1) := dk_42 (dk_at dksX2_hasCouple_0 0 rfl rfl)
theorem dX2_hasCouple_1 : decode cX2_hasCouple 1 = .ok (.iload_n 1, 1) := dk_27 (dk_at dksX2_hasCouple_0 1 rfl rfl)
theorem dX2_hasCouple_2 : decode cX2_hasCouple 2 = .ok (.iload_n 2, 1) := dk_28 (dk_at dksX2_hasCouple_0 2 rfl rfl)
theorem dX2_hasCouple_3 : decode cX2_hasCouple 3 = .ok (.iload_n 3, 1) := dk_29 (dk_at dksX2_hasCouple_0 3 rfl rfl)
theorem dX2_hasCouple_4 : decode cX2_hasCouple 4 = .ok (.invokevirtual 285, 3) := dk_182 1 29 (dk_at dksX2_hasCouple_0 4 rfl rfl)
theorem dX2_hasCouple_7 : decode cX2_hasCouple 7 = .ok (.ifCond .ne 24, 3) := dk_154 0 24 (dk_at dksX2_hasCouple_0 7 rfl rfl)
theorem dX2_hasCouple_10 : decode cX2_hasCouple 10 = .ok (.aload_n 0, 1) := dk_42 (dk_at dksX2_hasCouple_0 10 rfl rfl)
theorem dX2_hasCouple_11 : decode cX2_hasCouple 11 = .ok (.getfield 26, 3) := dk_180 0 26 (dk_at dksX2_hasCouple_0 11 rfl rfl)
theorem dX2_hasCouple_14 : decode cX2_hasCouple 14 = .ok (.iconst 0, 1) := dk_3 (dk_at dksX2_hasCouple_0 14 rfl rfl)
theorem dX2_hasCouple_15 : decode cX2_hasCouple 15 = .ok (.aaload, 1) := dk_50 (dk_at dksX2_hasCouple_0 15 rfl rfl)
theorem dX2_hasCouple_16 : decode cX2_hasCouple 16 = .ok (.iload_n 1, 1) := dk_27 (dk_at dksX2_hasCouple_0 16 rfl rfl)
theorem dX2_hasCouple_17 : decode cX2_hasCouple 17 = .ok (.iaload, 1) := dk_46 (dk_at dksX2_hasCouple_0 17 rfl rfl)
theorem dX2_hasCouple_18 : decode cX2_hasCouple 18 = .ok (.ifCond .eq 17, 3) := dk_153 0 17 (dk_at dksX2_hasCouple_0 18 rfl rfl)
theorem dX2_hasCouple_21 : decode cX2_hasCouple 21 = .ok (.aload_n 0, 1) := dk_42 (dk_at dksX2_hasCouple_0 21 rfl rfl)
theorem dX2_hasCouple_22 : decode cX2_hasCouple 22 = .ok (.iload_n 1, 1) := dk_27 (dk_at dksX2_hasCouple_0 22 rfl rfl)
theorem dX2_hasCouple_23 : decode cX2_hasCouple 23 = .ok (.iload_n 3, 1) := dk_29 (dk_at dksX2_hasCouple_0 23 rfl rfl)
theorem dX2_hasCouple_24 : decode cX2_hasCouple 24 = .ok (.iload_n 2, 1) := dk_28 (dk_at dksX2_hasCouple_1 0 rfl rfl)
theorem dX2_hasCouple_25 : decode cX2_hasCouple 25 = .ok (.invokevirtual 285, 3) := dk_182 1 29 (dk_at dksX2_hasCouple_1 1 rfl rfl)
theorem dX2_hasCouple_28 : decode cX2_hasCouple 28 = .ok (.ifCond .eq 7, 3) := dk_153 0 7 (dk_at dksX2_hasCouple_1 4 rfl rfl)
theorem dX2_hasCouple_31 : decode cX2_hasCouple 31 = .ok (.iconst 1, 1) := dk_4 (dk_at dksX2_hasCouple_1 7 rfl rfl)
theorem dX2_hasCouple_32 : decode cX2_hasCouple 32 = .ok (.goto 4, 3) := dk_167 0 4 (dk_at dksX2_hasCouple_1 8 rfl rfl)
theorem dX2_hasCouple_35 : decode cX2_hasCouple 35 = .ok (.iconst 0, 1) := dk_3 (dk_at dksX2_hasCouple_1 11 rfl rfl)
theorem dX2_hasCouple_36 : decode cX2_hasCouple 36 = .ok (.ireturn, 1) := dk_172 (dk_at dksX2_hasCouple_1 12 rfl rfl)
abbrev cX2_couples : ByteArray := prog_26_method_31_code
def yX2_couples : MethodName := ⟨RX2, "couples", "(III)Z"⟩
def dkwX2_couples_3 : List UInt8 := [154, 0, 7, 4, 167, 0, 4, 3, 172]
abbrev dktX2_couples_3 : List UInt8 := dkwX2_couples_3 ++ []
def dkwX2_couples_2 : List UInt8 := [159, 0, 25, 42, 180, 0, 23, 3, 50, 42, 180, 0, 41, 3, 50, 27, 46, 46, 29, 122, 4, 126]
abbrev dktX2_couples_2 : List UInt8 := dkwX2_couples_2 ++ dktX2_couples_3
def dkwX2_couples_1 : List UInt8 := [180, 0, 32, 3, 50, 27, 46, 29, 182, 1, 26, 153, 0, 41, 42, 180, 0, 41, 3, 50, 27, 46, 2]
abbrev dktX2_couples_1 : List UInt8 := dkwX2_couples_1 ++ dktX2_couples_2
def dkwX2_couples_0 : List UInt8 := [28, 29, 159, 0, 73, 42, 42, 180, 0, 29, 3, 50, 27, 46, 28, 182, 1, 26, 153, 0, 57, 42, 42]
abbrev dktX2_couples_0 : List UInt8 := dkwX2_couples_0 ++ dktX2_couples_1
theorem dksX2_couples_0 : cX2_couples.data.toList.drop 0 = dktX2_couples_0 := by decide +kernel
theorem dksX2_couples_1 : cX2_couples.data.toList.drop 23 = dktX2_couples_1 := dk_seg dksX2_couples_0 23 rfl rfl
theorem dksX2_couples_2 : cX2_couples.data.toList.drop 46 = dktX2_couples_2 := dk_seg dksX2_couples_1 23 rfl rfl
theorem dksX2_couples_3 : cX2_couples.data.toList.drop 68 = dktX2_couples_3 := dk_seg dksX2_couples_2 22 rfl rfl
theorem dX2_couples_0 : decode cX2_couples 0 = .ok (.iload_n 2, 1) := dk_28 (dk_at dksX2_couples_0 0 rfl rfl)
theorem dX2_couples_1 : decode cX2_couples 1 = .ok (.iload_n 3, 1) := dk_29 (dk_at dksX2_couples_0 1 rfl rfl)
theorem dX2_couples_2 : decode cX2_couples 2 = .ok (.if_icmp .eq 73, 3) := dk_159 0 73 (dk_at dksX2_couples_0 2 rfl rfl)
theorem dX2_couples_5 : decode cX2_couples 5 = .ok (.aload_n 0, 1) := dk_42 (dk_at dksX2_couples_0 5 rfl rfl)
theorem dX2_couples_6 : decode cX2_couples 6 = .ok (.aload_n 0, 1) := dk_42 (dk_at dksX2_couples_0 6 rfl rfl)
theorem dX2_couples_7 : decode cX2_couples 7 = .ok (.getfield 29, 3) := dk_180 0 29 (dk_at dksX2_couples_0 7 rfl rfl)
theorem dX2_couples_10 : decode cX2_couples 10 = .ok (.iconst 0, 1) := dk_3 (dk_at dksX2_couples_0 10 rfl rfl)
theorem dX2_couples_11 : decode cX2_couples 11 = .ok (.aaload, 1) := dk_50 (dk_at dksX2_couples_0 11 rfl rfl)
theorem dX2_couples_12 : decode cX2_couples 12 = .ok (.iload_n 1, 1) := dk_27 (dk_at dksX2_couples_0 12 rfl rfl)
theorem dX2_couples_13 : decode cX2_couples 13 = .ok (.iaload, 1) := dk_46 (dk_at dksX2_couples_0 13 rfl rfl)
theorem dX2_couples_14 : decode cX2_couples 14 = .ok (.iload_n 2, 1) := dk_28 (dk_at dksX2_couples_0 14 rfl rfl)
theorem dX2_couples_15 : decode cX2_couples 15 = .ok (.invokevirtual 282, 3) := dk_182 1 26 (dk_at dksX2_couples_0 15 rfl rfl)
theorem dX2_couples_18 : decode cX2_couples 18 = .ok (.ifCond .eq 57, 3) := dk_153 0 57 (dk_at dksX2_couples_0 18 rfl rfl)
theorem dX2_couples_21 : decode cX2_couples 21 = .ok (.aload_n 0, 1) := dk_42 (dk_at dksX2_couples_0 21 rfl rfl)
theorem dX2_couples_22 : decode cX2_couples 22 = .ok (.aload_n 0, 1) := dk_42 (dk_at dksX2_couples_0 22 rfl rfl)
theorem dX2_couples_23 : decode cX2_couples 23 = .ok (.getfield 32, 3) := dk_180 0 32 (dk_at dksX2_couples_1 0 rfl rfl)
theorem dX2_couples_26 : decode cX2_couples 26 = .ok (.iconst 0, 1) := dk_3 (dk_at dksX2_couples_1 3 rfl rfl)
theorem dX2_couples_27 : decode cX2_couples 27 = .ok (.aaload, 1) := dk_50 (dk_at dksX2_couples_1 4 rfl rfl)
theorem dX2_couples_28 : decode cX2_couples 28 = .ok (.iload_n 1, 1) := dk_27 (dk_at dksX2_couples_1 5 rfl rfl)
theorem dX2_couples_29 : decode cX2_couples 29 = .ok (.iaload, 1) := dk_46 (dk_at dksX2_couples_1 6 rfl rfl)
theorem dX2_couples_30 : decode cX2_couples 30 = .ok (.iload_n 3, 1) := dk_29 (dk_at dksX2_couples_1 7 rfl rfl)
theorem dX2_couples_31 : decode cX2_couples 31 = .ok (.invokevirtual 282, 3) := dk_182 1 26 (dk_at dksX2_couples_1 8 rfl rfl)
theorem dX2_couples_34 : decode cX2_couples 34 = .ok (.ifCond .eq 41, 3) := dk_153 0 41 (dk_at dksX2_couples_1 11 rfl rfl)
theorem dX2_couples_37 : decode cX2_couples 37 = .ok (.aload_n 0, 1) := dk_42 (dk_at dksX2_couples_1 14 rfl rfl)
theorem dX2_couples_38 : decode cX2_couples 38 = .ok (.getfield 41, 3) := dk_180 0 41 (dk_at dksX2_couples_1 15 rfl rfl)
theorem dX2_couples_41 : decode cX2_couples 41 = .ok (.iconst 0, 1) := dk_3 (dk_at dksX2_couples_1 18 rfl rfl)
theorem dX2_couples_42 : decode cX2_couples 42 = .ok (.aaload, 1) := dk_50 (dk_at dksX2_couples_1 19 rfl rfl)
theorem dX2_couples_43 : decode cX2_couples 43 = .ok (.iload_n 1, 1) := dk_27 (dk_at dksX2_couples_1 20 rfl rfl)
theorem dX2_couples_44 : decode cX2_couples 44 = .ok (.iaload, 1) := dk_46 (dk_at dksX2_couples_1 21 rfl rfl)
theorem dX2_couples_45 : decode cX2_couples 45 = .ok (.iconst (-1), 1) := dk_2 (dk_at dksX2_couples_1 22 rfl rfl)
theorem dX2_couples_46 : decode cX2_couples 46 = .ok (.if_icmp .eq 25, 3) := dk_159 0 25 (dk_at dksX2_couples_2 0 rfl rfl)
theorem dX2_couples_49 : decode cX2_couples 49 = .ok (.aload_n 0, 1) := dk_42 (dk_at dksX2_couples_2 3 rfl rfl)
theorem dX2_couples_50 : decode cX2_couples 50 = .ok (.getfield 23, 3) := dk_180 0 23 (dk_at dksX2_couples_2 4 rfl rfl)
theorem dX2_couples_53 : decode cX2_couples 53 = .ok (.iconst 0, 1) := dk_3 (dk_at dksX2_couples_2 7 rfl rfl)
theorem dX2_couples_54 : decode cX2_couples 54 = .ok (.aaload, 1) := dk_50 (dk_at dksX2_couples_2 8 rfl rfl)
theorem dX2_couples_55 : decode cX2_couples 55 = .ok (.aload_n 0, 1) := dk_42 (dk_at dksX2_couples_2 9 rfl rfl)
theorem dX2_couples_56 : decode cX2_couples 56 = .ok (.getfield 41, 3) := dk_180 0 41 (dk_at dksX2_couples_2 10 rfl rfl)
theorem dX2_couples_59 : decode cX2_couples 59 = .ok (.iconst 0, 1) := dk_3 (dk_at dksX2_couples_2 13 rfl rfl)
theorem dX2_couples_60 : decode cX2_couples 60 = .ok (.aaload, 1) := dk_50 (dk_at dksX2_couples_2 14 rfl rfl)
theorem dX2_couples_61 : decode cX2_couples 61 = .ok (.iload_n 1, 1) := dk_27 (dk_at dksX2_couples_2 15 rfl rfl)
theorem dX2_couples_62 : decode cX2_couples 62 = .ok (.iaload, 1) := dk_46 (dk_at dksX2_couples_2 16 rfl rfl)
theorem dX2_couples_63 : decode cX2_couples 63 = .ok (.iaload, 1) := dk_46 (dk_at dksX2_couples_2 17 rfl rfl)
theorem dX2_couples_64 : decode cX2_couples 64 = .ok (.iload_n 3, 1) := dk_29 (dk_at dksX2_couples_2 18 rfl rfl)
theorem dX2_couples_65 : decode cX2_couples 65 = .ok (.ishr, 1) := dk_122 (dk_at dksX2_couples_2 19 rfl rfl)
theorem dX2_couples_66 : decode cX2_couples 66 = .ok (.iconst 1, 1) := dk_4 (dk_at dksX2_couples_2 20 rfl rfl)
theorem dX2_couples_67 : decode cX2_couples 67 = .ok (.iand, 1) := dk_126 (dk_at dksX2_couples_2 21 rfl rfl)
theorem dX2_couples_68 : decode cX2_couples 68 = .ok (.ifCond .ne 7, 3) := dk_154 0 7 (dk_at dksX2_couples_3 0 rfl rfl)
theorem dX2_couples_71 : decode cX2_couples 71 = .ok (.iconst 1, 1) := dk_4 (dk_at dksX2_couples_3 3 rfl rfl)
theorem dX2_couples_72 : decode cX2_couples 72 = .ok (.goto 4, 3) := dk_167 0 4 (dk_at dksX2_couples_3 4 rfl rfl)
theorem dX2_couples_75 : decode cX2_couples 75 = .ok (.iconst 0, 1) := dk_3 (dk_at dksX2_couples_3 7 rfl rfl)
theorem dX2_couples_76 : decode cX2_couples 76 = .ok (.ireturn, 1) := dk_172 (dk_at dksX2_couples_3 8 rfl rfl)
abbrev cX2_isOf : ByteArray := prog_26_method_30_code
def yX2_isOf : MethodName := ⟨RX2, "isOf", "(II)Z"⟩
def dkwX2_isOf_1 : List UInt8 := [50, 27, 16, 100, 100, 46, 28, 122, 4, 126, 4, 160, 0, 7, 4, 167, 0, 4, 3, 172]
abbrev dktX2_isOf_1 : List UInt8 := dkwX2_isOf_1 ++ []
def dkwX2_isOf_0 : List UInt8 := [27, 16, 100, 162, 0, 16, 27, 28, 160, 0, 7, 4, 167, 0, 31, 3, 167, 0, 27, 42, 180, 0, 23, 3]
abbrev dktX2_isOf_0 : List UInt8 := dkwX2_isOf_0 ++ dktX2_isOf_1
theorem dksX2_isOf_0 : cX2_isOf.data.toList.drop 0 = dktX2_isOf_0 := by decide +kernel
theorem dksX2_isOf_1 : cX2_isOf.data.toList.drop 24 = dktX2_isOf_1 := dk_seg dksX2_isOf_0 24 rfl rfl
theorem dX2_isOf_0 : decode cX2_isOf 0 = .ok (.iload_n 1, 1) := dk_27 (dk_at dksX2_isOf_0 0 rfl rfl)
theorem dX2_isOf_1 : decode cX2_isOf 1 = .ok (.bipush 100, 2) := dk_16 100 (dk_at dksX2_isOf_0 1 rfl rfl)
theorem dX2_isOf_3 : decode cX2_isOf 3 = .ok (.if_icmp .ge 16, 3) := dk_162 0 16 (dk_at dksX2_isOf_0 3 rfl rfl)
theorem dX2_isOf_6 : decode cX2_isOf 6 = .ok (.iload_n 1, 1) := dk_27 (dk_at dksX2_isOf_0 6 rfl rfl)
theorem dX2_isOf_7 : decode cX2_isOf 7 = .ok (.iload_n 2, 1) := dk_28 (dk_at dksX2_isOf_0 7 rfl rfl)
theorem dX2_isOf_8 : decode cX2_isOf 8 = .ok (.if_icmp .ne 7, 3) := dk_160 0 7 (dk_at dksX2_isOf_0 8 rfl rfl)
theorem dX2_isOf_11 : decode cX2_isOf 11 = .ok (.iconst 1, 1) := dk_4 (dk_at dksX2_isOf_0 11 rfl rfl)
theorem dX2_isOf_12 : decode cX2_isOf 12 = .ok (.goto 31, 3) := dk_167 0 31 (dk_at dksX2_isOf_0 12 rfl rfl)
theorem dX2_isOf_15 : decode cX2_isOf 15 = .ok (.iconst 0, 1) := dk_3 (dk_at dksX2_isOf_0 15 rfl rfl)
theorem dX2_isOf_16 : decode cX2_isOf 16 = .ok (.goto 27, 3) := dk_167 0 27 (dk_at dksX2_isOf_0 16 rfl rfl)
theorem dX2_isOf_19 : decode cX2_isOf 19 = .ok (.aload_n 0, 1) := dk_42 (dk_at dksX2_isOf_0 19 rfl rfl)
theorem dX2_isOf_20 : decode cX2_isOf 20 = .ok (.getfield 23, 3) := dk_180 0 23 (dk_at dksX2_isOf_0 20 rfl rfl)
theorem dX2_isOf_23 : decode cX2_isOf 23 = .ok (.iconst 0, 1) := dk_3 (dk_at dksX2_isOf_0 23 rfl rfl)
theorem dX2_isOf_24 : decode cX2_isOf 24 = .ok (.aaload, 1) := dk_50 (dk_at dksX2_isOf_1 0 rfl rfl)
theorem dX2_isOf_25 : decode cX2_isOf 25 = .ok (.iload_n 1, 1) := dk_27 (dk_at dksX2_isOf_1 1 rfl rfl)
theorem dX2_isOf_26 : decode cX2_isOf 26 = .ok (.bipush 100, 2) := dk_16 100 (dk_at dksX2_isOf_1 2 rfl rfl)
theorem dX2_isOf_28 : decode cX2_isOf 28 = .ok (.isub, 1) := dk_100 (dk_at dksX2_isOf_1 4 rfl rfl)
theorem dX2_isOf_29 : decode cX2_isOf 29 = .ok (.iaload, 1) := dk_46 (dk_at dksX2_isOf_1 5 rfl rfl)
theorem dX2_isOf_30 : decode cX2_isOf 30 = .ok (.iload_n 2, 1) := dk_28 (dk_at dksX2_isOf_1 6 rfl rfl)
theorem dX2_isOf_31 : decode cX2_isOf 31 = .ok (.ishr, 1) := dk_122 (dk_at dksX2_isOf_1 7 rfl rfl)
theorem dX2_isOf_32 : decode cX2_isOf 32 = .ok (.iconst 1, 1) := dk_4 (dk_at dksX2_isOf_1 8 rfl rfl)
theorem dX2_isOf_33 : decode cX2_isOf 33 = .ok (.iand, 1) := dk_126 (dk_at dksX2_isOf_1 9 rfl rfl)
theorem dX2_isOf_34 : decode cX2_isOf 34 = .ok (.iconst 1, 1) := dk_4 (dk_at dksX2_isOf_1 10 rfl rfl)
theorem dX2_isOf_35 : decode cX2_isOf 35 = .ok (.if_icmp .ne 7, 3) := dk_160 0 7 (dk_at dksX2_isOf_1 11 rfl rfl)
theorem dX2_isOf_38 : decode cX2_isOf 38 = .ok (.iconst 1, 1) := dk_4 (dk_at dksX2_isOf_1 14 rfl rfl)
theorem dX2_isOf_39 : decode cX2_isOf 39 = .ok (.goto 4, 3) := dk_167 0 4 (dk_at dksX2_isOf_1 15 rfl rfl)
theorem dX2_isOf_42 : decode cX2_isOf 42 = .ok (.iconst 0, 1) := dk_3 (dk_at dksX2_isOf_1 18 rfl rfl)
theorem dX2_isOf_43 : decode cX2_isOf 43 = .ok (.ireturn, 1) := dk_172 (dk_at dksX2_isOf_1 19 rfl rfl)
abbrev cX2_rest : ByteArray := prog_26_method_36_code
def yX2_rest : MethodName := ⟨RX2, "rest", "(IZ)Z"⟩
def dkwX2_rest_1 : List UInt8 := [27, 28, 84, 4, 172]
abbrev dktX2_rest_1 : List UInt8 := dkwX2_rest_1 ++ []
def dkwX2_rest_0 : List UInt8 := [42, 27, 182, 1, 38, 153, 0, 13, 42, 180, 0, 77, 27, 51, 28, 160, 0, 5, 3, 172, 42, 180, 0, 77]
abbrev dktX2_rest_0 : List UInt8 := dkwX2_rest_0 ++ dktX2_rest_1
theorem dksX2_rest_0 : cX2_rest.data.toList.drop 0 = dktX2_rest_0 := by decide +kernel
theorem dksX2_rest_1 : cX2_rest.data.toList.drop 24 = dktX2_rest_1 := dk_seg dksX2_rest_0 24 rfl rfl
theorem dX2_rest_0 : decode cX2_rest 0 = .ok (.aload_n 0, 1) := dk_42 (dk_at dksX2_rest_0 0 rfl rfl)
theorem dX2_rest_1 : decode cX2_rest 1 = .ok (.iload_n 1, 1) := dk_27 (dk_at dksX2_rest_0 1 rfl rfl)
theorem dX2_rest_2 : decode cX2_rest 2 = .ok (.invokevirtual 294, 3) := dk_182 1 38 (dk_at dksX2_rest_0 2 rfl rfl)
theorem dX2_rest_5 : decode cX2_rest 5 = .ok (.ifCond .eq 13, 3) := dk_153 0 13 (dk_at dksX2_rest_0 5 rfl rfl)
theorem dX2_rest_8 : decode cX2_rest 8 = .ok (.aload_n 0, 1) := dk_42 (dk_at dksX2_rest_0 8 rfl rfl)
theorem dX2_rest_9 : decode cX2_rest 9 = .ok (.getfield 77, 3) := dk_180 0 77 (dk_at dksX2_rest_0 9 rfl rfl)
theorem dX2_rest_12 : decode cX2_rest 12 = .ok (.iload_n 1, 1) := dk_27 (dk_at dksX2_rest_0 12 rfl rfl)
theorem dX2_rest_13 : decode cX2_rest 13 = .ok (.baload, 1) := dk_51 (dk_at dksX2_rest_0 13 rfl rfl)
theorem dX2_rest_14 : decode cX2_rest 14 = .ok (.iload_n 2, 1) := dk_28 (dk_at dksX2_rest_0 14 rfl rfl)
theorem dX2_rest_15 : decode cX2_rest 15 = .ok (.if_icmp .ne 5, 3) := dk_160 0 5 (dk_at dksX2_rest_0 15 rfl rfl)
theorem dX2_rest_18 : decode cX2_rest 18 = .ok (.iconst 0, 1) := dk_3 (dk_at dksX2_rest_0 18 rfl rfl)
theorem dX2_rest_19 : decode cX2_rest 19 = .ok (.ireturn, 1) := dk_172 (dk_at dksX2_rest_0 19 rfl rfl)
theorem dX2_rest_20 : decode cX2_rest 20 = .ok (.aload_n 0, 1) := dk_42 (dk_at dksX2_rest_0 20 rfl rfl)
theorem dX2_rest_21 : decode cX2_rest 21 = .ok (.getfield 77, 3) := dk_180 0 77 (dk_at dksX2_rest_0 21 rfl rfl)
theorem dX2_rest_24 : decode cX2_rest 24 = .ok (.iload_n 1, 1) := dk_27 (dk_at dksX2_rest_1 0 rfl rfl)
theorem dX2_rest_25 : decode cX2_rest 25 = .ok (.iload_n 2, 1) := dk_28 (dk_at dksX2_rest_1 1 rfl rfl)
theorem dX2_rest_26 : decode cX2_rest 26 = .ok (.bastore, 1) := dk_84 (dk_at dksX2_rest_1 2 rfl rfl)
theorem dX2_rest_27 : decode cX2_rest 27 = .ok (.iconst 1, 1) := dk_4 (dk_at dksX2_rest_1 3 rfl rfl)
theorem dX2_rest_28 : decode cX2_rest 28 = .ok (.ireturn, 1) := dk_172 (dk_at dksX2_rest_1 4 rfl rfl)
abbrev cX2_comes : ByteArray := prog_26_method_37_code
def yX2_comes : MethodName := ⟨RX2, "comes", "(IZ)Z"⟩
def dkwX2_comes_2 : List UInt8 := [4, 172]
abbrev dktX2_comes_2 : List UInt8 := dkwX2_comes_2 ++ []
def dkwX2_comes_1 : List UInt8 := [27, 28, 84, 42, 180, 0, 84, 27, 3, 84, 42, 180, 0, 87, 27, 2, 79, 42, 180, 0, 90, 27, 2, 79]
abbrev dktX2_comes_1 : List UInt8 := dkwX2_comes_1 ++ dktX2_comes_2
def dkwX2_comes_0 : List UInt8 := [42, 27, 182, 1, 19, 153, 0, 13, 42, 180, 0, 81, 27, 51, 28, 160, 0, 5, 3, 172, 42, 180, 0, 81]
abbrev dktX2_comes_0 : List UInt8 := dkwX2_comes_0 ++ dktX2_comes_1
theorem dksX2_comes_0 : cX2_comes.data.toList.drop 0 = dktX2_comes_0 := by decide +kernel
theorem dksX2_comes_1 : cX2_comes.data.toList.drop 24 = dktX2_comes_1 := dk_seg dksX2_comes_0 24 rfl rfl
theorem dksX2_comes_2 : cX2_comes.data.toList.drop 48 = dktX2_comes_2 := dk_seg dksX2_comes_1 24 rfl rfl
theorem dX2_comes_0 : decode cX2_comes 0 = .ok (.aload_n 0, 1) := dk_42 (dk_at dksX2_comes_0 0 rfl rfl)
theorem dX2_comes_1 : decode cX2_comes 1 = .ok (.iload_n 1, 1) := dk_27 (dk_at dksX2_comes_0 1 rfl rfl)
theorem dX2_comes_2 : decode cX2_comes 2 = .ok (.invokevirtual 275, 3) := dk_182 1 19 (dk_at dksX2_comes_0 2 rfl rfl)
theorem dX2_comes_5 : decode cX2_comes 5 = .ok (.ifCond .eq 13, 3) := dk_153 0 13 (dk_at dksX2_comes_0 5 rfl rfl)
theorem dX2_comes_8 : decode cX2_comes 8 = .ok (.aload_n 0, 1) := dk_42 (dk_at dksX2_comes_0 8 rfl rfl)
theorem dX2_comes_9 : decode cX2_comes 9 = .ok (.getfield 81, 3) := dk_180 0 81 (dk_at dksX2_comes_0 9 rfl rfl)
theorem dX2_comes_12 : decode cX2_comes 12 = .ok (.iload_n 1, 1) := dk_27 (dk_at dksX2_comes_0 12 rfl rfl)
theorem dX2_comes_13 : decode cX2_comes 13 = .ok (.baload, 1) := dk_51 (dk_at dksX2_comes_0 13 rfl rfl)
theorem dX2_comes_14 : decode cX2_comes 14 = .ok (.iload_n 2, 1) := dk_28 (dk_at dksX2_comes_0 14 rfl rfl)
theorem dX2_comes_15 : decode cX2_comes 15 = .ok (.if_icmp .ne 5, 3) := dk_160 0 5 (dk_at dksX2_comes_0 15 rfl rfl)
theorem dX2_comes_18 : decode cX2_comes 18 = .ok (.iconst 0, 1) := dk_3 (dk_at dksX2_comes_0 18 rfl rfl)
theorem dX2_comes_19 : decode cX2_comes 19 = .ok (.ireturn, 1) := dk_172 (dk_at dksX2_comes_0 19 rfl rfl)
theorem dX2_comes_20 : decode cX2_comes 20 = .ok (.aload_n 0, 1) := dk_42 (dk_at dksX2_comes_0 20 rfl rfl)
theorem dX2_comes_21 : decode cX2_comes 21 = .ok (.getfield 81, 3) := dk_180 0 81 (dk_at dksX2_comes_0 21 rfl rfl)
theorem dX2_comes_24 : decode cX2_comes 24 = .ok (.iload_n 1, 1) := dk_27 (dk_at dksX2_comes_1 0 rfl rfl)
theorem dX2_comes_25 : decode cX2_comes 25 = .ok (.iload_n 2, 1) := dk_28 (dk_at dksX2_comes_1 1 rfl rfl)
theorem dX2_comes_26 : decode cX2_comes 26 = .ok (.bastore, 1) := dk_84 (dk_at dksX2_comes_1 2 rfl rfl)
theorem dX2_comes_27 : decode cX2_comes 27 = .ok (.aload_n 0, 1) := dk_42 (dk_at dksX2_comes_1 3 rfl rfl)
theorem dX2_comes_28 : decode cX2_comes 28 = .ok (.getfield 84, 3) := dk_180 0 84 (dk_at dksX2_comes_1 4 rfl rfl)
theorem dX2_comes_31 : decode cX2_comes 31 = .ok (.iload_n 1, 1) := dk_27 (dk_at dksX2_comes_1 7 rfl rfl)
theorem dX2_comes_32 : decode cX2_comes 32 = .ok (.iconst 0, 1) := dk_3 (dk_at dksX2_comes_1 8 rfl rfl)
theorem dX2_comes_33 : decode cX2_comes 33 = .ok (.bastore, 1) := dk_84 (dk_at dksX2_comes_1 9 rfl rfl)
theorem dX2_comes_34 : decode cX2_comes 34 = .ok (.aload_n 0, 1) := dk_42 (dk_at dksX2_comes_1 10 rfl rfl)
theorem dX2_comes_35 : decode cX2_comes 35 = .ok (.getfield 87, 3) := dk_180 0 87 (dk_at dksX2_comes_1 11 rfl rfl)
theorem dX2_comes_38 : decode cX2_comes 38 = .ok (.iload_n 1, 1) := dk_27 (dk_at dksX2_comes_1 14 rfl rfl)
theorem dX2_comes_39 : decode cX2_comes 39 = .ok (.iconst (-1), 1) := dk_2 (dk_at dksX2_comes_1 15 rfl rfl)
theorem dX2_comes_40 : decode cX2_comes 40 = .ok (.iastore, 1) := dk_79 (dk_at dksX2_comes_1 16 rfl rfl)
theorem dX2_comes_41 : decode cX2_comes 41 = .ok (.aload_n 0, 1) := dk_42 (dk_at dksX2_comes_1 17 rfl rfl)
theorem dX2_comes_42 : decode cX2_comes 42 = .ok (.getfield 90, 3) := dk_180 0 90 (dk_at dksX2_comes_1 18 rfl rfl)
theorem dX2_comes_45 : decode cX2_comes 45 = .ok (.iload_n 1, 1) := dk_27 (dk_at dksX2_comes_1 21 rfl rfl)
theorem dX2_comes_46 : decode cX2_comes 46 = .ok (.iconst (-1), 1) := dk_2 (dk_at dksX2_comes_1 22 rfl rfl)
theorem dX2_comes_47 : decode cX2_comes 47 = .ok (.iastore, 1) := dk_79 (dk_at dksX2_comes_1 23 rfl rfl)
theorem dX2_comes_48 : decode cX2_comes 48 = .ok (.iconst 1, 1) := dk_4 (dk_at dksX2_comes_2 0 rfl rfl)
theorem dX2_comes_49 : decode cX2_comes 49 = .ok (.ireturn, 1) := dk_172 (dk_at dksX2_comes_2 1 rfl rfl)
abbrev cX2_seat : ByteArray := prog_26_method_38_code
def yX2_seat : MethodName := ⟨RX2, "seat", "(III)Z"⟩
def dkwX2_seat_4 : List UInt8 := [132, 4, 1, 167, 255, 218, 42, 180, 0, 87, 27, 28, 79, 42, 180, 0, 90, 27, 29, 79, 4, 172]
abbrev dktX2_seat_4 : List UInt8 := dkwX2_seat_4 ++ []
def dkwX2_seat_3 : List UInt8 := [180, 0, 87, 21, 4, 46, 28, 160, 0, 16, 42, 180, 0, 90, 21, 4, 46, 29, 160, 0, 5, 3, 172]
abbrev dktX2_seat_3 : List UInt8 := dkwX2_seat_3 ++ dktX2_seat_4
def dkwX2_seat_2 : List UInt8 := [184, 0, 183, 154, 0, 5, 3, 172, 3, 54, 4, 21, 4, 42, 180, 0, 44, 3, 46, 162, 0, 33, 42]
abbrev dktX2_seat_2 : List UInt8 := dkwX2_seat_2 ++ dktX2_seat_3
def dkwX2_seat_1 : List UInt8 := [154, 0, 29, 42, 28, 182, 1, 41, 153, 0, 21, 29, 133, 9, 42, 180, 0, 96, 28, 46, 4, 100, 133]
abbrev dktX2_seat_1 : List UInt8 := dkwX2_seat_1 ++ dktX2_seat_2
def dkwX2_seat_0 : List UInt8 := [42, 27, 182, 1, 19, 153, 0, 47, 42, 180, 0, 81, 27, 51, 153, 0, 38, 42, 180, 0, 84, 27, 51]
abbrev dktX2_seat_0 : List UInt8 := dkwX2_seat_0 ++ dktX2_seat_1
theorem dksX2_seat_0 : cX2_seat.data.toList.drop 0 = dktX2_seat_0 := by decide +kernel
theorem dksX2_seat_1 : cX2_seat.data.toList.drop 23 = dktX2_seat_1 := dk_seg dksX2_seat_0 23 rfl rfl
theorem dksX2_seat_2 : cX2_seat.data.toList.drop 46 = dktX2_seat_2 := dk_seg dksX2_seat_1 23 rfl rfl
theorem dksX2_seat_3 : cX2_seat.data.toList.drop 69 = dktX2_seat_3 := dk_seg dksX2_seat_2 23 rfl rfl
theorem dksX2_seat_4 : cX2_seat.data.toList.drop 92 = dktX2_seat_4 := dk_seg dksX2_seat_3 23 rfl rfl
theorem dX2_seat_0 : decode cX2_seat 0 = .ok (.aload_n 0, 1) := dk_42 (dk_at dksX2_seat_0 0 rfl rfl)
theorem dX2_seat_1 : decode cX2_seat 1 = .ok (.iload_n 1, 1) := dk_27 (dk_at dksX2_seat_0 1 rfl rfl)
theorem dX2_seat_2 : decode cX2_seat 2 = .ok (.invokevirtual 275, 3) := dk_182 1 19 (dk_at dksX2_seat_0 2 rfl rfl)
theorem dX2_seat_5 : decode cX2_seat 5 = .ok (.ifCond .eq 47, 3) := dk_153 0 47 (dk_at dksX2_seat_0 5 rfl rfl)
theorem dX2_seat_8 : decode cX2_seat 8 = .ok (.aload_n 0, 1) := dk_42 (dk_at dksX2_seat_0 8 rfl rfl)
theorem dX2_seat_9 : decode cX2_seat 9 = .ok (.getfield 81, 3) := dk_180 0 81 (dk_at dksX2_seat_0 9 rfl rfl)
theorem dX2_seat_12 : decode cX2_seat 12 = .ok (.iload_n 1, 1) := dk_27 (dk_at dksX2_seat_0 12 rfl rfl)
theorem dX2_seat_13 : decode cX2_seat 13 = .ok (.baload, 1) := dk_51 (dk_at dksX2_seat_0 13 rfl rfl)
theorem dX2_seat_14 : decode cX2_seat 14 = .ok (.ifCond .eq 38, 3) := dk_153 0 38 (dk_at dksX2_seat_0 14 rfl rfl)
theorem dX2_seat_17 : decode cX2_seat 17 = .ok (.aload_n 0, 1) := dk_42 (dk_at dksX2_seat_0 17 rfl rfl)
theorem dX2_seat_18 : decode cX2_seat 18 = .ok (.getfield 84, 3) := dk_180 0 84 (dk_at dksX2_seat_0 18 rfl rfl)
theorem dX2_seat_21 : decode cX2_seat 21 = .ok (.iload_n 1, 1) := dk_27 (dk_at dksX2_seat_0 21 rfl rfl)
theorem dX2_seat_22 : decode cX2_seat 22 = .ok (.baload, 1) := dk_51 (dk_at dksX2_seat_0 22 rfl rfl)
theorem dX2_seat_23 : decode cX2_seat 23 = .ok (.ifCond .ne 29, 3) := dk_154 0 29 (dk_at dksX2_seat_1 0 rfl rfl)
theorem dX2_seat_26 : decode cX2_seat 26 = .ok (.aload_n 0, 1) := dk_42 (dk_at dksX2_seat_1 3 rfl rfl)
theorem dX2_seat_27 : decode cX2_seat 27 = .ok (.iload_n 2, 1) := dk_28 (dk_at dksX2_seat_1 4 rfl rfl)
theorem dX2_seat_28 : decode cX2_seat 28 = .ok (.invokevirtual 297, 3) := dk_182 1 41 (dk_at dksX2_seat_1 5 rfl rfl)
theorem dX2_seat_31 : decode cX2_seat 31 = .ok (.ifCond .eq 21, 3) := dk_153 0 21 (dk_at dksX2_seat_1 8 rfl rfl)
theorem dX2_seat_34 : decode cX2_seat 34 = .ok (.iload_n 3, 1) := dk_29 (dk_at dksX2_seat_1 11 rfl rfl)
theorem dX2_seat_35 : decode cX2_seat 35 = .ok (.i2l, 1) := dk_133 (dk_at dksX2_seat_1 12 rfl rfl)
theorem dX2_seat_36 : decode cX2_seat 36 = .ok (.lconst 0, 1) := dk_9 (dk_at dksX2_seat_1 13 rfl rfl)
theorem dX2_seat_37 : decode cX2_seat 37 = .ok (.aload_n 0, 1) := dk_42 (dk_at dksX2_seat_1 14 rfl rfl)
theorem dX2_seat_38 : decode cX2_seat 38 = .ok (.getfield 96, 3) := dk_180 0 96 (dk_at dksX2_seat_1 15 rfl rfl)
theorem dX2_seat_41 : decode cX2_seat 41 = .ok (.iload_n 2, 1) := dk_28 (dk_at dksX2_seat_1 18 rfl rfl)
theorem dX2_seat_42 : decode cX2_seat 42 = .ok (.iaload, 1) := dk_46 (dk_at dksX2_seat_1 19 rfl rfl)
theorem dX2_seat_43 : decode cX2_seat 43 = .ok (.iconst 1, 1) := dk_4 (dk_at dksX2_seat_1 20 rfl rfl)
theorem dX2_seat_44 : decode cX2_seat 44 = .ok (.isub, 1) := dk_100 (dk_at dksX2_seat_1 21 rfl rfl)
theorem dX2_seat_45 : decode cX2_seat 45 = .ok (.i2l, 1) := dk_133 (dk_at dksX2_seat_1 22 rfl rfl)
theorem dX2_seat_46 : decode cX2_seat 46 = .ok (.invokestatic 183, 3) := dk_184 0 183 (dk_at dksX2_seat_2 0 rfl rfl)
theorem dX2_seat_49 : decode cX2_seat 49 = .ok (.ifCond .ne 5, 3) := dk_154 0 5 (dk_at dksX2_seat_2 3 rfl rfl)
theorem dX2_seat_52 : decode cX2_seat 52 = .ok (.iconst 0, 1) := dk_3 (dk_at dksX2_seat_2 6 rfl rfl)
theorem dX2_seat_53 : decode cX2_seat 53 = .ok (.ireturn, 1) := dk_172 (dk_at dksX2_seat_2 7 rfl rfl)
theorem dX2_seat_54 : decode cX2_seat 54 = .ok (.iconst 0, 1) := dk_3 (dk_at dksX2_seat_2 8 rfl rfl)
theorem dX2_seat_55 : decode cX2_seat 55 = .ok (.istore 4, 2) := dk_54 4 (dk_at dksX2_seat_2 9 rfl rfl)
theorem dX2_seat_57 : decode cX2_seat 57 = .ok (.iload 4, 2) := dk_21 4 (dk_at dksX2_seat_2 11 rfl rfl)
theorem dX2_seat_59 : decode cX2_seat 59 = .ok (.aload_n 0, 1) := dk_42 (dk_at dksX2_seat_2 13 rfl rfl)
theorem dX2_seat_60 : decode cX2_seat 60 = .ok (.getfield 44, 3) := dk_180 0 44 (dk_at dksX2_seat_2 14 rfl rfl)
theorem dX2_seat_63 : decode cX2_seat 63 = .ok (.iconst 0, 1) := dk_3 (dk_at dksX2_seat_2 17 rfl rfl)
theorem dX2_seat_64 : decode cX2_seat 64 = .ok (.iaload, 1) := dk_46 (dk_at dksX2_seat_2 18 rfl rfl)
theorem dX2_seat_65 : decode cX2_seat 65 = .ok (.if_icmp .ge 33, 3) := dk_162 0 33 (dk_at dksX2_seat_2 19 rfl rfl)
theorem dX2_seat_68 : decode cX2_seat 68 = .ok (.aload_n 0, 1) := dk_42 (dk_at dksX2_seat_2 22 rfl rfl)
theorem dX2_seat_69 : decode cX2_seat 69 = .ok (.getfield 87, 3) := dk_180 0 87 (dk_at dksX2_seat_3 0 rfl rfl)
theorem dX2_seat_72 : decode cX2_seat 72 = .ok (.iload 4, 2) := dk_21 4 (dk_at dksX2_seat_3 3 rfl rfl)
theorem dX2_seat_74 : decode cX2_seat 74 = .ok (.iaload, 1) := dk_46 (dk_at dksX2_seat_3 5 rfl rfl)
theorem dX2_seat_75 : decode cX2_seat 75 = .ok (.iload_n 2, 1) := dk_28 (dk_at dksX2_seat_3 6 rfl rfl)
theorem dX2_seat_76 : decode cX2_seat 76 = .ok (.if_icmp .ne 16, 3) := dk_160 0 16 (dk_at dksX2_seat_3 7 rfl rfl)
theorem dX2_seat_79 : decode cX2_seat 79 = .ok (.aload_n 0, 1) := dk_42 (dk_at dksX2_seat_3 10 rfl rfl)
theorem dX2_seat_80 : decode cX2_seat 80 = .ok (.getfield 90, 3) := dk_180 0 90 (dk_at dksX2_seat_3 11 rfl rfl)
theorem dX2_seat_83 : decode cX2_seat 83 = .ok (.iload 4, 2) := dk_21 4 (dk_at dksX2_seat_3 14 rfl rfl)
theorem dX2_seat_85 : decode cX2_seat 85 = .ok (.iaload, 1) := dk_46 (dk_at dksX2_seat_3 16 rfl rfl)
theorem dX2_seat_86 : decode cX2_seat 86 = .ok (.iload_n 3, 1) := dk_29 (dk_at dksX2_seat_3 17 rfl rfl)
theorem dX2_seat_87 : decode cX2_seat 87 = .ok (.if_icmp .ne 5, 3) := dk_160 0 5 (dk_at dksX2_seat_3 18 rfl rfl)
theorem dX2_seat_90 : decode cX2_seat 90 = .ok (.iconst 0, 1) := dk_3 (dk_at dksX2_seat_3 21 rfl rfl)
theorem dX2_seat_91 : decode cX2_seat 91 = .ok (.ireturn, 1) := dk_172 (dk_at dksX2_seat_3 22 rfl rfl)
theorem dX2_seat_92 : decode cX2_seat 92 = .ok (.iinc 4 1, 3) := dk_132 4 1 (dk_at dksX2_seat_4 0 rfl rfl)
theorem dX2_seat_95 : decode cX2_seat 95 = .ok (.goto (-38), 3) := dk_167 255 218 (dk_at dksX2_seat_4 3 rfl rfl)
theorem dX2_seat_98 : decode cX2_seat 98 = .ok (.aload_n 0, 1) := dk_42 (dk_at dksX2_seat_4 6 rfl rfl)
theorem dX2_seat_99 : decode cX2_seat 99 = .ok (.getfield 87, 3) := dk_180 0 87 (dk_at dksX2_seat_4 7 rfl rfl)
theorem dX2_seat_102 : decode cX2_seat 102 = .ok (.iload_n 1, 1) := dk_27 (dk_at dksX2_seat_4 10 rfl rfl)
theorem dX2_seat_103 : decode cX2_seat 103 = .ok (.iload_n 2, 1) := dk_28 (dk_at dksX2_seat_4 11 rfl rfl)
theorem dX2_seat_104 : decode cX2_seat 104 = .ok (.iastore, 1) := dk_79 (dk_at dksX2_seat_4 12 rfl rfl)
theorem dX2_seat_105 : decode cX2_seat 105 = .ok (.aload_n 0, 1) := dk_42 (dk_at dksX2_seat_4 13 rfl rfl)
theorem dX2_seat_106 : decode cX2_seat 106 = .ok (.getfield 90, 3) := dk_180 0 90 (dk_at dksX2_seat_4 14 rfl rfl)
theorem dX2_seat_109 : decode cX2_seat 109 = .ok (.iload_n 1, 1) := dk_27 (dk_at dksX2_seat_4 17 rfl rfl)
theorem dX2_seat_110 : decode cX2_seat 110 = .ok (.iload_n 3, 1) := dk_29 (dk_at dksX2_seat_4 18 rfl rfl)
theorem dX2_seat_111 : decode cX2_seat 111 = .ok (.iastore, 1) := dk_79 (dk_at dksX2_seat_4 19 rfl rfl)
theorem dX2_seat_112 : decode cX2_seat 112 = .ok (.iconst 1, 1) := dk_4 (dk_at dksX2_seat_4 20 rfl rfl)
theorem dX2_seat_113 : decode cX2_seat 113 = .ok (.ireturn, 1) := dk_172 (dk_at dksX2_seat_4 21 rfl rfl)
abbrev cX2_isRoom : ByteArray := prog_26_method_26_code
def yX2_isRoom : MethodName := ⟨RX2, "isRoom", "(I)Z"⟩
def dkwX2_isRoom_0 : List UInt8 := [27, 133, 9, 42, 180, 1, 12, 4, 100, 133, 184, 0, 183, 172]
abbrev dktX2_isRoom_0 : List UInt8 := dkwX2_isRoom_0 ++ []
theorem dksX2_isRoom_0 : cX2_isRoom.data.toList.drop 0 = dktX2_isRoom_0 := by decide +kernel
theorem dX2_isRoom_0 : decode cX2_isRoom 0 = .ok (.iload_n 1, 1) := dk_27 (dk_at dksX2_isRoom_0 0 rfl rfl)
theorem dX2_isRoom_1 : decode cX2_isRoom 1 = .ok (.i2l, 1) := dk_133 (dk_at dksX2_isRoom_0 1 rfl rfl)
theorem dX2_isRoom_2 : decode cX2_isRoom 2 = .ok (.lconst 0, 1) := dk_9 (dk_at dksX2_isRoom_0 2 rfl rfl)
theorem dX2_isRoom_3 : decode cX2_isRoom 3 = .ok (.aload_n 0, 1) := dk_42 (dk_at dksX2_isRoom_0 3 rfl rfl)
theorem dX2_isRoom_4 : decode cX2_isRoom 4 = .ok (.getfield 268, 3) := dk_180 1 12 (dk_at dksX2_isRoom_0 4 rfl rfl)
theorem dX2_isRoom_7 : decode cX2_isRoom 7 = .ok (.iconst 1, 1) := dk_4 (dk_at dksX2_isRoom_0 7 rfl rfl)
theorem dX2_isRoom_8 : decode cX2_isRoom 8 = .ok (.isub, 1) := dk_100 (dk_at dksX2_isRoom_0 8 rfl rfl)
theorem dX2_isRoom_9 : decode cX2_isRoom 9 = .ok (.i2l, 1) := dk_133 (dk_at dksX2_isRoom_0 9 rfl rfl)
theorem dX2_isRoom_10 : decode cX2_isRoom 10 = .ok (.invokestatic 183, 3) := dk_184 0 183 (dk_at dksX2_isRoom_0 10 rfl rfl)
theorem dX2_isRoom_13 : decode cX2_isRoom 13 = .ok (.ireturn, 1) := dk_172 (dk_at dksX2_isRoom_0 13 rfl rfl)
abbrev cX2_leave : ByteArray := prog_26_method_39_code
def yX2_leave : MethodName := ⟨RX2, "leave", "(I)Z"⟩
def dkwX2_leave_1 : List UInt8 := [153, 0, 5, 3, 172, 42, 180, 0, 87, 27, 2, 79, 42, 180, 0, 90, 27, 2, 79, 4, 172]
abbrev dktX2_leave_1 : List UInt8 := dkwX2_leave_1 ++ []
def dkwX2_leave_0 : List UInt8 := [42, 27, 182, 1, 19, 153, 0, 22, 42, 180, 0, 87, 27, 46, 2, 159, 0, 12, 42, 180, 0, 84, 27, 51]
abbrev dktX2_leave_0 : List UInt8 := dkwX2_leave_0 ++ dktX2_leave_1
theorem dksX2_leave_0 : cX2_leave.data.toList.drop 0 = dktX2_leave_0 := by decide +kernel
theorem dksX2_leave_1 : cX2_leave.data.toList.drop 24 = dktX2_leave_1 := dk_seg dksX2_leave_0 24 rfl rfl
theorem dX2_leave_0 : decode cX2_leave 0 = .ok (.aload_n 0, 1) := dk_42 (dk_at dksX2_leave_0 0 rfl rfl)
theorem dX2_leave_1 : decode cX2_leave 1 = .ok (.iload_n 1, 1) := dk_27 (dk_at dksX2_leave_0 1 rfl rfl)
theorem dX2_leave_2 : decode cX2_leave 2 = .ok (.invokevirtual 275, 3) := dk_182 1 19 (dk_at dksX2_leave_0 2 rfl rfl)
theorem dX2_leave_5 : decode cX2_leave 5 = .ok (.ifCond .eq 22, 3) := dk_153 0 22 (dk_at dksX2_leave_0 5 rfl rfl)
theorem dX2_leave_8 : decode cX2_leave 8 = .ok (.aload_n 0, 1) := dk_42 (dk_at dksX2_leave_0 8 rfl rfl)
theorem dX2_leave_9 : decode cX2_leave 9 = .ok (.getfield 87, 3) := dk_180 0 87 (dk_at dksX2_leave_0 9 rfl rfl)
theorem dX2_leave_12 : decode cX2_leave 12 = .ok (.iload_n 1, 1) := dk_27 (dk_at dksX2_leave_0 12 rfl rfl)
theorem dX2_leave_13 : decode cX2_leave 13 = .ok (.iaload, 1) := dk_46 (dk_at dksX2_leave_0 13 rfl rfl)
theorem dX2_leave_14 : decode cX2_leave 14 = .ok (.iconst (-1), 1) := dk_2 (dk_at dksX2_leave_0 14 rfl rfl)
theorem dX2_leave_15 : decode cX2_leave 15 = .ok (.if_icmp .eq 12, 3) := dk_159 0 12 (dk_at dksX2_leave_0 15 rfl rfl)
theorem dX2_leave_18 : decode cX2_leave 18 = .ok (.aload_n 0, 1) := dk_42 (dk_at dksX2_leave_0 18 rfl rfl)
theorem dX2_leave_19 : decode cX2_leave 19 = .ok (.getfield 84, 3) := dk_180 0 84 (dk_at dksX2_leave_0 19 rfl rfl)
theorem dX2_leave_22 : decode cX2_leave 22 = .ok (.iload_n 1, 1) := dk_27 (dk_at dksX2_leave_0 22 rfl rfl)
theorem dX2_leave_23 : decode cX2_leave 23 = .ok (.baload, 1) := dk_51 (dk_at dksX2_leave_0 23 rfl rfl)
theorem dX2_leave_24 : decode cX2_leave 24 = .ok (.ifCond .eq 5, 3) := dk_153 0 5 (dk_at dksX2_leave_1 0 rfl rfl)
theorem dX2_leave_27 : decode cX2_leave 27 = .ok (.iconst 0, 1) := dk_3 (dk_at dksX2_leave_1 3 rfl rfl)
theorem dX2_leave_28 : decode cX2_leave 28 = .ok (.ireturn, 1) := dk_172 (dk_at dksX2_leave_1 4 rfl rfl)
theorem dX2_leave_29 : decode cX2_leave 29 = .ok (.aload_n 0, 1) := dk_42 (dk_at dksX2_leave_1 5 rfl rfl)
theorem dX2_leave_30 : decode cX2_leave 30 = .ok (.getfield 87, 3) := dk_180 0 87 (dk_at dksX2_leave_1 6 rfl rfl)
theorem dX2_leave_33 : decode cX2_leave 33 = .ok (.iload_n 1, 1) := dk_27 (dk_at dksX2_leave_1 9 rfl rfl)
theorem dX2_leave_34 : decode cX2_leave 34 = .ok (.iconst (-1), 1) := dk_2 (dk_at dksX2_leave_1 10 rfl rfl)
theorem dX2_leave_35 : decode cX2_leave 35 = .ok (.iastore, 1) := dk_79 (dk_at dksX2_leave_1 11 rfl rfl)
theorem dX2_leave_36 : decode cX2_leave 36 = .ok (.aload_n 0, 1) := dk_42 (dk_at dksX2_leave_1 12 rfl rfl)
theorem dX2_leave_37 : decode cX2_leave 37 = .ok (.getfield 90, 3) := dk_180 0 90 (dk_at dksX2_leave_1 13 rfl rfl)
theorem dX2_leave_40 : decode cX2_leave 40 = .ok (.iload_n 1, 1) := dk_27 (dk_at dksX2_leave_1 16 rfl rfl)
theorem dX2_leave_41 : decode cX2_leave 41 = .ok (.iconst (-1), 1) := dk_2 (dk_at dksX2_leave_1 17 rfl rfl)
theorem dX2_leave_42 : decode cX2_leave 42 = .ok (.iastore, 1) := dk_79 (dk_at dksX2_leave_1 18 rfl rfl)
theorem dX2_leave_43 : decode cX2_leave 43 = .ok (.iconst 1, 1) := dk_4 (dk_at dksX2_leave_1 19 rfl rfl)
theorem dX2_leave_44 : decode cX2_leave 44 = .ok (.ireturn, 1) := dk_172 (dk_at dksX2_leave_1 20 rfl rfl)
abbrev cX2_sits : ByteArray := prog_26_method_40_code
def yX2_sits : MethodName := ⟨RX2, "sits", "(IZ)Z"⟩
def dkwX2_sits_1 : List UInt8 := [28, 160, 0, 5, 3, 172, 42, 180, 0, 84, 27, 28, 84, 4, 172]
abbrev dktX2_sits_1 : List UInt8 := dkwX2_sits_1 ++ []
def dkwX2_sits_0 : List UInt8 := [42, 27, 182, 1, 19, 153, 0, 23, 42, 180, 0, 87, 27, 46, 2, 159, 0, 13, 42, 180, 0, 84, 27, 51]
abbrev dktX2_sits_0 : List UInt8 := dkwX2_sits_0 ++ dktX2_sits_1
theorem dksX2_sits_0 : cX2_sits.data.toList.drop 0 = dktX2_sits_0 := by decide +kernel
theorem dksX2_sits_1 : cX2_sits.data.toList.drop 24 = dktX2_sits_1 := dk_seg dksX2_sits_0 24 rfl rfl
theorem dX2_sits_0 : decode cX2_sits 0 = .ok (.aload_n 0, 1) := dk_42 (dk_at dksX2_sits_0 0 rfl rfl)
theorem dX2_sits_1 : decode cX2_sits 1 = .ok (.iload_n 1, 1) := dk_27 (dk_at dksX2_sits_0 1 rfl rfl)
theorem dX2_sits_2 : decode cX2_sits 2 = .ok (.invokevirtual 275, 3) := dk_182 1 19 (dk_at dksX2_sits_0 2 rfl rfl)
theorem dX2_sits_5 : decode cX2_sits 5 = .ok (.ifCond .eq 23, 3) := dk_153 0 23 (dk_at dksX2_sits_0 5 rfl rfl)
theorem dX2_sits_8 : decode cX2_sits 8 = .ok (.aload_n 0, 1) := dk_42 (dk_at dksX2_sits_0 8 rfl rfl)
theorem dX2_sits_9 : decode cX2_sits 9 = .ok (.getfield 87, 3) := dk_180 0 87 (dk_at dksX2_sits_0 9 rfl rfl)
theorem dX2_sits_12 : decode cX2_sits 12 = .ok (.iload_n 1, 1) := dk_27 (dk_at dksX2_sits_0 12 rfl rfl)
theorem dX2_sits_13 : decode cX2_sits 13 = .ok (.iaload, 1) := dk_46 (dk_at dksX2_sits_0 13 rfl rfl)
theorem dX2_sits_14 : decode cX2_sits 14 = .ok (.iconst (-1), 1) := dk_2 (dk_at dksX2_sits_0 14 rfl rfl)
theorem dX2_sits_15 : decode cX2_sits 15 = .ok (.if_icmp .eq 13, 3) := dk_159 0 13 (dk_at dksX2_sits_0 15 rfl rfl)
theorem dX2_sits_18 : decode cX2_sits 18 = .ok (.aload_n 0, 1) := dk_42 (dk_at dksX2_sits_0 18 rfl rfl)
theorem dX2_sits_19 : decode cX2_sits 19 = .ok (.getfield 84, 3) := dk_180 0 84 (dk_at dksX2_sits_0 19 rfl rfl)
theorem dX2_sits_22 : decode cX2_sits 22 = .ok (.iload_n 1, 1) := dk_27 (dk_at dksX2_sits_0 22 rfl rfl)
theorem dX2_sits_23 : decode cX2_sits 23 = .ok (.baload, 1) := dk_51 (dk_at dksX2_sits_0 23 rfl rfl)
theorem dX2_sits_24 : decode cX2_sits 24 = .ok (.iload_n 2, 1) := dk_28 (dk_at dksX2_sits_1 0 rfl rfl)
theorem dX2_sits_25 : decode cX2_sits 25 = .ok (.if_icmp .ne 5, 3) := dk_160 0 5 (dk_at dksX2_sits_1 1 rfl rfl)
theorem dX2_sits_28 : decode cX2_sits 28 = .ok (.iconst 0, 1) := dk_3 (dk_at dksX2_sits_1 4 rfl rfl)
theorem dX2_sits_29 : decode cX2_sits 29 = .ok (.ireturn, 1) := dk_172 (dk_at dksX2_sits_1 5 rfl rfl)
theorem dX2_sits_30 : decode cX2_sits 30 = .ok (.aload_n 0, 1) := dk_42 (dk_at dksX2_sits_1 6 rfl rfl)
theorem dX2_sits_31 : decode cX2_sits 31 = .ok (.getfield 84, 3) := dk_180 0 84 (dk_at dksX2_sits_1 7 rfl rfl)
theorem dX2_sits_34 : decode cX2_sits 34 = .ok (.iload_n 1, 1) := dk_27 (dk_at dksX2_sits_1 10 rfl rfl)
theorem dX2_sits_35 : decode cX2_sits 35 = .ok (.iload_n 2, 1) := dk_28 (dk_at dksX2_sits_1 11 rfl rfl)
theorem dX2_sits_36 : decode cX2_sits 36 = .ok (.bastore, 1) := dk_84 (dk_at dksX2_sits_1 12 rfl rfl)
theorem dX2_sits_37 : decode cX2_sits 37 = .ok (.iconst 1, 1) := dk_4 (dk_at dksX2_sits_1 13 rfl rfl)
theorem dX2_sits_38 : decode cX2_sits 38 = .ok (.ireturn, 1) := dk_172 (dk_at dksX2_sits_1 14 rfl rfl)
abbrev cX2_higher : ByteArray := prog_26_method_44_code
def yX2_higher : MethodName := ⟨RX2, "higher", "(IIII)I"⟩
def dkwX2_higher_2 : List UInt8 := [184, 0, 183, 154, 0, 5, 2, 172, 42, 27, 28, 29, 21, 4, 182, 1, 54, 172]
abbrev dktX2_higher_2 : List UInt8 := dkwX2_higher_2 ++ []
def dkwX2_higher_1 : List UInt8 := [46, 4, 100, 133, 184, 0, 183, 153, 0, 22, 21, 4, 133, 9, 42, 180, 0, 96, 27, 46, 4, 100, 133]
abbrev dktX2_higher_1 : List UInt8 := dkwX2_higher_1 ++ dktX2_higher_2
def dkwX2_higher_0 : List UInt8 := [42, 27, 182, 1, 41, 153, 0, 48, 42, 28, 182, 1, 51, 153, 0, 40, 29, 133, 9, 42, 180, 0, 96, 27]
abbrev dktX2_higher_0 : List UInt8 := dkwX2_higher_0 ++ dktX2_higher_1
theorem dksX2_higher_0 : cX2_higher.data.toList.drop 0 = dktX2_higher_0 := by decide +kernel
theorem dksX2_higher_1 : cX2_higher.data.toList.drop 24 = dktX2_higher_1 := dk_seg dksX2_higher_0 24 rfl rfl
theorem dksX2_higher_2 : cX2_higher.data.toList.drop 47 = dktX2_higher_2 := dk_seg dksX2_higher_1 23 rfl rfl
theorem dX2_higher_0 : decode cX2_higher 0 = .ok (.aload_n 0, 1) := dk_42 (dk_at dksX2_higher_0 0 rfl rfl)
theorem dX2_higher_1 : decode cX2_higher 1 = .ok (.iload_n 1, 1) := dk_27 (dk_at dksX2_higher_0 1 rfl rfl)
theorem dX2_higher_2 : decode cX2_higher 2 = .ok (.invokevirtual 297, 3) := dk_182 1 41 (dk_at dksX2_higher_0 2 rfl rfl)
theorem dX2_higher_5 : decode cX2_higher 5 = .ok (.ifCond .eq 48, 3) := dk_153 0 48 (dk_at dksX2_higher_0 5 rfl rfl)
theorem dX2_higher_8 : decode cX2_higher 8 = .ok (.aload_n 0, 1) := dk_42 (dk_at dksX2_higher_0 8 rfl rfl)
theorem dX2_higher_9 : decode cX2_higher 9 = .ok (.iload_n 2, 1) := dk_28 (dk_at dksX2_higher_0 9 rfl rfl)
theorem dX2_higher_10 : decode cX2_higher 10 = .ok (.invokevirtual 307, 3) := dk_182 1 51 (dk_at dksX2_higher_0 10 rfl rfl)
theorem dX2_higher_13 : decode cX2_higher 13 = .ok (.ifCond .eq 40, 3) := dk_153 0 40 (dk_at dksX2_higher_0 13 rfl rfl)
theorem dX2_higher_16 : decode cX2_higher 16 = .ok (.iload_n 3, 1) := dk_29 (dk_at dksX2_higher_0 16 rfl rfl)
theorem dX2_higher_17 : decode cX2_higher 17 = .ok (.i2l, 1) := dk_133 (dk_at dksX2_higher_0 17 rfl rfl)
theorem dX2_higher_18 : decode cX2_higher 18 = .ok (.lconst 0, 1) := dk_9 (dk_at dksX2_higher_0 18 rfl rfl)
theorem dX2_higher_19 : decode cX2_higher 19 = .ok (.aload_n 0, 1) := dk_42 (dk_at dksX2_higher_0 19 rfl rfl)
theorem dX2_higher_20 : decode cX2_higher 20 = .ok (.getfield 96, 3) := dk_180 0 96 (dk_at dksX2_higher_0 20 rfl rfl)
theorem dX2_higher_23 : decode cX2_higher 23 = .ok (.iload_n 1, 1) := dk_27 (dk_at dksX2_higher_0 23 rfl rfl)
theorem dX2_higher_24 : decode cX2_higher 24 = .ok (.iaload, 1) := dk_46 (dk_at dksX2_higher_1 0 rfl rfl)
theorem dX2_higher_25 : decode cX2_higher 25 = .ok (.iconst 1, 1) := dk_4 (dk_at dksX2_higher_1 1 rfl rfl)
theorem dX2_higher_26 : decode cX2_higher 26 = .ok (.isub, 1) := dk_100 (dk_at dksX2_higher_1 2 rfl rfl)
theorem dX2_higher_27 : decode cX2_higher 27 = .ok (.i2l, 1) := dk_133 (dk_at dksX2_higher_1 3 rfl rfl)
theorem dX2_higher_28 : decode cX2_higher 28 = .ok (.invokestatic 183, 3) := dk_184 0 183 (dk_at dksX2_higher_1 4 rfl rfl)
theorem dX2_higher_31 : decode cX2_higher 31 = .ok (.ifCond .eq 22, 3) := dk_153 0 22 (dk_at dksX2_higher_1 7 rfl rfl)
theorem dX2_higher_34 : decode cX2_higher 34 = .ok (.iload 4, 2) := dk_21 4 (dk_at dksX2_higher_1 10 rfl rfl)
theorem dX2_higher_36 : decode cX2_higher 36 = .ok (.i2l, 1) := dk_133 (dk_at dksX2_higher_1 12 rfl rfl)
theorem dX2_higher_37 : decode cX2_higher 37 = .ok (.lconst 0, 1) := dk_9 (dk_at dksX2_higher_1 13 rfl rfl)
theorem dX2_higher_38 : decode cX2_higher 38 = .ok (.aload_n 0, 1) := dk_42 (dk_at dksX2_higher_1 14 rfl rfl)
theorem dX2_higher_39 : decode cX2_higher 39 = .ok (.getfield 96, 3) := dk_180 0 96 (dk_at dksX2_higher_1 15 rfl rfl)
theorem dX2_higher_42 : decode cX2_higher 42 = .ok (.iload_n 1, 1) := dk_27 (dk_at dksX2_higher_1 18 rfl rfl)
theorem dX2_higher_43 : decode cX2_higher 43 = .ok (.iaload, 1) := dk_46 (dk_at dksX2_higher_1 19 rfl rfl)
theorem dX2_higher_44 : decode cX2_higher 44 = .ok (.iconst 1, 1) := dk_4 (dk_at dksX2_higher_1 20 rfl rfl)
theorem dX2_higher_45 : decode cX2_higher 45 = .ok (.isub, 1) := dk_100 (dk_at dksX2_higher_1 21 rfl rfl)
theorem dX2_higher_46 : decode cX2_higher 46 = .ok (.i2l, 1) := dk_133 (dk_at dksX2_higher_1 22 rfl rfl)
theorem dX2_higher_47 : decode cX2_higher 47 = .ok (.invokestatic 183, 3) := dk_184 0 183 (dk_at dksX2_higher_2 0 rfl rfl)
theorem dX2_higher_50 : decode cX2_higher 50 = .ok (.ifCond .ne 5, 3) := dk_154 0 5 (dk_at dksX2_higher_2 3 rfl rfl)
theorem dX2_higher_53 : decode cX2_higher 53 = .ok (.iconst (-1), 1) := dk_2 (dk_at dksX2_higher_2 6 rfl rfl)
theorem dX2_higher_54 : decode cX2_higher 54 = .ok (.ireturn, 1) := dk_172 (dk_at dksX2_higher_2 7 rfl rfl)
theorem dX2_higher_55 : decode cX2_higher 55 = .ok (.aload_n 0, 1) := dk_42 (dk_at dksX2_higher_2 8 rfl rfl)
theorem dX2_higher_56 : decode cX2_higher 56 = .ok (.iload_n 1, 1) := dk_27 (dk_at dksX2_higher_2 9 rfl rfl)
theorem dX2_higher_57 : decode cX2_higher 57 = .ok (.iload_n 2, 1) := dk_28 (dk_at dksX2_higher_2 10 rfl rfl)
theorem dX2_higher_58 : decode cX2_higher 58 = .ok (.iload_n 3, 1) := dk_29 (dk_at dksX2_higher_2 11 rfl rfl)
theorem dX2_higher_59 : decode cX2_higher 59 = .ok (.iload 4, 2) := dk_21 4 (dk_at dksX2_higher_2 12 rfl rfl)
theorem dX2_higher_61 : decode cX2_higher 61 = .ok (.invokevirtual 310, 3) := dk_182 1 54 (dk_at dksX2_higher_2 14 rfl rfl)
theorem dX2_higher_64 : decode cX2_higher 64 = .ok (.ireturn, 1) := dk_172 (dk_at dksX2_higher_2 17 rfl rfl)
abbrev cX2_isCourse : ByteArray := prog_26_method_43_code
def yX2_isCourse : MethodName := ⟨RX2, "isCourse", "(I)Z"⟩
def dkwX2_isCourse_0 : List UInt8 := [27, 133, 9, 20, 1, 49, 184, 0, 183, 172]
abbrev dktX2_isCourse_0 : List UInt8 := dkwX2_isCourse_0 ++ []
theorem dksX2_isCourse_0 : cX2_isCourse.data.toList.drop 0 = dktX2_isCourse_0 := by decide +kernel
theorem dX2_isCourse_0 : decode cX2_isCourse 0 = .ok (.iload_n 1, 1) := dk_27 (dk_at dksX2_isCourse_0 0 rfl rfl)
theorem dX2_isCourse_1 : decode cX2_isCourse 1 = .ok (.i2l, 1) := dk_133 (dk_at dksX2_isCourse_0 1 rfl rfl)
theorem dX2_isCourse_2 : decode cX2_isCourse 2 = .ok (.lconst 0, 1) := dk_9 (dk_at dksX2_isCourse_0 2 rfl rfl)
theorem dX2_isCourse_3 : decode cX2_isCourse 3 = .ok (.ldc2_w 305, 3) := dk_20 1 49 (dk_at dksX2_isCourse_0 3 rfl rfl)
theorem dX2_isCourse_6 : decode cX2_isCourse 6 = .ok (.invokestatic 183, 3) := dk_184 0 183 (dk_at dksX2_isCourse_0 6 rfl rfl)
theorem dX2_isCourse_9 : decode cX2_isCourse 9 = .ok (.ireturn, 1) := dk_172 (dk_at dksX2_isCourse_0 9 rfl rfl)
abbrev cX2_high : ByteArray := prog_26_method_41_code
def yX2_high : MethodName := ⟨RX2, "high", "(IIII)I"⟩
def dkwX2_high_5 : List UInt8 := [112, 21, 4, 28, 96, 21, 5, 112, 162, 0, 7, 4, 167, 0, 4, 5, 172]
abbrev dktX2_high_5 : List UInt8 := dkwX2_high_5 ++ []
def dkwX2_high_4 : List UInt8 := [160, 0, 7, 3, 167, 0, 14, 29, 21, 4, 162, 0, 7, 4, 167, 0, 4, 5, 172, 29, 28, 96, 21, 5]
abbrev dktX2_high_4 : List UInt8 := dkwX2_high_4 ++ dktX2_high_5
def dkwX2_high_3 : List UInt8 := [167, 0, 14, 29, 21, 4, 162, 0, 7, 4, 167, 0, 4, 5, 172, 2, 172, 29, 5, 108, 21, 4, 5, 108]
abbrev dktX2_high_3 : List UInt8 := dkwX2_high_3 ++ dktX2_high_4
def dkwX2_high_2 : List UInt8 := [29, 21, 4, 162, 0, 7, 4, 167, 0, 4, 5, 172, 29, 5, 108, 21, 4, 5, 108, 160, 0, 7, 2]
abbrev dktX2_high_2 : List UInt8 := dkwX2_high_2 ++ dktX2_high_3
def dkwX2_high_1 : List UInt8 := [170, 0, 0, 0, 0, 96, 0, 0, 0, 0, 0, 0, 0, 3, 0, 0, 0, 30, 0, 0, 0, 42, 0, 0, 0, 68, 0, 0, 0, 70]
abbrev dktX2_high_1 : List UInt8 := dkwX2_high_1 ++ dktX2_high_2
def dkwX2_high_0 : List UInt8 := [29, 21, 4, 160, 0, 5, 3, 172, 42, 180, 0, 96, 27, 46, 54, 5, 42, 180, 0, 93, 27, 46]
abbrev dktX2_high_0 : List UInt8 := dkwX2_high_0 ++ dktX2_high_1
theorem dksX2_high_0 : cX2_high.data.toList.drop 0 = dktX2_high_0 := by decide +kernel
theorem dksX2_high_1 : cX2_high.data.toList.drop 22 = dktX2_high_1 := dk_seg dksX2_high_0 22 rfl rfl
theorem dksX2_high_2 : cX2_high.data.toList.drop 52 = dktX2_high_2 := dk_seg dksX2_high_1 30 rfl rfl
theorem dksX2_high_3 : cX2_high.data.toList.drop 75 = dktX2_high_3 := dk_seg dksX2_high_2 23 rfl rfl
theorem dksX2_high_4 : cX2_high.data.toList.drop 99 = dktX2_high_4 := dk_seg dksX2_high_3 24 rfl rfl
theorem dksX2_high_5 : cX2_high.data.toList.drop 123 = dktX2_high_5 := dk_seg dksX2_high_4 24 rfl rfl
theorem dX2_high_0 : decode cX2_high 0 = .ok (.iload_n 3, 1) := dk_29 (dk_at dksX2_high_0 0 rfl rfl)
theorem dX2_high_1 : decode cX2_high 1 = .ok (.iload 4, 2) := dk_21 4 (dk_at dksX2_high_0 1 rfl rfl)
theorem dX2_high_3 : decode cX2_high 3 = .ok (.if_icmp .ne 5, 3) := dk_160 0 5 (dk_at dksX2_high_0 3 rfl rfl)
theorem dX2_high_6 : decode cX2_high 6 = .ok (.iconst 0, 1) := dk_3 (dk_at dksX2_high_0 6 rfl rfl)
theorem dX2_high_7 : decode cX2_high 7 = .ok (.ireturn, 1) := dk_172 (dk_at dksX2_high_0 7 rfl rfl)
theorem dX2_high_8 : decode cX2_high 8 = .ok (.aload_n 0, 1) := dk_42 (dk_at dksX2_high_0 8 rfl rfl)
theorem dX2_high_9 : decode cX2_high 9 = .ok (.getfield 96, 3) := dk_180 0 96 (dk_at dksX2_high_0 9 rfl rfl)
theorem dX2_high_12 : decode cX2_high 12 = .ok (.iload_n 1, 1) := dk_27 (dk_at dksX2_high_0 12 rfl rfl)
theorem dX2_high_13 : decode cX2_high 13 = .ok (.iaload, 1) := dk_46 (dk_at dksX2_high_0 13 rfl rfl)
theorem dX2_high_14 : decode cX2_high 14 = .ok (.istore 5, 2) := dk_54 5 (dk_at dksX2_high_0 14 rfl rfl)
theorem dX2_high_16 : decode cX2_high 16 = .ok (.aload_n 0, 1) := dk_42 (dk_at dksX2_high_0 16 rfl rfl)
theorem dX2_high_17 : decode cX2_high 17 = .ok (.getfield 93, 3) := dk_180 0 93 (dk_at dksX2_high_0 17 rfl rfl)
theorem dX2_high_20 : decode cX2_high 20 = .ok (.iload_n 1, 1) := dk_27 (dk_at dksX2_high_0 20 rfl rfl)
theorem dX2_high_21 : decode cX2_high 21 = .ok (.iaload, 1) := dk_46 (dk_at dksX2_high_0 21 rfl rfl)
theorem dX2_high_22 : decode cX2_high 22 = .ok (.tableswitch 96 0 3 #[30, 42, 68, 70], 30) := by decide +kernel
theorem dX2_high_52 : decode cX2_high 52 = .ok (.iload_n 3, 1) := dk_29 (dk_at dksX2_high_2 0 rfl rfl)
theorem dX2_high_53 : decode cX2_high 53 = .ok (.iload 4, 2) := dk_21 4 (dk_at dksX2_high_2 1 rfl rfl)
theorem dX2_high_55 : decode cX2_high 55 = .ok (.if_icmp .ge 7, 3) := dk_162 0 7 (dk_at dksX2_high_2 3 rfl rfl)
theorem dX2_high_58 : decode cX2_high 58 = .ok (.iconst 1, 1) := dk_4 (dk_at dksX2_high_2 6 rfl rfl)
theorem dX2_high_59 : decode cX2_high 59 = .ok (.goto 4, 3) := dk_167 0 4 (dk_at dksX2_high_2 7 rfl rfl)
theorem dX2_high_62 : decode cX2_high 62 = .ok (.iconst 2, 1) := dk_5 (dk_at dksX2_high_2 10 rfl rfl)
theorem dX2_high_63 : decode cX2_high 63 = .ok (.ireturn, 1) := dk_172 (dk_at dksX2_high_2 11 rfl rfl)
theorem dX2_high_64 : decode cX2_high 64 = .ok (.iload_n 3, 1) := dk_29 (dk_at dksX2_high_2 12 rfl rfl)
theorem dX2_high_65 : decode cX2_high 65 = .ok (.iconst 2, 1) := dk_5 (dk_at dksX2_high_2 13 rfl rfl)
theorem dX2_high_66 : decode cX2_high 66 = .ok (.idiv, 1) := dk_108 (dk_at dksX2_high_2 14 rfl rfl)
theorem dX2_high_67 : decode cX2_high 67 = .ok (.iload 4, 2) := dk_21 4 (dk_at dksX2_high_2 15 rfl rfl)
theorem dX2_high_69 : decode cX2_high 69 = .ok (.iconst 2, 1) := dk_5 (dk_at dksX2_high_2 17 rfl rfl)
theorem dX2_high_70 : decode cX2_high 70 = .ok (.idiv, 1) := dk_108 (dk_at dksX2_high_2 18 rfl rfl)
theorem dX2_high_71 : decode cX2_high 71 = .ok (.if_icmp .ne 7, 3) := dk_160 0 7 (dk_at dksX2_high_2 19 rfl rfl)
theorem dX2_high_74 : decode cX2_high 74 = .ok (.iconst (-1), 1) := dk_2 (dk_at dksX2_high_2 22 rfl rfl)
theorem dX2_high_75 : decode cX2_high 75 = .ok (.goto 14, 3) := dk_167 0 14 (dk_at dksX2_high_3 0 rfl rfl)
theorem dX2_high_78 : decode cX2_high 78 = .ok (.iload_n 3, 1) := dk_29 (dk_at dksX2_high_3 3 rfl rfl)
theorem dX2_high_79 : decode cX2_high 79 = .ok (.iload 4, 2) := dk_21 4 (dk_at dksX2_high_3 4 rfl rfl)
theorem dX2_high_81 : decode cX2_high 81 = .ok (.if_icmp .ge 7, 3) := dk_162 0 7 (dk_at dksX2_high_3 6 rfl rfl)
theorem dX2_high_84 : decode cX2_high 84 = .ok (.iconst 1, 1) := dk_4 (dk_at dksX2_high_3 9 rfl rfl)
theorem dX2_high_85 : decode cX2_high 85 = .ok (.goto 4, 3) := dk_167 0 4 (dk_at dksX2_high_3 10 rfl rfl)
theorem dX2_high_88 : decode cX2_high 88 = .ok (.iconst 2, 1) := dk_5 (dk_at dksX2_high_3 13 rfl rfl)
theorem dX2_high_89 : decode cX2_high 89 = .ok (.ireturn, 1) := dk_172 (dk_at dksX2_high_3 14 rfl rfl)
theorem dX2_high_90 : decode cX2_high 90 = .ok (.iconst (-1), 1) := dk_2 (dk_at dksX2_high_3 15 rfl rfl)
theorem dX2_high_91 : decode cX2_high 91 = .ok (.ireturn, 1) := dk_172 (dk_at dksX2_high_3 16 rfl rfl)
theorem dX2_high_92 : decode cX2_high 92 = .ok (.iload_n 3, 1) := dk_29 (dk_at dksX2_high_3 17 rfl rfl)
theorem dX2_high_93 : decode cX2_high 93 = .ok (.iconst 2, 1) := dk_5 (dk_at dksX2_high_3 18 rfl rfl)
theorem dX2_high_94 : decode cX2_high 94 = .ok (.idiv, 1) := dk_108 (dk_at dksX2_high_3 19 rfl rfl)
theorem dX2_high_95 : decode cX2_high 95 = .ok (.iload 4, 2) := dk_21 4 (dk_at dksX2_high_3 20 rfl rfl)
theorem dX2_high_97 : decode cX2_high 97 = .ok (.iconst 2, 1) := dk_5 (dk_at dksX2_high_3 22 rfl rfl)
theorem dX2_high_98 : decode cX2_high 98 = .ok (.idiv, 1) := dk_108 (dk_at dksX2_high_3 23 rfl rfl)
theorem dX2_high_99 : decode cX2_high 99 = .ok (.if_icmp .ne 7, 3) := dk_160 0 7 (dk_at dksX2_high_4 0 rfl rfl)
theorem dX2_high_102 : decode cX2_high 102 = .ok (.iconst 0, 1) := dk_3 (dk_at dksX2_high_4 3 rfl rfl)
theorem dX2_high_103 : decode cX2_high 103 = .ok (.goto 14, 3) := dk_167 0 14 (dk_at dksX2_high_4 4 rfl rfl)
theorem dX2_high_106 : decode cX2_high 106 = .ok (.iload_n 3, 1) := dk_29 (dk_at dksX2_high_4 7 rfl rfl)
theorem dX2_high_107 : decode cX2_high 107 = .ok (.iload 4, 2) := dk_21 4 (dk_at dksX2_high_4 8 rfl rfl)
theorem dX2_high_109 : decode cX2_high 109 = .ok (.if_icmp .ge 7, 3) := dk_162 0 7 (dk_at dksX2_high_4 10 rfl rfl)
theorem dX2_high_112 : decode cX2_high 112 = .ok (.iconst 1, 1) := dk_4 (dk_at dksX2_high_4 13 rfl rfl)
theorem dX2_high_113 : decode cX2_high 113 = .ok (.goto 4, 3) := dk_167 0 4 (dk_at dksX2_high_4 14 rfl rfl)
theorem dX2_high_116 : decode cX2_high 116 = .ok (.iconst 2, 1) := dk_5 (dk_at dksX2_high_4 17 rfl rfl)
theorem dX2_high_117 : decode cX2_high 117 = .ok (.ireturn, 1) := dk_172 (dk_at dksX2_high_4 18 rfl rfl)
theorem dX2_high_118 : decode cX2_high 118 = .ok (.iload_n 3, 1) := dk_29 (dk_at dksX2_high_4 19 rfl rfl)
theorem dX2_high_119 : decode cX2_high 119 = .ok (.iload_n 2, 1) := dk_28 (dk_at dksX2_high_4 20 rfl rfl)
theorem dX2_high_120 : decode cX2_high 120 = .ok (.iadd, 1) := dk_96 (dk_at dksX2_high_4 21 rfl rfl)
theorem dX2_high_121 : decode cX2_high 121 = .ok (.iload 5, 2) := dk_21 5 (dk_at dksX2_high_4 22 rfl rfl)
theorem dX2_high_123 : decode cX2_high 123 = .ok (.irem, 1) := dk_112 (dk_at dksX2_high_5 0 rfl rfl)
theorem dX2_high_124 : decode cX2_high 124 = .ok (.iload 4, 2) := dk_21 4 (dk_at dksX2_high_5 1 rfl rfl)
theorem dX2_high_126 : decode cX2_high 126 = .ok (.iload_n 2, 1) := dk_28 (dk_at dksX2_high_5 3 rfl rfl)
theorem dX2_high_127 : decode cX2_high 127 = .ok (.iadd, 1) := dk_96 (dk_at dksX2_high_5 4 rfl rfl)
theorem dX2_high_128 : decode cX2_high 128 = .ok (.iload 5, 2) := dk_21 5 (dk_at dksX2_high_5 5 rfl rfl)
theorem dX2_high_130 : decode cX2_high 130 = .ok (.irem, 1) := dk_112 (dk_at dksX2_high_5 7 rfl rfl)
theorem dX2_high_131 : decode cX2_high 131 = .ok (.if_icmp .ge 7, 3) := dk_162 0 7 (dk_at dksX2_high_5 8 rfl rfl)
theorem dX2_high_134 : decode cX2_high 134 = .ok (.iconst 1, 1) := dk_4 (dk_at dksX2_high_5 11 rfl rfl)
theorem dX2_high_135 : decode cX2_high 135 = .ok (.goto 4, 3) := dk_167 0 4 (dk_at dksX2_high_5 12 rfl rfl)
theorem dX2_high_138 : decode cX2_high 138 = .ok (.iconst 2, 1) := dk_5 (dk_at dksX2_high_5 15 rfl rfl)
theorem dX2_high_139 : decode cX2_high 139 = .ok (.ireturn, 1) := dk_172 (dk_at dksX2_high_5 16 rfl rfl)
abbrev cX2_slights : ByteArray := prog_26_method_47_code
def yX2_slights : MethodName := ⟨RX2, "slights", "(III)I"⟩
def dkwX2_slights_5 : List UInt8 := [180, 1, 61, 167, 0, 5, 21, 5, 172]
abbrev dktX2_slights_5 : List UInt8 := dkwX2_slights_5 ++ []
def dkwX2_slights_4 : List UInt8 := [54, 5, 132, 6, 1, 167, 255, 204, 29, 154, 0, 8, 21, 4, 167, 0, 17, 29, 4, 160, 0, 10, 42]
abbrev dktX2_slights_4 : List UInt8 := dkwX2_slights_4 ++ dktX2_slights_5
def dkwX2_slights_3 : List UInt8 := [46, 96, 54, 4, 21, 5, 42, 180, 0, 35, 3, 50, 42, 180, 0, 99, 21, 6, 46, 46, 184, 1, 78]
abbrev dktX2_slights_3 : List UInt8 := dkwX2_slights_3 ++ dktX2_slights_4
def dkwX2_slights_2 : List UInt8 := [21, 6, 42, 180, 1, 61, 162, 0, 49, 21, 4, 42, 180, 0, 35, 3, 50, 42, 180, 0, 99, 21, 6, 46]
abbrev dktX2_slights_2 : List UInt8 := dkwX2_slights_2 ++ dktX2_slights_3
def dkwX2_slights_1 : List UInt8 := [184, 0, 183, 154, 0, 5, 2, 172, 42, 27, 28, 3, 182, 1, 74, 3, 54, 4, 3, 54, 5, 3, 54, 6]
abbrev dktX2_slights_1 : List UInt8 := dkwX2_slights_1 ++ dktX2_slights_2
def dkwX2_slights_0 : List UInt8 := [42, 27, 182, 1, 41, 153, 0, 23, 42, 28, 182, 1, 51, 153, 0, 15, 29, 133, 9, 20, 1, 72]
abbrev dktX2_slights_0 : List UInt8 := dkwX2_slights_0 ++ dktX2_slights_1
theorem dksX2_slights_0 : cX2_slights.data.toList.drop 0 = dktX2_slights_0 := by decide +kernel
theorem dksX2_slights_1 : cX2_slights.data.toList.drop 22 = dktX2_slights_1 := dk_seg dksX2_slights_0 22 rfl rfl
theorem dksX2_slights_2 : cX2_slights.data.toList.drop 46 = dktX2_slights_2 := dk_seg dksX2_slights_1 24 rfl rfl
theorem dksX2_slights_3 : cX2_slights.data.toList.drop 70 = dktX2_slights_3 := dk_seg dksX2_slights_2 24 rfl rfl
theorem dksX2_slights_4 : cX2_slights.data.toList.drop 93 = dktX2_slights_4 := dk_seg dksX2_slights_3 23 rfl rfl
theorem dksX2_slights_5 : cX2_slights.data.toList.drop 116 = dktX2_slights_5 := dk_seg dksX2_slights_4 23 rfl rfl
theorem dX2_slights_0 : decode cX2_slights 0 = .ok (.aload_n 0, 1) := dk_42 (dk_at dksX2_slights_0 0 rfl rfl)
theorem dX2_slights_1 : decode cX2_slights 1 = .ok (.iload_n 1, 1) := dk_27 (dk_at dksX2_slights_0 1 rfl rfl)
theorem dX2_slights_2 : decode cX2_slights 2 = .ok (.invokevirtual 297, 3) := dk_182 1 41 (dk_at dksX2_slights_0 2 rfl rfl)
theorem dX2_slights_5 : decode cX2_slights 5 = .ok (.ifCond .eq 23, 3) := dk_153 0 23 (dk_at dksX2_slights_0 5 rfl rfl)
theorem dX2_slights_8 : decode cX2_slights 8 = .ok (.aload_n 0, 1) := dk_42 (dk_at dksX2_slights_0 8 rfl rfl)
theorem dX2_slights_9 : decode cX2_slights 9 = .ok (.iload_n 2, 1) := dk_28 (dk_at dksX2_slights_0 9 rfl rfl)
theorem dX2_slights_10 : decode cX2_slights 10 = .ok (.invokevirtual 307, 3) := dk_182 1 51 (dk_at dksX2_slights_0 10 rfl rfl)
theorem dX2_slights_13 : decode cX2_slights 13 = .ok (.ifCond .eq 15, 3) := dk_153 0 15 (dk_at dksX2_slights_0 13 rfl rfl)
theorem dX2_slights_16 : decode cX2_slights 16 = .ok (.iload_n 3, 1) := dk_29 (dk_at dksX2_slights_0 16 rfl rfl)
theorem dX2_slights_17 : decode cX2_slights 17 = .ok (.i2l, 1) := dk_133 (dk_at dksX2_slights_0 17 rfl rfl)
theorem dX2_slights_18 : decode cX2_slights 18 = .ok (.lconst 0, 1) := dk_9 (dk_at dksX2_slights_0 18 rfl rfl)
theorem dX2_slights_19 : decode cX2_slights 19 = .ok (.ldc2_w 328, 3) := dk_20 1 72 (dk_at dksX2_slights_0 19 rfl rfl)
theorem dX2_slights_22 : decode cX2_slights 22 = .ok (.invokestatic 183, 3) := dk_184 0 183 (dk_at dksX2_slights_1 0 rfl rfl)
theorem dX2_slights_25 : decode cX2_slights 25 = .ok (.ifCond .ne 5, 3) := dk_154 0 5 (dk_at dksX2_slights_1 3 rfl rfl)
theorem dX2_slights_28 : decode cX2_slights 28 = .ok (.iconst (-1), 1) := dk_2 (dk_at dksX2_slights_1 6 rfl rfl)
theorem dX2_slights_29 : decode cX2_slights 29 = .ok (.ireturn, 1) := dk_172 (dk_at dksX2_slights_1 7 rfl rfl)
theorem dX2_slights_30 : decode cX2_slights 30 = .ok (.aload_n 0, 1) := dk_42 (dk_at dksX2_slights_1 8 rfl rfl)
theorem dX2_slights_31 : decode cX2_slights 31 = .ok (.iload_n 1, 1) := dk_27 (dk_at dksX2_slights_1 9 rfl rfl)
theorem dX2_slights_32 : decode cX2_slights 32 = .ok (.iload_n 2, 1) := dk_28 (dk_at dksX2_slights_1 10 rfl rfl)
theorem dX2_slights_33 : decode cX2_slights 33 = .ok (.iconst 0, 1) := dk_3 (dk_at dksX2_slights_1 11 rfl rfl)
theorem dX2_slights_34 : decode cX2_slights 34 = .ok (.invokevirtual 330, 3) := dk_182 1 74 (dk_at dksX2_slights_1 12 rfl rfl)
theorem dX2_slights_37 : decode cX2_slights 37 = .ok (.iconst 0, 1) := dk_3 (dk_at dksX2_slights_1 15 rfl rfl)
theorem dX2_slights_38 : decode cX2_slights 38 = .ok (.istore 4, 2) := dk_54 4 (dk_at dksX2_slights_1 16 rfl rfl)
theorem dX2_slights_40 : decode cX2_slights 40 = .ok (.iconst 0, 1) := dk_3 (dk_at dksX2_slights_1 18 rfl rfl)
theorem dX2_slights_41 : decode cX2_slights 41 = .ok (.istore 5, 2) := dk_54 5 (dk_at dksX2_slights_1 19 rfl rfl)
theorem dX2_slights_43 : decode cX2_slights 43 = .ok (.iconst 0, 1) := dk_3 (dk_at dksX2_slights_1 21 rfl rfl)
theorem dX2_slights_44 : decode cX2_slights 44 = .ok (.istore 6, 2) := dk_54 6 (dk_at dksX2_slights_1 22 rfl rfl)
theorem dX2_slights_46 : decode cX2_slights 46 = .ok (.iload 6, 2) := dk_21 6 (dk_at dksX2_slights_2 0 rfl rfl)
theorem dX2_slights_48 : decode cX2_slights 48 = .ok (.aload_n 0, 1) := dk_42 (dk_at dksX2_slights_2 2 rfl rfl)
theorem dX2_slights_49 : decode cX2_slights 49 = .ok (.getfield 317, 3) := dk_180 1 61 (dk_at dksX2_slights_2 3 rfl rfl)
theorem dX2_slights_52 : decode cX2_slights 52 = .ok (.if_icmp .ge 49, 3) := dk_162 0 49 (dk_at dksX2_slights_2 6 rfl rfl)
theorem dX2_slights_55 : decode cX2_slights 55 = .ok (.iload 4, 2) := dk_21 4 (dk_at dksX2_slights_2 9 rfl rfl)
theorem dX2_slights_57 : decode cX2_slights 57 = .ok (.aload_n 0, 1) := dk_42 (dk_at dksX2_slights_2 11 rfl rfl)
theorem dX2_slights_58 : decode cX2_slights 58 = .ok (.getfield 35, 3) := dk_180 0 35 (dk_at dksX2_slights_2 12 rfl rfl)
theorem dX2_slights_61 : decode cX2_slights 61 = .ok (.iconst 0, 1) := dk_3 (dk_at dksX2_slights_2 15 rfl rfl)
theorem dX2_slights_62 : decode cX2_slights 62 = .ok (.aaload, 1) := dk_50 (dk_at dksX2_slights_2 16 rfl rfl)
theorem dX2_slights_63 : decode cX2_slights 63 = .ok (.aload_n 0, 1) := dk_42 (dk_at dksX2_slights_2 17 rfl rfl)
theorem dX2_slights_64 : decode cX2_slights 64 = .ok (.getfield 99, 3) := dk_180 0 99 (dk_at dksX2_slights_2 18 rfl rfl)
theorem dX2_slights_67 : decode cX2_slights 67 = .ok (.iload 6, 2) := dk_21 6 (dk_at dksX2_slights_2 21 rfl rfl)
theorem dX2_slights_69 : decode cX2_slights 69 = .ok (.iaload, 1) := dk_46 (dk_at dksX2_slights_2 23 rfl rfl)
theorem dX2_slights_70 : decode cX2_slights 70 = .ok (.iaload, 1) := dk_46 (dk_at dksX2_slights_3 0 rfl rfl)
theorem dX2_slights_71 : decode cX2_slights 71 = .ok (.iadd, 1) := dk_96 (dk_at dksX2_slights_3 1 rfl rfl)
theorem dX2_slights_72 : decode cX2_slights 72 = .ok (.istore 4, 2) := dk_54 4 (dk_at dksX2_slights_3 2 rfl rfl)
theorem dX2_slights_74 : decode cX2_slights 74 = .ok (.iload 5, 2) := dk_21 5 (dk_at dksX2_slights_3 4 rfl rfl)
theorem dX2_slights_76 : decode cX2_slights 76 = .ok (.aload_n 0, 1) := dk_42 (dk_at dksX2_slights_3 6 rfl rfl)
theorem dX2_slights_77 : decode cX2_slights 77 = .ok (.getfield 35, 3) := dk_180 0 35 (dk_at dksX2_slights_3 7 rfl rfl)
theorem dX2_slights_80 : decode cX2_slights 80 = .ok (.iconst 0, 1) := dk_3 (dk_at dksX2_slights_3 10 rfl rfl)
theorem dX2_slights_81 : decode cX2_slights 81 = .ok (.aaload, 1) := dk_50 (dk_at dksX2_slights_3 11 rfl rfl)
theorem dX2_slights_82 : decode cX2_slights 82 = .ok (.aload_n 0, 1) := dk_42 (dk_at dksX2_slights_3 12 rfl rfl)
theorem dX2_slights_83 : decode cX2_slights 83 = .ok (.getfield 99, 3) := dk_180 0 99 (dk_at dksX2_slights_3 13 rfl rfl)
theorem dX2_slights_86 : decode cX2_slights 86 = .ok (.iload 6, 2) := dk_21 6 (dk_at dksX2_slights_3 16 rfl rfl)
theorem dX2_slights_88 : decode cX2_slights 88 = .ok (.iaload, 1) := dk_46 (dk_at dksX2_slights_3 18 rfl rfl)
theorem dX2_slights_89 : decode cX2_slights 89 = .ok (.iaload, 1) := dk_46 (dk_at dksX2_slights_3 19 rfl rfl)
theorem dX2_slights_90 : decode cX2_slights 90 = .ok (.invokestatic 334, 3) := dk_184 1 78 (dk_at dksX2_slights_3 20 rfl rfl)
theorem dX2_slights_93 : decode cX2_slights 93 = .ok (.istore 5, 2) := dk_54 5 (dk_at dksX2_slights_4 0 rfl rfl)
theorem dX2_slights_95 : decode cX2_slights 95 = .ok (.iinc 6 1, 3) := dk_132 6 1 (dk_at dksX2_slights_4 2 rfl rfl)
theorem dX2_slights_98 : decode cX2_slights 98 = .ok (.goto (-52), 3) := dk_167 255 204 (dk_at dksX2_slights_4 5 rfl rfl)
theorem dX2_slights_101 : decode cX2_slights 101 = .ok (.iload_n 3, 1) := dk_29 (dk_at dksX2_slights_4 8 rfl rfl)
theorem dX2_slights_102 : decode cX2_slights 102 = .ok (.ifCond .ne 8, 3) := dk_154 0 8 (dk_at dksX2_slights_4 9 rfl rfl)
theorem dX2_slights_105 : decode cX2_slights 105 = .ok (.iload 4, 2) := dk_21 4 (dk_at dksX2_slights_4 12 rfl rfl)
theorem dX2_slights_107 : decode cX2_slights 107 = .ok (.goto 17, 3) := dk_167 0 17 (dk_at dksX2_slights_4 14 rfl rfl)
theorem dX2_slights_110 : decode cX2_slights 110 = .ok (.iload_n 3, 1) := dk_29 (dk_at dksX2_slights_4 17 rfl rfl)
theorem dX2_slights_111 : decode cX2_slights 111 = .ok (.iconst 1, 1) := dk_4 (dk_at dksX2_slights_4 18 rfl rfl)
theorem dX2_slights_112 : decode cX2_slights 112 = .ok (.if_icmp .ne 10, 3) := dk_160 0 10 (dk_at dksX2_slights_4 19 rfl rfl)
theorem dX2_slights_115 : decode cX2_slights 115 = .ok (.aload_n 0, 1) := dk_42 (dk_at dksX2_slights_4 22 rfl rfl)
theorem dX2_slights_116 : decode cX2_slights 116 = .ok (.getfield 317, 3) := dk_180 1 61 (dk_at dksX2_slights_5 0 rfl rfl)
theorem dX2_slights_119 : decode cX2_slights 119 = .ok (.goto 5, 3) := dk_167 0 5 (dk_at dksX2_slights_5 3 rfl rfl)
theorem dX2_slights_122 : decode cX2_slights 122 = .ok (.iload 5, 2) := dk_21 5 (dk_at dksX2_slights_5 6 rfl rfl)
theorem dX2_slights_124 : decode cX2_slights 124 = .ok (.ireturn, 1) := dk_172 (dk_at dksX2_slights_5 8 rfl rfl)
abbrev cX2_finds : ByteArray := prog_26_method_46_code
def yX2_finds : MethodName := ⟨RX2, "finds", "(III)V"⟩
def dkwX2_finds_12 : List UInt8 := [132, 7, 1, 167, 255, 58, 132, 6, 1, 167, 255, 19, 132, 5, 1, 167, 254, 255, 177]
abbrev dktX2_finds_12 : List UInt8 := dkwX2_finds_12 ++ []
def dkwX2_finds_11 : List UInt8 := [21, 8, 5, 126, 153, 0, 15, 42, 180, 0, 35, 3, 50, 21, 5, 46, 167, 0, 4, 3, 96, 79]
abbrev dktX2_finds_11 : List UInt8 := dkwX2_finds_11 ++ dktX2_finds_12
def dkwX2_finds_10 : List UInt8 := [42, 180, 0, 35, 3, 50, 21, 5, 46, 167, 0, 4, 3, 96, 79, 42, 180, 0, 108, 21, 7, 92, 46]
abbrev dktX2_finds_10 : List UInt8 := dkwX2_finds_10 ++ dktX2_finds_11
def dkwX2_finds_9 : List UInt8 := [89, 180, 1, 61, 4, 96, 181, 1, 61, 42, 180, 0, 108, 21, 6, 92, 46, 21, 8, 4, 126, 153, 0, 15]
abbrev dktX2_finds_9 : List UInt8 := dkwX2_finds_9 ++ dktX2_finds_10
def dkwX2_finds_8 : List UInt8 := [79, 42, 180, 0, 102, 42, 180, 1, 61, 21, 6, 79, 42, 180, 0, 105, 42, 180, 1, 61, 21, 7, 79, 42]
abbrev dktX2_finds_8 : List UInt8 := dkwX2_finds_8 ++ dktX2_finds_9
def dkwX2_finds_7 : List UInt8 := [112, 182, 1, 68, 54, 8, 21, 8, 154, 0, 6, 167, 0, 106, 42, 180, 0, 99, 42, 180, 1, 61, 21, 5]
abbrev dktX2_finds_7 : List UInt8 := dkwX2_finds_7 ++ dktX2_finds_8
def dkwX2_finds_6 : List UInt8 := [28, 42, 180, 0, 90, 21, 6, 46, 29, 96, 21, 4, 112, 42, 180, 0, 90, 21, 7, 46, 29, 96, 21, 4]
abbrev dktX2_finds_6 : List UInt8 := dkwX2_finds_6 ++ dktX2_finds_7
def dkwX2_finds_5 : List UInt8 := [160, 0, 165, 42, 21, 5, 27, 21, 6, 21, 7, 182, 1, 64, 154, 0, 6, 167, 0, 148, 42, 21, 5, 27]
abbrev dktX2_finds_5 : List UInt8 := dkwX2_finds_5 ++ dktX2_finds_6
def dkwX2_finds_4 : List UInt8 := [162, 0, 193, 42, 180, 0, 87, 21, 6, 46, 27, 160, 0, 176, 42, 180, 0, 87, 21, 7, 46, 27]
abbrev dktX2_finds_4 : List UInt8 := dkwX2_finds_4 ++ dktX2_finds_5
def dkwX2_finds_3 : List UInt8 := [21, 5, 46, 154, 0, 7, 3, 167, 0, 7, 21, 6, 4, 96, 54, 7, 21, 7, 42, 180, 0, 44, 3, 46]
abbrev dktX2_finds_3 : List UInt8 := dkwX2_finds_3 ++ dktX2_finds_4
def dkwX2_finds_2 : List UInt8 := [162, 0, 252, 3, 54, 6, 21, 6, 42, 180, 0, 44, 3, 46, 162, 0, 232, 42, 180, 0, 26, 3, 50]
abbrev dktX2_finds_2 : List UInt8 := dkwX2_finds_2 ++ dktX2_finds_3
def dkwX2_finds_1 : List UInt8 := [180, 0, 108, 21, 5, 3, 79, 132, 5, 1, 167, 255, 238, 3, 54, 5, 21, 5, 42, 180, 0, 51, 3, 46]
abbrev dktX2_finds_1 : List UInt8 := dkwX2_finds_1 ++ dktX2_finds_2
def dkwX2_finds_0 : List UInt8 := [42, 180, 0, 96, 27, 46, 54, 4, 42, 3, 181, 1, 61, 3, 54, 5, 21, 5, 16, 10, 162, 0, 17, 42]
abbrev dktX2_finds_0 : List UInt8 := dkwX2_finds_0 ++ dktX2_finds_1
theorem dksX2_finds_0 : cX2_finds.data.toList.drop 0 = dktX2_finds_0 := by decide +kernel
theorem dksX2_finds_1 : cX2_finds.data.toList.drop 24 = dktX2_finds_1 := dk_seg dksX2_finds_0 24 rfl rfl
theorem dksX2_finds_2 : cX2_finds.data.toList.drop 48 = dktX2_finds_2 := dk_seg dksX2_finds_1 24 rfl rfl
theorem dksX2_finds_3 : cX2_finds.data.toList.drop 71 = dktX2_finds_3 := dk_seg dksX2_finds_2 23 rfl rfl
theorem dksX2_finds_4 : cX2_finds.data.toList.drop 95 = dktX2_finds_4 := dk_seg dksX2_finds_3 24 rfl rfl
theorem dksX2_finds_5 : cX2_finds.data.toList.drop 117 = dktX2_finds_5 := dk_seg dksX2_finds_4 22 rfl rfl
theorem dksX2_finds_6 : cX2_finds.data.toList.drop 141 = dktX2_finds_6 := dk_seg dksX2_finds_5 24 rfl rfl
theorem dksX2_finds_7 : cX2_finds.data.toList.drop 165 = dktX2_finds_7 := dk_seg dksX2_finds_6 24 rfl rfl
theorem dksX2_finds_8 : cX2_finds.data.toList.drop 189 = dktX2_finds_8 := dk_seg dksX2_finds_7 24 rfl rfl
theorem dksX2_finds_9 : cX2_finds.data.toList.drop 213 = dktX2_finds_9 := dk_seg dksX2_finds_8 24 rfl rfl
theorem dksX2_finds_10 : cX2_finds.data.toList.drop 237 = dktX2_finds_10 := dk_seg dksX2_finds_9 24 rfl rfl
theorem dksX2_finds_11 : cX2_finds.data.toList.drop 260 = dktX2_finds_11 := dk_seg dksX2_finds_10 23 rfl rfl
theorem dksX2_finds_12 : cX2_finds.data.toList.drop 282 = dktX2_finds_12 := dk_seg dksX2_finds_11 22 rfl rfl
theorem dX2_finds_0 : decode cX2_finds 0 = .ok (.aload_n 0, 1) := dk_42 (dk_at dksX2_finds_0 0 rfl rfl)
theorem dX2_finds_1 : decode cX2_finds 1 = .ok (.getfield 96, 3) := dk_180 0 96 (dk_at dksX2_finds_0 1 rfl rfl)
theorem dX2_finds_4 : decode cX2_finds 4 = .ok (.iload_n 1, 1) := dk_27 (dk_at dksX2_finds_0 4 rfl rfl)
theorem dX2_finds_5 : decode cX2_finds 5 = .ok (.iaload, 1) := dk_46 (dk_at dksX2_finds_0 5 rfl rfl)
theorem dX2_finds_6 : decode cX2_finds 6 = .ok (.istore 4, 2) := dk_54 4 (dk_at dksX2_finds_0 6 rfl rfl)
theorem dX2_finds_8 : decode cX2_finds 8 = .ok (.aload_n 0, 1) := dk_42 (dk_at dksX2_finds_0 8 rfl rfl)
theorem dX2_finds_9 : decode cX2_finds 9 = .ok (.iconst 0, 1) := dk_3 (dk_at dksX2_finds_0 9 rfl rfl)
theorem dX2_finds_10 : decode cX2_finds 10 = .ok (.putfield 317, 3) := dk_181 1 61 (dk_at dksX2_finds_0 10 rfl rfl)
theorem dX2_finds_13 : decode cX2_finds 13 = .ok (.iconst 0, 1) := dk_3 (dk_at dksX2_finds_0 13 rfl rfl)
theorem dX2_finds_14 : decode cX2_finds 14 = .ok (.istore 5, 2) := dk_54 5 (dk_at dksX2_finds_0 14 rfl rfl)
theorem dX2_finds_16 : decode cX2_finds 16 = .ok (.iload 5, 2) := dk_21 5 (dk_at dksX2_finds_0 16 rfl rfl)
theorem dX2_finds_18 : decode cX2_finds 18 = .ok (.bipush 10, 2) := dk_16 10 (dk_at dksX2_finds_0 18 rfl rfl)
theorem dX2_finds_20 : decode cX2_finds 20 = .ok (.if_icmp .ge 17, 3) := dk_162 0 17 (dk_at dksX2_finds_0 20 rfl rfl)
theorem dX2_finds_23 : decode cX2_finds 23 = .ok (.aload_n 0, 1) := dk_42 (dk_at dksX2_finds_0 23 rfl rfl)
theorem dX2_finds_24 : decode cX2_finds 24 = .ok (.getfield 108, 3) := dk_180 0 108 (dk_at dksX2_finds_1 0 rfl rfl)
theorem dX2_finds_27 : decode cX2_finds 27 = .ok (.iload 5, 2) := dk_21 5 (dk_at dksX2_finds_1 3 rfl rfl)
theorem dX2_finds_29 : decode cX2_finds 29 = .ok (.iconst 0, 1) := dk_3 (dk_at dksX2_finds_1 5 rfl rfl)
theorem dX2_finds_30 : decode cX2_finds 30 = .ok (.iastore, 1) := dk_79 (dk_at dksX2_finds_1 6 rfl rfl)
theorem dX2_finds_31 : decode cX2_finds 31 = .ok (.iinc 5 1, 3) := dk_132 5 1 (dk_at dksX2_finds_1 7 rfl rfl)
theorem dX2_finds_34 : decode cX2_finds 34 = .ok (.goto (-18), 3) := dk_167 255 238 (dk_at dksX2_finds_1 10 rfl rfl)
theorem dX2_finds_37 : decode cX2_finds 37 = .ok (.iconst 0, 1) := dk_3 (dk_at dksX2_finds_1 13 rfl rfl)
theorem dX2_finds_38 : decode cX2_finds 38 = .ok (.istore 5, 2) := dk_54 5 (dk_at dksX2_finds_1 14 rfl rfl)
theorem dX2_finds_40 : decode cX2_finds 40 = .ok (.iload 5, 2) := dk_21 5 (dk_at dksX2_finds_1 16 rfl rfl)
theorem dX2_finds_42 : decode cX2_finds 42 = .ok (.aload_n 0, 1) := dk_42 (dk_at dksX2_finds_1 18 rfl rfl)
theorem dX2_finds_43 : decode cX2_finds 43 = .ok (.getfield 51, 3) := dk_180 0 51 (dk_at dksX2_finds_1 19 rfl rfl)
theorem dX2_finds_46 : decode cX2_finds 46 = .ok (.iconst 0, 1) := dk_3 (dk_at dksX2_finds_1 22 rfl rfl)
theorem dX2_finds_47 : decode cX2_finds 47 = .ok (.iaload, 1) := dk_46 (dk_at dksX2_finds_1 23 rfl rfl)
theorem dX2_finds_48 : decode cX2_finds 48 = .ok (.if_icmp .ge 252, 3) := dk_162 0 252 (dk_at dksX2_finds_2 0 rfl rfl)
theorem dX2_finds_51 : decode cX2_finds 51 = .ok (.iconst 0, 1) := dk_3 (dk_at dksX2_finds_2 3 rfl rfl)
theorem dX2_finds_52 : decode cX2_finds 52 = .ok (.istore 6, 2) := dk_54 6 (dk_at dksX2_finds_2 4 rfl rfl)
theorem dX2_finds_54 : decode cX2_finds 54 = .ok (.iload 6, 2) := dk_21 6 (dk_at dksX2_finds_2 6 rfl rfl)
theorem dX2_finds_56 : decode cX2_finds 56 = .ok (.aload_n 0, 1) := dk_42 (dk_at dksX2_finds_2 8 rfl rfl)
theorem dX2_finds_57 : decode cX2_finds 57 = .ok (.getfield 44, 3) := dk_180 0 44 (dk_at dksX2_finds_2 9 rfl rfl)
theorem dX2_finds_60 : decode cX2_finds 60 = .ok (.iconst 0, 1) := dk_3 (dk_at dksX2_finds_2 12 rfl rfl)
theorem dX2_finds_61 : decode cX2_finds 61 = .ok (.iaload, 1) := dk_46 (dk_at dksX2_finds_2 13 rfl rfl)
theorem dX2_finds_62 : decode cX2_finds 62 = .ok (.if_icmp .ge 232, 3) := dk_162 0 232 (dk_at dksX2_finds_2 14 rfl rfl)
theorem dX2_finds_65 : decode cX2_finds 65 = .ok (.aload_n 0, 1) := dk_42 (dk_at dksX2_finds_2 17 rfl rfl)
theorem dX2_finds_66 : decode cX2_finds 66 = .ok (.getfield 26, 3) := dk_180 0 26 (dk_at dksX2_finds_2 18 rfl rfl)
theorem dX2_finds_69 : decode cX2_finds 69 = .ok (.iconst 0, 1) := dk_3 (dk_at dksX2_finds_2 21 rfl rfl)
theorem dX2_finds_70 : decode cX2_finds 70 = .ok (.aaload, 1) := dk_50 (dk_at dksX2_finds_2 22 rfl rfl)
theorem dX2_finds_71 : decode cX2_finds 71 = .ok (.iload 5, 2) := dk_21 5 (dk_at dksX2_finds_3 0 rfl rfl)
theorem dX2_finds_73 : decode cX2_finds 73 = .ok (.iaload, 1) := dk_46 (dk_at dksX2_finds_3 2 rfl rfl)
theorem dX2_finds_74 : decode cX2_finds 74 = .ok (.ifCond .ne 7, 3) := dk_154 0 7 (dk_at dksX2_finds_3 3 rfl rfl)
theorem dX2_finds_77 : decode cX2_finds 77 = .ok (.iconst 0, 1) := dk_3 (dk_at dksX2_finds_3 6 rfl rfl)
theorem dX2_finds_78 : decode cX2_finds 78 = .ok (.goto 7, 3) := dk_167 0 7 (dk_at dksX2_finds_3 7 rfl rfl)
theorem dX2_finds_81 : decode cX2_finds 81 = .ok (.iload 6, 2) := dk_21 6 (dk_at dksX2_finds_3 10 rfl rfl)
theorem dX2_finds_83 : decode cX2_finds 83 = .ok (.iconst 1, 1) := dk_4 (dk_at dksX2_finds_3 12 rfl rfl)
theorem dX2_finds_84 : decode cX2_finds 84 = .ok (.iadd, 1) := dk_96 (dk_at dksX2_finds_3 13 rfl rfl)
theorem dX2_finds_85 : decode cX2_finds 85 = .ok (.istore 7, 2) := dk_54 7 (dk_at dksX2_finds_3 14 rfl rfl)
theorem dX2_finds_87 : decode cX2_finds 87 = .ok (.iload 7, 2) := dk_21 7 (dk_at dksX2_finds_3 16 rfl rfl)
theorem dX2_finds_89 : decode cX2_finds 89 = .ok (.aload_n 0, 1) := dk_42 (dk_at dksX2_finds_3 18 rfl rfl)
theorem dX2_finds_90 : decode cX2_finds 90 = .ok (.getfield 44, 3) := dk_180 0 44 (dk_at dksX2_finds_3 19 rfl rfl)
theorem dX2_finds_93 : decode cX2_finds 93 = .ok (.iconst 0, 1) := dk_3 (dk_at dksX2_finds_3 22 rfl rfl)
theorem dX2_finds_94 : decode cX2_finds 94 = .ok (.iaload, 1) := dk_46 (dk_at dksX2_finds_3 23 rfl rfl)
theorem dX2_finds_95 : decode cX2_finds 95 = .ok (.if_icmp .ge 193, 3) := dk_162 0 193 (dk_at dksX2_finds_4 0 rfl rfl)
theorem dX2_finds_98 : decode cX2_finds 98 = .ok (.aload_n 0, 1) := dk_42 (dk_at dksX2_finds_4 3 rfl rfl)
theorem dX2_finds_99 : decode cX2_finds 99 = .ok (.getfield 87, 3) := dk_180 0 87 (dk_at dksX2_finds_4 4 rfl rfl)
theorem dX2_finds_102 : decode cX2_finds 102 = .ok (.iload 6, 2) := dk_21 6 (dk_at dksX2_finds_4 7 rfl rfl)
theorem dX2_finds_104 : decode cX2_finds 104 = .ok (.iaload, 1) := dk_46 (dk_at dksX2_finds_4 9 rfl rfl)
theorem dX2_finds_105 : decode cX2_finds 105 = .ok (.iload_n 1, 1) := dk_27 (dk_at dksX2_finds_4 10 rfl rfl)
theorem dX2_finds_106 : decode cX2_finds 106 = .ok (.if_icmp .ne 176, 3) := dk_160 0 176 (dk_at dksX2_finds_4 11 rfl rfl)
theorem dX2_finds_109 : decode cX2_finds 109 = .ok (.aload_n 0, 1) := dk_42 (dk_at dksX2_finds_4 14 rfl rfl)
theorem dX2_finds_110 : decode cX2_finds 110 = .ok (.getfield 87, 3) := dk_180 0 87 (dk_at dksX2_finds_4 15 rfl rfl)
theorem dX2_finds_113 : decode cX2_finds 113 = .ok (.iload 7, 2) := dk_21 7 (dk_at dksX2_finds_4 18 rfl rfl)
theorem dX2_finds_115 : decode cX2_finds 115 = .ok (.iaload, 1) := dk_46 (dk_at dksX2_finds_4 20 rfl rfl)
theorem dX2_finds_116 : decode cX2_finds 116 = .ok (.iload_n 1, 1) := dk_27 (dk_at dksX2_finds_4 21 rfl rfl)
theorem dX2_finds_117 : decode cX2_finds 117 = .ok (.if_icmp .ne 165, 3) := dk_160 0 165 (dk_at dksX2_finds_5 0 rfl rfl)
theorem dX2_finds_120 : decode cX2_finds 120 = .ok (.aload_n 0, 1) := dk_42 (dk_at dksX2_finds_5 3 rfl rfl)
theorem dX2_finds_121 : decode cX2_finds 121 = .ok (.iload 5, 2) := dk_21 5 (dk_at dksX2_finds_5 4 rfl rfl)
theorem dX2_finds_123 : decode cX2_finds 123 = .ok (.iload_n 1, 1) := dk_27 (dk_at dksX2_finds_5 6 rfl rfl)
theorem dX2_finds_124 : decode cX2_finds 124 = .ok (.iload 6, 2) := dk_21 6 (dk_at dksX2_finds_5 7 rfl rfl)
theorem dX2_finds_126 : decode cX2_finds 126 = .ok (.iload 7, 2) := dk_21 7 (dk_at dksX2_finds_5 9 rfl rfl)
theorem dX2_finds_128 : decode cX2_finds 128 = .ok (.invokevirtual 320, 3) := dk_182 1 64 (dk_at dksX2_finds_5 11 rfl rfl)
theorem dX2_finds_131 : decode cX2_finds 131 = .ok (.ifCond .ne 6, 3) := dk_154 0 6 (dk_at dksX2_finds_5 14 rfl rfl)
theorem dX2_finds_134 : decode cX2_finds 134 = .ok (.goto 148, 3) := dk_167 0 148 (dk_at dksX2_finds_5 17 rfl rfl)
theorem dX2_finds_137 : decode cX2_finds 137 = .ok (.aload_n 0, 1) := dk_42 (dk_at dksX2_finds_5 20 rfl rfl)
theorem dX2_finds_138 : decode cX2_finds 138 = .ok (.iload 5, 2) := dk_21 5 (dk_at dksX2_finds_5 21 rfl rfl)
theorem dX2_finds_140 : decode cX2_finds 140 = .ok (.iload_n 1, 1) := dk_27 (dk_at dksX2_finds_5 23 rfl rfl)
theorem dX2_finds_141 : decode cX2_finds 141 = .ok (.iload_n 2, 1) := dk_28 (dk_at dksX2_finds_6 0 rfl rfl)
theorem dX2_finds_142 : decode cX2_finds 142 = .ok (.aload_n 0, 1) := dk_42 (dk_at dksX2_finds_6 1 rfl rfl)
theorem dX2_finds_143 : decode cX2_finds 143 = .ok (.getfield 90, 3) := dk_180 0 90 (dk_at dksX2_finds_6 2 rfl rfl)
theorem dX2_finds_146 : decode cX2_finds 146 = .ok (.iload 6, 2) := dk_21 6 (dk_at dksX2_finds_6 5 rfl rfl)
theorem dX2_finds_148 : decode cX2_finds 148 = .ok (.iaload, 1) := dk_46 (dk_at dksX2_finds_6 7 rfl rfl)
theorem dX2_finds_149 : decode cX2_finds 149 = .ok (.iload_n 3, 1) := dk_29 (dk_at dksX2_finds_6 8 rfl rfl)
theorem dX2_finds_150 : decode cX2_finds 150 = .ok (.iadd, 1) := dk_96 (dk_at dksX2_finds_6 9 rfl rfl)
theorem dX2_finds_151 : decode cX2_finds 151 = .ok (.iload 4, 2) := dk_21 4 (dk_at dksX2_finds_6 10 rfl rfl)
theorem dX2_finds_153 : decode cX2_finds 153 = .ok (.irem, 1) := dk_112 (dk_at dksX2_finds_6 12 rfl rfl)
theorem dX2_finds_154 : decode cX2_finds 154 = .ok (.aload_n 0, 1) := dk_42 (dk_at dksX2_finds_6 13 rfl rfl)
theorem dX2_finds_155 : decode cX2_finds 155 = .ok (.getfield 90, 3) := dk_180 0 90 (dk_at dksX2_finds_6 14 rfl rfl)
theorem dX2_finds_158 : decode cX2_finds 158 = .ok (.iload 7, 2) := dk_21 7 (dk_at dksX2_finds_6 17 rfl rfl)
theorem dX2_finds_160 : decode cX2_finds 160 = .ok (.iaload, 1) := dk_46 (dk_at dksX2_finds_6 19 rfl rfl)
theorem dX2_finds_161 : decode cX2_finds 161 = .ok (.iload_n 3, 1) := dk_29 (dk_at dksX2_finds_6 20 rfl rfl)
theorem dX2_finds_162 : decode cX2_finds 162 = .ok (.iadd, 1) := dk_96 (dk_at dksX2_finds_6 21 rfl rfl)
theorem dX2_finds_163 : decode cX2_finds 163 = .ok (.iload 4, 2) := dk_21 4 (dk_at dksX2_finds_6 22 rfl rfl)
theorem dX2_finds_165 : decode cX2_finds 165 = .ok (.irem, 1) := dk_112 (dk_at dksX2_finds_7 0 rfl rfl)
theorem dX2_finds_166 : decode cX2_finds 166 = .ok (.invokevirtual 324, 3) := dk_182 1 68 (dk_at dksX2_finds_7 1 rfl rfl)
theorem dX2_finds_169 : decode cX2_finds 169 = .ok (.istore 8, 2) := dk_54 8 (dk_at dksX2_finds_7 4 rfl rfl)
theorem dX2_finds_171 : decode cX2_finds 171 = .ok (.iload 8, 2) := dk_21 8 (dk_at dksX2_finds_7 6 rfl rfl)
theorem dX2_finds_173 : decode cX2_finds 173 = .ok (.ifCond .ne 6, 3) := dk_154 0 6 (dk_at dksX2_finds_7 8 rfl rfl)
theorem dX2_finds_176 : decode cX2_finds 176 = .ok (.goto 106, 3) := dk_167 0 106 (dk_at dksX2_finds_7 11 rfl rfl)
theorem dX2_finds_179 : decode cX2_finds 179 = .ok (.aload_n 0, 1) := dk_42 (dk_at dksX2_finds_7 14 rfl rfl)
theorem dX2_finds_180 : decode cX2_finds 180 = .ok (.getfield 99, 3) := dk_180 0 99 (dk_at dksX2_finds_7 15 rfl rfl)
theorem dX2_finds_183 : decode cX2_finds 183 = .ok (.aload_n 0, 1) := dk_42 (dk_at dksX2_finds_7 18 rfl rfl)
theorem dX2_finds_184 : decode cX2_finds 184 = .ok (.getfield 317, 3) := dk_180 1 61 (dk_at dksX2_finds_7 19 rfl rfl)
theorem dX2_finds_187 : decode cX2_finds 187 = .ok (.iload 5, 2) := dk_21 5 (dk_at dksX2_finds_7 22 rfl rfl)
theorem dX2_finds_189 : decode cX2_finds 189 = .ok (.iastore, 1) := dk_79 (dk_at dksX2_finds_8 0 rfl rfl)
theorem dX2_finds_190 : decode cX2_finds 190 = .ok (.aload_n 0, 1) := dk_42 (dk_at dksX2_finds_8 1 rfl rfl)
theorem dX2_finds_191 : decode cX2_finds 191 = .ok (.getfield 102, 3) := dk_180 0 102 (dk_at dksX2_finds_8 2 rfl rfl)
theorem dX2_finds_194 : decode cX2_finds 194 = .ok (.aload_n 0, 1) := dk_42 (dk_at dksX2_finds_8 5 rfl rfl)
theorem dX2_finds_195 : decode cX2_finds 195 = .ok (.getfield 317, 3) := dk_180 1 61 (dk_at dksX2_finds_8 6 rfl rfl)
theorem dX2_finds_198 : decode cX2_finds 198 = .ok (.iload 6, 2) := dk_21 6 (dk_at dksX2_finds_8 9 rfl rfl)
theorem dX2_finds_200 : decode cX2_finds 200 = .ok (.iastore, 1) := dk_79 (dk_at dksX2_finds_8 11 rfl rfl)
theorem dX2_finds_201 : decode cX2_finds 201 = .ok (.aload_n 0, 1) := dk_42 (dk_at dksX2_finds_8 12 rfl rfl)
theorem dX2_finds_202 : decode cX2_finds 202 = .ok (.getfield 105, 3) := dk_180 0 105 (dk_at dksX2_finds_8 13 rfl rfl)
theorem dX2_finds_205 : decode cX2_finds 205 = .ok (.aload_n 0, 1) := dk_42 (dk_at dksX2_finds_8 16 rfl rfl)
theorem dX2_finds_206 : decode cX2_finds 206 = .ok (.getfield 317, 3) := dk_180 1 61 (dk_at dksX2_finds_8 17 rfl rfl)
theorem dX2_finds_209 : decode cX2_finds 209 = .ok (.iload 7, 2) := dk_21 7 (dk_at dksX2_finds_8 20 rfl rfl)
theorem dX2_finds_211 : decode cX2_finds 211 = .ok (.iastore, 1) := dk_79 (dk_at dksX2_finds_8 22 rfl rfl)
theorem dX2_finds_212 : decode cX2_finds 212 = .ok (.aload_n 0, 1) := dk_42 (dk_at dksX2_finds_8 23 rfl rfl)
theorem dX2_finds_213 : decode cX2_finds 213 = .ok (.dup, 1) := dk_89 (dk_at dksX2_finds_9 0 rfl rfl)
theorem dX2_finds_214 : decode cX2_finds 214 = .ok (.getfield 317, 3) := dk_180 1 61 (dk_at dksX2_finds_9 1 rfl rfl)
theorem dX2_finds_217 : decode cX2_finds 217 = .ok (.iconst 1, 1) := dk_4 (dk_at dksX2_finds_9 4 rfl rfl)
theorem dX2_finds_218 : decode cX2_finds 218 = .ok (.iadd, 1) := dk_96 (dk_at dksX2_finds_9 5 rfl rfl)
theorem dX2_finds_219 : decode cX2_finds 219 = .ok (.putfield 317, 3) := dk_181 1 61 (dk_at dksX2_finds_9 6 rfl rfl)
theorem dX2_finds_222 : decode cX2_finds 222 = .ok (.aload_n 0, 1) := dk_42 (dk_at dksX2_finds_9 9 rfl rfl)
theorem dX2_finds_223 : decode cX2_finds 223 = .ok (.getfield 108, 3) := dk_180 0 108 (dk_at dksX2_finds_9 10 rfl rfl)
theorem dX2_finds_226 : decode cX2_finds 226 = .ok (.iload 6, 2) := dk_21 6 (dk_at dksX2_finds_9 13 rfl rfl)
theorem dX2_finds_228 : decode cX2_finds 228 = .ok (.dup2, 1) := dk_92 (dk_at dksX2_finds_9 15 rfl rfl)
theorem dX2_finds_229 : decode cX2_finds 229 = .ok (.iaload, 1) := dk_46 (dk_at dksX2_finds_9 16 rfl rfl)
theorem dX2_finds_230 : decode cX2_finds 230 = .ok (.iload 8, 2) := dk_21 8 (dk_at dksX2_finds_9 17 rfl rfl)
theorem dX2_finds_232 : decode cX2_finds 232 = .ok (.iconst 1, 1) := dk_4 (dk_at dksX2_finds_9 19 rfl rfl)
theorem dX2_finds_233 : decode cX2_finds 233 = .ok (.iand, 1) := dk_126 (dk_at dksX2_finds_9 20 rfl rfl)
theorem dX2_finds_234 : decode cX2_finds 234 = .ok (.ifCond .eq 15, 3) := dk_153 0 15 (dk_at dksX2_finds_9 21 rfl rfl)
theorem dX2_finds_237 : decode cX2_finds 237 = .ok (.aload_n 0, 1) := dk_42 (dk_at dksX2_finds_10 0 rfl rfl)
theorem dX2_finds_238 : decode cX2_finds 238 = .ok (.getfield 35, 3) := dk_180 0 35 (dk_at dksX2_finds_10 1 rfl rfl)
theorem dX2_finds_241 : decode cX2_finds 241 = .ok (.iconst 0, 1) := dk_3 (dk_at dksX2_finds_10 4 rfl rfl)
theorem dX2_finds_242 : decode cX2_finds 242 = .ok (.aaload, 1) := dk_50 (dk_at dksX2_finds_10 5 rfl rfl)
theorem dX2_finds_243 : decode cX2_finds 243 = .ok (.iload 5, 2) := dk_21 5 (dk_at dksX2_finds_10 6 rfl rfl)
theorem dX2_finds_245 : decode cX2_finds 245 = .ok (.iaload, 1) := dk_46 (dk_at dksX2_finds_10 8 rfl rfl)
theorem dX2_finds_246 : decode cX2_finds 246 = .ok (.goto 4, 3) := dk_167 0 4 (dk_at dksX2_finds_10 9 rfl rfl)
theorem dX2_finds_249 : decode cX2_finds 249 = .ok (.iconst 0, 1) := dk_3 (dk_at dksX2_finds_10 12 rfl rfl)
theorem dX2_finds_250 : decode cX2_finds 250 = .ok (.iadd, 1) := dk_96 (dk_at dksX2_finds_10 13 rfl rfl)
theorem dX2_finds_251 : decode cX2_finds 251 = .ok (.iastore, 1) := dk_79 (dk_at dksX2_finds_10 14 rfl rfl)
theorem dX2_finds_252 : decode cX2_finds 252 = .ok (.aload_n 0, 1) := dk_42 (dk_at dksX2_finds_10 15 rfl rfl)
theorem dX2_finds_253 : decode cX2_finds 253 = .ok (.getfield 108, 3) := dk_180 0 108 (dk_at dksX2_finds_10 16 rfl rfl)
theorem dX2_finds_256 : decode cX2_finds 256 = .ok (.iload 7, 2) := dk_21 7 (dk_at dksX2_finds_10 19 rfl rfl)
theorem dX2_finds_258 : decode cX2_finds 258 = .ok (.dup2, 1) := dk_92 (dk_at dksX2_finds_10 21 rfl rfl)
theorem dX2_finds_259 : decode cX2_finds 259 = .ok (.iaload, 1) := dk_46 (dk_at dksX2_finds_10 22 rfl rfl)
theorem dX2_finds_260 : decode cX2_finds 260 = .ok (.iload 8, 2) := dk_21 8 (dk_at dksX2_finds_11 0 rfl rfl)
theorem dX2_finds_262 : decode cX2_finds 262 = .ok (.iconst 2, 1) := dk_5 (dk_at dksX2_finds_11 2 rfl rfl)
theorem dX2_finds_263 : decode cX2_finds 263 = .ok (.iand, 1) := dk_126 (dk_at dksX2_finds_11 3 rfl rfl)
theorem dX2_finds_264 : decode cX2_finds 264 = .ok (.ifCond .eq 15, 3) := dk_153 0 15 (dk_at dksX2_finds_11 4 rfl rfl)
theorem dX2_finds_267 : decode cX2_finds 267 = .ok (.aload_n 0, 1) := dk_42 (dk_at dksX2_finds_11 7 rfl rfl)
theorem dX2_finds_268 : decode cX2_finds 268 = .ok (.getfield 35, 3) := dk_180 0 35 (dk_at dksX2_finds_11 8 rfl rfl)
theorem dX2_finds_271 : decode cX2_finds 271 = .ok (.iconst 0, 1) := dk_3 (dk_at dksX2_finds_11 11 rfl rfl)
theorem dX2_finds_272 : decode cX2_finds 272 = .ok (.aaload, 1) := dk_50 (dk_at dksX2_finds_11 12 rfl rfl)
theorem dX2_finds_273 : decode cX2_finds 273 = .ok (.iload 5, 2) := dk_21 5 (dk_at dksX2_finds_11 13 rfl rfl)
theorem dX2_finds_275 : decode cX2_finds 275 = .ok (.iaload, 1) := dk_46 (dk_at dksX2_finds_11 15 rfl rfl)
theorem dX2_finds_276 : decode cX2_finds 276 = .ok (.goto 4, 3) := dk_167 0 4 (dk_at dksX2_finds_11 16 rfl rfl)
theorem dX2_finds_279 : decode cX2_finds 279 = .ok (.iconst 0, 1) := dk_3 (dk_at dksX2_finds_11 19 rfl rfl)
theorem dX2_finds_280 : decode cX2_finds 280 = .ok (.iadd, 1) := dk_96 (dk_at dksX2_finds_11 20 rfl rfl)
theorem dX2_finds_281 : decode cX2_finds 281 = .ok (.iastore, 1) := dk_79 (dk_at dksX2_finds_11 21 rfl rfl)
theorem dX2_finds_282 : decode cX2_finds 282 = .ok (.iinc 7 1, 3) := dk_132 7 1 (dk_at dksX2_finds_12 0 rfl rfl)
theorem dX2_finds_285 : decode cX2_finds 285 = .ok (.goto (-198), 3) := dk_167 255 58 (dk_at dksX2_finds_12 3 rfl rfl)
theorem dX2_finds_288 : decode cX2_finds 288 = .ok (.iinc 6 1, 3) := dk_132 6 1 (dk_at dksX2_finds_12 6 rfl rfl)
theorem dX2_finds_291 : decode cX2_finds 291 = .ok (.goto (-237), 3) := dk_167 255 19 (dk_at dksX2_finds_12 9 rfl rfl)
theorem dX2_finds_294 : decode cX2_finds 294 = .ok (.iinc 5 1, 3) := dk_132 5 1 (dk_at dksX2_finds_12 12 rfl rfl)
theorem dX2_finds_297 : decode cX2_finds 297 = .ok (.goto (-257), 3) := dk_167 254 255 (dk_at dksX2_finds_12 15 rfl rfl)
theorem dX2_finds_300 : decode cX2_finds 300 = .ok (.return_, 1) := dk_177 (dk_at dksX2_finds_12 18 rfl rfl)
abbrev cX2_countsFor : ByteArray := prog_26_method_34_code
def yX2_countsFor : MethodName := ⟨RX2, "countsFor", "(IIII)Z"⟩
def dkwX2_countsFor_1 : List UInt8 := [51, 153, 0, 18, 42, 27, 29, 21, 4, 182, 1, 35, 153, 0, 7, 4, 167, 0, 4, 3, 172]
abbrev dktX2_countsFor_1 : List UInt8 := dkwX2_countsFor_1 ++ []
def dkwX2_countsFor_0 : List UInt8 := [42, 27, 28, 182, 1, 32, 153, 0, 37, 42, 180, 0, 81, 29, 51, 153, 0, 28, 42, 180, 0, 81, 21, 4]
abbrev dktX2_countsFor_0 : List UInt8 := dkwX2_countsFor_0 ++ dktX2_countsFor_1
theorem dksX2_countsFor_0 : cX2_countsFor.data.toList.drop 0 = dktX2_countsFor_0 := by decide +kernel
theorem dksX2_countsFor_1 : cX2_countsFor.data.toList.drop 24 = dktX2_countsFor_1 := dk_seg dksX2_countsFor_0 24 rfl rfl
theorem dX2_countsFor_0 : decode cX2_countsFor 0 = .ok (.aload_n 0, 1) := dk_42 (dk_at dksX2_countsFor_0 0 rfl rfl)
theorem dX2_countsFor_1 : decode cX2_countsFor 1 = .ok (.iload_n 1, 1) := dk_27 (dk_at dksX2_countsFor_0 1 rfl rfl)
theorem dX2_countsFor_2 : decode cX2_countsFor 2 = .ok (.iload_n 2, 1) := dk_28 (dk_at dksX2_countsFor_0 2 rfl rfl)
theorem dX2_countsFor_3 : decode cX2_countsFor 3 = .ok (.invokevirtual 288, 3) := dk_182 1 32 (dk_at dksX2_countsFor_0 3 rfl rfl)
theorem dX2_countsFor_6 : decode cX2_countsFor 6 = .ok (.ifCond .eq 37, 3) := dk_153 0 37 (dk_at dksX2_countsFor_0 6 rfl rfl)
theorem dX2_countsFor_9 : decode cX2_countsFor 9 = .ok (.aload_n 0, 1) := dk_42 (dk_at dksX2_countsFor_0 9 rfl rfl)
theorem dX2_countsFor_10 : decode cX2_countsFor 10 = .ok (.getfield 81, 3) := dk_180 0 81 (dk_at dksX2_countsFor_0 10 rfl rfl)
theorem dX2_countsFor_13 : decode cX2_countsFor 13 = .ok (.iload_n 3, 1) := dk_29 (dk_at dksX2_countsFor_0 13 rfl rfl)
theorem dX2_countsFor_14 : decode cX2_countsFor 14 = .ok (.baload, 1) := dk_51 (dk_at dksX2_countsFor_0 14 rfl rfl)
theorem dX2_countsFor_15 : decode cX2_countsFor 15 = .ok (.ifCond .eq 28, 3) := dk_153 0 28 (dk_at dksX2_countsFor_0 15 rfl rfl)
theorem dX2_countsFor_18 : decode cX2_countsFor 18 = .ok (.aload_n 0, 1) := dk_42 (dk_at dksX2_countsFor_0 18 rfl rfl)
theorem dX2_countsFor_19 : decode cX2_countsFor 19 = .ok (.getfield 81, 3) := dk_180 0 81 (dk_at dksX2_countsFor_0 19 rfl rfl)
theorem dX2_countsFor_22 : decode cX2_countsFor 22 = .ok (.iload 4, 2) := dk_21 4 (dk_at dksX2_countsFor_0 22 rfl rfl)
theorem dX2_countsFor_24 : decode cX2_countsFor 24 = .ok (.baload, 1) := dk_51 (dk_at dksX2_countsFor_1 0 rfl rfl)
theorem dX2_countsFor_25 : decode cX2_countsFor 25 = .ok (.ifCond .eq 18, 3) := dk_153 0 18 (dk_at dksX2_countsFor_1 1 rfl rfl)
theorem dX2_countsFor_28 : decode cX2_countsFor 28 = .ok (.aload_n 0, 1) := dk_42 (dk_at dksX2_countsFor_1 4 rfl rfl)
theorem dX2_countsFor_29 : decode cX2_countsFor 29 = .ok (.iload_n 1, 1) := dk_27 (dk_at dksX2_countsFor_1 5 rfl rfl)
theorem dX2_countsFor_30 : decode cX2_countsFor 30 = .ok (.iload_n 3, 1) := dk_29 (dk_at dksX2_countsFor_1 6 rfl rfl)
theorem dX2_countsFor_31 : decode cX2_countsFor 31 = .ok (.iload 4, 2) := dk_21 4 (dk_at dksX2_countsFor_1 7 rfl rfl)
theorem dX2_countsFor_33 : decode cX2_countsFor 33 = .ok (.invokevirtual 291, 3) := dk_182 1 35 (dk_at dksX2_countsFor_1 9 rfl rfl)
theorem dX2_countsFor_36 : decode cX2_countsFor 36 = .ok (.ifCond .eq 7, 3) := dk_153 0 7 (dk_at dksX2_countsFor_1 12 rfl rfl)
theorem dX2_countsFor_39 : decode cX2_countsFor 39 = .ok (.iconst 1, 1) := dk_4 (dk_at dksX2_countsFor_1 15 rfl rfl)
theorem dX2_countsFor_40 : decode cX2_countsFor 40 = .ok (.goto 4, 3) := dk_167 0 4 (dk_at dksX2_countsFor_1 16 rfl rfl)
theorem dX2_countsFor_43 : decode cX2_countsFor 43 = .ok (.iconst 0, 1) := dk_3 (dk_at dksX2_countsFor_1 19 rfl rfl)
theorem dX2_countsFor_44 : decode cX2_countsFor 44 = .ok (.ireturn, 1) := dk_172 (dk_at dksX2_countsFor_1 20 rfl rfl)
abbrev cX2_counts : ByteArray := prog_26_method_33_code
def yX2_counts : MethodName := ⟨RX2, "counts", "(II)Z"⟩
def dkwX2_counts_1 : List UInt8 := [180, 0, 38, 3, 50, 27, 46, 28, 160, 0, 7, 4, 167, 0, 4, 3, 172]
abbrev dktX2_counts_1 : List UInt8 := dkwX2_counts_1 ++ []
def dkwX2_counts_0 : List UInt8 := [42, 180, 0, 77, 27, 51, 154, 0, 31, 42, 180, 0, 38, 3, 50, 27, 46, 2, 159, 0, 15, 42]
abbrev dktX2_counts_0 : List UInt8 := dkwX2_counts_0 ++ dktX2_counts_1
theorem dksX2_counts_0 : cX2_counts.data.toList.drop 0 = dktX2_counts_0 := by decide +kernel
theorem dksX2_counts_1 : cX2_counts.data.toList.drop 22 = dktX2_counts_1 := dk_seg dksX2_counts_0 22 rfl rfl
theorem dX2_counts_0 : decode cX2_counts 0 = .ok (.aload_n 0, 1) := dk_42 (dk_at dksX2_counts_0 0 rfl rfl)
theorem dX2_counts_1 : decode cX2_counts 1 = .ok (.getfield 77, 3) := dk_180 0 77 (dk_at dksX2_counts_0 1 rfl rfl)
theorem dX2_counts_4 : decode cX2_counts 4 = .ok (.iload_n 1, 1) := dk_27 (dk_at dksX2_counts_0 4 rfl rfl)
theorem dX2_counts_5 : decode cX2_counts 5 = .ok (.baload, 1) := dk_51 (dk_at dksX2_counts_0 5 rfl rfl)
theorem dX2_counts_6 : decode cX2_counts 6 = .ok (.ifCond .ne 31, 3) := dk_154 0 31 (dk_at dksX2_counts_0 6 rfl rfl)
theorem dX2_counts_9 : decode cX2_counts 9 = .ok (.aload_n 0, 1) := dk_42 (dk_at dksX2_counts_0 9 rfl rfl)
theorem dX2_counts_10 : decode cX2_counts 10 = .ok (.getfield 38, 3) := dk_180 0 38 (dk_at dksX2_counts_0 10 rfl rfl)
theorem dX2_counts_13 : decode cX2_counts 13 = .ok (.iconst 0, 1) := dk_3 (dk_at dksX2_counts_0 13 rfl rfl)
theorem dX2_counts_14 : decode cX2_counts 14 = .ok (.aaload, 1) := dk_50 (dk_at dksX2_counts_0 14 rfl rfl)
theorem dX2_counts_15 : decode cX2_counts 15 = .ok (.iload_n 1, 1) := dk_27 (dk_at dksX2_counts_0 15 rfl rfl)
theorem dX2_counts_16 : decode cX2_counts 16 = .ok (.iaload, 1) := dk_46 (dk_at dksX2_counts_0 16 rfl rfl)
theorem dX2_counts_17 : decode cX2_counts 17 = .ok (.iconst (-1), 1) := dk_2 (dk_at dksX2_counts_0 17 rfl rfl)
theorem dX2_counts_18 : decode cX2_counts 18 = .ok (.if_icmp .eq 15, 3) := dk_159 0 15 (dk_at dksX2_counts_0 18 rfl rfl)
theorem dX2_counts_21 : decode cX2_counts 21 = .ok (.aload_n 0, 1) := dk_42 (dk_at dksX2_counts_0 21 rfl rfl)
theorem dX2_counts_22 : decode cX2_counts 22 = .ok (.getfield 38, 3) := dk_180 0 38 (dk_at dksX2_counts_1 0 rfl rfl)
theorem dX2_counts_25 : decode cX2_counts 25 = .ok (.iconst 0, 1) := dk_3 (dk_at dksX2_counts_1 3 rfl rfl)
theorem dX2_counts_26 : decode cX2_counts 26 = .ok (.aaload, 1) := dk_50 (dk_at dksX2_counts_1 4 rfl rfl)
theorem dX2_counts_27 : decode cX2_counts 27 = .ok (.iload_n 1, 1) := dk_27 (dk_at dksX2_counts_1 5 rfl rfl)
theorem dX2_counts_28 : decode cX2_counts 28 = .ok (.iaload, 1) := dk_46 (dk_at dksX2_counts_1 6 rfl rfl)
theorem dX2_counts_29 : decode cX2_counts 29 = .ok (.iload_n 2, 1) := dk_28 (dk_at dksX2_counts_1 7 rfl rfl)
theorem dX2_counts_30 : decode cX2_counts 30 = .ok (.if_icmp .ne 7, 3) := dk_160 0 7 (dk_at dksX2_counts_1 8 rfl rfl)
theorem dX2_counts_33 : decode cX2_counts 33 = .ok (.iconst 1, 1) := dk_4 (dk_at dksX2_counts_1 11 rfl rfl)
theorem dX2_counts_34 : decode cX2_counts 34 = .ok (.goto 4, 3) := dk_167 0 4 (dk_at dksX2_counts_1 12 rfl rfl)
theorem dX2_counts_37 : decode cX2_counts 37 = .ok (.iconst 0, 1) := dk_3 (dk_at dksX2_counts_1 15 rfl rfl)
theorem dX2_counts_38 : decode cX2_counts 38 = .ok (.ireturn, 1) := dk_172 (dk_at dksX2_counts_1 16 rfl rfl)
abbrev cX2_whoMinds : ByteArray := prog_26_method_45_code
def yX2_whoMinds : MethodName := ⟨RX2, "whoMinds", "(IIIII)I"⟩
def dkwX2_whoMinds_3 : List UInt8 := [4, 160, 0, 7, 5, 167, 0, 14, 21, 6, 5, 160, 0, 7, 4, 167, 0, 4, 3, 172]
abbrev dktX2_whoMinds_3 : List UInt8 := dkwX2_whoMinds_3 ++ []
def dkwX2_whoMinds_2 : List UInt8 := [27, 46, 154, 0, 20, 21, 6, 5, 159, 0, 8, 21, 6, 154, 0, 7, 4, 167, 0, 4, 3, 172, 21, 6]
abbrev dktX2_whoMinds_2 : List UInt8 := dkwX2_whoMinds_2 ++ dktX2_whoMinds_3
def dkwX2_whoMinds_1 : List UInt8 := [6, 167, 0, 4, 3, 172, 42, 28, 29, 21, 4, 21, 5, 182, 1, 54, 54, 6, 42, 180, 0, 26, 3, 50]
abbrev dktX2_whoMinds_1 : List UInt8 := dkwX2_whoMinds_1 ++ dktX2_whoMinds_2
def dkwX2_whoMinds_0 : List UInt8 := [42, 180, 0, 26, 3, 50, 27, 46, 5, 160, 0, 21, 42, 28, 21, 4, 21, 5, 182, 1, 58, 153, 0, 7]
abbrev dktX2_whoMinds_0 : List UInt8 := dkwX2_whoMinds_0 ++ dktX2_whoMinds_1
theorem dksX2_whoMinds_0 : cX2_whoMinds.data.toList.drop 0 = dktX2_whoMinds_0 := by decide +kernel
theorem dksX2_whoMinds_1 : cX2_whoMinds.data.toList.drop 24 = dktX2_whoMinds_1 := dk_seg dksX2_whoMinds_0 24 rfl rfl
theorem dksX2_whoMinds_2 : cX2_whoMinds.data.toList.drop 48 = dktX2_whoMinds_2 := dk_seg dksX2_whoMinds_1 24 rfl rfl
theorem dksX2_whoMinds_3 : cX2_whoMinds.data.toList.drop 72 = dktX2_whoMinds_3 := dk_seg dksX2_whoMinds_2 24 rfl rfl
theorem dX2_whoMinds_0 : decode cX2_whoMinds 0 = .ok (.aload_n 0, 1) := dk_42 (dk_at dksX2_whoMinds_0 0 rfl rfl)
theorem dX2_whoMinds_1 : decode cX2_whoMinds 1 = .ok (.getfield 26, 3) := dk_180 0 26 (dk_at dksX2_whoMinds_0 1 rfl rfl)
theorem dX2_whoMinds_4 : decode cX2_whoMinds 4 = .ok (.iconst 0, 1) := dk_3 (dk_at dksX2_whoMinds_0 4 rfl rfl)
theorem dX2_whoMinds_5 : decode cX2_whoMinds 5 = .ok (.aaload, 1) := dk_50 (dk_at dksX2_whoMinds_0 5 rfl rfl)
theorem dX2_whoMinds_6 : decode cX2_whoMinds 6 = .ok (.iload_n 1, 1) := dk_27 (dk_at dksX2_whoMinds_0 6 rfl rfl)
theorem dX2_whoMinds_7 : decode cX2_whoMinds 7 = .ok (.iaload, 1) := dk_46 (dk_at dksX2_whoMinds_0 7 rfl rfl)
theorem dX2_whoMinds_8 : decode cX2_whoMinds 8 = .ok (.iconst 2, 1) := dk_5 (dk_at dksX2_whoMinds_0 8 rfl rfl)
theorem dX2_whoMinds_9 : decode cX2_whoMinds 9 = .ok (.if_icmp .ne 21, 3) := dk_160 0 21 (dk_at dksX2_whoMinds_0 9 rfl rfl)
theorem dX2_whoMinds_12 : decode cX2_whoMinds 12 = .ok (.aload_n 0, 1) := dk_42 (dk_at dksX2_whoMinds_0 12 rfl rfl)
theorem dX2_whoMinds_13 : decode cX2_whoMinds 13 = .ok (.iload_n 2, 1) := dk_28 (dk_at dksX2_whoMinds_0 13 rfl rfl)
theorem dX2_whoMinds_14 : decode cX2_whoMinds 14 = .ok (.iload 4, 2) := dk_21 4 (dk_at dksX2_whoMinds_0 14 rfl rfl)
theorem dX2_whoMinds_16 : decode cX2_whoMinds 16 = .ok (.iload 5, 2) := dk_21 5 (dk_at dksX2_whoMinds_0 16 rfl rfl)
theorem dX2_whoMinds_18 : decode cX2_whoMinds 18 = .ok (.invokevirtual 314, 3) := dk_182 1 58 (dk_at dksX2_whoMinds_0 18 rfl rfl)
theorem dX2_whoMinds_21 : decode cX2_whoMinds 21 = .ok (.ifCond .eq 7, 3) := dk_153 0 7 (dk_at dksX2_whoMinds_0 21 rfl rfl)
theorem dX2_whoMinds_24 : decode cX2_whoMinds 24 = .ok (.iconst 3, 1) := dk_6 (dk_at dksX2_whoMinds_1 0 rfl rfl)
theorem dX2_whoMinds_25 : decode cX2_whoMinds 25 = .ok (.goto 4, 3) := dk_167 0 4 (dk_at dksX2_whoMinds_1 1 rfl rfl)
theorem dX2_whoMinds_28 : decode cX2_whoMinds 28 = .ok (.iconst 0, 1) := dk_3 (dk_at dksX2_whoMinds_1 4 rfl rfl)
theorem dX2_whoMinds_29 : decode cX2_whoMinds 29 = .ok (.ireturn, 1) := dk_172 (dk_at dksX2_whoMinds_1 5 rfl rfl)
theorem dX2_whoMinds_30 : decode cX2_whoMinds 30 = .ok (.aload_n 0, 1) := dk_42 (dk_at dksX2_whoMinds_1 6 rfl rfl)
theorem dX2_whoMinds_31 : decode cX2_whoMinds 31 = .ok (.iload_n 2, 1) := dk_28 (dk_at dksX2_whoMinds_1 7 rfl rfl)
theorem dX2_whoMinds_32 : decode cX2_whoMinds 32 = .ok (.iload_n 3, 1) := dk_29 (dk_at dksX2_whoMinds_1 8 rfl rfl)
theorem dX2_whoMinds_33 : decode cX2_whoMinds 33 = .ok (.iload 4, 2) := dk_21 4 (dk_at dksX2_whoMinds_1 9 rfl rfl)
theorem dX2_whoMinds_35 : decode cX2_whoMinds 35 = .ok (.iload 5, 2) := dk_21 5 (dk_at dksX2_whoMinds_1 11 rfl rfl)
theorem dX2_whoMinds_37 : decode cX2_whoMinds 37 = .ok (.invokevirtual 310, 3) := dk_182 1 54 (dk_at dksX2_whoMinds_1 13 rfl rfl)
theorem dX2_whoMinds_40 : decode cX2_whoMinds 40 = .ok (.istore 6, 2) := dk_54 6 (dk_at dksX2_whoMinds_1 16 rfl rfl)
theorem dX2_whoMinds_42 : decode cX2_whoMinds 42 = .ok (.aload_n 0, 1) := dk_42 (dk_at dksX2_whoMinds_1 18 rfl rfl)
theorem dX2_whoMinds_43 : decode cX2_whoMinds 43 = .ok (.getfield 26, 3) := dk_180 0 26 (dk_at dksX2_whoMinds_1 19 rfl rfl)
theorem dX2_whoMinds_46 : decode cX2_whoMinds 46 = .ok (.iconst 0, 1) := dk_3 (dk_at dksX2_whoMinds_1 22 rfl rfl)
theorem dX2_whoMinds_47 : decode cX2_whoMinds 47 = .ok (.aaload, 1) := dk_50 (dk_at dksX2_whoMinds_1 23 rfl rfl)
theorem dX2_whoMinds_48 : decode cX2_whoMinds 48 = .ok (.iload_n 1, 1) := dk_27 (dk_at dksX2_whoMinds_2 0 rfl rfl)
theorem dX2_whoMinds_49 : decode cX2_whoMinds 49 = .ok (.iaload, 1) := dk_46 (dk_at dksX2_whoMinds_2 1 rfl rfl)
theorem dX2_whoMinds_50 : decode cX2_whoMinds 50 = .ok (.ifCond .ne 20, 3) := dk_154 0 20 (dk_at dksX2_whoMinds_2 2 rfl rfl)
theorem dX2_whoMinds_53 : decode cX2_whoMinds 53 = .ok (.iload 6, 2) := dk_21 6 (dk_at dksX2_whoMinds_2 5 rfl rfl)
theorem dX2_whoMinds_55 : decode cX2_whoMinds 55 = .ok (.iconst 2, 1) := dk_5 (dk_at dksX2_whoMinds_2 7 rfl rfl)
theorem dX2_whoMinds_56 : decode cX2_whoMinds 56 = .ok (.if_icmp .eq 8, 3) := dk_159 0 8 (dk_at dksX2_whoMinds_2 8 rfl rfl)
theorem dX2_whoMinds_59 : decode cX2_whoMinds 59 = .ok (.iload 6, 2) := dk_21 6 (dk_at dksX2_whoMinds_2 11 rfl rfl)
theorem dX2_whoMinds_61 : decode cX2_whoMinds 61 = .ok (.ifCond .ne 7, 3) := dk_154 0 7 (dk_at dksX2_whoMinds_2 13 rfl rfl)
theorem dX2_whoMinds_64 : decode cX2_whoMinds 64 = .ok (.iconst 1, 1) := dk_4 (dk_at dksX2_whoMinds_2 16 rfl rfl)
theorem dX2_whoMinds_65 : decode cX2_whoMinds 65 = .ok (.goto 4, 3) := dk_167 0 4 (dk_at dksX2_whoMinds_2 17 rfl rfl)
theorem dX2_whoMinds_68 : decode cX2_whoMinds 68 = .ok (.iconst 0, 1) := dk_3 (dk_at dksX2_whoMinds_2 20 rfl rfl)
theorem dX2_whoMinds_69 : decode cX2_whoMinds 69 = .ok (.ireturn, 1) := dk_172 (dk_at dksX2_whoMinds_2 21 rfl rfl)
theorem dX2_whoMinds_70 : decode cX2_whoMinds 70 = .ok (.iload 6, 2) := dk_21 6 (dk_at dksX2_whoMinds_2 22 rfl rfl)
theorem dX2_whoMinds_72 : decode cX2_whoMinds 72 = .ok (.iconst 1, 1) := dk_4 (dk_at dksX2_whoMinds_3 0 rfl rfl)
theorem dX2_whoMinds_73 : decode cX2_whoMinds 73 = .ok (.if_icmp .ne 7, 3) := dk_160 0 7 (dk_at dksX2_whoMinds_3 1 rfl rfl)
theorem dX2_whoMinds_76 : decode cX2_whoMinds 76 = .ok (.iconst 2, 1) := dk_5 (dk_at dksX2_whoMinds_3 4 rfl rfl)
theorem dX2_whoMinds_77 : decode cX2_whoMinds 77 = .ok (.goto 14, 3) := dk_167 0 14 (dk_at dksX2_whoMinds_3 5 rfl rfl)
theorem dX2_whoMinds_80 : decode cX2_whoMinds 80 = .ok (.iload 6, 2) := dk_21 6 (dk_at dksX2_whoMinds_3 8 rfl rfl)
theorem dX2_whoMinds_82 : decode cX2_whoMinds 82 = .ok (.iconst 2, 1) := dk_5 (dk_at dksX2_whoMinds_3 10 rfl rfl)
theorem dX2_whoMinds_83 : decode cX2_whoMinds 83 = .ok (.if_icmp .ne 7, 3) := dk_160 0 7 (dk_at dksX2_whoMinds_3 11 rfl rfl)
theorem dX2_whoMinds_86 : decode cX2_whoMinds 86 = .ok (.iconst 1, 1) := dk_4 (dk_at dksX2_whoMinds_3 14 rfl rfl)
theorem dX2_whoMinds_87 : decode cX2_whoMinds 87 = .ok (.goto 4, 3) := dk_167 0 4 (dk_at dksX2_whoMinds_3 15 rfl rfl)
theorem dX2_whoMinds_90 : decode cX2_whoMinds 90 = .ok (.iconst 0, 1) := dk_3 (dk_at dksX2_whoMinds_3 18 rfl rfl)
theorem dX2_whoMinds_91 : decode cX2_whoMinds 91 = .ok (.ireturn, 1) := dk_172 (dk_at dksX2_whoMinds_3 19 rfl rfl)
abbrev cX2_beside : ByteArray := prog_26_method_42_code
def yX2_beside : MethodName := ⟨RX2, "beside", "(III)Z"⟩
def dkwX2_beside_4 : List UInt8 := [5, 108, 160, 0, 7, 4, 167, 0, 4, 3, 172, 21, 5, 4, 160, 0, 7, 4, 167, 0, 4, 3, 172]
abbrev dktX2_beside_4 : List UInt8 := dkwX2_beside_4 ++ []
def dkwX2_beside_3 : List UInt8 := [21, 5, 21, 4, 4, 100, 160, 0, 7, 4, 167, 0, 4, 3, 172, 21, 5, 158, 0, 16, 28, 5, 108, 29]
abbrev dktX2_beside_3 : List UInt8 := dkwX2_beside_3 ++ dktX2_beside_4
def dkwX2_beside_2 : List UInt8 := [21, 5, 5, 160, 0, 7, 4, 167, 0, 4, 3, 172, 21, 5, 158, 0, 22, 21, 5, 4, 159, 0, 12]
abbrev dktX2_beside_2 : List UInt8 := dkwX2_beside_2 ++ dktX2_beside_3
def dkwX2_beside_1 : List UInt8 := [170, 0, 0, 0, 0, 84, 0, 0, 0, 1, 0, 0, 0, 3, 0, 0, 0, 26, 0, 0, 0, 38, 0, 0, 0, 64]
abbrev dktX2_beside_1 : List UInt8 := dkwX2_beside_1 ++ dktX2_beside_2
def dkwX2_beside_0 : List UInt8 := [42, 180, 0, 96, 27, 46, 54, 4, 28, 29, 100, 184, 1, 44, 54, 5, 42, 180, 0, 93, 27, 46]
abbrev dktX2_beside_0 : List UInt8 := dkwX2_beside_0 ++ dktX2_beside_1
theorem dksX2_beside_0 : cX2_beside.data.toList.drop 0 = dktX2_beside_0 := by decide +kernel
theorem dksX2_beside_1 : cX2_beside.data.toList.drop 22 = dktX2_beside_1 := dk_seg dksX2_beside_0 22 rfl rfl
theorem dksX2_beside_2 : cX2_beside.data.toList.drop 48 = dktX2_beside_2 := dk_seg dksX2_beside_1 26 rfl rfl
theorem dksX2_beside_3 : cX2_beside.data.toList.drop 71 = dktX2_beside_3 := dk_seg dksX2_beside_2 23 rfl rfl
theorem dksX2_beside_4 : cX2_beside.data.toList.drop 95 = dktX2_beside_4 := dk_seg dksX2_beside_3 24 rfl rfl
theorem dX2_beside_0 : decode cX2_beside 0 = .ok (.aload_n 0, 1) := dk_42 (dk_at dksX2_beside_0 0 rfl rfl)
theorem dX2_beside_1 : decode cX2_beside 1 = .ok (.getfield 96, 3) := dk_180 0 96 (dk_at dksX2_beside_0 1 rfl rfl)
theorem dX2_beside_4 : decode cX2_beside 4 = .ok (.iload_n 1, 1) := dk_27 (dk_at dksX2_beside_0 4 rfl rfl)
theorem dX2_beside_5 : decode cX2_beside 5 = .ok (.iaload, 1) := dk_46 (dk_at dksX2_beside_0 5 rfl rfl)
theorem dX2_beside_6 : decode cX2_beside 6 = .ok (.istore 4, 2) := dk_54 4 (dk_at dksX2_beside_0 6 rfl rfl)
theorem dX2_beside_8 : decode cX2_beside 8 = .ok (.iload_n 2, 1) := dk_28 (dk_at dksX2_beside_0 8 rfl rfl)
theorem dX2_beside_9 : decode cX2_beside 9 = .ok (.iload_n 3, 1) := dk_29 (dk_at dksX2_beside_0 9 rfl rfl)
theorem dX2_beside_10 : decode cX2_beside 10 = .ok (.isub, 1) := dk_100 (dk_at dksX2_beside_0 10 rfl rfl)
theorem dX2_beside_11 : decode cX2_beside 11 = .ok (.invokestatic 300, 3) := dk_184 1 44 (dk_at dksX2_beside_0 11 rfl rfl)
theorem dX2_beside_14 : decode cX2_beside 14 = .ok (.istore 5, 2) := dk_54 5 (dk_at dksX2_beside_0 14 rfl rfl)
theorem dX2_beside_16 : decode cX2_beside 16 = .ok (.aload_n 0, 1) := dk_42 (dk_at dksX2_beside_0 16 rfl rfl)
theorem dX2_beside_17 : decode cX2_beside 17 = .ok (.getfield 93, 3) := dk_180 0 93 (dk_at dksX2_beside_0 17 rfl rfl)
theorem dX2_beside_20 : decode cX2_beside 20 = .ok (.iload_n 1, 1) := dk_27 (dk_at dksX2_beside_0 20 rfl rfl)
theorem dX2_beside_21 : decode cX2_beside 21 = .ok (.iaload, 1) := dk_46 (dk_at dksX2_beside_0 21 rfl rfl)
theorem dX2_beside_22 : decode cX2_beside 22 = .ok (.tableswitch 84 1 3 #[26, 38, 64], 26) := by decide +kernel
theorem dX2_beside_48 : decode cX2_beside 48 = .ok (.iload 5, 2) := dk_21 5 (dk_at dksX2_beside_2 0 rfl rfl)
theorem dX2_beside_50 : decode cX2_beside 50 = .ok (.iconst 2, 1) := dk_5 (dk_at dksX2_beside_2 2 rfl rfl)
theorem dX2_beside_51 : decode cX2_beside 51 = .ok (.if_icmp .ne 7, 3) := dk_160 0 7 (dk_at dksX2_beside_2 3 rfl rfl)
theorem dX2_beside_54 : decode cX2_beside 54 = .ok (.iconst 1, 1) := dk_4 (dk_at dksX2_beside_2 6 rfl rfl)
theorem dX2_beside_55 : decode cX2_beside 55 = .ok (.goto 4, 3) := dk_167 0 4 (dk_at dksX2_beside_2 7 rfl rfl)
theorem dX2_beside_58 : decode cX2_beside 58 = .ok (.iconst 0, 1) := dk_3 (dk_at dksX2_beside_2 10 rfl rfl)
theorem dX2_beside_59 : decode cX2_beside 59 = .ok (.ireturn, 1) := dk_172 (dk_at dksX2_beside_2 11 rfl rfl)
theorem dX2_beside_60 : decode cX2_beside 60 = .ok (.iload 5, 2) := dk_21 5 (dk_at dksX2_beside_2 12 rfl rfl)
theorem dX2_beside_62 : decode cX2_beside 62 = .ok (.ifCond .le 22, 3) := dk_158 0 22 (dk_at dksX2_beside_2 14 rfl rfl)
theorem dX2_beside_65 : decode cX2_beside 65 = .ok (.iload 5, 2) := dk_21 5 (dk_at dksX2_beside_2 17 rfl rfl)
theorem dX2_beside_67 : decode cX2_beside 67 = .ok (.iconst 1, 1) := dk_4 (dk_at dksX2_beside_2 19 rfl rfl)
theorem dX2_beside_68 : decode cX2_beside 68 = .ok (.if_icmp .eq 12, 3) := dk_159 0 12 (dk_at dksX2_beside_2 20 rfl rfl)
theorem dX2_beside_71 : decode cX2_beside 71 = .ok (.iload 5, 2) := dk_21 5 (dk_at dksX2_beside_3 0 rfl rfl)
theorem dX2_beside_73 : decode cX2_beside 73 = .ok (.iload 4, 2) := dk_21 4 (dk_at dksX2_beside_3 2 rfl rfl)
theorem dX2_beside_75 : decode cX2_beside 75 = .ok (.iconst 1, 1) := dk_4 (dk_at dksX2_beside_3 4 rfl rfl)
theorem dX2_beside_76 : decode cX2_beside 76 = .ok (.isub, 1) := dk_100 (dk_at dksX2_beside_3 5 rfl rfl)
theorem dX2_beside_77 : decode cX2_beside 77 = .ok (.if_icmp .ne 7, 3) := dk_160 0 7 (dk_at dksX2_beside_3 6 rfl rfl)
theorem dX2_beside_80 : decode cX2_beside 80 = .ok (.iconst 1, 1) := dk_4 (dk_at dksX2_beside_3 9 rfl rfl)
theorem dX2_beside_81 : decode cX2_beside 81 = .ok (.goto 4, 3) := dk_167 0 4 (dk_at dksX2_beside_3 10 rfl rfl)
theorem dX2_beside_84 : decode cX2_beside 84 = .ok (.iconst 0, 1) := dk_3 (dk_at dksX2_beside_3 13 rfl rfl)
theorem dX2_beside_85 : decode cX2_beside 85 = .ok (.ireturn, 1) := dk_172 (dk_at dksX2_beside_3 14 rfl rfl)
theorem dX2_beside_86 : decode cX2_beside 86 = .ok (.iload 5, 2) := dk_21 5 (dk_at dksX2_beside_3 15 rfl rfl)
theorem dX2_beside_88 : decode cX2_beside 88 = .ok (.ifCond .le 16, 3) := dk_158 0 16 (dk_at dksX2_beside_3 17 rfl rfl)
theorem dX2_beside_91 : decode cX2_beside 91 = .ok (.iload_n 2, 1) := dk_28 (dk_at dksX2_beside_3 20 rfl rfl)
theorem dX2_beside_92 : decode cX2_beside 92 = .ok (.iconst 2, 1) := dk_5 (dk_at dksX2_beside_3 21 rfl rfl)
theorem dX2_beside_93 : decode cX2_beside 93 = .ok (.idiv, 1) := dk_108 (dk_at dksX2_beside_3 22 rfl rfl)
theorem dX2_beside_94 : decode cX2_beside 94 = .ok (.iload_n 3, 1) := dk_29 (dk_at dksX2_beside_3 23 rfl rfl)
theorem dX2_beside_95 : decode cX2_beside 95 = .ok (.iconst 2, 1) := dk_5 (dk_at dksX2_beside_4 0 rfl rfl)
theorem dX2_beside_96 : decode cX2_beside 96 = .ok (.idiv, 1) := dk_108 (dk_at dksX2_beside_4 1 rfl rfl)
theorem dX2_beside_97 : decode cX2_beside 97 = .ok (.if_icmp .ne 7, 3) := dk_160 0 7 (dk_at dksX2_beside_4 2 rfl rfl)
theorem dX2_beside_100 : decode cX2_beside 100 = .ok (.iconst 1, 1) := dk_4 (dk_at dksX2_beside_4 5 rfl rfl)
theorem dX2_beside_101 : decode cX2_beside 101 = .ok (.goto 4, 3) := dk_167 0 4 (dk_at dksX2_beside_4 6 rfl rfl)
theorem dX2_beside_104 : decode cX2_beside 104 = .ok (.iconst 0, 1) := dk_3 (dk_at dksX2_beside_4 9 rfl rfl)
theorem dX2_beside_105 : decode cX2_beside 105 = .ok (.ireturn, 1) := dk_172 (dk_at dksX2_beside_4 10 rfl rfl)
theorem dX2_beside_106 : decode cX2_beside 106 = .ok (.iload 5, 2) := dk_21 5 (dk_at dksX2_beside_4 11 rfl rfl)
theorem dX2_beside_108 : decode cX2_beside 108 = .ok (.iconst 1, 1) := dk_4 (dk_at dksX2_beside_4 13 rfl rfl)
theorem dX2_beside_109 : decode cX2_beside 109 = .ok (.if_icmp .ne 7, 3) := dk_160 0 7 (dk_at dksX2_beside_4 14 rfl rfl)
theorem dX2_beside_112 : decode cX2_beside 112 = .ok (.iconst 1, 1) := dk_4 (dk_at dksX2_beside_4 17 rfl rfl)
theorem dX2_beside_113 : decode cX2_beside 113 = .ok (.goto 4, 3) := dk_167 0 4 (dk_at dksX2_beside_4 18 rfl rfl)
theorem dX2_beside_116 : decode cX2_beside 116 = .ok (.iconst 0, 1) := dk_3 (dk_at dksX2_beside_4 21 rfl rfl)
theorem dX2_beside_117 : decode cX2_beside 117 = .ok (.ireturn, 1) := dk_172 (dk_at dksX2_beside_4 22 rfl rfl)
abbrev cX2_slight : ByteArray := prog_26_method_49_code
def yX2_slight : MethodName := ⟨RX2, "slight", "(IIII)I"⟩
def dkwX2_slight_5 : List UInt8 := [180, 0, 105, 29, 46, 42, 180, 0, 102, 29, 46, 3, 182, 1, 84, 167, 0, 4, 2, 172]
abbrev dktX2_slight_5 : List UInt8 := dkwX2_slight_5 ++ []
def dkwX2_slight_4 : List UInt8 := [29, 46, 172, 42, 180, 0, 26, 3, 50, 42, 180, 0, 99, 29, 46, 46, 154, 0, 24, 42, 27, 42]
abbrev dktX2_slight_4 : List UInt8 := dkwX2_slight_4 ++ dktX2_slight_5
def dkwX2_slight_3 : List UInt8 := [29, 46, 167, 0, 24, 21, 4, 4, 160, 0, 12, 42, 180, 0, 102, 29, 46, 167, 0, 9, 42, 180, 0, 105]
abbrev dktX2_slight_3 : List UInt8 := dkwX2_slight_3 ++ dktX2_slight_4
def dkwX2_slight_2 : List UInt8 := [133, 184, 0, 183, 154, 0, 5, 2, 172, 21, 4, 6, 162, 0, 39, 21, 4, 154, 0, 12, 42, 180, 0, 99]
abbrev dktX2_slight_2 : List UInt8 := dkwX2_slight_2 ++ dktX2_slight_3
def dkwX2_slight_1 : List UInt8 := [184, 0, 183, 154, 0, 5, 2, 172, 42, 27, 28, 3, 182, 1, 74, 29, 133, 9, 42, 180, 1, 61, 4, 100]
abbrev dktX2_slight_1 : List UInt8 := dkwX2_slight_1 ++ dktX2_slight_2
def dkwX2_slight_0 : List UInt8 := [42, 27, 182, 1, 41, 153, 0, 24, 42, 28, 182, 1, 51, 153, 0, 16, 21, 4, 133, 9, 20, 1, 82]
abbrev dktX2_slight_0 : List UInt8 := dkwX2_slight_0 ++ dktX2_slight_1
theorem dksX2_slight_0 : cX2_slight.data.toList.drop 0 = dktX2_slight_0 := by decide +kernel
theorem dksX2_slight_1 : cX2_slight.data.toList.drop 23 = dktX2_slight_1 := dk_seg dksX2_slight_0 23 rfl rfl
theorem dksX2_slight_2 : cX2_slight.data.toList.drop 47 = dktX2_slight_2 := dk_seg dksX2_slight_1 24 rfl rfl
theorem dksX2_slight_3 : cX2_slight.data.toList.drop 71 = dktX2_slight_3 := dk_seg dksX2_slight_2 24 rfl rfl
theorem dksX2_slight_4 : cX2_slight.data.toList.drop 95 = dktX2_slight_4 := dk_seg dksX2_slight_3 24 rfl rfl
theorem dksX2_slight_5 : cX2_slight.data.toList.drop 117 = dktX2_slight_5 := dk_seg dksX2_slight_4 22 rfl rfl
theorem dX2_slight_0 : decode cX2_slight 0 = .ok (.aload_n 0, 1) := dk_42 (dk_at dksX2_slight_0 0 rfl rfl)
theorem dX2_slight_1 : decode cX2_slight 1 = .ok (.iload_n 1, 1) := dk_27 (dk_at dksX2_slight_0 1 rfl rfl)
theorem dX2_slight_2 : decode cX2_slight 2 = .ok (.invokevirtual 297, 3) := dk_182 1 41 (dk_at dksX2_slight_0 2 rfl rfl)
theorem dX2_slight_5 : decode cX2_slight 5 = .ok (.ifCond .eq 24, 3) := dk_153 0 24 (dk_at dksX2_slight_0 5 rfl rfl)
theorem dX2_slight_8 : decode cX2_slight 8 = .ok (.aload_n 0, 1) := dk_42 (dk_at dksX2_slight_0 8 rfl rfl)
theorem dX2_slight_9 : decode cX2_slight 9 = .ok (.iload_n 2, 1) := dk_28 (dk_at dksX2_slight_0 9 rfl rfl)
theorem dX2_slight_10 : decode cX2_slight 10 = .ok (.invokevirtual 307, 3) := dk_182 1 51 (dk_at dksX2_slight_0 10 rfl rfl)
theorem dX2_slight_13 : decode cX2_slight 13 = .ok (.ifCond .eq 16, 3) := dk_153 0 16 (dk_at dksX2_slight_0 13 rfl rfl)
theorem dX2_slight_16 : decode cX2_slight 16 = .ok (.iload 4, 2) := dk_21 4 (dk_at dksX2_slight_0 16 rfl rfl)
theorem dX2_slight_18 : decode cX2_slight 18 = .ok (.i2l, 1) := dk_133 (dk_at dksX2_slight_0 18 rfl rfl)
theorem dX2_slight_19 : decode cX2_slight 19 = .ok (.lconst 0, 1) := dk_9 (dk_at dksX2_slight_0 19 rfl rfl)
theorem dX2_slight_20 : decode cX2_slight 20 = .ok (.ldc2_w 338, 3) := dk_20 1 82 (dk_at dksX2_slight_0 20 rfl rfl)
theorem dX2_slight_23 : decode cX2_slight 23 = .ok (.invokestatic 183, 3) := dk_184 0 183 (dk_at dksX2_slight_1 0 rfl rfl)
theorem dX2_slight_26 : decode cX2_slight 26 = .ok (.ifCond .ne 5, 3) := dk_154 0 5 (dk_at dksX2_slight_1 3 rfl rfl)
theorem dX2_slight_29 : decode cX2_slight 29 = .ok (.iconst (-1), 1) := dk_2 (dk_at dksX2_slight_1 6 rfl rfl)
theorem dX2_slight_30 : decode cX2_slight 30 = .ok (.ireturn, 1) := dk_172 (dk_at dksX2_slight_1 7 rfl rfl)
theorem dX2_slight_31 : decode cX2_slight 31 = .ok (.aload_n 0, 1) := dk_42 (dk_at dksX2_slight_1 8 rfl rfl)
theorem dX2_slight_32 : decode cX2_slight 32 = .ok (.iload_n 1, 1) := dk_27 (dk_at dksX2_slight_1 9 rfl rfl)
theorem dX2_slight_33 : decode cX2_slight 33 = .ok (.iload_n 2, 1) := dk_28 (dk_at dksX2_slight_1 10 rfl rfl)
theorem dX2_slight_34 : decode cX2_slight 34 = .ok (.iconst 0, 1) := dk_3 (dk_at dksX2_slight_1 11 rfl rfl)
theorem dX2_slight_35 : decode cX2_slight 35 = .ok (.invokevirtual 330, 3) := dk_182 1 74 (dk_at dksX2_slight_1 12 rfl rfl)
theorem dX2_slight_38 : decode cX2_slight 38 = .ok (.iload_n 3, 1) := dk_29 (dk_at dksX2_slight_1 15 rfl rfl)
theorem dX2_slight_39 : decode cX2_slight 39 = .ok (.i2l, 1) := dk_133 (dk_at dksX2_slight_1 16 rfl rfl)
theorem dX2_slight_40 : decode cX2_slight 40 = .ok (.lconst 0, 1) := dk_9 (dk_at dksX2_slight_1 17 rfl rfl)
theorem dX2_slight_41 : decode cX2_slight 41 = .ok (.aload_n 0, 1) := dk_42 (dk_at dksX2_slight_1 18 rfl rfl)
theorem dX2_slight_42 : decode cX2_slight 42 = .ok (.getfield 317, 3) := dk_180 1 61 (dk_at dksX2_slight_1 19 rfl rfl)
theorem dX2_slight_45 : decode cX2_slight 45 = .ok (.iconst 1, 1) := dk_4 (dk_at dksX2_slight_1 22 rfl rfl)
theorem dX2_slight_46 : decode cX2_slight 46 = .ok (.isub, 1) := dk_100 (dk_at dksX2_slight_1 23 rfl rfl)
theorem dX2_slight_47 : decode cX2_slight 47 = .ok (.i2l, 1) := dk_133 (dk_at dksX2_slight_2 0 rfl rfl)
theorem dX2_slight_48 : decode cX2_slight 48 = .ok (.invokestatic 183, 3) := dk_184 0 183 (dk_at dksX2_slight_2 1 rfl rfl)
theorem dX2_slight_51 : decode cX2_slight 51 = .ok (.ifCond .ne 5, 3) := dk_154 0 5 (dk_at dksX2_slight_2 4 rfl rfl)
theorem dX2_slight_54 : decode cX2_slight 54 = .ok (.iconst (-1), 1) := dk_2 (dk_at dksX2_slight_2 7 rfl rfl)
theorem dX2_slight_55 : decode cX2_slight 55 = .ok (.ireturn, 1) := dk_172 (dk_at dksX2_slight_2 8 rfl rfl)
theorem dX2_slight_56 : decode cX2_slight 56 = .ok (.iload 4, 2) := dk_21 4 (dk_at dksX2_slight_2 9 rfl rfl)
theorem dX2_slight_58 : decode cX2_slight 58 = .ok (.iconst 3, 1) := dk_6 (dk_at dksX2_slight_2 11 rfl rfl)
theorem dX2_slight_59 : decode cX2_slight 59 = .ok (.if_icmp .ge 39, 3) := dk_162 0 39 (dk_at dksX2_slight_2 12 rfl rfl)
theorem dX2_slight_62 : decode cX2_slight 62 = .ok (.iload 4, 2) := dk_21 4 (dk_at dksX2_slight_2 15 rfl rfl)
theorem dX2_slight_64 : decode cX2_slight 64 = .ok (.ifCond .ne 12, 3) := dk_154 0 12 (dk_at dksX2_slight_2 17 rfl rfl)
theorem dX2_slight_67 : decode cX2_slight 67 = .ok (.aload_n 0, 1) := dk_42 (dk_at dksX2_slight_2 20 rfl rfl)
theorem dX2_slight_68 : decode cX2_slight 68 = .ok (.getfield 99, 3) := dk_180 0 99 (dk_at dksX2_slight_2 21 rfl rfl)
theorem dX2_slight_71 : decode cX2_slight 71 = .ok (.iload_n 3, 1) := dk_29 (dk_at dksX2_slight_3 0 rfl rfl)
theorem dX2_slight_72 : decode cX2_slight 72 = .ok (.iaload, 1) := dk_46 (dk_at dksX2_slight_3 1 rfl rfl)
theorem dX2_slight_73 : decode cX2_slight 73 = .ok (.goto 24, 3) := dk_167 0 24 (dk_at dksX2_slight_3 2 rfl rfl)
theorem dX2_slight_76 : decode cX2_slight 76 = .ok (.iload 4, 2) := dk_21 4 (dk_at dksX2_slight_3 5 rfl rfl)
theorem dX2_slight_78 : decode cX2_slight 78 = .ok (.iconst 1, 1) := dk_4 (dk_at dksX2_slight_3 7 rfl rfl)
theorem dX2_slight_79 : decode cX2_slight 79 = .ok (.if_icmp .ne 12, 3) := dk_160 0 12 (dk_at dksX2_slight_3 8 rfl rfl)
theorem dX2_slight_82 : decode cX2_slight 82 = .ok (.aload_n 0, 1) := dk_42 (dk_at dksX2_slight_3 11 rfl rfl)
theorem dX2_slight_83 : decode cX2_slight 83 = .ok (.getfield 102, 3) := dk_180 0 102 (dk_at dksX2_slight_3 12 rfl rfl)
theorem dX2_slight_86 : decode cX2_slight 86 = .ok (.iload_n 3, 1) := dk_29 (dk_at dksX2_slight_3 15 rfl rfl)
theorem dX2_slight_87 : decode cX2_slight 87 = .ok (.iaload, 1) := dk_46 (dk_at dksX2_slight_3 16 rfl rfl)
theorem dX2_slight_88 : decode cX2_slight 88 = .ok (.goto 9, 3) := dk_167 0 9 (dk_at dksX2_slight_3 17 rfl rfl)
theorem dX2_slight_91 : decode cX2_slight 91 = .ok (.aload_n 0, 1) := dk_42 (dk_at dksX2_slight_3 20 rfl rfl)
theorem dX2_slight_92 : decode cX2_slight 92 = .ok (.getfield 105, 3) := dk_180 0 105 (dk_at dksX2_slight_3 21 rfl rfl)
theorem dX2_slight_95 : decode cX2_slight 95 = .ok (.iload_n 3, 1) := dk_29 (dk_at dksX2_slight_4 0 rfl rfl)
theorem dX2_slight_96 : decode cX2_slight 96 = .ok (.iaload, 1) := dk_46 (dk_at dksX2_slight_4 1 rfl rfl)
theorem dX2_slight_97 : decode cX2_slight 97 = .ok (.ireturn, 1) := dk_172 (dk_at dksX2_slight_4 2 rfl rfl)
theorem dX2_slight_98 : decode cX2_slight 98 = .ok (.aload_n 0, 1) := dk_42 (dk_at dksX2_slight_4 3 rfl rfl)
theorem dX2_slight_99 : decode cX2_slight 99 = .ok (.getfield 26, 3) := dk_180 0 26 (dk_at dksX2_slight_4 4 rfl rfl)
theorem dX2_slight_102 : decode cX2_slight 102 = .ok (.iconst 0, 1) := dk_3 (dk_at dksX2_slight_4 7 rfl rfl)
theorem dX2_slight_103 : decode cX2_slight 103 = .ok (.aaload, 1) := dk_50 (dk_at dksX2_slight_4 8 rfl rfl)
theorem dX2_slight_104 : decode cX2_slight 104 = .ok (.aload_n 0, 1) := dk_42 (dk_at dksX2_slight_4 9 rfl rfl)
theorem dX2_slight_105 : decode cX2_slight 105 = .ok (.getfield 99, 3) := dk_180 0 99 (dk_at dksX2_slight_4 10 rfl rfl)
theorem dX2_slight_108 : decode cX2_slight 108 = .ok (.iload_n 3, 1) := dk_29 (dk_at dksX2_slight_4 13 rfl rfl)
theorem dX2_slight_109 : decode cX2_slight 109 = .ok (.iaload, 1) := dk_46 (dk_at dksX2_slight_4 14 rfl rfl)
theorem dX2_slight_110 : decode cX2_slight 110 = .ok (.iaload, 1) := dk_46 (dk_at dksX2_slight_4 15 rfl rfl)
theorem dX2_slight_111 : decode cX2_slight 111 = .ok (.ifCond .ne 24, 3) := dk_154 0 24 (dk_at dksX2_slight_4 16 rfl rfl)
theorem dX2_slight_114 : decode cX2_slight 114 = .ok (.aload_n 0, 1) := dk_42 (dk_at dksX2_slight_4 19 rfl rfl)
theorem dX2_slight_115 : decode cX2_slight 115 = .ok (.iload_n 1, 1) := dk_27 (dk_at dksX2_slight_4 20 rfl rfl)
theorem dX2_slight_116 : decode cX2_slight 116 = .ok (.aload_n 0, 1) := dk_42 (dk_at dksX2_slight_4 21 rfl rfl)
theorem dX2_slight_117 : decode cX2_slight 117 = .ok (.getfield 105, 3) := dk_180 0 105 (dk_at dksX2_slight_5 0 rfl rfl)
theorem dX2_slight_120 : decode cX2_slight 120 = .ok (.iload_n 3, 1) := dk_29 (dk_at dksX2_slight_5 3 rfl rfl)
theorem dX2_slight_121 : decode cX2_slight 121 = .ok (.iaload, 1) := dk_46 (dk_at dksX2_slight_5 4 rfl rfl)
theorem dX2_slight_122 : decode cX2_slight 122 = .ok (.aload_n 0, 1) := dk_42 (dk_at dksX2_slight_5 5 rfl rfl)
theorem dX2_slight_123 : decode cX2_slight 123 = .ok (.getfield 102, 3) := dk_180 0 102 (dk_at dksX2_slight_5 6 rfl rfl)
theorem dX2_slight_126 : decode cX2_slight 126 = .ok (.iload_n 3, 1) := dk_29 (dk_at dksX2_slight_5 9 rfl rfl)
theorem dX2_slight_127 : decode cX2_slight 127 = .ok (.iaload, 1) := dk_46 (dk_at dksX2_slight_5 10 rfl rfl)
theorem dX2_slight_128 : decode cX2_slight 128 = .ok (.iconst 0, 1) := dk_3 (dk_at dksX2_slight_5 11 rfl rfl)
theorem dX2_slight_129 : decode cX2_slight 129 = .ok (.invokevirtual 340, 3) := dk_182 1 84 (dk_at dksX2_slight_5 12 rfl rfl)
theorem dX2_slight_132 : decode cX2_slight 132 = .ok (.goto 4, 3) := dk_167 0 4 (dk_at dksX2_slight_5 15 rfl rfl)
theorem dX2_slight_135 : decode cX2_slight 135 = .ok (.iconst (-1), 1) := dk_2 (dk_at dksX2_slight_5 18 rfl rfl)
theorem dX2_slight_136 : decode cX2_slight 136 = .ok (.ireturn, 1) := dk_172 (dk_at dksX2_slight_5 19 rfl rfl)
abbrev cX2_sourceOf : ByteArray := prog_26_method_48_code
def yX2_sourceOf : MethodName := ⟨RX2, "sourceOf", "(IIII)I"⟩
def dkwX2_sourceOf_3 : List UInt8 := [180, 0, 35, 3, 50, 21, 5, 46, 164, 0, 7, 21, 6, 54, 5, 132, 6, 1, 167, 255, 177, 21, 5, 172]
abbrev dktX2_sourceOf_3 : List UInt8 := dkwX2_sourceOf_3 ++ []
def dkwX2_sourceOf_2 : List UInt8 := [182, 1, 64, 153, 0, 34, 21, 5, 2, 159, 0, 24, 42, 180, 0, 35, 3, 50, 21, 6, 46, 42]
abbrev dktX2_sourceOf_2 : List UInt8 := dkwX2_sourceOf_2 ++ dktX2_sourceOf_3
def dkwX2_sourceOf_1 : List UInt8 := [21, 6, 46, 154, 0, 56, 21, 4, 21, 6, 122, 4, 126, 154, 0, 46, 42, 21, 6, 27, 28, 29]
abbrev dktX2_sourceOf_1 : List UInt8 := dkwX2_sourceOf_1 ++ dktX2_sourceOf_2
def dkwX2_sourceOf_0 : List UInt8 := [2, 54, 5, 3, 54, 6, 21, 6, 42, 180, 0, 51, 3, 46, 162, 0, 74, 42, 180, 0, 26, 3, 50]
abbrev dktX2_sourceOf_0 : List UInt8 := dkwX2_sourceOf_0 ++ dktX2_sourceOf_1
theorem dksX2_sourceOf_0 : cX2_sourceOf.data.toList.drop 0 = dktX2_sourceOf_0 := by decide +kernel
theorem dksX2_sourceOf_1 : cX2_sourceOf.data.toList.drop 23 = dktX2_sourceOf_1 := dk_seg dksX2_sourceOf_0 23 rfl rfl
theorem dksX2_sourceOf_2 : cX2_sourceOf.data.toList.drop 45 = dktX2_sourceOf_2 := dk_seg dksX2_sourceOf_1 22 rfl rfl
theorem dksX2_sourceOf_3 : cX2_sourceOf.data.toList.drop 67 = dktX2_sourceOf_3 := dk_seg dksX2_sourceOf_2 22 rfl rfl
theorem dX2_sourceOf_0 : decode cX2_sourceOf 0 = .ok (.iconst (-1), 1) := dk_2 (dk_at dksX2_sourceOf_0 0 rfl rfl)
theorem dX2_sourceOf_1 : decode cX2_sourceOf 1 = .ok (.istore 5, 2) := dk_54 5 (dk_at dksX2_sourceOf_0 1 rfl rfl)
theorem dX2_sourceOf_3 : decode cX2_sourceOf 3 = .ok (.iconst 0, 1) := dk_3 (dk_at dksX2_sourceOf_0 3 rfl rfl)
theorem dX2_sourceOf_4 : decode cX2_sourceOf 4 = .ok (.istore 6, 2) := dk_54 6 (dk_at dksX2_sourceOf_0 4 rfl rfl)
theorem dX2_sourceOf_6 : decode cX2_sourceOf 6 = .ok (.iload 6, 2) := dk_21 6 (dk_at dksX2_sourceOf_0 6 rfl rfl)
theorem dX2_sourceOf_8 : decode cX2_sourceOf 8 = .ok (.aload_n 0, 1) := dk_42 (dk_at dksX2_sourceOf_0 8 rfl rfl)
theorem dX2_sourceOf_9 : decode cX2_sourceOf 9 = .ok (.getfield 51, 3) := dk_180 0 51 (dk_at dksX2_sourceOf_0 9 rfl rfl)
theorem dX2_sourceOf_12 : decode cX2_sourceOf 12 = .ok (.iconst 0, 1) := dk_3 (dk_at dksX2_sourceOf_0 12 rfl rfl)
theorem dX2_sourceOf_13 : decode cX2_sourceOf 13 = .ok (.iaload, 1) := dk_46 (dk_at dksX2_sourceOf_0 13 rfl rfl)
theorem dX2_sourceOf_14 : decode cX2_sourceOf 14 = .ok (.if_icmp .ge 74, 3) := dk_162 0 74 (dk_at dksX2_sourceOf_0 14 rfl rfl)
theorem dX2_sourceOf_17 : decode cX2_sourceOf 17 = .ok (.aload_n 0, 1) := dk_42 (dk_at dksX2_sourceOf_0 17 rfl rfl)
theorem dX2_sourceOf_18 : decode cX2_sourceOf 18 = .ok (.getfield 26, 3) := dk_180 0 26 (dk_at dksX2_sourceOf_0 18 rfl rfl)
theorem dX2_sourceOf_21 : decode cX2_sourceOf 21 = .ok (.iconst 0, 1) := dk_3 (dk_at dksX2_sourceOf_0 21 rfl rfl)
theorem dX2_sourceOf_22 : decode cX2_sourceOf 22 = .ok (.aaload, 1) := dk_50 (dk_at dksX2_sourceOf_0 22 rfl rfl)
theorem dX2_sourceOf_23 : decode cX2_sourceOf 23 = .ok (.iload 6, 2) := dk_21 6 (dk_at dksX2_sourceOf_1 0 rfl rfl)
theorem dX2_sourceOf_25 : decode cX2_sourceOf 25 = .ok (.iaload, 1) := dk_46 (dk_at dksX2_sourceOf_1 2 rfl rfl)
theorem dX2_sourceOf_26 : decode cX2_sourceOf 26 = .ok (.ifCond .ne 56, 3) := dk_154 0 56 (dk_at dksX2_sourceOf_1 3 rfl rfl)
theorem dX2_sourceOf_29 : decode cX2_sourceOf 29 = .ok (.iload 4, 2) := dk_21 4 (dk_at dksX2_sourceOf_1 6 rfl rfl)
theorem dX2_sourceOf_31 : decode cX2_sourceOf 31 = .ok (.iload 6, 2) := dk_21 6 (dk_at dksX2_sourceOf_1 8 rfl rfl)
theorem dX2_sourceOf_33 : decode cX2_sourceOf 33 = .ok (.ishr, 1) := dk_122 (dk_at dksX2_sourceOf_1 10 rfl rfl)
theorem dX2_sourceOf_34 : decode cX2_sourceOf 34 = .ok (.iconst 1, 1) := dk_4 (dk_at dksX2_sourceOf_1 11 rfl rfl)
theorem dX2_sourceOf_35 : decode cX2_sourceOf 35 = .ok (.iand, 1) := dk_126 (dk_at dksX2_sourceOf_1 12 rfl rfl)
theorem dX2_sourceOf_36 : decode cX2_sourceOf 36 = .ok (.ifCond .ne 46, 3) := dk_154 0 46 (dk_at dksX2_sourceOf_1 13 rfl rfl)
theorem dX2_sourceOf_39 : decode cX2_sourceOf 39 = .ok (.aload_n 0, 1) := dk_42 (dk_at dksX2_sourceOf_1 16 rfl rfl)
theorem dX2_sourceOf_40 : decode cX2_sourceOf 40 = .ok (.iload 6, 2) := dk_21 6 (dk_at dksX2_sourceOf_1 17 rfl rfl)
theorem dX2_sourceOf_42 : decode cX2_sourceOf 42 = .ok (.iload_n 1, 1) := dk_27 (dk_at dksX2_sourceOf_1 19 rfl rfl)
theorem dX2_sourceOf_43 : decode cX2_sourceOf 43 = .ok (.iload_n 2, 1) := dk_28 (dk_at dksX2_sourceOf_1 20 rfl rfl)
theorem dX2_sourceOf_44 : decode cX2_sourceOf 44 = .ok (.iload_n 3, 1) := dk_29 (dk_at dksX2_sourceOf_1 21 rfl rfl)
theorem dX2_sourceOf_45 : decode cX2_sourceOf 45 = .ok (.invokevirtual 320, 3) := dk_182 1 64 (dk_at dksX2_sourceOf_2 0 rfl rfl)
theorem dX2_sourceOf_48 : decode cX2_sourceOf 48 = .ok (.ifCond .eq 34, 3) := dk_153 0 34 (dk_at dksX2_sourceOf_2 3 rfl rfl)
theorem dX2_sourceOf_51 : decode cX2_sourceOf 51 = .ok (.iload 5, 2) := dk_21 5 (dk_at dksX2_sourceOf_2 6 rfl rfl)
theorem dX2_sourceOf_53 : decode cX2_sourceOf 53 = .ok (.iconst (-1), 1) := dk_2 (dk_at dksX2_sourceOf_2 8 rfl rfl)
theorem dX2_sourceOf_54 : decode cX2_sourceOf 54 = .ok (.if_icmp .eq 24, 3) := dk_159 0 24 (dk_at dksX2_sourceOf_2 9 rfl rfl)
theorem dX2_sourceOf_57 : decode cX2_sourceOf 57 = .ok (.aload_n 0, 1) := dk_42 (dk_at dksX2_sourceOf_2 12 rfl rfl)
theorem dX2_sourceOf_58 : decode cX2_sourceOf 58 = .ok (.getfield 35, 3) := dk_180 0 35 (dk_at dksX2_sourceOf_2 13 rfl rfl)
theorem dX2_sourceOf_61 : decode cX2_sourceOf 61 = .ok (.iconst 0, 1) := dk_3 (dk_at dksX2_sourceOf_2 16 rfl rfl)
theorem dX2_sourceOf_62 : decode cX2_sourceOf 62 = .ok (.aaload, 1) := dk_50 (dk_at dksX2_sourceOf_2 17 rfl rfl)
theorem dX2_sourceOf_63 : decode cX2_sourceOf 63 = .ok (.iload 6, 2) := dk_21 6 (dk_at dksX2_sourceOf_2 18 rfl rfl)
theorem dX2_sourceOf_65 : decode cX2_sourceOf 65 = .ok (.iaload, 1) := dk_46 (dk_at dksX2_sourceOf_2 20 rfl rfl)
theorem dX2_sourceOf_66 : decode cX2_sourceOf 66 = .ok (.aload_n 0, 1) := dk_42 (dk_at dksX2_sourceOf_2 21 rfl rfl)
theorem dX2_sourceOf_67 : decode cX2_sourceOf 67 = .ok (.getfield 35, 3) := dk_180 0 35 (dk_at dksX2_sourceOf_3 0 rfl rfl)
theorem dX2_sourceOf_70 : decode cX2_sourceOf 70 = .ok (.iconst 0, 1) := dk_3 (dk_at dksX2_sourceOf_3 3 rfl rfl)
theorem dX2_sourceOf_71 : decode cX2_sourceOf 71 = .ok (.aaload, 1) := dk_50 (dk_at dksX2_sourceOf_3 4 rfl rfl)
theorem dX2_sourceOf_72 : decode cX2_sourceOf 72 = .ok (.iload 5, 2) := dk_21 5 (dk_at dksX2_sourceOf_3 5 rfl rfl)
theorem dX2_sourceOf_74 : decode cX2_sourceOf 74 = .ok (.iaload, 1) := dk_46 (dk_at dksX2_sourceOf_3 7 rfl rfl)
theorem dX2_sourceOf_75 : decode cX2_sourceOf 75 = .ok (.if_icmp .le 7, 3) := dk_164 0 7 (dk_at dksX2_sourceOf_3 8 rfl rfl)
theorem dX2_sourceOf_78 : decode cX2_sourceOf 78 = .ok (.iload 6, 2) := dk_21 6 (dk_at dksX2_sourceOf_3 11 rfl rfl)
theorem dX2_sourceOf_80 : decode cX2_sourceOf 80 = .ok (.istore 5, 2) := dk_54 5 (dk_at dksX2_sourceOf_3 13 rfl rfl)
theorem dX2_sourceOf_82 : decode cX2_sourceOf 82 = .ok (.iinc 6 1, 3) := dk_132 6 1 (dk_at dksX2_sourceOf_3 15 rfl rfl)
theorem dX2_sourceOf_85 : decode cX2_sourceOf 85 = .ok (.goto (-79), 3) := dk_167 255 177 (dk_at dksX2_sourceOf_3 18 rfl rfl)
theorem dX2_sourceOf_88 : decode cX2_sourceOf 88 = .ok (.iload 5, 2) := dk_21 5 (dk_at dksX2_sourceOf_3 21 rfl rfl)
theorem dX2_sourceOf_90 : decode cX2_sourceOf 90 = .ok (.ireturn, 1) := dk_172 (dk_at dksX2_sourceOf_3 23 rfl rfl)
abbrev cX2_minds : ByteArray := prog_26_method_50_code
def yX2_minds : MethodName := ⟨RX2, "minds", "(III)I"⟩
def dkwX2_minds_4 : List UInt8 := [21, 4, 46, 164, 0, 7, 21, 5, 54, 4, 132, 5, 1, 167, 255, 205, 21, 4, 172]
abbrev dktX2_minds_4 : List UInt8 := dkwX2_minds_4 ++ []
def dkwX2_minds_3 : List UInt8 := [21, 5, 46, 158, 0, 30, 21, 4, 2, 159, 0, 20, 42, 180, 0, 108, 21, 5, 46, 42, 180, 0, 108]
abbrev dktX2_minds_3 : List UInt8 := dkwX2_minds_3 ++ dktX2_minds_4
def dkwX2_minds_2 : List UInt8 := [29, 46, 172, 2, 54, 4, 3, 54, 5, 21, 5, 42, 180, 0, 44, 3, 46, 162, 0, 46, 42, 180, 0, 108]
abbrev dktX2_minds_2 : List UInt8 := dkwX2_minds_2 ++ dktX2_minds_3
def dkwX2_minds_1 : List UInt8 := [182, 1, 19, 154, 0, 5, 2, 172, 42, 27, 28, 3, 182, 1, 74, 29, 2, 159, 0, 10, 42, 180, 0, 108]
abbrev dktX2_minds_1 : List UInt8 := dkwX2_minds_1 ++ dktX2_minds_2
def dkwX2_minds_0 : List UInt8 := [42, 27, 182, 1, 41, 153, 0, 24, 42, 28, 182, 1, 51, 153, 0, 16, 29, 2, 159, 0, 13, 42, 29]
abbrev dktX2_minds_0 : List UInt8 := dkwX2_minds_0 ++ dktX2_minds_1
theorem dksX2_minds_0 : cX2_minds.data.toList.drop 0 = dktX2_minds_0 := by decide +kernel
theorem dksX2_minds_1 : cX2_minds.data.toList.drop 23 = dktX2_minds_1 := dk_seg dksX2_minds_0 23 rfl rfl
theorem dksX2_minds_2 : cX2_minds.data.toList.drop 47 = dktX2_minds_2 := dk_seg dksX2_minds_1 24 rfl rfl
theorem dksX2_minds_3 : cX2_minds.data.toList.drop 71 = dktX2_minds_3 := dk_seg dksX2_minds_2 24 rfl rfl
theorem dksX2_minds_4 : cX2_minds.data.toList.drop 94 = dktX2_minds_4 := dk_seg dksX2_minds_3 23 rfl rfl
theorem dX2_minds_0 : decode cX2_minds 0 = .ok (.aload_n 0, 1) := dk_42 (dk_at dksX2_minds_0 0 rfl rfl)
theorem dX2_minds_1 : decode cX2_minds 1 = .ok (.iload_n 1, 1) := dk_27 (dk_at dksX2_minds_0 1 rfl rfl)
theorem dX2_minds_2 : decode cX2_minds 2 = .ok (.invokevirtual 297, 3) := dk_182 1 41 (dk_at dksX2_minds_0 2 rfl rfl)
theorem dX2_minds_5 : decode cX2_minds 5 = .ok (.ifCond .eq 24, 3) := dk_153 0 24 (dk_at dksX2_minds_0 5 rfl rfl)
theorem dX2_minds_8 : decode cX2_minds 8 = .ok (.aload_n 0, 1) := dk_42 (dk_at dksX2_minds_0 8 rfl rfl)
theorem dX2_minds_9 : decode cX2_minds 9 = .ok (.iload_n 2, 1) := dk_28 (dk_at dksX2_minds_0 9 rfl rfl)
theorem dX2_minds_10 : decode cX2_minds 10 = .ok (.invokevirtual 307, 3) := dk_182 1 51 (dk_at dksX2_minds_0 10 rfl rfl)
theorem dX2_minds_13 : decode cX2_minds 13 = .ok (.ifCond .eq 16, 3) := dk_153 0 16 (dk_at dksX2_minds_0 13 rfl rfl)
theorem dX2_minds_16 : decode cX2_minds 16 = .ok (.iload_n 3, 1) := dk_29 (dk_at dksX2_minds_0 16 rfl rfl)
theorem dX2_minds_17 : decode cX2_minds 17 = .ok (.iconst (-1), 1) := dk_2 (dk_at dksX2_minds_0 17 rfl rfl)
theorem dX2_minds_18 : decode cX2_minds 18 = .ok (.if_icmp .eq 13, 3) := dk_159 0 13 (dk_at dksX2_minds_0 18 rfl rfl)
theorem dX2_minds_21 : decode cX2_minds 21 = .ok (.aload_n 0, 1) := dk_42 (dk_at dksX2_minds_0 21 rfl rfl)
theorem dX2_minds_22 : decode cX2_minds 22 = .ok (.iload_n 3, 1) := dk_29 (dk_at dksX2_minds_0 22 rfl rfl)
theorem dX2_minds_23 : decode cX2_minds 23 = .ok (.invokevirtual 275, 3) := dk_182 1 19 (dk_at dksX2_minds_1 0 rfl rfl)
theorem dX2_minds_26 : decode cX2_minds 26 = .ok (.ifCond .ne 5, 3) := dk_154 0 5 (dk_at dksX2_minds_1 3 rfl rfl)
theorem dX2_minds_29 : decode cX2_minds 29 = .ok (.iconst (-1), 1) := dk_2 (dk_at dksX2_minds_1 6 rfl rfl)
theorem dX2_minds_30 : decode cX2_minds 30 = .ok (.ireturn, 1) := dk_172 (dk_at dksX2_minds_1 7 rfl rfl)
theorem dX2_minds_31 : decode cX2_minds 31 = .ok (.aload_n 0, 1) := dk_42 (dk_at dksX2_minds_1 8 rfl rfl)
theorem dX2_minds_32 : decode cX2_minds 32 = .ok (.iload_n 1, 1) := dk_27 (dk_at dksX2_minds_1 9 rfl rfl)
theorem dX2_minds_33 : decode cX2_minds 33 = .ok (.iload_n 2, 1) := dk_28 (dk_at dksX2_minds_1 10 rfl rfl)
theorem dX2_minds_34 : decode cX2_minds 34 = .ok (.iconst 0, 1) := dk_3 (dk_at dksX2_minds_1 11 rfl rfl)
theorem dX2_minds_35 : decode cX2_minds 35 = .ok (.invokevirtual 330, 3) := dk_182 1 74 (dk_at dksX2_minds_1 12 rfl rfl)
theorem dX2_minds_38 : decode cX2_minds 38 = .ok (.iload_n 3, 1) := dk_29 (dk_at dksX2_minds_1 15 rfl rfl)
theorem dX2_minds_39 : decode cX2_minds 39 = .ok (.iconst (-1), 1) := dk_2 (dk_at dksX2_minds_1 16 rfl rfl)
theorem dX2_minds_40 : decode cX2_minds 40 = .ok (.if_icmp .eq 10, 3) := dk_159 0 10 (dk_at dksX2_minds_1 17 rfl rfl)
theorem dX2_minds_43 : decode cX2_minds 43 = .ok (.aload_n 0, 1) := dk_42 (dk_at dksX2_minds_1 20 rfl rfl)
theorem dX2_minds_44 : decode cX2_minds 44 = .ok (.getfield 108, 3) := dk_180 0 108 (dk_at dksX2_minds_1 21 rfl rfl)
theorem dX2_minds_47 : decode cX2_minds 47 = .ok (.iload_n 3, 1) := dk_29 (dk_at dksX2_minds_2 0 rfl rfl)
theorem dX2_minds_48 : decode cX2_minds 48 = .ok (.iaload, 1) := dk_46 (dk_at dksX2_minds_2 1 rfl rfl)
theorem dX2_minds_49 : decode cX2_minds 49 = .ok (.ireturn, 1) := dk_172 (dk_at dksX2_minds_2 2 rfl rfl)
theorem dX2_minds_50 : decode cX2_minds 50 = .ok (.iconst (-1), 1) := dk_2 (dk_at dksX2_minds_2 3 rfl rfl)
theorem dX2_minds_51 : decode cX2_minds 51 = .ok (.istore 4, 2) := dk_54 4 (dk_at dksX2_minds_2 4 rfl rfl)
theorem dX2_minds_53 : decode cX2_minds 53 = .ok (.iconst 0, 1) := dk_3 (dk_at dksX2_minds_2 6 rfl rfl)
theorem dX2_minds_54 : decode cX2_minds 54 = .ok (.istore 5, 2) := dk_54 5 (dk_at dksX2_minds_2 7 rfl rfl)
theorem dX2_minds_56 : decode cX2_minds 56 = .ok (.iload 5, 2) := dk_21 5 (dk_at dksX2_minds_2 9 rfl rfl)
theorem dX2_minds_58 : decode cX2_minds 58 = .ok (.aload_n 0, 1) := dk_42 (dk_at dksX2_minds_2 11 rfl rfl)
theorem dX2_minds_59 : decode cX2_minds 59 = .ok (.getfield 44, 3) := dk_180 0 44 (dk_at dksX2_minds_2 12 rfl rfl)
theorem dX2_minds_62 : decode cX2_minds 62 = .ok (.iconst 0, 1) := dk_3 (dk_at dksX2_minds_2 15 rfl rfl)
theorem dX2_minds_63 : decode cX2_minds 63 = .ok (.iaload, 1) := dk_46 (dk_at dksX2_minds_2 16 rfl rfl)
theorem dX2_minds_64 : decode cX2_minds 64 = .ok (.if_icmp .ge 46, 3) := dk_162 0 46 (dk_at dksX2_minds_2 17 rfl rfl)
theorem dX2_minds_67 : decode cX2_minds 67 = .ok (.aload_n 0, 1) := dk_42 (dk_at dksX2_minds_2 20 rfl rfl)
theorem dX2_minds_68 : decode cX2_minds 68 = .ok (.getfield 108, 3) := dk_180 0 108 (dk_at dksX2_minds_2 21 rfl rfl)
theorem dX2_minds_71 : decode cX2_minds 71 = .ok (.iload 5, 2) := dk_21 5 (dk_at dksX2_minds_3 0 rfl rfl)
theorem dX2_minds_73 : decode cX2_minds 73 = .ok (.iaload, 1) := dk_46 (dk_at dksX2_minds_3 2 rfl rfl)
theorem dX2_minds_74 : decode cX2_minds 74 = .ok (.ifCond .le 30, 3) := dk_158 0 30 (dk_at dksX2_minds_3 3 rfl rfl)
theorem dX2_minds_77 : decode cX2_minds 77 = .ok (.iload 4, 2) := dk_21 4 (dk_at dksX2_minds_3 6 rfl rfl)
theorem dX2_minds_79 : decode cX2_minds 79 = .ok (.iconst (-1), 1) := dk_2 (dk_at dksX2_minds_3 8 rfl rfl)
theorem dX2_minds_80 : decode cX2_minds 80 = .ok (.if_icmp .eq 20, 3) := dk_159 0 20 (dk_at dksX2_minds_3 9 rfl rfl)
theorem dX2_minds_83 : decode cX2_minds 83 = .ok (.aload_n 0, 1) := dk_42 (dk_at dksX2_minds_3 12 rfl rfl)
theorem dX2_minds_84 : decode cX2_minds 84 = .ok (.getfield 108, 3) := dk_180 0 108 (dk_at dksX2_minds_3 13 rfl rfl)
theorem dX2_minds_87 : decode cX2_minds 87 = .ok (.iload 5, 2) := dk_21 5 (dk_at dksX2_minds_3 16 rfl rfl)
theorem dX2_minds_89 : decode cX2_minds 89 = .ok (.iaload, 1) := dk_46 (dk_at dksX2_minds_3 18 rfl rfl)
theorem dX2_minds_90 : decode cX2_minds 90 = .ok (.aload_n 0, 1) := dk_42 (dk_at dksX2_minds_3 19 rfl rfl)
theorem dX2_minds_91 : decode cX2_minds 91 = .ok (.getfield 108, 3) := dk_180 0 108 (dk_at dksX2_minds_3 20 rfl rfl)
theorem dX2_minds_94 : decode cX2_minds 94 = .ok (.iload 4, 2) := dk_21 4 (dk_at dksX2_minds_4 0 rfl rfl)
theorem dX2_minds_96 : decode cX2_minds 96 = .ok (.iaload, 1) := dk_46 (dk_at dksX2_minds_4 2 rfl rfl)
theorem dX2_minds_97 : decode cX2_minds 97 = .ok (.if_icmp .le 7, 3) := dk_164 0 7 (dk_at dksX2_minds_4 3 rfl rfl)
theorem dX2_minds_100 : decode cX2_minds 100 = .ok (.iload 5, 2) := dk_21 5 (dk_at dksX2_minds_4 6 rfl rfl)
theorem dX2_minds_102 : decode cX2_minds 102 = .ok (.istore 4, 2) := dk_54 4 (dk_at dksX2_minds_4 8 rfl rfl)
theorem dX2_minds_104 : decode cX2_minds 104 = .ok (.iinc 5 1, 3) := dk_132 5 1 (dk_at dksX2_minds_4 10 rfl rfl)
theorem dX2_minds_107 : decode cX2_minds 107 = .ok (.goto (-51), 3) := dk_167 255 205 (dk_at dksX2_minds_4 13 rfl rfl)
theorem dX2_minds_110 : decode cX2_minds 110 = .ok (.iload 4, 2) := dk_21 4 (dk_at dksX2_minds_4 16 rfl rfl)
theorem dX2_minds_112 : decode cX2_minds 112 = .ok (.ireturn, 1) := dk_172 (dk_at dksX2_minds_4 18 rfl rfl)
abbrev cX2_source : ByteArray := prog_26_method_52_code
def yX2_source : MethodName := ⟨RX2, "source", "(III)I"⟩
def dkwX2_source_1 : List UInt8 := [42, 27, 28, 29, 3, 182, 1, 84, 167, 0, 4, 2, 172]
abbrev dktX2_source_1 : List UInt8 := dkwX2_source_1 ++ []
def dkwX2_source_0 : List UInt8 := [42, 27, 182, 1, 41, 153, 0, 30, 42, 28, 182, 1, 19, 153, 0, 22, 42, 29, 182, 1, 19, 153, 0, 14]
abbrev dktX2_source_0 : List UInt8 := dkwX2_source_0 ++ dktX2_source_1
theorem dksX2_source_0 : cX2_source.data.toList.drop 0 = dktX2_source_0 := by decide +kernel
theorem dksX2_source_1 : cX2_source.data.toList.drop 24 = dktX2_source_1 := dk_seg dksX2_source_0 24 rfl rfl
theorem dX2_source_0 : decode cX2_source 0 = .ok (.aload_n 0, 1) := dk_42 (dk_at dksX2_source_0 0 rfl rfl)
theorem dX2_source_1 : decode cX2_source 1 = .ok (.iload_n 1, 1) := dk_27 (dk_at dksX2_source_0 1 rfl rfl)
theorem dX2_source_2 : decode cX2_source 2 = .ok (.invokevirtual 297, 3) := dk_182 1 41 (dk_at dksX2_source_0 2 rfl rfl)
theorem dX2_source_5 : decode cX2_source 5 = .ok (.ifCond .eq 30, 3) := dk_153 0 30 (dk_at dksX2_source_0 5 rfl rfl)
theorem dX2_source_8 : decode cX2_source 8 = .ok (.aload_n 0, 1) := dk_42 (dk_at dksX2_source_0 8 rfl rfl)
theorem dX2_source_9 : decode cX2_source 9 = .ok (.iload_n 2, 1) := dk_28 (dk_at dksX2_source_0 9 rfl rfl)
theorem dX2_source_10 : decode cX2_source 10 = .ok (.invokevirtual 275, 3) := dk_182 1 19 (dk_at dksX2_source_0 10 rfl rfl)
theorem dX2_source_13 : decode cX2_source 13 = .ok (.ifCond .eq 22, 3) := dk_153 0 22 (dk_at dksX2_source_0 13 rfl rfl)
theorem dX2_source_16 : decode cX2_source 16 = .ok (.aload_n 0, 1) := dk_42 (dk_at dksX2_source_0 16 rfl rfl)
theorem dX2_source_17 : decode cX2_source 17 = .ok (.iload_n 3, 1) := dk_29 (dk_at dksX2_source_0 17 rfl rfl)
theorem dX2_source_18 : decode cX2_source 18 = .ok (.invokevirtual 275, 3) := dk_182 1 19 (dk_at dksX2_source_0 18 rfl rfl)
theorem dX2_source_21 : decode cX2_source 21 = .ok (.ifCond .eq 14, 3) := dk_153 0 14 (dk_at dksX2_source_0 21 rfl rfl)
theorem dX2_source_24 : decode cX2_source 24 = .ok (.aload_n 0, 1) := dk_42 (dk_at dksX2_source_1 0 rfl rfl)
theorem dX2_source_25 : decode cX2_source 25 = .ok (.iload_n 1, 1) := dk_27 (dk_at dksX2_source_1 1 rfl rfl)
theorem dX2_source_26 : decode cX2_source 26 = .ok (.iload_n 2, 1) := dk_28 (dk_at dksX2_source_1 2 rfl rfl)
theorem dX2_source_27 : decode cX2_source 27 = .ok (.iload_n 3, 1) := dk_29 (dk_at dksX2_source_1 3 rfl rfl)
theorem dX2_source_28 : decode cX2_source 28 = .ok (.iconst 0, 1) := dk_3 (dk_at dksX2_source_1 4 rfl rfl)
theorem dX2_source_29 : decode cX2_source 29 = .ok (.invokevirtual 340, 3) := dk_182 1 84 (dk_at dksX2_source_1 5 rfl rfl)
theorem dX2_source_32 : decode cX2_source 32 = .ok (.goto 4, 3) := dk_167 0 4 (dk_at dksX2_source_1 8 rfl rfl)
theorem dX2_source_35 : decode cX2_source 35 = .ok (.iconst (-1), 1) := dk_2 (dk_at dksX2_source_1 11 rfl rfl)
theorem dX2_source_36 : decode cX2_source 36 = .ok (.ireturn, 1) := dk_172 (dk_at dksX2_source_1 12 rfl rfl)
abbrev cX2_ring : ByteArray := prog_26_method_57_code
def yX2_ring : MethodName := ⟨RX2, "ring", "(II)I"⟩
def dkwX2_ring_7 : List UInt8 := [132, 7, 1, 167, 255, 221, 21, 7, 54, 5, 132, 6, 1, 167, 255, 202, 21, 5, 172]
abbrev dktX2_ring_7 : List UInt8 := dkwX2_ring_7 ++ []
def dkwX2_ring_6 : List UInt8 := [21, 6, 100, 4, 100, 160, 0, 19, 42, 180, 0, 111, 16, 10, 21, 5, 104, 21, 7, 96, 51, 154, 0, 9]
abbrev dktX2_ring_6 : List UInt8 := dkwX2_ring_6 ++ dktX2_ring_7
def dkwX2_ring_5 : List UInt8 := [21, 4, 54, 5, 3, 54, 6, 21, 6, 28, 162, 0, 54, 3, 54, 7, 42, 180, 0, 115, 21, 7, 46, 29]
abbrev dktX2_ring_5 : List UInt8 := dkwX2_ring_5 ++ dktX2_ring_6
def dkwX2_ring_4 : List UInt8 := [9, 29, 4, 100, 133, 184, 0, 183, 154, 0, 5, 2, 172, 42, 21, 4, 42, 182, 1, 97, 182, 1, 87]
abbrev dktX2_ring_4 : List UInt8 := dkwX2_ring_4 ++ dktX2_ring_5
def dkwX2_ring_3 : List UInt8 := [21, 5, 54, 4, 132, 5, 1, 167, 255, 203, 29, 2, 159, 0, 8, 28, 2, 160, 0, 5, 29, 172, 28, 133]
abbrev dktX2_ring_3 : List UInt8 := dkwX2_ring_3 ++ dktX2_ring_4
def dkwX2_ring_2 : List UInt8 := [21, 6, 2, 159, 0, 24, 29, 2, 159, 0, 12, 21, 6, 29, 161, 0, 6, 167, 0, 10, 21, 6, 62]
abbrev dktX2_ring_2 : List UInt8 := dkwX2_ring_2 ++ dktX2_ring_3
def dkwX2_ring_1 : List UInt8 := [21, 5, 42, 180, 0, 44, 3, 46, 162, 0, 48, 42, 21, 5, 42, 182, 1, 97, 182, 1, 91, 54, 6]
abbrev dktX2_ring_1 : List UInt8 := dkwX2_ring_1 ++ dktX2_ring_2
def dkwX2_ring_0 : List UInt8 := [42, 27, 182, 1, 41, 154, 0, 5, 2, 172, 42, 27, 3, 182, 1, 94, 2, 62, 2, 54, 4, 3, 54, 5]
abbrev dktX2_ring_0 : List UInt8 := dkwX2_ring_0 ++ dktX2_ring_1
theorem dksX2_ring_0 : cX2_ring.data.toList.drop 0 = dktX2_ring_0 := by decide +kernel
theorem dksX2_ring_1 : cX2_ring.data.toList.drop 24 = dktX2_ring_1 := dk_seg dksX2_ring_0 24 rfl rfl
theorem dksX2_ring_2 : cX2_ring.data.toList.drop 47 = dktX2_ring_2 := dk_seg dksX2_ring_1 23 rfl rfl
theorem dksX2_ring_3 : cX2_ring.data.toList.drop 70 = dktX2_ring_3 := dk_seg dksX2_ring_2 23 rfl rfl
theorem dksX2_ring_4 : cX2_ring.data.toList.drop 94 = dktX2_ring_4 := dk_seg dksX2_ring_3 24 rfl rfl
theorem dksX2_ring_5 : cX2_ring.data.toList.drop 117 = dktX2_ring_5 := dk_seg dksX2_ring_4 23 rfl rfl
theorem dksX2_ring_6 : cX2_ring.data.toList.drop 141 = dktX2_ring_6 := dk_seg dksX2_ring_5 24 rfl rfl
theorem dksX2_ring_7 : cX2_ring.data.toList.drop 165 = dktX2_ring_7 := dk_seg dksX2_ring_6 24 rfl rfl
theorem dX2_ring_0 : decode cX2_ring 0 = .ok (.aload_n 0, 1) := dk_42 (dk_at dksX2_ring_0 0 rfl rfl)
theorem dX2_ring_1 : decode cX2_ring 1 = .ok (.iload_n 1, 1) := dk_27 (dk_at dksX2_ring_0 1 rfl rfl)
theorem dX2_ring_2 : decode cX2_ring 2 = .ok (.invokevirtual 297, 3) := dk_182 1 41 (dk_at dksX2_ring_0 2 rfl rfl)
theorem dX2_ring_5 : decode cX2_ring 5 = .ok (.ifCond .ne 5, 3) := dk_154 0 5 (dk_at dksX2_ring_0 5 rfl rfl)
theorem dX2_ring_8 : decode cX2_ring 8 = .ok (.iconst (-1), 1) := dk_2 (dk_at dksX2_ring_0 8 rfl rfl)
theorem dX2_ring_9 : decode cX2_ring 9 = .ok (.ireturn, 1) := dk_172 (dk_at dksX2_ring_0 9 rfl rfl)
theorem dX2_ring_10 : decode cX2_ring 10 = .ok (.aload_n 0, 1) := dk_42 (dk_at dksX2_ring_0 10 rfl rfl)
theorem dX2_ring_11 : decode cX2_ring 11 = .ok (.iload_n 1, 1) := dk_27 (dk_at dksX2_ring_0 11 rfl rfl)
theorem dX2_ring_12 : decode cX2_ring 12 = .ok (.iconst 0, 1) := dk_3 (dk_at dksX2_ring_0 12 rfl rfl)
theorem dX2_ring_13 : decode cX2_ring 13 = .ok (.invokevirtual 350, 3) := dk_182 1 94 (dk_at dksX2_ring_0 13 rfl rfl)
theorem dX2_ring_16 : decode cX2_ring 16 = .ok (.iconst (-1), 1) := dk_2 (dk_at dksX2_ring_0 16 rfl rfl)
theorem dX2_ring_17 : decode cX2_ring 17 = .ok (.istore_n 3, 1) := dk_62 (dk_at dksX2_ring_0 17 rfl rfl)
theorem dX2_ring_18 : decode cX2_ring 18 = .ok (.iconst (-1), 1) := dk_2 (dk_at dksX2_ring_0 18 rfl rfl)
theorem dX2_ring_19 : decode cX2_ring 19 = .ok (.istore 4, 2) := dk_54 4 (dk_at dksX2_ring_0 19 rfl rfl)
theorem dX2_ring_21 : decode cX2_ring 21 = .ok (.iconst 0, 1) := dk_3 (dk_at dksX2_ring_0 21 rfl rfl)
theorem dX2_ring_22 : decode cX2_ring 22 = .ok (.istore 5, 2) := dk_54 5 (dk_at dksX2_ring_0 22 rfl rfl)
theorem dX2_ring_24 : decode cX2_ring 24 = .ok (.iload 5, 2) := dk_21 5 (dk_at dksX2_ring_1 0 rfl rfl)
theorem dX2_ring_26 : decode cX2_ring 26 = .ok (.aload_n 0, 1) := dk_42 (dk_at dksX2_ring_1 2 rfl rfl)
theorem dX2_ring_27 : decode cX2_ring 27 = .ok (.getfield 44, 3) := dk_180 0 44 (dk_at dksX2_ring_1 3 rfl rfl)
theorem dX2_ring_30 : decode cX2_ring 30 = .ok (.iconst 0, 1) := dk_3 (dk_at dksX2_ring_1 6 rfl rfl)
theorem dX2_ring_31 : decode cX2_ring 31 = .ok (.iaload, 1) := dk_46 (dk_at dksX2_ring_1 7 rfl rfl)
theorem dX2_ring_32 : decode cX2_ring 32 = .ok (.if_icmp .ge 48, 3) := dk_162 0 48 (dk_at dksX2_ring_1 8 rfl rfl)
theorem dX2_ring_35 : decode cX2_ring 35 = .ok (.aload_n 0, 1) := dk_42 (dk_at dksX2_ring_1 11 rfl rfl)
theorem dX2_ring_36 : decode cX2_ring 36 = .ok (.iload 5, 2) := dk_21 5 (dk_at dksX2_ring_1 12 rfl rfl)
theorem dX2_ring_38 : decode cX2_ring 38 = .ok (.aload_n 0, 1) := dk_42 (dk_at dksX2_ring_1 14 rfl rfl)
theorem dX2_ring_39 : decode cX2_ring 39 = .ok (.invokevirtual 353, 3) := dk_182 1 97 (dk_at dksX2_ring_1 15 rfl rfl)
theorem dX2_ring_42 : decode cX2_ring 42 = .ok (.invokevirtual 347, 3) := dk_182 1 91 (dk_at dksX2_ring_1 18 rfl rfl)
theorem dX2_ring_45 : decode cX2_ring 45 = .ok (.istore 6, 2) := dk_54 6 (dk_at dksX2_ring_1 21 rfl rfl)
theorem dX2_ring_47 : decode cX2_ring 47 = .ok (.iload 6, 2) := dk_21 6 (dk_at dksX2_ring_2 0 rfl rfl)
theorem dX2_ring_49 : decode cX2_ring 49 = .ok (.iconst (-1), 1) := dk_2 (dk_at dksX2_ring_2 2 rfl rfl)
theorem dX2_ring_50 : decode cX2_ring 50 = .ok (.if_icmp .eq 24, 3) := dk_159 0 24 (dk_at dksX2_ring_2 3 rfl rfl)
theorem dX2_ring_53 : decode cX2_ring 53 = .ok (.iload_n 3, 1) := dk_29 (dk_at dksX2_ring_2 6 rfl rfl)
theorem dX2_ring_54 : decode cX2_ring 54 = .ok (.iconst (-1), 1) := dk_2 (dk_at dksX2_ring_2 7 rfl rfl)
theorem dX2_ring_55 : decode cX2_ring 55 = .ok (.if_icmp .eq 12, 3) := dk_159 0 12 (dk_at dksX2_ring_2 8 rfl rfl)
theorem dX2_ring_58 : decode cX2_ring 58 = .ok (.iload 6, 2) := dk_21 6 (dk_at dksX2_ring_2 11 rfl rfl)
theorem dX2_ring_60 : decode cX2_ring 60 = .ok (.iload_n 3, 1) := dk_29 (dk_at dksX2_ring_2 13 rfl rfl)
theorem dX2_ring_61 : decode cX2_ring 61 = .ok (.if_icmp .lt 6, 3) := dk_161 0 6 (dk_at dksX2_ring_2 14 rfl rfl)
theorem dX2_ring_64 : decode cX2_ring 64 = .ok (.goto 10, 3) := dk_167 0 10 (dk_at dksX2_ring_2 17 rfl rfl)
theorem dX2_ring_67 : decode cX2_ring 67 = .ok (.iload 6, 2) := dk_21 6 (dk_at dksX2_ring_2 20 rfl rfl)
theorem dX2_ring_69 : decode cX2_ring 69 = .ok (.istore_n 3, 1) := dk_62 (dk_at dksX2_ring_2 22 rfl rfl)
theorem dX2_ring_70 : decode cX2_ring 70 = .ok (.iload 5, 2) := dk_21 5 (dk_at dksX2_ring_3 0 rfl rfl)
theorem dX2_ring_72 : decode cX2_ring 72 = .ok (.istore 4, 2) := dk_54 4 (dk_at dksX2_ring_3 2 rfl rfl)
theorem dX2_ring_74 : decode cX2_ring 74 = .ok (.iinc 5 1, 3) := dk_132 5 1 (dk_at dksX2_ring_3 4 rfl rfl)
theorem dX2_ring_77 : decode cX2_ring 77 = .ok (.goto (-53), 3) := dk_167 255 203 (dk_at dksX2_ring_3 7 rfl rfl)
theorem dX2_ring_80 : decode cX2_ring 80 = .ok (.iload_n 3, 1) := dk_29 (dk_at dksX2_ring_3 10 rfl rfl)
theorem dX2_ring_81 : decode cX2_ring 81 = .ok (.iconst (-1), 1) := dk_2 (dk_at dksX2_ring_3 11 rfl rfl)
theorem dX2_ring_82 : decode cX2_ring 82 = .ok (.if_icmp .eq 8, 3) := dk_159 0 8 (dk_at dksX2_ring_3 12 rfl rfl)
theorem dX2_ring_85 : decode cX2_ring 85 = .ok (.iload_n 2, 1) := dk_28 (dk_at dksX2_ring_3 15 rfl rfl)
theorem dX2_ring_86 : decode cX2_ring 86 = .ok (.iconst (-1), 1) := dk_2 (dk_at dksX2_ring_3 16 rfl rfl)
theorem dX2_ring_87 : decode cX2_ring 87 = .ok (.if_icmp .ne 5, 3) := dk_160 0 5 (dk_at dksX2_ring_3 17 rfl rfl)
theorem dX2_ring_90 : decode cX2_ring 90 = .ok (.iload_n 3, 1) := dk_29 (dk_at dksX2_ring_3 20 rfl rfl)
theorem dX2_ring_91 : decode cX2_ring 91 = .ok (.ireturn, 1) := dk_172 (dk_at dksX2_ring_3 21 rfl rfl)
theorem dX2_ring_92 : decode cX2_ring 92 = .ok (.iload_n 2, 1) := dk_28 (dk_at dksX2_ring_3 22 rfl rfl)
theorem dX2_ring_93 : decode cX2_ring 93 = .ok (.i2l, 1) := dk_133 (dk_at dksX2_ring_3 23 rfl rfl)
theorem dX2_ring_94 : decode cX2_ring 94 = .ok (.lconst 0, 1) := dk_9 (dk_at dksX2_ring_4 0 rfl rfl)
theorem dX2_ring_95 : decode cX2_ring 95 = .ok (.iload_n 3, 1) := dk_29 (dk_at dksX2_ring_4 1 rfl rfl)
theorem dX2_ring_96 : decode cX2_ring 96 = .ok (.iconst 1, 1) := dk_4 (dk_at dksX2_ring_4 2 rfl rfl)
theorem dX2_ring_97 : decode cX2_ring 97 = .ok (.isub, 1) := dk_100 (dk_at dksX2_ring_4 3 rfl rfl)
theorem dX2_ring_98 : decode cX2_ring 98 = .ok (.i2l, 1) := dk_133 (dk_at dksX2_ring_4 4 rfl rfl)
theorem dX2_ring_99 : decode cX2_ring 99 = .ok (.invokestatic 183, 3) := dk_184 0 183 (dk_at dksX2_ring_4 5 rfl rfl)
theorem dX2_ring_102 : decode cX2_ring 102 = .ok (.ifCond .ne 5, 3) := dk_154 0 5 (dk_at dksX2_ring_4 8 rfl rfl)
theorem dX2_ring_105 : decode cX2_ring 105 = .ok (.iconst (-1), 1) := dk_2 (dk_at dksX2_ring_4 11 rfl rfl)
theorem dX2_ring_106 : decode cX2_ring 106 = .ok (.ireturn, 1) := dk_172 (dk_at dksX2_ring_4 12 rfl rfl)
theorem dX2_ring_107 : decode cX2_ring 107 = .ok (.aload_n 0, 1) := dk_42 (dk_at dksX2_ring_4 13 rfl rfl)
theorem dX2_ring_108 : decode cX2_ring 108 = .ok (.iload 4, 2) := dk_21 4 (dk_at dksX2_ring_4 14 rfl rfl)
theorem dX2_ring_110 : decode cX2_ring 110 = .ok (.aload_n 0, 1) := dk_42 (dk_at dksX2_ring_4 16 rfl rfl)
theorem dX2_ring_111 : decode cX2_ring 111 = .ok (.invokevirtual 353, 3) := dk_182 1 97 (dk_at dksX2_ring_4 17 rfl rfl)
theorem dX2_ring_114 : decode cX2_ring 114 = .ok (.invokevirtual 343, 3) := dk_182 1 87 (dk_at dksX2_ring_4 20 rfl rfl)
theorem dX2_ring_117 : decode cX2_ring 117 = .ok (.iload 4, 2) := dk_21 4 (dk_at dksX2_ring_5 0 rfl rfl)
theorem dX2_ring_119 : decode cX2_ring 119 = .ok (.istore 5, 2) := dk_54 5 (dk_at dksX2_ring_5 2 rfl rfl)
theorem dX2_ring_121 : decode cX2_ring 121 = .ok (.iconst 0, 1) := dk_3 (dk_at dksX2_ring_5 4 rfl rfl)
theorem dX2_ring_122 : decode cX2_ring 122 = .ok (.istore 6, 2) := dk_54 6 (dk_at dksX2_ring_5 5 rfl rfl)
theorem dX2_ring_124 : decode cX2_ring 124 = .ok (.iload 6, 2) := dk_21 6 (dk_at dksX2_ring_5 7 rfl rfl)
theorem dX2_ring_126 : decode cX2_ring 126 = .ok (.iload_n 2, 1) := dk_28 (dk_at dksX2_ring_5 9 rfl rfl)
theorem dX2_ring_127 : decode cX2_ring 127 = .ok (.if_icmp .ge 54, 3) := dk_162 0 54 (dk_at dksX2_ring_5 10 rfl rfl)
theorem dX2_ring_130 : decode cX2_ring 130 = .ok (.iconst 0, 1) := dk_3 (dk_at dksX2_ring_5 13 rfl rfl)
theorem dX2_ring_131 : decode cX2_ring 131 = .ok (.istore 7, 2) := dk_54 7 (dk_at dksX2_ring_5 14 rfl rfl)
theorem dX2_ring_133 : decode cX2_ring 133 = .ok (.aload_n 0, 1) := dk_42 (dk_at dksX2_ring_5 16 rfl rfl)
theorem dX2_ring_134 : decode cX2_ring 134 = .ok (.getfield 115, 3) := dk_180 0 115 (dk_at dksX2_ring_5 17 rfl rfl)
theorem dX2_ring_137 : decode cX2_ring 137 = .ok (.iload 7, 2) := dk_21 7 (dk_at dksX2_ring_5 20 rfl rfl)
theorem dX2_ring_139 : decode cX2_ring 139 = .ok (.iaload, 1) := dk_46 (dk_at dksX2_ring_5 22 rfl rfl)
theorem dX2_ring_140 : decode cX2_ring 140 = .ok (.iload_n 3, 1) := dk_29 (dk_at dksX2_ring_5 23 rfl rfl)
theorem dX2_ring_141 : decode cX2_ring 141 = .ok (.iload 6, 2) := dk_21 6 (dk_at dksX2_ring_6 0 rfl rfl)
theorem dX2_ring_143 : decode cX2_ring 143 = .ok (.isub, 1) := dk_100 (dk_at dksX2_ring_6 2 rfl rfl)
theorem dX2_ring_144 : decode cX2_ring 144 = .ok (.iconst 1, 1) := dk_4 (dk_at dksX2_ring_6 3 rfl rfl)
theorem dX2_ring_145 : decode cX2_ring 145 = .ok (.isub, 1) := dk_100 (dk_at dksX2_ring_6 4 rfl rfl)
theorem dX2_ring_146 : decode cX2_ring 146 = .ok (.if_icmp .ne 19, 3) := dk_160 0 19 (dk_at dksX2_ring_6 5 rfl rfl)
theorem dX2_ring_149 : decode cX2_ring 149 = .ok (.aload_n 0, 1) := dk_42 (dk_at dksX2_ring_6 8 rfl rfl)
theorem dX2_ring_150 : decode cX2_ring 150 = .ok (.getfield 111, 3) := dk_180 0 111 (dk_at dksX2_ring_6 9 rfl rfl)
theorem dX2_ring_153 : decode cX2_ring 153 = .ok (.bipush 10, 2) := dk_16 10 (dk_at dksX2_ring_6 12 rfl rfl)
theorem dX2_ring_155 : decode cX2_ring 155 = .ok (.iload 5, 2) := dk_21 5 (dk_at dksX2_ring_6 14 rfl rfl)
theorem dX2_ring_157 : decode cX2_ring 157 = .ok (.imul, 1) := dk_104 (dk_at dksX2_ring_6 16 rfl rfl)
theorem dX2_ring_158 : decode cX2_ring 158 = .ok (.iload 7, 2) := dk_21 7 (dk_at dksX2_ring_6 17 rfl rfl)
theorem dX2_ring_160 : decode cX2_ring 160 = .ok (.iadd, 1) := dk_96 (dk_at dksX2_ring_6 19 rfl rfl)
theorem dX2_ring_161 : decode cX2_ring 161 = .ok (.baload, 1) := dk_51 (dk_at dksX2_ring_6 20 rfl rfl)
theorem dX2_ring_162 : decode cX2_ring 162 = .ok (.ifCond .ne 9, 3) := dk_154 0 9 (dk_at dksX2_ring_6 21 rfl rfl)
theorem dX2_ring_165 : decode cX2_ring 165 = .ok (.iinc 7 1, 3) := dk_132 7 1 (dk_at dksX2_ring_7 0 rfl rfl)
theorem dX2_ring_168 : decode cX2_ring 168 = .ok (.goto (-35), 3) := dk_167 255 221 (dk_at dksX2_ring_7 3 rfl rfl)
theorem dX2_ring_171 : decode cX2_ring 171 = .ok (.iload 7, 2) := dk_21 7 (dk_at dksX2_ring_7 6 rfl rfl)
theorem dX2_ring_173 : decode cX2_ring 173 = .ok (.istore 5, 2) := dk_54 5 (dk_at dksX2_ring_7 8 rfl rfl)
theorem dX2_ring_175 : decode cX2_ring 175 = .ok (.iinc 6 1, 3) := dk_132 6 1 (dk_at dksX2_ring_7 10 rfl rfl)
theorem dX2_ring_178 : decode cX2_ring 178 = .ok (.goto (-54), 3) := dk_167 255 202 (dk_at dksX2_ring_7 13 rfl rfl)
theorem dX2_ring_181 : decode cX2_ring 181 = .ok (.iload 5, 2) := dk_21 5 (dk_at dksX2_ring_7 16 rfl rfl)
theorem dX2_ring_183 : decode cX2_ring 183 = .ok (.ireturn, 1) := dk_172 (dk_at dksX2_ring_7 18 rfl rfl)
abbrev cX2_ranks : ByteArray := prog_26_method_51_code
def yX2_ranks : MethodName := ⟨RX2, "ranks", "(II)V"⟩
def dkwX2_ranks_6 : List UInt8 := [167, 255, 133, 132, 3, 1, 167, 255, 114, 177]
abbrev dktX2_ranks_6 : List UInt8 := dkwX2_ranks_6 ++ []
def dkwX2_ranks_5 : List UInt8 := [182, 1, 64, 153, 0, 7, 4, 167, 0, 4, 3, 128, 84, 132, 5, 1, 167, 255, 196, 132, 4, 1]
abbrev dktX2_ranks_5 : List UInt8 := dkwX2_ranks_5 ++ dktX2_ranks_6
def dkwX2_ranks_4 : List UInt8 := [92, 51, 42, 180, 0, 26, 3, 50, 21, 5, 46, 4, 160, 0, 20, 42, 21, 5, 27, 29, 21, 4]
abbrev dktX2_ranks_4 : List UInt8 := dkwX2_ranks_4 ++ dktX2_ranks_5
def dkwX2_ranks_3 : List UInt8 := [54, 5, 21, 5, 42, 180, 0, 51, 3, 46, 162, 0, 55, 42, 180, 0, 113, 16, 10, 29, 104, 21, 4, 96]
abbrev dktX2_ranks_3 : List UInt8 := dkwX2_ranks_3 ++ dktX2_ranks_4
def dkwX2_ranks_2 : List UInt8 := [159, 0, 7, 4, 167, 0, 4, 3, 84, 42, 180, 0, 113, 16, 10, 29, 104, 21, 4, 96, 3, 84, 3]
abbrev dktX2_ranks_2 : List UInt8 := dkwX2_ranks_2 ++ dktX2_ranks_3
def dkwX2_ranks_1 : List UInt8 := [162, 0, 118, 42, 180, 0, 111, 16, 10, 29, 104, 21, 4, 96, 42, 27, 29, 21, 4, 28, 182, 1, 84, 2]
abbrev dktX2_ranks_1 : List UInt8 := dkwX2_ranks_1 ++ dktX2_ranks_2
def dkwX2_ranks_0 : List UInt8 := [3, 62, 29, 42, 180, 0, 44, 3, 46, 162, 0, 138, 3, 54, 4, 21, 4, 42, 180, 0, 44, 3, 46]
abbrev dktX2_ranks_0 : List UInt8 := dkwX2_ranks_0 ++ dktX2_ranks_1
theorem dksX2_ranks_0 : cX2_ranks.data.toList.drop 0 = dktX2_ranks_0 := by decide +kernel
theorem dksX2_ranks_1 : cX2_ranks.data.toList.drop 23 = dktX2_ranks_1 := dk_seg dksX2_ranks_0 23 rfl rfl
theorem dksX2_ranks_2 : cX2_ranks.data.toList.drop 47 = dktX2_ranks_2 := dk_seg dksX2_ranks_1 24 rfl rfl
theorem dksX2_ranks_3 : cX2_ranks.data.toList.drop 70 = dktX2_ranks_3 := dk_seg dksX2_ranks_2 23 rfl rfl
theorem dksX2_ranks_4 : cX2_ranks.data.toList.drop 94 = dktX2_ranks_4 := dk_seg dksX2_ranks_3 24 rfl rfl
theorem dksX2_ranks_5 : cX2_ranks.data.toList.drop 116 = dktX2_ranks_5 := dk_seg dksX2_ranks_4 22 rfl rfl
theorem dksX2_ranks_6 : cX2_ranks.data.toList.drop 138 = dktX2_ranks_6 := dk_seg dksX2_ranks_5 22 rfl rfl
theorem dX2_ranks_0 : decode cX2_ranks 0 = .ok (.iconst 0, 1) := dk_3 (dk_at dksX2_ranks_0 0 rfl rfl)
theorem dX2_ranks_1 : decode cX2_ranks 1 = .ok (.istore_n 3, 1) := dk_62 (dk_at dksX2_ranks_0 1 rfl rfl)
theorem dX2_ranks_2 : decode cX2_ranks 2 = .ok (.iload_n 3, 1) := dk_29 (dk_at dksX2_ranks_0 2 rfl rfl)
theorem dX2_ranks_3 : decode cX2_ranks 3 = .ok (.aload_n 0, 1) := dk_42 (dk_at dksX2_ranks_0 3 rfl rfl)
theorem dX2_ranks_4 : decode cX2_ranks 4 = .ok (.getfield 44, 3) := dk_180 0 44 (dk_at dksX2_ranks_0 4 rfl rfl)
theorem dX2_ranks_7 : decode cX2_ranks 7 = .ok (.iconst 0, 1) := dk_3 (dk_at dksX2_ranks_0 7 rfl rfl)
theorem dX2_ranks_8 : decode cX2_ranks 8 = .ok (.iaload, 1) := dk_46 (dk_at dksX2_ranks_0 8 rfl rfl)
theorem dX2_ranks_9 : decode cX2_ranks 9 = .ok (.if_icmp .ge 138, 3) := dk_162 0 138 (dk_at dksX2_ranks_0 9 rfl rfl)
theorem dX2_ranks_12 : decode cX2_ranks 12 = .ok (.iconst 0, 1) := dk_3 (dk_at dksX2_ranks_0 12 rfl rfl)
theorem dX2_ranks_13 : decode cX2_ranks 13 = .ok (.istore 4, 2) := dk_54 4 (dk_at dksX2_ranks_0 13 rfl rfl)
theorem dX2_ranks_15 : decode cX2_ranks 15 = .ok (.iload 4, 2) := dk_21 4 (dk_at dksX2_ranks_0 15 rfl rfl)
theorem dX2_ranks_17 : decode cX2_ranks 17 = .ok (.aload_n 0, 1) := dk_42 (dk_at dksX2_ranks_0 17 rfl rfl)
theorem dX2_ranks_18 : decode cX2_ranks 18 = .ok (.getfield 44, 3) := dk_180 0 44 (dk_at dksX2_ranks_0 18 rfl rfl)
theorem dX2_ranks_21 : decode cX2_ranks 21 = .ok (.iconst 0, 1) := dk_3 (dk_at dksX2_ranks_0 21 rfl rfl)
theorem dX2_ranks_22 : decode cX2_ranks 22 = .ok (.iaload, 1) := dk_46 (dk_at dksX2_ranks_0 22 rfl rfl)
theorem dX2_ranks_23 : decode cX2_ranks 23 = .ok (.if_icmp .ge 118, 3) := dk_162 0 118 (dk_at dksX2_ranks_1 0 rfl rfl)
theorem dX2_ranks_26 : decode cX2_ranks 26 = .ok (.aload_n 0, 1) := dk_42 (dk_at dksX2_ranks_1 3 rfl rfl)
theorem dX2_ranks_27 : decode cX2_ranks 27 = .ok (.getfield 111, 3) := dk_180 0 111 (dk_at dksX2_ranks_1 4 rfl rfl)
theorem dX2_ranks_30 : decode cX2_ranks 30 = .ok (.bipush 10, 2) := dk_16 10 (dk_at dksX2_ranks_1 7 rfl rfl)
theorem dX2_ranks_32 : decode cX2_ranks 32 = .ok (.iload_n 3, 1) := dk_29 (dk_at dksX2_ranks_1 9 rfl rfl)
theorem dX2_ranks_33 : decode cX2_ranks 33 = .ok (.imul, 1) := dk_104 (dk_at dksX2_ranks_1 10 rfl rfl)
theorem dX2_ranks_34 : decode cX2_ranks 34 = .ok (.iload 4, 2) := dk_21 4 (dk_at dksX2_ranks_1 11 rfl rfl)
theorem dX2_ranks_36 : decode cX2_ranks 36 = .ok (.iadd, 1) := dk_96 (dk_at dksX2_ranks_1 13 rfl rfl)
theorem dX2_ranks_37 : decode cX2_ranks 37 = .ok (.aload_n 0, 1) := dk_42 (dk_at dksX2_ranks_1 14 rfl rfl)
theorem dX2_ranks_38 : decode cX2_ranks 38 = .ok (.iload_n 1, 1) := dk_27 (dk_at dksX2_ranks_1 15 rfl rfl)
theorem dX2_ranks_39 : decode cX2_ranks 39 = .ok (.iload_n 3, 1) := dk_29 (dk_at dksX2_ranks_1 16 rfl rfl)
theorem dX2_ranks_40 : decode cX2_ranks 40 = .ok (.iload 4, 2) := dk_21 4 (dk_at dksX2_ranks_1 17 rfl rfl)
theorem dX2_ranks_42 : decode cX2_ranks 42 = .ok (.iload_n 2, 1) := dk_28 (dk_at dksX2_ranks_1 19 rfl rfl)
theorem dX2_ranks_43 : decode cX2_ranks 43 = .ok (.invokevirtual 340, 3) := dk_182 1 84 (dk_at dksX2_ranks_1 20 rfl rfl)
theorem dX2_ranks_46 : decode cX2_ranks 46 = .ok (.iconst (-1), 1) := dk_2 (dk_at dksX2_ranks_1 23 rfl rfl)
theorem dX2_ranks_47 : decode cX2_ranks 47 = .ok (.if_icmp .eq 7, 3) := dk_159 0 7 (dk_at dksX2_ranks_2 0 rfl rfl)
theorem dX2_ranks_50 : decode cX2_ranks 50 = .ok (.iconst 1, 1) := dk_4 (dk_at dksX2_ranks_2 3 rfl rfl)
theorem dX2_ranks_51 : decode cX2_ranks 51 = .ok (.goto 4, 3) := dk_167 0 4 (dk_at dksX2_ranks_2 4 rfl rfl)
theorem dX2_ranks_54 : decode cX2_ranks 54 = .ok (.iconst 0, 1) := dk_3 (dk_at dksX2_ranks_2 7 rfl rfl)
theorem dX2_ranks_55 : decode cX2_ranks 55 = .ok (.bastore, 1) := dk_84 (dk_at dksX2_ranks_2 8 rfl rfl)
theorem dX2_ranks_56 : decode cX2_ranks 56 = .ok (.aload_n 0, 1) := dk_42 (dk_at dksX2_ranks_2 9 rfl rfl)
theorem dX2_ranks_57 : decode cX2_ranks 57 = .ok (.getfield 113, 3) := dk_180 0 113 (dk_at dksX2_ranks_2 10 rfl rfl)
theorem dX2_ranks_60 : decode cX2_ranks 60 = .ok (.bipush 10, 2) := dk_16 10 (dk_at dksX2_ranks_2 13 rfl rfl)
theorem dX2_ranks_62 : decode cX2_ranks 62 = .ok (.iload_n 3, 1) := dk_29 (dk_at dksX2_ranks_2 15 rfl rfl)
theorem dX2_ranks_63 : decode cX2_ranks 63 = .ok (.imul, 1) := dk_104 (dk_at dksX2_ranks_2 16 rfl rfl)
theorem dX2_ranks_64 : decode cX2_ranks 64 = .ok (.iload 4, 2) := dk_21 4 (dk_at dksX2_ranks_2 17 rfl rfl)
theorem dX2_ranks_66 : decode cX2_ranks 66 = .ok (.iadd, 1) := dk_96 (dk_at dksX2_ranks_2 19 rfl rfl)
theorem dX2_ranks_67 : decode cX2_ranks 67 = .ok (.iconst 0, 1) := dk_3 (dk_at dksX2_ranks_2 20 rfl rfl)
theorem dX2_ranks_68 : decode cX2_ranks 68 = .ok (.bastore, 1) := dk_84 (dk_at dksX2_ranks_2 21 rfl rfl)
theorem dX2_ranks_69 : decode cX2_ranks 69 = .ok (.iconst 0, 1) := dk_3 (dk_at dksX2_ranks_2 22 rfl rfl)
theorem dX2_ranks_70 : decode cX2_ranks 70 = .ok (.istore 5, 2) := dk_54 5 (dk_at dksX2_ranks_3 0 rfl rfl)
theorem dX2_ranks_72 : decode cX2_ranks 72 = .ok (.iload 5, 2) := dk_21 5 (dk_at dksX2_ranks_3 2 rfl rfl)
theorem dX2_ranks_74 : decode cX2_ranks 74 = .ok (.aload_n 0, 1) := dk_42 (dk_at dksX2_ranks_3 4 rfl rfl)
theorem dX2_ranks_75 : decode cX2_ranks 75 = .ok (.getfield 51, 3) := dk_180 0 51 (dk_at dksX2_ranks_3 5 rfl rfl)
theorem dX2_ranks_78 : decode cX2_ranks 78 = .ok (.iconst 0, 1) := dk_3 (dk_at dksX2_ranks_3 8 rfl rfl)
theorem dX2_ranks_79 : decode cX2_ranks 79 = .ok (.iaload, 1) := dk_46 (dk_at dksX2_ranks_3 9 rfl rfl)
theorem dX2_ranks_80 : decode cX2_ranks 80 = .ok (.if_icmp .ge 55, 3) := dk_162 0 55 (dk_at dksX2_ranks_3 10 rfl rfl)
theorem dX2_ranks_83 : decode cX2_ranks 83 = .ok (.aload_n 0, 1) := dk_42 (dk_at dksX2_ranks_3 13 rfl rfl)
theorem dX2_ranks_84 : decode cX2_ranks 84 = .ok (.getfield 113, 3) := dk_180 0 113 (dk_at dksX2_ranks_3 14 rfl rfl)
theorem dX2_ranks_87 : decode cX2_ranks 87 = .ok (.bipush 10, 2) := dk_16 10 (dk_at dksX2_ranks_3 17 rfl rfl)
theorem dX2_ranks_89 : decode cX2_ranks 89 = .ok (.iload_n 3, 1) := dk_29 (dk_at dksX2_ranks_3 19 rfl rfl)
theorem dX2_ranks_90 : decode cX2_ranks 90 = .ok (.imul, 1) := dk_104 (dk_at dksX2_ranks_3 20 rfl rfl)
theorem dX2_ranks_91 : decode cX2_ranks 91 = .ok (.iload 4, 2) := dk_21 4 (dk_at dksX2_ranks_3 21 rfl rfl)
theorem dX2_ranks_93 : decode cX2_ranks 93 = .ok (.iadd, 1) := dk_96 (dk_at dksX2_ranks_3 23 rfl rfl)
theorem dX2_ranks_94 : decode cX2_ranks 94 = .ok (.dup2, 1) := dk_92 (dk_at dksX2_ranks_4 0 rfl rfl)
theorem dX2_ranks_95 : decode cX2_ranks 95 = .ok (.baload, 1) := dk_51 (dk_at dksX2_ranks_4 1 rfl rfl)
theorem dX2_ranks_96 : decode cX2_ranks 96 = .ok (.aload_n 0, 1) := dk_42 (dk_at dksX2_ranks_4 2 rfl rfl)
theorem dX2_ranks_97 : decode cX2_ranks 97 = .ok (.getfield 26, 3) := dk_180 0 26 (dk_at dksX2_ranks_4 3 rfl rfl)
theorem dX2_ranks_100 : decode cX2_ranks 100 = .ok (.iconst 0, 1) := dk_3 (dk_at dksX2_ranks_4 6 rfl rfl)
theorem dX2_ranks_101 : decode cX2_ranks 101 = .ok (.aaload, 1) := dk_50 (dk_at dksX2_ranks_4 7 rfl rfl)
theorem dX2_ranks_102 : decode cX2_ranks 102 = .ok (.iload 5, 2) := dk_21 5 (dk_at dksX2_ranks_4 8 rfl rfl)
theorem dX2_ranks_104 : decode cX2_ranks 104 = .ok (.iaload, 1) := dk_46 (dk_at dksX2_ranks_4 10 rfl rfl)
theorem dX2_ranks_105 : decode cX2_ranks 105 = .ok (.iconst 1, 1) := dk_4 (dk_at dksX2_ranks_4 11 rfl rfl)
theorem dX2_ranks_106 : decode cX2_ranks 106 = .ok (.if_icmp .ne 20, 3) := dk_160 0 20 (dk_at dksX2_ranks_4 12 rfl rfl)
theorem dX2_ranks_109 : decode cX2_ranks 109 = .ok (.aload_n 0, 1) := dk_42 (dk_at dksX2_ranks_4 15 rfl rfl)
theorem dX2_ranks_110 : decode cX2_ranks 110 = .ok (.iload 5, 2) := dk_21 5 (dk_at dksX2_ranks_4 16 rfl rfl)
theorem dX2_ranks_112 : decode cX2_ranks 112 = .ok (.iload_n 1, 1) := dk_27 (dk_at dksX2_ranks_4 18 rfl rfl)
theorem dX2_ranks_113 : decode cX2_ranks 113 = .ok (.iload_n 3, 1) := dk_29 (dk_at dksX2_ranks_4 19 rfl rfl)
theorem dX2_ranks_114 : decode cX2_ranks 114 = .ok (.iload 4, 2) := dk_21 4 (dk_at dksX2_ranks_4 20 rfl rfl)
theorem dX2_ranks_116 : decode cX2_ranks 116 = .ok (.invokevirtual 320, 3) := dk_182 1 64 (dk_at dksX2_ranks_5 0 rfl rfl)
theorem dX2_ranks_119 : decode cX2_ranks 119 = .ok (.ifCond .eq 7, 3) := dk_153 0 7 (dk_at dksX2_ranks_5 3 rfl rfl)
theorem dX2_ranks_122 : decode cX2_ranks 122 = .ok (.iconst 1, 1) := dk_4 (dk_at dksX2_ranks_5 6 rfl rfl)
theorem dX2_ranks_123 : decode cX2_ranks 123 = .ok (.goto 4, 3) := dk_167 0 4 (dk_at dksX2_ranks_5 7 rfl rfl)
theorem dX2_ranks_126 : decode cX2_ranks 126 = .ok (.iconst 0, 1) := dk_3 (dk_at dksX2_ranks_5 10 rfl rfl)
theorem dX2_ranks_127 : decode cX2_ranks 127 = .ok (.ior, 1) := dk_128 (dk_at dksX2_ranks_5 11 rfl rfl)
theorem dX2_ranks_128 : decode cX2_ranks 128 = .ok (.bastore, 1) := dk_84 (dk_at dksX2_ranks_5 12 rfl rfl)
theorem dX2_ranks_129 : decode cX2_ranks 129 = .ok (.iinc 5 1, 3) := dk_132 5 1 (dk_at dksX2_ranks_5 13 rfl rfl)
theorem dX2_ranks_132 : decode cX2_ranks 132 = .ok (.goto (-60), 3) := dk_167 255 196 (dk_at dksX2_ranks_5 16 rfl rfl)
theorem dX2_ranks_135 : decode cX2_ranks 135 = .ok (.iinc 4 1, 3) := dk_132 4 1 (dk_at dksX2_ranks_5 19 rfl rfl)
theorem dX2_ranks_138 : decode cX2_ranks 138 = .ok (.goto (-123), 3) := dk_167 255 133 (dk_at dksX2_ranks_6 0 rfl rfl)
theorem dX2_ranks_141 : decode cX2_ranks 141 = .ok (.iinc 3 1, 3) := dk_132 3 1 (dk_at dksX2_ranks_6 3 rfl rfl)
theorem dX2_ranks_144 : decode cX2_ranks 144 = .ok (.goto (-142), 3) := dk_167 255 114 (dk_at dksX2_ranks_6 6 rfl rfl)
theorem dX2_ranks_147 : decode cX2_ranks 147 = .ok (.return_, 1) := dk_177 (dk_at dksX2_ranks_6 9 rfl rfl)
abbrev cX2_all : ByteArray := prog_26_method_56_code
def yX2_all : MethodName := ⟨RX2, "all", "()I"⟩
def dkwX2_all_0 : List UInt8 := [4, 42, 180, 0, 44, 3, 46, 120, 4, 100, 172]
abbrev dktX2_all_0 : List UInt8 := dkwX2_all_0 ++ []
theorem dksX2_all_0 : cX2_all.data.toList.drop 0 = dktX2_all_0 := by decide +kernel
theorem dX2_all_0 : decode cX2_all 0 = .ok (.iconst 1, 1) := dk_4 (dk_at dksX2_all_0 0 rfl rfl)
theorem dX2_all_1 : decode cX2_all 1 = .ok (.aload_n 0, 1) := dk_42 (dk_at dksX2_all_0 1 rfl rfl)
theorem dX2_all_2 : decode cX2_all 2 = .ok (.getfield 44, 3) := dk_180 0 44 (dk_at dksX2_all_0 2 rfl rfl)
theorem dX2_all_5 : decode cX2_all 5 = .ok (.iconst 0, 1) := dk_3 (dk_at dksX2_all_0 5 rfl rfl)
theorem dX2_all_6 : decode cX2_all 6 = .ok (.iaload, 1) := dk_46 (dk_at dksX2_all_0 6 rfl rfl)
theorem dX2_all_7 : decode cX2_all 7 = .ok (.ishl, 1) := dk_120 (dk_at dksX2_all_0 7 rfl rfl)
theorem dX2_all_8 : decode cX2_all 8 = .ok (.iconst 1, 1) := dk_4 (dk_at dksX2_all_0 8 rfl rfl)
theorem dX2_all_9 : decode cX2_all 9 = .ok (.isub, 1) := dk_100 (dk_at dksX2_all_0 9 rfl rfl)
theorem dX2_all_10 : decode cX2_all 10 = .ok (.ireturn, 1) := dk_172 (dk_at dksX2_all_0 10 rfl rfl)
abbrev cX2_through : ByteArray := prog_26_method_54_code
def yX2_through : MethodName := ⟨RX2, "through", "(II)I"⟩
def dkwX2_through_3 : List UInt8 := [162, 0, 13, 42, 180, 0, 115, 21, 4, 46, 4, 96, 62, 132, 4, 1, 167, 255, 182, 29, 172]
abbrev dktX2_through_3 : List UInt8 := dkwX2_through_3 ++ []
def dkwX2_through_2 : List UInt8 := [21, 4, 96, 51, 153, 0, 31, 29, 2, 159, 0, 16, 42, 180, 0, 115, 21, 4, 46, 4, 96, 29]
abbrev dktX2_through_2 : List UInt8 := dkwX2_through_2 ++ dktX2_through_3
def dkwX2_through_1 : List UInt8 := [27, 159, 0, 57, 42, 180, 0, 115, 21, 4, 46, 2, 159, 0, 46, 42, 180, 0, 111, 16, 10, 27, 104]
abbrev dktX2_through_1 : List UInt8 := dkwX2_through_1 ++ dktX2_through_2
def dkwX2_through_0 : List UInt8 := [42, 27, 28, 182, 1, 87, 2, 62, 3, 54, 4, 21, 4, 42, 180, 0, 44, 3, 46, 162, 0, 69, 21, 4]
abbrev dktX2_through_0 : List UInt8 := dkwX2_through_0 ++ dktX2_through_1
theorem dksX2_through_0 : cX2_through.data.toList.drop 0 = dktX2_through_0 := by decide +kernel
theorem dksX2_through_1 : cX2_through.data.toList.drop 24 = dktX2_through_1 := dk_seg dksX2_through_0 24 rfl rfl
theorem dksX2_through_2 : cX2_through.data.toList.drop 47 = dktX2_through_2 := dk_seg dksX2_through_1 23 rfl rfl
theorem dksX2_through_3 : cX2_through.data.toList.drop 69 = dktX2_through_3 := dk_seg dksX2_through_2 22 rfl rfl
theorem dX2_through_0 : decode cX2_through 0 = .ok (.aload_n 0, 1) := dk_42 (dk_at dksX2_through_0 0 rfl rfl)
theorem dX2_through_1 : decode cX2_through 1 = .ok (.iload_n 1, 1) := dk_27 (dk_at dksX2_through_0 1 rfl rfl)
theorem dX2_through_2 : decode cX2_through 2 = .ok (.iload_n 2, 1) := dk_28 (dk_at dksX2_through_0 2 rfl rfl)
theorem dX2_through_3 : decode cX2_through 3 = .ok (.invokevirtual 343, 3) := dk_182 1 87 (dk_at dksX2_through_0 3 rfl rfl)
theorem dX2_through_6 : decode cX2_through 6 = .ok (.iconst (-1), 1) := dk_2 (dk_at dksX2_through_0 6 rfl rfl)
theorem dX2_through_7 : decode cX2_through 7 = .ok (.istore_n 3, 1) := dk_62 (dk_at dksX2_through_0 7 rfl rfl)
theorem dX2_through_8 : decode cX2_through 8 = .ok (.iconst 0, 1) := dk_3 (dk_at dksX2_through_0 8 rfl rfl)
theorem dX2_through_9 : decode cX2_through 9 = .ok (.istore 4, 2) := dk_54 4 (dk_at dksX2_through_0 9 rfl rfl)
theorem dX2_through_11 : decode cX2_through 11 = .ok (.iload 4, 2) := dk_21 4 (dk_at dksX2_through_0 11 rfl rfl)
theorem dX2_through_13 : decode cX2_through 13 = .ok (.aload_n 0, 1) := dk_42 (dk_at dksX2_through_0 13 rfl rfl)
theorem dX2_through_14 : decode cX2_through 14 = .ok (.getfield 44, 3) := dk_180 0 44 (dk_at dksX2_through_0 14 rfl rfl)
theorem dX2_through_17 : decode cX2_through 17 = .ok (.iconst 0, 1) := dk_3 (dk_at dksX2_through_0 17 rfl rfl)
theorem dX2_through_18 : decode cX2_through 18 = .ok (.iaload, 1) := dk_46 (dk_at dksX2_through_0 18 rfl rfl)
theorem dX2_through_19 : decode cX2_through 19 = .ok (.if_icmp .ge 69, 3) := dk_162 0 69 (dk_at dksX2_through_0 19 rfl rfl)
theorem dX2_through_22 : decode cX2_through 22 = .ok (.iload 4, 2) := dk_21 4 (dk_at dksX2_through_0 22 rfl rfl)
theorem dX2_through_24 : decode cX2_through 24 = .ok (.iload_n 1, 1) := dk_27 (dk_at dksX2_through_1 0 rfl rfl)
theorem dX2_through_25 : decode cX2_through 25 = .ok (.if_icmp .eq 57, 3) := dk_159 0 57 (dk_at dksX2_through_1 1 rfl rfl)
theorem dX2_through_28 : decode cX2_through 28 = .ok (.aload_n 0, 1) := dk_42 (dk_at dksX2_through_1 4 rfl rfl)
theorem dX2_through_29 : decode cX2_through 29 = .ok (.getfield 115, 3) := dk_180 0 115 (dk_at dksX2_through_1 5 rfl rfl)
theorem dX2_through_32 : decode cX2_through 32 = .ok (.iload 4, 2) := dk_21 4 (dk_at dksX2_through_1 8 rfl rfl)
theorem dX2_through_34 : decode cX2_through 34 = .ok (.iaload, 1) := dk_46 (dk_at dksX2_through_1 10 rfl rfl)
theorem dX2_through_35 : decode cX2_through 35 = .ok (.iconst (-1), 1) := dk_2 (dk_at dksX2_through_1 11 rfl rfl)
theorem dX2_through_36 : decode cX2_through 36 = .ok (.if_icmp .eq 46, 3) := dk_159 0 46 (dk_at dksX2_through_1 12 rfl rfl)
theorem dX2_through_39 : decode cX2_through 39 = .ok (.aload_n 0, 1) := dk_42 (dk_at dksX2_through_1 15 rfl rfl)
theorem dX2_through_40 : decode cX2_through 40 = .ok (.getfield 111, 3) := dk_180 0 111 (dk_at dksX2_through_1 16 rfl rfl)
theorem dX2_through_43 : decode cX2_through 43 = .ok (.bipush 10, 2) := dk_16 10 (dk_at dksX2_through_1 19 rfl rfl)
theorem dX2_through_45 : decode cX2_through 45 = .ok (.iload_n 1, 1) := dk_27 (dk_at dksX2_through_1 21 rfl rfl)
theorem dX2_through_46 : decode cX2_through 46 = .ok (.imul, 1) := dk_104 (dk_at dksX2_through_1 22 rfl rfl)
theorem dX2_through_47 : decode cX2_through 47 = .ok (.iload 4, 2) := dk_21 4 (dk_at dksX2_through_2 0 rfl rfl)
theorem dX2_through_49 : decode cX2_through 49 = .ok (.iadd, 1) := dk_96 (dk_at dksX2_through_2 2 rfl rfl)
theorem dX2_through_50 : decode cX2_through 50 = .ok (.baload, 1) := dk_51 (dk_at dksX2_through_2 3 rfl rfl)
theorem dX2_through_51 : decode cX2_through 51 = .ok (.ifCond .eq 31, 3) := dk_153 0 31 (dk_at dksX2_through_2 4 rfl rfl)
theorem dX2_through_54 : decode cX2_through 54 = .ok (.iload_n 3, 1) := dk_29 (dk_at dksX2_through_2 7 rfl rfl)
theorem dX2_through_55 : decode cX2_through 55 = .ok (.iconst (-1), 1) := dk_2 (dk_at dksX2_through_2 8 rfl rfl)
theorem dX2_through_56 : decode cX2_through 56 = .ok (.if_icmp .eq 16, 3) := dk_159 0 16 (dk_at dksX2_through_2 9 rfl rfl)
theorem dX2_through_59 : decode cX2_through 59 = .ok (.aload_n 0, 1) := dk_42 (dk_at dksX2_through_2 12 rfl rfl)
theorem dX2_through_60 : decode cX2_through 60 = .ok (.getfield 115, 3) := dk_180 0 115 (dk_at dksX2_through_2 13 rfl rfl)
theorem dX2_through_63 : decode cX2_through 63 = .ok (.iload 4, 2) := dk_21 4 (dk_at dksX2_through_2 16 rfl rfl)
theorem dX2_through_65 : decode cX2_through 65 = .ok (.iaload, 1) := dk_46 (dk_at dksX2_through_2 18 rfl rfl)
theorem dX2_through_66 : decode cX2_through 66 = .ok (.iconst 1, 1) := dk_4 (dk_at dksX2_through_2 19 rfl rfl)
theorem dX2_through_67 : decode cX2_through 67 = .ok (.iadd, 1) := dk_96 (dk_at dksX2_through_2 20 rfl rfl)
theorem dX2_through_68 : decode cX2_through 68 = .ok (.iload_n 3, 1) := dk_29 (dk_at dksX2_through_2 21 rfl rfl)
theorem dX2_through_69 : decode cX2_through 69 = .ok (.if_icmp .ge 13, 3) := dk_162 0 13 (dk_at dksX2_through_3 0 rfl rfl)
theorem dX2_through_72 : decode cX2_through 72 = .ok (.aload_n 0, 1) := dk_42 (dk_at dksX2_through_3 3 rfl rfl)
theorem dX2_through_73 : decode cX2_through 73 = .ok (.getfield 115, 3) := dk_180 0 115 (dk_at dksX2_through_3 4 rfl rfl)
theorem dX2_through_76 : decode cX2_through 76 = .ok (.iload 4, 2) := dk_21 4 (dk_at dksX2_through_3 7 rfl rfl)
theorem dX2_through_78 : decode cX2_through 78 = .ok (.iaload, 1) := dk_46 (dk_at dksX2_through_3 9 rfl rfl)
theorem dX2_through_79 : decode cX2_through 79 = .ok (.iconst 1, 1) := dk_4 (dk_at dksX2_through_3 10 rfl rfl)
theorem dX2_through_80 : decode cX2_through 80 = .ok (.iadd, 1) := dk_96 (dk_at dksX2_through_3 11 rfl rfl)
theorem dX2_through_81 : decode cX2_through 81 = .ok (.istore_n 3, 1) := dk_62 (dk_at dksX2_through_3 12 rfl rfl)
theorem dX2_through_82 : decode cX2_through 82 = .ok (.iinc 4 1, 3) := dk_132 4 1 (dk_at dksX2_through_3 13 rfl rfl)
theorem dX2_through_85 : decode cX2_through 85 = .ok (.goto (-74), 3) := dk_167 255 182 (dk_at dksX2_through_3 16 rfl rfl)
theorem dX2_through_88 : decode cX2_through 88 = .ok (.iload_n 3, 1) := dk_29 (dk_at dksX2_through_3 19 rfl rfl)
theorem dX2_through_89 : decode cX2_through 89 = .ok (.ireturn, 1) := dk_172 (dk_at dksX2_through_3 20 rfl rfl)
abbrev cX2_leads : ByteArray := prog_26_method_53_code
def yX2_leads : MethodName := ⟨RX2, "leads", "(II)V"⟩
def dkwX2_leads_6 : List UInt8 := [132, 4, 1, 167, 255, 152, 132, 3, 1, 167, 255, 137, 177]
abbrev dktX2_leads_6 : List UInt8 := dkwX2_leads_6 ++ []
def dkwX2_leads_5 : List UInt8 := [21, 5, 96, 51, 153, 0, 13, 42, 180, 0, 115, 21, 4, 29, 4, 96, 79, 132, 5, 1, 167, 255, 195]
abbrev dktX2_leads_5 : List UInt8 := dkwX2_leads_5 ++ dktX2_leads_6
def dkwX2_leads_4 : List UInt8 := [29, 160, 0, 39, 28, 21, 5, 122, 4, 126, 4, 160, 0, 29, 42, 180, 0, 111, 16, 10, 21, 4, 104]
abbrev dktX2_leads_4 : List UInt8 := dkwX2_leads_4 ++ dktX2_leads_5
def dkwX2_leads_3 : List UInt8 := [167, 0, 70, 3, 54, 5, 21, 5, 42, 180, 0, 44, 3, 46, 162, 0, 56, 42, 180, 0, 115, 21, 5, 46]
abbrev dktX2_leads_3 : List UInt8 := dkwX2_leads_3 ++ dktX2_leads_4
def dkwX2_leads_2 : List UInt8 := [46, 162, 0, 99, 42, 180, 0, 115, 21, 4, 46, 2, 160, 0, 82, 28, 21, 4, 122, 4, 126, 154, 0, 6]
abbrev dktX2_leads_2 : List UInt8 := dkwX2_leads_2 ++ dktX2_leads_3
def dkwX2_leads_1 : List UInt8 := [132, 3, 1, 167, 255, 231, 3, 62, 29, 16, 10, 162, 0, 119, 3, 54, 4, 21, 4, 42, 180, 0, 44, 3]
abbrev dktX2_leads_1 : List UInt8 := dkwX2_leads_1 ++ dktX2_leads_2
def dkwX2_leads_0 : List UInt8 := [3, 62, 29, 16, 10, 162, 0, 25, 42, 180, 0, 115, 29, 29, 27, 160, 0, 7, 3, 167, 0, 4, 2, 79]
abbrev dktX2_leads_0 : List UInt8 := dkwX2_leads_0 ++ dktX2_leads_1
theorem dksX2_leads_0 : cX2_leads.data.toList.drop 0 = dktX2_leads_0 := by decide +kernel
theorem dksX2_leads_1 : cX2_leads.data.toList.drop 24 = dktX2_leads_1 := dk_seg dksX2_leads_0 24 rfl rfl
theorem dksX2_leads_2 : cX2_leads.data.toList.drop 48 = dktX2_leads_2 := dk_seg dksX2_leads_1 24 rfl rfl
theorem dksX2_leads_3 : cX2_leads.data.toList.drop 72 = dktX2_leads_3 := dk_seg dksX2_leads_2 24 rfl rfl
theorem dksX2_leads_4 : cX2_leads.data.toList.drop 96 = dktX2_leads_4 := dk_seg dksX2_leads_3 24 rfl rfl
theorem dksX2_leads_5 : cX2_leads.data.toList.drop 119 = dktX2_leads_5 := dk_seg dksX2_leads_4 23 rfl rfl
theorem dksX2_leads_6 : cX2_leads.data.toList.drop 142 = dktX2_leads_6 := dk_seg dksX2_leads_5 23 rfl rfl
theorem dX2_leads_0 : decode cX2_leads 0 = .ok (.iconst 0, 1) := dk_3 (dk_at dksX2_leads_0 0 rfl rfl)
theorem dX2_leads_1 : decode cX2_leads 1 = .ok (.istore_n 3, 1) := dk_62 (dk_at dksX2_leads_0 1 rfl rfl)
theorem dX2_leads_2 : decode cX2_leads 2 = .ok (.iload_n 3, 1) := dk_29 (dk_at dksX2_leads_0 2 rfl rfl)
theorem dX2_leads_3 : decode cX2_leads 3 = .ok (.bipush 10, 2) := dk_16 10 (dk_at dksX2_leads_0 3 rfl rfl)
theorem dX2_leads_5 : decode cX2_leads 5 = .ok (.if_icmp .ge 25, 3) := dk_162 0 25 (dk_at dksX2_leads_0 5 rfl rfl)
theorem dX2_leads_8 : decode cX2_leads 8 = .ok (.aload_n 0, 1) := dk_42 (dk_at dksX2_leads_0 8 rfl rfl)
theorem dX2_leads_9 : decode cX2_leads 9 = .ok (.getfield 115, 3) := dk_180 0 115 (dk_at dksX2_leads_0 9 rfl rfl)
theorem dX2_leads_12 : decode cX2_leads 12 = .ok (.iload_n 3, 1) := dk_29 (dk_at dksX2_leads_0 12 rfl rfl)
theorem dX2_leads_13 : decode cX2_leads 13 = .ok (.iload_n 3, 1) := dk_29 (dk_at dksX2_leads_0 13 rfl rfl)
theorem dX2_leads_14 : decode cX2_leads 14 = .ok (.iload_n 1, 1) := dk_27 (dk_at dksX2_leads_0 14 rfl rfl)
theorem dX2_leads_15 : decode cX2_leads 15 = .ok (.if_icmp .ne 7, 3) := dk_160 0 7 (dk_at dksX2_leads_0 15 rfl rfl)
theorem dX2_leads_18 : decode cX2_leads 18 = .ok (.iconst 0, 1) := dk_3 (dk_at dksX2_leads_0 18 rfl rfl)
theorem dX2_leads_19 : decode cX2_leads 19 = .ok (.goto 4, 3) := dk_167 0 4 (dk_at dksX2_leads_0 19 rfl rfl)
theorem dX2_leads_22 : decode cX2_leads 22 = .ok (.iconst (-1), 1) := dk_2 (dk_at dksX2_leads_0 22 rfl rfl)
theorem dX2_leads_23 : decode cX2_leads 23 = .ok (.iastore, 1) := dk_79 (dk_at dksX2_leads_0 23 rfl rfl)
theorem dX2_leads_24 : decode cX2_leads 24 = .ok (.iinc 3 1, 3) := dk_132 3 1 (dk_at dksX2_leads_1 0 rfl rfl)
theorem dX2_leads_27 : decode cX2_leads 27 = .ok (.goto (-25), 3) := dk_167 255 231 (dk_at dksX2_leads_1 3 rfl rfl)
theorem dX2_leads_30 : decode cX2_leads 30 = .ok (.iconst 0, 1) := dk_3 (dk_at dksX2_leads_1 6 rfl rfl)
theorem dX2_leads_31 : decode cX2_leads 31 = .ok (.istore_n 3, 1) := dk_62 (dk_at dksX2_leads_1 7 rfl rfl)
theorem dX2_leads_32 : decode cX2_leads 32 = .ok (.iload_n 3, 1) := dk_29 (dk_at dksX2_leads_1 8 rfl rfl)
theorem dX2_leads_33 : decode cX2_leads 33 = .ok (.bipush 10, 2) := dk_16 10 (dk_at dksX2_leads_1 9 rfl rfl)
theorem dX2_leads_35 : decode cX2_leads 35 = .ok (.if_icmp .ge 119, 3) := dk_162 0 119 (dk_at dksX2_leads_1 11 rfl rfl)
theorem dX2_leads_38 : decode cX2_leads 38 = .ok (.iconst 0, 1) := dk_3 (dk_at dksX2_leads_1 14 rfl rfl)
theorem dX2_leads_39 : decode cX2_leads 39 = .ok (.istore 4, 2) := dk_54 4 (dk_at dksX2_leads_1 15 rfl rfl)
theorem dX2_leads_41 : decode cX2_leads 41 = .ok (.iload 4, 2) := dk_21 4 (dk_at dksX2_leads_1 17 rfl rfl)
theorem dX2_leads_43 : decode cX2_leads 43 = .ok (.aload_n 0, 1) := dk_42 (dk_at dksX2_leads_1 19 rfl rfl)
theorem dX2_leads_44 : decode cX2_leads 44 = .ok (.getfield 44, 3) := dk_180 0 44 (dk_at dksX2_leads_1 20 rfl rfl)
theorem dX2_leads_47 : decode cX2_leads 47 = .ok (.iconst 0, 1) := dk_3 (dk_at dksX2_leads_1 23 rfl rfl)
theorem dX2_leads_48 : decode cX2_leads 48 = .ok (.iaload, 1) := dk_46 (dk_at dksX2_leads_2 0 rfl rfl)
theorem dX2_leads_49 : decode cX2_leads 49 = .ok (.if_icmp .ge 99, 3) := dk_162 0 99 (dk_at dksX2_leads_2 1 rfl rfl)
theorem dX2_leads_52 : decode cX2_leads 52 = .ok (.aload_n 0, 1) := dk_42 (dk_at dksX2_leads_2 4 rfl rfl)
theorem dX2_leads_53 : decode cX2_leads 53 = .ok (.getfield 115, 3) := dk_180 0 115 (dk_at dksX2_leads_2 5 rfl rfl)
theorem dX2_leads_56 : decode cX2_leads 56 = .ok (.iload 4, 2) := dk_21 4 (dk_at dksX2_leads_2 8 rfl rfl)
theorem dX2_leads_58 : decode cX2_leads 58 = .ok (.iaload, 1) := dk_46 (dk_at dksX2_leads_2 10 rfl rfl)
theorem dX2_leads_59 : decode cX2_leads 59 = .ok (.iconst (-1), 1) := dk_2 (dk_at dksX2_leads_2 11 rfl rfl)
theorem dX2_leads_60 : decode cX2_leads 60 = .ok (.if_icmp .ne 82, 3) := dk_160 0 82 (dk_at dksX2_leads_2 12 rfl rfl)
theorem dX2_leads_63 : decode cX2_leads 63 = .ok (.iload_n 2, 1) := dk_28 (dk_at dksX2_leads_2 15 rfl rfl)
theorem dX2_leads_64 : decode cX2_leads 64 = .ok (.iload 4, 2) := dk_21 4 (dk_at dksX2_leads_2 16 rfl rfl)
theorem dX2_leads_66 : decode cX2_leads 66 = .ok (.ishr, 1) := dk_122 (dk_at dksX2_leads_2 18 rfl rfl)
theorem dX2_leads_67 : decode cX2_leads 67 = .ok (.iconst 1, 1) := dk_4 (dk_at dksX2_leads_2 19 rfl rfl)
theorem dX2_leads_68 : decode cX2_leads 68 = .ok (.iand, 1) := dk_126 (dk_at dksX2_leads_2 20 rfl rfl)
theorem dX2_leads_69 : decode cX2_leads 69 = .ok (.ifCond .ne 6, 3) := dk_154 0 6 (dk_at dksX2_leads_2 21 rfl rfl)
theorem dX2_leads_72 : decode cX2_leads 72 = .ok (.goto 70, 3) := dk_167 0 70 (dk_at dksX2_leads_3 0 rfl rfl)
theorem dX2_leads_75 : decode cX2_leads 75 = .ok (.iconst 0, 1) := dk_3 (dk_at dksX2_leads_3 3 rfl rfl)
theorem dX2_leads_76 : decode cX2_leads 76 = .ok (.istore 5, 2) := dk_54 5 (dk_at dksX2_leads_3 4 rfl rfl)
theorem dX2_leads_78 : decode cX2_leads 78 = .ok (.iload 5, 2) := dk_21 5 (dk_at dksX2_leads_3 6 rfl rfl)
theorem dX2_leads_80 : decode cX2_leads 80 = .ok (.aload_n 0, 1) := dk_42 (dk_at dksX2_leads_3 8 rfl rfl)
theorem dX2_leads_81 : decode cX2_leads 81 = .ok (.getfield 44, 3) := dk_180 0 44 (dk_at dksX2_leads_3 9 rfl rfl)
theorem dX2_leads_84 : decode cX2_leads 84 = .ok (.iconst 0, 1) := dk_3 (dk_at dksX2_leads_3 12 rfl rfl)
theorem dX2_leads_85 : decode cX2_leads 85 = .ok (.iaload, 1) := dk_46 (dk_at dksX2_leads_3 13 rfl rfl)
theorem dX2_leads_86 : decode cX2_leads 86 = .ok (.if_icmp .ge 56, 3) := dk_162 0 56 (dk_at dksX2_leads_3 14 rfl rfl)
theorem dX2_leads_89 : decode cX2_leads 89 = .ok (.aload_n 0, 1) := dk_42 (dk_at dksX2_leads_3 17 rfl rfl)
theorem dX2_leads_90 : decode cX2_leads 90 = .ok (.getfield 115, 3) := dk_180 0 115 (dk_at dksX2_leads_3 18 rfl rfl)
theorem dX2_leads_93 : decode cX2_leads 93 = .ok (.iload 5, 2) := dk_21 5 (dk_at dksX2_leads_3 21 rfl rfl)
theorem dX2_leads_95 : decode cX2_leads 95 = .ok (.iaload, 1) := dk_46 (dk_at dksX2_leads_3 23 rfl rfl)
theorem dX2_leads_96 : decode cX2_leads 96 = .ok (.iload_n 3, 1) := dk_29 (dk_at dksX2_leads_4 0 rfl rfl)
theorem dX2_leads_97 : decode cX2_leads 97 = .ok (.if_icmp .ne 39, 3) := dk_160 0 39 (dk_at dksX2_leads_4 1 rfl rfl)
theorem dX2_leads_100 : decode cX2_leads 100 = .ok (.iload_n 2, 1) := dk_28 (dk_at dksX2_leads_4 4 rfl rfl)
theorem dX2_leads_101 : decode cX2_leads 101 = .ok (.iload 5, 2) := dk_21 5 (dk_at dksX2_leads_4 5 rfl rfl)
theorem dX2_leads_103 : decode cX2_leads 103 = .ok (.ishr, 1) := dk_122 (dk_at dksX2_leads_4 7 rfl rfl)
theorem dX2_leads_104 : decode cX2_leads 104 = .ok (.iconst 1, 1) := dk_4 (dk_at dksX2_leads_4 8 rfl rfl)
theorem dX2_leads_105 : decode cX2_leads 105 = .ok (.iand, 1) := dk_126 (dk_at dksX2_leads_4 9 rfl rfl)
theorem dX2_leads_106 : decode cX2_leads 106 = .ok (.iconst 1, 1) := dk_4 (dk_at dksX2_leads_4 10 rfl rfl)
theorem dX2_leads_107 : decode cX2_leads 107 = .ok (.if_icmp .ne 29, 3) := dk_160 0 29 (dk_at dksX2_leads_4 11 rfl rfl)
theorem dX2_leads_110 : decode cX2_leads 110 = .ok (.aload_n 0, 1) := dk_42 (dk_at dksX2_leads_4 14 rfl rfl)
theorem dX2_leads_111 : decode cX2_leads 111 = .ok (.getfield 111, 3) := dk_180 0 111 (dk_at dksX2_leads_4 15 rfl rfl)
theorem dX2_leads_114 : decode cX2_leads 114 = .ok (.bipush 10, 2) := dk_16 10 (dk_at dksX2_leads_4 18 rfl rfl)
theorem dX2_leads_116 : decode cX2_leads 116 = .ok (.iload 4, 2) := dk_21 4 (dk_at dksX2_leads_4 20 rfl rfl)
theorem dX2_leads_118 : decode cX2_leads 118 = .ok (.imul, 1) := dk_104 (dk_at dksX2_leads_4 22 rfl rfl)
theorem dX2_leads_119 : decode cX2_leads 119 = .ok (.iload 5, 2) := dk_21 5 (dk_at dksX2_leads_5 0 rfl rfl)
theorem dX2_leads_121 : decode cX2_leads 121 = .ok (.iadd, 1) := dk_96 (dk_at dksX2_leads_5 2 rfl rfl)
theorem dX2_leads_122 : decode cX2_leads 122 = .ok (.baload, 1) := dk_51 (dk_at dksX2_leads_5 3 rfl rfl)
theorem dX2_leads_123 : decode cX2_leads 123 = .ok (.ifCond .eq 13, 3) := dk_153 0 13 (dk_at dksX2_leads_5 4 rfl rfl)
theorem dX2_leads_126 : decode cX2_leads 126 = .ok (.aload_n 0, 1) := dk_42 (dk_at dksX2_leads_5 7 rfl rfl)
theorem dX2_leads_127 : decode cX2_leads 127 = .ok (.getfield 115, 3) := dk_180 0 115 (dk_at dksX2_leads_5 8 rfl rfl)
theorem dX2_leads_130 : decode cX2_leads 130 = .ok (.iload 4, 2) := dk_21 4 (dk_at dksX2_leads_5 11 rfl rfl)
theorem dX2_leads_132 : decode cX2_leads 132 = .ok (.iload_n 3, 1) := dk_29 (dk_at dksX2_leads_5 13 rfl rfl)
theorem dX2_leads_133 : decode cX2_leads 133 = .ok (.iconst 1, 1) := dk_4 (dk_at dksX2_leads_5 14 rfl rfl)
theorem dX2_leads_134 : decode cX2_leads 134 = .ok (.iadd, 1) := dk_96 (dk_at dksX2_leads_5 15 rfl rfl)
theorem dX2_leads_135 : decode cX2_leads 135 = .ok (.iastore, 1) := dk_79 (dk_at dksX2_leads_5 16 rfl rfl)
theorem dX2_leads_136 : decode cX2_leads 136 = .ok (.iinc 5 1, 3) := dk_132 5 1 (dk_at dksX2_leads_5 17 rfl rfl)
theorem dX2_leads_139 : decode cX2_leads 139 = .ok (.goto (-61), 3) := dk_167 255 195 (dk_at dksX2_leads_5 20 rfl rfl)
theorem dX2_leads_142 : decode cX2_leads 142 = .ok (.iinc 4 1, 3) := dk_132 4 1 (dk_at dksX2_leads_6 0 rfl rfl)
theorem dX2_leads_145 : decode cX2_leads 145 = .ok (.goto (-104), 3) := dk_167 255 152 (dk_at dksX2_leads_6 3 rfl rfl)
theorem dX2_leads_148 : decode cX2_leads 148 = .ok (.iinc 3 1, 3) := dk_132 3 1 (dk_at dksX2_leads_6 6 rfl rfl)
theorem dX2_leads_151 : decode cX2_leads 151 = .ok (.goto (-119), 3) := dk_167 255 137 (dk_at dksX2_leads_6 9 rfl rfl)
theorem dX2_leads_154 : decode cX2_leads 154 = .ok (.return_, 1) := dk_177 (dk_at dksX2_leads_6 12 rfl rfl)
abbrev cX2_quarrels : ByteArray := prog_26_method_58_code
def yX2_quarrels : MethodName := ⟨RX2, "quarrels", "(I)I"⟩
def dkwX2_quarrels_3 : List UInt8 := [4, 167, 0, 4, 3, 96, 61, 132, 4, 1, 167, 255, 209, 132, 3, 1, 167, 255, 190, 28, 172]
abbrev dktX2_quarrels_3 : List UInt8 := dkwX2_quarrels_3 ++ []
def dkwX2_quarrels_2 : List UInt8 := [29, 104, 21, 4, 96, 51, 153, 0, 22, 42, 180, 0, 111, 16, 10, 21, 4, 104, 29, 96, 51, 153, 0, 7]
abbrev dktX2_quarrels_2 : List UInt8 := dkwX2_quarrels_2 ++ dktX2_quarrels_3
def dkwX2_quarrels_1 : List UInt8 := [180, 0, 44, 3, 46, 162, 0, 62, 3, 54, 4, 21, 4, 29, 162, 0, 47, 28, 42, 180, 0, 111, 16, 10]
abbrev dktX2_quarrels_1 : List UInt8 := dkwX2_quarrels_1 ++ dktX2_quarrels_2
def dkwX2_quarrels_0 : List UInt8 := [42, 27, 182, 1, 41, 154, 0, 5, 2, 172, 42, 27, 3, 182, 1, 94, 3, 61, 3, 62, 29, 42]
abbrev dktX2_quarrels_0 : List UInt8 := dkwX2_quarrels_0 ++ dktX2_quarrels_1
theorem dksX2_quarrels_0 : cX2_quarrels.data.toList.drop 0 = dktX2_quarrels_0 := by decide +kernel
theorem dksX2_quarrels_1 : cX2_quarrels.data.toList.drop 22 = dktX2_quarrels_1 := dk_seg dksX2_quarrels_0 22 rfl rfl
theorem dksX2_quarrels_2 : cX2_quarrels.data.toList.drop 46 = dktX2_quarrels_2 := dk_seg dksX2_quarrels_1 24 rfl rfl
theorem dksX2_quarrels_3 : cX2_quarrels.data.toList.drop 70 = dktX2_quarrels_3 := dk_seg dksX2_quarrels_2 24 rfl rfl
theorem dX2_quarrels_0 : decode cX2_quarrels 0 = .ok (.aload_n 0, 1) := dk_42 (dk_at dksX2_quarrels_0 0 rfl rfl)
theorem dX2_quarrels_1 : decode cX2_quarrels 1 = .ok (.iload_n 1, 1) := dk_27 (dk_at dksX2_quarrels_0 1 rfl rfl)
theorem dX2_quarrels_2 : decode cX2_quarrels 2 = .ok (.invokevirtual 297, 3) := dk_182 1 41 (dk_at dksX2_quarrels_0 2 rfl rfl)
theorem dX2_quarrels_5 : decode cX2_quarrels 5 = .ok (.ifCond .ne 5, 3) := dk_154 0 5 (dk_at dksX2_quarrels_0 5 rfl rfl)
theorem dX2_quarrels_8 : decode cX2_quarrels 8 = .ok (.iconst (-1), 1) := dk_2 (dk_at dksX2_quarrels_0 8 rfl rfl)
theorem dX2_quarrels_9 : decode cX2_quarrels 9 = .ok (.ireturn, 1) := dk_172 (dk_at dksX2_quarrels_0 9 rfl rfl)
theorem dX2_quarrels_10 : decode cX2_quarrels 10 = .ok (.aload_n 0, 1) := dk_42 (dk_at dksX2_quarrels_0 10 rfl rfl)
theorem dX2_quarrels_11 : decode cX2_quarrels 11 = .ok (.iload_n 1, 1) := dk_27 (dk_at dksX2_quarrels_0 11 rfl rfl)
theorem dX2_quarrels_12 : decode cX2_quarrels 12 = .ok (.iconst 0, 1) := dk_3 (dk_at dksX2_quarrels_0 12 rfl rfl)
theorem dX2_quarrels_13 : decode cX2_quarrels 13 = .ok (.invokevirtual 350, 3) := dk_182 1 94 (dk_at dksX2_quarrels_0 13 rfl rfl)
theorem dX2_quarrels_16 : decode cX2_quarrels 16 = .ok (.iconst 0, 1) := dk_3 (dk_at dksX2_quarrels_0 16 rfl rfl)
theorem dX2_quarrels_17 : decode cX2_quarrels 17 = .ok (.istore_n 2, 1) := dk_61 (dk_at dksX2_quarrels_0 17 rfl rfl)
theorem dX2_quarrels_18 : decode cX2_quarrels 18 = .ok (.iconst 0, 1) := dk_3 (dk_at dksX2_quarrels_0 18 rfl rfl)
theorem dX2_quarrels_19 : decode cX2_quarrels 19 = .ok (.istore_n 3, 1) := dk_62 (dk_at dksX2_quarrels_0 19 rfl rfl)
theorem dX2_quarrels_20 : decode cX2_quarrels 20 = .ok (.iload_n 3, 1) := dk_29 (dk_at dksX2_quarrels_0 20 rfl rfl)
theorem dX2_quarrels_21 : decode cX2_quarrels 21 = .ok (.aload_n 0, 1) := dk_42 (dk_at dksX2_quarrels_0 21 rfl rfl)
theorem dX2_quarrels_22 : decode cX2_quarrels 22 = .ok (.getfield 44, 3) := dk_180 0 44 (dk_at dksX2_quarrels_1 0 rfl rfl)
theorem dX2_quarrels_25 : decode cX2_quarrels 25 = .ok (.iconst 0, 1) := dk_3 (dk_at dksX2_quarrels_1 3 rfl rfl)
theorem dX2_quarrels_26 : decode cX2_quarrels 26 = .ok (.iaload, 1) := dk_46 (dk_at dksX2_quarrels_1 4 rfl rfl)
theorem dX2_quarrels_27 : decode cX2_quarrels 27 = .ok (.if_icmp .ge 62, 3) := dk_162 0 62 (dk_at dksX2_quarrels_1 5 rfl rfl)
theorem dX2_quarrels_30 : decode cX2_quarrels 30 = .ok (.iconst 0, 1) := dk_3 (dk_at dksX2_quarrels_1 8 rfl rfl)
theorem dX2_quarrels_31 : decode cX2_quarrels 31 = .ok (.istore 4, 2) := dk_54 4 (dk_at dksX2_quarrels_1 9 rfl rfl)
theorem dX2_quarrels_33 : decode cX2_quarrels 33 = .ok (.iload 4, 2) := dk_21 4 (dk_at dksX2_quarrels_1 11 rfl rfl)
theorem dX2_quarrels_35 : decode cX2_quarrels 35 = .ok (.iload_n 3, 1) := dk_29 (dk_at dksX2_quarrels_1 13 rfl rfl)
theorem dX2_quarrels_36 : decode cX2_quarrels 36 = .ok (.if_icmp .ge 47, 3) := dk_162 0 47 (dk_at dksX2_quarrels_1 14 rfl rfl)
theorem dX2_quarrels_39 : decode cX2_quarrels 39 = .ok (.iload_n 2, 1) := dk_28 (dk_at dksX2_quarrels_1 17 rfl rfl)
theorem dX2_quarrels_40 : decode cX2_quarrels 40 = .ok (.aload_n 0, 1) := dk_42 (dk_at dksX2_quarrels_1 18 rfl rfl)
theorem dX2_quarrels_41 : decode cX2_quarrels 41 = .ok (.getfield 111, 3) := dk_180 0 111 (dk_at dksX2_quarrels_1 19 rfl rfl)
theorem dX2_quarrels_44 : decode cX2_quarrels 44 = .ok (.bipush 10, 2) := dk_16 10 (dk_at dksX2_quarrels_1 22 rfl rfl)
theorem dX2_quarrels_46 : decode cX2_quarrels 46 = .ok (.iload_n 3, 1) := dk_29 (dk_at dksX2_quarrels_2 0 rfl rfl)
theorem dX2_quarrels_47 : decode cX2_quarrels 47 = .ok (.imul, 1) := dk_104 (dk_at dksX2_quarrels_2 1 rfl rfl)
theorem dX2_quarrels_48 : decode cX2_quarrels 48 = .ok (.iload 4, 2) := dk_21 4 (dk_at dksX2_quarrels_2 2 rfl rfl)
theorem dX2_quarrels_50 : decode cX2_quarrels 50 = .ok (.iadd, 1) := dk_96 (dk_at dksX2_quarrels_2 4 rfl rfl)
theorem dX2_quarrels_51 : decode cX2_quarrels 51 = .ok (.baload, 1) := dk_51 (dk_at dksX2_quarrels_2 5 rfl rfl)
theorem dX2_quarrels_52 : decode cX2_quarrels 52 = .ok (.ifCond .eq 22, 3) := dk_153 0 22 (dk_at dksX2_quarrels_2 6 rfl rfl)
theorem dX2_quarrels_55 : decode cX2_quarrels 55 = .ok (.aload_n 0, 1) := dk_42 (dk_at dksX2_quarrels_2 9 rfl rfl)
theorem dX2_quarrels_56 : decode cX2_quarrels 56 = .ok (.getfield 111, 3) := dk_180 0 111 (dk_at dksX2_quarrels_2 10 rfl rfl)
theorem dX2_quarrels_59 : decode cX2_quarrels 59 = .ok (.bipush 10, 2) := dk_16 10 (dk_at dksX2_quarrels_2 13 rfl rfl)
theorem dX2_quarrels_61 : decode cX2_quarrels 61 = .ok (.iload 4, 2) := dk_21 4 (dk_at dksX2_quarrels_2 15 rfl rfl)
theorem dX2_quarrels_63 : decode cX2_quarrels 63 = .ok (.imul, 1) := dk_104 (dk_at dksX2_quarrels_2 17 rfl rfl)
theorem dX2_quarrels_64 : decode cX2_quarrels 64 = .ok (.iload_n 3, 1) := dk_29 (dk_at dksX2_quarrels_2 18 rfl rfl)
theorem dX2_quarrels_65 : decode cX2_quarrels 65 = .ok (.iadd, 1) := dk_96 (dk_at dksX2_quarrels_2 19 rfl rfl)
theorem dX2_quarrels_66 : decode cX2_quarrels 66 = .ok (.baload, 1) := dk_51 (dk_at dksX2_quarrels_2 20 rfl rfl)
theorem dX2_quarrels_67 : decode cX2_quarrels 67 = .ok (.ifCond .eq 7, 3) := dk_153 0 7 (dk_at dksX2_quarrels_2 21 rfl rfl)
theorem dX2_quarrels_70 : decode cX2_quarrels 70 = .ok (.iconst 1, 1) := dk_4 (dk_at dksX2_quarrels_3 0 rfl rfl)
theorem dX2_quarrels_71 : decode cX2_quarrels 71 = .ok (.goto 4, 3) := dk_167 0 4 (dk_at dksX2_quarrels_3 1 rfl rfl)
theorem dX2_quarrels_74 : decode cX2_quarrels 74 = .ok (.iconst 0, 1) := dk_3 (dk_at dksX2_quarrels_3 4 rfl rfl)
theorem dX2_quarrels_75 : decode cX2_quarrels 75 = .ok (.iadd, 1) := dk_96 (dk_at dksX2_quarrels_3 5 rfl rfl)
theorem dX2_quarrels_76 : decode cX2_quarrels 76 = .ok (.istore_n 2, 1) := dk_61 (dk_at dksX2_quarrels_3 6 rfl rfl)
theorem dX2_quarrels_77 : decode cX2_quarrels 77 = .ok (.iinc 4 1, 3) := dk_132 4 1 (dk_at dksX2_quarrels_3 7 rfl rfl)
theorem dX2_quarrels_80 : decode cX2_quarrels 80 = .ok (.goto (-47), 3) := dk_167 255 209 (dk_at dksX2_quarrels_3 10 rfl rfl)
theorem dX2_quarrels_83 : decode cX2_quarrels 83 = .ok (.iinc 3 1, 3) := dk_132 3 1 (dk_at dksX2_quarrels_3 13 rfl rfl)
theorem dX2_quarrels_86 : decode cX2_quarrels 86 = .ok (.goto (-66), 3) := dk_167 255 190 (dk_at dksX2_quarrels_3 16 rfl rfl)
theorem dX2_quarrels_89 : decode cX2_quarrels 89 = .ok (.iload_n 2, 1) := dk_28 (dk_at dksX2_quarrels_3 19 rfl rfl)
theorem dX2_quarrels_90 : decode cX2_quarrels 90 = .ok (.ireturn, 1) := dk_172 (dk_at dksX2_quarrels_3 20 rfl rfl)
abbrev cX2_toRest : ByteArray := prog_26_method_59_code
def yX2_toRest : MethodName := ⟨RX2, "toRest", "(II)I"⟩
def dkwX2_toRest_10 : List UInt8 := [21, 5, 172]
abbrev dktX2_toRest_10 : List UInt8 := dkwX2_toRest_10 ++ []
def dkwX2_toRest_9 : List UInt8 := [21, 6, 54, 4, 21, 7, 54, 5, 132, 6, 1, 167, 255, 118, 28, 154, 0, 8, 21, 4, 167, 0, 5]
abbrev dktX2_toRest_9 : List UInt8 := dkwX2_toRest_9 ++ dktX2_toRest_10
def dkwX2_toRest_8 : List UInt8 := [167, 0, 32, 42, 27, 21, 6, 182, 1, 94, 42, 42, 182, 1, 97, 182, 1, 105, 153, 0, 6, 167, 0, 11]
abbrev dktX2_toRest_8 : List UInt8 := dkwX2_toRest_8 ++ dktX2_toRest_9
def dkwX2_toRest_7 : List UInt8 := [163, 0, 55, 21, 7, 21, 5, 160, 0, 19, 21, 6, 184, 1, 100, 21, 4, 184, 1, 100, 161, 0, 6]
abbrev dktX2_toRest_7 : List UInt8 := dkwX2_toRest_7 ++ dktX2_toRest_8
def dkwX2_toRest_6 : List UInt8 := [21, 8, 46, 104, 96, 54, 7, 132, 8, 1, 167, 255, 220, 21, 4, 2, 159, 0, 33, 21, 7, 21, 5]
abbrev dktX2_toRest_6 : List UInt8 := dkwX2_toRest_6 ++ dktX2_toRest_7
def dkwX2_toRest_5 : List UInt8 := [42, 180, 0, 51, 3, 46, 162, 0, 31, 21, 7, 21, 6, 21, 8, 122, 4, 126, 42, 180, 0, 35, 3, 50]
abbrev dktX2_toRest_5 : List UInt8 := dkwX2_toRest_5 ++ dktX2_toRest_6
def dkwX2_toRest_4 : List UInt8 := [120, 162, 0, 131, 21, 6, 29, 2, 130, 126, 153, 0, 6, 167, 0, 113, 3, 54, 7, 3, 54, 8, 21, 8]
abbrev dktX2_toRest_4 : List UInt8 := dkwX2_toRest_4 ++ dktX2_toRest_5
def dkwX2_toRest_3 : List UInt8 := [132, 4, 1, 167, 255, 209, 2, 54, 4, 3, 54, 5, 3, 54, 6, 21, 6, 4, 42, 180, 0, 51, 3, 46]
abbrev dktX2_toRest_3 : List UInt8 := dkwX2_toRest_3 ++ dktX2_toRest_4
def dkwX2_toRest_2 : List UInt8 := [154, 0, 20, 42, 21, 4, 27, 182, 1, 32, 153, 0, 10, 4, 21, 4, 120, 167, 0, 4, 3, 128, 62]
abbrev dktX2_toRest_2 : List UInt8 := dkwX2_toRest_2 ++ dktX2_toRest_3
def dkwX2_toRest_1 : List UInt8 := [54, 4, 21, 4, 42, 180, 0, 51, 3, 46, 162, 0, 42, 29, 42, 180, 0, 26, 3, 50, 21, 4, 46]
abbrev dktX2_toRest_1 : List UInt8 := dkwX2_toRest_1 ++ dktX2_toRest_2
def dkwX2_toRest_0 : List UInt8 := [42, 27, 182, 1, 41, 153, 0, 13, 28, 133, 9, 10, 184, 0, 183, 154, 0, 5, 2, 172, 3, 62, 3]
abbrev dktX2_toRest_0 : List UInt8 := dkwX2_toRest_0 ++ dktX2_toRest_1
theorem dksX2_toRest_0 : cX2_toRest.data.toList.drop 0 = dktX2_toRest_0 := by decide +kernel
theorem dksX2_toRest_1 : cX2_toRest.data.toList.drop 23 = dktX2_toRest_1 := dk_seg dksX2_toRest_0 23 rfl rfl
theorem dksX2_toRest_2 : cX2_toRest.data.toList.drop 46 = dktX2_toRest_2 := dk_seg dksX2_toRest_1 23 rfl rfl
theorem dksX2_toRest_3 : cX2_toRest.data.toList.drop 69 = dktX2_toRest_3 := dk_seg dksX2_toRest_2 23 rfl rfl
theorem dksX2_toRest_4 : cX2_toRest.data.toList.drop 93 = dktX2_toRest_4 := dk_seg dksX2_toRest_3 24 rfl rfl
theorem dksX2_toRest_5 : cX2_toRest.data.toList.drop 117 = dktX2_toRest_5 := dk_seg dksX2_toRest_4 24 rfl rfl
theorem dksX2_toRest_6 : cX2_toRest.data.toList.drop 141 = dktX2_toRest_6 := dk_seg dksX2_toRest_5 24 rfl rfl
theorem dksX2_toRest_7 : cX2_toRest.data.toList.drop 164 = dktX2_toRest_7 := dk_seg dksX2_toRest_6 23 rfl rfl
theorem dksX2_toRest_8 : cX2_toRest.data.toList.drop 187 = dktX2_toRest_8 := dk_seg dksX2_toRest_7 23 rfl rfl
theorem dksX2_toRest_9 : cX2_toRest.data.toList.drop 211 = dktX2_toRest_9 := dk_seg dksX2_toRest_8 24 rfl rfl
theorem dksX2_toRest_10 : cX2_toRest.data.toList.drop 234 = dktX2_toRest_10 := dk_seg dksX2_toRest_9 23 rfl rfl
theorem dX2_toRest_0 : decode cX2_toRest 0 = .ok (.aload_n 0, 1) := dk_42 (dk_at dksX2_toRest_0 0 rfl rfl)
theorem dX2_toRest_1 : decode cX2_toRest 1 = .ok (.iload_n 1, 1) := dk_27 (dk_at dksX2_toRest_0 1 rfl rfl)
theorem dX2_toRest_2 : decode cX2_toRest 2 = .ok (.invokevirtual 297, 3) := dk_182 1 41 (dk_at dksX2_toRest_0 2 rfl rfl)
theorem dX2_toRest_5 : decode cX2_toRest 5 = .ok (.ifCond .eq 13, 3) := dk_153 0 13 (dk_at dksX2_toRest_0 5 rfl rfl)
theorem dX2_toRest_8 : decode cX2_toRest 8 = .ok (.iload_n 2, 1) := dk_28 (dk_at dksX2_toRest_0 8 rfl rfl)
theorem dX2_toRest_9 : decode cX2_toRest 9 = .ok (.i2l, 1) := dk_133 (dk_at dksX2_toRest_0 9 rfl rfl)
theorem dX2_toRest_10 : decode cX2_toRest 10 = .ok (.lconst 0, 1) := dk_9 (dk_at dksX2_toRest_0 10 rfl rfl)
theorem dX2_toRest_11 : decode cX2_toRest 11 = .ok (.lconst 1, 1) := dk_10 (dk_at dksX2_toRest_0 11 rfl rfl)
theorem dX2_toRest_12 : decode cX2_toRest 12 = .ok (.invokestatic 183, 3) := dk_184 0 183 (dk_at dksX2_toRest_0 12 rfl rfl)
theorem dX2_toRest_15 : decode cX2_toRest 15 = .ok (.ifCond .ne 5, 3) := dk_154 0 5 (dk_at dksX2_toRest_0 15 rfl rfl)
theorem dX2_toRest_18 : decode cX2_toRest 18 = .ok (.iconst (-1), 1) := dk_2 (dk_at dksX2_toRest_0 18 rfl rfl)
theorem dX2_toRest_19 : decode cX2_toRest 19 = .ok (.ireturn, 1) := dk_172 (dk_at dksX2_toRest_0 19 rfl rfl)
theorem dX2_toRest_20 : decode cX2_toRest 20 = .ok (.iconst 0, 1) := dk_3 (dk_at dksX2_toRest_0 20 rfl rfl)
theorem dX2_toRest_21 : decode cX2_toRest 21 = .ok (.istore_n 3, 1) := dk_62 (dk_at dksX2_toRest_0 21 rfl rfl)
theorem dX2_toRest_22 : decode cX2_toRest 22 = .ok (.iconst 0, 1) := dk_3 (dk_at dksX2_toRest_0 22 rfl rfl)
theorem dX2_toRest_23 : decode cX2_toRest 23 = .ok (.istore 4, 2) := dk_54 4 (dk_at dksX2_toRest_1 0 rfl rfl)
theorem dX2_toRest_25 : decode cX2_toRest 25 = .ok (.iload 4, 2) := dk_21 4 (dk_at dksX2_toRest_1 2 rfl rfl)
theorem dX2_toRest_27 : decode cX2_toRest 27 = .ok (.aload_n 0, 1) := dk_42 (dk_at dksX2_toRest_1 4 rfl rfl)
theorem dX2_toRest_28 : decode cX2_toRest 28 = .ok (.getfield 51, 3) := dk_180 0 51 (dk_at dksX2_toRest_1 5 rfl rfl)
theorem dX2_toRest_31 : decode cX2_toRest 31 = .ok (.iconst 0, 1) := dk_3 (dk_at dksX2_toRest_1 8 rfl rfl)
theorem dX2_toRest_32 : decode cX2_toRest 32 = .ok (.iaload, 1) := dk_46 (dk_at dksX2_toRest_1 9 rfl rfl)
theorem dX2_toRest_33 : decode cX2_toRest 33 = .ok (.if_icmp .ge 42, 3) := dk_162 0 42 (dk_at dksX2_toRest_1 10 rfl rfl)
theorem dX2_toRest_36 : decode cX2_toRest 36 = .ok (.iload_n 3, 1) := dk_29 (dk_at dksX2_toRest_1 13 rfl rfl)
theorem dX2_toRest_37 : decode cX2_toRest 37 = .ok (.aload_n 0, 1) := dk_42 (dk_at dksX2_toRest_1 14 rfl rfl)
theorem dX2_toRest_38 : decode cX2_toRest 38 = .ok (.getfield 26, 3) := dk_180 0 26 (dk_at dksX2_toRest_1 15 rfl rfl)
theorem dX2_toRest_41 : decode cX2_toRest 41 = .ok (.iconst 0, 1) := dk_3 (dk_at dksX2_toRest_1 18 rfl rfl)
theorem dX2_toRest_42 : decode cX2_toRest 42 = .ok (.aaload, 1) := dk_50 (dk_at dksX2_toRest_1 19 rfl rfl)
theorem dX2_toRest_43 : decode cX2_toRest 43 = .ok (.iload 4, 2) := dk_21 4 (dk_at dksX2_toRest_1 20 rfl rfl)
theorem dX2_toRest_45 : decode cX2_toRest 45 = .ok (.iaload, 1) := dk_46 (dk_at dksX2_toRest_1 22 rfl rfl)
theorem dX2_toRest_46 : decode cX2_toRest 46 = .ok (.ifCond .ne 20, 3) := dk_154 0 20 (dk_at dksX2_toRest_2 0 rfl rfl)
theorem dX2_toRest_49 : decode cX2_toRest 49 = .ok (.aload_n 0, 1) := dk_42 (dk_at dksX2_toRest_2 3 rfl rfl)
theorem dX2_toRest_50 : decode cX2_toRest 50 = .ok (.iload 4, 2) := dk_21 4 (dk_at dksX2_toRest_2 4 rfl rfl)
theorem dX2_toRest_52 : decode cX2_toRest 52 = .ok (.iload_n 1, 1) := dk_27 (dk_at dksX2_toRest_2 6 rfl rfl)
theorem dX2_toRest_53 : decode cX2_toRest 53 = .ok (.invokevirtual 288, 3) := dk_182 1 32 (dk_at dksX2_toRest_2 7 rfl rfl)
theorem dX2_toRest_56 : decode cX2_toRest 56 = .ok (.ifCond .eq 10, 3) := dk_153 0 10 (dk_at dksX2_toRest_2 10 rfl rfl)
theorem dX2_toRest_59 : decode cX2_toRest 59 = .ok (.iconst 1, 1) := dk_4 (dk_at dksX2_toRest_2 13 rfl rfl)
theorem dX2_toRest_60 : decode cX2_toRest 60 = .ok (.iload 4, 2) := dk_21 4 (dk_at dksX2_toRest_2 14 rfl rfl)
theorem dX2_toRest_62 : decode cX2_toRest 62 = .ok (.ishl, 1) := dk_120 (dk_at dksX2_toRest_2 16 rfl rfl)
theorem dX2_toRest_63 : decode cX2_toRest 63 = .ok (.goto 4, 3) := dk_167 0 4 (dk_at dksX2_toRest_2 17 rfl rfl)
theorem dX2_toRest_66 : decode cX2_toRest 66 = .ok (.iconst 0, 1) := dk_3 (dk_at dksX2_toRest_2 20 rfl rfl)
theorem dX2_toRest_67 : decode cX2_toRest 67 = .ok (.ior, 1) := dk_128 (dk_at dksX2_toRest_2 21 rfl rfl)
theorem dX2_toRest_68 : decode cX2_toRest 68 = .ok (.istore_n 3, 1) := dk_62 (dk_at dksX2_toRest_2 22 rfl rfl)
theorem dX2_toRest_69 : decode cX2_toRest 69 = .ok (.iinc 4 1, 3) := dk_132 4 1 (dk_at dksX2_toRest_3 0 rfl rfl)
theorem dX2_toRest_72 : decode cX2_toRest 72 = .ok (.goto (-47), 3) := dk_167 255 209 (dk_at dksX2_toRest_3 3 rfl rfl)
theorem dX2_toRest_75 : decode cX2_toRest 75 = .ok (.iconst (-1), 1) := dk_2 (dk_at dksX2_toRest_3 6 rfl rfl)
theorem dX2_toRest_76 : decode cX2_toRest 76 = .ok (.istore 4, 2) := dk_54 4 (dk_at dksX2_toRest_3 7 rfl rfl)
theorem dX2_toRest_78 : decode cX2_toRest 78 = .ok (.iconst 0, 1) := dk_3 (dk_at dksX2_toRest_3 9 rfl rfl)
theorem dX2_toRest_79 : decode cX2_toRest 79 = .ok (.istore 5, 2) := dk_54 5 (dk_at dksX2_toRest_3 10 rfl rfl)
theorem dX2_toRest_81 : decode cX2_toRest 81 = .ok (.iconst 0, 1) := dk_3 (dk_at dksX2_toRest_3 12 rfl rfl)
theorem dX2_toRest_82 : decode cX2_toRest 82 = .ok (.istore 6, 2) := dk_54 6 (dk_at dksX2_toRest_3 13 rfl rfl)
theorem dX2_toRest_84 : decode cX2_toRest 84 = .ok (.iload 6, 2) := dk_21 6 (dk_at dksX2_toRest_3 15 rfl rfl)
theorem dX2_toRest_86 : decode cX2_toRest 86 = .ok (.iconst 1, 1) := dk_4 (dk_at dksX2_toRest_3 17 rfl rfl)
theorem dX2_toRest_87 : decode cX2_toRest 87 = .ok (.aload_n 0, 1) := dk_42 (dk_at dksX2_toRest_3 18 rfl rfl)
theorem dX2_toRest_88 : decode cX2_toRest 88 = .ok (.getfield 51, 3) := dk_180 0 51 (dk_at dksX2_toRest_3 19 rfl rfl)
theorem dX2_toRest_91 : decode cX2_toRest 91 = .ok (.iconst 0, 1) := dk_3 (dk_at dksX2_toRest_3 22 rfl rfl)
theorem dX2_toRest_92 : decode cX2_toRest 92 = .ok (.iaload, 1) := dk_46 (dk_at dksX2_toRest_3 23 rfl rfl)
theorem dX2_toRest_93 : decode cX2_toRest 93 = .ok (.ishl, 1) := dk_120 (dk_at dksX2_toRest_4 0 rfl rfl)
theorem dX2_toRest_94 : decode cX2_toRest 94 = .ok (.if_icmp .ge 131, 3) := dk_162 0 131 (dk_at dksX2_toRest_4 1 rfl rfl)
theorem dX2_toRest_97 : decode cX2_toRest 97 = .ok (.iload 6, 2) := dk_21 6 (dk_at dksX2_toRest_4 4 rfl rfl)
theorem dX2_toRest_99 : decode cX2_toRest 99 = .ok (.iload_n 3, 1) := dk_29 (dk_at dksX2_toRest_4 6 rfl rfl)
theorem dX2_toRest_100 : decode cX2_toRest 100 = .ok (.iconst (-1), 1) := dk_2 (dk_at dksX2_toRest_4 7 rfl rfl)
theorem dX2_toRest_101 : decode cX2_toRest 101 = .ok (.ixor, 1) := dk_130 (dk_at dksX2_toRest_4 8 rfl rfl)
theorem dX2_toRest_102 : decode cX2_toRest 102 = .ok (.iand, 1) := dk_126 (dk_at dksX2_toRest_4 9 rfl rfl)
theorem dX2_toRest_103 : decode cX2_toRest 103 = .ok (.ifCond .eq 6, 3) := dk_153 0 6 (dk_at dksX2_toRest_4 10 rfl rfl)
theorem dX2_toRest_106 : decode cX2_toRest 106 = .ok (.goto 113, 3) := dk_167 0 113 (dk_at dksX2_toRest_4 13 rfl rfl)
theorem dX2_toRest_109 : decode cX2_toRest 109 = .ok (.iconst 0, 1) := dk_3 (dk_at dksX2_toRest_4 16 rfl rfl)
theorem dX2_toRest_110 : decode cX2_toRest 110 = .ok (.istore 7, 2) := dk_54 7 (dk_at dksX2_toRest_4 17 rfl rfl)
theorem dX2_toRest_112 : decode cX2_toRest 112 = .ok (.iconst 0, 1) := dk_3 (dk_at dksX2_toRest_4 19 rfl rfl)
theorem dX2_toRest_113 : decode cX2_toRest 113 = .ok (.istore 8, 2) := dk_54 8 (dk_at dksX2_toRest_4 20 rfl rfl)
theorem dX2_toRest_115 : decode cX2_toRest 115 = .ok (.iload 8, 2) := dk_21 8 (dk_at dksX2_toRest_4 22 rfl rfl)
theorem dX2_toRest_117 : decode cX2_toRest 117 = .ok (.aload_n 0, 1) := dk_42 (dk_at dksX2_toRest_5 0 rfl rfl)
theorem dX2_toRest_118 : decode cX2_toRest 118 = .ok (.getfield 51, 3) := dk_180 0 51 (dk_at dksX2_toRest_5 1 rfl rfl)
theorem dX2_toRest_121 : decode cX2_toRest 121 = .ok (.iconst 0, 1) := dk_3 (dk_at dksX2_toRest_5 4 rfl rfl)
theorem dX2_toRest_122 : decode cX2_toRest 122 = .ok (.iaload, 1) := dk_46 (dk_at dksX2_toRest_5 5 rfl rfl)
theorem dX2_toRest_123 : decode cX2_toRest 123 = .ok (.if_icmp .ge 31, 3) := dk_162 0 31 (dk_at dksX2_toRest_5 6 rfl rfl)
theorem dX2_toRest_126 : decode cX2_toRest 126 = .ok (.iload 7, 2) := dk_21 7 (dk_at dksX2_toRest_5 9 rfl rfl)
theorem dX2_toRest_128 : decode cX2_toRest 128 = .ok (.iload 6, 2) := dk_21 6 (dk_at dksX2_toRest_5 11 rfl rfl)
theorem dX2_toRest_130 : decode cX2_toRest 130 = .ok (.iload 8, 2) := dk_21 8 (dk_at dksX2_toRest_5 13 rfl rfl)
theorem dX2_toRest_132 : decode cX2_toRest 132 = .ok (.ishr, 1) := dk_122 (dk_at dksX2_toRest_5 15 rfl rfl)
theorem dX2_toRest_133 : decode cX2_toRest 133 = .ok (.iconst 1, 1) := dk_4 (dk_at dksX2_toRest_5 16 rfl rfl)
theorem dX2_toRest_134 : decode cX2_toRest 134 = .ok (.iand, 1) := dk_126 (dk_at dksX2_toRest_5 17 rfl rfl)
theorem dX2_toRest_135 : decode cX2_toRest 135 = .ok (.aload_n 0, 1) := dk_42 (dk_at dksX2_toRest_5 18 rfl rfl)
theorem dX2_toRest_136 : decode cX2_toRest 136 = .ok (.getfield 35, 3) := dk_180 0 35 (dk_at dksX2_toRest_5 19 rfl rfl)
theorem dX2_toRest_139 : decode cX2_toRest 139 = .ok (.iconst 0, 1) := dk_3 (dk_at dksX2_toRest_5 22 rfl rfl)
theorem dX2_toRest_140 : decode cX2_toRest 140 = .ok (.aaload, 1) := dk_50 (dk_at dksX2_toRest_5 23 rfl rfl)
theorem dX2_toRest_141 : decode cX2_toRest 141 = .ok (.iload 8, 2) := dk_21 8 (dk_at dksX2_toRest_6 0 rfl rfl)
theorem dX2_toRest_143 : decode cX2_toRest 143 = .ok (.iaload, 1) := dk_46 (dk_at dksX2_toRest_6 2 rfl rfl)
theorem dX2_toRest_144 : decode cX2_toRest 144 = .ok (.imul, 1) := dk_104 (dk_at dksX2_toRest_6 3 rfl rfl)
theorem dX2_toRest_145 : decode cX2_toRest 145 = .ok (.iadd, 1) := dk_96 (dk_at dksX2_toRest_6 4 rfl rfl)
theorem dX2_toRest_146 : decode cX2_toRest 146 = .ok (.istore 7, 2) := dk_54 7 (dk_at dksX2_toRest_6 5 rfl rfl)
theorem dX2_toRest_148 : decode cX2_toRest 148 = .ok (.iinc 8 1, 3) := dk_132 8 1 (dk_at dksX2_toRest_6 7 rfl rfl)
theorem dX2_toRest_151 : decode cX2_toRest 151 = .ok (.goto (-36), 3) := dk_167 255 220 (dk_at dksX2_toRest_6 10 rfl rfl)
theorem dX2_toRest_154 : decode cX2_toRest 154 = .ok (.iload 4, 2) := dk_21 4 (dk_at dksX2_toRest_6 13 rfl rfl)
theorem dX2_toRest_156 : decode cX2_toRest 156 = .ok (.iconst (-1), 1) := dk_2 (dk_at dksX2_toRest_6 15 rfl rfl)
theorem dX2_toRest_157 : decode cX2_toRest 157 = .ok (.if_icmp .eq 33, 3) := dk_159 0 33 (dk_at dksX2_toRest_6 16 rfl rfl)
theorem dX2_toRest_160 : decode cX2_toRest 160 = .ok (.iload 7, 2) := dk_21 7 (dk_at dksX2_toRest_6 19 rfl rfl)
theorem dX2_toRest_162 : decode cX2_toRest 162 = .ok (.iload 5, 2) := dk_21 5 (dk_at dksX2_toRest_6 21 rfl rfl)
theorem dX2_toRest_164 : decode cX2_toRest 164 = .ok (.if_icmp .gt 55, 3) := dk_163 0 55 (dk_at dksX2_toRest_7 0 rfl rfl)
theorem dX2_toRest_167 : decode cX2_toRest 167 = .ok (.iload 7, 2) := dk_21 7 (dk_at dksX2_toRest_7 3 rfl rfl)
theorem dX2_toRest_169 : decode cX2_toRest 169 = .ok (.iload 5, 2) := dk_21 5 (dk_at dksX2_toRest_7 5 rfl rfl)
theorem dX2_toRest_171 : decode cX2_toRest 171 = .ok (.if_icmp .ne 19, 3) := dk_160 0 19 (dk_at dksX2_toRest_7 7 rfl rfl)
theorem dX2_toRest_174 : decode cX2_toRest 174 = .ok (.iload 6, 2) := dk_21 6 (dk_at dksX2_toRest_7 10 rfl rfl)
theorem dX2_toRest_176 : decode cX2_toRest 176 = .ok (.invokestatic 356, 3) := dk_184 1 100 (dk_at dksX2_toRest_7 12 rfl rfl)
theorem dX2_toRest_179 : decode cX2_toRest 179 = .ok (.iload 4, 2) := dk_21 4 (dk_at dksX2_toRest_7 15 rfl rfl)
theorem dX2_toRest_181 : decode cX2_toRest 181 = .ok (.invokestatic 356, 3) := dk_184 1 100 (dk_at dksX2_toRest_7 17 rfl rfl)
theorem dX2_toRest_184 : decode cX2_toRest 184 = .ok (.if_icmp .lt 6, 3) := dk_161 0 6 (dk_at dksX2_toRest_7 20 rfl rfl)
theorem dX2_toRest_187 : decode cX2_toRest 187 = .ok (.goto 32, 3) := dk_167 0 32 (dk_at dksX2_toRest_8 0 rfl rfl)
theorem dX2_toRest_190 : decode cX2_toRest 190 = .ok (.aload_n 0, 1) := dk_42 (dk_at dksX2_toRest_8 3 rfl rfl)
theorem dX2_toRest_191 : decode cX2_toRest 191 = .ok (.iload_n 1, 1) := dk_27 (dk_at dksX2_toRest_8 4 rfl rfl)
theorem dX2_toRest_192 : decode cX2_toRest 192 = .ok (.iload 6, 2) := dk_21 6 (dk_at dksX2_toRest_8 5 rfl rfl)
theorem dX2_toRest_194 : decode cX2_toRest 194 = .ok (.invokevirtual 350, 3) := dk_182 1 94 (dk_at dksX2_toRest_8 7 rfl rfl)
theorem dX2_toRest_197 : decode cX2_toRest 197 = .ok (.aload_n 0, 1) := dk_42 (dk_at dksX2_toRest_8 10 rfl rfl)
theorem dX2_toRest_198 : decode cX2_toRest 198 = .ok (.aload_n 0, 1) := dk_42 (dk_at dksX2_toRest_8 11 rfl rfl)
theorem dX2_toRest_199 : decode cX2_toRest 199 = .ok (.invokevirtual 353, 3) := dk_182 1 97 (dk_at dksX2_toRest_8 12 rfl rfl)
theorem dX2_toRest_202 : decode cX2_toRest 202 = .ok (.invokevirtual 361, 3) := dk_182 1 105 (dk_at dksX2_toRest_8 15 rfl rfl)
theorem dX2_toRest_205 : decode cX2_toRest 205 = .ok (.ifCond .eq 6, 3) := dk_153 0 6 (dk_at dksX2_toRest_8 18 rfl rfl)
theorem dX2_toRest_208 : decode cX2_toRest 208 = .ok (.goto 11, 3) := dk_167 0 11 (dk_at dksX2_toRest_8 21 rfl rfl)
theorem dX2_toRest_211 : decode cX2_toRest 211 = .ok (.iload 6, 2) := dk_21 6 (dk_at dksX2_toRest_9 0 rfl rfl)
theorem dX2_toRest_213 : decode cX2_toRest 213 = .ok (.istore 4, 2) := dk_54 4 (dk_at dksX2_toRest_9 2 rfl rfl)
theorem dX2_toRest_215 : decode cX2_toRest 215 = .ok (.iload 7, 2) := dk_21 7 (dk_at dksX2_toRest_9 4 rfl rfl)
theorem dX2_toRest_217 : decode cX2_toRest 217 = .ok (.istore 5, 2) := dk_54 5 (dk_at dksX2_toRest_9 6 rfl rfl)
theorem dX2_toRest_219 : decode cX2_toRest 219 = .ok (.iinc 6 1, 3) := dk_132 6 1 (dk_at dksX2_toRest_9 8 rfl rfl)
theorem dX2_toRest_222 : decode cX2_toRest 222 = .ok (.goto (-138), 3) := dk_167 255 118 (dk_at dksX2_toRest_9 11 rfl rfl)
theorem dX2_toRest_225 : decode cX2_toRest 225 = .ok (.iload_n 2, 1) := dk_28 (dk_at dksX2_toRest_9 14 rfl rfl)
theorem dX2_toRest_226 : decode cX2_toRest 226 = .ok (.ifCond .ne 8, 3) := dk_154 0 8 (dk_at dksX2_toRest_9 15 rfl rfl)
theorem dX2_toRest_229 : decode cX2_toRest 229 = .ok (.iload 4, 2) := dk_21 4 (dk_at dksX2_toRest_9 18 rfl rfl)
theorem dX2_toRest_231 : decode cX2_toRest 231 = .ok (.goto 5, 3) := dk_167 0 5 (dk_at dksX2_toRest_9 20 rfl rfl)
theorem dX2_toRest_234 : decode cX2_toRest 234 = .ok (.iload 5, 2) := dk_21 5 (dk_at dksX2_toRest_10 0 rfl rfl)
theorem dX2_toRest_236 : decode cX2_toRest 236 = .ok (.ireturn, 1) := dk_172 (dk_at dksX2_toRest_10 2 rfl rfl)
abbrev cX2_hasRing : ByteArray := prog_26_method_55_code
def yX2_hasRing : MethodName := ⟨RX2, "hasRing", "(I)Z"⟩
def dkwX2_hasRing_1 : List UInt8 := [182, 1, 91, 2, 159, 0, 5, 4, 172, 132, 2, 1, 167, 255, 222, 3, 172]
abbrev dktX2_hasRing_1 : List UInt8 := dkwX2_hasRing_1 ++ []
def dkwX2_hasRing_0 : List UInt8 := [3, 61, 28, 42, 180, 0, 44, 3, 46, 162, 0, 30, 27, 28, 122, 4, 126, 4, 160, 0, 15, 42, 28, 27]
abbrev dktX2_hasRing_0 : List UInt8 := dkwX2_hasRing_0 ++ dktX2_hasRing_1
theorem dksX2_hasRing_0 : cX2_hasRing.data.toList.drop 0 = dktX2_hasRing_0 := by decide +kernel
theorem dksX2_hasRing_1 : cX2_hasRing.data.toList.drop 24 = dktX2_hasRing_1 := dk_seg dksX2_hasRing_0 24 rfl rfl
theorem dX2_hasRing_0 : decode cX2_hasRing 0 = .ok (.iconst 0, 1) := dk_3 (dk_at dksX2_hasRing_0 0 rfl rfl)
theorem dX2_hasRing_1 : decode cX2_hasRing 1 = .ok (.istore_n 2, 1) := dk_61 (dk_at dksX2_hasRing_0 1 rfl rfl)
theorem dX2_hasRing_2 : decode cX2_hasRing 2 = .ok (.iload_n 2, 1) := dk_28 (dk_at dksX2_hasRing_0 2 rfl rfl)
theorem dX2_hasRing_3 : decode cX2_hasRing 3 = .ok (.aload_n 0, 1) := dk_42 (dk_at dksX2_hasRing_0 3 rfl rfl)
theorem dX2_hasRing_4 : decode cX2_hasRing 4 = .ok (.getfield 44, 3) := dk_180 0 44 (dk_at dksX2_hasRing_0 4 rfl rfl)
theorem dX2_hasRing_7 : decode cX2_hasRing 7 = .ok (.iconst 0, 1) := dk_3 (dk_at dksX2_hasRing_0 7 rfl rfl)
theorem dX2_hasRing_8 : decode cX2_hasRing 8 = .ok (.iaload, 1) := dk_46 (dk_at dksX2_hasRing_0 8 rfl rfl)
theorem dX2_hasRing_9 : decode cX2_hasRing 9 = .ok (.if_icmp .ge 30, 3) := dk_162 0 30 (dk_at dksX2_hasRing_0 9 rfl rfl)
theorem dX2_hasRing_12 : decode cX2_hasRing 12 = .ok (.iload_n 1, 1) := dk_27 (dk_at dksX2_hasRing_0 12 rfl rfl)
theorem dX2_hasRing_13 : decode cX2_hasRing 13 = .ok (.iload_n 2, 1) := dk_28 (dk_at dksX2_hasRing_0 13 rfl rfl)
theorem dX2_hasRing_14 : decode cX2_hasRing 14 = .ok (.ishr, 1) := dk_122 (dk_at dksX2_hasRing_0 14 rfl rfl)
theorem dX2_hasRing_15 : decode cX2_hasRing 15 = .ok (.iconst 1, 1) := dk_4 (dk_at dksX2_hasRing_0 15 rfl rfl)
theorem dX2_hasRing_16 : decode cX2_hasRing 16 = .ok (.iand, 1) := dk_126 (dk_at dksX2_hasRing_0 16 rfl rfl)
theorem dX2_hasRing_17 : decode cX2_hasRing 17 = .ok (.iconst 1, 1) := dk_4 (dk_at dksX2_hasRing_0 17 rfl rfl)
theorem dX2_hasRing_18 : decode cX2_hasRing 18 = .ok (.if_icmp .ne 15, 3) := dk_160 0 15 (dk_at dksX2_hasRing_0 18 rfl rfl)
theorem dX2_hasRing_21 : decode cX2_hasRing 21 = .ok (.aload_n 0, 1) := dk_42 (dk_at dksX2_hasRing_0 21 rfl rfl)
theorem dX2_hasRing_22 : decode cX2_hasRing 22 = .ok (.iload_n 2, 1) := dk_28 (dk_at dksX2_hasRing_0 22 rfl rfl)
theorem dX2_hasRing_23 : decode cX2_hasRing 23 = .ok (.iload_n 1, 1) := dk_27 (dk_at dksX2_hasRing_0 23 rfl rfl)
theorem dX2_hasRing_24 : decode cX2_hasRing 24 = .ok (.invokevirtual 347, 3) := dk_182 1 91 (dk_at dksX2_hasRing_1 0 rfl rfl)
theorem dX2_hasRing_27 : decode cX2_hasRing 27 = .ok (.iconst (-1), 1) := dk_2 (dk_at dksX2_hasRing_1 3 rfl rfl)
theorem dX2_hasRing_28 : decode cX2_hasRing 28 = .ok (.if_icmp .eq 5, 3) := dk_159 0 5 (dk_at dksX2_hasRing_1 4 rfl rfl)
theorem dX2_hasRing_31 : decode cX2_hasRing 31 = .ok (.iconst 1, 1) := dk_4 (dk_at dksX2_hasRing_1 7 rfl rfl)
theorem dX2_hasRing_32 : decode cX2_hasRing 32 = .ok (.ireturn, 1) := dk_172 (dk_at dksX2_hasRing_1 8 rfl rfl)
theorem dX2_hasRing_33 : decode cX2_hasRing 33 = .ok (.iinc 2 1, 3) := dk_132 2 1 (dk_at dksX2_hasRing_1 9 rfl rfl)
theorem dX2_hasRing_36 : decode cX2_hasRing 36 = .ok (.goto (-34), 3) := dk_167 255 222 (dk_at dksX2_hasRing_1 12 rfl rfl)
theorem dX2_hasRing_39 : decode cX2_hasRing 39 = .ok (.iconst 0, 1) := dk_3 (dk_at dksX2_hasRing_1 15 rfl rfl)
theorem dX2_hasRing_40 : decode cX2_hasRing 40 = .ok (.ireturn, 1) := dk_172 (dk_at dksX2_hasRing_1 16 rfl rfl)
abbrev cX2_order : ByteArray := prog_26_method_62_code
def yX2_order : MethodName := ⟨RX2, "order", "(II)I"⟩
def dkwX2_order_6 : List UInt8 := [180, 0, 118, 28, 46, 167, 0, 4, 2, 172]
abbrev dktX2_order_6 : List UInt8 := dkwX2_order_6 ++ []
def dkwX2_order_5 : List UInt8 := [167, 255, 167, 29, 154, 0, 26, 28, 133, 9, 21, 5, 4, 100, 133, 184, 0, 183, 153, 0, 12, 42]
abbrev dktX2_order_5 : List UInt8 := dkwX2_order_5 ++ dktX2_order_6
def dkwX2_order_4 : List UInt8 := [128, 54, 4, 42, 180, 0, 118, 21, 5, 21, 7, 79, 132, 5, 1, 4, 54, 6, 132, 7, 1, 167, 255, 181]
abbrev dktX2_order_4 : List UInt8 := dkwX2_order_4 ++ dktX2_order_5
def dkwX2_order_3 : List UInt8 := [182, 1, 111, 154, 0, 6, 167, 0, 36, 29, 4, 21, 7, 120, 2, 130, 126, 62, 21, 4, 4, 21, 7, 120]
abbrev dktX2_order_3 : List UInt8 := dkwX2_order_3 ++ dktX2_order_4
def dkwX2_order_2 : List UInt8 := [46, 162, 0, 70, 21, 6, 154, 0, 65, 29, 21, 7, 122, 4, 126, 153, 0, 50, 42, 21, 7, 21, 4]
abbrev dktX2_order_2 : List UInt8 := dkwX2_order_2 ++ dktX2_order_3
def dkwX2_order_1 : List UInt8 := [3, 54, 5, 4, 54, 6, 21, 6, 153, 0, 90, 3, 54, 6, 3, 54, 7, 21, 7, 42, 180, 0, 44, 3]
abbrev dktX2_order_1 : List UInt8 := dkwX2_order_1 ++ dktX2_order_2
def dkwX2_order_0 : List UInt8 := [42, 27, 182, 1, 41, 154, 0, 5, 2, 172, 42, 27, 3, 182, 1, 94, 42, 182, 1, 108, 62, 3, 54, 4]
abbrev dktX2_order_0 : List UInt8 := dkwX2_order_0 ++ dktX2_order_1
theorem dksX2_order_0 : cX2_order.data.toList.drop 0 = dktX2_order_0 := by decide +kernel
theorem dksX2_order_1 : cX2_order.data.toList.drop 24 = dktX2_order_1 := dk_seg dksX2_order_0 24 rfl rfl
theorem dksX2_order_2 : cX2_order.data.toList.drop 48 = dktX2_order_2 := dk_seg dksX2_order_1 24 rfl rfl
theorem dksX2_order_3 : cX2_order.data.toList.drop 71 = dktX2_order_3 := dk_seg dksX2_order_2 23 rfl rfl
theorem dksX2_order_4 : cX2_order.data.toList.drop 95 = dktX2_order_4 := dk_seg dksX2_order_3 24 rfl rfl
theorem dksX2_order_5 : cX2_order.data.toList.drop 119 = dktX2_order_5 := dk_seg dksX2_order_4 24 rfl rfl
theorem dksX2_order_6 : cX2_order.data.toList.drop 141 = dktX2_order_6 := dk_seg dksX2_order_5 22 rfl rfl
theorem dX2_order_0 : decode cX2_order 0 = .ok (.aload_n 0, 1) := dk_42 (dk_at dksX2_order_0 0 rfl rfl)
theorem dX2_order_1 : decode cX2_order 1 = .ok (.iload_n 1, 1) := dk_27 (dk_at dksX2_order_0 1 rfl rfl)
theorem dX2_order_2 : decode cX2_order 2 = .ok (.invokevirtual 297, 3) := dk_182 1 41 (dk_at dksX2_order_0 2 rfl rfl)
theorem dX2_order_5 : decode cX2_order 5 = .ok (.ifCond .ne 5, 3) := dk_154 0 5 (dk_at dksX2_order_0 5 rfl rfl)
theorem dX2_order_8 : decode cX2_order 8 = .ok (.iconst (-1), 1) := dk_2 (dk_at dksX2_order_0 8 rfl rfl)
theorem dX2_order_9 : decode cX2_order 9 = .ok (.ireturn, 1) := dk_172 (dk_at dksX2_order_0 9 rfl rfl)
theorem dX2_order_10 : decode cX2_order 10 = .ok (.aload_n 0, 1) := dk_42 (dk_at dksX2_order_0 10 rfl rfl)
theorem dX2_order_11 : decode cX2_order 11 = .ok (.iload_n 1, 1) := dk_27 (dk_at dksX2_order_0 11 rfl rfl)
theorem dX2_order_12 : decode cX2_order 12 = .ok (.iconst 0, 1) := dk_3 (dk_at dksX2_order_0 12 rfl rfl)
theorem dX2_order_13 : decode cX2_order 13 = .ok (.invokevirtual 350, 3) := dk_182 1 94 (dk_at dksX2_order_0 13 rfl rfl)
theorem dX2_order_16 : decode cX2_order 16 = .ok (.aload_n 0, 1) := dk_42 (dk_at dksX2_order_0 16 rfl rfl)
theorem dX2_order_17 : decode cX2_order 17 = .ok (.invokevirtual 364, 3) := dk_182 1 108 (dk_at dksX2_order_0 17 rfl rfl)
theorem dX2_order_20 : decode cX2_order 20 = .ok (.istore_n 3, 1) := dk_62 (dk_at dksX2_order_0 20 rfl rfl)
theorem dX2_order_21 : decode cX2_order 21 = .ok (.iconst 0, 1) := dk_3 (dk_at dksX2_order_0 21 rfl rfl)
theorem dX2_order_22 : decode cX2_order 22 = .ok (.istore 4, 2) := dk_54 4 (dk_at dksX2_order_0 22 rfl rfl)
theorem dX2_order_24 : decode cX2_order 24 = .ok (.iconst 0, 1) := dk_3 (dk_at dksX2_order_1 0 rfl rfl)
theorem dX2_order_25 : decode cX2_order 25 = .ok (.istore 5, 2) := dk_54 5 (dk_at dksX2_order_1 1 rfl rfl)
theorem dX2_order_27 : decode cX2_order 27 = .ok (.iconst 1, 1) := dk_4 (dk_at dksX2_order_1 3 rfl rfl)
theorem dX2_order_28 : decode cX2_order 28 = .ok (.istore 6, 2) := dk_54 6 (dk_at dksX2_order_1 4 rfl rfl)
theorem dX2_order_30 : decode cX2_order 30 = .ok (.iload 6, 2) := dk_21 6 (dk_at dksX2_order_1 6 rfl rfl)
theorem dX2_order_32 : decode cX2_order 32 = .ok (.ifCond .eq 90, 3) := dk_153 0 90 (dk_at dksX2_order_1 8 rfl rfl)
theorem dX2_order_35 : decode cX2_order 35 = .ok (.iconst 0, 1) := dk_3 (dk_at dksX2_order_1 11 rfl rfl)
theorem dX2_order_36 : decode cX2_order 36 = .ok (.istore 6, 2) := dk_54 6 (dk_at dksX2_order_1 12 rfl rfl)
theorem dX2_order_38 : decode cX2_order 38 = .ok (.iconst 0, 1) := dk_3 (dk_at dksX2_order_1 14 rfl rfl)
theorem dX2_order_39 : decode cX2_order 39 = .ok (.istore 7, 2) := dk_54 7 (dk_at dksX2_order_1 15 rfl rfl)
theorem dX2_order_41 : decode cX2_order 41 = .ok (.iload 7, 2) := dk_21 7 (dk_at dksX2_order_1 17 rfl rfl)
theorem dX2_order_43 : decode cX2_order 43 = .ok (.aload_n 0, 1) := dk_42 (dk_at dksX2_order_1 19 rfl rfl)
theorem dX2_order_44 : decode cX2_order 44 = .ok (.getfield 44, 3) := dk_180 0 44 (dk_at dksX2_order_1 20 rfl rfl)
theorem dX2_order_47 : decode cX2_order 47 = .ok (.iconst 0, 1) := dk_3 (dk_at dksX2_order_1 23 rfl rfl)
theorem dX2_order_48 : decode cX2_order 48 = .ok (.iaload, 1) := dk_46 (dk_at dksX2_order_2 0 rfl rfl)
theorem dX2_order_49 : decode cX2_order 49 = .ok (.if_icmp .ge 70, 3) := dk_162 0 70 (dk_at dksX2_order_2 1 rfl rfl)
theorem dX2_order_52 : decode cX2_order 52 = .ok (.iload 6, 2) := dk_21 6 (dk_at dksX2_order_2 4 rfl rfl)
theorem dX2_order_54 : decode cX2_order 54 = .ok (.ifCond .ne 65, 3) := dk_154 0 65 (dk_at dksX2_order_2 6 rfl rfl)
theorem dX2_order_57 : decode cX2_order 57 = .ok (.iload_n 3, 1) := dk_29 (dk_at dksX2_order_2 9 rfl rfl)
theorem dX2_order_58 : decode cX2_order 58 = .ok (.iload 7, 2) := dk_21 7 (dk_at dksX2_order_2 10 rfl rfl)
theorem dX2_order_60 : decode cX2_order 60 = .ok (.ishr, 1) := dk_122 (dk_at dksX2_order_2 12 rfl rfl)
theorem dX2_order_61 : decode cX2_order 61 = .ok (.iconst 1, 1) := dk_4 (dk_at dksX2_order_2 13 rfl rfl)
theorem dX2_order_62 : decode cX2_order 62 = .ok (.iand, 1) := dk_126 (dk_at dksX2_order_2 14 rfl rfl)
theorem dX2_order_63 : decode cX2_order 63 = .ok (.ifCond .eq 50, 3) := dk_153 0 50 (dk_at dksX2_order_2 15 rfl rfl)
theorem dX2_order_66 : decode cX2_order 66 = .ok (.aload_n 0, 1) := dk_42 (dk_at dksX2_order_2 18 rfl rfl)
theorem dX2_order_67 : decode cX2_order 67 = .ok (.iload 7, 2) := dk_21 7 (dk_at dksX2_order_2 19 rfl rfl)
theorem dX2_order_69 : decode cX2_order 69 = .ok (.iload 4, 2) := dk_21 4 (dk_at dksX2_order_2 21 rfl rfl)
theorem dX2_order_71 : decode cX2_order 71 = .ok (.invokevirtual 367, 3) := dk_182 1 111 (dk_at dksX2_order_3 0 rfl rfl)
theorem dX2_order_74 : decode cX2_order 74 = .ok (.ifCond .ne 6, 3) := dk_154 0 6 (dk_at dksX2_order_3 3 rfl rfl)
theorem dX2_order_77 : decode cX2_order 77 = .ok (.goto 36, 3) := dk_167 0 36 (dk_at dksX2_order_3 6 rfl rfl)
theorem dX2_order_80 : decode cX2_order 80 = .ok (.iload_n 3, 1) := dk_29 (dk_at dksX2_order_3 9 rfl rfl)
theorem dX2_order_81 : decode cX2_order 81 = .ok (.iconst 1, 1) := dk_4 (dk_at dksX2_order_3 10 rfl rfl)
theorem dX2_order_82 : decode cX2_order 82 = .ok (.iload 7, 2) := dk_21 7 (dk_at dksX2_order_3 11 rfl rfl)
theorem dX2_order_84 : decode cX2_order 84 = .ok (.ishl, 1) := dk_120 (dk_at dksX2_order_3 13 rfl rfl)
theorem dX2_order_85 : decode cX2_order 85 = .ok (.iconst (-1), 1) := dk_2 (dk_at dksX2_order_3 14 rfl rfl)
theorem dX2_order_86 : decode cX2_order 86 = .ok (.ixor, 1) := dk_130 (dk_at dksX2_order_3 15 rfl rfl)
theorem dX2_order_87 : decode cX2_order 87 = .ok (.iand, 1) := dk_126 (dk_at dksX2_order_3 16 rfl rfl)
theorem dX2_order_88 : decode cX2_order 88 = .ok (.istore_n 3, 1) := dk_62 (dk_at dksX2_order_3 17 rfl rfl)
theorem dX2_order_89 : decode cX2_order 89 = .ok (.iload 4, 2) := dk_21 4 (dk_at dksX2_order_3 18 rfl rfl)
theorem dX2_order_91 : decode cX2_order 91 = .ok (.iconst 1, 1) := dk_4 (dk_at dksX2_order_3 20 rfl rfl)
theorem dX2_order_92 : decode cX2_order 92 = .ok (.iload 7, 2) := dk_21 7 (dk_at dksX2_order_3 21 rfl rfl)
theorem dX2_order_94 : decode cX2_order 94 = .ok (.ishl, 1) := dk_120 (dk_at dksX2_order_3 23 rfl rfl)
theorem dX2_order_95 : decode cX2_order 95 = .ok (.ior, 1) := dk_128 (dk_at dksX2_order_4 0 rfl rfl)
theorem dX2_order_96 : decode cX2_order 96 = .ok (.istore 4, 2) := dk_54 4 (dk_at dksX2_order_4 1 rfl rfl)
theorem dX2_order_98 : decode cX2_order 98 = .ok (.aload_n 0, 1) := dk_42 (dk_at dksX2_order_4 3 rfl rfl)
theorem dX2_order_99 : decode cX2_order 99 = .ok (.getfield 118, 3) := dk_180 0 118 (dk_at dksX2_order_4 4 rfl rfl)
theorem dX2_order_102 : decode cX2_order 102 = .ok (.iload 5, 2) := dk_21 5 (dk_at dksX2_order_4 7 rfl rfl)
theorem dX2_order_104 : decode cX2_order 104 = .ok (.iload 7, 2) := dk_21 7 (dk_at dksX2_order_4 9 rfl rfl)
theorem dX2_order_106 : decode cX2_order 106 = .ok (.iastore, 1) := dk_79 (dk_at dksX2_order_4 11 rfl rfl)
theorem dX2_order_107 : decode cX2_order 107 = .ok (.iinc 5 1, 3) := dk_132 5 1 (dk_at dksX2_order_4 12 rfl rfl)
theorem dX2_order_110 : decode cX2_order 110 = .ok (.iconst 1, 1) := dk_4 (dk_at dksX2_order_4 15 rfl rfl)
theorem dX2_order_111 : decode cX2_order 111 = .ok (.istore 6, 2) := dk_54 6 (dk_at dksX2_order_4 16 rfl rfl)
theorem dX2_order_113 : decode cX2_order 113 = .ok (.iinc 7 1, 3) := dk_132 7 1 (dk_at dksX2_order_4 18 rfl rfl)
theorem dX2_order_116 : decode cX2_order 116 = .ok (.goto (-75), 3) := dk_167 255 181 (dk_at dksX2_order_4 21 rfl rfl)
theorem dX2_order_119 : decode cX2_order 119 = .ok (.goto (-89), 3) := dk_167 255 167 (dk_at dksX2_order_5 0 rfl rfl)
theorem dX2_order_122 : decode cX2_order 122 = .ok (.iload_n 3, 1) := dk_29 (dk_at dksX2_order_5 3 rfl rfl)
theorem dX2_order_123 : decode cX2_order 123 = .ok (.ifCond .ne 26, 3) := dk_154 0 26 (dk_at dksX2_order_5 4 rfl rfl)
theorem dX2_order_126 : decode cX2_order 126 = .ok (.iload_n 2, 1) := dk_28 (dk_at dksX2_order_5 7 rfl rfl)
theorem dX2_order_127 : decode cX2_order 127 = .ok (.i2l, 1) := dk_133 (dk_at dksX2_order_5 8 rfl rfl)
theorem dX2_order_128 : decode cX2_order 128 = .ok (.lconst 0, 1) := dk_9 (dk_at dksX2_order_5 9 rfl rfl)
theorem dX2_order_129 : decode cX2_order 129 = .ok (.iload 5, 2) := dk_21 5 (dk_at dksX2_order_5 10 rfl rfl)
theorem dX2_order_131 : decode cX2_order 131 = .ok (.iconst 1, 1) := dk_4 (dk_at dksX2_order_5 12 rfl rfl)
theorem dX2_order_132 : decode cX2_order 132 = .ok (.isub, 1) := dk_100 (dk_at dksX2_order_5 13 rfl rfl)
theorem dX2_order_133 : decode cX2_order 133 = .ok (.i2l, 1) := dk_133 (dk_at dksX2_order_5 14 rfl rfl)
theorem dX2_order_134 : decode cX2_order 134 = .ok (.invokestatic 183, 3) := dk_184 0 183 (dk_at dksX2_order_5 15 rfl rfl)
theorem dX2_order_137 : decode cX2_order 137 = .ok (.ifCond .eq 12, 3) := dk_153 0 12 (dk_at dksX2_order_5 18 rfl rfl)
theorem dX2_order_140 : decode cX2_order 140 = .ok (.aload_n 0, 1) := dk_42 (dk_at dksX2_order_5 21 rfl rfl)
theorem dX2_order_141 : decode cX2_order 141 = .ok (.getfield 118, 3) := dk_180 0 118 (dk_at dksX2_order_6 0 rfl rfl)
theorem dX2_order_144 : decode cX2_order 144 = .ok (.iload_n 2, 1) := dk_28 (dk_at dksX2_order_6 3 rfl rfl)
theorem dX2_order_145 : decode cX2_order 145 = .ok (.iaload, 1) := dk_46 (dk_at dksX2_order_6 4 rfl rfl)
theorem dX2_order_146 : decode cX2_order 146 = .ok (.goto 4, 3) := dk_167 0 4 (dk_at dksX2_order_6 5 rfl rfl)
theorem dX2_order_149 : decode cX2_order 149 = .ok (.iconst (-1), 1) := dk_2 (dk_at dksX2_order_6 8 rfl rfl)
theorem dX2_order_150 : decode cX2_order 150 = .ok (.ireturn, 1) := dk_172 (dk_at dksX2_order_6 9 rfl rfl)
abbrev cX2_comingBits : ByteArray := prog_26_method_60_code
def yX2_comingBits : MethodName := ⟨RX2, "comingBits", "()I"⟩
def dkwX2_comingBits_1 : List UInt8 := [4, 28, 120, 167, 0, 4, 3, 128, 60, 132, 2, 1, 167, 255, 224, 27, 172]
abbrev dktX2_comingBits_1 : List UInt8 := dkwX2_comingBits_1 ++ []
def dkwX2_comingBits_0 : List UInt8 := [3, 60, 3, 61, 28, 42, 180, 0, 44, 3, 46, 162, 0, 28, 27, 42, 180, 0, 81, 28, 51, 153, 0, 9]
abbrev dktX2_comingBits_0 : List UInt8 := dkwX2_comingBits_0 ++ dktX2_comingBits_1
theorem dksX2_comingBits_0 : cX2_comingBits.data.toList.drop 0 = dktX2_comingBits_0 := by decide +kernel
theorem dksX2_comingBits_1 : cX2_comingBits.data.toList.drop 24 = dktX2_comingBits_1 := dk_seg dksX2_comingBits_0 24 rfl rfl
theorem dX2_comingBits_0 : decode cX2_comingBits 0 = .ok (.iconst 0, 1) := dk_3 (dk_at dksX2_comingBits_0 0 rfl rfl)
theorem dX2_comingBits_1 : decode cX2_comingBits 1 = .ok (.istore_n 1, 1) := dk_60 (dk_at dksX2_comingBits_0 1 rfl rfl)
theorem dX2_comingBits_2 : decode cX2_comingBits 2 = .ok (.iconst 0, 1) := dk_3 (dk_at dksX2_comingBits_0 2 rfl rfl)
theorem dX2_comingBits_3 : decode cX2_comingBits 3 = .ok (.istore_n 2, 1) := dk_61 (dk_at dksX2_comingBits_0 3 rfl rfl)
theorem dX2_comingBits_4 : decode cX2_comingBits 4 = .ok (.iload_n 2, 1) := dk_28 (dk_at dksX2_comingBits_0 4 rfl rfl)
theorem dX2_comingBits_5 : decode cX2_comingBits 5 = .ok (.aload_n 0, 1) := dk_42 (dk_at dksX2_comingBits_0 5 rfl rfl)
theorem dX2_comingBits_6 : decode cX2_comingBits 6 = .ok (.getfield 44, 3) := dk_180 0 44 (dk_at dksX2_comingBits_0 6 rfl rfl)
theorem dX2_comingBits_9 : decode cX2_comingBits 9 = .ok (.iconst 0, 1) := dk_3 (dk_at dksX2_comingBits_0 9 rfl rfl)
theorem dX2_comingBits_10 : decode cX2_comingBits 10 = .ok (.iaload, 1) := dk_46 (dk_at dksX2_comingBits_0 10 rfl rfl)
theorem dX2_comingBits_11 : decode cX2_comingBits 11 = .ok (.if_icmp .ge 28, 3) := dk_162 0 28 (dk_at dksX2_comingBits_0 11 rfl rfl)
theorem dX2_comingBits_14 : decode cX2_comingBits 14 = .ok (.iload_n 1, 1) := dk_27 (dk_at dksX2_comingBits_0 14 rfl rfl)
theorem dX2_comingBits_15 : decode cX2_comingBits 15 = .ok (.aload_n 0, 1) := dk_42 (dk_at dksX2_comingBits_0 15 rfl rfl)
theorem dX2_comingBits_16 : decode cX2_comingBits 16 = .ok (.getfield 81, 3) := dk_180 0 81 (dk_at dksX2_comingBits_0 16 rfl rfl)
theorem dX2_comingBits_19 : decode cX2_comingBits 19 = .ok (.iload_n 2, 1) := dk_28 (dk_at dksX2_comingBits_0 19 rfl rfl)
theorem dX2_comingBits_20 : decode cX2_comingBits 20 = .ok (.baload, 1) := dk_51 (dk_at dksX2_comingBits_0 20 rfl rfl)
theorem dX2_comingBits_21 : decode cX2_comingBits 21 = .ok (.ifCond .eq 9, 3) := dk_153 0 9 (dk_at dksX2_comingBits_0 21 rfl rfl)
theorem dX2_comingBits_24 : decode cX2_comingBits 24 = .ok (.iconst 1, 1) := dk_4 (dk_at dksX2_comingBits_1 0 rfl rfl)
theorem dX2_comingBits_25 : decode cX2_comingBits 25 = .ok (.iload_n 2, 1) := dk_28 (dk_at dksX2_comingBits_1 1 rfl rfl)
theorem dX2_comingBits_26 : decode cX2_comingBits 26 = .ok (.ishl, 1) := dk_120 (dk_at dksX2_comingBits_1 2 rfl rfl)
theorem dX2_comingBits_27 : decode cX2_comingBits 27 = .ok (.goto 4, 3) := dk_167 0 4 (dk_at dksX2_comingBits_1 3 rfl rfl)
theorem dX2_comingBits_30 : decode cX2_comingBits 30 = .ok (.iconst 0, 1) := dk_3 (dk_at dksX2_comingBits_1 6 rfl rfl)
theorem dX2_comingBits_31 : decode cX2_comingBits 31 = .ok (.ior, 1) := dk_128 (dk_at dksX2_comingBits_1 7 rfl rfl)
theorem dX2_comingBits_32 : decode cX2_comingBits 32 = .ok (.istore_n 1, 1) := dk_60 (dk_at dksX2_comingBits_1 8 rfl rfl)
theorem dX2_comingBits_33 : decode cX2_comingBits 33 = .ok (.iinc 2 1, 3) := dk_132 2 1 (dk_at dksX2_comingBits_1 9 rfl rfl)
theorem dX2_comingBits_36 : decode cX2_comingBits 36 = .ok (.goto (-32), 3) := dk_167 255 224 (dk_at dksX2_comingBits_1 12 rfl rfl)
theorem dX2_comingBits_39 : decode cX2_comingBits 39 = .ok (.iload_n 1, 1) := dk_27 (dk_at dksX2_comingBits_1 15 rfl rfl)
theorem dX2_comingBits_40 : decode cX2_comingBits 40 = .ok (.ireturn, 1) := dk_172 (dk_at dksX2_comingBits_1 16 rfl rfl)
abbrev cX2_isFree : ByteArray := prog_26_method_61_code
def yX2_isFree : MethodName := ⟨RX2, "isFree", "(II)Z"⟩
def dkwX2_isFree_1 : List UInt8 := [153, 0, 13, 28, 29, 122, 4, 126, 154, 0, 5, 3, 172, 132, 3, 1, 167, 255, 219, 4, 172]
abbrev dktX2_isFree_1 : List UInt8 := dkwX2_isFree_1 ++ []
def dkwX2_isFree_0 : List UInt8 := [3, 62, 29, 42, 180, 0, 44, 3, 46, 162, 0, 33, 42, 180, 0, 111, 16, 10, 29, 104, 27, 96, 51]
abbrev dktX2_isFree_0 : List UInt8 := dkwX2_isFree_0 ++ dktX2_isFree_1
theorem dksX2_isFree_0 : cX2_isFree.data.toList.drop 0 = dktX2_isFree_0 := by decide +kernel
theorem dksX2_isFree_1 : cX2_isFree.data.toList.drop 23 = dktX2_isFree_1 := dk_seg dksX2_isFree_0 23 rfl rfl
theorem dX2_isFree_0 : decode cX2_isFree 0 = .ok (.iconst 0, 1) := dk_3 (dk_at dksX2_isFree_0 0 rfl rfl)
theorem dX2_isFree_1 : decode cX2_isFree 1 = .ok (.istore_n 3, 1) := dk_62 (dk_at dksX2_isFree_0 1 rfl rfl)
theorem dX2_isFree_2 : decode cX2_isFree 2 = .ok (.iload_n 3, 1) := dk_29 (dk_at dksX2_isFree_0 2 rfl rfl)
theorem dX2_isFree_3 : decode cX2_isFree 3 = .ok (.aload_n 0, 1) := dk_42 (dk_at dksX2_isFree_0 3 rfl rfl)
theorem dX2_isFree_4 : decode cX2_isFree 4 = .ok (.getfield 44, 3) := dk_180 0 44 (dk_at dksX2_isFree_0 4 rfl rfl)
theorem dX2_isFree_7 : decode cX2_isFree 7 = .ok (.iconst 0, 1) := dk_3 (dk_at dksX2_isFree_0 7 rfl rfl)
theorem dX2_isFree_8 : decode cX2_isFree 8 = .ok (.iaload, 1) := dk_46 (dk_at dksX2_isFree_0 8 rfl rfl)
theorem dX2_isFree_9 : decode cX2_isFree 9 = .ok (.if_icmp .ge 33, 3) := dk_162 0 33 (dk_at dksX2_isFree_0 9 rfl rfl)
theorem dX2_isFree_12 : decode cX2_isFree 12 = .ok (.aload_n 0, 1) := dk_42 (dk_at dksX2_isFree_0 12 rfl rfl)
theorem dX2_isFree_13 : decode cX2_isFree 13 = .ok (.getfield 111, 3) := dk_180 0 111 (dk_at dksX2_isFree_0 13 rfl rfl)
theorem dX2_isFree_16 : decode cX2_isFree 16 = .ok (.bipush 10, 2) := dk_16 10 (dk_at dksX2_isFree_0 16 rfl rfl)
theorem dX2_isFree_18 : decode cX2_isFree 18 = .ok (.iload_n 3, 1) := dk_29 (dk_at dksX2_isFree_0 18 rfl rfl)
theorem dX2_isFree_19 : decode cX2_isFree 19 = .ok (.imul, 1) := dk_104 (dk_at dksX2_isFree_0 19 rfl rfl)
theorem dX2_isFree_20 : decode cX2_isFree 20 = .ok (.iload_n 1, 1) := dk_27 (dk_at dksX2_isFree_0 20 rfl rfl)
theorem dX2_isFree_21 : decode cX2_isFree 21 = .ok (.iadd, 1) := dk_96 (dk_at dksX2_isFree_0 21 rfl rfl)
theorem dX2_isFree_22 : decode cX2_isFree 22 = .ok (.baload, 1) := dk_51 (dk_at dksX2_isFree_0 22 rfl rfl)
theorem dX2_isFree_23 : decode cX2_isFree 23 = .ok (.ifCond .eq 13, 3) := dk_153 0 13 (dk_at dksX2_isFree_1 0 rfl rfl)
theorem dX2_isFree_26 : decode cX2_isFree 26 = .ok (.iload_n 2, 1) := dk_28 (dk_at dksX2_isFree_1 3 rfl rfl)
theorem dX2_isFree_27 : decode cX2_isFree 27 = .ok (.iload_n 3, 1) := dk_29 (dk_at dksX2_isFree_1 4 rfl rfl)
theorem dX2_isFree_28 : decode cX2_isFree 28 = .ok (.ishr, 1) := dk_122 (dk_at dksX2_isFree_1 5 rfl rfl)
theorem dX2_isFree_29 : decode cX2_isFree 29 = .ok (.iconst 1, 1) := dk_4 (dk_at dksX2_isFree_1 6 rfl rfl)
theorem dX2_isFree_30 : decode cX2_isFree 30 = .ok (.iand, 1) := dk_126 (dk_at dksX2_isFree_1 7 rfl rfl)
theorem dX2_isFree_31 : decode cX2_isFree 31 = .ok (.ifCond .ne 5, 3) := dk_154 0 5 (dk_at dksX2_isFree_1 8 rfl rfl)
theorem dX2_isFree_34 : decode cX2_isFree 34 = .ok (.iconst 0, 1) := dk_3 (dk_at dksX2_isFree_1 11 rfl rfl)
theorem dX2_isFree_35 : decode cX2_isFree 35 = .ok (.ireturn, 1) := dk_172 (dk_at dksX2_isFree_1 12 rfl rfl)
theorem dX2_isFree_36 : decode cX2_isFree 36 = .ok (.iinc 3 1, 3) := dk_132 3 1 (dk_at dksX2_isFree_1 13 rfl rfl)
theorem dX2_isFree_39 : decode cX2_isFree 39 = .ok (.goto (-37), 3) := dk_167 255 219 (dk_at dksX2_isFree_1 16 rfl rfl)
theorem dX2_isFree_42 : decode cX2_isFree 42 = .ok (.iconst 1, 1) := dk_4 (dk_at dksX2_isFree_1 19 rfl rfl)
theorem dX2_isFree_43 : decode cX2_isFree 43 = .ok (.ireturn, 1) := dk_172 (dk_at dksX2_isFree_1 20 rfl rfl)
abbrev cX2_rounds : ByteArray := prog_26_method_66_code
def yX2_rounds : MethodName := ⟨RX2, "rounds", "(II)I"⟩
def dkwX2_rounds_9 : List UInt8 := [167, 255, 150, 132, 4, 1, 167, 255, 106, 42, 180, 0, 127, 4, 29, 120, 4, 100, 46, 172]
abbrev dktX2_rounds_9 : List UInt8 := dkwX2_rounds_9 ++ []
def dkwX2_rounds_8 : List UInt8 := [21, 6, 128, 42, 180, 0, 127, 21, 4, 46, 4, 96, 79, 21, 6, 4, 100, 21, 5, 126, 54, 6]
abbrev dktX2_rounds_8 : List UInt8 := dkwX2_rounds_8 ++ dktX2_rounds_9
def dkwX2_rounds_7 : List UInt8 := [21, 4, 46, 4, 96, 42, 180, 0, 127, 21, 4, 21, 6, 128, 46, 162, 0, 22, 42, 180, 0, 127, 21, 4]
abbrev dktX2_rounds_7 : List UInt8 := dkwX2_rounds_7 ++ dktX2_rounds_8
def dkwX2_rounds_6 : List UInt8 := [154, 0, 6, 167, 0, 58, 42, 180, 0, 127, 21, 4, 21, 6, 128, 46, 2, 159, 0, 25, 42, 180, 0, 127]
abbrev dktX2_rounds_6 : List UInt8 := dkwX2_rounds_6 ++ dktX2_rounds_7
def dkwX2_rounds_5 : List UInt8 := [54, 7, 21, 7, 184, 1, 100, 28, 163, 0, 77, 42, 21, 7, 42, 21, 4, 29, 182, 1, 120, 182, 1, 123]
abbrev dktX2_rounds_5 : List UInt8 := dkwX2_rounds_5 ++ dktX2_rounds_6
def dkwX2_rounds_4 : List UInt8 := [100, 21, 4, 2, 130, 126, 54, 5, 21, 5, 54, 6, 21, 6, 158, 0, 107, 42, 21, 6, 29, 182, 1, 120]
abbrev dktX2_rounds_4 : List UInt8 := dkwX2_rounds_4 ++ dktX2_rounds_5
def dkwX2_rounds_3 : List UInt8 := [4, 29, 120, 162, 0, 148, 42, 180, 0, 127, 21, 4, 46, 2, 160, 0, 6, 167, 0, 128, 4, 29, 120, 4]
abbrev dktX2_rounds_3 : List UInt8 := dkwX2_rounds_3 ++ dktX2_rounds_4
def dkwX2_rounds_2 : List UInt8 := [21, 4, 21, 4, 154, 0, 7, 3, 167, 0, 4, 2, 79, 132, 4, 1, 167, 255, 228, 3, 54, 4, 21, 4]
abbrev dktX2_rounds_2 : List UInt8 := dkwX2_rounds_2 ++ dktX2_rounds_3
def dkwX2_rounds_1 : List UInt8 := [3, 182, 1, 94, 42, 182, 1, 117, 62, 3, 54, 4, 21, 4, 4, 29, 120, 162, 0, 26, 42, 180, 0, 127]
abbrev dktX2_rounds_1 : List UInt8 := dkwX2_rounds_1 ++ dktX2_rounds_2
def dkwX2_rounds_0 : List UInt8 := [42, 27, 182, 1, 41, 153, 0, 15, 28, 133, 10, 20, 1, 15, 184, 0, 183, 154, 0, 5, 2, 172, 42, 27]
abbrev dktX2_rounds_0 : List UInt8 := dkwX2_rounds_0 ++ dktX2_rounds_1
theorem dksX2_rounds_0 : cX2_rounds.data.toList.drop 0 = dktX2_rounds_0 := by decide +kernel
theorem dksX2_rounds_1 : cX2_rounds.data.toList.drop 24 = dktX2_rounds_1 := dk_seg dksX2_rounds_0 24 rfl rfl
theorem dksX2_rounds_2 : cX2_rounds.data.toList.drop 48 = dktX2_rounds_2 := dk_seg dksX2_rounds_1 24 rfl rfl
theorem dksX2_rounds_3 : cX2_rounds.data.toList.drop 72 = dktX2_rounds_3 := dk_seg dksX2_rounds_2 24 rfl rfl
theorem dksX2_rounds_4 : cX2_rounds.data.toList.drop 96 = dktX2_rounds_4 := dk_seg dksX2_rounds_3 24 rfl rfl
theorem dksX2_rounds_5 : cX2_rounds.data.toList.drop 120 = dktX2_rounds_5 := dk_seg dksX2_rounds_4 24 rfl rfl
theorem dksX2_rounds_6 : cX2_rounds.data.toList.drop 144 = dktX2_rounds_6 := dk_seg dksX2_rounds_5 24 rfl rfl
theorem dksX2_rounds_7 : cX2_rounds.data.toList.drop 168 = dktX2_rounds_7 := dk_seg dksX2_rounds_6 24 rfl rfl
theorem dksX2_rounds_8 : cX2_rounds.data.toList.drop 192 = dktX2_rounds_8 := dk_seg dksX2_rounds_7 24 rfl rfl
theorem dksX2_rounds_9 : cX2_rounds.data.toList.drop 214 = dktX2_rounds_9 := dk_seg dksX2_rounds_8 22 rfl rfl
theorem dX2_rounds_0 : decode cX2_rounds 0 = .ok (.aload_n 0, 1) := dk_42 (dk_at dksX2_rounds_0 0 rfl rfl)
theorem dX2_rounds_1 : decode cX2_rounds 1 = .ok (.iload_n 1, 1) := dk_27 (dk_at dksX2_rounds_0 1 rfl rfl)
theorem dX2_rounds_2 : decode cX2_rounds 2 = .ok (.invokevirtual 297, 3) := dk_182 1 41 (dk_at dksX2_rounds_0 2 rfl rfl)
theorem dX2_rounds_5 : decode cX2_rounds 5 = .ok (.ifCond .eq 15, 3) := dk_153 0 15 (dk_at dksX2_rounds_0 5 rfl rfl)
theorem dX2_rounds_8 : decode cX2_rounds 8 = .ok (.iload_n 2, 1) := dk_28 (dk_at dksX2_rounds_0 8 rfl rfl)
theorem dX2_rounds_9 : decode cX2_rounds 9 = .ok (.i2l, 1) := dk_133 (dk_at dksX2_rounds_0 9 rfl rfl)
theorem dX2_rounds_10 : decode cX2_rounds 10 = .ok (.lconst 1, 1) := dk_10 (dk_at dksX2_rounds_0 10 rfl rfl)
theorem dX2_rounds_11 : decode cX2_rounds 11 = .ok (.ldc2_w 271, 3) := dk_20 1 15 (dk_at dksX2_rounds_0 11 rfl rfl)
theorem dX2_rounds_14 : decode cX2_rounds 14 = .ok (.invokestatic 183, 3) := dk_184 0 183 (dk_at dksX2_rounds_0 14 rfl rfl)
theorem dX2_rounds_17 : decode cX2_rounds 17 = .ok (.ifCond .ne 5, 3) := dk_154 0 5 (dk_at dksX2_rounds_0 17 rfl rfl)
theorem dX2_rounds_20 : decode cX2_rounds 20 = .ok (.iconst (-1), 1) := dk_2 (dk_at dksX2_rounds_0 20 rfl rfl)
theorem dX2_rounds_21 : decode cX2_rounds 21 = .ok (.ireturn, 1) := dk_172 (dk_at dksX2_rounds_0 21 rfl rfl)
theorem dX2_rounds_22 : decode cX2_rounds 22 = .ok (.aload_n 0, 1) := dk_42 (dk_at dksX2_rounds_0 22 rfl rfl)
theorem dX2_rounds_23 : decode cX2_rounds 23 = .ok (.iload_n 1, 1) := dk_27 (dk_at dksX2_rounds_0 23 rfl rfl)
theorem dX2_rounds_24 : decode cX2_rounds 24 = .ok (.iconst 0, 1) := dk_3 (dk_at dksX2_rounds_1 0 rfl rfl)
theorem dX2_rounds_25 : decode cX2_rounds 25 = .ok (.invokevirtual 350, 3) := dk_182 1 94 (dk_at dksX2_rounds_1 1 rfl rfl)
theorem dX2_rounds_28 : decode cX2_rounds 28 = .ok (.aload_n 0, 1) := dk_42 (dk_at dksX2_rounds_1 4 rfl rfl)
theorem dX2_rounds_29 : decode cX2_rounds 29 = .ok (.invokevirtual 373, 3) := dk_182 1 117 (dk_at dksX2_rounds_1 5 rfl rfl)
theorem dX2_rounds_32 : decode cX2_rounds 32 = .ok (.istore_n 3, 1) := dk_62 (dk_at dksX2_rounds_1 8 rfl rfl)
theorem dX2_rounds_33 : decode cX2_rounds 33 = .ok (.iconst 0, 1) := dk_3 (dk_at dksX2_rounds_1 9 rfl rfl)
theorem dX2_rounds_34 : decode cX2_rounds 34 = .ok (.istore 4, 2) := dk_54 4 (dk_at dksX2_rounds_1 10 rfl rfl)
theorem dX2_rounds_36 : decode cX2_rounds 36 = .ok (.iload 4, 2) := dk_21 4 (dk_at dksX2_rounds_1 12 rfl rfl)
theorem dX2_rounds_38 : decode cX2_rounds 38 = .ok (.iconst 1, 1) := dk_4 (dk_at dksX2_rounds_1 14 rfl rfl)
theorem dX2_rounds_39 : decode cX2_rounds 39 = .ok (.iload_n 3, 1) := dk_29 (dk_at dksX2_rounds_1 15 rfl rfl)
theorem dX2_rounds_40 : decode cX2_rounds 40 = .ok (.ishl, 1) := dk_120 (dk_at dksX2_rounds_1 16 rfl rfl)
theorem dX2_rounds_41 : decode cX2_rounds 41 = .ok (.if_icmp .ge 26, 3) := dk_162 0 26 (dk_at dksX2_rounds_1 17 rfl rfl)
theorem dX2_rounds_44 : decode cX2_rounds 44 = .ok (.aload_n 0, 1) := dk_42 (dk_at dksX2_rounds_1 20 rfl rfl)
theorem dX2_rounds_45 : decode cX2_rounds 45 = .ok (.getfield 127, 3) := dk_180 0 127 (dk_at dksX2_rounds_1 21 rfl rfl)
theorem dX2_rounds_48 : decode cX2_rounds 48 = .ok (.iload 4, 2) := dk_21 4 (dk_at dksX2_rounds_2 0 rfl rfl)
theorem dX2_rounds_50 : decode cX2_rounds 50 = .ok (.iload 4, 2) := dk_21 4 (dk_at dksX2_rounds_2 2 rfl rfl)
theorem dX2_rounds_52 : decode cX2_rounds 52 = .ok (.ifCond .ne 7, 3) := dk_154 0 7 (dk_at dksX2_rounds_2 4 rfl rfl)
theorem dX2_rounds_55 : decode cX2_rounds 55 = .ok (.iconst 0, 1) := dk_3 (dk_at dksX2_rounds_2 7 rfl rfl)
theorem dX2_rounds_56 : decode cX2_rounds 56 = .ok (.goto 4, 3) := dk_167 0 4 (dk_at dksX2_rounds_2 8 rfl rfl)
theorem dX2_rounds_59 : decode cX2_rounds 59 = .ok (.iconst (-1), 1) := dk_2 (dk_at dksX2_rounds_2 11 rfl rfl)
theorem dX2_rounds_60 : decode cX2_rounds 60 = .ok (.iastore, 1) := dk_79 (dk_at dksX2_rounds_2 12 rfl rfl)
theorem dX2_rounds_61 : decode cX2_rounds 61 = .ok (.iinc 4 1, 3) := dk_132 4 1 (dk_at dksX2_rounds_2 13 rfl rfl)
theorem dX2_rounds_64 : decode cX2_rounds 64 = .ok (.goto (-28), 3) := dk_167 255 228 (dk_at dksX2_rounds_2 16 rfl rfl)
theorem dX2_rounds_67 : decode cX2_rounds 67 = .ok (.iconst 0, 1) := dk_3 (dk_at dksX2_rounds_2 19 rfl rfl)
theorem dX2_rounds_68 : decode cX2_rounds 68 = .ok (.istore 4, 2) := dk_54 4 (dk_at dksX2_rounds_2 20 rfl rfl)
theorem dX2_rounds_70 : decode cX2_rounds 70 = .ok (.iload 4, 2) := dk_21 4 (dk_at dksX2_rounds_2 22 rfl rfl)
theorem dX2_rounds_72 : decode cX2_rounds 72 = .ok (.iconst 1, 1) := dk_4 (dk_at dksX2_rounds_3 0 rfl rfl)
theorem dX2_rounds_73 : decode cX2_rounds 73 = .ok (.iload_n 3, 1) := dk_29 (dk_at dksX2_rounds_3 1 rfl rfl)
theorem dX2_rounds_74 : decode cX2_rounds 74 = .ok (.ishl, 1) := dk_120 (dk_at dksX2_rounds_3 2 rfl rfl)
theorem dX2_rounds_75 : decode cX2_rounds 75 = .ok (.if_icmp .ge 148, 3) := dk_162 0 148 (dk_at dksX2_rounds_3 3 rfl rfl)
theorem dX2_rounds_78 : decode cX2_rounds 78 = .ok (.aload_n 0, 1) := dk_42 (dk_at dksX2_rounds_3 6 rfl rfl)
theorem dX2_rounds_79 : decode cX2_rounds 79 = .ok (.getfield 127, 3) := dk_180 0 127 (dk_at dksX2_rounds_3 7 rfl rfl)
theorem dX2_rounds_82 : decode cX2_rounds 82 = .ok (.iload 4, 2) := dk_21 4 (dk_at dksX2_rounds_3 10 rfl rfl)
theorem dX2_rounds_84 : decode cX2_rounds 84 = .ok (.iaload, 1) := dk_46 (dk_at dksX2_rounds_3 12 rfl rfl)
theorem dX2_rounds_85 : decode cX2_rounds 85 = .ok (.iconst (-1), 1) := dk_2 (dk_at dksX2_rounds_3 13 rfl rfl)
theorem dX2_rounds_86 : decode cX2_rounds 86 = .ok (.if_icmp .ne 6, 3) := dk_160 0 6 (dk_at dksX2_rounds_3 14 rfl rfl)
theorem dX2_rounds_89 : decode cX2_rounds 89 = .ok (.goto 128, 3) := dk_167 0 128 (dk_at dksX2_rounds_3 17 rfl rfl)
theorem dX2_rounds_92 : decode cX2_rounds 92 = .ok (.iconst 1, 1) := dk_4 (dk_at dksX2_rounds_3 20 rfl rfl)
theorem dX2_rounds_93 : decode cX2_rounds 93 = .ok (.iload_n 3, 1) := dk_29 (dk_at dksX2_rounds_3 21 rfl rfl)
theorem dX2_rounds_94 : decode cX2_rounds 94 = .ok (.ishl, 1) := dk_120 (dk_at dksX2_rounds_3 22 rfl rfl)
theorem dX2_rounds_95 : decode cX2_rounds 95 = .ok (.iconst 1, 1) := dk_4 (dk_at dksX2_rounds_3 23 rfl rfl)
theorem dX2_rounds_96 : decode cX2_rounds 96 = .ok (.isub, 1) := dk_100 (dk_at dksX2_rounds_4 0 rfl rfl)
theorem dX2_rounds_97 : decode cX2_rounds 97 = .ok (.iload 4, 2) := dk_21 4 (dk_at dksX2_rounds_4 1 rfl rfl)
theorem dX2_rounds_99 : decode cX2_rounds 99 = .ok (.iconst (-1), 1) := dk_2 (dk_at dksX2_rounds_4 3 rfl rfl)
theorem dX2_rounds_100 : decode cX2_rounds 100 = .ok (.ixor, 1) := dk_130 (dk_at dksX2_rounds_4 4 rfl rfl)
theorem dX2_rounds_101 : decode cX2_rounds 101 = .ok (.iand, 1) := dk_126 (dk_at dksX2_rounds_4 5 rfl rfl)
theorem dX2_rounds_102 : decode cX2_rounds 102 = .ok (.istore 5, 2) := dk_54 5 (dk_at dksX2_rounds_4 6 rfl rfl)
theorem dX2_rounds_104 : decode cX2_rounds 104 = .ok (.iload 5, 2) := dk_21 5 (dk_at dksX2_rounds_4 8 rfl rfl)
theorem dX2_rounds_106 : decode cX2_rounds 106 = .ok (.istore 6, 2) := dk_54 6 (dk_at dksX2_rounds_4 10 rfl rfl)
theorem dX2_rounds_108 : decode cX2_rounds 108 = .ok (.iload 6, 2) := dk_21 6 (dk_at dksX2_rounds_4 12 rfl rfl)
theorem dX2_rounds_110 : decode cX2_rounds 110 = .ok (.ifCond .le 107, 3) := dk_158 0 107 (dk_at dksX2_rounds_4 14 rfl rfl)
theorem dX2_rounds_113 : decode cX2_rounds 113 = .ok (.aload_n 0, 1) := dk_42 (dk_at dksX2_rounds_4 17 rfl rfl)
theorem dX2_rounds_114 : decode cX2_rounds 114 = .ok (.iload 6, 2) := dk_21 6 (dk_at dksX2_rounds_4 18 rfl rfl)
theorem dX2_rounds_116 : decode cX2_rounds 116 = .ok (.iload_n 3, 1) := dk_29 (dk_at dksX2_rounds_4 20 rfl rfl)
theorem dX2_rounds_117 : decode cX2_rounds 117 = .ok (.invokevirtual 376, 3) := dk_182 1 120 (dk_at dksX2_rounds_4 21 rfl rfl)
theorem dX2_rounds_120 : decode cX2_rounds 120 = .ok (.istore 7, 2) := dk_54 7 (dk_at dksX2_rounds_5 0 rfl rfl)
theorem dX2_rounds_122 : decode cX2_rounds 122 = .ok (.iload 7, 2) := dk_21 7 (dk_at dksX2_rounds_5 2 rfl rfl)
theorem dX2_rounds_124 : decode cX2_rounds 124 = .ok (.invokestatic 356, 3) := dk_184 1 100 (dk_at dksX2_rounds_5 4 rfl rfl)
theorem dX2_rounds_127 : decode cX2_rounds 127 = .ok (.iload_n 2, 1) := dk_28 (dk_at dksX2_rounds_5 7 rfl rfl)
theorem dX2_rounds_128 : decode cX2_rounds 128 = .ok (.if_icmp .gt 77, 3) := dk_163 0 77 (dk_at dksX2_rounds_5 8 rfl rfl)
theorem dX2_rounds_131 : decode cX2_rounds 131 = .ok (.aload_n 0, 1) := dk_42 (dk_at dksX2_rounds_5 11 rfl rfl)
theorem dX2_rounds_132 : decode cX2_rounds 132 = .ok (.iload 7, 2) := dk_21 7 (dk_at dksX2_rounds_5 12 rfl rfl)
theorem dX2_rounds_134 : decode cX2_rounds 134 = .ok (.aload_n 0, 1) := dk_42 (dk_at dksX2_rounds_5 14 rfl rfl)
theorem dX2_rounds_135 : decode cX2_rounds 135 = .ok (.iload 4, 2) := dk_21 4 (dk_at dksX2_rounds_5 15 rfl rfl)
theorem dX2_rounds_137 : decode cX2_rounds 137 = .ok (.iload_n 3, 1) := dk_29 (dk_at dksX2_rounds_5 17 rfl rfl)
theorem dX2_rounds_138 : decode cX2_rounds 138 = .ok (.invokevirtual 376, 3) := dk_182 1 120 (dk_at dksX2_rounds_5 18 rfl rfl)
theorem dX2_rounds_141 : decode cX2_rounds 141 = .ok (.invokevirtual 379, 3) := dk_182 1 123 (dk_at dksX2_rounds_5 21 rfl rfl)
theorem dX2_rounds_144 : decode cX2_rounds 144 = .ok (.ifCond .ne 6, 3) := dk_154 0 6 (dk_at dksX2_rounds_6 0 rfl rfl)
theorem dX2_rounds_147 : decode cX2_rounds 147 = .ok (.goto 58, 3) := dk_167 0 58 (dk_at dksX2_rounds_6 3 rfl rfl)
theorem dX2_rounds_150 : decode cX2_rounds 150 = .ok (.aload_n 0, 1) := dk_42 (dk_at dksX2_rounds_6 6 rfl rfl)
theorem dX2_rounds_151 : decode cX2_rounds 151 = .ok (.getfield 127, 3) := dk_180 0 127 (dk_at dksX2_rounds_6 7 rfl rfl)
theorem dX2_rounds_154 : decode cX2_rounds 154 = .ok (.iload 4, 2) := dk_21 4 (dk_at dksX2_rounds_6 10 rfl rfl)
theorem dX2_rounds_156 : decode cX2_rounds 156 = .ok (.iload 6, 2) := dk_21 6 (dk_at dksX2_rounds_6 12 rfl rfl)
theorem dX2_rounds_158 : decode cX2_rounds 158 = .ok (.ior, 1) := dk_128 (dk_at dksX2_rounds_6 14 rfl rfl)
theorem dX2_rounds_159 : decode cX2_rounds 159 = .ok (.iaload, 1) := dk_46 (dk_at dksX2_rounds_6 15 rfl rfl)
theorem dX2_rounds_160 : decode cX2_rounds 160 = .ok (.iconst (-1), 1) := dk_2 (dk_at dksX2_rounds_6 16 rfl rfl)
theorem dX2_rounds_161 : decode cX2_rounds 161 = .ok (.if_icmp .eq 25, 3) := dk_159 0 25 (dk_at dksX2_rounds_6 17 rfl rfl)
theorem dX2_rounds_164 : decode cX2_rounds 164 = .ok (.aload_n 0, 1) := dk_42 (dk_at dksX2_rounds_6 20 rfl rfl)
theorem dX2_rounds_165 : decode cX2_rounds 165 = .ok (.getfield 127, 3) := dk_180 0 127 (dk_at dksX2_rounds_6 21 rfl rfl)
theorem dX2_rounds_168 : decode cX2_rounds 168 = .ok (.iload 4, 2) := dk_21 4 (dk_at dksX2_rounds_7 0 rfl rfl)
theorem dX2_rounds_170 : decode cX2_rounds 170 = .ok (.iaload, 1) := dk_46 (dk_at dksX2_rounds_7 2 rfl rfl)
theorem dX2_rounds_171 : decode cX2_rounds 171 = .ok (.iconst 1, 1) := dk_4 (dk_at dksX2_rounds_7 3 rfl rfl)
theorem dX2_rounds_172 : decode cX2_rounds 172 = .ok (.iadd, 1) := dk_96 (dk_at dksX2_rounds_7 4 rfl rfl)
theorem dX2_rounds_173 : decode cX2_rounds 173 = .ok (.aload_n 0, 1) := dk_42 (dk_at dksX2_rounds_7 5 rfl rfl)
theorem dX2_rounds_174 : decode cX2_rounds 174 = .ok (.getfield 127, 3) := dk_180 0 127 (dk_at dksX2_rounds_7 6 rfl rfl)
theorem dX2_rounds_177 : decode cX2_rounds 177 = .ok (.iload 4, 2) := dk_21 4 (dk_at dksX2_rounds_7 9 rfl rfl)
theorem dX2_rounds_179 : decode cX2_rounds 179 = .ok (.iload 6, 2) := dk_21 6 (dk_at dksX2_rounds_7 11 rfl rfl)
theorem dX2_rounds_181 : decode cX2_rounds 181 = .ok (.ior, 1) := dk_128 (dk_at dksX2_rounds_7 13 rfl rfl)
theorem dX2_rounds_182 : decode cX2_rounds 182 = .ok (.iaload, 1) := dk_46 (dk_at dksX2_rounds_7 14 rfl rfl)
theorem dX2_rounds_183 : decode cX2_rounds 183 = .ok (.if_icmp .ge 22, 3) := dk_162 0 22 (dk_at dksX2_rounds_7 15 rfl rfl)
theorem dX2_rounds_186 : decode cX2_rounds 186 = .ok (.aload_n 0, 1) := dk_42 (dk_at dksX2_rounds_7 18 rfl rfl)
theorem dX2_rounds_187 : decode cX2_rounds 187 = .ok (.getfield 127, 3) := dk_180 0 127 (dk_at dksX2_rounds_7 19 rfl rfl)
theorem dX2_rounds_190 : decode cX2_rounds 190 = .ok (.iload 4, 2) := dk_21 4 (dk_at dksX2_rounds_7 22 rfl rfl)
theorem dX2_rounds_192 : decode cX2_rounds 192 = .ok (.iload 6, 2) := dk_21 6 (dk_at dksX2_rounds_8 0 rfl rfl)
theorem dX2_rounds_194 : decode cX2_rounds 194 = .ok (.ior, 1) := dk_128 (dk_at dksX2_rounds_8 2 rfl rfl)
theorem dX2_rounds_195 : decode cX2_rounds 195 = .ok (.aload_n 0, 1) := dk_42 (dk_at dksX2_rounds_8 3 rfl rfl)
theorem dX2_rounds_196 : decode cX2_rounds 196 = .ok (.getfield 127, 3) := dk_180 0 127 (dk_at dksX2_rounds_8 4 rfl rfl)
theorem dX2_rounds_199 : decode cX2_rounds 199 = .ok (.iload 4, 2) := dk_21 4 (dk_at dksX2_rounds_8 7 rfl rfl)
theorem dX2_rounds_201 : decode cX2_rounds 201 = .ok (.iaload, 1) := dk_46 (dk_at dksX2_rounds_8 9 rfl rfl)
theorem dX2_rounds_202 : decode cX2_rounds 202 = .ok (.iconst 1, 1) := dk_4 (dk_at dksX2_rounds_8 10 rfl rfl)
theorem dX2_rounds_203 : decode cX2_rounds 203 = .ok (.iadd, 1) := dk_96 (dk_at dksX2_rounds_8 11 rfl rfl)
theorem dX2_rounds_204 : decode cX2_rounds 204 = .ok (.iastore, 1) := dk_79 (dk_at dksX2_rounds_8 12 rfl rfl)
theorem dX2_rounds_205 : decode cX2_rounds 205 = .ok (.iload 6, 2) := dk_21 6 (dk_at dksX2_rounds_8 13 rfl rfl)
theorem dX2_rounds_207 : decode cX2_rounds 207 = .ok (.iconst 1, 1) := dk_4 (dk_at dksX2_rounds_8 15 rfl rfl)
theorem dX2_rounds_208 : decode cX2_rounds 208 = .ok (.isub, 1) := dk_100 (dk_at dksX2_rounds_8 16 rfl rfl)
theorem dX2_rounds_209 : decode cX2_rounds 209 = .ok (.iload 5, 2) := dk_21 5 (dk_at dksX2_rounds_8 17 rfl rfl)
theorem dX2_rounds_211 : decode cX2_rounds 211 = .ok (.iand, 1) := dk_126 (dk_at dksX2_rounds_8 19 rfl rfl)
theorem dX2_rounds_212 : decode cX2_rounds 212 = .ok (.istore 6, 2) := dk_54 6 (dk_at dksX2_rounds_8 20 rfl rfl)
theorem dX2_rounds_214 : decode cX2_rounds 214 = .ok (.goto (-106), 3) := dk_167 255 150 (dk_at dksX2_rounds_9 0 rfl rfl)
theorem dX2_rounds_217 : decode cX2_rounds 217 = .ok (.iinc 4 1, 3) := dk_132 4 1 (dk_at dksX2_rounds_9 3 rfl rfl)
theorem dX2_rounds_220 : decode cX2_rounds 220 = .ok (.goto (-150), 3) := dk_167 255 106 (dk_at dksX2_rounds_9 6 rfl rfl)
theorem dX2_rounds_223 : decode cX2_rounds 223 = .ok (.aload_n 0, 1) := dk_42 (dk_at dksX2_rounds_9 9 rfl rfl)
theorem dX2_rounds_224 : decode cX2_rounds 224 = .ok (.getfield 127, 3) := dk_180 0 127 (dk_at dksX2_rounds_9 10 rfl rfl)
theorem dX2_rounds_227 : decode cX2_rounds 227 = .ok (.iconst 1, 1) := dk_4 (dk_at dksX2_rounds_9 13 rfl rfl)
theorem dX2_rounds_228 : decode cX2_rounds 228 = .ok (.iload_n 3, 1) := dk_29 (dk_at dksX2_rounds_9 14 rfl rfl)
theorem dX2_rounds_229 : decode cX2_rounds 229 = .ok (.ishl, 1) := dk_120 (dk_at dksX2_rounds_9 15 rfl rfl)
theorem dX2_rounds_230 : decode cX2_rounds 230 = .ok (.iconst 1, 1) := dk_4 (dk_at dksX2_rounds_9 16 rfl rfl)
theorem dX2_rounds_231 : decode cX2_rounds 231 = .ok (.isub, 1) := dk_100 (dk_at dksX2_rounds_9 17 rfl rfl)
theorem dX2_rounds_232 : decode cX2_rounds 232 = .ok (.iaload, 1) := dk_46 (dk_at dksX2_rounds_9 18 rfl rfl)
theorem dX2_rounds_233 : decode cX2_rounds 233 = .ok (.ireturn, 1) := dk_172 (dk_at dksX2_rounds_9 19 rfl rfl)
abbrev cX2_groups : ByteArray := prog_26_method_63_code
def yX2_groups : MethodName := ⟨RX2, "groups", "()I"⟩
def dkwX2_groups_9 : List UInt8 := [167, 255, 158, 27, 172]
abbrev dktX2_groups_9 : List UInt8 := dkwX2_groups_9 ++ []
def dkwX2_groups_8 : List UInt8 := [160, 0, 9, 4, 29, 120, 167, 0, 4, 3, 128, 79, 132, 3, 1, 167, 255, 208, 132, 1, 1, 132, 2, 1]
abbrev dktX2_groups_8 : List UInt8 := dkwX2_groups_8 ++ dktX2_groups_9
def dkwX2_groups_7 : List UInt8 := [180, 0, 124, 27, 92, 46, 42, 180, 0, 81, 29, 51, 153, 0, 19, 42, 180, 0, 121, 29, 46, 28]
abbrev dktX2_groups_7 : List UInt8 := dkwX2_groups_7 ++ dktX2_groups_8
def dkwX2_groups_6 : List UInt8 := [167, 0, 66, 42, 180, 0, 124, 27, 3, 79, 3, 62, 29, 42, 180, 0, 44, 3, 46, 162, 0, 44, 42]
abbrev dktX2_groups_6 : List UInt8 := dkwX2_groups_6 ++ dktX2_groups_7
def dkwX2_groups_5 : List UInt8 := [162, 0, 94, 42, 180, 0, 81, 28, 51, 153, 0, 79, 42, 180, 0, 121, 28, 46, 28, 159, 0, 6]
abbrev dktX2_groups_5 : List UInt8 := dkwX2_groups_5 ++ dktX2_groups_6
def dkwX2_groups_4 : List UInt8 := [132, 2, 1, 167, 255, 190, 132, 1, 1, 167, 255, 176, 3, 60, 3, 61, 28, 42, 180, 0, 44, 3, 46]
abbrev dktX2_groups_4 : List UInt8 := dkwX2_groups_4 ++ dktX2_groups_5
def dkwX2_groups_3 : List UInt8 := [42, 180, 0, 121, 28, 46, 42, 180, 0, 121, 29, 46, 184, 1, 114, 79, 132, 3, 1, 167, 255, 208]
abbrev dktX2_groups_3 : List UInt8 := dkwX2_groups_3 ++ dktX2_groups_4
def dkwX2_groups_2 : List UInt8 := [3, 46, 162, 0, 44, 42, 180, 0, 113, 16, 10, 28, 104, 29, 96, 51, 153, 0, 24, 42, 180, 0, 121, 28]
abbrev dktX2_groups_2 : List UInt8 := dkwX2_groups_2 ++ dktX2_groups_3
def dkwX2_groups_1 : List UInt8 := [16, 10, 162, 0, 80, 3, 61, 28, 42, 180, 0, 44, 3, 46, 162, 0, 62, 3, 62, 29, 42, 180, 0, 44]
abbrev dktX2_groups_1 : List UInt8 := dkwX2_groups_1 ++ dktX2_groups_2
def dkwX2_groups_0 : List UInt8 := [3, 60, 27, 16, 10, 162, 0, 16, 42, 180, 0, 121, 27, 27, 79, 132, 1, 1, 167, 255, 240, 3, 60, 27]
abbrev dktX2_groups_0 : List UInt8 := dkwX2_groups_0 ++ dktX2_groups_1
theorem dksX2_groups_0 : cX2_groups.data.toList.drop 0 = dktX2_groups_0 := by decide +kernel
theorem dksX2_groups_1 : cX2_groups.data.toList.drop 24 = dktX2_groups_1 := dk_seg dksX2_groups_0 24 rfl rfl
theorem dksX2_groups_2 : cX2_groups.data.toList.drop 48 = dktX2_groups_2 := dk_seg dksX2_groups_1 24 rfl rfl
theorem dksX2_groups_3 : cX2_groups.data.toList.drop 72 = dktX2_groups_3 := dk_seg dksX2_groups_2 24 rfl rfl
theorem dksX2_groups_4 : cX2_groups.data.toList.drop 94 = dktX2_groups_4 := dk_seg dksX2_groups_3 22 rfl rfl
theorem dksX2_groups_5 : cX2_groups.data.toList.drop 117 = dktX2_groups_5 := dk_seg dksX2_groups_4 23 rfl rfl
theorem dksX2_groups_6 : cX2_groups.data.toList.drop 139 = dktX2_groups_6 := dk_seg dksX2_groups_5 22 rfl rfl
theorem dksX2_groups_7 : cX2_groups.data.toList.drop 162 = dktX2_groups_7 := dk_seg dksX2_groups_6 23 rfl rfl
theorem dksX2_groups_8 : cX2_groups.data.toList.drop 184 = dktX2_groups_8 := dk_seg dksX2_groups_7 22 rfl rfl
theorem dksX2_groups_9 : cX2_groups.data.toList.drop 208 = dktX2_groups_9 := dk_seg dksX2_groups_8 24 rfl rfl
theorem dX2_groups_0 : decode cX2_groups 0 = .ok (.iconst 0, 1) := dk_3 (dk_at dksX2_groups_0 0 rfl rfl)
theorem dX2_groups_1 : decode cX2_groups 1 = .ok (.istore_n 1, 1) := dk_60 (dk_at dksX2_groups_0 1 rfl rfl)
theorem dX2_groups_2 : decode cX2_groups 2 = .ok (.iload_n 1, 1) := dk_27 (dk_at dksX2_groups_0 2 rfl rfl)
theorem dX2_groups_3 : decode cX2_groups 3 = .ok (.bipush 10, 2) := dk_16 10 (dk_at dksX2_groups_0 3 rfl rfl)
theorem dX2_groups_5 : decode cX2_groups 5 = .ok (.if_icmp .ge 16, 3) := dk_162 0 16 (dk_at dksX2_groups_0 5 rfl rfl)
theorem dX2_groups_8 : decode cX2_groups 8 = .ok (.aload_n 0, 1) := dk_42 (dk_at dksX2_groups_0 8 rfl rfl)
theorem dX2_groups_9 : decode cX2_groups 9 = .ok (.getfield 121, 3) := dk_180 0 121 (dk_at dksX2_groups_0 9 rfl rfl)
theorem dX2_groups_12 : decode cX2_groups 12 = .ok (.iload_n 1, 1) := dk_27 (dk_at dksX2_groups_0 12 rfl rfl)
theorem dX2_groups_13 : decode cX2_groups 13 = .ok (.iload_n 1, 1) := dk_27 (dk_at dksX2_groups_0 13 rfl rfl)
theorem dX2_groups_14 : decode cX2_groups 14 = .ok (.iastore, 1) := dk_79 (dk_at dksX2_groups_0 14 rfl rfl)
theorem dX2_groups_15 : decode cX2_groups 15 = .ok (.iinc 1 1, 3) := dk_132 1 1 (dk_at dksX2_groups_0 15 rfl rfl)
theorem dX2_groups_18 : decode cX2_groups 18 = .ok (.goto (-16), 3) := dk_167 255 240 (dk_at dksX2_groups_0 18 rfl rfl)
theorem dX2_groups_21 : decode cX2_groups 21 = .ok (.iconst 0, 1) := dk_3 (dk_at dksX2_groups_0 21 rfl rfl)
theorem dX2_groups_22 : decode cX2_groups 22 = .ok (.istore_n 1, 1) := dk_60 (dk_at dksX2_groups_0 22 rfl rfl)
theorem dX2_groups_23 : decode cX2_groups 23 = .ok (.iload_n 1, 1) := dk_27 (dk_at dksX2_groups_0 23 rfl rfl)
theorem dX2_groups_24 : decode cX2_groups 24 = .ok (.bipush 10, 2) := dk_16 10 (dk_at dksX2_groups_1 0 rfl rfl)
theorem dX2_groups_26 : decode cX2_groups 26 = .ok (.if_icmp .ge 80, 3) := dk_162 0 80 (dk_at dksX2_groups_1 2 rfl rfl)
theorem dX2_groups_29 : decode cX2_groups 29 = .ok (.iconst 0, 1) := dk_3 (dk_at dksX2_groups_1 5 rfl rfl)
theorem dX2_groups_30 : decode cX2_groups 30 = .ok (.istore_n 2, 1) := dk_61 (dk_at dksX2_groups_1 6 rfl rfl)
theorem dX2_groups_31 : decode cX2_groups 31 = .ok (.iload_n 2, 1) := dk_28 (dk_at dksX2_groups_1 7 rfl rfl)
theorem dX2_groups_32 : decode cX2_groups 32 = .ok (.aload_n 0, 1) := dk_42 (dk_at dksX2_groups_1 8 rfl rfl)
theorem dX2_groups_33 : decode cX2_groups 33 = .ok (.getfield 44, 3) := dk_180 0 44 (dk_at dksX2_groups_1 9 rfl rfl)
theorem dX2_groups_36 : decode cX2_groups 36 = .ok (.iconst 0, 1) := dk_3 (dk_at dksX2_groups_1 12 rfl rfl)
theorem dX2_groups_37 : decode cX2_groups 37 = .ok (.iaload, 1) := dk_46 (dk_at dksX2_groups_1 13 rfl rfl)
theorem dX2_groups_38 : decode cX2_groups 38 = .ok (.if_icmp .ge 62, 3) := dk_162 0 62 (dk_at dksX2_groups_1 14 rfl rfl)
theorem dX2_groups_41 : decode cX2_groups 41 = .ok (.iconst 0, 1) := dk_3 (dk_at dksX2_groups_1 17 rfl rfl)
theorem dX2_groups_42 : decode cX2_groups 42 = .ok (.istore_n 3, 1) := dk_62 (dk_at dksX2_groups_1 18 rfl rfl)
theorem dX2_groups_43 : decode cX2_groups 43 = .ok (.iload_n 3, 1) := dk_29 (dk_at dksX2_groups_1 19 rfl rfl)
theorem dX2_groups_44 : decode cX2_groups 44 = .ok (.aload_n 0, 1) := dk_42 (dk_at dksX2_groups_1 20 rfl rfl)
theorem dX2_groups_45 : decode cX2_groups 45 = .ok (.getfield 44, 3) := dk_180 0 44 (dk_at dksX2_groups_1 21 rfl rfl)
theorem dX2_groups_48 : decode cX2_groups 48 = .ok (.iconst 0, 1) := dk_3 (dk_at dksX2_groups_2 0 rfl rfl)
theorem dX2_groups_49 : decode cX2_groups 49 = .ok (.iaload, 1) := dk_46 (dk_at dksX2_groups_2 1 rfl rfl)
theorem dX2_groups_50 : decode cX2_groups 50 = .ok (.if_icmp .ge 44, 3) := dk_162 0 44 (dk_at dksX2_groups_2 2 rfl rfl)
theorem dX2_groups_53 : decode cX2_groups 53 = .ok (.aload_n 0, 1) := dk_42 (dk_at dksX2_groups_2 5 rfl rfl)
theorem dX2_groups_54 : decode cX2_groups 54 = .ok (.getfield 113, 3) := dk_180 0 113 (dk_at dksX2_groups_2 6 rfl rfl)
theorem dX2_groups_57 : decode cX2_groups 57 = .ok (.bipush 10, 2) := dk_16 10 (dk_at dksX2_groups_2 9 rfl rfl)
theorem dX2_groups_59 : decode cX2_groups 59 = .ok (.iload_n 2, 1) := dk_28 (dk_at dksX2_groups_2 11 rfl rfl)
theorem dX2_groups_60 : decode cX2_groups 60 = .ok (.imul, 1) := dk_104 (dk_at dksX2_groups_2 12 rfl rfl)
theorem dX2_groups_61 : decode cX2_groups 61 = .ok (.iload_n 3, 1) := dk_29 (dk_at dksX2_groups_2 13 rfl rfl)
theorem dX2_groups_62 : decode cX2_groups 62 = .ok (.iadd, 1) := dk_96 (dk_at dksX2_groups_2 14 rfl rfl)
theorem dX2_groups_63 : decode cX2_groups 63 = .ok (.baload, 1) := dk_51 (dk_at dksX2_groups_2 15 rfl rfl)
theorem dX2_groups_64 : decode cX2_groups 64 = .ok (.ifCond .eq 24, 3) := dk_153 0 24 (dk_at dksX2_groups_2 16 rfl rfl)
theorem dX2_groups_67 : decode cX2_groups 67 = .ok (.aload_n 0, 1) := dk_42 (dk_at dksX2_groups_2 19 rfl rfl)
theorem dX2_groups_68 : decode cX2_groups 68 = .ok (.getfield 121, 3) := dk_180 0 121 (dk_at dksX2_groups_2 20 rfl rfl)
theorem dX2_groups_71 : decode cX2_groups 71 = .ok (.iload_n 2, 1) := dk_28 (dk_at dksX2_groups_2 23 rfl rfl)
theorem dX2_groups_72 : decode cX2_groups 72 = .ok (.aload_n 0, 1) := dk_42 (dk_at dksX2_groups_3 0 rfl rfl)
theorem dX2_groups_73 : decode cX2_groups 73 = .ok (.getfield 121, 3) := dk_180 0 121 (dk_at dksX2_groups_3 1 rfl rfl)
theorem dX2_groups_76 : decode cX2_groups 76 = .ok (.iload_n 2, 1) := dk_28 (dk_at dksX2_groups_3 4 rfl rfl)
theorem dX2_groups_77 : decode cX2_groups 77 = .ok (.iaload, 1) := dk_46 (dk_at dksX2_groups_3 5 rfl rfl)
theorem dX2_groups_78 : decode cX2_groups 78 = .ok (.aload_n 0, 1) := dk_42 (dk_at dksX2_groups_3 6 rfl rfl)
theorem dX2_groups_79 : decode cX2_groups 79 = .ok (.getfield 121, 3) := dk_180 0 121 (dk_at dksX2_groups_3 7 rfl rfl)
theorem dX2_groups_82 : decode cX2_groups 82 = .ok (.iload_n 3, 1) := dk_29 (dk_at dksX2_groups_3 10 rfl rfl)
theorem dX2_groups_83 : decode cX2_groups 83 = .ok (.iaload, 1) := dk_46 (dk_at dksX2_groups_3 11 rfl rfl)
theorem dX2_groups_84 : decode cX2_groups 84 = .ok (.invokestatic 370, 3) := dk_184 1 114 (dk_at dksX2_groups_3 12 rfl rfl)
theorem dX2_groups_87 : decode cX2_groups 87 = .ok (.iastore, 1) := dk_79 (dk_at dksX2_groups_3 15 rfl rfl)
theorem dX2_groups_88 : decode cX2_groups 88 = .ok (.iinc 3 1, 3) := dk_132 3 1 (dk_at dksX2_groups_3 16 rfl rfl)
theorem dX2_groups_91 : decode cX2_groups 91 = .ok (.goto (-48), 3) := dk_167 255 208 (dk_at dksX2_groups_3 19 rfl rfl)
theorem dX2_groups_94 : decode cX2_groups 94 = .ok (.iinc 2 1, 3) := dk_132 2 1 (dk_at dksX2_groups_4 0 rfl rfl)
theorem dX2_groups_97 : decode cX2_groups 97 = .ok (.goto (-66), 3) := dk_167 255 190 (dk_at dksX2_groups_4 3 rfl rfl)
theorem dX2_groups_100 : decode cX2_groups 100 = .ok (.iinc 1 1, 3) := dk_132 1 1 (dk_at dksX2_groups_4 6 rfl rfl)
theorem dX2_groups_103 : decode cX2_groups 103 = .ok (.goto (-80), 3) := dk_167 255 176 (dk_at dksX2_groups_4 9 rfl rfl)
theorem dX2_groups_106 : decode cX2_groups 106 = .ok (.iconst 0, 1) := dk_3 (dk_at dksX2_groups_4 12 rfl rfl)
theorem dX2_groups_107 : decode cX2_groups 107 = .ok (.istore_n 1, 1) := dk_60 (dk_at dksX2_groups_4 13 rfl rfl)
theorem dX2_groups_108 : decode cX2_groups 108 = .ok (.iconst 0, 1) := dk_3 (dk_at dksX2_groups_4 14 rfl rfl)
theorem dX2_groups_109 : decode cX2_groups 109 = .ok (.istore_n 2, 1) := dk_61 (dk_at dksX2_groups_4 15 rfl rfl)
theorem dX2_groups_110 : decode cX2_groups 110 = .ok (.iload_n 2, 1) := dk_28 (dk_at dksX2_groups_4 16 rfl rfl)
theorem dX2_groups_111 : decode cX2_groups 111 = .ok (.aload_n 0, 1) := dk_42 (dk_at dksX2_groups_4 17 rfl rfl)
theorem dX2_groups_112 : decode cX2_groups 112 = .ok (.getfield 44, 3) := dk_180 0 44 (dk_at dksX2_groups_4 18 rfl rfl)
theorem dX2_groups_115 : decode cX2_groups 115 = .ok (.iconst 0, 1) := dk_3 (dk_at dksX2_groups_4 21 rfl rfl)
theorem dX2_groups_116 : decode cX2_groups 116 = .ok (.iaload, 1) := dk_46 (dk_at dksX2_groups_4 22 rfl rfl)
theorem dX2_groups_117 : decode cX2_groups 117 = .ok (.if_icmp .ge 94, 3) := dk_162 0 94 (dk_at dksX2_groups_5 0 rfl rfl)
theorem dX2_groups_120 : decode cX2_groups 120 = .ok (.aload_n 0, 1) := dk_42 (dk_at dksX2_groups_5 3 rfl rfl)
theorem dX2_groups_121 : decode cX2_groups 121 = .ok (.getfield 81, 3) := dk_180 0 81 (dk_at dksX2_groups_5 4 rfl rfl)
theorem dX2_groups_124 : decode cX2_groups 124 = .ok (.iload_n 2, 1) := dk_28 (dk_at dksX2_groups_5 7 rfl rfl)
theorem dX2_groups_125 : decode cX2_groups 125 = .ok (.baload, 1) := dk_51 (dk_at dksX2_groups_5 8 rfl rfl)
theorem dX2_groups_126 : decode cX2_groups 126 = .ok (.ifCond .eq 79, 3) := dk_153 0 79 (dk_at dksX2_groups_5 9 rfl rfl)
theorem dX2_groups_129 : decode cX2_groups 129 = .ok (.aload_n 0, 1) := dk_42 (dk_at dksX2_groups_5 12 rfl rfl)
theorem dX2_groups_130 : decode cX2_groups 130 = .ok (.getfield 121, 3) := dk_180 0 121 (dk_at dksX2_groups_5 13 rfl rfl)
theorem dX2_groups_133 : decode cX2_groups 133 = .ok (.iload_n 2, 1) := dk_28 (dk_at dksX2_groups_5 16 rfl rfl)
theorem dX2_groups_134 : decode cX2_groups 134 = .ok (.iaload, 1) := dk_46 (dk_at dksX2_groups_5 17 rfl rfl)
theorem dX2_groups_135 : decode cX2_groups 135 = .ok (.iload_n 2, 1) := dk_28 (dk_at dksX2_groups_5 18 rfl rfl)
theorem dX2_groups_136 : decode cX2_groups 136 = .ok (.if_icmp .eq 6, 3) := dk_159 0 6 (dk_at dksX2_groups_5 19 rfl rfl)
theorem dX2_groups_139 : decode cX2_groups 139 = .ok (.goto 66, 3) := dk_167 0 66 (dk_at dksX2_groups_6 0 rfl rfl)
theorem dX2_groups_142 : decode cX2_groups 142 = .ok (.aload_n 0, 1) := dk_42 (dk_at dksX2_groups_6 3 rfl rfl)
theorem dX2_groups_143 : decode cX2_groups 143 = .ok (.getfield 124, 3) := dk_180 0 124 (dk_at dksX2_groups_6 4 rfl rfl)
theorem dX2_groups_146 : decode cX2_groups 146 = .ok (.iload_n 1, 1) := dk_27 (dk_at dksX2_groups_6 7 rfl rfl)
theorem dX2_groups_147 : decode cX2_groups 147 = .ok (.iconst 0, 1) := dk_3 (dk_at dksX2_groups_6 8 rfl rfl)
theorem dX2_groups_148 : decode cX2_groups 148 = .ok (.iastore, 1) := dk_79 (dk_at dksX2_groups_6 9 rfl rfl)
theorem dX2_groups_149 : decode cX2_groups 149 = .ok (.iconst 0, 1) := dk_3 (dk_at dksX2_groups_6 10 rfl rfl)
theorem dX2_groups_150 : decode cX2_groups 150 = .ok (.istore_n 3, 1) := dk_62 (dk_at dksX2_groups_6 11 rfl rfl)
theorem dX2_groups_151 : decode cX2_groups 151 = .ok (.iload_n 3, 1) := dk_29 (dk_at dksX2_groups_6 12 rfl rfl)
theorem dX2_groups_152 : decode cX2_groups 152 = .ok (.aload_n 0, 1) := dk_42 (dk_at dksX2_groups_6 13 rfl rfl)
theorem dX2_groups_153 : decode cX2_groups 153 = .ok (.getfield 44, 3) := dk_180 0 44 (dk_at dksX2_groups_6 14 rfl rfl)
theorem dX2_groups_156 : decode cX2_groups 156 = .ok (.iconst 0, 1) := dk_3 (dk_at dksX2_groups_6 17 rfl rfl)
theorem dX2_groups_157 : decode cX2_groups 157 = .ok (.iaload, 1) := dk_46 (dk_at dksX2_groups_6 18 rfl rfl)
theorem dX2_groups_158 : decode cX2_groups 158 = .ok (.if_icmp .ge 44, 3) := dk_162 0 44 (dk_at dksX2_groups_6 19 rfl rfl)
theorem dX2_groups_161 : decode cX2_groups 161 = .ok (.aload_n 0, 1) := dk_42 (dk_at dksX2_groups_6 22 rfl rfl)
theorem dX2_groups_162 : decode cX2_groups 162 = .ok (.getfield 124, 3) := dk_180 0 124 (dk_at dksX2_groups_7 0 rfl rfl)
theorem dX2_groups_165 : decode cX2_groups 165 = .ok (.iload_n 1, 1) := dk_27 (dk_at dksX2_groups_7 3 rfl rfl)
theorem dX2_groups_166 : decode cX2_groups 166 = .ok (.dup2, 1) := dk_92 (dk_at dksX2_groups_7 4 rfl rfl)
theorem dX2_groups_167 : decode cX2_groups 167 = .ok (.iaload, 1) := dk_46 (dk_at dksX2_groups_7 5 rfl rfl)
theorem dX2_groups_168 : decode cX2_groups 168 = .ok (.aload_n 0, 1) := dk_42 (dk_at dksX2_groups_7 6 rfl rfl)
theorem dX2_groups_169 : decode cX2_groups 169 = .ok (.getfield 81, 3) := dk_180 0 81 (dk_at dksX2_groups_7 7 rfl rfl)
theorem dX2_groups_172 : decode cX2_groups 172 = .ok (.iload_n 3, 1) := dk_29 (dk_at dksX2_groups_7 10 rfl rfl)
theorem dX2_groups_173 : decode cX2_groups 173 = .ok (.baload, 1) := dk_51 (dk_at dksX2_groups_7 11 rfl rfl)
theorem dX2_groups_174 : decode cX2_groups 174 = .ok (.ifCond .eq 19, 3) := dk_153 0 19 (dk_at dksX2_groups_7 12 rfl rfl)
theorem dX2_groups_177 : decode cX2_groups 177 = .ok (.aload_n 0, 1) := dk_42 (dk_at dksX2_groups_7 15 rfl rfl)
theorem dX2_groups_178 : decode cX2_groups 178 = .ok (.getfield 121, 3) := dk_180 0 121 (dk_at dksX2_groups_7 16 rfl rfl)
theorem dX2_groups_181 : decode cX2_groups 181 = .ok (.iload_n 3, 1) := dk_29 (dk_at dksX2_groups_7 19 rfl rfl)
theorem dX2_groups_182 : decode cX2_groups 182 = .ok (.iaload, 1) := dk_46 (dk_at dksX2_groups_7 20 rfl rfl)
theorem dX2_groups_183 : decode cX2_groups 183 = .ok (.iload_n 2, 1) := dk_28 (dk_at dksX2_groups_7 21 rfl rfl)
theorem dX2_groups_184 : decode cX2_groups 184 = .ok (.if_icmp .ne 9, 3) := dk_160 0 9 (dk_at dksX2_groups_8 0 rfl rfl)
theorem dX2_groups_187 : decode cX2_groups 187 = .ok (.iconst 1, 1) := dk_4 (dk_at dksX2_groups_8 3 rfl rfl)
theorem dX2_groups_188 : decode cX2_groups 188 = .ok (.iload_n 3, 1) := dk_29 (dk_at dksX2_groups_8 4 rfl rfl)
theorem dX2_groups_189 : decode cX2_groups 189 = .ok (.ishl, 1) := dk_120 (dk_at dksX2_groups_8 5 rfl rfl)
theorem dX2_groups_190 : decode cX2_groups 190 = .ok (.goto 4, 3) := dk_167 0 4 (dk_at dksX2_groups_8 6 rfl rfl)
theorem dX2_groups_193 : decode cX2_groups 193 = .ok (.iconst 0, 1) := dk_3 (dk_at dksX2_groups_8 9 rfl rfl)
theorem dX2_groups_194 : decode cX2_groups 194 = .ok (.ior, 1) := dk_128 (dk_at dksX2_groups_8 10 rfl rfl)
theorem dX2_groups_195 : decode cX2_groups 195 = .ok (.iastore, 1) := dk_79 (dk_at dksX2_groups_8 11 rfl rfl)
theorem dX2_groups_196 : decode cX2_groups 196 = .ok (.iinc 3 1, 3) := dk_132 3 1 (dk_at dksX2_groups_8 12 rfl rfl)
theorem dX2_groups_199 : decode cX2_groups 199 = .ok (.goto (-48), 3) := dk_167 255 208 (dk_at dksX2_groups_8 15 rfl rfl)
theorem dX2_groups_202 : decode cX2_groups 202 = .ok (.iinc 1 1, 3) := dk_132 1 1 (dk_at dksX2_groups_8 18 rfl rfl)
theorem dX2_groups_205 : decode cX2_groups 205 = .ok (.iinc 2 1, 3) := dk_132 2 1 (dk_at dksX2_groups_8 21 rfl rfl)
theorem dX2_groups_208 : decode cX2_groups 208 = .ok (.goto (-98), 3) := dk_167 255 158 (dk_at dksX2_groups_9 0 rfl rfl)
theorem dX2_groups_211 : decode cX2_groups 211 = .ok (.iload_n 1, 1) := dk_27 (dk_at dksX2_groups_9 3 rfl rfl)
theorem dX2_groups_212 : decode cX2_groups 212 = .ok (.ireturn, 1) := dk_172 (dk_at dksX2_groups_9 4 rfl rfl)
abbrev cX2_bitsOf : ByteArray := prog_26_method_64_code
def yX2_bitsOf : MethodName := ⟨RX2, "bitsOf", "(II)I"⟩
def dkwX2_bitsOf_1 : List UInt8 := [180, 0, 124, 21, 4, 46, 167, 0, 4, 3, 128, 62, 132, 4, 1, 167, 255, 223, 29, 172]
abbrev dktX2_bitsOf_1 : List UInt8 := dkwX2_bitsOf_1 ++ []
def dkwX2_bitsOf_0 : List UInt8 := [3, 62, 3, 54, 4, 21, 4, 28, 162, 0, 33, 29, 27, 21, 4, 122, 4, 126, 4, 160, 0, 13, 42]
abbrev dktX2_bitsOf_0 : List UInt8 := dkwX2_bitsOf_0 ++ dktX2_bitsOf_1
theorem dksX2_bitsOf_0 : cX2_bitsOf.data.toList.drop 0 = dktX2_bitsOf_0 := by decide +kernel
theorem dksX2_bitsOf_1 : cX2_bitsOf.data.toList.drop 23 = dktX2_bitsOf_1 := dk_seg dksX2_bitsOf_0 23 rfl rfl
theorem dX2_bitsOf_0 : decode cX2_bitsOf 0 = .ok (.iconst 0, 1) := dk_3 (dk_at dksX2_bitsOf_0 0 rfl rfl)
theorem dX2_bitsOf_1 : decode cX2_bitsOf 1 = .ok (.istore_n 3, 1) := dk_62 (dk_at dksX2_bitsOf_0 1 rfl rfl)
theorem dX2_bitsOf_2 : decode cX2_bitsOf 2 = .ok (.iconst 0, 1) := dk_3 (dk_at dksX2_bitsOf_0 2 rfl rfl)
theorem dX2_bitsOf_3 : decode cX2_bitsOf 3 = .ok (.istore 4, 2) := dk_54 4 (dk_at dksX2_bitsOf_0 3 rfl rfl)
theorem dX2_bitsOf_5 : decode cX2_bitsOf 5 = .ok (.iload 4, 2) := dk_21 4 (dk_at dksX2_bitsOf_0 5 rfl rfl)
theorem dX2_bitsOf_7 : decode cX2_bitsOf 7 = .ok (.iload_n 2, 1) := dk_28 (dk_at dksX2_bitsOf_0 7 rfl rfl)
theorem dX2_bitsOf_8 : decode cX2_bitsOf 8 = .ok (.if_icmp .ge 33, 3) := dk_162 0 33 (dk_at dksX2_bitsOf_0 8 rfl rfl)
theorem dX2_bitsOf_11 : decode cX2_bitsOf 11 = .ok (.iload_n 3, 1) := dk_29 (dk_at dksX2_bitsOf_0 11 rfl rfl)
theorem dX2_bitsOf_12 : decode cX2_bitsOf 12 = .ok (.iload_n 1, 1) := dk_27 (dk_at dksX2_bitsOf_0 12 rfl rfl)
theorem dX2_bitsOf_13 : decode cX2_bitsOf 13 = .ok (.iload 4, 2) := dk_21 4 (dk_at dksX2_bitsOf_0 13 rfl rfl)
theorem dX2_bitsOf_15 : decode cX2_bitsOf 15 = .ok (.ishr, 1) := dk_122 (dk_at dksX2_bitsOf_0 15 rfl rfl)
theorem dX2_bitsOf_16 : decode cX2_bitsOf 16 = .ok (.iconst 1, 1) := dk_4 (dk_at dksX2_bitsOf_0 16 rfl rfl)
theorem dX2_bitsOf_17 : decode cX2_bitsOf 17 = .ok (.iand, 1) := dk_126 (dk_at dksX2_bitsOf_0 17 rfl rfl)
theorem dX2_bitsOf_18 : decode cX2_bitsOf 18 = .ok (.iconst 1, 1) := dk_4 (dk_at dksX2_bitsOf_0 18 rfl rfl)
theorem dX2_bitsOf_19 : decode cX2_bitsOf 19 = .ok (.if_icmp .ne 13, 3) := dk_160 0 13 (dk_at dksX2_bitsOf_0 19 rfl rfl)
theorem dX2_bitsOf_22 : decode cX2_bitsOf 22 = .ok (.aload_n 0, 1) := dk_42 (dk_at dksX2_bitsOf_0 22 rfl rfl)
theorem dX2_bitsOf_23 : decode cX2_bitsOf 23 = .ok (.getfield 124, 3) := dk_180 0 124 (dk_at dksX2_bitsOf_1 0 rfl rfl)
theorem dX2_bitsOf_26 : decode cX2_bitsOf 26 = .ok (.iload 4, 2) := dk_21 4 (dk_at dksX2_bitsOf_1 3 rfl rfl)
theorem dX2_bitsOf_28 : decode cX2_bitsOf 28 = .ok (.iaload, 1) := dk_46 (dk_at dksX2_bitsOf_1 5 rfl rfl)
theorem dX2_bitsOf_29 : decode cX2_bitsOf 29 = .ok (.goto 4, 3) := dk_167 0 4 (dk_at dksX2_bitsOf_1 6 rfl rfl)
theorem dX2_bitsOf_32 : decode cX2_bitsOf 32 = .ok (.iconst 0, 1) := dk_3 (dk_at dksX2_bitsOf_1 9 rfl rfl)
theorem dX2_bitsOf_33 : decode cX2_bitsOf 33 = .ok (.ior, 1) := dk_128 (dk_at dksX2_bitsOf_1 10 rfl rfl)
theorem dX2_bitsOf_34 : decode cX2_bitsOf 34 = .ok (.istore_n 3, 1) := dk_62 (dk_at dksX2_bitsOf_1 11 rfl rfl)
theorem dX2_bitsOf_35 : decode cX2_bitsOf 35 = .ok (.iinc 4 1, 3) := dk_132 4 1 (dk_at dksX2_bitsOf_1 12 rfl rfl)
theorem dX2_bitsOf_38 : decode cX2_bitsOf 38 = .ok (.goto (-33), 3) := dk_167 255 223 (dk_at dksX2_bitsOf_1 15 rfl rfl)
theorem dX2_bitsOf_41 : decode cX2_bitsOf 41 = .ok (.iload_n 3, 1) := dk_29 (dk_at dksX2_bitsOf_1 18 rfl rfl)
theorem dX2_bitsOf_42 : decode cX2_bitsOf 42 = .ok (.ireturn, 1) := dk_172 (dk_at dksX2_bitsOf_1 19 rfl rfl)
abbrev cX2_mayGo : ByteArray := prog_26_method_65_code
def yX2_mayGo : MethodName := ⟨RX2, "mayGo", "(II)Z"⟩
def dkwX2_mayGo_1 : List UInt8 := [182, 1, 111, 154, 0, 5, 3, 172, 132, 3, 1, 167, 255, 223, 4, 172]
abbrev dktX2_mayGo_1 : List UInt8 := dkwX2_mayGo_1 ++ []
def dkwX2_mayGo_0 : List UInt8 := [3, 62, 29, 42, 180, 0, 44, 3, 46, 162, 0, 29, 27, 29, 122, 4, 126, 4, 160, 0, 14, 42, 29, 28]
abbrev dktX2_mayGo_0 : List UInt8 := dkwX2_mayGo_0 ++ dktX2_mayGo_1
theorem dksX2_mayGo_0 : cX2_mayGo.data.toList.drop 0 = dktX2_mayGo_0 := by decide +kernel
theorem dksX2_mayGo_1 : cX2_mayGo.data.toList.drop 24 = dktX2_mayGo_1 := dk_seg dksX2_mayGo_0 24 rfl rfl
theorem dX2_mayGo_0 : decode cX2_mayGo 0 = .ok (.iconst 0, 1) := dk_3 (dk_at dksX2_mayGo_0 0 rfl rfl)
theorem dX2_mayGo_1 : decode cX2_mayGo 1 = .ok (.istore_n 3, 1) := dk_62 (dk_at dksX2_mayGo_0 1 rfl rfl)
theorem dX2_mayGo_2 : decode cX2_mayGo 2 = .ok (.iload_n 3, 1) := dk_29 (dk_at dksX2_mayGo_0 2 rfl rfl)
theorem dX2_mayGo_3 : decode cX2_mayGo 3 = .ok (.aload_n 0, 1) := dk_42 (dk_at dksX2_mayGo_0 3 rfl rfl)
theorem dX2_mayGo_4 : decode cX2_mayGo 4 = .ok (.getfield 44, 3) := dk_180 0 44 (dk_at dksX2_mayGo_0 4 rfl rfl)
theorem dX2_mayGo_7 : decode cX2_mayGo 7 = .ok (.iconst 0, 1) := dk_3 (dk_at dksX2_mayGo_0 7 rfl rfl)
theorem dX2_mayGo_8 : decode cX2_mayGo 8 = .ok (.iaload, 1) := dk_46 (dk_at dksX2_mayGo_0 8 rfl rfl)
theorem dX2_mayGo_9 : decode cX2_mayGo 9 = .ok (.if_icmp .ge 29, 3) := dk_162 0 29 (dk_at dksX2_mayGo_0 9 rfl rfl)
theorem dX2_mayGo_12 : decode cX2_mayGo 12 = .ok (.iload_n 1, 1) := dk_27 (dk_at dksX2_mayGo_0 12 rfl rfl)
theorem dX2_mayGo_13 : decode cX2_mayGo 13 = .ok (.iload_n 3, 1) := dk_29 (dk_at dksX2_mayGo_0 13 rfl rfl)
theorem dX2_mayGo_14 : decode cX2_mayGo 14 = .ok (.ishr, 1) := dk_122 (dk_at dksX2_mayGo_0 14 rfl rfl)
theorem dX2_mayGo_15 : decode cX2_mayGo 15 = .ok (.iconst 1, 1) := dk_4 (dk_at dksX2_mayGo_0 15 rfl rfl)
theorem dX2_mayGo_16 : decode cX2_mayGo 16 = .ok (.iand, 1) := dk_126 (dk_at dksX2_mayGo_0 16 rfl rfl)
theorem dX2_mayGo_17 : decode cX2_mayGo 17 = .ok (.iconst 1, 1) := dk_4 (dk_at dksX2_mayGo_0 17 rfl rfl)
theorem dX2_mayGo_18 : decode cX2_mayGo 18 = .ok (.if_icmp .ne 14, 3) := dk_160 0 14 (dk_at dksX2_mayGo_0 18 rfl rfl)
theorem dX2_mayGo_21 : decode cX2_mayGo 21 = .ok (.aload_n 0, 1) := dk_42 (dk_at dksX2_mayGo_0 21 rfl rfl)
theorem dX2_mayGo_22 : decode cX2_mayGo 22 = .ok (.iload_n 3, 1) := dk_29 (dk_at dksX2_mayGo_0 22 rfl rfl)
theorem dX2_mayGo_23 : decode cX2_mayGo 23 = .ok (.iload_n 2, 1) := dk_28 (dk_at dksX2_mayGo_0 23 rfl rfl)
theorem dX2_mayGo_24 : decode cX2_mayGo 24 = .ok (.invokevirtual 367, 3) := dk_182 1 111 (dk_at dksX2_mayGo_1 0 rfl rfl)
theorem dX2_mayGo_27 : decode cX2_mayGo 27 = .ok (.ifCond .ne 5, 3) := dk_154 0 5 (dk_at dksX2_mayGo_1 3 rfl rfl)
theorem dX2_mayGo_30 : decode cX2_mayGo 30 = .ok (.iconst 0, 1) := dk_3 (dk_at dksX2_mayGo_1 6 rfl rfl)
theorem dX2_mayGo_31 : decode cX2_mayGo 31 = .ok (.ireturn, 1) := dk_172 (dk_at dksX2_mayGo_1 7 rfl rfl)
theorem dX2_mayGo_32 : decode cX2_mayGo 32 = .ok (.iinc 3 1, 3) := dk_132 3 1 (dk_at dksX2_mayGo_1 8 rfl rfl)
theorem dX2_mayGo_35 : decode cX2_mayGo 35 = .ok (.goto (-33), 3) := dk_167 255 223 (dk_at dksX2_mayGo_1 11 rfl rfl)
theorem dX2_mayGo_38 : decode cX2_mayGo 38 = .ok (.iconst 1, 1) := dk_4 (dk_at dksX2_mayGo_1 14 rfl rfl)
theorem dX2_mayGo_39 : decode cX2_mayGo 39 = .ok (.ireturn, 1) := dk_172 (dk_at dksX2_mayGo_1 15 rfl rfl)
abbrev cX2_few : ByteArray := prog_26_method_69_code
def yX2_few : MethodName := ⟨RX2, "few", "(II)I"⟩
def dkwX2_few_7 : List UInt8 := [46, 46, 184, 1, 135, 172]
abbrev dktX2_few_7 : List UInt8 := dkwX2_few_7 ++ []
def dkwX2_few_6 : List UInt8 := [132, 3, 1, 167, 255, 243, 28, 2, 160, 0, 7, 29, 167, 0, 17, 42, 180, 0, 133, 42, 180, 0, 130, 28]
abbrev dktX2_few_6 : List UInt8 := dkwX2_few_6 ++ dktX2_few_7
def dkwX2_few_5 : List UInt8 := [182, 1, 132, 84, 132, 3, 1, 167, 255, 230, 3, 62, 42, 3, 3, 29, 182, 1, 129, 154, 0, 9]
abbrev dktX2_few_5 : List UInt8 := dkwX2_few_5 ++ dktX2_few_6
def dkwX2_few_4 : List UInt8 := [167, 255, 211, 3, 62, 29, 4, 42, 180, 0, 44, 3, 46, 120, 162, 0, 20, 42, 180, 0, 139, 29, 42, 29]
abbrev dktX2_few_4 : List UInt8 := dkwX2_few_4 ++ dktX2_few_5
def dkwX2_few_3 : List UInt8 := [180, 0, 136, 42, 180, 1, 126, 29, 79, 42, 89, 180, 1, 126, 4, 96, 181, 1, 126, 132, 3, 1]
abbrev dktX2_few_3 : List UInt8 := dkwX2_few_3 ++ dktX2_few_4
def dkwX2_few_2 : List UInt8 := [42, 180, 0, 44, 3, 46, 162, 0, 41, 42, 180, 0, 81, 29, 51, 154, 0, 6, 167, 0, 23, 42]
abbrev dktX2_few_2 : List UInt8 := dkwX2_few_2 ++ dktX2_few_3
def dkwX2_few_1 : List UInt8 := [180, 0, 81, 28, 51, 154, 0, 5, 2, 172, 42, 27, 3, 182, 1, 94, 42, 3, 181, 1, 126, 3, 62, 29]
abbrev dktX2_few_1 : List UInt8 := dkwX2_few_1 ++ dktX2_few_2
def dkwX2_few_0 : List UInt8 := [42, 27, 182, 1, 41, 153, 0, 25, 28, 2, 159, 0, 22, 42, 28, 182, 1, 19, 153, 0, 12, 42]
abbrev dktX2_few_0 : List UInt8 := dkwX2_few_0 ++ dktX2_few_1
theorem dksX2_few_0 : cX2_few.data.toList.drop 0 = dktX2_few_0 := by decide +kernel
theorem dksX2_few_1 : cX2_few.data.toList.drop 22 = dktX2_few_1 := dk_seg dksX2_few_0 22 rfl rfl
theorem dksX2_few_2 : cX2_few.data.toList.drop 46 = dktX2_few_2 := dk_seg dksX2_few_1 24 rfl rfl
theorem dksX2_few_3 : cX2_few.data.toList.drop 68 = dktX2_few_3 := dk_seg dksX2_few_2 22 rfl rfl
theorem dksX2_few_4 : cX2_few.data.toList.drop 90 = dktX2_few_4 := dk_seg dksX2_few_3 22 rfl rfl
theorem dksX2_few_5 : cX2_few.data.toList.drop 114 = dktX2_few_5 := dk_seg dksX2_few_4 24 rfl rfl
theorem dksX2_few_6 : cX2_few.data.toList.drop 136 = dktX2_few_6 := dk_seg dksX2_few_5 22 rfl rfl
theorem dksX2_few_7 : cX2_few.data.toList.drop 160 = dktX2_few_7 := dk_seg dksX2_few_6 24 rfl rfl
theorem dX2_few_0 : decode cX2_few 0 = .ok (.aload_n 0, 1) := dk_42 (dk_at dksX2_few_0 0 rfl rfl)
theorem dX2_few_1 : decode cX2_few 1 = .ok (.iload_n 1, 1) := dk_27 (dk_at dksX2_few_0 1 rfl rfl)
theorem dX2_few_2 : decode cX2_few 2 = .ok (.invokevirtual 297, 3) := dk_182 1 41 (dk_at dksX2_few_0 2 rfl rfl)
theorem dX2_few_5 : decode cX2_few 5 = .ok (.ifCond .eq 25, 3) := dk_153 0 25 (dk_at dksX2_few_0 5 rfl rfl)
theorem dX2_few_8 : decode cX2_few 8 = .ok (.iload_n 2, 1) := dk_28 (dk_at dksX2_few_0 8 rfl rfl)
theorem dX2_few_9 : decode cX2_few 9 = .ok (.iconst (-1), 1) := dk_2 (dk_at dksX2_few_0 9 rfl rfl)
theorem dX2_few_10 : decode cX2_few 10 = .ok (.if_icmp .eq 22, 3) := dk_159 0 22 (dk_at dksX2_few_0 10 rfl rfl)
theorem dX2_few_13 : decode cX2_few 13 = .ok (.aload_n 0, 1) := dk_42 (dk_at dksX2_few_0 13 rfl rfl)
theorem dX2_few_14 : decode cX2_few 14 = .ok (.iload_n 2, 1) := dk_28 (dk_at dksX2_few_0 14 rfl rfl)
theorem dX2_few_15 : decode cX2_few 15 = .ok (.invokevirtual 275, 3) := dk_182 1 19 (dk_at dksX2_few_0 15 rfl rfl)
theorem dX2_few_18 : decode cX2_few 18 = .ok (.ifCond .eq 12, 3) := dk_153 0 12 (dk_at dksX2_few_0 18 rfl rfl)
theorem dX2_few_21 : decode cX2_few 21 = .ok (.aload_n 0, 1) := dk_42 (dk_at dksX2_few_0 21 rfl rfl)
theorem dX2_few_22 : decode cX2_few 22 = .ok (.getfield 81, 3) := dk_180 0 81 (dk_at dksX2_few_1 0 rfl rfl)
theorem dX2_few_25 : decode cX2_few 25 = .ok (.iload_n 2, 1) := dk_28 (dk_at dksX2_few_1 3 rfl rfl)
theorem dX2_few_26 : decode cX2_few 26 = .ok (.baload, 1) := dk_51 (dk_at dksX2_few_1 4 rfl rfl)
theorem dX2_few_27 : decode cX2_few 27 = .ok (.ifCond .ne 5, 3) := dk_154 0 5 (dk_at dksX2_few_1 5 rfl rfl)
theorem dX2_few_30 : decode cX2_few 30 = .ok (.iconst (-1), 1) := dk_2 (dk_at dksX2_few_1 8 rfl rfl)
theorem dX2_few_31 : decode cX2_few 31 = .ok (.ireturn, 1) := dk_172 (dk_at dksX2_few_1 9 rfl rfl)
theorem dX2_few_32 : decode cX2_few 32 = .ok (.aload_n 0, 1) := dk_42 (dk_at dksX2_few_1 10 rfl rfl)
theorem dX2_few_33 : decode cX2_few 33 = .ok (.iload_n 1, 1) := dk_27 (dk_at dksX2_few_1 11 rfl rfl)
theorem dX2_few_34 : decode cX2_few 34 = .ok (.iconst 0, 1) := dk_3 (dk_at dksX2_few_1 12 rfl rfl)
theorem dX2_few_35 : decode cX2_few 35 = .ok (.invokevirtual 350, 3) := dk_182 1 94 (dk_at dksX2_few_1 13 rfl rfl)
theorem dX2_few_38 : decode cX2_few 38 = .ok (.aload_n 0, 1) := dk_42 (dk_at dksX2_few_1 16 rfl rfl)
theorem dX2_few_39 : decode cX2_few 39 = .ok (.iconst 0, 1) := dk_3 (dk_at dksX2_few_1 17 rfl rfl)
theorem dX2_few_40 : decode cX2_few 40 = .ok (.putfield 382, 3) := dk_181 1 126 (dk_at dksX2_few_1 18 rfl rfl)
theorem dX2_few_43 : decode cX2_few 43 = .ok (.iconst 0, 1) := dk_3 (dk_at dksX2_few_1 21 rfl rfl)
theorem dX2_few_44 : decode cX2_few 44 = .ok (.istore_n 3, 1) := dk_62 (dk_at dksX2_few_1 22 rfl rfl)
theorem dX2_few_45 : decode cX2_few 45 = .ok (.iload_n 3, 1) := dk_29 (dk_at dksX2_few_1 23 rfl rfl)
theorem dX2_few_46 : decode cX2_few 46 = .ok (.aload_n 0, 1) := dk_42 (dk_at dksX2_few_2 0 rfl rfl)
theorem dX2_few_47 : decode cX2_few 47 = .ok (.getfield 44, 3) := dk_180 0 44 (dk_at dksX2_few_2 1 rfl rfl)
theorem dX2_few_50 : decode cX2_few 50 = .ok (.iconst 0, 1) := dk_3 (dk_at dksX2_few_2 4 rfl rfl)
theorem dX2_few_51 : decode cX2_few 51 = .ok (.iaload, 1) := dk_46 (dk_at dksX2_few_2 5 rfl rfl)
theorem dX2_few_52 : decode cX2_few 52 = .ok (.if_icmp .ge 41, 3) := dk_162 0 41 (dk_at dksX2_few_2 6 rfl rfl)
theorem dX2_few_55 : decode cX2_few 55 = .ok (.aload_n 0, 1) := dk_42 (dk_at dksX2_few_2 9 rfl rfl)
theorem dX2_few_56 : decode cX2_few 56 = .ok (.getfield 81, 3) := dk_180 0 81 (dk_at dksX2_few_2 10 rfl rfl)
theorem dX2_few_59 : decode cX2_few 59 = .ok (.iload_n 3, 1) := dk_29 (dk_at dksX2_few_2 13 rfl rfl)
theorem dX2_few_60 : decode cX2_few 60 = .ok (.baload, 1) := dk_51 (dk_at dksX2_few_2 14 rfl rfl)
theorem dX2_few_61 : decode cX2_few 61 = .ok (.ifCond .ne 6, 3) := dk_154 0 6 (dk_at dksX2_few_2 15 rfl rfl)
theorem dX2_few_64 : decode cX2_few 64 = .ok (.goto 23, 3) := dk_167 0 23 (dk_at dksX2_few_2 18 rfl rfl)
theorem dX2_few_67 : decode cX2_few 67 = .ok (.aload_n 0, 1) := dk_42 (dk_at dksX2_few_2 21 rfl rfl)
theorem dX2_few_68 : decode cX2_few 68 = .ok (.getfield 136, 3) := dk_180 0 136 (dk_at dksX2_few_3 0 rfl rfl)
theorem dX2_few_71 : decode cX2_few 71 = .ok (.aload_n 0, 1) := dk_42 (dk_at dksX2_few_3 3 rfl rfl)
theorem dX2_few_72 : decode cX2_few 72 = .ok (.getfield 382, 3) := dk_180 1 126 (dk_at dksX2_few_3 4 rfl rfl)
theorem dX2_few_75 : decode cX2_few 75 = .ok (.iload_n 3, 1) := dk_29 (dk_at dksX2_few_3 7 rfl rfl)
theorem dX2_few_76 : decode cX2_few 76 = .ok (.iastore, 1) := dk_79 (dk_at dksX2_few_3 8 rfl rfl)
theorem dX2_few_77 : decode cX2_few 77 = .ok (.aload_n 0, 1) := dk_42 (dk_at dksX2_few_3 9 rfl rfl)
theorem dX2_few_78 : decode cX2_few 78 = .ok (.dup, 1) := dk_89 (dk_at dksX2_few_3 10 rfl rfl)
theorem dX2_few_79 : decode cX2_few 79 = .ok (.getfield 382, 3) := dk_180 1 126 (dk_at dksX2_few_3 11 rfl rfl)
theorem dX2_few_82 : decode cX2_few 82 = .ok (.iconst 1, 1) := dk_4 (dk_at dksX2_few_3 14 rfl rfl)
theorem dX2_few_83 : decode cX2_few 83 = .ok (.iadd, 1) := dk_96 (dk_at dksX2_few_3 15 rfl rfl)
theorem dX2_few_84 : decode cX2_few 84 = .ok (.putfield 382, 3) := dk_181 1 126 (dk_at dksX2_few_3 16 rfl rfl)
theorem dX2_few_87 : decode cX2_few 87 = .ok (.iinc 3 1, 3) := dk_132 3 1 (dk_at dksX2_few_3 19 rfl rfl)
theorem dX2_few_90 : decode cX2_few 90 = .ok (.goto (-45), 3) := dk_167 255 211 (dk_at dksX2_few_4 0 rfl rfl)
theorem dX2_few_93 : decode cX2_few 93 = .ok (.iconst 0, 1) := dk_3 (dk_at dksX2_few_4 3 rfl rfl)
theorem dX2_few_94 : decode cX2_few 94 = .ok (.istore_n 3, 1) := dk_62 (dk_at dksX2_few_4 4 rfl rfl)
theorem dX2_few_95 : decode cX2_few 95 = .ok (.iload_n 3, 1) := dk_29 (dk_at dksX2_few_4 5 rfl rfl)
theorem dX2_few_96 : decode cX2_few 96 = .ok (.iconst 1, 1) := dk_4 (dk_at dksX2_few_4 6 rfl rfl)
theorem dX2_few_97 : decode cX2_few 97 = .ok (.aload_n 0, 1) := dk_42 (dk_at dksX2_few_4 7 rfl rfl)
theorem dX2_few_98 : decode cX2_few 98 = .ok (.getfield 44, 3) := dk_180 0 44 (dk_at dksX2_few_4 8 rfl rfl)
theorem dX2_few_101 : decode cX2_few 101 = .ok (.iconst 0, 1) := dk_3 (dk_at dksX2_few_4 11 rfl rfl)
theorem dX2_few_102 : decode cX2_few 102 = .ok (.iaload, 1) := dk_46 (dk_at dksX2_few_4 12 rfl rfl)
theorem dX2_few_103 : decode cX2_few 103 = .ok (.ishl, 1) := dk_120 (dk_at dksX2_few_4 13 rfl rfl)
theorem dX2_few_104 : decode cX2_few 104 = .ok (.if_icmp .ge 20, 3) := dk_162 0 20 (dk_at dksX2_few_4 14 rfl rfl)
theorem dX2_few_107 : decode cX2_few 107 = .ok (.aload_n 0, 1) := dk_42 (dk_at dksX2_few_4 17 rfl rfl)
theorem dX2_few_108 : decode cX2_few 108 = .ok (.getfield 139, 3) := dk_180 0 139 (dk_at dksX2_few_4 18 rfl rfl)
theorem dX2_few_111 : decode cX2_few 111 = .ok (.iload_n 3, 1) := dk_29 (dk_at dksX2_few_4 21 rfl rfl)
theorem dX2_few_112 : decode cX2_few 112 = .ok (.aload_n 0, 1) := dk_42 (dk_at dksX2_few_4 22 rfl rfl)
theorem dX2_few_113 : decode cX2_few 113 = .ok (.iload_n 3, 1) := dk_29 (dk_at dksX2_few_4 23 rfl rfl)
theorem dX2_few_114 : decode cX2_few 114 = .ok (.invokevirtual 388, 3) := dk_182 1 132 (dk_at dksX2_few_5 0 rfl rfl)
theorem dX2_few_117 : decode cX2_few 117 = .ok (.bastore, 1) := dk_84 (dk_at dksX2_few_5 3 rfl rfl)
theorem dX2_few_118 : decode cX2_few 118 = .ok (.iinc 3 1, 3) := dk_132 3 1 (dk_at dksX2_few_5 4 rfl rfl)
theorem dX2_few_121 : decode cX2_few 121 = .ok (.goto (-26), 3) := dk_167 255 230 (dk_at dksX2_few_5 7 rfl rfl)
theorem dX2_few_124 : decode cX2_few 124 = .ok (.iconst 0, 1) := dk_3 (dk_at dksX2_few_5 10 rfl rfl)
theorem dX2_few_125 : decode cX2_few 125 = .ok (.istore_n 3, 1) := dk_62 (dk_at dksX2_few_5 11 rfl rfl)
theorem dX2_few_126 : decode cX2_few 126 = .ok (.aload_n 0, 1) := dk_42 (dk_at dksX2_few_5 12 rfl rfl)
theorem dX2_few_127 : decode cX2_few 127 = .ok (.iconst 0, 1) := dk_3 (dk_at dksX2_few_5 13 rfl rfl)
theorem dX2_few_128 : decode cX2_few 128 = .ok (.iconst 0, 1) := dk_3 (dk_at dksX2_few_5 14 rfl rfl)
theorem dX2_few_129 : decode cX2_few 129 = .ok (.iload_n 3, 1) := dk_29 (dk_at dksX2_few_5 15 rfl rfl)
theorem dX2_few_130 : decode cX2_few 130 = .ok (.invokevirtual 385, 3) := dk_182 1 129 (dk_at dksX2_few_5 16 rfl rfl)
theorem dX2_few_133 : decode cX2_few 133 = .ok (.ifCond .ne 9, 3) := dk_154 0 9 (dk_at dksX2_few_5 19 rfl rfl)
theorem dX2_few_136 : decode cX2_few 136 = .ok (.iinc 3 1, 3) := dk_132 3 1 (dk_at dksX2_few_6 0 rfl rfl)
theorem dX2_few_139 : decode cX2_few 139 = .ok (.goto (-13), 3) := dk_167 255 243 (dk_at dksX2_few_6 3 rfl rfl)
theorem dX2_few_142 : decode cX2_few 142 = .ok (.iload_n 2, 1) := dk_28 (dk_at dksX2_few_6 6 rfl rfl)
theorem dX2_few_143 : decode cX2_few 143 = .ok (.iconst (-1), 1) := dk_2 (dk_at dksX2_few_6 7 rfl rfl)
theorem dX2_few_144 : decode cX2_few 144 = .ok (.if_icmp .ne 7, 3) := dk_160 0 7 (dk_at dksX2_few_6 8 rfl rfl)
theorem dX2_few_147 : decode cX2_few 147 = .ok (.iload_n 3, 1) := dk_29 (dk_at dksX2_few_6 11 rfl rfl)
theorem dX2_few_148 : decode cX2_few 148 = .ok (.goto 17, 3) := dk_167 0 17 (dk_at dksX2_few_6 12 rfl rfl)
theorem dX2_few_151 : decode cX2_few 151 = .ok (.aload_n 0, 1) := dk_42 (dk_at dksX2_few_6 15 rfl rfl)
theorem dX2_few_152 : decode cX2_few 152 = .ok (.getfield 133, 3) := dk_180 0 133 (dk_at dksX2_few_6 16 rfl rfl)
theorem dX2_few_155 : decode cX2_few 155 = .ok (.aload_n 0, 1) := dk_42 (dk_at dksX2_few_6 19 rfl rfl)
theorem dX2_few_156 : decode cX2_few 156 = .ok (.getfield 130, 3) := dk_180 0 130 (dk_at dksX2_few_6 20 rfl rfl)
theorem dX2_few_159 : decode cX2_few 159 = .ok (.iload_n 2, 1) := dk_28 (dk_at dksX2_few_6 23 rfl rfl)
theorem dX2_few_160 : decode cX2_few 160 = .ok (.iaload, 1) := dk_46 (dk_at dksX2_few_7 0 rfl rfl)
theorem dX2_few_161 : decode cX2_few 161 = .ok (.iaload, 1) := dk_46 (dk_at dksX2_few_7 1 rfl rfl)
theorem dX2_few_162 : decode cX2_few 162 = .ok (.invokestatic 391, 3) := dk_184 1 135 (dk_at dksX2_few_7 2 rfl rfl)
theorem dX2_few_165 : decode cX2_few 165 = .ok (.ireturn, 1) := dk_172 (dk_at dksX2_few_7 5 rfl rfl)
abbrev cX2_isQuiet : ByteArray := prog_26_method_67_code
def yX2_isQuiet : MethodName := ⟨RX2, "isQuiet", "(I)Z"⟩
def dkwX2_isQuiet_4 : List UInt8 := [3, 172]
abbrev dktX2_isQuiet_4 : List UInt8 := dkwX2_isQuiet_4 ++ []
def dkwX2_isQuiet_3 : List UInt8 := [132, 3, 1, 167, 255, 195, 132, 2, 1, 167, 255, 177, 42, 27, 182, 1, 105, 154, 0, 7, 4, 167, 0, 4]
abbrev dktX2_isQuiet_3 : List UInt8 := dkwX2_isQuiet_3 ++ dktX2_isQuiet_4
def dkwX2_isQuiet_2 : List UInt8 := [28, 104, 29, 96, 51, 153, 0, 19, 42, 180, 0, 111, 16, 10, 28, 104, 29, 96, 51, 153, 0, 5, 3, 172]
abbrev dktX2_isQuiet_2 : List UInt8 := dkwX2_isQuiet_2 ++ dktX2_isQuiet_3
def dkwX2_isQuiet_1 : List UInt8 := [27, 28, 122, 4, 126, 4, 160, 0, 42, 27, 29, 122, 4, 126, 4, 160, 0, 33, 42, 180, 0, 113, 16, 10]
abbrev dktX2_isQuiet_1 : List UInt8 := dkwX2_isQuiet_1 ++ dktX2_isQuiet_2
def dkwX2_isQuiet_0 : List UInt8 := [3, 61, 28, 42, 180, 0, 44, 3, 46, 162, 0, 75, 3, 62, 29, 42, 180, 0, 44, 3, 46, 162, 0, 57]
abbrev dktX2_isQuiet_0 : List UInt8 := dkwX2_isQuiet_0 ++ dktX2_isQuiet_1
theorem dksX2_isQuiet_0 : cX2_isQuiet.data.toList.drop 0 = dktX2_isQuiet_0 := by decide +kernel
theorem dksX2_isQuiet_1 : cX2_isQuiet.data.toList.drop 24 = dktX2_isQuiet_1 := dk_seg dksX2_isQuiet_0 24 rfl rfl
theorem dksX2_isQuiet_2 : cX2_isQuiet.data.toList.drop 48 = dktX2_isQuiet_2 := dk_seg dksX2_isQuiet_1 24 rfl rfl
theorem dksX2_isQuiet_3 : cX2_isQuiet.data.toList.drop 72 = dktX2_isQuiet_3 := dk_seg dksX2_isQuiet_2 24 rfl rfl
theorem dksX2_isQuiet_4 : cX2_isQuiet.data.toList.drop 96 = dktX2_isQuiet_4 := dk_seg dksX2_isQuiet_3 24 rfl rfl
theorem dX2_isQuiet_0 : decode cX2_isQuiet 0 = .ok (.iconst 0, 1) := dk_3 (dk_at dksX2_isQuiet_0 0 rfl rfl)
theorem dX2_isQuiet_1 : decode cX2_isQuiet 1 = .ok (.istore_n 2, 1) := dk_61 (dk_at dksX2_isQuiet_0 1 rfl rfl)
theorem dX2_isQuiet_2 : decode cX2_isQuiet 2 = .ok (.iload_n 2, 1) := dk_28 (dk_at dksX2_isQuiet_0 2 rfl rfl)
theorem dX2_isQuiet_3 : decode cX2_isQuiet 3 = .ok (.aload_n 0, 1) := dk_42 (dk_at dksX2_isQuiet_0 3 rfl rfl)
theorem dX2_isQuiet_4 : decode cX2_isQuiet 4 = .ok (.getfield 44, 3) := dk_180 0 44 (dk_at dksX2_isQuiet_0 4 rfl rfl)
theorem dX2_isQuiet_7 : decode cX2_isQuiet 7 = .ok (.iconst 0, 1) := dk_3 (dk_at dksX2_isQuiet_0 7 rfl rfl)
theorem dX2_isQuiet_8 : decode cX2_isQuiet 8 = .ok (.iaload, 1) := dk_46 (dk_at dksX2_isQuiet_0 8 rfl rfl)
theorem dX2_isQuiet_9 : decode cX2_isQuiet 9 = .ok (.if_icmp .ge 75, 3) := dk_162 0 75 (dk_at dksX2_isQuiet_0 9 rfl rfl)
theorem dX2_isQuiet_12 : decode cX2_isQuiet 12 = .ok (.iconst 0, 1) := dk_3 (dk_at dksX2_isQuiet_0 12 rfl rfl)
theorem dX2_isQuiet_13 : decode cX2_isQuiet 13 = .ok (.istore_n 3, 1) := dk_62 (dk_at dksX2_isQuiet_0 13 rfl rfl)
theorem dX2_isQuiet_14 : decode cX2_isQuiet 14 = .ok (.iload_n 3, 1) := dk_29 (dk_at dksX2_isQuiet_0 14 rfl rfl)
theorem dX2_isQuiet_15 : decode cX2_isQuiet 15 = .ok (.aload_n 0, 1) := dk_42 (dk_at dksX2_isQuiet_0 15 rfl rfl)
theorem dX2_isQuiet_16 : decode cX2_isQuiet 16 = .ok (.getfield 44, 3) := dk_180 0 44 (dk_at dksX2_isQuiet_0 16 rfl rfl)
theorem dX2_isQuiet_19 : decode cX2_isQuiet 19 = .ok (.iconst 0, 1) := dk_3 (dk_at dksX2_isQuiet_0 19 rfl rfl)
theorem dX2_isQuiet_20 : decode cX2_isQuiet 20 = .ok (.iaload, 1) := dk_46 (dk_at dksX2_isQuiet_0 20 rfl rfl)
theorem dX2_isQuiet_21 : decode cX2_isQuiet 21 = .ok (.if_icmp .ge 57, 3) := dk_162 0 57 (dk_at dksX2_isQuiet_0 21 rfl rfl)
theorem dX2_isQuiet_24 : decode cX2_isQuiet 24 = .ok (.iload_n 1, 1) := dk_27 (dk_at dksX2_isQuiet_1 0 rfl rfl)
theorem dX2_isQuiet_25 : decode cX2_isQuiet 25 = .ok (.iload_n 2, 1) := dk_28 (dk_at dksX2_isQuiet_1 1 rfl rfl)
theorem dX2_isQuiet_26 : decode cX2_isQuiet 26 = .ok (.ishr, 1) := dk_122 (dk_at dksX2_isQuiet_1 2 rfl rfl)
theorem dX2_isQuiet_27 : decode cX2_isQuiet 27 = .ok (.iconst 1, 1) := dk_4 (dk_at dksX2_isQuiet_1 3 rfl rfl)
theorem dX2_isQuiet_28 : decode cX2_isQuiet 28 = .ok (.iand, 1) := dk_126 (dk_at dksX2_isQuiet_1 4 rfl rfl)
theorem dX2_isQuiet_29 : decode cX2_isQuiet 29 = .ok (.iconst 1, 1) := dk_4 (dk_at dksX2_isQuiet_1 5 rfl rfl)
theorem dX2_isQuiet_30 : decode cX2_isQuiet 30 = .ok (.if_icmp .ne 42, 3) := dk_160 0 42 (dk_at dksX2_isQuiet_1 6 rfl rfl)
theorem dX2_isQuiet_33 : decode cX2_isQuiet 33 = .ok (.iload_n 1, 1) := dk_27 (dk_at dksX2_isQuiet_1 9 rfl rfl)
theorem dX2_isQuiet_34 : decode cX2_isQuiet 34 = .ok (.iload_n 3, 1) := dk_29 (dk_at dksX2_isQuiet_1 10 rfl rfl)
theorem dX2_isQuiet_35 : decode cX2_isQuiet 35 = .ok (.ishr, 1) := dk_122 (dk_at dksX2_isQuiet_1 11 rfl rfl)
theorem dX2_isQuiet_36 : decode cX2_isQuiet 36 = .ok (.iconst 1, 1) := dk_4 (dk_at dksX2_isQuiet_1 12 rfl rfl)
theorem dX2_isQuiet_37 : decode cX2_isQuiet 37 = .ok (.iand, 1) := dk_126 (dk_at dksX2_isQuiet_1 13 rfl rfl)
theorem dX2_isQuiet_38 : decode cX2_isQuiet 38 = .ok (.iconst 1, 1) := dk_4 (dk_at dksX2_isQuiet_1 14 rfl rfl)
theorem dX2_isQuiet_39 : decode cX2_isQuiet 39 = .ok (.if_icmp .ne 33, 3) := dk_160 0 33 (dk_at dksX2_isQuiet_1 15 rfl rfl)
theorem dX2_isQuiet_42 : decode cX2_isQuiet 42 = .ok (.aload_n 0, 1) := dk_42 (dk_at dksX2_isQuiet_1 18 rfl rfl)
theorem dX2_isQuiet_43 : decode cX2_isQuiet 43 = .ok (.getfield 113, 3) := dk_180 0 113 (dk_at dksX2_isQuiet_1 19 rfl rfl)
theorem dX2_isQuiet_46 : decode cX2_isQuiet 46 = .ok (.bipush 10, 2) := dk_16 10 (dk_at dksX2_isQuiet_1 22 rfl rfl)
theorem dX2_isQuiet_48 : decode cX2_isQuiet 48 = .ok (.iload_n 2, 1) := dk_28 (dk_at dksX2_isQuiet_2 0 rfl rfl)
theorem dX2_isQuiet_49 : decode cX2_isQuiet 49 = .ok (.imul, 1) := dk_104 (dk_at dksX2_isQuiet_2 1 rfl rfl)
theorem dX2_isQuiet_50 : decode cX2_isQuiet 50 = .ok (.iload_n 3, 1) := dk_29 (dk_at dksX2_isQuiet_2 2 rfl rfl)
theorem dX2_isQuiet_51 : decode cX2_isQuiet 51 = .ok (.iadd, 1) := dk_96 (dk_at dksX2_isQuiet_2 3 rfl rfl)
theorem dX2_isQuiet_52 : decode cX2_isQuiet 52 = .ok (.baload, 1) := dk_51 (dk_at dksX2_isQuiet_2 4 rfl rfl)
theorem dX2_isQuiet_53 : decode cX2_isQuiet 53 = .ok (.ifCond .eq 19, 3) := dk_153 0 19 (dk_at dksX2_isQuiet_2 5 rfl rfl)
theorem dX2_isQuiet_56 : decode cX2_isQuiet 56 = .ok (.aload_n 0, 1) := dk_42 (dk_at dksX2_isQuiet_2 8 rfl rfl)
theorem dX2_isQuiet_57 : decode cX2_isQuiet 57 = .ok (.getfield 111, 3) := dk_180 0 111 (dk_at dksX2_isQuiet_2 9 rfl rfl)
theorem dX2_isQuiet_60 : decode cX2_isQuiet 60 = .ok (.bipush 10, 2) := dk_16 10 (dk_at dksX2_isQuiet_2 12 rfl rfl)
theorem dX2_isQuiet_62 : decode cX2_isQuiet 62 = .ok (.iload_n 2, 1) := dk_28 (dk_at dksX2_isQuiet_2 14 rfl rfl)
theorem dX2_isQuiet_63 : decode cX2_isQuiet 63 = .ok (.imul, 1) := dk_104 (dk_at dksX2_isQuiet_2 15 rfl rfl)
theorem dX2_isQuiet_64 : decode cX2_isQuiet 64 = .ok (.iload_n 3, 1) := dk_29 (dk_at dksX2_isQuiet_2 16 rfl rfl)
theorem dX2_isQuiet_65 : decode cX2_isQuiet 65 = .ok (.iadd, 1) := dk_96 (dk_at dksX2_isQuiet_2 17 rfl rfl)
theorem dX2_isQuiet_66 : decode cX2_isQuiet 66 = .ok (.baload, 1) := dk_51 (dk_at dksX2_isQuiet_2 18 rfl rfl)
theorem dX2_isQuiet_67 : decode cX2_isQuiet 67 = .ok (.ifCond .eq 5, 3) := dk_153 0 5 (dk_at dksX2_isQuiet_2 19 rfl rfl)
theorem dX2_isQuiet_70 : decode cX2_isQuiet 70 = .ok (.iconst 0, 1) := dk_3 (dk_at dksX2_isQuiet_2 22 rfl rfl)
theorem dX2_isQuiet_71 : decode cX2_isQuiet 71 = .ok (.ireturn, 1) := dk_172 (dk_at dksX2_isQuiet_2 23 rfl rfl)
theorem dX2_isQuiet_72 : decode cX2_isQuiet 72 = .ok (.iinc 3 1, 3) := dk_132 3 1 (dk_at dksX2_isQuiet_3 0 rfl rfl)
theorem dX2_isQuiet_75 : decode cX2_isQuiet 75 = .ok (.goto (-61), 3) := dk_167 255 195 (dk_at dksX2_isQuiet_3 3 rfl rfl)
theorem dX2_isQuiet_78 : decode cX2_isQuiet 78 = .ok (.iinc 2 1, 3) := dk_132 2 1 (dk_at dksX2_isQuiet_3 6 rfl rfl)
theorem dX2_isQuiet_81 : decode cX2_isQuiet 81 = .ok (.goto (-79), 3) := dk_167 255 177 (dk_at dksX2_isQuiet_3 9 rfl rfl)
theorem dX2_isQuiet_84 : decode cX2_isQuiet 84 = .ok (.aload_n 0, 1) := dk_42 (dk_at dksX2_isQuiet_3 12 rfl rfl)
theorem dX2_isQuiet_85 : decode cX2_isQuiet 85 = .ok (.iload_n 1, 1) := dk_27 (dk_at dksX2_isQuiet_3 13 rfl rfl)
theorem dX2_isQuiet_86 : decode cX2_isQuiet 86 = .ok (.invokevirtual 361, 3) := dk_182 1 105 (dk_at dksX2_isQuiet_3 14 rfl rfl)
theorem dX2_isQuiet_89 : decode cX2_isQuiet 89 = .ok (.ifCond .ne 7, 3) := dk_154 0 7 (dk_at dksX2_isQuiet_3 17 rfl rfl)
theorem dX2_isQuiet_92 : decode cX2_isQuiet 92 = .ok (.iconst 1, 1) := dk_4 (dk_at dksX2_isQuiet_3 20 rfl rfl)
theorem dX2_isQuiet_93 : decode cX2_isQuiet 93 = .ok (.goto 4, 3) := dk_167 0 4 (dk_at dksX2_isQuiet_3 21 rfl rfl)
theorem dX2_isQuiet_96 : decode cX2_isQuiet 96 = .ok (.iconst 0, 1) := dk_3 (dk_at dksX2_isQuiet_4 0 rfl rfl)
theorem dX2_isQuiet_97 : decode cX2_isQuiet 97 = .ok (.ireturn, 1) := dk_172 (dk_at dksX2_isQuiet_4 1 rfl rfl)
abbrev cX2_parts : ByteArray := prog_26_method_68_code
def yX2_parts : MethodName := ⟨RX2, "parts", "(III)Z"⟩
def dkwX2_parts_5 : List UInt8 := [21, 4, 21, 5, 79, 132, 4, 1, 167, 255, 146, 3, 172]
abbrev dktX2_parts_5 : List UInt8 := dkwX2_parts_5 ++ []
def dkwX2_parts_4 : List UInt8 := [27, 4, 96, 28, 21, 4, 4, 96, 184, 1, 78, 29, 182, 1, 129, 153, 0, 5, 4, 172, 42, 180, 0, 133]
abbrev dktX2_parts_4 : List UInt8 := dkwX2_parts_4 ++ dktX2_parts_5
def dkwX2_parts_3 : List UInt8 := [180, 0, 136, 27, 46, 21, 4, 79, 42, 180, 0, 139, 42, 180, 0, 133, 21, 4, 46, 51, 153, 0, 24, 42]
abbrev dktX2_parts_3 : List UInt8 := dkwX2_parts_3 ++ dktX2_parts_4
def dkwX2_parts_2 : List UInt8 := [180, 0, 133, 21, 4, 21, 5, 4, 42, 180, 0, 136, 27, 46, 120, 128, 79, 42, 180, 0, 130, 42]
abbrev dktX2_parts_2 : List UInt8 := dkwX2_parts_2 ++ dktX2_parts_3
def dkwX2_parts_1 : List UInt8 := [162, 0, 104, 21, 4, 28, 160, 0, 7, 3, 167, 0, 10, 42, 180, 0, 133, 21, 4, 46, 54, 5, 42]
abbrev dktX2_parts_1 : List UInt8 := dkwX2_parts_1 ++ dktX2_parts_2
def dkwX2_parts_0 : List UInt8 := [27, 42, 180, 1, 126, 160, 0, 5, 4, 172, 3, 54, 4, 21, 4, 28, 163, 0, 110, 21, 4, 29]
abbrev dktX2_parts_0 : List UInt8 := dkwX2_parts_0 ++ dktX2_parts_1
theorem dksX2_parts_0 : cX2_parts.data.toList.drop 0 = dktX2_parts_0 := by decide +kernel
theorem dksX2_parts_1 : cX2_parts.data.toList.drop 22 = dktX2_parts_1 := dk_seg dksX2_parts_0 22 rfl rfl
theorem dksX2_parts_2 : cX2_parts.data.toList.drop 45 = dktX2_parts_2 := dk_seg dksX2_parts_1 23 rfl rfl
theorem dksX2_parts_3 : cX2_parts.data.toList.drop 67 = dktX2_parts_3 := dk_seg dksX2_parts_2 22 rfl rfl
theorem dksX2_parts_4 : cX2_parts.data.toList.drop 91 = dktX2_parts_4 := dk_seg dksX2_parts_3 24 rfl rfl
theorem dksX2_parts_5 : cX2_parts.data.toList.drop 115 = dktX2_parts_5 := dk_seg dksX2_parts_4 24 rfl rfl
theorem dX2_parts_0 : decode cX2_parts 0 = .ok (.iload_n 1, 1) := dk_27 (dk_at dksX2_parts_0 0 rfl rfl)
theorem dX2_parts_1 : decode cX2_parts 1 = .ok (.aload_n 0, 1) := dk_42 (dk_at dksX2_parts_0 1 rfl rfl)
theorem dX2_parts_2 : decode cX2_parts 2 = .ok (.getfield 382, 3) := dk_180 1 126 (dk_at dksX2_parts_0 2 rfl rfl)
theorem dX2_parts_5 : decode cX2_parts 5 = .ok (.if_icmp .ne 5, 3) := dk_160 0 5 (dk_at dksX2_parts_0 5 rfl rfl)
theorem dX2_parts_8 : decode cX2_parts 8 = .ok (.iconst 1, 1) := dk_4 (dk_at dksX2_parts_0 8 rfl rfl)
theorem dX2_parts_9 : decode cX2_parts 9 = .ok (.ireturn, 1) := dk_172 (dk_at dksX2_parts_0 9 rfl rfl)
theorem dX2_parts_10 : decode cX2_parts 10 = .ok (.iconst 0, 1) := dk_3 (dk_at dksX2_parts_0 10 rfl rfl)
theorem dX2_parts_11 : decode cX2_parts 11 = .ok (.istore 4, 2) := dk_54 4 (dk_at dksX2_parts_0 11 rfl rfl)
theorem dX2_parts_13 : decode cX2_parts 13 = .ok (.iload 4, 2) := dk_21 4 (dk_at dksX2_parts_0 13 rfl rfl)
theorem dX2_parts_15 : decode cX2_parts 15 = .ok (.iload_n 2, 1) := dk_28 (dk_at dksX2_parts_0 15 rfl rfl)
theorem dX2_parts_16 : decode cX2_parts 16 = .ok (.if_icmp .gt 110, 3) := dk_163 0 110 (dk_at dksX2_parts_0 16 rfl rfl)
theorem dX2_parts_19 : decode cX2_parts 19 = .ok (.iload 4, 2) := dk_21 4 (dk_at dksX2_parts_0 19 rfl rfl)
theorem dX2_parts_21 : decode cX2_parts 21 = .ok (.iload_n 3, 1) := dk_29 (dk_at dksX2_parts_0 21 rfl rfl)
theorem dX2_parts_22 : decode cX2_parts 22 = .ok (.if_icmp .ge 104, 3) := dk_162 0 104 (dk_at dksX2_parts_1 0 rfl rfl)
theorem dX2_parts_25 : decode cX2_parts 25 = .ok (.iload 4, 2) := dk_21 4 (dk_at dksX2_parts_1 3 rfl rfl)
theorem dX2_parts_27 : decode cX2_parts 27 = .ok (.iload_n 2, 1) := dk_28 (dk_at dksX2_parts_1 5 rfl rfl)
theorem dX2_parts_28 : decode cX2_parts 28 = .ok (.if_icmp .ne 7, 3) := dk_160 0 7 (dk_at dksX2_parts_1 6 rfl rfl)
theorem dX2_parts_31 : decode cX2_parts 31 = .ok (.iconst 0, 1) := dk_3 (dk_at dksX2_parts_1 9 rfl rfl)
theorem dX2_parts_32 : decode cX2_parts 32 = .ok (.goto 10, 3) := dk_167 0 10 (dk_at dksX2_parts_1 10 rfl rfl)
theorem dX2_parts_35 : decode cX2_parts 35 = .ok (.aload_n 0, 1) := dk_42 (dk_at dksX2_parts_1 13 rfl rfl)
theorem dX2_parts_36 : decode cX2_parts 36 = .ok (.getfield 133, 3) := dk_180 0 133 (dk_at dksX2_parts_1 14 rfl rfl)
theorem dX2_parts_39 : decode cX2_parts 39 = .ok (.iload 4, 2) := dk_21 4 (dk_at dksX2_parts_1 17 rfl rfl)
theorem dX2_parts_41 : decode cX2_parts 41 = .ok (.iaload, 1) := dk_46 (dk_at dksX2_parts_1 19 rfl rfl)
theorem dX2_parts_42 : decode cX2_parts 42 = .ok (.istore 5, 2) := dk_54 5 (dk_at dksX2_parts_1 20 rfl rfl)
theorem dX2_parts_44 : decode cX2_parts 44 = .ok (.aload_n 0, 1) := dk_42 (dk_at dksX2_parts_1 22 rfl rfl)
theorem dX2_parts_45 : decode cX2_parts 45 = .ok (.getfield 133, 3) := dk_180 0 133 (dk_at dksX2_parts_2 0 rfl rfl)
theorem dX2_parts_48 : decode cX2_parts 48 = .ok (.iload 4, 2) := dk_21 4 (dk_at dksX2_parts_2 3 rfl rfl)
theorem dX2_parts_50 : decode cX2_parts 50 = .ok (.iload 5, 2) := dk_21 5 (dk_at dksX2_parts_2 5 rfl rfl)
theorem dX2_parts_52 : decode cX2_parts 52 = .ok (.iconst 1, 1) := dk_4 (dk_at dksX2_parts_2 7 rfl rfl)
theorem dX2_parts_53 : decode cX2_parts 53 = .ok (.aload_n 0, 1) := dk_42 (dk_at dksX2_parts_2 8 rfl rfl)
theorem dX2_parts_54 : decode cX2_parts 54 = .ok (.getfield 136, 3) := dk_180 0 136 (dk_at dksX2_parts_2 9 rfl rfl)
theorem dX2_parts_57 : decode cX2_parts 57 = .ok (.iload_n 1, 1) := dk_27 (dk_at dksX2_parts_2 12 rfl rfl)
theorem dX2_parts_58 : decode cX2_parts 58 = .ok (.iaload, 1) := dk_46 (dk_at dksX2_parts_2 13 rfl rfl)
theorem dX2_parts_59 : decode cX2_parts 59 = .ok (.ishl, 1) := dk_120 (dk_at dksX2_parts_2 14 rfl rfl)
theorem dX2_parts_60 : decode cX2_parts 60 = .ok (.ior, 1) := dk_128 (dk_at dksX2_parts_2 15 rfl rfl)
theorem dX2_parts_61 : decode cX2_parts 61 = .ok (.iastore, 1) := dk_79 (dk_at dksX2_parts_2 16 rfl rfl)
theorem dX2_parts_62 : decode cX2_parts 62 = .ok (.aload_n 0, 1) := dk_42 (dk_at dksX2_parts_2 17 rfl rfl)
theorem dX2_parts_63 : decode cX2_parts 63 = .ok (.getfield 130, 3) := dk_180 0 130 (dk_at dksX2_parts_2 18 rfl rfl)
theorem dX2_parts_66 : decode cX2_parts 66 = .ok (.aload_n 0, 1) := dk_42 (dk_at dksX2_parts_2 21 rfl rfl)
theorem dX2_parts_67 : decode cX2_parts 67 = .ok (.getfield 136, 3) := dk_180 0 136 (dk_at dksX2_parts_3 0 rfl rfl)
theorem dX2_parts_70 : decode cX2_parts 70 = .ok (.iload_n 1, 1) := dk_27 (dk_at dksX2_parts_3 3 rfl rfl)
theorem dX2_parts_71 : decode cX2_parts 71 = .ok (.iaload, 1) := dk_46 (dk_at dksX2_parts_3 4 rfl rfl)
theorem dX2_parts_72 : decode cX2_parts 72 = .ok (.iload 4, 2) := dk_21 4 (dk_at dksX2_parts_3 5 rfl rfl)
theorem dX2_parts_74 : decode cX2_parts 74 = .ok (.iastore, 1) := dk_79 (dk_at dksX2_parts_3 7 rfl rfl)
theorem dX2_parts_75 : decode cX2_parts 75 = .ok (.aload_n 0, 1) := dk_42 (dk_at dksX2_parts_3 8 rfl rfl)
theorem dX2_parts_76 : decode cX2_parts 76 = .ok (.getfield 139, 3) := dk_180 0 139 (dk_at dksX2_parts_3 9 rfl rfl)
theorem dX2_parts_79 : decode cX2_parts 79 = .ok (.aload_n 0, 1) := dk_42 (dk_at dksX2_parts_3 12 rfl rfl)
theorem dX2_parts_80 : decode cX2_parts 80 = .ok (.getfield 133, 3) := dk_180 0 133 (dk_at dksX2_parts_3 13 rfl rfl)
theorem dX2_parts_83 : decode cX2_parts 83 = .ok (.iload 4, 2) := dk_21 4 (dk_at dksX2_parts_3 16 rfl rfl)
theorem dX2_parts_85 : decode cX2_parts 85 = .ok (.iaload, 1) := dk_46 (dk_at dksX2_parts_3 18 rfl rfl)
theorem dX2_parts_86 : decode cX2_parts 86 = .ok (.baload, 1) := dk_51 (dk_at dksX2_parts_3 19 rfl rfl)
theorem dX2_parts_87 : decode cX2_parts 87 = .ok (.ifCond .eq 24, 3) := dk_153 0 24 (dk_at dksX2_parts_3 20 rfl rfl)
theorem dX2_parts_90 : decode cX2_parts 90 = .ok (.aload_n 0, 1) := dk_42 (dk_at dksX2_parts_3 23 rfl rfl)
theorem dX2_parts_91 : decode cX2_parts 91 = .ok (.iload_n 1, 1) := dk_27 (dk_at dksX2_parts_4 0 rfl rfl)
theorem dX2_parts_92 : decode cX2_parts 92 = .ok (.iconst 1, 1) := dk_4 (dk_at dksX2_parts_4 1 rfl rfl)
theorem dX2_parts_93 : decode cX2_parts 93 = .ok (.iadd, 1) := dk_96 (dk_at dksX2_parts_4 2 rfl rfl)
theorem dX2_parts_94 : decode cX2_parts 94 = .ok (.iload_n 2, 1) := dk_28 (dk_at dksX2_parts_4 3 rfl rfl)
theorem dX2_parts_95 : decode cX2_parts 95 = .ok (.iload 4, 2) := dk_21 4 (dk_at dksX2_parts_4 4 rfl rfl)
theorem dX2_parts_97 : decode cX2_parts 97 = .ok (.iconst 1, 1) := dk_4 (dk_at dksX2_parts_4 6 rfl rfl)
theorem dX2_parts_98 : decode cX2_parts 98 = .ok (.iadd, 1) := dk_96 (dk_at dksX2_parts_4 7 rfl rfl)
theorem dX2_parts_99 : decode cX2_parts 99 = .ok (.invokestatic 334, 3) := dk_184 1 78 (dk_at dksX2_parts_4 8 rfl rfl)
theorem dX2_parts_102 : decode cX2_parts 102 = .ok (.iload_n 3, 1) := dk_29 (dk_at dksX2_parts_4 11 rfl rfl)
theorem dX2_parts_103 : decode cX2_parts 103 = .ok (.invokevirtual 385, 3) := dk_182 1 129 (dk_at dksX2_parts_4 12 rfl rfl)
theorem dX2_parts_106 : decode cX2_parts 106 = .ok (.ifCond .eq 5, 3) := dk_153 0 5 (dk_at dksX2_parts_4 15 rfl rfl)
theorem dX2_parts_109 : decode cX2_parts 109 = .ok (.iconst 1, 1) := dk_4 (dk_at dksX2_parts_4 18 rfl rfl)
theorem dX2_parts_110 : decode cX2_parts 110 = .ok (.ireturn, 1) := dk_172 (dk_at dksX2_parts_4 19 rfl rfl)
theorem dX2_parts_111 : decode cX2_parts 111 = .ok (.aload_n 0, 1) := dk_42 (dk_at dksX2_parts_4 20 rfl rfl)
theorem dX2_parts_112 : decode cX2_parts 112 = .ok (.getfield 133, 3) := dk_180 0 133 (dk_at dksX2_parts_4 21 rfl rfl)
theorem dX2_parts_115 : decode cX2_parts 115 = .ok (.iload 4, 2) := dk_21 4 (dk_at dksX2_parts_5 0 rfl rfl)
theorem dX2_parts_117 : decode cX2_parts 117 = .ok (.iload 5, 2) := dk_21 5 (dk_at dksX2_parts_5 2 rfl rfl)
theorem dX2_parts_119 : decode cX2_parts 119 = .ok (.iastore, 1) := dk_79 (dk_at dksX2_parts_5 4 rfl rfl)
theorem dX2_parts_120 : decode cX2_parts 120 = .ok (.iinc 4 1, 3) := dk_132 4 1 (dk_at dksX2_parts_5 5 rfl rfl)
theorem dX2_parts_123 : decode cX2_parts 123 = .ok (.goto (-110), 3) := dk_167 255 146 (dk_at dksX2_parts_5 8 rfl rfl)
theorem dX2_parts_126 : decode cX2_parts 126 = .ok (.iconst 0, 1) := dk_3 (dk_at dksX2_parts_5 11 rfl rfl)
theorem dX2_parts_127 : decode cX2_parts 127 = .ok (.ireturn, 1) := dk_172 (dk_at dksX2_parts_5 12 rfl rfl)
abbrev cX2_least : ByteArray := prog_26_method_78_code
def yX2_least : MethodName := ⟨RX2, "least", "(II)I"⟩
def dkwX2_least_2 : List UInt8 := [160, 0, 10, 42, 180, 1, 165, 167, 0, 7, 42, 180, 1, 162, 172]
abbrev dktX2_least_2 : List UInt8 := dkwX2_least_2 ++ []
def dkwX2_least_1 : List UInt8 := [154, 0, 10, 42, 180, 1, 168, 167, 0, 31, 28, 4, 160, 0, 10, 42, 180, 1, 171, 167, 0, 19, 28, 5]
abbrev dktX2_least_1 : List UInt8 := dkwX2_least_1 ++ dktX2_least_2
def dkwX2_least_0 : List UInt8 := [28, 133, 9, 20, 1, 82, 184, 0, 183, 153, 0, 12, 42, 27, 3, 182, 1, 187, 154, 0, 5, 2, 172, 28]
abbrev dktX2_least_0 : List UInt8 := dkwX2_least_0 ++ dktX2_least_1
theorem dksX2_least_0 : cX2_least.data.toList.drop 0 = dktX2_least_0 := by decide +kernel
theorem dksX2_least_1 : cX2_least.data.toList.drop 24 = dktX2_least_1 := dk_seg dksX2_least_0 24 rfl rfl
theorem dksX2_least_2 : cX2_least.data.toList.drop 48 = dktX2_least_2 := dk_seg dksX2_least_1 24 rfl rfl
theorem dX2_least_0 : decode cX2_least 0 = .ok (.iload_n 2, 1) := dk_28 (dk_at dksX2_least_0 0 rfl rfl)
theorem dX2_least_1 : decode cX2_least 1 = .ok (.i2l, 1) := dk_133 (dk_at dksX2_least_0 1 rfl rfl)
theorem dX2_least_2 : decode cX2_least 2 = .ok (.lconst 0, 1) := dk_9 (dk_at dksX2_least_0 2 rfl rfl)
theorem dX2_least_3 : decode cX2_least 3 = .ok (.ldc2_w 338, 3) := dk_20 1 82 (dk_at dksX2_least_0 3 rfl rfl)
theorem dX2_least_6 : decode cX2_least 6 = .ok (.invokestatic 183, 3) := dk_184 0 183 (dk_at dksX2_least_0 6 rfl rfl)
theorem dX2_least_9 : decode cX2_least 9 = .ok (.ifCond .eq 12, 3) := dk_153 0 12 (dk_at dksX2_least_0 9 rfl rfl)
theorem dX2_least_12 : decode cX2_least 12 = .ok (.aload_n 0, 1) := dk_42 (dk_at dksX2_least_0 12 rfl rfl)
theorem dX2_least_13 : decode cX2_least 13 = .ok (.iload_n 1, 1) := dk_27 (dk_at dksX2_least_0 13 rfl rfl)
theorem dX2_least_14 : decode cX2_least 14 = .ok (.iconst 0, 1) := dk_3 (dk_at dksX2_least_0 14 rfl rfl)
theorem dX2_least_15 : decode cX2_least 15 = .ok (.invokevirtual 443, 3) := dk_182 1 187 (dk_at dksX2_least_0 15 rfl rfl)
theorem dX2_least_18 : decode cX2_least 18 = .ok (.ifCond .ne 5, 3) := dk_154 0 5 (dk_at dksX2_least_0 18 rfl rfl)
theorem dX2_least_21 : decode cX2_least 21 = .ok (.iconst (-1), 1) := dk_2 (dk_at dksX2_least_0 21 rfl rfl)
theorem dX2_least_22 : decode cX2_least 22 = .ok (.ireturn, 1) := dk_172 (dk_at dksX2_least_0 22 rfl rfl)
theorem dX2_least_23 : decode cX2_least 23 = .ok (.iload_n 2, 1) := dk_28 (dk_at dksX2_least_0 23 rfl rfl)
theorem dX2_least_24 : decode cX2_least 24 = .ok (.ifCond .ne 10, 3) := dk_154 0 10 (dk_at dksX2_least_1 0 rfl rfl)
theorem dX2_least_27 : decode cX2_least 27 = .ok (.aload_n 0, 1) := dk_42 (dk_at dksX2_least_1 3 rfl rfl)
theorem dX2_least_28 : decode cX2_least 28 = .ok (.getfield 424, 3) := dk_180 1 168 (dk_at dksX2_least_1 4 rfl rfl)
theorem dX2_least_31 : decode cX2_least 31 = .ok (.goto 31, 3) := dk_167 0 31 (dk_at dksX2_least_1 7 rfl rfl)
theorem dX2_least_34 : decode cX2_least 34 = .ok (.iload_n 2, 1) := dk_28 (dk_at dksX2_least_1 10 rfl rfl)
theorem dX2_least_35 : decode cX2_least 35 = .ok (.iconst 1, 1) := dk_4 (dk_at dksX2_least_1 11 rfl rfl)
theorem dX2_least_36 : decode cX2_least 36 = .ok (.if_icmp .ne 10, 3) := dk_160 0 10 (dk_at dksX2_least_1 12 rfl rfl)
theorem dX2_least_39 : decode cX2_least 39 = .ok (.aload_n 0, 1) := dk_42 (dk_at dksX2_least_1 15 rfl rfl)
theorem dX2_least_40 : decode cX2_least 40 = .ok (.getfield 427, 3) := dk_180 1 171 (dk_at dksX2_least_1 16 rfl rfl)
theorem dX2_least_43 : decode cX2_least 43 = .ok (.goto 19, 3) := dk_167 0 19 (dk_at dksX2_least_1 19 rfl rfl)
theorem dX2_least_46 : decode cX2_least 46 = .ok (.iload_n 2, 1) := dk_28 (dk_at dksX2_least_1 22 rfl rfl)
theorem dX2_least_47 : decode cX2_least 47 = .ok (.iconst 2, 1) := dk_5 (dk_at dksX2_least_1 23 rfl rfl)
theorem dX2_least_48 : decode cX2_least 48 = .ok (.if_icmp .ne 10, 3) := dk_160 0 10 (dk_at dksX2_least_2 0 rfl rfl)
theorem dX2_least_51 : decode cX2_least 51 = .ok (.aload_n 0, 1) := dk_42 (dk_at dksX2_least_2 3 rfl rfl)
theorem dX2_least_52 : decode cX2_least 52 = .ok (.getfield 421, 3) := dk_180 1 165 (dk_at dksX2_least_2 4 rfl rfl)
theorem dX2_least_55 : decode cX2_least 55 = .ok (.goto 7, 3) := dk_167 0 7 (dk_at dksX2_least_2 7 rfl rfl)
theorem dX2_least_58 : decode cX2_least 58 = .ok (.aload_n 0, 1) := dk_42 (dk_at dksX2_least_2 10 rfl rfl)
theorem dX2_least_59 : decode cX2_least 59 = .ok (.getfield 418, 3) := dk_180 1 162 (dk_at dksX2_least_2 11 rfl rfl)
theorem dX2_least_62 : decode cX2_least 62 = .ok (.ireturn, 1) := dk_172 (dk_at dksX2_least_2 14 rfl rfl)
abbrev cX2_goesThrough : ByteArray := prog_26_method_76_code
def yX2_goesThrough : MethodName := ⟨RX2, "goesThrough", "(IZ)Z"⟩
def dkwX2_goesThrough_6 : List UInt8 := [3, 3, 3, 3, 182, 1, 180, 4, 172]
abbrev dktX2_goesThrough_6 : List UInt8 := dkwX2_goesThrough_6 ++ []
def dkwX2_goesThrough_5 : List UInt8 := [181, 1, 168, 42, 3, 181, 1, 171, 42, 2, 181, 1, 162, 42, 2, 181, 1, 155, 42, 27, 182, 1, 184, 42]
abbrev dktX2_goesThrough_5 : List UInt8 := dkwX2_goesThrough_5 ++ dktX2_goesThrough_6
def dkwX2_goesThrough_4 : List UInt8 := [180, 1, 138, 42, 180, 1, 126, 162, 0, 5, 3, 172, 42, 27, 181, 1, 149, 42, 28, 181, 1, 145, 42, 2]
abbrev dktX2_goesThrough_4 : List UInt8 := dkwX2_goesThrough_4 ++ dktX2_goesThrough_5
def dkwX2_goesThrough_3 : List UInt8 := [181, 1, 138, 42, 180, 1, 126, 16, 7, 163, 0, 23, 42, 180, 1, 138, 16, 8, 163, 0, 14, 42]
abbrev dktX2_goesThrough_3 : List UInt8 := dkwX2_goesThrough_3 ++ dktX2_goesThrough_4
def dkwX2_goesThrough_2 : List UInt8 := [79, 42, 89, 180, 1, 126, 4, 96, 181, 1, 126, 132, 3, 1, 167, 255, 211, 42, 42, 180, 0, 96, 27, 46]
abbrev dktX2_goesThrough_2 : List UInt8 := dkwX2_goesThrough_2 ++ dktX2_goesThrough_3
def dkwX2_goesThrough_1 : List UInt8 := [162, 0, 41, 42, 180, 0, 81, 29, 51, 154, 0, 6, 167, 0, 23, 42, 180, 0, 136, 42, 180, 1, 126, 29]
abbrev dktX2_goesThrough_1 : List UInt8 := dkwX2_goesThrough_1 ++ dktX2_goesThrough_2
def dkwX2_goesThrough_0 : List UInt8 := [42, 27, 182, 1, 41, 154, 0, 5, 3, 172, 42, 3, 181, 1, 126, 3, 62, 29, 42, 180, 0, 44, 3, 46]
abbrev dktX2_goesThrough_0 : List UInt8 := dkwX2_goesThrough_0 ++ dktX2_goesThrough_1
theorem dksX2_goesThrough_0 : cX2_goesThrough.data.toList.drop 0 = dktX2_goesThrough_0 := by decide +kernel
theorem dksX2_goesThrough_1 : cX2_goesThrough.data.toList.drop 24 = dktX2_goesThrough_1 := dk_seg dksX2_goesThrough_0 24 rfl rfl
theorem dksX2_goesThrough_2 : cX2_goesThrough.data.toList.drop 48 = dktX2_goesThrough_2 := dk_seg dksX2_goesThrough_1 24 rfl rfl
theorem dksX2_goesThrough_3 : cX2_goesThrough.data.toList.drop 72 = dktX2_goesThrough_3 := dk_seg dksX2_goesThrough_2 24 rfl rfl
theorem dksX2_goesThrough_4 : cX2_goesThrough.data.toList.drop 94 = dktX2_goesThrough_4 := dk_seg dksX2_goesThrough_3 22 rfl rfl
theorem dksX2_goesThrough_5 : cX2_goesThrough.data.toList.drop 118 = dktX2_goesThrough_5 := dk_seg dksX2_goesThrough_4 24 rfl rfl
theorem dksX2_goesThrough_6 : cX2_goesThrough.data.toList.drop 142 = dktX2_goesThrough_6 := dk_seg dksX2_goesThrough_5 24 rfl rfl
theorem dX2_goesThrough_0 : decode cX2_goesThrough 0 = .ok (.aload_n 0, 1) := dk_42 (dk_at dksX2_goesThrough_0 0 rfl rfl)
theorem dX2_goesThrough_1 : decode cX2_goesThrough 1 = .ok (.iload_n 1, 1) := dk_27 (dk_at dksX2_goesThrough_0 1 rfl rfl)
theorem dX2_goesThrough_2 : decode cX2_goesThrough 2 = .ok (.invokevirtual 297, 3) := dk_182 1 41 (dk_at dksX2_goesThrough_0 2 rfl rfl)
theorem dX2_goesThrough_5 : decode cX2_goesThrough 5 = .ok (.ifCond .ne 5, 3) := dk_154 0 5 (dk_at dksX2_goesThrough_0 5 rfl rfl)
theorem dX2_goesThrough_8 : decode cX2_goesThrough 8 = .ok (.iconst 0, 1) := dk_3 (dk_at dksX2_goesThrough_0 8 rfl rfl)
theorem dX2_goesThrough_9 : decode cX2_goesThrough 9 = .ok (.ireturn, 1) := dk_172 (dk_at dksX2_goesThrough_0 9 rfl rfl)
theorem dX2_goesThrough_10 : decode cX2_goesThrough 10 = .ok (.aload_n 0, 1) := dk_42 (dk_at dksX2_goesThrough_0 10 rfl rfl)
theorem dX2_goesThrough_11 : decode cX2_goesThrough 11 = .ok (.iconst 0, 1) := dk_3 (dk_at dksX2_goesThrough_0 11 rfl rfl)
theorem dX2_goesThrough_12 : decode cX2_goesThrough 12 = .ok (.putfield 382, 3) := dk_181 1 126 (dk_at dksX2_goesThrough_0 12 rfl rfl)
theorem dX2_goesThrough_15 : decode cX2_goesThrough 15 = .ok (.iconst 0, 1) := dk_3 (dk_at dksX2_goesThrough_0 15 rfl rfl)
theorem dX2_goesThrough_16 : decode cX2_goesThrough 16 = .ok (.istore_n 3, 1) := dk_62 (dk_at dksX2_goesThrough_0 16 rfl rfl)
theorem dX2_goesThrough_17 : decode cX2_goesThrough 17 = .ok (.iload_n 3, 1) := dk_29 (dk_at dksX2_goesThrough_0 17 rfl rfl)
theorem dX2_goesThrough_18 : decode cX2_goesThrough 18 = .ok (.aload_n 0, 1) := dk_42 (dk_at dksX2_goesThrough_0 18 rfl rfl)
theorem dX2_goesThrough_19 : decode cX2_goesThrough 19 = .ok (.getfield 44, 3) := dk_180 0 44 (dk_at dksX2_goesThrough_0 19 rfl rfl)
theorem dX2_goesThrough_22 : decode cX2_goesThrough 22 = .ok (.iconst 0, 1) := dk_3 (dk_at dksX2_goesThrough_0 22 rfl rfl)
theorem dX2_goesThrough_23 : decode cX2_goesThrough 23 = .ok (.iaload, 1) := dk_46 (dk_at dksX2_goesThrough_0 23 rfl rfl)
theorem dX2_goesThrough_24 : decode cX2_goesThrough 24 = .ok (.if_icmp .ge 41, 3) := dk_162 0 41 (dk_at dksX2_goesThrough_1 0 rfl rfl)
theorem dX2_goesThrough_27 : decode cX2_goesThrough 27 = .ok (.aload_n 0, 1) := dk_42 (dk_at dksX2_goesThrough_1 3 rfl rfl)
theorem dX2_goesThrough_28 : decode cX2_goesThrough 28 = .ok (.getfield 81, 3) := dk_180 0 81 (dk_at dksX2_goesThrough_1 4 rfl rfl)
theorem dX2_goesThrough_31 : decode cX2_goesThrough 31 = .ok (.iload_n 3, 1) := dk_29 (dk_at dksX2_goesThrough_1 7 rfl rfl)
theorem dX2_goesThrough_32 : decode cX2_goesThrough 32 = .ok (.baload, 1) := dk_51 (dk_at dksX2_goesThrough_1 8 rfl rfl)
theorem dX2_goesThrough_33 : decode cX2_goesThrough 33 = .ok (.ifCond .ne 6, 3) := dk_154 0 6 (dk_at dksX2_goesThrough_1 9 rfl rfl)
theorem dX2_goesThrough_36 : decode cX2_goesThrough 36 = .ok (.goto 23, 3) := dk_167 0 23 (dk_at dksX2_goesThrough_1 12 rfl rfl)
theorem dX2_goesThrough_39 : decode cX2_goesThrough 39 = .ok (.aload_n 0, 1) := dk_42 (dk_at dksX2_goesThrough_1 15 rfl rfl)
theorem dX2_goesThrough_40 : decode cX2_goesThrough 40 = .ok (.getfield 136, 3) := dk_180 0 136 (dk_at dksX2_goesThrough_1 16 rfl rfl)
theorem dX2_goesThrough_43 : decode cX2_goesThrough 43 = .ok (.aload_n 0, 1) := dk_42 (dk_at dksX2_goesThrough_1 19 rfl rfl)
theorem dX2_goesThrough_44 : decode cX2_goesThrough 44 = .ok (.getfield 382, 3) := dk_180 1 126 (dk_at dksX2_goesThrough_1 20 rfl rfl)
theorem dX2_goesThrough_47 : decode cX2_goesThrough 47 = .ok (.iload_n 3, 1) := dk_29 (dk_at dksX2_goesThrough_1 23 rfl rfl)
theorem dX2_goesThrough_48 : decode cX2_goesThrough 48 = .ok (.iastore, 1) := dk_79 (dk_at dksX2_goesThrough_2 0 rfl rfl)
theorem dX2_goesThrough_49 : decode cX2_goesThrough 49 = .ok (.aload_n 0, 1) := dk_42 (dk_at dksX2_goesThrough_2 1 rfl rfl)
theorem dX2_goesThrough_50 : decode cX2_goesThrough 50 = .ok (.dup, 1) := dk_89 (dk_at dksX2_goesThrough_2 2 rfl rfl)
theorem dX2_goesThrough_51 : decode cX2_goesThrough 51 = .ok (.getfield 382, 3) := dk_180 1 126 (dk_at dksX2_goesThrough_2 3 rfl rfl)
theorem dX2_goesThrough_54 : decode cX2_goesThrough 54 = .ok (.iconst 1, 1) := dk_4 (dk_at dksX2_goesThrough_2 6 rfl rfl)
theorem dX2_goesThrough_55 : decode cX2_goesThrough 55 = .ok (.iadd, 1) := dk_96 (dk_at dksX2_goesThrough_2 7 rfl rfl)
theorem dX2_goesThrough_56 : decode cX2_goesThrough 56 = .ok (.putfield 382, 3) := dk_181 1 126 (dk_at dksX2_goesThrough_2 8 rfl rfl)
theorem dX2_goesThrough_59 : decode cX2_goesThrough 59 = .ok (.iinc 3 1, 3) := dk_132 3 1 (dk_at dksX2_goesThrough_2 11 rfl rfl)
theorem dX2_goesThrough_62 : decode cX2_goesThrough 62 = .ok (.goto (-45), 3) := dk_167 255 211 (dk_at dksX2_goesThrough_2 14 rfl rfl)
theorem dX2_goesThrough_65 : decode cX2_goesThrough 65 = .ok (.aload_n 0, 1) := dk_42 (dk_at dksX2_goesThrough_2 17 rfl rfl)
theorem dX2_goesThrough_66 : decode cX2_goesThrough 66 = .ok (.aload_n 0, 1) := dk_42 (dk_at dksX2_goesThrough_2 18 rfl rfl)
theorem dX2_goesThrough_67 : decode cX2_goesThrough 67 = .ok (.getfield 96, 3) := dk_180 0 96 (dk_at dksX2_goesThrough_2 19 rfl rfl)
theorem dX2_goesThrough_70 : decode cX2_goesThrough 70 = .ok (.iload_n 1, 1) := dk_27 (dk_at dksX2_goesThrough_2 22 rfl rfl)
theorem dX2_goesThrough_71 : decode cX2_goesThrough 71 = .ok (.iaload, 1) := dk_46 (dk_at dksX2_goesThrough_2 23 rfl rfl)
theorem dX2_goesThrough_72 : decode cX2_goesThrough 72 = .ok (.putfield 394, 3) := dk_181 1 138 (dk_at dksX2_goesThrough_3 0 rfl rfl)
theorem dX2_goesThrough_75 : decode cX2_goesThrough 75 = .ok (.aload_n 0, 1) := dk_42 (dk_at dksX2_goesThrough_3 3 rfl rfl)
theorem dX2_goesThrough_76 : decode cX2_goesThrough 76 = .ok (.getfield 382, 3) := dk_180 1 126 (dk_at dksX2_goesThrough_3 4 rfl rfl)
theorem dX2_goesThrough_79 : decode cX2_goesThrough 79 = .ok (.bipush 7, 2) := dk_16 7 (dk_at dksX2_goesThrough_3 7 rfl rfl)
theorem dX2_goesThrough_81 : decode cX2_goesThrough 81 = .ok (.if_icmp .gt 23, 3) := dk_163 0 23 (dk_at dksX2_goesThrough_3 9 rfl rfl)
theorem dX2_goesThrough_84 : decode cX2_goesThrough 84 = .ok (.aload_n 0, 1) := dk_42 (dk_at dksX2_goesThrough_3 12 rfl rfl)
theorem dX2_goesThrough_85 : decode cX2_goesThrough 85 = .ok (.getfield 394, 3) := dk_180 1 138 (dk_at dksX2_goesThrough_3 13 rfl rfl)
theorem dX2_goesThrough_88 : decode cX2_goesThrough 88 = .ok (.bipush 8, 2) := dk_16 8 (dk_at dksX2_goesThrough_3 16 rfl rfl)
theorem dX2_goesThrough_90 : decode cX2_goesThrough 90 = .ok (.if_icmp .gt 14, 3) := dk_163 0 14 (dk_at dksX2_goesThrough_3 18 rfl rfl)
theorem dX2_goesThrough_93 : decode cX2_goesThrough 93 = .ok (.aload_n 0, 1) := dk_42 (dk_at dksX2_goesThrough_3 21 rfl rfl)
theorem dX2_goesThrough_94 : decode cX2_goesThrough 94 = .ok (.getfield 394, 3) := dk_180 1 138 (dk_at dksX2_goesThrough_4 0 rfl rfl)
theorem dX2_goesThrough_97 : decode cX2_goesThrough 97 = .ok (.aload_n 0, 1) := dk_42 (dk_at dksX2_goesThrough_4 3 rfl rfl)
theorem dX2_goesThrough_98 : decode cX2_goesThrough 98 = .ok (.getfield 382, 3) := dk_180 1 126 (dk_at dksX2_goesThrough_4 4 rfl rfl)
theorem dX2_goesThrough_101 : decode cX2_goesThrough 101 = .ok (.if_icmp .ge 5, 3) := dk_162 0 5 (dk_at dksX2_goesThrough_4 7 rfl rfl)
theorem dX2_goesThrough_104 : decode cX2_goesThrough 104 = .ok (.iconst 0, 1) := dk_3 (dk_at dksX2_goesThrough_4 10 rfl rfl)
theorem dX2_goesThrough_105 : decode cX2_goesThrough 105 = .ok (.ireturn, 1) := dk_172 (dk_at dksX2_goesThrough_4 11 rfl rfl)
theorem dX2_goesThrough_106 : decode cX2_goesThrough 106 = .ok (.aload_n 0, 1) := dk_42 (dk_at dksX2_goesThrough_4 12 rfl rfl)
theorem dX2_goesThrough_107 : decode cX2_goesThrough 107 = .ok (.iload_n 1, 1) := dk_27 (dk_at dksX2_goesThrough_4 13 rfl rfl)
theorem dX2_goesThrough_108 : decode cX2_goesThrough 108 = .ok (.putfield 405, 3) := dk_181 1 149 (dk_at dksX2_goesThrough_4 14 rfl rfl)
theorem dX2_goesThrough_111 : decode cX2_goesThrough 111 = .ok (.aload_n 0, 1) := dk_42 (dk_at dksX2_goesThrough_4 17 rfl rfl)
theorem dX2_goesThrough_112 : decode cX2_goesThrough 112 = .ok (.iload_n 2, 1) := dk_28 (dk_at dksX2_goesThrough_4 18 rfl rfl)
theorem dX2_goesThrough_113 : decode cX2_goesThrough 113 = .ok (.putfield 401, 3) := dk_181 1 145 (dk_at dksX2_goesThrough_4 19 rfl rfl)
theorem dX2_goesThrough_116 : decode cX2_goesThrough 116 = .ok (.aload_n 0, 1) := dk_42 (dk_at dksX2_goesThrough_4 22 rfl rfl)
theorem dX2_goesThrough_117 : decode cX2_goesThrough 117 = .ok (.iconst (-1), 1) := dk_2 (dk_at dksX2_goesThrough_4 23 rfl rfl)
theorem dX2_goesThrough_118 : decode cX2_goesThrough 118 = .ok (.putfield 424, 3) := dk_181 1 168 (dk_at dksX2_goesThrough_5 0 rfl rfl)
theorem dX2_goesThrough_121 : decode cX2_goesThrough 121 = .ok (.aload_n 0, 1) := dk_42 (dk_at dksX2_goesThrough_5 3 rfl rfl)
theorem dX2_goesThrough_122 : decode cX2_goesThrough 122 = .ok (.iconst 0, 1) := dk_3 (dk_at dksX2_goesThrough_5 4 rfl rfl)
theorem dX2_goesThrough_123 : decode cX2_goesThrough 123 = .ok (.putfield 427, 3) := dk_181 1 171 (dk_at dksX2_goesThrough_5 5 rfl rfl)
theorem dX2_goesThrough_126 : decode cX2_goesThrough 126 = .ok (.aload_n 0, 1) := dk_42 (dk_at dksX2_goesThrough_5 8 rfl rfl)
theorem dX2_goesThrough_127 : decode cX2_goesThrough 127 = .ok (.iconst (-1), 1) := dk_2 (dk_at dksX2_goesThrough_5 9 rfl rfl)
theorem dX2_goesThrough_128 : decode cX2_goesThrough 128 = .ok (.putfield 418, 3) := dk_181 1 162 (dk_at dksX2_goesThrough_5 10 rfl rfl)
theorem dX2_goesThrough_131 : decode cX2_goesThrough 131 = .ok (.aload_n 0, 1) := dk_42 (dk_at dksX2_goesThrough_5 13 rfl rfl)
theorem dX2_goesThrough_132 : decode cX2_goesThrough 132 = .ok (.iconst (-1), 1) := dk_2 (dk_at dksX2_goesThrough_5 14 rfl rfl)
theorem dX2_goesThrough_133 : decode cX2_goesThrough 133 = .ok (.putfield 411, 3) := dk_181 1 155 (dk_at dksX2_goesThrough_5 15 rfl rfl)
theorem dX2_goesThrough_136 : decode cX2_goesThrough 136 = .ok (.aload_n 0, 1) := dk_42 (dk_at dksX2_goesThrough_5 18 rfl rfl)
theorem dX2_goesThrough_137 : decode cX2_goesThrough 137 = .ok (.iload_n 1, 1) := dk_27 (dk_at dksX2_goesThrough_5 19 rfl rfl)
theorem dX2_goesThrough_138 : decode cX2_goesThrough 138 = .ok (.invokevirtual 440, 3) := dk_182 1 184 (dk_at dksX2_goesThrough_5 20 rfl rfl)
theorem dX2_goesThrough_141 : decode cX2_goesThrough 141 = .ok (.aload_n 0, 1) := dk_42 (dk_at dksX2_goesThrough_5 23 rfl rfl)
theorem dX2_goesThrough_142 : decode cX2_goesThrough 142 = .ok (.iconst 0, 1) := dk_3 (dk_at dksX2_goesThrough_6 0 rfl rfl)
theorem dX2_goesThrough_143 : decode cX2_goesThrough 143 = .ok (.iconst 0, 1) := dk_3 (dk_at dksX2_goesThrough_6 1 rfl rfl)
theorem dX2_goesThrough_144 : decode cX2_goesThrough 144 = .ok (.iconst 0, 1) := dk_3 (dk_at dksX2_goesThrough_6 2 rfl rfl)
theorem dX2_goesThrough_145 : decode cX2_goesThrough 145 = .ok (.iconst 0, 1) := dk_3 (dk_at dksX2_goesThrough_6 3 rfl rfl)
theorem dX2_goesThrough_146 : decode cX2_goesThrough 146 = .ok (.invokevirtual 436, 3) := dk_182 1 180 (dk_at dksX2_goesThrough_6 4 rfl rfl)
theorem dX2_goesThrough_149 : decode cX2_goesThrough 149 = .ok (.iconst 1, 1) := dk_4 (dk_at dksX2_goesThrough_6 7 rfl rfl)
theorem dX2_goesThrough_150 : decode cX2_goesThrough 150 = .ok (.ireturn, 1) := dk_172 (dk_at dksX2_goesThrough_6 8 rfl rfl)
abbrev cX2_weighPlaces : ByteArray := prog_26_method_70_code
def yX2_weighPlaces : MethodName := ⟨RX2, "weighPlaces", "(I)V"⟩
def dkwX2_weighPlaces_3 : List UInt8 := [167, 255, 198, 132, 2, 1, 167, 255, 182, 177]
abbrev dktX2_weighPlaces_3 : List UInt8 := dkwX2_weighPlaces_3 ++ []
def dkwX2_weighPlaces_2 : List UInt8 := [29, 21, 4, 21, 5, 182, 1, 141, 132, 5, 1, 167, 255, 233, 132, 4, 1, 167, 255, 215, 132, 3, 1]
abbrev dktX2_weighPlaces_2 : List UInt8 := dkwX2_weighPlaces_2 ++ dktX2_weighPlaces_3
def dkwX2_weighPlaces_1 : List UInt8 := [21, 4, 42, 180, 1, 138, 162, 0, 38, 3, 54, 5, 21, 5, 42, 180, 1, 138, 162, 0, 20, 42, 27, 28]
abbrev dktX2_weighPlaces_1 : List UInt8 := dkwX2_weighPlaces_1 ++ dktX2_weighPlaces_2
def dkwX2_weighPlaces_0 : List UInt8 := [3, 61, 28, 42, 180, 1, 126, 162, 0, 72, 3, 62, 29, 42, 180, 1, 126, 162, 0, 56, 3, 54, 4]
abbrev dktX2_weighPlaces_0 : List UInt8 := dkwX2_weighPlaces_0 ++ dktX2_weighPlaces_1
theorem dksX2_weighPlaces_0 : cX2_weighPlaces.data.toList.drop 0 = dktX2_weighPlaces_0 := by decide +kernel
theorem dksX2_weighPlaces_1 : cX2_weighPlaces.data.toList.drop 23 = dktX2_weighPlaces_1 := dk_seg dksX2_weighPlaces_0 23 rfl rfl
theorem dksX2_weighPlaces_2 : cX2_weighPlaces.data.toList.drop 47 = dktX2_weighPlaces_2 := dk_seg dksX2_weighPlaces_1 24 rfl rfl
theorem dksX2_weighPlaces_3 : cX2_weighPlaces.data.toList.drop 70 = dktX2_weighPlaces_3 := dk_seg dksX2_weighPlaces_2 23 rfl rfl
theorem dX2_weighPlaces_0 : decode cX2_weighPlaces 0 = .ok (.iconst 0, 1) := dk_3 (dk_at dksX2_weighPlaces_0 0 rfl rfl)
theorem dX2_weighPlaces_1 : decode cX2_weighPlaces 1 = .ok (.istore_n 2, 1) := dk_61 (dk_at dksX2_weighPlaces_0 1 rfl rfl)
theorem dX2_weighPlaces_2 : decode cX2_weighPlaces 2 = .ok (.iload_n 2, 1) := dk_28 (dk_at dksX2_weighPlaces_0 2 rfl rfl)
theorem dX2_weighPlaces_3 : decode cX2_weighPlaces 3 = .ok (.aload_n 0, 1) := dk_42 (dk_at dksX2_weighPlaces_0 3 rfl rfl)
theorem dX2_weighPlaces_4 : decode cX2_weighPlaces 4 = .ok (.getfield 382, 3) := dk_180 1 126 (dk_at dksX2_weighPlaces_0 4 rfl rfl)
theorem dX2_weighPlaces_7 : decode cX2_weighPlaces 7 = .ok (.if_icmp .ge 72, 3) := dk_162 0 72 (dk_at dksX2_weighPlaces_0 7 rfl rfl)
theorem dX2_weighPlaces_10 : decode cX2_weighPlaces 10 = .ok (.iconst 0, 1) := dk_3 (dk_at dksX2_weighPlaces_0 10 rfl rfl)
theorem dX2_weighPlaces_11 : decode cX2_weighPlaces 11 = .ok (.istore_n 3, 1) := dk_62 (dk_at dksX2_weighPlaces_0 11 rfl rfl)
theorem dX2_weighPlaces_12 : decode cX2_weighPlaces 12 = .ok (.iload_n 3, 1) := dk_29 (dk_at dksX2_weighPlaces_0 12 rfl rfl)
theorem dX2_weighPlaces_13 : decode cX2_weighPlaces 13 = .ok (.aload_n 0, 1) := dk_42 (dk_at dksX2_weighPlaces_0 13 rfl rfl)
theorem dX2_weighPlaces_14 : decode cX2_weighPlaces 14 = .ok (.getfield 382, 3) := dk_180 1 126 (dk_at dksX2_weighPlaces_0 14 rfl rfl)
theorem dX2_weighPlaces_17 : decode cX2_weighPlaces 17 = .ok (.if_icmp .ge 56, 3) := dk_162 0 56 (dk_at dksX2_weighPlaces_0 17 rfl rfl)
theorem dX2_weighPlaces_20 : decode cX2_weighPlaces 20 = .ok (.iconst 0, 1) := dk_3 (dk_at dksX2_weighPlaces_0 20 rfl rfl)
theorem dX2_weighPlaces_21 : decode cX2_weighPlaces 21 = .ok (.istore 4, 2) := dk_54 4 (dk_at dksX2_weighPlaces_0 21 rfl rfl)
theorem dX2_weighPlaces_23 : decode cX2_weighPlaces 23 = .ok (.iload 4, 2) := dk_21 4 (dk_at dksX2_weighPlaces_1 0 rfl rfl)
theorem dX2_weighPlaces_25 : decode cX2_weighPlaces 25 = .ok (.aload_n 0, 1) := dk_42 (dk_at dksX2_weighPlaces_1 2 rfl rfl)
theorem dX2_weighPlaces_26 : decode cX2_weighPlaces 26 = .ok (.getfield 394, 3) := dk_180 1 138 (dk_at dksX2_weighPlaces_1 3 rfl rfl)
theorem dX2_weighPlaces_29 : decode cX2_weighPlaces 29 = .ok (.if_icmp .ge 38, 3) := dk_162 0 38 (dk_at dksX2_weighPlaces_1 6 rfl rfl)
theorem dX2_weighPlaces_32 : decode cX2_weighPlaces 32 = .ok (.iconst 0, 1) := dk_3 (dk_at dksX2_weighPlaces_1 9 rfl rfl)
theorem dX2_weighPlaces_33 : decode cX2_weighPlaces 33 = .ok (.istore 5, 2) := dk_54 5 (dk_at dksX2_weighPlaces_1 10 rfl rfl)
theorem dX2_weighPlaces_35 : decode cX2_weighPlaces 35 = .ok (.iload 5, 2) := dk_21 5 (dk_at dksX2_weighPlaces_1 12 rfl rfl)
theorem dX2_weighPlaces_37 : decode cX2_weighPlaces 37 = .ok (.aload_n 0, 1) := dk_42 (dk_at dksX2_weighPlaces_1 14 rfl rfl)
theorem dX2_weighPlaces_38 : decode cX2_weighPlaces 38 = .ok (.getfield 394, 3) := dk_180 1 138 (dk_at dksX2_weighPlaces_1 15 rfl rfl)
theorem dX2_weighPlaces_41 : decode cX2_weighPlaces 41 = .ok (.if_icmp .ge 20, 3) := dk_162 0 20 (dk_at dksX2_weighPlaces_1 18 rfl rfl)
theorem dX2_weighPlaces_44 : decode cX2_weighPlaces 44 = .ok (.aload_n 0, 1) := dk_42 (dk_at dksX2_weighPlaces_1 21 rfl rfl)
theorem dX2_weighPlaces_45 : decode cX2_weighPlaces 45 = .ok (.iload_n 1, 1) := dk_27 (dk_at dksX2_weighPlaces_1 22 rfl rfl)
theorem dX2_weighPlaces_46 : decode cX2_weighPlaces 46 = .ok (.iload_n 2, 1) := dk_28 (dk_at dksX2_weighPlaces_1 23 rfl rfl)
theorem dX2_weighPlaces_47 : decode cX2_weighPlaces 47 = .ok (.iload_n 3, 1) := dk_29 (dk_at dksX2_weighPlaces_2 0 rfl rfl)
theorem dX2_weighPlaces_48 : decode cX2_weighPlaces 48 = .ok (.iload 4, 2) := dk_21 4 (dk_at dksX2_weighPlaces_2 1 rfl rfl)
theorem dX2_weighPlaces_50 : decode cX2_weighPlaces 50 = .ok (.iload 5, 2) := dk_21 5 (dk_at dksX2_weighPlaces_2 3 rfl rfl)
theorem dX2_weighPlaces_52 : decode cX2_weighPlaces 52 = .ok (.invokevirtual 397, 3) := dk_182 1 141 (dk_at dksX2_weighPlaces_2 5 rfl rfl)
theorem dX2_weighPlaces_55 : decode cX2_weighPlaces 55 = .ok (.iinc 5 1, 3) := dk_132 5 1 (dk_at dksX2_weighPlaces_2 8 rfl rfl)
theorem dX2_weighPlaces_58 : decode cX2_weighPlaces 58 = .ok (.goto (-23), 3) := dk_167 255 233 (dk_at dksX2_weighPlaces_2 11 rfl rfl)
theorem dX2_weighPlaces_61 : decode cX2_weighPlaces 61 = .ok (.iinc 4 1, 3) := dk_132 4 1 (dk_at dksX2_weighPlaces_2 14 rfl rfl)
theorem dX2_weighPlaces_64 : decode cX2_weighPlaces 64 = .ok (.goto (-41), 3) := dk_167 255 215 (dk_at dksX2_weighPlaces_2 17 rfl rfl)
theorem dX2_weighPlaces_67 : decode cX2_weighPlaces 67 = .ok (.iinc 3 1, 3) := dk_132 3 1 (dk_at dksX2_weighPlaces_2 20 rfl rfl)
theorem dX2_weighPlaces_70 : decode cX2_weighPlaces 70 = .ok (.goto (-58), 3) := dk_167 255 198 (dk_at dksX2_weighPlaces_3 0 rfl rfl)
theorem dX2_weighPlaces_73 : decode cX2_weighPlaces 73 = .ok (.iinc 2 1, 3) := dk_132 2 1 (dk_at dksX2_weighPlaces_3 3 rfl rfl)
theorem dX2_weighPlaces_76 : decode cX2_weighPlaces 76 = .ok (.goto (-74), 3) := dk_167 255 182 (dk_at dksX2_weighPlaces_3 6 rfl rfl)
theorem dX2_weighPlaces_79 : decode cX2_weighPlaces 79 = .ok (.return_, 1) := dk_177 (dk_at dksX2_weighPlaces_3 9 rfl rfl)
abbrev cX2_weighPair : ByteArray := prog_26_method_71_code
def yX2_weighPair : MethodName := ⟨RX2, "weighPair", "(IIIII)V"⟩
def dkwX2_weighPair_11 : List UInt8 := [21, 9, 46, 184, 1, 78, 167, 0, 10, 42, 180, 0, 145, 21, 6, 46, 79, 132, 9, 1, 167, 255, 44, 177]
abbrev dktX2_weighPair_11 : List UInt8 := dkwX2_weighPair_11 ++ []
def dkwX2_weighPair_10 : List UInt8 := [42, 180, 0, 145, 21, 6, 21, 10, 158, 0, 25, 42, 180, 0, 145, 21, 6, 46, 42, 180, 0, 35, 3, 50]
abbrev dktX2_weighPair_10 : List UInt8 := dkwX2_weighPair_10 ++ dktX2_weighPair_11
def dkwX2_weighPair_9 : List UInt8 := [54, 10, 42, 180, 0, 142, 21, 6, 92, 46, 21, 10, 42, 180, 0, 35, 3, 50, 21, 9, 46, 104, 96, 79]
abbrev dktX2_weighPair_9 : List UInt8 := dkwX2_weighPair_9 ++ dktX2_weighPair_10
def dkwX2_weighPair_8 : List UInt8 := [153, 0, 22, 42, 21, 9, 27, 3, 21, 4, 21, 5, 182, 1, 68, 153, 0, 7, 4, 167, 0, 4, 3, 96]
abbrev dktX2_weighPair_8 : List UInt8 := dkwX2_weighPair_8 ++ dktX2_weighPair_9
def dkwX2_weighPair_7 : List UInt8 := [167, 0, 4, 3, 96, 54, 10, 167, 0, 42, 21, 10, 42, 21, 9, 27, 21, 7, 21, 8, 182, 1, 64]
abbrev dktX2_weighPair_7 : List UInt8 := dkwX2_weighPair_7 ++ dktX2_weighPair_8
def dkwX2_weighPair_6 : List UInt8 := [21, 7, 182, 1, 64, 153, 0, 22, 42, 21, 9, 27, 3, 21, 5, 21, 4, 182, 1, 68, 153, 0, 7, 4]
abbrev dktX2_weighPair_6 : List UInt8 := dkwX2_weighPair_6 ++ dktX2_weighPair_7
def dkwX2_weighPair_5 : List UInt8 := [21, 5, 182, 1, 68, 153, 0, 7, 4, 167, 0, 4, 3, 96, 54, 10, 21, 10, 42, 21, 9, 27, 21, 8]
abbrev dktX2_weighPair_5 : List UInt8 := dkwX2_weighPair_5 ++ dktX2_weighPair_6
def dkwX2_weighPair_4 : List UInt8 := [21, 10, 42, 21, 9, 27, 21, 7, 21, 8, 182, 1, 64, 153, 0, 22, 42, 21, 9, 27, 3, 21, 4]
abbrev dktX2_weighPair_4 : List UInt8 := dkwX2_weighPair_4 ++ dktX2_weighPair_5
def dkwX2_weighPair_3 : List UInt8 := [180, 0, 51, 3, 46, 162, 0, 207, 3, 54, 10, 42, 180, 0, 26, 3, 50, 21, 9, 46, 154, 0, 84]
abbrev dktX2_weighPair_3 : List UInt8 := dkwX2_weighPair_3 ++ dktX2_weighPair_4
def dkwX2_weighPair_2 : List UInt8 := [177, 42, 180, 0, 136, 28, 46, 54, 7, 42, 180, 0, 136, 29, 46, 54, 8, 3, 54, 9, 21, 9, 42]
abbrev dktX2_weighPair_2 : List UInt8 := dkwX2_weighPair_2 ++ dktX2_weighPair_3
def dkwX2_weighPair_1 : List UInt8 := [21, 6, 3, 79, 42, 180, 0, 145, 21, 6, 3, 79, 28, 29, 162, 0, 10, 21, 4, 21, 5, 160, 0, 4]
abbrev dktX2_weighPair_1 : List UInt8 := dkwX2_weighPair_1 ++ dktX2_weighPair_2
def dkwX2_weighPair_0 : List UInt8 := [16, 80, 16, 8, 28, 104, 21, 4, 96, 104, 16, 8, 29, 104, 96, 21, 5, 96, 54, 6, 42, 180, 0, 142]
abbrev dktX2_weighPair_0 : List UInt8 := dkwX2_weighPair_0 ++ dktX2_weighPair_1
theorem dksX2_weighPair_0 : cX2_weighPair.data.toList.drop 0 = dktX2_weighPair_0 := by decide +kernel
theorem dksX2_weighPair_1 : cX2_weighPair.data.toList.drop 24 = dktX2_weighPair_1 := dk_seg dksX2_weighPair_0 24 rfl rfl
theorem dksX2_weighPair_2 : cX2_weighPair.data.toList.drop 48 = dktX2_weighPair_2 := dk_seg dksX2_weighPair_1 24 rfl rfl
theorem dksX2_weighPair_3 : cX2_weighPair.data.toList.drop 71 = dktX2_weighPair_3 := dk_seg dksX2_weighPair_2 23 rfl rfl
theorem dksX2_weighPair_4 : cX2_weighPair.data.toList.drop 94 = dktX2_weighPair_4 := dk_seg dksX2_weighPair_3 23 rfl rfl
theorem dksX2_weighPair_5 : cX2_weighPair.data.toList.drop 117 = dktX2_weighPair_5 := dk_seg dksX2_weighPair_4 23 rfl rfl
theorem dksX2_weighPair_6 : cX2_weighPair.data.toList.drop 141 = dktX2_weighPair_6 := dk_seg dksX2_weighPair_5 24 rfl rfl
theorem dksX2_weighPair_7 : cX2_weighPair.data.toList.drop 165 = dktX2_weighPair_7 := dk_seg dksX2_weighPair_6 24 rfl rfl
theorem dksX2_weighPair_8 : cX2_weighPair.data.toList.drop 188 = dktX2_weighPair_8 := dk_seg dksX2_weighPair_7 23 rfl rfl
theorem dksX2_weighPair_9 : cX2_weighPair.data.toList.drop 212 = dktX2_weighPair_9 := dk_seg dksX2_weighPair_8 24 rfl rfl
theorem dksX2_weighPair_10 : cX2_weighPair.data.toList.drop 236 = dktX2_weighPair_10 := dk_seg dksX2_weighPair_9 24 rfl rfl
theorem dksX2_weighPair_11 : cX2_weighPair.data.toList.drop 260 = dktX2_weighPair_11 := dk_seg dksX2_weighPair_10 24 rfl rfl
theorem dX2_weighPair_0 : decode cX2_weighPair 0 = .ok (.bipush 80, 2) := dk_16 80 (dk_at dksX2_weighPair_0 0 rfl rfl)
theorem dX2_weighPair_2 : decode cX2_weighPair 2 = .ok (.bipush 8, 2) := dk_16 8 (dk_at dksX2_weighPair_0 2 rfl rfl)
theorem dX2_weighPair_4 : decode cX2_weighPair 4 = .ok (.iload_n 2, 1) := dk_28 (dk_at dksX2_weighPair_0 4 rfl rfl)
theorem dX2_weighPair_5 : decode cX2_weighPair 5 = .ok (.imul, 1) := dk_104 (dk_at dksX2_weighPair_0 5 rfl rfl)
theorem dX2_weighPair_6 : decode cX2_weighPair 6 = .ok (.iload 4, 2) := dk_21 4 (dk_at dksX2_weighPair_0 6 rfl rfl)
theorem dX2_weighPair_8 : decode cX2_weighPair 8 = .ok (.iadd, 1) := dk_96 (dk_at dksX2_weighPair_0 8 rfl rfl)
theorem dX2_weighPair_9 : decode cX2_weighPair 9 = .ok (.imul, 1) := dk_104 (dk_at dksX2_weighPair_0 9 rfl rfl)
theorem dX2_weighPair_10 : decode cX2_weighPair 10 = .ok (.bipush 8, 2) := dk_16 8 (dk_at dksX2_weighPair_0 10 rfl rfl)
theorem dX2_weighPair_12 : decode cX2_weighPair 12 = .ok (.iload_n 3, 1) := dk_29 (dk_at dksX2_weighPair_0 12 rfl rfl)
theorem dX2_weighPair_13 : decode cX2_weighPair 13 = .ok (.imul, 1) := dk_104 (dk_at dksX2_weighPair_0 13 rfl rfl)
theorem dX2_weighPair_14 : decode cX2_weighPair 14 = .ok (.iadd, 1) := dk_96 (dk_at dksX2_weighPair_0 14 rfl rfl)
theorem dX2_weighPair_15 : decode cX2_weighPair 15 = .ok (.iload 5, 2) := dk_21 5 (dk_at dksX2_weighPair_0 15 rfl rfl)
theorem dX2_weighPair_17 : decode cX2_weighPair 17 = .ok (.iadd, 1) := dk_96 (dk_at dksX2_weighPair_0 17 rfl rfl)
theorem dX2_weighPair_18 : decode cX2_weighPair 18 = .ok (.istore 6, 2) := dk_54 6 (dk_at dksX2_weighPair_0 18 rfl rfl)
theorem dX2_weighPair_20 : decode cX2_weighPair 20 = .ok (.aload_n 0, 1) := dk_42 (dk_at dksX2_weighPair_0 20 rfl rfl)
theorem dX2_weighPair_21 : decode cX2_weighPair 21 = .ok (.getfield 142, 3) := dk_180 0 142 (dk_at dksX2_weighPair_0 21 rfl rfl)
theorem dX2_weighPair_24 : decode cX2_weighPair 24 = .ok (.iload 6, 2) := dk_21 6 (dk_at dksX2_weighPair_1 0 rfl rfl)
theorem dX2_weighPair_26 : decode cX2_weighPair 26 = .ok (.iconst 0, 1) := dk_3 (dk_at dksX2_weighPair_1 2 rfl rfl)
theorem dX2_weighPair_27 : decode cX2_weighPair 27 = .ok (.iastore, 1) := dk_79 (dk_at dksX2_weighPair_1 3 rfl rfl)
theorem dX2_weighPair_28 : decode cX2_weighPair 28 = .ok (.aload_n 0, 1) := dk_42 (dk_at dksX2_weighPair_1 4 rfl rfl)
theorem dX2_weighPair_29 : decode cX2_weighPair 29 = .ok (.getfield 145, 3) := dk_180 0 145 (dk_at dksX2_weighPair_1 5 rfl rfl)
theorem dX2_weighPair_32 : decode cX2_weighPair 32 = .ok (.iload 6, 2) := dk_21 6 (dk_at dksX2_weighPair_1 8 rfl rfl)
theorem dX2_weighPair_34 : decode cX2_weighPair 34 = .ok (.iconst 0, 1) := dk_3 (dk_at dksX2_weighPair_1 10 rfl rfl)
theorem dX2_weighPair_35 : decode cX2_weighPair 35 = .ok (.iastore, 1) := dk_79 (dk_at dksX2_weighPair_1 11 rfl rfl)
theorem dX2_weighPair_36 : decode cX2_weighPair 36 = .ok (.iload_n 2, 1) := dk_28 (dk_at dksX2_weighPair_1 12 rfl rfl)
theorem dX2_weighPair_37 : decode cX2_weighPair 37 = .ok (.iload_n 3, 1) := dk_29 (dk_at dksX2_weighPair_1 13 rfl rfl)
theorem dX2_weighPair_38 : decode cX2_weighPair 38 = .ok (.if_icmp .ge 10, 3) := dk_162 0 10 (dk_at dksX2_weighPair_1 14 rfl rfl)
theorem dX2_weighPair_41 : decode cX2_weighPair 41 = .ok (.iload 4, 2) := dk_21 4 (dk_at dksX2_weighPair_1 17 rfl rfl)
theorem dX2_weighPair_43 : decode cX2_weighPair 43 = .ok (.iload 5, 2) := dk_21 5 (dk_at dksX2_weighPair_1 19 rfl rfl)
theorem dX2_weighPair_45 : decode cX2_weighPair 45 = .ok (.if_icmp .ne 4, 3) := dk_160 0 4 (dk_at dksX2_weighPair_1 21 rfl rfl)
theorem dX2_weighPair_48 : decode cX2_weighPair 48 = .ok (.return_, 1) := dk_177 (dk_at dksX2_weighPair_2 0 rfl rfl)
theorem dX2_weighPair_49 : decode cX2_weighPair 49 = .ok (.aload_n 0, 1) := dk_42 (dk_at dksX2_weighPair_2 1 rfl rfl)
theorem dX2_weighPair_50 : decode cX2_weighPair 50 = .ok (.getfield 136, 3) := dk_180 0 136 (dk_at dksX2_weighPair_2 2 rfl rfl)
theorem dX2_weighPair_53 : decode cX2_weighPair 53 = .ok (.iload_n 2, 1) := dk_28 (dk_at dksX2_weighPair_2 5 rfl rfl)
theorem dX2_weighPair_54 : decode cX2_weighPair 54 = .ok (.iaload, 1) := dk_46 (dk_at dksX2_weighPair_2 6 rfl rfl)
theorem dX2_weighPair_55 : decode cX2_weighPair 55 = .ok (.istore 7, 2) := dk_54 7 (dk_at dksX2_weighPair_2 7 rfl rfl)
theorem dX2_weighPair_57 : decode cX2_weighPair 57 = .ok (.aload_n 0, 1) := dk_42 (dk_at dksX2_weighPair_2 9 rfl rfl)
theorem dX2_weighPair_58 : decode cX2_weighPair 58 = .ok (.getfield 136, 3) := dk_180 0 136 (dk_at dksX2_weighPair_2 10 rfl rfl)
theorem dX2_weighPair_61 : decode cX2_weighPair 61 = .ok (.iload_n 3, 1) := dk_29 (dk_at dksX2_weighPair_2 13 rfl rfl)
theorem dX2_weighPair_62 : decode cX2_weighPair 62 = .ok (.iaload, 1) := dk_46 (dk_at dksX2_weighPair_2 14 rfl rfl)
theorem dX2_weighPair_63 : decode cX2_weighPair 63 = .ok (.istore 8, 2) := dk_54 8 (dk_at dksX2_weighPair_2 15 rfl rfl)
theorem dX2_weighPair_65 : decode cX2_weighPair 65 = .ok (.iconst 0, 1) := dk_3 (dk_at dksX2_weighPair_2 17 rfl rfl)
theorem dX2_weighPair_66 : decode cX2_weighPair 66 = .ok (.istore 9, 2) := dk_54 9 (dk_at dksX2_weighPair_2 18 rfl rfl)
theorem dX2_weighPair_68 : decode cX2_weighPair 68 = .ok (.iload 9, 2) := dk_21 9 (dk_at dksX2_weighPair_2 20 rfl rfl)
theorem dX2_weighPair_70 : decode cX2_weighPair 70 = .ok (.aload_n 0, 1) := dk_42 (dk_at dksX2_weighPair_2 22 rfl rfl)
theorem dX2_weighPair_71 : decode cX2_weighPair 71 = .ok (.getfield 51, 3) := dk_180 0 51 (dk_at dksX2_weighPair_3 0 rfl rfl)
theorem dX2_weighPair_74 : decode cX2_weighPair 74 = .ok (.iconst 0, 1) := dk_3 (dk_at dksX2_weighPair_3 3 rfl rfl)
theorem dX2_weighPair_75 : decode cX2_weighPair 75 = .ok (.iaload, 1) := dk_46 (dk_at dksX2_weighPair_3 4 rfl rfl)
theorem dX2_weighPair_76 : decode cX2_weighPair 76 = .ok (.if_icmp .ge 207, 3) := dk_162 0 207 (dk_at dksX2_weighPair_3 5 rfl rfl)
theorem dX2_weighPair_79 : decode cX2_weighPair 79 = .ok (.iconst 0, 1) := dk_3 (dk_at dksX2_weighPair_3 8 rfl rfl)
theorem dX2_weighPair_80 : decode cX2_weighPair 80 = .ok (.istore 10, 2) := dk_54 10 (dk_at dksX2_weighPair_3 9 rfl rfl)
theorem dX2_weighPair_82 : decode cX2_weighPair 82 = .ok (.aload_n 0, 1) := dk_42 (dk_at dksX2_weighPair_3 11 rfl rfl)
theorem dX2_weighPair_83 : decode cX2_weighPair 83 = .ok (.getfield 26, 3) := dk_180 0 26 (dk_at dksX2_weighPair_3 12 rfl rfl)
theorem dX2_weighPair_86 : decode cX2_weighPair 86 = .ok (.iconst 0, 1) := dk_3 (dk_at dksX2_weighPair_3 15 rfl rfl)
theorem dX2_weighPair_87 : decode cX2_weighPair 87 = .ok (.aaload, 1) := dk_50 (dk_at dksX2_weighPair_3 16 rfl rfl)
theorem dX2_weighPair_88 : decode cX2_weighPair 88 = .ok (.iload 9, 2) := dk_21 9 (dk_at dksX2_weighPair_3 17 rfl rfl)
theorem dX2_weighPair_90 : decode cX2_weighPair 90 = .ok (.iaload, 1) := dk_46 (dk_at dksX2_weighPair_3 19 rfl rfl)
theorem dX2_weighPair_91 : decode cX2_weighPair 91 = .ok (.ifCond .ne 84, 3) := dk_154 0 84 (dk_at dksX2_weighPair_3 20 rfl rfl)
theorem dX2_weighPair_94 : decode cX2_weighPair 94 = .ok (.iload 10, 2) := dk_21 10 (dk_at dksX2_weighPair_4 0 rfl rfl)
theorem dX2_weighPair_96 : decode cX2_weighPair 96 = .ok (.aload_n 0, 1) := dk_42 (dk_at dksX2_weighPair_4 2 rfl rfl)
theorem dX2_weighPair_97 : decode cX2_weighPair 97 = .ok (.iload 9, 2) := dk_21 9 (dk_at dksX2_weighPair_4 3 rfl rfl)
theorem dX2_weighPair_99 : decode cX2_weighPair 99 = .ok (.iload_n 1, 1) := dk_27 (dk_at dksX2_weighPair_4 5 rfl rfl)
theorem dX2_weighPair_100 : decode cX2_weighPair 100 = .ok (.iload 7, 2) := dk_21 7 (dk_at dksX2_weighPair_4 6 rfl rfl)
theorem dX2_weighPair_102 : decode cX2_weighPair 102 = .ok (.iload 8, 2) := dk_21 8 (dk_at dksX2_weighPair_4 8 rfl rfl)
theorem dX2_weighPair_104 : decode cX2_weighPair 104 = .ok (.invokevirtual 320, 3) := dk_182 1 64 (dk_at dksX2_weighPair_4 10 rfl rfl)
theorem dX2_weighPair_107 : decode cX2_weighPair 107 = .ok (.ifCond .eq 22, 3) := dk_153 0 22 (dk_at dksX2_weighPair_4 13 rfl rfl)
theorem dX2_weighPair_110 : decode cX2_weighPair 110 = .ok (.aload_n 0, 1) := dk_42 (dk_at dksX2_weighPair_4 16 rfl rfl)
theorem dX2_weighPair_111 : decode cX2_weighPair 111 = .ok (.iload 9, 2) := dk_21 9 (dk_at dksX2_weighPair_4 17 rfl rfl)
theorem dX2_weighPair_113 : decode cX2_weighPair 113 = .ok (.iload_n 1, 1) := dk_27 (dk_at dksX2_weighPair_4 19 rfl rfl)
theorem dX2_weighPair_114 : decode cX2_weighPair 114 = .ok (.iconst 0, 1) := dk_3 (dk_at dksX2_weighPair_4 20 rfl rfl)
theorem dX2_weighPair_115 : decode cX2_weighPair 115 = .ok (.iload 4, 2) := dk_21 4 (dk_at dksX2_weighPair_4 21 rfl rfl)
theorem dX2_weighPair_117 : decode cX2_weighPair 117 = .ok (.iload 5, 2) := dk_21 5 (dk_at dksX2_weighPair_5 0 rfl rfl)
theorem dX2_weighPair_119 : decode cX2_weighPair 119 = .ok (.invokevirtual 324, 3) := dk_182 1 68 (dk_at dksX2_weighPair_5 2 rfl rfl)
theorem dX2_weighPair_122 : decode cX2_weighPair 122 = .ok (.ifCond .eq 7, 3) := dk_153 0 7 (dk_at dksX2_weighPair_5 5 rfl rfl)
theorem dX2_weighPair_125 : decode cX2_weighPair 125 = .ok (.iconst 1, 1) := dk_4 (dk_at dksX2_weighPair_5 8 rfl rfl)
theorem dX2_weighPair_126 : decode cX2_weighPair 126 = .ok (.goto 4, 3) := dk_167 0 4 (dk_at dksX2_weighPair_5 9 rfl rfl)
theorem dX2_weighPair_129 : decode cX2_weighPair 129 = .ok (.iconst 0, 1) := dk_3 (dk_at dksX2_weighPair_5 12 rfl rfl)
theorem dX2_weighPair_130 : decode cX2_weighPair 130 = .ok (.iadd, 1) := dk_96 (dk_at dksX2_weighPair_5 13 rfl rfl)
theorem dX2_weighPair_131 : decode cX2_weighPair 131 = .ok (.istore 10, 2) := dk_54 10 (dk_at dksX2_weighPair_5 14 rfl rfl)
theorem dX2_weighPair_133 : decode cX2_weighPair 133 = .ok (.iload 10, 2) := dk_21 10 (dk_at dksX2_weighPair_5 16 rfl rfl)
theorem dX2_weighPair_135 : decode cX2_weighPair 135 = .ok (.aload_n 0, 1) := dk_42 (dk_at dksX2_weighPair_5 18 rfl rfl)
theorem dX2_weighPair_136 : decode cX2_weighPair 136 = .ok (.iload 9, 2) := dk_21 9 (dk_at dksX2_weighPair_5 19 rfl rfl)
theorem dX2_weighPair_138 : decode cX2_weighPair 138 = .ok (.iload_n 1, 1) := dk_27 (dk_at dksX2_weighPair_5 21 rfl rfl)
theorem dX2_weighPair_139 : decode cX2_weighPair 139 = .ok (.iload 8, 2) := dk_21 8 (dk_at dksX2_weighPair_5 22 rfl rfl)
theorem dX2_weighPair_141 : decode cX2_weighPair 141 = .ok (.iload 7, 2) := dk_21 7 (dk_at dksX2_weighPair_6 0 rfl rfl)
theorem dX2_weighPair_143 : decode cX2_weighPair 143 = .ok (.invokevirtual 320, 3) := dk_182 1 64 (dk_at dksX2_weighPair_6 2 rfl rfl)
theorem dX2_weighPair_146 : decode cX2_weighPair 146 = .ok (.ifCond .eq 22, 3) := dk_153 0 22 (dk_at dksX2_weighPair_6 5 rfl rfl)
theorem dX2_weighPair_149 : decode cX2_weighPair 149 = .ok (.aload_n 0, 1) := dk_42 (dk_at dksX2_weighPair_6 8 rfl rfl)
theorem dX2_weighPair_150 : decode cX2_weighPair 150 = .ok (.iload 9, 2) := dk_21 9 (dk_at dksX2_weighPair_6 9 rfl rfl)
theorem dX2_weighPair_152 : decode cX2_weighPair 152 = .ok (.iload_n 1, 1) := dk_27 (dk_at dksX2_weighPair_6 11 rfl rfl)
theorem dX2_weighPair_153 : decode cX2_weighPair 153 = .ok (.iconst 0, 1) := dk_3 (dk_at dksX2_weighPair_6 12 rfl rfl)
theorem dX2_weighPair_154 : decode cX2_weighPair 154 = .ok (.iload 5, 2) := dk_21 5 (dk_at dksX2_weighPair_6 13 rfl rfl)
theorem dX2_weighPair_156 : decode cX2_weighPair 156 = .ok (.iload 4, 2) := dk_21 4 (dk_at dksX2_weighPair_6 15 rfl rfl)
theorem dX2_weighPair_158 : decode cX2_weighPair 158 = .ok (.invokevirtual 324, 3) := dk_182 1 68 (dk_at dksX2_weighPair_6 17 rfl rfl)
theorem dX2_weighPair_161 : decode cX2_weighPair 161 = .ok (.ifCond .eq 7, 3) := dk_153 0 7 (dk_at dksX2_weighPair_6 20 rfl rfl)
theorem dX2_weighPair_164 : decode cX2_weighPair 164 = .ok (.iconst 1, 1) := dk_4 (dk_at dksX2_weighPair_6 23 rfl rfl)
theorem dX2_weighPair_165 : decode cX2_weighPair 165 = .ok (.goto 4, 3) := dk_167 0 4 (dk_at dksX2_weighPair_7 0 rfl rfl)
theorem dX2_weighPair_168 : decode cX2_weighPair 168 = .ok (.iconst 0, 1) := dk_3 (dk_at dksX2_weighPair_7 3 rfl rfl)
theorem dX2_weighPair_169 : decode cX2_weighPair 169 = .ok (.iadd, 1) := dk_96 (dk_at dksX2_weighPair_7 4 rfl rfl)
theorem dX2_weighPair_170 : decode cX2_weighPair 170 = .ok (.istore 10, 2) := dk_54 10 (dk_at dksX2_weighPair_7 5 rfl rfl)
theorem dX2_weighPair_172 : decode cX2_weighPair 172 = .ok (.goto 42, 3) := dk_167 0 42 (dk_at dksX2_weighPair_7 7 rfl rfl)
theorem dX2_weighPair_175 : decode cX2_weighPair 175 = .ok (.iload 10, 2) := dk_21 10 (dk_at dksX2_weighPair_7 10 rfl rfl)
theorem dX2_weighPair_177 : decode cX2_weighPair 177 = .ok (.aload_n 0, 1) := dk_42 (dk_at dksX2_weighPair_7 12 rfl rfl)
theorem dX2_weighPair_178 : decode cX2_weighPair 178 = .ok (.iload 9, 2) := dk_21 9 (dk_at dksX2_weighPair_7 13 rfl rfl)
theorem dX2_weighPair_180 : decode cX2_weighPair 180 = .ok (.iload_n 1, 1) := dk_27 (dk_at dksX2_weighPair_7 15 rfl rfl)
theorem dX2_weighPair_181 : decode cX2_weighPair 181 = .ok (.iload 7, 2) := dk_21 7 (dk_at dksX2_weighPair_7 16 rfl rfl)
theorem dX2_weighPair_183 : decode cX2_weighPair 183 = .ok (.iload 8, 2) := dk_21 8 (dk_at dksX2_weighPair_7 18 rfl rfl)
theorem dX2_weighPair_185 : decode cX2_weighPair 185 = .ok (.invokevirtual 320, 3) := dk_182 1 64 (dk_at dksX2_weighPair_7 20 rfl rfl)
theorem dX2_weighPair_188 : decode cX2_weighPair 188 = .ok (.ifCond .eq 22, 3) := dk_153 0 22 (dk_at dksX2_weighPair_8 0 rfl rfl)
theorem dX2_weighPair_191 : decode cX2_weighPair 191 = .ok (.aload_n 0, 1) := dk_42 (dk_at dksX2_weighPair_8 3 rfl rfl)
theorem dX2_weighPair_192 : decode cX2_weighPair 192 = .ok (.iload 9, 2) := dk_21 9 (dk_at dksX2_weighPair_8 4 rfl rfl)
theorem dX2_weighPair_194 : decode cX2_weighPair 194 = .ok (.iload_n 1, 1) := dk_27 (dk_at dksX2_weighPair_8 6 rfl rfl)
theorem dX2_weighPair_195 : decode cX2_weighPair 195 = .ok (.iconst 0, 1) := dk_3 (dk_at dksX2_weighPair_8 7 rfl rfl)
theorem dX2_weighPair_196 : decode cX2_weighPair 196 = .ok (.iload 4, 2) := dk_21 4 (dk_at dksX2_weighPair_8 8 rfl rfl)
theorem dX2_weighPair_198 : decode cX2_weighPair 198 = .ok (.iload 5, 2) := dk_21 5 (dk_at dksX2_weighPair_8 10 rfl rfl)
theorem dX2_weighPair_200 : decode cX2_weighPair 200 = .ok (.invokevirtual 324, 3) := dk_182 1 68 (dk_at dksX2_weighPair_8 12 rfl rfl)
theorem dX2_weighPair_203 : decode cX2_weighPair 203 = .ok (.ifCond .eq 7, 3) := dk_153 0 7 (dk_at dksX2_weighPair_8 15 rfl rfl)
theorem dX2_weighPair_206 : decode cX2_weighPair 206 = .ok (.iconst 1, 1) := dk_4 (dk_at dksX2_weighPair_8 18 rfl rfl)
theorem dX2_weighPair_207 : decode cX2_weighPair 207 = .ok (.goto 4, 3) := dk_167 0 4 (dk_at dksX2_weighPair_8 19 rfl rfl)
theorem dX2_weighPair_210 : decode cX2_weighPair 210 = .ok (.iconst 0, 1) := dk_3 (dk_at dksX2_weighPair_8 22 rfl rfl)
theorem dX2_weighPair_211 : decode cX2_weighPair 211 = .ok (.iadd, 1) := dk_96 (dk_at dksX2_weighPair_8 23 rfl rfl)
theorem dX2_weighPair_212 : decode cX2_weighPair 212 = .ok (.istore 10, 2) := dk_54 10 (dk_at dksX2_weighPair_9 0 rfl rfl)
theorem dX2_weighPair_214 : decode cX2_weighPair 214 = .ok (.aload_n 0, 1) := dk_42 (dk_at dksX2_weighPair_9 2 rfl rfl)
theorem dX2_weighPair_215 : decode cX2_weighPair 215 = .ok (.getfield 142, 3) := dk_180 0 142 (dk_at dksX2_weighPair_9 3 rfl rfl)
theorem dX2_weighPair_218 : decode cX2_weighPair 218 = .ok (.iload 6, 2) := dk_21 6 (dk_at dksX2_weighPair_9 6 rfl rfl)
theorem dX2_weighPair_220 : decode cX2_weighPair 220 = .ok (.dup2, 1) := dk_92 (dk_at dksX2_weighPair_9 8 rfl rfl)
theorem dX2_weighPair_221 : decode cX2_weighPair 221 = .ok (.iaload, 1) := dk_46 (dk_at dksX2_weighPair_9 9 rfl rfl)
theorem dX2_weighPair_222 : decode cX2_weighPair 222 = .ok (.iload 10, 2) := dk_21 10 (dk_at dksX2_weighPair_9 10 rfl rfl)
theorem dX2_weighPair_224 : decode cX2_weighPair 224 = .ok (.aload_n 0, 1) := dk_42 (dk_at dksX2_weighPair_9 12 rfl rfl)
theorem dX2_weighPair_225 : decode cX2_weighPair 225 = .ok (.getfield 35, 3) := dk_180 0 35 (dk_at dksX2_weighPair_9 13 rfl rfl)
theorem dX2_weighPair_228 : decode cX2_weighPair 228 = .ok (.iconst 0, 1) := dk_3 (dk_at dksX2_weighPair_9 16 rfl rfl)
theorem dX2_weighPair_229 : decode cX2_weighPair 229 = .ok (.aaload, 1) := dk_50 (dk_at dksX2_weighPair_9 17 rfl rfl)
theorem dX2_weighPair_230 : decode cX2_weighPair 230 = .ok (.iload 9, 2) := dk_21 9 (dk_at dksX2_weighPair_9 18 rfl rfl)
theorem dX2_weighPair_232 : decode cX2_weighPair 232 = .ok (.iaload, 1) := dk_46 (dk_at dksX2_weighPair_9 20 rfl rfl)
theorem dX2_weighPair_233 : decode cX2_weighPair 233 = .ok (.imul, 1) := dk_104 (dk_at dksX2_weighPair_9 21 rfl rfl)
theorem dX2_weighPair_234 : decode cX2_weighPair 234 = .ok (.iadd, 1) := dk_96 (dk_at dksX2_weighPair_9 22 rfl rfl)
theorem dX2_weighPair_235 : decode cX2_weighPair 235 = .ok (.iastore, 1) := dk_79 (dk_at dksX2_weighPair_9 23 rfl rfl)
theorem dX2_weighPair_236 : decode cX2_weighPair 236 = .ok (.aload_n 0, 1) := dk_42 (dk_at dksX2_weighPair_10 0 rfl rfl)
theorem dX2_weighPair_237 : decode cX2_weighPair 237 = .ok (.getfield 145, 3) := dk_180 0 145 (dk_at dksX2_weighPair_10 1 rfl rfl)
theorem dX2_weighPair_240 : decode cX2_weighPair 240 = .ok (.iload 6, 2) := dk_21 6 (dk_at dksX2_weighPair_10 4 rfl rfl)
theorem dX2_weighPair_242 : decode cX2_weighPair 242 = .ok (.iload 10, 2) := dk_21 10 (dk_at dksX2_weighPair_10 6 rfl rfl)
theorem dX2_weighPair_244 : decode cX2_weighPair 244 = .ok (.ifCond .le 25, 3) := dk_158 0 25 (dk_at dksX2_weighPair_10 8 rfl rfl)
theorem dX2_weighPair_247 : decode cX2_weighPair 247 = .ok (.aload_n 0, 1) := dk_42 (dk_at dksX2_weighPair_10 11 rfl rfl)
theorem dX2_weighPair_248 : decode cX2_weighPair 248 = .ok (.getfield 145, 3) := dk_180 0 145 (dk_at dksX2_weighPair_10 12 rfl rfl)
theorem dX2_weighPair_251 : decode cX2_weighPair 251 = .ok (.iload 6, 2) := dk_21 6 (dk_at dksX2_weighPair_10 15 rfl rfl)
theorem dX2_weighPair_253 : decode cX2_weighPair 253 = .ok (.iaload, 1) := dk_46 (dk_at dksX2_weighPair_10 17 rfl rfl)
theorem dX2_weighPair_254 : decode cX2_weighPair 254 = .ok (.aload_n 0, 1) := dk_42 (dk_at dksX2_weighPair_10 18 rfl rfl)
theorem dX2_weighPair_255 : decode cX2_weighPair 255 = .ok (.getfield 35, 3) := dk_180 0 35 (dk_at dksX2_weighPair_10 19 rfl rfl)
theorem dX2_weighPair_258 : decode cX2_weighPair 258 = .ok (.iconst 0, 1) := dk_3 (dk_at dksX2_weighPair_10 22 rfl rfl)
theorem dX2_weighPair_259 : decode cX2_weighPair 259 = .ok (.aaload, 1) := dk_50 (dk_at dksX2_weighPair_10 23 rfl rfl)
theorem dX2_weighPair_260 : decode cX2_weighPair 260 = .ok (.iload 9, 2) := dk_21 9 (dk_at dksX2_weighPair_11 0 rfl rfl)
theorem dX2_weighPair_262 : decode cX2_weighPair 262 = .ok (.iaload, 1) := dk_46 (dk_at dksX2_weighPair_11 2 rfl rfl)
theorem dX2_weighPair_263 : decode cX2_weighPair 263 = .ok (.invokestatic 334, 3) := dk_184 1 78 (dk_at dksX2_weighPair_11 3 rfl rfl)
theorem dX2_weighPair_266 : decode cX2_weighPair 266 = .ok (.goto 10, 3) := dk_167 0 10 (dk_at dksX2_weighPair_11 6 rfl rfl)
theorem dX2_weighPair_269 : decode cX2_weighPair 269 = .ok (.aload_n 0, 1) := dk_42 (dk_at dksX2_weighPair_11 9 rfl rfl)
theorem dX2_weighPair_270 : decode cX2_weighPair 270 = .ok (.getfield 145, 3) := dk_180 0 145 (dk_at dksX2_weighPair_11 10 rfl rfl)
theorem dX2_weighPair_273 : decode cX2_weighPair 273 = .ok (.iload 6, 2) := dk_21 6 (dk_at dksX2_weighPair_11 13 rfl rfl)
theorem dX2_weighPair_275 : decode cX2_weighPair 275 = .ok (.iaload, 1) := dk_46 (dk_at dksX2_weighPair_11 15 rfl rfl)
theorem dX2_weighPair_276 : decode cX2_weighPair 276 = .ok (.iastore, 1) := dk_79 (dk_at dksX2_weighPair_11 16 rfl rfl)
theorem dX2_weighPair_277 : decode cX2_weighPair 277 = .ok (.iinc 9 1, 3) := dk_132 9 1 (dk_at dksX2_weighPair_11 17 rfl rfl)
theorem dX2_weighPair_280 : decode cX2_weighPair 280 = .ok (.goto (-212), 3) := dk_167 255 44 (dk_at dksX2_weighPair_11 20 rfl rfl)
theorem dX2_weighPair_283 : decode cX2_weighPair 283 = .ok (.return_, 1) := dk_177 (dk_at dksX2_weighPair_11 23 rfl rfl)
abbrev cX2_seatsFrom : ByteArray := prog_26_method_75_code
def yX2_seatsFrom : MethodName := ⟨RX2, "seatsFrom", "(IIII)V"⟩
def dkwX2_seatsFrom_6 : List UInt8 := [21, 5, 120, 128, 21, 6, 21, 7, 182, 1, 180, 132, 5, 1, 167, 255, 122, 177]
abbrev dktX2_seatsFrom_6 : List UInt8 := dkwX2_seatsFrom_6 ++ []
def dkwX2_seatsFrom_5 : List UInt8 := [180, 0, 145, 21, 9, 46, 184, 1, 78, 54, 7, 132, 8, 1, 167, 255, 195, 42, 27, 4, 96, 28, 4]
abbrev dktX2_seatsFrom_5 : List UInt8 := dkwX2_seatsFrom_5 ++ dktX2_seatsFrom_6
def dkwX2_seatsFrom_4 : List UInt8 := [27, 104, 96, 21, 5, 96, 54, 9, 21, 6, 42, 180, 0, 142, 21, 9, 46, 96, 54, 6, 21, 7, 42]
abbrev dktX2_seatsFrom_4 : List UInt8 := dkwX2_seatsFrom_4 ++ dktX2_seatsFrom_5
def dkwX2_seatsFrom_3 : List UInt8 := [21, 8, 27, 162, 0, 61, 16, 80, 16, 8, 21, 8, 104, 42, 180, 0, 148, 21, 8, 46, 96, 104, 16, 8]
abbrev dktX2_seatsFrom_3 : List UInt8 := dkwX2_seatsFrom_3 ++ dktX2_seatsFrom_4
def dkwX2_seatsFrom_2 : List UInt8 := [153, 0, 6, 167, 0, 102, 42, 180, 0, 148, 27, 21, 5, 79, 29, 54, 6, 21, 4, 54, 7, 3, 54, 8]
abbrev dktX2_seatsFrom_2 : List UInt8 := dkwX2_seatsFrom_2 ++ dktX2_seatsFrom_3
def dkwX2_seatsFrom_1 : List UInt8 := [180, 1, 138, 162, 0, 131, 28, 21, 5, 122, 4, 126, 4, 159, 0, 115, 42, 27, 21, 5, 182, 1, 177]
abbrev dktX2_seatsFrom_1 : List UInt8 := dkwX2_seatsFrom_1 ++ dktX2_seatsFrom_2
def dkwX2_seatsFrom_0 : List UInt8 := [27, 42, 180, 1, 126, 160, 0, 11, 42, 29, 21, 4, 182, 1, 174, 177, 3, 54, 5, 21, 5, 42]
abbrev dktX2_seatsFrom_0 : List UInt8 := dkwX2_seatsFrom_0 ++ dktX2_seatsFrom_1
theorem dksX2_seatsFrom_0 : cX2_seatsFrom.data.toList.drop 0 = dktX2_seatsFrom_0 := by decide +kernel
theorem dksX2_seatsFrom_1 : cX2_seatsFrom.data.toList.drop 22 = dktX2_seatsFrom_1 := dk_seg dksX2_seatsFrom_0 22 rfl rfl
theorem dksX2_seatsFrom_2 : cX2_seatsFrom.data.toList.drop 45 = dktX2_seatsFrom_2 := dk_seg dksX2_seatsFrom_1 23 rfl rfl
theorem dksX2_seatsFrom_3 : cX2_seatsFrom.data.toList.drop 69 = dktX2_seatsFrom_3 := dk_seg dksX2_seatsFrom_2 24 rfl rfl
theorem dksX2_seatsFrom_4 : cX2_seatsFrom.data.toList.drop 93 = dktX2_seatsFrom_4 := dk_seg dksX2_seatsFrom_3 24 rfl rfl
theorem dksX2_seatsFrom_5 : cX2_seatsFrom.data.toList.drop 116 = dktX2_seatsFrom_5 := dk_seg dksX2_seatsFrom_4 23 rfl rfl
theorem dksX2_seatsFrom_6 : cX2_seatsFrom.data.toList.drop 139 = dktX2_seatsFrom_6 := dk_seg dksX2_seatsFrom_5 23 rfl rfl
theorem dX2_seatsFrom_0 : decode cX2_seatsFrom 0 = .ok (.iload_n 1, 1) := dk_27 (dk_at dksX2_seatsFrom_0 0 rfl rfl)
theorem dX2_seatsFrom_1 : decode cX2_seatsFrom 1 = .ok (.aload_n 0, 1) := dk_42 (dk_at dksX2_seatsFrom_0 1 rfl rfl)
theorem dX2_seatsFrom_2 : decode cX2_seatsFrom 2 = .ok (.getfield 382, 3) := dk_180 1 126 (dk_at dksX2_seatsFrom_0 2 rfl rfl)
theorem dX2_seatsFrom_5 : decode cX2_seatsFrom 5 = .ok (.if_icmp .ne 11, 3) := dk_160 0 11 (dk_at dksX2_seatsFrom_0 5 rfl rfl)
theorem dX2_seatsFrom_8 : decode cX2_seatsFrom 8 = .ok (.aload_n 0, 1) := dk_42 (dk_at dksX2_seatsFrom_0 8 rfl rfl)
theorem dX2_seatsFrom_9 : decode cX2_seatsFrom 9 = .ok (.iload_n 3, 1) := dk_29 (dk_at dksX2_seatsFrom_0 9 rfl rfl)
theorem dX2_seatsFrom_10 : decode cX2_seatsFrom 10 = .ok (.iload 4, 2) := dk_21 4 (dk_at dksX2_seatsFrom_0 10 rfl rfl)
theorem dX2_seatsFrom_12 : decode cX2_seatsFrom 12 = .ok (.invokevirtual 430, 3) := dk_182 1 174 (dk_at dksX2_seatsFrom_0 12 rfl rfl)
theorem dX2_seatsFrom_15 : decode cX2_seatsFrom 15 = .ok (.return_, 1) := dk_177 (dk_at dksX2_seatsFrom_0 15 rfl rfl)
theorem dX2_seatsFrom_16 : decode cX2_seatsFrom 16 = .ok (.iconst 0, 1) := dk_3 (dk_at dksX2_seatsFrom_0 16 rfl rfl)
theorem dX2_seatsFrom_17 : decode cX2_seatsFrom 17 = .ok (.istore 5, 2) := dk_54 5 (dk_at dksX2_seatsFrom_0 17 rfl rfl)
theorem dX2_seatsFrom_19 : decode cX2_seatsFrom 19 = .ok (.iload 5, 2) := dk_21 5 (dk_at dksX2_seatsFrom_0 19 rfl rfl)
theorem dX2_seatsFrom_21 : decode cX2_seatsFrom 21 = .ok (.aload_n 0, 1) := dk_42 (dk_at dksX2_seatsFrom_0 21 rfl rfl)
theorem dX2_seatsFrom_22 : decode cX2_seatsFrom 22 = .ok (.getfield 394, 3) := dk_180 1 138 (dk_at dksX2_seatsFrom_1 0 rfl rfl)
theorem dX2_seatsFrom_25 : decode cX2_seatsFrom 25 = .ok (.if_icmp .ge 131, 3) := dk_162 0 131 (dk_at dksX2_seatsFrom_1 3 rfl rfl)
theorem dX2_seatsFrom_28 : decode cX2_seatsFrom 28 = .ok (.iload_n 2, 1) := dk_28 (dk_at dksX2_seatsFrom_1 6 rfl rfl)
theorem dX2_seatsFrom_29 : decode cX2_seatsFrom 29 = .ok (.iload 5, 2) := dk_21 5 (dk_at dksX2_seatsFrom_1 7 rfl rfl)
theorem dX2_seatsFrom_31 : decode cX2_seatsFrom 31 = .ok (.ishr, 1) := dk_122 (dk_at dksX2_seatsFrom_1 9 rfl rfl)
theorem dX2_seatsFrom_32 : decode cX2_seatsFrom 32 = .ok (.iconst 1, 1) := dk_4 (dk_at dksX2_seatsFrom_1 10 rfl rfl)
theorem dX2_seatsFrom_33 : decode cX2_seatsFrom 33 = .ok (.iand, 1) := dk_126 (dk_at dksX2_seatsFrom_1 11 rfl rfl)
theorem dX2_seatsFrom_34 : decode cX2_seatsFrom 34 = .ok (.iconst 1, 1) := dk_4 (dk_at dksX2_seatsFrom_1 12 rfl rfl)
theorem dX2_seatsFrom_35 : decode cX2_seatsFrom 35 = .ok (.if_icmp .eq 115, 3) := dk_159 0 115 (dk_at dksX2_seatsFrom_1 13 rfl rfl)
theorem dX2_seatsFrom_38 : decode cX2_seatsFrom 38 = .ok (.aload_n 0, 1) := dk_42 (dk_at dksX2_seatsFrom_1 16 rfl rfl)
theorem dX2_seatsFrom_39 : decode cX2_seatsFrom 39 = .ok (.iload_n 1, 1) := dk_27 (dk_at dksX2_seatsFrom_1 17 rfl rfl)
theorem dX2_seatsFrom_40 : decode cX2_seatsFrom 40 = .ok (.iload 5, 2) := dk_21 5 (dk_at dksX2_seatsFrom_1 18 rfl rfl)
theorem dX2_seatsFrom_42 : decode cX2_seatsFrom 42 = .ok (.invokevirtual 433, 3) := dk_182 1 177 (dk_at dksX2_seatsFrom_1 20 rfl rfl)
theorem dX2_seatsFrom_45 : decode cX2_seatsFrom 45 = .ok (.ifCond .eq 6, 3) := dk_153 0 6 (dk_at dksX2_seatsFrom_2 0 rfl rfl)
theorem dX2_seatsFrom_48 : decode cX2_seatsFrom 48 = .ok (.goto 102, 3) := dk_167 0 102 (dk_at dksX2_seatsFrom_2 3 rfl rfl)
theorem dX2_seatsFrom_51 : decode cX2_seatsFrom 51 = .ok (.aload_n 0, 1) := dk_42 (dk_at dksX2_seatsFrom_2 6 rfl rfl)
theorem dX2_seatsFrom_52 : decode cX2_seatsFrom 52 = .ok (.getfield 148, 3) := dk_180 0 148 (dk_at dksX2_seatsFrom_2 7 rfl rfl)
theorem dX2_seatsFrom_55 : decode cX2_seatsFrom 55 = .ok (.iload_n 1, 1) := dk_27 (dk_at dksX2_seatsFrom_2 10 rfl rfl)
theorem dX2_seatsFrom_56 : decode cX2_seatsFrom 56 = .ok (.iload 5, 2) := dk_21 5 (dk_at dksX2_seatsFrom_2 11 rfl rfl)
theorem dX2_seatsFrom_58 : decode cX2_seatsFrom 58 = .ok (.iastore, 1) := dk_79 (dk_at dksX2_seatsFrom_2 13 rfl rfl)
theorem dX2_seatsFrom_59 : decode cX2_seatsFrom 59 = .ok (.iload_n 3, 1) := dk_29 (dk_at dksX2_seatsFrom_2 14 rfl rfl)
theorem dX2_seatsFrom_60 : decode cX2_seatsFrom 60 = .ok (.istore 6, 2) := dk_54 6 (dk_at dksX2_seatsFrom_2 15 rfl rfl)
theorem dX2_seatsFrom_62 : decode cX2_seatsFrom 62 = .ok (.iload 4, 2) := dk_21 4 (dk_at dksX2_seatsFrom_2 17 rfl rfl)
theorem dX2_seatsFrom_64 : decode cX2_seatsFrom 64 = .ok (.istore 7, 2) := dk_54 7 (dk_at dksX2_seatsFrom_2 19 rfl rfl)
theorem dX2_seatsFrom_66 : decode cX2_seatsFrom 66 = .ok (.iconst 0, 1) := dk_3 (dk_at dksX2_seatsFrom_2 21 rfl rfl)
theorem dX2_seatsFrom_67 : decode cX2_seatsFrom 67 = .ok (.istore 8, 2) := dk_54 8 (dk_at dksX2_seatsFrom_2 22 rfl rfl)
theorem dX2_seatsFrom_69 : decode cX2_seatsFrom 69 = .ok (.iload 8, 2) := dk_21 8 (dk_at dksX2_seatsFrom_3 0 rfl rfl)
theorem dX2_seatsFrom_71 : decode cX2_seatsFrom 71 = .ok (.iload_n 1, 1) := dk_27 (dk_at dksX2_seatsFrom_3 2 rfl rfl)
theorem dX2_seatsFrom_72 : decode cX2_seatsFrom 72 = .ok (.if_icmp .ge 61, 3) := dk_162 0 61 (dk_at dksX2_seatsFrom_3 3 rfl rfl)
theorem dX2_seatsFrom_75 : decode cX2_seatsFrom 75 = .ok (.bipush 80, 2) := dk_16 80 (dk_at dksX2_seatsFrom_3 6 rfl rfl)
theorem dX2_seatsFrom_77 : decode cX2_seatsFrom 77 = .ok (.bipush 8, 2) := dk_16 8 (dk_at dksX2_seatsFrom_3 8 rfl rfl)
theorem dX2_seatsFrom_79 : decode cX2_seatsFrom 79 = .ok (.iload 8, 2) := dk_21 8 (dk_at dksX2_seatsFrom_3 10 rfl rfl)
theorem dX2_seatsFrom_81 : decode cX2_seatsFrom 81 = .ok (.imul, 1) := dk_104 (dk_at dksX2_seatsFrom_3 12 rfl rfl)
theorem dX2_seatsFrom_82 : decode cX2_seatsFrom 82 = .ok (.aload_n 0, 1) := dk_42 (dk_at dksX2_seatsFrom_3 13 rfl rfl)
theorem dX2_seatsFrom_83 : decode cX2_seatsFrom 83 = .ok (.getfield 148, 3) := dk_180 0 148 (dk_at dksX2_seatsFrom_3 14 rfl rfl)
theorem dX2_seatsFrom_86 : decode cX2_seatsFrom 86 = .ok (.iload 8, 2) := dk_21 8 (dk_at dksX2_seatsFrom_3 17 rfl rfl)
theorem dX2_seatsFrom_88 : decode cX2_seatsFrom 88 = .ok (.iaload, 1) := dk_46 (dk_at dksX2_seatsFrom_3 19 rfl rfl)
theorem dX2_seatsFrom_89 : decode cX2_seatsFrom 89 = .ok (.iadd, 1) := dk_96 (dk_at dksX2_seatsFrom_3 20 rfl rfl)
theorem dX2_seatsFrom_90 : decode cX2_seatsFrom 90 = .ok (.imul, 1) := dk_104 (dk_at dksX2_seatsFrom_3 21 rfl rfl)
theorem dX2_seatsFrom_91 : decode cX2_seatsFrom 91 = .ok (.bipush 8, 2) := dk_16 8 (dk_at dksX2_seatsFrom_3 22 rfl rfl)
theorem dX2_seatsFrom_93 : decode cX2_seatsFrom 93 = .ok (.iload_n 1, 1) := dk_27 (dk_at dksX2_seatsFrom_4 0 rfl rfl)
theorem dX2_seatsFrom_94 : decode cX2_seatsFrom 94 = .ok (.imul, 1) := dk_104 (dk_at dksX2_seatsFrom_4 1 rfl rfl)
theorem dX2_seatsFrom_95 : decode cX2_seatsFrom 95 = .ok (.iadd, 1) := dk_96 (dk_at dksX2_seatsFrom_4 2 rfl rfl)
theorem dX2_seatsFrom_96 : decode cX2_seatsFrom 96 = .ok (.iload 5, 2) := dk_21 5 (dk_at dksX2_seatsFrom_4 3 rfl rfl)
theorem dX2_seatsFrom_98 : decode cX2_seatsFrom 98 = .ok (.iadd, 1) := dk_96 (dk_at dksX2_seatsFrom_4 5 rfl rfl)
theorem dX2_seatsFrom_99 : decode cX2_seatsFrom 99 = .ok (.istore 9, 2) := dk_54 9 (dk_at dksX2_seatsFrom_4 6 rfl rfl)
theorem dX2_seatsFrom_101 : decode cX2_seatsFrom 101 = .ok (.iload 6, 2) := dk_21 6 (dk_at dksX2_seatsFrom_4 8 rfl rfl)
theorem dX2_seatsFrom_103 : decode cX2_seatsFrom 103 = .ok (.aload_n 0, 1) := dk_42 (dk_at dksX2_seatsFrom_4 10 rfl rfl)
theorem dX2_seatsFrom_104 : decode cX2_seatsFrom 104 = .ok (.getfield 142, 3) := dk_180 0 142 (dk_at dksX2_seatsFrom_4 11 rfl rfl)
theorem dX2_seatsFrom_107 : decode cX2_seatsFrom 107 = .ok (.iload 9, 2) := dk_21 9 (dk_at dksX2_seatsFrom_4 14 rfl rfl)
theorem dX2_seatsFrom_109 : decode cX2_seatsFrom 109 = .ok (.iaload, 1) := dk_46 (dk_at dksX2_seatsFrom_4 16 rfl rfl)
theorem dX2_seatsFrom_110 : decode cX2_seatsFrom 110 = .ok (.iadd, 1) := dk_96 (dk_at dksX2_seatsFrom_4 17 rfl rfl)
theorem dX2_seatsFrom_111 : decode cX2_seatsFrom 111 = .ok (.istore 6, 2) := dk_54 6 (dk_at dksX2_seatsFrom_4 18 rfl rfl)
theorem dX2_seatsFrom_113 : decode cX2_seatsFrom 113 = .ok (.iload 7, 2) := dk_21 7 (dk_at dksX2_seatsFrom_4 20 rfl rfl)
theorem dX2_seatsFrom_115 : decode cX2_seatsFrom 115 = .ok (.aload_n 0, 1) := dk_42 (dk_at dksX2_seatsFrom_4 22 rfl rfl)
theorem dX2_seatsFrom_116 : decode cX2_seatsFrom 116 = .ok (.getfield 145, 3) := dk_180 0 145 (dk_at dksX2_seatsFrom_5 0 rfl rfl)
theorem dX2_seatsFrom_119 : decode cX2_seatsFrom 119 = .ok (.iload 9, 2) := dk_21 9 (dk_at dksX2_seatsFrom_5 3 rfl rfl)
theorem dX2_seatsFrom_121 : decode cX2_seatsFrom 121 = .ok (.iaload, 1) := dk_46 (dk_at dksX2_seatsFrom_5 5 rfl rfl)
theorem dX2_seatsFrom_122 : decode cX2_seatsFrom 122 = .ok (.invokestatic 334, 3) := dk_184 1 78 (dk_at dksX2_seatsFrom_5 6 rfl rfl)
theorem dX2_seatsFrom_125 : decode cX2_seatsFrom 125 = .ok (.istore 7, 2) := dk_54 7 (dk_at dksX2_seatsFrom_5 9 rfl rfl)
theorem dX2_seatsFrom_127 : decode cX2_seatsFrom 127 = .ok (.iinc 8 1, 3) := dk_132 8 1 (dk_at dksX2_seatsFrom_5 11 rfl rfl)
theorem dX2_seatsFrom_130 : decode cX2_seatsFrom 130 = .ok (.goto (-61), 3) := dk_167 255 195 (dk_at dksX2_seatsFrom_5 14 rfl rfl)
theorem dX2_seatsFrom_133 : decode cX2_seatsFrom 133 = .ok (.aload_n 0, 1) := dk_42 (dk_at dksX2_seatsFrom_5 17 rfl rfl)
theorem dX2_seatsFrom_134 : decode cX2_seatsFrom 134 = .ok (.iload_n 1, 1) := dk_27 (dk_at dksX2_seatsFrom_5 18 rfl rfl)
theorem dX2_seatsFrom_135 : decode cX2_seatsFrom 135 = .ok (.iconst 1, 1) := dk_4 (dk_at dksX2_seatsFrom_5 19 rfl rfl)
theorem dX2_seatsFrom_136 : decode cX2_seatsFrom 136 = .ok (.iadd, 1) := dk_96 (dk_at dksX2_seatsFrom_5 20 rfl rfl)
theorem dX2_seatsFrom_137 : decode cX2_seatsFrom 137 = .ok (.iload_n 2, 1) := dk_28 (dk_at dksX2_seatsFrom_5 21 rfl rfl)
theorem dX2_seatsFrom_138 : decode cX2_seatsFrom 138 = .ok (.iconst 1, 1) := dk_4 (dk_at dksX2_seatsFrom_5 22 rfl rfl)
theorem dX2_seatsFrom_139 : decode cX2_seatsFrom 139 = .ok (.iload 5, 2) := dk_21 5 (dk_at dksX2_seatsFrom_6 0 rfl rfl)
theorem dX2_seatsFrom_141 : decode cX2_seatsFrom 141 = .ok (.ishl, 1) := dk_120 (dk_at dksX2_seatsFrom_6 2 rfl rfl)
theorem dX2_seatsFrom_142 : decode cX2_seatsFrom 142 = .ok (.ior, 1) := dk_128 (dk_at dksX2_seatsFrom_6 3 rfl rfl)
theorem dX2_seatsFrom_143 : decode cX2_seatsFrom 143 = .ok (.iload 6, 2) := dk_21 6 (dk_at dksX2_seatsFrom_6 4 rfl rfl)
theorem dX2_seatsFrom_145 : decode cX2_seatsFrom 145 = .ok (.iload 7, 2) := dk_21 7 (dk_at dksX2_seatsFrom_6 6 rfl rfl)
theorem dX2_seatsFrom_147 : decode cX2_seatsFrom 147 = .ok (.invokevirtual 436, 3) := dk_182 1 180 (dk_at dksX2_seatsFrom_6 8 rfl rfl)
theorem dX2_seatsFrom_150 : decode cX2_seatsFrom 150 = .ok (.iinc 5 1, 3) := dk_132 5 1 (dk_at dksX2_seatsFrom_6 11 rfl rfl)
theorem dX2_seatsFrom_153 : decode cX2_seatsFrom 153 = .ok (.goto (-134), 3) := dk_167 255 122 (dk_at dksX2_seatsFrom_6 14 rfl rfl)
theorem dX2_seatsFrom_156 : decode cX2_seatsFrom 156 = .ok (.return_, 1) := dk_177 (dk_at dksX2_seatsFrom_6 17 rfl rfl)
abbrev cX2_meets : ByteArray := prog_26_method_73_code
def yX2_meets : MethodName := ⟨RX2, "meets", "(II)V"⟩
def dkwX2_meets_13 : List UInt8 := [180, 0, 163, 42, 180, 0, 148, 29, 46, 92, 46, 4, 29, 120, 128, 79, 132, 3, 1, 167, 255, 206, 177]
abbrev dktX2_meets_13 : List UInt8 := dkwX2_meets_13 ++ []
def dkwX2_meets_12 : List UInt8 := [180, 0, 160, 29, 46, 42, 180, 0, 148, 29, 46, 159, 0, 10, 42, 180, 0, 160, 29, 2, 79, 42]
abbrev dktX2_meets_12 : List UInt8 := dkwX2_meets_12 ++ dktX2_meets_13
def dkwX2_meets_11 : List UInt8 := [177, 42, 89, 180, 1, 171, 4, 96, 181, 1, 171, 3, 62, 29, 42, 180, 1, 126, 162, 0, 48, 42]
abbrev dktX2_meets_11 : List UInt8 := dkwX2_meets_11 ++ dktX2_meets_12
def dkwX2_meets_10 : List UInt8 := [162, 0, 16, 42, 180, 0, 163, 29, 3, 79, 132, 3, 1, 167, 255, 240, 27, 42, 180, 1, 168, 164, 0, 4]
abbrev dktX2_meets_10 : List UInt8 := dkwX2_meets_10 ++ dktX2_meets_11
def dkwX2_meets_9 : List UInt8 := [180, 0, 160, 29, 42, 180, 0, 148, 29, 46, 79, 132, 3, 1, 167, 255, 233, 3, 62, 29, 16, 8]
abbrev dktX2_meets_9 : List UInt8 := dkwX2_meets_9 ++ dktX2_meets_10
def dkwX2_meets_8 : List UInt8 := [42, 3, 181, 1, 171, 42, 42, 180, 0, 151, 182, 1, 158, 3, 62, 29, 42, 180, 1, 126, 162, 0, 21, 42]
abbrev dktX2_meets_8 : List UInt8 := dkwX2_meets_8 ++ dktX2_meets_9
def dkwX2_meets_7 : List UInt8 := [182, 1, 158, 42, 180, 1, 168, 2, 159, 0, 11, 27, 42, 180, 1, 168, 162, 0, 70, 42, 27, 181, 1, 168]
abbrev dktX2_meets_7 : List UInt8 := dkwX2_meets_7 ++ dktX2_meets_8
def dkwX2_meets_6 : List UInt8 := [42, 180, 1, 165, 162, 0, 21, 42, 28, 181, 1, 162, 42, 27, 181, 1, 165, 42, 42, 180, 0, 154]
abbrev dktX2_meets_6 : List UInt8 := dkwX2_meets_6 ++ dktX2_meets_7
def dkwX2_meets_5 : List UInt8 := [180, 1, 162, 2, 159, 0, 27, 28, 42, 180, 1, 162, 161, 0, 19, 28, 42, 180, 1, 162, 160, 0, 29, 27]
abbrev dktX2_meets_5 : List UInt8 := dkwX2_meets_5 ++ dktX2_meets_6
def dkwX2_meets_4 : List UInt8 := [180, 1, 155, 161, 0, 4, 177, 42, 29, 181, 1, 155, 42, 42, 180, 0, 157, 182, 1, 158, 177, 42]
abbrev dktX2_meets_4 : List UInt8 := dkwX2_meets_4 ++ dktX2_meets_5
def dkwX2_meets_3 : List UInt8 := [132, 4, 1, 167, 255, 195, 27, 42, 180, 1, 152, 163, 0, 19, 42, 180, 1, 155, 2, 159, 0, 12, 29, 42]
abbrev dktX2_meets_3 : List UInt8 := dkwX2_meets_3 ++ dktX2_meets_4
def dkwX2_meets_2 : List UInt8 := [180, 0, 136, 21, 4, 46, 46, 42, 180, 0, 148, 21, 4, 46, 159, 0, 7, 4, 167, 0, 4, 3, 96, 62]
abbrev dktX2_meets_2 : List UInt8 := dkwX2_meets_2 ++ dktX2_meets_3
def dkwX2_meets_1 : List UInt8 := [180, 0, 87, 42, 180, 0, 136, 21, 4, 46, 46, 42, 180, 1, 149, 160, 0, 29, 42, 180, 0, 90, 42]
abbrev dktX2_meets_1 : List UInt8 := dkwX2_meets_1 ++ dktX2_meets_2
def dkwX2_meets_0 : List UInt8 := [42, 180, 1, 145, 153, 0, 111, 3, 62, 3, 54, 4, 21, 4, 42, 180, 1, 126, 162, 0, 58, 29, 42]
abbrev dktX2_meets_0 : List UInt8 := dkwX2_meets_0 ++ dktX2_meets_1
theorem dksX2_meets_0 : cX2_meets.data.toList.drop 0 = dktX2_meets_0 := by decide +kernel
theorem dksX2_meets_1 : cX2_meets.data.toList.drop 23 = dktX2_meets_1 := dk_seg dksX2_meets_0 23 rfl rfl
theorem dksX2_meets_2 : cX2_meets.data.toList.drop 46 = dktX2_meets_2 := dk_seg dksX2_meets_1 23 rfl rfl
theorem dksX2_meets_3 : cX2_meets.data.toList.drop 70 = dktX2_meets_3 := dk_seg dksX2_meets_2 24 rfl rfl
theorem dksX2_meets_4 : cX2_meets.data.toList.drop 94 = dktX2_meets_4 := dk_seg dksX2_meets_3 24 rfl rfl
theorem dksX2_meets_5 : cX2_meets.data.toList.drop 116 = dktX2_meets_5 := dk_seg dksX2_meets_4 22 rfl rfl
theorem dksX2_meets_6 : cX2_meets.data.toList.drop 140 = dktX2_meets_6 := dk_seg dksX2_meets_5 24 rfl rfl
theorem dksX2_meets_7 : cX2_meets.data.toList.drop 162 = dktX2_meets_7 := dk_seg dksX2_meets_6 22 rfl rfl
theorem dksX2_meets_8 : cX2_meets.data.toList.drop 186 = dktX2_meets_8 := dk_seg dksX2_meets_7 24 rfl rfl
theorem dksX2_meets_9 : cX2_meets.data.toList.drop 210 = dktX2_meets_9 := dk_seg dksX2_meets_8 24 rfl rfl
theorem dksX2_meets_10 : cX2_meets.data.toList.drop 232 = dktX2_meets_10 := dk_seg dksX2_meets_9 22 rfl rfl
theorem dksX2_meets_11 : cX2_meets.data.toList.drop 256 = dktX2_meets_11 := dk_seg dksX2_meets_10 24 rfl rfl
theorem dksX2_meets_12 : cX2_meets.data.toList.drop 278 = dktX2_meets_12 := dk_seg dksX2_meets_11 22 rfl rfl
theorem dksX2_meets_13 : cX2_meets.data.toList.drop 300 = dktX2_meets_13 := dk_seg dksX2_meets_12 22 rfl rfl
theorem dX2_meets_0 : decode cX2_meets 0 = .ok (.aload_n 0, 1) := dk_42 (dk_at dksX2_meets_0 0 rfl rfl)
theorem dX2_meets_1 : decode cX2_meets 1 = .ok (.getfield 401, 3) := dk_180 1 145 (dk_at dksX2_meets_0 1 rfl rfl)
theorem dX2_meets_4 : decode cX2_meets 4 = .ok (.ifCond .eq 111, 3) := dk_153 0 111 (dk_at dksX2_meets_0 4 rfl rfl)
theorem dX2_meets_7 : decode cX2_meets 7 = .ok (.iconst 0, 1) := dk_3 (dk_at dksX2_meets_0 7 rfl rfl)
theorem dX2_meets_8 : decode cX2_meets 8 = .ok (.istore_n 3, 1) := dk_62 (dk_at dksX2_meets_0 8 rfl rfl)
theorem dX2_meets_9 : decode cX2_meets 9 = .ok (.iconst 0, 1) := dk_3 (dk_at dksX2_meets_0 9 rfl rfl)
theorem dX2_meets_10 : decode cX2_meets 10 = .ok (.istore 4, 2) := dk_54 4 (dk_at dksX2_meets_0 10 rfl rfl)
theorem dX2_meets_12 : decode cX2_meets 12 = .ok (.iload 4, 2) := dk_21 4 (dk_at dksX2_meets_0 12 rfl rfl)
theorem dX2_meets_14 : decode cX2_meets 14 = .ok (.aload_n 0, 1) := dk_42 (dk_at dksX2_meets_0 14 rfl rfl)
theorem dX2_meets_15 : decode cX2_meets 15 = .ok (.getfield 382, 3) := dk_180 1 126 (dk_at dksX2_meets_0 15 rfl rfl)
theorem dX2_meets_18 : decode cX2_meets 18 = .ok (.if_icmp .ge 58, 3) := dk_162 0 58 (dk_at dksX2_meets_0 18 rfl rfl)
theorem dX2_meets_21 : decode cX2_meets 21 = .ok (.iload_n 3, 1) := dk_29 (dk_at dksX2_meets_0 21 rfl rfl)
theorem dX2_meets_22 : decode cX2_meets 22 = .ok (.aload_n 0, 1) := dk_42 (dk_at dksX2_meets_0 22 rfl rfl)
theorem dX2_meets_23 : decode cX2_meets 23 = .ok (.getfield 87, 3) := dk_180 0 87 (dk_at dksX2_meets_1 0 rfl rfl)
theorem dX2_meets_26 : decode cX2_meets 26 = .ok (.aload_n 0, 1) := dk_42 (dk_at dksX2_meets_1 3 rfl rfl)
theorem dX2_meets_27 : decode cX2_meets 27 = .ok (.getfield 136, 3) := dk_180 0 136 (dk_at dksX2_meets_1 4 rfl rfl)
theorem dX2_meets_30 : decode cX2_meets 30 = .ok (.iload 4, 2) := dk_21 4 (dk_at dksX2_meets_1 7 rfl rfl)
theorem dX2_meets_32 : decode cX2_meets 32 = .ok (.iaload, 1) := dk_46 (dk_at dksX2_meets_1 9 rfl rfl)
theorem dX2_meets_33 : decode cX2_meets 33 = .ok (.iaload, 1) := dk_46 (dk_at dksX2_meets_1 10 rfl rfl)
theorem dX2_meets_34 : decode cX2_meets 34 = .ok (.aload_n 0, 1) := dk_42 (dk_at dksX2_meets_1 11 rfl rfl)
theorem dX2_meets_35 : decode cX2_meets 35 = .ok (.getfield 405, 3) := dk_180 1 149 (dk_at dksX2_meets_1 12 rfl rfl)
theorem dX2_meets_38 : decode cX2_meets 38 = .ok (.if_icmp .ne 29, 3) := dk_160 0 29 (dk_at dksX2_meets_1 15 rfl rfl)
theorem dX2_meets_41 : decode cX2_meets 41 = .ok (.aload_n 0, 1) := dk_42 (dk_at dksX2_meets_1 18 rfl rfl)
theorem dX2_meets_42 : decode cX2_meets 42 = .ok (.getfield 90, 3) := dk_180 0 90 (dk_at dksX2_meets_1 19 rfl rfl)
theorem dX2_meets_45 : decode cX2_meets 45 = .ok (.aload_n 0, 1) := dk_42 (dk_at dksX2_meets_1 22 rfl rfl)
theorem dX2_meets_46 : decode cX2_meets 46 = .ok (.getfield 136, 3) := dk_180 0 136 (dk_at dksX2_meets_2 0 rfl rfl)
theorem dX2_meets_49 : decode cX2_meets 49 = .ok (.iload 4, 2) := dk_21 4 (dk_at dksX2_meets_2 3 rfl rfl)
theorem dX2_meets_51 : decode cX2_meets 51 = .ok (.iaload, 1) := dk_46 (dk_at dksX2_meets_2 5 rfl rfl)
theorem dX2_meets_52 : decode cX2_meets 52 = .ok (.iaload, 1) := dk_46 (dk_at dksX2_meets_2 6 rfl rfl)
theorem dX2_meets_53 : decode cX2_meets 53 = .ok (.aload_n 0, 1) := dk_42 (dk_at dksX2_meets_2 7 rfl rfl)
theorem dX2_meets_54 : decode cX2_meets 54 = .ok (.getfield 148, 3) := dk_180 0 148 (dk_at dksX2_meets_2 8 rfl rfl)
theorem dX2_meets_57 : decode cX2_meets 57 = .ok (.iload 4, 2) := dk_21 4 (dk_at dksX2_meets_2 11 rfl rfl)
theorem dX2_meets_59 : decode cX2_meets 59 = .ok (.iaload, 1) := dk_46 (dk_at dksX2_meets_2 13 rfl rfl)
theorem dX2_meets_60 : decode cX2_meets 60 = .ok (.if_icmp .eq 7, 3) := dk_159 0 7 (dk_at dksX2_meets_2 14 rfl rfl)
theorem dX2_meets_63 : decode cX2_meets 63 = .ok (.iconst 1, 1) := dk_4 (dk_at dksX2_meets_2 17 rfl rfl)
theorem dX2_meets_64 : decode cX2_meets 64 = .ok (.goto 4, 3) := dk_167 0 4 (dk_at dksX2_meets_2 18 rfl rfl)
theorem dX2_meets_67 : decode cX2_meets 67 = .ok (.iconst 0, 1) := dk_3 (dk_at dksX2_meets_2 21 rfl rfl)
theorem dX2_meets_68 : decode cX2_meets 68 = .ok (.iadd, 1) := dk_96 (dk_at dksX2_meets_2 22 rfl rfl)
theorem dX2_meets_69 : decode cX2_meets 69 = .ok (.istore_n 3, 1) := dk_62 (dk_at dksX2_meets_2 23 rfl rfl)
theorem dX2_meets_70 : decode cX2_meets 70 = .ok (.iinc 4 1, 3) := dk_132 4 1 (dk_at dksX2_meets_3 0 rfl rfl)
theorem dX2_meets_73 : decode cX2_meets 73 = .ok (.goto (-61), 3) := dk_167 255 195 (dk_at dksX2_meets_3 3 rfl rfl)
theorem dX2_meets_76 : decode cX2_meets 76 = .ok (.iload_n 1, 1) := dk_27 (dk_at dksX2_meets_3 6 rfl rfl)
theorem dX2_meets_77 : decode cX2_meets 77 = .ok (.aload_n 0, 1) := dk_42 (dk_at dksX2_meets_3 7 rfl rfl)
theorem dX2_meets_78 : decode cX2_meets 78 = .ok (.getfield 408, 3) := dk_180 1 152 (dk_at dksX2_meets_3 8 rfl rfl)
theorem dX2_meets_81 : decode cX2_meets 81 = .ok (.if_icmp .gt 19, 3) := dk_163 0 19 (dk_at dksX2_meets_3 11 rfl rfl)
theorem dX2_meets_84 : decode cX2_meets 84 = .ok (.aload_n 0, 1) := dk_42 (dk_at dksX2_meets_3 14 rfl rfl)
theorem dX2_meets_85 : decode cX2_meets 85 = .ok (.getfield 411, 3) := dk_180 1 155 (dk_at dksX2_meets_3 15 rfl rfl)
theorem dX2_meets_88 : decode cX2_meets 88 = .ok (.iconst (-1), 1) := dk_2 (dk_at dksX2_meets_3 18 rfl rfl)
theorem dX2_meets_89 : decode cX2_meets 89 = .ok (.if_icmp .eq 12, 3) := dk_159 0 12 (dk_at dksX2_meets_3 19 rfl rfl)
theorem dX2_meets_92 : decode cX2_meets 92 = .ok (.iload_n 3, 1) := dk_29 (dk_at dksX2_meets_3 22 rfl rfl)
theorem dX2_meets_93 : decode cX2_meets 93 = .ok (.aload_n 0, 1) := dk_42 (dk_at dksX2_meets_3 23 rfl rfl)
theorem dX2_meets_94 : decode cX2_meets 94 = .ok (.getfield 411, 3) := dk_180 1 155 (dk_at dksX2_meets_4 0 rfl rfl)
theorem dX2_meets_97 : decode cX2_meets 97 = .ok (.if_icmp .lt 4, 3) := dk_161 0 4 (dk_at dksX2_meets_4 3 rfl rfl)
theorem dX2_meets_100 : decode cX2_meets 100 = .ok (.return_, 1) := dk_177 (dk_at dksX2_meets_4 6 rfl rfl)
theorem dX2_meets_101 : decode cX2_meets 101 = .ok (.aload_n 0, 1) := dk_42 (dk_at dksX2_meets_4 7 rfl rfl)
theorem dX2_meets_102 : decode cX2_meets 102 = .ok (.iload_n 3, 1) := dk_29 (dk_at dksX2_meets_4 8 rfl rfl)
theorem dX2_meets_103 : decode cX2_meets 103 = .ok (.putfield 411, 3) := dk_181 1 155 (dk_at dksX2_meets_4 9 rfl rfl)
theorem dX2_meets_106 : decode cX2_meets 106 = .ok (.aload_n 0, 1) := dk_42 (dk_at dksX2_meets_4 12 rfl rfl)
theorem dX2_meets_107 : decode cX2_meets 107 = .ok (.aload_n 0, 1) := dk_42 (dk_at dksX2_meets_4 13 rfl rfl)
theorem dX2_meets_108 : decode cX2_meets 108 = .ok (.getfield 157, 3) := dk_180 0 157 (dk_at dksX2_meets_4 14 rfl rfl)
theorem dX2_meets_111 : decode cX2_meets 111 = .ok (.invokevirtual 414, 3) := dk_182 1 158 (dk_at dksX2_meets_4 17 rfl rfl)
theorem dX2_meets_114 : decode cX2_meets 114 = .ok (.return_, 1) := dk_177 (dk_at dksX2_meets_4 20 rfl rfl)
theorem dX2_meets_115 : decode cX2_meets 115 = .ok (.aload_n 0, 1) := dk_42 (dk_at dksX2_meets_4 21 rfl rfl)
theorem dX2_meets_116 : decode cX2_meets 116 = .ok (.getfield 418, 3) := dk_180 1 162 (dk_at dksX2_meets_5 0 rfl rfl)
theorem dX2_meets_119 : decode cX2_meets 119 = .ok (.iconst (-1), 1) := dk_2 (dk_at dksX2_meets_5 3 rfl rfl)
theorem dX2_meets_120 : decode cX2_meets 120 = .ok (.if_icmp .eq 27, 3) := dk_159 0 27 (dk_at dksX2_meets_5 4 rfl rfl)
theorem dX2_meets_123 : decode cX2_meets 123 = .ok (.iload_n 2, 1) := dk_28 (dk_at dksX2_meets_5 7 rfl rfl)
theorem dX2_meets_124 : decode cX2_meets 124 = .ok (.aload_n 0, 1) := dk_42 (dk_at dksX2_meets_5 8 rfl rfl)
theorem dX2_meets_125 : decode cX2_meets 125 = .ok (.getfield 418, 3) := dk_180 1 162 (dk_at dksX2_meets_5 9 rfl rfl)
theorem dX2_meets_128 : decode cX2_meets 128 = .ok (.if_icmp .lt 19, 3) := dk_161 0 19 (dk_at dksX2_meets_5 12 rfl rfl)
theorem dX2_meets_131 : decode cX2_meets 131 = .ok (.iload_n 2, 1) := dk_28 (dk_at dksX2_meets_5 15 rfl rfl)
theorem dX2_meets_132 : decode cX2_meets 132 = .ok (.aload_n 0, 1) := dk_42 (dk_at dksX2_meets_5 16 rfl rfl)
theorem dX2_meets_133 : decode cX2_meets 133 = .ok (.getfield 418, 3) := dk_180 1 162 (dk_at dksX2_meets_5 17 rfl rfl)
theorem dX2_meets_136 : decode cX2_meets 136 = .ok (.if_icmp .ne 29, 3) := dk_160 0 29 (dk_at dksX2_meets_5 20 rfl rfl)
theorem dX2_meets_139 : decode cX2_meets 139 = .ok (.iload_n 1, 1) := dk_27 (dk_at dksX2_meets_5 23 rfl rfl)
theorem dX2_meets_140 : decode cX2_meets 140 = .ok (.aload_n 0, 1) := dk_42 (dk_at dksX2_meets_6 0 rfl rfl)
theorem dX2_meets_141 : decode cX2_meets 141 = .ok (.getfield 421, 3) := dk_180 1 165 (dk_at dksX2_meets_6 1 rfl rfl)
theorem dX2_meets_144 : decode cX2_meets 144 = .ok (.if_icmp .ge 21, 3) := dk_162 0 21 (dk_at dksX2_meets_6 4 rfl rfl)
theorem dX2_meets_147 : decode cX2_meets 147 = .ok (.aload_n 0, 1) := dk_42 (dk_at dksX2_meets_6 7 rfl rfl)
theorem dX2_meets_148 : decode cX2_meets 148 = .ok (.iload_n 2, 1) := dk_28 (dk_at dksX2_meets_6 8 rfl rfl)
theorem dX2_meets_149 : decode cX2_meets 149 = .ok (.putfield 418, 3) := dk_181 1 162 (dk_at dksX2_meets_6 9 rfl rfl)
theorem dX2_meets_152 : decode cX2_meets 152 = .ok (.aload_n 0, 1) := dk_42 (dk_at dksX2_meets_6 12 rfl rfl)
theorem dX2_meets_153 : decode cX2_meets 153 = .ok (.iload_n 1, 1) := dk_27 (dk_at dksX2_meets_6 13 rfl rfl)
theorem dX2_meets_154 : decode cX2_meets 154 = .ok (.putfield 421, 3) := dk_181 1 165 (dk_at dksX2_meets_6 14 rfl rfl)
theorem dX2_meets_157 : decode cX2_meets 157 = .ok (.aload_n 0, 1) := dk_42 (dk_at dksX2_meets_6 17 rfl rfl)
theorem dX2_meets_158 : decode cX2_meets 158 = .ok (.aload_n 0, 1) := dk_42 (dk_at dksX2_meets_6 18 rfl rfl)
theorem dX2_meets_159 : decode cX2_meets 159 = .ok (.getfield 154, 3) := dk_180 0 154 (dk_at dksX2_meets_6 19 rfl rfl)
theorem dX2_meets_162 : decode cX2_meets 162 = .ok (.invokevirtual 414, 3) := dk_182 1 158 (dk_at dksX2_meets_7 0 rfl rfl)
theorem dX2_meets_165 : decode cX2_meets 165 = .ok (.aload_n 0, 1) := dk_42 (dk_at dksX2_meets_7 3 rfl rfl)
theorem dX2_meets_166 : decode cX2_meets 166 = .ok (.getfield 424, 3) := dk_180 1 168 (dk_at dksX2_meets_7 4 rfl rfl)
theorem dX2_meets_169 : decode cX2_meets 169 = .ok (.iconst (-1), 1) := dk_2 (dk_at dksX2_meets_7 7 rfl rfl)
theorem dX2_meets_170 : decode cX2_meets 170 = .ok (.if_icmp .eq 11, 3) := dk_159 0 11 (dk_at dksX2_meets_7 8 rfl rfl)
theorem dX2_meets_173 : decode cX2_meets 173 = .ok (.iload_n 1, 1) := dk_27 (dk_at dksX2_meets_7 11 rfl rfl)
theorem dX2_meets_174 : decode cX2_meets 174 = .ok (.aload_n 0, 1) := dk_42 (dk_at dksX2_meets_7 12 rfl rfl)
theorem dX2_meets_175 : decode cX2_meets 175 = .ok (.getfield 424, 3) := dk_180 1 168 (dk_at dksX2_meets_7 13 rfl rfl)
theorem dX2_meets_178 : decode cX2_meets 178 = .ok (.if_icmp .ge 70, 3) := dk_162 0 70 (dk_at dksX2_meets_7 16 rfl rfl)
theorem dX2_meets_181 : decode cX2_meets 181 = .ok (.aload_n 0, 1) := dk_42 (dk_at dksX2_meets_7 19 rfl rfl)
theorem dX2_meets_182 : decode cX2_meets 182 = .ok (.iload_n 1, 1) := dk_27 (dk_at dksX2_meets_7 20 rfl rfl)
theorem dX2_meets_183 : decode cX2_meets 183 = .ok (.putfield 424, 3) := dk_181 1 168 (dk_at dksX2_meets_7 21 rfl rfl)
theorem dX2_meets_186 : decode cX2_meets 186 = .ok (.aload_n 0, 1) := dk_42 (dk_at dksX2_meets_8 0 rfl rfl)
theorem dX2_meets_187 : decode cX2_meets 187 = .ok (.iconst 0, 1) := dk_3 (dk_at dksX2_meets_8 1 rfl rfl)
theorem dX2_meets_188 : decode cX2_meets 188 = .ok (.putfield 427, 3) := dk_181 1 171 (dk_at dksX2_meets_8 2 rfl rfl)
theorem dX2_meets_191 : decode cX2_meets 191 = .ok (.aload_n 0, 1) := dk_42 (dk_at dksX2_meets_8 5 rfl rfl)
theorem dX2_meets_192 : decode cX2_meets 192 = .ok (.aload_n 0, 1) := dk_42 (dk_at dksX2_meets_8 6 rfl rfl)
theorem dX2_meets_193 : decode cX2_meets 193 = .ok (.getfield 151, 3) := dk_180 0 151 (dk_at dksX2_meets_8 7 rfl rfl)
theorem dX2_meets_196 : decode cX2_meets 196 = .ok (.invokevirtual 414, 3) := dk_182 1 158 (dk_at dksX2_meets_8 10 rfl rfl)
theorem dX2_meets_199 : decode cX2_meets 199 = .ok (.iconst 0, 1) := dk_3 (dk_at dksX2_meets_8 13 rfl rfl)
theorem dX2_meets_200 : decode cX2_meets 200 = .ok (.istore_n 3, 1) := dk_62 (dk_at dksX2_meets_8 14 rfl rfl)
theorem dX2_meets_201 : decode cX2_meets 201 = .ok (.iload_n 3, 1) := dk_29 (dk_at dksX2_meets_8 15 rfl rfl)
theorem dX2_meets_202 : decode cX2_meets 202 = .ok (.aload_n 0, 1) := dk_42 (dk_at dksX2_meets_8 16 rfl rfl)
theorem dX2_meets_203 : decode cX2_meets 203 = .ok (.getfield 382, 3) := dk_180 1 126 (dk_at dksX2_meets_8 17 rfl rfl)
theorem dX2_meets_206 : decode cX2_meets 206 = .ok (.if_icmp .ge 21, 3) := dk_162 0 21 (dk_at dksX2_meets_8 20 rfl rfl)
theorem dX2_meets_209 : decode cX2_meets 209 = .ok (.aload_n 0, 1) := dk_42 (dk_at dksX2_meets_8 23 rfl rfl)
theorem dX2_meets_210 : decode cX2_meets 210 = .ok (.getfield 160, 3) := dk_180 0 160 (dk_at dksX2_meets_9 0 rfl rfl)
theorem dX2_meets_213 : decode cX2_meets 213 = .ok (.iload_n 3, 1) := dk_29 (dk_at dksX2_meets_9 3 rfl rfl)
theorem dX2_meets_214 : decode cX2_meets 214 = .ok (.aload_n 0, 1) := dk_42 (dk_at dksX2_meets_9 4 rfl rfl)
theorem dX2_meets_215 : decode cX2_meets 215 = .ok (.getfield 148, 3) := dk_180 0 148 (dk_at dksX2_meets_9 5 rfl rfl)
theorem dX2_meets_218 : decode cX2_meets 218 = .ok (.iload_n 3, 1) := dk_29 (dk_at dksX2_meets_9 8 rfl rfl)
theorem dX2_meets_219 : decode cX2_meets 219 = .ok (.iaload, 1) := dk_46 (dk_at dksX2_meets_9 9 rfl rfl)
theorem dX2_meets_220 : decode cX2_meets 220 = .ok (.iastore, 1) := dk_79 (dk_at dksX2_meets_9 10 rfl rfl)
theorem dX2_meets_221 : decode cX2_meets 221 = .ok (.iinc 3 1, 3) := dk_132 3 1 (dk_at dksX2_meets_9 11 rfl rfl)
theorem dX2_meets_224 : decode cX2_meets 224 = .ok (.goto (-23), 3) := dk_167 255 233 (dk_at dksX2_meets_9 14 rfl rfl)
theorem dX2_meets_227 : decode cX2_meets 227 = .ok (.iconst 0, 1) := dk_3 (dk_at dksX2_meets_9 17 rfl rfl)
theorem dX2_meets_228 : decode cX2_meets 228 = .ok (.istore_n 3, 1) := dk_62 (dk_at dksX2_meets_9 18 rfl rfl)
theorem dX2_meets_229 : decode cX2_meets 229 = .ok (.iload_n 3, 1) := dk_29 (dk_at dksX2_meets_9 19 rfl rfl)
theorem dX2_meets_230 : decode cX2_meets 230 = .ok (.bipush 8, 2) := dk_16 8 (dk_at dksX2_meets_9 20 rfl rfl)
theorem dX2_meets_232 : decode cX2_meets 232 = .ok (.if_icmp .ge 16, 3) := dk_162 0 16 (dk_at dksX2_meets_10 0 rfl rfl)
theorem dX2_meets_235 : decode cX2_meets 235 = .ok (.aload_n 0, 1) := dk_42 (dk_at dksX2_meets_10 3 rfl rfl)
theorem dX2_meets_236 : decode cX2_meets 236 = .ok (.getfield 163, 3) := dk_180 0 163 (dk_at dksX2_meets_10 4 rfl rfl)
theorem dX2_meets_239 : decode cX2_meets 239 = .ok (.iload_n 3, 1) := dk_29 (dk_at dksX2_meets_10 7 rfl rfl)
theorem dX2_meets_240 : decode cX2_meets 240 = .ok (.iconst 0, 1) := dk_3 (dk_at dksX2_meets_10 8 rfl rfl)
theorem dX2_meets_241 : decode cX2_meets 241 = .ok (.iastore, 1) := dk_79 (dk_at dksX2_meets_10 9 rfl rfl)
theorem dX2_meets_242 : decode cX2_meets 242 = .ok (.iinc 3 1, 3) := dk_132 3 1 (dk_at dksX2_meets_10 10 rfl rfl)
theorem dX2_meets_245 : decode cX2_meets 245 = .ok (.goto (-16), 3) := dk_167 255 240 (dk_at dksX2_meets_10 13 rfl rfl)
theorem dX2_meets_248 : decode cX2_meets 248 = .ok (.iload_n 1, 1) := dk_27 (dk_at dksX2_meets_10 16 rfl rfl)
theorem dX2_meets_249 : decode cX2_meets 249 = .ok (.aload_n 0, 1) := dk_42 (dk_at dksX2_meets_10 17 rfl rfl)
theorem dX2_meets_250 : decode cX2_meets 250 = .ok (.getfield 424, 3) := dk_180 1 168 (dk_at dksX2_meets_10 18 rfl rfl)
theorem dX2_meets_253 : decode cX2_meets 253 = .ok (.if_icmp .le 4, 3) := dk_164 0 4 (dk_at dksX2_meets_10 21 rfl rfl)
theorem dX2_meets_256 : decode cX2_meets 256 = .ok (.return_, 1) := dk_177 (dk_at dksX2_meets_11 0 rfl rfl)
theorem dX2_meets_257 : decode cX2_meets 257 = .ok (.aload_n 0, 1) := dk_42 (dk_at dksX2_meets_11 1 rfl rfl)
theorem dX2_meets_258 : decode cX2_meets 258 = .ok (.dup, 1) := dk_89 (dk_at dksX2_meets_11 2 rfl rfl)
theorem dX2_meets_259 : decode cX2_meets 259 = .ok (.getfield 427, 3) := dk_180 1 171 (dk_at dksX2_meets_11 3 rfl rfl)
theorem dX2_meets_262 : decode cX2_meets 262 = .ok (.iconst 1, 1) := dk_4 (dk_at dksX2_meets_11 6 rfl rfl)
theorem dX2_meets_263 : decode cX2_meets 263 = .ok (.iadd, 1) := dk_96 (dk_at dksX2_meets_11 7 rfl rfl)
theorem dX2_meets_264 : decode cX2_meets 264 = .ok (.putfield 427, 3) := dk_181 1 171 (dk_at dksX2_meets_11 8 rfl rfl)
theorem dX2_meets_267 : decode cX2_meets 267 = .ok (.iconst 0, 1) := dk_3 (dk_at dksX2_meets_11 11 rfl rfl)
theorem dX2_meets_268 : decode cX2_meets 268 = .ok (.istore_n 3, 1) := dk_62 (dk_at dksX2_meets_11 12 rfl rfl)
theorem dX2_meets_269 : decode cX2_meets 269 = .ok (.iload_n 3, 1) := dk_29 (dk_at dksX2_meets_11 13 rfl rfl)
theorem dX2_meets_270 : decode cX2_meets 270 = .ok (.aload_n 0, 1) := dk_42 (dk_at dksX2_meets_11 14 rfl rfl)
theorem dX2_meets_271 : decode cX2_meets 271 = .ok (.getfield 382, 3) := dk_180 1 126 (dk_at dksX2_meets_11 15 rfl rfl)
theorem dX2_meets_274 : decode cX2_meets 274 = .ok (.if_icmp .ge 48, 3) := dk_162 0 48 (dk_at dksX2_meets_11 18 rfl rfl)
theorem dX2_meets_277 : decode cX2_meets 277 = .ok (.aload_n 0, 1) := dk_42 (dk_at dksX2_meets_11 21 rfl rfl)
theorem dX2_meets_278 : decode cX2_meets 278 = .ok (.getfield 160, 3) := dk_180 0 160 (dk_at dksX2_meets_12 0 rfl rfl)
theorem dX2_meets_281 : decode cX2_meets 281 = .ok (.iload_n 3, 1) := dk_29 (dk_at dksX2_meets_12 3 rfl rfl)
theorem dX2_meets_282 : decode cX2_meets 282 = .ok (.iaload, 1) := dk_46 (dk_at dksX2_meets_12 4 rfl rfl)
theorem dX2_meets_283 : decode cX2_meets 283 = .ok (.aload_n 0, 1) := dk_42 (dk_at dksX2_meets_12 5 rfl rfl)
theorem dX2_meets_284 : decode cX2_meets 284 = .ok (.getfield 148, 3) := dk_180 0 148 (dk_at dksX2_meets_12 6 rfl rfl)
theorem dX2_meets_287 : decode cX2_meets 287 = .ok (.iload_n 3, 1) := dk_29 (dk_at dksX2_meets_12 9 rfl rfl)
theorem dX2_meets_288 : decode cX2_meets 288 = .ok (.iaload, 1) := dk_46 (dk_at dksX2_meets_12 10 rfl rfl)
theorem dX2_meets_289 : decode cX2_meets 289 = .ok (.if_icmp .eq 10, 3) := dk_159 0 10 (dk_at dksX2_meets_12 11 rfl rfl)
theorem dX2_meets_292 : decode cX2_meets 292 = .ok (.aload_n 0, 1) := dk_42 (dk_at dksX2_meets_12 14 rfl rfl)
theorem dX2_meets_293 : decode cX2_meets 293 = .ok (.getfield 160, 3) := dk_180 0 160 (dk_at dksX2_meets_12 15 rfl rfl)
theorem dX2_meets_296 : decode cX2_meets 296 = .ok (.iload_n 3, 1) := dk_29 (dk_at dksX2_meets_12 18 rfl rfl)
theorem dX2_meets_297 : decode cX2_meets 297 = .ok (.iconst (-1), 1) := dk_2 (dk_at dksX2_meets_12 19 rfl rfl)
theorem dX2_meets_298 : decode cX2_meets 298 = .ok (.iastore, 1) := dk_79 (dk_at dksX2_meets_12 20 rfl rfl)
theorem dX2_meets_299 : decode cX2_meets 299 = .ok (.aload_n 0, 1) := dk_42 (dk_at dksX2_meets_12 21 rfl rfl)
theorem dX2_meets_300 : decode cX2_meets 300 = .ok (.getfield 163, 3) := dk_180 0 163 (dk_at dksX2_meets_13 0 rfl rfl)
theorem dX2_meets_303 : decode cX2_meets 303 = .ok (.aload_n 0, 1) := dk_42 (dk_at dksX2_meets_13 3 rfl rfl)
theorem dX2_meets_304 : decode cX2_meets 304 = .ok (.getfield 148, 3) := dk_180 0 148 (dk_at dksX2_meets_13 4 rfl rfl)
theorem dX2_meets_307 : decode cX2_meets 307 = .ok (.iload_n 3, 1) := dk_29 (dk_at dksX2_meets_13 7 rfl rfl)
theorem dX2_meets_308 : decode cX2_meets 308 = .ok (.iaload, 1) := dk_46 (dk_at dksX2_meets_13 8 rfl rfl)
theorem dX2_meets_309 : decode cX2_meets 309 = .ok (.dup2, 1) := dk_92 (dk_at dksX2_meets_13 9 rfl rfl)
theorem dX2_meets_310 : decode cX2_meets 310 = .ok (.iaload, 1) := dk_46 (dk_at dksX2_meets_13 10 rfl rfl)
theorem dX2_meets_311 : decode cX2_meets 311 = .ok (.iconst 1, 1) := dk_4 (dk_at dksX2_meets_13 11 rfl rfl)
theorem dX2_meets_312 : decode cX2_meets 312 = .ok (.iload_n 3, 1) := dk_29 (dk_at dksX2_meets_13 12 rfl rfl)
theorem dX2_meets_313 : decode cX2_meets 313 = .ok (.ishl, 1) := dk_120 (dk_at dksX2_meets_13 13 rfl rfl)
theorem dX2_meets_314 : decode cX2_meets 314 = .ok (.ior, 1) := dk_128 (dk_at dksX2_meets_13 14 rfl rfl)
theorem dX2_meets_315 : decode cX2_meets 315 = .ok (.iastore, 1) := dk_79 (dk_at dksX2_meets_13 15 rfl rfl)
theorem dX2_meets_316 : decode cX2_meets 316 = .ok (.iinc 3 1, 3) := dk_132 3 1 (dk_at dksX2_meets_13 16 rfl rfl)
theorem dX2_meets_319 : decode cX2_meets 319 = .ok (.goto (-50), 3) := dk_167 255 206 (dk_at dksX2_meets_13 19 rfl rfl)
theorem dX2_meets_322 : decode cX2_meets 322 = .ok (.return_, 1) := dk_177 (dk_at dksX2_meets_13 22 rfl rfl)
abbrev cX2_keepsIn : ByteArray := prog_26_method_72_code
def yX2_keepsIn : MethodName := ⟨RX2, "keepsIn", "([I)V"⟩
def dkwX2_keepsIn_1 : List UInt8 := [167, 255, 236, 177]
abbrev dktX2_keepsIn_1 : List UInt8 := dkwX2_keepsIn_1 ++ []
def dkwX2_keepsIn_0 : List UInt8 := [3, 61, 28, 42, 180, 1, 126, 162, 0, 18, 43, 28, 42, 180, 0, 148, 28, 46, 79, 132, 2, 1]
abbrev dktX2_keepsIn_0 : List UInt8 := dkwX2_keepsIn_0 ++ dktX2_keepsIn_1
theorem dksX2_keepsIn_0 : cX2_keepsIn.data.toList.drop 0 = dktX2_keepsIn_0 := by decide +kernel
theorem dksX2_keepsIn_1 : cX2_keepsIn.data.toList.drop 22 = dktX2_keepsIn_1 := dk_seg dksX2_keepsIn_0 22 rfl rfl
theorem dX2_keepsIn_0 : decode cX2_keepsIn 0 = .ok (.iconst 0, 1) := dk_3 (dk_at dksX2_keepsIn_0 0 rfl rfl)
theorem dX2_keepsIn_1 : decode cX2_keepsIn 1 = .ok (.istore_n 2, 1) := dk_61 (dk_at dksX2_keepsIn_0 1 rfl rfl)
theorem dX2_keepsIn_2 : decode cX2_keepsIn 2 = .ok (.iload_n 2, 1) := dk_28 (dk_at dksX2_keepsIn_0 2 rfl rfl)
theorem dX2_keepsIn_3 : decode cX2_keepsIn 3 = .ok (.aload_n 0, 1) := dk_42 (dk_at dksX2_keepsIn_0 3 rfl rfl)
theorem dX2_keepsIn_4 : decode cX2_keepsIn 4 = .ok (.getfield 382, 3) := dk_180 1 126 (dk_at dksX2_keepsIn_0 4 rfl rfl)
theorem dX2_keepsIn_7 : decode cX2_keepsIn 7 = .ok (.if_icmp .ge 18, 3) := dk_162 0 18 (dk_at dksX2_keepsIn_0 7 rfl rfl)
theorem dX2_keepsIn_10 : decode cX2_keepsIn 10 = .ok (.aload_n 1, 1) := dk_43 (dk_at dksX2_keepsIn_0 10 rfl rfl)
theorem dX2_keepsIn_11 : decode cX2_keepsIn 11 = .ok (.iload_n 2, 1) := dk_28 (dk_at dksX2_keepsIn_0 11 rfl rfl)
theorem dX2_keepsIn_12 : decode cX2_keepsIn 12 = .ok (.aload_n 0, 1) := dk_42 (dk_at dksX2_keepsIn_0 12 rfl rfl)
theorem dX2_keepsIn_13 : decode cX2_keepsIn 13 = .ok (.getfield 148, 3) := dk_180 0 148 (dk_at dksX2_keepsIn_0 13 rfl rfl)
theorem dX2_keepsIn_16 : decode cX2_keepsIn 16 = .ok (.iload_n 2, 1) := dk_28 (dk_at dksX2_keepsIn_0 16 rfl rfl)
theorem dX2_keepsIn_17 : decode cX2_keepsIn 17 = .ok (.iaload, 1) := dk_46 (dk_at dksX2_keepsIn_0 17 rfl rfl)
theorem dX2_keepsIn_18 : decode cX2_keepsIn 18 = .ok (.iastore, 1) := dk_79 (dk_at dksX2_keepsIn_0 18 rfl rfl)
theorem dX2_keepsIn_19 : decode cX2_keepsIn 19 = .ok (.iinc 2 1, 3) := dk_132 2 1 (dk_at dksX2_keepsIn_0 19 rfl rfl)
theorem dX2_keepsIn_22 : decode cX2_keepsIn 22 = .ok (.goto (-20), 3) := dk_167 255 236 (dk_at dksX2_keepsIn_1 0 rfl rfl)
theorem dX2_keepsIn_25 : decode cX2_keepsIn 25 = .ok (.return_, 1) := dk_177 (dk_at dksX2_keepsIn_1 3 rfl rfl)
abbrev cX2_staysElsewhere : ByteArray := prog_26_method_74_code
def yX2_staysElsewhere : MethodName := ⟨RX2, "staysElsewhere", "(II)Z"⟩
def dkwX2_staysElsewhere_2 : List UInt8 := [167, 0, 4, 3, 172]
abbrev dktX2_staysElsewhere_2 : List UInt8 := dkwX2_staysElsewhere_2 ++ []
def dkwX2_staysElsewhere_1 : List UInt8 := [180, 0, 87, 29, 46, 42, 180, 1, 149, 160, 0, 17, 42, 180, 0, 90, 29, 46, 28, 159, 0, 7, 4]
abbrev dktX2_staysElsewhere_1 : List UInt8 := dkwX2_staysElsewhere_1 ++ dktX2_staysElsewhere_2
def dkwX2_staysElsewhere_0 : List UInt8 := [42, 180, 0, 136, 27, 46, 62, 42, 180, 1, 145, 153, 0, 39, 42, 180, 0, 84, 29, 51, 153, 0, 30, 42]
abbrev dktX2_staysElsewhere_0 : List UInt8 := dkwX2_staysElsewhere_0 ++ dktX2_staysElsewhere_1
theorem dksX2_staysElsewhere_0 : cX2_staysElsewhere.data.toList.drop 0 = dktX2_staysElsewhere_0 := by decide +kernel
theorem dksX2_staysElsewhere_1 : cX2_staysElsewhere.data.toList.drop 24 = dktX2_staysElsewhere_1 := dk_seg dksX2_staysElsewhere_0 24 rfl rfl
theorem dksX2_staysElsewhere_2 : cX2_staysElsewhere.data.toList.drop 47 = dktX2_staysElsewhere_2 := dk_seg dksX2_staysElsewhere_1 23 rfl rfl
theorem dX2_staysElsewhere_0 : decode cX2_staysElsewhere 0 = .ok (.aload_n 0, 1) := dk_42 (dk_at dksX2_staysElsewhere_0 0 rfl rfl)
theorem dX2_staysElsewhere_1 : decode cX2_staysElsewhere 1 = .ok (.getfield 136, 3) := dk_180 0 136 (dk_at dksX2_staysElsewhere_0 1 rfl rfl)
theorem dX2_staysElsewhere_4 : decode cX2_staysElsewhere 4 = .ok (.iload_n 1, 1) := dk_27 (dk_at dksX2_staysElsewhere_0 4 rfl rfl)
theorem dX2_staysElsewhere_5 : decode cX2_staysElsewhere 5 = .ok (.iaload, 1) := dk_46 (dk_at dksX2_staysElsewhere_0 5 rfl rfl)
theorem dX2_staysElsewhere_6 : decode cX2_staysElsewhere 6 = .ok (.istore_n 3, 1) := dk_62 (dk_at dksX2_staysElsewhere_0 6 rfl rfl)
theorem dX2_staysElsewhere_7 : decode cX2_staysElsewhere 7 = .ok (.aload_n 0, 1) := dk_42 (dk_at dksX2_staysElsewhere_0 7 rfl rfl)
theorem dX2_staysElsewhere_8 : decode cX2_staysElsewhere 8 = .ok (.getfield 401, 3) := dk_180 1 145 (dk_at dksX2_staysElsewhere_0 8 rfl rfl)
theorem dX2_staysElsewhere_11 : decode cX2_staysElsewhere 11 = .ok (.ifCond .eq 39, 3) := dk_153 0 39 (dk_at dksX2_staysElsewhere_0 11 rfl rfl)
theorem dX2_staysElsewhere_14 : decode cX2_staysElsewhere 14 = .ok (.aload_n 0, 1) := dk_42 (dk_at dksX2_staysElsewhere_0 14 rfl rfl)
theorem dX2_staysElsewhere_15 : decode cX2_staysElsewhere 15 = .ok (.getfield 84, 3) := dk_180 0 84 (dk_at dksX2_staysElsewhere_0 15 rfl rfl)
theorem dX2_staysElsewhere_18 : decode cX2_staysElsewhere 18 = .ok (.iload_n 3, 1) := dk_29 (dk_at dksX2_staysElsewhere_0 18 rfl rfl)
theorem dX2_staysElsewhere_19 : decode cX2_staysElsewhere 19 = .ok (.baload, 1) := dk_51 (dk_at dksX2_staysElsewhere_0 19 rfl rfl)
theorem dX2_staysElsewhere_20 : decode cX2_staysElsewhere 20 = .ok (.ifCond .eq 30, 3) := dk_153 0 30 (dk_at dksX2_staysElsewhere_0 20 rfl rfl)
theorem dX2_staysElsewhere_23 : decode cX2_staysElsewhere 23 = .ok (.aload_n 0, 1) := dk_42 (dk_at dksX2_staysElsewhere_0 23 rfl rfl)
theorem dX2_staysElsewhere_24 : decode cX2_staysElsewhere 24 = .ok (.getfield 87, 3) := dk_180 0 87 (dk_at dksX2_staysElsewhere_1 0 rfl rfl)
theorem dX2_staysElsewhere_27 : decode cX2_staysElsewhere 27 = .ok (.iload_n 3, 1) := dk_29 (dk_at dksX2_staysElsewhere_1 3 rfl rfl)
theorem dX2_staysElsewhere_28 : decode cX2_staysElsewhere 28 = .ok (.iaload, 1) := dk_46 (dk_at dksX2_staysElsewhere_1 4 rfl rfl)
theorem dX2_staysElsewhere_29 : decode cX2_staysElsewhere 29 = .ok (.aload_n 0, 1) := dk_42 (dk_at dksX2_staysElsewhere_1 5 rfl rfl)
theorem dX2_staysElsewhere_30 : decode cX2_staysElsewhere 30 = .ok (.getfield 405, 3) := dk_180 1 149 (dk_at dksX2_staysElsewhere_1 6 rfl rfl)
theorem dX2_staysElsewhere_33 : decode cX2_staysElsewhere 33 = .ok (.if_icmp .ne 17, 3) := dk_160 0 17 (dk_at dksX2_staysElsewhere_1 9 rfl rfl)
theorem dX2_staysElsewhere_36 : decode cX2_staysElsewhere 36 = .ok (.aload_n 0, 1) := dk_42 (dk_at dksX2_staysElsewhere_1 12 rfl rfl)
theorem dX2_staysElsewhere_37 : decode cX2_staysElsewhere 37 = .ok (.getfield 90, 3) := dk_180 0 90 (dk_at dksX2_staysElsewhere_1 13 rfl rfl)
theorem dX2_staysElsewhere_40 : decode cX2_staysElsewhere 40 = .ok (.iload_n 3, 1) := dk_29 (dk_at dksX2_staysElsewhere_1 16 rfl rfl)
theorem dX2_staysElsewhere_41 : decode cX2_staysElsewhere 41 = .ok (.iaload, 1) := dk_46 (dk_at dksX2_staysElsewhere_1 17 rfl rfl)
theorem dX2_staysElsewhere_42 : decode cX2_staysElsewhere 42 = .ok (.iload_n 2, 1) := dk_28 (dk_at dksX2_staysElsewhere_1 18 rfl rfl)
theorem dX2_staysElsewhere_43 : decode cX2_staysElsewhere 43 = .ok (.if_icmp .eq 7, 3) := dk_159 0 7 (dk_at dksX2_staysElsewhere_1 19 rfl rfl)
theorem dX2_staysElsewhere_46 : decode cX2_staysElsewhere 46 = .ok (.iconst 1, 1) := dk_4 (dk_at dksX2_staysElsewhere_1 22 rfl rfl)
theorem dX2_staysElsewhere_47 : decode cX2_staysElsewhere 47 = .ok (.goto 4, 3) := dk_167 0 4 (dk_at dksX2_staysElsewhere_2 0 rfl rfl)
theorem dX2_staysElsewhere_50 : decode cX2_staysElsewhere 50 = .ok (.iconst 0, 1) := dk_3 (dk_at dksX2_staysElsewhere_2 3 rfl rfl)
theorem dX2_staysElsewhere_51 : decode cX2_staysElsewhere 51 = .ok (.ireturn, 1) := dk_172 (dk_at dksX2_staysElsewhere_2 4 rfl rfl)
abbrev cX2_best : ByteArray := prog_26_method_79_code
def yX2_best : MethodName := ⟨RX2, "best", "(IIZ)I"⟩
def dkwX2_best_2 : List UInt8 := [180, 0, 151, 42, 28, 182, 1, 191, 46, 172]
abbrev dktX2_best_2 : List UInt8 := dkwX2_best_2 ++ []
def dkwX2_best_1 : List UInt8 := [154, 0, 5, 2, 172, 29, 153, 0, 16, 42, 180, 0, 154, 42, 28, 182, 1, 191, 46, 167, 0, 13, 42]
abbrev dktX2_best_1 : List UInt8 := dkwX2_best_1 ++ dktX2_best_2
def dkwX2_best_0 : List UInt8 := [42, 28, 182, 1, 19, 153, 0, 21, 42, 180, 0, 81, 28, 51, 153, 0, 12, 42, 27, 3, 182, 1, 187]
abbrev dktX2_best_0 : List UInt8 := dkwX2_best_0 ++ dktX2_best_1
theorem dksX2_best_0 : cX2_best.data.toList.drop 0 = dktX2_best_0 := by decide +kernel
theorem dksX2_best_1 : cX2_best.data.toList.drop 23 = dktX2_best_1 := dk_seg dksX2_best_0 23 rfl rfl
theorem dksX2_best_2 : cX2_best.data.toList.drop 46 = dktX2_best_2 := dk_seg dksX2_best_1 23 rfl rfl
theorem dX2_best_0 : decode cX2_best 0 = .ok (.aload_n 0, 1) := dk_42 (dk_at dksX2_best_0 0 rfl rfl)
theorem dX2_best_1 : decode cX2_best 1 = .ok (.iload_n 2, 1) := dk_28 (dk_at dksX2_best_0 1 rfl rfl)
theorem dX2_best_2 : decode cX2_best 2 = .ok (.invokevirtual 275, 3) := dk_182 1 19 (dk_at dksX2_best_0 2 rfl rfl)
theorem dX2_best_5 : decode cX2_best 5 = .ok (.ifCond .eq 21, 3) := dk_153 0 21 (dk_at dksX2_best_0 5 rfl rfl)
theorem dX2_best_8 : decode cX2_best 8 = .ok (.aload_n 0, 1) := dk_42 (dk_at dksX2_best_0 8 rfl rfl)
theorem dX2_best_9 : decode cX2_best 9 = .ok (.getfield 81, 3) := dk_180 0 81 (dk_at dksX2_best_0 9 rfl rfl)
theorem dX2_best_12 : decode cX2_best 12 = .ok (.iload_n 2, 1) := dk_28 (dk_at dksX2_best_0 12 rfl rfl)
theorem dX2_best_13 : decode cX2_best 13 = .ok (.baload, 1) := dk_51 (dk_at dksX2_best_0 13 rfl rfl)
theorem dX2_best_14 : decode cX2_best 14 = .ok (.ifCond .eq 12, 3) := dk_153 0 12 (dk_at dksX2_best_0 14 rfl rfl)
theorem dX2_best_17 : decode cX2_best 17 = .ok (.aload_n 0, 1) := dk_42 (dk_at dksX2_best_0 17 rfl rfl)
theorem dX2_best_18 : decode cX2_best 18 = .ok (.iload_n 1, 1) := dk_27 (dk_at dksX2_best_0 18 rfl rfl)
theorem dX2_best_19 : decode cX2_best 19 = .ok (.iconst 0, 1) := dk_3 (dk_at dksX2_best_0 19 rfl rfl)
theorem dX2_best_20 : decode cX2_best 20 = .ok (.invokevirtual 443, 3) := dk_182 1 187 (dk_at dksX2_best_0 20 rfl rfl)
theorem dX2_best_23 : decode cX2_best 23 = .ok (.ifCond .ne 5, 3) := dk_154 0 5 (dk_at dksX2_best_1 0 rfl rfl)
theorem dX2_best_26 : decode cX2_best 26 = .ok (.iconst (-1), 1) := dk_2 (dk_at dksX2_best_1 3 rfl rfl)
theorem dX2_best_27 : decode cX2_best 27 = .ok (.ireturn, 1) := dk_172 (dk_at dksX2_best_1 4 rfl rfl)
theorem dX2_best_28 : decode cX2_best 28 = .ok (.iload_n 3, 1) := dk_29 (dk_at dksX2_best_1 5 rfl rfl)
theorem dX2_best_29 : decode cX2_best 29 = .ok (.ifCond .eq 16, 3) := dk_153 0 16 (dk_at dksX2_best_1 6 rfl rfl)
theorem dX2_best_32 : decode cX2_best 32 = .ok (.aload_n 0, 1) := dk_42 (dk_at dksX2_best_1 9 rfl rfl)
theorem dX2_best_33 : decode cX2_best 33 = .ok (.getfield 154, 3) := dk_180 0 154 (dk_at dksX2_best_1 10 rfl rfl)
theorem dX2_best_36 : decode cX2_best 36 = .ok (.aload_n 0, 1) := dk_42 (dk_at dksX2_best_1 13 rfl rfl)
theorem dX2_best_37 : decode cX2_best 37 = .ok (.iload_n 2, 1) := dk_28 (dk_at dksX2_best_1 14 rfl rfl)
theorem dX2_best_38 : decode cX2_best 38 = .ok (.invokevirtual 447, 3) := dk_182 1 191 (dk_at dksX2_best_1 15 rfl rfl)
theorem dX2_best_41 : decode cX2_best 41 = .ok (.iaload, 1) := dk_46 (dk_at dksX2_best_1 18 rfl rfl)
theorem dX2_best_42 : decode cX2_best 42 = .ok (.goto 13, 3) := dk_167 0 13 (dk_at dksX2_best_1 19 rfl rfl)
theorem dX2_best_45 : decode cX2_best 45 = .ok (.aload_n 0, 1) := dk_42 (dk_at dksX2_best_1 22 rfl rfl)
theorem dX2_best_46 : decode cX2_best 46 = .ok (.getfield 151, 3) := dk_180 0 151 (dk_at dksX2_best_2 0 rfl rfl)
theorem dX2_best_49 : decode cX2_best 49 = .ok (.aload_n 0, 1) := dk_42 (dk_at dksX2_best_2 3 rfl rfl)
theorem dX2_best_50 : decode cX2_best 50 = .ok (.iload_n 2, 1) := dk_28 (dk_at dksX2_best_2 4 rfl rfl)
theorem dX2_best_51 : decode cX2_best 51 = .ok (.invokevirtual 447, 3) := dk_182 1 191 (dk_at dksX2_best_2 5 rfl rfl)
theorem dX2_best_54 : decode cX2_best 54 = .ok (.iaload, 1) := dk_46 (dk_at dksX2_best_2 8 rfl rfl)
theorem dX2_best_55 : decode cX2_best 55 = .ok (.ireturn, 1) := dk_172 (dk_at dksX2_best_2 9 rfl rfl)
abbrev cX2_memberOf : ByteArray := prog_26_method_77_code
def yX2_memberOf : MethodName := ⟨RX2, "memberOf", "(I)I"⟩
def dkwX2_memberOf_1 : List UInt8 := [132, 2, 1, 167, 255, 233, 2, 172]
abbrev dktX2_memberOf_1 : List UInt8 := dkwX2_memberOf_1 ++ []
def dkwX2_memberOf_0 : List UInt8 := [3, 61, 28, 42, 180, 1, 126, 162, 0, 21, 42, 180, 0, 136, 28, 46, 27, 160, 0, 5, 28, 172]
abbrev dktX2_memberOf_0 : List UInt8 := dkwX2_memberOf_0 ++ dktX2_memberOf_1
theorem dksX2_memberOf_0 : cX2_memberOf.data.toList.drop 0 = dktX2_memberOf_0 := by decide +kernel
theorem dksX2_memberOf_1 : cX2_memberOf.data.toList.drop 22 = dktX2_memberOf_1 := dk_seg dksX2_memberOf_0 22 rfl rfl
theorem dX2_memberOf_0 : decode cX2_memberOf 0 = .ok (.iconst 0, 1) := dk_3 (dk_at dksX2_memberOf_0 0 rfl rfl)
theorem dX2_memberOf_1 : decode cX2_memberOf 1 = .ok (.istore_n 2, 1) := dk_61 (dk_at dksX2_memberOf_0 1 rfl rfl)
theorem dX2_memberOf_2 : decode cX2_memberOf 2 = .ok (.iload_n 2, 1) := dk_28 (dk_at dksX2_memberOf_0 2 rfl rfl)
theorem dX2_memberOf_3 : decode cX2_memberOf 3 = .ok (.aload_n 0, 1) := dk_42 (dk_at dksX2_memberOf_0 3 rfl rfl)
theorem dX2_memberOf_4 : decode cX2_memberOf 4 = .ok (.getfield 382, 3) := dk_180 1 126 (dk_at dksX2_memberOf_0 4 rfl rfl)
theorem dX2_memberOf_7 : decode cX2_memberOf 7 = .ok (.if_icmp .ge 21, 3) := dk_162 0 21 (dk_at dksX2_memberOf_0 7 rfl rfl)
theorem dX2_memberOf_10 : decode cX2_memberOf 10 = .ok (.aload_n 0, 1) := dk_42 (dk_at dksX2_memberOf_0 10 rfl rfl)
theorem dX2_memberOf_11 : decode cX2_memberOf 11 = .ok (.getfield 136, 3) := dk_180 0 136 (dk_at dksX2_memberOf_0 11 rfl rfl)
theorem dX2_memberOf_14 : decode cX2_memberOf 14 = .ok (.iload_n 2, 1) := dk_28 (dk_at dksX2_memberOf_0 14 rfl rfl)
theorem dX2_memberOf_15 : decode cX2_memberOf 15 = .ok (.iaload, 1) := dk_46 (dk_at dksX2_memberOf_0 15 rfl rfl)
theorem dX2_memberOf_16 : decode cX2_memberOf 16 = .ok (.iload_n 1, 1) := dk_27 (dk_at dksX2_memberOf_0 16 rfl rfl)
theorem dX2_memberOf_17 : decode cX2_memberOf 17 = .ok (.if_icmp .ne 5, 3) := dk_160 0 5 (dk_at dksX2_memberOf_0 17 rfl rfl)
theorem dX2_memberOf_20 : decode cX2_memberOf 20 = .ok (.iload_n 2, 1) := dk_28 (dk_at dksX2_memberOf_0 20 rfl rfl)
theorem dX2_memberOf_21 : decode cX2_memberOf 21 = .ok (.ireturn, 1) := dk_172 (dk_at dksX2_memberOf_0 21 rfl rfl)
theorem dX2_memberOf_22 : decode cX2_memberOf 22 = .ok (.iinc 2 1, 3) := dk_132 2 1 (dk_at dksX2_memberOf_1 0 rfl rfl)
theorem dX2_memberOf_25 : decode cX2_memberOf 25 = .ok (.goto (-23), 3) := dk_167 255 233 (dk_at dksX2_memberOf_1 3 rfl rfl)
theorem dX2_memberOf_28 : decode cX2_memberOf 28 = .ok (.iconst (-1), 1) := dk_2 (dk_at dksX2_memberOf_1 6 rfl rfl)
theorem dX2_memberOf_29 : decode cX2_memberOf 29 = .ok (.ireturn, 1) := dk_172 (dk_at dksX2_memberOf_1 7 rfl rfl)
abbrev cX2_must : ByteArray := prog_26_method_80_code
def yX2_must : MethodName := ⟨RX2, "must", "(II)I"⟩
def dkwX2_must_1 : List UInt8 := [153, 0, 16, 42, 180, 0, 160, 42, 28, 182, 1, 191, 46, 167, 0, 4, 2, 172]
abbrev dktX2_must_1 : List UInt8 := dkwX2_must_1 ++ []
def dkwX2_must_0 : List UInt8 := [42, 28, 182, 1, 19, 153, 0, 34, 42, 180, 0, 81, 28, 51, 153, 0, 25, 42, 27, 3, 182, 1, 187]
abbrev dktX2_must_0 : List UInt8 := dkwX2_must_0 ++ dktX2_must_1
theorem dksX2_must_0 : cX2_must.data.toList.drop 0 = dktX2_must_0 := by decide +kernel
theorem dksX2_must_1 : cX2_must.data.toList.drop 23 = dktX2_must_1 := dk_seg dksX2_must_0 23 rfl rfl
theorem dX2_must_0 : decode cX2_must 0 = .ok (.aload_n 0, 1) := dk_42 (dk_at dksX2_must_0 0 rfl rfl)
theorem dX2_must_1 : decode cX2_must 1 = .ok (.iload_n 2, 1) := dk_28 (dk_at dksX2_must_0 1 rfl rfl)
theorem dX2_must_2 : decode cX2_must 2 = .ok (.invokevirtual 275, 3) := dk_182 1 19 (dk_at dksX2_must_0 2 rfl rfl)
theorem dX2_must_5 : decode cX2_must 5 = .ok (.ifCond .eq 34, 3) := dk_153 0 34 (dk_at dksX2_must_0 5 rfl rfl)
theorem dX2_must_8 : decode cX2_must 8 = .ok (.aload_n 0, 1) := dk_42 (dk_at dksX2_must_0 8 rfl rfl)
theorem dX2_must_9 : decode cX2_must 9 = .ok (.getfield 81, 3) := dk_180 0 81 (dk_at dksX2_must_0 9 rfl rfl)
theorem dX2_must_12 : decode cX2_must 12 = .ok (.iload_n 2, 1) := dk_28 (dk_at dksX2_must_0 12 rfl rfl)
theorem dX2_must_13 : decode cX2_must 13 = .ok (.baload, 1) := dk_51 (dk_at dksX2_must_0 13 rfl rfl)
theorem dX2_must_14 : decode cX2_must 14 = .ok (.ifCond .eq 25, 3) := dk_153 0 25 (dk_at dksX2_must_0 14 rfl rfl)
theorem dX2_must_17 : decode cX2_must 17 = .ok (.aload_n 0, 1) := dk_42 (dk_at dksX2_must_0 17 rfl rfl)
theorem dX2_must_18 : decode cX2_must 18 = .ok (.iload_n 1, 1) := dk_27 (dk_at dksX2_must_0 18 rfl rfl)
theorem dX2_must_19 : decode cX2_must 19 = .ok (.iconst 0, 1) := dk_3 (dk_at dksX2_must_0 19 rfl rfl)
theorem dX2_must_20 : decode cX2_must 20 = .ok (.invokevirtual 443, 3) := dk_182 1 187 (dk_at dksX2_must_0 20 rfl rfl)
theorem dX2_must_23 : decode cX2_must 23 = .ok (.ifCond .eq 16, 3) := dk_153 0 16 (dk_at dksX2_must_1 0 rfl rfl)
theorem dX2_must_26 : decode cX2_must 26 = .ok (.aload_n 0, 1) := dk_42 (dk_at dksX2_must_1 3 rfl rfl)
theorem dX2_must_27 : decode cX2_must 27 = .ok (.getfield 160, 3) := dk_180 0 160 (dk_at dksX2_must_1 4 rfl rfl)
theorem dX2_must_30 : decode cX2_must 30 = .ok (.aload_n 0, 1) := dk_42 (dk_at dksX2_must_1 7 rfl rfl)
theorem dX2_must_31 : decode cX2_must 31 = .ok (.iload_n 2, 1) := dk_28 (dk_at dksX2_must_1 8 rfl rfl)
theorem dX2_must_32 : decode cX2_must 32 = .ok (.invokevirtual 447, 3) := dk_182 1 191 (dk_at dksX2_must_1 9 rfl rfl)
theorem dX2_must_35 : decode cX2_must 35 = .ok (.iaload, 1) := dk_46 (dk_at dksX2_must_1 12 rfl rfl)
theorem dX2_must_36 : decode cX2_must 36 = .ok (.goto 4, 3) := dk_167 0 4 (dk_at dksX2_must_1 13 rfl rfl)
theorem dX2_must_39 : decode cX2_must 39 = .ok (.iconst (-1), 1) := dk_2 (dk_at dksX2_must_1 16 rfl rfl)
theorem dX2_must_40 : decode cX2_must 40 = .ok (.ireturn, 1) := dk_172 (dk_at dksX2_must_1 17 rfl rfl)
abbrev cX2_free : ByteArray := prog_26_method_81_code
def yX2_free : MethodName := ⟨RX2, "free", "(II)I"⟩
def dkwX2_free_1 : List UInt8 := [153, 0, 15, 42, 180, 0, 163, 28, 46, 184, 1, 100, 167, 0, 4, 2, 172]
abbrev dktX2_free_1 : List UInt8 := dkwX2_free_1 ++ []
def dkwX2_free_0 : List UInt8 := [42, 27, 3, 182, 1, 187, 153, 0, 31, 28, 133, 9, 42, 180, 1, 138, 4, 100, 133, 184, 0, 183]
abbrev dktX2_free_0 : List UInt8 := dkwX2_free_0 ++ dktX2_free_1
theorem dksX2_free_0 : cX2_free.data.toList.drop 0 = dktX2_free_0 := by decide +kernel
theorem dksX2_free_1 : cX2_free.data.toList.drop 22 = dktX2_free_1 := dk_seg dksX2_free_0 22 rfl rfl
theorem dX2_free_0 : decode cX2_free 0 = .ok (.aload_n 0, 1) := dk_42 (dk_at dksX2_free_0 0 rfl rfl)
theorem dX2_free_1 : decode cX2_free 1 = .ok (.iload_n 1, 1) := dk_27 (dk_at dksX2_free_0 1 rfl rfl)
theorem dX2_free_2 : decode cX2_free 2 = .ok (.iconst 0, 1) := dk_3 (dk_at dksX2_free_0 2 rfl rfl)
theorem dX2_free_3 : decode cX2_free 3 = .ok (.invokevirtual 443, 3) := dk_182 1 187 (dk_at dksX2_free_0 3 rfl rfl)
theorem dX2_free_6 : decode cX2_free 6 = .ok (.ifCond .eq 31, 3) := dk_153 0 31 (dk_at dksX2_free_0 6 rfl rfl)
theorem dX2_free_9 : decode cX2_free 9 = .ok (.iload_n 2, 1) := dk_28 (dk_at dksX2_free_0 9 rfl rfl)
theorem dX2_free_10 : decode cX2_free 10 = .ok (.i2l, 1) := dk_133 (dk_at dksX2_free_0 10 rfl rfl)
theorem dX2_free_11 : decode cX2_free 11 = .ok (.lconst 0, 1) := dk_9 (dk_at dksX2_free_0 11 rfl rfl)
theorem dX2_free_12 : decode cX2_free 12 = .ok (.aload_n 0, 1) := dk_42 (dk_at dksX2_free_0 12 rfl rfl)
theorem dX2_free_13 : decode cX2_free 13 = .ok (.getfield 394, 3) := dk_180 1 138 (dk_at dksX2_free_0 13 rfl rfl)
theorem dX2_free_16 : decode cX2_free 16 = .ok (.iconst 1, 1) := dk_4 (dk_at dksX2_free_0 16 rfl rfl)
theorem dX2_free_17 : decode cX2_free 17 = .ok (.isub, 1) := dk_100 (dk_at dksX2_free_0 17 rfl rfl)
theorem dX2_free_18 : decode cX2_free 18 = .ok (.i2l, 1) := dk_133 (dk_at dksX2_free_0 18 rfl rfl)
theorem dX2_free_19 : decode cX2_free 19 = .ok (.invokestatic 183, 3) := dk_184 0 183 (dk_at dksX2_free_0 19 rfl rfl)
theorem dX2_free_22 : decode cX2_free 22 = .ok (.ifCond .eq 15, 3) := dk_153 0 15 (dk_at dksX2_free_1 0 rfl rfl)
theorem dX2_free_25 : decode cX2_free 25 = .ok (.aload_n 0, 1) := dk_42 (dk_at dksX2_free_1 3 rfl rfl)
theorem dX2_free_26 : decode cX2_free 26 = .ok (.getfield 163, 3) := dk_180 0 163 (dk_at dksX2_free_1 4 rfl rfl)
theorem dX2_free_29 : decode cX2_free 29 = .ok (.iload_n 2, 1) := dk_28 (dk_at dksX2_free_1 7 rfl rfl)
theorem dX2_free_30 : decode cX2_free 30 = .ok (.iaload, 1) := dk_46 (dk_at dksX2_free_1 8 rfl rfl)
theorem dX2_free_31 : decode cX2_free 31 = .ok (.invokestatic 356, 3) := dk_184 1 100 (dk_at dksX2_free_1 9 rfl rfl)
theorem dX2_free_34 : decode cX2_free 34 = .ok (.goto 4, 3) := dk_167 0 4 (dk_at dksX2_free_1 12 rfl rfl)
theorem dX2_free_37 : decode cX2_free 37 = .ok (.iconst (-1), 1) := dk_2 (dk_at dksX2_free_1 15 rfl rfl)
theorem dX2_free_38 : decode cX2_free 38 = .ok (.ireturn, 1) := dk_172 (dk_at dksX2_free_1 16 rfl rfl)
abbrev cX2_mended : ByteArray := prog_26_method_82_code
def yX2_mended : MethodName := ⟨RX2, "mended", "(III)I"⟩
def dkwX2_mended_2 : List UInt8 := [29, 2, 160, 0, 10, 42, 180, 1, 155, 167, 0, 13, 42, 180, 0, 157, 42, 29, 182, 1, 191, 46, 172]
abbrev dktX2_mended_2 : List UInt8 := dkwX2_mended_2 ++ []
def dkwX2_mended_1 : List UInt8 := [42, 28, 181, 1, 152, 42, 27, 4, 182, 1, 187, 153, 0, 11, 42, 180, 1, 155, 2, 160, 0, 5, 2, 172]
abbrev dktX2_mended_1 : List UInt8 := dkwX2_mended_1 ++ dktX2_mended_2
def dkwX2_mended_0 : List UInt8 := [29, 2, 159, 0, 22, 42, 29, 182, 1, 19, 153, 0, 12, 42, 180, 0, 81, 29, 51, 154, 0, 5, 2, 172]
abbrev dktX2_mended_0 : List UInt8 := dkwX2_mended_0 ++ dktX2_mended_1
theorem dksX2_mended_0 : cX2_mended.data.toList.drop 0 = dktX2_mended_0 := by decide +kernel
theorem dksX2_mended_1 : cX2_mended.data.toList.drop 24 = dktX2_mended_1 := dk_seg dksX2_mended_0 24 rfl rfl
theorem dksX2_mended_2 : cX2_mended.data.toList.drop 48 = dktX2_mended_2 := dk_seg dksX2_mended_1 24 rfl rfl
theorem dX2_mended_0 : decode cX2_mended 0 = .ok (.iload_n 3, 1) := dk_29 (dk_at dksX2_mended_0 0 rfl rfl)
theorem dX2_mended_1 : decode cX2_mended 1 = .ok (.iconst (-1), 1) := dk_2 (dk_at dksX2_mended_0 1 rfl rfl)
theorem dX2_mended_2 : decode cX2_mended 2 = .ok (.if_icmp .eq 22, 3) := dk_159 0 22 (dk_at dksX2_mended_0 2 rfl rfl)
theorem dX2_mended_5 : decode cX2_mended 5 = .ok (.aload_n 0, 1) := dk_42 (dk_at dksX2_mended_0 5 rfl rfl)
theorem dX2_mended_6 : decode cX2_mended 6 = .ok (.iload_n 3, 1) := dk_29 (dk_at dksX2_mended_0 6 rfl rfl)
theorem dX2_mended_7 : decode cX2_mended 7 = .ok (.invokevirtual 275, 3) := dk_182 1 19 (dk_at dksX2_mended_0 7 rfl rfl)
theorem dX2_mended_10 : decode cX2_mended 10 = .ok (.ifCond .eq 12, 3) := dk_153 0 12 (dk_at dksX2_mended_0 10 rfl rfl)
theorem dX2_mended_13 : decode cX2_mended 13 = .ok (.aload_n 0, 1) := dk_42 (dk_at dksX2_mended_0 13 rfl rfl)
theorem dX2_mended_14 : decode cX2_mended 14 = .ok (.getfield 81, 3) := dk_180 0 81 (dk_at dksX2_mended_0 14 rfl rfl)
theorem dX2_mended_17 : decode cX2_mended 17 = .ok (.iload_n 3, 1) := dk_29 (dk_at dksX2_mended_0 17 rfl rfl)
theorem dX2_mended_18 : decode cX2_mended 18 = .ok (.baload, 1) := dk_51 (dk_at dksX2_mended_0 18 rfl rfl)
theorem dX2_mended_19 : decode cX2_mended 19 = .ok (.ifCond .ne 5, 3) := dk_154 0 5 (dk_at dksX2_mended_0 19 rfl rfl)
theorem dX2_mended_22 : decode cX2_mended 22 = .ok (.iconst (-1), 1) := dk_2 (dk_at dksX2_mended_0 22 rfl rfl)
theorem dX2_mended_23 : decode cX2_mended 23 = .ok (.ireturn, 1) := dk_172 (dk_at dksX2_mended_0 23 rfl rfl)
theorem dX2_mended_24 : decode cX2_mended 24 = .ok (.aload_n 0, 1) := dk_42 (dk_at dksX2_mended_1 0 rfl rfl)
theorem dX2_mended_25 : decode cX2_mended 25 = .ok (.iload_n 2, 1) := dk_28 (dk_at dksX2_mended_1 1 rfl rfl)
theorem dX2_mended_26 : decode cX2_mended 26 = .ok (.putfield 408, 3) := dk_181 1 152 (dk_at dksX2_mended_1 2 rfl rfl)
theorem dX2_mended_29 : decode cX2_mended 29 = .ok (.aload_n 0, 1) := dk_42 (dk_at dksX2_mended_1 5 rfl rfl)
theorem dX2_mended_30 : decode cX2_mended 30 = .ok (.iload_n 1, 1) := dk_27 (dk_at dksX2_mended_1 6 rfl rfl)
theorem dX2_mended_31 : decode cX2_mended 31 = .ok (.iconst 1, 1) := dk_4 (dk_at dksX2_mended_1 7 rfl rfl)
theorem dX2_mended_32 : decode cX2_mended 32 = .ok (.invokevirtual 443, 3) := dk_182 1 187 (dk_at dksX2_mended_1 8 rfl rfl)
theorem dX2_mended_35 : decode cX2_mended 35 = .ok (.ifCond .eq 11, 3) := dk_153 0 11 (dk_at dksX2_mended_1 11 rfl rfl)
theorem dX2_mended_38 : decode cX2_mended 38 = .ok (.aload_n 0, 1) := dk_42 (dk_at dksX2_mended_1 14 rfl rfl)
theorem dX2_mended_39 : decode cX2_mended 39 = .ok (.getfield 411, 3) := dk_180 1 155 (dk_at dksX2_mended_1 15 rfl rfl)
theorem dX2_mended_42 : decode cX2_mended 42 = .ok (.iconst (-1), 1) := dk_2 (dk_at dksX2_mended_1 18 rfl rfl)
theorem dX2_mended_43 : decode cX2_mended 43 = .ok (.if_icmp .ne 5, 3) := dk_160 0 5 (dk_at dksX2_mended_1 19 rfl rfl)
theorem dX2_mended_46 : decode cX2_mended 46 = .ok (.iconst (-1), 1) := dk_2 (dk_at dksX2_mended_1 22 rfl rfl)
theorem dX2_mended_47 : decode cX2_mended 47 = .ok (.ireturn, 1) := dk_172 (dk_at dksX2_mended_1 23 rfl rfl)
theorem dX2_mended_48 : decode cX2_mended 48 = .ok (.iload_n 3, 1) := dk_29 (dk_at dksX2_mended_2 0 rfl rfl)
theorem dX2_mended_49 : decode cX2_mended 49 = .ok (.iconst (-1), 1) := dk_2 (dk_at dksX2_mended_2 1 rfl rfl)
theorem dX2_mended_50 : decode cX2_mended 50 = .ok (.if_icmp .ne 10, 3) := dk_160 0 10 (dk_at dksX2_mended_2 2 rfl rfl)
theorem dX2_mended_53 : decode cX2_mended 53 = .ok (.aload_n 0, 1) := dk_42 (dk_at dksX2_mended_2 5 rfl rfl)
theorem dX2_mended_54 : decode cX2_mended 54 = .ok (.getfield 411, 3) := dk_180 1 155 (dk_at dksX2_mended_2 6 rfl rfl)
theorem dX2_mended_57 : decode cX2_mended 57 = .ok (.goto 13, 3) := dk_167 0 13 (dk_at dksX2_mended_2 9 rfl rfl)
theorem dX2_mended_60 : decode cX2_mended 60 = .ok (.aload_n 0, 1) := dk_42 (dk_at dksX2_mended_2 12 rfl rfl)
theorem dX2_mended_61 : decode cX2_mended 61 = .ok (.getfield 157, 3) := dk_180 0 157 (dk_at dksX2_mended_2 13 rfl rfl)
theorem dX2_mended_64 : decode cX2_mended 64 = .ok (.aload_n 0, 1) := dk_42 (dk_at dksX2_mended_2 16 rfl rfl)
theorem dX2_mended_65 : decode cX2_mended 65 = .ok (.iload_n 3, 1) := dk_29 (dk_at dksX2_mended_2 17 rfl rfl)
theorem dX2_mended_66 : decode cX2_mended 66 = .ok (.invokevirtual 447, 3) := dk_182 1 191 (dk_at dksX2_mended_2 18 rfl rfl)
theorem dX2_mended_69 : decode cX2_mended 69 = .ok (.iaload, 1) := dk_46 (dk_at dksX2_mended_2 21 rfl rfl)
theorem dX2_mended_70 : decode cX2_mended 70 = .ok (.ireturn, 1) := dk_172 (dk_at dksX2_mended_2 22 rfl rfl)
abbrev cX2_evened : ByteArray := prog_26_method_83_code
def yX2_evened : MethodName := ⟨RX2, "evened", "(III)I"⟩
def dkwX2_evened_14 : List UInt8 := [167, 255, 85, 29, 2, 160, 0, 8, 21, 6, 167, 0, 9, 42, 180, 0, 172, 29, 46, 172]
abbrev dktX2_evened_14 : List UInt8 := dkwX2_evened_14 ++ []
def dkwX2_evened_13 : List UInt8 := [180, 0, 172, 21, 10, 42, 180, 0, 169, 21, 10, 46, 79, 132, 10, 1, 167, 255, 233, 132, 7, 1]
abbrev dktX2_evened_13 : List UInt8 := dkwX2_evened_13 ++ dktX2_evened_14
def dkwX2_evened_12 : List UInt8 := [21, 9, 21, 6, 161, 0, 6, 167, 0, 36, 21, 9, 54, 6, 3, 54, 10, 21, 10, 28, 162, 0, 23, 42]
abbrev dktX2_evened_12 : List UInt8 := dkwX2_evened_12 ++ dktX2_evened_13
def dkwX2_evened_11 : List UInt8 := [167, 255, 224, 21, 9, 21, 11, 184, 1, 78, 54, 9, 132, 10, 1, 167, 255, 192, 21, 6, 2, 159, 0, 13]
abbrev dktX2_evened_11 : List UInt8 := dkwX2_evened_11 ++ dktX2_evened_12
def dkwX2_evened_10 : List UInt8 := [180, 0, 166, 16, 10, 42, 180, 0, 169, 21, 12, 46, 104, 21, 10, 96, 46, 96, 54, 11, 132, 12, 1]
abbrev dktX2_evened_10 : List UInt8 := dkwX2_evened_10 ++ dktX2_evened_11
def dkwX2_evened_9 : List UInt8 := [180, 0, 44, 3, 46, 162, 0, 59, 3, 54, 11, 3, 54, 12, 21, 12, 28, 162, 0, 32, 21, 11, 42]
abbrev dktX2_evened_9 : List UInt8 := dkwX2_evened_9 ++ dktX2_evened_10
def dkwX2_evened_8 : List UInt8 := [112, 79, 21, 8, 21, 4, 108, 54, 8, 132, 9, 255, 167, 255, 229, 3, 54, 9, 3, 54, 10, 21, 10, 42]
abbrev dktX2_evened_8 : List UInt8 := dkwX2_evened_8 ++ dktX2_evened_9
def dkwX2_evened_7 : List UInt8 := [21, 7, 54, 8, 28, 4, 100, 54, 9, 21, 9, 155, 0, 28, 42, 180, 0, 169, 21, 9, 21, 8, 21, 4]
abbrev dktX2_evened_7 : List UInt8 := dkwX2_evened_7 ++ dktX2_evened_8
def dkwX2_evened_6 : List UInt8 := [21, 4, 104, 54, 5, 132, 6, 1, 167, 255, 240, 2, 54, 6, 3, 54, 7, 21, 7, 21, 5, 162, 0, 170]
abbrev dktX2_evened_6 : List UInt8 := dkwX2_evened_6 ++ dktX2_evened_7
def dkwX2_evened_5 : List UInt8 := [167, 255, 226, 132, 5, 1, 167, 255, 202, 4, 54, 5, 3, 54, 6, 21, 6, 28, 162, 0, 16, 21, 5]
abbrev dktX2_evened_5 : List UInt8 := dkwX2_evened_5 ++ dktX2_evened_6
def dkwX2_evened_4 : List UInt8 := [180, 0, 166, 16, 10, 21, 5, 104, 21, 6, 96, 42, 180, 0, 108, 21, 6, 46, 79, 132, 6, 1]
abbrev dktX2_evened_4 : List UInt8 := dkwX2_evened_4 ++ dktX2_evened_5
def dkwX2_evened_3 : List UInt8 := [21, 4, 162, 0, 53, 42, 27, 3, 21, 5, 182, 1, 74, 3, 54, 6, 21, 6, 16, 10, 162, 0, 29, 42]
abbrev dktX2_evened_3 : List UInt8 := dkwX2_evened_3 ++ dktX2_evened_4
def dkwX2_evened_2 : List UInt8 := [100, 133, 184, 0, 183, 154, 0, 5, 2, 172, 42, 180, 0, 96, 27, 46, 54, 4, 3, 54, 5, 21, 5]
abbrev dktX2_evened_2 : List UInt8 := dkwX2_evened_2 ++ dktX2_evened_3
def dkwX2_evened_1 : List UInt8 := [16, 8, 163, 0, 30, 28, 133, 10, 20, 1, 82, 184, 0, 183, 153, 0, 18, 29, 133, 20, 0, 217, 28, 4]
abbrev dktX2_evened_1 : List UInt8 := dkwX2_evened_1 ++ dktX2_evened_2
def dkwX2_evened_0 : List UInt8 := [42, 27, 182, 1, 41, 153, 0, 51, 42, 180, 0, 93, 27, 46, 7, 160, 0, 41, 42, 180, 0, 96, 27, 46]
abbrev dktX2_evened_0 : List UInt8 := dkwX2_evened_0 ++ dktX2_evened_1
theorem dksX2_evened_0 : cX2_evened.data.toList.drop 0 = dktX2_evened_0 := by decide +kernel
theorem dksX2_evened_1 : cX2_evened.data.toList.drop 24 = dktX2_evened_1 := dk_seg dksX2_evened_0 24 rfl rfl
theorem dksX2_evened_2 : cX2_evened.data.toList.drop 48 = dktX2_evened_2 := dk_seg dksX2_evened_1 24 rfl rfl
theorem dksX2_evened_3 : cX2_evened.data.toList.drop 71 = dktX2_evened_3 := dk_seg dksX2_evened_2 23 rfl rfl
theorem dksX2_evened_4 : cX2_evened.data.toList.drop 95 = dktX2_evened_4 := dk_seg dksX2_evened_3 24 rfl rfl
theorem dksX2_evened_5 : cX2_evened.data.toList.drop 117 = dktX2_evened_5 := dk_seg dksX2_evened_4 22 rfl rfl
theorem dksX2_evened_6 : cX2_evened.data.toList.drop 140 = dktX2_evened_6 := dk_seg dksX2_evened_5 23 rfl rfl
theorem dksX2_evened_7 : cX2_evened.data.toList.drop 164 = dktX2_evened_7 := dk_seg dksX2_evened_6 24 rfl rfl
theorem dksX2_evened_8 : cX2_evened.data.toList.drop 188 = dktX2_evened_8 := dk_seg dksX2_evened_7 24 rfl rfl
theorem dksX2_evened_9 : cX2_evened.data.toList.drop 212 = dktX2_evened_9 := dk_seg dksX2_evened_8 24 rfl rfl
theorem dksX2_evened_10 : cX2_evened.data.toList.drop 235 = dktX2_evened_10 := dk_seg dksX2_evened_9 23 rfl rfl
theorem dksX2_evened_11 : cX2_evened.data.toList.drop 258 = dktX2_evened_11 := dk_seg dksX2_evened_10 23 rfl rfl
theorem dksX2_evened_12 : cX2_evened.data.toList.drop 282 = dktX2_evened_12 := dk_seg dksX2_evened_11 24 rfl rfl
theorem dksX2_evened_13 : cX2_evened.data.toList.drop 306 = dktX2_evened_13 := dk_seg dksX2_evened_12 24 rfl rfl
theorem dksX2_evened_14 : cX2_evened.data.toList.drop 328 = dktX2_evened_14 := dk_seg dksX2_evened_13 22 rfl rfl
theorem dX2_evened_0 : decode cX2_evened 0 = .ok (.aload_n 0, 1) := dk_42 (dk_at dksX2_evened_0 0 rfl rfl)
theorem dX2_evened_1 : decode cX2_evened 1 = .ok (.iload_n 1, 1) := dk_27 (dk_at dksX2_evened_0 1 rfl rfl)
theorem dX2_evened_2 : decode cX2_evened 2 = .ok (.invokevirtual 297, 3) := dk_182 1 41 (dk_at dksX2_evened_0 2 rfl rfl)
theorem dX2_evened_5 : decode cX2_evened 5 = .ok (.ifCond .eq 51, 3) := dk_153 0 51 (dk_at dksX2_evened_0 5 rfl rfl)
theorem dX2_evened_8 : decode cX2_evened 8 = .ok (.aload_n 0, 1) := dk_42 (dk_at dksX2_evened_0 8 rfl rfl)
theorem dX2_evened_9 : decode cX2_evened 9 = .ok (.getfield 93, 3) := dk_180 0 93 (dk_at dksX2_evened_0 9 rfl rfl)
theorem dX2_evened_12 : decode cX2_evened 12 = .ok (.iload_n 1, 1) := dk_27 (dk_at dksX2_evened_0 12 rfl rfl)
theorem dX2_evened_13 : decode cX2_evened 13 = .ok (.iaload, 1) := dk_46 (dk_at dksX2_evened_0 13 rfl rfl)
theorem dX2_evened_14 : decode cX2_evened 14 = .ok (.iconst 4, 1) := dk_7 (dk_at dksX2_evened_0 14 rfl rfl)
theorem dX2_evened_15 : decode cX2_evened 15 = .ok (.if_icmp .ne 41, 3) := dk_160 0 41 (dk_at dksX2_evened_0 15 rfl rfl)
theorem dX2_evened_18 : decode cX2_evened 18 = .ok (.aload_n 0, 1) := dk_42 (dk_at dksX2_evened_0 18 rfl rfl)
theorem dX2_evened_19 : decode cX2_evened 19 = .ok (.getfield 96, 3) := dk_180 0 96 (dk_at dksX2_evened_0 19 rfl rfl)
theorem dX2_evened_22 : decode cX2_evened 22 = .ok (.iload_n 1, 1) := dk_27 (dk_at dksX2_evened_0 22 rfl rfl)
theorem dX2_evened_23 : decode cX2_evened 23 = .ok (.iaload, 1) := dk_46 (dk_at dksX2_evened_0 23 rfl rfl)
theorem dX2_evened_24 : decode cX2_evened 24 = .ok (.bipush 8, 2) := dk_16 8 (dk_at dksX2_evened_1 0 rfl rfl)
theorem dX2_evened_26 : decode cX2_evened 26 = .ok (.if_icmp .gt 30, 3) := dk_163 0 30 (dk_at dksX2_evened_1 2 rfl rfl)
theorem dX2_evened_29 : decode cX2_evened 29 = .ok (.iload_n 2, 1) := dk_28 (dk_at dksX2_evened_1 5 rfl rfl)
theorem dX2_evened_30 : decode cX2_evened 30 = .ok (.i2l, 1) := dk_133 (dk_at dksX2_evened_1 6 rfl rfl)
theorem dX2_evened_31 : decode cX2_evened 31 = .ok (.lconst 1, 1) := dk_10 (dk_at dksX2_evened_1 7 rfl rfl)
theorem dX2_evened_32 : decode cX2_evened 32 = .ok (.ldc2_w 338, 3) := dk_20 1 82 (dk_at dksX2_evened_1 8 rfl rfl)
theorem dX2_evened_35 : decode cX2_evened 35 = .ok (.invokestatic 183, 3) := dk_184 0 183 (dk_at dksX2_evened_1 11 rfl rfl)
theorem dX2_evened_38 : decode cX2_evened 38 = .ok (.ifCond .eq 18, 3) := dk_153 0 18 (dk_at dksX2_evened_1 14 rfl rfl)
theorem dX2_evened_41 : decode cX2_evened 41 = .ok (.iload_n 3, 1) := dk_29 (dk_at dksX2_evened_1 17 rfl rfl)
theorem dX2_evened_42 : decode cX2_evened 42 = .ok (.i2l, 1) := dk_133 (dk_at dksX2_evened_1 18 rfl rfl)
theorem dX2_evened_43 : decode cX2_evened 43 = .ok (.ldc2_w 217, 3) := dk_20 0 217 (dk_at dksX2_evened_1 19 rfl rfl)
theorem dX2_evened_46 : decode cX2_evened 46 = .ok (.iload_n 2, 1) := dk_28 (dk_at dksX2_evened_1 22 rfl rfl)
theorem dX2_evened_47 : decode cX2_evened 47 = .ok (.iconst 1, 1) := dk_4 (dk_at dksX2_evened_1 23 rfl rfl)
theorem dX2_evened_48 : decode cX2_evened 48 = .ok (.isub, 1) := dk_100 (dk_at dksX2_evened_2 0 rfl rfl)
theorem dX2_evened_49 : decode cX2_evened 49 = .ok (.i2l, 1) := dk_133 (dk_at dksX2_evened_2 1 rfl rfl)
theorem dX2_evened_50 : decode cX2_evened 50 = .ok (.invokestatic 183, 3) := dk_184 0 183 (dk_at dksX2_evened_2 2 rfl rfl)
theorem dX2_evened_53 : decode cX2_evened 53 = .ok (.ifCond .ne 5, 3) := dk_154 0 5 (dk_at dksX2_evened_2 5 rfl rfl)
theorem dX2_evened_56 : decode cX2_evened 56 = .ok (.iconst (-1), 1) := dk_2 (dk_at dksX2_evened_2 8 rfl rfl)
theorem dX2_evened_57 : decode cX2_evened 57 = .ok (.ireturn, 1) := dk_172 (dk_at dksX2_evened_2 9 rfl rfl)
theorem dX2_evened_58 : decode cX2_evened 58 = .ok (.aload_n 0, 1) := dk_42 (dk_at dksX2_evened_2 10 rfl rfl)
theorem dX2_evened_59 : decode cX2_evened 59 = .ok (.getfield 96, 3) := dk_180 0 96 (dk_at dksX2_evened_2 11 rfl rfl)
theorem dX2_evened_62 : decode cX2_evened 62 = .ok (.iload_n 1, 1) := dk_27 (dk_at dksX2_evened_2 14 rfl rfl)
theorem dX2_evened_63 : decode cX2_evened 63 = .ok (.iaload, 1) := dk_46 (dk_at dksX2_evened_2 15 rfl rfl)
theorem dX2_evened_64 : decode cX2_evened 64 = .ok (.istore 4, 2) := dk_54 4 (dk_at dksX2_evened_2 16 rfl rfl)
theorem dX2_evened_66 : decode cX2_evened 66 = .ok (.iconst 0, 1) := dk_3 (dk_at dksX2_evened_2 18 rfl rfl)
theorem dX2_evened_67 : decode cX2_evened 67 = .ok (.istore 5, 2) := dk_54 5 (dk_at dksX2_evened_2 19 rfl rfl)
theorem dX2_evened_69 : decode cX2_evened 69 = .ok (.iload 5, 2) := dk_21 5 (dk_at dksX2_evened_2 21 rfl rfl)
theorem dX2_evened_71 : decode cX2_evened 71 = .ok (.iload 4, 2) := dk_21 4 (dk_at dksX2_evened_3 0 rfl rfl)
theorem dX2_evened_73 : decode cX2_evened 73 = .ok (.if_icmp .ge 53, 3) := dk_162 0 53 (dk_at dksX2_evened_3 2 rfl rfl)
theorem dX2_evened_76 : decode cX2_evened 76 = .ok (.aload_n 0, 1) := dk_42 (dk_at dksX2_evened_3 5 rfl rfl)
theorem dX2_evened_77 : decode cX2_evened 77 = .ok (.iload_n 1, 1) := dk_27 (dk_at dksX2_evened_3 6 rfl rfl)
theorem dX2_evened_78 : decode cX2_evened 78 = .ok (.iconst 0, 1) := dk_3 (dk_at dksX2_evened_3 7 rfl rfl)
theorem dX2_evened_79 : decode cX2_evened 79 = .ok (.iload 5, 2) := dk_21 5 (dk_at dksX2_evened_3 8 rfl rfl)
theorem dX2_evened_81 : decode cX2_evened 81 = .ok (.invokevirtual 330, 3) := dk_182 1 74 (dk_at dksX2_evened_3 10 rfl rfl)
theorem dX2_evened_84 : decode cX2_evened 84 = .ok (.iconst 0, 1) := dk_3 (dk_at dksX2_evened_3 13 rfl rfl)
theorem dX2_evened_85 : decode cX2_evened 85 = .ok (.istore 6, 2) := dk_54 6 (dk_at dksX2_evened_3 14 rfl rfl)
theorem dX2_evened_87 : decode cX2_evened 87 = .ok (.iload 6, 2) := dk_21 6 (dk_at dksX2_evened_3 16 rfl rfl)
theorem dX2_evened_89 : decode cX2_evened 89 = .ok (.bipush 10, 2) := dk_16 10 (dk_at dksX2_evened_3 18 rfl rfl)
theorem dX2_evened_91 : decode cX2_evened 91 = .ok (.if_icmp .ge 29, 3) := dk_162 0 29 (dk_at dksX2_evened_3 20 rfl rfl)
theorem dX2_evened_94 : decode cX2_evened 94 = .ok (.aload_n 0, 1) := dk_42 (dk_at dksX2_evened_3 23 rfl rfl)
theorem dX2_evened_95 : decode cX2_evened 95 = .ok (.getfield 166, 3) := dk_180 0 166 (dk_at dksX2_evened_4 0 rfl rfl)
theorem dX2_evened_98 : decode cX2_evened 98 = .ok (.bipush 10, 2) := dk_16 10 (dk_at dksX2_evened_4 3 rfl rfl)
theorem dX2_evened_100 : decode cX2_evened 100 = .ok (.iload 5, 2) := dk_21 5 (dk_at dksX2_evened_4 5 rfl rfl)
theorem dX2_evened_102 : decode cX2_evened 102 = .ok (.imul, 1) := dk_104 (dk_at dksX2_evened_4 7 rfl rfl)
theorem dX2_evened_103 : decode cX2_evened 103 = .ok (.iload 6, 2) := dk_21 6 (dk_at dksX2_evened_4 8 rfl rfl)
theorem dX2_evened_105 : decode cX2_evened 105 = .ok (.iadd, 1) := dk_96 (dk_at dksX2_evened_4 10 rfl rfl)
theorem dX2_evened_106 : decode cX2_evened 106 = .ok (.aload_n 0, 1) := dk_42 (dk_at dksX2_evened_4 11 rfl rfl)
theorem dX2_evened_107 : decode cX2_evened 107 = .ok (.getfield 108, 3) := dk_180 0 108 (dk_at dksX2_evened_4 12 rfl rfl)
theorem dX2_evened_110 : decode cX2_evened 110 = .ok (.iload 6, 2) := dk_21 6 (dk_at dksX2_evened_4 15 rfl rfl)
theorem dX2_evened_112 : decode cX2_evened 112 = .ok (.iaload, 1) := dk_46 (dk_at dksX2_evened_4 17 rfl rfl)
theorem dX2_evened_113 : decode cX2_evened 113 = .ok (.iastore, 1) := dk_79 (dk_at dksX2_evened_4 18 rfl rfl)
theorem dX2_evened_114 : decode cX2_evened 114 = .ok (.iinc 6 1, 3) := dk_132 6 1 (dk_at dksX2_evened_4 19 rfl rfl)
theorem dX2_evened_117 : decode cX2_evened 117 = .ok (.goto (-30), 3) := dk_167 255 226 (dk_at dksX2_evened_5 0 rfl rfl)
theorem dX2_evened_120 : decode cX2_evened 120 = .ok (.iinc 5 1, 3) := dk_132 5 1 (dk_at dksX2_evened_5 3 rfl rfl)
theorem dX2_evened_123 : decode cX2_evened 123 = .ok (.goto (-54), 3) := dk_167 255 202 (dk_at dksX2_evened_5 6 rfl rfl)
theorem dX2_evened_126 : decode cX2_evened 126 = .ok (.iconst 1, 1) := dk_4 (dk_at dksX2_evened_5 9 rfl rfl)
theorem dX2_evened_127 : decode cX2_evened 127 = .ok (.istore 5, 2) := dk_54 5 (dk_at dksX2_evened_5 10 rfl rfl)
theorem dX2_evened_129 : decode cX2_evened 129 = .ok (.iconst 0, 1) := dk_3 (dk_at dksX2_evened_5 12 rfl rfl)
theorem dX2_evened_130 : decode cX2_evened 130 = .ok (.istore 6, 2) := dk_54 6 (dk_at dksX2_evened_5 13 rfl rfl)
theorem dX2_evened_132 : decode cX2_evened 132 = .ok (.iload 6, 2) := dk_21 6 (dk_at dksX2_evened_5 15 rfl rfl)
theorem dX2_evened_134 : decode cX2_evened 134 = .ok (.iload_n 2, 1) := dk_28 (dk_at dksX2_evened_5 17 rfl rfl)
theorem dX2_evened_135 : decode cX2_evened 135 = .ok (.if_icmp .ge 16, 3) := dk_162 0 16 (dk_at dksX2_evened_5 18 rfl rfl)
theorem dX2_evened_138 : decode cX2_evened 138 = .ok (.iload 5, 2) := dk_21 5 (dk_at dksX2_evened_5 21 rfl rfl)
theorem dX2_evened_140 : decode cX2_evened 140 = .ok (.iload 4, 2) := dk_21 4 (dk_at dksX2_evened_6 0 rfl rfl)
theorem dX2_evened_142 : decode cX2_evened 142 = .ok (.imul, 1) := dk_104 (dk_at dksX2_evened_6 2 rfl rfl)
theorem dX2_evened_143 : decode cX2_evened 143 = .ok (.istore 5, 2) := dk_54 5 (dk_at dksX2_evened_6 3 rfl rfl)
theorem dX2_evened_145 : decode cX2_evened 145 = .ok (.iinc 6 1, 3) := dk_132 6 1 (dk_at dksX2_evened_6 5 rfl rfl)
theorem dX2_evened_148 : decode cX2_evened 148 = .ok (.goto (-16), 3) := dk_167 255 240 (dk_at dksX2_evened_6 8 rfl rfl)
theorem dX2_evened_151 : decode cX2_evened 151 = .ok (.iconst (-1), 1) := dk_2 (dk_at dksX2_evened_6 11 rfl rfl)
theorem dX2_evened_152 : decode cX2_evened 152 = .ok (.istore 6, 2) := dk_54 6 (dk_at dksX2_evened_6 12 rfl rfl)
theorem dX2_evened_154 : decode cX2_evened 154 = .ok (.iconst 0, 1) := dk_3 (dk_at dksX2_evened_6 14 rfl rfl)
theorem dX2_evened_155 : decode cX2_evened 155 = .ok (.istore 7, 2) := dk_54 7 (dk_at dksX2_evened_6 15 rfl rfl)
theorem dX2_evened_157 : decode cX2_evened 157 = .ok (.iload 7, 2) := dk_21 7 (dk_at dksX2_evened_6 17 rfl rfl)
theorem dX2_evened_159 : decode cX2_evened 159 = .ok (.iload 5, 2) := dk_21 5 (dk_at dksX2_evened_6 19 rfl rfl)
theorem dX2_evened_161 : decode cX2_evened 161 = .ok (.if_icmp .ge 170, 3) := dk_162 0 170 (dk_at dksX2_evened_6 21 rfl rfl)
theorem dX2_evened_164 : decode cX2_evened 164 = .ok (.iload 7, 2) := dk_21 7 (dk_at dksX2_evened_7 0 rfl rfl)
theorem dX2_evened_166 : decode cX2_evened 166 = .ok (.istore 8, 2) := dk_54 8 (dk_at dksX2_evened_7 2 rfl rfl)
theorem dX2_evened_168 : decode cX2_evened 168 = .ok (.iload_n 2, 1) := dk_28 (dk_at dksX2_evened_7 4 rfl rfl)
theorem dX2_evened_169 : decode cX2_evened 169 = .ok (.iconst 1, 1) := dk_4 (dk_at dksX2_evened_7 5 rfl rfl)
theorem dX2_evened_170 : decode cX2_evened 170 = .ok (.isub, 1) := dk_100 (dk_at dksX2_evened_7 6 rfl rfl)
theorem dX2_evened_171 : decode cX2_evened 171 = .ok (.istore 9, 2) := dk_54 9 (dk_at dksX2_evened_7 7 rfl rfl)
theorem dX2_evened_173 : decode cX2_evened 173 = .ok (.iload 9, 2) := dk_21 9 (dk_at dksX2_evened_7 9 rfl rfl)
theorem dX2_evened_175 : decode cX2_evened 175 = .ok (.ifCond .lt 28, 3) := dk_155 0 28 (dk_at dksX2_evened_7 11 rfl rfl)
theorem dX2_evened_178 : decode cX2_evened 178 = .ok (.aload_n 0, 1) := dk_42 (dk_at dksX2_evened_7 14 rfl rfl)
theorem dX2_evened_179 : decode cX2_evened 179 = .ok (.getfield 169, 3) := dk_180 0 169 (dk_at dksX2_evened_7 15 rfl rfl)
theorem dX2_evened_182 : decode cX2_evened 182 = .ok (.iload 9, 2) := dk_21 9 (dk_at dksX2_evened_7 18 rfl rfl)
theorem dX2_evened_184 : decode cX2_evened 184 = .ok (.iload 8, 2) := dk_21 8 (dk_at dksX2_evened_7 20 rfl rfl)
theorem dX2_evened_186 : decode cX2_evened 186 = .ok (.iload 4, 2) := dk_21 4 (dk_at dksX2_evened_7 22 rfl rfl)
theorem dX2_evened_188 : decode cX2_evened 188 = .ok (.irem, 1) := dk_112 (dk_at dksX2_evened_8 0 rfl rfl)
theorem dX2_evened_189 : decode cX2_evened 189 = .ok (.iastore, 1) := dk_79 (dk_at dksX2_evened_8 1 rfl rfl)
theorem dX2_evened_190 : decode cX2_evened 190 = .ok (.iload 8, 2) := dk_21 8 (dk_at dksX2_evened_8 2 rfl rfl)
theorem dX2_evened_192 : decode cX2_evened 192 = .ok (.iload 4, 2) := dk_21 4 (dk_at dksX2_evened_8 4 rfl rfl)
theorem dX2_evened_194 : decode cX2_evened 194 = .ok (.idiv, 1) := dk_108 (dk_at dksX2_evened_8 6 rfl rfl)
theorem dX2_evened_195 : decode cX2_evened 195 = .ok (.istore 8, 2) := dk_54 8 (dk_at dksX2_evened_8 7 rfl rfl)
theorem dX2_evened_197 : decode cX2_evened 197 = .ok (.iinc 9 (-1), 3) := dk_132 9 255 (dk_at dksX2_evened_8 9 rfl rfl)
theorem dX2_evened_200 : decode cX2_evened 200 = .ok (.goto (-27), 3) := dk_167 255 229 (dk_at dksX2_evened_8 12 rfl rfl)
theorem dX2_evened_203 : decode cX2_evened 203 = .ok (.iconst 0, 1) := dk_3 (dk_at dksX2_evened_8 15 rfl rfl)
theorem dX2_evened_204 : decode cX2_evened 204 = .ok (.istore 9, 2) := dk_54 9 (dk_at dksX2_evened_8 16 rfl rfl)
theorem dX2_evened_206 : decode cX2_evened 206 = .ok (.iconst 0, 1) := dk_3 (dk_at dksX2_evened_8 18 rfl rfl)
theorem dX2_evened_207 : decode cX2_evened 207 = .ok (.istore 10, 2) := dk_54 10 (dk_at dksX2_evened_8 19 rfl rfl)
theorem dX2_evened_209 : decode cX2_evened 209 = .ok (.iload 10, 2) := dk_21 10 (dk_at dksX2_evened_8 21 rfl rfl)
theorem dX2_evened_211 : decode cX2_evened 211 = .ok (.aload_n 0, 1) := dk_42 (dk_at dksX2_evened_8 23 rfl rfl)
theorem dX2_evened_212 : decode cX2_evened 212 = .ok (.getfield 44, 3) := dk_180 0 44 (dk_at dksX2_evened_9 0 rfl rfl)
theorem dX2_evened_215 : decode cX2_evened 215 = .ok (.iconst 0, 1) := dk_3 (dk_at dksX2_evened_9 3 rfl rfl)
theorem dX2_evened_216 : decode cX2_evened 216 = .ok (.iaload, 1) := dk_46 (dk_at dksX2_evened_9 4 rfl rfl)
theorem dX2_evened_217 : decode cX2_evened 217 = .ok (.if_icmp .ge 59, 3) := dk_162 0 59 (dk_at dksX2_evened_9 5 rfl rfl)
theorem dX2_evened_220 : decode cX2_evened 220 = .ok (.iconst 0, 1) := dk_3 (dk_at dksX2_evened_9 8 rfl rfl)
theorem dX2_evened_221 : decode cX2_evened 221 = .ok (.istore 11, 2) := dk_54 11 (dk_at dksX2_evened_9 9 rfl rfl)
theorem dX2_evened_223 : decode cX2_evened 223 = .ok (.iconst 0, 1) := dk_3 (dk_at dksX2_evened_9 11 rfl rfl)
theorem dX2_evened_224 : decode cX2_evened 224 = .ok (.istore 12, 2) := dk_54 12 (dk_at dksX2_evened_9 12 rfl rfl)
theorem dX2_evened_226 : decode cX2_evened 226 = .ok (.iload 12, 2) := dk_21 12 (dk_at dksX2_evened_9 14 rfl rfl)
theorem dX2_evened_228 : decode cX2_evened 228 = .ok (.iload_n 2, 1) := dk_28 (dk_at dksX2_evened_9 16 rfl rfl)
theorem dX2_evened_229 : decode cX2_evened 229 = .ok (.if_icmp .ge 32, 3) := dk_162 0 32 (dk_at dksX2_evened_9 17 rfl rfl)
theorem dX2_evened_232 : decode cX2_evened 232 = .ok (.iload 11, 2) := dk_21 11 (dk_at dksX2_evened_9 20 rfl rfl)
theorem dX2_evened_234 : decode cX2_evened 234 = .ok (.aload_n 0, 1) := dk_42 (dk_at dksX2_evened_9 22 rfl rfl)
theorem dX2_evened_235 : decode cX2_evened 235 = .ok (.getfield 166, 3) := dk_180 0 166 (dk_at dksX2_evened_10 0 rfl rfl)
theorem dX2_evened_238 : decode cX2_evened 238 = .ok (.bipush 10, 2) := dk_16 10 (dk_at dksX2_evened_10 3 rfl rfl)
theorem dX2_evened_240 : decode cX2_evened 240 = .ok (.aload_n 0, 1) := dk_42 (dk_at dksX2_evened_10 5 rfl rfl)
theorem dX2_evened_241 : decode cX2_evened 241 = .ok (.getfield 169, 3) := dk_180 0 169 (dk_at dksX2_evened_10 6 rfl rfl)
theorem dX2_evened_244 : decode cX2_evened 244 = .ok (.iload 12, 2) := dk_21 12 (dk_at dksX2_evened_10 9 rfl rfl)
theorem dX2_evened_246 : decode cX2_evened 246 = .ok (.iaload, 1) := dk_46 (dk_at dksX2_evened_10 11 rfl rfl)
theorem dX2_evened_247 : decode cX2_evened 247 = .ok (.imul, 1) := dk_104 (dk_at dksX2_evened_10 12 rfl rfl)
theorem dX2_evened_248 : decode cX2_evened 248 = .ok (.iload 10, 2) := dk_21 10 (dk_at dksX2_evened_10 13 rfl rfl)
theorem dX2_evened_250 : decode cX2_evened 250 = .ok (.iadd, 1) := dk_96 (dk_at dksX2_evened_10 15 rfl rfl)
theorem dX2_evened_251 : decode cX2_evened 251 = .ok (.iaload, 1) := dk_46 (dk_at dksX2_evened_10 16 rfl rfl)
theorem dX2_evened_252 : decode cX2_evened 252 = .ok (.iadd, 1) := dk_96 (dk_at dksX2_evened_10 17 rfl rfl)
theorem dX2_evened_253 : decode cX2_evened 253 = .ok (.istore 11, 2) := dk_54 11 (dk_at dksX2_evened_10 18 rfl rfl)
theorem dX2_evened_255 : decode cX2_evened 255 = .ok (.iinc 12 1, 3) := dk_132 12 1 (dk_at dksX2_evened_10 20 rfl rfl)
theorem dX2_evened_258 : decode cX2_evened 258 = .ok (.goto (-32), 3) := dk_167 255 224 (dk_at dksX2_evened_11 0 rfl rfl)
theorem dX2_evened_261 : decode cX2_evened 261 = .ok (.iload 9, 2) := dk_21 9 (dk_at dksX2_evened_11 3 rfl rfl)
theorem dX2_evened_263 : decode cX2_evened 263 = .ok (.iload 11, 2) := dk_21 11 (dk_at dksX2_evened_11 5 rfl rfl)
theorem dX2_evened_265 : decode cX2_evened 265 = .ok (.invokestatic 334, 3) := dk_184 1 78 (dk_at dksX2_evened_11 7 rfl rfl)
theorem dX2_evened_268 : decode cX2_evened 268 = .ok (.istore 9, 2) := dk_54 9 (dk_at dksX2_evened_11 10 rfl rfl)
theorem dX2_evened_270 : decode cX2_evened 270 = .ok (.iinc 10 1, 3) := dk_132 10 1 (dk_at dksX2_evened_11 12 rfl rfl)
theorem dX2_evened_273 : decode cX2_evened 273 = .ok (.goto (-64), 3) := dk_167 255 192 (dk_at dksX2_evened_11 15 rfl rfl)
theorem dX2_evened_276 : decode cX2_evened 276 = .ok (.iload 6, 2) := dk_21 6 (dk_at dksX2_evened_11 18 rfl rfl)
theorem dX2_evened_278 : decode cX2_evened 278 = .ok (.iconst (-1), 1) := dk_2 (dk_at dksX2_evened_11 20 rfl rfl)
theorem dX2_evened_279 : decode cX2_evened 279 = .ok (.if_icmp .eq 13, 3) := dk_159 0 13 (dk_at dksX2_evened_11 21 rfl rfl)
theorem dX2_evened_282 : decode cX2_evened 282 = .ok (.iload 9, 2) := dk_21 9 (dk_at dksX2_evened_12 0 rfl rfl)
theorem dX2_evened_284 : decode cX2_evened 284 = .ok (.iload 6, 2) := dk_21 6 (dk_at dksX2_evened_12 2 rfl rfl)
theorem dX2_evened_286 : decode cX2_evened 286 = .ok (.if_icmp .lt 6, 3) := dk_161 0 6 (dk_at dksX2_evened_12 4 rfl rfl)
theorem dX2_evened_289 : decode cX2_evened 289 = .ok (.goto 36, 3) := dk_167 0 36 (dk_at dksX2_evened_12 7 rfl rfl)
theorem dX2_evened_292 : decode cX2_evened 292 = .ok (.iload 9, 2) := dk_21 9 (dk_at dksX2_evened_12 10 rfl rfl)
theorem dX2_evened_294 : decode cX2_evened 294 = .ok (.istore 6, 2) := dk_54 6 (dk_at dksX2_evened_12 12 rfl rfl)
theorem dX2_evened_296 : decode cX2_evened 296 = .ok (.iconst 0, 1) := dk_3 (dk_at dksX2_evened_12 14 rfl rfl)
theorem dX2_evened_297 : decode cX2_evened 297 = .ok (.istore 10, 2) := dk_54 10 (dk_at dksX2_evened_12 15 rfl rfl)
theorem dX2_evened_299 : decode cX2_evened 299 = .ok (.iload 10, 2) := dk_21 10 (dk_at dksX2_evened_12 17 rfl rfl)
theorem dX2_evened_301 : decode cX2_evened 301 = .ok (.iload_n 2, 1) := dk_28 (dk_at dksX2_evened_12 19 rfl rfl)
theorem dX2_evened_302 : decode cX2_evened 302 = .ok (.if_icmp .ge 23, 3) := dk_162 0 23 (dk_at dksX2_evened_12 20 rfl rfl)
theorem dX2_evened_305 : decode cX2_evened 305 = .ok (.aload_n 0, 1) := dk_42 (dk_at dksX2_evened_12 23 rfl rfl)
theorem dX2_evened_306 : decode cX2_evened 306 = .ok (.getfield 172, 3) := dk_180 0 172 (dk_at dksX2_evened_13 0 rfl rfl)
theorem dX2_evened_309 : decode cX2_evened 309 = .ok (.iload 10, 2) := dk_21 10 (dk_at dksX2_evened_13 3 rfl rfl)
theorem dX2_evened_311 : decode cX2_evened 311 = .ok (.aload_n 0, 1) := dk_42 (dk_at dksX2_evened_13 5 rfl rfl)
theorem dX2_evened_312 : decode cX2_evened 312 = .ok (.getfield 169, 3) := dk_180 0 169 (dk_at dksX2_evened_13 6 rfl rfl)
theorem dX2_evened_315 : decode cX2_evened 315 = .ok (.iload 10, 2) := dk_21 10 (dk_at dksX2_evened_13 9 rfl rfl)
theorem dX2_evened_317 : decode cX2_evened 317 = .ok (.iaload, 1) := dk_46 (dk_at dksX2_evened_13 11 rfl rfl)
theorem dX2_evened_318 : decode cX2_evened 318 = .ok (.iastore, 1) := dk_79 (dk_at dksX2_evened_13 12 rfl rfl)
theorem dX2_evened_319 : decode cX2_evened 319 = .ok (.iinc 10 1, 3) := dk_132 10 1 (dk_at dksX2_evened_13 13 rfl rfl)
theorem dX2_evened_322 : decode cX2_evened 322 = .ok (.goto (-23), 3) := dk_167 255 233 (dk_at dksX2_evened_13 16 rfl rfl)
theorem dX2_evened_325 : decode cX2_evened 325 = .ok (.iinc 7 1, 3) := dk_132 7 1 (dk_at dksX2_evened_13 19 rfl rfl)
theorem dX2_evened_328 : decode cX2_evened 328 = .ok (.goto (-171), 3) := dk_167 255 85 (dk_at dksX2_evened_14 0 rfl rfl)
theorem dX2_evened_331 : decode cX2_evened 331 = .ok (.iload_n 3, 1) := dk_29 (dk_at dksX2_evened_14 3 rfl rfl)
theorem dX2_evened_332 : decode cX2_evened 332 = .ok (.iconst (-1), 1) := dk_2 (dk_at dksX2_evened_14 4 rfl rfl)
theorem dX2_evened_333 : decode cX2_evened 333 = .ok (.if_icmp .ne 8, 3) := dk_160 0 8 (dk_at dksX2_evened_14 5 rfl rfl)
theorem dX2_evened_336 : decode cX2_evened 336 = .ok (.iload 6, 2) := dk_21 6 (dk_at dksX2_evened_14 8 rfl rfl)
theorem dX2_evened_338 : decode cX2_evened 338 = .ok (.goto 9, 3) := dk_167 0 9 (dk_at dksX2_evened_14 10 rfl rfl)
theorem dX2_evened_341 : decode cX2_evened 341 = .ok (.aload_n 0, 1) := dk_42 (dk_at dksX2_evened_14 13 rfl rfl)
theorem dX2_evened_342 : decode cX2_evened 342 = .ok (.getfield 172, 3) := dk_180 0 172 (dk_at dksX2_evened_14 14 rfl rfl)
theorem dX2_evened_345 : decode cX2_evened 345 = .ok (.iload_n 3, 1) := dk_29 (dk_at dksX2_evened_14 17 rfl rfl)
theorem dX2_evened_346 : decode cX2_evened 346 = .ok (.iaload, 1) := dk_46 (dk_at dksX2_evened_14 18 rfl rfl)
theorem dX2_evened_347 : decode cX2_evened 347 = .ok (.ireturn, 1) := dk_172 (dk_at dksX2_evened_14 19 rfl rfl)
abbrev cX2_count : ByteArray := prog_26_method_84_code
def yX2_count : MethodName := ⟨RX2, "count", "(I)I"⟩
def dkwX2_count_9 : List UInt8 := [153, 0, 7, 4, 167, 0, 4, 3, 96, 61, 132, 3, 1, 167, 255, 226, 28, 172, 2, 172]
abbrev dktX2_count_9 : List UInt8 := dkwX2_count_9 ++ []
def dkwX2_count_8 : List UInt8 := [167, 255, 226, 28, 172, 3, 62, 29, 42, 180, 0, 51, 3, 46, 162, 0, 26, 28, 42, 180, 0, 77, 29, 51]
abbrev dktX2_count_8 : List UInt8 := dkwX2_count_8 ++ dktX2_count_9
def dkwX2_count_7 : List UInt8 := [162, 0, 26, 28, 42, 180, 0, 84, 29, 51, 153, 0, 7, 4, 167, 0, 4, 3, 96, 61, 132, 3, 1]
abbrev dktX2_count_7 : List UInt8 := dkwX2_count_7 ++ dktX2_count_8
def dkwX2_count_6 : List UInt8 := [167, 0, 4, 3, 96, 61, 132, 3, 1, 167, 255, 225, 28, 172, 3, 62, 29, 42, 180, 0, 44, 3, 46]
abbrev dktX2_count_6 : List UInt8 := dkwX2_count_6 ++ dktX2_count_7
def dkwX2_count_5 : List UInt8 := [62, 29, 42, 180, 0, 44, 3, 46, 162, 0, 27, 28, 42, 180, 0, 87, 29, 46, 2, 159, 0, 7, 4]
abbrev dktX2_count_5 : List UInt8 := dkwX2_count_5 ++ dktX2_count_6
def dkwX2_count_4 : List UInt8 := [180, 0, 81, 29, 51, 153, 0, 7, 4, 167, 0, 4, 3, 96, 61, 132, 3, 1, 167, 255, 226, 28, 172, 3]
abbrev dktX2_count_4 : List UInt8 := dkwX2_count_4 ++ dktX2_count_5
def dkwX2_count_3 : List UInt8 := [180, 1, 12, 172, 42, 180, 0, 175, 172, 3, 62, 29, 42, 180, 0, 44, 3, 46, 162, 0, 26, 28, 42]
abbrev dktX2_count_3 : List UInt8 := dkwX2_count_3 ++ dktX2_count_4
def dkwX2_count_2 : List UInt8 := [42, 180, 0, 44, 3, 46, 172, 42, 180, 0, 48, 3, 46, 172, 42, 180, 0, 51, 3, 46, 172, 42]
abbrev dktX2_count_2 : List UInt8 := dkwX2_count_2 ++ dktX2_count_3
def dkwX2_count_1 : List UInt8 := [170, 0, 0, 0, 229, 0, 0, 0, 0, 0, 0, 0, 8, 0, 0, 0, 49, 0, 0, 0, 56, 0, 0, 0, 63, 0, 0, 0, 70, 0, 0, 0, 75, 0, 0, 0, 80, 0, 0, 0, 117, 0, 0, 0, 155, 0, 0, 0, 192]
abbrev dktX2_count_1 : List UInt8 := dkwX2_count_1 ++ dktX2_count_2
def dkwX2_count_0 : List UInt8 := [3, 61, 27]
abbrev dktX2_count_0 : List UInt8 := dkwX2_count_0 ++ dktX2_count_1
theorem dksX2_count_0 : cX2_count.data.toList.drop 0 = dktX2_count_0 := by decide +kernel
theorem dksX2_count_1 : cX2_count.data.toList.drop 3 = dktX2_count_1 := dk_seg dksX2_count_0 3 rfl rfl
theorem dksX2_count_2 : cX2_count.data.toList.drop 52 = dktX2_count_2 := dk_seg dksX2_count_1 49 rfl rfl
theorem dksX2_count_3 : cX2_count.data.toList.drop 74 = dktX2_count_3 := dk_seg dksX2_count_2 22 rfl rfl
theorem dksX2_count_4 : cX2_count.data.toList.drop 97 = dktX2_count_4 := dk_seg dksX2_count_3 23 rfl rfl
theorem dksX2_count_5 : cX2_count.data.toList.drop 121 = dktX2_count_5 := dk_seg dksX2_count_4 24 rfl rfl
theorem dksX2_count_6 : cX2_count.data.toList.drop 144 = dktX2_count_6 := dk_seg dksX2_count_5 23 rfl rfl
theorem dksX2_count_7 : cX2_count.data.toList.drop 167 = dktX2_count_7 := dk_seg dksX2_count_6 23 rfl rfl
theorem dksX2_count_8 : cX2_count.data.toList.drop 190 = dktX2_count_8 := dk_seg dksX2_count_7 23 rfl rfl
theorem dksX2_count_9 : cX2_count.data.toList.drop 214 = dktX2_count_9 := dk_seg dksX2_count_8 24 rfl rfl
theorem dX2_count_0 : decode cX2_count 0 = .ok (.iconst 0, 1) := dk_3 (dk_at dksX2_count_0 0 rfl rfl)
theorem dX2_count_1 : decode cX2_count 1 = .ok (.istore_n 2, 1) := dk_61 (dk_at dksX2_count_0 1 rfl rfl)
theorem dX2_count_2 : decode cX2_count 2 = .ok (.iload_n 1, 1) := dk_27 (dk_at dksX2_count_0 2 rfl rfl)
theorem dX2_count_3 : decode cX2_count 3 = .ok (.tableswitch 229 0 8 #[49, 56, 63, 70, 75, 80, 117, 155, 192], 49) := by decide +kernel
theorem dX2_count_52 : decode cX2_count 52 = .ok (.aload_n 0, 1) := dk_42 (dk_at dksX2_count_2 0 rfl rfl)
theorem dX2_count_53 : decode cX2_count 53 = .ok (.getfield 44, 3) := dk_180 0 44 (dk_at dksX2_count_2 1 rfl rfl)
theorem dX2_count_56 : decode cX2_count 56 = .ok (.iconst 0, 1) := dk_3 (dk_at dksX2_count_2 4 rfl rfl)
theorem dX2_count_57 : decode cX2_count 57 = .ok (.iaload, 1) := dk_46 (dk_at dksX2_count_2 5 rfl rfl)
theorem dX2_count_58 : decode cX2_count 58 = .ok (.ireturn, 1) := dk_172 (dk_at dksX2_count_2 6 rfl rfl)
theorem dX2_count_59 : decode cX2_count 59 = .ok (.aload_n 0, 1) := dk_42 (dk_at dksX2_count_2 7 rfl rfl)
theorem dX2_count_60 : decode cX2_count 60 = .ok (.getfield 48, 3) := dk_180 0 48 (dk_at dksX2_count_2 8 rfl rfl)
theorem dX2_count_63 : decode cX2_count 63 = .ok (.iconst 0, 1) := dk_3 (dk_at dksX2_count_2 11 rfl rfl)
theorem dX2_count_64 : decode cX2_count 64 = .ok (.iaload, 1) := dk_46 (dk_at dksX2_count_2 12 rfl rfl)
theorem dX2_count_65 : decode cX2_count 65 = .ok (.ireturn, 1) := dk_172 (dk_at dksX2_count_2 13 rfl rfl)
theorem dX2_count_66 : decode cX2_count 66 = .ok (.aload_n 0, 1) := dk_42 (dk_at dksX2_count_2 14 rfl rfl)
theorem dX2_count_67 : decode cX2_count 67 = .ok (.getfield 51, 3) := dk_180 0 51 (dk_at dksX2_count_2 15 rfl rfl)
theorem dX2_count_70 : decode cX2_count 70 = .ok (.iconst 0, 1) := dk_3 (dk_at dksX2_count_2 18 rfl rfl)
theorem dX2_count_71 : decode cX2_count 71 = .ok (.iaload, 1) := dk_46 (dk_at dksX2_count_2 19 rfl rfl)
theorem dX2_count_72 : decode cX2_count 72 = .ok (.ireturn, 1) := dk_172 (dk_at dksX2_count_2 20 rfl rfl)
theorem dX2_count_73 : decode cX2_count 73 = .ok (.aload_n 0, 1) := dk_42 (dk_at dksX2_count_2 21 rfl rfl)
theorem dX2_count_74 : decode cX2_count 74 = .ok (.getfield 268, 3) := dk_180 1 12 (dk_at dksX2_count_3 0 rfl rfl)
theorem dX2_count_77 : decode cX2_count 77 = .ok (.ireturn, 1) := dk_172 (dk_at dksX2_count_3 3 rfl rfl)
theorem dX2_count_78 : decode cX2_count 78 = .ok (.aload_n 0, 1) := dk_42 (dk_at dksX2_count_3 4 rfl rfl)
theorem dX2_count_79 : decode cX2_count 79 = .ok (.getfield 175, 3) := dk_180 0 175 (dk_at dksX2_count_3 5 rfl rfl)
theorem dX2_count_82 : decode cX2_count 82 = .ok (.ireturn, 1) := dk_172 (dk_at dksX2_count_3 8 rfl rfl)
theorem dX2_count_83 : decode cX2_count 83 = .ok (.iconst 0, 1) := dk_3 (dk_at dksX2_count_3 9 rfl rfl)
theorem dX2_count_84 : decode cX2_count 84 = .ok (.istore_n 3, 1) := dk_62 (dk_at dksX2_count_3 10 rfl rfl)
theorem dX2_count_85 : decode cX2_count 85 = .ok (.iload_n 3, 1) := dk_29 (dk_at dksX2_count_3 11 rfl rfl)
theorem dX2_count_86 : decode cX2_count 86 = .ok (.aload_n 0, 1) := dk_42 (dk_at dksX2_count_3 12 rfl rfl)
theorem dX2_count_87 : decode cX2_count 87 = .ok (.getfield 44, 3) := dk_180 0 44 (dk_at dksX2_count_3 13 rfl rfl)
theorem dX2_count_90 : decode cX2_count 90 = .ok (.iconst 0, 1) := dk_3 (dk_at dksX2_count_3 16 rfl rfl)
theorem dX2_count_91 : decode cX2_count 91 = .ok (.iaload, 1) := dk_46 (dk_at dksX2_count_3 17 rfl rfl)
theorem dX2_count_92 : decode cX2_count 92 = .ok (.if_icmp .ge 26, 3) := dk_162 0 26 (dk_at dksX2_count_3 18 rfl rfl)
theorem dX2_count_95 : decode cX2_count 95 = .ok (.iload_n 2, 1) := dk_28 (dk_at dksX2_count_3 21 rfl rfl)
theorem dX2_count_96 : decode cX2_count 96 = .ok (.aload_n 0, 1) := dk_42 (dk_at dksX2_count_3 22 rfl rfl)
theorem dX2_count_97 : decode cX2_count 97 = .ok (.getfield 81, 3) := dk_180 0 81 (dk_at dksX2_count_4 0 rfl rfl)
theorem dX2_count_100 : decode cX2_count 100 = .ok (.iload_n 3, 1) := dk_29 (dk_at dksX2_count_4 3 rfl rfl)
theorem dX2_count_101 : decode cX2_count 101 = .ok (.baload, 1) := dk_51 (dk_at dksX2_count_4 4 rfl rfl)
theorem dX2_count_102 : decode cX2_count 102 = .ok (.ifCond .eq 7, 3) := dk_153 0 7 (dk_at dksX2_count_4 5 rfl rfl)
theorem dX2_count_105 : decode cX2_count 105 = .ok (.iconst 1, 1) := dk_4 (dk_at dksX2_count_4 8 rfl rfl)
theorem dX2_count_106 : decode cX2_count 106 = .ok (.goto 4, 3) := dk_167 0 4 (dk_at dksX2_count_4 9 rfl rfl)
theorem dX2_count_109 : decode cX2_count 109 = .ok (.iconst 0, 1) := dk_3 (dk_at dksX2_count_4 12 rfl rfl)
theorem dX2_count_110 : decode cX2_count 110 = .ok (.iadd, 1) := dk_96 (dk_at dksX2_count_4 13 rfl rfl)
theorem dX2_count_111 : decode cX2_count 111 = .ok (.istore_n 2, 1) := dk_61 (dk_at dksX2_count_4 14 rfl rfl)
theorem dX2_count_112 : decode cX2_count 112 = .ok (.iinc 3 1, 3) := dk_132 3 1 (dk_at dksX2_count_4 15 rfl rfl)
theorem dX2_count_115 : decode cX2_count 115 = .ok (.goto (-30), 3) := dk_167 255 226 (dk_at dksX2_count_4 18 rfl rfl)
theorem dX2_count_118 : decode cX2_count 118 = .ok (.iload_n 2, 1) := dk_28 (dk_at dksX2_count_4 21 rfl rfl)
theorem dX2_count_119 : decode cX2_count 119 = .ok (.ireturn, 1) := dk_172 (dk_at dksX2_count_4 22 rfl rfl)
theorem dX2_count_120 : decode cX2_count 120 = .ok (.iconst 0, 1) := dk_3 (dk_at dksX2_count_4 23 rfl rfl)
theorem dX2_count_121 : decode cX2_count 121 = .ok (.istore_n 3, 1) := dk_62 (dk_at dksX2_count_5 0 rfl rfl)
theorem dX2_count_122 : decode cX2_count 122 = .ok (.iload_n 3, 1) := dk_29 (dk_at dksX2_count_5 1 rfl rfl)
theorem dX2_count_123 : decode cX2_count 123 = .ok (.aload_n 0, 1) := dk_42 (dk_at dksX2_count_5 2 rfl rfl)
theorem dX2_count_124 : decode cX2_count 124 = .ok (.getfield 44, 3) := dk_180 0 44 (dk_at dksX2_count_5 3 rfl rfl)
theorem dX2_count_127 : decode cX2_count 127 = .ok (.iconst 0, 1) := dk_3 (dk_at dksX2_count_5 6 rfl rfl)
theorem dX2_count_128 : decode cX2_count 128 = .ok (.iaload, 1) := dk_46 (dk_at dksX2_count_5 7 rfl rfl)
theorem dX2_count_129 : decode cX2_count 129 = .ok (.if_icmp .ge 27, 3) := dk_162 0 27 (dk_at dksX2_count_5 8 rfl rfl)
theorem dX2_count_132 : decode cX2_count 132 = .ok (.iload_n 2, 1) := dk_28 (dk_at dksX2_count_5 11 rfl rfl)
theorem dX2_count_133 : decode cX2_count 133 = .ok (.aload_n 0, 1) := dk_42 (dk_at dksX2_count_5 12 rfl rfl)
theorem dX2_count_134 : decode cX2_count 134 = .ok (.getfield 87, 3) := dk_180 0 87 (dk_at dksX2_count_5 13 rfl rfl)
theorem dX2_count_137 : decode cX2_count 137 = .ok (.iload_n 3, 1) := dk_29 (dk_at dksX2_count_5 16 rfl rfl)
theorem dX2_count_138 : decode cX2_count 138 = .ok (.iaload, 1) := dk_46 (dk_at dksX2_count_5 17 rfl rfl)
theorem dX2_count_139 : decode cX2_count 139 = .ok (.iconst (-1), 1) := dk_2 (dk_at dksX2_count_5 18 rfl rfl)
theorem dX2_count_140 : decode cX2_count 140 = .ok (.if_icmp .eq 7, 3) := dk_159 0 7 (dk_at dksX2_count_5 19 rfl rfl)
theorem dX2_count_143 : decode cX2_count 143 = .ok (.iconst 1, 1) := dk_4 (dk_at dksX2_count_5 22 rfl rfl)
theorem dX2_count_144 : decode cX2_count 144 = .ok (.goto 4, 3) := dk_167 0 4 (dk_at dksX2_count_6 0 rfl rfl)
theorem dX2_count_147 : decode cX2_count 147 = .ok (.iconst 0, 1) := dk_3 (dk_at dksX2_count_6 3 rfl rfl)
theorem dX2_count_148 : decode cX2_count 148 = .ok (.iadd, 1) := dk_96 (dk_at dksX2_count_6 4 rfl rfl)
theorem dX2_count_149 : decode cX2_count 149 = .ok (.istore_n 2, 1) := dk_61 (dk_at dksX2_count_6 5 rfl rfl)
theorem dX2_count_150 : decode cX2_count 150 = .ok (.iinc 3 1, 3) := dk_132 3 1 (dk_at dksX2_count_6 6 rfl rfl)
theorem dX2_count_153 : decode cX2_count 153 = .ok (.goto (-31), 3) := dk_167 255 225 (dk_at dksX2_count_6 9 rfl rfl)
theorem dX2_count_156 : decode cX2_count 156 = .ok (.iload_n 2, 1) := dk_28 (dk_at dksX2_count_6 12 rfl rfl)
theorem dX2_count_157 : decode cX2_count 157 = .ok (.ireturn, 1) := dk_172 (dk_at dksX2_count_6 13 rfl rfl)
theorem dX2_count_158 : decode cX2_count 158 = .ok (.iconst 0, 1) := dk_3 (dk_at dksX2_count_6 14 rfl rfl)
theorem dX2_count_159 : decode cX2_count 159 = .ok (.istore_n 3, 1) := dk_62 (dk_at dksX2_count_6 15 rfl rfl)
theorem dX2_count_160 : decode cX2_count 160 = .ok (.iload_n 3, 1) := dk_29 (dk_at dksX2_count_6 16 rfl rfl)
theorem dX2_count_161 : decode cX2_count 161 = .ok (.aload_n 0, 1) := dk_42 (dk_at dksX2_count_6 17 rfl rfl)
theorem dX2_count_162 : decode cX2_count 162 = .ok (.getfield 44, 3) := dk_180 0 44 (dk_at dksX2_count_6 18 rfl rfl)
theorem dX2_count_165 : decode cX2_count 165 = .ok (.iconst 0, 1) := dk_3 (dk_at dksX2_count_6 21 rfl rfl)
theorem dX2_count_166 : decode cX2_count 166 = .ok (.iaload, 1) := dk_46 (dk_at dksX2_count_6 22 rfl rfl)
theorem dX2_count_167 : decode cX2_count 167 = .ok (.if_icmp .ge 26, 3) := dk_162 0 26 (dk_at dksX2_count_7 0 rfl rfl)
theorem dX2_count_170 : decode cX2_count 170 = .ok (.iload_n 2, 1) := dk_28 (dk_at dksX2_count_7 3 rfl rfl)
theorem dX2_count_171 : decode cX2_count 171 = .ok (.aload_n 0, 1) := dk_42 (dk_at dksX2_count_7 4 rfl rfl)
theorem dX2_count_172 : decode cX2_count 172 = .ok (.getfield 84, 3) := dk_180 0 84 (dk_at dksX2_count_7 5 rfl rfl)
theorem dX2_count_175 : decode cX2_count 175 = .ok (.iload_n 3, 1) := dk_29 (dk_at dksX2_count_7 8 rfl rfl)
theorem dX2_count_176 : decode cX2_count 176 = .ok (.baload, 1) := dk_51 (dk_at dksX2_count_7 9 rfl rfl)
theorem dX2_count_177 : decode cX2_count 177 = .ok (.ifCond .eq 7, 3) := dk_153 0 7 (dk_at dksX2_count_7 10 rfl rfl)
theorem dX2_count_180 : decode cX2_count 180 = .ok (.iconst 1, 1) := dk_4 (dk_at dksX2_count_7 13 rfl rfl)
theorem dX2_count_181 : decode cX2_count 181 = .ok (.goto 4, 3) := dk_167 0 4 (dk_at dksX2_count_7 14 rfl rfl)
theorem dX2_count_184 : decode cX2_count 184 = .ok (.iconst 0, 1) := dk_3 (dk_at dksX2_count_7 17 rfl rfl)
theorem dX2_count_185 : decode cX2_count 185 = .ok (.iadd, 1) := dk_96 (dk_at dksX2_count_7 18 rfl rfl)
theorem dX2_count_186 : decode cX2_count 186 = .ok (.istore_n 2, 1) := dk_61 (dk_at dksX2_count_7 19 rfl rfl)
theorem dX2_count_187 : decode cX2_count 187 = .ok (.iinc 3 1, 3) := dk_132 3 1 (dk_at dksX2_count_7 20 rfl rfl)
theorem dX2_count_190 : decode cX2_count 190 = .ok (.goto (-30), 3) := dk_167 255 226 (dk_at dksX2_count_8 0 rfl rfl)
theorem dX2_count_193 : decode cX2_count 193 = .ok (.iload_n 2, 1) := dk_28 (dk_at dksX2_count_8 3 rfl rfl)
theorem dX2_count_194 : decode cX2_count 194 = .ok (.ireturn, 1) := dk_172 (dk_at dksX2_count_8 4 rfl rfl)
theorem dX2_count_195 : decode cX2_count 195 = .ok (.iconst 0, 1) := dk_3 (dk_at dksX2_count_8 5 rfl rfl)
theorem dX2_count_196 : decode cX2_count 196 = .ok (.istore_n 3, 1) := dk_62 (dk_at dksX2_count_8 6 rfl rfl)
theorem dX2_count_197 : decode cX2_count 197 = .ok (.iload_n 3, 1) := dk_29 (dk_at dksX2_count_8 7 rfl rfl)
theorem dX2_count_198 : decode cX2_count 198 = .ok (.aload_n 0, 1) := dk_42 (dk_at dksX2_count_8 8 rfl rfl)
theorem dX2_count_199 : decode cX2_count 199 = .ok (.getfield 51, 3) := dk_180 0 51 (dk_at dksX2_count_8 9 rfl rfl)
theorem dX2_count_202 : decode cX2_count 202 = .ok (.iconst 0, 1) := dk_3 (dk_at dksX2_count_8 12 rfl rfl)
theorem dX2_count_203 : decode cX2_count 203 = .ok (.iaload, 1) := dk_46 (dk_at dksX2_count_8 13 rfl rfl)
theorem dX2_count_204 : decode cX2_count 204 = .ok (.if_icmp .ge 26, 3) := dk_162 0 26 (dk_at dksX2_count_8 14 rfl rfl)
theorem dX2_count_207 : decode cX2_count 207 = .ok (.iload_n 2, 1) := dk_28 (dk_at dksX2_count_8 17 rfl rfl)
theorem dX2_count_208 : decode cX2_count 208 = .ok (.aload_n 0, 1) := dk_42 (dk_at dksX2_count_8 18 rfl rfl)
theorem dX2_count_209 : decode cX2_count 209 = .ok (.getfield 77, 3) := dk_180 0 77 (dk_at dksX2_count_8 19 rfl rfl)
theorem dX2_count_212 : decode cX2_count 212 = .ok (.iload_n 3, 1) := dk_29 (dk_at dksX2_count_8 22 rfl rfl)
theorem dX2_count_213 : decode cX2_count 213 = .ok (.baload, 1) := dk_51 (dk_at dksX2_count_8 23 rfl rfl)
theorem dX2_count_214 : decode cX2_count 214 = .ok (.ifCond .eq 7, 3) := dk_153 0 7 (dk_at dksX2_count_9 0 rfl rfl)
theorem dX2_count_217 : decode cX2_count 217 = .ok (.iconst 1, 1) := dk_4 (dk_at dksX2_count_9 3 rfl rfl)
theorem dX2_count_218 : decode cX2_count 218 = .ok (.goto 4, 3) := dk_167 0 4 (dk_at dksX2_count_9 4 rfl rfl)
theorem dX2_count_221 : decode cX2_count 221 = .ok (.iconst 0, 1) := dk_3 (dk_at dksX2_count_9 7 rfl rfl)
theorem dX2_count_222 : decode cX2_count 222 = .ok (.iadd, 1) := dk_96 (dk_at dksX2_count_9 8 rfl rfl)
theorem dX2_count_223 : decode cX2_count 223 = .ok (.istore_n 2, 1) := dk_61 (dk_at dksX2_count_9 9 rfl rfl)
theorem dX2_count_224 : decode cX2_count 224 = .ok (.iinc 3 1, 3) := dk_132 3 1 (dk_at dksX2_count_9 10 rfl rfl)
theorem dX2_count_227 : decode cX2_count 227 = .ok (.goto (-30), 3) := dk_167 255 226 (dk_at dksX2_count_9 13 rfl rfl)
theorem dX2_count_230 : decode cX2_count 230 = .ok (.iload_n 2, 1) := dk_28 (dk_at dksX2_count_9 16 rfl rfl)
theorem dX2_count_231 : decode cX2_count 231 = .ok (.ireturn, 1) := dk_172 (dk_at dksX2_count_9 17 rfl rfl)
theorem dX2_count_232 : decode cX2_count 232 = .ok (.iconst (-1), 1) := dk_2 (dk_at dksX2_count_9 18 rfl rfl)
theorem dX2_count_233 : decode cX2_count 233 = .ok (.ireturn, 1) := dk_172 (dk_at dksX2_count_9 19 rfl rfl)
theorem q107 : (Jvm.Cond.initialized "FirstInModel") ∈ lw_all := lw_g (lw_at lw_m1 6 rfl) rfl
theorem q625 : (Jvm.Cond.selects "FirstInModel" ({ cls := "java/lang/Object", name := "getClass", desc := "()Ljava/lang/Class;" } : Jvm.MethodName) ({ cls := "java/lang/Object", name := "getClass", desc := "()Ljava/lang/Class;" } : Jvm.MethodName)) ∈ lw_all := lw_g (lw_at lw_m3 44 rfl) rfl
theorem q1432 : (Jvm.Cond.instantiable "FirstInModel" (64 : Nat)) ∈ lw_all := lw_g (lw_at lw_m6 131 rfl) rfl
theorem q1434 : (Jvm.Cond.instanceMethod ({ cls := "FirstInModel", name := "<init>", desc := "()V" } : Jvm.MethodName)) ∈ lw_all := lw_g (lw_at lw_m6 133 rfl) rfl
theorem q1435 : (Jvm.Cond.code ({ cls := "FirstInModel", name := "<init>", desc := "()V" } : Jvm.MethodName) prog_26_method_1_code (1 : Nat) (Option.none : Option Jvm.ClassFile.FieldType)) ∈ lw_all := lw_g (lw_at lw_m6 134 rfl) rfl
theorem q1436 : (Jvm.Cond.methodLink "FirstInModel" (1 : Nat) ({ cls := "java/lang/Object", name := "<init>", desc := "()V" } : Jvm.MethodName)) ∈ lw_all := lw_g (lw_at lw_m6 135 rfl) rfl
theorem q1437 : (Jvm.Cond.classLink "FirstInModel" (13 : Nat) "[[J") ∈ lw_all := lw_g (lw_at lw_m6 136 rfl) rfl
theorem q1439 : (Jvm.Cond.classLink "FirstInModel" (21 : Nat) "[[I") ∈ lw_all := lw_g (lw_at lw_m6 138 rfl) rfl
theorem q1441 : (Jvm.Cond.classLink "FirstInModel" (54 : Nat) "java/lang/String") ∈ lw_all := lw_g (lw_at lw_m6 140 rfl) rfl
theorem q1443 : (Jvm.Cond.stringRef "FirstInModel" (56 : Nat) "guest") ∈ lw_tbl := lw_at lw_m6 142 rfl
theorem q1444 : (Jvm.Cond.stringRef "FirstInModel" (58 : Nat) "mark") ∈ lw_tbl := lw_at lw_m6 143 rfl
theorem q1445 : (Jvm.Cond.stringRef "FirstInModel" (60 : Nat) "is") ∈ lw_tbl := lw_at lw_m6 144 rfl
theorem q1446 : (Jvm.Cond.stringRef "FirstInModel" (62 : Nat) "above") ∈ lw_tbl := lw_at lw_m6 145 rfl
theorem q1447 : (Jvm.Cond.stringRef "FirstInModel" (64 : Nat) "even") ∈ lw_tbl := lw_at lw_m6 146 rfl
theorem q1448 : (Jvm.Cond.stringRef "FirstInModel" (66 : Nat) "apart") ∈ lw_tbl := lw_at lw_m6 147 rfl
theorem q1449 : (Jvm.Cond.stringRef "FirstInModel" (68 : Nat) "by") ∈ lw_tbl := lw_at lw_m6 148 rfl
theorem q1450 : (Jvm.Cond.stringRef "FirstInModel" (70 : Nat) "in") ∈ lw_tbl := lw_at lw_m6 149 rfl
theorem q1451 : (Jvm.Cond.stringRef "FirstInModel" (72 : Nat) "unless") ∈ lw_tbl := lw_at lw_m6 150 rfl
theorem q1452 : (Jvm.Cond.fieldLink "FirstInModel" (9 : Nat) "FirstInModel" "text" "[B") ∈ lw_all := lw_g (lw_at lw_m6 151 rfl) rfl
theorem q1453 : (Jvm.Cond.fieldLink "FirstInModel" (175 : Nat) "FirstInModel" "textMany" "I") ∈ lw_all := lw_g (lw_at lw_m6 152 rfl) rfl
theorem q1454 : (Jvm.Cond.fieldLink "FirstInModel" (189 : Nat) "FirstInModel" "at" "I") ∈ lw_all := lw_g (lw_at lw_m6 153 rfl) rfl
theorem q1455 : (Jvm.Cond.fieldLink "FirstInModel" (186 : Nat) "FirstInModel" "to" "I") ∈ lw_all := lw_g (lw_at lw_m6 154 rfl) rfl
theorem q1456 : (Jvm.Cond.fieldLink "FirstInModel" (196 : Nat) "FirstInModel" "faultAt" "I") ∈ lw_all := lw_g (lw_at lw_m6 155 rfl) rfl
theorem q1457 : (Jvm.Cond.fieldLink "FirstInModel" (214 : Nat) "FirstInModel" "value" "I") ∈ lw_all := lw_g (lw_at lw_m6 156 rfl) rfl
theorem q1458 : (Jvm.Cond.fieldLink "FirstInModel" (15 : Nat) "FirstInModel" "guestName" "[[J") ∈ lw_all := lw_g (lw_at lw_m6 157 rfl) rfl
theorem q1459 : (Jvm.Cond.fieldLink "FirstInModel" (18 : Nat) "FirstInModel" "markName" "[[J") ∈ lw_all := lw_g (lw_at lw_m6 158 rfl) rfl
theorem q1460 : (Jvm.Cond.fieldLink "FirstInModel" (23 : Nat) "FirstInModel" "marked" "[[I") ∈ lw_all := lw_g (lw_at lw_m6 159 rfl) rfl
theorem q1461 : (Jvm.Cond.fieldLink "FirstInModel" (26 : Nat) "FirstInModel" "kind" "[[I") ∈ lw_all := lw_g (lw_at lw_m6 160 rfl) rfl
theorem q1462 : (Jvm.Cond.fieldLink "FirstInModel" (29 : Nat) "FirstInModel" "one" "[[I") ∈ lw_all := lw_g (lw_at lw_m6 161 rfl) rfl
theorem q1463 : (Jvm.Cond.fieldLink "FirstInModel" (32 : Nat) "FirstInModel" "other" "[[I") ∈ lw_all := lw_g (lw_at lw_m6 162 rfl) rfl
theorem q1464 : (Jvm.Cond.fieldLink "FirstInModel" (35 : Nat) "FirstInModel" "weight" "[[I") ∈ lw_all := lw_g (lw_at lw_m6 163 rfl) rfl
theorem q1465 : (Jvm.Cond.fieldLink "FirstInModel" (38 : Nat) "FirstInModel" "tells" "[[I") ∈ lw_all := lw_g (lw_at lw_m6 164 rfl) rfl
theorem q1466 : (Jvm.Cond.fieldLink "FirstInModel" (41 : Nat) "FirstInModel" "unless" "[[I") ∈ lw_all := lw_g (lw_at lw_m6 165 rfl) rfl
theorem q1467 : (Jvm.Cond.fieldLink "FirstInModel" (44 : Nat) "FirstInModel" "guests" "[I") ∈ lw_all := lw_g (lw_at lw_m6 166 rfl) rfl
theorem q1468 : (Jvm.Cond.fieldLink "FirstInModel" (48 : Nat) "FirstInModel" "marks" "[I") ∈ lw_all := lw_g (lw_at lw_m6 167 rfl) rfl
theorem q1469 : (Jvm.Cond.fieldLink "FirstInModel" (51 : Nat) "FirstInModel" "rules" "[I") ∈ lw_all := lw_g (lw_at lw_m6 168 rfl) rfl
theorem q1470 : (Jvm.Cond.fieldLink "FirstInModel" (73 : Nat) "FirstInModel" "words" "[Ljava/lang/String;") ∈ lw_all := lw_g (lw_at lw_m6 169 rfl) rfl
theorem q1471 : (Jvm.Cond.fieldLink "FirstInModel" (77 : Nat) "FirstInModel" "rests" "[Z") ∈ lw_all := lw_g (lw_at lw_m6 170 rfl) rfl
theorem q1472 : (Jvm.Cond.fieldLink "FirstInModel" (81 : Nat) "FirstInModel" "coming" "[Z") ∈ lw_all := lw_g (lw_at lw_m6 171 rfl) rfl
theorem q1473 : (Jvm.Cond.fieldLink "FirstInModel" (84 : Nat) "FirstInModel" "sitting" "[Z") ∈ lw_all := lw_g (lw_at lw_m6 172 rfl) rfl
theorem q1474 : (Jvm.Cond.fieldLink "FirstInModel" (87 : Nat) "FirstInModel" "inRoom" "[I") ∈ lw_all := lw_g (lw_at lw_m6 173 rfl) rfl
theorem q1475 : (Jvm.Cond.fieldLink "FirstInModel" (90 : Nat) "FirstInModel" "inPlace" "[I") ∈ lw_all := lw_g (lw_at lw_m6 174 rfl) rfl
theorem q1476 : (Jvm.Cond.fieldLink "FirstInModel" (93 : Nat) "FirstInModel" "roomKind" "[I") ∈ lw_all := lw_g (lw_at lw_m6 175 rfl) rfl
theorem q1477 : (Jvm.Cond.fieldLink "FirstInModel" (96 : Nat) "FirstInModel" "roomPlaces" "[I") ∈ lw_all := lw_g (lw_at lw_m6 176 rfl) rfl
theorem q1478 : (Jvm.Cond.fieldLink "FirstInModel" (268 : Nat) "FirstInModel" "rooms" "I") ∈ lw_all := lw_g (lw_at lw_m6 177 rfl) rfl
theorem q1479 : (Jvm.Cond.fieldLink "FirstInModel" (99 : Nat) "FirstInModel" "slightRule" "[I") ∈ lw_all := lw_g (lw_at lw_m6 178 rfl) rfl
theorem q1480 : (Jvm.Cond.fieldLink "FirstInModel" (102 : Nat) "FirstInModel" "slightX" "[I") ∈ lw_all := lw_g (lw_at lw_m6 179 rfl) rfl
theorem q1481 : (Jvm.Cond.fieldLink "FirstInModel" (105 : Nat) "FirstInModel" "slightY" "[I") ∈ lw_all := lw_g (lw_at lw_m6 180 rfl) rfl
theorem q1482 : (Jvm.Cond.fieldLink "FirstInModel" (108 : Nat) "FirstInModel" "minding" "[I") ∈ lw_all := lw_g (lw_at lw_m6 181 rfl) rfl
theorem q1483 : (Jvm.Cond.fieldLink "FirstInModel" (317 : Nat) "FirstInModel" "slightMany" "I") ∈ lw_all := lw_g (lw_at lw_m6 182 rfl) rfl
theorem q1484 : (Jvm.Cond.fieldLink "FirstInModel" (111 : Nat) "FirstInModel" "above" "[Z") ∈ lw_all := lw_g (lw_at lw_m6 183 rfl) rfl
theorem q1485 : (Jvm.Cond.fieldLink "FirstInModel" (113 : Nat) "FirstInModel" "even" "[Z") ∈ lw_all := lw_g (lw_at lw_m6 184 rfl) rfl
theorem q1486 : (Jvm.Cond.fieldLink "FirstInModel" (115 : Nat) "FirstInModel" "far" "[I") ∈ lw_all := lw_g (lw_at lw_m6 185 rfl) rfl
theorem q1487 : (Jvm.Cond.fieldLink "FirstInModel" (118 : Nat) "FirstInModel" "row" "[I") ∈ lw_all := lw_g (lw_at lw_m6 186 rfl) rfl
theorem q1488 : (Jvm.Cond.fieldLink "FirstInModel" (121 : Nat) "FirstInModel" "together" "[I") ∈ lw_all := lw_g (lw_at lw_m6 187 rfl) rfl
theorem q1489 : (Jvm.Cond.fieldLink "FirstInModel" (124 : Nat) "FirstInModel" "groupBits" "[I") ∈ lw_all := lw_g (lw_at lw_m6 188 rfl) rfl
theorem q1490 : (Jvm.Cond.fieldLink "FirstInModel" (127 : Nat) "FirstInModel" "least" "[I") ∈ lw_all := lw_g (lw_at lw_m6 189 rfl) rfl
theorem q1491 : (Jvm.Cond.fieldLink "FirstInModel" (130 : Nat) "FirstInModel" "heapOf" "[I") ∈ lw_all := lw_g (lw_at lw_m6 190 rfl) rfl
theorem q1492 : (Jvm.Cond.fieldLink "FirstInModel" (133 : Nat) "FirstInModel" "heaps" "[I") ∈ lw_all := lw_g (lw_at lw_m6 191 rfl) rfl
theorem q1493 : (Jvm.Cond.fieldLink "FirstInModel" (136 : Nat) "FirstInModel" "members" "[I") ∈ lw_all := lw_g (lw_at lw_m6 192 rfl) rfl
theorem q1494 : (Jvm.Cond.fieldLink "FirstInModel" (139 : Nat) "FirstInModel" "quiet" "[Z") ∈ lw_all := lw_g (lw_at lw_m6 193 rfl) rfl
theorem q1495 : (Jvm.Cond.fieldLink "FirstInModel" (382 : Nat) "FirstInModel" "memberMany" "I") ∈ lw_all := lw_g (lw_at lw_m6 194 rfl) rfl
theorem q1496 : (Jvm.Cond.fieldLink "FirstInModel" (142 : Nat) "FirstInModel" "weighs" "[I") ∈ lw_all := lw_g (lw_at lw_m6 195 rfl) rfl
theorem q1497 : (Jvm.Cond.fieldLink "FirstInModel" (145 : Nat) "FirstInModel" "heavy" "[I") ∈ lw_all := lw_g (lw_at lw_m6 196 rfl) rfl
theorem q1498 : (Jvm.Cond.fieldLink "FirstInModel" (148 : Nat) "FirstInModel" "place" "[I") ∈ lw_all := lw_g (lw_at lw_m6 197 rfl) rfl
theorem q1499 : (Jvm.Cond.fieldLink "FirstInModel" (151 : Nat) "FirstInModel" "best" "[I") ∈ lw_all := lw_g (lw_at lw_m6 198 rfl) rfl
theorem q1500 : (Jvm.Cond.fieldLink "FirstInModel" (154 : Nat) "FirstInModel" "mild" "[I") ∈ lw_all := lw_g (lw_at lw_m6 199 rfl) rfl
theorem q1501 : (Jvm.Cond.fieldLink "FirstInModel" (157 : Nat) "FirstInModel" "mend" "[I") ∈ lw_all := lw_g (lw_at lw_m6 200 rfl) rfl
theorem q1502 : (Jvm.Cond.fieldLink "FirstInModel" (160 : Nat) "FirstInModel" "same" "[I") ∈ lw_all := lw_g (lw_at lw_m6 201 rfl) rfl
theorem q1503 : (Jvm.Cond.fieldLink "FirstInModel" (163 : Nat) "FirstInModel" "seen" "[I") ∈ lw_all := lw_g (lw_at lw_m6 202 rfl) rfl
theorem q1504 : (Jvm.Cond.fieldLink "FirstInModel" (394 : Nat) "FirstInModel" "seats" "I") ∈ lw_all := lw_g (lw_at lw_m6 203 rfl) rfl
theorem q1505 : (Jvm.Cond.fieldLink "FirstInModel" (405 : Nat) "FirstInModel" "seaterRoom" "I") ∈ lw_all := lw_g (lw_at lw_m6 204 rfl) rfl
theorem q1506 : (Jvm.Cond.fieldLink "FirstInModel" (424 : Nat) "FirstInModel" "leastAll" "I") ∈ lw_all := lw_g (lw_at lw_m6 205 rfl) rfl
theorem q1507 : (Jvm.Cond.fieldLink "FirstInModel" (427 : Nat) "FirstInModel" "leastMany" "I") ∈ lw_all := lw_g (lw_at lw_m6 206 rfl) rfl
theorem q1508 : (Jvm.Cond.fieldLink "FirstInModel" (418 : Nat) "FirstInModel" "mildMost" "I") ∈ lw_all := lw_g (lw_at lw_m6 207 rfl) rfl
theorem q1509 : (Jvm.Cond.fieldLink "FirstInModel" (421 : Nat) "FirstInModel" "mildAll" "I") ∈ lw_all := lw_g (lw_at lw_m6 208 rfl) rfl
theorem q1510 : (Jvm.Cond.fieldLink "FirstInModel" (408 : Nat) "FirstInModel" "limit" "I") ∈ lw_all := lw_g (lw_at lw_m6 209 rfl) rfl
theorem q1511 : (Jvm.Cond.fieldLink "FirstInModel" (411 : Nat) "FirstInModel" "mendLeave" "I") ∈ lw_all := lw_g (lw_at lw_m6 210 rfl) rfl
theorem q1512 : (Jvm.Cond.fieldLink "FirstInModel" (401 : Nat) "FirstInModel" "isMending" "Z") ∈ lw_all := lw_g (lw_at lw_m6 211 rfl) rfl
theorem q1513 : (Jvm.Cond.fieldLink "FirstInModel" (166 : Nat) "FirstInModel" "mindsOn" "[I") ∈ lw_all := lw_g (lw_at lw_m6 212 rfl) rfl
theorem q1514 : (Jvm.Cond.fieldLink "FirstInModel" (169 : Nat) "FirstInModel" "step" "[I") ∈ lw_all := lw_g (lw_at lw_m6 213 rfl) rfl
theorem q1515 : (Jvm.Cond.fieldLink "FirstInModel" (172 : Nat) "FirstInModel" "bestStep" "[I") ∈ lw_all := lw_g (lw_at lw_m6 214 rfl) rfl
theorem q1516 : (Jvm.Cond.laysFinal "FirstInModel" "FirstInModel" "text" "[B") ∈ lw_all := lw_g (lw_at lw_m6 215 rfl) rfl
theorem q1517 : (Jvm.Cond.soleField "FirstInModel" "text") ∈ lw_all := lw_g (lw_at lw_m6 216 rfl) rfl
theorem q1518 : (Jvm.Cond.lays "FirstInModel" "FirstInModel" "textMany" "I") ∈ lw_all := lw_g (lw_at lw_m6 217 rfl) rfl
theorem q1519 : (Jvm.Cond.soleField "FirstInModel" "textMany") ∈ lw_all := lw_g (lw_at lw_m6 218 rfl) rfl
theorem q1520 : (Jvm.Cond.lays "FirstInModel" "FirstInModel" "at" "I") ∈ lw_all := lw_g (lw_at lw_m6 219 rfl) rfl
theorem q1521 : (Jvm.Cond.soleField "FirstInModel" "at") ∈ lw_all := lw_g (lw_at lw_m6 220 rfl) rfl
theorem q1522 : (Jvm.Cond.lays "FirstInModel" "FirstInModel" "to" "I") ∈ lw_all := lw_g (lw_at lw_m6 221 rfl) rfl
theorem q1523 : (Jvm.Cond.soleField "FirstInModel" "to") ∈ lw_all := lw_g (lw_at lw_m6 222 rfl) rfl
theorem q1524 : (Jvm.Cond.lays "FirstInModel" "FirstInModel" "faultAt" "I") ∈ lw_all := lw_g (lw_at lw_m6 223 rfl) rfl
theorem q1525 : (Jvm.Cond.soleField "FirstInModel" "faultAt") ∈ lw_all := lw_g (lw_at lw_m6 224 rfl) rfl
theorem q1526 : (Jvm.Cond.lays "FirstInModel" "FirstInModel" "value" "I") ∈ lw_all := lw_g (lw_at lw_m6 225 rfl) rfl
theorem q1527 : (Jvm.Cond.soleField "FirstInModel" "value") ∈ lw_all := lw_g (lw_at lw_m6 226 rfl) rfl
theorem q1528 : (Jvm.Cond.laysFinal "FirstInModel" "FirstInModel" "guestName" "[[J") ∈ lw_all := lw_g (lw_at lw_m6 227 rfl) rfl
theorem q1529 : (Jvm.Cond.soleField "FirstInModel" "guestName") ∈ lw_all := lw_g (lw_at lw_m6 228 rfl) rfl
theorem q1530 : (Jvm.Cond.laysFinal "FirstInModel" "FirstInModel" "markName" "[[J") ∈ lw_all := lw_g (lw_at lw_m6 229 rfl) rfl
theorem q1531 : (Jvm.Cond.soleField "FirstInModel" "markName") ∈ lw_all := lw_g (lw_at lw_m6 230 rfl) rfl
theorem q1532 : (Jvm.Cond.laysFinal "FirstInModel" "FirstInModel" "marked" "[[I") ∈ lw_all := lw_g (lw_at lw_m6 231 rfl) rfl
theorem q1533 : (Jvm.Cond.soleField "FirstInModel" "marked") ∈ lw_all := lw_g (lw_at lw_m6 232 rfl) rfl
theorem q1534 : (Jvm.Cond.laysFinal "FirstInModel" "FirstInModel" "kind" "[[I") ∈ lw_all := lw_g (lw_at lw_m6 233 rfl) rfl
theorem q1535 : (Jvm.Cond.soleField "FirstInModel" "kind") ∈ lw_all := lw_g (lw_at lw_m6 234 rfl) rfl
theorem q1536 : (Jvm.Cond.laysFinal "FirstInModel" "FirstInModel" "one" "[[I") ∈ lw_all := lw_g (lw_at lw_m6 235 rfl) rfl
theorem q1537 : (Jvm.Cond.soleField "FirstInModel" "one") ∈ lw_all := lw_g (lw_at lw_m6 236 rfl) rfl
theorem q1538 : (Jvm.Cond.laysFinal "FirstInModel" "FirstInModel" "other" "[[I") ∈ lw_all := lw_g (lw_at lw_m6 237 rfl) rfl
theorem q1539 : (Jvm.Cond.soleField "FirstInModel" "other") ∈ lw_all := lw_g (lw_at lw_m6 238 rfl) rfl
theorem q1540 : (Jvm.Cond.laysFinal "FirstInModel" "FirstInModel" "weight" "[[I") ∈ lw_all := lw_g (lw_at lw_m6 239 rfl) rfl
theorem q1541 : (Jvm.Cond.soleField "FirstInModel" "weight") ∈ lw_all := lw_g (lw_at lw_m7 0 rfl) rfl
theorem q1542 : (Jvm.Cond.laysFinal "FirstInModel" "FirstInModel" "tells" "[[I") ∈ lw_all := lw_g (lw_at lw_m7 1 rfl) rfl
theorem q1543 : (Jvm.Cond.soleField "FirstInModel" "tells") ∈ lw_all := lw_g (lw_at lw_m7 2 rfl) rfl
theorem q1544 : (Jvm.Cond.laysFinal "FirstInModel" "FirstInModel" "unless" "[[I") ∈ lw_all := lw_g (lw_at lw_m7 3 rfl) rfl
theorem q1545 : (Jvm.Cond.soleField "FirstInModel" "unless") ∈ lw_all := lw_g (lw_at lw_m7 4 rfl) rfl
theorem q1546 : (Jvm.Cond.laysFinal "FirstInModel" "FirstInModel" "guests" "[I") ∈ lw_all := lw_g (lw_at lw_m7 5 rfl) rfl
theorem q1547 : (Jvm.Cond.soleField "FirstInModel" "guests") ∈ lw_all := lw_g (lw_at lw_m7 6 rfl) rfl
theorem q1548 : (Jvm.Cond.laysFinal "FirstInModel" "FirstInModel" "marks" "[I") ∈ lw_all := lw_g (lw_at lw_m7 7 rfl) rfl
theorem q1549 : (Jvm.Cond.soleField "FirstInModel" "marks") ∈ lw_all := lw_g (lw_at lw_m7 8 rfl) rfl
theorem q1550 : (Jvm.Cond.laysFinal "FirstInModel" "FirstInModel" "rules" "[I") ∈ lw_all := lw_g (lw_at lw_m7 9 rfl) rfl
theorem q1551 : (Jvm.Cond.soleField "FirstInModel" "rules") ∈ lw_all := lw_g (lw_at lw_m7 10 rfl) rfl
theorem q1552 : (Jvm.Cond.laysFinal "FirstInModel" "FirstInModel" "words" "[Ljava/lang/String;") ∈ lw_all := lw_g (lw_at lw_m7 11 rfl) rfl
theorem q1553 : (Jvm.Cond.soleField "FirstInModel" "words") ∈ lw_all := lw_g (lw_at lw_m7 12 rfl) rfl
theorem q1554 : (Jvm.Cond.laysFinal "FirstInModel" "FirstInModel" "rests" "[Z") ∈ lw_all := lw_g (lw_at lw_m7 13 rfl) rfl
theorem q1555 : (Jvm.Cond.soleField "FirstInModel" "rests") ∈ lw_all := lw_g (lw_at lw_m7 14 rfl) rfl
theorem q1556 : (Jvm.Cond.laysFinal "FirstInModel" "FirstInModel" "coming" "[Z") ∈ lw_all := lw_g (lw_at lw_m7 15 rfl) rfl
theorem q1557 : (Jvm.Cond.soleField "FirstInModel" "coming") ∈ lw_all := lw_g (lw_at lw_m7 16 rfl) rfl
theorem q1558 : (Jvm.Cond.laysFinal "FirstInModel" "FirstInModel" "sitting" "[Z") ∈ lw_all := lw_g (lw_at lw_m7 17 rfl) rfl
theorem q1559 : (Jvm.Cond.soleField "FirstInModel" "sitting") ∈ lw_all := lw_g (lw_at lw_m7 18 rfl) rfl
theorem q1560 : (Jvm.Cond.laysFinal "FirstInModel" "FirstInModel" "inRoom" "[I") ∈ lw_all := lw_g (lw_at lw_m7 19 rfl) rfl
theorem q1561 : (Jvm.Cond.soleField "FirstInModel" "inRoom") ∈ lw_all := lw_g (lw_at lw_m7 20 rfl) rfl
theorem q1562 : (Jvm.Cond.laysFinal "FirstInModel" "FirstInModel" "inPlace" "[I") ∈ lw_all := lw_g (lw_at lw_m7 21 rfl) rfl
theorem q1563 : (Jvm.Cond.soleField "FirstInModel" "inPlace") ∈ lw_all := lw_g (lw_at lw_m7 22 rfl) rfl
theorem q1564 : (Jvm.Cond.laysFinal "FirstInModel" "FirstInModel" "roomKind" "[I") ∈ lw_all := lw_g (lw_at lw_m7 23 rfl) rfl
theorem q1565 : (Jvm.Cond.soleField "FirstInModel" "roomKind") ∈ lw_all := lw_g (lw_at lw_m7 24 rfl) rfl
theorem q1566 : (Jvm.Cond.laysFinal "FirstInModel" "FirstInModel" "roomPlaces" "[I") ∈ lw_all := lw_g (lw_at lw_m7 25 rfl) rfl
theorem q1567 : (Jvm.Cond.soleField "FirstInModel" "roomPlaces") ∈ lw_all := lw_g (lw_at lw_m7 26 rfl) rfl
theorem q1568 : (Jvm.Cond.lays "FirstInModel" "FirstInModel" "rooms" "I") ∈ lw_all := lw_g (lw_at lw_m7 27 rfl) rfl
theorem q1569 : (Jvm.Cond.soleField "FirstInModel" "rooms") ∈ lw_all := lw_g (lw_at lw_m7 28 rfl) rfl
theorem q1570 : (Jvm.Cond.laysFinal "FirstInModel" "FirstInModel" "slightRule" "[I") ∈ lw_all := lw_g (lw_at lw_m7 29 rfl) rfl
theorem q1571 : (Jvm.Cond.soleField "FirstInModel" "slightRule") ∈ lw_all := lw_g (lw_at lw_m7 30 rfl) rfl
theorem q1572 : (Jvm.Cond.laysFinal "FirstInModel" "FirstInModel" "slightX" "[I") ∈ lw_all := lw_g (lw_at lw_m7 31 rfl) rfl
theorem q1573 : (Jvm.Cond.soleField "FirstInModel" "slightX") ∈ lw_all := lw_g (lw_at lw_m7 32 rfl) rfl
theorem q1574 : (Jvm.Cond.laysFinal "FirstInModel" "FirstInModel" "slightY" "[I") ∈ lw_all := lw_g (lw_at lw_m7 33 rfl) rfl
theorem q1575 : (Jvm.Cond.soleField "FirstInModel" "slightY") ∈ lw_all := lw_g (lw_at lw_m7 34 rfl) rfl
theorem q1576 : (Jvm.Cond.laysFinal "FirstInModel" "FirstInModel" "minding" "[I") ∈ lw_all := lw_g (lw_at lw_m7 35 rfl) rfl
theorem q1577 : (Jvm.Cond.soleField "FirstInModel" "minding") ∈ lw_all := lw_g (lw_at lw_m7 36 rfl) rfl
theorem q1578 : (Jvm.Cond.lays "FirstInModel" "FirstInModel" "slightMany" "I") ∈ lw_all := lw_g (lw_at lw_m7 37 rfl) rfl
theorem q1579 : (Jvm.Cond.soleField "FirstInModel" "slightMany") ∈ lw_all := lw_g (lw_at lw_m7 38 rfl) rfl
theorem q1580 : (Jvm.Cond.laysFinal "FirstInModel" "FirstInModel" "above" "[Z") ∈ lw_all := lw_g (lw_at lw_m7 39 rfl) rfl
theorem q1581 : (Jvm.Cond.soleField "FirstInModel" "above") ∈ lw_all := lw_g (lw_at lw_m7 40 rfl) rfl
theorem q1582 : (Jvm.Cond.laysFinal "FirstInModel" "FirstInModel" "even" "[Z") ∈ lw_all := lw_g (lw_at lw_m7 41 rfl) rfl
theorem q1583 : (Jvm.Cond.soleField "FirstInModel" "even") ∈ lw_all := lw_g (lw_at lw_m7 42 rfl) rfl
theorem q1584 : (Jvm.Cond.laysFinal "FirstInModel" "FirstInModel" "far" "[I") ∈ lw_all := lw_g (lw_at lw_m7 43 rfl) rfl
theorem q1585 : (Jvm.Cond.soleField "FirstInModel" "far") ∈ lw_all := lw_g (lw_at lw_m7 44 rfl) rfl
theorem q1586 : (Jvm.Cond.laysFinal "FirstInModel" "FirstInModel" "row" "[I") ∈ lw_all := lw_g (lw_at lw_m7 45 rfl) rfl
theorem q1587 : (Jvm.Cond.soleField "FirstInModel" "row") ∈ lw_all := lw_g (lw_at lw_m7 46 rfl) rfl
theorem q1588 : (Jvm.Cond.laysFinal "FirstInModel" "FirstInModel" "together" "[I") ∈ lw_all := lw_g (lw_at lw_m7 47 rfl) rfl
theorem q1589 : (Jvm.Cond.soleField "FirstInModel" "together") ∈ lw_all := lw_g (lw_at lw_m7 48 rfl) rfl
theorem q1590 : (Jvm.Cond.laysFinal "FirstInModel" "FirstInModel" "groupBits" "[I") ∈ lw_all := lw_g (lw_at lw_m7 49 rfl) rfl
theorem q1591 : (Jvm.Cond.soleField "FirstInModel" "groupBits") ∈ lw_all := lw_g (lw_at lw_m7 50 rfl) rfl
theorem q1592 : (Jvm.Cond.laysFinal "FirstInModel" "FirstInModel" "least" "[I") ∈ lw_all := lw_g (lw_at lw_m7 51 rfl) rfl
theorem q1593 : (Jvm.Cond.soleField "FirstInModel" "least") ∈ lw_all := lw_g (lw_at lw_m7 52 rfl) rfl
theorem q1594 : (Jvm.Cond.laysFinal "FirstInModel" "FirstInModel" "heapOf" "[I") ∈ lw_all := lw_g (lw_at lw_m7 53 rfl) rfl
theorem q1595 : (Jvm.Cond.soleField "FirstInModel" "heapOf") ∈ lw_all := lw_g (lw_at lw_m7 54 rfl) rfl
theorem q1596 : (Jvm.Cond.laysFinal "FirstInModel" "FirstInModel" "heaps" "[I") ∈ lw_all := lw_g (lw_at lw_m7 55 rfl) rfl
theorem q1597 : (Jvm.Cond.soleField "FirstInModel" "heaps") ∈ lw_all := lw_g (lw_at lw_m7 56 rfl) rfl
theorem q1598 : (Jvm.Cond.laysFinal "FirstInModel" "FirstInModel" "members" "[I") ∈ lw_all := lw_g (lw_at lw_m7 57 rfl) rfl
theorem q1599 : (Jvm.Cond.soleField "FirstInModel" "members") ∈ lw_all := lw_g (lw_at lw_m7 58 rfl) rfl
theorem q1600 : (Jvm.Cond.laysFinal "FirstInModel" "FirstInModel" "quiet" "[Z") ∈ lw_all := lw_g (lw_at lw_m7 59 rfl) rfl
theorem q1601 : (Jvm.Cond.soleField "FirstInModel" "quiet") ∈ lw_all := lw_g (lw_at lw_m7 60 rfl) rfl
theorem q1602 : (Jvm.Cond.lays "FirstInModel" "FirstInModel" "memberMany" "I") ∈ lw_all := lw_g (lw_at lw_m7 61 rfl) rfl
theorem q1603 : (Jvm.Cond.soleField "FirstInModel" "memberMany") ∈ lw_all := lw_g (lw_at lw_m7 62 rfl) rfl
theorem q1604 : (Jvm.Cond.laysFinal "FirstInModel" "FirstInModel" "weighs" "[I") ∈ lw_all := lw_g (lw_at lw_m7 63 rfl) rfl
theorem q1605 : (Jvm.Cond.soleField "FirstInModel" "weighs") ∈ lw_all := lw_g (lw_at lw_m7 64 rfl) rfl
theorem q1606 : (Jvm.Cond.laysFinal "FirstInModel" "FirstInModel" "heavy" "[I") ∈ lw_all := lw_g (lw_at lw_m7 65 rfl) rfl
theorem q1607 : (Jvm.Cond.soleField "FirstInModel" "heavy") ∈ lw_all := lw_g (lw_at lw_m7 66 rfl) rfl
theorem q1608 : (Jvm.Cond.laysFinal "FirstInModel" "FirstInModel" "place" "[I") ∈ lw_all := lw_g (lw_at lw_m7 67 rfl) rfl
theorem q1609 : (Jvm.Cond.soleField "FirstInModel" "place") ∈ lw_all := lw_g (lw_at lw_m7 68 rfl) rfl
theorem q1610 : (Jvm.Cond.laysFinal "FirstInModel" "FirstInModel" "best" "[I") ∈ lw_all := lw_g (lw_at lw_m7 69 rfl) rfl
theorem q1611 : (Jvm.Cond.soleField "FirstInModel" "best") ∈ lw_all := lw_g (lw_at lw_m7 70 rfl) rfl
theorem q1612 : (Jvm.Cond.laysFinal "FirstInModel" "FirstInModel" "mild" "[I") ∈ lw_all := lw_g (lw_at lw_m7 71 rfl) rfl
theorem q1613 : (Jvm.Cond.soleField "FirstInModel" "mild") ∈ lw_all := lw_g (lw_at lw_m7 72 rfl) rfl
theorem q1614 : (Jvm.Cond.laysFinal "FirstInModel" "FirstInModel" "mend" "[I") ∈ lw_all := lw_g (lw_at lw_m7 73 rfl) rfl
theorem q1615 : (Jvm.Cond.soleField "FirstInModel" "mend") ∈ lw_all := lw_g (lw_at lw_m7 74 rfl) rfl
theorem q1616 : (Jvm.Cond.laysFinal "FirstInModel" "FirstInModel" "same" "[I") ∈ lw_all := lw_g (lw_at lw_m7 75 rfl) rfl
theorem q1617 : (Jvm.Cond.soleField "FirstInModel" "same") ∈ lw_all := lw_g (lw_at lw_m7 76 rfl) rfl
theorem q1618 : (Jvm.Cond.laysFinal "FirstInModel" "FirstInModel" "seen" "[I") ∈ lw_all := lw_g (lw_at lw_m7 77 rfl) rfl
theorem q1619 : (Jvm.Cond.soleField "FirstInModel" "seen") ∈ lw_all := lw_g (lw_at lw_m7 78 rfl) rfl
theorem q1620 : (Jvm.Cond.lays "FirstInModel" "FirstInModel" "seats" "I") ∈ lw_all := lw_g (lw_at lw_m7 79 rfl) rfl
theorem q1621 : (Jvm.Cond.soleField "FirstInModel" "seats") ∈ lw_all := lw_g (lw_at lw_m7 80 rfl) rfl
theorem q1622 : (Jvm.Cond.lays "FirstInModel" "FirstInModel" "seaterRoom" "I") ∈ lw_all := lw_g (lw_at lw_m7 81 rfl) rfl
theorem q1623 : (Jvm.Cond.soleField "FirstInModel" "seaterRoom") ∈ lw_all := lw_g (lw_at lw_m7 82 rfl) rfl
theorem q1624 : (Jvm.Cond.lays "FirstInModel" "FirstInModel" "leastAll" "I") ∈ lw_all := lw_g (lw_at lw_m7 83 rfl) rfl
theorem q1625 : (Jvm.Cond.soleField "FirstInModel" "leastAll") ∈ lw_all := lw_g (lw_at lw_m7 84 rfl) rfl
theorem q1626 : (Jvm.Cond.lays "FirstInModel" "FirstInModel" "leastMany" "I") ∈ lw_all := lw_g (lw_at lw_m7 85 rfl) rfl
theorem q1627 : (Jvm.Cond.soleField "FirstInModel" "leastMany") ∈ lw_all := lw_g (lw_at lw_m7 86 rfl) rfl
theorem q1628 : (Jvm.Cond.lays "FirstInModel" "FirstInModel" "mildMost" "I") ∈ lw_all := lw_g (lw_at lw_m7 87 rfl) rfl
theorem q1629 : (Jvm.Cond.soleField "FirstInModel" "mildMost") ∈ lw_all := lw_g (lw_at lw_m7 88 rfl) rfl
theorem q1630 : (Jvm.Cond.lays "FirstInModel" "FirstInModel" "mildAll" "I") ∈ lw_all := lw_g (lw_at lw_m7 89 rfl) rfl
theorem q1631 : (Jvm.Cond.soleField "FirstInModel" "mildAll") ∈ lw_all := lw_g (lw_at lw_m7 90 rfl) rfl
theorem q1632 : (Jvm.Cond.lays "FirstInModel" "FirstInModel" "limit" "I") ∈ lw_all := lw_g (lw_at lw_m7 91 rfl) rfl
theorem q1633 : (Jvm.Cond.soleField "FirstInModel" "limit") ∈ lw_all := lw_g (lw_at lw_m7 92 rfl) rfl
theorem q1634 : (Jvm.Cond.lays "FirstInModel" "FirstInModel" "mendLeave" "I") ∈ lw_all := lw_g (lw_at lw_m7 93 rfl) rfl
theorem q1635 : (Jvm.Cond.soleField "FirstInModel" "mendLeave") ∈ lw_all := lw_g (lw_at lw_m7 94 rfl) rfl
theorem q1636 : (Jvm.Cond.lays "FirstInModel" "FirstInModel" "isMending" "Z") ∈ lw_all := lw_g (lw_at lw_m7 95 rfl) rfl
theorem q1637 : (Jvm.Cond.soleField "FirstInModel" "isMending") ∈ lw_all := lw_g (lw_at lw_m7 96 rfl) rfl
theorem q1638 : (Jvm.Cond.laysFinal "FirstInModel" "FirstInModel" "mindsOn" "[I") ∈ lw_all := lw_g (lw_at lw_m7 97 rfl) rfl
theorem q1639 : (Jvm.Cond.soleField "FirstInModel" "mindsOn") ∈ lw_all := lw_g (lw_at lw_m7 98 rfl) rfl
theorem q1640 : (Jvm.Cond.laysFinal "FirstInModel" "FirstInModel" "step" "[I") ∈ lw_all := lw_g (lw_at lw_m7 99 rfl) rfl
theorem q1641 : (Jvm.Cond.soleField "FirstInModel" "step") ∈ lw_all := lw_g (lw_at lw_m7 100 rfl) rfl
theorem q1642 : (Jvm.Cond.laysFinal "FirstInModel" "FirstInModel" "bestStep" "[I") ∈ lw_all := lw_g (lw_at lw_m7 101 rfl) rfl
theorem q1643 : (Jvm.Cond.soleField "FirstInModel" "bestStep") ∈ lw_all := lw_g (lw_at lw_m7 102 rfl) rfl
theorem q1644 : (Jvm.Cond.superclass "FirstInModel" "java/lang/Object") ∈ lw_all := lw_g (lw_at lw_m7 103 rfl) rfl
theorem q1647 : (Jvm.Cond.instanceMethod ({ cls := "FirstInModel", name := "feed", desc := "(IIIII)I" } : Jvm.MethodName)) ∈ lw_all := lw_g (lw_at lw_m7 106 rfl) rfl
theorem q1648 : (Jvm.Cond.selects "FirstInModel" ({ cls := "FirstInModel", name := "feed", desc := "(IIIII)I" } : Jvm.MethodName) ({ cls := "FirstInModel", name := "feed", desc := "(IIIII)I" } : Jvm.MethodName)) ∈ lw_all := lw_g (lw_at lw_m7 107 rfl) rfl
theorem q1649 : (Jvm.Cond.code ({ cls := "FirstInModel", name := "feed", desc := "(IIIII)I" } : Jvm.MethodName) prog_26_method_4_code (6 : Nat) (Option.some Jvm.ClassFile.FieldType.int)) ∈ lw_all := lw_g (lw_at lw_m7 108 rfl) rfl
theorem q1650 : (Jvm.Cond.methodLink "FirstInModel" (179 : Nat) ({ cls := "FirstInModel", name := "feeds", desc := "(I)V" } : Jvm.MethodName)) ∈ lw_all := lw_g (lw_at lw_m7 109 rfl) rfl
theorem q1651 : (Jvm.Cond.privateMethod ({ cls := "FirstInModel", name := "feeds", desc := "(I)V" } : Jvm.MethodName)) ∈ lw_tbl := lw_at lw_m7 110 rfl
theorem q1652 : (Jvm.Cond.instanceMethod ({ cls := "FirstInModel", name := "feeds", desc := "(I)V" } : Jvm.MethodName)) ∈ lw_all := lw_g (lw_at lw_m7 111 rfl) rfl
theorem q1653 : (Jvm.Cond.code ({ cls := "FirstInModel", name := "feeds", desc := "(I)V" } : Jvm.MethodName) prog_26_method_3_code (3 : Nat) (Option.none : Option Jvm.ClassFile.FieldType)) ∈ lw_all := lw_g (lw_at lw_m7 112 rfl) rfl
theorem q1655 : (Jvm.Cond.instanceMethod ({ cls := "FirstInModel", name := "end", desc := "(I)Z" } : Jvm.MethodName)) ∈ lw_all := lw_g (lw_at lw_m7 114 rfl) rfl
theorem q1656 : (Jvm.Cond.selects "FirstInModel" ({ cls := "FirstInModel", name := "end", desc := "(I)Z" } : Jvm.MethodName) ({ cls := "FirstInModel", name := "end", desc := "(I)Z" } : Jvm.MethodName)) ∈ lw_all := lw_g (lw_at lw_m7 115 rfl) rfl
theorem q1657 : (Jvm.Cond.code ({ cls := "FirstInModel", name := "end", desc := "(I)Z" } : Jvm.MethodName) prog_26_method_5_code (2 : Nat) (Option.some Jvm.ClassFile.FieldType.boolean)) ∈ lw_all := lw_g (lw_at lw_m7 116 rfl) rfl
theorem q1658 : (Jvm.Cond.methodLink "FirstInModel" (183 : Nat) ({ cls := "FirstInModel", name := "in", desc := "(JJJ)Z" } : Jvm.MethodName)) ∈ lw_all := lw_g (lw_at lw_m7 117 rfl) rfl
theorem q1659 : (Jvm.Cond.static ({ cls := "FirstInModel", name := "in", desc := "(JJJ)Z" } : Jvm.MethodName)) ∈ lw_all := lw_g (lw_at lw_m7 118 rfl) rfl
theorem q1660 : (Jvm.Cond.code ({ cls := "FirstInModel", name := "in", desc := "(JJJ)Z" } : Jvm.MethodName) prog_26_method_2_code (6 : Nat) (Option.some Jvm.ClassFile.FieldType.boolean)) ∈ lw_all := lw_g (lw_at lw_m7 119 rfl) rfl
theorem q1662 : (Jvm.Cond.instanceMethod ({ cls := "FirstInModel", name := "fault", desc := "()I" } : Jvm.MethodName)) ∈ lw_all := lw_g (lw_at lw_m7 121 rfl) rfl
theorem q1663 : (Jvm.Cond.selects "FirstInModel" ({ cls := "FirstInModel", name := "fault", desc := "()I" } : Jvm.MethodName) ({ cls := "FirstInModel", name := "fault", desc := "()I" } : Jvm.MethodName)) ∈ lw_all := lw_g (lw_at lw_m7 122 rfl) rfl
theorem q1664 : (Jvm.Cond.code ({ cls := "FirstInModel", name := "fault", desc := "()I" } : Jvm.MethodName) prog_26_method_22_code (1 : Nat) (Option.some Jvm.ClassFile.FieldType.int)) ∈ lw_all := lw_g (lw_at lw_m7 123 rfl) rfl
theorem q1665 : (Jvm.Cond.methodLink "FirstInModel" (265 : Nat) ({ cls := "FirstInModel", name := "reads", desc := "()V" } : Jvm.MethodName)) ∈ lw_all := lw_g (lw_at lw_m7 124 rfl) rfl
theorem q1666 : (Jvm.Cond.privateMethod ({ cls := "FirstInModel", name := "reads", desc := "()V" } : Jvm.MethodName)) ∈ lw_tbl := lw_at lw_m7 125 rfl
theorem q1667 : (Jvm.Cond.instanceMethod ({ cls := "FirstInModel", name := "reads", desc := "()V" } : Jvm.MethodName)) ∈ lw_all := lw_g (lw_at lw_m7 126 rfl) rfl
theorem q1668 : (Jvm.Cond.code ({ cls := "FirstInModel", name := "reads", desc := "()V" } : Jvm.MethodName) prog_26_method_21_code (2 : Nat) (Option.none : Option Jvm.ClassFile.FieldType)) ∈ lw_all := lw_g (lw_at lw_m7 127 rfl) rfl
theorem q1669 : (Jvm.Cond.methodLink "FirstInModel" (199 : Nat) ({ cls := "FirstInModel", name := "next", desc := "()V" } : Jvm.MethodName)) ∈ lw_all := lw_g (lw_at lw_m7 128 rfl) rfl
theorem q1670 : (Jvm.Cond.privateMethod ({ cls := "FirstInModel", name := "next", desc := "()V" } : Jvm.MethodName)) ∈ lw_tbl := lw_at lw_m7 129 rfl
theorem q1671 : (Jvm.Cond.instanceMethod ({ cls := "FirstInModel", name := "next", desc := "()V" } : Jvm.MethodName)) ∈ lw_all := lw_g (lw_at lw_m7 130 rfl) rfl
theorem q1672 : (Jvm.Cond.code ({ cls := "FirstInModel", name := "next", desc := "()V" } : Jvm.MethodName) prog_26_method_7_code (1 : Nat) (Option.none : Option Jvm.ClassFile.FieldType)) ∈ lw_all := lw_g (lw_at lw_m7 131 rfl) rfl
theorem q1673 : (Jvm.Cond.methodLink "FirstInModel" (192 : Nat) ({ cls := "FirstInModel", name := "between", desc := "(III)Z" } : Jvm.MethodName)) ∈ lw_all := lw_g (lw_at lw_m7 132 rfl) rfl
theorem q1674 : (Jvm.Cond.privateMethod ({ cls := "FirstInModel", name := "between", desc := "(III)Z" } : Jvm.MethodName)) ∈ lw_tbl := lw_at lw_m7 133 rfl
theorem q1675 : (Jvm.Cond.instanceMethod ({ cls := "FirstInModel", name := "between", desc := "(III)Z" } : Jvm.MethodName)) ∈ lw_all := lw_g (lw_at lw_m7 134 rfl) rfl
theorem q1676 : (Jvm.Cond.code ({ cls := "FirstInModel", name := "between", desc := "(III)Z" } : Jvm.MethodName) prog_26_method_6_code (4 : Nat) (Option.some Jvm.ClassFile.FieldType.boolean)) ∈ lw_all := lw_g (lw_at lw_m7 135 rfl) rfl
theorem q1677 : (Jvm.Cond.methodLink "FirstInModel" (262 : Nat) ({ cls := "FirstInModel", name := "line", desc := "()Z" } : Jvm.MethodName)) ∈ lw_all := lw_g (lw_at lw_m7 136 rfl) rfl
theorem q1678 : (Jvm.Cond.privateMethod ({ cls := "FirstInModel", name := "line", desc := "()Z" } : Jvm.MethodName)) ∈ lw_tbl := lw_at lw_m7 137 rfl
theorem q1679 : (Jvm.Cond.instanceMethod ({ cls := "FirstInModel", name := "line", desc := "()Z" } : Jvm.MethodName)) ∈ lw_all := lw_g (lw_at lw_m7 138 rfl) rfl
theorem q1680 : (Jvm.Cond.code ({ cls := "FirstInModel", name := "line", desc := "()Z" } : Jvm.MethodName) prog_26_method_20_code (2 : Nat) (Option.some Jvm.ClassFile.FieldType.boolean)) ∈ lw_all := lw_g (lw_at lw_m7 139 rfl) rfl
theorem q1681 : (Jvm.Cond.methodLink "FirstInModel" (219 : Nat) ({ cls := "FirstInModel", name := "isWord", desc := "(I)Z" } : Jvm.MethodName)) ∈ lw_all := lw_g (lw_at lw_m7 140 rfl) rfl
theorem q1682 : (Jvm.Cond.privateMethod ({ cls := "FirstInModel", name := "isWord", desc := "(I)Z" } : Jvm.MethodName)) ∈ lw_tbl := lw_at lw_m7 141 rfl
theorem q1683 : (Jvm.Cond.instanceMethod ({ cls := "FirstInModel", name := "isWord", desc := "(I)Z" } : Jvm.MethodName)) ∈ lw_all := lw_g (lw_at lw_m7 142 rfl) rfl
theorem q1684 : (Jvm.Cond.code ({ cls := "FirstInModel", name := "isWord", desc := "(I)Z" } : Jvm.MethodName) prog_26_method_9_code (3 : Nat) (Option.some Jvm.ClassFile.FieldType.boolean)) ∈ lw_all := lw_g (lw_at lw_m7 143 rfl) rfl
theorem q1685 : (Jvm.Cond.methodLink "FirstInModel" (202 : Nat) ({ cls := "java/lang/String", name := "length", desc := "()I" } : Jvm.MethodName)) ∈ lw_all := lw_g (lw_at lw_m7 144 rfl) rfl
theorem q1686 : (Jvm.Cond.methodLink "FirstInModel" (206 : Nat) ({ cls := "java/lang/String", name := "charAt", desc := "(I)C" } : Jvm.MethodName)) ∈ lw_all := lw_g (lw_at lw_m7 145 rfl) rfl
theorem q1687 : (Jvm.Cond.methodLink "FirstInModel" (210 : Nat) ({ cls := "FirstInModel", name := "passes", desc := "(Z)Z" } : Jvm.MethodName)) ∈ lw_all := lw_g (lw_at lw_m7 146 rfl) rfl
theorem q1688 : (Jvm.Cond.privateMethod ({ cls := "FirstInModel", name := "passes", desc := "(Z)Z" } : Jvm.MethodName)) ∈ lw_tbl := lw_at lw_m7 147 rfl
theorem q1689 : (Jvm.Cond.instanceMethod ({ cls := "FirstInModel", name := "passes", desc := "(Z)Z" } : Jvm.MethodName)) ∈ lw_all := lw_g (lw_at lw_m7 148 rfl) rfl
theorem q1690 : (Jvm.Cond.code ({ cls := "FirstInModel", name := "passes", desc := "(Z)Z" } : Jvm.MethodName) prog_26_method_8_code (2 : Nat) (Option.some Jvm.ClassFile.FieldType.boolean)) ∈ lw_all := lw_g (lw_at lw_m7 149 rfl) rfl
theorem q1691 : (Jvm.Cond.methodLink "FirstInModel" (253 : Nat) ({ cls := "FirstInModel", name := "guestRead", desc := "()Z" } : Jvm.MethodName)) ∈ lw_all := lw_g (lw_at lw_m7 150 rfl) rfl
theorem q1692 : (Jvm.Cond.privateMethod ({ cls := "FirstInModel", name := "guestRead", desc := "()Z" } : Jvm.MethodName)) ∈ lw_tbl := lw_at lw_m7 151 rfl
theorem q1693 : (Jvm.Cond.instanceMethod ({ cls := "FirstInModel", name := "guestRead", desc := "()Z" } : Jvm.MethodName)) ∈ lw_all := lw_g (lw_at lw_m7 152 rfl) rfl
theorem q1694 : (Jvm.Cond.code ({ cls := "FirstInModel", name := "guestRead", desc := "()Z" } : Jvm.MethodName) prog_26_method_16_code (3 : Nat) (Option.some Jvm.ClassFile.FieldType.boolean)) ∈ lw_all := lw_g (lw_at lw_m7 153 rfl) rfl
theorem q1695 : (Jvm.Cond.methodLink "FirstInModel" (234 : Nat) ({ cls := "FirstInModel", name := "named", desc := "()J" } : Jvm.MethodName)) ∈ lw_all := lw_g (lw_at lw_m7 154 rfl) rfl
theorem q1696 : (Jvm.Cond.privateMethod ({ cls := "FirstInModel", name := "named", desc := "()J" } : Jvm.MethodName)) ∈ lw_tbl := lw_at lw_m7 155 rfl
theorem q1697 : (Jvm.Cond.instanceMethod ({ cls := "FirstInModel", name := "named", desc := "()J" } : Jvm.MethodName)) ∈ lw_all := lw_g (lw_at lw_m7 156 rfl) rfl
theorem q1698 : (Jvm.Cond.code ({ cls := "FirstInModel", name := "named", desc := "()J" } : Jvm.MethodName) prog_26_method_12_code (4 : Nat) (Option.some Jvm.ClassFile.FieldType.long)) ∈ lw_all := lw_g (lw_at lw_m7 157 rfl) rfl
theorem q1699 : (Jvm.Cond.constantLong "FirstInModel" (217 : Nat) (-1 : Int64)) ∈ lw_all := lw_g (lw_at lw_m7 158 rfl) rfl
theorem q1700 : (Jvm.Cond.constantLong "FirstInModel" (223 : Nat) (32 : Int64)) ∈ lw_all := lw_g (lw_at lw_m7 159 rfl) rfl
theorem q1701 : (Jvm.Cond.constantLong "FirstInModel" (225 : Nat) (97 : Int64)) ∈ lw_all := lw_g (lw_at lw_m7 160 rfl) rfl
theorem q1702 : (Jvm.Cond.methodLink "FirstInModel" (238 : Nat) ({ cls := "FirstInModel", name := "isNew", desc := "(J)Z" } : Jvm.MethodName)) ∈ lw_all := lw_g (lw_at lw_m7 161 rfl) rfl
theorem q1703 : (Jvm.Cond.privateMethod ({ cls := "FirstInModel", name := "isNew", desc := "(J)Z" } : Jvm.MethodName)) ∈ lw_tbl := lw_at lw_m7 162 rfl
theorem q1704 : (Jvm.Cond.instanceMethod ({ cls := "FirstInModel", name := "isNew", desc := "(J)Z" } : Jvm.MethodName)) ∈ lw_all := lw_g (lw_at lw_m7 163 rfl) rfl
theorem q1705 : (Jvm.Cond.code ({ cls := "FirstInModel", name := "isNew", desc := "(J)Z" } : Jvm.MethodName) prog_26_method_15_code (3 : Nat) (Option.some Jvm.ClassFile.FieldType.boolean)) ∈ lw_all := lw_g (lw_at lw_m7 164 rfl) rfl
theorem q1706 : (Jvm.Cond.methodLink "FirstInModel" (227 : Nat) ({ cls := "FirstInModel", name := "guestOf", desc := "(J)I" } : Jvm.MethodName)) ∈ lw_all := lw_g (lw_at lw_m7 165 rfl) rfl
theorem q1707 : (Jvm.Cond.privateMethod ({ cls := "FirstInModel", name := "guestOf", desc := "(J)I" } : Jvm.MethodName)) ∈ lw_tbl := lw_at lw_m7 166 rfl
theorem q1708 : (Jvm.Cond.instanceMethod ({ cls := "FirstInModel", name := "guestOf", desc := "(J)I" } : Jvm.MethodName)) ∈ lw_all := lw_g (lw_at lw_m7 167 rfl) rfl
theorem q1709 : (Jvm.Cond.code ({ cls := "FirstInModel", name := "guestOf", desc := "(J)I" } : Jvm.MethodName) prog_26_method_13_code (4 : Nat) (Option.some Jvm.ClassFile.FieldType.int)) ∈ lw_all := lw_g (lw_at lw_m7 168 rfl) rfl
theorem q1710 : (Jvm.Cond.methodLink "FirstInModel" (231 : Nat) ({ cls := "FirstInModel", name := "markOf", desc := "(J)I" } : Jvm.MethodName)) ∈ lw_all := lw_g (lw_at lw_m7 169 rfl) rfl
theorem q1711 : (Jvm.Cond.privateMethod ({ cls := "FirstInModel", name := "markOf", desc := "(J)I" } : Jvm.MethodName)) ∈ lw_tbl := lw_at lw_m7 170 rfl
theorem q1712 : (Jvm.Cond.instanceMethod ({ cls := "FirstInModel", name := "markOf", desc := "(J)I" } : Jvm.MethodName)) ∈ lw_all := lw_g (lw_at lw_m7 171 rfl) rfl
theorem q1713 : (Jvm.Cond.code ({ cls := "FirstInModel", name := "markOf", desc := "(J)I" } : Jvm.MethodName) prog_26_method_14_code (4 : Nat) (Option.some Jvm.ClassFile.FieldType.int)) ∈ lw_all := lw_g (lw_at lw_m7 172 rfl) rfl
theorem q1714 : (Jvm.Cond.methodLink "FirstInModel" (242 : Nat) ({ cls := "FirstInModel", name := "closes", desc := "()Z" } : Jvm.MethodName)) ∈ lw_all := lw_g (lw_at lw_m7 173 rfl) rfl
theorem q1715 : (Jvm.Cond.privateMethod ({ cls := "FirstInModel", name := "closes", desc := "()Z" } : Jvm.MethodName)) ∈ lw_tbl := lw_at lw_m7 174 rfl
theorem q1716 : (Jvm.Cond.instanceMethod ({ cls := "FirstInModel", name := "closes", desc := "()Z" } : Jvm.MethodName)) ∈ lw_all := lw_g (lw_at lw_m7 175 rfl) rfl
theorem q1717 : (Jvm.Cond.code ({ cls := "FirstInModel", name := "closes", desc := "()Z" } : Jvm.MethodName) prog_26_method_10_code (1 : Nat) (Option.some Jvm.ClassFile.FieldType.boolean)) ∈ lw_all := lw_g (lw_at lw_m7 176 rfl) rfl
theorem q1718 : (Jvm.Cond.methodLink "FirstInModel" (256 : Nat) ({ cls := "FirstInModel", name := "markRead", desc := "()Z" } : Jvm.MethodName)) ∈ lw_all := lw_g (lw_at lw_m7 177 rfl) rfl
theorem q1719 : (Jvm.Cond.privateMethod ({ cls := "FirstInModel", name := "markRead", desc := "()Z" } : Jvm.MethodName)) ∈ lw_tbl := lw_at lw_m7 178 rfl
theorem q1720 : (Jvm.Cond.instanceMethod ({ cls := "FirstInModel", name := "markRead", desc := "()Z" } : Jvm.MethodName)) ∈ lw_all := lw_g (lw_at lw_m7 179 rfl) rfl
theorem q1721 : (Jvm.Cond.code ({ cls := "FirstInModel", name := "markRead", desc := "()Z" } : Jvm.MethodName) prog_26_method_17_code (8 : Nat) (Option.some Jvm.ClassFile.FieldType.boolean)) ∈ lw_all := lw_g (lw_at lw_m7 180 rfl) rfl
theorem q1722 : (Jvm.Cond.methodLink "FirstInModel" (259 : Nat) ({ cls := "FirstInModel", name := "ruleRead", desc := "(I)Z" } : Jvm.MethodName)) ∈ lw_all := lw_g (lw_at lw_m7 181 rfl) rfl
theorem q1723 : (Jvm.Cond.privateMethod ({ cls := "FirstInModel", name := "ruleRead", desc := "(I)Z" } : Jvm.MethodName)) ∈ lw_tbl := lw_at lw_m7 182 rfl
theorem q1724 : (Jvm.Cond.instanceMethod ({ cls := "FirstInModel", name := "ruleRead", desc := "(I)Z" } : Jvm.MethodName)) ∈ lw_all := lw_g (lw_at lw_m7 183 rfl) rfl
theorem q1725 : (Jvm.Cond.code ({ cls := "FirstInModel", name := "ruleRead", desc := "(I)Z" } : Jvm.MethodName) prog_26_method_19_code (6 : Nat) (Option.some Jvm.ClassFile.FieldType.boolean)) ∈ lw_all := lw_g (lw_at lw_m7 184 rfl) rfl
theorem q1726 : (Jvm.Cond.methodLink "FirstInModel" (246 : Nat) ({ cls := "FirstInModel", name := "someone", desc := "()Z" } : Jvm.MethodName)) ∈ lw_all := lw_g (lw_at lw_m7 185 rfl) rfl
theorem q1727 : (Jvm.Cond.privateMethod ({ cls := "FirstInModel", name := "someone", desc := "()Z" } : Jvm.MethodName)) ∈ lw_tbl := lw_at lw_m7 186 rfl
theorem q1728 : (Jvm.Cond.instanceMethod ({ cls := "FirstInModel", name := "someone", desc := "()Z" } : Jvm.MethodName)) ∈ lw_all := lw_g (lw_at lw_m7 187 rfl) rfl
theorem q1729 : (Jvm.Cond.code ({ cls := "FirstInModel", name := "someone", desc := "()Z" } : Jvm.MethodName) prog_26_method_18_code (5 : Nat) (Option.some Jvm.ClassFile.FieldType.boolean)) ∈ lw_all := lw_g (lw_at lw_m7 188 rfl) rfl
theorem q1730 : (Jvm.Cond.methodLink "FirstInModel" (249 : Nat) ({ cls := "FirstInModel", name := "number", desc := "(II)Z" } : Jvm.MethodName)) ∈ lw_all := lw_g (lw_at lw_m7 189 rfl) rfl
theorem q1731 : (Jvm.Cond.privateMethod ({ cls := "FirstInModel", name := "number", desc := "(II)Z" } : Jvm.MethodName)) ∈ lw_tbl := lw_at lw_m7 190 rfl
theorem q1732 : (Jvm.Cond.instanceMethod ({ cls := "FirstInModel", name := "number", desc := "(II)Z" } : Jvm.MethodName)) ∈ lw_all := lw_g (lw_at lw_m7 191 rfl) rfl
theorem q1733 : (Jvm.Cond.code ({ cls := "FirstInModel", name := "number", desc := "(II)Z" } : Jvm.MethodName) prog_26_method_11_code (6 : Nat) (Option.some Jvm.ClassFile.FieldType.boolean)) ∈ lw_all := lw_g (lw_at lw_m7 192 rfl) rfl
theorem q1735 : (Jvm.Cond.instanceMethod ({ cls := "FirstInModel", name := "court", desc := "()I" } : Jvm.MethodName)) ∈ lw_all := lw_g (lw_at lw_m7 194 rfl) rfl
theorem q1736 : (Jvm.Cond.selects "FirstInModel" ({ cls := "FirstInModel", name := "court", desc := "()I" } : Jvm.MethodName) ({ cls := "FirstInModel", name := "court", desc := "()I" } : Jvm.MethodName)) ∈ lw_all := lw_g (lw_at lw_m7 195 rfl) rfl
theorem q1737 : (Jvm.Cond.code ({ cls := "FirstInModel", name := "court", desc := "()I" } : Jvm.MethodName) prog_26_method_23_code (2 : Nat) (Option.some Jvm.ClassFile.FieldType.int)) ∈ lw_all := lw_g (lw_at lw_m7 196 rfl) rfl
theorem q1739 : (Jvm.Cond.instanceMethod ({ cls := "FirstInModel", name := "room", desc := "(II)I" } : Jvm.MethodName)) ∈ lw_all := lw_g (lw_at lw_m7 198 rfl) rfl
theorem q1740 : (Jvm.Cond.selects "FirstInModel" ({ cls := "FirstInModel", name := "room", desc := "(II)I" } : Jvm.MethodName) ({ cls := "FirstInModel", name := "room", desc := "(II)I" } : Jvm.MethodName)) ∈ lw_all := lw_g (lw_at lw_m7 199 rfl) rfl
theorem q1741 : (Jvm.Cond.code ({ cls := "FirstInModel", name := "room", desc := "(II)I" } : Jvm.MethodName) prog_26_method_27_code (3 : Nat) (Option.some Jvm.ClassFile.FieldType.int)) ∈ lw_all := lw_g (lw_at lw_m7 200 rfl) rfl
theorem q1742 : (Jvm.Cond.constantLong "FirstInModel" (271 : Nat) (4 : Int64)) ∈ lw_all := lw_g (lw_at lw_m7 201 rfl) rfl
theorem q1743 : (Jvm.Cond.constantLong "FirstInModel" (273 : Nat) (10 : Int64)) ∈ lw_all := lw_g (lw_at lw_m7 202 rfl) rfl
theorem q1745 : (Jvm.Cond.instanceMethod ({ cls := "FirstInModel", name := "guest", desc := "(II)I" } : Jvm.MethodName)) ∈ lw_all := lw_g (lw_at lw_m7 204 rfl) rfl
theorem q1746 : (Jvm.Cond.selects "FirstInModel" ({ cls := "FirstInModel", name := "guest", desc := "(II)I" } : Jvm.MethodName) ({ cls := "FirstInModel", name := "guest", desc := "(II)I" } : Jvm.MethodName)) ∈ lw_all := lw_g (lw_at lw_m7 205 rfl) rfl
theorem q1747 : (Jvm.Cond.code ({ cls := "FirstInModel", name := "guest", desc := "(II)I" } : Jvm.MethodName) prog_26_method_29_code (3 : Nat) (Option.some Jvm.ClassFile.FieldType.int)) ∈ lw_all := lw_g (lw_at lw_m7 206 rfl) rfl
theorem q1748 : (Jvm.Cond.methodLink "FirstInModel" (275 : Nat) ({ cls := "FirstInModel", name := "isGuest", desc := "(I)Z" } : Jvm.MethodName)) ∈ lw_all := lw_g (lw_at lw_m7 207 rfl) rfl
theorem q1749 : (Jvm.Cond.privateMethod ({ cls := "FirstInModel", name := "isGuest", desc := "(I)Z" } : Jvm.MethodName)) ∈ lw_tbl := lw_at lw_m7 208 rfl
theorem q1750 : (Jvm.Cond.instanceMethod ({ cls := "FirstInModel", name := "isGuest", desc := "(I)Z" } : Jvm.MethodName)) ∈ lw_all := lw_g (lw_at lw_m7 209 rfl) rfl
theorem q1751 : (Jvm.Cond.code ({ cls := "FirstInModel", name := "isGuest", desc := "(I)Z" } : Jvm.MethodName) prog_26_method_24_code (2 : Nat) (Option.some Jvm.ClassFile.FieldType.boolean)) ∈ lw_all := lw_g (lw_at lw_m7 210 rfl) rfl
theorem q1752 : (Jvm.Cond.methodLink "FirstInModel" (278 : Nat) ({ cls := "FirstInModel", name := "marksOf", desc := "(I)I" } : Jvm.MethodName)) ∈ lw_all := lw_g (lw_at lw_m7 211 rfl) rfl
theorem q1753 : (Jvm.Cond.privateMethod ({ cls := "FirstInModel", name := "marksOf", desc := "(I)I" } : Jvm.MethodName)) ∈ lw_tbl := lw_at lw_m7 212 rfl
theorem q1754 : (Jvm.Cond.instanceMethod ({ cls := "FirstInModel", name := "marksOf", desc := "(I)I" } : Jvm.MethodName)) ∈ lw_all := lw_g (lw_at lw_m7 213 rfl) rfl
theorem q1755 : (Jvm.Cond.code ({ cls := "FirstInModel", name := "marksOf", desc := "(I)I" } : Jvm.MethodName) prog_26_method_28_code (4 : Nat) (Option.some Jvm.ClassFile.FieldType.int)) ∈ lw_all := lw_g (lw_at lw_m7 214 rfl) rfl
theorem q1757 : (Jvm.Cond.instanceMethod ({ cls := "FirstInModel", name := "rule", desc := "(II)I" } : Jvm.MethodName)) ∈ lw_all := lw_g (lw_at lw_m7 216 rfl) rfl
theorem q1758 : (Jvm.Cond.selects "FirstInModel" ({ cls := "FirstInModel", name := "rule", desc := "(II)I" } : Jvm.MethodName) ({ cls := "FirstInModel", name := "rule", desc := "(II)I" } : Jvm.MethodName)) ∈ lw_all := lw_g (lw_at lw_m7 217 rfl) rfl
theorem q1759 : (Jvm.Cond.code ({ cls := "FirstInModel", name := "rule", desc := "(II)I" } : Jvm.MethodName) prog_26_method_35_code (6 : Nat) (Option.some Jvm.ClassFile.FieldType.int)) ∈ lw_all := lw_g (lw_at lw_m7 218 rfl) rfl
theorem q1760 : (Jvm.Cond.methodLink "FirstInModel" (294 : Nat) ({ cls := "FirstInModel", name := "isRule", desc := "(I)Z" } : Jvm.MethodName)) ∈ lw_all := lw_g (lw_at lw_m7 219 rfl) rfl
theorem q1761 : (Jvm.Cond.privateMethod ({ cls := "FirstInModel", name := "isRule", desc := "(I)Z" } : Jvm.MethodName)) ∈ lw_tbl := lw_at lw_m7 220 rfl
theorem q1762 : (Jvm.Cond.instanceMethod ({ cls := "FirstInModel", name := "isRule", desc := "(I)Z" } : Jvm.MethodName)) ∈ lw_all := lw_g (lw_at lw_m7 221 rfl) rfl
theorem q1763 : (Jvm.Cond.code ({ cls := "FirstInModel", name := "isRule", desc := "(I)Z" } : Jvm.MethodName) prog_26_method_25_code (2 : Nat) (Option.some Jvm.ClassFile.FieldType.boolean)) ∈ lw_all := lw_g (lw_at lw_m7 222 rfl) rfl
theorem q1764 : (Jvm.Cond.methodLink "FirstInModel" (291 : Nat) ({ cls := "FirstInModel", name := "hasCouple", desc := "(III)Z" } : Jvm.MethodName)) ∈ lw_all := lw_g (lw_at lw_m7 223 rfl) rfl
theorem q1765 : (Jvm.Cond.privateMethod ({ cls := "FirstInModel", name := "hasCouple", desc := "(III)Z" } : Jvm.MethodName)) ∈ lw_tbl := lw_at lw_m7 224 rfl
theorem q1766 : (Jvm.Cond.instanceMethod ({ cls := "FirstInModel", name := "hasCouple", desc := "(III)Z" } : Jvm.MethodName)) ∈ lw_all := lw_g (lw_at lw_m7 225 rfl) rfl
theorem q1767 : (Jvm.Cond.code ({ cls := "FirstInModel", name := "hasCouple", desc := "(III)Z" } : Jvm.MethodName) prog_26_method_32_code (4 : Nat) (Option.some Jvm.ClassFile.FieldType.boolean)) ∈ lw_all := lw_g (lw_at lw_m7 226 rfl) rfl
theorem q1768 : (Jvm.Cond.methodLink "FirstInModel" (285 : Nat) ({ cls := "FirstInModel", name := "couples", desc := "(III)Z" } : Jvm.MethodName)) ∈ lw_all := lw_g (lw_at lw_m7 227 rfl) rfl
theorem q1769 : (Jvm.Cond.privateMethod ({ cls := "FirstInModel", name := "couples", desc := "(III)Z" } : Jvm.MethodName)) ∈ lw_tbl := lw_at lw_m7 228 rfl
theorem q1770 : (Jvm.Cond.instanceMethod ({ cls := "FirstInModel", name := "couples", desc := "(III)Z" } : Jvm.MethodName)) ∈ lw_all := lw_g (lw_at lw_m7 229 rfl) rfl
theorem q1771 : (Jvm.Cond.code ({ cls := "FirstInModel", name := "couples", desc := "(III)Z" } : Jvm.MethodName) prog_26_method_31_code (4 : Nat) (Option.some Jvm.ClassFile.FieldType.boolean)) ∈ lw_all := lw_g (lw_at lw_m7 230 rfl) rfl
theorem q1772 : (Jvm.Cond.methodLink "FirstInModel" (282 : Nat) ({ cls := "FirstInModel", name := "isOf", desc := "(II)Z" } : Jvm.MethodName)) ∈ lw_all := lw_g (lw_at lw_m7 231 rfl) rfl
theorem q1773 : (Jvm.Cond.privateMethod ({ cls := "FirstInModel", name := "isOf", desc := "(II)Z" } : Jvm.MethodName)) ∈ lw_tbl := lw_at lw_m7 232 rfl
theorem q1774 : (Jvm.Cond.instanceMethod ({ cls := "FirstInModel", name := "isOf", desc := "(II)Z" } : Jvm.MethodName)) ∈ lw_all := lw_g (lw_at lw_m7 233 rfl) rfl
theorem q1775 : (Jvm.Cond.code ({ cls := "FirstInModel", name := "isOf", desc := "(II)Z" } : Jvm.MethodName) prog_26_method_30_code (3 : Nat) (Option.some Jvm.ClassFile.FieldType.boolean)) ∈ lw_all := lw_g (lw_at lw_m7 234 rfl) rfl
theorem q1777 : (Jvm.Cond.instanceMethod ({ cls := "FirstInModel", name := "rest", desc := "(IZ)Z" } : Jvm.MethodName)) ∈ lw_all := lw_g (lw_at lw_m7 236 rfl) rfl
theorem q1778 : (Jvm.Cond.selects "FirstInModel" ({ cls := "FirstInModel", name := "rest", desc := "(IZ)Z" } : Jvm.MethodName) ({ cls := "FirstInModel", name := "rest", desc := "(IZ)Z" } : Jvm.MethodName)) ∈ lw_all := lw_g (lw_at lw_m7 237 rfl) rfl
theorem q1779 : (Jvm.Cond.code ({ cls := "FirstInModel", name := "rest", desc := "(IZ)Z" } : Jvm.MethodName) prog_26_method_36_code (3 : Nat) (Option.some Jvm.ClassFile.FieldType.boolean)) ∈ lw_all := lw_g (lw_at lw_m7 238 rfl) rfl
theorem q1781 : (Jvm.Cond.instanceMethod ({ cls := "FirstInModel", name := "comes", desc := "(IZ)Z" } : Jvm.MethodName)) ∈ lw_all := lw_g (lw_at lw_m8 0 rfl) rfl
theorem q1782 : (Jvm.Cond.selects "FirstInModel" ({ cls := "FirstInModel", name := "comes", desc := "(IZ)Z" } : Jvm.MethodName) ({ cls := "FirstInModel", name := "comes", desc := "(IZ)Z" } : Jvm.MethodName)) ∈ lw_all := lw_g (lw_at lw_m8 1 rfl) rfl
theorem q1783 : (Jvm.Cond.code ({ cls := "FirstInModel", name := "comes", desc := "(IZ)Z" } : Jvm.MethodName) prog_26_method_37_code (3 : Nat) (Option.some Jvm.ClassFile.FieldType.boolean)) ∈ lw_all := lw_g (lw_at lw_m8 2 rfl) rfl
theorem q1785 : (Jvm.Cond.instanceMethod ({ cls := "FirstInModel", name := "seat", desc := "(III)Z" } : Jvm.MethodName)) ∈ lw_all := lw_g (lw_at lw_m8 4 rfl) rfl
theorem q1786 : (Jvm.Cond.selects "FirstInModel" ({ cls := "FirstInModel", name := "seat", desc := "(III)Z" } : Jvm.MethodName) ({ cls := "FirstInModel", name := "seat", desc := "(III)Z" } : Jvm.MethodName)) ∈ lw_all := lw_g (lw_at lw_m8 5 rfl) rfl
theorem q1787 : (Jvm.Cond.code ({ cls := "FirstInModel", name := "seat", desc := "(III)Z" } : Jvm.MethodName) prog_26_method_38_code (5 : Nat) (Option.some Jvm.ClassFile.FieldType.boolean)) ∈ lw_all := lw_g (lw_at lw_m8 6 rfl) rfl
theorem q1788 : (Jvm.Cond.methodLink "FirstInModel" (297 : Nat) ({ cls := "FirstInModel", name := "isRoom", desc := "(I)Z" } : Jvm.MethodName)) ∈ lw_all := lw_g (lw_at lw_m8 7 rfl) rfl
theorem q1789 : (Jvm.Cond.privateMethod ({ cls := "FirstInModel", name := "isRoom", desc := "(I)Z" } : Jvm.MethodName)) ∈ lw_tbl := lw_at lw_m8 8 rfl
theorem q1790 : (Jvm.Cond.instanceMethod ({ cls := "FirstInModel", name := "isRoom", desc := "(I)Z" } : Jvm.MethodName)) ∈ lw_all := lw_g (lw_at lw_m8 9 rfl) rfl
theorem q1791 : (Jvm.Cond.code ({ cls := "FirstInModel", name := "isRoom", desc := "(I)Z" } : Jvm.MethodName) prog_26_method_26_code (2 : Nat) (Option.some Jvm.ClassFile.FieldType.boolean)) ∈ lw_all := lw_g (lw_at lw_m8 10 rfl) rfl
theorem q1793 : (Jvm.Cond.instanceMethod ({ cls := "FirstInModel", name := "leave", desc := "(I)Z" } : Jvm.MethodName)) ∈ lw_all := lw_g (lw_at lw_m8 12 rfl) rfl
theorem q1794 : (Jvm.Cond.selects "FirstInModel" ({ cls := "FirstInModel", name := "leave", desc := "(I)Z" } : Jvm.MethodName) ({ cls := "FirstInModel", name := "leave", desc := "(I)Z" } : Jvm.MethodName)) ∈ lw_all := lw_g (lw_at lw_m8 13 rfl) rfl
theorem q1795 : (Jvm.Cond.code ({ cls := "FirstInModel", name := "leave", desc := "(I)Z" } : Jvm.MethodName) prog_26_method_39_code (2 : Nat) (Option.some Jvm.ClassFile.FieldType.boolean)) ∈ lw_all := lw_g (lw_at lw_m8 14 rfl) rfl
theorem q1797 : (Jvm.Cond.instanceMethod ({ cls := "FirstInModel", name := "sits", desc := "(IZ)Z" } : Jvm.MethodName)) ∈ lw_all := lw_g (lw_at lw_m8 16 rfl) rfl
theorem q1798 : (Jvm.Cond.selects "FirstInModel" ({ cls := "FirstInModel", name := "sits", desc := "(IZ)Z" } : Jvm.MethodName) ({ cls := "FirstInModel", name := "sits", desc := "(IZ)Z" } : Jvm.MethodName)) ∈ lw_all := lw_g (lw_at lw_m8 17 rfl) rfl
theorem q1799 : (Jvm.Cond.code ({ cls := "FirstInModel", name := "sits", desc := "(IZ)Z" } : Jvm.MethodName) prog_26_method_40_code (3 : Nat) (Option.some Jvm.ClassFile.FieldType.boolean)) ∈ lw_all := lw_g (lw_at lw_m8 18 rfl) rfl
theorem q1801 : (Jvm.Cond.instanceMethod ({ cls := "FirstInModel", name := "higher", desc := "(IIII)I" } : Jvm.MethodName)) ∈ lw_all := lw_g (lw_at lw_m8 20 rfl) rfl
theorem q1802 : (Jvm.Cond.selects "FirstInModel" ({ cls := "FirstInModel", name := "higher", desc := "(IIII)I" } : Jvm.MethodName) ({ cls := "FirstInModel", name := "higher", desc := "(IIII)I" } : Jvm.MethodName)) ∈ lw_all := lw_g (lw_at lw_m8 21 rfl) rfl
theorem q1803 : (Jvm.Cond.code ({ cls := "FirstInModel", name := "higher", desc := "(IIII)I" } : Jvm.MethodName) prog_26_method_44_code (5 : Nat) (Option.some Jvm.ClassFile.FieldType.int)) ∈ lw_all := lw_g (lw_at lw_m8 22 rfl) rfl
theorem q1804 : (Jvm.Cond.methodLink "FirstInModel" (307 : Nat) ({ cls := "FirstInModel", name := "isCourse", desc := "(I)Z" } : Jvm.MethodName)) ∈ lw_all := lw_g (lw_at lw_m8 23 rfl) rfl
theorem q1805 : (Jvm.Cond.privateMethod ({ cls := "FirstInModel", name := "isCourse", desc := "(I)Z" } : Jvm.MethodName)) ∈ lw_tbl := lw_at lw_m8 24 rfl
theorem q1806 : (Jvm.Cond.instanceMethod ({ cls := "FirstInModel", name := "isCourse", desc := "(I)Z" } : Jvm.MethodName)) ∈ lw_all := lw_g (lw_at lw_m8 25 rfl) rfl
theorem q1807 : (Jvm.Cond.code ({ cls := "FirstInModel", name := "isCourse", desc := "(I)Z" } : Jvm.MethodName) prog_26_method_43_code (2 : Nat) (Option.some Jvm.ClassFile.FieldType.boolean)) ∈ lw_all := lw_g (lw_at lw_m8 26 rfl) rfl
theorem q1808 : (Jvm.Cond.constantLong "FirstInModel" (305 : Nat) (9 : Int64)) ∈ lw_all := lw_g (lw_at lw_m8 27 rfl) rfl
theorem q1809 : (Jvm.Cond.methodLink "FirstInModel" (310 : Nat) ({ cls := "FirstInModel", name := "high", desc := "(IIII)I" } : Jvm.MethodName)) ∈ lw_all := lw_g (lw_at lw_m8 28 rfl) rfl
theorem q1810 : (Jvm.Cond.privateMethod ({ cls := "FirstInModel", name := "high", desc := "(IIII)I" } : Jvm.MethodName)) ∈ lw_tbl := lw_at lw_m8 29 rfl
theorem q1811 : (Jvm.Cond.instanceMethod ({ cls := "FirstInModel", name := "high", desc := "(IIII)I" } : Jvm.MethodName)) ∈ lw_all := lw_g (lw_at lw_m8 30 rfl) rfl
theorem q1812 : (Jvm.Cond.code ({ cls := "FirstInModel", name := "high", desc := "(IIII)I" } : Jvm.MethodName) prog_26_method_41_code (6 : Nat) (Option.some Jvm.ClassFile.FieldType.int)) ∈ lw_all := lw_g (lw_at lw_m8 31 rfl) rfl
theorem q1814 : (Jvm.Cond.instanceMethod ({ cls := "FirstInModel", name := "slights", desc := "(III)I" } : Jvm.MethodName)) ∈ lw_all := lw_g (lw_at lw_m8 33 rfl) rfl
theorem q1815 : (Jvm.Cond.selects "FirstInModel" ({ cls := "FirstInModel", name := "slights", desc := "(III)I" } : Jvm.MethodName) ({ cls := "FirstInModel", name := "slights", desc := "(III)I" } : Jvm.MethodName)) ∈ lw_all := lw_g (lw_at lw_m8 34 rfl) rfl
theorem q1816 : (Jvm.Cond.code ({ cls := "FirstInModel", name := "slights", desc := "(III)I" } : Jvm.MethodName) prog_26_method_47_code (7 : Nat) (Option.some Jvm.ClassFile.FieldType.int)) ∈ lw_all := lw_g (lw_at lw_m8 35 rfl) rfl
theorem q1817 : (Jvm.Cond.constantLong "FirstInModel" (328 : Nat) (2 : Int64)) ∈ lw_all := lw_g (lw_at lw_m8 36 rfl) rfl
theorem q1818 : (Jvm.Cond.methodLink "FirstInModel" (330 : Nat) ({ cls := "FirstInModel", name := "finds", desc := "(III)V" } : Jvm.MethodName)) ∈ lw_all := lw_g (lw_at lw_m8 37 rfl) rfl
theorem q1819 : (Jvm.Cond.privateMethod ({ cls := "FirstInModel", name := "finds", desc := "(III)V" } : Jvm.MethodName)) ∈ lw_tbl := lw_at lw_m8 38 rfl
theorem q1820 : (Jvm.Cond.instanceMethod ({ cls := "FirstInModel", name := "finds", desc := "(III)V" } : Jvm.MethodName)) ∈ lw_all := lw_g (lw_at lw_m8 39 rfl) rfl
theorem q1821 : (Jvm.Cond.code ({ cls := "FirstInModel", name := "finds", desc := "(III)V" } : Jvm.MethodName) prog_26_method_46_code (9 : Nat) (Option.none : Option Jvm.ClassFile.FieldType)) ∈ lw_all := lw_g (lw_at lw_m8 40 rfl) rfl
theorem q1822 : (Jvm.Cond.methodLink "FirstInModel" (320 : Nat) ({ cls := "FirstInModel", name := "countsFor", desc := "(IIII)Z" } : Jvm.MethodName)) ∈ lw_all := lw_g (lw_at lw_m8 41 rfl) rfl
theorem q1823 : (Jvm.Cond.privateMethod ({ cls := "FirstInModel", name := "countsFor", desc := "(IIII)Z" } : Jvm.MethodName)) ∈ lw_tbl := lw_at lw_m8 42 rfl
theorem q1824 : (Jvm.Cond.instanceMethod ({ cls := "FirstInModel", name := "countsFor", desc := "(IIII)Z" } : Jvm.MethodName)) ∈ lw_all := lw_g (lw_at lw_m8 43 rfl) rfl
theorem q1825 : (Jvm.Cond.code ({ cls := "FirstInModel", name := "countsFor", desc := "(IIII)Z" } : Jvm.MethodName) prog_26_method_34_code (5 : Nat) (Option.some Jvm.ClassFile.FieldType.boolean)) ∈ lw_all := lw_g (lw_at lw_m8 44 rfl) rfl
theorem q1826 : (Jvm.Cond.methodLink "FirstInModel" (288 : Nat) ({ cls := "FirstInModel", name := "counts", desc := "(II)Z" } : Jvm.MethodName)) ∈ lw_all := lw_g (lw_at lw_m8 45 rfl) rfl
theorem q1827 : (Jvm.Cond.privateMethod ({ cls := "FirstInModel", name := "counts", desc := "(II)Z" } : Jvm.MethodName)) ∈ lw_tbl := lw_at lw_m8 46 rfl
theorem q1828 : (Jvm.Cond.instanceMethod ({ cls := "FirstInModel", name := "counts", desc := "(II)Z" } : Jvm.MethodName)) ∈ lw_all := lw_g (lw_at lw_m8 47 rfl) rfl
theorem q1829 : (Jvm.Cond.code ({ cls := "FirstInModel", name := "counts", desc := "(II)Z" } : Jvm.MethodName) prog_26_method_33_code (3 : Nat) (Option.some Jvm.ClassFile.FieldType.boolean)) ∈ lw_all := lw_g (lw_at lw_m8 48 rfl) rfl
theorem q1830 : (Jvm.Cond.methodLink "FirstInModel" (324 : Nat) ({ cls := "FirstInModel", name := "whoMinds", desc := "(IIIII)I" } : Jvm.MethodName)) ∈ lw_all := lw_g (lw_at lw_m8 49 rfl) rfl
theorem q1831 : (Jvm.Cond.privateMethod ({ cls := "FirstInModel", name := "whoMinds", desc := "(IIIII)I" } : Jvm.MethodName)) ∈ lw_tbl := lw_at lw_m8 50 rfl
theorem q1832 : (Jvm.Cond.instanceMethod ({ cls := "FirstInModel", name := "whoMinds", desc := "(IIIII)I" } : Jvm.MethodName)) ∈ lw_all := lw_g (lw_at lw_m8 51 rfl) rfl
theorem q1833 : (Jvm.Cond.code ({ cls := "FirstInModel", name := "whoMinds", desc := "(IIIII)I" } : Jvm.MethodName) prog_26_method_45_code (7 : Nat) (Option.some Jvm.ClassFile.FieldType.int)) ∈ lw_all := lw_g (lw_at lw_m8 52 rfl) rfl
theorem q1834 : (Jvm.Cond.methodLink "FirstInModel" (314 : Nat) ({ cls := "FirstInModel", name := "beside", desc := "(III)Z" } : Jvm.MethodName)) ∈ lw_all := lw_g (lw_at lw_m8 53 rfl) rfl
theorem q1835 : (Jvm.Cond.privateMethod ({ cls := "FirstInModel", name := "beside", desc := "(III)Z" } : Jvm.MethodName)) ∈ lw_tbl := lw_at lw_m8 54 rfl
theorem q1836 : (Jvm.Cond.instanceMethod ({ cls := "FirstInModel", name := "beside", desc := "(III)Z" } : Jvm.MethodName)) ∈ lw_all := lw_g (lw_at lw_m8 55 rfl) rfl
theorem q1837 : (Jvm.Cond.code ({ cls := "FirstInModel", name := "beside", desc := "(III)Z" } : Jvm.MethodName) prog_26_method_42_code (6 : Nat) (Option.some Jvm.ClassFile.FieldType.boolean)) ∈ lw_all := lw_g (lw_at lw_m8 56 rfl) rfl
theorem q1838 : (Jvm.Cond.methodLink "FirstInModel" (300 : Nat) ({ cls := "java/lang/Math", name := "abs", desc := "(I)I" } : Jvm.MethodName)) ∈ lw_all := lw_g (lw_at lw_m8 57 rfl) rfl
theorem q1839 : (Jvm.Cond.methodLink "FirstInModel" (334 : Nat) ({ cls := "java/lang/Math", name := "max", desc := "(II)I" } : Jvm.MethodName)) ∈ lw_all := lw_g (lw_at lw_m8 58 rfl) rfl
theorem q1841 : (Jvm.Cond.instanceMethod ({ cls := "FirstInModel", name := "slight", desc := "(IIII)I" } : Jvm.MethodName)) ∈ lw_all := lw_g (lw_at lw_m8 60 rfl) rfl
theorem q1842 : (Jvm.Cond.selects "FirstInModel" ({ cls := "FirstInModel", name := "slight", desc := "(IIII)I" } : Jvm.MethodName) ({ cls := "FirstInModel", name := "slight", desc := "(IIII)I" } : Jvm.MethodName)) ∈ lw_all := lw_g (lw_at lw_m8 61 rfl) rfl
theorem q1843 : (Jvm.Cond.code ({ cls := "FirstInModel", name := "slight", desc := "(IIII)I" } : Jvm.MethodName) prog_26_method_49_code (5 : Nat) (Option.some Jvm.ClassFile.FieldType.int)) ∈ lw_all := lw_g (lw_at lw_m8 62 rfl) rfl
theorem q1844 : (Jvm.Cond.constantLong "FirstInModel" (338 : Nat) (3 : Int64)) ∈ lw_all := lw_g (lw_at lw_m8 63 rfl) rfl
theorem q1845 : (Jvm.Cond.methodLink "FirstInModel" (340 : Nat) ({ cls := "FirstInModel", name := "sourceOf", desc := "(IIII)I" } : Jvm.MethodName)) ∈ lw_all := lw_g (lw_at lw_m8 64 rfl) rfl
theorem q1846 : (Jvm.Cond.privateMethod ({ cls := "FirstInModel", name := "sourceOf", desc := "(IIII)I" } : Jvm.MethodName)) ∈ lw_tbl := lw_at lw_m8 65 rfl
theorem q1847 : (Jvm.Cond.instanceMethod ({ cls := "FirstInModel", name := "sourceOf", desc := "(IIII)I" } : Jvm.MethodName)) ∈ lw_all := lw_g (lw_at lw_m8 66 rfl) rfl
theorem q1848 : (Jvm.Cond.code ({ cls := "FirstInModel", name := "sourceOf", desc := "(IIII)I" } : Jvm.MethodName) prog_26_method_48_code (7 : Nat) (Option.some Jvm.ClassFile.FieldType.int)) ∈ lw_all := lw_g (lw_at lw_m8 67 rfl) rfl
theorem q1850 : (Jvm.Cond.instanceMethod ({ cls := "FirstInModel", name := "minds", desc := "(III)I" } : Jvm.MethodName)) ∈ lw_all := lw_g (lw_at lw_m8 69 rfl) rfl
theorem q1851 : (Jvm.Cond.selects "FirstInModel" ({ cls := "FirstInModel", name := "minds", desc := "(III)I" } : Jvm.MethodName) ({ cls := "FirstInModel", name := "minds", desc := "(III)I" } : Jvm.MethodName)) ∈ lw_all := lw_g (lw_at lw_m8 70 rfl) rfl
theorem q1852 : (Jvm.Cond.code ({ cls := "FirstInModel", name := "minds", desc := "(III)I" } : Jvm.MethodName) prog_26_method_50_code (6 : Nat) (Option.some Jvm.ClassFile.FieldType.int)) ∈ lw_all := lw_g (lw_at lw_m8 71 rfl) rfl
theorem q1854 : (Jvm.Cond.instanceMethod ({ cls := "FirstInModel", name := "source", desc := "(III)I" } : Jvm.MethodName)) ∈ lw_all := lw_g (lw_at lw_m8 73 rfl) rfl
theorem q1855 : (Jvm.Cond.selects "FirstInModel" ({ cls := "FirstInModel", name := "source", desc := "(III)I" } : Jvm.MethodName) ({ cls := "FirstInModel", name := "source", desc := "(III)I" } : Jvm.MethodName)) ∈ lw_all := lw_g (lw_at lw_m8 74 rfl) rfl
theorem q1856 : (Jvm.Cond.code ({ cls := "FirstInModel", name := "source", desc := "(III)I" } : Jvm.MethodName) prog_26_method_52_code (4 : Nat) (Option.some Jvm.ClassFile.FieldType.int)) ∈ lw_all := lw_g (lw_at lw_m8 75 rfl) rfl
theorem q1858 : (Jvm.Cond.instanceMethod ({ cls := "FirstInModel", name := "ring", desc := "(II)I" } : Jvm.MethodName)) ∈ lw_all := lw_g (lw_at lw_m8 77 rfl) rfl
theorem q1859 : (Jvm.Cond.selects "FirstInModel" ({ cls := "FirstInModel", name := "ring", desc := "(II)I" } : Jvm.MethodName) ({ cls := "FirstInModel", name := "ring", desc := "(II)I" } : Jvm.MethodName)) ∈ lw_all := lw_g (lw_at lw_m8 78 rfl) rfl
theorem q1860 : (Jvm.Cond.code ({ cls := "FirstInModel", name := "ring", desc := "(II)I" } : Jvm.MethodName) prog_26_method_57_code (8 : Nat) (Option.some Jvm.ClassFile.FieldType.int)) ∈ lw_all := lw_g (lw_at lw_m8 79 rfl) rfl
theorem q1861 : (Jvm.Cond.methodLink "FirstInModel" (350 : Nat) ({ cls := "FirstInModel", name := "ranks", desc := "(II)V" } : Jvm.MethodName)) ∈ lw_all := lw_g (lw_at lw_m8 80 rfl) rfl
theorem q1862 : (Jvm.Cond.privateMethod ({ cls := "FirstInModel", name := "ranks", desc := "(II)V" } : Jvm.MethodName)) ∈ lw_tbl := lw_at lw_m8 81 rfl
theorem q1863 : (Jvm.Cond.instanceMethod ({ cls := "FirstInModel", name := "ranks", desc := "(II)V" } : Jvm.MethodName)) ∈ lw_all := lw_g (lw_at lw_m8 82 rfl) rfl
theorem q1864 : (Jvm.Cond.code ({ cls := "FirstInModel", name := "ranks", desc := "(II)V" } : Jvm.MethodName) prog_26_method_51_code (6 : Nat) (Option.none : Option Jvm.ClassFile.FieldType)) ∈ lw_all := lw_g (lw_at lw_m8 83 rfl) rfl
theorem q1865 : (Jvm.Cond.methodLink "FirstInModel" (353 : Nat) ({ cls := "FirstInModel", name := "all", desc := "()I" } : Jvm.MethodName)) ∈ lw_all := lw_g (lw_at lw_m8 84 rfl) rfl
theorem q1866 : (Jvm.Cond.privateMethod ({ cls := "FirstInModel", name := "all", desc := "()I" } : Jvm.MethodName)) ∈ lw_tbl := lw_at lw_m8 85 rfl
theorem q1867 : (Jvm.Cond.instanceMethod ({ cls := "FirstInModel", name := "all", desc := "()I" } : Jvm.MethodName)) ∈ lw_all := lw_g (lw_at lw_m8 86 rfl) rfl
theorem q1868 : (Jvm.Cond.code ({ cls := "FirstInModel", name := "all", desc := "()I" } : Jvm.MethodName) prog_26_method_56_code (1 : Nat) (Option.some Jvm.ClassFile.FieldType.int)) ∈ lw_all := lw_g (lw_at lw_m8 87 rfl) rfl
theorem q1869 : (Jvm.Cond.methodLink "FirstInModel" (347 : Nat) ({ cls := "FirstInModel", name := "through", desc := "(II)I" } : Jvm.MethodName)) ∈ lw_all := lw_g (lw_at lw_m8 88 rfl) rfl
theorem q1870 : (Jvm.Cond.privateMethod ({ cls := "FirstInModel", name := "through", desc := "(II)I" } : Jvm.MethodName)) ∈ lw_tbl := lw_at lw_m8 89 rfl
theorem q1871 : (Jvm.Cond.instanceMethod ({ cls := "FirstInModel", name := "through", desc := "(II)I" } : Jvm.MethodName)) ∈ lw_all := lw_g (lw_at lw_m8 90 rfl) rfl
theorem q1872 : (Jvm.Cond.code ({ cls := "FirstInModel", name := "through", desc := "(II)I" } : Jvm.MethodName) prog_26_method_54_code (5 : Nat) (Option.some Jvm.ClassFile.FieldType.int)) ∈ lw_all := lw_g (lw_at lw_m8 91 rfl) rfl
theorem q1873 : (Jvm.Cond.methodLink "FirstInModel" (343 : Nat) ({ cls := "FirstInModel", name := "leads", desc := "(II)V" } : Jvm.MethodName)) ∈ lw_all := lw_g (lw_at lw_m8 92 rfl) rfl
theorem q1874 : (Jvm.Cond.privateMethod ({ cls := "FirstInModel", name := "leads", desc := "(II)V" } : Jvm.MethodName)) ∈ lw_tbl := lw_at lw_m8 93 rfl
theorem q1875 : (Jvm.Cond.instanceMethod ({ cls := "FirstInModel", name := "leads", desc := "(II)V" } : Jvm.MethodName)) ∈ lw_all := lw_g (lw_at lw_m8 94 rfl) rfl
theorem q1876 : (Jvm.Cond.code ({ cls := "FirstInModel", name := "leads", desc := "(II)V" } : Jvm.MethodName) prog_26_method_53_code (6 : Nat) (Option.none : Option Jvm.ClassFile.FieldType)) ∈ lw_all := lw_g (lw_at lw_m8 95 rfl) rfl
theorem q1878 : (Jvm.Cond.instanceMethod ({ cls := "FirstInModel", name := "quarrels", desc := "(I)I" } : Jvm.MethodName)) ∈ lw_all := lw_g (lw_at lw_m8 97 rfl) rfl
theorem q1879 : (Jvm.Cond.selects "FirstInModel" ({ cls := "FirstInModel", name := "quarrels", desc := "(I)I" } : Jvm.MethodName) ({ cls := "FirstInModel", name := "quarrels", desc := "(I)I" } : Jvm.MethodName)) ∈ lw_all := lw_g (lw_at lw_m8 98 rfl) rfl
theorem q1880 : (Jvm.Cond.code ({ cls := "FirstInModel", name := "quarrels", desc := "(I)I" } : Jvm.MethodName) prog_26_method_58_code (5 : Nat) (Option.some Jvm.ClassFile.FieldType.int)) ∈ lw_all := lw_g (lw_at lw_m8 99 rfl) rfl
theorem q1882 : (Jvm.Cond.instanceMethod ({ cls := "FirstInModel", name := "toRest", desc := "(II)I" } : Jvm.MethodName)) ∈ lw_all := lw_g (lw_at lw_m8 101 rfl) rfl
theorem q1883 : (Jvm.Cond.selects "FirstInModel" ({ cls := "FirstInModel", name := "toRest", desc := "(II)I" } : Jvm.MethodName) ({ cls := "FirstInModel", name := "toRest", desc := "(II)I" } : Jvm.MethodName)) ∈ lw_all := lw_g (lw_at lw_m8 102 rfl) rfl
theorem q1884 : (Jvm.Cond.code ({ cls := "FirstInModel", name := "toRest", desc := "(II)I" } : Jvm.MethodName) prog_26_method_59_code (9 : Nat) (Option.some Jvm.ClassFile.FieldType.int)) ∈ lw_all := lw_g (lw_at lw_m8 103 rfl) rfl
theorem q1885 : (Jvm.Cond.methodLink "FirstInModel" (356 : Nat) ({ cls := "java/lang/Integer", name := "bitCount", desc := "(I)I" } : Jvm.MethodName)) ∈ lw_all := lw_g (lw_at lw_m8 104 rfl) rfl
theorem q1886 : (Jvm.Cond.methodLink "FirstInModel" (361 : Nat) ({ cls := "FirstInModel", name := "hasRing", desc := "(I)Z" } : Jvm.MethodName)) ∈ lw_all := lw_g (lw_at lw_m8 105 rfl) rfl
theorem q1887 : (Jvm.Cond.privateMethod ({ cls := "FirstInModel", name := "hasRing", desc := "(I)Z" } : Jvm.MethodName)) ∈ lw_tbl := lw_at lw_m8 106 rfl
theorem q1888 : (Jvm.Cond.instanceMethod ({ cls := "FirstInModel", name := "hasRing", desc := "(I)Z" } : Jvm.MethodName)) ∈ lw_all := lw_g (lw_at lw_m8 107 rfl) rfl
theorem q1889 : (Jvm.Cond.code ({ cls := "FirstInModel", name := "hasRing", desc := "(I)Z" } : Jvm.MethodName) prog_26_method_55_code (3 : Nat) (Option.some Jvm.ClassFile.FieldType.boolean)) ∈ lw_all := lw_g (lw_at lw_m8 108 rfl) rfl
theorem q1891 : (Jvm.Cond.instanceMethod ({ cls := "FirstInModel", name := "order", desc := "(II)I" } : Jvm.MethodName)) ∈ lw_all := lw_g (lw_at lw_m8 110 rfl) rfl
theorem q1892 : (Jvm.Cond.selects "FirstInModel" ({ cls := "FirstInModel", name := "order", desc := "(II)I" } : Jvm.MethodName) ({ cls := "FirstInModel", name := "order", desc := "(II)I" } : Jvm.MethodName)) ∈ lw_all := lw_g (lw_at lw_m8 111 rfl) rfl
theorem q1893 : (Jvm.Cond.code ({ cls := "FirstInModel", name := "order", desc := "(II)I" } : Jvm.MethodName) prog_26_method_62_code (8 : Nat) (Option.some Jvm.ClassFile.FieldType.int)) ∈ lw_all := lw_g (lw_at lw_m8 112 rfl) rfl
theorem q1894 : (Jvm.Cond.methodLink "FirstInModel" (364 : Nat) ({ cls := "FirstInModel", name := "comingBits", desc := "()I" } : Jvm.MethodName)) ∈ lw_all := lw_g (lw_at lw_m8 113 rfl) rfl
theorem q1895 : (Jvm.Cond.privateMethod ({ cls := "FirstInModel", name := "comingBits", desc := "()I" } : Jvm.MethodName)) ∈ lw_tbl := lw_at lw_m8 114 rfl
theorem q1896 : (Jvm.Cond.instanceMethod ({ cls := "FirstInModel", name := "comingBits", desc := "()I" } : Jvm.MethodName)) ∈ lw_all := lw_g (lw_at lw_m8 115 rfl) rfl
theorem q1897 : (Jvm.Cond.code ({ cls := "FirstInModel", name := "comingBits", desc := "()I" } : Jvm.MethodName) prog_26_method_60_code (3 : Nat) (Option.some Jvm.ClassFile.FieldType.int)) ∈ lw_all := lw_g (lw_at lw_m8 116 rfl) rfl
theorem q1898 : (Jvm.Cond.methodLink "FirstInModel" (367 : Nat) ({ cls := "FirstInModel", name := "isFree", desc := "(II)Z" } : Jvm.MethodName)) ∈ lw_all := lw_g (lw_at lw_m8 117 rfl) rfl
theorem q1899 : (Jvm.Cond.privateMethod ({ cls := "FirstInModel", name := "isFree", desc := "(II)Z" } : Jvm.MethodName)) ∈ lw_tbl := lw_at lw_m8 118 rfl
theorem q1900 : (Jvm.Cond.instanceMethod ({ cls := "FirstInModel", name := "isFree", desc := "(II)Z" } : Jvm.MethodName)) ∈ lw_all := lw_g (lw_at lw_m8 119 rfl) rfl
theorem q1901 : (Jvm.Cond.code ({ cls := "FirstInModel", name := "isFree", desc := "(II)Z" } : Jvm.MethodName) prog_26_method_61_code (4 : Nat) (Option.some Jvm.ClassFile.FieldType.boolean)) ∈ lw_all := lw_g (lw_at lw_m8 120 rfl) rfl
theorem q1903 : (Jvm.Cond.instanceMethod ({ cls := "FirstInModel", name := "rounds", desc := "(II)I" } : Jvm.MethodName)) ∈ lw_all := lw_g (lw_at lw_m8 122 rfl) rfl
theorem q1904 : (Jvm.Cond.selects "FirstInModel" ({ cls := "FirstInModel", name := "rounds", desc := "(II)I" } : Jvm.MethodName) ({ cls := "FirstInModel", name := "rounds", desc := "(II)I" } : Jvm.MethodName)) ∈ lw_all := lw_g (lw_at lw_m8 123 rfl) rfl
theorem q1905 : (Jvm.Cond.code ({ cls := "FirstInModel", name := "rounds", desc := "(II)I" } : Jvm.MethodName) prog_26_method_66_code (8 : Nat) (Option.some Jvm.ClassFile.FieldType.int)) ∈ lw_all := lw_g (lw_at lw_m8 124 rfl) rfl
theorem q1906 : (Jvm.Cond.methodLink "FirstInModel" (373 : Nat) ({ cls := "FirstInModel", name := "groups", desc := "()I" } : Jvm.MethodName)) ∈ lw_all := lw_g (lw_at lw_m8 125 rfl) rfl
theorem q1907 : (Jvm.Cond.privateMethod ({ cls := "FirstInModel", name := "groups", desc := "()I" } : Jvm.MethodName)) ∈ lw_tbl := lw_at lw_m8 126 rfl
theorem q1908 : (Jvm.Cond.instanceMethod ({ cls := "FirstInModel", name := "groups", desc := "()I" } : Jvm.MethodName)) ∈ lw_all := lw_g (lw_at lw_m8 127 rfl) rfl
theorem q1909 : (Jvm.Cond.code ({ cls := "FirstInModel", name := "groups", desc := "()I" } : Jvm.MethodName) prog_26_method_63_code (4 : Nat) (Option.some Jvm.ClassFile.FieldType.int)) ∈ lw_all := lw_g (lw_at lw_m8 128 rfl) rfl
theorem q1910 : (Jvm.Cond.methodLink "FirstInModel" (370 : Nat) ({ cls := "java/lang/Math", name := "min", desc := "(II)I" } : Jvm.MethodName)) ∈ lw_all := lw_g (lw_at lw_m8 129 rfl) rfl
theorem q1911 : (Jvm.Cond.methodLink "FirstInModel" (376 : Nat) ({ cls := "FirstInModel", name := "bitsOf", desc := "(II)I" } : Jvm.MethodName)) ∈ lw_all := lw_g (lw_at lw_m8 130 rfl) rfl
theorem q1912 : (Jvm.Cond.privateMethod ({ cls := "FirstInModel", name := "bitsOf", desc := "(II)I" } : Jvm.MethodName)) ∈ lw_tbl := lw_at lw_m8 131 rfl
theorem q1913 : (Jvm.Cond.instanceMethod ({ cls := "FirstInModel", name := "bitsOf", desc := "(II)I" } : Jvm.MethodName)) ∈ lw_all := lw_g (lw_at lw_m8 132 rfl) rfl
theorem q1914 : (Jvm.Cond.code ({ cls := "FirstInModel", name := "bitsOf", desc := "(II)I" } : Jvm.MethodName) prog_26_method_64_code (5 : Nat) (Option.some Jvm.ClassFile.FieldType.int)) ∈ lw_all := lw_g (lw_at lw_m8 133 rfl) rfl
theorem q1915 : (Jvm.Cond.methodLink "FirstInModel" (379 : Nat) ({ cls := "FirstInModel", name := "mayGo", desc := "(II)Z" } : Jvm.MethodName)) ∈ lw_all := lw_g (lw_at lw_m8 134 rfl) rfl
theorem q1916 : (Jvm.Cond.privateMethod ({ cls := "FirstInModel", name := "mayGo", desc := "(II)Z" } : Jvm.MethodName)) ∈ lw_tbl := lw_at lw_m8 135 rfl
theorem q1917 : (Jvm.Cond.instanceMethod ({ cls := "FirstInModel", name := "mayGo", desc := "(II)Z" } : Jvm.MethodName)) ∈ lw_all := lw_g (lw_at lw_m8 136 rfl) rfl
theorem q1918 : (Jvm.Cond.code ({ cls := "FirstInModel", name := "mayGo", desc := "(II)Z" } : Jvm.MethodName) prog_26_method_65_code (4 : Nat) (Option.some Jvm.ClassFile.FieldType.boolean)) ∈ lw_all := lw_g (lw_at lw_m8 137 rfl) rfl
theorem q1920 : (Jvm.Cond.instanceMethod ({ cls := "FirstInModel", name := "few", desc := "(II)I" } : Jvm.MethodName)) ∈ lw_all := lw_g (lw_at lw_m8 139 rfl) rfl
theorem q1921 : (Jvm.Cond.selects "FirstInModel" ({ cls := "FirstInModel", name := "few", desc := "(II)I" } : Jvm.MethodName) ({ cls := "FirstInModel", name := "few", desc := "(II)I" } : Jvm.MethodName)) ∈ lw_all := lw_g (lw_at lw_m8 140 rfl) rfl
theorem q1922 : (Jvm.Cond.code ({ cls := "FirstInModel", name := "few", desc := "(II)I" } : Jvm.MethodName) prog_26_method_69_code (4 : Nat) (Option.some Jvm.ClassFile.FieldType.int)) ∈ lw_all := lw_g (lw_at lw_m8 141 rfl) rfl
theorem q1923 : (Jvm.Cond.methodLink "FirstInModel" (388 : Nat) ({ cls := "FirstInModel", name := "isQuiet", desc := "(I)Z" } : Jvm.MethodName)) ∈ lw_all := lw_g (lw_at lw_m8 142 rfl) rfl
theorem q1924 : (Jvm.Cond.privateMethod ({ cls := "FirstInModel", name := "isQuiet", desc := "(I)Z" } : Jvm.MethodName)) ∈ lw_tbl := lw_at lw_m8 143 rfl
theorem q1925 : (Jvm.Cond.instanceMethod ({ cls := "FirstInModel", name := "isQuiet", desc := "(I)Z" } : Jvm.MethodName)) ∈ lw_all := lw_g (lw_at lw_m8 144 rfl) rfl
theorem q1926 : (Jvm.Cond.code ({ cls := "FirstInModel", name := "isQuiet", desc := "(I)Z" } : Jvm.MethodName) prog_26_method_67_code (4 : Nat) (Option.some Jvm.ClassFile.FieldType.boolean)) ∈ lw_all := lw_g (lw_at lw_m8 145 rfl) rfl
theorem q1927 : (Jvm.Cond.methodLink "FirstInModel" (385 : Nat) ({ cls := "FirstInModel", name := "parts", desc := "(III)Z" } : Jvm.MethodName)) ∈ lw_all := lw_g (lw_at lw_m8 146 rfl) rfl
theorem q1928 : (Jvm.Cond.privateMethod ({ cls := "FirstInModel", name := "parts", desc := "(III)Z" } : Jvm.MethodName)) ∈ lw_tbl := lw_at lw_m8 147 rfl
theorem q1929 : (Jvm.Cond.instanceMethod ({ cls := "FirstInModel", name := "parts", desc := "(III)Z" } : Jvm.MethodName)) ∈ lw_all := lw_g (lw_at lw_m8 148 rfl) rfl
theorem q1930 : (Jvm.Cond.code ({ cls := "FirstInModel", name := "parts", desc := "(III)Z" } : Jvm.MethodName) prog_26_method_68_code (6 : Nat) (Option.some Jvm.ClassFile.FieldType.boolean)) ∈ lw_all := lw_g (lw_at lw_m8 149 rfl) rfl
theorem q1931 : (Jvm.Cond.methodLink "FirstInModel" (391 : Nat) ({ cls := "java/lang/Integer", name := "numberOfTrailingZeros", desc := "(I)I" } : Jvm.MethodName)) ∈ lw_all := lw_g (lw_at lw_m8 150 rfl) rfl
theorem q1933 : (Jvm.Cond.instanceMethod ({ cls := "FirstInModel", name := "least", desc := "(II)I" } : Jvm.MethodName)) ∈ lw_all := lw_g (lw_at lw_m8 152 rfl) rfl
theorem q1934 : (Jvm.Cond.selects "FirstInModel" ({ cls := "FirstInModel", name := "least", desc := "(II)I" } : Jvm.MethodName) ({ cls := "FirstInModel", name := "least", desc := "(II)I" } : Jvm.MethodName)) ∈ lw_all := lw_g (lw_at lw_m8 153 rfl) rfl
theorem q1935 : (Jvm.Cond.code ({ cls := "FirstInModel", name := "least", desc := "(II)I" } : Jvm.MethodName) prog_26_method_78_code (3 : Nat) (Option.some Jvm.ClassFile.FieldType.int)) ∈ lw_all := lw_g (lw_at lw_m8 154 rfl) rfl
theorem q1936 : (Jvm.Cond.methodLink "FirstInModel" (443 : Nat) ({ cls := "FirstInModel", name := "goesThrough", desc := "(IZ)Z" } : Jvm.MethodName)) ∈ lw_all := lw_g (lw_at lw_m8 155 rfl) rfl
theorem q1937 : (Jvm.Cond.privateMethod ({ cls := "FirstInModel", name := "goesThrough", desc := "(IZ)Z" } : Jvm.MethodName)) ∈ lw_tbl := lw_at lw_m8 156 rfl
theorem q1938 : (Jvm.Cond.instanceMethod ({ cls := "FirstInModel", name := "goesThrough", desc := "(IZ)Z" } : Jvm.MethodName)) ∈ lw_all := lw_g (lw_at lw_m8 157 rfl) rfl
theorem q1939 : (Jvm.Cond.code ({ cls := "FirstInModel", name := "goesThrough", desc := "(IZ)Z" } : Jvm.MethodName) prog_26_method_76_code (4 : Nat) (Option.some Jvm.ClassFile.FieldType.boolean)) ∈ lw_all := lw_g (lw_at lw_m8 158 rfl) rfl
theorem q1940 : (Jvm.Cond.methodLink "FirstInModel" (440 : Nat) ({ cls := "FirstInModel", name := "weighPlaces", desc := "(I)V" } : Jvm.MethodName)) ∈ lw_all := lw_g (lw_at lw_m8 159 rfl) rfl
theorem q1941 : (Jvm.Cond.privateMethod ({ cls := "FirstInModel", name := "weighPlaces", desc := "(I)V" } : Jvm.MethodName)) ∈ lw_tbl := lw_at lw_m8 160 rfl
theorem q1942 : (Jvm.Cond.instanceMethod ({ cls := "FirstInModel", name := "weighPlaces", desc := "(I)V" } : Jvm.MethodName)) ∈ lw_all := lw_g (lw_at lw_m8 161 rfl) rfl
theorem q1943 : (Jvm.Cond.code ({ cls := "FirstInModel", name := "weighPlaces", desc := "(I)V" } : Jvm.MethodName) prog_26_method_70_code (6 : Nat) (Option.none : Option Jvm.ClassFile.FieldType)) ∈ lw_all := lw_g (lw_at lw_m8 162 rfl) rfl
theorem q1944 : (Jvm.Cond.methodLink "FirstInModel" (397 : Nat) ({ cls := "FirstInModel", name := "weighPair", desc := "(IIIII)V" } : Jvm.MethodName)) ∈ lw_all := lw_g (lw_at lw_m8 163 rfl) rfl
theorem q1945 : (Jvm.Cond.privateMethod ({ cls := "FirstInModel", name := "weighPair", desc := "(IIIII)V" } : Jvm.MethodName)) ∈ lw_tbl := lw_at lw_m8 164 rfl
theorem q1946 : (Jvm.Cond.instanceMethod ({ cls := "FirstInModel", name := "weighPair", desc := "(IIIII)V" } : Jvm.MethodName)) ∈ lw_all := lw_g (lw_at lw_m8 165 rfl) rfl
theorem q1947 : (Jvm.Cond.code ({ cls := "FirstInModel", name := "weighPair", desc := "(IIIII)V" } : Jvm.MethodName) prog_26_method_71_code (11 : Nat) (Option.none : Option Jvm.ClassFile.FieldType)) ∈ lw_all := lw_g (lw_at lw_m8 166 rfl) rfl
theorem q1948 : (Jvm.Cond.methodLink "FirstInModel" (436 : Nat) ({ cls := "FirstInModel", name := "seatsFrom", desc := "(IIII)V" } : Jvm.MethodName)) ∈ lw_all := lw_g (lw_at lw_m8 167 rfl) rfl
theorem q1949 : (Jvm.Cond.privateMethod ({ cls := "FirstInModel", name := "seatsFrom", desc := "(IIII)V" } : Jvm.MethodName)) ∈ lw_tbl := lw_at lw_m8 168 rfl
theorem q1950 : (Jvm.Cond.instanceMethod ({ cls := "FirstInModel", name := "seatsFrom", desc := "(IIII)V" } : Jvm.MethodName)) ∈ lw_all := lw_g (lw_at lw_m8 169 rfl) rfl
theorem q1951 : (Jvm.Cond.code ({ cls := "FirstInModel", name := "seatsFrom", desc := "(IIII)V" } : Jvm.MethodName) prog_26_method_75_code (10 : Nat) (Option.none : Option Jvm.ClassFile.FieldType)) ∈ lw_all := lw_g (lw_at lw_m8 170 rfl) rfl
theorem q1952 : (Jvm.Cond.methodLink "FirstInModel" (430 : Nat) ({ cls := "FirstInModel", name := "meets", desc := "(II)V" } : Jvm.MethodName)) ∈ lw_all := lw_g (lw_at lw_m8 171 rfl) rfl
theorem q1953 : (Jvm.Cond.privateMethod ({ cls := "FirstInModel", name := "meets", desc := "(II)V" } : Jvm.MethodName)) ∈ lw_tbl := lw_at lw_m8 172 rfl
theorem q1954 : (Jvm.Cond.instanceMethod ({ cls := "FirstInModel", name := "meets", desc := "(II)V" } : Jvm.MethodName)) ∈ lw_all := lw_g (lw_at lw_m8 173 rfl) rfl
theorem q1955 : (Jvm.Cond.code ({ cls := "FirstInModel", name := "meets", desc := "(II)V" } : Jvm.MethodName) prog_26_method_73_code (5 : Nat) (Option.none : Option Jvm.ClassFile.FieldType)) ∈ lw_all := lw_g (lw_at lw_m8 174 rfl) rfl
theorem q1956 : (Jvm.Cond.methodLink "FirstInModel" (414 : Nat) ({ cls := "FirstInModel", name := "keepsIn", desc := "([I)V" } : Jvm.MethodName)) ∈ lw_all := lw_g (lw_at lw_m8 175 rfl) rfl
theorem q1957 : (Jvm.Cond.privateMethod ({ cls := "FirstInModel", name := "keepsIn", desc := "([I)V" } : Jvm.MethodName)) ∈ lw_tbl := lw_at lw_m8 176 rfl
theorem q1958 : (Jvm.Cond.instanceMethod ({ cls := "FirstInModel", name := "keepsIn", desc := "([I)V" } : Jvm.MethodName)) ∈ lw_all := lw_g (lw_at lw_m8 177 rfl) rfl
theorem q1959 : (Jvm.Cond.code ({ cls := "FirstInModel", name := "keepsIn", desc := "([I)V" } : Jvm.MethodName) prog_26_method_72_code (3 : Nat) (Option.none : Option Jvm.ClassFile.FieldType)) ∈ lw_all := lw_g (lw_at lw_m8 178 rfl) rfl
theorem q1960 : (Jvm.Cond.methodLink "FirstInModel" (433 : Nat) ({ cls := "FirstInModel", name := "staysElsewhere", desc := "(II)Z" } : Jvm.MethodName)) ∈ lw_all := lw_g (lw_at lw_m8 179 rfl) rfl
theorem q1961 : (Jvm.Cond.privateMethod ({ cls := "FirstInModel", name := "staysElsewhere", desc := "(II)Z" } : Jvm.MethodName)) ∈ lw_tbl := lw_at lw_m8 180 rfl
theorem q1962 : (Jvm.Cond.instanceMethod ({ cls := "FirstInModel", name := "staysElsewhere", desc := "(II)Z" } : Jvm.MethodName)) ∈ lw_all := lw_g (lw_at lw_m8 181 rfl) rfl
theorem q1963 : (Jvm.Cond.code ({ cls := "FirstInModel", name := "staysElsewhere", desc := "(II)Z" } : Jvm.MethodName) prog_26_method_74_code (4 : Nat) (Option.some Jvm.ClassFile.FieldType.boolean)) ∈ lw_all := lw_g (lw_at lw_m8 182 rfl) rfl
theorem q1965 : (Jvm.Cond.instanceMethod ({ cls := "FirstInModel", name := "best", desc := "(IIZ)I" } : Jvm.MethodName)) ∈ lw_all := lw_g (lw_at lw_m8 184 rfl) rfl
theorem q1966 : (Jvm.Cond.selects "FirstInModel" ({ cls := "FirstInModel", name := "best", desc := "(IIZ)I" } : Jvm.MethodName) ({ cls := "FirstInModel", name := "best", desc := "(IIZ)I" } : Jvm.MethodName)) ∈ lw_all := lw_g (lw_at lw_m8 185 rfl) rfl
theorem q1967 : (Jvm.Cond.code ({ cls := "FirstInModel", name := "best", desc := "(IIZ)I" } : Jvm.MethodName) prog_26_method_79_code (4 : Nat) (Option.some Jvm.ClassFile.FieldType.int)) ∈ lw_all := lw_g (lw_at lw_m8 186 rfl) rfl
theorem q1968 : (Jvm.Cond.methodLink "FirstInModel" (447 : Nat) ({ cls := "FirstInModel", name := "memberOf", desc := "(I)I" } : Jvm.MethodName)) ∈ lw_all := lw_g (lw_at lw_m8 187 rfl) rfl
theorem q1969 : (Jvm.Cond.privateMethod ({ cls := "FirstInModel", name := "memberOf", desc := "(I)I" } : Jvm.MethodName)) ∈ lw_tbl := lw_at lw_m8 188 rfl
theorem q1970 : (Jvm.Cond.instanceMethod ({ cls := "FirstInModel", name := "memberOf", desc := "(I)I" } : Jvm.MethodName)) ∈ lw_all := lw_g (lw_at lw_m8 189 rfl) rfl
theorem q1971 : (Jvm.Cond.code ({ cls := "FirstInModel", name := "memberOf", desc := "(I)I" } : Jvm.MethodName) prog_26_method_77_code (3 : Nat) (Option.some Jvm.ClassFile.FieldType.int)) ∈ lw_all := lw_g (lw_at lw_m8 190 rfl) rfl
theorem q1973 : (Jvm.Cond.instanceMethod ({ cls := "FirstInModel", name := "must", desc := "(II)I" } : Jvm.MethodName)) ∈ lw_all := lw_g (lw_at lw_m8 192 rfl) rfl
theorem q1974 : (Jvm.Cond.selects "FirstInModel" ({ cls := "FirstInModel", name := "must", desc := "(II)I" } : Jvm.MethodName) ({ cls := "FirstInModel", name := "must", desc := "(II)I" } : Jvm.MethodName)) ∈ lw_all := lw_g (lw_at lw_m8 193 rfl) rfl
theorem q1975 : (Jvm.Cond.code ({ cls := "FirstInModel", name := "must", desc := "(II)I" } : Jvm.MethodName) prog_26_method_80_code (3 : Nat) (Option.some Jvm.ClassFile.FieldType.int)) ∈ lw_all := lw_g (lw_at lw_m8 194 rfl) rfl
theorem q1977 : (Jvm.Cond.instanceMethod ({ cls := "FirstInModel", name := "free", desc := "(II)I" } : Jvm.MethodName)) ∈ lw_all := lw_g (lw_at lw_m8 196 rfl) rfl
theorem q1978 : (Jvm.Cond.selects "FirstInModel" ({ cls := "FirstInModel", name := "free", desc := "(II)I" } : Jvm.MethodName) ({ cls := "FirstInModel", name := "free", desc := "(II)I" } : Jvm.MethodName)) ∈ lw_all := lw_g (lw_at lw_m8 197 rfl) rfl
theorem q1979 : (Jvm.Cond.code ({ cls := "FirstInModel", name := "free", desc := "(II)I" } : Jvm.MethodName) prog_26_method_81_code (3 : Nat) (Option.some Jvm.ClassFile.FieldType.int)) ∈ lw_all := lw_g (lw_at lw_m8 198 rfl) rfl
theorem q1981 : (Jvm.Cond.instanceMethod ({ cls := "FirstInModel", name := "mended", desc := "(III)I" } : Jvm.MethodName)) ∈ lw_all := lw_g (lw_at lw_m8 200 rfl) rfl
theorem q1982 : (Jvm.Cond.selects "FirstInModel" ({ cls := "FirstInModel", name := "mended", desc := "(III)I" } : Jvm.MethodName) ({ cls := "FirstInModel", name := "mended", desc := "(III)I" } : Jvm.MethodName)) ∈ lw_all := lw_g (lw_at lw_m8 201 rfl) rfl
theorem q1983 : (Jvm.Cond.code ({ cls := "FirstInModel", name := "mended", desc := "(III)I" } : Jvm.MethodName) prog_26_method_82_code (4 : Nat) (Option.some Jvm.ClassFile.FieldType.int)) ∈ lw_all := lw_g (lw_at lw_m8 202 rfl) rfl
theorem q1985 : (Jvm.Cond.instanceMethod ({ cls := "FirstInModel", name := "evened", desc := "(III)I" } : Jvm.MethodName)) ∈ lw_all := lw_g (lw_at lw_m8 204 rfl) rfl
theorem q1986 : (Jvm.Cond.selects "FirstInModel" ({ cls := "FirstInModel", name := "evened", desc := "(III)I" } : Jvm.MethodName) ({ cls := "FirstInModel", name := "evened", desc := "(III)I" } : Jvm.MethodName)) ∈ lw_all := lw_g (lw_at lw_m8 205 rfl) rfl
theorem q1987 : (Jvm.Cond.code ({ cls := "FirstInModel", name := "evened", desc := "(III)I" } : Jvm.MethodName) prog_26_method_83_code (13 : Nat) (Option.some Jvm.ClassFile.FieldType.int)) ∈ lw_all := lw_g (lw_at lw_m8 206 rfl) rfl
theorem q1989 : (Jvm.Cond.instanceMethod ({ cls := "FirstInModel", name := "count", desc := "(I)I" } : Jvm.MethodName)) ∈ lw_all := lw_g (lw_at lw_m8 208 rfl) rfl
theorem q1990 : (Jvm.Cond.selects "FirstInModel" ({ cls := "FirstInModel", name := "count", desc := "(I)I" } : Jvm.MethodName) ({ cls := "FirstInModel", name := "count", desc := "(I)I" } : Jvm.MethodName)) ∈ lw_all := lw_g (lw_at lw_m8 209 rfl) rfl
theorem q1991 : (Jvm.Cond.code ({ cls := "FirstInModel", name := "count", desc := "(I)I" } : Jvm.MethodName) prog_26_method_84_code (4 : Nat) (Option.some Jvm.ClassFile.FieldType.int)) ∈ lw_all := lw_g (lw_at lw_m8 210 rfl) rfl
theorem q2011 : (Jvm.Cond.castable "FirstInModel" "java/lang/Object") ∈ lw_tbl := lw_at lw_m8 230 rfl
theorem in_X2 : ∀ w ∈ wsX20, w ∈ lw_all := lw_in wsX20 [1516, 1518, 1520, 1522, 1524, 1526, 1528, 1530, 1532, 1534, 1536, 1538, 1540, 1542, 1544, 1546, 1548, 1550, 1552, 1554, 1556, 1558, 1560, 1562, 1564, 1566, 1568, 1570, 1572, 1574, 1576, 1578, 1580, 1582, 1584, 1586, 1588, 1590, 1592, 1594, 1596, 1598, 1600, 1602, 1604, 1606, 1608, 1610, 1612, 1614, 1616, 1618, 1620, 1622, 1624, 1626, 1628, 1630, 1632, 1634, 1636, 1638, 1640, 1642] (by decide +kernel) (by decide +kernel)

