theorem q101 : (Jvm.Cond.initialized "FirstInLaw") ∈ lw_all := lw_g (lw_at lw_m1 0 rfl) rfl
set_option maxRecDepth 100000
theorem q144 : (Jvm.Cond.classLink "FirstInLaw" (7 : Nat) "FirstIn") ∈ lw_all := lw_g (lw_at lw_m1 43 rfl) rfl
theorem q146 : (Jvm.Cond.methodLink "FirstInLaw" (9 : Nat) ({ cls := "FirstIn", name := "<init>", desc := "()V" } : Jvm.MethodName)) ∈ lw_all := lw_g (lw_at lw_m1 45 rfl) rfl
theorem q256 : (Jvm.Cond.methodLink "FirstInLaw" (13 : Nat) ({ cls := "FirstIn", name := "feed", desc := "(IIIII)I" } : Jvm.MethodName)) ∈ lw_all := lw_g (lw_at lw_m1 155 rfl) rfl
theorem q264 : (Jvm.Cond.methodLink "FirstInLaw" (18 : Nat) ({ cls := "FirstIn", name := "end", desc := "(I)Z" } : Jvm.MethodName)) ∈ lw_all := lw_g (lw_at lw_m1 163 rfl) rfl
theorem q271 : (Jvm.Cond.methodLink "FirstInLaw" (23 : Nat) ({ cls := "FirstIn", name := "fault", desc := "()I" } : Jvm.MethodName)) ∈ lw_all := lw_g (lw_at lw_m1 170 rfl) rfl
theorem q801 : (Jvm.Cond.methodLink "FirstInLaw" (28 : Nat) ({ cls := "FirstIn", name := "court", desc := "()I" } : Jvm.MethodName)) ∈ lw_all := lw_g (lw_at lw_m3 220 rfl) rfl
theorem q813 : (Jvm.Cond.methodLink "FirstInLaw" (32 : Nat) ({ cls := "FirstIn", name := "room", desc := "(II)I" } : Jvm.MethodName)) ∈ lw_all := lw_g (lw_at lw_m3 232 rfl) rfl
theorem q871 : (Jvm.Cond.methodLink "FirstInLaw" (37 : Nat) ({ cls := "FirstIn", name := "guest", desc := "(II)I" } : Jvm.MethodName)) ∈ lw_all := lw_g (lw_at lw_m4 50 rfl) rfl
theorem q879 : (Jvm.Cond.methodLink "FirstInLaw" (41 : Nat) ({ cls := "FirstIn", name := "rule", desc := "(II)I" } : Jvm.MethodName)) ∈ lw_all := lw_g (lw_at lw_m4 58 rfl) rfl
theorem q908 : (Jvm.Cond.methodLink "FirstInLaw" (45 : Nat) ({ cls := "FirstIn", name := "rest", desc := "(IZ)Z" } : Jvm.MethodName)) ∈ lw_all := lw_g (lw_at lw_m4 87 rfl) rfl
theorem q912 : (Jvm.Cond.methodLink "FirstInLaw" (50 : Nat) ({ cls := "FirstIn", name := "comes", desc := "(IZ)Z" } : Jvm.MethodName)) ∈ lw_all := lw_g (lw_at lw_m4 91 rfl) rfl
theorem q920 : (Jvm.Cond.methodLink "FirstInLaw" (54 : Nat) ({ cls := "FirstIn", name := "seat", desc := "(III)Z" } : Jvm.MethodName)) ∈ lw_all := lw_g (lw_at lw_m4 99 rfl) rfl
theorem q933 : (Jvm.Cond.methodLink "FirstInLaw" (59 : Nat) ({ cls := "FirstIn", name := "leave", desc := "(I)Z" } : Jvm.MethodName)) ∈ lw_all := lw_g (lw_at lw_m4 112 rfl) rfl
theorem q937 : (Jvm.Cond.methodLink "FirstInLaw" (63 : Nat) ({ cls := "FirstIn", name := "sits", desc := "(IZ)Z" } : Jvm.MethodName)) ∈ lw_all := lw_g (lw_at lw_m4 116 rfl) rfl
theorem q941 : (Jvm.Cond.methodLink "FirstInLaw" (67 : Nat) ({ cls := "FirstIn", name := "higher", desc := "(IIII)I" } : Jvm.MethodName)) ∈ lw_all := lw_g (lw_at lw_m4 120 rfl) rfl
theorem q985 : (Jvm.Cond.methodLink "FirstInLaw" (72 : Nat) ({ cls := "FirstIn", name := "source", desc := "(III)I" } : Jvm.MethodName)) ∈ lw_all := lw_g (lw_at lw_m4 164 rfl) rfl
theorem q1009 : (Jvm.Cond.methodLink "FirstInLaw" (77 : Nat) ({ cls := "FirstIn", name := "slights", desc := "(III)I" } : Jvm.MethodName)) ∈ lw_all := lw_g (lw_at lw_m4 188 rfl) rfl
theorem q1084 : (Jvm.Cond.methodLink "FirstInLaw" (81 : Nat) ({ cls := "FirstIn", name := "slight", desc := "(IIII)I" } : Jvm.MethodName)) ∈ lw_all := lw_g (lw_at lw_m5 23 rfl) rfl
theorem q1088 : (Jvm.Cond.methodLink "FirstInLaw" (85 : Nat) ({ cls := "FirstIn", name := "minds", desc := "(III)I" } : Jvm.MethodName)) ∈ lw_all := lw_g (lw_at lw_m5 27 rfl) rfl
theorem q1095 : (Jvm.Cond.methodLink "FirstInLaw" (89 : Nat) ({ cls := "FirstIn", name := "ring", desc := "(II)I" } : Jvm.MethodName)) ∈ lw_all := lw_g (lw_at lw_m5 34 rfl) rfl
theorem q1111 : (Jvm.Cond.methodLink "FirstInLaw" (93 : Nat) ({ cls := "FirstIn", name := "quarrels", desc := "(I)I" } : Jvm.MethodName)) ∈ lw_all := lw_g (lw_at lw_m5 50 rfl) rfl
theorem q1115 : (Jvm.Cond.methodLink "FirstInLaw" (98 : Nat) ({ cls := "FirstIn", name := "toRest", desc := "(II)I" } : Jvm.MethodName)) ∈ lw_all := lw_g (lw_at lw_m5 54 rfl) rfl
theorem q1137 : (Jvm.Cond.methodLink "FirstInLaw" (102 : Nat) ({ cls := "FirstIn", name := "order", desc := "(II)I" } : Jvm.MethodName)) ∈ lw_all := lw_g (lw_at lw_m5 76 rfl) rfl
theorem q1158 : (Jvm.Cond.methodLink "FirstInLaw" (106 : Nat) ({ cls := "FirstIn", name := "rounds", desc := "(II)I" } : Jvm.MethodName)) ∈ lw_all := lw_g (lw_at lw_m5 97 rfl) rfl
theorem q1176 : (Jvm.Cond.methodLink "FirstInLaw" (110 : Nat) ({ cls := "FirstIn", name := "few", desc := "(II)I" } : Jvm.MethodName)) ∈ lw_all := lw_g (lw_at lw_m5 115 rfl) rfl
theorem q1190 : (Jvm.Cond.methodLink "FirstInLaw" (114 : Nat) ({ cls := "FirstIn", name := "least", desc := "(II)I" } : Jvm.MethodName)) ∈ lw_all := lw_g (lw_at lw_m5 129 rfl) rfl
theorem q1376 : (Jvm.Cond.methodLink "FirstInLaw" (118 : Nat) ({ cls := "FirstIn", name := "best", desc := "(IIZ)I" } : Jvm.MethodName)) ∈ lw_all := lw_g (lw_at lw_m6 75 rfl) rfl
theorem q1380 : (Jvm.Cond.methodLink "FirstInLaw" (123 : Nat) ({ cls := "FirstIn", name := "must", desc := "(II)I" } : Jvm.MethodName)) ∈ lw_all := lw_g (lw_at lw_m6 79 rfl) rfl
theorem q1388 : (Jvm.Cond.methodLink "FirstInLaw" (127 : Nat) ({ cls := "FirstIn", name := "free", desc := "(II)I" } : Jvm.MethodName)) ∈ lw_all := lw_g (lw_at lw_m6 87 rfl) rfl
theorem q1392 : (Jvm.Cond.methodLink "FirstInLaw" (131 : Nat) ({ cls := "FirstIn", name := "mended", desc := "(III)I" } : Jvm.MethodName)) ∈ lw_all := lw_g (lw_at lw_m6 91 rfl) rfl
theorem q1423 : (Jvm.Cond.methodLink "FirstInLaw" (135 : Nat) ({ cls := "FirstIn", name := "evened", desc := "(III)I" } : Jvm.MethodName)) ∈ lw_all := lw_g (lw_at lw_m6 122 rfl) rfl
theorem q1427 : (Jvm.Cond.methodLink "FirstInLaw" (139 : Nat) ({ cls := "FirstIn", name := "count", desc := "(I)I" } : Jvm.MethodName)) ∈ lw_all := lw_g (lw_at lw_m6 126 rfl) rfl
theorem q1431 : (Jvm.Cond.classLink "FirstInLaw" (10 : Nat) "FirstInModel") ∈ lw_all := lw_g (lw_at lw_m6 130 rfl) rfl
theorem q1433 : (Jvm.Cond.methodLink "FirstInLaw" (12 : Nat) ({ cls := "FirstInModel", name := "<init>", desc := "()V" } : Jvm.MethodName)) ∈ lw_all := lw_g (lw_at lw_m6 132 rfl) rfl
theorem q1646 : (Jvm.Cond.methodLink "FirstInLaw" (17 : Nat) ({ cls := "FirstInModel", name := "feed", desc := "(IIIII)I" } : Jvm.MethodName)) ∈ lw_all := lw_g (lw_at lw_m7 105 rfl) rfl
theorem q1654 : (Jvm.Cond.methodLink "FirstInLaw" (22 : Nat) ({ cls := "FirstInModel", name := "end", desc := "(I)Z" } : Jvm.MethodName)) ∈ lw_all := lw_g (lw_at lw_m7 113 rfl) rfl
theorem q1661 : (Jvm.Cond.methodLink "FirstInLaw" (27 : Nat) ({ cls := "FirstInModel", name := "fault", desc := "()I" } : Jvm.MethodName)) ∈ lw_all := lw_g (lw_at lw_m7 120 rfl) rfl
theorem q1734 : (Jvm.Cond.methodLink "FirstInLaw" (31 : Nat) ({ cls := "FirstInModel", name := "court", desc := "()I" } : Jvm.MethodName)) ∈ lw_all := lw_g (lw_at lw_m7 193 rfl) rfl
theorem q1738 : (Jvm.Cond.methodLink "FirstInLaw" (36 : Nat) ({ cls := "FirstInModel", name := "room", desc := "(II)I" } : Jvm.MethodName)) ∈ lw_all := lw_g (lw_at lw_m7 197 rfl) rfl
theorem q1744 : (Jvm.Cond.methodLink "FirstInLaw" (40 : Nat) ({ cls := "FirstInModel", name := "guest", desc := "(II)I" } : Jvm.MethodName)) ∈ lw_all := lw_g (lw_at lw_m7 203 rfl) rfl
theorem q1756 : (Jvm.Cond.methodLink "FirstInLaw" (44 : Nat) ({ cls := "FirstInModel", name := "rule", desc := "(II)I" } : Jvm.MethodName)) ∈ lw_all := lw_g (lw_at lw_m7 215 rfl) rfl
theorem q1776 : (Jvm.Cond.methodLink "FirstInLaw" (49 : Nat) ({ cls := "FirstInModel", name := "rest", desc := "(IZ)Z" } : Jvm.MethodName)) ∈ lw_all := lw_g (lw_at lw_m7 235 rfl) rfl
theorem q1780 : (Jvm.Cond.methodLink "FirstInLaw" (53 : Nat) ({ cls := "FirstInModel", name := "comes", desc := "(IZ)Z" } : Jvm.MethodName)) ∈ lw_all := lw_g (lw_at lw_m7 239 rfl) rfl
theorem q1784 : (Jvm.Cond.methodLink "FirstInLaw" (58 : Nat) ({ cls := "FirstInModel", name := "seat", desc := "(III)Z" } : Jvm.MethodName)) ∈ lw_all := lw_g (lw_at lw_m8 3 rfl) rfl
theorem q1792 : (Jvm.Cond.methodLink "FirstInLaw" (62 : Nat) ({ cls := "FirstInModel", name := "leave", desc := "(I)Z" } : Jvm.MethodName)) ∈ lw_all := lw_g (lw_at lw_m8 11 rfl) rfl
theorem q1796 : (Jvm.Cond.methodLink "FirstInLaw" (66 : Nat) ({ cls := "FirstInModel", name := "sits", desc := "(IZ)Z" } : Jvm.MethodName)) ∈ lw_all := lw_g (lw_at lw_m8 15 rfl) rfl
theorem q1800 : (Jvm.Cond.methodLink "FirstInLaw" (71 : Nat) ({ cls := "FirstInModel", name := "higher", desc := "(IIII)I" } : Jvm.MethodName)) ∈ lw_all := lw_g (lw_at lw_m8 19 rfl) rfl
theorem q1813 : (Jvm.Cond.methodLink "FirstInLaw" (80 : Nat) ({ cls := "FirstInModel", name := "slights", desc := "(III)I" } : Jvm.MethodName)) ∈ lw_all := lw_g (lw_at lw_m8 32 rfl) rfl
theorem q1840 : (Jvm.Cond.methodLink "FirstInLaw" (84 : Nat) ({ cls := "FirstInModel", name := "slight", desc := "(IIII)I" } : Jvm.MethodName)) ∈ lw_all := lw_g (lw_at lw_m8 59 rfl) rfl
theorem q1849 : (Jvm.Cond.methodLink "FirstInLaw" (88 : Nat) ({ cls := "FirstInModel", name := "minds", desc := "(III)I" } : Jvm.MethodName)) ∈ lw_all := lw_g (lw_at lw_m8 68 rfl) rfl
theorem q1853 : (Jvm.Cond.methodLink "FirstInLaw" (76 : Nat) ({ cls := "FirstInModel", name := "source", desc := "(III)I" } : Jvm.MethodName)) ∈ lw_all := lw_g (lw_at lw_m8 72 rfl) rfl
theorem q1857 : (Jvm.Cond.methodLink "FirstInLaw" (92 : Nat) ({ cls := "FirstInModel", name := "ring", desc := "(II)I" } : Jvm.MethodName)) ∈ lw_all := lw_g (lw_at lw_m8 76 rfl) rfl
theorem q1877 : (Jvm.Cond.methodLink "FirstInLaw" (97 : Nat) ({ cls := "FirstInModel", name := "quarrels", desc := "(I)I" } : Jvm.MethodName)) ∈ lw_all := lw_g (lw_at lw_m8 96 rfl) rfl
theorem q1881 : (Jvm.Cond.methodLink "FirstInLaw" (101 : Nat) ({ cls := "FirstInModel", name := "toRest", desc := "(II)I" } : Jvm.MethodName)) ∈ lw_all := lw_g (lw_at lw_m8 100 rfl) rfl
theorem q1890 : (Jvm.Cond.methodLink "FirstInLaw" (105 : Nat) ({ cls := "FirstInModel", name := "order", desc := "(II)I" } : Jvm.MethodName)) ∈ lw_all := lw_g (lw_at lw_m8 109 rfl) rfl
theorem q1902 : (Jvm.Cond.methodLink "FirstInLaw" (109 : Nat) ({ cls := "FirstInModel", name := "rounds", desc := "(II)I" } : Jvm.MethodName)) ∈ lw_all := lw_g (lw_at lw_m8 121 rfl) rfl
theorem q1919 : (Jvm.Cond.methodLink "FirstInLaw" (113 : Nat) ({ cls := "FirstInModel", name := "few", desc := "(II)I" } : Jvm.MethodName)) ∈ lw_all := lw_g (lw_at lw_m8 138 rfl) rfl
theorem q1932 : (Jvm.Cond.methodLink "FirstInLaw" (117 : Nat) ({ cls := "FirstInModel", name := "least", desc := "(II)I" } : Jvm.MethodName)) ∈ lw_all := lw_g (lw_at lw_m8 151 rfl) rfl
theorem q1964 : (Jvm.Cond.methodLink "FirstInLaw" (122 : Nat) ({ cls := "FirstInModel", name := "best", desc := "(IIZ)I" } : Jvm.MethodName)) ∈ lw_all := lw_g (lw_at lw_m8 183 rfl) rfl
theorem q1972 : (Jvm.Cond.methodLink "FirstInLaw" (126 : Nat) ({ cls := "FirstInModel", name := "must", desc := "(II)I" } : Jvm.MethodName)) ∈ lw_all := lw_g (lw_at lw_m8 191 rfl) rfl
theorem q1976 : (Jvm.Cond.methodLink "FirstInLaw" (130 : Nat) ({ cls := "FirstInModel", name := "free", desc := "(II)I" } : Jvm.MethodName)) ∈ lw_all := lw_g (lw_at lw_m8 195 rfl) rfl
theorem q1980 : (Jvm.Cond.methodLink "FirstInLaw" (134 : Nat) ({ cls := "FirstInModel", name := "mended", desc := "(III)I" } : Jvm.MethodName)) ∈ lw_all := lw_g (lw_at lw_m8 199 rfl) rfl
theorem q1984 : (Jvm.Cond.methodLink "FirstInLaw" (138 : Nat) ({ cls := "FirstInModel", name := "evened", desc := "(III)I" } : Jvm.MethodName)) ∈ lw_all := lw_g (lw_at lw_m8 203 rfl) rfl
theorem q1988 : (Jvm.Cond.methodLink "FirstInLaw" (142 : Nat) ({ cls := "FirstInModel", name := "count", desc := "(I)I" } : Jvm.MethodName)) ∈ lw_all := lw_g (lw_at lw_m8 207 rfl) rfl

theorem q2033 : (Jvm.Cond.castable "[B" "java/lang/Object") ∈ lw_tbl := lw_at lw_m9 12 rfl
set_option maxRecDepth 100000

theorem q2034 : (Jvm.Cond.castable "[I" "java/lang/Object") ∈ lw_tbl := lw_at lw_m9 13 rfl
set_option maxRecDepth 100000

theorem q2040 : (Jvm.Cond.castable "[J" "java/lang/Object") ∈ lw_tbl := lw_at lw_m9 19 rfl
set_option maxRecDepth 100000

theorem q2030 : (Jvm.Cond.sameMethod "[Ljava/lang/Object;" "java/lang/Object" "getClass" "()Ljava/lang/Class;") ∈ lw_all := lw_g (lw_at lw_m9 9 rfl) rfl
set_option maxRecDepth 100000
theorem q2031 : (Jvm.Cond.selects "[Ljava/lang/Object;" ({ cls := "java/lang/Object", name := "getClass", desc := "()Ljava/lang/Class;" } : Jvm.MethodName) ({ cls := "java/lang/Object", name := "getClass", desc := "()Ljava/lang/Class;" } : Jvm.MethodName)) ∈ lw_all := lw_g (lw_at lw_m9 10 rfl) rfl
theorem q2035 : (Jvm.Cond.castable "[Ljava/lang/Object;" "java/lang/Object") ∈ lw_tbl := lw_at lw_m9 14 rfl

theorem q2039 : (Jvm.Cond.castable "[Ljava/lang/String;" "java/lang/Object") ∈ lw_tbl := lw_at lw_m9 18 rfl
set_option maxRecDepth 100000

theorem q2036 : (Jvm.Cond.castable "[Z" "java/lang/Object") ∈ lw_tbl := lw_at lw_m9 15 rfl
set_option maxRecDepth 100000

theorem q2038 : (Jvm.Cond.castable "[[I" "java/lang/Object") ∈ lw_tbl := lw_at lw_m9 17 rfl
set_option maxRecDepth 100000

theorem q2037 : (Jvm.Cond.castable "[[J" "java/lang/Object") ∈ lw_tbl := lw_at lw_m9 16 rfl
set_option maxRecDepth 100000

theorem q121 : (Jvm.Cond.initialized "java/lang/System") ∈ lw_all := lw_g (lw_at lw_m1 20 rfl) rfl
set_option maxRecDepth 100000
theorem q532 : (Jvm.Cond.static ({ cls := "java/lang/System", name := "arraycopy", desc := "(Ljava/lang/Object;ILjava/lang/Object;II)V" } : Jvm.MethodName)) ∈ lw_all := lw_g (lw_at lw_m2 191 rfl) rfl
theorem q533 : (Jvm.Cond.native ({ cls := "java/lang/System", name := "arraycopy", desc := "(Ljava/lang/Object;ILjava/lang/Object;II)V" } : Jvm.MethodName)) ∈ lw_all := lw_g (lw_at lw_m2 192 rfl) rfl

theorem q184 : (Jvm.Cond.arrayClass Jvm.ClassFile.FieldType.byte) ∈ lw_all := lw_g (lw_at lw_m1 83 rfl) rfl
set_option maxRecDepth 100000
theorem q255 : (Jvm.Cond.arrayClass Jvm.ClassFile.FieldType.int) ∈ lw_all := lw_g (lw_at lw_m1 154 rfl) rfl
theorem q632 : (Jvm.Cond.arrayOver (Jvm.ClassFile.FieldType.object "java/lang/Object")) ∈ lw_tbl := lw_at lw_m3 51 rfl
theorem q1189 : (Jvm.Cond.arrayClass Jvm.ClassFile.FieldType.boolean) ∈ lw_all := lw_g (lw_at lw_m5 128 rfl) rfl
theorem q1438 : (Jvm.Cond.arrayOver (Jvm.ClassFile.FieldType.array Jvm.ClassFile.FieldType.long)) ∈ lw_tbl := lw_at lw_m6 137 rfl
theorem q1440 : (Jvm.Cond.arrayOver (Jvm.ClassFile.FieldType.array Jvm.ClassFile.FieldType.int)) ∈ lw_tbl := lw_at lw_m6 139 rfl
theorem q1442 : (Jvm.Cond.arrayOver (Jvm.ClassFile.FieldType.object "java/lang/String")) ∈ lw_tbl := lw_at lw_m6 141 rfl
theorem q1645 : (Jvm.Cond.arrayClass Jvm.ClassFile.FieldType.long) ∈ lw_all := lw_g (lw_at lw_m7 104 rfl) rfl

