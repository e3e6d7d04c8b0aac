/-! by gen/mspec.py -/
set_option maxRecDepth 100000
section MODEL
variable {l : Launch} {s0 : State} {D : va_G} {K : Nat → ClassId} {wd : Nat → Nat} {o : Nat} {h : Hp} {I : Nat → Int32} {V : Nat → Nat → Int32} {J : Nat → Nat → Int64}
set_option maxHeartbeats 4000000 in
theorem mt_bitI (hK0 : va_K D CL (TYS K) s0) (x : Int32) : Met l yJ15_bitCount (ws_ yJ15_bitCount cJ15_bitCount 1 ((Option.some Jvm.ClassFile.FieldType.int))) (rmk 0 0 0) (va_Pc [.int x] (PB s0 D CL (h))) (QR s0 D CL (fun v h1 => v = some (.int (bcI x)) ∧ h1 = h)) 0 0 (zA s0) := by
  refine hp_met (by decide) (Nat.le_of_ble_eq_true rfl) hK0 ?_
  intro p e s m below meth cd ls hx hb hr hlocks hml hown hnm hts hK hPB hl hS hH hA
  have hl : lv_has ls 1 [(0, .int x)] := hl
  have hown : s.vm.findClass RJ15 = some m.cls := hown
  refine lv_iload_n hx hb dJ15_bitCount_0 rfl (lv_at hl 0 rfl) ?_
  refine lv_iload_n hx hb dJ15_bitCount_1 rfl (lv_at hl 0 rfl) ?_
  refine lv_iconst (v := nI 1) hx hb dJ15_bitCount_2 (by decide) ?_
  refine lv_iushr (v := ushr x 1) hx hb dJ15_bitCount_3 (rfl) ?_
  refine lv_ldcw (v := 1431655765) hx hb hown (hts _ q1130) dJ15_bitCount_4 ?_
  refine lv_iand hx hb dJ15_bitCount_7 ?_
  refine lv_isub hx hb dJ15_bitCount_8 ?_
  refine lv_topi (fun z1 ez1 => ?_)
  refine lv_istore_n (lv' := [(0, .int z1)]) hx hb dJ15_bitCount_9 rfl hl (by decide) rfl (fun ls hl => ?_)
  refine lv_iload_n hx hb dJ15_bitCount_10 rfl (lv_at hl 0 rfl) ?_
  refine lv_ldcw (v := 858993459) hx hb hown (hts _ q1131) dJ15_bitCount_11 ?_
  refine lv_iand hx hb dJ15_bitCount_14 ?_
  refine lv_iload_n hx hb dJ15_bitCount_15 rfl (lv_at hl 0 rfl) ?_
  refine lv_iconst (v := nI 2) hx hb dJ15_bitCount_16 (by decide) ?_
  refine lv_iushr (v := ushr z1 2) hx hb dJ15_bitCount_17 (rfl) ?_
  refine lv_ldcw (v := 858993459) hx hb hown (hts _ q1131) dJ15_bitCount_18 ?_
  refine lv_iand hx hb dJ15_bitCount_21 ?_
  refine lv_iadd hx hb dJ15_bitCount_22 ?_
  refine lv_topi (fun z2 ez2 => ?_)
  refine lv_istore_n (lv' := [(0, .int z2)]) hx hb dJ15_bitCount_23 rfl hl (by decide) rfl (fun ls hl => ?_)
  refine lv_iload_n hx hb dJ15_bitCount_24 rfl (lv_at hl 0 rfl) ?_
  refine lv_iload_n hx hb dJ15_bitCount_25 rfl (lv_at hl 0 rfl) ?_
  refine lv_iconst (v := nI 4) hx hb dJ15_bitCount_26 (by decide) ?_
  refine lv_iushr (v := ushr z2 4) hx hb dJ15_bitCount_27 (rfl) ?_
  refine lv_iadd hx hb dJ15_bitCount_28 ?_
  refine lv_ldcw (v := 252645135) hx hb hown (hts _ q1132) dJ15_bitCount_29 ?_
  refine lv_iand hx hb dJ15_bitCount_32 ?_
  refine lv_topi (fun z3 ez3 => ?_)
  refine lv_istore_n (lv' := [(0, .int z3)]) hx hb dJ15_bitCount_33 rfl hl (by decide) rfl (fun ls hl => ?_)
  refine lv_iload_n hx hb dJ15_bitCount_34 rfl (lv_at hl 0 rfl) ?_
  refine lv_iload_n hx hb dJ15_bitCount_35 rfl (lv_at hl 0 rfl) ?_
  refine lv_bipush (v := nI 8) hx hb dJ15_bitCount_36 (by decide) ?_
  refine lv_iushr (v := ushr z3 8) hx hb dJ15_bitCount_38 (rfl) ?_
  refine lv_iadd hx hb dJ15_bitCount_39 ?_
  refine lv_topi (fun z4 ez4 => ?_)
  refine lv_istore_n (lv' := [(0, .int z4)]) hx hb dJ15_bitCount_40 rfl hl (by decide) rfl (fun ls hl => ?_)
  refine lv_iload_n hx hb dJ15_bitCount_41 rfl (lv_at hl 0 rfl) ?_
  refine lv_iload_n hx hb dJ15_bitCount_42 rfl (lv_at hl 0 rfl) ?_
  refine lv_bipush (v := nI 16) hx hb dJ15_bitCount_43 (by decide) ?_
  refine lv_iushr (v := ushr z4 16) hx hb dJ15_bitCount_45 (rfl) ?_
  refine lv_iadd hx hb dJ15_bitCount_46 ?_
  refine lv_topi (fun z5 ez5 => ?_)
  refine lv_istore_n (lv' := [(0, .int z5)]) hx hb dJ15_bitCount_47 rfl hl (by decide) rfl (fun ls hl => ?_)
  refine lv_iload_n hx hb dJ15_bitCount_48 rfl (lv_at hl 0 rfl) ?_
  refine lv_bipush (v := nI 63) hx hb dJ15_bitCount_49 (by decide) ?_
  refine lv_iand hx hb dJ15_bitCount_51 ?_
  exact hp_iret hx hb hr hlocks hH hS (by decide) (by decide) dJ15_bitCount_52 (⟨by rw [ez5, ez4, ez3, ez2, ez1]; rfl, rfl⟩)
theorem mt_bitCount (hK0 : va_K D CL (TYS K) s0) {x : Nat} (hx : x < 4096) : Met l yJ15_bitCount (ws_ yJ15_bitCount cJ15_bitCount 1 (some .int)) (rmk 0 0 0) (va_Pc [.int (nI x)] (PB s0 D CL h)) (QR s0 D CL (fun v h1 => v = some (.int (nI (popN x))) ∧ h1 = h)) 0 0 (zA s0) := by
  have := mt_bitI (l := l) (h := h) hK0 (nI x)
  rw [bcI_nI x hx] at this
  exact this
set_option maxHeartbeats 4000000 in
theorem mt_ntzI (hK0 : va_K D CL (TYS K) s0) (x : Int32) : Met l yJ15_numberOfTrailingZeros (ws_ yJ15_numberOfTrailingZeros cJ15_numberOfTrailingZeros 2 ((Option.some Jvm.ClassFile.FieldType.int))) (rmk 0 0 0) (va_Pc [.int x] (PB s0 D CL (h))) (QR s0 D CL (fun v h1 => v = some (.int (ntzI x)) ∧ h1 = h)) 0 0 (zA s0) := by
  refine hp_met (by decide) (Nat.le_of_ble_eq_true rfl) hK0 ?_
  intro p e s m below meth cd ls hx hb hr hlocks hml hown hnm hts hK hPB hl hS hH hA
  have hl : lv_has ls 2 [(0, .int x)] := hl
  have hown : s.vm.findClass RJ15 = some m.cls := hown
  refine lv_iload_n hx hb dJ15_numberOfTrailingZeros_0 rfl (lv_at hl 0 rfl) ?_
  refine lv_iconst (v := (-1)) hx hb dJ15_numberOfTrailingZeros_1 (by decide) ?_
  refine lv_ixor hx hb dJ15_numberOfTrailingZeros_2 ?_
  refine lv_iload_n hx hb dJ15_numberOfTrailingZeros_3 rfl (lv_at hl 0 rfl) ?_
  refine lv_iconst (v := nI 1) hx hb dJ15_numberOfTrailingZeros_4 (by decide) ?_
  refine lv_isub hx hb dJ15_numberOfTrailingZeros_5 ?_
  refine lv_iand hx hb dJ15_numberOfTrailingZeros_6 ?_
  refine lv_topi (fun y ey => ?_)
  refine lv_istore_n (lv' := [(0, .int y)]) hx hb dJ15_numberOfTrailingZeros_7 rfl hl (by decide) rfl (fun ls hl => ?_)
  refine lv_iload_n hx hb dJ15_numberOfTrailingZeros_8 rfl (lv_at hl 0 rfl) ?_
  refine lv_if_gt (tgt := 17) hx hb dJ15_numberOfTrailingZeros_9 (by decide) (fun c1 => ?_) (fun c1 => ?_)
  · refine lv_iconst (v := nI 1) hx hb dJ15_numberOfTrailingZeros_17 (by decide) ?_
    refine lv_istore_n (lv' := [(1, .int (nI 1)), (0, .int y)]) hx hb dJ15_numberOfTrailingZeros_18 rfl hl (by decide) rfl (fun ls hl => ?_)
    refine lv_iload_n hx hb dJ15_numberOfTrailingZeros_19 rfl (lv_at hl 1 rfl) ?_
    refine lv_ldcw (v := 65536) hx hb hown (hts _ q1387) dJ15_numberOfTrailingZeros_20 ?_
    refine lv_icmp_le (tgt := 34) hx hb dJ15_numberOfTrailingZeros_23 (by decide) (fun c2 => ?_) (fun c2 => ?_)
    · refine lv_iload_n hx hb dJ15_numberOfTrailingZeros_34 rfl (lv_at hl 1 rfl) ?_
      refine lv_sipush (v := nI 256) hx hb dJ15_numberOfTrailingZeros_35 (by decide) ?_
      refine lv_icmp_le (tgt := 49) hx hb dJ15_numberOfTrailingZeros_38 (by decide) (fun c3 => ?_) (fun c3 => ?_)
      · refine lv_iload_n hx hb dJ15_numberOfTrailingZeros_49 rfl (lv_at hl 1 rfl) ?_
        refine lv_bipush (v := nI 16) hx hb dJ15_numberOfTrailingZeros_50 (by decide) ?_
        refine lv_icmp_le (tgt := 62) hx hb dJ15_numberOfTrailingZeros_52 (by decide) (fun c4 => ?_) (fun c4 => ?_)
        · refine lv_iload_n hx hb dJ15_numberOfTrailingZeros_62 rfl (lv_at hl 1 rfl) ?_
          refine lv_iconst (v := nI 4) hx hb dJ15_numberOfTrailingZeros_63 (by decide) ?_
          refine lv_icmp_le (tgt := 74) hx hb dJ15_numberOfTrailingZeros_64 (by decide) (fun c5 => ?_) (fun c5 => ?_)
          · refine lv_iload_n hx hb dJ15_numberOfTrailingZeros_74 rfl (lv_at hl 0 rfl) ?_
            refine lv_iload_n hx hb dJ15_numberOfTrailingZeros_75 rfl (lv_at hl 1 rfl) ?_
            refine lv_iconst (v := nI 1) hx hb dJ15_numberOfTrailingZeros_76 (by decide) ?_
            refine lv_iushr (v := ushr y 1) hx hb dJ15_numberOfTrailingZeros_77 (rfl) ?_
            refine lv_iadd hx hb dJ15_numberOfTrailingZeros_78 ?_
            exact hp_iret hx hb hr hlocks hH hS (by decide) (by decide) dJ15_numberOfTrailingZeros_79 (⟨by unfold ntzI; rw [← ey]; first | (simp [nz0, nz1, nz2, nz3, nz4, c1, c2, c3, c4, c5]; done) | (simp [nz0, nz1, nz2, nz3, nz4, c1, c2, c3, c4, c5]; decide), rfl⟩)
          · refine lv_iinc (v := nI (1 + 2)) (lv' := [(1, .int (nI (1 + 2))), (0, .int y)]) hx hb dJ15_numberOfTrailingZeros_67 hl (k := 0) rfl (nI_add 1 2) (by decide) rfl (fun ls hl => ?_)
            refine lv_iload_n hx hb dJ15_numberOfTrailingZeros_70 rfl (lv_at hl 1 rfl) ?_
            refine lv_iconst (v := nI 2) hx hb dJ15_numberOfTrailingZeros_71 (by decide) ?_
            refine lv_iushr (v := ushr y 2) hx hb dJ15_numberOfTrailingZeros_72 (rfl) ?_
            refine lv_istore_n (lv' := [(0, .int (ushr y 2)), (1, .int (nI (1 + 2)))]) hx hb dJ15_numberOfTrailingZeros_73 rfl hl (by decide) rfl (fun ls hl => ?_)
            refine lv_iload_n hx hb dJ15_numberOfTrailingZeros_74 rfl (lv_at hl 1 rfl) ?_
            refine lv_iload_n hx hb dJ15_numberOfTrailingZeros_75 rfl (lv_at hl 0 rfl) ?_
            refine lv_iconst (v := nI 1) hx hb dJ15_numberOfTrailingZeros_76 (by decide) ?_
            refine lv_iushr (v := ushr (ushr y 2) 1) hx hb dJ15_numberOfTrailingZeros_77 (rfl) ?_
            refine lv_iadd hx hb dJ15_numberOfTrailingZeros_78 ?_
            exact hp_iret hx hb hr hlocks hH hS (by decide) (by decide) dJ15_numberOfTrailingZeros_79 (⟨by unfold ntzI; rw [← ey]; first | (simp [nz0, nz1, nz2, nz3, nz4, c1, c2, c3, c4, c5]; done) | (simp [nz0, nz1, nz2, nz3, nz4, c1, c2, c3, c4, c5]; decide), rfl⟩)
        · refine lv_iinc (v := nI (1 + 4)) (lv' := [(1, .int (nI (1 + 4))), (0, .int y)]) hx hb dJ15_numberOfTrailingZeros_55 hl (k := 0) rfl (nI_add 1 4) (by decide) rfl (fun ls hl => ?_)
          refine lv_iload_n hx hb dJ15_numberOfTrailingZeros_58 rfl (lv_at hl 1 rfl) ?_
          refine lv_iconst (v := nI 4) hx hb dJ15_numberOfTrailingZeros_59 (by decide) ?_
          refine lv_iushr (v := ushr y 4) hx hb dJ15_numberOfTrailingZeros_60 (rfl) ?_
          refine lv_istore_n (lv' := [(0, .int (ushr y 4)), (1, .int (nI (1 + 4)))]) hx hb dJ15_numberOfTrailingZeros_61 rfl hl (by decide) rfl (fun ls hl => ?_)
          refine lv_iload_n hx hb dJ15_numberOfTrailingZeros_62 rfl (lv_at hl 0 rfl) ?_
          refine lv_iconst (v := nI 4) hx hb dJ15_numberOfTrailingZeros_63 (by decide) ?_
          refine lv_icmp_le (tgt := 74) hx hb dJ15_numberOfTrailingZeros_64 (by decide) (fun c6 => ?_) (fun c6 => ?_)
          · refine lv_iload_n hx hb dJ15_numberOfTrailingZeros_74 rfl (lv_at hl 1 rfl) ?_
            refine lv_iload_n hx hb dJ15_numberOfTrailingZeros_75 rfl (lv_at hl 0 rfl) ?_
            refine lv_iconst (v := nI 1) hx hb dJ15_numberOfTrailingZeros_76 (by decide) ?_
            refine lv_iushr (v := ushr (ushr y 4) 1) hx hb dJ15_numberOfTrailingZeros_77 (rfl) ?_
            refine lv_iadd hx hb dJ15_numberOfTrailingZeros_78 ?_
            exact hp_iret hx hb hr hlocks hH hS (by decide) (by decide) dJ15_numberOfTrailingZeros_79 (⟨by unfold ntzI; rw [← ey]; first | (simp [nz0, nz1, nz2, nz3, nz4, c1, c2, c3, c4, c6]; done) | (simp [nz0, nz1, nz2, nz3, nz4, c1, c2, c3, c4, c6]; decide), rfl⟩)
          · refine lv_iinc (v := nI (1 + 4 + 2)) (lv' := [(1, .int (nI (1 + 4 + 2))), (0, .int (ushr y 4))]) hx hb dJ15_numberOfTrailingZeros_67 hl (k := 1) rfl (nI_add (1 + 4) 2) (by decide) rfl (fun ls hl => ?_)
            refine lv_iload_n hx hb dJ15_numberOfTrailingZeros_70 rfl (lv_at hl 1 rfl) ?_
            refine lv_iconst (v := nI 2) hx hb dJ15_numberOfTrailingZeros_71 (by decide) ?_
            refine lv_iushr (v := ushr (ushr y 4) 2) hx hb dJ15_numberOfTrailingZeros_72 (rfl) ?_
            refine lv_istore_n (lv' := [(0, .int (ushr (ushr y 4) 2)), (1, .int (nI (1 + 4 + 2)))]) hx hb dJ15_numberOfTrailingZeros_73 rfl hl (by decide) rfl (fun ls hl => ?_)
            refine lv_iload_n hx hb dJ15_numberOfTrailingZeros_74 rfl (lv_at hl 1 rfl) ?_
            refine lv_iload_n hx hb dJ15_numberOfTrailingZeros_75 rfl (lv_at hl 0 rfl) ?_
            refine lv_iconst (v := nI 1) hx hb dJ15_numberOfTrailingZeros_76 (by decide) ?_
            refine lv_iushr (v := ushr (ushr (ushr y 4) 2) 1) hx hb dJ15_numberOfTrailingZeros_77 (rfl) ?_
            refine lv_iadd hx hb dJ15_numberOfTrailingZeros_78 ?_
            exact hp_iret hx hb hr hlocks hH hS (by decide) (by decide) dJ15_numberOfTrailingZeros_79 (⟨by unfold ntzI; rw [← ey]; first | (simp [nz0, nz1, nz2, nz3, nz4, c1, c2, c3, c4, c6]; done) | (simp [nz0, nz1, nz2, nz3, nz4, c1, c2, c3, c4, c6]; decide), rfl⟩)
      · refine lv_iinc (v := nI (1 + 8)) (lv' := [(1, .int (nI (1 + 8))), (0, .int y)]) hx hb dJ15_numberOfTrailingZeros_41 hl (k := 0) rfl (nI_add 1 8) (by decide) rfl (fun ls hl => ?_)
        refine lv_iload_n hx hb dJ15_numberOfTrailingZeros_44 rfl (lv_at hl 1 rfl) ?_
        refine lv_bipush (v := nI 8) hx hb dJ15_numberOfTrailingZeros_45 (by decide) ?_
        refine lv_iushr (v := ushr y 8) hx hb dJ15_numberOfTrailingZeros_47 (rfl) ?_
        refine lv_istore_n (lv' := [(0, .int (ushr y 8)), (1, .int (nI (1 + 8)))]) hx hb dJ15_numberOfTrailingZeros_48 rfl hl (by decide) rfl (fun ls hl => ?_)
        refine lv_iload_n hx hb dJ15_numberOfTrailingZeros_49 rfl (lv_at hl 0 rfl) ?_
        refine lv_bipush (v := nI 16) hx hb dJ15_numberOfTrailingZeros_50 (by decide) ?_
        refine lv_icmp_le (tgt := 62) hx hb dJ15_numberOfTrailingZeros_52 (by decide) (fun c7 => ?_) (fun c7 => ?_)
        · refine lv_iload_n hx hb dJ15_numberOfTrailingZeros_62 rfl (lv_at hl 0 rfl) ?_
          refine lv_iconst (v := nI 4) hx hb dJ15_numberOfTrailingZeros_63 (by decide) ?_
          refine lv_icmp_le (tgt := 74) hx hb dJ15_numberOfTrailingZeros_64 (by decide) (fun c8 => ?_) (fun c8 => ?_)
          · refine lv_iload_n hx hb dJ15_numberOfTrailingZeros_74 rfl (lv_at hl 1 rfl) ?_
            refine lv_iload_n hx hb dJ15_numberOfTrailingZeros_75 rfl (lv_at hl 0 rfl) ?_
            refine lv_iconst (v := nI 1) hx hb dJ15_numberOfTrailingZeros_76 (by decide) ?_
            refine lv_iushr (v := ushr (ushr y 8) 1) hx hb dJ15_numberOfTrailingZeros_77 (rfl) ?_
            refine lv_iadd hx hb dJ15_numberOfTrailingZeros_78 ?_
            exact hp_iret hx hb hr hlocks hH hS (by decide) (by decide) dJ15_numberOfTrailingZeros_79 (⟨by unfold ntzI; rw [← ey]; first | (simp [nz0, nz1, nz2, nz3, nz4, c1, c2, c3, c7, c8]; done) | (simp [nz0, nz1, nz2, nz3, nz4, c1, c2, c3, c7, c8]; decide), rfl⟩)
          · refine lv_iinc (v := nI (1 + 8 + 2)) (lv' := [(1, .int (nI (1 + 8 + 2))), (0, .int (ushr y 8))]) hx hb dJ15_numberOfTrailingZeros_67 hl (k := 1) rfl (nI_add (1 + 8) 2) (by decide) rfl (fun ls hl => ?_)
            refine lv_iload_n hx hb dJ15_numberOfTrailingZeros_70 rfl (lv_at hl 1 rfl) ?_
            refine lv_iconst (v := nI 2) hx hb dJ15_numberOfTrailingZeros_71 (by decide) ?_
            refine lv_iushr (v := ushr (ushr y 8) 2) hx hb dJ15_numberOfTrailingZeros_72 (rfl) ?_
            refine lv_istore_n (lv' := [(0, .int (ushr (ushr y 8) 2)), (1, .int (nI (1 + 8 + 2)))]) hx hb dJ15_numberOfTrailingZeros_73 rfl hl (by decide) rfl (fun ls hl => ?_)
            refine lv_iload_n hx hb dJ15_numberOfTrailingZeros_74 rfl (lv_at hl 1 rfl) ?_
            refine lv_iload_n hx hb dJ15_numberOfTrailingZeros_75 rfl (lv_at hl 0 rfl) ?_
            refine lv_iconst (v := nI 1) hx hb dJ15_numberOfTrailingZeros_76 (by decide) ?_
            refine lv_iushr (v := ushr (ushr (ushr y 8) 2) 1) hx hb dJ15_numberOfTrailingZeros_77 (rfl) ?_
            refine lv_iadd hx hb dJ15_numberOfTrailingZeros_78 ?_
            exact hp_iret hx hb hr hlocks hH hS (by decide) (by decide) dJ15_numberOfTrailingZeros_79 (⟨by unfold ntzI; rw [← ey]; first | (simp [nz0, nz1, nz2, nz3, nz4, c1, c2, c3, c7, c8]; done) | (simp [nz0, nz1, nz2, nz3, nz4, c1, c2, c3, c7, c8]; decide), rfl⟩)
        · refine lv_iinc (v := nI (1 + 8 + 4)) (lv' := [(1, .int (nI (1 + 8 + 4))), (0, .int (ushr y 8))]) hx hb dJ15_numberOfTrailingZeros_55 hl (k := 1) rfl (nI_add (1 + 8) 4) (by decide) rfl (fun ls hl => ?_)
          refine lv_iload_n hx hb dJ15_numberOfTrailingZeros_58 rfl (lv_at hl 1 rfl) ?_
          refine lv_iconst (v := nI 4) hx hb dJ15_numberOfTrailingZeros_59 (by decide) ?_
          refine lv_iushr (v := ushr (ushr y 8) 4) hx hb dJ15_numberOfTrailingZeros_60 (rfl) ?_
          refine lv_istore_n (lv' := [(0, .int (ushr (ushr y 8) 4)), (1, .int (nI (1 + 8 + 4)))]) hx hb dJ15_numberOfTrailingZeros_61 rfl hl (by decide) rfl (fun ls hl => ?_)
          refine lv_iload_n hx hb dJ15_numberOfTrailingZeros_62 rfl (lv_at hl 0 rfl) ?_
          refine lv_iconst (v := nI 4) hx hb dJ15_numberOfTrailingZeros_63 (by decide) ?_
          refine lv_icmp_le (tgt := 74) hx hb dJ15_numberOfTrailingZeros_64 (by decide) (fun c9 => ?_) (fun c9 => ?_)
          · refine lv_iload_n hx hb dJ15_numberOfTrailingZeros_74 rfl (lv_at hl 1 rfl) ?_
            refine lv_iload_n hx hb dJ15_numberOfTrailingZeros_75 rfl (lv_at hl 0 rfl) ?_
            refine lv_iconst (v := nI 1) hx hb dJ15_numberOfTrailingZeros_76 (by decide) ?_
            refine lv_iushr (v := ushr (ushr (ushr y 8) 4) 1) hx hb dJ15_numberOfTrailingZeros_77 (rfl) ?_
            refine lv_iadd hx hb dJ15_numberOfTrailingZeros_78 ?_
            exact hp_iret hx hb hr hlocks hH hS (by decide) (by decide) dJ15_numberOfTrailingZeros_79 (⟨by unfold ntzI; rw [← ey]; first | (simp [nz0, nz1, nz2, nz3, nz4, c1, c2, c3, c7, c9]; done) | (simp [nz0, nz1, nz2, nz3, nz4, c1, c2, c3, c7, c9]; decide), rfl⟩)
          · refine lv_iinc (v := nI (1 + 8 + 4 + 2)) (lv' := [(1, .int (nI (1 + 8 + 4 + 2))), (0, .int (ushr (ushr y 8) 4))]) hx hb dJ15_numberOfTrailingZeros_67 hl (k := 1) rfl (nI_add (1 + 8 + 4) 2) (by decide) rfl (fun ls hl => ?_)
            refine lv_iload_n hx hb dJ15_numberOfTrailingZeros_70 rfl (lv_at hl 1 rfl) ?_
            refine lv_iconst (v := nI 2) hx hb dJ15_numberOfTrailingZeros_71 (by decide) ?_
            refine lv_iushr (v := ushr (ushr (ushr y 8) 4) 2) hx hb dJ15_numberOfTrailingZeros_72 (rfl) ?_
            refine lv_istore_n (lv' := [(0, .int (ushr (ushr (ushr y 8) 4) 2)), (1, .int (nI (1 + 8 + 4 + 2)))]) hx hb dJ15_numberOfTrailingZeros_73 rfl hl (by decide) rfl (fun ls hl => ?_)
            refine lv_iload_n hx hb dJ15_numberOfTrailingZeros_74 rfl (lv_at hl 1 rfl) ?_
            refine lv_iload_n hx hb dJ15_numberOfTrailingZeros_75 rfl (lv_at hl 0 rfl) ?_
            refine lv_iconst (v := nI 1) hx hb dJ15_numberOfTrailingZeros_76 (by decide) ?_
            refine lv_iushr (v := ushr (ushr (ushr (ushr y 8) 4) 2) 1) hx hb dJ15_numberOfTrailingZeros_77 (rfl) ?_
            refine lv_iadd hx hb dJ15_numberOfTrailingZeros_78 ?_
            exact hp_iret hx hb hr hlocks hH hS (by decide) (by decide) dJ15_numberOfTrailingZeros_79 (⟨by unfold ntzI; rw [← ey]; first | (simp [nz0, nz1, nz2, nz3, nz4, c1, c2, c3, c7, c9]; done) | (simp [nz0, nz1, nz2, nz3, nz4, c1, c2, c3, c7, c9]; decide), rfl⟩)
    · refine lv_iinc (v := nI (1 + 16)) (lv' := [(1, .int (nI (1 + 16))), (0, .int y)]) hx hb dJ15_numberOfTrailingZeros_26 hl (k := 0) rfl (nI_add 1 16) (by decide) rfl (fun ls hl => ?_)
      refine lv_iload_n hx hb dJ15_numberOfTrailingZeros_29 rfl (lv_at hl 1 rfl) ?_
      refine lv_bipush (v := nI 16) hx hb dJ15_numberOfTrailingZeros_30 (by decide) ?_
      refine lv_iushr (v := ushr y 16) hx hb dJ15_numberOfTrailingZeros_32 (rfl) ?_
      refine lv_istore_n (lv' := [(0, .int (ushr y 16)), (1, .int (nI (1 + 16)))]) hx hb dJ15_numberOfTrailingZeros_33 rfl hl (by decide) rfl (fun ls hl => ?_)
      refine lv_iload_n hx hb dJ15_numberOfTrailingZeros_34 rfl (lv_at hl 0 rfl) ?_
      refine lv_sipush (v := nI 256) hx hb dJ15_numberOfTrailingZeros_35 (by decide) ?_
      refine lv_icmp_le (tgt := 49) hx hb dJ15_numberOfTrailingZeros_38 (by decide) (fun c10 => ?_) (fun c10 => ?_)
      · refine lv_iload_n hx hb dJ15_numberOfTrailingZeros_49 rfl (lv_at hl 0 rfl) ?_
        refine lv_bipush (v := nI 16) hx hb dJ15_numberOfTrailingZeros_50 (by decide) ?_
        refine lv_icmp_le (tgt := 62) hx hb dJ15_numberOfTrailingZeros_52 (by decide) (fun c11 => ?_) (fun c11 => ?_)
        · refine lv_iload_n hx hb dJ15_numberOfTrailingZeros_62 rfl (lv_at hl 0 rfl) ?_
          refine lv_iconst (v := nI 4) hx hb dJ15_numberOfTrailingZeros_63 (by decide) ?_
          refine lv_icmp_le (tgt := 74) hx hb dJ15_numberOfTrailingZeros_64 (by decide) (fun c12 => ?_) (fun c12 => ?_)
          · refine lv_iload_n hx hb dJ15_numberOfTrailingZeros_74 rfl (lv_at hl 1 rfl) ?_
            refine lv_iload_n hx hb dJ15_numberOfTrailingZeros_75 rfl (lv_at hl 0 rfl) ?_
            refine lv_iconst (v := nI 1) hx hb dJ15_numberOfTrailingZeros_76 (by decide) ?_
            refine lv_iushr (v := ushr (ushr y 16) 1) hx hb dJ15_numberOfTrailingZeros_77 (rfl) ?_
            refine lv_iadd hx hb dJ15_numberOfTrailingZeros_78 ?_
            exact hp_iret hx hb hr hlocks hH hS (by decide) (by decide) dJ15_numberOfTrailingZeros_79 (⟨by unfold ntzI; rw [← ey]; first | (simp [nz0, nz1, nz2, nz3, nz4, c1, c2, c10, c11, c12]; done) | (simp [nz0, nz1, nz2, nz3, nz4, c1, c2, c10, c11, c12]; decide), rfl⟩)
          · refine lv_iinc (v := nI (1 + 16 + 2)) (lv' := [(1, .int (nI (1 + 16 + 2))), (0, .int (ushr y 16))]) hx hb dJ15_numberOfTrailingZeros_67 hl (k := 1) rfl (nI_add (1 + 16) 2) (by decide) rfl (fun ls hl => ?_)
            refine lv_iload_n hx hb dJ15_numberOfTrailingZeros_70 rfl (lv_at hl 1 rfl) ?_
            refine lv_iconst (v := nI 2) hx hb dJ15_numberOfTrailingZeros_71 (by decide) ?_
            refine lv_iushr (v := ushr (ushr y 16) 2) hx hb dJ15_numberOfTrailingZeros_72 (rfl) ?_
            refine lv_istore_n (lv' := [(0, .int (ushr (ushr y 16) 2)), (1, .int (nI (1 + 16 + 2)))]) hx hb dJ15_numberOfTrailingZeros_73 rfl hl (by decide) rfl (fun ls hl => ?_)
            refine lv_iload_n hx hb dJ15_numberOfTrailingZeros_74 rfl (lv_at hl 1 rfl) ?_
            refine lv_iload_n hx hb dJ15_numberOfTrailingZeros_75 rfl (lv_at hl 0 rfl) ?_
            refine lv_iconst (v := nI 1) hx hb dJ15_numberOfTrailingZeros_76 (by decide) ?_
            refine lv_iushr (v := ushr (ushr (ushr y 16) 2) 1) hx hb dJ15_numberOfTrailingZeros_77 (rfl) ?_
            refine lv_iadd hx hb dJ15_numberOfTrailingZeros_78 ?_
            exact hp_iret hx hb hr hlocks hH hS (by decide) (by decide) dJ15_numberOfTrailingZeros_79 (⟨by unfold ntzI; rw [← ey]; first | (simp [nz0, nz1, nz2, nz3, nz4, c1, c2, c10, c11, c12]; done) | (simp [nz0, nz1, nz2, nz3, nz4, c1, c2, c10, c11, c12]; decide), rfl⟩)
        · refine lv_iinc (v := nI (1 + 16 + 4)) (lv' := [(1, .int (nI (1 + 16 + 4))), (0, .int (ushr y 16))]) hx hb dJ15_numberOfTrailingZeros_55 hl (k := 1) rfl (nI_add (1 + 16) 4) (by decide) rfl (fun ls hl => ?_)
          refine lv_iload_n hx hb dJ15_numberOfTrailingZeros_58 rfl (lv_at hl 1 rfl) ?_
          refine lv_iconst (v := nI 4) hx hb dJ15_numberOfTrailingZeros_59 (by decide) ?_
          refine lv_iushr (v := ushr (ushr y 16) 4) hx hb dJ15_numberOfTrailingZeros_60 (rfl) ?_
          refine lv_istore_n (lv' := [(0, .int (ushr (ushr y 16) 4)), (1, .int (nI (1 + 16 + 4)))]) hx hb dJ15_numberOfTrailingZeros_61 rfl hl (by decide) rfl (fun ls hl => ?_)
          refine lv_iload_n hx hb dJ15_numberOfTrailingZeros_62 rfl (lv_at hl 0 rfl) ?_
          refine lv_iconst (v := nI 4) hx hb dJ15_numberOfTrailingZeros_63 (by decide) ?_
          refine lv_icmp_le (tgt := 74) hx hb dJ15_numberOfTrailingZeros_64 (by decide) (fun c13 => ?_) (fun c13 => ?_)
          · refine lv_iload_n hx hb dJ15_numberOfTrailingZeros_74 rfl (lv_at hl 1 rfl) ?_
            refine lv_iload_n hx hb dJ15_numberOfTrailingZeros_75 rfl (lv_at hl 0 rfl) ?_
            refine lv_iconst (v := nI 1) hx hb dJ15_numberOfTrailingZeros_76 (by decide) ?_
            refine lv_iushr (v := ushr (ushr (ushr y 16) 4) 1) hx hb dJ15_numberOfTrailingZeros_77 (rfl) ?_
            refine lv_iadd hx hb dJ15_numberOfTrailingZeros_78 ?_
            exact hp_iret hx hb hr hlocks hH hS (by decide) (by decide) dJ15_numberOfTrailingZeros_79 (⟨by unfold ntzI; rw [← ey]; first | (simp [nz0, nz1, nz2, nz3, nz4, c1, c2, c10, c11, c13]; done) | (simp [nz0, nz1, nz2, nz3, nz4, c1, c2, c10, c11, c13]; decide), rfl⟩)
          · refine lv_iinc (v := nI (1 + 16 + 4 + 2)) (lv' := [(1, .int (nI (1 + 16 + 4 + 2))), (0, .int (ushr (ushr y 16) 4))]) hx hb dJ15_numberOfTrailingZeros_67 hl (k := 1) rfl (nI_add (1 + 16 + 4) 2) (by decide) rfl (fun ls hl => ?_)
            refine lv_iload_n hx hb dJ15_numberOfTrailingZeros_70 rfl (lv_at hl 1 rfl) ?_
            refine lv_iconst (v := nI 2) hx hb dJ15_numberOfTrailingZeros_71 (by decide) ?_
            refine lv_iushr (v := ushr (ushr (ushr y 16) 4) 2) hx hb dJ15_numberOfTrailingZeros_72 (rfl) ?_
            refine lv_istore_n (lv' := [(0, .int (ushr (ushr (ushr y 16) 4) 2)), (1, .int (nI (1 + 16 + 4 + 2)))]) hx hb dJ15_numberOfTrailingZeros_73 rfl hl (by decide) rfl (fun ls hl => ?_)
            refine lv_iload_n hx hb dJ15_numberOfTrailingZeros_74 rfl (lv_at hl 1 rfl) ?_
            refine lv_iload_n hx hb dJ15_numberOfTrailingZeros_75 rfl (lv_at hl 0 rfl) ?_
            refine lv_iconst (v := nI 1) hx hb dJ15_numberOfTrailingZeros_76 (by decide) ?_
            refine lv_iushr (v := ushr (ushr (ushr (ushr y 16) 4) 2) 1) hx hb dJ15_numberOfTrailingZeros_77 (rfl) ?_
            refine lv_iadd hx hb dJ15_numberOfTrailingZeros_78 ?_
            exact hp_iret hx hb hr hlocks hH hS (by decide) (by decide) dJ15_numberOfTrailingZeros_79 (⟨by unfold ntzI; rw [← ey]; first | (simp [nz0, nz1, nz2, nz3, nz4, c1, c2, c10, c11, c13]; done) | (simp [nz0, nz1, nz2, nz3, nz4, c1, c2, c10, c11, c13]; decide), rfl⟩)
      · refine lv_iinc (v := nI (1 + 16 + 8)) (lv' := [(1, .int (nI (1 + 16 + 8))), (0, .int (ushr y 16))]) hx hb dJ15_numberOfTrailingZeros_41 hl (k := 1) rfl (nI_add (1 + 16) 8) (by decide) rfl (fun ls hl => ?_)
        refine lv_iload_n hx hb dJ15_numberOfTrailingZeros_44 rfl (lv_at hl 1 rfl) ?_
        refine lv_bipush (v := nI 8) hx hb dJ15_numberOfTrailingZeros_45 (by decide) ?_
        refine lv_iushr (v := ushr (ushr y 16) 8) hx hb dJ15_numberOfTrailingZeros_47 (rfl) ?_
        refine lv_istore_n (lv' := [(0, .int (ushr (ushr y 16) 8)), (1, .int (nI (1 + 16 + 8)))]) hx hb dJ15_numberOfTrailingZeros_48 rfl hl (by decide) rfl (fun ls hl => ?_)
        refine lv_iload_n hx hb dJ15_numberOfTrailingZeros_49 rfl (lv_at hl 0 rfl) ?_
        refine lv_bipush (v := nI 16) hx hb dJ15_numberOfTrailingZeros_50 (by decide) ?_
        refine lv_icmp_le (tgt := 62) hx hb dJ15_numberOfTrailingZeros_52 (by decide) (fun c14 => ?_) (fun c14 => ?_)
        · refine lv_iload_n hx hb dJ15_numberOfTrailingZeros_62 rfl (lv_at hl 0 rfl) ?_
          refine lv_iconst (v := nI 4) hx hb dJ15_numberOfTrailingZeros_63 (by decide) ?_
          refine lv_icmp_le (tgt := 74) hx hb dJ15_numberOfTrailingZeros_64 (by decide) (fun c15 => ?_) (fun c15 => ?_)
          · refine lv_iload_n hx hb dJ15_numberOfTrailingZeros_74 rfl (lv_at hl 1 rfl) ?_
            refine lv_iload_n hx hb dJ15_numberOfTrailingZeros_75 rfl (lv_at hl 0 rfl) ?_
            refine lv_iconst (v := nI 1) hx hb dJ15_numberOfTrailingZeros_76 (by decide) ?_
            refine lv_iushr (v := ushr (ushr (ushr y 16) 8) 1) hx hb dJ15_numberOfTrailingZeros_77 (rfl) ?_
            refine lv_iadd hx hb dJ15_numberOfTrailingZeros_78 ?_
            exact hp_iret hx hb hr hlocks hH hS (by decide) (by decide) dJ15_numberOfTrailingZeros_79 (⟨by unfold ntzI; rw [← ey]; first | (simp [nz0, nz1, nz2, nz3, nz4, c1, c2, c10, c14, c15]; done) | (simp [nz0, nz1, nz2, nz3, nz4, c1, c2, c10, c14, c15]; decide), rfl⟩)
          · refine lv_iinc (v := nI (1 + 16 + 8 + 2)) (lv' := [(1, .int (nI (1 + 16 + 8 + 2))), (0, .int (ushr (ushr y 16) 8))]) hx hb dJ15_numberOfTrailingZeros_67 hl (k := 1) rfl (nI_add (1 + 16 + 8) 2) (by decide) rfl (fun ls hl => ?_)
            refine lv_iload_n hx hb dJ15_numberOfTrailingZeros_70 rfl (lv_at hl 1 rfl) ?_
            refine lv_iconst (v := nI 2) hx hb dJ15_numberOfTrailingZeros_71 (by decide) ?_
            refine lv_iushr (v := ushr (ushr (ushr y 16) 8) 2) hx hb dJ15_numberOfTrailingZeros_72 (rfl) ?_
            refine lv_istore_n (lv' := [(0, .int (ushr (ushr (ushr y 16) 8) 2)), (1, .int (nI (1 + 16 + 8 + 2)))]) hx hb dJ15_numberOfTrailingZeros_73 rfl hl (by decide) rfl (fun ls hl => ?_)
            refine lv_iload_n hx hb dJ15_numberOfTrailingZeros_74 rfl (lv_at hl 1 rfl) ?_
            refine lv_iload_n hx hb dJ15_numberOfTrailingZeros_75 rfl (lv_at hl 0 rfl) ?_
            refine lv_iconst (v := nI 1) hx hb dJ15_numberOfTrailingZeros_76 (by decide) ?_
            refine lv_iushr (v := ushr (ushr (ushr (ushr y 16) 8) 2) 1) hx hb dJ15_numberOfTrailingZeros_77 (rfl) ?_
            refine lv_iadd hx hb dJ15_numberOfTrailingZeros_78 ?_
            exact hp_iret hx hb hr hlocks hH hS (by decide) (by decide) dJ15_numberOfTrailingZeros_79 (⟨by unfold ntzI; rw [← ey]; first | (simp [nz0, nz1, nz2, nz3, nz4, c1, c2, c10, c14, c15]; done) | (simp [nz0, nz1, nz2, nz3, nz4, c1, c2, c10, c14, c15]; decide), rfl⟩)
        · refine lv_iinc (v := nI (1 + 16 + 8 + 4)) (lv' := [(1, .int (nI (1 + 16 + 8 + 4))), (0, .int (ushr (ushr y 16) 8))]) hx hb dJ15_numberOfTrailingZeros_55 hl (k := 1) rfl (nI_add (1 + 16 + 8) 4) (by decide) rfl (fun ls hl => ?_)
          refine lv_iload_n hx hb dJ15_numberOfTrailingZeros_58 rfl (lv_at hl 1 rfl) ?_
          refine lv_iconst (v := nI 4) hx hb dJ15_numberOfTrailingZeros_59 (by decide) ?_
          refine lv_iushr (v := ushr (ushr (ushr y 16) 8) 4) hx hb dJ15_numberOfTrailingZeros_60 (rfl) ?_
          refine lv_istore_n (lv' := [(0, .int (ushr (ushr (ushr y 16) 8) 4)), (1, .int (nI (1 + 16 + 8 + 4)))]) hx hb dJ15_numberOfTrailingZeros_61 rfl hl (by decide) rfl (fun ls hl => ?_)
          refine lv_iload_n hx hb dJ15_numberOfTrailingZeros_62 rfl (lv_at hl 0 rfl) ?_
          refine lv_iconst (v := nI 4) hx hb dJ15_numberOfTrailingZeros_63 (by decide) ?_
          refine lv_icmp_le (tgt := 74) hx hb dJ15_numberOfTrailingZeros_64 (by decide) (fun c16 => ?_) (fun c16 => ?_)
          · refine lv_iload_n hx hb dJ15_numberOfTrailingZeros_74 rfl (lv_at hl 1 rfl) ?_
            refine lv_iload_n hx hb dJ15_numberOfTrailingZeros_75 rfl (lv_at hl 0 rfl) ?_
            refine lv_iconst (v := nI 1) hx hb dJ15_numberOfTrailingZeros_76 (by decide) ?_
            refine lv_iushr (v := ushr (ushr (ushr (ushr y 16) 8) 4) 1) hx hb dJ15_numberOfTrailingZeros_77 (rfl) ?_
            refine lv_iadd hx hb dJ15_numberOfTrailingZeros_78 ?_
            exact hp_iret hx hb hr hlocks hH hS (by decide) (by decide) dJ15_numberOfTrailingZeros_79 (⟨by unfold ntzI; rw [← ey]; first | (simp [nz0, nz1, nz2, nz3, nz4, c1, c2, c10, c14, c16]; done) | (simp [nz0, nz1, nz2, nz3, nz4, c1, c2, c10, c14, c16]; decide), rfl⟩)
          · refine lv_iinc (v := nI (1 + 16 + 8 + 4 + 2)) (lv' := [(1, .int (nI (1 + 16 + 8 + 4 + 2))), (0, .int (ushr (ushr (ushr y 16) 8) 4))]) hx hb dJ15_numberOfTrailingZeros_67 hl (k := 1) rfl (nI_add (1 + 16 + 8 + 4) 2) (by decide) rfl (fun ls hl => ?_)
            refine lv_iload_n hx hb dJ15_numberOfTrailingZeros_70 rfl (lv_at hl 1 rfl) ?_
            refine lv_iconst (v := nI 2) hx hb dJ15_numberOfTrailingZeros_71 (by decide) ?_
            refine lv_iushr (v := ushr (ushr (ushr (ushr y 16) 8) 4) 2) hx hb dJ15_numberOfTrailingZeros_72 (rfl) ?_
            refine lv_istore_n (lv' := [(0, .int (ushr (ushr (ushr (ushr y 16) 8) 4) 2)), (1, .int (nI (1 + 16 + 8 + 4 + 2)))]) hx hb dJ15_numberOfTrailingZeros_73 rfl hl (by decide) rfl (fun ls hl => ?_)
            refine lv_iload_n hx hb dJ15_numberOfTrailingZeros_74 rfl (lv_at hl 1 rfl) ?_
            refine lv_iload_n hx hb dJ15_numberOfTrailingZeros_75 rfl (lv_at hl 0 rfl) ?_
            refine lv_iconst (v := nI 1) hx hb dJ15_numberOfTrailingZeros_76 (by decide) ?_
            refine lv_iushr (v := ushr (ushr (ushr (ushr (ushr y 16) 8) 4) 2) 1) hx hb dJ15_numberOfTrailingZeros_77 (rfl) ?_
            refine lv_iadd hx hb dJ15_numberOfTrailingZeros_78 ?_
            exact hp_iret hx hb hr hlocks hH hS (by decide) (by decide) dJ15_numberOfTrailingZeros_79 (⟨by unfold ntzI; rw [← ey]; first | (simp [nz0, nz1, nz2, nz3, nz4, c1, c2, c10, c14, c16]; done) | (simp [nz0, nz1, nz2, nz3, nz4, c1, c2, c10, c14, c16]; decide), rfl⟩)
  · refine lv_iload_n hx hb dJ15_numberOfTrailingZeros_12 rfl (lv_at hl 0 rfl) ?_
    refine lv_bipush (v := nI 32) hx hb dJ15_numberOfTrailingZeros_13 (by decide) ?_
    refine lv_iand hx hb dJ15_numberOfTrailingZeros_15 ?_
    exact hp_iret hx hb hr hlocks hH hS (by decide) (by decide) dJ15_numberOfTrailingZeros_16 (⟨by unfold ntzI; rw [← ey]; first | (simp [nz0, nz1, nz2, nz3, nz4, c1]; done) | (simp [nz0, nz1, nz2, nz3, nz4, c1]; decide), rfl⟩)
theorem mt_ntz (hK0 : va_K D CL (TYS K) s0) {x : Nat} (hx : x < 1024) (h0 : x ≠ 0) : Met l yJ15_numberOfTrailingZeros (ws_ yJ15_numberOfTrailingZeros cJ15_numberOfTrailingZeros 2 (some .int)) (rmk 0 0 0) (va_Pc [.int (nI x)] (PB s0 D CL h)) (QR s0 D CL (fun v h1 => v = some (.int (nI (ntzN x))) ∧ h1 = h)) 0 0 (zA s0) := by
  have := mt_ntzI (l := l) (h := h) hK0 (nI x)
  rw [ntzI_nI x hx h0] at this
  exact this
set_option maxHeartbeats 4000000 in
theorem mt_toRest (hK0 : va_K D CL (TYS K) s0) {S : Ab} (hO : SOK S) (hM : MOK S I V) (room what : Int32) : Met l yX2_toRest (ws_ yX2_toRest cX2_toRest 9 ((Option.some Jvm.ClassFile.FieldType.int))) (rmk 6 0 0) (va_Pc [.ref o, .int room, .int what] (PB s0 D CL (mset h K wd o I V J))) (QR s0 D CL (fun v h1 => v = some (.int (spToRest S room what)) ∧ ∃ P U, h1 = mset h K wd o P U J ∧ MOK S P U)) 0 0 (zA s0) := by
  refine hp_met (by decide) (Nat.le_of_ble_eq_true rfl) hK0 ?_
  intro p e s m below meth cd ls hx hb hr hlocks hml hown hnm hts hK hPB hl hS hH hA
  have hl : lv_has ls 9 [(0, .ref o), (1, .int room), (2, .int what)] := hl
  have hown : s.vm.findClass RX2 = some m.cls := hown
  have hn := hO.n
  have hmk := hO.mk
  have hrl := hO.rl
  have hrm := hO.rm
  have hsz := hO.sz
  have hp12 := pow12_le hrl
  have hp10 := pow2_le hn
  refine lv_aload_n hx hb dX2_toRest_0 rfl (lv_at hl 0 rfl) ?_
  refine lv_iload_n hx hb dX2_toRest_1 rfl (lv_at hl 1 rfl) ?_
  refine hp_callV (As := [.int room]) (rest := []) hx hb hml hown hts hPB hK hH hS (mt_isRoom hK0 hO hM room) mset_o rfl rfl 1 (lw_V q1788 q1790 qs72 q107 q1791) (by decide +kernel) ⟨rfl, rfl⟩ (by decide) rfl hl.1 rfl (Nat.le_of_ble_eq_true rfl) (by decide) dX2_toRest_2 (fun v1 h3 H locs hp2 _ hH hS => ?_)
  obtain ⟨rfl, rfl⟩ := hp2
  refine lvB_eq (tgt := 18) hx hb dX2_toRest_5 (by decide) (fun cr0 => ?_) (fun cr0 => ?_)
  · refine lv_iconst (v := (-1)) hx hb dX2_toRest_18 (by decide) ?_
    exact hp_iret hx hb hr hlocks hH hS (by decide) (by decide) dX2_toRest_19 (⟨congrArg some (congrArg Value.int (by simp [spToRest, cr0])), _, _, rfl, hM⟩)
  · obtain ⟨q, hq, rfl⟩ := inN_t cr0
    have eq := nI_clamp (show q < 2 ^ 31 by omega)
    refine lv_iload_n hx hb dX2_toRest_8 rfl (lv_at hl 2 rfl) ?_
    refine lv_i2l hx hb dX2_toRest_9 rfl ?_
    refine lv_lconst (v := 0) hx hb dX2_toRest_10 rfl ?_
    refine lv_lconst (v := 1) hx hb dX2_toRest_11 rfl ?_
    refine hp_callS (As := [.long (Int32.toInt64 what), .long 0, .long 1]) (rest := []) hx hb hml hown hts hPB hH hS (mt_in hK0 (Int32.toInt64 what) 0 1) 3 (lw_S q1658 q1659 q107 q1660) (by decide +kernel) ⟨rfl, rfl⟩ (by decide) rfl hl.1 rfl (Nat.le_of_ble_eq_true rfl) (by decide) dX2_toRest_12 (fun v4 h6 H locs hp5 _ hH hS => ?_)
    obtain ⟨rfl, rfl⟩ := hp5
    refine lvB_ne (tgt := 20) hx hb dX2_toRest_15 (by decide) (fun cw0 => ?_) (fun cw0 => ?_)
    · rw [in_k 1 rfl] at cw0
      refine lv_iconst (v := nI 0) hx hb dX2_toRest_20 (by decide) ?_
      refine lv_istore_n (lv' := [(3, .int (nI 0)), (0, .ref o), (1, .int (nI q)), (2, .int what)]) hx hb dX2_toRest_21 rfl hl (by decide) rfl (fun ls hl => ?_)
      refine lv_iconst (v := nI 0) hx hb dX2_toRest_22 (by decide) ?_
      refine lv_istore (lv' := [(4, .int (nI 0)), (3, .int (nI 0)), (0, .ref o), (1, .int (nI q)), (2, .int what)]) hx hb dX2_toRest_23 hl (by decide) rfl (fun ls hl => ?_)
      refine w_loop1 (fun (r : Nat) => aRl S - r) (fun (r : Nat) H locs ls => (r ≤ aRl S) ∧ HP D CL (zA s0) (mset h K wd o I V J) H ∧ va_S (zA s0) s.heap H locs ∧ lv_has ls 9 [(0, .ref o), (1, .int (nI q)), (2, .int what), (3, .int (nI (canB S (nI q) r))), (4, .int (nI r))]) ?_ 0 ⟨Nat.zero_le _, hH, hS, lv_sub hl [2, 3, 4, 1, 0] rfl⟩
      intro r ih25 H locs ls hP
      obtain ⟨hrr, hH, hS, hl⟩ := hP
      refine lv_iload hx hb dX2_toRest_25 (lv_at hl 4 rfl) ?_
      refine lv_aload_n hx hb dX2_toRest_27 rfl (lv_at hl 0 rfl) ?_
      refine m_get hx hb hts hown hK hH 17 (by decide) q1469 rfl (v := .ref (o + 31)) rfl dX2_toRest_28 ?_
      refine lv_iconst (v := nI 0) hx hb dX2_toRest_31 (by decide) ?_
      refine m_iald (n := 2) (j := 0) (v := nI (aRl S)) hx hb hK hH (by decide) rfl (by first | omega | (refine Nat.lt_of_lt_of_le (Nat.mod_lt _ ?_) ?_ <;> omega)) (by decide) (hM.rl) dX2_toRest_32 ?_
      refine lvN_ge (tgt := 75) hx hb (by first | omega | (refine Nat.lt_of_lt_of_le (Nat.mod_lt _ ?_) ?_ <;> omega)) (by first | omega | (refine Nat.lt_of_lt_of_le (Nat.mod_lt _ ?_) ?_ <;> omega)) dX2_toRest_33 (by decide) (fun c7 => ?_) (fun c7 => ?_)
      · have ern : r = aRl S := by omega
        rw [ern] at hl
        refine lv_iconst (v := (-1)) hx hb dX2_toRest_75 (by decide) ?_
        refine lv_istore (lv' := [(4, .int (-1)), (0, .ref o), (1, .int (nI q)), (2, .int what), (3, .int (nI (canB S (nI q) (aRl S))))]) hx hb dX2_toRest_76 hl (by decide) rfl (fun ls hl => ?_)
        refine lv_iconst (v := nI 0) hx hb dX2_toRest_78 (by decide) ?_
        refine lv_istore (lv' := [(5, .int (nI 0)), (4, .int (-1)), (0, .ref o), (1, .int (nI q)), (2, .int what), (3, .int (nI (canB S (nI q) (aRl S))))]) hx hb dX2_toRest_79 hl (by decide) rfl (fun ls hl => ?_)
        refine lv_iconst (v := nI 0) hx hb dX2_toRest_81 (by decide) ?_
        refine lv_istore (lv' := [(6, .int (nI 0)), (5, .int (nI 0)), (4, .int (-1)), (0, .ref o), (1, .int (nI q)), (2, .int what), (3, .int (nI (canB S (nI q) (aRl S))))]) hx hb dX2_toRest_82 hl (by decide) rfl (fun ls hl => ?_)
        refine w_loop2 (fun (b : Nat) (U : Nat → Nat → Int32) => 2 ^ aRl S - b) (fun (b : Nat) (U : Nat → Nat → Int32) H locs ls => (b ≤ 2 ^ aRl S) ∧ (MOK S I U) ∧ HP D CL (zA s0) (mset h K wd o I U J) H ∧ va_S (zA s0) s.heap H locs ∧ lv_has ls 9 [(0, .ref o), (1, .int (nI q)), (2, .int what), (3, .int (nI (canB S (nI q) (aRl S)))), (4, .int (oI (trF S (nI q) b))), (5, .int (nI (trW S (trF S (nI q) b)))), (6, .int (nI b))]) ?_ 0 V ⟨Nat.zero_le _, hM, hH, hS, lv_sub hl [3, 4, 5, 6, 2, 1, 0] rfl⟩
        intro b U ih84 H locs ls hP
        obtain ⟨hbb, hM, hH, hS, hl⟩ := hP
        have htw := trW_le hO (trF S (nI q) b)
        refine lv_iload hx hb dX2_toRest_84 (lv_at hl 6 rfl) ?_
        refine lv_iconst (v := nI 1) hx hb dX2_toRest_86 (by decide) ?_
        refine lv_aload_n hx hb dX2_toRest_87 rfl (lv_at hl 0 rfl) ?_
        refine m_get hx hb hts hown hK hH 17 (by decide) q1469 rfl (v := .ref (o + 31)) rfl dX2_toRest_88 ?_
        refine lv_iconst (v := nI 0) hx hb dX2_toRest_91 (by decide) ?_
        refine m_iald (n := 2) (j := 0) (v := nI (aRl S)) hx hb hK hH (by decide) rfl (by first | omega | (refine Nat.lt_of_lt_of_le (Nat.mod_lt _ ?_) ?_ <;> omega)) (by decide) (hM.rl) dX2_toRest_92 ?_
        refine lv_ishl hx hb dX2_toRest_93 ?_
        refine lv_top (y := nI (2 ^ (aRl S))) (bi_shl1 (by first | omega | (refine Nat.lt_of_lt_of_le (Nat.mod_lt _ ?_) ?_ <;> omega))) ?_
        refine lvN_ge (tgt := 225) hx hb (by first | omega | (refine Nat.lt_of_lt_of_le (Nat.mod_lt _ ?_) ?_ <;> omega)) (by first | omega | (refine Nat.lt_of_lt_of_le (Nat.mod_lt _ ?_) ?_ <;> omega)) dX2_toRest_94 (by decide) (fun c8 => ?_) (fun c8 => ?_)
        · have ebn : b = 2 ^ aRl S := by omega
          rw [ebn] at hl
          refine lv_iload_n hx hb dX2_toRest_225 rfl (lv_at hl 2 rfl) ?_
          refine lv_if_ne (tgt := 234) hx hb dX2_toRest_226 (by decide) (fun cz => ?_) (fun cz => ?_)
          · have cz : ¬ what = nI 0 := cz
            refine lv_iload hx hb dX2_toRest_234 (lv_at hl 5 rfl) ?_
            exact hp_iret hx hb hr hlocks hH hS (by decide) (by decide) dX2_toRest_236 (⟨congrArg some (congrArg Value.int (by simp [spToRest, cr0, cw0, cz])), _, _, rfl, hM⟩)
          · have cz : what = nI 0 := cz
            refine lv_iload hx hb dX2_toRest_229 (lv_at hl 4 rfl) ?_
            refine lv_goto (tgt := 236) hx hb dX2_toRest_231 (by decide) ?_
            exact hp_iret hx hb hr hlocks hH hS (by decide) (by decide) dX2_toRest_236 (⟨congrArg some (congrArg Value.int (by subst cz; simp [spToRest, cr0, cw0])), _, _, rfl, hM⟩)
        · refine lv_iload hx hb dX2_toRest_97 (lv_at hl 6 rfl) ?_
          refine lv_iload_n hx hb dX2_toRest_99 rfl (lv_at hl 3 rfl) ?_
          refine lv_iconst (v := (-1)) hx hb dX2_toRest_100 (by decide) ?_
          refine lv_ixor hx hb dX2_toRest_101 ?_
          refine lv_iand hx hb dX2_toRest_102 ?_
          refine lv_top (y := nI (b ^^^ (b &&& canB S (nI q) (aRl S)))) (bi_andn _ _) ?_
          have hxo : b ^^^ (b &&& canB S (nI q) (aRl S)) ≤ b := andn_le
          refine lvZ_eq (tgt := 109) hx hb (by first | omega | (refine Nat.lt_of_lt_of_le (Nat.mod_lt _ ?_) ?_ <;> omega)) dX2_toRest_103 (by decide) (fun co => ?_) (fun co => ?_)
          · refine lv_iconst (v := nI 0) hx hb dX2_toRest_109 (by decide) ?_
            refine lv_istore (lv' := [(7, .int (nI 0)), (0, .ref o), (1, .int (nI q)), (2, .int what), (3, .int (nI (canB S (nI q) (aRl S)))), (4, .int (oI (trF S (nI q) b))), (5, .int (nI (trW S (trF S (nI q) b)))), (6, .int (nI b))]) hx hb dX2_toRest_110 hl (by decide) rfl (fun ls hl => ?_)
            refine lv_iconst (v := nI 0) hx hb dX2_toRest_112 (by decide) ?_
            refine lv_istore (lv' := [(8, .int (nI 0)), (7, .int (nI 0)), (0, .ref o), (1, .int (nI q)), (2, .int what), (3, .int (nI (canB S (nI q) (aRl S)))), (4, .int (oI (trF S (nI q) b))), (5, .int (nI (trW S (trF S (nI q) b)))), (6, .int (nI b))]) hx hb dX2_toRest_113 hl (by decide) rfl (fun ls hl => ?_)
            refine w_loop1 (fun (r : Nat) => aRl S - r) (fun (r : Nat) H locs ls => (r ≤ aRl S) ∧ HP D CL (zA s0) (mset h K wd o I U J) H ∧ va_S (zA s0) s.heap H locs ∧ lv_has ls 9 [(0, .ref o), (1, .int (nI q)), (2, .int what), (3, .int (nI (canB S (nI q) (aRl S)))), (4, .int (oI (trF S (nI q) b))), (5, .int (nI (trW S (trF S (nI q) b)))), (6, .int (nI b)), (7, .int (nI (wtF S b r))), (8, .int (nI r))]) ?_ 0 ⟨Nat.zero_le _, hH, hS, lv_sub hl [2, 3, 4, 5, 6, 7, 8, 1, 0] rfl⟩
            intro r ih115 H locs ls hP
            obtain ⟨hrr, hH, hS, hl⟩ := hP
            have hwf := wtF_le hO b r hrr
            refine lv_iload hx hb dX2_toRest_115 (lv_at hl 8 rfl) ?_
            refine lv_aload_n hx hb dX2_toRest_117 rfl (lv_at hl 0 rfl) ?_
            refine m_get hx hb hts hown hK hH 17 (by decide) q1469 rfl (v := .ref (o + 31)) rfl dX2_toRest_118 ?_
            refine lv_iconst (v := nI 0) hx hb dX2_toRest_121 (by decide) ?_
            refine m_iald (n := 2) (j := 0) (v := nI (aRl S)) hx hb hK hH (by decide) rfl (by first | omega | (refine Nat.lt_of_lt_of_le (Nat.mod_lt _ ?_) ?_ <;> omega)) (by decide) (hM.rl) dX2_toRest_122 ?_
            refine lvN_ge (tgt := 154) hx hb (by first | omega | (refine Nat.lt_of_lt_of_le (Nat.mod_lt _ ?_) ?_ <;> omega)) (by first | omega | (refine Nat.lt_of_lt_of_le (Nat.mod_lt _ ?_) ?_ <;> omega)) dX2_toRest_123 (by decide) (fun c9 => ?_) (fun c9 => ?_)
            · have ern2 : r = aRl S := by omega
              rw [ern2] at hl hwf
              refine lv_iload hx hb dX2_toRest_154 (lv_at hl 4 rfl) ?_
              refine lv_iconst (v := (-1)) hx hb dX2_toRest_156 (by decide) ?_
              refine lv_icmp_eq (tgt := 190) hx hb dX2_toRest_157 (by decide) (fun cm => ?_) (fun cm => ?_)
              · have etr := (oI_none (fun d hd => by have := trF_lt _ _ _ _ hd; omega)).mp cm
                refine lv_aload_n hx hb dX2_toRest_190 rfl (lv_at hl 0 rfl) ?_
                refine lv_iload_n hx hb dX2_toRest_191 rfl (lv_at hl 1 rfl) ?_
                refine lv_iload hx hb dX2_toRest_192 (lv_at hl 6 rfl) ?_
                refine hp_callV (As := [.int (nI q), .int (nI b)]) (rest := []) hx hb hml hown hts hPB hK hH hS (mt_ranks hK0 hO hM (wo := b) (by omega) (nI q)) mset_o rfl rfl 2 (lw_V q1861 q1863 qs81 q107 q1864) (by decide +kernel) ⟨rfl, rfl⟩ (by decide) rfl hl.1 rfl (Nat.le_of_ble_eq_true rfl) (by decide) dX2_toRest_194 (fun v10 h12 H locs hp11 _ hH hS => ?_)
                obtain ⟨rfl, U, rfl, hM, hrk, hkR⟩ := hp11
                obtain ⟨A, hAe⟩ : ∃ A, A = abv S (nI q) b := ⟨_, rfl⟩
                have hab : ∀ x y, x < aN S → y < aN S → U 44 (10 * x + y) = zI (A x y) := fun x y h1 h2 => by rw [hAe]; exact hrk.1 x y h1 h2
                have hpw := pow2_le hn
                refine lv_aload_n hx hb dX2_toRest_197 rfl (lv_at hl 0 rfl) ?_
                refine lv_aload_n hx hb dX2_toRest_198 rfl (lv_at hl 0 rfl) ?_
                refine hp_callV (As := []) (rest := [.ref o]) hx hb hml hown hts hPB hK hH hS (mt_all hK0 hO hM) mset_o rfl rfl 0 (lw_V q1865 q1867 qs82 q107 q1868) (by decide +kernel) ⟨rfl, rfl⟩ (by decide) rfl hl.1 rfl (Nat.le_of_ble_eq_true rfl) (by decide) dX2_toRest_199 (fun v13 h15 H locs hp14 _ hH hS => ?_)
                obtain ⟨rfl, rfl⟩ := hp14
                refine hp_callV (As := [.int (nI (2 ^ aN S - 1))]) (rest := []) hx hb hml hown hts hPB hK hH hS (mt_hasRing hK0 hO hM (hp := 2 ^ aN S - 1) (by omega) A hab) mset_o rfl rfl 1 (lw_V q1886 q1888 qs85 q107 q1889) (by decide +kernel) ⟨rfl, rfl⟩ (by decide) rfl hl.1 rfl (Nat.le_of_ble_eq_true rfl) (by decide) dX2_toRest_202 (fun v16 h18 H locs hp17 _ hH hS => ?_)
                obtain ⟨rfl, U3, rfl, hM, hkH⟩ := hp17
                refine lvB_eq (tgt := 211) hx hb dX2_toRest_205 (by decide) (fun crg => ?_) (fun crg => ?_)
                · have hyes : trF S (nI q) (b + 1) = some b := trF_yes (by rw [(onlyA_iff (by omega)).mp co, show trSkip S (trF S (nI q) b) b = false from by rw [etr]; rfl, ← hAe, crg]; rfl)
                  refine lv_iload hx hb dX2_toRest_211 (lv_at hl 6 rfl) ?_
                  refine lv_top (y := oI (trF S (nI q) (b + 1))) (by rw [hyes]; rfl) ?_
                  refine lv_istore (lv' := [(4, .int (oI (trF S (nI q) (b + 1)))), (0, .ref o), (1, .int (nI q)), (2, .int what), (3, .int (nI (canB S (nI q) (aRl S)))), (5, .int (nI (trW S (trF S (nI q) b)))), (6, .int (nI b)), (7, .int (nI (wtF S b (aRl S)))), (8, .int (nI (aRl S)))]) hx hb dX2_toRest_213 hl (by decide) rfl (fun ls hl => ?_)
                  refine lv_iload hx hb dX2_toRest_215 (lv_at hl 7 rfl) ?_
                  refine lv_top (y := nI (trW S (trF S (nI q) (b + 1)))) (by rw [hyes]; rfl) ?_
                  refine lv_istore (lv' := [(5, .int (nI (trW S (trF S (nI q) (b + 1))))), (4, .int (oI (trF S (nI q) (b + 1)))), (0, .ref o), (1, .int (nI q)), (2, .int what), (3, .int (nI (canB S (nI q) (aRl S)))), (6, .int (nI b)), (7, .int (nI (wtF S b (aRl S)))), (8, .int (nI (aRl S)))]) hx hb dX2_toRest_217 hl (by decide) rfl (fun ls hl => ?_)
                  refine lv_iinc (v := nI (b + 1)) (lv' := [(6, .int (nI (b + 1))), (5, .int (nI (trW S (trF S (nI q) (b + 1))))), (4, .int (oI (trF S (nI q) (b + 1)))), (0, .ref o), (1, .int (nI q)), (2, .int what), (3, .int (nI (canB S (nI q) (aRl S)))), (7, .int (nI (wtF S b (aRl S)))), (8, .int (nI (aRl S)))]) hx hb dX2_toRest_219 hl (k := 6) rfl (nI_add b 1) (by decide) rfl (fun ls hl => ?_)
                  refine lv_goto (tgt := 84) hx hb dX2_toRest_222 (by decide) ?_
                  exact ih84 (b + 1) U3 (by omega) H locs ls ⟨by omega, hM, hH, hS, lv_sub hl [3, 4, 5, 6, 2, 1, 0] rfl⟩
                · refine lv_goto (tgt := 219) hx hb dX2_toRest_208 (by decide) ?_
                  rw [show trF S (nI q) b = trF S (nI q) (b + 1) from trF_no (by rw [← hAe, crg]; simp)] at hl
                  refine lv_iinc (v := nI (b + 1)) (lv' := [(6, .int (nI (b + 1))), (0, .ref o), (1, .int (nI q)), (2, .int what), (3, .int (nI (canB S (nI q) (aRl S)))), (4, .int (oI (trF S (nI q) (b + 1)))), (5, .int (nI (trW S (trF S (nI q) (b + 1))))), (7, .int (nI (wtF S b (aRl S)))), (8, .int (nI (aRl S)))]) hx hb dX2_toRest_219 hl (k := 6) rfl (nI_add b 1) (by decide) rfl (fun ls hl => ?_)
                  refine lv_goto (tgt := 84) hx hb dX2_toRest_222 (by decide) ?_
                  exact ih84 (b + 1) U3 (by omega) H locs ls ⟨by omega, hM, hH, hS, lv_sub hl [1, 2, 3, 4, 5, 6, 0] rfl⟩
              · obtain ⟨pp, etr⟩ := far_is cm
                have hpb := trF_lt _ _ _ _ etr
                refine lv_iload hx hb dX2_toRest_160 (lv_at hl 7 rfl) ?_
                refine lv_iload hx hb dX2_toRest_162 (lv_at hl 5 rfl) ?_
                refine lvN_gt (tgt := 219) hx hb (by first | omega | (refine Nat.lt_of_lt_of_le (Nat.mod_lt _ ?_) ?_ <;> omega)) (by first | omega | (refine Nat.lt_of_lt_of_le (Nat.mod_lt _ ?_) ?_ <;> omega)) dX2_toRest_164 (by decide) (fun cg => ?_) (fun cg => ?_)
                · rw [show trF S (nI q) b = trF S (nI q) (b + 1) from trF_no (by rw [etr]; simp [trSkip, show wtF S pp (aRl S) < wtF S b (aRl S) by rw [etr] at cg; exact cg])] at hl
                  refine lv_iinc (v := nI (b + 1)) (lv' := [(6, .int (nI (b + 1))), (0, .ref o), (1, .int (nI q)), (2, .int what), (3, .int (nI (canB S (nI q) (aRl S)))), (4, .int (oI (trF S (nI q) (b + 1)))), (5, .int (nI (trW S (trF S (nI q) (b + 1))))), (7, .int (nI (wtF S b (aRl S)))), (8, .int (nI (aRl S)))]) hx hb dX2_toRest_219 hl (k := 6) rfl (nI_add b 1) (by decide) rfl (fun ls hl => ?_)
                  refine lv_goto (tgt := 84) hx hb dX2_toRest_222 (by decide) ?_
                  exact ih84 (b + 1) U (by omega) H locs ls ⟨by omega, hM, hH, hS, lv_sub hl [1, 2, 3, 4, 5, 6, 0] rfl⟩
                · refine lv_iload hx hb dX2_toRest_167 (lv_at hl 7 rfl) ?_
                  refine lv_iload hx hb dX2_toRest_169 (lv_at hl 5 rfl) ?_
                  refine lvN_ne (tgt := 190) hx hb (by first | omega | (refine Nat.lt_of_lt_of_le (Nat.mod_lt _ ?_) ?_ <;> omega)) (by first | omega | (refine Nat.lt_of_lt_of_le (Nat.mod_lt _ ?_) ?_ <;> omega)) dX2_toRest_171 (by decide) (fun ce => ?_) (fun ce => ?_)
                  · refine lv_aload_n hx hb dX2_toRest_190 rfl (lv_at hl 0 rfl) ?_
                    refine lv_iload_n hx hb dX2_toRest_191 rfl (lv_at hl 1 rfl) ?_
                    refine lv_iload hx hb dX2_toRest_192 (lv_at hl 6 rfl) ?_
                    refine hp_callV (As := [.int (nI q), .int (nI b)]) (rest := []) hx hb hml hown hts hPB hK hH hS (mt_ranks hK0 hO hM (wo := b) (by omega) (nI q)) mset_o rfl rfl 2 (lw_V q1861 q1863 qs81 q107 q1864) (by decide +kernel) ⟨rfl, rfl⟩ (by decide) rfl hl.1 rfl (Nat.le_of_ble_eq_true rfl) (by decide) dX2_toRest_194 (fun v19 h21 H locs hp20 _ hH hS => ?_)
                    obtain ⟨rfl, U, rfl, hM, hrk, hkR⟩ := hp20
                    obtain ⟨A, hAe⟩ : ∃ A, A = abv S (nI q) b := ⟨_, rfl⟩
                    have hab : ∀ x y, x < aN S → y < aN S → U 44 (10 * x + y) = zI (A x y) := fun x y h1 h2 => by rw [hAe]; exact hrk.1 x y h1 h2
                    have hpw := pow2_le hn
                    refine lv_aload_n hx hb dX2_toRest_197 rfl (lv_at hl 0 rfl) ?_
                    refine lv_aload_n hx hb dX2_toRest_198 rfl (lv_at hl 0 rfl) ?_
                    refine hp_callV (As := []) (rest := [.ref o]) hx hb hml hown hts hPB hK hH hS (mt_all hK0 hO hM) mset_o rfl rfl 0 (lw_V q1865 q1867 qs82 q107 q1868) (by decide +kernel) ⟨rfl, rfl⟩ (by decide) rfl hl.1 rfl (Nat.le_of_ble_eq_true rfl) (by decide) dX2_toRest_199 (fun v22 h24 H locs hp23 _ hH hS => ?_)
                    obtain ⟨rfl, rfl⟩ := hp23
                    refine hp_callV (As := [.int (nI (2 ^ aN S - 1))]) (rest := []) hx hb hml hown hts hPB hK hH hS (mt_hasRing hK0 hO hM (hp := 2 ^ aN S - 1) (by omega) A hab) mset_o rfl rfl 1 (lw_V q1886 q1888 qs85 q107 q1889) (by decide +kernel) ⟨rfl, rfl⟩ (by decide) rfl hl.1 rfl (Nat.le_of_ble_eq_true rfl) (by decide) dX2_toRest_202 (fun v25 h27 H locs hp26 _ hH hS => ?_)
                    obtain ⟨rfl, U3, rfl, hM, hkH⟩ := hp26
                    refine lvB_eq (tgt := 211) hx hb dX2_toRest_205 (by decide) (fun crg => ?_) (fun crg => ?_)
                    · have hyes : trF S (nI q) (b + 1) = some b := trF_yes (by rw [(onlyA_iff (by omega)).mp co, show trSkip S (trF S (nI q) b) b = false from by rw [etr] at cg ce ⊢; simp only [trSkip, trW] at cg ce ⊢; simp [show ¬ wtF S pp (aRl S) < wtF S b (aRl S) by omega, show ¬ wtF S b (aRl S) = wtF S pp (aRl S) from ce], ← hAe, crg]; rfl)
                      refine lv_iload hx hb dX2_toRest_211 (lv_at hl 6 rfl) ?_
                      refine lv_top (y := oI (trF S (nI q) (b + 1))) (by rw [hyes]; rfl) ?_
                      refine lv_istore (lv' := [(4, .int (oI (trF S (nI q) (b + 1)))), (0, .ref o), (1, .int (nI q)), (2, .int what), (3, .int (nI (canB S (nI q) (aRl S)))), (5, .int (nI (trW S (trF S (nI q) b)))), (6, .int (nI b)), (7, .int (nI (wtF S b (aRl S)))), (8, .int (nI (aRl S)))]) hx hb dX2_toRest_213 hl (by decide) rfl (fun ls hl => ?_)
                      refine lv_iload hx hb dX2_toRest_215 (lv_at hl 7 rfl) ?_
                      refine lv_top (y := nI (trW S (trF S (nI q) (b + 1)))) (by rw [hyes]; rfl) ?_
                      refine lv_istore (lv' := [(5, .int (nI (trW S (trF S (nI q) (b + 1))))), (4, .int (oI (trF S (nI q) (b + 1)))), (0, .ref o), (1, .int (nI q)), (2, .int what), (3, .int (nI (canB S (nI q) (aRl S)))), (6, .int (nI b)), (7, .int (nI (wtF S b (aRl S)))), (8, .int (nI (aRl S)))]) hx hb dX2_toRest_217 hl (by decide) rfl (fun ls hl => ?_)
                      refine lv_iinc (v := nI (b + 1)) (lv' := [(6, .int (nI (b + 1))), (5, .int (nI (trW S (trF S (nI q) (b + 1))))), (4, .int (oI (trF S (nI q) (b + 1)))), (0, .ref o), (1, .int (nI q)), (2, .int what), (3, .int (nI (canB S (nI q) (aRl S)))), (7, .int (nI (wtF S b (aRl S)))), (8, .int (nI (aRl S)))]) hx hb dX2_toRest_219 hl (k := 6) rfl (nI_add b 1) (by decide) rfl (fun ls hl => ?_)
                      refine lv_goto (tgt := 84) hx hb dX2_toRest_222 (by decide) ?_
                      exact ih84 (b + 1) U3 (by omega) H locs ls ⟨by omega, hM, hH, hS, lv_sub hl [3, 4, 5, 6, 2, 1, 0] rfl⟩
                    · refine lv_goto (tgt := 219) hx hb dX2_toRest_208 (by decide) ?_
                      rw [show trF S (nI q) b = trF S (nI q) (b + 1) from trF_no (by rw [← hAe, crg]; simp)] at hl
                      refine lv_iinc (v := nI (b + 1)) (lv' := [(6, .int (nI (b + 1))), (0, .ref o), (1, .int (nI q)), (2, .int what), (3, .int (nI (canB S (nI q) (aRl S)))), (4, .int (oI (trF S (nI q) (b + 1)))), (5, .int (nI (trW S (trF S (nI q) (b + 1))))), (7, .int (nI (wtF S b (aRl S)))), (8, .int (nI (aRl S)))]) hx hb dX2_toRest_219 hl (k := 6) rfl (nI_add b 1) (by decide) rfl (fun ls hl => ?_)
                      refine lv_goto (tgt := 84) hx hb dX2_toRest_222 (by decide) ?_
                      exact ih84 (b + 1) U3 (by omega) H locs ls ⟨by omega, hM, hH, hS, lv_sub hl [1, 2, 3, 4, 5, 6, 0] rfl⟩
                  · refine lv_iload hx hb dX2_toRest_174 (lv_at hl 6 rfl) ?_
                    refine hp_callS (As := [.int (nI b)]) (rest := []) hx hb hml hown hts hPB hH hS (mt_bitCount hK0 (x := b) (by omega)) 1 (lw_S q1885 q1128 q138 q1129) (by decide +kernel) ⟨rfl, rfl⟩ (by decide) rfl hl.1 rfl (Nat.le_of_ble_eq_true rfl) (by decide) dX2_toRest_176 (fun v28 h30 H locs hp29 _ hH hS => ?_)
                    obtain ⟨rfl, rfl⟩ := hp29
                    refine lv_iload hx hb dX2_toRest_179 (lv_at hl 4 rfl) ?_
                    refine lv_top (y := nI pp) (by rw [etr]; rfl) ?_
                    refine hp_callS (As := [.int (nI pp)]) (rest := [.int (nI (popN b))]) hx hb hml hown hts hPB hH hS (mt_bitCount hK0 (x := pp) (by omega)) 1 (lw_S q1885 q1128 q138 q1129) (by decide +kernel) ⟨rfl, rfl⟩ (by decide) rfl hl.1 rfl (Nat.le_of_ble_eq_true rfl) (by decide) dX2_toRest_181 (fun v31 h33 H locs hp32 _ hH hS => ?_)
                    obtain ⟨rfl, rfl⟩ := hp32
                    have hpo1 := popN_le b
                    have hpo2 := popN_le pp
                    refine lvN_lt (tgt := 190) hx hb (by first | omega | (refine Nat.lt_of_lt_of_le (Nat.mod_lt _ ?_) ?_ <;> omega)) (by first | omega | (refine Nat.lt_of_lt_of_le (Nat.mod_lt _ ?_) ?_ <;> omega)) dX2_toRest_184 (by decide) (fun cp => ?_) (fun cp => ?_)
                    · refine lv_aload_n hx hb dX2_toRest_190 rfl (lv_at hl 0 rfl) ?_
                      refine lv_iload_n hx hb dX2_toRest_191 rfl (lv_at hl 1 rfl) ?_
                      refine lv_iload hx hb dX2_toRest_192 (lv_at hl 6 rfl) ?_
                      refine hp_callV (As := [.int (nI q), .int (nI b)]) (rest := []) hx hb hml hown hts hPB hK hH hS (mt_ranks hK0 hO hM (wo := b) (by omega) (nI q)) mset_o rfl rfl 2 (lw_V q1861 q1863 qs81 q107 q1864) (by decide +kernel) ⟨rfl, rfl⟩ (by decide) rfl hl.1 rfl (Nat.le_of_ble_eq_true rfl) (by decide) dX2_toRest_194 (fun v34 h36 H locs hp35 _ hH hS => ?_)
                      obtain ⟨rfl, U, rfl, hM, hrk, hkR⟩ := hp35
                      obtain ⟨A, hAe⟩ : ∃ A, A = abv S (nI q) b := ⟨_, rfl⟩
                      have hab : ∀ x y, x < aN S → y < aN S → U 44 (10 * x + y) = zI (A x y) := fun x y h1 h2 => by rw [hAe]; exact hrk.1 x y h1 h2
                      have hpw := pow2_le hn
                      refine lv_aload_n hx hb dX2_toRest_197 rfl (lv_at hl 0 rfl) ?_
                      refine lv_aload_n hx hb dX2_toRest_198 rfl (lv_at hl 0 rfl) ?_
                      refine hp_callV (As := []) (rest := [.ref o]) hx hb hml hown hts hPB hK hH hS (mt_all hK0 hO hM) mset_o rfl rfl 0 (lw_V q1865 q1867 qs82 q107 q1868) (by decide +kernel) ⟨rfl, rfl⟩ (by decide) rfl hl.1 rfl (Nat.le_of_ble_eq_true rfl) (by decide) dX2_toRest_199 (fun v37 h39 H locs hp38 _ hH hS => ?_)
                      obtain ⟨rfl, rfl⟩ := hp38
                      refine hp_callV (As := [.int (nI (2 ^ aN S - 1))]) (rest := []) hx hb hml hown hts hPB hK hH hS (mt_hasRing hK0 hO hM (hp := 2 ^ aN S - 1) (by omega) A hab) mset_o rfl rfl 1 (lw_V q1886 q1888 qs85 q107 q1889) (by decide +kernel) ⟨rfl, rfl⟩ (by decide) rfl hl.1 rfl (Nat.le_of_ble_eq_true rfl) (by decide) dX2_toRest_202 (fun v40 h42 H locs hp41 _ hH hS => ?_)
                      obtain ⟨rfl, U3, rfl, hM, hkH⟩ := hp41
                      refine lvB_eq (tgt := 211) hx hb dX2_toRest_205 (by decide) (fun crg => ?_) (fun crg => ?_)
                      · have hyes : trF S (nI q) (b + 1) = some b := trF_yes (by rw [(onlyA_iff (by omega)).mp co, show trSkip S (trF S (nI q) b) b = false from by rw [etr] at cg ce ⊢; simp only [trSkip, trW] at cg ce ⊢; simp [show ¬ wtF S pp (aRl S) < wtF S b (aRl S) by omega, show ¬ popN pp ≤ popN b by omega], ← hAe, crg]; rfl)
                        refine lv_iload hx hb dX2_toRest_211 (lv_at hl 6 rfl) ?_
                        refine lv_top (y := oI (trF S (nI q) (b + 1))) (by rw [hyes]; rfl) ?_
                        refine lv_istore (lv' := [(4, .int (oI (trF S (nI q) (b + 1)))), (0, .ref o), (1, .int (nI q)), (2, .int what), (3, .int (nI (canB S (nI q) (aRl S)))), (5, .int (nI (trW S (trF S (nI q) b)))), (6, .int (nI b)), (7, .int (nI (wtF S b (aRl S)))), (8, .int (nI (aRl S)))]) hx hb dX2_toRest_213 hl (by decide) rfl (fun ls hl => ?_)
                        refine lv_iload hx hb dX2_toRest_215 (lv_at hl 7 rfl) ?_
                        refine lv_top (y := nI (trW S (trF S (nI q) (b + 1)))) (by rw [hyes]; rfl) ?_
                        refine lv_istore (lv' := [(5, .int (nI (trW S (trF S (nI q) (b + 1))))), (4, .int (oI (trF S (nI q) (b + 1)))), (0, .ref o), (1, .int (nI q)), (2, .int what), (3, .int (nI (canB S (nI q) (aRl S)))), (6, .int (nI b)), (7, .int (nI (wtF S b (aRl S)))), (8, .int (nI (aRl S)))]) hx hb dX2_toRest_217 hl (by decide) rfl (fun ls hl => ?_)
                        refine lv_iinc (v := nI (b + 1)) (lv' := [(6, .int (nI (b + 1))), (5, .int (nI (trW S (trF S (nI q) (b + 1))))), (4, .int (oI (trF S (nI q) (b + 1)))), (0, .ref o), (1, .int (nI q)), (2, .int what), (3, .int (nI (canB S (nI q) (aRl S)))), (7, .int (nI (wtF S b (aRl S)))), (8, .int (nI (aRl S)))]) hx hb dX2_toRest_219 hl (k := 6) rfl (nI_add b 1) (by decide) rfl (fun ls hl => ?_)
                        refine lv_goto (tgt := 84) hx hb dX2_toRest_222 (by decide) ?_
                        exact ih84 (b + 1) U3 (by omega) H locs ls ⟨by omega, hM, hH, hS, lv_sub hl [3, 4, 5, 6, 2, 1, 0] rfl⟩
                      · refine lv_goto (tgt := 219) hx hb dX2_toRest_208 (by decide) ?_
                        rw [show trF S (nI q) b = trF S (nI q) (b + 1) from trF_no (by rw [← hAe, crg]; simp)] at hl
                        refine lv_iinc (v := nI (b + 1)) (lv' := [(6, .int (nI (b + 1))), (0, .ref o), (1, .int (nI q)), (2, .int what), (3, .int (nI (canB S (nI q) (aRl S)))), (4, .int (oI (trF S (nI q) (b + 1)))), (5, .int (nI (trW S (trF S (nI q) (b + 1))))), (7, .int (nI (wtF S b (aRl S)))), (8, .int (nI (aRl S)))]) hx hb dX2_toRest_219 hl (k := 6) rfl (nI_add b 1) (by decide) rfl (fun ls hl => ?_)
                        refine lv_goto (tgt := 84) hx hb dX2_toRest_222 (by decide) ?_
                        exact ih84 (b + 1) U3 (by omega) H locs ls ⟨by omega, hM, hH, hS, lv_sub hl [1, 2, 3, 4, 5, 6, 0] rfl⟩
                    · refine lv_goto (tgt := 219) hx hb dX2_toRest_187 (by decide) ?_
                      rw [show trF S (nI q) b = trF S (nI q) (b + 1) from trF_no (by rw [etr]; simp [trSkip, show wtF S b (aRl S) = wtF S pp (aRl S) by rw [etr] at ce; exact ce, show popN pp ≤ popN b by omega])] at hl
                      refine lv_iinc (v := nI (b + 1)) (lv' := [(6, .int (nI (b + 1))), (0, .ref o), (1, .int (nI q)), (2, .int what), (3, .int (nI (canB S (nI q) (aRl S)))), (4, .int (oI (trF S (nI q) (b + 1)))), (5, .int (nI (trW S (trF S (nI q) (b + 1))))), (7, .int (nI (wtF S b (aRl S)))), (8, .int (nI (aRl S)))]) hx hb dX2_toRest_219 hl (k := 6) rfl (nI_add b 1) (by decide) rfl (fun ls hl => ?_)
                      refine lv_goto (tgt := 84) hx hb dX2_toRest_222 (by decide) ?_
                      exact ih84 (b + 1) U (by omega) H locs ls ⟨by omega, hM, hH, hS, lv_sub hl [1, 2, 3, 4, 5, 6, 0] rfl⟩
            · have hwr := hO.wt (r := r) (by omega)
              refine lv_iload hx hb dX2_toRest_126 (lv_at hl 7 rfl) ?_
              refine lv_iload hx hb dX2_toRest_128 (lv_at hl 6 rfl) ?_
              refine lv_iload hx hb dX2_toRest_130 (lv_at hl 8 rfl) ?_
              refine lv_ishr hx hb dX2_toRest_132 ?_
              refine lv_top (y := nI (b / 2 ^ r)) (bi_shr (by first | omega | (refine Nat.lt_of_lt_of_le (Nat.mod_lt _ ?_) ?_ <;> omega)) (by first | omega | (refine Nat.lt_of_lt_of_le (Nat.mod_lt _ ?_) ?_ <;> omega))) ?_
              refine lv_iconst (v := nI 1) hx hb dX2_toRest_133 (by decide) ?_
              refine lv_iand hx hb dX2_toRest_134 ?_
              refine lv_top (y := nI (if Nat.testBit b r then 1 else 0)) ((bi_and _ _).trans (congrArg nI (bi_bit _ _))) ?_
              refine lv_aload_n hx hb dX2_toRest_135 rfl (lv_at hl 0 rfl) ?_
              refine m_get hx hb hts hown hK hH 12 (by decide) q1464 rfl (v := .ref (o + 20)) rfl dX2_toRest_136 ?_
              refine lv_iconst (v := nI 0) hx hb dX2_toRest_139 (by decide) ?_
              refine m_rowI (k' := 21) hx hb hK hH (by decide) rfl (by decide) (by decide) rfl dX2_toRest_140 ?_
              refine lv_iload hx hb dX2_toRest_141 (lv_at hl 8 rfl) ?_
              refine m_iald (n := 12) (j := r) (v := nI (aWt S r)) hx hb hK hH (by decide) rfl (by first | omega | (refine Nat.lt_of_lt_of_le (Nat.mod_lt _ ?_) ?_ <;> omega)) (by decide) (hM.wt (by first | omega | (refine Nat.lt_of_lt_of_le (Nat.mod_lt _ ?_) ?_ <;> omega))) dX2_toRest_143 ?_
              refine lv_imul hx hb dX2_toRest_144 ?_
              refine lv_top (y := nI ((if Nat.testBit b r then 1 else 0) * (aWt S r))) (pk_mul _ _) ?_
              refine lv_iadd hx hb dX2_toRest_145 ?_
              refine lv_top (y := nI ((wtF S b r) + ((if Nat.testBit b r then 1 else 0) * (aWt S r)))) (nI_add _ _) ?_
              refine lv_istore (lv' := [(7, .int (nI ((wtF S b r) + ((if Nat.testBit b r then 1 else 0) * (aWt S r))))), (0, .ref o), (1, .int (nI q)), (2, .int what), (3, .int (nI (canB S (nI q) (aRl S)))), (4, .int (oI (trF S (nI q) b))), (5, .int (nI (trW S (trF S (nI q) b)))), (6, .int (nI b)), (8, .int (nI r))]) hx hb dX2_toRest_146 hl (by decide) rfl (fun ls hl => ?_)
              refine lv_iinc (v := nI (r + 1)) (lv' := [(8, .int (nI (r + 1))), (7, .int (nI ((wtF S b r) + ((if Nat.testBit b r then 1 else 0) * (aWt S r))))), (0, .ref o), (1, .int (nI q)), (2, .int what), (3, .int (nI (canB S (nI q) (aRl S)))), (4, .int (oI (trF S (nI q) b))), (5, .int (nI (trW S (trF S (nI q) b)))), (6, .int (nI b))]) hx hb dX2_toRest_148 hl (k := 8) rfl (nI_add r 1) (by decide) rfl (fun ls hl => ?_)
              refine lv_goto (tgt := 115) hx hb dX2_toRest_151 (by decide) ?_
              exact ih115 (r + 1) (by omega) H locs ls ⟨by omega, hH, hS, lv_sub hl [2, 3, 4, 5, 6, 7, 8, 1, 0] rfl⟩
          · refine lv_goto (tgt := 219) hx hb dX2_toRest_106 (by decide) ?_
            rw [show trF S (nI q) b = trF S (nI q) (b + 1) from trF_no (by rw [show onlyA S (nI q) b = false by rw [← Bool.not_eq_true]; exact fun z => co ((onlyA_iff (by omega)).mpr z)]; rfl)] at hl
            refine lv_iinc (v := nI (b + 1)) (lv' := [(6, .int (nI (b + 1))), (0, .ref o), (1, .int (nI q)), (2, .int what), (3, .int (nI (canB S (nI q) (aRl S)))), (4, .int (oI (trF S (nI q) (b + 1)))), (5, .int (nI (trW S (trF S (nI q) (b + 1)))))]) hx hb dX2_toRest_219 hl (k := 6) rfl (nI_add b 1) (by decide) rfl (fun ls hl => ?_)
            refine lv_goto (tgt := 84) hx hb dX2_toRest_222 (by decide) ?_
            exact ih84 (b + 1) U (by omega) H locs ls ⟨by omega, hM, hH, hS, lv_sub hl [1, 2, 3, 4, 5, 6, 0] rfl⟩
      · have hkd := hO.kd (r := r) (by omega)
        refine lv_iload_n hx hb dX2_toRest_36 rfl (lv_at hl 3 rfl) ?_
        refine lv_aload_n hx hb dX2_toRest_37 rfl (lv_at hl 0 rfl) ?_
        refine m_get hx hb hts hown hK hH 9 (by decide) q1461 rfl (v := .ref (o + 11)) rfl dX2_toRest_38 ?_
        refine lv_iconst (v := nI 0) hx hb dX2_toRest_41 (by decide) ?_
        refine m_rowI (k' := 12) hx hb hK hH (by decide) rfl (by decide) (by decide) rfl dX2_toRest_42 ?_
        refine lv_iload hx hb dX2_toRest_43 (lv_at hl 4 rfl) ?_
        refine m_iald (n := 12) (j := r) (v := nI (aKd S r)) hx hb hK hH (by decide) rfl (by first | omega | (refine Nat.lt_of_lt_of_le (Nat.mod_lt _ ?_) ?_ <;> omega)) (by decide) (hM.kd (by first | omega | (refine Nat.lt_of_lt_of_le (Nat.mod_lt _ ?_) ?_ <;> omega))) dX2_toRest_45 ?_
        refine lvZ_ne (tgt := 66) hx hb (by first | omega | (refine Nat.lt_of_lt_of_le (Nat.mod_lt _ ?_) ?_ <;> omega)) dX2_toRest_46 (by decide) (fun ck => ?_) (fun ck => ?_)
        · refine lv_iconst (v := nI 0) hx hb dX2_toRest_66 (by decide) ?_
          refine lv_ior hx hb dX2_toRest_67 ?_
          refine lv_top (y := nI (canB S (nI q) (r + 1))) (by rw [bi_or]; exact congrArg nI (by rw [canB, if_neg (by simp [ck])])) ?_
          refine lv_istore_n (lv' := [(3, .int (nI (canB S (nI q) (r + 1)))), (0, .ref o), (1, .int (nI q)), (2, .int what), (4, .int (nI r))]) hx hb dX2_toRest_68 rfl hl (by decide) rfl (fun ls hl => ?_)
          refine lv_iinc (v := nI (r + 1)) (lv' := [(4, .int (nI (r + 1))), (3, .int (nI (canB S (nI q) (r + 1)))), (0, .ref o), (1, .int (nI q)), (2, .int what)]) hx hb dX2_toRest_69 hl (k := 4) rfl (nI_add r 1) (by decide) rfl (fun ls hl => ?_)
          refine lv_goto (tgt := 25) hx hb dX2_toRest_72 (by decide) ?_
          exact ih25 (r + 1) (by omega) H locs ls ⟨by omega, hH, hS, lv_sub hl [2, 3, 4, 1, 0] rfl⟩
        · refine lv_aload_n hx hb dX2_toRest_49 rfl (lv_at hl 0 rfl) ?_
          refine lv_iload hx hb dX2_toRest_50 (lv_at hl 4 rfl) ?_
          refine lv_iload_n hx hb dX2_toRest_52 rfl (lv_at hl 1 rfl) ?_
          refine hp_callV (As := [.int (nI r), .int (nI q)]) (rest := [.int (nI (canB S (nI q) r))]) hx hb hml hown hts hPB hK hH hS (mt_counts hK0 hO hM (r := r) (by omega) (nI q)) mset_o rfl rfl 2 (lw_V q1826 q1828 qs77 q107 q1829) (by decide +kernel) ⟨rfl, rfl⟩ (by decide) rfl hl.1 rfl (Nat.le_of_ble_eq_true rfl) (by decide) dX2_toRest_53 (fun v43 h45 H locs hp44 _ hH hS => ?_)
          obtain ⟨rfl, rfl⟩ := hp44
          refine lvB_eq (tgt := 66) hx hb dX2_toRest_56 (by decide) (fun cc => ?_) (fun cc => ?_)
          · refine lv_iconst (v := nI 0) hx hb dX2_toRest_66 (by decide) ?_
            refine lv_ior hx hb dX2_toRest_67 ?_
            refine lv_top (y := nI (canB S (nI q) (r + 1))) (by rw [bi_or]; exact congrArg nI (by rw [canB, if_neg (by simp [cc])])) ?_
            refine lv_istore_n (lv' := [(3, .int (nI (canB S (nI q) (r + 1)))), (0, .ref o), (1, .int (nI q)), (2, .int what), (4, .int (nI r))]) hx hb dX2_toRest_68 rfl hl (by decide) rfl (fun ls hl => ?_)
            refine lv_iinc (v := nI (r + 1)) (lv' := [(4, .int (nI (r + 1))), (3, .int (nI (canB S (nI q) (r + 1)))), (0, .ref o), (1, .int (nI q)), (2, .int what)]) hx hb dX2_toRest_69 hl (k := 4) rfl (nI_add r 1) (by decide) rfl (fun ls hl => ?_)
            refine lv_goto (tgt := 25) hx hb dX2_toRest_72 (by decide) ?_
            exact ih25 (r + 1) (by omega) H locs ls ⟨by omega, hH, hS, lv_sub hl [2, 3, 4, 1, 0] rfl⟩
          · refine lv_iconst (v := nI 1) hx hb dX2_toRest_59 (by decide) ?_
            refine lv_iload hx hb dX2_toRest_60 (lv_at hl 4 rfl) ?_
            refine lv_ishl hx hb dX2_toRest_62 ?_
            refine lv_top (y := nI (2 ^ r)) (bi_shl1 (by first | omega | (refine Nat.lt_of_lt_of_le (Nat.mod_lt _ ?_) ?_ <;> omega))) ?_
            refine lv_goto (tgt := 67) hx hb dX2_toRest_63 (by decide) ?_
            refine lv_ior hx hb dX2_toRest_67 ?_
            refine lv_top (y := nI (canB S (nI q) (r + 1))) (by rw [bi_or]; exact congrArg nI (by rw [canB, if_pos (by simp [ck, cc])])) ?_
            refine lv_istore_n (lv' := [(3, .int (nI (canB S (nI q) (r + 1)))), (0, .ref o), (1, .int (nI q)), (2, .int what), (4, .int (nI r))]) hx hb dX2_toRest_68 rfl hl (by decide) rfl (fun ls hl => ?_)
            refine lv_iinc (v := nI (r + 1)) (lv' := [(4, .int (nI (r + 1))), (3, .int (nI (canB S (nI q) (r + 1)))), (0, .ref o), (1, .int (nI q)), (2, .int what)]) hx hb dX2_toRest_69 hl (k := 4) rfl (nI_add r 1) (by decide) rfl (fun ls hl => ?_)
            refine lv_goto (tgt := 25) hx hb dX2_toRest_72 (by decide) ?_
            exact ih25 (r + 1) (by omega) H locs ls ⟨by omega, hH, hS, lv_sub hl [2, 3, 4, 1, 0] rfl⟩
    · rw [in_k 1 rfl] at cw0
      refine lv_iconst (v := (-1)) hx hb dX2_toRest_18 (by decide) ?_
      exact hp_iret hx hb hr hlocks hH hS (by decide) (by decide) dX2_toRest_19 (⟨congrArg some (congrArg Value.int (by simp [spToRest, cr0, cw0])), _, _, rfl, hM⟩)
end MODEL
