/-! by gen/mspec.py -/
set_option maxRecDepth 100000
section MODEL
variable {l : Launch} {s0 : State} {D : va_G} {K : Nat → ClassId} {wd : Nat → Nat} {o : Nat} {h : Hp} {I : Nat → Int32} {V : Nat → Nat → Int32} {J : Nat → Nat → Int64}
set_option maxHeartbeats 4000000 in
theorem mt_in (hK0 : va_K D CL (TYS K) s0) (x a b : Int64) : Met l yX2_in (ws_ yX2_in cX2_in 6 ((Option.some Jvm.ClassFile.FieldType.boolean))) (rmk 0 0 0) (va_Pc [.long x, .long a, .long b] (PB s0 D CL (mset h K wd o I V J))) (QR s0 D CL (fun v h1 => v = some (.int (zI (decide (a ≤ x ∧ x ≤ b)))) ∧ h1 = mset h K wd o I V J)) 0 0 (zA s0) := by
  refine hp_met (by decide) (Nat.le_of_ble_eq_true rfl) hK0 ?_
  intro p e s m below meth cd ls hx hb hr hlocks hml hown hnm hts hK hPB hl hS hH hA
  have hl : lv_has ls 6 [(0, .long x), (2, .long a), (4, .long b)] := hl
  have hown : s.vm.findClass RX2 = some m.cls := hown
  refine lv_lload_n hx hb dX2_in_0 rfl (lv_at hl 0 rfl) ?_
  refine lv_lload_n hx hb dX2_in_1 rfl (lv_at hl 1 rfl) ?_
  refine W.lcmp hx hb dX2_in_2 ?_
  refine lv_if_lt (tgt := 17) hx hb dX2_in_3 (by decide) (fun c1 => ?_) (fun c1 => ?_)
  · have c1 := (lg_cmp_lt _ _).mp c1
    refine lv_iconst (v := nI 0) hx hb dX2_in_17 (by decide) ?_
    exact hp_zret hx hb hr rfl hlocks hH hS (by decide) (by decide) dX2_in_18 (⟨congrArg some (congrArg Value.int (zI_0 (decide_eq_false (fun q => absurd q.1 (Int64.not_le.mpr c1))))), rfl⟩)
  · have c1 := fun q => c1 ((lg_cmp_lt _ _).mpr q)
    refine lv_lload_n hx hb dX2_in_6 rfl (lv_at hl 0 rfl) ?_
    refine lv_lload hx hb dX2_in_7 (lv_at hl 2 rfl) ?_
    refine W.lcmp hx hb dX2_in_9 ?_
    refine lv_if_gt (tgt := 17) hx hb dX2_in_10 (by decide) (fun c2 => ?_) (fun c2 => ?_)
    · have c2 := (lg_cmp_gt _ _).mp c2
      refine lv_iconst (v := nI 0) hx hb dX2_in_17 (by decide) ?_
      exact hp_zret hx hb hr rfl hlocks hH hS (by decide) (by decide) dX2_in_18 (⟨congrArg some (congrArg Value.int (zI_0 (decide_eq_false (fun q => absurd q.2 (Int64.not_le.mpr c2))))), rfl⟩)
    · have c2 := fun q => c2 ((lg_cmp_gt _ _).mpr q)
      refine lv_iconst (v := nI 1) hx hb dX2_in_13 (by decide) ?_
      refine lv_goto (tgt := 18) hx hb dX2_in_14 (by decide) ?_
      exact hp_zret hx hb hr rfl hlocks hH hS (by decide) (by decide) dX2_in_18 (⟨congrArg some (congrArg Value.int (zI_1 (decide_eq_true ⟨Int64.not_lt.mp c1, Int64.not_lt.mp c2⟩))), rfl⟩)
set_option maxHeartbeats 4000000 in
theorem mt_isGuest (hK0 : va_K D CL (TYS K) s0) {S : Ab} (hO : SOK S) (hM : MOK S I V) (g : Int32) : Met l yX2_isGuest (ws_ yX2_isGuest cX2_isGuest 2 ((Option.some Jvm.ClassFile.FieldType.boolean))) (rmk 1 0 0) (va_Pc [.ref o, .int g] (PB s0 D CL (mset h K wd o I V J))) (QR s0 D CL (fun v h1 => v = some (.int (zI (inN g (aN S)))) ∧ h1 = mset h K wd o I V J)) 0 0 (zA s0) := by
  refine hp_met (by decide) (Nat.le_of_ble_eq_true rfl) hK0 ?_
  intro p e s m below meth cd ls hx hb hr hlocks hml hown hnm hts hK hPB hl hS hH hA
  have hl : lv_has ls 2 [(0, .ref o), (1, .int g)] := hl
  have hown : s.vm.findClass RX2 = some m.cls := hown
  have hn := hO.n
  have hmk := hO.mk
  have hrl := hO.rl
  have hrm := hO.rm
  have hsz := hO.sz
  refine lv_iload_n hx hb dX2_isGuest_0 rfl (lv_at hl 1 rfl) ?_
  refine lv_i2l hx hb dX2_isGuest_1 rfl ?_
  refine lv_lconst (v := 0) hx hb dX2_isGuest_2 rfl ?_
  refine lv_aload_n hx hb dX2_isGuest_3 rfl (lv_at hl 0 rfl) ?_
  refine m_get hx hb hts hown hK hH 15 (by decide) q1467 rfl (v := .ref (o + 29)) rfl dX2_isGuest_4 ?_
  refine lv_iconst (v := nI 0) hx hb dX2_isGuest_7 (by decide) ?_
  refine m_iald (n := 2) (j := 0) (v := nI (aN S)) hx hb hK hH (by decide) rfl (by first | omega | (refine Nat.lt_of_lt_of_le (Nat.mod_lt _ ?_) ?_ <;> omega)) (by decide) (hM.n) dX2_isGuest_8 ?_
  refine lv_iconst (v := nI 1) hx hb dX2_isGuest_9 (by decide) ?_
  refine lv_isub hx hb dX2_isGuest_10 ?_
  refine lv_i2l hx hb dX2_isGuest_11 rfl ?_
  refine hp_callS (As := [.long (Int32.toInt64 g), .long 0, .long (Int32.toInt64 ((nI (aN S)) - (nI 1)))]) (rest := []) hx hb hml hown hts hPB hH hS (mt_in hK0 (Int32.toInt64 g) 0 (Int32.toInt64 ((nI (aN S)) - (nI 1)))) 3 (lw_S q1658 q1659 q107 q1660) (by decide +kernel) ⟨rfl, rfl⟩ (by decide) rfl hl.1 rfl (Nat.le_of_ble_eq_true rfl) (by decide) dX2_isGuest_12 (fun v1 h3 H locs hp2 _ hH hS => ?_)
  obtain ⟨rfl, rfl⟩ := hp2
  exact hp_zret hx hb hr (zI_nar _) hlocks hH hS (by decide) (by decide) dX2_isGuest_15 (⟨congrArg some (congrArg Value.int (congrArg zI (in_n (by omega)))), rfl⟩)
set_option maxHeartbeats 4000000 in
theorem mt_isRule (hK0 : va_K D CL (TYS K) s0) {S : Ab} (hO : SOK S) (hM : MOK S I V) (g : Int32) : Met l yX2_isRule (ws_ yX2_isRule cX2_isRule 2 ((Option.some Jvm.ClassFile.FieldType.boolean))) (rmk 1 0 0) (va_Pc [.ref o, .int g] (PB s0 D CL (mset h K wd o I V J))) (QR s0 D CL (fun v h1 => v = some (.int (zI (inN g (aRl S)))) ∧ h1 = mset h K wd o I V J)) 0 0 (zA s0) := by
  refine hp_met (by decide) (Nat.le_of_ble_eq_true rfl) hK0 ?_
  intro p e s m below meth cd ls hx hb hr hlocks hml hown hnm hts hK hPB hl hS hH hA
  have hl : lv_has ls 2 [(0, .ref o), (1, .int g)] := hl
  have hown : s.vm.findClass RX2 = some m.cls := hown
  have hn := hO.n
  have hmk := hO.mk
  have hrl := hO.rl
  have hrm := hO.rm
  have hsz := hO.sz
  refine lv_iload_n hx hb dX2_isRule_0 rfl (lv_at hl 1 rfl) ?_
  refine lv_i2l hx hb dX2_isRule_1 rfl ?_
  refine lv_lconst (v := 0) hx hb dX2_isRule_2 rfl ?_
  refine lv_aload_n hx hb dX2_isRule_3 rfl (lv_at hl 0 rfl) ?_
  refine m_get hx hb hts hown hK hH 17 (by decide) q1469 rfl (v := .ref (o + 31)) rfl dX2_isRule_4 ?_
  refine lv_iconst (v := nI 0) hx hb dX2_isRule_7 (by decide) ?_
  refine m_iald (n := 2) (j := 0) (v := nI (aRl S)) hx hb hK hH (by decide) rfl (by first | omega | (refine Nat.lt_of_lt_of_le (Nat.mod_lt _ ?_) ?_ <;> omega)) (by decide) (hM.rl) dX2_isRule_8 ?_
  refine lv_iconst (v := nI 1) hx hb dX2_isRule_9 (by decide) ?_
  refine lv_isub hx hb dX2_isRule_10 ?_
  refine lv_i2l hx hb dX2_isRule_11 rfl ?_
  refine hp_callS (As := [.long (Int32.toInt64 g), .long 0, .long (Int32.toInt64 ((nI (aRl S)) - (nI 1)))]) (rest := []) hx hb hml hown hts hPB hH hS (mt_in hK0 (Int32.toInt64 g) 0 (Int32.toInt64 ((nI (aRl S)) - (nI 1)))) 3 (lw_S q1658 q1659 q107 q1660) (by decide +kernel) ⟨rfl, rfl⟩ (by decide) rfl hl.1 rfl (Nat.le_of_ble_eq_true rfl) (by decide) dX2_isRule_12 (fun v1 h3 H locs hp2 _ hH hS => ?_)
  obtain ⟨rfl, rfl⟩ := hp2
  exact hp_zret hx hb hr (zI_nar _) hlocks hH hS (by decide) (by decide) dX2_isRule_15 (⟨congrArg some (congrArg Value.int (congrArg zI (in_n (by omega)))), rfl⟩)
set_option maxHeartbeats 4000000 in
theorem mt_isRoom (hK0 : va_K D CL (TYS K) s0) {S : Ab} (hO : SOK S) (hM : MOK S I V) (g : Int32) : Met l yX2_isRoom (ws_ yX2_isRoom cX2_isRoom 2 ((Option.some Jvm.ClassFile.FieldType.boolean))) (rmk 1 0 0) (va_Pc [.ref o, .int g] (PB s0 D CL (mset h K wd o I V J))) (QR s0 D CL (fun v h1 => v = some (.int (zI (inN g (aRm S)))) ∧ h1 = mset h K wd o I V J)) 0 0 (zA s0) := by
  refine hp_met (by decide) (Nat.le_of_ble_eq_true rfl) hK0 ?_
  intro p e s m below meth cd ls hx hb hr hlocks hml hown hnm hts hK hPB hl hS hH hA
  have hl : lv_has ls 2 [(0, .ref o), (1, .int g)] := hl
  have hown : s.vm.findClass RX2 = some m.cls := hown
  have hn := hO.n
  have hmk := hO.mk
  have hrl := hO.rl
  have hrm := hO.rm
  have hsz := hO.sz
  refine lv_iload_n hx hb dX2_isRoom_0 rfl (lv_at hl 1 rfl) ?_
  refine lv_i2l hx hb dX2_isRoom_1 rfl ?_
  refine lv_lconst (v := 0) hx hb dX2_isRoom_2 rfl ?_
  refine lv_aload_n hx hb dX2_isRoom_3 rfl (lv_at hl 0 rfl) ?_
  refine m_get hx hb hts hown hK hH 26 (by decide) q1478 rfl (v := .int (nI (aRm S))) (congrArg Value.int (hM.rm)) dX2_isRoom_4 ?_
  refine lv_iconst (v := nI 1) hx hb dX2_isRoom_7 (by decide) ?_
  refine lv_isub hx hb dX2_isRoom_8 ?_
  refine lv_i2l hx hb dX2_isRoom_9 rfl ?_
  refine hp_callS (As := [.long (Int32.toInt64 g), .long 0, .long (Int32.toInt64 ((nI (aRm S)) - (nI 1)))]) (rest := []) hx hb hml hown hts hPB hH hS (mt_in hK0 (Int32.toInt64 g) 0 (Int32.toInt64 ((nI (aRm S)) - (nI 1)))) 3 (lw_S q1658 q1659 q107 q1660) (by decide +kernel) ⟨rfl, rfl⟩ (by decide) rfl hl.1 rfl (Nat.le_of_ble_eq_true rfl) (by decide) dX2_isRoom_10 (fun v1 h3 H locs hp2 _ hH hS => ?_)
  obtain ⟨rfl, rfl⟩ := hp2
  exact hp_zret hx hb hr (zI_nar _) hlocks hH hS (by decide) (by decide) dX2_isRoom_13 (⟨congrArg some (congrArg Value.int (congrArg zI (in_n (by omega)))), rfl⟩)
set_option maxHeartbeats 4000000 in
theorem mt_isCourse (hK0 : va_K D CL (TYS K) s0) {S : Ab} (hO : SOK S) (hM : MOK S I V) (g : Int32) : Met l yX2_isCourse (ws_ yX2_isCourse cX2_isCourse 2 ((Option.some Jvm.ClassFile.FieldType.boolean))) (rmk 1 0 0) (va_Pc [.ref o, .int g] (PB s0 D CL (mset h K wd o I V J))) (QR s0 D CL (fun v h1 => v = some (.int (zI (inN g 10))) ∧ h1 = mset h K wd o I V J)) 0 0 (zA s0) := by
  refine hp_met (by decide) (Nat.le_of_ble_eq_true rfl) hK0 ?_
  intro p e s m below meth cd ls hx hb hr hlocks hml hown hnm hts hK hPB hl hS hH hA
  have hl : lv_has ls 2 [(0, .ref o), (1, .int g)] := hl
  have hown : s.vm.findClass RX2 = some m.cls := hown
  have hn := hO.n
  have hmk := hO.mk
  have hrl := hO.rl
  have hrm := hO.rm
  have hsz := hO.sz
  refine lv_iload_n hx hb dX2_isCourse_0 rfl (lv_at hl 1 rfl) ?_
  refine lv_i2l hx hb dX2_isCourse_1 rfl ?_
  refine lv_lconst (v := 0) hx hb dX2_isCourse_2 rfl ?_
  refine lv_ldc2 (v := 9) hx hb hown (hts _ q1808) dX2_isCourse_3 ?_
  refine hp_callS (As := [.long (Int32.toInt64 g), .long 0, .long 9]) (rest := []) hx hb hml hown hts hPB hH hS (mt_in hK0 (Int32.toInt64 g) 0 9) 3 (lw_S q1658 q1659 q107 q1660) (by decide +kernel) ⟨rfl, rfl⟩ (by decide) rfl hl.1 rfl (Nat.le_of_ble_eq_true rfl) (by decide) dX2_isCourse_6 (fun v1 h3 H locs hp2 _ hH hS => ?_)
  obtain ⟨rfl, rfl⟩ := hp2
  exact hp_zret hx hb hr (zI_nar _) hlocks hH hS (by decide) (by decide) dX2_isCourse_9 (⟨congrArg some (congrArg Value.int (congrArg zI (in_k 9 rfl))), rfl⟩)
set_option maxHeartbeats 4000000 in
theorem mt_isOf (hK0 : va_K D CL (TYS K) s0) {S : Ab} (hO : SOK S) (hM : MOK S I V) {w : Nat} {g : Nat} (hw : aWho S w) (hg : g < aN S) : Met l yX2_isOf (ws_ yX2_isOf cX2_isOf 3 ((Option.some Jvm.ClassFile.FieldType.boolean))) (rmk 0 0 0) (va_Pc [.ref o, .int (nI w), .int (nI g)] (PB s0 D CL (mset h K wd o I V J))) (QR s0 D CL (fun v h1 => v = some (.int (zI (isOf S w g))) ∧ h1 = mset h K wd o I V J)) 0 0 (zA s0) := by
  refine hp_met (by decide) (Nat.le_of_ble_eq_true rfl) hK0 ?_
  intro p e s m below meth cd ls hx hb hr hlocks hml hown hnm hts hK hPB hl hS hH hA
  have hl : lv_has ls 3 [(0, .ref o), (1, .int (nI w)), (2, .int (nI g))] := hl
  have hown : s.vm.findClass RX2 = some m.cls := hown
  have hn := hO.n
  have hmk := hO.mk
  have hrl := hO.rl
  have hrm := hO.rm
  have hsz := hO.sz
  have hw : w < aN S ∨ (100 ≤ w ∧ w < 100 + aMk S) := hw
  refine lv_iload_n hx hb dX2_isOf_0 rfl (lv_at hl 1 rfl) ?_
  refine lv_bipush (v := nI 100) hx hb dX2_isOf_1 (by decide) ?_
  refine lvN_ge (tgt := 19) hx hb (by first | omega | (refine Nat.lt_of_lt_of_le (Nat.mod_lt _ ?_) ?_ <;> omega)) (by first | omega | (refine Nat.lt_of_lt_of_le (Nat.mod_lt _ ?_) ?_ <;> omega)) dX2_isOf_3 (by decide) (fun c1 => ?_) (fun c1 => ?_)
  · refine lv_aload_n hx hb dX2_isOf_19 rfl (lv_at hl 0 rfl) ?_
    refine m_get hx hb hts hown hK hH 8 (by decide) q1460 rfl (v := .ref (o + 8)) rfl dX2_isOf_20 ?_
    refine lv_iconst (v := nI 0) hx hb dX2_isOf_23 (by decide) ?_
    refine m_rowI (k' := 9) hx hb hK hH (by decide) rfl (by decide) (by decide) rfl dX2_isOf_24 ?_
    refine lv_iload_n hx hb dX2_isOf_25 rfl (lv_at hl 1 rfl) ?_
    refine lv_bipush (v := nI 100) hx hb dX2_isOf_26 (by decide) ?_
    refine lv_isub hx hb dX2_isOf_28 ?_
    refine lv_top (y := nI (w - 100)) (pk_sub (by first | omega | (refine Nat.lt_of_lt_of_le (Nat.mod_lt _ ?_) ?_ <;> omega))) ?_
    refine m_iald (n := 5) (j := w - 100) (v := nI (aMd S (w - 100))) hx hb hK hH (by decide) rfl (by first | omega | (refine Nat.lt_of_lt_of_le (Nat.mod_lt _ ?_) ?_ <;> omega)) (by decide) (hM.md (by first | omega | (refine Nat.lt_of_lt_of_le (Nat.mod_lt _ ?_) ?_ <;> omega))) dX2_isOf_29 ?_
    refine lv_iload_n hx hb dX2_isOf_30 rfl (lv_at hl 2 rfl) ?_
    refine lv_ishr hx hb dX2_isOf_31 ?_
    refine lv_top (y := nI ((aMd S (w - 100)) / 2 ^ g)) (bi_shr (Nat.lt_of_lt_of_le (hO.md (by omega)) (by decide)) (by first | omega | (refine Nat.lt_of_lt_of_le (Nat.mod_lt _ ?_) ?_ <;> omega))) ?_
    refine lv_iconst (v := nI 1) hx hb dX2_isOf_32 (by decide) ?_
    refine lv_iand hx hb dX2_isOf_33 ?_
    refine lv_top (y := zI (Nat.testBit (aMd S (w - 100)) g)) ((bi_and _ _).trans (bi_z _ _)) ?_
    refine lv_iconst (v := nI 1) hx hb dX2_isOf_34 (by decide) ?_
    refine lvB_ne1 (tgt := 42) hx hb dX2_isOf_35 (by decide) (fun c2 => ?_) (fun c2 => ?_)
    · refine lv_iconst (v := nI 0) hx hb dX2_isOf_42 (by decide) ?_
      exact hp_zret hx hb hr rfl hlocks hH hS (by decide) (by decide) dX2_isOf_43 (⟨congrArg some (congrArg Value.int (zI_0 (by simp [isOf, c1, Nat.not_lt.mpr c1, c2]))), rfl⟩)
    · refine lv_iconst (v := nI 1) hx hb dX2_isOf_38 (by decide) ?_
      refine lv_goto (tgt := 43) hx hb dX2_isOf_39 (by decide) ?_
      exact hp_zret hx hb hr rfl hlocks hH hS (by decide) (by decide) dX2_isOf_43 (⟨congrArg some (congrArg Value.int (zI_1 (by simp [isOf, c1, Nat.not_lt.mpr c1, c2]))), rfl⟩)
  · refine lv_iload_n hx hb dX2_isOf_6 rfl (lv_at hl 1 rfl) ?_
    refine lv_iload_n hx hb dX2_isOf_7 rfl (lv_at hl 2 rfl) ?_
    refine lvN_ne (tgt := 15) hx hb (by first | omega | (refine Nat.lt_of_lt_of_le (Nat.mod_lt _ ?_) ?_ <;> omega)) (by first | omega | (refine Nat.lt_of_lt_of_le (Nat.mod_lt _ ?_) ?_ <;> omega)) dX2_isOf_8 (by decide) (fun c3 => ?_) (fun c3 => ?_)
    · refine lv_iconst (v := nI 0) hx hb dX2_isOf_15 (by decide) ?_
      refine lv_goto (tgt := 43) hx hb dX2_isOf_16 (by decide) ?_
      exact hp_zret hx hb hr rfl hlocks hH hS (by decide) (by decide) dX2_isOf_43 (⟨congrArg some (congrArg Value.int (zI_0 (by simp [isOf, c1, Nat.not_le.mpr c1, c3]))), rfl⟩)
    · refine lv_iconst (v := nI 1) hx hb dX2_isOf_11 (by decide) ?_
      refine lv_goto (tgt := 43) hx hb dX2_isOf_12 (by decide) ?_
      exact hp_zret hx hb hr rfl hlocks hH hS (by decide) (by decide) dX2_isOf_43 (⟨congrArg some (congrArg Value.int (zI_1 (by first | (simp [isOf, c1, Nat.not_le.mpr c1, c3]; done) | (simp [isOf, c1, Nat.not_le.mpr c1]; omega)))), rfl⟩)
set_option maxHeartbeats 4000000 in
theorem mt_couples (hK0 : va_K D CL (TYS K) s0) {S : Ab} (hO : SOK S) (hM : MOK S I V) {r : Nat} {x : Nat} {y : Nat} (hr0 : r < aRl S) (hx0 : x < aN S) (hy0 : y < aN S) : Met l yX2_couples (ws_ yX2_couples cX2_couples 4 ((Option.some Jvm.ClassFile.FieldType.boolean))) (rmk 1 0 0) (va_Pc [.ref o, .int (nI r), .int (nI x), .int (nI y)] (PB s0 D CL (mset h K wd o I V J))) (QR s0 D CL (fun v h1 => v = some (.int (zI (cpl S r x y))) ∧ h1 = mset h K wd o I V J)) 0 0 (zA s0) := by
  refine hp_met (by decide) (Nat.le_of_ble_eq_true rfl) hK0 ?_
  intro p e s m below meth cd ls hx hb hr hlocks hml hown hnm hts hK hPB hl hS hH hA
  have hl : lv_has ls 4 [(0, .ref o), (1, .int (nI r)), (2, .int (nI x)), (3, .int (nI y))] := hl
  have hown : s.vm.findClass RX2 = some m.cls := hown
  have hn := hO.n
  have hmk := hO.mk
  have hrl := hO.rl
  have hrm := hO.rm
  have hsz := hO.sz
  refine lv_iload_n hx hb dX2_couples_0 rfl (lv_at hl 2 rfl) ?_
  refine lv_iload_n hx hb dX2_couples_1 rfl (lv_at hl 3 rfl) ?_
  refine lvN_eq (tgt := 75) hx hb (by first | omega | (refine Nat.lt_of_lt_of_le (Nat.mod_lt _ ?_) ?_ <;> omega)) (by first | omega | (refine Nat.lt_of_lt_of_le (Nat.mod_lt _ ?_) ?_ <;> omega)) dX2_couples_2 (by decide) (fun c1 => ?_) (fun c1 => ?_)
  · refine lv_iconst (v := nI 0) hx hb dX2_couples_75 (by decide) ?_
    exact hp_zret hx hb hr rfl hlocks hH hS (by decide) (by decide) dX2_couples_76 (⟨congrArg some (congrArg Value.int (zI_0 (by first | (simp [cpl, unB, c1]; done) | (simp [cpl, unB]; omega)))), rfl⟩)
  · refine lv_aload_n hx hb dX2_couples_5 rfl (lv_at hl 0 rfl) ?_
    refine lv_aload_n hx hb dX2_couples_6 rfl (lv_at hl 0 rfl) ?_
    refine m_get hx hb hts hown hK hH 10 (by decide) q1462 rfl (v := .ref (o + 14)) rfl dX2_couples_7 ?_
    refine lv_iconst (v := nI 0) hx hb dX2_couples_10 (by decide) ?_
    refine m_rowI (k' := 15) hx hb hK hH (by decide) rfl (by decide) (by decide) rfl dX2_couples_11 ?_
    refine lv_iload_n hx hb dX2_couples_12 rfl (lv_at hl 1 rfl) ?_
    refine m_iald (n := 12) (j := r) (v := nI (aOn S r)) hx hb hK hH (by decide) rfl (by first | omega | (refine Nat.lt_of_lt_of_le (Nat.mod_lt _ ?_) ?_ <;> omega)) (by decide) (hM.on (by first | omega | (refine Nat.lt_of_lt_of_le (Nat.mod_lt _ ?_) ?_ <;> omega))) dX2_couples_13 ?_
    refine lv_iload_n hx hb dX2_couples_14 rfl (lv_at hl 2 rfl) ?_
    refine hp_callV (As := [.int (nI (aOn S r)), .int (nI x)]) (rest := []) hx hb hml hown hts hPB hK hH hS (mt_isOf hK0 hO hM (w := aOn S r) (g := x) (hO.on (by omega)) (by omega)) mset_o rfl rfl 2 (lw_V q1772 q1774 qs71 q107 q1775) (by decide +kernel) ⟨rfl, rfl⟩ (by decide) rfl hl.1 rfl (Nat.le_of_ble_eq_true rfl) (by decide) dX2_couples_15 (fun v2 h4 H locs hp3 _ hH hS => ?_)
    obtain ⟨rfl, rfl⟩ := hp3
    refine lvB_eq (tgt := 75) hx hb dX2_couples_18 (by decide) (fun c5 => ?_) (fun c5 => ?_)
    · refine lv_iconst (v := nI 0) hx hb dX2_couples_75 (by decide) ?_
      exact hp_zret hx hb hr rfl hlocks hH hS (by decide) (by decide) dX2_couples_76 (⟨congrArg some (congrArg Value.int (zI_0 (by simp [cpl, unB, c1, c5]))), rfl⟩)
    · refine lv_aload_n hx hb dX2_couples_21 rfl (lv_at hl 0 rfl) ?_
      refine lv_aload_n hx hb dX2_couples_22 rfl (lv_at hl 0 rfl) ?_
      refine m_get hx hb hts hown hK hH 11 (by decide) q1463 rfl (v := .ref (o + 17)) rfl dX2_couples_23 ?_
      refine lv_iconst (v := nI 0) hx hb dX2_couples_26 (by decide) ?_
      refine m_rowI (k' := 18) hx hb hK hH (by decide) rfl (by decide) (by decide) rfl dX2_couples_27 ?_
      refine lv_iload_n hx hb dX2_couples_28 rfl (lv_at hl 1 rfl) ?_
      refine m_iald (n := 12) (j := r) (v := nI (aOt S r)) hx hb hK hH (by decide) rfl (by first | omega | (refine Nat.lt_of_lt_of_le (Nat.mod_lt _ ?_) ?_ <;> omega)) (by decide) (hM.ot (by first | omega | (refine Nat.lt_of_lt_of_le (Nat.mod_lt _ ?_) ?_ <;> omega))) dX2_couples_29 ?_
      refine lv_iload_n hx hb dX2_couples_30 rfl (lv_at hl 3 rfl) ?_
      refine hp_callV (As := [.int (nI (aOt S r)), .int (nI y)]) (rest := []) hx hb hml hown hts hPB hK hH hS (mt_isOf hK0 hO hM (w := aOt S r) (g := y) (hO.ot (by omega)) (by omega)) mset_o rfl rfl 2 (lw_V q1772 q1774 qs71 q107 q1775) (by decide +kernel) ⟨rfl, rfl⟩ (by decide) rfl hl.1 rfl (Nat.le_of_ble_eq_true rfl) (by decide) dX2_couples_31 (fun v6 h8 H locs hp7 _ hH hS => ?_)
      obtain ⟨rfl, rfl⟩ := hp7
      refine lvB_eq (tgt := 75) hx hb dX2_couples_34 (by decide) (fun c9 => ?_) (fun c9 => ?_)
      · refine lv_iconst (v := nI 0) hx hb dX2_couples_75 (by decide) ?_
        exact hp_zret hx hb hr rfl hlocks hH hS (by decide) (by decide) dX2_couples_76 (⟨congrArg some (congrArg Value.int (zI_0 (by simp [cpl, unB, c1, c5, c9]))), rfl⟩)
      · refine lv_aload_n hx hb dX2_couples_37 rfl (lv_at hl 0 rfl) ?_
        refine m_get hx hb hts hown hK hH 14 (by decide) q1466 rfl (v := .ref (o + 26)) rfl dX2_couples_38 ?_
        refine lv_iconst (v := nI 0) hx hb dX2_couples_41 (by decide) ?_
        refine m_rowI (k' := 27) hx hb hK hH (by decide) rfl (by decide) (by decide) rfl dX2_couples_42 ?_
        refine lv_iload_n hx hb dX2_couples_43 rfl (lv_at hl 1 rfl) ?_
        refine m_iald (n := 12) (j := r) (v := aUn S r) hx hb hK hH (by decide) rfl (by first | omega | (refine Nat.lt_of_lt_of_le (Nat.mod_lt _ ?_) ?_ <;> omega)) (by decide) (hM.un (by first | omega | (refine Nat.lt_of_lt_of_le (Nat.mod_lt _ ?_) ?_ <;> omega))) dX2_couples_44 ?_
        refine lv_iconst (v := (-1)) hx hb dX2_couples_45 (by decide) ?_
        refine lv_icmp_eq (tgt := 71) hx hb dX2_couples_46 (by decide) (fun c10 => ?_) (fun c10 => ?_)
        · refine lv_iconst (v := nI 1) hx hb dX2_couples_71 (by decide) ?_
          refine lv_goto (tgt := 76) hx hb dX2_couples_72 (by decide) ?_
          exact hp_zret hx hb hr rfl hlocks hH hS (by decide) (by decide) dX2_couples_76 (⟨congrArg some (congrArg Value.int (zI_1 (by simp [cpl, unB, c1, c5, c9, c10]))), rfl⟩)
        · obtain ⟨um, hum, eum⟩ : ∃ m, m < aMk S ∧ aUn S r = nI m := (hO.un hr0).resolve_left c10
          refine lv_aload_n hx hb dX2_couples_49 rfl (lv_at hl 0 rfl) ?_
          refine m_get hx hb hts hown hK hH 8 (by decide) q1460 rfl (v := .ref (o + 8)) rfl dX2_couples_50 ?_
          refine lv_iconst (v := nI 0) hx hb dX2_couples_53 (by decide) ?_
          refine m_rowI (k' := 9) hx hb hK hH (by decide) rfl (by decide) (by decide) rfl dX2_couples_54 ?_
          refine lv_aload_n hx hb dX2_couples_55 rfl (lv_at hl 0 rfl) ?_
          refine m_get hx hb hts hown hK hH 14 (by decide) q1466 rfl (v := .ref (o + 26)) rfl dX2_couples_56 ?_
          refine lv_iconst (v := nI 0) hx hb dX2_couples_59 (by decide) ?_
          refine m_rowI (k' := 27) hx hb hK hH (by decide) rfl (by decide) (by decide) rfl dX2_couples_60 ?_
          refine lv_iload_n hx hb dX2_couples_61 rfl (lv_at hl 1 rfl) ?_
          refine m_iald (n := 12) (j := r) (v := nI um) hx hb hK hH (by decide) rfl (by first | omega | (refine Nat.lt_of_lt_of_le (Nat.mod_lt _ ?_) ?_ <;> omega)) (by decide) ((hM.un hr0).trans eum) dX2_couples_62 ?_
          refine m_iald (n := 5) (j := um) (v := nI (aMd S um)) hx hb hK hH (by decide) rfl (by first | omega | (refine Nat.lt_of_lt_of_le (Nat.mod_lt _ ?_) ?_ <;> omega)) (by decide) (hM.md (by first | omega | (refine Nat.lt_of_lt_of_le (Nat.mod_lt _ ?_) ?_ <;> omega))) dX2_couples_63 ?_
          refine lv_iload_n hx hb dX2_couples_64 rfl (lv_at hl 3 rfl) ?_
          refine lv_ishr hx hb dX2_couples_65 ?_
          refine lv_top (y := nI ((aMd S um) / 2 ^ y)) (bi_shr (Nat.lt_of_lt_of_le (hO.md (by omega)) (by decide)) (by first | omega | (refine Nat.lt_of_lt_of_le (Nat.mod_lt _ ?_) ?_ <;> omega))) ?_
          refine lv_iconst (v := nI 1) hx hb dX2_couples_66 (by decide) ?_
          refine lv_iand hx hb dX2_couples_67 ?_
          refine lv_top (y := zI (Nat.testBit (aMd S um) y)) ((bi_and _ _).trans (bi_z _ _)) ?_
          refine lvB_ne (tgt := 75) hx hb dX2_couples_68 (by decide) (fun c11 => ?_) (fun c11 => ?_)
          · refine lv_iconst (v := nI 0) hx hb dX2_couples_75 (by decide) ?_
            exact hp_zret hx hb hr rfl hlocks hH hS (by decide) (by decide) dX2_couples_76 (⟨congrArg some (congrArg Value.int (zI_0 (by simp [cpl, unB, eum, nI_clamp (show um < 2 ^ 31 by omega), nI_m1 (show um < 2 ^ 31 by omega), c1, c5, c9, c10, c11]))), rfl⟩)
          · refine lv_iconst (v := nI 1) hx hb dX2_couples_71 (by decide) ?_
            refine lv_goto (tgt := 76) hx hb dX2_couples_72 (by decide) ?_
            exact hp_zret hx hb hr rfl hlocks hH hS (by decide) (by decide) dX2_couples_76 (⟨congrArg some (congrArg Value.int (zI_1 (by simp [cpl, unB, eum, nI_clamp (show um < 2 ^ 31 by omega), nI_m1 (show um < 2 ^ 31 by omega), c1, c5, c9, c10, c11]))), rfl⟩)
set_option maxHeartbeats 4000000 in
theorem mt_hasCouple (hK0 : va_K D CL (TYS K) s0) {S : Ab} (hO : SOK S) (hM : MOK S I V) {r : Nat} {x : Nat} {y : Nat} (hr0 : r < aRl S) (hx0 : x < aN S) (hy0 : y < aN S) : Met l yX2_hasCouple (ws_ yX2_hasCouple cX2_hasCouple 4 ((Option.some Jvm.ClassFile.FieldType.boolean))) (rmk 2 0 0) (va_Pc [.ref o, .int (nI r), .int (nI x), .int (nI y)] (PB s0 D CL (mset h K wd o I V J))) (QR s0 D CL (fun v h1 => v = some (.int (zI (hasC S r x y))) ∧ h1 = mset h K wd o I V J)) 0 0 (zA s0) := by
  refine hp_met (by decide) (Nat.le_of_ble_eq_true rfl) hK0 ?_
  intro p e s m below meth cd ls hx hb hr hlocks hml hown hnm hts hK hPB hl hS hH hA
  have hl : lv_has ls 4 [(0, .ref o), (1, .int (nI r)), (2, .int (nI x)), (3, .int (nI y))] := hl
  have hown : s.vm.findClass RX2 = some m.cls := hown
  have hn := hO.n
  have hmk := hO.mk
  have hrl := hO.rl
  have hrm := hO.rm
  have hsz := hO.sz
  have hkd := hO.kd hr0
  refine lv_aload_n hx hb dX2_hasCouple_0 rfl (lv_at hl 0 rfl) ?_
  refine lv_iload_n hx hb dX2_hasCouple_1 rfl (lv_at hl 1 rfl) ?_
  refine lv_iload_n hx hb dX2_hasCouple_2 rfl (lv_at hl 2 rfl) ?_
  refine lv_iload_n hx hb dX2_hasCouple_3 rfl (lv_at hl 3 rfl) ?_
  refine hp_callV (As := [.int (nI r), .int (nI x), .int (nI y)]) (rest := []) hx hb hml hown hts hPB hK hH hS (mt_couples hK0 hO hM (r := r) (x := x) (y := y) (by omega) (by omega) (by omega)) mset_o rfl rfl 3 (lw_V q1768 q1770 qs70 q107 q1771) (by decide +kernel) ⟨rfl, rfl⟩ (by decide) rfl hl.1 rfl (Nat.le_of_ble_eq_true rfl) (by decide) dX2_hasCouple_4 (fun v1 h3 H locs hp2 _ hH hS => ?_)
  obtain ⟨rfl, rfl⟩ := hp2
  refine lvB_ne (tgt := 31) hx hb dX2_hasCouple_7 (by decide) (fun c4 => ?_) (fun c4 => ?_)
  · refine lv_iconst (v := nI 1) hx hb dX2_hasCouple_31 (by decide) ?_
    refine lv_goto (tgt := 36) hx hb dX2_hasCouple_32 (by decide) ?_
    exact hp_zret hx hb hr rfl hlocks hH hS (by decide) (by decide) dX2_hasCouple_36 (⟨congrArg some (congrArg Value.int (zI_1 (by simp [hasC, c4]))), rfl⟩)
  · refine lv_aload_n hx hb dX2_hasCouple_10 rfl (lv_at hl 0 rfl) ?_
    refine m_get hx hb hts hown hK hH 9 (by decide) q1461 rfl (v := .ref (o + 11)) rfl dX2_hasCouple_11 ?_
    refine lv_iconst (v := nI 0) hx hb dX2_hasCouple_14 (by decide) ?_
    refine m_rowI (k' := 12) hx hb hK hH (by decide) rfl (by decide) (by decide) rfl dX2_hasCouple_15 ?_
    refine lv_iload_n hx hb dX2_hasCouple_16 rfl (lv_at hl 1 rfl) ?_
    refine m_iald (n := 12) (j := r) (v := nI (aKd S r)) hx hb hK hH (by decide) rfl (by first | omega | (refine Nat.lt_of_lt_of_le (Nat.mod_lt _ ?_) ?_ <;> omega)) (by decide) (hM.kd (by first | omega | (refine Nat.lt_of_lt_of_le (Nat.mod_lt _ ?_) ?_ <;> omega))) dX2_hasCouple_17 ?_
    refine lvZ_eq (tgt := 35) hx hb (by first | omega | (refine Nat.lt_of_lt_of_le (Nat.mod_lt _ ?_) ?_ <;> omega)) dX2_hasCouple_18 (by decide) (fun c5 => ?_) (fun c5 => ?_)
    · refine lv_iconst (v := nI 0) hx hb dX2_hasCouple_35 (by decide) ?_
      exact hp_zret hx hb hr rfl hlocks hH hS (by decide) (by decide) dX2_hasCouple_36 (⟨congrArg some (congrArg Value.int (zI_0 (by simp [hasC, c4, c5]))), rfl⟩)
    · refine lv_aload_n hx hb dX2_hasCouple_21 rfl (lv_at hl 0 rfl) ?_
      refine lv_iload_n hx hb dX2_hasCouple_22 rfl (lv_at hl 1 rfl) ?_
      refine lv_iload_n hx hb dX2_hasCouple_23 rfl (lv_at hl 3 rfl) ?_
      refine lv_iload_n hx hb dX2_hasCouple_24 rfl (lv_at hl 2 rfl) ?_
      refine hp_callV (As := [.int (nI r), .int (nI y), .int (nI x)]) (rest := []) hx hb hml hown hts hPB hK hH hS (mt_couples hK0 hO hM (r := r) (x := y) (y := x) (by omega) (by omega) (by omega)) mset_o rfl rfl 3 (lw_V q1768 q1770 qs70 q107 q1771) (by decide +kernel) ⟨rfl, rfl⟩ (by decide) rfl hl.1 rfl (Nat.le_of_ble_eq_true rfl) (by decide) dX2_hasCouple_25 (fun v6 h8 H locs hp7 _ hH hS => ?_)
      obtain ⟨rfl, rfl⟩ := hp7
      refine lvB_eq (tgt := 35) hx hb dX2_hasCouple_28 (by decide) (fun c9 => ?_) (fun c9 => ?_)
      · refine lv_iconst (v := nI 0) hx hb dX2_hasCouple_35 (by decide) ?_
        exact hp_zret hx hb hr rfl hlocks hH hS (by decide) (by decide) dX2_hasCouple_36 (⟨congrArg some (congrArg Value.int (zI_0 (by simp [hasC, c4, c5, c9]))), rfl⟩)
      · refine lv_iconst (v := nI 1) hx hb dX2_hasCouple_31 (by decide) ?_
        refine lv_goto (tgt := 36) hx hb dX2_hasCouple_32 (by decide) ?_
        exact hp_zret hx hb hr rfl hlocks hH hS (by decide) (by decide) dX2_hasCouple_36 (⟨congrArg some (congrArg Value.int (zI_1 (by simp [hasC, c4, c5, c9]))), rfl⟩)
set_option maxHeartbeats 4000000 in
theorem mt_counts (hK0 : va_K D CL (TYS K) s0) {S : Ab} (hO : SOK S) (hM : MOK S I V) {r : Nat} (hr0 : r < aRl S) (room : Int32) : Met l yX2_counts (ws_ yX2_counts cX2_counts 3 ((Option.some Jvm.ClassFile.FieldType.boolean))) (rmk 0 0 0) (va_Pc [.ref o, .int (nI r), .int room] (PB s0 D CL (mset h K wd o I V J))) (QR s0 D CL (fun v h1 => v = some (.int (zI (cnt S r room))) ∧ h1 = mset h K wd o I V J)) 0 0 (zA s0) := by
  refine hp_met (by decide) (Nat.le_of_ble_eq_true rfl) hK0 ?_
  intro p e s m below meth cd ls hx hb hr hlocks hml hown hnm hts hK hPB hl hS hH hA
  have hl : lv_has ls 3 [(0, .ref o), (1, .int (nI r)), (2, .int room)] := hl
  have hown : s.vm.findClass RX2 = some m.cls := hown
  have hn := hO.n
  have hmk := hO.mk
  have hrl := hO.rl
  have hrm := hO.rm
  have hsz := hO.sz
  refine lv_aload_n hx hb dX2_counts_0 rfl (lv_at hl 0 rfl) ?_
  refine m_get hx hb hts hown hK hH 19 (by decide) q1471 rfl (v := .ref (o + 33)) rfl dX2_counts_1 ?_
  refine lv_iload_n hx hb dX2_counts_4 rfl (lv_at hl 1 rfl) ?_
  refine m_zald (n := 12) (j := r) (v := zI (aRs S r)) hx hb hK hH (by decide) rfl (by first | omega | (refine Nat.lt_of_lt_of_le (Nat.mod_lt _ ?_) ?_ <;> omega)) (by decide) (hM.rs (by first | omega | (refine Nat.lt_of_lt_of_le (Nat.mod_lt _ ?_) ?_ <;> omega))) dX2_counts_5 ?_
  refine lvB_ne (tgt := 37) hx hb dX2_counts_6 (by decide) (fun c1 => ?_) (fun c1 => ?_)
  · refine lv_iconst (v := nI 0) hx hb dX2_counts_37 (by decide) ?_
    exact hp_zret hx hb hr rfl hlocks hH hS (by decide) (by decide) dX2_counts_38 (⟨congrArg some (congrArg Value.int (zI_0 (by simp [cnt, c1]))), rfl⟩)
  · refine lv_aload_n hx hb dX2_counts_9 rfl (lv_at hl 0 rfl) ?_
    refine m_get hx hb hts hown hK hH 13 (by decide) q1465 rfl (v := .ref (o + 23)) rfl dX2_counts_10 ?_
    refine lv_iconst (v := nI 0) hx hb dX2_counts_13 (by decide) ?_
    refine m_rowI (k' := 24) hx hb hK hH (by decide) rfl (by decide) (by decide) rfl dX2_counts_14 ?_
    refine lv_iload_n hx hb dX2_counts_15 rfl (lv_at hl 1 rfl) ?_
    refine m_iald (n := 12) (j := r) (v := aTl S r) hx hb hK hH (by decide) rfl (by first | omega | (refine Nat.lt_of_lt_of_le (Nat.mod_lt _ ?_) ?_ <;> omega)) (by decide) (hM.tl (by first | omega | (refine Nat.lt_of_lt_of_le (Nat.mod_lt _ ?_) ?_ <;> omega))) dX2_counts_16 ?_
    refine lv_iconst (v := (-1)) hx hb dX2_counts_17 (by decide) ?_
    refine lv_icmp_eq (tgt := 33) hx hb dX2_counts_18 (by decide) (fun c2 => ?_) (fun c2 => ?_)
    · refine lv_iconst (v := nI 1) hx hb dX2_counts_33 (by decide) ?_
      refine lv_goto (tgt := 38) hx hb dX2_counts_34 (by decide) ?_
      exact hp_zret hx hb hr rfl hlocks hH hS (by decide) (by decide) dX2_counts_38 (⟨congrArg some (congrArg Value.int (zI_1 (by simp [cnt, c1, c2]))), rfl⟩)
    · refine lv_aload_n hx hb dX2_counts_21 rfl (lv_at hl 0 rfl) ?_
      refine m_get hx hb hts hown hK hH 13 (by decide) q1465 rfl (v := .ref (o + 23)) rfl dX2_counts_22 ?_
      refine lv_iconst (v := nI 0) hx hb dX2_counts_25 (by decide) ?_
      refine m_rowI (k' := 24) hx hb hK hH (by decide) rfl (by decide) (by decide) rfl dX2_counts_26 ?_
      refine lv_iload_n hx hb dX2_counts_27 rfl (lv_at hl 1 rfl) ?_
      refine m_iald (n := 12) (j := r) (v := aTl S r) hx hb hK hH (by decide) rfl (by first | omega | (refine Nat.lt_of_lt_of_le (Nat.mod_lt _ ?_) ?_ <;> omega)) (by decide) (hM.tl (by first | omega | (refine Nat.lt_of_lt_of_le (Nat.mod_lt _ ?_) ?_ <;> omega))) dX2_counts_28 ?_
      refine lv_iload_n hx hb dX2_counts_29 rfl (lv_at hl 2 rfl) ?_
      refine lv_icmp_ne (tgt := 37) hx hb dX2_counts_30 (by decide) (fun c3 => ?_) (fun c3 => ?_)
      · refine lv_iconst (v := nI 0) hx hb dX2_counts_37 (by decide) ?_
        exact hp_zret hx hb hr rfl hlocks hH hS (by decide) (by decide) dX2_counts_38 (⟨congrArg some (congrArg Value.int (zI_0 (by simp [cnt, c1, c2, c3]))), rfl⟩)
      · refine lv_iconst (v := nI 1) hx hb dX2_counts_33 (by decide) ?_
        refine lv_goto (tgt := 38) hx hb dX2_counts_34 (by decide) ?_
        exact hp_zret hx hb hr rfl hlocks hH hS (by decide) (by decide) dX2_counts_38 (⟨congrArg some (congrArg Value.int (zI_1 (by simp [cnt, c1, c2, c3]))), rfl⟩)
set_option maxHeartbeats 4000000 in
theorem mt_countsFor (hK0 : va_K D CL (TYS K) s0) {S : Ab} (hO : SOK S) (hM : MOK S I V) {r : Nat} {x : Nat} {y : Nat} (hr0 : r < aRl S) (hx0 : x < aN S) (hy0 : y < aN S) (room : Int32) : Met l yX2_countsFor (ws_ yX2_countsFor cX2_countsFor 5 ((Option.some Jvm.ClassFile.FieldType.boolean))) (rmk 3 0 0) (va_Pc [.ref o, .int (nI r), .int room, .int (nI x), .int (nI y)] (PB s0 D CL (mset h K wd o I V J))) (QR s0 D CL (fun v h1 => v = some (.int (zI (cntF S r room x y))) ∧ h1 = mset h K wd o I V J)) 0 0 (zA s0) := by
  refine hp_met (by decide) (Nat.le_of_ble_eq_true rfl) hK0 ?_
  intro p e s m below meth cd ls hx hb hr hlocks hml hown hnm hts hK hPB hl hS hH hA
  have hl : lv_has ls 5 [(0, .ref o), (1, .int (nI r)), (2, .int room), (3, .int (nI x)), (4, .int (nI y))] := hl
  have hown : s.vm.findClass RX2 = some m.cls := hown
  have hn := hO.n
  have hmk := hO.mk
  have hrl := hO.rl
  have hrm := hO.rm
  have hsz := hO.sz
  refine lv_aload_n hx hb dX2_countsFor_0 rfl (lv_at hl 0 rfl) ?_
  refine lv_iload_n hx hb dX2_countsFor_1 rfl (lv_at hl 1 rfl) ?_
  refine lv_iload_n hx hb dX2_countsFor_2 rfl (lv_at hl 2 rfl) ?_
  refine hp_callV (As := [.int (nI r), .int room]) (rest := []) hx hb hml hown hts hPB hK hH hS (mt_counts hK0 hO hM (r := r) (by omega) room) mset_o rfl rfl 2 (lw_V q1826 q1828 qs77 q107 q1829) (by decide +kernel) ⟨rfl, rfl⟩ (by decide) rfl hl.1 rfl (Nat.le_of_ble_eq_true rfl) (by decide) dX2_countsFor_3 (fun v1 h3 H locs hp2 _ hH hS => ?_)
  obtain ⟨rfl, rfl⟩ := hp2
  refine lvB_eq (tgt := 43) hx hb dX2_countsFor_6 (by decide) (fun c4 => ?_) (fun c4 => ?_)
  · refine lv_iconst (v := nI 0) hx hb dX2_countsFor_43 (by decide) ?_
    exact hp_zret hx hb hr rfl hlocks hH hS (by decide) (by decide) dX2_countsFor_44 (⟨congrArg some (congrArg Value.int (zI_0 (by simp [cntF, c4]))), rfl⟩)
  · refine lv_aload_n hx hb dX2_countsFor_9 rfl (lv_at hl 0 rfl) ?_
    refine m_get hx hb hts hown hK hH 20 (by decide) q1472 rfl (v := .ref (o + 34)) rfl dX2_countsFor_10 ?_
    refine lv_iload_n hx hb dX2_countsFor_13 rfl (lv_at hl 3 rfl) ?_
    refine m_zald (n := 10) (j := x) (v := zI (aCm S x)) hx hb hK hH (by decide) rfl (by first | omega | (refine Nat.lt_of_lt_of_le (Nat.mod_lt _ ?_) ?_ <;> omega)) (by decide) (hM.cm (by first | omega | (refine Nat.lt_of_lt_of_le (Nat.mod_lt _ ?_) ?_ <;> omega))) dX2_countsFor_14 ?_
    refine lvB_eq (tgt := 43) hx hb dX2_countsFor_15 (by decide) (fun c5 => ?_) (fun c5 => ?_)
    · refine lv_iconst (v := nI 0) hx hb dX2_countsFor_43 (by decide) ?_
      exact hp_zret hx hb hr rfl hlocks hH hS (by decide) (by decide) dX2_countsFor_44 (⟨congrArg some (congrArg Value.int (zI_0 (by simp [cntF, c4, c5]))), rfl⟩)
    · refine lv_aload_n hx hb dX2_countsFor_18 rfl (lv_at hl 0 rfl) ?_
      refine m_get hx hb hts hown hK hH 20 (by decide) q1472 rfl (v := .ref (o + 34)) rfl dX2_countsFor_19 ?_
      refine lv_iload hx hb dX2_countsFor_22 (lv_at hl 4 rfl) ?_
      refine m_zald (n := 10) (j := y) (v := zI (aCm S y)) hx hb hK hH (by decide) rfl (by first | omega | (refine Nat.lt_of_lt_of_le (Nat.mod_lt _ ?_) ?_ <;> omega)) (by decide) (hM.cm (by first | omega | (refine Nat.lt_of_lt_of_le (Nat.mod_lt _ ?_) ?_ <;> omega))) dX2_countsFor_24 ?_
      refine lvB_eq (tgt := 43) hx hb dX2_countsFor_25 (by decide) (fun c6 => ?_) (fun c6 => ?_)
      · refine lv_iconst (v := nI 0) hx hb dX2_countsFor_43 (by decide) ?_
        exact hp_zret hx hb hr rfl hlocks hH hS (by decide) (by decide) dX2_countsFor_44 (⟨congrArg some (congrArg Value.int (zI_0 (by simp [cntF, c4, c5, c6]))), rfl⟩)
      · refine lv_aload_n hx hb dX2_countsFor_28 rfl (lv_at hl 0 rfl) ?_
        refine lv_iload_n hx hb dX2_countsFor_29 rfl (lv_at hl 1 rfl) ?_
        refine lv_iload_n hx hb dX2_countsFor_30 rfl (lv_at hl 3 rfl) ?_
        refine lv_iload hx hb dX2_countsFor_31 (lv_at hl 4 rfl) ?_
        refine hp_callV (As := [.int (nI r), .int (nI x), .int (nI y)]) (rest := []) hx hb hml hown hts hPB hK hH hS (mt_hasCouple hK0 hO hM (r := r) (x := x) (y := y) (by omega) (by omega) (by omega)) mset_o rfl rfl 3 (lw_V q1764 q1766 qs69 q107 q1767) (by decide +kernel) ⟨rfl, rfl⟩ (by decide) rfl hl.1 rfl (Nat.le_of_ble_eq_true rfl) (by decide) dX2_countsFor_33 (fun v7 h9 H locs hp8 _ hH hS => ?_)
        obtain ⟨rfl, rfl⟩ := hp8
        refine lvB_eq (tgt := 43) hx hb dX2_countsFor_36 (by decide) (fun c10 => ?_) (fun c10 => ?_)
        · refine lv_iconst (v := nI 0) hx hb dX2_countsFor_43 (by decide) ?_
          exact hp_zret hx hb hr rfl hlocks hH hS (by decide) (by decide) dX2_countsFor_44 (⟨congrArg some (congrArg Value.int (zI_0 (by simp [cntF, c4, c5, c6, c10]))), rfl⟩)
        · refine lv_iconst (v := nI 1) hx hb dX2_countsFor_39 (by decide) ?_
          refine lv_goto (tgt := 44) hx hb dX2_countsFor_40 (by decide) ?_
          exact hp_zret hx hb hr rfl hlocks hH hS (by decide) (by decide) dX2_countsFor_44 (⟨congrArg some (congrArg Value.int (zI_1 (by simp [cntF, c4, c5, c6, c10]))), rfl⟩)
set_option maxHeartbeats 4000000 in
theorem mt_high (hK0 : va_K D CL (TYS K) s0) {S : Ab} (hO : SOK S) (hM : MOK S I V) {q c : Nat} {a : Nat} {b : Nat} (hq : q < aRm S) (ha0 : a < 10) (hb0 : b < 10) (hc0 : c < 10) : Met l yX2_high (ws_ yX2_high cX2_high 6 ((Option.some Jvm.ClassFile.FieldType.int))) (rmk 0 0 0) (va_Pc [.ref o, .int (nI q), .int (nI c), .int (nI a), .int (nI b)] (PB s0 D CL (mset h K wd o I V J))) (QR s0 D CL (fun v h1 => v = some (.int (hgh S q c a b)) ∧ h1 = mset h K wd o I V J)) 0 0 (zA s0) := by
  refine hp_met (by decide) (Nat.le_of_ble_eq_true rfl) hK0 ?_
  intro p e s m below meth cd ls hx hb hr hlocks hml hown hnm hts hK hPB hl hS hH hA
  have hl : lv_has ls 6 [(0, .ref o), (1, .int (nI q)), (2, .int (nI c)), (3, .int (nI a)), (4, .int (nI b))] := hl
  have hown : s.vm.findClass RX2 = some m.cls := hown
  have hn := hO.n
  have hmk := hO.mk
  have hrl := hO.rl
  have hrm := hO.rm
  have hsz := hO.sz
  have hrk := hO.rk hq
  have hrp := hO.rp hq
  refine lv_iload_n hx hb dX2_high_0 rfl (lv_at hl 3 rfl) ?_
  refine lv_iload hx hb dX2_high_1 (lv_at hl 4 rfl) ?_
  refine lvN_ne (tgt := 8) hx hb (by first | omega | (refine Nat.lt_of_lt_of_le (Nat.mod_lt _ ?_) ?_ <;> omega)) (by first | omega | (refine Nat.lt_of_lt_of_le (Nat.mod_lt _ ?_) ?_ <;> omega)) dX2_high_3 (by decide) (fun c1 => ?_) (fun c1 => ?_)
  · refine lv_aload_n hx hb dX2_high_8 rfl (lv_at hl 0 rfl) ?_
    refine m_get hx hb hts hown hK hH 25 (by decide) q1477 rfl (v := .ref (o + 39)) rfl dX2_high_9 ?_
    refine lv_iload_n hx hb dX2_high_12 rfl (lv_at hl 1 rfl) ?_
    refine m_iald (n := 4) (j := q) (v := nI (aRp S q)) hx hb hK hH (by decide) rfl (by first | omega | (refine Nat.lt_of_lt_of_le (Nat.mod_lt _ ?_) ?_ <;> omega)) (by decide) (hM.rp (by first | omega | (refine Nat.lt_of_lt_of_le (Nat.mod_lt _ ?_) ?_ <;> omega))) dX2_high_13 ?_
    refine lv_istore (lv' := [(5, .int (nI (aRp S q))), (0, .ref o), (1, .int (nI q)), (2, .int (nI c)), (3, .int (nI a)), (4, .int (nI b))]) hx hb dX2_high_14 hl (by decide) rfl (fun ls hl => ?_)
    refine lv_aload_n hx hb dX2_high_16 rfl (lv_at hl 1 rfl) ?_
    refine m_get hx hb hts hown hK hH 24 (by decide) q1476 rfl (v := .ref (o + 38)) rfl dX2_high_17 ?_
    refine lv_iload_n hx hb dX2_high_20 rfl (lv_at hl 2 rfl) ?_
    refine m_iald (n := 4) (j := q) (v := nI (aRk S q)) hx hb hK hH (by decide) rfl (by first | omega | (refine Nat.lt_of_lt_of_le (Nat.mod_lt _ ?_) ?_ <;> omega)) (by decide) (hM.rk (by first | omega | (refine Nat.lt_of_lt_of_le (Nat.mod_lt _ ?_) ?_ <;> omega))) dX2_high_21 ?_
    by_cases w2 : aRk S q = 0
    · refine lv_tableIn (tgt := 52) hx hb dX2_high_22 (by rw [w2]; decide) (by rw [w2]; decide) (by rw [w2]; rfl) (by decide) ?_
      refine lv_iload_n hx hb dX2_high_52 rfl (lv_at hl 4 rfl) ?_
      refine lv_iload hx hb dX2_high_53 (lv_at hl 5 rfl) ?_
      refine lvN_ge (tgt := 62) hx hb (by first | omega | (refine Nat.lt_of_lt_of_le (Nat.mod_lt _ ?_) ?_ <;> omega)) (by first | omega | (refine Nat.lt_of_lt_of_le (Nat.mod_lt _ ?_) ?_ <;> omega)) dX2_high_55 (by decide) (fun c3 => ?_) (fun c3 => ?_)
      · refine lv_iconst (v := nI 2) hx hb dX2_high_62 (by decide) ?_
        exact hp_iret hx hb hr hlocks hH hS (by decide) (by decide) dX2_high_63 (⟨congrArg some (congrArg Value.int (by simp [hgh, c1, w2, c3, Nat.not_lt.mpr c3])), rfl⟩)
      · refine lv_iconst (v := nI 1) hx hb dX2_high_58 (by decide) ?_
        refine lv_goto (tgt := 63) hx hb dX2_high_59 (by decide) ?_
        exact hp_iret hx hb hr hlocks hH hS (by decide) (by decide) dX2_high_63 (⟨congrArg some (congrArg Value.int (by simp [hgh, c1, w2, c3, Nat.not_le.mpr c3])), rfl⟩)
    by_cases w4 : aRk S q = 1
    · refine lv_tableIn (tgt := 64) hx hb dX2_high_22 (by rw [w4]; decide) (by rw [w4]; decide) (by rw [w4]; rfl) (by decide) ?_
      refine lv_iload_n hx hb dX2_high_64 rfl (lv_at hl 4 rfl) ?_
      refine lv_iconst (v := nI 2) hx hb dX2_high_65 (by decide) ?_
      refine lv_idiv hx hb dX2_high_66 (nI_ne0 (by first | omega | (refine Nat.lt_of_lt_of_le (Nat.mod_lt _ ?_) ?_ <;> omega)) (by first | omega | (refine Nat.lt_of_lt_of_le (Nat.mod_lt _ ?_) ?_ <;> omega))) ?_
      refine lv_top (y := nI (a / 2)) (pk_div (by first | omega | (refine Nat.lt_of_lt_of_le (Nat.mod_lt _ ?_) ?_ <;> omega)) (by first | omega | (refine Nat.lt_of_lt_of_le (Nat.mod_lt _ ?_) ?_ <;> omega)) (by first | omega | (refine Nat.lt_of_lt_of_le (Nat.mod_lt _ ?_) ?_ <;> omega))) ?_
      refine lv_iload hx hb dX2_high_67 (lv_at hl 5 rfl) ?_
      refine lv_iconst (v := nI 2) hx hb dX2_high_69 (by decide) ?_
      refine lv_idiv hx hb dX2_high_70 (nI_ne0 (by first | omega | (refine Nat.lt_of_lt_of_le (Nat.mod_lt _ ?_) ?_ <;> omega)) (by first | omega | (refine Nat.lt_of_lt_of_le (Nat.mod_lt _ ?_) ?_ <;> omega))) ?_
      refine lv_top (y := nI (b / 2)) (pk_div (by first | omega | (refine Nat.lt_of_lt_of_le (Nat.mod_lt _ ?_) ?_ <;> omega)) (by first | omega | (refine Nat.lt_of_lt_of_le (Nat.mod_lt _ ?_) ?_ <;> omega)) (by first | omega | (refine Nat.lt_of_lt_of_le (Nat.mod_lt _ ?_) ?_ <;> omega))) ?_
      refine lvN_ne (tgt := 78) hx hb (by first | omega | (refine Nat.lt_of_lt_of_le (Nat.mod_lt _ ?_) ?_ <;> omega)) (by first | omega | (refine Nat.lt_of_lt_of_le (Nat.mod_lt _ ?_) ?_ <;> omega)) dX2_high_71 (by decide) (fun c5 => ?_) (fun c5 => ?_)
      · refine lv_iload_n hx hb dX2_high_78 rfl (lv_at hl 4 rfl) ?_
        refine lv_iload hx hb dX2_high_79 (lv_at hl 5 rfl) ?_
        refine lvN_ge (tgt := 88) hx hb (by first | omega | (refine Nat.lt_of_lt_of_le (Nat.mod_lt _ ?_) ?_ <;> omega)) (by first | omega | (refine Nat.lt_of_lt_of_le (Nat.mod_lt _ ?_) ?_ <;> omega)) dX2_high_81 (by decide) (fun c6 => ?_) (fun c6 => ?_)
        · refine lv_iconst (v := nI 2) hx hb dX2_high_88 (by decide) ?_
          exact hp_iret hx hb hr hlocks hH hS (by decide) (by decide) dX2_high_89 (⟨congrArg some (congrArg Value.int (by simp [hgh, c1, w4, c5, c6, Nat.not_lt.mpr c6])), rfl⟩)
        · refine lv_iconst (v := nI 1) hx hb dX2_high_84 (by decide) ?_
          refine lv_goto (tgt := 89) hx hb dX2_high_85 (by decide) ?_
          exact hp_iret hx hb hr hlocks hH hS (by decide) (by decide) dX2_high_89 (⟨congrArg some (congrArg Value.int (by simp [hgh, c1, w4, c5, c6, Nat.not_le.mpr c6])), rfl⟩)
      · refine lv_iconst (v := (-1)) hx hb dX2_high_74 (by decide) ?_
        refine lv_goto (tgt := 89) hx hb dX2_high_75 (by decide) ?_
        exact hp_iret hx hb hr hlocks hH hS (by decide) (by decide) dX2_high_89 (⟨congrArg some (congrArg Value.int (by first | (simp [hgh, c1, w4, c5]; done) | (simp [hgh, c1, w4]; omega))), rfl⟩)
    by_cases w7 : aRk S q = 2
    · refine lv_tableIn (tgt := 90) hx hb dX2_high_22 (by rw [w7]; decide) (by rw [w7]; decide) (by rw [w7]; rfl) (by decide) ?_
      refine lv_iconst (v := (-1)) hx hb dX2_high_90 (by decide) ?_
      exact hp_iret hx hb hr hlocks hH hS (by decide) (by decide) dX2_high_91 (⟨congrArg some (congrArg Value.int (by simp [hgh, c1, w7])), rfl⟩)
    by_cases w8 : aRk S q = 3
    · refine lv_tableIn (tgt := 92) hx hb dX2_high_22 (by rw [w8]; decide) (by rw [w8]; decide) (by rw [w8]; rfl) (by decide) ?_
      refine lv_iload_n hx hb dX2_high_92 rfl (lv_at hl 4 rfl) ?_
      refine lv_iconst (v := nI 2) hx hb dX2_high_93 (by decide) ?_
      refine lv_idiv hx hb dX2_high_94 (nI_ne0 (by first | omega | (refine Nat.lt_of_lt_of_le (Nat.mod_lt _ ?_) ?_ <;> omega)) (by first | omega | (refine Nat.lt_of_lt_of_le (Nat.mod_lt _ ?_) ?_ <;> omega))) ?_
      refine lv_top (y := nI (a / 2)) (pk_div (by first | omega | (refine Nat.lt_of_lt_of_le (Nat.mod_lt _ ?_) ?_ <;> omega)) (by first | omega | (refine Nat.lt_of_lt_of_le (Nat.mod_lt _ ?_) ?_ <;> omega)) (by first | omega | (refine Nat.lt_of_lt_of_le (Nat.mod_lt _ ?_) ?_ <;> omega))) ?_
      refine lv_iload hx hb dX2_high_95 (lv_at hl 5 rfl) ?_
      refine lv_iconst (v := nI 2) hx hb dX2_high_97 (by decide) ?_
      refine lv_idiv hx hb dX2_high_98 (nI_ne0 (by first | omega | (refine Nat.lt_of_lt_of_le (Nat.mod_lt _ ?_) ?_ <;> omega)) (by first | omega | (refine Nat.lt_of_lt_of_le (Nat.mod_lt _ ?_) ?_ <;> omega))) ?_
      refine lv_top (y := nI (b / 2)) (pk_div (by first | omega | (refine Nat.lt_of_lt_of_le (Nat.mod_lt _ ?_) ?_ <;> omega)) (by first | omega | (refine Nat.lt_of_lt_of_le (Nat.mod_lt _ ?_) ?_ <;> omega)) (by first | omega | (refine Nat.lt_of_lt_of_le (Nat.mod_lt _ ?_) ?_ <;> omega))) ?_
      refine lvN_ne (tgt := 106) hx hb (by first | omega | (refine Nat.lt_of_lt_of_le (Nat.mod_lt _ ?_) ?_ <;> omega)) (by first | omega | (refine Nat.lt_of_lt_of_le (Nat.mod_lt _ ?_) ?_ <;> omega)) dX2_high_99 (by decide) (fun c9 => ?_) (fun c9 => ?_)
      · refine lv_iload_n hx hb dX2_high_106 rfl (lv_at hl 4 rfl) ?_
        refine lv_iload hx hb dX2_high_107 (lv_at hl 5 rfl) ?_
        refine lvN_ge (tgt := 116) hx hb (by first | omega | (refine Nat.lt_of_lt_of_le (Nat.mod_lt _ ?_) ?_ <;> omega)) (by first | omega | (refine Nat.lt_of_lt_of_le (Nat.mod_lt _ ?_) ?_ <;> omega)) dX2_high_109 (by decide) (fun c10 => ?_) (fun c10 => ?_)
        · refine lv_iconst (v := nI 2) hx hb dX2_high_116 (by decide) ?_
          exact hp_iret hx hb hr hlocks hH hS (by decide) (by decide) dX2_high_117 (⟨congrArg some (congrArg Value.int (by simp [hgh, c1, w8, c9, c10, Nat.not_lt.mpr c10])), rfl⟩)
        · refine lv_iconst (v := nI 1) hx hb dX2_high_112 (by decide) ?_
          refine lv_goto (tgt := 117) hx hb dX2_high_113 (by decide) ?_
          exact hp_iret hx hb hr hlocks hH hS (by decide) (by decide) dX2_high_117 (⟨congrArg some (congrArg Value.int (by simp [hgh, c1, w8, c9, c10, Nat.not_le.mpr c10])), rfl⟩)
      · refine lv_iconst (v := nI 0) hx hb dX2_high_102 (by decide) ?_
        refine lv_goto (tgt := 117) hx hb dX2_high_103 (by decide) ?_
        exact hp_iret hx hb hr hlocks hH hS (by decide) (by decide) dX2_high_117 (⟨congrArg some (congrArg Value.int (by first | (simp [hgh, c1, w8, c9]; done) | (simp [hgh, c1, w8]; omega))), rfl⟩)
    refine lv_tableOut (tgt := 118) hx hb dX2_high_22 (by rw [nI_toInt (by first | omega | (refine Nat.lt_of_lt_of_le (Nat.mod_lt _ ?_) ?_ <;> omega))]; omega) (by decide) ?_
    refine lv_iload_n hx hb dX2_high_118 rfl (lv_at hl 4 rfl) ?_
    refine lv_iload_n hx hb dX2_high_119 rfl (lv_at hl 3 rfl) ?_
    refine lv_iadd hx hb dX2_high_120 ?_
    refine lv_top (y := nI (a + c)) (nI_add _ _) ?_
    refine lv_iload hx hb dX2_high_121 (lv_at hl 0 rfl) ?_
    refine lv_irem hx hb dX2_high_123 (nI_ne0 (by first | omega | (refine Nat.lt_of_lt_of_le (Nat.mod_lt _ ?_) ?_ <;> omega)) (by first | omega | (refine Nat.lt_of_lt_of_le (Nat.mod_lt _ ?_) ?_ <;> omega))) ?_
    refine lv_top (y := nI ((a + c) % (aRp S q))) (pk_rem (by first | omega | (refine Nat.lt_of_lt_of_le (Nat.mod_lt _ ?_) ?_ <;> omega)) (by first | omega | (refine Nat.lt_of_lt_of_le (Nat.mod_lt _ ?_) ?_ <;> omega)) (by first | omega | (refine Nat.lt_of_lt_of_le (Nat.mod_lt _ ?_) ?_ <;> omega))) ?_
    refine lv_iload hx hb dX2_high_124 (lv_at hl 5 rfl) ?_
    refine lv_iload_n hx hb dX2_high_126 rfl (lv_at hl 3 rfl) ?_
    refine lv_iadd hx hb dX2_high_127 ?_
    refine lv_top (y := nI (b + c)) (nI_add _ _) ?_
    refine lv_iload hx hb dX2_high_128 (lv_at hl 0 rfl) ?_
    refine lv_irem hx hb dX2_high_130 (nI_ne0 (by first | omega | (refine Nat.lt_of_lt_of_le (Nat.mod_lt _ ?_) ?_ <;> omega)) (by first | omega | (refine Nat.lt_of_lt_of_le (Nat.mod_lt _ ?_) ?_ <;> omega))) ?_
    refine lv_top (y := nI ((b + c) % (aRp S q))) (pk_rem (by first | omega | (refine Nat.lt_of_lt_of_le (Nat.mod_lt _ ?_) ?_ <;> omega)) (by first | omega | (refine Nat.lt_of_lt_of_le (Nat.mod_lt _ ?_) ?_ <;> omega)) (by first | omega | (refine Nat.lt_of_lt_of_le (Nat.mod_lt _ ?_) ?_ <;> omega))) ?_
    refine lvN_ge (tgt := 138) hx hb (by first | omega | (refine Nat.lt_of_lt_of_le (Nat.mod_lt _ ?_) ?_ <;> omega)) (by first | omega | (refine Nat.lt_of_lt_of_le (Nat.mod_lt _ ?_) ?_ <;> omega)) dX2_high_131 (by decide) (fun c11 => ?_) (fun c11 => ?_)
    · refine lv_iconst (v := nI 2) hx hb dX2_high_138 (by decide) ?_
      exact hp_iret hx hb hr hlocks hH hS (by decide) (by decide) dX2_high_139 (⟨congrArg some (congrArg Value.int (by simp [hgh, c1, w2, w4, w7, w8, c11, Nat.not_lt.mpr c11])), rfl⟩)
    · refine lv_iconst (v := nI 1) hx hb dX2_high_134 (by decide) ?_
      refine lv_goto (tgt := 139) hx hb dX2_high_135 (by decide) ?_
      exact hp_iret hx hb hr hlocks hH hS (by decide) (by decide) dX2_high_139 (⟨congrArg some (congrArg Value.int (by simp [hgh, c1, w2, w4, w7, w8, c11, Nat.not_le.mpr c11])), rfl⟩)
  · refine lv_iconst (v := nI 0) hx hb dX2_high_6 (by decide) ?_
    exact hp_iret hx hb hr hlocks hH hS (by decide) (by decide) dX2_high_7 (⟨congrArg some (congrArg Value.int (by first | (simp [hgh, c1]; done) | (simp [hgh]; omega))), rfl⟩)
set_option maxHeartbeats 4000000 in
theorem mt_beside (hK0 : va_K D CL (TYS K) s0) {S : Ab} (hO : SOK S) (hM : MOK S I V) {q : Nat} {a : Nat} {b : Nat} (hq : q < aRm S) (ha0 : a < 10) (hb0 : b < 10) : Met l yX2_beside (ws_ yX2_beside cX2_beside 6 ((Option.some Jvm.ClassFile.FieldType.boolean))) (rmk 1 0 0) (va_Pc [.ref o, .int (nI q), .int (nI a), .int (nI b)] (PB s0 D CL (mset h K wd o I V J))) (QR s0 D CL (fun v h1 => v = some (.int (zI (bes S q a b))) ∧ h1 = mset h K wd o I V J)) 0 0 (zA s0) := by
  refine hp_met (by decide) (Nat.le_of_ble_eq_true rfl) hK0 ?_
  intro p e s m below meth cd ls hx hb hr hlocks hml hown hnm hts hK hPB hl hS hH hA
  have hl : lv_has ls 6 [(0, .ref o), (1, .int (nI q)), (2, .int (nI a)), (3, .int (nI b))] := hl
  have hown : s.vm.findClass RX2 = some m.cls := hown
  have hn := hO.n
  have hmk := hO.mk
  have hrl := hO.rl
  have hrm := hO.rm
  have hsz := hO.sz
  have hrk := hO.rk hq
  have hrp := hO.rp hq
  have had : adist a b < 20 := by unfold adist; omega
  refine lv_aload_n hx hb dX2_beside_0 rfl (lv_at hl 0 rfl) ?_
  refine m_get hx hb hts hown hK hH 25 (by decide) q1477 rfl (v := .ref (o + 39)) rfl dX2_beside_1 ?_
  refine lv_iload_n hx hb dX2_beside_4 rfl (lv_at hl 1 rfl) ?_
  refine m_iald (n := 4) (j := q) (v := nI (aRp S q)) hx hb hK hH (by decide) rfl (by first | omega | (refine Nat.lt_of_lt_of_le (Nat.mod_lt _ ?_) ?_ <;> omega)) (by decide) (hM.rp (by first | omega | (refine Nat.lt_of_lt_of_le (Nat.mod_lt _ ?_) ?_ <;> omega))) dX2_beside_5 ?_
  refine lv_istore (lv' := [(4, .int (nI (aRp S q))), (0, .ref o), (1, .int (nI q)), (2, .int (nI a)), (3, .int (nI b))]) hx hb dX2_beside_6 hl (by decide) rfl (fun ls hl => ?_)
  refine lv_iload_n hx hb dX2_beside_8 rfl (lv_at hl 3 rfl) ?_
  refine lv_iload_n hx hb dX2_beside_9 rfl (lv_at hl 4 rfl) ?_
  refine lv_isub hx hb dX2_beside_10 ?_
  refine va_mabs hx hb (hml.trans hl.1.symm) hown (hts _ q1838) (hts _ q1041) (hts _ q114) (hts _ q1042) (Nat.le_of_ble_eq_true rfl) (Nat.le_of_ble_eq_true rfl) (Nat.le_of_ble_eq_true rfl) (Nat.le_of_ble_eq_true rfl) dX2_beside_11 ?_
  refine lv_top (y := nI (adist a b)) (i_abs_d (by omega) (by omega)) ?_
  refine lv_istore (lv' := [(5, .int (nI (adist a b))), (4, .int (nI (aRp S q))), (0, .ref o), (1, .int (nI q)), (2, .int (nI a)), (3, .int (nI b))]) hx hb dX2_beside_14 hl (by decide) rfl (fun ls hl => ?_)
  refine lv_aload_n hx hb dX2_beside_16 rfl (lv_at hl 2 rfl) ?_
  refine m_get hx hb hts hown hK hH 24 (by decide) q1476 rfl (v := .ref (o + 38)) rfl dX2_beside_17 ?_
  refine lv_iload_n hx hb dX2_beside_20 rfl (lv_at hl 3 rfl) ?_
  refine m_iald (n := 4) (j := q) (v := nI (aRk S q)) hx hb hK hH (by decide) rfl (by first | omega | (refine Nat.lt_of_lt_of_le (Nat.mod_lt _ ?_) ?_ <;> omega)) (by decide) (hM.rk (by first | omega | (refine Nat.lt_of_lt_of_le (Nat.mod_lt _ ?_) ?_ <;> omega))) dX2_beside_21 ?_
  by_cases w1 : aRk S q = 1
  · refine lv_tableIn (tgt := 48) hx hb dX2_beside_22 (by rw [w1]; decide) (by rw [w1]; decide) (by rw [w1]; rfl) (by decide) ?_
    refine lv_iload hx hb dX2_beside_48 (lv_at hl 0 rfl) ?_
    refine lv_iconst (v := nI 2) hx hb dX2_beside_50 (by decide) ?_
    refine lvN_ne (tgt := 58) hx hb (by first | omega | (refine Nat.lt_of_lt_of_le (Nat.mod_lt _ ?_) ?_ <;> omega)) (by first | omega | (refine Nat.lt_of_lt_of_le (Nat.mod_lt _ ?_) ?_ <;> omega)) dX2_beside_51 (by decide) (fun c2 => ?_) (fun c2 => ?_)
    · refine lv_iconst (v := nI 0) hx hb dX2_beside_58 (by decide) ?_
      exact hp_zret hx hb hr rfl hlocks hH hS (by decide) (by decide) dX2_beside_59 (⟨congrArg some (congrArg Value.int (zI_0 (by simp [bes, w1, c2]))), rfl⟩)
    · refine lv_iconst (v := nI 1) hx hb dX2_beside_54 (by decide) ?_
      refine lv_goto (tgt := 59) hx hb dX2_beside_55 (by decide) ?_
      exact hp_zret hx hb hr rfl hlocks hH hS (by decide) (by decide) dX2_beside_59 (⟨congrArg some (congrArg Value.int (zI_1 (by first | (simp [bes, w1, c2]; done) | (simp [bes, w1]; omega)))), rfl⟩)
  by_cases w3 : aRk S q = 2
  · refine lv_tableIn (tgt := 60) hx hb dX2_beside_22 (by rw [w3]; decide) (by rw [w3]; decide) (by rw [w3]; rfl) (by decide) ?_
    refine lv_iload hx hb dX2_beside_60 (lv_at hl 0 rfl) ?_
    refine lvZ_le (tgt := 84) hx hb (by first | omega | (refine Nat.lt_of_lt_of_le (Nat.mod_lt _ ?_) ?_ <;> omega)) dX2_beside_62 (by decide) (fun c4 => ?_) (fun c4 => ?_)
    · refine lv_iconst (v := nI 0) hx hb dX2_beside_84 (by decide) ?_
      exact hp_zret hx hb hr rfl hlocks hH hS (by decide) (by decide) dX2_beside_85 (⟨congrArg some (congrArg Value.int (zI_0 (by simp [bes, w3, c4]))), rfl⟩)
    · refine lv_iload hx hb dX2_beside_65 (lv_at hl 0 rfl) ?_
      refine lv_iconst (v := nI 1) hx hb dX2_beside_67 (by decide) ?_
      refine lvN_eq (tgt := 80) hx hb (by first | omega | (refine Nat.lt_of_lt_of_le (Nat.mod_lt _ ?_) ?_ <;> omega)) (by first | omega | (refine Nat.lt_of_lt_of_le (Nat.mod_lt _ ?_) ?_ <;> omega)) dX2_beside_68 (by decide) (fun c5 => ?_) (fun c5 => ?_)
      · refine lv_iconst (v := nI 1) hx hb dX2_beside_80 (by decide) ?_
        refine lv_goto (tgt := 85) hx hb dX2_beside_81 (by decide) ?_
        exact hp_zret hx hb hr rfl hlocks hH hS (by decide) (by decide) dX2_beside_85 (⟨congrArg some (congrArg Value.int (zI_1 (by first | (simp [bes, w3, c4, c5]; done) | (simp [bes, w3, c4]; omega)))), rfl⟩)
      · refine lv_iload hx hb dX2_beside_71 (lv_at hl 0 rfl) ?_
        refine lv_iload hx hb dX2_beside_73 (lv_at hl 1 rfl) ?_
        refine lv_iconst (v := nI 1) hx hb dX2_beside_75 (by decide) ?_
        refine lv_isub hx hb dX2_beside_76 ?_
        refine lv_top (y := nI ((aRp S q) - 1)) (pk_sub (by first | omega | (refine Nat.lt_of_lt_of_le (Nat.mod_lt _ ?_) ?_ <;> omega))) ?_
        refine lvN_ne (tgt := 84) hx hb (by first | omega | (refine Nat.lt_of_lt_of_le (Nat.mod_lt _ ?_) ?_ <;> omega)) (by first | omega | (refine Nat.lt_of_lt_of_le (Nat.mod_lt _ ?_) ?_ <;> omega)) dX2_beside_77 (by decide) (fun c6 => ?_) (fun c6 => ?_)
        · refine lv_iconst (v := nI 0) hx hb dX2_beside_84 (by decide) ?_
          exact hp_zret hx hb hr rfl hlocks hH hS (by decide) (by decide) dX2_beside_85 (⟨congrArg some (congrArg Value.int (zI_0 (by simp [bes, w3, c4, c5, c6]))), rfl⟩)
        · refine lv_iconst (v := nI 1) hx hb dX2_beside_80 (by decide) ?_
          refine lv_goto (tgt := 85) hx hb dX2_beside_81 (by decide) ?_
          exact hp_zret hx hb hr rfl hlocks hH hS (by decide) (by decide) dX2_beside_85 (⟨congrArg some (congrArg Value.int (zI_1 (by first | (simp [bes, w3, c4, c5, c6]; done) | (simp [bes, w3, c4, c5]; omega)))), rfl⟩)
  by_cases w7 : aRk S q = 3
  · refine lv_tableIn (tgt := 86) hx hb dX2_beside_22 (by rw [w7]; decide) (by rw [w7]; decide) (by rw [w7]; rfl) (by decide) ?_
    refine lv_iload hx hb dX2_beside_86 (lv_at hl 0 rfl) ?_
    refine lvZ_le (tgt := 104) hx hb (by first | omega | (refine Nat.lt_of_lt_of_le (Nat.mod_lt _ ?_) ?_ <;> omega)) dX2_beside_88 (by decide) (fun c8 => ?_) (fun c8 => ?_)
    · refine lv_iconst (v := nI 0) hx hb dX2_beside_104 (by decide) ?_
      exact hp_zret hx hb hr rfl hlocks hH hS (by decide) (by decide) dX2_beside_105 (⟨congrArg some (congrArg Value.int (zI_0 (by simp [bes, w7, c8]))), rfl⟩)
    · refine lv_iload_n hx hb dX2_beside_91 rfl (lv_at hl 4 rfl) ?_
      refine lv_iconst (v := nI 2) hx hb dX2_beside_92 (by decide) ?_
      refine lv_idiv hx hb dX2_beside_93 (nI_ne0 (by first | omega | (refine Nat.lt_of_lt_of_le (Nat.mod_lt _ ?_) ?_ <;> omega)) (by first | omega | (refine Nat.lt_of_lt_of_le (Nat.mod_lt _ ?_) ?_ <;> omega))) ?_
      refine lv_top (y := nI (a / 2)) (pk_div (by first | omega | (refine Nat.lt_of_lt_of_le (Nat.mod_lt _ ?_) ?_ <;> omega)) (by first | omega | (refine Nat.lt_of_lt_of_le (Nat.mod_lt _ ?_) ?_ <;> omega)) (by first | omega | (refine Nat.lt_of_lt_of_le (Nat.mod_lt _ ?_) ?_ <;> omega))) ?_
      refine lv_iload_n hx hb dX2_beside_94 rfl (lv_at hl 5 rfl) ?_
      refine lv_iconst (v := nI 2) hx hb dX2_beside_95 (by decide) ?_
      refine lv_idiv hx hb dX2_beside_96 (nI_ne0 (by first | omega | (refine Nat.lt_of_lt_of_le (Nat.mod_lt _ ?_) ?_ <;> omega)) (by first | omega | (refine Nat.lt_of_lt_of_le (Nat.mod_lt _ ?_) ?_ <;> omega))) ?_
      refine lv_top (y := nI (b / 2)) (pk_div (by first | omega | (refine Nat.lt_of_lt_of_le (Nat.mod_lt _ ?_) ?_ <;> omega)) (by first | omega | (refine Nat.lt_of_lt_of_le (Nat.mod_lt _ ?_) ?_ <;> omega)) (by first | omega | (refine Nat.lt_of_lt_of_le (Nat.mod_lt _ ?_) ?_ <;> omega))) ?_
      refine lvN_ne (tgt := 104) hx hb (by first | omega | (refine Nat.lt_of_lt_of_le (Nat.mod_lt _ ?_) ?_ <;> omega)) (by first | omega | (refine Nat.lt_of_lt_of_le (Nat.mod_lt _ ?_) ?_ <;> omega)) dX2_beside_97 (by decide) (fun c9 => ?_) (fun c9 => ?_)
      · refine lv_iconst (v := nI 0) hx hb dX2_beside_104 (by decide) ?_
        exact hp_zret hx hb hr rfl hlocks hH hS (by decide) (by decide) dX2_beside_105 (⟨congrArg some (congrArg Value.int (zI_0 (by simp [bes, w7, c8, c9]))), rfl⟩)
      · refine lv_iconst (v := nI 1) hx hb dX2_beside_100 (by decide) ?_
        refine lv_goto (tgt := 105) hx hb dX2_beside_101 (by decide) ?_
        exact hp_zret hx hb hr rfl hlocks hH hS (by decide) (by decide) dX2_beside_105 (⟨congrArg some (congrArg Value.int (zI_1 (by first | (simp [bes, w7, c8, c9]; done) | (simp [bes, w7, c8]; omega)))), rfl⟩)
  refine lv_tableOut (tgt := 106) hx hb dX2_beside_22 (by rw [nI_toInt (by first | omega | (refine Nat.lt_of_lt_of_le (Nat.mod_lt _ ?_) ?_ <;> omega))]; omega) (by decide) ?_
  refine lv_iload hx hb dX2_beside_106 (lv_at hl 0 rfl) ?_
  refine lv_iconst (v := nI 1) hx hb dX2_beside_108 (by decide) ?_
  refine lvN_ne (tgt := 116) hx hb (by first | omega | (refine Nat.lt_of_lt_of_le (Nat.mod_lt _ ?_) ?_ <;> omega)) (by first | omega | (refine Nat.lt_of_lt_of_le (Nat.mod_lt _ ?_) ?_ <;> omega)) dX2_beside_109 (by decide) (fun c10 => ?_) (fun c10 => ?_)
  · refine lv_iconst (v := nI 0) hx hb dX2_beside_116 (by decide) ?_
    exact hp_zret hx hb hr rfl hlocks hH hS (by decide) (by decide) dX2_beside_117 (⟨congrArg some (congrArg Value.int (zI_0 (by simp [bes, w1, w3, w7, c10]))), rfl⟩)
  · refine lv_iconst (v := nI 1) hx hb dX2_beside_112 (by decide) ?_
    refine lv_goto (tgt := 117) hx hb dX2_beside_113 (by decide) ?_
    exact hp_zret hx hb hr rfl hlocks hH hS (by decide) (by decide) dX2_beside_117 (⟨congrArg some (congrArg Value.int (zI_1 (by first | (simp [bes, w1, w3, w7, c10]; done) | (simp [bes, w1, w3, w7]; omega)))), rfl⟩)
set_option maxHeartbeats 4000000 in
theorem mt_whoMinds (hK0 : va_K D CL (TYS K) s0) {S : Ab} (hO : SOK S) (hM : MOK S I V) {r q c : Nat} {a : Nat} {b : Nat} (hq : q < aRm S) (ha0 : a < 10) (hb0 : b < 10) (hc0 : c < 10) (hr0 : r < aRl S) : Met l yX2_whoMinds (ws_ yX2_whoMinds cX2_whoMinds 7 ((Option.some Jvm.ClassFile.FieldType.int))) (rmk 2 0 0) (va_Pc [.ref o, .int (nI r), .int (nI q), .int (nI c), .int (nI a), .int (nI b)] (PB s0 D CL (mset h K wd o I V J))) (QR s0 D CL (fun v h1 => v = some (.int (nI (whoM S r q c a b))) ∧ h1 = mset h K wd o I V J)) 0 0 (zA s0) := by
  refine hp_met (by decide) (Nat.le_of_ble_eq_true rfl) hK0 ?_
  intro p e s m below meth cd ls hx hb hr hlocks hml hown hnm hts hK hPB hl hS hH hA
  have hl : lv_has ls 7 [(0, .ref o), (1, .int (nI r)), (2, .int (nI q)), (3, .int (nI c)), (4, .int (nI a)), (5, .int (nI b))] := hl
  have hown : s.vm.findClass RX2 = some m.cls := hown
  have hn := hO.n
  have hmk := hO.mk
  have hrl := hO.rl
  have hrm := hO.rm
  have hsz := hO.sz
  have hrk := hO.rk hq
  have hrp := hO.rp hq
  have hkd := hO.kd hr0
  refine lv_aload_n hx hb dX2_whoMinds_0 rfl (lv_at hl 0 rfl) ?_
  refine m_get hx hb hts hown hK hH 9 (by decide) q1461 rfl (v := .ref (o + 11)) rfl dX2_whoMinds_1 ?_
  refine lv_iconst (v := nI 0) hx hb dX2_whoMinds_4 (by decide) ?_
  refine m_rowI (k' := 12) hx hb hK hH (by decide) rfl (by decide) (by decide) rfl dX2_whoMinds_5 ?_
  refine lv_iload_n hx hb dX2_whoMinds_6 rfl (lv_at hl 1 rfl) ?_
  refine m_iald (n := 12) (j := r) (v := nI (aKd S r)) hx hb hK hH (by decide) rfl (by first | omega | (refine Nat.lt_of_lt_of_le (Nat.mod_lt _ ?_) ?_ <;> omega)) (by decide) (hM.kd (by first | omega | (refine Nat.lt_of_lt_of_le (Nat.mod_lt _ ?_) ?_ <;> omega))) dX2_whoMinds_7 ?_
  refine lv_iconst (v := nI 2) hx hb dX2_whoMinds_8 (by decide) ?_
  refine lvN_ne (tgt := 30) hx hb (by first | omega | (refine Nat.lt_of_lt_of_le (Nat.mod_lt _ ?_) ?_ <;> omega)) (by first | omega | (refine Nat.lt_of_lt_of_le (Nat.mod_lt _ ?_) ?_ <;> omega)) dX2_whoMinds_9 (by decide) (fun c1 => ?_) (fun c1 => ?_)
  · refine lv_aload_n hx hb dX2_whoMinds_30 rfl (lv_at hl 0 rfl) ?_
    refine lv_iload_n hx hb dX2_whoMinds_31 rfl (lv_at hl 2 rfl) ?_
    refine lv_iload_n hx hb dX2_whoMinds_32 rfl (lv_at hl 3 rfl) ?_
    refine lv_iload hx hb dX2_whoMinds_33 (lv_at hl 4 rfl) ?_
    refine lv_iload hx hb dX2_whoMinds_35 (lv_at hl 5 rfl) ?_
    refine hp_callV (As := [.int (nI q), .int (nI c), .int (nI a), .int (nI b)]) (rest := []) hx hb hml hown hts hPB hK hH hS (mt_high hK0 hO hM (q := q) (c := c) (a := a) (b := b) (by omega) (by omega) (by omega) (by omega)) mset_o rfl rfl 4 (lw_V q1809 q1811 qs74 q107 q1812) (by decide +kernel) ⟨rfl, rfl⟩ (by decide) rfl hl.1 rfl (Nat.le_of_ble_eq_true rfl) (by decide) dX2_whoMinds_37 (fun v2 h4 H locs hp3 _ hH hS => ?_)
    obtain ⟨rfl, rfl⟩ := hp3
    refine lv_istore (lv' := [(6, .int (hgh S q c a b)), (0, .ref o), (1, .int (nI r)), (2, .int (nI q)), (3, .int (nI c)), (4, .int (nI a)), (5, .int (nI b))]) hx hb dX2_whoMinds_40 hl (by decide) rfl (fun ls hl => ?_)
    refine lv_aload_n hx hb dX2_whoMinds_42 rfl (lv_at hl 1 rfl) ?_
    refine m_get hx hb hts hown hK hH 9 (by decide) q1461 rfl (v := .ref (o + 11)) rfl dX2_whoMinds_43 ?_
    refine lv_iconst (v := nI 0) hx hb dX2_whoMinds_46 (by decide) ?_
    refine m_rowI (k' := 12) hx hb hK hH (by decide) rfl (by decide) (by decide) rfl dX2_whoMinds_47 ?_
    refine lv_iload_n hx hb dX2_whoMinds_48 rfl (lv_at hl 2 rfl) ?_
    refine m_iald (n := 12) (j := r) (v := nI (aKd S r)) hx hb hK hH (by decide) rfl (by first | omega | (refine Nat.lt_of_lt_of_le (Nat.mod_lt _ ?_) ?_ <;> omega)) (by decide) (hM.kd (by first | omega | (refine Nat.lt_of_lt_of_le (Nat.mod_lt _ ?_) ?_ <;> omega))) dX2_whoMinds_49 ?_
    refine lvZ_ne (tgt := 70) hx hb (by first | omega | (refine Nat.lt_of_lt_of_le (Nat.mod_lt _ ?_) ?_ <;> omega)) dX2_whoMinds_50 (by decide) (fun c5 => ?_) (fun c5 => ?_)
    · refine lv_iload hx hb dX2_whoMinds_70 (lv_at hl 0 rfl) ?_
      refine lv_iconst (v := nI 1) hx hb dX2_whoMinds_72 (by decide) ?_
      refine lv_icmp_ne (tgt := 80) hx hb dX2_whoMinds_73 (by decide) (fun c6 => ?_) (fun c6 => ?_)
      · refine lv_iload hx hb dX2_whoMinds_80 (lv_at hl 0 rfl) ?_
        refine lv_iconst (v := nI 2) hx hb dX2_whoMinds_82 (by decide) ?_
        refine lv_icmp_ne (tgt := 90) hx hb dX2_whoMinds_83 (by decide) (fun c7 => ?_) (fun c7 => ?_)
        · refine lv_iconst (v := nI 0) hx hb dX2_whoMinds_90 (by decide) ?_
          exact hp_iret hx hb hr hlocks hH hS (by decide) (by decide) dX2_whoMinds_91 (⟨congrArg some (congrArg Value.int (congrArg nI (by simp [whoM, nIne, c1, c5, c6, c7]))), rfl⟩)
        · refine lv_iconst (v := nI 1) hx hb dX2_whoMinds_86 (by decide) ?_
          refine lv_goto (tgt := 91) hx hb dX2_whoMinds_87 (by decide) ?_
          exact hp_iret hx hb hr hlocks hH hS (by decide) (by decide) dX2_whoMinds_91 (⟨congrArg some (congrArg Value.int (congrArg nI (by simp [whoM, nIne, c1, c5, c6, c7]))), rfl⟩)
      · refine lv_iconst (v := nI 2) hx hb dX2_whoMinds_76 (by decide) ?_
        refine lv_goto (tgt := 91) hx hb dX2_whoMinds_77 (by decide) ?_
        exact hp_iret hx hb hr hlocks hH hS (by decide) (by decide) dX2_whoMinds_91 (⟨congrArg some (congrArg Value.int (congrArg nI (by simp [whoM, nIne, c1, c5, c6]))), rfl⟩)
    · refine lv_iload hx hb dX2_whoMinds_53 (lv_at hl 0 rfl) ?_
      refine lv_iconst (v := nI 2) hx hb dX2_whoMinds_55 (by decide) ?_
      refine lv_icmp_eq (tgt := 64) hx hb dX2_whoMinds_56 (by decide) (fun c8 => ?_) (fun c8 => ?_)
      · refine lv_iconst (v := nI 1) hx hb dX2_whoMinds_64 (by decide) ?_
        refine lv_goto (tgt := 69) hx hb dX2_whoMinds_65 (by decide) ?_
        exact hp_iret hx hb hr hlocks hH hS (by decide) (by decide) dX2_whoMinds_69 (⟨congrArg some (congrArg Value.int (congrArg nI (by simp [whoM, nIne, c1, c5, c8]))), rfl⟩)
      · refine lv_iload hx hb dX2_whoMinds_59 (lv_at hl 0 rfl) ?_
        refine lv_if_ne (tgt := 68) hx hb dX2_whoMinds_61 (by decide) (fun c9 => ?_) (fun c9 => ?_)
        · have c9 : ¬ hgh S q c a b = nI 0 := c9
          refine lv_iconst (v := nI 0) hx hb dX2_whoMinds_68 (by decide) ?_
          exact hp_iret hx hb hr hlocks hH hS (by decide) (by decide) dX2_whoMinds_69 (⟨congrArg some (congrArg Value.int (congrArg nI (by simp [whoM, nIne, c1, c5, c8, c9]))), rfl⟩)
        · have c9 : hgh S q c a b = nI 0 := c9
          refine lv_iconst (v := nI 1) hx hb dX2_whoMinds_64 (by decide) ?_
          refine lv_goto (tgt := 69) hx hb dX2_whoMinds_65 (by decide) ?_
          exact hp_iret hx hb hr hlocks hH hS (by decide) (by decide) dX2_whoMinds_69 (⟨congrArg some (congrArg Value.int (congrArg nI (by simp [whoM, nIne, c1, c5, c8, c9]))), rfl⟩)
  · refine lv_aload_n hx hb dX2_whoMinds_12 rfl (lv_at hl 0 rfl) ?_
    refine lv_iload_n hx hb dX2_whoMinds_13 rfl (lv_at hl 2 rfl) ?_
    refine lv_iload hx hb dX2_whoMinds_14 (lv_at hl 4 rfl) ?_
    refine lv_iload hx hb dX2_whoMinds_16 (lv_at hl 5 rfl) ?_
    refine hp_callV (As := [.int (nI q), .int (nI a), .int (nI b)]) (rest := []) hx hb hml hown hts hPB hK hH hS (mt_beside hK0 hO hM (q := q) (a := a) (b := b) (by omega) (by omega) (by omega)) mset_o rfl rfl 3 (lw_V q1834 q1836 qs79 q107 q1837) (by decide +kernel) ⟨rfl, rfl⟩ (by decide) rfl hl.1 rfl (Nat.le_of_ble_eq_true rfl) (by decide) dX2_whoMinds_18 (fun v10 h12 H locs hp11 _ hH hS => ?_)
    obtain ⟨rfl, rfl⟩ := hp11
    refine lvB_eq (tgt := 28) hx hb dX2_whoMinds_21 (by decide) (fun c13 => ?_) (fun c13 => ?_)
    · refine lv_iconst (v := nI 0) hx hb dX2_whoMinds_28 (by decide) ?_
      exact hp_iret hx hb hr hlocks hH hS (by decide) (by decide) dX2_whoMinds_29 (⟨congrArg some (congrArg Value.int (congrArg nI (by first | (simp [whoM, nIne, c1, c13]; done) | (simp [whoM, nIne, c13]; omega)))), rfl⟩)
    · refine lv_iconst (v := nI 3) hx hb dX2_whoMinds_24 (by decide) ?_
      refine lv_goto (tgt := 29) hx hb dX2_whoMinds_25 (by decide) ?_
      exact hp_iret hx hb hr hlocks hH hS (by decide) (by decide) dX2_whoMinds_29 (⟨congrArg some (congrArg Value.int (congrArg nI (by first | (simp [whoM, nIne, c1, c13]; done) | (simp [whoM, nIne, c13]; omega)))), rfl⟩)
end MODEL
