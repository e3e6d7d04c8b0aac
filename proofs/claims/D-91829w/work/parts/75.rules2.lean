/-! by gen/mspec.py -/
set_option maxRecDepth 100000
section MODEL
variable {l : Launch} {s0 : State} {D : va_G} {K : Nat → ClassId} {wd : Nat → Nat} {o : Nat} {h : Hp} {I : Nat → Int32} {V : Nat → Nat → Int32} {J : Nat → Nat → Int64}
set_option maxHeartbeats 4000000 in
theorem mc_kind_X8 (hK0 : va_K D CL (TYS K) s0) {ru s1 s2 wt cp t : Nat} {rm : Int32} {un : Value} {rs : Bool} (hru : h ru = some (.inr (6, [.ref s1, .ref s2, .int (nI wt), .int rm, un, .int (zI rs), .ref cp]), t)) : Met l yX8_kind (ws_ yX8_kind cX8_kind 1 ((Option.some Jvm.ClassFile.FieldType.int))) (rmk 0 0 0) (va_Pc [.ref ru] (PB s0 D CL (h))) (QR s0 D CL (fun v h1 => v = some (.int (nI 0)) ∧ h1 = h)) 0 0 (zA s0) := by
  refine hp_met (by decide) (Nat.le_of_ble_eq_true rfl) hK0 ?_
  intro p e s m below meth cd ls hx hb hr hlocks hml hown hnm hts hK hPB hl hS hH hA
  have hl : lv_has ls 1 [(0, .ref ru)] := hl
  have hown : s.vm.findClass RX8 = some m.cls := hown
  refine lv_iconst (v := nI 0) hx hb dX8_kind_0 (by decide) ?_
  exact hp_iret hx hb hr hlocks hH hS (by decide) (by decide) dX8_kind_1 (⟨rfl, rfl⟩)
set_option maxHeartbeats 4000000 in
theorem mc_minds_X8 (hK0 : va_K D CL (TYS K) s0) {av : Nat → Nat} {ed mi : Nat} (hG : GX s0 wd av ed mi) {ru s1 s2 wt cp t : Nat} {rm : Int32} {un : Value} {rs : Bool} (hru : h ru = some (.inr (6, [.ref s1, .ref s2, .int (nI wt), .int rm, un, .int (zI rs), .ref cp]), t)) {ra t2 np c9 a b k9 : Nat} (he : h ra = some (.inr (10 + k9, [.int (nI np)]), t2)) (hk9 : k9 < 5) (hnp : 1 ≤ np ∧ np ≤ 10) (hc9 : c9 < 10) (ha : a < np) (hb0 : b < np) : Met l yX8_minds (ws_ yX8_minds cX8_minds 6 ((Option.some Jvm.ClassFile.FieldType.int))) (rmk 3 0 0) (va_Pc [.ref ru, .ref ra, .int (nI c9), .int (nI a), .int (nI b)] (PB s0 D CL (h))) (QR s0 D CL (fun v h1 => v = some (.int (nI (wmN 0 k9 np c9 a b))) ∧ h1 = h)) 0 0 (zA s0) := by
  refine hp_met (by decide) (Nat.le_of_ble_eq_true rfl) hK0 ?_
  intro p e s m below meth cd ls hx hb hr hlocks hml hown hnm hts hK hPB hl hS hH hA
  have hl : lv_has ls 6 [(0, .ref ru), (1, .ref ra), (2, .int (nI c9)), (3, .int (nI a)), (4, .int (nI b))] := hl
  have hown : s.vm.findClass RX8 = some m.cls := hown
  refine lv_aload_n hx hb dX8_minds_0 rfl (lv_at hl 1 rfl) ?_
  refine lv_iload_n hx hb dX8_minds_1 rfl (lv_at hl 2 rfl) ?_
  refine lv_iload_n hx hb dX8_minds_2 rfl (lv_at hl 3 rfl) ?_
  refine lv_iload hx hb dX8_minds_3 (lv_at hl 4 rfl) ?_
  refine hp_hi hx hb hml hown hts hPB hK0 hK hH hS hG he hk9 hnp hc9 ha hb0 q1027 (by decide) hl.1 rfl (Nat.le_of_ble_eq_true rfl) (by decide) dX8_minds_5 (fun H locs hH hS => ?_)
  refine lv_istore (lv' := [(5, .int (hiI k9 np c9 a b)), (0, .ref ru), (1, .ref ra), (2, .int (nI c9)), (3, .int (nI a)), (4, .int (nI b))]) hx hb dX8_minds_8 hl (by decide) rfl (fun ls hl => ?_)
  refine lv_iload hx hb dX8_minds_10 (lv_at hl 0 rfl) ?_
  refine lv_iconst (v := nI 2) hx hb dX8_minds_12 (by decide) ?_
  refine lv_icmp_eq (tgt := 21) hx hb dX8_minds_13 (by decide) (fun c1 => ?_) (fun c1 => ?_)
  · refine lv_iconst (v := nI 1) hx hb dX8_minds_21 (by decide) ?_
    refine lv_goto (tgt := 26) hx hb dX8_minds_22 (by decide) ?_
    exact hp_iret hx hb hr hlocks hH hS (by decide) (by decide) dX8_minds_26 (⟨congrArg some (congrArg Value.int (congrArg nI (by rw [wmN, if_neg (by decide), if_pos rfl, if_pos (Or.inl c1)]))), rfl⟩)
  · refine lv_iload hx hb dX8_minds_16 (lv_at hl 0 rfl) ?_
    refine lv_if_ne (tgt := 25) hx hb dX8_minds_18 (by decide) (fun c2 => ?_) (fun c2 => ?_)
    · have c2 : ¬ hiI k9 np c9 a b = nI 0 := c2
      refine lv_iconst (v := nI 0) hx hb dX8_minds_25 (by decide) ?_
      exact hp_iret hx hb hr hlocks hH hS (by decide) (by decide) dX8_minds_26 (⟨congrArg some (congrArg Value.int (congrArg nI (by rw [wmN, if_neg (by decide), if_pos rfl, if_neg (fun q => q.elim c1 c2)]))), rfl⟩)
    · have c2 : hiI k9 np c9 a b = nI 0 := c2
      refine lv_iconst (v := nI 1) hx hb dX8_minds_21 (by decide) ?_
      refine lv_goto (tgt := 26) hx hb dX8_minds_22 (by decide) ?_
      exact hp_iret hx hb hr hlocks hH hS (by decide) (by decide) dX8_minds_26 (⟨congrArg some (congrArg Value.int (congrArg nI (by rw [wmN, if_neg (by decide), if_pos rfl, if_pos (Or.inr c2)]))), rfl⟩)
set_option maxHeartbeats 4000000 in
theorem mc_cin_X8 (hK0 : va_K D CL (TYS K) s0) {ru s1 s2 wt cp t : Nat} {rm : Int32} {un : Value} {rs : Bool} (hru : h ru = some (.inr (6, [.ref s1, .ref s2, .int (nI wt), .int rm, un, .int (zI rs), .ref cp]), t)) (room : Int32) : Met l yX7_countsIn (ws_ yX7_countsIn cX7_countsIn 2 ((Option.some Jvm.ClassFile.FieldType.boolean))) (rmk 0 0 0) (va_Pc [.ref ru, .int room] (PB s0 D CL (h))) (QR s0 D CL (fun v h1 => v = some (.int (zI (!rs && (decide (rm = -1) || decide (rm = room))))) ∧ h1 = h)) 0 0 (zA s0) := by
  refine hp_met (by decide) (Nat.le_of_ble_eq_true rfl) hK0 ?_
  intro p e s m below meth cd ls hx hb hr hlocks hml hown hnm hts hK hPB hl hS hH hA
  have hl : lv_has ls 2 [(0, .ref ru), (1, .int room)] := hl
  have hown : s.vm.findClass RX7 = some m.cls := hown
  refine lv_aload_n hx hb dX7_countsIn_0 rfl (lv_at hl 0 rfl) ?_
  refine hp_get (C := RX8) (T := TX8) (N := 7) (v := .int (zI rs)) hx hb hts in_X8 hown hK hH hru rfl 5 (by decide) (hts _ q743) (fun _ z => z) rfl dX7_countsIn_1 ?_
  refine lvB_ne (tgt := 27) hx hb dX7_countsIn_4 (by decide) (fun c0 => ?_) (fun c0 => ?_)
  · refine lv_iconst (v := nI 0) hx hb dX7_countsIn_27 (by decide) ?_
    exact hp_zret hx hb hr rfl hlocks hH hS (by decide) (by decide) dX7_countsIn_28 (⟨congrArg some (congrArg Value.int (zI_0 (by rw [c0]; rfl))), rfl⟩)
  · refine lv_aload_n hx hb dX7_countsIn_7 rfl (lv_at hl 0 rfl) ?_
    refine hp_get (C := RX8) (T := TX8) (N := 7) (v := .int rm) hx hb hts in_X8 hown hK hH hru rfl 3 (by decide) (hts _ q739) (fun _ z => z) rfl dX7_countsIn_8 ?_
    refine lv_iconst (v := (-1)) hx hb dX7_countsIn_11 (by decide) ?_
    refine lv_icmp_eq (tgt := 23) hx hb dX7_countsIn_12 (by decide) (fun c1 => ?_) (fun c1 => ?_)
    · refine lv_iconst (v := nI 1) hx hb dX7_countsIn_23 (by decide) ?_
      refine lv_goto (tgt := 28) hx hb dX7_countsIn_24 (by decide) ?_
      exact hp_zret hx hb hr rfl hlocks hH hS (by decide) (by decide) dX7_countsIn_28 (⟨congrArg some (congrArg Value.int (zI_1 (by rw [c0, decide_eq_true c1]; rfl))), rfl⟩)
    · refine lv_aload_n hx hb dX7_countsIn_15 rfl (lv_at hl 0 rfl) ?_
      refine hp_get (C := RX8) (T := TX8) (N := 7) (v := .int rm) hx hb hts in_X8 hown hK hH hru rfl 3 (by decide) (hts _ q739) (fun _ z => z) rfl dX7_countsIn_16 ?_
      refine lv_iload_n hx hb dX7_countsIn_19 rfl (lv_at hl 1 rfl) ?_
      refine lv_icmp_ne (tgt := 27) hx hb dX7_countsIn_20 (by decide) (fun c2 => ?_) (fun c2 => ?_)
      · refine lv_iconst (v := nI 0) hx hb dX7_countsIn_27 (by decide) ?_
        exact hp_zret hx hb hr rfl hlocks hH hS (by decide) (by decide) dX7_countsIn_28 (⟨congrArg some (congrArg Value.int (zI_0 (by rw [decide_eq_false c1, decide_eq_false c2]; simp))), rfl⟩)
      · refine lv_iconst (v := nI 1) hx hb dX7_countsIn_23 (by decide) ?_
        refine lv_goto (tgt := 28) hx hb dX7_countsIn_24 (by decide) ?_
        exact hp_zret hx hb hr rfl hlocks hH hS (by decide) (by decide) dX7_countsIn_28 (⟨congrArg some (congrArg Value.int (zI_1 (by rw [c0, decide_eq_true c2]; simp))), rfl⟩)
set_option maxHeartbeats 4000000 in
theorem mc_kind_X11 (hK0 : va_K D CL (TYS K) s0) {ru s1 s2 wt cp t : Nat} {rm : Int32} {un : Value} {rs : Bool} (hru : h ru = some (.inr (8, [.ref s1, .ref s2, .int (nI wt), .int rm, un, .int (zI rs), .ref cp]), t)) : Met l yX11_kind (ws_ yX11_kind cX11_kind 1 ((Option.some Jvm.ClassFile.FieldType.int))) (rmk 0 0 0) (va_Pc [.ref ru] (PB s0 D CL (h))) (QR s0 D CL (fun v h1 => v = some (.int (nI 1)) ∧ h1 = h)) 0 0 (zA s0) := by
  refine hp_met (by decide) (Nat.le_of_ble_eq_true rfl) hK0 ?_
  intro p e s m below meth cd ls hx hb hr hlocks hml hown hnm hts hK hPB hl hS hH hA
  have hl : lv_has ls 1 [(0, .ref ru)] := hl
  have hown : s.vm.findClass RX11 = some m.cls := hown
  refine lv_iconst (v := nI 1) hx hb dX11_kind_0 (by decide) ?_
  exact hp_iret hx hb hr hlocks hH hS (by decide) (by decide) dX11_kind_1 (⟨rfl, rfl⟩)
set_option maxHeartbeats 4000000 in
theorem mc_minds_X11 (hK0 : va_K D CL (TYS K) s0) {av : Nat → Nat} {ed mi : Nat} (hG : GX s0 wd av ed mi) {ru s1 s2 wt cp t : Nat} {rm : Int32} {un : Value} {rs : Bool} (hru : h ru = some (.inr (8, [.ref s1, .ref s2, .int (nI wt), .int rm, un, .int (zI rs), .ref cp]), t)) {ra t2 np c9 a b k9 : Nat} (he : h ra = some (.inr (10 + k9, [.int (nI np)]), t2)) (hk9 : k9 < 5) (hnp : 1 ≤ np ∧ np ≤ 10) (hc9 : c9 < 10) (ha : a < np) (hb0 : b < np) : Met l yX11_minds (ws_ yX11_minds cX11_minds 6 ((Option.some Jvm.ClassFile.FieldType.int))) (rmk 3 0 0) (va_Pc [.ref ru, .ref ra, .int (nI c9), .int (nI a), .int (nI b)] (PB s0 D CL (h))) (QR s0 D CL (fun v h1 => v = some (.int (nI (wmN 1 k9 np c9 a b))) ∧ h1 = h)) 0 0 (zA s0) := by
  refine hp_met (by decide) (Nat.le_of_ble_eq_true rfl) hK0 ?_
  intro p e s m below meth cd ls hx hb hr hlocks hml hown hnm hts hK hPB hl hS hH hA
  have hl : lv_has ls 6 [(0, .ref ru), (1, .ref ra), (2, .int (nI c9)), (3, .int (nI a)), (4, .int (nI b))] := hl
  have hown : s.vm.findClass RX11 = some m.cls := hown
  refine lv_aload_n hx hb dX11_minds_0 rfl (lv_at hl 1 rfl) ?_
  refine lv_iload_n hx hb dX11_minds_1 rfl (lv_at hl 2 rfl) ?_
  refine lv_iload_n hx hb dX11_minds_2 rfl (lv_at hl 3 rfl) ?_
  refine lv_iload hx hb dX11_minds_3 (lv_at hl 4 rfl) ?_
  refine hp_hi hx hb hml hown hts hPB hK0 hK hH hS hG he hk9 hnp hc9 ha hb0 q1055 (by decide) hl.1 rfl (Nat.le_of_ble_eq_true rfl) (by decide) dX11_minds_5 (fun H locs hH hS => ?_)
  refine lv_istore (lv' := [(5, .int (hiI k9 np c9 a b)), (0, .ref ru), (1, .ref ra), (2, .int (nI c9)), (3, .int (nI a)), (4, .int (nI b))]) hx hb dX11_minds_8 hl (by decide) rfl (fun ls hl => ?_)
  refine lv_iload hx hb dX11_minds_10 (lv_at hl 0 rfl) ?_
  refine lv_iconst (v := nI 1) hx hb dX11_minds_12 (by decide) ?_
  refine lv_icmp_ne (tgt := 20) hx hb dX11_minds_13 (by decide) (fun c1 => ?_) (fun c1 => ?_)
  · refine lv_iload hx hb dX11_minds_20 (lv_at hl 0 rfl) ?_
    refine lv_iconst (v := nI 2) hx hb dX11_minds_22 (by decide) ?_
    refine lv_icmp_ne (tgt := 30) hx hb dX11_minds_23 (by decide) (fun c2 => ?_) (fun c2 => ?_)
    · refine lv_iconst (v := nI 0) hx hb dX11_minds_30 (by decide) ?_
      exact hp_iret hx hb hr hlocks hH hS (by decide) (by decide) dX11_minds_31 (⟨congrArg some (congrArg Value.int (congrArg nI (by rw [wmN, if_neg (by decide), if_neg (by decide), if_neg c1, if_neg c2]))), rfl⟩)
    · refine lv_iconst (v := nI 1) hx hb dX11_minds_26 (by decide) ?_
      refine lv_goto (tgt := 31) hx hb dX11_minds_27 (by decide) ?_
      exact hp_iret hx hb hr hlocks hH hS (by decide) (by decide) dX11_minds_31 (⟨congrArg some (congrArg Value.int (congrArg nI (by rw [wmN, if_neg (by decide), if_neg (by decide), if_neg c1, if_pos c2]))), rfl⟩)
  · refine lv_iconst (v := nI 2) hx hb dX11_minds_16 (by decide) ?_
    refine lv_goto (tgt := 31) hx hb dX11_minds_17 (by decide) ?_
    exact hp_iret hx hb hr hlocks hH hS (by decide) (by decide) dX11_minds_31 (⟨congrArg some (congrArg Value.int (congrArg nI (by rw [wmN, if_neg (by decide), if_neg (by decide), if_pos c1]))), rfl⟩)
set_option maxHeartbeats 4000000 in
theorem mc_cin_X11 (hK0 : va_K D CL (TYS K) s0) {ru s1 s2 wt cp t : Nat} {rm : Int32} {un : Value} {rs : Bool} (hru : h ru = some (.inr (8, [.ref s1, .ref s2, .int (nI wt), .int rm, un, .int (zI rs), .ref cp]), t)) (room : Int32) : Met l yX7_countsIn (ws_ yX7_countsIn cX7_countsIn 2 ((Option.some Jvm.ClassFile.FieldType.boolean))) (rmk 0 0 0) (va_Pc [.ref ru, .int room] (PB s0 D CL (h))) (QR s0 D CL (fun v h1 => v = some (.int (zI (!rs && (decide (rm = -1) || decide (rm = room))))) ∧ h1 = h)) 0 0 (zA s0) := by
  refine hp_met (by decide) (Nat.le_of_ble_eq_true rfl) hK0 ?_
  intro p e s m below meth cd ls hx hb hr hlocks hml hown hnm hts hK hPB hl hS hH hA
  have hl : lv_has ls 2 [(0, .ref ru), (1, .int room)] := hl
  have hown : s.vm.findClass RX7 = some m.cls := hown
  refine lv_aload_n hx hb dX7_countsIn_0 rfl (lv_at hl 0 rfl) ?_
  refine hp_get (C := RX11) (T := TX11) (N := 7) (v := .int (zI rs)) hx hb hts in_X11 hown hK hH hru rfl 5 (by decide) (hts _ q743) (fun _ z => z) rfl dX7_countsIn_1 ?_
  refine lvB_ne (tgt := 27) hx hb dX7_countsIn_4 (by decide) (fun c0 => ?_) (fun c0 => ?_)
  · refine lv_iconst (v := nI 0) hx hb dX7_countsIn_27 (by decide) ?_
    exact hp_zret hx hb hr rfl hlocks hH hS (by decide) (by decide) dX7_countsIn_28 (⟨congrArg some (congrArg Value.int (zI_0 (by rw [c0]; rfl))), rfl⟩)
  · refine lv_aload_n hx hb dX7_countsIn_7 rfl (lv_at hl 0 rfl) ?_
    refine hp_get (C := RX11) (T := TX11) (N := 7) (v := .int rm) hx hb hts in_X11 hown hK hH hru rfl 3 (by decide) (hts _ q739) (fun _ z => z) rfl dX7_countsIn_8 ?_
    refine lv_iconst (v := (-1)) hx hb dX7_countsIn_11 (by decide) ?_
    refine lv_icmp_eq (tgt := 23) hx hb dX7_countsIn_12 (by decide) (fun c1 => ?_) (fun c1 => ?_)
    · refine lv_iconst (v := nI 1) hx hb dX7_countsIn_23 (by decide) ?_
      refine lv_goto (tgt := 28) hx hb dX7_countsIn_24 (by decide) ?_
      exact hp_zret hx hb hr rfl hlocks hH hS (by decide) (by decide) dX7_countsIn_28 (⟨congrArg some (congrArg Value.int (zI_1 (by rw [c0, decide_eq_true c1]; rfl))), rfl⟩)
    · refine lv_aload_n hx hb dX7_countsIn_15 rfl (lv_at hl 0 rfl) ?_
      refine hp_get (C := RX11) (T := TX11) (N := 7) (v := .int rm) hx hb hts in_X11 hown hK hH hru rfl 3 (by decide) (hts _ q739) (fun _ z => z) rfl dX7_countsIn_16 ?_
      refine lv_iload_n hx hb dX7_countsIn_19 rfl (lv_at hl 1 rfl) ?_
      refine lv_icmp_ne (tgt := 27) hx hb dX7_countsIn_20 (by decide) (fun c2 => ?_) (fun c2 => ?_)
      · refine lv_iconst (v := nI 0) hx hb dX7_countsIn_27 (by decide) ?_
        exact hp_zret hx hb hr rfl hlocks hH hS (by decide) (by decide) dX7_countsIn_28 (⟨congrArg some (congrArg Value.int (zI_0 (by rw [decide_eq_false c1, decide_eq_false c2]; simp))), rfl⟩)
      · refine lv_iconst (v := nI 1) hx hb dX7_countsIn_23 (by decide) ?_
        refine lv_goto (tgt := 28) hx hb dX7_countsIn_24 (by decide) ?_
        exact hp_zret hx hb hr rfl hlocks hH hS (by decide) (by decide) dX7_countsIn_28 (⟨congrArg some (congrArg Value.int (zI_1 (by rw [c0, decide_eq_true c2]; simp))), rfl⟩)
set_option maxHeartbeats 4000000 in
theorem mc_kind_X12 (hK0 : va_K D CL (TYS K) s0) {ru s1 s2 wt cp t : Nat} {rm : Int32} {un : Value} {rs : Bool} (hru : h ru = some (.inr (9, [.ref s1, .ref s2, .int (nI wt), .int rm, un, .int (zI rs), .ref cp]), t)) : Met l yX12_kind (ws_ yX12_kind cX12_kind 1 ((Option.some Jvm.ClassFile.FieldType.int))) (rmk 0 0 0) (va_Pc [.ref ru] (PB s0 D CL (h))) (QR s0 D CL (fun v h1 => v = some (.int (nI 2)) ∧ h1 = h)) 0 0 (zA s0) := by
  refine hp_met (by decide) (Nat.le_of_ble_eq_true rfl) hK0 ?_
  intro p e s m below meth cd ls hx hb hr hlocks hml hown hnm hts hK hPB hl hS hH hA
  have hl : lv_has ls 1 [(0, .ref ru)] := hl
  have hown : s.vm.findClass RX12 = some m.cls := hown
  refine lv_iconst (v := nI 2) hx hb dX12_kind_0 (by decide) ?_
  exact hp_iret hx hb hr hlocks hH hS (by decide) (by decide) dX12_kind_1 (⟨rfl, rfl⟩)
set_option maxHeartbeats 4000000 in
theorem mc_minds_X12 (hK0 : va_K D CL (TYS K) s0) {av : Nat → Nat} {ed mi : Nat} (hG : GX s0 wd av ed mi) {ru s1 s2 wt cp t : Nat} {rm : Int32} {un : Value} {rs : Bool} (hru : h ru = some (.inr (9, [.ref s1, .ref s2, .int (nI wt), .int rm, un, .int (zI rs), .ref cp]), t)) {ra t2 np c9 a b k9 : Nat} (he : h ra = some (.inr (10 + k9, [.int (nI np)]), t2)) (hk9 : k9 < 5) (hnp : 1 ≤ np ∧ np ≤ 10) (hc9 : c9 < 10) (ha : a < np) (hb0 : b < np) : Met l yX12_minds (ws_ yX12_minds cX12_minds 5 ((Option.some Jvm.ClassFile.FieldType.int))) (rmk 3 0 0) (va_Pc [.ref ru, .ref ra, .int (nI c9), .int (nI a), .int (nI b)] (PB s0 D CL (h))) (QR s0 D CL (fun v h1 => v = some (.int (nI (wmN 2 k9 np c9 a b))) ∧ h1 = h)) 0 0 (zA s0) := by
  refine hp_met (by decide) (Nat.le_of_ble_eq_true rfl) hK0 ?_
  intro p e s m below meth cd ls hx hb hr hlocks hml hown hnm hts hK hPB hl hS hH hA
  have hl : lv_has ls 5 [(0, .ref ru), (1, .ref ra), (2, .int (nI c9)), (3, .int (nI a)), (4, .int (nI b))] := hl
  have hown : s.vm.findClass RX12 = some m.cls := hown
  refine lv_aload_n hx hb dX12_minds_0 rfl (lv_at hl 1 rfl) ?_
  refine lv_iload_n hx hb dX12_minds_1 rfl (lv_at hl 3 rfl) ?_
  refine lv_iload hx hb dX12_minds_2 (lv_at hl 4 rfl) ?_
  refine hp_be hx hb hml hown hts hPB hK0 hK hH hS hG (c9 := 0) he hk9 hnp (by decide) ha hb0 q1031 (by decide) hl.1 rfl (Nat.le_of_ble_eq_true rfl) (by decide) dX12_minds_4 (fun H locs hH hS => ?_)
  refine lvB_eq (tgt := 14) hx hb dX12_minds_7 (by decide) (fun c1 => ?_) (fun c1 => ?_)
  · refine lv_iconst (v := nI 0) hx hb dX12_minds_14 (by decide) ?_
    exact hp_iret hx hb hr hlocks hH hS (by decide) (by decide) dX12_minds_15 (⟨congrArg some (congrArg Value.int (congrArg nI (by rw [wmN, if_pos rfl, c1]; rfl))), rfl⟩)
  · refine lv_iconst (v := nI 3) hx hb dX12_minds_10 (by decide) ?_
    refine lv_goto (tgt := 15) hx hb dX12_minds_11 (by decide) ?_
    exact hp_iret hx hb hr hlocks hH hS (by decide) (by decide) dX12_minds_15 (⟨congrArg some (congrArg Value.int (congrArg nI (by rw [wmN, if_pos rfl, c1]; rfl))), rfl⟩)
set_option maxHeartbeats 4000000 in
theorem mc_cin_X12 (hK0 : va_K D CL (TYS K) s0) {ru s1 s2 wt cp t : Nat} {rm : Int32} {un : Value} {rs : Bool} (hru : h ru = some (.inr (9, [.ref s1, .ref s2, .int (nI wt), .int rm, un, .int (zI rs), .ref cp]), t)) (room : Int32) : Met l yX7_countsIn (ws_ yX7_countsIn cX7_countsIn 2 ((Option.some Jvm.ClassFile.FieldType.boolean))) (rmk 0 0 0) (va_Pc [.ref ru, .int room] (PB s0 D CL (h))) (QR s0 D CL (fun v h1 => v = some (.int (zI (!rs && (decide (rm = -1) || decide (rm = room))))) ∧ h1 = h)) 0 0 (zA s0) := by
  refine hp_met (by decide) (Nat.le_of_ble_eq_true rfl) hK0 ?_
  intro p e s m below meth cd ls hx hb hr hlocks hml hown hnm hts hK hPB hl hS hH hA
  have hl : lv_has ls 2 [(0, .ref ru), (1, .int room)] := hl
  have hown : s.vm.findClass RX7 = some m.cls := hown
  refine lv_aload_n hx hb dX7_countsIn_0 rfl (lv_at hl 0 rfl) ?_
  refine hp_get (C := RX12) (T := TX12) (N := 7) (v := .int (zI rs)) hx hb hts in_X12 hown hK hH hru rfl 5 (by decide) (hts _ q743) (fun _ z => z) rfl dX7_countsIn_1 ?_
  refine lvB_ne (tgt := 27) hx hb dX7_countsIn_4 (by decide) (fun c0 => ?_) (fun c0 => ?_)
  · refine lv_iconst (v := nI 0) hx hb dX7_countsIn_27 (by decide) ?_
    exact hp_zret hx hb hr rfl hlocks hH hS (by decide) (by decide) dX7_countsIn_28 (⟨congrArg some (congrArg Value.int (zI_0 (by rw [c0]; rfl))), rfl⟩)
  · refine lv_aload_n hx hb dX7_countsIn_7 rfl (lv_at hl 0 rfl) ?_
    refine hp_get (C := RX12) (T := TX12) (N := 7) (v := .int rm) hx hb hts in_X12 hown hK hH hru rfl 3 (by decide) (hts _ q739) (fun _ z => z) rfl dX7_countsIn_8 ?_
    refine lv_iconst (v := (-1)) hx hb dX7_countsIn_11 (by decide) ?_
    refine lv_icmp_eq (tgt := 23) hx hb dX7_countsIn_12 (by decide) (fun c1 => ?_) (fun c1 => ?_)
    · refine lv_iconst (v := nI 1) hx hb dX7_countsIn_23 (by decide) ?_
      refine lv_goto (tgt := 28) hx hb dX7_countsIn_24 (by decide) ?_
      exact hp_zret hx hb hr rfl hlocks hH hS (by decide) (by decide) dX7_countsIn_28 (⟨congrArg some (congrArg Value.int (zI_1 (by rw [c0, decide_eq_true c1]; rfl))), rfl⟩)
    · refine lv_aload_n hx hb dX7_countsIn_15 rfl (lv_at hl 0 rfl) ?_
      refine hp_get (C := RX12) (T := TX12) (N := 7) (v := .int rm) hx hb hts in_X12 hown hK hH hru rfl 3 (by decide) (hts _ q739) (fun _ z => z) rfl dX7_countsIn_16 ?_
      refine lv_iload_n hx hb dX7_countsIn_19 rfl (lv_at hl 1 rfl) ?_
      refine lv_icmp_ne (tgt := 27) hx hb dX7_countsIn_20 (by decide) (fun c2 => ?_) (fun c2 => ?_)
      · refine lv_iconst (v := nI 0) hx hb dX7_countsIn_27 (by decide) ?_
        exact hp_zret hx hb hr rfl hlocks hH hS (by decide) (by decide) dX7_countsIn_28 (⟨congrArg some (congrArg Value.int (zI_0 (by rw [decide_eq_false c1, decide_eq_false c2]; simp))), rfl⟩)
      · refine lv_iconst (v := nI 1) hx hb dX7_countsIn_23 (by decide) ?_
        refine lv_goto (tgt := 28) hx hb dX7_countsIn_24 (by decide) ?_
        exact hp_zret hx hb hr rfl hlocks hH hS (by decide) (by decide) dX7_countsIn_28 (⟨congrArg some (congrArg Value.int (zI_1 (by rw [c0, decide_eq_true c2]; simp))), rfl⟩)
set_option maxHeartbeats 4000000 in
theorem mc_gwho (hK0 : va_K D CL (TYS K) s0) {sa nm w t : Nat} {f2 f3 f4 f5 : Value} (hsa : h sa = some (.inr (4, [.ref nm, .int (nI w), f2, f3, f4, f5]), t)) (hw : w < 10) : Met l yX5_who (ws_ yX5_who cX5_who 1 ((Option.some Jvm.ClassFile.FieldType.int))) (rmk 0 0 0) (va_Pc [.ref sa] (PB s0 D CL (h))) (QR s0 D CL (fun v h1 => v = some (.int (nI (2 ^ w))) ∧ h1 = h)) 0 0 (zA s0) := by
  refine hp_met (by decide) (Nat.le_of_ble_eq_true rfl) hK0 ?_
  intro p e s m below meth cd ls hx hb hr hlocks hml hown hnm hts hK hPB hl hS hH hA
  have hl : lv_has ls 1 [(0, .ref sa)] := hl
  have hown : s.vm.findClass RX5 = some m.cls := hown
  refine lv_iconst (v := nI 1) hx hb dX5_who_0 (by decide) ?_
  refine lv_aload_n hx hb dX5_who_1 rfl (lv_at hl 0 rfl) ?_
  refine hp_get (C := RX5) (T := TX5) (N := 6) (v := .int (nI w)) hx hb hts in_X5 hown hK hH hsa rfl 1 (by decide) (hts _ q554) (u_same (hts _ q555)) rfl dX5_who_2 ?_
  refine lv_ishl hx hb dX5_who_5 ?_
  refine lv_top (y := nI (2 ^ w)) (bi_shl1 (by first | omega | (refine Nat.lt_of_lt_of_le (Nat.mod_lt _ ?_) ?_ <;> omega))) ?_
  exact hp_iret hx hb hr hlocks hH hS (by decide) (by decide) dX5_who_6 (⟨rfl, rfl⟩)
set_option maxHeartbeats 4000000 in
theorem mc_gcode (hK0 : va_K D CL (TYS K) s0) {sa nm w t : Nat} {f2 f3 f4 f5 : Value} (hsa : h sa = some (.inr (4, [.ref nm, .int (nI w), f2, f3, f4, f5]), t)) (hw : w < 10) : Met l yX5_code (ws_ yX5_code cX5_code 1 ((Option.some Jvm.ClassFile.FieldType.int))) (rmk 0 0 0) (va_Pc [.ref sa] (PB s0 D CL (h))) (QR s0 D CL (fun v h1 => v = some (.int (nI w)) ∧ h1 = h)) 0 0 (zA s0) := by
  refine hp_met (by decide) (Nat.le_of_ble_eq_true rfl) hK0 ?_
  intro p e s m below meth cd ls hx hb hr hlocks hml hown hnm hts hK hPB hl hS hH hA
  have hl : lv_has ls 1 [(0, .ref sa)] := hl
  have hown : s.vm.findClass RX5 = some m.cls := hown
  refine lv_aload_n hx hb dX5_code_0 rfl (lv_at hl 0 rfl) ?_
  refine hp_get (C := RX5) (T := TX5) (N := 6) (v := .int (nI w)) hx hb hts in_X5 hown hK hH hsa rfl 1 (by decide) (hts _ q554) (u_same (hts _ q555)) rfl dX5_code_1 ?_
  exact hp_iret hx hb hr hlocks hH hS (by decide) (by decide) dX5_code_4 (⟨rfl, rfl⟩)
set_option maxHeartbeats 4000000 in
theorem mc_mwho (hK0 : va_K D CL (TYS K) s0) {sa nm num bits t : Nat} (hsa : h sa = some (.inr (5, [.ref nm, .int (nI num), .int (nI bits)]), t)) : Met l yX6_who (ws_ yX6_who cX6_who 1 ((Option.some Jvm.ClassFile.FieldType.int))) (rmk 0 0 0) (va_Pc [.ref sa] (PB s0 D CL (h))) (QR s0 D CL (fun v h1 => v = some (.int (nI bits)) ∧ h1 = h)) 0 0 (zA s0) := by
  refine hp_met (by decide) (Nat.le_of_ble_eq_true rfl) hK0 ?_
  intro p e s m below meth cd ls hx hb hr hlocks hml hown hnm hts hK hPB hl hS hH hA
  have hl : lv_has ls 1 [(0, .ref sa)] := hl
  have hown : s.vm.findClass RX6 = some m.cls := hown
  refine lv_aload_n hx hb dX6_who_0 rfl (lv_at hl 0 rfl) ?_
  refine hp_get (C := RX6) (T := TX6) (N := 3) (v := .int (nI bits)) hx hb hts in_X6 hown hK hH hsa rfl 2 (by decide) (hts _ q647) (fun _ z => z) rfl dX6_who_1 ?_
  exact hp_iret hx hb hr hlocks hH hS (by decide) (by decide) dX6_who_4 (⟨rfl, rfl⟩)
set_option maxHeartbeats 4000000 in
theorem mc_mcode (hK0 : va_K D CL (TYS K) s0) {sa nm num bits t : Nat} (hsa : h sa = some (.inr (5, [.ref nm, .int (nI num), .int (nI bits)]), t)) : Met l yX6_code (ws_ yX6_code cX6_code 1 ((Option.some Jvm.ClassFile.FieldType.int))) (rmk 0 0 0) (va_Pc [.ref sa] (PB s0 D CL (h))) (QR s0 D CL (fun v h1 => v = some (.int (nI (100 + num))) ∧ h1 = h)) 0 0 (zA s0) := by
  refine hp_met (by decide) (Nat.le_of_ble_eq_true rfl) hK0 ?_
  intro p e s m below meth cd ls hx hb hr hlocks hml hown hnm hts hK hPB hl hS hH hA
  have hl : lv_has ls 1 [(0, .ref sa)] := hl
  have hown : s.vm.findClass RX6 = some m.cls := hown
  refine lv_bipush (v := nI 100) hx hb dX6_code_0 (by decide) ?_
  refine lv_aload_n hx hb dX6_code_2 rfl (lv_at hl 0 rfl) ?_
  refine hp_get (C := RX6) (T := TX6) (N := 3) (v := .int (nI num)) hx hb hts in_X6 hown hK hH hsa rfl 1 (by decide) (hts _ q556) (u_same (hts _ q557)) rfl dX6_code_3 ?_
  refine lv_iadd hx hb dX6_code_6 ?_
  refine lv_top (y := nI (100 + num)) (nI_add _ _) ?_
  exact hp_iret hx hb hr hlocks hH hS (by decide) (by decide) dX6_code_7 (⟨rfl, rfl⟩)
end MODEL
