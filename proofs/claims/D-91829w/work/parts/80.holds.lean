/-! by gen/mspec.py -/
set_option maxRecDepth 100000
section MODEL
variable {l : Launch} {s0 : State} {D : va_G} {K : Nat → ClassId} {wd : Nat → Nat} {o : Nat} {h : Hp} {I : Nat → Int32} {V : Nat → Nat → Int32} {J : Nat → Nat → Int64}
set_option maxHeartbeats 4000000 in
theorem mc_hld_X8 (hK0 : va_K D CL (TYS K) s0) {av : Nat → Nat} {ed mi : Nat} (hG : GX s0 wd av ed mi) {ru s1 s2 wt cp t : Nat} {rm : Int32} {un : Value} {rs : Bool} (hru : h ru = some (.inr (6, [.ref s1, .ref s2, .int (nI wt), .int rm, un, .int (zI rs), .ref cp]), t)) {w1 b1 w2 b2 x y : Nat} (hsd1 : SIDE h s1 w1 b1) (hsd2 : SIDE h s2 w2 b2) (hb1 : b1 < 1024) (hb2 : b2 < 1024) (hx0 : x < 10) (hy0 : y < 10) {bu : Option Nat} (hun : UNL h un bu) : Met l yX7_holds (ws_ yX7_holds cX7_holds 3 ((Option.some Jvm.ClassFile.FieldType.boolean))) (rmk 3 0 0) (va_Pc [.ref ru, .int (nI x), .int (nI y)] (PB s0 D CL (h))) (QR s0 D CL (fun v h1 => v = some (.int (zI (hldB 0 b1 b2 bu x y))) ∧ h1 = h)) 0 0 (zA s0) := by
  refine hp_met (by decide) (Nat.le_of_ble_eq_true rfl) hK0 ?_
  intro p e s m below meth cd ls hx hb hr hlocks hml hown hnm hts hK hPB hl hS hH hA
  have hl : lv_has ls 3 [(0, .ref ru), (1, .int (nI x)), (2, .int (nI y))] := hl
  have hown : s.vm.findClass RX7 = some m.cls := hown
  refine lv_aload_n hx hb dX7_holds_0 rfl (lv_at hl 0 rfl) ?_
  refine lv_iload_n hx hb dX7_holds_1 rfl (lv_at hl 1 rfl) ?_
  refine lv_iload_n hx hb dX7_holds_2 rfl (lv_at hl 2 rfl) ?_
  refine hp_callU (As := [.int (nI x), .int (nI y)]) (rest := []) (owner := "FirstIn$Rule") (x := ⟨"FirstIn$Rule", "isTold", "(II)Z"⟩) hx hb hml hown hts hPB hK hH hS (mc_told_X8 hK0 hG hru hsd1 hsd2 hb1 hb2 (x := x) (y := y) (by omega) (by omega) hun) hru rfl rfl 2 (va_cwU 2 hts (lw_U q713 q1994 q1995 q699 q125 q700) rfl rfl rfl rfl (by decide +kernel) (by decide)) rfl hl.1 rfl (Nat.le_of_ble_eq_true rfl) (by decide) dX7_holds_3 (fun v1 h3 H locs hp2 _ hH hS => ?_)
  obtain ⟨rfl, hq⟩ := hp2
  rw [hq] at hH
  exact hp_zret hx hb hr (zI_nar _) hlocks hH hS (by decide) (by decide) dX7_holds_6 (⟨rfl, rfl⟩)
set_option maxHeartbeats 4000000 in
theorem mc_hld_X11 (hK0 : va_K D CL (TYS K) s0) {av : Nat → Nat} {ed mi : Nat} (hG : GX s0 wd av ed mi) {ru s1 s2 wt cp t : Nat} {rm : Int32} {un : Value} {rs : Bool} (hru : h ru = some (.inr (8, [.ref s1, .ref s2, .int (nI wt), .int rm, un, .int (zI rs), .ref cp]), t)) {w1 b1 w2 b2 x y : Nat} (hsd1 : SIDE h s1 w1 b1) (hsd2 : SIDE h s2 w2 b2) (hb1 : b1 < 1024) (hb2 : b2 < 1024) (hx0 : x < 10) (hy0 : y < 10) {bu : Option Nat} (hun : UNL h un bu) : Met l yX10_holds (ws_ yX10_holds cX10_holds 3 ((Option.some Jvm.ClassFile.FieldType.boolean))) (rmk 3 0 0) (va_Pc [.ref ru, .int (nI x), .int (nI y)] (PB s0 D CL (h))) (QR s0 D CL (fun v h1 => v = some (.int (zI (hldB 1 b1 b2 bu x y))) ∧ h1 = h)) 0 0 (zA s0) := by
  refine hp_met (by decide) (Nat.le_of_ble_eq_true rfl) hK0 ?_
  intro p e s m below meth cd ls hx hb hr hlocks hml hown hnm hts hK hPB hl hS hH hA
  have hl : lv_has ls 3 [(0, .ref ru), (1, .int (nI x)), (2, .int (nI y))] := hl
  have hown : s.vm.findClass RX10 = some m.cls := hown
  refine lv_iload_n hx hb dX10_holds_0 rfl (lv_at hl 1 rfl) ?_
  refine lv_iload_n hx hb dX10_holds_1 rfl (lv_at hl 2 rfl) ?_
  refine lvN_ge (tgt := 27) hx hb (by first | omega | (refine Nat.lt_of_lt_of_le (Nat.mod_lt _ ?_) ?_ <;> omega)) (by first | omega | (refine Nat.lt_of_lt_of_le (Nat.mod_lt _ ?_) ?_ <;> omega)) dX10_holds_2 (by decide) (fun c0 => ?_) (fun c0 => ?_)
  · refine lv_iconst (v := nI 0) hx hb dX10_holds_27 (by decide) ?_
    exact hp_zret hx hb hr rfl hlocks hH hS (by decide) (by decide) dX10_holds_28 (⟨congrArg some (congrArg Value.int (zI_0 (by rw [hldB, if_neg (by decide), decide_eq_false (show ¬ x < y by omega)]; rfl))), rfl⟩)
  · refine lv_aload_n hx hb dX10_holds_5 rfl (lv_at hl 0 rfl) ?_
    refine lv_iload_n hx hb dX10_holds_6 rfl (lv_at hl 1 rfl) ?_
    refine lv_iload_n hx hb dX10_holds_7 rfl (lv_at hl 2 rfl) ?_
    refine hp_callU (As := [.int (nI x), .int (nI y)]) (rest := []) (owner := "FirstIn$Rule") (x := ⟨"FirstIn$Mutual", "isTold", "(II)Z"⟩) hx hb hml hown hts hPB hK hH hS (mc_told_X11 hK0 hG hru hsd1 hsd2 hb1 hb2 (x := x) (y := y) (by omega) (by omega) hun) hru rfl rfl 2 (va_cwU 2 hts (lw_U q694 q695 q698 q699 q125 q700) rfl rfl rfl rfl (by decide +kernel) (by decide)) rfl hl.1 rfl (Nat.le_of_ble_eq_true rfl) (by decide) dX10_holds_8 (fun v1 h3 H locs hp2 _ hH hS => ?_)
    obtain ⟨rfl, hq⟩ := hp2
    rw [hq] at hH
    refine lvB_ne (tgt := 23) hx hb dX10_holds_11 (by decide) (fun c1 => ?_) (fun c1 => ?_)
    · refine lv_iconst (v := nI 1) hx hb dX10_holds_23 (by decide) ?_
      refine lv_goto (tgt := 28) hx hb dX10_holds_24 (by decide) ?_
      exact hp_zret hx hb hr rfl hlocks hH hS (by decide) (by decide) dX10_holds_28 (⟨congrArg some (congrArg Value.int (zI_1 (by rw [hldB, if_neg (by decide), decide_eq_true (show x < y by omega), c1]; simp))), rfl⟩)
    · refine lv_aload_n hx hb dX10_holds_14 rfl (lv_at hl 0 rfl) ?_
      refine lv_iload_n hx hb dX10_holds_15 rfl (lv_at hl 2 rfl) ?_
      refine lv_iload_n hx hb dX10_holds_16 rfl (lv_at hl 1 rfl) ?_
      refine hp_callU (As := [.int (nI y), .int (nI x)]) (rest := []) (owner := "FirstIn$Rule") (x := ⟨"FirstIn$Mutual", "isTold", "(II)Z"⟩) hx hb hml hown hts hPB hK hH hS (mc_told_X11 hK0 hG hru hsd1 hsd2 hb1 hb2 (x := y) (y := x) (by omega) (by omega) hun) hru rfl rfl 2 (va_cwU 2 hts (lw_U q694 q695 q698 q699 q125 q700) rfl rfl rfl rfl (by decide +kernel) (by decide)) rfl hl.1 rfl (Nat.le_of_ble_eq_true rfl) (by decide) dX10_holds_17 (fun v4 h6 H locs hp5 _ hH hS => ?_)
      obtain ⟨rfl, hq⟩ := hp5
      rw [hq] at hH
      refine lvB_eq (tgt := 27) hx hb dX10_holds_20 (by decide) (fun c2 => ?_) (fun c2 => ?_)
      · refine lv_iconst (v := nI 0) hx hb dX10_holds_27 (by decide) ?_
        exact hp_zret hx hb hr rfl hlocks hH hS (by decide) (by decide) dX10_holds_28 (⟨congrArg some (congrArg Value.int (zI_0 (by rw [hldB, if_neg (by decide), c1, c2]; simp))), rfl⟩)
      · refine lv_iconst (v := nI 1) hx hb dX10_holds_23 (by decide) ?_
        refine lv_goto (tgt := 28) hx hb dX10_holds_24 (by decide) ?_
        exact hp_zret hx hb hr rfl hlocks hH hS (by decide) (by decide) dX10_holds_28 (⟨congrArg some (congrArg Value.int (zI_1 (by rw [hldB, if_neg (by decide), decide_eq_true (show x < y by omega), c2]; simp))), rfl⟩)
set_option maxHeartbeats 4000000 in
theorem mc_hld_X12 (hK0 : va_K D CL (TYS K) s0) {av : Nat → Nat} {ed mi : Nat} (hG : GX s0 wd av ed mi) {ru s1 s2 wt cp t : Nat} {rm : Int32} {un : Value} {rs : Bool} (hru : h ru = some (.inr (9, [.ref s1, .ref s2, .int (nI wt), .int rm, un, .int (zI rs), .ref cp]), t)) {w1 b1 w2 b2 x y : Nat} (hsd1 : SIDE h s1 w1 b1) (hsd2 : SIDE h s2 w2 b2) (hb1 : b1 < 1024) (hb2 : b2 < 1024) (hx0 : x < 10) (hy0 : y < 10) {bu : Option Nat} (hun : UNL h un bu) : Met l yX10_holds (ws_ yX10_holds cX10_holds 3 ((Option.some Jvm.ClassFile.FieldType.boolean))) (rmk 3 0 0) (va_Pc [.ref ru, .int (nI x), .int (nI y)] (PB s0 D CL (h))) (QR s0 D CL (fun v h1 => v = some (.int (zI (hldB 2 b1 b2 bu x y))) ∧ h1 = h)) 0 0 (zA s0) := by
  refine hp_met (by decide) (Nat.le_of_ble_eq_true rfl) hK0 ?_
  intro p e s m below meth cd ls hx hb hr hlocks hml hown hnm hts hK hPB hl hS hH hA
  have hl : lv_has ls 3 [(0, .ref ru), (1, .int (nI x)), (2, .int (nI y))] := hl
  have hown : s.vm.findClass RX10 = some m.cls := hown
  refine lv_iload_n hx hb dX10_holds_0 rfl (lv_at hl 1 rfl) ?_
  refine lv_iload_n hx hb dX10_holds_1 rfl (lv_at hl 2 rfl) ?_
  refine lvN_ge (tgt := 27) hx hb (by first | omega | (refine Nat.lt_of_lt_of_le (Nat.mod_lt _ ?_) ?_ <;> omega)) (by first | omega | (refine Nat.lt_of_lt_of_le (Nat.mod_lt _ ?_) ?_ <;> omega)) dX10_holds_2 (by decide) (fun c0 => ?_) (fun c0 => ?_)
  · refine lv_iconst (v := nI 0) hx hb dX10_holds_27 (by decide) ?_
    exact hp_zret hx hb hr rfl hlocks hH hS (by decide) (by decide) dX10_holds_28 (⟨congrArg some (congrArg Value.int (zI_0 (by rw [hldB, if_neg (by decide), decide_eq_false (show ¬ x < y by omega)]; rfl))), rfl⟩)
  · refine lv_aload_n hx hb dX10_holds_5 rfl (lv_at hl 0 rfl) ?_
    refine lv_iload_n hx hb dX10_holds_6 rfl (lv_at hl 1 rfl) ?_
    refine lv_iload_n hx hb dX10_holds_7 rfl (lv_at hl 2 rfl) ?_
    refine hp_callU (As := [.int (nI x), .int (nI y)]) (rest := []) (owner := "FirstIn$Rule") (x := ⟨"FirstIn$Mutual", "isTold", "(II)Z"⟩) hx hb hml hown hts hPB hK hH hS (mc_told_X12 hK0 hG hru hsd1 hsd2 hb1 hb2 (x := x) (y := y) (by omega) (by omega) hun) hru rfl rfl 2 (va_cwU 2 hts (lw_U q694 q695 q697 q699 q125 q700) rfl rfl rfl rfl (by decide +kernel) (by decide)) rfl hl.1 rfl (Nat.le_of_ble_eq_true rfl) (by decide) dX10_holds_8 (fun v1 h3 H locs hp2 _ hH hS => ?_)
    obtain ⟨rfl, hq⟩ := hp2
    rw [hq] at hH
    refine lvB_ne (tgt := 23) hx hb dX10_holds_11 (by decide) (fun c1 => ?_) (fun c1 => ?_)
    · refine lv_iconst (v := nI 1) hx hb dX10_holds_23 (by decide) ?_
      refine lv_goto (tgt := 28) hx hb dX10_holds_24 (by decide) ?_
      exact hp_zret hx hb hr rfl hlocks hH hS (by decide) (by decide) dX10_holds_28 (⟨congrArg some (congrArg Value.int (zI_1 (by rw [hldB, if_neg (by decide), decide_eq_true (show x < y by omega), c1]; simp))), rfl⟩)
    · refine lv_aload_n hx hb dX10_holds_14 rfl (lv_at hl 0 rfl) ?_
      refine lv_iload_n hx hb dX10_holds_15 rfl (lv_at hl 2 rfl) ?_
      refine lv_iload_n hx hb dX10_holds_16 rfl (lv_at hl 1 rfl) ?_
      refine hp_callU (As := [.int (nI y), .int (nI x)]) (rest := []) (owner := "FirstIn$Rule") (x := ⟨"FirstIn$Mutual", "isTold", "(II)Z"⟩) hx hb hml hown hts hPB hK hH hS (mc_told_X12 hK0 hG hru hsd1 hsd2 hb1 hb2 (x := y) (y := x) (by omega) (by omega) hun) hru rfl rfl 2 (va_cwU 2 hts (lw_U q694 q695 q697 q699 q125 q700) rfl rfl rfl rfl (by decide +kernel) (by decide)) rfl hl.1 rfl (Nat.le_of_ble_eq_true rfl) (by decide) dX10_holds_17 (fun v4 h6 H locs hp5 _ hH hS => ?_)
      obtain ⟨rfl, hq⟩ := hp5
      rw [hq] at hH
      refine lvB_eq (tgt := 27) hx hb dX10_holds_20 (by decide) (fun c2 => ?_) (fun c2 => ?_)
      · refine lv_iconst (v := nI 0) hx hb dX10_holds_27 (by decide) ?_
        exact hp_zret hx hb hr rfl hlocks hH hS (by decide) (by decide) dX10_holds_28 (⟨congrArg some (congrArg Value.int (zI_0 (by rw [hldB, if_neg (by decide), c1, c2]; simp))), rfl⟩)
      · refine lv_iconst (v := nI 1) hx hb dX10_holds_23 (by decide) ?_
        refine lv_goto (tgt := 28) hx hb dX10_holds_24 (by decide) ?_
        exact hp_zret hx hb hr rfl hlocks hH hS (by decide) (by decide) dX10_holds_28 (⟨congrArg some (congrArg Value.int (zI_1 (by rw [hldB, if_neg (by decide), decide_eq_true (show x < y by omega), c2]; simp))), rfl⟩)
end MODEL
