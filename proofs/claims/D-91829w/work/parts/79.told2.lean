/-! by gen/mspec.py -/
set_option maxRecDepth 100000
section MODEL
variable {l : Launch} {s0 : State} {D : va_G} {K : Nat → ClassId} {wd : Nat → Nat} {o : Nat} {h : Hp} {I : Nat → Int32} {V : Nat → Nat → Int32} {J : Nat → Nat → Int64}
set_option maxHeartbeats 4000000 in
theorem mc_toldN_X8 (hK0 : va_K D CL (TYS K) s0) {av : Nat → Nat} {ed mi : Nat} (hG : GX s0 wd av ed mi) {ru s1 s2 wt cp t : Nat} {rm : Int32} {rs : Bool} (hru : h ru = some (.inr (6, [.ref s1, .ref s2, .int (nI wt), .int rm, .null, .int (zI rs), .ref cp]), t)) {w1 b1 w2 b2 x y : Nat} (hsd1 : SIDE h s1 w1 b1) (hsd2 : SIDE h s2 w2 b2) (hb1 : b1 < 1024) (hb2 : b2 < 1024) (hx0 : x < 10) (hy0 : y < 10) : Met l yX7_isTold (ws_ yX7_isTold cX7_isTold 3 ((Option.some Jvm.ClassFile.FieldType.boolean))) (rmk 2 0 0) (va_Pc [.ref ru, .int (nI x), .int (nI y)] (PB s0 D CL (h))) (QR s0 D CL (fun v h1 => v = some (.int (zI (tldB b1 b2 none x y))) ∧ h1 = h)) 0 0 (zA s0) := by
  refine hp_met (by decide) (Nat.le_of_ble_eq_true rfl) hK0 ?_
  intro p e s m below meth cd ls hx hb hr hlocks hml hown hnm hts hK hPB hl hS hH hA
  have hl : lv_has ls 3 [(0, .ref ru), (1, .int (nI x)), (2, .int (nI y))] := hl
  have hown : s.vm.findClass RX7 = some m.cls := hown
  refine lv_iload_n hx hb dX7_isTold_0 rfl (lv_at hl 1 rfl) ?_
  refine lv_iload_n hx hb dX7_isTold_1 rfl (lv_at hl 2 rfl) ?_
  refine lvN_eq (tgt := 60) hx hb (by first | omega | (refine Nat.lt_of_lt_of_le (Nat.mod_lt _ ?_) ?_ <;> omega)) (by first | omega | (refine Nat.lt_of_lt_of_le (Nat.mod_lt _ ?_) ?_ <;> omega)) dX7_isTold_2 (by decide) (fun c0 => ?_) (fun c0 => ?_)
  · refine lv_iconst (v := nI 0) hx hb dX7_isTold_60 (by decide) ?_
    exact hp_zret hx hb hr rfl hlocks hH hS (by decide) (by decide) dX7_isTold_61 (⟨congrArg some (congrArg Value.int (zI_0 (by unfold tldB; rw [decide_eq_false (not_not_intro c0)]; rfl))), rfl⟩)
  · refine lv_aload_n hx hb dX7_isTold_5 rfl (lv_at hl 0 rfl) ?_
    refine hp_get (C := RX8) (T := TX8) (N := 7) (v := .ref s1) hx hb hts in_X8 hown hK hH hru rfl 0 (by decide) (hts _ q732) (fun _ z => z) rfl dX7_isTold_6 ?_
    refine hp_who hx hb hml hown hts hPB hK0 hK hH hS hG hsd1 q701 (by decide) hl.1 rfl (Nat.le_of_ble_eq_true rfl) (by decide) dX7_isTold_9 (fun H locs hH hS => ?_)
    refine lv_iload_n hx hb dX7_isTold_12 rfl (lv_at hl 1 rfl) ?_
    refine lv_ishr hx hb dX7_isTold_13 ?_
    refine lv_top (y := nI (b1 / 2 ^ x)) (bi_shr (by first | omega | (refine Nat.lt_of_lt_of_le (Nat.mod_lt _ ?_) ?_ <;> omega)) (by first | omega | (refine Nat.lt_of_lt_of_le (Nat.mod_lt _ ?_) ?_ <;> omega))) ?_
    refine lv_iconst (v := nI 1) hx hb dX7_isTold_14 (by decide) ?_
    refine lv_iand hx hb dX7_isTold_15 ?_
    refine lv_top (y := zI (Nat.testBit b1 x)) ((bi_and _ _).trans (bi_z _ _)) ?_
    refine lv_iconst (v := nI 1) hx hb dX7_isTold_16 (by decide) ?_
    refine lvB_ne1 (tgt := 60) hx hb dX7_isTold_17 (by decide) (fun c1 => ?_) (fun c1 => ?_)
    · refine lv_iconst (v := nI 0) hx hb dX7_isTold_60 (by decide) ?_
      exact hp_zret hx hb hr rfl hlocks hH hS (by decide) (by decide) dX7_isTold_61 (⟨congrArg some (congrArg Value.int (zI_0 (by unfold tldB; simp [c1]))), rfl⟩)
    · refine lv_aload_n hx hb dX7_isTold_20 rfl (lv_at hl 0 rfl) ?_
      refine hp_get (C := RX8) (T := TX8) (N := 7) (v := .ref s2) hx hb hts in_X8 hown hK hH hru rfl 1 (by decide) (hts _ q734) (fun _ z => z) rfl dX7_isTold_21 ?_
      refine hp_who hx hb hml hown hts hPB hK0 hK hH hS hG hsd2 q701 (by decide) hl.1 rfl (Nat.le_of_ble_eq_true rfl) (by decide) dX7_isTold_24 (fun H locs hH hS => ?_)
      refine lv_iload_n hx hb dX7_isTold_27 rfl (lv_at hl 2 rfl) ?_
      refine lv_ishr hx hb dX7_isTold_28 ?_
      refine lv_top (y := nI (b2 / 2 ^ y)) (bi_shr (by first | omega | (refine Nat.lt_of_lt_of_le (Nat.mod_lt _ ?_) ?_ <;> omega)) (by first | omega | (refine Nat.lt_of_lt_of_le (Nat.mod_lt _ ?_) ?_ <;> omega))) ?_
      refine lv_iconst (v := nI 1) hx hb dX7_isTold_29 (by decide) ?_
      refine lv_iand hx hb dX7_isTold_30 ?_
      refine lv_top (y := zI (Nat.testBit b2 y)) ((bi_and _ _).trans (bi_z _ _)) ?_
      refine lv_iconst (v := nI 1) hx hb dX7_isTold_31 (by decide) ?_
      refine lvB_ne1 (tgt := 60) hx hb dX7_isTold_32 (by decide) (fun c2 => ?_) (fun c2 => ?_)
      · refine lv_iconst (v := nI 0) hx hb dX7_isTold_60 (by decide) ?_
        exact hp_zret hx hb hr rfl hlocks hH hS (by decide) (by decide) dX7_isTold_61 (⟨congrArg some (congrArg Value.int (zI_0 (by unfold tldB; simp [c2]))), rfl⟩)
      · refine lv_aload_n hx hb dX7_isTold_35 rfl (lv_at hl 0 rfl) ?_
        refine hp_get (C := RX8) (T := TX8) (N := 7) (v := .null) hx hb hts in_X8 hown hK hH hru rfl 4 (by decide) (hts _ q741) (fun _ z => z) rfl dX7_isTold_36 ?_
        refine lv_ifnullN (tgt := 56) hx hb dX7_isTold_39 (by decide) ?_
        refine lv_iconst (v := nI 1) hx hb dX7_isTold_56 (by decide) ?_
        refine lv_goto (tgt := 61) hx hb dX7_isTold_57 (by decide) ?_
        exact hp_zret hx hb hr rfl hlocks hH hS (by decide) (by decide) dX7_isTold_61 (⟨congrArg some (congrArg Value.int (zI_1 (by unfold tldB; rw [decide_eq_true c0, c1, c2]; rfl))), rfl⟩)
set_option maxHeartbeats 4000000 in
theorem mc_toldR_X8 (hK0 : va_K D CL (TYS K) s0) {av : Nat → Nat} {ed mi : Nat} (hG : GX s0 wd av ed mi) {ru ma s1 s2 wt cp t : Nat} {rm : Int32} {rs : Bool} (hru : h ru = some (.inr (6, [.ref s1, .ref s2, .int (nI wt), .int rm, .ref ma, .int (zI rs), .ref cp]), t)) {w1 b1 w2 b2 x y : Nat} (hsd1 : SIDE h s1 w1 b1) (hsd2 : SIDE h s2 w2 b2) (hb1 : b1 < 1024) (hb2 : b2 < 1024) (hx0 : x < 10) (hy0 : y < 10) {nm num bu t3 : Nat} (hma : h ma = some (.inr (5, [.ref nm, .int (nI num), .int (nI bu)]), t3)) (hbu : bu < 1024) : Met l yX7_isTold (ws_ yX7_isTold cX7_isTold 3 ((Option.some Jvm.ClassFile.FieldType.boolean))) (rmk 2 0 0) (va_Pc [.ref ru, .int (nI x), .int (nI y)] (PB s0 D CL (h))) (QR s0 D CL (fun v h1 => v = some (.int (zI (tldB b1 b2 (some bu) x y))) ∧ h1 = h)) 0 0 (zA s0) := by
  refine hp_met (by decide) (Nat.le_of_ble_eq_true rfl) hK0 ?_
  intro p e s m below meth cd ls hx hb hr hlocks hml hown hnm hts hK hPB hl hS hH hA
  have hl : lv_has ls 3 [(0, .ref ru), (1, .int (nI x)), (2, .int (nI y))] := hl
  have hown : s.vm.findClass RX7 = some m.cls := hown
  refine lv_iload_n hx hb dX7_isTold_0 rfl (lv_at hl 1 rfl) ?_
  refine lv_iload_n hx hb dX7_isTold_1 rfl (lv_at hl 2 rfl) ?_
  refine lvN_eq (tgt := 60) hx hb (by first | omega | (refine Nat.lt_of_lt_of_le (Nat.mod_lt _ ?_) ?_ <;> omega)) (by first | omega | (refine Nat.lt_of_lt_of_le (Nat.mod_lt _ ?_) ?_ <;> omega)) dX7_isTold_2 (by decide) (fun c0 => ?_) (fun c0 => ?_)
  · refine lv_iconst (v := nI 0) hx hb dX7_isTold_60 (by decide) ?_
    exact hp_zret hx hb hr rfl hlocks hH hS (by decide) (by decide) dX7_isTold_61 (⟨congrArg some (congrArg Value.int (zI_0 (by unfold tldB; rw [decide_eq_false (not_not_intro c0)]; rfl))), rfl⟩)
  · refine lv_aload_n hx hb dX7_isTold_5 rfl (lv_at hl 0 rfl) ?_
    refine hp_get (C := RX8) (T := TX8) (N := 7) (v := .ref s1) hx hb hts in_X8 hown hK hH hru rfl 0 (by decide) (hts _ q732) (fun _ z => z) rfl dX7_isTold_6 ?_
    refine hp_who hx hb hml hown hts hPB hK0 hK hH hS hG hsd1 q701 (by decide) hl.1 rfl (Nat.le_of_ble_eq_true rfl) (by decide) dX7_isTold_9 (fun H locs hH hS => ?_)
    refine lv_iload_n hx hb dX7_isTold_12 rfl (lv_at hl 1 rfl) ?_
    refine lv_ishr hx hb dX7_isTold_13 ?_
    refine lv_top (y := nI (b1 / 2 ^ x)) (bi_shr (by first | omega | (refine Nat.lt_of_lt_of_le (Nat.mod_lt _ ?_) ?_ <;> omega)) (by first | omega | (refine Nat.lt_of_lt_of_le (Nat.mod_lt _ ?_) ?_ <;> omega))) ?_
    refine lv_iconst (v := nI 1) hx hb dX7_isTold_14 (by decide) ?_
    refine lv_iand hx hb dX7_isTold_15 ?_
    refine lv_top (y := zI (Nat.testBit b1 x)) ((bi_and _ _).trans (bi_z _ _)) ?_
    refine lv_iconst (v := nI 1) hx hb dX7_isTold_16 (by decide) ?_
    refine lvB_ne1 (tgt := 60) hx hb dX7_isTold_17 (by decide) (fun c1 => ?_) (fun c1 => ?_)
    · refine lv_iconst (v := nI 0) hx hb dX7_isTold_60 (by decide) ?_
      exact hp_zret hx hb hr rfl hlocks hH hS (by decide) (by decide) dX7_isTold_61 (⟨congrArg some (congrArg Value.int (zI_0 (by unfold tldB; simp [c1]))), rfl⟩)
    · refine lv_aload_n hx hb dX7_isTold_20 rfl (lv_at hl 0 rfl) ?_
      refine hp_get (C := RX8) (T := TX8) (N := 7) (v := .ref s2) hx hb hts in_X8 hown hK hH hru rfl 1 (by decide) (hts _ q734) (fun _ z => z) rfl dX7_isTold_21 ?_
      refine hp_who hx hb hml hown hts hPB hK0 hK hH hS hG hsd2 q701 (by decide) hl.1 rfl (Nat.le_of_ble_eq_true rfl) (by decide) dX7_isTold_24 (fun H locs hH hS => ?_)
      refine lv_iload_n hx hb dX7_isTold_27 rfl (lv_at hl 2 rfl) ?_
      refine lv_ishr hx hb dX7_isTold_28 ?_
      refine lv_top (y := nI (b2 / 2 ^ y)) (bi_shr (by first | omega | (refine Nat.lt_of_lt_of_le (Nat.mod_lt _ ?_) ?_ <;> omega)) (by first | omega | (refine Nat.lt_of_lt_of_le (Nat.mod_lt _ ?_) ?_ <;> omega))) ?_
      refine lv_iconst (v := nI 1) hx hb dX7_isTold_29 (by decide) ?_
      refine lv_iand hx hb dX7_isTold_30 ?_
      refine lv_top (y := zI (Nat.testBit b2 y)) ((bi_and _ _).trans (bi_z _ _)) ?_
      refine lv_iconst (v := nI 1) hx hb dX7_isTold_31 (by decide) ?_
      refine lvB_ne1 (tgt := 60) hx hb dX7_isTold_32 (by decide) (fun c2 => ?_) (fun c2 => ?_)
      · refine lv_iconst (v := nI 0) hx hb dX7_isTold_60 (by decide) ?_
        exact hp_zret hx hb hr rfl hlocks hH hS (by decide) (by decide) dX7_isTold_61 (⟨congrArg some (congrArg Value.int (zI_0 (by unfold tldB; simp [c2]))), rfl⟩)
      · refine lv_aload_n hx hb dX7_isTold_35 rfl (lv_at hl 0 rfl) ?_
        refine hp_get (C := RX8) (T := TX8) (N := 7) (v := .ref ma) hx hb hts in_X8 hown hK hH hru rfl 4 (by decide) (hts _ q741) (fun _ z => z) rfl dX7_isTold_36 ?_
        refine lv_ifnull hx hb dX7_isTold_39 ?_
        refine lv_aload_n hx hb dX7_isTold_42 rfl (lv_at hl 0 rfl) ?_
        refine hp_get (C := RX8) (T := TX8) (N := 7) (v := .ref ma) hx hb hts in_X8 hown hK hH hru rfl 4 (by decide) (hts _ q741) (fun _ z => z) rfl dX7_isTold_43 ?_
        refine hp_callV (As := []) (rest := []) hx hb hml hown hts hPB hK hH hS (mc_mwho hK0 hma) hma rfl rfl 0 (lw_V q710 q708 q1993 q124 q709) (by decide +kernel) ⟨rfl, rfl⟩ (by decide) rfl hl.1 rfl (Nat.le_of_ble_eq_true rfl) (by decide) dX7_isTold_46 (fun v1 h3 H locs hp2 _ hH hS => ?_)
        obtain ⟨rfl, hq⟩ := hp2
        rw [hq] at hH
        refine lv_iload_n hx hb dX7_isTold_49 rfl (lv_at hl 2 rfl) ?_
        refine lv_ishr hx hb dX7_isTold_50 ?_
        refine lv_top (y := nI (bu / 2 ^ y)) (bi_shr (by first | omega | (refine Nat.lt_of_lt_of_le (Nat.mod_lt _ ?_) ?_ <;> omega)) (by first | omega | (refine Nat.lt_of_lt_of_le (Nat.mod_lt _ ?_) ?_ <;> omega))) ?_
        refine lv_iconst (v := nI 1) hx hb dX7_isTold_51 (by decide) ?_
        refine lv_iand hx hb dX7_isTold_52 ?_
        refine lv_top (y := zI (Nat.testBit bu y)) ((bi_and _ _).trans (bi_z _ _)) ?_
        refine lvB_ne (tgt := 60) hx hb dX7_isTold_53 (by decide) (fun c3 => ?_) (fun c3 => ?_)
        · refine lv_iconst (v := nI 0) hx hb dX7_isTold_60 (by decide) ?_
          exact hp_zret hx hb hr rfl hlocks hH hS (by decide) (by decide) dX7_isTold_61 (⟨congrArg some (congrArg Value.int (zI_0 (by unfold tldB; simp [c3]))), rfl⟩)
        · refine lv_iconst (v := nI 1) hx hb dX7_isTold_56 (by decide) ?_
          refine lv_goto (tgt := 61) hx hb dX7_isTold_57 (by decide) ?_
          exact hp_zret hx hb hr rfl hlocks hH hS (by decide) (by decide) dX7_isTold_61 (⟨congrArg some (congrArg Value.int (zI_1 (by unfold tldB; rw [decide_eq_true c0, c1, c2]; simp [c3]))), rfl⟩)
theorem mc_told_X8 (hK0 : va_K D CL (TYS K) s0) {av : Nat → Nat} {ed mi : Nat} (hG : GX s0 wd av ed mi) {ru s1 s2 wt cp t : Nat} {rm : Int32} {un : Value} {rs : Bool} (hru : h ru = some (.inr (6, [.ref s1, .ref s2, .int (nI wt), .int rm, un, .int (zI rs), .ref cp]), t)) {w1 b1 w2 b2 x y : Nat} (hsd1 : SIDE h s1 w1 b1) (hsd2 : SIDE h s2 w2 b2) (hb1 : b1 < 1024) (hb2 : b2 < 1024) (hx0 : x < 10) (hy0 : y < 10) {bu : Option Nat} (hun : UNL h un bu) : Met l yX7_isTold (ws_ yX7_isTold cX7_isTold 3 ((Option.some Jvm.ClassFile.FieldType.boolean))) (rmk 2 0 0) (va_Pc [.ref ru, .int (nI x), .int (nI y)] (PB s0 D CL (h))) (QR s0 D CL (fun v h1 => v = some (.int (zI (tldB b1 b2 bu x y))) ∧ h1 = h)) 0 0 (zA s0) := by
  rcases hun with ⟨rfl, rfl⟩ | ⟨ma, nm, num, bits, t3, rfl, rfl, hma, hbits⟩
  · exact mc_toldN_X8 hK0 hG hru hsd1 hsd2 hb1 hb2 hx0 hy0
  · exact mc_toldR_X8 hK0 hG hru hsd1 hsd2 hb1 hb2 hx0 hy0 hma hbits
set_option maxHeartbeats 4000000 in
theorem mc_toldN_X11 (hK0 : va_K D CL (TYS K) s0) {av : Nat → Nat} {ed mi : Nat} (hG : GX s0 wd av ed mi) {ru s1 s2 wt cp t : Nat} {rm : Int32} {rs : Bool} (hru : h ru = some (.inr (8, [.ref s1, .ref s2, .int (nI wt), .int rm, .null, .int (zI rs), .ref cp]), t)) {w1 b1 w2 b2 x y : Nat} (hsd1 : SIDE h s1 w1 b1) (hsd2 : SIDE h s2 w2 b2) (hb1 : b1 < 1024) (hb2 : b2 < 1024) (hx0 : x < 10) (hy0 : y < 10) : Met l yX7_isTold (ws_ yX7_isTold cX7_isTold 3 ((Option.some Jvm.ClassFile.FieldType.boolean))) (rmk 2 0 0) (va_Pc [.ref ru, .int (nI x), .int (nI y)] (PB s0 D CL (h))) (QR s0 D CL (fun v h1 => v = some (.int (zI (tldB b1 b2 none x y))) ∧ h1 = h)) 0 0 (zA s0) := by
  refine hp_met (by decide) (Nat.le_of_ble_eq_true rfl) hK0 ?_
  intro p e s m below meth cd ls hx hb hr hlocks hml hown hnm hts hK hPB hl hS hH hA
  have hl : lv_has ls 3 [(0, .ref ru), (1, .int (nI x)), (2, .int (nI y))] := hl
  have hown : s.vm.findClass RX7 = some m.cls := hown
  refine lv_iload_n hx hb dX7_isTold_0 rfl (lv_at hl 1 rfl) ?_
  refine lv_iload_n hx hb dX7_isTold_1 rfl (lv_at hl 2 rfl) ?_
  refine lvN_eq (tgt := 60) hx hb (by first | omega | (refine Nat.lt_of_lt_of_le (Nat.mod_lt _ ?_) ?_ <;> omega)) (by first | omega | (refine Nat.lt_of_lt_of_le (Nat.mod_lt _ ?_) ?_ <;> omega)) dX7_isTold_2 (by decide) (fun c0 => ?_) (fun c0 => ?_)
  · refine lv_iconst (v := nI 0) hx hb dX7_isTold_60 (by decide) ?_
    exact hp_zret hx hb hr rfl hlocks hH hS (by decide) (by decide) dX7_isTold_61 (⟨congrArg some (congrArg Value.int (zI_0 (by unfold tldB; rw [decide_eq_false (not_not_intro c0)]; rfl))), rfl⟩)
  · refine lv_aload_n hx hb dX7_isTold_5 rfl (lv_at hl 0 rfl) ?_
    refine hp_get (C := RX11) (T := TX11) (N := 7) (v := .ref s1) hx hb hts in_X11 hown hK hH hru rfl 0 (by decide) (hts _ q732) (fun _ z => z) rfl dX7_isTold_6 ?_
    refine hp_who hx hb hml hown hts hPB hK0 hK hH hS hG hsd1 q701 (by decide) hl.1 rfl (Nat.le_of_ble_eq_true rfl) (by decide) dX7_isTold_9 (fun H locs hH hS => ?_)
    refine lv_iload_n hx hb dX7_isTold_12 rfl (lv_at hl 1 rfl) ?_
    refine lv_ishr hx hb dX7_isTold_13 ?_
    refine lv_top (y := nI (b1 / 2 ^ x)) (bi_shr (by first | omega | (refine Nat.lt_of_lt_of_le (Nat.mod_lt _ ?_) ?_ <;> omega)) (by first | omega | (refine Nat.lt_of_lt_of_le (Nat.mod_lt _ ?_) ?_ <;> omega))) ?_
    refine lv_iconst (v := nI 1) hx hb dX7_isTold_14 (by decide) ?_
    refine lv_iand hx hb dX7_isTold_15 ?_
    refine lv_top (y := zI (Nat.testBit b1 x)) ((bi_and _ _).trans (bi_z _ _)) ?_
    refine lv_iconst (v := nI 1) hx hb dX7_isTold_16 (by decide) ?_
    refine lvB_ne1 (tgt := 60) hx hb dX7_isTold_17 (by decide) (fun c1 => ?_) (fun c1 => ?_)
    · refine lv_iconst (v := nI 0) hx hb dX7_isTold_60 (by decide) ?_
      exact hp_zret hx hb hr rfl hlocks hH hS (by decide) (by decide) dX7_isTold_61 (⟨congrArg some (congrArg Value.int (zI_0 (by unfold tldB; simp [c1]))), rfl⟩)
    · refine lv_aload_n hx hb dX7_isTold_20 rfl (lv_at hl 0 rfl) ?_
      refine hp_get (C := RX11) (T := TX11) (N := 7) (v := .ref s2) hx hb hts in_X11 hown hK hH hru rfl 1 (by decide) (hts _ q734) (fun _ z => z) rfl dX7_isTold_21 ?_
      refine hp_who hx hb hml hown hts hPB hK0 hK hH hS hG hsd2 q701 (by decide) hl.1 rfl (Nat.le_of_ble_eq_true rfl) (by decide) dX7_isTold_24 (fun H locs hH hS => ?_)
      refine lv_iload_n hx hb dX7_isTold_27 rfl (lv_at hl 2 rfl) ?_
      refine lv_ishr hx hb dX7_isTold_28 ?_
      refine lv_top (y := nI (b2 / 2 ^ y)) (bi_shr (by first | omega | (refine Nat.lt_of_lt_of_le (Nat.mod_lt _ ?_) ?_ <;> omega)) (by first | omega | (refine Nat.lt_of_lt_of_le (Nat.mod_lt _ ?_) ?_ <;> omega))) ?_
      refine lv_iconst (v := nI 1) hx hb dX7_isTold_29 (by decide) ?_
      refine lv_iand hx hb dX7_isTold_30 ?_
      refine lv_top (y := zI (Nat.testBit b2 y)) ((bi_and _ _).trans (bi_z _ _)) ?_
      refine lv_iconst (v := nI 1) hx hb dX7_isTold_31 (by decide) ?_
      refine lvB_ne1 (tgt := 60) hx hb dX7_isTold_32 (by decide) (fun c2 => ?_) (fun c2 => ?_)
      · refine lv_iconst (v := nI 0) hx hb dX7_isTold_60 (by decide) ?_
        exact hp_zret hx hb hr rfl hlocks hH hS (by decide) (by decide) dX7_isTold_61 (⟨congrArg some (congrArg Value.int (zI_0 (by unfold tldB; simp [c2]))), rfl⟩)
      · refine lv_aload_n hx hb dX7_isTold_35 rfl (lv_at hl 0 rfl) ?_
        refine hp_get (C := RX11) (T := TX11) (N := 7) (v := .null) hx hb hts in_X11 hown hK hH hru rfl 4 (by decide) (hts _ q741) (fun _ z => z) rfl dX7_isTold_36 ?_
        refine lv_ifnullN (tgt := 56) hx hb dX7_isTold_39 (by decide) ?_
        refine lv_iconst (v := nI 1) hx hb dX7_isTold_56 (by decide) ?_
        refine lv_goto (tgt := 61) hx hb dX7_isTold_57 (by decide) ?_
        exact hp_zret hx hb hr rfl hlocks hH hS (by decide) (by decide) dX7_isTold_61 (⟨congrArg some (congrArg Value.int (zI_1 (by unfold tldB; rw [decide_eq_true c0, c1, c2]; rfl))), rfl⟩)
set_option maxHeartbeats 4000000 in
theorem mc_toldR_X11 (hK0 : va_K D CL (TYS K) s0) {av : Nat → Nat} {ed mi : Nat} (hG : GX s0 wd av ed mi) {ru ma s1 s2 wt cp t : Nat} {rm : Int32} {rs : Bool} (hru : h ru = some (.inr (8, [.ref s1, .ref s2, .int (nI wt), .int rm, .ref ma, .int (zI rs), .ref cp]), t)) {w1 b1 w2 b2 x y : Nat} (hsd1 : SIDE h s1 w1 b1) (hsd2 : SIDE h s2 w2 b2) (hb1 : b1 < 1024) (hb2 : b2 < 1024) (hx0 : x < 10) (hy0 : y < 10) {nm num bu t3 : Nat} (hma : h ma = some (.inr (5, [.ref nm, .int (nI num), .int (nI bu)]), t3)) (hbu : bu < 1024) : Met l yX7_isTold (ws_ yX7_isTold cX7_isTold 3 ((Option.some Jvm.ClassFile.FieldType.boolean))) (rmk 2 0 0) (va_Pc [.ref ru, .int (nI x), .int (nI y)] (PB s0 D CL (h))) (QR s0 D CL (fun v h1 => v = some (.int (zI (tldB b1 b2 (some bu) x y))) ∧ h1 = h)) 0 0 (zA s0) := by
  refine hp_met (by decide) (Nat.le_of_ble_eq_true rfl) hK0 ?_
  intro p e s m below meth cd ls hx hb hr hlocks hml hown hnm hts hK hPB hl hS hH hA
  have hl : lv_has ls 3 [(0, .ref ru), (1, .int (nI x)), (2, .int (nI y))] := hl
  have hown : s.vm.findClass RX7 = some m.cls := hown
  refine lv_iload_n hx hb dX7_isTold_0 rfl (lv_at hl 1 rfl) ?_
  refine lv_iload_n hx hb dX7_isTold_1 rfl (lv_at hl 2 rfl) ?_
  refine lvN_eq (tgt := 60) hx hb (by first | omega | (refine Nat.lt_of_lt_of_le (Nat.mod_lt _ ?_) ?_ <;> omega)) (by first | omega | (refine Nat.lt_of_lt_of_le (Nat.mod_lt _ ?_) ?_ <;> omega)) dX7_isTold_2 (by decide) (fun c0 => ?_) (fun c0 => ?_)
  · refine lv_iconst (v := nI 0) hx hb dX7_isTold_60 (by decide) ?_
    exact hp_zret hx hb hr rfl hlocks hH hS (by decide) (by decide) dX7_isTold_61 (⟨congrArg some (congrArg Value.int (zI_0 (by unfold tldB; rw [decide_eq_false (not_not_intro c0)]; rfl))), rfl⟩)
  · refine lv_aload_n hx hb dX7_isTold_5 rfl (lv_at hl 0 rfl) ?_
    refine hp_get (C := RX11) (T := TX11) (N := 7) (v := .ref s1) hx hb hts in_X11 hown hK hH hru rfl 0 (by decide) (hts _ q732) (fun _ z => z) rfl dX7_isTold_6 ?_
    refine hp_who hx hb hml hown hts hPB hK0 hK hH hS hG hsd1 q701 (by decide) hl.1 rfl (Nat.le_of_ble_eq_true rfl) (by decide) dX7_isTold_9 (fun H locs hH hS => ?_)
    refine lv_iload_n hx hb dX7_isTold_12 rfl (lv_at hl 1 rfl) ?_
    refine lv_ishr hx hb dX7_isTold_13 ?_
    refine lv_top (y := nI (b1 / 2 ^ x)) (bi_shr (by first | omega | (refine Nat.lt_of_lt_of_le (Nat.mod_lt _ ?_) ?_ <;> omega)) (by first | omega | (refine Nat.lt_of_lt_of_le (Nat.mod_lt _ ?_) ?_ <;> omega))) ?_
    refine lv_iconst (v := nI 1) hx hb dX7_isTold_14 (by decide) ?_
    refine lv_iand hx hb dX7_isTold_15 ?_
    refine lv_top (y := zI (Nat.testBit b1 x)) ((bi_and _ _).trans (bi_z _ _)) ?_
    refine lv_iconst (v := nI 1) hx hb dX7_isTold_16 (by decide) ?_
    refine lvB_ne1 (tgt := 60) hx hb dX7_isTold_17 (by decide) (fun c1 => ?_) (fun c1 => ?_)
    · refine lv_iconst (v := nI 0) hx hb dX7_isTold_60 (by decide) ?_
      exact hp_zret hx hb hr rfl hlocks hH hS (by decide) (by decide) dX7_isTold_61 (⟨congrArg some (congrArg Value.int (zI_0 (by unfold tldB; simp [c1]))), rfl⟩)
    · refine lv_aload_n hx hb dX7_isTold_20 rfl (lv_at hl 0 rfl) ?_
      refine hp_get (C := RX11) (T := TX11) (N := 7) (v := .ref s2) hx hb hts in_X11 hown hK hH hru rfl 1 (by decide) (hts _ q734) (fun _ z => z) rfl dX7_isTold_21 ?_
      refine hp_who hx hb hml hown hts hPB hK0 hK hH hS hG hsd2 q701 (by decide) hl.1 rfl (Nat.le_of_ble_eq_true rfl) (by decide) dX7_isTold_24 (fun H locs hH hS => ?_)
      refine lv_iload_n hx hb dX7_isTold_27 rfl (lv_at hl 2 rfl) ?_
      refine lv_ishr hx hb dX7_isTold_28 ?_
      refine lv_top (y := nI (b2 / 2 ^ y)) (bi_shr (by first | omega | (refine Nat.lt_of_lt_of_le (Nat.mod_lt _ ?_) ?_ <;> omega)) (by first | omega | (refine Nat.lt_of_lt_of_le (Nat.mod_lt _ ?_) ?_ <;> omega))) ?_
      refine lv_iconst (v := nI 1) hx hb dX7_isTold_29 (by decide) ?_
      refine lv_iand hx hb dX7_isTold_30 ?_
      refine lv_top (y := zI (Nat.testBit b2 y)) ((bi_and _ _).trans (bi_z _ _)) ?_
      refine lv_iconst (v := nI 1) hx hb dX7_isTold_31 (by decide) ?_
      refine lvB_ne1 (tgt := 60) hx hb dX7_isTold_32 (by decide) (fun c2 => ?_) (fun c2 => ?_)
      · refine lv_iconst (v := nI 0) hx hb dX7_isTold_60 (by decide) ?_
        exact hp_zret hx hb hr rfl hlocks hH hS (by decide) (by decide) dX7_isTold_61 (⟨congrArg some (congrArg Value.int (zI_0 (by unfold tldB; simp [c2]))), rfl⟩)
      · refine lv_aload_n hx hb dX7_isTold_35 rfl (lv_at hl 0 rfl) ?_
        refine hp_get (C := RX11) (T := TX11) (N := 7) (v := .ref ma) hx hb hts in_X11 hown hK hH hru rfl 4 (by decide) (hts _ q741) (fun _ z => z) rfl dX7_isTold_36 ?_
        refine lv_ifnull hx hb dX7_isTold_39 ?_
        refine lv_aload_n hx hb dX7_isTold_42 rfl (lv_at hl 0 rfl) ?_
        refine hp_get (C := RX11) (T := TX11) (N := 7) (v := .ref ma) hx hb hts in_X11 hown hK hH hru rfl 4 (by decide) (hts _ q741) (fun _ z => z) rfl dX7_isTold_43 ?_
        refine hp_callV (As := []) (rest := []) hx hb hml hown hts hPB hK hH hS (mc_mwho hK0 hma) hma rfl rfl 0 (lw_V q710 q708 q1993 q124 q709) (by decide +kernel) ⟨rfl, rfl⟩ (by decide) rfl hl.1 rfl (Nat.le_of_ble_eq_true rfl) (by decide) dX7_isTold_46 (fun v1 h3 H locs hp2 _ hH hS => ?_)
        obtain ⟨rfl, hq⟩ := hp2
        rw [hq] at hH
        refine lv_iload_n hx hb dX7_isTold_49 rfl (lv_at hl 2 rfl) ?_
        refine lv_ishr hx hb dX7_isTold_50 ?_
        refine lv_top (y := nI (bu / 2 ^ y)) (bi_shr (by first | omega | (refine Nat.lt_of_lt_of_le (Nat.mod_lt _ ?_) ?_ <;> omega)) (by first | omega | (refine Nat.lt_of_lt_of_le (Nat.mod_lt _ ?_) ?_ <;> omega))) ?_
        refine lv_iconst (v := nI 1) hx hb dX7_isTold_51 (by decide) ?_
        refine lv_iand hx hb dX7_isTold_52 ?_
        refine lv_top (y := zI (Nat.testBit bu y)) ((bi_and _ _).trans (bi_z _ _)) ?_
        refine lvB_ne (tgt := 60) hx hb dX7_isTold_53 (by decide) (fun c3 => ?_) (fun c3 => ?_)
        · refine lv_iconst (v := nI 0) hx hb dX7_isTold_60 (by decide) ?_
          exact hp_zret hx hb hr rfl hlocks hH hS (by decide) (by decide) dX7_isTold_61 (⟨congrArg some (congrArg Value.int (zI_0 (by unfold tldB; simp [c3]))), rfl⟩)
        · refine lv_iconst (v := nI 1) hx hb dX7_isTold_56 (by decide) ?_
          refine lv_goto (tgt := 61) hx hb dX7_isTold_57 (by decide) ?_
          exact hp_zret hx hb hr rfl hlocks hH hS (by decide) (by decide) dX7_isTold_61 (⟨congrArg some (congrArg Value.int (zI_1 (by unfold tldB; rw [decide_eq_true c0, c1, c2]; simp [c3]))), rfl⟩)
theorem mc_told_X11 (hK0 : va_K D CL (TYS K) s0) {av : Nat → Nat} {ed mi : Nat} (hG : GX s0 wd av ed mi) {ru s1 s2 wt cp t : Nat} {rm : Int32} {un : Value} {rs : Bool} (hru : h ru = some (.inr (8, [.ref s1, .ref s2, .int (nI wt), .int rm, un, .int (zI rs), .ref cp]), t)) {w1 b1 w2 b2 x y : Nat} (hsd1 : SIDE h s1 w1 b1) (hsd2 : SIDE h s2 w2 b2) (hb1 : b1 < 1024) (hb2 : b2 < 1024) (hx0 : x < 10) (hy0 : y < 10) {bu : Option Nat} (hun : UNL h un bu) : Met l yX7_isTold (ws_ yX7_isTold cX7_isTold 3 ((Option.some Jvm.ClassFile.FieldType.boolean))) (rmk 2 0 0) (va_Pc [.ref ru, .int (nI x), .int (nI y)] (PB s0 D CL (h))) (QR s0 D CL (fun v h1 => v = some (.int (zI (tldB b1 b2 bu x y))) ∧ h1 = h)) 0 0 (zA s0) := by
  rcases hun with ⟨rfl, rfl⟩ | ⟨ma, nm, num, bits, t3, rfl, rfl, hma, hbits⟩
  · exact mc_toldN_X11 hK0 hG hru hsd1 hsd2 hb1 hb2 hx0 hy0
  · exact mc_toldR_X11 hK0 hG hru hsd1 hsd2 hb1 hb2 hx0 hy0 hma hbits
set_option maxHeartbeats 4000000 in
theorem mc_toldN_X12 (hK0 : va_K D CL (TYS K) s0) {av : Nat → Nat} {ed mi : Nat} (hG : GX s0 wd av ed mi) {ru s1 s2 wt cp t : Nat} {rm : Int32} {rs : Bool} (hru : h ru = some (.inr (9, [.ref s1, .ref s2, .int (nI wt), .int rm, .null, .int (zI rs), .ref cp]), t)) {w1 b1 w2 b2 x y : Nat} (hsd1 : SIDE h s1 w1 b1) (hsd2 : SIDE h s2 w2 b2) (hb1 : b1 < 1024) (hb2 : b2 < 1024) (hx0 : x < 10) (hy0 : y < 10) : Met l yX7_isTold (ws_ yX7_isTold cX7_isTold 3 ((Option.some Jvm.ClassFile.FieldType.boolean))) (rmk 2 0 0) (va_Pc [.ref ru, .int (nI x), .int (nI y)] (PB s0 D CL (h))) (QR s0 D CL (fun v h1 => v = some (.int (zI (tldB b1 b2 none x y))) ∧ h1 = h)) 0 0 (zA s0) := by
  refine hp_met (by decide) (Nat.le_of_ble_eq_true rfl) hK0 ?_
  intro p e s m below meth cd ls hx hb hr hlocks hml hown hnm hts hK hPB hl hS hH hA
  have hl : lv_has ls 3 [(0, .ref ru), (1, .int (nI x)), (2, .int (nI y))] := hl
  have hown : s.vm.findClass RX7 = some m.cls := hown
  refine lv_iload_n hx hb dX7_isTold_0 rfl (lv_at hl 1 rfl) ?_
  refine lv_iload_n hx hb dX7_isTold_1 rfl (lv_at hl 2 rfl) ?_
  refine lvN_eq (tgt := 60) hx hb (by first | omega | (refine Nat.lt_of_lt_of_le (Nat.mod_lt _ ?_) ?_ <;> omega)) (by first | omega | (refine Nat.lt_of_lt_of_le (Nat.mod_lt _ ?_) ?_ <;> omega)) dX7_isTold_2 (by decide) (fun c0 => ?_) (fun c0 => ?_)
  · refine lv_iconst (v := nI 0) hx hb dX7_isTold_60 (by decide) ?_
    exact hp_zret hx hb hr rfl hlocks hH hS (by decide) (by decide) dX7_isTold_61 (⟨congrArg some (congrArg Value.int (zI_0 (by unfold tldB; rw [decide_eq_false (not_not_intro c0)]; rfl))), rfl⟩)
  · refine lv_aload_n hx hb dX7_isTold_5 rfl (lv_at hl 0 rfl) ?_
    refine hp_get (C := RX12) (T := TX12) (N := 7) (v := .ref s1) hx hb hts in_X12 hown hK hH hru rfl 0 (by decide) (hts _ q732) (fun _ z => z) rfl dX7_isTold_6 ?_
    refine hp_who hx hb hml hown hts hPB hK0 hK hH hS hG hsd1 q701 (by decide) hl.1 rfl (Nat.le_of_ble_eq_true rfl) (by decide) dX7_isTold_9 (fun H locs hH hS => ?_)
    refine lv_iload_n hx hb dX7_isTold_12 rfl (lv_at hl 1 rfl) ?_
    refine lv_ishr hx hb dX7_isTold_13 ?_
    refine lv_top (y := nI (b1 / 2 ^ x)) (bi_shr (by first | omega | (refine Nat.lt_of_lt_of_le (Nat.mod_lt _ ?_) ?_ <;> omega)) (by first | omega | (refine Nat.lt_of_lt_of_le (Nat.mod_lt _ ?_) ?_ <;> omega))) ?_
    refine lv_iconst (v := nI 1) hx hb dX7_isTold_14 (by decide) ?_
    refine lv_iand hx hb dX7_isTold_15 ?_
    refine lv_top (y := zI (Nat.testBit b1 x)) ((bi_and _ _).trans (bi_z _ _)) ?_
    refine lv_iconst (v := nI 1) hx hb dX7_isTold_16 (by decide) ?_
    refine lvB_ne1 (tgt := 60) hx hb dX7_isTold_17 (by decide) (fun c1 => ?_) (fun c1 => ?_)
    · refine lv_iconst (v := nI 0) hx hb dX7_isTold_60 (by decide) ?_
      exact hp_zret hx hb hr rfl hlocks hH hS (by decide) (by decide) dX7_isTold_61 (⟨congrArg some (congrArg Value.int (zI_0 (by unfold tldB; simp [c1]))), rfl⟩)
    · refine lv_aload_n hx hb dX7_isTold_20 rfl (lv_at hl 0 rfl) ?_
      refine hp_get (C := RX12) (T := TX12) (N := 7) (v := .ref s2) hx hb hts in_X12 hown hK hH hru rfl 1 (by decide) (hts _ q734) (fun _ z => z) rfl dX7_isTold_21 ?_
      refine hp_who hx hb hml hown hts hPB hK0 hK hH hS hG hsd2 q701 (by decide) hl.1 rfl (Nat.le_of_ble_eq_true rfl) (by decide) dX7_isTold_24 (fun H locs hH hS => ?_)
      refine lv_iload_n hx hb dX7_isTold_27 rfl (lv_at hl 2 rfl) ?_
      refine lv_ishr hx hb dX7_isTold_28 ?_
      refine lv_top (y := nI (b2 / 2 ^ y)) (bi_shr (by first | omega | (refine Nat.lt_of_lt_of_le (Nat.mod_lt _ ?_) ?_ <;> omega)) (by first | omega | (refine Nat.lt_of_lt_of_le (Nat.mod_lt _ ?_) ?_ <;> omega))) ?_
      refine lv_iconst (v := nI 1) hx hb dX7_isTold_29 (by decide) ?_
      refine lv_iand hx hb dX7_isTold_30 ?_
      refine lv_top (y := zI (Nat.testBit b2 y)) ((bi_and _ _).trans (bi_z _ _)) ?_
      refine lv_iconst (v := nI 1) hx hb dX7_isTold_31 (by decide) ?_
      refine lvB_ne1 (tgt := 60) hx hb dX7_isTold_32 (by decide) (fun c2 => ?_) (fun c2 => ?_)
      · refine lv_iconst (v := nI 0) hx hb dX7_isTold_60 (by decide) ?_
        exact hp_zret hx hb hr rfl hlocks hH hS (by decide) (by decide) dX7_isTold_61 (⟨congrArg some (congrArg Value.int (zI_0 (by unfold tldB; simp [c2]))), rfl⟩)
      · refine lv_aload_n hx hb dX7_isTold_35 rfl (lv_at hl 0 rfl) ?_
        refine hp_get (C := RX12) (T := TX12) (N := 7) (v := .null) hx hb hts in_X12 hown hK hH hru rfl 4 (by decide) (hts _ q741) (fun _ z => z) rfl dX7_isTold_36 ?_
        refine lv_ifnullN (tgt := 56) hx hb dX7_isTold_39 (by decide) ?_
        refine lv_iconst (v := nI 1) hx hb dX7_isTold_56 (by decide) ?_
        refine lv_goto (tgt := 61) hx hb dX7_isTold_57 (by decide) ?_
        exact hp_zret hx hb hr rfl hlocks hH hS (by decide) (by decide) dX7_isTold_61 (⟨congrArg some (congrArg Value.int (zI_1 (by unfold tldB; rw [decide_eq_true c0, c1, c2]; rfl))), rfl⟩)
set_option maxHeartbeats 4000000 in
theorem mc_toldR_X12 (hK0 : va_K D CL (TYS K) s0) {av : Nat → Nat} {ed mi : Nat} (hG : GX s0 wd av ed mi) {ru ma s1 s2 wt cp t : Nat} {rm : Int32} {rs : Bool} (hru : h ru = some (.inr (9, [.ref s1, .ref s2, .int (nI wt), .int rm, .ref ma, .int (zI rs), .ref cp]), t)) {w1 b1 w2 b2 x y : Nat} (hsd1 : SIDE h s1 w1 b1) (hsd2 : SIDE h s2 w2 b2) (hb1 : b1 < 1024) (hb2 : b2 < 1024) (hx0 : x < 10) (hy0 : y < 10) {nm num bu t3 : Nat} (hma : h ma = some (.inr (5, [.ref nm, .int (nI num), .int (nI bu)]), t3)) (hbu : bu < 1024) : Met l yX7_isTold (ws_ yX7_isTold cX7_isTold 3 ((Option.some Jvm.ClassFile.FieldType.boolean))) (rmk 2 0 0) (va_Pc [.ref ru, .int (nI x), .int (nI y)] (PB s0 D CL (h))) (QR s0 D CL (fun v h1 => v = some (.int (zI (tldB b1 b2 (some bu) x y))) ∧ h1 = h)) 0 0 (zA s0) := by
  refine hp_met (by decide) (Nat.le_of_ble_eq_true rfl) hK0 ?_
  intro p e s m below meth cd ls hx hb hr hlocks hml hown hnm hts hK hPB hl hS hH hA
  have hl : lv_has ls 3 [(0, .ref ru), (1, .int (nI x)), (2, .int (nI y))] := hl
  have hown : s.vm.findClass RX7 = some m.cls := hown
  refine lv_iload_n hx hb dX7_isTold_0 rfl (lv_at hl 1 rfl) ?_
  refine lv_iload_n hx hb dX7_isTold_1 rfl (lv_at hl 2 rfl) ?_
  refine lvN_eq (tgt := 60) hx hb (by first | omega | (refine Nat.lt_of_lt_of_le (Nat.mod_lt _ ?_) ?_ <;> omega)) (by first | omega | (refine Nat.lt_of_lt_of_le (Nat.mod_lt _ ?_) ?_ <;> omega)) dX7_isTold_2 (by decide) (fun c0 => ?_) (fun c0 => ?_)
  · refine lv_iconst (v := nI 0) hx hb dX7_isTold_60 (by decide) ?_
    exact hp_zret hx hb hr rfl hlocks hH hS (by decide) (by decide) dX7_isTold_61 (⟨congrArg some (congrArg Value.int (zI_0 (by unfold tldB; rw [decide_eq_false (not_not_intro c0)]; rfl))), rfl⟩)
  · refine lv_aload_n hx hb dX7_isTold_5 rfl (lv_at hl 0 rfl) ?_
    refine hp_get (C := RX12) (T := TX12) (N := 7) (v := .ref s1) hx hb hts in_X12 hown hK hH hru rfl 0 (by decide) (hts _ q732) (fun _ z => z) rfl dX7_isTold_6 ?_
    refine hp_who hx hb hml hown hts hPB hK0 hK hH hS hG hsd1 q701 (by decide) hl.1 rfl (Nat.le_of_ble_eq_true rfl) (by decide) dX7_isTold_9 (fun H locs hH hS => ?_)
    refine lv_iload_n hx hb dX7_isTold_12 rfl (lv_at hl 1 rfl) ?_
    refine lv_ishr hx hb dX7_isTold_13 ?_
    refine lv_top (y := nI (b1 / 2 ^ x)) (bi_shr (by first | omega | (refine Nat.lt_of_lt_of_le (Nat.mod_lt _ ?_) ?_ <;> omega)) (by first | omega | (refine Nat.lt_of_lt_of_le (Nat.mod_lt _ ?_) ?_ <;> omega))) ?_
    refine lv_iconst (v := nI 1) hx hb dX7_isTold_14 (by decide) ?_
    refine lv_iand hx hb dX7_isTold_15 ?_
    refine lv_top (y := zI (Nat.testBit b1 x)) ((bi_and _ _).trans (bi_z _ _)) ?_
    refine lv_iconst (v := nI 1) hx hb dX7_isTold_16 (by decide) ?_
    refine lvB_ne1 (tgt := 60) hx hb dX7_isTold_17 (by decide) (fun c1 => ?_) (fun c1 => ?_)
    · refine lv_iconst (v := nI 0) hx hb dX7_isTold_60 (by decide) ?_
      exact hp_zret hx hb hr rfl hlocks hH hS (by decide) (by decide) dX7_isTold_61 (⟨congrArg some (congrArg Value.int (zI_0 (by unfold tldB; simp [c1]))), rfl⟩)
    · refine lv_aload_n hx hb dX7_isTold_20 rfl (lv_at hl 0 rfl) ?_
      refine hp_get (C := RX12) (T := TX12) (N := 7) (v := .ref s2) hx hb hts in_X12 hown hK hH hru rfl 1 (by decide) (hts _ q734) (fun _ z => z) rfl dX7_isTold_21 ?_
      refine hp_who hx hb hml hown hts hPB hK0 hK hH hS hG hsd2 q701 (by decide) hl.1 rfl (Nat.le_of_ble_eq_true rfl) (by decide) dX7_isTold_24 (fun H locs hH hS => ?_)
      refine lv_iload_n hx hb dX7_isTold_27 rfl (lv_at hl 2 rfl) ?_
      refine lv_ishr hx hb dX7_isTold_28 ?_
      refine lv_top (y := nI (b2 / 2 ^ y)) (bi_shr (by first | omega | (refine Nat.lt_of_lt_of_le (Nat.mod_lt _ ?_) ?_ <;> omega)) (by first | omega | (refine Nat.lt_of_lt_of_le (Nat.mod_lt _ ?_) ?_ <;> omega))) ?_
      refine lv_iconst (v := nI 1) hx hb dX7_isTold_29 (by decide) ?_
      refine lv_iand hx hb dX7_isTold_30 ?_
      refine lv_top (y := zI (Nat.testBit b2 y)) ((bi_and _ _).trans (bi_z _ _)) ?_
      refine lv_iconst (v := nI 1) hx hb dX7_isTold_31 (by decide) ?_
      refine lvB_ne1 (tgt := 60) hx hb dX7_isTold_32 (by decide) (fun c2 => ?_) (fun c2 => ?_)
      · refine lv_iconst (v := nI 0) hx hb dX7_isTold_60 (by decide) ?_
        exact hp_zret hx hb hr rfl hlocks hH hS (by decide) (by decide) dX7_isTold_61 (⟨congrArg some (congrArg Value.int (zI_0 (by unfold tldB; simp [c2]))), rfl⟩)
      · refine lv_aload_n hx hb dX7_isTold_35 rfl (lv_at hl 0 rfl) ?_
        refine hp_get (C := RX12) (T := TX12) (N := 7) (v := .ref ma) hx hb hts in_X12 hown hK hH hru rfl 4 (by decide) (hts _ q741) (fun _ z => z) rfl dX7_isTold_36 ?_
        refine lv_ifnull hx hb dX7_isTold_39 ?_
        refine lv_aload_n hx hb dX7_isTold_42 rfl (lv_at hl 0 rfl) ?_
        refine hp_get (C := RX12) (T := TX12) (N := 7) (v := .ref ma) hx hb hts in_X12 hown hK hH hru rfl 4 (by decide) (hts _ q741) (fun _ z => z) rfl dX7_isTold_43 ?_
        refine hp_callV (As := []) (rest := []) hx hb hml hown hts hPB hK hH hS (mc_mwho hK0 hma) hma rfl rfl 0 (lw_V q710 q708 q1993 q124 q709) (by decide +kernel) ⟨rfl, rfl⟩ (by decide) rfl hl.1 rfl (Nat.le_of_ble_eq_true rfl) (by decide) dX7_isTold_46 (fun v1 h3 H locs hp2 _ hH hS => ?_)
        obtain ⟨rfl, hq⟩ := hp2
        rw [hq] at hH
        refine lv_iload_n hx hb dX7_isTold_49 rfl (lv_at hl 2 rfl) ?_
        refine lv_ishr hx hb dX7_isTold_50 ?_
        refine lv_top (y := nI (bu / 2 ^ y)) (bi_shr (by first | omega | (refine Nat.lt_of_lt_of_le (Nat.mod_lt _ ?_) ?_ <;> omega)) (by first | omega | (refine Nat.lt_of_lt_of_le (Nat.mod_lt _ ?_) ?_ <;> omega))) ?_
        refine lv_iconst (v := nI 1) hx hb dX7_isTold_51 (by decide) ?_
        refine lv_iand hx hb dX7_isTold_52 ?_
        refine lv_top (y := zI (Nat.testBit bu y)) ((bi_and _ _).trans (bi_z _ _)) ?_
        refine lvB_ne (tgt := 60) hx hb dX7_isTold_53 (by decide) (fun c3 => ?_) (fun c3 => ?_)
        · refine lv_iconst (v := nI 0) hx hb dX7_isTold_60 (by decide) ?_
          exact hp_zret hx hb hr rfl hlocks hH hS (by decide) (by decide) dX7_isTold_61 (⟨congrArg some (congrArg Value.int (zI_0 (by unfold tldB; simp [c3]))), rfl⟩)
        · refine lv_iconst (v := nI 1) hx hb dX7_isTold_56 (by decide) ?_
          refine lv_goto (tgt := 61) hx hb dX7_isTold_57 (by decide) ?_
          exact hp_zret hx hb hr rfl hlocks hH hS (by decide) (by decide) dX7_isTold_61 (⟨congrArg some (congrArg Value.int (zI_1 (by unfold tldB; rw [decide_eq_true c0, c1, c2]; simp [c3]))), rfl⟩)
theorem mc_told_X12 (hK0 : va_K D CL (TYS K) s0) {av : Nat → Nat} {ed mi : Nat} (hG : GX s0 wd av ed mi) {ru s1 s2 wt cp t : Nat} {rm : Int32} {un : Value} {rs : Bool} (hru : h ru = some (.inr (9, [.ref s1, .ref s2, .int (nI wt), .int rm, un, .int (zI rs), .ref cp]), t)) {w1 b1 w2 b2 x y : Nat} (hsd1 : SIDE h s1 w1 b1) (hsd2 : SIDE h s2 w2 b2) (hb1 : b1 < 1024) (hb2 : b2 < 1024) (hx0 : x < 10) (hy0 : y < 10) {bu : Option Nat} (hun : UNL h un bu) : Met l yX7_isTold (ws_ yX7_isTold cX7_isTold 3 ((Option.some Jvm.ClassFile.FieldType.boolean))) (rmk 2 0 0) (va_Pc [.ref ru, .int (nI x), .int (nI y)] (PB s0 D CL (h))) (QR s0 D CL (fun v h1 => v = some (.int (zI (tldB b1 b2 bu x y))) ∧ h1 = h)) 0 0 (zA s0) := by
  rcases hun with ⟨rfl, rfl⟩ | ⟨ma, nm, num, bits, t3, rfl, rfl, hma, hbits⟩
  · exact mc_toldN_X12 hK0 hG hru hsd1 hsd2 hb1 hb2 hx0 hy0
  · exact mc_toldR_X12 hK0 hG hru hsd1 hsd2 hb1 hb2 hx0 hy0 hma hbits
end MODEL
