/-! by gen/mspec.py -/
set_option maxRecDepth 100000
section MODEL
variable {l : Launch} {s0 : State} {D : va_G} {K : Nat → ClassId} {wd : Nat → Nat} {o : Nat} {h : Hp} {I : Nat → Int32} {V : Nat → Nat → Int32} {J : Nat → Nat → Int64}
set_option maxHeartbeats 4000000 in
theorem mc_mayBe0 (hK0 : va_K D CL (TYS K) s0) {av : Nat → Nat} {ed mi : Nat} (hG : GX s0 wd av ed mi) {x g : Nat} {p9 : Int32} : Met l yX20_mayBe (ws_ yX20_mayBe cX20_mayBe 3 ((Option.some Jvm.ClassFile.FieldType.boolean))) (rmk 0 0 0) (va_Pc [.ref x, .ref g, .int p9] (PB s0 D CL (h))) (QR s0 D CL (fun v h1 => v = some (.int (zI true)) ∧ h1 = h)) 0 0 (zA s0) := by
  refine hp_met (by decide) (Nat.le_of_ble_eq_true rfl) hK0 ?_
  intro p e s m below meth cd ls hx hb hr hlocks hml hown hnm hts hK hPB hl hS hH hA
  have hl : lv_has ls 3 [(0, .ref x), (1, .ref g), (2, .int p9)] := hl
  have hown : s.vm.findClass RX20 = some m.cls := hown
  refine lv_iconst (v := nI 1) hx hb dX20_mayBe_0 (by decide) ?_
  exact hp_zret hx hb hr rfl hlocks hH hS (by decide) (by decide) dX20_mayBe_1 (⟨congrArg some (congrArg Value.int (zI_1 rfl)), rfl⟩)
set_option maxHeartbeats 4000000 in
theorem mc_moves0 (hK0 : va_K D CL (TYS K) s0) {av : Nat → Nat} {ed mi : Nat} (hG : GX s0 wd av ed mi) {x g : Nat} {p9 : Int32} : Met l yX20_moves (ws_ yX20_moves cX20_moves 3 ((Option.some Jvm.ClassFile.FieldType.int))) (rmk 0 0 0) (va_Pc [.ref x, .ref g, .int p9] (PB s0 D CL (h))) (QR s0 D CL (fun v h1 => v = some (.int (nI 0)) ∧ h1 = h)) 0 0 (zA s0) := by
  refine hp_met (by decide) (Nat.le_of_ble_eq_true rfl) hK0 ?_
  intro p e s m below meth cd ls hx hb hr hlocks hml hown hnm hts hK hPB hl hS hH hA
  have hl : lv_has ls 3 [(0, .ref x), (1, .ref g), (2, .int p9)] := hl
  have hown : s.vm.findClass RX20 = some m.cls := hown
  refine lv_iconst (v := nI 0) hx hb dX20_moves_0 (by decide) ?_
  exact hp_iret hx hb hr hlocks hH hS (by decide) (by decide) dX20_moves_1 (⟨rfl, rfl⟩)
set_option maxHeartbeats 4000000 in
theorem mc_on_X21 (hK0 : va_K D CL (TYS K) s0) {av : Nat → Nat} {ed mi : Nat} (hG : GX s0 wd av ed mi) {x ra lb lg aa fa pa tk b9 m9 tg : Nat} {w : Nat} {mm : Nat} {mv : Nat} (hsx : h x = some (.inr (16, [.ref ra, .ref lb, .ref lg, .ref aa, .ref fa, .int (nI tk), .int (nI b9), .int (nI m9), .ref pa]), tg)) (hw : w < 2 ^ 31) (hb : b9 < 2 ^ 31) : Met l yX21_goesOn (ws_ yX21_goesOn cX21_goesOn 4 ((Option.some Jvm.ClassFile.FieldType.boolean))) (rmk 0 0 0) (va_Pc [.ref x, .int (nI w), .int (nI mm), .int (nI mv)] (PB s0 D CL (h))) (QR s0 D CL (fun v h1 => v = some (.int (zI (decide (w ≤ b9)))) ∧ h1 = h)) 0 0 (zA s0) := by
  refine hp_met (by decide) (Nat.le_of_ble_eq_true rfl) hK0 ?_
  intro p e s m below meth cd ls hx hb hr hlocks hml hown hnm hts hK hPB hl hS hH hA
  have hl : lv_has ls 4 [(0, .ref x), (1, .int (nI w)), (2, .int (nI mm)), (3, .int (nI mv))] := hl
  have hown : s.vm.findClass RX21 = some m.cls := hown
  refine lv_iload_n hx hb dX21_goesOn_0 rfl (lv_at hl 1 rfl) ?_
  refine lv_aload_n hx hb dX21_goesOn_1 rfl (lv_at hl 0 rfl) ?_
  refine hp_get (C := RX21) (T := TX21) (N := 9) (v := .int (nI b9)) hx hb hts in_X21 hown hK hH hsx rfl 6 (by decide) (hts _ q1235) (fun _ z => z) rfl dX21_goesOn_2 ?_
  refine lvN_gt (tgt := 12) hx hb (by first | omega | (refine Nat.lt_of_lt_of_le (Nat.mod_lt _ ?_) ?_ <;> omega)) (by first | omega | (refine Nat.lt_of_lt_of_le (Nat.mod_lt _ ?_) ?_ <;> omega)) dX21_goesOn_5 (by decide) (fun c1 => ?_) (fun c1 => ?_)
  · refine lv_iconst (v := nI 0) hx hb dX21_goesOn_12 (by decide) ?_
    exact hp_zret hx hb hr rfl hlocks hH hS (by decide) (by decide) dX21_goesOn_13 (⟨congrArg some (congrArg Value.int (zI_0 (decide_eq_false (by omega)))), rfl⟩)
  · refine lv_iconst (v := nI 1) hx hb dX21_goesOn_8 (by decide) ?_
    refine lv_goto (tgt := 13) hx hb dX21_goesOn_9 (by decide) ?_
    exact hp_zret hx hb hr rfl hlocks hH hS (by decide) (by decide) dX21_goesOn_13 (⟨congrArg some (congrArg Value.int (zI_1 (decide_eq_true (by omega)))), rfl⟩)
set_option maxHeartbeats 4000000 in
theorem mc_on_X23 (hK0 : va_K D CL (TYS K) s0) {av : Nat → Nat} {ed mi : Nat} (hG : GX s0 wd av ed mi) {x ra lb lg aa fa tk b9 m9 tg : Nat} {w : Nat} {mm : Nat} {mv : Nat} (hsx : h x = some (.inr (18, [.ref ra, .ref lb, .ref lg, .ref aa, .ref fa, .int (nI tk), .int (nI b9), .int (nI m9)]), tg)) (hw : w < 2 ^ 31) (hm : mm < 2 ^ 31) (hb : b9 < 2 ^ 31) (hm9 : m9 < 2 ^ 31) : Met l yX23_goesOn (ws_ yX23_goesOn cX23_goesOn 4 ((Option.some Jvm.ClassFile.FieldType.boolean))) (rmk 0 0 0) (va_Pc [.ref x, .int (nI w), .int (nI mm), .int (nI mv)] (PB s0 D CL (h))) (QR s0 D CL (fun v h1 => v = some (.int (zI (decide (mm < m9 ∨ (mm = m9 ∧ w < b9))))) ∧ h1 = h)) 0 0 (zA s0) := by
  refine hp_met (by decide) (Nat.le_of_ble_eq_true rfl) hK0 ?_
  intro p e s m below meth cd ls hx hb hr hlocks hml hown hnm hts hK hPB hl hS hH hA
  have hl : lv_has ls 4 [(0, .ref x), (1, .int (nI w)), (2, .int (nI mm)), (3, .int (nI mv))] := hl
  have hown : s.vm.findClass RX23 = some m.cls := hown
  refine lv_iload_n hx hb dX23_goesOn_0 rfl (lv_at hl 2 rfl) ?_
  refine lv_aload_n hx hb dX23_goesOn_1 rfl (lv_at hl 0 rfl) ?_
  refine hp_get (C := RX23) (T := TX23) (N := 8) (v := .int (nI m9)) hx hb hts in_X23 hown hK hH hsx rfl 7 (by decide) (hts _ q1360) (fun _ z => z) rfl dX23_goesOn_2 ?_
  refine lvN_lt (tgt := 24) hx hb (by first | omega | (refine Nat.lt_of_lt_of_le (Nat.mod_lt _ ?_) ?_ <;> omega)) (by first | omega | (refine Nat.lt_of_lt_of_le (Nat.mod_lt _ ?_) ?_ <;> omega)) dX23_goesOn_5 (by decide) (fun c1 => ?_) (fun c1 => ?_)
  · refine lv_iconst (v := nI 1) hx hb dX23_goesOn_24 (by decide) ?_
    refine lv_goto (tgt := 29) hx hb dX23_goesOn_25 (by decide) ?_
    exact hp_zret hx hb hr rfl hlocks hH hS (by decide) (by decide) dX23_goesOn_29 (⟨congrArg some (congrArg Value.int (zI_1 (decide_eq_true (by omega)))), rfl⟩)
  · refine lv_iload_n hx hb dX23_goesOn_8 rfl (lv_at hl 2 rfl) ?_
    refine lv_aload_n hx hb dX23_goesOn_9 rfl (lv_at hl 0 rfl) ?_
    refine hp_get (C := RX23) (T := TX23) (N := 8) (v := .int (nI m9)) hx hb hts in_X23 hown hK hH hsx rfl 7 (by decide) (hts _ q1360) (fun _ z => z) rfl dX23_goesOn_10 ?_
    refine lvN_ne (tgt := 28) hx hb (by first | omega | (refine Nat.lt_of_lt_of_le (Nat.mod_lt _ ?_) ?_ <;> omega)) (by first | omega | (refine Nat.lt_of_lt_of_le (Nat.mod_lt _ ?_) ?_ <;> omega)) dX23_goesOn_13 (by decide) (fun c2 => ?_) (fun c2 => ?_)
    · refine lv_iconst (v := nI 0) hx hb dX23_goesOn_28 (by decide) ?_
      exact hp_zret hx hb hr rfl hlocks hH hS (by decide) (by decide) dX23_goesOn_29 (⟨congrArg some (congrArg Value.int (zI_0 (decide_eq_false (by omega)))), rfl⟩)
    · refine lv_iload_n hx hb dX23_goesOn_16 rfl (lv_at hl 1 rfl) ?_
      refine lv_aload_n hx hb dX23_goesOn_17 rfl (lv_at hl 0 rfl) ?_
      refine hp_get (C := RX23) (T := TX23) (N := 8) (v := .int (nI b9)) hx hb hts in_X23 hown hK hH hsx rfl 6 (by decide) (hts _ q1358) (fun _ z => z) rfl dX23_goesOn_18 ?_
      refine lvN_ge (tgt := 28) hx hb (by first | omega | (refine Nat.lt_of_lt_of_le (Nat.mod_lt _ ?_) ?_ <;> omega)) (by first | omega | (refine Nat.lt_of_lt_of_le (Nat.mod_lt _ ?_) ?_ <;> omega)) dX23_goesOn_21 (by decide) (fun c3 => ?_) (fun c3 => ?_)
      · refine lv_iconst (v := nI 0) hx hb dX23_goesOn_28 (by decide) ?_
        exact hp_zret hx hb hr rfl hlocks hH hS (by decide) (by decide) dX23_goesOn_29 (⟨congrArg some (congrArg Value.int (zI_0 (decide_eq_false (by omega)))), rfl⟩)
      · refine lv_iconst (v := nI 1) hx hb dX23_goesOn_24 (by decide) ?_
        refine lv_goto (tgt := 29) hx hb dX23_goesOn_25 (by decide) ?_
        exact hp_zret hx hb hr rfl hlocks hH hS (by decide) (by decide) dX23_goesOn_29 (⟨congrArg some (congrArg Value.int (zI_1 (decide_eq_true (by omega)))), rfl⟩)
set_option maxHeartbeats 4000000 in
theorem mc_on_X24 (hK0 : va_K D CL (TYS K) s0) {av : Nat → Nat} {ed mi : Nat} (hG : GX s0 wd av ed mi) {x ra lb lg aa fa tk b9 q tg : Nat} {lim : Int32} {w : Nat} {mm : Nat} {mv : Nat} (hsx : h x = some (.inr (19, [.ref ra, .ref lb, .ref lg, .ref aa, .ref fa, .int (nI tk), .int (nI q), .int lim, .int (nI b9)]), tg)) (hb : b9 < 2 ^ 31) (hmv : mv < 2 ^ 31) : Met l yX24_goesOn (ws_ yX24_goesOn cX24_goesOn 4 ((Option.some Jvm.ClassFile.FieldType.boolean))) (rmk 0 0 0) (va_Pc [.ref x, .int (nI w), .int (nI mm), .int (nI mv)] (PB s0 D CL (h))) (QR s0 D CL (fun v h1 => v = some (.int (zI (decide (¬ lim < nI w) && decide (mv < b9)))) ∧ h1 = h)) 0 0 (zA s0) := by
  refine hp_met (by decide) (Nat.le_of_ble_eq_true rfl) hK0 ?_
  intro p e s m below meth cd ls hx hb hr hlocks hml hown hnm hts hK hPB hl hS hH hA
  have hl : lv_has ls 4 [(0, .ref x), (1, .int (nI w)), (2, .int (nI mm)), (3, .int (nI mv))] := hl
  have hown : s.vm.findClass RX24 = some m.cls := hown
  refine lv_iload_n hx hb dX24_goesOn_0 rfl (lv_at hl 1 rfl) ?_
  refine lv_aload_n hx hb dX24_goesOn_1 rfl (lv_at hl 0 rfl) ?_
  refine hp_get (C := RX24) (T := TX24) (N := 9) (v := .int lim) hx hb hts in_X24 hown hK hH hsx rfl 7 (by decide) (hts _ q1404) (fun _ z => z) rfl dX24_goesOn_2 ?_
  refine lv_icmp_gt (tgt := 20) hx hb dX24_goesOn_5 (by decide) (fun c1 => ?_) (fun c1 => ?_)
  · refine lv_iconst (v := nI 0) hx hb dX24_goesOn_20 (by decide) ?_
    exact hp_zret hx hb hr rfl hlocks hH hS (by decide) (by decide) dX24_goesOn_21 (⟨congrArg some (congrArg Value.int (zI_0 (by rw [decide_eq_false (not_not_intro c1)]; rfl))), rfl⟩)
  · refine lv_iload_n hx hb dX24_goesOn_8 rfl (lv_at hl 3 rfl) ?_
    refine lv_aload_n hx hb dX24_goesOn_9 rfl (lv_at hl 0 rfl) ?_
    refine hp_get (C := RX24) (T := TX24) (N := 9) (v := .int (nI b9)) hx hb hts in_X24 hown hK hH hsx rfl 8 (by decide) (hts _ q1405) (fun _ z => z) rfl dX24_goesOn_10 ?_
    refine lvN_ge (tgt := 20) hx hb (by first | omega | (refine Nat.lt_of_lt_of_le (Nat.mod_lt _ ?_) ?_ <;> omega)) (by first | omega | (refine Nat.lt_of_lt_of_le (Nat.mod_lt _ ?_) ?_ <;> omega)) dX24_goesOn_13 (by decide) (fun c2 => ?_) (fun c2 => ?_)
    · refine lv_iconst (v := nI 0) hx hb dX24_goesOn_20 (by decide) ?_
      exact hp_zret hx hb hr rfl hlocks hH hS (by decide) (by decide) dX24_goesOn_21 (⟨congrArg some (congrArg Value.int (zI_0 (by rw [decide_eq_false (show ¬ mv < b9 by omega), Bool.and_false]))), rfl⟩)
    · refine lv_iconst (v := nI 1) hx hb dX24_goesOn_16 (by decide) ?_
      refine lv_goto (tgt := 21) hx hb dX24_goesOn_17 (by decide) ?_
      exact hp_zret hx hb hr rfl hlocks hH hS (by decide) (by decide) dX24_goesOn_21 (⟨congrArg some (congrArg Value.int (zI_1 (by rw [decide_eq_true c1, decide_eq_true c2]; rfl))), rfl⟩)
set_option maxHeartbeats 4000000 in
theorem mc_mayBe1 (hK0 : va_K D CL (TYS K) s0) {av : Nat → Nat} {ed mi : Nat} (hG : GX s0 wd av ed mi) {x ra lb lg aa fa tk b9 q tg : Nat} {lim : Int32} {g tgg : Nat} {g0 g1 g2 : Value} {gs : Bool} {gr gp : Int32} (hg9 : h g = some (.inr (4, [g0, g1, g2, .int (zI gs), .int gr, .int gp]), tgg)) {p9 : Nat} (hsx : h x = some (.inr (19, [.ref ra, .ref lb, .ref lg, .ref aa, .ref fa, .int (nI tk), .int (nI q), .int lim, .int (nI b9)]), tg)) : Met l yX24_mayBe (ws_ yX24_mayBe cX24_mayBe 3 ((Option.some Jvm.ClassFile.FieldType.boolean))) (rmk 0 0 0) (va_Pc [.ref x, .ref g, .int (nI p9)] (PB s0 D CL (h))) (QR s0 D CL (fun v h1 => v = some (.int (zI (!(gs && (decide (gr = nI q) && decide (gp ≠ nI p9)))))) ∧ h1 = h)) 0 0 (zA s0) := by
  refine hp_met (by decide) (Nat.le_of_ble_eq_true rfl) hK0 ?_
  intro p e s m below meth cd ls hx hb hr hlocks hml hown hnm hts hK hPB hl hS hH hA
  have hl : lv_has ls 3 [(0, .ref x), (1, .ref g), (2, .int (nI p9))] := hl
  have hown : s.vm.findClass RX24 = some m.cls := hown
  refine lv_aload_n hx hb dX24_mayBe_0 rfl (lv_at hl 1 rfl) ?_
  refine hp_getN (C := RX5) (T := TX5) (N := 6) (v := .int (zI gs)) hx hb hts in_X5 hown hK hH hg9 rfl 3 (by decide) (hG.nf hPB q543) (fun _ z => z) rfl dX24_mayBe_1 ?_
  refine lvB_eq (tgt := 26) hx hb dX24_mayBe_4 (by decide) (fun c1 => ?_) (fun c1 => ?_)
  · refine lv_iconst (v := nI 1) hx hb dX24_mayBe_26 (by decide) ?_
    refine lv_goto (tgt := 31) hx hb dX24_mayBe_27 (by decide) ?_
    exact hp_zret hx hb hr rfl hlocks hH hS (by decide) (by decide) dX24_mayBe_31 (⟨congrArg some (congrArg Value.int (zI_1 (by simp [c1]))), rfl⟩)
  · refine lv_aload_n hx hb dX24_mayBe_7 rfl (lv_at hl 1 rfl) ?_
    refine hp_getN (C := RX5) (T := TX5) (N := 6) (v := .int gr) hx hb hts in_X5 hown hK hH hg9 rfl 4 (by decide) (hG.nf hPB q547) (fun _ z => z) rfl dX24_mayBe_8 ?_
    refine lv_aload_n hx hb dX24_mayBe_11 rfl (lv_at hl 0 rfl) ?_
    refine hp_get (C := RX24) (T := TX24) (N := 9) (v := .int (nI q)) hx hb hts in_X24 hown hK hH hsx rfl 6 (by decide) (hts _ q1403) (fun _ z => z) rfl dX24_mayBe_12 ?_
    refine lv_icmp_ne (tgt := 26) hx hb dX24_mayBe_15 (by decide) (fun c2 => ?_) (fun c2 => ?_)
    · refine lv_iconst (v := nI 1) hx hb dX24_mayBe_26 (by decide) ?_
      refine lv_goto (tgt := 31) hx hb dX24_mayBe_27 (by decide) ?_
      exact hp_zret hx hb hr rfl hlocks hH hS (by decide) (by decide) dX24_mayBe_31 (⟨congrArg some (congrArg Value.int (zI_1 (by simp [c1, c2]))), rfl⟩)
    · refine lv_aload_n hx hb dX24_mayBe_18 rfl (lv_at hl 1 rfl) ?_
      refine hp_getN (C := RX5) (T := TX5) (N := 6) (v := .int gp) hx hb hts in_X5 hown hK hH hg9 rfl 5 (by decide) (hG.nf hPB q550) (fun _ z => z) rfl dX24_mayBe_19 ?_
      refine lv_iload_n hx hb dX24_mayBe_22 rfl (lv_at hl 2 rfl) ?_
      refine lv_icmp_ne (tgt := 30) hx hb dX24_mayBe_23 (by decide) (fun c3 => ?_) (fun c3 => ?_)
      · refine lv_iconst (v := nI 0) hx hb dX24_mayBe_30 (by decide) ?_
        exact hp_zret hx hb hr rfl hlocks hH hS (by decide) (by decide) dX24_mayBe_31 (⟨congrArg some (congrArg Value.int (zI_0 (by simp [c1, c2, c3]))), rfl⟩)
      · refine lv_iconst (v := nI 1) hx hb dX24_mayBe_26 (by decide) ?_
        refine lv_goto (tgt := 31) hx hb dX24_mayBe_27 (by decide) ?_
        exact hp_zret hx hb hr rfl hlocks hH hS (by decide) (by decide) dX24_mayBe_31 (⟨congrArg some (congrArg Value.int (zI_1 (by simp [c1, c2, c3]))), rfl⟩)
set_option maxHeartbeats 4000000 in
theorem mc_moves1 (hK0 : va_K D CL (TYS K) s0) {av : Nat → Nat} {ed mi : Nat} (hG : GX s0 wd av ed mi) {x ra lb lg aa fa tk b9 q tg : Nat} {lim : Int32} {g tgg : Nat} {g0 g1 g2 : Value} {gs : Bool} {gr gp : Int32} (hg9 : h g = some (.inr (4, [g0, g1, g2, .int (zI gs), .int gr, .int gp]), tgg)) {p9 : Nat} (hsx : h x = some (.inr (19, [.ref ra, .ref lb, .ref lg, .ref aa, .ref fa, .int (nI tk), .int (nI q), .int lim, .int (nI b9)]), tg)) : Met l yX24_moves (ws_ yX24_moves cX24_moves 3 ((Option.some Jvm.ClassFile.FieldType.int))) (rmk 0 0 0) (va_Pc [.ref x, .ref g, .int (nI p9)] (PB s0 D CL (h))) (QR s0 D CL (fun v h1 => v = some (.int (nI (if decide (gr = nI q) && decide (gp ≠ nI p9) then 1 else 0))) ∧ h1 = h)) 0 0 (zA s0) := by
  refine hp_met (by decide) (Nat.le_of_ble_eq_true rfl) hK0 ?_
  intro p e s m below meth cd ls hx hb hr hlocks hml hown hnm hts hK hPB hl hS hH hA
  have hl : lv_has ls 3 [(0, .ref x), (1, .ref g), (2, .int (nI p9))] := hl
  have hown : s.vm.findClass RX24 = some m.cls := hown
  refine lv_aload_n hx hb dX24_moves_0 rfl (lv_at hl 1 rfl) ?_
  refine hp_getN (C := RX5) (T := TX5) (N := 6) (v := .int gr) hx hb hts in_X5 hown hK hH hg9 rfl 4 (by decide) (hG.nf hPB q547) (fun _ z => z) rfl dX24_moves_1 ?_
  refine lv_aload_n hx hb dX24_moves_4 rfl (lv_at hl 0 rfl) ?_
  refine hp_get (C := RX24) (T := TX24) (N := 9) (v := .int (nI q)) hx hb hts in_X24 hown hK hH hsx rfl 6 (by decide) (hts _ q1403) (fun _ z => z) rfl dX24_moves_5 ?_
  refine lv_icmp_ne (tgt := 23) hx hb dX24_moves_8 (by decide) (fun c2 => ?_) (fun c2 => ?_)
  · refine lv_iconst (v := nI 0) hx hb dX24_moves_23 (by decide) ?_
    exact hp_iret hx hb hr hlocks hH hS (by decide) (by decide) dX24_moves_24 (⟨congrArg some (congrArg Value.int (congrArg nI (by simp [c2]))), rfl⟩)
  · refine lv_aload_n hx hb dX24_moves_11 rfl (lv_at hl 1 rfl) ?_
    refine hp_getN (C := RX5) (T := TX5) (N := 6) (v := .int gp) hx hb hts in_X5 hown hK hH hg9 rfl 5 (by decide) (hG.nf hPB q550) (fun _ z => z) rfl dX24_moves_12 ?_
    refine lv_iload_n hx hb dX24_moves_15 rfl (lv_at hl 2 rfl) ?_
    refine lv_icmp_eq (tgt := 23) hx hb dX24_moves_16 (by decide) (fun c3 => ?_) (fun c3 => ?_)
    · refine lv_iconst (v := nI 0) hx hb dX24_moves_23 (by decide) ?_
      exact hp_iret hx hb hr hlocks hH hS (by decide) (by decide) dX24_moves_24 (⟨congrArg some (congrArg Value.int (congrArg nI (by simp [c2, c3]))), rfl⟩)
    · refine lv_iconst (v := nI 1) hx hb dX24_moves_19 (by decide) ?_
      refine lv_goto (tgt := 24) hx hb dX24_moves_20 (by decide) ?_
      exact hp_iret hx hb hr hlocks hH hS (by decide) (by decide) dX24_moves_24 (⟨congrArg some (congrArg Value.int (congrArg nI (by simp [c2, c3]))), rfl⟩)
set_option maxHeartbeats 4000000 in
theorem mc_keeps_X21 (hK0 : va_K D CL (TYS K) s0) {av : Nat → Nat} {ed mi : Nat} (hG : GX s0 wd av ed mi) {x ra lb lg aa fa pa tk b9 m9 tg : Nat} (hsx : h x = some (.inr (16, [.ref ra, .ref lb, .ref lg, .ref aa, .ref fa, .int (nI tk), .int (nI b9), .int (nI m9), .ref pa]), tg)) {af ff : Nat → Int32} (haa : h aa = some (.inl (K 0, 10, .inl af), tg)) (hfa : h fa = some (.inl (K 0, 10, .inl ff), tg)) (naf : aa ≠ fa) : Met l yX20_keeps (ws_ yX20_keeps cX20_keeps 1 ((Option.none : Option Jvm.ClassFile.FieldType))) (rmk 1 0 0) (va_Pc [.ref x] (PB s0 D CL (h))) (QR s0 D CL (fun v h1 => v = none ∧ h1 = hset h fa (.inl (K 0, 10, .inl (va_cpy af ff 0 0 10))) tg)) 0 0 (zA s0) := by
  refine hp_met (by decide) (Nat.le_of_ble_eq_true rfl) hK0 ?_
  intro p e s m below meth cd ls hx hb hr hlocks hml hown hnm hts hK hPB hl hS hH hA
  have hl : lv_has ls 1 [(0, .ref x)] := hl
  have hown : s.vm.findClass RX20 = some m.cls := hown
  refine lv_aload_n hx hb dX20_keeps_0 rfl (lv_at hl 0 rfl) ?_
  refine hp_get (C := RX21) (T := TX21) (N := 9) (v := .ref aa) hx hb hts in_X21 hown hK hH hsx rfl 3 (by decide) (hts _ q1246) (fun _ z => z) rfl dX20_keeps_1 ?_
  refine lv_iconst (v := nI 0) hx hb dX20_keeps_4 (by decide) ?_
  refine lv_aload_n hx hb dX20_keeps_5 rfl (lv_at hl 0 rfl) ?_
  refine hp_get (C := RX21) (T := TX21) (N := 9) (v := .ref fa) hx hb hts in_X21 hown hK hH hsx rfl 4 (by decide) (hts _ q1249) (fun _ z => z) rfl dX20_keeps_6 ?_
  refine lv_iconst (v := nI 0) hx hb dX20_keeps_9 (by decide) ?_
  refine lv_bipush (v := nI 10) hx hb dX20_keeps_10 (by decide) ?_
  refine hp_copyi (n := nI 10) (dp := nI 0) (sp := nI 0) hx hb (hml.trans hl.1.symm) hown (hts _ q1308) (hts _ q533) (hts _ q532) (hts _ q121) hK hH hS 0 0 haa hfa rfl rfl rfl (nI_pos (by first | omega | (refine Nat.lt_of_lt_of_le (Nat.mod_lt _ ?_) ?_ <;> omega))) (nI_pos (by first | omega | (refine Nat.lt_of_lt_of_le (Nat.mod_lt _ ?_) ?_ <;> omega))) (nI_pos (by first | omega | (refine Nat.lt_of_lt_of_le (Nat.mod_lt _ ?_) ?_ <;> omega))) (by decide) (by decide) (fun _ _ => rfl) (by decide) (Nat.le_of_ble_eq_true rfl) dX20_keeps_12 (fun H locs _ hH hS => ?_)
  have hH : HP D CL (zA s0) (hset h fa (.inl (K 0, 10, .inl (va_cpy af ff 0 0 10))) tg) H := hH
  have e1 : (hset h fa (.inl (K 0, 10, .inl (va_cpy af ff 0 0 10))) tg) x = some (.inr (16, [.ref ra, .ref lb, .ref lg, .ref aa, .ref fa, .int (nI tk), .int (nI b9), .int (nI m9), .ref pa]), tg) := (hset_ne _ _ _ (ne_oa hsx hfa)).trans hsx
  have e2 : (hset h fa (.inl (K 0, 10, .inl (va_cpy af ff 0 0 10))) tg) aa = some (.inl (K 0, 10, .inl af), tg) := (hset_ne _ _ _ (naf)).trans haa
  have e3 : (hset h fa (.inl (K 0, 10, .inl (va_cpy af ff 0 0 10))) tg) fa = some (.inl (K 0, 10, .inl (va_cpy af ff 0 0 10)), tg) := hset_self _ _ _ _
  exact hp_vret hx hb hr hlocks hH hS (by decide) (by decide) dX20_keeps_15 (⟨rfl, rfl⟩)
set_option maxHeartbeats 4000000 in
theorem mc_keeps_X23 (hK0 : va_K D CL (TYS K) s0) {av : Nat → Nat} {ed mi : Nat} (hG : GX s0 wd av ed mi) {x ra lb lg aa fa tk b9 m9 tg : Nat} (hsx : h x = some (.inr (18, [.ref ra, .ref lb, .ref lg, .ref aa, .ref fa, .int (nI tk), .int (nI b9), .int (nI m9)]), tg)) {af ff : Nat → Int32} (haa : h aa = some (.inl (K 0, 10, .inl af), tg)) (hfa : h fa = some (.inl (K 0, 10, .inl ff), tg)) (naf : aa ≠ fa) : Met l yX20_keeps (ws_ yX20_keeps cX20_keeps 1 ((Option.none : Option Jvm.ClassFile.FieldType))) (rmk 1 0 0) (va_Pc [.ref x] (PB s0 D CL (h))) (QR s0 D CL (fun v h1 => v = none ∧ h1 = hset h fa (.inl (K 0, 10, .inl (va_cpy af ff 0 0 10))) tg)) 0 0 (zA s0) := by
  refine hp_met (by decide) (Nat.le_of_ble_eq_true rfl) hK0 ?_
  intro p e s m below meth cd ls hx hb hr hlocks hml hown hnm hts hK hPB hl hS hH hA
  have hl : lv_has ls 1 [(0, .ref x)] := hl
  have hown : s.vm.findClass RX20 = some m.cls := hown
  refine lv_aload_n hx hb dX20_keeps_0 rfl (lv_at hl 0 rfl) ?_
  refine hp_get (C := RX23) (T := TX23) (N := 8) (v := .ref aa) hx hb hts in_X23 hown hK hH hsx rfl 3 (by decide) (hts _ q1246) (fun _ z => z) rfl dX20_keeps_1 ?_
  refine lv_iconst (v := nI 0) hx hb dX20_keeps_4 (by decide) ?_
  refine lv_aload_n hx hb dX20_keeps_5 rfl (lv_at hl 0 rfl) ?_
  refine hp_get (C := RX23) (T := TX23) (N := 8) (v := .ref fa) hx hb hts in_X23 hown hK hH hsx rfl 4 (by decide) (hts _ q1249) (fun _ z => z) rfl dX20_keeps_6 ?_
  refine lv_iconst (v := nI 0) hx hb dX20_keeps_9 (by decide) ?_
  refine lv_bipush (v := nI 10) hx hb dX20_keeps_10 (by decide) ?_
  refine hp_copyi (n := nI 10) (dp := nI 0) (sp := nI 0) hx hb (hml.trans hl.1.symm) hown (hts _ q1308) (hts _ q533) (hts _ q532) (hts _ q121) hK hH hS 0 0 haa hfa rfl rfl rfl (nI_pos (by first | omega | (refine Nat.lt_of_lt_of_le (Nat.mod_lt _ ?_) ?_ <;> omega))) (nI_pos (by first | omega | (refine Nat.lt_of_lt_of_le (Nat.mod_lt _ ?_) ?_ <;> omega))) (nI_pos (by first | omega | (refine Nat.lt_of_lt_of_le (Nat.mod_lt _ ?_) ?_ <;> omega))) (by decide) (by decide) (fun _ _ => rfl) (by decide) (Nat.le_of_ble_eq_true rfl) dX20_keeps_12 (fun H locs _ hH hS => ?_)
  have hH : HP D CL (zA s0) (hset h fa (.inl (K 0, 10, .inl (va_cpy af ff 0 0 10))) tg) H := hH
  have e1 : (hset h fa (.inl (K 0, 10, .inl (va_cpy af ff 0 0 10))) tg) x = some (.inr (18, [.ref ra, .ref lb, .ref lg, .ref aa, .ref fa, .int (nI tk), .int (nI b9), .int (nI m9)]), tg) := (hset_ne _ _ _ (ne_oa hsx hfa)).trans hsx
  have e2 : (hset h fa (.inl (K 0, 10, .inl (va_cpy af ff 0 0 10))) tg) aa = some (.inl (K 0, 10, .inl af), tg) := (hset_ne _ _ _ (naf)).trans haa
  have e3 : (hset h fa (.inl (K 0, 10, .inl (va_cpy af ff 0 0 10))) tg) fa = some (.inl (K 0, 10, .inl (va_cpy af ff 0 0 10)), tg) := hset_self _ _ _ _
  exact hp_vret hx hb hr hlocks hH hS (by decide) (by decide) dX20_keeps_15 (⟨rfl, rfl⟩)
set_option maxHeartbeats 4000000 in
theorem mc_keeps_X24 (hK0 : va_K D CL (TYS K) s0) {av : Nat → Nat} {ed mi : Nat} (hG : GX s0 wd av ed mi) {x ra lb lg aa fa tk b9 q tg : Nat} {lim : Int32} (hsx : h x = some (.inr (19, [.ref ra, .ref lb, .ref lg, .ref aa, .ref fa, .int (nI tk), .int (nI q), .int lim, .int (nI b9)]), tg)) {af ff : Nat → Int32} (haa : h aa = some (.inl (K 0, 10, .inl af), tg)) (hfa : h fa = some (.inl (K 0, 10, .inl ff), tg)) (naf : aa ≠ fa) : Met l yX20_keeps (ws_ yX20_keeps cX20_keeps 1 ((Option.none : Option Jvm.ClassFile.FieldType))) (rmk 1 0 0) (va_Pc [.ref x] (PB s0 D CL (h))) (QR s0 D CL (fun v h1 => v = none ∧ h1 = hset h fa (.inl (K 0, 10, .inl (va_cpy af ff 0 0 10))) tg)) 0 0 (zA s0) := by
  refine hp_met (by decide) (Nat.le_of_ble_eq_true rfl) hK0 ?_
  intro p e s m below meth cd ls hx hb hr hlocks hml hown hnm hts hK hPB hl hS hH hA
  have hl : lv_has ls 1 [(0, .ref x)] := hl
  have hown : s.vm.findClass RX20 = some m.cls := hown
  refine lv_aload_n hx hb dX20_keeps_0 rfl (lv_at hl 0 rfl) ?_
  refine hp_get (C := RX24) (T := TX24) (N := 9) (v := .ref aa) hx hb hts in_X24 hown hK hH hsx rfl 3 (by decide) (hts _ q1246) (fun _ z => z) rfl dX20_keeps_1 ?_
  refine lv_iconst (v := nI 0) hx hb dX20_keeps_4 (by decide) ?_
  refine lv_aload_n hx hb dX20_keeps_5 rfl (lv_at hl 0 rfl) ?_
  refine hp_get (C := RX24) (T := TX24) (N := 9) (v := .ref fa) hx hb hts in_X24 hown hK hH hsx rfl 4 (by decide) (hts _ q1249) (fun _ z => z) rfl dX20_keeps_6 ?_
  refine lv_iconst (v := nI 0) hx hb dX20_keeps_9 (by decide) ?_
  refine lv_bipush (v := nI 10) hx hb dX20_keeps_10 (by decide) ?_
  refine hp_copyi (n := nI 10) (dp := nI 0) (sp := nI 0) hx hb (hml.trans hl.1.symm) hown (hts _ q1308) (hts _ q533) (hts _ q532) (hts _ q121) hK hH hS 0 0 haa hfa rfl rfl rfl (nI_pos (by first | omega | (refine Nat.lt_of_lt_of_le (Nat.mod_lt _ ?_) ?_ <;> omega))) (nI_pos (by first | omega | (refine Nat.lt_of_lt_of_le (Nat.mod_lt _ ?_) ?_ <;> omega))) (nI_pos (by first | omega | (refine Nat.lt_of_lt_of_le (Nat.mod_lt _ ?_) ?_ <;> omega))) (by decide) (by decide) (fun _ _ => rfl) (by decide) (Nat.le_of_ble_eq_true rfl) dX20_keeps_12 (fun H locs _ hH hS => ?_)
  have hH : HP D CL (zA s0) (hset h fa (.inl (K 0, 10, .inl (va_cpy af ff 0 0 10))) tg) H := hH
  have e1 : (hset h fa (.inl (K 0, 10, .inl (va_cpy af ff 0 0 10))) tg) x = some (.inr (19, [.ref ra, .ref lb, .ref lg, .ref aa, .ref fa, .int (nI tk), .int (nI q), .int lim, .int (nI b9)]), tg) := (hset_ne _ _ _ (ne_oa hsx hfa)).trans hsx
  have e2 : (hset h fa (.inl (K 0, 10, .inl (va_cpy af ff 0 0 10))) tg) aa = some (.inl (K 0, 10, .inl af), tg) := (hset_ne _ _ _ (naf)).trans haa
  have e3 : (hset h fa (.inl (K 0, 10, .inl (va_cpy af ff 0 0 10))) tg) fa = some (.inl (K 0, 10, .inl (va_cpy af ff 0 0 10)), tg) := hset_self _ _ _ _
  exact hp_vret hx hb hr hlocks hH hS (by decide) (by decide) dX20_keeps_15 (⟨rfl, rfl⟩)
end MODEL
