/-! by gen/mspec.py -/
set_option maxRecDepth 100000
section MODEL
variable {l : Launch} {s0 : State} {D : va_G} {K : Nat → ClassId} {wd : Nat → Nat} {o : Nat} {h : Hp} {I : Nat → Int32} {V : Nat → Nat → Int32} {J : Nat → Nat → Int64}
set_option maxHeartbeats 4000000 in
theorem mc_be_X14 (hK0 : va_K D CL (TYS K) s0) {ra t np a b : Nat} (he : h ra = some (.inr (10, [.int (nI np)]), t)) (hnp : 1 ≤ np ∧ np ≤ 10) (ha : a < np) (hb0 : b < np) : Met l yX14_areBeside (ws_ yX14_areBeside cX14_areBeside 3 ((Option.some Jvm.ClassFile.FieldType.boolean))) (rmk 1 0 0) (va_Pc [.ref ra, .int (nI a), .int (nI b)] (PB s0 D CL (h))) (QR s0 D CL (fun v h1 => v = some (.int (zI (decide (adist a b = 1)))) ∧ h1 = h)) 0 0 (zA s0) := by
  refine hp_met (by decide) (Nat.le_of_ble_eq_true rfl) hK0 ?_
  intro p e s m below meth cd ls hx hb hr hlocks hml hown hnm hts hK hPB hl hS hH hA
  have hl : lv_has ls 3 [(0, .ref ra), (1, .int (nI a)), (2, .int (nI b))] := hl
  have hown : s.vm.findClass RX14 = some m.cls := hown
  have had : adist a b < 20 := by unfold adist; omega
  refine lv_iload_n hx hb dX14_areBeside_0 rfl (lv_at hl 1 rfl) ?_
  refine lv_iload_n hx hb dX14_areBeside_1 rfl (lv_at hl 2 rfl) ?_
  refine lv_isub hx hb dX14_areBeside_2 ?_
  refine va_mabs hx hb (hml.trans hl.1.symm) hown (hts _ q1046) (hts _ q1041) (hts _ q114) (hts _ q1042) (Nat.le_of_ble_eq_true rfl) (Nat.le_of_ble_eq_true rfl) (Nat.le_of_ble_eq_true rfl) (Nat.le_of_ble_eq_true rfl) dX14_areBeside_3 ?_
  refine lv_top (y := nI (adist a b)) (i_abs_d (by omega) (by omega)) ?_
  refine lv_iconst (v := nI 1) hx hb dX14_areBeside_6 (by decide) ?_
  refine lvN_ne (tgt := 14) hx hb (by first | omega | (refine Nat.lt_of_lt_of_le (Nat.mod_lt _ ?_) ?_ <;> omega)) (by first | omega | (refine Nat.lt_of_lt_of_le (Nat.mod_lt _ ?_) ?_ <;> omega)) dX14_areBeside_7 (by decide) (fun c1 => ?_) (fun c1 => ?_)
  · refine lv_iconst (v := nI 0) hx hb dX14_areBeside_14 (by decide) ?_
    exact hp_zret hx hb hr rfl hlocks hH hS (by decide) (by decide) dX14_areBeside_15 (⟨congrArg some (congrArg Value.int (zI_0 (decide_eq_false c1))), rfl⟩)
  · refine lv_iconst (v := nI 1) hx hb dX14_areBeside_10 (by decide) ?_
    refine lv_goto (tgt := 15) hx hb dX14_areBeside_11 (by decide) ?_
    exact hp_zret hx hb hr rfl hlocks hH hS (by decide) (by decide) dX14_areBeside_15 (⟨congrArg some (congrArg Value.int (zI_1 (decide_eq_true c1))), rfl⟩)
set_option maxHeartbeats 4000000 in
theorem mc_be_X15 (hK0 : va_K D CL (TYS K) s0) {ra t np a b : Nat} (he : h ra = some (.inr (11, [.int (nI np)]), t)) (hnp : 1 ≤ np ∧ np ≤ 10) (ha : a < np) (hb0 : b < np) : Met l yX15_areBeside (ws_ yX15_areBeside cX15_areBeside 3 ((Option.some Jvm.ClassFile.FieldType.boolean))) (rmk 1 0 0) (va_Pc [.ref ra, .int (nI a), .int (nI b)] (PB s0 D CL (h))) (QR s0 D CL (fun v h1 => v = some (.int (zI (decide (adist a b = 2)))) ∧ h1 = h)) 0 0 (zA s0) := by
  refine hp_met (by decide) (Nat.le_of_ble_eq_true rfl) hK0 ?_
  intro p e s m below meth cd ls hx hb hr hlocks hml hown hnm hts hK hPB hl hS hH hA
  have hl : lv_has ls 3 [(0, .ref ra), (1, .int (nI a)), (2, .int (nI b))] := hl
  have hown : s.vm.findClass RX15 = some m.cls := hown
  have had : adist a b < 20 := by unfold adist; omega
  refine lv_iload_n hx hb dX15_areBeside_0 rfl (lv_at hl 1 rfl) ?_
  refine lv_iload_n hx hb dX15_areBeside_1 rfl (lv_at hl 2 rfl) ?_
  refine lv_isub hx hb dX15_areBeside_2 ?_
  refine va_mabs hx hb (hml.trans hl.1.symm) hown (hts _ q1050) (hts _ q1041) (hts _ q114) (hts _ q1042) (Nat.le_of_ble_eq_true rfl) (Nat.le_of_ble_eq_true rfl) (Nat.le_of_ble_eq_true rfl) (Nat.le_of_ble_eq_true rfl) dX15_areBeside_3 ?_
  refine lv_top (y := nI (adist a b)) (i_abs_d (by omega) (by omega)) ?_
  refine lv_iconst (v := nI 2) hx hb dX15_areBeside_6 (by decide) ?_
  refine lvN_ne (tgt := 14) hx hb (by first | omega | (refine Nat.lt_of_lt_of_le (Nat.mod_lt _ ?_) ?_ <;> omega)) (by first | omega | (refine Nat.lt_of_lt_of_le (Nat.mod_lt _ ?_) ?_ <;> omega)) dX15_areBeside_7 (by decide) (fun c1 => ?_) (fun c1 => ?_)
  · refine lv_iconst (v := nI 0) hx hb dX15_areBeside_14 (by decide) ?_
    exact hp_zret hx hb hr rfl hlocks hH hS (by decide) (by decide) dX15_areBeside_15 (⟨congrArg some (congrArg Value.int (zI_0 (decide_eq_false c1))), rfl⟩)
  · refine lv_iconst (v := nI 1) hx hb dX15_areBeside_10 (by decide) ?_
    refine lv_goto (tgt := 15) hx hb dX15_areBeside_11 (by decide) ?_
    exact hp_zret hx hb hr rfl hlocks hH hS (by decide) (by decide) dX15_areBeside_15 (⟨congrArg some (congrArg Value.int (zI_1 (decide_eq_true c1))), rfl⟩)
set_option maxHeartbeats 4000000 in
theorem mc_be_X16 (hK0 : va_K D CL (TYS K) s0) {ra t np a b : Nat} (he : h ra = some (.inr (12, [.int (nI np)]), t)) (hnp : 1 ≤ np ∧ np ≤ 10) (ha : a < np) (hb0 : b < np) : Met l yX16_areBeside (ws_ yX16_areBeside cX16_areBeside 3 ((Option.some Jvm.ClassFile.FieldType.boolean))) (rmk 1 0 0) (va_Pc [.ref ra, .int (nI a), .int (nI b)] (PB s0 D CL (h))) (QR s0 D CL (fun v h1 => v = some (.int (zI (decide (adist a b ≠ 0) && (decide (adist a b = 1) || decide (adist a b = np - 1))))) ∧ h1 = h)) 0 0 (zA s0) := by
  refine hp_met (by decide) (Nat.le_of_ble_eq_true rfl) hK0 ?_
  intro p e s m below meth cd ls hx hb hr hlocks hml hown hnm hts hK hPB hl hS hH hA
  have hl : lv_has ls 3 [(0, .ref ra), (1, .int (nI a)), (2, .int (nI b))] := hl
  have hown : s.vm.findClass RX16 = some m.cls := hown
  have had : adist a b < 20 := by unfold adist; omega
  refine lv_iload_n hx hb dX16_areBeside_0 rfl (lv_at hl 1 rfl) ?_
  refine lv_iload_n hx hb dX16_areBeside_1 rfl (lv_at hl 2 rfl) ?_
  refine lvN_eq (tgt := 34) hx hb (by first | omega | (refine Nat.lt_of_lt_of_le (Nat.mod_lt _ ?_) ?_ <;> omega)) (by first | omega | (refine Nat.lt_of_lt_of_le (Nat.mod_lt _ ?_) ?_ <;> omega)) dX16_areBeside_2 (by decide) (fun c1 => ?_) (fun c1 => ?_)
  · refine lv_iconst (v := nI 0) hx hb dX16_areBeside_34 (by decide) ?_
    exact hp_zret hx hb hr rfl hlocks hH hS (by decide) (by decide) dX16_areBeside_35 (⟨congrArg some (congrArg Value.int (zI_0 (by rw [decide_eq_false (show ¬ adist a b ≠ 0 by unfold adist; omega)]; rfl))), rfl⟩)
  · refine lv_iload_n hx hb dX16_areBeside_5 rfl (lv_at hl 1 rfl) ?_
    refine lv_iload_n hx hb dX16_areBeside_6 rfl (lv_at hl 2 rfl) ?_
    refine lv_isub hx hb dX16_areBeside_7 ?_
    refine va_mabs hx hb (hml.trans hl.1.symm) hown (hts _ q1040) (hts _ q1041) (hts _ q114) (hts _ q1042) (Nat.le_of_ble_eq_true rfl) (Nat.le_of_ble_eq_true rfl) (Nat.le_of_ble_eq_true rfl) (Nat.le_of_ble_eq_true rfl) dX16_areBeside_8 ?_
    refine lv_top (y := nI (adist a b)) (i_abs_d (by omega) (by omega)) ?_
    refine lv_iconst (v := nI 1) hx hb dX16_areBeside_11 (by decide) ?_
    refine lvN_eq (tgt := 30) hx hb (by first | omega | (refine Nat.lt_of_lt_of_le (Nat.mod_lt _ ?_) ?_ <;> omega)) (by first | omega | (refine Nat.lt_of_lt_of_le (Nat.mod_lt _ ?_) ?_ <;> omega)) dX16_areBeside_12 (by decide) (fun c2 => ?_) (fun c2 => ?_)
    · refine lv_iconst (v := nI 1) hx hb dX16_areBeside_30 (by decide) ?_
      refine lv_goto (tgt := 35) hx hb dX16_areBeside_31 (by decide) ?_
      exact hp_zret hx hb hr rfl hlocks hH hS (by decide) (by decide) dX16_areBeside_35 (⟨congrArg some (congrArg Value.int (zI_1 (by rw [decide_eq_true (show adist a b ≠ 0 by unfold adist; omega), decide_eq_true c2]; simp))), rfl⟩)
    · refine lv_iload_n hx hb dX16_areBeside_15 rfl (lv_at hl 1 rfl) ?_
      refine lv_iload_n hx hb dX16_areBeside_16 rfl (lv_at hl 2 rfl) ?_
      refine lv_isub hx hb dX16_areBeside_17 ?_
      refine va_mabs hx hb (hml.trans hl.1.symm) hown (hts _ q1040) (hts _ q1041) (hts _ q114) (hts _ q1042) (Nat.le_of_ble_eq_true rfl) (Nat.le_of_ble_eq_true rfl) (Nat.le_of_ble_eq_true rfl) (Nat.le_of_ble_eq_true rfl) dX16_areBeside_18 ?_
      refine lv_top (y := nI (adist a b)) (i_abs_d (by omega) (by omega)) ?_
      refine lv_aload_n hx hb dX16_areBeside_21 rfl (lv_at hl 0 rfl) ?_
      refine hp_get (C := RX16) (T := TX16) (N := 1) (v := .int (nI np)) hx hb hts in_X16 hown hK hH he rfl 0 (by decide) (hts _ q832) (u_same (hts _ q833)) rfl dX16_areBeside_22 ?_
      refine lv_iconst (v := nI 1) hx hb dX16_areBeside_25 (by decide) ?_
      refine lv_isub hx hb dX16_areBeside_26 ?_
      refine lv_top (y := nI (np - 1)) (pk_sub (by first | omega | (refine Nat.lt_of_lt_of_le (Nat.mod_lt _ ?_) ?_ <;> omega))) ?_
      refine lvN_ne (tgt := 34) hx hb (by first | omega | (refine Nat.lt_of_lt_of_le (Nat.mod_lt _ ?_) ?_ <;> omega)) (by first | omega | (refine Nat.lt_of_lt_of_le (Nat.mod_lt _ ?_) ?_ <;> omega)) dX16_areBeside_27 (by decide) (fun c3 => ?_) (fun c3 => ?_)
      · refine lv_iconst (v := nI 0) hx hb dX16_areBeside_34 (by decide) ?_
        exact hp_zret hx hb hr rfl hlocks hH hS (by decide) (by decide) dX16_areBeside_35 (⟨congrArg some (congrArg Value.int (zI_0 (by rw [decide_eq_false c2, decide_eq_false c3]; simp))), rfl⟩)
      · refine lv_iconst (v := nI 1) hx hb dX16_areBeside_30 (by decide) ?_
        refine lv_goto (tgt := 35) hx hb dX16_areBeside_31 (by decide) ?_
        exact hp_zret hx hb hr rfl hlocks hH hS (by decide) (by decide) dX16_areBeside_35 (⟨congrArg some (congrArg Value.int (zI_1 (by rw [decide_eq_true (show adist a b ≠ 0 by unfold adist; omega), decide_eq_true c3]; simp))), rfl⟩)
set_option maxHeartbeats 4000000 in
theorem mc_be_X17 (hK0 : va_K D CL (TYS K) s0) {ra t np a b : Nat} (he : h ra = some (.inr (13, [.int (nI np)]), t)) (hnp : 1 ≤ np ∧ np ≤ 10) (ha : a < np) (hb0 : b < np) : Met l yX17_areBeside (ws_ yX17_areBeside cX17_areBeside 3 ((Option.some Jvm.ClassFile.FieldType.boolean))) (rmk 1 0 0) (va_Pc [.ref ra, .int (nI a), .int (nI b)] (PB s0 D CL (h))) (QR s0 D CL (fun v h1 => v = some (.int (zI (decide (adist a b ≠ 0) && decide (a / 2 = b / 2)))) ∧ h1 = h)) 0 0 (zA s0) := by
  refine hp_met (by decide) (Nat.le_of_ble_eq_true rfl) hK0 ?_
  intro p e s m below meth cd ls hx hb hr hlocks hml hown hnm hts hK hPB hl hS hH hA
  have hl : lv_has ls 3 [(0, .ref ra), (1, .int (nI a)), (2, .int (nI b))] := hl
  have hown : s.vm.findClass RX17 = some m.cls := hown
  have had : adist a b < 20 := by unfold adist; omega
  refine lv_iload_n hx hb dX17_areBeside_0 rfl (lv_at hl 1 rfl) ?_
  refine lv_iload_n hx hb dX17_areBeside_1 rfl (lv_at hl 2 rfl) ?_
  refine lvN_eq (tgt := 18) hx hb (by first | omega | (refine Nat.lt_of_lt_of_le (Nat.mod_lt _ ?_) ?_ <;> omega)) (by first | omega | (refine Nat.lt_of_lt_of_le (Nat.mod_lt _ ?_) ?_ <;> omega)) dX17_areBeside_2 (by decide) (fun c1 => ?_) (fun c1 => ?_)
  · refine lv_iconst (v := nI 0) hx hb dX17_areBeside_18 (by decide) ?_
    exact hp_zret hx hb hr rfl hlocks hH hS (by decide) (by decide) dX17_areBeside_19 (⟨congrArg some (congrArg Value.int (zI_0 (by rw [decide_eq_false (show ¬ adist a b ≠ 0 by unfold adist; omega)]; rfl))), rfl⟩)
  · refine lv_iload_n hx hb dX17_areBeside_5 rfl (lv_at hl 1 rfl) ?_
    refine lv_iconst (v := nI 2) hx hb dX17_areBeside_6 (by decide) ?_
    refine lv_idiv hx hb dX17_areBeside_7 (nI_ne0 (by first | omega | (refine Nat.lt_of_lt_of_le (Nat.mod_lt _ ?_) ?_ <;> omega)) (by first | omega | (refine Nat.lt_of_lt_of_le (Nat.mod_lt _ ?_) ?_ <;> omega))) ?_
    refine lv_top (y := nI (a / 2)) (pk_div (by first | omega | (refine Nat.lt_of_lt_of_le (Nat.mod_lt _ ?_) ?_ <;> omega)) (by first | omega | (refine Nat.lt_of_lt_of_le (Nat.mod_lt _ ?_) ?_ <;> omega)) (by first | omega | (refine Nat.lt_of_lt_of_le (Nat.mod_lt _ ?_) ?_ <;> omega))) ?_
    refine lv_iload_n hx hb dX17_areBeside_8 rfl (lv_at hl 2 rfl) ?_
    refine lv_iconst (v := nI 2) hx hb dX17_areBeside_9 (by decide) ?_
    refine lv_idiv hx hb dX17_areBeside_10 (nI_ne0 (by first | omega | (refine Nat.lt_of_lt_of_le (Nat.mod_lt _ ?_) ?_ <;> omega)) (by first | omega | (refine Nat.lt_of_lt_of_le (Nat.mod_lt _ ?_) ?_ <;> omega))) ?_
    refine lv_top (y := nI (b / 2)) (pk_div (by first | omega | (refine Nat.lt_of_lt_of_le (Nat.mod_lt _ ?_) ?_ <;> omega)) (by first | omega | (refine Nat.lt_of_lt_of_le (Nat.mod_lt _ ?_) ?_ <;> omega)) (by first | omega | (refine Nat.lt_of_lt_of_le (Nat.mod_lt _ ?_) ?_ <;> omega))) ?_
    refine lvN_ne (tgt := 18) hx hb (by first | omega | (refine Nat.lt_of_lt_of_le (Nat.mod_lt _ ?_) ?_ <;> omega)) (by first | omega | (refine Nat.lt_of_lt_of_le (Nat.mod_lt _ ?_) ?_ <;> omega)) dX17_areBeside_11 (by decide) (fun c2 => ?_) (fun c2 => ?_)
    · refine lv_iconst (v := nI 0) hx hb dX17_areBeside_18 (by decide) ?_
      exact hp_zret hx hb hr rfl hlocks hH hS (by decide) (by decide) dX17_areBeside_19 (⟨congrArg some (congrArg Value.int (zI_0 (by rw [decide_eq_false c2]; simp))), rfl⟩)
    · refine lv_iconst (v := nI 1) hx hb dX17_areBeside_14 (by decide) ?_
      refine lv_goto (tgt := 19) hx hb dX17_areBeside_15 (by decide) ?_
      exact hp_zret hx hb hr rfl hlocks hH hS (by decide) (by decide) dX17_areBeside_19 (⟨congrArg some (congrArg Value.int (zI_1 (by rw [decide_eq_true (show adist a b ≠ 0 by unfold adist; omega), decide_eq_true c2]; rfl))), rfl⟩)
set_option maxHeartbeats 4000000 in
theorem mc_be_X18 (hK0 : va_K D CL (TYS K) s0) {ra t np a b : Nat} (he : h ra = some (.inr (14, [.int (nI np)]), t)) (hnp : 1 ≤ np ∧ np ≤ 10) (ha : a < np) (hb0 : b < np) : Met l yX14_areBeside (ws_ yX14_areBeside cX14_areBeside 3 ((Option.some Jvm.ClassFile.FieldType.boolean))) (rmk 1 0 0) (va_Pc [.ref ra, .int (nI a), .int (nI b)] (PB s0 D CL (h))) (QR s0 D CL (fun v h1 => v = some (.int (zI (decide (adist a b = 1)))) ∧ h1 = h)) 0 0 (zA s0) := by
  refine hp_met (by decide) (Nat.le_of_ble_eq_true rfl) hK0 ?_
  intro p e s m below meth cd ls hx hb hr hlocks hml hown hnm hts hK hPB hl hS hH hA
  have hl : lv_has ls 3 [(0, .ref ra), (1, .int (nI a)), (2, .int (nI b))] := hl
  have hown : s.vm.findClass RX14 = some m.cls := hown
  have had : adist a b < 20 := by unfold adist; omega
  refine lv_iload_n hx hb dX14_areBeside_0 rfl (lv_at hl 1 rfl) ?_
  refine lv_iload_n hx hb dX14_areBeside_1 rfl (lv_at hl 2 rfl) ?_
  refine lv_isub hx hb dX14_areBeside_2 ?_
  refine va_mabs hx hb (hml.trans hl.1.symm) hown (hts _ q1046) (hts _ q1041) (hts _ q114) (hts _ q1042) (Nat.le_of_ble_eq_true rfl) (Nat.le_of_ble_eq_true rfl) (Nat.le_of_ble_eq_true rfl) (Nat.le_of_ble_eq_true rfl) dX14_areBeside_3 ?_
  refine lv_top (y := nI (adist a b)) (i_abs_d (by omega) (by omega)) ?_
  refine lv_iconst (v := nI 1) hx hb dX14_areBeside_6 (by decide) ?_
  refine lvN_ne (tgt := 14) hx hb (by first | omega | (refine Nat.lt_of_lt_of_le (Nat.mod_lt _ ?_) ?_ <;> omega)) (by first | omega | (refine Nat.lt_of_lt_of_le (Nat.mod_lt _ ?_) ?_ <;> omega)) dX14_areBeside_7 (by decide) (fun c1 => ?_) (fun c1 => ?_)
  · refine lv_iconst (v := nI 0) hx hb dX14_areBeside_14 (by decide) ?_
    exact hp_zret hx hb hr rfl hlocks hH hS (by decide) (by decide) dX14_areBeside_15 (⟨congrArg some (congrArg Value.int (zI_0 (decide_eq_false c1))), rfl⟩)
  · refine lv_iconst (v := nI 1) hx hb dX14_areBeside_10 (by decide) ?_
    refine lv_goto (tgt := 15) hx hb dX14_areBeside_11 (by decide) ?_
    exact hp_zret hx hb hr rfl hlocks hH hS (by decide) (by decide) dX14_areBeside_15 (⟨congrArg some (congrArg Value.int (zI_1 (decide_eq_true c1))), rfl⟩)
theorem hp_hi {p : Program} {e : Env} {R : Room} {s : State} {m : MethodId} {args : Array Value} {below : List Frame} {meth : Method} {c : Code} {H : Heap} {locs : List Loc} {cells slots : Nat} {Q : State → Prop} {cc : ByteArray} {pc : Nat} {ls : Array Slot} {rest st0 : List Value} {h0 : Hp} {own : String} {index nL : Nat} (hx : p.tables.exec = Jvm.exec) (hb : c.code = cc) (hml : c.maxLocals = nL) (hown : s.vm.findClass own = some m.cls) (hts : ∀ w ∈ lw_all, w.before args s = true) (hPB : PB s0 D CL h0 s) (hK0 : va_K D CL (TYS K) s0) (hK : va_K D CL (TYS K) s) (hH : HP D CL (zA s0) h H) (hS : va_S (zA s0) s.heap H locs) {av : Nat → Nat} {ed mi : Nat} (hG : GX s0 wd av ed mi)
    {ra t np c9 a b k9 : Nat} (he : h ra = some (.inr (10 + k9, [.int (nI np)]), t)) (hk9 : k9 < 5) (hnp : 1 ≤ np ∧ np ≤ 10) (hc9 : c9 < 10) (ha : a < np) (hb0 : b < np) (hq : Cond.methodLink own index ⟨"FirstIn$Room", "higher", "(III)I"⟩ ∈ lw_all) (hR : 2 ≤ R.frames ∧ 8 + (6 + 11) + 200 * 1 ≤ R.locals) (hsize : ls.size = nL) (hstack : st0 = ([.int (nI c9), .int (nI a), .int (nI b)] : List Value).reverse ++ .ref ra :: rest) (hroom : (rest.map fun v => v.category).sum ≤ 8) (hf : cells ≤ R.cells ∧ slots ≤ R.slots) (hdg : decode cc pc = .ok (.invokevirtual index, 3))
    (kk : ∀ (H1 : Heap) (locs1 : List Loc), HP D CL (zA s0) h H1 → va_S (zA s0) s.heap H1 locs1 → W p l e R s m args below meth c H1 locs1 cells slots Q (F0 m (pc + 3) ls (.int (if a = b then nI 0 else if htN k9 np c9 a = htN k9 np c9 b then alI k9 else if htN k9 np c9 a < htN k9 np c9 b then nI 1 else nI 2) :: rest))) : W p l e R s m args below meth c H locs cells slots Q (F0 m pc ls st0) := by
  have h5 : k9 = 0 ∨ k9 = 1 ∨ k9 = 2 ∨ k9 = 3 ∨ k9 = 4 := by omega
  rcases h5 with rfl | rfl | rfl | rfl | rfl
  · refine hp_callU (As := [.int (nI c9), .int (nI a), .int (nI b)]) (rest := rest) (owner := "FirstIn$Room") (x := ⟨"FirstIn$Room", "higher", "(III)I"⟩) hx hb hml hown hts hPB hK hH hS (mc_hi_X14 hK0 hG he hnp hc9 ha hb0) he rfl rfl 3 (va_cwU 3 hts (lw_U hq q947 q950 q946 q131 q953) rfl rfl rfl rfl (by decide +kernel) (by simp only [rmk]; omega)) rfl hsize hstack hroom hf hdg (fun v h1 H1 locs1 hp _ hH1 hS1 => ?_)
    obtain ⟨rfl, hq2⟩ := hp
    rw [hq2] at hH1
    exact kk H1 locs1 hH1 hS1
  · refine hp_callU (As := [.int (nI c9), .int (nI a), .int (nI b)]) (rest := rest) (owner := "FirstIn$Room") (x := ⟨"FirstIn$Room", "higher", "(III)I"⟩) hx hb hml hown hts hPB hK hH hS (mc_hi_X15 hK0 hG he hnp hc9 ha hb0) he rfl rfl 3 (va_cwU 3 hts (lw_U hq q947 q951 q946 q131 q953) rfl rfl rfl rfl (by decide +kernel) (by simp only [rmk]; omega)) rfl hsize hstack hroom hf hdg (fun v h1 H1 locs1 hp _ hH1 hS1 => ?_)
    obtain ⟨rfl, hq2⟩ := hp
    rw [hq2] at hH1
    exact kk H1 locs1 hH1 hS1
  · refine hp_callU (As := [.int (nI c9), .int (nI a), .int (nI b)]) (rest := rest) (owner := "FirstIn$Room") (x := ⟨"FirstIn$Room", "higher", "(III)I"⟩) hx hb hml hown hts hPB hK hH hS (mc_hi_X16 hK0 hG he hnp hc9 ha hb0) he rfl rfl 3 (va_cwU 3 hts (lw_U hq q947 q949 q946 q131 q953) rfl rfl rfl rfl (by decide +kernel) (by simp only [rmk]; omega)) rfl hsize hstack hroom hf hdg (fun v h1 H1 locs1 hp _ hH1 hS1 => ?_)
    obtain ⟨rfl, hq2⟩ := hp
    rw [hq2] at hH1
    exact kk H1 locs1 hH1 hS1
  · refine hp_callU (As := [.int (nI c9), .int (nI a), .int (nI b)]) (rest := rest) (owner := "FirstIn$Room") (x := ⟨"FirstIn$Room", "higher", "(III)I"⟩) hx hb hml hown hts hPB hK hH hS (mc_hi_X17 hK0 hG he hnp hc9 ha hb0) he rfl rfl 3 (va_cwU 3 hts (lw_U hq q947 q948 q946 q131 q953) rfl rfl rfl rfl (by decide +kernel) (by simp only [rmk]; omega)) rfl hsize hstack hroom hf hdg (fun v h1 H1 locs1 hp _ hH1 hS1 => ?_)
    obtain ⟨rfl, hq2⟩ := hp
    rw [hq2] at hH1
    exact kk H1 locs1 hH1 hS1
  · refine hp_callU (As := [.int (nI c9), .int (nI a), .int (nI b)]) (rest := rest) (owner := "FirstIn$Room") (x := ⟨"FirstIn$Room", "higher", "(III)I"⟩) hx hb hml hown hts hPB hK hH hS (mc_hi_X18 hK0 hG he hnp hc9 ha hb0) he rfl rfl 3 (va_cwU 3 hts (lw_U hq q947 q952 q946 q131 q953) rfl rfl rfl rfl (by decide +kernel) (by simp only [rmk]; omega)) rfl hsize hstack hroom hf hdg (fun v h1 H1 locs1 hp _ hH1 hS1 => ?_)
    obtain ⟨rfl, hq2⟩ := hp
    rw [hq2] at hH1
    exact kk H1 locs1 hH1 hS1
theorem hp_be {p : Program} {e : Env} {R : Room} {s : State} {m : MethodId} {args : Array Value} {below : List Frame} {meth : Method} {c : Code} {H : Heap} {locs : List Loc} {cells slots : Nat} {Q : State → Prop} {cc : ByteArray} {pc : Nat} {ls : Array Slot} {rest st0 : List Value} {h0 : Hp} {own : String} {index nL : Nat} (hx : p.tables.exec = Jvm.exec) (hb : c.code = cc) (hml : c.maxLocals = nL) (hown : s.vm.findClass own = some m.cls) (hts : ∀ w ∈ lw_all, w.before args s = true) (hPB : PB s0 D CL h0 s) (hK0 : va_K D CL (TYS K) s0) (hK : va_K D CL (TYS K) s) (hH : HP D CL (zA s0) h H) (hS : va_S (zA s0) s.heap H locs) {av : Nat → Nat} {ed mi : Nat} (hG : GX s0 wd av ed mi)
    {ra t np c9 a b k9 : Nat} (he : h ra = some (.inr (10 + k9, [.int (nI np)]), t)) (hk9 : k9 < 5) (hnp : 1 ≤ np ∧ np ≤ 10) (hc9 : c9 < 10) (ha : a < np) (hb0 : b < np) (hq : Cond.methodLink own index ⟨"FirstIn$Room", "areBeside", "(II)Z"⟩ ∈ lw_all) (hR : 2 ≤ R.frames ∧ 8 + (6 + 11) + 200 * 1 ≤ R.locals) (hsize : ls.size = nL) (hstack : st0 = ([.int (nI a), .int (nI b)] : List Value).reverse ++ .ref ra :: rest) (hroom : (rest.map fun v => v.category).sum ≤ 8) (hf : cells ≤ R.cells ∧ slots ≤ R.slots) (hdg : decode cc pc = .ok (.invokevirtual index, 3))
    (kk : ∀ (H1 : Heap) (locs1 : List Loc), HP D CL (zA s0) h H1 → va_S (zA s0) s.heap H1 locs1 → W p l e R s m args below meth c H1 locs1 cells slots Q (F0 m (pc + 3) ls (.int (zI (beB k9 np a b)) :: rest))) : W p l e R s m args below meth c H locs cells slots Q (F0 m pc ls st0) := by
  have h5 : k9 = 0 ∨ k9 = 1 ∨ k9 = 2 ∨ k9 = 3 ∨ k9 = 4 := by omega
  rcases h5 with rfl | rfl | rfl | rfl | rfl
  · refine hp_callU (As := [.int (nI a), .int (nI b)]) (rest := rest) (owner := "FirstIn$Room") (x := ⟨"FirstIn$Room", "areBeside", "(II)Z"⟩) hx hb hml hown hts hPB hK hH hS (mc_be_X14 hK0 he hnp ha hb0) he rfl rfl 2 (va_cwA 2 hts (lw_U hq q1033 q1043 q1044 q132 q1045) rfl rfl rfl (hG.nd hPB q1032) (by decide +kernel) (by simp only [rmk]; omega)) rfl hsize hstack hroom hf hdg (fun v h1 H1 locs1 hp _ hH1 hS1 => ?_)
    obtain ⟨rfl, hq2⟩ := hp
    rw [hq2] at hH1
    exact kk H1 locs1 hH1 hS1
  · refine hp_callU (As := [.int (nI a), .int (nI b)]) (rest := rest) (owner := "FirstIn$Room") (x := ⟨"FirstIn$Room", "areBeside", "(II)Z"⟩) hx hb hml hown hts hPB hK hH hS (mc_be_X15 hK0 he hnp ha hb0) he rfl rfl 2 (va_cwA 2 hts (lw_U hq q1033 q1047 q1048 q133 q1049) rfl rfl rfl (hG.nd hPB q1032) (by decide +kernel) (by simp only [rmk]; omega)) rfl hsize hstack hroom hf hdg (fun v h1 H1 locs1 hp _ hH1 hS1 => ?_)
    obtain ⟨rfl, hq2⟩ := hp
    rw [hq2] at hH1
    exact kk H1 locs1 hH1 hS1
  · refine hp_callU (As := [.int (nI a), .int (nI b)]) (rest := rest) (owner := "FirstIn$Room") (x := ⟨"FirstIn$Room", "areBeside", "(II)Z"⟩) hx hb hml hown hts hPB hK hH hS (mc_be_X16 hK0 he hnp ha hb0) he rfl rfl 2 (va_cwA 2 hts (lw_U hq q1033 q1037 q1038 q134 q1039) rfl rfl rfl (hG.nd hPB q1032) (by decide +kernel) (by simp only [rmk]; omega)) rfl hsize hstack hroom hf hdg (fun v h1 H1 locs1 hp _ hH1 hS1 => ?_)
    obtain ⟨rfl, hq2⟩ := hp
    rw [hq2] at hH1
    exact kk H1 locs1 hH1 hS1
  · refine hp_callU (As := [.int (nI a), .int (nI b)]) (rest := rest) (owner := "FirstIn$Room") (x := ⟨"FirstIn$Room", "areBeside", "(II)Z"⟩) hx hb hml hown hts hPB hK hH hS (mc_be_X17 hK0 he hnp ha hb0) he rfl rfl 2 (va_cwA 2 hts (lw_U hq q1033 q1034 q1035 q135 q1036) rfl rfl rfl (hG.nd hPB q1032) (by decide +kernel) (by simp only [rmk]; omega)) rfl hsize hstack hroom hf hdg (fun v h1 H1 locs1 hp _ hH1 hS1 => ?_)
    obtain ⟨rfl, hq2⟩ := hp
    rw [hq2] at hH1
    exact kk H1 locs1 hH1 hS1
  · refine hp_callU (As := [.int (nI a), .int (nI b)]) (rest := rest) (owner := "FirstIn$Room") (x := ⟨"FirstIn$Room", "areBeside", "(II)Z"⟩) hx hb hml hown hts hPB hK hH hS (mc_be_X18 hK0 he hnp ha hb0) he rfl rfl 2 (va_cwA 2 hts (lw_U hq q1033 q1051 q1044 q132 q1045) rfl rfl rfl (hG.nd hPB q1032) (by decide +kernel) (by simp only [rmk]; omega)) rfl hsize hstack hroom hf hdg (fun v h1 H1 locs1 hp _ hH1 hS1 => ?_)
    obtain ⟨rfl, hq2⟩ := hp
    rw [hq2] at hH1
    exact kk H1 locs1 hH1 hS1
end MODEL
