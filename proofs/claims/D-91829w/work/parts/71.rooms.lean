/-! by gen/mspec.py -/
set_option maxRecDepth 100000
section MODEL
variable {l : Launch} {s0 : State} {D : va_G} {K : Nat → ClassId} {wd : Nat → Nat} {o : Nat} {h : Hp} {I : Nat → Int32} {V : Nat → Nat → Int32} {J : Nat → Nat → Int64}
set_option maxHeartbeats 4000000 in
theorem mc_ht_X14 (hK0 : va_K D CL (TYS K) s0) {ra t np c9 a b : Nat} (he : h ra = some (.inr (10, [.int (nI np)]), t)) (hnp : 1 ≤ np ∧ np ≤ 10) (hc9 : c9 < 10) (ha : a < np) (hb0 : b < np) : Met l yX14_height (ws_ yX14_height cX14_height 3 ((Option.some Jvm.ClassFile.FieldType.int))) (rmk 0 0 0) (va_Pc [.ref ra, .int (nI c9), .int (nI a)] (PB s0 D CL (h))) (QR s0 D CL (fun v h1 => v = some (.int (nI a)) ∧ h1 = h)) 0 0 (zA s0) := by
  refine hp_met (by decide) (Nat.le_of_ble_eq_true rfl) hK0 ?_
  intro p e s m below meth cd ls hx hb hr hlocks hml hown hnm hts hK hPB hl hS hH hA
  have hl : lv_has ls 3 [(0, .ref ra), (1, .int (nI c9)), (2, .int (nI a))] := hl
  have hown : s.vm.findClass RX14 = some m.cls := hown
  refine lv_iload_n hx hb dX14_height_0 rfl (lv_at hl 2 rfl) ?_
  exact hp_iret hx hb hr hlocks hH hS (by decide) (by decide) dX14_height_1 (⟨rfl, rfl⟩)
set_option maxHeartbeats 4000000 in
theorem mc_ht_X15 (hK0 : va_K D CL (TYS K) s0) {ra t np c9 a b : Nat} (he : h ra = some (.inr (11, [.int (nI np)]), t)) (hnp : 1 ≤ np ∧ np ≤ 10) (hc9 : c9 < 10) (ha : a < np) (hb0 : b < np) : Met l yX15_height (ws_ yX15_height cX15_height 3 ((Option.some Jvm.ClassFile.FieldType.int))) (rmk 0 0 0) (va_Pc [.ref ra, .int (nI c9), .int (nI a)] (PB s0 D CL (h))) (QR s0 D CL (fun v h1 => v = some (.int (nI (a / 2))) ∧ h1 = h)) 0 0 (zA s0) := by
  refine hp_met (by decide) (Nat.le_of_ble_eq_true rfl) hK0 ?_
  intro p e s m below meth cd ls hx hb hr hlocks hml hown hnm hts hK hPB hl hS hH hA
  have hl : lv_has ls 3 [(0, .ref ra), (1, .int (nI c9)), (2, .int (nI a))] := hl
  have hown : s.vm.findClass RX15 = some m.cls := hown
  refine lv_iload_n hx hb dX15_height_0 rfl (lv_at hl 2 rfl) ?_
  refine lv_iconst (v := nI 2) hx hb dX15_height_1 (by decide) ?_
  refine lv_idiv hx hb dX15_height_2 (nI_ne0 (by first | omega | (refine Nat.lt_of_lt_of_le (Nat.mod_lt _ ?_) ?_ <;> omega)) (by first | omega | (refine Nat.lt_of_lt_of_le (Nat.mod_lt _ ?_) ?_ <;> omega))) ?_
  refine lv_top (y := nI (a / 2)) (pk_div (by first | omega | (refine Nat.lt_of_lt_of_le (Nat.mod_lt _ ?_) ?_ <;> omega)) (by first | omega | (refine Nat.lt_of_lt_of_le (Nat.mod_lt _ ?_) ?_ <;> omega)) (by first | omega | (refine Nat.lt_of_lt_of_le (Nat.mod_lt _ ?_) ?_ <;> omega))) ?_
  exact hp_iret hx hb hr hlocks hH hS (by decide) (by decide) dX15_height_3 (⟨rfl, rfl⟩)
set_option maxHeartbeats 4000000 in
theorem mc_ht_X17 (hK0 : va_K D CL (TYS K) s0) {ra t np c9 a b : Nat} (he : h ra = some (.inr (13, [.int (nI np)]), t)) (hnp : 1 ≤ np ∧ np ≤ 10) (hc9 : c9 < 10) (ha : a < np) (hb0 : b < np) : Met l yX15_height (ws_ yX15_height cX15_height 3 ((Option.some Jvm.ClassFile.FieldType.int))) (rmk 0 0 0) (va_Pc [.ref ra, .int (nI c9), .int (nI a)] (PB s0 D CL (h))) (QR s0 D CL (fun v h1 => v = some (.int (nI (a / 2))) ∧ h1 = h)) 0 0 (zA s0) := by
  refine hp_met (by decide) (Nat.le_of_ble_eq_true rfl) hK0 ?_
  intro p e s m below meth cd ls hx hb hr hlocks hml hown hnm hts hK hPB hl hS hH hA
  have hl : lv_has ls 3 [(0, .ref ra), (1, .int (nI c9)), (2, .int (nI a))] := hl
  have hown : s.vm.findClass RX15 = some m.cls := hown
  refine lv_iload_n hx hb dX15_height_0 rfl (lv_at hl 2 rfl) ?_
  refine lv_iconst (v := nI 2) hx hb dX15_height_1 (by decide) ?_
  refine lv_idiv hx hb dX15_height_2 (nI_ne0 (by first | omega | (refine Nat.lt_of_lt_of_le (Nat.mod_lt _ ?_) ?_ <;> omega)) (by first | omega | (refine Nat.lt_of_lt_of_le (Nat.mod_lt _ ?_) ?_ <;> omega))) ?_
  refine lv_top (y := nI (a / 2)) (pk_div (by first | omega | (refine Nat.lt_of_lt_of_le (Nat.mod_lt _ ?_) ?_ <;> omega)) (by first | omega | (refine Nat.lt_of_lt_of_le (Nat.mod_lt _ ?_) ?_ <;> omega)) (by first | omega | (refine Nat.lt_of_lt_of_le (Nat.mod_lt _ ?_) ?_ <;> omega))) ?_
  exact hp_iret hx hb hr hlocks hH hS (by decide) (by decide) dX15_height_3 (⟨rfl, rfl⟩)
set_option maxHeartbeats 4000000 in
theorem mc_ht_X16 (hK0 : va_K D CL (TYS K) s0) {ra t np c9 a b : Nat} (he : h ra = some (.inr (12, [.int (nI np)]), t)) (hnp : 1 ≤ np ∧ np ≤ 10) (hc9 : c9 < 10) (ha : a < np) (hb0 : b < np) : Met l yX16_height (ws_ yX16_height cX16_height 3 ((Option.some Jvm.ClassFile.FieldType.int))) (rmk 0 0 0) (va_Pc [.ref ra, .int (nI c9), .int (nI a)] (PB s0 D CL (h))) (QR s0 D CL (fun v h1 => v = some (.int (nI 0)) ∧ h1 = h)) 0 0 (zA s0) := by
  refine hp_met (by decide) (Nat.le_of_ble_eq_true rfl) hK0 ?_
  intro p e s m below meth cd ls hx hb hr hlocks hml hown hnm hts hK hPB hl hS hH hA
  have hl : lv_has ls 3 [(0, .ref ra), (1, .int (nI c9)), (2, .int (nI a))] := hl
  have hown : s.vm.findClass RX16 = some m.cls := hown
  refine lv_iconst (v := nI 0) hx hb dX16_height_0 (by decide) ?_
  exact hp_iret hx hb hr hlocks hH hS (by decide) (by decide) dX16_height_1 (⟨rfl, rfl⟩)
set_option maxHeartbeats 4000000 in
theorem mc_ht_X18 (hK0 : va_K D CL (TYS K) s0) {ra t np c9 a b : Nat} (he : h ra = some (.inr (14, [.int (nI np)]), t)) (hnp : 1 ≤ np ∧ np ≤ 10) (hc9 : c9 < 10) (ha : a < np) (hb0 : b < np) : Met l yX18_height (ws_ yX18_height cX18_height 3 ((Option.some Jvm.ClassFile.FieldType.int))) (rmk 0 0 0) (va_Pc [.ref ra, .int (nI c9), .int (nI a)] (PB s0 D CL (h))) (QR s0 D CL (fun v h1 => v = some (.int (nI ((a + c9) % np))) ∧ h1 = h)) 0 0 (zA s0) := by
  refine hp_met (by decide) (Nat.le_of_ble_eq_true rfl) hK0 ?_
  intro p e s m below meth cd ls hx hb hr hlocks hml hown hnm hts hK hPB hl hS hH hA
  have hl : lv_has ls 3 [(0, .ref ra), (1, .int (nI c9)), (2, .int (nI a))] := hl
  have hown : s.vm.findClass RX18 = some m.cls := hown
  refine lv_iload_n hx hb dX18_height_0 rfl (lv_at hl 2 rfl) ?_
  refine lv_iload_n hx hb dX18_height_1 rfl (lv_at hl 1 rfl) ?_
  refine lv_iadd hx hb dX18_height_2 ?_
  refine lv_top (y := nI (a + c9)) (nI_add _ _) ?_
  refine lv_aload_n hx hb dX18_height_3 rfl (lv_at hl 0 rfl) ?_
  refine hp_get (C := RX18) (T := TX18) (N := 1) (v := .int (nI np)) hx hb hts in_X18 hown hK hH he rfl 0 (by decide) (hts _ q830) (u_same (hts _ q831)) rfl dX18_height_4 ?_
  refine lv_irem hx hb dX18_height_7 (nI_ne0 (by first | omega | (refine Nat.lt_of_lt_of_le (Nat.mod_lt _ ?_) ?_ <;> omega)) (by first | omega | (refine Nat.lt_of_lt_of_le (Nat.mod_lt _ ?_) ?_ <;> omega))) ?_
  refine lv_top (y := nI ((a + c9) % np)) (pk_rem (by first | omega | (refine Nat.lt_of_lt_of_le (Nat.mod_lt _ ?_) ?_ <;> omega)) (by first | omega | (refine Nat.lt_of_lt_of_le (Nat.mod_lt _ ?_) ?_ <;> omega)) (by first | omega | (refine Nat.lt_of_lt_of_le (Nat.mod_lt _ ?_) ?_ <;> omega))) ?_
  exact hp_iret hx hb hr hlocks hH hS (by decide) (by decide) dX18_height_8 (⟨rfl, rfl⟩)
set_option maxHeartbeats 4000000 in
theorem mc_al_X14 (hK0 : va_K D CL (TYS K) s0) {ra t np c9 a b : Nat} (he : h ra = some (.inr (10, [.int (nI np)]), t)) (hnp : 1 ≤ np ∧ np ≤ 10) (hc9 : c9 < 10) (ha : a < np) (hb0 : b < np) : Met l yX13_alike (ws_ yX13_alike cX13_alike 1 ((Option.some Jvm.ClassFile.FieldType.int))) (rmk 0 0 0) (va_Pc [.ref ra] (PB s0 D CL (h))) (QR s0 D CL (fun v h1 => v = some (.int (nI 0)) ∧ h1 = h)) 0 0 (zA s0) := by
  refine hp_met (by decide) (Nat.le_of_ble_eq_true rfl) hK0 ?_
  intro p e s m below meth cd ls hx hb hr hlocks hml hown hnm hts hK hPB hl hS hH hA
  have hl : lv_has ls 1 [(0, .ref ra)] := hl
  have hown : s.vm.findClass RX13 = some m.cls := hown
  refine lv_iconst (v := nI 0) hx hb dX13_alike_0 (by decide) ?_
  exact hp_iret hx hb hr hlocks hH hS (by decide) (by decide) dX13_alike_1 (⟨rfl, rfl⟩)
set_option maxHeartbeats 4000000 in
theorem mc_al_X15 (hK0 : va_K D CL (TYS K) s0) {ra t np c9 a b : Nat} (he : h ra = some (.inr (11, [.int (nI np)]), t)) (hnp : 1 ≤ np ∧ np ≤ 10) (hc9 : c9 < 10) (ha : a < np) (hb0 : b < np) : Met l yX15_alike (ws_ yX15_alike cX15_alike 1 ((Option.some Jvm.ClassFile.FieldType.int))) (rmk 0 0 0) (va_Pc [.ref ra] (PB s0 D CL (h))) (QR s0 D CL (fun v h1 => v = some (.int (-1)) ∧ h1 = h)) 0 0 (zA s0) := by
  refine hp_met (by decide) (Nat.le_of_ble_eq_true rfl) hK0 ?_
  intro p e s m below meth cd ls hx hb hr hlocks hml hown hnm hts hK hPB hl hS hH hA
  have hl : lv_has ls 1 [(0, .ref ra)] := hl
  have hown : s.vm.findClass RX15 = some m.cls := hown
  refine lv_iconst (v := (-1)) hx hb dX15_alike_0 (by decide) ?_
  exact hp_iret hx hb hr hlocks hH hS (by decide) (by decide) dX15_alike_1 (⟨rfl, rfl⟩)
set_option maxHeartbeats 4000000 in
theorem mc_al_X16 (hK0 : va_K D CL (TYS K) s0) {ra t np c9 a b : Nat} (he : h ra = some (.inr (12, [.int (nI np)]), t)) (hnp : 1 ≤ np ∧ np ≤ 10) (hc9 : c9 < 10) (ha : a < np) (hb0 : b < np) : Met l yX16_alike (ws_ yX16_alike cX16_alike 1 ((Option.some Jvm.ClassFile.FieldType.int))) (rmk 0 0 0) (va_Pc [.ref ra] (PB s0 D CL (h))) (QR s0 D CL (fun v h1 => v = some (.int (-1)) ∧ h1 = h)) 0 0 (zA s0) := by
  refine hp_met (by decide) (Nat.le_of_ble_eq_true rfl) hK0 ?_
  intro p e s m below meth cd ls hx hb hr hlocks hml hown hnm hts hK hPB hl hS hH hA
  have hl : lv_has ls 1 [(0, .ref ra)] := hl
  have hown : s.vm.findClass RX16 = some m.cls := hown
  refine lv_iconst (v := (-1)) hx hb dX16_alike_0 (by decide) ?_
  exact hp_iret hx hb hr hlocks hH hS (by decide) (by decide) dX16_alike_1 (⟨rfl, rfl⟩)
set_option maxHeartbeats 4000000 in
theorem mc_al_X17 (hK0 : va_K D CL (TYS K) s0) {ra t np c9 a b : Nat} (he : h ra = some (.inr (13, [.int (nI np)]), t)) (hnp : 1 ≤ np ∧ np ≤ 10) (hc9 : c9 < 10) (ha : a < np) (hb0 : b < np) : Met l yX17_alike (ws_ yX17_alike cX17_alike 1 ((Option.some Jvm.ClassFile.FieldType.int))) (rmk 0 0 0) (va_Pc [.ref ra] (PB s0 D CL (h))) (QR s0 D CL (fun v h1 => v = some (.int (nI 0)) ∧ h1 = h)) 0 0 (zA s0) := by
  refine hp_met (by decide) (Nat.le_of_ble_eq_true rfl) hK0 ?_
  intro p e s m below meth cd ls hx hb hr hlocks hml hown hnm hts hK hPB hl hS hH hA
  have hl : lv_has ls 1 [(0, .ref ra)] := hl
  have hown : s.vm.findClass RX17 = some m.cls := hown
  refine lv_iconst (v := nI 0) hx hb dX17_alike_0 (by decide) ?_
  exact hp_iret hx hb hr hlocks hH hS (by decide) (by decide) dX17_alike_1 (⟨rfl, rfl⟩)
set_option maxHeartbeats 4000000 in
theorem mc_al_X18 (hK0 : va_K D CL (TYS K) s0) {ra t np c9 a b : Nat} (he : h ra = some (.inr (14, [.int (nI np)]), t)) (hnp : 1 ≤ np ∧ np ≤ 10) (hc9 : c9 < 10) (ha : a < np) (hb0 : b < np) : Met l yX13_alike (ws_ yX13_alike cX13_alike 1 ((Option.some Jvm.ClassFile.FieldType.int))) (rmk 0 0 0) (va_Pc [.ref ra] (PB s0 D CL (h))) (QR s0 D CL (fun v h1 => v = some (.int (nI 0)) ∧ h1 = h)) 0 0 (zA s0) := by
  refine hp_met (by decide) (Nat.le_of_ble_eq_true rfl) hK0 ?_
  intro p e s m below meth cd ls hx hb hr hlocks hml hown hnm hts hK hPB hl hS hH hA
  have hl : lv_has ls 1 [(0, .ref ra)] := hl
  have hown : s.vm.findClass RX13 = some m.cls := hown
  refine lv_iconst (v := nI 0) hx hb dX13_alike_0 (by decide) ?_
  exact hp_iret hx hb hr hlocks hH hS (by decide) (by decide) dX13_alike_1 (⟨rfl, rfl⟩)
set_option maxHeartbeats 4000000 in
theorem mc_hi_X14 (hK0 : va_K D CL (TYS K) s0) {av : Nat → Nat} {ed mi : Nat} (hG : GX s0 wd av ed mi) {ra t np c9 a b : Nat} (he : h ra = some (.inr (10, [.int (nI np)]), t)) (hnp : 1 ≤ np ∧ np ≤ 10) (hc9 : c9 < 10) (ha : a < np) (hb0 : b < np) : Met l yX13_higher (ws_ yX13_higher cX13_higher 6 ((Option.some Jvm.ClassFile.FieldType.int))) (rmk 1 0 0) (va_Pc [.ref ra, .int (nI c9), .int (nI a), .int (nI b)] (PB s0 D CL (h))) (QR s0 D CL (fun v h1 => v = some (.int (if a = b then nI 0 else if htN 0 np c9 a = htN 0 np c9 b then alI 0 else if htN 0 np c9 a < htN 0 np c9 b then nI 1 else nI 2)) ∧ h1 = h)) 0 0 (zA s0) := by
  refine hp_met (by decide) (Nat.le_of_ble_eq_true rfl) hK0 ?_
  intro p e s m below meth cd ls hx hb hr hlocks hml hown hnm hts hK hPB hl hS hH hA
  have hl : lv_has ls 6 [(0, .ref ra), (1, .int (nI c9)), (2, .int (nI a)), (3, .int (nI b))] := hl
  have hown : s.vm.findClass RX13 = some m.cls := hown
  have hma := Nat.mod_lt (a + c9) (show np > 0 by omega)
  have hmb := Nat.mod_lt (b + c9) (show np > 0 by omega)
  refine lv_iload_n hx hb dX13_higher_0 rfl (lv_at hl 2 rfl) ?_
  refine lv_iload_n hx hb dX13_higher_1 rfl (lv_at hl 3 rfl) ?_
  refine lvN_ne (tgt := 7) hx hb (by first | omega | (refine Nat.lt_of_lt_of_le (Nat.mod_lt _ ?_) ?_ <;> omega)) (by first | omega | (refine Nat.lt_of_lt_of_le (Nat.mod_lt _ ?_) ?_ <;> omega)) dX13_higher_2 (by decide) (fun c0 => ?_) (fun c0 => ?_)
  · refine lv_aload_n hx hb dX13_higher_7 rfl (lv_at hl 0 rfl) ?_
    refine lv_iload_n hx hb dX13_higher_8 rfl (lv_at hl 1 rfl) ?_
    refine lv_iload_n hx hb dX13_higher_9 rfl (lv_at hl 2 rfl) ?_
    refine hp_callU (As := [.int (nI c9), .int (nI a)]) (rest := []) (owner := "FirstIn$Room") (x := ⟨"FirstIn$Room", "height", "(II)I"⟩) hx hb hml hown hts hPB hK hH hS (mc_ht_X14 hK0 (a := a) (b := b) he hnp hc9 ha hb0) he rfl rfl 2 (va_cwA 2 hts (lw_U q954 q956 q963 q964 q132 q965) rfl rfl rfl (hG.nd hPB q955) (by decide +kernel) (by decide)) rfl hl.1 rfl (Nat.le_of_ble_eq_true rfl) (by decide) dX13_higher_10 (fun v1 h3 H locs hp2 _ hH hS => ?_)
    obtain ⟨rfl, hq⟩ := hp2
    rw [hq] at hH
    refine lv_istore (lv' := [(4, .int (nI a)), (0, .ref ra), (1, .int (nI c9)), (2, .int (nI a)), (3, .int (nI b))]) hx hb dX13_higher_13 hl (by decide) rfl (fun ls hl => ?_)
    refine lv_aload_n hx hb dX13_higher_15 rfl (lv_at hl 1 rfl) ?_
    refine lv_iload_n hx hb dX13_higher_16 rfl (lv_at hl 2 rfl) ?_
    refine lv_iload_n hx hb dX13_higher_17 rfl (lv_at hl 4 rfl) ?_
    refine hp_callU (As := [.int (nI c9), .int (nI b)]) (rest := []) (owner := "FirstIn$Room") (x := ⟨"FirstIn$Room", "height", "(II)I"⟩) hx hb hml hown hts hPB hK hH hS (mc_ht_X14 hK0 (a := b) (b := a) he hnp hc9 hb0 ha) he rfl rfl 2 (va_cwA 2 hts (lw_U q954 q956 q963 q964 q132 q965) rfl rfl rfl (hG.nd hPB q955) (by decide +kernel) (by decide)) rfl hl.1 rfl (Nat.le_of_ble_eq_true rfl) (by decide) dX13_higher_18 (fun v4 h6 H locs hp5 _ hH hS => ?_)
    obtain ⟨rfl, hq⟩ := hp5
    rw [hq] at hH
    refine lv_istore (lv' := [(5, .int (nI b)), (4, .int (nI a)), (0, .ref ra), (1, .int (nI c9)), (2, .int (nI a)), (3, .int (nI b))]) hx hb dX13_higher_21 hl (by decide) rfl (fun ls hl => ?_)
    refine lv_iload hx hb dX13_higher_23 (lv_at hl 1 rfl) ?_
    refine lv_iload hx hb dX13_higher_25 (lv_at hl 0 rfl) ?_
    refine lvN_ne (tgt := 37) hx hb (by first | omega | (refine Nat.lt_of_lt_of_le (Nat.mod_lt _ ?_) ?_ <;> omega)) (by first | omega | (refine Nat.lt_of_lt_of_le (Nat.mod_lt _ ?_) ?_ <;> omega)) dX13_higher_27 (by decide) (fun c1 => ?_) (fun c1 => ?_)
    · refine lv_iload hx hb dX13_higher_37 (lv_at hl 1 rfl) ?_
      refine lv_iload hx hb dX13_higher_39 (lv_at hl 0 rfl) ?_
      refine lvN_ge (tgt := 48) hx hb (by first | omega | (refine Nat.lt_of_lt_of_le (Nat.mod_lt _ ?_) ?_ <;> omega)) (by first | omega | (refine Nat.lt_of_lt_of_le (Nat.mod_lt _ ?_) ?_ <;> omega)) dX13_higher_41 (by decide) (fun c2 => ?_) (fun c2 => ?_)
      · refine lv_iconst (v := nI 2) hx hb dX13_higher_48 (by decide) ?_
        exact hp_iret hx hb hr hlocks hH hS (by decide) (by decide) dX13_higher_49 (⟨congrArg some (congrArg Value.int (by rw [if_neg c0, if_neg (show ¬ htN 0 np c9 a = htN 0 np c9 b from c1), if_neg (show ¬ htN 0 np c9 a < htN 0 np c9 b from Nat.not_lt.mpr c2)])), rfl⟩)
      · refine lv_iconst (v := nI 1) hx hb dX13_higher_44 (by decide) ?_
        refine lv_goto (tgt := 49) hx hb dX13_higher_45 (by decide) ?_
        exact hp_iret hx hb hr hlocks hH hS (by decide) (by decide) dX13_higher_49 (⟨congrArg some (congrArg Value.int (by rw [if_neg c0, if_neg (show ¬ htN 0 np c9 a = htN 0 np c9 b from c1), if_pos (show htN 0 np c9 a < htN 0 np c9 b from c2)])), rfl⟩)
    · refine lv_aload_n hx hb dX13_higher_30 rfl (lv_at hl 2 rfl) ?_
      refine hp_callU (As := []) (rest := []) (owner := "FirstIn$Room") (x := ⟨"FirstIn$Room", "alike", "()I"⟩) hx hb hml hown hts hPB hK hH hS (mc_al_X14 hK0 he hnp hc9 ha hb0) he rfl rfl 0 (va_cwU 0 hts (lw_U q970 q972 q979 q971 q131 q984) rfl rfl rfl rfl (by decide +kernel) (by decide)) rfl hl.1 rfl (Nat.le_of_ble_eq_true rfl) (by decide) dX13_higher_31 (fun v7 h9 H locs hp8 _ hH hS => ?_)
      obtain ⟨rfl, hq⟩ := hp8
      rw [hq] at hH
      refine lv_goto (tgt := 49) hx hb dX13_higher_34 (by decide) ?_
      exact hp_iret hx hb hr hlocks hH hS (by decide) (by decide) dX13_higher_49 (⟨congrArg some (congrArg Value.int (by rw [if_neg c0, if_pos (show htN 0 np c9 a = htN 0 np c9 b from c1)]; rfl)), rfl⟩)
  · refine lv_iconst (v := nI 0) hx hb dX13_higher_5 (by decide) ?_
    exact hp_iret hx hb hr hlocks hH hS (by decide) (by decide) dX13_higher_6 (⟨congrArg some (congrArg Value.int (by rw [if_pos c0])), rfl⟩)
set_option maxHeartbeats 4000000 in
theorem mc_hi_X15 (hK0 : va_K D CL (TYS K) s0) {av : Nat → Nat} {ed mi : Nat} (hG : GX s0 wd av ed mi) {ra t np c9 a b : Nat} (he : h ra = some (.inr (11, [.int (nI np)]), t)) (hnp : 1 ≤ np ∧ np ≤ 10) (hc9 : c9 < 10) (ha : a < np) (hb0 : b < np) : Met l yX13_higher (ws_ yX13_higher cX13_higher 6 ((Option.some Jvm.ClassFile.FieldType.int))) (rmk 1 0 0) (va_Pc [.ref ra, .int (nI c9), .int (nI a), .int (nI b)] (PB s0 D CL (h))) (QR s0 D CL (fun v h1 => v = some (.int (if a = b then nI 0 else if htN 1 np c9 a = htN 1 np c9 b then alI 1 else if htN 1 np c9 a < htN 1 np c9 b then nI 1 else nI 2)) ∧ h1 = h)) 0 0 (zA s0) := by
  refine hp_met (by decide) (Nat.le_of_ble_eq_true rfl) hK0 ?_
  intro p e s m below meth cd ls hx hb hr hlocks hml hown hnm hts hK hPB hl hS hH hA
  have hl : lv_has ls 6 [(0, .ref ra), (1, .int (nI c9)), (2, .int (nI a)), (3, .int (nI b))] := hl
  have hown : s.vm.findClass RX13 = some m.cls := hown
  have hma := Nat.mod_lt (a + c9) (show np > 0 by omega)
  have hmb := Nat.mod_lt (b + c9) (show np > 0 by omega)
  refine lv_iload_n hx hb dX13_higher_0 rfl (lv_at hl 2 rfl) ?_
  refine lv_iload_n hx hb dX13_higher_1 rfl (lv_at hl 3 rfl) ?_
  refine lvN_ne (tgt := 7) hx hb (by first | omega | (refine Nat.lt_of_lt_of_le (Nat.mod_lt _ ?_) ?_ <;> omega)) (by first | omega | (refine Nat.lt_of_lt_of_le (Nat.mod_lt _ ?_) ?_ <;> omega)) dX13_higher_2 (by decide) (fun c0 => ?_) (fun c0 => ?_)
  · refine lv_aload_n hx hb dX13_higher_7 rfl (lv_at hl 0 rfl) ?_
    refine lv_iload_n hx hb dX13_higher_8 rfl (lv_at hl 1 rfl) ?_
    refine lv_iload_n hx hb dX13_higher_9 rfl (lv_at hl 2 rfl) ?_
    refine hp_callU (As := [.int (nI c9), .int (nI a)]) (rest := []) (owner := "FirstIn$Room") (x := ⟨"FirstIn$Room", "height", "(II)I"⟩) hx hb hml hown hts hPB hK hH hS (mc_ht_X15 hK0 (a := a) (b := b) he hnp hc9 ha hb0) he rfl rfl 2 (va_cwA 2 hts (lw_U q954 q956 q966 q958 q133 q959) rfl rfl rfl (hG.nd hPB q955) (by decide +kernel) (by decide)) rfl hl.1 rfl (Nat.le_of_ble_eq_true rfl) (by decide) dX13_higher_10 (fun v1 h3 H locs hp2 _ hH hS => ?_)
    obtain ⟨rfl, hq⟩ := hp2
    rw [hq] at hH
    refine lv_istore (lv' := [(4, .int (nI (a / 2))), (0, .ref ra), (1, .int (nI c9)), (2, .int (nI a)), (3, .int (nI b))]) hx hb dX13_higher_13 hl (by decide) rfl (fun ls hl => ?_)
    refine lv_aload_n hx hb dX13_higher_15 rfl (lv_at hl 1 rfl) ?_
    refine lv_iload_n hx hb dX13_higher_16 rfl (lv_at hl 2 rfl) ?_
    refine lv_iload_n hx hb dX13_higher_17 rfl (lv_at hl 4 rfl) ?_
    refine hp_callU (As := [.int (nI c9), .int (nI b)]) (rest := []) (owner := "FirstIn$Room") (x := ⟨"FirstIn$Room", "height", "(II)I"⟩) hx hb hml hown hts hPB hK hH hS (mc_ht_X15 hK0 (a := b) (b := a) he hnp hc9 hb0 ha) he rfl rfl 2 (va_cwA 2 hts (lw_U q954 q956 q966 q958 q133 q959) rfl rfl rfl (hG.nd hPB q955) (by decide +kernel) (by decide)) rfl hl.1 rfl (Nat.le_of_ble_eq_true rfl) (by decide) dX13_higher_18 (fun v4 h6 H locs hp5 _ hH hS => ?_)
    obtain ⟨rfl, hq⟩ := hp5
    rw [hq] at hH
    refine lv_istore (lv' := [(5, .int (nI (b / 2))), (4, .int (nI (a / 2))), (0, .ref ra), (1, .int (nI c9)), (2, .int (nI a)), (3, .int (nI b))]) hx hb dX13_higher_21 hl (by decide) rfl (fun ls hl => ?_)
    refine lv_iload hx hb dX13_higher_23 (lv_at hl 1 rfl) ?_
    refine lv_iload hx hb dX13_higher_25 (lv_at hl 0 rfl) ?_
    refine lvN_ne (tgt := 37) hx hb (by first | omega | (refine Nat.lt_of_lt_of_le (Nat.mod_lt _ ?_) ?_ <;> omega)) (by first | omega | (refine Nat.lt_of_lt_of_le (Nat.mod_lt _ ?_) ?_ <;> omega)) dX13_higher_27 (by decide) (fun c1 => ?_) (fun c1 => ?_)
    · refine lv_iload hx hb dX13_higher_37 (lv_at hl 1 rfl) ?_
      refine lv_iload hx hb dX13_higher_39 (lv_at hl 0 rfl) ?_
      refine lvN_ge (tgt := 48) hx hb (by first | omega | (refine Nat.lt_of_lt_of_le (Nat.mod_lt _ ?_) ?_ <;> omega)) (by first | omega | (refine Nat.lt_of_lt_of_le (Nat.mod_lt _ ?_) ?_ <;> omega)) dX13_higher_41 (by decide) (fun c2 => ?_) (fun c2 => ?_)
      · refine lv_iconst (v := nI 2) hx hb dX13_higher_48 (by decide) ?_
        exact hp_iret hx hb hr hlocks hH hS (by decide) (by decide) dX13_higher_49 (⟨congrArg some (congrArg Value.int (by rw [if_neg c0, if_neg (show ¬ htN 1 np c9 a = htN 1 np c9 b from c1), if_neg (show ¬ htN 1 np c9 a < htN 1 np c9 b from Nat.not_lt.mpr c2)])), rfl⟩)
      · refine lv_iconst (v := nI 1) hx hb dX13_higher_44 (by decide) ?_
        refine lv_goto (tgt := 49) hx hb dX13_higher_45 (by decide) ?_
        exact hp_iret hx hb hr hlocks hH hS (by decide) (by decide) dX13_higher_49 (⟨congrArg some (congrArg Value.int (by rw [if_neg c0, if_neg (show ¬ htN 1 np c9 a = htN 1 np c9 b from c1), if_pos (show htN 1 np c9 a < htN 1 np c9 b from c2)])), rfl⟩)
    · refine lv_aload_n hx hb dX13_higher_30 rfl (lv_at hl 2 rfl) ?_
      refine hp_callU (As := []) (rest := []) (owner := "FirstIn$Room") (x := ⟨"FirstIn$Room", "alike", "()I"⟩) hx hb hml hown hts hPB hK hH hS (mc_al_X15 hK0 he hnp hc9 ha hb0) he rfl rfl 0 (va_cwO 0 hts (lw_O q970 q972 q971 q980 q981 q133 q982) rfl rfl rfl q984 (by decide +kernel) (by decide)) rfl hl.1 rfl (Nat.le_of_ble_eq_true rfl) (by decide) dX13_higher_31 (fun v7 h9 H locs hp8 _ hH hS => ?_)
      obtain ⟨rfl, hq⟩ := hp8
      rw [hq] at hH
      refine lv_goto (tgt := 49) hx hb dX13_higher_34 (by decide) ?_
      exact hp_iret hx hb hr hlocks hH hS (by decide) (by decide) dX13_higher_49 (⟨congrArg some (congrArg Value.int (by rw [if_neg c0, if_pos (show htN 1 np c9 a = htN 1 np c9 b from c1)]; rfl)), rfl⟩)
  · refine lv_iconst (v := nI 0) hx hb dX13_higher_5 (by decide) ?_
    exact hp_iret hx hb hr hlocks hH hS (by decide) (by decide) dX13_higher_6 (⟨congrArg some (congrArg Value.int (by rw [if_pos c0])), rfl⟩)
set_option maxHeartbeats 4000000 in
theorem mc_hi_X16 (hK0 : va_K D CL (TYS K) s0) {av : Nat → Nat} {ed mi : Nat} (hG : GX s0 wd av ed mi) {ra t np c9 a b : Nat} (he : h ra = some (.inr (12, [.int (nI np)]), t)) (hnp : 1 ≤ np ∧ np ≤ 10) (hc9 : c9 < 10) (ha : a < np) (hb0 : b < np) : Met l yX13_higher (ws_ yX13_higher cX13_higher 6 ((Option.some Jvm.ClassFile.FieldType.int))) (rmk 1 0 0) (va_Pc [.ref ra, .int (nI c9), .int (nI a), .int (nI b)] (PB s0 D CL (h))) (QR s0 D CL (fun v h1 => v = some (.int (if a = b then nI 0 else if htN 2 np c9 a = htN 2 np c9 b then alI 2 else if htN 2 np c9 a < htN 2 np c9 b then nI 1 else nI 2)) ∧ h1 = h)) 0 0 (zA s0) := by
  refine hp_met (by decide) (Nat.le_of_ble_eq_true rfl) hK0 ?_
  intro p e s m below meth cd ls hx hb hr hlocks hml hown hnm hts hK hPB hl hS hH hA
  have hl : lv_has ls 6 [(0, .ref ra), (1, .int (nI c9)), (2, .int (nI a)), (3, .int (nI b))] := hl
  have hown : s.vm.findClass RX13 = some m.cls := hown
  have hma := Nat.mod_lt (a + c9) (show np > 0 by omega)
  have hmb := Nat.mod_lt (b + c9) (show np > 0 by omega)
  refine lv_iload_n hx hb dX13_higher_0 rfl (lv_at hl 2 rfl) ?_
  refine lv_iload_n hx hb dX13_higher_1 rfl (lv_at hl 3 rfl) ?_
  refine lvN_ne (tgt := 7) hx hb (by first | omega | (refine Nat.lt_of_lt_of_le (Nat.mod_lt _ ?_) ?_ <;> omega)) (by first | omega | (refine Nat.lt_of_lt_of_le (Nat.mod_lt _ ?_) ?_ <;> omega)) dX13_higher_2 (by decide) (fun c0 => ?_) (fun c0 => ?_)
  · refine lv_aload_n hx hb dX13_higher_7 rfl (lv_at hl 0 rfl) ?_
    refine lv_iload_n hx hb dX13_higher_8 rfl (lv_at hl 1 rfl) ?_
    refine lv_iload_n hx hb dX13_higher_9 rfl (lv_at hl 2 rfl) ?_
    refine hp_callU (As := [.int (nI c9), .int (nI a)]) (rest := []) (owner := "FirstIn$Room") (x := ⟨"FirstIn$Room", "height", "(II)I"⟩) hx hb hml hown hts hPB hK hH hS (mc_ht_X16 hK0 (a := a) (b := b) he hnp hc9 ha hb0) he rfl rfl 2 (va_cwA 2 hts (lw_U q954 q956 q960 q961 q134 q962) rfl rfl rfl (hG.nd hPB q955) (by decide +kernel) (by decide)) rfl hl.1 rfl (Nat.le_of_ble_eq_true rfl) (by decide) dX13_higher_10 (fun v1 h3 H locs hp2 _ hH hS => ?_)
    obtain ⟨rfl, hq⟩ := hp2
    rw [hq] at hH
    refine lv_istore (lv' := [(4, .int (nI 0)), (0, .ref ra), (1, .int (nI c9)), (2, .int (nI a)), (3, .int (nI b))]) hx hb dX13_higher_13 hl (by decide) rfl (fun ls hl => ?_)
    refine lv_aload_n hx hb dX13_higher_15 rfl (lv_at hl 1 rfl) ?_
    refine lv_iload_n hx hb dX13_higher_16 rfl (lv_at hl 2 rfl) ?_
    refine lv_iload_n hx hb dX13_higher_17 rfl (lv_at hl 4 rfl) ?_
    refine hp_callU (As := [.int (nI c9), .int (nI b)]) (rest := []) (owner := "FirstIn$Room") (x := ⟨"FirstIn$Room", "height", "(II)I"⟩) hx hb hml hown hts hPB hK hH hS (mc_ht_X16 hK0 (a := b) (b := a) he hnp hc9 hb0 ha) he rfl rfl 2 (va_cwA 2 hts (lw_U q954 q956 q960 q961 q134 q962) rfl rfl rfl (hG.nd hPB q955) (by decide +kernel) (by decide)) rfl hl.1 rfl (Nat.le_of_ble_eq_true rfl) (by decide) dX13_higher_18 (fun v4 h6 H locs hp5 _ hH hS => ?_)
    obtain ⟨rfl, hq⟩ := hp5
    rw [hq] at hH
    refine lv_istore (lv' := [(5, .int (nI 0)), (4, .int (nI 0)), (0, .ref ra), (1, .int (nI c9)), (2, .int (nI a)), (3, .int (nI b))]) hx hb dX13_higher_21 hl (by decide) rfl (fun ls hl => ?_)
    refine lv_iload hx hb dX13_higher_23 (lv_at hl 1 rfl) ?_
    refine lv_iload hx hb dX13_higher_25 (lv_at hl 0 rfl) ?_
    refine lvN_ne (tgt := 37) hx hb (by first | omega | (refine Nat.lt_of_lt_of_le (Nat.mod_lt _ ?_) ?_ <;> omega)) (by first | omega | (refine Nat.lt_of_lt_of_le (Nat.mod_lt _ ?_) ?_ <;> omega)) dX13_higher_27 (by decide) (fun c1 => ?_) (fun c1 => ?_)
    · refine lv_iload hx hb dX13_higher_37 (lv_at hl 1 rfl) ?_
      refine lv_iload hx hb dX13_higher_39 (lv_at hl 0 rfl) ?_
      refine lvN_ge (tgt := 48) hx hb (by first | omega | (refine Nat.lt_of_lt_of_le (Nat.mod_lt _ ?_) ?_ <;> omega)) (by first | omega | (refine Nat.lt_of_lt_of_le (Nat.mod_lt _ ?_) ?_ <;> omega)) dX13_higher_41 (by decide) (fun c2 => ?_) (fun c2 => ?_)
      · refine lv_iconst (v := nI 2) hx hb dX13_higher_48 (by decide) ?_
        exact hp_iret hx hb hr hlocks hH hS (by decide) (by decide) dX13_higher_49 (⟨congrArg some (congrArg Value.int (by rw [if_neg c0, if_neg (show ¬ htN 2 np c9 a = htN 2 np c9 b from c1), if_neg (show ¬ htN 2 np c9 a < htN 2 np c9 b from Nat.not_lt.mpr c2)])), rfl⟩)
      · refine lv_iconst (v := nI 1) hx hb dX13_higher_44 (by decide) ?_
        refine lv_goto (tgt := 49) hx hb dX13_higher_45 (by decide) ?_
        exact hp_iret hx hb hr hlocks hH hS (by decide) (by decide) dX13_higher_49 (⟨congrArg some (congrArg Value.int (by rw [if_neg c0, if_neg (show ¬ htN 2 np c9 a = htN 2 np c9 b from c1), if_pos (show htN 2 np c9 a < htN 2 np c9 b from c2)])), rfl⟩)
    · refine lv_aload_n hx hb dX13_higher_30 rfl (lv_at hl 2 rfl) ?_
      refine hp_callU (As := []) (rest := []) (owner := "FirstIn$Room") (x := ⟨"FirstIn$Room", "alike", "()I"⟩) hx hb hml hown hts hPB hK hH hS (mc_al_X16 hK0 he hnp hc9 ha hb0) he rfl rfl 0 (va_cwO 0 hts (lw_O q970 q972 q971 q976 q977 q134 q978) rfl rfl rfl q984 (by decide +kernel) (by decide)) rfl hl.1 rfl (Nat.le_of_ble_eq_true rfl) (by decide) dX13_higher_31 (fun v7 h9 H locs hp8 _ hH hS => ?_)
      obtain ⟨rfl, hq⟩ := hp8
      rw [hq] at hH
      refine lv_goto (tgt := 49) hx hb dX13_higher_34 (by decide) ?_
      exact hp_iret hx hb hr hlocks hH hS (by decide) (by decide) dX13_higher_49 (⟨congrArg some (congrArg Value.int (by rw [if_neg c0, if_pos (show htN 2 np c9 a = htN 2 np c9 b from c1)]; rfl)), rfl⟩)
  · refine lv_iconst (v := nI 0) hx hb dX13_higher_5 (by decide) ?_
    exact hp_iret hx hb hr hlocks hH hS (by decide) (by decide) dX13_higher_6 (⟨congrArg some (congrArg Value.int (by rw [if_pos c0])), rfl⟩)
set_option maxHeartbeats 4000000 in
theorem mc_hi_X17 (hK0 : va_K D CL (TYS K) s0) {av : Nat → Nat} {ed mi : Nat} (hG : GX s0 wd av ed mi) {ra t np c9 a b : Nat} (he : h ra = some (.inr (13, [.int (nI np)]), t)) (hnp : 1 ≤ np ∧ np ≤ 10) (hc9 : c9 < 10) (ha : a < np) (hb0 : b < np) : Met l yX13_higher (ws_ yX13_higher cX13_higher 6 ((Option.some Jvm.ClassFile.FieldType.int))) (rmk 1 0 0) (va_Pc [.ref ra, .int (nI c9), .int (nI a), .int (nI b)] (PB s0 D CL (h))) (QR s0 D CL (fun v h1 => v = some (.int (if a = b then nI 0 else if htN 3 np c9 a = htN 3 np c9 b then alI 3 else if htN 3 np c9 a < htN 3 np c9 b then nI 1 else nI 2)) ∧ h1 = h)) 0 0 (zA s0) := by
  refine hp_met (by decide) (Nat.le_of_ble_eq_true rfl) hK0 ?_
  intro p e s m below meth cd ls hx hb hr hlocks hml hown hnm hts hK hPB hl hS hH hA
  have hl : lv_has ls 6 [(0, .ref ra), (1, .int (nI c9)), (2, .int (nI a)), (3, .int (nI b))] := hl
  have hown : s.vm.findClass RX13 = some m.cls := hown
  have hma := Nat.mod_lt (a + c9) (show np > 0 by omega)
  have hmb := Nat.mod_lt (b + c9) (show np > 0 by omega)
  refine lv_iload_n hx hb dX13_higher_0 rfl (lv_at hl 2 rfl) ?_
  refine lv_iload_n hx hb dX13_higher_1 rfl (lv_at hl 3 rfl) ?_
  refine lvN_ne (tgt := 7) hx hb (by first | omega | (refine Nat.lt_of_lt_of_le (Nat.mod_lt _ ?_) ?_ <;> omega)) (by first | omega | (refine Nat.lt_of_lt_of_le (Nat.mod_lt _ ?_) ?_ <;> omega)) dX13_higher_2 (by decide) (fun c0 => ?_) (fun c0 => ?_)
  · refine lv_aload_n hx hb dX13_higher_7 rfl (lv_at hl 0 rfl) ?_
    refine lv_iload_n hx hb dX13_higher_8 rfl (lv_at hl 1 rfl) ?_
    refine lv_iload_n hx hb dX13_higher_9 rfl (lv_at hl 2 rfl) ?_
    refine hp_callU (As := [.int (nI c9), .int (nI a)]) (rest := []) (owner := "FirstIn$Room") (x := ⟨"FirstIn$Room", "height", "(II)I"⟩) hx hb hml hown hts hPB hK hH hS (mc_ht_X17 hK0 (a := a) (b := b) he hnp hc9 ha hb0) he rfl rfl 2 (va_cwA 2 hts (lw_U q954 q956 q957 q958 q133 q959) rfl rfl rfl (hG.nd hPB q955) (by decide +kernel) (by decide)) rfl hl.1 rfl (Nat.le_of_ble_eq_true rfl) (by decide) dX13_higher_10 (fun v1 h3 H locs hp2 _ hH hS => ?_)
    obtain ⟨rfl, hq⟩ := hp2
    rw [hq] at hH
    refine lv_istore (lv' := [(4, .int (nI (a / 2))), (0, .ref ra), (1, .int (nI c9)), (2, .int (nI a)), (3, .int (nI b))]) hx hb dX13_higher_13 hl (by decide) rfl (fun ls hl => ?_)
    refine lv_aload_n hx hb dX13_higher_15 rfl (lv_at hl 1 rfl) ?_
    refine lv_iload_n hx hb dX13_higher_16 rfl (lv_at hl 2 rfl) ?_
    refine lv_iload_n hx hb dX13_higher_17 rfl (lv_at hl 4 rfl) ?_
    refine hp_callU (As := [.int (nI c9), .int (nI b)]) (rest := []) (owner := "FirstIn$Room") (x := ⟨"FirstIn$Room", "height", "(II)I"⟩) hx hb hml hown hts hPB hK hH hS (mc_ht_X17 hK0 (a := b) (b := a) he hnp hc9 hb0 ha) he rfl rfl 2 (va_cwA 2 hts (lw_U q954 q956 q957 q958 q133 q959) rfl rfl rfl (hG.nd hPB q955) (by decide +kernel) (by decide)) rfl hl.1 rfl (Nat.le_of_ble_eq_true rfl) (by decide) dX13_higher_18 (fun v4 h6 H locs hp5 _ hH hS => ?_)
    obtain ⟨rfl, hq⟩ := hp5
    rw [hq] at hH
    refine lv_istore (lv' := [(5, .int (nI (b / 2))), (4, .int (nI (a / 2))), (0, .ref ra), (1, .int (nI c9)), (2, .int (nI a)), (3, .int (nI b))]) hx hb dX13_higher_21 hl (by decide) rfl (fun ls hl => ?_)
    refine lv_iload hx hb dX13_higher_23 (lv_at hl 1 rfl) ?_
    refine lv_iload hx hb dX13_higher_25 (lv_at hl 0 rfl) ?_
    refine lvN_ne (tgt := 37) hx hb (by first | omega | (refine Nat.lt_of_lt_of_le (Nat.mod_lt _ ?_) ?_ <;> omega)) (by first | omega | (refine Nat.lt_of_lt_of_le (Nat.mod_lt _ ?_) ?_ <;> omega)) dX13_higher_27 (by decide) (fun c1 => ?_) (fun c1 => ?_)
    · refine lv_iload hx hb dX13_higher_37 (lv_at hl 1 rfl) ?_
      refine lv_iload hx hb dX13_higher_39 (lv_at hl 0 rfl) ?_
      refine lvN_ge (tgt := 48) hx hb (by first | omega | (refine Nat.lt_of_lt_of_le (Nat.mod_lt _ ?_) ?_ <;> omega)) (by first | omega | (refine Nat.lt_of_lt_of_le (Nat.mod_lt _ ?_) ?_ <;> omega)) dX13_higher_41 (by decide) (fun c2 => ?_) (fun c2 => ?_)
      · refine lv_iconst (v := nI 2) hx hb dX13_higher_48 (by decide) ?_
        exact hp_iret hx hb hr hlocks hH hS (by decide) (by decide) dX13_higher_49 (⟨congrArg some (congrArg Value.int (by rw [if_neg c0, if_neg (show ¬ htN 3 np c9 a = htN 3 np c9 b from c1), if_neg (show ¬ htN 3 np c9 a < htN 3 np c9 b from Nat.not_lt.mpr c2)])), rfl⟩)
      · refine lv_iconst (v := nI 1) hx hb dX13_higher_44 (by decide) ?_
        refine lv_goto (tgt := 49) hx hb dX13_higher_45 (by decide) ?_
        exact hp_iret hx hb hr hlocks hH hS (by decide) (by decide) dX13_higher_49 (⟨congrArg some (congrArg Value.int (by rw [if_neg c0, if_neg (show ¬ htN 3 np c9 a = htN 3 np c9 b from c1), if_pos (show htN 3 np c9 a < htN 3 np c9 b from c2)])), rfl⟩)
    · refine lv_aload_n hx hb dX13_higher_30 rfl (lv_at hl 2 rfl) ?_
      refine hp_callU (As := []) (rest := []) (owner := "FirstIn$Room") (x := ⟨"FirstIn$Room", "alike", "()I"⟩) hx hb hml hown hts hPB hK hH hS (mc_al_X17 hK0 he hnp hc9 ha hb0) he rfl rfl 0 (va_cwO 0 hts (lw_O q970 q972 q971 q973 q974 q135 q975) rfl rfl rfl q984 (by decide +kernel) (by decide)) rfl hl.1 rfl (Nat.le_of_ble_eq_true rfl) (by decide) dX13_higher_31 (fun v7 h9 H locs hp8 _ hH hS => ?_)
      obtain ⟨rfl, hq⟩ := hp8
      rw [hq] at hH
      refine lv_goto (tgt := 49) hx hb dX13_higher_34 (by decide) ?_
      exact hp_iret hx hb hr hlocks hH hS (by decide) (by decide) dX13_higher_49 (⟨congrArg some (congrArg Value.int (by rw [if_neg c0, if_pos (show htN 3 np c9 a = htN 3 np c9 b from c1)]; rfl)), rfl⟩)
  · refine lv_iconst (v := nI 0) hx hb dX13_higher_5 (by decide) ?_
    exact hp_iret hx hb hr hlocks hH hS (by decide) (by decide) dX13_higher_6 (⟨congrArg some (congrArg Value.int (by rw [if_pos c0])), rfl⟩)
set_option maxHeartbeats 4000000 in
theorem mc_hi_X18 (hK0 : va_K D CL (TYS K) s0) {av : Nat → Nat} {ed mi : Nat} (hG : GX s0 wd av ed mi) {ra t np c9 a b : Nat} (he : h ra = some (.inr (14, [.int (nI np)]), t)) (hnp : 1 ≤ np ∧ np ≤ 10) (hc9 : c9 < 10) (ha : a < np) (hb0 : b < np) : Met l yX13_higher (ws_ yX13_higher cX13_higher 6 ((Option.some Jvm.ClassFile.FieldType.int))) (rmk 1 0 0) (va_Pc [.ref ra, .int (nI c9), .int (nI a), .int (nI b)] (PB s0 D CL (h))) (QR s0 D CL (fun v h1 => v = some (.int (if a = b then nI 0 else if htN 4 np c9 a = htN 4 np c9 b then alI 4 else if htN 4 np c9 a < htN 4 np c9 b then nI 1 else nI 2)) ∧ h1 = h)) 0 0 (zA s0) := by
  refine hp_met (by decide) (Nat.le_of_ble_eq_true rfl) hK0 ?_
  intro p e s m below meth cd ls hx hb hr hlocks hml hown hnm hts hK hPB hl hS hH hA
  have hl : lv_has ls 6 [(0, .ref ra), (1, .int (nI c9)), (2, .int (nI a)), (3, .int (nI b))] := hl
  have hown : s.vm.findClass RX13 = some m.cls := hown
  have hma := Nat.mod_lt (a + c9) (show np > 0 by omega)
  have hmb := Nat.mod_lt (b + c9) (show np > 0 by omega)
  refine lv_iload_n hx hb dX13_higher_0 rfl (lv_at hl 2 rfl) ?_
  refine lv_iload_n hx hb dX13_higher_1 rfl (lv_at hl 3 rfl) ?_
  refine lvN_ne (tgt := 7) hx hb (by first | omega | (refine Nat.lt_of_lt_of_le (Nat.mod_lt _ ?_) ?_ <;> omega)) (by first | omega | (refine Nat.lt_of_lt_of_le (Nat.mod_lt _ ?_) ?_ <;> omega)) dX13_higher_2 (by decide) (fun c0 => ?_) (fun c0 => ?_)
  · refine lv_aload_n hx hb dX13_higher_7 rfl (lv_at hl 0 rfl) ?_
    refine lv_iload_n hx hb dX13_higher_8 rfl (lv_at hl 1 rfl) ?_
    refine lv_iload_n hx hb dX13_higher_9 rfl (lv_at hl 2 rfl) ?_
    refine hp_callU (As := [.int (nI c9), .int (nI a)]) (rest := []) (owner := "FirstIn$Room") (x := ⟨"FirstIn$Room", "height", "(II)I"⟩) hx hb hml hown hts hPB hK hH hS (mc_ht_X18 hK0 (a := a) (b := b) he hnp hc9 ha hb0) he rfl rfl 2 (va_cwA 2 hts (lw_U q954 q956 q967 q968 q136 q969) rfl rfl rfl (hG.nd hPB q955) (by decide +kernel) (by decide)) rfl hl.1 rfl (Nat.le_of_ble_eq_true rfl) (by decide) dX13_higher_10 (fun v1 h3 H locs hp2 _ hH hS => ?_)
    obtain ⟨rfl, hq⟩ := hp2
    rw [hq] at hH
    refine lv_istore (lv' := [(4, .int (nI ((a + c9) % np))), (0, .ref ra), (1, .int (nI c9)), (2, .int (nI a)), (3, .int (nI b))]) hx hb dX13_higher_13 hl (by decide) rfl (fun ls hl => ?_)
    refine lv_aload_n hx hb dX13_higher_15 rfl (lv_at hl 1 rfl) ?_
    refine lv_iload_n hx hb dX13_higher_16 rfl (lv_at hl 2 rfl) ?_
    refine lv_iload_n hx hb dX13_higher_17 rfl (lv_at hl 4 rfl) ?_
    refine hp_callU (As := [.int (nI c9), .int (nI b)]) (rest := []) (owner := "FirstIn$Room") (x := ⟨"FirstIn$Room", "height", "(II)I"⟩) hx hb hml hown hts hPB hK hH hS (mc_ht_X18 hK0 (a := b) (b := a) he hnp hc9 hb0 ha) he rfl rfl 2 (va_cwA 2 hts (lw_U q954 q956 q967 q968 q136 q969) rfl rfl rfl (hG.nd hPB q955) (by decide +kernel) (by decide)) rfl hl.1 rfl (Nat.le_of_ble_eq_true rfl) (by decide) dX13_higher_18 (fun v4 h6 H locs hp5 _ hH hS => ?_)
    obtain ⟨rfl, hq⟩ := hp5
    rw [hq] at hH
    refine lv_istore (lv' := [(5, .int (nI ((b + c9) % np))), (4, .int (nI ((a + c9) % np))), (0, .ref ra), (1, .int (nI c9)), (2, .int (nI a)), (3, .int (nI b))]) hx hb dX13_higher_21 hl (by decide) rfl (fun ls hl => ?_)
    refine lv_iload hx hb dX13_higher_23 (lv_at hl 1 rfl) ?_
    refine lv_iload hx hb dX13_higher_25 (lv_at hl 0 rfl) ?_
    refine lvN_ne (tgt := 37) hx hb (by first | omega | (refine Nat.lt_of_lt_of_le (Nat.mod_lt _ ?_) ?_ <;> omega)) (by first | omega | (refine Nat.lt_of_lt_of_le (Nat.mod_lt _ ?_) ?_ <;> omega)) dX13_higher_27 (by decide) (fun c1 => ?_) (fun c1 => ?_)
    · refine lv_iload hx hb dX13_higher_37 (lv_at hl 1 rfl) ?_
      refine lv_iload hx hb dX13_higher_39 (lv_at hl 0 rfl) ?_
      refine lvN_ge (tgt := 48) hx hb (by first | omega | (refine Nat.lt_of_lt_of_le (Nat.mod_lt _ ?_) ?_ <;> omega)) (by first | omega | (refine Nat.lt_of_lt_of_le (Nat.mod_lt _ ?_) ?_ <;> omega)) dX13_higher_41 (by decide) (fun c2 => ?_) (fun c2 => ?_)
      · refine lv_iconst (v := nI 2) hx hb dX13_higher_48 (by decide) ?_
        exact hp_iret hx hb hr hlocks hH hS (by decide) (by decide) dX13_higher_49 (⟨congrArg some (congrArg Value.int (by rw [if_neg c0, if_neg (show ¬ htN 4 np c9 a = htN 4 np c9 b from c1), if_neg (show ¬ htN 4 np c9 a < htN 4 np c9 b from Nat.not_lt.mpr c2)])), rfl⟩)
      · refine lv_iconst (v := nI 1) hx hb dX13_higher_44 (by decide) ?_
        refine lv_goto (tgt := 49) hx hb dX13_higher_45 (by decide) ?_
        exact hp_iret hx hb hr hlocks hH hS (by decide) (by decide) dX13_higher_49 (⟨congrArg some (congrArg Value.int (by rw [if_neg c0, if_neg (show ¬ htN 4 np c9 a = htN 4 np c9 b from c1), if_pos (show htN 4 np c9 a < htN 4 np c9 b from c2)])), rfl⟩)
    · refine lv_aload_n hx hb dX13_higher_30 rfl (lv_at hl 2 rfl) ?_
      refine hp_callU (As := []) (rest := []) (owner := "FirstIn$Room") (x := ⟨"FirstIn$Room", "alike", "()I"⟩) hx hb hml hown hts hPB hK hH hS (mc_al_X18 hK0 he hnp hc9 ha hb0) he rfl rfl 0 (va_cwU 0 hts (lw_U q970 q972 q983 q971 q131 q984) rfl rfl rfl rfl (by decide +kernel) (by decide)) rfl hl.1 rfl (Nat.le_of_ble_eq_true rfl) (by decide) dX13_higher_31 (fun v7 h9 H locs hp8 _ hH hS => ?_)
      obtain ⟨rfl, hq⟩ := hp8
      rw [hq] at hH
      refine lv_goto (tgt := 49) hx hb dX13_higher_34 (by decide) ?_
      exact hp_iret hx hb hr hlocks hH hS (by decide) (by decide) dX13_higher_49 (⟨congrArg some (congrArg Value.int (by rw [if_neg c0, if_pos (show htN 4 np c9 a = htN 4 np c9 b from c1)]; rfl)), rfl⟩)
  · refine lv_iconst (v := nI 0) hx hb dX13_higher_5 (by decide) ?_
    exact hp_iret hx hb hr hlocks hH hS (by decide) (by decide) dX13_higher_6 (⟨congrArg some (congrArg Value.int (by rw [if_pos c0])), rfl⟩)
end MODEL
