/-! by gen/mspec.py -/
set_option maxRecDepth 100000
section MODEL
variable {l : Launch} {s0 : State} {D : va_G} {K : Nat → ClassId} {wd : Nat → Nat} {o : Nat} {h : Hp} {I : Nat → Int32} {V : Nat → Nat → Int32} {J : Nat → Nat → Int64}
set_option maxHeartbeats 4000000 in
theorem mj_coder (hK0 : va_K D CL (TYS K) s0) {av : Nat → Nat} (hX : OX wd av (zA s0) s0 s0.heap) {i : Nat} (hi : i < 10) : Met l yJ6_coder (ws_ yJ6_coder cJ6_coder 1 ((Option.some Jvm.ClassFile.FieldType.byte))) (rmk 0 0 0) (va_Pc [.ref (wd i)] (PB s0 D CL (h))) (QR s0 D CL (fun v h1 => v = some (.int (nI 0)) ∧ h1 = h)) 0 0 (zA s0) := by
  refine hp_met (by decide) (Nat.le_of_ble_eq_true rfl) hK0 ?_
  intro p e s m below meth cd ls hx hb hr hlocks hml hown hnm hts hK hPB hl hS hH hA
  have hl : lv_has ls 1 [(0, .ref (wd i))] := hl
  have hown : s.vm.findClass RJ6 = some m.cls := hown
  have hG := hX.at hPB
  have hwb := w_bytes i hi
  refine va_gets hx hb hG.1 hS hown (hts _ q383) (fun _ z => z) dJ6_coder_0 ?_
  refine lvB_eq (tgt := 13) hx hb dJ6_coder_3 (by decide) (fun cq => ?_) (fun cq => ?_)
  · cases cq
  · refine lv_aload_n hx hb dJ6_coder_6 rfl (lv_at hl 0 rfl) ?_
    refine vk_getf (v := .int (nI 0)) hx hb (hG.cd hi) hS hown (hts _ q2042) (fun _ z => z) dJ6_coder_7 ?_
    refine lv_goto (tgt := 14) hx hb dJ6_coder_10 (by decide) ?_
    exact hp_zret hx hb hr rfl hlocks hH hS (by decide) (by decide) dJ6_coder_14 (⟨rfl, rfl⟩)
set_option maxHeartbeats 4000000 in
theorem mj_isLatin1 (hK0 : va_K D CL (TYS K) s0) {av : Nat → Nat} (hX : OX wd av (zA s0) s0 s0.heap) {i : Nat} (hi : i < 10) : Met l yJ6_isLatin1 (ws_ yJ6_isLatin1 cJ6_isLatin1 1 ((Option.some Jvm.ClassFile.FieldType.boolean))) (rmk 0 0 0) (va_Pc [.ref (wd i)] (PB s0 D CL (h))) (QR s0 D CL (fun v h1 => v = some (.int (nI 1)) ∧ h1 = h)) 0 0 (zA s0) := by
  refine hp_met (by decide) (Nat.le_of_ble_eq_true rfl) hK0 ?_
  intro p e s m below meth cd ls hx hb hr hlocks hml hown hnm hts hK hPB hl hS hH hA
  have hl : lv_has ls 1 [(0, .ref (wd i))] := hl
  have hown : s.vm.findClass RJ6 = some m.cls := hown
  have hG := hX.at hPB
  have hwb := w_bytes i hi
  refine va_gets hx hb hG.1 hS hown (hts _ q383) (fun _ z => z) dJ6_isLatin1_0 ?_
  refine lvB_eq (tgt := 17) hx hb dJ6_isLatin1_3 (by decide) (fun cq => ?_) (fun cq => ?_)
  · cases cq
  · refine lv_aload_n hx hb dJ6_isLatin1_6 rfl (lv_at hl 0 rfl) ?_
    refine vk_getf (v := .int (nI 0)) hx hb (hG.cd hi) hS hown (hts _ q2042) (fun _ z => z) dJ6_isLatin1_7 ?_
    refine lv_if_ne (tgt := 17) hx hb dJ6_isLatin1_10 (by decide) (fun c1 => ?_) (fun c1 => ?_)
    · exact absurd c1 (by decide)
    · refine lv_iconst (v := nI 1) hx hb dJ6_isLatin1_13 (by decide) ?_
      refine lv_goto (tgt := 18) hx hb dJ6_isLatin1_14 (by decide) ?_
      exact hp_zret hx hb hr rfl hlocks hH hS (by decide) (by decide) dJ6_isLatin1_18 (⟨rfl, rfl⟩)
set_option maxHeartbeats 4000000 in
theorem mj_length (hK0 : va_K D CL (TYS K) s0) {av : Nat → Nat} (hX : OX wd av (zA s0) s0 s0.heap) {i : Nat} (hi : i < 10) : Met l yJ6_length (ws_ yJ6_length cJ6_length 1 ((Option.some Jvm.ClassFile.FieldType.int))) (rmk 1 0 0) (va_Pc [.ref (wd i)] (PB s0 D CL (h))) (QR s0 D CL (fun v h1 => v = some (.int (nI (WLEN.getD i 0))) ∧ h1 = h)) 0 0 (zA s0) := by
  refine hp_met (by decide) (Nat.le_of_ble_eq_true rfl) hK0 ?_
  intro p e s m below meth cd ls hx hb hr hlocks hml hown hnm hts hK hPB hl hS hH hA
  have hl : lv_has ls 1 [(0, .ref (wd i))] := hl
  have hown : s.vm.findClass RJ6 = some m.cls := hown
  have hG := hX.at hPB
  have hwb := w_bytes i hi
  refine lv_aload_n hx hb dJ6_length_0 rfl (lv_at hl 0 rfl) ?_
  refine vk_getf (v := .ref (av i)) hx hb (hG.vl hi) hS hown (hts _ q2041) (fun _ z => z) dJ6_length_1 ?_
  refine va_tlen (v := nI (WLEN.getD i 0)) hx hb (hG.ar hi) hS rfl dJ6_length_4 ?_
  refine lv_aload_n hx hb dJ6_length_5 rfl (lv_at hl 0 rfl) ?_
  refine hp_callO (As := []) (rest := [.int (nI (WLEN.getD i 0))]) hx hb hml hown hts hPB hH hS (mj_coder hK0 hX hi) (vk_recv hG.2.2 hi hS) 0 (lw_V q379 q380 q381 q112 q382) (by decide +kernel) ⟨rfl, rfl⟩ (by decide) rfl hl.1 rfl (Nat.le_of_ble_eq_true rfl) (by decide) dJ6_length_6 (fun v1 h3 H locs hp2 _ hH hS => ?_)
  obtain ⟨rfl, hq⟩ := hp2
  rw [hq] at hH
  refine lv_ishr hx hb dJ6_length_9 ?_
  refine lv_top (y := nI (WLEN.getD i 0)) ((bi_shr (by omega) (by decide)).trans (congrArg nI (Nat.div_one _))) ?_
  exact hp_iret hx hb hr hlocks hH hS (by decide) (by decide) dJ6_length_10 (⟨rfl, rfl⟩)
set_option maxHeartbeats 4000000 in
theorem mj_chkN (hK0 : va_K D CL (TYS K) s0) {k n tf : Nat} (hk : k < n) (hn0 : n < 2 ^ 31) : Met l yJ10_checkIndex (ws_ yJ10_checkIndex cJ10_checkIndex 3 ((Option.some Jvm.ClassFile.FieldType.int))) (rmk 0 0 0) (va_Pc [.int (nI k), .int (nI n), .null] (PB s0 D CL (h))) (QR s0 D CL (fun v h1 => v = some (.int (nI k)) ∧ h1 = h)) 0 0 (zA s0) := by
  refine hp_met (by decide) (Nat.le_of_ble_eq_true rfl) hK0 ?_
  intro p e s m below meth cd ls hx hb hr hlocks hml hown hnm hts hK hPB hl hS hH hA
  have hl : lv_has ls 3 [(0, .int (nI k)), (1, .int (nI n)), (2, .null)] := hl
  have hown : s.vm.findClass RJ10 = some m.cls := hown
  refine lv_iload_n hx hb dJ10_checkIndex_0 rfl (lv_at hl 0 rfl) ?_
  refine lv_if_lt (tgt := 9) hx hb dJ10_checkIndex_1 (by decide) (fun c1 => ?_) (fun c1 => ?_)
  · exact absurd c1 (nI_pos (by omega))
  · refine lv_iload_n hx hb dJ10_checkIndex_4 rfl (lv_at hl 0 rfl) ?_
    refine lv_iload_n hx hb dJ10_checkIndex_5 rfl (lv_at hl 1 rfl) ?_
    refine lvN_lt (tgt := 16) hx hb (by first | omega | (refine Nat.lt_of_lt_of_le (Nat.mod_lt _ ?_) ?_ <;> omega)) (by first | omega | (refine Nat.lt_of_lt_of_le (Nat.mod_lt _ ?_) ?_ <;> omega)) dJ10_checkIndex_6 (by decide) (fun c2 => ?_) (fun c2 => ?_)
    · refine lv_iload_n hx hb dJ10_checkIndex_16 rfl (lv_at hl 0 rfl) ?_
      exact hp_iret hx hb hr hlocks hH hS (by decide) (by decide) dJ10_checkIndex_17 (⟨rfl, rfl⟩)
    · exact absurd c2 (by omega)
set_option maxHeartbeats 4000000 in
theorem mj_chkR (hK0 : va_K D CL (TYS K) s0) {k n tf : Nat} (hk : k < n) (hn0 : n < 2 ^ 31) : Met l yJ10_checkIndex (ws_ yJ10_checkIndex cJ10_checkIndex 3 ((Option.some Jvm.ClassFile.FieldType.int))) (rmk 0 0 0) (va_Pc [.int (nI k), .int (nI n), .ref tf] (PB s0 D CL (h))) (QR s0 D CL (fun v h1 => v = some (.int (nI k)) ∧ h1 = h)) 0 0 (zA s0) := by
  refine hp_met (by decide) (Nat.le_of_ble_eq_true rfl) hK0 ?_
  intro p e s m below meth cd ls hx hb hr hlocks hml hown hnm hts hK hPB hl hS hH hA
  have hl : lv_has ls 3 [(0, .int (nI k)), (1, .int (nI n)), (2, .ref tf)] := hl
  have hown : s.vm.findClass RJ10 = some m.cls := hown
  refine lv_iload_n hx hb dJ10_checkIndex_0 rfl (lv_at hl 0 rfl) ?_
  refine lv_if_lt (tgt := 9) hx hb dJ10_checkIndex_1 (by decide) (fun c1 => ?_) (fun c1 => ?_)
  · exact absurd c1 (nI_pos (by omega))
  · refine lv_iload_n hx hb dJ10_checkIndex_4 rfl (lv_at hl 0 rfl) ?_
    refine lv_iload_n hx hb dJ10_checkIndex_5 rfl (lv_at hl 1 rfl) ?_
    refine lvN_lt (tgt := 16) hx hb (by first | omega | (refine Nat.lt_of_lt_of_le (Nat.mod_lt _ ?_) ?_ <;> omega)) (by first | omega | (refine Nat.lt_of_lt_of_le (Nat.mod_lt _ ?_) ?_ <;> omega)) dJ10_checkIndex_6 (by decide) (fun c2 => ?_) (fun c2 => ?_)
    · refine lv_iload_n hx hb dJ10_checkIndex_16 rfl (lv_at hl 0 rfl) ?_
      exact hp_iret hx hb hr hlocks hH hS (by decide) (by decide) dJ10_checkIndex_17 (⟨rfl, rfl⟩)
    · exact absurd c2 (by omega)
set_option maxHeartbeats 4000000 in
theorem mj_sckN (hK0 : va_K D CL (TYS K) s0) {k n tf : Nat} (hk : k < n) (hn0 : n < 2 ^ 31) (hf0 : va_Z "jdk/internal/util/Preconditions" "SIOOBE_FORMATTER" "Ljava/util/function/BiFunction;" (.null) (zA s0) s0 s0.heap) : Met l yJ6_checkIndex (ws_ yJ6_checkIndex cJ6_checkIndex 2 ((Option.none : Option Jvm.ClassFile.FieldType))) (rmk 1 0 0) (va_Pc [.int (nI k), .int (nI n)] (PB s0 D CL (h))) (QR s0 D CL (fun v h1 => v = none ∧ h1 = h)) 0 0 (zA s0) := by
  refine hp_met (by decide) (Nat.le_of_ble_eq_true rfl) hK0 ?_
  intro p e s m below meth cd ls hx hb hr hlocks hml hown hnm hts hK hPB hl hS hH hA
  have hl : lv_has ls 2 [(0, .int (nI k)), (1, .int (nI n))] := hl
  have hown : s.vm.findClass RJ6 = some m.cls := hown
  have hf := (va_Z.moved hPB.1.alike hf0).kept (fun a h1 _ => hPB.2.2.1 a h1)
  refine lv_iload_n hx hb dJ6_checkIndex_0 rfl (lv_at hl 0 rfl) ?_
  refine lv_iload_n hx hb dJ6_checkIndex_1 rfl (lv_at hl 1 rfl) ?_
  refine va_gets hx hb hf hS hown (hts _ q435) (fun _ z => z) dJ6_checkIndex_2 ?_
  refine hp_callS (As := [.int (nI k), .int (nI n), .null]) (rest := []) hx hb hml hown hts hPB hH hS (mj_chkN hK0 (tf := 0) (k := k) (n := n) (by omega) (by omega)) 3 (lw_S q476 q477 q116 q478) (by decide +kernel) ⟨rfl, rfl⟩ (by decide) rfl hl.1 rfl (Nat.le_of_ble_eq_true rfl) (by decide) dJ6_checkIndex_5 (fun v1 h3 H locs hp2 _ hH hS => ?_)
  obtain ⟨rfl, hq⟩ := hp2
  rw [hq] at hH
  refine lv_pop hx hb dJ6_checkIndex_8 rfl ?_
  exact hp_vret hx hb hr hlocks hH hS (by decide) (by decide) dJ6_checkIndex_9 (⟨rfl, rfl⟩)
set_option maxHeartbeats 4000000 in
theorem mj_sckR (hK0 : va_K D CL (TYS K) s0) {k n tf : Nat} (hk : k < n) (hn0 : n < 2 ^ 31) (hf0 : va_Z "jdk/internal/util/Preconditions" "SIOOBE_FORMATTER" "Ljava/util/function/BiFunction;" (.ref tf) (zA s0) s0 s0.heap) : Met l yJ6_checkIndex (ws_ yJ6_checkIndex cJ6_checkIndex 2 ((Option.none : Option Jvm.ClassFile.FieldType))) (rmk 1 0 0) (va_Pc [.int (nI k), .int (nI n)] (PB s0 D CL (h))) (QR s0 D CL (fun v h1 => v = none ∧ h1 = h)) 0 0 (zA s0) := by
  refine hp_met (by decide) (Nat.le_of_ble_eq_true rfl) hK0 ?_
  intro p e s m below meth cd ls hx hb hr hlocks hml hown hnm hts hK hPB hl hS hH hA
  have hl : lv_has ls 2 [(0, .int (nI k)), (1, .int (nI n))] := hl
  have hown : s.vm.findClass RJ6 = some m.cls := hown
  have hf := (va_Z.moved hPB.1.alike hf0).kept (fun a h1 _ => hPB.2.2.1 a h1)
  refine lv_iload_n hx hb dJ6_checkIndex_0 rfl (lv_at hl 0 rfl) ?_
  refine lv_iload_n hx hb dJ6_checkIndex_1 rfl (lv_at hl 1 rfl) ?_
  refine va_gets hx hb hf hS hown (hts _ q435) (fun _ z => z) dJ6_checkIndex_2 ?_
  refine hp_callS (As := [.int (nI k), .int (nI n), .ref tf]) (rest := []) hx hb hml hown hts hPB hH hS (mj_chkR hK0 (tf := tf) (k := k) (n := n) (by omega) (by omega)) 3 (lw_S q476 q477 q116 q478) (by decide +kernel) ⟨rfl, rfl⟩ (by decide) rfl hl.1 rfl (Nat.le_of_ble_eq_true rfl) (by decide) dJ6_checkIndex_5 (fun v1 h3 H locs hp2 _ hH hS => ?_)
  obtain ⟨rfl, hq⟩ := hp2
  rw [hq] at hH
  refine lv_pop hx hb dJ6_checkIndex_8 rfl ?_
  exact hp_vret hx hb hr hlocks hH hS (by decide) (by decide) dJ6_checkIndex_9 (⟨rfl, rfl⟩)
theorem mj_sck (hK0 : va_K D CL (TYS K) s0) {av : Nat → Nat} (hX : OX wd av (zA s0) s0 s0.heap) {k n : Nat} (hk : k < n) (hn0 : n < 2 ^ 31) : Met l yJ6_checkIndex (ws_ yJ6_checkIndex cJ6_checkIndex 2 (none)) (rmk 1 0 0) (va_Pc [.int (nI k), .int (nI n)] (PB s0 D CL (h))) (QR s0 D CL (fun v h1 => v = none ∧ h1 = h)) 0 0 (zA s0) := by
  rcases hX.2.1 with hf | ⟨tf, hf⟩
  · exact mj_sckN (tf := 0) hK0 hk hn0 hf
  · exact mj_sckR hK0 hk hn0 hf
set_option maxHeartbeats 4000000 in
theorem mj_lchar (hK0 : va_K D CL (TYS K) s0) {av : Nat → Nat} (hX : OX wd av (zA s0) s0 s0.heap) {i : Nat} (hi : i < 10) {k : Nat} (hk : k < WLEN.getD i 0) : Met l yJ7_charAt (ws_ yJ7_charAt cJ7_charAt 2 ((Option.some Jvm.ClassFile.FieldType.char))) (rmk 2 0 0) (va_Pc [.ref (av i), .int (nI k)] (PB s0 D CL (h))) (QR s0 D CL (fun v h1 => v = some (.int ((WBYT.getD i []).getD k 0)) ∧ h1 = h)) 0 0 (zA s0) := by
  refine hp_met (by decide) (Nat.le_of_ble_eq_true rfl) hK0 ?_
  intro p e s m below meth cd ls hx hb hr hlocks hml hown hnm hts hK hPB hl hS hH hA
  have hl : lv_has ls 2 [(0, .ref (av i)), (1, .int (nI k))] := hl
  have hown : s.vm.findClass RJ7 = some m.cls := hown
  have hG := hX.at hPB
  have hwb := w_bytes i hi
  refine lv_iload_n hx hb dJ7_charAt_0 rfl (lv_at hl 1 rfl) ?_
  refine lv_aload_n hx hb dJ7_charAt_1 rfl (lv_at hl 0 rfl) ?_
  refine va_tlen (v := nI (WLEN.getD i 0)) hx hb (hG.ar hi) hS rfl dJ7_charAt_2 ?_
  refine hp_callS (As := [.int (nI k), .int (nI (WLEN.getD i 0))]) (rest := []) hx hb hml hown hts hPB hH hS (mj_sck hK0 hX (k := k) (n := WLEN.getD i 0) (by omega) (by omega)) 2 (lw_S q473 q474 q112 q475) (by decide +kernel) ⟨rfl, rfl⟩ (by decide) rfl hl.1 rfl (Nat.le_of_ble_eq_true rfl) (by decide) dJ7_charAt_3 (fun v1 h3 H locs hp2 _ hH hS => ?_)
  obtain ⟨rfl, hq⟩ := hp2
  rw [hq] at hH
  refine lv_aload_n hx hb dJ7_charAt_6 rfl (lv_at hl 0 rfl) ?_
  refine lv_iload_n hx hb dJ7_charAt_7 rfl (lv_at hl 1 rfl) ?_
  refine va_tb (v := .int ((WBYT.getD i []).getD k 0)) hx hb (hG.ar hi) hS (vp_in_nI (by first | omega | (refine Nat.lt_of_lt_of_le (Nat.mod_lt _ ?_) ?_ <;> omega)) (by first | omega | (refine Nat.lt_of_lt_of_le (Nat.mod_lt _ ?_) ?_ <;> omega))) (by rw [nI_clamp (by first | omega | (refine Nat.lt_of_lt_of_le (Nat.mod_lt _ ?_) ?_ <;> omega))]) dJ7_charAt_8 ?_
  refine lv_sipush (v := nI 255) hx hb dJ7_charAt_9 (by decide) ?_
  refine lv_iand hx hb dJ7_charAt_12 ?_
  refine lv_i2c (v := (WBYT.getD i []).getD k 0) hx hb dJ7_charAt_13 ((hwb.2.2 k (by omega)).1) ?_
  exact hp_zret hx hb hr (congrArg Value.int (hwb.2.2 k (by omega)).2) hlocks hH hS (by decide) (by decide) dJ7_charAt_14 (⟨rfl, rfl⟩)
set_option maxHeartbeats 4000000 in
theorem mj_charAt (hK0 : va_K D CL (TYS K) s0) {av : Nat → Nat} (hX : OX wd av (zA s0) s0 s0.heap) {i : Nat} (hi : i < 10) {k : Nat} (hk : k < WLEN.getD i 0) : Met l yJ6_charAt (ws_ yJ6_charAt cJ6_charAt 2 ((Option.some Jvm.ClassFile.FieldType.char))) (rmk 3 0 0) (va_Pc [.ref (wd i), .int (nI k)] (PB s0 D CL (h))) (QR s0 D CL (fun v h1 => v = some (.int ((WBYT.getD i []).getD k 0)) ∧ h1 = h)) 0 0 (zA s0) := by
  refine hp_met (by decide) (Nat.le_of_ble_eq_true rfl) hK0 ?_
  intro p e s m below meth cd ls hx hb hr hlocks hml hown hnm hts hK hPB hl hS hH hA
  have hl : lv_has ls 2 [(0, .ref (wd i)), (1, .int (nI k))] := hl
  have hown : s.vm.findClass RJ6 = some m.cls := hown
  have hG := hX.at hPB
  have hwb := w_bytes i hi
  refine lv_aload_n hx hb dJ6_charAt_0 rfl (lv_at hl 0 rfl) ?_
  refine hp_callO (As := []) (rest := []) hx hb hml hown hts hPB hH hS (mj_isLatin1 hK0 hX hi) (vk_recv hG.2.2 hi hS) 0 (lw_V q397 q398 q399 q112 q400) (by decide +kernel) ⟨rfl, rfl⟩ (by decide) rfl hl.1 rfl (Nat.le_of_ble_eq_true rfl) (by decide) dJ6_charAt_1 (fun v1 h3 H locs hp2 _ hH hS => ?_)
  obtain ⟨rfl, hq⟩ := hp2
  rw [hq] at hH
  refine lvZ_eq (tgt := 16) hx hb (by first | omega | (refine Nat.lt_of_lt_of_le (Nat.mod_lt _ ?_) ?_ <;> omega)) dJ6_charAt_4 (by decide) (fun c4 => ?_) (fun c4 => ?_)
  · exact absurd c4 (by decide)
  · refine lv_aload_n hx hb dJ6_charAt_7 rfl (lv_at hl 0 rfl) ?_
    refine vk_getf (v := .ref (av i)) hx hb (hG.vl hi) hS hown (hts _ q2041) (fun _ z => z) dJ6_charAt_8 ?_
    refine lv_iload_n hx hb dJ6_charAt_11 rfl (lv_at hl 1 rfl) ?_
    refine hp_callS (As := [.ref (av i), .int (nI k)]) (rest := []) hx hb hml hown hts hPB hH hS (mj_lchar hK0 hX hi (k := k) (by omega)) 2 (lw_S q470 q471 q113 q472) (by decide +kernel) ⟨rfl, rfl⟩ (by decide) rfl hl.1 rfl (Nat.le_of_ble_eq_true rfl) (by decide) dJ6_charAt_12 (fun v5 h7 H locs hp6 _ hH hS => ?_)
    obtain ⟨rfl, hq⟩ := hp6
    rw [hq] at hH
    exact hp_zret hx hb hr (congrArg Value.int (hwb.2.2 k (by omega)).2) hlocks hH hS (by decide) (by decide) dJ6_charAt_15 (⟨rfl, rfl⟩)
end MODEL
