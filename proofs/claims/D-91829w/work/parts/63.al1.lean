/-! by gen/mspec.py -/
set_option maxRecDepth 100000
section MODEL
variable {l : Launch} {s0 : State} {D : va_G} {K : Nat → ClassId} {wd : Nat → Nat} {o : Nat} {h : Hp} {I : Nat → Int32} {V : Nat → Nat → Int32} {J : Nat → Nat → Int64}
set_option maxHeartbeats 4000000 in
theorem mj_cinit (hK0 : va_K D CL (TYS K) s0) {a : Nat} : Met l yJ0_init (ws_ yJ0_init cJ0_init 1 ((Option.none : Option Jvm.ClassFile.FieldType))) (rmk 1 0 0) (va_Pc [.ref a] (PB s0 D CL (h))) (QR s0 D CL (fun v h1 => v = none ∧ h1 = h)) 0 0 (zA s0) := by
  refine hp_met (by decide) (Nat.le_of_ble_eq_true rfl) hK0 ?_
  intro p e s m below meth cd ls hx hb hr hlocks hml hown hnm hts hK hPB hl hS hH hA
  have hl : lv_has ls 1 [(0, .ref a)] := hl
  have hown : s.vm.findClass RJ0 = some m.cls := hown
  refine lv_aload_n hx hb dJ0_init_0 rfl (lv_at hl 0 rfl) ?_
  refine hp_oinit hx hb hown hts q169 q150 q151 (hl.1.trans hml.symm) (by decide) (Nat.le_of_ble_eq_true rfl) dJ0_init_1 ?_
  exact hp_vret hx hb hr hlocks hH hS (by decide) (by decide) dJ0_init_4 (⟨rfl, rfl⟩)
set_option maxHeartbeats 4000000 in
theorem mj_linit (hK0 : va_K D CL (TYS K) s0) {a t : Nat} (he : h a = some (.inr (20, [.int 0, .null, .int 0]), t)) : Met l yJ1_init (ws_ yJ1_init cJ1_init 1 ((Option.none : Option Jvm.ClassFile.FieldType))) (rmk 2 0 0) (va_Pc [.ref a] (PB s0 D CL (h))) (QR s0 D CL (fun v h1 => v = none ∧ h1 = hset h a (.inr (20, [.int 0, .null, .int 0])) t)) 0 0 (zA s0) := by
  refine hp_met (by decide) (Nat.le_of_ble_eq_true rfl) hK0 ?_
  intro p e s m below meth cd ls hx hb hr hlocks hml hown hnm hts hK hPB hl hS hH hA
  have hl : lv_has ls 1 [(0, .ref a)] := hl
  have hown : s.vm.findClass RJ1 = some m.cls := hown
  refine lv_aload_n hx hb dJ1_init_0 rfl (lv_at hl 0 rfl) ?_
  refine hp_callI (As := []) (rest := []) hx hb hml hown hts hPB hH hS (mj_cinit hK0) 0 q166 q167 q104 q168 rfl (by decide +kernel) ⟨rfl, rfl⟩ (by decide) rfl hl.1 rfl (Nat.le_of_ble_eq_true rfl) (by decide) dJ1_init_1 (fun v1 h3 H locs hp2 _ hH hS => ?_)
  obtain ⟨rfl, hq⟩ := hp2
  rw [hq] at hH
  refine lv_aload_n hx hb dJ1_init_4 rfl (lv_at hl 0 rfl) ?_
  refine lv_iconst (v := nI 0) hx hb dJ1_init_5 (by decide) ?_
  refine hp_put (C := RJ2) (T := TJ2) (N := 3) (v := .int (nI 0)) (ty := .int) hx hb hts in_J2 tyJ2 tyJ2_ok nmJ2 hown hK hH hS he rfl 0 (by decide) (hts _ q174) (fun _ z => z) rfl (by decide +kernel) rfl rfl (Nat.le_of_ble_eq_true rfl) dJ1_init_6 (fun H locs _ hH hS => ?_)
  have hH : HP D CL (zA s0) (hset h a (.inr (20, [.int (nI 0), .null, .int 0])) t) H := hH
  have e4 : (hset h a (.inr (20, [.int (nI 0), .null, .int 0])) t) a = some (.inr (20, [.int (nI 0), .null, .int 0]), t) := hset_self _ _ _ _
  exact hp_vret hx hb hr hlocks hH hS (by decide) (by decide) dJ1_init_9 (⟨rfl, rfl⟩)
set_option maxHeartbeats 4000000 in
theorem mj_ainit (hK0 : va_K D CL (TYS K) s0) {av : Nat → Nat} {ed mi : Nat} (hG : GX s0 wd av ed mi) {a t : Nat} (he : h a = some (.inr (20, [.int 0, .null, .int 0]), t)) : Met l yJ2_init (ws_ yJ2_init cJ2_init 1 ((Option.none : Option Jvm.ClassFile.FieldType))) (rmk 3 0 0) (va_Pc [.ref a] (PB s0 D CL (h))) (QR s0 D CL (fun v h1 => v = none ∧ h1 = hset h a (.inr (20, [.int 0, .ref ed, .int 0])) t)) 0 0 (zA s0) := by
  refine hp_met (by decide) (Nat.le_of_ble_eq_true rfl) hK0 ?_
  intro p e s m below meth cd ls hx hb hr hlocks hml hown hnm hts hK hPB hl hS hH hA
  have hl : lv_has ls 1 [(0, .ref a)] := hl
  have hown : s.vm.findClass RJ2 = some m.cls := hown
  refine lv_aload_n hx hb dJ2_init_0 rfl (lv_at hl 0 rfl) ?_
  refine hp_callI (As := []) (rest := []) hx hb hml hown hts hPB hH hS (mj_linit hK0 he) 0 q163 q164 q105 q165 rfl (by decide +kernel) ⟨rfl, rfl⟩ (by decide) rfl hl.1 rfl (Nat.le_of_ble_eq_true rfl) (by decide) dJ2_init_1 (fun v1 h3 H locs hp2 _ hH hS => ?_)
  obtain ⟨rfl, hq⟩ := hp2
  rw [hq] at hH
  have he2 : hset h a (.inr (20, [.int 0, .null, .int 0])) t a = some (.inr (20, [.int 0, .null, .int 0]), t) := hset_self _ _ _ _
  refine lv_aload_n hx hb dJ2_init_4 rfl (lv_at hl 0 rfl) ?_
  refine va_gets hx hb (hG.em hPB) hS hown (hts _ q170) (fun _ z => z) dJ2_init_5 ?_
  refine hp_put (C := RJ2) (T := TJ2) (N := 3) (v := .ref ed) (ty := (.array (.object "java/lang/Object"))) hx hb hts in_J2 tyJ2 tyJ2_ok nmJ2 hown hK hH hS he2 rfl 1 (by decide) (hts _ q172) (fun _ z => z) rfl (by decide +kernel) rfl rfl (Nat.le_of_ble_eq_true rfl) dJ2_init_8 (fun H locs _ hH hS => ?_)
  have hH : HP D CL (zA s0) (hset (hset h a (.inr (20, [.int 0, .null, .int 0])) t) a (.inr (20, [.int 0, .ref ed, .int 0])) t) H := hH
  have e4 : (hset (hset h a (.inr (20, [.int 0, .null, .int 0])) t) a (.inr (20, [.int 0, .ref ed, .int 0])) t) a = some (.inr (20, [.int 0, .ref ed, .int 0]), t) := hset_self _ _ _ _
  exact hp_vret hx hb hr hlocks hH hS (by decide) (by decide) dJ2_init_11 (⟨rfl, hset_hset _ _ _ _ _ _⟩)
set_option maxHeartbeats 4000000 in
theorem mj_size (hK0 : va_K D CL (TYS K) s0) {ed : Nat} {a t j : Nat} {L : List Nat} (hA0 : AL (K 4) ed h a t L j) : Met l yJ2_size (ws_ yJ2_size cJ2_size 1 ((Option.some Jvm.ClassFile.FieldType.int))) (rmk 0 0 0) (va_Pc [.ref a] (PB s0 D CL (h))) (QR s0 D CL (fun v h1 => v = some (.int (nI L.length)) ∧ h1 = h)) 0 0 (zA s0) := by
  refine hp_met (by decide) (Nat.le_of_ble_eq_true rfl) hK0 ?_
  intro p e s m below meth cd ls hx hb hr hlocks hml hown hnm hts hK hPB hl hS hH hA
  have hl : lv_has ls 1 [(0, .ref a)] := hl
  have hown : s.vm.findClass RJ2 = some m.cls := hown
  obtain ⟨mcn, d, he, hob, hlen, hdd⟩ := hA0
  have hl13 := gcap_lt j hlen.2
  have hll := hlen.1
  refine lv_aload_n hx hb dJ2_size_0 rfl (lv_at hl 0 rfl) ?_
  refine hp_get (C := RJ2) (T := TJ2) (N := 3) (v := .int (nI L.length)) hx hb hts in_J2 hown hK hH he rfl 2 (by decide) (hts _ q173) (fun _ z => z) rfl dJ2_size_1 ?_
  exact hp_iret hx hb hr hlocks hH hS (by decide) (by decide) dJ2_size_4 (⟨rfl, rfl⟩)
set_option maxHeartbeats 4000000 in
theorem mj_isEmpty (hK0 : va_K D CL (TYS K) s0) {ed : Nat} {a t j : Nat} {L : List Nat} (hA0 : AL (K 4) ed h a t L j) : Met l yJ2_isEmpty (ws_ yJ2_isEmpty cJ2_isEmpty 1 ((Option.some Jvm.ClassFile.FieldType.boolean))) (rmk 0 0 0) (va_Pc [.ref a] (PB s0 D CL (h))) (QR s0 D CL (fun v h1 => v = some (.int (zI (decide (L.length = 0)))) ∧ h1 = h)) 0 0 (zA s0) := by
  refine hp_met (by decide) (Nat.le_of_ble_eq_true rfl) hK0 ?_
  intro p e s m below meth cd ls hx hb hr hlocks hml hown hnm hts hK hPB hl hS hH hA
  have hl : lv_has ls 1 [(0, .ref a)] := hl
  have hown : s.vm.findClass RJ2 = some m.cls := hown
  obtain ⟨mcn, d, he, hob, hlen, hdd⟩ := hA0
  have hl13 := gcap_lt j hlen.2
  have hll := hlen.1
  refine lv_aload_n hx hb dJ2_isEmpty_0 rfl (lv_at hl 0 rfl) ?_
  refine hp_get (C := RJ2) (T := TJ2) (N := 3) (v := .int (nI L.length)) hx hb hts in_J2 hown hK hH he rfl 2 (by decide) (hts _ q173) (fun _ z => z) rfl dJ2_isEmpty_1 ?_
  refine lvZ_ne (tgt := 11) hx hb (by first | omega | (refine Nat.lt_of_lt_of_le (Nat.mod_lt _ ?_) ?_ <;> omega)) dJ2_isEmpty_4 (by decide) (fun c0 => ?_) (fun c0 => ?_)
  · refine lv_iconst (v := nI 0) hx hb dJ2_isEmpty_11 (by decide) ?_
    exact hp_zret hx hb hr rfl hlocks hH hS (by decide) (by decide) dJ2_isEmpty_12 (⟨congrArg some (congrArg Value.int (zI_0 (decide_eq_false c0))), rfl⟩)
  · refine lv_iconst (v := nI 1) hx hb dJ2_isEmpty_7 (by decide) ?_
    refine lv_goto (tgt := 12) hx hb dJ2_isEmpty_8 (by decide) ?_
    exact hp_zret hx hb hr rfl hlocks hH hS (by decide) (by decide) dJ2_isEmpty_12 (⟨congrArg some (congrArg Value.int (zI_1 (decide_eq_true c0))), rfl⟩)
set_option maxHeartbeats 4000000 in
theorem mj_eldat (hK0 : va_K D CL (TYS K) s0) {ed k : Nat} {a t j : Nat} {L : List Nat} (hA0 : AL (K 4) ed h a t L j) (hk : k < L.length) : Met l yJ2_elementData (ws_ yJ2_elementData cJ2_elementData 2 ((Option.some (Jvm.ClassFile.FieldType.object "java/lang/Object")))) (rmk 0 0 0) (va_Pc [.ref a, .int (nI k)] (PB s0 D CL (h))) (QR s0 D CL (fun v h1 => v = some (.ref (L.getD k 0)) ∧ h1 = h)) 0 0 (zA s0) := by
  refine hp_met (by decide) (Nat.le_of_ble_eq_true rfl) hK0 ?_
  intro p e s m below meth cd ls hx hb hr hlocks hml hown hnm hts hK hPB hl hS hH hA
  have hl : lv_has ls 2 [(0, .ref a), (1, .int (nI k))] := hl
  have hown : s.vm.findClass RJ2 = some m.cls := hown
  obtain ⟨mcn, d, he, hob, hlen, hdd⟩ := hA0
  have hl13 := gcap_lt j hlen.2
  have hll := hlen.1
  rcases hdd with ⟨q1, -⟩ | ⟨q1, f, hf, hfi⟩
  · exfalso; subst q1; have : gcap 0 = 0 := rfl; omega
  refine lv_aload_n hx hb dJ2_elementData_0 rfl (lv_at hl 0 rfl) ?_
  refine hp_get (C := RJ2) (T := TJ2) (N := 3) (v := .ref d) hx hb hts in_J2 hown hK hH he rfl 1 (by decide) (hts _ q172) (fun _ z => z) rfl dJ2_elementData_1 ?_
  refine lv_iload_n hx hb dJ2_elementData_4 rfl (lv_at hl 1 rfl) ?_
  refine hp_ald (n := gcap j) (j := k) (v := L.getD k 0) hx hb hK hH 4 hf rfl rfl (by first | omega | (refine Nat.lt_of_lt_of_le (Nat.mod_lt _ ?_) ?_ <;> omega)) (by first | omega | (refine Nat.lt_of_lt_of_le (Nat.mod_lt _ ?_) ?_ <;> omega)) (hfi k hk) dJ2_elementData_5 ?_
  exact hp_aret hx hb hr (Or.inl ⟨_, rfl⟩) (Or.inr ⟨_, rfl⟩) hlocks hH hS (by decide) (by decide) dJ2_elementData_6 (⟨rfl, rfl⟩)
set_option maxHeartbeats 4000000 in
theorem mj_ock (hK0 : va_K D CL (TYS K) s0) {k n : Nat} (hk : k < n) (hn0 : n < 2 ^ 31) : Met l yJ12_checkIndex (ws_ yJ12_checkIndex cJ12_checkIndex 2 ((Option.some Jvm.ClassFile.FieldType.int))) (rmk 1 0 0) (va_Pc [.int (nI k), .int (nI n)] (PB s0 D CL (h))) (QR s0 D CL (fun v h1 => v = some (.int (nI k)) ∧ h1 = h)) 0 0 (zA s0) := by
  refine hp_met (by decide) (Nat.le_of_ble_eq_true rfl) hK0 ?_
  intro p e s m below meth cd ls hx hb hr hlocks hml hown hnm hts hK hPB hl hS hH hA
  have hl : lv_has ls 2 [(0, .int (nI k)), (1, .int (nI n))] := hl
  have hown : s.vm.findClass RJ12 = some m.cls := hown
  refine lv_iload_n hx hb dJ12_checkIndex_0 rfl (lv_at hl 0 rfl) ?_
  refine lv_iload_n hx hb dJ12_checkIndex_1 rfl (lv_at hl 1 rfl) ?_
  refine lv_null hx hb dJ12_checkIndex_2 ?_
  refine hp_callS (As := [.int (nI k), .int (nI n), .null]) (rest := []) hx hb hml hown hts hPB hH hS (mj_chkN hK0 (tf := 0) (k := k) (n := n) (by omega) (by omega)) 3 (lw_S q512 q477 q116 q478) (by decide +kernel) ⟨rfl, rfl⟩ (by decide) rfl hl.1 rfl (Nat.le_of_ble_eq_true rfl) (by decide) dJ12_checkIndex_3 (fun v1 h3 H locs hp2 _ hH hS => ?_)
  obtain ⟨rfl, hq⟩ := hp2
  rw [hq] at hH
  exact hp_iret hx hb hr hlocks hH hS (by decide) (by decide) dJ12_checkIndex_6 (⟨rfl, rfl⟩)
set_option maxHeartbeats 4000000 in
theorem mj_get (hK0 : va_K D CL (TYS K) s0) {ed k : Nat} {a t j : Nat} {L : List Nat} (hA0 : AL (K 4) ed h a t L j) (hk : k < L.length) : Met l yJ2_get (ws_ yJ2_get cJ2_get 2 ((Option.some (Jvm.ClassFile.FieldType.object "java/lang/Object")))) (rmk 2 0 0) (va_Pc [.ref a, .int (nI k)] (PB s0 D CL (h))) (QR s0 D CL (fun v h1 => v = some (.ref (L.getD k 0)) ∧ h1 = h)) 0 0 (zA s0) := by
  refine hp_met (by decide) (Nat.le_of_ble_eq_true rfl) hK0 ?_
  intro p e s m below meth cd ls hx hb hr hlocks hml hown hnm hts hK hPB hl hS hH hA
  have hl : lv_has ls 2 [(0, .ref a), (1, .int (nI k))] := hl
  have hown : s.vm.findClass RJ2 = some m.cls := hown
  have hA9 := hA0
  obtain ⟨mcn, d, he, hob, hlen, hdd⟩ := hA0
  have hl13 := gcap_lt j hlen.2
  have hll := hlen.1
  refine lv_iload_n hx hb dJ2_get_0 rfl (lv_at hl 1 rfl) ?_
  refine lv_aload_n hx hb dJ2_get_1 rfl (lv_at hl 0 rfl) ?_
  refine hp_get (C := RJ2) (T := TJ2) (N := 3) (v := .int (nI L.length)) hx hb hts in_J2 hown hK hH he rfl 2 (by decide) (hts _ q173) (fun _ z => z) rfl dJ2_get_2 ?_
  refine hp_callS (As := [.int (nI k), .int (nI L.length)]) (rest := []) hx hb hml hown hts hPB hH hS (mj_ock hK0 (k := k) (n := L.length) (by omega) (by omega)) 2 (lw_S q509 q510 q120 q511) (by decide +kernel) ⟨rfl, rfl⟩ (by decide) rfl hl.1 rfl (Nat.le_of_ble_eq_true rfl) (by decide) dJ2_get_5 (fun v1 h3 H locs hp2 _ hH hS => ?_)
  obtain ⟨rfl, hq⟩ := hp2
  rw [hq] at hH
  refine lv_pop hx hb dJ2_get_8 rfl ?_
  refine lv_aload_n hx hb dJ2_get_9 rfl (lv_at hl 0 rfl) ?_
  refine lv_iload_n hx hb dJ2_get_10 rfl (lv_at hl 1 rfl) ?_
  refine hp_callV (As := [.int (nI k)]) (rest := []) hx hb hml hown hts hPB hK hH hS (mj_eldat hK0 (hA9) hk) he rfl rfl 1 (lw_V q513 q514 q515 q106 q516) (by decide +kernel) ⟨rfl, rfl⟩ (by decide) rfl hl.1 rfl (Nat.le_of_ble_eq_true rfl) (by decide) dJ2_get_11 (fun v4 h6 H locs hp5 _ hH hS => ?_)
  obtain ⟨rfl, hq⟩ := hp5
  rw [hq] at hH
  exact hp_aret hx hb hr (Or.inl ⟨_, rfl⟩) (Or.inr ⟨_, rfl⟩) hlocks hH hS (by decide) (by decide) dJ2_get_14 (⟨rfl, rfl⟩)
end MODEL
