/-! by gen/mspec.py -/
set_option maxRecDepth 100000
section MODEL
variable {l : Launch} {s0 : State} {D : va_G} {K : Nat → ClassId} {wd : Nat → Nat} {o : Nat} {h : Hp} {I : Nat → Int32} {V : Nat → Nat → Int32} {J : Nat → Nat → Int64}
set_option maxHeartbeats 4000000 in
theorem mj_thr (hK0 : va_K D CL (TYS K) s0) {av : Nat → Nat} {ed mi : Nat} (hG : GX s0 wd av ed mi) {us ss : Value} (hTX : TX s0 us ss) {a t : Nat} (he : h a = some (.inr (3, [.null, .null, .null, .null, .null, .int 0, .int 0]), t)) : Met l yJ3_init_2 (ws_ yJ3_init_2 cJ3_init_2 5 ((Option.none : Option Jvm.ClassFile.FieldType))) (rmk 1 0 0) (va_Pc [.ref a, .null, .null, .int (nI 0), .int (nI 0)] (PB s0 D CL (h))) (QR s0 D CL (fun v h1 => v = none ∧ h1 = hset h a (.inr (3, [.null, .null, .null, .null, .null, .int 0, .int 0])) t)) 0 0 (zA s0) := by
  refine hp_met (by decide) (Nat.le_of_ble_eq_true rfl) hK0 ?_
  intro p e s m below meth cd ls hx hb hr hlocks hml hown hnm hts hK hPB hl hS hH hA
  have hl : lv_has ls 5 [(0, .ref a), (1, .null), (2, .null), (3, .int (nI 0)), (4, .int (nI 0))] := hl
  have hown : s.vm.findClass RJ3 = some m.cls := hown
  refine lv_aload_n hx hb dJ3_init_2_0 rfl (lv_at hl 0 rfl) ?_
  refine hp_oinit hx hb hown hts q323 q150 q151 (hl.1.trans hml.symm) (by decide) (Nat.le_of_ble_eq_true rfl) dJ3_init_2_1 ?_
  refine lv_aload_n hx hb dJ3_init_2_4 rfl (lv_at hl 0 rfl) ?_
  refine lv_aload_n hx hb dJ3_init_2_5 rfl (lv_at hl 0 rfl) ?_
  refine hp_put (C := RX3) (T := TX3) (N := 7) (v := .ref a) (ty := (.object "java/lang/Throwable")) hx hb hts in_X3 tyX3 tyX3_ok nmX3 hown hK hH hS he rfl 0 (by decide) (hts _ q353) (fun _ z => z) rfl (by decide +kernel) rfl rfl (Nat.le_of_ble_eq_true rfl) dJ3_init_2_6 (fun H locs _ hH hS => ?_)
  have hH : HP D CL (zA s0) (hset h a (.inr (3, [.ref a, .null, .null, .null, .null, .int 0, .int 0])) t) H := hH
  have e1 : (hset h a (.inr (3, [.ref a, .null, .null, .null, .null, .int 0, .int 0])) t) a = some (.inr (3, [.ref a, .null, .null, .null, .null, .int 0, .int 0]), t) := hset_self _ _ _ _
  refine lv_aload_n hx hb dJ3_init_2_9 rfl (lv_at hl 0 rfl) ?_
  refine va_gets hx hb (hTX.us hPB) hS hown (hts _ q324) (fun _ z => z) dJ3_init_2_10 ?_
  refine hp_put (C := RX3) (T := TX3) (N := 7) (v := us) (ty := (.array (.object "java/lang/StackTraceElement"))) hx hb hts in_X3 tyX3 tyX3_ok nmX3 hown hK hH hS e1 rfl 1 (by decide) (hts _ q354) (fun _ z => z) rfl (by decide +kernel) (rf_nar hTX.1.2 rfl).1 (rf_nar hTX.1.2 rfl).2 (Nat.le_of_ble_eq_true rfl) dJ3_init_2_13 (fun H locs _ hH hS => ?_)
  have hH : HP D CL (zA s0) (hset (hset h a (.inr (3, [.ref a, .null, .null, .null, .null, .int 0, .int 0])) t) a (.inr (3, [.ref a, us, .null, .null, .null, .int 0, .int 0])) t) H := hH
  have e2 : (hset (hset h a (.inr (3, [.ref a, .null, .null, .null, .null, .int 0, .int 0])) t) a (.inr (3, [.ref a, us, .null, .null, .null, .int 0, .int 0])) t) a = some (.inr (3, [.ref a, us, .null, .null, .null, .int 0, .int 0]), t) := hset_self _ _ _ _
  refine lv_aload_n hx hb dJ3_init_2_16 rfl (lv_at hl 0 rfl) ?_
  refine va_gets hx hb (hTX.ss hPB) hS hown (hts _ q326) (fun _ z => z) dJ3_init_2_17 ?_
  refine hp_put (C := RX3) (T := TX3) (N := 7) (v := ss) (ty := (.object "java/util/List")) hx hb hts in_X3 tyX3 tyX3_ok nmX3 hown hK hH hS e2 rfl 2 (by decide) (hts _ q355) (fun _ z => z) rfl (by decide +kernel) (rf_nar hTX.2.2 rfl).1 (rf_nar hTX.2.2 rfl).2 (Nat.le_of_ble_eq_true rfl) dJ3_init_2_20 (fun H locs _ hH hS => ?_)
  have hH : HP D CL (zA s0) (hset (hset (hset h a (.inr (3, [.ref a, .null, .null, .null, .null, .int 0, .int 0])) t) a (.inr (3, [.ref a, us, .null, .null, .null, .int 0, .int 0])) t) a (.inr (3, [.ref a, us, ss, .null, .null, .int 0, .int 0])) t) H := hH
  have e3 : (hset (hset (hset h a (.inr (3, [.ref a, .null, .null, .null, .null, .int 0, .int 0])) t) a (.inr (3, [.ref a, us, .null, .null, .null, .int 0, .int 0])) t) a (.inr (3, [.ref a, us, ss, .null, .null, .int 0, .int 0])) t) a = some (.inr (3, [.ref a, us, ss, .null, .null, .int 0, .int 0]), t) := hset_self _ _ _ _
  refine lv_iload hx hb dJ3_init_2_23 (lv_at hl 4 rfl) ?_
  refine lv_if_eq (tgt := 36) hx hb dJ3_init_2_25 (by decide) (fun c4 => ?_) (fun c4 => ?_)
  · refine lv_aload_n hx hb dJ3_init_2_36 rfl (lv_at hl 0 rfl) ?_
    refine lv_null hx hb dJ3_init_2_37 ?_
    refine hp_put (C := RX3) (T := TX3) (N := 7) (v := .null) (ty := (.array (.object "java/lang/StackTraceElement"))) hx hb hts in_X3 tyX3 tyX3_ok nmX3 hown hK hH hS e3 rfl 1 (by decide) (hts _ q354) (fun _ z => z) rfl (by decide +kernel) rfl rfl (Nat.le_of_ble_eq_true rfl) dJ3_init_2_38 (fun H locs _ hH hS => ?_)
    have hH : HP D CL (zA s0) (hset (hset (hset (hset h a (.inr (3, [.ref a, .null, .null, .null, .null, .int 0, .int 0])) t) a (.inr (3, [.ref a, us, .null, .null, .null, .int 0, .int 0])) t) a (.inr (3, [.ref a, us, ss, .null, .null, .int 0, .int 0])) t) a (.inr (3, [.ref a, .null, ss, .null, .null, .int 0, .int 0])) t) H := hH
    have e5 : (hset (hset (hset (hset h a (.inr (3, [.ref a, .null, .null, .null, .null, .int 0, .int 0])) t) a (.inr (3, [.ref a, us, .null, .null, .null, .int 0, .int 0])) t) a (.inr (3, [.ref a, us, ss, .null, .null, .int 0, .int 0])) t) a (.inr (3, [.ref a, .null, ss, .null, .null, .int 0, .int 0])) t) a = some (.inr (3, [.ref a, .null, ss, .null, .null, .int 0, .int 0]), t) := hset_self _ _ _ _
    refine lv_aload_n hx hb dJ3_init_2_41 rfl (lv_at hl 0 rfl) ?_
    refine lv_aload_nN hx hb dJ3_init_2_42 rfl (lv_at hl 1 rfl) ?_
    refine hp_put (C := RX3) (T := TX3) (N := 7) (v := .null) (ty := (.object "java/lang/String")) hx hb hts in_X3 tyX3 tyX3_ok nmX3 hown hK hH hS e5 rfl 3 (by decide) (hts _ q352) (fun _ z => z) rfl (by decide +kernel) rfl rfl (Nat.le_of_ble_eq_true rfl) dJ3_init_2_43 (fun H locs _ hH hS => ?_)
    have hH : HP D CL (zA s0) (hset (hset (hset (hset (hset h a (.inr (3, [.ref a, .null, .null, .null, .null, .int 0, .int 0])) t) a (.inr (3, [.ref a, us, .null, .null, .null, .int 0, .int 0])) t) a (.inr (3, [.ref a, us, ss, .null, .null, .int 0, .int 0])) t) a (.inr (3, [.ref a, .null, ss, .null, .null, .int 0, .int 0])) t) a (.inr (3, [.ref a, .null, ss, .null, .null, .int 0, .int 0])) t) H := hH
    have e6 : (hset (hset (hset (hset (hset h a (.inr (3, [.ref a, .null, .null, .null, .null, .int 0, .int 0])) t) a (.inr (3, [.ref a, us, .null, .null, .null, .int 0, .int 0])) t) a (.inr (3, [.ref a, us, ss, .null, .null, .int 0, .int 0])) t) a (.inr (3, [.ref a, .null, ss, .null, .null, .int 0, .int 0])) t) a (.inr (3, [.ref a, .null, ss, .null, .null, .int 0, .int 0])) t) a = some (.inr (3, [.ref a, .null, ss, .null, .null, .int 0, .int 0]), t) := hset_self _ _ _ _
    refine lv_aload_n hx hb dJ3_init_2_46 rfl (lv_at hl 0 rfl) ?_
    refine lv_aload_nN hx hb dJ3_init_2_47 rfl (lv_at hl 2 rfl) ?_
    refine hp_put (C := RX3) (T := TX3) (N := 7) (v := .null) (ty := (.object "java/lang/Throwable")) hx hb hts in_X3 tyX3 tyX3_ok nmX3 hown hK hH hS e6 rfl 0 (by decide) (hts _ q353) (fun _ z => z) rfl (by decide +kernel) rfl rfl (Nat.le_of_ble_eq_true rfl) dJ3_init_2_48 (fun H locs _ hH hS => ?_)
    have hH : HP D CL (zA s0) (hset (hset (hset (hset (hset (hset h a (.inr (3, [.ref a, .null, .null, .null, .null, .int 0, .int 0])) t) a (.inr (3, [.ref a, us, .null, .null, .null, .int 0, .int 0])) t) a (.inr (3, [.ref a, us, ss, .null, .null, .int 0, .int 0])) t) a (.inr (3, [.ref a, .null, ss, .null, .null, .int 0, .int 0])) t) a (.inr (3, [.ref a, .null, ss, .null, .null, .int 0, .int 0])) t) a (.inr (3, [.null, .null, ss, .null, .null, .int 0, .int 0])) t) H := hH
    have e7 : (hset (hset (hset (hset (hset (hset h a (.inr (3, [.ref a, .null, .null, .null, .null, .int 0, .int 0])) t) a (.inr (3, [.ref a, us, .null, .null, .null, .int 0, .int 0])) t) a (.inr (3, [.ref a, us, ss, .null, .null, .int 0, .int 0])) t) a (.inr (3, [.ref a, .null, ss, .null, .null, .int 0, .int 0])) t) a (.inr (3, [.ref a, .null, ss, .null, .null, .int 0, .int 0])) t) a (.inr (3, [.null, .null, ss, .null, .null, .int 0, .int 0])) t) a = some (.inr (3, [.null, .null, ss, .null, .null, .int 0, .int 0]), t) := hset_self _ _ _ _
    refine lv_iload_n hx hb dJ3_init_2_51 rfl (lv_at hl 3 rfl) ?_
    refine lvZ_ne (tgt := 60) hx hb (by first | omega | (refine Nat.lt_of_lt_of_le (Nat.mod_lt _ ?_) ?_ <;> omega)) dJ3_init_2_52 (by decide) (fun c8 => ?_) (fun c8 => ?_)
    · exact absurd c8 (by decide)
    · refine lv_aload_n hx hb dJ3_init_2_55 rfl (lv_at hl 0 rfl) ?_
      refine lv_null hx hb dJ3_init_2_56 ?_
      refine hp_put (C := RX3) (T := TX3) (N := 7) (v := .null) (ty := (.object "java/util/List")) hx hb hts in_X3 tyX3 tyX3_ok nmX3 hown hK hH hS e7 rfl 2 (by decide) (hts _ q355) (fun _ z => z) rfl (by decide +kernel) rfl rfl (Nat.le_of_ble_eq_true rfl) dJ3_init_2_57 (fun H locs _ hH hS => ?_)
      have hH : HP D CL (zA s0) (hset (hset (hset (hset (hset (hset (hset h a (.inr (3, [.ref a, .null, .null, .null, .null, .int 0, .int 0])) t) a (.inr (3, [.ref a, us, .null, .null, .null, .int 0, .int 0])) t) a (.inr (3, [.ref a, us, ss, .null, .null, .int 0, .int 0])) t) a (.inr (3, [.ref a, .null, ss, .null, .null, .int 0, .int 0])) t) a (.inr (3, [.ref a, .null, ss, .null, .null, .int 0, .int 0])) t) a (.inr (3, [.null, .null, ss, .null, .null, .int 0, .int 0])) t) a (.inr (3, [.null, .null, .null, .null, .null, .int 0, .int 0])) t) H := hH
      have e9 : (hset (hset (hset (hset (hset (hset (hset h a (.inr (3, [.ref a, .null, .null, .null, .null, .int 0, .int 0])) t) a (.inr (3, [.ref a, us, .null, .null, .null, .int 0, .int 0])) t) a (.inr (3, [.ref a, us, ss, .null, .null, .int 0, .int 0])) t) a (.inr (3, [.ref a, .null, ss, .null, .null, .int 0, .int 0])) t) a (.inr (3, [.ref a, .null, ss, .null, .null, .int 0, .int 0])) t) a (.inr (3, [.null, .null, ss, .null, .null, .int 0, .int 0])) t) a (.inr (3, [.null, .null, .null, .null, .null, .int 0, .int 0])) t) a = some (.inr (3, [.null, .null, .null, .null, .null, .int 0, .int 0]), t) := hset_self _ _ _ _
      exact hp_vret hx hb hr hlocks hH hS (by decide) (by decide) dJ3_init_2_60 (⟨rfl, by simp only [hset_hset]⟩)
  · exact absurd c4 (by decide)
set_option maxHeartbeats 4000000 in
theorem mj_exc (hK0 : va_K D CL (TYS K) s0) {av : Nat → Nat} {ed mi : Nat} (hG : GX s0 wd av ed mi) {us ss : Value} (hTX : TX s0 us ss) {a t : Nat} (he : h a = some (.inr (3, [.null, .null, .null, .null, .null, .int 0, .int 0]), t)) : Met l yJ4_init (ws_ yJ4_init cJ4_init 5 ((Option.none : Option Jvm.ClassFile.FieldType))) (rmk 2 0 0) (va_Pc [.ref a, .null, .null, .int (nI 0), .int (nI 0)] (PB s0 D CL (h))) (QR s0 D CL (fun v h1 => v = none ∧ h1 = hset h a (.inr (3, [.null, .null, .null, .null, .null, .int 0, .int 0])) t)) 0 0 (zA s0) := by
  refine hp_met (by decide) (Nat.le_of_ble_eq_true rfl) hK0 ?_
  intro p e s m below meth cd ls hx hb hr hlocks hml hown hnm hts hK hPB hl hS hH hA
  have hl : lv_has ls 5 [(0, .ref a), (1, .null), (2, .null), (3, .int (nI 0)), (4, .int (nI 0))] := hl
  have hown : s.vm.findClass RJ4 = some m.cls := hown
  refine lv_aload_n hx hb dJ4_init_0 rfl (lv_at hl 0 rfl) ?_
  refine lv_aload_nN hx hb dJ4_init_1 rfl (lv_at hl 1 rfl) ?_
  refine lv_aload_nN hx hb dJ4_init_2 rfl (lv_at hl 2 rfl) ?_
  refine lv_iload_n hx hb dJ4_init_3 rfl (lv_at hl 3 rfl) ?_
  refine lv_iload hx hb dJ4_init_4 (lv_at hl 4 rfl) ?_
  refine hp_callI (As := [.null, .null, .int (nI 0), .int (nI 0)]) (rest := []) hx hb hml hown hts hPB hH hS (mj_thr hK0 hG hTX he) 4 q346 q347 q108 q348 rfl (by decide +kernel) ⟨rfl, rfl⟩ (by decide) rfl hl.1 rfl (Nat.le_of_ble_eq_true rfl) (by decide) dJ4_init_6 (fun v1 h3 H locs hp2 _ hH hS => ?_)
  obtain ⟨rfl, hq⟩ := hp2
  rw [hq] at hH
  have he2 : (hset h a (.inr (3, [.null, .null, .null, .null, .null, .int 0, .int 0])) t) a = some (.inr (3, [.null, .null, .null, .null, .null, .int 0, .int 0]), t) := hset_self _ _ _ _
  exact hp_vret hx hb hr hlocks hH hS (by decide) (by decide) dJ4_init_9 (⟨rfl, by simp only [hset_hset]⟩)
set_option maxHeartbeats 4000000 in
theorem mj_rte (hK0 : va_K D CL (TYS K) s0) {av : Nat → Nat} {ed mi : Nat} (hG : GX s0 wd av ed mi) {us ss : Value} (hTX : TX s0 us ss) {a t : Nat} (he : h a = some (.inr (3, [.null, .null, .null, .null, .null, .int 0, .int 0]), t)) : Met l yJ5_init (ws_ yJ5_init cJ5_init 5 ((Option.none : Option Jvm.ClassFile.FieldType))) (rmk 3 0 0) (va_Pc [.ref a, .null, .null, .int (nI 0), .int (nI 0)] (PB s0 D CL (h))) (QR s0 D CL (fun v h1 => v = none ∧ h1 = hset h a (.inr (3, [.null, .null, .null, .null, .null, .int 0, .int 0])) t)) 0 0 (zA s0) := by
  refine hp_met (by decide) (Nat.le_of_ble_eq_true rfl) hK0 ?_
  intro p e s m below meth cd ls hx hb hr hlocks hml hown hnm hts hK hPB hl hS hH hA
  have hl : lv_has ls 5 [(0, .ref a), (1, .null), (2, .null), (3, .int (nI 0)), (4, .int (nI 0))] := hl
  have hown : s.vm.findClass RJ5 = some m.cls := hown
  refine lv_aload_n hx hb dJ5_init_0 rfl (lv_at hl 0 rfl) ?_
  refine lv_aload_nN hx hb dJ5_init_1 rfl (lv_at hl 1 rfl) ?_
  refine lv_aload_nN hx hb dJ5_init_2 rfl (lv_at hl 2 rfl) ?_
  refine lv_iload_n hx hb dJ5_init_3 rfl (lv_at hl 3 rfl) ?_
  refine lv_iload hx hb dJ5_init_4 (lv_at hl 4 rfl) ?_
  refine hp_callI (As := [.null, .null, .int (nI 0), .int (nI 0)]) (rest := []) hx hb hml hown hts hPB hH hS (mj_exc hK0 hG hTX he) 4 q343 q344 q109 q345 rfl (by decide +kernel) ⟨rfl, rfl⟩ (by decide) rfl hl.1 rfl (Nat.le_of_ble_eq_true rfl) (by decide) dJ5_init_6 (fun v1 h3 H locs hp2 _ hH hS => ?_)
  obtain ⟨rfl, hq⟩ := hp2
  rw [hq] at hH
  have he2 : (hset h a (.inr (3, [.null, .null, .null, .null, .null, .int 0, .int 0])) t) a = some (.inr (3, [.null, .null, .null, .null, .null, .int 0, .int 0]), t) := hset_self _ _ _ _
  exact hp_vret hx hb hr hlocks hH hS (by decide) (by decide) dJ5_init_9 (⟨rfl, by simp only [hset_hset]⟩)
set_option maxHeartbeats 4000000 in
theorem mc_fault (hK0 : va_K D CL (TYS K) s0) {av : Nat → Nat} {ed mi : Nat} (hG : GX s0 wd av ed mi) {us ss : Value} (hTX : TX s0 us ss) {a t : Nat} (he : h a = some (.inr (3, [.null, .null, .null, .null, .null, .int 0, .int 0]), t)) (pl : Int32) : Met l yX3_init (ws_ yX3_init cX3_init 2 ((Option.none : Option Jvm.ClassFile.FieldType))) (rmk 4 0 0) (va_Pc [.ref a, .int pl] (PB s0 D CL (h))) (QR s0 D CL (fun v h1 => v = none ∧ h1 = hset h a (.inr (3, [.null, .null, .null, .null, .null, .int 0, .int pl])) t)) 0 0 (zA s0) := by
  refine hp_met (by decide) (Nat.le_of_ble_eq_true rfl) hK0 ?_
  intro p e s m below meth cd ls hx hb hr hlocks hml hown hnm hts hK hPB hl hS hH hA
  have hl : lv_has ls 2 [(0, .ref a), (1, .int pl)] := hl
  have hown : s.vm.findClass RX3 = some m.cls := hown
  refine lv_aload_n hx hb dX3_init_0 rfl (lv_at hl 0 rfl) ?_
  refine lv_null hx hb dX3_init_1 ?_
  refine lv_null hx hb dX3_init_2 ?_
  refine lv_iconst (v := nI 0) hx hb dX3_init_3 (by decide) ?_
  refine lv_iconst (v := nI 0) hx hb dX3_init_4 (by decide) ?_
  refine hp_callI (As := [.null, .null, .int (nI 0), .int (nI 0)]) (rest := []) hx hb hml hown hts hPB hH hS (mj_rte hK0 hG hTX he) 4 q340 q341 q110 q342 rfl (by decide +kernel) ⟨rfl, rfl⟩ (by decide) rfl hl.1 rfl (Nat.le_of_ble_eq_true rfl) (by decide) dX3_init_5 (fun v1 h3 H locs hp2 _ hH hS => ?_)
  obtain ⟨rfl, hq⟩ := hp2
  rw [hq] at hH
  have he2 : (hset h a (.inr (3, [.null, .null, .null, .null, .null, .int 0, .int 0])) t) a = some (.inr (3, [.null, .null, .null, .null, .null, .int 0, .int 0]), t) := hset_self _ _ _ _
  refine lv_aload_n hx hb dX3_init_8 rfl (lv_at hl 0 rfl) ?_
  refine lv_iload_n hx hb dX3_init_9 rfl (lv_at hl 1 rfl) ?_
  refine hp_putF (C := RX3) (T := TX3) (N := 7) (v := .int pl) (ty := .int) hx hb hts in_X3 tyX3 tyX3_ok nmX3 hown hK hH hS he2 rfl 6 (by decide) (hts _ q349) (fun _ z => z) rfl hnm rfl (by decide +kernel) rfl rfl (Nat.le_of_ble_eq_true rfl) dX3_init_10 (fun H locs _ hH hS => ?_)
  have hH : HP D CL (zA s0) (hset (hset h a (.inr (3, [.null, .null, .null, .null, .null, .int 0, .int 0])) t) a (.inr (3, [.null, .null, .null, .null, .null, .int 0, .int pl])) t) H := hH
  have e4 : (hset (hset h a (.inr (3, [.null, .null, .null, .null, .null, .int 0, .int 0])) t) a (.inr (3, [.null, .null, .null, .null, .null, .int 0, .int pl])) t) a = some (.inr (3, [.null, .null, .null, .null, .null, .int 0, .int pl]), t) := hset_self _ _ _ _
  exact hp_vret hx hb hr hlocks hH hS (by decide) (by decide) dX3_init_13 (⟨rfl, by simp only [hset_hset]⟩)
end MODEL
