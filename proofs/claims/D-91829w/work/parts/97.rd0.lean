/-! by gen/mspec.py -/
set_option maxRecDepth 100000
section MODEL
variable {l : Launch} {s0 : State} {D : va_G} {K : Nat → ClassId} {wd : Nat → Nat} {o : Nat} {h : Hp} {I : Nat → Int32} {V : Nat → Nat → Int32} {J : Nat → Nat → Int64}
set_option maxHeartbeats 4000000 in
theorem mc_wrong (hK0 : va_K D CL (TYS K) s0) {av : Nat → Nat} {ed mi : Nat} (hG : GX s0 wd av ed mi) {us ss : Value} (hTX : TX s0 us ss) {rd ta sz at9 bg lg lm lr tr : Nat} (hrd : h rd = some (.inr (1, [.ref ta, .int (nI sz), .int (nI at9), .int (nI bg), .ref lg, .ref lm, .ref lr]), tr)) {tf : Nat} : Met l yX1_wrong (ws_ yX1_wrong cX1_wrong 1 ((Option.some (Jvm.ClassFile.FieldType.object "FirstIn$Fault")))) (rmk 5 1 7) (va_Pc [.ref rd] (PB s0 D CL (h))) (QR s0 D CL (fun v h1 => ∃ q, v = some (.ref q) ∧ h q = none ∧ h1 = hset h q (.inr (3, [.null, .null, .null, .null, .null, .int 0, .int (nI bg)])) tf)) 1 7 (zA s0) := by
  refine hp_met (by decide) (Nat.le_of_ble_eq_true rfl) hK0 ?_
  intro p e s m below meth cd ls hx hb hr hlocks hml hown hnm hts hK hPB hl hS hH hA
  have hl : lv_has ls 1 [(0, .ref rd)] := hl
  have hown : s.vm.findClass RX1 = some m.cls := hown
  obtain ⟨nw1, hnw1, nnw1⟩ := hH.fr
  refine hp_new (ci := 3) (C := RX3) (T := TX3) (N := 7) (fs := [.null, .null, .null, .null, .null, .int 0, .int 0]) hx hb hts in_X3 tyX3 tyX3_ok hown (hts _ q298) (hts _ q299) (hts _ q111) hK hH hS hA rfl (by decide) (by decide) (by decide) tf dX1_wrong_0 (fun H _ hH hS => ?_)
  rw [← hnw1] at hH ⊢
  have hH : HP D CL (zA s0) (hset h nw1 (.inr (3, [.null, .null, .null, .null, .null, .int 0, .int 0])) tf) H := hH
  have x2 : rd ≠ nw1 := ne_new hrd nnw1
  have e3 : (hset h nw1 (.inr (3, [.null, .null, .null, .null, .null, .int 0, .int 0])) tf) rd = some (.inr (1, [.ref ta, .int (nI sz), .int (nI at9), .int (nI bg), .ref lg, .ref lm, .ref lr]), tr) := (hset_ne _ _ _ (x2)).trans hrd
  have e4 : (hset h nw1 (.inr (3, [.null, .null, .null, .null, .null, .int 0, .int 0])) tf) nw1 = some (.inr (3, [.null, .null, .null, .null, .null, .int 0, .int 0]), tf) := hset_self _ _ _ _
  refine lv_dup hx hb dX1_wrong_3 rfl ?_
  refine lv_aload_n hx hb dX1_wrong_4 rfl (lv_at hl 0 rfl) ?_
  refine hp_get (C := RX1) (T := TX1) (N := 7) (v := .int (nI bg)) hx hb hts in_X1 hown hK hH e3 rfl 3 (by decide) (hts _ q188) (fun _ z => z) rfl dX1_wrong_5 ?_
  refine hp_callI (As := [.int (nI bg)]) (rest := [.ref nw1]) hx hb hml hown hts hPB hH hS (mc_fault hK0 hG hTX e4 (nI bg)) 1 q337 q338 q111 q339 rfl (by decide +kernel) ⟨rfl, rfl⟩ (by decide) rfl hl.1 rfl (Nat.le_of_ble_eq_true rfl) (by decide) dX1_wrong_8 (fun v5 h7 H locs hp6 _ hH hS => ?_)
  obtain ⟨rfl, hq⟩ := hp6
  rw [hq, hset_hset] at hH
  exact hp_aret hx hb hr (Or.inl ⟨_, rfl⟩) (Or.inr ⟨_, rfl⟩) hlocks hH hS (by decide) (by decide) dX1_wrong_11 (⟨_, rfl, nnw1, rfl⟩)
set_option maxHeartbeats 4000000 in
theorem mc_isLetter (hK0 : va_K D CL (TYS K) s0) (b : Int32) : Met l yX1_isLetter (ws_ yX1_isLetter cX1_isLetter 1 ((Option.some Jvm.ClassFile.FieldType.boolean))) (rmk 0 0 0) (va_Pc [.int b] (PB s0 D CL (h))) (QR s0 D CL (fun v h1 => v = some (.int (zI (decide (nI 97 ≤ b) && decide (b ≤ nI 122)))) ∧ h1 = h)) 0 0 (zA s0) := by
  refine hp_met (by decide) (Nat.le_of_ble_eq_true rfl) hK0 ?_
  intro p e s m below meth cd ls hx hb hr hlocks hml hown hnm hts hK hPB hl hS hH hA
  have hl : lv_has ls 1 [(0, .int b)] := hl
  have hown : s.vm.findClass RX1 = some m.cls := hown
  refine lv_iload_n hx hb dX1_isLetter_0 rfl (lv_at hl 0 rfl) ?_
  refine lv_bipush (v := nI 97) hx hb dX1_isLetter_1 (by decide) ?_
  refine lv_icmp_lt (tgt := 16) hx hb dX1_isLetter_3 (by decide) (fun c0 => ?_) (fun c0 => ?_)
  · refine lv_iconst (v := nI 0) hx hb dX1_isLetter_16 (by decide) ?_
    exact hp_zret hx hb hr rfl hlocks hH hS (by decide) (by decide) dX1_isLetter_17 (⟨congrArg some (congrArg Value.int (zI_0 (by rw [decide_eq_false (Int32.not_le.mpr c0)]; simp))), rfl⟩)
  · refine lv_iload_n hx hb dX1_isLetter_6 rfl (lv_at hl 0 rfl) ?_
    refine lv_bipush (v := nI 122) hx hb dX1_isLetter_7 (by decide) ?_
    refine lv_icmp_gt (tgt := 16) hx hb dX1_isLetter_9 (by decide) (fun c1 => ?_) (fun c1 => ?_)
    · refine lv_iconst (v := nI 0) hx hb dX1_isLetter_16 (by decide) ?_
      exact hp_zret hx hb hr rfl hlocks hH hS (by decide) (by decide) dX1_isLetter_17 (⟨congrArg some (congrArg Value.int (zI_0 (by rw [decide_eq_false (Int32.not_le.mpr c1)]; simp))), rfl⟩)
    · refine lv_iconst (v := nI 1) hx hb dX1_isLetter_12 (by decide) ?_
      refine lv_goto (tgt := 17) hx hb dX1_isLetter_13 (by decide) ?_
      exact hp_zret hx hb hr rfl hlocks hH hS (by decide) (by decide) dX1_isLetter_17 (⟨congrArg some (congrArg Value.int (zI_1 (by rw [decide_eq_true (Int32.not_lt.mp c0), decide_eq_true (Int32.not_lt.mp c1)]; rfl))), rfl⟩)
set_option maxHeartbeats 4000000 in
theorem mc_isDigit (hK0 : va_K D CL (TYS K) s0) (b : Int32) : Met l yX1_isDigit (ws_ yX1_isDigit cX1_isDigit 1 ((Option.some Jvm.ClassFile.FieldType.boolean))) (rmk 0 0 0) (va_Pc [.int b] (PB s0 D CL (h))) (QR s0 D CL (fun v h1 => v = some (.int (zI (decide (nI 48 ≤ b) && decide (b ≤ nI 57)))) ∧ h1 = h)) 0 0 (zA s0) := by
  refine hp_met (by decide) (Nat.le_of_ble_eq_true rfl) hK0 ?_
  intro p e s m below meth cd ls hx hb hr hlocks hml hown hnm hts hK hPB hl hS hH hA
  have hl : lv_has ls 1 [(0, .int b)] := hl
  have hown : s.vm.findClass RX1 = some m.cls := hown
  refine lv_iload_n hx hb dX1_isDigit_0 rfl (lv_at hl 0 rfl) ?_
  refine lv_bipush (v := nI 48) hx hb dX1_isDigit_1 (by decide) ?_
  refine lv_icmp_lt (tgt := 16) hx hb dX1_isDigit_3 (by decide) (fun c0 => ?_) (fun c0 => ?_)
  · refine lv_iconst (v := nI 0) hx hb dX1_isDigit_16 (by decide) ?_
    exact hp_zret hx hb hr rfl hlocks hH hS (by decide) (by decide) dX1_isDigit_17 (⟨congrArg some (congrArg Value.int (zI_0 (by rw [decide_eq_false (Int32.not_le.mpr c0)]; simp))), rfl⟩)
  · refine lv_iload_n hx hb dX1_isDigit_6 rfl (lv_at hl 0 rfl) ?_
    refine lv_bipush (v := nI 57) hx hb dX1_isDigit_7 (by decide) ?_
    refine lv_icmp_gt (tgt := 16) hx hb dX1_isDigit_9 (by decide) (fun c1 => ?_) (fun c1 => ?_)
    · refine lv_iconst (v := nI 0) hx hb dX1_isDigit_16 (by decide) ?_
      exact hp_zret hx hb hr rfl hlocks hH hS (by decide) (by decide) dX1_isDigit_17 (⟨congrArg some (congrArg Value.int (zI_0 (by rw [decide_eq_false (Int32.not_le.mpr c1)]; simp))), rfl⟩)
    · refine lv_iconst (v := nI 1) hx hb dX1_isDigit_12 (by decide) ?_
      refine lv_goto (tgt := 17) hx hb dX1_isDigit_13 (by decide) ?_
      exact hp_zret hx hb hr rfl hlocks hH hS (by decide) (by decide) dX1_isDigit_17 (⟨congrArg some (congrArg Value.int (zI_1 (by rw [decide_eq_true (Int32.not_lt.mp c0), decide_eq_true (Int32.not_lt.mp c1)]; rfl))), rfl⟩)
end MODEL
