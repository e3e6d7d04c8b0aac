/-! by gen/mspec.py -/
set_option maxRecDepth 100000
section MODEL
variable {l : Launch} {s0 : State} {D : va_G} {K : Nat → ClassId} {wd : Nat → Nat} {o : Nat} {h : Hp} {I : Nat → Int32} {V : Nat → Nat → Int32} {J : Nat → Nat → Int64}
set_option maxHeartbeats 4000000 in
theorem mc_in (hK0 : va_K D CL (TYS K) s0) (x a b : Int32) : Met l yX0_in (ws_ yX0_in cX0_in 3 ((Option.some Jvm.ClassFile.FieldType.boolean))) (rmk 0 0 0) (va_Pc [.int x, .int a, .int b] (PB s0 D CL (h))) (QR s0 D CL (fun v h1 => v = some (.int (zI (inI x a b))) ∧ h1 = h)) 0 0 (zA s0) := by
  refine hp_met (by decide) (Nat.le_of_ble_eq_true rfl) hK0 ?_
  intro p e s m below meth cd ls hx hb hr hlocks hml hown hnm hts hK hPB hl hS hH hA
  have hl : lv_has ls 3 [(0, .int x), (1, .int a), (2, .int b)] := hl
  have hown : s.vm.findClass RX0 = some m.cls := hown
  refine lv_iload_n hx hb dX0_in_0 rfl (lv_at hl 0 rfl) ?_
  refine lv_iload_n hx hb dX0_in_1 rfl (lv_at hl 1 rfl) ?_
  refine lv_icmp_lt (tgt := 14) hx hb dX0_in_2 (by decide) (fun c1 => ?_) (fun c1 => ?_)
  · refine lv_iconst (v := nI 0) hx hb dX0_in_14 (by decide) ?_
    exact hp_zret hx hb hr rfl hlocks hH hS (by decide) (by decide) dX0_in_15 (⟨congrArg some (congrArg Value.int (zI_0 (by unfold inI; rw [decide_eq_false (Int32.not_le.mpr c1)]; simp))), rfl⟩)
  · refine lv_iload_n hx hb dX0_in_5 rfl (lv_at hl 0 rfl) ?_
    refine lv_iload_n hx hb dX0_in_6 rfl (lv_at hl 2 rfl) ?_
    refine lv_icmp_gt (tgt := 14) hx hb dX0_in_7 (by decide) (fun c2 => ?_) (fun c2 => ?_)
    · refine lv_iconst (v := nI 0) hx hb dX0_in_14 (by decide) ?_
      exact hp_zret hx hb hr rfl hlocks hH hS (by decide) (by decide) dX0_in_15 (⟨congrArg some (congrArg Value.int (zI_0 (by unfold inI; rw [decide_eq_false (Int32.not_le.mpr c2)]; simp))), rfl⟩)
    · refine lv_iconst (v := nI 1) hx hb dX0_in_10 (by decide) ?_
      refine lv_goto (tgt := 15) hx hb dX0_in_11 (by decide) ?_
      exact hp_zret hx hb hr rfl hlocks hH hS (by decide) (by decide) dX0_in_15 (⟨congrArg some (congrArg Value.int (zI_1 (by unfold inI; rw [decide_eq_true (Int32.not_lt.mp c1), decide_eq_true (Int32.not_lt.mp c2)]; rfl))), rfl⟩)
set_option maxHeartbeats 4000000 in
theorem mc_guestAt (hK0 : va_K D CL (TYS K) s0) {av : Nat → Nat} {ed mi : Nat} (hG : GX s0 wd av ed mi) {S : Ab} {w : Nat → Nat} {Ls : Nat → List Nat} {Jn : Nat → Nat} {Z : Nat → Nat → Int32} (hO : SOK S) (hO2 : SO2 S) (hW : CW K ed S h w Ls Jn Z) (g : Int32) : Met l yX0_guestAt (ws_ yX0_guestAt cX0_guestAt 2 ((Option.some (Jvm.ClassFile.FieldType.object "FirstIn$Guest")))) (rmk 3 0 0) (va_Pc [.ref (w 0), .int g] (PB s0 D CL (h))) (QR s0 D CL (fun v h1 => ((∃ k, k < aN S ∧ g = nI k ∧ v = some (.ref ((Ls 0).getD k 0))) ∨ (inN g (aN S) = false ∧ v = some .null)) ∧ h1 = h)) 0 0 (zA s0) := by
  refine hp_met (by decide) (Nat.le_of_ble_eq_true rfl) hK0 ?_
  intro p e s m below meth cd ls hx hb hr hlocks hml hown hnm hts hK hPB hl hS hH hA
  have hl : lv_has ls 2 [(0, .ref (w 0)), (1, .int g)] := hl
  have hown : s.vm.findClass RX0 = some m.cls := hown
  have hn := hO.n
  have hmk := hO.mk
  have hrl := hO.rl
  have hrm := hO.rm
  have hsz := hO.sz
  refine lv_iload_n hx hb dX0_guestAt_0 rfl (lv_at hl 1 rfl) ?_
  refine lv_iconst (v := nI 0) hx hb dX0_guestAt_1 (by decide) ?_
  refine lv_aload_n hx hb dX0_guestAt_2 rfl (lv_at hl 0 rfl) ?_
  refine hp_get (C := RX0) (T := TX0) (N := 14) (v := .ref (w 3)) hx hb hts in_X0 hown hK hH hW.x rfl 2 (by decide) (hts _ q214) (fun _ z => z) rfl dX0_guestAt_3 ?_
  refine hp_siz hx hb hml hown hts hPB hK0 hK hH hS hG (hW.li 0 (by decide)) hW.ng q807 (by first | decide | (simp only [rmk]; omega)) hl.1 rfl (Nat.le_of_ble_eq_true rfl) (by decide) dX0_guestAt_6 (fun H locs hH hS => ?_)
  refine lv_iconst (v := nI 1) hx hb dX0_guestAt_9 (by decide) ?_
  refine lv_isub hx hb dX0_guestAt_10 ?_
  refine hp_callS (As := [.int g, .int (nI 0), .int ((nI (aN S)) - (nI 1))]) (rest := []) hx hb hml hown hts hPB hH hS (mc_in hK0 g (nI 0) ((nI (aN S)) - (nI 1))) 3 (lw_S q268 q269 q102 q270) (by decide +kernel) ⟨rfl, rfl⟩ (by decide) rfl hl.1 rfl (Nat.le_of_ble_eq_true rfl) (by decide) dX0_guestAt_11 (fun v1 h3 H locs hp2 _ hH hS => ?_)
  obtain ⟨rfl, hq⟩ := hp2
  rw [hq] at hH
  refine lv_top (y := zI (inN g (aN S))) (congrArg zI (in_i0 (by omega))) ?_
  refine lvB_eq (tgt := 31) hx hb dX0_guestAt_14 (by decide) (fun c0 => ?_) (fun c0 => ?_)
  · refine lv_null hx hb dX0_guestAt_31 ?_
    exact hp_aret hx hb hr (Or.inl ⟨_, rfl⟩) (Or.inl rfl) hlocks hH hS (by decide) (by decide) dX0_guestAt_32 (⟨Or.inr ⟨c0, rfl⟩, rfl⟩)
  · obtain ⟨k, hkk, rfl⟩ := inN_t c0
    refine lv_aload_n hx hb dX0_guestAt_17 rfl (lv_at hl 0 rfl) ?_
    refine hp_get (C := RX0) (T := TX0) (N := 14) (v := .ref (w 3)) hx hb hts in_X0 hown hK hH hW.x rfl 2 (by decide) (hts _ q214) (fun _ z => z) rfl dX0_guestAt_18 ?_
    refine lv_iload_n hx hb dX0_guestAt_21 rfl (lv_at hl 1 rfl) ?_
    refine hp_lget hx hb hml hown hts hPB hK0 hK hH hS hG (hW.li 0 (by decide)) (k9 := k) (by rw [hW.ng]; omega) q808 (by first | decide | (simp only [rmk]; omega)) hl.1 rfl (Nat.le_of_ble_eq_true rfl) (by decide) dX0_guestAt_22 (fun H locs hH hS => ?_)
    refine va_castE hx hb hown (hts _ q809) (hp_rec hK hH (hW.g (show k < aN S by omega)) rfl) dX0_guestAt_25 ?_
    refine lv_goto (tgt := 32) hx hb dX0_guestAt_28 (by decide) ?_
    exact hp_aret hx hb hr (Or.inl ⟨_, rfl⟩) (Or.inr ⟨_, rfl⟩) hlocks hH hS (by decide) (by decide) dX0_guestAt_32 (⟨Or.inl ⟨_, hkk, rfl, rfl⟩, rfl⟩)
set_option maxHeartbeats 4000000 in
theorem mc_ruleAt (hK0 : va_K D CL (TYS K) s0) {av : Nat → Nat} {ed mi : Nat} (hG : GX s0 wd av ed mi) {S : Ab} {w : Nat → Nat} {Ls : Nat → List Nat} {Jn : Nat → Nat} {Z : Nat → Nat → Int32} (hO : SOK S) (hO2 : SO2 S) (hW : CW K ed S h w Ls Jn Z) (g : Int32) : Met l yX0_ruleAt (ws_ yX0_ruleAt cX0_ruleAt 2 ((Option.some (Jvm.ClassFile.FieldType.object "FirstIn$Rule")))) (rmk 3 0 0) (va_Pc [.ref (w 0), .int g] (PB s0 D CL (h))) (QR s0 D CL (fun v h1 => ((∃ k, k < aRl S ∧ g = nI k ∧ v = some (.ref ((Ls 2).getD k 0))) ∨ (inN g (aRl S) = false ∧ v = some .null)) ∧ h1 = h)) 0 0 (zA s0) := by
  refine hp_met (by decide) (Nat.le_of_ble_eq_true rfl) hK0 ?_
  intro p e s m below meth cd ls hx hb hr hlocks hml hown hnm hts hK hPB hl hS hH hA
  have hl : lv_has ls 2 [(0, .ref (w 0)), (1, .int g)] := hl
  have hown : s.vm.findClass RX0 = some m.cls := hown
  have hn := hO.n
  have hmk := hO.mk
  have hrl := hO.rl
  have hrm := hO.rm
  have hsz := hO.sz
  refine lv_iload_n hx hb dX0_ruleAt_0 rfl (lv_at hl 1 rfl) ?_
  refine lv_iconst (v := nI 0) hx hb dX0_ruleAt_1 (by decide) ?_
  refine lv_aload_n hx hb dX0_ruleAt_2 rfl (lv_at hl 0 rfl) ?_
  refine hp_get (C := RX0) (T := TX0) (N := 14) (v := .ref (w 5)) hx hb hts in_X0 hown hK hH hW.x rfl 4 (by decide) (hts _ q216) (fun _ z => z) rfl dX0_ruleAt_3 ?_
  refine hp_siz hx hb hml hown hts hPB hK0 hK hH hS hG (hW.li 2 (by decide)) hW.nr q807 (by first | decide | (simp only [rmk]; omega)) hl.1 rfl (Nat.le_of_ble_eq_true rfl) (by decide) dX0_ruleAt_6 (fun H locs hH hS => ?_)
  refine lv_iconst (v := nI 1) hx hb dX0_ruleAt_9 (by decide) ?_
  refine lv_isub hx hb dX0_ruleAt_10 ?_
  refine hp_callS (As := [.int g, .int (nI 0), .int ((nI (aRl S)) - (nI 1))]) (rest := []) hx hb hml hown hts hPB hH hS (mc_in hK0 g (nI 0) ((nI (aRl S)) - (nI 1))) 3 (lw_S q268 q269 q102 q270) (by decide +kernel) ⟨rfl, rfl⟩ (by decide) rfl hl.1 rfl (Nat.le_of_ble_eq_true rfl) (by decide) dX0_ruleAt_11 (fun v1 h3 H locs hp2 _ hH hS => ?_)
  obtain ⟨rfl, hq⟩ := hp2
  rw [hq] at hH
  refine lv_top (y := zI (inN g (aRl S))) (congrArg zI (in_i0 (by omega))) ?_
  refine lvB_eq (tgt := 31) hx hb dX0_ruleAt_14 (by decide) (fun c0 => ?_) (fun c0 => ?_)
  · refine lv_null hx hb dX0_ruleAt_31 ?_
    exact hp_aret hx hb hr (Or.inl ⟨_, rfl⟩) (Or.inl rfl) hlocks hH hS (by decide) (by decide) dX0_ruleAt_32 (⟨Or.inr ⟨c0, rfl⟩, rfl⟩)
  · obtain ⟨k, hkk, rfl⟩ := inN_t c0
    refine lv_aload_n hx hb dX0_ruleAt_17 rfl (lv_at hl 0 rfl) ?_
    refine hp_get (C := RX0) (T := TX0) (N := 14) (v := .ref (w 5)) hx hb hts in_X0 hown hK hH hW.x rfl 4 (by decide) (hts _ q216) (fun _ z => z) rfl dX0_ruleAt_18 ?_
    refine lv_iload_n hx hb dX0_ruleAt_21 rfl (lv_at hl 1 rfl) ?_
    refine hp_lget hx hb hml hown hts hPB hK0 hK hH hS hG (hW.li 2 (by decide)) (k9 := k) (by rw [hW.nr]; omega) q808 (by first | decide | (simp only [rmk]; omega)) hl.1 rfl (Nat.le_of_ble_eq_true rfl) (by decide) dX0_ruleAt_22 (fun H locs hH hS => ?_)
    have hn4 := cN_le S k
    have hkhn4 := hO.kd (show k < aRl S by omega)
    have hwhn4 := hO.wt (show k < aRl S by omega)
    refine hp_castR hx hb hown (hts _ q812) hG hPB hK hH (hW.r (show k < aRl S by omega)) (hO.kd (show k < aRl S by omega)) dX0_ruleAt_25 ?_
    refine lv_goto (tgt := 32) hx hb dX0_ruleAt_28 (by decide) ?_
    exact hp_aret hx hb hr (Or.inl ⟨_, rfl⟩) (Or.inr ⟨_, rfl⟩) hlocks hH hS (by decide) (by decide) dX0_ruleAt_32 (⟨Or.inl ⟨_, hkk, rfl, rfl⟩, rfl⟩)
set_option maxHeartbeats 4000000 in
theorem mc_roomAt (hK0 : va_K D CL (TYS K) s0) {av : Nat → Nat} {ed mi : Nat} (hG : GX s0 wd av ed mi) {S : Ab} {w : Nat → Nat} {Ls : Nat → List Nat} {Jn : Nat → Nat} {Z : Nat → Nat → Int32} (hO : SOK S) (hO2 : SO2 S) (hW : CW K ed S h w Ls Jn Z) (g : Int32) : Met l yX0_roomAt (ws_ yX0_roomAt cX0_roomAt 2 ((Option.some (Jvm.ClassFile.FieldType.object "FirstIn$Room")))) (rmk 3 0 0) (va_Pc [.ref (w 0), .int g] (PB s0 D CL (h))) (QR s0 D CL (fun v h1 => ((∃ k, k < aRm S ∧ g = nI k ∧ v = some (.ref ((Ls 3).getD k 0))) ∨ (inN g (aRm S) = false ∧ v = some .null)) ∧ h1 = h)) 0 0 (zA s0) := by
  refine hp_met (by decide) (Nat.le_of_ble_eq_true rfl) hK0 ?_
  intro p e s m below meth cd ls hx hb hr hlocks hml hown hnm hts hK hPB hl hS hH hA
  have hl : lv_has ls 2 [(0, .ref (w 0)), (1, .int g)] := hl
  have hown : s.vm.findClass RX0 = some m.cls := hown
  have hn := hO.n
  have hmk := hO.mk
  have hrl := hO.rl
  have hrm := hO.rm
  have hsz := hO.sz
  refine lv_iload_n hx hb dX0_roomAt_0 rfl (lv_at hl 1 rfl) ?_
  refine lv_iconst (v := nI 0) hx hb dX0_roomAt_1 (by decide) ?_
  refine lv_aload_n hx hb dX0_roomAt_2 rfl (lv_at hl 0 rfl) ?_
  refine hp_get (C := RX0) (T := TX0) (N := 14) (v := .ref (w 6)) hx hb hts in_X0 hown hK hH hW.x rfl 5 (by decide) (hts _ q217) (fun _ z => z) rfl dX0_roomAt_3 ?_
  refine hp_siz hx hb hml hown hts hPB hK0 hK hH hS hG (hW.li 3 (by decide)) hW.nq q807 (by first | decide | (simp only [rmk]; omega)) hl.1 rfl (Nat.le_of_ble_eq_true rfl) (by decide) dX0_roomAt_6 (fun H locs hH hS => ?_)
  refine lv_iconst (v := nI 1) hx hb dX0_roomAt_9 (by decide) ?_
  refine lv_isub hx hb dX0_roomAt_10 ?_
  refine hp_callS (As := [.int g, .int (nI 0), .int ((nI (aRm S)) - (nI 1))]) (rest := []) hx hb hml hown hts hPB hH hS (mc_in hK0 g (nI 0) ((nI (aRm S)) - (nI 1))) 3 (lw_S q268 q269 q102 q270) (by decide +kernel) ⟨rfl, rfl⟩ (by decide) rfl hl.1 rfl (Nat.le_of_ble_eq_true rfl) (by decide) dX0_roomAt_11 (fun v1 h3 H locs hp2 _ hH hS => ?_)
  obtain ⟨rfl, hq⟩ := hp2
  rw [hq] at hH
  refine lv_top (y := zI (inN g (aRm S))) (congrArg zI (in_i0 (by omega))) ?_
  refine lvB_eq (tgt := 31) hx hb dX0_roomAt_14 (by decide) (fun c0 => ?_) (fun c0 => ?_)
  · refine lv_null hx hb dX0_roomAt_31 ?_
    exact hp_aret hx hb hr (Or.inl ⟨_, rfl⟩) (Or.inl rfl) hlocks hH hS (by decide) (by decide) dX0_roomAt_32 (⟨Or.inr ⟨c0, rfl⟩, rfl⟩)
  · obtain ⟨k, hkk, rfl⟩ := inN_t c0
    refine lv_aload_n hx hb dX0_roomAt_17 rfl (lv_at hl 0 rfl) ?_
    refine hp_get (C := RX0) (T := TX0) (N := 14) (v := .ref (w 6)) hx hb hts in_X0 hown hK hH hW.x rfl 5 (by decide) (hts _ q217) (fun _ z => z) rfl dX0_roomAt_18 ?_
    refine lv_iload_n hx hb dX0_roomAt_21 rfl (lv_at hl 1 rfl) ?_
    refine hp_lget hx hb hml hown hts hPB hK0 hK hH hS hG (hW.li 3 (by decide)) (k9 := k) (by rw [hW.nq]; omega) q808 (by first | decide | (simp only [rmk]; omega)) hl.1 rfl (Nat.le_of_ble_eq_true rfl) (by decide) dX0_roomAt_22 (fun H locs hH hS => ?_)
    have hp4 := hO.rp (show k < aRm S by omega)
    refine hp_castQ hx hb hown (hts _ q928) hG hPB hK hH (hW.q (show k < aRm S by omega)) (hO.rk (show k < aRm S by omega)) dX0_roomAt_25 ?_
    refine lv_goto (tgt := 32) hx hb dX0_roomAt_28 (by decide) ?_
    exact hp_aret hx hb hr (Or.inl ⟨_, rfl⟩) (Or.inr ⟨_, rfl⟩) hlocks hH hS (by decide) (by decide) dX0_roomAt_32 (⟨Or.inl ⟨_, hkk, rfl, rfl⟩, rfl⟩)
end MODEL
