/-! by gen/mspec.py -/
set_option maxRecDepth 100000
section MODEL
variable {l : Launch} {s0 : State} {D : va_G} {K : Nat → ClassId} {wd : Nat → Nat} {o : Nat} {h : Hp} {I : Nat → Int32} {V : Nat → Nat → Int32} {J : Nat → Nat → Int64}
set_option maxHeartbeats 4000000 in
theorem mc_madeRoom (hK0 : va_K D CL (TYS K) s0) {av : Nat → Nat} {ed mi : Nat} (hG : GX s0 wd av ed mi) {k9 : Nat} {np : Nat} (hk9 : k9 < 5) : Met l yX0_madeRoom (ws_ yX0_madeRoom cX0_madeRoom 2 ((Option.some (Jvm.ClassFile.FieldType.object "FirstIn$Room")))) (rmk 4 1 1) (va_Pc [.int (nI k9), .int (nI np)] (PB s0 D CL (h))) (QR s0 D CL (fun v h1 => ∃ q, v = some (.ref q) ∧ h q = none ∧ h1 = hset h q (.inr (10 + k9, [.int (nI np)])) 25)) 1 1 (zA s0) := by
  refine hp_met (by decide) (Nat.le_of_ble_eq_true rfl) hK0 ?_
  intro p e s m below meth cd ls hx hb hr hlocks hml hown hnm hts hK hPB hl hS hH hA
  have hl : lv_has ls 2 [(0, .int (nI k9)), (1, .int (nI np))] := hl
  have hown : s.vm.findClass RX0 = some m.cls := hown
  refine lv_iload_n hx hb dX0_madeRoom_0 rfl (lv_at hl 0 rfl) ?_
  by_cases w1 : k9 = 0
  · refine lv_tableIn (tgt := 32) hx hb dX0_madeRoom_1 (by rw [w1]; decide) (by rw [w1]; decide) (by rw [w1]; rfl) (by decide) ?_
    obtain ⟨nw2, hnw2, nnw2⟩ := hH.fr
    refine hp_new (ci := 10) (C := RX14) (T := TX14) (N := 1) (fs := [.int 0]) hx hb hts in_X14 tyX14 tyX14_ok hown (hts _ q820) (hts _ q821) (hts _ q132) hK hH hS hA rfl (by decide) (by decide) (by decide) 25 dX0_madeRoom_32 (fun H _ hH hS => ?_)
    rw [← hnw2] at hH ⊢
    have hH : HP D CL (zA s0) (hset h nw2 (.inr (10, [.int 0])) 25) H := hH
    have e3 : (hset h nw2 (.inr (10, [.int 0])) 25) nw2 = some (.inr (10, [.int 0]), 25) := hset_self _ _ _ _
    refine lv_dup hx hb dX0_madeRoom_35 rfl ?_
    refine lv_iload_n hx hb dX0_madeRoom_36 rfl (lv_at hl 1 rfl) ?_
    refine hp_callI (As := [.int (nI np)]) (rest := [.ref nw2]) hx hb hml hown hts hPB hH hS (mc_room_X14 hK0 hG e3) 1 q822 q823 q132 q824 rfl (by decide +kernel) ⟨rfl, rfl⟩ (by decide) rfl hl.1 rfl (Nat.le_of_ble_eq_true rfl) (by decide) dX0_madeRoom_37 (fun v4 h6 H locs hp5 _ hH hS => ?_)
    obtain ⟨rfl, hq⟩ := hp5
    rw [hq, hset_hset] at hH
    exact hp_aret hx hb hr (Or.inl ⟨_, rfl⟩) (Or.inr ⟨_, rfl⟩) hlocks hH hS (by decide) (by decide) dX0_madeRoom_40 (⟨_, rfl, nnw2, by rw [w1]⟩)
  by_cases w7 : k9 = 1
  · refine lv_tableIn (tgt := 41) hx hb dX0_madeRoom_1 (by rw [w7]; decide) (by rw [w7]; decide) (by rw [w7]; rfl) (by decide) ?_
    obtain ⟨nw8, hnw8, nnw8⟩ := hH.fr
    refine hp_new (ci := 11) (C := RX15) (T := TX15) (N := 1) (fs := [.int 0]) hx hb hts in_X15 tyX15 tyX15_ok hown (hts _ q839) (hts _ q840) (hts _ q133) hK hH hS hA rfl (by decide) (by decide) (by decide) 25 dX0_madeRoom_41 (fun H _ hH hS => ?_)
    rw [← hnw8] at hH ⊢
    have hH : HP D CL (zA s0) (hset h nw8 (.inr (11, [.int 0])) 25) H := hH
    have e9 : (hset h nw8 (.inr (11, [.int 0])) 25) nw8 = some (.inr (11, [.int 0]), 25) := hset_self _ _ _ _
    refine lv_dup hx hb dX0_madeRoom_44 rfl ?_
    refine lv_iload_n hx hb dX0_madeRoom_45 rfl (lv_at hl 1 rfl) ?_
    refine hp_callI (As := [.int (nI np)]) (rest := [.ref nw8]) hx hb hml hown hts hPB hH hS (mc_room_X15 hK0 hG e9) 1 q841 q842 q133 q843 rfl (by decide +kernel) ⟨rfl, rfl⟩ (by decide) rfl hl.1 rfl (Nat.le_of_ble_eq_true rfl) (by decide) dX0_madeRoom_46 (fun v10 h12 H locs hp11 _ hH hS => ?_)
    obtain ⟨rfl, hq⟩ := hp11
    rw [hq, hset_hset] at hH
    exact hp_aret hx hb hr (Or.inl ⟨_, rfl⟩) (Or.inr ⟨_, rfl⟩) hlocks hH hS (by decide) (by decide) dX0_madeRoom_49 (⟨_, rfl, nnw8, by rw [w7]⟩)
  by_cases w13 : k9 = 2
  · refine lv_tableIn (tgt := 50) hx hb dX0_madeRoom_1 (by rw [w13]; decide) (by rw [w13]; decide) (by rw [w13]; rfl) (by decide) ?_
    obtain ⟨nw14, hnw14, nnw14⟩ := hH.fr
    refine hp_new (ci := 12) (C := RX16) (T := TX16) (N := 1) (fs := [.int 0]) hx hb hts in_X16 tyX16 tyX16_ok hown (hts _ q847) (hts _ q848) (hts _ q134) hK hH hS hA rfl (by decide) (by decide) (by decide) 25 dX0_madeRoom_50 (fun H _ hH hS => ?_)
    rw [← hnw14] at hH ⊢
    have hH : HP D CL (zA s0) (hset h nw14 (.inr (12, [.int 0])) 25) H := hH
    have e15 : (hset h nw14 (.inr (12, [.int 0])) 25) nw14 = some (.inr (12, [.int 0]), 25) := hset_self _ _ _ _
    refine lv_dup hx hb dX0_madeRoom_53 rfl ?_
    refine lv_iload_n hx hb dX0_madeRoom_54 rfl (lv_at hl 1 rfl) ?_
    refine hp_callI (As := [.int (nI np)]) (rest := [.ref nw14]) hx hb hml hown hts hPB hH hS (mc_room_X16 hK0 hG e15) 1 q849 q850 q134 q851 rfl (by decide +kernel) ⟨rfl, rfl⟩ (by decide) rfl hl.1 rfl (Nat.le_of_ble_eq_true rfl) (by decide) dX0_madeRoom_55 (fun v16 h18 H locs hp17 _ hH hS => ?_)
    obtain ⟨rfl, hq⟩ := hp17
    rw [hq, hset_hset] at hH
    exact hp_aret hx hb hr (Or.inl ⟨_, rfl⟩) (Or.inr ⟨_, rfl⟩) hlocks hH hS (by decide) (by decide) dX0_madeRoom_58 (⟨_, rfl, nnw14, by rw [w13]⟩)
  by_cases w19 : k9 = 3
  · refine lv_tableIn (tgt := 59) hx hb dX0_madeRoom_1 (by rw [w19]; decide) (by rw [w19]; decide) (by rw [w19]; rfl) (by decide) ?_
    obtain ⟨nw20, hnw20, nnw20⟩ := hH.fr
    refine hp_new (ci := 13) (C := RX17) (T := TX17) (N := 1) (fs := [.int 0]) hx hb hts in_X17 tyX17 tyX17_ok hown (hts _ q855) (hts _ q856) (hts _ q135) hK hH hS hA rfl (by decide) (by decide) (by decide) 25 dX0_madeRoom_59 (fun H _ hH hS => ?_)
    rw [← hnw20] at hH ⊢
    have hH : HP D CL (zA s0) (hset h nw20 (.inr (13, [.int 0])) 25) H := hH
    have e21 : (hset h nw20 (.inr (13, [.int 0])) 25) nw20 = some (.inr (13, [.int 0]), 25) := hset_self _ _ _ _
    refine lv_dup hx hb dX0_madeRoom_62 rfl ?_
    refine lv_iload_n hx hb dX0_madeRoom_63 rfl (lv_at hl 1 rfl) ?_
    refine hp_callI (As := [.int (nI np)]) (rest := [.ref nw20]) hx hb hml hown hts hPB hH hS (mc_room_X17 hK0 hG e21) 1 q857 q858 q135 q859 rfl (by decide +kernel) ⟨rfl, rfl⟩ (by decide) rfl hl.1 rfl (Nat.le_of_ble_eq_true rfl) (by decide) dX0_madeRoom_64 (fun v22 h24 H locs hp23 _ hH hS => ?_)
    obtain ⟨rfl, hq⟩ := hp23
    rw [hq, hset_hset] at hH
    exact hp_aret hx hb hr (Or.inl ⟨_, rfl⟩) (Or.inr ⟨_, rfl⟩) hlocks hH hS (by decide) (by decide) dX0_madeRoom_67 (⟨_, rfl, nnw20, by rw [w19]⟩)
  refine lv_tableOut (tgt := 68) hx hb dX0_madeRoom_1 (by rw [nI_toInt (by first | omega | (refine Nat.lt_of_lt_of_le (Nat.mod_lt _ ?_) ?_ <;> omega))]; omega) (by decide) ?_
  obtain ⟨nw25, hnw25, nnw25⟩ := hH.fr
  refine hp_new (ci := 14) (C := RX18) (T := TX18) (N := 1) (fs := [.int 0]) hx hb hts in_X18 tyX18 tyX18_ok hown (hts _ q863) (hts _ q864) (hts _ q136) hK hH hS hA rfl (by decide) (by decide) (by decide) 25 dX0_madeRoom_68 (fun H _ hH hS => ?_)
  rw [← hnw25] at hH ⊢
  have hH : HP D CL (zA s0) (hset h nw25 (.inr (14, [.int 0])) 25) H := hH
  have e26 : (hset h nw25 (.inr (14, [.int 0])) 25) nw25 = some (.inr (14, [.int 0]), 25) := hset_self _ _ _ _
  refine lv_dup hx hb dX0_madeRoom_71 rfl ?_
  refine lv_iload_n hx hb dX0_madeRoom_72 rfl (lv_at hl 1 rfl) ?_
  refine hp_callI (As := [.int (nI np)]) (rest := [.ref nw25]) hx hb hml hown hts hPB hH hS (mc_room_X18 hK0 hG e26) 1 q865 q866 q136 q867 rfl (by decide +kernel) ⟨rfl, rfl⟩ (by decide) rfl hl.1 rfl (Nat.le_of_ble_eq_true rfl) (by decide) dX0_madeRoom_73 (fun v27 h29 H locs hp28 _ hH hS => ?_)
  obtain ⟨rfl, hq⟩ := hp28
  rw [hq, hset_hset] at hH
  exact hp_aret hx hb hr (Or.inl ⟨_, rfl⟩) (Or.inr ⟨_, rfl⟩) hlocks hH hS (by decide) (by decide) dX0_madeRoom_76 (⟨_, rfl, nnw25, by rw [show k9 = 4 by omega]⟩)
set_option maxHeartbeats 4000000 in
theorem mc_room (hK0 : va_K D CL (TYS K) s0) {av : Nat → Nat} {ed mi : Nat} (hG : GX s0 wd av ed mi) {S : Ab} {w : Nat → Nat} {Ls : Nat → List Nat} {Jn : Nat → Nat} {Z : Nat → Nat → Int32} (hO : SOK S) (hO2 : SO2 S) (hW : CW K ed S h w Ls Jn Z) (kd n : Int32) : Met l yX0_room (ws_ yX0_room cX0_room 3 ((Option.some Jvm.ClassFile.FieldType.int))) (rmk 7 2 1852) (va_Pc [.ref (w 0), .int kd, .int n] (PB s0 D CL (h))) (QR s0 D CL (fun v h1 => v = some (.int (spRoom S kd n)) ∧ PBX K ed (stRoom S kd n) (w 0) h h1)) 2 1852 (zA s0) := by
  refine hp_met (by decide) (Nat.le_of_ble_eq_true rfl) hK0 ?_
  intro p e s m below meth cd ls hx hb hr hlocks hml hown hnm hts hK hPB hl hS hH hA
  have hl : lv_has ls 3 [(0, .ref (w 0)), (1, .int kd), (2, .int n)] := hl
  have hown : s.vm.findClass RX0 = some m.cls := hown
  have hn := hO.n
  have hmk := hO.mk
  have hrl := hO.rl
  have hrm := hO.rm
  have hsz := hO.sz
  have hg14 := gcap_14 (Jn 3) (AL.j13 (hW.li 3 (by decide)))
  refine lv_iload_n hx hb dX0_room_0 rfl (lv_at hl 1 rfl) ?_
  refine lv_iconst (v := nI 0) hx hb dX0_room_1 (by decide) ?_
  refine lv_iconst (v := nI 4) hx hb dX0_room_2 (by decide) ?_
  refine hp_callS (As := [.int kd, .int (nI 0), .int (nI 4)]) (rest := []) hx hb hml hown hts hPB hH hS (mc_in hK0 kd (nI 0) (nI 4)) 3 (lw_S q268 q269 q102 q270) (by decide +kernel) ⟨rfl, rfl⟩ (by first | decide | omega | (simp only [rmk]; omega)) rfl hl.1 rfl (Nat.le_of_ble_eq_true rfl) (by first | decide | omega | (simp only [rmk]; omega)) dX0_room_3 (fun v1 h3 H locs hp2 _ hH hS => ?_)
  obtain ⟨rfl, hq⟩ := hp2
  rw [hq] at hH
  refine lv_top (y := zI (inN kd 5)) (congrArg zI (in_ik (by omega))) ?_
  refine lvB_eq (tgt := 30) hx hb dX0_room_6 (by decide) (fun c4 => ?_) (fun c4 => ?_)
  · refine lv_iconst (v := (-1)) hx hb dX0_room_30 (by decide) ?_
    exact hp_iret hx hb hr hlocks hH hS (by first | decide | omega | (simp only [rmk]; omega)) (by first | decide | omega | (simp only [rmk]; omega)) dX0_room_31 (⟨congrArg some (congrArg Value.int (by rw [spRoom, if_neg (by rw [show okRoom S kd n = false from by simp [okRoom, c4]]; decide)])), by rw [stRoom, if_neg (by rw [show okRoom S kd n = false from by simp [okRoom, c4]]; decide)]; exact pbx_h hW⟩)
  · obtain ⟨k9, hkk9, rfl⟩ := inN_t c4
    have ekk9 := nI_clamp (show k9 < 2 ^ 31 by omega)
    refine lv_iload_n hx hb dX0_room_9 rfl (lv_at hl 2 rfl) ?_
    refine lv_iconst (v := nI 1) hx hb dX0_room_10 (by decide) ?_
    refine lv_bipush (v := nI 10) hx hb dX0_room_11 (by decide) ?_
    refine hp_callS (As := [.int n, .int (nI 1), .int (nI 10)]) (rest := []) hx hb hml hown hts hPB hH hS (mc_in hK0 n (nI 1) (nI 10)) 3 (lw_S q268 q269 q102 q270) (by decide +kernel) ⟨rfl, rfl⟩ (by first | decide | omega | (simp only [rmk]; omega)) rfl hl.1 rfl (Nat.le_of_ble_eq_true rfl) (by first | decide | omega | (simp only [rmk]; omega)) dX0_room_13 (fun v5 h7 H locs hp6 _ hH hS => ?_)
    obtain ⟨rfl, hq⟩ := hp6
    rw [hq] at hH
    refine lv_top (y := zI (inN (n - 1) 10)) (congrArg zI (in_i1 (by omega))) ?_
    refine lvB_eq (tgt := 30) hx hb dX0_room_16 (by decide) (fun c8 => ?_) (fun c8 => ?_)
    · refine lv_iconst (v := (-1)) hx hb dX0_room_30 (by decide) ?_
      exact hp_iret hx hb hr hlocks hH hS (by first | decide | omega | (simp only [rmk]; omega)) (by first | decide | omega | (simp only [rmk]; omega)) dX0_room_31 (⟨congrArg some (congrArg Value.int (by rw [spRoom, if_neg (by rw [show okRoom S (nI k9) n = false from by simp [okRoom, c4, ekk9, c8]]; decide)])), by rw [stRoom, if_neg (by rw [show okRoom S (nI k9) n = false from by simp [okRoom, c4, ekk9, c8]]; decide)]; exact pbx_h hW⟩)
    · obtain ⟨n9, hn9, rfl⟩ := in1_t c8
      have ekn9 := nI_clamp (show n9 < 2 ^ 31 by omega)
      refine lv_aload_n hx hb dX0_room_19 rfl (lv_at hl 0 rfl) ?_
      refine hp_get (C := RX0) (T := TX0) (N := 14) (v := .ref (w 6)) hx hb hts in_X0 hown hK hH hW.x rfl 5 (by decide) (hts _ q217) (fun _ z => z) rfl dX0_room_20 ?_
      refine hp_siz hx hb hml hown hts hPB hK0 hK hH hS hG (hW.li 3 (by decide)) hW.nq q807 (by first | decide | (simp only [rmk]; omega)) hl.1 rfl (Nat.le_of_ble_eq_true rfl) (by first | decide | omega | (simp only [rmk]; omega)) dX0_room_23 (fun H locs hH hS => ?_)
      refine lv_iconst (v := nI 4) hx hb dX0_room_26 (by decide) ?_
      refine lvN_ne (tgt := 32) hx hb (by first | omega | (refine Nat.lt_of_lt_of_le (Nat.mod_lt _ ?_) ?_ <;> omega)) (by first | omega | (refine Nat.lt_of_lt_of_le (Nat.mod_lt _ ?_) ?_ <;> omega)) dX0_room_27 (by decide) (fun c3 => ?_) (fun c3 => ?_)
      · refine lv_aload_n hx hb dX0_room_32 rfl (lv_at hl 0 rfl) ?_
        refine hp_get (C := RX0) (T := TX0) (N := 14) (v := .ref (w 6)) hx hb hts in_X0 hown hK hH hW.x rfl 5 (by decide) (hts _ q217) (fun _ z => z) rfl dX0_room_33 ?_
        refine lv_iload_n hx hb dX0_room_36 rfl (lv_at hl 1 rfl) ?_
        refine lv_iload_n hx hb dX0_room_37 rfl (lv_at hl 2 rfl) ?_
        refine hp_callS (As := [.int (nI k9), .int (nI n9)]) (rest := [.ref (w 6)]) hx hb hml hown hts hPB hH hS (mc_madeRoom hK0 hG (k9 := k9) (np := n9) (by omega)) 2 (lw_S q817 q818 q102 q819) (by decide +kernel) ⟨rfl, rfl⟩ (by first | decide | omega | (simp only [rmk]; omega)) rfl hl.1 rfl (Nat.le_of_ble_eq_true rfl) (by first | decide | omega | (simp only [rmk]; omega)) dX0_room_38 (fun v9 h11 H locs hp10 _ hH hS => ?_)
        obtain ⟨q9, rfl, hq9, hq⟩ := hp10
        rw [hq] at hH
        have hW0 := hW
        have hW := hW0.X (exH.new (e1 := .inr (10 + k9, [.int (nI n9)])) (u1 := 25) hq9)
        refine hp_add hx hb hml hown hts hPB hK0 hK hH hS hG (x := q9) (hW.li 3 (by decide)) (⟨_, _, _, hset_self _ _ _ _⟩) (by rw [hW.nq, gcap_13]; omega) q810 (by first | decide | omega | (simp only [rmk]; omega)) hl.1 rfl (Nat.le_of_ble_eq_true rfl) (by first | decide | omega | (simp only [rmk]; omega)) dX0_room_41 (fun j2 h4 H locs hA4 hf4 hk4 hj4 hH hS => ?_)
        have hg4 := gs_d hj4
        refine lv_pop hx hb dX0_room_44 rfl ?_
        refine lv_aload_n hx hb dX0_room_45 rfl (lv_at hl 0 rfl) ?_
        refine hp_get (C := RX0) (T := TX0) (N := 14) (v := .ref (w 6)) hx hb hts in_X0 hown hK hH (hf4 _ _ _ hW.x (by decide)) rfl 5 (by decide) (hts _ q217) (fun _ z => z) rfl dX0_room_46 ?_
        refine hp_siz hx hb hml hown hts hPB hK0 hK hH hS hG hA4 (n9 := aRm S + 1) (by rw [List.length_append, hW0.nq]; rfl) q807 (by first | decide | (simp only [rmk]; omega)) hl.1 rfl (Nat.le_of_ble_eq_true rfl) (by first | decide | omega | (simp only [rmk]; omega)) dX0_room_49 (fun H locs hH hS => ?_)
        refine lv_iconst (v := nI 1) hx hb dX0_room_52 (by decide) ?_
        refine lv_isub hx hb dX0_room_53 ?_
        refine lv_top (y := nI ((aRm S + 1) - 1)) (pk_sub (by first | omega | (refine Nat.lt_of_lt_of_le (Nat.mod_lt _ ?_) ?_ <;> omega))) ?_
        exact hp_iret hx hb hr hlocks hH hS (by first | decide | omega | (simp only [rmk]; omega)) (by first | decide | omega | (simp only [rmk]; omega)) dX0_room_54 (⟨congrArg some (congrArg Value.int (by rw [spRoom, if_pos (show okRoom S (nI k9) (nI n9) = true from by simp [okRoom, c4, ekk9, c8, ekn9, c3])]; rfl)), by rw [show stRoom S (nI k9) (nI n9) = _ from if_pos (show okRoom S (nI k9) (nI n9) = true from by simp [okRoom, c4, ekk9, c8, ekn9, c3]), ekk9, ekn9]; exact pbx_q hW0 hq9 hA4 hf4 hk4⟩)
      · refine lv_iconst (v := (-1)) hx hb dX0_room_30 (by decide) ?_
        exact hp_iret hx hb hr hlocks hH hS (by first | decide | omega | (simp only [rmk]; omega)) (by first | decide | omega | (simp only [rmk]; omega)) dX0_room_31 (⟨congrArg some (congrArg Value.int (by rw [spRoom, if_neg (by rw [show okRoom S (nI k9) (nI n9) = false from by first | (simp [okRoom, c4, ekk9, c8, ekn9, c3]; done) | (simp [okRoom, c4, ekk9, c8, ekn9]; omega)]; decide)])), by rw [stRoom, if_neg (by rw [show okRoom S (nI k9) (nI n9) = false from by first | (simp [okRoom, c4, ekk9, c8, ekn9, c3]; done) | (simp [okRoom, c4, ekk9, c8, ekn9]; omega)]; decide)]; exact pbx_h hW⟩)
end MODEL
