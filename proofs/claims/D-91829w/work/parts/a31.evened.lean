/-! by gen/mspec.py -/
set_option maxRecDepth 100000
section MODEL
variable {l : Launch} {s0 : State} {D : va_G} {K : Nat → ClassId} {wd : Nat → Nat} {o : Nat} {h : Hp} {I : Nat → Int32} {V : Nat → Nat → Int32} {J : Nat → Nat → Int64}
set_option maxHeartbeats 4000000 in
theorem mc_mindsQ (hK0 : va_K D CL (TYS K) s0) {av : Nat → Nat} {ed mi : Nat} (hG : GX s0 wd av ed mi) {S : Ab} {w : Nat → Nat} {Ls : Nat → List Nat} {Jn : Nat → Nat} {Z : Nat → Nat → Int32} (hO : SOK S) (hO2 : SO2 S) (hW : CW K ed S h w Ls Jn Z) (room cr g : Int32) : Met l yX0_minds (ws_ yX0_minds cX0_minds 9 ((Option.some Jvm.ClassFile.FieldType.int))) (rmk 8 1094 9093) (va_Pc [.ref (w 0), .int room, .int cr, .int g] (PB s0 D CL (h))) (QR s0 D CL (fun v h1 => v = some (.int (spMinds S room cr g)) ∧ h1 = h)) 1094 9093 (zA s0) := by
  refine hp_met (by decide) (Nat.le_of_ble_eq_true rfl) hK0 ?_
  intro p e s m below meth cd ls hx hb hr hlocks hml hown hnm hts hK hPB hl hS hH hA
  have hl : lv_has ls 9 [(0, .ref (w 0)), (1, .int room), (2, .int cr), (3, .int g)] := hl
  have hown : s.vm.findClass RX0 = some m.cls := hown
  have hn := hO.n
  have hmk := hO.mk
  have hrl := hO.rl
  have hrm := hO.rm
  have hsz := hO.sz
  refine lv_aload_n hx hb dX0_minds_0 rfl (lv_at hl 0 rfl) ?_
  refine lv_iload_n hx hb dX0_minds_1 rfl (lv_at hl 1 rfl) ?_
  refine lv_iload_n hx hb dX0_minds_2 rfl (lv_at hl 2 rfl) ?_
  refine hp_callV (As := [.int room, .int cr]) (rest := []) hx hb hml hown hts hPB hK hH hS (mc_isCourse hK0 hG hO hO2 hW room cr) hW.x rfl rfl 2 (lw_V q1013 q1015 qs29 q102 q1016) (by decide +kernel) ⟨rfl, rfl⟩ (by decide) rfl hl.1 rfl (Nat.le_of_ble_eq_true rfl) (by decide) dX0_minds_3 (fun v1 h3 H locs hp2 _ hH hS => ?_)
  obtain ⟨rfl, hq⟩ := hp2
  rw [hq] at hH
  refine lvB_eq (tgt := 22) hx hb dX0_minds_6 (by decide) (fun c4 => ?_) (fun c4 => ?_)
  · refine lv_iconst (v := (-1)) hx hb dX0_minds_22 (by decide) ?_
    exact hp_iret hx hb hr hlocks hH hS (by decide) (by decide) dX0_minds_23 (⟨congrArg some (congrArg Value.int (by simp [spMinds, c4])), rfl⟩)
  · obtain ⟨qr, hqr, rfl⟩ := inN_t (Bool.and_eq_true_iff.mp c4).1
    obtain ⟨c9, hc9, rfl⟩ := inN_t (Bool.and_eq_true_iff.mp c4).2
    have eqr := nI_clamp (show qr < 2 ^ 31 by omega)
    have ec9 := nI_clamp (show c9 < 2 ^ 31 by omega)
    have hiq := (Bool.and_eq_true_iff.mp c4).1
    have hic := (Bool.and_eq_true_iff.mp c4).2
    refine lv_iload_n hx hb dX0_minds_9 rfl (lv_at hl 3 rfl) ?_
    refine lv_iconst (v := (-1)) hx hb dX0_minds_10 (by decide) ?_
    refine lv_icmp_eq (tgt := 24) hx hb dX0_minds_11 (by decide) (fun c1 => ?_) (fun c1 => ?_)
    · refine lv_aload_n hx hb dX0_minds_24 rfl (lv_at hl 0 rfl) ?_
      refine lv_iload_n hx hb dX0_minds_25 rfl (lv_at hl 1 rfl) ?_
      refine lv_iload_n hx hb dX0_minds_26 rfl (lv_at hl 2 rfl) ?_
      refine lv_iconst (v := nI 0) hx hb dX0_minds_27 (by decide) ?_
      refine hp_callV (As := [.int (nI qr), .int (nI c9), .int (nI 0)]) (rest := []) hx hb hml hown hts hPB hK hH hS (mc_slightsIn hK0 hG hO hO2 hW (q := qr) (cr := c9) (on := 0) (by omega) (by omega) (by omega)) hW.x rfl rfl 3 (lw_V q1017 q1019 qs30 q102 q1020) (by decide +kernel) ⟨rfl, rfl⟩ (by decide) rfl hl.1 rfl (Nat.le_of_ble_eq_true rfl) (by decide) dX0_minds_28 (fun v6 h8 H locs hp7 _ hH hS => ?_)
      obtain ⟨al5, jl5, tl5, sl5, Ll5, rfl, hAl5, hLl5, hxl5, hgl5, hul5, hvl5⟩ := hp7
      have hW := hW.X hxl5
      have hsk : ∀ t ∈ slL S qr c9 0, slK S t := slL_ok hO hO2
      have htl5 := slL_90 hO hO2 qr c9 0
      refine lv_astore (lv' := [(4, .ref al5), (0, .ref (w 0)), (1, .int (nI qr)), (2, .int (nI c9)), (3, .int g)]) hx hb dX0_minds_31 hl (by decide) rfl (fun ls hl => ?_)
      refine lv_iload_n hx hb dX0_minds_33 rfl (lv_at hl 4 rfl) ?_
      refine lv_iconst (v := (-1)) hx hb dX0_minds_34 (by decide) ?_
      refine lv_icmp_eq (tgt := 45) hx hb dX0_minds_35 (by decide) (fun c2 => ?_) (fun c2 => ?_)
      · refine lv_iconst (v := (-1)) hx hb dX0_minds_45 (by decide) ?_
        refine lv_istore (lv' := [(5, .int (-1)), (4, .ref al5), (0, .ref (w 0)), (1, .int (nI qr)), (2, .int (nI c9)), (3, .int g)]) hx hb dX0_minds_46 hl (by decide) rfl (fun ls hl => ?_)
        refine lv_iconst (v := nI 0) hx hb dX0_minds_48 (by decide) ?_
        refine lv_istore (lv' := [(6, .int (nI 0)), (5, .int (-1)), (4, .ref al5), (0, .ref (w 0)), (1, .int (nI qr)), (2, .int (nI c9)), (3, .int g)]) hx hb dX0_minds_49 hl (by decide) rfl (fun ls hl => ?_)
        refine lv_iconst (v := nI 0) hx hb dX0_minds_51 (by decide) ?_
        refine lv_istore (lv' := [(7, .int (nI 0)), (6, .int (nI 0)), (5, .int (-1)), (4, .ref al5), (0, .ref (w 0)), (1, .int (nI qr)), (2, .int (nI c9)), (3, .int g)]) hx hb dX0_minds_52 hl (by decide) rfl (fun ls hl => ?_)
        refine w_loop1 (fun (x : Nat) => aN S - x) (fun (x : Nat) H locs ls => (x ≤ aN S) ∧ HP D CL (zA s0) h8 H ∧ va_S (zA s0) s.heap H locs ∧ lv_has ls 9 [(0, .ref (w 0)), (3, .int g), (4, .ref al5), (5, .int (mBest (mnd S (slL S qr c9 0)) x)), (6, .int (nI (mMost (mnd S (slL S qr c9 0)) x))), (7, .int (nI x))]) ?_ 0 ⟨Nat.zero_le _, hH, hS, lv_sub hl [4, 7, 3, 2, 1, 0] rfl⟩
        intro x ih54 H locs ls hP
        obtain ⟨hxx, hH, hS, hl⟩ := hP
        have hmm := mMost_le (fun g => mnd_b hO qr c9 0 g) x
        have hmx := mnd_b hO qr c9 0 x
        refine lv_iload hx hb dX0_minds_54 (lv_at hl 5 rfl) ?_
        refine lv_aload_n hx hb dX0_minds_56 rfl (lv_at hl 0 rfl) ?_
        refine hp_get (C := RX0) (T := TX0) (N := 14) (v := .ref (w 3)) hx hb hts in_X0 hown hK hH hW.x rfl 2 (by decide) (hts _ q214) (fun _ z => z) rfl dX0_minds_57 ?_
        refine hp_siz hx hb hml hown hts hPB hK0 hK hH hS hG (hW.li 0 (by decide)) hW.ng q807 (by first | decide | (simp only [rmk]; omega)) hl.1 rfl (Nat.le_of_ble_eq_true rfl) (by decide) dX0_minds_60 (fun H locs hH hS => ?_)
        refine lvN_ge (tgt := 99) hx hb (by first | omega | (refine Nat.lt_of_lt_of_le (Nat.mod_lt _ ?_) ?_ <;> omega)) (by first | omega | (refine Nat.lt_of_lt_of_le (Nat.mod_lt _ ?_) ?_ <;> omega)) dX0_minds_63 (by decide) (fun cx => ?_) (fun cx => ?_)
        · have hH := hH.X hxl5
          refine lv_iload hx hb dX0_minds_99 (lv_at hl 3 rfl) ?_
          exact hp_iret hx hb hr hlocks hH hS (by decide) (by decide) dX0_minds_101 (⟨congrArg some (congrArg Value.int (by rw [spMinds, if_pos (show (inN (nI qr) (aRm S) && inN (nI c9) 10 && (decide (g = -1) || inN g (aN S))) = true by simp [hiq, hic, c1]), if_pos c1, eqr, ec9, show x = aN S by omega])), rfl⟩)
        · refine lv_aload hx hb dX0_minds_66 (lv_at hl 2 rfl) ?_
          refine lv_iload hx hb dX0_minds_68 (lv_at hl 5 rfl) ?_
          refine hp_callS (As := [.ref al5, .int (nI x)]) (rest := []) hx hb hml hown hts hPB hH hS (mc_minded hK0 hG hO (T := slL S qr c9 0) (g := x) hAl5 hLl5 hsk htl5 (by omega)) 2 (lw_S q1092 q1093 q102 q1094) (by decide +kernel) ⟨rfl, rfl⟩ (by decide) rfl hl.1 rfl (Nat.le_of_ble_eq_true rfl) (by decide) dX0_minds_70 (fun v9 h11 H locs hp10 _ hH hS => ?_)
          obtain ⟨rfl, hq⟩ := hp10
          rw [hq] at hH
          refine lv_istore (lv' := [(8, .int (nI (mnd S (slL S qr c9 0) x))), (0, .ref (w 0)), (3, .int g), (4, .ref al5), (5, .int (mBest (mnd S (slL S qr c9 0)) x)), (6, .int (nI (mMost (mnd S (slL S qr c9 0)) x))), (7, .int (nI x))]) hx hb dX0_minds_73 hl (by decide) rfl (fun ls hl => ?_)
          refine lv_iload hx hb dX0_minds_75 (lv_at hl 0 rfl) ?_
          refine lv_iload hx hb dX0_minds_77 (lv_at hl 5 rfl) ?_
          refine lvN_gt (tgt := 85) hx hb (by first | omega | (refine Nat.lt_of_lt_of_le (Nat.mod_lt _ ?_) ?_ <;> omega)) (by first | omega | (refine Nat.lt_of_lt_of_le (Nat.mod_lt _ ?_) ?_ <;> omega)) dX0_minds_79 (by decide) (fun cg => ?_) (fun cg => ?_)
          · refine lv_iload hx hb dX0_minds_85 (lv_at hl 0 rfl) ?_
            refine lv_istore (lv' := [(6, .int (nI (mnd S (slL S qr c9 0) x))), (8, .int (nI (mnd S (slL S qr c9 0) x))), (0, .ref (w 0)), (3, .int g), (4, .ref al5), (5, .int (mBest (mnd S (slL S qr c9 0)) x)), (7, .int (nI x))]) hx hb dX0_minds_87 hl (by decide) rfl (fun ls hl => ?_)
            refine lv_iload hx hb dX0_minds_89 (lv_at hl 6 rfl) ?_
            refine lv_istore (lv' := [(5, .int (nI x)), (6, .int (nI (mnd S (slL S qr c9 0) x))), (8, .int (nI (mnd S (slL S qr c9 0) x))), (0, .ref (w 0)), (3, .int g), (4, .ref al5), (7, .int (nI x))]) hx hb dX0_minds_91 hl (by decide) rfl (fun ls hl => ?_)
            refine lv_iinc (v := nI (x + 1)) (lv' := [(7, .int (nI (x + 1))), (5, .int (nI x)), (6, .int (nI (mnd S (slL S qr c9 0) x))), (8, .int (nI (mnd S (slL S qr c9 0) x))), (0, .ref (w 0)), (3, .int g), (4, .ref al5)]) hx hb dX0_minds_93 hl (k := 6) rfl (nI_add x 1) (by decide) rfl (fun ls hl => ?_)
            refine lv_goto (tgt := 54) hx hb dX0_minds_96 (by decide) ?_
            have hmb := mbb_t (f := mnd S (slL S qr c9 0)) (show x < 1000 by omega) cg
            have hl : lv_has ls 9 [(7, .int (nI (x + 1))), (5, .int (mBest (mnd S (slL S qr c9 0)) (x + 1))), (6, .int (nI (mnd S (slL S qr c9 0) x))), (8, .int (nI (mnd S (slL S qr c9 0) x))), (0, .ref (w 0)), (3, .int g), (4, .ref al5)] := by rw [show mBest (mnd S (slL S qr c9 0)) (x + 1) = nI x from hmb.1]; exact hl
            have hl : lv_has ls 9 [(7, .int (nI (x + 1))), (5, .int (mBest (mnd S (slL S qr c9 0)) (x + 1))), (6, .int (nI (mMost (mnd S (slL S qr c9 0)) (x + 1)))), (8, .int (nI (mnd S (slL S qr c9 0) x))), (0, .ref (w 0)), (3, .int g), (4, .ref al5)] := by rw [show nI (mMost (mnd S (slL S qr c9 0)) (x + 1)) = nI (mnd S (slL S qr c9 0) x) from congrArg nI hmb.2]; exact hl
            exact ih54 (x + 1) (by omega) H locs ls ⟨by omega, hH, hS, lv_sub hl [4, 5, 6, 1, 2, 0] rfl⟩
          · refine lv_goto (tgt := 93) hx hb dX0_minds_82 (by decide) ?_
            refine lv_iinc (v := nI (x + 1)) (lv' := [(7, .int (nI (x + 1))), (8, .int (nI (mnd S (slL S qr c9 0) x))), (0, .ref (w 0)), (3, .int g), (4, .ref al5), (5, .int (mBest (mnd S (slL S qr c9 0)) x)), (6, .int (nI (mMost (mnd S (slL S qr c9 0)) x)))]) hx hb dX0_minds_93 hl (k := 6) rfl (nI_add x 1) (by decide) rfl (fun ls hl => ?_)
            refine lv_goto (tgt := 54) hx hb dX0_minds_96 (by decide) ?_
            have hmb := mbb_f (f := mnd S (slL S qr c9 0)) (Nat.not_lt.mpr cg)
            have hl : lv_has ls 9 [(7, .int (nI (x + 1))), (8, .int (nI (mnd S (slL S qr c9 0) x))), (0, .ref (w 0)), (3, .int g), (4, .ref al5), (5, .int (mBest (mnd S (slL S qr c9 0)) (x + 1))), (6, .int (nI (mMost (mnd S (slL S qr c9 0)) x)))] := by rw [show mBest (mnd S (slL S qr c9 0)) (x + 1) = mBest (mnd S (slL S qr c9 0)) x from hmb.1]; exact hl
            have hl : lv_has ls 9 [(7, .int (nI (x + 1))), (8, .int (nI (mnd S (slL S qr c9 0) x))), (0, .ref (w 0)), (3, .int g), (4, .ref al5), (5, .int (mBest (mnd S (slL S qr c9 0)) (x + 1))), (6, .int (nI (mMost (mnd S (slL S qr c9 0)) (x + 1))))] := by rw [show nI (mMost (mnd S (slL S qr c9 0)) (x + 1)) = nI (mMost (mnd S (slL S qr c9 0)) x) from congrArg nI hmb.2]; exact hl
            exact ih54 (x + 1) (by omega) H locs ls ⟨by omega, hH, hS, lv_sub hl [2, 3, 4, 5, 6, 0] rfl⟩
      · exact absurd c1 c2
    · refine lv_aload_n hx hb dX0_minds_14 rfl (lv_at hl 0 rfl) ?_
      refine lv_iload_n hx hb dX0_minds_15 rfl (lv_at hl 3 rfl) ?_
      refine hp_callV (As := [.int g]) (rest := []) hx hb hml hown hts hPB hK hH hS (mc_guestAt hK0 hG hO hO2 hW g) hW.x rfl rfl 1 (lw_V q875 q877 qs22 q102 q878) (by decide +kernel) ⟨rfl, rfl⟩ (by decide) rfl hl.1 rfl (Nat.le_of_ble_eq_true rfl) (by decide) dX0_minds_16 (fun v14 h16 H locs hp15 _ hH hS => ?_)
      rcases hp15.1 with ⟨k12, hk12, hgk12, rfl⟩ | ⟨cz13, rfl⟩
      · have hq := hp15.2; rw [hq] at hH
        subst hgk12
        have hik12 : inN (nI k12) (aN S) = true := by rw [inN_nI (by omega)]; exact decide_eq_true hk12
        have ek12 := nI_clamp (show k12 < 2 ^ 31 by omega)
        refine lv_ifnonnull (tgt := 24) hx hb dX0_minds_19 (by decide) ?_
        refine lv_aload_n hx hb dX0_minds_24 rfl (lv_at hl 0 rfl) ?_
        refine lv_iload_n hx hb dX0_minds_25 rfl (lv_at hl 1 rfl) ?_
        refine lv_iload_n hx hb dX0_minds_26 rfl (lv_at hl 2 rfl) ?_
        refine lv_iconst (v := nI 0) hx hb dX0_minds_27 (by decide) ?_
        refine hp_callV (As := [.int (nI qr), .int (nI c9), .int (nI 0)]) (rest := []) hx hb hml hown hts hPB hK hH hS (mc_slightsIn hK0 hG hO hO2 hW (q := qr) (cr := c9) (on := 0) (by omega) (by omega) (by omega)) hW.x rfl rfl 3 (lw_V q1017 q1019 qs30 q102 q1020) (by decide +kernel) ⟨rfl, rfl⟩ (by decide) rfl hl.1 rfl (Nat.le_of_ble_eq_true rfl) (by decide) dX0_minds_28 (fun v18 h20 H locs hp19 _ hH hS => ?_)
        obtain ⟨al17, jl17, tl17, sl17, Ll17, rfl, hAl17, hLl17, hxl17, hgl17, hul17, hvl17⟩ := hp19
        have hW := hW.X hxl17
        have hsk : ∀ t ∈ slL S qr c9 0, slK S t := slL_ok hO hO2
        have htl17 := slL_90 hO hO2 qr c9 0
        refine lv_astore (lv' := [(4, .ref al17), (0, .ref (w 0)), (1, .int (nI qr)), (2, .int (nI c9)), (3, .int (nI k12))]) hx hb dX0_minds_31 hl (by decide) rfl (fun ls hl => ?_)
        refine lv_iload_n hx hb dX0_minds_33 rfl (lv_at hl 4 rfl) ?_
        refine lv_iconst (v := (-1)) hx hb dX0_minds_34 (by decide) ?_
        refine lv_icmp_eq (tgt := 45) hx hb dX0_minds_35 (by decide) (fun c2 => ?_) (fun c2 => ?_)
        · exact absurd c2 (nI_m1 (by omega))
        · refine lv_aload hx hb dX0_minds_38 (lv_at hl 0 rfl) ?_
          refine lv_iload_n hx hb dX0_minds_40 rfl (lv_at hl 4 rfl) ?_
          refine hp_callS (As := [.ref al17, .int (nI k12)]) (rest := []) hx hb hml hown hts hPB hH hS (mc_minded hK0 hG hO (T := slL S qr c9 0) (g := k12) hAl17 hLl17 hsk htl17 (by omega)) 2 (lw_S q1092 q1093 q102 q1094) (by decide +kernel) ⟨rfl, rfl⟩ (by decide) rfl hl.1 rfl (Nat.le_of_ble_eq_true rfl) (by decide) dX0_minds_41 (fun v21 h23 H locs hp22 _ hH hS => ?_)
          obtain ⟨rfl, hq⟩ := hp22
          rw [hq] at hH
          have hH := hH.X hxl17
          exact hp_iret hx hb hr hlocks hH hS (by decide) (by decide) dX0_minds_44 (⟨congrArg some (congrArg Value.int (by rw [spMinds, if_pos (show (inN (nI qr) (aRm S) && inN (nI c9) 10 && (decide (nI k12 = -1) || inN (nI k12) (aN S))) = true by simp [hiq, hic, hik12]), if_neg (nI_m1 (by omega)), eqr, ec9, ek12])), rfl⟩)
      · have hq := hp15.2; rw [hq] at hH
        refine lv_ifnonnullN hx hb dX0_minds_19 ?_
        refine lv_iconst (v := (-1)) hx hb dX0_minds_22 (by decide) ?_
        exact hp_iret hx hb hr hlocks hH hS (by decide) (by decide) dX0_minds_23 (⟨congrArg some (congrArg Value.int (by simp [spMinds, hiq, hic, eqr, ec9, c1, cz13])), rfl⟩)
set_option maxHeartbeats 4000000 in
theorem mc_evened (hK0 : va_K D CL (TYS K) s0) {av : Nat → Nat} {ed mi : Nat} (hG : GX s0 wd av ed mi) {S : Ab} {w : Nat → Nat} {Ls : Nat → List Nat} {Jn : Nat → Nat} {Z : Nat → Nat → Int32} (hNX : NX s0) (hO : SOK S) (hO2 : SO2 S) (hW : CW K ed S h w Ls Jn Z) (room courses k : Int32) : Met l yX0_evened (ws_ yX0_evened cX0_evened 16 ((Option.some Jvm.ClassFile.FieldType.int))) (rmk 8 8753 72824) (va_Pc [.ref (w 0), .int room, .int courses, .int k] (PB s0 D CL (h))) (QR s0 D CL (fun v h1 => v = some (.int (spEvened S room courses k)) ∧ h1 = h)) 8753 72824 (zA s0) := by
  refine hp_met (by decide) (Nat.le_of_ble_eq_true rfl) hK0 ?_
  intro p e s m below meth cd ls hx hb hr hlocks hml hown hnm hts hK hPB hl hS hH hA
  have hl : lv_has ls 16 [(0, .ref (w 0)), (1, .int room), (2, .int courses), (3, .int k)] := hl
  have hown : s.vm.findClass RX0 = some m.cls := hown
  have hn := hO.n
  have hmk := hO.mk
  have hrl := hO.rl
  have hrm := hO.rm
  have hsz := hO.sz
  refine lv_aload_n hx hb dX0_evened_0 rfl (lv_at hl 0 rfl) ?_
  refine lv_iload_n hx hb dX0_evened_1 rfl (lv_at hl 1 rfl) ?_
  refine hp_callV (As := [.int room]) (rest := []) hx hb hml hown hts hPB hK hH hS (mc_roomAt hK0 hG hO hO2 hW room) hW.x rfl rfl 1 (lw_V q924 q926 qs24 q102 q927) (by decide +kernel) ⟨rfl, rfl⟩ (by first | decide | omega | (simp only [rmk]; omega)) rfl hl.1 rfl (Nat.le_of_ble_eq_true rfl) (by first | decide | omega | (simp only [rmk]; omega)) dX0_evened_2 (fun v3 h5 H locs hp4 _ hH hS => ?_)
  rcases hp4.1 with ⟨k1, hk1, hgk1, rfl⟩ | ⟨cz2, rfl⟩
  · have hq := hp4.2; rw [hq] at hH
    subst hgk1
    have hik1 : inN (nI k1) (aRm S) = true := by rw [inN_nI (by omega)]; exact decide_eq_true hk1
    have ek1 := nI_clamp (show k1 < 2 ^ 31 by omega)
    have hp6 := hO.rp (show k1 < aRm S by omega)
    refine lv_astore (lv' := [(4, .ref ((Ls 3).getD k1 0)), (0, .ref (w 0)), (1, .int (nI k1)), (2, .int courses), (3, .int k)]) hx hb dX0_evened_5 hl (by decide) rfl (fun ls hl => ?_)
    refine lv_aload hx hb dX0_evened_7 (lv_at hl 0 rfl) ?_
    refine hp_inst hx hb hown (hts _ q863) hNX hPB hK hH (hW.q (show k1 < aRm S by omega)) (hO.rk (show k1 < aRm S by omega)) dX0_evened_9 ?_
    refine lvB_eq (tgt := 45) hx hb dX0_evened_12 (by decide) (fun c4b => ?_) (fun c4b => ?_)
    · refine lv_iconst (v := (-1)) hx hb dX0_evened_45 (by decide) ?_
      exact hp_iret hx hb hr hlocks hH hS (by first | decide | omega | (simp only [rmk]; omega)) (by first | decide | omega | (simp only [rmk]; omega)) dX0_evened_46 (⟨congrArg some (congrArg Value.int (by simp [spEvened, hik1, ek1, c4b])), rfl⟩)
    · refine lv_aload hx hb dX0_evened_15 (lv_at hl 0 rfl) ?_
      refine hp_gQ hx hb hts hown hK hH (hW.q (show k1 < aRm S by omega)) (hO.rk (show k1 < aRm S by omega)) (hts _ q835) dX0_evened_17 ?_
      refine lv_bipush (v := nI 8) hx hb dX0_evened_20 (by decide) ?_
      refine lvN_gt (tgt := 45) hx hb (by first | omega | (refine Nat.lt_of_lt_of_le (Nat.mod_lt _ ?_) ?_ <;> omega)) (by first | omega | (refine Nat.lt_of_lt_of_le (Nat.mod_lt _ ?_) ?_ <;> omega)) dX0_evened_22 (by decide) (fun c8 => ?_) (fun c8 => ?_)
      · refine lv_iconst (v := (-1)) hx hb dX0_evened_45 (by decide) ?_
        exact hp_iret hx hb hr hlocks hH hS (by first | decide | omega | (simp only [rmk]; omega)) (by first | decide | omega | (simp only [rmk]; omega)) dX0_evened_46 (⟨congrArg some (congrArg Value.int (by simp [spEvened, hik1, ek1, c4b, c8, Nat.not_le.mpr c8])), rfl⟩)
      · refine lv_iload_n hx hb dX0_evened_25 rfl (lv_at hl 3 rfl) ?_
        refine lv_iconst (v := nI 1) hx hb dX0_evened_26 (by decide) ?_
        refine lv_iconst (v := nI 3) hx hb dX0_evened_27 (by decide) ?_
        refine hp_callS (As := [.int courses, .int (nI 1), .int (nI 3)]) (rest := []) hx hb hml hown hts hPB hH hS (mc_in hK0 courses (nI 1) (nI 3)) 3 (lw_S q268 q269 q102 q270) (by decide +kernel) ⟨rfl, rfl⟩ (by first | decide | omega | (simp only [rmk]; omega)) rfl hl.1 rfl (Nat.le_of_ble_eq_true rfl) (by first | decide | omega | (simp only [rmk]; omega)) dX0_evened_28 (fun v7 h9 H locs hp8 _ hH hS => ?_)
        obtain ⟨rfl, hq⟩ := hp8
        rw [hq] at hH
        refine lv_top (y := zI (inN (courses - 1) 3)) (congrArg zI (in_i1 (by omega))) ?_
        refine lvB_eq (tgt := 45) hx hb dX0_evened_31 (by decide) (fun cc9 => ?_) (fun cc9 => ?_)
        · refine lv_iconst (v := (-1)) hx hb dX0_evened_45 (by decide) ?_
          exact hp_iret hx hb hr hlocks hH hS (by first | decide | omega | (simp only [rmk]; omega)) (by first | decide | omega | (simp only [rmk]; omega)) dX0_evened_46 (⟨congrArg some (congrArg Value.int (by simp [spEvened, hik1, ek1, c4b, c8, Nat.not_lt.mpr c8, cc9])), rfl⟩)
        · have cc9b := cc9
          obtain ⟨cs, hcs9, rfl⟩ := in1c_t cc9b
          have ecs := nI_clamp (show cs < 2 ^ 31 by omega)
          refine lv_iload_n hx hb dX0_evened_34 rfl (lv_at hl 4 rfl) ?_
          refine lv_iconst (v := (-1)) hx hb dX0_evened_35 (by decide) ?_
          refine lv_iload_n hx hb dX0_evened_36 rfl (lv_at hl 3 rfl) ?_
          refine lv_iconst (v := nI 1) hx hb dX0_evened_37 (by decide) ?_
          refine lv_isub hx hb dX0_evened_38 ?_
          refine hp_callS (As := [.int k, .int (-1), .int ((nI cs) - (nI 1))]) (rest := []) hx hb hml hown hts hPB hH hS (mc_in hK0 k (-1) ((nI cs) - (nI 1))) 3 (lw_S q268 q269 q102 q270) (by decide +kernel) ⟨rfl, rfl⟩ (by first | decide | omega | (simp only [rmk]; omega)) rfl hl.1 rfl (Nat.le_of_ble_eq_true rfl) (by first | decide | omega | (simp only [rmk]; omega)) dX0_evened_39 (fun v10 h12 H locs hp11 _ hH hS => ?_)
          obtain ⟨rfl, hq⟩ := hp11
          rw [hq] at hH
          refine lv_top (y := zI (decide (k = -1) || inN k cs)) (congrArg zI (in_im (by omega))) ?_
          refine lvB_ne (tgt := 47) hx hb dX0_evened_42 (by decide) (fun ckk => ?_) (fun ckk => ?_)
          · have c4 : decide (aRk S k1 = 4) = true := c4b
            have ckk2 := ckk
            refine lv_aload hx hb dX0_evened_47 (lv_at hl 0 rfl) ?_
            refine hp_gQ hx hb hts hown hK hH (hW.q (show k1 < aRm S by omega)) (hO.rk (show k1 < aRm S by omega)) (hts _ q835) dX0_evened_49 ?_
            refine lv_istore (lv' := [(5, .int (nI (aRp S k1))), (4, .ref ((Ls 3).getD k1 0)), (0, .ref (w 0)), (1, .int (nI k1)), (2, .int (nI cs)), (3, .int k)]) hx hb dX0_evened_52 hl (by decide) rfl (fun ls hl => ?_)
            refine lv_iconst (v := nI 1) hx hb dX0_evened_54 (by decide) ?_
            refine lv_istore (lv' := [(6, .int (nI 1)), (5, .int (nI (aRp S k1))), (4, .ref ((Ls 3).getD k1 0)), (0, .ref (w 0)), (1, .int (nI k1)), (2, .int (nI cs)), (3, .int k)]) hx hb dX0_evened_55 hl (by decide) rfl (fun ls hl => ?_)
            refine lv_iconst (v := nI 0) hx hb dX0_evened_57 (by decide) ?_
            refine lv_istore (lv' := [(7, .int (nI 0)), (6, .int (nI 1)), (5, .int (nI (aRp S k1))), (4, .ref ((Ls 3).getD k1 0)), (0, .ref (w 0)), (1, .int (nI k1)), (2, .int (nI cs)), (3, .int k)]) hx hb dX0_evened_58 hl (by decide) rfl (fun ls hl => ?_)
            refine w_loop1 (fun (c : Nat) => cs - c) (fun (c : Nat) H locs ls => (c ≤ cs) ∧ HP D CL (zA s0) h H ∧ va_S (zA s0) s.heap H locs ∧ lv_has ls 16 [(0, .ref (w 0)), (1, .int (nI k1)), (2, .int (nI cs)), (3, .int k), (5, .int (nI (aRp S k1))), (6, .int (nI (aRp S k1 ^ c))), (7, .int (nI c))]) ?_ 0 ⟨Nat.zero_le _, hH, hS, lv_sub hl [4, 5, 6, 7, 2, 1, 0] rfl⟩
            intro c ih60 H locs ls hP
            obtain ⟨hc, hH, hS, hl⟩ := hP
            have hpb := pow_b (n := aRp S k1) (i := c) (by omega) (by omega)
            refine lv_iload hx hb dX0_evened_60 (lv_at hl 6 rfl) ?_
            refine lv_iload_n hx hb dX0_evened_62 rfl (lv_at hl 2 rfl) ?_
            refine lvN_ge (tgt := 79) hx hb (by first | omega | (refine Nat.lt_of_lt_of_le (Nat.mod_lt _ ?_) ?_ <;> omega)) (by first | omega | (refine Nat.lt_of_lt_of_le (Nat.mod_lt _ ?_) ?_ <;> omega)) dX0_evened_63 (by decide) (fun cc1 => ?_) (fun cc1 => ?_)
            · have ecc : c = cs := by omega
              have hpb := pow_b (n := aRp S k1) (i := cs) (by omega) (by omega)
              have hW00 := hW
              obtain ⟨tgm, htgm, html⟩ := hH.tagL
              have hntm := tag_no html
              have hl : lv_has ls 16 [(0, .ref (w 0)), (1, .int (nI k1)), (2, .int (nI cs)), (3, .int k), (5, .int (nI (aRp S k1))), (6, .int (nI (aRp S k1 ^ cs))), (7, .int (nI c))] := by rw [show nI (aRp S k1 ^ cs) = nI (aRp S k1 ^ c) from congrArg nI (by rw [ecc])]; exact hl
              refine lv_bipush (v := nI 80) hx hb dX0_evened_79 (by decide) ?_
              obtain ⟨ma, hma, nma⟩ := hH.fr
              refine hp_newa (atype := .int) (ty := .int) (n := nI 80) (N' := 80) (a0 := (80, .inl (fun _ => 0))) hx hb (hts _ q255) rfl hK hH hS hA 0 rfl (fun z => z) (fun _ => rfl) (nI_pos (by first | omega | (refine Nat.lt_of_lt_of_le (Nat.mod_lt _ ?_) ?_ <;> omega))) (nI_clamp (by first | omega | (refine Nat.lt_of_lt_of_le (Nat.mod_lt _ ?_) ?_ <;> omega))) (by show _ * 4 ≤ _; omega) (by first | decide | omega | (simp only [rmk]; omega)) (by first | decide | omega | (simp only [rmk]; omega)) tgm dX0_evened_81 (fun H _ hH hS => ?_)
              rw [← hma] at hH ⊢
              have hH : HP D CL (zA s0) (hset h ma (.inl (K 0, 80, .inl (fun _ => 0))) tgm) H := hH
              have hW := hW.X (exH.new (e1 := .inl (K 0, 80, .inl (fun _ => 0))) (u1 := tgm) nma)
              have e13 : (hset h ma (.inl (K 0, 80, .inl (fun _ => 0))) tgm) ma = some (.inl (K 0, 80, .inl (fun _ => 0)), tgm) := hset_self _ _ _ _
              refine lv_astore (lv' := [(7, .ref ma), (0, .ref (w 0)), (1, .int (nI k1)), (2, .int (nI cs)), (3, .int k), (5, .int (nI (aRp S k1))), (6, .int (nI (aRp S k1 ^ cs)))]) hx hb dX0_evened_83 hl (by decide) rfl (fun ls hl => ?_)
              refine lv_iconst (v := nI 0) hx hb dX0_evened_85 (by decide) ?_
              refine lv_istore (lv' := [(8, .int (nI 0)), (7, .ref ma), (0, .ref (w 0)), (1, .int (nI k1)), (2, .int (nI cs)), (3, .int k), (5, .int (nI (aRp S k1))), (6, .int (nI (aRp S k1 ^ cs)))]) hx hb dX0_evened_86 hl (by decide) rfl (fun ls hl => ?_)
              refine w_loopC3 (fun (s9 : Nat) (fm : Nat → Int32) (hh : Hp) => aRp S k1 - s9) (fun (s9 : Nat) (fm : Nat → Int32) (hh : Hp) H locs ls cells slots => (s9 ≤ aRp S k1) ∧ (miA S k1 s9 0 fm) ∧ (hh ma = some (.inl (K 0, 80, .inl fm), tgm)) ∧ (exH h hh) ∧ (cells ≤ 1 + 1094 * s9 ∧ slots ≤ 80 + 9093 * s9) ∧ HP D CL (zA s0) hh H ∧ va_S (zA s0) s.heap H locs ∧ lv_has ls 16 [(0, .ref (w 0)), (1, .int (nI k1)), (2, .int (nI cs)), (3, .int k), (5, .int (nI (aRp S k1))), (6, .int (nI (aRp S k1 ^ cs))), (7, .ref ma), (8, .int (nI s9))]) ?_ 0 (fun _ => 0) (hset h ma (.inl (K 0, 80, .inl (fun _ => 0))) tgm) ⟨Nat.zero_le _, fun s g _ hs => absurd hs (by omega), e13, exH.new nma, by decide, hH, hS, lv_sub hl [2, 3, 4, 5, 6, 7, 1, 0] rfl⟩
              intro s9 fm hh ih88 H locs ls cells slots hP
              obtain ⟨hs9, hmi, hma9, hxB, hcs, hH, hS, hl⟩ := hP
              have hW := hW00.X hxB
              refine lv_iload hx hb dX0_evened_88 (lv_at hl 7 rfl) ?_
              refine lv_iload hx hb dX0_evened_90 (lv_at hl 4 rfl) ?_
              refine lvN_ge (tgt := 150) hx hb (by first | omega | (refine Nat.lt_of_lt_of_le (Nat.mod_lt _ ?_) ?_ <;> omega)) (by first | omega | (refine Nat.lt_of_lt_of_le (Nat.mod_lt _ ?_) ?_ <;> omega)) dX0_evened_92 (by decide) (fun cc2 => ?_) (fun cc2 => ?_)
              · have hmiN : ∀ s g, s < aRp S k1 → g < aN S → fm (10 * s + g) = nI (mnd S (slL S k1 0 s) g) := fun s g h1 h2 => hmi s g h2 (Or.inl (by omega))
                refine lv_iconst (v := nI 0) hx hb dX0_evened_150 (by decide) ?_
                refine lv_istore (lv' := [(8, .int (nI 0)), (0, .ref (w 0)), (1, .int (nI k1)), (2, .int (nI cs)), (3, .int k), (5, .int (nI (aRp S k1))), (6, .int (nI (aRp S k1 ^ cs))), (7, .ref ma)]) hx hb dX0_evened_151 hl (by decide) rfl (fun ls hl => ?_)
                refine lv_ldcw (v := 1000000) hx hb hown (hts _ q1171) dX0_evened_153 ?_
                refine lv_top (y := nI 1000000) (by decide) ?_
                refine lv_istore (lv' := [(9, .int (nI 1000000)), (8, .int (nI 0)), (0, .ref (w 0)), (1, .int (nI k1)), (2, .int (nI cs)), (3, .int k), (5, .int (nI (aRp S k1))), (6, .int (nI (aRp S k1 ^ cs))), (7, .ref ma)]) hx hb dX0_evened_156 hl (by decide) rfl (fun ls hl => ?_)
                refine lv_iconst (v := nI 0) hx hb dX0_evened_158 (by decide) ?_
                refine lv_istore (lv' := [(10, .int (nI 0)), (9, .int (nI 1000000)), (8, .int (nI 0)), (0, .ref (w 0)), (1, .int (nI k1)), (2, .int (nI cs)), (3, .int k), (5, .int (nI (aRp S k1))), (6, .int (nI (aRp S k1 ^ cs))), (7, .ref ma)]) hx hb dX0_evened_159 hl (by decide) rfl (fun ls hl => ?_)
                refine w_loop1 (fun (r : Nat) => aRp S k1 ^ cs - r) (fun (r : Nat) H locs ls => (r ≤ aRp S k1 ^ cs) ∧ HP D CL (zA s0) hh H ∧ va_S (zA s0) s.heap H locs ∧ lv_has ls 16 [(0, .ref (w 0)), (2, .int (nI cs)), (3, .int k), (5, .int (nI (aRp S k1))), (6, .int (nI (aRp S k1 ^ cs))), (7, .ref ma), (8, .int (nI (evC (evB S k1 (aRp S k1) cs r)))), (9, .int (nI (evL (evB S k1 (aRp S k1) cs r)))), (10, .int (nI r))]) ?_ 0 ⟨Nat.zero_le _, hH, hS, lv_sub hl [3, 5, 6, 7, 8, 9, 2, 1, 0] rfl⟩
                intro r ih161 H locs ls hP
                obtain ⟨hr9, hH, hS, hl⟩ := hP
                have hel := evL_le (S := S) (q := k1) (n := aRp S k1) (cs := cs) (r := r) hO (by omega)
                refine lv_iload hx hb dX0_evened_161 (lv_at hl 8 rfl) ?_
                refine lv_iload hx hb dX0_evened_163 (lv_at hl 4 rfl) ?_
                refine lvN_ge (tgt := 273) hx hb (by first | omega | (refine Nat.lt_of_lt_of_le (Nat.mod_lt _ ?_) ?_ <;> omega)) (by first | omega | (refine Nat.lt_of_lt_of_le (Nat.mod_lt _ ?_) ?_ <;> omega)) dX0_evened_165 (by decide) (fun cc4 => ?_) (fun cc4 => ?_)
                · have er9 : r = aRp S k1 ^ cs := by omega
                  obtain ⟨m9, c9, hev⟩ := evB_some hO (q := k1) (n := aRp S k1) (cs := cs) (r := aRp S k1 ^ cs) (Nat.one_le_pow _ _ (by omega))
                  have hevr : evB S k1 (aRp S k1) cs r = some (m9, c9) := by rw [er9]; exact hev
                  have hcl9 := evB_ok hO (show cs ≤ 3 by omega) _ _ _ hev
                  refine lv_iload_n hx hb dX0_evened_273 rfl (lv_at hl 2 rfl) ?_
                  refine lv_iconst (v := (-1)) hx hb dX0_evened_274 (by decide) ?_
                  refine lv_icmp_ne (tgt := 281) hx hb dX0_evened_275 (by decide) (fun ckm => ?_) (fun ckm => ?_)
                  · obtain ⟨k9, hk9, rfl⟩ := inN_t ((Bool.or_eq_true_iff.mp ckk).resolve_left (by rw [decide_eq_false ckm]; decide))
                    have ek9 := nI_clamp (show k9 < 2 ^ 31 by omega)
                    have hl : lv_has ls 16 [(0, .ref (w 0)), (2, .int (nI cs)), (3, .int (nI k9)), (5, .int (nI (aRp S k1))), (6, .int (nI (aRp S k1 ^ cs))), (7, .ref ma), (8, .int (nI c9)), (9, .int (nI (evL (evB S k1 (aRp S k1) cs r)))), (10, .int (nI r))] := by rw [show nI c9 = nI (evC (evB S k1 (aRp S k1) cs r)) from congrArg nI (by rw [hevr]; rfl)]; exact hl
                    refine lv_iload_n hx hb dX0_evened_281 rfl (lv_at hl 1 rfl) ?_
                    refine lv_iconst (v := nI 1) hx hb dX0_evened_282 (by decide) ?_
                    refine lv_isub hx hb dX0_evened_283 ?_
                    refine lv_top (y := nI (cs - 1)) (pk_sub (by first | omega | (refine Nat.lt_of_lt_of_le (Nat.mod_lt _ ?_) ?_ <;> omega))) ?_
                    have hl : lv_has ls 16 [(0, .ref (w 0)), (2, .int (nI cs)), (3, .int (nI k9)), (5, .int (nI (aRp S k1))), (6, .int (nI (aRp S k1 ^ cs))), (7, .ref ma), (8, .int (nI (c9 / (aRp S k1) ^ 0))), (9, .int (nI (evL (evB S k1 (aRp S k1) cs r)))), (10, .int (nI r))] := by rw [show nI (c9 / (aRp S k1) ^ 0) = nI c9 from congrArg nI (Nat.div_one _)]; exact hl
                    refine lv_istore (lv' := [(10, .int (nI (cs - 1))), (0, .ref (w 0)), (2, .int (nI cs)), (3, .int (nI k9)), (5, .int (nI (aRp S k1))), (6, .int (nI (aRp S k1 ^ cs))), (7, .ref ma), (8, .int (nI (c9 / (aRp S k1) ^ 0))), (9, .int (nI (evL (evB S k1 (aRp S k1) cs r))))]) hx hb dX0_evened_284 hl (by decide) rfl (fun ls hl => ?_)
                    refine w_loop1 (fun (j : Nat) => cs - j) (fun (j : Nat) H locs ls => (j + k9 + 1 ≤ cs) ∧ HP D CL (zA s0) hh H ∧ va_S (zA s0) s.heap H locs ∧ lv_has ls 16 [(0, .ref (w 0)), (2, .int (nI cs)), (3, .int (nI k9)), (5, .int (nI (aRp S k1))), (8, .int (nI (c9 / (aRp S k1) ^ j))), (10, .int (nI (cs - 1 - j)))]) ?_ 0 ⟨by omega, hH, hS, lv_sub hl [1, 2, 3, 4, 7, 0] rfl⟩
                    intro j ih286 H locs ls hP
                    obtain ⟨hj, hH, hS, hl⟩ := hP
                    have hdl := Nat.div_le_self c9 ((aRp S k1) ^ j)
                    refine lv_iload hx hb dX0_evened_286 (lv_at hl 5 rfl) ?_
                    refine lv_iload_n hx hb dX0_evened_288 rfl (lv_at hl 2 rfl) ?_
                    refine lvN_le (tgt := 305) hx hb (by first | omega | (refine Nat.lt_of_lt_of_le (Nat.mod_lt _ ?_) ?_ <;> omega)) (by first | omega | (refine Nat.lt_of_lt_of_le (Nat.mod_lt _ ?_) ?_ <;> omega)) dX0_evened_289 (by decide) (fun c14 => ?_) (fun c14 => ?_)
                    · refine lv_iload hx hb dX0_evened_305 (lv_at hl 4 rfl) ?_
                      refine lv_iload hx hb dX0_evened_307 (lv_at hl 3 rfl) ?_
                      refine lv_irem hx hb dX0_evened_309 (nI_ne0 (by first | omega | (refine Nat.lt_of_lt_of_le (Nat.mod_lt _ ?_) ?_ <;> omega)) (by first | omega | (refine Nat.lt_of_lt_of_le (Nat.mod_lt _ ?_) ?_ <;> omega))) ?_
                      refine lv_top (y := nI ((c9 / (aRp S k1) ^ j) % (aRp S k1))) (pk_rem (by first | omega | (refine Nat.lt_of_lt_of_le (Nat.mod_lt _ ?_) ?_ <;> omega)) (by first | omega | (refine Nat.lt_of_lt_of_le (Nat.mod_lt _ ?_) ?_ <;> omega)) (by first | omega | (refine Nat.lt_of_lt_of_le (Nat.mod_lt _ ?_) ?_ <;> omega))) ?_
                      have hH := hH.X hxB
                      exact hp_iret hx hb hr hlocks hH hS (by first | decide | omega | (simp only [rmk]; omega)) (by first | decide | omega | (simp only [rmk]; omega)) dX0_evened_310 (⟨congrArg some (congrArg Value.int (by rw [spEvened, if_pos (show (inN (nI k1) (aRm S) && decide (aRk S (nI k1).toNatClampNeg = 4) && decide (aRp S (nI k1).toNatClampNeg ≤ 8) && inN (nI cs - 1) 3 && (decide (nI k9 = -1) || inN (nI k9) (nI cs).toNatClampNeg)) = true by rw [hik1, ek1, ecs, c4, decide_eq_true c8, cc9, ckk]; rfl), ek1, ecs, hev]; show _ = if nI k9 = -1 then _ else _; rw [if_neg (nI_m1 (by omega)), ek9]; unfold dgt; rw [show cs - 1 - k9 = j by omega])), rfl⟩)
                    · refine lv_iload hx hb dX0_evened_292 (lv_at hl 4 rfl) ?_
                      refine lv_iload hx hb dX0_evened_294 (lv_at hl 3 rfl) ?_
                      refine lv_idiv hx hb dX0_evened_296 (nI_ne0 (by first | omega | (refine Nat.lt_of_lt_of_le (Nat.mod_lt _ ?_) ?_ <;> omega)) (by first | omega | (refine Nat.lt_of_lt_of_le (Nat.mod_lt _ ?_) ?_ <;> omega))) ?_
                      refine lv_top (y := nI ((c9 / (aRp S k1) ^ j) / (aRp S k1))) (pk_div (by first | omega | (refine Nat.lt_of_lt_of_le (Nat.mod_lt _ ?_) ?_ <;> omega)) (by first | omega | (refine Nat.lt_of_lt_of_le (Nat.mod_lt _ ?_) ?_ <;> omega)) (by first | omega | (refine Nat.lt_of_lt_of_le (Nat.mod_lt _ ?_) ?_ <;> omega))) ?_
                      refine lv_istore (lv' := [(8, .int (nI ((c9 / (aRp S k1) ^ j) / (aRp S k1)))), (0, .ref (w 0)), (2, .int (nI cs)), (3, .int (nI k9)), (5, .int (nI (aRp S k1))), (10, .int (nI (cs - 1 - j)))]) hx hb dX0_evened_297 hl (by decide) rfl (fun ls hl => ?_)
                      refine lv_iinc (v := nI (cs - 1 - j - 1)) (lv' := [(10, .int (nI (cs - 1 - j - 1))), (8, .int (nI ((c9 / (aRp S k1) ^ j) / (aRp S k1)))), (0, .ref (w 0)), (2, .int (nI cs)), (3, .int (nI k9)), (5, .int (nI (aRp S k1)))]) hx hb dX0_evened_299 hl (k := 5) rfl (dec_nI (by omega) (by omega)) (by decide) rfl (fun ls hl => ?_)
                      refine lv_goto (tgt := 286) hx hb dX0_evened_302 (by decide) ?_
                      have hl : lv_has ls 16 [(10, .int (nI (cs - 1 - j - 1))), (8, .int (nI (c9 / (aRp S k1) ^ (j + 1)))), (0, .ref (w 0)), (2, .int (nI cs)), (3, .int (nI k9)), (5, .int (nI (aRp S k1)))] := by rw [show nI (c9 / (aRp S k1) ^ (j + 1)) = nI ((c9 / (aRp S k1) ^ j) / (aRp S k1)) from congrArg nI (div_next _ _ _).symm]; exact hl
                      have hl : lv_has ls 16 [(10, .int (nI (cs - 1 - (j + 1)))), (8, .int (nI (c9 / (aRp S k1) ^ (j + 1)))), (0, .ref (w 0)), (2, .int (nI cs)), (3, .int (nI k9)), (5, .int (nI (aRp S k1)))] := by rw [show nI (cs - 1 - (j + 1)) = nI (cs - 1 - j - 1) from congrArg nI (by omega)]; exact hl
                      exact ih286 (j + 1) (by omega) H locs ls ⟨by omega, hH, hS, lv_sub hl [2, 3, 4, 5, 1, 0] rfl⟩
                  · refine lv_iload hx hb dX0_evened_278 (lv_at hl 7 rfl) ?_
                    have hH := hH.X hxB
                    refine lv_top (y := nI m9) (congrArg nI (by rw [hevr]; rfl)) ?_
                    exact hp_iret hx hb hr hlocks hH hS (by first | decide | omega | (simp only [rmk]; omega)) (by first | decide | omega | (simp only [rmk]; omega)) dX0_evened_280 (⟨congrArg some (congrArg Value.int (by rw [spEvened, if_pos (show (inN (nI k1) (aRm S) && decide (aRk S (nI k1).toNatClampNeg = 4) && decide (aRp S (nI k1).toNatClampNeg ≤ 8) && inN (nI cs - 1) 3 && (decide (k = -1) || inN k (nI cs).toNatClampNeg)) = true by rw [hik1, ek1, ecs, c4, decide_eq_true c8, cc9, ckk]; rfl), ek1, ecs, hev]; show _ = if k = -1 then _ else _; rw [if_pos ckm])), rfl⟩)
                · refine lv_iconst (v := nI 0) hx hb dX0_evened_168 (by decide) ?_
                  refine lv_istore (lv' := [(11, .int (nI 0)), (0, .ref (w 0)), (2, .int (nI cs)), (3, .int k), (5, .int (nI (aRp S k1))), (6, .int (nI (aRp S k1 ^ cs))), (7, .ref ma), (8, .int (nI (evC (evB S k1 (aRp S k1) cs r)))), (9, .int (nI (evL (evB S k1 (aRp S k1) cs r)))), (10, .int (nI r))]) hx hb dX0_evened_169 hl (by decide) rfl (fun ls hl => ?_)
                  refine lv_iconst (v := nI 0) hx hb dX0_evened_171 (by decide) ?_
                  refine lv_istore (lv' := [(12, .int (nI 0)), (11, .int (nI 0)), (0, .ref (w 0)), (2, .int (nI cs)), (3, .int k), (5, .int (nI (aRp S k1))), (6, .int (nI (aRp S k1 ^ cs))), (7, .ref ma), (8, .int (nI (evC (evB S k1 (aRp S k1) cs r)))), (9, .int (nI (evL (evB S k1 (aRp S k1) cs r)))), (10, .int (nI r))]) hx hb dX0_evened_172 hl (by decide) rfl (fun ls hl => ?_)
                  refine w_loop1 (fun (g : Nat) => aN S - g) (fun (g : Nat) H locs ls => (g ≤ aN S) ∧ HP D CL (zA s0) hh H ∧ va_S (zA s0) s.heap H locs ∧ lv_has ls 16 [(0, .ref (w 0)), (2, .int (nI cs)), (3, .int k), (5, .int (nI (aRp S k1))), (6, .int (nI (aRp S k1 ^ cs))), (7, .ref ma), (8, .int (nI (evC (evB S k1 (aRp S k1) cs r)))), (9, .int (nI (evL (evB S k1 (aRp S k1) cs r)))), (10, .int (nI r)), (11, .int (nI (evM S k1 (aRp S k1) cs r g))), (12, .int (nI g))]) ?_ 0 ⟨Nat.zero_le _, hH, hS, lv_sub hl [2, 3, 4, 5, 6, 7, 8, 9, 10, 1, 0] rfl⟩
                  intro g ih174 H locs ls hP
                  obtain ⟨hg, hH, hS, hl⟩ := hP
                  have hem := evM_le hO k1 (aRp S k1) cs r (by omega) g
                  refine lv_iload hx hb dX0_evened_174 (lv_at hl 10 rfl) ?_
                  refine lv_aload_n hx hb dX0_evened_176 rfl (lv_at hl 0 rfl) ?_
                  refine hp_get (C := RX0) (T := TX0) (N := 14) (v := .ref (w 3)) hx hb hts in_X0 hown hK hH hW.x rfl 2 (by decide) (hts _ q214) (fun _ z => z) rfl dX0_evened_177 ?_
                  refine hp_siz hx hb hml hown hts hPB hK0 hK hH hS hG (hW.li 0 (by decide)) hW.ng q807 (by first | decide | (simp only [rmk]; omega)) hl.1 rfl (Nat.le_of_ble_eq_true rfl) (by first | decide | omega | (simp only [rmk]; omega)) dX0_evened_180 (fun H locs hH hS => ?_)
                  refine lvN_ge (tgt := 249) hx hb (by first | omega | (refine Nat.lt_of_lt_of_le (Nat.mod_lt _ ?_) ?_ <;> omega)) (by first | omega | (refine Nat.lt_of_lt_of_le (Nat.mod_lt _ ?_) ?_ <;> omega)) dX0_evened_183 (by decide) (fun cc5 => ?_) (fun cc5 => ?_)
                  · have eg9 : g = aN S := by omega
                    have hem9 := evM_le hO k1 (aRp S k1) cs r (by omega) (aN S)
                    have hl : lv_has ls 16 [(0, .ref (w 0)), (2, .int (nI cs)), (3, .int k), (5, .int (nI (aRp S k1))), (6, .int (nI (aRp S k1 ^ cs))), (7, .ref ma), (8, .int (nI (evC (evB S k1 (aRp S k1) cs r)))), (9, .int (nI (evL (evB S k1 (aRp S k1) cs r)))), (10, .int (nI r)), (11, .int (nI (evM S k1 (aRp S k1) cs r (aN S)))), (12, .int (nI g))] := by rw [show nI (evM S k1 (aRp S k1) cs r (aN S)) = nI (evM S k1 (aRp S k1) cs r g) from congrArg nI (by rw [eg9])]; exact hl
                    refine lv_iload hx hb dX0_evened_249 (lv_at hl 9 rfl) ?_
                    refine lv_iload hx hb dX0_evened_251 (lv_at hl 7 rfl) ?_
                    refine lvN_lt (tgt := 259) hx hb (by first | omega | (refine Nat.lt_of_lt_of_le (Nat.mod_lt _ ?_) ?_ <;> omega)) (by first | omega | (refine Nat.lt_of_lt_of_le (Nat.mod_lt _ ?_) ?_ <;> omega)) dX0_evened_253 (by decide) (fun cl => ?_) (fun cl => ?_)
                    · refine lv_iload hx hb dX0_evened_259 (lv_at hl 9 rfl) ?_
                      refine lv_istore (lv' := [(9, .int (nI (evM S k1 (aRp S k1) cs r (aN S)))), (0, .ref (w 0)), (2, .int (nI cs)), (3, .int k), (5, .int (nI (aRp S k1))), (6, .int (nI (aRp S k1 ^ cs))), (7, .ref ma), (8, .int (nI (evC (evB S k1 (aRp S k1) cs r)))), (10, .int (nI r)), (11, .int (nI (evM S k1 (aRp S k1) cs r (aN S)))), (12, .int (nI g))]) hx hb dX0_evened_261 hl (by decide) rfl (fun ls hl => ?_)
                      refine lv_iload hx hb dX0_evened_263 (lv_at hl 8 rfl) ?_
                      refine lv_istore (lv' := [(8, .int (nI r)), (9, .int (nI (evM S k1 (aRp S k1) cs r (aN S)))), (0, .ref (w 0)), (2, .int (nI cs)), (3, .int k), (5, .int (nI (aRp S k1))), (6, .int (nI (aRp S k1 ^ cs))), (7, .ref ma), (10, .int (nI r)), (11, .int (nI (evM S k1 (aRp S k1) cs r (aN S)))), (12, .int (nI g))]) hx hb dX0_evened_265 hl (by decide) rfl (fun ls hl => ?_)
                      refine lv_iinc (v := nI (r + 1)) (lv' := [(10, .int (nI (r + 1))), (8, .int (nI r)), (9, .int (nI (evM S k1 (aRp S k1) cs r (aN S)))), (0, .ref (w 0)), (2, .int (nI cs)), (3, .int k), (5, .int (nI (aRp S k1))), (6, .int (nI (aRp S k1 ^ cs))), (7, .ref ma), (11, .int (nI (evM S k1 (aRp S k1) cs r (aN S)))), (12, .int (nI g))]) hx hb dX0_evened_267 hl (k := 8) rfl (nI_add r 1) (by decide) rfl (fun ls hl => ?_)
                      refine lv_goto (tgt := 161) hx hb dX0_evened_270 (by decide) ?_
                      have hel1 := evl_t hO (show cs ≤ 3 by omega) cl
                      have hl : lv_has ls 16 [(10, .int (nI (r + 1))), (8, .int (nI (evC (evB S k1 (aRp S k1) cs (r + 1))))), (9, .int (nI (evM S k1 (aRp S k1) cs r (aN S)))), (0, .ref (w 0)), (2, .int (nI cs)), (3, .int k), (5, .int (nI (aRp S k1))), (6, .int (nI (aRp S k1 ^ cs))), (7, .ref ma), (11, .int (nI (evM S k1 (aRp S k1) cs r (aN S)))), (12, .int (nI g))] := by rw [show nI (evC (evB S k1 (aRp S k1) cs (r + 1))) = nI r from congrArg nI (by rw [hel1]; rfl)]; exact hl
                      have hl : lv_has ls 16 [(10, .int (nI (r + 1))), (8, .int (nI (evC (evB S k1 (aRp S k1) cs (r + 1))))), (9, .int (nI (evL (evB S k1 (aRp S k1) cs (r + 1))))), (0, .ref (w 0)), (2, .int (nI cs)), (3, .int k), (5, .int (nI (aRp S k1))), (6, .int (nI (aRp S k1 ^ cs))), (7, .ref ma), (11, .int (nI (evM S k1 (aRp S k1) cs r (aN S)))), (12, .int (nI g))] := by rw [show nI (evL (evB S k1 (aRp S k1) cs (r + 1))) = nI (evM S k1 (aRp S k1) cs r (aN S)) from congrArg nI (by rw [hel1]; rfl)]; exact hl
                      exact ih161 (r + 1) (by omega) H locs ls ⟨by omega, hH, hS, lv_sub hl [3, 4, 5, 6, 7, 8, 1, 2, 0] rfl⟩
                    · refine lv_goto (tgt := 267) hx hb dX0_evened_256 (by decide) ?_
                      refine lv_iinc (v := nI (r + 1)) (lv' := [(10, .int (nI (r + 1))), (0, .ref (w 0)), (2, .int (nI cs)), (3, .int k), (5, .int (nI (aRp S k1))), (6, .int (nI (aRp S k1 ^ cs))), (7, .ref ma), (8, .int (nI (evC (evB S k1 (aRp S k1) cs r)))), (9, .int (nI (evL (evB S k1 (aRp S k1) cs r)))), (11, .int (nI (evM S k1 (aRp S k1) cs r (aN S)))), (12, .int (nI g))]) hx hb dX0_evened_267 hl (k := 8) rfl (nI_add r 1) (by decide) rfl (fun ls hl => ?_)
                      refine lv_goto (tgt := 161) hx hb dX0_evened_270 (by decide) ?_
                      have hel1 := evl_f hO (show cs ≤ 3 by omega) (Nat.not_lt.mpr cl)
                      have hl : lv_has ls 16 [(10, .int (nI (r + 1))), (0, .ref (w 0)), (2, .int (nI cs)), (3, .int k), (5, .int (nI (aRp S k1))), (6, .int (nI (aRp S k1 ^ cs))), (7, .ref ma), (8, .int (nI (evC (evB S k1 (aRp S k1) cs (r + 1))))), (9, .int (nI (evL (evB S k1 (aRp S k1) cs r)))), (11, .int (nI (evM S k1 (aRp S k1) cs r (aN S)))), (12, .int (nI g))] := by rw [show nI (evC (evB S k1 (aRp S k1) cs (r + 1))) = nI (evC (evB S k1 (aRp S k1) cs r)) from congrArg nI (by rw [hel1])]; exact hl
                      have hl : lv_has ls 16 [(10, .int (nI (r + 1))), (0, .ref (w 0)), (2, .int (nI cs)), (3, .int k), (5, .int (nI (aRp S k1))), (6, .int (nI (aRp S k1 ^ cs))), (7, .ref ma), (8, .int (nI (evC (evB S k1 (aRp S k1) cs (r + 1))))), (9, .int (nI (evL (evB S k1 (aRp S k1) cs (r + 1))))), (11, .int (nI (evM S k1 (aRp S k1) cs r (aN S)))), (12, .int (nI g))] := by rw [show nI (evL (evB S k1 (aRp S k1) cs (r + 1))) = nI (evL (evB S k1 (aRp S k1) cs r)) from congrArg nI (by rw [hel1])]; exact hl
                      exact ih161 (r + 1) (by omega) H locs ls ⟨by omega, hH, hS, lv_sub hl [1, 2, 3, 4, 5, 6, 7, 8, 0] rfl⟩
                  · refine lv_iconst (v := nI 0) hx hb dX0_evened_186 (by decide) ?_
                    refine lv_istore (lv' := [(13, .int (nI 0)), (0, .ref (w 0)), (2, .int (nI cs)), (3, .int k), (5, .int (nI (aRp S k1))), (6, .int (nI (aRp S k1 ^ cs))), (7, .ref ma), (8, .int (nI (evC (evB S k1 (aRp S k1) cs r)))), (9, .int (nI (evL (evB S k1 (aRp S k1) cs r)))), (10, .int (nI r)), (11, .int (nI (evM S k1 (aRp S k1) cs r g))), (12, .int (nI g))]) hx hb dX0_evened_187 hl (by decide) rfl (fun ls hl => ?_)
                    refine lv_iload hx hb dX0_evened_189 (lv_at hl 9 rfl) ?_
                    refine lv_istore (lv' := [(14, .int (nI r)), (13, .int (nI 0)), (0, .ref (w 0)), (2, .int (nI cs)), (3, .int k), (5, .int (nI (aRp S k1))), (6, .int (nI (aRp S k1 ^ cs))), (7, .ref ma), (8, .int (nI (evC (evB S k1 (aRp S k1) cs r)))), (9, .int (nI (evL (evB S k1 (aRp S k1) cs r)))), (10, .int (nI r)), (11, .int (nI (evM S k1 (aRp S k1) cs r g))), (12, .int (nI g))]) hx hb dX0_evened_191 hl (by decide) rfl (fun ls hl => ?_)
                    have hl : lv_has ls 16 [(14, .int (nI (r / (aRp S k1) ^ 0))), (13, .int (nI 0)), (0, .ref (w 0)), (2, .int (nI cs)), (3, .int k), (5, .int (nI (aRp S k1))), (6, .int (nI (aRp S k1 ^ cs))), (7, .ref ma), (8, .int (nI (evC (evB S k1 (aRp S k1) cs r)))), (9, .int (nI (evL (evB S k1 (aRp S k1) cs r)))), (10, .int (nI r)), (11, .int (nI (evM S k1 (aRp S k1) cs r g))), (12, .int (nI g))] := by rw [show nI (r / (aRp S k1) ^ 0) = nI r from congrArg nI (Nat.div_one _)]; exact hl
                    refine lv_iconst (v := nI 0) hx hb dX0_evened_193 (by decide) ?_
                    refine lv_istore (lv' := [(15, .int (nI 0)), (14, .int (nI (r / (aRp S k1) ^ 0))), (13, .int (nI 0)), (0, .ref (w 0)), (2, .int (nI cs)), (3, .int k), (5, .int (nI (aRp S k1))), (6, .int (nI (aRp S k1 ^ cs))), (7, .ref ma), (8, .int (nI (evC (evB S k1 (aRp S k1) cs r)))), (9, .int (nI (evL (evB S k1 (aRp S k1) cs r)))), (10, .int (nI r)), (11, .int (nI (evM S k1 (aRp S k1) cs r g))), (12, .int (nI g))]) hx hb dX0_evened_194 hl (by decide) rfl (fun ls hl => ?_)
                    refine w_loop1 (fun (c : Nat) => cs - c) (fun (c : Nat) H locs ls => (c ≤ cs) ∧ HP D CL (zA s0) hh H ∧ va_S (zA s0) s.heap H locs ∧ lv_has ls 16 [(0, .ref (w 0)), (2, .int (nI cs)), (3, .int k), (5, .int (nI (aRp S k1))), (6, .int (nI (aRp S k1 ^ cs))), (7, .ref ma), (8, .int (nI (evC (evB S k1 (aRp S k1) cs r)))), (9, .int (nI (evL (evB S k1 (aRp S k1) cs r)))), (10, .int (nI r)), (11, .int (nI (evM S k1 (aRp S k1) cs r g))), (12, .int (nI g)), (13, .int (nI (evR S k1 (aRp S k1) r g c))), (14, .int (nI (r / (aRp S k1) ^ c))), (15, .int (nI c))]) ?_ 0 ⟨Nat.zero_le _, hH, hS, lv_sub hl [3, 4, 5, 6, 7, 8, 9, 10, 11, 12, 13, 2, 1, 0] rfl⟩
                    intro c ih196 H locs ls hP
                    obtain ⟨hc, hH, hS, hl⟩ := hP
                    have her := evR_le hO k1 (aRp S k1) r g c
                    have hmd := Nat.mod_lt (r / (aRp S k1) ^ c) (show 0 < aRp S k1 by omega)
                    have hdl := Nat.div_le_self r (aRp S k1 ^ c)
                    have hmv := mnd_b hO k1 0 (r / (aRp S k1) ^ c % aRp S k1) g
                    refine lv_iload hx hb dX0_evened_196 (lv_at hl 13 rfl) ?_
                    refine lv_iload_n hx hb dX0_evened_198 rfl (lv_at hl 1 rfl) ?_
                    refine lvN_ge (tgt := 234) hx hb (by first | omega | (refine Nat.lt_of_lt_of_le (Nat.mod_lt _ ?_) ?_ <;> omega)) (by first | omega | (refine Nat.lt_of_lt_of_le (Nat.mod_lt _ ?_) ?_ <;> omega)) dX0_evened_199 (by decide) (fun cc6 => ?_) (fun cc6 => ?_)
                    · have ec9 : c = cs := by omega
                      have hev8 := evS_le hO k1 (aRp S k1) cs r g cs
                      have hl : lv_has ls 16 [(0, .ref (w 0)), (2, .int (nI cs)), (3, .int k), (5, .int (nI (aRp S k1))), (6, .int (nI (aRp S k1 ^ cs))), (7, .ref ma), (8, .int (nI (evC (evB S k1 (aRp S k1) cs r)))), (9, .int (nI (evL (evB S k1 (aRp S k1) cs r)))), (10, .int (nI r)), (11, .int (nI (evM S k1 (aRp S k1) cs r g))), (12, .int (nI g)), (13, .int (nI (evS S k1 (aRp S k1) cs r g cs))), (14, .int (nI (r / (aRp S k1) ^ c))), (15, .int (nI c))] := by rw [show nI (evS S k1 (aRp S k1) cs r g cs) = nI (evR S k1 (aRp S k1) r g c) from congrArg nI (by rw [← evR_S (by omega), ec9])]; exact hl
                      refine lv_iload hx hb dX0_evened_234 (lv_at hl 9 rfl) ?_
                      refine lv_iload hx hb dX0_evened_236 (lv_at hl 11 rfl) ?_
                      refine va_mmax hx hb (hml.trans hl.1.symm) hown (hts _ q1083) (hts _ q409) (hts _ q114) (hts _ q410) (by first | decide | omega | (simp only [rmk]; omega)) (by first | decide | omega | (simp only [rmk]; omega)) (by first | decide | omega | (simp only [rmk]; omega)) (by first | decide | omega | (simp only [rmk]; omega)) dX0_evened_238 ?_
                      refine lv_top (y := nI (max (evM S k1 (aRp S k1) cs r g) (evS S k1 (aRp S k1) cs r g cs))) (i_maxN (by first | omega | (refine Nat.lt_of_lt_of_le (Nat.mod_lt _ ?_) ?_ <;> omega)) (by first | omega | (refine Nat.lt_of_lt_of_le (Nat.mod_lt _ ?_) ?_ <;> omega))) ?_
                      refine lv_istore (lv' := [(11, .int (nI (max (evM S k1 (aRp S k1) cs r g) (evS S k1 (aRp S k1) cs r g cs)))), (0, .ref (w 0)), (2, .int (nI cs)), (3, .int k), (5, .int (nI (aRp S k1))), (6, .int (nI (aRp S k1 ^ cs))), (7, .ref ma), (8, .int (nI (evC (evB S k1 (aRp S k1) cs r)))), (9, .int (nI (evL (evB S k1 (aRp S k1) cs r)))), (10, .int (nI r)), (12, .int (nI g)), (13, .int (nI (evS S k1 (aRp S k1) cs r g cs))), (14, .int (nI (r / (aRp S k1) ^ c))), (15, .int (nI c))]) hx hb dX0_evened_241 hl (by decide) rfl (fun ls hl => ?_)
                      refine lv_iinc (v := nI (g + 1)) (lv' := [(12, .int (nI (g + 1))), (11, .int (nI (max (evM S k1 (aRp S k1) cs r g) (evS S k1 (aRp S k1) cs r g cs)))), (0, .ref (w 0)), (2, .int (nI cs)), (3, .int k), (5, .int (nI (aRp S k1))), (6, .int (nI (aRp S k1 ^ cs))), (7, .ref ma), (8, .int (nI (evC (evB S k1 (aRp S k1) cs r)))), (9, .int (nI (evL (evB S k1 (aRp S k1) cs r)))), (10, .int (nI r)), (13, .int (nI (evS S k1 (aRp S k1) cs r g cs))), (14, .int (nI (r / (aRp S k1) ^ c))), (15, .int (nI c))]) hx hb dX0_evened_243 hl (k := 10) rfl (nI_add g 1) (by decide) rfl (fun ls hl => ?_)
                      refine lv_goto (tgt := 174) hx hb dX0_evened_246 (by decide) ?_
                      exact ih174 (g + 1) (by omega) H locs ls ⟨by omega, hH, hS, lv_sub hl [2, 3, 4, 5, 6, 7, 8, 9, 10, 1, 0] rfl⟩
                    · refine lv_iload hx hb dX0_evened_202 (lv_at hl 11 rfl) ?_
                      refine lv_aload hx hb dX0_evened_204 (lv_at hl 5 rfl) ?_
                      refine lv_bipush (v := nI 10) hx hb dX0_evened_206 (by decide) ?_
                      refine lv_iload hx hb dX0_evened_208 (lv_at hl 12 rfl) ?_
                      refine lv_iload hx hb dX0_evened_210 (lv_at hl 3 rfl) ?_
                      refine lv_irem hx hb dX0_evened_212 (nI_ne0 (by first | omega | (refine Nat.lt_of_lt_of_le (Nat.mod_lt _ ?_) ?_ <;> omega)) (by first | omega | (refine Nat.lt_of_lt_of_le (Nat.mod_lt _ ?_) ?_ <;> omega))) ?_
                      refine lv_top (y := nI ((r / (aRp S k1) ^ c) % (aRp S k1))) (pk_rem (by first | omega | (refine Nat.lt_of_lt_of_le (Nat.mod_lt _ ?_) ?_ <;> omega)) (by first | omega | (refine Nat.lt_of_lt_of_le (Nat.mod_lt _ ?_) ?_ <;> omega)) (by first | omega | (refine Nat.lt_of_lt_of_le (Nat.mod_lt _ ?_) ?_ <;> omega))) ?_
                      refine lv_imul hx hb dX0_evened_213 ?_
                      refine lv_top (y := nI (10 * ((r / (aRp S k1) ^ c) % (aRp S k1)))) (pk_mul _ _) ?_
                      refine lv_iload hx hb dX0_evened_214 (lv_at hl 10 rfl) ?_
                      refine lv_iadd hx hb dX0_evened_216 ?_
                      refine lv_top (y := nI ((10 * ((r / (aRp S k1) ^ c) % (aRp S k1))) + g)) (nI_add _ _) ?_
                      refine hp_ild (n := 80) (j := (10 * ((r / (aRp S k1) ^ c) % (aRp S k1))) + g) (v := nI (mnd S (slL S k1 0 (r / (aRp S k1) ^ c % aRp S k1)) g)) hx hb hK hH 0 hma9 rfl (by first | omega | (refine Nat.lt_of_lt_of_le (Nat.mod_lt _ ?_) ?_ <;> omega)) (by first | omega | (refine Nat.lt_of_lt_of_le (Nat.mod_lt _ ?_) ?_ <;> omega)) (hmiN _ _ hmd (by omega)) dX0_evened_217 ?_
                      refine lv_iadd hx hb dX0_evened_218 ?_
                      refine lv_top (y := nI ((evR S k1 (aRp S k1) r g c) + (mnd S (slL S k1 0 (r / (aRp S k1) ^ c % aRp S k1)) g))) (nI_add _ _) ?_
                      refine lv_istore (lv' := [(13, .int (nI ((evR S k1 (aRp S k1) r g c) + (mnd S (slL S k1 0 (r / (aRp S k1) ^ c % aRp S k1)) g)))), (0, .ref (w 0)), (2, .int (nI cs)), (3, .int k), (5, .int (nI (aRp S k1))), (6, .int (nI (aRp S k1 ^ cs))), (7, .ref ma), (8, .int (nI (evC (evB S k1 (aRp S k1) cs r)))), (9, .int (nI (evL (evB S k1 (aRp S k1) cs r)))), (10, .int (nI r)), (11, .int (nI (evM S k1 (aRp S k1) cs r g))), (12, .int (nI g)), (14, .int (nI (r / (aRp S k1) ^ c))), (15, .int (nI c))]) hx hb dX0_evened_219 hl (by decide) rfl (fun ls hl => ?_)
                      refine lv_iload hx hb dX0_evened_221 (lv_at hl 12 rfl) ?_
                      refine lv_iload hx hb dX0_evened_223 (lv_at hl 4 rfl) ?_
                      refine lv_idiv hx hb dX0_evened_225 (nI_ne0 (by first | omega | (refine Nat.lt_of_lt_of_le (Nat.mod_lt _ ?_) ?_ <;> omega)) (by first | omega | (refine Nat.lt_of_lt_of_le (Nat.mod_lt _ ?_) ?_ <;> omega))) ?_
                      refine lv_top (y := nI ((r / (aRp S k1) ^ c) / (aRp S k1))) (pk_div (by first | omega | (refine Nat.lt_of_lt_of_le (Nat.mod_lt _ ?_) ?_ <;> omega)) (by first | omega | (refine Nat.lt_of_lt_of_le (Nat.mod_lt _ ?_) ?_ <;> omega)) (by first | omega | (refine Nat.lt_of_lt_of_le (Nat.mod_lt _ ?_) ?_ <;> omega))) ?_
                      refine lv_istore (lv' := [(14, .int (nI ((r / (aRp S k1) ^ c) / (aRp S k1)))), (13, .int (nI ((evR S k1 (aRp S k1) r g c) + (mnd S (slL S k1 0 (r / (aRp S k1) ^ c % aRp S k1)) g)))), (0, .ref (w 0)), (2, .int (nI cs)), (3, .int k), (5, .int (nI (aRp S k1))), (6, .int (nI (aRp S k1 ^ cs))), (7, .ref ma), (8, .int (nI (evC (evB S k1 (aRp S k1) cs r)))), (9, .int (nI (evL (evB S k1 (aRp S k1) cs r)))), (10, .int (nI r)), (11, .int (nI (evM S k1 (aRp S k1) cs r g))), (12, .int (nI g)), (15, .int (nI c))]) hx hb dX0_evened_226 hl (by decide) rfl (fun ls hl => ?_)
                      refine lv_iinc (v := nI (c + 1)) (lv' := [(15, .int (nI (c + 1))), (14, .int (nI ((r / (aRp S k1) ^ c) / (aRp S k1)))), (13, .int (nI ((evR S k1 (aRp S k1) r g c) + (mnd S (slL S k1 0 (r / (aRp S k1) ^ c % aRp S k1)) g)))), (0, .ref (w 0)), (2, .int (nI cs)), (3, .int k), (5, .int (nI (aRp S k1))), (6, .int (nI (aRp S k1 ^ cs))), (7, .ref ma), (8, .int (nI (evC (evB S k1 (aRp S k1) cs r)))), (9, .int (nI (evL (evB S k1 (aRp S k1) cs r)))), (10, .int (nI r)), (11, .int (nI (evM S k1 (aRp S k1) cs r g))), (12, .int (nI g))]) hx hb dX0_evened_228 hl (k := 13) rfl (nI_add c 1) (by decide) rfl (fun ls hl => ?_)
                      refine lv_goto (tgt := 196) hx hb dX0_evened_231 (by decide) ?_
                      have hl : lv_has ls 16 [(15, .int (nI (c + 1))), (14, .int (nI (r / (aRp S k1) ^ (c + 1)))), (13, .int (nI ((evR S k1 (aRp S k1) r g c) + (mnd S (slL S k1 0 (r / (aRp S k1) ^ c % aRp S k1)) g)))), (0, .ref (w 0)), (2, .int (nI cs)), (3, .int k), (5, .int (nI (aRp S k1))), (6, .int (nI (aRp S k1 ^ cs))), (7, .ref ma), (8, .int (nI (evC (evB S k1 (aRp S k1) cs r)))), (9, .int (nI (evL (evB S k1 (aRp S k1) cs r)))), (10, .int (nI r)), (11, .int (nI (evM S k1 (aRp S k1) cs r g))), (12, .int (nI g))] := by rw [show nI (r / (aRp S k1) ^ (c + 1)) = nI ((r / (aRp S k1) ^ c) / (aRp S k1)) from congrArg nI (div_next _ _ _).symm]; exact hl
                      exact ih196 (c + 1) (by omega) H locs ls ⟨by omega, hH, hS, lv_sub hl [3, 4, 5, 6, 7, 8, 9, 10, 11, 12, 13, 2, 1, 0] rfl⟩
              · refine lv_aload_n hx hb dX0_evened_95 rfl (lv_at hl 0 rfl) ?_
                refine lv_iload_n hx hb dX0_evened_96 rfl (lv_at hl 1 rfl) ?_
                refine lv_iconst (v := nI 0) hx hb dX0_evened_97 (by decide) ?_
                refine lv_iload hx hb dX0_evened_98 (lv_at hl 7 rfl) ?_
                refine hp_callV (As := [.int (nI k1), .int (nI 0), .int (nI s9)]) (rest := []) hx hb hml hown hts hPB hK hH hS (mc_slightsIn hK0 hG hO hO2 hW (q := k1) (cr := 0) (on := s9) (by omega) (by omega) (by omega)) hW.x rfl rfl 3 (lw_V q1017 q1019 qs30 q102 q1020) (by decide +kernel) ⟨rfl, rfl⟩ (by first | decide | omega | (simp only [rmk]; omega)) rfl hl.1 rfl (Nat.le_of_ble_eq_true rfl) (by first | decide | omega | (simp only [rmk]; omega)) dX0_evened_100 (fun v16 h18 H locs hp17 _ hH hS => ?_)
                obtain ⟨al15, jl15, tl15, sl15, Ll15, rfl, hAl15, hLl15, hxl15, hgl15, hul15, hvl15⟩ := hp17
                have hW := hW.X hxl15
                have hsk : ∀ t ∈ slL S k1 0 s9, slK S t := slL_ok hO hO2
                have htl15 := slL_90 hO hO2 k1 0 s9
                refine lv_astore (lv' := [(9, .ref al15), (0, .ref (w 0)), (1, .int (nI k1)), (2, .int (nI cs)), (3, .int k), (5, .int (nI (aRp S k1))), (6, .int (nI (aRp S k1 ^ cs))), (7, .ref ma), (8, .int (nI s9))]) hx hb dX0_evened_103 hl (by decide) rfl (fun ls hl => ?_)
                have hW1 := hW
                refine lv_iconst (v := nI 0) hx hb dX0_evened_105 (by decide) ?_
                refine lv_istore (lv' := [(10, .int (nI 0)), (9, .ref al15), (0, .ref (w 0)), (1, .int (nI k1)), (2, .int (nI cs)), (3, .int k), (5, .int (nI (aRp S k1))), (6, .int (nI (aRp S k1 ^ cs))), (7, .ref ma), (8, .int (nI s9))]) hx hb dX0_evened_106 hl (by decide) rfl (fun ls hl => ?_)
                refine w_loop3 (fun (g : Nat) (fm : Nat → Int32) (hh3 : Hp) => aN S - g) (fun (g : Nat) (fm : Nat → Int32) (hh3 : Hp) H locs ls => (g ≤ aN S) ∧ (miA S k1 s9 g fm) ∧ (hh3 ma = some (.inl (K 0, 80, .inl fm), tgm)) ∧ (frT tgm h18 hh3) ∧ (obK h18 hh3) ∧ HP D CL (zA s0) hh3 H ∧ va_S (zA s0) s.heap H locs ∧ lv_has ls 16 [(0, .ref (w 0)), (1, .int (nI k1)), (2, .int (nI cs)), (3, .int k), (5, .int (nI (aRp S k1))), (6, .int (nI (aRp S k1 ^ cs))), (7, .ref ma), (8, .int (nI s9)), (9, .ref al15), (10, .int (nI g))]) ?_ 0 fm h18 ⟨Nat.zero_le _, hmi, hxl15 _ _ _ hma9, frT.rf, obK.rf, hH, hS, lv_sub hl [2, 3, 4, 5, 6, 7, 8, 9, 1, 0] rfl⟩
                intro g fm hh3 ih108 H locs ls hP
                obtain ⟨hg, hmi, hma3, hfr3, hob3, hH, hS, hl⟩ := hP
                have htt := hgl15 _ _ _ hma9
                have hW := hW1.fr hfr3 (by omega) hob3
                have hA3 := hAl15.keep (fun b e q => hfr3 b e _ q (by omega)) hob3
                have hL3 := slo_keep hLl15 (fun b e q => hfr3 b e _ q (by omega))
                have hmb9 := mnd_b hO k1 0 s9 g
                refine lv_iload hx hb dX0_evened_108 (lv_at hl 9 rfl) ?_
                refine lv_aload_n hx hb dX0_evened_110 rfl (lv_at hl 0 rfl) ?_
                refine hp_get (C := RX0) (T := TX0) (N := 14) (v := .ref (w 3)) hx hb hts in_X0 hown hK hH hW.x rfl 2 (by decide) (hts _ q214) (fun _ z => z) rfl dX0_evened_111 ?_
                refine hp_siz hx hb hml hown hts hPB hK0 hK hH hS hG (hW.li 0 (by decide)) hW.ng q807 (by first | decide | (simp only [rmk]; omega)) hl.1 rfl (Nat.le_of_ble_eq_true rfl) (by first | decide | omega | (simp only [rmk]; omega)) dX0_evened_114 (fun H locs hH hS => ?_)
                refine lvN_ge (tgt := 144) hx hb (by first | omega | (refine Nat.lt_of_lt_of_le (Nat.mod_lt _ ?_) ?_ <;> omega)) (by first | omega | (refine Nat.lt_of_lt_of_le (Nat.mod_lt _ ?_) ?_ <;> omega)) dX0_evened_117 (by decide) (fun cc3 => ?_) (fun cc3 => ?_)
                · refine lv_iinc (v := nI (s9 + 1)) (lv' := [(8, .int (nI (s9 + 1))), (0, .ref (w 0)), (1, .int (nI k1)), (2, .int (nI cs)), (3, .int k), (5, .int (nI (aRp S k1))), (6, .int (nI (aRp S k1 ^ cs))), (7, .ref ma), (9, .ref al15), (10, .int (nI g))]) hx hb dX0_evened_144 hl (k := 7) rfl (nI_add s9 1) (by decide) rfl (fun ls hl => ?_)
                  refine lv_goto (tgt := 88) hx hb dX0_evened_147 (by decide) ?_
                  exact ih88 (s9 + 1) fm hh3 (by omega) H locs ls _ _ ⟨by omega, mi_row ((show g = aN S by omega) ▸ hmi), hma3, ex_add hntm (ex_tr hxB hxl15) hfr3, by omega, hH, hS, lv_sub hl [1, 2, 3, 4, 5, 6, 7, 0] rfl⟩
                · refine lv_aload hx hb dX0_evened_120 (lv_at hl 6 rfl) ?_
                  refine lv_bipush (v := nI 10) hx hb dX0_evened_122 (by decide) ?_
                  refine lv_iload hx hb dX0_evened_124 (lv_at hl 7 rfl) ?_
                  refine lv_imul hx hb dX0_evened_126 ?_
                  refine lv_top (y := nI (10 * s9)) (pk_mul _ _) ?_
                  refine lv_iload hx hb dX0_evened_127 (lv_at hl 9 rfl) ?_
                  refine lv_iadd hx hb dX0_evened_129 ?_
                  refine lv_top (y := nI ((10 * s9) + g)) (nI_add _ _) ?_
                  refine lv_aload hx hb dX0_evened_130 (lv_at hl 8 rfl) ?_
                  refine lv_iload hx hb dX0_evened_132 (lv_at hl 9 rfl) ?_
                  refine hp_callS (As := [.ref al15, .int (nI g)]) (rest := [.int (nI ((10 * s9) + g)), .ref ma]) hx hb hml hown hts hPB hH hS (mc_minded hK0 hG hO (T := slL S k1 0 s9) (g := g) hA3 hL3 hsk htl15 (by omega)) 2 (lw_S q1092 q1093 q102 q1094) (by decide +kernel) ⟨rfl, rfl⟩ (by first | decide | omega | (simp only [rmk]; omega)) rfl hl.1 rfl (Nat.le_of_ble_eq_true rfl) (by first | decide | omega | (simp only [rmk]; omega)) dX0_evened_134 (fun v19 h21 H locs hp20 _ hH hS => ?_)
                  obtain ⟨rfl, hq⟩ := hp20
                  rw [hq] at hH
                  refine hp_ist (n := 80) (j := (10 * s9) + g) hx hb hK hH hS 0 hma3 rfl (by first | omega | (refine Nat.lt_of_lt_of_le (Nat.mod_lt _ ?_) ?_ <;> omega)) (by first | omega | (refine Nat.lt_of_lt_of_le (Nat.mod_lt _ ?_) ?_ <;> omega)) dX0_evened_137 (fun H locs _ hH hS => ?_)
                  have hH : HP D CL (zA s0) (hset hh3 ma (.inl (K 0, 80, .inl (upd fm ((10 * s9) + g) (nI (mnd S (slL S k1 0 s9) g))))) tgm) H := hH
                  have hW := hW.fr (set_fr (c1 := .inl (K 0, 80, .inl (upd fm ((10 * s9) + g) (nI (mnd S (slL S k1 0 s9) g))))) hma3) (by omega) (ob_a hma3)
                  have e22 : (hset hh3 ma (.inl (K 0, 80, .inl (upd fm ((10 * s9) + g) (nI (mnd S (slL S k1 0 s9) g))))) tgm) ma = some (.inl (K 0, 80, .inl (upd fm ((10 * s9) + g) (nI (mnd S (slL S k1 0 s9) g)))), tgm) := hset_self _ _ _ _
                  refine lv_iinc (v := nI (g + 1)) (lv' := [(10, .int (nI (g + 1))), (0, .ref (w 0)), (1, .int (nI k1)), (2, .int (nI cs)), (3, .int k), (5, .int (nI (aRp S k1))), (6, .int (nI (aRp S k1 ^ cs))), (7, .ref ma), (8, .int (nI s9)), (9, .ref al15)]) hx hb dX0_evened_138 hl (k := 9) rfl (nI_add g 1) (by decide) rfl (fun ls hl => ?_)
                  refine lv_goto (tgt := 108) hx hb dX0_evened_141 (by decide) ?_
                  exact ih108 (g + 1) (upd fm (10 * s9 + g) (nI (mnd S (slL S k1 0 s9) g))) (hset hh3 ma (.inl (K 0, 80, .inl (upd fm ((10 * s9) + g) (nI (mnd S (slL S k1 0 s9) g))))) tgm) (by omega) H locs ls ⟨by omega, mi_put hn (by omega) hmi, e22, hfr3.tr (set_fr hma3), hob3.tr (ob_a hma3), hH, hS, lv_sub hl [1, 2, 3, 4, 5, 6, 7, 8, 9, 0] rfl⟩
            · refine lv_iload hx hb dX0_evened_66 (lv_at hl 5 rfl) ?_
              refine lv_iload hx hb dX0_evened_68 (lv_at hl 4 rfl) ?_
              have hpb2 := pow_b (n := aRp S k1) (i := c + 1) (by omega) (by omega)
              refine lv_imul hx hb dX0_evened_70 ?_
              refine lv_top (y := nI ((aRp S k1 ^ c) * (aRp S k1))) (pk_mul _ _) ?_
              refine lv_istore (lv' := [(6, .int (nI ((aRp S k1 ^ c) * (aRp S k1)))), (0, .ref (w 0)), (1, .int (nI k1)), (2, .int (nI cs)), (3, .int k), (5, .int (nI (aRp S k1))), (7, .int (nI c))]) hx hb dX0_evened_71 hl (by decide) rfl (fun ls hl => ?_)
              refine lv_iinc (v := nI (c + 1)) (lv' := [(7, .int (nI (c + 1))), (6, .int (nI ((aRp S k1 ^ c) * (aRp S k1)))), (0, .ref (w 0)), (1, .int (nI k1)), (2, .int (nI cs)), (3, .int k), (5, .int (nI (aRp S k1)))]) hx hb dX0_evened_73 hl (k := 6) rfl (nI_add c 1) (by decide) rfl (fun ls hl => ?_)
              refine lv_goto (tgt := 60) hx hb dX0_evened_76 (by decide) ?_
              exact ih60 (c + 1) (by omega) H locs ls ⟨by omega, hH, hS, lv_sub hl [2, 3, 4, 5, 6, 1, 0] rfl⟩
          · refine lv_iconst (v := (-1)) hx hb dX0_evened_45 (by decide) ?_
            exact hp_iret hx hb hr hlocks hH hS (by first | decide | omega | (simp only [rmk]; omega)) (by first | decide | omega | (simp only [rmk]; omega)) dX0_evened_46 (⟨congrArg some (congrArg Value.int (by simp [spEvened, hik1, ek1, c4b, c8, Nat.not_lt.mpr c8, cc9, ecs, ckk])), rfl⟩)
  · have hq := hp4.2; rw [hq] at hH
    refine lv_astoreN (lv' := [(4, .null), (0, .ref (w 0)), (1, .int room), (2, .int courses), (3, .int k)]) hx hb dX0_evened_5 hl (by decide) rfl (fun ls hl => ?_)
    refine lv_aloadN hx hb dX0_evened_7 (lv_at hl 0 rfl) ?_
    refine lv_instN hx hb dX0_evened_9 ?_
    refine lv_if_eq (tgt := 45) hx hb dX0_evened_12 (by decide) (fun c4b => ?_) (fun c4b => ?_)
    · refine lv_iconst (v := (-1)) hx hb dX0_evened_45 (by decide) ?_
      exact hp_iret hx hb hr hlocks hH hS (by first | decide | omega | (simp only [rmk]; omega)) (by first | decide | omega | (simp only [rmk]; omega)) dX0_evened_46 (⟨congrArg some (congrArg Value.int (by simp [spEvened, cz2, c4b])), rfl⟩)
    · exact absurd c4b (by decide)
end MODEL
