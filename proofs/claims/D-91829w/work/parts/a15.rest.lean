/-! by gen/mspec.py -/
set_option maxRecDepth 100000
section MODEL
variable {l : Launch} {s0 : State} {D : va_G} {K : Nat → ClassId} {wd : Nat → Nat} {o : Nat} {h : Hp} {I : Nat → Int32} {V : Nat → Nat → Int32} {J : Nat → Nat → Int64}
set_option maxHeartbeats 4000000 in
theorem mc_quarrels (hK0 : va_K D CL (TYS K) s0) {av : Nat → Nat} {ed mi : Nat} (hG : GX s0 wd av ed mi) {S : Ab} {w : Nat → Nat} {Ls : Nat → List Nat} {Jn : Nat → Nat} {Z : Nat → Nat → Int32} (hO : SOK S) (hO2 : SO2 S) (hW : CW K ed S h w Ls Jn Z) (room : Int32) : Met l yX0_quarrels (ws_ yX0_quarrels cX0_quarrels 5 ((Option.some Jvm.ClassFile.FieldType.int))) (rmk 5 0 0) (va_Pc [.ref (w 0), .int room] (PB s0 D CL (h))) (QR s0 D CL (fun v h1 => v = some (.int (spQuarrels S room)) ∧ ∃ Z1, h1 = zset h K w S Z1)) 0 0 (zA s0) := by
  refine hp_met (by decide) (Nat.le_of_ble_eq_true rfl) hK0 ?_
  intro p e s m below meth cd ls hx hb hr hlocks hml hown hnm hts hK hPB hl hS hH hA
  have hl : lv_has ls 5 [(0, .ref (w 0)), (1, .int room)] := hl
  have hown : s.vm.findClass RX0 = some m.cls := hown
  have hn := hO.n
  have hmk := hO.mk
  have hrl := hO.rl
  have hrm := hO.rm
  have hsz := hO.sz
  have hW0 := hW
  have hW := hW0.z Z
  have hH : HP D CL (zA s0) (zset h K w S Z) s.heap := by rw [zset_self hW0]; exact hH
  refine lv_aload_n hx hb dX0_quarrels_0 rfl (lv_at hl 0 rfl) ?_
  refine lv_iload_n hx hb dX0_quarrels_1 rfl (lv_at hl 1 rfl) ?_
  refine hp_callV (As := [.int room]) (rest := []) hx hb hml hown hts hPB hK hH hS (mc_roomAt hK0 hG hO hO2 hW room) hW.x rfl rfl 1 (lw_V q924 q926 qs24 q102 q927) (by decide +kernel) ⟨rfl, rfl⟩ (by decide) rfl hl.1 rfl (Nat.le_of_ble_eq_true rfl) (by decide) dX0_quarrels_2 (fun v3 h5 H locs hp4 _ hH hS => ?_)
  rcases hp4.1 with ⟨k1, hk1, hgk1, rfl⟩ | ⟨cz2, rfl⟩
  · have hq := hp4.2; rw [hq] at hH
    subst hgk1
    have hik1 : inN (nI k1) (aRm S) = true := by rw [inN_nI (by omega)]; exact decide_eq_true hk1
    have ek1 := nI_clamp (show k1 < 2 ^ 31 by omega)
    have hp6 := hO.rp (show k1 < aRm S by omega)
    refine lv_ifnonnull (tgt := 10) hx hb dX0_quarrels_5 (by decide) ?_
    refine lv_aload_n hx hb dX0_quarrels_10 rfl (lv_at hl 0 rfl) ?_
    refine lv_iload_n hx hb dX0_quarrels_11 rfl (lv_at hl 1 rfl) ?_
    refine lv_iconst (v := nI 0) hx hb dX0_quarrels_12 (by decide) ?_
    refine hp_callV (As := [.int (nI k1), .int (nI 0)]) (rest := []) hx hb hml hown hts hPB hK hH hS (mc_findAbove hK0 hG hO hO2 hW0 (Z := Z) (nI k1) (wo := 0) (by omega)) hW.x rfl rfl 2 (lw_V q1099 q1101 qs31 q102 q1102) (by decide +kernel) ⟨rfl, rfl⟩ (by decide) rfl hl.1 rfl (Nat.le_of_ble_eq_true rfl) (by decide) dX0_quarrels_13 (fun v8 h10 H locs hp9 _ hH hS => ?_)
    obtain ⟨rfl, Y7, hq, hkpY7, hab⟩ := hp9
    rw [hq] at hH
    have hW := hW0.z Y7
    refine lv_iconst (v := nI 0) hx hb dX0_quarrels_16 (by decide) ?_
    refine lv_istore_n (lv' := [(2, .int (nI 0)), (0, .ref (w 0)), (1, .int (nI k1))]) hx hb dX0_quarrels_17 rfl hl (by decide) rfl (fun ls hl => ?_)
    refine lv_iconst (v := nI 0) hx hb dX0_quarrels_18 (by decide) ?_
    refine lv_istore_n (lv' := [(3, .int (nI 0)), (2, .int (nI 0)), (0, .ref (w 0)), (1, .int (nI k1))]) hx hb dX0_quarrels_19 rfl hl (by decide) rfl (fun ls hl => ?_)
    refine w_loop1 (fun (x : Nat) => aN S - x) (fun (x : Nat) H locs ls => (x ≤ aN S) ∧ HP D CL (zA s0) (zset h K w S Y7) H ∧ va_S (zA s0) s.heap H locs ∧ lv_has ls 5 [(0, .ref (w 0)), (1, .int (nI k1)), (2, .int (nI (quA S (nI k1) x))), (3, .int (nI x))]) ?_ 0 ⟨Nat.zero_le _, hH, hS, lv_sub hl [2, 3, 1, 0] rfl⟩
    intro x ih20 H locs ls hP
    obtain ⟨hxx, hH, hS, hl⟩ := hP
    have hqa := quA_le S (nI k1) x (by omega)
    refine lv_iload_n hx hb dX0_quarrels_20 rfl (lv_at hl 3 rfl) ?_
    refine lv_aload_n hx hb dX0_quarrels_21 rfl (lv_at hl 0 rfl) ?_
    refine hp_get (C := RX0) (T := TX0) (N := 14) (v := .ref (w 3)) hx hb hts in_X0 hown hK hH hW.x rfl 2 (by decide) (hts _ q214) (fun _ z => z) rfl dX0_quarrels_22 ?_
    refine hp_siz hx hb hml hown hts hPB hK0 hK hH hS hG (hW.li 0 (by decide)) hW.ng q807 (by first | decide | (simp only [rmk]; omega)) hl.1 rfl (Nat.le_of_ble_eq_true rfl) (by decide) dX0_quarrels_25 (fun H locs hH hS => ?_)
    refine lvN_ge (tgt := 80) hx hb (by first | omega | (refine Nat.lt_of_lt_of_le (Nat.mod_lt _ ?_) ?_ <;> omega)) (by first | omega | (refine Nat.lt_of_lt_of_le (Nat.mod_lt _ ?_) ?_ <;> omega)) dX0_quarrels_28 (by decide) (fun c11 => ?_) (fun c11 => ?_)
    · refine lv_iload_n hx hb dX0_quarrels_80 rfl (lv_at hl 2 rfl) ?_
      exact hp_iret hx hb hr hlocks hH hS (by decide) (by decide) dX0_quarrels_81 (⟨congrArg some (congrArg Value.int (by rw [spQuarrels, hik1, if_pos rfl, show x = aN S by omega])), _, rfl⟩)
    · refine lv_iconst (v := nI 0) hx hb dX0_quarrels_31 (by decide) ?_
      refine lv_istore (lv' := [(4, .int (nI 0)), (0, .ref (w 0)), (1, .int (nI k1)), (2, .int (nI (quA S (nI k1) x))), (3, .int (nI x))]) hx hb dX0_quarrels_32 hl (by decide) rfl (fun ls hl => ?_)
      refine w_loop1 (fun (y : Nat) => x - y) (fun (y : Nat) H locs ls => (y ≤ x) ∧ HP D CL (zA s0) (zset h K w S Y7) H ∧ va_S (zA s0) s.heap H locs ∧ lv_has ls 5 [(0, .ref (w 0)), (1, .int (nI k1)), (2, .int (nI (quA S (nI k1) x + quB S (nI k1) x y))), (3, .int (nI x)), (4, .int (nI y))]) ?_ 0 ⟨Nat.zero_le _, hH, hS, lv_sub hl [1, 2, 3, 4, 0] rfl⟩
      intro y ih34 H locs ls hP
      obtain ⟨hyy, hH, hS, hl⟩ := hP
      have hqb : quB S (nI k1) x y ≤ y := cntN_le _ _
      refine lv_iload hx hb dX0_quarrels_34 (lv_at hl 4 rfl) ?_
      refine lv_iload_n hx hb dX0_quarrels_36 rfl (lv_at hl 3 rfl) ?_
      refine lvN_ge (tgt := 74) hx hb (by first | omega | (refine Nat.lt_of_lt_of_le (Nat.mod_lt _ ?_) ?_ <;> omega)) (by first | omega | (refine Nat.lt_of_lt_of_le (Nat.mod_lt _ ?_) ?_ <;> omega)) dX0_quarrels_37 (by decide) (fun c12 => ?_) (fun c12 => ?_)
      · refine lv_iinc (v := nI (x + 1)) (lv' := [(3, .int (nI (x + 1))), (0, .ref (w 0)), (1, .int (nI k1)), (2, .int (nI (quA S (nI k1) x + quB S (nI k1) x y))), (4, .int (nI y))]) hx hb dX0_quarrels_74 hl (k := 3) rfl (nI_add x 1) (by decide) rfl (fun ls hl => ?_)
        refine lv_goto (tgt := 20) hx hb dX0_quarrels_77 (by decide) ?_
        have hl : lv_has ls 5 [(3, .int (nI (x + 1))), (0, .ref (w 0)), (1, .int (nI k1)), (2, .int (nI (quA S (nI k1) (x + 1)))), (4, .int (nI y))] := by rw [show nI (quA S (nI k1) (x + 1)) = nI (quA S (nI k1) x + quB S (nI k1) x y) from (congrArg nI (by rw [show y = x by omega]; rfl))]; exact hl
        exact ih20 (x + 1) (by omega) H locs ls ⟨by omega, hH, hS, lv_sub hl [1, 2, 3, 0] rfl⟩
      · refine lv_iload_n hx hb dX0_quarrels_40 rfl (lv_at hl 2 rfl) ?_
        refine lv_aload_n hx hb dX0_quarrels_41 rfl (lv_at hl 0 rfl) ?_
        refine lv_iload_n hx hb dX0_quarrels_42 rfl (lv_at hl 3 rfl) ?_
        refine lv_iload hx hb dX0_quarrels_43 (lv_at hl 4 rfl) ?_
        refine hp_callV (As := [.int (nI x), .int (nI y)]) (rest := [.int (nI (quA S (nI k1) x + quB S (nI k1) x y))]) hx hb hml hown hts hPB hK hH hS (mc_isAb hK0 hG hO hO2 hW0 (Z := Y7) (A := abv S (nI k1) 0) (x := x) (y := y) hab (by omega) (by omega)) hW.x rfl rfl 2 (lw_V q1107 q1109 qs33 q102 q1110) (by decide +kernel) ⟨rfl, rfl⟩ (by decide) rfl hl.1 rfl (Nat.le_of_ble_eq_true rfl) (by decide) dX0_quarrels_45 (fun v13 h15 H locs hp14 _ hH hS => ?_)
        obtain ⟨rfl, hq⟩ := hp14
        rw [hq] at hH
        refine lvB_eq (tgt := 65) hx hb dX0_quarrels_48 (by decide) (fun c1 => ?_) (fun c1 => ?_)
        · refine lv_iconst (v := nI 0) hx hb dX0_quarrels_65 (by decide) ?_
          refine lv_iadd hx hb dX0_quarrels_66 ?_
          refine lv_top (y := nI (quA S (nI k1) x + quB S (nI k1) x (y + 1))) (qu_f (by rw [c1]; simp)) ?_
          refine lv_istore_n (lv' := [(2, .int (nI (quA S (nI k1) x + quB S (nI k1) x (y + 1)))), (0, .ref (w 0)), (1, .int (nI k1)), (3, .int (nI x)), (4, .int (nI y))]) hx hb dX0_quarrels_67 rfl hl (by decide) rfl (fun ls hl => ?_)
          refine lv_iinc (v := nI (y + 1)) (lv' := [(4, .int (nI (y + 1))), (2, .int (nI (quA S (nI k1) x + quB S (nI k1) x (y + 1)))), (0, .ref (w 0)), (1, .int (nI k1)), (3, .int (nI x))]) hx hb dX0_quarrels_68 hl (k := 4) rfl (nI_add y 1) (by decide) rfl (fun ls hl => ?_)
          refine lv_goto (tgt := 34) hx hb dX0_quarrels_71 (by decide) ?_
          exact ih34 (y + 1) (by omega) H locs ls ⟨by omega, hH, hS, lv_sub hl [2, 3, 1, 4, 0] rfl⟩
        · refine lv_aload_n hx hb dX0_quarrels_51 rfl (lv_at hl 0 rfl) ?_
          refine lv_iload hx hb dX0_quarrels_52 (lv_at hl 4 rfl) ?_
          refine lv_iload_n hx hb dX0_quarrels_54 rfl (lv_at hl 3 rfl) ?_
          refine hp_callV (As := [.int (nI y), .int (nI x)]) (rest := [.int (nI (quA S (nI k1) x + quB S (nI k1) x y))]) hx hb hml hown hts hPB hK hH hS (mc_isAb hK0 hG hO hO2 hW0 (Z := Y7) (A := abv S (nI k1) 0) (x := y) (y := x) hab (by omega) (by omega)) hW.x rfl rfl 2 (lw_V q1107 q1109 qs33 q102 q1110) (by decide +kernel) ⟨rfl, rfl⟩ (by decide) rfl hl.1 rfl (Nat.le_of_ble_eq_true rfl) (by decide) dX0_quarrels_55 (fun v16 h18 H locs hp17 _ hH hS => ?_)
          obtain ⟨rfl, hq⟩ := hp17
          rw [hq] at hH
          refine lvB_eq (tgt := 65) hx hb dX0_quarrels_58 (by decide) (fun c2 => ?_) (fun c2 => ?_)
          · refine lv_iconst (v := nI 0) hx hb dX0_quarrels_65 (by decide) ?_
            refine lv_iadd hx hb dX0_quarrels_66 ?_
            refine lv_top (y := nI (quA S (nI k1) x + quB S (nI k1) x (y + 1))) (qu_f (by rw [c2]; simp)) ?_
            refine lv_istore_n (lv' := [(2, .int (nI (quA S (nI k1) x + quB S (nI k1) x (y + 1)))), (0, .ref (w 0)), (1, .int (nI k1)), (3, .int (nI x)), (4, .int (nI y))]) hx hb dX0_quarrels_67 rfl hl (by decide) rfl (fun ls hl => ?_)
            refine lv_iinc (v := nI (y + 1)) (lv' := [(4, .int (nI (y + 1))), (2, .int (nI (quA S (nI k1) x + quB S (nI k1) x (y + 1)))), (0, .ref (w 0)), (1, .int (nI k1)), (3, .int (nI x))]) hx hb dX0_quarrels_68 hl (k := 4) rfl (nI_add y 1) (by decide) rfl (fun ls hl => ?_)
            refine lv_goto (tgt := 34) hx hb dX0_quarrels_71 (by decide) ?_
            exact ih34 (y + 1) (by omega) H locs ls ⟨by omega, hH, hS, lv_sub hl [2, 3, 1, 4, 0] rfl⟩
          · refine lv_iconst (v := nI 1) hx hb dX0_quarrels_61 (by decide) ?_
            refine lv_goto (tgt := 66) hx hb dX0_quarrels_62 (by decide) ?_
            refine lv_iadd hx hb dX0_quarrels_66 ?_
            refine lv_top (y := nI (quA S (nI k1) x + quB S (nI k1) x (y + 1))) (qu_t c1 c2) ?_
            refine lv_istore_n (lv' := [(2, .int (nI (quA S (nI k1) x + quB S (nI k1) x (y + 1)))), (0, .ref (w 0)), (1, .int (nI k1)), (3, .int (nI x)), (4, .int (nI y))]) hx hb dX0_quarrels_67 rfl hl (by decide) rfl (fun ls hl => ?_)
            refine lv_iinc (v := nI (y + 1)) (lv' := [(4, .int (nI (y + 1))), (2, .int (nI (quA S (nI k1) x + quB S (nI k1) x (y + 1)))), (0, .ref (w 0)), (1, .int (nI k1)), (3, .int (nI x))]) hx hb dX0_quarrels_68 hl (k := 4) rfl (nI_add y 1) (by decide) rfl (fun ls hl => ?_)
            refine lv_goto (tgt := 34) hx hb dX0_quarrels_71 (by decide) ?_
            exact ih34 (y + 1) (by omega) H locs ls ⟨by omega, hH, hS, lv_sub hl [2, 3, 1, 4, 0] rfl⟩
  · have hq := hp4.2; rw [hq] at hH
    refine lv_ifnonnullN hx hb dX0_quarrels_5 ?_
    refine lv_iconst (v := (-1)) hx hb dX0_quarrels_8 (by decide) ?_
    exact hp_iret hx hb hr hlocks hH hS (by decide) (by decide) dX0_quarrels_9 (⟨congrArg some (congrArg Value.int (by simp [spQuarrels, cz2])), _, rfl⟩)
set_option maxHeartbeats 4000000 in
theorem mc_weightOf (hK0 : va_K D CL (TYS K) s0) {av : Nat → Nat} {ed mi : Nat} (hG : GX s0 wd av ed mi) {S : Ab} {w : Nat → Nat} {Ls : Nat → List Nat} {Jn : Nat → Nat} {Z : Nat → Nat → Int32} (hO : SOK S) (hO2 : SO2 S) (hW : CW K ed S h w Ls Jn Z) {b : Nat} (hb0 : b < 4096) : Met l yX0_weightOf (ws_ yX0_weightOf cX0_weightOf 4 ((Option.some Jvm.ClassFile.FieldType.int))) (rmk 3 0 0) (va_Pc [.ref (w 0), .int (nI b)] (PB s0 D CL (h))) (QR s0 D CL (fun v h1 => v = some (.int (nI (wtF S b (aRl S)))) ∧ h1 = h)) 0 0 (zA s0) := by
  refine hp_met (by decide) (Nat.le_of_ble_eq_true rfl) hK0 ?_
  intro p e s m below meth cd ls hx hb hr hlocks hml hown hnm hts hK hPB hl hS hH hA
  have hl : lv_has ls 4 [(0, .ref (w 0)), (1, .int (nI b))] := hl
  have hown : s.vm.findClass RX0 = some m.cls := hown
  have hn := hO.n
  have hmk := hO.mk
  have hrl := hO.rl
  have hrm := hO.rm
  have hsz := hO.sz
  refine lv_iconst (v := nI 0) hx hb dX0_weightOf_0 (by decide) ?_
  refine lv_istore_n (lv' := [(2, .int (nI 0)), (0, .ref (w 0)), (1, .int (nI b))]) hx hb dX0_weightOf_1 rfl hl (by decide) rfl (fun ls hl => ?_)
  refine lv_iconst (v := nI 0) hx hb dX0_weightOf_2 (by decide) ?_
  refine lv_istore_n (lv' := [(3, .int (nI 0)), (2, .int (nI 0)), (0, .ref (w 0)), (1, .int (nI b))]) hx hb dX0_weightOf_3 rfl hl (by decide) rfl (fun ls hl => ?_)
  refine w_loop1 (fun (i : Nat) => aRl S - i) (fun (i : Nat) H locs ls => (i ≤ aRl S) ∧ HP D CL (zA s0) h H ∧ va_S (zA s0) s.heap H locs ∧ lv_has ls 4 [(0, .ref (w 0)), (1, .int (nI b)), (2, .int (nI (wtF S b i))), (3, .int (nI i))]) ?_ 0 ⟨Nat.zero_le _, hH, hS, lv_sub hl [2, 3, 1, 0] rfl⟩
  intro i ih4 H locs ls hP
  obtain ⟨hi, hH, hS, hl⟩ := hP
  have hwl := wtF_le hO b i hi
  refine lv_iload_n hx hb dX0_weightOf_4 rfl (lv_at hl 3 rfl) ?_
  refine lv_aload_n hx hb dX0_weightOf_5 rfl (lv_at hl 0 rfl) ?_
  refine hp_get (C := RX0) (T := TX0) (N := 14) (v := .ref (w 5)) hx hb hts in_X0 hown hK hH hW.x rfl 4 (by decide) (hts _ q216) (fun _ z => z) rfl dX0_weightOf_6 ?_
  refine hp_siz hx hb hml hown hts hPB hK0 hK hH hS hG (hW.li 2 (by decide)) hW.nr q807 (by first | decide | (simp only [rmk]; omega)) hl.1 rfl (Nat.le_of_ble_eq_true rfl) (by decide) dX0_weightOf_9 (fun H locs hH hS => ?_)
  refine lvN_ge (tgt := 44) hx hb (by first | omega | (refine Nat.lt_of_lt_of_le (Nat.mod_lt _ ?_) ?_ <;> omega)) (by first | omega | (refine Nat.lt_of_lt_of_le (Nat.mod_lt _ ?_) ?_ <;> omega)) dX0_weightOf_12 (by decide) (fun c1 => ?_) (fun c1 => ?_)
  · have ei : i = aRl S := by omega
    subst ei
    refine lv_iload_n hx hb dX0_weightOf_44 rfl (lv_at hl 2 rfl) ?_
    exact hp_iret hx hb hr hlocks hH hS (by decide) (by decide) dX0_weightOf_45 (⟨rfl, rfl⟩)
  · refine lv_iload_n hx hb dX0_weightOf_15 rfl (lv_at hl 2 rfl) ?_
    refine lv_iload_n hx hb dX0_weightOf_16 rfl (lv_at hl 1 rfl) ?_
    refine lv_iload_n hx hb dX0_weightOf_17 rfl (lv_at hl 3 rfl) ?_
    refine lv_ishr hx hb dX0_weightOf_18 ?_
    refine lv_top (y := nI (b / 2 ^ i)) (bi_shr (by first | omega | (refine Nat.lt_of_lt_of_le (Nat.mod_lt _ ?_) ?_ <;> omega)) (by first | omega | (refine Nat.lt_of_lt_of_le (Nat.mod_lt _ ?_) ?_ <;> omega))) ?_
    refine lv_iconst (v := nI 1) hx hb dX0_weightOf_19 (by decide) ?_
    refine lv_iand hx hb dX0_weightOf_20 ?_
    refine lv_top (y := zI (Nat.testBit b i)) ((bi_and _ _).trans (bi_z _ _)) ?_
    refine lv_aload_n hx hb dX0_weightOf_21 rfl (lv_at hl 0 rfl) ?_
    refine hp_get (C := RX0) (T := TX0) (N := 14) (v := .ref (w 5)) hx hb hts in_X0 hown hK hH hW.x rfl 4 (by decide) (hts _ q216) (fun _ z => z) rfl dX0_weightOf_22 ?_
    refine lv_iload_n hx hb dX0_weightOf_25 rfl (lv_at hl 3 rfl) ?_
    refine hp_lget hx hb hml hown hts hPB hK0 hK hH hS hG (hW.li 2 (by decide)) (k9 := i) (by rw [hW.nr]; omega) q808 (by first | decide | (simp only [rmk]; omega)) hl.1 rfl (Nat.le_of_ble_eq_true rfl) (by decide) dX0_weightOf_26 (fun H locs hH hS => ?_)
    have hn2 := cN_le S i
    have hkhn2 := hO.kd (show i < aRl S by omega)
    have hwhn2 := hO.wt (show i < aRl S by omega)
    refine hp_castR hx hb hown (hts _ q812) hG hPB hK hH (hW.r (show i < aRl S by omega)) (hO.kd (show i < aRl S by omega)) dX0_weightOf_29 ?_
    refine hp_gR2 hx hb hts hown hK hH (hW.r (show i < aRl S by omega)) (hO.kd (show i < aRl S by omega)) (hts _ q738) dX0_weightOf_32 ?_
    refine lv_imul hx hb dX0_weightOf_35 ?_
    refine lv_top (y := nI ((if b.testBit i then 1 else 0) * aWt S i)) (nI_bm _ _) ?_
    refine lv_iadd hx hb dX0_weightOf_36 ?_
    refine lv_top (y := nI ((wtF S b i) + ((if b.testBit i then 1 else 0) * aWt S i))) (nI_add _ _) ?_
    refine lv_istore_n (lv' := [(2, .int (nI ((wtF S b i) + ((if b.testBit i then 1 else 0) * aWt S i)))), (0, .ref (w 0)), (1, .int (nI b)), (3, .int (nI i))]) hx hb dX0_weightOf_37 rfl hl (by decide) rfl (fun ls hl => ?_)
    refine lv_iinc (v := nI (i + 1)) (lv' := [(3, .int (nI (i + 1))), (2, .int (nI ((wtF S b i) + ((if b.testBit i then 1 else 0) * aWt S i)))), (0, .ref (w 0)), (1, .int (nI b))]) hx hb dX0_weightOf_38 hl (k := 3) rfl (nI_add i 1) (by decide) rfl (fun ls hl => ?_)
    refine lv_goto (tgt := 4) hx hb dX0_weightOf_41 (by decide) ?_
    exact ih4 (i + 1) (by omega) H locs ls ⟨by omega, hH, hS, lv_sub hl [2, 3, 1, 0] rfl⟩
set_option maxHeartbeats 4000000 in
theorem mc_aboveOnly (hK0 : va_K D CL (TYS K) s0) {av : Nat → Nat} {ed mi : Nat} (hG : GX s0 wd av ed mi) {S : Ab} {w : Nat → Nat} {Ls : Nat → List Nat} {Jn : Nat → Nat} {Z : Nat → Nat → Int32} (hO : SOK S) (hO2 : SO2 S) (hW : CW K ed S h w Ls Jn Z) {b : Nat} (room : Int32) (hb0 : b < 4096) : Met l yX0_isAboveOnly (ws_ yX0_isAboveOnly cX0_isAboveOnly 4 ((Option.some Jvm.ClassFile.FieldType.boolean))) (rmk 3 0 0) (va_Pc [.ref (w 0), .int (nI b), .int room] (PB s0 D CL (h))) (QR s0 D CL (fun v h1 => v = some (.int (zI (onlyA S room b))) ∧ h1 = h)) 0 0 (zA s0) := by
  refine hp_met (by decide) (Nat.le_of_ble_eq_true rfl) hK0 ?_
  intro p e s m below meth cd ls hx hb hr hlocks hml hown hnm hts hK hPB hl hS hH hA
  have hl : lv_has ls 4 [(0, .ref (w 0)), (1, .int (nI b)), (2, .int room)] := hl
  have hown : s.vm.findClass RX0 = some m.cls := hown
  have hn := hO.n
  have hmk := hO.mk
  have hrl := hO.rl
  have hrm := hO.rm
  have hsz := hO.sz
  refine lv_iconst (v := nI 0) hx hb dX0_isAboveOnly_0 (by decide) ?_
  refine lv_istore_n (lv' := [(3, .int (nI 0)), (0, .ref (w 0)), (1, .int (nI b)), (2, .int room)]) hx hb dX0_isAboveOnly_1 rfl hl (by decide) rfl (fun ls hl => ?_)
  refine w_loop1 (fun (i : Nat) => aRl S - i) (fun (i : Nat) H locs ls => (i ≤ aRl S) ∧ (∀ u, u < i → ¬ (b.testBit u = true ∧ ¬ (aKd S u = 0 ∧ cnt S u room = true))) ∧ HP D CL (zA s0) h H ∧ va_S (zA s0) s.heap H locs ∧ lv_has ls 4 [(0, .ref (w 0)), (1, .int (nI b)), (2, .int room), (3, .int (nI i))]) ?_ 0 ⟨Nat.zero_le _, fun u hu => absurd hu (Nat.not_lt_zero _), hH, hS, lv_sub hl [1, 2, 3, 0] rfl⟩
  intro i ih2 H locs ls hP
  obtain ⟨hi, hno, hH, hS, hl⟩ := hP
  refine lv_iload_n hx hb dX0_isAboveOnly_2 rfl (lv_at hl 3 rfl) ?_
  refine lv_aload_n hx hb dX0_isAboveOnly_3 rfl (lv_at hl 0 rfl) ?_
  refine hp_get (C := RX0) (T := TX0) (N := 14) (v := .ref (w 5)) hx hb hts in_X0 hown hK hH hW.x rfl 4 (by decide) (hts _ q216) (fun _ z => z) rfl dX0_isAboveOnly_4 ?_
  refine hp_siz hx hb hml hown hts hPB hK0 hK hH hS hG (hW.li 2 (by decide)) hW.nr q807 (by first | decide | (simp only [rmk]; omega)) hl.1 rfl (Nat.le_of_ble_eq_true rfl) (by decide) dX0_isAboveOnly_7 (fun H locs hH hS => ?_)
  refine lvN_ge (tgt := 65) hx hb (by first | omega | (refine Nat.lt_of_lt_of_le (Nat.mod_lt _ ?_) ?_ <;> omega)) (by first | omega | (refine Nat.lt_of_lt_of_le (Nat.mod_lt _ ?_) ?_ <;> omega)) dX0_isAboveOnly_10 (by decide) (fun c1 => ?_) (fun c1 => ?_)
  · refine lv_iconst (v := nI 1) hx hb dX0_isAboveOnly_65 (by decide) ?_
    exact hp_zret hx hb hr rfl hlocks hH hS (by decide) (by decide) dX0_isAboveOnly_66 (⟨congrArg some (congrArg Value.int (zI_1 (only_t (by rw [← show i = aRl S by omega]; exact hno)))), rfl⟩)
  · refine lv_iload_n hx hb dX0_isAboveOnly_13 rfl (lv_at hl 1 rfl) ?_
    refine lv_iload_n hx hb dX0_isAboveOnly_14 rfl (lv_at hl 3 rfl) ?_
    refine lv_ishr hx hb dX0_isAboveOnly_15 ?_
    refine lv_top (y := nI (b / 2 ^ i)) (bi_shr (by first | omega | (refine Nat.lt_of_lt_of_le (Nat.mod_lt _ ?_) ?_ <;> omega)) (by first | omega | (refine Nat.lt_of_lt_of_le (Nat.mod_lt _ ?_) ?_ <;> omega))) ?_
    refine lv_iconst (v := nI 1) hx hb dX0_isAboveOnly_16 (by decide) ?_
    refine lv_iand hx hb dX0_isAboveOnly_17 ?_
    refine lv_top (y := zI (Nat.testBit b i)) ((bi_and _ _).trans (bi_z _ _)) ?_
    refine lv_iconst (v := nI 1) hx hb dX0_isAboveOnly_18 (by decide) ?_
    refine lvB_ne1 (tgt := 59) hx hb dX0_isAboveOnly_19 (by decide) (fun c1 => ?_) (fun c1 => ?_)
    · refine lv_iinc (v := nI (i + 1)) (lv' := [(3, .int (nI (i + 1))), (0, .ref (w 0)), (1, .int (nI b)), (2, .int room)]) hx hb dX0_isAboveOnly_59 hl (k := 3) rfl (nI_add i 1) (by decide) rfl (fun ls hl => ?_)
      refine lv_goto (tgt := 2) hx hb dX0_isAboveOnly_62 (by decide) ?_
      exact ih2 (i + 1) (by omega) H locs ls ⟨by omega, no_up hno (fun q => by rw [c1] at q; cases q.1), hH, hS, lv_sub hl [1, 2, 3, 0] rfl⟩
    · refine lv_aload_n hx hb dX0_isAboveOnly_22 rfl (lv_at hl 0 rfl) ?_
      refine hp_get (C := RX0) (T := TX0) (N := 14) (v := .ref (w 5)) hx hb hts in_X0 hown hK hH hW.x rfl 4 (by decide) (hts _ q216) (fun _ z => z) rfl dX0_isAboveOnly_23 ?_
      refine lv_iload_n hx hb dX0_isAboveOnly_26 rfl (lv_at hl 3 rfl) ?_
      refine hp_lget hx hb hml hown hts hPB hK0 hK hH hS hG (hW.li 2 (by decide)) (k9 := i) (by rw [hW.nr]; omega) q808 (by first | decide | (simp only [rmk]; omega)) hl.1 rfl (Nat.le_of_ble_eq_true rfl) (by decide) dX0_isAboveOnly_27 (fun H locs hH hS => ?_)
      have hn2 := cN_le S i
      have hkhn2 := hO.kd (show i < aRl S by omega)
      have hwhn2 := hO.wt (show i < aRl S by omega)
      refine hp_castR hx hb hown (hts _ q812) hG hPB hK hH (hW.r (show i < aRl S by omega)) (hO.kd (show i < aRl S by omega)) dX0_isAboveOnly_30 ?_
      refine hp_kind hx hb hml hown hts hPB hK0 hK hH hS hG (hW.r (show i < aRl S by omega)) (hO.kd (show i < aRl S by omega)) q887 (by first | decide | (simp only [rmk]; omega)) hl.1 rfl (Nat.le_of_ble_eq_true rfl) (by decide) dX0_isAboveOnly_33 (fun H locs hH hS => ?_)
      refine lvZ_ne (tgt := 57) hx hb (by first | omega | (refine Nat.lt_of_lt_of_le (Nat.mod_lt _ ?_) ?_ <;> omega)) dX0_isAboveOnly_36 (by decide) (fun c2 => ?_) (fun c2 => ?_)
      · refine lv_iconst (v := nI 0) hx hb dX0_isAboveOnly_57 (by decide) ?_
        exact hp_zret hx hb hr rfl hlocks hH hS (by decide) (by decide) dX0_isAboveOnly_58 (⟨congrArg some (congrArg Value.int (zI_0 (only_f (show i < aRl S by omega) c1 (Or.inl c2)))), rfl⟩)
      · refine lv_aload_n hx hb dX0_isAboveOnly_39 rfl (lv_at hl 0 rfl) ?_
        refine hp_get (C := RX0) (T := TX0) (N := 14) (v := .ref (w 5)) hx hb hts in_X0 hown hK hH hW.x rfl 4 (by decide) (hts _ q216) (fun _ z => z) rfl dX0_isAboveOnly_40 ?_
        refine lv_iload_n hx hb dX0_isAboveOnly_43 rfl (lv_at hl 3 rfl) ?_
        refine hp_lget hx hb hml hown hts hPB hK0 hK hH hS hG (hW.li 2 (by decide)) (k9 := i) (by rw [hW.nr]; omega) q808 (by first | decide | (simp only [rmk]; omega)) hl.1 rfl (Nat.le_of_ble_eq_true rfl) (by decide) dX0_isAboveOnly_44 (fun H locs hH hS => ?_)
        have hn3 := cN_le S i
        have hkhn3 := hO.kd (show i < aRl S by omega)
        have hwhn3 := hO.wt (show i < aRl S by omega)
        refine hp_castR hx hb hown (hts _ q812) hG hPB hK hH (hW.r (show i < aRl S by omega)) (hO.kd (show i < aRl S by omega)) dX0_isAboveOnly_47 ?_
        refine lv_iload_n hx hb dX0_isAboveOnly_50 rfl (lv_at hl 2 rfl) ?_
        refine hp_cin hx hb hml hown hts hPB hK0 hK hH hS hG (hW.r (show i < aRl S by omega)) (hO.kd (show i < aRl S by omega)) q993 (by first | decide | (simp only [rmk]; omega)) hl.1 rfl (Nat.le_of_ble_eq_true rfl) (by decide) dX0_isAboveOnly_51 (fun H locs hH hS => ?_)
        refine lv_top (y := zI (cnt S i room)) rfl ?_
        refine lvB_ne (tgt := 59) hx hb dX0_isAboveOnly_54 (by decide) (fun c3 => ?_) (fun c3 => ?_)
        · refine lv_iinc (v := nI (i + 1)) (lv' := [(3, .int (nI (i + 1))), (0, .ref (w 0)), (1, .int (nI b)), (2, .int room)]) hx hb dX0_isAboveOnly_59 hl (k := 3) rfl (nI_add i 1) (by decide) rfl (fun ls hl => ?_)
          refine lv_goto (tgt := 2) hx hb dX0_isAboveOnly_62 (by decide) ?_
          exact ih2 (i + 1) (by omega) H locs ls ⟨by omega, no_up hno (fun q => q.2 ⟨c2, c3⟩), hH, hS, lv_sub hl [1, 2, 3, 0] rfl⟩
        · refine lv_iconst (v := nI 0) hx hb dX0_isAboveOnly_57 (by decide) ?_
          exact hp_zret hx hb hr rfl hlocks hH hS (by decide) (by decide) dX0_isAboveOnly_58 (⟨congrArg some (congrArg Value.int (zI_0 (only_f (show i < aRl S by omega) c1 (Or.inr c3)))), rfl⟩)
set_option maxHeartbeats 4000000 in
theorem mc_toRest (hK0 : va_K D CL (TYS K) s0) {av : Nat → Nat} {ed mi : Nat} (hG : GX s0 wd av ed mi) {S : Ab} {w : Nat → Nat} {Ls : Nat → List Nat} {Jn : Nat → Nat} {Z : Nat → Nat → Int32} (hO : SOK S) (hO2 : SO2 S) (hW : CW K ed S h w Ls Jn Z) (room what : Int32) : Met l yX0_toRest (ws_ yX0_toRest cX0_toRest 6 ((Option.some Jvm.ClassFile.FieldType.int))) (rmk 5 0 0) (va_Pc [.ref (w 0), .int room, .int what] (PB s0 D CL (h))) (QR s0 D CL (fun v h1 => v = some (.int (spToRest S room what)) ∧ ∃ Z1, h1 = zset h K w S Z1)) 0 0 (zA s0) := by
  refine hp_met (by decide) (Nat.le_of_ble_eq_true rfl) hK0 ?_
  intro p e s m below meth cd ls hx hb hr hlocks hml hown hnm hts hK hPB hl hS hH hA
  have hl : lv_has ls 6 [(0, .ref (w 0)), (1, .int room), (2, .int what)] := hl
  have hown : s.vm.findClass RX0 = some m.cls := hown
  have hn := hO.n
  have hmk := hO.mk
  have hrl := hO.rl
  have hrm := hO.rm
  have hsz := hO.sz
  have hW0 := hW
  have hW := hW0.z Z
  have hH : HP D CL (zA s0) (zset h K w S Z) s.heap := by rw [zset_self hW0]; exact hH
  have hp12 := pow12_le hrl
  refine lv_aload_n hx hb dX0_toRest_0 rfl (lv_at hl 0 rfl) ?_
  refine lv_iload_n hx hb dX0_toRest_1 rfl (lv_at hl 1 rfl) ?_
  refine hp_callV (As := [.int room]) (rest := []) hx hb hml hown hts hPB hK hH hS (mc_roomAt hK0 hG hO hO2 hW room) hW.x rfl rfl 1 (lw_V q924 q926 qs24 q102 q927) (by decide +kernel) ⟨rfl, rfl⟩ (by decide) rfl hl.1 rfl (Nat.le_of_ble_eq_true rfl) (by decide) dX0_toRest_2 (fun v3 h5 H locs hp4 _ hH hS => ?_)
  rcases hp4.1 with ⟨k1, hk1, hgk1, rfl⟩ | ⟨cz2, rfl⟩
  · have hq := hp4.2; rw [hq] at hH
    subst hgk1
    have hik1 : inN (nI k1) (aRm S) = true := by rw [inN_nI (by omega)]; exact decide_eq_true hk1
    have ek1 := nI_clamp (show k1 < 2 ^ 31 by omega)
    have hp6 := hO.rp (show k1 < aRm S by omega)
    refine lv_ifnull hx hb dX0_toRest_5 ?_
    refine lv_iload_n hx hb dX0_toRest_8 rfl (lv_at hl 2 rfl) ?_
    refine lv_iconst (v := nI 0) hx hb dX0_toRest_9 (by decide) ?_
    refine lv_iconst (v := nI 1) hx hb dX0_toRest_10 (by decide) ?_
    refine hp_callS (As := [.int what, .int (nI 0), .int (nI 1)]) (rest := []) hx hb hml hown hts hPB hH hS (mc_in hK0 what (nI 0) (nI 1)) 3 (lw_S q268 q269 q102 q270) (by decide +kernel) ⟨rfl, rfl⟩ (by decide) rfl hl.1 rfl (Nat.le_of_ble_eq_true rfl) (by decide) dX0_toRest_11 (fun v7 h9 H locs hp8 _ hH hS => ?_)
    obtain ⟨rfl, hq⟩ := hp8
    rw [hq] at hH
    refine lv_top (y := zI (inN what 2)) (congrArg zI (in_ik (by omega))) ?_
    refine lvB_ne (tgt := 19) hx hb dX0_toRest_14 (by decide) (fun c10 => ?_) (fun c10 => ?_)
    · refine lv_iconst (v := (-1)) hx hb dX0_toRest_19 (by decide) ?_
      refine lv_istore_n (lv' := [(3, .int (-1)), (0, .ref (w 0)), (1, .int (nI k1)), (2, .int what)]) hx hb dX0_toRest_20 rfl hl (by decide) rfl (fun ls hl => ?_)
      refine lv_iconst (v := nI 0) hx hb dX0_toRest_21 (by decide) ?_
      refine lv_istore (lv' := [(4, .int (nI 0)), (3, .int (-1)), (0, .ref (w 0)), (1, .int (nI k1)), (2, .int what)]) hx hb dX0_toRest_22 hl (by decide) rfl (fun ls hl => ?_)
      refine w_loop2 (fun (b : Nat) (Z1 : Nat → Nat → Int32) => 2 ^ aRl S - b) (fun (b : Nat) (Z1 : Nat → Nat → Int32) H locs ls => (b ≤ 2 ^ aRl S) ∧ HP D CL (zA s0) (zset h K w S Z1) H ∧ va_S (zA s0) s.heap H locs ∧ lv_has ls 6 [(0, .ref (w 0)), (1, .int (nI k1)), (2, .int what), (3, .int (oI (trF S (nI k1) b))), (4, .int (nI b))]) ?_ 0 Z ⟨Nat.zero_le _, hH, hS, lv_sub hl [2, 3, 4, 1, 0] rfl⟩
      intro b Z1 ih24 H locs ls hP
      obtain ⟨hb9, hH, hS, hl⟩ := hP
      have hW := hW0.z Z1
      refine lv_iload hx hb dX0_toRest_24 (lv_at hl 4 rfl) ?_
      refine lv_iconst (v := nI 1) hx hb dX0_toRest_26 (by decide) ?_
      refine lv_aload_n hx hb dX0_toRest_27 rfl (lv_at hl 0 rfl) ?_
      refine hp_get (C := RX0) (T := TX0) (N := 14) (v := .ref (w 5)) hx hb hts in_X0 hown hK hH hW.x rfl 4 (by decide) (hts _ q216) (fun _ z => z) rfl dX0_toRest_28 ?_
      refine hp_siz hx hb hml hown hts hPB hK0 hK hH hS hG (hW.li 2 (by decide)) hW.nr q807 (by first | decide | (simp only [rmk]; omega)) hl.1 rfl (Nat.le_of_ble_eq_true rfl) (by decide) dX0_toRest_31 (fun H locs hH hS => ?_)
      refine lv_ishl hx hb dX0_toRest_34 ?_
      refine lv_top (y := nI (2 ^ (aRl S))) (bi_shl1 (by first | omega | (refine Nat.lt_of_lt_of_le (Nat.mod_lt _ ?_) ?_ <;> omega))) ?_
      refine lvN_ge (tgt := 122) hx hb (by first | omega | (refine Nat.lt_of_lt_of_le (Nat.mod_lt _ ?_) ?_ <;> omega)) (by first | omega | (refine Nat.lt_of_lt_of_le (Nat.mod_lt _ ?_) ?_ <;> omega)) dX0_toRest_35 (by decide) (fun c11 => ?_) (fun c11 => ?_)
      · have eb : b = 2 ^ aRl S := by omega
        refine lv_iload_n hx hb dX0_toRest_122 rfl (lv_at hl 2 rfl) ?_
        refine lv_if_ne (tgt := 130) hx hb dX0_toRest_123 (by decide) (fun c12 => ?_) (fun c12 => ?_)
        · have c12 : ¬ what = nI 0 := c12
          obtain ⟨p9, ep9⟩ := trF_ex (S := S) (room := nI k1)
          have hp9 := trF_lt _ _ _ _ ep9
          have hl : lv_has ls 6 [(0, .ref (w 0)), (1, .int (nI k1)), (2, .int what), (3, .int (nI p9)), (4, .int (nI b))] := by rw [show nI p9 = oI (trF S (nI k1) b) from by rw [eb, ep9]; rfl]; exact hl
          refine lv_aload_n hx hb dX0_toRest_130 rfl (lv_at hl 0 rfl) ?_
          refine lv_iload_n hx hb dX0_toRest_131 rfl (lv_at hl 3 rfl) ?_
          refine hp_callV (As := [.int (nI p9)]) (rest := []) hx hb hml hown hts hPB hK hH hS (mc_weightOf hK0 hG hO hO2 hW (b := p9) (by omega)) hW.x rfl rfl 1 (lw_V q1123 q1125 qs35 q102 q1126) (by decide +kernel) ⟨rfl, rfl⟩ (by decide) rfl hl.1 rfl (Nat.le_of_ble_eq_true rfl) (by decide) dX0_toRest_132 (fun v13 h15 H locs hp14 _ hH hS => ?_)
          obtain ⟨rfl, hq⟩ := hp14
          rw [hq] at hH
          exact hp_iret hx hb hr hlocks hH hS (by decide) (by decide) dX0_toRest_135 (⟨congrArg some (congrArg Value.int (by simp [spToRest, (show inN (nI 0) 2 = true by decide), eb, trW, ep9, hik1, ek1, c10, c11, Nat.not_lt.mpr c11, c12])), _, rfl⟩)
        · have c12 : what = nI 0 := c12
          refine lv_iload_n hx hb dX0_toRest_126 rfl (lv_at hl 3 rfl) ?_
          refine lv_goto (tgt := 135) hx hb dX0_toRest_127 (by decide) ?_
          exact hp_iret hx hb hr hlocks hH hS (by decide) (by decide) dX0_toRest_135 (⟨congrArg some (congrArg Value.int (by simp [spToRest, (show inN (nI 0) 2 = true by decide), eb, hik1, ek1, c10, c11, Nat.not_lt.mpr c11, c12])), _, rfl⟩)
      · refine lv_aload_n hx hb dX0_toRest_38 rfl (lv_at hl 0 rfl) ?_
        refine lv_iload hx hb dX0_toRest_39 (lv_at hl 4 rfl) ?_
        refine lv_iload_n hx hb dX0_toRest_41 rfl (lv_at hl 1 rfl) ?_
        refine hp_callV (As := [.int (nI b), .int (nI k1)]) (rest := []) hx hb hml hown hts hPB hK hH hS (mc_aboveOnly hK0 hG hO hO2 hW (b := b) (nI k1) (by omega)) hW.x rfl rfl 2 (lw_V q1119 q1121 qs34 q102 q1122) (by decide +kernel) ⟨rfl, rfl⟩ (by decide) rfl hl.1 rfl (Nat.le_of_ble_eq_true rfl) (by decide) dX0_toRest_42 (fun v16 h18 H locs hp17 _ hH hS => ?_)
        obtain ⟨rfl, hq⟩ := hp17
        rw [hq] at hH
        refine lvB_ne (tgt := 51) hx hb dX0_toRest_45 (by decide) (fun co => ?_) (fun co => ?_)
        · refine lv_aload_n hx hb dX0_toRest_51 rfl (lv_at hl 0 rfl) ?_
          refine lv_iload hx hb dX0_toRest_52 (lv_at hl 4 rfl) ?_
          refine hp_callV (As := [.int (nI b)]) (rest := []) hx hb hml hown hts hPB hK hH hS (mc_weightOf hK0 hG hO hO2 hW (b := b) (by omega)) hW.x rfl rfl 1 (lw_V q1123 q1125 qs35 q102 q1126) (by decide +kernel) ⟨rfl, rfl⟩ (by decide) rfl hl.1 rfl (Nat.le_of_ble_eq_true rfl) (by decide) dX0_toRest_54 (fun v19 h21 H locs hp20 _ hH hS => ?_)
          obtain ⟨rfl, hq⟩ := hp20
          rw [hq] at hH
          refine lv_istore (lv' := [(5, .int (nI (wtF S b (aRl S)))), (0, .ref (w 0)), (1, .int (nI k1)), (2, .int what), (3, .int (oI (trF S (nI k1) b))), (4, .int (nI b))]) hx hb dX0_toRest_57 hl (by decide) rfl (fun ls hl => ?_)
          have hwb := wtF_le hO b (aRl S) (Nat.le_refl _)
          have hpb := popN_le b
          refine lv_iload_n hx hb dX0_toRest_59 rfl (lv_at hl 4 rfl) ?_
          refine lv_iconst (v := (-1)) hx hb dX0_toRest_60 (by decide) ?_
          refine lv_icmp_eq (tgt := 99) hx hb dX0_toRest_61 (by decide) (fun cb => ?_) (fun cb => ?_)
          · have rgn := (oI_none (tr_b (by omega))).mp cb
            refine lv_aload_n hx hb dX0_toRest_99 rfl (lv_at hl 1 rfl) ?_
            refine lv_iload_n hx hb dX0_toRest_100 rfl (lv_at hl 2 rfl) ?_
            refine lv_iload hx hb dX0_toRest_101 (lv_at hl 5 rfl) ?_
            refine hp_callV (As := [.int (nI k1), .int (nI b)]) (rest := []) hx hb hml hown hts hPB hK hH hS (mc_findAbove hK0 hG hO hO2 hW0 (Z := Z1) (nI k1) (wo := b) (by omega)) hW.x rfl rfl 2 (lw_V q1099 q1101 qs31 q102 q1102) (by decide +kernel) ⟨rfl, rfl⟩ (by decide) rfl hl.1 rfl (Nat.le_of_ble_eq_true rfl) (by decide) dX0_toRest_103 (fun v23 h25 H locs hp24 _ hH hS => ?_)
            obtain ⟨rfl, Y22, hq, hkpY22, hab⟩ := hp24
            rw [hq] at hH
            have hW := hW0.z Y22
            refine lv_aload_n hx hb dX0_toRest_106 rfl (lv_at hl 1 rfl) ?_
            refine hp_callV (As := []) (rest := []) hx hb hml hown hts hPB hK hH hS (mc_hasRing hK0 hG hO hO2 hW0 (Z := Y22) (A := abv S (nI k1) b) hab (fun x => abv_rr _ _ _ x)) hW.x rfl rfl 0 (lw_V q1133 q1135 qs36 q102 q1136) (by decide +kernel) ⟨rfl, rfl⟩ (by decide) rfl hl.1 rfl (Nat.le_of_ble_eq_true rfl) (by decide) dX0_toRest_107 (fun v27 h29 H locs hp28 _ hH hS => ?_)
            obtain ⟨rfl, Y26, hq, hkpY26⟩ := hp28
            rw [hq] at hH
            have hab := rowZ_k hab hkpY26 (by decide)
            have hW := hW0.z Y26
            refine lvB_ne (tgt := 116) hx hb dX0_toRest_110 (by decide) (fun cr => ?_) (fun cr => ?_)
            · refine lv_iinc (v := nI (b + 1)) (lv' := [(4, .int (nI (b + 1))), (5, .int (nI (wtF S b (aRl S)))), (0, .ref (w 0)), (1, .int (nI k1)), (2, .int what), (3, .int (oI (trF S (nI k1) b)))]) hx hb dX0_toRest_116 hl (k := 5) rfl (nI_add b 1) (by decide) rfl (fun ls hl => ?_)
              refine lv_goto (tgt := 24) hx hb dX0_toRest_119 (by decide) ?_
              have hl : lv_has ls 6 [(4, .int (nI (b + 1))), (5, .int (nI (wtF S b (aRl S)))), (0, .ref (w 0)), (1, .int (nI k1)), (2, .int what), (3, .int (oI (trF S (nI k1) (b + 1))))] := by rw [show oI (trF S (nI k1) (b + 1)) = oI (trF S (nI k1) b) from congrArg oI (trF_no (by rw [cr]; simp)).symm]; exact hl
              exact ih24 (b + 1) Y26 (by omega) H locs ls ⟨by omega, hH, hS, lv_sub hl [2, 3, 4, 5, 0] rfl⟩
            · refine lv_iload hx hb dX0_toRest_113 (lv_at hl 5 rfl) ?_
              refine lv_istore_n (lv' := [(3, .int (nI b)), (5, .int (nI (wtF S b (aRl S)))), (0, .ref (w 0)), (1, .int (nI k1)), (2, .int what), (4, .int (nI b))]) hx hb dX0_toRest_115 rfl hl (by decide) rfl (fun ls hl => ?_)
              refine lv_iinc (v := nI (b + 1)) (lv' := [(4, .int (nI (b + 1))), (3, .int (nI b)), (5, .int (nI (wtF S b (aRl S)))), (0, .ref (w 0)), (1, .int (nI k1)), (2, .int what)]) hx hb dX0_toRest_116 hl (k := 5) rfl (nI_add b 1) (by decide) rfl (fun ls hl => ?_)
              refine lv_goto (tgt := 24) hx hb dX0_toRest_119 (by decide) ?_
              have hl : lv_has ls 6 [(4, .int (nI (b + 1))), (3, .int (oI (trF S (nI k1) (b + 1)))), (5, .int (nI (wtF S b (aRl S)))), (0, .ref (w 0)), (1, .int (nI k1)), (2, .int what)] := by rw [show oI (trF S (nI k1) (b + 1)) = nI b from congrArg oI (trF_yes (by rw [co, cr, show trSkip S (trF S (nI k1) b) b = false by rw [rgn]; rfl]; rfl))]; exact hl
              exact ih24 (b + 1) Y26 (by omega) H locs ls ⟨by omega, hH, hS, lv_sub hl [3, 4, 5, 1, 0] rfl⟩
          · obtain ⟨p9, ep9⟩ := tr_is cb
            have hp9 := trF_lt _ _ _ _ ep9
            have hwp := wtF_le hO p9 (aRl S) (Nat.le_refl _)
            have hpp := popN_le p9
            have hl : lv_has ls 6 [(5, .int (nI (wtF S b (aRl S)))), (0, .ref (w 0)), (1, .int (nI k1)), (2, .int what), (3, .int (nI p9)), (4, .int (nI b))] := by rw [show nI p9 = oI (trF S (nI k1) b) from (congrArg oI ep9).symm]; exact hl
            refine lv_iload hx hb dX0_toRest_64 (lv_at hl 0 rfl) ?_
            refine lv_aload_n hx hb dX0_toRest_66 rfl (lv_at hl 1 rfl) ?_
            refine lv_iload_n hx hb dX0_toRest_67 rfl (lv_at hl 4 rfl) ?_
            refine hp_callV (As := [.int (nI p9)]) (rest := [.int (nI (wtF S b (aRl S)))]) hx hb hml hown hts hPB hK hH hS (mc_weightOf hK0 hG hO hO2 hW (b := p9) (by omega)) hW.x rfl rfl 1 (lw_V q1123 q1125 qs35 q102 q1126) (by decide +kernel) ⟨rfl, rfl⟩ (by decide) rfl hl.1 rfl (Nat.le_of_ble_eq_true rfl) (by decide) dX0_toRest_68 (fun v30 h32 H locs hp31 _ hH hS => ?_)
            obtain ⟨rfl, hq⟩ := hp31
            rw [hq] at hH
            refine lvN_gt (tgt := 116) hx hb (by first | omega | (refine Nat.lt_of_lt_of_le (Nat.mod_lt _ ?_) ?_ <;> omega)) (by first | omega | (refine Nat.lt_of_lt_of_le (Nat.mod_lt _ ?_) ?_ <;> omega)) dX0_toRest_71 (by decide) (fun cg => ?_) (fun cg => ?_)
            · refine lv_iinc (v := nI (b + 1)) (lv' := [(4, .int (nI (b + 1))), (5, .int (nI (wtF S b (aRl S)))), (0, .ref (w 0)), (1, .int (nI k1)), (2, .int what), (3, .int (nI p9))]) hx hb dX0_toRest_116 hl (k := 5) rfl (nI_add b 1) (by decide) rfl (fun ls hl => ?_)
              refine lv_goto (tgt := 24) hx hb dX0_toRest_119 (by decide) ?_
              have hl : lv_has ls 6 [(4, .int (nI (b + 1))), (5, .int (nI (wtF S b (aRl S)))), (0, .ref (w 0)), (1, .int (nI k1)), (2, .int what), (3, .int (oI (trF S (nI k1) (b + 1))))] := by rw [show oI (trF S (nI k1) (b + 1)) = nI p9 from (congrArg oI (trF_no (by rw [ep9, skip_t1 cg]; simp)).symm).trans (congrArg oI ep9)]; exact hl
              exact ih24 (b + 1) Z1 (by omega) H locs ls ⟨by omega, hH, hS, lv_sub hl [2, 3, 4, 5, 0] rfl⟩
            · refine lv_iload hx hb dX0_toRest_74 (lv_at hl 0 rfl) ?_
              refine lv_aload_n hx hb dX0_toRest_76 rfl (lv_at hl 1 rfl) ?_
              refine lv_iload_n hx hb dX0_toRest_77 rfl (lv_at hl 4 rfl) ?_
              refine hp_callV (As := [.int (nI p9)]) (rest := [.int (nI (wtF S b (aRl S)))]) hx hb hml hown hts hPB hK hH hS (mc_weightOf hK0 hG hO hO2 hW (b := p9) (by omega)) hW.x rfl rfl 1 (lw_V q1123 q1125 qs35 q102 q1126) (by decide +kernel) ⟨rfl, rfl⟩ (by decide) rfl hl.1 rfl (Nat.le_of_ble_eq_true rfl) (by decide) dX0_toRest_78 (fun v33 h35 H locs hp34 _ hH hS => ?_)
              obtain ⟨rfl, hq⟩ := hp34
              rw [hq] at hH
              refine lvN_ne (tgt := 99) hx hb (by first | omega | (refine Nat.lt_of_lt_of_le (Nat.mod_lt _ ?_) ?_ <;> omega)) (by first | omega | (refine Nat.lt_of_lt_of_le (Nat.mod_lt _ ?_) ?_ <;> omega)) dX0_toRest_81 (by decide) (fun cn => ?_) (fun cn => ?_)
              · refine lv_aload_n hx hb dX0_toRest_99 rfl (lv_at hl 1 rfl) ?_
                refine lv_iload_n hx hb dX0_toRest_100 rfl (lv_at hl 2 rfl) ?_
                refine lv_iload hx hb dX0_toRest_101 (lv_at hl 5 rfl) ?_
                refine hp_callV (As := [.int (nI k1), .int (nI b)]) (rest := []) hx hb hml hown hts hPB hK hH hS (mc_findAbove hK0 hG hO hO2 hW0 (Z := Z1) (nI k1) (wo := b) (by omega)) hW.x rfl rfl 2 (lw_V q1099 q1101 qs31 q102 q1102) (by decide +kernel) ⟨rfl, rfl⟩ (by decide) rfl hl.1 rfl (Nat.le_of_ble_eq_true rfl) (by decide) dX0_toRest_103 (fun v37 h39 H locs hp38 _ hH hS => ?_)
                obtain ⟨rfl, Y36, hq, hkpY36, hab⟩ := hp38
                rw [hq] at hH
                have hW := hW0.z Y36
                refine lv_aload_n hx hb dX0_toRest_106 rfl (lv_at hl 1 rfl) ?_
                refine hp_callV (As := []) (rest := []) hx hb hml hown hts hPB hK hH hS (mc_hasRing hK0 hG hO hO2 hW0 (Z := Y36) (A := abv S (nI k1) b) hab (fun x => abv_rr _ _ _ x)) hW.x rfl rfl 0 (lw_V q1133 q1135 qs36 q102 q1136) (by decide +kernel) ⟨rfl, rfl⟩ (by decide) rfl hl.1 rfl (Nat.le_of_ble_eq_true rfl) (by decide) dX0_toRest_107 (fun v41 h43 H locs hp42 _ hH hS => ?_)
                obtain ⟨rfl, Y40, hq, hkpY40⟩ := hp42
                rw [hq] at hH
                have hab := rowZ_k hab hkpY40 (by decide)
                have hW := hW0.z Y40
                refine lvB_ne (tgt := 116) hx hb dX0_toRest_110 (by decide) (fun cr => ?_) (fun cr => ?_)
                · refine lv_iinc (v := nI (b + 1)) (lv' := [(4, .int (nI (b + 1))), (5, .int (nI (wtF S b (aRl S)))), (0, .ref (w 0)), (1, .int (nI k1)), (2, .int what), (3, .int (nI p9))]) hx hb dX0_toRest_116 hl (k := 5) rfl (nI_add b 1) (by decide) rfl (fun ls hl => ?_)
                  refine lv_goto (tgt := 24) hx hb dX0_toRest_119 (by decide) ?_
                  have hl : lv_has ls 6 [(4, .int (nI (b + 1))), (5, .int (nI (wtF S b (aRl S)))), (0, .ref (w 0)), (1, .int (nI k1)), (2, .int what), (3, .int (oI (trF S (nI k1) (b + 1))))] := by rw [show oI (trF S (nI k1) (b + 1)) = nI p9 from (congrArg oI (trF_no (by rw [cr]; simp)).symm).trans (congrArg oI ep9)]; exact hl
                  exact ih24 (b + 1) Y40 (by omega) H locs ls ⟨by omega, hH, hS, lv_sub hl [2, 3, 4, 5, 0] rfl⟩
                · refine lv_iload hx hb dX0_toRest_113 (lv_at hl 5 rfl) ?_
                  refine lv_istore_n (lv' := [(3, .int (nI b)), (5, .int (nI (wtF S b (aRl S)))), (0, .ref (w 0)), (1, .int (nI k1)), (2, .int what), (4, .int (nI b))]) hx hb dX0_toRest_115 rfl hl (by decide) rfl (fun ls hl => ?_)
                  refine lv_iinc (v := nI (b + 1)) (lv' := [(4, .int (nI (b + 1))), (3, .int (nI b)), (5, .int (nI (wtF S b (aRl S)))), (0, .ref (w 0)), (1, .int (nI k1)), (2, .int what)]) hx hb dX0_toRest_116 hl (k := 5) rfl (nI_add b 1) (by decide) rfl (fun ls hl => ?_)
                  refine lv_goto (tgt := 24) hx hb dX0_toRest_119 (by decide) ?_
                  have hl : lv_has ls 6 [(4, .int (nI (b + 1))), (3, .int (oI (trF S (nI k1) (b + 1)))), (5, .int (nI (wtF S b (aRl S)))), (0, .ref (w 0)), (1, .int (nI k1)), (2, .int what)] := by rw [show oI (trF S (nI k1) (b + 1)) = nI b from congrArg oI (trF_yes (by rw [co, cr, ep9, skip_f1 (by omega)]; rfl))]; exact hl
                  exact ih24 (b + 1) Y40 (by omega) H locs ls ⟨by omega, hH, hS, lv_sub hl [3, 4, 5, 1, 0] rfl⟩
              · refine lv_iload hx hb dX0_toRest_84 (lv_at hl 5 rfl) ?_
                refine hp_callS (As := [.int (nI b)]) (rest := []) hx hb hml hown hts hPB hH hS (mt_bitCount hK0 (x := b) (by omega)) 1 (lw_S q1127 q1128 q138 q1129) (by decide +kernel) ⟨rfl, rfl⟩ (by decide) rfl hl.1 rfl (Nat.le_of_ble_eq_true rfl) (by decide) dX0_toRest_86 (fun v44 h46 H locs hp45 _ hH hS => ?_)
                obtain ⟨rfl, hq⟩ := hp45
                rw [hq] at hH
                refine lv_iload_n hx hb dX0_toRest_89 rfl (lv_at hl 4 rfl) ?_
                refine hp_callS (As := [.int (nI p9)]) (rest := [.int (nI (popN b))]) hx hb hml hown hts hPB hH hS (mt_bitCount hK0 (x := p9) (by omega)) 1 (lw_S q1127 q1128 q138 q1129) (by decide +kernel) ⟨rfl, rfl⟩ (by decide) rfl hl.1 rfl (Nat.le_of_ble_eq_true rfl) (by decide) dX0_toRest_90 (fun v47 h49 H locs hp48 _ hH hS => ?_)
                obtain ⟨rfl, hq⟩ := hp48
                rw [hq] at hH
                refine lvN_lt (tgt := 99) hx hb (by first | omega | (refine Nat.lt_of_lt_of_le (Nat.mod_lt _ ?_) ?_ <;> omega)) (by first | omega | (refine Nat.lt_of_lt_of_le (Nat.mod_lt _ ?_) ?_ <;> omega)) dX0_toRest_93 (by decide) (fun cl => ?_) (fun cl => ?_)
                · refine lv_aload_n hx hb dX0_toRest_99 rfl (lv_at hl 1 rfl) ?_
                  refine lv_iload_n hx hb dX0_toRest_100 rfl (lv_at hl 2 rfl) ?_
                  refine lv_iload hx hb dX0_toRest_101 (lv_at hl 5 rfl) ?_
                  refine hp_callV (As := [.int (nI k1), .int (nI b)]) (rest := []) hx hb hml hown hts hPB hK hH hS (mc_findAbove hK0 hG hO hO2 hW0 (Z := Z1) (nI k1) (wo := b) (by omega)) hW.x rfl rfl 2 (lw_V q1099 q1101 qs31 q102 q1102) (by decide +kernel) ⟨rfl, rfl⟩ (by decide) rfl hl.1 rfl (Nat.le_of_ble_eq_true rfl) (by decide) dX0_toRest_103 (fun v51 h53 H locs hp52 _ hH hS => ?_)
                  obtain ⟨rfl, Y50, hq, hkpY50, hab⟩ := hp52
                  rw [hq] at hH
                  have hW := hW0.z Y50
                  refine lv_aload_n hx hb dX0_toRest_106 rfl (lv_at hl 1 rfl) ?_
                  refine hp_callV (As := []) (rest := []) hx hb hml hown hts hPB hK hH hS (mc_hasRing hK0 hG hO hO2 hW0 (Z := Y50) (A := abv S (nI k1) b) hab (fun x => abv_rr _ _ _ x)) hW.x rfl rfl 0 (lw_V q1133 q1135 qs36 q102 q1136) (by decide +kernel) ⟨rfl, rfl⟩ (by decide) rfl hl.1 rfl (Nat.le_of_ble_eq_true rfl) (by decide) dX0_toRest_107 (fun v55 h57 H locs hp56 _ hH hS => ?_)
                  obtain ⟨rfl, Y54, hq, hkpY54⟩ := hp56
                  rw [hq] at hH
                  have hab := rowZ_k hab hkpY54 (by decide)
                  have hW := hW0.z Y54
                  refine lvB_ne (tgt := 116) hx hb dX0_toRest_110 (by decide) (fun cr => ?_) (fun cr => ?_)
                  · refine lv_iinc (v := nI (b + 1)) (lv' := [(4, .int (nI (b + 1))), (5, .int (nI (wtF S b (aRl S)))), (0, .ref (w 0)), (1, .int (nI k1)), (2, .int what), (3, .int (nI p9))]) hx hb dX0_toRest_116 hl (k := 5) rfl (nI_add b 1) (by decide) rfl (fun ls hl => ?_)
                    refine lv_goto (tgt := 24) hx hb dX0_toRest_119 (by decide) ?_
                    have hl : lv_has ls 6 [(4, .int (nI (b + 1))), (5, .int (nI (wtF S b (aRl S)))), (0, .ref (w 0)), (1, .int (nI k1)), (2, .int what), (3, .int (oI (trF S (nI k1) (b + 1))))] := by rw [show oI (trF S (nI k1) (b + 1)) = nI p9 from (congrArg oI (trF_no (by rw [cr]; simp)).symm).trans (congrArg oI ep9)]; exact hl
                    exact ih24 (b + 1) Y54 (by omega) H locs ls ⟨by omega, hH, hS, lv_sub hl [2, 3, 4, 5, 0] rfl⟩
                  · refine lv_iload hx hb dX0_toRest_113 (lv_at hl 5 rfl) ?_
                    refine lv_istore_n (lv' := [(3, .int (nI b)), (5, .int (nI (wtF S b (aRl S)))), (0, .ref (w 0)), (1, .int (nI k1)), (2, .int what), (4, .int (nI b))]) hx hb dX0_toRest_115 rfl hl (by decide) rfl (fun ls hl => ?_)
                    refine lv_iinc (v := nI (b + 1)) (lv' := [(4, .int (nI (b + 1))), (3, .int (nI b)), (5, .int (nI (wtF S b (aRl S)))), (0, .ref (w 0)), (1, .int (nI k1)), (2, .int what)]) hx hb dX0_toRest_116 hl (k := 5) rfl (nI_add b 1) (by decide) rfl (fun ls hl => ?_)
                    refine lv_goto (tgt := 24) hx hb dX0_toRest_119 (by decide) ?_
                    have hl : lv_has ls 6 [(4, .int (nI (b + 1))), (3, .int (oI (trF S (nI k1) (b + 1)))), (5, .int (nI (wtF S b (aRl S)))), (0, .ref (w 0)), (1, .int (nI k1)), (2, .int what)] := by rw [show oI (trF S (nI k1) (b + 1)) = nI b from congrArg oI (trF_yes (by rw [co, cr, ep9, skip_f2 cn cl]; rfl))]; exact hl
                    exact ih24 (b + 1) Y54 (by omega) H locs ls ⟨by omega, hH, hS, lv_sub hl [3, 4, 5, 1, 0] rfl⟩
                · refine lv_goto (tgt := 116) hx hb dX0_toRest_96 (by decide) ?_
                  refine lv_iinc (v := nI (b + 1)) (lv' := [(4, .int (nI (b + 1))), (5, .int (nI (wtF S b (aRl S)))), (0, .ref (w 0)), (1, .int (nI k1)), (2, .int what), (3, .int (nI p9))]) hx hb dX0_toRest_116 hl (k := 5) rfl (nI_add b 1) (by decide) rfl (fun ls hl => ?_)
                  refine lv_goto (tgt := 24) hx hb dX0_toRest_119 (by decide) ?_
                  have hl : lv_has ls 6 [(4, .int (nI (b + 1))), (5, .int (nI (wtF S b (aRl S)))), (0, .ref (w 0)), (1, .int (nI k1)), (2, .int what), (3, .int (oI (trF S (nI k1) (b + 1))))] := by rw [show oI (trF S (nI k1) (b + 1)) = nI p9 from (congrArg oI (trF_no (by rw [ep9, skip_t2 cn cl]; simp)).symm).trans (congrArg oI ep9)]; exact hl
                  exact ih24 (b + 1) Z1 (by omega) H locs ls ⟨by omega, hH, hS, lv_sub hl [2, 3, 4, 5, 0] rfl⟩
        · refine lv_goto (tgt := 116) hx hb dX0_toRest_48 (by decide) ?_
          refine lv_iinc (v := nI (b + 1)) (lv' := [(4, .int (nI (b + 1))), (0, .ref (w 0)), (1, .int (nI k1)), (2, .int what), (3, .int (oI (trF S (nI k1) b)))]) hx hb dX0_toRest_116 hl (k := 4) rfl (nI_add b 1) (by decide) rfl (fun ls hl => ?_)
          refine lv_goto (tgt := 24) hx hb dX0_toRest_119 (by decide) ?_
          have hl : lv_has ls 6 [(4, .int (nI (b + 1))), (0, .ref (w 0)), (1, .int (nI k1)), (2, .int what), (3, .int (oI (trF S (nI k1) (b + 1))))] := by rw [show oI (trF S (nI k1) (b + 1)) = oI (trF S (nI k1) b) from congrArg oI (trF_no (by rw [co]; rfl)).symm]; exact hl
          exact ih24 (b + 1) Z1 (by omega) H locs ls ⟨by omega, hH, hS, lv_sub hl [1, 2, 3, 4, 0] rfl⟩
    · refine lv_iconst (v := (-1)) hx hb dX0_toRest_17 (by decide) ?_
      exact hp_iret hx hb hr hlocks hH hS (by decide) (by decide) dX0_toRest_18 (⟨congrArg some (congrArg Value.int (by simp [spToRest, (show inN (nI 0) 2 = true by decide), hik1, ek1, c10])), _, rfl⟩)
  · have hq := hp4.2; rw [hq] at hH
    refine lv_ifnullN (tgt := 17) hx hb dX0_toRest_5 (by decide) ?_
    refine lv_iconst (v := (-1)) hx hb dX0_toRest_17 (by decide) ?_
    exact hp_iret hx hb hr hlocks hH hS (by decide) (by decide) dX0_toRest_18 (⟨congrArg some (congrArg Value.int (by simp [spToRest, (show inN (nI 0) 2 = true by decide), cz2])), _, rfl⟩)
end MODEL
