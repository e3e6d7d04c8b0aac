/-! by gen/mspec.py -/
set_option maxRecDepth 100000
section MODEL
variable {l : Launch} {s0 : State} {D : va_G} {K : Nat → ClassId} {wd : Nat → Nat} {o : Nat} {h : Hp} {I : Nat → Int32} {V : Nat → Nat → Int32} {J : Nat → Nat → Int64}
set_option maxHeartbeats 4000000 in
theorem mc_isAb (hK0 : va_K D CL (TYS K) s0) {av : Nat → Nat} {ed mi : Nat} (hG : GX s0 wd av ed mi) {S : Ab} {w : Nat → Nat} {Ls : Nat → List Nat} {Jn : Nat → Nat} {Z : Nat → Nat → Int32} {Z9 : Nat → Nat → Int32} (hO : SOK S) (hO2 : SO2 S) (hW0 : CW K ed S h w Ls Jn Z9) {x : Nat} {y : Nat} {A : Gr} (hA0 : rowZ A Z) (hx0 : x < 10) (hy0 : y < 10) : Met l yX0_isAbove (ws_ yX0_isAbove cX0_isAbove 3 ((Option.some Jvm.ClassFile.FieldType.boolean))) (rmk 0 0 0) (va_Pc [.ref (w 0), .int (nI x), .int (nI y)] (PB s0 D CL (zset h K w S Z))) (QR s0 D CL (fun v h1 => v = some (.int (zI (A x y))) ∧ h1 = zset h K w S Z)) 0 0 (zA s0) := by
  refine hp_met (by decide) (Nat.le_of_ble_eq_true rfl) hK0 ?_
  intro p e s m below meth cd ls hx hb hr hlocks hml hown hnm hts hK hPB hl hS hH hA
  have hl : lv_has ls 3 [(0, .ref (w 0)), (1, .int (nI x)), (2, .int (nI y))] := hl
  have hown : s.vm.findClass RX0 = some m.cls := hown
  have hn := hO.n
  have hmk := hO.mk
  have hrl := hO.rl
  have hrm := hO.rm
  have hsz := hO.sz
  have hW := hW0.z Z
  refine lv_aload_n hx hb dX0_isAbove_0 rfl (lv_at hl 0 rfl) ?_
  refine hp_get (C := RX0) (T := TX0) (N := 14) (v := .ref (w 7)) hx hb hts in_X0 hown hK hH hW.x rfl 7 (by decide) (hts _ q219) (fun _ z => z) rfl dX0_isAbove_1 ?_
  refine lv_iload_n hx hb dX0_isAbove_4 rfl (lv_at hl 1 rfl) ?_
  refine hp_ild (n := 10) (j := x) (v := nI (ofB (A x) 10)) hx hb hK hH 0 (hW.ar 0 (by decide)) rfl (by first | omega | (refine Nat.lt_of_lt_of_le (Nat.mod_lt _ ?_) ?_ <;> omega)) (by first | omega | (refine Nat.lt_of_lt_of_le (Nat.mod_lt _ ?_) ?_ <;> omega)) (hA0 x hx0) dX0_isAbove_5 ?_
  refine lv_iload_n hx hb dX0_isAbove_6 rfl (lv_at hl 2 rfl) ?_
  refine lv_ishr hx hb dX0_isAbove_7 ?_
  refine lv_top (y := nI ((ofB (A x) 10) / 2 ^ y)) (bi_shr (Nat.lt_of_lt_of_le (ofB_10 _) (by decide)) (by first | omega | (refine Nat.lt_of_lt_of_le (Nat.mod_lt _ ?_) ?_ <;> omega))) ?_
  refine lv_iconst (v := nI 1) hx hb dX0_isAbove_8 (by decide) ?_
  refine lv_iand hx hb dX0_isAbove_9 ?_
  refine lv_top (y := zI (Nat.testBit (ofB (A x) 10) y)) ((bi_and _ _).trans (bi_z _ _)) ?_
  refine lv_iconst (v := nI 1) hx hb dX0_isAbove_10 (by decide) ?_
  refine lvB_ne1 (tgt := 18) hx hb dX0_isAbove_11 (by decide) (fun c1 => ?_) (fun c1 => ?_)
  · refine lv_iconst (v := nI 0) hx hb dX0_isAbove_18 (by decide) ?_
    exact hp_zret hx hb hr rfl hlocks hH hS (by decide) (by decide) dX0_isAbove_19 (⟨congrArg some (congrArg Value.int (zI_0 ((ofB_at hy0).symm.trans c1))), rfl⟩)
  · refine lv_iconst (v := nI 1) hx hb dX0_isAbove_14 (by decide) ?_
    refine lv_goto (tgt := 19) hx hb dX0_isAbove_15 (by decide) ?_
    exact hp_zret hx hb hr rfl hlocks hH hS (by decide) (by decide) dX0_isAbove_19 (⟨congrArg some (congrArg Value.int (zI_1 ((ofB_at hy0).symm.trans c1))), rfl⟩)
set_option maxHeartbeats 4000000 in
theorem mc_findAbove (hK0 : va_K D CL (TYS K) s0) {av : Nat → Nat} {ed mi : Nat} (hG : GX s0 wd av ed mi) {S : Ab} {w : Nat → Nat} {Ls : Nat → List Nat} {Jn : Nat → Nat} {Z : Nat → Nat → Int32} {Z9 : Nat → Nat → Int32} (hO : SOK S) (hO2 : SO2 S) (hW0 : CW K ed S h w Ls Jn Z9) (room : Int32) {wo : Nat} (hwo : wo < 4096) : Met l yX0_findAbove (ws_ yX0_findAbove cX0_findAbove 6 ((Option.none : Option Jvm.ClassFile.FieldType))) (rmk 4 0 0) (va_Pc [.ref (w 0), .int room, .int (nI wo)] (PB s0 D CL (zset h K w S Z))) (QR s0 D CL (fun v h1 => v = none ∧ ∃ Z1, h1 = zset h K w S Z1 ∧ kp [0] Z Z1 ∧ rowZ (abv S room wo) Z1)) 0 0 (zA s0) := by
  refine hp_met (by decide) (Nat.le_of_ble_eq_true rfl) hK0 ?_
  intro p e s m below meth cd ls hx hb hr hlocks hml hown hnm hts hK hPB hl hS hH hA
  have hl : lv_has ls 6 [(0, .ref (w 0)), (1, .int room), (2, .int (nI wo))] := hl
  have hown : s.vm.findClass RX0 = some m.cls := hown
  have hn := hO.n
  have hmk := hO.mk
  have hrl := hO.rl
  have hrm := hO.rm
  have hsz := hO.sz
  have hW := hW0.z Z
  refine lv_iconst (v := nI 0) hx hb dX0_findAbove_0 (by decide) ?_
  refine lv_istore_n (lv' := [(3, .int (nI 0)), (0, .ref (w 0)), (1, .int room), (2, .int (nI wo))]) hx hb dX0_findAbove_1 rfl hl (by decide) rfl (fun ls hl => ?_)
  refine w_loop2 (fun (k : Nat) (Z1 : Nat → Nat → Int32) => 10 - k) (fun (k : Nat) (Z1 : Nat → Nat → Int32) H locs ls => (k ≤ 10) ∧ (kp [0] Z Z1) ∧ (∀ u, u < k → Z1 0 u = nI 0) ∧ HP D CL (zA s0) (zset h K w S Z1) H ∧ va_S (zA s0) s.heap H locs ∧ lv_has ls 6 [(0, .ref (w 0)), (1, .int room), (2, .int (nI wo)), (3, .int (nI k))]) ?_ 0 Z ⟨Nat.zero_le _, kp.rf, fun u hu => absurd hu (Nat.not_lt_zero _), hH, hS, lv_sub hl [1, 2, 3, 0] rfl⟩
  intro k Z1 ih2 H locs ls hP
  obtain ⟨hk, hkp, hz, hH, hS, hl⟩ := hP
  have hW := hW0.z Z1
  refine lv_iload_n hx hb dX0_findAbove_2 rfl (lv_at hl 3 rfl) ?_
  refine lv_bipush (v := nI 10) hx hb dX0_findAbove_3 (by decide) ?_
  refine lvN_ge (tgt := 21) hx hb (by first | omega | (refine Nat.lt_of_lt_of_le (Nat.mod_lt _ ?_) ?_ <;> omega)) (by first | omega | (refine Nat.lt_of_lt_of_le (Nat.mod_lt _ ?_) ?_ <;> omega)) dX0_findAbove_5 (by decide) (fun c1 => ?_) (fun c1 => ?_)
  · refine lv_iconst (v := nI 0) hx hb dX0_findAbove_21 (by decide) ?_
    refine lv_istore_n (lv' := [(3, .int (nI 0)), (0, .ref (w 0)), (1, .int room), (2, .int (nI wo))]) hx hb dX0_findAbove_22 rfl hl (by decide) rfl (fun ls hl => ?_)
    refine w_loop2 (fun (i : Nat) (Z2 : Nat → Nat → Int32) => aRl S - i) (fun (i : Nat) (Z2 : Nat → Nat → Int32) H locs ls => (i ≤ aRl S) ∧ (kp [0] Z Z2) ∧ (rowZ (abF S room wo i) Z2) ∧ HP D CL (zA s0) (zset h K w S Z2) H ∧ va_S (zA s0) s.heap H locs ∧ lv_has ls 6 [(0, .ref (w 0)), (1, .int room), (2, .int (nI wo)), (3, .int (nI i))]) ?_ 0 Z1 ⟨Nat.zero_le _, hkp, ab_zero (fun u hu => hz u (by omega)), hH, hS, lv_sub hl [1, 2, 3, 0] rfl⟩
    intro i Z2 ih23 H locs ls hP
    obtain ⟨hi, hkp, hz, hH, hS, hl⟩ := hP
    have hW := hW0.z Z2
    refine lv_iload_n hx hb dX0_findAbove_23 rfl (lv_at hl 3 rfl) ?_
    refine lv_aload_n hx hb dX0_findAbove_24 rfl (lv_at hl 0 rfl) ?_
    refine hp_get (C := RX0) (T := TX0) (N := 14) (v := .ref (w 5)) hx hb hts in_X0 hown hK hH hW.x rfl 4 (by decide) (hts _ q216) (fun _ z => z) rfl dX0_findAbove_25 ?_
    refine hp_siz hx hb hml hown hts hPB hK0 hK hH hS hG (hW.li 2 (by decide)) hW.nr q807 (by first | decide | (simp only [rmk]; omega)) hl.1 rfl (Nat.le_of_ble_eq_true rfl) (by decide) dX0_findAbove_28 (fun H locs hH hS => ?_)
    refine lvN_ge (tgt := 166) hx hb (by first | omega | (refine Nat.lt_of_lt_of_le (Nat.mod_lt _ ?_) ?_ <;> omega)) (by first | omega | (refine Nat.lt_of_lt_of_le (Nat.mod_lt _ ?_) ?_ <;> omega)) dX0_findAbove_31 (by decide) (fun c2 => ?_) (fun c2 => ?_)
    · exact hp_vret hx hb hr hlocks hH hS (by decide) (by decide) dX0_findAbove_166 (⟨rfl, _, rfl, hkp, by rw [← abF_all, ← show i = aRl S by omega]; exact hz⟩)
    · refine lv_aload_n hx hb dX0_findAbove_34 rfl (lv_at hl 0 rfl) ?_
      refine hp_get (C := RX0) (T := TX0) (N := 14) (v := .ref (w 5)) hx hb hts in_X0 hown hK hH hW.x rfl 4 (by decide) (hts _ q216) (fun _ z => z) rfl dX0_findAbove_35 ?_
      refine lv_iload_n hx hb dX0_findAbove_38 rfl (lv_at hl 3 rfl) ?_
      refine hp_lget hx hb hml hown hts hPB hK0 hK hH hS hG (hW.li 2 (by decide)) (k9 := i) (by rw [hW.nr]; omega) q808 (by first | decide | (simp only [rmk]; omega)) hl.1 rfl (Nat.le_of_ble_eq_true rfl) (by decide) dX0_findAbove_39 (fun H locs hH hS => ?_)
      have hn3 := cN_le S i
      have hkhn3 := hO.kd (show i < aRl S by omega)
      have hwhn3 := hO.wt (show i < aRl S by omega)
      refine hp_castR hx hb hown (hts _ q812) hG hPB hK hH (hW.r (show i < aRl S by omega)) (hO.kd (show i < aRl S by omega)) dX0_findAbove_42 ?_
      refine lv_astore (lv' := [(4, .ref ((Ls 2).getD i 0)), (0, .ref (w 0)), (1, .int room), (2, .int (nI wo)), (3, .int (nI i))]) hx hb dX0_findAbove_45 hl (by decide) rfl (fun ls hl => ?_)
      refine lv_aload hx hb dX0_findAbove_47 (lv_at hl 0 rfl) ?_
      refine hp_kind hx hb hml hown hts hPB hK0 hK hH hS hG (hW.r (show i < aRl S by omega)) (hO.kd (show i < aRl S by omega)) q887 (by first | decide | (simp only [rmk]; omega)) hl.1 rfl (Nat.le_of_ble_eq_true rfl) (by decide) dX0_findAbove_49 (fun H locs hH hS => ?_)
      refine lvZ_ne (tgt := 160) hx hb (by first | omega | (refine Nat.lt_of_lt_of_le (Nat.mod_lt _ ?_) ?_ <;> omega)) dX0_findAbove_52 (by decide) (fun ck => ?_) (fun ck => ?_)
      · refine lv_iinc (v := nI (i + 1)) (lv' := [(3, .int (nI (i + 1))), (4, .ref ((Ls 2).getD i 0)), (0, .ref (w 0)), (1, .int room), (2, .int (nI wo))]) hx hb dX0_findAbove_160 hl (k := 4) rfl (nI_add i 1) (by decide) rfl (fun ls hl => ?_)
        refine lv_goto (tgt := 23) hx hb dX0_findAbove_163 (by decide) ?_
        exact ih23 (i + 1) Z2 (by omega) H locs ls ⟨by omega, hkp, ab_skip (Or.inl ck) hz, hH, hS, lv_sub hl [2, 3, 4, 0] rfl⟩
      · refine lv_aload hx hb dX0_findAbove_55 (lv_at hl 0 rfl) ?_
        refine lv_iload_n hx hb dX0_findAbove_57 rfl (lv_at hl 2 rfl) ?_
        refine hp_cin hx hb hml hown hts hPB hK0 hK hH hS hG (hW.r (show i < aRl S by omega)) (hO.kd (show i < aRl S by omega)) q993 (by first | decide | (simp only [rmk]; omega)) hl.1 rfl (Nat.le_of_ble_eq_true rfl) (by decide) dX0_findAbove_58 (fun H locs hH hS => ?_)
        refine lv_top (y := zI (cnt S i room)) rfl ?_
        refine lvB_eq (tgt := 160) hx hb dX0_findAbove_61 (by decide) (fun cc => ?_) (fun cc => ?_)
        · refine lv_iinc (v := nI (i + 1)) (lv' := [(3, .int (nI (i + 1))), (4, .ref ((Ls 2).getD i 0)), (0, .ref (w 0)), (1, .int room), (2, .int (nI wo))]) hx hb dX0_findAbove_160 hl (k := 4) rfl (nI_add i 1) (by decide) rfl (fun ls hl => ?_)
          refine lv_goto (tgt := 23) hx hb dX0_findAbove_163 (by decide) ?_
          exact ih23 (i + 1) Z2 (by omega) H locs ls ⟨by omega, hkp, ab_skip (Or.inr (Or.inl cc)) hz, hH, hS, lv_sub hl [2, 3, 4, 0] rfl⟩
        · refine lv_iload_n hx hb dX0_findAbove_64 rfl (lv_at hl 3 rfl) ?_
          refine lv_iload_n hx hb dX0_findAbove_65 rfl (lv_at hl 4 rfl) ?_
          refine lv_ishr hx hb dX0_findAbove_66 ?_
          refine lv_top (y := nI (wo / 2 ^ i)) (bi_shr (by first | omega | (refine Nat.lt_of_lt_of_le (Nat.mod_lt _ ?_) ?_ <;> omega)) (by first | omega | (refine Nat.lt_of_lt_of_le (Nat.mod_lt _ ?_) ?_ <;> omega))) ?_
          refine lv_iconst (v := nI 1) hx hb dX0_findAbove_67 (by decide) ?_
          refine lv_iand hx hb dX0_findAbove_68 ?_
          refine lv_top (y := zI (Nat.testBit wo i)) ((bi_and _ _).trans (bi_z _ _)) ?_
          refine lv_iconst (v := nI 1) hx hb dX0_findAbove_69 (by decide) ?_
          refine lvB_ne1 (tgt := 76) hx hb dX0_findAbove_70 (by decide) (fun cw => ?_) (fun cw => ?_)
          · refine lv_iconst (v := nI 0) hx hb dX0_findAbove_76 (by decide) ?_
            refine lv_istore (lv' := [(5, .int (nI 0)), (4, .ref ((Ls 2).getD i 0)), (0, .ref (w 0)), (1, .int room), (2, .int (nI wo)), (3, .int (nI i))]) hx hb dX0_findAbove_77 hl (by decide) rfl (fun ls hl => ?_)
            refine w_loop2 (fun (k : Nat) (Z3 : Nat → Nat → Int32) => cN S i - k) (fun (k : Nat) (Z3 : Nat → Nat → Int32) H locs ls => (k ≤ cN S i) ∧ (kp [0] Z Z3) ∧ (rowZ (abG S room wo i k) Z3) ∧ HP D CL (zA s0) (zset h K w S Z3) H ∧ va_S (zA s0) s.heap H locs ∧ lv_has ls 6 [(0, .ref (w 0)), (1, .int room), (2, .int (nI wo)), (3, .int (nI i)), (4, .ref ((Ls 2).getD i 0)), (5, .int (nI k))]) ?_ 0 Z2 ⟨Nat.zero_le _, hkp, ab_in hz, hH, hS, lv_sub hl [2, 3, 4, 5, 1, 0] rfl⟩
            intro k Z3 ih79 H locs ls hP
            obtain ⟨hk, hkp, hz, hH, hS, hl⟩ := hP
            have hW := hW0.z Z3
            refine lv_iload hx hb dX0_findAbove_79 (lv_at hl 5 rfl) ?_
            refine lv_aload hx hb dX0_findAbove_81 (lv_at hl 4 rfl) ?_
            refine hp_gR6N hx hb hts hown hK hH (hW.r (show i < aRl S by omega)) (hO.kd (show i < aRl S by omega)) (hG.nf hPB q746) dX0_findAbove_83 ?_
            refine hp_siz hx hb hml hown hts hPB hK0 hK hH hS hG (hW.cl (show i < aRl S by omega)) (hW.nc (show i < aRl S by omega)) q807 (by first | decide | (simp only [rmk]; omega)) hl.1 rfl (Nat.le_of_ble_eq_true rfl) (by decide) dX0_findAbove_86 (fun H locs hH hS => ?_)
            refine lvN_ge (tgt := 160) hx hb (by first | omega | (refine Nat.lt_of_lt_of_le (Nat.mod_lt _ ?_) ?_ <;> omega)) (by first | omega | (refine Nat.lt_of_lt_of_le (Nat.mod_lt _ ?_) ?_ <;> omega)) dX0_findAbove_89 (by decide) (fun c4 => ?_) (fun c4 => ?_)
            · refine lv_iinc (v := nI (i + 1)) (lv' := [(3, .int (nI (i + 1))), (0, .ref (w 0)), (1, .int room), (2, .int (nI wo)), (4, .ref ((Ls 2).getD i 0)), (5, .int (nI k))]) hx hb dX0_findAbove_160 hl (k := 3) rfl (nI_add i 1) (by decide) rfl (fun ls hl => ?_)
              refine lv_goto (tgt := 23) hx hb dX0_findAbove_163 (by decide) ?_
              exact ih23 (i + 1) Z3 (by omega) H locs ls ⟨by omega, hkp, ab_end hO hO2 (by omega) ck cc cw (by rw [← show k = cN S i by omega]; exact hz), hH, hS, lv_sub hl [1, 2, 3, 0] rfl⟩
            · refine lv_aload_n hx hb dX0_findAbove_92 rfl (lv_at hl 0 rfl) ?_
              refine lv_aload hx hb dX0_findAbove_93 (lv_at hl 4 rfl) ?_
              refine hp_gR6N hx hb hts hown hK hH (hW.r (show i < aRl S by omega)) (hO.kd (show i < aRl S by omega)) (hG.nf hPB q746) dX0_findAbove_95 ?_
              refine lv_iload hx hb dX0_findAbove_98 (lv_at hl 5 rfl) ?_
              refine hp_lget hx hb hml hown hts hPB hK0 hK hH hS hG (hW.cl (show i < aRl S by omega)) (k9 := k) (by rw [hW.nc (show i < aRl S by omega)]; omega) q808 (by first | decide | (simp only [rmk]; omega)) hl.1 rfl (Nat.le_of_ble_eq_true rfl) (by decide) dX0_findAbove_100 (fun H locs hH hS => ?_)
              have hc5 := cXY hO hO2 (show i < aRl S by omega) (show k < cN S i by omega)
              refine va_castE hx hb hown (hts _ q1004) (hp_rec hK hH (hW.c (show i < aRl S by omega) (show k < cN S i by omega)) rfl) dX0_findAbove_103 ?_
              refine hp_callV (As := [.ref ((Ls (10 + i)).getD k 0)]) (rest := []) hx hb hml hown hts hPB hK hH hS (mc_areComing hK0 hG hO hO2 hW (cx := cX S i k) (cy := cY S i k) (hW.c (show i < aRl S by omega) (show k < cN S i by omega)) (by omega) (by omega)) hW.x rfl rfl 1 (lw_V q1005 q1007 qs28 q102 q1008) (by decide +kernel) ⟨rfl, rfl⟩ (by decide) rfl hl.1 rfl (Nat.le_of_ble_eq_true rfl) (by decide) dX0_findAbove_106 (fun v6 h8 H locs hp7 _ hH hS => ?_)
              obtain ⟨rfl, hq⟩ := hp7
              rw [hq] at hH
              refine lvB_eq (tgt := 154) hx hb dX0_findAbove_109 (by decide) (fun cm => ?_) (fun cm => ?_)
              · refine lv_iinc (v := nI (k + 1)) (lv' := [(5, .int (nI (k + 1))), (0, .ref (w 0)), (1, .int room), (2, .int (nI wo)), (3, .int (nI i)), (4, .ref ((Ls 2).getD i 0))]) hx hb dX0_findAbove_154 hl (k := 5) rfl (nI_add k 1) (by decide) rfl (fun ls hl => ?_)
                refine lv_goto (tgt := 79) hx hb dX0_findAbove_157 (by decide) ?_
                exact ih79 (k + 1) Z3 (by omega) H locs ls ⟨by omega, hkp, ab_not cm hz, hH, hS, lv_sub hl [1, 2, 3, 4, 5, 0] rfl⟩
              · refine lv_aload_n hx hb dX0_findAbove_112 rfl (lv_at hl 0 rfl) ?_
                refine hp_get (C := RX0) (T := TX0) (N := 14) (v := .ref (w 7)) hx hb hts in_X0 hown hK hH hW.x rfl 7 (by decide) (hts _ q219) (fun _ z => z) rfl dX0_findAbove_113 ?_
                refine lv_aload hx hb dX0_findAbove_116 (lv_at hl 4 rfl) ?_
                refine hp_gR6N hx hb hts hown hK hH (hW.r (show i < aRl S by omega)) (hO.kd (show i < aRl S by omega)) (hG.nf hPB q746) dX0_findAbove_118 ?_
                refine lv_iload hx hb dX0_findAbove_121 (lv_at hl 5 rfl) ?_
                refine hp_lget hx hb hml hown hts hPB hK0 hK hH hS hG (hW.cl (show i < aRl S by omega)) (k9 := k) (by rw [hW.nc (show i < aRl S by omega)]; omega) q808 (by first | decide | (simp only [rmk]; omega)) hl.1 rfl (Nat.le_of_ble_eq_true rfl) (by decide) dX0_findAbove_123 (fun H locs hH hS => ?_)
                have hc9 := cXY hO hO2 (show i < aRl S by omega) (show k < cN S i by omega)
                refine va_castE hx hb hown (hts _ q1004) (hp_rec hK hH (hW.c (show i < aRl S by omega) (show k < cN S i by omega)) rfl) dX0_findAbove_126 ?_
                refine hp_getN (C := RX9) (T := TX9) (N := 2) (v := .int (nI (cX S i k))) hx hb hts in_X9 hown hK hH (hW.c (show i < aRl S by omega) (show k < cN S i by omega)) rfl 0 (by decide) (hG.nf hPB q722) (fun _ z => z) rfl dX0_findAbove_129 ?_
                refine lv_dup2_11 hx hb dX0_findAbove_132 rfl rfl ?_
                refine hp_ild (n := 10) (j := cX S i k) (v := nI (ofB (abG S room wo i k (cX S i k)) 10)) hx hb hK hH 0 (hW.ar 0 (by decide)) rfl (by first | omega | (refine Nat.lt_of_lt_of_le (Nat.mod_lt _ ?_) ?_ <;> omega)) (by first | omega | (refine Nat.lt_of_lt_of_le (Nat.mod_lt _ ?_) ?_ <;> omega)) (hz _ (by omega)) dX0_findAbove_133 ?_
                refine lv_iconst (v := nI 1) hx hb dX0_findAbove_134 (by decide) ?_
                refine lv_aload hx hb dX0_findAbove_135 (lv_at hl 4 rfl) ?_
                refine hp_gR6N hx hb hts hown hK hH (hW.r (show i < aRl S by omega)) (hO.kd (show i < aRl S by omega)) (hG.nf hPB q746) dX0_findAbove_137 ?_
                refine lv_iload hx hb dX0_findAbove_140 (lv_at hl 5 rfl) ?_
                refine hp_lget hx hb hml hown hts hPB hK0 hK hH hS hG (hW.cl (show i < aRl S by omega)) (k9 := k) (by rw [hW.nc (show i < aRl S by omega)]; omega) q808 (by first | decide | (simp only [rmk]; omega)) hl.1 rfl (Nat.le_of_ble_eq_true rfl) (by decide) dX0_findAbove_142 (fun H locs hH hS => ?_)
                have hc10 := cXY hO hO2 (show i < aRl S by omega) (show k < cN S i by omega)
                refine va_castE hx hb hown (hts _ q1004) (hp_rec hK hH (hW.c (show i < aRl S by omega) (show k < cN S i by omega)) rfl) dX0_findAbove_145 ?_
                refine hp_getN (C := RX9) (T := TX9) (N := 2) (v := .int (nI (cY S i k))) hx hb hts in_X9 hown hK hH (hW.c (show i < aRl S by omega) (show k < cN S i by omega)) rfl 1 (by decide) (hG.nf hPB q725) (fun _ z => z) rfl dX0_findAbove_148 ?_
                refine lv_ishl hx hb dX0_findAbove_151 ?_
                refine lv_top (y := nI (2 ^ (cY S i k))) (bi_shl1 (by first | omega | (refine Nat.lt_of_lt_of_le (Nat.mod_lt _ ?_) ?_ <;> omega))) ?_
                refine lv_ior hx hb dX0_findAbove_152 ?_
                refine lv_top (y := nI ((ofB (abG S room wo i k (cX S i k)) 10) ||| (2 ^ (cY S i k)))) (bi_or _ _) ?_
                refine z_ist (j := cX S i k) (x := nI ((ofB (abG S room wo i k (cX S i k)) 10) ||| (2 ^ (cY S i k)))) hx hb hK hW0 hH hS 0 (by decide) (by first | omega | (refine Nat.lt_of_lt_of_le (Nat.mod_lt _ ?_) ?_ <;> omega)) dX0_findAbove_153 (fun H locs hH hS => ?_)
                have hW := hW0.z (vset Z3 0 (cX S i k) (nI ((ofB (abG S room wo i k (cX S i k)) 10) ||| (2 ^ (cY S i k)))))
                refine lv_iinc (v := nI (k + 1)) (lv' := [(5, .int (nI (k + 1))), (0, .ref (w 0)), (1, .int room), (2, .int (nI wo)), (3, .int (nI i)), (4, .ref ((Ls 2).getD i 0))]) hx hb dX0_findAbove_154 hl (k := 5) rfl (nI_add k 1) (by decide) rfl (fun ls hl => ?_)
                refine lv_goto (tgt := 79) hx hb dX0_findAbove_157 (by decide) ?_
                exact ih79 (k + 1) (vset Z3 0 (cX S i k) (nI ((ofB (abG S room wo i k (cX S i k)) 10) ||| (2 ^ (cY S i k))))) (by omega) H locs ls ⟨by omega, hkp.vs (by decide) _ _, ab_put cm (by omega) hz, hH, hS, lv_sub hl [1, 2, 3, 4, 5, 0] rfl⟩
          · refine lv_goto (tgt := 160) hx hb dX0_findAbove_73 (by decide) ?_
            refine lv_iinc (v := nI (i + 1)) (lv' := [(3, .int (nI (i + 1))), (4, .ref ((Ls 2).getD i 0)), (0, .ref (w 0)), (1, .int room), (2, .int (nI wo))]) hx hb dX0_findAbove_160 hl (k := 4) rfl (nI_add i 1) (by decide) rfl (fun ls hl => ?_)
            refine lv_goto (tgt := 23) hx hb dX0_findAbove_163 (by decide) ?_
            exact ih23 (i + 1) Z2 (by omega) H locs ls ⟨by omega, hkp, ab_skip (Or.inr (Or.inr cw)) hz, hH, hS, lv_sub hl [2, 3, 4, 0] rfl⟩
  · refine lv_aload_n hx hb dX0_findAbove_8 rfl (lv_at hl 0 rfl) ?_
    refine hp_get (C := RX0) (T := TX0) (N := 14) (v := .ref (w 7)) hx hb hts in_X0 hown hK hH hW.x rfl 7 (by decide) (hts _ q219) (fun _ z => z) rfl dX0_findAbove_9 ?_
    refine lv_iload_n hx hb dX0_findAbove_12 rfl (lv_at hl 3 rfl) ?_
    refine lv_iconst (v := nI 0) hx hb dX0_findAbove_13 (by decide) ?_
    refine z_ist (j := k) (x := nI 0) hx hb hK hW0 hH hS 0 (by decide) (by first | omega | (refine Nat.lt_of_lt_of_le (Nat.mod_lt _ ?_) ?_ <;> omega)) dX0_findAbove_14 (fun H locs hH hS => ?_)
    have hW := hW0.z (vset Z1 0 k (nI 0))
    refine lv_iinc (v := nI (k + 1)) (lv' := [(3, .int (nI (k + 1))), (0, .ref (w 0)), (1, .int room), (2, .int (nI wo))]) hx hb dX0_findAbove_15 hl (k := 3) rfl (nI_add k 1) (by decide) rfl (fun ls hl => ?_)
    refine lv_goto (tgt := 2) hx hb dX0_findAbove_18 (by decide) ?_
    exact ih2 (k + 1) (vset Z1 0 k (nI 0)) (by omega) H locs ls ⟨by omega, hkp.vs (by decide) _ _, fun u hu => by rw [vset_in]; split; rfl; exact hz u (by omega), hH, hS, lv_sub hl [1, 2, 3, 0] rfl⟩
set_option maxHeartbeats 4000000 in
theorem mc_findSteps (hK0 : va_K D CL (TYS K) s0) {av : Nat → Nat} {ed mi : Nat} (hG : GX s0 wd av ed mi) {S : Ab} {w : Nat → Nat} {Ls : Nat → List Nat} {Jn : Nat → Nat} {Z : Nat → Nat → Int32} {Z9 : Nat → Nat → Int32} (hO : SOK S) (hO2 : SO2 S) (hW0 : CW K ed S h w Ls Jn Z9) {A : Gr} {t : Nat} (hab : rowZ A Z) (ht : t < aN S) : Met l yX0_findSteps (ws_ yX0_findSteps cX0_findSteps 6 ((Option.none : Option Jvm.ClassFile.FieldType))) (rmk 1 0 0) (va_Pc [.ref (w 0), .int (nI t)] (PB s0 D CL (zset h K w S Z))) (QR s0 D CL (fun v h1 => v = none ∧ ∃ Z1, h1 = zset h K w S Z1 ∧ kp [1] Z Z1 ∧ ∀ g, g < 10 → Z1 1 g = oI (stO A (aN S) t 10 g))) 0 0 (zA s0) := by
  refine hp_met (by decide) (Nat.le_of_ble_eq_true rfl) hK0 ?_
  intro p e s m below meth cd ls hx hb hr hlocks hml hown hnm hts hK hPB hl hS hH hA
  have hl : lv_has ls 6 [(0, .ref (w 0)), (1, .int (nI t))] := hl
  have hown : s.vm.findClass RX0 = some m.cls := hown
  have hn := hO.n
  have hmk := hO.mk
  have hrl := hO.rl
  have hrm := hO.rm
  have hsz := hO.sz
  have hW := hW0.z Z
  refine lv_iconst (v := nI 0) hx hb dX0_findSteps_0 (by decide) ?_
  refine lv_istore_n (lv' := [(2, .int (nI 0)), (0, .ref (w 0)), (1, .int (nI t))]) hx hb dX0_findSteps_1 rfl hl (by decide) rfl (fun ls hl => ?_)
  refine w_loop2 (fun (k : Nat) (Z1 : Nat → Nat → Int32) => 10 - k) (fun (k : Nat) (Z1 : Nat → Nat → Int32) H locs ls => (k ≤ 10) ∧ (kp [1] Z Z1) ∧ (∀ u, u < k → Z1 1 u = -1) ∧ HP D CL (zA s0) (zset h K w S Z1) H ∧ va_S (zA s0) s.heap H locs ∧ lv_has ls 6 [(0, .ref (w 0)), (1, .int (nI t)), (2, .int (nI k))]) ?_ 0 Z ⟨Nat.zero_le _, kp.rf, fun u hu => absurd hu (Nat.not_lt_zero _), hH, hS, lv_sub hl [1, 2, 0] rfl⟩
  intro k Z1 ih2 H locs ls hP
  obtain ⟨hk, hkp, hz, hH, hS, hl⟩ := hP
  have hW := hW0.z Z1
  refine lv_iload_n hx hb dX0_findSteps_2 rfl (lv_at hl 2 rfl) ?_
  refine lv_bipush (v := nI 10) hx hb dX0_findSteps_3 (by decide) ?_
  refine lvN_ge (tgt := 21) hx hb (by first | omega | (refine Nat.lt_of_lt_of_le (Nat.mod_lt _ ?_) ?_ <;> omega)) (by first | omega | (refine Nat.lt_of_lt_of_le (Nat.mod_lt _ ?_) ?_ <;> omega)) dX0_findSteps_5 (by decide) (fun c1 => ?_) (fun c1 => ?_)
  · refine lv_iconst (v := nI 1) hx hb dX0_findSteps_21 (by decide) ?_
    refine lv_istore_n (lv' := [(2, .int (nI 1)), (0, .ref (w 0)), (1, .int (nI t))]) hx hb dX0_findSteps_22 rfl hl (by decide) rfl (fun ls hl => ?_)
    refine w_loop2 (fun (k : Nat) (Z2 : Nat → Nat → Int32) => 10 - k) (fun (k : Nat) (Z2 : Nat → Nat → Int32) H locs ls => (k ≤ 10) ∧ (kp [1] Z Z2) ∧ (stpZ A (aN S) t k 0 Z2) ∧ HP D CL (zA s0) (zset h K w S Z2) H ∧ va_S (zA s0) s.heap H locs ∧ lv_has ls 6 [(0, .ref (w 0)), (1, .int (nI t)), (2, .int (nI (k + 1)))]) ?_ 0 Z1 ⟨Nat.zero_le _, hkp, sz_0 (fun u hu => hz u (by omega)), hH, hS, lv_sub hl [1, 2, 0] rfl⟩
    intro k Z2 ih23 H locs ls hP
    obtain ⟨hk, hkp, hz, hH, hS, hl⟩ := hP
    have hW := hW0.z Z2
    refine lv_iload_n hx hb dX0_findSteps_23 rfl (lv_at hl 2 rfl) ?_
    refine lv_bipush (v := nI 10) hx hb dX0_findSteps_24 (by decide) ?_
    refine lvN_gt (tgt := 167) hx hb (by first | omega | (refine Nat.lt_of_lt_of_le (Nat.mod_lt _ ?_) ?_ <;> omega)) (by first | omega | (refine Nat.lt_of_lt_of_le (Nat.mod_lt _ ?_) ?_ <;> omega)) dX0_findSteps_26 (by decide) (fun c2 => ?_) (fun c2 => ?_)
    · exact hp_vret hx hb hr hlocks hH hS (by decide) (by decide) dX0_findSteps_167 (⟨rfl, _, rfl, hkp, fun g hg => by rw [hz g hg, if_neg (Nat.not_lt_zero _), show k = 10 by omega]⟩)
    · refine lv_iconst (v := nI 0) hx hb dX0_findSteps_29 (by decide) ?_
      refine lv_istore_n (lv' := [(3, .int (nI 0)), (0, .ref (w 0)), (1, .int (nI t)), (2, .int (nI (k + 1)))]) hx hb dX0_findSteps_30 rfl hl (by decide) rfl (fun ls hl => ?_)
      refine w_loop2 (fun (x : Nat) (Z3 : Nat → Nat → Int32) => aN S - x) (fun (x : Nat) (Z3 : Nat → Nat → Int32) H locs ls => (x ≤ aN S) ∧ (kp [1] Z Z3) ∧ (stpZ A (aN S) t k x Z3) ∧ HP D CL (zA s0) (zset h K w S Z3) H ∧ va_S (zA s0) s.heap H locs ∧ lv_has ls 6 [(0, .ref (w 0)), (1, .int (nI t)), (2, .int (nI (k + 1))), (3, .int (nI x))]) ?_ 0 Z2 ⟨Nat.zero_le _, hkp, hz, hH, hS, lv_sub hl [1, 2, 3, 0] rfl⟩
      intro x Z3 ih31 H locs ls hP
      obtain ⟨hxx, hkp, hz, hH, hS, hl⟩ := hP
      have hW := hW0.z Z3
      have hab := rowZ_k hab hkp (by decide)
      refine lv_iload_n hx hb dX0_findSteps_31 rfl (lv_at hl 3 rfl) ?_
      refine lv_aload_n hx hb dX0_findSteps_32 rfl (lv_at hl 0 rfl) ?_
      refine hp_get (C := RX0) (T := TX0) (N := 14) (v := .ref (w 3)) hx hb hts in_X0 hown hK hH hW.x rfl 2 (by decide) (hts _ q214) (fun _ z => z) rfl dX0_findSteps_33 ?_
      refine hp_siz hx hb hml hown hts hPB hK0 hK hH hS hG (hW.li 0 (by decide)) hW.ng q807 (by first | decide | (simp only [rmk]; omega)) hl.1 rfl (Nat.le_of_ble_eq_true rfl) (by decide) dX0_findSteps_36 (fun H locs hH hS => ?_)
      refine lvN_ge (tgt := 161) hx hb (by first | omega | (refine Nat.lt_of_lt_of_le (Nat.mod_lt _ ?_) ?_ <;> omega)) (by first | omega | (refine Nat.lt_of_lt_of_le (Nat.mod_lt _ ?_) ?_ <;> omega)) dX0_findSteps_39 (by decide) (fun c3 => ?_) (fun c3 => ?_)
      · refine lv_iinc (v := nI (k + 1 + 1)) (lv' := [(2, .int (nI (k + 1 + 1))), (0, .ref (w 0)), (1, .int (nI t)), (3, .int (nI x))]) hx hb dX0_findSteps_161 hl (k := 2) rfl (nI_add (k + 1) 1) (by decide) rfl (fun ls hl => ?_)
        refine lv_goto (tgt := 23) hx hb dX0_findSteps_164 (by decide) ?_
        exact ih23 (k + 1) Z3 (by omega) H locs ls ⟨by omega, hkp, sz_next ((show x = aN S by omega) ▸ hz) hn, hH, hS, lv_sub hl [1, 2, 0] rfl⟩
      · refine lv_aload_n hx hb dX0_findSteps_42 rfl (lv_at hl 0 rfl) ?_
        refine hp_get (C := RX0) (T := TX0) (N := 14) (v := .ref (w 8)) hx hb hts in_X0 hown hK hH hW.x rfl 8 (by decide) (hts _ q220) (fun _ z => z) rfl dX0_findSteps_43 ?_
        refine lv_iload_n hx hb dX0_findSteps_46 rfl (lv_at hl 3 rfl) ?_
        refine hp_ild (n := 10) (j := x) (v := (Z3 1) x) hx hb hK hH 0 (hW.ar 1 (by decide)) rfl (by first | omega | (refine Nat.lt_of_lt_of_le (Nat.mod_lt _ ?_) ?_ <;> omega)) (by first | omega | (refine Nat.lt_of_lt_of_le (Nat.mod_lt _ ?_) ?_ <;> omega)) (rfl) dX0_findSteps_47 ?_
        refine lv_iconst (v := (-1)) hx hb dX0_findSteps_48 (by decide) ?_
        refine lv_icmp_eq (tgt := 55) hx hb dX0_findSteps_49 (by decide) (fun c4 => ?_) (fun c4 => ?_)
        · have h0 := (oI_none (st_b (by omega))).mp ((sz_at hz (by omega)).symm.trans c4)
          refine lv_iload_n hx hb dX0_findSteps_55 rfl (lv_at hl 2 rfl) ?_
          refine lv_iconst (v := nI 1) hx hb dX0_findSteps_56 (by decide) ?_
          refine lvN_ne (tgt := 73) hx hb (by first | omega | (refine Nat.lt_of_lt_of_le (Nat.mod_lt _ ?_) ?_ <;> omega)) (by first | omega | (refine Nat.lt_of_lt_of_le (Nat.mod_lt _ ?_) ?_ <;> omega)) dX0_findSteps_57 (by decide) (fun c5 => ?_) (fun c5 => ?_)
          · refine lv_iconst (v := nI 0) hx hb dX0_findSteps_73 (by decide) ?_
            refine lv_top (y := zI (false)) (zI_0 rfl) ?_
            refine lv_istore (lv' := [(4, .int (zI false)), (0, .ref (w 0)), (1, .int (nI t)), (2, .int (nI (k + 1))), (3, .int (nI x))]) hx hb dX0_findSteps_74 hl (by decide) rfl (fun ls hl => ?_)
            refine lv_iconst (v := nI 0) hx hb dX0_findSteps_76 (by decide) ?_
            refine lv_istore (lv' := [(5, .int (nI 0)), (4, .int (zI false)), (0, .ref (w 0)), (1, .int (nI t)), (2, .int (nI (k + 1))), (3, .int (nI x))]) hx hb dX0_findSteps_77 hl (by decide) rfl (fun ls hl => ?_)
            refine w_loop2 (fun (y : Nat) (is1 : Bool) => aN S - y) (fun (y : Nat) (is1 : Bool) H locs ls => (y ≤ aN S) ∧ ((k = 0 → is1 = A x t ∧ y = 0) ∧ (k ≠ 0 → is1 = anyB (fun u => decide (u ≠ t) && (decide (stO A (aN S) t k u = some k) && A x u)) y)) ∧ HP D CL (zA s0) (zset h K w S Z3) H ∧ va_S (zA s0) s.heap H locs ∧ lv_has ls 6 [(0, .ref (w 0)), (1, .int (nI t)), (2, .int (nI (k + 1))), (3, .int (nI x)), (4, .int (zI is1)), (5, .int (nI y))]) ?_ 0 false ⟨Nat.zero_le _, ⟨fun q => absurd q (by omega), fun _ => rfl⟩, hH, hS, lv_sub hl [2, 3, 4, 5, 1, 0] rfl⟩
            intro y is1 ih79 H locs ls hP
            obtain ⟨hyy, his, hH, hS, hl⟩ := hP
            refine lv_iload hx hb dX0_findSteps_79 (lv_at hl 5 rfl) ?_
            refine lv_aload_n hx hb dX0_findSteps_81 rfl (lv_at hl 0 rfl) ?_
            refine hp_get (C := RX0) (T := TX0) (N := 14) (v := .ref (w 3)) hx hb hts in_X0 hown hK hH hW.x rfl 2 (by decide) (hts _ q214) (fun _ z => z) rfl dX0_findSteps_82 ?_
            refine hp_siz hx hb hml hown hts hPB hK0 hK hH hS hG (hW.li 0 (by decide)) hW.ng q807 (by first | decide | (simp only [rmk]; omega)) hl.1 rfl (Nat.le_of_ble_eq_true rfl) (by decide) dX0_findSteps_85 (fun H locs hH hS => ?_)
            refine lvN_ge (tgt := 143) hx hb (by first | omega | (refine Nat.lt_of_lt_of_le (Nat.mod_lt _ ?_) ?_ <;> omega)) (by first | omega | (refine Nat.lt_of_lt_of_le (Nat.mod_lt _ ?_) ?_ <;> omega)) dX0_findSteps_88 (by decide) (fun c4 => ?_) (fun c4 => ?_)
            · have hq9 : stQ A (aN S) t k x = is1 := by
                by_cases q : k = 0
                · rw [(his.1 q).1, q, stQ_0]
                · rw [stQ_k q]; rw [his.2 q, show y = aN S by omega]
              refine lv_iload hx hb dX0_findSteps_143 (lv_at hl 4 rfl) ?_
              refine lvB_eq (tgt := 155) hx hb dX0_findSteps_145 (by decide) (fun cz => ?_) (fun cz => ?_)
              · refine lv_iinc (v := nI (x + 1)) (lv' := [(3, .int (nI (x + 1))), (0, .ref (w 0)), (1, .int (nI t)), (2, .int (nI (k + 1))), (4, .int (zI is1)), (5, .int (nI y))]) hx hb dX0_findSteps_155 hl (k := 3) rfl (nI_add x 1) (by decide) rfl (fun ls hl => ?_)
                refine lv_goto (tgt := 31) hx hb dX0_findSteps_158 (by decide) ?_
                exact ih31 (x + 1) Z3 (by omega) H locs ls ⟨by omega, hkp, sz_no hz (st_same2 h0 (hq9.trans cz)), hH, hS, lv_sub hl [1, 2, 3, 0] rfl⟩
              · refine lv_aload_n hx hb dX0_findSteps_148 rfl (lv_at hl 0 rfl) ?_
                refine hp_get (C := RX0) (T := TX0) (N := 14) (v := .ref (w 8)) hx hb hts in_X0 hown hK hH hW.x rfl 8 (by decide) (hts _ q220) (fun _ z => z) rfl dX0_findSteps_149 ?_
                refine lv_iload_n hx hb dX0_findSteps_152 rfl (lv_at hl 3 rfl) ?_
                refine lv_iload_n hx hb dX0_findSteps_153 rfl (lv_at hl 2 rfl) ?_
                refine z_ist (j := x) (x := nI (k + 1)) hx hb hK hW0 hH hS 1 (by decide) (by first | omega | (refine Nat.lt_of_lt_of_le (Nat.mod_lt _ ?_) ?_ <;> omega)) dX0_findSteps_154 (fun H locs hH hS => ?_)
                have hW := hW0.z (vset Z3 1 x (nI (k + 1)))
                refine lv_iinc (v := nI (x + 1)) (lv' := [(3, .int (nI (x + 1))), (0, .ref (w 0)), (1, .int (nI t)), (2, .int (nI (k + 1))), (4, .int (zI is1)), (5, .int (nI y))]) hx hb dX0_findSteps_155 hl (k := 3) rfl (nI_add x 1) (by decide) rfl (fun ls hl => ?_)
                refine lv_goto (tgt := 31) hx hb dX0_findSteps_158 (by decide) ?_
                exact ih31 (x + 1) (vset Z3 1 x (nI (k + 1))) (by omega) H locs ls ⟨by omega, hkp.vs (by decide) _ _, sz_set hz (by omega) hn h0 (hq9.trans cz), hH, hS, lv_sub hl [1, 2, 3, 0] rfl⟩
            · refine lv_iload_n hx hb dX0_findSteps_91 rfl (lv_at hl 2 rfl) ?_
              refine lv_iconst (v := nI 1) hx hb dX0_findSteps_92 (by decide) ?_
              refine lvN_le (tgt := 143) hx hb (by first | omega | (refine Nat.lt_of_lt_of_le (Nat.mod_lt _ ?_) ?_ <;> omega)) (by first | omega | (refine Nat.lt_of_lt_of_le (Nat.mod_lt _ ?_) ?_ <;> omega)) dX0_findSteps_93 (by decide) (fun c6 => ?_) (fun c6 => ?_)
              · have hq9 : stQ A (aN S) t k x = is1 := by
                  by_cases q : k = 0
                  · rw [(his.1 q).1, q, stQ_0]
                  · rw [stQ_k q]; exact absurd q (by omega)
                refine lv_iload hx hb dX0_findSteps_143 (lv_at hl 4 rfl) ?_
                refine lvB_eq (tgt := 155) hx hb dX0_findSteps_145 (by decide) (fun cz => ?_) (fun cz => ?_)
                · refine lv_iinc (v := nI (x + 1)) (lv' := [(3, .int (nI (x + 1))), (0, .ref (w 0)), (1, .int (nI t)), (2, .int (nI (k + 1))), (4, .int (zI is1)), (5, .int (nI y))]) hx hb dX0_findSteps_155 hl (k := 3) rfl (nI_add x 1) (by decide) rfl (fun ls hl => ?_)
                  refine lv_goto (tgt := 31) hx hb dX0_findSteps_158 (by decide) ?_
                  exact ih31 (x + 1) Z3 (by omega) H locs ls ⟨by omega, hkp, sz_no hz (st_same2 h0 (hq9.trans cz)), hH, hS, lv_sub hl [1, 2, 3, 0] rfl⟩
                · refine lv_aload_n hx hb dX0_findSteps_148 rfl (lv_at hl 0 rfl) ?_
                  refine hp_get (C := RX0) (T := TX0) (N := 14) (v := .ref (w 8)) hx hb hts in_X0 hown hK hH hW.x rfl 8 (by decide) (hts _ q220) (fun _ z => z) rfl dX0_findSteps_149 ?_
                  refine lv_iload_n hx hb dX0_findSteps_152 rfl (lv_at hl 3 rfl) ?_
                  refine lv_iload_n hx hb dX0_findSteps_153 rfl (lv_at hl 2 rfl) ?_
                  refine z_ist (j := x) (x := nI (k + 1)) hx hb hK hW0 hH hS 1 (by decide) (by first | omega | (refine Nat.lt_of_lt_of_le (Nat.mod_lt _ ?_) ?_ <;> omega)) dX0_findSteps_154 (fun H locs hH hS => ?_)
                  have hW := hW0.z (vset Z3 1 x (nI (k + 1)))
                  refine lv_iinc (v := nI (x + 1)) (lv' := [(3, .int (nI (x + 1))), (0, .ref (w 0)), (1, .int (nI t)), (2, .int (nI (k + 1))), (4, .int (zI is1)), (5, .int (nI y))]) hx hb dX0_findSteps_155 hl (k := 3) rfl (nI_add x 1) (by decide) rfl (fun ls hl => ?_)
                  refine lv_goto (tgt := 31) hx hb dX0_findSteps_158 (by decide) ?_
                  exact ih31 (x + 1) (vset Z3 1 x (nI (k + 1))) (by omega) H locs ls ⟨by omega, hkp.vs (by decide) _ _, sz_set hz (by omega) hn h0 (hq9.trans cz), hH, hS, lv_sub hl [1, 2, 3, 0] rfl⟩
              · refine lv_iload hx hb dX0_findSteps_96 (lv_at hl 4 rfl) ?_
                refine lvB_ne (tgt := 143) hx hb dX0_findSteps_98 (by decide) (fun c7 => ?_) (fun c7 => ?_)
                · have hq9 : stQ A (aN S) t k x = is1 := by
                    by_cases q : k = 0
                    · rw [(his.1 q).1, q, stQ_0]
                    · rw [stQ_k q]; rw [c7]; exact anyB_mono ((his.2 q).symm.trans c7) (by omega)
                  refine lv_iload hx hb dX0_findSteps_143 (lv_at hl 4 rfl) ?_
                  refine lvB_eq (tgt := 155) hx hb dX0_findSteps_145 (by decide) (fun cz => ?_) (fun cz => ?_)
                  · refine lv_iinc (v := nI (x + 1)) (lv' := [(3, .int (nI (x + 1))), (0, .ref (w 0)), (1, .int (nI t)), (2, .int (nI (k + 1))), (4, .int (zI is1)), (5, .int (nI y))]) hx hb dX0_findSteps_155 hl (k := 3) rfl (nI_add x 1) (by decide) rfl (fun ls hl => ?_)
                    refine lv_goto (tgt := 31) hx hb dX0_findSteps_158 (by decide) ?_
                    exact ih31 (x + 1) Z3 (by omega) H locs ls ⟨by omega, hkp, sz_no hz (st_same2 h0 (hq9.trans cz)), hH, hS, lv_sub hl [1, 2, 3, 0] rfl⟩
                  · refine lv_aload_n hx hb dX0_findSteps_148 rfl (lv_at hl 0 rfl) ?_
                    refine hp_get (C := RX0) (T := TX0) (N := 14) (v := .ref (w 8)) hx hb hts in_X0 hown hK hH hW.x rfl 8 (by decide) (hts _ q220) (fun _ z => z) rfl dX0_findSteps_149 ?_
                    refine lv_iload_n hx hb dX0_findSteps_152 rfl (lv_at hl 3 rfl) ?_
                    refine lv_iload_n hx hb dX0_findSteps_153 rfl (lv_at hl 2 rfl) ?_
                    refine z_ist (j := x) (x := nI (k + 1)) hx hb hK hW0 hH hS 1 (by decide) (by first | omega | (refine Nat.lt_of_lt_of_le (Nat.mod_lt _ ?_) ?_ <;> omega)) dX0_findSteps_154 (fun H locs hH hS => ?_)
                    have hW := hW0.z (vset Z3 1 x (nI (k + 1)))
                    refine lv_iinc (v := nI (x + 1)) (lv' := [(3, .int (nI (x + 1))), (0, .ref (w 0)), (1, .int (nI t)), (2, .int (nI (k + 1))), (4, .int (zI is1)), (5, .int (nI y))]) hx hb dX0_findSteps_155 hl (k := 3) rfl (nI_add x 1) (by decide) rfl (fun ls hl => ?_)
                    refine lv_goto (tgt := 31) hx hb dX0_findSteps_158 (by decide) ?_
                    exact ih31 (x + 1) (vset Z3 1 x (nI (k + 1))) (by omega) H locs ls ⟨by omega, hkp.vs (by decide) _ _, sz_set hz (by omega) hn h0 (hq9.trans cz), hH, hS, lv_sub hl [1, 2, 3, 0] rfl⟩
                · refine lv_iload hx hb dX0_findSteps_101 (lv_at hl 5 rfl) ?_
                  refine lv_iload_n hx hb dX0_findSteps_103 rfl (lv_at hl 1 rfl) ?_
                  refine lvN_eq (tgt := 134) hx hb (by first | omega | (refine Nat.lt_of_lt_of_le (Nat.mod_lt _ ?_) ?_ <;> omega)) (by first | omega | (refine Nat.lt_of_lt_of_le (Nat.mod_lt _ ?_) ?_ <;> omega)) dX0_findSteps_104 (by decide) (fun c8 => ?_) (fun c8 => ?_)
                  · refine lv_iconst (v := nI 0) hx hb dX0_findSteps_134 (by decide) ?_
                    refine lv_top (y := zI (decide (y ≠ t) && (decide (stO A (aN S) t k y = some k) && A x y))) (zI_0 (by rw [decide_eq_false (not_not_intro c8)]; rfl)) ?_
                    refine lv_istore (lv' := [(4, .int (zI (decide (y ≠ t) && (decide (stO A (aN S) t k y = some k) && A x y)))), (0, .ref (w 0)), (1, .int (nI t)), (2, .int (nI (k + 1))), (3, .int (nI x)), (5, .int (nI y))]) hx hb dX0_findSteps_135 hl (by decide) rfl (fun ls hl => ?_)
                    refine lv_iinc (v := nI (y + 1)) (lv' := [(5, .int (nI (y + 1))), (4, .int (zI (decide (y ≠ t) && (decide (stO A (aN S) t k y = some k) && A x y)))), (0, .ref (w 0)), (1, .int (nI t)), (2, .int (nI (k + 1))), (3, .int (nI x))]) hx hb dX0_findSteps_137 hl (k := 5) rfl (nI_add y 1) (by decide) rfl (fun ls hl => ?_)
                    refine lv_goto (tgt := 79) hx hb dX0_findSteps_140 (by decide) ?_
                    exact ih79 (y + 1) _ (by omega) H locs ls ⟨by omega, ⟨fun q => absurd q (by omega), fun q => by rw [anyB, ← his.2 q, c7, Bool.false_or]⟩, hH, hS, lv_sub hl [2, 3, 4, 5, 1, 0] rfl⟩
                  · refine lv_aload_n hx hb dX0_findSteps_107 rfl (lv_at hl 0 rfl) ?_
                    refine hp_get (C := RX0) (T := TX0) (N := 14) (v := .ref (w 8)) hx hb hts in_X0 hown hK hH hW.x rfl 8 (by decide) (hts _ q220) (fun _ z => z) rfl dX0_findSteps_108 ?_
                    refine lv_iload hx hb dX0_findSteps_111 (lv_at hl 5 rfl) ?_
                    refine hp_ild (n := 10) (j := y) (v := (Z3 1) y) hx hb hK hH 0 (hW.ar 1 (by decide)) rfl (by first | omega | (refine Nat.lt_of_lt_of_le (Nat.mod_lt _ ?_) ?_ <;> omega)) (by first | omega | (refine Nat.lt_of_lt_of_le (Nat.mod_lt _ ?_) ?_ <;> omega)) (rfl) dX0_findSteps_113 ?_
                    refine lv_iload_n hx hb dX0_findSteps_114 rfl (lv_at hl 2 rfl) ?_
                    refine lv_iconst (v := nI 1) hx hb dX0_findSteps_115 (by decide) ?_
                    refine lv_isub hx hb dX0_findSteps_116 ?_
                    refine lv_top (y := nI k) ((pk_sub (by omega)).trans (congrArg nI (by omega))) ?_
                    refine lv_icmp_ne (tgt := 134) hx hb dX0_findSteps_117 (by decide) (fun c9 => ?_) (fun c9 => ?_)
                    · refine lv_iconst (v := nI 0) hx hb dX0_findSteps_134 (by decide) ?_
                      refine lv_top (y := zI (decide (y ≠ t) && (decide (stO A (aN S) t k y = some k) && A x y))) (zI_0 (by rw [decide_eq_false (fun q => c9 ((sz_key hz (by omega) (by omega)).mpr q))]; simp)) ?_
                      refine lv_istore (lv' := [(4, .int (zI (decide (y ≠ t) && (decide (stO A (aN S) t k y = some k) && A x y)))), (0, .ref (w 0)), (1, .int (nI t)), (2, .int (nI (k + 1))), (3, .int (nI x)), (5, .int (nI y))]) hx hb dX0_findSteps_135 hl (by decide) rfl (fun ls hl => ?_)
                      refine lv_iinc (v := nI (y + 1)) (lv' := [(5, .int (nI (y + 1))), (4, .int (zI (decide (y ≠ t) && (decide (stO A (aN S) t k y = some k) && A x y)))), (0, .ref (w 0)), (1, .int (nI t)), (2, .int (nI (k + 1))), (3, .int (nI x))]) hx hb dX0_findSteps_137 hl (k := 5) rfl (nI_add y 1) (by decide) rfl (fun ls hl => ?_)
                      refine lv_goto (tgt := 79) hx hb dX0_findSteps_140 (by decide) ?_
                      exact ih79 (y + 1) _ (by omega) H locs ls ⟨by omega, ⟨fun q => absurd q (by omega), fun q => by rw [anyB, ← his.2 q, c7, Bool.false_or]⟩, hH, hS, lv_sub hl [2, 3, 4, 5, 1, 0] rfl⟩
                    · refine lv_aload_n hx hb dX0_findSteps_120 rfl (lv_at hl 0 rfl) ?_
                      refine lv_iload_n hx hb dX0_findSteps_121 rfl (lv_at hl 3 rfl) ?_
                      refine lv_iload hx hb dX0_findSteps_122 (lv_at hl 5 rfl) ?_
                      refine hp_callV (As := [.int (nI x), .int (nI y)]) (rest := []) hx hb hml hown hts hPB hK hH hS (mc_isAb hK0 hG hO hO2 hW0 (Z := Z3) (A := A) (x := x) (y := y) hab (by omega) (by omega)) hW.x rfl rfl 2 (lw_V q1107 q1109 qs33 q102 q1110) (by decide +kernel) ⟨rfl, rfl⟩ (by decide) rfl hl.1 rfl (Nat.le_of_ble_eq_true rfl) (by decide) dX0_findSteps_124 (fun v5 h7 H locs hp6 _ hH hS => ?_)
                      obtain ⟨rfl, hq⟩ := hp6
                      rw [hq] at hH
                      refine lvB_eq (tgt := 134) hx hb dX0_findSteps_127 (by decide) (fun ca => ?_) (fun ca => ?_)
                      · refine lv_iconst (v := nI 0) hx hb dX0_findSteps_134 (by decide) ?_
                        refine lv_top (y := zI (decide (y ≠ t) && (decide (stO A (aN S) t k y = some k) && A x y))) (zI_0 (by rw [ca]; simp)) ?_
                        refine lv_istore (lv' := [(4, .int (zI (decide (y ≠ t) && (decide (stO A (aN S) t k y = some k) && A x y)))), (0, .ref (w 0)), (1, .int (nI t)), (2, .int (nI (k + 1))), (3, .int (nI x)), (5, .int (nI y))]) hx hb dX0_findSteps_135 hl (by decide) rfl (fun ls hl => ?_)
                        refine lv_iinc (v := nI (y + 1)) (lv' := [(5, .int (nI (y + 1))), (4, .int (zI (decide (y ≠ t) && (decide (stO A (aN S) t k y = some k) && A x y)))), (0, .ref (w 0)), (1, .int (nI t)), (2, .int (nI (k + 1))), (3, .int (nI x))]) hx hb dX0_findSteps_137 hl (k := 5) rfl (nI_add y 1) (by decide) rfl (fun ls hl => ?_)
                        refine lv_goto (tgt := 79) hx hb dX0_findSteps_140 (by decide) ?_
                        exact ih79 (y + 1) _ (by omega) H locs ls ⟨by omega, ⟨fun q => absurd q (by omega), fun q => by rw [anyB, ← his.2 q, c7, Bool.false_or]⟩, hH, hS, lv_sub hl [2, 3, 4, 5, 1, 0] rfl⟩
                      · refine lv_iconst (v := nI 1) hx hb dX0_findSteps_130 (by decide) ?_
                        refine lv_goto (tgt := 135) hx hb dX0_findSteps_131 (by decide) ?_
                        refine lv_top (y := zI (decide (y ≠ t) && (decide (stO A (aN S) t k y = some k) && A x y))) (zI_1 (by rw [decide_eq_true c8, decide_eq_true ((sz_key hz (by omega) (by omega)).mp c9), ca]; rfl)) ?_
                        refine lv_istore (lv' := [(4, .int (zI (decide (y ≠ t) && (decide (stO A (aN S) t k y = some k) && A x y)))), (0, .ref (w 0)), (1, .int (nI t)), (2, .int (nI (k + 1))), (3, .int (nI x)), (5, .int (nI y))]) hx hb dX0_findSteps_135 hl (by decide) rfl (fun ls hl => ?_)
                        refine lv_iinc (v := nI (y + 1)) (lv' := [(5, .int (nI (y + 1))), (4, .int (zI (decide (y ≠ t) && (decide (stO A (aN S) t k y = some k) && A x y)))), (0, .ref (w 0)), (1, .int (nI t)), (2, .int (nI (k + 1))), (3, .int (nI x))]) hx hb dX0_findSteps_137 hl (k := 5) rfl (nI_add y 1) (by decide) rfl (fun ls hl => ?_)
                        refine lv_goto (tgt := 79) hx hb dX0_findSteps_140 (by decide) ?_
                        exact ih79 (y + 1) _ (by omega) H locs ls ⟨by omega, ⟨fun q => absurd q (by omega), fun q => by rw [anyB, ← his.2 q, c7, Bool.false_or]⟩, hH, hS, lv_sub hl [2, 3, 4, 5, 1, 0] rfl⟩
          · refine lv_aload_n hx hb dX0_findSteps_60 rfl (lv_at hl 0 rfl) ?_
            refine lv_iload_n hx hb dX0_findSteps_61 rfl (lv_at hl 3 rfl) ?_
            refine lv_iload_n hx hb dX0_findSteps_62 rfl (lv_at hl 1 rfl) ?_
            refine hp_callV (As := [.int (nI x), .int (nI t)]) (rest := []) hx hb hml hown hts hPB hK hH hS (mc_isAb hK0 hG hO hO2 hW0 (Z := Z3) (A := A) (x := x) (y := t) hab (by omega) (by omega)) hW.x rfl rfl 2 (lw_V q1107 q1109 qs33 q102 q1110) (by decide +kernel) ⟨rfl, rfl⟩ (by decide) rfl hl.1 rfl (Nat.le_of_ble_eq_true rfl) (by decide) dX0_findSteps_63 (fun v8 h10 H locs hp9 _ hH hS => ?_)
            obtain ⟨rfl, hq⟩ := hp9
            rw [hq] at hH
            refine lvB_eq (tgt := 73) hx hb dX0_findSteps_66 (by decide) (fun ci => ?_) (fun ci => ?_)
            · refine lv_iconst (v := nI 0) hx hb dX0_findSteps_73 (by decide) ?_
              refine lv_top (y := zI (A x t)) (zI_0 ci) ?_
              refine lv_istore (lv' := [(4, .int (zI (A x t))), (0, .ref (w 0)), (1, .int (nI t)), (2, .int (nI (k + 1))), (3, .int (nI x))]) hx hb dX0_findSteps_74 hl (by decide) rfl (fun ls hl => ?_)
              refine lv_iconst (v := nI 0) hx hb dX0_findSteps_76 (by decide) ?_
              refine lv_istore (lv' := [(5, .int (nI 0)), (4, .int (zI (A x t))), (0, .ref (w 0)), (1, .int (nI t)), (2, .int (nI (k + 1))), (3, .int (nI x))]) hx hb dX0_findSteps_77 hl (by decide) rfl (fun ls hl => ?_)
              refine w_loop2 (fun (y : Nat) (is1 : Bool) => aN S - y) (fun (y : Nat) (is1 : Bool) H locs ls => (y ≤ aN S) ∧ ((k = 0 → is1 = A x t ∧ y = 0) ∧ (k ≠ 0 → is1 = anyB (fun u => decide (u ≠ t) && (decide (stO A (aN S) t k u = some k) && A x u)) y)) ∧ HP D CL (zA s0) (zset h K w S Z3) H ∧ va_S (zA s0) s.heap H locs ∧ lv_has ls 6 [(0, .ref (w 0)), (1, .int (nI t)), (2, .int (nI (k + 1))), (3, .int (nI x)), (4, .int (zI is1)), (5, .int (nI y))]) ?_ 0 (A x t) ⟨Nat.zero_le _, ⟨fun _ => ⟨rfl, rfl⟩, fun q => absurd (by omega) q⟩, hH, hS, lv_sub hl [2, 3, 4, 5, 1, 0] rfl⟩
              intro y is1 ih79 H locs ls hP
              obtain ⟨hyy, his, hH, hS, hl⟩ := hP
              refine lv_iload hx hb dX0_findSteps_79 (lv_at hl 5 rfl) ?_
              refine lv_aload_n hx hb dX0_findSteps_81 rfl (lv_at hl 0 rfl) ?_
              refine hp_get (C := RX0) (T := TX0) (N := 14) (v := .ref (w 3)) hx hb hts in_X0 hown hK hH hW.x rfl 2 (by decide) (hts _ q214) (fun _ z => z) rfl dX0_findSteps_82 ?_
              refine hp_siz hx hb hml hown hts hPB hK0 hK hH hS hG (hW.li 0 (by decide)) hW.ng q807 (by first | decide | (simp only [rmk]; omega)) hl.1 rfl (Nat.le_of_ble_eq_true rfl) (by decide) dX0_findSteps_85 (fun H locs hH hS => ?_)
              refine lvN_ge (tgt := 143) hx hb (by first | omega | (refine Nat.lt_of_lt_of_le (Nat.mod_lt _ ?_) ?_ <;> omega)) (by first | omega | (refine Nat.lt_of_lt_of_le (Nat.mod_lt _ ?_) ?_ <;> omega)) dX0_findSteps_88 (by decide) (fun c11 => ?_) (fun c11 => ?_)
              · have hq9 : stQ A (aN S) t k x = is1 := by
                  by_cases q : k = 0
                  · rw [(his.1 q).1, q, stQ_0]
                  · rw [stQ_k q]; rw [his.2 q, show y = aN S by omega]
                refine lv_iload hx hb dX0_findSteps_143 (lv_at hl 4 rfl) ?_
                refine lvB_eq (tgt := 155) hx hb dX0_findSteps_145 (by decide) (fun cz => ?_) (fun cz => ?_)
                · refine lv_iinc (v := nI (x + 1)) (lv' := [(3, .int (nI (x + 1))), (0, .ref (w 0)), (1, .int (nI t)), (2, .int (nI (k + 1))), (4, .int (zI is1)), (5, .int (nI y))]) hx hb dX0_findSteps_155 hl (k := 3) rfl (nI_add x 1) (by decide) rfl (fun ls hl => ?_)
                  refine lv_goto (tgt := 31) hx hb dX0_findSteps_158 (by decide) ?_
                  exact ih31 (x + 1) Z3 (by omega) H locs ls ⟨by omega, hkp, sz_no hz (st_same2 h0 (hq9.trans cz)), hH, hS, lv_sub hl [1, 2, 3, 0] rfl⟩
                · refine lv_aload_n hx hb dX0_findSteps_148 rfl (lv_at hl 0 rfl) ?_
                  refine hp_get (C := RX0) (T := TX0) (N := 14) (v := .ref (w 8)) hx hb hts in_X0 hown hK hH hW.x rfl 8 (by decide) (hts _ q220) (fun _ z => z) rfl dX0_findSteps_149 ?_
                  refine lv_iload_n hx hb dX0_findSteps_152 rfl (lv_at hl 3 rfl) ?_
                  refine lv_iload_n hx hb dX0_findSteps_153 rfl (lv_at hl 2 rfl) ?_
                  refine z_ist (j := x) (x := nI (k + 1)) hx hb hK hW0 hH hS 1 (by decide) (by first | omega | (refine Nat.lt_of_lt_of_le (Nat.mod_lt _ ?_) ?_ <;> omega)) dX0_findSteps_154 (fun H locs hH hS => ?_)
                  have hW := hW0.z (vset Z3 1 x (nI (k + 1)))
                  refine lv_iinc (v := nI (x + 1)) (lv' := [(3, .int (nI (x + 1))), (0, .ref (w 0)), (1, .int (nI t)), (2, .int (nI (k + 1))), (4, .int (zI is1)), (5, .int (nI y))]) hx hb dX0_findSteps_155 hl (k := 3) rfl (nI_add x 1) (by decide) rfl (fun ls hl => ?_)
                  refine lv_goto (tgt := 31) hx hb dX0_findSteps_158 (by decide) ?_
                  exact ih31 (x + 1) (vset Z3 1 x (nI (k + 1))) (by omega) H locs ls ⟨by omega, hkp.vs (by decide) _ _, sz_set hz (by omega) hn h0 (hq9.trans cz), hH, hS, lv_sub hl [1, 2, 3, 0] rfl⟩
              · refine lv_iload_n hx hb dX0_findSteps_91 rfl (lv_at hl 2 rfl) ?_
                refine lv_iconst (v := nI 1) hx hb dX0_findSteps_92 (by decide) ?_
                refine lvN_le (tgt := 143) hx hb (by first | omega | (refine Nat.lt_of_lt_of_le (Nat.mod_lt _ ?_) ?_ <;> omega)) (by first | omega | (refine Nat.lt_of_lt_of_le (Nat.mod_lt _ ?_) ?_ <;> omega)) dX0_findSteps_93 (by decide) (fun c6 => ?_) (fun c6 => ?_)
                · have hq9 : stQ A (aN S) t k x = is1 := by
                    by_cases q : k = 0
                    · rw [(his.1 q).1, q, stQ_0]
                    · rw [stQ_k q]; exact absurd q (by omega)
                  refine lv_iload hx hb dX0_findSteps_143 (lv_at hl 4 rfl) ?_
                  refine lvB_eq (tgt := 155) hx hb dX0_findSteps_145 (by decide) (fun cz => ?_) (fun cz => ?_)
                  · refine lv_iinc (v := nI (x + 1)) (lv' := [(3, .int (nI (x + 1))), (0, .ref (w 0)), (1, .int (nI t)), (2, .int (nI (k + 1))), (4, .int (zI is1)), (5, .int (nI y))]) hx hb dX0_findSteps_155 hl (k := 3) rfl (nI_add x 1) (by decide) rfl (fun ls hl => ?_)
                    refine lv_goto (tgt := 31) hx hb dX0_findSteps_158 (by decide) ?_
                    exact ih31 (x + 1) Z3 (by omega) H locs ls ⟨by omega, hkp, sz_no hz (st_same2 h0 (hq9.trans cz)), hH, hS, lv_sub hl [1, 2, 3, 0] rfl⟩
                  · refine lv_aload_n hx hb dX0_findSteps_148 rfl (lv_at hl 0 rfl) ?_
                    refine hp_get (C := RX0) (T := TX0) (N := 14) (v := .ref (w 8)) hx hb hts in_X0 hown hK hH hW.x rfl 8 (by decide) (hts _ q220) (fun _ z => z) rfl dX0_findSteps_149 ?_
                    refine lv_iload_n hx hb dX0_findSteps_152 rfl (lv_at hl 3 rfl) ?_
                    refine lv_iload_n hx hb dX0_findSteps_153 rfl (lv_at hl 2 rfl) ?_
                    refine z_ist (j := x) (x := nI (k + 1)) hx hb hK hW0 hH hS 1 (by decide) (by first | omega | (refine Nat.lt_of_lt_of_le (Nat.mod_lt _ ?_) ?_ <;> omega)) dX0_findSteps_154 (fun H locs hH hS => ?_)
                    have hW := hW0.z (vset Z3 1 x (nI (k + 1)))
                    refine lv_iinc (v := nI (x + 1)) (lv' := [(3, .int (nI (x + 1))), (0, .ref (w 0)), (1, .int (nI t)), (2, .int (nI (k + 1))), (4, .int (zI is1)), (5, .int (nI y))]) hx hb dX0_findSteps_155 hl (k := 3) rfl (nI_add x 1) (by decide) rfl (fun ls hl => ?_)
                    refine lv_goto (tgt := 31) hx hb dX0_findSteps_158 (by decide) ?_
                    exact ih31 (x + 1) (vset Z3 1 x (nI (k + 1))) (by omega) H locs ls ⟨by omega, hkp.vs (by decide) _ _, sz_set hz (by omega) hn h0 (hq9.trans cz), hH, hS, lv_sub hl [1, 2, 3, 0] rfl⟩
                · refine lv_iload hx hb dX0_findSteps_96 (lv_at hl 4 rfl) ?_
                  refine lvB_ne (tgt := 143) hx hb dX0_findSteps_98 (by decide) (fun c7 => ?_) (fun c7 => ?_)
                  · have hq9 : stQ A (aN S) t k x = is1 := by
                      by_cases q : k = 0
                      · rw [(his.1 q).1, q, stQ_0]
                      · rw [stQ_k q]; rw [c7]; exact anyB_mono ((his.2 q).symm.trans c7) (by omega)
                    refine lv_iload hx hb dX0_findSteps_143 (lv_at hl 4 rfl) ?_
                    refine lvB_eq (tgt := 155) hx hb dX0_findSteps_145 (by decide) (fun cz => ?_) (fun cz => ?_)
                    · refine lv_iinc (v := nI (x + 1)) (lv' := [(3, .int (nI (x + 1))), (0, .ref (w 0)), (1, .int (nI t)), (2, .int (nI (k + 1))), (4, .int (zI is1)), (5, .int (nI y))]) hx hb dX0_findSteps_155 hl (k := 3) rfl (nI_add x 1) (by decide) rfl (fun ls hl => ?_)
                      refine lv_goto (tgt := 31) hx hb dX0_findSteps_158 (by decide) ?_
                      exact ih31 (x + 1) Z3 (by omega) H locs ls ⟨by omega, hkp, sz_no hz (st_same2 h0 (hq9.trans cz)), hH, hS, lv_sub hl [1, 2, 3, 0] rfl⟩
                    · refine lv_aload_n hx hb dX0_findSteps_148 rfl (lv_at hl 0 rfl) ?_
                      refine hp_get (C := RX0) (T := TX0) (N := 14) (v := .ref (w 8)) hx hb hts in_X0 hown hK hH hW.x rfl 8 (by decide) (hts _ q220) (fun _ z => z) rfl dX0_findSteps_149 ?_
                      refine lv_iload_n hx hb dX0_findSteps_152 rfl (lv_at hl 3 rfl) ?_
                      refine lv_iload_n hx hb dX0_findSteps_153 rfl (lv_at hl 2 rfl) ?_
                      refine z_ist (j := x) (x := nI (k + 1)) hx hb hK hW0 hH hS 1 (by decide) (by first | omega | (refine Nat.lt_of_lt_of_le (Nat.mod_lt _ ?_) ?_ <;> omega)) dX0_findSteps_154 (fun H locs hH hS => ?_)
                      have hW := hW0.z (vset Z3 1 x (nI (k + 1)))
                      refine lv_iinc (v := nI (x + 1)) (lv' := [(3, .int (nI (x + 1))), (0, .ref (w 0)), (1, .int (nI t)), (2, .int (nI (k + 1))), (4, .int (zI is1)), (5, .int (nI y))]) hx hb dX0_findSteps_155 hl (k := 3) rfl (nI_add x 1) (by decide) rfl (fun ls hl => ?_)
                      refine lv_goto (tgt := 31) hx hb dX0_findSteps_158 (by decide) ?_
                      exact ih31 (x + 1) (vset Z3 1 x (nI (k + 1))) (by omega) H locs ls ⟨by omega, hkp.vs (by decide) _ _, sz_set hz (by omega) hn h0 (hq9.trans cz), hH, hS, lv_sub hl [1, 2, 3, 0] rfl⟩
                  · refine lv_iload hx hb dX0_findSteps_101 (lv_at hl 5 rfl) ?_
                    refine lv_iload_n hx hb dX0_findSteps_103 rfl (lv_at hl 1 rfl) ?_
                    refine lvN_eq (tgt := 134) hx hb (by first | omega | (refine Nat.lt_of_lt_of_le (Nat.mod_lt _ ?_) ?_ <;> omega)) (by first | omega | (refine Nat.lt_of_lt_of_le (Nat.mod_lt _ ?_) ?_ <;> omega)) dX0_findSteps_104 (by decide) (fun c8 => ?_) (fun c8 => ?_)
                    · refine lv_iconst (v := nI 0) hx hb dX0_findSteps_134 (by decide) ?_
                      refine lv_top (y := zI (decide (y ≠ t) && (decide (stO A (aN S) t k y = some k) && A x y))) (zI_0 (by rw [decide_eq_false (not_not_intro c8)]; rfl)) ?_
                      refine lv_istore (lv' := [(4, .int (zI (decide (y ≠ t) && (decide (stO A (aN S) t k y = some k) && A x y)))), (0, .ref (w 0)), (1, .int (nI t)), (2, .int (nI (k + 1))), (3, .int (nI x)), (5, .int (nI y))]) hx hb dX0_findSteps_135 hl (by decide) rfl (fun ls hl => ?_)
                      refine lv_iinc (v := nI (y + 1)) (lv' := [(5, .int (nI (y + 1))), (4, .int (zI (decide (y ≠ t) && (decide (stO A (aN S) t k y = some k) && A x y)))), (0, .ref (w 0)), (1, .int (nI t)), (2, .int (nI (k + 1))), (3, .int (nI x))]) hx hb dX0_findSteps_137 hl (k := 5) rfl (nI_add y 1) (by decide) rfl (fun ls hl => ?_)
                      refine lv_goto (tgt := 79) hx hb dX0_findSteps_140 (by decide) ?_
                      exact ih79 (y + 1) _ (by omega) H locs ls ⟨by omega, ⟨fun q => absurd q (by omega), fun q => by rw [anyB, ← his.2 q, c7, Bool.false_or]⟩, hH, hS, lv_sub hl [2, 3, 4, 5, 1, 0] rfl⟩
                    · refine lv_aload_n hx hb dX0_findSteps_107 rfl (lv_at hl 0 rfl) ?_
                      refine hp_get (C := RX0) (T := TX0) (N := 14) (v := .ref (w 8)) hx hb hts in_X0 hown hK hH hW.x rfl 8 (by decide) (hts _ q220) (fun _ z => z) rfl dX0_findSteps_108 ?_
                      refine lv_iload hx hb dX0_findSteps_111 (lv_at hl 5 rfl) ?_
                      refine hp_ild (n := 10) (j := y) (v := (Z3 1) y) hx hb hK hH 0 (hW.ar 1 (by decide)) rfl (by first | omega | (refine Nat.lt_of_lt_of_le (Nat.mod_lt _ ?_) ?_ <;> omega)) (by first | omega | (refine Nat.lt_of_lt_of_le (Nat.mod_lt _ ?_) ?_ <;> omega)) (rfl) dX0_findSteps_113 ?_
                      refine lv_iload_n hx hb dX0_findSteps_114 rfl (lv_at hl 2 rfl) ?_
                      refine lv_iconst (v := nI 1) hx hb dX0_findSteps_115 (by decide) ?_
                      refine lv_isub hx hb dX0_findSteps_116 ?_
                      refine lv_top (y := nI k) ((pk_sub (by omega)).trans (congrArg nI (by omega))) ?_
                      refine lv_icmp_ne (tgt := 134) hx hb dX0_findSteps_117 (by decide) (fun c9 => ?_) (fun c9 => ?_)
                      · refine lv_iconst (v := nI 0) hx hb dX0_findSteps_134 (by decide) ?_
                        refine lv_top (y := zI (decide (y ≠ t) && (decide (stO A (aN S) t k y = some k) && A x y))) (zI_0 (by rw [decide_eq_false (fun q => c9 ((sz_key hz (by omega) (by omega)).mpr q))]; simp)) ?_
                        refine lv_istore (lv' := [(4, .int (zI (decide (y ≠ t) && (decide (stO A (aN S) t k y = some k) && A x y)))), (0, .ref (w 0)), (1, .int (nI t)), (2, .int (nI (k + 1))), (3, .int (nI x)), (5, .int (nI y))]) hx hb dX0_findSteps_135 hl (by decide) rfl (fun ls hl => ?_)
                        refine lv_iinc (v := nI (y + 1)) (lv' := [(5, .int (nI (y + 1))), (4, .int (zI (decide (y ≠ t) && (decide (stO A (aN S) t k y = some k) && A x y)))), (0, .ref (w 0)), (1, .int (nI t)), (2, .int (nI (k + 1))), (3, .int (nI x))]) hx hb dX0_findSteps_137 hl (k := 5) rfl (nI_add y 1) (by decide) rfl (fun ls hl => ?_)
                        refine lv_goto (tgt := 79) hx hb dX0_findSteps_140 (by decide) ?_
                        exact ih79 (y + 1) _ (by omega) H locs ls ⟨by omega, ⟨fun q => absurd q (by omega), fun q => by rw [anyB, ← his.2 q, c7, Bool.false_or]⟩, hH, hS, lv_sub hl [2, 3, 4, 5, 1, 0] rfl⟩
                      · refine lv_aload_n hx hb dX0_findSteps_120 rfl (lv_at hl 0 rfl) ?_
                        refine lv_iload_n hx hb dX0_findSteps_121 rfl (lv_at hl 3 rfl) ?_
                        refine lv_iload hx hb dX0_findSteps_122 (lv_at hl 5 rfl) ?_
                        refine hp_callV (As := [.int (nI x), .int (nI y)]) (rest := []) hx hb hml hown hts hPB hK hH hS (mc_isAb hK0 hG hO hO2 hW0 (Z := Z3) (A := A) (x := x) (y := y) hab (by omega) (by omega)) hW.x rfl rfl 2 (lw_V q1107 q1109 qs33 q102 q1110) (by decide +kernel) ⟨rfl, rfl⟩ (by decide) rfl hl.1 rfl (Nat.le_of_ble_eq_true rfl) (by decide) dX0_findSteps_124 (fun v12 h14 H locs hp13 _ hH hS => ?_)
                        obtain ⟨rfl, hq⟩ := hp13
                        rw [hq] at hH
                        refine lvB_eq (tgt := 134) hx hb dX0_findSteps_127 (by decide) (fun ca => ?_) (fun ca => ?_)
                        · refine lv_iconst (v := nI 0) hx hb dX0_findSteps_134 (by decide) ?_
                          refine lv_top (y := zI (decide (y ≠ t) && (decide (stO A (aN S) t k y = some k) && A x y))) (zI_0 (by rw [ca]; simp)) ?_
                          refine lv_istore (lv' := [(4, .int (zI (decide (y ≠ t) && (decide (stO A (aN S) t k y = some k) && A x y)))), (0, .ref (w 0)), (1, .int (nI t)), (2, .int (nI (k + 1))), (3, .int (nI x)), (5, .int (nI y))]) hx hb dX0_findSteps_135 hl (by decide) rfl (fun ls hl => ?_)
                          refine lv_iinc (v := nI (y + 1)) (lv' := [(5, .int (nI (y + 1))), (4, .int (zI (decide (y ≠ t) && (decide (stO A (aN S) t k y = some k) && A x y)))), (0, .ref (w 0)), (1, .int (nI t)), (2, .int (nI (k + 1))), (3, .int (nI x))]) hx hb dX0_findSteps_137 hl (k := 5) rfl (nI_add y 1) (by decide) rfl (fun ls hl => ?_)
                          refine lv_goto (tgt := 79) hx hb dX0_findSteps_140 (by decide) ?_
                          exact ih79 (y + 1) _ (by omega) H locs ls ⟨by omega, ⟨fun q => absurd q (by omega), fun q => by rw [anyB, ← his.2 q, c7, Bool.false_or]⟩, hH, hS, lv_sub hl [2, 3, 4, 5, 1, 0] rfl⟩
                        · refine lv_iconst (v := nI 1) hx hb dX0_findSteps_130 (by decide) ?_
                          refine lv_goto (tgt := 135) hx hb dX0_findSteps_131 (by decide) ?_
                          refine lv_top (y := zI (decide (y ≠ t) && (decide (stO A (aN S) t k y = some k) && A x y))) (zI_1 (by rw [decide_eq_true c8, decide_eq_true ((sz_key hz (by omega) (by omega)).mp c9), ca]; rfl)) ?_
                          refine lv_istore (lv' := [(4, .int (zI (decide (y ≠ t) && (decide (stO A (aN S) t k y = some k) && A x y)))), (0, .ref (w 0)), (1, .int (nI t)), (2, .int (nI (k + 1))), (3, .int (nI x)), (5, .int (nI y))]) hx hb dX0_findSteps_135 hl (by decide) rfl (fun ls hl => ?_)
                          refine lv_iinc (v := nI (y + 1)) (lv' := [(5, .int (nI (y + 1))), (4, .int (zI (decide (y ≠ t) && (decide (stO A (aN S) t k y = some k) && A x y)))), (0, .ref (w 0)), (1, .int (nI t)), (2, .int (nI (k + 1))), (3, .int (nI x))]) hx hb dX0_findSteps_137 hl (k := 5) rfl (nI_add y 1) (by decide) rfl (fun ls hl => ?_)
                          refine lv_goto (tgt := 79) hx hb dX0_findSteps_140 (by decide) ?_
                          exact ih79 (y + 1) _ (by omega) H locs ls ⟨by omega, ⟨fun q => absurd q (by omega), fun q => by rw [anyB, ← his.2 q, c7, Bool.false_or]⟩, hH, hS, lv_sub hl [2, 3, 4, 5, 1, 0] rfl⟩
            · refine lv_iconst (v := nI 1) hx hb dX0_findSteps_69 (by decide) ?_
              refine lv_goto (tgt := 74) hx hb dX0_findSteps_70 (by decide) ?_
              refine lv_top (y := zI (A x t)) (zI_1 ci) ?_
              refine lv_istore (lv' := [(4, .int (zI (A x t))), (0, .ref (w 0)), (1, .int (nI t)), (2, .int (nI (k + 1))), (3, .int (nI x))]) hx hb dX0_findSteps_74 hl (by decide) rfl (fun ls hl => ?_)
              refine lv_iconst (v := nI 0) hx hb dX0_findSteps_76 (by decide) ?_
              refine lv_istore (lv' := [(5, .int (nI 0)), (4, .int (zI (A x t))), (0, .ref (w 0)), (1, .int (nI t)), (2, .int (nI (k + 1))), (3, .int (nI x))]) hx hb dX0_findSteps_77 hl (by decide) rfl (fun ls hl => ?_)
              refine w_loop2 (fun (y : Nat) (is1 : Bool) => aN S - y) (fun (y : Nat) (is1 : Bool) H locs ls => (y ≤ aN S) ∧ ((k = 0 → is1 = A x t ∧ y = 0) ∧ (k ≠ 0 → is1 = anyB (fun u => decide (u ≠ t) && (decide (stO A (aN S) t k u = some k) && A x u)) y)) ∧ HP D CL (zA s0) (zset h K w S Z3) H ∧ va_S (zA s0) s.heap H locs ∧ lv_has ls 6 [(0, .ref (w 0)), (1, .int (nI t)), (2, .int (nI (k + 1))), (3, .int (nI x)), (4, .int (zI is1)), (5, .int (nI y))]) ?_ 0 (A x t) ⟨Nat.zero_le _, ⟨fun _ => ⟨rfl, rfl⟩, fun q => absurd (by omega) q⟩, hH, hS, lv_sub hl [2, 3, 4, 5, 1, 0] rfl⟩
              intro y is1 ih79 H locs ls hP
              obtain ⟨hyy, his, hH, hS, hl⟩ := hP
              refine lv_iload hx hb dX0_findSteps_79 (lv_at hl 5 rfl) ?_
              refine lv_aload_n hx hb dX0_findSteps_81 rfl (lv_at hl 0 rfl) ?_
              refine hp_get (C := RX0) (T := TX0) (N := 14) (v := .ref (w 3)) hx hb hts in_X0 hown hK hH hW.x rfl 2 (by decide) (hts _ q214) (fun _ z => z) rfl dX0_findSteps_82 ?_
              refine hp_siz hx hb hml hown hts hPB hK0 hK hH hS hG (hW.li 0 (by decide)) hW.ng q807 (by first | decide | (simp only [rmk]; omega)) hl.1 rfl (Nat.le_of_ble_eq_true rfl) (by decide) dX0_findSteps_85 (fun H locs hH hS => ?_)
              refine lvN_ge (tgt := 143) hx hb (by first | omega | (refine Nat.lt_of_lt_of_le (Nat.mod_lt _ ?_) ?_ <;> omega)) (by first | omega | (refine Nat.lt_of_lt_of_le (Nat.mod_lt _ ?_) ?_ <;> omega)) dX0_findSteps_88 (by decide) (fun c15 => ?_) (fun c15 => ?_)
              · have hq9 : stQ A (aN S) t k x = is1 := by
                  by_cases q : k = 0
                  · rw [(his.1 q).1, q, stQ_0]
                  · rw [stQ_k q]; rw [his.2 q, show y = aN S by omega]
                refine lv_iload hx hb dX0_findSteps_143 (lv_at hl 4 rfl) ?_
                refine lvB_eq (tgt := 155) hx hb dX0_findSteps_145 (by decide) (fun cz => ?_) (fun cz => ?_)
                · refine lv_iinc (v := nI (x + 1)) (lv' := [(3, .int (nI (x + 1))), (0, .ref (w 0)), (1, .int (nI t)), (2, .int (nI (k + 1))), (4, .int (zI is1)), (5, .int (nI y))]) hx hb dX0_findSteps_155 hl (k := 3) rfl (nI_add x 1) (by decide) rfl (fun ls hl => ?_)
                  refine lv_goto (tgt := 31) hx hb dX0_findSteps_158 (by decide) ?_
                  exact ih31 (x + 1) Z3 (by omega) H locs ls ⟨by omega, hkp, sz_no hz (st_same2 h0 (hq9.trans cz)), hH, hS, lv_sub hl [1, 2, 3, 0] rfl⟩
                · refine lv_aload_n hx hb dX0_findSteps_148 rfl (lv_at hl 0 rfl) ?_
                  refine hp_get (C := RX0) (T := TX0) (N := 14) (v := .ref (w 8)) hx hb hts in_X0 hown hK hH hW.x rfl 8 (by decide) (hts _ q220) (fun _ z => z) rfl dX0_findSteps_149 ?_
                  refine lv_iload_n hx hb dX0_findSteps_152 rfl (lv_at hl 3 rfl) ?_
                  refine lv_iload_n hx hb dX0_findSteps_153 rfl (lv_at hl 2 rfl) ?_
                  refine z_ist (j := x) (x := nI (k + 1)) hx hb hK hW0 hH hS 1 (by decide) (by first | omega | (refine Nat.lt_of_lt_of_le (Nat.mod_lt _ ?_) ?_ <;> omega)) dX0_findSteps_154 (fun H locs hH hS => ?_)
                  have hW := hW0.z (vset Z3 1 x (nI (k + 1)))
                  refine lv_iinc (v := nI (x + 1)) (lv' := [(3, .int (nI (x + 1))), (0, .ref (w 0)), (1, .int (nI t)), (2, .int (nI (k + 1))), (4, .int (zI is1)), (5, .int (nI y))]) hx hb dX0_findSteps_155 hl (k := 3) rfl (nI_add x 1) (by decide) rfl (fun ls hl => ?_)
                  refine lv_goto (tgt := 31) hx hb dX0_findSteps_158 (by decide) ?_
                  exact ih31 (x + 1) (vset Z3 1 x (nI (k + 1))) (by omega) H locs ls ⟨by omega, hkp.vs (by decide) _ _, sz_set hz (by omega) hn h0 (hq9.trans cz), hH, hS, lv_sub hl [1, 2, 3, 0] rfl⟩
              · refine lv_iload_n hx hb dX0_findSteps_91 rfl (lv_at hl 2 rfl) ?_
                refine lv_iconst (v := nI 1) hx hb dX0_findSteps_92 (by decide) ?_
                refine lvN_le (tgt := 143) hx hb (by first | omega | (refine Nat.lt_of_lt_of_le (Nat.mod_lt _ ?_) ?_ <;> omega)) (by first | omega | (refine Nat.lt_of_lt_of_le (Nat.mod_lt _ ?_) ?_ <;> omega)) dX0_findSteps_93 (by decide) (fun c6 => ?_) (fun c6 => ?_)
                · have hq9 : stQ A (aN S) t k x = is1 := by
                    by_cases q : k = 0
                    · rw [(his.1 q).1, q, stQ_0]
                    · rw [stQ_k q]; exact absurd q (by omega)
                  refine lv_iload hx hb dX0_findSteps_143 (lv_at hl 4 rfl) ?_
                  refine lvB_eq (tgt := 155) hx hb dX0_findSteps_145 (by decide) (fun cz => ?_) (fun cz => ?_)
                  · refine lv_iinc (v := nI (x + 1)) (lv' := [(3, .int (nI (x + 1))), (0, .ref (w 0)), (1, .int (nI t)), (2, .int (nI (k + 1))), (4, .int (zI is1)), (5, .int (nI y))]) hx hb dX0_findSteps_155 hl (k := 3) rfl (nI_add x 1) (by decide) rfl (fun ls hl => ?_)
                    refine lv_goto (tgt := 31) hx hb dX0_findSteps_158 (by decide) ?_
                    exact ih31 (x + 1) Z3 (by omega) H locs ls ⟨by omega, hkp, sz_no hz (st_same2 h0 (hq9.trans cz)), hH, hS, lv_sub hl [1, 2, 3, 0] rfl⟩
                  · refine lv_aload_n hx hb dX0_findSteps_148 rfl (lv_at hl 0 rfl) ?_
                    refine hp_get (C := RX0) (T := TX0) (N := 14) (v := .ref (w 8)) hx hb hts in_X0 hown hK hH hW.x rfl 8 (by decide) (hts _ q220) (fun _ z => z) rfl dX0_findSteps_149 ?_
                    refine lv_iload_n hx hb dX0_findSteps_152 rfl (lv_at hl 3 rfl) ?_
                    refine lv_iload_n hx hb dX0_findSteps_153 rfl (lv_at hl 2 rfl) ?_
                    refine z_ist (j := x) (x := nI (k + 1)) hx hb hK hW0 hH hS 1 (by decide) (by first | omega | (refine Nat.lt_of_lt_of_le (Nat.mod_lt _ ?_) ?_ <;> omega)) dX0_findSteps_154 (fun H locs hH hS => ?_)
                    have hW := hW0.z (vset Z3 1 x (nI (k + 1)))
                    refine lv_iinc (v := nI (x + 1)) (lv' := [(3, .int (nI (x + 1))), (0, .ref (w 0)), (1, .int (nI t)), (2, .int (nI (k + 1))), (4, .int (zI is1)), (5, .int (nI y))]) hx hb dX0_findSteps_155 hl (k := 3) rfl (nI_add x 1) (by decide) rfl (fun ls hl => ?_)
                    refine lv_goto (tgt := 31) hx hb dX0_findSteps_158 (by decide) ?_
                    exact ih31 (x + 1) (vset Z3 1 x (nI (k + 1))) (by omega) H locs ls ⟨by omega, hkp.vs (by decide) _ _, sz_set hz (by omega) hn h0 (hq9.trans cz), hH, hS, lv_sub hl [1, 2, 3, 0] rfl⟩
                · refine lv_iload hx hb dX0_findSteps_96 (lv_at hl 4 rfl) ?_
                  refine lvB_ne (tgt := 143) hx hb dX0_findSteps_98 (by decide) (fun c7 => ?_) (fun c7 => ?_)
                  · have hq9 : stQ A (aN S) t k x = is1 := by
                      by_cases q : k = 0
                      · rw [(his.1 q).1, q, stQ_0]
                      · rw [stQ_k q]; rw [c7]; exact anyB_mono ((his.2 q).symm.trans c7) (by omega)
                    refine lv_iload hx hb dX0_findSteps_143 (lv_at hl 4 rfl) ?_
                    refine lvB_eq (tgt := 155) hx hb dX0_findSteps_145 (by decide) (fun cz => ?_) (fun cz => ?_)
                    · refine lv_iinc (v := nI (x + 1)) (lv' := [(3, .int (nI (x + 1))), (0, .ref (w 0)), (1, .int (nI t)), (2, .int (nI (k + 1))), (4, .int (zI is1)), (5, .int (nI y))]) hx hb dX0_findSteps_155 hl (k := 3) rfl (nI_add x 1) (by decide) rfl (fun ls hl => ?_)
                      refine lv_goto (tgt := 31) hx hb dX0_findSteps_158 (by decide) ?_
                      exact ih31 (x + 1) Z3 (by omega) H locs ls ⟨by omega, hkp, sz_no hz (st_same2 h0 (hq9.trans cz)), hH, hS, lv_sub hl [1, 2, 3, 0] rfl⟩
                    · refine lv_aload_n hx hb dX0_findSteps_148 rfl (lv_at hl 0 rfl) ?_
                      refine hp_get (C := RX0) (T := TX0) (N := 14) (v := .ref (w 8)) hx hb hts in_X0 hown hK hH hW.x rfl 8 (by decide) (hts _ q220) (fun _ z => z) rfl dX0_findSteps_149 ?_
                      refine lv_iload_n hx hb dX0_findSteps_152 rfl (lv_at hl 3 rfl) ?_
                      refine lv_iload_n hx hb dX0_findSteps_153 rfl (lv_at hl 2 rfl) ?_
                      refine z_ist (j := x) (x := nI (k + 1)) hx hb hK hW0 hH hS 1 (by decide) (by first | omega | (refine Nat.lt_of_lt_of_le (Nat.mod_lt _ ?_) ?_ <;> omega)) dX0_findSteps_154 (fun H locs hH hS => ?_)
                      have hW := hW0.z (vset Z3 1 x (nI (k + 1)))
                      refine lv_iinc (v := nI (x + 1)) (lv' := [(3, .int (nI (x + 1))), (0, .ref (w 0)), (1, .int (nI t)), (2, .int (nI (k + 1))), (4, .int (zI is1)), (5, .int (nI y))]) hx hb dX0_findSteps_155 hl (k := 3) rfl (nI_add x 1) (by decide) rfl (fun ls hl => ?_)
                      refine lv_goto (tgt := 31) hx hb dX0_findSteps_158 (by decide) ?_
                      exact ih31 (x + 1) (vset Z3 1 x (nI (k + 1))) (by omega) H locs ls ⟨by omega, hkp.vs (by decide) _ _, sz_set hz (by omega) hn h0 (hq9.trans cz), hH, hS, lv_sub hl [1, 2, 3, 0] rfl⟩
                  · refine lv_iload hx hb dX0_findSteps_101 (lv_at hl 5 rfl) ?_
                    refine lv_iload_n hx hb dX0_findSteps_103 rfl (lv_at hl 1 rfl) ?_
                    refine lvN_eq (tgt := 134) hx hb (by first | omega | (refine Nat.lt_of_lt_of_le (Nat.mod_lt _ ?_) ?_ <;> omega)) (by first | omega | (refine Nat.lt_of_lt_of_le (Nat.mod_lt _ ?_) ?_ <;> omega)) dX0_findSteps_104 (by decide) (fun c8 => ?_) (fun c8 => ?_)
                    · refine lv_iconst (v := nI 0) hx hb dX0_findSteps_134 (by decide) ?_
                      refine lv_top (y := zI (decide (y ≠ t) && (decide (stO A (aN S) t k y = some k) && A x y))) (zI_0 (by rw [decide_eq_false (not_not_intro c8)]; rfl)) ?_
                      refine lv_istore (lv' := [(4, .int (zI (decide (y ≠ t) && (decide (stO A (aN S) t k y = some k) && A x y)))), (0, .ref (w 0)), (1, .int (nI t)), (2, .int (nI (k + 1))), (3, .int (nI x)), (5, .int (nI y))]) hx hb dX0_findSteps_135 hl (by decide) rfl (fun ls hl => ?_)
                      refine lv_iinc (v := nI (y + 1)) (lv' := [(5, .int (nI (y + 1))), (4, .int (zI (decide (y ≠ t) && (decide (stO A (aN S) t k y = some k) && A x y)))), (0, .ref (w 0)), (1, .int (nI t)), (2, .int (nI (k + 1))), (3, .int (nI x))]) hx hb dX0_findSteps_137 hl (k := 5) rfl (nI_add y 1) (by decide) rfl (fun ls hl => ?_)
                      refine lv_goto (tgt := 79) hx hb dX0_findSteps_140 (by decide) ?_
                      exact ih79 (y + 1) _ (by omega) H locs ls ⟨by omega, ⟨fun q => absurd q (by omega), fun q => by rw [anyB, ← his.2 q, c7, Bool.false_or]⟩, hH, hS, lv_sub hl [2, 3, 4, 5, 1, 0] rfl⟩
                    · refine lv_aload_n hx hb dX0_findSteps_107 rfl (lv_at hl 0 rfl) ?_
                      refine hp_get (C := RX0) (T := TX0) (N := 14) (v := .ref (w 8)) hx hb hts in_X0 hown hK hH hW.x rfl 8 (by decide) (hts _ q220) (fun _ z => z) rfl dX0_findSteps_108 ?_
                      refine lv_iload hx hb dX0_findSteps_111 (lv_at hl 5 rfl) ?_
                      refine hp_ild (n := 10) (j := y) (v := (Z3 1) y) hx hb hK hH 0 (hW.ar 1 (by decide)) rfl (by first | omega | (refine Nat.lt_of_lt_of_le (Nat.mod_lt _ ?_) ?_ <;> omega)) (by first | omega | (refine Nat.lt_of_lt_of_le (Nat.mod_lt _ ?_) ?_ <;> omega)) (rfl) dX0_findSteps_113 ?_
                      refine lv_iload_n hx hb dX0_findSteps_114 rfl (lv_at hl 2 rfl) ?_
                      refine lv_iconst (v := nI 1) hx hb dX0_findSteps_115 (by decide) ?_
                      refine lv_isub hx hb dX0_findSteps_116 ?_
                      refine lv_top (y := nI k) ((pk_sub (by omega)).trans (congrArg nI (by omega))) ?_
                      refine lv_icmp_ne (tgt := 134) hx hb dX0_findSteps_117 (by decide) (fun c9 => ?_) (fun c9 => ?_)
                      · refine lv_iconst (v := nI 0) hx hb dX0_findSteps_134 (by decide) ?_
                        refine lv_top (y := zI (decide (y ≠ t) && (decide (stO A (aN S) t k y = some k) && A x y))) (zI_0 (by rw [decide_eq_false (fun q => c9 ((sz_key hz (by omega) (by omega)).mpr q))]; simp)) ?_
                        refine lv_istore (lv' := [(4, .int (zI (decide (y ≠ t) && (decide (stO A (aN S) t k y = some k) && A x y)))), (0, .ref (w 0)), (1, .int (nI t)), (2, .int (nI (k + 1))), (3, .int (nI x)), (5, .int (nI y))]) hx hb dX0_findSteps_135 hl (by decide) rfl (fun ls hl => ?_)
                        refine lv_iinc (v := nI (y + 1)) (lv' := [(5, .int (nI (y + 1))), (4, .int (zI (decide (y ≠ t) && (decide (stO A (aN S) t k y = some k) && A x y)))), (0, .ref (w 0)), (1, .int (nI t)), (2, .int (nI (k + 1))), (3, .int (nI x))]) hx hb dX0_findSteps_137 hl (k := 5) rfl (nI_add y 1) (by decide) rfl (fun ls hl => ?_)
                        refine lv_goto (tgt := 79) hx hb dX0_findSteps_140 (by decide) ?_
                        exact ih79 (y + 1) _ (by omega) H locs ls ⟨by omega, ⟨fun q => absurd q (by omega), fun q => by rw [anyB, ← his.2 q, c7, Bool.false_or]⟩, hH, hS, lv_sub hl [2, 3, 4, 5, 1, 0] rfl⟩
                      · refine lv_aload_n hx hb dX0_findSteps_120 rfl (lv_at hl 0 rfl) ?_
                        refine lv_iload_n hx hb dX0_findSteps_121 rfl (lv_at hl 3 rfl) ?_
                        refine lv_iload hx hb dX0_findSteps_122 (lv_at hl 5 rfl) ?_
                        refine hp_callV (As := [.int (nI x), .int (nI y)]) (rest := []) hx hb hml hown hts hPB hK hH hS (mc_isAb hK0 hG hO hO2 hW0 (Z := Z3) (A := A) (x := x) (y := y) hab (by omega) (by omega)) hW.x rfl rfl 2 (lw_V q1107 q1109 qs33 q102 q1110) (by decide +kernel) ⟨rfl, rfl⟩ (by decide) rfl hl.1 rfl (Nat.le_of_ble_eq_true rfl) (by decide) dX0_findSteps_124 (fun v16 h18 H locs hp17 _ hH hS => ?_)
                        obtain ⟨rfl, hq⟩ := hp17
                        rw [hq] at hH
                        refine lvB_eq (tgt := 134) hx hb dX0_findSteps_127 (by decide) (fun ca => ?_) (fun ca => ?_)
                        · refine lv_iconst (v := nI 0) hx hb dX0_findSteps_134 (by decide) ?_
                          refine lv_top (y := zI (decide (y ≠ t) && (decide (stO A (aN S) t k y = some k) && A x y))) (zI_0 (by rw [ca]; simp)) ?_
                          refine lv_istore (lv' := [(4, .int (zI (decide (y ≠ t) && (decide (stO A (aN S) t k y = some k) && A x y)))), (0, .ref (w 0)), (1, .int (nI t)), (2, .int (nI (k + 1))), (3, .int (nI x)), (5, .int (nI y))]) hx hb dX0_findSteps_135 hl (by decide) rfl (fun ls hl => ?_)
                          refine lv_iinc (v := nI (y + 1)) (lv' := [(5, .int (nI (y + 1))), (4, .int (zI (decide (y ≠ t) && (decide (stO A (aN S) t k y = some k) && A x y)))), (0, .ref (w 0)), (1, .int (nI t)), (2, .int (nI (k + 1))), (3, .int (nI x))]) hx hb dX0_findSteps_137 hl (k := 5) rfl (nI_add y 1) (by decide) rfl (fun ls hl => ?_)
                          refine lv_goto (tgt := 79) hx hb dX0_findSteps_140 (by decide) ?_
                          exact ih79 (y + 1) _ (by omega) H locs ls ⟨by omega, ⟨fun q => absurd q (by omega), fun q => by rw [anyB, ← his.2 q, c7, Bool.false_or]⟩, hH, hS, lv_sub hl [2, 3, 4, 5, 1, 0] rfl⟩
                        · refine lv_iconst (v := nI 1) hx hb dX0_findSteps_130 (by decide) ?_
                          refine lv_goto (tgt := 135) hx hb dX0_findSteps_131 (by decide) ?_
                          refine lv_top (y := zI (decide (y ≠ t) && (decide (stO A (aN S) t k y = some k) && A x y))) (zI_1 (by rw [decide_eq_true c8, decide_eq_true ((sz_key hz (by omega) (by omega)).mp c9), ca]; rfl)) ?_
                          refine lv_istore (lv' := [(4, .int (zI (decide (y ≠ t) && (decide (stO A (aN S) t k y = some k) && A x y)))), (0, .ref (w 0)), (1, .int (nI t)), (2, .int (nI (k + 1))), (3, .int (nI x)), (5, .int (nI y))]) hx hb dX0_findSteps_135 hl (by decide) rfl (fun ls hl => ?_)
                          refine lv_iinc (v := nI (y + 1)) (lv' := [(5, .int (nI (y + 1))), (4, .int (zI (decide (y ≠ t) && (decide (stO A (aN S) t k y = some k) && A x y)))), (0, .ref (w 0)), (1, .int (nI t)), (2, .int (nI (k + 1))), (3, .int (nI x))]) hx hb dX0_findSteps_137 hl (k := 5) rfl (nI_add y 1) (by decide) rfl (fun ls hl => ?_)
                          refine lv_goto (tgt := 79) hx hb dX0_findSteps_140 (by decide) ?_
                          exact ih79 (y + 1) _ (by omega) H locs ls ⟨by omega, ⟨fun q => absurd q (by omega), fun q => by rw [anyB, ← his.2 q, c7, Bool.false_or]⟩, hH, hS, lv_sub hl [2, 3, 4, 5, 1, 0] rfl⟩
        · obtain ⟨d9, hd9⟩ := far_is (fun q => c4 ((sz_at hz (by omega)).trans q))
          refine lv_goto (tgt := 155) hx hb dX0_findSteps_52 (by decide) ?_
          refine lv_iinc (v := nI (x + 1)) (lv' := [(3, .int (nI (x + 1))), (0, .ref (w 0)), (1, .int (nI t)), (2, .int (nI (k + 1)))]) hx hb dX0_findSteps_155 hl (k := 3) rfl (nI_add x 1) (by decide) rfl (fun ls hl => ?_)
          refine lv_goto (tgt := 31) hx hb dX0_findSteps_158 (by decide) ?_
          exact ih31 (x + 1) Z3 (by omega) H locs ls ⟨by omega, hkp, sz_no hz (st_same1 hd9), hH, hS, lv_sub hl [1, 2, 3, 0] rfl⟩
  · refine lv_aload_n hx hb dX0_findSteps_8 rfl (lv_at hl 0 rfl) ?_
    refine hp_get (C := RX0) (T := TX0) (N := 14) (v := .ref (w 8)) hx hb hts in_X0 hown hK hH hW.x rfl 8 (by decide) (hts _ q220) (fun _ z => z) rfl dX0_findSteps_9 ?_
    refine lv_iload_n hx hb dX0_findSteps_12 rfl (lv_at hl 2 rfl) ?_
    refine lv_iconst (v := (-1)) hx hb dX0_findSteps_13 (by decide) ?_
    refine z_ist (j := k) (x := (-1)) hx hb hK hW0 hH hS 1 (by decide) (by first | omega | (refine Nat.lt_of_lt_of_le (Nat.mod_lt _ ?_) ?_ <;> omega)) dX0_findSteps_14 (fun H locs hH hS => ?_)
    have hW := hW0.z (vset Z1 1 k (-1))
    refine lv_iinc (v := nI (k + 1)) (lv' := [(2, .int (nI (k + 1))), (0, .ref (w 0)), (1, .int (nI t))]) hx hb dX0_findSteps_15 hl (k := 2) rfl (nI_add k 1) (by decide) rfl (fun ls hl => ?_)
    refine lv_goto (tgt := 2) hx hb dX0_findSteps_18 (by decide) ?_
    exact ih2 (k + 1) (vset Z1 1 k (-1)) (by omega) H locs ls ⟨by omega, hkp.vs (by decide) _ _, fun u hu => by rw [vset_in]; split; rfl; exact hz u (by omega), hH, hS, lv_sub hl [1, 2, 0] rfl⟩
set_option maxHeartbeats 4000000 in
theorem mc_hasRing (hK0 : va_K D CL (TYS K) s0) {av : Nat → Nat} {ed mi : Nat} (hG : GX s0 wd av ed mi) {S : Ab} {w : Nat → Nat} {Ls : Nat → List Nat} {Jn : Nat → Nat} {Z : Nat → Nat → Int32} {Z9 : Nat → Nat → Int32} (hO : SOK S) (hO2 : SO2 S) (hW0 : CW K ed S h w Ls Jn Z9) {A : Gr} (hab : rowZ A Z) (hir : ∀ x, A x x = false) : Met l yX0_hasRing (ws_ yX0_hasRing cX0_hasRing 2 ((Option.some Jvm.ClassFile.FieldType.boolean))) (rmk 2 0 0) (va_Pc [.ref (w 0)] (PB s0 D CL (zset h K w S Z))) (QR s0 D CL (fun v h1 => v = some (.int (zI (ringB A (aN S) (2 ^ aN S - 1)))) ∧ ∃ Z1, h1 = zset h K w S Z1 ∧ kp [1] Z Z1)) 0 0 (zA s0) := by
  refine hp_met (by decide) (Nat.le_of_ble_eq_true rfl) hK0 ?_
  intro p e s m below meth cd ls hx hb hr hlocks hml hown hnm hts hK hPB hl hS hH hA
  have hl : lv_has ls 2 [(0, .ref (w 0))] := hl
  have hown : s.vm.findClass RX0 = some m.cls := hown
  have hn := hO.n
  have hmk := hO.mk
  have hrl := hO.rl
  have hrm := hO.rm
  have hsz := hO.sz
  have hW := hW0.z Z
  refine lv_iconst (v := nI 0) hx hb dX0_hasRing_0 (by decide) ?_
  refine lv_istore_n (lv' := [(1, .int (nI 0)), (0, .ref (w 0))]) hx hb dX0_hasRing_1 rfl hl (by decide) rfl (fun ls hl => ?_)
  refine w_loop2 (fun (g : Nat) (Z1 : Nat → Nat → Int32) => aN S - g) (fun (g : Nat) (Z1 : Nat → Nat → Int32) H locs ls => (g ≤ aN S) ∧ (kp [1] Z Z1) ∧ (anyB (fun g => decide (stO A (aN S) g 10 g ≠ none)) g = false) ∧ HP D CL (zA s0) (zset h K w S Z1) H ∧ va_S (zA s0) s.heap H locs ∧ lv_has ls 2 [(0, .ref (w 0)), (1, .int (nI g))]) ?_ 0 Z ⟨Nat.zero_le _, kp.rf, rfl, hH, hS, lv_sub hl [1, 0] rfl⟩
  intro g Z1 ih2 H locs ls hP
  obtain ⟨hg, hkp, hno, hH, hS, hl⟩ := hP
  have hW := hW0.z Z1
  have hab := rowZ_k hab hkp (by decide)
  refine lv_iload_n hx hb dX0_hasRing_2 rfl (lv_at hl 1 rfl) ?_
  refine lv_aload_n hx hb dX0_hasRing_3 rfl (lv_at hl 0 rfl) ?_
  refine hp_get (C := RX0) (T := TX0) (N := 14) (v := .ref (w 3)) hx hb hts in_X0 hown hK hH hW.x rfl 2 (by decide) (hts _ q214) (fun _ z => z) rfl dX0_hasRing_4 ?_
  refine hp_siz hx hb hml hown hts hPB hK0 hK hH hS hG (hW.li 0 (by decide)) hW.ng q807 (by first | decide | (simp only [rmk]; omega)) hl.1 rfl (Nat.le_of_ble_eq_true rfl) (by decide) dX0_hasRing_7 (fun H locs hH hS => ?_)
  refine lvN_ge (tgt := 36) hx hb (by first | omega | (refine Nat.lt_of_lt_of_le (Nat.mod_lt _ ?_) ?_ <;> omega)) (by first | omega | (refine Nat.lt_of_lt_of_le (Nat.mod_lt _ ?_) ?_ <;> omega)) dX0_hasRing_10 (by decide) (fun c1 => ?_) (fun c1 => ?_)
  · refine lv_iconst (v := nI 0) hx hb dX0_hasRing_36 (by decide) ?_
    exact hp_zret hx hb hr rfl hlocks hH hS (by decide) (by decide) dX0_hasRing_37 (⟨congrArg some (congrArg Value.int (zI_0 (by rw [ring_st hn hir]; exact (show g = aN S by omega) ▸ hno))), _, rfl, hkp⟩)
  · refine lv_aload_n hx hb dX0_hasRing_13 rfl (lv_at hl 0 rfl) ?_
    refine lv_iload_n hx hb dX0_hasRing_14 rfl (lv_at hl 1 rfl) ?_
    refine hp_callV (As := [.int (nI g)]) (rest := []) hx hb hml hown hts hPB hK hH hS (mc_findSteps hK0 hG hO hO2 hW0 (Z := Z1) (A := A) (t := g) hab (by omega)) hW.x rfl rfl 1 (lw_V q1103 q1105 qs32 q102 q1106) (by decide +kernel) ⟨rfl, rfl⟩ (by decide) rfl hl.1 rfl (Nat.le_of_ble_eq_true rfl) (by decide) dX0_hasRing_15 (fun v3 h5 H locs hp4 _ hH hS => ?_)
    obtain ⟨rfl, Y2, hq, hkpY2, hst⟩ := hp4
    rw [hq] at hH
    have hab := rowZ_k hab hkpY2 (by decide)
    have hW := hW0.z Y2
    refine lv_aload_n hx hb dX0_hasRing_18 rfl (lv_at hl 0 rfl) ?_
    refine hp_get (C := RX0) (T := TX0) (N := 14) (v := .ref (w 8)) hx hb hts in_X0 hown hK hH hW.x rfl 8 (by decide) (hts _ q220) (fun _ z => z) rfl dX0_hasRing_19 ?_
    refine lv_iload_n hx hb dX0_hasRing_22 rfl (lv_at hl 1 rfl) ?_
    refine hp_ild (n := 10) (j := g) (v := (Y2 1) g) hx hb hK hH 0 (hW.ar 1 (by decide)) rfl (by first | omega | (refine Nat.lt_of_lt_of_le (Nat.mod_lt _ ?_) ?_ <;> omega)) (by first | omega | (refine Nat.lt_of_lt_of_le (Nat.mod_lt _ ?_) ?_ <;> omega)) (rfl) dX0_hasRing_23 ?_
    refine lv_iconst (v := (-1)) hx hb dX0_hasRing_24 (by decide) ?_
    refine lv_icmp_eq (tgt := 30) hx hb dX0_hasRing_25 (by decide) (fun c1 => ?_) (fun c1 => ?_)
    · refine lv_iinc (v := nI (g + 1)) (lv' := [(1, .int (nI (g + 1))), (0, .ref (w 0))]) hx hb dX0_hasRing_30 hl (k := 1) rfl (nI_add g 1) (by decide) rfl (fun ls hl => ?_)
      refine lv_goto (tgt := 2) hx hb dX0_hasRing_33 (by decide) ?_
      exact ih2 (g + 1) Y2 (by omega) H locs ls ⟨by omega, hkp.tr hkpY2, by rw [anyB_f]; exact hno; exact decide_eq_false (not_not_intro ((oI_none (st_b (by decide))).mp ((hst g (by omega)).symm.trans c1))), hH, hS, lv_sub hl [1, 0] rfl⟩
    · refine lv_iconst (v := nI 1) hx hb dX0_hasRing_28 (by decide) ?_
      exact hp_zret hx hb hr rfl hlocks hH hS (by decide) (by decide) dX0_hasRing_29 (⟨congrArg some (congrArg Value.int (zI_1 (by rw [ring_st hn hir]; exact anyB_mono (anyB_t (decide_eq_true (fun q => c1 (by rw [hst g (by omega), q]; rfl)))) (by omega)))), _, rfl, hkp.tr hkpY2⟩)
end MODEL
