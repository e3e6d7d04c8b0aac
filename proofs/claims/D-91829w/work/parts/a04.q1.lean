/-! by gen/mspec.py -/
set_option maxRecDepth 100000
section MODEL
variable {l : Launch} {s0 : State} {D : va_G} {K : Nat → ClassId} {wd : Nat → Nat} {o : Nat} {h : Hp} {I : Nat → Int32} {V : Nat → Nat → Int32} {J : Nat → Nat → Int64}
set_option maxHeartbeats 4000000 in
theorem mc_guestQ (hK0 : va_K D CL (TYS K) s0) {av : Nat → Nat} {ed mi : Nat} (hG : GX s0 wd av ed mi) {S : Ab} {w : Nat → Nat} {Ls : Nat → List Nat} {Jn : Nat → Nat} {Z : Nat → Nat → Int32} (hO : SOK S) (hO2 : SO2 S) (hW : CW K ed S h w Ls Jn Z) (g what : Int32) : Met l yX0_guest (ws_ yX0_guest cX0_guest 6 ((Option.some Jvm.ClassFile.FieldType.int))) (rmk 4 0 0) (va_Pc [.ref (w 0), .int g, .int what] (PB s0 D CL (h))) (QR s0 D CL (fun v h1 => v = some (.int (spGuest S g what)) ∧ h1 = h)) 0 0 (zA s0) := by
  refine hp_met (by decide) (Nat.le_of_ble_eq_true rfl) hK0 ?_
  intro p e s m below meth cd ls hx hb hr hlocks hml hown hnm hts hK hPB hl hS hH hA
  have hl : lv_has ls 6 [(0, .ref (w 0)), (1, .int g), (2, .int what)] := hl
  have hown : s.vm.findClass RX0 = some m.cls := hown
  have hn := hO.n
  have hmk := hO.mk
  have hrl := hO.rl
  have hrm := hO.rm
  have hsz := hO.sz
  refine lv_aload_n hx hb dX0_guest_0 rfl (lv_at hl 0 rfl) ?_
  refine lv_iload_n hx hb dX0_guest_1 rfl (lv_at hl 1 rfl) ?_
  refine hp_callV (As := [.int g]) (rest := []) hx hb hml hown hts hPB hK hH hS (mc_guestAt hK0 hG hO hO2 hW g) hW.x rfl rfl 1 (lw_V q875 q877 qs22 q102 q878) (by decide +kernel) ⟨rfl, rfl⟩ (by decide) rfl hl.1 rfl (Nat.le_of_ble_eq_true rfl) (by decide) dX0_guest_2 (fun v3 h5 H locs hp4 _ hH hS => ?_)
  rcases hp4.1 with ⟨k1, hk1, hgk1, rfl⟩ | ⟨cz2, rfl⟩
  · have hq := hp4.2; rw [hq] at hH
    subst hgk1
    have hik1 : inN (nI k1) (aN S) = true := by rw [inN_nI (by omega)]; exact decide_eq_true hk1
    have ek1 := nI_clamp (show k1 < 2 ^ 31 by omega)
    refine lv_astore_n (lv' := [(3, .ref ((Ls 0).getD k1 0)), (0, .ref (w 0)), (1, .int (nI k1)), (2, .int what)]) hx hb dX0_guest_5 rfl hl (by decide) rfl (fun ls hl => ?_)
    refine lv_aload_n hx hb dX0_guest_6 rfl (lv_at hl 0 rfl) ?_
    refine lv_ifnonnull (tgt := 12) hx hb dX0_guest_7 (by decide) ?_
    refine lv_iconst (v := nI 0) hx hb dX0_guest_12 (by decide) ?_
    refine lv_istore (lv' := [(4, .int (nI 0)), (3, .ref ((Ls 0).getD k1 0)), (0, .ref (w 0)), (1, .int (nI k1)), (2, .int what)]) hx hb dX0_guest_13 hl (by decide) rfl (fun ls hl => ?_)
    refine lv_iload_n hx hb dX0_guest_15 rfl (lv_at hl 4 rfl) ?_
    by_cases w6 : what = nI 0
    · refine lv_tableIn (tgt := 52) hx hb dX0_guest_16 (by rw [w6]; decide) (by rw [w6]; decide) (by rw [w6]; rfl) (by decide) ?_
      refine lv_aload_n hx hb dX0_guest_52 rfl (lv_at hl 1 rfl) ?_
      refine hp_getN (C := RX5) (T := TX5) (N := 6) (v := .int (zI (aCm S k1))) hx hb hts in_X5 hown hK hH (hW.g (show k1 < aN S by omega)) rfl 2 (by decide) (hG.nf hPB q542) (fun _ z => z) rfl dX0_guest_53 ?_
      refine lvB_eq (tgt := 63) hx hb dX0_guest_56 (by decide) (fun c7 => ?_) (fun c7 => ?_)
      · refine lv_iconst (v := nI 0) hx hb dX0_guest_63 (by decide) ?_
        exact hp_iret hx hb hr hlocks hH hS (by decide) (by decide) dX0_guest_64 (⟨congrArg some (congrArg Value.int ((zI_0 c7).trans (Eq.symm (by simp [spGuest, nIne, nIn8, hik1, ek1, w6])))), rfl⟩)
      · refine lv_iconst (v := nI 1) hx hb dX0_guest_59 (by decide) ?_
        refine lv_goto (tgt := 64) hx hb dX0_guest_60 (by decide) ?_
        exact hp_iret hx hb hr hlocks hH hS (by decide) (by decide) dX0_guest_64 (⟨congrArg some (congrArg Value.int ((zI_1 c7).trans (Eq.symm (by simp [spGuest, nIne, nIn8, hik1, ek1, w6])))), rfl⟩)
    by_cases w8 : what = nI 1
    · refine lv_tableIn (tgt := 65) hx hb dX0_guest_16 (by rw [w8]; decide) (by rw [w8]; decide) (by rw [w8]; rfl) (by decide) ?_
      refine lv_iconst (v := nI 0) hx hb dX0_guest_65 (by decide) ?_
      refine lv_istore (lv' := [(5, .int (nI 0)), (4, .int (nI 0)), (3, .ref ((Ls 0).getD k1 0)), (0, .ref (w 0)), (1, .int (nI k1)), (2, .int what)]) hx hb dX0_guest_66 hl (by decide) rfl (fun ls hl => ?_)
      refine w_loop1 (fun (m9 : Nat) => aMk S - m9) (fun (m9 : Nat) H locs ls => (m9 ≤ aMk S) ∧ HP D CL (zA s0) h H ∧ va_S (zA s0) s.heap H locs ∧ lv_has ls 6 [(0, .ref (w 0)), (1, .int (nI k1)), (4, .int (nI (mrkB S k1 m9))), (5, .int (nI m9))]) ?_ 0 ⟨Nat.zero_le _, hH, hS, lv_sub hl [3, 4, 1, 0] rfl⟩
      intro m9 ih68 H locs ls hP
      obtain ⟨hm9, hH, hS, hl⟩ := hP
      refine lv_iload hx hb dX0_guest_68 (lv_at hl 3 rfl) ?_
      refine lv_aload_n hx hb dX0_guest_70 rfl (lv_at hl 0 rfl) ?_
      refine hp_get (C := RX0) (T := TX0) (N := 14) (v := .ref (w 4)) hx hb hts in_X0 hown hK hH hW.x rfl 3 (by decide) (hts _ q215) (fun _ z => z) rfl dX0_guest_71 ?_
      refine hp_siz hx hb hml hown hts hPB hK0 hK hH hS hG (hW.li 1 (by decide)) hW.nm q807 (by first | decide | (simp only [rmk]; omega)) hl.1 rfl (Nat.le_of_ble_eq_true rfl) (by decide) dX0_guest_74 (fun H locs hH hS => ?_)
      refine lvN_ge (tgt := 113) hx hb (by first | omega | (refine Nat.lt_of_lt_of_le (Nat.mod_lt _ ?_) ?_ <;> omega)) (by first | omega | (refine Nat.lt_of_lt_of_le (Nat.mod_lt _ ?_) ?_ <;> omega)) dX0_guest_77 (by decide) (fun c9 => ?_) (fun c9 => ?_)
      · have em : m9 = aMk S := by omega
        subst em
        refine lv_iload hx hb dX0_guest_113 (lv_at hl 2 rfl) ?_
        exact hp_iret hx hb hr hlocks hH hS (by decide) (by decide) dX0_guest_115 (⟨congrArg some (congrArg Value.int (by simp [spGuest, nIne, nIn8, hik1, ek1, w8, c9, Nat.not_lt.mpr c9])), rfl⟩)
      · refine lv_iload hx hb dX0_guest_80 (lv_at hl 2 rfl) ?_
        refine lv_aload_n hx hb dX0_guest_82 rfl (lv_at hl 0 rfl) ?_
        refine hp_get (C := RX0) (T := TX0) (N := 14) (v := .ref (w 4)) hx hb hts in_X0 hown hK hH hW.x rfl 3 (by decide) (hts _ q215) (fun _ z => z) rfl dX0_guest_83 ?_
        refine lv_iload hx hb dX0_guest_86 (lv_at hl 3 rfl) ?_
        refine hp_lget hx hb hml hown hts hPB hK0 hK hH hS hG (hW.li 1 (by decide)) (k9 := m9) (by rw [hW.nm]; omega) q808 (by first | decide | (simp only [rmk]; omega)) hl.1 rfl (Nat.le_of_ble_eq_true rfl) (by decide) dX0_guest_88 (fun H locs hH hS => ?_)
        refine va_castE hx hb hown (hts _ q811) (hp_rec hK hH (hW.m (show m9 < aMk S by omega)) rfl) dX0_guest_91 ?_
        refine hp_getN (C := RX6) (T := TX6) (N := 3) (v := .int (nI (aMd S m9))) hx hb hts in_X6 hown hK hH (hW.m (show m9 < aMk S by omega)) rfl 2 (by decide) (hG.nf hPB q648) (fun _ z => z) rfl dX0_guest_94 ?_
        refine lv_iload_n hx hb dX0_guest_97 rfl (lv_at hl 1 rfl) ?_
        refine lv_ishr hx hb dX0_guest_98 ?_
        refine lv_top (y := nI ((aMd S m9) / 2 ^ k1)) (bi_shr (Nat.lt_of_lt_of_le (hO.md (by omega)) (by decide)) (by first | omega | (refine Nat.lt_of_lt_of_le (Nat.mod_lt _ ?_) ?_ <;> omega))) ?_
        refine lv_iconst (v := nI 1) hx hb dX0_guest_99 (by decide) ?_
        refine lv_iand hx hb dX0_guest_100 ?_
        refine lv_top (y := nI (if (aMd S m9).testBit k1 then 1 else 0)) ((bi_and _ _).trans (congrArg nI (bi_bit _ _))) ?_
        refine lv_iload hx hb dX0_guest_101 (lv_at hl 3 rfl) ?_
        refine lv_ishl hx hb dX0_guest_103 ?_
        refine lv_top (y := nI ((if (aMd S m9).testBit k1 then 1 else 0) * 2 ^ m9)) (bi_shl (by first | omega | (refine Nat.lt_of_lt_of_le (Nat.mod_lt _ ?_) ?_ <;> omega)) (b_shlt _ (by omega))) ?_
        refine lv_ior hx hb dX0_guest_104 ?_
        refine lv_top (y := nI ((mrkB S k1 m9) ||| ((if (aMd S m9).testBit k1 then 1 else 0) * 2 ^ m9))) (bi_or _ _) ?_
        refine lv_istore (lv' := [(4, .int (nI ((mrkB S k1 m9) ||| ((if (aMd S m9).testBit k1 then 1 else 0) * 2 ^ m9)))), (0, .ref (w 0)), (1, .int (nI k1)), (5, .int (nI m9))]) hx hb dX0_guest_105 hl (by decide) rfl (fun ls hl => ?_)
        refine lv_iinc (v := nI (m9 + 1)) (lv' := [(5, .int (nI (m9 + 1))), (4, .int (nI ((mrkB S k1 m9) ||| ((if (aMd S m9).testBit k1 then 1 else 0) * 2 ^ m9)))), (0, .ref (w 0)), (1, .int (nI k1))]) hx hb dX0_guest_107 hl (k := 3) rfl (nI_add m9 1) (by decide) rfl (fun ls hl => ?_)
        refine lv_goto (tgt := 68) hx hb dX0_guest_110 (by decide) ?_
        exact ih68 (m9 + 1) (by omega) H locs ls ⟨by omega, hH, hS, lv_sub hl [2, 3, 1, 0] rfl⟩
    by_cases w10 : what = nI 2
    · refine lv_tableIn (tgt := 116) hx hb dX0_guest_16 (by rw [w10]; decide) (by rw [w10]; decide) (by rw [w10]; rfl) (by decide) ?_
      refine lv_aload_n hx hb dX0_guest_116 rfl (lv_at hl 1 rfl) ?_
      refine hp_getN (C := RX5) (T := TX5) (N := 6) (v := .int (aIr S k1)) hx hb hts in_X5 hown hK hH (hW.g (show k1 < aN S by omega)) rfl 4 (by decide) (hG.nf hPB q548) (fun _ z => z) rfl dX0_guest_117 ?_
      exact hp_iret hx hb hr hlocks hH hS (by decide) (by decide) dX0_guest_120 (⟨congrArg some (congrArg Value.int (by simp [spGuest, nIne, nIn8, hik1, ek1, w10])), rfl⟩)
    by_cases w11 : what = nI 3
    · refine lv_tableIn (tgt := 121) hx hb dX0_guest_16 (by rw [w11]; decide) (by rw [w11]; decide) (by rw [w11]; rfl) (by decide) ?_
      refine lv_aload_n hx hb dX0_guest_121 rfl (lv_at hl 1 rfl) ?_
      refine hp_getN (C := RX5) (T := TX5) (N := 6) (v := .int (aIp S k1)) hx hb hts in_X5 hown hK hH (hW.g (show k1 < aN S by omega)) rfl 5 (by decide) (hG.nf hPB q551) (fun _ z => z) rfl dX0_guest_122 ?_
      exact hp_iret hx hb hr hlocks hH hS (by decide) (by decide) dX0_guest_125 (⟨congrArg some (congrArg Value.int (by simp [spGuest, nIne, nIn8, hik1, ek1, w11])), rfl⟩)
    by_cases w12 : what = nI 4
    · refine lv_tableIn (tgt := 126) hx hb dX0_guest_16 (by rw [w12]; decide) (by rw [w12]; decide) (by rw [w12]; rfl) (by decide) ?_
      refine lv_aload_n hx hb dX0_guest_126 rfl (lv_at hl 1 rfl) ?_
      refine hp_getN (C := RX5) (T := TX5) (N := 6) (v := .int (zI (aSi S k1))) hx hb hts in_X5 hown hK hH (hW.g (show k1 < aN S by omega)) rfl 3 (by decide) (hG.nf hPB q545) (fun _ z => z) rfl dX0_guest_127 ?_
      refine lvB_eq (tgt := 137) hx hb dX0_guest_130 (by decide) (fun c13 => ?_) (fun c13 => ?_)
      · refine lv_iconst (v := nI 0) hx hb dX0_guest_137 (by decide) ?_
        exact hp_iret hx hb hr hlocks hH hS (by decide) (by decide) dX0_guest_138 (⟨congrArg some (congrArg Value.int ((zI_0 c13).trans (Eq.symm (by simp [spGuest, nIne, nIn8, hik1, ek1, w12])))), rfl⟩)
      · refine lv_iconst (v := nI 1) hx hb dX0_guest_133 (by decide) ?_
        refine lv_goto (tgt := 138) hx hb dX0_guest_134 (by decide) ?_
        exact hp_iret hx hb hr hlocks hH hS (by decide) (by decide) dX0_guest_138 (⟨congrArg some (congrArg Value.int ((zI_1 c13).trans (Eq.symm (by simp [spGuest, nIne, nIn8, hik1, ek1, w12])))), rfl⟩)
    refine lv_tableOut (tgt := 139) hx hb dX0_guest_16 (by have g0 := lv_neT (a := 0) w6 rfl; have g1 := lv_neT (a := 1) w8 rfl; have g2 := lv_neT (a := 2) w10 rfl; have g3 := lv_neT (a := 3) w11 rfl; have g4 := lv_neT (a := 4) w12 rfl; omega) (by decide) ?_
    refine lv_iconst (v := (-1)) hx hb dX0_guest_139 (by decide) ?_
    exact hp_iret hx hb hr hlocks hH hS (by decide) (by decide) dX0_guest_140 (⟨congrArg some (congrArg Value.int (by simp [spGuest, nIne, nIn8, hik1, ek1, w6, w8, w10, w11, w12])), rfl⟩)
  · have hq := hp4.2; rw [hq] at hH
    refine lv_astore_nN (lv' := [(3, .null), (0, .ref (w 0)), (1, .int g), (2, .int what)]) hx hb dX0_guest_5 rfl hl (by decide) rfl (fun ls hl => ?_)
    refine lv_aload_nN hx hb dX0_guest_6 rfl (lv_at hl 0 rfl) ?_
    refine lv_ifnonnullN hx hb dX0_guest_7 ?_
    refine lv_iconst (v := (-1)) hx hb dX0_guest_10 (by decide) ?_
    exact hp_iret hx hb hr hlocks hH hS (by decide) (by decide) dX0_guest_11 (⟨congrArg some (congrArg Value.int (by simp [spGuest, nIne, nIn8, cz2])), rfl⟩)
set_option maxHeartbeats 4000000 in
theorem mc_ruleQ (hK0 : va_K D CL (TYS K) s0) {av : Nat → Nat} {ed mi : Nat} (hG : GX s0 wd av ed mi) {S : Ab} {w : Nat → Nat} {Ls : Nat → List Nat} {Jn : Nat → Nat} {Z : Nat → Nat → Int32} (hO : SOK S) (hO2 : SO2 S) (hW : CW K ed S h w Ls Jn Z) (r what : Int32) : Met l yX0_rule (ws_ yX0_rule cX0_rule 4 ((Option.some Jvm.ClassFile.FieldType.int))) (rmk 4 0 0) (va_Pc [.ref (w 0), .int r, .int what] (PB s0 D CL (h))) (QR s0 D CL (fun v h1 => v = some (.int (spRule S r what)) ∧ h1 = h)) 0 0 (zA s0) := by
  refine hp_met (by decide) (Nat.le_of_ble_eq_true rfl) hK0 ?_
  intro p e s m below meth cd ls hx hb hr hlocks hml hown hnm hts hK hPB hl hS hH hA
  have hl : lv_has ls 4 [(0, .ref (w 0)), (1, .int r), (2, .int what)] := hl
  have hown : s.vm.findClass RX0 = some m.cls := hown
  have hn := hO.n
  have hmk := hO.mk
  have hrl := hO.rl
  have hrm := hO.rm
  have hsz := hO.sz
  refine lv_aload_n hx hb dX0_rule_0 rfl (lv_at hl 0 rfl) ?_
  refine lv_iload_n hx hb dX0_rule_1 rfl (lv_at hl 1 rfl) ?_
  refine hp_callV (As := [.int r]) (rest := []) hx hb hml hown hts hPB hK hH hS (mc_ruleAt hK0 hG hO hO2 hW r) hW.x rfl rfl 1 (lw_V q883 q885 qs23 q102 q886) (by decide +kernel) ⟨rfl, rfl⟩ (by decide) rfl hl.1 rfl (Nat.le_of_ble_eq_true rfl) (by decide) dX0_rule_2 (fun v3 h5 H locs hp4 _ hH hS => ?_)
  rcases hp4.1 with ⟨k1, hk1, hgk1, rfl⟩ | ⟨cz2, rfl⟩
  · have hq := hp4.2; rw [hq] at hH
    subst hgk1
    have hik1 : inN (nI k1) (aRl S) = true := by rw [inN_nI (by omega)]; exact decide_eq_true hk1
    have ek1 := nI_clamp (show k1 < 2 ^ 31 by omega)
    have hn6 := cN_le S k1
    have hkhn6 := hO.kd (show k1 < aRl S by omega)
    have hwhn6 := hO.wt (show k1 < aRl S by omega)
    refine lv_astore_n (lv' := [(3, .ref ((Ls 2).getD k1 0)), (0, .ref (w 0)), (1, .int (nI k1)), (2, .int what)]) hx hb dX0_rule_5 rfl hl (by decide) rfl (fun ls hl => ?_)
    refine lv_aload_n hx hb dX0_rule_6 rfl (lv_at hl 0 rfl) ?_
    refine lv_ifnonnull (tgt := 12) hx hb dX0_rule_7 (by decide) ?_
    refine lv_iload_n hx hb dX0_rule_12 rfl (lv_at hl 3 rfl) ?_
    by_cases w7 : what = nI 0
    · refine lv_tableIn (tgt := 60) hx hb dX0_rule_13 (by rw [w7]; decide) (by rw [w7]; decide) (by rw [w7]; rfl) (by decide) ?_
      refine lv_aload_n hx hb dX0_rule_60 rfl (lv_at hl 0 rfl) ?_
      refine hp_kind hx hb hml hown hts hPB hK0 hK hH hS hG (hW.r (show k1 < aRl S by omega)) (hO.kd (show k1 < aRl S by omega)) q887 (by first | decide | (simp only [rmk]; omega)) hl.1 rfl (Nat.le_of_ble_eq_true rfl) (by decide) dX0_rule_61 (fun H locs hH hS => ?_)
      exact hp_iret hx hb hr hlocks hH hS (by decide) (by decide) dX0_rule_64 (⟨congrArg some (congrArg Value.int (by simp [spRule, nIne, nIn8, nIn9, hik1, ek1, w7])), rfl⟩)
    by_cases w8 : what = nI 1
    · refine lv_tableIn (tgt := 65) hx hb dX0_rule_13 (by rw [w8]; decide) (by rw [w8]; decide) (by rw [w8]; rfl) (by decide) ?_
      refine lv_aload_n hx hb dX0_rule_65 rfl (lv_at hl 0 rfl) ?_
      refine hp_gR0 hx hb hts hown hK hH (hW.r (show k1 < aRl S by omega)) (hO.kd (show k1 < aRl S by omega)) (hts _ q733) dX0_rule_66 ?_
      refine hp_code hx hb hml hown hts hPB hK0 hK hH hS hG (hW.sd hO (hO.on (show k1 < aRl S by omega))) q899 (by first | decide | (simp only [rmk]; omega)) hl.1 rfl (Nat.le_of_ble_eq_true rfl) (by decide) dX0_rule_69 (fun H locs hH hS => ?_)
      exact hp_iret hx hb hr hlocks hH hS (by decide) (by decide) dX0_rule_72 (⟨congrArg some (congrArg Value.int (by simp [spRule, nIne, nIn8, nIn9, hik1, ek1, w8])), rfl⟩)
    by_cases w9 : what = nI 2
    · refine lv_tableIn (tgt := 73) hx hb dX0_rule_13 (by rw [w9]; decide) (by rw [w9]; decide) (by rw [w9]; rfl) (by decide) ?_
      refine lv_aload_n hx hb dX0_rule_73 rfl (lv_at hl 0 rfl) ?_
      refine hp_gR1 hx hb hts hown hK hH (hW.r (show k1 < aRl S by omega)) (hO.kd (show k1 < aRl S by omega)) (hts _ q735) dX0_rule_74 ?_
      refine hp_code hx hb hml hown hts hPB hK0 hK hH hS hG (hW.sd hO (hO.ot (show k1 < aRl S by omega))) q899 (by first | decide | (simp only [rmk]; omega)) hl.1 rfl (Nat.le_of_ble_eq_true rfl) (by decide) dX0_rule_77 (fun H locs hH hS => ?_)
      exact hp_iret hx hb hr hlocks hH hS (by decide) (by decide) dX0_rule_80 (⟨congrArg some (congrArg Value.int (by simp [spRule, nIne, nIn8, nIn9, hik1, ek1, w9])), rfl⟩)
    by_cases w10 : what = nI 3
    · refine lv_tableIn (tgt := 81) hx hb dX0_rule_13 (by rw [w10]; decide) (by rw [w10]; decide) (by rw [w10]; rfl) (by decide) ?_
      refine lv_aload_n hx hb dX0_rule_81 rfl (lv_at hl 0 rfl) ?_
      refine hp_gR2 hx hb hts hown hK hH (hW.r (show k1 < aRl S by omega)) (hO.kd (show k1 < aRl S by omega)) (hts _ q738) dX0_rule_82 ?_
      exact hp_iret hx hb hr hlocks hH hS (by decide) (by decide) dX0_rule_85 (⟨congrArg some (congrArg Value.int (by simp [spRule, nIne, nIn8, nIn9, hik1, ek1, w10])), rfl⟩)
    by_cases w11 : what = nI 4
    · refine lv_tableIn (tgt := 86) hx hb dX0_rule_13 (by rw [w11]; decide) (by rw [w11]; decide) (by rw [w11]; rfl) (by decide) ?_
      refine lv_aload_n hx hb dX0_rule_86 rfl (lv_at hl 0 rfl) ?_
      refine hp_gR3 hx hb hts hown hK hH (hW.r (show k1 < aRl S by omega)) (hO.kd (show k1 < aRl S by omega)) (hts _ q740) dX0_rule_87 ?_
      exact hp_iret hx hb hr hlocks hH hS (by decide) (by decide) dX0_rule_90 (⟨congrArg some (congrArg Value.int (by simp [spRule, nIne, nIn8, nIn9, hik1, ek1, w11])), rfl⟩)
    by_cases w12 : what = nI 5
    · refine lv_tableIn (tgt := 91) hx hb dX0_rule_13 (by rw [w12]; decide) (by rw [w12]; decide) (by rw [w12]; rfl) (by decide) ?_
      refine lv_aload_n hx hb dX0_rule_91 rfl (lv_at hl 0 rfl) ?_
      refine hp_gR4 hx hb hts hown hK hH (hW.r (show k1 < aRl S by omega)) (hO.kd (show k1 < aRl S by omega)) (hts _ q742) dX0_rule_92 ?_
      rcases unV_c Ls (hO.un (show k1 < aRl S by omega)) hmk with ⟨u1, u2⟩ | ⟨um, hum, u1, u2⟩
      · refine lv_topv (y := .null) u2 ?_
        refine lv_ifnonnullN hx hb dX0_rule_95 ?_
        refine lv_iconst (v := (-1)) hx hb dX0_rule_98 (by decide) ?_
        refine lv_goto (tgt := 109) hx hb dX0_rule_99 (by decide) ?_
        exact hp_iret hx hb hr hlocks hH hS (by decide) (by decide) dX0_rule_109 (⟨congrArg some (congrArg Value.int (by simp [spRule, nIne, nIn8, nIn9, hik1, ek1, w12, u1])), rfl⟩)
      · refine lv_topv (y := .ref ((Ls 1).getD um 0)) u2 ?_
        refine lv_ifnonnull (tgt := 102) hx hb dX0_rule_95 (by decide) ?_
        refine lv_aload_n hx hb dX0_rule_102 rfl (lv_at hl 0 rfl) ?_
        refine hp_gR4 hx hb hts hown hK hH (hW.r (show k1 < aRl S by omega)) (hO.kd (show k1 < aRl S by omega)) (hts _ q742) dX0_rule_103 ?_
        refine lv_topv (y := .ref ((Ls 1).getD um 0)) u2 ?_
        refine hp_get (C := RX6) (T := TX6) (N := 3) (v := .int (nI um)) hx hb hts in_X6 hown hK hH (hW.m (show um < aMk S by omega)) rfl 1 (by decide) (hts _ q560) (u_same (hts _ q557)) rfl dX0_rule_106 ?_
        exact hp_iret hx hb hr hlocks hH hS (by decide) (by decide) dX0_rule_109 (⟨congrArg some (congrArg Value.int (by simp [spRule, nIne, nIn8, nIn9, hik1, ek1, w12, u1])), rfl⟩)
    by_cases w13 : what = nI 6
    · refine lv_tableIn (tgt := 110) hx hb dX0_rule_13 (by rw [w13]; decide) (by rw [w13]; decide) (by rw [w13]; rfl) (by decide) ?_
      refine lv_aload_n hx hb dX0_rule_110 rfl (lv_at hl 0 rfl) ?_
      refine hp_gR6N hx hb hts hown hK hH (hW.r (show k1 < aRl S by omega)) (hO.kd (show k1 < aRl S by omega)) (hG.nf hPB q746) dX0_rule_111 ?_
      refine hp_siz hx hb hml hown hts hPB hK0 hK hH hS hG (hW.cl (show k1 < aRl S by omega)) (hW.nc (show k1 < aRl S by omega)) q807 (by first | decide | (simp only [rmk]; omega)) hl.1 rfl (Nat.le_of_ble_eq_true rfl) (by decide) dX0_rule_114 (fun H locs hH hS => ?_)
      exact hp_iret hx hb hr hlocks hH hS (by decide) (by decide) dX0_rule_117 (⟨congrArg some (congrArg Value.int (by simp [spRule, nIne, nIn8, nIn9, cN_all hO hO2 (show k1 < aRl S by omega), hik1, ek1, w13])), rfl⟩)
    by_cases w14 : what = nI 7
    · refine lv_tableIn (tgt := 118) hx hb dX0_rule_13 (by rw [w14]; decide) (by rw [w14]; decide) (by rw [w14]; rfl) (by decide) ?_
      refine lv_aload_n hx hb dX0_rule_118 rfl (lv_at hl 0 rfl) ?_
      refine hp_gR5 hx hb hts hown hK hH (hW.r (show k1 < aRl S by omega)) (hO.kd (show k1 < aRl S by omega)) (hts _ q744) dX0_rule_119 ?_
      refine lvB_eq (tgt := 129) hx hb dX0_rule_122 (by decide) (fun c15 => ?_) (fun c15 => ?_)
      · refine lv_iconst (v := nI 0) hx hb dX0_rule_129 (by decide) ?_
        exact hp_iret hx hb hr hlocks hH hS (by decide) (by decide) dX0_rule_130 (⟨congrArg some (congrArg Value.int ((zI_0 c15).trans (Eq.symm (by simp [spRule, nIne, nIn8, nIn9, hik1, ek1, w14])))), rfl⟩)
      · refine lv_iconst (v := nI 1) hx hb dX0_rule_125 (by decide) ?_
        refine lv_goto (tgt := 130) hx hb dX0_rule_126 (by decide) ?_
        exact hp_iret hx hb hr hlocks hH hS (by decide) (by decide) dX0_rule_130 (⟨congrArg some (congrArg Value.int ((zI_1 c15).trans (Eq.symm (by simp [spRule, nIne, nIn8, nIn9, hik1, ek1, w14])))), rfl⟩)
    refine lv_tableOut (tgt := 131) hx hb dX0_rule_13 (by have g0 := lv_neT (a := 0) w7 rfl; have g1 := lv_neT (a := 1) w8 rfl; have g2 := lv_neT (a := 2) w9 rfl; have g3 := lv_neT (a := 3) w10 rfl; have g4 := lv_neT (a := 4) w11 rfl; have g5 := lv_neT (a := 5) w12 rfl; have g6 := lv_neT (a := 6) w13 rfl; have g7 := lv_neT (a := 7) w14 rfl; omega) (by decide) ?_
    refine lv_iconst (v := (-1)) hx hb dX0_rule_131 (by decide) ?_
    exact hp_iret hx hb hr hlocks hH hS (by decide) (by decide) dX0_rule_132 (⟨congrArg some (congrArg Value.int (by simp [spRule, nIne, nIn8, nIn9, hik1, ek1, w7, w8, w9, w10, w11, w12, w13, w14])), rfl⟩)
  · have hq := hp4.2; rw [hq] at hH
    refine lv_astore_nN (lv' := [(3, .null), (0, .ref (w 0)), (1, .int r), (2, .int what)]) hx hb dX0_rule_5 rfl hl (by decide) rfl (fun ls hl => ?_)
    refine lv_aload_nN hx hb dX0_rule_6 rfl (lv_at hl 0 rfl) ?_
    refine lv_ifnonnullN hx hb dX0_rule_7 ?_
    refine lv_iconst (v := (-1)) hx hb dX0_rule_10 (by decide) ?_
    exact hp_iret hx hb hr hlocks hH hS (by decide) (by decide) dX0_rule_11 (⟨congrArg some (congrArg Value.int (by simp [spRule, nIne, nIn8, nIn9, cz2])), rfl⟩)
end MODEL
