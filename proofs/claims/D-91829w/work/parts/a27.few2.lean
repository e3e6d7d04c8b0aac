/-! by gen/mspec.py -/
set_option maxRecDepth 100000
section MODEL
variable {l : Launch} {s0 : State} {D : va_G} {K : Nat → ClassId} {wd : Nat → Nat} {o : Nat} {h : Hp} {I : Nat → Int32} {V : Nat → Nat → Int32} {J : Nat → Nat → Int64}
set_option maxHeartbeats 4000000 in
theorem mc_few (hK0 : va_K D CL (TYS K) s0) {av : Nat → Nat} {ed mi : Nat} (hG : GX s0 wd av ed mi) {S : Ab} {w : Nat → Nat} {Ls : Nat → List Nat} {Jn : Nat → Nat} {Z : Nat → Nat → Int32} (hO : SOK S) (hO2 : SO2 S) (hW : CW K ed S h w Ls Jn Z) (room g : Int32) : Met l yX0_few (ws_ yX0_few cX0_few 7 ((Option.some Jvm.ClassFile.FieldType.int))) (rmk 16 4 1052) (va_Pc [.ref (w 0), .int room, .int g] (PB s0 D CL (h))) (QR s0 D CL (fun v h1 => v = some (.int (spFew S room g)) ∧ ∃ Z1, h1 = zset h K w S Z1)) 4 1052 (zA s0) := by
  refine hp_met (by decide) (Nat.le_of_ble_eq_true rfl) hK0 ?_
  intro p e s m below meth cd ls hx hb hr hlocks hml hown hnm hts hK hPB hl hS hH hA
  have hl : lv_has ls 7 [(0, .ref (w 0)), (1, .int room), (2, .int g)] := hl
  have hown : s.vm.findClass RX0 = some m.cls := hown
  have hn := hO.n
  have hmk := hO.mk
  have hrl := hO.rl
  have hrm := hO.rm
  have hsz := hO.sz
  have hW0 := hW
  have hW := hW0.z Z
  have hH : HP D CL (zA s0) (zset h K w S Z) s.heap := by rw [zset_self hW0]; exact hH
  have hWo := hW0
  have hp10 := pow2_le hn
  refine lv_aload_n hx hb dX0_few_0 rfl (lv_at hl 0 rfl) ?_
  refine lv_iload_n hx hb dX0_few_1 rfl (lv_at hl 2 rfl) ?_
  refine hp_callV (As := [.int g]) (rest := []) hx hb hml hown hts hPB hK hH hS (mc_guestAt hK0 hG hO hO2 hW g) hW.x rfl rfl 1 (lw_V q875 q877 qs22 q102 q878) (by decide +kernel) ⟨rfl, rfl⟩ (by decide) rfl hl.1 rfl (Nat.le_of_ble_eq_true rfl) (by decide) dX0_few_2 (fun v3 h5 H locs hp4 _ hH hS => ?_)
  rcases hp4.1 with ⟨k1, hk1, hgk1, rfl⟩ | ⟨cz2, rfl⟩
  · have hq := hp4.2; rw [hq] at hH
    subst hgk1
    have hik1 : inN (nI k1) (aN S) = true := by rw [inN_nI (by omega)]; exact decide_eq_true hk1
    have ek1 := nI_clamp (show k1 < 2 ^ 31 by omega)
    refine lv_astore_n (lv' := [(3, .ref ((Ls 0).getD k1 0)), (0, .ref (w 0)), (1, .int room), (2, .int (nI k1))]) hx hb dX0_few_5 rfl hl (by decide) rfl (fun ls hl => ?_)
    refine lv_aload_n hx hb dX0_few_6 rfl (lv_at hl 1 rfl) ?_
    refine lv_iload_n hx hb dX0_few_7 rfl (lv_at hl 2 rfl) ?_
    refine hp_callV (As := [.int room]) (rest := []) hx hb hml hown hts hPB hK hH hS (mc_roomAt hK0 hG hO hO2 hW room) hW.x rfl rfl 1 (lw_V q924 q926 qs24 q102 q927) (by decide +kernel) ⟨rfl, rfl⟩ (by decide) rfl hl.1 rfl (Nat.le_of_ble_eq_true rfl) (by decide) dX0_few_8 (fun v8 h10 H locs hp9 _ hH hS => ?_)
    rcases hp9.1 with ⟨k6, hk6, hgk6, rfl⟩ | ⟨cz7, rfl⟩
    · have hq := hp9.2; rw [hq] at hH
      subst hgk6
      have hik6 : inN (nI k6) (aRm S) = true := by rw [inN_nI (by omega)]; exact decide_eq_true hk6
      have ek6 := nI_clamp (show k6 < 2 ^ 31 by omega)
      have hp11 := hO.rp (show k6 < aRm S by omega)
      refine lv_ifnull hx hb dX0_few_11 ?_
      refine lv_iload_n hx hb dX0_few_14 rfl (lv_at hl 3 rfl) ?_
      refine lv_iconst (v := (-1)) hx hb dX0_few_15 (by decide) ?_
      refine lv_icmp_eq (tgt := 32) hx hb dX0_few_16 (by decide) (fun cgm => ?_) (fun cgm => ?_)
      · exact absurd cgm (nI_m1 (by omega))
      · refine lv_aload_n hx hb dX0_few_19 rfl (lv_at hl 0 rfl) ?_
        refine lv_ifnull hx hb dX0_few_20 ?_
        refine lv_aload_n hx hb dX0_few_23 rfl (lv_at hl 0 rfl) ?_
        refine hp_getN (C := RX5) (T := TX5) (N := 6) (v := .int (zI (aCm S k1))) hx hb hts in_X5 hown hK hH (hW.g (show k1 < aN S by omega)) rfl 2 (by decide) (hG.nf hPB q542) (fun _ z => z) rfl dX0_few_24 ?_
        refine lvB_ne (tgt := 32) hx hb dX0_few_27 (by decide) (fun ccm => ?_) (fun ccm => ?_)
        · refine lv_aload_n hx hb dX0_few_32 rfl (lv_at hl 1 rfl) ?_
          refine lv_iload_n hx hb dX0_few_33 rfl (lv_at hl 2 rfl) ?_
          refine lv_iconst (v := nI 0) hx hb dX0_few_34 (by decide) ?_
          refine hp_callV (As := [.int (nI k6), .int (nI 0)]) (rest := []) hx hb hml hown hts hPB hK hH hS (mc_findAbove hK0 hG hO hO2 hW0 (Z := Z) (nI k6) (wo := 0) (by omega)) hW.x rfl rfl 2 (lw_V q1099 q1101 qs31 q102 q1102) (by decide +kernel) ⟨rfl, rfl⟩ (by decide) rfl hl.1 rfl (Nat.le_of_ble_eq_true rfl) (by decide) dX0_few_35 (fun v13 h15 H locs hp14 _ hH hS => ?_)
          obtain ⟨rfl, Y12, hq, hkpY12, hab⟩ := hp14
          rw [hq] at hH
          have hW := hW0.z Y12
          refine lv_aload_n hx hb dX0_few_38 rfl (lv_at hl 1 rfl) ?_
          refine hp_callV (As := []) (rest := []) hx hb hml hown hts hPB hK hH hS (mc_coming hK0 hG hO hO2 hW) hW.x rfl rfl 0 (lw_V q1141 q1143 qs37 q102 q1144) (by decide +kernel) ⟨rfl, rfl⟩ (by decide) rfl hl.1 rfl (Nat.le_of_ble_eq_true rfl) (by decide) dX0_few_39 (fun v17 h19 H locs hp18 _ hH hS => ?_)
          obtain ⟨lc16, jlc16, tlc16, rfl, hAlc16, hxlc16, hnlc16, htlc16⟩ := hp18
          have hW := hW.X hxlc16
          have hnc := nC_le S
          refine lv_astore (lv' := [(4, .ref lc16), (3, .ref ((Ls 0).getD k1 0)), (0, .ref (w 0)), (1, .int (nI k6)), (2, .int (nI k1))]) hx hb dX0_few_42 hl (by decide) rfl (fun ls hl => ?_)
          refine lv_sipush (v := nI 1024) hx hb dX0_few_44 (by decide) ?_
          have hWX := hW
          obtain ⟨ma, hma, nma⟩ := hH.fr
          refine hp_newa (atype := .boolean) (ty := .boolean) (n := nI 1024) (N' := 1024) (a0 := (1024, .inl (fun _ => 0))) hx hb (hts _ q1189) rfl hK hH hS hA 2 rfl (fun z => z) (fun _ => rfl) (nI_pos (by first | omega | (refine Nat.lt_of_lt_of_le (Nat.mod_lt _ ?_) ?_ <;> omega))) (nI_clamp (by first | omega | (refine Nat.lt_of_lt_of_le (Nat.mod_lt _ ?_) ?_ <;> omega))) (by show _ * 1 ≤ _; omega) (by decide) (by decide) 44 dX0_few_47 (fun H _ hH hS => ?_)
          rw [← hma] at hH ⊢
          have hH : HP D CL (zA s0) (hset h19 ma (.inl (K 2, 1024, .inl (fun _ => 0))) 44) H := hH
          have hW := hW.X (exH.new (e1 := .inl (K 2, 1024, .inl (fun _ => 0))) (u1 := 44) nma)
          have e20 : (hset h19 ma (.inl (K 2, 1024, .inl (fun _ => 0))) 44) ma = some (.inl (K 2, 1024, .inl (fun _ => 0)), 44) := hset_self _ _ _ _
          refine lv_astore (lv' := [(5, .ref ma), (4, .ref lc16), (3, .ref ((Ls 0).getD k1 0)), (0, .ref (w 0)), (1, .int (nI k6)), (2, .int (nI k1))]) hx hb dX0_few_49 hl (by decide) rfl (fun ls hl => ?_)
          refine lv_iconst (v := nI 0) hx hb dX0_few_51 (by decide) ?_
          refine lv_istore (lv' := [(6, .int (nI 0)), (5, .ref ma), (4, .ref lc16), (3, .ref ((Ls 0).getD k1 0)), (0, .ref (w 0)), (1, .int (nI k6)), (2, .int (nI k1))]) hx hb dX0_few_52 hl (by decide) rfl (fun ls hl => ?_)
          refine w_loop3 (fun (x9 : Nat) (fm : Nat → Int32) (hh : Hp) => 2 ^ aN S - x9) (fun (x9 : Nat) (fm : Nat → Int32) (hh : Hp) H locs ls => (x9 ≤ 2 ^ aN S) ∧ (∀ u, u < x9 → fm u = zI (qtB (abv S (nI k6) 0) (evn S (nI k6)) (aN S) u)) ∧ (hh ma = some (.inl (K 2, 1024, .inl fm), 44)) ∧ (exH h19 hh) ∧ HP D CL (zA s0) hh H ∧ va_S (zA s0) s.heap H locs ∧ lv_has ls 7 [(0, .ref (w 0)), (1, .int (nI k6)), (2, .int (nI k1)), (4, .ref lc16), (5, .ref ma), (6, .int (nI x9))]) ?_ 0 (fun _ => 0) (hset h19 ma (.inl (K 2, 1024, .inl (fun _ => 0))) 44) ⟨Nat.zero_le _, fun u hu => absurd hu (Nat.not_lt_zero _), e20, exH.new nma, hH, hS, lv_sub hl [4, 5, 6, 2, 1, 0] rfl⟩
          intro x9 fm hh ih54 H locs ls hP
          obtain ⟨hx9, hfm, hma9, hxB, hH, hS, hl⟩ := hP
          have hW := hWX.X hxB
          have hAl := hAlc16.X hxB
          refine lv_iload hx hb dX0_few_54 (lv_at hl 5 rfl) ?_
          refine lv_iconst (v := nI 1) hx hb dX0_few_56 (by decide) ?_
          refine lv_aload_n hx hb dX0_few_57 rfl (lv_at hl 0 rfl) ?_
          refine hp_get (C := RX0) (T := TX0) (N := 14) (v := .ref (w 3)) hx hb hts in_X0 hown hK hH hW.x rfl 2 (by decide) (hts _ q214) (fun _ z => z) rfl dX0_few_58 ?_
          refine hp_siz hx hb hml hown hts hPB hK0 hK hH hS hG (hW.li 0 (by decide)) hW.ng q807 (by first | decide | (simp only [rmk]; omega)) hl.1 rfl (Nat.le_of_ble_eq_true rfl) (by decide) dX0_few_61 (fun H locs hH hS => ?_)
          refine lv_ishl hx hb dX0_few_64 ?_
          refine lv_top (y := nI (2 ^ (aN S))) (bi_shl1 (by first | omega | (refine Nat.lt_of_lt_of_le (Nat.mod_lt _ ?_) ?_ <;> omega))) ?_
          refine lvN_ge (tgt := 86) hx hb (by first | omega | (refine Nat.lt_of_lt_of_le (Nat.mod_lt _ ?_) ?_ <;> omega)) (by first | omega | (refine Nat.lt_of_lt_of_le (Nat.mod_lt _ ?_) ?_ <;> omega)) dX0_few_65 (by decide) (fun c21 => ?_) (fun c21 => ?_)
          · have hWb := hW
            have hH : HP D CL (zA s0) (zset hh K w S Y12) H := by rw [zset_self hWb]; exact hH
            have hW := hWb.z Y12
            have hAb := hAl
            have hmab := hma9
            have hQt : ∀ x, x < 2 ^ aN S → fm x = zI (qtB (abv S (nI k6) 0) (evn S (nI k6)) (aN S) x) := fun x hx => hfm x (by omega)
            refine lv_iconst (v := nI 0) hx hb dX0_few_86 (by decide) ?_
            refine lv_istore (lv' := [(6, .int (nI 0)), (0, .ref (w 0)), (1, .int (nI k6)), (2, .int (nI k1)), (4, .ref lc16), (5, .ref ma)]) hx hb dX0_few_87 hl (by decide) rfl (fun ls hl => ?_)
            refine w_loop2 (fun (k : Nat) (Z1 : Nat → Nat → Int32) => 10 - k) (fun (k : Nat) (Z1 : Nat → Nat → Int32) H locs ls => (k ≤ 10) ∧ (∀ u, u < k → Z1 3 u = nI 0) ∧ HP D CL (zA s0) (zset hh K w S Z1) H ∧ va_S (zA s0) s.heap H locs ∧ lv_has ls 7 [(0, .ref (w 0)), (1, .int (nI k6)), (2, .int (nI k1)), (4, .ref lc16), (5, .ref ma), (6, .int (nI k))]) ?_ 0 Y12 ⟨Nat.zero_le _, fun u hu => absurd hu (Nat.not_lt_zero _), hH, hS, lv_sub hl [1, 2, 3, 4, 5, 0] rfl⟩
            intro k Z1 ih89 H locs ls hP
            obtain ⟨hk, hz, hH, hS, hl⟩ := hP
            have hW := hWb.z Z1
            refine lv_iload hx hb dX0_few_89 (lv_at hl 5 rfl) ?_
            refine lv_bipush (v := nI 10) hx hb dX0_few_91 (by decide) ?_
            refine lvN_ge (tgt := 110) hx hb (by first | omega | (refine Nat.lt_of_lt_of_le (Nat.mod_lt _ ?_) ?_ <;> omega)) (by first | omega | (refine Nat.lt_of_lt_of_le (Nat.mod_lt _ ?_) ?_ <;> omega)) dX0_few_93 (by decide) (fun c22 => ?_) (fun c22 => ?_)
            · refine lv_aload_n hx hb dX0_few_110 rfl (lv_at hl 0 rfl) ?_
              refine lv_ldcw (v := 1000000) hx hb hown (hts _ q1171) dX0_few_111 ?_
              refine lv_top (y := nI 1000000) (by decide) ?_
              refine z_fw (x := nI 1000000) hx hb hts hown hK hWb hH hS (hts _ q225) dX0_few_114 (fun H locs hH hS => ?_)
              have hW := hWb.z (vset Z1 6 0 (nI 1000000))
              refine lv_aload_n hx hb dX0_few_117 rfl (lv_at hl 0 rfl) ?_
              refine lv_aload hx hb dX0_few_118 (lv_at hl 3 rfl) ?_
              refine lv_iconst (v := nI 0) hx hb dX0_few_120 (by decide) ?_
              refine lv_iconst (v := nI 0) hx hb dX0_few_121 (by decide) ?_
              refine lv_aload hx hb dX0_few_122 (lv_at hl 4 rfl) ?_
              refine hp_callV (As := [.ref lc16, .int (nI 0), .int (nI 0), .ref ma]) (rest := []) hx hb hml hown hts hPB hK hH hS (mc_heaps hK0 hG hO hO2 hWb (Qt := qtB (abv S (nI k6) 0) (evn S (nI k6)) (aN S)) hAb htlc16 hmab hQt (nC S) (Z := vset Z1 6 0 (nI 1000000)) (k := 0) (hs := []) (pre := []) (R := (1000000, [])) ⟨fun u hu => by rw [vset_off _ _ (by decide)]; exact hz u (by omega), fun i hi => absurd hi (Nat.not_lt_zero _), vset_self _ _ _ _, Or.inl rfl⟩ (Nat.zero_le _) (fun u => by show (0 : Nat) < _; exact Nat.two_pow_pos _) (Nat.zero_le _) rfl (fun u i _ _ => by show (0 : Nat).testBit _ = false; exact Nat.zero_testBit _) (Nat.le_refl _) (Nat.sub_zero _).symm) hW.x rfl rfl 4 (lw_V q1184 q1186 qs44 q102 q1187) (by decide +kernel) ⟨rfl, rfl⟩ (by simp only [rmk]; omega) rfl hl.1 rfl (Nat.le_of_ble_eq_true rfl) (by decide) dX0_few_124 (fun v24 h26 H locs hp25 _ hH hS => ?_)
              obtain ⟨rfl, Y23, hq, hkpF, hfw⟩ := hp25
              rw [hq] at hH
              obtain ⟨r9, a9, hprt, hfold, hf10, hra⟩ := few_end (Qt := qtB (abv S (nI k6) 0) (evn S (nI k6)) (aN S)) (mem := mem9 S) (b := []) (fun m _ => qt_one (abv_rr _ _ _)) (Nat.le_trans (nC_le S) hn)
              rw [List.drop_zero, hfold] at hfw
              have hb9 := hfw.2.2.2.resolve_left (by show ¬ fewN _ _ = _; omega)
              have hal9 := lv_lt10 _ _ _ hra
              have hW := hWb.z Y23
              refine lv_iload_n hx hb dX0_few_127 rfl (lv_at hl 2 rfl) ?_
              refine lv_iconst (v := (-1)) hx hb dX0_few_128 (by decide) ?_
              refine lv_icmp_ne (tgt := 137) hx hb dX0_few_129 (by decide) (fun cg2 => ?_) (fun cg2 => ?_)
              · have hix := idx_at (L := mem9 S) (comP_mem.mpr ⟨show k1 < aN S by omega, ccm⟩)
                refine lv_iconst (v := nI 0) hx hb dX0_few_137 (by decide) ?_
                refine lv_istore (lv' := [(6, .int (nI 0)), (0, .ref (w 0)), (1, .int (nI k6)), (2, .int (nI k1)), (4, .ref lc16), (5, .ref ma)]) hx hb dX0_few_138 hl (by decide) rfl (fun ls hl => ?_)
                refine w_loop1 (fun (k : Nat) => nC S - k) (fun (k : Nat) H locs ls => (k ≤ nC S) ∧ (∀ u, u < k → a9.getD u 0 ≠ a9.getD ((mem9 S).idxOf k1) 0) ∧ HP D CL (zA s0) (zset hh K w S Y23) H ∧ va_S (zA s0) s.heap H locs ∧ lv_has ls 7 [(0, .ref (w 0)), (1, .int (nI k6)), (2, .int (nI k1)), (4, .ref lc16), (6, .int (nI k))]) ?_ 0 ⟨Nat.zero_le _, fun u hu => absurd hu (Nat.not_lt_zero _), hH, hS, lv_sub hl [1, 2, 3, 4, 0] rfl⟩
                intro k ih140 H locs ls hP
                obtain ⟨hk, hno, hH, hS, hl⟩ := hP
                refine lv_iload hx hb dX0_few_140 (lv_at hl 4 rfl) ?_
                refine lv_aload hx hb dX0_few_142 (lv_at hl 3 rfl) ?_
                refine hp_siz hx hb hml hown hts hPB hK0 hK hH hS hG (AL.keep hAb (fun b e q => zset_f hWb q (by omega) (by omega)) (zset_ob hWb _)) comA_n q807 (by first | decide | (simp only [rmk]; omega)) hl.1 rfl (Nat.le_of_ble_eq_true rfl) (by decide) dX0_few_144 (fun H locs hH hS => ?_)
                refine lvN_ge (tgt := 197) hx hb (by first | omega | (refine Nat.lt_of_lt_of_le (Nat.mod_lt _ ?_) ?_ <;> omega)) (by first | omega | (refine Nat.lt_of_lt_of_le (Nat.mod_lt _ ?_) ?_ <;> omega)) dX0_few_147 (by decide) (fun c27 => ?_) (fun c27 => ?_)
                · have hH := hH.X (zset_up hWo (ex_tr hxlc16 hxB) Y23)
                  refine lv_iconst (v := (-1)) hx hb dX0_few_197 (by decide) ?_
                  exact hp_iret hx hb hr hlocks hH hS (by decide) (by decide) dX0_few_198 (absurd rfl (hno _ (by rw [show k = nC S by omega]; exact hix.1)))
                · have hak : a9.getD k 0 < 10 := hal9 k (show k < (mem9 S).length from (show k < nC S by omega))
                  have hag : a9.getD ((mem9 S).idxOf k1) 0 < 10 := hal9 _ hix.1
                  refine lv_aload_n hx hb dX0_few_150 rfl (lv_at hl 0 rfl) ?_
                  refine hp_get (C := RX0) (T := TX0) (N := 14) (v := .ref (w 12)) hx hb hts in_X0 hown hK hH hW.x rfl 12 (by decide) (hts _ q224) (fun _ z => z) rfl dX0_few_151 ?_
                  refine lv_aload hx hb dX0_few_154 (lv_at hl 3 rfl) ?_
                  refine lv_iload hx hb dX0_few_156 (lv_at hl 4 rfl) ?_
                  refine hp_lget hx hb hml hown hts hPB hK0 hK hH hS hG (AL.keep hAb (fun b e q => zset_f hWb q (by omega) (by omega)) (zset_ob hWb _)) (k9 := k) (by rw [comA_n]; omega) q808 (by first | decide | (simp only [rmk]; omega)) hl.1 rfl (Nat.le_of_ble_eq_true rfl) (by decide) dX0_few_158 (fun H locs hH hS => ?_)
                  have hm28 := cm_lt (S := S) (i := k) (by omega)
                  refine lv_topv (y := .ref ((Ls 0).getD (cm S k) 0)) (cm_at (by omega)) ?_
                  refine va_castE hx hb hown (hts _ q809) (hp_rec hK hH (hW.g (show cm S k < aN S by omega)) rfl) dX0_few_161 ?_
                  refine hp_get (C := RX5) (T := TX5) (N := 6) (v := .int (nI (cm S k))) hx hb hts in_X5 hown hK hH (hW.g (show cm S k < aN S by omega)) rfl 1 (by decide) (hts _ q562) (u_same (hts _ q555)) rfl dX0_few_164 ?_
                  refine hp_ild (n := 10) (j := cm S k) (v := nI (a9.getD k 0)) hx hb hK hH 0 (hW.ar 5 (by decide)) rfl (by first | omega | (refine Nat.lt_of_lt_of_le (Nat.mod_lt _ ?_) ?_ <;> omega)) (by first | omega | (refine Nat.lt_of_lt_of_le (Nat.mod_lt _ ?_) ?_ <;> omega)) (hb9 k (by omega)) dX0_few_167 ?_
                  refine lv_aload_n hx hb dX0_few_168 rfl (lv_at hl 0 rfl) ?_
                  refine hp_get (C := RX0) (T := TX0) (N := 14) (v := .ref (w 12)) hx hb hts in_X0 hown hK hH hW.x rfl 12 (by decide) (hts _ q224) (fun _ z => z) rfl dX0_few_169 ?_
                  refine lv_iload_n hx hb dX0_few_172 rfl (lv_at hl 2 rfl) ?_
                  refine hp_ild (n := 10) (j := k1) (v := nI (a9.getD ((mem9 S).idxOf k1) 0)) hx hb hK hH 0 (hW.ar 5 (by decide)) rfl (by first | omega | (refine Nat.lt_of_lt_of_le (Nat.mod_lt _ ?_) ?_ <;> omega)) (by first | omega | (refine Nat.lt_of_lt_of_le (Nat.mod_lt _ ?_) ?_ <;> omega)) ((congrArg (Y23 5) hix.2.symm).trans (hb9 _ hix.1)) dX0_few_173 ?_
                  refine lvN_ne (tgt := 191) hx hb (by first | omega | (refine Nat.lt_of_lt_of_le (Nat.mod_lt _ ?_) ?_ <;> omega)) (by first | omega | (refine Nat.lt_of_lt_of_le (Nat.mod_lt _ ?_) ?_ <;> omega)) dX0_few_174 (by decide) (fun ck => ?_) (fun ck => ?_)
                  · refine lv_iinc (v := nI (k + 1)) (lv' := [(6, .int (nI (k + 1))), (0, .ref (w 0)), (1, .int (nI k6)), (2, .int (nI k1)), (4, .ref lc16)]) hx hb dX0_few_191 hl (k := 4) rfl (nI_add k 1) (by decide) rfl (fun ls hl => ?_)
                    refine lv_goto (tgt := 140) hx hb dX0_few_194 (by decide) ?_
                    exact ih140 (k + 1) (by omega) H locs ls ⟨by omega, no_up hno ck, hH, hS, lv_sub hl [1, 2, 3, 4, 0] rfl⟩
                  · refine lv_aload hx hb dX0_few_177 (lv_at hl 3 rfl) ?_
                    refine lv_iload hx hb dX0_few_179 (lv_at hl 4 rfl) ?_
                    refine hp_lget hx hb hml hown hts hPB hK0 hK hH hS hG (AL.keep hAb (fun b e q => zset_f hWb q (by omega) (by omega)) (zset_ob hWb _)) (k9 := k) (by rw [comA_n]; omega) q808 (by first | decide | (simp only [rmk]; omega)) hl.1 rfl (Nat.le_of_ble_eq_true rfl) (by decide) dX0_few_181 (fun H locs hH hS => ?_)
                    have hm29 := cm_lt (S := S) (i := k) (by omega)
                    refine lv_topv (y := .ref ((Ls 0).getD (cm S k) 0)) (cm_at (by omega)) ?_
                    refine va_castE hx hb hown (hts _ q809) (hp_rec hK hH (hW.g (show cm S k < aN S by omega)) rfl) dX0_few_184 ?_
                    refine hp_get (C := RX5) (T := TX5) (N := 6) (v := .int (nI (cm S k))) hx hb hts in_X5 hown hK hH (hW.g (show cm S k < aN S by omega)) rfl 1 (by decide) (hts _ q562) (u_same (hts _ q555)) rfl dX0_few_187 ?_
                    have hH := hH.X (zset_up hWo (ex_tr hxlc16 hxB) Y23)
                    exact hp_iret hx hb hr hlocks hH hS (by decide) (by decide) dX0_few_190 (⟨congrArg some (congrArg Value.int (by rw [spFew, if_pos (show (inN (nI k6) (aRm S) && (decide (nI k1 = -1) || (inN (nI k1) (aN S) && aCm S (nI k1).toNatClampNeg))) = true by simp [hik6, hik1, ek1, ccm])]; show _ = (match prt (qtB (abv S (nI k6) 0) (evn S (nI k6)) (aN S)) (fewN (qtB (abv S (nI k6) 0) (evn S (nI k6)) (aN S)) (mem9 S)) (mem9 S) [] with | none => _ | some (r, a) => _); rw [hprt]; show _ = if nI k1 = -1 then _ else _; rw [if_neg (nI_m1 (by omega)), ek1]; exact congrArg nI (few_low hn hra (by omega) ccm (by omega) ck hno).symm)), _, rfl⟩)
              · exact absurd cg2 (nI_m1 (by omega))
            · refine lv_aload_n hx hb dX0_few_96 rfl (lv_at hl 0 rfl) ?_
              refine hp_get (C := RX0) (T := TX0) (N := 14) (v := .ref (w 10)) hx hb hts in_X0 hown hK hH hW.x rfl 10 (by decide) (hts _ q222) (fun _ z => z) rfl dX0_few_97 ?_
              refine lv_iload hx hb dX0_few_100 (lv_at hl 5 rfl) ?_
              refine lv_iconst (v := nI 0) hx hb dX0_few_102 (by decide) ?_
              refine z_ist (j := k) (x := nI 0) hx hb hK hWb hH hS 3 (by decide) (by first | omega | (refine Nat.lt_of_lt_of_le (Nat.mod_lt _ ?_) ?_ <;> omega)) dX0_few_103 (fun H locs hH hS => ?_)
              have hW := hWb.z (vset Z1 3 k (nI 0))
              refine lv_iinc (v := nI (k + 1)) (lv' := [(6, .int (nI (k + 1))), (0, .ref (w 0)), (1, .int (nI k6)), (2, .int (nI k1)), (4, .ref lc16), (5, .ref ma)]) hx hb dX0_few_104 hl (k := 5) rfl (nI_add k 1) (by decide) rfl (fun ls hl => ?_)
              refine lv_goto (tgt := 89) hx hb dX0_few_107 (by decide) ?_
              exact ih89 (k + 1) (vset Z1 3 k (nI 0)) (by omega) H locs ls ⟨by omega, fun u hu => by rw [vset_in]; split; rfl; exact hz u (by omega), hH, hS, lv_sub hl [1, 2, 3, 4, 5, 0] rfl⟩
          · refine lv_aload hx hb dX0_few_68 (lv_at hl 4 rfl) ?_
            refine lv_iload hx hb dX0_few_70 (lv_at hl 5 rfl) ?_
            refine lv_aload_n hx hb dX0_few_72 rfl (lv_at hl 0 rfl) ?_
            refine lv_iload hx hb dX0_few_73 (lv_at hl 5 rfl) ?_
            refine lv_iload_n hx hb dX0_few_75 rfl (lv_at hl 1 rfl) ?_
            refine hp_callV (As := [.int (nI x9), .int (nI k6)]) (rest := [.int (nI x9), .ref ma]) hx hb hml hown hts hPB hK hH hS (mc_isHeap hK0 hG hO hO2 hW (m9 := x9) (nI k6) (by omega) hab) hW.x rfl rfl 2 (lw_V q1180 q1182 qs43 q102 q1183) (by decide +kernel) ⟨rfl, rfl⟩ (by decide) rfl hl.1 rfl (Nat.le_of_ble_eq_true rfl) (by decide) dX0_few_76 (fun v30 h32 H locs hp31 _ hH hS => ?_)
            obtain ⟨rfl, hq⟩ := hp31
            rw [hq] at hH
            refine hp_zst (n := 1024) (j := x9) (x' := zI (qtB (abv S (nI k6) 0) (evn S (nI k6)) (aN S) x9)) (hx' := zI_vnar _) hx hb hK hH hS 2 hma9 rfl (by first | omega | (refine Nat.lt_of_lt_of_le (Nat.mod_lt _ ?_) ?_ <;> omega)) (by first | omega | (refine Nat.lt_of_lt_of_le (Nat.mod_lt _ ?_) ?_ <;> omega)) dX0_few_79 (fun H locs _ hH hS => ?_)
            have hH : HP D CL (zA s0) (hset hh ma (.inl (K 2, 1024, .inl (upd fm x9 (zI (qtB (abv S (nI k6) 0) (evn S (nI k6)) (aN S) x9))))) 44) H := hH
            have hW := hW.fr (set_fr (c1 := .inl (K 2, 1024, .inl (upd fm x9 (zI (qtB (abv S (nI k6) 0) (evn S (nI k6)) (aN S) x9))))) hma9) (by omega) (ob_a hma9)
            have e33 : (hset hh ma (.inl (K 2, 1024, .inl (upd fm x9 (zI (qtB (abv S (nI k6) 0) (evn S (nI k6)) (aN S) x9))))) 44) ma = some (.inl (K 2, 1024, .inl (upd fm x9 (zI (qtB (abv S (nI k6) 0) (evn S (nI k6)) (aN S) x9)))), 44) := hset_self _ _ _ _
            refine lv_iinc (v := nI (x9 + 1)) (lv' := [(6, .int (nI (x9 + 1))), (0, .ref (w 0)), (1, .int (nI k6)), (2, .int (nI k1)), (4, .ref lc16), (5, .ref ma)]) hx hb dX0_few_80 hl (k := 5) rfl (nI_add x9 1) (by decide) rfl (fun ls hl => ?_)
            refine lv_goto (tgt := 54) hx hb dX0_few_83 (by decide) ?_
            exact ih54 (x9 + 1) (upd fm x9 (zI (qtB (abv S (nI k6) 0) (evn S (nI k6)) (aN S) x9))) (hset hh ma (.inl (K 2, 1024, .inl (upd fm x9 (zI (qtB (abv S (nI k6) 0) (evn S (nI k6)) (aN S) x9))))) 44) (by omega) H locs ls ⟨by omega, fun u hu => by unfold upd; split; (rename_i q; rw [q]); exact hfm u (by omega), e33, ex_set hxB nma, hH, hS, lv_sub hl [1, 2, 3, 4, 5, 0] rfl⟩
        · refine lv_iconst (v := (-1)) hx hb dX0_few_30 (by decide) ?_
          exact hp_iret hx hb hr hlocks hH hS (by decide) (by decide) dX0_few_31 (⟨congrArg some (congrArg Value.int (by simp [spFew, hik1, ek1, hik6, ek6, cgm, ccm])), _, rfl⟩)
    · have hq := hp9.2; rw [hq] at hH
      refine lv_ifnullN (tgt := 30) hx hb dX0_few_11 (by decide) ?_
      refine lv_iconst (v := (-1)) hx hb dX0_few_30 (by decide) ?_
      exact hp_iret hx hb hr hlocks hH hS (by decide) (by decide) dX0_few_31 (⟨congrArg some (congrArg Value.int (by simp [spFew, hik1, ek1, cz7])), _, rfl⟩)
  · have hq := hp4.2; rw [hq] at hH
    refine lv_astore_nN (lv' := [(3, .null), (0, .ref (w 0)), (1, .int room), (2, .int g)]) hx hb dX0_few_5 rfl hl (by decide) rfl (fun ls hl => ?_)
    refine lv_aload_n hx hb dX0_few_6 rfl (lv_at hl 1 rfl) ?_
    refine lv_iload_n hx hb dX0_few_7 rfl (lv_at hl 2 rfl) ?_
    refine hp_callV (As := [.int room]) (rest := []) hx hb hml hown hts hPB hK hH hS (mc_roomAt hK0 hG hO hO2 hW room) hW.x rfl rfl 1 (lw_V q924 q926 qs24 q102 q927) (by decide +kernel) ⟨rfl, rfl⟩ (by decide) rfl hl.1 rfl (Nat.le_of_ble_eq_true rfl) (by decide) dX0_few_8 (fun v36 h38 H locs hp37 _ hH hS => ?_)
    rcases hp37.1 with ⟨k34, hk34, hgk34, rfl⟩ | ⟨cz35, rfl⟩
    · have hq := hp37.2; rw [hq] at hH
      subst hgk34
      have hik34 : inN (nI k34) (aRm S) = true := by rw [inN_nI (by omega)]; exact decide_eq_true hk34
      have ek34 := nI_clamp (show k34 < 2 ^ 31 by omega)
      have hp39 := hO.rp (show k34 < aRm S by omega)
      refine lv_ifnull hx hb dX0_few_11 ?_
      refine lv_iload_n hx hb dX0_few_14 rfl (lv_at hl 3 rfl) ?_
      refine lv_iconst (v := (-1)) hx hb dX0_few_15 (by decide) ?_
      refine lv_icmp_eq (tgt := 32) hx hb dX0_few_16 (by decide) (fun cgm => ?_) (fun cgm => ?_)
      · refine lv_aload_n hx hb dX0_few_32 rfl (lv_at hl 1 rfl) ?_
        refine lv_iload_n hx hb dX0_few_33 rfl (lv_at hl 2 rfl) ?_
        refine lv_iconst (v := nI 0) hx hb dX0_few_34 (by decide) ?_
        refine hp_callV (As := [.int (nI k34), .int (nI 0)]) (rest := []) hx hb hml hown hts hPB hK hH hS (mc_findAbove hK0 hG hO hO2 hW0 (Z := Z) (nI k34) (wo := 0) (by omega)) hW.x rfl rfl 2 (lw_V q1099 q1101 qs31 q102 q1102) (by decide +kernel) ⟨rfl, rfl⟩ (by decide) rfl hl.1 rfl (Nat.le_of_ble_eq_true rfl) (by decide) dX0_few_35 (fun v41 h43 H locs hp42 _ hH hS => ?_)
        obtain ⟨rfl, Y40, hq, hkpY40, hab⟩ := hp42
        rw [hq] at hH
        have hW := hW0.z Y40
        refine lv_aload_n hx hb dX0_few_38 rfl (lv_at hl 1 rfl) ?_
        refine hp_callV (As := []) (rest := []) hx hb hml hown hts hPB hK hH hS (mc_coming hK0 hG hO hO2 hW) hW.x rfl rfl 0 (lw_V q1141 q1143 qs37 q102 q1144) (by decide +kernel) ⟨rfl, rfl⟩ (by decide) rfl hl.1 rfl (Nat.le_of_ble_eq_true rfl) (by decide) dX0_few_39 (fun v45 h47 H locs hp46 _ hH hS => ?_)
        obtain ⟨lc44, jlc44, tlc44, rfl, hAlc44, hxlc44, hnlc44, htlc44⟩ := hp46
        have hW := hW.X hxlc44
        have hnc := nC_le S
        refine lv_astore (lv' := [(4, .ref lc44), (3, .null), (0, .ref (w 0)), (1, .int (nI k34)), (2, .int g)]) hx hb dX0_few_42 hl (by decide) rfl (fun ls hl => ?_)
        refine lv_sipush (v := nI 1024) hx hb dX0_few_44 (by decide) ?_
        have hWX := hW
        obtain ⟨ma, hma, nma⟩ := hH.fr
        refine hp_newa (atype := .boolean) (ty := .boolean) (n := nI 1024) (N' := 1024) (a0 := (1024, .inl (fun _ => 0))) hx hb (hts _ q1189) rfl hK hH hS hA 2 rfl (fun z => z) (fun _ => rfl) (nI_pos (by first | omega | (refine Nat.lt_of_lt_of_le (Nat.mod_lt _ ?_) ?_ <;> omega))) (nI_clamp (by first | omega | (refine Nat.lt_of_lt_of_le (Nat.mod_lt _ ?_) ?_ <;> omega))) (by show _ * 1 ≤ _; omega) (by decide) (by decide) 44 dX0_few_47 (fun H _ hH hS => ?_)
        rw [← hma] at hH ⊢
        have hH : HP D CL (zA s0) (hset h47 ma (.inl (K 2, 1024, .inl (fun _ => 0))) 44) H := hH
        have hW := hW.X (exH.new (e1 := .inl (K 2, 1024, .inl (fun _ => 0))) (u1 := 44) nma)
        have e48 : (hset h47 ma (.inl (K 2, 1024, .inl (fun _ => 0))) 44) ma = some (.inl (K 2, 1024, .inl (fun _ => 0)), 44) := hset_self _ _ _ _
        refine lv_astore (lv' := [(5, .ref ma), (4, .ref lc44), (3, .null), (0, .ref (w 0)), (1, .int (nI k34)), (2, .int g)]) hx hb dX0_few_49 hl (by decide) rfl (fun ls hl => ?_)
        refine lv_iconst (v := nI 0) hx hb dX0_few_51 (by decide) ?_
        refine lv_istore (lv' := [(6, .int (nI 0)), (5, .ref ma), (4, .ref lc44), (3, .null), (0, .ref (w 0)), (1, .int (nI k34)), (2, .int g)]) hx hb dX0_few_52 hl (by decide) rfl (fun ls hl => ?_)
        refine w_loop3 (fun (x9 : Nat) (fm : Nat → Int32) (hh : Hp) => 2 ^ aN S - x9) (fun (x9 : Nat) (fm : Nat → Int32) (hh : Hp) H locs ls => (x9 ≤ 2 ^ aN S) ∧ (∀ u, u < x9 → fm u = zI (qtB (abv S (nI k34) 0) (evn S (nI k34)) (aN S) u)) ∧ (hh ma = some (.inl (K 2, 1024, .inl fm), 44)) ∧ (exH h47 hh) ∧ HP D CL (zA s0) hh H ∧ va_S (zA s0) s.heap H locs ∧ lv_has ls 7 [(0, .ref (w 0)), (1, .int (nI k34)), (2, .int g), (4, .ref lc44), (5, .ref ma), (6, .int (nI x9))]) ?_ 0 (fun _ => 0) (hset h47 ma (.inl (K 2, 1024, .inl (fun _ => 0))) 44) ⟨Nat.zero_le _, fun u hu => absurd hu (Nat.not_lt_zero _), e48, exH.new nma, hH, hS, lv_sub hl [4, 5, 6, 2, 1, 0] rfl⟩
        intro x9 fm hh ih54 H locs ls hP
        obtain ⟨hx9, hfm, hma9, hxB, hH, hS, hl⟩ := hP
        have hW := hWX.X hxB
        have hAl := hAlc44.X hxB
        refine lv_iload hx hb dX0_few_54 (lv_at hl 5 rfl) ?_
        refine lv_iconst (v := nI 1) hx hb dX0_few_56 (by decide) ?_
        refine lv_aload_n hx hb dX0_few_57 rfl (lv_at hl 0 rfl) ?_
        refine hp_get (C := RX0) (T := TX0) (N := 14) (v := .ref (w 3)) hx hb hts in_X0 hown hK hH hW.x rfl 2 (by decide) (hts _ q214) (fun _ z => z) rfl dX0_few_58 ?_
        refine hp_siz hx hb hml hown hts hPB hK0 hK hH hS hG (hW.li 0 (by decide)) hW.ng q807 (by first | decide | (simp only [rmk]; omega)) hl.1 rfl (Nat.le_of_ble_eq_true rfl) (by decide) dX0_few_61 (fun H locs hH hS => ?_)
        refine lv_ishl hx hb dX0_few_64 ?_
        refine lv_top (y := nI (2 ^ (aN S))) (bi_shl1 (by first | omega | (refine Nat.lt_of_lt_of_le (Nat.mod_lt _ ?_) ?_ <;> omega))) ?_
        refine lvN_ge (tgt := 86) hx hb (by first | omega | (refine Nat.lt_of_lt_of_le (Nat.mod_lt _ ?_) ?_ <;> omega)) (by first | omega | (refine Nat.lt_of_lt_of_le (Nat.mod_lt _ ?_) ?_ <;> omega)) dX0_few_65 (by decide) (fun c49 => ?_) (fun c49 => ?_)
        · have hWb := hW
          have hH : HP D CL (zA s0) (zset hh K w S Y40) H := by rw [zset_self hWb]; exact hH
          have hW := hWb.z Y40
          have hAb := hAl
          have hmab := hma9
          have hQt : ∀ x, x < 2 ^ aN S → fm x = zI (qtB (abv S (nI k34) 0) (evn S (nI k34)) (aN S) x) := fun x hx => hfm x (by omega)
          refine lv_iconst (v := nI 0) hx hb dX0_few_86 (by decide) ?_
          refine lv_istore (lv' := [(6, .int (nI 0)), (0, .ref (w 0)), (1, .int (nI k34)), (2, .int g), (4, .ref lc44), (5, .ref ma)]) hx hb dX0_few_87 hl (by decide) rfl (fun ls hl => ?_)
          refine w_loop2 (fun (k : Nat) (Z1 : Nat → Nat → Int32) => 10 - k) (fun (k : Nat) (Z1 : Nat → Nat → Int32) H locs ls => (k ≤ 10) ∧ (∀ u, u < k → Z1 3 u = nI 0) ∧ HP D CL (zA s0) (zset hh K w S Z1) H ∧ va_S (zA s0) s.heap H locs ∧ lv_has ls 7 [(0, .ref (w 0)), (1, .int (nI k34)), (2, .int g), (4, .ref lc44), (5, .ref ma), (6, .int (nI k))]) ?_ 0 Y40 ⟨Nat.zero_le _, fun u hu => absurd hu (Nat.not_lt_zero _), hH, hS, lv_sub hl [1, 2, 3, 4, 5, 0] rfl⟩
          intro k Z1 ih89 H locs ls hP
          obtain ⟨hk, hz, hH, hS, hl⟩ := hP
          have hW := hWb.z Z1
          refine lv_iload hx hb dX0_few_89 (lv_at hl 5 rfl) ?_
          refine lv_bipush (v := nI 10) hx hb dX0_few_91 (by decide) ?_
          refine lvN_ge (tgt := 110) hx hb (by first | omega | (refine Nat.lt_of_lt_of_le (Nat.mod_lt _ ?_) ?_ <;> omega)) (by first | omega | (refine Nat.lt_of_lt_of_le (Nat.mod_lt _ ?_) ?_ <;> omega)) dX0_few_93 (by decide) (fun c50 => ?_) (fun c50 => ?_)
          · refine lv_aload_n hx hb dX0_few_110 rfl (lv_at hl 0 rfl) ?_
            refine lv_ldcw (v := 1000000) hx hb hown (hts _ q1171) dX0_few_111 ?_
            refine lv_top (y := nI 1000000) (by decide) ?_
            refine z_fw (x := nI 1000000) hx hb hts hown hK hWb hH hS (hts _ q225) dX0_few_114 (fun H locs hH hS => ?_)
            have hW := hWb.z (vset Z1 6 0 (nI 1000000))
            refine lv_aload_n hx hb dX0_few_117 rfl (lv_at hl 0 rfl) ?_
            refine lv_aload hx hb dX0_few_118 (lv_at hl 3 rfl) ?_
            refine lv_iconst (v := nI 0) hx hb dX0_few_120 (by decide) ?_
            refine lv_iconst (v := nI 0) hx hb dX0_few_121 (by decide) ?_
            refine lv_aload hx hb dX0_few_122 (lv_at hl 4 rfl) ?_
            refine hp_callV (As := [.ref lc44, .int (nI 0), .int (nI 0), .ref ma]) (rest := []) hx hb hml hown hts hPB hK hH hS (mc_heaps hK0 hG hO hO2 hWb (Qt := qtB (abv S (nI k34) 0) (evn S (nI k34)) (aN S)) hAb htlc44 hmab hQt (nC S) (Z := vset Z1 6 0 (nI 1000000)) (k := 0) (hs := []) (pre := []) (R := (1000000, [])) ⟨fun u hu => by rw [vset_off _ _ (by decide)]; exact hz u (by omega), fun i hi => absurd hi (Nat.not_lt_zero _), vset_self _ _ _ _, Or.inl rfl⟩ (Nat.zero_le _) (fun u => by show (0 : Nat) < _; exact Nat.two_pow_pos _) (Nat.zero_le _) rfl (fun u i _ _ => by show (0 : Nat).testBit _ = false; exact Nat.zero_testBit _) (Nat.le_refl _) (Nat.sub_zero _).symm) hW.x rfl rfl 4 (lw_V q1184 q1186 qs44 q102 q1187) (by decide +kernel) ⟨rfl, rfl⟩ (by simp only [rmk]; omega) rfl hl.1 rfl (Nat.le_of_ble_eq_true rfl) (by decide) dX0_few_124 (fun v52 h54 H locs hp53 _ hH hS => ?_)
            obtain ⟨rfl, Y51, hq, hkpF, hfw⟩ := hp53
            rw [hq] at hH
            obtain ⟨r9, a9, hprt, hfold, hf10, hra⟩ := few_end (Qt := qtB (abv S (nI k34) 0) (evn S (nI k34)) (aN S)) (mem := mem9 S) (b := []) (fun m _ => qt_one (abv_rr _ _ _)) (Nat.le_trans (nC_le S) hn)
            rw [List.drop_zero, hfold] at hfw
            have hb9 := hfw.2.2.2.resolve_left (by show ¬ fewN _ _ = _; omega)
            have hal9 := lv_lt10 _ _ _ hra
            have hW := hWb.z Y51
            refine lv_iload_n hx hb dX0_few_127 rfl (lv_at hl 2 rfl) ?_
            refine lv_iconst (v := (-1)) hx hb dX0_few_128 (by decide) ?_
            refine lv_icmp_ne (tgt := 137) hx hb dX0_few_129 (by decide) (fun cg2 => ?_) (fun cg2 => ?_)
            · exact absurd cgm cg2
            · refine lv_aload_n hx hb dX0_few_132 rfl (lv_at hl 0 rfl) ?_
              refine hp_get (C := RX0) (T := TX0) (N := 14) (v := .int (Y51 6 0)) hx hb hts in_X0 hown hK hH hW.x rfl 13 (by decide) (hts _ q225) (fun _ z => z) rfl dX0_few_133 ?_
              have hH := hH.X (zset_up hWo (ex_tr hxlc44 hxB) Y51)
              refine lv_top (y := nI (fewN (qtB (abv S (nI k34) 0) (evn S (nI k34)) (aN S)) (mem9 S))) hfw.2.2.1 ?_
              exact hp_iret hx hb hr hlocks hH hS (by decide) (by decide) dX0_few_136 (⟨congrArg some (congrArg Value.int (by rw [spFew, if_pos (show (inN (nI k34) (aRm S) && (decide (g = -1) || (inN g (aN S) && aCm S (g).toNatClampNeg))) = true by simp [hik34, cgm])]; show _ = (match prt (qtB (abv S (nI k34) 0) (evn S (nI k34)) (aN S)) (fewN (qtB (abv S (nI k34) 0) (evn S (nI k34)) (aN S)) (mem9 S)) (mem9 S) [] with | none => _ | some (r, a) => _); rw [hprt]; exact (if_pos cgm).symm)), _, rfl⟩)
          · refine lv_aload_n hx hb dX0_few_96 rfl (lv_at hl 0 rfl) ?_
            refine hp_get (C := RX0) (T := TX0) (N := 14) (v := .ref (w 10)) hx hb hts in_X0 hown hK hH hW.x rfl 10 (by decide) (hts _ q222) (fun _ z => z) rfl dX0_few_97 ?_
            refine lv_iload hx hb dX0_few_100 (lv_at hl 5 rfl) ?_
            refine lv_iconst (v := nI 0) hx hb dX0_few_102 (by decide) ?_
            refine z_ist (j := k) (x := nI 0) hx hb hK hWb hH hS 3 (by decide) (by first | omega | (refine Nat.lt_of_lt_of_le (Nat.mod_lt _ ?_) ?_ <;> omega)) dX0_few_103 (fun H locs hH hS => ?_)
            have hW := hWb.z (vset Z1 3 k (nI 0))
            refine lv_iinc (v := nI (k + 1)) (lv' := [(6, .int (nI (k + 1))), (0, .ref (w 0)), (1, .int (nI k34)), (2, .int g), (4, .ref lc44), (5, .ref ma)]) hx hb dX0_few_104 hl (k := 5) rfl (nI_add k 1) (by decide) rfl (fun ls hl => ?_)
            refine lv_goto (tgt := 89) hx hb dX0_few_107 (by decide) ?_
            exact ih89 (k + 1) (vset Z1 3 k (nI 0)) (by omega) H locs ls ⟨by omega, fun u hu => by rw [vset_in]; split; rfl; exact hz u (by omega), hH, hS, lv_sub hl [1, 2, 3, 4, 5, 0] rfl⟩
        · refine lv_aload hx hb dX0_few_68 (lv_at hl 4 rfl) ?_
          refine lv_iload hx hb dX0_few_70 (lv_at hl 5 rfl) ?_
          refine lv_aload_n hx hb dX0_few_72 rfl (lv_at hl 0 rfl) ?_
          refine lv_iload hx hb dX0_few_73 (lv_at hl 5 rfl) ?_
          refine lv_iload_n hx hb dX0_few_75 rfl (lv_at hl 1 rfl) ?_
          refine hp_callV (As := [.int (nI x9), .int (nI k34)]) (rest := [.int (nI x9), .ref ma]) hx hb hml hown hts hPB hK hH hS (mc_isHeap hK0 hG hO hO2 hW (m9 := x9) (nI k34) (by omega) hab) hW.x rfl rfl 2 (lw_V q1180 q1182 qs43 q102 q1183) (by decide +kernel) ⟨rfl, rfl⟩ (by decide) rfl hl.1 rfl (Nat.le_of_ble_eq_true rfl) (by decide) dX0_few_76 (fun v55 h57 H locs hp56 _ hH hS => ?_)
          obtain ⟨rfl, hq⟩ := hp56
          rw [hq] at hH
          refine hp_zst (n := 1024) (j := x9) (x' := zI (qtB (abv S (nI k34) 0) (evn S (nI k34)) (aN S) x9)) (hx' := zI_vnar _) hx hb hK hH hS 2 hma9 rfl (by first | omega | (refine Nat.lt_of_lt_of_le (Nat.mod_lt _ ?_) ?_ <;> omega)) (by first | omega | (refine Nat.lt_of_lt_of_le (Nat.mod_lt _ ?_) ?_ <;> omega)) dX0_few_79 (fun H locs _ hH hS => ?_)
          have hH : HP D CL (zA s0) (hset hh ma (.inl (K 2, 1024, .inl (upd fm x9 (zI (qtB (abv S (nI k34) 0) (evn S (nI k34)) (aN S) x9))))) 44) H := hH
          have hW := hW.fr (set_fr (c1 := .inl (K 2, 1024, .inl (upd fm x9 (zI (qtB (abv S (nI k34) 0) (evn S (nI k34)) (aN S) x9))))) hma9) (by omega) (ob_a hma9)
          have e58 : (hset hh ma (.inl (K 2, 1024, .inl (upd fm x9 (zI (qtB (abv S (nI k34) 0) (evn S (nI k34)) (aN S) x9))))) 44) ma = some (.inl (K 2, 1024, .inl (upd fm x9 (zI (qtB (abv S (nI k34) 0) (evn S (nI k34)) (aN S) x9)))), 44) := hset_self _ _ _ _
          refine lv_iinc (v := nI (x9 + 1)) (lv' := [(6, .int (nI (x9 + 1))), (0, .ref (w 0)), (1, .int (nI k34)), (2, .int g), (4, .ref lc44), (5, .ref ma)]) hx hb dX0_few_80 hl (k := 5) rfl (nI_add x9 1) (by decide) rfl (fun ls hl => ?_)
          refine lv_goto (tgt := 54) hx hb dX0_few_83 (by decide) ?_
          exact ih54 (x9 + 1) (upd fm x9 (zI (qtB (abv S (nI k34) 0) (evn S (nI k34)) (aN S) x9))) (hset hh ma (.inl (K 2, 1024, .inl (upd fm x9 (zI (qtB (abv S (nI k34) 0) (evn S (nI k34)) (aN S) x9))))) 44) (by omega) H locs ls ⟨by omega, fun u hu => by unfold upd; split; (rename_i q; rw [q]); exact hfm u (by omega), e58, ex_set hxB nma, hH, hS, lv_sub hl [1, 2, 3, 4, 5, 0] rfl⟩
      · refine lv_aload_nN hx hb dX0_few_19 rfl (lv_at hl 0 rfl) ?_
        refine lv_ifnullN (tgt := 30) hx hb dX0_few_20 (by decide) ?_
        refine lv_iconst (v := (-1)) hx hb dX0_few_30 (by decide) ?_
        exact hp_iret hx hb hr hlocks hH hS (by decide) (by decide) dX0_few_31 (⟨congrArg some (congrArg Value.int (by simp [spFew, cz2, hik34, ek34, cgm])), _, rfl⟩)
    · have hq := hp37.2; rw [hq] at hH
      refine lv_ifnullN (tgt := 30) hx hb dX0_few_11 (by decide) ?_
      refine lv_iconst (v := (-1)) hx hb dX0_few_30 (by decide) ?_
      exact hp_iret hx hb hr hlocks hH hS (by decide) (by decide) dX0_few_31 (⟨congrArg some (congrArg Value.int (by simp [spFew, cz2, cz35])), _, rfl⟩)
end MODEL
