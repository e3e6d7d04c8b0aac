/-! by gen/mspec.py -/
set_option maxRecDepth 100000
section MODEL
variable {l : Launch} {s0 : State} {D : va_G} {K : Nat → ClassId} {wd : Nat → Nat} {o : Nat} {h : Hp} {I : Nat → Int32} {V : Nat → Nat → Int32} {J : Nat → Nat → Int64}
set_option maxHeartbeats 4000000 in
theorem mc_heaps (hK0 : va_K D CL (TYS K) s0) {av : Nat → Nat} {ed mi : Nat} (hG : GX s0 wd av ed mi) {S : Ab} {w : Nat → Nat} {Ls : Nat → List Nat} {Jn : Nat → Nat} {Z9 : Nat → Nat → Int32} (hO : SOK S) (hO2 : SO2 S) (hW0 : CW K ed S h w Ls Jn Z9) {la tl jl ma : Nat} {fm : Nat → Int32} {Qt : Nat → Bool} (hAl : AL (K 4) ed h la tl (comA Ls S (aN S)) jl) (htl : 30 ≤ tl) (hma : h ma = some (.inl (K 2, 1024, .inl fm), 44)) (hQt : ∀ x, x < 2 ^ aN S → fm x = zI (Qt x)) : ∀ (d : Nat) {Z : Nat → Nat → Int32} {k : Nat} {hs pre : List Nat} {R : Nat × List Nat} (hfw : fwI S k hs pre R Z) (hkm : k ≤ nC S) (hko : hOK (aN S) hs) (hlen : hs.length ≤ 10) (hpl : pre.length = k) (hsf : hsF S k hs) (hRl : R.1 ≤ 1000000) (hd : d = nC S - k), Met l yX0_heaps (ws_ yX0_heaps cX0_heaps 7 ((Option.none : Option Jvm.ClassFile.FieldType))) (rmk (d + 4) 0 0) (va_Pc [.ref (w 0), .ref la, .int (nI k), .int (nI hs.length), .ref ma] (PB s0 D CL (zset h K w S Z))) (QR s0 D CL (fun v h1 => v = none ∧ ∃ Z1, h1 = zset h K w S Z1 ∧ kp [3, 4, 5, 6] Z Z1 ∧ fwI S k hs pre ((lv Qt ((mem9 S).drop k) hs).foldl (fwS pre) R) Z1)) 0 0 (zA s0) := by
  intro d
  induction d using Nat.strongRecOn
  rename_i d ih
  intro Z k hs pre R hfw hkm hko hlen hpl hsf hRl hd
  refine hp_met (by decide) (Nat.le_of_ble_eq_true rfl) hK0 ?_
  intro p e s m below meth cd ls hx hb hr hlocks hml hown hnm hts hK hPB hl hS hH hA
  have hl : lv_has ls 7 [(0, .ref (w 0)), (1, .ref la), (2, .int (nI k)), (3, .int (nI hs.length)), (4, .ref ma)] := hl
  have hown : s.vm.findClass RX0 = some m.cls := hown
  have hn := hO.n
  have hmk := hO.mk
  have hrl := hO.rl
  have hrm := hO.rm
  have hsz := hO.sz
  have hW := hW0.z Z
  have hp10 := pow2_le hn
  have hnc := nC_le S
  refine lv_iload_n hx hb dX0_heaps_0 rfl (lv_at hl 3 rfl) ?_
  refine lv_aload_n hx hb dX0_heaps_1 rfl (lv_at hl 0 rfl) ?_
  refine hp_get (C := RX0) (T := TX0) (N := 14) (v := .int (Z 6 0)) hx hb hts in_X0 hown hK hH hW.x rfl 13 (by decide) (hts _ q225) (fun _ z => z) rfl dX0_heaps_2 ?_
  refine lv_top (y := nI R.1) hfw.2.2.1 ?_
  refine lvN_lt (tgt := 9) hx hb (by first | omega | (refine Nat.lt_of_lt_of_le (Nat.mod_lt _ ?_) ?_ <;> omega)) (by first | omega | (refine Nat.lt_of_lt_of_le (Nat.mod_lt _ ?_) ?_ <;> omega)) dX0_heaps_5 (by decide) (fun c1 => ?_) (fun c1 => ?_)
  · refine lv_iload_n hx hb dX0_heaps_9 rfl (lv_at hl 2 rfl) ?_
    refine lv_aload_n hx hb dX0_heaps_10 rfl (lv_at hl 1 rfl) ?_
    refine hp_siz hx hb hml hown hts hPB hK0 hK hH hS hG (AL.keep hAl (fun b e q => zset_f hW0 q (by omega) (by omega)) (zset_ob hW0 _)) comA_n q807 (by first | decide | (simp only [rmk]; omega)) hl.1 rfl (Nat.le_of_ble_eq_true rfl) (by first | decide | omega | (simp only [rmk]; omega)) dX0_heaps_11 (fun H locs hH hS => ?_)
    refine lvN_ne (tgt := 38) hx hb (by first | omega | (refine Nat.lt_of_lt_of_le (Nat.mod_lt _ ?_) ?_ <;> omega)) (by first | omega | (refine Nat.lt_of_lt_of_le (Nat.mod_lt _ ?_) ?_ <;> omega)) dX0_heaps_14 (by decide) (fun ck => ?_) (fun ck => ?_)
    · refine lv_aload_n hx hb dX0_heaps_38 rfl (lv_at hl 1 rfl) ?_
      refine lv_iload_n hx hb dX0_heaps_39 rfl (lv_at hl 2 rfl) ?_
      refine hp_lget hx hb hml hown hts hPB hK0 hK hH hS hG (AL.keep hAl (fun b e q => zset_f hW0 q (by omega) (by omega)) (zset_ob hW0 _)) (k9 := k) (by rw [comA_n]; omega) q808 (by first | decide | (simp only [rmk]; omega)) hl.1 rfl (Nat.le_of_ble_eq_true rfl) (by first | decide | omega | (simp only [rmk]; omega)) dX0_heaps_40 (fun H locs hH hS => ?_)
      have hm1 := cm_lt (S := S) (i := k) (by omega)
      refine lv_topv (y := .ref ((Ls 0).getD (cm S k) 0)) (cm_at (by omega)) ?_
      refine va_castE hx hb hown (hts _ q809) (hp_rec hK hH (hW.g (show cm S k < aN S by omega)) rfl) dX0_heaps_43 ?_
      refine hp_get (C := RX5) (T := TX5) (N := 6) (v := .int (nI (cm S k))) hx hb hts in_X5 hown hK hH (hW.g (show cm S k < aN S by omega)) rfl 1 (by decide) (hts _ q562) (u_same (hts _ q555)) rfl dX0_heaps_46 ?_
      refine lv_istore (lv' := [(5, .int (nI (cm S k))), (0, .ref (w 0)), (1, .ref la), (2, .int (nI k)), (3, .int (nI hs.length)), (4, .ref ma)]) hx hb dX0_heaps_49 hl (by decide) rfl (fun ls hl => ?_)
      refine lv_iconst (v := nI 0) hx hb dX0_heaps_51 (by decide) ?_
      refine lv_istore (lv' := [(6, .int (nI 0)), (5, .int (nI (cm S k))), (0, .ref (w 0)), (1, .ref la), (2, .int (nI k)), (3, .int (nI hs.length)), (4, .ref ma)]) hx hb dX0_heaps_52 hl (by decide) rfl (fun ls hl => ?_)
      refine w_loop2 (fun (h9 : Nat) (Z1 : Nat → Nat → Int32) => 12 - h9) (fun (h9 : Nat) (Z1 : Nat → Nat → Int32) H locs ls => (h9 ≤ min (hs.length + 1) 10) ∧ (kp [3, 4, 5, 6] Z Z1) ∧ (fwI S k hs pre ((lvP Qt (cm S k) ((mem9 S).drop (k + 1)) hs h9).foldl (fwS pre) R) Z1) ∧ HP D CL (zA s0) (zset h K w S Z1) H ∧ va_S (zA s0) s.heap H locs ∧ lv_has ls 7 [(0, .ref (w 0)), (1, .ref la), (2, .int (nI k)), (3, .int (nI hs.length)), (4, .ref ma), (5, .int (nI (cm S k))), (6, .int (nI h9))]) ?_ 0 Z ⟨Nat.zero_le _, kp.rf, hfw, hH, hS, lv_sub hl [2, 3, 4, 5, 6, 1, 0] rfl⟩
      intro h9 Z1 ih54 H locs ls hP
      obtain ⟨hh9, hkp, hfw1, hH, hS, hl⟩ := hP
      have hW := hW0.z Z1
      refine lv_iload hx hb dX0_heaps_54 (lv_at hl 6 rfl) ?_
      refine lv_iload_n hx hb dX0_heaps_56 rfl (lv_at hl 3 rfl) ?_
      refine lvN_gt (tgt := 149) hx hb (by first | omega | (refine Nat.lt_of_lt_of_le (Nat.mod_lt _ ?_) ?_ <;> omega)) (by first | omega | (refine Nat.lt_of_lt_of_le (Nat.mod_lt _ ?_) ?_ <;> omega)) dX0_heaps_57 (by decide) (fun cu => ?_) (fun cu => ?_)
      · exact hp_vret hx hb hr hlocks hH hS (by first | decide | omega | (simp only [rmk]; omega)) (by first | decide | omega | (simp only [rmk]; omega)) dX0_heaps_149 (⟨rfl, _, rfl, hkp, by rw [drop9 (by omega), lv_cons, ← show h9 = min (hs.length + 1) 10 by omega]; exact hfw1⟩)
      · refine lv_iload hx hb dX0_heaps_60 (lv_at hl 6 rfl) ?_
        refine lv_bipush (v := nI 10) hx hb dX0_heaps_62 (by decide) ?_
        refine lvN_ge (tgt := 149) hx hb (by first | omega | (refine Nat.lt_of_lt_of_le (Nat.mod_lt _ ?_) ?_ <;> omega)) (by first | omega | (refine Nat.lt_of_lt_of_le (Nat.mod_lt _ ?_) ?_ <;> omega)) dX0_heaps_64 (by decide) (fun cv => ?_) (fun cv => ?_)
        · exact hp_vret hx hb hr hlocks hH hS (by first | decide | omega | (simp only [rmk]; omega)) (by first | decide | omega | (simp only [rmk]; omega)) dX0_heaps_149 (⟨rfl, _, rfl, hkp, by rw [drop9 (by omega), lv_cons, ← show h9 = min (hs.length + 1) 10 by omega]; exact hfw1⟩)
        · have hmk := cm_lt (S := S) (i := k) (by omega)
          have hho := hOK_push (h := h9) hko hmk.1 (by omega)
          refine lv_aload hx hb dX0_heaps_67 (lv_at hl 4 rfl) ?_
          refine lv_aload_n hx hb dX0_heaps_69 rfl (lv_at hl 0 rfl) ?_
          refine hp_get (C := RX0) (T := TX0) (N := 14) (v := .ref (w 10)) hx hb hts in_X0 hown hK hH hW.x rfl 10 (by decide) (hts _ q222) (fun _ z => z) rfl dX0_heaps_70 ?_
          refine lv_iload hx hb dX0_heaps_73 (lv_at hl 6 rfl) ?_
          refine hp_ild (n := 10) (j := h9) (v := nI (hs.getD h9 0)) hx hb hK hH 0 (hW.ar 3 (by decide)) rfl (by first | omega | (refine Nat.lt_of_lt_of_le (Nat.mod_lt _ ?_) ?_ <;> omega)) (by first | omega | (refine Nat.lt_of_lt_of_le (Nat.mod_lt _ ?_) ?_ <;> omega)) (hfw1.1 h9 (by omega)) dX0_heaps_75 ?_
          refine lv_iconst (v := nI 1) hx hb dX0_heaps_76 (by decide) ?_
          refine lv_iload hx hb dX0_heaps_77 (lv_at hl 5 rfl) ?_
          refine lv_ishl hx hb dX0_heaps_79 ?_
          refine lv_top (y := nI (2 ^ (cm S k))) (bi_shl1 (by first | omega | (refine Nat.lt_of_lt_of_le (Nat.mod_lt _ ?_) ?_ <;> omega))) ?_
          refine lv_ior hx hb dX0_heaps_80 ?_
          refine lv_top (y := nI ((hs.getD h9 0) ||| (2 ^ (cm S k)))) (bi_or _ _) ?_
          refine hp_zld (n := 1024) (j := (hs.getD h9 0) ||| (2 ^ (cm S k))) (v := zI (Qt ((hs.getD h9 0) ||| (2 ^ (cm S k))))) hx hb hK hH 2 (zset_f hW0 hma (by decide) (by decide)) rfl (Nat.lt_of_lt_of_le hho.1 hp10) (by first | omega | (refine Nat.lt_of_lt_of_le (Nat.mod_lt _ ?_) ?_ <;> omega)) (hQt _ hho.1) dX0_heaps_81 ?_
          refine lvB_ne (tgt := 88) hx hb dX0_heaps_82 (by decide) (fun cq => ?_) (fun cq => ?_)
          · refine lv_aload_n hx hb dX0_heaps_88 rfl (lv_at hl 0 rfl) ?_
            refine hp_get (C := RX0) (T := TX0) (N := 14) (v := .ref (w 10)) hx hb hts in_X0 hown hK hH hW.x rfl 10 (by decide) (hts _ q222) (fun _ z => z) rfl dX0_heaps_89 ?_
            refine lv_iload hx hb dX0_heaps_92 (lv_at hl 6 rfl) ?_
            refine lv_dup2_11 hx hb dX0_heaps_94 rfl rfl ?_
            refine hp_ild (n := 10) (j := h9) (v := nI (hs.getD h9 0)) hx hb hK hH 0 (hW.ar 3 (by decide)) rfl (by first | omega | (refine Nat.lt_of_lt_of_le (Nat.mod_lt _ ?_) ?_ <;> omega)) (by first | omega | (refine Nat.lt_of_lt_of_le (Nat.mod_lt _ ?_) ?_ <;> omega)) (hfw1.1 h9 (by omega)) dX0_heaps_95 ?_
            refine lv_iconst (v := nI 1) hx hb dX0_heaps_96 (by decide) ?_
            refine lv_iload hx hb dX0_heaps_97 (lv_at hl 5 rfl) ?_
            refine lv_ishl hx hb dX0_heaps_99 ?_
            refine lv_top (y := nI (2 ^ (cm S k))) (bi_shl1 (by first | omega | (refine Nat.lt_of_lt_of_le (Nat.mod_lt _ ?_) ?_ <;> omega))) ?_
            refine lv_ior hx hb dX0_heaps_100 ?_
            refine lv_top (y := nI ((hs.getD h9 0) ||| (2 ^ (cm S k)))) (bi_or _ _) ?_
            refine z_ist (j := h9) (x := nI ((hs.getD h9 0) ||| (2 ^ (cm S k)))) hx hb hK hW0 hH hS 3 (by decide) (by first | omega | (refine Nat.lt_of_lt_of_le (Nat.mod_lt _ ?_) ?_ <;> omega)) dX0_heaps_101 (fun H locs hH hS => ?_)
            have hW := hW0.z (vset Z1 3 h9 (nI ((hs.getD h9 0) ||| (2 ^ (cm S k)))))
            refine lv_aload_n hx hb dX0_heaps_102 rfl (lv_at hl 0 rfl) ?_
            refine hp_get (C := RX0) (T := TX0) (N := 14) (v := .ref (w 11)) hx hb hts in_X0 hown hK hH hW.x rfl 11 (by decide) (hts _ q223) (fun _ z => z) rfl dX0_heaps_103 ?_
            refine lv_iload hx hb dX0_heaps_106 (lv_at hl 5 rfl) ?_
            refine lv_iload hx hb dX0_heaps_108 (lv_at hl 6 rfl) ?_
            refine z_ist (j := cm S k) (x := nI h9) hx hb hK hW0 hH hS 4 (by decide) (by first | omega | (refine Nat.lt_of_lt_of_le (Nat.mod_lt _ ?_) ?_ <;> omega)) dX0_heaps_110 (fun H locs hH hS => ?_)
            have hW := hW0.z (vset (vset Z1 3 h9 (nI ((hs.getD h9 0) ||| (2 ^ (cm S k))))) 4 (cm S k) (nI h9))
            refine lv_aload_n hx hb dX0_heaps_111 rfl (lv_at hl 0 rfl) ?_
            refine lv_aload_n hx hb dX0_heaps_112 rfl (lv_at hl 1 rfl) ?_
            refine lv_iload_n hx hb dX0_heaps_113 rfl (lv_at hl 2 rfl) ?_
            refine lv_iconst (v := nI 1) hx hb dX0_heaps_114 (by decide) ?_
            refine lv_iadd hx hb dX0_heaps_115 ?_
            refine lv_top (y := nI (k + 1)) (nI_add _ _) ?_
            refine lv_iload_n hx hb dX0_heaps_116 rfl (lv_at hl 3 rfl) ?_
            refine lv_iload hx hb dX0_heaps_117 (lv_at hl 6 rfl) ?_
            refine lv_iconst (v := nI 1) hx hb dX0_heaps_119 (by decide) ?_
            refine lv_iadd hx hb dX0_heaps_120 ?_
            refine lv_top (y := nI (h9 + 1)) (nI_add _ _) ?_
            refine va_mmax hx hb (hml.trans hl.1.symm) hown (hts _ q1083) (hts _ q409) (hts _ q114) (hts _ q410) (by first | decide | (simp [rmk, Value.category]; done) | (simp [rmk, Value.category]; omega)) (by first | decide | (simp [rmk, Value.category]; done) | (simp [rmk, Value.category]; omega)) (by first | decide | (simp [rmk, Value.category]; done) | (simp [rmk, Value.category]; omega)) (by first | decide | (simp [rmk, Value.category]; done) | (simp [rmk, Value.category]; omega)) dX0_heaps_121 ?_
            refine lv_top (y := nI ((pushH hs h9 ((hs.getD h9 0) ||| (2 ^ (cm S k)))).length)) ((i_maxN (by omega) (by omega)).trans (congrArg nI (pushH_len (by omega)).symm)) ?_
            refine lv_aload hx hb dX0_heaps_124 (lv_at hl 4 rfl) ?_
            refine hp_callV (As := [.ref la, .int (nI (k + 1)), .int (nI ((pushH hs h9 ((hs.getD h9 0) ||| (2 ^ (cm S k)))).length)), .ref ma]) (rest := []) hx hb hml hown hts hPB hK hH hS (ih (nC S - (k + 1)) (by omega) (Z := vset (vset Z1 3 h9 (nI ((hs.getD h9 0) ||| (2 ^ (cm S k))))) 4 (cm S k) (nI h9)) (k := k + 1) (hs := (pushH hs h9 ((hs.getD h9 0) ||| (2 ^ (cm S k))))) (pre := pre ++ [h9]) (R := (lvP Qt (cm S k) ((mem9 S).drop (k + 1)) hs h9).foldl (fwS pre) R) (fw_put hfw1 (by omega) (by omega) hpl) (by omega) hho.2 (by rw [pushH_len (by omega)]; omega) (by rw [List.length_append, hpl]; rfl) (hsF_push hsf (by omega) (by omega)) (Nat.le_trans (fw_le _ _) hRl) rfl) hW.x rfl rfl 4 (lw_V q1184 q1186 qs44 q102 q1187) (by decide +kernel) ⟨rfl, rfl⟩ (by simp only [rmk]; omega) rfl hl.1 rfl (Nat.le_of_ble_eq_true rfl) (by simp only [rmk]; omega) dX0_heaps_126 (fun v3 h5 H locs hp4 _ hH hS => ?_)
            obtain ⟨rfl, Y2, hq, hkpY2, hfw3⟩ := hp4
            rw [hq] at hH
            have hW := hW0.z Y2
            refine lv_aload_n hx hb dX0_heaps_129 rfl (lv_at hl 0 rfl) ?_
            refine hp_get (C := RX0) (T := TX0) (N := 14) (v := .ref (w 10)) hx hb hts in_X0 hown hK hH hW.x rfl 10 (by decide) (hts _ q222) (fun _ z => z) rfl dX0_heaps_130 ?_
            refine lv_iload hx hb dX0_heaps_133 (lv_at hl 6 rfl) ?_
            refine lv_dup2_11 hx hb dX0_heaps_135 rfl rfl ?_
            refine hp_ild (n := 10) (j := h9) (v := nI ((hs.getD h9 0) ||| (2 ^ (cm S k)))) hx hb hK hH 0 (hW.ar 3 (by decide)) rfl (by first | omega | (refine Nat.lt_of_lt_of_le (Nat.mod_lt _ ?_) ?_ <;> omega)) (by first | omega | (refine Nat.lt_of_lt_of_le (Nat.mod_lt _ ?_) ?_ <;> omega)) ((hfw3.1 h9 (by omega)).trans (by rw [pushH_get (by omega), if_pos rfl])) dX0_heaps_136 ?_
            refine lv_iconst (v := nI 1) hx hb dX0_heaps_137 (by decide) ?_
            refine lv_iload hx hb dX0_heaps_138 (lv_at hl 5 rfl) ?_
            refine lv_ishl hx hb dX0_heaps_140 ?_
            refine lv_top (y := nI (2 ^ (cm S k))) (bi_shl1 (by first | omega | (refine Nat.lt_of_lt_of_le (Nat.mod_lt _ ?_) ?_ <;> omega))) ?_
            refine lv_ixor hx hb dX0_heaps_141 ?_
            refine lv_top (y := nI (hs.getD h9 0)) ((bi_xor _ _).trans (congrArg nI (or_xor (hsf h9 k (Nat.le_refl _) (by omega))))) ?_
            refine z_ist (j := h9) (x := nI (hs.getD h9 0)) hx hb hK hW0 hH hS 3 (by decide) (by first | omega | (refine Nat.lt_of_lt_of_le (Nat.mod_lt _ ?_) ?_ <;> omega)) dX0_heaps_142 (fun H locs hH hS => ?_)
            have hW := hW0.z (vset Y2 3 h9 (nI (hs.getD h9 0)))
            refine lv_iinc (v := nI (h9 + 1)) (lv' := [(6, .int (nI (h9 + 1))), (0, .ref (w 0)), (1, .ref la), (2, .int (nI k)), (3, .int (nI hs.length)), (4, .ref ma), (5, .int (nI (cm S k)))]) hx hb dX0_heaps_143 hl (k := 6) rfl (nI_add h9 1) (by decide) rfl (fun ls hl => ?_)
            refine lv_goto (tgt := 54) hx hb dX0_heaps_146 (by decide) ?_
            exact ih54 (h9 + 1) (vset Y2 3 h9 (nI (hs.getD h9 0))) (by omega) H locs ls ⟨by omega, ((((hkp.vs (by decide) _ _).vs (by decide) _ _).tr hkpY2).vs (by decide) _ _), by rw [lvP_s, List.foldl_append]; unfold lvT; rw [if_pos cq, fw_map]; exact fw_back hfw3 (by omega) hpl, hH, hS, lv_sub hl [1, 2, 3, 4, 5, 6, 0] rfl⟩
          · refine lv_goto (tgt := 143) hx hb dX0_heaps_85 (by decide) ?_
            refine lv_iinc (v := nI (h9 + 1)) (lv' := [(6, .int (nI (h9 + 1))), (0, .ref (w 0)), (1, .ref la), (2, .int (nI k)), (3, .int (nI hs.length)), (4, .ref ma), (5, .int (nI (cm S k)))]) hx hb dX0_heaps_143 hl (k := 6) rfl (nI_add h9 1) (by decide) rfl (fun ls hl => ?_)
            refine lv_goto (tgt := 54) hx hb dX0_heaps_146 (by decide) ?_
            exact ih54 (h9 + 1) Z1 (by omega) H locs ls ⟨by omega, hkp, by rw [lvP_s]; unfold lvT; rw [if_neg (by rw [cq]; decide), List.append_nil]; exact hfw1, hH, hS, lv_sub hl [1, 2, 3, 4, 5, 6, 0] rfl⟩
    · refine lv_aload_n hx hb dX0_heaps_17 rfl (lv_at hl 0 rfl) ?_
      refine lv_iload_n hx hb dX0_heaps_18 rfl (lv_at hl 3 rfl) ?_
      refine z_fw (x := nI hs.length) hx hb hts hown hK hW0 hH hS (hts _ q225) dX0_heaps_19 (fun H locs hH hS => ?_)
      have hW := hW0.z (vset Z 6 0 (nI hs.length))
      refine lv_aload_n hx hb dX0_heaps_22 rfl (lv_at hl 0 rfl) ?_
      refine hp_get (C := RX0) (T := TX0) (N := 14) (v := .ref (w 11)) hx hb hts in_X0 hown hK hH hW.x rfl 11 (by decide) (hts _ q223) (fun _ z => z) rfl dX0_heaps_23 ?_
      refine lv_iconst (v := nI 0) hx hb dX0_heaps_26 (by decide) ?_
      refine lv_aload_n hx hb dX0_heaps_27 rfl (lv_at hl 0 rfl) ?_
      refine hp_get (C := RX0) (T := TX0) (N := 14) (v := .ref (w 12)) hx hb hts in_X0 hown hK hH hW.x rfl 12 (by decide) (hts _ q224) (fun _ z => z) rfl dX0_heaps_28 ?_
      refine lv_iconst (v := nI 0) hx hb dX0_heaps_31 (by decide) ?_
      refine lv_bipush (v := nI 10) hx hb dX0_heaps_32 (by decide) ?_
      refine z_cpy hx hb (hml.trans hl.1.symm) hown (hts _ q1188) (hts _ q533) (hts _ q532) (hts _ q121) hK hW0 hH hS 4 5 (by decide) (by decide) (by first | decide | omega | (simp only [rmk]; omega)) (Nat.le_of_ble_eq_true rfl) dX0_heaps_34 (fun H locs hH hS => ?_)
      have hW := hW0.z (va_up (vset Z 6 0 (nI hs.length)) 5 (va_cpy ((vset Z 6 0 (nI hs.length)) 4) ((vset Z 6 0 (nI hs.length)) 5) 0 0 10))
      exact hp_vret hx hb hr hlocks hH hS (by first | decide | omega | (simp only [rmk]; omega)) (by first | decide | omega | (simp only [rmk]; omega)) dX0_heaps_37 (⟨rfl, _, rfl, (kp.rf.vs (by decide) _ _).up (by decide) _, by rw [drop9_n ck]; show fwI S k hs pre (fwS pre R (hs, [])) _; rw [show fwS pre R (hs, []) = (hs.length, pre) from by unfold fwS; rw [if_pos c1, List.append_nil], ck]; exact fw_leaf (ck ▸ hfw) hn⟩)
  · exact hp_vret hx hb hr hlocks hH hS (by first | decide | omega | (simp only [rmk]; omega)) (by first | decide | omega | (simp only [rmk]; omega)) dX0_heaps_8 (⟨rfl, _, rfl, kp.rf, by rw [show List.foldl (fwS pre) R (lv Qt ((mem9 S).drop k) hs) = R from fw_cut (F := R.1) (b := R.2) _ (fun l hl => Nat.le_trans (show R.1 ≤ hs.length by omega) (lv_len _ _ l hl).1)]; exact hfw⟩)
end MODEL
