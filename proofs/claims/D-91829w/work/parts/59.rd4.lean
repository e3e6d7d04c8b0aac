/-! by gen/mspec.py -/
set_option maxRecDepth 100000
section MODEL
variable {l : Launch} {s0 : State} {D : va_G} {K : Nat → ClassId} {wd : Nat → Nat} {o : Nat} {h : Hp} {I : Nat → Int32} {V : Nat → Nat → Int32} {J : Nat → Nat → Int64}
set_option maxHeartbeats 4000000 in
theorem mt_someone (hK0 : va_K D CL (TYS K) s0) {S : Ab} (hO : SOK S) (hM : MOK S I V) {av : Nat → Nat} (hX : OX wd av (zA s0) s0 s0.heap) {tk : Tk} (hrp : rdP S tk I) {dd : Dr} (hD : drR dd V J) (hDO : drOK dd) : Met l yX2_someone (ws_ yX2_someone cX2_someone 5 ((Option.some Jvm.ClassFile.FieldType.boolean))) (rmk 6 0 0) (va_Pc [.ref o] (PB s0 D CL (mset h K wd o I V J))) (QR s0 D CL (fun v h1 => v = some (.int (zI (xk (rdS S dd tk)))) ∧ ∃ P, h1 = mset h K wd o P V J ∧ MOK S P V ∧ kp [2, 3, 4, 5] I P ∧ rdV S (rdS S dd tk) P)) 0 0 (zA s0) := by
  refine hp_met (by decide) (Nat.le_of_ble_eq_true rfl) hK0 ?_
  intro p e s m below meth cd ls hx hb hr hlocks hml hown hnm hts hK hPB hl hS hH hA
  have hl : lv_has ls 5 [(0, .ref o)] := hl
  have hown : s.vm.findClass RX2 = some m.cls := hown
  have hn := hO.n
  have hmk := hO.mk
  have hrl := hO.rl
  have hrm := hO.rm
  have hsz := hO.sz
  have htk := hrp.2.2.2
  have htk1 := htk.1
  have hD1 := hDO.1
  refine lv_aload_n hx hb dX2_someone_0 rfl (lv_at hl 0 rfl) ?_
  refine hp_callV (As := []) (rest := []) hx hb hml hown hts hPB hK hH hS (mt_named hK0 hO hM hX (tk := tk) hrp) mset_o rfl rfl 0 (lw_V q1695 q1697 qs57 q107 q1698) (by decide +kernel) ⟨rfl, rfl⟩ (by decide) rfl hl.1 rfl (Nat.le_of_ble_eq_true rfl) (by decide) dX2_someone_1 (fun v1 h3 H locs hp2 _ hH hS => ?_)
  obtain ⟨rfl, rfl⟩ := hp2
  refine lv_lstore_n (lv' := [(1, .long (nmJ (namS S tk))), (0, .ref o)]) hx hb dX2_someone_4 rfl hl (by decide) rfl (fun ls hl => ?_)
  refine lv_lload_n hx hb dX2_someone_5 rfl (lv_at hl 0 rfl) ?_
  refine lv_ldc2 (v := -1) hx hb hown (hts _ q1699) dX2_someone_6 ?_
  refine W.lcmp hx hb dX2_someone_9 ?_
  refine lv_if_ne (tgt := 17) hx hb dX2_someone_10 (by decide) (fun cn => ?_) (fun cn => ?_)
  · have cn := fun q => cmp_ne cn ((nmJ_m1 (nam_ok hrp.2.2.2)).mpr q)
    refine lv_aload_n hx hb dX2_someone_17 rfl (lv_at hl 1 rfl) ?_
    refine lv_lload_n hx hb dX2_someone_18 rfl (lv_at hl 0 rfl) ?_
    refine hp_callV (As := [.long (nmJ (namS S tk))]) (rest := []) hx hb hml hown hts hPB hK hH hS (mt_guestOfN hK0 hO hM hD hDO (nam_ok hrp.2.2.2) cn) mset_o rfl rfl 1 (lw_V q1706 q1708 qs59 q107 q1709) (by decide +kernel) ⟨rfl, rfl⟩ (by decide) rfl hl.1 rfl (Nat.le_of_ble_eq_true rfl) (by decide) dX2_someone_19 (fun v4 h6 H locs hp5 _ hH hS => ?_)
    obtain ⟨rfl, rfl⟩ := hp5
    refine lv_istore_n (lv' := [(3, .int (oI (gstO dd (namS S tk)))), (1, .long (nmJ (namS S tk))), (0, .ref o)]) hx hb dX2_someone_22 rfl hl (by decide) rfl (fun ls hl => ?_)
    refine lv_lload_n hx hb dX2_someone_23 rfl (lv_at hl 1 rfl) ?_
    refine lv_ldc2 (v := -1) hx hb hown (hts _ q1699) dX2_someone_24 ?_
    refine W.lcmp hx hb dX2_someone_27 ?_
    refine lv_if_ne (tgt := 35) hx hb dX2_someone_28 (by decide) (fun cn2 => ?_) (fun cn2 => ?_)
    · refine lv_aload_n hx hb dX2_someone_35 rfl (lv_at hl 2 rfl) ?_
      refine lv_lload_n hx hb dX2_someone_36 rfl (lv_at hl 1 rfl) ?_
      refine hp_callV (As := [.long (nmJ (namS S tk))]) (rest := []) hx hb hml hown hts hPB hK hH hS (mt_markOfN hK0 hO hM hD hDO (nam_ok hrp.2.2.2) cn) mset_o rfl rfl 1 (lw_V q1710 q1712 qs60 q107 q1713) (by decide +kernel) ⟨rfl, rfl⟩ (by decide) rfl hl.1 rfl (Nat.le_of_ble_eq_true rfl) (by decide) dX2_someone_37 (fun v7 h9 H locs hp8 _ hH hS => ?_)
      obtain ⟨rfl, rfl⟩ := hp8
      refine lv_istore (lv' := [(4, .int (oI (mrkO dd (namS S tk)))), (3, .int (oI (gstO dd (namS S tk)))), (1, .long (nmJ (namS S tk))), (0, .ref o)]) hx hb dX2_someone_40 hl (by decide) rfl (fun ls hl => ?_)
      refine lv_aload_n hx hb dX2_someone_42 rfl (lv_at hl 3 rfl) ?_
      refine lv_iload_n hx hb dX2_someone_43 rfl (lv_at hl 1 rfl) ?_
      refine lv_iconst (v := (-1)) hx hb dX2_someone_44 (by decide) ?_
      refine lv_icmp_eq (tgt := 52) hx hb dX2_someone_45 (by decide) (fun cg => ?_) (fun cg => ?_)
      · have cg := (gst_oI hDO _).mp cg
        refine lv_bipush (v := nI 100) hx hb dX2_someone_52 (by decide) ?_
        refine lv_iload hx hb dX2_someone_54 (lv_at hl 0 rfl) ?_
        refine lv_iadd hx hb dX2_someone_56 ?_
        refine m_put (ty := .int) hx hb hts hown hK hH hS 5 (by decide) q1457 rfl rfl rfl (by decide +kernel) rfl rfl dX2_someone_57 (fun H locs hH hS => ?_)
        have hM := hM.iS (k := 5) (by decide) ((nI 100) + (oI (mrkO dd (namS S tk))))
        refine lv_aload_n hx hb dX2_someone_60 rfl (lv_at hl 3 rfl) ?_
        refine lv_iload_n hx hb dX2_someone_61 rfl (lv_at hl 1 rfl) ?_
        refine lv_iconst (v := (-1)) hx hb dX2_someone_62 (by decide) ?_
        refine lv_icmp_ne (tgt := 72) hx hb dX2_someone_63 (by decide) (fun c63 => ?_) (fun c63 => ?_)
        · exact absurd cg (fun q => c63 ((gst_oI hDO _).mpr q))
        · refine lv_iload hx hb dX2_someone_66 (lv_at hl 0 rfl) ?_
          refine lv_iconst (v := (-1)) hx hb dX2_someone_68 (by decide) ?_
          refine lv_icmp_eq (tgt := 76) hx hb dX2_someone_69 (by decide) (fun cm => ?_) (fun cm => ?_)
          · have cm := (mrk_oI hDO _).mp cm
            refine lv_iconst (v := nI 0) hx hb dX2_someone_76 (by decide) ?_
            have esb := sd_3 cg cm
            have ers : rdS S dd tk = xb (pas S false tk) (fun t1 => .ok (t1, sdV dd (namS S tk))) := by unfold rdS; rw [esb]
            refine hp_callV (As := [.int (nI 0)]) (rest := []) hx hb hml hown hts hPB hK hH hS (mt_passes hK0 hO hM (tk := tk) ⟨(va_up_ne _ _ (by decide)).trans (hrp.1), (va_up_ne _ _ (by decide)).trans (hrp.2.1), (va_up_ne _ _ (by decide)).trans (hrp.2.2.1), htk⟩ false) mset_o rfl rfl 1 (lw_V q1687 q1689 qs55 q107 q1690) (by decide +kernel) ⟨rfl, rfl⟩ (by decide) rfl hl.1 rfl (Nat.le_of_ble_eq_true rfl) (by decide) dX2_someone_77 (fun v10 h12 H locs hp11 _ hH hS => ?_)
            obtain ⟨rfl, Prd, rfl, hM, hkrd, rd⟩ := hp11
            exact hp_zret hx hb hr (zI_nar _) hlocks hH hS (by decide) (by decide) dX2_someone_80 (⟨by rw [ers]; rfl, _, rfl, hM, (kp.rf.up (by decide) _).tr (hkrd.wide (by decide)), by rw [ers]; exact rd⟩)
          · have cm := fun q => cm ((mrk_oI hDO _).mpr q)
            obtain ⟨m9, em⟩ := Option.ne_none_iff_exists'.mp cm
            refine lv_iconst (v := nI 1) hx hb dX2_someone_72 (by decide) ?_
            refine lv_goto (tgt := 77) hx hb dX2_someone_73 (by decide) ?_
            have esb := sd_2 cg em
            have ers : rdS S dd tk = xb (pas S true tk) (fun t1 => .ok (t1, sdV dd (namS S tk))) := by unfold rdS; rw [esb.1]
            refine hp_callV (As := [.int (nI 1)]) (rest := []) hx hb hml hown hts hPB hK hH hS (mt_passes hK0 hO hM (tk := tk) ⟨(va_up_ne _ _ (by decide)).trans (hrp.1), (va_up_ne _ _ (by decide)).trans (hrp.2.1), (va_up_ne _ _ (by decide)).trans (hrp.2.2.1), htk⟩ true) mset_o rfl rfl 1 (lw_V q1687 q1689 qs55 q107 q1690) (by decide +kernel) ⟨rfl, rfl⟩ (by decide) rfl hl.1 rfl (Nat.le_of_ble_eq_true rfl) (by decide) dX2_someone_77 (fun v13 h15 H locs hp14 _ hH hS => ?_)
            obtain ⟨rfl, Prd, rfl, hM, hkrd, rd⟩ := hp14
            exact hp_zret hx hb hr (zI_nar _) hlocks hH hS (by decide) (by decide) dX2_someone_80 (⟨by rw [ers]; rfl, _, rfl, hM, (kp.rf.up (by decide) _).tr (hkrd.wide (by decide)), by rw [ers]; exact ⟨rd, (hkrd 5 (by decide)).trans ((va_up_self _ _ _).trans (by rw [esb.2, em]; exact nI_add _ _))⟩⟩)
      · have cg := fun q => cg ((gst_oI hDO _).mpr q)
        obtain ⟨g, eg⟩ := Option.ne_none_iff_exists'.mp cg
        rw [eg] at hl
        have hgl := gst_lt eg
        refine lv_iload_n hx hb dX2_someone_48 rfl (lv_at hl 1 rfl) ?_
        refine lv_goto (tgt := 57) hx hb dX2_someone_49 (by decide) ?_
        refine m_put (ty := .int) hx hb hts hown hK hH hS 5 (by decide) q1457 rfl rfl rfl (by decide +kernel) rfl rfl dX2_someone_57 (fun H locs hH hS => ?_)
        have hM := hM.iS (k := 5) (by decide) (nI g)
        refine lv_aload_n hx hb dX2_someone_60 rfl (lv_at hl 3 rfl) ?_
        refine lv_iload_n hx hb dX2_someone_61 rfl (lv_at hl 1 rfl) ?_
        refine lv_iconst (v := (-1)) hx hb dX2_someone_62 (by decide) ?_
        refine lv_icmp_ne (tgt := 72) hx hb dX2_someone_63 (by decide) (fun c63 => ?_) (fun c63 => ?_)
        · refine lv_iconst (v := nI 1) hx hb dX2_someone_72 (by decide) ?_
          refine lv_goto (tgt := 77) hx hb dX2_someone_73 (by decide) ?_
          have esb := sd_1 eg
          have ers : rdS S dd tk = xb (pas S true tk) (fun t1 => .ok (t1, sdV dd (namS S tk))) := by unfold rdS; rw [esb.1]
          refine hp_callV (As := [.int (nI 1)]) (rest := []) hx hb hml hown hts hPB hK hH hS (mt_passes hK0 hO hM (tk := tk) ⟨(va_up_ne _ _ (by decide)).trans (hrp.1), (va_up_ne _ _ (by decide)).trans (hrp.2.1), (va_up_ne _ _ (by decide)).trans (hrp.2.2.1), htk⟩ true) mset_o rfl rfl 1 (lw_V q1687 q1689 qs55 q107 q1690) (by decide +kernel) ⟨rfl, rfl⟩ (by decide) rfl hl.1 rfl (Nat.le_of_ble_eq_true rfl) (by decide) dX2_someone_77 (fun v16 h18 H locs hp17 _ hH hS => ?_)
          obtain ⟨rfl, Prd, rfl, hM, hkrd, rd⟩ := hp17
          exact hp_zret hx hb hr (zI_nar _) hlocks hH hS (by decide) (by decide) dX2_someone_80 (⟨by rw [ers]; rfl, _, rfl, hM, (kp.rf.up (by decide) _).tr (hkrd.wide (by decide)), by rw [ers]; exact ⟨rd, (hkrd 5 (by decide)).trans ((va_up_self _ _ _).trans (congrArg nI esb.2.symm))⟩⟩)
        · exact absurd c63 (nI_m1 (by omega))
    · exact absurd ((nmJ_m1 (nam_ok hrp.2.2.2)).mp (cmp_eq cn2)) cn
  · have cn := (nmJ_m1 (nam_ok hrp.2.2.2)).mp (cmp_eq cn)
    refine lv_iconst (v := (-1)) hx hb dX2_someone_13 (by decide) ?_
    refine lv_goto (tgt := 22) hx hb dX2_someone_14 (by decide) ?_
    refine lv_top (y := oI (gstO dd (namS S tk))) (by rw [cn]; rfl) ?_
    refine lv_istore_n (lv' := [(3, .int (oI (gstO dd (namS S tk)))), (1, .long (nmJ (namS S tk))), (0, .ref o)]) hx hb dX2_someone_22 rfl hl (by decide) rfl (fun ls hl => ?_)
    refine lv_lload_n hx hb dX2_someone_23 rfl (lv_at hl 1 rfl) ?_
    refine lv_ldc2 (v := -1) hx hb hown (hts _ q1699) dX2_someone_24 ?_
    refine W.lcmp hx hb dX2_someone_27 ?_
    refine lv_if_ne (tgt := 35) hx hb dX2_someone_28 (by decide) (fun cn2 => ?_) (fun cn2 => ?_)
    · exact absurd ((nmJ_m1 (nam_ok hrp.2.2.2)).mpr cn) (cmp_ne cn2)
    · refine lv_iconst (v := (-1)) hx hb dX2_someone_31 (by decide) ?_
      refine lv_goto (tgt := 40) hx hb dX2_someone_32 (by decide) ?_
      refine lv_top (y := oI (mrkO dd (namS S tk))) (by rw [cn]; rfl) ?_
      refine lv_istore (lv' := [(4, .int (oI (mrkO dd (namS S tk)))), (3, .int (oI (gstO dd (namS S tk)))), (1, .long (nmJ (namS S tk))), (0, .ref o)]) hx hb dX2_someone_40 hl (by decide) rfl (fun ls hl => ?_)
      refine lv_aload_n hx hb dX2_someone_42 rfl (lv_at hl 3 rfl) ?_
      refine lv_iload_n hx hb dX2_someone_43 rfl (lv_at hl 1 rfl) ?_
      refine lv_iconst (v := (-1)) hx hb dX2_someone_44 (by decide) ?_
      refine lv_icmp_eq (tgt := 52) hx hb dX2_someone_45 (by decide) (fun cg => ?_) (fun cg => ?_)
      · have cg := (gst_oI hDO _).mp cg
        refine lv_bipush (v := nI 100) hx hb dX2_someone_52 (by decide) ?_
        refine lv_iload hx hb dX2_someone_54 (lv_at hl 0 rfl) ?_
        refine lv_iadd hx hb dX2_someone_56 ?_
        refine m_put (ty := .int) hx hb hts hown hK hH hS 5 (by decide) q1457 rfl rfl rfl (by decide +kernel) rfl rfl dX2_someone_57 (fun H locs hH hS => ?_)
        have hM := hM.iS (k := 5) (by decide) ((nI 100) + (oI (mrkO dd (namS S tk))))
        refine lv_aload_n hx hb dX2_someone_60 rfl (lv_at hl 3 rfl) ?_
        refine lv_iload_n hx hb dX2_someone_61 rfl (lv_at hl 1 rfl) ?_
        refine lv_iconst (v := (-1)) hx hb dX2_someone_62 (by decide) ?_
        refine lv_icmp_ne (tgt := 72) hx hb dX2_someone_63 (by decide) (fun c63 => ?_) (fun c63 => ?_)
        · exact absurd cg (fun q => c63 ((gst_oI hDO _).mpr q))
        · refine lv_iload hx hb dX2_someone_66 (lv_at hl 0 rfl) ?_
          refine lv_iconst (v := (-1)) hx hb dX2_someone_68 (by decide) ?_
          refine lv_icmp_eq (tgt := 76) hx hb dX2_someone_69 (by decide) (fun cm => ?_) (fun cm => ?_)
          · have cm := (mrk_oI hDO _).mp cm
            refine lv_iconst (v := nI 0) hx hb dX2_someone_76 (by decide) ?_
            have esb := sd_3 cg cm
            have ers : rdS S dd tk = xb (pas S false tk) (fun t1 => .ok (t1, sdV dd (namS S tk))) := by unfold rdS; rw [esb]
            refine hp_callV (As := [.int (nI 0)]) (rest := []) hx hb hml hown hts hPB hK hH hS (mt_passes hK0 hO hM (tk := tk) ⟨(va_up_ne _ _ (by decide)).trans (hrp.1), (va_up_ne _ _ (by decide)).trans (hrp.2.1), (va_up_ne _ _ (by decide)).trans (hrp.2.2.1), htk⟩ false) mset_o rfl rfl 1 (lw_V q1687 q1689 qs55 q107 q1690) (by decide +kernel) ⟨rfl, rfl⟩ (by decide) rfl hl.1 rfl (Nat.le_of_ble_eq_true rfl) (by decide) dX2_someone_77 (fun v19 h21 H locs hp20 _ hH hS => ?_)
            obtain ⟨rfl, Prd, rfl, hM, hkrd, rd⟩ := hp20
            exact hp_zret hx hb hr (zI_nar _) hlocks hH hS (by decide) (by decide) dX2_someone_80 (⟨by rw [ers]; rfl, _, rfl, hM, (kp.rf.up (by decide) _).tr (hkrd.wide (by decide)), by rw [ers]; exact rd⟩)
          · have cm := fun q => cm ((mrk_oI hDO _).mpr q)
            obtain ⟨m9, em⟩ := Option.ne_none_iff_exists'.mp cm
            refine lv_iconst (v := nI 1) hx hb dX2_someone_72 (by decide) ?_
            refine lv_goto (tgt := 77) hx hb dX2_someone_73 (by decide) ?_
            have esb := sd_2 cg em
            have ers : rdS S dd tk = xb (pas S true tk) (fun t1 => .ok (t1, sdV dd (namS S tk))) := by unfold rdS; rw [esb.1]
            refine hp_callV (As := [.int (nI 1)]) (rest := []) hx hb hml hown hts hPB hK hH hS (mt_passes hK0 hO hM (tk := tk) ⟨(va_up_ne _ _ (by decide)).trans (hrp.1), (va_up_ne _ _ (by decide)).trans (hrp.2.1), (va_up_ne _ _ (by decide)).trans (hrp.2.2.1), htk⟩ true) mset_o rfl rfl 1 (lw_V q1687 q1689 qs55 q107 q1690) (by decide +kernel) ⟨rfl, rfl⟩ (by decide) rfl hl.1 rfl (Nat.le_of_ble_eq_true rfl) (by decide) dX2_someone_77 (fun v22 h24 H locs hp23 _ hH hS => ?_)
            obtain ⟨rfl, Prd, rfl, hM, hkrd, rd⟩ := hp23
            exact hp_zret hx hb hr (zI_nar _) hlocks hH hS (by decide) (by decide) dX2_someone_80 (⟨by rw [ers]; rfl, _, rfl, hM, (kp.rf.up (by decide) _).tr (hkrd.wide (by decide)), by rw [ers]; exact ⟨rd, (hkrd 5 (by decide)).trans ((va_up_self _ _ _).trans (by rw [esb.2, em]; exact nI_add _ _))⟩⟩)
      · have cg := fun q => cg ((gst_oI hDO _).mpr q)
        obtain ⟨g, eg⟩ := Option.ne_none_iff_exists'.mp cg
        rw [eg] at hl
        have hgl := gst_lt eg
        refine lv_iload_n hx hb dX2_someone_48 rfl (lv_at hl 1 rfl) ?_
        refine lv_goto (tgt := 57) hx hb dX2_someone_49 (by decide) ?_
        refine m_put (ty := .int) hx hb hts hown hK hH hS 5 (by decide) q1457 rfl rfl rfl (by decide +kernel) rfl rfl dX2_someone_57 (fun H locs hH hS => ?_)
        have hM := hM.iS (k := 5) (by decide) (nI g)
        refine lv_aload_n hx hb dX2_someone_60 rfl (lv_at hl 3 rfl) ?_
        refine lv_iload_n hx hb dX2_someone_61 rfl (lv_at hl 1 rfl) ?_
        refine lv_iconst (v := (-1)) hx hb dX2_someone_62 (by decide) ?_
        refine lv_icmp_ne (tgt := 72) hx hb dX2_someone_63 (by decide) (fun c63 => ?_) (fun c63 => ?_)
        · refine lv_iconst (v := nI 1) hx hb dX2_someone_72 (by decide) ?_
          refine lv_goto (tgt := 77) hx hb dX2_someone_73 (by decide) ?_
          have esb := sd_1 eg
          have ers : rdS S dd tk = xb (pas S true tk) (fun t1 => .ok (t1, sdV dd (namS S tk))) := by unfold rdS; rw [esb.1]
          refine hp_callV (As := [.int (nI 1)]) (rest := []) hx hb hml hown hts hPB hK hH hS (mt_passes hK0 hO hM (tk := tk) ⟨(va_up_ne _ _ (by decide)).trans (hrp.1), (va_up_ne _ _ (by decide)).trans (hrp.2.1), (va_up_ne _ _ (by decide)).trans (hrp.2.2.1), htk⟩ true) mset_o rfl rfl 1 (lw_V q1687 q1689 qs55 q107 q1690) (by decide +kernel) ⟨rfl, rfl⟩ (by decide) rfl hl.1 rfl (Nat.le_of_ble_eq_true rfl) (by decide) dX2_someone_77 (fun v25 h27 H locs hp26 _ hH hS => ?_)
          obtain ⟨rfl, Prd, rfl, hM, hkrd, rd⟩ := hp26
          exact hp_zret hx hb hr (zI_nar _) hlocks hH hS (by decide) (by decide) dX2_someone_80 (⟨by rw [ers]; rfl, _, rfl, hM, (kp.rf.up (by decide) _).tr (hkrd.wide (by decide)), by rw [ers]; exact ⟨rd, (hkrd 5 (by decide)).trans ((va_up_self _ _ _).trans (congrArg nI esb.2.symm))⟩⟩)
        · exact absurd c63 (nI_m1 (by omega))
set_option maxHeartbeats 4000000 in
theorem mt_ruleRead (hK0 : va_K D CL (TYS K) s0) {S : Ab} (hO : SOK S) (hM : MOK S I V) {av : Nat → Nat} (hX : OX wd av (zA s0) s0 s0.heap) {tk : Tk} (hrp : rdP S tk I) {dd : Dr} (hD : drR dd V J) (hDO : drOK dd) {kd : Nat} (hkd : kd < 3) (h12 : dd.2.2.length < 12) : Met l yX2_ruleRead (ws_ yX2_ruleRead cX2_ruleRead 6 ((Option.some Jvm.ClassFile.FieldType.boolean))) (rmk 7 0 0) (va_Pc [.ref o, .int (nI kd)] (PB s0 D CL (mset h K wd o I V J))) (QR s0 D CL (fun v h1 => v = some (.int (zI (xk (rdR S dd kd tk)))) ∧ ∃ P U W, h1 = mset h K wd o P U W ∧ MOK S P U ∧ rdE S (rdR S dd kd tk) P U W)) 0 0 (zA s0) := by
  refine hp_met (by decide) (Nat.le_of_ble_eq_true rfl) hK0 ?_
  intro p e s m below meth cd ls hx hb hr hlocks hml hown hnm hts hK hPB hl hS hH hA
  have hl : lv_has ls 6 [(0, .ref o), (1, .int (nI kd))] := hl
  have hown : s.vm.findClass RX2 = some m.cls := hown
  have hn := hO.n
  have hmk := hO.mk
  have hrl := hO.rl
  have hrm := hO.rm
  have hsz := hO.sz
  have htk := hrp.2.2.2
  have htk1 := htk.1
  have hD1 := hDO.1
  refine lv_aload_n hx hb dX2_ruleRead_0 rfl (lv_at hl 0 rfl) ?_
  refine m_get hx hb hts hown hK hH 17 (by decide) q1469 rfl (v := .ref (o + 31)) rfl dX2_ruleRead_1 ?_
  refine lv_iconst (v := nI 1) hx hb dX2_ruleRead_4 (by decide) ?_
  refine m_iald (n := 2) (j := 1) (v := nI dd.2.2.length) hx hb hK hH (by decide) rfl (by first | omega | (refine Nat.lt_of_lt_of_le (Nat.mod_lt _ ?_) ?_ <;> omega)) (by decide) (hD.1.2.2) dX2_ruleRead_5 ?_
  refine lv_istore_n (lv' := [(2, .int (nI dd.2.2.length)), (0, .ref o), (1, .int (nI kd))]) hx hb dX2_ruleRead_6 rfl hl (by decide) rfl (fun ls hl => ?_)
  refine lv_aload_n hx hb dX2_ruleRead_7 rfl (lv_at hl 1 rfl) ?_
  refine m_get hx hb hts hown hK hH 9 (by decide) q1461 rfl (v := .ref (o + 11)) rfl dX2_ruleRead_8 ?_
  refine lv_iconst (v := nI 1) hx hb dX2_ruleRead_11 (by decide) ?_
  refine m_rowI (k' := 13) hx hb hK hH (by decide) rfl (by decide) (by decide) rfl dX2_ruleRead_12 ?_
  refine lv_iload_n hx hb dX2_ruleRead_13 rfl (lv_at hl 0 rfl) ?_
  refine lv_iload_n hx hb dX2_ruleRead_14 rfl (lv_at hl 2 rfl) ?_
  refine m_iast (n := 12) (j := dd.2.2.length) hx hb hK hH hS (by decide) rfl (by first | omega | (refine Nat.lt_of_lt_of_le (Nat.mod_lt _ ?_) ?_ <;> omega)) (by decide) dX2_ruleRead_15 (fun H locs hH hS => ?_)
  have hM := hM.vS (k := 13) rfl dd.2.2.length (nI kd)
  have hD := hD.wr (k := 13) (by decide) (nI kd)
  refine lv_aload_n hx hb dX2_ruleRead_16 rfl (lv_at hl 1 rfl) ?_
  refine hp_callV (As := []) (rest := []) hx hb hml hown hts hPB hK hH hS (mt_someone hK0 hO hM hX (tk := tk) hrp hD hDO) mset_o rfl rfl 0 (lw_V q1726 q1728 qs64 q107 q1729) (by decide +kernel) ⟨rfl, rfl⟩ (by decide) rfl hl.1 rfl (Nat.le_of_ble_eq_true rfl) (by decide) dX2_ruleRead_17 (fun v1 h3 H locs hp2 _ hH hS => ?_)
  obtain ⟨rfl, Prd1, rfl, hM, hkrd1, rd1⟩ := hp2
  refine lvB_ne (tgt := 25) hx hb dX2_ruleRead_20 (by decide) (fun ck1 => ?_) (fun ck1 => ?_)
  · obtain ⟨x1, e1⟩ := xk_t ck1
    rw [e1] at rd1
    obtain ⟨rd1, vrd1⟩ : rdP S x1.1 Prd1 ∧ Prd1 5 = nI x1.2 := rd1
    refine lv_aload_n hx hb dX2_ruleRead_25 rfl (lv_at hl 1 rfl) ?_
    refine m_get hx hb hts hown hK hH 10 (by decide) q1462 rfl (v := .ref (o + 14)) rfl dX2_ruleRead_26 ?_
    refine lv_iconst (v := nI 1) hx hb dX2_ruleRead_29 (by decide) ?_
    refine m_rowI (k' := 16) hx hb hK hH (by decide) rfl (by decide) (by decide) rfl dX2_ruleRead_30 ?_
    refine lv_iload_n hx hb dX2_ruleRead_31 rfl (lv_at hl 0 rfl) ?_
    refine lv_aload_n hx hb dX2_ruleRead_32 rfl (lv_at hl 1 rfl) ?_
    refine m_get hx hb hts hown hK hH 5 (by decide) q1457 rfl (v := .int (nI x1.2)) (congrArg Value.int (vrd1)) dX2_ruleRead_33 ?_
    refine m_iast (n := 12) (j := dd.2.2.length) hx hb hK hH hS (by decide) rfl (by first | omega | (refine Nat.lt_of_lt_of_le (Nat.mod_lt _ ?_) ?_ <;> omega)) (by decide) dX2_ruleRead_36 (fun H locs hH hS => ?_)
    have hM := hM.vS (k := 16) rfl dd.2.2.length (nI x1.2)
    have hD := hD.wr (k := 16) (by decide) (nI x1.2)
    refine lv_aload_n hx hb dX2_ruleRead_37 rfl (lv_at hl 1 rfl) ?_
    refine hp_callV (As := []) (rest := []) hx hb hml hown hts hPB hK hH hS (mt_someone hK0 hO hM hX (tk := x1.1) rd1 hD hDO) mset_o rfl rfl 0 (lw_V q1726 q1728 qs64 q107 q1729) (by decide +kernel) ⟨rfl, rfl⟩ (by decide) rfl hl.1 rfl (Nat.le_of_ble_eq_true rfl) (by decide) dX2_ruleRead_38 (fun v4 h6 H locs hp5 _ hH hS => ?_)
    obtain ⟨rfl, Prd2, rfl, hM, hkrd2, rd2⟩ := hp5
    refine lvB_ne (tgt := 46) hx hb dX2_ruleRead_41 (by decide) (fun ck2 => ?_) (fun ck2 => ?_)
    · obtain ⟨x2, e2⟩ := xk_t ck2
      rw [e2] at rd2
      obtain ⟨rd2, vrd2⟩ : rdP S x2.1 Prd2 ∧ Prd2 5 = nI x2.2 := rd2
      refine lv_aload_n hx hb dX2_ruleRead_46 rfl (lv_at hl 1 rfl) ?_
      refine m_get hx hb hts hown hK hH 11 (by decide) q1463 rfl (v := .ref (o + 17)) rfl dX2_ruleRead_47 ?_
      refine lv_iconst (v := nI 1) hx hb dX2_ruleRead_50 (by decide) ?_
      refine m_rowI (k' := 19) hx hb hK hH (by decide) rfl (by decide) (by decide) rfl dX2_ruleRead_51 ?_
      refine lv_iload_n hx hb dX2_ruleRead_52 rfl (lv_at hl 0 rfl) ?_
      refine lv_aload_n hx hb dX2_ruleRead_53 rfl (lv_at hl 1 rfl) ?_
      refine m_get hx hb hts hown hK hH 5 (by decide) q1457 rfl (v := .int (nI x2.2)) (congrArg Value.int (vrd2)) dX2_ruleRead_54 ?_
      refine m_iast (n := 12) (j := dd.2.2.length) hx hb hK hH hS (by decide) rfl (by first | omega | (refine Nat.lt_of_lt_of_le (Nat.mod_lt _ ?_) ?_ <;> omega)) (by decide) dX2_ruleRead_57 (fun H locs hH hS => ?_)
      have hM := hM.vS (k := 19) rfl dd.2.2.length (nI x2.2)
      have hD := hD.wr (k := 19) (by decide) (nI x2.2)
      refine lv_aload_n hx hb dX2_ruleRead_58 rfl (lv_at hl 1 rfl) ?_
      refine lv_aload_n hx hb dX2_ruleRead_59 rfl (lv_at hl 1 rfl) ?_
      refine lv_bipush (v := nI 6) hx hb dX2_ruleRead_60 (by decide) ?_
      refine hp_callV (As := [.int (nI 6)]) (rest := [.ref o]) hx hb hml hown hts hPB hK hH hS (mt_isWord hK0 hO hM hX (tk := x2.1) rd2 (w := 6) (by omega)) mset_o rfl rfl 1 (lw_V q1681 q1683 qs54 q107 q1684) (by decide +kernel) ⟨rfl, rfl⟩ (by decide) rfl hl.1 rfl (Nat.le_of_ble_eq_true rfl) (by decide) dX2_ruleRead_62 (fun v7 h9 H locs hp8 _ hH hS => ?_)
      obtain ⟨rfl, rfl⟩ := hp8
      refine hp_callV (As := [.int (zI (wrdB S x2.1 6))]) (rest := []) hx hb hml hown hts hPB hK hH hS (mt_passes hK0 hO hM (tk := x2.1) rd2 (wrdB S x2.1 6)) mset_o rfl rfl 1 (lw_V q1687 q1689 qs55 q107 q1690) (by decide +kernel) ⟨rfl, rfl⟩ (by decide) rfl hl.1 rfl (Nat.le_of_ble_eq_true rfl) (by decide) dX2_ruleRead_65 (fun v10 h12 H locs hp11 _ hH hS => ?_)
      obtain ⟨rfl, Prd3, rfl, hM, hkrd3, rd3⟩ := hp11
      refine lvB_eq (tgt := 81) hx hb dX2_ruleRead_68 (by decide) (fun cb3 => ?_) (fun cb3 => ?_)
      · rw [pas_f cb3] at rd3
        refine lv_iconst (v := nI 0) hx hb dX2_ruleRead_81 (by decide) ?_
        exact hp_zret hx hb hr rfl hlocks hH hS (by decide) (by decide) dX2_ruleRead_82 (⟨by rw [rdR, e1, xb_ok, e2, xb_ok, pas_f cb3]; rfl, _, _, _, rfl, hM, by rw [rdR, e1, xb_ok, e2, xb_ok, pas_f cb3]; exact rd3⟩)
      · rw [pas_t cb3] at rd3
        have rd3 : rdP S (nx S x2.1.2) Prd3 := rd3
        refine lv_aload_n hx hb dX2_ruleRead_71 rfl (lv_at hl 1 rfl) ?_
        refine lv_iconst (v := nI 1) hx hb dX2_ruleRead_72 (by decide) ?_
        refine lv_bipush (v := nI 9) hx hb dX2_ruleRead_73 (by decide) ?_
        refine hp_callV (As := [.int (nI 1), .int (nI 9)]) (rest := []) hx hb hml hown hts hPB hK hH hS (mt_number hK0 hO hM (tk := (nx S x2.1.2)) rd3 (lo := 1) (hi := 9) (by decide) (by decide)) mset_o rfl rfl 2 (lw_V q1730 q1732 qs65 q107 q1733) (by decide +kernel) ⟨rfl, rfl⟩ (by decide) rfl hl.1 rfl (Nat.le_of_ble_eq_true rfl) (by decide) dX2_ruleRead_75 (fun v13 h15 H locs hp14 _ hH hS => ?_)
        obtain ⟨rfl, Prd4, rfl, hM, hkrd4, rd4⟩ := hp14
        refine lvB_ne (tgt := 83) hx hb dX2_ruleRead_78 (by decide) (fun ck4 => ?_) (fun ck4 => ?_)
        · obtain ⟨x4, e4⟩ := xk_t ck4
          rw [e4] at rd4
          obtain ⟨rd4, vrd4⟩ : rdP S x4.1 Prd4 ∧ Prd4 5 = nI x4.2 := rd4
          refine lv_aload_n hx hb dX2_ruleRead_83 rfl (lv_at hl 1 rfl) ?_
          refine m_get hx hb hts hown hK hH 12 (by decide) q1464 rfl (v := .ref (o + 20)) rfl dX2_ruleRead_84 ?_
          refine lv_iconst (v := nI 1) hx hb dX2_ruleRead_87 (by decide) ?_
          refine m_rowI (k' := 22) hx hb hK hH (by decide) rfl (by decide) (by decide) rfl dX2_ruleRead_88 ?_
          refine lv_iload_n hx hb dX2_ruleRead_89 rfl (lv_at hl 0 rfl) ?_
          refine lv_aload_n hx hb dX2_ruleRead_90 rfl (lv_at hl 1 rfl) ?_
          refine m_get hx hb hts hown hK hH 5 (by decide) q1457 rfl (v := .int (nI x4.2)) (congrArg Value.int (vrd4)) dX2_ruleRead_91 ?_
          refine m_iast (n := 12) (j := dd.2.2.length) hx hb hK hH hS (by decide) rfl (by first | omega | (refine Nat.lt_of_lt_of_le (Nat.mod_lt _ ?_) ?_ <;> omega)) (by decide) dX2_ruleRead_94 (fun H locs hH hS => ?_)
          have hM := hM.vS (k := 22) rfl dd.2.2.length (nI x4.2)
          have hD := hD.wr (k := 22) (by decide) (nI x4.2)
          refine lv_aload_n hx hb dX2_ruleRead_95 rfl (lv_at hl 1 rfl) ?_
          refine m_get hx hb hts hown hK hH 13 (by decide) q1465 rfl (v := .ref (o + 23)) rfl dX2_ruleRead_96 ?_
          refine lv_iconst (v := nI 1) hx hb dX2_ruleRead_99 (by decide) ?_
          refine m_rowI (k' := 25) hx hb hK hH (by decide) rfl (by decide) (by decide) rfl dX2_ruleRead_100 ?_
          refine lv_iload_n hx hb dX2_ruleRead_101 rfl (lv_at hl 0 rfl) ?_
          refine lv_iconst (v := (-1)) hx hb dX2_ruleRead_102 (by decide) ?_
          refine m_iast (n := 12) (j := dd.2.2.length) hx hb hK hH hS (by decide) rfl (by first | omega | (refine Nat.lt_of_lt_of_le (Nat.mod_lt _ ?_) ?_ <;> omega)) (by decide) dX2_ruleRead_103 (fun H locs hH hS => ?_)
          have hM := hM.vS (k := 25) rfl dd.2.2.length (-1)
          have hD := hD.wr (k := 25) (by decide) (-1)
          refine lv_aload_n hx hb dX2_ruleRead_104 rfl (lv_at hl 1 rfl) ?_
          refine m_get hx hb hts hown hK hH 14 (by decide) q1466 rfl (v := .ref (o + 26)) rfl dX2_ruleRead_105 ?_
          refine lv_iconst (v := nI 1) hx hb dX2_ruleRead_108 (by decide) ?_
          refine m_rowI (k' := 28) hx hb hK hH (by decide) rfl (by decide) (by decide) rfl dX2_ruleRead_109 ?_
          refine lv_iload_n hx hb dX2_ruleRead_110 rfl (lv_at hl 0 rfl) ?_
          refine lv_iconst (v := (-1)) hx hb dX2_ruleRead_111 (by decide) ?_
          refine m_iast (n := 12) (j := dd.2.2.length) hx hb hK hH hS (by decide) rfl (by first | omega | (refine Nat.lt_of_lt_of_le (Nat.mod_lt _ ?_) ?_ <;> omega)) (by decide) dX2_ruleRead_112 (fun H locs hH hS => ?_)
          have hM := hM.vS (k := 28) rfl dd.2.2.length (-1)
          have hD := hD.wr (k := 28) (by decide) (-1)
          refine lv_aload_n hx hb dX2_ruleRead_113 rfl (lv_at hl 1 rfl) ?_
          refine lv_bipush (v := nI 7) hx hb dX2_ruleRead_114 (by decide) ?_
          refine hp_callV (As := [.int (nI 7)]) (rest := []) hx hb hml hown hts hPB hK hH hS (mt_isWord hK0 hO hM hX (tk := x4.1) rd4 (w := 7) (by omega)) mset_o rfl rfl 1 (lw_V q1681 q1683 qs54 q107 q1684) (by decide +kernel) ⟨rfl, rfl⟩ (by decide) rfl hl.1 rfl (Nat.le_of_ble_eq_true rfl) (by decide) dX2_ruleRead_116 (fun v16 h18 H locs hp17 _ hH hS => ?_)
          obtain ⟨rfl, rfl⟩ := hp17
          refine lvB_eq (tgt := 149) hx hb dX2_ruleRead_119 (by decide) (fun c7 => ?_) (fun c7 => ?_)
          · have e5b : rdI S x4.1 = .ok (x4.1, -1) := by unfold rdI; rw [if_neg (by rw [c7]; decide)]
            refine lv_aload_n hx hb dX2_ruleRead_149 rfl (lv_at hl 1 rfl) ?_
            refine lv_bipush (v := nI 8) hx hb dX2_ruleRead_150 (by decide) ?_
            refine hp_callV (As := [.int (nI 8)]) (rest := []) hx hb hml hown hts hPB hK hH hS (mt_isWord hK0 hO hM hX (tk := x4.1) rd4 (w := 8) (by omega)) mset_o rfl rfl 1 (lw_V q1681 q1683 qs54 q107 q1684) (by decide +kernel) ⟨rfl, rfl⟩ (by decide) rfl hl.1 rfl (Nat.le_of_ble_eq_true rfl) (by decide) dX2_ruleRead_152 (fun v19 h21 H locs hp20 _ hH hS => ?_)
            obtain ⟨rfl, rfl⟩ := hp20
            refine lvB_eq (tgt := 216) hx hb dX2_ruleRead_155 (by decide) (fun c8 => ?_) (fun c8 => ?_)
            · have e6b : rdU S dd x4.1 = .ok (x4.1, -1) := by unfold rdU; rw [if_neg (by rw [c8]; decide)]
              refine lv_aload_n hx hb dX2_ruleRead_216 rfl (lv_at hl 1 rfl) ?_
              refine m_get hx hb hts hown hK hH 17 (by decide) q1469 rfl (v := .ref (o + 31)) rfl dX2_ruleRead_217 ?_
              refine lv_iconst (v := nI 1) hx hb dX2_ruleRead_220 (by decide) ?_
              refine lv_dup2_11 hx hb dX2_ruleRead_221 rfl rfl ?_
              refine m_iald (n := 2) (j := 1) (v := nI dd.2.2.length) hx hb hK hH (by decide) rfl (by first | omega | (refine Nat.lt_of_lt_of_le (Nat.mod_lt _ ?_) ?_ <;> omega)) (by decide) (hD.1.2.2) dX2_ruleRead_222 ?_
              refine lv_iconst (v := nI 1) hx hb dX2_ruleRead_223 (by decide) ?_
              refine lv_iadd hx hb dX2_ruleRead_224 ?_
              refine lv_top (y := nI (dd.2.2.length + 1)) (nI_add _ _) ?_
              refine m_iast (n := 2) (j := 1) hx hb hK hH hS (by decide) rfl (by first | omega | (refine Nat.lt_of_lt_of_le (Nat.mod_lt _ ?_) ?_ <;> omega)) (by decide) dX2_ruleRead_225 (fun H locs hH hS => ?_)
              have hM := hM.w1 (k := 31) (by decide) (nI (dd.2.2.length + 1))
              refine lv_aload_n hx hb dX2_ruleRead_226 rfl (lv_at hl 1 rfl) ?_
              refine hp_callV (As := []) (rest := []) hx hb hml hown hts hPB hK hH hS (mt_closes hK0 hO hM (tk := x4.1) rd4) mset_o rfl rfl 0 (lw_V q1714 q1716 qs61 q107 q1717) (by decide +kernel) ⟨rfl, rfl⟩ (by decide) rfl hl.1 rfl (Nat.le_of_ble_eq_true rfl) (by decide) dX2_ruleRead_227 (fun v22 h24 H locs hp23 _ hH hS => ?_)
              obtain ⟨rfl, Prd7, rfl, hM, hkrd7, rd7⟩ := hp23
              exact hp_zret hx hb hr (zI_nar _) hlocks hH hS (by decide) (by decide) dX2_ruleRead_230 (⟨by rw [rdR, e1, xb_ok, e2, xb_ok, pas_t cb3, xb_ok, e4, xb_ok, e5b, xb_ok, e6b, xb_ok]; exact xk_cl _ _, _, _, _, rfl, hM, by rw [rdR, e1, xb_ok, e2, xb_ok, pas_t cb3, xb_ok, e4, xb_ok, e5b, xb_ok, e6b, xb_ok]; exact rdE_cl rd7 (drR_R hD (kd, x1.2, x2.2, x4.2, -1, -1) (fun k hk => by revert hk; revert k; simp [vset, va_up]) (fun k hk i hi => by rw [vset_off _ _ (fun q => by rw [q] at hk; revert hk; decide)]) ⟨by simp [vset, va_up, upd], by simp [vset, va_up, upd], by simp [vset, va_up, upd], by simp [vset, va_up, upd], by simp [vset, va_up, upd], by simp [vset, va_up, upd]⟩ (vset_self _ _ _ _)) (addR_ok hDO ⟨hkd, (rdS_ok htk e1).2.1, (rdS_ok rd1.2.2.2 e2).2.1, (rdN_ok rd3.2.2.2 e4).2.1, (rdI_ok rd4.2.2.2 e5b).2.1, (rdU_ok rd4.2.2.2 e6b).2.1⟩ h12)⟩)
            · refine lv_aload_n hx hb dX2_ruleRead_158 rfl (lv_at hl 1 rfl) ?_
              refine hp_callV (As := []) (rest := []) hx hb hml hown hts hPB hK hH hS (mt_next hK0 hO hM (t := x4.1.2) rd4.2.1 rd4.2.2.2.1.2) mset_o rfl rfl 0 (lw_V q1669 q1671 qs51 q107 q1672) (by decide +kernel) ⟨rfl, rfl⟩ (by decide) rfl hl.1 rfl (Nat.le_of_ble_eq_true rfl) (by decide) dX2_ruleRead_159 (fun v25 h27 H locs hp26 _ hH hS => ?_)
              obtain ⟨rfl, Pn6, rfl, hM, hkn6, en2, en3⟩ := hp26
              have hn6 := nx_rdP rd4 hkn6 en2 en3
              refine lv_aload_n hx hb dX2_ruleRead_162 rfl (lv_at hl 1 rfl) ?_
              refine hp_callV (As := []) (rest := []) hx hb hml hown hts hPB hK hH hS (mt_named hK0 hO hM hX (tk := (nx S x4.1.2)) hn6) mset_o rfl rfl 0 (lw_V q1695 q1697 qs57 q107 q1698) (by decide +kernel) ⟨rfl, rfl⟩ (by decide) rfl hl.1 rfl (Nat.le_of_ble_eq_true rfl) (by decide) dX2_ruleRead_163 (fun v28 h30 H locs hp29 _ hH hS => ?_)
              obtain ⟨rfl, rfl⟩ := hp29
              refine lv_lstore_n (lv' := [(3, .long (nmJ (namS S (nx S x4.1.2)))), (2, .int (nI dd.2.2.length)), (0, .ref o), (1, .int (nI kd))]) hx hb dX2_ruleRead_166 rfl hl (by decide) rfl (fun ls hl => ?_)
              refine lv_lload_n hx hb dX2_ruleRead_167 rfl (lv_at hl 0 rfl) ?_
              refine lv_ldc2 (v := -1) hx hb hown (hts _ q1699) dX2_ruleRead_168 ?_
              refine W.lcmp hx hb dX2_ruleRead_171 ?_
              refine lv_if_ne (tgt := 179) hx hb dX2_ruleRead_172 (by decide) (fun cn => ?_) (fun cn => ?_)
              · have cn := fun q => cmp_ne cn ((nmJ_m1 (nam_ok hn6.2.2.2)).mpr q)
                refine lv_aload_n hx hb dX2_ruleRead_179 rfl (lv_at hl 2 rfl) ?_
                refine lv_lload_n hx hb dX2_ruleRead_180 rfl (lv_at hl 0 rfl) ?_
                refine hp_callV (As := [.long (nmJ (namS S (nx S x4.1.2)))]) (rest := []) hx hb hml hown hts hPB hK hH hS (mt_markOfN hK0 hO hM hD hDO (nam_ok hn6.2.2.2) cn) mset_o rfl rfl 1 (lw_V q1710 q1712 qs60 q107 q1713) (by decide +kernel) ⟨rfl, rfl⟩ (by decide) rfl hl.1 rfl (Nat.le_of_ble_eq_true rfl) (by decide) dX2_ruleRead_181 (fun v31 h33 H locs hp32 _ hH hS => ?_)
                obtain ⟨rfl, rfl⟩ := hp32
                refine lv_istore (lv' := [(5, .int (oI (mrkO dd (namS S (nx S x4.1.2))))), (3, .long (nmJ (namS S (nx S x4.1.2)))), (2, .int (nI dd.2.2.length)), (0, .ref o), (1, .int (nI kd))]) hx hb dX2_ruleRead_184 hl (by decide) rfl (fun ls hl => ?_)
                refine lv_aload_n hx hb dX2_ruleRead_186 rfl (lv_at hl 3 rfl) ?_
                refine lv_iload hx hb dX2_ruleRead_187 (lv_at hl 0 rfl) ?_
                refine lv_iconst (v := (-1)) hx hb dX2_ruleRead_189 (by decide) ?_
                refine lv_icmp_eq (tgt := 197) hx hb dX2_ruleRead_190 (by decide) (fun cm => ?_) (fun cm => ?_)
                · have cm := (mrk_oI hDO _).mp cm
                  refine lv_iconst (v := nI 0) hx hb dX2_ruleRead_197 (by decide) ?_
                  refine hp_callV (As := [.int (nI 0)]) (rest := []) hx hb hml hown hts hPB hK hH hS (mt_passes hK0 hO hM (tk := (nx S x4.1.2)) hn6 false) mset_o rfl rfl 1 (lw_V q1687 q1689 qs55 q107 q1690) (by decide +kernel) ⟨rfl, rfl⟩ (by decide) rfl hl.1 rfl (Nat.le_of_ble_eq_true rfl) (by decide) dX2_ruleRead_198 (fun v34 h36 H locs hp35 _ hH hS => ?_)
                  obtain ⟨rfl, Prd6, rfl, hM, hkrd6, rd6⟩ := hp35
                  refine lvB_ne (tgt := 206) hx hb dX2_ruleRead_201 (by decide) (fun cq => ?_) (fun cq => ?_)
                  · cases cq
                  · refine lv_iconst (v := nI 0) hx hb dX2_ruleRead_204 (by decide) ?_
                    exact hp_zret hx hb hr rfl hlocks hH hS (by decide) (by decide) dX2_ruleRead_205 (⟨by rw [rdR, e1, xb_ok, e2, xb_ok, pas_t cb3, xb_ok, e4, xb_ok, e5b, xb_ok, show rdU S dd x4.1 = .error ((nx S x4.1.2)).1 by unfold rdU; rw [if_pos c8, pas_f (by rw [cm]; rfl)]; rfl]; rfl, _, _, _, rfl, hM, by rw [rdR, e1, xb_ok, e2, xb_ok, pas_t cb3, xb_ok, e4, xb_ok, e5b, xb_ok, show rdU S dd x4.1 = .error ((nx S x4.1.2)).1 by unfold rdU; rw [if_pos c8, pas_f (by rw [cm]; rfl)]; rfl]; exact rd6⟩)
                · have cm := fun q => cm ((mrk_oI hDO _).mpr q)
                  obtain ⟨m9, em⟩ := Option.ne_none_iff_exists'.mp cm
                  rw [em] at hl
                  have hml9 := mrk_lt em
                  refine lv_iconst (v := nI 1) hx hb dX2_ruleRead_193 (by decide) ?_
                  refine lv_goto (tgt := 198) hx hb dX2_ruleRead_194 (by decide) ?_
                  refine hp_callV (As := [.int (nI 1)]) (rest := []) hx hb hml hown hts hPB hK hH hS (mt_passes hK0 hO hM (tk := (nx S x4.1.2)) hn6 true) mset_o rfl rfl 1 (lw_V q1687 q1689 qs55 q107 q1690) (by decide +kernel) ⟨rfl, rfl⟩ (by decide) rfl hl.1 rfl (Nat.le_of_ble_eq_true rfl) (by decide) dX2_ruleRead_198 (fun v37 h39 H locs hp38 _ hH hS => ?_)
                  obtain ⟨rfl, Prd6, rfl, hM, hkrd6, rd6⟩ := hp38
                  refine lvB_ne (tgt := 206) hx hb dX2_ruleRead_201 (by decide) (fun cq => ?_) (fun cq => ?_)
                  · have rd6 : rdP S (nx S (nx S x4.1.2).2) Prd6 := rd6
                    refine lv_aload_n hx hb dX2_ruleRead_206 rfl (lv_at hl 3 rfl) ?_
                    refine m_get hx hb hts hown hK hH 14 (by decide) q1466 rfl (v := .ref (o + 26)) rfl dX2_ruleRead_207 ?_
                    refine lv_iconst (v := nI 1) hx hb dX2_ruleRead_210 (by decide) ?_
                    refine m_rowI (k' := 28) hx hb hK hH (by decide) rfl (by decide) (by decide) rfl dX2_ruleRead_211 ?_
                    refine lv_iload_n hx hb dX2_ruleRead_212 rfl (lv_at hl 2 rfl) ?_
                    refine lv_iload hx hb dX2_ruleRead_213 (lv_at hl 0 rfl) ?_
                    refine m_iast (n := 12) (j := dd.2.2.length) hx hb hK hH hS (by decide) rfl (by first | omega | (refine Nat.lt_of_lt_of_le (Nat.mod_lt _ ?_) ?_ <;> omega)) (by decide) dX2_ruleRead_215 (fun H locs hH hS => ?_)
                    have hM := hM.vS (k := 28) rfl dd.2.2.length (nI m9)
                    have hD := hD.wr (k := 28) (by decide) (nI m9)
                    have e6b : rdU S dd x4.1 = .ok (nx S (nx S x4.1.2).2, nI m9) := by unfold rdU; rw [if_pos c8, pas_t (by rw [em]; rfl), xb_ok, em]; rfl
                    refine lv_aload_n hx hb dX2_ruleRead_216 rfl (lv_at hl 3 rfl) ?_
                    refine m_get hx hb hts hown hK hH 17 (by decide) q1469 rfl (v := .ref (o + 31)) rfl dX2_ruleRead_217 ?_
                    refine lv_iconst (v := nI 1) hx hb dX2_ruleRead_220 (by decide) ?_
                    refine lv_dup2_11 hx hb dX2_ruleRead_221 rfl rfl ?_
                    refine m_iald (n := 2) (j := 1) (v := nI dd.2.2.length) hx hb hK hH (by decide) rfl (by first | omega | (refine Nat.lt_of_lt_of_le (Nat.mod_lt _ ?_) ?_ <;> omega)) (by decide) (hD.1.2.2) dX2_ruleRead_222 ?_
                    refine lv_iconst (v := nI 1) hx hb dX2_ruleRead_223 (by decide) ?_
                    refine lv_iadd hx hb dX2_ruleRead_224 ?_
                    refine lv_top (y := nI (dd.2.2.length + 1)) (nI_add _ _) ?_
                    refine m_iast (n := 2) (j := 1) hx hb hK hH hS (by decide) rfl (by first | omega | (refine Nat.lt_of_lt_of_le (Nat.mod_lt _ ?_) ?_ <;> omega)) (by decide) dX2_ruleRead_225 (fun H locs hH hS => ?_)
                    have hM := hM.w1 (k := 31) (by decide) (nI (dd.2.2.length + 1))
                    refine lv_aload_n hx hb dX2_ruleRead_226 rfl (lv_at hl 3 rfl) ?_
                    refine hp_callV (As := []) (rest := []) hx hb hml hown hts hPB hK hH hS (mt_closes hK0 hO hM (tk := (nx S (nx S x4.1.2).2)) rd6) mset_o rfl rfl 0 (lw_V q1714 q1716 qs61 q107 q1717) (by decide +kernel) ⟨rfl, rfl⟩ (by decide) rfl hl.1 rfl (Nat.le_of_ble_eq_true rfl) (by decide) dX2_ruleRead_227 (fun v40 h42 H locs hp41 _ hH hS => ?_)
                    obtain ⟨rfl, Prd7, rfl, hM, hkrd7, rd7⟩ := hp41
                    exact hp_zret hx hb hr (zI_nar _) hlocks hH hS (by decide) (by decide) dX2_ruleRead_230 (⟨by rw [rdR, e1, xb_ok, e2, xb_ok, pas_t cb3, xb_ok, e4, xb_ok, e5b, xb_ok, e6b, xb_ok]; exact xk_cl _ _, _, _, _, rfl, hM, by rw [rdR, e1, xb_ok, e2, xb_ok, pas_t cb3, xb_ok, e4, xb_ok, e5b, xb_ok, e6b, xb_ok]; exact rdE_cl rd7 (drR_R hD (kd, x1.2, x2.2, x4.2, -1, nI m9) (fun k hk => by revert hk; revert k; simp [vset, va_up]) (fun k hk i hi => by rw [vset_off _ _ (fun q => by rw [q] at hk; revert hk; decide)]) ⟨by simp [vset, va_up, upd], by simp [vset, va_up, upd], by simp [vset, va_up, upd], by simp [vset, va_up, upd], by simp [vset, va_up, upd], by simp [vset, va_up, upd]⟩ (vset_self _ _ _ _)) (addR_ok hDO ⟨hkd, (rdS_ok htk e1).2.1, (rdS_ok rd1.2.2.2 e2).2.1, (rdN_ok rd3.2.2.2 e4).2.1, (rdI_ok rd4.2.2.2 e5b).2.1, (rdU_ok rd4.2.2.2 e6b).2.1⟩ h12)⟩)
                  · cases cq
              · have cn := (nmJ_m1 (nam_ok hn6.2.2.2)).mp (cmp_eq cn)
                refine lv_iconst (v := (-1)) hx hb dX2_ruleRead_175 (by decide) ?_
                refine lv_goto (tgt := 184) hx hb dX2_ruleRead_176 (by decide) ?_
                refine lv_top (y := oI (mrkO dd (namS S (nx S x4.1.2)))) (by rw [cn]; rfl) ?_
                refine lv_istore (lv' := [(5, .int (oI (mrkO dd (namS S (nx S x4.1.2))))), (3, .long (nmJ (namS S (nx S x4.1.2)))), (2, .int (nI dd.2.2.length)), (0, .ref o), (1, .int (nI kd))]) hx hb dX2_ruleRead_184 hl (by decide) rfl (fun ls hl => ?_)
                refine lv_aload_n hx hb dX2_ruleRead_186 rfl (lv_at hl 3 rfl) ?_
                refine lv_iload hx hb dX2_ruleRead_187 (lv_at hl 0 rfl) ?_
                refine lv_iconst (v := (-1)) hx hb dX2_ruleRead_189 (by decide) ?_
                refine lv_icmp_eq (tgt := 197) hx hb dX2_ruleRead_190 (by decide) (fun cm => ?_) (fun cm => ?_)
                · have cm := (mrk_oI hDO _).mp cm
                  refine lv_iconst (v := nI 0) hx hb dX2_ruleRead_197 (by decide) ?_
                  refine hp_callV (As := [.int (nI 0)]) (rest := []) hx hb hml hown hts hPB hK hH hS (mt_passes hK0 hO hM (tk := (nx S x4.1.2)) hn6 false) mset_o rfl rfl 1 (lw_V q1687 q1689 qs55 q107 q1690) (by decide +kernel) ⟨rfl, rfl⟩ (by decide) rfl hl.1 rfl (Nat.le_of_ble_eq_true rfl) (by decide) dX2_ruleRead_198 (fun v43 h45 H locs hp44 _ hH hS => ?_)
                  obtain ⟨rfl, Prd6, rfl, hM, hkrd6, rd6⟩ := hp44
                  refine lvB_ne (tgt := 206) hx hb dX2_ruleRead_201 (by decide) (fun cq => ?_) (fun cq => ?_)
                  · cases cq
                  · refine lv_iconst (v := nI 0) hx hb dX2_ruleRead_204 (by decide) ?_
                    exact hp_zret hx hb hr rfl hlocks hH hS (by decide) (by decide) dX2_ruleRead_205 (⟨by rw [rdR, e1, xb_ok, e2, xb_ok, pas_t cb3, xb_ok, e4, xb_ok, e5b, xb_ok, show rdU S dd x4.1 = .error ((nx S x4.1.2)).1 by unfold rdU; rw [if_pos c8, pas_f (by rw [cm]; rfl)]; rfl]; rfl, _, _, _, rfl, hM, by rw [rdR, e1, xb_ok, e2, xb_ok, pas_t cb3, xb_ok, e4, xb_ok, e5b, xb_ok, show rdU S dd x4.1 = .error ((nx S x4.1.2)).1 by unfold rdU; rw [if_pos c8, pas_f (by rw [cm]; rfl)]; rfl]; exact rd6⟩)
                · have cm := fun q => cm ((mrk_oI hDO _).mpr q)
                  obtain ⟨m9, em⟩ := Option.ne_none_iff_exists'.mp cm
                  rw [em] at hl
                  have hml9 := mrk_lt em
                  refine lv_iconst (v := nI 1) hx hb dX2_ruleRead_193 (by decide) ?_
                  refine lv_goto (tgt := 198) hx hb dX2_ruleRead_194 (by decide) ?_
                  refine hp_callV (As := [.int (nI 1)]) (rest := []) hx hb hml hown hts hPB hK hH hS (mt_passes hK0 hO hM (tk := (nx S x4.1.2)) hn6 true) mset_o rfl rfl 1 (lw_V q1687 q1689 qs55 q107 q1690) (by decide +kernel) ⟨rfl, rfl⟩ (by decide) rfl hl.1 rfl (Nat.le_of_ble_eq_true rfl) (by decide) dX2_ruleRead_198 (fun v46 h48 H locs hp47 _ hH hS => ?_)
                  obtain ⟨rfl, Prd6, rfl, hM, hkrd6, rd6⟩ := hp47
                  refine lvB_ne (tgt := 206) hx hb dX2_ruleRead_201 (by decide) (fun cq => ?_) (fun cq => ?_)
                  · have rd6 : rdP S (nx S (nx S x4.1.2).2) Prd6 := rd6
                    refine lv_aload_n hx hb dX2_ruleRead_206 rfl (lv_at hl 3 rfl) ?_
                    refine m_get hx hb hts hown hK hH 14 (by decide) q1466 rfl (v := .ref (o + 26)) rfl dX2_ruleRead_207 ?_
                    refine lv_iconst (v := nI 1) hx hb dX2_ruleRead_210 (by decide) ?_
                    refine m_rowI (k' := 28) hx hb hK hH (by decide) rfl (by decide) (by decide) rfl dX2_ruleRead_211 ?_
                    refine lv_iload_n hx hb dX2_ruleRead_212 rfl (lv_at hl 2 rfl) ?_
                    refine lv_iload hx hb dX2_ruleRead_213 (lv_at hl 0 rfl) ?_
                    refine m_iast (n := 12) (j := dd.2.2.length) hx hb hK hH hS (by decide) rfl (by first | omega | (refine Nat.lt_of_lt_of_le (Nat.mod_lt _ ?_) ?_ <;> omega)) (by decide) dX2_ruleRead_215 (fun H locs hH hS => ?_)
                    have hM := hM.vS (k := 28) rfl dd.2.2.length (nI m9)
                    have hD := hD.wr (k := 28) (by decide) (nI m9)
                    have e6b : rdU S dd x4.1 = .ok (nx S (nx S x4.1.2).2, nI m9) := by unfold rdU; rw [if_pos c8, pas_t (by rw [em]; rfl), xb_ok, em]; rfl
                    refine lv_aload_n hx hb dX2_ruleRead_216 rfl (lv_at hl 3 rfl) ?_
                    refine m_get hx hb hts hown hK hH 17 (by decide) q1469 rfl (v := .ref (o + 31)) rfl dX2_ruleRead_217 ?_
                    refine lv_iconst (v := nI 1) hx hb dX2_ruleRead_220 (by decide) ?_
                    refine lv_dup2_11 hx hb dX2_ruleRead_221 rfl rfl ?_
                    refine m_iald (n := 2) (j := 1) (v := nI dd.2.2.length) hx hb hK hH (by decide) rfl (by first | omega | (refine Nat.lt_of_lt_of_le (Nat.mod_lt _ ?_) ?_ <;> omega)) (by decide) (hD.1.2.2) dX2_ruleRead_222 ?_
                    refine lv_iconst (v := nI 1) hx hb dX2_ruleRead_223 (by decide) ?_
                    refine lv_iadd hx hb dX2_ruleRead_224 ?_
                    refine lv_top (y := nI (dd.2.2.length + 1)) (nI_add _ _) ?_
                    refine m_iast (n := 2) (j := 1) hx hb hK hH hS (by decide) rfl (by first | omega | (refine Nat.lt_of_lt_of_le (Nat.mod_lt _ ?_) ?_ <;> omega)) (by decide) dX2_ruleRead_225 (fun H locs hH hS => ?_)
                    have hM := hM.w1 (k := 31) (by decide) (nI (dd.2.2.length + 1))
                    refine lv_aload_n hx hb dX2_ruleRead_226 rfl (lv_at hl 3 rfl) ?_
                    refine hp_callV (As := []) (rest := []) hx hb hml hown hts hPB hK hH hS (mt_closes hK0 hO hM (tk := (nx S (nx S x4.1.2).2)) rd6) mset_o rfl rfl 0 (lw_V q1714 q1716 qs61 q107 q1717) (by decide +kernel) ⟨rfl, rfl⟩ (by decide) rfl hl.1 rfl (Nat.le_of_ble_eq_true rfl) (by decide) dX2_ruleRead_227 (fun v49 h51 H locs hp50 _ hH hS => ?_)
                    obtain ⟨rfl, Prd7, rfl, hM, hkrd7, rd7⟩ := hp50
                    exact hp_zret hx hb hr (zI_nar _) hlocks hH hS (by decide) (by decide) dX2_ruleRead_230 (⟨by rw [rdR, e1, xb_ok, e2, xb_ok, pas_t cb3, xb_ok, e4, xb_ok, e5b, xb_ok, e6b, xb_ok]; exact xk_cl _ _, _, _, _, rfl, hM, by rw [rdR, e1, xb_ok, e2, xb_ok, pas_t cb3, xb_ok, e4, xb_ok, e5b, xb_ok, e6b, xb_ok]; exact rdE_cl rd7 (drR_R hD (kd, x1.2, x2.2, x4.2, -1, nI m9) (fun k hk => by revert hk; revert k; simp [vset, va_up]) (fun k hk i hi => by rw [vset_off _ _ (fun q => by rw [q] at hk; revert hk; decide)]) ⟨by simp [vset, va_up, upd], by simp [vset, va_up, upd], by simp [vset, va_up, upd], by simp [vset, va_up, upd], by simp [vset, va_up, upd], by simp [vset, va_up, upd]⟩ (vset_self _ _ _ _)) (addR_ok hDO ⟨hkd, (rdS_ok htk e1).2.1, (rdS_ok rd1.2.2.2 e2).2.1, (rdN_ok rd3.2.2.2 e4).2.1, (rdI_ok rd4.2.2.2 e5b).2.1, (rdU_ok rd4.2.2.2 e6b).2.1⟩ h12)⟩)
                  · cases cq
          · refine lv_aload_n hx hb dX2_ruleRead_122 rfl (lv_at hl 1 rfl) ?_
            refine hp_callV (As := []) (rest := []) hx hb hml hown hts hPB hK hH hS (mt_next hK0 hO hM (t := x4.1.2) rd4.2.1 rd4.2.2.2.1.2) mset_o rfl rfl 0 (lw_V q1669 q1671 qs51 q107 q1672) (by decide +kernel) ⟨rfl, rfl⟩ (by decide) rfl hl.1 rfl (Nat.le_of_ble_eq_true rfl) (by decide) dX2_ruleRead_123 (fun v52 h54 H locs hp53 _ hH hS => ?_)
            obtain ⟨rfl, Pn5, rfl, hM, hkn5, en2, en3⟩ := hp53
            have hn5 := nx_rdP rd4 hkn5 en2 en3
            refine lv_aload_n hx hb dX2_ruleRead_126 rfl (lv_at hl 1 rfl) ?_
            refine lv_iconst (v := nI 0) hx hb dX2_ruleRead_127 (by decide) ?_
            refine lv_iconst (v := nI 3) hx hb dX2_ruleRead_128 (by decide) ?_
            refine hp_callV (As := [.int (nI 0), .int (nI 3)]) (rest := []) hx hb hml hown hts hPB hK hH hS (mt_number hK0 hO hM (tk := (nx S x4.1.2)) hn5 (lo := 0) (hi := 3) (by decide) (by decide)) mset_o rfl rfl 2 (lw_V q1730 q1732 qs65 q107 q1733) (by decide +kernel) ⟨rfl, rfl⟩ (by decide) rfl hl.1 rfl (Nat.le_of_ble_eq_true rfl) (by decide) dX2_ruleRead_129 (fun v55 h57 H locs hp56 _ hH hS => ?_)
            obtain ⟨rfl, Prd5, rfl, hM, hkrd5, rd5⟩ := hp56
            refine lvB_ne (tgt := 137) hx hb dX2_ruleRead_132 (by decide) (fun ck5 => ?_) (fun ck5 => ?_)
            · obtain ⟨x5, e5⟩ := xk_t ck5
              rw [e5] at rd5
              obtain ⟨rd5, vrd5⟩ : rdP S x5.1 Prd5 ∧ Prd5 5 = nI x5.2 := rd5
              refine lv_aload_n hx hb dX2_ruleRead_137 rfl (lv_at hl 1 rfl) ?_
              refine m_get hx hb hts hown hK hH 13 (by decide) q1465 rfl (v := .ref (o + 23)) rfl dX2_ruleRead_138 ?_
              refine lv_iconst (v := nI 1) hx hb dX2_ruleRead_141 (by decide) ?_
              refine m_rowI (k' := 25) hx hb hK hH (by decide) rfl (by decide) (by decide) rfl dX2_ruleRead_142 ?_
              refine lv_iload_n hx hb dX2_ruleRead_143 rfl (lv_at hl 0 rfl) ?_
              refine lv_aload_n hx hb dX2_ruleRead_144 rfl (lv_at hl 1 rfl) ?_
              refine m_get hx hb hts hown hK hH 5 (by decide) q1457 rfl (v := .int (nI x5.2)) (congrArg Value.int (vrd5)) dX2_ruleRead_145 ?_
              refine m_iast (n := 12) (j := dd.2.2.length) hx hb hK hH hS (by decide) rfl (by first | omega | (refine Nat.lt_of_lt_of_le (Nat.mod_lt _ ?_) ?_ <;> omega)) (by decide) dX2_ruleRead_148 (fun H locs hH hS => ?_)
              have hM := hM.vS (k := 25) rfl dd.2.2.length (nI x5.2)
              have hD := hD.wr (k := 25) (by decide) (nI x5.2)
              have e5b : rdI S x4.1 = .ok (x5.1, nI x5.2) := by unfold rdI; rw [if_pos c7, e5]; rfl
              refine lv_aload_n hx hb dX2_ruleRead_149 rfl (lv_at hl 1 rfl) ?_
              refine lv_bipush (v := nI 8) hx hb dX2_ruleRead_150 (by decide) ?_
              refine hp_callV (As := [.int (nI 8)]) (rest := []) hx hb hml hown hts hPB hK hH hS (mt_isWord hK0 hO hM hX (tk := x5.1) rd5 (w := 8) (by omega)) mset_o rfl rfl 1 (lw_V q1681 q1683 qs54 q107 q1684) (by decide +kernel) ⟨rfl, rfl⟩ (by decide) rfl hl.1 rfl (Nat.le_of_ble_eq_true rfl) (by decide) dX2_ruleRead_152 (fun v58 h60 H locs hp59 _ hH hS => ?_)
              obtain ⟨rfl, rfl⟩ := hp59
              refine lvB_eq (tgt := 216) hx hb dX2_ruleRead_155 (by decide) (fun c8 => ?_) (fun c8 => ?_)
              · have e6b : rdU S dd x5.1 = .ok (x5.1, -1) := by unfold rdU; rw [if_neg (by rw [c8]; decide)]
                refine lv_aload_n hx hb dX2_ruleRead_216 rfl (lv_at hl 1 rfl) ?_
                refine m_get hx hb hts hown hK hH 17 (by decide) q1469 rfl (v := .ref (o + 31)) rfl dX2_ruleRead_217 ?_
                refine lv_iconst (v := nI 1) hx hb dX2_ruleRead_220 (by decide) ?_
                refine lv_dup2_11 hx hb dX2_ruleRead_221 rfl rfl ?_
                refine m_iald (n := 2) (j := 1) (v := nI dd.2.2.length) hx hb hK hH (by decide) rfl (by first | omega | (refine Nat.lt_of_lt_of_le (Nat.mod_lt _ ?_) ?_ <;> omega)) (by decide) (hD.1.2.2) dX2_ruleRead_222 ?_
                refine lv_iconst (v := nI 1) hx hb dX2_ruleRead_223 (by decide) ?_
                refine lv_iadd hx hb dX2_ruleRead_224 ?_
                refine lv_top (y := nI (dd.2.2.length + 1)) (nI_add _ _) ?_
                refine m_iast (n := 2) (j := 1) hx hb hK hH hS (by decide) rfl (by first | omega | (refine Nat.lt_of_lt_of_le (Nat.mod_lt _ ?_) ?_ <;> omega)) (by decide) dX2_ruleRead_225 (fun H locs hH hS => ?_)
                have hM := hM.w1 (k := 31) (by decide) (nI (dd.2.2.length + 1))
                refine lv_aload_n hx hb dX2_ruleRead_226 rfl (lv_at hl 1 rfl) ?_
                refine hp_callV (As := []) (rest := []) hx hb hml hown hts hPB hK hH hS (mt_closes hK0 hO hM (tk := x5.1) rd5) mset_o rfl rfl 0 (lw_V q1714 q1716 qs61 q107 q1717) (by decide +kernel) ⟨rfl, rfl⟩ (by decide) rfl hl.1 rfl (Nat.le_of_ble_eq_true rfl) (by decide) dX2_ruleRead_227 (fun v61 h63 H locs hp62 _ hH hS => ?_)
                obtain ⟨rfl, Prd7, rfl, hM, hkrd7, rd7⟩ := hp62
                exact hp_zret hx hb hr (zI_nar _) hlocks hH hS (by decide) (by decide) dX2_ruleRead_230 (⟨by rw [rdR, e1, xb_ok, e2, xb_ok, pas_t cb3, xb_ok, e4, xb_ok, e5b, xb_ok, e6b, xb_ok]; exact xk_cl _ _, _, _, _, rfl, hM, by rw [rdR, e1, xb_ok, e2, xb_ok, pas_t cb3, xb_ok, e4, xb_ok, e5b, xb_ok, e6b, xb_ok]; exact rdE_cl rd7 (drR_R hD (kd, x1.2, x2.2, x4.2, nI x5.2, -1) (fun k hk => by revert hk; revert k; simp [vset, va_up]) (fun k hk i hi => by rw [vset_off _ _ (fun q => by rw [q] at hk; revert hk; decide)]) ⟨by simp [vset, va_up, upd], by simp [vset, va_up, upd], by simp [vset, va_up, upd], by simp [vset, va_up, upd], by simp [vset, va_up, upd], by simp [vset, va_up, upd]⟩ (vset_self _ _ _ _)) (addR_ok hDO ⟨hkd, (rdS_ok htk e1).2.1, (rdS_ok rd1.2.2.2 e2).2.1, (rdN_ok rd3.2.2.2 e4).2.1, (rdI_ok rd4.2.2.2 e5b).2.1, (rdU_ok rd5.2.2.2 e6b).2.1⟩ h12)⟩)
              · refine lv_aload_n hx hb dX2_ruleRead_158 rfl (lv_at hl 1 rfl) ?_
                refine hp_callV (As := []) (rest := []) hx hb hml hown hts hPB hK hH hS (mt_next hK0 hO hM (t := x5.1.2) rd5.2.1 rd5.2.2.2.1.2) mset_o rfl rfl 0 (lw_V q1669 q1671 qs51 q107 q1672) (by decide +kernel) ⟨rfl, rfl⟩ (by decide) rfl hl.1 rfl (Nat.le_of_ble_eq_true rfl) (by decide) dX2_ruleRead_159 (fun v64 h66 H locs hp65 _ hH hS => ?_)
                obtain ⟨rfl, Pn6, rfl, hM, hkn6, en2, en3⟩ := hp65
                have hn6 := nx_rdP rd5 hkn6 en2 en3
                refine lv_aload_n hx hb dX2_ruleRead_162 rfl (lv_at hl 1 rfl) ?_
                refine hp_callV (As := []) (rest := []) hx hb hml hown hts hPB hK hH hS (mt_named hK0 hO hM hX (tk := (nx S x5.1.2)) hn6) mset_o rfl rfl 0 (lw_V q1695 q1697 qs57 q107 q1698) (by decide +kernel) ⟨rfl, rfl⟩ (by decide) rfl hl.1 rfl (Nat.le_of_ble_eq_true rfl) (by decide) dX2_ruleRead_163 (fun v67 h69 H locs hp68 _ hH hS => ?_)
                obtain ⟨rfl, rfl⟩ := hp68
                refine lv_lstore_n (lv' := [(3, .long (nmJ (namS S (nx S x5.1.2)))), (2, .int (nI dd.2.2.length)), (0, .ref o), (1, .int (nI kd))]) hx hb dX2_ruleRead_166 rfl hl (by decide) rfl (fun ls hl => ?_)
                refine lv_lload_n hx hb dX2_ruleRead_167 rfl (lv_at hl 0 rfl) ?_
                refine lv_ldc2 (v := -1) hx hb hown (hts _ q1699) dX2_ruleRead_168 ?_
                refine W.lcmp hx hb dX2_ruleRead_171 ?_
                refine lv_if_ne (tgt := 179) hx hb dX2_ruleRead_172 (by decide) (fun cn => ?_) (fun cn => ?_)
                · have cn := fun q => cmp_ne cn ((nmJ_m1 (nam_ok hn6.2.2.2)).mpr q)
                  refine lv_aload_n hx hb dX2_ruleRead_179 rfl (lv_at hl 2 rfl) ?_
                  refine lv_lload_n hx hb dX2_ruleRead_180 rfl (lv_at hl 0 rfl) ?_
                  refine hp_callV (As := [.long (nmJ (namS S (nx S x5.1.2)))]) (rest := []) hx hb hml hown hts hPB hK hH hS (mt_markOfN hK0 hO hM hD hDO (nam_ok hn6.2.2.2) cn) mset_o rfl rfl 1 (lw_V q1710 q1712 qs60 q107 q1713) (by decide +kernel) ⟨rfl, rfl⟩ (by decide) rfl hl.1 rfl (Nat.le_of_ble_eq_true rfl) (by decide) dX2_ruleRead_181 (fun v70 h72 H locs hp71 _ hH hS => ?_)
                  obtain ⟨rfl, rfl⟩ := hp71
                  refine lv_istore (lv' := [(5, .int (oI (mrkO dd (namS S (nx S x5.1.2))))), (3, .long (nmJ (namS S (nx S x5.1.2)))), (2, .int (nI dd.2.2.length)), (0, .ref o), (1, .int (nI kd))]) hx hb dX2_ruleRead_184 hl (by decide) rfl (fun ls hl => ?_)
                  refine lv_aload_n hx hb dX2_ruleRead_186 rfl (lv_at hl 3 rfl) ?_
                  refine lv_iload hx hb dX2_ruleRead_187 (lv_at hl 0 rfl) ?_
                  refine lv_iconst (v := (-1)) hx hb dX2_ruleRead_189 (by decide) ?_
                  refine lv_icmp_eq (tgt := 197) hx hb dX2_ruleRead_190 (by decide) (fun cm => ?_) (fun cm => ?_)
                  · have cm := (mrk_oI hDO _).mp cm
                    refine lv_iconst (v := nI 0) hx hb dX2_ruleRead_197 (by decide) ?_
                    refine hp_callV (As := [.int (nI 0)]) (rest := []) hx hb hml hown hts hPB hK hH hS (mt_passes hK0 hO hM (tk := (nx S x5.1.2)) hn6 false) mset_o rfl rfl 1 (lw_V q1687 q1689 qs55 q107 q1690) (by decide +kernel) ⟨rfl, rfl⟩ (by decide) rfl hl.1 rfl (Nat.le_of_ble_eq_true rfl) (by decide) dX2_ruleRead_198 (fun v73 h75 H locs hp74 _ hH hS => ?_)
                    obtain ⟨rfl, Prd6, rfl, hM, hkrd6, rd6⟩ := hp74
                    refine lvB_ne (tgt := 206) hx hb dX2_ruleRead_201 (by decide) (fun cq => ?_) (fun cq => ?_)
                    · cases cq
                    · refine lv_iconst (v := nI 0) hx hb dX2_ruleRead_204 (by decide) ?_
                      exact hp_zret hx hb hr rfl hlocks hH hS (by decide) (by decide) dX2_ruleRead_205 (⟨by rw [rdR, e1, xb_ok, e2, xb_ok, pas_t cb3, xb_ok, e4, xb_ok, e5b, xb_ok, show rdU S dd x5.1 = .error ((nx S x5.1.2)).1 by unfold rdU; rw [if_pos c8, pas_f (by rw [cm]; rfl)]; rfl]; rfl, _, _, _, rfl, hM, by rw [rdR, e1, xb_ok, e2, xb_ok, pas_t cb3, xb_ok, e4, xb_ok, e5b, xb_ok, show rdU S dd x5.1 = .error ((nx S x5.1.2)).1 by unfold rdU; rw [if_pos c8, pas_f (by rw [cm]; rfl)]; rfl]; exact rd6⟩)
                  · have cm := fun q => cm ((mrk_oI hDO _).mpr q)
                    obtain ⟨m9, em⟩ := Option.ne_none_iff_exists'.mp cm
                    rw [em] at hl
                    have hml9 := mrk_lt em
                    refine lv_iconst (v := nI 1) hx hb dX2_ruleRead_193 (by decide) ?_
                    refine lv_goto (tgt := 198) hx hb dX2_ruleRead_194 (by decide) ?_
                    refine hp_callV (As := [.int (nI 1)]) (rest := []) hx hb hml hown hts hPB hK hH hS (mt_passes hK0 hO hM (tk := (nx S x5.1.2)) hn6 true) mset_o rfl rfl 1 (lw_V q1687 q1689 qs55 q107 q1690) (by decide +kernel) ⟨rfl, rfl⟩ (by decide) rfl hl.1 rfl (Nat.le_of_ble_eq_true rfl) (by decide) dX2_ruleRead_198 (fun v76 h78 H locs hp77 _ hH hS => ?_)
                    obtain ⟨rfl, Prd6, rfl, hM, hkrd6, rd6⟩ := hp77
                    refine lvB_ne (tgt := 206) hx hb dX2_ruleRead_201 (by decide) (fun cq => ?_) (fun cq => ?_)
                    · have rd6 : rdP S (nx S (nx S x5.1.2).2) Prd6 := rd6
                      refine lv_aload_n hx hb dX2_ruleRead_206 rfl (lv_at hl 3 rfl) ?_
                      refine m_get hx hb hts hown hK hH 14 (by decide) q1466 rfl (v := .ref (o + 26)) rfl dX2_ruleRead_207 ?_
                      refine lv_iconst (v := nI 1) hx hb dX2_ruleRead_210 (by decide) ?_
                      refine m_rowI (k' := 28) hx hb hK hH (by decide) rfl (by decide) (by decide) rfl dX2_ruleRead_211 ?_
                      refine lv_iload_n hx hb dX2_ruleRead_212 rfl (lv_at hl 2 rfl) ?_
                      refine lv_iload hx hb dX2_ruleRead_213 (lv_at hl 0 rfl) ?_
                      refine m_iast (n := 12) (j := dd.2.2.length) hx hb hK hH hS (by decide) rfl (by first | omega | (refine Nat.lt_of_lt_of_le (Nat.mod_lt _ ?_) ?_ <;> omega)) (by decide) dX2_ruleRead_215 (fun H locs hH hS => ?_)
                      have hM := hM.vS (k := 28) rfl dd.2.2.length (nI m9)
                      have hD := hD.wr (k := 28) (by decide) (nI m9)
                      have e6b : rdU S dd x5.1 = .ok (nx S (nx S x5.1.2).2, nI m9) := by unfold rdU; rw [if_pos c8, pas_t (by rw [em]; rfl), xb_ok, em]; rfl
                      refine lv_aload_n hx hb dX2_ruleRead_216 rfl (lv_at hl 3 rfl) ?_
                      refine m_get hx hb hts hown hK hH 17 (by decide) q1469 rfl (v := .ref (o + 31)) rfl dX2_ruleRead_217 ?_
                      refine lv_iconst (v := nI 1) hx hb dX2_ruleRead_220 (by decide) ?_
                      refine lv_dup2_11 hx hb dX2_ruleRead_221 rfl rfl ?_
                      refine m_iald (n := 2) (j := 1) (v := nI dd.2.2.length) hx hb hK hH (by decide) rfl (by first | omega | (refine Nat.lt_of_lt_of_le (Nat.mod_lt _ ?_) ?_ <;> omega)) (by decide) (hD.1.2.2) dX2_ruleRead_222 ?_
                      refine lv_iconst (v := nI 1) hx hb dX2_ruleRead_223 (by decide) ?_
                      refine lv_iadd hx hb dX2_ruleRead_224 ?_
                      refine lv_top (y := nI (dd.2.2.length + 1)) (nI_add _ _) ?_
                      refine m_iast (n := 2) (j := 1) hx hb hK hH hS (by decide) rfl (by first | omega | (refine Nat.lt_of_lt_of_le (Nat.mod_lt _ ?_) ?_ <;> omega)) (by decide) dX2_ruleRead_225 (fun H locs hH hS => ?_)
                      have hM := hM.w1 (k := 31) (by decide) (nI (dd.2.2.length + 1))
                      refine lv_aload_n hx hb dX2_ruleRead_226 rfl (lv_at hl 3 rfl) ?_
                      refine hp_callV (As := []) (rest := []) hx hb hml hown hts hPB hK hH hS (mt_closes hK0 hO hM (tk := (nx S (nx S x5.1.2).2)) rd6) mset_o rfl rfl 0 (lw_V q1714 q1716 qs61 q107 q1717) (by decide +kernel) ⟨rfl, rfl⟩ (by decide) rfl hl.1 rfl (Nat.le_of_ble_eq_true rfl) (by decide) dX2_ruleRead_227 (fun v79 h81 H locs hp80 _ hH hS => ?_)
                      obtain ⟨rfl, Prd7, rfl, hM, hkrd7, rd7⟩ := hp80
                      exact hp_zret hx hb hr (zI_nar _) hlocks hH hS (by decide) (by decide) dX2_ruleRead_230 (⟨by rw [rdR, e1, xb_ok, e2, xb_ok, pas_t cb3, xb_ok, e4, xb_ok, e5b, xb_ok, e6b, xb_ok]; exact xk_cl _ _, _, _, _, rfl, hM, by rw [rdR, e1, xb_ok, e2, xb_ok, pas_t cb3, xb_ok, e4, xb_ok, e5b, xb_ok, e6b, xb_ok]; exact rdE_cl rd7 (drR_R hD (kd, x1.2, x2.2, x4.2, nI x5.2, nI m9) (fun k hk => by revert hk; revert k; simp [vset, va_up]) (fun k hk i hi => by rw [vset_off _ _ (fun q => by rw [q] at hk; revert hk; decide)]) ⟨by simp [vset, va_up, upd], by simp [vset, va_up, upd], by simp [vset, va_up, upd], by simp [vset, va_up, upd], by simp [vset, va_up, upd], by simp [vset, va_up, upd]⟩ (vset_self _ _ _ _)) (addR_ok hDO ⟨hkd, (rdS_ok htk e1).2.1, (rdS_ok rd1.2.2.2 e2).2.1, (rdN_ok rd3.2.2.2 e4).2.1, (rdI_ok rd4.2.2.2 e5b).2.1, (rdU_ok rd5.2.2.2 e6b).2.1⟩ h12)⟩)
                    · cases cq
                · have cn := (nmJ_m1 (nam_ok hn6.2.2.2)).mp (cmp_eq cn)
                  refine lv_iconst (v := (-1)) hx hb dX2_ruleRead_175 (by decide) ?_
                  refine lv_goto (tgt := 184) hx hb dX2_ruleRead_176 (by decide) ?_
                  refine lv_top (y := oI (mrkO dd (namS S (nx S x5.1.2)))) (by rw [cn]; rfl) ?_
                  refine lv_istore (lv' := [(5, .int (oI (mrkO dd (namS S (nx S x5.1.2))))), (3, .long (nmJ (namS S (nx S x5.1.2)))), (2, .int (nI dd.2.2.length)), (0, .ref o), (1, .int (nI kd))]) hx hb dX2_ruleRead_184 hl (by decide) rfl (fun ls hl => ?_)
                  refine lv_aload_n hx hb dX2_ruleRead_186 rfl (lv_at hl 3 rfl) ?_
                  refine lv_iload hx hb dX2_ruleRead_187 (lv_at hl 0 rfl) ?_
                  refine lv_iconst (v := (-1)) hx hb dX2_ruleRead_189 (by decide) ?_
                  refine lv_icmp_eq (tgt := 197) hx hb dX2_ruleRead_190 (by decide) (fun cm => ?_) (fun cm => ?_)
                  · have cm := (mrk_oI hDO _).mp cm
                    refine lv_iconst (v := nI 0) hx hb dX2_ruleRead_197 (by decide) ?_
                    refine hp_callV (As := [.int (nI 0)]) (rest := []) hx hb hml hown hts hPB hK hH hS (mt_passes hK0 hO hM (tk := (nx S x5.1.2)) hn6 false) mset_o rfl rfl 1 (lw_V q1687 q1689 qs55 q107 q1690) (by decide +kernel) ⟨rfl, rfl⟩ (by decide) rfl hl.1 rfl (Nat.le_of_ble_eq_true rfl) (by decide) dX2_ruleRead_198 (fun v82 h84 H locs hp83 _ hH hS => ?_)
                    obtain ⟨rfl, Prd6, rfl, hM, hkrd6, rd6⟩ := hp83
                    refine lvB_ne (tgt := 206) hx hb dX2_ruleRead_201 (by decide) (fun cq => ?_) (fun cq => ?_)
                    · cases cq
                    · refine lv_iconst (v := nI 0) hx hb dX2_ruleRead_204 (by decide) ?_
                      exact hp_zret hx hb hr rfl hlocks hH hS (by decide) (by decide) dX2_ruleRead_205 (⟨by rw [rdR, e1, xb_ok, e2, xb_ok, pas_t cb3, xb_ok, e4, xb_ok, e5b, xb_ok, show rdU S dd x5.1 = .error ((nx S x5.1.2)).1 by unfold rdU; rw [if_pos c8, pas_f (by rw [cm]; rfl)]; rfl]; rfl, _, _, _, rfl, hM, by rw [rdR, e1, xb_ok, e2, xb_ok, pas_t cb3, xb_ok, e4, xb_ok, e5b, xb_ok, show rdU S dd x5.1 = .error ((nx S x5.1.2)).1 by unfold rdU; rw [if_pos c8, pas_f (by rw [cm]; rfl)]; rfl]; exact rd6⟩)
                  · have cm := fun q => cm ((mrk_oI hDO _).mpr q)
                    obtain ⟨m9, em⟩ := Option.ne_none_iff_exists'.mp cm
                    rw [em] at hl
                    have hml9 := mrk_lt em
                    refine lv_iconst (v := nI 1) hx hb dX2_ruleRead_193 (by decide) ?_
                    refine lv_goto (tgt := 198) hx hb dX2_ruleRead_194 (by decide) ?_
                    refine hp_callV (As := [.int (nI 1)]) (rest := []) hx hb hml hown hts hPB hK hH hS (mt_passes hK0 hO hM (tk := (nx S x5.1.2)) hn6 true) mset_o rfl rfl 1 (lw_V q1687 q1689 qs55 q107 q1690) (by decide +kernel) ⟨rfl, rfl⟩ (by decide) rfl hl.1 rfl (Nat.le_of_ble_eq_true rfl) (by decide) dX2_ruleRead_198 (fun v85 h87 H locs hp86 _ hH hS => ?_)
                    obtain ⟨rfl, Prd6, rfl, hM, hkrd6, rd6⟩ := hp86
                    refine lvB_ne (tgt := 206) hx hb dX2_ruleRead_201 (by decide) (fun cq => ?_) (fun cq => ?_)
                    · have rd6 : rdP S (nx S (nx S x5.1.2).2) Prd6 := rd6
                      refine lv_aload_n hx hb dX2_ruleRead_206 rfl (lv_at hl 3 rfl) ?_
                      refine m_get hx hb hts hown hK hH 14 (by decide) q1466 rfl (v := .ref (o + 26)) rfl dX2_ruleRead_207 ?_
                      refine lv_iconst (v := nI 1) hx hb dX2_ruleRead_210 (by decide) ?_
                      refine m_rowI (k' := 28) hx hb hK hH (by decide) rfl (by decide) (by decide) rfl dX2_ruleRead_211 ?_
                      refine lv_iload_n hx hb dX2_ruleRead_212 rfl (lv_at hl 2 rfl) ?_
                      refine lv_iload hx hb dX2_ruleRead_213 (lv_at hl 0 rfl) ?_
                      refine m_iast (n := 12) (j := dd.2.2.length) hx hb hK hH hS (by decide) rfl (by first | omega | (refine Nat.lt_of_lt_of_le (Nat.mod_lt _ ?_) ?_ <;> omega)) (by decide) dX2_ruleRead_215 (fun H locs hH hS => ?_)
                      have hM := hM.vS (k := 28) rfl dd.2.2.length (nI m9)
                      have hD := hD.wr (k := 28) (by decide) (nI m9)
                      have e6b : rdU S dd x5.1 = .ok (nx S (nx S x5.1.2).2, nI m9) := by unfold rdU; rw [if_pos c8, pas_t (by rw [em]; rfl), xb_ok, em]; rfl
                      refine lv_aload_n hx hb dX2_ruleRead_216 rfl (lv_at hl 3 rfl) ?_
                      refine m_get hx hb hts hown hK hH 17 (by decide) q1469 rfl (v := .ref (o + 31)) rfl dX2_ruleRead_217 ?_
                      refine lv_iconst (v := nI 1) hx hb dX2_ruleRead_220 (by decide) ?_
                      refine lv_dup2_11 hx hb dX2_ruleRead_221 rfl rfl ?_
                      refine m_iald (n := 2) (j := 1) (v := nI dd.2.2.length) hx hb hK hH (by decide) rfl (by first | omega | (refine Nat.lt_of_lt_of_le (Nat.mod_lt _ ?_) ?_ <;> omega)) (by decide) (hD.1.2.2) dX2_ruleRead_222 ?_
                      refine lv_iconst (v := nI 1) hx hb dX2_ruleRead_223 (by decide) ?_
                      refine lv_iadd hx hb dX2_ruleRead_224 ?_
                      refine lv_top (y := nI (dd.2.2.length + 1)) (nI_add _ _) ?_
                      refine m_iast (n := 2) (j := 1) hx hb hK hH hS (by decide) rfl (by first | omega | (refine Nat.lt_of_lt_of_le (Nat.mod_lt _ ?_) ?_ <;> omega)) (by decide) dX2_ruleRead_225 (fun H locs hH hS => ?_)
                      have hM := hM.w1 (k := 31) (by decide) (nI (dd.2.2.length + 1))
                      refine lv_aload_n hx hb dX2_ruleRead_226 rfl (lv_at hl 3 rfl) ?_
                      refine hp_callV (As := []) (rest := []) hx hb hml hown hts hPB hK hH hS (mt_closes hK0 hO hM (tk := (nx S (nx S x5.1.2).2)) rd6) mset_o rfl rfl 0 (lw_V q1714 q1716 qs61 q107 q1717) (by decide +kernel) ⟨rfl, rfl⟩ (by decide) rfl hl.1 rfl (Nat.le_of_ble_eq_true rfl) (by decide) dX2_ruleRead_227 (fun v88 h90 H locs hp89 _ hH hS => ?_)
                      obtain ⟨rfl, Prd7, rfl, hM, hkrd7, rd7⟩ := hp89
                      exact hp_zret hx hb hr (zI_nar _) hlocks hH hS (by decide) (by decide) dX2_ruleRead_230 (⟨by rw [rdR, e1, xb_ok, e2, xb_ok, pas_t cb3, xb_ok, e4, xb_ok, e5b, xb_ok, e6b, xb_ok]; exact xk_cl _ _, _, _, _, rfl, hM, by rw [rdR, e1, xb_ok, e2, xb_ok, pas_t cb3, xb_ok, e4, xb_ok, e5b, xb_ok, e6b, xb_ok]; exact rdE_cl rd7 (drR_R hD (kd, x1.2, x2.2, x4.2, nI x5.2, nI m9) (fun k hk => by revert hk; revert k; simp [vset, va_up]) (fun k hk i hi => by rw [vset_off _ _ (fun q => by rw [q] at hk; revert hk; decide)]) ⟨by simp [vset, va_up, upd], by simp [vset, va_up, upd], by simp [vset, va_up, upd], by simp [vset, va_up, upd], by simp [vset, va_up, upd], by simp [vset, va_up, upd]⟩ (vset_self _ _ _ _)) (addR_ok hDO ⟨hkd, (rdS_ok htk e1).2.1, (rdS_ok rd1.2.2.2 e2).2.1, (rdN_ok rd3.2.2.2 e4).2.1, (rdI_ok rd4.2.2.2 e5b).2.1, (rdU_ok rd5.2.2.2 e6b).2.1⟩ h12)⟩)
                    · cases cq
            · obtain ⟨a9, e5⟩ := xk_f ck5
              rw [e5] at rd5
              refine lv_iconst (v := nI 0) hx hb dX2_ruleRead_135 (by decide) ?_
              exact hp_zret hx hb hr rfl hlocks hH hS (by decide) (by decide) dX2_ruleRead_136 (⟨by rw [rdR, e1, xb_ok, e2, xb_ok, pas_t cb3, xb_ok, e4, xb_ok, show rdI S x4.1 = .error a9 by unfold rdI; rw [if_pos c7, e5]; rfl]; rfl, _, _, _, rfl, hM, by rw [rdR, e1, xb_ok, e2, xb_ok, pas_t cb3, xb_ok, e4, xb_ok, show rdI S x4.1 = .error a9 by unfold rdI; rw [if_pos c7, e5]; rfl]; exact rd5⟩)
        · obtain ⟨a9, e4⟩ := xk_f ck4
          rw [e4] at rd4
          refine lv_iconst (v := nI 0) hx hb dX2_ruleRead_81 (by decide) ?_
          exact hp_zret hx hb hr rfl hlocks hH hS (by decide) (by decide) dX2_ruleRead_82 (⟨by rw [rdR, e1, xb_ok, e2, xb_ok, pas_t cb3, xb_ok, e4]; rfl, _, _, _, rfl, hM, by rw [rdR, e1, xb_ok, e2, xb_ok, pas_t cb3, xb_ok, e4]; exact rd4⟩)
    · obtain ⟨a9, e2⟩ := xk_f ck2
      rw [e2] at rd2
      refine lv_iconst (v := nI 0) hx hb dX2_ruleRead_44 (by decide) ?_
      exact hp_zret hx hb hr rfl hlocks hH hS (by decide) (by decide) dX2_ruleRead_45 (⟨by rw [rdR, e1, xb_ok, e2]; rfl, _, _, _, rfl, hM, by rw [rdR, e1, xb_ok, e2]; exact rd2⟩)
  · obtain ⟨a9, e1⟩ := xk_f ck1
    rw [e1] at rd1
    refine lv_iconst (v := nI 0) hx hb dX2_ruleRead_23 (by decide) ?_
    exact hp_zret hx hb hr rfl hlocks hH hS (by decide) (by decide) dX2_ruleRead_24 (⟨by rw [rdR, e1]; rfl, _, _, _, rfl, hM, by rw [rdR, e1]; exact rd1⟩)
end MODEL
