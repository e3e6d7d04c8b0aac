/-! by gen/mspec.py -/
set_option maxRecDepth 100000
section MODEL
variable {l : Launch} {s0 : State} {D : va_G} {K : Nat → ClassId} {wd : Nat → Nat} {o : Nat} {h : Hp} {I : Nat → Int32} {V : Nat → Nat → Int32} {J : Nat → Nat → Int64}
theorem mt_guestOfN (hK0 : va_K D CL (TYS K) s0) {S : Ab} (hO : SOK S) (hM : MOK S I V) {dd : Dr} (hD : drR dd V J) (hDO : drOK dd) {x9 : Option (List Int32)} (ho : ∀ L, x9 = some L → nmOK L) (hs : ¬ x9 = none) : Met l yX2_guestOf (ws_ yX2_guestOf cX2_guestOf 4 ((Option.some Jvm.ClassFile.FieldType.int))) (rmk 0 0 0) (va_Pc [.ref o, .long (nmJ x9)] (PB s0 D CL (mset h K wd o I V J))) (QR s0 D CL (fun v h1 => v = some (.int (oI (gstO dd x9))) ∧ h1 = mset h K wd o I V J)) 0 0 (zA s0) := by
  obtain ⟨L, rfl⟩ := Option.ne_none_iff_exists'.mp hs
  exact mt_guestOf hK0 hO hM hD hDO (ho L rfl)
theorem mt_markOfN (hK0 : va_K D CL (TYS K) s0) {S : Ab} (hO : SOK S) (hM : MOK S I V) {dd : Dr} (hD : drR dd V J) (hDO : drOK dd) {x9 : Option (List Int32)} (ho : ∀ L, x9 = some L → nmOK L) (hs : ¬ x9 = none) : Met l yX2_markOf (ws_ yX2_markOf cX2_markOf 4 ((Option.some Jvm.ClassFile.FieldType.int))) (rmk 0 0 0) (va_Pc [.ref o, .long (nmJ x9)] (PB s0 D CL (mset h K wd o I V J))) (QR s0 D CL (fun v h1 => v = some (.int (oI (mrkO dd x9))) ∧ h1 = mset h K wd o I V J)) 0 0 (zA s0) := by
  obtain ⟨L, rfl⟩ := Option.ne_none_iff_exists'.mp hs
  exact mt_markOf hK0 hO hM hD hDO (ho L rfl)
set_option maxHeartbeats 4000000 in
theorem mt_markRead (hK0 : va_K D CL (TYS K) s0) {S : Ab} (hO : SOK S) (hM : MOK S I V) {av : Nat → Nat} (hX : OX wd av (zA s0) s0 s0.heap) {tk : Tk} (hrp : rdP S tk I) {dd : Dr} (hD : drR dd V J) (hDO : drOK dd) (hm5 : dd.2.1.length < 5) : Met l yX2_markRead (ws_ yX2_markRead cX2_markRead 8 ((Option.some Jvm.ClassFile.FieldType.boolean))) (rmk 6 0 0) (va_Pc [.ref o] (PB s0 D CL (mset h K wd o I V J))) (QR s0 D CL (fun v h1 => v = some (.int (zI (xk (rdM S dd tk)))) ∧ ∃ P U W, h1 = mset h K wd o P U W ∧ MOK S P U ∧ rdE S (rdM S dd tk) P U W)) 0 0 (zA s0) := by
  refine hp_met (by decide) (Nat.le_of_ble_eq_true rfl) hK0 ?_
  intro p e s m below meth cd ls hx hb hr hlocks hml hown hnm hts hK hPB hl hS hH hA
  have hl : lv_has ls 8 [(0, .ref o)] := hl
  have hown : s.vm.findClass RX2 = some m.cls := hown
  have hn := hO.n
  have hmk := hO.mk
  have hrl := hO.rl
  have hrm := hO.rm
  have hsz := hO.sz
  have htk := hrp.2.2.2
  have htk1 := htk.1
  have hD1 := hDO.1
  refine lv_aload_n hx hb dX2_markRead_0 rfl (lv_at hl 0 rfl) ?_
  refine hp_callV (As := []) (rest := []) hx hb hml hown hts hPB hK hH hS (mt_named hK0 hO hM hX (tk := tk) hrp) mset_o rfl rfl 0 (lw_V q1695 q1697 qs57 q107 q1698) (by decide +kernel) ⟨rfl, rfl⟩ (by decide) rfl hl.1 rfl (Nat.le_of_ble_eq_true rfl) (by decide) dX2_markRead_1 (fun v1 h3 H locs hp2 _ hH hS => ?_)
  obtain ⟨rfl, rfl⟩ := hp2
  refine lv_lstore_n (lv' := [(1, .long (nmJ (namS S tk))), (0, .ref o)]) hx hb dX2_markRead_4 rfl hl (by decide) rfl (fun ls hl => ?_)
  refine lv_aload_n hx hb dX2_markRead_5 rfl (lv_at hl 1 rfl) ?_
  refine m_get hx hb hts hown hK hH 16 (by decide) q1468 rfl (v := .ref (o + 30)) rfl dX2_markRead_6 ?_
  refine lv_iconst (v := nI 1) hx hb dX2_markRead_9 (by decide) ?_
  refine m_iald (n := 2) (j := 1) (v := nI dd.2.1.length) hx hb hK hH (by decide) rfl (by first | omega | (refine Nat.lt_of_lt_of_le (Nat.mod_lt _ ?_) ?_ <;> omega)) (by decide) (hD.1.2.1) dX2_markRead_10 ?_
  refine lv_istore_n (lv' := [(3, .int (nI dd.2.1.length)), (1, .long (nmJ (namS S tk))), (0, .ref o)]) hx hb dX2_markRead_11 rfl hl (by decide) rfl (fun ls hl => ?_)
  refine lv_aload_n hx hb dX2_markRead_12 rfl (lv_at hl 2 rfl) ?_
  refine lv_aload_n hx hb dX2_markRead_13 rfl (lv_at hl 2 rfl) ?_
  refine lv_lload_n hx hb dX2_markRead_14 rfl (lv_at hl 1 rfl) ?_
  refine hp_callV (As := [.long (nmJ (namS S tk))]) (rest := [.ref o]) hx hb hml hown hts hPB hK hH hS (mt_isNew hK0 hO hM hD hDO (nam_ok htk)) mset_o rfl rfl 1 (lw_V q1702 q1704 qs58 q107 q1705) (by decide +kernel) ⟨rfl, rfl⟩ (by decide) rfl hl.1 rfl (Nat.le_of_ble_eq_true rfl) (by decide) dX2_markRead_15 (fun v4 h6 H locs hp5 _ hH hS => ?_)
  obtain ⟨rfl, rfl⟩ := hp5
  refine hp_callV (As := [.int (zI (newB dd (namS S tk)))]) (rest := []) hx hb hml hown hts hPB hK hH hS (mt_passes hK0 hO hM (tk := tk) hrp (newB dd (namS S tk))) mset_o rfl rfl 1 (lw_V q1687 q1689 qs55 q107 q1690) (by decide +kernel) ⟨rfl, rfl⟩ (by decide) rfl hl.1 rfl (Nat.le_of_ble_eq_true rfl) (by decide) dX2_markRead_18 (fun v7 h9 H locs hp8 _ hH hS => ?_)
  obtain ⟨rfl, Prd, rfl, hM, hkrd, rd⟩ := hp8
  refine lvB_eq (tgt := 36) hx hb dX2_markRead_21 (by decide) (fun cb => ?_) (fun cb => ?_)
  · rw [pas_f cb] at rd
    have rd : Prd 4 = nI tk.1 ∧ tk.1 ≤ aSz S := rd
    refine lv_iconst (v := nI 0) hx hb dX2_markRead_36 (by decide) ?_
    exact hp_zret hx hb hr rfl hlocks hH hS (by decide) (by decide) dX2_markRead_37 (⟨by rw [rdM, pas_f cb]; rfl, _, _, _, rfl, hM, by rw [rdM, pas_f cb]; exact rd⟩)
  · rw [pas_t cb] at rd
    have rd : rdP S (nx S tk.2) Prd := rd
    obtain ⟨L, eLL⟩ := Option.isSome_iff_exists.mp (new_some cb)
    refine lv_aload_n hx hb dX2_markRead_24 rfl (lv_at hl 2 rfl) ?_
    refine lv_aload_n hx hb dX2_markRead_25 rfl (lv_at hl 2 rfl) ?_
    refine lv_iconst (v := nI 2) hx hb dX2_markRead_26 (by decide) ?_
    refine hp_callV (As := [.int (nI 2)]) (rest := [.ref o]) hx hb hml hown hts hPB hK hH hS (mt_isWord hK0 hO hM hX (tk := (nx S tk.2)) rd (w := 2) (by omega)) mset_o rfl rfl 1 (lw_V q1681 q1683 qs54 q107 q1684) (by decide +kernel) ⟨rfl, rfl⟩ (by decide) rfl hl.1 rfl (Nat.le_of_ble_eq_true rfl) (by decide) dX2_markRead_27 (fun v10 h12 H locs hp11 _ hH hS => ?_)
    obtain ⟨rfl, rfl⟩ := hp11
    refine hp_callV (As := [.int (zI (wrdB S (nx S tk.2) 2))]) (rest := []) hx hb hml hown hts hPB hK hH hS (mt_passes hK0 hO hM (tk := (nx S tk.2)) rd (wrdB S (nx S tk.2) 2)) mset_o rfl rfl 1 (lw_V q1687 q1689 qs55 q107 q1690) (by decide +kernel) ⟨rfl, rfl⟩ (by decide) rfl hl.1 rfl (Nat.le_of_ble_eq_true rfl) (by decide) dX2_markRead_30 (fun v13 h15 H locs hp14 _ hH hS => ?_)
    obtain ⟨rfl, Prd2, rfl, hM, hkrd2, rd2⟩ := hp14
    refine lvB_ne (tgt := 38) hx hb dX2_markRead_33 (by decide) (fun cb2 => ?_) (fun cb2 => ?_)
    · rw [pas_t cb2] at rd2
      have rd2 : rdP S (nx S (nx S tk.2).2) Prd2 := rd2
      obtain ⟨t2, et2⟩ : ∃ t, t = (nx S (nx S tk.2).2) := ⟨_, rfl⟩
      rw [← et2] at rd2
      have ht21 := rd2.2.2.2.1
      refine lv_aload_n hx hb dX2_markRead_38 rfl (lv_at hl 2 rfl) ?_
      refine m_get hx hb hts hown hK hH 7 (by decide) q1459 rfl (v := .ref (o + 5)) rfl dX2_markRead_39 ?_
      refine lv_iconst (v := nI 1) hx hb dX2_markRead_42 (by decide) ?_
      refine m_rowJ (k' := 7) hx hb hK hH (by decide) rfl (by decide) (by decide) rfl dX2_markRead_43 ?_
      refine lv_iload_n hx hb dX2_markRead_44 rfl (lv_at hl 0 rfl) ?_
      refine lv_lload_n hx hb dX2_markRead_45 rfl (lv_at hl 1 rfl) ?_
      refine m_last (n := 5) (j := dd.2.1.length) hx hb hK hH hS (by decide) rfl (by first | omega | (refine Nat.lt_of_lt_of_le (Nat.mod_lt _ ?_) ?_ <;> omega)) (by decide) dX2_markRead_46 (fun H locs hH hS => ?_)
      refine lv_aload_n hx hb dX2_markRead_47 rfl (lv_at hl 2 rfl) ?_
      refine m_get hx hb hts hown hK hH 8 (by decide) q1460 rfl (v := .ref (o + 8)) rfl dX2_markRead_48 ?_
      refine lv_iconst (v := nI 1) hx hb dX2_markRead_51 (by decide) ?_
      refine m_rowI (k' := 10) hx hb hK hH (by decide) rfl (by decide) (by decide) rfl dX2_markRead_52 ?_
      refine lv_iload_n hx hb dX2_markRead_53 rfl (lv_at hl 0 rfl) ?_
      refine lv_iconst (v := nI 0) hx hb dX2_markRead_54 (by decide) ?_
      refine m_iast (n := 5) (j := dd.2.1.length) hx hb hK hH hS (by decide) rfl (by first | omega | (refine Nat.lt_of_lt_of_le (Nat.mod_lt _ ?_) ?_ <;> omega)) (by decide) dX2_markRead_55 (fun H locs hH hS => ?_)
      have hM := hM.vS (k := 10) rfl dd.2.1.length (nI 0)
      refine lv_iconst (v := nI 1) hx hb dX2_markRead_56 (by decide) ?_
      refine lv_istore (lv' := [(4, .int (nI 1)), (3, .int (nI dd.2.1.length)), (1, .long (nmJ (namS S tk))), (0, .ref o)]) hx hb dX2_markRead_57 hl (by decide) rfl (fun ls hl => ?_)
      refine w_loop6 (fun (t3 : Tk) (b : Nat) (mo : Bool) (f : Nat) (P : Nat → Int32) (U : Nat → Nat → Int32) => aSz S - t3.1) (fun (t3 : Tk) (b : Nat) (mo : Bool) (f : Nat) (P : Nat → Int32) (U : Nat → Nat → Int32) H locs ls => (rdP S t3 P) ∧ (b < 1024) ∧ (drR dd U (jset J 7 dd.2.1.length (nmJ (namS S tk)))) ∧ (U 10 dd.2.1.length = nI b) ∧ (kp [10] V U) ∧ (∀ u, u < dd.2.1.length → U 10 u = V 10 u) ∧ ((mo = true → rdB S dd (aSz S + 1) t2 0 = rdB S dd f t3 b) ∧ (mo = false → rdB S dd (aSz S + 1) t2 0 = .ok (t3, b))) ∧ (aSz S < f + t3.1) ∧ (MOK S P U) ∧ HP D CL (zA s0) (mset h K wd o P U (jset J 7 dd.2.1.length (nmJ (namS S tk)))) H ∧ va_S (zA s0) s.heap H locs ∧ lv_has ls 8 [(0, .ref o), (1, .long (nmJ (namS S tk))), (3, .int (nI dd.2.1.length)), (4, .int (zI mo))]) ?_ t2 0 true (aSz S + 1) Prd2 (vset V 10 dd.2.1.length (nI 0)) ⟨rd2, by decide, (hD.w10 _).j7 _, vset_self _ _ _ _, kp.rf.vs (by decide) _ _, fun u hu => vset_ne _ _ (by omega), ⟨fun _ => rfl, (fun q => by cases q)⟩, by omega, hM, hH, hS, lv_sub hl [3, 2, 1, 0] rfl⟩
      intro t3 b mo f P U ih59 H locs ls hP
      obtain ⟨hrt, hb0, hD3, h10, hkv, hke, hres, hff, hM, hH, hS, hl⟩ := hP
      have htk3 := hrt.2.2.2
      have htk31 := htk3.1
      refine lv_iload hx hb dX2_markRead_59 (lv_at hl 3 rfl) ?_
      refine lvB_eq (tgt := 163) hx hb dX2_markRead_61 (by decide) (fun cmo => ?_) (fun cmo => ?_)
      · refine lv_aload_n hx hb dX2_markRead_163 rfl (lv_at hl 0 rfl) ?_
        refine m_get hx hb hts hown hK hH 16 (by decide) q1468 rfl (v := .ref (o + 30)) rfl dX2_markRead_164 ?_
        refine lv_iconst (v := nI 1) hx hb dX2_markRead_167 (by decide) ?_
        refine lv_dup2_11 hx hb dX2_markRead_168 rfl rfl ?_
        refine m_iald (n := 2) (j := 1) (v := nI dd.2.1.length) hx hb hK hH (by decide) rfl (by first | omega | (refine Nat.lt_of_lt_of_le (Nat.mod_lt _ ?_) ?_ <;> omega)) (by decide) (hD3.1.2.1) dX2_markRead_169 ?_
        refine lv_iconst (v := nI 1) hx hb dX2_markRead_170 (by decide) ?_
        refine lv_iadd hx hb dX2_markRead_171 ?_
        refine lv_top (y := nI (dd.2.1.length + 1)) (nI_add _ _) ?_
        refine m_iast (n := 2) (j := 1) hx hb hK hH hS (by decide) rfl (by first | omega | (refine Nat.lt_of_lt_of_le (Nat.mod_lt _ ?_) ?_ <;> omega)) (by decide) dX2_markRead_172 (fun H locs hH hS => ?_)
        have hM := hM.w1 (k := 30) (by decide) (nI (dd.2.1.length + 1))
        refine lv_aload_n hx hb dX2_markRead_173 rfl (lv_at hl 0 rfl) ?_
        refine hp_callV (As := []) (rest := []) hx hb hml hown hts hPB hK hH hS (mt_closes hK0 hO hM (tk := t3) hrt) mset_o rfl rfl 0 (lw_V q1714 q1716 qs61 q107 q1717) (by decide +kernel) ⟨rfl, rfl⟩ (by decide) rfl hl.1 rfl (Nat.le_of_ble_eq_true rfl) (by decide) dX2_markRead_174 (fun v16 h18 H locs hp17 _ hH hS => ?_)
        obtain ⟨rfl, Prd4, rfl, hM, hkrd4, rd4⟩ := hp17
        exact hp_zret hx hb hr (zI_nar _) hlocks hH hS (by decide) (by decide) dX2_markRead_177 (⟨by rw [rdM, pas_t cb, xb_ok, pas_t cb2, xb_ok, ← et2, hres.2 cmo, xb_ok]; exact xk_cl _ _, _, _, _, rfl, hM, by rw [rdM, pas_t cb, xb_ok, pas_t cb2, xb_ok, ← et2, hres.2 cmo, xb_ok]; exact rdE_cl rd4 (drR_M hD ((namS S tk).getD []) b (fun k hk => (vset_off _ _ (fun q => by rw [q] at hk; revert hk; decide)).trans (hkv k (fun q => by revert hk; revert q; revert k; decide))) (fun k hk => by rw [vset_off _ _ (by decide)]; exact hke k hk) (by rw [vset_off _ _ (by decide)]; exact h10) (vset_self _ _ _ _) (by rw [eLL]; rfl)) (addM_ok hDO (new_nm htk cb).1 hb0 hm5)⟩)
      · refine lv_aload_n hx hb dX2_markRead_64 rfl (lv_at hl 0 rfl) ?_
        refine hp_callV (As := []) (rest := []) hx hb hml hown hts hPB hK hH hS (mt_named hK0 hO hM hX (tk := t3) hrt) mset_o rfl rfl 0 (lw_V q1695 q1697 qs57 q107 q1698) (by decide +kernel) ⟨rfl, rfl⟩ (by decide) rfl hl.1 rfl (Nat.le_of_ble_eq_true rfl) (by decide) dX2_markRead_65 (fun v19 h21 H locs hp20 _ hH hS => ?_)
        obtain ⟨rfl, rfl⟩ := hp20
        refine lv_lstore (lv' := [(5, .long (nmJ (namS S t3))), (0, .ref o), (1, .long (nmJ (namS S tk))), (3, .int (nI dd.2.1.length)), (4, .int (zI mo))]) hx hb dX2_markRead_68 hl (by decide) rfl (fun ls hl => ?_)
        refine lv_lload hx hb dX2_markRead_70 (lv_at hl 0 rfl) ?_
        refine lv_ldc2 (v := -1) hx hb hown (hts _ q1699) dX2_markRead_72 ?_
        refine W.lcmp hx hb dX2_markRead_75 ?_
        refine lv_if_ne (tgt := 83) hx hb dX2_markRead_76 (by decide) (fun cn => ?_) (fun cn => ?_)
        · have cn := fun q => cmp_ne cn ((nmJ_m1 (nam_ok hrt.2.2.2)).mpr q)
          refine lv_aload_n hx hb dX2_markRead_83 rfl (lv_at hl 1 rfl) ?_
          refine lv_lload hx hb dX2_markRead_84 (lv_at hl 0 rfl) ?_
          refine hp_callV (As := [.long (nmJ (namS S t3))]) (rest := []) hx hb hml hown hts hPB hK hH hS (mt_guestOfN hK0 hO hM hD3 hDO (nam_ok hrt.2.2.2) cn) mset_o rfl rfl 1 (lw_V q1706 q1708 qs59 q107 q1709) (by decide +kernel) ⟨rfl, rfl⟩ (by decide) rfl hl.1 rfl (Nat.le_of_ble_eq_true rfl) (by decide) dX2_markRead_86 (fun v22 h24 H locs hp23 _ hH hS => ?_)
          obtain ⟨rfl, rfl⟩ := hp23
          refine lv_istore (lv' := [(7, .int (oI (gstO dd (namS S t3)))), (5, .long (nmJ (namS S t3))), (0, .ref o), (1, .long (nmJ (namS S tk))), (3, .int (nI dd.2.1.length)), (4, .int (zI mo))]) hx hb dX2_markRead_89 hl (by decide) rfl (fun ls hl => ?_)
          refine lv_aload_n hx hb dX2_markRead_91 rfl (lv_at hl 2 rfl) ?_
          refine lv_iload hx hb dX2_markRead_92 (lv_at hl 0 rfl) ?_
          refine lv_iconst (v := (-1)) hx hb dX2_markRead_94 (by decide) ?_
          refine lv_icmp_eq (tgt := 118) hx hb dX2_markRead_95 (by decide) (fun cg => ?_) (fun cg => ?_)
          · have cg := (gst_oI hDO _).mp cg
            refine lv_iconst (v := nI 0) hx hb dX2_markRead_118 (by decide) ?_
            have emb : mbOk dd (namS S t3) b = false := mb_n cg
            refine hp_callV (As := [.int (nI 0)]) (rest := []) hx hb hml hown hts hPB hK hH hS (mt_passes hK0 hO hM (tk := t3) hrt false) mset_o rfl rfl 1 (lw_V q1687 q1689 qs55 q107 q1690) (by decide +kernel) ⟨rfl, rfl⟩ (by decide) rfl hl.1 rfl (Nat.le_of_ble_eq_true rfl) (by decide) dX2_markRead_119 (fun v25 h27 H locs hp26 _ hH hS => ?_)
            obtain ⟨rfl, Prd3, rfl, hM, hkrd3, rd3⟩ := hp26
            refine lvB_ne (tgt := 127) hx hb dX2_markRead_122 (by decide) (fun cq => ?_) (fun cq => ?_)
            · cases cq
            · refine lv_iconst (v := nI 0) hx hb dX2_markRead_125 (by decide) ?_
              exact hp_zret hx hb hr rfl hlocks hH hS (by decide) (by decide) dX2_markRead_126 (⟨by rw [rdM, pas_t cb, xb_ok, pas_t cb2, xb_ok, ← et2, hres.1 cmo, rdB_err (by omega) emb]; rfl, _, _, _, rfl, hM, by rw [rdM, pas_t cb, xb_ok, pas_t cb2, xb_ok, ← et2, hres.1 cmo, rdB_err (by omega) emb]; exact rd3⟩)
          · have cg := fun q => cg ((gst_oI hDO _).mpr q)
            obtain ⟨g, eg⟩ := Option.ne_none_iff_exists'.mp cg
            rw [eg] at hl
            have hgl := gst_lt eg
            obtain ⟨L3, eL3⟩ : ∃ L3, namS S t3 = some L3 := Option.ne_none_iff_exists'.mp (fun q => by rw [q] at eg; cases eg)
            have hlt3 := (namS_ok htk3 eL3).2.2
            refine lv_aload_n hx hb dX2_markRead_98 rfl (lv_at hl 2 rfl) ?_
            refine m_get hx hb hts hown hK hH 8 (by decide) q1460 rfl (v := .ref (o + 8)) rfl dX2_markRead_99 ?_
            refine lv_iconst (v := nI 1) hx hb dX2_markRead_102 (by decide) ?_
            refine m_rowI (k' := 10) hx hb hK hH (by decide) rfl (by decide) (by decide) rfl dX2_markRead_103 ?_
            refine lv_iload_n hx hb dX2_markRead_104 rfl (lv_at hl 4 rfl) ?_
            refine m_iald (n := 5) (j := dd.2.1.length) (v := nI b) hx hb hK hH (by decide) rfl (by first | omega | (refine Nat.lt_of_lt_of_le (Nat.mod_lt _ ?_) ?_ <;> omega)) (by decide) (h10) dX2_markRead_105 ?_
            refine lv_iload hx hb dX2_markRead_106 (lv_at hl 0 rfl) ?_
            refine lv_ishr hx hb dX2_markRead_108 ?_
            refine lv_top (y := nI (b / 2 ^ g)) (bi_shr (by first | omega | (refine Nat.lt_of_lt_of_le (Nat.mod_lt _ ?_) ?_ <;> omega)) (by first | omega | (refine Nat.lt_of_lt_of_le (Nat.mod_lt _ ?_) ?_ <;> omega))) ?_
            refine lv_iconst (v := nI 1) hx hb dX2_markRead_109 (by decide) ?_
            refine lv_iand hx hb dX2_markRead_110 ?_
            refine lv_top (y := zI (Nat.testBit b g)) ((bi_and _ _).trans (bi_z _ _)) ?_
            refine lvB_ne (tgt := 118) hx hb dX2_markRead_111 (by decide) (fun cbit => ?_) (fun cbit => ?_)
            · refine lv_iconst (v := nI 0) hx hb dX2_markRead_118 (by decide) ?_
              have emb : mbOk dd (namS S t3) b = false := mb_f eg cbit
              refine hp_callV (As := [.int (nI 0)]) (rest := []) hx hb hml hown hts hPB hK hH hS (mt_passes hK0 hO hM (tk := t3) hrt false) mset_o rfl rfl 1 (lw_V q1687 q1689 qs55 q107 q1690) (by decide +kernel) ⟨rfl, rfl⟩ (by decide) rfl hl.1 rfl (Nat.le_of_ble_eq_true rfl) (by decide) dX2_markRead_119 (fun v28 h30 H locs hp29 _ hH hS => ?_)
              obtain ⟨rfl, Prd3, rfl, hM, hkrd3, rd3⟩ := hp29
              refine lvB_ne (tgt := 127) hx hb dX2_markRead_122 (by decide) (fun cq => ?_) (fun cq => ?_)
              · cases cq
              · refine lv_iconst (v := nI 0) hx hb dX2_markRead_125 (by decide) ?_
                exact hp_zret hx hb hr rfl hlocks hH hS (by decide) (by decide) dX2_markRead_126 (⟨by rw [rdM, pas_t cb, xb_ok, pas_t cb2, xb_ok, ← et2, hres.1 cmo, rdB_err (by omega) emb]; rfl, _, _, _, rfl, hM, by rw [rdM, pas_t cb, xb_ok, pas_t cb2, xb_ok, ← et2, hres.1 cmo, rdB_err (by omega) emb]; exact rd3⟩)
            · refine lv_iconst (v := nI 1) hx hb dX2_markRead_114 (by decide) ?_
              refine lv_goto (tgt := 119) hx hb dX2_markRead_115 (by decide) ?_
              have emb : mbOk dd (namS S t3) b = true := mb_t eg cbit
              refine hp_callV (As := [.int (nI 1)]) (rest := []) hx hb hml hown hts hPB hK hH hS (mt_passes hK0 hO hM (tk := t3) hrt true) mset_o rfl rfl 1 (lw_V q1687 q1689 qs55 q107 q1690) (by decide +kernel) ⟨rfl, rfl⟩ (by decide) rfl hl.1 rfl (Nat.le_of_ble_eq_true rfl) (by decide) dX2_markRead_119 (fun v31 h33 H locs hp32 _ hH hS => ?_)
              obtain ⟨rfl, Prd3, rfl, hM, hkrd3, rd3⟩ := hp32
              refine lvB_ne (tgt := 127) hx hb dX2_markRead_122 (by decide) (fun cq => ?_) (fun cq => ?_)
              · have rd3 : rdP S (nx S t3.2) Prd3 := rd3
                have hnx3 := (nx_ok htk31.2).2
                have hnx4 := rd3.2.2.2.1
                refine lv_aload_n hx hb dX2_markRead_127 rfl (lv_at hl 2 rfl) ?_
                refine m_get hx hb hts hown hK hH 8 (by decide) q1460 rfl (v := .ref (o + 8)) rfl dX2_markRead_128 ?_
                refine lv_iconst (v := nI 1) hx hb dX2_markRead_131 (by decide) ?_
                refine m_rowI (k' := 10) hx hb hK hH (by decide) rfl (by decide) (by decide) rfl dX2_markRead_132 ?_
                refine lv_iload_n hx hb dX2_markRead_133 rfl (lv_at hl 4 rfl) ?_
                refine lv_dup2_11 hx hb dX2_markRead_134 rfl rfl ?_
                refine m_iald (n := 5) (j := dd.2.1.length) (v := nI b) hx hb hK hH (by decide) rfl (by first | omega | (refine Nat.lt_of_lt_of_le (Nat.mod_lt _ ?_) ?_ <;> omega)) (by decide) (h10) dX2_markRead_135 ?_
                refine lv_iconst (v := nI 1) hx hb dX2_markRead_136 (by decide) ?_
                refine lv_iload hx hb dX2_markRead_137 (lv_at hl 0 rfl) ?_
                refine lv_ishl hx hb dX2_markRead_139 ?_
                refine lv_top (y := nI (2 ^ g)) (bi_shl1 (by first | omega | (refine Nat.lt_of_lt_of_le (Nat.mod_lt _ ?_) ?_ <;> omega))) ?_
                refine lv_ior hx hb dX2_markRead_140 ?_
                refine lv_top (y := nI (b ||| (2 ^ g))) (bi_or _ _) ?_
                refine m_iast (n := 5) (j := dd.2.1.length) hx hb hK hH hS (by decide) rfl (by first | omega | (refine Nat.lt_of_lt_of_le (Nat.mod_lt _ ?_) ?_ <;> omega)) (by decide) dX2_markRead_141 (fun H locs hH hS => ?_)
                have hM := hM.vS (k := 10) rfl dd.2.1.length (nI (b ||| (2 ^ g)))
                refine lv_aload_n hx hb dX2_markRead_142 rfl (lv_at hl 2 rfl) ?_
                refine hp_callV (As := []) (rest := []) hx hb hml hown hts hPB hK hH hS (mt_named hK0 hO hM hX (tk := (nx S t3.2)) rd3) mset_o rfl rfl 0 (lw_V q1695 q1697 qs57 q107 q1698) (by decide +kernel) ⟨rfl, rfl⟩ (by decide) rfl hl.1 rfl (Nat.le_of_ble_eq_true rfl) (by decide) dX2_markRead_143 (fun v34 h36 H locs hp35 _ hH hS => ?_)
                obtain ⟨rfl, rfl⟩ := hp35
                refine lv_ldc2 (v := -1) hx hb hown (hts _ q1699) dX2_markRead_146 ?_
                refine W.lcmp hx hb dX2_markRead_149 ?_
                refine lv_if_eq (tgt := 157) hx hb dX2_markRead_150 (by decide) (fun cm => ?_) (fun cm => ?_)
                · have cm := (nmJ_m1 (nam_ok rd3.2.2.2)).mp (cmp_eq cm)
                  refine lv_iconst (v := nI 0) hx hb dX2_markRead_157 (by decide) ?_
                  refine lv_istore (lv' := [(4, .int (nI 0)), (7, .int (nI g)), (5, .long (nmJ (namS S t3))), (0, .ref o), (1, .long (nmJ (namS S tk))), (3, .int (nI dd.2.1.length))]) hx hb dX2_markRead_158 hl (by decide) rfl (fun ls hl => ?_)
                  refine lv_goto (tgt := 59) hx hb dX2_markRead_160 (by decide) ?_
                  exact ih59 (nx S t3.2) (b ||| 2 ^ g) false (f - 1) _ _ (by omega) H locs ls ⟨rd3, or_lt hb0 (by omega), hD3.w10 _, vset_self _ _ _ _, hkv.vs (by decide) _ _, fun u hu => by rw [vset_ne _ _ (by omega)]; exact hke u hu, ⟨(fun q => by cases q), fun _ => (hres.1 cmo).trans (rdB_last (by omega) emb eg (by rw [cm]; rfl))⟩, by omega, hM, hH, hS, lv_sub hl [3, 4, 5, 0] rfl⟩
                · have cm := fun q => cmp_ne cm ((nmJ_m1 (nam_ok rd3.2.2.2)).mpr q)
                  refine lv_iconst (v := nI 1) hx hb dX2_markRead_153 (by decide) ?_
                  refine lv_goto (tgt := 158) hx hb dX2_markRead_154 (by decide) ?_
                  refine lv_istore (lv' := [(4, .int (nI 1)), (7, .int (nI g)), (5, .long (nmJ (namS S t3))), (0, .ref o), (1, .long (nmJ (namS S tk))), (3, .int (nI dd.2.1.length))]) hx hb dX2_markRead_158 hl (by decide) rfl (fun ls hl => ?_)
                  refine lv_goto (tgt := 59) hx hb dX2_markRead_160 (by decide) ?_
                  exact ih59 (nx S t3.2) (b ||| 2 ^ g) true (f - 1) _ _ (by omega) H locs ls ⟨rd3, or_lt hb0 (by omega), hD3.w10 _, vset_self _ _ _ _, hkv.vs (by decide) _ _, fun u hu => by rw [vset_ne _ _ (by omega)]; exact hke u hu, ⟨fun _ => (hres.1 cmo).trans (rdB_more (by omega) emb eg (Option.isSome_iff_ne_none.mpr cm)), (fun q => by cases q)⟩, by omega, hM, hH, hS, lv_sub hl [3, 4, 5, 0] rfl⟩
              · cases cq
        · have cn := (nmJ_m1 (nam_ok hrt.2.2.2)).mp (cmp_eq cn)
          refine lv_iconst (v := (-1)) hx hb dX2_markRead_79 (by decide) ?_
          refine lv_goto (tgt := 89) hx hb dX2_markRead_80 (by decide) ?_
          refine lv_top (y := oI (gstO dd (namS S t3))) (by rw [cn]; rfl) ?_
          refine lv_istore (lv' := [(7, .int (oI (gstO dd (namS S t3)))), (5, .long (nmJ (namS S t3))), (0, .ref o), (1, .long (nmJ (namS S tk))), (3, .int (nI dd.2.1.length)), (4, .int (zI mo))]) hx hb dX2_markRead_89 hl (by decide) rfl (fun ls hl => ?_)
          refine lv_aload_n hx hb dX2_markRead_91 rfl (lv_at hl 2 rfl) ?_
          refine lv_iload hx hb dX2_markRead_92 (lv_at hl 0 rfl) ?_
          refine lv_iconst (v := (-1)) hx hb dX2_markRead_94 (by decide) ?_
          refine lv_icmp_eq (tgt := 118) hx hb dX2_markRead_95 (by decide) (fun cg => ?_) (fun cg => ?_)
          · have cg := (gst_oI hDO _).mp cg
            refine lv_iconst (v := nI 0) hx hb dX2_markRead_118 (by decide) ?_
            have emb : mbOk dd (namS S t3) b = false := mb_n cg
            refine hp_callV (As := [.int (nI 0)]) (rest := []) hx hb hml hown hts hPB hK hH hS (mt_passes hK0 hO hM (tk := t3) hrt false) mset_o rfl rfl 1 (lw_V q1687 q1689 qs55 q107 q1690) (by decide +kernel) ⟨rfl, rfl⟩ (by decide) rfl hl.1 rfl (Nat.le_of_ble_eq_true rfl) (by decide) dX2_markRead_119 (fun v37 h39 H locs hp38 _ hH hS => ?_)
            obtain ⟨rfl, Prd3, rfl, hM, hkrd3, rd3⟩ := hp38
            refine lvB_ne (tgt := 127) hx hb dX2_markRead_122 (by decide) (fun cq => ?_) (fun cq => ?_)
            · cases cq
            · refine lv_iconst (v := nI 0) hx hb dX2_markRead_125 (by decide) ?_
              exact hp_zret hx hb hr rfl hlocks hH hS (by decide) (by decide) dX2_markRead_126 (⟨by rw [rdM, pas_t cb, xb_ok, pas_t cb2, xb_ok, ← et2, hres.1 cmo, rdB_err (by omega) emb]; rfl, _, _, _, rfl, hM, by rw [rdM, pas_t cb, xb_ok, pas_t cb2, xb_ok, ← et2, hres.1 cmo, rdB_err (by omega) emb]; exact rd3⟩)
          · have cg := fun q => cg ((gst_oI hDO _).mpr q)
            obtain ⟨g, eg⟩ := Option.ne_none_iff_exists'.mp cg
            rw [eg] at hl
            have hgl := gst_lt eg
            obtain ⟨L3, eL3⟩ : ∃ L3, namS S t3 = some L3 := Option.ne_none_iff_exists'.mp (fun q => by rw [q] at eg; cases eg)
            have hlt3 := (namS_ok htk3 eL3).2.2
            refine lv_aload_n hx hb dX2_markRead_98 rfl (lv_at hl 2 rfl) ?_
            refine m_get hx hb hts hown hK hH 8 (by decide) q1460 rfl (v := .ref (o + 8)) rfl dX2_markRead_99 ?_
            refine lv_iconst (v := nI 1) hx hb dX2_markRead_102 (by decide) ?_
            refine m_rowI (k' := 10) hx hb hK hH (by decide) rfl (by decide) (by decide) rfl dX2_markRead_103 ?_
            refine lv_iload_n hx hb dX2_markRead_104 rfl (lv_at hl 4 rfl) ?_
            refine m_iald (n := 5) (j := dd.2.1.length) (v := nI b) hx hb hK hH (by decide) rfl (by first | omega | (refine Nat.lt_of_lt_of_le (Nat.mod_lt _ ?_) ?_ <;> omega)) (by decide) (h10) dX2_markRead_105 ?_
            refine lv_iload hx hb dX2_markRead_106 (lv_at hl 0 rfl) ?_
            refine lv_ishr hx hb dX2_markRead_108 ?_
            refine lv_top (y := nI (b / 2 ^ g)) (bi_shr (by first | omega | (refine Nat.lt_of_lt_of_le (Nat.mod_lt _ ?_) ?_ <;> omega)) (by first | omega | (refine Nat.lt_of_lt_of_le (Nat.mod_lt _ ?_) ?_ <;> omega))) ?_
            refine lv_iconst (v := nI 1) hx hb dX2_markRead_109 (by decide) ?_
            refine lv_iand hx hb dX2_markRead_110 ?_
            refine lv_top (y := zI (Nat.testBit b g)) ((bi_and _ _).trans (bi_z _ _)) ?_
            refine lvB_ne (tgt := 118) hx hb dX2_markRead_111 (by decide) (fun cbit => ?_) (fun cbit => ?_)
            · refine lv_iconst (v := nI 0) hx hb dX2_markRead_118 (by decide) ?_
              have emb : mbOk dd (namS S t3) b = false := mb_f eg cbit
              refine hp_callV (As := [.int (nI 0)]) (rest := []) hx hb hml hown hts hPB hK hH hS (mt_passes hK0 hO hM (tk := t3) hrt false) mset_o rfl rfl 1 (lw_V q1687 q1689 qs55 q107 q1690) (by decide +kernel) ⟨rfl, rfl⟩ (by decide) rfl hl.1 rfl (Nat.le_of_ble_eq_true rfl) (by decide) dX2_markRead_119 (fun v40 h42 H locs hp41 _ hH hS => ?_)
              obtain ⟨rfl, Prd3, rfl, hM, hkrd3, rd3⟩ := hp41
              refine lvB_ne (tgt := 127) hx hb dX2_markRead_122 (by decide) (fun cq => ?_) (fun cq => ?_)
              · cases cq
              · refine lv_iconst (v := nI 0) hx hb dX2_markRead_125 (by decide) ?_
                exact hp_zret hx hb hr rfl hlocks hH hS (by decide) (by decide) dX2_markRead_126 (⟨by rw [rdM, pas_t cb, xb_ok, pas_t cb2, xb_ok, ← et2, hres.1 cmo, rdB_err (by omega) emb]; rfl, _, _, _, rfl, hM, by rw [rdM, pas_t cb, xb_ok, pas_t cb2, xb_ok, ← et2, hres.1 cmo, rdB_err (by omega) emb]; exact rd3⟩)
            · refine lv_iconst (v := nI 1) hx hb dX2_markRead_114 (by decide) ?_
              refine lv_goto (tgt := 119) hx hb dX2_markRead_115 (by decide) ?_
              have emb : mbOk dd (namS S t3) b = true := mb_t eg cbit
              refine hp_callV (As := [.int (nI 1)]) (rest := []) hx hb hml hown hts hPB hK hH hS (mt_passes hK0 hO hM (tk := t3) hrt true) mset_o rfl rfl 1 (lw_V q1687 q1689 qs55 q107 q1690) (by decide +kernel) ⟨rfl, rfl⟩ (by decide) rfl hl.1 rfl (Nat.le_of_ble_eq_true rfl) (by decide) dX2_markRead_119 (fun v43 h45 H locs hp44 _ hH hS => ?_)
              obtain ⟨rfl, Prd3, rfl, hM, hkrd3, rd3⟩ := hp44
              refine lvB_ne (tgt := 127) hx hb dX2_markRead_122 (by decide) (fun cq => ?_) (fun cq => ?_)
              · have rd3 : rdP S (nx S t3.2) Prd3 := rd3
                have hnx3 := (nx_ok htk31.2).2
                have hnx4 := rd3.2.2.2.1
                refine lv_aload_n hx hb dX2_markRead_127 rfl (lv_at hl 2 rfl) ?_
                refine m_get hx hb hts hown hK hH 8 (by decide) q1460 rfl (v := .ref (o + 8)) rfl dX2_markRead_128 ?_
                refine lv_iconst (v := nI 1) hx hb dX2_markRead_131 (by decide) ?_
                refine m_rowI (k' := 10) hx hb hK hH (by decide) rfl (by decide) (by decide) rfl dX2_markRead_132 ?_
                refine lv_iload_n hx hb dX2_markRead_133 rfl (lv_at hl 4 rfl) ?_
                refine lv_dup2_11 hx hb dX2_markRead_134 rfl rfl ?_
                refine m_iald (n := 5) (j := dd.2.1.length) (v := nI b) hx hb hK hH (by decide) rfl (by first | omega | (refine Nat.lt_of_lt_of_le (Nat.mod_lt _ ?_) ?_ <;> omega)) (by decide) (h10) dX2_markRead_135 ?_
                refine lv_iconst (v := nI 1) hx hb dX2_markRead_136 (by decide) ?_
                refine lv_iload hx hb dX2_markRead_137 (lv_at hl 0 rfl) ?_
                refine lv_ishl hx hb dX2_markRead_139 ?_
                refine lv_top (y := nI (2 ^ g)) (bi_shl1 (by first | omega | (refine Nat.lt_of_lt_of_le (Nat.mod_lt _ ?_) ?_ <;> omega))) ?_
                refine lv_ior hx hb dX2_markRead_140 ?_
                refine lv_top (y := nI (b ||| (2 ^ g))) (bi_or _ _) ?_
                refine m_iast (n := 5) (j := dd.2.1.length) hx hb hK hH hS (by decide) rfl (by first | omega | (refine Nat.lt_of_lt_of_le (Nat.mod_lt _ ?_) ?_ <;> omega)) (by decide) dX2_markRead_141 (fun H locs hH hS => ?_)
                have hM := hM.vS (k := 10) rfl dd.2.1.length (nI (b ||| (2 ^ g)))
                refine lv_aload_n hx hb dX2_markRead_142 rfl (lv_at hl 2 rfl) ?_
                refine hp_callV (As := []) (rest := []) hx hb hml hown hts hPB hK hH hS (mt_named hK0 hO hM hX (tk := (nx S t3.2)) rd3) mset_o rfl rfl 0 (lw_V q1695 q1697 qs57 q107 q1698) (by decide +kernel) ⟨rfl, rfl⟩ (by decide) rfl hl.1 rfl (Nat.le_of_ble_eq_true rfl) (by decide) dX2_markRead_143 (fun v46 h48 H locs hp47 _ hH hS => ?_)
                obtain ⟨rfl, rfl⟩ := hp47
                refine lv_ldc2 (v := -1) hx hb hown (hts _ q1699) dX2_markRead_146 ?_
                refine W.lcmp hx hb dX2_markRead_149 ?_
                refine lv_if_eq (tgt := 157) hx hb dX2_markRead_150 (by decide) (fun cm => ?_) (fun cm => ?_)
                · have cm := (nmJ_m1 (nam_ok rd3.2.2.2)).mp (cmp_eq cm)
                  refine lv_iconst (v := nI 0) hx hb dX2_markRead_157 (by decide) ?_
                  refine lv_istore (lv' := [(4, .int (nI 0)), (7, .int (nI g)), (5, .long (nmJ (namS S t3))), (0, .ref o), (1, .long (nmJ (namS S tk))), (3, .int (nI dd.2.1.length))]) hx hb dX2_markRead_158 hl (by decide) rfl (fun ls hl => ?_)
                  refine lv_goto (tgt := 59) hx hb dX2_markRead_160 (by decide) ?_
                  exact ih59 (nx S t3.2) (b ||| 2 ^ g) false (f - 1) _ _ (by omega) H locs ls ⟨rd3, or_lt hb0 (by omega), hD3.w10 _, vset_self _ _ _ _, hkv.vs (by decide) _ _, fun u hu => by rw [vset_ne _ _ (by omega)]; exact hke u hu, ⟨(fun q => by cases q), fun _ => (hres.1 cmo).trans (rdB_last (by omega) emb eg (by rw [cm]; rfl))⟩, by omega, hM, hH, hS, lv_sub hl [3, 4, 5, 0] rfl⟩
                · have cm := fun q => cmp_ne cm ((nmJ_m1 (nam_ok rd3.2.2.2)).mpr q)
                  refine lv_iconst (v := nI 1) hx hb dX2_markRead_153 (by decide) ?_
                  refine lv_goto (tgt := 158) hx hb dX2_markRead_154 (by decide) ?_
                  refine lv_istore (lv' := [(4, .int (nI 1)), (7, .int (nI g)), (5, .long (nmJ (namS S t3))), (0, .ref o), (1, .long (nmJ (namS S tk))), (3, .int (nI dd.2.1.length))]) hx hb dX2_markRead_158 hl (by decide) rfl (fun ls hl => ?_)
                  refine lv_goto (tgt := 59) hx hb dX2_markRead_160 (by decide) ?_
                  exact ih59 (nx S t3.2) (b ||| 2 ^ g) true (f - 1) _ _ (by omega) H locs ls ⟨rd3, or_lt hb0 (by omega), hD3.w10 _, vset_self _ _ _ _, hkv.vs (by decide) _ _, fun u hu => by rw [vset_ne _ _ (by omega)]; exact hke u hu, ⟨fun _ => (hres.1 cmo).trans (rdB_more (by omega) emb eg (Option.isSome_iff_ne_none.mpr cm)), (fun q => by cases q)⟩, by omega, hM, hH, hS, lv_sub hl [3, 4, 5, 0] rfl⟩
              · cases cq
    · rw [pas_f cb2] at rd2
      refine lv_iconst (v := nI 0) hx hb dX2_markRead_36 (by decide) ?_
      exact hp_zret hx hb hr rfl hlocks hH hS (by decide) (by decide) dX2_markRead_37 (⟨by rw [rdM, pas_t cb, xb_ok, pas_f cb2]; rfl, _, _, _, rfl, hM, by rw [rdM, pas_t cb, xb_ok, pas_f cb2]; exact rd2⟩)
end MODEL
