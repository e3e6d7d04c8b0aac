/-! by gen/mspec.py -/
set_option maxRecDepth 100000
section MODEL
variable {l : Launch} {s0 : State} {D : va_G} {K : Nat → ClassId} {wd : Nat → Nat} {o : Nat} {h : Hp} {I : Nat → Int32} {V : Nat → Nat → Int32} {J : Nat → Nat → Int64}
set_option maxHeartbeats 4000000 in
theorem mt_line (hK0 : va_K D CL (TYS K) s0) {S : Ab} (hO : SOK S) (hM : MOK S I V) {av : Nat → Nat} (hX : OX wd av (zA s0) s0 s0.heap) {tk : Tk} (hrp : rdP S tk I) {dd : Dr} (hD : drR dd V J) (hDO : drOK dd) : Met l yX2_line (ws_ yX2_line cX2_line 2 ((Option.some Jvm.ClassFile.FieldType.boolean))) (rmk 8 0 0) (va_Pc [.ref o] (PB s0 D CL (mset h K wd o I V J))) (QR s0 D CL (fun v h1 => v = some (.int (zI (xk (rdL S dd tk)))) ∧ ∃ P U W, h1 = mset h K wd o P U W ∧ MOK S P U ∧ rdE S (rdL S dd tk) P U W)) 0 0 (zA s0) := by
  refine hp_met (by decide) (Nat.le_of_ble_eq_true rfl) hK0 ?_
  intro p e s m below meth cd ls hx hb hr hlocks hml hown hnm hts hK hPB hl hS hH hA
  have hl : lv_has ls 2 [(0, .ref o)] := hl
  have hown : s.vm.findClass RX2 = some m.cls := hown
  have hn := hO.n
  have hmk := hO.mk
  have hrl := hO.rl
  have hrm := hO.rm
  have hsz := hO.sz
  have htk := hrp.2.2.2
  have htk1 := htk.1
  have hD1 := hDO.1
  refine lv_aload_n hx hb dX2_line_0 rfl (lv_at hl 0 rfl) ?_
  refine lv_iconst (v := nI 0) hx hb dX2_line_1 (by decide) ?_
  refine hp_callV (As := [.int (nI 0)]) (rest := []) hx hb hml hown hts hPB hK hH hS (mt_isWord hK0 hO hM hX (tk := tk) hrp (w := 0) (by omega)) mset_o rfl rfl 1 (lw_V q1681 q1683 qs54 q107 q1684) (by decide +kernel) ⟨rfl, rfl⟩ (by decide) rfl hl.1 rfl (Nat.le_of_ble_eq_true rfl) (by decide) dX2_line_2 (fun v1 h3 H locs hp2 _ hH hS => ?_)
  obtain ⟨rfl, rfl⟩ := hp2
  refine lvB_eq (tgt := 44) hx hb dX2_line_5 (by decide) (fun c0 => ?_) (fun c0 => ?_)
  · refine lv_aload_n hx hb dX2_line_44 rfl (lv_at hl 0 rfl) ?_
    refine lv_iconst (v := nI 1) hx hb dX2_line_45 (by decide) ?_
    refine hp_callV (As := [.int (nI 1)]) (rest := []) hx hb hml hown hts hPB hK hH hS (mt_isWord hK0 hO hM hX (tk := tk) hrp (w := 1) (by omega)) mset_o rfl rfl 1 (lw_V q1681 q1683 qs54 q107 q1684) (by decide +kernel) ⟨rfl, rfl⟩ (by decide) rfl hl.1 rfl (Nat.le_of_ble_eq_true rfl) (by decide) dX2_line_46 (fun v4 h6 H locs hp5 _ hH hS => ?_)
    obtain ⟨rfl, rfl⟩ := hp5
    refine lvB_eq (tgt := 87) hx hb dX2_line_49 (by decide) (fun c1 => ?_) (fun c1 => ?_)
    · refine lv_aload_n hx hb dX2_line_87 rfl (lv_at hl 0 rfl) ?_
      refine lv_iconst (v := nI 3) hx hb dX2_line_88 (by decide) ?_
      refine hp_callV (As := [.int (nI 3)]) (rest := []) hx hb hml hown hts hPB hK hH hS (mt_isWord hK0 hO hM hX (tk := tk) hrp (w := 3) (by omega)) mset_o rfl rfl 1 (lw_V q1681 q1683 qs54 q107 q1684) (by decide +kernel) ⟨rfl, rfl⟩ (by decide) rfl hl.1 rfl (Nat.le_of_ble_eq_true rfl) (by decide) dX2_line_89 (fun v7 h9 H locs hp8 _ hH hS => ?_)
      obtain ⟨rfl, rfl⟩ := hp8
      refine lvB_eq (tgt := 99) hx hb dX2_line_92 (by decide) (fun c3 => ?_) (fun c3 => ?_)
      · refine lv_aload_n hx hb dX2_line_99 rfl (lv_at hl 0 rfl) ?_
        refine lv_iconst (v := nI 4) hx hb dX2_line_100 (by decide) ?_
        refine hp_callV (As := [.int (nI 4)]) (rest := []) hx hb hml hown hts hPB hK hH hS (mt_isWord hK0 hO hM hX (tk := tk) hrp (w := 4) (by omega)) mset_o rfl rfl 1 (lw_V q1681 q1683 qs54 q107 q1684) (by decide +kernel) ⟨rfl, rfl⟩ (by decide) rfl hl.1 rfl (Nat.le_of_ble_eq_true rfl) (by decide) dX2_line_101 (fun v10 h12 H locs hp11 _ hH hS => ?_)
        obtain ⟨rfl, rfl⟩ := hp11
        refine lvB_eq (tgt := 111) hx hb dX2_line_104 (by decide) (fun c4 => ?_) (fun c4 => ?_)
        · refine lv_aload_n hx hb dX2_line_111 rfl (lv_at hl 0 rfl) ?_
          refine lv_iconst (v := nI 5) hx hb dX2_line_112 (by decide) ?_
          refine hp_callV (As := [.int (nI 5)]) (rest := []) hx hb hml hown hts hPB hK hH hS (mt_isWord hK0 hO hM hX (tk := tk) hrp (w := 5) (by omega)) mset_o rfl rfl 1 (lw_V q1681 q1683 qs54 q107 q1684) (by decide +kernel) ⟨rfl, rfl⟩ (by decide) rfl hl.1 rfl (Nat.le_of_ble_eq_true rfl) (by decide) dX2_line_113 (fun v13 h15 H locs hp14 _ hH hS => ?_)
          obtain ⟨rfl, rfl⟩ := hp14
          refine lvB_eq (tgt := 123) hx hb dX2_line_116 (by decide) (fun c5 => ?_) (fun c5 => ?_)
          · refine lv_iconst (v := (-1)) hx hb dX2_line_123 (by decide) ?_
            have ekd : kdO S tk = none := by rw [kdO, if_neg (by rw [c3]; decide), if_neg (by rw [c4]; decide), if_neg (by rw [c5]; decide)]
            refine lv_istore_n (lv' := [(1, .int (-1)), (0, .ref o)]) hx hb dX2_line_124 rfl hl (by decide) rfl (fun ls hl => ?_)
            refine lv_aload_n hx hb dX2_line_125 rfl (lv_at hl 1 rfl) ?_
            refine lv_iload_n hx hb dX2_line_126 rfl (lv_at hl 0 rfl) ?_
            refine lv_iconst (v := (-1)) hx hb dX2_line_127 (by decide) ?_
            refine lv_icmp_eq (tgt := 146) hx hb dX2_line_128 (by decide) (fun c16 => ?_) (fun c16 => ?_)
            · refine lv_iconst (v := nI 0) hx hb dX2_line_146 (by decide) ?_
              have eq1 : ((kdO S tk).isSome && decide (dd.2.2.length < 12)) = false := by rw [ekd]; rfl
              refine hp_callV (As := [.int (nI 0)]) (rest := []) hx hb hml hown hts hPB hK hH hS (mt_passes hK0 hO hM (tk := tk) hrp false) mset_o rfl rfl 1 (lw_V q1687 q1689 qs55 q107 q1690) (by decide +kernel) ⟨rfl, rfl⟩ (by decide) rfl hl.1 rfl (Nat.le_of_ble_eq_true rfl) (by decide) dX2_line_147 (fun v17 h19 H locs hp18 _ hH hS => ?_)
              obtain ⟨rfl, Prd, rfl, hM, hkrd, rd⟩ := hp18
              refine lvB_eq (tgt := 165) hx hb dX2_line_150 (by decide) (fun cq => ?_) (fun cq => ?_)
              · refine lv_iconst (v := nI 0) hx hb dX2_line_165 (by decide) ?_
                exact hp_zret hx hb hr rfl hlocks hH hS (by decide) (by decide) dX2_line_166 (⟨congrArg some (congrArg Value.int (zI_0 (by rw [rdL, if_neg (by rw [c0]; decide), if_neg (by rw [c1]; decide), pas_f eq1, xb_er]; rfl))), _, _, _, rfl, hM, by rw [rdL, if_neg (by rw [c0]; decide), if_neg (by rw [c1]; decide), pas_f eq1, xb_er]; exact rd⟩)
              · cases cq
            · exact absurd rfl c16
          · refine lv_iconst (v := nI 2) hx hb dX2_line_119 (by decide) ?_
            refine lv_goto (tgt := 124) hx hb dX2_line_120 (by decide) ?_
            have ekd : kdO S tk = some 2 := by rw [kdO, if_neg (by rw [c3]; decide), if_neg (by rw [c4]; decide), if_pos c5]
            refine lv_istore_n (lv' := [(1, .int (nI 2)), (0, .ref o)]) hx hb dX2_line_124 rfl hl (by decide) rfl (fun ls hl => ?_)
            refine lv_aload_n hx hb dX2_line_125 rfl (lv_at hl 1 rfl) ?_
            refine lv_iload_n hx hb dX2_line_126 rfl (lv_at hl 0 rfl) ?_
            refine lv_iconst (v := (-1)) hx hb dX2_line_127 (by decide) ?_
            refine lv_icmp_eq (tgt := 146) hx hb dX2_line_128 (by decide) (fun c20 => ?_) (fun c20 => ?_)
            · exact absurd c20 (by decide)
            · refine lv_aload_n hx hb dX2_line_131 rfl (lv_at hl 1 rfl) ?_
              refine m_get hx hb hts hown hK hH 17 (by decide) q1469 rfl (v := .ref (o + 31)) rfl dX2_line_132 ?_
              refine lv_iconst (v := nI 1) hx hb dX2_line_135 (by decide) ?_
              refine m_iald (n := 2) (j := 1) (v := nI dd.2.2.length) hx hb hK hH (by decide) rfl (by first | omega | (refine Nat.lt_of_lt_of_le (Nat.mod_lt _ ?_) ?_ <;> omega)) (by decide) (hD.1.2.2) dX2_line_136 ?_
              refine lv_bipush (v := nI 12) hx hb dX2_line_137 (by decide) ?_
              refine lvN_ge (tgt := 146) hx hb (by first | omega | (refine Nat.lt_of_lt_of_le (Nat.mod_lt _ ?_) ?_ <;> omega)) (by first | omega | (refine Nat.lt_of_lt_of_le (Nat.mod_lt _ ?_) ?_ <;> omega)) dX2_line_139 (by decide) (fun c21 => ?_) (fun c21 => ?_)
              · refine lv_iconst (v := nI 0) hx hb dX2_line_146 (by decide) ?_
                have eq1 : ((kdO S tk).isSome && decide (dd.2.2.length < 12)) = false := by rw [ekd, decide_eq_false (show ¬ dd.2.2.length < 12 by omega)]; rfl
                refine hp_callV (As := [.int (nI 0)]) (rest := []) hx hb hml hown hts hPB hK hH hS (mt_passes hK0 hO hM (tk := tk) hrp false) mset_o rfl rfl 1 (lw_V q1687 q1689 qs55 q107 q1690) (by decide +kernel) ⟨rfl, rfl⟩ (by decide) rfl hl.1 rfl (Nat.le_of_ble_eq_true rfl) (by decide) dX2_line_147 (fun v22 h24 H locs hp23 _ hH hS => ?_)
                obtain ⟨rfl, Prd, rfl, hM, hkrd, rd⟩ := hp23
                refine lvB_eq (tgt := 165) hx hb dX2_line_150 (by decide) (fun cq => ?_) (fun cq => ?_)
                · refine lv_iconst (v := nI 0) hx hb dX2_line_165 (by decide) ?_
                  exact hp_zret hx hb hr rfl hlocks hH hS (by decide) (by decide) dX2_line_166 (⟨congrArg some (congrArg Value.int (zI_0 (by rw [rdL, if_neg (by rw [c0]; decide), if_neg (by rw [c1]; decide), pas_f eq1, xb_er]; rfl))), _, _, _, rfl, hM, by rw [rdL, if_neg (by rw [c0]; decide), if_neg (by rw [c1]; decide), pas_f eq1, xb_er]; exact rd⟩)
                · cases cq
              · refine lv_iconst (v := nI 1) hx hb dX2_line_142 (by decide) ?_
                refine lv_goto (tgt := 147) hx hb dX2_line_143 (by decide) ?_
                have eq1 : ((kdO S tk).isSome && decide (dd.2.2.length < 12)) = true := by rw [ekd, decide_eq_true (show dd.2.2.length < 12 by omega)]; rfl
                refine hp_callV (As := [.int (nI 1)]) (rest := []) hx hb hml hown hts hPB hK hH hS (mt_passes hK0 hO hM (tk := tk) hrp true) mset_o rfl rfl 1 (lw_V q1687 q1689 qs55 q107 q1690) (by decide +kernel) ⟨rfl, rfl⟩ (by decide) rfl hl.1 rfl (Nat.le_of_ble_eq_true rfl) (by decide) dX2_line_147 (fun v25 h27 H locs hp26 _ hH hS => ?_)
                obtain ⟨rfl, Prd, rfl, hM, hkrd, rd⟩ := hp26
                refine lvB_eq (tgt := 165) hx hb dX2_line_150 (by decide) (fun cq => ?_) (fun cq => ?_)
                · cases cq
                · have rd : rdP S (nx S tk.2) Prd := rd
                  refine lv_aload_n hx hb dX2_line_153 rfl (lv_at hl 1 rfl) ?_
                  refine lv_iload_n hx hb dX2_line_154 rfl (lv_at hl 0 rfl) ?_
                  refine hp_callV (As := [.int (nI 2)]) (rest := []) hx hb hml hown hts hPB hK hH hS (mt_ruleRead hK0 hO hM hX (tk := nx S tk.2) rd hD hDO (kd := 2) (by decide) (by omega)) mset_o rfl rfl 1 (lw_V q1722 q1724 qs63 q107 q1725) (by decide +kernel) ⟨rfl, rfl⟩ (by decide) rfl hl.1 rfl (Nat.le_of_ble_eq_true rfl) (by decide) dX2_line_155 (fun v28 h30 H locs hp29 _ hH hS => ?_)
                  obtain ⟨rfl, P3, U3, W3, rfl, hM, re⟩ := hp29
                  refine lvB_eq (tgt := 165) hx hb dX2_line_158 (by decide) (fun cx => ?_) (fun cx => ?_)
                  · refine lv_iconst (v := nI 0) hx hb dX2_line_165 (by decide) ?_
                    exact hp_zret hx hb hr rfl hlocks hH hS (by decide) (by decide) dX2_line_166 (⟨congrArg some (congrArg Value.int (zI_0 (by rw [rdL, if_neg (by rw [c0]; decide), if_neg (by rw [c1]; decide), pas_t eq1, xb_ok, ekd]; exact cx))), _, _, _, rfl, hM, by rw [rdL, if_neg (by rw [c0]; decide), if_neg (by rw [c1]; decide), pas_t eq1, xb_ok, ekd]; exact re⟩)
                  · refine lv_iconst (v := nI 1) hx hb dX2_line_161 (by decide) ?_
                    refine lv_goto (tgt := 166) hx hb dX2_line_162 (by decide) ?_
                    exact hp_zret hx hb hr rfl hlocks hH hS (by decide) (by decide) dX2_line_166 (⟨congrArg some (congrArg Value.int (zI_1 (by rw [rdL, if_neg (by rw [c0]; decide), if_neg (by rw [c1]; decide), pas_t eq1, xb_ok, ekd]; exact cx))), _, _, _, rfl, hM, by rw [rdL, if_neg (by rw [c0]; decide), if_neg (by rw [c1]; decide), pas_t eq1, xb_ok, ekd]; exact re⟩)
        · refine lv_iconst (v := nI 1) hx hb dX2_line_107 (by decide) ?_
          refine lv_goto (tgt := 124) hx hb dX2_line_108 (by decide) ?_
          have ekd : kdO S tk = some 1 := by rw [kdO, if_neg (by rw [c3]; decide), if_pos c4]
          refine lv_istore_n (lv' := [(1, .int (nI 1)), (0, .ref o)]) hx hb dX2_line_124 rfl hl (by decide) rfl (fun ls hl => ?_)
          refine lv_aload_n hx hb dX2_line_125 rfl (lv_at hl 1 rfl) ?_
          refine lv_iload_n hx hb dX2_line_126 rfl (lv_at hl 0 rfl) ?_
          refine lv_iconst (v := (-1)) hx hb dX2_line_127 (by decide) ?_
          refine lv_icmp_eq (tgt := 146) hx hb dX2_line_128 (by decide) (fun c31 => ?_) (fun c31 => ?_)
          · exact absurd c31 (by decide)
          · refine lv_aload_n hx hb dX2_line_131 rfl (lv_at hl 1 rfl) ?_
            refine m_get hx hb hts hown hK hH 17 (by decide) q1469 rfl (v := .ref (o + 31)) rfl dX2_line_132 ?_
            refine lv_iconst (v := nI 1) hx hb dX2_line_135 (by decide) ?_
            refine m_iald (n := 2) (j := 1) (v := nI dd.2.2.length) hx hb hK hH (by decide) rfl (by first | omega | (refine Nat.lt_of_lt_of_le (Nat.mod_lt _ ?_) ?_ <;> omega)) (by decide) (hD.1.2.2) dX2_line_136 ?_
            refine lv_bipush (v := nI 12) hx hb dX2_line_137 (by decide) ?_
            refine lvN_ge (tgt := 146) hx hb (by first | omega | (refine Nat.lt_of_lt_of_le (Nat.mod_lt _ ?_) ?_ <;> omega)) (by first | omega | (refine Nat.lt_of_lt_of_le (Nat.mod_lt _ ?_) ?_ <;> omega)) dX2_line_139 (by decide) (fun c32 => ?_) (fun c32 => ?_)
            · refine lv_iconst (v := nI 0) hx hb dX2_line_146 (by decide) ?_
              have eq1 : ((kdO S tk).isSome && decide (dd.2.2.length < 12)) = false := by rw [ekd, decide_eq_false (show ¬ dd.2.2.length < 12 by omega)]; rfl
              refine hp_callV (As := [.int (nI 0)]) (rest := []) hx hb hml hown hts hPB hK hH hS (mt_passes hK0 hO hM (tk := tk) hrp false) mset_o rfl rfl 1 (lw_V q1687 q1689 qs55 q107 q1690) (by decide +kernel) ⟨rfl, rfl⟩ (by decide) rfl hl.1 rfl (Nat.le_of_ble_eq_true rfl) (by decide) dX2_line_147 (fun v33 h35 H locs hp34 _ hH hS => ?_)
              obtain ⟨rfl, Prd, rfl, hM, hkrd, rd⟩ := hp34
              refine lvB_eq (tgt := 165) hx hb dX2_line_150 (by decide) (fun cq => ?_) (fun cq => ?_)
              · refine lv_iconst (v := nI 0) hx hb dX2_line_165 (by decide) ?_
                exact hp_zret hx hb hr rfl hlocks hH hS (by decide) (by decide) dX2_line_166 (⟨congrArg some (congrArg Value.int (zI_0 (by rw [rdL, if_neg (by rw [c0]; decide), if_neg (by rw [c1]; decide), pas_f eq1, xb_er]; rfl))), _, _, _, rfl, hM, by rw [rdL, if_neg (by rw [c0]; decide), if_neg (by rw [c1]; decide), pas_f eq1, xb_er]; exact rd⟩)
              · cases cq
            · refine lv_iconst (v := nI 1) hx hb dX2_line_142 (by decide) ?_
              refine lv_goto (tgt := 147) hx hb dX2_line_143 (by decide) ?_
              have eq1 : ((kdO S tk).isSome && decide (dd.2.2.length < 12)) = true := by rw [ekd, decide_eq_true (show dd.2.2.length < 12 by omega)]; rfl
              refine hp_callV (As := [.int (nI 1)]) (rest := []) hx hb hml hown hts hPB hK hH hS (mt_passes hK0 hO hM (tk := tk) hrp true) mset_o rfl rfl 1 (lw_V q1687 q1689 qs55 q107 q1690) (by decide +kernel) ⟨rfl, rfl⟩ (by decide) rfl hl.1 rfl (Nat.le_of_ble_eq_true rfl) (by decide) dX2_line_147 (fun v36 h38 H locs hp37 _ hH hS => ?_)
              obtain ⟨rfl, Prd, rfl, hM, hkrd, rd⟩ := hp37
              refine lvB_eq (tgt := 165) hx hb dX2_line_150 (by decide) (fun cq => ?_) (fun cq => ?_)
              · cases cq
              · have rd : rdP S (nx S tk.2) Prd := rd
                refine lv_aload_n hx hb dX2_line_153 rfl (lv_at hl 1 rfl) ?_
                refine lv_iload_n hx hb dX2_line_154 rfl (lv_at hl 0 rfl) ?_
                refine hp_callV (As := [.int (nI 1)]) (rest := []) hx hb hml hown hts hPB hK hH hS (mt_ruleRead hK0 hO hM hX (tk := nx S tk.2) rd hD hDO (kd := 1) (by decide) (by omega)) mset_o rfl rfl 1 (lw_V q1722 q1724 qs63 q107 q1725) (by decide +kernel) ⟨rfl, rfl⟩ (by decide) rfl hl.1 rfl (Nat.le_of_ble_eq_true rfl) (by decide) dX2_line_155 (fun v39 h41 H locs hp40 _ hH hS => ?_)
                obtain ⟨rfl, P3, U3, W3, rfl, hM, re⟩ := hp40
                refine lvB_eq (tgt := 165) hx hb dX2_line_158 (by decide) (fun cx => ?_) (fun cx => ?_)
                · refine lv_iconst (v := nI 0) hx hb dX2_line_165 (by decide) ?_
                  exact hp_zret hx hb hr rfl hlocks hH hS (by decide) (by decide) dX2_line_166 (⟨congrArg some (congrArg Value.int (zI_0 (by rw [rdL, if_neg (by rw [c0]; decide), if_neg (by rw [c1]; decide), pas_t eq1, xb_ok, ekd]; exact cx))), _, _, _, rfl, hM, by rw [rdL, if_neg (by rw [c0]; decide), if_neg (by rw [c1]; decide), pas_t eq1, xb_ok, ekd]; exact re⟩)
                · refine lv_iconst (v := nI 1) hx hb dX2_line_161 (by decide) ?_
                  refine lv_goto (tgt := 166) hx hb dX2_line_162 (by decide) ?_
                  exact hp_zret hx hb hr rfl hlocks hH hS (by decide) (by decide) dX2_line_166 (⟨congrArg some (congrArg Value.int (zI_1 (by rw [rdL, if_neg (by rw [c0]; decide), if_neg (by rw [c1]; decide), pas_t eq1, xb_ok, ekd]; exact cx))), _, _, _, rfl, hM, by rw [rdL, if_neg (by rw [c0]; decide), if_neg (by rw [c1]; decide), pas_t eq1, xb_ok, ekd]; exact re⟩)
      · refine lv_iconst (v := nI 0) hx hb dX2_line_95 (by decide) ?_
        refine lv_goto (tgt := 124) hx hb dX2_line_96 (by decide) ?_
        have ekd : kdO S tk = some 0 := by rw [kdO, if_pos c3]
        refine lv_istore_n (lv' := [(1, .int (nI 0)), (0, .ref o)]) hx hb dX2_line_124 rfl hl (by decide) rfl (fun ls hl => ?_)
        refine lv_aload_n hx hb dX2_line_125 rfl (lv_at hl 1 rfl) ?_
        refine lv_iload_n hx hb dX2_line_126 rfl (lv_at hl 0 rfl) ?_
        refine lv_iconst (v := (-1)) hx hb dX2_line_127 (by decide) ?_
        refine lv_icmp_eq (tgt := 146) hx hb dX2_line_128 (by decide) (fun c42 => ?_) (fun c42 => ?_)
        · exact absurd c42 (by decide)
        · refine lv_aload_n hx hb dX2_line_131 rfl (lv_at hl 1 rfl) ?_
          refine m_get hx hb hts hown hK hH 17 (by decide) q1469 rfl (v := .ref (o + 31)) rfl dX2_line_132 ?_
          refine lv_iconst (v := nI 1) hx hb dX2_line_135 (by decide) ?_
          refine m_iald (n := 2) (j := 1) (v := nI dd.2.2.length) hx hb hK hH (by decide) rfl (by first | omega | (refine Nat.lt_of_lt_of_le (Nat.mod_lt _ ?_) ?_ <;> omega)) (by decide) (hD.1.2.2) dX2_line_136 ?_
          refine lv_bipush (v := nI 12) hx hb dX2_line_137 (by decide) ?_
          refine lvN_ge (tgt := 146) hx hb (by first | omega | (refine Nat.lt_of_lt_of_le (Nat.mod_lt _ ?_) ?_ <;> omega)) (by first | omega | (refine Nat.lt_of_lt_of_le (Nat.mod_lt _ ?_) ?_ <;> omega)) dX2_line_139 (by decide) (fun c43 => ?_) (fun c43 => ?_)
          · refine lv_iconst (v := nI 0) hx hb dX2_line_146 (by decide) ?_
            have eq1 : ((kdO S tk).isSome && decide (dd.2.2.length < 12)) = false := by rw [ekd, decide_eq_false (show ¬ dd.2.2.length < 12 by omega)]; rfl
            refine hp_callV (As := [.int (nI 0)]) (rest := []) hx hb hml hown hts hPB hK hH hS (mt_passes hK0 hO hM (tk := tk) hrp false) mset_o rfl rfl 1 (lw_V q1687 q1689 qs55 q107 q1690) (by decide +kernel) ⟨rfl, rfl⟩ (by decide) rfl hl.1 rfl (Nat.le_of_ble_eq_true rfl) (by decide) dX2_line_147 (fun v44 h46 H locs hp45 _ hH hS => ?_)
            obtain ⟨rfl, Prd, rfl, hM, hkrd, rd⟩ := hp45
            refine lvB_eq (tgt := 165) hx hb dX2_line_150 (by decide) (fun cq => ?_) (fun cq => ?_)
            · refine lv_iconst (v := nI 0) hx hb dX2_line_165 (by decide) ?_
              exact hp_zret hx hb hr rfl hlocks hH hS (by decide) (by decide) dX2_line_166 (⟨congrArg some (congrArg Value.int (zI_0 (by rw [rdL, if_neg (by rw [c0]; decide), if_neg (by rw [c1]; decide), pas_f eq1, xb_er]; rfl))), _, _, _, rfl, hM, by rw [rdL, if_neg (by rw [c0]; decide), if_neg (by rw [c1]; decide), pas_f eq1, xb_er]; exact rd⟩)
            · cases cq
          · refine lv_iconst (v := nI 1) hx hb dX2_line_142 (by decide) ?_
            refine lv_goto (tgt := 147) hx hb dX2_line_143 (by decide) ?_
            have eq1 : ((kdO S tk).isSome && decide (dd.2.2.length < 12)) = true := by rw [ekd, decide_eq_true (show dd.2.2.length < 12 by omega)]; rfl
            refine hp_callV (As := [.int (nI 1)]) (rest := []) hx hb hml hown hts hPB hK hH hS (mt_passes hK0 hO hM (tk := tk) hrp true) mset_o rfl rfl 1 (lw_V q1687 q1689 qs55 q107 q1690) (by decide +kernel) ⟨rfl, rfl⟩ (by decide) rfl hl.1 rfl (Nat.le_of_ble_eq_true rfl) (by decide) dX2_line_147 (fun v47 h49 H locs hp48 _ hH hS => ?_)
            obtain ⟨rfl, Prd, rfl, hM, hkrd, rd⟩ := hp48
            refine lvB_eq (tgt := 165) hx hb dX2_line_150 (by decide) (fun cq => ?_) (fun cq => ?_)
            · cases cq
            · have rd : rdP S (nx S tk.2) Prd := rd
              refine lv_aload_n hx hb dX2_line_153 rfl (lv_at hl 1 rfl) ?_
              refine lv_iload_n hx hb dX2_line_154 rfl (lv_at hl 0 rfl) ?_
              refine hp_callV (As := [.int (nI 0)]) (rest := []) hx hb hml hown hts hPB hK hH hS (mt_ruleRead hK0 hO hM hX (tk := nx S tk.2) rd hD hDO (kd := 0) (by decide) (by omega)) mset_o rfl rfl 1 (lw_V q1722 q1724 qs63 q107 q1725) (by decide +kernel) ⟨rfl, rfl⟩ (by decide) rfl hl.1 rfl (Nat.le_of_ble_eq_true rfl) (by decide) dX2_line_155 (fun v50 h52 H locs hp51 _ hH hS => ?_)
              obtain ⟨rfl, P3, U3, W3, rfl, hM, re⟩ := hp51
              refine lvB_eq (tgt := 165) hx hb dX2_line_158 (by decide) (fun cx => ?_) (fun cx => ?_)
              · refine lv_iconst (v := nI 0) hx hb dX2_line_165 (by decide) ?_
                exact hp_zret hx hb hr rfl hlocks hH hS (by decide) (by decide) dX2_line_166 (⟨congrArg some (congrArg Value.int (zI_0 (by rw [rdL, if_neg (by rw [c0]; decide), if_neg (by rw [c1]; decide), pas_t eq1, xb_ok, ekd]; exact cx))), _, _, _, rfl, hM, by rw [rdL, if_neg (by rw [c0]; decide), if_neg (by rw [c1]; decide), pas_t eq1, xb_ok, ekd]; exact re⟩)
              · refine lv_iconst (v := nI 1) hx hb dX2_line_161 (by decide) ?_
                refine lv_goto (tgt := 166) hx hb dX2_line_162 (by decide) ?_
                exact hp_zret hx hb hr rfl hlocks hH hS (by decide) (by decide) dX2_line_166 (⟨congrArg some (congrArg Value.int (zI_1 (by rw [rdL, if_neg (by rw [c0]; decide), if_neg (by rw [c1]; decide), pas_t eq1, xb_ok, ekd]; exact cx))), _, _, _, rfl, hM, by rw [rdL, if_neg (by rw [c0]; decide), if_neg (by rw [c1]; decide), pas_t eq1, xb_ok, ekd]; exact re⟩)
    · refine lv_aload_n hx hb dX2_line_52 rfl (lv_at hl 0 rfl) ?_
      refine lv_aload_n hx hb dX2_line_53 rfl (lv_at hl 0 rfl) ?_
      refine m_get hx hb hts hown hK hH 16 (by decide) q1468 rfl (v := .ref (o + 30)) rfl dX2_line_54 ?_
      refine lv_iconst (v := nI 1) hx hb dX2_line_57 (by decide) ?_
      refine m_iald (n := 2) (j := 1) (v := nI dd.2.1.length) hx hb hK hH (by decide) rfl (by first | omega | (refine Nat.lt_of_lt_of_le (Nat.mod_lt _ ?_) ?_ <;> omega)) (by decide) (hD.1.2.1) dX2_line_58 ?_
      refine lv_iconst (v := nI 5) hx hb dX2_line_59 (by decide) ?_
      refine lvN_ge (tgt := 67) hx hb (by first | omega | (refine Nat.lt_of_lt_of_le (Nat.mod_lt _ ?_) ?_ <;> omega)) (by first | omega | (refine Nat.lt_of_lt_of_le (Nat.mod_lt _ ?_) ?_ <;> omega)) dX2_line_60 (by decide) (fun c53 => ?_) (fun c53 => ?_)
      · refine lv_iconst (v := nI 0) hx hb dX2_line_67 (by decide) ?_
        have eq1 : decide (dd.2.1.length < 5) = false := decide_eq_false (by omega)
        refine hp_callV (As := [.int (nI 0)]) (rest := []) hx hb hml hown hts hPB hK hH hS (mt_passes hK0 hO hM (tk := tk) hrp false) mset_o rfl rfl 1 (lw_V q1687 q1689 qs55 q107 q1690) (by decide +kernel) ⟨rfl, rfl⟩ (by decide) rfl hl.1 rfl (Nat.le_of_ble_eq_true rfl) (by decide) dX2_line_68 (fun v54 h56 H locs hp55 _ hH hS => ?_)
        obtain ⟨rfl, Prd, rfl, hM, hkrd, rd⟩ := hp55
        refine lvB_eq (tgt := 85) hx hb dX2_line_71 (by decide) (fun cq => ?_) (fun cq => ?_)
        · refine lv_iconst (v := nI 0) hx hb dX2_line_85 (by decide) ?_
          exact hp_zret hx hb hr rfl hlocks hH hS (by decide) (by decide) dX2_line_86 (⟨congrArg some (congrArg Value.int (zI_0 (by rw [rdL, if_neg (by rw [c0]; decide), if_pos c1, pas_f eq1, xb_er]; rfl))), _, _, _, rfl, hM, by rw [rdL, if_neg (by rw [c0]; decide), if_pos c1, pas_f eq1, xb_er]; exact rd⟩)
        · cases cq
      · refine lv_iconst (v := nI 1) hx hb dX2_line_63 (by decide) ?_
        refine lv_goto (tgt := 68) hx hb dX2_line_64 (by decide) ?_
        have eq1 : decide (dd.2.1.length < 5) = true := decide_eq_true (by omega)
        refine hp_callV (As := [.int (nI 1)]) (rest := []) hx hb hml hown hts hPB hK hH hS (mt_passes hK0 hO hM (tk := tk) hrp true) mset_o rfl rfl 1 (lw_V q1687 q1689 qs55 q107 q1690) (by decide +kernel) ⟨rfl, rfl⟩ (by decide) rfl hl.1 rfl (Nat.le_of_ble_eq_true rfl) (by decide) dX2_line_68 (fun v57 h59 H locs hp58 _ hH hS => ?_)
        obtain ⟨rfl, Prd, rfl, hM, hkrd, rd⟩ := hp58
        refine lvB_eq (tgt := 85) hx hb dX2_line_71 (by decide) (fun cq => ?_) (fun cq => ?_)
        · cases cq
        · have rd : rdP S (nx S tk.2) Prd := rd
          refine lv_aload_n hx hb dX2_line_74 rfl (lv_at hl 0 rfl) ?_
          refine hp_callV (As := []) (rest := []) hx hb hml hown hts hPB hK hH hS (mt_markRead hK0 hO hM hX (tk := nx S tk.2) rd hD hDO (by omega)) mset_o rfl rfl 0 (lw_V q1718 q1720 qs62 q107 q1721) (by decide +kernel) ⟨rfl, rfl⟩ (by decide) rfl hl.1 rfl (Nat.le_of_ble_eq_true rfl) (by decide) dX2_line_75 (fun v60 h62 H locs hp61 _ hH hS => ?_)
          obtain ⟨rfl, P3, U3, W3, rfl, hM, re⟩ := hp61
          refine lvB_eq (tgt := 85) hx hb dX2_line_78 (by decide) (fun cx => ?_) (fun cx => ?_)
          · refine lv_iconst (v := nI 0) hx hb dX2_line_85 (by decide) ?_
            exact hp_zret hx hb hr rfl hlocks hH hS (by decide) (by decide) dX2_line_86 (⟨congrArg some (congrArg Value.int (zI_0 (by rw [rdL, if_neg (by rw [c0]; decide), if_pos c1, pas_t eq1, xb_ok]; exact cx))), _, _, _, rfl, hM, by rw [rdL, if_neg (by rw [c0]; decide), if_pos c1, pas_t eq1, xb_ok]; exact re⟩)
          · refine lv_iconst (v := nI 1) hx hb dX2_line_81 (by decide) ?_
            refine lv_goto (tgt := 86) hx hb dX2_line_82 (by decide) ?_
            exact hp_zret hx hb hr rfl hlocks hH hS (by decide) (by decide) dX2_line_86 (⟨congrArg some (congrArg Value.int (zI_1 (by rw [rdL, if_neg (by rw [c0]; decide), if_pos c1, pas_t eq1, xb_ok]; exact cx))), _, _, _, rfl, hM, by rw [rdL, if_neg (by rw [c0]; decide), if_pos c1, pas_t eq1, xb_ok]; exact re⟩)
  · refine lv_aload_n hx hb dX2_line_8 rfl (lv_at hl 0 rfl) ?_
    refine lv_aload_n hx hb dX2_line_9 rfl (lv_at hl 0 rfl) ?_
    refine m_get hx hb hts hown hK hH 15 (by decide) q1467 rfl (v := .ref (o + 29)) rfl dX2_line_10 ?_
    refine lv_iconst (v := nI 1) hx hb dX2_line_13 (by decide) ?_
    refine m_iald (n := 2) (j := 1) (v := nI dd.1.length) hx hb hK hH (by decide) rfl (by first | omega | (refine Nat.lt_of_lt_of_le (Nat.mod_lt _ ?_) ?_ <;> omega)) (by decide) (hD.1.1) dX2_line_14 ?_
    refine lv_bipush (v := nI 10) hx hb dX2_line_15 (by decide) ?_
    refine lvN_ge (tgt := 24) hx hb (by first | omega | (refine Nat.lt_of_lt_of_le (Nat.mod_lt _ ?_) ?_ <;> omega)) (by first | omega | (refine Nat.lt_of_lt_of_le (Nat.mod_lt _ ?_) ?_ <;> omega)) dX2_line_17 (by decide) (fun c63 => ?_) (fun c63 => ?_)
    · refine lv_iconst (v := nI 0) hx hb dX2_line_24 (by decide) ?_
      have eq1 : decide (dd.1.length < 10) = false := decide_eq_false (by omega)
      refine hp_callV (As := [.int (nI 0)]) (rest := []) hx hb hml hown hts hPB hK hH hS (mt_passes hK0 hO hM (tk := tk) hrp false) mset_o rfl rfl 1 (lw_V q1687 q1689 qs55 q107 q1690) (by decide +kernel) ⟨rfl, rfl⟩ (by decide) rfl hl.1 rfl (Nat.le_of_ble_eq_true rfl) (by decide) dX2_line_25 (fun v64 h66 H locs hp65 _ hH hS => ?_)
      obtain ⟨rfl, Prd, rfl, hM, hkrd, rd⟩ := hp65
      refine lvB_eq (tgt := 42) hx hb dX2_line_28 (by decide) (fun cq => ?_) (fun cq => ?_)
      · refine lv_iconst (v := nI 0) hx hb dX2_line_42 (by decide) ?_
        exact hp_zret hx hb hr rfl hlocks hH hS (by decide) (by decide) dX2_line_43 (⟨congrArg some (congrArg Value.int (zI_0 (by rw [rdL, if_pos c0, pas_f eq1, xb_er]; rfl))), _, _, _, rfl, hM, by rw [rdL, if_pos c0, pas_f eq1, xb_er]; exact rd⟩)
      · cases cq
    · refine lv_iconst (v := nI 1) hx hb dX2_line_20 (by decide) ?_
      refine lv_goto (tgt := 25) hx hb dX2_line_21 (by decide) ?_
      have eq1 : decide (dd.1.length < 10) = true := decide_eq_true (by omega)
      refine hp_callV (As := [.int (nI 1)]) (rest := []) hx hb hml hown hts hPB hK hH hS (mt_passes hK0 hO hM (tk := tk) hrp true) mset_o rfl rfl 1 (lw_V q1687 q1689 qs55 q107 q1690) (by decide +kernel) ⟨rfl, rfl⟩ (by decide) rfl hl.1 rfl (Nat.le_of_ble_eq_true rfl) (by decide) dX2_line_25 (fun v67 h69 H locs hp68 _ hH hS => ?_)
      obtain ⟨rfl, Prd, rfl, hM, hkrd, rd⟩ := hp68
      refine lvB_eq (tgt := 42) hx hb dX2_line_28 (by decide) (fun cq => ?_) (fun cq => ?_)
      · cases cq
      · have rd : rdP S (nx S tk.2) Prd := rd
        refine lv_aload_n hx hb dX2_line_31 rfl (lv_at hl 0 rfl) ?_
        refine hp_callV (As := []) (rest := []) hx hb hml hown hts hPB hK hH hS (mt_guestRead hK0 hO hM hX (tk := nx S tk.2) rd hD hDO (by omega)) mset_o rfl rfl 0 (lw_V q1691 q1693 qs56 q107 q1694) (by decide +kernel) ⟨rfl, rfl⟩ (by decide) rfl hl.1 rfl (Nat.le_of_ble_eq_true rfl) (by decide) dX2_line_32 (fun v70 h72 H locs hp71 _ hH hS => ?_)
        obtain ⟨rfl, P3, U3, W3, rfl, hM, re⟩ := hp71
        refine lvB_eq (tgt := 42) hx hb dX2_line_35 (by decide) (fun cx => ?_) (fun cx => ?_)
        · refine lv_iconst (v := nI 0) hx hb dX2_line_42 (by decide) ?_
          exact hp_zret hx hb hr rfl hlocks hH hS (by decide) (by decide) dX2_line_43 (⟨congrArg some (congrArg Value.int (zI_0 (by rw [rdL, if_pos c0, pas_t eq1, xb_ok]; exact cx))), _, _, _, rfl, hM, by rw [rdL, if_pos c0, pas_t eq1, xb_ok]; exact re⟩)
        · refine lv_iconst (v := nI 1) hx hb dX2_line_38 (by decide) ?_
          refine lv_goto (tgt := 43) hx hb dX2_line_39 (by decide) ?_
          exact hp_zret hx hb hr rfl hlocks hH hS (by decide) (by decide) dX2_line_43 (⟨congrArg some (congrArg Value.int (zI_1 (by rw [rdL, if_pos c0, pas_t eq1, xb_ok]; exact cx))), _, _, _, rfl, hM, by rw [rdL, if_pos c0, pas_t eq1, xb_ok]; exact re⟩)
set_option maxHeartbeats 4000000 in
theorem mt_reads (hK0 : va_K D CL (TYS K) s0) {S : Ab} (hO : SOK S) (hM : MOK S I V) {av : Nat → Nat} (hX : OX wd av (zA s0) s0 s0.heap) : Met l yX2_reads (ws_ yX2_reads cX2_reads 2 ((Option.none : Option Jvm.ClassFile.FieldType))) (rmk 9 0 0) (va_Pc [.ref o] (PB s0 D CL (mset h K wd o I V J))) (QR s0 D CL (fun v h1 => v = none ∧ ∃ P U W, h1 = mset h K wd o P U W ∧ MOK S P U ∧ rdFin S P U W)) 0 0 (zA s0) := by
  refine hp_met (by decide) (Nat.le_of_ble_eq_true rfl) hK0 ?_
  intro p e s m below meth cd ls hx hb hr hlocks hml hown hnm hts hK hPB hl hS hH hA
  have hl : lv_has ls 2 [(0, .ref o)] := hl
  have hown : s.vm.findClass RX2 = some m.cls := hown
  have hn := hO.n
  have hmk := hO.mk
  have hrl := hO.rl
  have hrm := hO.rm
  have hsz := hO.sz
  refine lv_aload_n hx hb dX2_reads_0 rfl (lv_at hl 0 rfl) ?_
  refine lv_iconst (v := (-1)) hx hb dX2_reads_1 (by decide) ?_
  refine m_put (ty := .int) hx hb hts hown hK hH hS 4 (by decide) q1456 rfl rfl rfl (by decide +kernel) rfl rfl dX2_reads_2 (fun H locs hH hS => ?_)
  have hM := hM.iS (k := 4) (by decide) (-1)
  refine lv_aload_n hx hb dX2_reads_5 rfl (lv_at hl 0 rfl) ?_
  refine m_get hx hb hts hown hK hH 15 (by decide) q1467 rfl (v := .ref (o + 29)) rfl dX2_reads_6 ?_
  refine lv_iconst (v := nI 1) hx hb dX2_reads_9 (by decide) ?_
  refine lv_iconst (v := nI 0) hx hb dX2_reads_10 (by decide) ?_
  refine m_iast (n := 2) (j := 1) hx hb hK hH hS (by decide) rfl (by first | omega | (refine Nat.lt_of_lt_of_le (Nat.mod_lt _ ?_) ?_ <;> omega)) (by decide) dX2_reads_11 (fun H locs hH hS => ?_)
  have hM := hM.w1 (k := 29) (by decide) (nI 0)
  refine lv_aload_n hx hb dX2_reads_12 rfl (lv_at hl 0 rfl) ?_
  refine m_get hx hb hts hown hK hH 16 (by decide) q1468 rfl (v := .ref (o + 30)) rfl dX2_reads_13 ?_
  refine lv_iconst (v := nI 1) hx hb dX2_reads_16 (by decide) ?_
  refine lv_iconst (v := nI 0) hx hb dX2_reads_17 (by decide) ?_
  refine m_iast (n := 2) (j := 1) hx hb hK hH hS (by decide) rfl (by first | omega | (refine Nat.lt_of_lt_of_le (Nat.mod_lt _ ?_) ?_ <;> omega)) (by decide) dX2_reads_18 (fun H locs hH hS => ?_)
  have hM := hM.w1 (k := 30) (by decide) (nI 0)
  refine lv_aload_n hx hb dX2_reads_19 rfl (lv_at hl 0 rfl) ?_
  refine m_get hx hb hts hown hK hH 17 (by decide) q1469 rfl (v := .ref (o + 31)) rfl dX2_reads_20 ?_
  refine lv_iconst (v := nI 1) hx hb dX2_reads_23 (by decide) ?_
  refine lv_iconst (v := nI 0) hx hb dX2_reads_24 (by decide) ?_
  refine m_iast (n := 2) (j := 1) hx hb hK hH hS (by decide) rfl (by first | omega | (refine Nat.lt_of_lt_of_le (Nat.mod_lt _ ?_) ?_ <;> omega)) (by decide) dX2_reads_25 (fun H locs hH hS => ?_)
  have hM := hM.w1 (k := 31) (by decide) (nI 0)
  refine lv_aload_n hx hb dX2_reads_26 rfl (lv_at hl 0 rfl) ?_
  refine lv_iconst (v := nI 0) hx hb dX2_reads_27 (by decide) ?_
  refine m_put (ty := .int) hx hb hts hown hK hH hS 3 (by decide) q1455 rfl rfl rfl (by decide +kernel) rfl rfl dX2_reads_28 (fun H locs hH hS => ?_)
  have hM := hM.iS (k := 3) (by decide) (nI 0)
  refine lv_aload_n hx hb dX2_reads_31 rfl (lv_at hl 0 rfl) ?_
  refine hp_callV (As := []) (rest := []) hx hb hml hown hts hPB hK hH hS (mt_next hK0 hO hM (t := 0) (va_up_self _ _ _) (Nat.zero_le _)) mset_o rfl rfl 0 (lw_V q1669 q1671 qs51 q107 q1672) (by decide +kernel) ⟨rfl, rfl⟩ (by decide) rfl hl.1 rfl (Nat.le_of_ble_eq_true rfl) (by decide) dX2_reads_32 (fun v1 h3 H locs hp2 _ hH hS => ?_)
  obtain ⟨rfl, Pn, rfl, hM, hkn, en2, en3⟩ := hp2
  have hr0 : rdP S (nx S 0) Pn := ⟨en2, en3, (hkn 4 (by decide)).trans ((va_up_ne _ _ (by decide)).trans (va_up_self _ _ _)), (nx_ok (Nat.zero_le _)).1⟩
  refine lv_iconst (v := nI 1) hx hb dX2_reads_35 (by decide) ?_
  refine lv_istore_n (lv' := [(1, .int (nI 1)), (0, .ref o)]) hx hb dX2_reads_36 rfl hl (by decide) rfl (fun ls hl => ?_)
  refine w_loop6 (fun (x : Tk × Dr) (is1 : Bool) (f : Nat) (P : Nat → Int32) (U : Nat → Nat → Int32) (W1 : Nat → Nat → Int64) => if is1 = true then aSz S + 1 - x.1.1 else 0) (fun (x : Tk × Dr) (is1 : Bool) (f : Nat) (P : Nat → Int32) (U : Nat → Nat → Int32) (W1 : Nat → Nat → Int64) H locs ls => (is1 = true → rdP S x.1 P ∧ drR x.2 U W1 ∧ drOK x.2 ∧ rdAll S = rdA S f x ∧ aSz S < f + x.1.1) ∧ (is1 = false → ∃ a, rdAll S = .error a ∧ P 4 = nI a ∧ a ≤ aSz S) ∧ (MOK S P U) ∧ HP D CL (zA s0) (mset h K wd o P U W1) H ∧ va_S (zA s0) s.heap H locs ∧ lv_has ls 2 [(0, .ref o), (1, .int (zI is1))]) ?_ (nx S 0, [], [], []) true (aSz S + 1) Pn (vset (vset (vset V 29 1 (nI 0)) 30 1 (nI 0)) 31 1 (nI 0)) J ⟨fun _ => ⟨hr0, dr_zero _ _, dr_nil, rfl, by show aSz S < aSz S + 1 + (nx S 0).1; omega⟩, (fun q => by cases q), hM, hH, hS, lv_sub hl [1, 0] rfl⟩
  intro x is1 f P U W1 ih37 H locs ls hP
  obtain ⟨hon, hof, hM, hH, hS, hl⟩ := hP
  refine lv_iload_n hx hb dX2_reads_37 rfl (lv_at hl 1 rfl) ?_
  refine lvB_eq (tgt := 60) hx hb dX2_reads_38 (by decide) (fun ci => ?_) (fun ci => ?_)
  · subst ci
    obtain ⟨a9, hea⟩ := hof rfl
    refine lv_iload_n hx hb dX2_reads_60 rfl (lv_at hl 1 rfl) ?_
    refine lvB_eq (tgt := 81) hx hb dX2_reads_61 (by decide) (fun cq => ?_) (fun cq => ?_)
    · exact hp_vret hx hb hr hlocks hH hS (by decide) (by decide) dX2_reads_81 (⟨rfl, _, _, _, rfl, hM, fin_err hsz hea.1 hea.2.1 hea.2.2⟩)
    · cases cq
  · subst ci
    obtain ⟨hrx, hDx, hDOx, hax, hfx⟩ := hon rfl
    have htx := hrx.2.2.2
    have htx1 := htx.1
    have hdx1 := hDOx.1
    refine lv_aload_n hx hb dX2_reads_41 rfl (lv_at hl 0 rfl) ?_
    refine m_get hx hb hts hown hK hH 2 (by decide) q1454 rfl (v := .int (nI x.1.1)) (congrArg Value.int (hrx.1)) dX2_reads_42 ?_
    refine lv_aload_n hx hb dX2_reads_45 rfl (lv_at hl 0 rfl) ?_
    refine m_get hx hb hts hown hK hH 1 (by decide) q1453 rfl (v := .int (nI (aSz S))) (congrArg Value.int (hM.sz)) dX2_reads_46 ?_
    refine lvN_ge (tgt := 60) hx hb (by first | omega | (refine Nat.lt_of_lt_of_le (Nat.mod_lt _ ?_) ?_ <;> omega)) (by first | omega | (refine Nat.lt_of_lt_of_le (Nat.mod_lt _ ?_) ?_ <;> omega)) dX2_reads_49 (by decide) (fun c4 => ?_) (fun c4 => ?_)
    · refine lv_iload_n hx hb dX2_reads_60 rfl (lv_at hl 1 rfl) ?_
      refine lvB_eq (tgt := 81) hx hb dX2_reads_61 (by decide) (fun cq => ?_) (fun cq => ?_)
      · cases cq
      · refine lv_aload_n hx hb dX2_reads_64 rfl (lv_at hl 0 rfl) ?_
        refine m_get hx hb hts hown hK hH 15 (by decide) q1467 rfl (v := .ref (o + 29)) rfl dX2_reads_65 ?_
        refine lv_iconst (v := nI 1) hx hb dX2_reads_68 (by decide) ?_
        refine m_iald (n := 2) (j := 1) (v := nI x.2.1.length) hx hb hK hH (by decide) rfl (by first | omega | (refine Nat.lt_of_lt_of_le (Nat.mod_lt _ ?_) ?_ <;> omega)) (by decide) (hDx.1.1) dX2_reads_69 ?_
        refine lvZ_ne (tgt := 81) hx hb (by first | omega | (refine Nat.lt_of_lt_of_le (Nat.mod_lt _ ?_) ?_ <;> omega)) dX2_reads_70 (by decide) (fun cz => ?_) (fun cz => ?_)
        · exact hp_vret hx hb hr hlocks hH hS (by decide) (by decide) dX2_reads_81 (⟨rfl, _, _, _, rfl, hM, fin_ok (hax.trans (rdA_end (by omega) (by omega))) cz hrx.2.2.1 hDx⟩)
        · refine lv_aload_n hx hb dX2_reads_73 rfl (lv_at hl 0 rfl) ?_
          refine lv_aload_n hx hb dX2_reads_74 rfl (lv_at hl 0 rfl) ?_
          refine m_get hx hb hts hown hK hH 1 (by decide) q1453 rfl (v := .int (nI (aSz S))) (congrArg Value.int (hM.sz)) dX2_reads_75 ?_
          refine m_put (ty := .int) hx hb hts hown hK hH hS 4 (by decide) q1456 rfl rfl rfl (by decide +kernel) rfl rfl dX2_reads_78 (fun H locs hH hS => ?_)
          have hM := hM.iS (k := 4) (by decide) (nI (aSz S))
          exact hp_vret hx hb hr hlocks hH hS (by decide) (by decide) dX2_reads_81 (⟨rfl, _, _, _, rfl, hM, fin_no hsz (hax.trans (rdA_end (by omega) (by omega))) cz (va_up_self _ _ _)⟩)
    · refine lv_aload_n hx hb dX2_reads_52 rfl (lv_at hl 0 rfl) ?_
      refine hp_callV (As := []) (rest := []) hx hb hml hown hts hPB hK hH hS (mt_line hK0 hO hM hX (tk := x.1) hrx (dd := x.2) hDx hDOx) mset_o rfl rfl 0 (lw_V q1677 q1679 qs53 q107 q1680) (by decide +kernel) ⟨rfl, rfl⟩ (by decide) rfl hl.1 rfl (Nat.le_of_ble_eq_true rfl) (by decide) dX2_reads_53 (fun v5 h7 H locs hp6 _ hH hS => ?_)
      obtain ⟨rfl, P3, U3, W3, rfl, hM, re⟩ := hp6
      refine lv_istore_n (lv' := [(1, .int (zI (xk (rdL S x.2 x.1)))), (0, .ref o)]) hx hb dX2_reads_56 rfl hl (by decide) rfl (fun ls hl => ?_)
      refine lv_goto (tgt := 37) hx hb dX2_reads_57 (by decide) ?_
      exact ih37 (xget (rdL S x.2 x.1) x) (xk (rdL S x.2 x.1)) (f - 1) P3 U3 W3 (by exact rd_dec htx hDOx (by omega)) H locs ls ⟨fun q => rd_on htx hDOx (by omega) hax hfx re q, fun q => rd_of htx (by omega) hax hfx re q, hM, hH, hS, lv_sub hl [1, 0] rfl⟩
set_option maxHeartbeats 4000000 in
theorem mt_fault (hK0 : va_K D CL (TYS K) s0) {S : Ab} (hO : SOK S) (hM : MOK S I V) {av : Nat → Nat} (hX : OX wd av (zA s0) s0 s0.heap) : Met l yX2_fault (ws_ yX2_fault cX2_fault 1 ((Option.some Jvm.ClassFile.FieldType.int))) (rmk 10 0 0) (va_Pc [.ref o] (PB s0 D CL (mset h K wd o I V J))) (QR s0 D CL (fun v h1 => v = some (.int (spFault S)) ∧ ∃ P U W, h1 = mset h K wd o P U W ∧ MOK S P U)) 0 0 (zA s0) := by
  refine hp_met (by decide) (Nat.le_of_ble_eq_true rfl) hK0 ?_
  intro p e s m below meth cd ls hx hb hr hlocks hml hown hnm hts hK hPB hl hS hH hA
  have hl : lv_has ls 1 [(0, .ref o)] := hl
  have hown : s.vm.findClass RX2 = some m.cls := hown
  have hn := hO.n
  have hmk := hO.mk
  have hrl := hO.rl
  have hrm := hO.rm
  have hsz := hO.sz
  refine lv_aload_n hx hb dX2_fault_0 rfl (lv_at hl 0 rfl) ?_
  refine hp_callV (As := []) (rest := []) hx hb hml hown hts hPB hK hH hS (mt_reads hK0 hO hM hX) mset_o rfl rfl 0 (lw_V q1665 q1667 qs50 q107 q1668) (by decide +kernel) ⟨rfl, rfl⟩ (by decide) rfl hl.1 rfl (Nat.le_of_ble_eq_true rfl) (by decide) dX2_fault_1 (fun v1 h3 H locs hp2 _ hH hS => ?_)
  obtain ⟨rfl, P8, U8, W8, rfl, hM, hfin⟩ := hp2
  refine lv_aload_n hx hb dX2_fault_4 rfl (lv_at hl 0 rfl) ?_
  refine m_get hx hb hts hown hK hH 4 (by decide) q1456 rfl (v := .int (spFault S)) (congrArg Value.int (hfin.1)) dX2_fault_5 ?_
  exact hp_iret hx hb hr hlocks hH hS (by decide) (by decide) dX2_fault_8 (⟨rfl, _, _, _, rfl, hM⟩)
set_option maxHeartbeats 4000000 in
theorem mt_court (hK0 : va_K D CL (TYS K) s0) {S : Ab} (hO : SOK S) (hM : MOK S I V) {av : Nat → Nat} (hX : OX wd av (zA s0) s0 s0.heap) : Met l yX2_court (ws_ yX2_court cX2_court 2 ((Option.some Jvm.ClassFile.FieldType.int))) (rmk 10 0 0) (va_Pc [.ref o] (PB s0 D CL (mset h K wd o I V J))) (QR s0 D CL (fun v h1 => v = some (.int (spCourt S)) ∧ ∃ P U W, h1 = mset h K wd o P U W ∧ MOK (stCourt S) P U)) 0 0 (zA s0) := by
  refine hp_met (by decide) (Nat.le_of_ble_eq_true rfl) hK0 ?_
  intro p e s m below meth cd ls hx hb hr hlocks hml hown hnm hts hK hPB hl hS hH hA
  have hl : lv_has ls 2 [(0, .ref o)] := hl
  have hown : s.vm.findClass RX2 = some m.cls := hown
  have hn := hO.n
  have hmk := hO.mk
  have hrl := hO.rl
  have hrm := hO.rm
  have hsz := hO.sz
  refine lv_aload_n hx hb dX2_court_0 rfl (lv_at hl 0 rfl) ?_
  refine hp_callV (As := []) (rest := []) hx hb hml hown hts hPB hK hH hS (mt_reads hK0 hO hM hX) mset_o rfl rfl 0 (lw_V q1665 q1667 qs50 q107 q1668) (by decide +kernel) ⟨rfl, rfl⟩ (by decide) rfl hl.1 rfl (Nat.le_of_ble_eq_true rfl) (by decide) dX2_court_1 (fun v1 h3 H locs hp2 _ hH hS => ?_)
  obtain ⟨rfl, P8, U8, W8, rfl, hM, hfin⟩ := hp2
  refine lv_aload_n hx hb dX2_court_4 rfl (lv_at hl 0 rfl) ?_
  refine m_get hx hb hts hown hK hH 4 (by decide) q1456 rfl (v := .int (spFault S)) (congrArg Value.int (hfin.1)) dX2_court_5 ?_
  refine lv_iconst (v := (-1)) hx hb dX2_court_8 (by decide) ?_
  refine lv_icmp_eq (tgt := 14) hx hb dX2_court_9 (by decide) (fun cf => ?_) (fun cf => ?_)
  · obtain ⟨dd, edd⟩ := Option.isSome_iff_exists.mp (hfin.2.1.mp cf)
    have hD := hfin.2.2 dd edd
    have hDO := (okC_ok edd).1
    have hD1 := hDO.1
    refine lv_aload_n hx hb dX2_court_14 rfl (lv_at hl 0 rfl) ?_
    refine m_get hx hb hts hown hK hH 15 (by decide) q1467 rfl (v := .ref (o + 29)) rfl dX2_court_15 ?_
    refine lv_iconst (v := nI 0) hx hb dX2_court_18 (by decide) ?_
    refine lv_aload_n hx hb dX2_court_19 rfl (lv_at hl 0 rfl) ?_
    refine m_get hx hb hts hown hK hH 15 (by decide) q1467 rfl (v := .ref (o + 29)) rfl dX2_court_20 ?_
    refine lv_iconst (v := nI 1) hx hb dX2_court_23 (by decide) ?_
    refine m_iald (n := 2) (j := 1) (v := nI dd.1.length) hx hb hK hH (by decide) rfl (by first | omega | (refine Nat.lt_of_lt_of_le (Nat.mod_lt _ ?_) ?_ <;> omega)) (by decide) (hD.1.1) dX2_court_24 ?_
    refine m_iast (n := 2) (j := 0) hx hb hK hH hS (by decide) rfl (by first | omega | (refine Nat.lt_of_lt_of_le (Nat.mod_lt _ ?_) ?_ <;> omega)) (by decide) dX2_court_25 (fun H locs hH hS => ?_)
    refine lv_aload_n hx hb dX2_court_26 rfl (lv_at hl 0 rfl) ?_
    refine m_get hx hb hts hown hK hH 16 (by decide) q1468 rfl (v := .ref (o + 30)) rfl dX2_court_27 ?_
    refine lv_iconst (v := nI 0) hx hb dX2_court_30 (by decide) ?_
    refine lv_aload_n hx hb dX2_court_31 rfl (lv_at hl 0 rfl) ?_
    refine m_get hx hb hts hown hK hH 16 (by decide) q1468 rfl (v := .ref (o + 30)) rfl dX2_court_32 ?_
    refine lv_iconst (v := nI 1) hx hb dX2_court_35 (by decide) ?_
    refine m_iald (n := 2) (j := 1) (v := nI dd.2.1.length) hx hb hK hH (by decide) rfl (by first | omega | (refine Nat.lt_of_lt_of_le (Nat.mod_lt _ ?_) ?_ <;> omega)) (by decide) ((congrFun (vset_off _ _ (by decide)) _).trans (hD.1.2.1)) dX2_court_36 ?_
    refine m_iast (n := 2) (j := 0) hx hb hK hH hS (by decide) rfl (by first | omega | (refine Nat.lt_of_lt_of_le (Nat.mod_lt _ ?_) ?_ <;> omega)) (by decide) dX2_court_37 (fun H locs hH hS => ?_)
    refine lv_aload_n hx hb dX2_court_38 rfl (lv_at hl 0 rfl) ?_
    refine m_get hx hb hts hown hK hH 17 (by decide) q1469 rfl (v := .ref (o + 31)) rfl dX2_court_39 ?_
    refine lv_iconst (v := nI 0) hx hb dX2_court_42 (by decide) ?_
    refine lv_aload_n hx hb dX2_court_43 rfl (lv_at hl 0 rfl) ?_
    refine m_get hx hb hts hown hK hH 17 (by decide) q1469 rfl (v := .ref (o + 31)) rfl dX2_court_44 ?_
    refine lv_iconst (v := nI 1) hx hb dX2_court_47 (by decide) ?_
    refine m_iald (n := 2) (j := 1) (v := nI dd.2.2.length) hx hb hK hH (by decide) rfl (by first | omega | (refine Nat.lt_of_lt_of_le (Nat.mod_lt _ ?_) ?_ <;> omega)) (by decide) ((congrFun (vset_off _ _ (by decide)) _).trans ((congrFun (vset_off _ _ (by decide)) _).trans (hD.1.2.2))) dX2_court_48 ?_
    refine m_iast (n := 2) (j := 0) hx hb hK hH hS (by decide) rfl (by first | omega | (refine Nat.lt_of_lt_of_le (Nat.mod_lt _ ?_) ?_ <;> omega)) (by decide) dX2_court_49 (fun H locs hH hS => ?_)
    obtain ⟨U1, eU1⟩ : ∃ U1, U1 = vset (vset (vset U8 29 0 (nI dd.1.length)) 30 0 (nI dd.2.1.length)) 31 0 (nI dd.2.2.length) := ⟨_, rfl⟩
    rw [← eU1] at hH
    have g29 : U1 29 0 = nI dd.1.length := by rw [eU1, vset_off _ _ (by decide), vset_off _ _ (by decide), vset_self]
    have g30 : U1 30 0 = nI dd.2.1.length := by rw [eU1, vset_off _ _ (by decide), vset_self]
    have g31 : U1 31 0 = nI dd.2.2.length := by rw [eU1, vset_self]
    have hk1 : kp [29, 30, 31] U8 U1 := by rw [eU1]; exact ((kp.rf.vs (by decide) _ _).vs (by decide) _ _).vs (by decide) _ _
    clear eU1
    refine lv_iconst (v := nI 0) hx hb dX2_court_50 (by decide) ?_
    refine lv_istore_n (lv' := [(1, .int (nI 0)), (0, .ref o)]) hx hb dX2_court_51 rfl hl (by decide) rfl (fun ls hl => ?_)
    refine w_loop2 (fun (k : Nat) (U2 : Nat → Nat → Int32) => 5 - k) (fun (k : Nat) (U2 : Nat → Nat → Int32) H locs ls => (k ≤ 5) ∧ (∀ u, u < k → U2 9 u = U8 10 u) ∧ (kp [9] U1 U2) ∧ HP D CL (zA s0) (mset h K wd o P8 U2 W8) H ∧ va_S (zA s0) s.heap H locs ∧ lv_has ls 2 [(0, .ref o), (1, .int (nI k))]) ?_ 0 U1 ⟨Nat.zero_le _, fun u hu => absurd hu (Nat.not_lt_zero _), kp.rf, hH, hS, lv_sub hl [1, 0] rfl⟩
    intro k U2 ih52 H locs ls hP
    obtain ⟨hkk, h9, hk2, hH, hS, hl⟩ := hP
    refine lv_iload_n hx hb dX2_court_52 rfl (lv_at hl 1 rfl) ?_
    refine lv_iconst (v := nI 5) hx hb dX2_court_53 (by decide) ?_
    refine lvN_ge (tgt := 79) hx hb (by first | omega | (refine Nat.lt_of_lt_of_le (Nat.mod_lt _ ?_) ?_ <;> omega)) (by first | omega | (refine Nat.lt_of_lt_of_le (Nat.mod_lt _ ?_) ?_ <;> omega)) dX2_court_54 (by decide) (fun c4 => ?_) (fun c4 => ?_)
    · refine lv_iconst (v := nI 0) hx hb dX2_court_79 (by decide) ?_
      refine lv_istore_n (lv' := [(1, .int (nI 0)), (0, .ref o)]) hx hb dX2_court_80 rfl hl (by decide) rfl (fun ls hl => ?_)
      refine w_loop2 (fun (k : Nat) (U3 : Nat → Nat → Int32) => 12 - k) (fun (k : Nat) (U3 : Nat → Nat → Int32) H locs ls => (k ≤ 12) ∧ (∀ u, u < k → U3 12 u = U8 13 u ∧ U3 15 u = U8 16 u ∧ U3 18 u = U8 19 u ∧ U3 21 u = U8 22 u ∧ U3 24 u = U8 25 u ∧ U3 27 u = U8 28 u ∧ U3 33 u = zI false) ∧ (kp [12, 15, 18, 21, 24, 27, 33] U2 U3) ∧ HP D CL (zA s0) (mset h K wd o P8 U3 W8) H ∧ va_S (zA s0) s.heap H locs ∧ lv_has ls 2 [(0, .ref o), (1, .int (nI k))]) ?_ 0 U2 ⟨Nat.zero_le _, fun u hu => absurd hu (Nat.not_lt_zero _), kp.rf, hH, hS, lv_sub hl [1, 0] rfl⟩
      intro k U3 ih81 H locs ls hP
      obtain ⟨hkk, h12, hk3, hH, hS, hl⟩ := hP
      have h9 : ∀ u, u < 5 → U2 9 u = U8 10 u := fun u hu => h9 u (by omega)
      refine lv_iload_n hx hb dX2_court_81 rfl (lv_at hl 1 rfl) ?_
      refine lv_bipush (v := nI 12) hx hb dX2_court_82 (by decide) ?_
      refine lvN_ge (tgt := 196) hx hb (by first | omega | (refine Nat.lt_of_lt_of_le (Nat.mod_lt _ ?_) ?_ <;> omega)) (by first | omega | (refine Nat.lt_of_lt_of_le (Nat.mod_lt _ ?_) ?_ <;> omega)) dX2_court_84 (by decide) (fun c5 => ?_) (fun c5 => ?_)
      · refine lv_iconst (v := nI 0) hx hb dX2_court_196 (by decide) ?_
        refine lv_istore_n (lv' := [(1, .int (nI 0)), (0, .ref o)]) hx hb dX2_court_197 rfl hl (by decide) rfl (fun ls hl => ?_)
        refine w_loop2 (fun (g : Nat) (U4 : Nat → Nat → Int32) => 10 - g) (fun (g : Nat) (U4 : Nat → Nat → Int32) H locs ls => (g ≤ 10) ∧ (∀ u, u < g → U4 34 u = zI true ∧ U4 35 u = zI false ∧ U4 36 u = -1 ∧ U4 37 u = -1) ∧ (kp [34, 35, 36, 37] U3 U4) ∧ HP D CL (zA s0) (mset h K wd o P8 U4 W8) H ∧ va_S (zA s0) s.heap H locs ∧ lv_has ls 2 [(0, .ref o), (1, .int (nI g))]) ?_ 0 U3 ⟨Nat.zero_le _, fun u hu => absurd hu (Nat.not_lt_zero _), kp.rf, hH, hS, lv_sub hl [1, 0] rfl⟩
        intro g U4 ih198 H locs ls hP
        obtain ⟨hgg, h34, hk4, hH, hS, hl⟩ := hP
        refine lv_iload_n hx hb dX2_court_198 rfl (lv_at hl 1 rfl) ?_
        refine lv_bipush (v := nI 10) hx hb dX2_court_199 (by decide) ?_
        refine lvN_ge (tgt := 238) hx hb (by first | omega | (refine Nat.lt_of_lt_of_le (Nat.mod_lt _ ?_) ?_ <;> omega)) (by first | omega | (refine Nat.lt_of_lt_of_le (Nat.mod_lt _ ?_) ?_ <;> omega)) dX2_court_201 (by decide) (fun c6 => ?_) (fun c6 => ?_)
        · refine lv_aload_n hx hb dX2_court_238 rfl (lv_at hl 0 rfl) ?_
          refine lv_iconst (v := nI 0) hx hb dX2_court_239 (by decide) ?_
          refine m_put (ty := .int) hx hb hts hown hK hH hS 1 (by decide) q1453 rfl rfl rfl (by decide +kernel) rfl rfl dX2_court_240 (fun H locs hH hS => ?_)
          refine lv_aload_n hx hb dX2_court_243 rfl (lv_at hl 0 rfl) ?_
          refine m_get hx hb hts hown hK hH 15 (by decide) q1467 rfl (v := .ref (o + 29)) rfl dX2_court_244 ?_
          refine lv_iconst (v := nI 0) hx hb dX2_court_247 (by decide) ?_
          refine m_iald (n := 2) (j := 0) (v := nI dd.1.length) hx hb hK hH (by decide) rfl (by first | omega | (refine Nat.lt_of_lt_of_le (Nat.mod_lt _ ?_) ?_ <;> omega)) (by decide) ((congrFun ((hk4 29 (by decide)).trans ((hk3 29 (by decide)).trans (hk2 29 (by decide)))) _).trans g29) dX2_court_248 ?_
          exact hp_iret hx hb hr hlocks hH hS (by decide) (by decide) dX2_court_249 (⟨by rw [spCourt, edd], _, _, _, rfl, by rw [stCourt, edd]; exact ct_MOK hDO hM hD ((congrFun ((hk4 29 (by decide)).trans ((hk3 29 (by decide)).trans (hk2 29 (by decide)))) _).trans g29) ((congrFun ((hk4 30 (by decide)).trans ((hk3 30 (by decide)).trans (hk2 30 (by decide)))) _).trans g30) ((congrFun ((hk4 31 (by decide)).trans ((hk3 31 (by decide)).trans (hk2 31 (by decide)))) _).trans g31) (fun u hu => (congrFun ((hk4 9 (by decide)).trans (hk3 9 (by decide))) _).trans (h9 u hu)) (fun u hu => ct_12 hk4 (h12 u (by omega))) (fun u hu => h34 u (by omega)) ((hk4 38 (by decide)).trans ((hk3 38 (by decide)).trans ((hk2 38 (by decide)).trans (hk1 38 (by decide))))) ((hk4 39 (by decide)).trans ((hk3 39 (by decide)).trans ((hk2 39 (by decide)).trans (hk1 39 (by decide)))))⟩)
        · refine lv_aload_n hx hb dX2_court_204 rfl (lv_at hl 0 rfl) ?_
          refine m_get hx hb hts hown hK hH 20 (by decide) q1472 rfl (v := .ref (o + 34)) rfl dX2_court_205 ?_
          refine lv_iload_n hx hb dX2_court_208 rfl (lv_at hl 1 rfl) ?_
          refine lv_iconst (v := nI 1) hx hb dX2_court_209 (by decide) ?_
          refine m_zast (n := 10) (j := g) (x' := zI true) hx hb hK hH hS (by decide) rfl (by first | omega | (refine Nat.lt_of_lt_of_le (Nat.mod_lt _ ?_) ?_ <;> omega)) (by decide) rfl dX2_court_210 (fun H locs hH hS => ?_)
          refine lv_aload_n hx hb dX2_court_211 rfl (lv_at hl 0 rfl) ?_
          refine m_get hx hb hts hown hK hH 21 (by decide) q1473 rfl (v := .ref (o + 35)) rfl dX2_court_212 ?_
          refine lv_iload_n hx hb dX2_court_215 rfl (lv_at hl 1 rfl) ?_
          refine lv_iconst (v := nI 0) hx hb dX2_court_216 (by decide) ?_
          refine m_zast (n := 10) (j := g) (x' := zI false) hx hb hK hH hS (by decide) rfl (by first | omega | (refine Nat.lt_of_lt_of_le (Nat.mod_lt _ ?_) ?_ <;> omega)) (by decide) rfl dX2_court_217 (fun H locs hH hS => ?_)
          refine lv_aload_n hx hb dX2_court_218 rfl (lv_at hl 0 rfl) ?_
          refine m_get hx hb hts hown hK hH 22 (by decide) q1474 rfl (v := .ref (o + 36)) rfl dX2_court_219 ?_
          refine lv_iload_n hx hb dX2_court_222 rfl (lv_at hl 1 rfl) ?_
          refine lv_iconst (v := (-1)) hx hb dX2_court_223 (by decide) ?_
          refine m_iast (n := 10) (j := g) hx hb hK hH hS (by decide) rfl (by first | omega | (refine Nat.lt_of_lt_of_le (Nat.mod_lt _ ?_) ?_ <;> omega)) (by decide) dX2_court_224 (fun H locs hH hS => ?_)
          refine lv_aload_n hx hb dX2_court_225 rfl (lv_at hl 0 rfl) ?_
          refine m_get hx hb hts hown hK hH 23 (by decide) q1475 rfl (v := .ref (o + 37)) rfl dX2_court_226 ?_
          refine lv_iload_n hx hb dX2_court_229 rfl (lv_at hl 1 rfl) ?_
          refine lv_iconst (v := (-1)) hx hb dX2_court_230 (by decide) ?_
          refine m_iast (n := 10) (j := g) hx hb hK hH hS (by decide) rfl (by first | omega | (refine Nat.lt_of_lt_of_le (Nat.mod_lt _ ?_) ?_ <;> omega)) (by decide) dX2_court_231 (fun H locs hH hS => ?_)
          refine lv_iinc (v := nI (g + 1)) (lv' := [(1, .int (nI (g + 1))), (0, .ref o)]) hx hb dX2_court_232 hl (k := 1) rfl (nI_add g 1) (by decide) rfl (fun ls hl => ?_)
          refine lv_goto (tgt := 198) hx hb dX2_court_235 (by decide) ?_
          exact ih198 (g + 1) _ (by omega) H locs ls ⟨by omega, fun u hu => by by_cases e : u = g; (rw [e]; simp [vset, va_up, upd]); (have z := h34 u (by omega); simp [vset, va_up, upd, e]; exact z), (((hk4.vs (by decide) _ _).vs (by decide) _ _).vs (by decide) _ _).vs (by decide) _ _, hH, hS, lv_sub hl [1, 0] rfl⟩
      · refine lv_aload_n hx hb dX2_court_87 rfl (lv_at hl 0 rfl) ?_
        refine m_get hx hb hts hown hK hH 9 (by decide) q1461 rfl (v := .ref (o + 11)) rfl dX2_court_88 ?_
        refine lv_iconst (v := nI 0) hx hb dX2_court_91 (by decide) ?_
        refine m_rowI (k' := 12) hx hb hK hH (by decide) rfl (by decide) (by decide) rfl dX2_court_92 ?_
        refine lv_iload_n hx hb dX2_court_93 rfl (lv_at hl 1 rfl) ?_
        refine lv_aload_n hx hb dX2_court_94 rfl (lv_at hl 0 rfl) ?_
        refine m_get hx hb hts hown hK hH 9 (by decide) q1461 rfl (v := .ref (o + 11)) rfl dX2_court_95 ?_
        refine lv_iconst (v := nI 1) hx hb dX2_court_98 (by decide) ?_
        refine m_rowI (k' := 13) hx hb hK hH (by decide) rfl (by decide) (by decide) rfl dX2_court_99 ?_
        refine lv_iload_n hx hb dX2_court_100 rfl (lv_at hl 1 rfl) ?_
        refine m_iald (n := 12) (j := k) (v := U8 13 k) hx hb hK hH (by decide) rfl (by first | omega | (refine Nat.lt_of_lt_of_le (Nat.mod_lt _ ?_) ?_ <;> omega)) (by decide) ((congrFun ((hk3 13 (by decide)).trans ((hk2 13 (by decide)).trans (hk1 13 (by decide)))) _)) dX2_court_101 ?_
        refine m_iast (n := 12) (j := k) hx hb hK hH hS (by decide) rfl (by first | omega | (refine Nat.lt_of_lt_of_le (Nat.mod_lt _ ?_) ?_ <;> omega)) (by decide) dX2_court_102 (fun H locs hH hS => ?_)
        refine lv_aload_n hx hb dX2_court_103 rfl (lv_at hl 0 rfl) ?_
        refine m_get hx hb hts hown hK hH 10 (by decide) q1462 rfl (v := .ref (o + 14)) rfl dX2_court_104 ?_
        refine lv_iconst (v := nI 0) hx hb dX2_court_107 (by decide) ?_
        refine m_rowI (k' := 15) hx hb hK hH (by decide) rfl (by decide) (by decide) rfl dX2_court_108 ?_
        refine lv_iload_n hx hb dX2_court_109 rfl (lv_at hl 1 rfl) ?_
        refine lv_aload_n hx hb dX2_court_110 rfl (lv_at hl 0 rfl) ?_
        refine m_get hx hb hts hown hK hH 10 (by decide) q1462 rfl (v := .ref (o + 14)) rfl dX2_court_111 ?_
        refine lv_iconst (v := nI 1) hx hb dX2_court_114 (by decide) ?_
        refine m_rowI (k' := 16) hx hb hK hH (by decide) rfl (by decide) (by decide) rfl dX2_court_115 ?_
        refine lv_iload_n hx hb dX2_court_116 rfl (lv_at hl 1 rfl) ?_
        refine m_iald (n := 12) (j := k) (v := U8 16 k) hx hb hK hH (by decide) rfl (by first | omega | (refine Nat.lt_of_lt_of_le (Nat.mod_lt _ ?_) ?_ <;> omega)) (by decide) ((congrFun (vset_off _ _ (by decide)) _).trans ((congrFun ((hk3 16 (by decide)).trans ((hk2 16 (by decide)).trans (hk1 16 (by decide)))) _))) dX2_court_117 ?_
        refine m_iast (n := 12) (j := k) hx hb hK hH hS (by decide) rfl (by first | omega | (refine Nat.lt_of_lt_of_le (Nat.mod_lt _ ?_) ?_ <;> omega)) (by decide) dX2_court_118 (fun H locs hH hS => ?_)
        refine lv_aload_n hx hb dX2_court_119 rfl (lv_at hl 0 rfl) ?_
        refine m_get hx hb hts hown hK hH 11 (by decide) q1463 rfl (v := .ref (o + 17)) rfl dX2_court_120 ?_
        refine lv_iconst (v := nI 0) hx hb dX2_court_123 (by decide) ?_
        refine m_rowI (k' := 18) hx hb hK hH (by decide) rfl (by decide) (by decide) rfl dX2_court_124 ?_
        refine lv_iload_n hx hb dX2_court_125 rfl (lv_at hl 1 rfl) ?_
        refine lv_aload_n hx hb dX2_court_126 rfl (lv_at hl 0 rfl) ?_
        refine m_get hx hb hts hown hK hH 11 (by decide) q1463 rfl (v := .ref (o + 17)) rfl dX2_court_127 ?_
        refine lv_iconst (v := nI 1) hx hb dX2_court_130 (by decide) ?_
        refine m_rowI (k' := 19) hx hb hK hH (by decide) rfl (by decide) (by decide) rfl dX2_court_131 ?_
        refine lv_iload_n hx hb dX2_court_132 rfl (lv_at hl 1 rfl) ?_
        refine m_iald (n := 12) (j := k) (v := U8 19 k) hx hb hK hH (by decide) rfl (by first | omega | (refine Nat.lt_of_lt_of_le (Nat.mod_lt _ ?_) ?_ <;> omega)) (by decide) ((congrFun (vset_off _ _ (by decide)) _).trans ((congrFun (vset_off _ _ (by decide)) _).trans ((congrFun ((hk3 19 (by decide)).trans ((hk2 19 (by decide)).trans (hk1 19 (by decide)))) _)))) dX2_court_133 ?_
        refine m_iast (n := 12) (j := k) hx hb hK hH hS (by decide) rfl (by first | omega | (refine Nat.lt_of_lt_of_le (Nat.mod_lt _ ?_) ?_ <;> omega)) (by decide) dX2_court_134 (fun H locs hH hS => ?_)
        refine lv_aload_n hx hb dX2_court_135 rfl (lv_at hl 0 rfl) ?_
        refine m_get hx hb hts hown hK hH 12 (by decide) q1464 rfl (v := .ref (o + 20)) rfl dX2_court_136 ?_
        refine lv_iconst (v := nI 0) hx hb dX2_court_139 (by decide) ?_
        refine m_rowI (k' := 21) hx hb hK hH (by decide) rfl (by decide) (by decide) rfl dX2_court_140 ?_
        refine lv_iload_n hx hb dX2_court_141 rfl (lv_at hl 1 rfl) ?_
        refine lv_aload_n hx hb dX2_court_142 rfl (lv_at hl 0 rfl) ?_
        refine m_get hx hb hts hown hK hH 12 (by decide) q1464 rfl (v := .ref (o + 20)) rfl dX2_court_143 ?_
        refine lv_iconst (v := nI 1) hx hb dX2_court_146 (by decide) ?_
        refine m_rowI (k' := 22) hx hb hK hH (by decide) rfl (by decide) (by decide) rfl dX2_court_147 ?_
        refine lv_iload_n hx hb dX2_court_148 rfl (lv_at hl 1 rfl) ?_
        refine m_iald (n := 12) (j := k) (v := U8 22 k) hx hb hK hH (by decide) rfl (by first | omega | (refine Nat.lt_of_lt_of_le (Nat.mod_lt _ ?_) ?_ <;> omega)) (by decide) ((congrFun (vset_off _ _ (by decide)) _).trans ((congrFun (vset_off _ _ (by decide)) _).trans ((congrFun (vset_off _ _ (by decide)) _).trans ((congrFun ((hk3 22 (by decide)).trans ((hk2 22 (by decide)).trans (hk1 22 (by decide)))) _))))) dX2_court_149 ?_
        refine m_iast (n := 12) (j := k) hx hb hK hH hS (by decide) rfl (by first | omega | (refine Nat.lt_of_lt_of_le (Nat.mod_lt _ ?_) ?_ <;> omega)) (by decide) dX2_court_150 (fun H locs hH hS => ?_)
        refine lv_aload_n hx hb dX2_court_151 rfl (lv_at hl 0 rfl) ?_
        refine m_get hx hb hts hown hK hH 13 (by decide) q1465 rfl (v := .ref (o + 23)) rfl dX2_court_152 ?_
        refine lv_iconst (v := nI 0) hx hb dX2_court_155 (by decide) ?_
        refine m_rowI (k' := 24) hx hb hK hH (by decide) rfl (by decide) (by decide) rfl dX2_court_156 ?_
        refine lv_iload_n hx hb dX2_court_157 rfl (lv_at hl 1 rfl) ?_
        refine lv_aload_n hx hb dX2_court_158 rfl (lv_at hl 0 rfl) ?_
        refine m_get hx hb hts hown hK hH 13 (by decide) q1465 rfl (v := .ref (o + 23)) rfl dX2_court_159 ?_
        refine lv_iconst (v := nI 1) hx hb dX2_court_162 (by decide) ?_
        refine m_rowI (k' := 25) hx hb hK hH (by decide) rfl (by decide) (by decide) rfl dX2_court_163 ?_
        refine lv_iload_n hx hb dX2_court_164 rfl (lv_at hl 1 rfl) ?_
        refine m_iald (n := 12) (j := k) (v := U8 25 k) hx hb hK hH (by decide) rfl (by first | omega | (refine Nat.lt_of_lt_of_le (Nat.mod_lt _ ?_) ?_ <;> omega)) (by decide) ((congrFun (vset_off _ _ (by decide)) _).trans ((congrFun (vset_off _ _ (by decide)) _).trans ((congrFun (vset_off _ _ (by decide)) _).trans ((congrFun (vset_off _ _ (by decide)) _).trans ((congrFun ((hk3 25 (by decide)).trans ((hk2 25 (by decide)).trans (hk1 25 (by decide)))) _)))))) dX2_court_165 ?_
        refine m_iast (n := 12) (j := k) hx hb hK hH hS (by decide) rfl (by first | omega | (refine Nat.lt_of_lt_of_le (Nat.mod_lt _ ?_) ?_ <;> omega)) (by decide) dX2_court_166 (fun H locs hH hS => ?_)
        refine lv_aload_n hx hb dX2_court_167 rfl (lv_at hl 0 rfl) ?_
        refine m_get hx hb hts hown hK hH 14 (by decide) q1466 rfl (v := .ref (o + 26)) rfl dX2_court_168 ?_
        refine lv_iconst (v := nI 0) hx hb dX2_court_171 (by decide) ?_
        refine m_rowI (k' := 27) hx hb hK hH (by decide) rfl (by decide) (by decide) rfl dX2_court_172 ?_
        refine lv_iload_n hx hb dX2_court_173 rfl (lv_at hl 1 rfl) ?_
        refine lv_aload_n hx hb dX2_court_174 rfl (lv_at hl 0 rfl) ?_
        refine m_get hx hb hts hown hK hH 14 (by decide) q1466 rfl (v := .ref (o + 26)) rfl dX2_court_175 ?_
        refine lv_iconst (v := nI 1) hx hb dX2_court_178 (by decide) ?_
        refine m_rowI (k' := 28) hx hb hK hH (by decide) rfl (by decide) (by decide) rfl dX2_court_179 ?_
        refine lv_iload_n hx hb dX2_court_180 rfl (lv_at hl 1 rfl) ?_
        refine m_iald (n := 12) (j := k) (v := U8 28 k) hx hb hK hH (by decide) rfl (by first | omega | (refine Nat.lt_of_lt_of_le (Nat.mod_lt _ ?_) ?_ <;> omega)) (by decide) ((congrFun (vset_off _ _ (by decide)) _).trans ((congrFun (vset_off _ _ (by decide)) _).trans ((congrFun (vset_off _ _ (by decide)) _).trans ((congrFun (vset_off _ _ (by decide)) _).trans ((congrFun (vset_off _ _ (by decide)) _).trans ((congrFun ((hk3 28 (by decide)).trans ((hk2 28 (by decide)).trans (hk1 28 (by decide)))) _))))))) dX2_court_181 ?_
        refine m_iast (n := 12) (j := k) hx hb hK hH hS (by decide) rfl (by first | omega | (refine Nat.lt_of_lt_of_le (Nat.mod_lt _ ?_) ?_ <;> omega)) (by decide) dX2_court_182 (fun H locs hH hS => ?_)
        refine lv_aload_n hx hb dX2_court_183 rfl (lv_at hl 0 rfl) ?_
        refine m_get hx hb hts hown hK hH 19 (by decide) q1471 rfl (v := .ref (o + 33)) rfl dX2_court_184 ?_
        refine lv_iload_n hx hb dX2_court_187 rfl (lv_at hl 1 rfl) ?_
        refine lv_iconst (v := nI 0) hx hb dX2_court_188 (by decide) ?_
        refine m_zast (n := 12) (j := k) (x' := zI false) hx hb hK hH hS (by decide) rfl (by first | omega | (refine Nat.lt_of_lt_of_le (Nat.mod_lt _ ?_) ?_ <;> omega)) (by decide) rfl dX2_court_189 (fun H locs hH hS => ?_)
        refine lv_iinc (v := nI (k + 1)) (lv' := [(1, .int (nI (k + 1))), (0, .ref o)]) hx hb dX2_court_190 hl (k := 1) rfl (nI_add k 1) (by decide) rfl (fun ls hl => ?_)
        refine lv_goto (tgt := 81) hx hb dX2_court_193 (by decide) ?_
        exact ih81 (k + 1) _ (by omega) H locs ls ⟨by omega, fun u hu => by by_cases e : u = k; (rw [e]; simp [vset, va_up, upd]); (have z := h12 u (by omega); simp [vset, va_up, upd, e]; exact z), ((((((hk3.vs (by decide) _ _).vs (by decide) _ _).vs (by decide) _ _).vs (by decide) _ _).vs (by decide) _ _).vs (by decide) _ _).vs (by decide) _ _, hH, hS, lv_sub hl [1, 0] rfl⟩
    · refine lv_aload_n hx hb dX2_court_57 rfl (lv_at hl 0 rfl) ?_
      refine m_get hx hb hts hown hK hH 8 (by decide) q1460 rfl (v := .ref (o + 8)) rfl dX2_court_58 ?_
      refine lv_iconst (v := nI 0) hx hb dX2_court_61 (by decide) ?_
      refine m_rowI (k' := 9) hx hb hK hH (by decide) rfl (by decide) (by decide) rfl dX2_court_62 ?_
      refine lv_iload_n hx hb dX2_court_63 rfl (lv_at hl 1 rfl) ?_
      refine lv_aload_n hx hb dX2_court_64 rfl (lv_at hl 0 rfl) ?_
      refine m_get hx hb hts hown hK hH 8 (by decide) q1460 rfl (v := .ref (o + 8)) rfl dX2_court_65 ?_
      refine lv_iconst (v := nI 1) hx hb dX2_court_68 (by decide) ?_
      refine m_rowI (k' := 10) hx hb hK hH (by decide) rfl (by decide) (by decide) rfl dX2_court_69 ?_
      refine lv_iload_n hx hb dX2_court_70 rfl (lv_at hl 1 rfl) ?_
      refine m_iald (n := 5) (j := k) (v := U8 10 k) hx hb hK hH (by decide) rfl (by first | omega | (refine Nat.lt_of_lt_of_le (Nat.mod_lt _ ?_) ?_ <;> omega)) (by decide) ((congrFun ((hk2 10 (by decide)).trans (hk1 10 (by decide))) _)) dX2_court_71 ?_
      refine m_iast (n := 5) (j := k) hx hb hK hH hS (by decide) rfl (by first | omega | (refine Nat.lt_of_lt_of_le (Nat.mod_lt _ ?_) ?_ <;> omega)) (by decide) dX2_court_72 (fun H locs hH hS => ?_)
      refine lv_iinc (v := nI (k + 1)) (lv' := [(1, .int (nI (k + 1))), (0, .ref o)]) hx hb dX2_court_73 hl (k := 1) rfl (nI_add k 1) (by decide) rfl (fun ls hl => ?_)
      refine lv_goto (tgt := 52) hx hb dX2_court_76 (by decide) ?_
      exact ih52 (k + 1) _ (by omega) H locs ls ⟨by omega, fun u hu => by rw [vset_in]; split; (rename_i e; rw [e]); exact h9 u (by omega), hk2.vs (by decide) _ _, hH, hS, lv_sub hl [1, 0] rfl⟩
  · have ec : okC S = none := by
      cases hq : okC S with
      | none => rfl
      | some z => exact absurd (hfin.2.1.mpr (by rw [hq]; rfl)) cf
    refine lv_iconst (v := (-1)) hx hb dX2_court_12 (by decide) ?_
    exact hp_iret hx hb hr hlocks hH hS (by decide) (by decide) dX2_court_13 (⟨by rw [spCourt, ec], _, _, _, rfl, by rw [stCourt, ec]; exact hM⟩)
end MODEL
