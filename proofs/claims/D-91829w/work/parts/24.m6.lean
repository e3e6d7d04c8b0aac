/-! by gen/mspec.py -/
set_option maxRecDepth 100000
section MODEL
variable {l : Launch} {s0 : State} {D : va_G} {K : Nat → ClassId} {wd : Nat → Nat} {o : Nat} {h : Hp} {I : Nat → Int32} {V : Nat → Nat → Int32} {J : Nat → Nat → Int64}
set_option maxHeartbeats 4000000 in
theorem mt_feeds (hK0 : va_K D CL (TYS K) s0) {S : Ab} (hM : MOK S I V) (hs4 : aSz S + 4 ≤ 700) (v : Int32) : Met l yX2_feeds (ws_ yX2_feeds cX2_feeds 3 ((Option.none : Option Jvm.ClassFile.FieldType))) (rmk 0 0 0) (va_Pc [.ref o, .int v] (PB s0 D CL (mset h K wd o I V J))) (QR s0 D CL (fun v9 h1 => v9 = none ∧ ∃ P U, h1 = mset h K wd o P U J ∧ MOK (stFeeds S v) P U)) 0 0 (zA s0) := by
  refine hp_met (by decide) (Nat.le_of_ble_eq_true rfl) hK0 ?_
  intro p e s m below meth cd ls hx hb hr hlocks hml hown hnm hts hK hPB hl hS hH hA
  have hl : lv_has ls 3 [(0, .ref o), (1, .int v)] := hl
  have hown : s.vm.findClass RX2 = some m.cls := hown
  refine lv_iconst (v := nI 3) hx hb dX2_feeds_0 (by decide) ?_
  refine lv_istore_n (lv' := [(2, .int (nI 3)), (0, .ref o), (1, .int v)]) hx hb dX2_feeds_1 rfl hl (by decide) rfl (fun ls hl => ?_)
  refine lv_iload_n hx hb dX2_feeds_2 rfl (lv_at hl 0 rfl) ?_
  refine lv_if_lt (tgt := 38) hx hb dX2_feeds_3 (by decide) (fun c1 => ?_) (fun c1 => ?_)
  · exact absurd c1 (by decide)
  · refine lv_aload_n hx hb dX2_feeds_6 rfl (lv_at hl 1 rfl) ?_
    refine m_get hx hb hts hown hK hH 0 (by decide) q1452 rfl (v := .ref (o + 1)) rfl dX2_feeds_7 ?_
    refine lv_aload_n hx hb dX2_feeds_10 rfl (lv_at hl 1 rfl) ?_
    refine m_get hx hb hts hown hK hH 1 (by decide) q1453 rfl (v := .int (nI (aSz S))) (congrArg Value.int (hM.sz)) dX2_feeds_11 ?_
    refine lv_iload_n hx hb dX2_feeds_14 rfl (lv_at hl 2 rfl) ?_
    refine lv_bipush (v := nI 8) hx hb dX2_feeds_15 (by decide) ?_
    refine lv_iload_n hx hb dX2_feeds_17 rfl (lv_at hl 0 rfl) ?_
    refine lv_imul hx hb dX2_feeds_18 ?_
    refine lv_top (y := nI (8 * 3)) (pk_mul _ _) ?_
    refine lv_iushr (v := ushr v (8 * 3)) hx hb dX2_feeds_19 (rfl) ?_
    refine lv_i2b hx hb dX2_feeds_20 rfl ?_
    refine m_bast (n := 700) (j := aSz S) (x' := Int8.toInt32 (Int32.toInt8 (ushr v (8 * 3)))) hx hb hK hH hS (by decide) rfl (by first | omega | (refine Nat.lt_of_lt_of_le (Nat.mod_lt _ ?_) ?_ <;> omega)) (by decide) (pk_vb _) dX2_feeds_21 (fun H locs hH hS => ?_)
    refine lv_aload_n hx hb dX2_feeds_22 rfl (lv_at hl 1 rfl) ?_
    refine lv_dup hx hb dX2_feeds_23 rfl ?_
    refine m_get hx hb hts hown hK hH 1 (by decide) q1453 rfl (v := .int (nI (aSz S))) (congrArg Value.int (hM.sz)) dX2_feeds_24 ?_
    refine lv_iconst (v := nI 1) hx hb dX2_feeds_27 (by decide) ?_
    refine lv_iadd hx hb dX2_feeds_28 ?_
    refine lv_top (y := nI ((aSz S) + 1)) (nI_add _ _) ?_
    refine m_put (ty := .int) hx hb hts hown hK hH hS 1 (by decide) q1453 rfl rfl rfl (by decide +kernel) rfl rfl dX2_feeds_29 (fun H locs hH hS => ?_)
    have hM := hM.push (byU v 3)
    refine lv_iinc (v := nI 2) (lv' := [(2, .int (nI 2)), (0, .ref o), (1, .int v)]) hx hb dX2_feeds_32 hl (k := 0) rfl (by decide) (by decide) rfl (fun ls hl => ?_)
    refine lv_goto (tgt := 2) hx hb dX2_feeds_35 (by decide) ?_
    refine lv_iload_n hx hb dX2_feeds_2 rfl (lv_at hl 0 rfl) ?_
    refine lv_if_lt (tgt := 38) hx hb dX2_feeds_3 (by decide) (fun c2 => ?_) (fun c2 => ?_)
    · exact absurd c2 (by decide)
    · refine lv_aload_n hx hb dX2_feeds_6 rfl (lv_at hl 1 rfl) ?_
      refine m_get hx hb hts hown hK hH 0 (by decide) q1452 rfl (v := .ref (o + 1)) rfl dX2_feeds_7 ?_
      refine lv_aload_n hx hb dX2_feeds_10 rfl (lv_at hl 1 rfl) ?_
      refine m_get hx hb hts hown hK hH 1 (by decide) q1453 rfl (v := .int (nI (aSz S + 1))) (congrArg Value.int (hM.sz)) dX2_feeds_11 ?_
      refine lv_iload_n hx hb dX2_feeds_14 rfl (lv_at hl 2 rfl) ?_
      refine lv_bipush (v := nI 8) hx hb dX2_feeds_15 (by decide) ?_
      refine lv_iload_n hx hb dX2_feeds_17 rfl (lv_at hl 0 rfl) ?_
      refine lv_imul hx hb dX2_feeds_18 ?_
      refine lv_top (y := nI (8 * 2)) (pk_mul _ _) ?_
      refine lv_iushr (v := ushr v (8 * 2)) hx hb dX2_feeds_19 (rfl) ?_
      refine lv_i2b hx hb dX2_feeds_20 rfl ?_
      refine m_bast (n := 700) (j := aSz S + 1) (x' := Int8.toInt32 (Int32.toInt8 (ushr v (8 * 2)))) hx hb hK hH hS (by decide) rfl (by first | omega | (refine Nat.lt_of_lt_of_le (Nat.mod_lt _ ?_) ?_ <;> omega)) (by decide) (pk_vb _) dX2_feeds_21 (fun H locs hH hS => ?_)
      refine lv_aload_n hx hb dX2_feeds_22 rfl (lv_at hl 1 rfl) ?_
      refine lv_dup hx hb dX2_feeds_23 rfl ?_
      refine m_get hx hb hts hown hK hH 1 (by decide) q1453 rfl (v := .int (nI (aSz S + 1))) (congrArg Value.int (hM.sz)) dX2_feeds_24 ?_
      refine lv_iconst (v := nI 1) hx hb dX2_feeds_27 (by decide) ?_
      refine lv_iadd hx hb dX2_feeds_28 ?_
      refine lv_top (y := nI (aSz S + 1 + 1)) (nI_add _ _) ?_
      refine m_put (ty := .int) hx hb hts hown hK hH hS 1 (by decide) q1453 rfl rfl rfl (by decide +kernel) rfl rfl dX2_feeds_29 (fun H locs hH hS => ?_)
      have hM := hM.push (byU v 2)
      refine lv_iinc (v := nI 1) (lv' := [(2, .int (nI 1)), (0, .ref o), (1, .int v)]) hx hb dX2_feeds_32 hl (k := 0) rfl (by decide) (by decide) rfl (fun ls hl => ?_)
      refine lv_goto (tgt := 2) hx hb dX2_feeds_35 (by decide) ?_
      refine lv_iload_n hx hb dX2_feeds_2 rfl (lv_at hl 0 rfl) ?_
      refine lv_if_lt (tgt := 38) hx hb dX2_feeds_3 (by decide) (fun c3 => ?_) (fun c3 => ?_)
      · exact absurd c3 (by decide)
      · refine lv_aload_n hx hb dX2_feeds_6 rfl (lv_at hl 1 rfl) ?_
        refine m_get hx hb hts hown hK hH 0 (by decide) q1452 rfl (v := .ref (o + 1)) rfl dX2_feeds_7 ?_
        refine lv_aload_n hx hb dX2_feeds_10 rfl (lv_at hl 1 rfl) ?_
        refine m_get hx hb hts hown hK hH 1 (by decide) q1453 rfl (v := .int (nI (aSz S + 2))) (congrArg Value.int (hM.sz)) dX2_feeds_11 ?_
        refine lv_iload_n hx hb dX2_feeds_14 rfl (lv_at hl 2 rfl) ?_
        refine lv_bipush (v := nI 8) hx hb dX2_feeds_15 (by decide) ?_
        refine lv_iload_n hx hb dX2_feeds_17 rfl (lv_at hl 0 rfl) ?_
        refine lv_imul hx hb dX2_feeds_18 ?_
        refine lv_top (y := nI (8 * 1)) (pk_mul _ _) ?_
        refine lv_iushr (v := ushr v (8 * 1)) hx hb dX2_feeds_19 (rfl) ?_
        refine lv_i2b hx hb dX2_feeds_20 rfl ?_
        refine m_bast (n := 700) (j := aSz S + 2) (x' := Int8.toInt32 (Int32.toInt8 (ushr v (8 * 1)))) hx hb hK hH hS (by decide) rfl (by first | omega | (refine Nat.lt_of_lt_of_le (Nat.mod_lt _ ?_) ?_ <;> omega)) (by decide) (pk_vb _) dX2_feeds_21 (fun H locs hH hS => ?_)
        refine lv_aload_n hx hb dX2_feeds_22 rfl (lv_at hl 1 rfl) ?_
        refine lv_dup hx hb dX2_feeds_23 rfl ?_
        refine m_get hx hb hts hown hK hH 1 (by decide) q1453 rfl (v := .int (nI (aSz S + 2))) (congrArg Value.int (hM.sz)) dX2_feeds_24 ?_
        refine lv_iconst (v := nI 1) hx hb dX2_feeds_27 (by decide) ?_
        refine lv_iadd hx hb dX2_feeds_28 ?_
        refine lv_top (y := nI (aSz S + 2 + 1)) (nI_add _ _) ?_
        refine m_put (ty := .int) hx hb hts hown hK hH hS 1 (by decide) q1453 rfl rfl rfl (by decide +kernel) rfl rfl dX2_feeds_29 (fun H locs hH hS => ?_)
        have hM := hM.push (byU v 1)
        refine lv_iinc (v := nI 0) (lv' := [(2, .int (nI 0)), (0, .ref o), (1, .int v)]) hx hb dX2_feeds_32 hl (k := 0) rfl (by decide) (by decide) rfl (fun ls hl => ?_)
        refine lv_goto (tgt := 2) hx hb dX2_feeds_35 (by decide) ?_
        refine lv_iload_n hx hb dX2_feeds_2 rfl (lv_at hl 0 rfl) ?_
        refine lv_if_lt (tgt := 38) hx hb dX2_feeds_3 (by decide) (fun c4 => ?_) (fun c4 => ?_)
        · exact absurd c4 (by decide)
        · refine lv_aload_n hx hb dX2_feeds_6 rfl (lv_at hl 1 rfl) ?_
          refine m_get hx hb hts hown hK hH 0 (by decide) q1452 rfl (v := .ref (o + 1)) rfl dX2_feeds_7 ?_
          refine lv_aload_n hx hb dX2_feeds_10 rfl (lv_at hl 1 rfl) ?_
          refine m_get hx hb hts hown hK hH 1 (by decide) q1453 rfl (v := .int (nI (aSz S + 3))) (congrArg Value.int (hM.sz)) dX2_feeds_11 ?_
          refine lv_iload_n hx hb dX2_feeds_14 rfl (lv_at hl 2 rfl) ?_
          refine lv_bipush (v := nI 8) hx hb dX2_feeds_15 (by decide) ?_
          refine lv_iload_n hx hb dX2_feeds_17 rfl (lv_at hl 0 rfl) ?_
          refine lv_imul hx hb dX2_feeds_18 ?_
          refine lv_top (y := nI (8 * 0)) (pk_mul _ _) ?_
          refine lv_iushr (v := ushr v (8 * 0)) hx hb dX2_feeds_19 (rfl) ?_
          refine lv_i2b hx hb dX2_feeds_20 rfl ?_
          refine m_bast (n := 700) (j := aSz S + 3) (x' := Int8.toInt32 (Int32.toInt8 (ushr v (8 * 0)))) hx hb hK hH hS (by decide) rfl (by first | omega | (refine Nat.lt_of_lt_of_le (Nat.mod_lt _ ?_) ?_ <;> omega)) (by decide) (pk_vb _) dX2_feeds_21 (fun H locs hH hS => ?_)
          refine lv_aload_n hx hb dX2_feeds_22 rfl (lv_at hl 1 rfl) ?_
          refine lv_dup hx hb dX2_feeds_23 rfl ?_
          refine m_get hx hb hts hown hK hH 1 (by decide) q1453 rfl (v := .int (nI (aSz S + 3))) (congrArg Value.int (hM.sz)) dX2_feeds_24 ?_
          refine lv_iconst (v := nI 1) hx hb dX2_feeds_27 (by decide) ?_
          refine lv_iadd hx hb dX2_feeds_28 ?_
          refine lv_top (y := nI (aSz S + 3 + 1)) (nI_add _ _) ?_
          refine m_put (ty := .int) hx hb hts hown hK hH hS 1 (by decide) q1453 rfl rfl rfl (by decide +kernel) rfl rfl dX2_feeds_29 (fun H locs hH hS => ?_)
          have hM := hM.push (byU v 0)
          refine lv_iinc (v := (-1)) (lv' := [(2, .int (-1)), (0, .ref o), (1, .int v)]) hx hb dX2_feeds_32 hl (k := 0) rfl (by decide) (by decide) rfl (fun ls hl => ?_)
          refine lv_goto (tgt := 2) hx hb dX2_feeds_35 (by decide) ?_
          refine lv_iload_n hx hb dX2_feeds_2 rfl (lv_at hl 0 rfl) ?_
          refine lv_if_lt (tgt := 38) hx hb dX2_feeds_3 (by decide) (fun c5 => ?_) (fun c5 => ?_)
          · exact hp_vret hx hb hr hlocks hH hS (by decide) (by decide) dX2_feeds_38 (⟨rfl, _, _, rfl, hM⟩)
          · exact absurd c5 (by decide)
set_option maxHeartbeats 4000000 in
theorem mt_feed (hK0 : va_K D CL (TYS K) s0) {S : Ab} (hO : SOK S) (hM : MOK S I V) (a1 a2 a3 a4 a5 : Int32) : Met l yX2_feed (ws_ yX2_feed cX2_feed 6 ((Option.some Jvm.ClassFile.FieldType.int))) (rmk 1 0 0) (va_Pc [.ref o, .int a1, .int a2, .int a3, .int a4, .int a5] (PB s0 D CL (mset h K wd o I V J))) (QR s0 D CL (fun v h1 => v = some (.int (spFeed S)) ∧ ∃ P U, h1 = mset h K wd o P U J ∧ MOK (stFeed S a1 a2 a3 a4 a5) P U)) 0 0 (zA s0) := by
  refine hp_met (by decide) (Nat.le_of_ble_eq_true rfl) hK0 ?_
  intro p e s m below meth cd ls hx hb hr hlocks hml hown hnm hts hK hPB hl hS hH hA
  have hl : lv_has ls 6 [(0, .ref o), (1, .int a1), (2, .int a2), (3, .int a3), (4, .int a4), (5, .int a5)] := hl
  have hown : s.vm.findClass RX2 = some m.cls := hown
  have hn := hO.n
  have hmk := hO.mk
  have hrl := hO.rl
  have hrm := hO.rm
  have hsz := hO.sz
  refine lv_aload_n hx hb dX2_feed_0 rfl (lv_at hl 0 rfl) ?_
  refine m_get hx hb hts hown hK hH 1 (by decide) q1453 rfl (v := .int (nI (aSz S))) (congrArg Value.int (hM.sz)) dX2_feed_1 ?_
  refine lv_bipush (v := nI 20) hx hb dX2_feed_4 (by decide) ?_
  refine lv_iadd hx hb dX2_feed_6 ?_
  refine lv_top (y := nI ((aSz S) + 20)) (nI_add _ _) ?_
  refine lv_sipush (v := nI 700) hx hb dX2_feed_7 (by decide) ?_
  refine lvN_le (tgt := 15) hx hb (by first | omega | (refine Nat.lt_of_lt_of_le (Nat.mod_lt _ ?_) ?_ <;> omega)) (by first | omega | (refine Nat.lt_of_lt_of_le (Nat.mod_lt _ ?_) ?_ <;> omega)) dX2_feed_10 (by decide) (fun c1 => ?_) (fun c1 => ?_)
  · refine lv_aload_n hx hb dX2_feed_15 rfl (lv_at hl 0 rfl) ?_
    refine lv_iload_n hx hb dX2_feed_16 rfl (lv_at hl 1 rfl) ?_
    refine hp_callV (As := [.int a1]) (rest := []) hx hb hml hown hts hPB hK hH hS (mt_feeds hK0 hM (by show aSz S + 0 + 4 ≤ 700; omega) a1) mset_o rfl rfl 1 (lw_V q1650 q1652 qs49 q107 q1653) (by decide +kernel) ⟨rfl, rfl⟩ (by decide) rfl hl.1 rfl (Nat.le_of_ble_eq_true rfl) (by decide) dX2_feed_17 (fun v2 h4 H locs hp3 _ hH hS => ?_)
    obtain ⟨rfl, P0, U0, rfl, hM⟩ := hp3
    refine lv_aload_n hx hb dX2_feed_20 rfl (lv_at hl 0 rfl) ?_
    refine lv_iload_n hx hb dX2_feed_21 rfl (lv_at hl 2 rfl) ?_
    refine hp_callV (As := [.int a2]) (rest := []) hx hb hml hown hts hPB hK hH hS (mt_feeds hK0 hM (by show aSz S + 4 + 4 ≤ 700; omega) a2) mset_o rfl rfl 1 (lw_V q1650 q1652 qs49 q107 q1653) (by decide +kernel) ⟨rfl, rfl⟩ (by decide) rfl hl.1 rfl (Nat.le_of_ble_eq_true rfl) (by decide) dX2_feed_22 (fun v5 h7 H locs hp6 _ hH hS => ?_)
    obtain ⟨rfl, P1, U1, rfl, hM⟩ := hp6
    refine lv_aload_n hx hb dX2_feed_25 rfl (lv_at hl 0 rfl) ?_
    refine lv_iload_n hx hb dX2_feed_26 rfl (lv_at hl 3 rfl) ?_
    refine hp_callV (As := [.int a3]) (rest := []) hx hb hml hown hts hPB hK hH hS (mt_feeds hK0 hM (by show aSz S + 8 + 4 ≤ 700; omega) a3) mset_o rfl rfl 1 (lw_V q1650 q1652 qs49 q107 q1653) (by decide +kernel) ⟨rfl, rfl⟩ (by decide) rfl hl.1 rfl (Nat.le_of_ble_eq_true rfl) (by decide) dX2_feed_27 (fun v8 h10 H locs hp9 _ hH hS => ?_)
    obtain ⟨rfl, P2, U2, rfl, hM⟩ := hp9
    refine lv_aload_n hx hb dX2_feed_30 rfl (lv_at hl 0 rfl) ?_
    refine lv_iload hx hb dX2_feed_31 (lv_at hl 4 rfl) ?_
    refine hp_callV (As := [.int a4]) (rest := []) hx hb hml hown hts hPB hK hH hS (mt_feeds hK0 hM (by show aSz S + 12 + 4 ≤ 700; omega) a4) mset_o rfl rfl 1 (lw_V q1650 q1652 qs49 q107 q1653) (by decide +kernel) ⟨rfl, rfl⟩ (by decide) rfl hl.1 rfl (Nat.le_of_ble_eq_true rfl) (by decide) dX2_feed_33 (fun v11 h13 H locs hp12 _ hH hS => ?_)
    obtain ⟨rfl, P3, U3, rfl, hM⟩ := hp12
    refine lv_aload_n hx hb dX2_feed_36 rfl (lv_at hl 0 rfl) ?_
    refine lv_iload hx hb dX2_feed_37 (lv_at hl 5 rfl) ?_
    refine hp_callV (As := [.int a5]) (rest := []) hx hb hml hown hts hPB hK hH hS (mt_feeds hK0 hM (by show aSz S + 16 + 4 ≤ 700; omega) a5) mset_o rfl rfl 1 (lw_V q1650 q1652 qs49 q107 q1653) (by decide +kernel) ⟨rfl, rfl⟩ (by decide) rfl hl.1 rfl (Nat.le_of_ble_eq_true rfl) (by decide) dX2_feed_39 (fun v14 h16 H locs hp15 _ hH hS => ?_)
    obtain ⟨rfl, P4, U4, rfl, hM⟩ := hp15
    refine lv_aload_n hx hb dX2_feed_42 rfl (lv_at hl 0 rfl) ?_
    refine m_get hx hb hts hown hK hH 1 (by decide) q1453 rfl (v := .int (nI (aSz S + 20))) (congrArg Value.int (hM.sz)) dX2_feed_43 ?_
    exact hp_iret hx hb hr hlocks hH hS (by decide) (by decide) dX2_feed_46 (⟨by rw [spFeed, if_pos (by omega)], _, _, rfl, by rw [stFeed, if_pos (by omega)]; exact hM⟩)
  · refine lv_iconst (v := (-1)) hx hb dX2_feed_13 (by decide) ?_
    exact hp_iret hx hb hr hlocks hH hS (by decide) (by decide) dX2_feed_14 (⟨by rw [spFeed, if_neg (by omega)], _, _, rfl, by rw [stFeed, if_neg (by omega)]; exact hM⟩)
set_option maxHeartbeats 4000000 in
theorem mt_end (hK0 : va_K D CL (TYS K) s0) {S : Ab} (hO : SOK S) (hM : MOK S I V) (n : Int32) : Met l yX2_end (ws_ yX2_end cX2_end 2 ((Option.some Jvm.ClassFile.FieldType.boolean))) (rmk 1 0 0) (va_Pc [.ref o, .int n] (PB s0 D CL (mset h K wd o I V J))) (QR s0 D CL (fun v h1 => v = some (.int (zI (okEnd S n))) ∧ ∃ P U, h1 = mset h K wd o P U J ∧ MOK (stEnd S n) P U)) 0 0 (zA s0) := by
  refine hp_met (by decide) (Nat.le_of_ble_eq_true rfl) hK0 ?_
  intro p e s m below meth cd ls hx hb hr hlocks hml hown hnm hts hK hPB hl hS hH hA
  have hl : lv_has ls 2 [(0, .ref o), (1, .int n)] := hl
  have hown : s.vm.findClass RX2 = some m.cls := hown
  have hn := hO.n
  have hmk := hO.mk
  have hrl := hO.rl
  have hrm := hO.rm
  have hsz := hO.sz
  refine lv_iload_n hx hb dX2_end_0 rfl (lv_at hl 1 rfl) ?_
  refine lv_i2l hx hb dX2_end_1 rfl ?_
  refine lv_lconst (v := 0) hx hb dX2_end_2 rfl ?_
  refine lv_aload_n hx hb dX2_end_3 rfl (lv_at hl 0 rfl) ?_
  refine m_get hx hb hts hown hK hH 1 (by decide) q1453 rfl (v := .int (nI (aSz S))) (congrArg Value.int (hM.sz)) dX2_end_4 ?_
  refine lv_i2l hx hb dX2_end_7 rfl ?_
  refine hp_callS (As := [.long (Int32.toInt64 n), .long 0, .long (Int32.toInt64 (nI (aSz S)))]) (rest := []) hx hb hml hown hts hPB hH hS (mt_in hK0 (Int32.toInt64 n) 0 (Int32.toInt64 (nI (aSz S)))) 3 (lw_S q1658 q1659 q107 q1660) (by decide +kernel) ⟨rfl, rfl⟩ (by decide) rfl hl.1 rfl (Nat.le_of_ble_eq_true rfl) (by decide) dX2_end_8 (fun v1 h3 H locs hp2 _ hH hS => ?_)
  obtain ⟨rfl, rfl⟩ := hp2
  refine lvB_ne (tgt := 16) hx hb dX2_end_11 (by decide) (fun cn => ?_) (fun cn => ?_)
  · rw [in_le (by omega)] at cn
    obtain ⟨j, hj, rfl⟩ := inN_t cn
    have ej := nI_clamp (show j < 2 ^ 31 by omega)
    refine lv_aload_n hx hb dX2_end_16 rfl (lv_at hl 0 rfl) ?_
    refine lv_iload_n hx hb dX2_end_17 rfl (lv_at hl 1 rfl) ?_
    refine m_put (ty := .int) hx hb hts hown hK hH hS 1 (by decide) q1453 rfl rfl rfl (by decide +kernel) rfl rfl dX2_end_18 (fun H locs hH hS => ?_)
    refine lv_iconst (v := nI 1) hx hb dX2_end_21 (by decide) ?_
    exact hp_zret hx hb hr rfl hlocks hH hS (by decide) (by decide) dX2_end_22 (⟨congrArg some (congrArg Value.int (zI_1 cn)), _, _, rfl, by rw [stEnd, if_pos (show okEnd S (nI j) = true from cn), ej]; exact hM.sSz (by omega)⟩)
  · rw [in_le (by omega)] at cn
    refine lv_iconst (v := nI 0) hx hb dX2_end_14 (by decide) ?_
    exact hp_zret hx hb hr rfl hlocks hH hS (by decide) (by decide) dX2_end_15 (⟨congrArg some (congrArg Value.int (zI_0 cn)), _, _, rfl, by rw [stEnd, if_neg (by rw [okEnd, cn]; decide)]; exact hM⟩)
end MODEL
