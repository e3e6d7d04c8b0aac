/-! by gen/mspec.py -/
set_option maxRecDepth 100000
section MODEL
variable {l : Launch} {s0 : State} {D : va_G} {K : Nat → ClassId} {wd : Nat → Nat} {o : Nat} {h : Hp} {I : Nat → Int32} {V : Nat → Nat → Int32} {J : Nat → Nat → Int64}
set_option maxHeartbeats 4000000 in
theorem mt_marksOf (hK0 : va_K D CL (TYS K) s0) {S : Ab} (hO : SOK S) (hM : MOK S I V) {g : Nat} (hg : g < aN S) : Met l yX2_marksOf (ws_ yX2_marksOf cX2_marksOf 4 ((Option.some Jvm.ClassFile.FieldType.int))) (rmk 0 0 0) (va_Pc [.ref o, .int (nI g)] (PB s0 D CL (mset h K wd o I V J))) (QR s0 D CL (fun v h1 => v = some (.int (nI (mrkB S g (aMk S)))) ∧ h1 = mset h K wd o I V J)) 0 0 (zA s0) := by
  refine hp_met (by decide) (Nat.le_of_ble_eq_true rfl) hK0 ?_
  intro p e s m below meth cd ls hx hb hr hlocks hml hown hnm hts hK hPB hl hS hH hA
  have hl : lv_has ls 4 [(0, .ref o), (1, .int (nI g))] := hl
  have hown : s.vm.findClass RX2 = some m.cls := hown
  have hn := hO.n
  have hmk := hO.mk
  have hrl := hO.rl
  have hrm := hO.rm
  have hsz := hO.sz
  refine lv_iconst (v := nI 0) hx hb dX2_marksOf_0 (by decide) ?_
  refine lv_istore_n (lv' := [(2, .int (nI 0)), (0, .ref o), (1, .int (nI g))]) hx hb dX2_marksOf_1 rfl hl (by decide) rfl (fun ls hl => ?_)
  refine lv_iconst (v := nI 0) hx hb dX2_marksOf_2 (by decide) ?_
  refine lv_istore_n (lv' := [(3, .int (nI 0)), (2, .int (nI 0)), (0, .ref o), (1, .int (nI g))]) hx hb dX2_marksOf_3 rfl hl (by decide) rfl (fun ls hl => ?_)
  refine w_loop1 (fun (k : Nat) => aMk S - k) (fun (k : Nat) H locs ls => (k ≤ aMk S) ∧ HP D CL (zA s0) (mset h K wd o I V J) H ∧ va_S (zA s0) s.heap H locs ∧ lv_has ls 4 [(0, .ref o), (1, .int (nI g)), (2, .int (nI (mrkB S g k))), (3, .int (nI k))]) ?_ 0 ⟨Nat.zero_le _, hH, hS, lv_sub hl [2, 3, 1, 0] rfl⟩
  intro k ih4 H locs ls hP
  obtain ⟨hk, hH, hS, hl⟩ := hP
  refine lv_iload_n hx hb dX2_marksOf_4 rfl (lv_at hl 3 rfl) ?_
  refine lv_aload_n hx hb dX2_marksOf_5 rfl (lv_at hl 0 rfl) ?_
  refine m_get hx hb hts hown hK hH 16 (by decide) q1468 rfl (v := .ref (o + 30)) rfl dX2_marksOf_6 ?_
  refine lv_iconst (v := nI 0) hx hb dX2_marksOf_9 (by decide) ?_
  refine m_iald (n := 2) (j := 0) (v := nI (aMk S)) hx hb hK hH (by decide) rfl (by first | omega | (refine Nat.lt_of_lt_of_le (Nat.mod_lt _ ?_) ?_ <;> omega)) (by decide) (hM.mk) dX2_marksOf_10 ?_
  refine lvN_ge (tgt := 37) hx hb (by first | omega | (refine Nat.lt_of_lt_of_le (Nat.mod_lt _ ?_) ?_ <;> omega)) (by first | omega | (refine Nat.lt_of_lt_of_le (Nat.mod_lt _ ?_) ?_ <;> omega)) dX2_marksOf_11 (by decide) (fun c1 => ?_) (fun c1 => ?_)
  · have ek : k = aMk S := by omega
    subst ek
    refine lv_iload_n hx hb dX2_marksOf_37 rfl (lv_at hl 2 rfl) ?_
    exact hp_iret hx hb hr hlocks hH hS (by decide) (by decide) dX2_marksOf_38 (⟨rfl, rfl⟩)
  · refine lv_iload_n hx hb dX2_marksOf_14 rfl (lv_at hl 2 rfl) ?_
    refine lv_aload_n hx hb dX2_marksOf_15 rfl (lv_at hl 0 rfl) ?_
    refine m_get hx hb hts hown hK hH 8 (by decide) q1460 rfl (v := .ref (o + 8)) rfl dX2_marksOf_16 ?_
    refine lv_iconst (v := nI 0) hx hb dX2_marksOf_19 (by decide) ?_
    refine m_rowI (k' := 9) hx hb hK hH (by decide) rfl (by decide) (by decide) rfl dX2_marksOf_20 ?_
    refine lv_iload_n hx hb dX2_marksOf_21 rfl (lv_at hl 3 rfl) ?_
    refine m_iald (n := 5) (j := k) (v := nI (aMd S k)) hx hb hK hH (by decide) rfl (by first | omega | (refine Nat.lt_of_lt_of_le (Nat.mod_lt _ ?_) ?_ <;> omega)) (by decide) (hM.md (by first | omega | (refine Nat.lt_of_lt_of_le (Nat.mod_lt _ ?_) ?_ <;> omega))) dX2_marksOf_22 ?_
    refine lv_iload_n hx hb dX2_marksOf_23 rfl (lv_at hl 1 rfl) ?_
    refine lv_ishr hx hb dX2_marksOf_24 ?_
    refine lv_top (y := nI ((aMd S k) / 2 ^ g)) (bi_shr (Nat.lt_of_lt_of_le (hO.md (by omega)) (by decide)) (by first | omega | (refine Nat.lt_of_lt_of_le (Nat.mod_lt _ ?_) ?_ <;> omega))) ?_
    refine lv_iconst (v := nI 1) hx hb dX2_marksOf_25 (by decide) ?_
    refine lv_iand hx hb dX2_marksOf_26 ?_
    refine lv_top (y := nI (if (aMd S k).testBit g then 1 else 0)) ((bi_and _ _).trans (congrArg nI (bi_bit _ _))) ?_
    refine lv_iload_n hx hb dX2_marksOf_27 rfl (lv_at hl 3 rfl) ?_
    refine lv_ishl hx hb dX2_marksOf_28 ?_
    refine lv_top (y := nI ((if (aMd S k).testBit g then 1 else 0) * 2 ^ k)) (bi_shl (by first | omega | (refine Nat.lt_of_lt_of_le (Nat.mod_lt _ ?_) ?_ <;> omega)) (b_shlt _ (by omega))) ?_
    refine lv_ior hx hb dX2_marksOf_29 ?_
    refine lv_top (y := nI ((mrkB S g k) ||| ((if (aMd S k).testBit g then 1 else 0) * 2 ^ k))) (bi_or _ _) ?_
    refine lv_istore_n (lv' := [(2, .int (nI ((mrkB S g k) ||| ((if (aMd S k).testBit g then 1 else 0) * 2 ^ k)))), (0, .ref o), (1, .int (nI g)), (3, .int (nI k))]) hx hb dX2_marksOf_30 rfl hl (by decide) rfl (fun ls hl => ?_)
    refine lv_iinc (v := nI (k + 1)) (lv' := [(3, .int (nI (k + 1))), (2, .int (nI ((mrkB S g k) ||| ((if (aMd S k).testBit g then 1 else 0) * 2 ^ k)))), (0, .ref o), (1, .int (nI g))]) hx hb dX2_marksOf_31 hl (k := 3) rfl (nI_add k 1) (by decide) rfl (fun ls hl => ?_)
    refine lv_goto (tgt := 4) hx hb dX2_marksOf_34 (by decide) ?_
    exact ih4 (k + 1) (by omega) H locs ls ⟨by omega, hH, hS, lv_sub hl [2, 3, 1, 0] rfl⟩
set_option maxHeartbeats 4000000 in
theorem mt_guest (hK0 : va_K D CL (TYS K) s0) {S : Ab} (hO : SOK S) (hM : MOK S I V) (g what : Int32) : Met l yX2_guest (ws_ yX2_guest cX2_guest 3 ((Option.some Jvm.ClassFile.FieldType.int))) (rmk 2 0 0) (va_Pc [.ref o, .int g, .int what] (PB s0 D CL (mset h K wd o I V J))) (QR s0 D CL (fun v h1 => v = some (.int (spGuest S g what)) ∧ h1 = mset h K wd o I V J)) 0 0 (zA s0) := by
  refine hp_met (by decide) (Nat.le_of_ble_eq_true rfl) hK0 ?_
  intro p e s m below meth cd ls hx hb hr hlocks hml hown hnm hts hK hPB hl hS hH hA
  have hl : lv_has ls 3 [(0, .ref o), (1, .int g), (2, .int what)] := hl
  have hown : s.vm.findClass RX2 = some m.cls := hown
  have hn := hO.n
  have hmk := hO.mk
  have hrl := hO.rl
  have hrm := hO.rm
  have hsz := hO.sz
  refine lv_aload_n hx hb dX2_guest_0 rfl (lv_at hl 0 rfl) ?_
  refine lv_iload_n hx hb dX2_guest_1 rfl (lv_at hl 1 rfl) ?_
  refine hp_callV (As := [.int g]) (rest := []) hx hb hml hown hts hPB hK hH hS (mt_isGuest hK0 hO hM g) mset_o rfl rfl 1 (lw_V q1748 q1750 qs66 q107 q1751) (by decide +kernel) ⟨rfl, rfl⟩ (by decide) rfl hl.1 rfl (Nat.le_of_ble_eq_true rfl) (by decide) dX2_guest_2 (fun v1 h3 H locs hp2 _ hH hS => ?_)
  obtain ⟨rfl, rfl⟩ := hp2
  refine lvB_ne (tgt := 10) hx hb dX2_guest_5 (by decide) (fun c4 => ?_) (fun c4 => ?_)
  · obtain ⟨j, hj, rfl⟩ := inN_t c4
    have ej := nI_clamp (show j < 2 ^ 31 by omega)
    refine lv_iload_n hx hb dX2_guest_10 rfl (lv_at hl 2 rfl) ?_
    by_cases w5 : what = nI 0
    · refine lv_tableIn (tgt := 44) hx hb dX2_guest_11 (by rw [w5]; decide) (by rw [w5]; decide) (by rw [w5]; rfl) (by decide) ?_
      refine lv_aload_n hx hb dX2_guest_44 rfl (lv_at hl 0 rfl) ?_
      refine m_get hx hb hts hown hK hH 20 (by decide) q1472 rfl (v := .ref (o + 34)) rfl dX2_guest_45 ?_
      refine lv_iload_n hx hb dX2_guest_48 rfl (lv_at hl 1 rfl) ?_
      refine m_zald (n := 10) (j := j) (v := zI (aCm S j)) hx hb hK hH (by decide) rfl (by first | omega | (refine Nat.lt_of_lt_of_le (Nat.mod_lt _ ?_) ?_ <;> omega)) (by decide) (hM.cm (by first | omega | (refine Nat.lt_of_lt_of_le (Nat.mod_lt _ ?_) ?_ <;> omega))) dX2_guest_49 ?_
      refine lvB_eq (tgt := 57) hx hb dX2_guest_50 (by decide) (fun c6 => ?_) (fun c6 => ?_)
      · refine lv_iconst (v := nI 0) hx hb dX2_guest_57 (by decide) ?_
        exact hp_iret hx hb hr hlocks hH hS (by decide) (by decide) dX2_guest_58 (⟨congrArg some (congrArg Value.int ((zI_0 c6).trans (Eq.symm (by simp [spGuest, nIne, nIn8, ej, c4, w5])))), rfl⟩)
      · refine lv_iconst (v := nI 1) hx hb dX2_guest_53 (by decide) ?_
        refine lv_goto (tgt := 58) hx hb dX2_guest_54 (by decide) ?_
        exact hp_iret hx hb hr hlocks hH hS (by decide) (by decide) dX2_guest_58 (⟨congrArg some (congrArg Value.int ((zI_1 c6).trans (Eq.symm (by simp [spGuest, nIne, nIn8, ej, c4, w5])))), rfl⟩)
    by_cases w7 : what = nI 1
    · refine lv_tableIn (tgt := 59) hx hb dX2_guest_11 (by rw [w7]; decide) (by rw [w7]; decide) (by rw [w7]; rfl) (by decide) ?_
      refine lv_aload_n hx hb dX2_guest_59 rfl (lv_at hl 0 rfl) ?_
      refine lv_iload_n hx hb dX2_guest_60 rfl (lv_at hl 1 rfl) ?_
      refine hp_callV (As := [.int (nI j)]) (rest := []) hx hb hml hown hts hPB hK hH hS (mt_marksOf hK0 hO hM (g := j) (by omega)) mset_o rfl rfl 1 (lw_V q1752 q1754 qs67 q107 q1755) (by decide +kernel) ⟨rfl, rfl⟩ (by decide) rfl hl.1 rfl (Nat.le_of_ble_eq_true rfl) (by decide) dX2_guest_61 (fun v8 h10 H locs hp9 _ hH hS => ?_)
      obtain ⟨rfl, rfl⟩ := hp9
      exact hp_iret hx hb hr hlocks hH hS (by decide) (by decide) dX2_guest_64 (⟨congrArg some (congrArg Value.int (by simp [spGuest, nIne, nIn8, ej, c4, w7])), rfl⟩)
    by_cases w11 : what = nI 2
    · refine lv_tableIn (tgt := 65) hx hb dX2_guest_11 (by rw [w11]; decide) (by rw [w11]; decide) (by rw [w11]; rfl) (by decide) ?_
      refine lv_aload_n hx hb dX2_guest_65 rfl (lv_at hl 0 rfl) ?_
      refine m_get hx hb hts hown hK hH 22 (by decide) q1474 rfl (v := .ref (o + 36)) rfl dX2_guest_66 ?_
      refine lv_iload_n hx hb dX2_guest_69 rfl (lv_at hl 1 rfl) ?_
      refine m_iald (n := 10) (j := j) (v := aIr S j) hx hb hK hH (by decide) rfl (by first | omega | (refine Nat.lt_of_lt_of_le (Nat.mod_lt _ ?_) ?_ <;> omega)) (by decide) (hM.ir (by first | omega | (refine Nat.lt_of_lt_of_le (Nat.mod_lt _ ?_) ?_ <;> omega))) dX2_guest_70 ?_
      exact hp_iret hx hb hr hlocks hH hS (by decide) (by decide) dX2_guest_71 (⟨congrArg some (congrArg Value.int (by simp [spGuest, nIne, nIn8, ej, c4, w11])), rfl⟩)
    by_cases w12 : what = nI 3
    · refine lv_tableIn (tgt := 72) hx hb dX2_guest_11 (by rw [w12]; decide) (by rw [w12]; decide) (by rw [w12]; rfl) (by decide) ?_
      refine lv_aload_n hx hb dX2_guest_72 rfl (lv_at hl 0 rfl) ?_
      refine m_get hx hb hts hown hK hH 23 (by decide) q1475 rfl (v := .ref (o + 37)) rfl dX2_guest_73 ?_
      refine lv_iload_n hx hb dX2_guest_76 rfl (lv_at hl 1 rfl) ?_
      refine m_iald (n := 10) (j := j) (v := aIp S j) hx hb hK hH (by decide) rfl (by first | omega | (refine Nat.lt_of_lt_of_le (Nat.mod_lt _ ?_) ?_ <;> omega)) (by decide) (hM.ip (by first | omega | (refine Nat.lt_of_lt_of_le (Nat.mod_lt _ ?_) ?_ <;> omega))) dX2_guest_77 ?_
      exact hp_iret hx hb hr hlocks hH hS (by decide) (by decide) dX2_guest_78 (⟨congrArg some (congrArg Value.int (by simp [spGuest, nIne, nIn8, ej, c4, w12])), rfl⟩)
    by_cases w13 : what = nI 4
    · refine lv_tableIn (tgt := 79) hx hb dX2_guest_11 (by rw [w13]; decide) (by rw [w13]; decide) (by rw [w13]; rfl) (by decide) ?_
      refine lv_aload_n hx hb dX2_guest_79 rfl (lv_at hl 0 rfl) ?_
      refine m_get hx hb hts hown hK hH 21 (by decide) q1473 rfl (v := .ref (o + 35)) rfl dX2_guest_80 ?_
      refine lv_iload_n hx hb dX2_guest_83 rfl (lv_at hl 1 rfl) ?_
      refine m_zald (n := 10) (j := j) (v := zI (aSi S j)) hx hb hK hH (by decide) rfl (by first | omega | (refine Nat.lt_of_lt_of_le (Nat.mod_lt _ ?_) ?_ <;> omega)) (by decide) (hM.si (by first | omega | (refine Nat.lt_of_lt_of_le (Nat.mod_lt _ ?_) ?_ <;> omega))) dX2_guest_84 ?_
      refine lvB_eq (tgt := 92) hx hb dX2_guest_85 (by decide) (fun c14 => ?_) (fun c14 => ?_)
      · refine lv_iconst (v := nI 0) hx hb dX2_guest_92 (by decide) ?_
        exact hp_iret hx hb hr hlocks hH hS (by decide) (by decide) dX2_guest_93 (⟨congrArg some (congrArg Value.int ((zI_0 c14).trans (Eq.symm (by simp [spGuest, nIne, nIn8, ej, c4, w13])))), rfl⟩)
      · refine lv_iconst (v := nI 1) hx hb dX2_guest_88 (by decide) ?_
        refine lv_goto (tgt := 93) hx hb dX2_guest_89 (by decide) ?_
        exact hp_iret hx hb hr hlocks hH hS (by decide) (by decide) dX2_guest_93 (⟨congrArg some (congrArg Value.int ((zI_1 c14).trans (Eq.symm (by simp [spGuest, nIne, nIn8, ej, c4, w13])))), rfl⟩)
    refine lv_tableOut (tgt := 94) hx hb dX2_guest_11 (by have g0 := lv_neT (a := 0) w5 rfl; have g1 := lv_neT (a := 1) w7 rfl; have g2 := lv_neT (a := 2) w11 rfl; have g3 := lv_neT (a := 3) w12 rfl; have g4 := lv_neT (a := 4) w13 rfl; omega) (by decide) ?_
    refine lv_iconst (v := (-1)) hx hb dX2_guest_94 (by decide) ?_
    exact hp_iret hx hb hr hlocks hH hS (by decide) (by decide) dX2_guest_95 (⟨congrArg some (congrArg Value.int (by simp [spGuest, nIne, nIn8, ej, c4, w5, w7, w11, w12, w13])), rfl⟩)
  · refine lv_iconst (v := (-1)) hx hb dX2_guest_8 (by decide) ?_
    exact hp_iret hx hb hr hlocks hH hS (by decide) (by decide) dX2_guest_9 (⟨congrArg some (congrArg Value.int (by simp [spGuest, nIne, nIn8, c4])), rfl⟩)
set_option maxHeartbeats 4000000 in
theorem mt_rule (hK0 : va_K D CL (TYS K) s0) {S : Ab} (hO : SOK S) (hM : MOK S I V) (r what : Int32) : Met l yX2_rule (ws_ yX2_rule cX2_rule 6 ((Option.some Jvm.ClassFile.FieldType.int))) (rmk 3 0 0) (va_Pc [.ref o, .int r, .int what] (PB s0 D CL (mset h K wd o I V J))) (QR s0 D CL (fun v h1 => v = some (.int (spRule S r what)) ∧ h1 = mset h K wd o I V J)) 0 0 (zA s0) := by
  refine hp_met (by decide) (Nat.le_of_ble_eq_true rfl) hK0 ?_
  intro p e s m below meth cd ls hx hb hr hlocks hml hown hnm hts hK hPB hl hS hH hA
  have hl : lv_has ls 6 [(0, .ref o), (1, .int r), (2, .int what)] := hl
  have hown : s.vm.findClass RX2 = some m.cls := hown
  have hn := hO.n
  have hmk := hO.mk
  have hrl := hO.rl
  have hrm := hO.rm
  have hsz := hO.sz
  refine lv_aload_n hx hb dX2_rule_0 rfl (lv_at hl 0 rfl) ?_
  refine lv_iload_n hx hb dX2_rule_1 rfl (lv_at hl 1 rfl) ?_
  refine hp_callV (As := [.int r]) (rest := []) hx hb hml hown hts hPB hK hH hS (mt_isRule hK0 hO hM r) mset_o rfl rfl 1 (lw_V q1760 q1762 qs68 q107 q1763) (by decide +kernel) ⟨rfl, rfl⟩ (by decide) rfl hl.1 rfl (Nat.le_of_ble_eq_true rfl) (by decide) dX2_rule_2 (fun v1 h3 H locs hp2 _ hH hS => ?_)
  obtain ⟨rfl, rfl⟩ := hp2
  refine lvB_ne (tgt := 10) hx hb dX2_rule_5 (by decide) (fun c4 => ?_) (fun c4 => ?_)
  · obtain ⟨j, hj, rfl⟩ := inN_t c4
    have ej := nI_clamp (show j < 2 ^ 31 by omega)
    have hkd := hO.kd hj
    refine lv_iload_n hx hb dX2_rule_10 rfl (lv_at hl 2 rfl) ?_
    by_cases w5 : what = nI 0
    · refine lv_tableIn (tgt := 56) hx hb dX2_rule_11 (by rw [w5]; decide) (by rw [w5]; decide) (by rw [w5]; rfl) (by decide) ?_
      refine lv_aload_n hx hb dX2_rule_56 rfl (lv_at hl 0 rfl) ?_
      refine m_get hx hb hts hown hK hH 9 (by decide) q1461 rfl (v := .ref (o + 11)) rfl dX2_rule_57 ?_
      refine lv_iconst (v := nI 0) hx hb dX2_rule_60 (by decide) ?_
      refine m_rowI (k' := 12) hx hb hK hH (by decide) rfl (by decide) (by decide) rfl dX2_rule_61 ?_
      refine lv_iload_n hx hb dX2_rule_62 rfl (lv_at hl 1 rfl) ?_
      refine m_iald (n := 12) (j := j) (v := nI (aKd S j)) hx hb hK hH (by decide) rfl (by first | omega | (refine Nat.lt_of_lt_of_le (Nat.mod_lt _ ?_) ?_ <;> omega)) (by decide) (hM.kd (by first | omega | (refine Nat.lt_of_lt_of_le (Nat.mod_lt _ ?_) ?_ <;> omega))) dX2_rule_63 ?_
      exact hp_iret hx hb hr hlocks hH hS (by decide) (by decide) dX2_rule_64 (⟨congrArg some (congrArg Value.int (by simp [spRule, nIne, nIn8, nIn9, ej, c4, w5])), rfl⟩)
    by_cases w6 : what = nI 1
    · refine lv_tableIn (tgt := 65) hx hb dX2_rule_11 (by rw [w6]; decide) (by rw [w6]; decide) (by rw [w6]; rfl) (by decide) ?_
      refine lv_aload_n hx hb dX2_rule_65 rfl (lv_at hl 0 rfl) ?_
      refine m_get hx hb hts hown hK hH 10 (by decide) q1462 rfl (v := .ref (o + 14)) rfl dX2_rule_66 ?_
      refine lv_iconst (v := nI 0) hx hb dX2_rule_69 (by decide) ?_
      refine m_rowI (k' := 15) hx hb hK hH (by decide) rfl (by decide) (by decide) rfl dX2_rule_70 ?_
      refine lv_iload_n hx hb dX2_rule_71 rfl (lv_at hl 1 rfl) ?_
      refine m_iald (n := 12) (j := j) (v := nI (aOn S j)) hx hb hK hH (by decide) rfl (by first | omega | (refine Nat.lt_of_lt_of_le (Nat.mod_lt _ ?_) ?_ <;> omega)) (by decide) (hM.on (by first | omega | (refine Nat.lt_of_lt_of_le (Nat.mod_lt _ ?_) ?_ <;> omega))) dX2_rule_72 ?_
      exact hp_iret hx hb hr hlocks hH hS (by decide) (by decide) dX2_rule_73 (⟨congrArg some (congrArg Value.int (by simp [spRule, nIne, nIn8, nIn9, ej, c4, w6])), rfl⟩)
    by_cases w7 : what = nI 2
    · refine lv_tableIn (tgt := 74) hx hb dX2_rule_11 (by rw [w7]; decide) (by rw [w7]; decide) (by rw [w7]; rfl) (by decide) ?_
      refine lv_aload_n hx hb dX2_rule_74 rfl (lv_at hl 0 rfl) ?_
      refine m_get hx hb hts hown hK hH 11 (by decide) q1463 rfl (v := .ref (o + 17)) rfl dX2_rule_75 ?_
      refine lv_iconst (v := nI 0) hx hb dX2_rule_78 (by decide) ?_
      refine m_rowI (k' := 18) hx hb hK hH (by decide) rfl (by decide) (by decide) rfl dX2_rule_79 ?_
      refine lv_iload_n hx hb dX2_rule_80 rfl (lv_at hl 1 rfl) ?_
      refine m_iald (n := 12) (j := j) (v := nI (aOt S j)) hx hb hK hH (by decide) rfl (by first | omega | (refine Nat.lt_of_lt_of_le (Nat.mod_lt _ ?_) ?_ <;> omega)) (by decide) (hM.ot (by first | omega | (refine Nat.lt_of_lt_of_le (Nat.mod_lt _ ?_) ?_ <;> omega))) dX2_rule_81 ?_
      exact hp_iret hx hb hr hlocks hH hS (by decide) (by decide) dX2_rule_82 (⟨congrArg some (congrArg Value.int (by simp [spRule, nIne, nIn8, nIn9, ej, c4, w7])), rfl⟩)
    by_cases w8 : what = nI 3
    · refine lv_tableIn (tgt := 83) hx hb dX2_rule_11 (by rw [w8]; decide) (by rw [w8]; decide) (by rw [w8]; rfl) (by decide) ?_
      refine lv_aload_n hx hb dX2_rule_83 rfl (lv_at hl 0 rfl) ?_
      refine m_get hx hb hts hown hK hH 12 (by decide) q1464 rfl (v := .ref (o + 20)) rfl dX2_rule_84 ?_
      refine lv_iconst (v := nI 0) hx hb dX2_rule_87 (by decide) ?_
      refine m_rowI (k' := 21) hx hb hK hH (by decide) rfl (by decide) (by decide) rfl dX2_rule_88 ?_
      refine lv_iload_n hx hb dX2_rule_89 rfl (lv_at hl 1 rfl) ?_
      refine m_iald (n := 12) (j := j) (v := nI (aWt S j)) hx hb hK hH (by decide) rfl (by first | omega | (refine Nat.lt_of_lt_of_le (Nat.mod_lt _ ?_) ?_ <;> omega)) (by decide) (hM.wt (by first | omega | (refine Nat.lt_of_lt_of_le (Nat.mod_lt _ ?_) ?_ <;> omega))) dX2_rule_90 ?_
      exact hp_iret hx hb hr hlocks hH hS (by decide) (by decide) dX2_rule_91 (⟨congrArg some (congrArg Value.int (by simp [spRule, nIne, nIn8, nIn9, ej, c4, w8])), rfl⟩)
    by_cases w9 : what = nI 4
    · refine lv_tableIn (tgt := 92) hx hb dX2_rule_11 (by rw [w9]; decide) (by rw [w9]; decide) (by rw [w9]; rfl) (by decide) ?_
      refine lv_aload_n hx hb dX2_rule_92 rfl (lv_at hl 0 rfl) ?_
      refine m_get hx hb hts hown hK hH 13 (by decide) q1465 rfl (v := .ref (o + 23)) rfl dX2_rule_93 ?_
      refine lv_iconst (v := nI 0) hx hb dX2_rule_96 (by decide) ?_
      refine m_rowI (k' := 24) hx hb hK hH (by decide) rfl (by decide) (by decide) rfl dX2_rule_97 ?_
      refine lv_iload_n hx hb dX2_rule_98 rfl (lv_at hl 1 rfl) ?_
      refine m_iald (n := 12) (j := j) (v := aTl S j) hx hb hK hH (by decide) rfl (by first | omega | (refine Nat.lt_of_lt_of_le (Nat.mod_lt _ ?_) ?_ <;> omega)) (by decide) (hM.tl (by first | omega | (refine Nat.lt_of_lt_of_le (Nat.mod_lt _ ?_) ?_ <;> omega))) dX2_rule_99 ?_
      exact hp_iret hx hb hr hlocks hH hS (by decide) (by decide) dX2_rule_100 (⟨congrArg some (congrArg Value.int (by simp [spRule, nIne, nIn8, nIn9, ej, c4, w9])), rfl⟩)
    by_cases w10 : what = nI 5
    · refine lv_tableIn (tgt := 101) hx hb dX2_rule_11 (by rw [w10]; decide) (by rw [w10]; decide) (by rw [w10]; rfl) (by decide) ?_
      refine lv_aload_n hx hb dX2_rule_101 rfl (lv_at hl 0 rfl) ?_
      refine m_get hx hb hts hown hK hH 14 (by decide) q1466 rfl (v := .ref (o + 26)) rfl dX2_rule_102 ?_
      refine lv_iconst (v := nI 0) hx hb dX2_rule_105 (by decide) ?_
      refine m_rowI (k' := 27) hx hb hK hH (by decide) rfl (by decide) (by decide) rfl dX2_rule_106 ?_
      refine lv_iload_n hx hb dX2_rule_107 rfl (lv_at hl 1 rfl) ?_
      refine m_iald (n := 12) (j := j) (v := aUn S j) hx hb hK hH (by decide) rfl (by first | omega | (refine Nat.lt_of_lt_of_le (Nat.mod_lt _ ?_) ?_ <;> omega)) (by decide) (hM.un (by first | omega | (refine Nat.lt_of_lt_of_le (Nat.mod_lt _ ?_) ?_ <;> omega))) dX2_rule_108 ?_
      exact hp_iret hx hb hr hlocks hH hS (by decide) (by decide) dX2_rule_109 (⟨congrArg some (congrArg Value.int (by simp [spRule, nIne, nIn8, nIn9, ej, c4, w10])), rfl⟩)
    by_cases w11 : what = nI 6
    · refine lv_tableIn (tgt := 110) hx hb dX2_rule_11 (by rw [w11]; decide) (by rw [w11]; decide) (by rw [w11]; rfl) (by decide) ?_
      refine lv_iconst (v := nI 0) hx hb dX2_rule_110 (by decide) ?_
      refine lv_istore_n (lv' := [(3, .int (nI 0)), (0, .ref o), (1, .int (nI j)), (2, .int what)]) hx hb dX2_rule_111 rfl hl (by decide) rfl (fun ls hl => ?_)
      refine lv_iconst (v := nI 0) hx hb dX2_rule_112 (by decide) ?_
      refine lv_istore (lv' := [(4, .int (nI 0)), (3, .int (nI 0)), (0, .ref o), (1, .int (nI j)), (2, .int what)]) hx hb dX2_rule_113 hl (by decide) rfl (fun ls hl => ?_)
      refine w_loop1 (fun (x : Nat) => aN S - x) (fun (x : Nat) H locs ls => (x ≤ aN S) ∧ HP D CL (zA s0) (mset h K wd o I V J) H ∧ va_S (zA s0) s.heap H locs ∧ lv_has ls 6 [(0, .ref o), (1, .int (nI j)), (3, .int (nI (allN S j x))), (4, .int (nI x))]) ?_ 0 ⟨Nat.zero_le _, hH, hS, lv_sub hl [2, 3, 1, 0] rfl⟩
      intro x ih115 H locs ls hP
      obtain ⟨hxx, hH, hS, hl⟩ := hP
      have hal := allN_le S j x
      have hal2 : x * aN S ≤ 10 * 10 := Nat.mul_le_mul (by omega) (by omega)
      refine lv_iload hx hb dX2_rule_115 (lv_at hl 3 rfl) ?_
      refine lv_aload_n hx hb dX2_rule_117 rfl (lv_at hl 0 rfl) ?_
      refine m_get hx hb hts hown hK hH 15 (by decide) q1467 rfl (v := .ref (o + 29)) rfl dX2_rule_118 ?_
      refine lv_iconst (v := nI 0) hx hb dX2_rule_121 (by decide) ?_
      refine m_iald (n := 2) (j := 0) (v := nI (aN S)) hx hb hK hH (by decide) rfl (by first | omega | (refine Nat.lt_of_lt_of_le (Nat.mod_lt _ ?_) ?_ <;> omega)) (by decide) (hM.n) dX2_rule_122 ?_
      refine lvN_ge (tgt := 190) hx hb (by first | omega | (refine Nat.lt_of_lt_of_le (Nat.mod_lt _ ?_) ?_ <;> omega)) (by first | omega | (refine Nat.lt_of_lt_of_le (Nat.mod_lt _ ?_) ?_ <;> omega)) dX2_rule_123 (by decide) (fun c12 => ?_) (fun c12 => ?_)
      · have exn : x = aN S := by omega
        rw [exn] at hl
        refine lv_iload_n hx hb dX2_rule_190 rfl (lv_at hl 2 rfl) ?_
        exact hp_iret hx hb hr hlocks hH hS (by decide) (by decide) dX2_rule_191 (⟨congrArg some (congrArg Value.int (by simp [spRule, nIne, nIn8, nIn9, ej, c4, w11, c12, Nat.not_lt.mpr c12])), rfl⟩)
      · refine lv_aload_n hx hb dX2_rule_126 rfl (lv_at hl 0 rfl) ?_
        refine m_get hx hb hts hown hK hH 9 (by decide) q1461 rfl (v := .ref (o + 11)) rfl dX2_rule_127 ?_
        refine lv_iconst (v := nI 0) hx hb dX2_rule_130 (by decide) ?_
        refine m_rowI (k' := 12) hx hb hK hH (by decide) rfl (by decide) (by decide) rfl dX2_rule_131 ?_
        refine lv_iload_n hx hb dX2_rule_132 rfl (lv_at hl 1 rfl) ?_
        refine m_iald (n := 12) (j := j) (v := nI (aKd S j)) hx hb hK hH (by decide) rfl (by first | omega | (refine Nat.lt_of_lt_of_le (Nat.mod_lt _ ?_) ?_ <;> omega)) (by decide) (hM.kd (by first | omega | (refine Nat.lt_of_lt_of_le (Nat.mod_lt _ ?_) ?_ <;> omega))) dX2_rule_133 ?_
        refine lvZ_ne (tgt := 141) hx hb (by first | omega | (refine Nat.lt_of_lt_of_le (Nat.mod_lt _ ?_) ?_ <;> omega)) dX2_rule_134 (by decide) (fun c13 => ?_) (fun c13 => ?_)
        · refine lv_iload hx hb dX2_rule_141 (lv_at hl 3 rfl) ?_
          refine lv_iconst (v := nI 1) hx hb dX2_rule_143 (by decide) ?_
          refine lv_iadd hx hb dX2_rule_144 ?_
          refine lv_top (y := nI (x + 1)) (nI_add _ _) ?_
          rw [show nI (allN S j x) = nI (allN S j x + rowN S j x (x + 1)) by rw [rowN_low c13, Nat.add_zero]] at hl
          refine lv_istore (lv' := [(5, .int (nI (x + 1))), (0, .ref o), (1, .int (nI j)), (3, .int (nI (allN S j x + rowN S j x (x + 1)))), (4, .int (nI x))]) hx hb dX2_rule_145 hl (by decide) rfl (fun ls hl => ?_)
          refine w_loop1 (fun (y : Nat) => aN S - y) (fun (y : Nat) H locs ls => (y ≤ aN S ∧ (aKd S j ≠ 0 → x < y)) ∧ HP D CL (zA s0) (mset h K wd o I V J) H ∧ va_S (zA s0) s.heap H locs ∧ lv_has ls 6 [(0, .ref o), (1, .int (nI j)), (3, .int (nI (allN S j x + rowN S j x y))), (4, .int (nI x)), (5, .int (nI y))]) ?_ (x + 1) ⟨⟨by omega, fun q => by omega⟩, hH, hS, lv_sub hl [1, 2, 3, 4, 0] rfl⟩
          intro y ih147 H locs ls hP
          obtain ⟨hyy, hH, hS, hl⟩ := hP
          have hrw : rowN S j x y ≤ y := cntN_le _ _
          refine lv_iload hx hb dX2_rule_147 (lv_at hl 4 rfl) ?_
          refine lv_aload_n hx hb dX2_rule_149 rfl (lv_at hl 0 rfl) ?_
          refine m_get hx hb hts hown hK hH 15 (by decide) q1467 rfl (v := .ref (o + 29)) rfl dX2_rule_150 ?_
          refine lv_iconst (v := nI 0) hx hb dX2_rule_153 (by decide) ?_
          refine m_iald (n := 2) (j := 0) (v := nI (aN S)) hx hb hK hH (by decide) rfl (by first | omega | (refine Nat.lt_of_lt_of_le (Nat.mod_lt _ ?_) ?_ <;> omega)) (by decide) (hM.n) dX2_rule_154 ?_
          refine lvN_ge (tgt := 184) hx hb (by first | omega | (refine Nat.lt_of_lt_of_le (Nat.mod_lt _ ?_) ?_ <;> omega)) (by first | omega | (refine Nat.lt_of_lt_of_le (Nat.mod_lt _ ?_) ?_ <;> omega)) dX2_rule_155 (by decide) (fun c14 => ?_) (fun c14 => ?_)
          · have ey : y = aN S := by omega
            rw [ey] at hl
            refine lv_iinc (v := nI (x + 1)) (lv' := [(4, .int (nI (x + 1))), (0, .ref o), (1, .int (nI j)), (3, .int (nI (allN S j x + rowN S j x (aN S)))), (5, .int (nI (aN S)))]) hx hb dX2_rule_184 hl (k := 3) rfl (nI_add x 1) (by decide) rfl (fun ls hl => ?_)
            refine lv_goto (tgt := 115) hx hb dX2_rule_187 (by decide) ?_
            exact ih115 (x + 1) (by omega) H locs ls ⟨by omega, hH, hS, lv_sub hl [1, 2, 3, 0] rfl⟩
          · refine lv_iload_n hx hb dX2_rule_158 rfl (lv_at hl 2 rfl) ?_
            refine lv_aload_n hx hb dX2_rule_159 rfl (lv_at hl 0 rfl) ?_
            refine lv_iload_n hx hb dX2_rule_160 rfl (lv_at hl 1 rfl) ?_
            refine lv_iload hx hb dX2_rule_161 (lv_at hl 3 rfl) ?_
            refine lv_iload hx hb dX2_rule_163 (lv_at hl 4 rfl) ?_
            refine hp_callV (As := [.int (nI j), .int (nI x), .int (nI y)]) (rest := [.int (nI (allN S j x + rowN S j x y))]) hx hb hml hown hts hPB hK hH hS (mt_hasCouple hK0 hO hM (r := j) (x := x) (y := y) (by omega) (by omega) (by omega)) mset_o rfl rfl 3 (lw_V q1764 q1766 qs69 q107 q1767) (by decide +kernel) ⟨rfl, rfl⟩ (by decide) rfl hl.1 rfl (Nat.le_of_ble_eq_true rfl) (by decide) dX2_rule_165 (fun v15 h17 H locs hp16 _ hH hS => ?_)
            obtain ⟨rfl, rfl⟩ := hp16
            refine lvB_eq (tgt := 175) hx hb dX2_rule_168 (by decide) (fun c18 => ?_) (fun c18 => ?_)
            · refine lv_iconst (v := nI 0) hx hb dX2_rule_175 (by decide) ?_
              refine lv_iadd hx hb dX2_rule_176 ?_
              refine lv_top (y := nI (allN S j x + rowN S j x (y + 1))) (rule_f (hasC_cpl hyy.2 c18)) ?_
              refine lv_istore_n (lv' := [(3, .int (nI (allN S j x + rowN S j x (y + 1)))), (0, .ref o), (1, .int (nI j)), (4, .int (nI x)), (5, .int (nI y))]) hx hb dX2_rule_177 rfl hl (by decide) rfl (fun ls hl => ?_)
              refine lv_iinc (v := nI (y + 1)) (lv' := [(5, .int (nI (y + 1))), (3, .int (nI (allN S j x + rowN S j x (y + 1)))), (0, .ref o), (1, .int (nI j)), (4, .int (nI x))]) hx hb dX2_rule_178 hl (k := 4) rfl (nI_add y 1) (by decide) rfl (fun ls hl => ?_)
              refine lv_goto (tgt := 147) hx hb dX2_rule_181 (by decide) ?_
              exact ih147 (y + 1) (by omega) H locs ls ⟨⟨by omega, fun q => by omega⟩, hH, hS, lv_sub hl [2, 3, 1, 4, 0] rfl⟩
            · refine lv_iconst (v := nI 1) hx hb dX2_rule_171 (by decide) ?_
              refine lv_goto (tgt := 176) hx hb dX2_rule_172 (by decide) ?_
              refine lv_iadd hx hb dX2_rule_176 ?_
              refine lv_top (y := nI (allN S j x + rowN S j x (y + 1))) (rule_t (hasC_cpl hyy.2 c18)) ?_
              refine lv_istore_n (lv' := [(3, .int (nI (allN S j x + rowN S j x (y + 1)))), (0, .ref o), (1, .int (nI j)), (4, .int (nI x)), (5, .int (nI y))]) hx hb dX2_rule_177 rfl hl (by decide) rfl (fun ls hl => ?_)
              refine lv_iinc (v := nI (y + 1)) (lv' := [(5, .int (nI (y + 1))), (3, .int (nI (allN S j x + rowN S j x (y + 1)))), (0, .ref o), (1, .int (nI j)), (4, .int (nI x))]) hx hb dX2_rule_178 hl (k := 4) rfl (nI_add y 1) (by decide) rfl (fun ls hl => ?_)
              refine lv_goto (tgt := 147) hx hb dX2_rule_181 (by decide) ?_
              exact ih147 (y + 1) (by omega) H locs ls ⟨⟨by omega, fun q => by omega⟩, hH, hS, lv_sub hl [2, 3, 1, 4, 0] rfl⟩
        · refine lv_iconst (v := nI 0) hx hb dX2_rule_137 (by decide) ?_
          refine lv_goto (tgt := 145) hx hb dX2_rule_138 (by decide) ?_
          refine lv_istore (lv' := [(5, .int (nI 0)), (0, .ref o), (1, .int (nI j)), (3, .int (nI (allN S j x))), (4, .int (nI x))]) hx hb dX2_rule_145 hl (by decide) rfl (fun ls hl => ?_)
          refine w_loop1 (fun (y : Nat) => aN S - y) (fun (y : Nat) H locs ls => (y ≤ aN S ∧ (aKd S j ≠ 0 → x < y)) ∧ HP D CL (zA s0) (mset h K wd o I V J) H ∧ va_S (zA s0) s.heap H locs ∧ lv_has ls 6 [(0, .ref o), (1, .int (nI j)), (3, .int (nI (allN S j x + rowN S j x y))), (4, .int (nI x)), (5, .int (nI y))]) ?_ 0 ⟨⟨by omega, fun q => by omega⟩, hH, hS, lv_sub hl [1, 2, 3, 4, 0] rfl⟩
          intro y ih147 H locs ls hP
          obtain ⟨hyy, hH, hS, hl⟩ := hP
          have hrw : rowN S j x y ≤ y := cntN_le _ _
          refine lv_iload hx hb dX2_rule_147 (lv_at hl 4 rfl) ?_
          refine lv_aload_n hx hb dX2_rule_149 rfl (lv_at hl 0 rfl) ?_
          refine m_get hx hb hts hown hK hH 15 (by decide) q1467 rfl (v := .ref (o + 29)) rfl dX2_rule_150 ?_
          refine lv_iconst (v := nI 0) hx hb dX2_rule_153 (by decide) ?_
          refine m_iald (n := 2) (j := 0) (v := nI (aN S)) hx hb hK hH (by decide) rfl (by first | omega | (refine Nat.lt_of_lt_of_le (Nat.mod_lt _ ?_) ?_ <;> omega)) (by decide) (hM.n) dX2_rule_154 ?_
          refine lvN_ge (tgt := 184) hx hb (by first | omega | (refine Nat.lt_of_lt_of_le (Nat.mod_lt _ ?_) ?_ <;> omega)) (by first | omega | (refine Nat.lt_of_lt_of_le (Nat.mod_lt _ ?_) ?_ <;> omega)) dX2_rule_155 (by decide) (fun c19 => ?_) (fun c19 => ?_)
          · have ey : y = aN S := by omega
            rw [ey] at hl
            refine lv_iinc (v := nI (x + 1)) (lv' := [(4, .int (nI (x + 1))), (0, .ref o), (1, .int (nI j)), (3, .int (nI (allN S j x + rowN S j x (aN S)))), (5, .int (nI (aN S)))]) hx hb dX2_rule_184 hl (k := 3) rfl (nI_add x 1) (by decide) rfl (fun ls hl => ?_)
            refine lv_goto (tgt := 115) hx hb dX2_rule_187 (by decide) ?_
            exact ih115 (x + 1) (by omega) H locs ls ⟨by omega, hH, hS, lv_sub hl [1, 2, 3, 0] rfl⟩
          · refine lv_iload_n hx hb dX2_rule_158 rfl (lv_at hl 2 rfl) ?_
            refine lv_aload_n hx hb dX2_rule_159 rfl (lv_at hl 0 rfl) ?_
            refine lv_iload_n hx hb dX2_rule_160 rfl (lv_at hl 1 rfl) ?_
            refine lv_iload hx hb dX2_rule_161 (lv_at hl 3 rfl) ?_
            refine lv_iload hx hb dX2_rule_163 (lv_at hl 4 rfl) ?_
            refine hp_callV (As := [.int (nI j), .int (nI x), .int (nI y)]) (rest := [.int (nI (allN S j x + rowN S j x y))]) hx hb hml hown hts hPB hK hH hS (mt_hasCouple hK0 hO hM (r := j) (x := x) (y := y) (by omega) (by omega) (by omega)) mset_o rfl rfl 3 (lw_V q1764 q1766 qs69 q107 q1767) (by decide +kernel) ⟨rfl, rfl⟩ (by decide) rfl hl.1 rfl (Nat.le_of_ble_eq_true rfl) (by decide) dX2_rule_165 (fun v20 h22 H locs hp21 _ hH hS => ?_)
            obtain ⟨rfl, rfl⟩ := hp21
            refine lvB_eq (tgt := 175) hx hb dX2_rule_168 (by decide) (fun c23 => ?_) (fun c23 => ?_)
            · refine lv_iconst (v := nI 0) hx hb dX2_rule_175 (by decide) ?_
              refine lv_iadd hx hb dX2_rule_176 ?_
              refine lv_top (y := nI (allN S j x + rowN S j x (y + 1))) (rule_f (hasC_cpl hyy.2 c23)) ?_
              refine lv_istore_n (lv' := [(3, .int (nI (allN S j x + rowN S j x (y + 1)))), (0, .ref o), (1, .int (nI j)), (4, .int (nI x)), (5, .int (nI y))]) hx hb dX2_rule_177 rfl hl (by decide) rfl (fun ls hl => ?_)
              refine lv_iinc (v := nI (y + 1)) (lv' := [(5, .int (nI (y + 1))), (3, .int (nI (allN S j x + rowN S j x (y + 1)))), (0, .ref o), (1, .int (nI j)), (4, .int (nI x))]) hx hb dX2_rule_178 hl (k := 4) rfl (nI_add y 1) (by decide) rfl (fun ls hl => ?_)
              refine lv_goto (tgt := 147) hx hb dX2_rule_181 (by decide) ?_
              exact ih147 (y + 1) (by omega) H locs ls ⟨⟨by omega, fun q => by omega⟩, hH, hS, lv_sub hl [2, 3, 1, 4, 0] rfl⟩
            · refine lv_iconst (v := nI 1) hx hb dX2_rule_171 (by decide) ?_
              refine lv_goto (tgt := 176) hx hb dX2_rule_172 (by decide) ?_
              refine lv_iadd hx hb dX2_rule_176 ?_
              refine lv_top (y := nI (allN S j x + rowN S j x (y + 1))) (rule_t (hasC_cpl hyy.2 c23)) ?_
              refine lv_istore_n (lv' := [(3, .int (nI (allN S j x + rowN S j x (y + 1)))), (0, .ref o), (1, .int (nI j)), (4, .int (nI x)), (5, .int (nI y))]) hx hb dX2_rule_177 rfl hl (by decide) rfl (fun ls hl => ?_)
              refine lv_iinc (v := nI (y + 1)) (lv' := [(5, .int (nI (y + 1))), (3, .int (nI (allN S j x + rowN S j x (y + 1)))), (0, .ref o), (1, .int (nI j)), (4, .int (nI x))]) hx hb dX2_rule_178 hl (k := 4) rfl (nI_add y 1) (by decide) rfl (fun ls hl => ?_)
              refine lv_goto (tgt := 147) hx hb dX2_rule_181 (by decide) ?_
              exact ih147 (y + 1) (by omega) H locs ls ⟨⟨by omega, fun q => by omega⟩, hH, hS, lv_sub hl [2, 3, 1, 4, 0] rfl⟩
    by_cases w24 : what = nI 7
    · refine lv_tableIn (tgt := 192) hx hb dX2_rule_11 (by rw [w24]; decide) (by rw [w24]; decide) (by rw [w24]; rfl) (by decide) ?_
      refine lv_aload_n hx hb dX2_rule_192 rfl (lv_at hl 0 rfl) ?_
      refine m_get hx hb hts hown hK hH 19 (by decide) q1471 rfl (v := .ref (o + 33)) rfl dX2_rule_193 ?_
      refine lv_iload_n hx hb dX2_rule_196 rfl (lv_at hl 1 rfl) ?_
      refine m_zald (n := 12) (j := j) (v := zI (aRs S j)) hx hb hK hH (by decide) rfl (by first | omega | (refine Nat.lt_of_lt_of_le (Nat.mod_lt _ ?_) ?_ <;> omega)) (by decide) (hM.rs (by first | omega | (refine Nat.lt_of_lt_of_le (Nat.mod_lt _ ?_) ?_ <;> omega))) dX2_rule_197 ?_
      refine lvB_eq (tgt := 205) hx hb dX2_rule_198 (by decide) (fun c25 => ?_) (fun c25 => ?_)
      · refine lv_iconst (v := nI 0) hx hb dX2_rule_205 (by decide) ?_
        exact hp_iret hx hb hr hlocks hH hS (by decide) (by decide) dX2_rule_206 (⟨congrArg some (congrArg Value.int ((zI_0 c25).trans (Eq.symm (by simp [spRule, nIne, nIn8, nIn9, ej, c4, w24])))), rfl⟩)
      · refine lv_iconst (v := nI 1) hx hb dX2_rule_201 (by decide) ?_
        refine lv_goto (tgt := 206) hx hb dX2_rule_202 (by decide) ?_
        exact hp_iret hx hb hr hlocks hH hS (by decide) (by decide) dX2_rule_206 (⟨congrArg some (congrArg Value.int ((zI_1 c25).trans (Eq.symm (by simp [spRule, nIne, nIn8, nIn9, ej, c4, w24])))), rfl⟩)
    refine lv_tableOut (tgt := 207) hx hb dX2_rule_11 (by have g0 := lv_neT (a := 0) w5 rfl; have g1 := lv_neT (a := 1) w6 rfl; have g2 := lv_neT (a := 2) w7 rfl; have g3 := lv_neT (a := 3) w8 rfl; have g4 := lv_neT (a := 4) w9 rfl; have g5 := lv_neT (a := 5) w10 rfl; have g6 := lv_neT (a := 6) w11 rfl; have g7 := lv_neT (a := 7) w24 rfl; omega) (by decide) ?_
    refine lv_iconst (v := (-1)) hx hb dX2_rule_207 (by decide) ?_
    exact hp_iret hx hb hr hlocks hH hS (by decide) (by decide) dX2_rule_208 (⟨congrArg some (congrArg Value.int (by simp [spRule, nIne, nIn8, nIn9, ej, c4, w5, w6, w7, w8, w9, w10, w11, w24])), rfl⟩)
  · refine lv_iconst (v := (-1)) hx hb dX2_rule_8 (by decide) ?_
    exact hp_iret hx hb hr hlocks hH hS (by decide) (by decide) dX2_rule_9 (⟨congrArg some (congrArg Value.int (by simp [spRule, nIne, nIn8, nIn9, c4])), rfl⟩)
set_option maxHeartbeats 4000000 in
theorem mt_rest (hK0 : va_K D CL (TYS K) s0) {S : Ab} (hO : SOK S) (hM : MOK S I V) (r : Int32) (b : Bool) : Met l yX2_rest (ws_ yX2_rest cX2_rest 3 ((Option.some Jvm.ClassFile.FieldType.boolean))) (rmk 2 0 0) (va_Pc [.ref o, .int r, .int (zI b)] (PB s0 D CL (mset h K wd o I V J))) (QR s0 D CL (fun v h1 => v = some (.int (zI (okRest S r b))) ∧ ∃ V', h1 = mset h K wd o I V' J ∧ MOK (stRest S r b) I V')) 0 0 (zA s0) := by
  refine hp_met (by decide) (Nat.le_of_ble_eq_true rfl) hK0 ?_
  intro p e s m below meth cd ls hx hb hr hlocks hml hown hnm hts hK hPB hl hS hH hA
  have hl : lv_has ls 3 [(0, .ref o), (1, .int r), (2, .int (zI b))] := hl
  have hown : s.vm.findClass RX2 = some m.cls := hown
  have hn := hO.n
  have hmk := hO.mk
  have hrl := hO.rl
  have hrm := hO.rm
  have hsz := hO.sz
  refine lv_aload_n hx hb dX2_rest_0 rfl (lv_at hl 0 rfl) ?_
  refine lv_iload_n hx hb dX2_rest_1 rfl (lv_at hl 1 rfl) ?_
  refine hp_callV (As := [.int r]) (rest := []) hx hb hml hown hts hPB hK hH hS (mt_isRule hK0 hO hM r) mset_o rfl rfl 1 (lw_V q1760 q1762 qs68 q107 q1763) (by decide +kernel) ⟨rfl, rfl⟩ (by decide) rfl hl.1 rfl (Nat.le_of_ble_eq_true rfl) (by decide) dX2_rest_2 (fun v1 h3 H locs hp2 _ hH hS => ?_)
  obtain ⟨rfl, rfl⟩ := hp2
  refine lvB_eq (tgt := 18) hx hb dX2_rest_5 (by decide) (fun c4 => ?_) (fun c4 => ?_)
  · refine lv_iconst (v := nI 0) hx hb dX2_rest_18 (by decide) ?_
    exact hp_zret hx hb hr rfl hlocks hH hS (by decide) (by decide) dX2_rest_19 (⟨congrArg some (congrArg Value.int (zI_0 (by simp [okRest, c4]))), _, rfl, by rw [show stRest S r b = _ from if_neg (Bool.not_eq_true _ ▸ (by simp [okRest, c4] : okRest S r b = false))]; exact hM⟩)
  · obtain ⟨j, hj, rfl⟩ := inN_t c4
    have ej := nI_clamp (show j < 2 ^ 31 by omega)
    refine lv_aload_n hx hb dX2_rest_8 rfl (lv_at hl 0 rfl) ?_
    refine m_get hx hb hts hown hK hH 19 (by decide) q1471 rfl (v := .ref (o + 33)) rfl dX2_rest_9 ?_
    refine lv_iload_n hx hb dX2_rest_12 rfl (lv_at hl 1 rfl) ?_
    refine m_zald (n := 12) (j := j) (v := zI (aRs S j)) hx hb hK hH (by decide) rfl (by first | omega | (refine Nat.lt_of_lt_of_le (Nat.mod_lt _ ?_) ?_ <;> omega)) (by decide) (hM.rs (by first | omega | (refine Nat.lt_of_lt_of_le (Nat.mod_lt _ ?_) ?_ <;> omega))) dX2_rest_13 ?_
    refine lv_iload_n hx hb dX2_rest_14 rfl (lv_at hl 2 rfl) ?_
    refine lv_icmp_ne (tgt := 20) hx hb dX2_rest_15 (by decide) (fun c5 => ?_) (fun c5 => ?_)
    · have c5 : ¬ (aRs S j) = b := fun q => c5 (zI_inj.mpr q)
      refine lv_aload_n hx hb dX2_rest_20 rfl (lv_at hl 0 rfl) ?_
      refine m_get hx hb hts hown hK hH 19 (by decide) q1471 rfl (v := .ref (o + 33)) rfl dX2_rest_21 ?_
      refine lv_iload_n hx hb dX2_rest_24 rfl (lv_at hl 1 rfl) ?_
      refine lv_iload_n hx hb dX2_rest_25 rfl (lv_at hl 2 rfl) ?_
      refine m_zast (n := 12) (j := j) (x' := zI b) hx hb hK hH hS (by decide) rfl (by first | omega | (refine Nat.lt_of_lt_of_le (Nat.mod_lt _ ?_) ?_ <;> omega)) (by decide) (zI_vnar _) dX2_rest_26 (fun H locs hH hS => ?_)
      refine lv_iconst (v := nI 1) hx hb dX2_rest_27 (by decide) ?_
      exact hp_zret hx hb hr rfl hlocks hH hS (by decide) (by decide) dX2_rest_28 (⟨congrArg some (congrArg Value.int (zI_1 (by simp [okRest, ej, c4, c5]))), _, rfl, by rw [show stRest S (nI j) b = _ from if_pos (by simp [okRest, ej, c4, c5])]; exact ej.symm ▸ hM.sRs j b⟩)
    · have c5 : (aRs S j) = b := zI_inj.mp c5
      refine lv_iconst (v := nI 0) hx hb dX2_rest_18 (by decide) ?_
      exact hp_zret hx hb hr rfl hlocks hH hS (by decide) (by decide) dX2_rest_19 (⟨congrArg some (congrArg Value.int (zI_0 (by simp [okRest, ej, c4, c5]))), _, rfl, by rw [show stRest S (nI j) b = _ from if_neg (Bool.not_eq_true _ ▸ (by simp [okRest, ej, c4, c5] : okRest S (nI j) b = false))]; exact hM⟩)
set_option maxHeartbeats 4000000 in
theorem mt_comes (hK0 : va_K D CL (TYS K) s0) {S : Ab} (hO : SOK S) (hM : MOK S I V) (g : Int32) (b : Bool) : Met l yX2_comes (ws_ yX2_comes cX2_comes 3 ((Option.some Jvm.ClassFile.FieldType.boolean))) (rmk 2 0 0) (va_Pc [.ref o, .int g, .int (zI b)] (PB s0 D CL (mset h K wd o I V J))) (QR s0 D CL (fun v h1 => v = some (.int (zI (okComes S g b))) ∧ ∃ V', h1 = mset h K wd o I V' J ∧ MOK (stComes S g b) I V')) 0 0 (zA s0) := by
  refine hp_met (by decide) (Nat.le_of_ble_eq_true rfl) hK0 ?_
  intro p e s m below meth cd ls hx hb hr hlocks hml hown hnm hts hK hPB hl hS hH hA
  have hl : lv_has ls 3 [(0, .ref o), (1, .int g), (2, .int (zI b))] := hl
  have hown : s.vm.findClass RX2 = some m.cls := hown
  have hn := hO.n
  have hmk := hO.mk
  have hrl := hO.rl
  have hrm := hO.rm
  have hsz := hO.sz
  refine lv_aload_n hx hb dX2_comes_0 rfl (lv_at hl 0 rfl) ?_
  refine lv_iload_n hx hb dX2_comes_1 rfl (lv_at hl 1 rfl) ?_
  refine hp_callV (As := [.int g]) (rest := []) hx hb hml hown hts hPB hK hH hS (mt_isGuest hK0 hO hM g) mset_o rfl rfl 1 (lw_V q1748 q1750 qs66 q107 q1751) (by decide +kernel) ⟨rfl, rfl⟩ (by decide) rfl hl.1 rfl (Nat.le_of_ble_eq_true rfl) (by decide) dX2_comes_2 (fun v1 h3 H locs hp2 _ hH hS => ?_)
  obtain ⟨rfl, rfl⟩ := hp2
  refine lvB_eq (tgt := 18) hx hb dX2_comes_5 (by decide) (fun c4 => ?_) (fun c4 => ?_)
  · refine lv_iconst (v := nI 0) hx hb dX2_comes_18 (by decide) ?_
    exact hp_zret hx hb hr rfl hlocks hH hS (by decide) (by decide) dX2_comes_19 (⟨congrArg some (congrArg Value.int (zI_0 (by simp [okComes, c4]))), _, rfl, by rw [show stComes S g b = _ from if_neg (Bool.not_eq_true _ ▸ (by simp [okComes, c4] : okComes S g b = false))]; exact hM⟩)
  · obtain ⟨j, hj, rfl⟩ := inN_t c4
    have ej := nI_clamp (show j < 2 ^ 31 by omega)
    refine lv_aload_n hx hb dX2_comes_8 rfl (lv_at hl 0 rfl) ?_
    refine m_get hx hb hts hown hK hH 20 (by decide) q1472 rfl (v := .ref (o + 34)) rfl dX2_comes_9 ?_
    refine lv_iload_n hx hb dX2_comes_12 rfl (lv_at hl 1 rfl) ?_
    refine m_zald (n := 10) (j := j) (v := zI (aCm S j)) hx hb hK hH (by decide) rfl (by first | omega | (refine Nat.lt_of_lt_of_le (Nat.mod_lt _ ?_) ?_ <;> omega)) (by decide) (hM.cm (by first | omega | (refine Nat.lt_of_lt_of_le (Nat.mod_lt _ ?_) ?_ <;> omega))) dX2_comes_13 ?_
    refine lv_iload_n hx hb dX2_comes_14 rfl (lv_at hl 2 rfl) ?_
    refine lv_icmp_ne (tgt := 20) hx hb dX2_comes_15 (by decide) (fun c5 => ?_) (fun c5 => ?_)
    · have c5 : ¬ (aCm S j) = b := fun q => c5 (zI_inj.mpr q)
      refine lv_aload_n hx hb dX2_comes_20 rfl (lv_at hl 0 rfl) ?_
      refine m_get hx hb hts hown hK hH 20 (by decide) q1472 rfl (v := .ref (o + 34)) rfl dX2_comes_21 ?_
      refine lv_iload_n hx hb dX2_comes_24 rfl (lv_at hl 1 rfl) ?_
      refine lv_iload_n hx hb dX2_comes_25 rfl (lv_at hl 2 rfl) ?_
      refine m_zast (n := 10) (j := j) (x' := zI b) hx hb hK hH hS (by decide) rfl (by first | omega | (refine Nat.lt_of_lt_of_le (Nat.mod_lt _ ?_) ?_ <;> omega)) (by decide) (zI_vnar _) dX2_comes_26 (fun H locs hH hS => ?_)
      refine lv_aload_n hx hb dX2_comes_27 rfl (lv_at hl 0 rfl) ?_
      refine m_get hx hb hts hown hK hH 21 (by decide) q1473 rfl (v := .ref (o + 35)) rfl dX2_comes_28 ?_
      refine lv_iload_n hx hb dX2_comes_31 rfl (lv_at hl 1 rfl) ?_
      refine lv_iconst (v := nI 0) hx hb dX2_comes_32 (by decide) ?_
      refine m_zast (n := 10) (j := j) (x' := zI false) hx hb hK hH hS (by decide) rfl (by first | omega | (refine Nat.lt_of_lt_of_le (Nat.mod_lt _ ?_) ?_ <;> omega)) (by decide) rfl dX2_comes_33 (fun H locs hH hS => ?_)
      refine lv_aload_n hx hb dX2_comes_34 rfl (lv_at hl 0 rfl) ?_
      refine m_get hx hb hts hown hK hH 22 (by decide) q1474 rfl (v := .ref (o + 36)) rfl dX2_comes_35 ?_
      refine lv_iload_n hx hb dX2_comes_38 rfl (lv_at hl 1 rfl) ?_
      refine lv_iconst (v := (-1)) hx hb dX2_comes_39 (by decide) ?_
      refine m_iast (n := 10) (j := j) hx hb hK hH hS (by decide) rfl (by first | omega | (refine Nat.lt_of_lt_of_le (Nat.mod_lt _ ?_) ?_ <;> omega)) (by decide) dX2_comes_40 (fun H locs hH hS => ?_)
      refine lv_aload_n hx hb dX2_comes_41 rfl (lv_at hl 0 rfl) ?_
      refine m_get hx hb hts hown hK hH 23 (by decide) q1475 rfl (v := .ref (o + 37)) rfl dX2_comes_42 ?_
      refine lv_iload_n hx hb dX2_comes_45 rfl (lv_at hl 1 rfl) ?_
      refine lv_iconst (v := (-1)) hx hb dX2_comes_46 (by decide) ?_
      refine m_iast (n := 10) (j := j) hx hb hK hH hS (by decide) rfl (by first | omega | (refine Nat.lt_of_lt_of_le (Nat.mod_lt _ ?_) ?_ <;> omega)) (by decide) dX2_comes_47 (fun H locs hH hS => ?_)
      refine lv_iconst (v := nI 1) hx hb dX2_comes_48 (by decide) ?_
      exact hp_zret hx hb hr rfl hlocks hH hS (by decide) (by decide) dX2_comes_49 (⟨congrArg some (congrArg Value.int (zI_1 (by simp [okComes, ej, c4, c5]))), _, rfl, by rw [show stComes S (nI j) b = _ from if_pos (by simp [okComes, ej, c4, c5])]; exact ej.symm ▸ (((hM.sCm j b).sSi j false).sIr j (-1)).sIp j (-1)⟩)
    · have c5 : (aCm S j) = b := zI_inj.mp c5
      refine lv_iconst (v := nI 0) hx hb dX2_comes_18 (by decide) ?_
      exact hp_zret hx hb hr rfl hlocks hH hS (by decide) (by decide) dX2_comes_19 (⟨congrArg some (congrArg Value.int (zI_0 (by simp [okComes, ej, c4, c5]))), _, rfl, by rw [show stComes S (nI j) b = _ from if_neg (Bool.not_eq_true _ ▸ (by simp [okComes, ej, c4, c5] : okComes S (nI j) b = false))]; exact hM⟩)
set_option maxHeartbeats 4000000 in
theorem mt_leave (hK0 : va_K D CL (TYS K) s0) {S : Ab} (hO : SOK S) (hM : MOK S I V) (g : Int32) : Met l yX2_leave (ws_ yX2_leave cX2_leave 2 ((Option.some Jvm.ClassFile.FieldType.boolean))) (rmk 2 0 0) (va_Pc [.ref o, .int g] (PB s0 D CL (mset h K wd o I V J))) (QR s0 D CL (fun v h1 => v = some (.int (zI (okLeave S g))) ∧ ∃ V', h1 = mset h K wd o I V' J ∧ MOK (stLeave S g) I V')) 0 0 (zA s0) := by
  refine hp_met (by decide) (Nat.le_of_ble_eq_true rfl) hK0 ?_
  intro p e s m below meth cd ls hx hb hr hlocks hml hown hnm hts hK hPB hl hS hH hA
  have hl : lv_has ls 2 [(0, .ref o), (1, .int g)] := hl
  have hown : s.vm.findClass RX2 = some m.cls := hown
  have hn := hO.n
  have hmk := hO.mk
  have hrl := hO.rl
  have hrm := hO.rm
  have hsz := hO.sz
  refine lv_aload_n hx hb dX2_leave_0 rfl (lv_at hl 0 rfl) ?_
  refine lv_iload_n hx hb dX2_leave_1 rfl (lv_at hl 1 rfl) ?_
  refine hp_callV (As := [.int g]) (rest := []) hx hb hml hown hts hPB hK hH hS (mt_isGuest hK0 hO hM g) mset_o rfl rfl 1 (lw_V q1748 q1750 qs66 q107 q1751) (by decide +kernel) ⟨rfl, rfl⟩ (by decide) rfl hl.1 rfl (Nat.le_of_ble_eq_true rfl) (by decide) dX2_leave_2 (fun v1 h3 H locs hp2 _ hH hS => ?_)
  obtain ⟨rfl, rfl⟩ := hp2
  refine lvB_eq (tgt := 27) hx hb dX2_leave_5 (by decide) (fun c4 => ?_) (fun c4 => ?_)
  · refine lv_iconst (v := nI 0) hx hb dX2_leave_27 (by decide) ?_
    exact hp_zret hx hb hr rfl hlocks hH hS (by decide) (by decide) dX2_leave_28 (⟨congrArg some (congrArg Value.int (zI_0 (by simp [okLeave, c4]))), _, rfl, by rw [show stLeave S g = _ from if_neg (Bool.not_eq_true _ ▸ (by simp [okLeave, c4] : okLeave S g = false))]; exact hM⟩)
  · obtain ⟨j, hj, rfl⟩ := inN_t c4
    have ej := nI_clamp (show j < 2 ^ 31 by omega)
    refine lv_aload_n hx hb dX2_leave_8 rfl (lv_at hl 0 rfl) ?_
    refine m_get hx hb hts hown hK hH 22 (by decide) q1474 rfl (v := .ref (o + 36)) rfl dX2_leave_9 ?_
    refine lv_iload_n hx hb dX2_leave_12 rfl (lv_at hl 1 rfl) ?_
    refine m_iald (n := 10) (j := j) (v := aIr S j) hx hb hK hH (by decide) rfl (by first | omega | (refine Nat.lt_of_lt_of_le (Nat.mod_lt _ ?_) ?_ <;> omega)) (by decide) (hM.ir (by first | omega | (refine Nat.lt_of_lt_of_le (Nat.mod_lt _ ?_) ?_ <;> omega))) dX2_leave_13 ?_
    refine lv_iconst (v := (-1)) hx hb dX2_leave_14 (by decide) ?_
    refine lv_icmp_eq (tgt := 27) hx hb dX2_leave_15 (by decide) (fun c5 => ?_) (fun c5 => ?_)
    · refine lv_iconst (v := nI 0) hx hb dX2_leave_27 (by decide) ?_
      exact hp_zret hx hb hr rfl hlocks hH hS (by decide) (by decide) dX2_leave_28 (⟨congrArg some (congrArg Value.int (zI_0 (by simp [okLeave, ej, c4, c5]))), _, rfl, by rw [show stLeave S (nI j) = _ from if_neg (Bool.not_eq_true _ ▸ (by simp [okLeave, ej, c4, c5] : okLeave S (nI j) = false))]; exact hM⟩)
    · refine lv_aload_n hx hb dX2_leave_18 rfl (lv_at hl 0 rfl) ?_
      refine m_get hx hb hts hown hK hH 21 (by decide) q1473 rfl (v := .ref (o + 35)) rfl dX2_leave_19 ?_
      refine lv_iload_n hx hb dX2_leave_22 rfl (lv_at hl 1 rfl) ?_
      refine m_zald (n := 10) (j := j) (v := zI (aSi S j)) hx hb hK hH (by decide) rfl (by first | omega | (refine Nat.lt_of_lt_of_le (Nat.mod_lt _ ?_) ?_ <;> omega)) (by decide) (hM.si (by first | omega | (refine Nat.lt_of_lt_of_le (Nat.mod_lt _ ?_) ?_ <;> omega))) dX2_leave_23 ?_
      refine lvB_eq (tgt := 29) hx hb dX2_leave_24 (by decide) (fun c6 => ?_) (fun c6 => ?_)
      · refine lv_aload_n hx hb dX2_leave_29 rfl (lv_at hl 0 rfl) ?_
        refine m_get hx hb hts hown hK hH 22 (by decide) q1474 rfl (v := .ref (o + 36)) rfl dX2_leave_30 ?_
        refine lv_iload_n hx hb dX2_leave_33 rfl (lv_at hl 1 rfl) ?_
        refine lv_iconst (v := (-1)) hx hb dX2_leave_34 (by decide) ?_
        refine m_iast (n := 10) (j := j) hx hb hK hH hS (by decide) rfl (by first | omega | (refine Nat.lt_of_lt_of_le (Nat.mod_lt _ ?_) ?_ <;> omega)) (by decide) dX2_leave_35 (fun H locs hH hS => ?_)
        refine lv_aload_n hx hb dX2_leave_36 rfl (lv_at hl 0 rfl) ?_
        refine m_get hx hb hts hown hK hH 23 (by decide) q1475 rfl (v := .ref (o + 37)) rfl dX2_leave_37 ?_
        refine lv_iload_n hx hb dX2_leave_40 rfl (lv_at hl 1 rfl) ?_
        refine lv_iconst (v := (-1)) hx hb dX2_leave_41 (by decide) ?_
        refine m_iast (n := 10) (j := j) hx hb hK hH hS (by decide) rfl (by first | omega | (refine Nat.lt_of_lt_of_le (Nat.mod_lt _ ?_) ?_ <;> omega)) (by decide) dX2_leave_42 (fun H locs hH hS => ?_)
        refine lv_iconst (v := nI 1) hx hb dX2_leave_43 (by decide) ?_
        exact hp_zret hx hb hr rfl hlocks hH hS (by decide) (by decide) dX2_leave_44 (⟨congrArg some (congrArg Value.int (zI_1 (by simp [okLeave, ej, c4, c5, c6]))), _, rfl, by rw [show stLeave S (nI j) = _ from if_pos (by simp [okLeave, ej, c4, c5, c6])]; exact ej.symm ▸ (hM.sIr j (-1)).sIp j (-1)⟩)
      · refine lv_iconst (v := nI 0) hx hb dX2_leave_27 (by decide) ?_
        exact hp_zret hx hb hr rfl hlocks hH hS (by decide) (by decide) dX2_leave_28 (⟨congrArg some (congrArg Value.int (zI_0 (by simp [okLeave, ej, c4, c5, c6]))), _, rfl, by rw [show stLeave S (nI j) = _ from if_neg (Bool.not_eq_true _ ▸ (by simp [okLeave, ej, c4, c5, c6] : okLeave S (nI j) = false))]; exact hM⟩)
set_option maxHeartbeats 4000000 in
theorem mt_sits (hK0 : va_K D CL (TYS K) s0) {S : Ab} (hO : SOK S) (hM : MOK S I V) (g : Int32) (b : Bool) : Met l yX2_sits (ws_ yX2_sits cX2_sits 3 ((Option.some Jvm.ClassFile.FieldType.boolean))) (rmk 2 0 0) (va_Pc [.ref o, .int g, .int (zI b)] (PB s0 D CL (mset h K wd o I V J))) (QR s0 D CL (fun v h1 => v = some (.int (zI (okSits S g b))) ∧ ∃ V', h1 = mset h K wd o I V' J ∧ MOK (stSits S g b) I V')) 0 0 (zA s0) := by
  refine hp_met (by decide) (Nat.le_of_ble_eq_true rfl) hK0 ?_
  intro p e s m below meth cd ls hx hb hr hlocks hml hown hnm hts hK hPB hl hS hH hA
  have hl : lv_has ls 3 [(0, .ref o), (1, .int g), (2, .int (zI b))] := hl
  have hown : s.vm.findClass RX2 = some m.cls := hown
  have hn := hO.n
  have hmk := hO.mk
  have hrl := hO.rl
  have hrm := hO.rm
  have hsz := hO.sz
  refine lv_aload_n hx hb dX2_sits_0 rfl (lv_at hl 0 rfl) ?_
  refine lv_iload_n hx hb dX2_sits_1 rfl (lv_at hl 1 rfl) ?_
  refine hp_callV (As := [.int g]) (rest := []) hx hb hml hown hts hPB hK hH hS (mt_isGuest hK0 hO hM g) mset_o rfl rfl 1 (lw_V q1748 q1750 qs66 q107 q1751) (by decide +kernel) ⟨rfl, rfl⟩ (by decide) rfl hl.1 rfl (Nat.le_of_ble_eq_true rfl) (by decide) dX2_sits_2 (fun v1 h3 H locs hp2 _ hH hS => ?_)
  obtain ⟨rfl, rfl⟩ := hp2
  refine lvB_eq (tgt := 28) hx hb dX2_sits_5 (by decide) (fun c4 => ?_) (fun c4 => ?_)
  · refine lv_iconst (v := nI 0) hx hb dX2_sits_28 (by decide) ?_
    exact hp_zret hx hb hr rfl hlocks hH hS (by decide) (by decide) dX2_sits_29 (⟨congrArg some (congrArg Value.int (zI_0 (by simp [okSits, c4]))), _, rfl, by rw [show stSits S g b = _ from if_neg (Bool.not_eq_true _ ▸ (by simp [okSits, c4] : okSits S g b = false))]; exact hM⟩)
  · obtain ⟨j, hj, rfl⟩ := inN_t c4
    have ej := nI_clamp (show j < 2 ^ 31 by omega)
    refine lv_aload_n hx hb dX2_sits_8 rfl (lv_at hl 0 rfl) ?_
    refine m_get hx hb hts hown hK hH 22 (by decide) q1474 rfl (v := .ref (o + 36)) rfl dX2_sits_9 ?_
    refine lv_iload_n hx hb dX2_sits_12 rfl (lv_at hl 1 rfl) ?_
    refine m_iald (n := 10) (j := j) (v := aIr S j) hx hb hK hH (by decide) rfl (by first | omega | (refine Nat.lt_of_lt_of_le (Nat.mod_lt _ ?_) ?_ <;> omega)) (by decide) (hM.ir (by first | omega | (refine Nat.lt_of_lt_of_le (Nat.mod_lt _ ?_) ?_ <;> omega))) dX2_sits_13 ?_
    refine lv_iconst (v := (-1)) hx hb dX2_sits_14 (by decide) ?_
    refine lv_icmp_eq (tgt := 28) hx hb dX2_sits_15 (by decide) (fun c5 => ?_) (fun c5 => ?_)
    · refine lv_iconst (v := nI 0) hx hb dX2_sits_28 (by decide) ?_
      exact hp_zret hx hb hr rfl hlocks hH hS (by decide) (by decide) dX2_sits_29 (⟨congrArg some (congrArg Value.int (zI_0 (by simp [okSits, ej, c4, c5]))), _, rfl, by rw [show stSits S (nI j) b = _ from if_neg (Bool.not_eq_true _ ▸ (by simp [okSits, ej, c4, c5] : okSits S (nI j) b = false))]; exact hM⟩)
    · refine lv_aload_n hx hb dX2_sits_18 rfl (lv_at hl 0 rfl) ?_
      refine m_get hx hb hts hown hK hH 21 (by decide) q1473 rfl (v := .ref (o + 35)) rfl dX2_sits_19 ?_
      refine lv_iload_n hx hb dX2_sits_22 rfl (lv_at hl 1 rfl) ?_
      refine m_zald (n := 10) (j := j) (v := zI (aSi S j)) hx hb hK hH (by decide) rfl (by first | omega | (refine Nat.lt_of_lt_of_le (Nat.mod_lt _ ?_) ?_ <;> omega)) (by decide) (hM.si (by first | omega | (refine Nat.lt_of_lt_of_le (Nat.mod_lt _ ?_) ?_ <;> omega))) dX2_sits_23 ?_
      refine lv_iload_n hx hb dX2_sits_24 rfl (lv_at hl 2 rfl) ?_
      refine lv_icmp_ne (tgt := 30) hx hb dX2_sits_25 (by decide) (fun c6 => ?_) (fun c6 => ?_)
      · have c6 : ¬ (aSi S j) = b := fun q => c6 (zI_inj.mpr q)
        refine lv_aload_n hx hb dX2_sits_30 rfl (lv_at hl 0 rfl) ?_
        refine m_get hx hb hts hown hK hH 21 (by decide) q1473 rfl (v := .ref (o + 35)) rfl dX2_sits_31 ?_
        refine lv_iload_n hx hb dX2_sits_34 rfl (lv_at hl 1 rfl) ?_
        refine lv_iload_n hx hb dX2_sits_35 rfl (lv_at hl 2 rfl) ?_
        refine m_zast (n := 10) (j := j) (x' := zI b) hx hb hK hH hS (by decide) rfl (by first | omega | (refine Nat.lt_of_lt_of_le (Nat.mod_lt _ ?_) ?_ <;> omega)) (by decide) (zI_vnar _) dX2_sits_36 (fun H locs hH hS => ?_)
        refine lv_iconst (v := nI 1) hx hb dX2_sits_37 (by decide) ?_
        exact hp_zret hx hb hr rfl hlocks hH hS (by decide) (by decide) dX2_sits_38 (⟨congrArg some (congrArg Value.int (zI_1 (by simp [okSits, ej, c4, c5, c6]))), _, rfl, by rw [show stSits S (nI j) b = _ from if_pos (by simp [okSits, ej, c4, c5, c6])]; exact ej.symm ▸ hM.sSi j b⟩)
      · have c6 : (aSi S j) = b := zI_inj.mp c6
        refine lv_iconst (v := nI 0) hx hb dX2_sits_28 (by decide) ?_
        exact hp_zret hx hb hr rfl hlocks hH hS (by decide) (by decide) dX2_sits_29 (⟨congrArg some (congrArg Value.int (zI_0 (by simp [okSits, ej, c4, c5, c6]))), _, rfl, by rw [show stSits S (nI j) b = _ from if_neg (Bool.not_eq_true _ ▸ (by simp [okSits, ej, c4, c5, c6] : okSits S (nI j) b = false))]; exact hM⟩)
set_option maxHeartbeats 4000000 in
theorem mt_higher (hK0 : va_K D CL (TYS K) s0) {S : Ab} (hO : SOK S) (hM : MOK S I V) (room course pa pb : Int32) : Met l yX2_higher (ws_ yX2_higher cX2_higher 5 ((Option.some Jvm.ClassFile.FieldType.int))) (rmk 2 0 0) (va_Pc [.ref o, .int room, .int course, .int pa, .int pb] (PB s0 D CL (mset h K wd o I V J))) (QR s0 D CL (fun v h1 => v = some (.int (spHigher S room course pa pb)) ∧ h1 = mset h K wd o I V J)) 0 0 (zA s0) := by
  refine hp_met (by decide) (Nat.le_of_ble_eq_true rfl) hK0 ?_
  intro p e s m below meth cd ls hx hb hr hlocks hml hown hnm hts hK hPB hl hS hH hA
  have hl : lv_has ls 5 [(0, .ref o), (1, .int room), (2, .int course), (3, .int pa), (4, .int pb)] := hl
  have hown : s.vm.findClass RX2 = some m.cls := hown
  have hn := hO.n
  have hmk := hO.mk
  have hrl := hO.rl
  have hrm := hO.rm
  have hsz := hO.sz
  refine lv_aload_n hx hb dX2_higher_0 rfl (lv_at hl 0 rfl) ?_
  refine lv_iload_n hx hb dX2_higher_1 rfl (lv_at hl 1 rfl) ?_
  refine hp_callV (As := [.int room]) (rest := []) hx hb hml hown hts hPB hK hH hS (mt_isRoom hK0 hO hM room) mset_o rfl rfl 1 (lw_V q1788 q1790 qs72 q107 q1791) (by decide +kernel) ⟨rfl, rfl⟩ (by decide) rfl hl.1 rfl (Nat.le_of_ble_eq_true rfl) (by decide) dX2_higher_2 (fun v1 h3 H locs hp2 _ hH hS => ?_)
  obtain ⟨rfl, rfl⟩ := hp2
  refine lvB_eq (tgt := 53) hx hb dX2_higher_5 (by decide) (fun c4 => ?_) (fun c4 => ?_)
  · refine lv_iconst (v := (-1)) hx hb dX2_higher_53 (by decide) ?_
    exact hp_iret hx hb hr hlocks hH hS (by decide) (by decide) dX2_higher_54 (⟨congrArg some (congrArg Value.int (by simp [spHigher, c4])), rfl⟩)
  · obtain ⟨j, hj, rfl⟩ := inN_t c4
    have ej := nI_clamp (show j < 2 ^ 31 by omega)
    have hrp := hO.rp hj
    refine lv_aload_n hx hb dX2_higher_8 rfl (lv_at hl 0 rfl) ?_
    refine lv_iload_n hx hb dX2_higher_9 rfl (lv_at hl 2 rfl) ?_
    refine hp_callV (As := [.int course]) (rest := []) hx hb hml hown hts hPB hK hH hS (mt_isCourse hK0 hO hM course) mset_o rfl rfl 1 (lw_V q1804 q1806 qs73 q107 q1807) (by decide +kernel) ⟨rfl, rfl⟩ (by decide) rfl hl.1 rfl (Nat.le_of_ble_eq_true rfl) (by decide) dX2_higher_10 (fun v5 h7 H locs hp6 _ hH hS => ?_)
    obtain ⟨rfl, rfl⟩ := hp6
    refine lvB_eq (tgt := 53) hx hb dX2_higher_13 (by decide) (fun c8 => ?_) (fun c8 => ?_)
    · refine lv_iconst (v := (-1)) hx hb dX2_higher_53 (by decide) ?_
      exact hp_iret hx hb hr hlocks hH hS (by decide) (by decide) dX2_higher_54 (⟨congrArg some (congrArg Value.int (by simp [spHigher, ej, c4, c8])), rfl⟩)
    · obtain ⟨k, hk, rfl⟩ := inN_t c8
      have ek := nI_clamp (show k < 2 ^ 31 by omega)
      refine lv_iload_n hx hb dX2_higher_16 rfl (lv_at hl 3 rfl) ?_
      refine lv_i2l hx hb dX2_higher_17 rfl ?_
      refine lv_lconst (v := 0) hx hb dX2_higher_18 rfl ?_
      refine lv_aload_n hx hb dX2_higher_19 rfl (lv_at hl 0 rfl) ?_
      refine m_get hx hb hts hown hK hH 25 (by decide) q1477 rfl (v := .ref (o + 39)) rfl dX2_higher_20 ?_
      refine lv_iload_n hx hb dX2_higher_23 rfl (lv_at hl 1 rfl) ?_
      refine m_iald (n := 4) (j := j) (v := nI (aRp S j)) hx hb hK hH (by decide) rfl (by first | omega | (refine Nat.lt_of_lt_of_le (Nat.mod_lt _ ?_) ?_ <;> omega)) (by decide) (hM.rp (by first | omega | (refine Nat.lt_of_lt_of_le (Nat.mod_lt _ ?_) ?_ <;> omega))) dX2_higher_24 ?_
      refine lv_iconst (v := nI 1) hx hb dX2_higher_25 (by decide) ?_
      refine lv_isub hx hb dX2_higher_26 ?_
      refine lv_i2l hx hb dX2_higher_27 rfl ?_
      refine hp_callS (As := [.long (Int32.toInt64 pa), .long 0, .long (Int32.toInt64 ((nI (aRp S j)) - (nI 1)))]) (rest := []) hx hb hml hown hts hPB hH hS (mt_in hK0 (Int32.toInt64 pa) 0 (Int32.toInt64 ((nI (aRp S j)) - (nI 1)))) 3 (lw_S q1658 q1659 q107 q1660) (by decide +kernel) ⟨rfl, rfl⟩ (by decide) rfl hl.1 rfl (Nat.le_of_ble_eq_true rfl) (by decide) dX2_higher_28 (fun v9 h11 H locs hp10 _ hH hS => ?_)
      obtain ⟨rfl, rfl⟩ := hp10
      refine lvB_eq (tgt := 53) hx hb dX2_higher_31 (by decide) (fun c12 => ?_) (fun c12 => ?_)
      · rw [in_n (by omega)] at c12
        refine lv_iconst (v := (-1)) hx hb dX2_higher_53 (by decide) ?_
        exact hp_iret hx hb hr hlocks hH hS (by decide) (by decide) dX2_higher_54 (⟨congrArg some (congrArg Value.int (by simp [spHigher, ej, ek, c4, c8, c12])), rfl⟩)
      · rw [in_n (by omega)] at c12
        obtain ⟨u, hu, rfl⟩ := inN_t c12
        have eu := nI_clamp (show u < 2 ^ 31 by omega)
        refine lv_iload hx hb dX2_higher_34 (lv_at hl 4 rfl) ?_
        refine lv_i2l hx hb dX2_higher_36 rfl ?_
        refine lv_lconst (v := 0) hx hb dX2_higher_37 rfl ?_
        refine lv_aload_n hx hb dX2_higher_38 rfl (lv_at hl 0 rfl) ?_
        refine m_get hx hb hts hown hK hH 25 (by decide) q1477 rfl (v := .ref (o + 39)) rfl dX2_higher_39 ?_
        refine lv_iload_n hx hb dX2_higher_42 rfl (lv_at hl 1 rfl) ?_
        refine m_iald (n := 4) (j := j) (v := nI (aRp S j)) hx hb hK hH (by decide) rfl (by first | omega | (refine Nat.lt_of_lt_of_le (Nat.mod_lt _ ?_) ?_ <;> omega)) (by decide) (hM.rp (by first | omega | (refine Nat.lt_of_lt_of_le (Nat.mod_lt _ ?_) ?_ <;> omega))) dX2_higher_43 ?_
        refine lv_iconst (v := nI 1) hx hb dX2_higher_44 (by decide) ?_
        refine lv_isub hx hb dX2_higher_45 ?_
        refine lv_i2l hx hb dX2_higher_46 rfl ?_
        refine hp_callS (As := [.long (Int32.toInt64 pb), .long 0, .long (Int32.toInt64 ((nI (aRp S j)) - (nI 1)))]) (rest := []) hx hb hml hown hts hPB hH hS (mt_in hK0 (Int32.toInt64 pb) 0 (Int32.toInt64 ((nI (aRp S j)) - (nI 1)))) 3 (lw_S q1658 q1659 q107 q1660) (by decide +kernel) ⟨rfl, rfl⟩ (by decide) rfl hl.1 rfl (Nat.le_of_ble_eq_true rfl) (by decide) dX2_higher_47 (fun v13 h15 H locs hp14 _ hH hS => ?_)
        obtain ⟨rfl, rfl⟩ := hp14
        refine lvB_ne (tgt := 55) hx hb dX2_higher_50 (by decide) (fun c16 => ?_) (fun c16 => ?_)
        · rw [in_n (by omega)] at c16
          obtain ⟨w, hw, rfl⟩ := inN_t c16
          have ew := nI_clamp (show w < 2 ^ 31 by omega)
          refine lv_aload_n hx hb dX2_higher_55 rfl (lv_at hl 0 rfl) ?_
          refine lv_iload_n hx hb dX2_higher_56 rfl (lv_at hl 1 rfl) ?_
          refine lv_iload_n hx hb dX2_higher_57 rfl (lv_at hl 2 rfl) ?_
          refine lv_iload_n hx hb dX2_higher_58 rfl (lv_at hl 3 rfl) ?_
          refine lv_iload hx hb dX2_higher_59 (lv_at hl 4 rfl) ?_
          refine hp_callV (As := [.int (nI j), .int (nI k), .int (nI u), .int (nI w)]) (rest := []) hx hb hml hown hts hPB hK hH hS (mt_high hK0 hO hM (q := j) (c := k) (a := u) (b := w) (by omega) (by omega) (by omega) (by omega)) mset_o rfl rfl 4 (lw_V q1809 q1811 qs74 q107 q1812) (by decide +kernel) ⟨rfl, rfl⟩ (by decide) rfl hl.1 rfl (Nat.le_of_ble_eq_true rfl) (by decide) dX2_higher_61 (fun v17 h19 H locs hp18 _ hH hS => ?_)
          obtain ⟨rfl, rfl⟩ := hp18
          exact hp_iret hx hb hr hlocks hH hS (by decide) (by decide) dX2_higher_64 (⟨congrArg some (congrArg Value.int (by simp [spHigher, ej, ek, eu, ew, c4, c8, c12, c16])), rfl⟩)
        · rw [in_n (by omega)] at c16
          refine lv_iconst (v := (-1)) hx hb dX2_higher_53 (by decide) ?_
          exact hp_iret hx hb hr hlocks hH hS (by decide) (by decide) dX2_higher_54 (⟨congrArg some (congrArg Value.int (by simp [spHigher, ej, ek, eu, c4, c8, c12, c16])), rfl⟩)
set_option maxHeartbeats 4000000 in
theorem mt_seat (hK0 : va_K D CL (TYS K) s0) {S : Ab} (hO : SOK S) (hM : MOK S I V) (g room place : Int32) : Met l yX2_seat (ws_ yX2_seat cX2_seat 5 ((Option.some Jvm.ClassFile.FieldType.boolean))) (rmk 2 0 0) (va_Pc [.ref o, .int g, .int room, .int place] (PB s0 D CL (mset h K wd o I V J))) (QR s0 D CL (fun v h1 => v = some (.int (zI (okSeat S g room place))) ∧ ∃ V', h1 = mset h K wd o I V' J ∧ MOK (stSeat S g room place) I V')) 0 0 (zA s0) := by
  refine hp_met (by decide) (Nat.le_of_ble_eq_true rfl) hK0 ?_
  intro p e s m below meth cd ls hx hb hr hlocks hml hown hnm hts hK hPB hl hS hH hA
  have hl : lv_has ls 5 [(0, .ref o), (1, .int g), (2, .int room), (3, .int place)] := hl
  have hown : s.vm.findClass RX2 = some m.cls := hown
  have hn := hO.n
  have hmk := hO.mk
  have hrl := hO.rl
  have hrm := hO.rm
  have hsz := hO.sz
  refine lv_aload_n hx hb dX2_seat_0 rfl (lv_at hl 0 rfl) ?_
  refine lv_iload_n hx hb dX2_seat_1 rfl (lv_at hl 1 rfl) ?_
  refine hp_callV (As := [.int g]) (rest := []) hx hb hml hown hts hPB hK hH hS (mt_isGuest hK0 hO hM g) mset_o rfl rfl 1 (lw_V q1748 q1750 qs66 q107 q1751) (by decide +kernel) ⟨rfl, rfl⟩ (by decide) rfl hl.1 rfl (Nat.le_of_ble_eq_true rfl) (by decide) dX2_seat_2 (fun v1 h3 H locs hp2 _ hH hS => ?_)
  obtain ⟨rfl, rfl⟩ := hp2
  refine lvB_eq (tgt := 52) hx hb dX2_seat_5 (by decide) (fun c4 => ?_) (fun c4 => ?_)
  · refine lv_iconst (v := nI 0) hx hb dX2_seat_52 (by decide) ?_
    exact hp_zret hx hb hr rfl hlocks hH hS (by decide) (by decide) dX2_seat_53 (⟨congrArg some (congrArg Value.int (zI_0 (by simp [okSeat, c4]))), _, rfl, by rw [show stSeat S g room place = _ from if_neg (Bool.not_eq_true _ ▸ (by simp [okSeat, c4] : okSeat S g room place = false))]; exact hM⟩)
  · obtain ⟨j, hj, rfl⟩ := inN_t c4
    have ej := nI_clamp (show j < 2 ^ 31 by omega)
    refine lv_aload_n hx hb dX2_seat_8 rfl (lv_at hl 0 rfl) ?_
    refine m_get hx hb hts hown hK hH 20 (by decide) q1472 rfl (v := .ref (o + 34)) rfl dX2_seat_9 ?_
    refine lv_iload_n hx hb dX2_seat_12 rfl (lv_at hl 1 rfl) ?_
    refine m_zald (n := 10) (j := j) (v := zI (aCm S j)) hx hb hK hH (by decide) rfl (by first | omega | (refine Nat.lt_of_lt_of_le (Nat.mod_lt _ ?_) ?_ <;> omega)) (by decide) (hM.cm (by first | omega | (refine Nat.lt_of_lt_of_le (Nat.mod_lt _ ?_) ?_ <;> omega))) dX2_seat_13 ?_
    refine lvB_eq (tgt := 52) hx hb dX2_seat_14 (by decide) (fun c5 => ?_) (fun c5 => ?_)
    · refine lv_iconst (v := nI 0) hx hb dX2_seat_52 (by decide) ?_
      exact hp_zret hx hb hr rfl hlocks hH hS (by decide) (by decide) dX2_seat_53 (⟨congrArg some (congrArg Value.int (zI_0 (by simp [okSeat, ej, c4, c5]))), _, rfl, by rw [show stSeat S (nI j) room place = _ from if_neg (Bool.not_eq_true _ ▸ (by simp [okSeat, ej, c4, c5] : okSeat S (nI j) room place = false))]; exact hM⟩)
    · refine lv_aload_n hx hb dX2_seat_17 rfl (lv_at hl 0 rfl) ?_
      refine m_get hx hb hts hown hK hH 21 (by decide) q1473 rfl (v := .ref (o + 35)) rfl dX2_seat_18 ?_
      refine lv_iload_n hx hb dX2_seat_21 rfl (lv_at hl 1 rfl) ?_
      refine m_zald (n := 10) (j := j) (v := zI (aSi S j)) hx hb hK hH (by decide) rfl (by first | omega | (refine Nat.lt_of_lt_of_le (Nat.mod_lt _ ?_) ?_ <;> omega)) (by decide) (hM.si (by first | omega | (refine Nat.lt_of_lt_of_le (Nat.mod_lt _ ?_) ?_ <;> omega))) dX2_seat_22 ?_
      refine lvB_ne (tgt := 52) hx hb dX2_seat_23 (by decide) (fun c6 => ?_) (fun c6 => ?_)
      · refine lv_iconst (v := nI 0) hx hb dX2_seat_52 (by decide) ?_
        exact hp_zret hx hb hr rfl hlocks hH hS (by decide) (by decide) dX2_seat_53 (⟨congrArg some (congrArg Value.int (zI_0 (by simp [okSeat, ej, c4, c5, c6]))), _, rfl, by rw [show stSeat S (nI j) room place = _ from if_neg (Bool.not_eq_true _ ▸ (by simp [okSeat, ej, c4, c5, c6] : okSeat S (nI j) room place = false))]; exact hM⟩)
      · refine lv_aload_n hx hb dX2_seat_26 rfl (lv_at hl 0 rfl) ?_
        refine lv_iload_n hx hb dX2_seat_27 rfl (lv_at hl 2 rfl) ?_
        refine hp_callV (As := [.int room]) (rest := []) hx hb hml hown hts hPB hK hH hS (mt_isRoom hK0 hO hM room) mset_o rfl rfl 1 (lw_V q1788 q1790 qs72 q107 q1791) (by decide +kernel) ⟨rfl, rfl⟩ (by decide) rfl hl.1 rfl (Nat.le_of_ble_eq_true rfl) (by decide) dX2_seat_28 (fun v7 h9 H locs hp8 _ hH hS => ?_)
        obtain ⟨rfl, rfl⟩ := hp8
        refine lvB_eq (tgt := 52) hx hb dX2_seat_31 (by decide) (fun c10 => ?_) (fun c10 => ?_)
        · refine lv_iconst (v := nI 0) hx hb dX2_seat_52 (by decide) ?_
          exact hp_zret hx hb hr rfl hlocks hH hS (by decide) (by decide) dX2_seat_53 (⟨congrArg some (congrArg Value.int (zI_0 (by simp [okSeat, ej, c4, c5, c6, c10]))), _, rfl, by rw [show stSeat S (nI j) room place = _ from if_neg (Bool.not_eq_true _ ▸ (by simp [okSeat, ej, c4, c5, c6, c10] : okSeat S (nI j) room place = false))]; exact hM⟩)
        · obtain ⟨k, hk, rfl⟩ := inN_t c10
          have ek := nI_clamp (show k < 2 ^ 31 by omega)
          have hrp := hO.rp hk
          refine lv_iload_n hx hb dX2_seat_34 rfl (lv_at hl 3 rfl) ?_
          refine lv_i2l hx hb dX2_seat_35 rfl ?_
          refine lv_lconst (v := 0) hx hb dX2_seat_36 rfl ?_
          refine lv_aload_n hx hb dX2_seat_37 rfl (lv_at hl 0 rfl) ?_
          refine m_get hx hb hts hown hK hH 25 (by decide) q1477 rfl (v := .ref (o + 39)) rfl dX2_seat_38 ?_
          refine lv_iload_n hx hb dX2_seat_41 rfl (lv_at hl 2 rfl) ?_
          refine m_iald (n := 4) (j := k) (v := nI (aRp S k)) hx hb hK hH (by decide) rfl (by first | omega | (refine Nat.lt_of_lt_of_le (Nat.mod_lt _ ?_) ?_ <;> omega)) (by decide) (hM.rp (by first | omega | (refine Nat.lt_of_lt_of_le (Nat.mod_lt _ ?_) ?_ <;> omega))) dX2_seat_42 ?_
          refine lv_iconst (v := nI 1) hx hb dX2_seat_43 (by decide) ?_
          refine lv_isub hx hb dX2_seat_44 ?_
          refine lv_i2l hx hb dX2_seat_45 rfl ?_
          refine hp_callS (As := [.long (Int32.toInt64 place), .long 0, .long (Int32.toInt64 ((nI (aRp S k)) - (nI 1)))]) (rest := []) hx hb hml hown hts hPB hH hS (mt_in hK0 (Int32.toInt64 place) 0 (Int32.toInt64 ((nI (aRp S k)) - (nI 1)))) 3 (lw_S q1658 q1659 q107 q1660) (by decide +kernel) ⟨rfl, rfl⟩ (by decide) rfl hl.1 rfl (Nat.le_of_ble_eq_true rfl) (by decide) dX2_seat_46 (fun v11 h13 H locs hp12 _ hH hS => ?_)
          obtain ⟨rfl, rfl⟩ := hp12
          refine lvB_ne (tgt := 54) hx hb dX2_seat_49 (by decide) (fun c14 => ?_) (fun c14 => ?_)
          · rw [in_n (by omega)] at c14
            obtain ⟨u, hu, rfl⟩ := inN_t c14
            have eu := nI_clamp (show u < 2 ^ 31 by omega)
            refine lv_iconst (v := nI 0) hx hb dX2_seat_54 (by decide) ?_
            refine lv_istore (lv' := [(4, .int (nI 0)), (0, .ref o), (1, .int (nI j)), (2, .int (nI k)), (3, .int (nI u))]) hx hb dX2_seat_55 hl (by decide) rfl (fun ls hl => ?_)
            refine w_loop1 (fun (x : Nat) => aN S - x) (fun (x : Nat) H locs ls => (x ≤ aN S) ∧ (freeP S (nI k) (nI u) x) ∧ HP D CL (zA s0) (mset h K wd o I V J) H ∧ va_S (zA s0) s.heap H locs ∧ lv_has ls 5 [(0, .ref o), (1, .int (nI j)), (2, .int (nI k)), (3, .int (nI u)), (4, .int (nI x))]) ?_ 0 ⟨Nat.zero_le _, fun z hz => absurd hz (Nat.not_lt_zero _), hH, hS, lv_sub hl [1, 2, 3, 4, 0] rfl⟩
            intro x ih57 H locs ls hP
            obtain ⟨hxx, hfr, hH, hS, hl⟩ := hP
            refine lv_iload hx hb dX2_seat_57 (lv_at hl 4 rfl) ?_
            refine lv_aload_n hx hb dX2_seat_59 rfl (lv_at hl 0 rfl) ?_
            refine m_get hx hb hts hown hK hH 15 (by decide) q1467 rfl (v := .ref (o + 29)) rfl dX2_seat_60 ?_
            refine lv_iconst (v := nI 0) hx hb dX2_seat_63 (by decide) ?_
            refine m_iald (n := 2) (j := 0) (v := nI (aN S)) hx hb hK hH (by decide) rfl (by first | omega | (refine Nat.lt_of_lt_of_le (Nat.mod_lt _ ?_) ?_ <;> omega)) (by decide) (hM.n) dX2_seat_64 ?_
            refine lvN_ge (tgt := 98) hx hb (by first | omega | (refine Nat.lt_of_lt_of_le (Nat.mod_lt _ ?_) ?_ <;> omega)) (by first | omega | (refine Nat.lt_of_lt_of_le (Nat.mod_lt _ ?_) ?_ <;> omega)) dX2_seat_65 (by decide) (fun c15 => ?_) (fun c15 => ?_)
            · have exx : x = aN S := by omega
              refine lv_aload_n hx hb dX2_seat_98 rfl (lv_at hl 0 rfl) ?_
              refine m_get hx hb hts hown hK hH 22 (by decide) q1474 rfl (v := .ref (o + 36)) rfl dX2_seat_99 ?_
              refine lv_iload_n hx hb dX2_seat_102 rfl (lv_at hl 1 rfl) ?_
              refine lv_iload_n hx hb dX2_seat_103 rfl (lv_at hl 2 rfl) ?_
              refine m_iast (n := 10) (j := j) hx hb hK hH hS (by decide) rfl (by first | omega | (refine Nat.lt_of_lt_of_le (Nat.mod_lt _ ?_) ?_ <;> omega)) (by decide) dX2_seat_104 (fun H locs hH hS => ?_)
              refine lv_aload_n hx hb dX2_seat_105 rfl (lv_at hl 0 rfl) ?_
              refine m_get hx hb hts hown hK hH 23 (by decide) q1475 rfl (v := .ref (o + 37)) rfl dX2_seat_106 ?_
              refine lv_iload_n hx hb dX2_seat_109 rfl (lv_at hl 1 rfl) ?_
              refine lv_iload_n hx hb dX2_seat_110 rfl (lv_at hl 3 rfl) ?_
              refine m_iast (n := 10) (j := j) hx hb hK hH hS (by decide) rfl (by first | omega | (refine Nat.lt_of_lt_of_le (Nat.mod_lt _ ?_) ?_ <;> omega)) (by decide) dX2_seat_111 (fun H locs hH hS => ?_)
              refine lv_iconst (v := nI 1) hx hb dX2_seat_112 (by decide) ?_
              exact hp_zret hx hb hr rfl hlocks hH hS (by decide) (by decide) dX2_seat_113 (⟨congrArg some (congrArg Value.int (zI_1 (by simp [okSeat, ej, ek, eu, show freeB S (nI k) (nI u) = true from decide_eq_true (exx ▸ hfr), c4, c5, c6, c10, c14]))), _, rfl, by rw [show stSeat S (nI j) (nI k) (nI u) = _ from if_pos (by simp [okSeat, ej, ek, eu, show freeB S (nI k) (nI u) = true from decide_eq_true (exx ▸ hfr), c4, c5, c6, c10, c14])]; exact ej.symm ▸ (hM.sIr j (nI k)).sIp j (nI u)⟩)
            · refine lv_aload_n hx hb dX2_seat_68 rfl (lv_at hl 0 rfl) ?_
              refine m_get hx hb hts hown hK hH 22 (by decide) q1474 rfl (v := .ref (o + 36)) rfl dX2_seat_69 ?_
              refine lv_iload hx hb dX2_seat_72 (lv_at hl 4 rfl) ?_
              refine m_iald (n := 10) (j := x) (v := aIr S x) hx hb hK hH (by decide) rfl (by first | omega | (refine Nat.lt_of_lt_of_le (Nat.mod_lt _ ?_) ?_ <;> omega)) (by decide) (hM.ir (by first | omega | (refine Nat.lt_of_lt_of_le (Nat.mod_lt _ ?_) ?_ <;> omega))) dX2_seat_74 ?_
              refine lv_iload_n hx hb dX2_seat_75 rfl (lv_at hl 2 rfl) ?_
              refine lv_icmp_ne (tgt := 92) hx hb dX2_seat_76 (by decide) (fun c16 => ?_) (fun c16 => ?_)
              · refine lv_iinc (v := nI (x + 1)) (lv' := [(4, .int (nI (x + 1))), (0, .ref o), (1, .int (nI j)), (2, .int (nI k)), (3, .int (nI u))]) hx hb dX2_seat_92 hl (k := 4) rfl (nI_add x 1) (by decide) rfl (fun ls hl => ?_)
                refine lv_goto (tgt := 57) hx hb dX2_seat_95 (by decide) ?_
                exact ih57 (x + 1) (by omega) H locs ls ⟨by omega, free_up hfr (fun q => absurd q.1 c16), hH, hS, lv_sub hl [1, 2, 3, 4, 0] rfl⟩
              · refine lv_aload_n hx hb dX2_seat_79 rfl (lv_at hl 0 rfl) ?_
                refine m_get hx hb hts hown hK hH 23 (by decide) q1475 rfl (v := .ref (o + 37)) rfl dX2_seat_80 ?_
                refine lv_iload hx hb dX2_seat_83 (lv_at hl 4 rfl) ?_
                refine m_iald (n := 10) (j := x) (v := aIp S x) hx hb hK hH (by decide) rfl (by first | omega | (refine Nat.lt_of_lt_of_le (Nat.mod_lt _ ?_) ?_ <;> omega)) (by decide) (hM.ip (by first | omega | (refine Nat.lt_of_lt_of_le (Nat.mod_lt _ ?_) ?_ <;> omega))) dX2_seat_85 ?_
                refine lv_iload_n hx hb dX2_seat_86 rfl (lv_at hl 3 rfl) ?_
                refine lv_icmp_ne (tgt := 92) hx hb dX2_seat_87 (by decide) (fun c17 => ?_) (fun c17 => ?_)
                · refine lv_iinc (v := nI (x + 1)) (lv' := [(4, .int (nI (x + 1))), (0, .ref o), (1, .int (nI j)), (2, .int (nI k)), (3, .int (nI u))]) hx hb dX2_seat_92 hl (k := 4) rfl (nI_add x 1) (by decide) rfl (fun ls hl => ?_)
                  refine lv_goto (tgt := 57) hx hb dX2_seat_95 (by decide) ?_
                  exact ih57 (x + 1) (by omega) H locs ls ⟨by omega, free_up hfr (fun q => absurd q.2 c17), hH, hS, lv_sub hl [1, 2, 3, 4, 0] rfl⟩
                · refine lv_iconst (v := nI 0) hx hb dX2_seat_90 (by decide) ?_
                  exact hp_zret hx hb hr rfl hlocks hH hS (by decide) (by decide) dX2_seat_91 (⟨congrArg some (congrArg Value.int (zI_0 (by simp [okSeat, ej, ek, eu, show freeB S (nI k) (nI u) = false from decide_eq_false (fun q => q x (by omega) ⟨c16, c17⟩), c4, c5, c6, c10, c14]))), _, rfl, by rw [show stSeat S (nI j) (nI k) (nI u) = _ from if_neg (Bool.not_eq_true _ ▸ (by simp [okSeat, ej, ek, eu, show freeB S (nI k) (nI u) = false from decide_eq_false (fun q => q x (by omega) ⟨c16, c17⟩), c4, c5, c6, c10, c14] : okSeat S (nI j) (nI k) (nI u) = false))]; exact hM⟩)
          · rw [in_n (by omega)] at c14
            refine lv_iconst (v := nI 0) hx hb dX2_seat_52 (by decide) ?_
            exact hp_zret hx hb hr rfl hlocks hH hS (by decide) (by decide) dX2_seat_53 (⟨congrArg some (congrArg Value.int (zI_0 (by simp [okSeat, ej, ek, c4, c5, c6, c10, c14]))), _, rfl, by rw [show stSeat S (nI j) (nI k) place = _ from if_neg (Bool.not_eq_true _ ▸ (by simp [okSeat, ej, ek, c4, c5, c6, c10, c14] : okSeat S (nI j) (nI k) place = false))]; exact hM⟩)
set_option maxHeartbeats 4000000 in
theorem mt_room (hK0 : va_K D CL (TYS K) s0) {S : Ab} (hO : SOK S) (hM : MOK S I V) (k n : Int32) : Met l yX2_room (ws_ yX2_room cX2_room 3 ((Option.some Jvm.ClassFile.FieldType.int))) (rmk 2 0 0) (va_Pc [.ref o, .int k, .int n] (PB s0 D CL (mset h K wd o I V J))) (QR s0 D CL (fun v h1 => v = some (.int (spRoom S k n)) ∧ ∃ I' V', h1 = mset h K wd o I' V' J ∧ MOK (stRoom S k n) I' V')) 0 0 (zA s0) := by
  refine hp_met (by decide) (Nat.le_of_ble_eq_true rfl) hK0 ?_
  intro p e s m below meth cd ls hx hb hr hlocks hml hown hnm hts hK hPB hl hS hH hA
  have hl : lv_has ls 3 [(0, .ref o), (1, .int k), (2, .int n)] := hl
  have hown : s.vm.findClass RX2 = some m.cls := hown
  have hn := hO.n
  have hmk := hO.mk
  have hrl := hO.rl
  have hrm := hO.rm
  have hsz := hO.sz
  refine lv_iload_n hx hb dX2_room_0 rfl (lv_at hl 1 rfl) ?_
  refine lv_i2l hx hb dX2_room_1 rfl ?_
  refine lv_lconst (v := 0) hx hb dX2_room_2 rfl ?_
  refine lv_ldc2 (v := 4) hx hb hown (hts _ q1742) dX2_room_3 ?_
  refine hp_callS (As := [.long (Int32.toInt64 k), .long 0, .long 4]) (rest := []) hx hb hml hown hts hPB hH hS (mt_in hK0 (Int32.toInt64 k) 0 4) 3 (lw_S q1658 q1659 q107 q1660) (by decide +kernel) ⟨rfl, rfl⟩ (by decide) rfl hl.1 rfl (Nat.le_of_ble_eq_true rfl) (by decide) dX2_room_6 (fun v1 h3 H locs hp2 _ hH hS => ?_)
  obtain ⟨rfl, rfl⟩ := hp2
  refine lvB_eq (tgt := 32) hx hb dX2_room_9 (by decide) (fun c4 => ?_) (fun c4 => ?_)
  · rw [in_k 4 rfl] at c4
    refine lv_iconst (v := (-1)) hx hb dX2_room_32 (by decide) ?_
    exact hp_iret hx hb hr hlocks hH hS (by decide) (by decide) dX2_room_33 (⟨by rw [show spRoom S k n = _ from if_neg (Bool.not_eq_true _ ▸ (by simp [okRoom, c4] : okRoom S k n = false))], _, _, rfl, by rw [show stRoom S k n = _ from if_neg (Bool.not_eq_true _ ▸ (by simp [okRoom, c4] : okRoom S k n = false))]; exact hM⟩)
  · rw [in_k 4 rfl] at c4
    obtain ⟨u, hu, rfl⟩ := inN_t c4
    have eu := nI_clamp (show u < 2 ^ 31 by omega)
    refine lv_iload_n hx hb dX2_room_12 rfl (lv_at hl 2 rfl) ?_
    refine lv_i2l hx hb dX2_room_13 rfl ?_
    refine lv_lconst (v := 1) hx hb dX2_room_14 rfl ?_
    refine lv_ldc2 (v := 10) hx hb hown (hts _ q1743) dX2_room_15 ?_
    refine hp_callS (As := [.long (Int32.toInt64 n), .long 1, .long 10]) (rest := []) hx hb hml hown hts hPB hH hS (mt_in hK0 (Int32.toInt64 n) 1 10) 3 (lw_S q1658 q1659 q107 q1660) (by decide +kernel) ⟨rfl, rfl⟩ (by decide) rfl hl.1 rfl (Nat.le_of_ble_eq_true rfl) (by decide) dX2_room_18 (fun v5 h7 H locs hp6 _ hH hS => ?_)
    obtain ⟨rfl, rfl⟩ := hp6
    refine lvB_eq (tgt := 32) hx hb dX2_room_21 (by decide) (fun c8 => ?_) (fun c8 => ?_)
    · rw [in_1k] at c8
      refine lv_iconst (v := (-1)) hx hb dX2_room_32 (by decide) ?_
      exact hp_iret hx hb hr hlocks hH hS (by decide) (by decide) dX2_room_33 (⟨by rw [show spRoom S (nI u) n = _ from if_neg (Bool.not_eq_true _ ▸ (by simp [okRoom, c4, c8] : okRoom S (nI u) n = false))], _, _, rfl, by rw [show stRoom S (nI u) n = _ from if_neg (Bool.not_eq_true _ ▸ (by simp [okRoom, c4, c8] : okRoom S (nI u) n = false))]; exact hM⟩)
    · rw [in_1k] at c8
      obtain ⟨w, hw, rfl⟩ := in1_t c8
      have ew := nI_clamp (show w < 2 ^ 31 by omega)
      refine lv_aload_n hx hb dX2_room_24 rfl (lv_at hl 0 rfl) ?_
      refine m_get hx hb hts hown hK hH 26 (by decide) q1478 rfl (v := .int (nI (aRm S))) (congrArg Value.int (hM.rm)) dX2_room_25 ?_
      refine lv_iconst (v := nI 4) hx hb dX2_room_28 (by decide) ?_
      refine lvN_ne (tgt := 34) hx hb (by first | omega | (refine Nat.lt_of_lt_of_le (Nat.mod_lt _ ?_) ?_ <;> omega)) (by first | omega | (refine Nat.lt_of_lt_of_le (Nat.mod_lt _ ?_) ?_ <;> omega)) dX2_room_29 (by decide) (fun c9 => ?_) (fun c9 => ?_)
      · refine lv_aload_n hx hb dX2_room_34 rfl (lv_at hl 0 rfl) ?_
        refine m_get hx hb hts hown hK hH 24 (by decide) q1476 rfl (v := .ref (o + 38)) rfl dX2_room_35 ?_
        refine lv_aload_n hx hb dX2_room_38 rfl (lv_at hl 0 rfl) ?_
        refine m_get hx hb hts hown hK hH 26 (by decide) q1478 rfl (v := .int (nI (aRm S))) (congrArg Value.int (hM.rm)) dX2_room_39 ?_
        refine lv_iload_n hx hb dX2_room_42 rfl (lv_at hl 1 rfl) ?_
        refine m_iast (n := 4) (j := aRm S) hx hb hK hH hS (by decide) rfl (by first | omega | (refine Nat.lt_of_lt_of_le (Nat.mod_lt _ ?_) ?_ <;> omega)) (by decide) dX2_room_43 (fun H locs hH hS => ?_)
        refine lv_aload_n hx hb dX2_room_44 rfl (lv_at hl 0 rfl) ?_
        refine m_get hx hb hts hown hK hH 25 (by decide) q1477 rfl (v := .ref (o + 39)) rfl dX2_room_45 ?_
        refine lv_aload_n hx hb dX2_room_48 rfl (lv_at hl 0 rfl) ?_
        refine m_get hx hb hts hown hK hH 26 (by decide) q1478 rfl (v := .int (nI (aRm S))) (congrArg Value.int (hM.rm)) dX2_room_49 ?_
        refine lv_iload_n hx hb dX2_room_52 rfl (lv_at hl 2 rfl) ?_
        refine m_iast (n := 4) (j := aRm S) hx hb hK hH hS (by decide) rfl (by first | omega | (refine Nat.lt_of_lt_of_le (Nat.mod_lt _ ?_) ?_ <;> omega)) (by decide) dX2_room_53 (fun H locs hH hS => ?_)
        refine lv_aload_n hx hb dX2_room_54 rfl (lv_at hl 0 rfl) ?_
        refine lv_dup hx hb dX2_room_55 rfl ?_
        refine m_get hx hb hts hown hK hH 26 (by decide) q1478 rfl (v := .int (nI (aRm S))) (congrArg Value.int (hM.rm)) dX2_room_56 ?_
        refine lv_iconst (v := nI 1) hx hb dX2_room_59 (by decide) ?_
        refine lv_iadd hx hb dX2_room_60 ?_
        refine lv_top (y := nI ((aRm S) + 1)) (nI_add _ _) ?_
        refine m_put (ty := .int) hx hb hts hown hK hH hS 26 (by decide) q1478 rfl rfl rfl (by decide +kernel) rfl rfl dX2_room_61 (fun H locs hH hS => ?_)
        refine lv_aload_n hx hb dX2_room_64 rfl (lv_at hl 0 rfl) ?_
        refine m_get hx hb hts hown hK hH 26 (by decide) q1478 rfl (v := .int (nI (aRm S + 1))) (rfl) dX2_room_65 ?_
        refine lv_iconst (v := nI 1) hx hb dX2_room_68 (by decide) ?_
        refine lv_isub hx hb dX2_room_69 ?_
        refine lv_top (y := nI (aRm S)) (nI_pred _) ?_
        exact hp_iret hx hb hr hlocks hH hS (by decide) (by decide) dX2_room_70 (⟨by rw [show spRoom S (nI u) (nI w) = _ from if_pos (by simp [okRoom, c4, c8, c9])], _, _, rfl, by rw [show stRoom S (nI u) (nI w) = _ from if_pos (by simp [okRoom, c4, c8, c9]), eu, ew]; exact hM.sRoom u w⟩)
      · refine lv_iconst (v := (-1)) hx hb dX2_room_32 (by decide) ?_
        exact hp_iret hx hb hr hlocks hH hS (by decide) (by decide) dX2_room_33 (⟨by rw [show spRoom S (nI u) (nI w) = _ from if_neg (Bool.not_eq_true _ ▸ (by first | (simp [okRoom, c4, c8, c9]; done) | (simp [okRoom, c4, c8]; omega) : okRoom S (nI u) (nI w) = false))], _, _, rfl, by rw [show stRoom S (nI u) (nI w) = _ from if_neg (Bool.not_eq_true _ ▸ (by first | (simp [okRoom, c4, c8, c9]; done) | (simp [okRoom, c4, c8]; omega) : okRoom S (nI u) (nI w) = false))]; exact hM⟩)
set_option maxHeartbeats 4000000 in
theorem mt_count (hK0 : va_K D CL (TYS K) s0) {S : Ab} (hO : SOK S) (hM : MOK S I V) (what : Int32) : Met l yX2_count (ws_ yX2_count cX2_count 4 ((Option.some Jvm.ClassFile.FieldType.int))) (rmk 1 0 0) (va_Pc [.ref o, .int what] (PB s0 D CL (mset h K wd o I V J))) (QR s0 D CL (fun v h1 => v = some (.int (spCount S what)) ∧ h1 = mset h K wd o I V J)) 0 0 (zA s0) := by
  refine hp_met (by decide) (Nat.le_of_ble_eq_true rfl) hK0 ?_
  intro p e s m below meth cd ls hx hb hr hlocks hml hown hnm hts hK hPB hl hS hH hA
  have hl : lv_has ls 4 [(0, .ref o), (1, .int what)] := hl
  have hown : s.vm.findClass RX2 = some m.cls := hown
  have hn := hO.n
  have hmk := hO.mk
  have hrl := hO.rl
  have hrm := hO.rm
  have hsz := hO.sz
  refine lv_iconst (v := nI 0) hx hb dX2_count_0 (by decide) ?_
  refine lv_istore_n (lv' := [(2, .int (nI 0)), (0, .ref o), (1, .int what)]) hx hb dX2_count_1 rfl hl (by decide) rfl (fun ls hl => ?_)
  refine lv_iload_n hx hb dX2_count_2 rfl (lv_at hl 2 rfl) ?_
  by_cases w1 : what = nI 0
  · refine lv_tableIn (tgt := 52) hx hb dX2_count_3 (by rw [w1]; decide) (by rw [w1]; decide) (by rw [w1]; rfl) (by decide) ?_
    refine lv_aload_n hx hb dX2_count_52 rfl (lv_at hl 1 rfl) ?_
    refine m_get hx hb hts hown hK hH 15 (by decide) q1467 rfl (v := .ref (o + 29)) rfl dX2_count_53 ?_
    refine lv_iconst (v := nI 0) hx hb dX2_count_56 (by decide) ?_
    refine m_iald (n := 2) (j := 0) (v := nI (aN S)) hx hb hK hH (by decide) rfl (by first | omega | (refine Nat.lt_of_lt_of_le (Nat.mod_lt _ ?_) ?_ <;> omega)) (by decide) (hM.n) dX2_count_57 ?_
    exact hp_iret hx hb hr hlocks hH hS (by decide) (by decide) dX2_count_58 (⟨congrArg some (congrArg Value.int (by simp [spCount, nIne, nIn8, nIn9, w1])), rfl⟩)
  by_cases w2 : what = nI 1
  · refine lv_tableIn (tgt := 59) hx hb dX2_count_3 (by rw [w2]; decide) (by rw [w2]; decide) (by rw [w2]; rfl) (by decide) ?_
    refine lv_aload_n hx hb dX2_count_59 rfl (lv_at hl 1 rfl) ?_
    refine m_get hx hb hts hown hK hH 16 (by decide) q1468 rfl (v := .ref (o + 30)) rfl dX2_count_60 ?_
    refine lv_iconst (v := nI 0) hx hb dX2_count_63 (by decide) ?_
    refine m_iald (n := 2) (j := 0) (v := nI (aMk S)) hx hb hK hH (by decide) rfl (by first | omega | (refine Nat.lt_of_lt_of_le (Nat.mod_lt _ ?_) ?_ <;> omega)) (by decide) (hM.mk) dX2_count_64 ?_
    exact hp_iret hx hb hr hlocks hH hS (by decide) (by decide) dX2_count_65 (⟨congrArg some (congrArg Value.int (by simp [spCount, nIne, nIn8, nIn9, w2])), rfl⟩)
  by_cases w3 : what = nI 2
  · refine lv_tableIn (tgt := 66) hx hb dX2_count_3 (by rw [w3]; decide) (by rw [w3]; decide) (by rw [w3]; rfl) (by decide) ?_
    refine lv_aload_n hx hb dX2_count_66 rfl (lv_at hl 1 rfl) ?_
    refine m_get hx hb hts hown hK hH 17 (by decide) q1469 rfl (v := .ref (o + 31)) rfl dX2_count_67 ?_
    refine lv_iconst (v := nI 0) hx hb dX2_count_70 (by decide) ?_
    refine m_iald (n := 2) (j := 0) (v := nI (aRl S)) hx hb hK hH (by decide) rfl (by first | omega | (refine Nat.lt_of_lt_of_le (Nat.mod_lt _ ?_) ?_ <;> omega)) (by decide) (hM.rl) dX2_count_71 ?_
    exact hp_iret hx hb hr hlocks hH hS (by decide) (by decide) dX2_count_72 (⟨congrArg some (congrArg Value.int (by simp [spCount, nIne, nIn8, nIn9, w3])), rfl⟩)
  by_cases w4 : what = nI 3
  · refine lv_tableIn (tgt := 73) hx hb dX2_count_3 (by rw [w4]; decide) (by rw [w4]; decide) (by rw [w4]; rfl) (by decide) ?_
    refine lv_aload_n hx hb dX2_count_73 rfl (lv_at hl 1 rfl) ?_
    refine m_get hx hb hts hown hK hH 26 (by decide) q1478 rfl (v := .int (nI (aRm S))) (congrArg Value.int (hM.rm)) dX2_count_74 ?_
    exact hp_iret hx hb hr hlocks hH hS (by decide) (by decide) dX2_count_77 (⟨congrArg some (congrArg Value.int (by simp [spCount, nIne, nIn8, nIn9, w4])), rfl⟩)
  by_cases w5 : what = nI 4
  · refine lv_tableIn (tgt := 78) hx hb dX2_count_3 (by rw [w5]; decide) (by rw [w5]; decide) (by rw [w5]; rfl) (by decide) ?_
    refine lv_aload_n hx hb dX2_count_78 rfl (lv_at hl 1 rfl) ?_
    refine m_get hx hb hts hown hK hH 1 (by decide) q1453 rfl (v := .int (nI (aSz S))) (congrArg Value.int (hM.sz)) dX2_count_79 ?_
    exact hp_iret hx hb hr hlocks hH hS (by decide) (by decide) dX2_count_82 (⟨congrArg some (congrArg Value.int (by simp [spCount, nIne, nIn8, nIn9, w5])), rfl⟩)
  by_cases w6 : what = nI 5
  · refine lv_tableIn (tgt := 83) hx hb dX2_count_3 (by rw [w6]; decide) (by rw [w6]; decide) (by rw [w6]; rfl) (by decide) ?_
    refine lv_iconst (v := nI 0) hx hb dX2_count_83 (by decide) ?_
    refine lv_istore_n (lv' := [(3, .int (nI 0)), (2, .int (nI 0)), (0, .ref o), (1, .int what)]) hx hb dX2_count_84 rfl hl (by decide) rfl (fun ls hl => ?_)
    refine w_loop1 (fun (k : Nat) => aN S - k) (fun (k : Nat) H locs ls => (k ≤ aN S) ∧ HP D CL (zA s0) (mset h K wd o I V J) H ∧ va_S (zA s0) s.heap H locs ∧ lv_has ls 4 [(0, .ref o), (2, .int (nI (cntN (aCm S) k))), (3, .int (nI k))]) ?_ 0 ⟨Nat.zero_le _, hH, hS, lv_sub hl [2, 1, 0] rfl⟩
    intro k ih85 H locs ls hP
    obtain ⟨hk, hH, hS, hl⟩ := hP
    have hck := cntN_le (aCm S) k
    refine lv_iload_n hx hb dX2_count_85 rfl (lv_at hl 2 rfl) ?_
    refine lv_aload_n hx hb dX2_count_86 rfl (lv_at hl 0 rfl) ?_
    refine m_get hx hb hts hown hK hH 15 (by decide) q1467 rfl (v := .ref (o + 29)) rfl dX2_count_87 ?_
    refine lv_iconst (v := nI 0) hx hb dX2_count_90 (by decide) ?_
    refine m_iald (n := 2) (j := 0) (v := nI (aN S)) hx hb hK hH (by decide) rfl (by first | omega | (refine Nat.lt_of_lt_of_le (Nat.mod_lt _ ?_) ?_ <;> omega)) (by decide) (hM.n) dX2_count_91 ?_
    refine lvN_ge (tgt := 118) hx hb (by first | omega | (refine Nat.lt_of_lt_of_le (Nat.mod_lt _ ?_) ?_ <;> omega)) (by first | omega | (refine Nat.lt_of_lt_of_le (Nat.mod_lt _ ?_) ?_ <;> omega)) dX2_count_92 (by decide) (fun c7 => ?_) (fun c7 => ?_)
    · have ek : k = aN S := by omega
      rw [ek] at hl
      refine lv_iload_n hx hb dX2_count_118 rfl (lv_at hl 1 rfl) ?_
      exact hp_iret hx hb hr hlocks hH hS (by decide) (by decide) dX2_count_119 (⟨congrArg some (congrArg Value.int (by simp [spCount, nIne, nIn8, nIn9, w6, c7, Nat.not_lt.mpr c7])), rfl⟩)
    · refine lv_iload_n hx hb dX2_count_95 rfl (lv_at hl 1 rfl) ?_
      refine lv_aload_n hx hb dX2_count_96 rfl (lv_at hl 0 rfl) ?_
      refine m_get hx hb hts hown hK hH 20 (by decide) q1472 rfl (v := .ref (o + 34)) rfl dX2_count_97 ?_
      refine lv_iload_n hx hb dX2_count_100 rfl (lv_at hl 2 rfl) ?_
      refine m_zald (n := 10) (j := k) (v := zI (aCm S k)) hx hb hK hH (by decide) rfl (by first | omega | (refine Nat.lt_of_lt_of_le (Nat.mod_lt _ ?_) ?_ <;> omega)) (by decide) (hM.cm (by first | omega | (refine Nat.lt_of_lt_of_le (Nat.mod_lt _ ?_) ?_ <;> omega))) dX2_count_101 ?_
      refine lvB_eq (tgt := 109) hx hb dX2_count_102 (by decide) (fun c8 => ?_) (fun c8 => ?_)
      · refine lv_iconst (v := nI 0) hx hb dX2_count_109 (by decide) ?_
        refine lv_iadd hx hb dX2_count_110 ?_
        refine lv_top (y := nI (cntN (aCm S) (k + 1))) (cntN_f c8) ?_
        refine lv_istore_n (lv' := [(2, .int (nI (cntN (aCm S) (k + 1)))), (0, .ref o), (3, .int (nI k))]) hx hb dX2_count_111 rfl hl (by decide) rfl (fun ls hl => ?_)
        refine lv_iinc (v := nI (k + 1)) (lv' := [(3, .int (nI (k + 1))), (2, .int (nI (cntN (aCm S) (k + 1)))), (0, .ref o)]) hx hb dX2_count_112 hl (k := 2) rfl (nI_add k 1) (by decide) rfl (fun ls hl => ?_)
        refine lv_goto (tgt := 85) hx hb dX2_count_115 (by decide) ?_
        exact ih85 (k + 1) (by omega) H locs ls ⟨by omega, hH, hS, lv_sub hl [2, 1, 0] rfl⟩
      · refine lv_iconst (v := nI 1) hx hb dX2_count_105 (by decide) ?_
        refine lv_goto (tgt := 110) hx hb dX2_count_106 (by decide) ?_
        refine lv_iadd hx hb dX2_count_110 ?_
        refine lv_top (y := nI (cntN (aCm S) (k + 1))) (cntN_t c8) ?_
        refine lv_istore_n (lv' := [(2, .int (nI (cntN (aCm S) (k + 1)))), (0, .ref o), (3, .int (nI k))]) hx hb dX2_count_111 rfl hl (by decide) rfl (fun ls hl => ?_)
        refine lv_iinc (v := nI (k + 1)) (lv' := [(3, .int (nI (k + 1))), (2, .int (nI (cntN (aCm S) (k + 1)))), (0, .ref o)]) hx hb dX2_count_112 hl (k := 2) rfl (nI_add k 1) (by decide) rfl (fun ls hl => ?_)
        refine lv_goto (tgt := 85) hx hb dX2_count_115 (by decide) ?_
        exact ih85 (k + 1) (by omega) H locs ls ⟨by omega, hH, hS, lv_sub hl [2, 1, 0] rfl⟩
  by_cases w9 : what = nI 6
  · refine lv_tableIn (tgt := 120) hx hb dX2_count_3 (by rw [w9]; decide) (by rw [w9]; decide) (by rw [w9]; rfl) (by decide) ?_
    refine lv_iconst (v := nI 0) hx hb dX2_count_120 (by decide) ?_
    refine lv_istore_n (lv' := [(3, .int (nI 0)), (2, .int (nI 0)), (0, .ref o), (1, .int what)]) hx hb dX2_count_121 rfl hl (by decide) rfl (fun ls hl => ?_)
    refine w_loop1 (fun (k : Nat) => aN S - k) (fun (k : Nat) H locs ls => (k ≤ aN S) ∧ HP D CL (zA s0) (mset h K wd o I V J) H ∧ va_S (zA s0) s.heap H locs ∧ lv_has ls 4 [(0, .ref o), (2, .int (nI (cntN (fun g => decide (aIr S g ≠ -1)) k))), (3, .int (nI k))]) ?_ 0 ⟨Nat.zero_le _, hH, hS, lv_sub hl [2, 1, 0] rfl⟩
    intro k ih122 H locs ls hP
    obtain ⟨hk, hH, hS, hl⟩ := hP
    have hck := cntN_le (fun g => decide (aIr S g ≠ -1)) k
    refine lv_iload_n hx hb dX2_count_122 rfl (lv_at hl 2 rfl) ?_
    refine lv_aload_n hx hb dX2_count_123 rfl (lv_at hl 0 rfl) ?_
    refine m_get hx hb hts hown hK hH 15 (by decide) q1467 rfl (v := .ref (o + 29)) rfl dX2_count_124 ?_
    refine lv_iconst (v := nI 0) hx hb dX2_count_127 (by decide) ?_
    refine m_iald (n := 2) (j := 0) (v := nI (aN S)) hx hb hK hH (by decide) rfl (by first | omega | (refine Nat.lt_of_lt_of_le (Nat.mod_lt _ ?_) ?_ <;> omega)) (by decide) (hM.n) dX2_count_128 ?_
    refine lvN_ge (tgt := 156) hx hb (by first | omega | (refine Nat.lt_of_lt_of_le (Nat.mod_lt _ ?_) ?_ <;> omega)) (by first | omega | (refine Nat.lt_of_lt_of_le (Nat.mod_lt _ ?_) ?_ <;> omega)) dX2_count_129 (by decide) (fun c10 => ?_) (fun c10 => ?_)
    · have ek : k = aN S := by omega
      rw [ek] at hl
      refine lv_iload_n hx hb dX2_count_156 rfl (lv_at hl 1 rfl) ?_
      exact hp_iret hx hb hr hlocks hH hS (by decide) (by decide) dX2_count_157 (⟨congrArg some (congrArg Value.int (by simp [spCount, nIne, nIn8, nIn9, w9, c10, Nat.not_lt.mpr c10])), rfl⟩)
    · refine lv_iload_n hx hb dX2_count_132 rfl (lv_at hl 1 rfl) ?_
      refine lv_aload_n hx hb dX2_count_133 rfl (lv_at hl 0 rfl) ?_
      refine m_get hx hb hts hown hK hH 22 (by decide) q1474 rfl (v := .ref (o + 36)) rfl dX2_count_134 ?_
      refine lv_iload_n hx hb dX2_count_137 rfl (lv_at hl 2 rfl) ?_
      refine m_iald (n := 10) (j := k) (v := aIr S k) hx hb hK hH (by decide) rfl (by first | omega | (refine Nat.lt_of_lt_of_le (Nat.mod_lt _ ?_) ?_ <;> omega)) (by decide) (hM.ir (by first | omega | (refine Nat.lt_of_lt_of_le (Nat.mod_lt _ ?_) ?_ <;> omega))) dX2_count_138 ?_
      refine lv_iconst (v := (-1)) hx hb dX2_count_139 (by decide) ?_
      refine lv_icmp_eq (tgt := 147) hx hb dX2_count_140 (by decide) (fun c11 => ?_) (fun c11 => ?_)
      · refine lv_iconst (v := nI 0) hx hb dX2_count_147 (by decide) ?_
        refine lv_iadd hx hb dX2_count_148 ?_
        refine lv_top (y := nI (cntN (fun g => decide (aIr S g ≠ -1)) (k + 1))) (cntN_f (decide_eq_false (not_not_intro c11))) ?_
        refine lv_istore_n (lv' := [(2, .int (nI (cntN (fun g => decide (aIr S g ≠ -1)) (k + 1)))), (0, .ref o), (3, .int (nI k))]) hx hb dX2_count_149 rfl hl (by decide) rfl (fun ls hl => ?_)
        refine lv_iinc (v := nI (k + 1)) (lv' := [(3, .int (nI (k + 1))), (2, .int (nI (cntN (fun g => decide (aIr S g ≠ -1)) (k + 1)))), (0, .ref o)]) hx hb dX2_count_150 hl (k := 2) rfl (nI_add k 1) (by decide) rfl (fun ls hl => ?_)
        refine lv_goto (tgt := 122) hx hb dX2_count_153 (by decide) ?_
        exact ih122 (k + 1) (by omega) H locs ls ⟨by omega, hH, hS, lv_sub hl [2, 1, 0] rfl⟩
      · refine lv_iconst (v := nI 1) hx hb dX2_count_143 (by decide) ?_
        refine lv_goto (tgt := 148) hx hb dX2_count_144 (by decide) ?_
        refine lv_iadd hx hb dX2_count_148 ?_
        refine lv_top (y := nI (cntN (fun g => decide (aIr S g ≠ -1)) (k + 1))) (cntN_t (decide_eq_true c11)) ?_
        refine lv_istore_n (lv' := [(2, .int (nI (cntN (fun g => decide (aIr S g ≠ -1)) (k + 1)))), (0, .ref o), (3, .int (nI k))]) hx hb dX2_count_149 rfl hl (by decide) rfl (fun ls hl => ?_)
        refine lv_iinc (v := nI (k + 1)) (lv' := [(3, .int (nI (k + 1))), (2, .int (nI (cntN (fun g => decide (aIr S g ≠ -1)) (k + 1)))), (0, .ref o)]) hx hb dX2_count_150 hl (k := 2) rfl (nI_add k 1) (by decide) rfl (fun ls hl => ?_)
        refine lv_goto (tgt := 122) hx hb dX2_count_153 (by decide) ?_
        exact ih122 (k + 1) (by omega) H locs ls ⟨by omega, hH, hS, lv_sub hl [2, 1, 0] rfl⟩
  by_cases w12 : what = nI 7
  · refine lv_tableIn (tgt := 158) hx hb dX2_count_3 (by rw [w12]; decide) (by rw [w12]; decide) (by rw [w12]; rfl) (by decide) ?_
    refine lv_iconst (v := nI 0) hx hb dX2_count_158 (by decide) ?_
    refine lv_istore_n (lv' := [(3, .int (nI 0)), (2, .int (nI 0)), (0, .ref o), (1, .int what)]) hx hb dX2_count_159 rfl hl (by decide) rfl (fun ls hl => ?_)
    refine w_loop1 (fun (k : Nat) => aN S - k) (fun (k : Nat) H locs ls => (k ≤ aN S) ∧ HP D CL (zA s0) (mset h K wd o I V J) H ∧ va_S (zA s0) s.heap H locs ∧ lv_has ls 4 [(0, .ref o), (2, .int (nI (cntN (aSi S) k))), (3, .int (nI k))]) ?_ 0 ⟨Nat.zero_le _, hH, hS, lv_sub hl [2, 1, 0] rfl⟩
    intro k ih160 H locs ls hP
    obtain ⟨hk, hH, hS, hl⟩ := hP
    have hck := cntN_le (aSi S) k
    refine lv_iload_n hx hb dX2_count_160 rfl (lv_at hl 2 rfl) ?_
    refine lv_aload_n hx hb dX2_count_161 rfl (lv_at hl 0 rfl) ?_
    refine m_get hx hb hts hown hK hH 15 (by decide) q1467 rfl (v := .ref (o + 29)) rfl dX2_count_162 ?_
    refine lv_iconst (v := nI 0) hx hb dX2_count_165 (by decide) ?_
    refine m_iald (n := 2) (j := 0) (v := nI (aN S)) hx hb hK hH (by decide) rfl (by first | omega | (refine Nat.lt_of_lt_of_le (Nat.mod_lt _ ?_) ?_ <;> omega)) (by decide) (hM.n) dX2_count_166 ?_
    refine lvN_ge (tgt := 193) hx hb (by first | omega | (refine Nat.lt_of_lt_of_le (Nat.mod_lt _ ?_) ?_ <;> omega)) (by first | omega | (refine Nat.lt_of_lt_of_le (Nat.mod_lt _ ?_) ?_ <;> omega)) dX2_count_167 (by decide) (fun c13 => ?_) (fun c13 => ?_)
    · have ek : k = aN S := by omega
      rw [ek] at hl
      refine lv_iload_n hx hb dX2_count_193 rfl (lv_at hl 1 rfl) ?_
      exact hp_iret hx hb hr hlocks hH hS (by decide) (by decide) dX2_count_194 (⟨congrArg some (congrArg Value.int (by simp [spCount, nIne, nIn8, nIn9, w12, c13, Nat.not_lt.mpr c13])), rfl⟩)
    · refine lv_iload_n hx hb dX2_count_170 rfl (lv_at hl 1 rfl) ?_
      refine lv_aload_n hx hb dX2_count_171 rfl (lv_at hl 0 rfl) ?_
      refine m_get hx hb hts hown hK hH 21 (by decide) q1473 rfl (v := .ref (o + 35)) rfl dX2_count_172 ?_
      refine lv_iload_n hx hb dX2_count_175 rfl (lv_at hl 2 rfl) ?_
      refine m_zald (n := 10) (j := k) (v := zI (aSi S k)) hx hb hK hH (by decide) rfl (by first | omega | (refine Nat.lt_of_lt_of_le (Nat.mod_lt _ ?_) ?_ <;> omega)) (by decide) (hM.si (by first | omega | (refine Nat.lt_of_lt_of_le (Nat.mod_lt _ ?_) ?_ <;> omega))) dX2_count_176 ?_
      refine lvB_eq (tgt := 184) hx hb dX2_count_177 (by decide) (fun c14 => ?_) (fun c14 => ?_)
      · refine lv_iconst (v := nI 0) hx hb dX2_count_184 (by decide) ?_
        refine lv_iadd hx hb dX2_count_185 ?_
        refine lv_top (y := nI (cntN (aSi S) (k + 1))) (cntN_f c14) ?_
        refine lv_istore_n (lv' := [(2, .int (nI (cntN (aSi S) (k + 1)))), (0, .ref o), (3, .int (nI k))]) hx hb dX2_count_186 rfl hl (by decide) rfl (fun ls hl => ?_)
        refine lv_iinc (v := nI (k + 1)) (lv' := [(3, .int (nI (k + 1))), (2, .int (nI (cntN (aSi S) (k + 1)))), (0, .ref o)]) hx hb dX2_count_187 hl (k := 2) rfl (nI_add k 1) (by decide) rfl (fun ls hl => ?_)
        refine lv_goto (tgt := 160) hx hb dX2_count_190 (by decide) ?_
        exact ih160 (k + 1) (by omega) H locs ls ⟨by omega, hH, hS, lv_sub hl [2, 1, 0] rfl⟩
      · refine lv_iconst (v := nI 1) hx hb dX2_count_180 (by decide) ?_
        refine lv_goto (tgt := 185) hx hb dX2_count_181 (by decide) ?_
        refine lv_iadd hx hb dX2_count_185 ?_
        refine lv_top (y := nI (cntN (aSi S) (k + 1))) (cntN_t c14) ?_
        refine lv_istore_n (lv' := [(2, .int (nI (cntN (aSi S) (k + 1)))), (0, .ref o), (3, .int (nI k))]) hx hb dX2_count_186 rfl hl (by decide) rfl (fun ls hl => ?_)
        refine lv_iinc (v := nI (k + 1)) (lv' := [(3, .int (nI (k + 1))), (2, .int (nI (cntN (aSi S) (k + 1)))), (0, .ref o)]) hx hb dX2_count_187 hl (k := 2) rfl (nI_add k 1) (by decide) rfl (fun ls hl => ?_)
        refine lv_goto (tgt := 160) hx hb dX2_count_190 (by decide) ?_
        exact ih160 (k + 1) (by omega) H locs ls ⟨by omega, hH, hS, lv_sub hl [2, 1, 0] rfl⟩
  by_cases w15 : what = nI 8
  · refine lv_tableIn (tgt := 195) hx hb dX2_count_3 (by rw [w15]; decide) (by rw [w15]; decide) (by rw [w15]; rfl) (by decide) ?_
    refine lv_iconst (v := nI 0) hx hb dX2_count_195 (by decide) ?_
    refine lv_istore_n (lv' := [(3, .int (nI 0)), (2, .int (nI 0)), (0, .ref o), (1, .int what)]) hx hb dX2_count_196 rfl hl (by decide) rfl (fun ls hl => ?_)
    refine w_loop1 (fun (k : Nat) => aRl S - k) (fun (k : Nat) H locs ls => (k ≤ aRl S) ∧ HP D CL (zA s0) (mset h K wd o I V J) H ∧ va_S (zA s0) s.heap H locs ∧ lv_has ls 4 [(0, .ref o), (2, .int (nI (cntN (aRs S) k))), (3, .int (nI k))]) ?_ 0 ⟨Nat.zero_le _, hH, hS, lv_sub hl [2, 1, 0] rfl⟩
    intro k ih197 H locs ls hP
    obtain ⟨hk, hH, hS, hl⟩ := hP
    have hck := cntN_le (aRs S) k
    refine lv_iload_n hx hb dX2_count_197 rfl (lv_at hl 2 rfl) ?_
    refine lv_aload_n hx hb dX2_count_198 rfl (lv_at hl 0 rfl) ?_
    refine m_get hx hb hts hown hK hH 17 (by decide) q1469 rfl (v := .ref (o + 31)) rfl dX2_count_199 ?_
    refine lv_iconst (v := nI 0) hx hb dX2_count_202 (by decide) ?_
    refine m_iald (n := 2) (j := 0) (v := nI (aRl S)) hx hb hK hH (by decide) rfl (by first | omega | (refine Nat.lt_of_lt_of_le (Nat.mod_lt _ ?_) ?_ <;> omega)) (by decide) (hM.rl) dX2_count_203 ?_
    refine lvN_ge (tgt := 230) hx hb (by first | omega | (refine Nat.lt_of_lt_of_le (Nat.mod_lt _ ?_) ?_ <;> omega)) (by first | omega | (refine Nat.lt_of_lt_of_le (Nat.mod_lt _ ?_) ?_ <;> omega)) dX2_count_204 (by decide) (fun c16 => ?_) (fun c16 => ?_)
    · have ek : k = aRl S := by omega
      rw [ek] at hl
      refine lv_iload_n hx hb dX2_count_230 rfl (lv_at hl 1 rfl) ?_
      exact hp_iret hx hb hr hlocks hH hS (by decide) (by decide) dX2_count_231 (⟨congrArg some (congrArg Value.int (by simp [spCount, nIne, nIn8, nIn9, w15, c16, Nat.not_lt.mpr c16])), rfl⟩)
    · refine lv_iload_n hx hb dX2_count_207 rfl (lv_at hl 1 rfl) ?_
      refine lv_aload_n hx hb dX2_count_208 rfl (lv_at hl 0 rfl) ?_
      refine m_get hx hb hts hown hK hH 19 (by decide) q1471 rfl (v := .ref (o + 33)) rfl dX2_count_209 ?_
      refine lv_iload_n hx hb dX2_count_212 rfl (lv_at hl 2 rfl) ?_
      refine m_zald (n := 12) (j := k) (v := zI (aRs S k)) hx hb hK hH (by decide) rfl (by first | omega | (refine Nat.lt_of_lt_of_le (Nat.mod_lt _ ?_) ?_ <;> omega)) (by decide) (hM.rs (by first | omega | (refine Nat.lt_of_lt_of_le (Nat.mod_lt _ ?_) ?_ <;> omega))) dX2_count_213 ?_
      refine lvB_eq (tgt := 221) hx hb dX2_count_214 (by decide) (fun c17 => ?_) (fun c17 => ?_)
      · refine lv_iconst (v := nI 0) hx hb dX2_count_221 (by decide) ?_
        refine lv_iadd hx hb dX2_count_222 ?_
        refine lv_top (y := nI (cntN (aRs S) (k + 1))) (cntN_f c17) ?_
        refine lv_istore_n (lv' := [(2, .int (nI (cntN (aRs S) (k + 1)))), (0, .ref o), (3, .int (nI k))]) hx hb dX2_count_223 rfl hl (by decide) rfl (fun ls hl => ?_)
        refine lv_iinc (v := nI (k + 1)) (lv' := [(3, .int (nI (k + 1))), (2, .int (nI (cntN (aRs S) (k + 1)))), (0, .ref o)]) hx hb dX2_count_224 hl (k := 2) rfl (nI_add k 1) (by decide) rfl (fun ls hl => ?_)
        refine lv_goto (tgt := 197) hx hb dX2_count_227 (by decide) ?_
        exact ih197 (k + 1) (by omega) H locs ls ⟨by omega, hH, hS, lv_sub hl [2, 1, 0] rfl⟩
      · refine lv_iconst (v := nI 1) hx hb dX2_count_217 (by decide) ?_
        refine lv_goto (tgt := 222) hx hb dX2_count_218 (by decide) ?_
        refine lv_iadd hx hb dX2_count_222 ?_
        refine lv_top (y := nI (cntN (aRs S) (k + 1))) (cntN_t c17) ?_
        refine lv_istore_n (lv' := [(2, .int (nI (cntN (aRs S) (k + 1)))), (0, .ref o), (3, .int (nI k))]) hx hb dX2_count_223 rfl hl (by decide) rfl (fun ls hl => ?_)
        refine lv_iinc (v := nI (k + 1)) (lv' := [(3, .int (nI (k + 1))), (2, .int (nI (cntN (aRs S) (k + 1)))), (0, .ref o)]) hx hb dX2_count_224 hl (k := 2) rfl (nI_add k 1) (by decide) rfl (fun ls hl => ?_)
        refine lv_goto (tgt := 197) hx hb dX2_count_227 (by decide) ?_
        exact ih197 (k + 1) (by omega) H locs ls ⟨by omega, hH, hS, lv_sub hl [2, 1, 0] rfl⟩
  refine lv_tableOut (tgt := 232) hx hb dX2_count_3 (by have g0 := lv_neT (a := 0) w1 rfl; have g1 := lv_neT (a := 1) w2 rfl; have g2 := lv_neT (a := 2) w3 rfl; have g3 := lv_neT (a := 3) w4 rfl; have g4 := lv_neT (a := 4) w5 rfl; have g5 := lv_neT (a := 5) w6 rfl; have g6 := lv_neT (a := 6) w9 rfl; have g7 := lv_neT (a := 7) w12 rfl; have g8 := lv_neT (a := 8) w15 rfl; omega) (by decide) ?_
  refine lv_iconst (v := (-1)) hx hb dX2_count_232 (by decide) ?_
  exact hp_iret hx hb hr hlocks hH hS (by decide) (by decide) dX2_count_233 (⟨congrArg some (congrArg Value.int (by simp [spCount, nIne, nIn8, nIn9, w1, w2, w3, w4, w5, w6, w9, w12, w15])), rfl⟩)
end MODEL
