/-! by gen/mspec.py -/
set_option maxRecDepth 100000
section MODEL
variable {l : Launch} {s0 : State} {D : va_G} {K : Nat → ClassId} {wd : Nat → Nat} {o : Nat} {h : Hp} {I : Nat → Int32} {V : Nat → Nat → Int32} {J : Nat → Nat → Int64}
set_option maxHeartbeats 4000000 in
theorem mt_named (hK0 : va_K D CL (TYS K) s0) {S : Ab} (hO : SOK S) (hM : MOK S I V) {av : Nat → Nat} (hX : OX wd av (zA s0) s0 s0.heap) {tk : Tk} (hrp : rdP S tk I) : Met l yX2_named (ws_ yX2_named cX2_named 4 ((Option.some Jvm.ClassFile.FieldType.long))) (rmk 5 0 0) (va_Pc [.ref o] (PB s0 D CL (mset h K wd o I V J))) (QR s0 D CL (fun v h1 => v = some (.long (nmJ (namS S tk))) ∧ h1 = mset h K wd o I V J)) 0 0 (zA s0) := by
  refine hp_met (by decide) (Nat.le_of_ble_eq_true rfl) hK0 ?_
  intro p e s m below meth cd ls hx hb hr hlocks hml hown hnm hts hK hPB hl hS hH hA
  have hl : lv_has ls 4 [(0, .ref o)] := hl
  have hown : s.vm.findClass RX2 = some m.cls := hown
  have hn := hO.n
  have hmk := hO.mk
  have hrl := hO.rl
  have hrm := hO.rm
  have hsz := hO.sz
  have htk := hrp.2.2.2
  have htk1 := htk.1
  refine lv_aload_n hx hb dX2_named_0 rfl (lv_at hl 0 rfl) ?_
  refine lv_aload_n hx hb dX2_named_1 rfl (lv_at hl 0 rfl) ?_
  refine m_get hx hb hts hown hK hH 2 (by decide) q1454 rfl (v := .int (nI tk.1)) (congrArg Value.int (hrp.1)) dX2_named_2 ?_
  refine lv_bipush (v := nI 97) hx hb dX2_named_5 (by decide) ?_
  refine lv_bipush (v := nI 122) hx hb dX2_named_7 (by decide) ?_
  refine hp_callV (As := [.int (nI tk.1), .int (nI 97), .int (nI 122)]) (rest := []) hx hb hml hown hts hPB hK hH hS (mt_between hK0 hO hM (k := tk.1) 97 122 (by omega)) mset_o rfl rfl 3 (lw_V q1673 q1675 qs52 q107 q1676) (by decide +kernel) ⟨rfl, rfl⟩ (by decide) rfl hl.1 rfl (Nat.le_of_ble_eq_true rfl) (by decide) dX2_named_9 (fun v1 h3 H locs hp2 _ hH hS => ?_)
  obtain ⟨rfl, rfl⟩ := hp2
  refine lvB_eq (tgt := 29) hx hb dX2_named_12 (by decide) (fun cl => ?_) (fun cl => ?_)
  · refine lv_ldc2 (v := -1) hx hb hown (hts _ q1699) dX2_named_29 ?_
    exact hp_lret hx hb hr hlocks hH hS (by decide) (by decide) dX2_named_32 (⟨congrArg some (congrArg Value.long (by rw [namS_0 (Or.inl cl)]; rfl)), rfl⟩)
  · refine lv_aload_n hx hb dX2_named_15 rfl (lv_at hl 0 rfl) ?_
    refine m_get hx hb hts hown hK hH 3 (by decide) q1455 rfl (v := .int (nI tk.2)) (congrArg Value.int (hrp.2.1)) dX2_named_16 ?_
    refine lv_aload_n hx hb dX2_named_19 rfl (lv_at hl 0 rfl) ?_
    refine m_get hx hb hts hown hK hH 2 (by decide) q1454 rfl (v := .int (nI tk.1)) (congrArg Value.int (hrp.1)) dX2_named_20 ?_
    refine lv_isub hx hb dX2_named_23 ?_
    refine lv_top (y := nI (tk.2 - tk.1)) (pk_sub (by first | omega | (refine Nat.lt_of_lt_of_le (Nat.mod_lt _ ?_) ?_ <;> omega))) ?_
    refine lv_bipush (v := nI 8) hx hb dX2_named_24 (by decide) ?_
    refine lvN_le (tgt := 33) hx hb (by first | omega | (refine Nat.lt_of_lt_of_le (Nat.mod_lt _ ?_) ?_ <;> omega)) (by first | omega | (refine Nat.lt_of_lt_of_le (Nat.mod_lt _ ?_) ?_ <;> omega)) dX2_named_26 (by decide) (fun c4 => ?_) (fun c4 => ?_)
    · refine lv_iconst (v := nI 0) hx hb dX2_named_33 (by decide) ?_
      refine lv_istore_n (lv' := [(1, .int (nI 0)), (0, .ref o)]) hx hb dX2_named_34 rfl hl (by decide) rfl (fun ls hl => ?_)
      refine w_loop1 (fun (w : Nat) => 9 - w) (fun (w : Nat) H locs ls => (w ≤ 9) ∧ (∀ u, u < w → wrdB S tk u = false) ∧ HP D CL (zA s0) (mset h K wd o I V J) H ∧ va_S (zA s0) s.heap H locs ∧ lv_has ls 4 [(0, .ref o), (1, .int (nI w))]) ?_ 0 ⟨Nat.zero_le _, fun u hu => absurd hu (Nat.not_lt_zero _), hH, hS, lv_sub hl [1, 0] rfl⟩
      intro w ih35 H locs ls hP
      obtain ⟨hww, hno, hH, hS, hl⟩ := hP
      refine lv_iload_n hx hb dX2_named_35 rfl (lv_at hl 1 rfl) ?_
      refine lv_aload_n hx hb dX2_named_36 rfl (lv_at hl 0 rfl) ?_
      refine m_get hx hb hts hown hK hH 18 (by decide) q1470 rfl (v := .ref (o + 32)) rfl dX2_named_37 ?_
      refine hp_alen (v := nI 9) hx hb hK hH 5 (by rw [mset_at (by decide)]; rfl) rfl rfl dX2_named_40 ?_
      refine lvN_ge (tgt := 62) hx hb (by first | omega | (refine Nat.lt_of_lt_of_le (Nat.mod_lt _ ?_) ?_ <;> omega)) (by first | omega | (refine Nat.lt_of_lt_of_le (Nat.mod_lt _ ?_) ?_ <;> omega)) dX2_named_41 (by decide) (fun c5 => ?_) (fun c5 => ?_)
      · refine lv_lconst (v := 0) hx hb dX2_named_62 rfl ?_
        refine lv_lstore_n (lv' := [(1, .long 0), (0, .ref o)]) hx hb dX2_named_63 rfl hl (by decide) rfl (fun ls hl => ?_)
        refine lv_aload_n hx hb dX2_named_64 rfl (lv_at hl 1 rfl) ?_
        refine m_get hx hb hts hown hK hH 2 (by decide) q1454 rfl (v := .int (nI tk.1)) (congrArg Value.int (hrp.1)) dX2_named_65 ?_
        refine lv_istore_n (lv' := [(3, .int (nI tk.1)), (1, .long 0), (0, .ref o)]) hx hb dX2_named_68 rfl hl (by decide) rfl (fun ls hl => ?_)
        refine w_loop1 (fun (j : Nat) => tk.2 - (tk.1 + j)) (fun (j : Nat) H locs ls => (tk.1 + j ≤ tk.2) ∧ HP D CL (zA s0) (mset h K wd o I V J) H ∧ va_S (zA s0) s.heap H locs ∧ lv_has ls 4 [(0, .ref o), (1, .long (codeL ((tokL S tk).take j))), (3, .int (nI (tk.1 + j)))]) ?_ 0 ⟨by omega, hH, hS, lv_sub hl [2, 1, 0] rfl⟩
        intro j ih69 H locs ls hP
        obtain ⟨hjj, hH, hS, hl⟩ := hP
        refine lv_iload_n hx hb dX2_named_69 rfl (lv_at hl 2 rfl) ?_
        refine lv_aload_n hx hb dX2_named_70 rfl (lv_at hl 0 rfl) ?_
        refine m_get hx hb hts hown hK hH 3 (by decide) q1455 rfl (v := .int (nI tk.2)) (congrArg Value.int (hrp.2.1)) dX2_named_71 ?_
        refine lvN_ge (tgt := 103) hx hb (by first | omega | (refine Nat.lt_of_lt_of_le (Nat.mod_lt _ ?_) ?_ <;> omega)) (by first | omega | (refine Nat.lt_of_lt_of_le (Nat.mod_lt _ ?_) ?_ <;> omega)) dX2_named_74 (by decide) (fun c6 => ?_) (fun c6 => ?_)
        · refine lv_lload_n hx hb dX2_named_103 rfl (lv_at hl 1 rfl) ?_
          exact hp_lret hx hb hr hlocks hH hS (by decide) (by decide) dX2_named_104 (⟨congrArg some (congrArg Value.long (by rw [namS_1 cl (by omega) (fun u hu => hno u (by omega)), tok_full (by omega)]; rfl)), rfl⟩)
        · refine lv_ldc2 (v := 32) hx hb hown (hts _ q1700) dX2_named_77 ?_
          refine lv_lload_n hx hb dX2_named_80 rfl (lv_at hl 1 rfl) ?_
          refine lv_lmul hx hb dX2_named_81 ?_
          refine lv_aload_n hx hb dX2_named_82 rfl (lv_at hl 0 rfl) ?_
          refine m_get hx hb hts hown hK hH 0 (by decide) q1452 rfl (v := .ref (o + 1)) rfl dX2_named_83 ?_
          refine lv_iload_n hx hb dX2_named_86 rfl (lv_at hl 2 rfl) ?_
          refine m_bald (n := 700) (j := tk.1 + j) (v := aTx S (tk.1 + j)) hx hb hK hH (by decide) rfl (by first | omega | (refine Nat.lt_of_lt_of_le (Nat.mod_lt _ ?_) ?_ <;> omega)) (by decide) (hM.tx (by omega)) dX2_named_87 ?_
          refine lv_i2l hx hb dX2_named_88 rfl ?_
          refine lv_ladd hx hb dX2_named_89 ?_
          refine lv_ldc2 (v := 97) hx hb hown (hts _ q1701) dX2_named_90 ?_
          refine lv_lsub hx hb dX2_named_93 ?_
          refine lv_lconst (v := 1) hx hb dX2_named_94 rfl ?_
          refine lv_ladd hx hb dX2_named_95 ?_
          refine lv_topL (y := codeL ((tokL S tk).take (j + 1))) (by rw [tok_take (by omega), codeL_snoc]; rfl) ?_
          refine lv_lstore_n (lv' := [(1, .long (codeL ((tokL S tk).take (j + 1)))), (0, .ref o), (3, .int (nI (tk.1 + j)))]) hx hb dX2_named_96 rfl hl (by decide) rfl (fun ls hl => ?_)
          refine lv_iinc (v := nI (tk.1 + j + 1)) (lv' := [(3, .int (nI (tk.1 + j + 1))), (1, .long (codeL ((tokL S tk).take (j + 1)))), (0, .ref o)]) hx hb dX2_named_97 hl (k := 2) rfl (nI_add (tk.1 + j) 1) (by decide) rfl (fun ls hl => ?_)
          refine lv_goto (tgt := 69) hx hb dX2_named_100 (by decide) ?_
          exact ih69 (j + 1) (by omega) H locs ls ⟨by omega, hH, hS, lv_sub hl [2, 1, 0] rfl⟩
      · refine lv_aload_n hx hb dX2_named_44 rfl (lv_at hl 0 rfl) ?_
        refine lv_iload_n hx hb dX2_named_45 rfl (lv_at hl 1 rfl) ?_
        refine hp_callV (As := [.int (nI w)]) (rest := []) hx hb hml hown hts hPB hK hH hS (mt_isWord hK0 hO hM hX (tk := tk) hrp (w := w) (by omega)) mset_o rfl rfl 1 (lw_V q1681 q1683 qs54 q107 q1684) (by decide +kernel) ⟨rfl, rfl⟩ (by decide) rfl hl.1 rfl (Nat.le_of_ble_eq_true rfl) (by decide) dX2_named_46 (fun v7 h9 H locs hp8 _ hH hS => ?_)
        obtain ⟨rfl, rfl⟩ := hp8
        refine lvB_eq (tgt := 56) hx hb dX2_named_49 (by decide) (fun cw => ?_) (fun cw => ?_)
        · refine lv_iinc (v := nI (w + 1)) (lv' := [(1, .int (nI (w + 1))), (0, .ref o)]) hx hb dX2_named_56 hl (k := 1) rfl (nI_add w 1) (by decide) rfl (fun ls hl => ?_)
          refine lv_goto (tgt := 35) hx hb dX2_named_59 (by decide) ?_
          exact ih35 (w + 1) (by omega) H locs ls ⟨by omega, fun u hu => by rcases Nat.lt_succ_iff_lt_or_eq.mp hu with z | z; exact hno u z; rw [z]; exact cw, hH, hS, lv_sub hl [1, 0] rfl⟩
        · refine lv_ldc2 (v := -1) hx hb hown (hts _ q1699) dX2_named_52 ?_
          exact hp_lret hx hb hr hlocks hH hS (by decide) (by decide) dX2_named_55 (⟨congrArg some (congrArg Value.long (by rw [namS_0 (Or.inr (Or.inr ⟨w, by omega, cw⟩))]; rfl)), rfl⟩)
    · refine lv_ldc2 (v := -1) hx hb hown (hts _ q1699) dX2_named_29 ?_
      exact hp_lret hx hb hr hlocks hH hS (by decide) (by decide) dX2_named_32 (⟨congrArg some (congrArg Value.long (by rw [namS_0 (Or.inr (Or.inl (by omega)))]; rfl)), rfl⟩)
set_option maxHeartbeats 4000000 in
theorem mt_guestOf (hK0 : va_K D CL (TYS K) s0) {S : Ab} (hO : SOK S) (hM : MOK S I V) {dd : Dr} (hD : drR dd V J) (hDO : drOK dd) {L : List Int32} (hL : nmOK L) : Met l yX2_guestOf (ws_ yX2_guestOf cX2_guestOf 4 ((Option.some Jvm.ClassFile.FieldType.int))) (rmk 0 0 0) (va_Pc [.ref o, .long (codeL L)] (PB s0 D CL (mset h K wd o I V J))) (QR s0 D CL (fun v h1 => v = some (.int (oI (fnd dd.1 L))) ∧ h1 = mset h K wd o I V J)) 0 0 (zA s0) := by
  refine hp_met (by decide) (Nat.le_of_ble_eq_true rfl) hK0 ?_
  intro p e s m below meth cd ls hx hb hr hlocks hml hown hnm hts hK hPB hl hS hH hA
  have hl : lv_has ls 4 [(0, .ref o), (1, .long (codeL L))] := hl
  have hown : s.vm.findClass RX2 = some m.cls := hown
  have hn := hO.n
  have hmk := hO.mk
  have hrl := hO.rl
  have hrm := hO.rm
  have hsz := hO.sz
  have hD1 := hDO.1
  have hml2 := mkN_len dd
  refine lv_iconst (v := nI 0) hx hb dX2_guestOf_0 (by decide) ?_
  refine lv_istore_n (lv' := [(3, .int (nI 0)), (0, .ref o), (1, .long (codeL L))]) hx hb dX2_guestOf_1 rfl hl (by decide) rfl (fun ls hl => ?_)
  refine w_loop1 (fun (k : Nat) => dd.1.length - k) (fun (k : Nat) H locs ls => (k ≤ dd.1.length) ∧ (∀ u, u < k → dd.1.getD u [] ≠ L) ∧ HP D CL (zA s0) (mset h K wd o I V J) H ∧ va_S (zA s0) s.heap H locs ∧ lv_has ls 4 [(0, .ref o), (1, .long (codeL L)), (3, .int (nI k))]) ?_ 0 ⟨Nat.zero_le _, fun u hu => absurd hu (Nat.not_lt_zero _), hH, hS, lv_sub hl [1, 2, 0] rfl⟩
  intro k ih2 H locs ls hP
  obtain ⟨hkk, hno, hH, hS, hl⟩ := hP
  refine lv_iload_n hx hb dX2_guestOf_2 rfl (lv_at hl 2 rfl) ?_
  refine lv_aload_n hx hb dX2_guestOf_3 rfl (lv_at hl 0 rfl) ?_
  refine m_get hx hb hts hown hK hH 15 (by decide) q1467 rfl (v := .ref (o + 29)) rfl dX2_guestOf_4 ?_
  refine lv_iconst (v := nI 1) hx hb dX2_guestOf_7 (by decide) ?_
  refine m_iald (n := 2) (j := 1) (v := nI dd.1.length) hx hb hK hH (by decide) rfl (by first | omega | (refine Nat.lt_of_lt_of_le (Nat.mod_lt _ ?_) ?_ <;> omega)) (by decide) (hD.1.1) dX2_guestOf_8 ?_
  refine lvN_ge (tgt := 33) hx hb (by first | omega | (refine Nat.lt_of_lt_of_le (Nat.mod_lt _ ?_) ?_ <;> omega)) (by first | omega | (refine Nat.lt_of_lt_of_le (Nat.mod_lt _ ?_) ?_ <;> omega)) dX2_guestOf_9 (by decide) (fun c1 => ?_) (fun c1 => ?_)
  · refine lv_iconst (v := (-1)) hx hb dX2_guestOf_33 (by decide) ?_
    exact hp_iret hx hb hr hlocks hH hS (by decide) (by decide) dX2_guestOf_34 (⟨congrArg some (congrArg Value.int (by rw [fnd_no (fun u hu => hno u (by omega))]; rfl)), rfl⟩)
  · refine lv_aload_n hx hb dX2_guestOf_12 rfl (lv_at hl 0 rfl) ?_
    refine m_get hx hb hts hown hK hH 6 (by decide) q1458 rfl (v := .ref (o + 2)) rfl dX2_guestOf_13 ?_
    refine lv_iconst (v := nI 1) hx hb dX2_guestOf_16 (by decide) ?_
    refine m_rowJ (k' := 4) hx hb hK hH (by decide) rfl (by decide) (by decide) rfl dX2_guestOf_17 ?_
    refine lv_iload_n hx hb dX2_guestOf_18 rfl (lv_at hl 2 rfl) ?_
    refine m_lald (n := 10) (j := k) (v := codeL (dd.1.getD k [])) hx hb hK hH (by decide) rfl (by first | omega | (refine Nat.lt_of_lt_of_le (Nat.mod_lt _ ?_) ?_ <;> omega)) (by decide) (hD.2.1 k (by omega)) dX2_guestOf_19 ?_
    refine lv_lload_n hx hb dX2_guestOf_20 rfl (lv_at hl 1 rfl) ?_
    refine W.lcmp hx hb dX2_guestOf_21 ?_
    refine lv_if_ne (tgt := 27) hx hb dX2_guestOf_22 (by decide) (fun cc => ?_) (fun cc => ?_)
    · have cc := cmp_ne cc
      refine lv_iinc (v := nI (k + 1)) (lv' := [(3, .int (nI (k + 1))), (0, .ref o), (1, .long (codeL L))]) hx hb dX2_guestOf_27 hl (k := 2) rfl (nI_add k 1) (by decide) rfl (fun ls hl => ?_)
      refine lv_goto (tgt := 2) hx hb dX2_guestOf_30 (by decide) ?_
      exact ih2 (k + 1) (by omega) H locs ls ⟨by omega, fun u hu => by rcases Nat.lt_succ_iff_lt_or_eq.mp hu with z | z; exact hno u z; rw [z]; exact fun q => cc (congrArg codeL q), hH, hS, lv_sub hl [1, 2, 0] rfl⟩
    · have cc := (codeL_inj (hDO.2.1 _ (getD_memL (by omega))) hL).mp (cmp_eq cc)
      refine lv_iload_n hx hb dX2_guestOf_25 rfl (lv_at hl 2 rfl) ?_
      exact hp_iret hx hb hr hlocks hH hS (by decide) (by decide) dX2_guestOf_26 (⟨congrArg some (congrArg Value.int (by rw [fnd_is (by omega) cc hno]; rfl)), rfl⟩)
set_option maxHeartbeats 4000000 in
theorem mt_markOf (hK0 : va_K D CL (TYS K) s0) {S : Ab} (hO : SOK S) (hM : MOK S I V) {dd : Dr} (hD : drR dd V J) (hDO : drOK dd) {L : List Int32} (hL : nmOK L) : Met l yX2_markOf (ws_ yX2_markOf cX2_markOf 4 ((Option.some Jvm.ClassFile.FieldType.int))) (rmk 0 0 0) (va_Pc [.ref o, .long (codeL L)] (PB s0 D CL (mset h K wd o I V J))) (QR s0 D CL (fun v h1 => v = some (.int (oI (fnd (mkN dd) L))) ∧ h1 = mset h K wd o I V J)) 0 0 (zA s0) := by
  refine hp_met (by decide) (Nat.le_of_ble_eq_true rfl) hK0 ?_
  intro p e s m below meth cd ls hx hb hr hlocks hml hown hnm hts hK hPB hl hS hH hA
  have hl : lv_has ls 4 [(0, .ref o), (1, .long (codeL L))] := hl
  have hown : s.vm.findClass RX2 = some m.cls := hown
  have hn := hO.n
  have hmk := hO.mk
  have hrl := hO.rl
  have hrm := hO.rm
  have hsz := hO.sz
  have hD1 := hDO.1
  have hml2 := mkN_len dd
  refine lv_iconst (v := nI 0) hx hb dX2_markOf_0 (by decide) ?_
  refine lv_istore_n (lv' := [(3, .int (nI 0)), (0, .ref o), (1, .long (codeL L))]) hx hb dX2_markOf_1 rfl hl (by decide) rfl (fun ls hl => ?_)
  refine w_loop1 (fun (k : Nat) => dd.2.1.length - k) (fun (k : Nat) H locs ls => (k ≤ dd.2.1.length) ∧ (∀ u, u < k → (mkN dd).getD u [] ≠ L) ∧ HP D CL (zA s0) (mset h K wd o I V J) H ∧ va_S (zA s0) s.heap H locs ∧ lv_has ls 4 [(0, .ref o), (1, .long (codeL L)), (3, .int (nI k))]) ?_ 0 ⟨Nat.zero_le _, fun u hu => absurd hu (Nat.not_lt_zero _), hH, hS, lv_sub hl [1, 2, 0] rfl⟩
  intro k ih2 H locs ls hP
  obtain ⟨hkk, hno, hH, hS, hl⟩ := hP
  refine lv_iload_n hx hb dX2_markOf_2 rfl (lv_at hl 2 rfl) ?_
  refine lv_aload_n hx hb dX2_markOf_3 rfl (lv_at hl 0 rfl) ?_
  refine m_get hx hb hts hown hK hH 16 (by decide) q1468 rfl (v := .ref (o + 30)) rfl dX2_markOf_4 ?_
  refine lv_iconst (v := nI 1) hx hb dX2_markOf_7 (by decide) ?_
  refine m_iald (n := 2) (j := 1) (v := nI dd.2.1.length) hx hb hK hH (by decide) rfl (by first | omega | (refine Nat.lt_of_lt_of_le (Nat.mod_lt _ ?_) ?_ <;> omega)) (by decide) (hD.1.2.1) dX2_markOf_8 ?_
  refine lvN_ge (tgt := 33) hx hb (by first | omega | (refine Nat.lt_of_lt_of_le (Nat.mod_lt _ ?_) ?_ <;> omega)) (by first | omega | (refine Nat.lt_of_lt_of_le (Nat.mod_lt _ ?_) ?_ <;> omega)) dX2_markOf_9 (by decide) (fun c1 => ?_) (fun c1 => ?_)
  · refine lv_iconst (v := (-1)) hx hb dX2_markOf_33 (by decide) ?_
    exact hp_iret hx hb hr hlocks hH hS (by decide) (by decide) dX2_markOf_34 (⟨congrArg some (congrArg Value.int (by rw [fnd_no (fun u hu => hno u (by omega))]; rfl)), rfl⟩)
  · refine lv_aload_n hx hb dX2_markOf_12 rfl (lv_at hl 0 rfl) ?_
    refine m_get hx hb hts hown hK hH 7 (by decide) q1459 rfl (v := .ref (o + 5)) rfl dX2_markOf_13 ?_
    refine lv_iconst (v := nI 1) hx hb dX2_markOf_16 (by decide) ?_
    refine m_rowJ (k' := 7) hx hb hK hH (by decide) rfl (by decide) (by decide) rfl dX2_markOf_17 ?_
    refine lv_iload_n hx hb dX2_markOf_18 rfl (lv_at hl 2 rfl) ?_
    refine m_lald (n := 5) (j := k) (v := codeL ((mkN dd).getD k [])) hx hb hK hH (by decide) rfl (by first | omega | (refine Nat.lt_of_lt_of_le (Nat.mod_lt _ ?_) ?_ <;> omega)) (by decide) (((hD.2.2.1 k (by omega)).1).trans (by rw [mkN_get])) dX2_markOf_19 ?_
    refine lv_lload_n hx hb dX2_markOf_20 rfl (lv_at hl 1 rfl) ?_
    refine W.lcmp hx hb dX2_markOf_21 ?_
    refine lv_if_ne (tgt := 27) hx hb dX2_markOf_22 (by decide) (fun cc => ?_) (fun cc => ?_)
    · have cc := cmp_ne cc
      refine lv_iinc (v := nI (k + 1)) (lv' := [(3, .int (nI (k + 1))), (0, .ref o), (1, .long (codeL L))]) hx hb dX2_markOf_27 hl (k := 2) rfl (nI_add k 1) (by decide) rfl (fun ls hl => ?_)
      refine lv_goto (tgt := 2) hx hb dX2_markOf_30 (by decide) ?_
      exact ih2 (k + 1) (by omega) H locs ls ⟨by omega, fun u hu => by rcases Nat.lt_succ_iff_lt_or_eq.mp hu with z | z; exact hno u z; rw [z]; exact fun q => cc (congrArg codeL q), hH, hS, lv_sub hl [1, 2, 0] rfl⟩
    · have cc := (codeL_inj (mkN_nm hDO (by omega)) hL).mp (cmp_eq cc)
      refine lv_iload_n hx hb dX2_markOf_25 rfl (lv_at hl 2 rfl) ?_
      exact hp_iret hx hb hr hlocks hH hS (by decide) (by decide) dX2_markOf_26 (⟨congrArg some (congrArg Value.int (by rw [fnd_is (by omega) cc hno]; rfl)), rfl⟩)
set_option maxHeartbeats 4000000 in
theorem mt_isNew (hK0 : va_K D CL (TYS K) s0) {S : Ab} (hO : SOK S) (hM : MOK S I V) {dd : Dr} (hD : drR dd V J) (hDO : drOK dd) {x9 : Option (List Int32)} (ho : ∀ L, x9 = some L → nmOK L) : Met l yX2_isNew (ws_ yX2_isNew cX2_isNew 3 ((Option.some Jvm.ClassFile.FieldType.boolean))) (rmk 1 0 0) (va_Pc [.ref o, .long (nmJ x9)] (PB s0 D CL (mset h K wd o I V J))) (QR s0 D CL (fun v h1 => v = some (.int (zI (newB dd x9))) ∧ h1 = mset h K wd o I V J)) 0 0 (zA s0) := by
  refine hp_met (by decide) (Nat.le_of_ble_eq_true rfl) hK0 ?_
  intro p e s m below meth cd ls hx hb hr hlocks hml hown hnm hts hK hPB hl hS hH hA
  have hl : lv_has ls 3 [(0, .ref o), (1, .long (nmJ x9))] := hl
  have hown : s.vm.findClass RX2 = some m.cls := hown
  have hn := hO.n
  have hmk := hO.mk
  have hrl := hO.rl
  have hrm := hO.rm
  have hsz := hO.sz
  refine lv_lload_n hx hb dX2_isNew_0 rfl (lv_at hl 1 rfl) ?_
  refine lv_ldc2 (v := -1) hx hb hown (hts _ q1699) dX2_isNew_1 ?_
  refine W.lcmp hx hb dX2_isNew_4 ?_
  refine lv_if_eq (tgt := 30) hx hb dX2_isNew_5 (by decide) (fun c0 => ?_) (fun c0 => ?_)
  · have c0 := (nmJ_m1 ho).mp (cmp_eq c0)
    subst c0
    refine lv_iconst (v := nI 0) hx hb dX2_isNew_30 (by decide) ?_
    exact hp_zret hx hb hr rfl hlocks hH hS (by decide) (by decide) dX2_isNew_31 (⟨congrArg some (congrArg Value.int (zI_0 (rfl))), rfl⟩)
  · have c0 := fun q => cmp_ne c0 ((nmJ_m1 ho).mpr q)
    obtain ⟨L, rfl⟩ := Option.ne_none_iff_exists'.mp c0
    have hL := ho L rfl
    refine lv_aload_n hx hb dX2_isNew_8 rfl (lv_at hl 0 rfl) ?_
    refine lv_lload_n hx hb dX2_isNew_9 rfl (lv_at hl 1 rfl) ?_
    refine hp_callV (As := [.long (codeL L)]) (rest := []) hx hb hml hown hts hPB hK hH hS (mt_guestOf hK0 hO hM hD hDO (L := L) (hL)) mset_o rfl rfl 1 (lw_V q1706 q1708 qs59 q107 q1709) (by decide +kernel) ⟨rfl, rfl⟩ (by decide) rfl hl.1 rfl (Nat.le_of_ble_eq_true rfl) (by decide) dX2_isNew_10 (fun v1 h3 H locs hp2 _ hH hS => ?_)
    obtain ⟨rfl, rfl⟩ := hp2
    refine lv_iconst (v := (-1)) hx hb dX2_isNew_13 (by decide) ?_
    refine lv_icmp_ne (tgt := 30) hx hb dX2_isNew_14 (by decide) (fun cg => ?_) (fun cg => ?_)
    · have cg : ¬ fnd dd.1 L = none := fun q => cg ((fnd_oI _ _ hDO.1.1 (by decide)).mpr q)
      refine lv_iconst (v := nI 0) hx hb dX2_isNew_30 (by decide) ?_
      exact hp_zret hx hb hr rfl hlocks hH hS (by decide) (by decide) dX2_isNew_31 (⟨congrArg some (congrArg Value.int (zI_0 (by unfold newB; dsimp only; cases hq : fnd dd.1 L; exact absurd hq cg; rfl))), rfl⟩)
    · have cg : fnd dd.1 L = none := (fnd_oI _ _ hDO.1.1 (by decide)).mp cg
      refine lv_aload_n hx hb dX2_isNew_17 rfl (lv_at hl 0 rfl) ?_
      refine lv_lload_n hx hb dX2_isNew_18 rfl (lv_at hl 1 rfl) ?_
      refine hp_callV (As := [.long (codeL L)]) (rest := []) hx hb hml hown hts hPB hK hH hS (mt_markOf hK0 hO hM hD hDO (L := L) (hL)) mset_o rfl rfl 1 (lw_V q1710 q1712 qs60 q107 q1713) (by decide +kernel) ⟨rfl, rfl⟩ (by decide) rfl hl.1 rfl (Nat.le_of_ble_eq_true rfl) (by decide) dX2_isNew_19 (fun v4 h6 H locs hp5 _ hH hS => ?_)
      obtain ⟨rfl, rfl⟩ := hp5
      refine lv_iconst (v := (-1)) hx hb dX2_isNew_22 (by decide) ?_
      refine lv_icmp_ne (tgt := 30) hx hb dX2_isNew_23 (by decide) (fun cm => ?_) (fun cm => ?_)
      · have cm : ¬ fnd (mkN dd) L = none := fun q => cm ((fnd_oI _ _ (mkN_len dd ▸ hDO.1.2.1) (by decide)).mpr q)
        refine lv_iconst (v := nI 0) hx hb dX2_isNew_30 (by decide) ?_
        exact hp_zret hx hb hr rfl hlocks hH hS (by decide) (by decide) dX2_isNew_31 (⟨congrArg some (congrArg Value.int (zI_0 (by unfold newB; dsimp only; rw [cg]; cases hq : fnd (mkN dd) L; exact absurd hq cm; rfl))), rfl⟩)
      · have cm : fnd (mkN dd) L = none := (fnd_oI _ _ (mkN_len dd ▸ hDO.1.2.1) (by decide)).mp cm
        refine lv_iconst (v := nI 1) hx hb dX2_isNew_26 (by decide) ?_
        refine lv_goto (tgt := 31) hx hb dX2_isNew_27 (by decide) ?_
        exact hp_zret hx hb hr rfl hlocks hH hS (by decide) (by decide) dX2_isNew_31 (⟨congrArg some (congrArg Value.int (zI_1 (by unfold newB; dsimp only; rw [cg, cm]; rfl))), rfl⟩)
set_option maxHeartbeats 4000000 in
theorem mt_guestRead (hK0 : va_K D CL (TYS K) s0) {S : Ab} (hO : SOK S) (hM : MOK S I V) {av : Nat → Nat} (hX : OX wd av (zA s0) s0 s0.heap) {tk : Tk} (hrp : rdP S tk I) {dd : Dr} (hD : drR dd V J) (hDO : drOK dd) (hg10 : dd.1.length < 10) : Met l yX2_guestRead (ws_ yX2_guestRead cX2_guestRead 3 ((Option.some Jvm.ClassFile.FieldType.boolean))) (rmk 6 0 0) (va_Pc [.ref o] (PB s0 D CL (mset h K wd o I V J))) (QR s0 D CL (fun v h1 => v = some (.int (zI (xk (rdG S dd tk)))) ∧ ∃ P U W, h1 = mset h K wd o P U W ∧ MOK S P U ∧ rdE S (rdG S dd tk) P U W)) 0 0 (zA s0) := by
  refine hp_met (by decide) (Nat.le_of_ble_eq_true rfl) hK0 ?_
  intro p e s m below meth cd ls hx hb hr hlocks hml hown hnm hts hK hPB hl hS hH hA
  have hl : lv_has ls 3 [(0, .ref o)] := hl
  have hown : s.vm.findClass RX2 = some m.cls := hown
  have hn := hO.n
  have hmk := hO.mk
  have hrl := hO.rl
  have hrm := hO.rm
  have hsz := hO.sz
  have htk := hrp.2.2.2
  have htk1 := htk.1
  have hD1 := hDO.1
  refine lv_aload_n hx hb dX2_guestRead_0 rfl (lv_at hl 0 rfl) ?_
  refine hp_callV (As := []) (rest := []) hx hb hml hown hts hPB hK hH hS (mt_named hK0 hO hM hX (tk := tk) hrp) mset_o rfl rfl 0 (lw_V q1695 q1697 qs57 q107 q1698) (by decide +kernel) ⟨rfl, rfl⟩ (by decide) rfl hl.1 rfl (Nat.le_of_ble_eq_true rfl) (by decide) dX2_guestRead_1 (fun v1 h3 H locs hp2 _ hH hS => ?_)
  obtain ⟨rfl, rfl⟩ := hp2
  refine lv_lstore_n (lv' := [(1, .long (nmJ (namS S tk))), (0, .ref o)]) hx hb dX2_guestRead_4 rfl hl (by decide) rfl (fun ls hl => ?_)
  refine lv_aload_n hx hb dX2_guestRead_5 rfl (lv_at hl 1 rfl) ?_
  refine lv_aload_n hx hb dX2_guestRead_6 rfl (lv_at hl 1 rfl) ?_
  refine lv_lload_n hx hb dX2_guestRead_7 rfl (lv_at hl 0 rfl) ?_
  refine hp_callV (As := [.long (nmJ (namS S tk))]) (rest := [.ref o]) hx hb hml hown hts hPB hK hH hS (mt_isNew hK0 hO hM hD hDO (nam_ok htk)) mset_o rfl rfl 1 (lw_V q1702 q1704 qs58 q107 q1705) (by decide +kernel) ⟨rfl, rfl⟩ (by decide) rfl hl.1 rfl (Nat.le_of_ble_eq_true rfl) (by decide) dX2_guestRead_8 (fun v4 h6 H locs hp5 _ hH hS => ?_)
  obtain ⟨rfl, rfl⟩ := hp5
  refine hp_callV (As := [.int (zI (newB dd (namS S tk)))]) (rest := []) hx hb hml hown hts hPB hK hH hS (mt_passes hK0 hO hM (tk := tk) hrp (newB dd (namS S tk))) mset_o rfl rfl 1 (lw_V q1687 q1689 qs55 q107 q1690) (by decide +kernel) ⟨rfl, rfl⟩ (by decide) rfl hl.1 rfl (Nat.le_of_ble_eq_true rfl) (by decide) dX2_guestRead_11 (fun v7 h9 H locs hp8 _ hH hS => ?_)
  obtain ⟨rfl, Prd, rfl, hM, hkrd, rd⟩ := hp8
  refine lvB_ne (tgt := 19) hx hb dX2_guestRead_14 (by decide) (fun cb => ?_) (fun cb => ?_)
  · rw [pas_t cb] at rd
    have rd : rdP S (nx S tk.2) Prd := rd
    obtain ⟨L, hLe⟩ := Option.isSome_iff_exists.mp (new_some cb)
    refine lv_aload_n hx hb dX2_guestRead_19 rfl (lv_at hl 1 rfl) ?_
    refine m_get hx hb hts hown hK hH 6 (by decide) q1458 rfl (v := .ref (o + 2)) rfl dX2_guestRead_20 ?_
    refine lv_iconst (v := nI 1) hx hb dX2_guestRead_23 (by decide) ?_
    refine m_rowJ (k' := 4) hx hb hK hH (by decide) rfl (by decide) (by decide) rfl dX2_guestRead_24 ?_
    refine lv_aload_n hx hb dX2_guestRead_25 rfl (lv_at hl 1 rfl) ?_
    refine m_get hx hb hts hown hK hH 15 (by decide) q1467 rfl (v := .ref (o + 29)) rfl dX2_guestRead_26 ?_
    refine lv_iconst (v := nI 1) hx hb dX2_guestRead_29 (by decide) ?_
    refine m_iald (n := 2) (j := 1) (v := nI dd.1.length) hx hb hK hH (by decide) rfl (by first | omega | (refine Nat.lt_of_lt_of_le (Nat.mod_lt _ ?_) ?_ <;> omega)) (by decide) (hD.1.1) dX2_guestRead_30 ?_
    refine lv_lload_n hx hb dX2_guestRead_31 rfl (lv_at hl 0 rfl) ?_
    refine m_last (n := 10) (j := dd.1.length) hx hb hK hH hS (by decide) rfl (by first | omega | (refine Nat.lt_of_lt_of_le (Nat.mod_lt _ ?_) ?_ <;> omega)) (by decide) dX2_guestRead_32 (fun H locs hH hS => ?_)
    refine lv_aload_n hx hb dX2_guestRead_33 rfl (lv_at hl 1 rfl) ?_
    refine m_get hx hb hts hown hK hH 15 (by decide) q1467 rfl (v := .ref (o + 29)) rfl dX2_guestRead_34 ?_
    refine lv_iconst (v := nI 1) hx hb dX2_guestRead_37 (by decide) ?_
    refine lv_dup2_11 hx hb dX2_guestRead_38 rfl rfl ?_
    refine m_iald (n := 2) (j := 1) (v := nI dd.1.length) hx hb hK hH (by decide) rfl (by first | omega | (refine Nat.lt_of_lt_of_le (Nat.mod_lt _ ?_) ?_ <;> omega)) (by decide) (hD.1.1) dX2_guestRead_39 ?_
    refine lv_iconst (v := nI 1) hx hb dX2_guestRead_40 (by decide) ?_
    refine lv_iadd hx hb dX2_guestRead_41 ?_
    refine lv_top (y := nI (dd.1.length + 1)) (nI_add _ _) ?_
    refine m_iast (n := 2) (j := 1) hx hb hK hH hS (by decide) rfl (by first | omega | (refine Nat.lt_of_lt_of_le (Nat.mod_lt _ ?_) ?_ <;> omega)) (by decide) dX2_guestRead_42 (fun H locs hH hS => ?_)
    have hM := hM.w1 (k := 29) (by decide) (nI (dd.1.length + 1))
    refine lv_aload_n hx hb dX2_guestRead_43 rfl (lv_at hl 1 rfl) ?_
    refine hp_callV (As := []) (rest := []) hx hb hml hown hts hPB hK hH hS (mt_closes hK0 hO hM (tk := (nx S tk.2)) rd) mset_o rfl rfl 0 (lw_V q1714 q1716 qs61 q107 q1717) (by decide +kernel) ⟨rfl, rfl⟩ (by decide) rfl hl.1 rfl (Nat.le_of_ble_eq_true rfl) (by decide) dX2_guestRead_44 (fun v10 h12 H locs hp11 _ hH hS => ?_)
    obtain ⟨rfl, Prd2, rfl, hM, hkrd2, rd2⟩ := hp11
    exact hp_zret hx hb hr (zI_nar _) hlocks hH hS (by decide) (by decide) dX2_guestRead_47 (⟨by rw [rdG, pas_t cb, xb_ok]; exact xk_cl _ _, _, _, _, rfl, hM, by rw [rdG, pas_t cb, xb_ok]; exact rdE_cl rd2 (by rw [hLe]; exact drR_G hD L) (addG_ok hDO (new_nm htk cb).1 hg10)⟩)
  · rw [pas_f cb] at rd
    have rd : Prd 4 = nI tk.1 ∧ tk.1 ≤ aSz S := rd
    refine lv_iconst (v := nI 0) hx hb dX2_guestRead_17 (by decide) ?_
    exact hp_zret hx hb hr rfl hlocks hH hS (by decide) (by decide) dX2_guestRead_18 (⟨by rw [rdG, pas_f cb]; rfl, _, _, _, rfl, hM, by rw [rdG, pas_f cb]; exact rd⟩)
end MODEL
