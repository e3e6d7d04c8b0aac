/-! by gen/mspec.py -/
set_option maxRecDepth 100000
section MODEL
variable {l : Launch} {s0 : State} {D : va_G} {K : Nat → ClassId} {wd : Nat → Nat} {o : Nat} {h : Hp} {I : Nat → Int32} {V : Nat → Nat → Int32} {J : Nat → Nat → Int64}
set_option maxHeartbeats 4000000 in
theorem mt_between (hK0 : va_K D CL (TYS K) s0) {S : Ab} (hO : SOK S) (hM : MOK S I V) {k : Nat} (lo hi : Int32) (hk : k ≤ 700) : Met l yX2_between (ws_ yX2_between cX2_between 4 ((Option.some Jvm.ClassFile.FieldType.boolean))) (rmk 0 0 0) (va_Pc [.ref o, .int (nI k), .int lo, .int hi] (PB s0 D CL (mset h K wd o I V J))) (QR s0 D CL (fun v h1 => v = some (.int (zI (inR S k lo hi))) ∧ h1 = mset h K wd o I V J)) 0 0 (zA s0) := by
  refine hp_met (by decide) (Nat.le_of_ble_eq_true rfl) hK0 ?_
  intro p e s m below meth cd ls hx hb hr hlocks hml hown hnm hts hK hPB hl hS hH hA
  have hl : lv_has ls 4 [(0, .ref o), (1, .int (nI k)), (2, .int lo), (3, .int hi)] := hl
  have hown : s.vm.findClass RX2 = some m.cls := hown
  have hn := hO.n
  have hmk := hO.mk
  have hrl := hO.rl
  have hrm := hO.rm
  have hsz := hO.sz
  refine lv_iload_n hx hb dX2_between_0 rfl (lv_at hl 1 rfl) ?_
  refine lv_aload_n hx hb dX2_between_1 rfl (lv_at hl 0 rfl) ?_
  refine m_get hx hb hts hown hK hH 1 (by decide) q1453 rfl (v := .int (nI (aSz S))) (congrArg Value.int (hM.sz)) dX2_between_2 ?_
  refine lvN_ge (tgt := 32) hx hb (by first | omega | (refine Nat.lt_of_lt_of_le (Nat.mod_lt _ ?_) ?_ <;> omega)) (by first | omega | (refine Nat.lt_of_lt_of_le (Nat.mod_lt _ ?_) ?_ <;> omega)) dX2_between_5 (by decide) (fun c1 => ?_) (fun c1 => ?_)
  · refine lv_iconst (v := nI 0) hx hb dX2_between_32 (by decide) ?_
    exact hp_zret hx hb hr rfl hlocks hH hS (by decide) (by decide) dX2_between_33 (⟨congrArg some (congrArg Value.int (zI_0 (by unfold inR; rw [decide_eq_false (show ¬ k < aSz S by omega)]; simp))), rfl⟩)
  · refine lv_aload_n hx hb dX2_between_8 rfl (lv_at hl 0 rfl) ?_
    refine m_get hx hb hts hown hK hH 0 (by decide) q1452 rfl (v := .ref (o + 1)) rfl dX2_between_9 ?_
    refine lv_iload_n hx hb dX2_between_12 rfl (lv_at hl 1 rfl) ?_
    refine m_bald (n := 700) (j := k) (v := aTx S (k)) hx hb hK hH (by decide) rfl (by first | omega | (refine Nat.lt_of_lt_of_le (Nat.mod_lt _ ?_) ?_ <;> omega)) (by decide) (hM.tx (by omega)) dX2_between_13 ?_
    refine lv_iload_n hx hb dX2_between_14 rfl (lv_at hl 2 rfl) ?_
    refine lv_icmp_lt (tgt := 32) hx hb dX2_between_15 (by decide) (fun cb => ?_) (fun cb => ?_)
    · refine lv_iconst (v := nI 0) hx hb dX2_between_32 (by decide) ?_
      exact hp_zret hx hb hr rfl hlocks hH hS (by decide) (by decide) dX2_between_33 (⟨congrArg some (congrArg Value.int (zI_0 (by unfold inR; rw [decide_eq_false (Int32.not_le.mpr cb)]; simp))), rfl⟩)
    · refine lv_aload_n hx hb dX2_between_18 rfl (lv_at hl 0 rfl) ?_
      refine m_get hx hb hts hown hK hH 0 (by decide) q1452 rfl (v := .ref (o + 1)) rfl dX2_between_19 ?_
      refine lv_iload_n hx hb dX2_between_22 rfl (lv_at hl 1 rfl) ?_
      refine m_bald (n := 700) (j := k) (v := aTx S (k)) hx hb hK hH (by decide) rfl (by first | omega | (refine Nat.lt_of_lt_of_le (Nat.mod_lt _ ?_) ?_ <;> omega)) (by decide) (hM.tx (by omega)) dX2_between_23 ?_
      refine lv_iload_n hx hb dX2_between_24 rfl (lv_at hl 3 rfl) ?_
      refine lv_icmp_gt (tgt := 32) hx hb dX2_between_25 (by decide) (fun cc => ?_) (fun cc => ?_)
      · refine lv_iconst (v := nI 0) hx hb dX2_between_32 (by decide) ?_
        exact hp_zret hx hb hr rfl hlocks hH hS (by decide) (by decide) dX2_between_33 (⟨congrArg some (congrArg Value.int (zI_0 (by unfold inR; rw [decide_eq_false (Int32.not_le.mpr cc)]; simp))), rfl⟩)
      · refine lv_iconst (v := nI 1) hx hb dX2_between_28 (by decide) ?_
        refine lv_goto (tgt := 33) hx hb dX2_between_29 (by decide) ?_
        exact hp_zret hx hb hr rfl hlocks hH hS (by decide) (by decide) dX2_between_33 (⟨congrArg some (congrArg Value.int (zI_1 (by unfold inR; rw [decide_eq_true (show k < aSz S by omega), decide_eq_true (Int32.not_lt.mp cb), decide_eq_true (Int32.not_lt.mp cc)]; rfl))), rfl⟩)
set_option maxHeartbeats 4000000 in
theorem mt_next (hK0 : va_K D CL (TYS K) s0) {S : Ab} (hO : SOK S) (hM : MOK S I V) {t : Nat} (h3 : I 3 = nI t) (ht : t ≤ aSz S) : Met l yX2_next (ws_ yX2_next cX2_next 1 ((Option.none : Option Jvm.ClassFile.FieldType))) (rmk 1 0 0) (va_Pc [.ref o] (PB s0 D CL (mset h K wd o I V J))) (QR s0 D CL (fun v h1 => v = none ∧ ∃ P, h1 = mset h K wd o P V J ∧ MOK S P V ∧ kp [2, 3] I P ∧ P 2 = nI (nx S t).1 ∧ P 3 = nI (nx S t).2)) 0 0 (zA s0) := by
  refine hp_met (by decide) (Nat.le_of_ble_eq_true rfl) hK0 ?_
  intro p e s m below meth cd ls hx hb hr hlocks hml hown hnm hts hK hPB hl hS hH hA
  have hl : lv_has ls 1 [(0, .ref o)] := hl
  have hown : s.vm.findClass RX2 = some m.cls := hown
  have hn := hO.n
  have hmk := hO.mk
  have hrl := hO.rl
  have hrm := hO.rm
  have hsz := hO.sz
  refine lv_aload_n hx hb dX2_next_0 rfl (lv_at hl 0 rfl) ?_
  refine lv_aload_n hx hb dX2_next_1 rfl (lv_at hl 0 rfl) ?_
  refine m_get hx hb hts hown hK hH 3 (by decide) q1455 rfl (v := .int (nI t)) (congrArg Value.int (h3)) dX2_next_2 ?_
  refine m_put (ty := .int) hx hb hts hown hK hH hS 2 (by decide) q1454 rfl rfl rfl (by decide +kernel) rfl rfl dX2_next_5 (fun H locs hH hS => ?_)
  have hM := hM.iS (k := 2) (by decide) (nI t)
  refine w_loop2 (fun (a : Nat) (P : Nat → Int32) => aSz S - a) (fun (a : Nat) (P : Nat → Int32) H locs ls => (t ≤ a ∧ a ≤ aSz S) ∧ (nxA S t = skp S (isSp S) a) ∧ (P 2 = nI a) ∧ (kp [2, 3] I P) ∧ (MOK S P V) ∧ HP D CL (zA s0) (mset h K wd o P V J) H ∧ va_S (zA s0) s.heap H locs ∧ lv_has ls 1 [(0, .ref o)]) ?_ t (va_up I 2 (nI t)) ⟨⟨Nat.le_refl _, ht⟩, rfl, va_up_self _ _ _, kp.rf.up (by decide) _, hM, hH, hS, lv_sub hl [0] rfl⟩
  intro a P ih8 H locs ls hP
  obtain ⟨haa, hsk, e2, hkI, hM, hH, hS, hl⟩ := hP
  refine lv_aload_n hx hb dX2_next_8 rfl (lv_at hl 0 rfl) ?_
  refine m_get hx hb hts hown hK hH 2 (by decide) q1454 rfl (v := .int (nI a)) (congrArg Value.int (e2)) dX2_next_9 ?_
  refine lv_aload_n hx hb dX2_next_12 rfl (lv_at hl 0 rfl) ?_
  refine m_get hx hb hts hown hK hH 1 (by decide) q1453 rfl (v := .int (nI (aSz S))) (congrArg Value.int (hM.sz)) dX2_next_13 ?_
  refine lvN_ge (tgt := 60) hx hb (by first | omega | (refine Nat.lt_of_lt_of_le (Nat.mod_lt _ ?_) ?_ <;> omega)) (by first | omega | (refine Nat.lt_of_lt_of_le (Nat.mod_lt _ ?_) ?_ <;> omega)) dX2_next_16 (by decide) (fun ca => ?_) (fun ca => ?_)
  · have ea : nxA S t = a := by rw [hsk, skp_f (isSp_3 (by omega))]
    refine lv_aload_n hx hb dX2_next_60 rfl (lv_at hl 0 rfl) ?_
    refine lv_aload_n hx hb dX2_next_61 rfl (lv_at hl 0 rfl) ?_
    refine m_get hx hb hts hown hK hH 2 (by decide) q1454 rfl (v := .int (nI a)) (congrArg Value.int (e2)) dX2_next_62 ?_
    refine m_put (ty := .int) hx hb hts hown hK hH hS 3 (by decide) q1455 rfl rfl rfl (by decide +kernel) rfl rfl dX2_next_65 (fun H locs hH hS => ?_)
    have hM := hM.iS (k := 3) (by decide) (nI a)
    refine lv_aload_n hx hb dX2_next_68 rfl (lv_at hl 0 rfl) ?_
    refine lv_aload_n hx hb dX2_next_69 rfl (lv_at hl 0 rfl) ?_
    refine m_get hx hb hts hown hK hH 2 (by decide) q1454 rfl (v := .int (nI a)) (congrArg Value.int ((va_up_ne _ _ (by decide)).trans (e2))) dX2_next_70 ?_
    refine lv_bipush (v := nI 97) hx hb dX2_next_73 (by decide) ?_
    refine lv_bipush (v := nI 122) hx hb dX2_next_75 (by decide) ?_
    refine hp_callV (As := [.int (nI a), .int (nI 97), .int (nI 122)]) (rest := []) hx hb hml hown hts hPB hK hH hS (mt_between hK0 hO hM (k := a) 97 122 (by omega)) mset_o rfl rfl 3 (lw_V q1673 q1675 qs52 q107 q1676) (by decide +kernel) ⟨rfl, rfl⟩ (by decide) rfl hl.1 rfl (Nat.le_of_ble_eq_true rfl) (by decide) dX2_next_77 (fun v1 h3 H locs hp2 _ hH hS => ?_)
    obtain ⟨rfl, rfl⟩ := hp2
    refine lvB_eq (tgt := 111) hx hb dX2_next_80 (by decide) (fun cl => ?_) (fun cl => ?_)
    · refine lv_aload_n hx hb dX2_next_111 rfl (lv_at hl 0 rfl) ?_
      refine lv_aload_n hx hb dX2_next_112 rfl (lv_at hl 0 rfl) ?_
      refine m_get hx hb hts hown hK hH 2 (by decide) q1454 rfl (v := .int (nI a)) (congrArg Value.int ((va_up_ne _ _ (by decide)).trans (e2))) dX2_next_113 ?_
      refine lv_bipush (v := nI 48) hx hb dX2_next_116 (by decide) ?_
      refine lv_bipush (v := nI 57) hx hb dX2_next_118 (by decide) ?_
      refine hp_callV (As := [.int (nI a), .int (nI 48), .int (nI 57)]) (rest := []) hx hb hml hown hts hPB hK hH hS (mt_between hK0 hO hM (k := a) 48 57 (by omega)) mset_o rfl rfl 3 (lw_V q1673 q1675 qs52 q107 q1676) (by decide +kernel) ⟨rfl, rfl⟩ (by decide) rfl hl.1 rfl (Nat.le_of_ble_eq_true rfl) (by decide) dX2_next_120 (fun v4 h6 H locs hp5 _ hH hS => ?_)
      obtain ⟨rfl, rfl⟩ := hp5
      refine lvB_eq (tgt := 154) hx hb dX2_next_123 (by decide) (fun cd2 => ?_) (fun cd2 => ?_)
      · refine lv_aload_n hx hb dX2_next_154 rfl (lv_at hl 0 rfl) ?_
        refine m_get hx hb hts hown hK hH 2 (by decide) q1454 rfl (v := .int (nI a)) (congrArg Value.int ((va_up_ne _ _ (by decide)).trans (e2))) dX2_next_155 ?_
        refine lv_aload_n hx hb dX2_next_158 rfl (lv_at hl 0 rfl) ?_
        refine m_get hx hb hts hown hK hH 1 (by decide) q1453 rfl (v := .int (nI (aSz S))) (congrArg Value.int (hM.sz)) dX2_next_159 ?_
        refine lvN_ge (tgt := 175) hx hb (by first | omega | (refine Nat.lt_of_lt_of_le (Nat.mod_lt _ ?_) ?_ <;> omega)) (by first | omega | (refine Nat.lt_of_lt_of_le (Nat.mod_lt _ ?_) ?_ <;> omega)) dX2_next_162 (by decide) (fun c7 => ?_) (fun c7 => ?_)
        · exact hp_vret hx hb hr hlocks hH hS (by decide) (by decide) dX2_next_175 (⟨rfl, _, rfl, hM, hkI.up (by decide) _, by rw [nx_4 ea cl cd2 (by omega)]; exact (va_up_ne _ _ (by decide)).trans (e2), by rw [nx_4 ea cl cd2 (by omega)]; exact va_up_self _ _ _⟩)
        · refine lv_aload_n hx hb dX2_next_165 rfl (lv_at hl 0 rfl) ?_
          refine lv_dup hx hb dX2_next_166 rfl ?_
          refine m_get hx hb hts hown hK hH 3 (by decide) q1455 rfl (v := .int (nI a)) (congrArg Value.int (va_up_self _ _ _)) dX2_next_167 ?_
          refine lv_iconst (v := nI 1) hx hb dX2_next_170 (by decide) ?_
          refine lv_iadd hx hb dX2_next_171 ?_
          refine lv_top (y := nI (a + 1)) (nI_add _ _) ?_
          refine m_put (ty := .int) hx hb hts hown hK hH hS 3 (by decide) q1455 rfl rfl rfl (by decide +kernel) rfl rfl dX2_next_172 (fun H locs hH hS => ?_)
          have hM := hM.iS (k := 3) (by decide) (nI (a + 1))
          exact hp_vret hx hb hr hlocks hH hS (by decide) (by decide) dX2_next_175 (⟨rfl, _, rfl, hM, (hkI.up (by decide) _).up (by decide) _, by rw [nx_3 ea cl cd2 (by omega)]; exact (va_up_ne _ _ (by decide)).trans ((va_up_ne _ _ (by decide)).trans (e2)), by rw [nx_3 ea cl cd2 (by omega)]; exact va_up_self _ _ _⟩)
      · refine w_loop2 (fun (b : Nat) (P : Nat → Int32) => aSz S - b) (fun (b : Nat) (P : Nat → Int32) H locs ls => (a ≤ b ∧ b ≤ aSz S) ∧ (skp S (fun k => inR S k 48 57) a = skp S (fun k => inR S k 48 57) b) ∧ (P 2 = nI a) ∧ (P 3 = nI b) ∧ (kp [2, 3] I P) ∧ (MOK S P V) ∧ HP D CL (zA s0) (mset h K wd o P V J) H ∧ va_S (zA s0) s.heap H locs ∧ lv_has ls 1 [(0, .ref o)]) ?_ a (va_up P 3 (nI a)) ⟨⟨Nat.le_refl _, by omega⟩, rfl, (va_up_ne _ _ (by decide)).trans (e2), va_up_self _ _ _, hkI.up (by decide) _, hM, hH, hS, lv_sub hl [0] rfl⟩
        intro b P ih126 H locs ls hP
        obtain ⟨hbb, hskb, e2, e3, hkI, hM, hH, hS, hl⟩ := hP
        refine lv_aload_n hx hb dX2_next_126 rfl (lv_at hl 0 rfl) ?_
        refine lv_aload_n hx hb dX2_next_127 rfl (lv_at hl 0 rfl) ?_
        refine m_get hx hb hts hown hK hH 3 (by decide) q1455 rfl (v := .int (nI b)) (congrArg Value.int (e3)) dX2_next_128 ?_
        refine lv_bipush (v := nI 48) hx hb dX2_next_131 (by decide) ?_
        refine lv_bipush (v := nI 57) hx hb dX2_next_133 (by decide) ?_
        refine hp_callV (As := [.int (nI b), .int (nI 48), .int (nI 57)]) (rest := []) hx hb hml hown hts hPB hK hH hS (mt_between hK0 hO hM (k := b) 48 57 (by omega)) mset_o rfl rfl 3 (lw_V q1673 q1675 qs52 q107 q1676) (by decide +kernel) ⟨rfl, rfl⟩ (by decide) rfl hl.1 rfl (Nat.le_of_ble_eq_true rfl) (by decide) dX2_next_135 (fun v8 h10 H locs hp9 _ hH hS => ?_)
        obtain ⟨rfl, rfl⟩ := hp9
        refine lvB_eq (tgt := 175) hx hb dX2_next_138 (by decide) (fun cb => ?_) (fun cb => ?_)
        · exact hp_vret hx hb hr hlocks hH hS (by decide) (by decide) dX2_next_175 (⟨rfl, _, rfl, hM, hkI, by rw [nx_2 ea cl cd2 (hskb.trans (skp_f cb))]; exact e2, by rw [nx_2 ea cl cd2 (hskb.trans (skp_f cb))]; exact e3⟩)
        · refine lv_aload_n hx hb dX2_next_141 rfl (lv_at hl 0 rfl) ?_
          refine lv_dup hx hb dX2_next_142 rfl ?_
          refine m_get hx hb hts hown hK hH 3 (by decide) q1455 rfl (v := .int (nI b)) (congrArg Value.int (e3)) dX2_next_143 ?_
          refine lv_iconst (v := nI 1) hx hb dX2_next_146 (by decide) ?_
          refine lv_iadd hx hb dX2_next_147 ?_
          refine lv_top (y := nI (b + 1)) (nI_add _ _) ?_
          refine m_put (ty := .int) hx hb hts hown hK hH hS 3 (by decide) q1455 rfl rfl rfl (by decide +kernel) rfl rfl dX2_next_148 (fun H locs hH hS => ?_)
          have hM := hM.iS (k := 3) (by decide) (nI (b + 1))
          refine lv_goto (tgt := 126) hx hb dX2_next_151 (by decide) ?_
          exact ih126 (b + 1) _ (by have := (inR_lt cb).1; omega) H locs ls ⟨⟨by omega, by have := (inR_lt cb).1; omega⟩, hskb.trans (skp_t cb (inR_lt cb).1), (va_up_ne _ _ (by decide)).trans (e2), va_up_self _ _ _, hkI.up (by decide) _, hM, hH, hS, lv_sub hl [0] rfl⟩
    · refine w_loop2 (fun (b : Nat) (P : Nat → Int32) => aSz S - b) (fun (b : Nat) (P : Nat → Int32) H locs ls => (a ≤ b ∧ b ≤ aSz S) ∧ (skp S (fun k => inR S k 97 122) a = skp S (fun k => inR S k 97 122) b) ∧ (P 2 = nI a) ∧ (P 3 = nI b) ∧ (kp [2, 3] I P) ∧ (MOK S P V) ∧ HP D CL (zA s0) (mset h K wd o P V J) H ∧ va_S (zA s0) s.heap H locs ∧ lv_has ls 1 [(0, .ref o)]) ?_ a (va_up P 3 (nI a)) ⟨⟨Nat.le_refl _, by omega⟩, rfl, (va_up_ne _ _ (by decide)).trans (e2), va_up_self _ _ _, hkI.up (by decide) _, hM, hH, hS, lv_sub hl [0] rfl⟩
      intro b P ih83 H locs ls hP
      obtain ⟨hbb, hskb, e2, e3, hkI, hM, hH, hS, hl⟩ := hP
      refine lv_aload_n hx hb dX2_next_83 rfl (lv_at hl 0 rfl) ?_
      refine lv_aload_n hx hb dX2_next_84 rfl (lv_at hl 0 rfl) ?_
      refine m_get hx hb hts hown hK hH 3 (by decide) q1455 rfl (v := .int (nI b)) (congrArg Value.int (e3)) dX2_next_85 ?_
      refine lv_bipush (v := nI 97) hx hb dX2_next_88 (by decide) ?_
      refine lv_bipush (v := nI 122) hx hb dX2_next_90 (by decide) ?_
      refine hp_callV (As := [.int (nI b), .int (nI 97), .int (nI 122)]) (rest := []) hx hb hml hown hts hPB hK hH hS (mt_between hK0 hO hM (k := b) 97 122 (by omega)) mset_o rfl rfl 3 (lw_V q1673 q1675 qs52 q107 q1676) (by decide +kernel) ⟨rfl, rfl⟩ (by decide) rfl hl.1 rfl (Nat.le_of_ble_eq_true rfl) (by decide) dX2_next_92 (fun v11 h13 H locs hp12 _ hH hS => ?_)
      obtain ⟨rfl, rfl⟩ := hp12
      refine lvB_eq (tgt := 175) hx hb dX2_next_95 (by decide) (fun cb => ?_) (fun cb => ?_)
      · exact hp_vret hx hb hr hlocks hH hS (by decide) (by decide) dX2_next_175 (⟨rfl, _, rfl, hM, hkI, by rw [nx_1 ea cl (hskb.trans (skp_f cb))]; exact e2, by rw [nx_1 ea cl (hskb.trans (skp_f cb))]; exact e3⟩)
      · refine lv_aload_n hx hb dX2_next_98 rfl (lv_at hl 0 rfl) ?_
        refine lv_dup hx hb dX2_next_99 rfl ?_
        refine m_get hx hb hts hown hK hH 3 (by decide) q1455 rfl (v := .int (nI b)) (congrArg Value.int (e3)) dX2_next_100 ?_
        refine lv_iconst (v := nI 1) hx hb dX2_next_103 (by decide) ?_
        refine lv_iadd hx hb dX2_next_104 ?_
        refine lv_top (y := nI (b + 1)) (nI_add _ _) ?_
        refine m_put (ty := .int) hx hb hts hown hK hH hS 3 (by decide) q1455 rfl rfl rfl (by decide +kernel) rfl rfl dX2_next_105 (fun H locs hH hS => ?_)
        have hM := hM.iS (k := 3) (by decide) (nI (b + 1))
        refine lv_goto (tgt := 83) hx hb dX2_next_108 (by decide) ?_
        exact ih83 (b + 1) _ (by have := (inR_lt cb).1; omega) H locs ls ⟨⟨by omega, by have := (inR_lt cb).1; omega⟩, hskb.trans (skp_t cb (inR_lt cb).1), (va_up_ne _ _ (by decide)).trans (e2), va_up_self _ _ _, hkI.up (by decide) _, hM, hH, hS, lv_sub hl [0] rfl⟩
  · refine lv_aload_n hx hb dX2_next_19 rfl (lv_at hl 0 rfl) ?_
    refine m_get hx hb hts hown hK hH 0 (by decide) q1452 rfl (v := .ref (o + 1)) rfl dX2_next_20 ?_
    refine lv_aload_n hx hb dX2_next_23 rfl (lv_at hl 0 rfl) ?_
    refine m_get hx hb hts hown hK hH 2 (by decide) q1454 rfl (v := .int (nI a)) (congrArg Value.int (e2)) dX2_next_24 ?_
    refine m_bald (n := 700) (j := a) (v := aTx S (a)) hx hb hK hH (by decide) rfl (by first | omega | (refine Nat.lt_of_lt_of_le (Nat.mod_lt _ ?_) ?_ <;> omega)) (by decide) (hM.tx (by omega)) dX2_next_27 ?_
    refine lv_bipush (v := nI 32) hx hb dX2_next_28 (by decide) ?_
    refine lv_icmp_eq (tgt := 47) hx hb dX2_next_30 (by decide) (fun cs => ?_) (fun cs => ?_)
    · refine lv_aload_n hx hb dX2_next_47 rfl (lv_at hl 0 rfl) ?_
      refine lv_dup hx hb dX2_next_48 rfl ?_
      refine m_get hx hb hts hown hK hH 2 (by decide) q1454 rfl (v := .int (nI a)) (congrArg Value.int (e2)) dX2_next_49 ?_
      refine lv_iconst (v := nI 1) hx hb dX2_next_52 (by decide) ?_
      refine lv_iadd hx hb dX2_next_53 ?_
      refine lv_top (y := nI (a + 1)) (nI_add _ _) ?_
      refine m_put (ty := .int) hx hb hts hown hK hH hS 2 (by decide) q1454 rfl rfl rfl (by decide +kernel) rfl rfl dX2_next_54 (fun H locs hH hS => ?_)
      have hM := hM.iS (k := 2) (by decide) (nI (a + 1))
      refine lv_goto (tgt := 8) hx hb dX2_next_57 (by decide) ?_
      exact ih8 (a + 1) _ (by omega) H locs ls ⟨by omega, hsk.trans (skp_t (isSp_1 (by omega) cs) (by omega)), va_up_self _ _ _, hkI.up (by decide) _, hM, hH, hS, lv_sub hl [0] rfl⟩
    · refine lv_aload_n hx hb dX2_next_33 rfl (lv_at hl 0 rfl) ?_
      refine m_get hx hb hts hown hK hH 0 (by decide) q1452 rfl (v := .ref (o + 1)) rfl dX2_next_34 ?_
      refine lv_aload_n hx hb dX2_next_37 rfl (lv_at hl 0 rfl) ?_
      refine m_get hx hb hts hown hK hH 2 (by decide) q1454 rfl (v := .int (nI a)) (congrArg Value.int (e2)) dX2_next_38 ?_
      refine m_bald (n := 700) (j := a) (v := aTx S (a)) hx hb hK hH (by decide) rfl (by first | omega | (refine Nat.lt_of_lt_of_le (Nat.mod_lt _ ?_) ?_ <;> omega)) (by decide) (hM.tx (by omega)) dX2_next_41 ?_
      refine lv_bipush (v := nI 10) hx hb dX2_next_42 (by decide) ?_
      refine lv_icmp_ne (tgt := 60) hx hb dX2_next_44 (by decide) (fun cn => ?_) (fun cn => ?_)
      · have ea : nxA S t = a := by rw [hsk, skp_f (isSp_4 cs cn)]
        refine lv_aload_n hx hb dX2_next_60 rfl (lv_at hl 0 rfl) ?_
        refine lv_aload_n hx hb dX2_next_61 rfl (lv_at hl 0 rfl) ?_
        refine m_get hx hb hts hown hK hH 2 (by decide) q1454 rfl (v := .int (nI a)) (congrArg Value.int (e2)) dX2_next_62 ?_
        refine m_put (ty := .int) hx hb hts hown hK hH hS 3 (by decide) q1455 rfl rfl rfl (by decide +kernel) rfl rfl dX2_next_65 (fun H locs hH hS => ?_)
        have hM := hM.iS (k := 3) (by decide) (nI a)
        refine lv_aload_n hx hb dX2_next_68 rfl (lv_at hl 0 rfl) ?_
        refine lv_aload_n hx hb dX2_next_69 rfl (lv_at hl 0 rfl) ?_
        refine m_get hx hb hts hown hK hH 2 (by decide) q1454 rfl (v := .int (nI a)) (congrArg Value.int ((va_up_ne _ _ (by decide)).trans (e2))) dX2_next_70 ?_
        refine lv_bipush (v := nI 97) hx hb dX2_next_73 (by decide) ?_
        refine lv_bipush (v := nI 122) hx hb dX2_next_75 (by decide) ?_
        refine hp_callV (As := [.int (nI a), .int (nI 97), .int (nI 122)]) (rest := []) hx hb hml hown hts hPB hK hH hS (mt_between hK0 hO hM (k := a) 97 122 (by omega)) mset_o rfl rfl 3 (lw_V q1673 q1675 qs52 q107 q1676) (by decide +kernel) ⟨rfl, rfl⟩ (by decide) rfl hl.1 rfl (Nat.le_of_ble_eq_true rfl) (by decide) dX2_next_77 (fun v14 h16 H locs hp15 _ hH hS => ?_)
        obtain ⟨rfl, rfl⟩ := hp15
        refine lvB_eq (tgt := 111) hx hb dX2_next_80 (by decide) (fun cl => ?_) (fun cl => ?_)
        · refine lv_aload_n hx hb dX2_next_111 rfl (lv_at hl 0 rfl) ?_
          refine lv_aload_n hx hb dX2_next_112 rfl (lv_at hl 0 rfl) ?_
          refine m_get hx hb hts hown hK hH 2 (by decide) q1454 rfl (v := .int (nI a)) (congrArg Value.int ((va_up_ne _ _ (by decide)).trans (e2))) dX2_next_113 ?_
          refine lv_bipush (v := nI 48) hx hb dX2_next_116 (by decide) ?_
          refine lv_bipush (v := nI 57) hx hb dX2_next_118 (by decide) ?_
          refine hp_callV (As := [.int (nI a), .int (nI 48), .int (nI 57)]) (rest := []) hx hb hml hown hts hPB hK hH hS (mt_between hK0 hO hM (k := a) 48 57 (by omega)) mset_o rfl rfl 3 (lw_V q1673 q1675 qs52 q107 q1676) (by decide +kernel) ⟨rfl, rfl⟩ (by decide) rfl hl.1 rfl (Nat.le_of_ble_eq_true rfl) (by decide) dX2_next_120 (fun v17 h19 H locs hp18 _ hH hS => ?_)
          obtain ⟨rfl, rfl⟩ := hp18
          refine lvB_eq (tgt := 154) hx hb dX2_next_123 (by decide) (fun cd2 => ?_) (fun cd2 => ?_)
          · refine lv_aload_n hx hb dX2_next_154 rfl (lv_at hl 0 rfl) ?_
            refine m_get hx hb hts hown hK hH 2 (by decide) q1454 rfl (v := .int (nI a)) (congrArg Value.int ((va_up_ne _ _ (by decide)).trans (e2))) dX2_next_155 ?_
            refine lv_aload_n hx hb dX2_next_158 rfl (lv_at hl 0 rfl) ?_
            refine m_get hx hb hts hown hK hH 1 (by decide) q1453 rfl (v := .int (nI (aSz S))) (congrArg Value.int (hM.sz)) dX2_next_159 ?_
            refine lvN_ge (tgt := 175) hx hb (by first | omega | (refine Nat.lt_of_lt_of_le (Nat.mod_lt _ ?_) ?_ <;> omega)) (by first | omega | (refine Nat.lt_of_lt_of_le (Nat.mod_lt _ ?_) ?_ <;> omega)) dX2_next_162 (by decide) (fun c20 => ?_) (fun c20 => ?_)
            · exact hp_vret hx hb hr hlocks hH hS (by decide) (by decide) dX2_next_175 (⟨rfl, _, rfl, hM, hkI.up (by decide) _, by rw [nx_4 ea cl cd2 (by omega)]; exact (va_up_ne _ _ (by decide)).trans (e2), by rw [nx_4 ea cl cd2 (by omega)]; exact va_up_self _ _ _⟩)
            · refine lv_aload_n hx hb dX2_next_165 rfl (lv_at hl 0 rfl) ?_
              refine lv_dup hx hb dX2_next_166 rfl ?_
              refine m_get hx hb hts hown hK hH 3 (by decide) q1455 rfl (v := .int (nI a)) (congrArg Value.int (va_up_self _ _ _)) dX2_next_167 ?_
              refine lv_iconst (v := nI 1) hx hb dX2_next_170 (by decide) ?_
              refine lv_iadd hx hb dX2_next_171 ?_
              refine lv_top (y := nI (a + 1)) (nI_add _ _) ?_
              refine m_put (ty := .int) hx hb hts hown hK hH hS 3 (by decide) q1455 rfl rfl rfl (by decide +kernel) rfl rfl dX2_next_172 (fun H locs hH hS => ?_)
              have hM := hM.iS (k := 3) (by decide) (nI (a + 1))
              exact hp_vret hx hb hr hlocks hH hS (by decide) (by decide) dX2_next_175 (⟨rfl, _, rfl, hM, (hkI.up (by decide) _).up (by decide) _, by rw [nx_3 ea cl cd2 (by omega)]; exact (va_up_ne _ _ (by decide)).trans ((va_up_ne _ _ (by decide)).trans (e2)), by rw [nx_3 ea cl cd2 (by omega)]; exact va_up_self _ _ _⟩)
          · refine w_loop2 (fun (b : Nat) (P : Nat → Int32) => aSz S - b) (fun (b : Nat) (P : Nat → Int32) H locs ls => (a ≤ b ∧ b ≤ aSz S) ∧ (skp S (fun k => inR S k 48 57) a = skp S (fun k => inR S k 48 57) b) ∧ (P 2 = nI a) ∧ (P 3 = nI b) ∧ (kp [2, 3] I P) ∧ (MOK S P V) ∧ HP D CL (zA s0) (mset h K wd o P V J) H ∧ va_S (zA s0) s.heap H locs ∧ lv_has ls 1 [(0, .ref o)]) ?_ a (va_up P 3 (nI a)) ⟨⟨Nat.le_refl _, by omega⟩, rfl, (va_up_ne _ _ (by decide)).trans (e2), va_up_self _ _ _, hkI.up (by decide) _, hM, hH, hS, lv_sub hl [0] rfl⟩
            intro b P ih126 H locs ls hP
            obtain ⟨hbb, hskb, e2, e3, hkI, hM, hH, hS, hl⟩ := hP
            refine lv_aload_n hx hb dX2_next_126 rfl (lv_at hl 0 rfl) ?_
            refine lv_aload_n hx hb dX2_next_127 rfl (lv_at hl 0 rfl) ?_
            refine m_get hx hb hts hown hK hH 3 (by decide) q1455 rfl (v := .int (nI b)) (congrArg Value.int (e3)) dX2_next_128 ?_
            refine lv_bipush (v := nI 48) hx hb dX2_next_131 (by decide) ?_
            refine lv_bipush (v := nI 57) hx hb dX2_next_133 (by decide) ?_
            refine hp_callV (As := [.int (nI b), .int (nI 48), .int (nI 57)]) (rest := []) hx hb hml hown hts hPB hK hH hS (mt_between hK0 hO hM (k := b) 48 57 (by omega)) mset_o rfl rfl 3 (lw_V q1673 q1675 qs52 q107 q1676) (by decide +kernel) ⟨rfl, rfl⟩ (by decide) rfl hl.1 rfl (Nat.le_of_ble_eq_true rfl) (by decide) dX2_next_135 (fun v21 h23 H locs hp22 _ hH hS => ?_)
            obtain ⟨rfl, rfl⟩ := hp22
            refine lvB_eq (tgt := 175) hx hb dX2_next_138 (by decide) (fun cb => ?_) (fun cb => ?_)
            · exact hp_vret hx hb hr hlocks hH hS (by decide) (by decide) dX2_next_175 (⟨rfl, _, rfl, hM, hkI, by rw [nx_2 ea cl cd2 (hskb.trans (skp_f cb))]; exact e2, by rw [nx_2 ea cl cd2 (hskb.trans (skp_f cb))]; exact e3⟩)
            · refine lv_aload_n hx hb dX2_next_141 rfl (lv_at hl 0 rfl) ?_
              refine lv_dup hx hb dX2_next_142 rfl ?_
              refine m_get hx hb hts hown hK hH 3 (by decide) q1455 rfl (v := .int (nI b)) (congrArg Value.int (e3)) dX2_next_143 ?_
              refine lv_iconst (v := nI 1) hx hb dX2_next_146 (by decide) ?_
              refine lv_iadd hx hb dX2_next_147 ?_
              refine lv_top (y := nI (b + 1)) (nI_add _ _) ?_
              refine m_put (ty := .int) hx hb hts hown hK hH hS 3 (by decide) q1455 rfl rfl rfl (by decide +kernel) rfl rfl dX2_next_148 (fun H locs hH hS => ?_)
              have hM := hM.iS (k := 3) (by decide) (nI (b + 1))
              refine lv_goto (tgt := 126) hx hb dX2_next_151 (by decide) ?_
              exact ih126 (b + 1) _ (by have := (inR_lt cb).1; omega) H locs ls ⟨⟨by omega, by have := (inR_lt cb).1; omega⟩, hskb.trans (skp_t cb (inR_lt cb).1), (va_up_ne _ _ (by decide)).trans (e2), va_up_self _ _ _, hkI.up (by decide) _, hM, hH, hS, lv_sub hl [0] rfl⟩
        · refine w_loop2 (fun (b : Nat) (P : Nat → Int32) => aSz S - b) (fun (b : Nat) (P : Nat → Int32) H locs ls => (a ≤ b ∧ b ≤ aSz S) ∧ (skp S (fun k => inR S k 97 122) a = skp S (fun k => inR S k 97 122) b) ∧ (P 2 = nI a) ∧ (P 3 = nI b) ∧ (kp [2, 3] I P) ∧ (MOK S P V) ∧ HP D CL (zA s0) (mset h K wd o P V J) H ∧ va_S (zA s0) s.heap H locs ∧ lv_has ls 1 [(0, .ref o)]) ?_ a (va_up P 3 (nI a)) ⟨⟨Nat.le_refl _, by omega⟩, rfl, (va_up_ne _ _ (by decide)).trans (e2), va_up_self _ _ _, hkI.up (by decide) _, hM, hH, hS, lv_sub hl [0] rfl⟩
          intro b P ih83 H locs ls hP
          obtain ⟨hbb, hskb, e2, e3, hkI, hM, hH, hS, hl⟩ := hP
          refine lv_aload_n hx hb dX2_next_83 rfl (lv_at hl 0 rfl) ?_
          refine lv_aload_n hx hb dX2_next_84 rfl (lv_at hl 0 rfl) ?_
          refine m_get hx hb hts hown hK hH 3 (by decide) q1455 rfl (v := .int (nI b)) (congrArg Value.int (e3)) dX2_next_85 ?_
          refine lv_bipush (v := nI 97) hx hb dX2_next_88 (by decide) ?_
          refine lv_bipush (v := nI 122) hx hb dX2_next_90 (by decide) ?_
          refine hp_callV (As := [.int (nI b), .int (nI 97), .int (nI 122)]) (rest := []) hx hb hml hown hts hPB hK hH hS (mt_between hK0 hO hM (k := b) 97 122 (by omega)) mset_o rfl rfl 3 (lw_V q1673 q1675 qs52 q107 q1676) (by decide +kernel) ⟨rfl, rfl⟩ (by decide) rfl hl.1 rfl (Nat.le_of_ble_eq_true rfl) (by decide) dX2_next_92 (fun v24 h26 H locs hp25 _ hH hS => ?_)
          obtain ⟨rfl, rfl⟩ := hp25
          refine lvB_eq (tgt := 175) hx hb dX2_next_95 (by decide) (fun cb => ?_) (fun cb => ?_)
          · exact hp_vret hx hb hr hlocks hH hS (by decide) (by decide) dX2_next_175 (⟨rfl, _, rfl, hM, hkI, by rw [nx_1 ea cl (hskb.trans (skp_f cb))]; exact e2, by rw [nx_1 ea cl (hskb.trans (skp_f cb))]; exact e3⟩)
          · refine lv_aload_n hx hb dX2_next_98 rfl (lv_at hl 0 rfl) ?_
            refine lv_dup hx hb dX2_next_99 rfl ?_
            refine m_get hx hb hts hown hK hH 3 (by decide) q1455 rfl (v := .int (nI b)) (congrArg Value.int (e3)) dX2_next_100 ?_
            refine lv_iconst (v := nI 1) hx hb dX2_next_103 (by decide) ?_
            refine lv_iadd hx hb dX2_next_104 ?_
            refine lv_top (y := nI (b + 1)) (nI_add _ _) ?_
            refine m_put (ty := .int) hx hb hts hown hK hH hS 3 (by decide) q1455 rfl rfl rfl (by decide +kernel) rfl rfl dX2_next_105 (fun H locs hH hS => ?_)
            have hM := hM.iS (k := 3) (by decide) (nI (b + 1))
            refine lv_goto (tgt := 83) hx hb dX2_next_108 (by decide) ?_
            exact ih83 (b + 1) _ (by have := (inR_lt cb).1; omega) H locs ls ⟨⟨by omega, by have := (inR_lt cb).1; omega⟩, hskb.trans (skp_t cb (inR_lt cb).1), (va_up_ne _ _ (by decide)).trans (e2), va_up_self _ _ _, hkI.up (by decide) _, hM, hH, hS, lv_sub hl [0] rfl⟩
      · refine lv_aload_n hx hb dX2_next_47 rfl (lv_at hl 0 rfl) ?_
        refine lv_dup hx hb dX2_next_48 rfl ?_
        refine m_get hx hb hts hown hK hH 2 (by decide) q1454 rfl (v := .int (nI a)) (congrArg Value.int (e2)) dX2_next_49 ?_
        refine lv_iconst (v := nI 1) hx hb dX2_next_52 (by decide) ?_
        refine lv_iadd hx hb dX2_next_53 ?_
        refine lv_top (y := nI (a + 1)) (nI_add _ _) ?_
        refine m_put (ty := .int) hx hb hts hown hK hH hS 2 (by decide) q1454 rfl rfl rfl (by decide +kernel) rfl rfl dX2_next_54 (fun H locs hH hS => ?_)
        have hM := hM.iS (k := 2) (by decide) (nI (a + 1))
        refine lv_goto (tgt := 8) hx hb dX2_next_57 (by decide) ?_
        exact ih8 (a + 1) _ (by omega) H locs ls ⟨by omega, hsk.trans (skp_t (isSp_2 (by omega) cn) (by omega)), va_up_self _ _ _, hkI.up (by decide) _, hM, hH, hS, lv_sub hl [0] rfl⟩
set_option maxHeartbeats 4000000 in
theorem mt_passes (hK0 : va_K D CL (TYS K) s0) {S : Ab} (hO : SOK S) (hM : MOK S I V) {tk : Tk} (hrp : rdP S tk I) (b : Bool) : Met l yX2_passes (ws_ yX2_passes cX2_passes 2 ((Option.some Jvm.ClassFile.FieldType.boolean))) (rmk 2 0 0) (va_Pc [.ref o, .int (zI b)] (PB s0 D CL (mset h K wd o I V J))) (QR s0 D CL (fun v h1 => v = some (.int (zI b)) ∧ ∃ P, h1 = mset h K wd o P V J ∧ MOK S P V ∧ kp [2, 3, 4] I P ∧ rdO S (pas S b tk) P)) 0 0 (zA s0) := by
  refine hp_met (by decide) (Nat.le_of_ble_eq_true rfl) hK0 ?_
  intro p e s m below meth cd ls hx hb hr hlocks hml hown hnm hts hK hPB hl hS hH hA
  have hl : lv_has ls 2 [(0, .ref o), (1, .int (zI b))] := hl
  have hown : s.vm.findClass RX2 = some m.cls := hown
  have hn := hO.n
  have hmk := hO.mk
  have hrl := hO.rl
  have hrm := hO.rm
  have hsz := hO.sz
  have htk := hrp.2.2.2
  have htk1 := htk.1
  refine lv_iload_n hx hb dX2_passes_0 rfl (lv_at hl 1 rfl) ?_
  refine lvB_ne (tgt := 22) hx hb dX2_passes_1 (by decide) (fun cb => ?_) (fun cb => ?_)
  · refine lv_aload_n hx hb dX2_passes_22 rfl (lv_at hl 0 rfl) ?_
    refine hp_callV (As := []) (rest := []) hx hb hml hown hts hPB hK hH hS (mt_next hK0 hO hM (t := tk.2) hrp.2.1 hrp.2.2.2.1.2) mset_o rfl rfl 0 (lw_V q1669 q1671 qs51 q107 q1672) (by decide +kernel) ⟨rfl, rfl⟩ (by decide) rfl hl.1 rfl (Nat.le_of_ble_eq_true rfl) (by decide) dX2_passes_23 (fun v1 h3 H locs hp2 _ hH hS => ?_)
    obtain ⟨rfl, Pn, rfl, hM, hkn, en2, en3⟩ := hp2
    refine lv_iconst (v := nI 1) hx hb dX2_passes_26 (by decide) ?_
    exact hp_zret hx hb hr rfl hlocks hH hS (by decide) (by decide) dX2_passes_27 (⟨congrArg some (congrArg Value.int (zI_1 cb)), _, rfl, hM, hkn.wide (by decide), by rw [pas_t cb]; exact ⟨en2, en3, (hkn 4 (by decide)).trans hrp.2.2.1, (nx_ok htk1.2).1⟩⟩)
  · refine lv_aload_n hx hb dX2_passes_4 rfl (lv_at hl 0 rfl) ?_
    refine m_get hx hb hts hown hK hH 4 (by decide) q1456 rfl (v := .int (-1)) (congrArg Value.int (hrp.2.2.1)) dX2_passes_5 ?_
    refine lv_iconst (v := (-1)) hx hb dX2_passes_8 (by decide) ?_
    refine lv_icmp_ne (tgt := 20) hx hb dX2_passes_9 (by decide) (fun c4 => ?_) (fun c4 => ?_)
    · exact absurd rfl c4
    · refine lv_aload_n hx hb dX2_passes_12 rfl (lv_at hl 0 rfl) ?_
      refine lv_aload_n hx hb dX2_passes_13 rfl (lv_at hl 0 rfl) ?_
      refine m_get hx hb hts hown hK hH 2 (by decide) q1454 rfl (v := .int (nI tk.1)) (congrArg Value.int (hrp.1)) dX2_passes_14 ?_
      refine m_put (ty := .int) hx hb hts hown hK hH hS 4 (by decide) q1456 rfl rfl rfl (by decide +kernel) rfl rfl dX2_passes_17 (fun H locs hH hS => ?_)
      have hM := hM.iS (k := 4) (by decide) (nI tk.1)
      refine lv_iconst (v := nI 0) hx hb dX2_passes_20 (by decide) ?_
      exact hp_zret hx hb hr rfl hlocks hH hS (by decide) (by decide) dX2_passes_21 (⟨congrArg some (congrArg Value.int (zI_0 cb)), _, rfl, hM, kp.rf.up (by decide) _, by rw [pas_f cb]; exact ⟨va_up_self _ _ _, by omega⟩⟩)
set_option maxHeartbeats 4000000 in
theorem mt_isWord (hK0 : va_K D CL (TYS K) s0) {S : Ab} (hO : SOK S) (hM : MOK S I V) {av : Nat → Nat} (hX : OX wd av (zA s0) s0 s0.heap) {tk : Tk} (hrp : rdP S tk I) {w : Nat} (hw : w < 9) : Met l yX2_isWord (ws_ yX2_isWord cX2_isWord 3 ((Option.some Jvm.ClassFile.FieldType.boolean))) (rmk 4 0 0) (va_Pc [.ref o, .int (nI w)] (PB s0 D CL (mset h K wd o I V J))) (QR s0 D CL (fun v h1 => v = some (.int (zI (wrdB S tk w))) ∧ h1 = mset h K wd o I V J)) 0 0 (zA s0) := by
  refine hp_met (by decide) (Nat.le_of_ble_eq_true rfl) hK0 ?_
  intro p e s m below meth cd ls hx hb hr hlocks hml hown hnm hts hK hPB hl hS hH hA
  have hl : lv_has ls 3 [(0, .ref o), (1, .int (nI w))] := hl
  have hown : s.vm.findClass RX2 = some m.cls := hown
  have hn := hO.n
  have hmk := hO.mk
  have hrl := hO.rl
  have hrm := hO.rm
  have hsz := hO.sz
  have htk := hrp.2.2.2
  have htk1 := htk.1
  have hG := hX.at hPB
  have hwb := w_bytes w (by omega)
  have hw1 := w_pos w hw
  have hwl := hwb.2.1
  have hw44 := hwb.1
  refine lv_aload_n hx hb dX2_isWord_0 rfl (lv_at hl 0 rfl) ?_
  refine m_get hx hb hts hown hK hH 2 (by decide) q1454 rfl (v := .int (nI tk.1)) (congrArg Value.int (hrp.1)) dX2_isWord_1 ?_
  refine lv_aload_n hx hb dX2_isWord_4 rfl (lv_at hl 0 rfl) ?_
  refine m_get hx hb hts hown hK hH 1 (by decide) q1453 rfl (v := .int (nI (aSz S))) (congrArg Value.int (hM.sz)) dX2_isWord_5 ?_
  refine lvN_eq (tgt := 32) hx hb (by first | omega | (refine Nat.lt_of_lt_of_le (Nat.mod_lt _ ?_) ?_ <;> omega)) (by first | omega | (refine Nat.lt_of_lt_of_le (Nat.mod_lt _ ?_) ?_ <;> omega)) dX2_isWord_8 (by decide) (fun c1 => ?_) (fun c1 => ?_)
  · refine lv_iconst (v := nI 0) hx hb dX2_isWord_32 (by decide) ?_
    exact hp_zret hx hb hr rfl hlocks hH hS (by decide) (by decide) dX2_isWord_33 (⟨congrArg some (congrArg Value.int (zI_0 (wrdB_f (fun q => by have := hw1; omega)))), rfl⟩)
  · refine lv_aload_n hx hb dX2_isWord_11 rfl (lv_at hl 0 rfl) ?_
    refine m_get hx hb hts hown hK hH 3 (by decide) q1455 rfl (v := .int (nI tk.2)) (congrArg Value.int (hrp.2.1)) dX2_isWord_12 ?_
    refine lv_aload_n hx hb dX2_isWord_15 rfl (lv_at hl 0 rfl) ?_
    refine m_get hx hb hts hown hK hH 2 (by decide) q1454 rfl (v := .int (nI tk.1)) (congrArg Value.int (hrp.1)) dX2_isWord_16 ?_
    refine lv_isub hx hb dX2_isWord_19 ?_
    refine lv_top (y := nI (tk.2 - tk.1)) (pk_sub (by first | omega | (refine Nat.lt_of_lt_of_le (Nat.mod_lt _ ?_) ?_ <;> omega))) ?_
    refine lv_aload_n hx hb dX2_isWord_20 rfl (lv_at hl 0 rfl) ?_
    refine m_get hx hb hts hown hK hH 18 (by decide) q1470 rfl (v := .ref (o + 32)) rfl dX2_isWord_21 ?_
    refine lv_iload_n hx hb dX2_isWord_24 rfl (lv_at hl 1 rfl) ?_
    refine m_word hx hb hK hH (by first | omega | (refine Nat.lt_of_lt_of_le (Nat.mod_lt _ ?_) ?_ <;> omega)) dX2_isWord_25 ?_
    refine hp_callO (As := []) (rest := [.int (nI (tk.2 - tk.1))]) hx hb hml hown hts hPB hH hS (mj_length hK0 hX (i := w) (by omega)) (vk_recv hG.2.2 (show w < 10 by omega) hS) 0 (lw_V q1685 q376 q377 q112 q378) (by decide +kernel) ⟨rfl, rfl⟩ (by decide) rfl hl.1 rfl (Nat.le_of_ble_eq_true rfl) (by decide) dX2_isWord_26 (fun v2 h4 H locs hp3 _ hH hS => ?_)
    obtain ⟨rfl, hq⟩ := hp3
    rw [hq] at hH
    refine lvN_eq (tgt := 34) hx hb (by first | omega | (refine Nat.lt_of_lt_of_le (Nat.mod_lt _ ?_) ?_ <;> omega)) (by first | omega | (refine Nat.lt_of_lt_of_le (Nat.mod_lt _ ?_) ?_ <;> omega)) dX2_isWord_29 (by decide) (fun c5 => ?_) (fun c5 => ?_)
    · refine lv_aload_n hx hb dX2_isWord_34 rfl (lv_at hl 0 rfl) ?_
      refine m_get hx hb hts hown hK hH 2 (by decide) q1454 rfl (v := .int (nI tk.1)) (congrArg Value.int (hrp.1)) dX2_isWord_35 ?_
      refine lv_istore_n (lv' := [(2, .int (nI tk.1)), (0, .ref o), (1, .int (nI w))]) hx hb dX2_isWord_38 rfl hl (by decide) rfl (fun ls hl => ?_)
      refine w_loop1 (fun (j : Nat) => tk.2 - (tk.1 + j)) (fun (j : Nat) H locs ls => (tk.1 + j ≤ tk.2) ∧ (∀ u, u < j → aTx S (tk.1 + u) = (WBYT.getD w []).getD u 0) ∧ HP D CL (zA s0) (mset h K wd o I V J) H ∧ va_S (zA s0) s.heap H locs ∧ lv_has ls 3 [(0, .ref o), (1, .int (nI w)), (2, .int (nI (tk.1 + j)))]) ?_ 0 ⟨by omega, fun u hu => absurd hu (Nat.not_lt_zero _), hH, hS, lv_sub hl [1, 2, 0] rfl⟩
      intro j ih39 H locs ls hP
      obtain ⟨hjj, hno, hH, hS, hl⟩ := hP
      refine lv_iload_n hx hb dX2_isWord_39 rfl (lv_at hl 2 rfl) ?_
      refine lv_aload_n hx hb dX2_isWord_40 rfl (lv_at hl 0 rfl) ?_
      refine m_get hx hb hts hown hK hH 3 (by decide) q1455 rfl (v := .int (nI tk.2)) (congrArg Value.int (hrp.2.1)) dX2_isWord_41 ?_
      refine lvN_ge (tgt := 79) hx hb (by first | omega | (refine Nat.lt_of_lt_of_le (Nat.mod_lt _ ?_) ?_ <;> omega)) (by first | omega | (refine Nat.lt_of_lt_of_le (Nat.mod_lt _ ?_) ?_ <;> omega)) dX2_isWord_44 (by decide) (fun c6 => ?_) (fun c6 => ?_)
      · refine lv_iconst (v := nI 1) hx hb dX2_isWord_79 (by decide) ?_
        exact hp_zret hx hb hr rfl hlocks hH hS (by decide) (by decide) dX2_isWord_80 (⟨congrArg some (congrArg Value.int (zI_1 (wrdB_t (by omega) (fun u hu => hno u (by omega))))), rfl⟩)
      · refine lv_aload_n hx hb dX2_isWord_47 rfl (lv_at hl 0 rfl) ?_
        refine m_get hx hb hts hown hK hH 0 (by decide) q1452 rfl (v := .ref (o + 1)) rfl dX2_isWord_48 ?_
        refine lv_iload_n hx hb dX2_isWord_51 rfl (lv_at hl 2 rfl) ?_
        refine m_bald (n := 700) (j := tk.1 + j) (v := aTx S (tk.1 + j)) hx hb hK hH (by decide) rfl (by first | omega | (refine Nat.lt_of_lt_of_le (Nat.mod_lt _ ?_) ?_ <;> omega)) (by decide) (hM.tx (by omega)) dX2_isWord_52 ?_
        refine lv_aload_n hx hb dX2_isWord_53 rfl (lv_at hl 0 rfl) ?_
        refine m_get hx hb hts hown hK hH 18 (by decide) q1470 rfl (v := .ref (o + 32)) rfl dX2_isWord_54 ?_
        refine lv_iload_n hx hb dX2_isWord_57 rfl (lv_at hl 1 rfl) ?_
        refine m_word hx hb hK hH (by first | omega | (refine Nat.lt_of_lt_of_le (Nat.mod_lt _ ?_) ?_ <;> omega)) dX2_isWord_58 ?_
        refine lv_iload_n hx hb dX2_isWord_59 rfl (lv_at hl 2 rfl) ?_
        refine lv_aload_n hx hb dX2_isWord_60 rfl (lv_at hl 0 rfl) ?_
        refine m_get hx hb hts hown hK hH 2 (by decide) q1454 rfl (v := .int (nI tk.1)) (congrArg Value.int (hrp.1)) dX2_isWord_61 ?_
        refine lv_isub hx hb dX2_isWord_64 ?_
        refine lv_top (y := nI j) ((pk_sub (by omega)).trans (congrArg nI (by omega))) ?_
        refine hp_callO (As := [.int (nI j)]) (rest := [.int (aTx S (tk.1 + j))]) hx hb hml hown hts hPB hH hS (mj_charAt hK0 hX (i := w) (by omega) (k := j) (by omega)) (vk_recv hG.2.2 (show w < 10 by omega) hS) 1 (lw_V q1686 q467 q468 q112 q469) (by decide +kernel) ⟨rfl, rfl⟩ (by decide) rfl hl.1 rfl (Nat.le_of_ble_eq_true rfl) (by decide) dX2_isWord_65 (fun v7 h9 H locs hp8 _ hH hS => ?_)
        obtain ⟨rfl, hq⟩ := hp8
        rw [hq] at hH
        refine lv_icmp_eq (tgt := 73) hx hb dX2_isWord_68 (by decide) (fun cc => ?_) (fun cc => ?_)
        · refine lv_iinc (v := nI (tk.1 + j + 1)) (lv' := [(2, .int (nI (tk.1 + j + 1))), (0, .ref o), (1, .int (nI w))]) hx hb dX2_isWord_73 hl (k := 2) rfl (nI_add (tk.1 + j) 1) (by decide) rfl (fun ls hl => ?_)
          refine lv_goto (tgt := 39) hx hb dX2_isWord_76 (by decide) ?_
          exact ih39 (j + 1) (by omega) H locs ls ⟨by omega, fun u hu => by rcases Nat.lt_succ_iff_lt_or_eq.mp hu with z | z; exact hno u z; rw [z]; exact cc, hH, hS, lv_sub hl [1, 2, 0] rfl⟩
        · refine lv_iconst (v := nI 0) hx hb dX2_isWord_71 (by decide) ?_
          exact hp_zret hx hb hr rfl hlocks hH hS (by decide) (by decide) dX2_isWord_72 (⟨congrArg some (congrArg Value.int (zI_0 (wrdB_f (fun q => cc (q.2 j (by omega)))))), rfl⟩)
    · refine lv_iconst (v := nI 0) hx hb dX2_isWord_32 (by decide) ?_
      exact hp_zret hx hb hr rfl hlocks hH hS (by decide) (by decide) dX2_isWord_33 (⟨congrArg some (congrArg Value.int (zI_0 (wrdB_f (fun q => by omega)))), rfl⟩)
set_option maxHeartbeats 4000000 in
theorem mt_closes (hK0 : va_K D CL (TYS K) s0) {S : Ab} (hO : SOK S) (hM : MOK S I V) {tk : Tk} (hrp : rdP S tk I) : Met l yX2_closes (ws_ yX2_closes cX2_closes 1 ((Option.some Jvm.ClassFile.FieldType.boolean))) (rmk 3 0 0) (va_Pc [.ref o] (PB s0 D CL (mset h K wd o I V J))) (QR s0 D CL (fun v h1 => v = some (.int (zI (xk (clo S tk)))) ∧ ∃ P, h1 = mset h K wd o P V J ∧ MOK S P V ∧ kp [2, 3, 4] I P ∧ rdO S (clo S tk) P)) 0 0 (zA s0) := by
  refine hp_met (by decide) (Nat.le_of_ble_eq_true rfl) hK0 ?_
  intro p e s m below meth cd ls hx hb hr hlocks hml hown hnm hts hK hPB hl hS hH hA
  have hl : lv_has ls 1 [(0, .ref o)] := hl
  have hown : s.vm.findClass RX2 = some m.cls := hown
  have hn := hO.n
  have hmk := hO.mk
  have hrl := hO.rl
  have hrm := hO.rm
  have hsz := hO.sz
  have htk := hrp.2.2.2
  have htk1 := htk.1
  refine lv_aload_n hx hb dX2_closes_0 rfl (lv_at hl 0 rfl) ?_
  refine lv_aload_n hx hb dX2_closes_1 rfl (lv_at hl 0 rfl) ?_
  refine m_get hx hb hts hown hK hH 2 (by decide) q1454 rfl (v := .int (nI tk.1)) (congrArg Value.int (hrp.1)) dX2_closes_2 ?_
  refine lv_aload_n hx hb dX2_closes_5 rfl (lv_at hl 0 rfl) ?_
  refine m_get hx hb hts hown hK hH 1 (by decide) q1453 rfl (v := .int (nI (aSz S))) (congrArg Value.int (hM.sz)) dX2_closes_6 ?_
  refine lvN_ge (tgt := 30) hx hb (by first | omega | (refine Nat.lt_of_lt_of_le (Nat.mod_lt _ ?_) ?_ <;> omega)) (by first | omega | (refine Nat.lt_of_lt_of_le (Nat.mod_lt _ ?_) ?_ <;> omega)) dX2_closes_9 (by decide) (fun c1 => ?_) (fun c1 => ?_)
  · refine lv_iconst (v := nI 0) hx hb dX2_closes_30 (by decide) ?_
    have ecl : clo S tk = pas S false tk := by unfold clo; rw [show isCl S tk = false from by unfold isCl; rw [decide_eq_false (show ¬ tk.1 < aSz S by omega)]; rfl]
    refine hp_callV (As := [.int (nI 0)]) (rest := []) hx hb hml hown hts hPB hK hH hS (mt_passes hK0 hO hM (tk := tk) hrp false) mset_o rfl rfl 1 (lw_V q1687 q1689 qs55 q107 q1690) (by decide +kernel) ⟨rfl, rfl⟩ (by decide) rfl hl.1 rfl (Nat.le_of_ble_eq_true rfl) (by decide) dX2_closes_31 (fun v2 h4 H locs hp3 _ hH hS => ?_)
    obtain ⟨rfl, Prd, rfl, hM, hkrd, rd⟩ := hp3
    exact hp_zret hx hb hr (zI_nar _) hlocks hH hS (by decide) (by decide) dX2_closes_34 (⟨by rw [ecl]; rfl, _, rfl, hM, hkrd, by rw [ecl]; exact rd⟩)
  · refine lv_aload_n hx hb dX2_closes_12 rfl (lv_at hl 0 rfl) ?_
    refine m_get hx hb hts hown hK hH 0 (by decide) q1452 rfl (v := .ref (o + 1)) rfl dX2_closes_13 ?_
    refine lv_aload_n hx hb dX2_closes_16 rfl (lv_at hl 0 rfl) ?_
    refine m_get hx hb hts hown hK hH 2 (by decide) q1454 rfl (v := .int (nI tk.1)) (congrArg Value.int (hrp.1)) dX2_closes_17 ?_
    refine m_bald (n := 700) (j := tk.1) (v := aTx S (tk.1)) hx hb hK hH (by decide) rfl (by first | omega | (refine Nat.lt_of_lt_of_le (Nat.mod_lt _ ?_) ?_ <;> omega)) (by decide) (hM.tx (by omega)) dX2_closes_20 ?_
    refine lv_bipush (v := nI 59) hx hb dX2_closes_21 (by decide) ?_
    refine lv_icmp_ne (tgt := 30) hx hb dX2_closes_23 (by decide) (fun cc => ?_) (fun cc => ?_)
    · have cc : ¬ aTx S (tk.1) = 59 := cc
      refine lv_iconst (v := nI 0) hx hb dX2_closes_30 (by decide) ?_
      have ecl : clo S tk = pas S false tk := by unfold clo; rw [show isCl S tk = false from by unfold isCl; rw [decide_eq_false cc]; simp]
      refine hp_callV (As := [.int (nI 0)]) (rest := []) hx hb hml hown hts hPB hK hH hS (mt_passes hK0 hO hM (tk := tk) hrp false) mset_o rfl rfl 1 (lw_V q1687 q1689 qs55 q107 q1690) (by decide +kernel) ⟨rfl, rfl⟩ (by decide) rfl hl.1 rfl (Nat.le_of_ble_eq_true rfl) (by decide) dX2_closes_31 (fun v5 h7 H locs hp6 _ hH hS => ?_)
      obtain ⟨rfl, Prd, rfl, hM, hkrd, rd⟩ := hp6
      exact hp_zret hx hb hr (zI_nar _) hlocks hH hS (by decide) (by decide) dX2_closes_34 (⟨by rw [ecl]; rfl, _, rfl, hM, hkrd, by rw [ecl]; exact rd⟩)
    · have cc : aTx S (tk.1) = 59 := cc
      refine lv_iconst (v := nI 1) hx hb dX2_closes_26 (by decide) ?_
      refine lv_goto (tgt := 31) hx hb dX2_closes_27 (by decide) ?_
      have ecl : clo S tk = pas S true tk := by unfold clo; rw [show isCl S tk = true from by unfold isCl; rw [decide_eq_true (show tk.1 < aSz S by omega), decide_eq_true cc]; rfl]
      refine hp_callV (As := [.int (nI 1)]) (rest := []) hx hb hml hown hts hPB hK hH hS (mt_passes hK0 hO hM (tk := tk) hrp true) mset_o rfl rfl 1 (lw_V q1687 q1689 qs55 q107 q1690) (by decide +kernel) ⟨rfl, rfl⟩ (by decide) rfl hl.1 rfl (Nat.le_of_ble_eq_true rfl) (by decide) dX2_closes_31 (fun v8 h10 H locs hp9 _ hH hS => ?_)
      obtain ⟨rfl, Prd, rfl, hM, hkrd, rd⟩ := hp9
      exact hp_zret hx hb hr (zI_nar _) hlocks hH hS (by decide) (by decide) dX2_closes_34 (⟨by rw [ecl]; rfl, _, rfl, hM, hkrd, by rw [ecl]; exact rd⟩)
set_option maxHeartbeats 4000000 in
theorem mt_number (hK0 : va_K D CL (TYS K) s0) {S : Ab} (hO : SOK S) (hM : MOK S I V) {tk : Tk} (hrp : rdP S tk I) {lo : Nat} {hi : Nat} (hlo : lo ≤ 9) (hhi : hi ≤ 9) : Met l yX2_number (ws_ yX2_number cX2_number 6 ((Option.some Jvm.ClassFile.FieldType.boolean))) (rmk 3 0 0) (va_Pc [.ref o, .int (nI lo), .int (nI hi)] (PB s0 D CL (mset h K wd o I V J))) (QR s0 D CL (fun v h1 => v = some (.int (zI (xk (rdN S lo hi tk)))) ∧ ∃ P, h1 = mset h K wd o P V J ∧ MOK S P V ∧ kp [2, 3, 4, 5] I P ∧ rdV S (rdN S lo hi tk) P)) 0 0 (zA s0) := by
  refine hp_met (by decide) (Nat.le_of_ble_eq_true rfl) hK0 ?_
  intro p e s m below meth cd ls hx hb hr hlocks hml hown hnm hts hK hPB hl hS hH hA
  have hl : lv_has ls 6 [(0, .ref o), (1, .int (nI lo)), (2, .int (nI hi))] := hl
  have hown : s.vm.findClass RX2 = some m.cls := hown
  have hn := hO.n
  have hmk := hO.mk
  have hrl := hO.rl
  have hrm := hO.rm
  have hsz := hO.sz
  have htk := hrp.2.2.2
  have htk1 := htk.1
  refine lv_aload_n hx hb dX2_number_0 rfl (lv_at hl 0 rfl) ?_
  refine lv_aload_n hx hb dX2_number_1 rfl (lv_at hl 0 rfl) ?_
  refine m_get hx hb hts hown hK hH 2 (by decide) q1454 rfl (v := .int (nI tk.1)) (congrArg Value.int (hrp.1)) dX2_number_2 ?_
  refine lv_bipush (v := nI 48) hx hb dX2_number_5 (by decide) ?_
  refine lv_bipush (v := nI 57) hx hb dX2_number_7 (by decide) ?_
  refine hp_callV (As := [.int (nI tk.1), .int (nI 48), .int (nI 57)]) (rest := []) hx hb hml hown hts hPB hK hH hS (mt_between hK0 hO hM (k := tk.1) 48 57 (by omega)) mset_o rfl rfl 3 (lw_V q1673 q1675 qs52 q107 q1676) (by decide +kernel) ⟨rfl, rfl⟩ (by decide) rfl hl.1 rfl (Nat.le_of_ble_eq_true rfl) (by decide) dX2_number_9 (fun v1 h3 H locs hp2 _ hH hS => ?_)
  obtain ⟨rfl, rfl⟩ := hp2
  refine lv_istore_n (lv' := [(3, .int (zI (inR S tk.1 48 57))), (0, .ref o), (1, .int (nI lo)), (2, .int (nI hi))]) hx hb dX2_number_12 rfl hl (by decide) rfl (fun ls hl => ?_)
  refine lv_iconst (v := nI 0) hx hb dX2_number_13 (by decide) ?_
  refine lv_istore (lv' := [(4, .int (nI 0)), (3, .int (zI (inR S tk.1 48 57))), (0, .ref o), (1, .int (nI lo)), (2, .int (nI hi))]) hx hb dX2_number_14 hl (by decide) rfl (fun ls hl => ?_)
  refine lv_aload_n hx hb dX2_number_16 rfl (lv_at hl 2 rfl) ?_
  refine m_get hx hb hts hown hK hH 2 (by decide) q1454 rfl (v := .int (nI tk.1)) (congrArg Value.int (hrp.1)) dX2_number_17 ?_
  refine lv_istore (lv' := [(5, .int (nI tk.1)), (4, .int (nI 0)), (3, .int (zI (inR S tk.1 48 57))), (0, .ref o), (1, .int (nI lo)), (2, .int (nI hi))]) hx hb dX2_number_20 hl (by decide) rfl (fun ls hl => ?_)
  refine w_loop1 (fun (j : Nat) => tk.2 - (tk.1 + j)) (fun (j : Nat) H locs ls => (tk.1 + j ≤ tk.2) ∧ (inR S tk.1 48 57 = false → j = 0) ∧ HP D CL (zA s0) (mset h K wd o I V J) H ∧ va_S (zA s0) s.heap H locs ∧ lv_has ls 6 [(0, .ref o), (1, .int (nI lo)), (2, .int (nI hi)), (3, .int (zI (inR S tk.1 48 57))), (4, .int (nI (nuF S tk.1 j))), (5, .int (nI (tk.1 + j)))]) ?_ 0 ⟨by omega, fun _ => rfl, hH, hS, lv_sub hl [3, 4, 5, 2, 1, 0] rfl⟩
  intro j ih22 H locs ls hP
  obtain ⟨hjj, hz, hH, hS, hl⟩ := hP
  refine lv_iload_n hx hb dX2_number_22 rfl (lv_at hl 3 rfl) ?_
  refine lvB_eq (tgt := 72) hx hb dX2_number_23 (by decide) (fun ci => ?_) (fun ci => ?_)
  · have env : nuV S tk = nuF S tk.1 j := by unfold nuV; rw [if_neg (by rw [ci]; decide), hz ci]; rfl
    refine lv_aload_n hx hb dX2_number_72 rfl (lv_at hl 0 rfl) ?_
    refine lv_iload hx hb dX2_number_73 (lv_at hl 4 rfl) ?_
    refine m_put (ty := .int) hx hb hts hown hK hH hS 5 (by decide) q1457 rfl rfl rfl (by decide +kernel) rfl rfl dX2_number_75 (fun H locs hH hS => ?_)
    have hM := hM.iS (k := 5) (by decide) (nI (nuF S tk.1 j))
    refine lv_aload_n hx hb dX2_number_78 rfl (lv_at hl 0 rfl) ?_
    refine lv_iload_n hx hb dX2_number_79 rfl (lv_at hl 3 rfl) ?_
    have hnu : nuF S tk.1 j ≤ 999 := by cases hq : inR S tk.1 48 57 with
      | true => exact nuF_le htk hq j hjj
      | false => rw [hz hq]; exact Nat.zero_le _
    refine lvB_eq (tgt := 100) hx hb dX2_number_80 (by decide) (fun ci2 => ?_) (fun ci2 => ?_)
    · refine lv_iconst (v := nI 0) hx hb dX2_number_100 (by decide) ?_
      have enb : nuB S tk lo hi = false := by unfold nuB; rw [ci2]; rfl
      have ern : rdN S lo hi tk = xb (pas S false tk) (fun t1 => .ok (t1, nuV S tk)) := by unfold rdN; rw [enb]
      refine hp_callV (As := [.int (nI 0)]) (rest := []) hx hb hml hown hts hPB hK hH hS (mt_passes hK0 hO hM (tk := tk) ⟨(va_up_ne _ _ (by decide)).trans (hrp.1), (va_up_ne _ _ (by decide)).trans (hrp.2.1), (va_up_ne _ _ (by decide)).trans (hrp.2.2.1), htk⟩ false) mset_o rfl rfl 1 (lw_V q1687 q1689 qs55 q107 q1690) (by decide +kernel) ⟨rfl, rfl⟩ (by decide) rfl hl.1 rfl (Nat.le_of_ble_eq_true rfl) (by decide) dX2_number_101 (fun v4 h6 H locs hp5 _ hH hS => ?_)
      obtain ⟨rfl, Prd, rfl, hM, hkrd, rd⟩ := hp5
      exact hp_zret hx hb hr (zI_nar _) hlocks hH hS (by decide) (by decide) dX2_number_104 (⟨by rw [ern]; rfl, _, rfl, hM, (kp.rf.up (by decide) _).tr (hkrd.wide (by decide)), by rw [ern]; exact rd⟩)
    · refine lv_iload hx hb dX2_number_83 (lv_at hl 4 rfl) ?_
      refine lv_i2l hx hb dX2_number_85 rfl ?_
      refine lv_iload_n hx hb dX2_number_86 rfl (lv_at hl 1 rfl) ?_
      refine lv_i2l hx hb dX2_number_87 rfl ?_
      refine lv_iload_n hx hb dX2_number_88 rfl (lv_at hl 2 rfl) ?_
      refine lv_i2l hx hb dX2_number_89 rfl ?_
      refine hp_callS (As := [.long (Int32.toInt64 (nI (nuF S tk.1 j))), .long (Int32.toInt64 (nI lo)), .long (Int32.toInt64 (nI hi))]) (rest := [.ref o]) hx hb hml hown hts hPB hH hS (mt_in hK0 (Int32.toInt64 (nI (nuF S tk.1 j))) (Int32.toInt64 (nI lo)) (Int32.toInt64 (nI hi))) 3 (lw_S q1658 q1659 q107 q1660) (by decide +kernel) ⟨rfl, rfl⟩ (by decide) rfl hl.1 rfl (Nat.le_of_ble_eq_true rfl) (by decide) dX2_number_90 (fun v7 h9 H locs hp8 _ hH hS => ?_)
      obtain ⟨rfl, rfl⟩ := hp8
      refine lvB_eq (tgt := 100) hx hb dX2_number_93 (by decide) (fun cin => ?_) (fun cin => ?_)
      · refine lv_iconst (v := nI 0) hx hb dX2_number_100 (by decide) ?_
        have enb : nuB S tk lo hi = false := by unfold nuB; rw [env, ← in_nn (lo := lo) (v := nuF S tk.1 j) (hi := hi) (by omega) (by omega) (by omega), cin]; simp
        have ern : rdN S lo hi tk = xb (pas S false tk) (fun t1 => .ok (t1, nuV S tk)) := by unfold rdN; rw [enb]
        refine hp_callV (As := [.int (nI 0)]) (rest := []) hx hb hml hown hts hPB hK hH hS (mt_passes hK0 hO hM (tk := tk) ⟨(va_up_ne _ _ (by decide)).trans (hrp.1), (va_up_ne _ _ (by decide)).trans (hrp.2.1), (va_up_ne _ _ (by decide)).trans (hrp.2.2.1), htk⟩ false) mset_o rfl rfl 1 (lw_V q1687 q1689 qs55 q107 q1690) (by decide +kernel) ⟨rfl, rfl⟩ (by decide) rfl hl.1 rfl (Nat.le_of_ble_eq_true rfl) (by decide) dX2_number_101 (fun v10 h12 H locs hp11 _ hH hS => ?_)
        obtain ⟨rfl, Prd, rfl, hM, hkrd, rd⟩ := hp11
        exact hp_zret hx hb hr (zI_nar _) hlocks hH hS (by decide) (by decide) dX2_number_104 (⟨by rw [ern]; rfl, _, rfl, hM, (kp.rf.up (by decide) _).tr (hkrd.wide (by decide)), by rw [ern]; exact rd⟩)
      · refine lv_iconst (v := nI 1) hx hb dX2_number_96 (by decide) ?_
        refine lv_goto (tgt := 101) hx hb dX2_number_97 (by decide) ?_
        have enb : nuB S tk lo hi = true := by unfold nuB; rw [env, ci2, ← in_nn (lo := lo) (v := nuF S tk.1 j) (hi := hi) (by omega) (by omega) (by omega), cin]; rfl
        have ern : rdN S lo hi tk = xb (pas S true tk) (fun t1 => .ok (t1, nuV S tk)) := by unfold rdN; rw [enb]
        refine hp_callV (As := [.int (nI 1)]) (rest := []) hx hb hml hown hts hPB hK hH hS (mt_passes hK0 hO hM (tk := tk) ⟨(va_up_ne _ _ (by decide)).trans (hrp.1), (va_up_ne _ _ (by decide)).trans (hrp.2.1), (va_up_ne _ _ (by decide)).trans (hrp.2.2.1), htk⟩ true) mset_o rfl rfl 1 (lw_V q1687 q1689 qs55 q107 q1690) (by decide +kernel) ⟨rfl, rfl⟩ (by decide) rfl hl.1 rfl (Nat.le_of_ble_eq_true rfl) (by decide) dX2_number_101 (fun v13 h15 H locs hp14 _ hH hS => ?_)
        obtain ⟨rfl, Prd, rfl, hM, hkrd, rd⟩ := hp14
        exact hp_zret hx hb hr (zI_nar _) hlocks hH hS (by decide) (by decide) dX2_number_104 (⟨by rw [ern]; rfl, _, rfl, hM, (kp.rf.up (by decide) _).tr (hkrd.wide (by decide)), by rw [ern]; exact ⟨rd, (hkrd 5 (by decide)).trans ((va_up_self _ _ _).trans (congrArg nI env.symm))⟩⟩)
  · have hnu := nuF_le htk ci j hjj
    refine lv_iload hx hb dX2_number_26 (lv_at hl 5 rfl) ?_
    refine lv_aload_n hx hb dX2_number_28 rfl (lv_at hl 0 rfl) ?_
    refine m_get hx hb hts hown hK hH 3 (by decide) q1455 rfl (v := .int (nI tk.2)) (congrArg Value.int (hrp.2.1)) dX2_number_29 ?_
    refine lvN_ge (tgt := 72) hx hb (by first | omega | (refine Nat.lt_of_lt_of_le (Nat.mod_lt _ ?_) ?_ <;> omega)) (by first | omega | (refine Nat.lt_of_lt_of_le (Nat.mod_lt _ ?_) ?_ <;> omega)) dX2_number_32 (by decide) (fun c16 => ?_) (fun c16 => ?_)
    · have env : nuV S tk = nuF S tk.1 j := by unfold nuV; rw [if_pos ci, show tk.2 - tk.1 = j by omega]
      refine lv_aload_n hx hb dX2_number_72 rfl (lv_at hl 0 rfl) ?_
      refine lv_iload hx hb dX2_number_73 (lv_at hl 4 rfl) ?_
      refine m_put (ty := .int) hx hb hts hown hK hH hS 5 (by decide) q1457 rfl rfl rfl (by decide +kernel) rfl rfl dX2_number_75 (fun H locs hH hS => ?_)
      have hM := hM.iS (k := 5) (by decide) (nI (nuF S tk.1 j))
      refine lv_aload_n hx hb dX2_number_78 rfl (lv_at hl 0 rfl) ?_
      refine lv_iload_n hx hb dX2_number_79 rfl (lv_at hl 3 rfl) ?_
      have hnu : nuF S tk.1 j ≤ 999 := by cases hq : inR S tk.1 48 57 with
        | true => exact nuF_le htk hq j hjj
        | false => rw [hz hq]; exact Nat.zero_le _
      refine lvB_eq (tgt := 100) hx hb dX2_number_80 (by decide) (fun ci2 => ?_) (fun ci2 => ?_)
      · refine lv_iconst (v := nI 0) hx hb dX2_number_100 (by decide) ?_
        have enb : nuB S tk lo hi = false := by unfold nuB; rw [ci2]; rfl
        have ern : rdN S lo hi tk = xb (pas S false tk) (fun t1 => .ok (t1, nuV S tk)) := by unfold rdN; rw [enb]
        refine hp_callV (As := [.int (nI 0)]) (rest := []) hx hb hml hown hts hPB hK hH hS (mt_passes hK0 hO hM (tk := tk) ⟨(va_up_ne _ _ (by decide)).trans (hrp.1), (va_up_ne _ _ (by decide)).trans (hrp.2.1), (va_up_ne _ _ (by decide)).trans (hrp.2.2.1), htk⟩ false) mset_o rfl rfl 1 (lw_V q1687 q1689 qs55 q107 q1690) (by decide +kernel) ⟨rfl, rfl⟩ (by decide) rfl hl.1 rfl (Nat.le_of_ble_eq_true rfl) (by decide) dX2_number_101 (fun v17 h19 H locs hp18 _ hH hS => ?_)
        obtain ⟨rfl, Prd, rfl, hM, hkrd, rd⟩ := hp18
        exact hp_zret hx hb hr (zI_nar _) hlocks hH hS (by decide) (by decide) dX2_number_104 (⟨by rw [ern]; rfl, _, rfl, hM, (kp.rf.up (by decide) _).tr (hkrd.wide (by decide)), by rw [ern]; exact rd⟩)
      · refine lv_iload hx hb dX2_number_83 (lv_at hl 4 rfl) ?_
        refine lv_i2l hx hb dX2_number_85 rfl ?_
        refine lv_iload_n hx hb dX2_number_86 rfl (lv_at hl 1 rfl) ?_
        refine lv_i2l hx hb dX2_number_87 rfl ?_
        refine lv_iload_n hx hb dX2_number_88 rfl (lv_at hl 2 rfl) ?_
        refine lv_i2l hx hb dX2_number_89 rfl ?_
        refine hp_callS (As := [.long (Int32.toInt64 (nI (nuF S tk.1 j))), .long (Int32.toInt64 (nI lo)), .long (Int32.toInt64 (nI hi))]) (rest := [.ref o]) hx hb hml hown hts hPB hH hS (mt_in hK0 (Int32.toInt64 (nI (nuF S tk.1 j))) (Int32.toInt64 (nI lo)) (Int32.toInt64 (nI hi))) 3 (lw_S q1658 q1659 q107 q1660) (by decide +kernel) ⟨rfl, rfl⟩ (by decide) rfl hl.1 rfl (Nat.le_of_ble_eq_true rfl) (by decide) dX2_number_90 (fun v20 h22 H locs hp21 _ hH hS => ?_)
        obtain ⟨rfl, rfl⟩ := hp21
        refine lvB_eq (tgt := 100) hx hb dX2_number_93 (by decide) (fun cin => ?_) (fun cin => ?_)
        · refine lv_iconst (v := nI 0) hx hb dX2_number_100 (by decide) ?_
          have enb : nuB S tk lo hi = false := by unfold nuB; rw [env, ← in_nn (lo := lo) (v := nuF S tk.1 j) (hi := hi) (by omega) (by omega) (by omega), cin]; simp
          have ern : rdN S lo hi tk = xb (pas S false tk) (fun t1 => .ok (t1, nuV S tk)) := by unfold rdN; rw [enb]
          refine hp_callV (As := [.int (nI 0)]) (rest := []) hx hb hml hown hts hPB hK hH hS (mt_passes hK0 hO hM (tk := tk) ⟨(va_up_ne _ _ (by decide)).trans (hrp.1), (va_up_ne _ _ (by decide)).trans (hrp.2.1), (va_up_ne _ _ (by decide)).trans (hrp.2.2.1), htk⟩ false) mset_o rfl rfl 1 (lw_V q1687 q1689 qs55 q107 q1690) (by decide +kernel) ⟨rfl, rfl⟩ (by decide) rfl hl.1 rfl (Nat.le_of_ble_eq_true rfl) (by decide) dX2_number_101 (fun v23 h25 H locs hp24 _ hH hS => ?_)
          obtain ⟨rfl, Prd, rfl, hM, hkrd, rd⟩ := hp24
          exact hp_zret hx hb hr (zI_nar _) hlocks hH hS (by decide) (by decide) dX2_number_104 (⟨by rw [ern]; rfl, _, rfl, hM, (kp.rf.up (by decide) _).tr (hkrd.wide (by decide)), by rw [ern]; exact rd⟩)
        · refine lv_iconst (v := nI 1) hx hb dX2_number_96 (by decide) ?_
          refine lv_goto (tgt := 101) hx hb dX2_number_97 (by decide) ?_
          have enb : nuB S tk lo hi = true := by unfold nuB; rw [env, ci2, ← in_nn (lo := lo) (v := nuF S tk.1 j) (hi := hi) (by omega) (by omega) (by omega), cin]; rfl
          have ern : rdN S lo hi tk = xb (pas S true tk) (fun t1 => .ok (t1, nuV S tk)) := by unfold rdN; rw [enb]
          refine hp_callV (As := [.int (nI 1)]) (rest := []) hx hb hml hown hts hPB hK hH hS (mt_passes hK0 hO hM (tk := tk) ⟨(va_up_ne _ _ (by decide)).trans (hrp.1), (va_up_ne _ _ (by decide)).trans (hrp.2.1), (va_up_ne _ _ (by decide)).trans (hrp.2.2.1), htk⟩ true) mset_o rfl rfl 1 (lw_V q1687 q1689 qs55 q107 q1690) (by decide +kernel) ⟨rfl, rfl⟩ (by decide) rfl hl.1 rfl (Nat.le_of_ble_eq_true rfl) (by decide) dX2_number_101 (fun v26 h28 H locs hp27 _ hH hS => ?_)
          obtain ⟨rfl, Prd, rfl, hM, hkrd, rd⟩ := hp27
          exact hp_zret hx hb hr (zI_nar _) hlocks hH hS (by decide) (by decide) dX2_number_104 (⟨by rw [ern]; rfl, _, rfl, hM, (kp.rf.up (by decide) _).tr (hkrd.wide (by decide)), by rw [ern]; exact ⟨rd, (hkrd 5 (by decide)).trans ((va_up_self _ _ _).trans (congrArg nI env.symm))⟩⟩)
    · have hdg := dig_at htk ci (k := tk.1 + j) (by omega) (by omega)
      refine lv_iload hx hb dX2_number_35 (lv_at hl 4 rfl) ?_
      refine lv_bipush (v := nI 99) hx hb dX2_number_37 (by decide) ?_
      refine lvN_le (tgt := 48) hx hb (by first | omega | (refine Nat.lt_of_lt_of_le (Nat.mod_lt _ ?_) ?_ <;> omega)) (by first | omega | (refine Nat.lt_of_lt_of_le (Nat.mod_lt _ ?_) ?_ <;> omega)) dX2_number_39 (by decide) (fun c9 => ?_) (fun c9 => ?_)
      · refine lv_bipush (v := nI 10) hx hb dX2_number_48 (by decide) ?_
        refine lv_iload hx hb dX2_number_50 (lv_at hl 4 rfl) ?_
        refine lv_imul hx hb dX2_number_52 ?_
        refine lv_top (y := nI (10 * (nuF S tk.1 j))) (pk_mul _ _) ?_
        refine lv_aload_n hx hb dX2_number_53 rfl (lv_at hl 0 rfl) ?_
        refine m_get hx hb hts hown hK hH 0 (by decide) q1452 rfl (v := .ref (o + 1)) rfl dX2_number_54 ?_
        refine lv_iload hx hb dX2_number_57 (lv_at hl 5 rfl) ?_
        refine m_bald (n := 700) (j := tk.1 + j) (v := nI ((aTx S (tk.1 + j)).toInt.toNat)) hx hb hK hH (by decide) rfl (by first | omega | (refine Nat.lt_of_lt_of_le (Nat.mod_lt _ ?_) ?_ <;> omega)) (by decide) ((hM.tx (by omega)).trans hdg.1) dX2_number_59 ?_
        refine lv_iadd hx hb dX2_number_60 ?_
        refine lv_top (y := nI ((10 * (nuF S tk.1 j)) + ((aTx S (tk.1 + j)).toInt.toNat))) (nI_add _ _) ?_
        refine lv_bipush (v := nI 48) hx hb dX2_number_61 (by decide) ?_
        refine lv_isub hx hb dX2_number_63 ?_
        refine lv_top (y := nI (((10 * (nuF S tk.1 j)) + ((aTx S (tk.1 + j)).toInt.toNat)) - 48)) (pk_sub (by first | omega | (refine Nat.lt_of_lt_of_le (Nat.mod_lt _ ?_) ?_ <;> omega))) ?_
        refine lv_top (y := nI (nuF S tk.1 (j + 1))) (congrArg nI (by rw [nuF, if_neg (by omega)]; omega)) ?_
        refine lv_istore (lv' := [(4, .int (nI (nuF S tk.1 (j + 1)))), (0, .ref o), (1, .int (nI lo)), (2, .int (nI hi)), (3, .int (zI (inR S tk.1 48 57))), (5, .int (nI (tk.1 + j)))]) hx hb dX2_number_64 hl (by decide) rfl (fun ls hl => ?_)
        refine lv_iinc (v := nI (tk.1 + j + 1)) (lv' := [(5, .int (nI (tk.1 + j + 1))), (4, .int (nI (nuF S tk.1 (j + 1)))), (0, .ref o), (1, .int (nI lo)), (2, .int (nI hi)), (3, .int (zI (inR S tk.1 48 57)))]) hx hb dX2_number_66 hl (k := 5) rfl (nI_add (tk.1 + j) 1) (by decide) rfl (fun ls hl => ?_)
        refine lv_goto (tgt := 22) hx hb dX2_number_69 (by decide) ?_
        exact ih22 (j + 1) (by omega) H locs ls ⟨by omega, (fun q => by rw [ci] at q; cases q), hH, hS, lv_sub hl [2, 3, 4, 5, 1, 0] rfl⟩
      · refine lv_sipush (v := nI 999) hx hb dX2_number_42 (by decide) ?_
        refine lv_goto (tgt := 64) hx hb dX2_number_45 (by decide) ?_
        refine lv_top (y := nI (nuF S tk.1 (j + 1))) (congrArg nI (by rw [nuF, if_pos (by omega)])) ?_
        refine lv_istore (lv' := [(4, .int (nI (nuF S tk.1 (j + 1)))), (0, .ref o), (1, .int (nI lo)), (2, .int (nI hi)), (3, .int (zI (inR S tk.1 48 57))), (5, .int (nI (tk.1 + j)))]) hx hb dX2_number_64 hl (by decide) rfl (fun ls hl => ?_)
        refine lv_iinc (v := nI (tk.1 + j + 1)) (lv' := [(5, .int (nI (tk.1 + j + 1))), (4, .int (nI (nuF S tk.1 (j + 1)))), (0, .ref o), (1, .int (nI lo)), (2, .int (nI hi)), (3, .int (zI (inR S tk.1 48 57)))]) hx hb dX2_number_66 hl (k := 5) rfl (nI_add (tk.1 + j) 1) (by decide) rfl (fun ls hl => ?_)
        refine lv_goto (tgt := 22) hx hb dX2_number_69 (by decide) ?_
        exact ih22 (j + 1) (by omega) H locs ls ⟨by omega, (fun q => by rw [ci] at q; cases q), hH, hS, lv_sub hl [2, 3, 4, 5, 1, 0] rfl⟩
end MODEL
