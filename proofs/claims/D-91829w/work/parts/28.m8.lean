/-! by gen/mspec.py -/
set_option maxRecDepth 100000
section MODEL
variable {l : Launch} {s0 : State} {D : va_G} {K : Nat → ClassId} {wd : Nat → Nat} {o : Nat} {h : Hp} {I : Nat → Int32} {V : Nat → Nat → Int32} {J : Nat → Nat → Int64}
set_option maxHeartbeats 4000000 in
theorem mt_evened (hK0 : va_K D CL (TYS K) s0) {S : Ab} (hO : SOK S) (hM : MOK S I V) (room courses k : Int32) : Met l yX2_evened (ws_ yX2_evened cX2_evened 13 ((Option.some Jvm.ClassFile.FieldType.int))) (rmk 5 0 0) (va_Pc [.ref o, .int room, .int courses, .int k] (PB s0 D CL (mset h K wd o I V J))) (QR s0 D CL (fun v h1 => v = some (.int (spEvened S room courses k)) ∧ ∃ P U, h1 = mset h K wd o P U J ∧ MOK S P U)) 0 0 (zA s0) := by
  refine hp_met (by decide) (Nat.le_of_ble_eq_true rfl) hK0 ?_
  intro p e s m below meth cd ls hx hb hr hlocks hml hown hnm hts hK hPB hl hS hH hA
  have hl : lv_has ls 13 [(0, .ref o), (1, .int room), (2, .int courses), (3, .int k)] := hl
  have hown : s.vm.findClass RX2 = some m.cls := hown
  have hn := hO.n
  have hmk := hO.mk
  have hrl := hO.rl
  have hrm := hO.rm
  have hsz := hO.sz
  refine lv_aload_n hx hb dX2_evened_0 rfl (lv_at hl 0 rfl) ?_
  refine lv_iload_n hx hb dX2_evened_1 rfl (lv_at hl 1 rfl) ?_
  refine hp_callV (As := [.int room]) (rest := []) hx hb hml hown hts hPB hK hH hS (mt_isRoom hK0 hO hM room) mset_o rfl rfl 1 (lw_V q1788 q1790 qs72 q107 q1791) (by decide +kernel) ⟨rfl, rfl⟩ (by decide) rfl hl.1 rfl (Nat.le_of_ble_eq_true rfl) (by decide) dX2_evened_2 (fun v1 h3 H locs hp2 _ hH hS => ?_)
  obtain ⟨rfl, rfl⟩ := hp2
  refine lvB_eq (tgt := 56) hx hb dX2_evened_5 (by decide) (fun cr0 => ?_) (fun cr0 => ?_)
  · refine lv_iconst (v := (-1)) hx hb dX2_evened_56 (by decide) ?_
    exact hp_iret hx hb hr hlocks hH hS (by decide) (by decide) dX2_evened_57 (⟨congrArg some (congrArg Value.int (by simp [spEvened, cr0])), _, _, rfl, hM⟩)
  · obtain ⟨q, hq, rfl⟩ := inN_t cr0
    have eq := nI_clamp (show q < 2 ^ 31 by omega)
    have hrk := hO.rk hq
    have hrp := hO.rp hq
    refine lv_aload_n hx hb dX2_evened_8 rfl (lv_at hl 0 rfl) ?_
    refine m_get hx hb hts hown hK hH 24 (by decide) q1476 rfl (v := .ref (o + 38)) rfl dX2_evened_9 ?_
    refine lv_iload_n hx hb dX2_evened_12 rfl (lv_at hl 1 rfl) ?_
    refine m_iald (n := 4) (j := q) (v := nI (aRk S q)) hx hb hK hH (by decide) rfl (by first | omega | (refine Nat.lt_of_lt_of_le (Nat.mod_lt _ ?_) ?_ <;> omega)) (by decide) (hM.rk (by first | omega | (refine Nat.lt_of_lt_of_le (Nat.mod_lt _ ?_) ?_ <;> omega))) dX2_evened_13 ?_
    refine lv_iconst (v := nI 4) hx hb dX2_evened_14 (by decide) ?_
    refine lvN_ne (tgt := 56) hx hb (by first | omega | (refine Nat.lt_of_lt_of_le (Nat.mod_lt _ ?_) ?_ <;> omega)) (by first | omega | (refine Nat.lt_of_lt_of_le (Nat.mod_lt _ ?_) ?_ <;> omega)) dX2_evened_15 (by decide) (fun ck4 => ?_) (fun ck4 => ?_)
    · refine lv_iconst (v := (-1)) hx hb dX2_evened_56 (by decide) ?_
      exact hp_iret hx hb hr hlocks hH hS (by decide) (by decide) dX2_evened_57 (⟨congrArg some (congrArg Value.int (by simp [spEvened, eq, cr0, ck4])), _, _, rfl, hM⟩)
    · refine lv_aload_n hx hb dX2_evened_18 rfl (lv_at hl 0 rfl) ?_
      refine m_get hx hb hts hown hK hH 25 (by decide) q1477 rfl (v := .ref (o + 39)) rfl dX2_evened_19 ?_
      refine lv_iload_n hx hb dX2_evened_22 rfl (lv_at hl 1 rfl) ?_
      refine m_iald (n := 4) (j := q) (v := nI (aRp S q)) hx hb hK hH (by decide) rfl (by first | omega | (refine Nat.lt_of_lt_of_le (Nat.mod_lt _ ?_) ?_ <;> omega)) (by decide) (hM.rp (by first | omega | (refine Nat.lt_of_lt_of_le (Nat.mod_lt _ ?_) ?_ <;> omega))) dX2_evened_23 ?_
      refine lv_bipush (v := nI 8) hx hb dX2_evened_24 (by decide) ?_
      refine lvN_gt (tgt := 56) hx hb (by first | omega | (refine Nat.lt_of_lt_of_le (Nat.mod_lt _ ?_) ?_ <;> omega)) (by first | omega | (refine Nat.lt_of_lt_of_le (Nat.mod_lt _ ?_) ?_ <;> omega)) dX2_evened_26 (by decide) (fun cp8 => ?_) (fun cp8 => ?_)
      · refine lv_iconst (v := (-1)) hx hb dX2_evened_56 (by decide) ?_
        exact hp_iret hx hb hr hlocks hH hS (by decide) (by decide) dX2_evened_57 (⟨congrArg some (congrArg Value.int (by first | (simp [spEvened, eq, cr0, ck4, cp8, Nat.not_le.mpr cp8]; done) | (simp [spEvened, eq, cr0, cp8, Nat.not_le.mpr cp8]; omega))), _, _, rfl, hM⟩)
      · refine lv_iload_n hx hb dX2_evened_29 rfl (lv_at hl 2 rfl) ?_
        refine lv_i2l hx hb dX2_evened_30 rfl ?_
        refine lv_lconst (v := 1) hx hb dX2_evened_31 rfl ?_
        refine lv_ldc2 (v := 3) hx hb hown (hts _ q1844) dX2_evened_32 ?_
        refine hp_callS (As := [.long (Int32.toInt64 courses), .long 1, .long 3]) (rest := []) hx hb hml hown hts hPB hH hS (mt_in hK0 (Int32.toInt64 courses) 1 3) 3 (lw_S q1658 q1659 q107 q1660) (by decide +kernel) ⟨rfl, rfl⟩ (by decide) rfl hl.1 rfl (Nat.le_of_ble_eq_true rfl) (by decide) dX2_evened_35 (fun v4 h6 H locs hp5 _ hH hS => ?_)
        obtain ⟨rfl, rfl⟩ := hp5
        refine lvB_eq (tgt := 56) hx hb dX2_evened_38 (by decide) (fun cc3 => ?_) (fun cc3 => ?_)
        · rw [in_1c] at cc3
          refine lv_iconst (v := (-1)) hx hb dX2_evened_56 (by decide) ?_
          exact hp_iret hx hb hr hlocks hH hS (by decide) (by decide) dX2_evened_57 (⟨congrArg some (congrArg Value.int (by first | (simp [spEvened, eq, cr0, ck4, cp8, Nat.not_lt.mpr cp8, cc3]; done) | (simp [spEvened, eq, cr0, cp8, Nat.not_lt.mpr cp8, cc3]; omega))), _, _, rfl, hM⟩)
        · rw [in_1c] at cc3
          obtain ⟨cs, hcs, rfl⟩ := in1c_t cc3
          have ecs := nI_clamp (show cs < 2 ^ 31 by omega)
          refine lv_iload_n hx hb dX2_evened_41 rfl (lv_at hl 3 rfl) ?_
          refine lv_i2l hx hb dX2_evened_42 rfl ?_
          refine lv_ldc2 (v := -1) hx hb hown (hts _ q1699) dX2_evened_43 ?_
          refine lv_iload_n hx hb dX2_evened_46 rfl (lv_at hl 2 rfl) ?_
          refine lv_iconst (v := nI 1) hx hb dX2_evened_47 (by decide) ?_
          refine lv_isub hx hb dX2_evened_48 ?_
          refine lv_i2l hx hb dX2_evened_49 rfl ?_
          refine hp_callS (As := [.long (Int32.toInt64 k), .long (-1), .long (Int32.toInt64 ((nI cs) - (nI 1)))]) (rest := []) hx hb hml hown hts hPB hH hS (mt_in hK0 (Int32.toInt64 k) (-1) (Int32.toInt64 ((nI cs) - (nI 1)))) 3 (lw_S q1658 q1659 q107 q1660) (by decide +kernel) ⟨rfl, rfl⟩ (by decide) rfl hl.1 rfl (Nat.le_of_ble_eq_true rfl) (by decide) dX2_evened_50 (fun v7 h9 H locs hp8 _ hH hS => ?_)
          obtain ⟨rfl, rfl⟩ := hp8
          refine lvB_ne (tgt := 58) hx hb dX2_evened_53 (by decide) (fun ckk => ?_) (fun ckk => ?_)
          · rw [in_m1 (by omega)] at ckk
            refine lv_aload_n hx hb dX2_evened_58 rfl (lv_at hl 0 rfl) ?_
            refine m_get hx hb hts hown hK hH 25 (by decide) q1477 rfl (v := .ref (o + 39)) rfl dX2_evened_59 ?_
            refine lv_iload_n hx hb dX2_evened_62 rfl (lv_at hl 1 rfl) ?_
            refine m_iald (n := 4) (j := q) (v := nI (aRp S q)) hx hb hK hH (by decide) rfl (by first | omega | (refine Nat.lt_of_lt_of_le (Nat.mod_lt _ ?_) ?_ <;> omega)) (by decide) (hM.rp (by first | omega | (refine Nat.lt_of_lt_of_le (Nat.mod_lt _ ?_) ?_ <;> omega))) dX2_evened_63 ?_
            refine lv_istore (lv' := [(4, .int (nI (aRp S q))), (0, .ref o), (1, .int (nI q)), (2, .int (nI cs)), (3, .int k)]) hx hb dX2_evened_64 hl (by decide) rfl (fun ls hl => ?_)
            refine lv_iconst (v := nI 0) hx hb dX2_evened_66 (by decide) ?_
            refine lv_istore (lv' := [(5, .int (nI 0)), (4, .int (nI (aRp S q))), (0, .ref o), (1, .int (nI q)), (2, .int (nI cs)), (3, .int k)]) hx hb dX2_evened_67 hl (by decide) rfl (fun ls hl => ?_)
            refine w_loop3 (fun (s1 : Nat) (P : Nat → Int32) (U : Nat → Nat → Int32) => aRp S q - s1) (fun (s1 : Nat) (P : Nat → Int32) (U : Nat → Nat → Int32) H locs ls => (s1 ≤ aRp S q) ∧ (∀ t g, t < s1 → g < 10 → U 63 (10 * t + g) = nI (mnd S (slL S q 0 t) g)) ∧ (MOK S P U) ∧ HP D CL (zA s0) (mset h K wd o P U J) H ∧ va_S (zA s0) s.heap H locs ∧ lv_has ls 13 [(0, .ref o), (1, .int (nI q)), (2, .int (nI cs)), (3, .int k), (4, .int (nI (aRp S q))), (5, .int (nI s1))]) ?_ 0 I V ⟨Nat.zero_le _, fun t g ht => absurd ht (Nat.not_lt_zero _), hM, hH, hS, lv_sub hl [2, 3, 4, 5, 1, 0] rfl⟩
            intro s1 P U ih69 H locs ls hP
            obtain ⟨hs1, hmo, hM, hH, hS, hl⟩ := hP
            refine lv_iload hx hb dX2_evened_69 (lv_at hl 5 rfl) ?_
            refine lv_iload hx hb dX2_evened_71 (lv_at hl 4 rfl) ?_
            refine lvN_ge (tgt := 126) hx hb (by first | omega | (refine Nat.lt_of_lt_of_le (Nat.mod_lt _ ?_) ?_ <;> omega)) (by first | omega | (refine Nat.lt_of_lt_of_le (Nat.mod_lt _ ?_) ?_ <;> omega)) dX2_evened_73 (by decide) (fun c10 => ?_) (fun c10 => ?_)
            · have es1 : s1 = aRp S q := by omega
              rw [es1] at hmo
              refine lv_iconst (v := nI 1) hx hb dX2_evened_126 (by decide) ?_
              refine lv_istore (lv' := [(5, .int (nI 1)), (0, .ref o), (1, .int (nI q)), (2, .int (nI cs)), (3, .int k), (4, .int (nI (aRp S q)))]) hx hb dX2_evened_127 hl (by decide) rfl (fun ls hl => ?_)
              refine lv_iconst (v := nI 0) hx hb dX2_evened_129 (by decide) ?_
              refine lv_istore (lv' := [(6, .int (nI 0)), (5, .int (nI 1)), (0, .ref o), (1, .int (nI q)), (2, .int (nI cs)), (3, .int k), (4, .int (nI (aRp S q)))]) hx hb dX2_evened_130 hl (by decide) rfl (fun ls hl => ?_)
              refine w_loop1 (fun (i : Nat) => cs - i) (fun (i : Nat) H locs ls => (i ≤ cs) ∧ HP D CL (zA s0) (mset h K wd o P U J) H ∧ va_S (zA s0) s.heap H locs ∧ lv_has ls 13 [(0, .ref o), (2, .int (nI cs)), (3, .int k), (4, .int (nI (aRp S q))), (5, .int (nI ((aRp S q) ^ i))), (6, .int (nI i))]) ?_ 0 ⟨Nat.zero_le _, hH, hS, lv_sub hl [2, 4, 5, 6, 1, 0] rfl⟩
              intro i ih132 H locs ls hP
              obtain ⟨hii, hH, hS, hl⟩ := hP
              have hpi := pow_b (n := aRp S q) (i := i) (by omega) (by omega)
              refine lv_iload hx hb dX2_evened_132 (lv_at hl 5 rfl) ?_
              refine lv_iload_n hx hb dX2_evened_134 rfl (lv_at hl 1 rfl) ?_
              refine lvN_ge (tgt := 151) hx hb (by first | omega | (refine Nat.lt_of_lt_of_le (Nat.mod_lt _ ?_) ?_ <;> omega)) (by first | omega | (refine Nat.lt_of_lt_of_le (Nat.mod_lt _ ?_) ?_ <;> omega)) dX2_evened_135 (by decide) (fun c11 => ?_) (fun c11 => ?_)
              · have eic : i = cs := by omega
                rw [eic] at hl
                have hpc := pow_b (n := aRp S q) (i := cs) (by omega) (by omega)
                have hp1 : 1 ≤ aRp S q ^ cs := Nat.one_le_pow _ _ (by omega)
                refine lv_iconst (v := (-1)) hx hb dX2_evened_151 (by decide) ?_
                refine lv_istore (lv' := [(6, .int (-1)), (0, .ref o), (2, .int (nI cs)), (3, .int k), (4, .int (nI (aRp S q))), (5, .int (nI ((aRp S q) ^ cs)))]) hx hb dX2_evened_152 hl (by decide) rfl (fun ls hl => ?_)
                refine lv_iconst (v := nI 0) hx hb dX2_evened_154 (by decide) ?_
                refine lv_istore (lv' := [(7, .int (nI 0)), (6, .int (-1)), (0, .ref o), (2, .int (nI cs)), (3, .int k), (4, .int (nI (aRp S q))), (5, .int (nI ((aRp S q) ^ cs)))]) hx hb dX2_evened_155 hl (by decide) rfl (fun ls hl => ?_)
                refine w_loop2 (fun (r : Nat) (U : Nat → Nat → Int32) => (aRp S q) ^ cs - r) (fun (r : Nat) (U : Nat → Nat → Int32) H locs ls => (r ≤ (aRp S q) ^ cs) ∧ (∀ m c, evB S q (aRp S q) cs r = some (m, c) → ∀ i, i < cs → U 65 i = nI (dgt (aRp S q) cs c i)) ∧ (∀ t g, t < (aRp S q) → g < 10 → U 63 (10 * t + g) = nI (mnd S (slL S q 0 t) g)) ∧ (MOK S P U) ∧ HP D CL (zA s0) (mset h K wd o P U J) H ∧ va_S (zA s0) s.heap H locs ∧ lv_has ls 13 [(0, .ref o), (2, .int (nI cs)), (3, .int k), (4, .int (nI (aRp S q))), (5, .int (nI ((aRp S q) ^ cs))), (6, .int (oI (Option.map Prod.fst (evB S q (aRp S q) cs r)))), (7, .int (nI r))]) ?_ 0 U ⟨Nat.zero_le _, fun m c hmc => (by cases hmc), hmo, hM, hH, hS, lv_sub hl [2, 3, 4, 5, 6, 1, 0] rfl⟩
                intro r U ih157 H locs ls hP
                obtain ⟨hrr, hbs, hmo, hM, hH, hS, hl⟩ := hP
                refine lv_iload hx hb dX2_evened_157 (lv_at hl 6 rfl) ?_
                refine lv_iload hx hb dX2_evened_159 (lv_at hl 4 rfl) ?_
                refine lvN_ge (tgt := 331) hx hb (by first | omega | (refine Nat.lt_of_lt_of_le (Nat.mod_lt _ ?_) ?_ <;> omega)) (by first | omega | (refine Nat.lt_of_lt_of_le (Nat.mod_lt _ ?_) ?_ <;> omega)) dX2_evened_161 (by decide) (fun c12 => ?_) (fun c12 => ?_)
                · have ern : r = aRp S q ^ cs := by omega
                  subst ern
                  obtain ⟨m1, c1, erb⟩ := evB_some hO (q := q) (n := aRp S q) (cs := cs) hp1
                  rw [erb] at hl
                  refine lv_iload_n hx hb dX2_evened_331 rfl (lv_at hl 2 rfl) ?_
                  refine lv_iconst (v := (-1)) hx hb dX2_evened_332 (by decide) ?_
                  refine lv_icmp_ne (tgt := 341) hx hb dX2_evened_333 (by decide) (fun ck1 => ?_) (fun ck1 => ?_)
                  · obtain ⟨kk, hkk, rfl⟩ := inN_t (by simp [ck1] at ckk; exact ckk)
                    have ekk := nI_clamp (show kk < 2 ^ 31 by omega)
                    refine lv_aload_n hx hb dX2_evened_341 rfl (lv_at hl 0 rfl) ?_
                    refine m_get hx hb hts hown hK hH 63 (by decide) q1515 rfl (v := .ref (o + 65)) rfl dX2_evened_342 ?_
                    refine lv_iload_n hx hb dX2_evened_345 rfl (lv_at hl 2 rfl) ?_
                    refine m_iald (n := 3) (j := kk) (v := nI (dgt (aRp S q) cs c1 kk)) hx hb hK hH (by decide) rfl (by first | omega | (refine Nat.lt_of_lt_of_le (Nat.mod_lt _ ?_) ?_ <;> omega)) (by decide) (hbs m1 c1 erb kk hkk) dX2_evened_346 ?_
                    exact hp_iret hx hb hr hlocks hH hS (by decide) (by decide) dX2_evened_347 (⟨congrArg some (congrArg Value.int (by rw [spEvened, if_pos (by simp [cr0, eq, ck4, cp8, cc3, ecs, ckk]), eq, ecs, erb]; simp [ck1, ekk])), _, _, rfl, hM⟩)
                  · refine lv_iload hx hb dX2_evened_336 (lv_at hl 5 rfl) ?_
                    refine lv_goto (tgt := 347) hx hb dX2_evened_338 (by decide) ?_
                    exact hp_iret hx hb hr hlocks hH hS (by decide) (by decide) dX2_evened_347 (⟨congrArg some (congrArg Value.int (by subst ck1; rw [spEvened, if_pos (by simp [cr0, eq, ck4, cp8, cc3, ecs, Nat.not_lt.mpr, *]), eq, ecs, erb]; rfl)), _, _, rfl, hM⟩)
                · refine lv_iload hx hb dX2_evened_164 (lv_at hl 6 rfl) ?_
                  refine lv_top (y := nI (r / (aRp S q) ^ 0)) (by rw [Nat.pow_zero, Nat.div_one]) ?_
                  refine lv_istore (lv' := [(8, .int (nI (r / (aRp S q) ^ 0))), (0, .ref o), (2, .int (nI cs)), (3, .int k), (4, .int (nI (aRp S q))), (5, .int (nI ((aRp S q) ^ cs))), (6, .int (oI (Option.map Prod.fst (evB S q (aRp S q) cs r)))), (7, .int (nI r))]) hx hb dX2_evened_166 hl (by decide) rfl (fun ls hl => ?_)
                  refine lv_iload_n hx hb dX2_evened_168 rfl (lv_at hl 2 rfl) ?_
                  refine lv_iconst (v := nI 1) hx hb dX2_evened_169 (by decide) ?_
                  refine lv_isub hx hb dX2_evened_170 ?_
                  refine lv_istore (lv' := [(9, .int ((nI cs) - (nI 1))), (8, .int (nI (r / (aRp S q) ^ 0))), (0, .ref o), (2, .int (nI cs)), (3, .int k), (4, .int (nI (aRp S q))), (5, .int (nI ((aRp S q) ^ cs))), (6, .int (oI (Option.map Prod.fst (evB S q (aRp S q) cs r)))), (7, .int (nI r))]) hx hb dX2_evened_171 hl (by decide) rfl (fun ls hl => ?_)
                  refine w_loop2 (fun (j : Nat) (U : Nat → Nat → Int32) => cs - j) (fun (j : Nat) (U : Nat → Nat → Int32) H locs ls => (j ≤ cs) ∧ (∀ i, cs - j ≤ i → i < cs → U 64 i = nI (dgt (aRp S q) cs r i)) ∧ (∀ m c, evB S q (aRp S q) cs r = some (m, c) → ∀ i, i < cs → U 65 i = nI (dgt (aRp S q) cs c i)) ∧ (∀ t g, t < (aRp S q) → g < 10 → U 63 (10 * t + g) = nI (mnd S (slL S q 0 t) g)) ∧ (MOK S P U) ∧ HP D CL (zA s0) (mset h K wd o P U J) H ∧ va_S (zA s0) s.heap H locs ∧ lv_has ls 13 [(0, .ref o), (2, .int (nI cs)), (3, .int k), (4, .int (nI (aRp S q))), (5, .int (nI ((aRp S q) ^ cs))), (6, .int (oI (Option.map Prod.fst (evB S q (aRp S q) cs r)))), (7, .int (nI r)), (8, .int (nI (r / (aRp S q) ^ j))), (9, .int (nI (cs - j) - nI 1))]) ?_ 0 U ⟨Nat.zero_le _, fun i h1 h2 => absurd h2 (by omega), hbs, hmo, hM, hH, hS, lv_sub hl [2, 3, 4, 5, 6, 7, 8, 1, 0] rfl⟩
                  intro j U ih173 H locs ls hP
                  obtain ⟨hjj, hst, hbs, hmo, hM, hH, hS, hl⟩ := hP
                  have hrj : r / aRp S q ^ j ≤ r := Nat.div_le_self _ _
                  refine lv_iload hx hb dX2_evened_173 (lv_at hl 8 rfl) ?_
                  refine lv_if_lt (tgt := 203) hx hb dX2_evened_175 (by decide) (fun cj => ?_) (fun cj => ?_)
                  · have ejc := ev_end (by omega) cj
                    have hst : ∀ i, i < cs → U 64 i = nI (dgt (aRp S q) cs r i) := fun i hi => hst i (by omega) hi
                    refine lv_iconst (v := nI 0) hx hb dX2_evened_203 (by decide) ?_
                    refine lv_istore (lv' := [(9, .int (nI 0)), (0, .ref o), (2, .int (nI cs)), (3, .int k), (4, .int (nI (aRp S q))), (5, .int (nI ((aRp S q) ^ cs))), (6, .int (oI (Option.map Prod.fst (evB S q (aRp S q) cs r)))), (7, .int (nI r)), (8, .int (nI (r / (aRp S q) ^ j)))]) hx hb dX2_evened_204 hl (by decide) rfl (fun ls hl => ?_)
                    refine lv_iconst (v := nI 0) hx hb dX2_evened_206 (by decide) ?_
                    refine lv_istore (lv' := [(10, .int (nI 0)), (9, .int (nI 0)), (0, .ref o), (2, .int (nI cs)), (3, .int k), (4, .int (nI (aRp S q))), (5, .int (nI ((aRp S q) ^ cs))), (6, .int (oI (Option.map Prod.fst (evB S q (aRp S q) cs r)))), (7, .int (nI r)), (8, .int (nI (r / (aRp S q) ^ j)))]) hx hb dX2_evened_207 hl (by decide) rfl (fun ls hl => ?_)
                    refine w_loop1 (fun (g : Nat) => aN S - g) (fun (g : Nat) H locs ls => (g ≤ aN S) ∧ HP D CL (zA s0) (mset h K wd o P U J) H ∧ va_S (zA s0) s.heap H locs ∧ lv_has ls 13 [(0, .ref o), (2, .int (nI cs)), (3, .int k), (4, .int (nI (aRp S q))), (5, .int (nI ((aRp S q) ^ cs))), (6, .int (oI (Option.map Prod.fst (evB S q (aRp S q) cs r)))), (7, .int (nI r)), (9, .int (nI (evM S q (aRp S q) cs r g))), (10, .int (nI g))]) ?_ 0 ⟨Nat.zero_le _, hH, hS, lv_sub hl [2, 3, 4, 5, 6, 7, 8, 1, 0] rfl⟩
                    intro g ih209 H locs ls hP
                    obtain ⟨hgg, hH, hS, hl⟩ := hP
                    have hem := evM_le hO q (aRp S q) cs r (by omega) g
                    refine lv_iload hx hb dX2_evened_209 (lv_at hl 8 rfl) ?_
                    refine lv_aload_n hx hb dX2_evened_211 rfl (lv_at hl 0 rfl) ?_
                    refine m_get hx hb hts hown hK hH 15 (by decide) q1467 rfl (v := .ref (o + 29)) rfl dX2_evened_212 ?_
                    refine lv_iconst (v := nI 0) hx hb dX2_evened_215 (by decide) ?_
                    refine m_iald (n := 2) (j := 0) (v := nI (aN S)) hx hb hK hH (by decide) rfl (by first | omega | (refine Nat.lt_of_lt_of_le (Nat.mod_lt _ ?_) ?_ <;> omega)) (by decide) (hM.n) dX2_evened_216 ?_
                    refine lvN_ge (tgt := 276) hx hb (by first | omega | (refine Nat.lt_of_lt_of_le (Nat.mod_lt _ ?_) ?_ <;> omega)) (by first | omega | (refine Nat.lt_of_lt_of_le (Nat.mod_lt _ ?_) ?_ <;> omega)) dX2_evened_217 (by decide) (fun c13 => ?_) (fun c13 => ?_)
                    · have egn : g = aN S := by omega
                      rw [egn] at hl hem
                      refine lv_iload hx hb dX2_evened_276 (lv_at hl 5 rfl) ?_
                      refine lv_iconst (v := (-1)) hx hb dX2_evened_278 (by decide) ?_
                      refine lv_icmp_eq (tgt := 292) hx hb dX2_evened_279 (by decide) (fun ce => ?_) (fun ce => ?_)
                      · have erb := ev_not hO (by omega) ce
                        have hnew : evB S q (aRp S q) cs (r + 1) = some (evM S q (aRp S q) cs r (aN S), r) := ev_new erb
                        refine lv_iload hx hb dX2_evened_292 (lv_at hl 7 rfl) ?_
                        refine lv_top (y := oI (Option.map Prod.fst (evB S q (aRp S q) cs (r + 1)))) (by rw [hnew]; rfl) ?_
                        refine lv_istore (lv' := [(6, .int (oI (Option.map Prod.fst (evB S q (aRp S q) cs (r + 1))))), (0, .ref o), (2, .int (nI cs)), (3, .int k), (4, .int (nI (aRp S q))), (5, .int (nI ((aRp S q) ^ cs))), (7, .int (nI r)), (9, .int (nI (evM S q (aRp S q) cs r (aN S)))), (10, .int (nI (aN S)))]) hx hb dX2_evened_294 hl (by decide) rfl (fun ls hl => ?_)
                        refine lv_iconst (v := nI 0) hx hb dX2_evened_296 (by decide) ?_
                        refine lv_istore (lv' := [(10, .int (nI 0)), (6, .int (oI (Option.map Prod.fst (evB S q (aRp S q) cs (r + 1))))), (0, .ref o), (2, .int (nI cs)), (3, .int k), (4, .int (nI (aRp S q))), (5, .int (nI ((aRp S q) ^ cs))), (7, .int (nI r)), (9, .int (nI (evM S q (aRp S q) cs r (aN S))))]) hx hb dX2_evened_297 hl (by decide) rfl (fun ls hl => ?_)
                        refine w_loop2 (fun (i : Nat) (U : Nat → Nat → Int32) => cs - i) (fun (i : Nat) (U : Nat → Nat → Int32) H locs ls => (i ≤ cs) ∧ (∀ i,  i < cs → U 64 i = nI (dgt (aRp S q) cs r i)) ∧ (∀ u, u < i → U 65 u = nI (dgt (aRp S q) cs r u)) ∧ (∀ t g, t < (aRp S q) → g < 10 → U 63 (10 * t + g) = nI (mnd S (slL S q 0 t) g)) ∧ (MOK S P U) ∧ HP D CL (zA s0) (mset h K wd o P U J) H ∧ va_S (zA s0) s.heap H locs ∧ lv_has ls 13 [(0, .ref o), (2, .int (nI cs)), (3, .int k), (4, .int (nI (aRp S q))), (5, .int (nI ((aRp S q) ^ cs))), (6, .int (oI (Option.map Prod.fst (evB S q (aRp S q) cs (r + 1))))), (7, .int (nI r)), (10, .int (nI i))]) ?_ 0 U ⟨Nat.zero_le _, hst, fun u hu => absurd hu (Nat.not_lt_zero _), hmo, hM, hH, hS, lv_sub hl [2, 3, 4, 5, 6, 1, 7, 0] rfl⟩
                        intro i U ih299 H locs ls hP
                        obtain ⟨hii, hst, hbn, hmo, hM, hH, hS, hl⟩ := hP
                        refine lv_iload hx hb dX2_evened_299 (lv_at hl 7 rfl) ?_
                        refine lv_iload_n hx hb dX2_evened_301 rfl (lv_at hl 1 rfl) ?_
                        refine lvN_ge (tgt := 325) hx hb (by first | omega | (refine Nat.lt_of_lt_of_le (Nat.mod_lt _ ?_) ?_ <;> omega)) (by first | omega | (refine Nat.lt_of_lt_of_le (Nat.mod_lt _ ?_) ?_ <;> omega)) dX2_evened_302 (by decide) (fun c14 => ?_) (fun c14 => ?_)
                        · refine lv_iinc (v := nI (r + 1)) (lv' := [(7, .int (nI (r + 1))), (0, .ref o), (2, .int (nI cs)), (3, .int k), (4, .int (nI (aRp S q))), (5, .int (nI ((aRp S q) ^ cs))), (6, .int (oI (Option.map Prod.fst (evB S q (aRp S q) cs (r + 1))))), (10, .int (nI i))]) hx hb dX2_evened_325 hl (k := 6) rfl (nI_add r 1) (by decide) rfl (fun ls hl => ?_)
                          refine lv_goto (tgt := 157) hx hb dX2_evened_328 (by decide) ?_
                          exact ih157 (r + 1) U (by omega) H locs ls ⟨by omega, fun m c hmc u hu => by rw [hnew] at hmc; cases hmc; exact hbn u (by omega), hmo, hM, hH, hS, lv_sub hl [1, 2, 3, 4, 5, 6, 0] rfl⟩
                        · refine lv_aload_n hx hb dX2_evened_305 rfl (lv_at hl 0 rfl) ?_
                          refine m_get hx hb hts hown hK hH 63 (by decide) q1515 rfl (v := .ref (o + 65)) rfl dX2_evened_306 ?_
                          refine lv_iload hx hb dX2_evened_309 (lv_at hl 7 rfl) ?_
                          refine lv_aload_n hx hb dX2_evened_311 rfl (lv_at hl 0 rfl) ?_
                          refine m_get hx hb hts hown hK hH 62 (by decide) q1514 rfl (v := .ref (o + 64)) rfl dX2_evened_312 ?_
                          refine lv_iload hx hb dX2_evened_315 (lv_at hl 7 rfl) ?_
                          refine m_iald (n := 3) (j := i) (v := nI (dgt (aRp S q) cs r i)) hx hb hK hH (by decide) rfl (by first | omega | (refine Nat.lt_of_lt_of_le (Nat.mod_lt _ ?_) ?_ <;> omega)) (by decide) (hst i (by omega)) dX2_evened_317 ?_
                          refine m_iast (n := 3) (j := i) hx hb hK hH hS (by decide) rfl (by first | omega | (refine Nat.lt_of_lt_of_le (Nat.mod_lt _ ?_) ?_ <;> omega)) (by decide) dX2_evened_318 (fun H locs hH hS => ?_)
                          have hM := hM.vS (k := 65) rfl i (nI (dgt (aRp S q) cs r i))
                          refine lv_iinc (v := nI (i + 1)) (lv' := [(10, .int (nI (i + 1))), (0, .ref o), (2, .int (nI cs)), (3, .int k), (4, .int (nI (aRp S q))), (5, .int (nI ((aRp S q) ^ cs))), (6, .int (oI (Option.map Prod.fst (evB S q (aRp S q) cs (r + 1))))), (7, .int (nI r))]) hx hb dX2_evened_319 hl (k := 7) rfl (nI_add i 1) (by decide) rfl (fun ls hl => ?_)
                          refine lv_goto (tgt := 299) hx hb dX2_evened_322 (by decide) ?_
                          exact ih299 (i + 1) _ (by omega) H locs ls ⟨by omega, fun u hu => by rw [vset_off _ _ (by decide)]; exact hst u hu, fun u hu => by rw [vset_in]; split; (rename_i e; rw [e]); exact hbn u (by omega), fun t g ht hg => by rw [vset_off _ _ (by decide)]; exact hmo t g ht hg, hM, hH, hS, lv_sub hl [1, 2, 3, 4, 5, 6, 7, 0] rfl⟩
                      · obtain ⟨m1, c1, erb⟩ := ev_is ce
                        have hm1 := (evB_ok hO (by omega) _ _ _ erb).1
                        refine lv_iload hx hb dX2_evened_282 (lv_at hl 7 rfl) ?_
                        refine lv_iload hx hb dX2_evened_284 (lv_at hl 5 rfl) ?_
                        refine lv_top (y := nI m1) (by rw [erb]; rfl) ?_
                        refine lvN_lt (tgt := 292) hx hb (by first | omega | (refine Nat.lt_of_lt_of_le (Nat.mod_lt _ ?_) ?_ <;> omega)) (by first | omega | (refine Nat.lt_of_lt_of_le (Nat.mod_lt _ ?_) ?_ <;> omega)) dX2_evened_286 (by decide) (fun cl => ?_) (fun cl => ?_)
                        · have hnew : evB S q (aRp S q) cs (r + 1) = some (evM S q (aRp S q) cs r (aN S), r) := ev_less erb (by omega)
                          refine lv_iload hx hb dX2_evened_292 (lv_at hl 7 rfl) ?_
                          refine lv_top (y := oI (Option.map Prod.fst (evB S q (aRp S q) cs (r + 1)))) (by rw [hnew]; rfl) ?_
                          refine lv_istore (lv' := [(6, .int (oI (Option.map Prod.fst (evB S q (aRp S q) cs (r + 1))))), (0, .ref o), (2, .int (nI cs)), (3, .int k), (4, .int (nI (aRp S q))), (5, .int (nI ((aRp S q) ^ cs))), (7, .int (nI r)), (9, .int (nI (evM S q (aRp S q) cs r (aN S)))), (10, .int (nI (aN S)))]) hx hb dX2_evened_294 hl (by decide) rfl (fun ls hl => ?_)
                          refine lv_iconst (v := nI 0) hx hb dX2_evened_296 (by decide) ?_
                          refine lv_istore (lv' := [(10, .int (nI 0)), (6, .int (oI (Option.map Prod.fst (evB S q (aRp S q) cs (r + 1))))), (0, .ref o), (2, .int (nI cs)), (3, .int k), (4, .int (nI (aRp S q))), (5, .int (nI ((aRp S q) ^ cs))), (7, .int (nI r)), (9, .int (nI (evM S q (aRp S q) cs r (aN S))))]) hx hb dX2_evened_297 hl (by decide) rfl (fun ls hl => ?_)
                          refine w_loop2 (fun (i : Nat) (U : Nat → Nat → Int32) => cs - i) (fun (i : Nat) (U : Nat → Nat → Int32) H locs ls => (i ≤ cs) ∧ (∀ i,  i < cs → U 64 i = nI (dgt (aRp S q) cs r i)) ∧ (∀ u, u < i → U 65 u = nI (dgt (aRp S q) cs r u)) ∧ (∀ t g, t < (aRp S q) → g < 10 → U 63 (10 * t + g) = nI (mnd S (slL S q 0 t) g)) ∧ (MOK S P U) ∧ HP D CL (zA s0) (mset h K wd o P U J) H ∧ va_S (zA s0) s.heap H locs ∧ lv_has ls 13 [(0, .ref o), (2, .int (nI cs)), (3, .int k), (4, .int (nI (aRp S q))), (5, .int (nI ((aRp S q) ^ cs))), (6, .int (oI (Option.map Prod.fst (evB S q (aRp S q) cs (r + 1))))), (7, .int (nI r)), (10, .int (nI i))]) ?_ 0 U ⟨Nat.zero_le _, hst, fun u hu => absurd hu (Nat.not_lt_zero _), hmo, hM, hH, hS, lv_sub hl [2, 3, 4, 5, 6, 1, 7, 0] rfl⟩
                          intro i U ih299 H locs ls hP
                          obtain ⟨hii, hst, hbn, hmo, hM, hH, hS, hl⟩ := hP
                          refine lv_iload hx hb dX2_evened_299 (lv_at hl 7 rfl) ?_
                          refine lv_iload_n hx hb dX2_evened_301 rfl (lv_at hl 1 rfl) ?_
                          refine lvN_ge (tgt := 325) hx hb (by first | omega | (refine Nat.lt_of_lt_of_le (Nat.mod_lt _ ?_) ?_ <;> omega)) (by first | omega | (refine Nat.lt_of_lt_of_le (Nat.mod_lt _ ?_) ?_ <;> omega)) dX2_evened_302 (by decide) (fun c15 => ?_) (fun c15 => ?_)
                          · refine lv_iinc (v := nI (r + 1)) (lv' := [(7, .int (nI (r + 1))), (0, .ref o), (2, .int (nI cs)), (3, .int k), (4, .int (nI (aRp S q))), (5, .int (nI ((aRp S q) ^ cs))), (6, .int (oI (Option.map Prod.fst (evB S q (aRp S q) cs (r + 1))))), (10, .int (nI i))]) hx hb dX2_evened_325 hl (k := 6) rfl (nI_add r 1) (by decide) rfl (fun ls hl => ?_)
                            refine lv_goto (tgt := 157) hx hb dX2_evened_328 (by decide) ?_
                            exact ih157 (r + 1) U (by omega) H locs ls ⟨by omega, fun m c hmc u hu => by rw [hnew] at hmc; cases hmc; exact hbn u (by omega), hmo, hM, hH, hS, lv_sub hl [1, 2, 3, 4, 5, 6, 0] rfl⟩
                          · refine lv_aload_n hx hb dX2_evened_305 rfl (lv_at hl 0 rfl) ?_
                            refine m_get hx hb hts hown hK hH 63 (by decide) q1515 rfl (v := .ref (o + 65)) rfl dX2_evened_306 ?_
                            refine lv_iload hx hb dX2_evened_309 (lv_at hl 7 rfl) ?_
                            refine lv_aload_n hx hb dX2_evened_311 rfl (lv_at hl 0 rfl) ?_
                            refine m_get hx hb hts hown hK hH 62 (by decide) q1514 rfl (v := .ref (o + 64)) rfl dX2_evened_312 ?_
                            refine lv_iload hx hb dX2_evened_315 (lv_at hl 7 rfl) ?_
                            refine m_iald (n := 3) (j := i) (v := nI (dgt (aRp S q) cs r i)) hx hb hK hH (by decide) rfl (by first | omega | (refine Nat.lt_of_lt_of_le (Nat.mod_lt _ ?_) ?_ <;> omega)) (by decide) (hst i (by omega)) dX2_evened_317 ?_
                            refine m_iast (n := 3) (j := i) hx hb hK hH hS (by decide) rfl (by first | omega | (refine Nat.lt_of_lt_of_le (Nat.mod_lt _ ?_) ?_ <;> omega)) (by decide) dX2_evened_318 (fun H locs hH hS => ?_)
                            have hM := hM.vS (k := 65) rfl i (nI (dgt (aRp S q) cs r i))
                            refine lv_iinc (v := nI (i + 1)) (lv' := [(10, .int (nI (i + 1))), (0, .ref o), (2, .int (nI cs)), (3, .int k), (4, .int (nI (aRp S q))), (5, .int (nI ((aRp S q) ^ cs))), (6, .int (oI (Option.map Prod.fst (evB S q (aRp S q) cs (r + 1))))), (7, .int (nI r))]) hx hb dX2_evened_319 hl (k := 7) rfl (nI_add i 1) (by decide) rfl (fun ls hl => ?_)
                            refine lv_goto (tgt := 299) hx hb dX2_evened_322 (by decide) ?_
                            exact ih299 (i + 1) _ (by omega) H locs ls ⟨by omega, fun u hu => by rw [vset_off _ _ (by decide)]; exact hst u hu, fun u hu => by rw [vset_in]; split; (rename_i e; rw [e]); exact hbn u (by omega), fun t g ht hg => by rw [vset_off _ _ (by decide)]; exact hmo t g ht hg, hM, hH, hS, lv_sub hl [1, 2, 3, 4, 5, 6, 7, 0] rfl⟩
                        · refine lv_goto (tgt := 325) hx hb dX2_evened_289 (by decide) ?_
                          rw [show evB S q (aRp S q) cs r = evB S q (aRp S q) cs (r + 1) from ev_keep erb (by omega)] at hl
                          refine lv_iinc (v := nI (r + 1)) (lv' := [(7, .int (nI (r + 1))), (0, .ref o), (2, .int (nI cs)), (3, .int k), (4, .int (nI (aRp S q))), (5, .int (nI ((aRp S q) ^ cs))), (6, .int (oI (Option.map Prod.fst (evB S q (aRp S q) cs (r + 1))))), (9, .int (nI (evM S q (aRp S q) cs r (aN S)))), (10, .int (nI (aN S)))]) hx hb dX2_evened_325 hl (k := 6) rfl (nI_add r 1) (by decide) rfl (fun ls hl => ?_)
                          refine lv_goto (tgt := 157) hx hb dX2_evened_328 (by decide) ?_
                          exact ih157 (r + 1) U (by omega) H locs ls ⟨by omega, fun m c hmc => hbs m c ((ev_keep erb (by omega)).trans hmc), hmo, hM, hH, hS, lv_sub hl [1, 2, 3, 4, 5, 6, 0] rfl⟩
                    · refine lv_iconst (v := nI 0) hx hb dX2_evened_220 (by decide) ?_
                      refine lv_istore (lv' := [(11, .int (nI 0)), (0, .ref o), (2, .int (nI cs)), (3, .int k), (4, .int (nI (aRp S q))), (5, .int (nI ((aRp S q) ^ cs))), (6, .int (oI (Option.map Prod.fst (evB S q (aRp S q) cs r)))), (7, .int (nI r)), (9, .int (nI (evM S q (aRp S q) cs r g))), (10, .int (nI g))]) hx hb dX2_evened_221 hl (by decide) rfl (fun ls hl => ?_)
                      refine lv_iconst (v := nI 0) hx hb dX2_evened_223 (by decide) ?_
                      refine lv_istore (lv' := [(12, .int (nI 0)), (11, .int (nI 0)), (0, .ref o), (2, .int (nI cs)), (3, .int k), (4, .int (nI (aRp S q))), (5, .int (nI ((aRp S q) ^ cs))), (6, .int (oI (Option.map Prod.fst (evB S q (aRp S q) cs r)))), (7, .int (nI r)), (9, .int (nI (evM S q (aRp S q) cs r g))), (10, .int (nI g))]) hx hb dX2_evened_224 hl (by decide) rfl (fun ls hl => ?_)
                      refine w_loop1 (fun (i : Nat) => cs - i) (fun (i : Nat) H locs ls => (i ≤ cs) ∧ HP D CL (zA s0) (mset h K wd o P U J) H ∧ va_S (zA s0) s.heap H locs ∧ lv_has ls 13 [(0, .ref o), (2, .int (nI cs)), (3, .int k), (4, .int (nI (aRp S q))), (5, .int (nI ((aRp S q) ^ cs))), (6, .int (oI (Option.map Prod.fst (evB S q (aRp S q) cs r)))), (7, .int (nI r)), (9, .int (nI (evM S q (aRp S q) cs r g))), (10, .int (nI g)), (11, .int (nI (evS S q (aRp S q) cs r g i))), (12, .int (nI i))]) ?_ 0 ⟨Nat.zero_le _, hH, hS, lv_sub hl [2, 3, 4, 5, 6, 7, 8, 9, 10, 1, 0] rfl⟩
                      intro i ih226 H locs ls hP
                      obtain ⟨hii, hH, hS, hl⟩ := hP
                      have hes := evS_le hO q (aRp S q) cs r g i
                      have hdl := dgt_lt (n := aRp S q) (cs := cs) (r := r) (i := i) (by omega)
                      have hmb := mnd_b hO q 0 (dgt (aRp S q) cs r i) g
                      refine lv_iload hx hb dX2_evened_226 (lv_at hl 10 rfl) ?_
                      refine lv_iload_n hx hb dX2_evened_228 rfl (lv_at hl 1 rfl) ?_
                      refine lvN_ge (tgt := 261) hx hb (by first | omega | (refine Nat.lt_of_lt_of_le (Nat.mod_lt _ ?_) ?_ <;> omega)) (by first | omega | (refine Nat.lt_of_lt_of_le (Nat.mod_lt _ ?_) ?_ <;> omega)) dX2_evened_229 (by decide) (fun c16 => ?_) (fun c16 => ?_)
                      · have eic : i = cs := by omega
                        rw [eic] at hl hes
                        refine lv_iload hx hb dX2_evened_261 (lv_at hl 7 rfl) ?_
                        refine lv_iload hx hb dX2_evened_263 (lv_at hl 9 rfl) ?_
                        refine va_mmax hx hb (hml.trans hl.1.symm) hown (hts _ q1839) (hts _ q409) (hts _ q114) (hts _ q410) (Nat.le_of_ble_eq_true rfl) (Nat.le_of_ble_eq_true rfl) (Nat.le_of_ble_eq_true rfl) (Nat.le_of_ble_eq_true rfl) dX2_evened_265 ?_
                        refine lv_top (y := nI (max (evM S q (aRp S q) cs r g) (evS S q (aRp S q) cs r g cs))) (i_maxN (by first | omega | (refine Nat.lt_of_lt_of_le (Nat.mod_lt _ ?_) ?_ <;> omega)) (by first | omega | (refine Nat.lt_of_lt_of_le (Nat.mod_lt _ ?_) ?_ <;> omega))) ?_
                        refine lv_istore (lv' := [(9, .int (nI (max (evM S q (aRp S q) cs r g) (evS S q (aRp S q) cs r g cs)))), (0, .ref o), (2, .int (nI cs)), (3, .int k), (4, .int (nI (aRp S q))), (5, .int (nI ((aRp S q) ^ cs))), (6, .int (oI (Option.map Prod.fst (evB S q (aRp S q) cs r)))), (7, .int (nI r)), (10, .int (nI g)), (11, .int (nI (evS S q (aRp S q) cs r g cs))), (12, .int (nI cs))]) hx hb dX2_evened_268 hl (by decide) rfl (fun ls hl => ?_)
                        refine lv_iinc (v := nI (g + 1)) (lv' := [(10, .int (nI (g + 1))), (9, .int (nI (max (evM S q (aRp S q) cs r g) (evS S q (aRp S q) cs r g cs)))), (0, .ref o), (2, .int (nI cs)), (3, .int k), (4, .int (nI (aRp S q))), (5, .int (nI ((aRp S q) ^ cs))), (6, .int (oI (Option.map Prod.fst (evB S q (aRp S q) cs r)))), (7, .int (nI r)), (11, .int (nI (evS S q (aRp S q) cs r g cs))), (12, .int (nI cs))]) hx hb dX2_evened_270 hl (k := 8) rfl (nI_add g 1) (by decide) rfl (fun ls hl => ?_)
                        refine lv_goto (tgt := 209) hx hb dX2_evened_273 (by decide) ?_
                        exact ih209 (g + 1) (by omega) H locs ls ⟨by omega, hH, hS, lv_sub hl [2, 3, 4, 5, 6, 7, 8, 1, 0] rfl⟩
                      · refine lv_iload hx hb dX2_evened_232 (lv_at hl 9 rfl) ?_
                        refine lv_aload_n hx hb dX2_evened_234 rfl (lv_at hl 0 rfl) ?_
                        refine m_get hx hb hts hown hK hH 61 (by decide) q1513 rfl (v := .ref (o + 63)) rfl dX2_evened_235 ?_
                        refine lv_bipush (v := nI 10) hx hb dX2_evened_238 (by decide) ?_
                        refine lv_aload_n hx hb dX2_evened_240 rfl (lv_at hl 0 rfl) ?_
                        refine m_get hx hb hts hown hK hH 62 (by decide) q1514 rfl (v := .ref (o + 64)) rfl dX2_evened_241 ?_
                        refine lv_iload hx hb dX2_evened_244 (lv_at hl 10 rfl) ?_
                        refine m_iald (n := 3) (j := i) (v := nI (dgt (aRp S q) cs r i)) hx hb hK hH (by decide) rfl (by first | omega | (refine Nat.lt_of_lt_of_le (Nat.mod_lt _ ?_) ?_ <;> omega)) (by decide) (hst i (by omega)) dX2_evened_246 ?_
                        refine lv_imul hx hb dX2_evened_247 ?_
                        refine lv_top (y := nI (10 * (dgt (aRp S q) cs r i))) (pk_mul _ _) ?_
                        refine lv_iload hx hb dX2_evened_248 (lv_at hl 8 rfl) ?_
                        refine lv_iadd hx hb dX2_evened_250 ?_
                        refine lv_top (y := nI ((10 * (dgt (aRp S q) cs r i)) + g)) (nI_add _ _) ?_
                        refine m_iald (n := 80) (j := (10 * (dgt (aRp S q) cs r i)) + g) (v := nI (mnd S (slL S q 0 (dgt (aRp S q) cs r i)) g)) hx hb hK hH (by decide) rfl (by first | omega | (refine Nat.lt_of_lt_of_le (Nat.mod_lt _ ?_) ?_ <;> omega)) (by decide) (hmo _ g hdl (by omega)) dX2_evened_251 ?_
                        refine lv_iadd hx hb dX2_evened_252 ?_
                        refine lv_top (y := nI ((evS S q (aRp S q) cs r g i) + (mnd S (slL S q 0 (dgt (aRp S q) cs r i)) g))) (nI_add _ _) ?_
                        refine lv_istore (lv' := [(11, .int (nI ((evS S q (aRp S q) cs r g i) + (mnd S (slL S q 0 (dgt (aRp S q) cs r i)) g)))), (0, .ref o), (2, .int (nI cs)), (3, .int k), (4, .int (nI (aRp S q))), (5, .int (nI ((aRp S q) ^ cs))), (6, .int (oI (Option.map Prod.fst (evB S q (aRp S q) cs r)))), (7, .int (nI r)), (9, .int (nI (evM S q (aRp S q) cs r g))), (10, .int (nI g)), (12, .int (nI i))]) hx hb dX2_evened_253 hl (by decide) rfl (fun ls hl => ?_)
                        refine lv_iinc (v := nI (i + 1)) (lv' := [(12, .int (nI (i + 1))), (11, .int (nI ((evS S q (aRp S q) cs r g i) + (mnd S (slL S q 0 (dgt (aRp S q) cs r i)) g)))), (0, .ref o), (2, .int (nI cs)), (3, .int k), (4, .int (nI (aRp S q))), (5, .int (nI ((aRp S q) ^ cs))), (6, .int (oI (Option.map Prod.fst (evB S q (aRp S q) cs r)))), (7, .int (nI r)), (9, .int (nI (evM S q (aRp S q) cs r g))), (10, .int (nI g))]) hx hb dX2_evened_255 hl (k := 10) rfl (nI_add i 1) (by decide) rfl (fun ls hl => ?_)
                        refine lv_goto (tgt := 226) hx hb dX2_evened_258 (by decide) ?_
                        exact ih226 (i + 1) (by omega) H locs ls ⟨by omega, hH, hS, lv_sub hl [2, 3, 4, 5, 6, 7, 8, 9, 10, 1, 0] rfl⟩
                  · have ejc := ev_go cj (by omega)
                    rw [pk_sub (a := cs - j) (b := 1) (by omega)] at hl
                    refine lv_aload_n hx hb dX2_evened_178 rfl (lv_at hl 0 rfl) ?_
                    refine m_get hx hb hts hown hK hH 62 (by decide) q1514 rfl (v := .ref (o + 64)) rfl dX2_evened_179 ?_
                    refine lv_iload hx hb dX2_evened_182 (lv_at hl 8 rfl) ?_
                    refine lv_iload hx hb dX2_evened_184 (lv_at hl 7 rfl) ?_
                    refine lv_iload hx hb dX2_evened_186 (lv_at hl 3 rfl) ?_
                    refine lv_irem hx hb dX2_evened_188 (nI_ne0 (by first | omega | (refine Nat.lt_of_lt_of_le (Nat.mod_lt _ ?_) ?_ <;> omega)) (by first | omega | (refine Nat.lt_of_lt_of_le (Nat.mod_lt _ ?_) ?_ <;> omega))) ?_
                    refine lv_top (y := nI ((r / (aRp S q) ^ j) % (aRp S q))) (pk_rem (by first | omega | (refine Nat.lt_of_lt_of_le (Nat.mod_lt _ ?_) ?_ <;> omega)) (by first | omega | (refine Nat.lt_of_lt_of_le (Nat.mod_lt _ ?_) ?_ <;> omega)) (by first | omega | (refine Nat.lt_of_lt_of_le (Nat.mod_lt _ ?_) ?_ <;> omega))) ?_
                    refine m_iast (n := 3) (j := cs - j - 1) hx hb hK hH hS (by decide) rfl (by first | omega | (refine Nat.lt_of_lt_of_le (Nat.mod_lt _ ?_) ?_ <;> omega)) (by decide) dX2_evened_189 (fun H locs hH hS => ?_)
                    have hM := hM.vS (k := 64) rfl (cs - j - 1) (nI ((r / (aRp S q) ^ j) % (aRp S q)))
                    refine lv_iload hx hb dX2_evened_190 (lv_at hl 7 rfl) ?_
                    refine lv_iload hx hb dX2_evened_192 (lv_at hl 3 rfl) ?_
                    refine lv_idiv hx hb dX2_evened_194 (nI_ne0 (by first | omega | (refine Nat.lt_of_lt_of_le (Nat.mod_lt _ ?_) ?_ <;> omega)) (by first | omega | (refine Nat.lt_of_lt_of_le (Nat.mod_lt _ ?_) ?_ <;> omega))) ?_
                    refine lv_top (y := nI ((r / (aRp S q) ^ j) / (aRp S q))) (pk_div (by first | omega | (refine Nat.lt_of_lt_of_le (Nat.mod_lt _ ?_) ?_ <;> omega)) (by first | omega | (refine Nat.lt_of_lt_of_le (Nat.mod_lt _ ?_) ?_ <;> omega)) (by first | omega | (refine Nat.lt_of_lt_of_le (Nat.mod_lt _ ?_) ?_ <;> omega))) ?_
                    refine lv_top (y := nI (r / (aRp S q) ^ (j + 1))) (congrArg nI (div_next _ _ _)) ?_
                    refine lv_istore (lv' := [(8, .int (nI (r / (aRp S q) ^ (j + 1)))), (0, .ref o), (2, .int (nI cs)), (3, .int k), (4, .int (nI (aRp S q))), (5, .int (nI ((aRp S q) ^ cs))), (6, .int (oI (Option.map Prod.fst (evB S q (aRp S q) cs r)))), (7, .int (nI r)), (9, .int (nI (cs - j - 1)))]) hx hb dX2_evened_195 hl (by decide) rfl (fun ls hl => ?_)
                    refine lv_iinc (v := nI (cs - (j + 1)) - nI 1) (lv' := [(9, .int (nI (cs - (j + 1)) - nI 1)), (8, .int (nI (r / (aRp S q) ^ (j + 1)))), (0, .ref o), (2, .int (nI cs)), (3, .int k), (4, .int (nI (aRp S q))), (5, .int (nI ((aRp S q) ^ cs))), (6, .int (oI (Option.map Prod.fst (evB S q (aRp S q) cs r)))), (7, .int (nI r))]) hx hb dX2_evened_197 hl (k := 8) rfl ((dec_eq _).trans (by rw [show cs - j - 1 = cs - (j + 1) by omega])) (by decide) rfl (fun ls hl => ?_)
                    refine lv_goto (tgt := 173) hx hb dX2_evened_200 (by decide) ?_
                    exact ih173 (j + 1) _ (by omega) H locs ls ⟨by omega, fun i h1 h2 => by rw [vset_in]; split; (rename_i e; rw [e, dgt_at (n := aRp S q) (cs := cs) (r := r) (j := j) (by omega)]); exact hst i (by omega) h2, fun m c hmc i hi => by rw [vset_off _ _ (by decide)]; exact hbs m c hmc i hi, fun t g ht hg => by rw [vset_off _ _ (by decide)]; exact hmo t g ht hg, hM, hH, hS, lv_sub hl [2, 3, 4, 5, 6, 7, 8, 1, 0] rfl⟩
              · refine lv_iload hx hb dX2_evened_138 (lv_at hl 4 rfl) ?_
                refine lv_iload hx hb dX2_evened_140 (lv_at hl 3 rfl) ?_
                refine lv_imul hx hb dX2_evened_142 ?_
                refine lv_top (y := nI (((aRp S q) ^ i) * (aRp S q))) (pk_mul _ _) ?_
                refine lv_istore (lv' := [(5, .int (nI (((aRp S q) ^ i) * (aRp S q)))), (0, .ref o), (2, .int (nI cs)), (3, .int k), (4, .int (nI (aRp S q))), (6, .int (nI i))]) hx hb dX2_evened_143 hl (by decide) rfl (fun ls hl => ?_)
                refine lv_iinc (v := nI (i + 1)) (lv' := [(6, .int (nI (i + 1))), (5, .int (nI (((aRp S q) ^ i) * (aRp S q)))), (0, .ref o), (2, .int (nI cs)), (3, .int k), (4, .int (nI (aRp S q)))]) hx hb dX2_evened_145 hl (k := 5) rfl (nI_add i 1) (by decide) rfl (fun ls hl => ?_)
                refine lv_goto (tgt := 132) hx hb dX2_evened_148 (by decide) ?_
                exact ih132 (i + 1) (by omega) H locs ls ⟨by omega, hH, hS, lv_sub hl [2, 3, 4, 5, 1, 0] rfl⟩
            · refine lv_aload_n hx hb dX2_evened_76 rfl (lv_at hl 0 rfl) ?_
              refine lv_iload_n hx hb dX2_evened_77 rfl (lv_at hl 1 rfl) ?_
              refine lv_iconst (v := nI 0) hx hb dX2_evened_78 (by decide) ?_
              refine lv_iload hx hb dX2_evened_79 (lv_at hl 5 rfl) ?_
              refine hp_callV (As := [.int (nI q), .int (nI 0), .int (nI s1)]) (rest := []) hx hb hml hown hts hPB hK hH hS (mt_finds hK0 hO hM (q := q) (cr := 0) (on := s1) (by omega) (by omega) (by omega)) mset_o rfl rfl 3 (lw_V q1818 q1820 qs75 q107 q1821) (by decide +kernel) ⟨rfl, rfl⟩ (by decide) rfl hl.1 rfl (Nat.le_of_ble_eq_true rfl) (by decide) dX2_evened_81 (fun v17 h19 H locs hp18 _ hH hS => ?_)
              obtain ⟨rfl, P, U, rfl, hM, hsl, hkV, hkI⟩ := hp18
              obtain ⟨L, hL⟩ : ∃ L, L = slL S q 0 s1 := ⟨_, rfl⟩
              rw [← hL] at hsl
              have hlen : L.length ≤ 1200 := by rw [hL]; exact Nat.le_trans (slR_len S _ _ _ hn _) (by omega)
              refine lv_iconst (v := nI 0) hx hb dX2_evened_84 (by decide) ?_
              refine lv_istore (lv' := [(6, .int (nI 0)), (0, .ref o), (1, .int (nI q)), (2, .int (nI cs)), (3, .int k), (4, .int (nI (aRp S q))), (5, .int (nI s1))]) hx hb dX2_evened_85 hl (by decide) rfl (fun ls hl => ?_)
              refine w_loop2 (fun (g : Nat) (U : Nat → Nat → Int32) => 10 - g) (fun (g : Nat) (U : Nat → Nat → Int32) H locs ls => (g ≤ 10) ∧ (∀ u, u < 10 → U 43 u = nI (mnd S L u)) ∧ (∀ t g, t < s1 → g < 10 → U 63 (10 * t + g) = nI (mnd S (slL S q 0 t) g)) ∧ (∀ u, u < g → U 63 (10 * s1 + u) = nI (mnd S L u)) ∧ (MOK S P U) ∧ HP D CL (zA s0) (mset h K wd o P U J) H ∧ va_S (zA s0) s.heap H locs ∧ lv_has ls 13 [(0, .ref o), (1, .int (nI q)), (2, .int (nI cs)), (3, .int k), (4, .int (nI (aRp S q))), (5, .int (nI s1)), (6, .int (nI g))]) ?_ 0 U ⟨Nat.zero_le _, hsl.2.2, fun t g ht hg => (congrFun (hkV 63 (by decide)) _).trans (hmo t g ht hg), fun u hu => absurd hu (Nat.not_lt_zero _), hM, hH, hS, lv_sub hl [1, 2, 3, 4, 5, 6, 0] rfl⟩
              intro g U ih87 H locs ls hP
              obtain ⟨hgg, hm43, hmo, hmg, hM, hH, hS, hl⟩ := hP
              refine lv_iload hx hb dX2_evened_87 (lv_at hl 6 rfl) ?_
              refine lv_bipush (v := nI 10) hx hb dX2_evened_89 (by decide) ?_
              refine lvN_ge (tgt := 120) hx hb (by first | omega | (refine Nat.lt_of_lt_of_le (Nat.mod_lt _ ?_) ?_ <;> omega)) (by first | omega | (refine Nat.lt_of_lt_of_le (Nat.mod_lt _ ?_) ?_ <;> omega)) dX2_evened_91 (by decide) (fun c20 => ?_) (fun c20 => ?_)
              · have egg : g = 10 := by omega
                refine lv_iinc (v := nI (s1 + 1)) (lv' := [(5, .int (nI (s1 + 1))), (0, .ref o), (1, .int (nI q)), (2, .int (nI cs)), (3, .int k), (4, .int (nI (aRp S q))), (6, .int (nI g))]) hx hb dX2_evened_120 hl (k := 5) rfl (nI_add s1 1) (by decide) rfl (fun ls hl => ?_)
                refine lv_goto (tgt := 69) hx hb dX2_evened_123 (by decide) ?_
                exact ih69 (s1 + 1) _ U (by omega) H locs ls ⟨by omega, fun t g ht hg => by rcases Nat.lt_succ_iff_lt_or_eq.mp ht with z | z; exact hmo t g z hg; subst z; rw [← hL]; exact hmg g (by omega), hM, hH, hS, lv_sub hl [1, 2, 3, 4, 5, 0] rfl⟩
              · refine lv_aload_n hx hb dX2_evened_94 rfl (lv_at hl 0 rfl) ?_
                refine m_get hx hb hts hown hK hH 61 (by decide) q1513 rfl (v := .ref (o + 63)) rfl dX2_evened_95 ?_
                refine lv_bipush (v := nI 10) hx hb dX2_evened_98 (by decide) ?_
                refine lv_iload hx hb dX2_evened_100 (lv_at hl 5 rfl) ?_
                refine lv_imul hx hb dX2_evened_102 ?_
                refine lv_top (y := nI (10 * s1)) (pk_mul _ _) ?_
                refine lv_iload hx hb dX2_evened_103 (lv_at hl 6 rfl) ?_
                refine lv_iadd hx hb dX2_evened_105 ?_
                refine lv_top (y := nI ((10 * s1) + g)) (nI_add _ _) ?_
                refine lv_aload_n hx hb dX2_evened_106 rfl (lv_at hl 0 rfl) ?_
                refine m_get hx hb hts hown hK hH 30 (by decide) q1482 rfl (v := .ref (o + 43)) rfl dX2_evened_107 ?_
                refine lv_iload hx hb dX2_evened_110 (lv_at hl 6 rfl) ?_
                refine m_iald (n := 10) (j := g) (v := nI (mnd S L g)) hx hb hK hH (by decide) rfl (by first | omega | (refine Nat.lt_of_lt_of_le (Nat.mod_lt _ ?_) ?_ <;> omega)) (by decide) (hm43 g (by omega)) dX2_evened_112 ?_
                refine m_iast (n := 80) (j := (10 * s1) + g) hx hb hK hH hS (by decide) rfl (by first | omega | (refine Nat.lt_of_lt_of_le (Nat.mod_lt _ ?_) ?_ <;> omega)) (by decide) dX2_evened_113 (fun H locs hH hS => ?_)
                have hM := hM.vS (k := 63) rfl ((10 * s1) + g) (nI (mnd S L g))
                refine lv_iinc (v := nI (g + 1)) (lv' := [(6, .int (nI (g + 1))), (0, .ref o), (1, .int (nI q)), (2, .int (nI cs)), (3, .int k), (4, .int (nI (aRp S q))), (5, .int (nI s1))]) hx hb dX2_evened_114 hl (k := 6) rfl (nI_add g 1) (by decide) rfl (fun ls hl => ?_)
                refine lv_goto (tgt := 87) hx hb dX2_evened_117 (by decide) ?_
                exact ih87 (g + 1) _ (by omega) H locs ls ⟨by omega, fun u hu => by rw [vset_off _ _ (by decide)]; exact hm43 u hu, fun t u ht hu => by rw [vset_ne _ _ (by omega)]; exact hmo t u ht hu, fun u hu => by rw [vset_in]; split; (rename_i e; rw [show u = g by omega]); exact hmg u (by omega), hM, hH, hS, lv_sub hl [1, 2, 3, 4, 5, 6, 0] rfl⟩
          · rw [in_m1 (by omega)] at ckk
            refine lv_iconst (v := (-1)) hx hb dX2_evened_56 (by decide) ?_
            exact hp_iret hx hb hr hlocks hH hS (by decide) (by decide) dX2_evened_57 (⟨congrArg some (congrArg Value.int (by first | (simp [spEvened, eq, ecs, cr0, ck4, cp8, Nat.not_lt.mpr cp8, cc3, ckk]; done) | (simp [spEvened, eq, ecs, cr0, cp8, Nat.not_lt.mpr cp8, cc3, ckk]; omega))), _, _, rfl, hM⟩)
end MODEL
