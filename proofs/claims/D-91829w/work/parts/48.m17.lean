/-! by gen/mspec.py -/
set_option maxRecDepth 100000
section MODEL
variable {l : Launch} {s0 : State} {D : va_G} {K : Nat → ClassId} {wd : Nat → Nat} {o : Nat} {h : Hp} {I : Nat → Int32} {V : Nat → Nat → Int32} {J : Nat → Nat → Int64}
set_option maxHeartbeats 4000000 in
theorem mt_seatsFrom (hK0 : va_K D CL (TYS K) s0) {S : Ab} (hO : SOK S) {mem : List Nat} {q n : Nat} {md : Bool} {lim : Int32} (hq : q < aRm S) (hm7 : mem.length ≤ 7) (hn8 : n ≤ 8) (hme : ∀ i, i < mem.length → mem.getD i 0 < aN S) : ∀ (d : Nat) {I : Nat → Int32} {V : Nat → Nat → Int32} {pl : List Nat} {tk w m9 : Nat} {z : SeZ} (hM : MOK S I V) (hF : seF S q n mem md lim I V) (hz : seR mem.length I V z) (h57 : ∀ j, j < pl.length → V 57 j = nI (pl.getD j 0)) (hpn : ∀ j, j < pl.length → pl.getD j 0 < n) (hpm : pl.length ≤ mem.length) (htk : ∀ x, x < 8 → tk.testBit x = pl.contains x) (htl : tk < 256) (hw : w ≤ 2000 * pl.length) (hm9 : m9 ≤ 9) (hd : d = mem.length - pl.length), Met l yX2_seatsFrom (ws_ yX2_seatsFrom cX2_seatsFrom 10 ((Option.none : Option Jvm.ClassFile.FieldType))) (rmk (d + 2) 0 0) (va_Pc [.ref o, .int (nI pl.length), .int (nI tk), .int (nI w), .int (nI m9)] (PB s0 D CL (mset h K wd o I V J))) (QR s0 D CL (fun v h1 => v = none ∧ ∃ P U, h1 = mset h K wd o P U J ∧ MOK S P U ∧ kp [54, 55, 56, 57, 59] I P ∧ kp [57, 58, 59, 60, 61, 62] V U ∧ (∀ j, j < pl.length → U 57 j = nI (pl.getD j 0)) ∧ seR mem.length P U (srF S q n mem (seOk S q mem md) (lfU S q mem md lim) (mem.length - pl.length) pl w m9 z))) 0 0 (zA s0) := by
  intro d
  induction d using Nat.strongRecOn
  rename_i d ih
  intro I V pl tk w m9 z hM hF hz h57 hpn hpm htk htl hw hm9 hd
  refine hp_met (by decide) (Nat.le_of_ble_eq_true rfl) hK0 ?_
  intro p e s m below meth cd ls hx hb hr hlocks hml hown hnm hts hK hPB hl hS hH hA
  have hl : lv_has ls 10 [(0, .ref o), (1, .int (nI pl.length)), (2, .int (nI tk)), (3, .int (nI w)), (4, .int (nI m9))] := hl
  have hown : s.vm.findClass RX2 = some m.cls := hown
  have hn := hO.n
  have hmk := hO.mk
  have hrl := hO.rl
  have hrm := hO.rm
  have hsz := hO.sz
  refine lv_iload_n hx hb dX2_seatsFrom_0 rfl (lv_at hl 1 rfl) ?_
  refine lv_aload_n hx hb dX2_seatsFrom_1 rfl (lv_at hl 0 rfl) ?_
  refine m_get hx hb hts hown hK hH 43 (by decide) q1495 rfl (v := .int (nI mem.length)) (congrArg Value.int (hF.1)) dX2_seatsFrom_2 ?_
  refine lvN_ne (tgt := 16) hx hb (by first | omega | (refine Nat.lt_of_lt_of_le (Nat.mod_lt _ ?_) ?_ <;> omega)) (by first | omega | (refine Nat.lt_of_lt_of_le (Nat.mod_lt _ ?_) ?_ <;> omega)) dX2_seatsFrom_5 (by decide) (fun ci => ?_) (fun ci => ?_)
  · refine lv_iconst (v := nI 0) hx hb dX2_seatsFrom_16 (by decide) ?_
    refine lv_istore (lv' := [(5, .int (nI 0)), (0, .ref o), (1, .int (nI pl.length)), (2, .int (nI tk)), (3, .int (nI w)), (4, .int (nI m9))]) hx hb dX2_seatsFrom_17 hl (by decide) rfl (fun ls hl => ?_)
    refine w_loop3 (fun (p9 : Nat) (P : Nat → Int32) (U : Nat → Nat → Int32) => n - p9) (fun (p9 : Nat) (P : Nat → Int32) (U : Nat → Nat → Int32) H locs ls => (p9 ≤ n) ∧ (seR mem.length P U (srP S q n mem (seOk S q mem md) (lfU S q mem md lim) (mem.length - pl.length - 1) pl w m9 z p9)) ∧ (∀ j, j < pl.length → U 57 j = nI (pl.getD j 0)) ∧ (seF S q n mem md lim P U) ∧ (kp [54, 55, 56, 57, 59] I P) ∧ (kp [57, 58, 59, 60, 61, 62] V U) ∧ (MOK S P U) ∧ HP D CL (zA s0) (mset h K wd o P U J) H ∧ va_S (zA s0) s.heap H locs ∧ lv_has ls 10 [(0, .ref o), (1, .int (nI pl.length)), (2, .int (nI tk)), (3, .int (nI w)), (4, .int (nI m9)), (5, .int (nI p9))]) ?_ 0 I V ⟨Nat.zero_le _, hz, h57, hF, kp.rf, kp.rf, hM, hH, hS, lv_sub hl [1, 2, 3, 4, 5, 0] rfl⟩
    intro p9 P U ih19 H locs ls hP
    obtain ⟨hpp, hz, h57, hF, hkI, hkp, hM, hH, hS, hl⟩ := hP
    refine lv_iload hx hb dX2_seatsFrom_19 (lv_at hl 5 rfl) ?_
    refine lv_aload_n hx hb dX2_seatsFrom_21 rfl (lv_at hl 0 rfl) ?_
    refine m_get hx hb hts hown hK hH 52 (by decide) q1504 rfl (v := .int (nI n)) (congrArg Value.int (hF.2.1)) dX2_seatsFrom_22 ?_
    refine lvN_ge (tgt := 156) hx hb (by first | omega | (refine Nat.lt_of_lt_of_le (Nat.mod_lt _ ?_) ?_ <;> omega)) (by first | omega | (refine Nat.lt_of_lt_of_le (Nat.mod_lt _ ?_) ?_ <;> omega)) dX2_seatsFrom_25 (by decide) (fun cpn => ?_) (fun cpn => ?_)
    · exact hp_vret hx hb hr hlocks hH hS (by decide) (by decide) dX2_seatsFrom_156 (⟨rfl, _, _, rfl, hM, hkI, hkp, h57, by rw [srF_rows (k := mem.length - pl.length - 1) (by omega), show srP S q n mem (seOk S q mem md) (lfU S q mem md lim) (mem.length - pl.length - 1) pl w m9 z n = srP S q n mem (seOk S q mem md) (lfU S q mem md lim) (mem.length - pl.length - 1) pl w m9 z p9 by rw [show n = p9 by omega]]; exact hz⟩)
    · refine lv_iload_n hx hb dX2_seatsFrom_28 rfl (lv_at hl 2 rfl) ?_
      refine lv_iload hx hb dX2_seatsFrom_29 (lv_at hl 5 rfl) ?_
      refine lv_ishr hx hb dX2_seatsFrom_31 ?_
      refine lv_top (y := nI (tk / 2 ^ p9)) (bi_shr (by first | omega | (refine Nat.lt_of_lt_of_le (Nat.mod_lt _ ?_) ?_ <;> omega)) (by first | omega | (refine Nat.lt_of_lt_of_le (Nat.mod_lt _ ?_) ?_ <;> omega))) ?_
      refine lv_iconst (v := nI 1) hx hb dX2_seatsFrom_32 (by decide) ?_
      refine lv_iand hx hb dX2_seatsFrom_33 ?_
      refine lv_top (y := zI (Nat.testBit tk p9)) ((bi_and _ _).trans (bi_z _ _)) ?_
      refine lv_iconst (v := nI 1) hx hb dX2_seatsFrom_34 (by decide) ?_
      refine lvB_eq1 (tgt := 150) hx hb dX2_seatsFrom_35 (by decide) (fun ct => ?_) (fun ct => ?_)
      · refine lv_iinc (v := nI (p9 + 1)) (lv' := [(5, .int (nI (p9 + 1))), (0, .ref o), (1, .int (nI pl.length)), (2, .int (nI tk)), (3, .int (nI w)), (4, .int (nI m9))]) hx hb dX2_seatsFrom_150 hl (k := 5) rfl (nI_add p9 1) (by decide) rfl (fun ls hl => ?_)
        refine lv_goto (tgt := 19) hx hb dX2_seatsFrom_153 (by decide) ?_
        exact ih19 (p9 + 1) P U (by omega) H locs ls ⟨by omega, by rw [srP_no (by rw [← htk p9 (by omega), ct]; simp)]; exact hz, h57, hF, hkI, hkp, hM, hH, hS, lv_sub hl [1, 2, 3, 4, 5, 0] rfl⟩
      · refine lv_aload_n hx hb dX2_seatsFrom_38 rfl (lv_at hl 0 rfl) ?_
        refine lv_iload_n hx hb dX2_seatsFrom_39 rfl (lv_at hl 1 rfl) ?_
        refine lv_iload hx hb dX2_seatsFrom_40 (lv_at hl 5 rfl) ?_
        refine hp_callV (As := [.int (nI pl.length), .int (nI p9)]) (rest := []) hx hb hml hown hts hPB hK hH hS (mt_staysElsewhere hK0 hO hM (q := q) (i := pl.length) (p9 := p9) (mem := mem) (md := md) hF.2.2.1 hF.2.2.2.2.1 (hF.2.2.2.2.2.1 _ (by omega)) (hme _ (by omega)) (by omega)) mset_o rfl rfl 2 (lw_V q1960 q1962 qs99 q107 q1963) (by decide +kernel) ⟨rfl, rfl⟩ (by simp only [rmk]; omega) rfl hl.1 rfl (Nat.le_of_ble_eq_true rfl) (by first | decide | (simp [rmk, Value.category]; done) | (simp [rmk, Value.category]; omega)) dX2_seatsFrom_42 (fun v1 h3 H locs hp2 _ hH hS => ?_)
        obtain ⟨rfl, rfl⟩ := hp2
        refine lvB_eq (tgt := 51) hx hb dX2_seatsFrom_45 (by decide) (fun cst => ?_) (fun cst => ?_)
        · refine lv_aload_n hx hb dX2_seatsFrom_51 rfl (lv_at hl 0 rfl) ?_
          refine m_get hx hb hts hown hK hH 46 (by decide) q1498 rfl (v := .ref (o + 57)) rfl dX2_seatsFrom_52 ?_
          refine lv_iload_n hx hb dX2_seatsFrom_55 rfl (lv_at hl 1 rfl) ?_
          refine lv_iload hx hb dX2_seatsFrom_56 (lv_at hl 5 rfl) ?_
          refine m_iast (n := 10) (j := pl.length) hx hb hK hH hS (by decide) rfl (by first | omega | (refine Nat.lt_of_lt_of_le (Nat.mod_lt _ ?_) ?_ <;> omega)) (by decide) dX2_seatsFrom_58 (fun H locs hH hS => ?_)
          have hM := hM.vS (k := 57) rfl pl.length (nI p9)
          refine lv_iload_n hx hb dX2_seatsFrom_59 rfl (lv_at hl 3 rfl) ?_
          refine lv_istore (lv' := [(6, .int (nI w)), (0, .ref o), (1, .int (nI pl.length)), (2, .int (nI tk)), (3, .int (nI w)), (4, .int (nI m9)), (5, .int (nI p9))]) hx hb dX2_seatsFrom_60 hl (by decide) rfl (fun ls hl => ?_)
          refine lv_iload hx hb dX2_seatsFrom_62 (lv_at hl 5 rfl) ?_
          refine lv_istore (lv' := [(7, .int (nI m9)), (6, .int (nI w)), (0, .ref o), (1, .int (nI pl.length)), (2, .int (nI tk)), (3, .int (nI w)), (4, .int (nI m9)), (5, .int (nI p9))]) hx hb dX2_seatsFrom_64 hl (by decide) rfl (fun ls hl => ?_)
          refine lv_iconst (v := nI 0) hx hb dX2_seatsFrom_66 (by decide) ?_
          refine lv_istore (lv' := [(8, .int (nI 0)), (7, .int (nI m9)), (6, .int (nI w)), (0, .ref o), (1, .int (nI pl.length)), (2, .int (nI tk)), (3, .int (nI w)), (4, .int (nI m9)), (5, .int (nI p9))]) hx hb dX2_seatsFrom_67 hl (by decide) rfl (fun ls hl => ?_)
          refine w_loop1 (fun (j : Nat) => pl.length - j) (fun (j : Nat) H locs ls => (j ≤ pl.length) ∧ HP D CL (zA s0) (mset h K wd o P (vset U 57 pl.length (nI p9)) J) H ∧ va_S (zA s0) s.heap H locs ∧ lv_has ls 10 [(0, .ref o), (1, .int (nI pl.length)), (2, .int (nI tk)), (3, .int (nI w)), (4, .int (nI m9)), (5, .int (nI p9)), (6, .int (nI (w + seW S q mem pl p9 j))), (7, .int (nI (seH S q mem pl p9 m9 j))), (8, .int (nI j))]) ?_ 0 ⟨Nat.zero_le _, hH, hS, lv_sub hl [3, 4, 5, 6, 7, 8, 2, 1, 0] rfl⟩
          intro j ih69 H locs ls hP
          obtain ⟨hjj, hH, hS, hl⟩ := hP
          have hsw := seW_le hO q mem pl p9 j
          have hsh := seH_le hO q mem pl p9 hm9 j
          refine lv_iload hx hb dX2_seatsFrom_69 (lv_at hl 8 rfl) ?_
          refine lv_iload_n hx hb dX2_seatsFrom_71 rfl (lv_at hl 1 rfl) ?_
          refine lvN_ge (tgt := 133) hx hb (by first | omega | (refine Nat.lt_of_lt_of_le (Nat.mod_lt _ ?_) ?_ <;> omega)) (by first | omega | (refine Nat.lt_of_lt_of_le (Nat.mod_lt _ ?_) ?_ <;> omega)) dX2_seatsFrom_72 (by decide) (fun c4 => ?_) (fun c4 => ?_)
          · have ej : j = pl.length := by omega
            subst ej
            refine lv_aload_n hx hb dX2_seatsFrom_133 rfl (lv_at hl 0 rfl) ?_
            refine lv_iload_n hx hb dX2_seatsFrom_134 rfl (lv_at hl 1 rfl) ?_
            refine lv_iconst (v := nI 1) hx hb dX2_seatsFrom_135 (by decide) ?_
            refine lv_iadd hx hb dX2_seatsFrom_136 ?_
            refine lv_top (y := nI ((pl ++ [p9]).length)) (by rw [nI_add, len_push]) ?_
            refine lv_iload_n hx hb dX2_seatsFrom_137 rfl (lv_at hl 2 rfl) ?_
            refine lv_iconst (v := nI 1) hx hb dX2_seatsFrom_138 (by decide) ?_
            refine lv_iload hx hb dX2_seatsFrom_139 (lv_at hl 5 rfl) ?_
            refine lv_ishl hx hb dX2_seatsFrom_141 ?_
            refine lv_top (y := nI (2 ^ p9)) (bi_shl1 (by first | omega | (refine Nat.lt_of_lt_of_le (Nat.mod_lt _ ?_) ?_ <;> omega))) ?_
            refine lv_ior hx hb dX2_seatsFrom_142 ?_
            refine lv_top (y := nI (tk ||| (2 ^ p9))) (bi_or _ _) ?_
            refine lv_iload hx hb dX2_seatsFrom_143 (lv_at hl 6 rfl) ?_
            refine lv_iload hx hb dX2_seatsFrom_145 (lv_at hl 7 rfl) ?_
            refine hp_callV (As := [.int (nI ((pl ++ [p9]).length)), .int (nI (tk ||| (2 ^ p9))), .int (nI (w + seW S q mem pl p9 (pl.length))), .int (nI (seH S q mem pl p9 m9 (pl.length)))]) (rest := []) hx hb hml hown hts hPB hK hH hS (ih (mem.length - (pl.length + 1)) (by omega) (pl := pl ++ [p9]) (tk := tk ||| 2 ^ p9) (w := w + seW S q mem pl p9 pl.length) (m9 := seH S q mem pl p9 m9 pl.length) (z := srP S q n mem (seOk S q mem md) (lfU S q mem md lim) (mem.length - pl.length - 1) pl w m9 z p9) hM (se_cg hF kp.rf (kp.rf.vs (by decide) _ _)) (seR_57 hz (kp.rf.vs (by decide) _ _)) (pl_push h57) (pn_push hpn (by omega)) (by rw [len_push]; omega) (tk_push htk) (tk_lt htl (by omega)) (by rw [len_push]; omega) (by omega) (by rw [len_push])) mset_o rfl rfl 4 (lw_V q1948 q1950 qs96 q107 q1951) (by decide +kernel) ⟨rfl, rfl⟩ (by simp only [rmk]; omega) rfl hl.1 rfl (Nat.le_of_ble_eq_true rfl) (by first | decide | (simp [rmk, Value.category]; done) | (simp [rmk, Value.category]; omega)) dX2_seatsFrom_147 (fun v5 h7 H locs hp6 _ hH hS => ?_)
            obtain ⟨rfl, P3, U3, rfl, hM, hk1, hk2, h57c, hz3⟩ := hp6
            refine lv_iinc (v := nI (p9 + 1)) (lv' := [(5, .int (nI (p9 + 1))), (0, .ref o), (1, .int (nI pl.length)), (2, .int (nI tk)), (3, .int (nI w)), (4, .int (nI m9)), (6, .int (nI (w + seW S q mem pl p9 (pl.length)))), (7, .int (nI (seH S q mem pl p9 m9 (pl.length)))), (8, .int (nI (pl.length)))]) hx hb dX2_seatsFrom_150 hl (k := 5) rfl (nI_add p9 1) (by decide) rfl (fun ls hl => ?_)
            refine lv_goto (tgt := 19) hx hb dX2_seatsFrom_153 (by decide) ?_
            exact ih19 (p9 + 1) P3 U3 (by omega) H locs ls ⟨by omega, by rw [srP_go (by rw [← htk p9 (by omega), ct, seOk, cst]; rfl)]; rw [len_push] at hz3; exact hz3, fun j9 hj => (h57c j9 (by rw [len_push]; omega)).trans (congrArg nI (get_push hj)), se_cg hF hk1 ((kp.rf.vs (by decide) _ _).tr hk2), hkI.tr hk1, (hkp.vs (by decide) _ _).tr hk2, hM, hH, hS, lv_sub hl [1, 2, 3, 4, 5, 0] rfl⟩
          · have hpj := hpn j (by omega)
            have hwv := wgP_le hO q j pl.length (mem.getD j 0) (mem.getD pl.length 0) (pl.getD j 0) p9
            refine lv_bipush (v := nI 80) hx hb dX2_seatsFrom_75 (by decide) ?_
            refine lv_bipush (v := nI 8) hx hb dX2_seatsFrom_77 (by decide) ?_
            refine lv_iload hx hb dX2_seatsFrom_79 (lv_at hl 8 rfl) ?_
            refine lv_imul hx hb dX2_seatsFrom_81 ?_
            refine lv_top (y := nI (8 * j)) (pk_mul _ _) ?_
            refine lv_aload_n hx hb dX2_seatsFrom_82 rfl (lv_at hl 0 rfl) ?_
            refine m_get hx hb hts hown hK hH 46 (by decide) q1498 rfl (v := .ref (o + 57)) rfl dX2_seatsFrom_83 ?_
            refine lv_iload hx hb dX2_seatsFrom_86 (lv_at hl 8 rfl) ?_
            refine m_iald (n := 10) (j := j) (v := nI (pl.getD j 0)) hx hb hK hH (by decide) rfl (by first | omega | (refine Nat.lt_of_lt_of_le (Nat.mod_lt _ ?_) ?_ <;> omega)) (by decide) ((vset_ne _ _ (by omega)).trans (h57 j (by omega))) dX2_seatsFrom_88 ?_
            refine lv_iadd hx hb dX2_seatsFrom_89 ?_
            refine lv_top (y := nI ((8 * j) + (pl.getD j 0))) (nI_add _ _) ?_
            refine lv_imul hx hb dX2_seatsFrom_90 ?_
            refine lv_top (y := nI (80 * ((8 * j) + (pl.getD j 0)))) (pk_mul _ _) ?_
            refine lv_bipush (v := nI 8) hx hb dX2_seatsFrom_91 (by decide) ?_
            refine lv_iload_n hx hb dX2_seatsFrom_93 rfl (lv_at hl 1 rfl) ?_
            refine lv_imul hx hb dX2_seatsFrom_94 ?_
            refine lv_top (y := nI (8 * pl.length)) (pk_mul _ _) ?_
            refine lv_iadd hx hb dX2_seatsFrom_95 ?_
            refine lv_top (y := nI (80 * ((8 * j) + (pl.getD j 0)) + (8 * pl.length))) (nI_add _ _) ?_
            refine lv_iload hx hb dX2_seatsFrom_96 (lv_at hl 5 rfl) ?_
            refine lv_iadd hx hb dX2_seatsFrom_98 ?_
            refine lv_top (y := nI (80 * ((8 * j) + (pl.getD j 0)) + (8 * pl.length) + p9)) (nI_add _ _) ?_
            refine lv_istore (lv' := [(9, .int (nI (80 * ((8 * j) + (pl.getD j 0)) + (8 * pl.length) + p9))), (0, .ref o), (1, .int (nI pl.length)), (2, .int (nI tk)), (3, .int (nI w)), (4, .int (nI m9)), (5, .int (nI p9)), (6, .int (nI (w + seW S q mem pl p9 j))), (7, .int (nI (seH S q mem pl p9 m9 j))), (8, .int (nI j))]) hx hb dX2_seatsFrom_99 hl (by decide) rfl (fun ls hl => ?_)
            refine lv_iload hx hb dX2_seatsFrom_101 (lv_at hl 7 rfl) ?_
            refine lv_aload_n hx hb dX2_seatsFrom_103 rfl (lv_at hl 1 rfl) ?_
            refine m_get hx hb hts hown hK hH 44 (by decide) q1496 rfl (v := .ref (o + 55)) rfl dX2_seatsFrom_104 ?_
            refine lv_iload hx hb dX2_seatsFrom_107 (lv_at hl 0 rfl) ?_
            refine m_iald (n := 6400) (j := 80 * ((8 * j) + (pl.getD j 0)) + (8 * pl.length) + p9) (v := nI (wgP S q j pl.length (mem.getD j 0) (mem.getD pl.length 0) (pl.getD j 0) p9)) hx hb hK hH (by decide) rfl (by first | omega | (refine Nat.lt_of_lt_of_le (Nat.mod_lt _ ?_) ?_ <;> omega)) (by decide) ((congrFun (vset_off _ _ (by decide)) _).trans (se_w hF (i := j) (j := pl.length) (by omega) (by omega) hpj (by omega)).1) dX2_seatsFrom_109 ?_
            refine lv_iadd hx hb dX2_seatsFrom_110 ?_
            refine lv_top (y := nI (w + seW S q mem pl p9 (j + 1))) ((nI_add _ _).trans (congrArg nI (Nat.add_assoc _ _ _))) ?_
            refine lv_istore (lv' := [(6, .int (nI (w + seW S q mem pl p9 (j + 1)))), (9, .int (nI (80 * ((8 * j) + (pl.getD j 0)) + (8 * pl.length) + p9))), (0, .ref o), (1, .int (nI pl.length)), (2, .int (nI tk)), (3, .int (nI w)), (4, .int (nI m9)), (5, .int (nI p9)), (7, .int (nI (seH S q mem pl p9 m9 j))), (8, .int (nI j))]) hx hb dX2_seatsFrom_111 hl (by decide) rfl (fun ls hl => ?_)
            refine lv_iload hx hb dX2_seatsFrom_113 (lv_at hl 8 rfl) ?_
            refine lv_aload_n hx hb dX2_seatsFrom_115 rfl (lv_at hl 2 rfl) ?_
            refine m_get hx hb hts hown hK hH 45 (by decide) q1497 rfl (v := .ref (o + 56)) rfl dX2_seatsFrom_116 ?_
            refine lv_iload hx hb dX2_seatsFrom_119 (lv_at hl 1 rfl) ?_
            refine m_iald (n := 6400) (j := 80 * ((8 * j) + (pl.getD j 0)) + (8 * pl.length) + p9) (v := nI (hvP S q j pl.length (mem.getD j 0) (mem.getD pl.length 0) (pl.getD j 0) p9)) hx hb hK hH (by decide) rfl (by first | omega | (refine Nat.lt_of_lt_of_le (Nat.mod_lt _ ?_) ?_ <;> omega)) (by decide) ((congrFun (vset_off _ _ (by decide)) _).trans (se_w hF (i := j) (j := pl.length) (by omega) (by omega) hpj (by omega)).2) dX2_seatsFrom_121 ?_
            refine va_mmax hx hb (hml.trans hl.1.symm) hown (hts _ q1839) (hts _ q409) (hts _ q114) (hts _ q410) (by first | decide | (simp [rmk, Value.category]; done) | (simp [rmk, Value.category]; omega)) (by first | decide | (simp [rmk, Value.category]; done) | (simp [rmk, Value.category]; omega)) (by first | decide | (simp [rmk, Value.category]; done) | (simp [rmk, Value.category]; omega)) (by first | decide | (simp [rmk, Value.category]; done) | (simp [rmk, Value.category]; omega)) dX2_seatsFrom_122 ?_
            refine lv_top (y := nI (seH S q mem pl p9 m9 (j + 1))) (i_maxN (by omega) (by omega)) ?_
            refine lv_istore (lv' := [(7, .int (nI (seH S q mem pl p9 m9 (j + 1)))), (6, .int (nI (w + seW S q mem pl p9 (j + 1)))), (9, .int (nI (80 * ((8 * j) + (pl.getD j 0)) + (8 * pl.length) + p9))), (0, .ref o), (1, .int (nI pl.length)), (2, .int (nI tk)), (3, .int (nI w)), (4, .int (nI m9)), (5, .int (nI p9)), (8, .int (nI j))]) hx hb dX2_seatsFrom_125 hl (by decide) rfl (fun ls hl => ?_)
            refine lv_iinc (v := nI (j + 1)) (lv' := [(8, .int (nI (j + 1))), (7, .int (nI (seH S q mem pl p9 m9 (j + 1)))), (6, .int (nI (w + seW S q mem pl p9 (j + 1)))), (9, .int (nI (80 * ((8 * j) + (pl.getD j 0)) + (8 * pl.length) + p9))), (0, .ref o), (1, .int (nI pl.length)), (2, .int (nI tk)), (3, .int (nI w)), (4, .int (nI m9)), (5, .int (nI p9))]) hx hb dX2_seatsFrom_127 hl (k := 9) rfl (nI_add j 1) (by decide) rfl (fun ls hl => ?_)
            refine lv_goto (tgt := 69) hx hb dX2_seatsFrom_130 (by decide) ?_
            exact ih69 (j + 1) (by omega) H locs ls ⟨by omega, hH, hS, lv_sub hl [4, 5, 6, 7, 8, 9, 2, 1, 0] rfl⟩
        · refine lv_goto (tgt := 150) hx hb dX2_seatsFrom_48 (by decide) ?_
          refine lv_iinc (v := nI (p9 + 1)) (lv' := [(5, .int (nI (p9 + 1))), (0, .ref o), (1, .int (nI pl.length)), (2, .int (nI tk)), (3, .int (nI w)), (4, .int (nI m9))]) hx hb dX2_seatsFrom_150 hl (k := 5) rfl (nI_add p9 1) (by decide) rfl (fun ls hl => ?_)
          refine lv_goto (tgt := 19) hx hb dX2_seatsFrom_153 (by decide) ?_
          exact ih19 (p9 + 1) P U (by omega) H locs ls ⟨by omega, by rw [srP_no (by rw [seOk, cst]; simp)]; exact hz, h57, hF, hkI, hkp, hM, hH, hS, lv_sub hl [1, 2, 3, 4, 5, 0] rfl⟩
  · refine lv_aload_n hx hb dX2_seatsFrom_8 rfl (lv_at hl 0 rfl) ?_
    refine lv_iload_n hx hb dX2_seatsFrom_9 rfl (lv_at hl 3 rfl) ?_
    refine lv_iload hx hb dX2_seatsFrom_10 (lv_at hl 4 rfl) ?_
    refine hp_callV (As := [.int (nI w), .int (nI m9)]) (rest := []) hx hb hml hown hts hPB hK hH hS (mt_meets hK0 hO hM (mem := mem) (pl := pl) (q := q) (w := w) (m9 := m9) (md := md) (lim := lim) (z := z) hF.1 hF.2.2.1 hF.2.2.2.1 hF.2.2.2.2.1 hF.2.2.2.2.2.1 hme hm7 (fun i hi => h57 i (by omega)) (pl_8 hpn hn8) (by omega) (by omega) hz) mset_o rfl rfl 2 (lw_V q1952 q1954 qs97 q107 q1955) (by decide +kernel) ⟨rfl, rfl⟩ (by simp only [rmk]; omega) rfl hl.1 rfl (Nat.le_of_ble_eq_true rfl) (by first | decide | (simp [rmk, Value.category]; done) | (simp [rmk, Value.category]; omega)) dX2_seatsFrom_12 (fun v8 h10 H locs hp9 _ hH hS => ?_)
    obtain ⟨rfl, P2, U2, rfl, hM, hkI, hkp, hz2⟩ := hp9
    exact hp_vret hx hb hr hlocks hH hS (by decide) (by decide) dX2_seatsFrom_15 (⟨rfl, _, _, rfl, hM, hkI, hkp.wide (by decide), fun j hj => (congrFun (hkp 57 (by decide)) _).trans (h57 j hj), by rw [show mem.length - pl.length = 0 by omega]; exact hz2⟩)
end MODEL
