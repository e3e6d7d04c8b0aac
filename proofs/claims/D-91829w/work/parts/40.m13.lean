/-! by gen/mspec.py -/
set_option maxRecDepth 100000
section MODEL
variable {l : Launch} {s0 : State} {D : va_G} {K : Nat → ClassId} {wd : Nat → Nat} {o : Nat} {h : Hp} {I : Nat → Int32} {V : Nat → Nat → Int32} {J : Nat → Nat → Int64}
set_option maxHeartbeats 4000000 in
theorem mt_weighPair (hK0 : va_K D CL (TYS K) s0) {S : Ab} (hO : SOK S) (hM : MOK S I V) {q : Nat} {i : Nat} {j : Nat} {a : Nat} {b : Nat} {x : Nat} {y : Nat} (hvx : V 53 i = nI x) (hvy : V 53 j = nI y) (hx0 : x < aN S) (hy0 : y < aN S) (hq : q < aRm S) (hi : i < 7) (hj : j < 7) (ha0 : a < 8) (hb0 : b < 8) : Met l yX2_weighPair (ws_ yX2_weighPair cX2_weighPair 11 ((Option.none : Option Jvm.ClassFile.FieldType))) (rmk 4 0 0) (va_Pc [.ref o, .int (nI q), .int (nI i), .int (nI j), .int (nI a), .int (nI b)] (PB s0 D CL (mset h K wd o I V J))) (QR s0 D CL (fun v h1 => v = none ∧ ∃ U, h1 = mset h K wd o I U J ∧ MOK S I U ∧ kp [55, 56] V U ∧ U 55 (80 * (8 * i + a) + 8 * j + b) = nI (wgP S q i j x y a b) ∧ U 56 (80 * (8 * i + a) + 8 * j + b) = nI (hvP S q i j x y a b) ∧ (∀ t, t ≠ (80 * (8 * i + a) + 8 * j + b) → U 55 t = V 55 t ∧ U 56 t = V 56 t))) 0 0 (zA s0) := by
  refine hp_met (by decide) (Nat.le_of_ble_eq_true rfl) hK0 ?_
  intro p e s m below meth cd ls hx hb hr hlocks hml hown hnm hts hK hPB hl hS hH hA
  have hl : lv_has ls 11 [(0, .ref o), (1, .int (nI q)), (2, .int (nI i)), (3, .int (nI j)), (4, .int (nI a)), (5, .int (nI b))] := hl
  have hown : s.vm.findClass RX2 = some m.cls := hown
  have hn := hO.n
  have hmk := hO.mk
  have hrl := hO.rl
  have hrm := hO.rm
  have hsz := hO.sz
  refine lv_bipush (v := nI 80) hx hb dX2_weighPair_0 (by decide) ?_
  refine lv_bipush (v := nI 8) hx hb dX2_weighPair_2 (by decide) ?_
  refine lv_iload_n hx hb dX2_weighPair_4 rfl (lv_at hl 2 rfl) ?_
  refine lv_imul hx hb dX2_weighPair_5 ?_
  refine lv_top (y := nI (8 * i)) (pk_mul _ _) ?_
  refine lv_iload hx hb dX2_weighPair_6 (lv_at hl 4 rfl) ?_
  refine lv_iadd hx hb dX2_weighPair_8 ?_
  refine lv_top (y := nI ((8 * i) + a)) (nI_add _ _) ?_
  refine lv_imul hx hb dX2_weighPair_9 ?_
  refine lv_top (y := nI (80 * ((8 * i) + a))) (pk_mul _ _) ?_
  refine lv_bipush (v := nI 8) hx hb dX2_weighPair_10 (by decide) ?_
  refine lv_iload_n hx hb dX2_weighPair_12 rfl (lv_at hl 3 rfl) ?_
  refine lv_imul hx hb dX2_weighPair_13 ?_
  refine lv_top (y := nI (8 * j)) (pk_mul _ _) ?_
  refine lv_iadd hx hb dX2_weighPair_14 ?_
  refine lv_top (y := nI (80 * ((8 * i) + a) + (8 * j))) (nI_add _ _) ?_
  refine lv_iload hx hb dX2_weighPair_15 (lv_at hl 5 rfl) ?_
  refine lv_iadd hx hb dX2_weighPair_17 ?_
  refine lv_top (y := nI (80 * ((8 * i) + a) + (8 * j) + b)) (nI_add _ _) ?_
  refine lv_istore (lv' := [(6, .int (nI (80 * ((8 * i) + a) + (8 * j) + b))), (0, .ref o), (1, .int (nI q)), (2, .int (nI i)), (3, .int (nI j)), (4, .int (nI a)), (5, .int (nI b))]) hx hb dX2_weighPair_18 hl (by decide) rfl (fun ls hl => ?_)
  refine lv_aload_n hx hb dX2_weighPair_20 rfl (lv_at hl 1 rfl) ?_
  refine m_get hx hb hts hown hK hH 44 (by decide) q1496 rfl (v := .ref (o + 55)) rfl dX2_weighPair_21 ?_
  refine lv_iload hx hb dX2_weighPair_24 (lv_at hl 0 rfl) ?_
  refine lv_iconst (v := nI 0) hx hb dX2_weighPair_26 (by decide) ?_
  refine m_iast (n := 6400) (j := 80 * ((8 * i) + a) + (8 * j) + b) hx hb hK hH hS (by decide) rfl (by first | omega | (refine Nat.lt_of_lt_of_le (Nat.mod_lt _ ?_) ?_ <;> omega)) (by decide) dX2_weighPair_27 (fun H locs hH hS => ?_)
  have hM := hM.vS (k := 55) rfl (80 * ((8 * i) + a) + (8 * j) + b) (nI 0)
  refine lv_aload_n hx hb dX2_weighPair_28 rfl (lv_at hl 1 rfl) ?_
  refine m_get hx hb hts hown hK hH 45 (by decide) q1497 rfl (v := .ref (o + 56)) rfl dX2_weighPair_29 ?_
  refine lv_iload hx hb dX2_weighPair_32 (lv_at hl 0 rfl) ?_
  refine lv_iconst (v := nI 0) hx hb dX2_weighPair_34 (by decide) ?_
  refine m_iast (n := 6400) (j := 80 * ((8 * i) + a) + (8 * j) + b) hx hb hK hH hS (by decide) rfl (by first | omega | (refine Nat.lt_of_lt_of_le (Nat.mod_lt _ ?_) ?_ <;> omega)) (by decide) dX2_weighPair_35 (fun H locs hH hS => ?_)
  have hM := hM.vS (k := 56) rfl (80 * ((8 * i) + a) + (8 * j) + b) (nI 0)
  refine lv_iload_n hx hb dX2_weighPair_36 rfl (lv_at hl 3 rfl) ?_
  refine lv_iload_n hx hb dX2_weighPair_37 rfl (lv_at hl 4 rfl) ?_
  refine lvN_ge (tgt := 48) hx hb (by first | omega | (refine Nat.lt_of_lt_of_le (Nat.mod_lt _ ?_) ?_ <;> omega)) (by first | omega | (refine Nat.lt_of_lt_of_le (Nat.mod_lt _ ?_) ?_ <;> omega)) dX2_weighPair_38 (by decide) (fun cij => ?_) (fun cij => ?_)
  · exact hp_vret hx hb hr hlocks hH hS (by decide) (by decide) dX2_weighPair_48 (⟨rfl, _, rfl, hM, (kp.rf.vs (by decide) _ _).vs (by decide) _ _, by rw [vset_off _ _ (by decide), vset_self, wgP, if_neg (by omega)], by rw [vset_self, hvP, if_neg (by omega)], fun t ht => ⟨by rw [vset_off _ _ (by decide), vset_ne _ _ ht], by rw [vset_ne _ _ ht, vset_off _ _ (by decide)]⟩⟩)
  · refine lv_iload hx hb dX2_weighPair_41 (lv_at hl 5 rfl) ?_
    refine lv_iload hx hb dX2_weighPair_43 (lv_at hl 6 rfl) ?_
    refine lvN_ne (tgt := 49) hx hb (by first | omega | (refine Nat.lt_of_lt_of_le (Nat.mod_lt _ ?_) ?_ <;> omega)) (by first | omega | (refine Nat.lt_of_lt_of_le (Nat.mod_lt _ ?_) ?_ <;> omega)) dX2_weighPair_45 (by decide) (fun cab => ?_) (fun cab => ?_)
    · refine lv_aload_n hx hb dX2_weighPair_49 rfl (lv_at hl 1 rfl) ?_
      refine m_get hx hb hts hown hK hH 41 (by decide) q1493 rfl (v := .ref (o + 53)) rfl dX2_weighPair_50 ?_
      refine lv_iload_n hx hb dX2_weighPair_53 rfl (lv_at hl 3 rfl) ?_
      refine m_iald (n := 10) (j := i) (v := nI x) hx hb hK hH (by decide) rfl (by first | omega | (refine Nat.lt_of_lt_of_le (Nat.mod_lt _ ?_) ?_ <;> omega)) (by decide) (hvx) dX2_weighPair_54 ?_
      refine lv_istore (lv' := [(7, .int (nI x)), (6, .int (nI (80 * ((8 * i) + a) + (8 * j) + b))), (0, .ref o), (1, .int (nI q)), (2, .int (nI i)), (3, .int (nI j)), (4, .int (nI a)), (5, .int (nI b))]) hx hb dX2_weighPair_55 hl (by decide) rfl (fun ls hl => ?_)
      refine lv_aload_n hx hb dX2_weighPair_57 rfl (lv_at hl 2 rfl) ?_
      refine m_get hx hb hts hown hK hH 41 (by decide) q1493 rfl (v := .ref (o + 53)) rfl dX2_weighPair_58 ?_
      refine lv_iload_n hx hb dX2_weighPair_61 rfl (lv_at hl 5 rfl) ?_
      refine m_iald (n := 10) (j := j) (v := nI y) hx hb hK hH (by decide) rfl (by first | omega | (refine Nat.lt_of_lt_of_le (Nat.mod_lt _ ?_) ?_ <;> omega)) (by decide) (hvy) dX2_weighPair_62 ?_
      refine lv_istore (lv' := [(8, .int (nI y)), (7, .int (nI x)), (6, .int (nI (80 * ((8 * i) + a) + (8 * j) + b))), (0, .ref o), (1, .int (nI q)), (2, .int (nI i)), (3, .int (nI j)), (4, .int (nI a)), (5, .int (nI b))]) hx hb dX2_weighPair_63 hl (by decide) rfl (fun ls hl => ?_)
      refine lv_iconst (v := nI 0) hx hb dX2_weighPair_65 (by decide) ?_
      refine lv_istore (lv' := [(9, .int (nI 0)), (8, .int (nI y)), (7, .int (nI x)), (6, .int (nI (80 * ((8 * i) + a) + (8 * j) + b))), (0, .ref o), (1, .int (nI q)), (2, .int (nI i)), (3, .int (nI j)), (4, .int (nI a)), (5, .int (nI b))]) hx hb dX2_weighPair_66 hl (by decide) rfl (fun ls hl => ?_)
      refine w_loop2 (fun (r : Nat) (U : Nat → Nat → Int32) => aRl S - r) (fun (r : Nat) (U : Nat → Nat → Int32) H locs ls => (r ≤ aRl S) ∧ (U 55 (80 * (8 * i + a) + 8 * j + b) = nI (wgR S q x y a b r)) ∧ (U 56 (80 * (8 * i + a) + 8 * j + b) = nI (hvR S q x y a b r)) ∧ (∀ t, t ≠ (80 * (8 * i + a) + 8 * j + b) → U 55 t = V 55 t ∧ U 56 t = V 56 t) ∧ (kp [55, 56] V U) ∧ (MOK S I U) ∧ HP D CL (zA s0) (mset h K wd o I U J) H ∧ va_S (zA s0) s.heap H locs ∧ lv_has ls 11 [(0, .ref o), (1, .int (nI q)), (2, .int (nI i)), (3, .int (nI j)), (4, .int (nI a)), (5, .int (nI b)), (6, .int (nI (80 * ((8 * i) + a) + (8 * j) + b))), (7, .int (nI x)), (8, .int (nI y)), (9, .int (nI r))]) ?_ 0 (vset (vset V 55 (80 * (8 * i + a) + 8 * j + b) (nI 0)) 56 (80 * (8 * i + a) + 8 * j + b) (nI 0)) ⟨Nat.zero_le _, by rw [vset_off _ _ (by decide), vset_self]; rfl, vset_self _ _ _ _, fun t ht => ⟨by rw [vset_off _ _ (by decide), vset_ne _ _ ht], by rw [vset_ne _ _ ht, vset_off _ _ (by decide)]⟩, (kp.rf.vs (by decide) _ _).vs (by decide) _ _, hM, hH, hS, lv_sub hl [4, 5, 6, 7, 8, 9, 3, 2, 1, 0] rfl⟩
      intro r U ih68 H locs ls hP
      obtain ⟨hrr, hwg, hhv, hoth, hkp, hM, hH, hS, hl⟩ := hP
      have hwl := wgR_le hO q x y a b r hrr
      refine lv_iload hx hb dX2_weighPair_68 (lv_at hl 9 rfl) ?_
      refine lv_aload_n hx hb dX2_weighPair_70 rfl (lv_at hl 0 rfl) ?_
      refine m_get hx hb hts hown hK hH 17 (by decide) q1469 rfl (v := .ref (o + 31)) rfl dX2_weighPair_71 ?_
      refine lv_iconst (v := nI 0) hx hb dX2_weighPair_74 (by decide) ?_
      refine m_iald (n := 2) (j := 0) (v := nI (aRl S)) hx hb hK hH (by decide) rfl (by first | omega | (refine Nat.lt_of_lt_of_le (Nat.mod_lt _ ?_) ?_ <;> omega)) (by decide) (hM.rl) dX2_weighPair_75 ?_
      refine lvN_ge (tgt := 283) hx hb (by first | omega | (refine Nat.lt_of_lt_of_le (Nat.mod_lt _ ?_) ?_ <;> omega)) (by first | omega | (refine Nat.lt_of_lt_of_le (Nat.mod_lt _ ?_) ?_ <;> omega)) dX2_weighPair_76 (by decide) (fun c1 => ?_) (fun c1 => ?_)
      · exact hp_vret hx hb hr hlocks hH hS (by decide) (by decide) dX2_weighPair_283 (⟨rfl, _, rfl, hM, hkp, by rw [wgP, if_pos (by omega), show aRl S = r by omega]; exact hwg, by rw [hvP, if_pos (by omega), show aRl S = r by omega]; exact hhv, hoth⟩)
      · refine lv_iconst (v := nI 0) hx hb dX2_weighPair_79 (by decide) ?_
        refine lv_istore (lv' := [(10, .int (nI 0)), (0, .ref o), (1, .int (nI q)), (2, .int (nI i)), (3, .int (nI j)), (4, .int (nI a)), (5, .int (nI b)), (6, .int (nI (80 * ((8 * i) + a) + (8 * j) + b))), (7, .int (nI x)), (8, .int (nI y)), (9, .int (nI r))]) hx hb dX2_weighPair_80 hl (by decide) rfl (fun ls hl => ?_)
        have hkd := hO.kd (r := r) (by omega)
        have hwt := hO.wt (r := r) (by omega)
        have hwm1 := whoM_le S r q 0 a b
        have hwm2 := whoM_le S r q 0 b a
        refine lv_aload_n hx hb dX2_weighPair_82 rfl (lv_at hl 1 rfl) ?_
        refine m_get hx hb hts hown hK hH 9 (by decide) q1461 rfl (v := .ref (o + 11)) rfl dX2_weighPair_83 ?_
        refine lv_iconst (v := nI 0) hx hb dX2_weighPair_86 (by decide) ?_
        refine m_rowI (k' := 12) hx hb hK hH (by decide) rfl (by decide) (by decide) rfl dX2_weighPair_87 ?_
        refine lv_iload hx hb dX2_weighPair_88 (lv_at hl 10 rfl) ?_
        refine m_iald (n := 12) (j := r) (v := nI (aKd S r)) hx hb hK hH (by decide) rfl (by first | omega | (refine Nat.lt_of_lt_of_le (Nat.mod_lt _ ?_) ?_ <;> omega)) (by decide) (hM.kd (by first | omega | (refine Nat.lt_of_lt_of_le (Nat.mod_lt _ ?_) ?_ <;> omega))) dX2_weighPair_90 ?_
        refine lvZ_ne (tgt := 175) hx hb (by first | omega | (refine Nat.lt_of_lt_of_le (Nat.mod_lt _ ?_) ?_ <;> omega)) dX2_weighPair_91 (by decide) (fun ck => ?_) (fun ck => ?_)
        · refine lv_iload hx hb dX2_weighPair_175 (lv_at hl 0 rfl) ?_
          refine lv_aload_n hx hb dX2_weighPair_177 rfl (lv_at hl 1 rfl) ?_
          refine lv_iload hx hb dX2_weighPair_178 (lv_at hl 10 rfl) ?_
          refine lv_iload_n hx hb dX2_weighPair_180 rfl (lv_at hl 2 rfl) ?_
          refine lv_iload hx hb dX2_weighPair_181 (lv_at hl 8 rfl) ?_
          refine lv_iload hx hb dX2_weighPair_183 (lv_at hl 9 rfl) ?_
          refine hp_callV (As := [.int (nI r), .int (nI q), .int (nI x), .int (nI y)]) (rest := [.int (nI 0)]) hx hb hml hown hts hPB hK hH hS (mt_countsFor hK0 hO hM (r := r) (x := x) (y := y) (by omega) (by omega) (by omega) (nI q)) mset_o rfl rfl 4 (lw_V q1822 q1824 qs76 q107 q1825) (by decide +kernel) ⟨rfl, rfl⟩ (by decide) rfl hl.1 rfl (Nat.le_of_ble_eq_true rfl) (by decide) dX2_weighPair_185 (fun v2 h4 H locs hp3 _ hH hS => ?_)
          obtain ⟨rfl, rfl⟩ := hp3
          refine lvB_eq (tgt := 210) hx hb dX2_weighPair_188 (by decide) (fun ca3 => ?_) (fun ca3 => ?_)
          · refine lv_iconst (v := nI 0) hx hb dX2_weighPair_210 (by decide) ?_
            refine lv_iadd hx hb dX2_weighPair_211 ?_
            refine lv_top (y := nI (0 + 0)) (nI_add _ _) ?_
            refine lv_istore (lv' := [(10, .int (nI (0 + 0))), (0, .ref o), (1, .int (nI q)), (2, .int (nI i)), (3, .int (nI j)), (4, .int (nI a)), (5, .int (nI b)), (6, .int (nI (80 * ((8 * i) + a) + (8 * j) + b))), (7, .int (nI x)), (8, .int (nI y)), (9, .int (nI r))]) hx hb dX2_weighPair_212 hl (by decide) rfl (fun ls hl => ?_)
            have ewm : wMany S q r x y a b = 0 + 0 := by simp [wMany, wM1, ck, ca3]
            rw [← ewm] at hl
            refine lv_aload_n hx hb dX2_weighPair_214 rfl (lv_at hl 1 rfl) ?_
            refine m_get hx hb hts hown hK hH 44 (by decide) q1496 rfl (v := .ref (o + 55)) rfl dX2_weighPair_215 ?_
            refine lv_iload hx hb dX2_weighPair_218 (lv_at hl 7 rfl) ?_
            refine lv_dup2_11 hx hb dX2_weighPair_220 rfl rfl ?_
            refine m_iald (n := 6400) (j := 80 * ((8 * i) + a) + (8 * j) + b) (v := nI (wgR S q x y a b r)) hx hb hK hH (by decide) rfl (by first | omega | (refine Nat.lt_of_lt_of_le (Nat.mod_lt _ ?_) ?_ <;> omega)) (by decide) (hwg) dX2_weighPair_221 ?_
            refine lv_iload hx hb dX2_weighPair_222 (lv_at hl 0 rfl) ?_
            refine lv_aload_n hx hb dX2_weighPair_224 rfl (lv_at hl 1 rfl) ?_
            refine m_get hx hb hts hown hK hH 12 (by decide) q1464 rfl (v := .ref (o + 20)) rfl dX2_weighPair_225 ?_
            refine lv_iconst (v := nI 0) hx hb dX2_weighPair_228 (by decide) ?_
            refine m_rowI (k' := 21) hx hb hK hH (by decide) rfl (by decide) (by decide) rfl dX2_weighPair_229 ?_
            refine lv_iload hx hb dX2_weighPair_230 (lv_at hl 10 rfl) ?_
            refine m_iald (n := 12) (j := r) (v := nI (aWt S r)) hx hb hK hH (by decide) rfl (by first | omega | (refine Nat.lt_of_lt_of_le (Nat.mod_lt _ ?_) ?_ <;> omega)) (by decide) (hM.wt (by first | omega | (refine Nat.lt_of_lt_of_le (Nat.mod_lt _ ?_) ?_ <;> omega))) dX2_weighPair_232 ?_
            refine lv_imul hx hb dX2_weighPair_233 ?_
            refine lv_top (y := nI ((wMany S q r x y a b) * (aWt S r))) (pk_mul _ _) ?_
            refine lv_iadd hx hb dX2_weighPair_234 ?_
            refine lv_top (y := nI (wgR S q x y a b (r + 1))) ((nI_add _ _).trans rfl) ?_
            refine m_iast (n := 6400) (j := 80 * ((8 * i) + a) + (8 * j) + b) hx hb hK hH hS (by decide) rfl (by first | omega | (refine Nat.lt_of_lt_of_le (Nat.mod_lt _ ?_) ?_ <;> omega)) (by decide) dX2_weighPair_235 (fun H locs hH hS => ?_)
            have hM := hM.vS (k := 55) rfl (80 * ((8 * i) + a) + (8 * j) + b) (nI (wgR S q x y a b (r + 1)))
            refine lv_aload_n hx hb dX2_weighPair_236 rfl (lv_at hl 1 rfl) ?_
            refine m_get hx hb hts hown hK hH 45 (by decide) q1497 rfl (v := .ref (o + 56)) rfl dX2_weighPair_237 ?_
            refine lv_iload hx hb dX2_weighPair_240 (lv_at hl 7 rfl) ?_
            refine lv_iload hx hb dX2_weighPair_242 (lv_at hl 0 rfl) ?_
            have hwm := wMany_le S q r x y a b
            refine lvZ_le (tgt := 269) hx hb (by first | omega | (refine Nat.lt_of_lt_of_le (Nat.mod_lt _ ?_) ?_ <;> omega)) dX2_weighPair_244 (by decide) (fun cp => ?_) (fun cp => ?_)
            · refine lv_aload_n hx hb dX2_weighPair_269 rfl (lv_at hl 1 rfl) ?_
              refine m_get hx hb hts hown hK hH 45 (by decide) q1497 rfl (v := .ref (o + 56)) rfl dX2_weighPair_270 ?_
              refine lv_iload hx hb dX2_weighPair_273 (lv_at hl 7 rfl) ?_
              refine m_iald (n := 6400) (j := 80 * ((8 * i) + a) + (8 * j) + b) (v := nI (hvR S q x y a b r)) hx hb hK hH (by decide) rfl (by first | omega | (refine Nat.lt_of_lt_of_le (Nat.mod_lt _ ?_) ?_ <;> omega)) (by decide) (hhv) dX2_weighPair_275 ?_
              refine m_iast (n := 6400) (j := 80 * ((8 * i) + a) + (8 * j) + b) hx hb hK hH hS (by decide) rfl (by first | omega | (refine Nat.lt_of_lt_of_le (Nat.mod_lt _ ?_) ?_ <;> omega)) (by decide) dX2_weighPair_276 (fun H locs hH hS => ?_)
              have hM := hM.vS (k := 56) rfl (80 * ((8 * i) + a) + (8 * j) + b) (nI (hvR S q x y a b r))
              refine lv_iinc (v := nI (r + 1)) (lv' := [(9, .int (nI (r + 1))), (10, .int (nI (wMany S q r x y a b))), (0, .ref o), (1, .int (nI q)), (2, .int (nI i)), (3, .int (nI j)), (4, .int (nI a)), (5, .int (nI b)), (6, .int (nI (80 * ((8 * i) + a) + (8 * j) + b))), (7, .int (nI x)), (8, .int (nI y))]) hx hb dX2_weighPair_277 hl (k := 10) rfl (nI_add r 1) (by decide) rfl (fun ls hl => ?_)
              refine lv_goto (tgt := 68) hx hb dX2_weighPair_280 (by decide) ?_
              exact ih68 (r + 1) _ (by omega) H locs ls ⟨by omega, by rw [vset_off _ _ (by decide), vset_self], by rw [vset_self, hvR, if_neg (by omega)], fun t ht => ⟨by rw [vset_off _ _ (by decide), vset_ne _ _ ht]; exact (hoth t ht).1, by rw [vset_ne _ _ ht, vset_off _ _ (by decide)]; exact (hoth t ht).2⟩, (hkp.vs (by decide) _ _).vs (by decide) _ _, hM, hH, hS, lv_sub hl [2, 3, 4, 5, 6, 7, 8, 9, 10, 0] rfl⟩
            · refine lv_aload_n hx hb dX2_weighPair_247 rfl (lv_at hl 1 rfl) ?_
              refine m_get hx hb hts hown hK hH 45 (by decide) q1497 rfl (v := .ref (o + 56)) rfl dX2_weighPair_248 ?_
              refine lv_iload hx hb dX2_weighPair_251 (lv_at hl 7 rfl) ?_
              refine m_iald (n := 6400) (j := 80 * ((8 * i) + a) + (8 * j) + b) (v := nI (hvR S q x y a b r)) hx hb hK hH (by decide) rfl (by first | omega | (refine Nat.lt_of_lt_of_le (Nat.mod_lt _ ?_) ?_ <;> omega)) (by decide) (hhv) dX2_weighPair_253 ?_
              refine lv_aload_n hx hb dX2_weighPair_254 rfl (lv_at hl 1 rfl) ?_
              refine m_get hx hb hts hown hK hH 12 (by decide) q1464 rfl (v := .ref (o + 20)) rfl dX2_weighPair_255 ?_
              refine lv_iconst (v := nI 0) hx hb dX2_weighPair_258 (by decide) ?_
              refine m_rowI (k' := 21) hx hb hK hH (by decide) rfl (by decide) (by decide) rfl dX2_weighPair_259 ?_
              refine lv_iload hx hb dX2_weighPair_260 (lv_at hl 10 rfl) ?_
              refine m_iald (n := 12) (j := r) (v := nI (aWt S r)) hx hb hK hH (by decide) rfl (by first | omega | (refine Nat.lt_of_lt_of_le (Nat.mod_lt _ ?_) ?_ <;> omega)) (by decide) (hM.wt (by first | omega | (refine Nat.lt_of_lt_of_le (Nat.mod_lt _ ?_) ?_ <;> omega))) dX2_weighPair_262 ?_
              refine va_mmax hx hb (hml.trans hl.1.symm) hown (hts _ q1839) (hts _ q409) (hts _ q114) (hts _ q410) (Nat.le_of_ble_eq_true rfl) (Nat.le_of_ble_eq_true rfl) (Nat.le_of_ble_eq_true rfl) (Nat.le_of_ble_eq_true rfl) dX2_weighPair_263 ?_
              refine lv_top (y := nI (max (hvR S q x y a b r) (aWt S r))) (i_maxN (by first | omega | (refine Nat.lt_of_lt_of_le (Nat.mod_lt _ ?_) ?_ <;> omega)) (by first | omega | (refine Nat.lt_of_lt_of_le (Nat.mod_lt _ ?_) ?_ <;> omega))) ?_
              refine lv_goto (tgt := 276) hx hb dX2_weighPair_266 (by decide) ?_
              refine m_iast (n := 6400) (j := 80 * ((8 * i) + a) + (8 * j) + b) hx hb hK hH hS (by decide) rfl (by first | omega | (refine Nat.lt_of_lt_of_le (Nat.mod_lt _ ?_) ?_ <;> omega)) (by decide) dX2_weighPair_276 (fun H locs hH hS => ?_)
              have hM := hM.vS (k := 56) rfl (80 * ((8 * i) + a) + (8 * j) + b) (nI (max (hvR S q x y a b r) (aWt S r)))
              refine lv_iinc (v := nI (r + 1)) (lv' := [(9, .int (nI (r + 1))), (10, .int (nI (wMany S q r x y a b))), (0, .ref o), (1, .int (nI q)), (2, .int (nI i)), (3, .int (nI j)), (4, .int (nI a)), (5, .int (nI b)), (6, .int (nI (80 * ((8 * i) + a) + (8 * j) + b))), (7, .int (nI x)), (8, .int (nI y))]) hx hb dX2_weighPair_277 hl (k := 10) rfl (nI_add r 1) (by decide) rfl (fun ls hl => ?_)
              refine lv_goto (tgt := 68) hx hb dX2_weighPair_280 (by decide) ?_
              exact ih68 (r + 1) _ (by omega) H locs ls ⟨by omega, by rw [vset_off _ _ (by decide), vset_self], by rw [vset_self, hvR, if_pos (by omega)], fun t ht => ⟨by rw [vset_off _ _ (by decide), vset_ne _ _ ht]; exact (hoth t ht).1, by rw [vset_ne _ _ ht, vset_off _ _ (by decide)]; exact (hoth t ht).2⟩, (hkp.vs (by decide) _ _).vs (by decide) _ _, hM, hH, hS, lv_sub hl [2, 3, 4, 5, 6, 7, 8, 9, 10, 0] rfl⟩
          · refine lv_aload_n hx hb dX2_weighPair_191 rfl (lv_at hl 1 rfl) ?_
            refine lv_iload hx hb dX2_weighPair_192 (lv_at hl 10 rfl) ?_
            refine lv_iload_n hx hb dX2_weighPair_194 rfl (lv_at hl 2 rfl) ?_
            refine lv_iconst (v := nI 0) hx hb dX2_weighPair_195 (by decide) ?_
            refine lv_iload hx hb dX2_weighPair_196 (lv_at hl 5 rfl) ?_
            refine lv_iload hx hb dX2_weighPair_198 (lv_at hl 6 rfl) ?_
            refine hp_callV (As := [.int (nI r), .int (nI q), .int (nI 0), .int (nI a), .int (nI b)]) (rest := [.int (nI 0)]) hx hb hml hown hts hPB hK hH hS (mt_whoMinds hK0 hO hM (r := r) (q := q) (c := 0) (a := a) (b := b) (by omega) (by omega) (by omega) (by omega) (by omega)) mset_o rfl rfl 5 (lw_V q1830 q1832 qs78 q107 q1833) (by decide +kernel) ⟨rfl, rfl⟩ (by decide) rfl hl.1 rfl (Nat.le_of_ble_eq_true rfl) (by decide) dX2_weighPair_200 (fun v5 h7 H locs hp6 _ hH hS => ?_)
            obtain ⟨rfl, rfl⟩ := hp6
            refine lvZ_eq (tgt := 210) hx hb (by first | omega | (refine Nat.lt_of_lt_of_le (Nat.mod_lt _ ?_) ?_ <;> omega)) dX2_weighPair_203 (by decide) (fun cw3 => ?_) (fun cw3 => ?_)
            · refine lv_iconst (v := nI 0) hx hb dX2_weighPair_210 (by decide) ?_
              refine lv_iadd hx hb dX2_weighPair_211 ?_
              refine lv_top (y := nI (0 + 0)) (nI_add _ _) ?_
              refine lv_istore (lv' := [(10, .int (nI (0 + 0))), (0, .ref o), (1, .int (nI q)), (2, .int (nI i)), (3, .int (nI j)), (4, .int (nI a)), (5, .int (nI b)), (6, .int (nI (80 * ((8 * i) + a) + (8 * j) + b))), (7, .int (nI x)), (8, .int (nI y)), (9, .int (nI r))]) hx hb dX2_weighPair_212 hl (by decide) rfl (fun ls hl => ?_)
              have ewm : wMany S q r x y a b = 0 + 0 := by simp [wMany, wM1, ck, ca3, cw3]
              rw [← ewm] at hl
              refine lv_aload_n hx hb dX2_weighPair_214 rfl (lv_at hl 1 rfl) ?_
              refine m_get hx hb hts hown hK hH 44 (by decide) q1496 rfl (v := .ref (o + 55)) rfl dX2_weighPair_215 ?_
              refine lv_iload hx hb dX2_weighPair_218 (lv_at hl 7 rfl) ?_
              refine lv_dup2_11 hx hb dX2_weighPair_220 rfl rfl ?_
              refine m_iald (n := 6400) (j := 80 * ((8 * i) + a) + (8 * j) + b) (v := nI (wgR S q x y a b r)) hx hb hK hH (by decide) rfl (by first | omega | (refine Nat.lt_of_lt_of_le (Nat.mod_lt _ ?_) ?_ <;> omega)) (by decide) (hwg) dX2_weighPair_221 ?_
              refine lv_iload hx hb dX2_weighPair_222 (lv_at hl 0 rfl) ?_
              refine lv_aload_n hx hb dX2_weighPair_224 rfl (lv_at hl 1 rfl) ?_
              refine m_get hx hb hts hown hK hH 12 (by decide) q1464 rfl (v := .ref (o + 20)) rfl dX2_weighPair_225 ?_
              refine lv_iconst (v := nI 0) hx hb dX2_weighPair_228 (by decide) ?_
              refine m_rowI (k' := 21) hx hb hK hH (by decide) rfl (by decide) (by decide) rfl dX2_weighPair_229 ?_
              refine lv_iload hx hb dX2_weighPair_230 (lv_at hl 10 rfl) ?_
              refine m_iald (n := 12) (j := r) (v := nI (aWt S r)) hx hb hK hH (by decide) rfl (by first | omega | (refine Nat.lt_of_lt_of_le (Nat.mod_lt _ ?_) ?_ <;> omega)) (by decide) (hM.wt (by first | omega | (refine Nat.lt_of_lt_of_le (Nat.mod_lt _ ?_) ?_ <;> omega))) dX2_weighPair_232 ?_
              refine lv_imul hx hb dX2_weighPair_233 ?_
              refine lv_top (y := nI ((wMany S q r x y a b) * (aWt S r))) (pk_mul _ _) ?_
              refine lv_iadd hx hb dX2_weighPair_234 ?_
              refine lv_top (y := nI (wgR S q x y a b (r + 1))) ((nI_add _ _).trans rfl) ?_
              refine m_iast (n := 6400) (j := 80 * ((8 * i) + a) + (8 * j) + b) hx hb hK hH hS (by decide) rfl (by first | omega | (refine Nat.lt_of_lt_of_le (Nat.mod_lt _ ?_) ?_ <;> omega)) (by decide) dX2_weighPair_235 (fun H locs hH hS => ?_)
              have hM := hM.vS (k := 55) rfl (80 * ((8 * i) + a) + (8 * j) + b) (nI (wgR S q x y a b (r + 1)))
              refine lv_aload_n hx hb dX2_weighPair_236 rfl (lv_at hl 1 rfl) ?_
              refine m_get hx hb hts hown hK hH 45 (by decide) q1497 rfl (v := .ref (o + 56)) rfl dX2_weighPair_237 ?_
              refine lv_iload hx hb dX2_weighPair_240 (lv_at hl 7 rfl) ?_
              refine lv_iload hx hb dX2_weighPair_242 (lv_at hl 0 rfl) ?_
              have hwm := wMany_le S q r x y a b
              refine lvZ_le (tgt := 269) hx hb (by first | omega | (refine Nat.lt_of_lt_of_le (Nat.mod_lt _ ?_) ?_ <;> omega)) dX2_weighPair_244 (by decide) (fun cp => ?_) (fun cp => ?_)
              · refine lv_aload_n hx hb dX2_weighPair_269 rfl (lv_at hl 1 rfl) ?_
                refine m_get hx hb hts hown hK hH 45 (by decide) q1497 rfl (v := .ref (o + 56)) rfl dX2_weighPair_270 ?_
                refine lv_iload hx hb dX2_weighPair_273 (lv_at hl 7 rfl) ?_
                refine m_iald (n := 6400) (j := 80 * ((8 * i) + a) + (8 * j) + b) (v := nI (hvR S q x y a b r)) hx hb hK hH (by decide) rfl (by first | omega | (refine Nat.lt_of_lt_of_le (Nat.mod_lt _ ?_) ?_ <;> omega)) (by decide) (hhv) dX2_weighPair_275 ?_
                refine m_iast (n := 6400) (j := 80 * ((8 * i) + a) + (8 * j) + b) hx hb hK hH hS (by decide) rfl (by first | omega | (refine Nat.lt_of_lt_of_le (Nat.mod_lt _ ?_) ?_ <;> omega)) (by decide) dX2_weighPair_276 (fun H locs hH hS => ?_)
                have hM := hM.vS (k := 56) rfl (80 * ((8 * i) + a) + (8 * j) + b) (nI (hvR S q x y a b r))
                refine lv_iinc (v := nI (r + 1)) (lv' := [(9, .int (nI (r + 1))), (10, .int (nI (wMany S q r x y a b))), (0, .ref o), (1, .int (nI q)), (2, .int (nI i)), (3, .int (nI j)), (4, .int (nI a)), (5, .int (nI b)), (6, .int (nI (80 * ((8 * i) + a) + (8 * j) + b))), (7, .int (nI x)), (8, .int (nI y))]) hx hb dX2_weighPair_277 hl (k := 10) rfl (nI_add r 1) (by decide) rfl (fun ls hl => ?_)
                refine lv_goto (tgt := 68) hx hb dX2_weighPair_280 (by decide) ?_
                exact ih68 (r + 1) _ (by omega) H locs ls ⟨by omega, by rw [vset_off _ _ (by decide), vset_self], by rw [vset_self, hvR, if_neg (by omega)], fun t ht => ⟨by rw [vset_off _ _ (by decide), vset_ne _ _ ht]; exact (hoth t ht).1, by rw [vset_ne _ _ ht, vset_off _ _ (by decide)]; exact (hoth t ht).2⟩, (hkp.vs (by decide) _ _).vs (by decide) _ _, hM, hH, hS, lv_sub hl [2, 3, 4, 5, 6, 7, 8, 9, 10, 0] rfl⟩
              · refine lv_aload_n hx hb dX2_weighPair_247 rfl (lv_at hl 1 rfl) ?_
                refine m_get hx hb hts hown hK hH 45 (by decide) q1497 rfl (v := .ref (o + 56)) rfl dX2_weighPair_248 ?_
                refine lv_iload hx hb dX2_weighPair_251 (lv_at hl 7 rfl) ?_
                refine m_iald (n := 6400) (j := 80 * ((8 * i) + a) + (8 * j) + b) (v := nI (hvR S q x y a b r)) hx hb hK hH (by decide) rfl (by first | omega | (refine Nat.lt_of_lt_of_le (Nat.mod_lt _ ?_) ?_ <;> omega)) (by decide) (hhv) dX2_weighPair_253 ?_
                refine lv_aload_n hx hb dX2_weighPair_254 rfl (lv_at hl 1 rfl) ?_
                refine m_get hx hb hts hown hK hH 12 (by decide) q1464 rfl (v := .ref (o + 20)) rfl dX2_weighPair_255 ?_
                refine lv_iconst (v := nI 0) hx hb dX2_weighPair_258 (by decide) ?_
                refine m_rowI (k' := 21) hx hb hK hH (by decide) rfl (by decide) (by decide) rfl dX2_weighPair_259 ?_
                refine lv_iload hx hb dX2_weighPair_260 (lv_at hl 10 rfl) ?_
                refine m_iald (n := 12) (j := r) (v := nI (aWt S r)) hx hb hK hH (by decide) rfl (by first | omega | (refine Nat.lt_of_lt_of_le (Nat.mod_lt _ ?_) ?_ <;> omega)) (by decide) (hM.wt (by first | omega | (refine Nat.lt_of_lt_of_le (Nat.mod_lt _ ?_) ?_ <;> omega))) dX2_weighPair_262 ?_
                refine va_mmax hx hb (hml.trans hl.1.symm) hown (hts _ q1839) (hts _ q409) (hts _ q114) (hts _ q410) (Nat.le_of_ble_eq_true rfl) (Nat.le_of_ble_eq_true rfl) (Nat.le_of_ble_eq_true rfl) (Nat.le_of_ble_eq_true rfl) dX2_weighPair_263 ?_
                refine lv_top (y := nI (max (hvR S q x y a b r) (aWt S r))) (i_maxN (by first | omega | (refine Nat.lt_of_lt_of_le (Nat.mod_lt _ ?_) ?_ <;> omega)) (by first | omega | (refine Nat.lt_of_lt_of_le (Nat.mod_lt _ ?_) ?_ <;> omega))) ?_
                refine lv_goto (tgt := 276) hx hb dX2_weighPair_266 (by decide) ?_
                refine m_iast (n := 6400) (j := 80 * ((8 * i) + a) + (8 * j) + b) hx hb hK hH hS (by decide) rfl (by first | omega | (refine Nat.lt_of_lt_of_le (Nat.mod_lt _ ?_) ?_ <;> omega)) (by decide) dX2_weighPair_276 (fun H locs hH hS => ?_)
                have hM := hM.vS (k := 56) rfl (80 * ((8 * i) + a) + (8 * j) + b) (nI (max (hvR S q x y a b r) (aWt S r)))
                refine lv_iinc (v := nI (r + 1)) (lv' := [(9, .int (nI (r + 1))), (10, .int (nI (wMany S q r x y a b))), (0, .ref o), (1, .int (nI q)), (2, .int (nI i)), (3, .int (nI j)), (4, .int (nI a)), (5, .int (nI b)), (6, .int (nI (80 * ((8 * i) + a) + (8 * j) + b))), (7, .int (nI x)), (8, .int (nI y))]) hx hb dX2_weighPair_277 hl (k := 10) rfl (nI_add r 1) (by decide) rfl (fun ls hl => ?_)
                refine lv_goto (tgt := 68) hx hb dX2_weighPair_280 (by decide) ?_
                exact ih68 (r + 1) _ (by omega) H locs ls ⟨by omega, by rw [vset_off _ _ (by decide), vset_self], by rw [vset_self, hvR, if_pos (by omega)], fun t ht => ⟨by rw [vset_off _ _ (by decide), vset_ne _ _ ht]; exact (hoth t ht).1, by rw [vset_ne _ _ ht, vset_off _ _ (by decide)]; exact (hoth t ht).2⟩, (hkp.vs (by decide) _ _).vs (by decide) _ _, hM, hH, hS, lv_sub hl [2, 3, 4, 5, 6, 7, 8, 9, 10, 0] rfl⟩
            · refine lv_iconst (v := nI 1) hx hb dX2_weighPair_206 (by decide) ?_
              refine lv_goto (tgt := 211) hx hb dX2_weighPair_207 (by decide) ?_
              refine lv_iadd hx hb dX2_weighPair_211 ?_
              refine lv_top (y := nI (0 + 1)) (nI_add _ _) ?_
              refine lv_istore (lv' := [(10, .int (nI (0 + 1))), (0, .ref o), (1, .int (nI q)), (2, .int (nI i)), (3, .int (nI j)), (4, .int (nI a)), (5, .int (nI b)), (6, .int (nI (80 * ((8 * i) + a) + (8 * j) + b))), (7, .int (nI x)), (8, .int (nI y)), (9, .int (nI r))]) hx hb dX2_weighPair_212 hl (by decide) rfl (fun ls hl => ?_)
              have ewm : wMany S q r x y a b = 0 + 1 := by simp [wMany, wM1, ck, ca3, cw3]
              rw [← ewm] at hl
              refine lv_aload_n hx hb dX2_weighPair_214 rfl (lv_at hl 1 rfl) ?_
              refine m_get hx hb hts hown hK hH 44 (by decide) q1496 rfl (v := .ref (o + 55)) rfl dX2_weighPair_215 ?_
              refine lv_iload hx hb dX2_weighPair_218 (lv_at hl 7 rfl) ?_
              refine lv_dup2_11 hx hb dX2_weighPair_220 rfl rfl ?_
              refine m_iald (n := 6400) (j := 80 * ((8 * i) + a) + (8 * j) + b) (v := nI (wgR S q x y a b r)) hx hb hK hH (by decide) rfl (by first | omega | (refine Nat.lt_of_lt_of_le (Nat.mod_lt _ ?_) ?_ <;> omega)) (by decide) (hwg) dX2_weighPair_221 ?_
              refine lv_iload hx hb dX2_weighPair_222 (lv_at hl 0 rfl) ?_
              refine lv_aload_n hx hb dX2_weighPair_224 rfl (lv_at hl 1 rfl) ?_
              refine m_get hx hb hts hown hK hH 12 (by decide) q1464 rfl (v := .ref (o + 20)) rfl dX2_weighPair_225 ?_
              refine lv_iconst (v := nI 0) hx hb dX2_weighPair_228 (by decide) ?_
              refine m_rowI (k' := 21) hx hb hK hH (by decide) rfl (by decide) (by decide) rfl dX2_weighPair_229 ?_
              refine lv_iload hx hb dX2_weighPair_230 (lv_at hl 10 rfl) ?_
              refine m_iald (n := 12) (j := r) (v := nI (aWt S r)) hx hb hK hH (by decide) rfl (by first | omega | (refine Nat.lt_of_lt_of_le (Nat.mod_lt _ ?_) ?_ <;> omega)) (by decide) (hM.wt (by first | omega | (refine Nat.lt_of_lt_of_le (Nat.mod_lt _ ?_) ?_ <;> omega))) dX2_weighPair_232 ?_
              refine lv_imul hx hb dX2_weighPair_233 ?_
              refine lv_top (y := nI ((wMany S q r x y a b) * (aWt S r))) (pk_mul _ _) ?_
              refine lv_iadd hx hb dX2_weighPair_234 ?_
              refine lv_top (y := nI (wgR S q x y a b (r + 1))) ((nI_add _ _).trans rfl) ?_
              refine m_iast (n := 6400) (j := 80 * ((8 * i) + a) + (8 * j) + b) hx hb hK hH hS (by decide) rfl (by first | omega | (refine Nat.lt_of_lt_of_le (Nat.mod_lt _ ?_) ?_ <;> omega)) (by decide) dX2_weighPair_235 (fun H locs hH hS => ?_)
              have hM := hM.vS (k := 55) rfl (80 * ((8 * i) + a) + (8 * j) + b) (nI (wgR S q x y a b (r + 1)))
              refine lv_aload_n hx hb dX2_weighPair_236 rfl (lv_at hl 1 rfl) ?_
              refine m_get hx hb hts hown hK hH 45 (by decide) q1497 rfl (v := .ref (o + 56)) rfl dX2_weighPair_237 ?_
              refine lv_iload hx hb dX2_weighPair_240 (lv_at hl 7 rfl) ?_
              refine lv_iload hx hb dX2_weighPair_242 (lv_at hl 0 rfl) ?_
              have hwm := wMany_le S q r x y a b
              refine lvZ_le (tgt := 269) hx hb (by first | omega | (refine Nat.lt_of_lt_of_le (Nat.mod_lt _ ?_) ?_ <;> omega)) dX2_weighPair_244 (by decide) (fun cp => ?_) (fun cp => ?_)
              · refine lv_aload_n hx hb dX2_weighPair_269 rfl (lv_at hl 1 rfl) ?_
                refine m_get hx hb hts hown hK hH 45 (by decide) q1497 rfl (v := .ref (o + 56)) rfl dX2_weighPair_270 ?_
                refine lv_iload hx hb dX2_weighPair_273 (lv_at hl 7 rfl) ?_
                refine m_iald (n := 6400) (j := 80 * ((8 * i) + a) + (8 * j) + b) (v := nI (hvR S q x y a b r)) hx hb hK hH (by decide) rfl (by first | omega | (refine Nat.lt_of_lt_of_le (Nat.mod_lt _ ?_) ?_ <;> omega)) (by decide) (hhv) dX2_weighPair_275 ?_
                refine m_iast (n := 6400) (j := 80 * ((8 * i) + a) + (8 * j) + b) hx hb hK hH hS (by decide) rfl (by first | omega | (refine Nat.lt_of_lt_of_le (Nat.mod_lt _ ?_) ?_ <;> omega)) (by decide) dX2_weighPair_276 (fun H locs hH hS => ?_)
                have hM := hM.vS (k := 56) rfl (80 * ((8 * i) + a) + (8 * j) + b) (nI (hvR S q x y a b r))
                refine lv_iinc (v := nI (r + 1)) (lv' := [(9, .int (nI (r + 1))), (10, .int (nI (wMany S q r x y a b))), (0, .ref o), (1, .int (nI q)), (2, .int (nI i)), (3, .int (nI j)), (4, .int (nI a)), (5, .int (nI b)), (6, .int (nI (80 * ((8 * i) + a) + (8 * j) + b))), (7, .int (nI x)), (8, .int (nI y))]) hx hb dX2_weighPair_277 hl (k := 10) rfl (nI_add r 1) (by decide) rfl (fun ls hl => ?_)
                refine lv_goto (tgt := 68) hx hb dX2_weighPair_280 (by decide) ?_
                exact ih68 (r + 1) _ (by omega) H locs ls ⟨by omega, by rw [vset_off _ _ (by decide), vset_self], by rw [vset_self, hvR, if_neg (by omega)], fun t ht => ⟨by rw [vset_off _ _ (by decide), vset_ne _ _ ht]; exact (hoth t ht).1, by rw [vset_ne _ _ ht, vset_off _ _ (by decide)]; exact (hoth t ht).2⟩, (hkp.vs (by decide) _ _).vs (by decide) _ _, hM, hH, hS, lv_sub hl [2, 3, 4, 5, 6, 7, 8, 9, 10, 0] rfl⟩
              · refine lv_aload_n hx hb dX2_weighPair_247 rfl (lv_at hl 1 rfl) ?_
                refine m_get hx hb hts hown hK hH 45 (by decide) q1497 rfl (v := .ref (o + 56)) rfl dX2_weighPair_248 ?_
                refine lv_iload hx hb dX2_weighPair_251 (lv_at hl 7 rfl) ?_
                refine m_iald (n := 6400) (j := 80 * ((8 * i) + a) + (8 * j) + b) (v := nI (hvR S q x y a b r)) hx hb hK hH (by decide) rfl (by first | omega | (refine Nat.lt_of_lt_of_le (Nat.mod_lt _ ?_) ?_ <;> omega)) (by decide) (hhv) dX2_weighPair_253 ?_
                refine lv_aload_n hx hb dX2_weighPair_254 rfl (lv_at hl 1 rfl) ?_
                refine m_get hx hb hts hown hK hH 12 (by decide) q1464 rfl (v := .ref (o + 20)) rfl dX2_weighPair_255 ?_
                refine lv_iconst (v := nI 0) hx hb dX2_weighPair_258 (by decide) ?_
                refine m_rowI (k' := 21) hx hb hK hH (by decide) rfl (by decide) (by decide) rfl dX2_weighPair_259 ?_
                refine lv_iload hx hb dX2_weighPair_260 (lv_at hl 10 rfl) ?_
                refine m_iald (n := 12) (j := r) (v := nI (aWt S r)) hx hb hK hH (by decide) rfl (by first | omega | (refine Nat.lt_of_lt_of_le (Nat.mod_lt _ ?_) ?_ <;> omega)) (by decide) (hM.wt (by first | omega | (refine Nat.lt_of_lt_of_le (Nat.mod_lt _ ?_) ?_ <;> omega))) dX2_weighPair_262 ?_
                refine va_mmax hx hb (hml.trans hl.1.symm) hown (hts _ q1839) (hts _ q409) (hts _ q114) (hts _ q410) (Nat.le_of_ble_eq_true rfl) (Nat.le_of_ble_eq_true rfl) (Nat.le_of_ble_eq_true rfl) (Nat.le_of_ble_eq_true rfl) dX2_weighPair_263 ?_
                refine lv_top (y := nI (max (hvR S q x y a b r) (aWt S r))) (i_maxN (by first | omega | (refine Nat.lt_of_lt_of_le (Nat.mod_lt _ ?_) ?_ <;> omega)) (by first | omega | (refine Nat.lt_of_lt_of_le (Nat.mod_lt _ ?_) ?_ <;> omega))) ?_
                refine lv_goto (tgt := 276) hx hb dX2_weighPair_266 (by decide) ?_
                refine m_iast (n := 6400) (j := 80 * ((8 * i) + a) + (8 * j) + b) hx hb hK hH hS (by decide) rfl (by first | omega | (refine Nat.lt_of_lt_of_le (Nat.mod_lt _ ?_) ?_ <;> omega)) (by decide) dX2_weighPair_276 (fun H locs hH hS => ?_)
                have hM := hM.vS (k := 56) rfl (80 * ((8 * i) + a) + (8 * j) + b) (nI (max (hvR S q x y a b r) (aWt S r)))
                refine lv_iinc (v := nI (r + 1)) (lv' := [(9, .int (nI (r + 1))), (10, .int (nI (wMany S q r x y a b))), (0, .ref o), (1, .int (nI q)), (2, .int (nI i)), (3, .int (nI j)), (4, .int (nI a)), (5, .int (nI b)), (6, .int (nI (80 * ((8 * i) + a) + (8 * j) + b))), (7, .int (nI x)), (8, .int (nI y))]) hx hb dX2_weighPair_277 hl (k := 10) rfl (nI_add r 1) (by decide) rfl (fun ls hl => ?_)
                refine lv_goto (tgt := 68) hx hb dX2_weighPair_280 (by decide) ?_
                exact ih68 (r + 1) _ (by omega) H locs ls ⟨by omega, by rw [vset_off _ _ (by decide), vset_self], by rw [vset_self, hvR, if_pos (by omega)], fun t ht => ⟨by rw [vset_off _ _ (by decide), vset_ne _ _ ht]; exact (hoth t ht).1, by rw [vset_ne _ _ ht, vset_off _ _ (by decide)]; exact (hoth t ht).2⟩, (hkp.vs (by decide) _ _).vs (by decide) _ _, hM, hH, hS, lv_sub hl [2, 3, 4, 5, 6, 7, 8, 9, 10, 0] rfl⟩
        · refine lv_iload hx hb dX2_weighPair_94 (lv_at hl 0 rfl) ?_
          refine lv_aload_n hx hb dX2_weighPair_96 rfl (lv_at hl 1 rfl) ?_
          refine lv_iload hx hb dX2_weighPair_97 (lv_at hl 10 rfl) ?_
          refine lv_iload_n hx hb dX2_weighPair_99 rfl (lv_at hl 2 rfl) ?_
          refine lv_iload hx hb dX2_weighPair_100 (lv_at hl 8 rfl) ?_
          refine lv_iload hx hb dX2_weighPair_102 (lv_at hl 9 rfl) ?_
          refine hp_callV (As := [.int (nI r), .int (nI q), .int (nI x), .int (nI y)]) (rest := [.int (nI 0)]) hx hb hml hown hts hPB hK hH hS (mt_countsFor hK0 hO hM (r := r) (x := x) (y := y) (by omega) (by omega) (by omega) (nI q)) mset_o rfl rfl 4 (lw_V q1822 q1824 qs76 q107 q1825) (by decide +kernel) ⟨rfl, rfl⟩ (by decide) rfl hl.1 rfl (Nat.le_of_ble_eq_true rfl) (by decide) dX2_weighPair_104 (fun v8 h10 H locs hp9 _ hH hS => ?_)
          obtain ⟨rfl, rfl⟩ := hp9
          refine lvB_eq (tgt := 129) hx hb dX2_weighPair_107 (by decide) (fun ca1 => ?_) (fun ca1 => ?_)
          · refine lv_iconst (v := nI 0) hx hb dX2_weighPair_129 (by decide) ?_
            refine lv_iadd hx hb dX2_weighPair_130 ?_
            refine lv_top (y := nI (0 + 0)) (nI_add _ _) ?_
            refine lv_istore (lv' := [(10, .int (nI (0 + 0))), (0, .ref o), (1, .int (nI q)), (2, .int (nI i)), (3, .int (nI j)), (4, .int (nI a)), (5, .int (nI b)), (6, .int (nI (80 * ((8 * i) + a) + (8 * j) + b))), (7, .int (nI x)), (8, .int (nI y)), (9, .int (nI r))]) hx hb dX2_weighPair_131 hl (by decide) rfl (fun ls hl => ?_)
            refine lv_iload hx hb dX2_weighPair_133 (lv_at hl 0 rfl) ?_
            refine lv_aload_n hx hb dX2_weighPair_135 rfl (lv_at hl 1 rfl) ?_
            refine lv_iload hx hb dX2_weighPair_136 (lv_at hl 10 rfl) ?_
            refine lv_iload_n hx hb dX2_weighPair_138 rfl (lv_at hl 2 rfl) ?_
            refine lv_iload hx hb dX2_weighPair_139 (lv_at hl 9 rfl) ?_
            refine lv_iload hx hb dX2_weighPair_141 (lv_at hl 8 rfl) ?_
            refine hp_callV (As := [.int (nI r), .int (nI q), .int (nI y), .int (nI x)]) (rest := [.int (nI (0 + 0))]) hx hb hml hown hts hPB hK hH hS (mt_countsFor hK0 hO hM (r := r) (x := y) (y := x) (by omega) (by omega) (by omega) (nI q)) mset_o rfl rfl 4 (lw_V q1822 q1824 qs76 q107 q1825) (by decide +kernel) ⟨rfl, rfl⟩ (by decide) rfl hl.1 rfl (Nat.le_of_ble_eq_true rfl) (by decide) dX2_weighPair_143 (fun v11 h13 H locs hp12 _ hH hS => ?_)
            obtain ⟨rfl, rfl⟩ := hp12
            refine lvB_eq (tgt := 168) hx hb dX2_weighPair_146 (by decide) (fun ca2 => ?_) (fun ca2 => ?_)
            · refine lv_iconst (v := nI 0) hx hb dX2_weighPair_168 (by decide) ?_
              refine lv_iadd hx hb dX2_weighPair_169 ?_
              refine lv_top (y := nI (0 + 0 + 0)) (nI_add _ _) ?_
              refine lv_istore (lv' := [(10, .int (nI (0 + 0 + 0))), (0, .ref o), (1, .int (nI q)), (2, .int (nI i)), (3, .int (nI j)), (4, .int (nI a)), (5, .int (nI b)), (6, .int (nI (80 * ((8 * i) + a) + (8 * j) + b))), (7, .int (nI x)), (8, .int (nI y)), (9, .int (nI r))]) hx hb dX2_weighPair_170 hl (by decide) rfl (fun ls hl => ?_)
              refine lv_goto (tgt := 214) hx hb dX2_weighPair_172 (by decide) ?_
              have ewm : wMany S q r x y a b = 0 + 0 + 0 := by simp [wMany, wM1, ck, ca1, ca2]
              rw [← ewm] at hl
              refine lv_aload_n hx hb dX2_weighPair_214 rfl (lv_at hl 1 rfl) ?_
              refine m_get hx hb hts hown hK hH 44 (by decide) q1496 rfl (v := .ref (o + 55)) rfl dX2_weighPair_215 ?_
              refine lv_iload hx hb dX2_weighPair_218 (lv_at hl 7 rfl) ?_
              refine lv_dup2_11 hx hb dX2_weighPair_220 rfl rfl ?_
              refine m_iald (n := 6400) (j := 80 * ((8 * i) + a) + (8 * j) + b) (v := nI (wgR S q x y a b r)) hx hb hK hH (by decide) rfl (by first | omega | (refine Nat.lt_of_lt_of_le (Nat.mod_lt _ ?_) ?_ <;> omega)) (by decide) (hwg) dX2_weighPair_221 ?_
              refine lv_iload hx hb dX2_weighPair_222 (lv_at hl 0 rfl) ?_
              refine lv_aload_n hx hb dX2_weighPair_224 rfl (lv_at hl 1 rfl) ?_
              refine m_get hx hb hts hown hK hH 12 (by decide) q1464 rfl (v := .ref (o + 20)) rfl dX2_weighPair_225 ?_
              refine lv_iconst (v := nI 0) hx hb dX2_weighPair_228 (by decide) ?_
              refine m_rowI (k' := 21) hx hb hK hH (by decide) rfl (by decide) (by decide) rfl dX2_weighPair_229 ?_
              refine lv_iload hx hb dX2_weighPair_230 (lv_at hl 10 rfl) ?_
              refine m_iald (n := 12) (j := r) (v := nI (aWt S r)) hx hb hK hH (by decide) rfl (by first | omega | (refine Nat.lt_of_lt_of_le (Nat.mod_lt _ ?_) ?_ <;> omega)) (by decide) (hM.wt (by first | omega | (refine Nat.lt_of_lt_of_le (Nat.mod_lt _ ?_) ?_ <;> omega))) dX2_weighPair_232 ?_
              refine lv_imul hx hb dX2_weighPair_233 ?_
              refine lv_top (y := nI ((wMany S q r x y a b) * (aWt S r))) (pk_mul _ _) ?_
              refine lv_iadd hx hb dX2_weighPair_234 ?_
              refine lv_top (y := nI (wgR S q x y a b (r + 1))) ((nI_add _ _).trans rfl) ?_
              refine m_iast (n := 6400) (j := 80 * ((8 * i) + a) + (8 * j) + b) hx hb hK hH hS (by decide) rfl (by first | omega | (refine Nat.lt_of_lt_of_le (Nat.mod_lt _ ?_) ?_ <;> omega)) (by decide) dX2_weighPair_235 (fun H locs hH hS => ?_)
              have hM := hM.vS (k := 55) rfl (80 * ((8 * i) + a) + (8 * j) + b) (nI (wgR S q x y a b (r + 1)))
              refine lv_aload_n hx hb dX2_weighPair_236 rfl (lv_at hl 1 rfl) ?_
              refine m_get hx hb hts hown hK hH 45 (by decide) q1497 rfl (v := .ref (o + 56)) rfl dX2_weighPair_237 ?_
              refine lv_iload hx hb dX2_weighPair_240 (lv_at hl 7 rfl) ?_
              refine lv_iload hx hb dX2_weighPair_242 (lv_at hl 0 rfl) ?_
              have hwm := wMany_le S q r x y a b
              refine lvZ_le (tgt := 269) hx hb (by first | omega | (refine Nat.lt_of_lt_of_le (Nat.mod_lt _ ?_) ?_ <;> omega)) dX2_weighPair_244 (by decide) (fun cp => ?_) (fun cp => ?_)
              · refine lv_aload_n hx hb dX2_weighPair_269 rfl (lv_at hl 1 rfl) ?_
                refine m_get hx hb hts hown hK hH 45 (by decide) q1497 rfl (v := .ref (o + 56)) rfl dX2_weighPair_270 ?_
                refine lv_iload hx hb dX2_weighPair_273 (lv_at hl 7 rfl) ?_
                refine m_iald (n := 6400) (j := 80 * ((8 * i) + a) + (8 * j) + b) (v := nI (hvR S q x y a b r)) hx hb hK hH (by decide) rfl (by first | omega | (refine Nat.lt_of_lt_of_le (Nat.mod_lt _ ?_) ?_ <;> omega)) (by decide) (hhv) dX2_weighPair_275 ?_
                refine m_iast (n := 6400) (j := 80 * ((8 * i) + a) + (8 * j) + b) hx hb hK hH hS (by decide) rfl (by first | omega | (refine Nat.lt_of_lt_of_le (Nat.mod_lt _ ?_) ?_ <;> omega)) (by decide) dX2_weighPair_276 (fun H locs hH hS => ?_)
                have hM := hM.vS (k := 56) rfl (80 * ((8 * i) + a) + (8 * j) + b) (nI (hvR S q x y a b r))
                refine lv_iinc (v := nI (r + 1)) (lv' := [(9, .int (nI (r + 1))), (10, .int (nI (wMany S q r x y a b))), (0, .ref o), (1, .int (nI q)), (2, .int (nI i)), (3, .int (nI j)), (4, .int (nI a)), (5, .int (nI b)), (6, .int (nI (80 * ((8 * i) + a) + (8 * j) + b))), (7, .int (nI x)), (8, .int (nI y))]) hx hb dX2_weighPair_277 hl (k := 10) rfl (nI_add r 1) (by decide) rfl (fun ls hl => ?_)
                refine lv_goto (tgt := 68) hx hb dX2_weighPair_280 (by decide) ?_
                exact ih68 (r + 1) _ (by omega) H locs ls ⟨by omega, by rw [vset_off _ _ (by decide), vset_self], by rw [vset_self, hvR, if_neg (by omega)], fun t ht => ⟨by rw [vset_off _ _ (by decide), vset_ne _ _ ht]; exact (hoth t ht).1, by rw [vset_ne _ _ ht, vset_off _ _ (by decide)]; exact (hoth t ht).2⟩, (hkp.vs (by decide) _ _).vs (by decide) _ _, hM, hH, hS, lv_sub hl [2, 3, 4, 5, 6, 7, 8, 9, 10, 0] rfl⟩
              · refine lv_aload_n hx hb dX2_weighPair_247 rfl (lv_at hl 1 rfl) ?_
                refine m_get hx hb hts hown hK hH 45 (by decide) q1497 rfl (v := .ref (o + 56)) rfl dX2_weighPair_248 ?_
                refine lv_iload hx hb dX2_weighPair_251 (lv_at hl 7 rfl) ?_
                refine m_iald (n := 6400) (j := 80 * ((8 * i) + a) + (8 * j) + b) (v := nI (hvR S q x y a b r)) hx hb hK hH (by decide) rfl (by first | omega | (refine Nat.lt_of_lt_of_le (Nat.mod_lt _ ?_) ?_ <;> omega)) (by decide) (hhv) dX2_weighPair_253 ?_
                refine lv_aload_n hx hb dX2_weighPair_254 rfl (lv_at hl 1 rfl) ?_
                refine m_get hx hb hts hown hK hH 12 (by decide) q1464 rfl (v := .ref (o + 20)) rfl dX2_weighPair_255 ?_
                refine lv_iconst (v := nI 0) hx hb dX2_weighPair_258 (by decide) ?_
                refine m_rowI (k' := 21) hx hb hK hH (by decide) rfl (by decide) (by decide) rfl dX2_weighPair_259 ?_
                refine lv_iload hx hb dX2_weighPair_260 (lv_at hl 10 rfl) ?_
                refine m_iald (n := 12) (j := r) (v := nI (aWt S r)) hx hb hK hH (by decide) rfl (by first | omega | (refine Nat.lt_of_lt_of_le (Nat.mod_lt _ ?_) ?_ <;> omega)) (by decide) (hM.wt (by first | omega | (refine Nat.lt_of_lt_of_le (Nat.mod_lt _ ?_) ?_ <;> omega))) dX2_weighPair_262 ?_
                refine va_mmax hx hb (hml.trans hl.1.symm) hown (hts _ q1839) (hts _ q409) (hts _ q114) (hts _ q410) (Nat.le_of_ble_eq_true rfl) (Nat.le_of_ble_eq_true rfl) (Nat.le_of_ble_eq_true rfl) (Nat.le_of_ble_eq_true rfl) dX2_weighPair_263 ?_
                refine lv_top (y := nI (max (hvR S q x y a b r) (aWt S r))) (i_maxN (by first | omega | (refine Nat.lt_of_lt_of_le (Nat.mod_lt _ ?_) ?_ <;> omega)) (by first | omega | (refine Nat.lt_of_lt_of_le (Nat.mod_lt _ ?_) ?_ <;> omega))) ?_
                refine lv_goto (tgt := 276) hx hb dX2_weighPair_266 (by decide) ?_
                refine m_iast (n := 6400) (j := 80 * ((8 * i) + a) + (8 * j) + b) hx hb hK hH hS (by decide) rfl (by first | omega | (refine Nat.lt_of_lt_of_le (Nat.mod_lt _ ?_) ?_ <;> omega)) (by decide) dX2_weighPair_276 (fun H locs hH hS => ?_)
                have hM := hM.vS (k := 56) rfl (80 * ((8 * i) + a) + (8 * j) + b) (nI (max (hvR S q x y a b r) (aWt S r)))
                refine lv_iinc (v := nI (r + 1)) (lv' := [(9, .int (nI (r + 1))), (10, .int (nI (wMany S q r x y a b))), (0, .ref o), (1, .int (nI q)), (2, .int (nI i)), (3, .int (nI j)), (4, .int (nI a)), (5, .int (nI b)), (6, .int (nI (80 * ((8 * i) + a) + (8 * j) + b))), (7, .int (nI x)), (8, .int (nI y))]) hx hb dX2_weighPair_277 hl (k := 10) rfl (nI_add r 1) (by decide) rfl (fun ls hl => ?_)
                refine lv_goto (tgt := 68) hx hb dX2_weighPair_280 (by decide) ?_
                exact ih68 (r + 1) _ (by omega) H locs ls ⟨by omega, by rw [vset_off _ _ (by decide), vset_self], by rw [vset_self, hvR, if_pos (by omega)], fun t ht => ⟨by rw [vset_off _ _ (by decide), vset_ne _ _ ht]; exact (hoth t ht).1, by rw [vset_ne _ _ ht, vset_off _ _ (by decide)]; exact (hoth t ht).2⟩, (hkp.vs (by decide) _ _).vs (by decide) _ _, hM, hH, hS, lv_sub hl [2, 3, 4, 5, 6, 7, 8, 9, 10, 0] rfl⟩
            · refine lv_aload_n hx hb dX2_weighPair_149 rfl (lv_at hl 1 rfl) ?_
              refine lv_iload hx hb dX2_weighPair_150 (lv_at hl 10 rfl) ?_
              refine lv_iload_n hx hb dX2_weighPair_152 rfl (lv_at hl 2 rfl) ?_
              refine lv_iconst (v := nI 0) hx hb dX2_weighPair_153 (by decide) ?_
              refine lv_iload hx hb dX2_weighPair_154 (lv_at hl 6 rfl) ?_
              refine lv_iload hx hb dX2_weighPair_156 (lv_at hl 5 rfl) ?_
              refine hp_callV (As := [.int (nI r), .int (nI q), .int (nI 0), .int (nI b), .int (nI a)]) (rest := [.int (nI (0 + 0))]) hx hb hml hown hts hPB hK hH hS (mt_whoMinds hK0 hO hM (r := r) (q := q) (c := 0) (a := b) (b := a) (by omega) (by omega) (by omega) (by omega) (by omega)) mset_o rfl rfl 5 (lw_V q1830 q1832 qs78 q107 q1833) (by decide +kernel) ⟨rfl, rfl⟩ (by decide) rfl hl.1 rfl (Nat.le_of_ble_eq_true rfl) (by decide) dX2_weighPair_158 (fun v14 h16 H locs hp15 _ hH hS => ?_)
              obtain ⟨rfl, rfl⟩ := hp15
              refine lvZ_eq (tgt := 168) hx hb (by first | omega | (refine Nat.lt_of_lt_of_le (Nat.mod_lt _ ?_) ?_ <;> omega)) dX2_weighPair_161 (by decide) (fun cw2 => ?_) (fun cw2 => ?_)
              · refine lv_iconst (v := nI 0) hx hb dX2_weighPair_168 (by decide) ?_
                refine lv_iadd hx hb dX2_weighPair_169 ?_
                refine lv_top (y := nI (0 + 0 + 0)) (nI_add _ _) ?_
                refine lv_istore (lv' := [(10, .int (nI (0 + 0 + 0))), (0, .ref o), (1, .int (nI q)), (2, .int (nI i)), (3, .int (nI j)), (4, .int (nI a)), (5, .int (nI b)), (6, .int (nI (80 * ((8 * i) + a) + (8 * j) + b))), (7, .int (nI x)), (8, .int (nI y)), (9, .int (nI r))]) hx hb dX2_weighPair_170 hl (by decide) rfl (fun ls hl => ?_)
                refine lv_goto (tgt := 214) hx hb dX2_weighPair_172 (by decide) ?_
                have ewm : wMany S q r x y a b = 0 + 0 + 0 := by simp [wMany, wM1, ck, ca1, ca2, cw2]
                rw [← ewm] at hl
                refine lv_aload_n hx hb dX2_weighPair_214 rfl (lv_at hl 1 rfl) ?_
                refine m_get hx hb hts hown hK hH 44 (by decide) q1496 rfl (v := .ref (o + 55)) rfl dX2_weighPair_215 ?_
                refine lv_iload hx hb dX2_weighPair_218 (lv_at hl 7 rfl) ?_
                refine lv_dup2_11 hx hb dX2_weighPair_220 rfl rfl ?_
                refine m_iald (n := 6400) (j := 80 * ((8 * i) + a) + (8 * j) + b) (v := nI (wgR S q x y a b r)) hx hb hK hH (by decide) rfl (by first | omega | (refine Nat.lt_of_lt_of_le (Nat.mod_lt _ ?_) ?_ <;> omega)) (by decide) (hwg) dX2_weighPair_221 ?_
                refine lv_iload hx hb dX2_weighPair_222 (lv_at hl 0 rfl) ?_
                refine lv_aload_n hx hb dX2_weighPair_224 rfl (lv_at hl 1 rfl) ?_
                refine m_get hx hb hts hown hK hH 12 (by decide) q1464 rfl (v := .ref (o + 20)) rfl dX2_weighPair_225 ?_
                refine lv_iconst (v := nI 0) hx hb dX2_weighPair_228 (by decide) ?_
                refine m_rowI (k' := 21) hx hb hK hH (by decide) rfl (by decide) (by decide) rfl dX2_weighPair_229 ?_
                refine lv_iload hx hb dX2_weighPair_230 (lv_at hl 10 rfl) ?_
                refine m_iald (n := 12) (j := r) (v := nI (aWt S r)) hx hb hK hH (by decide) rfl (by first | omega | (refine Nat.lt_of_lt_of_le (Nat.mod_lt _ ?_) ?_ <;> omega)) (by decide) (hM.wt (by first | omega | (refine Nat.lt_of_lt_of_le (Nat.mod_lt _ ?_) ?_ <;> omega))) dX2_weighPair_232 ?_
                refine lv_imul hx hb dX2_weighPair_233 ?_
                refine lv_top (y := nI ((wMany S q r x y a b) * (aWt S r))) (pk_mul _ _) ?_
                refine lv_iadd hx hb dX2_weighPair_234 ?_
                refine lv_top (y := nI (wgR S q x y a b (r + 1))) ((nI_add _ _).trans rfl) ?_
                refine m_iast (n := 6400) (j := 80 * ((8 * i) + a) + (8 * j) + b) hx hb hK hH hS (by decide) rfl (by first | omega | (refine Nat.lt_of_lt_of_le (Nat.mod_lt _ ?_) ?_ <;> omega)) (by decide) dX2_weighPair_235 (fun H locs hH hS => ?_)
                have hM := hM.vS (k := 55) rfl (80 * ((8 * i) + a) + (8 * j) + b) (nI (wgR S q x y a b (r + 1)))
                refine lv_aload_n hx hb dX2_weighPair_236 rfl (lv_at hl 1 rfl) ?_
                refine m_get hx hb hts hown hK hH 45 (by decide) q1497 rfl (v := .ref (o + 56)) rfl dX2_weighPair_237 ?_
                refine lv_iload hx hb dX2_weighPair_240 (lv_at hl 7 rfl) ?_
                refine lv_iload hx hb dX2_weighPair_242 (lv_at hl 0 rfl) ?_
                have hwm := wMany_le S q r x y a b
                refine lvZ_le (tgt := 269) hx hb (by first | omega | (refine Nat.lt_of_lt_of_le (Nat.mod_lt _ ?_) ?_ <;> omega)) dX2_weighPair_244 (by decide) (fun cp => ?_) (fun cp => ?_)
                · refine lv_aload_n hx hb dX2_weighPair_269 rfl (lv_at hl 1 rfl) ?_
                  refine m_get hx hb hts hown hK hH 45 (by decide) q1497 rfl (v := .ref (o + 56)) rfl dX2_weighPair_270 ?_
                  refine lv_iload hx hb dX2_weighPair_273 (lv_at hl 7 rfl) ?_
                  refine m_iald (n := 6400) (j := 80 * ((8 * i) + a) + (8 * j) + b) (v := nI (hvR S q x y a b r)) hx hb hK hH (by decide) rfl (by first | omega | (refine Nat.lt_of_lt_of_le (Nat.mod_lt _ ?_) ?_ <;> omega)) (by decide) (hhv) dX2_weighPair_275 ?_
                  refine m_iast (n := 6400) (j := 80 * ((8 * i) + a) + (8 * j) + b) hx hb hK hH hS (by decide) rfl (by first | omega | (refine Nat.lt_of_lt_of_le (Nat.mod_lt _ ?_) ?_ <;> omega)) (by decide) dX2_weighPair_276 (fun H locs hH hS => ?_)
                  have hM := hM.vS (k := 56) rfl (80 * ((8 * i) + a) + (8 * j) + b) (nI (hvR S q x y a b r))
                  refine lv_iinc (v := nI (r + 1)) (lv' := [(9, .int (nI (r + 1))), (10, .int (nI (wMany S q r x y a b))), (0, .ref o), (1, .int (nI q)), (2, .int (nI i)), (3, .int (nI j)), (4, .int (nI a)), (5, .int (nI b)), (6, .int (nI (80 * ((8 * i) + a) + (8 * j) + b))), (7, .int (nI x)), (8, .int (nI y))]) hx hb dX2_weighPair_277 hl (k := 10) rfl (nI_add r 1) (by decide) rfl (fun ls hl => ?_)
                  refine lv_goto (tgt := 68) hx hb dX2_weighPair_280 (by decide) ?_
                  exact ih68 (r + 1) _ (by omega) H locs ls ⟨by omega, by rw [vset_off _ _ (by decide), vset_self], by rw [vset_self, hvR, if_neg (by omega)], fun t ht => ⟨by rw [vset_off _ _ (by decide), vset_ne _ _ ht]; exact (hoth t ht).1, by rw [vset_ne _ _ ht, vset_off _ _ (by decide)]; exact (hoth t ht).2⟩, (hkp.vs (by decide) _ _).vs (by decide) _ _, hM, hH, hS, lv_sub hl [2, 3, 4, 5, 6, 7, 8, 9, 10, 0] rfl⟩
                · refine lv_aload_n hx hb dX2_weighPair_247 rfl (lv_at hl 1 rfl) ?_
                  refine m_get hx hb hts hown hK hH 45 (by decide) q1497 rfl (v := .ref (o + 56)) rfl dX2_weighPair_248 ?_
                  refine lv_iload hx hb dX2_weighPair_251 (lv_at hl 7 rfl) ?_
                  refine m_iald (n := 6400) (j := 80 * ((8 * i) + a) + (8 * j) + b) (v := nI (hvR S q x y a b r)) hx hb hK hH (by decide) rfl (by first | omega | (refine Nat.lt_of_lt_of_le (Nat.mod_lt _ ?_) ?_ <;> omega)) (by decide) (hhv) dX2_weighPair_253 ?_
                  refine lv_aload_n hx hb dX2_weighPair_254 rfl (lv_at hl 1 rfl) ?_
                  refine m_get hx hb hts hown hK hH 12 (by decide) q1464 rfl (v := .ref (o + 20)) rfl dX2_weighPair_255 ?_
                  refine lv_iconst (v := nI 0) hx hb dX2_weighPair_258 (by decide) ?_
                  refine m_rowI (k' := 21) hx hb hK hH (by decide) rfl (by decide) (by decide) rfl dX2_weighPair_259 ?_
                  refine lv_iload hx hb dX2_weighPair_260 (lv_at hl 10 rfl) ?_
                  refine m_iald (n := 12) (j := r) (v := nI (aWt S r)) hx hb hK hH (by decide) rfl (by first | omega | (refine Nat.lt_of_lt_of_le (Nat.mod_lt _ ?_) ?_ <;> omega)) (by decide) (hM.wt (by first | omega | (refine Nat.lt_of_lt_of_le (Nat.mod_lt _ ?_) ?_ <;> omega))) dX2_weighPair_262 ?_
                  refine va_mmax hx hb (hml.trans hl.1.symm) hown (hts _ q1839) (hts _ q409) (hts _ q114) (hts _ q410) (Nat.le_of_ble_eq_true rfl) (Nat.le_of_ble_eq_true rfl) (Nat.le_of_ble_eq_true rfl) (Nat.le_of_ble_eq_true rfl) dX2_weighPair_263 ?_
                  refine lv_top (y := nI (max (hvR S q x y a b r) (aWt S r))) (i_maxN (by first | omega | (refine Nat.lt_of_lt_of_le (Nat.mod_lt _ ?_) ?_ <;> omega)) (by first | omega | (refine Nat.lt_of_lt_of_le (Nat.mod_lt _ ?_) ?_ <;> omega))) ?_
                  refine lv_goto (tgt := 276) hx hb dX2_weighPair_266 (by decide) ?_
                  refine m_iast (n := 6400) (j := 80 * ((8 * i) + a) + (8 * j) + b) hx hb hK hH hS (by decide) rfl (by first | omega | (refine Nat.lt_of_lt_of_le (Nat.mod_lt _ ?_) ?_ <;> omega)) (by decide) dX2_weighPair_276 (fun H locs hH hS => ?_)
                  have hM := hM.vS (k := 56) rfl (80 * ((8 * i) + a) + (8 * j) + b) (nI (max (hvR S q x y a b r) (aWt S r)))
                  refine lv_iinc (v := nI (r + 1)) (lv' := [(9, .int (nI (r + 1))), (10, .int (nI (wMany S q r x y a b))), (0, .ref o), (1, .int (nI q)), (2, .int (nI i)), (3, .int (nI j)), (4, .int (nI a)), (5, .int (nI b)), (6, .int (nI (80 * ((8 * i) + a) + (8 * j) + b))), (7, .int (nI x)), (8, .int (nI y))]) hx hb dX2_weighPair_277 hl (k := 10) rfl (nI_add r 1) (by decide) rfl (fun ls hl => ?_)
                  refine lv_goto (tgt := 68) hx hb dX2_weighPair_280 (by decide) ?_
                  exact ih68 (r + 1) _ (by omega) H locs ls ⟨by omega, by rw [vset_off _ _ (by decide), vset_self], by rw [vset_self, hvR, if_pos (by omega)], fun t ht => ⟨by rw [vset_off _ _ (by decide), vset_ne _ _ ht]; exact (hoth t ht).1, by rw [vset_ne _ _ ht, vset_off _ _ (by decide)]; exact (hoth t ht).2⟩, (hkp.vs (by decide) _ _).vs (by decide) _ _, hM, hH, hS, lv_sub hl [2, 3, 4, 5, 6, 7, 8, 9, 10, 0] rfl⟩
              · refine lv_iconst (v := nI 1) hx hb dX2_weighPair_164 (by decide) ?_
                refine lv_goto (tgt := 169) hx hb dX2_weighPair_165 (by decide) ?_
                refine lv_iadd hx hb dX2_weighPair_169 ?_
                refine lv_top (y := nI (0 + 0 + 1)) (nI_add _ _) ?_
                refine lv_istore (lv' := [(10, .int (nI (0 + 0 + 1))), (0, .ref o), (1, .int (nI q)), (2, .int (nI i)), (3, .int (nI j)), (4, .int (nI a)), (5, .int (nI b)), (6, .int (nI (80 * ((8 * i) + a) + (8 * j) + b))), (7, .int (nI x)), (8, .int (nI y)), (9, .int (nI r))]) hx hb dX2_weighPair_170 hl (by decide) rfl (fun ls hl => ?_)
                refine lv_goto (tgt := 214) hx hb dX2_weighPair_172 (by decide) ?_
                have ewm : wMany S q r x y a b = 0 + 0 + 1 := by simp [wMany, wM1, ck, ca1, ca2, cw2]
                rw [← ewm] at hl
                refine lv_aload_n hx hb dX2_weighPair_214 rfl (lv_at hl 1 rfl) ?_
                refine m_get hx hb hts hown hK hH 44 (by decide) q1496 rfl (v := .ref (o + 55)) rfl dX2_weighPair_215 ?_
                refine lv_iload hx hb dX2_weighPair_218 (lv_at hl 7 rfl) ?_
                refine lv_dup2_11 hx hb dX2_weighPair_220 rfl rfl ?_
                refine m_iald (n := 6400) (j := 80 * ((8 * i) + a) + (8 * j) + b) (v := nI (wgR S q x y a b r)) hx hb hK hH (by decide) rfl (by first | omega | (refine Nat.lt_of_lt_of_le (Nat.mod_lt _ ?_) ?_ <;> omega)) (by decide) (hwg) dX2_weighPair_221 ?_
                refine lv_iload hx hb dX2_weighPair_222 (lv_at hl 0 rfl) ?_
                refine lv_aload_n hx hb dX2_weighPair_224 rfl (lv_at hl 1 rfl) ?_
                refine m_get hx hb hts hown hK hH 12 (by decide) q1464 rfl (v := .ref (o + 20)) rfl dX2_weighPair_225 ?_
                refine lv_iconst (v := nI 0) hx hb dX2_weighPair_228 (by decide) ?_
                refine m_rowI (k' := 21) hx hb hK hH (by decide) rfl (by decide) (by decide) rfl dX2_weighPair_229 ?_
                refine lv_iload hx hb dX2_weighPair_230 (lv_at hl 10 rfl) ?_
                refine m_iald (n := 12) (j := r) (v := nI (aWt S r)) hx hb hK hH (by decide) rfl (by first | omega | (refine Nat.lt_of_lt_of_le (Nat.mod_lt _ ?_) ?_ <;> omega)) (by decide) (hM.wt (by first | omega | (refine Nat.lt_of_lt_of_le (Nat.mod_lt _ ?_) ?_ <;> omega))) dX2_weighPair_232 ?_
                refine lv_imul hx hb dX2_weighPair_233 ?_
                refine lv_top (y := nI ((wMany S q r x y a b) * (aWt S r))) (pk_mul _ _) ?_
                refine lv_iadd hx hb dX2_weighPair_234 ?_
                refine lv_top (y := nI (wgR S q x y a b (r + 1))) ((nI_add _ _).trans rfl) ?_
                refine m_iast (n := 6400) (j := 80 * ((8 * i) + a) + (8 * j) + b) hx hb hK hH hS (by decide) rfl (by first | omega | (refine Nat.lt_of_lt_of_le (Nat.mod_lt _ ?_) ?_ <;> omega)) (by decide) dX2_weighPair_235 (fun H locs hH hS => ?_)
                have hM := hM.vS (k := 55) rfl (80 * ((8 * i) + a) + (8 * j) + b) (nI (wgR S q x y a b (r + 1)))
                refine lv_aload_n hx hb dX2_weighPair_236 rfl (lv_at hl 1 rfl) ?_
                refine m_get hx hb hts hown hK hH 45 (by decide) q1497 rfl (v := .ref (o + 56)) rfl dX2_weighPair_237 ?_
                refine lv_iload hx hb dX2_weighPair_240 (lv_at hl 7 rfl) ?_
                refine lv_iload hx hb dX2_weighPair_242 (lv_at hl 0 rfl) ?_
                have hwm := wMany_le S q r x y a b
                refine lvZ_le (tgt := 269) hx hb (by first | omega | (refine Nat.lt_of_lt_of_le (Nat.mod_lt _ ?_) ?_ <;> omega)) dX2_weighPair_244 (by decide) (fun cp => ?_) (fun cp => ?_)
                · refine lv_aload_n hx hb dX2_weighPair_269 rfl (lv_at hl 1 rfl) ?_
                  refine m_get hx hb hts hown hK hH 45 (by decide) q1497 rfl (v := .ref (o + 56)) rfl dX2_weighPair_270 ?_
                  refine lv_iload hx hb dX2_weighPair_273 (lv_at hl 7 rfl) ?_
                  refine m_iald (n := 6400) (j := 80 * ((8 * i) + a) + (8 * j) + b) (v := nI (hvR S q x y a b r)) hx hb hK hH (by decide) rfl (by first | omega | (refine Nat.lt_of_lt_of_le (Nat.mod_lt _ ?_) ?_ <;> omega)) (by decide) (hhv) dX2_weighPair_275 ?_
                  refine m_iast (n := 6400) (j := 80 * ((8 * i) + a) + (8 * j) + b) hx hb hK hH hS (by decide) rfl (by first | omega | (refine Nat.lt_of_lt_of_le (Nat.mod_lt _ ?_) ?_ <;> omega)) (by decide) dX2_weighPair_276 (fun H locs hH hS => ?_)
                  have hM := hM.vS (k := 56) rfl (80 * ((8 * i) + a) + (8 * j) + b) (nI (hvR S q x y a b r))
                  refine lv_iinc (v := nI (r + 1)) (lv' := [(9, .int (nI (r + 1))), (10, .int (nI (wMany S q r x y a b))), (0, .ref o), (1, .int (nI q)), (2, .int (nI i)), (3, .int (nI j)), (4, .int (nI a)), (5, .int (nI b)), (6, .int (nI (80 * ((8 * i) + a) + (8 * j) + b))), (7, .int (nI x)), (8, .int (nI y))]) hx hb dX2_weighPair_277 hl (k := 10) rfl (nI_add r 1) (by decide) rfl (fun ls hl => ?_)
                  refine lv_goto (tgt := 68) hx hb dX2_weighPair_280 (by decide) ?_
                  exact ih68 (r + 1) _ (by omega) H locs ls ⟨by omega, by rw [vset_off _ _ (by decide), vset_self], by rw [vset_self, hvR, if_neg (by omega)], fun t ht => ⟨by rw [vset_off _ _ (by decide), vset_ne _ _ ht]; exact (hoth t ht).1, by rw [vset_ne _ _ ht, vset_off _ _ (by decide)]; exact (hoth t ht).2⟩, (hkp.vs (by decide) _ _).vs (by decide) _ _, hM, hH, hS, lv_sub hl [2, 3, 4, 5, 6, 7, 8, 9, 10, 0] rfl⟩
                · refine lv_aload_n hx hb dX2_weighPair_247 rfl (lv_at hl 1 rfl) ?_
                  refine m_get hx hb hts hown hK hH 45 (by decide) q1497 rfl (v := .ref (o + 56)) rfl dX2_weighPair_248 ?_
                  refine lv_iload hx hb dX2_weighPair_251 (lv_at hl 7 rfl) ?_
                  refine m_iald (n := 6400) (j := 80 * ((8 * i) + a) + (8 * j) + b) (v := nI (hvR S q x y a b r)) hx hb hK hH (by decide) rfl (by first | omega | (refine Nat.lt_of_lt_of_le (Nat.mod_lt _ ?_) ?_ <;> omega)) (by decide) (hhv) dX2_weighPair_253 ?_
                  refine lv_aload_n hx hb dX2_weighPair_254 rfl (lv_at hl 1 rfl) ?_
                  refine m_get hx hb hts hown hK hH 12 (by decide) q1464 rfl (v := .ref (o + 20)) rfl dX2_weighPair_255 ?_
                  refine lv_iconst (v := nI 0) hx hb dX2_weighPair_258 (by decide) ?_
                  refine m_rowI (k' := 21) hx hb hK hH (by decide) rfl (by decide) (by decide) rfl dX2_weighPair_259 ?_
                  refine lv_iload hx hb dX2_weighPair_260 (lv_at hl 10 rfl) ?_
                  refine m_iald (n := 12) (j := r) (v := nI (aWt S r)) hx hb hK hH (by decide) rfl (by first | omega | (refine Nat.lt_of_lt_of_le (Nat.mod_lt _ ?_) ?_ <;> omega)) (by decide) (hM.wt (by first | omega | (refine Nat.lt_of_lt_of_le (Nat.mod_lt _ ?_) ?_ <;> omega))) dX2_weighPair_262 ?_
                  refine va_mmax hx hb (hml.trans hl.1.symm) hown (hts _ q1839) (hts _ q409) (hts _ q114) (hts _ q410) (Nat.le_of_ble_eq_true rfl) (Nat.le_of_ble_eq_true rfl) (Nat.le_of_ble_eq_true rfl) (Nat.le_of_ble_eq_true rfl) dX2_weighPair_263 ?_
                  refine lv_top (y := nI (max (hvR S q x y a b r) (aWt S r))) (i_maxN (by first | omega | (refine Nat.lt_of_lt_of_le (Nat.mod_lt _ ?_) ?_ <;> omega)) (by first | omega | (refine Nat.lt_of_lt_of_le (Nat.mod_lt _ ?_) ?_ <;> omega))) ?_
                  refine lv_goto (tgt := 276) hx hb dX2_weighPair_266 (by decide) ?_
                  refine m_iast (n := 6400) (j := 80 * ((8 * i) + a) + (8 * j) + b) hx hb hK hH hS (by decide) rfl (by first | omega | (refine Nat.lt_of_lt_of_le (Nat.mod_lt _ ?_) ?_ <;> omega)) (by decide) dX2_weighPair_276 (fun H locs hH hS => ?_)
                  have hM := hM.vS (k := 56) rfl (80 * ((8 * i) + a) + (8 * j) + b) (nI (max (hvR S q x y a b r) (aWt S r)))
                  refine lv_iinc (v := nI (r + 1)) (lv' := [(9, .int (nI (r + 1))), (10, .int (nI (wMany S q r x y a b))), (0, .ref o), (1, .int (nI q)), (2, .int (nI i)), (3, .int (nI j)), (4, .int (nI a)), (5, .int (nI b)), (6, .int (nI (80 * ((8 * i) + a) + (8 * j) + b))), (7, .int (nI x)), (8, .int (nI y))]) hx hb dX2_weighPair_277 hl (k := 10) rfl (nI_add r 1) (by decide) rfl (fun ls hl => ?_)
                  refine lv_goto (tgt := 68) hx hb dX2_weighPair_280 (by decide) ?_
                  exact ih68 (r + 1) _ (by omega) H locs ls ⟨by omega, by rw [vset_off _ _ (by decide), vset_self], by rw [vset_self, hvR, if_pos (by omega)], fun t ht => ⟨by rw [vset_off _ _ (by decide), vset_ne _ _ ht]; exact (hoth t ht).1, by rw [vset_ne _ _ ht, vset_off _ _ (by decide)]; exact (hoth t ht).2⟩, (hkp.vs (by decide) _ _).vs (by decide) _ _, hM, hH, hS, lv_sub hl [2, 3, 4, 5, 6, 7, 8, 9, 10, 0] rfl⟩
          · refine lv_aload_n hx hb dX2_weighPair_110 rfl (lv_at hl 1 rfl) ?_
            refine lv_iload hx hb dX2_weighPair_111 (lv_at hl 10 rfl) ?_
            refine lv_iload_n hx hb dX2_weighPair_113 rfl (lv_at hl 2 rfl) ?_
            refine lv_iconst (v := nI 0) hx hb dX2_weighPair_114 (by decide) ?_
            refine lv_iload hx hb dX2_weighPair_115 (lv_at hl 5 rfl) ?_
            refine lv_iload hx hb dX2_weighPair_117 (lv_at hl 6 rfl) ?_
            refine hp_callV (As := [.int (nI r), .int (nI q), .int (nI 0), .int (nI a), .int (nI b)]) (rest := [.int (nI 0)]) hx hb hml hown hts hPB hK hH hS (mt_whoMinds hK0 hO hM (r := r) (q := q) (c := 0) (a := a) (b := b) (by omega) (by omega) (by omega) (by omega) (by omega)) mset_o rfl rfl 5 (lw_V q1830 q1832 qs78 q107 q1833) (by decide +kernel) ⟨rfl, rfl⟩ (by decide) rfl hl.1 rfl (Nat.le_of_ble_eq_true rfl) (by decide) dX2_weighPair_119 (fun v17 h19 H locs hp18 _ hH hS => ?_)
            obtain ⟨rfl, rfl⟩ := hp18
            refine lvZ_eq (tgt := 129) hx hb (by first | omega | (refine Nat.lt_of_lt_of_le (Nat.mod_lt _ ?_) ?_ <;> omega)) dX2_weighPair_122 (by decide) (fun cw1 => ?_) (fun cw1 => ?_)
            · refine lv_iconst (v := nI 0) hx hb dX2_weighPair_129 (by decide) ?_
              refine lv_iadd hx hb dX2_weighPair_130 ?_
              refine lv_top (y := nI (0 + 0)) (nI_add _ _) ?_
              refine lv_istore (lv' := [(10, .int (nI (0 + 0))), (0, .ref o), (1, .int (nI q)), (2, .int (nI i)), (3, .int (nI j)), (4, .int (nI a)), (5, .int (nI b)), (6, .int (nI (80 * ((8 * i) + a) + (8 * j) + b))), (7, .int (nI x)), (8, .int (nI y)), (9, .int (nI r))]) hx hb dX2_weighPair_131 hl (by decide) rfl (fun ls hl => ?_)
              refine lv_iload hx hb dX2_weighPair_133 (lv_at hl 0 rfl) ?_
              refine lv_aload_n hx hb dX2_weighPair_135 rfl (lv_at hl 1 rfl) ?_
              refine lv_iload hx hb dX2_weighPair_136 (lv_at hl 10 rfl) ?_
              refine lv_iload_n hx hb dX2_weighPair_138 rfl (lv_at hl 2 rfl) ?_
              refine lv_iload hx hb dX2_weighPair_139 (lv_at hl 9 rfl) ?_
              refine lv_iload hx hb dX2_weighPair_141 (lv_at hl 8 rfl) ?_
              refine hp_callV (As := [.int (nI r), .int (nI q), .int (nI y), .int (nI x)]) (rest := [.int (nI (0 + 0))]) hx hb hml hown hts hPB hK hH hS (mt_countsFor hK0 hO hM (r := r) (x := y) (y := x) (by omega) (by omega) (by omega) (nI q)) mset_o rfl rfl 4 (lw_V q1822 q1824 qs76 q107 q1825) (by decide +kernel) ⟨rfl, rfl⟩ (by decide) rfl hl.1 rfl (Nat.le_of_ble_eq_true rfl) (by decide) dX2_weighPair_143 (fun v20 h22 H locs hp21 _ hH hS => ?_)
              obtain ⟨rfl, rfl⟩ := hp21
              refine lvB_eq (tgt := 168) hx hb dX2_weighPair_146 (by decide) (fun ca2 => ?_) (fun ca2 => ?_)
              · refine lv_iconst (v := nI 0) hx hb dX2_weighPair_168 (by decide) ?_
                refine lv_iadd hx hb dX2_weighPair_169 ?_
                refine lv_top (y := nI (0 + 0 + 0)) (nI_add _ _) ?_
                refine lv_istore (lv' := [(10, .int (nI (0 + 0 + 0))), (0, .ref o), (1, .int (nI q)), (2, .int (nI i)), (3, .int (nI j)), (4, .int (nI a)), (5, .int (nI b)), (6, .int (nI (80 * ((8 * i) + a) + (8 * j) + b))), (7, .int (nI x)), (8, .int (nI y)), (9, .int (nI r))]) hx hb dX2_weighPair_170 hl (by decide) rfl (fun ls hl => ?_)
                refine lv_goto (tgt := 214) hx hb dX2_weighPair_172 (by decide) ?_
                have ewm : wMany S q r x y a b = 0 + 0 + 0 := by simp [wMany, wM1, ck, ca1, cw1, ca2]
                rw [← ewm] at hl
                refine lv_aload_n hx hb dX2_weighPair_214 rfl (lv_at hl 1 rfl) ?_
                refine m_get hx hb hts hown hK hH 44 (by decide) q1496 rfl (v := .ref (o + 55)) rfl dX2_weighPair_215 ?_
                refine lv_iload hx hb dX2_weighPair_218 (lv_at hl 7 rfl) ?_
                refine lv_dup2_11 hx hb dX2_weighPair_220 rfl rfl ?_
                refine m_iald (n := 6400) (j := 80 * ((8 * i) + a) + (8 * j) + b) (v := nI (wgR S q x y a b r)) hx hb hK hH (by decide) rfl (by first | omega | (refine Nat.lt_of_lt_of_le (Nat.mod_lt _ ?_) ?_ <;> omega)) (by decide) (hwg) dX2_weighPair_221 ?_
                refine lv_iload hx hb dX2_weighPair_222 (lv_at hl 0 rfl) ?_
                refine lv_aload_n hx hb dX2_weighPair_224 rfl (lv_at hl 1 rfl) ?_
                refine m_get hx hb hts hown hK hH 12 (by decide) q1464 rfl (v := .ref (o + 20)) rfl dX2_weighPair_225 ?_
                refine lv_iconst (v := nI 0) hx hb dX2_weighPair_228 (by decide) ?_
                refine m_rowI (k' := 21) hx hb hK hH (by decide) rfl (by decide) (by decide) rfl dX2_weighPair_229 ?_
                refine lv_iload hx hb dX2_weighPair_230 (lv_at hl 10 rfl) ?_
                refine m_iald (n := 12) (j := r) (v := nI (aWt S r)) hx hb hK hH (by decide) rfl (by first | omega | (refine Nat.lt_of_lt_of_le (Nat.mod_lt _ ?_) ?_ <;> omega)) (by decide) (hM.wt (by first | omega | (refine Nat.lt_of_lt_of_le (Nat.mod_lt _ ?_) ?_ <;> omega))) dX2_weighPair_232 ?_
                refine lv_imul hx hb dX2_weighPair_233 ?_
                refine lv_top (y := nI ((wMany S q r x y a b) * (aWt S r))) (pk_mul _ _) ?_
                refine lv_iadd hx hb dX2_weighPair_234 ?_
                refine lv_top (y := nI (wgR S q x y a b (r + 1))) ((nI_add _ _).trans rfl) ?_
                refine m_iast (n := 6400) (j := 80 * ((8 * i) + a) + (8 * j) + b) hx hb hK hH hS (by decide) rfl (by first | omega | (refine Nat.lt_of_lt_of_le (Nat.mod_lt _ ?_) ?_ <;> omega)) (by decide) dX2_weighPair_235 (fun H locs hH hS => ?_)
                have hM := hM.vS (k := 55) rfl (80 * ((8 * i) + a) + (8 * j) + b) (nI (wgR S q x y a b (r + 1)))
                refine lv_aload_n hx hb dX2_weighPair_236 rfl (lv_at hl 1 rfl) ?_
                refine m_get hx hb hts hown hK hH 45 (by decide) q1497 rfl (v := .ref (o + 56)) rfl dX2_weighPair_237 ?_
                refine lv_iload hx hb dX2_weighPair_240 (lv_at hl 7 rfl) ?_
                refine lv_iload hx hb dX2_weighPair_242 (lv_at hl 0 rfl) ?_
                have hwm := wMany_le S q r x y a b
                refine lvZ_le (tgt := 269) hx hb (by first | omega | (refine Nat.lt_of_lt_of_le (Nat.mod_lt _ ?_) ?_ <;> omega)) dX2_weighPair_244 (by decide) (fun cp => ?_) (fun cp => ?_)
                · refine lv_aload_n hx hb dX2_weighPair_269 rfl (lv_at hl 1 rfl) ?_
                  refine m_get hx hb hts hown hK hH 45 (by decide) q1497 rfl (v := .ref (o + 56)) rfl dX2_weighPair_270 ?_
                  refine lv_iload hx hb dX2_weighPair_273 (lv_at hl 7 rfl) ?_
                  refine m_iald (n := 6400) (j := 80 * ((8 * i) + a) + (8 * j) + b) (v := nI (hvR S q x y a b r)) hx hb hK hH (by decide) rfl (by first | omega | (refine Nat.lt_of_lt_of_le (Nat.mod_lt _ ?_) ?_ <;> omega)) (by decide) (hhv) dX2_weighPair_275 ?_
                  refine m_iast (n := 6400) (j := 80 * ((8 * i) + a) + (8 * j) + b) hx hb hK hH hS (by decide) rfl (by first | omega | (refine Nat.lt_of_lt_of_le (Nat.mod_lt _ ?_) ?_ <;> omega)) (by decide) dX2_weighPair_276 (fun H locs hH hS => ?_)
                  have hM := hM.vS (k := 56) rfl (80 * ((8 * i) + a) + (8 * j) + b) (nI (hvR S q x y a b r))
                  refine lv_iinc (v := nI (r + 1)) (lv' := [(9, .int (nI (r + 1))), (10, .int (nI (wMany S q r x y a b))), (0, .ref o), (1, .int (nI q)), (2, .int (nI i)), (3, .int (nI j)), (4, .int (nI a)), (5, .int (nI b)), (6, .int (nI (80 * ((8 * i) + a) + (8 * j) + b))), (7, .int (nI x)), (8, .int (nI y))]) hx hb dX2_weighPair_277 hl (k := 10) rfl (nI_add r 1) (by decide) rfl (fun ls hl => ?_)
                  refine lv_goto (tgt := 68) hx hb dX2_weighPair_280 (by decide) ?_
                  exact ih68 (r + 1) _ (by omega) H locs ls ⟨by omega, by rw [vset_off _ _ (by decide), vset_self], by rw [vset_self, hvR, if_neg (by omega)], fun t ht => ⟨by rw [vset_off _ _ (by decide), vset_ne _ _ ht]; exact (hoth t ht).1, by rw [vset_ne _ _ ht, vset_off _ _ (by decide)]; exact (hoth t ht).2⟩, (hkp.vs (by decide) _ _).vs (by decide) _ _, hM, hH, hS, lv_sub hl [2, 3, 4, 5, 6, 7, 8, 9, 10, 0] rfl⟩
                · refine lv_aload_n hx hb dX2_weighPair_247 rfl (lv_at hl 1 rfl) ?_
                  refine m_get hx hb hts hown hK hH 45 (by decide) q1497 rfl (v := .ref (o + 56)) rfl dX2_weighPair_248 ?_
                  refine lv_iload hx hb dX2_weighPair_251 (lv_at hl 7 rfl) ?_
                  refine m_iald (n := 6400) (j := 80 * ((8 * i) + a) + (8 * j) + b) (v := nI (hvR S q x y a b r)) hx hb hK hH (by decide) rfl (by first | omega | (refine Nat.lt_of_lt_of_le (Nat.mod_lt _ ?_) ?_ <;> omega)) (by decide) (hhv) dX2_weighPair_253 ?_
                  refine lv_aload_n hx hb dX2_weighPair_254 rfl (lv_at hl 1 rfl) ?_
                  refine m_get hx hb hts hown hK hH 12 (by decide) q1464 rfl (v := .ref (o + 20)) rfl dX2_weighPair_255 ?_
                  refine lv_iconst (v := nI 0) hx hb dX2_weighPair_258 (by decide) ?_
                  refine m_rowI (k' := 21) hx hb hK hH (by decide) rfl (by decide) (by decide) rfl dX2_weighPair_259 ?_
                  refine lv_iload hx hb dX2_weighPair_260 (lv_at hl 10 rfl) ?_
                  refine m_iald (n := 12) (j := r) (v := nI (aWt S r)) hx hb hK hH (by decide) rfl (by first | omega | (refine Nat.lt_of_lt_of_le (Nat.mod_lt _ ?_) ?_ <;> omega)) (by decide) (hM.wt (by first | omega | (refine Nat.lt_of_lt_of_le (Nat.mod_lt _ ?_) ?_ <;> omega))) dX2_weighPair_262 ?_
                  refine va_mmax hx hb (hml.trans hl.1.symm) hown (hts _ q1839) (hts _ q409) (hts _ q114) (hts _ q410) (Nat.le_of_ble_eq_true rfl) (Nat.le_of_ble_eq_true rfl) (Nat.le_of_ble_eq_true rfl) (Nat.le_of_ble_eq_true rfl) dX2_weighPair_263 ?_
                  refine lv_top (y := nI (max (hvR S q x y a b r) (aWt S r))) (i_maxN (by first | omega | (refine Nat.lt_of_lt_of_le (Nat.mod_lt _ ?_) ?_ <;> omega)) (by first | omega | (refine Nat.lt_of_lt_of_le (Nat.mod_lt _ ?_) ?_ <;> omega))) ?_
                  refine lv_goto (tgt := 276) hx hb dX2_weighPair_266 (by decide) ?_
                  refine m_iast (n := 6400) (j := 80 * ((8 * i) + a) + (8 * j) + b) hx hb hK hH hS (by decide) rfl (by first | omega | (refine Nat.lt_of_lt_of_le (Nat.mod_lt _ ?_) ?_ <;> omega)) (by decide) dX2_weighPair_276 (fun H locs hH hS => ?_)
                  have hM := hM.vS (k := 56) rfl (80 * ((8 * i) + a) + (8 * j) + b) (nI (max (hvR S q x y a b r) (aWt S r)))
                  refine lv_iinc (v := nI (r + 1)) (lv' := [(9, .int (nI (r + 1))), (10, .int (nI (wMany S q r x y a b))), (0, .ref o), (1, .int (nI q)), (2, .int (nI i)), (3, .int (nI j)), (4, .int (nI a)), (5, .int (nI b)), (6, .int (nI (80 * ((8 * i) + a) + (8 * j) + b))), (7, .int (nI x)), (8, .int (nI y))]) hx hb dX2_weighPair_277 hl (k := 10) rfl (nI_add r 1) (by decide) rfl (fun ls hl => ?_)
                  refine lv_goto (tgt := 68) hx hb dX2_weighPair_280 (by decide) ?_
                  exact ih68 (r + 1) _ (by omega) H locs ls ⟨by omega, by rw [vset_off _ _ (by decide), vset_self], by rw [vset_self, hvR, if_pos (by omega)], fun t ht => ⟨by rw [vset_off _ _ (by decide), vset_ne _ _ ht]; exact (hoth t ht).1, by rw [vset_ne _ _ ht, vset_off _ _ (by decide)]; exact (hoth t ht).2⟩, (hkp.vs (by decide) _ _).vs (by decide) _ _, hM, hH, hS, lv_sub hl [2, 3, 4, 5, 6, 7, 8, 9, 10, 0] rfl⟩
              · refine lv_aload_n hx hb dX2_weighPair_149 rfl (lv_at hl 1 rfl) ?_
                refine lv_iload hx hb dX2_weighPair_150 (lv_at hl 10 rfl) ?_
                refine lv_iload_n hx hb dX2_weighPair_152 rfl (lv_at hl 2 rfl) ?_
                refine lv_iconst (v := nI 0) hx hb dX2_weighPair_153 (by decide) ?_
                refine lv_iload hx hb dX2_weighPair_154 (lv_at hl 6 rfl) ?_
                refine lv_iload hx hb dX2_weighPair_156 (lv_at hl 5 rfl) ?_
                refine hp_callV (As := [.int (nI r), .int (nI q), .int (nI 0), .int (nI b), .int (nI a)]) (rest := [.int (nI (0 + 0))]) hx hb hml hown hts hPB hK hH hS (mt_whoMinds hK0 hO hM (r := r) (q := q) (c := 0) (a := b) (b := a) (by omega) (by omega) (by omega) (by omega) (by omega)) mset_o rfl rfl 5 (lw_V q1830 q1832 qs78 q107 q1833) (by decide +kernel) ⟨rfl, rfl⟩ (by decide) rfl hl.1 rfl (Nat.le_of_ble_eq_true rfl) (by decide) dX2_weighPair_158 (fun v23 h25 H locs hp24 _ hH hS => ?_)
                obtain ⟨rfl, rfl⟩ := hp24
                refine lvZ_eq (tgt := 168) hx hb (by first | omega | (refine Nat.lt_of_lt_of_le (Nat.mod_lt _ ?_) ?_ <;> omega)) dX2_weighPair_161 (by decide) (fun cw2 => ?_) (fun cw2 => ?_)
                · refine lv_iconst (v := nI 0) hx hb dX2_weighPair_168 (by decide) ?_
                  refine lv_iadd hx hb dX2_weighPair_169 ?_
                  refine lv_top (y := nI (0 + 0 + 0)) (nI_add _ _) ?_
                  refine lv_istore (lv' := [(10, .int (nI (0 + 0 + 0))), (0, .ref o), (1, .int (nI q)), (2, .int (nI i)), (3, .int (nI j)), (4, .int (nI a)), (5, .int (nI b)), (6, .int (nI (80 * ((8 * i) + a) + (8 * j) + b))), (7, .int (nI x)), (8, .int (nI y)), (9, .int (nI r))]) hx hb dX2_weighPair_170 hl (by decide) rfl (fun ls hl => ?_)
                  refine lv_goto (tgt := 214) hx hb dX2_weighPair_172 (by decide) ?_
                  have ewm : wMany S q r x y a b = 0 + 0 + 0 := by simp [wMany, wM1, ck, ca1, cw1, ca2, cw2]
                  rw [← ewm] at hl
                  refine lv_aload_n hx hb dX2_weighPair_214 rfl (lv_at hl 1 rfl) ?_
                  refine m_get hx hb hts hown hK hH 44 (by decide) q1496 rfl (v := .ref (o + 55)) rfl dX2_weighPair_215 ?_
                  refine lv_iload hx hb dX2_weighPair_218 (lv_at hl 7 rfl) ?_
                  refine lv_dup2_11 hx hb dX2_weighPair_220 rfl rfl ?_
                  refine m_iald (n := 6400) (j := 80 * ((8 * i) + a) + (8 * j) + b) (v := nI (wgR S q x y a b r)) hx hb hK hH (by decide) rfl (by first | omega | (refine Nat.lt_of_lt_of_le (Nat.mod_lt _ ?_) ?_ <;> omega)) (by decide) (hwg) dX2_weighPair_221 ?_
                  refine lv_iload hx hb dX2_weighPair_222 (lv_at hl 0 rfl) ?_
                  refine lv_aload_n hx hb dX2_weighPair_224 rfl (lv_at hl 1 rfl) ?_
                  refine m_get hx hb hts hown hK hH 12 (by decide) q1464 rfl (v := .ref (o + 20)) rfl dX2_weighPair_225 ?_
                  refine lv_iconst (v := nI 0) hx hb dX2_weighPair_228 (by decide) ?_
                  refine m_rowI (k' := 21) hx hb hK hH (by decide) rfl (by decide) (by decide) rfl dX2_weighPair_229 ?_
                  refine lv_iload hx hb dX2_weighPair_230 (lv_at hl 10 rfl) ?_
                  refine m_iald (n := 12) (j := r) (v := nI (aWt S r)) hx hb hK hH (by decide) rfl (by first | omega | (refine Nat.lt_of_lt_of_le (Nat.mod_lt _ ?_) ?_ <;> omega)) (by decide) (hM.wt (by first | omega | (refine Nat.lt_of_lt_of_le (Nat.mod_lt _ ?_) ?_ <;> omega))) dX2_weighPair_232 ?_
                  refine lv_imul hx hb dX2_weighPair_233 ?_
                  refine lv_top (y := nI ((wMany S q r x y a b) * (aWt S r))) (pk_mul _ _) ?_
                  refine lv_iadd hx hb dX2_weighPair_234 ?_
                  refine lv_top (y := nI (wgR S q x y a b (r + 1))) ((nI_add _ _).trans rfl) ?_
                  refine m_iast (n := 6400) (j := 80 * ((8 * i) + a) + (8 * j) + b) hx hb hK hH hS (by decide) rfl (by first | omega | (refine Nat.lt_of_lt_of_le (Nat.mod_lt _ ?_) ?_ <;> omega)) (by decide) dX2_weighPair_235 (fun H locs hH hS => ?_)
                  have hM := hM.vS (k := 55) rfl (80 * ((8 * i) + a) + (8 * j) + b) (nI (wgR S q x y a b (r + 1)))
                  refine lv_aload_n hx hb dX2_weighPair_236 rfl (lv_at hl 1 rfl) ?_
                  refine m_get hx hb hts hown hK hH 45 (by decide) q1497 rfl (v := .ref (o + 56)) rfl dX2_weighPair_237 ?_
                  refine lv_iload hx hb dX2_weighPair_240 (lv_at hl 7 rfl) ?_
                  refine lv_iload hx hb dX2_weighPair_242 (lv_at hl 0 rfl) ?_
                  have hwm := wMany_le S q r x y a b
                  refine lvZ_le (tgt := 269) hx hb (by first | omega | (refine Nat.lt_of_lt_of_le (Nat.mod_lt _ ?_) ?_ <;> omega)) dX2_weighPair_244 (by decide) (fun cp => ?_) (fun cp => ?_)
                  · refine lv_aload_n hx hb dX2_weighPair_269 rfl (lv_at hl 1 rfl) ?_
                    refine m_get hx hb hts hown hK hH 45 (by decide) q1497 rfl (v := .ref (o + 56)) rfl dX2_weighPair_270 ?_
                    refine lv_iload hx hb dX2_weighPair_273 (lv_at hl 7 rfl) ?_
                    refine m_iald (n := 6400) (j := 80 * ((8 * i) + a) + (8 * j) + b) (v := nI (hvR S q x y a b r)) hx hb hK hH (by decide) rfl (by first | omega | (refine Nat.lt_of_lt_of_le (Nat.mod_lt _ ?_) ?_ <;> omega)) (by decide) (hhv) dX2_weighPair_275 ?_
                    refine m_iast (n := 6400) (j := 80 * ((8 * i) + a) + (8 * j) + b) hx hb hK hH hS (by decide) rfl (by first | omega | (refine Nat.lt_of_lt_of_le (Nat.mod_lt _ ?_) ?_ <;> omega)) (by decide) dX2_weighPair_276 (fun H locs hH hS => ?_)
                    have hM := hM.vS (k := 56) rfl (80 * ((8 * i) + a) + (8 * j) + b) (nI (hvR S q x y a b r))
                    refine lv_iinc (v := nI (r + 1)) (lv' := [(9, .int (nI (r + 1))), (10, .int (nI (wMany S q r x y a b))), (0, .ref o), (1, .int (nI q)), (2, .int (nI i)), (3, .int (nI j)), (4, .int (nI a)), (5, .int (nI b)), (6, .int (nI (80 * ((8 * i) + a) + (8 * j) + b))), (7, .int (nI x)), (8, .int (nI y))]) hx hb dX2_weighPair_277 hl (k := 10) rfl (nI_add r 1) (by decide) rfl (fun ls hl => ?_)
                    refine lv_goto (tgt := 68) hx hb dX2_weighPair_280 (by decide) ?_
                    exact ih68 (r + 1) _ (by omega) H locs ls ⟨by omega, by rw [vset_off _ _ (by decide), vset_self], by rw [vset_self, hvR, if_neg (by omega)], fun t ht => ⟨by rw [vset_off _ _ (by decide), vset_ne _ _ ht]; exact (hoth t ht).1, by rw [vset_ne _ _ ht, vset_off _ _ (by decide)]; exact (hoth t ht).2⟩, (hkp.vs (by decide) _ _).vs (by decide) _ _, hM, hH, hS, lv_sub hl [2, 3, 4, 5, 6, 7, 8, 9, 10, 0] rfl⟩
                  · refine lv_aload_n hx hb dX2_weighPair_247 rfl (lv_at hl 1 rfl) ?_
                    refine m_get hx hb hts hown hK hH 45 (by decide) q1497 rfl (v := .ref (o + 56)) rfl dX2_weighPair_248 ?_
                    refine lv_iload hx hb dX2_weighPair_251 (lv_at hl 7 rfl) ?_
                    refine m_iald (n := 6400) (j := 80 * ((8 * i) + a) + (8 * j) + b) (v := nI (hvR S q x y a b r)) hx hb hK hH (by decide) rfl (by first | omega | (refine Nat.lt_of_lt_of_le (Nat.mod_lt _ ?_) ?_ <;> omega)) (by decide) (hhv) dX2_weighPair_253 ?_
                    refine lv_aload_n hx hb dX2_weighPair_254 rfl (lv_at hl 1 rfl) ?_
                    refine m_get hx hb hts hown hK hH 12 (by decide) q1464 rfl (v := .ref (o + 20)) rfl dX2_weighPair_255 ?_
                    refine lv_iconst (v := nI 0) hx hb dX2_weighPair_258 (by decide) ?_
                    refine m_rowI (k' := 21) hx hb hK hH (by decide) rfl (by decide) (by decide) rfl dX2_weighPair_259 ?_
                    refine lv_iload hx hb dX2_weighPair_260 (lv_at hl 10 rfl) ?_
                    refine m_iald (n := 12) (j := r) (v := nI (aWt S r)) hx hb hK hH (by decide) rfl (by first | omega | (refine Nat.lt_of_lt_of_le (Nat.mod_lt _ ?_) ?_ <;> omega)) (by decide) (hM.wt (by first | omega | (refine Nat.lt_of_lt_of_le (Nat.mod_lt _ ?_) ?_ <;> omega))) dX2_weighPair_262 ?_
                    refine va_mmax hx hb (hml.trans hl.1.symm) hown (hts _ q1839) (hts _ q409) (hts _ q114) (hts _ q410) (Nat.le_of_ble_eq_true rfl) (Nat.le_of_ble_eq_true rfl) (Nat.le_of_ble_eq_true rfl) (Nat.le_of_ble_eq_true rfl) dX2_weighPair_263 ?_
                    refine lv_top (y := nI (max (hvR S q x y a b r) (aWt S r))) (i_maxN (by first | omega | (refine Nat.lt_of_lt_of_le (Nat.mod_lt _ ?_) ?_ <;> omega)) (by first | omega | (refine Nat.lt_of_lt_of_le (Nat.mod_lt _ ?_) ?_ <;> omega))) ?_
                    refine lv_goto (tgt := 276) hx hb dX2_weighPair_266 (by decide) ?_
                    refine m_iast (n := 6400) (j := 80 * ((8 * i) + a) + (8 * j) + b) hx hb hK hH hS (by decide) rfl (by first | omega | (refine Nat.lt_of_lt_of_le (Nat.mod_lt _ ?_) ?_ <;> omega)) (by decide) dX2_weighPair_276 (fun H locs hH hS => ?_)
                    have hM := hM.vS (k := 56) rfl (80 * ((8 * i) + a) + (8 * j) + b) (nI (max (hvR S q x y a b r) (aWt S r)))
                    refine lv_iinc (v := nI (r + 1)) (lv' := [(9, .int (nI (r + 1))), (10, .int (nI (wMany S q r x y a b))), (0, .ref o), (1, .int (nI q)), (2, .int (nI i)), (3, .int (nI j)), (4, .int (nI a)), (5, .int (nI b)), (6, .int (nI (80 * ((8 * i) + a) + (8 * j) + b))), (7, .int (nI x)), (8, .int (nI y))]) hx hb dX2_weighPair_277 hl (k := 10) rfl (nI_add r 1) (by decide) rfl (fun ls hl => ?_)
                    refine lv_goto (tgt := 68) hx hb dX2_weighPair_280 (by decide) ?_
                    exact ih68 (r + 1) _ (by omega) H locs ls ⟨by omega, by rw [vset_off _ _ (by decide), vset_self], by rw [vset_self, hvR, if_pos (by omega)], fun t ht => ⟨by rw [vset_off _ _ (by decide), vset_ne _ _ ht]; exact (hoth t ht).1, by rw [vset_ne _ _ ht, vset_off _ _ (by decide)]; exact (hoth t ht).2⟩, (hkp.vs (by decide) _ _).vs (by decide) _ _, hM, hH, hS, lv_sub hl [2, 3, 4, 5, 6, 7, 8, 9, 10, 0] rfl⟩
                · refine lv_iconst (v := nI 1) hx hb dX2_weighPair_164 (by decide) ?_
                  refine lv_goto (tgt := 169) hx hb dX2_weighPair_165 (by decide) ?_
                  refine lv_iadd hx hb dX2_weighPair_169 ?_
                  refine lv_top (y := nI (0 + 0 + 1)) (nI_add _ _) ?_
                  refine lv_istore (lv' := [(10, .int (nI (0 + 0 + 1))), (0, .ref o), (1, .int (nI q)), (2, .int (nI i)), (3, .int (nI j)), (4, .int (nI a)), (5, .int (nI b)), (6, .int (nI (80 * ((8 * i) + a) + (8 * j) + b))), (7, .int (nI x)), (8, .int (nI y)), (9, .int (nI r))]) hx hb dX2_weighPair_170 hl (by decide) rfl (fun ls hl => ?_)
                  refine lv_goto (tgt := 214) hx hb dX2_weighPair_172 (by decide) ?_
                  have ewm : wMany S q r x y a b = 0 + 0 + 1 := by simp [wMany, wM1, ck, ca1, cw1, ca2, cw2]
                  rw [← ewm] at hl
                  refine lv_aload_n hx hb dX2_weighPair_214 rfl (lv_at hl 1 rfl) ?_
                  refine m_get hx hb hts hown hK hH 44 (by decide) q1496 rfl (v := .ref (o + 55)) rfl dX2_weighPair_215 ?_
                  refine lv_iload hx hb dX2_weighPair_218 (lv_at hl 7 rfl) ?_
                  refine lv_dup2_11 hx hb dX2_weighPair_220 rfl rfl ?_
                  refine m_iald (n := 6400) (j := 80 * ((8 * i) + a) + (8 * j) + b) (v := nI (wgR S q x y a b r)) hx hb hK hH (by decide) rfl (by first | omega | (refine Nat.lt_of_lt_of_le (Nat.mod_lt _ ?_) ?_ <;> omega)) (by decide) (hwg) dX2_weighPair_221 ?_
                  refine lv_iload hx hb dX2_weighPair_222 (lv_at hl 0 rfl) ?_
                  refine lv_aload_n hx hb dX2_weighPair_224 rfl (lv_at hl 1 rfl) ?_
                  refine m_get hx hb hts hown hK hH 12 (by decide) q1464 rfl (v := .ref (o + 20)) rfl dX2_weighPair_225 ?_
                  refine lv_iconst (v := nI 0) hx hb dX2_weighPair_228 (by decide) ?_
                  refine m_rowI (k' := 21) hx hb hK hH (by decide) rfl (by decide) (by decide) rfl dX2_weighPair_229 ?_
                  refine lv_iload hx hb dX2_weighPair_230 (lv_at hl 10 rfl) ?_
                  refine m_iald (n := 12) (j := r) (v := nI (aWt S r)) hx hb hK hH (by decide) rfl (by first | omega | (refine Nat.lt_of_lt_of_le (Nat.mod_lt _ ?_) ?_ <;> omega)) (by decide) (hM.wt (by first | omega | (refine Nat.lt_of_lt_of_le (Nat.mod_lt _ ?_) ?_ <;> omega))) dX2_weighPair_232 ?_
                  refine lv_imul hx hb dX2_weighPair_233 ?_
                  refine lv_top (y := nI ((wMany S q r x y a b) * (aWt S r))) (pk_mul _ _) ?_
                  refine lv_iadd hx hb dX2_weighPair_234 ?_
                  refine lv_top (y := nI (wgR S q x y a b (r + 1))) ((nI_add _ _).trans rfl) ?_
                  refine m_iast (n := 6400) (j := 80 * ((8 * i) + a) + (8 * j) + b) hx hb hK hH hS (by decide) rfl (by first | omega | (refine Nat.lt_of_lt_of_le (Nat.mod_lt _ ?_) ?_ <;> omega)) (by decide) dX2_weighPair_235 (fun H locs hH hS => ?_)
                  have hM := hM.vS (k := 55) rfl (80 * ((8 * i) + a) + (8 * j) + b) (nI (wgR S q x y a b (r + 1)))
                  refine lv_aload_n hx hb dX2_weighPair_236 rfl (lv_at hl 1 rfl) ?_
                  refine m_get hx hb hts hown hK hH 45 (by decide) q1497 rfl (v := .ref (o + 56)) rfl dX2_weighPair_237 ?_
                  refine lv_iload hx hb dX2_weighPair_240 (lv_at hl 7 rfl) ?_
                  refine lv_iload hx hb dX2_weighPair_242 (lv_at hl 0 rfl) ?_
                  have hwm := wMany_le S q r x y a b
                  refine lvZ_le (tgt := 269) hx hb (by first | omega | (refine Nat.lt_of_lt_of_le (Nat.mod_lt _ ?_) ?_ <;> omega)) dX2_weighPair_244 (by decide) (fun cp => ?_) (fun cp => ?_)
                  · refine lv_aload_n hx hb dX2_weighPair_269 rfl (lv_at hl 1 rfl) ?_
                    refine m_get hx hb hts hown hK hH 45 (by decide) q1497 rfl (v := .ref (o + 56)) rfl dX2_weighPair_270 ?_
                    refine lv_iload hx hb dX2_weighPair_273 (lv_at hl 7 rfl) ?_
                    refine m_iald (n := 6400) (j := 80 * ((8 * i) + a) + (8 * j) + b) (v := nI (hvR S q x y a b r)) hx hb hK hH (by decide) rfl (by first | omega | (refine Nat.lt_of_lt_of_le (Nat.mod_lt _ ?_) ?_ <;> omega)) (by decide) (hhv) dX2_weighPair_275 ?_
                    refine m_iast (n := 6400) (j := 80 * ((8 * i) + a) + (8 * j) + b) hx hb hK hH hS (by decide) rfl (by first | omega | (refine Nat.lt_of_lt_of_le (Nat.mod_lt _ ?_) ?_ <;> omega)) (by decide) dX2_weighPair_276 (fun H locs hH hS => ?_)
                    have hM := hM.vS (k := 56) rfl (80 * ((8 * i) + a) + (8 * j) + b) (nI (hvR S q x y a b r))
                    refine lv_iinc (v := nI (r + 1)) (lv' := [(9, .int (nI (r + 1))), (10, .int (nI (wMany S q r x y a b))), (0, .ref o), (1, .int (nI q)), (2, .int (nI i)), (3, .int (nI j)), (4, .int (nI a)), (5, .int (nI b)), (6, .int (nI (80 * ((8 * i) + a) + (8 * j) + b))), (7, .int (nI x)), (8, .int (nI y))]) hx hb dX2_weighPair_277 hl (k := 10) rfl (nI_add r 1) (by decide) rfl (fun ls hl => ?_)
                    refine lv_goto (tgt := 68) hx hb dX2_weighPair_280 (by decide) ?_
                    exact ih68 (r + 1) _ (by omega) H locs ls ⟨by omega, by rw [vset_off _ _ (by decide), vset_self], by rw [vset_self, hvR, if_neg (by omega)], fun t ht => ⟨by rw [vset_off _ _ (by decide), vset_ne _ _ ht]; exact (hoth t ht).1, by rw [vset_ne _ _ ht, vset_off _ _ (by decide)]; exact (hoth t ht).2⟩, (hkp.vs (by decide) _ _).vs (by decide) _ _, hM, hH, hS, lv_sub hl [2, 3, 4, 5, 6, 7, 8, 9, 10, 0] rfl⟩
                  · refine lv_aload_n hx hb dX2_weighPair_247 rfl (lv_at hl 1 rfl) ?_
                    refine m_get hx hb hts hown hK hH 45 (by decide) q1497 rfl (v := .ref (o + 56)) rfl dX2_weighPair_248 ?_
                    refine lv_iload hx hb dX2_weighPair_251 (lv_at hl 7 rfl) ?_
                    refine m_iald (n := 6400) (j := 80 * ((8 * i) + a) + (8 * j) + b) (v := nI (hvR S q x y a b r)) hx hb hK hH (by decide) rfl (by first | omega | (refine Nat.lt_of_lt_of_le (Nat.mod_lt _ ?_) ?_ <;> omega)) (by decide) (hhv) dX2_weighPair_253 ?_
                    refine lv_aload_n hx hb dX2_weighPair_254 rfl (lv_at hl 1 rfl) ?_
                    refine m_get hx hb hts hown hK hH 12 (by decide) q1464 rfl (v := .ref (o + 20)) rfl dX2_weighPair_255 ?_
                    refine lv_iconst (v := nI 0) hx hb dX2_weighPair_258 (by decide) ?_
                    refine m_rowI (k' := 21) hx hb hK hH (by decide) rfl (by decide) (by decide) rfl dX2_weighPair_259 ?_
                    refine lv_iload hx hb dX2_weighPair_260 (lv_at hl 10 rfl) ?_
                    refine m_iald (n := 12) (j := r) (v := nI (aWt S r)) hx hb hK hH (by decide) rfl (by first | omega | (refine Nat.lt_of_lt_of_le (Nat.mod_lt _ ?_) ?_ <;> omega)) (by decide) (hM.wt (by first | omega | (refine Nat.lt_of_lt_of_le (Nat.mod_lt _ ?_) ?_ <;> omega))) dX2_weighPair_262 ?_
                    refine va_mmax hx hb (hml.trans hl.1.symm) hown (hts _ q1839) (hts _ q409) (hts _ q114) (hts _ q410) (Nat.le_of_ble_eq_true rfl) (Nat.le_of_ble_eq_true rfl) (Nat.le_of_ble_eq_true rfl) (Nat.le_of_ble_eq_true rfl) dX2_weighPair_263 ?_
                    refine lv_top (y := nI (max (hvR S q x y a b r) (aWt S r))) (i_maxN (by first | omega | (refine Nat.lt_of_lt_of_le (Nat.mod_lt _ ?_) ?_ <;> omega)) (by first | omega | (refine Nat.lt_of_lt_of_le (Nat.mod_lt _ ?_) ?_ <;> omega))) ?_
                    refine lv_goto (tgt := 276) hx hb dX2_weighPair_266 (by decide) ?_
                    refine m_iast (n := 6400) (j := 80 * ((8 * i) + a) + (8 * j) + b) hx hb hK hH hS (by decide) rfl (by first | omega | (refine Nat.lt_of_lt_of_le (Nat.mod_lt _ ?_) ?_ <;> omega)) (by decide) dX2_weighPair_276 (fun H locs hH hS => ?_)
                    have hM := hM.vS (k := 56) rfl (80 * ((8 * i) + a) + (8 * j) + b) (nI (max (hvR S q x y a b r) (aWt S r)))
                    refine lv_iinc (v := nI (r + 1)) (lv' := [(9, .int (nI (r + 1))), (10, .int (nI (wMany S q r x y a b))), (0, .ref o), (1, .int (nI q)), (2, .int (nI i)), (3, .int (nI j)), (4, .int (nI a)), (5, .int (nI b)), (6, .int (nI (80 * ((8 * i) + a) + (8 * j) + b))), (7, .int (nI x)), (8, .int (nI y))]) hx hb dX2_weighPair_277 hl (k := 10) rfl (nI_add r 1) (by decide) rfl (fun ls hl => ?_)
                    refine lv_goto (tgt := 68) hx hb dX2_weighPair_280 (by decide) ?_
                    exact ih68 (r + 1) _ (by omega) H locs ls ⟨by omega, by rw [vset_off _ _ (by decide), vset_self], by rw [vset_self, hvR, if_pos (by omega)], fun t ht => ⟨by rw [vset_off _ _ (by decide), vset_ne _ _ ht]; exact (hoth t ht).1, by rw [vset_ne _ _ ht, vset_off _ _ (by decide)]; exact (hoth t ht).2⟩, (hkp.vs (by decide) _ _).vs (by decide) _ _, hM, hH, hS, lv_sub hl [2, 3, 4, 5, 6, 7, 8, 9, 10, 0] rfl⟩
            · refine lv_iconst (v := nI 1) hx hb dX2_weighPair_125 (by decide) ?_
              refine lv_goto (tgt := 130) hx hb dX2_weighPair_126 (by decide) ?_
              refine lv_iadd hx hb dX2_weighPair_130 ?_
              refine lv_top (y := nI (0 + 1)) (nI_add _ _) ?_
              refine lv_istore (lv' := [(10, .int (nI (0 + 1))), (0, .ref o), (1, .int (nI q)), (2, .int (nI i)), (3, .int (nI j)), (4, .int (nI a)), (5, .int (nI b)), (6, .int (nI (80 * ((8 * i) + a) + (8 * j) + b))), (7, .int (nI x)), (8, .int (nI y)), (9, .int (nI r))]) hx hb dX2_weighPair_131 hl (by decide) rfl (fun ls hl => ?_)
              refine lv_iload hx hb dX2_weighPair_133 (lv_at hl 0 rfl) ?_
              refine lv_aload_n hx hb dX2_weighPair_135 rfl (lv_at hl 1 rfl) ?_
              refine lv_iload hx hb dX2_weighPair_136 (lv_at hl 10 rfl) ?_
              refine lv_iload_n hx hb dX2_weighPair_138 rfl (lv_at hl 2 rfl) ?_
              refine lv_iload hx hb dX2_weighPair_139 (lv_at hl 9 rfl) ?_
              refine lv_iload hx hb dX2_weighPair_141 (lv_at hl 8 rfl) ?_
              refine hp_callV (As := [.int (nI r), .int (nI q), .int (nI y), .int (nI x)]) (rest := [.int (nI (0 + 1))]) hx hb hml hown hts hPB hK hH hS (mt_countsFor hK0 hO hM (r := r) (x := y) (y := x) (by omega) (by omega) (by omega) (nI q)) mset_o rfl rfl 4 (lw_V q1822 q1824 qs76 q107 q1825) (by decide +kernel) ⟨rfl, rfl⟩ (by decide) rfl hl.1 rfl (Nat.le_of_ble_eq_true rfl) (by decide) dX2_weighPair_143 (fun v26 h28 H locs hp27 _ hH hS => ?_)
              obtain ⟨rfl, rfl⟩ := hp27
              refine lvB_eq (tgt := 168) hx hb dX2_weighPair_146 (by decide) (fun ca2 => ?_) (fun ca2 => ?_)
              · refine lv_iconst (v := nI 0) hx hb dX2_weighPair_168 (by decide) ?_
                refine lv_iadd hx hb dX2_weighPair_169 ?_
                refine lv_top (y := nI (0 + 1 + 0)) (nI_add _ _) ?_
                refine lv_istore (lv' := [(10, .int (nI (0 + 1 + 0))), (0, .ref o), (1, .int (nI q)), (2, .int (nI i)), (3, .int (nI j)), (4, .int (nI a)), (5, .int (nI b)), (6, .int (nI (80 * ((8 * i) + a) + (8 * j) + b))), (7, .int (nI x)), (8, .int (nI y)), (9, .int (nI r))]) hx hb dX2_weighPair_170 hl (by decide) rfl (fun ls hl => ?_)
                refine lv_goto (tgt := 214) hx hb dX2_weighPair_172 (by decide) ?_
                have ewm : wMany S q r x y a b = 0 + 1 + 0 := by simp [wMany, wM1, ck, ca1, cw1, ca2]
                rw [← ewm] at hl
                refine lv_aload_n hx hb dX2_weighPair_214 rfl (lv_at hl 1 rfl) ?_
                refine m_get hx hb hts hown hK hH 44 (by decide) q1496 rfl (v := .ref (o + 55)) rfl dX2_weighPair_215 ?_
                refine lv_iload hx hb dX2_weighPair_218 (lv_at hl 7 rfl) ?_
                refine lv_dup2_11 hx hb dX2_weighPair_220 rfl rfl ?_
                refine m_iald (n := 6400) (j := 80 * ((8 * i) + a) + (8 * j) + b) (v := nI (wgR S q x y a b r)) hx hb hK hH (by decide) rfl (by first | omega | (refine Nat.lt_of_lt_of_le (Nat.mod_lt _ ?_) ?_ <;> omega)) (by decide) (hwg) dX2_weighPair_221 ?_
                refine lv_iload hx hb dX2_weighPair_222 (lv_at hl 0 rfl) ?_
                refine lv_aload_n hx hb dX2_weighPair_224 rfl (lv_at hl 1 rfl) ?_
                refine m_get hx hb hts hown hK hH 12 (by decide) q1464 rfl (v := .ref (o + 20)) rfl dX2_weighPair_225 ?_
                refine lv_iconst (v := nI 0) hx hb dX2_weighPair_228 (by decide) ?_
                refine m_rowI (k' := 21) hx hb hK hH (by decide) rfl (by decide) (by decide) rfl dX2_weighPair_229 ?_
                refine lv_iload hx hb dX2_weighPair_230 (lv_at hl 10 rfl) ?_
                refine m_iald (n := 12) (j := r) (v := nI (aWt S r)) hx hb hK hH (by decide) rfl (by first | omega | (refine Nat.lt_of_lt_of_le (Nat.mod_lt _ ?_) ?_ <;> omega)) (by decide) (hM.wt (by first | omega | (refine Nat.lt_of_lt_of_le (Nat.mod_lt _ ?_) ?_ <;> omega))) dX2_weighPair_232 ?_
                refine lv_imul hx hb dX2_weighPair_233 ?_
                refine lv_top (y := nI ((wMany S q r x y a b) * (aWt S r))) (pk_mul _ _) ?_
                refine lv_iadd hx hb dX2_weighPair_234 ?_
                refine lv_top (y := nI (wgR S q x y a b (r + 1))) ((nI_add _ _).trans rfl) ?_
                refine m_iast (n := 6400) (j := 80 * ((8 * i) + a) + (8 * j) + b) hx hb hK hH hS (by decide) rfl (by first | omega | (refine Nat.lt_of_lt_of_le (Nat.mod_lt _ ?_) ?_ <;> omega)) (by decide) dX2_weighPair_235 (fun H locs hH hS => ?_)
                have hM := hM.vS (k := 55) rfl (80 * ((8 * i) + a) + (8 * j) + b) (nI (wgR S q x y a b (r + 1)))
                refine lv_aload_n hx hb dX2_weighPair_236 rfl (lv_at hl 1 rfl) ?_
                refine m_get hx hb hts hown hK hH 45 (by decide) q1497 rfl (v := .ref (o + 56)) rfl dX2_weighPair_237 ?_
                refine lv_iload hx hb dX2_weighPair_240 (lv_at hl 7 rfl) ?_
                refine lv_iload hx hb dX2_weighPair_242 (lv_at hl 0 rfl) ?_
                have hwm := wMany_le S q r x y a b
                refine lvZ_le (tgt := 269) hx hb (by first | omega | (refine Nat.lt_of_lt_of_le (Nat.mod_lt _ ?_) ?_ <;> omega)) dX2_weighPair_244 (by decide) (fun cp => ?_) (fun cp => ?_)
                · refine lv_aload_n hx hb dX2_weighPair_269 rfl (lv_at hl 1 rfl) ?_
                  refine m_get hx hb hts hown hK hH 45 (by decide) q1497 rfl (v := .ref (o + 56)) rfl dX2_weighPair_270 ?_
                  refine lv_iload hx hb dX2_weighPair_273 (lv_at hl 7 rfl) ?_
                  refine m_iald (n := 6400) (j := 80 * ((8 * i) + a) + (8 * j) + b) (v := nI (hvR S q x y a b r)) hx hb hK hH (by decide) rfl (by first | omega | (refine Nat.lt_of_lt_of_le (Nat.mod_lt _ ?_) ?_ <;> omega)) (by decide) (hhv) dX2_weighPair_275 ?_
                  refine m_iast (n := 6400) (j := 80 * ((8 * i) + a) + (8 * j) + b) hx hb hK hH hS (by decide) rfl (by first | omega | (refine Nat.lt_of_lt_of_le (Nat.mod_lt _ ?_) ?_ <;> omega)) (by decide) dX2_weighPair_276 (fun H locs hH hS => ?_)
                  have hM := hM.vS (k := 56) rfl (80 * ((8 * i) + a) + (8 * j) + b) (nI (hvR S q x y a b r))
                  refine lv_iinc (v := nI (r + 1)) (lv' := [(9, .int (nI (r + 1))), (10, .int (nI (wMany S q r x y a b))), (0, .ref o), (1, .int (nI q)), (2, .int (nI i)), (3, .int (nI j)), (4, .int (nI a)), (5, .int (nI b)), (6, .int (nI (80 * ((8 * i) + a) + (8 * j) + b))), (7, .int (nI x)), (8, .int (nI y))]) hx hb dX2_weighPair_277 hl (k := 10) rfl (nI_add r 1) (by decide) rfl (fun ls hl => ?_)
                  refine lv_goto (tgt := 68) hx hb dX2_weighPair_280 (by decide) ?_
                  exact ih68 (r + 1) _ (by omega) H locs ls ⟨by omega, by rw [vset_off _ _ (by decide), vset_self], by rw [vset_self, hvR, if_neg (by omega)], fun t ht => ⟨by rw [vset_off _ _ (by decide), vset_ne _ _ ht]; exact (hoth t ht).1, by rw [vset_ne _ _ ht, vset_off _ _ (by decide)]; exact (hoth t ht).2⟩, (hkp.vs (by decide) _ _).vs (by decide) _ _, hM, hH, hS, lv_sub hl [2, 3, 4, 5, 6, 7, 8, 9, 10, 0] rfl⟩
                · refine lv_aload_n hx hb dX2_weighPair_247 rfl (lv_at hl 1 rfl) ?_
                  refine m_get hx hb hts hown hK hH 45 (by decide) q1497 rfl (v := .ref (o + 56)) rfl dX2_weighPair_248 ?_
                  refine lv_iload hx hb dX2_weighPair_251 (lv_at hl 7 rfl) ?_
                  refine m_iald (n := 6400) (j := 80 * ((8 * i) + a) + (8 * j) + b) (v := nI (hvR S q x y a b r)) hx hb hK hH (by decide) rfl (by first | omega | (refine Nat.lt_of_lt_of_le (Nat.mod_lt _ ?_) ?_ <;> omega)) (by decide) (hhv) dX2_weighPair_253 ?_
                  refine lv_aload_n hx hb dX2_weighPair_254 rfl (lv_at hl 1 rfl) ?_
                  refine m_get hx hb hts hown hK hH 12 (by decide) q1464 rfl (v := .ref (o + 20)) rfl dX2_weighPair_255 ?_
                  refine lv_iconst (v := nI 0) hx hb dX2_weighPair_258 (by decide) ?_
                  refine m_rowI (k' := 21) hx hb hK hH (by decide) rfl (by decide) (by decide) rfl dX2_weighPair_259 ?_
                  refine lv_iload hx hb dX2_weighPair_260 (lv_at hl 10 rfl) ?_
                  refine m_iald (n := 12) (j := r) (v := nI (aWt S r)) hx hb hK hH (by decide) rfl (by first | omega | (refine Nat.lt_of_lt_of_le (Nat.mod_lt _ ?_) ?_ <;> omega)) (by decide) (hM.wt (by first | omega | (refine Nat.lt_of_lt_of_le (Nat.mod_lt _ ?_) ?_ <;> omega))) dX2_weighPair_262 ?_
                  refine va_mmax hx hb (hml.trans hl.1.symm) hown (hts _ q1839) (hts _ q409) (hts _ q114) (hts _ q410) (Nat.le_of_ble_eq_true rfl) (Nat.le_of_ble_eq_true rfl) (Nat.le_of_ble_eq_true rfl) (Nat.le_of_ble_eq_true rfl) dX2_weighPair_263 ?_
                  refine lv_top (y := nI (max (hvR S q x y a b r) (aWt S r))) (i_maxN (by first | omega | (refine Nat.lt_of_lt_of_le (Nat.mod_lt _ ?_) ?_ <;> omega)) (by first | omega | (refine Nat.lt_of_lt_of_le (Nat.mod_lt _ ?_) ?_ <;> omega))) ?_
                  refine lv_goto (tgt := 276) hx hb dX2_weighPair_266 (by decide) ?_
                  refine m_iast (n := 6400) (j := 80 * ((8 * i) + a) + (8 * j) + b) hx hb hK hH hS (by decide) rfl (by first | omega | (refine Nat.lt_of_lt_of_le (Nat.mod_lt _ ?_) ?_ <;> omega)) (by decide) dX2_weighPair_276 (fun H locs hH hS => ?_)
                  have hM := hM.vS (k := 56) rfl (80 * ((8 * i) + a) + (8 * j) + b) (nI (max (hvR S q x y a b r) (aWt S r)))
                  refine lv_iinc (v := nI (r + 1)) (lv' := [(9, .int (nI (r + 1))), (10, .int (nI (wMany S q r x y a b))), (0, .ref o), (1, .int (nI q)), (2, .int (nI i)), (3, .int (nI j)), (4, .int (nI a)), (5, .int (nI b)), (6, .int (nI (80 * ((8 * i) + a) + (8 * j) + b))), (7, .int (nI x)), (8, .int (nI y))]) hx hb dX2_weighPair_277 hl (k := 10) rfl (nI_add r 1) (by decide) rfl (fun ls hl => ?_)
                  refine lv_goto (tgt := 68) hx hb dX2_weighPair_280 (by decide) ?_
                  exact ih68 (r + 1) _ (by omega) H locs ls ⟨by omega, by rw [vset_off _ _ (by decide), vset_self], by rw [vset_self, hvR, if_pos (by omega)], fun t ht => ⟨by rw [vset_off _ _ (by decide), vset_ne _ _ ht]; exact (hoth t ht).1, by rw [vset_ne _ _ ht, vset_off _ _ (by decide)]; exact (hoth t ht).2⟩, (hkp.vs (by decide) _ _).vs (by decide) _ _, hM, hH, hS, lv_sub hl [2, 3, 4, 5, 6, 7, 8, 9, 10, 0] rfl⟩
              · refine lv_aload_n hx hb dX2_weighPair_149 rfl (lv_at hl 1 rfl) ?_
                refine lv_iload hx hb dX2_weighPair_150 (lv_at hl 10 rfl) ?_
                refine lv_iload_n hx hb dX2_weighPair_152 rfl (lv_at hl 2 rfl) ?_
                refine lv_iconst (v := nI 0) hx hb dX2_weighPair_153 (by decide) ?_
                refine lv_iload hx hb dX2_weighPair_154 (lv_at hl 6 rfl) ?_
                refine lv_iload hx hb dX2_weighPair_156 (lv_at hl 5 rfl) ?_
                refine hp_callV (As := [.int (nI r), .int (nI q), .int (nI 0), .int (nI b), .int (nI a)]) (rest := [.int (nI (0 + 1))]) hx hb hml hown hts hPB hK hH hS (mt_whoMinds hK0 hO hM (r := r) (q := q) (c := 0) (a := b) (b := a) (by omega) (by omega) (by omega) (by omega) (by omega)) mset_o rfl rfl 5 (lw_V q1830 q1832 qs78 q107 q1833) (by decide +kernel) ⟨rfl, rfl⟩ (by decide) rfl hl.1 rfl (Nat.le_of_ble_eq_true rfl) (by decide) dX2_weighPair_158 (fun v29 h31 H locs hp30 _ hH hS => ?_)
                obtain ⟨rfl, rfl⟩ := hp30
                refine lvZ_eq (tgt := 168) hx hb (by first | omega | (refine Nat.lt_of_lt_of_le (Nat.mod_lt _ ?_) ?_ <;> omega)) dX2_weighPair_161 (by decide) (fun cw2 => ?_) (fun cw2 => ?_)
                · refine lv_iconst (v := nI 0) hx hb dX2_weighPair_168 (by decide) ?_
                  refine lv_iadd hx hb dX2_weighPair_169 ?_
                  refine lv_top (y := nI (0 + 1 + 0)) (nI_add _ _) ?_
                  refine lv_istore (lv' := [(10, .int (nI (0 + 1 + 0))), (0, .ref o), (1, .int (nI q)), (2, .int (nI i)), (3, .int (nI j)), (4, .int (nI a)), (5, .int (nI b)), (6, .int (nI (80 * ((8 * i) + a) + (8 * j) + b))), (7, .int (nI x)), (8, .int (nI y)), (9, .int (nI r))]) hx hb dX2_weighPair_170 hl (by decide) rfl (fun ls hl => ?_)
                  refine lv_goto (tgt := 214) hx hb dX2_weighPair_172 (by decide) ?_
                  have ewm : wMany S q r x y a b = 0 + 1 + 0 := by simp [wMany, wM1, ck, ca1, cw1, ca2, cw2]
                  rw [← ewm] at hl
                  refine lv_aload_n hx hb dX2_weighPair_214 rfl (lv_at hl 1 rfl) ?_
                  refine m_get hx hb hts hown hK hH 44 (by decide) q1496 rfl (v := .ref (o + 55)) rfl dX2_weighPair_215 ?_
                  refine lv_iload hx hb dX2_weighPair_218 (lv_at hl 7 rfl) ?_
                  refine lv_dup2_11 hx hb dX2_weighPair_220 rfl rfl ?_
                  refine m_iald (n := 6400) (j := 80 * ((8 * i) + a) + (8 * j) + b) (v := nI (wgR S q x y a b r)) hx hb hK hH (by decide) rfl (by first | omega | (refine Nat.lt_of_lt_of_le (Nat.mod_lt _ ?_) ?_ <;> omega)) (by decide) (hwg) dX2_weighPair_221 ?_
                  refine lv_iload hx hb dX2_weighPair_222 (lv_at hl 0 rfl) ?_
                  refine lv_aload_n hx hb dX2_weighPair_224 rfl (lv_at hl 1 rfl) ?_
                  refine m_get hx hb hts hown hK hH 12 (by decide) q1464 rfl (v := .ref (o + 20)) rfl dX2_weighPair_225 ?_
                  refine lv_iconst (v := nI 0) hx hb dX2_weighPair_228 (by decide) ?_
                  refine m_rowI (k' := 21) hx hb hK hH (by decide) rfl (by decide) (by decide) rfl dX2_weighPair_229 ?_
                  refine lv_iload hx hb dX2_weighPair_230 (lv_at hl 10 rfl) ?_
                  refine m_iald (n := 12) (j := r) (v := nI (aWt S r)) hx hb hK hH (by decide) rfl (by first | omega | (refine Nat.lt_of_lt_of_le (Nat.mod_lt _ ?_) ?_ <;> omega)) (by decide) (hM.wt (by first | omega | (refine Nat.lt_of_lt_of_le (Nat.mod_lt _ ?_) ?_ <;> omega))) dX2_weighPair_232 ?_
                  refine lv_imul hx hb dX2_weighPair_233 ?_
                  refine lv_top (y := nI ((wMany S q r x y a b) * (aWt S r))) (pk_mul _ _) ?_
                  refine lv_iadd hx hb dX2_weighPair_234 ?_
                  refine lv_top (y := nI (wgR S q x y a b (r + 1))) ((nI_add _ _).trans rfl) ?_
                  refine m_iast (n := 6400) (j := 80 * ((8 * i) + a) + (8 * j) + b) hx hb hK hH hS (by decide) rfl (by first | omega | (refine Nat.lt_of_lt_of_le (Nat.mod_lt _ ?_) ?_ <;> omega)) (by decide) dX2_weighPair_235 (fun H locs hH hS => ?_)
                  have hM := hM.vS (k := 55) rfl (80 * ((8 * i) + a) + (8 * j) + b) (nI (wgR S q x y a b (r + 1)))
                  refine lv_aload_n hx hb dX2_weighPair_236 rfl (lv_at hl 1 rfl) ?_
                  refine m_get hx hb hts hown hK hH 45 (by decide) q1497 rfl (v := .ref (o + 56)) rfl dX2_weighPair_237 ?_
                  refine lv_iload hx hb dX2_weighPair_240 (lv_at hl 7 rfl) ?_
                  refine lv_iload hx hb dX2_weighPair_242 (lv_at hl 0 rfl) ?_
                  have hwm := wMany_le S q r x y a b
                  refine lvZ_le (tgt := 269) hx hb (by first | omega | (refine Nat.lt_of_lt_of_le (Nat.mod_lt _ ?_) ?_ <;> omega)) dX2_weighPair_244 (by decide) (fun cp => ?_) (fun cp => ?_)
                  · refine lv_aload_n hx hb dX2_weighPair_269 rfl (lv_at hl 1 rfl) ?_
                    refine m_get hx hb hts hown hK hH 45 (by decide) q1497 rfl (v := .ref (o + 56)) rfl dX2_weighPair_270 ?_
                    refine lv_iload hx hb dX2_weighPair_273 (lv_at hl 7 rfl) ?_
                    refine m_iald (n := 6400) (j := 80 * ((8 * i) + a) + (8 * j) + b) (v := nI (hvR S q x y a b r)) hx hb hK hH (by decide) rfl (by first | omega | (refine Nat.lt_of_lt_of_le (Nat.mod_lt _ ?_) ?_ <;> omega)) (by decide) (hhv) dX2_weighPair_275 ?_
                    refine m_iast (n := 6400) (j := 80 * ((8 * i) + a) + (8 * j) + b) hx hb hK hH hS (by decide) rfl (by first | omega | (refine Nat.lt_of_lt_of_le (Nat.mod_lt _ ?_) ?_ <;> omega)) (by decide) dX2_weighPair_276 (fun H locs hH hS => ?_)
                    have hM := hM.vS (k := 56) rfl (80 * ((8 * i) + a) + (8 * j) + b) (nI (hvR S q x y a b r))
                    refine lv_iinc (v := nI (r + 1)) (lv' := [(9, .int (nI (r + 1))), (10, .int (nI (wMany S q r x y a b))), (0, .ref o), (1, .int (nI q)), (2, .int (nI i)), (3, .int (nI j)), (4, .int (nI a)), (5, .int (nI b)), (6, .int (nI (80 * ((8 * i) + a) + (8 * j) + b))), (7, .int (nI x)), (8, .int (nI y))]) hx hb dX2_weighPair_277 hl (k := 10) rfl (nI_add r 1) (by decide) rfl (fun ls hl => ?_)
                    refine lv_goto (tgt := 68) hx hb dX2_weighPair_280 (by decide) ?_
                    exact ih68 (r + 1) _ (by omega) H locs ls ⟨by omega, by rw [vset_off _ _ (by decide), vset_self], by rw [vset_self, hvR, if_neg (by omega)], fun t ht => ⟨by rw [vset_off _ _ (by decide), vset_ne _ _ ht]; exact (hoth t ht).1, by rw [vset_ne _ _ ht, vset_off _ _ (by decide)]; exact (hoth t ht).2⟩, (hkp.vs (by decide) _ _).vs (by decide) _ _, hM, hH, hS, lv_sub hl [2, 3, 4, 5, 6, 7, 8, 9, 10, 0] rfl⟩
                  · refine lv_aload_n hx hb dX2_weighPair_247 rfl (lv_at hl 1 rfl) ?_
                    refine m_get hx hb hts hown hK hH 45 (by decide) q1497 rfl (v := .ref (o + 56)) rfl dX2_weighPair_248 ?_
                    refine lv_iload hx hb dX2_weighPair_251 (lv_at hl 7 rfl) ?_
                    refine m_iald (n := 6400) (j := 80 * ((8 * i) + a) + (8 * j) + b) (v := nI (hvR S q x y a b r)) hx hb hK hH (by decide) rfl (by first | omega | (refine Nat.lt_of_lt_of_le (Nat.mod_lt _ ?_) ?_ <;> omega)) (by decide) (hhv) dX2_weighPair_253 ?_
                    refine lv_aload_n hx hb dX2_weighPair_254 rfl (lv_at hl 1 rfl) ?_
                    refine m_get hx hb hts hown hK hH 12 (by decide) q1464 rfl (v := .ref (o + 20)) rfl dX2_weighPair_255 ?_
                    refine lv_iconst (v := nI 0) hx hb dX2_weighPair_258 (by decide) ?_
                    refine m_rowI (k' := 21) hx hb hK hH (by decide) rfl (by decide) (by decide) rfl dX2_weighPair_259 ?_
                    refine lv_iload hx hb dX2_weighPair_260 (lv_at hl 10 rfl) ?_
                    refine m_iald (n := 12) (j := r) (v := nI (aWt S r)) hx hb hK hH (by decide) rfl (by first | omega | (refine Nat.lt_of_lt_of_le (Nat.mod_lt _ ?_) ?_ <;> omega)) (by decide) (hM.wt (by first | omega | (refine Nat.lt_of_lt_of_le (Nat.mod_lt _ ?_) ?_ <;> omega))) dX2_weighPair_262 ?_
                    refine va_mmax hx hb (hml.trans hl.1.symm) hown (hts _ q1839) (hts _ q409) (hts _ q114) (hts _ q410) (Nat.le_of_ble_eq_true rfl) (Nat.le_of_ble_eq_true rfl) (Nat.le_of_ble_eq_true rfl) (Nat.le_of_ble_eq_true rfl) dX2_weighPair_263 ?_
                    refine lv_top (y := nI (max (hvR S q x y a b r) (aWt S r))) (i_maxN (by first | omega | (refine Nat.lt_of_lt_of_le (Nat.mod_lt _ ?_) ?_ <;> omega)) (by first | omega | (refine Nat.lt_of_lt_of_le (Nat.mod_lt _ ?_) ?_ <;> omega))) ?_
                    refine lv_goto (tgt := 276) hx hb dX2_weighPair_266 (by decide) ?_
                    refine m_iast (n := 6400) (j := 80 * ((8 * i) + a) + (8 * j) + b) hx hb hK hH hS (by decide) rfl (by first | omega | (refine Nat.lt_of_lt_of_le (Nat.mod_lt _ ?_) ?_ <;> omega)) (by decide) dX2_weighPair_276 (fun H locs hH hS => ?_)
                    have hM := hM.vS (k := 56) rfl (80 * ((8 * i) + a) + (8 * j) + b) (nI (max (hvR S q x y a b r) (aWt S r)))
                    refine lv_iinc (v := nI (r + 1)) (lv' := [(9, .int (nI (r + 1))), (10, .int (nI (wMany S q r x y a b))), (0, .ref o), (1, .int (nI q)), (2, .int (nI i)), (3, .int (nI j)), (4, .int (nI a)), (5, .int (nI b)), (6, .int (nI (80 * ((8 * i) + a) + (8 * j) + b))), (7, .int (nI x)), (8, .int (nI y))]) hx hb dX2_weighPair_277 hl (k := 10) rfl (nI_add r 1) (by decide) rfl (fun ls hl => ?_)
                    refine lv_goto (tgt := 68) hx hb dX2_weighPair_280 (by decide) ?_
                    exact ih68 (r + 1) _ (by omega) H locs ls ⟨by omega, by rw [vset_off _ _ (by decide), vset_self], by rw [vset_self, hvR, if_pos (by omega)], fun t ht => ⟨by rw [vset_off _ _ (by decide), vset_ne _ _ ht]; exact (hoth t ht).1, by rw [vset_ne _ _ ht, vset_off _ _ (by decide)]; exact (hoth t ht).2⟩, (hkp.vs (by decide) _ _).vs (by decide) _ _, hM, hH, hS, lv_sub hl [2, 3, 4, 5, 6, 7, 8, 9, 10, 0] rfl⟩
                · refine lv_iconst (v := nI 1) hx hb dX2_weighPair_164 (by decide) ?_
                  refine lv_goto (tgt := 169) hx hb dX2_weighPair_165 (by decide) ?_
                  refine lv_iadd hx hb dX2_weighPair_169 ?_
                  refine lv_top (y := nI (0 + 1 + 1)) (nI_add _ _) ?_
                  refine lv_istore (lv' := [(10, .int (nI (0 + 1 + 1))), (0, .ref o), (1, .int (nI q)), (2, .int (nI i)), (3, .int (nI j)), (4, .int (nI a)), (5, .int (nI b)), (6, .int (nI (80 * ((8 * i) + a) + (8 * j) + b))), (7, .int (nI x)), (8, .int (nI y)), (9, .int (nI r))]) hx hb dX2_weighPair_170 hl (by decide) rfl (fun ls hl => ?_)
                  refine lv_goto (tgt := 214) hx hb dX2_weighPair_172 (by decide) ?_
                  have ewm : wMany S q r x y a b = 0 + 1 + 1 := by simp [wMany, wM1, ck, ca1, cw1, ca2, cw2]
                  rw [← ewm] at hl
                  refine lv_aload_n hx hb dX2_weighPair_214 rfl (lv_at hl 1 rfl) ?_
                  refine m_get hx hb hts hown hK hH 44 (by decide) q1496 rfl (v := .ref (o + 55)) rfl dX2_weighPair_215 ?_
                  refine lv_iload hx hb dX2_weighPair_218 (lv_at hl 7 rfl) ?_
                  refine lv_dup2_11 hx hb dX2_weighPair_220 rfl rfl ?_
                  refine m_iald (n := 6400) (j := 80 * ((8 * i) + a) + (8 * j) + b) (v := nI (wgR S q x y a b r)) hx hb hK hH (by decide) rfl (by first | omega | (refine Nat.lt_of_lt_of_le (Nat.mod_lt _ ?_) ?_ <;> omega)) (by decide) (hwg) dX2_weighPair_221 ?_
                  refine lv_iload hx hb dX2_weighPair_222 (lv_at hl 0 rfl) ?_
                  refine lv_aload_n hx hb dX2_weighPair_224 rfl (lv_at hl 1 rfl) ?_
                  refine m_get hx hb hts hown hK hH 12 (by decide) q1464 rfl (v := .ref (o + 20)) rfl dX2_weighPair_225 ?_
                  refine lv_iconst (v := nI 0) hx hb dX2_weighPair_228 (by decide) ?_
                  refine m_rowI (k' := 21) hx hb hK hH (by decide) rfl (by decide) (by decide) rfl dX2_weighPair_229 ?_
                  refine lv_iload hx hb dX2_weighPair_230 (lv_at hl 10 rfl) ?_
                  refine m_iald (n := 12) (j := r) (v := nI (aWt S r)) hx hb hK hH (by decide) rfl (by first | omega | (refine Nat.lt_of_lt_of_le (Nat.mod_lt _ ?_) ?_ <;> omega)) (by decide) (hM.wt (by first | omega | (refine Nat.lt_of_lt_of_le (Nat.mod_lt _ ?_) ?_ <;> omega))) dX2_weighPair_232 ?_
                  refine lv_imul hx hb dX2_weighPair_233 ?_
                  refine lv_top (y := nI ((wMany S q r x y a b) * (aWt S r))) (pk_mul _ _) ?_
                  refine lv_iadd hx hb dX2_weighPair_234 ?_
                  refine lv_top (y := nI (wgR S q x y a b (r + 1))) ((nI_add _ _).trans rfl) ?_
                  refine m_iast (n := 6400) (j := 80 * ((8 * i) + a) + (8 * j) + b) hx hb hK hH hS (by decide) rfl (by first | omega | (refine Nat.lt_of_lt_of_le (Nat.mod_lt _ ?_) ?_ <;> omega)) (by decide) dX2_weighPair_235 (fun H locs hH hS => ?_)
                  have hM := hM.vS (k := 55) rfl (80 * ((8 * i) + a) + (8 * j) + b) (nI (wgR S q x y a b (r + 1)))
                  refine lv_aload_n hx hb dX2_weighPair_236 rfl (lv_at hl 1 rfl) ?_
                  refine m_get hx hb hts hown hK hH 45 (by decide) q1497 rfl (v := .ref (o + 56)) rfl dX2_weighPair_237 ?_
                  refine lv_iload hx hb dX2_weighPair_240 (lv_at hl 7 rfl) ?_
                  refine lv_iload hx hb dX2_weighPair_242 (lv_at hl 0 rfl) ?_
                  have hwm := wMany_le S q r x y a b
                  refine lvZ_le (tgt := 269) hx hb (by first | omega | (refine Nat.lt_of_lt_of_le (Nat.mod_lt _ ?_) ?_ <;> omega)) dX2_weighPair_244 (by decide) (fun cp => ?_) (fun cp => ?_)
                  · refine lv_aload_n hx hb dX2_weighPair_269 rfl (lv_at hl 1 rfl) ?_
                    refine m_get hx hb hts hown hK hH 45 (by decide) q1497 rfl (v := .ref (o + 56)) rfl dX2_weighPair_270 ?_
                    refine lv_iload hx hb dX2_weighPair_273 (lv_at hl 7 rfl) ?_
                    refine m_iald (n := 6400) (j := 80 * ((8 * i) + a) + (8 * j) + b) (v := nI (hvR S q x y a b r)) hx hb hK hH (by decide) rfl (by first | omega | (refine Nat.lt_of_lt_of_le (Nat.mod_lt _ ?_) ?_ <;> omega)) (by decide) (hhv) dX2_weighPair_275 ?_
                    refine m_iast (n := 6400) (j := 80 * ((8 * i) + a) + (8 * j) + b) hx hb hK hH hS (by decide) rfl (by first | omega | (refine Nat.lt_of_lt_of_le (Nat.mod_lt _ ?_) ?_ <;> omega)) (by decide) dX2_weighPair_276 (fun H locs hH hS => ?_)
                    have hM := hM.vS (k := 56) rfl (80 * ((8 * i) + a) + (8 * j) + b) (nI (hvR S q x y a b r))
                    refine lv_iinc (v := nI (r + 1)) (lv' := [(9, .int (nI (r + 1))), (10, .int (nI (wMany S q r x y a b))), (0, .ref o), (1, .int (nI q)), (2, .int (nI i)), (3, .int (nI j)), (4, .int (nI a)), (5, .int (nI b)), (6, .int (nI (80 * ((8 * i) + a) + (8 * j) + b))), (7, .int (nI x)), (8, .int (nI y))]) hx hb dX2_weighPair_277 hl (k := 10) rfl (nI_add r 1) (by decide) rfl (fun ls hl => ?_)
                    refine lv_goto (tgt := 68) hx hb dX2_weighPair_280 (by decide) ?_
                    exact ih68 (r + 1) _ (by omega) H locs ls ⟨by omega, by rw [vset_off _ _ (by decide), vset_self], by rw [vset_self, hvR, if_neg (by omega)], fun t ht => ⟨by rw [vset_off _ _ (by decide), vset_ne _ _ ht]; exact (hoth t ht).1, by rw [vset_ne _ _ ht, vset_off _ _ (by decide)]; exact (hoth t ht).2⟩, (hkp.vs (by decide) _ _).vs (by decide) _ _, hM, hH, hS, lv_sub hl [2, 3, 4, 5, 6, 7, 8, 9, 10, 0] rfl⟩
                  · refine lv_aload_n hx hb dX2_weighPair_247 rfl (lv_at hl 1 rfl) ?_
                    refine m_get hx hb hts hown hK hH 45 (by decide) q1497 rfl (v := .ref (o + 56)) rfl dX2_weighPair_248 ?_
                    refine lv_iload hx hb dX2_weighPair_251 (lv_at hl 7 rfl) ?_
                    refine m_iald (n := 6400) (j := 80 * ((8 * i) + a) + (8 * j) + b) (v := nI (hvR S q x y a b r)) hx hb hK hH (by decide) rfl (by first | omega | (refine Nat.lt_of_lt_of_le (Nat.mod_lt _ ?_) ?_ <;> omega)) (by decide) (hhv) dX2_weighPair_253 ?_
                    refine lv_aload_n hx hb dX2_weighPair_254 rfl (lv_at hl 1 rfl) ?_
                    refine m_get hx hb hts hown hK hH 12 (by decide) q1464 rfl (v := .ref (o + 20)) rfl dX2_weighPair_255 ?_
                    refine lv_iconst (v := nI 0) hx hb dX2_weighPair_258 (by decide) ?_
                    refine m_rowI (k' := 21) hx hb hK hH (by decide) rfl (by decide) (by decide) rfl dX2_weighPair_259 ?_
                    refine lv_iload hx hb dX2_weighPair_260 (lv_at hl 10 rfl) ?_
                    refine m_iald (n := 12) (j := r) (v := nI (aWt S r)) hx hb hK hH (by decide) rfl (by first | omega | (refine Nat.lt_of_lt_of_le (Nat.mod_lt _ ?_) ?_ <;> omega)) (by decide) (hM.wt (by first | omega | (refine Nat.lt_of_lt_of_le (Nat.mod_lt _ ?_) ?_ <;> omega))) dX2_weighPair_262 ?_
                    refine va_mmax hx hb (hml.trans hl.1.symm) hown (hts _ q1839) (hts _ q409) (hts _ q114) (hts _ q410) (Nat.le_of_ble_eq_true rfl) (Nat.le_of_ble_eq_true rfl) (Nat.le_of_ble_eq_true rfl) (Nat.le_of_ble_eq_true rfl) dX2_weighPair_263 ?_
                    refine lv_top (y := nI (max (hvR S q x y a b r) (aWt S r))) (i_maxN (by first | omega | (refine Nat.lt_of_lt_of_le (Nat.mod_lt _ ?_) ?_ <;> omega)) (by first | omega | (refine Nat.lt_of_lt_of_le (Nat.mod_lt _ ?_) ?_ <;> omega))) ?_
                    refine lv_goto (tgt := 276) hx hb dX2_weighPair_266 (by decide) ?_
                    refine m_iast (n := 6400) (j := 80 * ((8 * i) + a) + (8 * j) + b) hx hb hK hH hS (by decide) rfl (by first | omega | (refine Nat.lt_of_lt_of_le (Nat.mod_lt _ ?_) ?_ <;> omega)) (by decide) dX2_weighPair_276 (fun H locs hH hS => ?_)
                    have hM := hM.vS (k := 56) rfl (80 * ((8 * i) + a) + (8 * j) + b) (nI (max (hvR S q x y a b r) (aWt S r)))
                    refine lv_iinc (v := nI (r + 1)) (lv' := [(9, .int (nI (r + 1))), (10, .int (nI (wMany S q r x y a b))), (0, .ref o), (1, .int (nI q)), (2, .int (nI i)), (3, .int (nI j)), (4, .int (nI a)), (5, .int (nI b)), (6, .int (nI (80 * ((8 * i) + a) + (8 * j) + b))), (7, .int (nI x)), (8, .int (nI y))]) hx hb dX2_weighPair_277 hl (k := 10) rfl (nI_add r 1) (by decide) rfl (fun ls hl => ?_)
                    refine lv_goto (tgt := 68) hx hb dX2_weighPair_280 (by decide) ?_
                    exact ih68 (r + 1) _ (by omega) H locs ls ⟨by omega, by rw [vset_off _ _ (by decide), vset_self], by rw [vset_self, hvR, if_pos (by omega)], fun t ht => ⟨by rw [vset_off _ _ (by decide), vset_ne _ _ ht]; exact (hoth t ht).1, by rw [vset_ne _ _ ht, vset_off _ _ (by decide)]; exact (hoth t ht).2⟩, (hkp.vs (by decide) _ _).vs (by decide) _ _, hM, hH, hS, lv_sub hl [2, 3, 4, 5, 6, 7, 8, 9, 10, 0] rfl⟩
    · exact hp_vret hx hb hr hlocks hH hS (by decide) (by decide) dX2_weighPair_48 (⟨rfl, _, rfl, hM, (kp.rf.vs (by decide) _ _).vs (by decide) _ _, by rw [vset_off _ _ (by decide), vset_self, wgP, if_neg (by omega)], by rw [vset_self, hvP, if_neg (by omega)], fun t ht => ⟨by rw [vset_off _ _ (by decide), vset_ne _ _ ht], by rw [vset_ne _ _ ht, vset_off _ _ (by decide)]⟩⟩)
end MODEL
