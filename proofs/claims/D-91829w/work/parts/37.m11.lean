/-! by gen/mspec.py -/
set_option maxRecDepth 100000
section MODEL
variable {l : Launch} {s0 : State} {D : va_G} {K : Nat → ClassId} {wd : Nat → Nat} {o : Nat} {h : Hp} {I : Nat → Int32} {V : Nat → Nat → Int32} {J : Nat → Nat → Int64}
set_option maxHeartbeats 4000000 in
theorem mt_groups (hK0 : va_K D CL (TYS K) s0) {S : Ab} (hO : SOK S) (hM : MOK S I V) (E : Nat → Nat → Bool) (hev : ∀ x y, x < aN S → y < aN S → V 45 (10 * x + y) = zI (E x y)) (hsy : ∀ x y, E x y = true → E y x = true) : Met l yX2_groups (ws_ yX2_groups cX2_groups 4 ((Option.some Jvm.ClassFile.FieldType.int))) (rmk 1 0 0) (va_Pc [.ref o] (PB s0 D CL (mset h K wd o I V J))) (QR s0 D CL (fun v h1 => ∃ f U, v = some (.int (nI (rtP S f (aN S)).length)) ∧ h1 = mset h K wd o I U J ∧ MOK S I U ∧ tgF E (aN S) f ∧ (∀ i, i < (rtP S f (aN S)).length → U 49 i = nI (gpB S f ((rtP S f (aN S)).getD i 0) (aN S))) ∧ kp [48, 49] V U)) 0 0 (zA s0) := by
  refine hp_met (by decide) (Nat.le_of_ble_eq_true rfl) hK0 ?_
  intro p e s m below meth cd ls hx hb hr hlocks hml hown hnm hts hK hPB hl hS hH hA
  have hl : lv_has ls 4 [(0, .ref o)] := hl
  have hown : s.vm.findClass RX2 = some m.cls := hown
  have hn := hO.n
  have hmk := hO.mk
  have hrl := hO.rl
  have hrm := hO.rm
  have hsz := hO.sz
  refine lv_iconst (v := nI 0) hx hb dX2_groups_0 (by decide) ?_
  refine lv_istore_n (lv' := [(1, .int (nI 0)), (0, .ref o)]) hx hb dX2_groups_1 rfl hl (by decide) rfl (fun ls hl => ?_)
  refine w_loop2 (fun (x : Nat) (U : Nat → Nat → Int32) => 10 - x) (fun (x : Nat) (U : Nat → Nat → Int32) H locs ls => (x ≤ 10) ∧ (∀ u, u < x → U 48 u = nI u) ∧ (kp [48, 49] V U) ∧ (MOK S I U) ∧ HP D CL (zA s0) (mset h K wd o I U J) H ∧ va_S (zA s0) s.heap H locs ∧ lv_has ls 4 [(0, .ref o), (1, .int (nI x))]) ?_ 0 V ⟨Nat.zero_le _, fun u hu => absurd hu (Nat.not_lt_zero _), kp.rf, hM, hH, hS, lv_sub hl [1, 0] rfl⟩
  intro x U ih2 H locs ls hP
  obtain ⟨hxx, h48, hkp, hM, hH, hS, hl⟩ := hP
  refine lv_iload_n hx hb dX2_groups_2 rfl (lv_at hl 1 rfl) ?_
  refine lv_bipush (v := nI 10) hx hb dX2_groups_3 (by decide) ?_
  refine lvN_ge (tgt := 21) hx hb (by first | omega | (refine Nat.lt_of_lt_of_le (Nat.mod_lt _ ?_) ?_ <;> omega)) (by first | omega | (refine Nat.lt_of_lt_of_le (Nat.mod_lt _ ?_) ?_ <;> omega)) dX2_groups_5 (by decide) (fun c1 => ?_) (fun c1 => ?_)
  · have exn : x = 10 := by omega
    rw [exn] at h48
    refine lv_iconst (v := nI 0) hx hb dX2_groups_21 (by decide) ?_
    refine lv_istore_n (lv' := [(1, .int (nI 0)), (0, .ref o)]) hx hb dX2_groups_22 rfl hl (by decide) rfl (fun ls hl => ?_)
    refine w_loop3 (fun (k : Nat) (f : Nat → Nat) (U : Nat → Nat → Int32) => 10 - k) (fun (k : Nat) (f : Nat → Nat) (U : Nat → Nat → Int32) H locs ls => (k ≤ 10) ∧ (relI E (aN S) k 0 0 f) ∧ (∀ u, u < 10 → U 48 u = nI (f u)) ∧ (kp [48, 49] V U) ∧ (MOK S I U) ∧ HP D CL (zA s0) (mset h K wd o I U J) H ∧ va_S (zA s0) s.heap H locs ∧ lv_has ls 4 [(0, .ref o), (1, .int (nI k))]) ?_ 0 (fun u => u) U ⟨Nat.zero_le _, rel_0, h48, hkp, hM, hH, hS, lv_sub hl [1, 0] rfl⟩
    intro k f U ih23 H locs ls hP
    obtain ⟨hkk, hrel, h48, hkp, hM, hH, hS, hl⟩ := hP
    refine lv_iload_n hx hb dX2_groups_23 rfl (lv_at hl 1 rfl) ?_
    refine lv_bipush (v := nI 10) hx hb dX2_groups_24 (by decide) ?_
    refine lvN_ge (tgt := 106) hx hb (by first | omega | (refine Nat.lt_of_lt_of_le (Nat.mod_lt _ ?_) ?_ <;> omega)) (by first | omega | (refine Nat.lt_of_lt_of_le (Nat.mod_lt _ ?_) ?_ <;> omega)) dX2_groups_26 (by decide) (fun c2 => ?_) (fun c2 => ?_)
    · have ekn : k = 10 := by omega
      rw [ekn] at hrel
      have htg := rel_end hn hsy hrel
      refine lv_iconst (v := nI 0) hx hb dX2_groups_106 (by decide) ?_
      refine lv_istore_n (lv' := [(1, .int (nI 0)), (0, .ref o)]) hx hb dX2_groups_107 rfl hl (by decide) rfl (fun ls hl => ?_)
      refine lv_iconst (v := nI 0) hx hb dX2_groups_108 (by decide) ?_
      refine lv_istore_n (lv' := [(2, .int (nI 0)), (1, .int (nI 0)), (0, .ref o)]) hx hb dX2_groups_109 rfl hl (by decide) rfl (fun ls hl => ?_)
      refine w_loop2 (fun (g : Nat) (U : Nat → Nat → Int32) => aN S - g) (fun (g : Nat) (U : Nat → Nat → Int32) H locs ls => (g ≤ aN S) ∧ (∀ i, i < (rtP S f g).length → U 49 i = nI (gpB S f ((rtP S f g).getD i 0) (aN S))) ∧ (∀ u, u < 10 → U 48 u = nI (f u)) ∧ (kp [48, 49] V U) ∧ (MOK S I U) ∧ HP D CL (zA s0) (mset h K wd o I U J) H ∧ va_S (zA s0) s.heap H locs ∧ lv_has ls 4 [(0, .ref o), (1, .int (nI ((rtP S f g).length))), (2, .int (nI g))]) ?_ 0 U ⟨Nat.zero_le _, fun i hi => absurd hi (Nat.not_lt_zero _), h48, hkp, hM, hH, hS, lv_sub hl [2, 1, 0] rfl⟩
      intro g U ih110 H locs ls hP
      obtain ⟨hgg, hgb, h48, hkp, hM, hH, hS, hl⟩ := hP
      have hfg := htg.le g
      refine lv_iload_n hx hb dX2_groups_110 rfl (lv_at hl 2 rfl) ?_
      refine lv_aload_n hx hb dX2_groups_111 rfl (lv_at hl 0 rfl) ?_
      refine m_get hx hb hts hown hK hH 15 (by decide) q1467 rfl (v := .ref (o + 29)) rfl dX2_groups_112 ?_
      refine lv_iconst (v := nI 0) hx hb dX2_groups_115 (by decide) ?_
      refine m_iald (n := 2) (j := 0) (v := nI (aN S)) hx hb hK hH (by decide) rfl (by first | omega | (refine Nat.lt_of_lt_of_le (Nat.mod_lt _ ?_) ?_ <;> omega)) (by decide) (hM.n) dX2_groups_116 ?_
      refine lvN_ge (tgt := 211) hx hb (by first | omega | (refine Nat.lt_of_lt_of_le (Nat.mod_lt _ ?_) ?_ <;> omega)) (by first | omega | (refine Nat.lt_of_lt_of_le (Nat.mod_lt _ ?_) ?_ <;> omega)) dX2_groups_117 (by decide) (fun c3 => ?_) (fun c3 => ?_)
      · have egn : g = aN S := by omega
        rw [egn] at hl hgb
        refine lv_iload_n hx hb dX2_groups_211 rfl (lv_at hl 1 rfl) ?_
        exact hp_iret hx hb hr hlocks hH hS (by decide) (by decide) dX2_groups_212 (⟨f, _, rfl, rfl, hM, htg, hgb, hkp⟩)
      · refine lv_aload_n hx hb dX2_groups_120 rfl (lv_at hl 0 rfl) ?_
        refine m_get hx hb hts hown hK hH 20 (by decide) q1472 rfl (v := .ref (o + 34)) rfl dX2_groups_121 ?_
        refine lv_iload_n hx hb dX2_groups_124 rfl (lv_at hl 2 rfl) ?_
        refine m_zald (n := 10) (j := g) (v := zI (aCm S g)) hx hb hK hH (by decide) rfl (by first | omega | (refine Nat.lt_of_lt_of_le (Nat.mod_lt _ ?_) ?_ <;> omega)) (by decide) (hM.cm (by first | omega | (refine Nat.lt_of_lt_of_le (Nat.mod_lt _ ?_) ?_ <;> omega))) dX2_groups_125 ?_
        refine lvB_eq (tgt := 205) hx hb dX2_groups_126 (by decide) (fun cc => ?_) (fun cc => ?_)
        · rw [show (rtP S f g).length = (rtP S f (g + 1)).length by rw [rtP_f (by simp [cc])]] at hl
          refine lv_iinc (v := nI (g + 1)) (lv' := [(2, .int (nI (g + 1))), (0, .ref o), (1, .int (nI ((rtP S f (g + 1)).length)))]) hx hb dX2_groups_205 hl (k := 2) rfl (nI_add g 1) (by decide) rfl (fun ls hl => ?_)
          refine lv_goto (tgt := 110) hx hb dX2_groups_208 (by decide) ?_
          exact ih110 (g + 1) U (by omega) H locs ls ⟨by omega, by rw [rtP_f (by simp [cc])]; exact hgb, h48, hkp, hM, hH, hS, lv_sub hl [1, 2, 0] rfl⟩
        · refine lv_aload_n hx hb dX2_groups_129 rfl (lv_at hl 0 rfl) ?_
          refine m_get hx hb hts hown hK hH 36 (by decide) q1488 rfl (v := .ref (o + 48)) rfl dX2_groups_130 ?_
          refine lv_iload_n hx hb dX2_groups_133 rfl (lv_at hl 2 rfl) ?_
          refine m_iald (n := 10) (j := g) (v := nI (f g)) hx hb hK hH (by decide) rfl (by first | omega | (refine Nat.lt_of_lt_of_le (Nat.mod_lt _ ?_) ?_ <;> omega)) (by decide) (h48 g (by omega)) dX2_groups_134 ?_
          refine lv_iload_n hx hb dX2_groups_135 rfl (lv_at hl 2 rfl) ?_
          refine lvN_eq (tgt := 142) hx hb (by first | omega | (refine Nat.lt_of_lt_of_le (Nat.mod_lt _ ?_) ?_ <;> omega)) (by first | omega | (refine Nat.lt_of_lt_of_le (Nat.mod_lt _ ?_) ?_ <;> omega)) dX2_groups_136 (by decide) (fun cfg => ?_) (fun cfg => ?_)
          · have hrl9 := rtP_len S f g
            refine lv_aload_n hx hb dX2_groups_142 rfl (lv_at hl 0 rfl) ?_
            refine m_get hx hb hts hown hK hH 37 (by decide) q1489 rfl (v := .ref (o + 49)) rfl dX2_groups_143 ?_
            refine lv_iload_n hx hb dX2_groups_146 rfl (lv_at hl 1 rfl) ?_
            refine lv_iconst (v := nI 0) hx hb dX2_groups_147 (by decide) ?_
            refine m_iast (n := 10) (j := (rtP S f g).length) hx hb hK hH hS (by decide) rfl (by first | omega | (refine Nat.lt_of_lt_of_le (Nat.mod_lt _ ?_) ?_ <;> omega)) (by decide) dX2_groups_148 (fun H locs hH hS => ?_)
            have hM := hM.vS (k := 49) rfl ((rtP S f g).length) (nI 0)
            refine lv_iconst (v := nI 0) hx hb dX2_groups_149 (by decide) ?_
            refine lv_istore_n (lv' := [(3, .int (nI 0)), (0, .ref o), (1, .int (nI ((rtP S f g).length))), (2, .int (nI g))]) hx hb dX2_groups_150 rfl hl (by decide) rfl (fun ls hl => ?_)
            refine w_loop2 (fun (x : Nat) (U : Nat → Nat → Int32) => aN S - x) (fun (x : Nat) (U : Nat → Nat → Int32) H locs ls => (x ≤ aN S) ∧ (U 49 (rtP S f g).length = nI (gpB S f g x)) ∧ (∀ i, i < (rtP S f g).length → U 49 i = nI (gpB S f ((rtP S f g).getD i 0) (aN S))) ∧ (∀ u, u < 10 → U 48 u = nI (f u)) ∧ (kp [48, 49] V U) ∧ (MOK S I U) ∧ HP D CL (zA s0) (mset h K wd o I U J) H ∧ va_S (zA s0) s.heap H locs ∧ lv_has ls 4 [(0, .ref o), (1, .int (nI ((rtP S f g).length))), (2, .int (nI g)), (3, .int (nI x))]) ?_ 0 (vset U 49 (rtP S f g).length (nI 0)) ⟨Nat.zero_le _, vset_self _ _ _ _, fun i hi => by rw [vset_ne _ _ (by omega)]; exact hgb i hi, fun u hu => by rw [vset_off _ _ (by decide)]; exact h48 u hu, hkp.vs (by decide) _ _, hM, hH, hS, lv_sub hl [1, 2, 3, 0] rfl⟩
            intro x U ih151 H locs ls hP
            obtain ⟨hxx, hcur, hgb, h48, hkp, hM, hH, hS, hl⟩ := hP
            have hfx := htg.le x
            refine lv_iload_n hx hb dX2_groups_151 rfl (lv_at hl 3 rfl) ?_
            refine lv_aload_n hx hb dX2_groups_152 rfl (lv_at hl 0 rfl) ?_
            refine m_get hx hb hts hown hK hH 15 (by decide) q1467 rfl (v := .ref (o + 29)) rfl dX2_groups_153 ?_
            refine lv_iconst (v := nI 0) hx hb dX2_groups_156 (by decide) ?_
            refine m_iald (n := 2) (j := 0) (v := nI (aN S)) hx hb hK hH (by decide) rfl (by first | omega | (refine Nat.lt_of_lt_of_le (Nat.mod_lt _ ?_) ?_ <;> omega)) (by decide) (hM.n) dX2_groups_157 ?_
            refine lvN_ge (tgt := 202) hx hb (by first | omega | (refine Nat.lt_of_lt_of_le (Nat.mod_lt _ ?_) ?_ <;> omega)) (by first | omega | (refine Nat.lt_of_lt_of_le (Nat.mod_lt _ ?_) ?_ <;> omega)) dX2_groups_158 (by decide) (fun c4 => ?_) (fun c4 => ?_)
            · have exn : x = aN S := by omega
              rw [exn] at hcur
              refine lv_iinc (v := nI ((rtP S f g).length + 1)) (lv' := [(1, .int (nI ((rtP S f g).length + 1))), (0, .ref o), (2, .int (nI g)), (3, .int (nI x))]) hx hb dX2_groups_202 hl (k := 1) rfl (nI_add ((rtP S f g).length) 1) (by decide) rfl (fun ls hl => ?_)
              rw [show (rtP S f g).length + 1 = (rtP S f (g + 1)).length by rw [rtP_t cc cfg, List.length_append]; rfl] at hl
              refine lv_iinc (v := nI (g + 1)) (lv' := [(2, .int (nI (g + 1))), (1, .int (nI ((rtP S f (g + 1)).length))), (0, .ref o), (3, .int (nI x))]) hx hb dX2_groups_205 hl (k := 2) rfl (nI_add g 1) (by decide) rfl (fun ls hl => ?_)
              refine lv_goto (tgt := 110) hx hb dX2_groups_208 (by decide) ?_
              exact ih110 (g + 1) U (by omega) H locs ls ⟨by omega, by rw [rtP_t cc cfg]; exact gp_push hgb hcur, h48, hkp, hM, hH, hS, lv_sub hl [2, 1, 0] rfl⟩
            · refine lv_aload_n hx hb dX2_groups_161 rfl (lv_at hl 0 rfl) ?_
              refine m_get hx hb hts hown hK hH 37 (by decide) q1489 rfl (v := .ref (o + 49)) rfl dX2_groups_162 ?_
              refine lv_iload_n hx hb dX2_groups_165 rfl (lv_at hl 1 rfl) ?_
              refine lv_dup2_11 hx hb dX2_groups_166 rfl rfl ?_
              refine m_iald (n := 10) (j := (rtP S f g).length) (v := nI (gpB S f g x)) hx hb hK hH (by decide) rfl (by first | omega | (refine Nat.lt_of_lt_of_le (Nat.mod_lt _ ?_) ?_ <;> omega)) (by decide) (hcur) dX2_groups_167 ?_
              refine lv_aload_n hx hb dX2_groups_168 rfl (lv_at hl 0 rfl) ?_
              refine m_get hx hb hts hown hK hH 20 (by decide) q1472 rfl (v := .ref (o + 34)) rfl dX2_groups_169 ?_
              refine lv_iload_n hx hb dX2_groups_172 rfl (lv_at hl 3 rfl) ?_
              refine m_zald (n := 10) (j := x) (v := zI (aCm S x)) hx hb hK hH (by decide) rfl (by first | omega | (refine Nat.lt_of_lt_of_le (Nat.mod_lt _ ?_) ?_ <;> omega)) (by decide) (hM.cm (by first | omega | (refine Nat.lt_of_lt_of_le (Nat.mod_lt _ ?_) ?_ <;> omega))) dX2_groups_173 ?_
              refine lvB_eq (tgt := 193) hx hb dX2_groups_174 (by decide) (fun cx => ?_) (fun cx => ?_)
              · refine lv_iconst (v := nI 0) hx hb dX2_groups_193 (by decide) ?_
                refine lv_ior hx hb dX2_groups_194 ?_
                refine lv_top (y := nI (gpB S f g (x + 1))) (by rw [bi_or]; exact congrArg nI (by simp [gpB, cx])) ?_
                refine m_iast (n := 10) (j := (rtP S f g).length) hx hb hK hH hS (by decide) rfl (by first | omega | (refine Nat.lt_of_lt_of_le (Nat.mod_lt _ ?_) ?_ <;> omega)) (by decide) dX2_groups_195 (fun H locs hH hS => ?_)
                have hM := hM.vS (k := 49) rfl ((rtP S f g).length) (nI (gpB S f g (x + 1)))
                refine lv_iinc (v := nI (x + 1)) (lv' := [(3, .int (nI (x + 1))), (0, .ref o), (1, .int (nI ((rtP S f g).length))), (2, .int (nI g))]) hx hb dX2_groups_196 hl (k := 3) rfl (nI_add x 1) (by decide) rfl (fun ls hl => ?_)
                refine lv_goto (tgt := 151) hx hb dX2_groups_199 (by decide) ?_
                exact ih151 (x + 1) _ (by omega) H locs ls ⟨by omega, vset_self _ _ _ _, fun i hi => by rw [vset_ne _ _ (by omega)]; exact hgb i hi, fun u hu => by rw [vset_off _ _ (by decide)]; exact h48 u hu, hkp.vs (by decide) _ _, hM, hH, hS, lv_sub hl [1, 2, 3, 0] rfl⟩
              · refine lv_aload_n hx hb dX2_groups_177 rfl (lv_at hl 0 rfl) ?_
                refine m_get hx hb hts hown hK hH 36 (by decide) q1488 rfl (v := .ref (o + 48)) rfl dX2_groups_178 ?_
                refine lv_iload_n hx hb dX2_groups_181 rfl (lv_at hl 3 rfl) ?_
                refine m_iald (n := 10) (j := x) (v := nI (f x)) hx hb hK hH (by decide) rfl (by first | omega | (refine Nat.lt_of_lt_of_le (Nat.mod_lt _ ?_) ?_ <;> omega)) (by decide) (h48 x (by omega)) dX2_groups_182 ?_
                refine lv_iload_n hx hb dX2_groups_183 rfl (lv_at hl 2 rfl) ?_
                refine lvN_ne (tgt := 193) hx hb (by first | omega | (refine Nat.lt_of_lt_of_le (Nat.mod_lt _ ?_) ?_ <;> omega)) (by first | omega | (refine Nat.lt_of_lt_of_le (Nat.mod_lt _ ?_) ?_ <;> omega)) dX2_groups_184 (by decide) (fun cfx => ?_) (fun cfx => ?_)
                · refine lv_iconst (v := nI 0) hx hb dX2_groups_193 (by decide) ?_
                  refine lv_ior hx hb dX2_groups_194 ?_
                  refine lv_top (y := nI (gpB S f g (x + 1))) (by rw [bi_or]; exact congrArg nI (by simp [gpB, cx, cfx])) ?_
                  refine m_iast (n := 10) (j := (rtP S f g).length) hx hb hK hH hS (by decide) rfl (by first | omega | (refine Nat.lt_of_lt_of_le (Nat.mod_lt _ ?_) ?_ <;> omega)) (by decide) dX2_groups_195 (fun H locs hH hS => ?_)
                  have hM := hM.vS (k := 49) rfl ((rtP S f g).length) (nI (gpB S f g (x + 1)))
                  refine lv_iinc (v := nI (x + 1)) (lv' := [(3, .int (nI (x + 1))), (0, .ref o), (1, .int (nI ((rtP S f g).length))), (2, .int (nI g))]) hx hb dX2_groups_196 hl (k := 3) rfl (nI_add x 1) (by decide) rfl (fun ls hl => ?_)
                  refine lv_goto (tgt := 151) hx hb dX2_groups_199 (by decide) ?_
                  exact ih151 (x + 1) _ (by omega) H locs ls ⟨by omega, vset_self _ _ _ _, fun i hi => by rw [vset_ne _ _ (by omega)]; exact hgb i hi, fun u hu => by rw [vset_off _ _ (by decide)]; exact h48 u hu, hkp.vs (by decide) _ _, hM, hH, hS, lv_sub hl [1, 2, 3, 0] rfl⟩
                · refine lv_iconst (v := nI 1) hx hb dX2_groups_187 (by decide) ?_
                  refine lv_iload_n hx hb dX2_groups_188 rfl (lv_at hl 3 rfl) ?_
                  refine lv_ishl hx hb dX2_groups_189 ?_
                  refine lv_top (y := nI (2 ^ x)) (bi_shl1 (by first | omega | (refine Nat.lt_of_lt_of_le (Nat.mod_lt _ ?_) ?_ <;> omega))) ?_
                  refine lv_goto (tgt := 194) hx hb dX2_groups_190 (by decide) ?_
                  refine lv_ior hx hb dX2_groups_194 ?_
                  refine lv_top (y := nI (gpB S f g (x + 1))) (by rw [bi_or]; exact congrArg nI (by simp [gpB, cx, cfx])) ?_
                  refine m_iast (n := 10) (j := (rtP S f g).length) hx hb hK hH hS (by decide) rfl (by first | omega | (refine Nat.lt_of_lt_of_le (Nat.mod_lt _ ?_) ?_ <;> omega)) (by decide) dX2_groups_195 (fun H locs hH hS => ?_)
                  have hM := hM.vS (k := 49) rfl ((rtP S f g).length) (nI (gpB S f g (x + 1)))
                  refine lv_iinc (v := nI (x + 1)) (lv' := [(3, .int (nI (x + 1))), (0, .ref o), (1, .int (nI ((rtP S f g).length))), (2, .int (nI g))]) hx hb dX2_groups_196 hl (k := 3) rfl (nI_add x 1) (by decide) rfl (fun ls hl => ?_)
                  refine lv_goto (tgt := 151) hx hb dX2_groups_199 (by decide) ?_
                  exact ih151 (x + 1) _ (by omega) H locs ls ⟨by omega, vset_self _ _ _ _, fun i hi => by rw [vset_ne _ _ (by omega)]; exact hgb i hi, fun u hu => by rw [vset_off _ _ (by decide)]; exact h48 u hu, hkp.vs (by decide) _ _, hM, hH, hS, lv_sub hl [1, 2, 3, 0] rfl⟩
          · refine lv_goto (tgt := 205) hx hb dX2_groups_139 (by decide) ?_
            rw [show (rtP S f g).length = (rtP S f (g + 1)).length by rw [rtP_f (by simp [cfg])]] at hl
            refine lv_iinc (v := nI (g + 1)) (lv' := [(2, .int (nI (g + 1))), (0, .ref o), (1, .int (nI ((rtP S f (g + 1)).length)))]) hx hb dX2_groups_205 hl (k := 2) rfl (nI_add g 1) (by decide) rfl (fun ls hl => ?_)
            refine lv_goto (tgt := 110) hx hb dX2_groups_208 (by decide) ?_
            exact ih110 (g + 1) U (by omega) H locs ls ⟨by omega, by rw [rtP_f (by simp [cfg])]; exact hgb, h48, hkp, hM, hH, hS, lv_sub hl [1, 2, 0] rfl⟩
    · refine lv_iconst (v := nI 0) hx hb dX2_groups_29 (by decide) ?_
      refine lv_istore_n (lv' := [(2, .int (nI 0)), (0, .ref o), (1, .int (nI k))]) hx hb dX2_groups_30 rfl hl (by decide) rfl (fun ls hl => ?_)
      refine w_loop3 (fun (x : Nat) (f : Nat → Nat) (U : Nat → Nat → Int32) => aN S - x) (fun (x : Nat) (f : Nat → Nat) (U : Nat → Nat → Int32) H locs ls => (x ≤ aN S) ∧ (relI E (aN S) k x 0 f) ∧ (∀ u, u < 10 → U 48 u = nI (f u)) ∧ (kp [48, 49] V U) ∧ (MOK S I U) ∧ HP D CL (zA s0) (mset h K wd o I U J) H ∧ va_S (zA s0) s.heap H locs ∧ lv_has ls 4 [(0, .ref o), (1, .int (nI k)), (2, .int (nI x))]) ?_ 0 f U ⟨Nat.zero_le _, hrel, h48, hkp, hM, hH, hS, lv_sub hl [1, 2, 0] rfl⟩
      intro x f U ih31 H locs ls hP
      obtain ⟨hxx, hrel, h48, hkp, hM, hH, hS, hl⟩ := hP
      refine lv_iload_n hx hb dX2_groups_31 rfl (lv_at hl 2 rfl) ?_
      refine lv_aload_n hx hb dX2_groups_32 rfl (lv_at hl 0 rfl) ?_
      refine m_get hx hb hts hown hK hH 15 (by decide) q1467 rfl (v := .ref (o + 29)) rfl dX2_groups_33 ?_
      refine lv_iconst (v := nI 0) hx hb dX2_groups_36 (by decide) ?_
      refine m_iald (n := 2) (j := 0) (v := nI (aN S)) hx hb hK hH (by decide) rfl (by first | omega | (refine Nat.lt_of_lt_of_le (Nat.mod_lt _ ?_) ?_ <;> omega)) (by decide) (hM.n) dX2_groups_37 ?_
      refine lvN_ge (tgt := 100) hx hb (by first | omega | (refine Nat.lt_of_lt_of_le (Nat.mod_lt _ ?_) ?_ <;> omega)) (by first | omega | (refine Nat.lt_of_lt_of_le (Nat.mod_lt _ ?_) ?_ <;> omega)) dX2_groups_38 (by decide) (fun c5 => ?_) (fun c5 => ?_)
      · have exn : x = aN S := by omega
        rw [exn] at hrel
        have hrel := rel_next hrel
        refine lv_iinc (v := nI (k + 1)) (lv' := [(1, .int (nI (k + 1))), (0, .ref o), (2, .int (nI x))]) hx hb dX2_groups_100 hl (k := 1) rfl (nI_add k 1) (by decide) rfl (fun ls hl => ?_)
        refine lv_goto (tgt := 23) hx hb dX2_groups_103 (by decide) ?_
        exact ih23 (k + 1) f U (by omega) H locs ls ⟨by omega, hrel, h48, hkp, hM, hH, hS, lv_sub hl [1, 0] rfl⟩
      · refine lv_iconst (v := nI 0) hx hb dX2_groups_41 (by decide) ?_
        refine lv_istore_n (lv' := [(3, .int (nI 0)), (0, .ref o), (1, .int (nI k)), (2, .int (nI x))]) hx hb dX2_groups_42 rfl hl (by decide) rfl (fun ls hl => ?_)
        refine w_loop3 (fun (y : Nat) (f : Nat → Nat) (U : Nat → Nat → Int32) => aN S - y) (fun (y : Nat) (f : Nat → Nat) (U : Nat → Nat → Int32) H locs ls => (y ≤ aN S) ∧ (relI E (aN S) k x y f) ∧ (∀ u, u < 10 → U 48 u = nI (f u)) ∧ (kp [48, 49] V U) ∧ (MOK S I U) ∧ HP D CL (zA s0) (mset h K wd o I U J) H ∧ va_S (zA s0) s.heap H locs ∧ lv_has ls 4 [(0, .ref o), (1, .int (nI k)), (2, .int (nI x)), (3, .int (nI y))]) ?_ 0 f U ⟨Nat.zero_le _, hrel, h48, hkp, hM, hH, hS, lv_sub hl [1, 2, 3, 0] rfl⟩
        intro y f U ih43 H locs ls hP
        obtain ⟨hyy, hrel, h48, hkp, hM, hH, hS, hl⟩ := hP
        have hfx := (hrel.a x).1
        have hfy := (hrel.a y).1
        refine lv_iload_n hx hb dX2_groups_43 rfl (lv_at hl 3 rfl) ?_
        refine lv_aload_n hx hb dX2_groups_44 rfl (lv_at hl 0 rfl) ?_
        refine m_get hx hb hts hown hK hH 15 (by decide) q1467 rfl (v := .ref (o + 29)) rfl dX2_groups_45 ?_
        refine lv_iconst (v := nI 0) hx hb dX2_groups_48 (by decide) ?_
        refine m_iald (n := 2) (j := 0) (v := nI (aN S)) hx hb hK hH (by decide) rfl (by first | omega | (refine Nat.lt_of_lt_of_le (Nat.mod_lt _ ?_) ?_ <;> omega)) (by decide) (hM.n) dX2_groups_49 ?_
        refine lvN_ge (tgt := 94) hx hb (by first | omega | (refine Nat.lt_of_lt_of_le (Nat.mod_lt _ ?_) ?_ <;> omega)) (by first | omega | (refine Nat.lt_of_lt_of_le (Nat.mod_lt _ ?_) ?_ <;> omega)) dX2_groups_50 (by decide) (fun c6 => ?_) (fun c6 => ?_)
        · have eyn : y = aN S := by omega
          rw [eyn] at hrel
          have hrel := rel_row hrel
          refine lv_iinc (v := nI (x + 1)) (lv' := [(2, .int (nI (x + 1))), (0, .ref o), (1, .int (nI k)), (3, .int (nI y))]) hx hb dX2_groups_94 hl (k := 2) rfl (nI_add x 1) (by decide) rfl (fun ls hl => ?_)
          refine lv_goto (tgt := 31) hx hb dX2_groups_97 (by decide) ?_
          exact ih31 (x + 1) f U (by omega) H locs ls ⟨by omega, hrel, h48, hkp, hM, hH, hS, lv_sub hl [1, 2, 0] rfl⟩
        · refine lv_aload_n hx hb dX2_groups_53 rfl (lv_at hl 0 rfl) ?_
          refine m_get hx hb hts hown hK hH 33 (by decide) q1485 rfl (v := .ref (o + 45)) rfl dX2_groups_54 ?_
          refine lv_bipush (v := nI 10) hx hb dX2_groups_57 (by decide) ?_
          refine lv_iload_n hx hb dX2_groups_59 rfl (lv_at hl 2 rfl) ?_
          refine lv_imul hx hb dX2_groups_60 ?_
          refine lv_top (y := nI (10 * x)) (pk_mul _ _) ?_
          refine lv_iload_n hx hb dX2_groups_61 rfl (lv_at hl 3 rfl) ?_
          refine lv_iadd hx hb dX2_groups_62 ?_
          refine lv_top (y := nI ((10 * x) + y)) (nI_add _ _) ?_
          refine m_zald (n := 100) (j := (10 * x) + y) (v := zI (E x y)) hx hb hK hH (by decide) rfl (by first | omega | (refine Nat.lt_of_lt_of_le (Nat.mod_lt _ ?_) ?_ <;> omega)) (by decide) ((congrFun (hkp 45 (by decide)) _).trans (hev x y (by omega) (by omega))) dX2_groups_63 ?_
          refine lvB_eq (tgt := 88) hx hb dX2_groups_64 (by decide) (fun ce => ?_) (fun ce => ?_)
          · refine lv_iinc (v := nI (y + 1)) (lv' := [(3, .int (nI (y + 1))), (0, .ref o), (1, .int (nI k)), (2, .int (nI x))]) hx hb dX2_groups_88 hl (k := 3) rfl (nI_add y 1) (by decide) rfl (fun ls hl => ?_)
            refine lv_goto (tgt := 43) hx hb dX2_groups_91 (by decide) ?_
            exact ih43 (y + 1) f U (by omega) H locs ls ⟨by omega, rel_skip hrel ce, h48, hkp, hM, hH, hS, lv_sub hl [1, 2, 3, 0] rfl⟩
          · refine lv_aload_n hx hb dX2_groups_67 rfl (lv_at hl 0 rfl) ?_
            refine m_get hx hb hts hown hK hH 36 (by decide) q1488 rfl (v := .ref (o + 48)) rfl dX2_groups_68 ?_
            refine lv_iload_n hx hb dX2_groups_71 rfl (lv_at hl 2 rfl) ?_
            refine lv_aload_n hx hb dX2_groups_72 rfl (lv_at hl 0 rfl) ?_
            refine m_get hx hb hts hown hK hH 36 (by decide) q1488 rfl (v := .ref (o + 48)) rfl dX2_groups_73 ?_
            refine lv_iload_n hx hb dX2_groups_76 rfl (lv_at hl 2 rfl) ?_
            refine m_iald (n := 10) (j := x) (v := nI (f x)) hx hb hK hH (by decide) rfl (by first | omega | (refine Nat.lt_of_lt_of_le (Nat.mod_lt _ ?_) ?_ <;> omega)) (by decide) (h48 x (by omega)) dX2_groups_77 ?_
            refine lv_aload_n hx hb dX2_groups_78 rfl (lv_at hl 0 rfl) ?_
            refine m_get hx hb hts hown hK hH 36 (by decide) q1488 rfl (v := .ref (o + 48)) rfl dX2_groups_79 ?_
            refine lv_iload_n hx hb dX2_groups_82 rfl (lv_at hl 3 rfl) ?_
            refine m_iald (n := 10) (j := y) (v := nI (f y)) hx hb hK hH (by decide) rfl (by first | omega | (refine Nat.lt_of_lt_of_le (Nat.mod_lt _ ?_) ?_ <;> omega)) (by decide) (h48 y (by omega)) dX2_groups_83 ?_
            refine va_mmin hx hb (hml.trans hl.1.symm) hown (hts _ q1910) (hts _ q412) (hts _ q114) (hts _ q413) (Nat.le_of_ble_eq_true rfl) (Nat.le_of_ble_eq_true rfl) (Nat.le_of_ble_eq_true rfl) (Nat.le_of_ble_eq_true rfl) dX2_groups_84 ?_
            refine lv_top (y := nI (min (f x) (f y))) (i_minN (by first | omega | (refine Nat.lt_of_lt_of_le (Nat.mod_lt _ ?_) ?_ <;> omega)) (by first | omega | (refine Nat.lt_of_lt_of_le (Nat.mod_lt _ ?_) ?_ <;> omega))) ?_
            refine m_iast (n := 10) (j := x) hx hb hK hH hS (by decide) rfl (by first | omega | (refine Nat.lt_of_lt_of_le (Nat.mod_lt _ ?_) ?_ <;> omega)) (by decide) dX2_groups_87 (fun H locs hH hS => ?_)
            have hM := hM.vS (k := 48) rfl x (nI (min (f x) (f y)))
            refine lv_iinc (v := nI (y + 1)) (lv' := [(3, .int (nI (y + 1))), (0, .ref o), (1, .int (nI k)), (2, .int (nI x))]) hx hb dX2_groups_88 hl (k := 3) rfl (nI_add y 1) (by decide) rfl (fun ls hl => ?_)
            refine lv_goto (tgt := 43) hx hb dX2_groups_91 (by decide) ?_
            exact ih43 (y + 1) (va_up f x (min (f x) (f y))) _ (by omega) H locs ls ⟨by omega, rel_step hrel ce (by omega), fun u hu => by rw [vset_in]; by_cases e : u = x; (subst e; rw [if_pos rfl, va_up_self]); (rw [if_neg e, va_up_ne _ _ e]; exact h48 u hu), hkp.vs (by decide) _ _, hM, hH, hS, lv_sub hl [1, 2, 3, 0] rfl⟩
  · refine lv_aload_n hx hb dX2_groups_8 rfl (lv_at hl 0 rfl) ?_
    refine m_get hx hb hts hown hK hH 36 (by decide) q1488 rfl (v := .ref (o + 48)) rfl dX2_groups_9 ?_
    refine lv_iload_n hx hb dX2_groups_12 rfl (lv_at hl 1 rfl) ?_
    refine lv_iload_n hx hb dX2_groups_13 rfl (lv_at hl 1 rfl) ?_
    refine m_iast (n := 10) (j := x) hx hb hK hH hS (by decide) rfl (by first | omega | (refine Nat.lt_of_lt_of_le (Nat.mod_lt _ ?_) ?_ <;> omega)) (by decide) dX2_groups_14 (fun H locs hH hS => ?_)
    have hM := hM.vS (k := 48) rfl x (nI x)
    refine lv_iinc (v := nI (x + 1)) (lv' := [(1, .int (nI (x + 1))), (0, .ref o)]) hx hb dX2_groups_15 hl (k := 1) rfl (nI_add x 1) (by decide) rfl (fun ls hl => ?_)
    refine lv_goto (tgt := 2) hx hb dX2_groups_18 (by decide) ?_
    exact ih2 (x + 1) _ (by omega) H locs ls ⟨by omega, fun u hu => by rw [vset_in]; split; (rename_i e; rw [e]); exact h48 u (by omega), hkp.vs (by decide) _ _, hM, hH, hS, lv_sub hl [1, 0] rfl⟩
end MODEL
