/-! by gen/mspec.py -/
set_option maxRecDepth 100000
section MODEL
variable {l : Launch} {s0 : State} {D : va_G} {K : Nat → ClassId} {wd : Nat → Nat} {o : Nat} {h : Hp} {I : Nat → Int32} {V : Nat → Nat → Int32} {J : Nat → Nat → Int64}
theorem z_cpy {p : Program} {e : Env} {R : Room} {s : State} {m : MethodId} {args : Array Value} {below : List Frame} {meth : Method} {c : Code} {H : Heap} {locs : List Loc} {cells slots : Nat} {Q : State → Prop} {cc : ByteArray} {pc : Nat} {ls : Array Slot} {rest : List Value} {A : Nat → Prop} {own : String} {H0 : Heap} {index : Nat} {ed : Nat} {S : Ab} {w : Nat → Nat} {Ls : Nat → List Nat} {Jn : Nat → Nat} {Z Z9 : Nat → Nat → Int32}  (hx : p.tables.exec = Jvm.exec) (hb : c.code = cc) (hml : c.maxLocals = ls.size) (hown : s.vm.findClass own = some m.cls) (hlink : (Cond.methodLink own index arraycopyName).before args s = true) (hnat : (Cond.native arraycopyName).before args s = true) (hstat : (Cond.static arraycopyName).before args s = true) (hini : (Cond.initialized "java/lang/System").before args s = true) (hK : va_K D CL (TYS K) s) (hW : CW K ed S h w Ls Jn Z9) (hH : HP D CL A (zset h K w S Z) H) (hS : va_S A H0 H locs) (k1 k2 : Nat) (hk1 : k1 < 6) (hk2 : k2 < 6) (hfr : 1 ≤ R.frames) (hlo : (rest.map fun v => v.category).sum + (nativeFrameWords "java/lang/System" "arraycopy" 5 + 11) ≤ R.locals) (hdg : decode cc pc = .ok (.invokestatic index, 3))
    (kk : ∀ (H1 : Heap) (locs1 : List Loc), HP D CL A (zset h K w S (va_up Z k2 (va_cpy (Z k1) (Z k2) 0 0 10))) H1 → va_S A H0 H1 locs1 → W p l e R s m args below meth c H1 locs1 cells slots Q (F0 m (pc + 3) ls rest)) : W p l e R s m args below meth c H locs cells slots Q (F0 m pc ls (.int (nI 10) :: .int (nI 0) :: .ref (w (7 + k2)) :: .int (nI 0) :: .ref (w (7 + k1)) :: rest)) := by
  refine hp_copyi hx hb hml hown hlink hnat hstat hini hK hH hS 0 0 (zset_a hW Z k1 hk1) (zset_a hW Z k2 hk2) rfl rfl rfl (by decide) (by decide) (by decide) (by decide) (by decide) (fun _ _ => rfl) hfr hlo hdg (fun H1 locs1 _ hH1 hS1 => ?_)
  have hH1 : HP D CL A (hset (zset h K w S Z) (w (7 + k2)) (.inl (K 0, 10, .inl (va_cpy (Z k1) (Z k2) 0 0 10))) (11 + k2)) H1 := hH1
  rw [zset_ar hW Z k2 hk2] at hH1
  exact kk H1 locs1 hH1 hS1
set_option maxHeartbeats 4000000 in
theorem mc_isHeap (hK0 : va_K D CL (TYS K) s0) {av : Nat → Nat} {ed mi : Nat} (hG : GX s0 wd av ed mi) {S : Ab} {w : Nat → Nat} {Ls : Nat → List Nat} {Jn : Nat → Nat} {Z : Nat → Nat → Int32} (hO : SOK S) (hO2 : SO2 S) (hW : CW K ed S h w Ls Jn Z) {m9 : Nat} (room : Int32) (hm0 : m9 < 2 ^ aN S) (hab : rowZ (abv S room 0) Z) : Met l yX0_isHeap (ws_ yX0_isHeap cX0_isHeap 10 ((Option.some Jvm.ClassFile.FieldType.boolean))) (rmk 3 0 0) (va_Pc [.ref (w 0), .int (nI m9), .int room] (PB s0 D CL (h))) (QR s0 D CL (fun v h1 => v = some (.int (zI (qtB (abv S room 0) (evn S room) (aN S) m9))) ∧ h1 = h)) 0 0 (zA s0) := by
  refine hp_met (by decide) (Nat.le_of_ble_eq_true rfl) hK0 ?_
  intro p e s m below meth cd ls hx hb hr hlocks hml hown hnm hts hK hPB hl hS hH hA
  have hl : lv_has ls 10 [(0, .ref (w 0)), (1, .int (nI m9)), (2, .int room)] := hl
  have hown : s.vm.findClass RX0 = some m.cls := hown
  have hn := hO.n
  have hmk := hO.mk
  have hrl := hO.rl
  have hrm := hO.rm
  have hsz := hO.sz
  have hp10 := pow2_le hn
  refine lv_iload_n hx hb dX0_isHeap_0 rfl (lv_at hl 1 rfl) ?_
  refine lv_istore_n (lv' := [(3, .int (nI m9)), (0, .ref (w 0)), (1, .int (nI m9)), (2, .int room)]) hx hb dX0_isHeap_1 rfl hl (by decide) rfl (fun ls hl => ?_)
  refine lv_iconst (v := nI 1) hx hb dX0_isHeap_2 (by decide) ?_
  refine lv_top (y := zI true) (zI_1 rfl) ?_
  refine lv_istore (lv' := [(4, .int (zI true)), (3, .int (nI m9)), (0, .ref (w 0)), (1, .int (nI m9)), (2, .int room)]) hx hb dX0_isHeap_3 hl (by decide) rfl (fun ls hl => ?_)
  refine w_loop2 (fun (lf : Nat) (mo : Bool) => 2 * lf + (if mo then 1 else 0)) (fun (lf : Nat) (mo : Bool) H locs ls => (crI (abv S room 0) (aN S) m9 lf) ∧ (lf ≤ m9) ∧ (mo = false → ∀ u, u < aN S → lf.testBit u = true → ofB (abv S room 0 u) 10 &&& lf ≠ 0) ∧ HP D CL (zA s0) h H ∧ va_S (zA s0) s.heap H locs ∧ lv_has ls 10 [(0, .ref (w 0)), (1, .int (nI m9)), (2, .int room), (3, .int (nI lf)), (4, .int (zI mo))]) ?_ m9 true ⟨cr_0, Nat.le_refl _, (fun q => by cases q), hH, hS, lv_sub hl [2, 3, 4, 1, 0] rfl⟩
  intro lf mo ih5 H locs ls hP
  obtain ⟨hcr, hlm, hst, hH, hS, hl⟩ := hP
  refine lv_iload hx hb dX0_isHeap_5 (lv_at hl 4 rfl) ?_
  refine lvB_eq (tgt := 71) hx hb dX0_isHeap_7 (by decide) (fun cmo => ?_) (fun cmo => ?_)
  · refine lv_iload_n hx hb dX0_isHeap_71 rfl (lv_at hl 3 rfl) ?_
    refine lvZ_eq (tgt := 77) hx hb (by first | omega | (refine Nat.lt_of_lt_of_le (Nat.mod_lt _ ?_) ?_ <;> omega)) dX0_isHeap_72 (by decide) (fun c3 => ?_) (fun c3 => ?_)
    · refine lv_iconst (v := nI 0) hx hb dX0_isHeap_77 (by decide) ?_
      refine lv_istore (lv' := [(5, .int (nI 0)), (0, .ref (w 0)), (1, .int (nI m9)), (2, .int room), (3, .int (nI lf)), (4, .int (zI mo))]) hx hb dX0_isHeap_78 hl (by decide) rfl (fun ls hl => ?_)
      refine w_loop1 (fun (i : Nat) => aRl S - i) (fun (i : Nat) H locs ls => (i ≤ aRl S) ∧ (∀ r, r < i → (decide (aKd S r = 1) && cnt S r room) = true → ∀ u, u < cN S r → ¬ bdC S (abv S room 0) m9 r u) ∧ HP D CL (zA s0) h H ∧ va_S (zA s0) s.heap H locs ∧ lv_has ls 10 [(0, .ref (w 0)), (1, .int (nI m9)), (2, .int room), (5, .int (nI i))]) ?_ 0 ⟨Nat.zero_le _, fun u hu => absurd hu (Nat.not_lt_zero _), hH, hS, lv_sub hl [1, 2, 3, 0] rfl⟩
      intro i ih80 H locs ls hP
      obtain ⟨hi, hno, hH, hS, hl⟩ := hP
      refine lv_iload hx hb dX0_isHeap_80 (lv_at hl 3 rfl) ?_
      refine lv_aload_n hx hb dX0_isHeap_82 rfl (lv_at hl 0 rfl) ?_
      refine hp_get (C := RX0) (T := TX0) (N := 14) (v := .ref (w 5)) hx hb hts in_X0 hown hK hH hW.x rfl 4 (by decide) (hts _ q216) (fun _ z => z) rfl dX0_isHeap_83 ?_
      refine hp_siz hx hb hml hown hts hPB hK0 hK hH hS hG (hW.li 2 (by decide)) hW.nr q807 (by first | decide | (simp only [rmk]; omega)) hl.1 rfl (Nat.le_of_ble_eq_true rfl) (by decide) dX0_isHeap_86 (fun H locs hH hS => ?_)
      refine lvN_ge (tgt := 233) hx hb (by first | omega | (refine Nat.lt_of_lt_of_le (Nat.mod_lt _ ?_) ?_ <;> omega)) (by first | omega | (refine Nat.lt_of_lt_of_le (Nat.mod_lt _ ?_) ?_ <;> omega)) dX0_isHeap_89 (by decide) (fun c1 => ?_) (fun c1 => ?_)
      · refine lv_iconst (v := nI 1) hx hb dX0_isHeap_233 (by decide) ?_
        exact hp_zret hx hb hr rfl hlocks hH hS (by decide) (by decide) dX0_isHeap_234 (⟨congrArg some (congrArg Value.int (zI_1 (qt_t (qx_no hO hO2 ((show i = aRl S by omega) ▸ hno)) (cr_t hn (abv_rr _ _ _) (c3 ▸ hcr))))), rfl⟩)
      · refine lv_aload_n hx hb dX0_isHeap_92 rfl (lv_at hl 0 rfl) ?_
        refine hp_get (C := RX0) (T := TX0) (N := 14) (v := .ref (w 5)) hx hb hts in_X0 hown hK hH hW.x rfl 4 (by decide) (hts _ q216) (fun _ z => z) rfl dX0_isHeap_93 ?_
        refine lv_iload hx hb dX0_isHeap_96 (lv_at hl 3 rfl) ?_
        refine hp_lget hx hb hml hown hts hPB hK0 hK hH hS hG (hW.li 2 (by decide)) (k9 := i) (by rw [hW.nr]; omega) q808 (by first | decide | (simp only [rmk]; omega)) hl.1 rfl (Nat.le_of_ble_eq_true rfl) (by decide) dX0_isHeap_98 (fun H locs hH hS => ?_)
        have hn2 := cN_le S i
        have hkhn2 := hO.kd (show i < aRl S by omega)
        have hwhn2 := hO.wt (show i < aRl S by omega)
        refine hp_castR hx hb hown (hts _ q812) hG hPB hK hH (hW.r (show i < aRl S by omega)) (hO.kd (show i < aRl S by omega)) dX0_isHeap_101 ?_
        refine lv_astore (lv' := [(6, .ref ((Ls 2).getD i 0)), (0, .ref (w 0)), (1, .int (nI m9)), (2, .int room), (5, .int (nI i))]) hx hb dX0_isHeap_104 hl (by decide) rfl (fun ls hl => ?_)
        refine lv_iconst (v := nI 0) hx hb dX0_isHeap_106 (by decide) ?_
        refine lv_istore (lv' := [(7, .int (nI 0)), (6, .ref ((Ls 2).getD i 0)), (0, .ref (w 0)), (1, .int (nI m9)), (2, .int room), (5, .int (nI i))]) hx hb dX0_isHeap_107 hl (by decide) rfl (fun ls hl => ?_)
        refine w_loop1 (fun (k : Nat) => cN S i - k) (fun (k : Nat) H locs ls => (k ≤ cN S i) ∧ (∀ u, u < k → ¬ bdC S (abv S room 0) m9 i u) ∧ HP D CL (zA s0) h H ∧ va_S (zA s0) s.heap H locs ∧ lv_has ls 10 [(0, .ref (w 0)), (1, .int (nI m9)), (2, .int room), (5, .int (nI i)), (6, .ref ((Ls 2).getD i 0)), (7, .int (nI k))]) ?_ 0 ⟨Nat.zero_le _, fun u hu => absurd hu (Nat.not_lt_zero _), hH, hS, lv_sub hl [2, 3, 4, 5, 1, 0] rfl⟩
        intro k ih109 H locs ls hP
        obtain ⟨hk, hnk, hH, hS, hl⟩ := hP
        refine lv_iload hx hb dX0_isHeap_109 (lv_at hl 5 rfl) ?_
        refine lv_aload hx hb dX0_isHeap_111 (lv_at hl 4 rfl) ?_
        refine hp_gR6N hx hb hts hown hK hH (hW.r (show i < aRl S by omega)) (hO.kd (show i < aRl S by omega)) (hG.nf hPB q746) dX0_isHeap_113 ?_
        refine hp_siz hx hb hml hown hts hPB hK0 hK hH hS hG (hW.cl (show i < aRl S by omega)) (hW.nc (show i < aRl S by omega)) q807 (by first | decide | (simp only [rmk]; omega)) hl.1 rfl (Nat.le_of_ble_eq_true rfl) (by decide) dX0_isHeap_116 (fun H locs hH hS => ?_)
        refine lvN_ge (tgt := 227) hx hb (by first | omega | (refine Nat.lt_of_lt_of_le (Nat.mod_lt _ ?_) ?_ <;> omega)) (by first | omega | (refine Nat.lt_of_lt_of_le (Nat.mod_lt _ ?_) ?_ <;> omega)) dX0_isHeap_119 (by decide) (fun c3 => ?_) (fun c3 => ?_)
        · refine lv_iinc (v := nI (i + 1)) (lv' := [(5, .int (nI (i + 1))), (0, .ref (w 0)), (1, .int (nI m9)), (2, .int room), (6, .ref ((Ls 2).getD i 0)), (7, .int (nI k))]) hx hb dX0_isHeap_227 hl (k := 3) rfl (nI_add i 1) (by decide) rfl (fun ls hl => ?_)
          refine lv_goto (tgt := 80) hx hb dX0_isHeap_230 (by decide) ?_
          exact ih80 (i + 1) (by omega) H locs ls ⟨by omega, all_up hno (fun _ u hu => hnk u (by omega)), hH, hS, lv_sub hl [1, 2, 3, 0] rfl⟩
        · refine lv_aload_n hx hb dX0_isHeap_122 rfl (lv_at hl 0 rfl) ?_
          refine lv_aload hx hb dX0_isHeap_123 (lv_at hl 4 rfl) ?_
          refine lv_iload_n hx hb dX0_isHeap_125 rfl (lv_at hl 2 rfl) ?_
          refine hp_callV (As := [.ref ((Ls 2).getD i 0), .int room]) (rest := []) hx hb hml hown hts hPB hK hH hS (mc_isEven hK0 hG hO hO2 hW (r := i) room (by omega)) hW.x rfl rfl 2 (lw_V q1166 q1168 qs41 q102 q1169) (by decide +kernel) ⟨rfl, rfl⟩ (by decide) rfl hl.1 rfl (Nat.le_of_ble_eq_true rfl) (by decide) dX0_isHeap_126 (fun v4 h6 H locs hp5 _ hH hS => ?_)
          obtain ⟨rfl, hq⟩ := hp5
          rw [hq] at hH
          refine lvB_eq (tgt := 227) hx hb dX0_isHeap_129 (by decide) (fun ce => ?_) (fun ce => ?_)
          · refine lv_iinc (v := nI (i + 1)) (lv' := [(5, .int (nI (i + 1))), (0, .ref (w 0)), (1, .int (nI m9)), (2, .int room), (6, .ref ((Ls 2).getD i 0)), (7, .int (nI k))]) hx hb dX0_isHeap_227 hl (k := 3) rfl (nI_add i 1) (by decide) rfl (fun ls hl => ?_)
            refine lv_goto (tgt := 80) hx hb dX0_isHeap_230 (by decide) ?_
            exact ih80 (i + 1) (by omega) H locs ls ⟨by omega, all_up hno (fun q => by rw [ce] at q; cases q), hH, hS, lv_sub hl [1, 2, 3, 0] rfl⟩
          · refine lv_aload hx hb dX0_isHeap_132 (lv_at hl 4 rfl) ?_
            refine hp_gR6N hx hb hts hown hK hH (hW.r (show i < aRl S by omega)) (hO.kd (show i < aRl S by omega)) (hG.nf hPB q746) dX0_isHeap_134 ?_
            refine lv_iload hx hb dX0_isHeap_137 (lv_at hl 5 rfl) ?_
            refine hp_lget hx hb hml hown hts hPB hK0 hK hH hS hG (hW.cl (show i < aRl S by omega)) (k9 := k) (by rw [hW.nc (show i < aRl S by omega)]; omega) q808 (by first | decide | (simp only [rmk]; omega)) hl.1 rfl (Nat.le_of_ble_eq_true rfl) (by decide) dX0_isHeap_139 (fun H locs hH hS => ?_)
            have hc7 := cXY hO hO2 (show i < aRl S by omega) (show k < cN S i by omega)
            refine va_castE hx hb hown (hts _ q1004) (hp_rec hK hH (hW.c (show i < aRl S by omega) (show k < cN S i by omega)) rfl) dX0_isHeap_142 ?_
            refine lv_astore (lv' := [(8, .ref ((Ls (10 + i)).getD k 0)), (0, .ref (w 0)), (1, .int (nI m9)), (2, .int room), (5, .int (nI i)), (6, .ref ((Ls 2).getD i 0)), (7, .int (nI k))]) hx hb dX0_isHeap_145 hl (by decide) rfl (fun ls hl => ?_)
            refine lv_iload_n hx hb dX0_isHeap_147 rfl (lv_at hl 2 rfl) ?_
            refine lv_aload hx hb dX0_isHeap_148 (lv_at hl 0 rfl) ?_
            refine hp_getN (C := RX9) (T := TX9) (N := 2) (v := .int (nI (cX S i k))) hx hb hts in_X9 hown hK hH (hW.c (show i < aRl S by omega) (show k < cN S i by omega)) rfl 0 (by decide) (hG.nf hPB q722) (fun _ z => z) rfl dX0_isHeap_150 ?_
            refine lv_ishr hx hb dX0_isHeap_153 ?_
            refine lv_top (y := nI (m9 / 2 ^ (cX S i k))) (bi_shr (by first | omega | (refine Nat.lt_of_lt_of_le (Nat.mod_lt _ ?_) ?_ <;> omega)) (by first | omega | (refine Nat.lt_of_lt_of_le (Nat.mod_lt _ ?_) ?_ <;> omega))) ?_
            refine lv_iconst (v := nI 1) hx hb dX0_isHeap_154 (by decide) ?_
            refine lv_iand hx hb dX0_isHeap_155 ?_
            refine lv_top (y := zI (Nat.testBit m9 (cX S i k))) ((bi_and _ _).trans (bi_z _ _)) ?_
            refine lv_iconst (v := nI 1) hx hb dX0_isHeap_156 (by decide) ?_
            refine lvB_ne1 (tgt := 177) hx hb dX0_isHeap_157 (by decide) (fun cx => ?_) (fun cx => ?_)
            · refine lv_iconst (v := nI 0) hx hb dX0_isHeap_177 (by decide) ?_
              refine lv_istore (lv' := [(9, .int (nI 0)), (8, .ref ((Ls (10 + i)).getD k 0)), (0, .ref (w 0)), (1, .int (nI m9)), (2, .int room), (5, .int (nI i)), (6, .ref ((Ls 2).getD i 0)), (7, .int (nI k))]) hx hb dX0_isHeap_178 hl (by decide) rfl (fun ls hl => ?_)
              refine lv_iload hx hb dX0_isHeap_180 (lv_at hl 0 rfl) ?_
              refine lv_if_eq (tgt := 221) hx hb dX0_isHeap_182 (by decide) (fun c8 => ?_) (fun c8 => ?_)
              · refine lv_iinc (v := nI (k + 1)) (lv' := [(7, .int (nI (k + 1))), (9, .int (nI 0)), (8, .ref ((Ls (10 + i)).getD k 0)), (0, .ref (w 0)), (1, .int (nI m9)), (2, .int room), (5, .int (nI i)), (6, .ref ((Ls 2).getD i 0))]) hx hb dX0_isHeap_221 hl (k := 7) rfl (nI_add k 1) (by decide) rfl (fun ls hl => ?_)
                refine lv_goto (tgt := 109) hx hb dX0_isHeap_224 (by decide) ?_
                exact ih109 (k + 1) (by omega) H locs ls ⟨by omega, no_up hnk (fun q => absurd q.1 (by rw [cx]; decide)), hH, hS, lv_sub hl [3, 4, 5, 6, 7, 0] rfl⟩
              · exact absurd c8 (by decide)
            · refine lv_iload_n hx hb dX0_isHeap_160 rfl (lv_at hl 2 rfl) ?_
              refine lv_aload hx hb dX0_isHeap_161 (lv_at hl 0 rfl) ?_
              refine hp_getN (C := RX9) (T := TX9) (N := 2) (v := .int (nI (cY S i k))) hx hb hts in_X9 hown hK hH (hW.c (show i < aRl S by omega) (show k < cN S i by omega)) rfl 1 (by decide) (hG.nf hPB q725) (fun _ z => z) rfl dX0_isHeap_163 ?_
              refine lv_ishr hx hb dX0_isHeap_166 ?_
              refine lv_top (y := nI (m9 / 2 ^ (cY S i k))) (bi_shr (by first | omega | (refine Nat.lt_of_lt_of_le (Nat.mod_lt _ ?_) ?_ <;> omega)) (by first | omega | (refine Nat.lt_of_lt_of_le (Nat.mod_lt _ ?_) ?_ <;> omega))) ?_
              refine lv_iconst (v := nI 1) hx hb dX0_isHeap_167 (by decide) ?_
              refine lv_iand hx hb dX0_isHeap_168 ?_
              refine lv_top (y := zI (Nat.testBit m9 (cY S i k))) ((bi_and _ _).trans (bi_z _ _)) ?_
              refine lv_iconst (v := nI 1) hx hb dX0_isHeap_169 (by decide) ?_
              refine lvB_ne1 (tgt := 177) hx hb dX0_isHeap_170 (by decide) (fun cy => ?_) (fun cy => ?_)
              · refine lv_iconst (v := nI 0) hx hb dX0_isHeap_177 (by decide) ?_
                refine lv_istore (lv' := [(9, .int (nI 0)), (8, .ref ((Ls (10 + i)).getD k 0)), (0, .ref (w 0)), (1, .int (nI m9)), (2, .int room), (5, .int (nI i)), (6, .ref ((Ls 2).getD i 0)), (7, .int (nI k))]) hx hb dX0_isHeap_178 hl (by decide) rfl (fun ls hl => ?_)
                refine lv_iload hx hb dX0_isHeap_180 (lv_at hl 0 rfl) ?_
                refine lv_if_eq (tgt := 221) hx hb dX0_isHeap_182 (by decide) (fun c9 => ?_) (fun c9 => ?_)
                · refine lv_iinc (v := nI (k + 1)) (lv' := [(7, .int (nI (k + 1))), (9, .int (nI 0)), (8, .ref ((Ls (10 + i)).getD k 0)), (0, .ref (w 0)), (1, .int (nI m9)), (2, .int room), (5, .int (nI i)), (6, .ref ((Ls 2).getD i 0))]) hx hb dX0_isHeap_221 hl (k := 7) rfl (nI_add k 1) (by decide) rfl (fun ls hl => ?_)
                  refine lv_goto (tgt := 109) hx hb dX0_isHeap_224 (by decide) ?_
                  exact ih109 (k + 1) (by omega) H locs ls ⟨by omega, no_up hnk (fun q => absurd q.2.1 (by rw [cy]; decide)), hH, hS, lv_sub hl [3, 4, 5, 6, 7, 0] rfl⟩
                · exact absurd c9 (by decide)
              · refine lv_iconst (v := nI 1) hx hb dX0_isHeap_173 (by decide) ?_
                refine lv_goto (tgt := 178) hx hb dX0_isHeap_174 (by decide) ?_
                refine lv_istore (lv' := [(9, .int (nI 1)), (8, .ref ((Ls (10 + i)).getD k 0)), (0, .ref (w 0)), (1, .int (nI m9)), (2, .int room), (5, .int (nI i)), (6, .ref ((Ls 2).getD i 0)), (7, .int (nI k))]) hx hb dX0_isHeap_178 hl (by decide) rfl (fun ls hl => ?_)
                refine lv_iload hx hb dX0_isHeap_180 (lv_at hl 0 rfl) ?_
                refine lv_if_eq (tgt := 221) hx hb dX0_isHeap_182 (by decide) (fun c10 => ?_) (fun c10 => ?_)
                · exact absurd c10 (by decide)
                · refine lv_aload_n hx hb dX0_isHeap_185 rfl (lv_at hl 2 rfl) ?_
                  refine lv_aload hx hb dX0_isHeap_186 (lv_at hl 1 rfl) ?_
                  refine hp_getN (C := RX9) (T := TX9) (N := 2) (v := .int (nI (cX S i k))) hx hb hts in_X9 hown hK hH (hW.c (show i < aRl S by omega) (show k < cN S i by omega)) rfl 0 (by decide) (hG.nf hPB q722) (fun _ z => z) rfl dX0_isHeap_188 ?_
                  refine lv_aload hx hb dX0_isHeap_191 (lv_at hl 1 rfl) ?_
                  refine hp_getN (C := RX9) (T := TX9) (N := 2) (v := .int (nI (cY S i k))) hx hb hts in_X9 hown hK hH (hW.c (show i < aRl S by omega) (show k < cN S i by omega)) rfl 1 (by decide) (hG.nf hPB q725) (fun _ z => z) rfl dX0_isHeap_193 ?_
                  refine hp_callV (As := [.int (nI (cX S i k)), .int (nI (cY S i k))]) (rest := []) hx hb hml hown hts hPB hK hH hS (mc_isAp hK0 hG hO hO2 hW (A := abv S room 0) (x := cX S i k) (y := cY S i k) hab (by omega) (by omega)) hW.x rfl rfl 2 (lw_V q1107 q1109 qs33 q102 q1110) (by decide +kernel) ⟨rfl, rfl⟩ (by decide) rfl hl.1 rfl (Nat.le_of_ble_eq_true rfl) (by decide) dX0_isHeap_196 (fun v11 h13 H locs hp12 _ hH hS => ?_)
                  obtain ⟨rfl, hq⟩ := hp12
                  rw [hq] at hH
                  refine lvB_ne (tgt := 219) hx hb dX0_isHeap_199 (by decide) (fun ca => ?_) (fun ca => ?_)
                  · refine lv_iconst (v := nI 0) hx hb dX0_isHeap_219 (by decide) ?_
                    exact hp_zret hx hb hr rfl hlocks hH hS (by decide) (by decide) dX0_isHeap_220 (⟨congrArg some (congrArg Value.int (zI_0 (qt_f2 (qx_yes hO hO2 (show i < aRl S by omega) ce (show k < cN S i by omega) ⟨cx, cy, Or.inl ca⟩)))), rfl⟩)
                  · refine lv_aload_n hx hb dX0_isHeap_202 rfl (lv_at hl 2 rfl) ?_
                    refine lv_aload hx hb dX0_isHeap_203 (lv_at hl 1 rfl) ?_
                    refine hp_getN (C := RX9) (T := TX9) (N := 2) (v := .int (nI (cY S i k))) hx hb hts in_X9 hown hK hH (hW.c (show i < aRl S by omega) (show k < cN S i by omega)) rfl 1 (by decide) (hG.nf hPB q725) (fun _ z => z) rfl dX0_isHeap_205 ?_
                    refine lv_aload hx hb dX0_isHeap_208 (lv_at hl 1 rfl) ?_
                    refine hp_getN (C := RX9) (T := TX9) (N := 2) (v := .int (nI (cX S i k))) hx hb hts in_X9 hown hK hH (hW.c (show i < aRl S by omega) (show k < cN S i by omega)) rfl 0 (by decide) (hG.nf hPB q722) (fun _ z => z) rfl dX0_isHeap_210 ?_
                    refine hp_callV (As := [.int (nI (cY S i k)), .int (nI (cX S i k))]) (rest := []) hx hb hml hown hts hPB hK hH hS (mc_isAp hK0 hG hO hO2 hW (A := abv S room 0) (x := cY S i k) (y := cX S i k) hab (by omega) (by omega)) hW.x rfl rfl 2 (lw_V q1107 q1109 qs33 q102 q1110) (by decide +kernel) ⟨rfl, rfl⟩ (by decide) rfl hl.1 rfl (Nat.le_of_ble_eq_true rfl) (by decide) dX0_isHeap_213 (fun v14 h16 H locs hp15 _ hH hS => ?_)
                    obtain ⟨rfl, hq⟩ := hp15
                    rw [hq] at hH
                    refine lvB_eq (tgt := 221) hx hb dX0_isHeap_216 (by decide) (fun cb => ?_) (fun cb => ?_)
                    · refine lv_iinc (v := nI (k + 1)) (lv' := [(7, .int (nI (k + 1))), (9, .int (nI 1)), (8, .ref ((Ls (10 + i)).getD k 0)), (0, .ref (w 0)), (1, .int (nI m9)), (2, .int room), (5, .int (nI i)), (6, .ref ((Ls 2).getD i 0))]) hx hb dX0_isHeap_221 hl (k := 7) rfl (nI_add k 1) (by decide) rfl (fun ls hl => ?_)
                      refine lv_goto (tgt := 109) hx hb dX0_isHeap_224 (by decide) ?_
                      exact ih109 (k + 1) (by omega) H locs ls ⟨by omega, no_up hnk (fun q => q.2.2.elim (by rw [ca]; decide) (by rw [cb]; decide)), hH, hS, lv_sub hl [3, 4, 5, 6, 7, 0] rfl⟩
                    · refine lv_iconst (v := nI 0) hx hb dX0_isHeap_219 (by decide) ?_
                      exact hp_zret hx hb hr rfl hlocks hH hS (by decide) (by decide) dX0_isHeap_220 (⟨congrArg some (congrArg Value.int (zI_0 (qt_f2 (qx_yes hO hO2 (show i < aRl S by omega) ce (show k < cN S i by omega) ⟨cx, cy, Or.inr cb⟩)))), rfl⟩)
    · refine lv_iconst (v := nI 0) hx hb dX0_isHeap_75 (by decide) ?_
      exact hp_zret hx hb hr rfl hlocks hH hS (by decide) (by decide) dX0_isHeap_76 (⟨congrArg some (congrArg Value.int (zI_0 (qt_f1 (cr_f hn (abv_rr _ _ _) hcr hm0 c3 (hst cmo))))), rfl⟩)
  · refine lv_iconst (v := nI 0) hx hb dX0_isHeap_10 (by decide) ?_
    refine lv_top (y := zI false) (zI_0 rfl) ?_
    refine lv_istore (lv' := [(4, .int (zI false)), (0, .ref (w 0)), (1, .int (nI m9)), (2, .int room), (3, .int (nI lf))]) hx hb dX0_isHeap_11 hl (by decide) rfl (fun ls hl => ?_)
    refine lv_iconst (v := nI 0) hx hb dX0_isHeap_13 (by decide) ?_
    refine lv_istore (lv' := [(5, .int (nI 0)), (4, .int (zI false)), (0, .ref (w 0)), (1, .int (nI m9)), (2, .int room), (3, .int (nI lf))]) hx hb dX0_isHeap_14 hl (by decide) rfl (fun ls hl => ?_)
    refine w_loop3 (fun (g : Nat) (l2 : Nat) (mo2 : Bool) => aN S - g) (fun (g : Nat) (l2 : Nat) (mo2 : Bool) H locs ls => (g ≤ aN S) ∧ (crI (abv S room 0) (aN S) m9 l2) ∧ (l2 ≤ lf ∧ (mo2 = true → l2 < lf) ∧ (mo2 = false → l2 = lf ∧ ∀ u, u < g → lf.testBit u = true → ofB (abv S room 0 u) 10 &&& lf ≠ 0)) ∧ HP D CL (zA s0) h H ∧ va_S (zA s0) s.heap H locs ∧ lv_has ls 10 [(0, .ref (w 0)), (1, .int (nI m9)), (2, .int room), (3, .int (nI l2)), (4, .int (zI mo2)), (5, .int (nI g))]) ?_ 0 lf false ⟨Nat.zero_le _, hcr, ⟨Nat.le_refl _, (fun q => by cases q), fun _ => ⟨rfl, fun u hu => absurd hu (Nat.not_lt_zero _)⟩⟩, hH, hS, lv_sub hl [2, 3, 4, 5, 1, 0] rfl⟩
    intro g l2 mo2 ih16 H locs ls hP
    obtain ⟨hg, hcr, hle2, hH, hS, hl⟩ := hP
    have hbl := ofB_10 (abv S room 0 g)
    have hal := Nat.and_le_left (n := ofB (abv S room 0 g) 10) (m := l2)
    have hle3 := hle2.1
    refine lv_iload hx hb dX0_isHeap_16 (lv_at hl 5 rfl) ?_
    refine lv_aload_n hx hb dX0_isHeap_18 rfl (lv_at hl 0 rfl) ?_
    refine hp_get (C := RX0) (T := TX0) (N := 14) (v := .ref (w 3)) hx hb hts in_X0 hown hK hH hW.x rfl 2 (by decide) (hts _ q214) (fun _ z => z) rfl dX0_isHeap_19 ?_
    refine hp_siz hx hb hml hown hts hPB hK0 hK hH hS hG (hW.li 0 (by decide)) hW.ng q807 (by first | decide | (simp only [rmk]; omega)) hl.1 rfl (Nat.le_of_ble_eq_true rfl) (by decide) dX0_isHeap_22 (fun H locs hH hS => ?_)
    refine lvN_ge (tgt := 68) hx hb (by first | omega | (refine Nat.lt_of_lt_of_le (Nat.mod_lt _ ?_) ?_ <;> omega)) (by first | omega | (refine Nat.lt_of_lt_of_le (Nat.mod_lt _ ?_) ?_ <;> omega)) dX0_isHeap_25 (by decide) (fun c17 => ?_) (fun c17 => ?_)
    · refine lv_goto (tgt := 5) hx hb dX0_isHeap_68 (by decide) ?_
      exact ih5 l2 mo2 (by (rw [cmo, if_pos rfl]; cases hq : mo2; (rw [(hle2.2.2 hq).1]; simp); (have := hle2.2.1 hq; simp; omega))) H locs ls ⟨hcr, Nat.le_trans hle2.1 hlm, fun q u hu hb => by rw [(hle2.2.2 q).1] at hb ⊢; exact (hle2.2.2 q).2 u (by omega) hb, hH, hS, lv_sub hl [0, 1, 2, 3, 4] rfl⟩
    · refine lv_iload_n hx hb dX0_isHeap_28 rfl (lv_at hl 3 rfl) ?_
      refine lv_iload hx hb dX0_isHeap_29 (lv_at hl 5 rfl) ?_
      refine lv_ishr hx hb dX0_isHeap_31 ?_
      refine lv_top (y := nI (l2 / 2 ^ g)) (bi_shr (by first | omega | (refine Nat.lt_of_lt_of_le (Nat.mod_lt _ ?_) ?_ <;> omega)) (by first | omega | (refine Nat.lt_of_lt_of_le (Nat.mod_lt _ ?_) ?_ <;> omega))) ?_
      refine lv_iconst (v := nI 1) hx hb dX0_isHeap_32 (by decide) ?_
      refine lv_iand hx hb dX0_isHeap_33 ?_
      refine lv_top (y := zI (Nat.testBit l2 g)) ((bi_and _ _).trans (bi_z _ _)) ?_
      refine lvB_eq (tgt := 62) hx hb dX0_isHeap_34 (by decide) (fun c1 => ?_) (fun c1 => ?_)
      · refine lv_iinc (v := nI (g + 1)) (lv' := [(5, .int (nI (g + 1))), (0, .ref (w 0)), (1, .int (nI m9)), (2, .int room), (3, .int (nI l2)), (4, .int (zI mo2))]) hx hb dX0_isHeap_62 hl (k := 5) rfl (nI_add g 1) (by decide) rfl (fun ls hl => ?_)
        refine lv_goto (tgt := 16) hx hb dX0_isHeap_65 (by decide) ?_
        exact ih16 (g + 1) l2 mo2 (by omega) H locs ls ⟨by omega, hcr, ⟨hle2.1, hle2.2.1, fun hq => ⟨(hle2.2.2 hq).1, all_up (hle2.2.2 hq).2 (fun q => absurd c1 (by rw [(hle2.2.2 hq).1, q]; decide))⟩⟩, hH, hS, lv_sub hl [1, 2, 3, 4, 5, 0] rfl⟩
      · refine lv_aload_n hx hb dX0_isHeap_37 rfl (lv_at hl 0 rfl) ?_
        refine hp_get (C := RX0) (T := TX0) (N := 14) (v := .ref (w 7)) hx hb hts in_X0 hown hK hH hW.x rfl 7 (by decide) (hts _ q219) (fun _ z => z) rfl dX0_isHeap_38 ?_
        refine lv_iload hx hb dX0_isHeap_41 (lv_at hl 5 rfl) ?_
        refine hp_ild (n := 10) (j := g) (v := nI (ofB (abv S room 0 g) 10)) hx hb hK hH 0 (hW.ar 0 (by decide)) rfl (by first | omega | (refine Nat.lt_of_lt_of_le (Nat.mod_lt _ ?_) ?_ <;> omega)) (by first | omega | (refine Nat.lt_of_lt_of_le (Nat.mod_lt _ ?_) ?_ <;> omega)) (hab g (by omega)) dX0_isHeap_43 ?_
        refine lv_iload_n hx hb dX0_isHeap_44 rfl (lv_at hl 3 rfl) ?_
        refine lv_iand hx hb dX0_isHeap_45 ?_
        refine lv_top (y := nI ((ofB (abv S room 0 g) 10) &&& l2)) (bi_and _ _) ?_
        refine lvZ_eq (tgt := 52) hx hb (by first | omega | (refine Nat.lt_of_lt_of_le (Nat.mod_lt _ ?_) ?_ <;> omega)) dX0_isHeap_46 (by decide) (fun c2 => ?_) (fun c2 => ?_)
        · refine lv_iload_n hx hb dX0_isHeap_52 rfl (lv_at hl 3 rfl) ?_
          refine lv_iconst (v := nI 1) hx hb dX0_isHeap_53 (by decide) ?_
          refine lv_iload hx hb dX0_isHeap_54 (lv_at hl 5 rfl) ?_
          refine lv_ishl hx hb dX0_isHeap_56 ?_
          refine lv_top (y := nI (2 ^ g)) (bi_shl1 (by first | omega | (refine Nat.lt_of_lt_of_le (Nat.mod_lt _ ?_) ?_ <;> omega))) ?_
          refine lv_ixor hx hb dX0_isHeap_57 ?_
          refine lv_top (y := nI (l2 ^^^ (2 ^ g))) (bi_xor _ _) ?_
          refine lv_istore_n (lv' := [(3, .int (nI (l2 ^^^ (2 ^ g)))), (0, .ref (w 0)), (1, .int (nI m9)), (2, .int room), (4, .int (zI mo2)), (5, .int (nI g))]) hx hb dX0_isHeap_58 rfl hl (by decide) rfl (fun ls hl => ?_)
          refine lv_iconst (v := nI 1) hx hb dX0_isHeap_59 (by decide) ?_
          refine lv_top (y := zI true) (zI_1 rfl) ?_
          refine lv_istore (lv' := [(4, .int (zI true)), (3, .int (nI (l2 ^^^ (2 ^ g)))), (0, .ref (w 0)), (1, .int (nI m9)), (2, .int room), (5, .int (nI g))]) hx hb dX0_isHeap_60 hl (by decide) rfl (fun ls hl => ?_)
          refine lv_iinc (v := nI (g + 1)) (lv' := [(5, .int (nI (g + 1))), (4, .int (zI true)), (3, .int (nI (l2 ^^^ (2 ^ g)))), (0, .ref (w 0)), (1, .int (nI m9)), (2, .int room)]) hx hb dX0_isHeap_62 hl (k := 5) rfl (nI_add g 1) (by decide) rfl (fun ls hl => ?_)
          refine lv_goto (tgt := 16) hx hb dX0_isHeap_65 (by decide) ?_
          exact ih16 (g + 1) (l2 ^^^ 2 ^ g) true (by omega) H locs ls ⟨by omega, cr_rm hn hcr c1 c2, ⟨Nat.le_of_lt (Nat.lt_of_lt_of_le (xor_lt c1) hle2.1), fun _ => Nat.lt_of_lt_of_le (xor_lt c1) hle2.1, (fun q => by cases q)⟩, hH, hS, lv_sub hl [3, 4, 5, 2, 1, 0] rfl⟩
        · refine lv_goto (tgt := 62) hx hb dX0_isHeap_49 (by decide) ?_
          refine lv_iinc (v := nI (g + 1)) (lv' := [(5, .int (nI (g + 1))), (0, .ref (w 0)), (1, .int (nI m9)), (2, .int room), (3, .int (nI l2)), (4, .int (zI mo2))]) hx hb dX0_isHeap_62 hl (k := 5) rfl (nI_add g 1) (by decide) rfl (fun ls hl => ?_)
          refine lv_goto (tgt := 16) hx hb dX0_isHeap_65 (by decide) ?_
          exact ih16 (g + 1) l2 mo2 (by omega) H locs ls ⟨by omega, hcr, ⟨hle2.1, hle2.2.1, fun hq => ⟨(hle2.2.2 hq).1, all_up (hle2.2.2 hq).2 (fun _ => by rw [← (hle2.2.2 hq).1]; exact c2)⟩⟩, hH, hS, lv_sub hl [1, 2, 3, 4, 5, 0] rfl⟩
end MODEL
