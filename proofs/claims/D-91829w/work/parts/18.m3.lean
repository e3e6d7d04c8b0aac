/-! by gen/mspec.py -/
set_option maxRecDepth 100000
section MODEL
variable {l : Launch} {s0 : State} {D : va_G} {K : Nat → ClassId} {wd : Nat → Nat} {o : Nat} {h : Hp} {I : Nat → Int32} {V : Nat → Nat → Int32} {J : Nat → Nat → Int64}
set_option maxHeartbeats 4000000 in
theorem mt_finds (hK0 : va_K D CL (TYS K) s0) {S : Ab} (hO : SOK S) (hM : MOK S I V) {q : Nat} {cr : Nat} {on : Nat} (hq : q < aRm S) (hcr : cr < 10) (hon : on < 20) : Met l yX2_finds (ws_ yX2_finds cX2_finds 9 ((Option.none : Option Jvm.ClassFile.FieldType))) (rmk 4 0 0) (va_Pc [.ref o, .int (nI q), .int (nI cr), .int (nI on)] (PB s0 D CL (mset h K wd o I V J))) (QR s0 D CL (fun v h1 => v = none ∧ ∃ P U, h1 = mset h K wd o P U J ∧ MOK S P U ∧ slA S (slL S q cr on) P U ∧ kp [40, 41, 42, 43] V U ∧ kp [31] I P)) 0 0 (zA s0) := by
  refine hp_met (by decide) (Nat.le_of_ble_eq_true rfl) hK0 ?_
  intro p e s m below meth cd ls hx hb hr hlocks hml hown hnm hts hK hPB hl hS hH hA
  have hl : lv_has ls 9 [(0, .ref o), (1, .int (nI q)), (2, .int (nI cr)), (3, .int (nI on))] := hl
  have hown : s.vm.findClass RX2 = some m.cls := hown
  have hn := hO.n
  have hmk := hO.mk
  have hrl := hO.rl
  have hrm := hO.rm
  have hsz := hO.sz
  have hrp := hO.rp hq
  refine lv_aload_n hx hb dX2_finds_0 rfl (lv_at hl 0 rfl) ?_
  refine m_get hx hb hts hown hK hH 25 (by decide) q1477 rfl (v := .ref (o + 39)) rfl dX2_finds_1 ?_
  refine lv_iload_n hx hb dX2_finds_4 rfl (lv_at hl 1 rfl) ?_
  refine m_iald (n := 4) (j := q) (v := nI (aRp S q)) hx hb hK hH (by decide) rfl (by first | omega | (refine Nat.lt_of_lt_of_le (Nat.mod_lt _ ?_) ?_ <;> omega)) (by decide) (hM.rp (by first | omega | (refine Nat.lt_of_lt_of_le (Nat.mod_lt _ ?_) ?_ <;> omega))) dX2_finds_5 ?_
  refine lv_istore (lv' := [(4, .int (nI (aRp S q))), (0, .ref o), (1, .int (nI q)), (2, .int (nI cr)), (3, .int (nI on))]) hx hb dX2_finds_6 hl (by decide) rfl (fun ls hl => ?_)
  refine lv_aload_n hx hb dX2_finds_8 rfl (lv_at hl 1 rfl) ?_
  refine lv_iconst (v := nI 0) hx hb dX2_finds_9 (by decide) ?_
  refine m_put (ty := .int) hx hb hts hown hK hH hS 31 (by decide) q1483 rfl rfl rfl (by decide +kernel) rfl rfl dX2_finds_10 (fun H locs hH hS => ?_)
  have hM := hM.iS (k := 31) (by decide) (nI 0)
  refine lv_iconst (v := nI 0) hx hb dX2_finds_13 (by decide) ?_
  refine lv_istore (lv' := [(5, .int (nI 0)), (4, .int (nI (aRp S q))), (0, .ref o), (1, .int (nI q)), (2, .int (nI cr)), (3, .int (nI on))]) hx hb dX2_finds_14 hl (by decide) rfl (fun ls hl => ?_)
  refine w_loop2 (fun (k : Nat) (U : Nat → Nat → Int32) => 10 - k) (fun (k : Nat) (U : Nat → Nat → Int32) H locs ls => (k ≤ 10) ∧ (∀ g, g < k → U 43 g = nI 0) ∧ (MOK S (va_up I 31 (nI 0)) U) ∧ (kp [40, 41, 42, 43] V U) ∧ HP D CL (zA s0) (mset h K wd o (va_up I 31 (nI 0)) U J) H ∧ va_S (zA s0) s.heap H locs ∧ lv_has ls 9 [(0, .ref o), (1, .int (nI q)), (2, .int (nI cr)), (3, .int (nI on)), (4, .int (nI (aRp S q))), (5, .int (nI k))]) ?_ 0 V ⟨Nat.zero_le _, fun g hg => absurd hg (Nat.not_lt_zero _), hM, kp.rf, hH, hS, lv_sub hl [2, 3, 4, 5, 1, 0] rfl⟩
  intro k U ih16 H locs ls hP
  obtain ⟨hk, hz, hM, hkp, hH, hS, hl⟩ := hP
  refine lv_iload hx hb dX2_finds_16 (lv_at hl 5 rfl) ?_
  refine lv_bipush (v := nI 10) hx hb dX2_finds_18 (by decide) ?_
  refine lvN_ge (tgt := 37) hx hb (by first | omega | (refine Nat.lt_of_lt_of_le (Nat.mod_lt _ ?_) ?_ <;> omega)) (by first | omega | (refine Nat.lt_of_lt_of_le (Nat.mod_lt _ ?_) ?_ <;> omega)) dX2_finds_20 (by decide) (fun c1 => ?_) (fun c1 => ?_)
  · refine lv_iconst (v := nI 0) hx hb dX2_finds_37 (by decide) ?_
    refine lv_istore (lv' := [(5, .int (nI 0)), (0, .ref o), (1, .int (nI q)), (2, .int (nI cr)), (3, .int (nI on)), (4, .int (nI (aRp S q)))]) hx hb dX2_finds_38 hl (by decide) rfl (fun ls hl => ?_)
    refine w_loop3 (fun (r : Nat) (P : Nat → Int32) (U : Nat → Nat → Int32) => aRl S - r) (fun (r : Nat) (P : Nat → Int32) (U : Nat → Nat → Int32) H locs ls => (r ≤ aRl S) ∧ (slA S (slC S q cr on r 0 0) P U) ∧ (MOK S P U) ∧ (kp [40, 41, 42, 43] V U ∧ kp [31] I P) ∧ HP D CL (zA s0) (mset h K wd o P U J) H ∧ va_S (zA s0) s.heap H locs ∧ lv_has ls 9 [(0, .ref o), (1, .int (nI q)), (2, .int (nI cr)), (3, .int (nI on)), (4, .int (nI (aRp S q))), (5, .int (nI r))]) ?_ 0 (va_up I 31 (nI 0)) U ⟨Nat.zero_le _, ⟨rfl, fun i t ht => by simp [slC, slR, slX, slY] at ht, fun g hg => hz g (by omega)⟩, hM, ⟨hkp, kp.rf.up (by decide) _⟩, hH, hS, lv_sub hl [1, 2, 3, 4, 5, 0] rfl⟩
    intro r P U ih40 H locs ls hP
    obtain ⟨hrr, hsl, hM, hkp, hH, hS, hl⟩ := hP
    refine lv_iload hx hb dX2_finds_40 (lv_at hl 5 rfl) ?_
    refine lv_aload_n hx hb dX2_finds_42 rfl (lv_at hl 0 rfl) ?_
    refine m_get hx hb hts hown hK hH 17 (by decide) q1469 rfl (v := .ref (o + 31)) rfl dX2_finds_43 ?_
    refine lv_iconst (v := nI 0) hx hb dX2_finds_46 (by decide) ?_
    refine m_iald (n := 2) (j := 0) (v := nI (aRl S)) hx hb hK hH (by decide) rfl (by first | omega | (refine Nat.lt_of_lt_of_le (Nat.mod_lt _ ?_) ?_ <;> omega)) (by decide) (hM.rl) dX2_finds_47 ?_
    refine lvN_ge (tgt := 300) hx hb (by first | omega | (refine Nat.lt_of_lt_of_le (Nat.mod_lt _ ?_) ?_ <;> omega)) (by first | omega | (refine Nat.lt_of_lt_of_le (Nat.mod_lt _ ?_) ?_ <;> omega)) dX2_finds_48 (by decide) (fun c2 => ?_) (fun c2 => ?_)
    · exact hp_vret hx hb hr hlocks hH hS (by decide) (by decide) dX2_finds_300 (⟨rfl, P, U, rfl, hM, by rw [show slL S q cr on = slC S q cr on r 0 0 by simp [slL, slC, slX, slY, show r = aRl S by omega]]; exact hsl, hkp.1, hkp.2⟩)
    · refine lv_iconst (v := nI 0) hx hb dX2_finds_51 (by decide) ?_
      refine lv_istore (lv' := [(6, .int (nI 0)), (0, .ref o), (1, .int (nI q)), (2, .int (nI cr)), (3, .int (nI on)), (4, .int (nI (aRp S q))), (5, .int (nI r))]) hx hb dX2_finds_52 hl (by decide) rfl (fun ls hl => ?_)
      refine w_loop3 (fun (x : Nat) (P : Nat → Int32) (U : Nat → Nat → Int32) => aN S - x) (fun (x : Nat) (P : Nat → Int32) (U : Nat → Nat → Int32) H locs ls => (x ≤ aN S) ∧ (slA S (slC S q cr on r x 0) P U) ∧ (MOK S P U) ∧ (kp [40, 41, 42, 43] V U ∧ kp [31] I P) ∧ HP D CL (zA s0) (mset h K wd o P U J) H ∧ va_S (zA s0) s.heap H locs ∧ lv_has ls 9 [(0, .ref o), (1, .int (nI q)), (2, .int (nI cr)), (3, .int (nI on)), (4, .int (nI (aRp S q))), (5, .int (nI r)), (6, .int (nI x))]) ?_ 0 P U ⟨Nat.zero_le _, hsl, hM, hkp, hH, hS, lv_sub hl [1, 2, 3, 4, 5, 6, 0] rfl⟩
      intro x P U ih54 H locs ls hP
      obtain ⟨hxx, hsl, hM, hkp, hH, hS, hl⟩ := hP
      have hkd := hO.kd (r := r) (by omega)
      refine lv_iload hx hb dX2_finds_54 (lv_at hl 6 rfl) ?_
      refine lv_aload_n hx hb dX2_finds_56 rfl (lv_at hl 0 rfl) ?_
      refine m_get hx hb hts hown hK hH 15 (by decide) q1467 rfl (v := .ref (o + 29)) rfl dX2_finds_57 ?_
      refine lv_iconst (v := nI 0) hx hb dX2_finds_60 (by decide) ?_
      refine m_iald (n := 2) (j := 0) (v := nI (aN S)) hx hb hK hH (by decide) rfl (by first | omega | (refine Nat.lt_of_lt_of_le (Nat.mod_lt _ ?_) ?_ <;> omega)) (by decide) (hM.n) dX2_finds_61 ?_
      refine lvN_ge (tgt := 294) hx hb (by first | omega | (refine Nat.lt_of_lt_of_le (Nat.mod_lt _ ?_) ?_ <;> omega)) (by first | omega | (refine Nat.lt_of_lt_of_le (Nat.mod_lt _ ?_) ?_ <;> omega)) dX2_finds_62 (by decide) (fun c3 => ?_) (fun c3 => ?_)
      · have exx : x = aN S := by omega
        refine lv_iinc (v := nI (r + 1)) (lv' := [(5, .int (nI (r + 1))), (0, .ref o), (1, .int (nI q)), (2, .int (nI cr)), (3, .int (nI on)), (4, .int (nI (aRp S q))), (6, .int (nI x))]) hx hb dX2_finds_294 hl (k := 5) rfl (nI_add r 1) (by decide) rfl (fun ls hl => ?_)
        refine lv_goto (tgt := 40) hx hb dX2_finds_297 (by decide) ?_
        exact ih40 (r + 1) P U (by omega) H locs ls ⟨by omega, by rw [show slC S q cr on (r + 1) 0 0 = slC S q cr on r (aN S) 0 by simp [slC, slR, slX, slY], ← exx]; exact hsl, hM, hkp, hH, hS, lv_sub hl [1, 2, 3, 4, 5, 0] rfl⟩
      · refine lv_aload_n hx hb dX2_finds_65 rfl (lv_at hl 0 rfl) ?_
        refine m_get hx hb hts hown hK hH 9 (by decide) q1461 rfl (v := .ref (o + 11)) rfl dX2_finds_66 ?_
        refine lv_iconst (v := nI 0) hx hb dX2_finds_69 (by decide) ?_
        refine m_rowI (k' := 12) hx hb hK hH (by decide) rfl (by decide) (by decide) rfl dX2_finds_70 ?_
        refine lv_iload hx hb dX2_finds_71 (lv_at hl 5 rfl) ?_
        refine m_iald (n := 12) (j := r) (v := nI (aKd S r)) hx hb hK hH (by decide) rfl (by first | omega | (refine Nat.lt_of_lt_of_le (Nat.mod_lt _ ?_) ?_ <;> omega)) (by decide) (hM.kd (by first | omega | (refine Nat.lt_of_lt_of_le (Nat.mod_lt _ ?_) ?_ <;> omega))) dX2_finds_73 ?_
        refine lvZ_ne (tgt := 81) hx hb (by first | omega | (refine Nat.lt_of_lt_of_le (Nat.mod_lt _ ?_) ?_ <;> omega)) dX2_finds_74 (by decide) (fun c4 => ?_) (fun c4 => ?_)
        · refine lv_iload hx hb dX2_finds_81 (lv_at hl 6 rfl) ?_
          refine lv_iconst (v := nI 1) hx hb dX2_finds_83 (by decide) ?_
          refine lv_iadd hx hb dX2_finds_84 ?_
          refine lv_top (y := nI (x + 1)) (nI_add _ _) ?_
          refine lv_istore (lv' := [(7, .int (nI (x + 1))), (0, .ref o), (1, .int (nI q)), (2, .int (nI cr)), (3, .int (nI on)), (4, .int (nI (aRp S q))), (5, .int (nI r)), (6, .int (nI x))]) hx hb dX2_finds_85 hl (by decide) rfl (fun ls hl => ?_)
          refine w_loop3 (fun (y : Nat) (P : Nat → Int32) (U : Nat → Nat → Int32) => aN S - y) (fun (y : Nat) (P : Nat → Int32) (U : Nat → Nat → Int32) H locs ls => (y ≤ aN S ∧ (aKd S r ≠ 0 → x < y)) ∧ (slA S (slC S q cr on r x y) P U) ∧ (MOK S P U) ∧ (kp [40, 41, 42, 43] V U ∧ kp [31] I P) ∧ HP D CL (zA s0) (mset h K wd o P U J) H ∧ va_S (zA s0) s.heap H locs ∧ lv_has ls 9 [(0, .ref o), (1, .int (nI q)), (2, .int (nI cr)), (3, .int (nI on)), (4, .int (nI (aRp S q))), (5, .int (nI r)), (6, .int (nI x)), (7, .int (nI y))]) ?_ (x + 1) P U ⟨⟨by omega, fun q => by omega⟩, by rw [show slC S q cr on r x (x + 1) = slC S q cr on r x 0 by unfold slC; rw [slY_low c4]; rfl]; exact hsl, hM, hkp, hH, hS, lv_sub hl [1, 2, 3, 4, 5, 6, 7, 0] rfl⟩
          intro y P U ih87 H locs ls hP
          obtain ⟨hyy, hsl, hM, hkp, hH, hS, hl⟩ := hP
          obtain ⟨L, hL⟩ : ∃ L, L = slC S q cr on r x y := ⟨_, rfl⟩
          rw [← hL] at hsl
          have hlen : L.length ≤ 100 * r + 10 * x + y := by rw [hL]; exact slC_len S q cr on r x y hn
          refine lv_iload hx hb dX2_finds_87 (lv_at hl 7 rfl) ?_
          refine lv_aload_n hx hb dX2_finds_89 rfl (lv_at hl 0 rfl) ?_
          refine m_get hx hb hts hown hK hH 15 (by decide) q1467 rfl (v := .ref (o + 29)) rfl dX2_finds_90 ?_
          refine lv_iconst (v := nI 0) hx hb dX2_finds_93 (by decide) ?_
          refine m_iald (n := 2) (j := 0) (v := nI (aN S)) hx hb hK hH (by decide) rfl (by first | omega | (refine Nat.lt_of_lt_of_le (Nat.mod_lt _ ?_) ?_ <;> omega)) (by decide) (hM.n) dX2_finds_94 ?_
          refine lvN_ge (tgt := 288) hx hb (by first | omega | (refine Nat.lt_of_lt_of_le (Nat.mod_lt _ ?_) ?_ <;> omega)) (by first | omega | (refine Nat.lt_of_lt_of_le (Nat.mod_lt _ ?_) ?_ <;> omega)) dX2_finds_95 (by decide) (fun c5 => ?_) (fun c5 => ?_)
          · have eyy : y = aN S := by omega
            refine lv_iinc (v := nI (x + 1)) (lv' := [(6, .int (nI (x + 1))), (0, .ref o), (1, .int (nI q)), (2, .int (nI cr)), (3, .int (nI on)), (4, .int (nI (aRp S q))), (5, .int (nI r)), (7, .int (nI y))]) hx hb dX2_finds_288 hl (k := 6) rfl (nI_add x 1) (by decide) rfl (fun ls hl => ?_)
            refine lv_goto (tgt := 54) hx hb dX2_finds_291 (by decide) ?_
            exact ih54 (x + 1) P U (by omega) H locs ls ⟨by omega, by rw [show slC S q cr on r (x + 1) 0 = slC S q cr on r x (aN S) by simp [slC, slX, slY], ← eyy, ← hL]; exact hsl, hM, hkp, hH, hS, lv_sub hl [1, 2, 3, 4, 5, 6, 0] rfl⟩
          · refine lv_aload_n hx hb dX2_finds_98 rfl (lv_at hl 0 rfl) ?_
            refine m_get hx hb hts hown hK hH 22 (by decide) q1474 rfl (v := .ref (o + 36)) rfl dX2_finds_99 ?_
            refine lv_iload hx hb dX2_finds_102 (lv_at hl 6 rfl) ?_
            refine m_iald (n := 10) (j := x) (v := aIr S x) hx hb hK hH (by decide) rfl (by first | omega | (refine Nat.lt_of_lt_of_le (Nat.mod_lt _ ?_) ?_ <;> omega)) (by decide) (hM.ir (by first | omega | (refine Nat.lt_of_lt_of_le (Nat.mod_lt _ ?_) ?_ <;> omega))) dX2_finds_104 ?_
            refine lv_iload_n hx hb dX2_finds_105 rfl (lv_at hl 1 rfl) ?_
            refine lv_icmp_ne (tgt := 282) hx hb dX2_finds_106 (by decide) (fun cx => ?_) (fun cx => ?_)
            · refine lv_iinc (v := nI (y + 1)) (lv' := [(7, .int (nI (y + 1))), (0, .ref o), (1, .int (nI q)), (2, .int (nI cr)), (3, .int (nI on)), (4, .int (nI (aRp S q))), (5, .int (nI r)), (6, .int (nI x))]) hx hb dX2_finds_282 hl (k := 7) rfl (nI_add y 1) (by decide) rfl (fun ls hl => ?_)
              refine lv_goto (tgt := 87) hx hb dX2_finds_285 (by decide) ?_
              exact ih87 (y + 1) P U (by omega) H locs ls ⟨⟨by omega, fun q => by omega⟩, by rw [slC_no (by unfold slP; simp [cx]), ← hL]; exact hsl, hM, hkp, hH, hS, lv_sub hl [1, 2, 3, 4, 5, 6, 7, 0] rfl⟩
            · refine lv_aload_n hx hb dX2_finds_109 rfl (lv_at hl 0 rfl) ?_
              refine m_get hx hb hts hown hK hH 22 (by decide) q1474 rfl (v := .ref (o + 36)) rfl dX2_finds_110 ?_
              refine lv_iload hx hb dX2_finds_113 (lv_at hl 7 rfl) ?_
              refine m_iald (n := 10) (j := y) (v := aIr S y) hx hb hK hH (by decide) rfl (by first | omega | (refine Nat.lt_of_lt_of_le (Nat.mod_lt _ ?_) ?_ <;> omega)) (by decide) (hM.ir (by first | omega | (refine Nat.lt_of_lt_of_le (Nat.mod_lt _ ?_) ?_ <;> omega))) dX2_finds_115 ?_
              refine lv_iload_n hx hb dX2_finds_116 rfl (lv_at hl 1 rfl) ?_
              refine lv_icmp_ne (tgt := 282) hx hb dX2_finds_117 (by decide) (fun cy => ?_) (fun cy => ?_)
              · refine lv_iinc (v := nI (y + 1)) (lv' := [(7, .int (nI (y + 1))), (0, .ref o), (1, .int (nI q)), (2, .int (nI cr)), (3, .int (nI on)), (4, .int (nI (aRp S q))), (5, .int (nI r)), (6, .int (nI x))]) hx hb dX2_finds_282 hl (k := 7) rfl (nI_add y 1) (by decide) rfl (fun ls hl => ?_)
                refine lv_goto (tgt := 87) hx hb dX2_finds_285 (by decide) ?_
                exact ih87 (y + 1) P U (by omega) H locs ls ⟨⟨by omega, fun q => by omega⟩, by rw [slC_no (by unfold slP; simp [cy]), ← hL]; exact hsl, hM, hkp, hH, hS, lv_sub hl [1, 2, 3, 4, 5, 6, 7, 0] rfl⟩
              · refine lv_aload_n hx hb dX2_finds_120 rfl (lv_at hl 0 rfl) ?_
                refine lv_iload hx hb dX2_finds_121 (lv_at hl 5 rfl) ?_
                refine lv_iload_n hx hb dX2_finds_123 rfl (lv_at hl 1 rfl) ?_
                refine lv_iload hx hb dX2_finds_124 (lv_at hl 6 rfl) ?_
                refine lv_iload hx hb dX2_finds_126 (lv_at hl 7 rfl) ?_
                refine hp_callV (As := [.int (nI r), .int (nI q), .int (nI x), .int (nI y)]) (rest := []) hx hb hml hown hts hPB hK hH hS (mt_countsFor hK0 hO hM (r := r) (x := x) (y := y) (by omega) (by omega) (by omega) (nI q)) mset_o rfl rfl 4 (lw_V q1822 q1824 qs76 q107 q1825) (by decide +kernel) ⟨rfl, rfl⟩ (by decide) rfl hl.1 rfl (Nat.le_of_ble_eq_true rfl) (by decide) dX2_finds_128 (fun v6 h8 H locs hp7 _ hH hS => ?_)
                obtain ⟨rfl, rfl⟩ := hp7
                refine lvB_ne (tgt := 137) hx hb dX2_finds_131 (by decide) (fun cf => ?_) (fun cf => ?_)
                · have hpx := ipn_at hO (g := x) (by omega) hq cx
                  have hpy := ipn_at hO (g := y) (by omega) hq cy
                  have hmx := Nat.mod_lt (ipn S x + on) (show aRp S q > 0 by omega)
                  have hmy := Nat.mod_lt (ipn S y + on) (show aRp S q > 0 by omega)
                  have hcp : cplL S r x y = true := by rw [cntF_sl hO (by omega) (by omega) hq cx cy hyy.2] at cf; exact (Bool.and_eq_true_iff.mp cf).2
                  refine lv_aload_n hx hb dX2_finds_137 rfl (lv_at hl 0 rfl) ?_
                  refine lv_iload hx hb dX2_finds_138 (lv_at hl 5 rfl) ?_
                  refine lv_iload_n hx hb dX2_finds_140 rfl (lv_at hl 1 rfl) ?_
                  refine lv_iload_n hx hb dX2_finds_141 rfl (lv_at hl 2 rfl) ?_
                  refine lv_aload_n hx hb dX2_finds_142 rfl (lv_at hl 0 rfl) ?_
                  refine m_get hx hb hts hown hK hH 23 (by decide) q1475 rfl (v := .ref (o + 37)) rfl dX2_finds_143 ?_
                  refine lv_iload hx hb dX2_finds_146 (lv_at hl 6 rfl) ?_
                  refine m_iald (n := 10) (j := x) (v := nI (ipn S x)) hx hb hK hH (by decide) rfl (by first | omega | (refine Nat.lt_of_lt_of_le (Nat.mod_lt _ ?_) ?_ <;> omega)) (by decide) ((hM.ip (by omega)).trans hpx.1) dX2_finds_148 ?_
                  refine lv_iload_n hx hb dX2_finds_149 rfl (lv_at hl 3 rfl) ?_
                  refine lv_iadd hx hb dX2_finds_150 ?_
                  refine lv_top (y := nI ((ipn S x) + on)) (nI_add _ _) ?_
                  refine lv_iload hx hb dX2_finds_151 (lv_at hl 4 rfl) ?_
                  refine lv_irem hx hb dX2_finds_153 (nI_ne0 (by first | omega | (refine Nat.lt_of_lt_of_le (Nat.mod_lt _ ?_) ?_ <;> omega)) (by first | omega | (refine Nat.lt_of_lt_of_le (Nat.mod_lt _ ?_) ?_ <;> omega))) ?_
                  refine lv_top (y := nI (((ipn S x) + on) % (aRp S q))) (pk_rem (by first | omega | (refine Nat.lt_of_lt_of_le (Nat.mod_lt _ ?_) ?_ <;> omega)) (by first | omega | (refine Nat.lt_of_lt_of_le (Nat.mod_lt _ ?_) ?_ <;> omega)) (by first | omega | (refine Nat.lt_of_lt_of_le (Nat.mod_lt _ ?_) ?_ <;> omega))) ?_
                  refine lv_aload_n hx hb dX2_finds_154 rfl (lv_at hl 0 rfl) ?_
                  refine m_get hx hb hts hown hK hH 23 (by decide) q1475 rfl (v := .ref (o + 37)) rfl dX2_finds_155 ?_
                  refine lv_iload hx hb dX2_finds_158 (lv_at hl 7 rfl) ?_
                  refine m_iald (n := 10) (j := y) (v := nI (ipn S y)) hx hb hK hH (by decide) rfl (by first | omega | (refine Nat.lt_of_lt_of_le (Nat.mod_lt _ ?_) ?_ <;> omega)) (by decide) ((hM.ip (by omega)).trans hpy.1) dX2_finds_160 ?_
                  refine lv_iload_n hx hb dX2_finds_161 rfl (lv_at hl 3 rfl) ?_
                  refine lv_iadd hx hb dX2_finds_162 ?_
                  refine lv_top (y := nI ((ipn S y) + on)) (nI_add _ _) ?_
                  refine lv_iload hx hb dX2_finds_163 (lv_at hl 4 rfl) ?_
                  refine lv_irem hx hb dX2_finds_165 (nI_ne0 (by first | omega | (refine Nat.lt_of_lt_of_le (Nat.mod_lt _ ?_) ?_ <;> omega)) (by first | omega | (refine Nat.lt_of_lt_of_le (Nat.mod_lt _ ?_) ?_ <;> omega))) ?_
                  refine lv_top (y := nI (((ipn S y) + on) % (aRp S q))) (pk_rem (by first | omega | (refine Nat.lt_of_lt_of_le (Nat.mod_lt _ ?_) ?_ <;> omega)) (by first | omega | (refine Nat.lt_of_lt_of_le (Nat.mod_lt _ ?_) ?_ <;> omega)) (by first | omega | (refine Nat.lt_of_lt_of_le (Nat.mod_lt _ ?_) ?_ <;> omega))) ?_
                  refine hp_callV (As := [.int (nI r), .int (nI q), .int (nI cr), .int (nI (((ipn S x) + on) % (aRp S q))), .int (nI (((ipn S y) + on) % (aRp S q)))]) (rest := []) hx hb hml hown hts hPB hK hH hS (mt_whoMinds hK0 hO hM (r := r) (q := q) (c := cr) (a := ((ipn S x) + on) % (aRp S q)) (b := ((ipn S y) + on) % (aRp S q)) (by omega) (by omega) (by omega) (by omega) (by omega)) mset_o rfl rfl 5 (lw_V q1830 q1832 qs78 q107 q1833) (by decide +kernel) ⟨rfl, rfl⟩ (by decide) rfl hl.1 rfl (Nat.le_of_ble_eq_true rfl) (by decide) dX2_finds_166 (fun v9 h11 H locs hp10 _ hH hS => ?_)
                  obtain ⟨rfl, rfl⟩ := hp10
                  refine lv_istore (lv' := [(8, .int (nI (slW S r q cr on x y))), (0, .ref o), (1, .int (nI q)), (2, .int (nI cr)), (3, .int (nI on)), (4, .int (nI (aRp S q))), (5, .int (nI r)), (6, .int (nI x)), (7, .int (nI y))]) hx hb dX2_finds_169 hl (by decide) rfl (fun ls hl => ?_)
                  have hw3 := slW_le S r q cr on x y
                  have hw1 : slW S r q cr on x y &&& 1 ≤ 1 := Nat.and_le_right
                  have hw2 : slW S r q cr on x y &&& 2 ≤ 2 := Nat.and_le_right
                  refine lv_iload hx hb dX2_finds_171 (lv_at hl 0 rfl) ?_
                  refine lvZ_ne (tgt := 179) hx hb (by first | omega | (refine Nat.lt_of_lt_of_le (Nat.mod_lt _ ?_) ?_ <;> omega)) dX2_finds_173 (by decide) (fun cw => ?_) (fun cw => ?_)
                  · have hsp : slP S r q cr on x y = true := by rw [cntF_sl hO (by omega) (by omega) hq cx cy hyy.2] at cf; unfold slP; simp [cx, cy, cf]; exact cw
                    refine lv_aload_n hx hb dX2_finds_179 rfl (lv_at hl 1 rfl) ?_
                    refine m_get hx hb hts hown hK hH 27 (by decide) q1479 rfl (v := .ref (o + 40)) rfl dX2_finds_180 ?_
                    refine lv_aload_n hx hb dX2_finds_183 rfl (lv_at hl 1 rfl) ?_
                    refine m_get hx hb hts hown hK hH 31 (by decide) q1483 rfl (v := .int (nI L.length)) (congrArg Value.int (hsl.1)) dX2_finds_184 ?_
                    refine lv_iload hx hb dX2_finds_187 (lv_at hl 6 rfl) ?_
                    refine m_iast (n := 1200) (j := L.length) hx hb hK hH hS (by decide) rfl (by first | omega | (refine Nat.lt_of_lt_of_le (Nat.mod_lt _ ?_) ?_ <;> omega)) (by decide) dX2_finds_189 (fun H locs hH hS => ?_)
                    have hM := hM.vS (k := 40) rfl L.length (nI r)
                    refine lv_aload_n hx hb dX2_finds_190 rfl (lv_at hl 1 rfl) ?_
                    refine m_get hx hb hts hown hK hH 28 (by decide) q1480 rfl (v := .ref (o + 41)) rfl dX2_finds_191 ?_
                    refine lv_aload_n hx hb dX2_finds_194 rfl (lv_at hl 1 rfl) ?_
                    refine m_get hx hb hts hown hK hH 31 (by decide) q1483 rfl (v := .int (nI L.length)) (congrArg Value.int (hsl.1)) dX2_finds_195 ?_
                    refine lv_iload hx hb dX2_finds_198 (lv_at hl 7 rfl) ?_
                    refine m_iast (n := 1200) (j := L.length) hx hb hK hH hS (by decide) rfl (by first | omega | (refine Nat.lt_of_lt_of_le (Nat.mod_lt _ ?_) ?_ <;> omega)) (by decide) dX2_finds_200 (fun H locs hH hS => ?_)
                    have hM := hM.vS (k := 41) rfl L.length (nI x)
                    refine lv_aload_n hx hb dX2_finds_201 rfl (lv_at hl 1 rfl) ?_
                    refine m_get hx hb hts hown hK hH 29 (by decide) q1481 rfl (v := .ref (o + 42)) rfl dX2_finds_202 ?_
                    refine lv_aload_n hx hb dX2_finds_205 rfl (lv_at hl 1 rfl) ?_
                    refine m_get hx hb hts hown hK hH 31 (by decide) q1483 rfl (v := .int (nI L.length)) (congrArg Value.int (hsl.1)) dX2_finds_206 ?_
                    refine lv_iload hx hb dX2_finds_209 (lv_at hl 8 rfl) ?_
                    refine m_iast (n := 1200) (j := L.length) hx hb hK hH hS (by decide) rfl (by first | omega | (refine Nat.lt_of_lt_of_le (Nat.mod_lt _ ?_) ?_ <;> omega)) (by decide) dX2_finds_211 (fun H locs hH hS => ?_)
                    have hM := hM.vS (k := 42) rfl L.length (nI y)
                    refine lv_aload_n hx hb dX2_finds_212 rfl (lv_at hl 1 rfl) ?_
                    refine lv_dup hx hb dX2_finds_213 rfl ?_
                    refine m_get hx hb hts hown hK hH 31 (by decide) q1483 rfl (v := .int (nI L.length)) (congrArg Value.int (hsl.1)) dX2_finds_214 ?_
                    refine lv_iconst (v := nI 1) hx hb dX2_finds_217 (by decide) ?_
                    refine lv_iadd hx hb dX2_finds_218 ?_
                    refine lv_top (y := nI (L.length + 1)) (nI_add _ _) ?_
                    refine m_put (ty := .int) hx hb hts hown hK hH hS 31 (by decide) q1483 rfl rfl rfl (by decide +kernel) rfl rfl dX2_finds_219 (fun H locs hH hS => ?_)
                    have hM := hM.iS (k := 31) (by decide) (nI (L.length + 1))
                    refine lv_aload_n hx hb dX2_finds_222 rfl (lv_at hl 1 rfl) ?_
                    refine m_get hx hb hts hown hK hH 30 (by decide) q1482 rfl (v := .ref (o + 43)) rfl dX2_finds_223 ?_
                    refine lv_iload hx hb dX2_finds_226 (lv_at hl 7 rfl) ?_
                    refine lv_dup2_11 hx hb dX2_finds_228 rfl rfl ?_
                    refine m_iald (n := 10) (j := x) (v := nI (mnd S L x)) hx hb hK hH (by decide) rfl (by first | omega | (refine Nat.lt_of_lt_of_le (Nat.mod_lt _ ?_) ?_ <;> omega)) (by decide) (hsl.2.2 x (by omega)) dX2_finds_229 ?_
                    refine lv_iload hx hb dX2_finds_230 (lv_at hl 0 rfl) ?_
                    refine lv_iconst (v := nI 1) hx hb dX2_finds_232 (by decide) ?_
                    refine lv_iand hx hb dX2_finds_233 ?_
                    refine lv_top (y := nI ((slW S r q cr on x y) &&& 1)) (bi_and _ _) ?_
                    refine lvZ_eq (tgt := 249) hx hb (by first | omega | (refine Nat.lt_of_lt_of_le (Nat.mod_lt _ ?_) ?_ <;> omega)) dX2_finds_234 (by decide) (fun ca => ?_) (fun ca => ?_)
                    · refine lv_iconst (v := nI 0) hx hb dX2_finds_249 (by decide) ?_
                      refine lv_iadd hx hb dX2_finds_250 ?_
                      refine lv_top (y := nI (mnd S L x + (if slW S r q cr on x y &&& 1 ≠ 0 then aWt S r else 0))) (by rw [nI_add]; exact congrArg nI (by rw [if_neg (not_not_intro ca)])) ?_
                      refine m_iast (n := 10) (j := x) hx hb hK hH hS (by decide) rfl (by first | omega | (refine Nat.lt_of_lt_of_le (Nat.mod_lt _ ?_) ?_ <;> omega)) (by decide) dX2_finds_251 (fun H locs hH hS => ?_)
                      have hM := hM.vS (k := 43) rfl x (nI (mnd S L x + (if slW S r q cr on x y &&& 1 ≠ 0 then aWt S r else 0)))
                      refine lv_aload_n hx hb dX2_finds_252 rfl (lv_at hl 1 rfl) ?_
                      refine m_get hx hb hts hown hK hH 30 (by decide) q1482 rfl (v := .ref (o + 43)) rfl dX2_finds_253 ?_
                      refine lv_iload hx hb dX2_finds_256 (lv_at hl 8 rfl) ?_
                      refine lv_dup2_11 hx hb dX2_finds_258 rfl rfl ?_
                      refine m_iald (n := 10) (j := y) (v := nI (mnd S L y)) hx hb hK hH (by decide) rfl (by first | omega | (refine Nat.lt_of_lt_of_le (Nat.mod_lt _ ?_) ?_ <;> omega)) (by decide) ((vset_ne _ _ (Ne.symm (cplL_ne hcp))).trans (hsl.2.2 y (by omega))) dX2_finds_259 ?_
                      refine lv_iload hx hb dX2_finds_260 (lv_at hl 0 rfl) ?_
                      refine lv_iconst (v := nI 2) hx hb dX2_finds_262 (by decide) ?_
                      refine lv_iand hx hb dX2_finds_263 ?_
                      refine lv_top (y := nI ((slW S r q cr on x y) &&& 2)) (bi_and _ _) ?_
                      refine lvZ_eq (tgt := 279) hx hb (by first | omega | (refine Nat.lt_of_lt_of_le (Nat.mod_lt _ ?_) ?_ <;> omega)) dX2_finds_264 (by decide) (fun cb => ?_) (fun cb => ?_)
                      · refine lv_iconst (v := nI 0) hx hb dX2_finds_279 (by decide) ?_
                        refine lv_iadd hx hb dX2_finds_280 ?_
                        refine lv_top (y := nI (mnd S L y + (if slW S r q cr on x y &&& 2 ≠ 0 then aWt S r else 0))) (by rw [nI_add]; exact congrArg nI (by rw [if_neg (not_not_intro cb)])) ?_
                        refine m_iast (n := 10) (j := y) hx hb hK hH hS (by decide) rfl (by first | omega | (refine Nat.lt_of_lt_of_le (Nat.mod_lt _ ?_) ?_ <;> omega)) (by decide) dX2_finds_281 (fun H locs hH hS => ?_)
                        have hM := hM.vS (k := 43) rfl y (nI (mnd S L y + (if slW S r q cr on x y &&& 2 ≠ 0 then aWt S r else 0)))
                        refine lv_iinc (v := nI (y + 1)) (lv' := [(7, .int (nI (y + 1))), (8, .int (nI (slW S r q cr on x y))), (0, .ref o), (1, .int (nI q)), (2, .int (nI cr)), (3, .int (nI on)), (4, .int (nI (aRp S q))), (5, .int (nI r)), (6, .int (nI x))]) hx hb dX2_finds_282 hl (k := 8) rfl (nI_add y 1) (by decide) rfl (fun ls hl => ?_)
                        refine lv_goto (tgt := 87) hx hb dX2_finds_285 (by decide) ?_
                        exact ih87 (y + 1) _ _ (by omega) H locs ls ⟨⟨by omega, fun q => by omega⟩, by rw [slC_yes hsp, ← hL]; exact slA_push hsl (cplL_ne hcp), hM, ⟨((((hkp.1.vs (by decide) _ _).vs (by decide) _ _).vs (by decide) _ _).vs (by decide) _ _).vs (by decide) _ _, hkp.2.up (by decide) _⟩, hH, hS, lv_sub hl [2, 3, 4, 5, 6, 7, 8, 0] rfl⟩
                      · refine lv_aload_n hx hb dX2_finds_267 rfl (lv_at hl 1 rfl) ?_
                        refine m_get hx hb hts hown hK hH 12 (by decide) q1464 rfl (v := .ref (o + 20)) rfl dX2_finds_268 ?_
                        refine lv_iconst (v := nI 0) hx hb dX2_finds_271 (by decide) ?_
                        refine m_rowI (k' := 21) hx hb hK hH (by decide) rfl (by decide) (by decide) rfl dX2_finds_272 ?_
                        refine lv_iload hx hb dX2_finds_273 (lv_at hl 6 rfl) ?_
                        refine m_iald (n := 12) (j := r) (v := nI (aWt S r)) hx hb hK hH (by decide) rfl (by first | omega | (refine Nat.lt_of_lt_of_le (Nat.mod_lt _ ?_) ?_ <;> omega)) (by decide) (hM.wt (by first | omega | (refine Nat.lt_of_lt_of_le (Nat.mod_lt _ ?_) ?_ <;> omega))) dX2_finds_275 ?_
                        refine lv_goto (tgt := 280) hx hb dX2_finds_276 (by decide) ?_
                        refine lv_iadd hx hb dX2_finds_280 ?_
                        refine lv_top (y := nI (mnd S L y + (if slW S r q cr on x y &&& 2 ≠ 0 then aWt S r else 0))) (by rw [nI_add]; exact congrArg nI (by rw [if_pos cb])) ?_
                        refine m_iast (n := 10) (j := y) hx hb hK hH hS (by decide) rfl (by first | omega | (refine Nat.lt_of_lt_of_le (Nat.mod_lt _ ?_) ?_ <;> omega)) (by decide) dX2_finds_281 (fun H locs hH hS => ?_)
                        have hM := hM.vS (k := 43) rfl y (nI (mnd S L y + (if slW S r q cr on x y &&& 2 ≠ 0 then aWt S r else 0)))
                        refine lv_iinc (v := nI (y + 1)) (lv' := [(7, .int (nI (y + 1))), (8, .int (nI (slW S r q cr on x y))), (0, .ref o), (1, .int (nI q)), (2, .int (nI cr)), (3, .int (nI on)), (4, .int (nI (aRp S q))), (5, .int (nI r)), (6, .int (nI x))]) hx hb dX2_finds_282 hl (k := 8) rfl (nI_add y 1) (by decide) rfl (fun ls hl => ?_)
                        refine lv_goto (tgt := 87) hx hb dX2_finds_285 (by decide) ?_
                        exact ih87 (y + 1) _ _ (by omega) H locs ls ⟨⟨by omega, fun q => by omega⟩, by rw [slC_yes hsp, ← hL]; exact slA_push hsl (cplL_ne hcp), hM, ⟨((((hkp.1.vs (by decide) _ _).vs (by decide) _ _).vs (by decide) _ _).vs (by decide) _ _).vs (by decide) _ _, hkp.2.up (by decide) _⟩, hH, hS, lv_sub hl [2, 3, 4, 5, 6, 7, 8, 0] rfl⟩
                    · refine lv_aload_n hx hb dX2_finds_237 rfl (lv_at hl 1 rfl) ?_
                      refine m_get hx hb hts hown hK hH 12 (by decide) q1464 rfl (v := .ref (o + 20)) rfl dX2_finds_238 ?_
                      refine lv_iconst (v := nI 0) hx hb dX2_finds_241 (by decide) ?_
                      refine m_rowI (k' := 21) hx hb hK hH (by decide) rfl (by decide) (by decide) rfl dX2_finds_242 ?_
                      refine lv_iload hx hb dX2_finds_243 (lv_at hl 6 rfl) ?_
                      refine m_iald (n := 12) (j := r) (v := nI (aWt S r)) hx hb hK hH (by decide) rfl (by first | omega | (refine Nat.lt_of_lt_of_le (Nat.mod_lt _ ?_) ?_ <;> omega)) (by decide) (hM.wt (by first | omega | (refine Nat.lt_of_lt_of_le (Nat.mod_lt _ ?_) ?_ <;> omega))) dX2_finds_245 ?_
                      refine lv_goto (tgt := 250) hx hb dX2_finds_246 (by decide) ?_
                      refine lv_iadd hx hb dX2_finds_250 ?_
                      refine lv_top (y := nI (mnd S L x + (if slW S r q cr on x y &&& 1 ≠ 0 then aWt S r else 0))) (by rw [nI_add]; exact congrArg nI (by rw [if_pos ca])) ?_
                      refine m_iast (n := 10) (j := x) hx hb hK hH hS (by decide) rfl (by first | omega | (refine Nat.lt_of_lt_of_le (Nat.mod_lt _ ?_) ?_ <;> omega)) (by decide) dX2_finds_251 (fun H locs hH hS => ?_)
                      have hM := hM.vS (k := 43) rfl x (nI (mnd S L x + (if slW S r q cr on x y &&& 1 ≠ 0 then aWt S r else 0)))
                      refine lv_aload_n hx hb dX2_finds_252 rfl (lv_at hl 1 rfl) ?_
                      refine m_get hx hb hts hown hK hH 30 (by decide) q1482 rfl (v := .ref (o + 43)) rfl dX2_finds_253 ?_
                      refine lv_iload hx hb dX2_finds_256 (lv_at hl 8 rfl) ?_
                      refine lv_dup2_11 hx hb dX2_finds_258 rfl rfl ?_
                      refine m_iald (n := 10) (j := y) (v := nI (mnd S L y)) hx hb hK hH (by decide) rfl (by first | omega | (refine Nat.lt_of_lt_of_le (Nat.mod_lt _ ?_) ?_ <;> omega)) (by decide) ((vset_ne _ _ (Ne.symm (cplL_ne hcp))).trans (hsl.2.2 y (by omega))) dX2_finds_259 ?_
                      refine lv_iload hx hb dX2_finds_260 (lv_at hl 0 rfl) ?_
                      refine lv_iconst (v := nI 2) hx hb dX2_finds_262 (by decide) ?_
                      refine lv_iand hx hb dX2_finds_263 ?_
                      refine lv_top (y := nI ((slW S r q cr on x y) &&& 2)) (bi_and _ _) ?_
                      refine lvZ_eq (tgt := 279) hx hb (by first | omega | (refine Nat.lt_of_lt_of_le (Nat.mod_lt _ ?_) ?_ <;> omega)) dX2_finds_264 (by decide) (fun cb => ?_) (fun cb => ?_)
                      · refine lv_iconst (v := nI 0) hx hb dX2_finds_279 (by decide) ?_
                        refine lv_iadd hx hb dX2_finds_280 ?_
                        refine lv_top (y := nI (mnd S L y + (if slW S r q cr on x y &&& 2 ≠ 0 then aWt S r else 0))) (by rw [nI_add]; exact congrArg nI (by rw [if_neg (not_not_intro cb)])) ?_
                        refine m_iast (n := 10) (j := y) hx hb hK hH hS (by decide) rfl (by first | omega | (refine Nat.lt_of_lt_of_le (Nat.mod_lt _ ?_) ?_ <;> omega)) (by decide) dX2_finds_281 (fun H locs hH hS => ?_)
                        have hM := hM.vS (k := 43) rfl y (nI (mnd S L y + (if slW S r q cr on x y &&& 2 ≠ 0 then aWt S r else 0)))
                        refine lv_iinc (v := nI (y + 1)) (lv' := [(7, .int (nI (y + 1))), (8, .int (nI (slW S r q cr on x y))), (0, .ref o), (1, .int (nI q)), (2, .int (nI cr)), (3, .int (nI on)), (4, .int (nI (aRp S q))), (5, .int (nI r)), (6, .int (nI x))]) hx hb dX2_finds_282 hl (k := 8) rfl (nI_add y 1) (by decide) rfl (fun ls hl => ?_)
                        refine lv_goto (tgt := 87) hx hb dX2_finds_285 (by decide) ?_
                        exact ih87 (y + 1) _ _ (by omega) H locs ls ⟨⟨by omega, fun q => by omega⟩, by rw [slC_yes hsp, ← hL]; exact slA_push hsl (cplL_ne hcp), hM, ⟨((((hkp.1.vs (by decide) _ _).vs (by decide) _ _).vs (by decide) _ _).vs (by decide) _ _).vs (by decide) _ _, hkp.2.up (by decide) _⟩, hH, hS, lv_sub hl [2, 3, 4, 5, 6, 7, 8, 0] rfl⟩
                      · refine lv_aload_n hx hb dX2_finds_267 rfl (lv_at hl 1 rfl) ?_
                        refine m_get hx hb hts hown hK hH 12 (by decide) q1464 rfl (v := .ref (o + 20)) rfl dX2_finds_268 ?_
                        refine lv_iconst (v := nI 0) hx hb dX2_finds_271 (by decide) ?_
                        refine m_rowI (k' := 21) hx hb hK hH (by decide) rfl (by decide) (by decide) rfl dX2_finds_272 ?_
                        refine lv_iload hx hb dX2_finds_273 (lv_at hl 6 rfl) ?_
                        refine m_iald (n := 12) (j := r) (v := nI (aWt S r)) hx hb hK hH (by decide) rfl (by first | omega | (refine Nat.lt_of_lt_of_le (Nat.mod_lt _ ?_) ?_ <;> omega)) (by decide) (hM.wt (by first | omega | (refine Nat.lt_of_lt_of_le (Nat.mod_lt _ ?_) ?_ <;> omega))) dX2_finds_275 ?_
                        refine lv_goto (tgt := 280) hx hb dX2_finds_276 (by decide) ?_
                        refine lv_iadd hx hb dX2_finds_280 ?_
                        refine lv_top (y := nI (mnd S L y + (if slW S r q cr on x y &&& 2 ≠ 0 then aWt S r else 0))) (by rw [nI_add]; exact congrArg nI (by rw [if_pos cb])) ?_
                        refine m_iast (n := 10) (j := y) hx hb hK hH hS (by decide) rfl (by first | omega | (refine Nat.lt_of_lt_of_le (Nat.mod_lt _ ?_) ?_ <;> omega)) (by decide) dX2_finds_281 (fun H locs hH hS => ?_)
                        have hM := hM.vS (k := 43) rfl y (nI (mnd S L y + (if slW S r q cr on x y &&& 2 ≠ 0 then aWt S r else 0)))
                        refine lv_iinc (v := nI (y + 1)) (lv' := [(7, .int (nI (y + 1))), (8, .int (nI (slW S r q cr on x y))), (0, .ref o), (1, .int (nI q)), (2, .int (nI cr)), (3, .int (nI on)), (4, .int (nI (aRp S q))), (5, .int (nI r)), (6, .int (nI x))]) hx hb dX2_finds_282 hl (k := 8) rfl (nI_add y 1) (by decide) rfl (fun ls hl => ?_)
                        refine lv_goto (tgt := 87) hx hb dX2_finds_285 (by decide) ?_
                        exact ih87 (y + 1) _ _ (by omega) H locs ls ⟨⟨by omega, fun q => by omega⟩, by rw [slC_yes hsp, ← hL]; exact slA_push hsl (cplL_ne hcp), hM, ⟨((((hkp.1.vs (by decide) _ _).vs (by decide) _ _).vs (by decide) _ _).vs (by decide) _ _).vs (by decide) _ _, hkp.2.up (by decide) _⟩, hH, hS, lv_sub hl [2, 3, 4, 5, 6, 7, 8, 0] rfl⟩
                  · refine lv_goto (tgt := 282) hx hb dX2_finds_176 (by decide) ?_
                    refine lv_iinc (v := nI (y + 1)) (lv' := [(7, .int (nI (y + 1))), (8, .int (nI (slW S r q cr on x y))), (0, .ref o), (1, .int (nI q)), (2, .int (nI cr)), (3, .int (nI on)), (4, .int (nI (aRp S q))), (5, .int (nI r)), (6, .int (nI x))]) hx hb dX2_finds_282 hl (k := 8) rfl (nI_add y 1) (by decide) rfl (fun ls hl => ?_)
                    refine lv_goto (tgt := 87) hx hb dX2_finds_285 (by decide) ?_
                    exact ih87 (y + 1) P U (by omega) H locs ls ⟨⟨by omega, fun q => by omega⟩, by rw [slC_no (by unfold slP; simp [cw]), ← hL]; exact hsl, hM, hkp, hH, hS, lv_sub hl [2, 3, 4, 5, 6, 7, 8, 0] rfl⟩
                · refine lv_goto (tgt := 282) hx hb dX2_finds_134 (by decide) ?_
                  refine lv_iinc (v := nI (y + 1)) (lv' := [(7, .int (nI (y + 1))), (0, .ref o), (1, .int (nI q)), (2, .int (nI cr)), (3, .int (nI on)), (4, .int (nI (aRp S q))), (5, .int (nI r)), (6, .int (nI x))]) hx hb dX2_finds_282 hl (k := 7) rfl (nI_add y 1) (by decide) rfl (fun ls hl => ?_)
                  refine lv_goto (tgt := 87) hx hb dX2_finds_285 (by decide) ?_
                  exact ih87 (y + 1) P U (by omega) H locs ls ⟨⟨by omega, fun q => by omega⟩, by rw [slC_no (by rw [cntF_sl hO (by omega) (by omega) hq cx cy hyy.2] at cf; unfold slP; simp [cf]), ← hL]; exact hsl, hM, hkp, hH, hS, lv_sub hl [1, 2, 3, 4, 5, 6, 7, 0] rfl⟩
        · refine lv_iconst (v := nI 0) hx hb dX2_finds_77 (by decide) ?_
          refine lv_goto (tgt := 85) hx hb dX2_finds_78 (by decide) ?_
          refine lv_istore (lv' := [(7, .int (nI 0)), (0, .ref o), (1, .int (nI q)), (2, .int (nI cr)), (3, .int (nI on)), (4, .int (nI (aRp S q))), (5, .int (nI r)), (6, .int (nI x))]) hx hb dX2_finds_85 hl (by decide) rfl (fun ls hl => ?_)
          refine w_loop3 (fun (y : Nat) (P : Nat → Int32) (U : Nat → Nat → Int32) => aN S - y) (fun (y : Nat) (P : Nat → Int32) (U : Nat → Nat → Int32) H locs ls => (y ≤ aN S ∧ (aKd S r ≠ 0 → x < y)) ∧ (slA S (slC S q cr on r x y) P U) ∧ (MOK S P U) ∧ (kp [40, 41, 42, 43] V U ∧ kp [31] I P) ∧ HP D CL (zA s0) (mset h K wd o P U J) H ∧ va_S (zA s0) s.heap H locs ∧ lv_has ls 9 [(0, .ref o), (1, .int (nI q)), (2, .int (nI cr)), (3, .int (nI on)), (4, .int (nI (aRp S q))), (5, .int (nI r)), (6, .int (nI x)), (7, .int (nI y))]) ?_ 0 P U ⟨⟨by omega, fun q => by omega⟩, hsl, hM, hkp, hH, hS, lv_sub hl [1, 2, 3, 4, 5, 6, 7, 0] rfl⟩
          intro y P U ih87 H locs ls hP
          obtain ⟨hyy, hsl, hM, hkp, hH, hS, hl⟩ := hP
          obtain ⟨L, hL⟩ : ∃ L, L = slC S q cr on r x y := ⟨_, rfl⟩
          rw [← hL] at hsl
          have hlen : L.length ≤ 100 * r + 10 * x + y := by rw [hL]; exact slC_len S q cr on r x y hn
          refine lv_iload hx hb dX2_finds_87 (lv_at hl 7 rfl) ?_
          refine lv_aload_n hx hb dX2_finds_89 rfl (lv_at hl 0 rfl) ?_
          refine m_get hx hb hts hown hK hH 15 (by decide) q1467 rfl (v := .ref (o + 29)) rfl dX2_finds_90 ?_
          refine lv_iconst (v := nI 0) hx hb dX2_finds_93 (by decide) ?_
          refine m_iald (n := 2) (j := 0) (v := nI (aN S)) hx hb hK hH (by decide) rfl (by first | omega | (refine Nat.lt_of_lt_of_le (Nat.mod_lt _ ?_) ?_ <;> omega)) (by decide) (hM.n) dX2_finds_94 ?_
          refine lvN_ge (tgt := 288) hx hb (by first | omega | (refine Nat.lt_of_lt_of_le (Nat.mod_lt _ ?_) ?_ <;> omega)) (by first | omega | (refine Nat.lt_of_lt_of_le (Nat.mod_lt _ ?_) ?_ <;> omega)) dX2_finds_95 (by decide) (fun c12 => ?_) (fun c12 => ?_)
          · have eyy : y = aN S := by omega
            refine lv_iinc (v := nI (x + 1)) (lv' := [(6, .int (nI (x + 1))), (0, .ref o), (1, .int (nI q)), (2, .int (nI cr)), (3, .int (nI on)), (4, .int (nI (aRp S q))), (5, .int (nI r)), (7, .int (nI y))]) hx hb dX2_finds_288 hl (k := 6) rfl (nI_add x 1) (by decide) rfl (fun ls hl => ?_)
            refine lv_goto (tgt := 54) hx hb dX2_finds_291 (by decide) ?_
            exact ih54 (x + 1) P U (by omega) H locs ls ⟨by omega, by rw [show slC S q cr on r (x + 1) 0 = slC S q cr on r x (aN S) by simp [slC, slX, slY], ← eyy, ← hL]; exact hsl, hM, hkp, hH, hS, lv_sub hl [1, 2, 3, 4, 5, 6, 0] rfl⟩
          · refine lv_aload_n hx hb dX2_finds_98 rfl (lv_at hl 0 rfl) ?_
            refine m_get hx hb hts hown hK hH 22 (by decide) q1474 rfl (v := .ref (o + 36)) rfl dX2_finds_99 ?_
            refine lv_iload hx hb dX2_finds_102 (lv_at hl 6 rfl) ?_
            refine m_iald (n := 10) (j := x) (v := aIr S x) hx hb hK hH (by decide) rfl (by first | omega | (refine Nat.lt_of_lt_of_le (Nat.mod_lt _ ?_) ?_ <;> omega)) (by decide) (hM.ir (by first | omega | (refine Nat.lt_of_lt_of_le (Nat.mod_lt _ ?_) ?_ <;> omega))) dX2_finds_104 ?_
            refine lv_iload_n hx hb dX2_finds_105 rfl (lv_at hl 1 rfl) ?_
            refine lv_icmp_ne (tgt := 282) hx hb dX2_finds_106 (by decide) (fun cx => ?_) (fun cx => ?_)
            · refine lv_iinc (v := nI (y + 1)) (lv' := [(7, .int (nI (y + 1))), (0, .ref o), (1, .int (nI q)), (2, .int (nI cr)), (3, .int (nI on)), (4, .int (nI (aRp S q))), (5, .int (nI r)), (6, .int (nI x))]) hx hb dX2_finds_282 hl (k := 7) rfl (nI_add y 1) (by decide) rfl (fun ls hl => ?_)
              refine lv_goto (tgt := 87) hx hb dX2_finds_285 (by decide) ?_
              exact ih87 (y + 1) P U (by omega) H locs ls ⟨⟨by omega, fun q => by omega⟩, by rw [slC_no (by unfold slP; simp [cx]), ← hL]; exact hsl, hM, hkp, hH, hS, lv_sub hl [1, 2, 3, 4, 5, 6, 7, 0] rfl⟩
            · refine lv_aload_n hx hb dX2_finds_109 rfl (lv_at hl 0 rfl) ?_
              refine m_get hx hb hts hown hK hH 22 (by decide) q1474 rfl (v := .ref (o + 36)) rfl dX2_finds_110 ?_
              refine lv_iload hx hb dX2_finds_113 (lv_at hl 7 rfl) ?_
              refine m_iald (n := 10) (j := y) (v := aIr S y) hx hb hK hH (by decide) rfl (by first | omega | (refine Nat.lt_of_lt_of_le (Nat.mod_lt _ ?_) ?_ <;> omega)) (by decide) (hM.ir (by first | omega | (refine Nat.lt_of_lt_of_le (Nat.mod_lt _ ?_) ?_ <;> omega))) dX2_finds_115 ?_
              refine lv_iload_n hx hb dX2_finds_116 rfl (lv_at hl 1 rfl) ?_
              refine lv_icmp_ne (tgt := 282) hx hb dX2_finds_117 (by decide) (fun cy => ?_) (fun cy => ?_)
              · refine lv_iinc (v := nI (y + 1)) (lv' := [(7, .int (nI (y + 1))), (0, .ref o), (1, .int (nI q)), (2, .int (nI cr)), (3, .int (nI on)), (4, .int (nI (aRp S q))), (5, .int (nI r)), (6, .int (nI x))]) hx hb dX2_finds_282 hl (k := 7) rfl (nI_add y 1) (by decide) rfl (fun ls hl => ?_)
                refine lv_goto (tgt := 87) hx hb dX2_finds_285 (by decide) ?_
                exact ih87 (y + 1) P U (by omega) H locs ls ⟨⟨by omega, fun q => by omega⟩, by rw [slC_no (by unfold slP; simp [cy]), ← hL]; exact hsl, hM, hkp, hH, hS, lv_sub hl [1, 2, 3, 4, 5, 6, 7, 0] rfl⟩
              · refine lv_aload_n hx hb dX2_finds_120 rfl (lv_at hl 0 rfl) ?_
                refine lv_iload hx hb dX2_finds_121 (lv_at hl 5 rfl) ?_
                refine lv_iload_n hx hb dX2_finds_123 rfl (lv_at hl 1 rfl) ?_
                refine lv_iload hx hb dX2_finds_124 (lv_at hl 6 rfl) ?_
                refine lv_iload hx hb dX2_finds_126 (lv_at hl 7 rfl) ?_
                refine hp_callV (As := [.int (nI r), .int (nI q), .int (nI x), .int (nI y)]) (rest := []) hx hb hml hown hts hPB hK hH hS (mt_countsFor hK0 hO hM (r := r) (x := x) (y := y) (by omega) (by omega) (by omega) (nI q)) mset_o rfl rfl 4 (lw_V q1822 q1824 qs76 q107 q1825) (by decide +kernel) ⟨rfl, rfl⟩ (by decide) rfl hl.1 rfl (Nat.le_of_ble_eq_true rfl) (by decide) dX2_finds_128 (fun v13 h15 H locs hp14 _ hH hS => ?_)
                obtain ⟨rfl, rfl⟩ := hp14
                refine lvB_ne (tgt := 137) hx hb dX2_finds_131 (by decide) (fun cf => ?_) (fun cf => ?_)
                · have hpx := ipn_at hO (g := x) (by omega) hq cx
                  have hpy := ipn_at hO (g := y) (by omega) hq cy
                  have hmx := Nat.mod_lt (ipn S x + on) (show aRp S q > 0 by omega)
                  have hmy := Nat.mod_lt (ipn S y + on) (show aRp S q > 0 by omega)
                  have hcp : cplL S r x y = true := by rw [cntF_sl hO (by omega) (by omega) hq cx cy hyy.2] at cf; exact (Bool.and_eq_true_iff.mp cf).2
                  refine lv_aload_n hx hb dX2_finds_137 rfl (lv_at hl 0 rfl) ?_
                  refine lv_iload hx hb dX2_finds_138 (lv_at hl 5 rfl) ?_
                  refine lv_iload_n hx hb dX2_finds_140 rfl (lv_at hl 1 rfl) ?_
                  refine lv_iload_n hx hb dX2_finds_141 rfl (lv_at hl 2 rfl) ?_
                  refine lv_aload_n hx hb dX2_finds_142 rfl (lv_at hl 0 rfl) ?_
                  refine m_get hx hb hts hown hK hH 23 (by decide) q1475 rfl (v := .ref (o + 37)) rfl dX2_finds_143 ?_
                  refine lv_iload hx hb dX2_finds_146 (lv_at hl 6 rfl) ?_
                  refine m_iald (n := 10) (j := x) (v := nI (ipn S x)) hx hb hK hH (by decide) rfl (by first | omega | (refine Nat.lt_of_lt_of_le (Nat.mod_lt _ ?_) ?_ <;> omega)) (by decide) ((hM.ip (by omega)).trans hpx.1) dX2_finds_148 ?_
                  refine lv_iload_n hx hb dX2_finds_149 rfl (lv_at hl 3 rfl) ?_
                  refine lv_iadd hx hb dX2_finds_150 ?_
                  refine lv_top (y := nI ((ipn S x) + on)) (nI_add _ _) ?_
                  refine lv_iload hx hb dX2_finds_151 (lv_at hl 4 rfl) ?_
                  refine lv_irem hx hb dX2_finds_153 (nI_ne0 (by first | omega | (refine Nat.lt_of_lt_of_le (Nat.mod_lt _ ?_) ?_ <;> omega)) (by first | omega | (refine Nat.lt_of_lt_of_le (Nat.mod_lt _ ?_) ?_ <;> omega))) ?_
                  refine lv_top (y := nI (((ipn S x) + on) % (aRp S q))) (pk_rem (by first | omega | (refine Nat.lt_of_lt_of_le (Nat.mod_lt _ ?_) ?_ <;> omega)) (by first | omega | (refine Nat.lt_of_lt_of_le (Nat.mod_lt _ ?_) ?_ <;> omega)) (by first | omega | (refine Nat.lt_of_lt_of_le (Nat.mod_lt _ ?_) ?_ <;> omega))) ?_
                  refine lv_aload_n hx hb dX2_finds_154 rfl (lv_at hl 0 rfl) ?_
                  refine m_get hx hb hts hown hK hH 23 (by decide) q1475 rfl (v := .ref (o + 37)) rfl dX2_finds_155 ?_
                  refine lv_iload hx hb dX2_finds_158 (lv_at hl 7 rfl) ?_
                  refine m_iald (n := 10) (j := y) (v := nI (ipn S y)) hx hb hK hH (by decide) rfl (by first | omega | (refine Nat.lt_of_lt_of_le (Nat.mod_lt _ ?_) ?_ <;> omega)) (by decide) ((hM.ip (by omega)).trans hpy.1) dX2_finds_160 ?_
                  refine lv_iload_n hx hb dX2_finds_161 rfl (lv_at hl 3 rfl) ?_
                  refine lv_iadd hx hb dX2_finds_162 ?_
                  refine lv_top (y := nI ((ipn S y) + on)) (nI_add _ _) ?_
                  refine lv_iload hx hb dX2_finds_163 (lv_at hl 4 rfl) ?_
                  refine lv_irem hx hb dX2_finds_165 (nI_ne0 (by first | omega | (refine Nat.lt_of_lt_of_le (Nat.mod_lt _ ?_) ?_ <;> omega)) (by first | omega | (refine Nat.lt_of_lt_of_le (Nat.mod_lt _ ?_) ?_ <;> omega))) ?_
                  refine lv_top (y := nI (((ipn S y) + on) % (aRp S q))) (pk_rem (by first | omega | (refine Nat.lt_of_lt_of_le (Nat.mod_lt _ ?_) ?_ <;> omega)) (by first | omega | (refine Nat.lt_of_lt_of_le (Nat.mod_lt _ ?_) ?_ <;> omega)) (by first | omega | (refine Nat.lt_of_lt_of_le (Nat.mod_lt _ ?_) ?_ <;> omega))) ?_
                  refine hp_callV (As := [.int (nI r), .int (nI q), .int (nI cr), .int (nI (((ipn S x) + on) % (aRp S q))), .int (nI (((ipn S y) + on) % (aRp S q)))]) (rest := []) hx hb hml hown hts hPB hK hH hS (mt_whoMinds hK0 hO hM (r := r) (q := q) (c := cr) (a := ((ipn S x) + on) % (aRp S q)) (b := ((ipn S y) + on) % (aRp S q)) (by omega) (by omega) (by omega) (by omega) (by omega)) mset_o rfl rfl 5 (lw_V q1830 q1832 qs78 q107 q1833) (by decide +kernel) ⟨rfl, rfl⟩ (by decide) rfl hl.1 rfl (Nat.le_of_ble_eq_true rfl) (by decide) dX2_finds_166 (fun v16 h18 H locs hp17 _ hH hS => ?_)
                  obtain ⟨rfl, rfl⟩ := hp17
                  refine lv_istore (lv' := [(8, .int (nI (slW S r q cr on x y))), (0, .ref o), (1, .int (nI q)), (2, .int (nI cr)), (3, .int (nI on)), (4, .int (nI (aRp S q))), (5, .int (nI r)), (6, .int (nI x)), (7, .int (nI y))]) hx hb dX2_finds_169 hl (by decide) rfl (fun ls hl => ?_)
                  have hw3 := slW_le S r q cr on x y
                  have hw1 : slW S r q cr on x y &&& 1 ≤ 1 := Nat.and_le_right
                  have hw2 : slW S r q cr on x y &&& 2 ≤ 2 := Nat.and_le_right
                  refine lv_iload hx hb dX2_finds_171 (lv_at hl 0 rfl) ?_
                  refine lvZ_ne (tgt := 179) hx hb (by first | omega | (refine Nat.lt_of_lt_of_le (Nat.mod_lt _ ?_) ?_ <;> omega)) dX2_finds_173 (by decide) (fun cw => ?_) (fun cw => ?_)
                  · have hsp : slP S r q cr on x y = true := by rw [cntF_sl hO (by omega) (by omega) hq cx cy hyy.2] at cf; unfold slP; simp [cx, cy, cf]; exact cw
                    refine lv_aload_n hx hb dX2_finds_179 rfl (lv_at hl 1 rfl) ?_
                    refine m_get hx hb hts hown hK hH 27 (by decide) q1479 rfl (v := .ref (o + 40)) rfl dX2_finds_180 ?_
                    refine lv_aload_n hx hb dX2_finds_183 rfl (lv_at hl 1 rfl) ?_
                    refine m_get hx hb hts hown hK hH 31 (by decide) q1483 rfl (v := .int (nI L.length)) (congrArg Value.int (hsl.1)) dX2_finds_184 ?_
                    refine lv_iload hx hb dX2_finds_187 (lv_at hl 6 rfl) ?_
                    refine m_iast (n := 1200) (j := L.length) hx hb hK hH hS (by decide) rfl (by first | omega | (refine Nat.lt_of_lt_of_le (Nat.mod_lt _ ?_) ?_ <;> omega)) (by decide) dX2_finds_189 (fun H locs hH hS => ?_)
                    have hM := hM.vS (k := 40) rfl L.length (nI r)
                    refine lv_aload_n hx hb dX2_finds_190 rfl (lv_at hl 1 rfl) ?_
                    refine m_get hx hb hts hown hK hH 28 (by decide) q1480 rfl (v := .ref (o + 41)) rfl dX2_finds_191 ?_
                    refine lv_aload_n hx hb dX2_finds_194 rfl (lv_at hl 1 rfl) ?_
                    refine m_get hx hb hts hown hK hH 31 (by decide) q1483 rfl (v := .int (nI L.length)) (congrArg Value.int (hsl.1)) dX2_finds_195 ?_
                    refine lv_iload hx hb dX2_finds_198 (lv_at hl 7 rfl) ?_
                    refine m_iast (n := 1200) (j := L.length) hx hb hK hH hS (by decide) rfl (by first | omega | (refine Nat.lt_of_lt_of_le (Nat.mod_lt _ ?_) ?_ <;> omega)) (by decide) dX2_finds_200 (fun H locs hH hS => ?_)
                    have hM := hM.vS (k := 41) rfl L.length (nI x)
                    refine lv_aload_n hx hb dX2_finds_201 rfl (lv_at hl 1 rfl) ?_
                    refine m_get hx hb hts hown hK hH 29 (by decide) q1481 rfl (v := .ref (o + 42)) rfl dX2_finds_202 ?_
                    refine lv_aload_n hx hb dX2_finds_205 rfl (lv_at hl 1 rfl) ?_
                    refine m_get hx hb hts hown hK hH 31 (by decide) q1483 rfl (v := .int (nI L.length)) (congrArg Value.int (hsl.1)) dX2_finds_206 ?_
                    refine lv_iload hx hb dX2_finds_209 (lv_at hl 8 rfl) ?_
                    refine m_iast (n := 1200) (j := L.length) hx hb hK hH hS (by decide) rfl (by first | omega | (refine Nat.lt_of_lt_of_le (Nat.mod_lt _ ?_) ?_ <;> omega)) (by decide) dX2_finds_211 (fun H locs hH hS => ?_)
                    have hM := hM.vS (k := 42) rfl L.length (nI y)
                    refine lv_aload_n hx hb dX2_finds_212 rfl (lv_at hl 1 rfl) ?_
                    refine lv_dup hx hb dX2_finds_213 rfl ?_
                    refine m_get hx hb hts hown hK hH 31 (by decide) q1483 rfl (v := .int (nI L.length)) (congrArg Value.int (hsl.1)) dX2_finds_214 ?_
                    refine lv_iconst (v := nI 1) hx hb dX2_finds_217 (by decide) ?_
                    refine lv_iadd hx hb dX2_finds_218 ?_
                    refine lv_top (y := nI (L.length + 1)) (nI_add _ _) ?_
                    refine m_put (ty := .int) hx hb hts hown hK hH hS 31 (by decide) q1483 rfl rfl rfl (by decide +kernel) rfl rfl dX2_finds_219 (fun H locs hH hS => ?_)
                    have hM := hM.iS (k := 31) (by decide) (nI (L.length + 1))
                    refine lv_aload_n hx hb dX2_finds_222 rfl (lv_at hl 1 rfl) ?_
                    refine m_get hx hb hts hown hK hH 30 (by decide) q1482 rfl (v := .ref (o + 43)) rfl dX2_finds_223 ?_
                    refine lv_iload hx hb dX2_finds_226 (lv_at hl 7 rfl) ?_
                    refine lv_dup2_11 hx hb dX2_finds_228 rfl rfl ?_
                    refine m_iald (n := 10) (j := x) (v := nI (mnd S L x)) hx hb hK hH (by decide) rfl (by first | omega | (refine Nat.lt_of_lt_of_le (Nat.mod_lt _ ?_) ?_ <;> omega)) (by decide) (hsl.2.2 x (by omega)) dX2_finds_229 ?_
                    refine lv_iload hx hb dX2_finds_230 (lv_at hl 0 rfl) ?_
                    refine lv_iconst (v := nI 1) hx hb dX2_finds_232 (by decide) ?_
                    refine lv_iand hx hb dX2_finds_233 ?_
                    refine lv_top (y := nI ((slW S r q cr on x y) &&& 1)) (bi_and _ _) ?_
                    refine lvZ_eq (tgt := 249) hx hb (by first | omega | (refine Nat.lt_of_lt_of_le (Nat.mod_lt _ ?_) ?_ <;> omega)) dX2_finds_234 (by decide) (fun ca => ?_) (fun ca => ?_)
                    · refine lv_iconst (v := nI 0) hx hb dX2_finds_249 (by decide) ?_
                      refine lv_iadd hx hb dX2_finds_250 ?_
                      refine lv_top (y := nI (mnd S L x + (if slW S r q cr on x y &&& 1 ≠ 0 then aWt S r else 0))) (by rw [nI_add]; exact congrArg nI (by rw [if_neg (not_not_intro ca)])) ?_
                      refine m_iast (n := 10) (j := x) hx hb hK hH hS (by decide) rfl (by first | omega | (refine Nat.lt_of_lt_of_le (Nat.mod_lt _ ?_) ?_ <;> omega)) (by decide) dX2_finds_251 (fun H locs hH hS => ?_)
                      have hM := hM.vS (k := 43) rfl x (nI (mnd S L x + (if slW S r q cr on x y &&& 1 ≠ 0 then aWt S r else 0)))
                      refine lv_aload_n hx hb dX2_finds_252 rfl (lv_at hl 1 rfl) ?_
                      refine m_get hx hb hts hown hK hH 30 (by decide) q1482 rfl (v := .ref (o + 43)) rfl dX2_finds_253 ?_
                      refine lv_iload hx hb dX2_finds_256 (lv_at hl 8 rfl) ?_
                      refine lv_dup2_11 hx hb dX2_finds_258 rfl rfl ?_
                      refine m_iald (n := 10) (j := y) (v := nI (mnd S L y)) hx hb hK hH (by decide) rfl (by first | omega | (refine Nat.lt_of_lt_of_le (Nat.mod_lt _ ?_) ?_ <;> omega)) (by decide) ((vset_ne _ _ (Ne.symm (cplL_ne hcp))).trans (hsl.2.2 y (by omega))) dX2_finds_259 ?_
                      refine lv_iload hx hb dX2_finds_260 (lv_at hl 0 rfl) ?_
                      refine lv_iconst (v := nI 2) hx hb dX2_finds_262 (by decide) ?_
                      refine lv_iand hx hb dX2_finds_263 ?_
                      refine lv_top (y := nI ((slW S r q cr on x y) &&& 2)) (bi_and _ _) ?_
                      refine lvZ_eq (tgt := 279) hx hb (by first | omega | (refine Nat.lt_of_lt_of_le (Nat.mod_lt _ ?_) ?_ <;> omega)) dX2_finds_264 (by decide) (fun cb => ?_) (fun cb => ?_)
                      · refine lv_iconst (v := nI 0) hx hb dX2_finds_279 (by decide) ?_
                        refine lv_iadd hx hb dX2_finds_280 ?_
                        refine lv_top (y := nI (mnd S L y + (if slW S r q cr on x y &&& 2 ≠ 0 then aWt S r else 0))) (by rw [nI_add]; exact congrArg nI (by rw [if_neg (not_not_intro cb)])) ?_
                        refine m_iast (n := 10) (j := y) hx hb hK hH hS (by decide) rfl (by first | omega | (refine Nat.lt_of_lt_of_le (Nat.mod_lt _ ?_) ?_ <;> omega)) (by decide) dX2_finds_281 (fun H locs hH hS => ?_)
                        have hM := hM.vS (k := 43) rfl y (nI (mnd S L y + (if slW S r q cr on x y &&& 2 ≠ 0 then aWt S r else 0)))
                        refine lv_iinc (v := nI (y + 1)) (lv' := [(7, .int (nI (y + 1))), (8, .int (nI (slW S r q cr on x y))), (0, .ref o), (1, .int (nI q)), (2, .int (nI cr)), (3, .int (nI on)), (4, .int (nI (aRp S q))), (5, .int (nI r)), (6, .int (nI x))]) hx hb dX2_finds_282 hl (k := 8) rfl (nI_add y 1) (by decide) rfl (fun ls hl => ?_)
                        refine lv_goto (tgt := 87) hx hb dX2_finds_285 (by decide) ?_
                        exact ih87 (y + 1) _ _ (by omega) H locs ls ⟨⟨by omega, fun q => by omega⟩, by rw [slC_yes hsp, ← hL]; exact slA_push hsl (cplL_ne hcp), hM, ⟨((((hkp.1.vs (by decide) _ _).vs (by decide) _ _).vs (by decide) _ _).vs (by decide) _ _).vs (by decide) _ _, hkp.2.up (by decide) _⟩, hH, hS, lv_sub hl [2, 3, 4, 5, 6, 7, 8, 0] rfl⟩
                      · refine lv_aload_n hx hb dX2_finds_267 rfl (lv_at hl 1 rfl) ?_
                        refine m_get hx hb hts hown hK hH 12 (by decide) q1464 rfl (v := .ref (o + 20)) rfl dX2_finds_268 ?_
                        refine lv_iconst (v := nI 0) hx hb dX2_finds_271 (by decide) ?_
                        refine m_rowI (k' := 21) hx hb hK hH (by decide) rfl (by decide) (by decide) rfl dX2_finds_272 ?_
                        refine lv_iload hx hb dX2_finds_273 (lv_at hl 6 rfl) ?_
                        refine m_iald (n := 12) (j := r) (v := nI (aWt S r)) hx hb hK hH (by decide) rfl (by first | omega | (refine Nat.lt_of_lt_of_le (Nat.mod_lt _ ?_) ?_ <;> omega)) (by decide) (hM.wt (by first | omega | (refine Nat.lt_of_lt_of_le (Nat.mod_lt _ ?_) ?_ <;> omega))) dX2_finds_275 ?_
                        refine lv_goto (tgt := 280) hx hb dX2_finds_276 (by decide) ?_
                        refine lv_iadd hx hb dX2_finds_280 ?_
                        refine lv_top (y := nI (mnd S L y + (if slW S r q cr on x y &&& 2 ≠ 0 then aWt S r else 0))) (by rw [nI_add]; exact congrArg nI (by rw [if_pos cb])) ?_
                        refine m_iast (n := 10) (j := y) hx hb hK hH hS (by decide) rfl (by first | omega | (refine Nat.lt_of_lt_of_le (Nat.mod_lt _ ?_) ?_ <;> omega)) (by decide) dX2_finds_281 (fun H locs hH hS => ?_)
                        have hM := hM.vS (k := 43) rfl y (nI (mnd S L y + (if slW S r q cr on x y &&& 2 ≠ 0 then aWt S r else 0)))
                        refine lv_iinc (v := nI (y + 1)) (lv' := [(7, .int (nI (y + 1))), (8, .int (nI (slW S r q cr on x y))), (0, .ref o), (1, .int (nI q)), (2, .int (nI cr)), (3, .int (nI on)), (4, .int (nI (aRp S q))), (5, .int (nI r)), (6, .int (nI x))]) hx hb dX2_finds_282 hl (k := 8) rfl (nI_add y 1) (by decide) rfl (fun ls hl => ?_)
                        refine lv_goto (tgt := 87) hx hb dX2_finds_285 (by decide) ?_
                        exact ih87 (y + 1) _ _ (by omega) H locs ls ⟨⟨by omega, fun q => by omega⟩, by rw [slC_yes hsp, ← hL]; exact slA_push hsl (cplL_ne hcp), hM, ⟨((((hkp.1.vs (by decide) _ _).vs (by decide) _ _).vs (by decide) _ _).vs (by decide) _ _).vs (by decide) _ _, hkp.2.up (by decide) _⟩, hH, hS, lv_sub hl [2, 3, 4, 5, 6, 7, 8, 0] rfl⟩
                    · refine lv_aload_n hx hb dX2_finds_237 rfl (lv_at hl 1 rfl) ?_
                      refine m_get hx hb hts hown hK hH 12 (by decide) q1464 rfl (v := .ref (o + 20)) rfl dX2_finds_238 ?_
                      refine lv_iconst (v := nI 0) hx hb dX2_finds_241 (by decide) ?_
                      refine m_rowI (k' := 21) hx hb hK hH (by decide) rfl (by decide) (by decide) rfl dX2_finds_242 ?_
                      refine lv_iload hx hb dX2_finds_243 (lv_at hl 6 rfl) ?_
                      refine m_iald (n := 12) (j := r) (v := nI (aWt S r)) hx hb hK hH (by decide) rfl (by first | omega | (refine Nat.lt_of_lt_of_le (Nat.mod_lt _ ?_) ?_ <;> omega)) (by decide) (hM.wt (by first | omega | (refine Nat.lt_of_lt_of_le (Nat.mod_lt _ ?_) ?_ <;> omega))) dX2_finds_245 ?_
                      refine lv_goto (tgt := 250) hx hb dX2_finds_246 (by decide) ?_
                      refine lv_iadd hx hb dX2_finds_250 ?_
                      refine lv_top (y := nI (mnd S L x + (if slW S r q cr on x y &&& 1 ≠ 0 then aWt S r else 0))) (by rw [nI_add]; exact congrArg nI (by rw [if_pos ca])) ?_
                      refine m_iast (n := 10) (j := x) hx hb hK hH hS (by decide) rfl (by first | omega | (refine Nat.lt_of_lt_of_le (Nat.mod_lt _ ?_) ?_ <;> omega)) (by decide) dX2_finds_251 (fun H locs hH hS => ?_)
                      have hM := hM.vS (k := 43) rfl x (nI (mnd S L x + (if slW S r q cr on x y &&& 1 ≠ 0 then aWt S r else 0)))
                      refine lv_aload_n hx hb dX2_finds_252 rfl (lv_at hl 1 rfl) ?_
                      refine m_get hx hb hts hown hK hH 30 (by decide) q1482 rfl (v := .ref (o + 43)) rfl dX2_finds_253 ?_
                      refine lv_iload hx hb dX2_finds_256 (lv_at hl 8 rfl) ?_
                      refine lv_dup2_11 hx hb dX2_finds_258 rfl rfl ?_
                      refine m_iald (n := 10) (j := y) (v := nI (mnd S L y)) hx hb hK hH (by decide) rfl (by first | omega | (refine Nat.lt_of_lt_of_le (Nat.mod_lt _ ?_) ?_ <;> omega)) (by decide) ((vset_ne _ _ (Ne.symm (cplL_ne hcp))).trans (hsl.2.2 y (by omega))) dX2_finds_259 ?_
                      refine lv_iload hx hb dX2_finds_260 (lv_at hl 0 rfl) ?_
                      refine lv_iconst (v := nI 2) hx hb dX2_finds_262 (by decide) ?_
                      refine lv_iand hx hb dX2_finds_263 ?_
                      refine lv_top (y := nI ((slW S r q cr on x y) &&& 2)) (bi_and _ _) ?_
                      refine lvZ_eq (tgt := 279) hx hb (by first | omega | (refine Nat.lt_of_lt_of_le (Nat.mod_lt _ ?_) ?_ <;> omega)) dX2_finds_264 (by decide) (fun cb => ?_) (fun cb => ?_)
                      · refine lv_iconst (v := nI 0) hx hb dX2_finds_279 (by decide) ?_
                        refine lv_iadd hx hb dX2_finds_280 ?_
                        refine lv_top (y := nI (mnd S L y + (if slW S r q cr on x y &&& 2 ≠ 0 then aWt S r else 0))) (by rw [nI_add]; exact congrArg nI (by rw [if_neg (not_not_intro cb)])) ?_
                        refine m_iast (n := 10) (j := y) hx hb hK hH hS (by decide) rfl (by first | omega | (refine Nat.lt_of_lt_of_le (Nat.mod_lt _ ?_) ?_ <;> omega)) (by decide) dX2_finds_281 (fun H locs hH hS => ?_)
                        have hM := hM.vS (k := 43) rfl y (nI (mnd S L y + (if slW S r q cr on x y &&& 2 ≠ 0 then aWt S r else 0)))
                        refine lv_iinc (v := nI (y + 1)) (lv' := [(7, .int (nI (y + 1))), (8, .int (nI (slW S r q cr on x y))), (0, .ref o), (1, .int (nI q)), (2, .int (nI cr)), (3, .int (nI on)), (4, .int (nI (aRp S q))), (5, .int (nI r)), (6, .int (nI x))]) hx hb dX2_finds_282 hl (k := 8) rfl (nI_add y 1) (by decide) rfl (fun ls hl => ?_)
                        refine lv_goto (tgt := 87) hx hb dX2_finds_285 (by decide) ?_
                        exact ih87 (y + 1) _ _ (by omega) H locs ls ⟨⟨by omega, fun q => by omega⟩, by rw [slC_yes hsp, ← hL]; exact slA_push hsl (cplL_ne hcp), hM, ⟨((((hkp.1.vs (by decide) _ _).vs (by decide) _ _).vs (by decide) _ _).vs (by decide) _ _).vs (by decide) _ _, hkp.2.up (by decide) _⟩, hH, hS, lv_sub hl [2, 3, 4, 5, 6, 7, 8, 0] rfl⟩
                      · refine lv_aload_n hx hb dX2_finds_267 rfl (lv_at hl 1 rfl) ?_
                        refine m_get hx hb hts hown hK hH 12 (by decide) q1464 rfl (v := .ref (o + 20)) rfl dX2_finds_268 ?_
                        refine lv_iconst (v := nI 0) hx hb dX2_finds_271 (by decide) ?_
                        refine m_rowI (k' := 21) hx hb hK hH (by decide) rfl (by decide) (by decide) rfl dX2_finds_272 ?_
                        refine lv_iload hx hb dX2_finds_273 (lv_at hl 6 rfl) ?_
                        refine m_iald (n := 12) (j := r) (v := nI (aWt S r)) hx hb hK hH (by decide) rfl (by first | omega | (refine Nat.lt_of_lt_of_le (Nat.mod_lt _ ?_) ?_ <;> omega)) (by decide) (hM.wt (by first | omega | (refine Nat.lt_of_lt_of_le (Nat.mod_lt _ ?_) ?_ <;> omega))) dX2_finds_275 ?_
                        refine lv_goto (tgt := 280) hx hb dX2_finds_276 (by decide) ?_
                        refine lv_iadd hx hb dX2_finds_280 ?_
                        refine lv_top (y := nI (mnd S L y + (if slW S r q cr on x y &&& 2 ≠ 0 then aWt S r else 0))) (by rw [nI_add]; exact congrArg nI (by rw [if_pos cb])) ?_
                        refine m_iast (n := 10) (j := y) hx hb hK hH hS (by decide) rfl (by first | omega | (refine Nat.lt_of_lt_of_le (Nat.mod_lt _ ?_) ?_ <;> omega)) (by decide) dX2_finds_281 (fun H locs hH hS => ?_)
                        have hM := hM.vS (k := 43) rfl y (nI (mnd S L y + (if slW S r q cr on x y &&& 2 ≠ 0 then aWt S r else 0)))
                        refine lv_iinc (v := nI (y + 1)) (lv' := [(7, .int (nI (y + 1))), (8, .int (nI (slW S r q cr on x y))), (0, .ref o), (1, .int (nI q)), (2, .int (nI cr)), (3, .int (nI on)), (4, .int (nI (aRp S q))), (5, .int (nI r)), (6, .int (nI x))]) hx hb dX2_finds_282 hl (k := 8) rfl (nI_add y 1) (by decide) rfl (fun ls hl => ?_)
                        refine lv_goto (tgt := 87) hx hb dX2_finds_285 (by decide) ?_
                        exact ih87 (y + 1) _ _ (by omega) H locs ls ⟨⟨by omega, fun q => by omega⟩, by rw [slC_yes hsp, ← hL]; exact slA_push hsl (cplL_ne hcp), hM, ⟨((((hkp.1.vs (by decide) _ _).vs (by decide) _ _).vs (by decide) _ _).vs (by decide) _ _).vs (by decide) _ _, hkp.2.up (by decide) _⟩, hH, hS, lv_sub hl [2, 3, 4, 5, 6, 7, 8, 0] rfl⟩
                  · refine lv_goto (tgt := 282) hx hb dX2_finds_176 (by decide) ?_
                    refine lv_iinc (v := nI (y + 1)) (lv' := [(7, .int (nI (y + 1))), (8, .int (nI (slW S r q cr on x y))), (0, .ref o), (1, .int (nI q)), (2, .int (nI cr)), (3, .int (nI on)), (4, .int (nI (aRp S q))), (5, .int (nI r)), (6, .int (nI x))]) hx hb dX2_finds_282 hl (k := 8) rfl (nI_add y 1) (by decide) rfl (fun ls hl => ?_)
                    refine lv_goto (tgt := 87) hx hb dX2_finds_285 (by decide) ?_
                    exact ih87 (y + 1) P U (by omega) H locs ls ⟨⟨by omega, fun q => by omega⟩, by rw [slC_no (by unfold slP; simp [cw]), ← hL]; exact hsl, hM, hkp, hH, hS, lv_sub hl [2, 3, 4, 5, 6, 7, 8, 0] rfl⟩
                · refine lv_goto (tgt := 282) hx hb dX2_finds_134 (by decide) ?_
                  refine lv_iinc (v := nI (y + 1)) (lv' := [(7, .int (nI (y + 1))), (0, .ref o), (1, .int (nI q)), (2, .int (nI cr)), (3, .int (nI on)), (4, .int (nI (aRp S q))), (5, .int (nI r)), (6, .int (nI x))]) hx hb dX2_finds_282 hl (k := 7) rfl (nI_add y 1) (by decide) rfl (fun ls hl => ?_)
                  refine lv_goto (tgt := 87) hx hb dX2_finds_285 (by decide) ?_
                  exact ih87 (y + 1) P U (by omega) H locs ls ⟨⟨by omega, fun q => by omega⟩, by rw [slC_no (by rw [cntF_sl hO (by omega) (by omega) hq cx cy hyy.2] at cf; unfold slP; simp [cf]), ← hL]; exact hsl, hM, hkp, hH, hS, lv_sub hl [1, 2, 3, 4, 5, 6, 7, 0] rfl⟩
  · refine lv_aload_n hx hb dX2_finds_23 rfl (lv_at hl 0 rfl) ?_
    refine m_get hx hb hts hown hK hH 30 (by decide) q1482 rfl (v := .ref (o + 43)) rfl dX2_finds_24 ?_
    refine lv_iload hx hb dX2_finds_27 (lv_at hl 5 rfl) ?_
    refine lv_iconst (v := nI 0) hx hb dX2_finds_29 (by decide) ?_
    refine m_iast (n := 10) (j := k) hx hb hK hH hS (by decide) rfl (by first | omega | (refine Nat.lt_of_lt_of_le (Nat.mod_lt _ ?_) ?_ <;> omega)) (by decide) dX2_finds_30 (fun H locs hH hS => ?_)
    have hM := hM.vS (k := 43) rfl k (nI 0)
    refine lv_iinc (v := nI (k + 1)) (lv' := [(5, .int (nI (k + 1))), (0, .ref o), (1, .int (nI q)), (2, .int (nI cr)), (3, .int (nI on)), (4, .int (nI (aRp S q)))]) hx hb dX2_finds_31 hl (k := 5) rfl (nI_add k 1) (by decide) rfl (fun ls hl => ?_)
    refine lv_goto (tgt := 16) hx hb dX2_finds_34 (by decide) ?_
    exact ih16 (k + 1) _ (by omega) H locs ls ⟨by omega, fun g hg => by rw [vset_in]; split; rfl; exact hz g (by omega), hM, hkp.vs (by decide) _ _, hH, hS, lv_sub hl [1, 2, 3, 4, 5, 0] rfl⟩
set_option maxHeartbeats 4000000 in
theorem mt_slights (hK0 : va_K D CL (TYS K) s0) {S : Ab} (hO : SOK S) (hM : MOK S I V) (room course what : Int32) : Met l yX2_slights (ws_ yX2_slights cX2_slights 7 ((Option.some Jvm.ClassFile.FieldType.int))) (rmk 5 0 0) (va_Pc [.ref o, .int room, .int course, .int what] (PB s0 D CL (mset h K wd o I V J))) (QR s0 D CL (fun v h1 => v = some (.int (spSlights S room course what)) ∧ ∃ P U, h1 = mset h K wd o P U J ∧ MOK S P U)) 0 0 (zA s0) := by
  refine hp_met (by decide) (Nat.le_of_ble_eq_true rfl) hK0 ?_
  intro p e s m below meth cd ls hx hb hr hlocks hml hown hnm hts hK hPB hl hS hH hA
  have hl : lv_has ls 7 [(0, .ref o), (1, .int room), (2, .int course), (3, .int what)] := hl
  have hown : s.vm.findClass RX2 = some m.cls := hown
  have hn := hO.n
  have hmk := hO.mk
  have hrl := hO.rl
  have hrm := hO.rm
  have hsz := hO.sz
  refine lv_aload_n hx hb dX2_slights_0 rfl (lv_at hl 0 rfl) ?_
  refine lv_iload_n hx hb dX2_slights_1 rfl (lv_at hl 1 rfl) ?_
  refine hp_callV (As := [.int room]) (rest := []) hx hb hml hown hts hPB hK hH hS (mt_isRoom hK0 hO hM room) mset_o rfl rfl 1 (lw_V q1788 q1790 qs72 q107 q1791) (by decide +kernel) ⟨rfl, rfl⟩ (by decide) rfl hl.1 rfl (Nat.le_of_ble_eq_true rfl) (by decide) dX2_slights_2 (fun v1 h3 H locs hp2 _ hH hS => ?_)
  obtain ⟨rfl, rfl⟩ := hp2
  refine lvB_eq (tgt := 28) hx hb dX2_slights_5 (by decide) (fun cr0 => ?_) (fun cr0 => ?_)
  · refine lv_iconst (v := (-1)) hx hb dX2_slights_28 (by decide) ?_
    exact hp_iret hx hb hr hlocks hH hS (by decide) (by decide) dX2_slights_29 (⟨congrArg some (congrArg Value.int (by simp [spSlights, cr0])), _, _, rfl, hM⟩)
  · obtain ⟨q, hq, rfl⟩ := inN_t cr0
    have eq := nI_clamp (show q < 2 ^ 31 by omega)
    refine lv_aload_n hx hb dX2_slights_8 rfl (lv_at hl 0 rfl) ?_
    refine lv_iload_n hx hb dX2_slights_9 rfl (lv_at hl 2 rfl) ?_
    refine hp_callV (As := [.int course]) (rest := []) hx hb hml hown hts hPB hK hH hS (mt_isCourse hK0 hO hM course) mset_o rfl rfl 1 (lw_V q1804 q1806 qs73 q107 q1807) (by decide +kernel) ⟨rfl, rfl⟩ (by decide) rfl hl.1 rfl (Nat.le_of_ble_eq_true rfl) (by decide) dX2_slights_10 (fun v4 h6 H locs hp5 _ hH hS => ?_)
    obtain ⟨rfl, rfl⟩ := hp5
    refine lvB_eq (tgt := 28) hx hb dX2_slights_13 (by decide) (fun cc0 => ?_) (fun cc0 => ?_)
    · refine lv_iconst (v := (-1)) hx hb dX2_slights_28 (by decide) ?_
      exact hp_iret hx hb hr hlocks hH hS (by decide) (by decide) dX2_slights_29 (⟨congrArg some (congrArg Value.int (by simp [spSlights, eq, cr0, cc0])), _, _, rfl, hM⟩)
    · obtain ⟨cr, hcr, rfl⟩ := inN_t cc0
      have ecr := nI_clamp (show cr < 2 ^ 31 by omega)
      refine lv_iload_n hx hb dX2_slights_16 rfl (lv_at hl 3 rfl) ?_
      refine lv_i2l hx hb dX2_slights_17 rfl ?_
      refine lv_lconst (v := 0) hx hb dX2_slights_18 rfl ?_
      refine lv_ldc2 (v := 2) hx hb hown (hts _ q1817) dX2_slights_19 ?_
      refine hp_callS (As := [.long (Int32.toInt64 what), .long 0, .long 2]) (rest := []) hx hb hml hown hts hPB hH hS (mt_in hK0 (Int32.toInt64 what) 0 2) 3 (lw_S q1658 q1659 q107 q1660) (by decide +kernel) ⟨rfl, rfl⟩ (by decide) rfl hl.1 rfl (Nat.le_of_ble_eq_true rfl) (by decide) dX2_slights_22 (fun v7 h9 H locs hp8 _ hH hS => ?_)
      obtain ⟨rfl, rfl⟩ := hp8
      refine lvB_ne (tgt := 30) hx hb dX2_slights_25 (by decide) (fun cw0 => ?_) (fun cw0 => ?_)
      · rw [in_k 2 rfl] at cw0
        refine lv_aload_n hx hb dX2_slights_30 rfl (lv_at hl 0 rfl) ?_
        refine lv_iload_n hx hb dX2_slights_31 rfl (lv_at hl 1 rfl) ?_
        refine lv_iload_n hx hb dX2_slights_32 rfl (lv_at hl 2 rfl) ?_
        refine lv_iconst (v := nI 0) hx hb dX2_slights_33 (by decide) ?_
        refine hp_callV (As := [.int (nI q), .int (nI cr), .int (nI 0)]) (rest := []) hx hb hml hown hts hPB hK hH hS (mt_finds hK0 hO hM (q := q) (cr := cr) (on := 0) (by omega) (by omega) (by omega)) mset_o rfl rfl 3 (lw_V q1818 q1820 qs75 q107 q1821) (by decide +kernel) ⟨rfl, rfl⟩ (by decide) rfl hl.1 rfl (Nat.le_of_ble_eq_true rfl) (by decide) dX2_slights_34 (fun v10 h12 H locs hp11 _ hH hS => ?_)
        obtain ⟨rfl, P, U, rfl, hM, hsl, hkV, hkI⟩ := hp11
        obtain ⟨L, hL⟩ : ∃ L, L = slL S q cr 0 := ⟨_, rfl⟩
        rw [← hL] at hsl
        have hlen : L.length ≤ 1200 := by rw [hL]; exact Nat.le_trans (slR_len S _ _ _ hn _) (by omega)
        refine lv_iconst (v := nI 0) hx hb dX2_slights_37 (by decide) ?_
        refine lv_istore (lv' := [(4, .int (nI 0)), (0, .ref o), (1, .int (nI q)), (2, .int (nI cr)), (3, .int what)]) hx hb dX2_slights_38 hl (by decide) rfl (fun ls hl => ?_)
        refine lv_iconst (v := nI 0) hx hb dX2_slights_40 (by decide) ?_
        refine lv_istore (lv' := [(5, .int (nI 0)), (4, .int (nI 0)), (0, .ref o), (1, .int (nI q)), (2, .int (nI cr)), (3, .int what)]) hx hb dX2_slights_41 hl (by decide) rfl (fun ls hl => ?_)
        refine lv_iconst (v := nI 0) hx hb dX2_slights_43 (by decide) ?_
        refine lv_istore (lv' := [(6, .int (nI 0)), (5, .int (nI 0)), (4, .int (nI 0)), (0, .ref o), (1, .int (nI q)), (2, .int (nI cr)), (3, .int what)]) hx hb dX2_slights_44 hl (by decide) rfl (fun ls hl => ?_)
        refine w_loop1 (fun (k : Nat) => L.length - k) (fun (k : Nat) H locs ls => (k ≤ L.length) ∧ HP D CL (zA s0) (mset h K wd o P U J) H ∧ va_S (zA s0) s.heap H locs ∧ lv_has ls 7 [(0, .ref o), (3, .int what), (4, .int (nI (slSum S L k))), (5, .int (nI (slMax S L k))), (6, .int (nI k))]) ?_ 0 ⟨Nat.zero_le _, hH, hS, lv_sub hl [3, 6, 2, 1, 0] rfl⟩
        intro k ih46 H locs ls hP
        obtain ⟨hk, hH, hS, hl⟩ := hP
        have hss := slSum_le hO hL k hk
        refine lv_iload hx hb dX2_slights_46 (lv_at hl 4 rfl) ?_
        refine lv_aload_n hx hb dX2_slights_48 rfl (lv_at hl 0 rfl) ?_
        refine m_get hx hb hts hown hK hH 31 (by decide) q1483 rfl (v := .int (nI L.length)) (congrArg Value.int (hsl.1)) dX2_slights_49 ?_
        refine lvN_ge (tgt := 101) hx hb (by first | omega | (refine Nat.lt_of_lt_of_le (Nat.mod_lt _ ?_) ?_ <;> omega)) (by first | omega | (refine Nat.lt_of_lt_of_le (Nat.mod_lt _ ?_) ?_ <;> omega)) dX2_slights_52 (by decide) (fun c13 => ?_) (fun c13 => ?_)
        · have ek : k = L.length := by omega
          refine lv_iload_n hx hb dX2_slights_101 rfl (lv_at hl 1 rfl) ?_
          refine lv_if_ne (tgt := 110) hx hb dX2_slights_102 (by decide) (fun cz => ?_) (fun cz => ?_)
          · have cz : ¬ what = nI 0 := cz
            refine lv_iload_n hx hb dX2_slights_110 rfl (lv_at hl 1 rfl) ?_
            refine lv_iconst (v := nI 1) hx hb dX2_slights_111 (by decide) ?_
            refine lv_icmp_ne (tgt := 122) hx hb dX2_slights_112 (by decide) (fun c1 => ?_) (fun c1 => ?_)
            · refine lv_iload hx hb dX2_slights_122 (lv_at hl 3 rfl) ?_
              exact hp_iret hx hb hr hlocks hH hS (by decide) (by decide) dX2_slights_124 (⟨congrArg some (congrArg Value.int (by rw [ek, hL]; simp [spSlights, eq, ecr, cr0, cc0, cw0, cz, c1])), _, _, rfl, hM⟩)
            · refine lv_aload_n hx hb dX2_slights_115 rfl (lv_at hl 0 rfl) ?_
              refine m_get hx hb hts hown hK hH 31 (by decide) q1483 rfl (v := .int (nI L.length)) (congrArg Value.int (hsl.1)) dX2_slights_116 ?_
              refine lv_goto (tgt := 124) hx hb dX2_slights_119 (by decide) ?_
              exact hp_iret hx hb hr hlocks hH hS (by decide) (by decide) dX2_slights_124 (⟨congrArg some (congrArg Value.int (by subst c1; rw [hL]; simp [spSlights, eq, ecr, cr0, cc0, cw0, nIne])), _, _, rfl, hM⟩)
          · have cz : what = nI 0 := cz
            refine lv_iload hx hb dX2_slights_105 (lv_at hl 2 rfl) ?_
            refine lv_goto (tgt := 124) hx hb dX2_slights_107 (by decide) ?_
            exact hp_iret hx hb hr hlocks hH hS (by decide) (by decide) dX2_slights_124 (⟨congrArg some (congrArg Value.int (by subst cz; rw [ek, hL]; simp [spSlights, eq, ecr, cr0, cc0, cw0])), _, _, rfl, hM⟩)
        · refine lv_iload hx hb dX2_slights_55 (lv_at hl 2 rfl) ?_
          refine lv_aload_n hx hb dX2_slights_57 rfl (lv_at hl 0 rfl) ?_
          refine m_get hx hb hts hown hK hH 12 (by decide) q1464 rfl (v := .ref (o + 20)) rfl dX2_slights_58 ?_
          refine lv_iconst (v := nI 0) hx hb dX2_slights_61 (by decide) ?_
          refine m_rowI (k' := 21) hx hb hK hH (by decide) rfl (by decide) (by decide) rfl dX2_slights_62 ?_
          refine lv_aload_n hx hb dX2_slights_63 rfl (lv_at hl 0 rfl) ?_
          refine m_get hx hb hts hown hK hH 27 (by decide) q1479 rfl (v := .ref (o + 40)) rfl dX2_slights_64 ?_
          have hlk := slL_at hL (k := k) (by omega)
          have hwt := hO.wt hlk.1
          refine lv_iload hx hb dX2_slights_67 (lv_at hl 4 rfl) ?_
          refine m_iald (n := 1200) (j := k) (v := nI ((L.getD k t4).1)) hx hb hK hH (by decide) rfl (by first | omega | (refine Nat.lt_of_lt_of_le (Nat.mod_lt _ ?_) ?_ <;> omega)) (by decide) ((hsl.2.1 k _ (getD_at (by omega))).1) dX2_slights_69 ?_
          refine m_iald (n := 12) (j := (L.getD k t4).1) (v := nI (aWt S ((L.getD k t4).1))) hx hb hK hH (by decide) rfl (by first | omega | (refine Nat.lt_of_lt_of_le (Nat.mod_lt _ ?_) ?_ <;> omega)) (by decide) (hM.wt (by first | omega | (refine Nat.lt_of_lt_of_le (Nat.mod_lt _ ?_) ?_ <;> omega))) dX2_slights_70 ?_
          refine lv_iadd hx hb dX2_slights_71 ?_
          refine lv_top (y := nI ((slSum S L k) + (aWt S ((L.getD k t4).1)))) (nI_add _ _) ?_
          refine lv_istore (lv' := [(4, .int (nI ((slSum S L k) + (aWt S ((L.getD k t4).1))))), (0, .ref o), (3, .int what), (5, .int (nI (slMax S L k))), (6, .int (nI k))]) hx hb dX2_slights_72 hl (by decide) rfl (fun ls hl => ?_)
          refine lv_iload hx hb dX2_slights_74 (lv_at hl 3 rfl) ?_
          refine lv_aload_n hx hb dX2_slights_76 rfl (lv_at hl 1 rfl) ?_
          refine m_get hx hb hts hown hK hH 12 (by decide) q1464 rfl (v := .ref (o + 20)) rfl dX2_slights_77 ?_
          refine lv_iconst (v := nI 0) hx hb dX2_slights_80 (by decide) ?_
          refine m_rowI (k' := 21) hx hb hK hH (by decide) rfl (by decide) (by decide) rfl dX2_slights_81 ?_
          refine lv_aload_n hx hb dX2_slights_82 rfl (lv_at hl 1 rfl) ?_
          refine m_get hx hb hts hown hK hH 27 (by decide) q1479 rfl (v := .ref (o + 40)) rfl dX2_slights_83 ?_
          refine lv_iload hx hb dX2_slights_86 (lv_at hl 4 rfl) ?_
          refine m_iald (n := 1200) (j := k) (v := nI ((L.getD k t4).1)) hx hb hK hH (by decide) rfl (by first | omega | (refine Nat.lt_of_lt_of_le (Nat.mod_lt _ ?_) ?_ <;> omega)) (by decide) ((hsl.2.1 k _ (getD_at (by omega))).1) dX2_slights_88 ?_
          refine m_iald (n := 12) (j := (L.getD k t4).1) (v := nI (aWt S ((L.getD k t4).1))) hx hb hK hH (by decide) rfl (by first | omega | (refine Nat.lt_of_lt_of_le (Nat.mod_lt _ ?_) ?_ <;> omega)) (by decide) (hM.wt (by first | omega | (refine Nat.lt_of_lt_of_le (Nat.mod_lt _ ?_) ?_ <;> omega))) dX2_slights_89 ?_
          refine va_mmax hx hb (hml.trans hl.1.symm) hown (hts _ q1839) (hts _ q409) (hts _ q114) (hts _ q410) (Nat.le_of_ble_eq_true rfl) (Nat.le_of_ble_eq_true rfl) (Nat.le_of_ble_eq_true rfl) (Nat.le_of_ble_eq_true rfl) dX2_slights_90 ?_
          refine lv_top (y := nI (max (slMax S L k) (aWt S ((L.getD k t4).1)))) (i_maxN (by first | omega | (refine Nat.lt_of_lt_of_le (Nat.mod_lt _ ?_) ?_ <;> omega)) (by first | omega | (refine Nat.lt_of_lt_of_le (Nat.mod_lt _ ?_) ?_ <;> omega))) ?_
          refine lv_istore (lv' := [(5, .int (nI (max (slMax S L k) (aWt S ((L.getD k t4).1))))), (4, .int (nI ((slSum S L k) + (aWt S ((L.getD k t4).1))))), (0, .ref o), (3, .int what), (6, .int (nI k))]) hx hb dX2_slights_93 hl (by decide) rfl (fun ls hl => ?_)
          refine lv_iinc (v := nI (k + 1)) (lv' := [(6, .int (nI (k + 1))), (5, .int (nI (max (slMax S L k) (aWt S ((L.getD k t4).1))))), (4, .int (nI ((slSum S L k) + (aWt S ((L.getD k t4).1))))), (0, .ref o), (3, .int what)]) hx hb dX2_slights_95 hl (k := 4) rfl (nI_add k 1) (by decide) rfl (fun ls hl => ?_)
          refine lv_goto (tgt := 46) hx hb dX2_slights_98 (by decide) ?_
          exact ih46 (k + 1) (by omega) H locs ls ⟨by omega, hH, hS, lv_sub hl [3, 4, 2, 1, 0] rfl⟩
      · rw [in_k 2 rfl] at cw0
        refine lv_iconst (v := (-1)) hx hb dX2_slights_28 (by decide) ?_
        exact hp_iret hx hb hr hlocks hH hS (by decide) (by decide) dX2_slights_29 (⟨congrArg some (congrArg Value.int (by simp [spSlights, eq, ecr, cr0, cc0, cw0])), _, _, rfl, hM⟩)
set_option maxHeartbeats 4000000 in
theorem mt_sourceOf (hK0 : va_K D CL (TYS K) s0) {S : Ab} (hO : SOK S) (hM : MOK S I V) {x : Nat} {y : Nat} {wo : Nat} (hx0 : x < aN S) (hy0 : y < aN S) (hwo : wo < 4096) (room : Int32) : Met l yX2_sourceOf (ws_ yX2_sourceOf cX2_sourceOf 7 ((Option.some Jvm.ClassFile.FieldType.int))) (rmk 4 0 0) (va_Pc [.ref o, .int room, .int (nI x), .int (nI y), .int (nI wo)] (PB s0 D CL (mset h K wd o I V J))) (QR s0 D CL (fun v h1 => v = some (.int (src S room x y wo)) ∧ h1 = mset h K wd o I V J)) 0 0 (zA s0) := by
  refine hp_met (by decide) (Nat.le_of_ble_eq_true rfl) hK0 ?_
  intro p e s m below meth cd ls hx hb hr hlocks hml hown hnm hts hK hPB hl hS hH hA
  have hl : lv_has ls 7 [(0, .ref o), (1, .int room), (2, .int (nI x)), (3, .int (nI y)), (4, .int (nI wo))] := hl
  have hown : s.vm.findClass RX2 = some m.cls := hown
  have hn := hO.n
  have hmk := hO.mk
  have hrl := hO.rl
  have hrm := hO.rm
  have hsz := hO.sz
  refine lv_iconst (v := (-1)) hx hb dX2_sourceOf_0 (by decide) ?_
  refine lv_istore (lv' := [(5, .int (-1)), (0, .ref o), (1, .int room), (2, .int (nI x)), (3, .int (nI y)), (4, .int (nI wo))]) hx hb dX2_sourceOf_1 hl (by decide) rfl (fun ls hl => ?_)
  refine lv_iconst (v := nI 0) hx hb dX2_sourceOf_3 (by decide) ?_
  refine lv_istore (lv' := [(6, .int (nI 0)), (5, .int (-1)), (0, .ref o), (1, .int room), (2, .int (nI x)), (3, .int (nI y)), (4, .int (nI wo))]) hx hb dX2_sourceOf_4 hl (by decide) rfl (fun ls hl => ?_)
  refine w_loop1 (fun (r : Nat) => aRl S - r) (fun (r : Nat) H locs ls => (r ≤ aRl S) ∧ HP D CL (zA s0) (mset h K wd o I V J) H ∧ va_S (zA s0) s.heap H locs ∧ lv_has ls 7 [(0, .ref o), (1, .int room), (2, .int (nI x)), (3, .int (nI y)), (4, .int (nI wo)), (5, .int (srcF S room x y wo r)), (6, .int (nI r))]) ?_ 0 ⟨Nat.zero_le _, hH, hS, lv_sub hl [2, 3, 4, 5, 6, 1, 0] rfl⟩
  intro r ih6 H locs ls hP
  obtain ⟨hrr, hH, hS, hl⟩ := hP
  refine lv_iload hx hb dX2_sourceOf_6 (lv_at hl 6 rfl) ?_
  refine lv_aload_n hx hb dX2_sourceOf_8 rfl (lv_at hl 0 rfl) ?_
  refine m_get hx hb hts hown hK hH 17 (by decide) q1469 rfl (v := .ref (o + 31)) rfl dX2_sourceOf_9 ?_
  refine lv_iconst (v := nI 0) hx hb dX2_sourceOf_12 (by decide) ?_
  refine m_iald (n := 2) (j := 0) (v := nI (aRl S)) hx hb hK hH (by decide) rfl (by first | omega | (refine Nat.lt_of_lt_of_le (Nat.mod_lt _ ?_) ?_ <;> omega)) (by decide) (hM.rl) dX2_sourceOf_13 ?_
  refine lvN_ge (tgt := 88) hx hb (by first | omega | (refine Nat.lt_of_lt_of_le (Nat.mod_lt _ ?_) ?_ <;> omega)) (by first | omega | (refine Nat.lt_of_lt_of_le (Nat.mod_lt _ ?_) ?_ <;> omega)) dX2_sourceOf_14 (by decide) (fun c1 => ?_) (fun c1 => ?_)
  · have er : r = aRl S := by omega
    rw [er] at hl
    refine lv_iload hx hb dX2_sourceOf_88 (lv_at hl 5 rfl) ?_
    exact hp_iret hx hb hr hlocks hH hS (by decide) (by decide) dX2_sourceOf_90 (⟨rfl, rfl⟩)
  · have hkd := hO.kd (r := r) (by omega)
    refine lv_aload_n hx hb dX2_sourceOf_17 rfl (lv_at hl 0 rfl) ?_
    refine m_get hx hb hts hown hK hH 9 (by decide) q1461 rfl (v := .ref (o + 11)) rfl dX2_sourceOf_18 ?_
    refine lv_iconst (v := nI 0) hx hb dX2_sourceOf_21 (by decide) ?_
    refine m_rowI (k' := 12) hx hb hK hH (by decide) rfl (by decide) (by decide) rfl dX2_sourceOf_22 ?_
    refine lv_iload hx hb dX2_sourceOf_23 (lv_at hl 6 rfl) ?_
    refine m_iald (n := 12) (j := r) (v := nI (aKd S r)) hx hb hK hH (by decide) rfl (by first | omega | (refine Nat.lt_of_lt_of_le (Nat.mod_lt _ ?_) ?_ <;> omega)) (by decide) (hM.kd (by first | omega | (refine Nat.lt_of_lt_of_le (Nat.mod_lt _ ?_) ?_ <;> omega))) dX2_sourceOf_25 ?_
    refine lvZ_ne (tgt := 82) hx hb (by first | omega | (refine Nat.lt_of_lt_of_le (Nat.mod_lt _ ?_) ?_ <;> omega)) dX2_sourceOf_26 (by decide) (fun ck => ?_) (fun ck => ?_)
    · rw [show srcF S room x y wo r = srcF S room x y wo (r + 1) from Eq.symm (if_neg (fun q => ck q.1))] at hl
      refine lv_iinc (v := nI (r + 1)) (lv' := [(6, .int (nI (r + 1))), (0, .ref o), (1, .int room), (2, .int (nI x)), (3, .int (nI y)), (4, .int (nI wo)), (5, .int (srcF S room x y wo (r + 1)))]) hx hb dX2_sourceOf_82 hl (k := 6) rfl (nI_add r 1) (by decide) rfl (fun ls hl => ?_)
      refine lv_goto (tgt := 6) hx hb dX2_sourceOf_85 (by decide) ?_
      exact ih6 (r + 1) (by omega) H locs ls ⟨by omega, hH, hS, lv_sub hl [1, 2, 3, 4, 5, 6, 0] rfl⟩
    · refine lv_iload hx hb dX2_sourceOf_29 (lv_at hl 4 rfl) ?_
      refine lv_iload hx hb dX2_sourceOf_31 (lv_at hl 6 rfl) ?_
      refine lv_ishr hx hb dX2_sourceOf_33 ?_
      refine lv_top (y := nI (wo / 2 ^ r)) (bi_shr (by first | omega | (refine Nat.lt_of_lt_of_le (Nat.mod_lt _ ?_) ?_ <;> omega)) (by first | omega | (refine Nat.lt_of_lt_of_le (Nat.mod_lt _ ?_) ?_ <;> omega))) ?_
      refine lv_iconst (v := nI 1) hx hb dX2_sourceOf_34 (by decide) ?_
      refine lv_iand hx hb dX2_sourceOf_35 ?_
      refine lv_top (y := zI (Nat.testBit wo r)) ((bi_and _ _).trans (bi_z _ _)) ?_
      refine lvB_ne (tgt := 82) hx hb dX2_sourceOf_36 (by decide) (fun cb => ?_) (fun cb => ?_)
      · rw [show srcF S room x y wo r = srcF S room x y wo (r + 1) from Eq.symm (if_neg (fun q => by rw [cb] at q; cases q.2.1))] at hl
        refine lv_iinc (v := nI (r + 1)) (lv' := [(6, .int (nI (r + 1))), (0, .ref o), (1, .int room), (2, .int (nI x)), (3, .int (nI y)), (4, .int (nI wo)), (5, .int (srcF S room x y wo (r + 1)))]) hx hb dX2_sourceOf_82 hl (k := 6) rfl (nI_add r 1) (by decide) rfl (fun ls hl => ?_)
        refine lv_goto (tgt := 6) hx hb dX2_sourceOf_85 (by decide) ?_
        exact ih6 (r + 1) (by omega) H locs ls ⟨by omega, hH, hS, lv_sub hl [1, 2, 3, 4, 5, 6, 0] rfl⟩
      · refine lv_aload_n hx hb dX2_sourceOf_39 rfl (lv_at hl 0 rfl) ?_
        refine lv_iload hx hb dX2_sourceOf_40 (lv_at hl 6 rfl) ?_
        refine lv_iload_n hx hb dX2_sourceOf_42 rfl (lv_at hl 1 rfl) ?_
        refine lv_iload_n hx hb dX2_sourceOf_43 rfl (lv_at hl 2 rfl) ?_
        refine lv_iload_n hx hb dX2_sourceOf_44 rfl (lv_at hl 3 rfl) ?_
        refine hp_callV (As := [.int (nI r), .int room, .int (nI x), .int (nI y)]) (rest := []) hx hb hml hown hts hPB hK hH hS (mt_countsFor hK0 hO hM (r := r) (x := x) (y := y) (by omega) (by omega) (by omega) room) mset_o rfl rfl 4 (lw_V q1822 q1824 qs76 q107 q1825) (by decide +kernel) ⟨rfl, rfl⟩ (by decide) rfl hl.1 rfl (Nat.le_of_ble_eq_true rfl) (by decide) dX2_sourceOf_45 (fun v2 h4 H locs hp3 _ hH hS => ?_)
        obtain ⟨rfl, rfl⟩ := hp3
        refine lvB_eq (tgt := 82) hx hb dX2_sourceOf_48 (by decide) (fun cc => ?_) (fun cc => ?_)
        · rw [show srcF S room x y wo r = srcF S room x y wo (r + 1) from Eq.symm (if_neg (fun q => by rw [cc] at q; cases q.2.2.1))] at hl
          refine lv_iinc (v := nI (r + 1)) (lv' := [(6, .int (nI (r + 1))), (0, .ref o), (1, .int room), (2, .int (nI x)), (3, .int (nI y)), (4, .int (nI wo)), (5, .int (srcF S room x y wo (r + 1)))]) hx hb dX2_sourceOf_82 hl (k := 6) rfl (nI_add r 1) (by decide) rfl (fun ls hl => ?_)
          refine lv_goto (tgt := 6) hx hb dX2_sourceOf_85 (by decide) ?_
          exact ih6 (r + 1) (by omega) H locs ls ⟨by omega, hH, hS, lv_sub hl [1, 2, 3, 4, 5, 6, 0] rfl⟩
        · refine lv_iload hx hb dX2_sourceOf_51 (lv_at hl 5 rfl) ?_
          refine lv_iconst (v := (-1)) hx hb dX2_sourceOf_53 (by decide) ?_
          refine lv_icmp_eq (tgt := 78) hx hb dX2_sourceOf_54 (by decide) (fun ce => ?_) (fun ce => ?_)
          · refine lv_iload hx hb dX2_sourceOf_78 (lv_at hl 6 rfl) ?_
            refine lv_top (y := srcF S room x y wo (r + 1)) (Eq.symm (if_pos ⟨ck, cb, cc, Or.inl ce⟩)) ?_
            refine lv_istore (lv' := [(5, .int (srcF S room x y wo (r + 1))), (0, .ref o), (1, .int room), (2, .int (nI x)), (3, .int (nI y)), (4, .int (nI wo)), (6, .int (nI r))]) hx hb dX2_sourceOf_80 hl (by decide) rfl (fun ls hl => ?_)
            refine lv_iinc (v := nI (r + 1)) (lv' := [(6, .int (nI (r + 1))), (5, .int (srcF S room x y wo (r + 1))), (0, .ref o), (1, .int room), (2, .int (nI x)), (3, .int (nI y)), (4, .int (nI wo))]) hx hb dX2_sourceOf_82 hl (k := 6) rfl (nI_add r 1) (by decide) rfl (fun ls hl => ?_)
            refine lv_goto (tgt := 6) hx hb dX2_sourceOf_85 (by decide) ?_
            exact ih6 (r + 1) (by omega) H locs ls ⟨by omega, hH, hS, lv_sub hl [2, 3, 4, 5, 6, 1, 0] rfl⟩
          · obtain ⟨b, hb9, eb⟩ := (srcF_lt S room x y wo r).resolve_left ce
            have ebc := nI_clamp (show b < 2 ^ 31 by omega)
            have hwb := hO.wt (r := b) (by omega)
            have hwr := hO.wt (r := r) (by omega)
            refine lv_aload_n hx hb dX2_sourceOf_57 rfl (lv_at hl 0 rfl) ?_
            refine m_get hx hb hts hown hK hH 12 (by decide) q1464 rfl (v := .ref (o + 20)) rfl dX2_sourceOf_58 ?_
            refine lv_iconst (v := nI 0) hx hb dX2_sourceOf_61 (by decide) ?_
            refine m_rowI (k' := 21) hx hb hK hH (by decide) rfl (by decide) (by decide) rfl dX2_sourceOf_62 ?_
            refine lv_iload hx hb dX2_sourceOf_63 (lv_at hl 6 rfl) ?_
            refine m_iald (n := 12) (j := r) (v := nI (aWt S r)) hx hb hK hH (by decide) rfl (by first | omega | (refine Nat.lt_of_lt_of_le (Nat.mod_lt _ ?_) ?_ <;> omega)) (by decide) (hM.wt (by first | omega | (refine Nat.lt_of_lt_of_le (Nat.mod_lt _ ?_) ?_ <;> omega))) dX2_sourceOf_65 ?_
            refine lv_aload_n hx hb dX2_sourceOf_66 rfl (lv_at hl 0 rfl) ?_
            refine m_get hx hb hts hown hK hH 12 (by decide) q1464 rfl (v := .ref (o + 20)) rfl dX2_sourceOf_67 ?_
            refine lv_iconst (v := nI 0) hx hb dX2_sourceOf_70 (by decide) ?_
            refine m_rowI (k' := 21) hx hb hK hH (by decide) rfl (by decide) (by decide) rfl dX2_sourceOf_71 ?_
            refine lv_iload hx hb dX2_sourceOf_72 (lv_at hl 5 rfl) ?_
            refine lv_top (y := nI b) (eb) ?_
            refine m_iald (n := 12) (j := b) (v := nI (aWt S b)) hx hb hK hH (by decide) rfl (by first | omega | (refine Nat.lt_of_lt_of_le (Nat.mod_lt _ ?_) ?_ <;> omega)) (by decide) (hM.wt (by first | omega | (refine Nat.lt_of_lt_of_le (Nat.mod_lt _ ?_) ?_ <;> omega))) dX2_sourceOf_74 ?_
            refine lvN_le (tgt := 82) hx hb (by first | omega | (refine Nat.lt_of_lt_of_le (Nat.mod_lt _ ?_) ?_ <;> omega)) (by first | omega | (refine Nat.lt_of_lt_of_le (Nat.mod_lt _ ?_) ?_ <;> omega)) dX2_sourceOf_75 (by decide) (fun cw => ?_) (fun cw => ?_)
            · rw [show srcF S room x y wo r = srcF S room x y wo (r + 1) from Eq.symm (if_neg (fun q => q.2.2.2.elim ce (fun z => by rw [eb, ebc] at z; omega)))] at hl
              refine lv_iinc (v := nI (r + 1)) (lv' := [(6, .int (nI (r + 1))), (0, .ref o), (1, .int room), (2, .int (nI x)), (3, .int (nI y)), (4, .int (nI wo)), (5, .int (srcF S room x y wo (r + 1)))]) hx hb dX2_sourceOf_82 hl (k := 6) rfl (nI_add r 1) (by decide) rfl (fun ls hl => ?_)
              refine lv_goto (tgt := 6) hx hb dX2_sourceOf_85 (by decide) ?_
              exact ih6 (r + 1) (by omega) H locs ls ⟨by omega, hH, hS, lv_sub hl [1, 2, 3, 4, 5, 6, 0] rfl⟩
            · refine lv_iload hx hb dX2_sourceOf_78 (lv_at hl 6 rfl) ?_
              refine lv_top (y := srcF S room x y wo (r + 1)) (Eq.symm (if_pos ⟨ck, cb, cc, Or.inr (by rw [eb, ebc]; exact cw)⟩)) ?_
              refine lv_istore (lv' := [(5, .int (srcF S room x y wo (r + 1))), (0, .ref o), (1, .int room), (2, .int (nI x)), (3, .int (nI y)), (4, .int (nI wo)), (6, .int (nI r))]) hx hb dX2_sourceOf_80 hl (by decide) rfl (fun ls hl => ?_)
              refine lv_iinc (v := nI (r + 1)) (lv' := [(6, .int (nI (r + 1))), (5, .int (srcF S room x y wo (r + 1))), (0, .ref o), (1, .int room), (2, .int (nI x)), (3, .int (nI y)), (4, .int (nI wo))]) hx hb dX2_sourceOf_82 hl (k := 6) rfl (nI_add r 1) (by decide) rfl (fun ls hl => ?_)
              refine lv_goto (tgt := 6) hx hb dX2_sourceOf_85 (by decide) ?_
              exact ih6 (r + 1) (by omega) H locs ls ⟨by omega, hH, hS, lv_sub hl [2, 3, 4, 5, 6, 1, 0] rfl⟩
set_option maxHeartbeats 4000000 in
theorem mt_slight (hK0 : va_K D CL (TYS K) s0) {S : Ab} (hO : SOK S) (hM : MOK S I V) (room course k what : Int32) : Met l yX2_slight (ws_ yX2_slight cX2_slight 5 ((Option.some Jvm.ClassFile.FieldType.int))) (rmk 5 0 0) (va_Pc [.ref o, .int room, .int course, .int k, .int what] (PB s0 D CL (mset h K wd o I V J))) (QR s0 D CL (fun v h1 => v = some (.int (spSlight S room course k what)) ∧ ∃ P U, h1 = mset h K wd o P U J ∧ MOK S P U)) 0 0 (zA s0) := by
  refine hp_met (by decide) (Nat.le_of_ble_eq_true rfl) hK0 ?_
  intro p e s m below meth cd ls hx hb hr hlocks hml hown hnm hts hK hPB hl hS hH hA
  have hl : lv_has ls 5 [(0, .ref o), (1, .int room), (2, .int course), (3, .int k), (4, .int what)] := hl
  have hown : s.vm.findClass RX2 = some m.cls := hown
  have hn := hO.n
  have hmk := hO.mk
  have hrl := hO.rl
  have hrm := hO.rm
  have hsz := hO.sz
  refine lv_aload_n hx hb dX2_slight_0 rfl (lv_at hl 0 rfl) ?_
  refine lv_iload_n hx hb dX2_slight_1 rfl (lv_at hl 1 rfl) ?_
  refine hp_callV (As := [.int room]) (rest := []) hx hb hml hown hts hPB hK hH hS (mt_isRoom hK0 hO hM room) mset_o rfl rfl 1 (lw_V q1788 q1790 qs72 q107 q1791) (by decide +kernel) ⟨rfl, rfl⟩ (by decide) rfl hl.1 rfl (Nat.le_of_ble_eq_true rfl) (by decide) dX2_slight_2 (fun v1 h3 H locs hp2 _ hH hS => ?_)
  obtain ⟨rfl, rfl⟩ := hp2
  refine lvB_eq (tgt := 29) hx hb dX2_slight_5 (by decide) (fun cr0 => ?_) (fun cr0 => ?_)
  · refine lv_iconst (v := (-1)) hx hb dX2_slight_29 (by decide) ?_
    exact hp_iret hx hb hr hlocks hH hS (by decide) (by decide) dX2_slight_30 (⟨congrArg some (congrArg Value.int (by simp [spSlight, cr0])), _, _, rfl, hM⟩)
  · obtain ⟨q, hq, rfl⟩ := inN_t cr0
    have eq := nI_clamp (show q < 2 ^ 31 by omega)
    refine lv_aload_n hx hb dX2_slight_8 rfl (lv_at hl 0 rfl) ?_
    refine lv_iload_n hx hb dX2_slight_9 rfl (lv_at hl 2 rfl) ?_
    refine hp_callV (As := [.int course]) (rest := []) hx hb hml hown hts hPB hK hH hS (mt_isCourse hK0 hO hM course) mset_o rfl rfl 1 (lw_V q1804 q1806 qs73 q107 q1807) (by decide +kernel) ⟨rfl, rfl⟩ (by decide) rfl hl.1 rfl (Nat.le_of_ble_eq_true rfl) (by decide) dX2_slight_10 (fun v4 h6 H locs hp5 _ hH hS => ?_)
    obtain ⟨rfl, rfl⟩ := hp5
    refine lvB_eq (tgt := 29) hx hb dX2_slight_13 (by decide) (fun cc0 => ?_) (fun cc0 => ?_)
    · refine lv_iconst (v := (-1)) hx hb dX2_slight_29 (by decide) ?_
      exact hp_iret hx hb hr hlocks hH hS (by decide) (by decide) dX2_slight_30 (⟨congrArg some (congrArg Value.int (by simp [spSlight, eq, cr0, cc0])), _, _, rfl, hM⟩)
    · obtain ⟨cr, hcr, rfl⟩ := inN_t cc0
      have ecr := nI_clamp (show cr < 2 ^ 31 by omega)
      refine lv_iload hx hb dX2_slight_16 (lv_at hl 4 rfl) ?_
      refine lv_i2l hx hb dX2_slight_18 rfl ?_
      refine lv_lconst (v := 0) hx hb dX2_slight_19 rfl ?_
      refine lv_ldc2 (v := 3) hx hb hown (hts _ q1844) dX2_slight_20 ?_
      refine hp_callS (As := [.long (Int32.toInt64 what), .long 0, .long 3]) (rest := []) hx hb hml hown hts hPB hH hS (mt_in hK0 (Int32.toInt64 what) 0 3) 3 (lw_S q1658 q1659 q107 q1660) (by decide +kernel) ⟨rfl, rfl⟩ (by decide) rfl hl.1 rfl (Nat.le_of_ble_eq_true rfl) (by decide) dX2_slight_23 (fun v7 h9 H locs hp8 _ hH hS => ?_)
      obtain ⟨rfl, rfl⟩ := hp8
      refine lvB_ne (tgt := 31) hx hb dX2_slight_26 (by decide) (fun cw0 => ?_) (fun cw0 => ?_)
      · rw [in_k 3 rfl] at cw0
        refine lv_aload_n hx hb dX2_slight_31 rfl (lv_at hl 0 rfl) ?_
        refine lv_iload_n hx hb dX2_slight_32 rfl (lv_at hl 1 rfl) ?_
        refine lv_iload_n hx hb dX2_slight_33 rfl (lv_at hl 2 rfl) ?_
        refine lv_iconst (v := nI 0) hx hb dX2_slight_34 (by decide) ?_
        refine hp_callV (As := [.int (nI q), .int (nI cr), .int (nI 0)]) (rest := []) hx hb hml hown hts hPB hK hH hS (mt_finds hK0 hO hM (q := q) (cr := cr) (on := 0) (by omega) (by omega) (by omega)) mset_o rfl rfl 3 (lw_V q1818 q1820 qs75 q107 q1821) (by decide +kernel) ⟨rfl, rfl⟩ (by decide) rfl hl.1 rfl (Nat.le_of_ble_eq_true rfl) (by decide) dX2_slight_35 (fun v10 h12 H locs hp11 _ hH hS => ?_)
        obtain ⟨rfl, P, U, rfl, hM, hsl, hkV, hkI⟩ := hp11
        obtain ⟨L, hL⟩ : ∃ L, L = slL S q cr 0 := ⟨_, rfl⟩
        rw [← hL] at hsl
        have hlen : L.length ≤ 1200 := by rw [hL]; exact Nat.le_trans (slR_len S _ _ _ hn _) (by omega)
        refine lv_iload_n hx hb dX2_slight_38 rfl (lv_at hl 3 rfl) ?_
        refine lv_i2l hx hb dX2_slight_39 rfl ?_
        refine lv_lconst (v := 0) hx hb dX2_slight_40 rfl ?_
        refine lv_aload_n hx hb dX2_slight_41 rfl (lv_at hl 0 rfl) ?_
        refine m_get hx hb hts hown hK hH 31 (by decide) q1483 rfl (v := .int (nI L.length)) (congrArg Value.int (hsl.1)) dX2_slight_42 ?_
        refine lv_iconst (v := nI 1) hx hb dX2_slight_45 (by decide) ?_
        refine lv_isub hx hb dX2_slight_46 ?_
        refine lv_i2l hx hb dX2_slight_47 rfl ?_
        refine hp_callS (As := [.long (Int32.toInt64 k), .long 0, .long (Int32.toInt64 ((nI L.length) - (nI 1)))]) (rest := []) hx hb hml hown hts hPB hH hS (mt_in hK0 (Int32.toInt64 k) 0 (Int32.toInt64 ((nI L.length) - (nI 1)))) 3 (lw_S q1658 q1659 q107 q1660) (by decide +kernel) ⟨rfl, rfl⟩ (by decide) rfl hl.1 rfl (Nat.le_of_ble_eq_true rfl) (by decide) dX2_slight_48 (fun v13 h15 H locs hp14 _ hH hS => ?_)
        obtain ⟨rfl, rfl⟩ := hp14
        refine lvB_ne (tgt := 56) hx hb dX2_slight_51 (by decide) (fun ck0 => ?_) (fun ck0 => ?_)
        · rw [in_n (by omega)] at ck0
          obtain ⟨k, hk, rfl⟩ := inN_t ck0
          have ek := nI_clamp (show k < 2 ^ 31 by omega)
          have hlk := slL_at hL (k := k) (by omega)
          have hka := hsl.2.1 k _ (getD_at (by omega))
          have hkd := hO.kd hlk.1
          refine lv_iload hx hb dX2_slight_56 (lv_at hl 4 rfl) ?_
          refine lv_iconst (v := nI 3) hx hb dX2_slight_58 (by decide) ?_
          refine lv_icmp_ge (tgt := 98) hx hb dX2_slight_59 (by decide) (fun c3 => ?_) (fun c3 => ?_)
          · refine lv_aload_n hx hb dX2_slight_98 rfl (lv_at hl 0 rfl) ?_
            refine m_get hx hb hts hown hK hH 9 (by decide) q1461 rfl (v := .ref (o + 11)) rfl dX2_slight_99 ?_
            refine lv_iconst (v := nI 0) hx hb dX2_slight_102 (by decide) ?_
            refine m_rowI (k' := 12) hx hb hK hH (by decide) rfl (by decide) (by decide) rfl dX2_slight_103 ?_
            refine lv_aload_n hx hb dX2_slight_104 rfl (lv_at hl 0 rfl) ?_
            refine m_get hx hb hts hown hK hH 27 (by decide) q1479 rfl (v := .ref (o + 40)) rfl dX2_slight_105 ?_
            refine lv_iload_n hx hb dX2_slight_108 rfl (lv_at hl 3 rfl) ?_
            refine m_iald (n := 1200) (j := k) (v := nI ((L.getD k t4).1)) hx hb hK hH (by decide) rfl (by first | omega | (refine Nat.lt_of_lt_of_le (Nat.mod_lt _ ?_) ?_ <;> omega)) (by decide) (hka.1) dX2_slight_109 ?_
            refine m_iald (n := 12) (j := (L.getD k t4).1) (v := nI (aKd S ((L.getD k t4).1))) hx hb hK hH (by decide) rfl (by first | omega | (refine Nat.lt_of_lt_of_le (Nat.mod_lt _ ?_) ?_ <;> omega)) (by decide) (hM.kd (by first | omega | (refine Nat.lt_of_lt_of_le (Nat.mod_lt _ ?_) ?_ <;> omega))) dX2_slight_110 ?_
            refine lvZ_ne (tgt := 135) hx hb (by first | omega | (refine Nat.lt_of_lt_of_le (Nat.mod_lt _ ?_) ?_ <;> omega)) dX2_slight_111 (by decide) (fun ckd => ?_) (fun ckd => ?_)
            · refine lv_iconst (v := (-1)) hx hb dX2_slight_135 (by decide) ?_
              exact hp_iret hx hb hr hlocks hH hS (by decide) (by decide) dX2_slight_136 (⟨congrArg some (congrArg Value.int (by obtain ⟨w0, w1, w2⟩ := in4_3 c3; subst hL; simp [spSlight, slSel, eq, ecr, ek, cr0, cc0, cw0, ck0, w0, w1, w2, ckd, -List.getD_eq_getElem?_getD])), _, _, rfl, hM⟩)
            · refine lv_aload_n hx hb dX2_slight_114 rfl (lv_at hl 0 rfl) ?_
              refine lv_iload_n hx hb dX2_slight_115 rfl (lv_at hl 1 rfl) ?_
              refine lv_aload_n hx hb dX2_slight_116 rfl (lv_at hl 0 rfl) ?_
              refine m_get hx hb hts hown hK hH 29 (by decide) q1481 rfl (v := .ref (o + 42)) rfl dX2_slight_117 ?_
              refine lv_iload_n hx hb dX2_slight_120 rfl (lv_at hl 3 rfl) ?_
              refine m_iald (n := 1200) (j := k) (v := nI ((L.getD k t4).2.2.1)) hx hb hK hH (by decide) rfl (by first | omega | (refine Nat.lt_of_lt_of_le (Nat.mod_lt _ ?_) ?_ <;> omega)) (by decide) (hka.2.2) dX2_slight_121 ?_
              refine lv_aload_n hx hb dX2_slight_122 rfl (lv_at hl 0 rfl) ?_
              refine m_get hx hb hts hown hK hH 28 (by decide) q1480 rfl (v := .ref (o + 41)) rfl dX2_slight_123 ?_
              refine lv_iload_n hx hb dX2_slight_126 rfl (lv_at hl 3 rfl) ?_
              refine m_iald (n := 1200) (j := k) (v := nI ((L.getD k t4).2.1)) hx hb hK hH (by decide) rfl (by first | omega | (refine Nat.lt_of_lt_of_le (Nat.mod_lt _ ?_) ?_ <;> omega)) (by decide) (hka.2.1) dX2_slight_127 ?_
              refine lv_iconst (v := nI 0) hx hb dX2_slight_128 (by decide) ?_
              refine hp_callV (As := [.int (nI q), .int (nI ((L.getD k t4).2.2.1)), .int (nI ((L.getD k t4).2.1)), .int (nI 0)]) (rest := []) hx hb hml hown hts hPB hK hH hS (mt_sourceOf hK0 hO hM (x := (L.getD k t4).2.2.1) (y := (L.getD k t4).2.1) (wo := 0) (by omega) (by omega) (by omega) (nI q)) mset_o rfl rfl 4 (lw_V q1845 q1847 qs80 q107 q1848) (by decide +kernel) ⟨rfl, rfl⟩ (by decide) rfl hl.1 rfl (Nat.le_of_ble_eq_true rfl) (by decide) dX2_slight_129 (fun v16 h18 H locs hp17 _ hH hS => ?_)
              obtain ⟨rfl, rfl⟩ := hp17
              refine lv_goto (tgt := 136) hx hb dX2_slight_132 (by decide) ?_
              exact hp_iret hx hb hr hlocks hH hS (by decide) (by decide) dX2_slight_136 (⟨congrArg some (congrArg Value.int (by obtain ⟨w0, w1, w2⟩ := in4_3 c3; subst hL; simp [spSlight, slSel, eq, ecr, ek, cr0, cc0, cw0, ck0, w0, w1, w2, ckd, -List.getD_eq_getElem?_getD])), _, _, rfl, hM⟩)
          · refine lv_iload hx hb dX2_slight_62 (lv_at hl 4 rfl) ?_
            refine lv_if_ne (tgt := 76) hx hb dX2_slight_64 (by decide) (fun cz => ?_) (fun cz => ?_)
            · have cz : ¬ what = nI 0 := cz
              refine lv_iload hx hb dX2_slight_76 (lv_at hl 4 rfl) ?_
              refine lv_iconst (v := nI 1) hx hb dX2_slight_78 (by decide) ?_
              refine lv_icmp_ne (tgt := 91) hx hb dX2_slight_79 (by decide) (fun c1 => ?_) (fun c1 => ?_)
              · refine lv_aload_n hx hb dX2_slight_91 rfl (lv_at hl 0 rfl) ?_
                refine m_get hx hb hts hown hK hH 29 (by decide) q1481 rfl (v := .ref (o + 42)) rfl dX2_slight_92 ?_
                refine lv_iload_n hx hb dX2_slight_95 rfl (lv_at hl 3 rfl) ?_
                refine m_iald (n := 1200) (j := k) (v := nI ((L.getD k t4).2.2.1)) hx hb hK hH (by decide) rfl (by first | omega | (refine Nat.lt_of_lt_of_le (Nat.mod_lt _ ?_) ?_ <;> omega)) (by decide) (hka.2.2) dX2_slight_96 ?_
                exact hp_iret hx hb hr hlocks hH hS (by decide) (by decide) dX2_slight_97 (⟨congrArg some (congrArg Value.int (by have c2 := in4_2 cw0 c3 cz c1; subst c2; rw [hL] at ck0 ⊢; simp [spSlight, slSel, eq, ecr, ek, cr0, cc0, cw0, ck0, nIne])), _, _, rfl, hM⟩)
              · refine lv_aload_n hx hb dX2_slight_82 rfl (lv_at hl 0 rfl) ?_
                refine m_get hx hb hts hown hK hH 28 (by decide) q1480 rfl (v := .ref (o + 41)) rfl dX2_slight_83 ?_
                refine lv_iload_n hx hb dX2_slight_86 rfl (lv_at hl 3 rfl) ?_
                refine m_iald (n := 1200) (j := k) (v := nI ((L.getD k t4).2.1)) hx hb hK hH (by decide) rfl (by first | omega | (refine Nat.lt_of_lt_of_le (Nat.mod_lt _ ?_) ?_ <;> omega)) (by decide) (hka.2.1) dX2_slight_87 ?_
                refine lv_goto (tgt := 97) hx hb dX2_slight_88 (by decide) ?_
                exact hp_iret hx hb hr hlocks hH hS (by decide) (by decide) dX2_slight_97 (⟨congrArg some (congrArg Value.int (by subst c1; rw [hL] at ck0 ⊢; simp [spSlight, slSel, eq, ecr, ek, cr0, cc0, cw0, ck0, nIne])), _, _, rfl, hM⟩)
            · have cz : what = nI 0 := cz
              refine lv_aload_n hx hb dX2_slight_67 rfl (lv_at hl 0 rfl) ?_
              refine m_get hx hb hts hown hK hH 27 (by decide) q1479 rfl (v := .ref (o + 40)) rfl dX2_slight_68 ?_
              refine lv_iload_n hx hb dX2_slight_71 rfl (lv_at hl 3 rfl) ?_
              refine m_iald (n := 1200) (j := k) (v := nI ((L.getD k t4).1)) hx hb hK hH (by decide) rfl (by first | omega | (refine Nat.lt_of_lt_of_le (Nat.mod_lt _ ?_) ?_ <;> omega)) (by decide) (hka.1) dX2_slight_72 ?_
              refine lv_goto (tgt := 97) hx hb dX2_slight_73 (by decide) ?_
              exact hp_iret hx hb hr hlocks hH hS (by decide) (by decide) dX2_slight_97 (⟨congrArg some (congrArg Value.int (by subst cz; rw [hL] at ck0 ⊢; simp [spSlight, slSel, eq, ecr, ek, cr0, cc0, cw0, ck0])), _, _, rfl, hM⟩)
        · rw [in_n (by omega)] at ck0
          refine lv_iconst (v := (-1)) hx hb dX2_slight_54 (by decide) ?_
          exact hp_iret hx hb hr hlocks hH hS (by decide) (by decide) dX2_slight_55 (⟨congrArg some (congrArg Value.int (by rw [hL] at ck0; simp [spSlight, eq, ecr, cr0, cc0, ck0])), _, _, rfl, hM⟩)
      · rw [in_k 3 rfl] at cw0
        refine lv_iconst (v := (-1)) hx hb dX2_slight_29 (by decide) ?_
        exact hp_iret hx hb hr hlocks hH hS (by decide) (by decide) dX2_slight_30 (⟨congrArg some (congrArg Value.int (by simp [spSlight, eq, ecr, cr0, cc0, cw0])), _, _, rfl, hM⟩)
set_option maxHeartbeats 4000000 in
theorem mt_minds (hK0 : va_K D CL (TYS K) s0) {S : Ab} (hO : SOK S) (hM : MOK S I V) (room course g : Int32) : Met l yX2_minds (ws_ yX2_minds cX2_minds 6 ((Option.some Jvm.ClassFile.FieldType.int))) (rmk 5 0 0) (va_Pc [.ref o, .int room, .int course, .int g] (PB s0 D CL (mset h K wd o I V J))) (QR s0 D CL (fun v h1 => v = some (.int (spMinds S room course g)) ∧ ∃ P U, h1 = mset h K wd o P U J ∧ MOK S P U)) 0 0 (zA s0) := by
  refine hp_met (by decide) (Nat.le_of_ble_eq_true rfl) hK0 ?_
  intro p e s m below meth cd ls hx hb hr hlocks hml hown hnm hts hK hPB hl hS hH hA
  have hl : lv_has ls 6 [(0, .ref o), (1, .int room), (2, .int course), (3, .int g)] := hl
  have hown : s.vm.findClass RX2 = some m.cls := hown
  have hn := hO.n
  have hmk := hO.mk
  have hrl := hO.rl
  have hrm := hO.rm
  have hsz := hO.sz
  refine lv_aload_n hx hb dX2_minds_0 rfl (lv_at hl 0 rfl) ?_
  refine lv_iload_n hx hb dX2_minds_1 rfl (lv_at hl 1 rfl) ?_
  refine hp_callV (As := [.int room]) (rest := []) hx hb hml hown hts hPB hK hH hS (mt_isRoom hK0 hO hM room) mset_o rfl rfl 1 (lw_V q1788 q1790 qs72 q107 q1791) (by decide +kernel) ⟨rfl, rfl⟩ (by decide) rfl hl.1 rfl (Nat.le_of_ble_eq_true rfl) (by decide) dX2_minds_2 (fun v1 h3 H locs hp2 _ hH hS => ?_)
  obtain ⟨rfl, rfl⟩ := hp2
  refine lvB_eq (tgt := 29) hx hb dX2_minds_5 (by decide) (fun cr0 => ?_) (fun cr0 => ?_)
  · refine lv_iconst (v := (-1)) hx hb dX2_minds_29 (by decide) ?_
    exact hp_iret hx hb hr hlocks hH hS (by decide) (by decide) dX2_minds_30 (⟨congrArg some (congrArg Value.int (by simp [spMinds, cr0])), _, _, rfl, hM⟩)
  · obtain ⟨q, hq, rfl⟩ := inN_t cr0
    have eq := nI_clamp (show q < 2 ^ 31 by omega)
    refine lv_aload_n hx hb dX2_minds_8 rfl (lv_at hl 0 rfl) ?_
    refine lv_iload_n hx hb dX2_minds_9 rfl (lv_at hl 2 rfl) ?_
    refine hp_callV (As := [.int course]) (rest := []) hx hb hml hown hts hPB hK hH hS (mt_isCourse hK0 hO hM course) mset_o rfl rfl 1 (lw_V q1804 q1806 qs73 q107 q1807) (by decide +kernel) ⟨rfl, rfl⟩ (by decide) rfl hl.1 rfl (Nat.le_of_ble_eq_true rfl) (by decide) dX2_minds_10 (fun v4 h6 H locs hp5 _ hH hS => ?_)
    obtain ⟨rfl, rfl⟩ := hp5
    refine lvB_eq (tgt := 29) hx hb dX2_minds_13 (by decide) (fun cc0 => ?_) (fun cc0 => ?_)
    · refine lv_iconst (v := (-1)) hx hb dX2_minds_29 (by decide) ?_
      exact hp_iret hx hb hr hlocks hH hS (by decide) (by decide) dX2_minds_30 (⟨congrArg some (congrArg Value.int (by simp [spMinds, eq, cr0, cc0])), _, _, rfl, hM⟩)
    · obtain ⟨cr, hcr, rfl⟩ := inN_t cc0
      have ecr := nI_clamp (show cr < 2 ^ 31 by omega)
      refine lv_iload_n hx hb dX2_minds_16 rfl (lv_at hl 3 rfl) ?_
      refine lv_iconst (v := (-1)) hx hb dX2_minds_17 (by decide) ?_
      refine lv_icmp_eq (tgt := 31) hx hb dX2_minds_18 (by decide) (fun cm => ?_) (fun cm => ?_)
      · subst cm
        refine lv_aload_n hx hb dX2_minds_31 rfl (lv_at hl 0 rfl) ?_
        refine lv_iload_n hx hb dX2_minds_32 rfl (lv_at hl 1 rfl) ?_
        refine lv_iload_n hx hb dX2_minds_33 rfl (lv_at hl 2 rfl) ?_
        refine lv_iconst (v := nI 0) hx hb dX2_minds_34 (by decide) ?_
        refine hp_callV (As := [.int (nI q), .int (nI cr), .int (nI 0)]) (rest := []) hx hb hml hown hts hPB hK hH hS (mt_finds hK0 hO hM (q := q) (cr := cr) (on := 0) (by omega) (by omega) (by omega)) mset_o rfl rfl 3 (lw_V q1818 q1820 qs75 q107 q1821) (by decide +kernel) ⟨rfl, rfl⟩ (by decide) rfl hl.1 rfl (Nat.le_of_ble_eq_true rfl) (by decide) dX2_minds_35 (fun v7 h9 H locs hp8 _ hH hS => ?_)
        obtain ⟨rfl, P, U, rfl, hM, hsl, hkV, hkI⟩ := hp8
        obtain ⟨L, hL⟩ : ∃ L, L = slL S q cr 0 := ⟨_, rfl⟩
        rw [← hL] at hsl
        have hlen : L.length ≤ 1200 := by rw [hL]; exact Nat.le_trans (slR_len S _ _ _ hn _) (by omega)
        refine lv_iload_n hx hb dX2_minds_38 rfl (lv_at hl 3 rfl) ?_
        refine lv_iconst (v := (-1)) hx hb dX2_minds_39 (by decide) ?_
        refine lv_icmp_eq (tgt := 50) hx hb dX2_minds_40 (by decide) (fun c10 => ?_) (fun c10 => ?_)
        · refine lv_iconst (v := (-1)) hx hb dX2_minds_50 (by decide) ?_
          refine lv_istore (lv' := [(4, .int (-1)), (0, .ref o), (1, .int (nI q)), (2, .int (nI cr)), (3, .int (-1))]) hx hb dX2_minds_51 hl (by decide) rfl (fun ls hl => ?_)
          refine lv_iconst (v := nI 0) hx hb dX2_minds_53 (by decide) ?_
          refine lv_istore (lv' := [(5, .int (nI 0)), (4, .int (-1)), (0, .ref o), (1, .int (nI q)), (2, .int (nI cr)), (3, .int (-1))]) hx hb dX2_minds_54 hl (by decide) rfl (fun ls hl => ?_)
          refine w_loop1 (fun (x : Nat) => aN S - x) (fun (x : Nat) H locs ls => (x ≤ aN S) ∧ HP D CL (zA s0) (mset h K wd o P U J) H ∧ va_S (zA s0) s.heap H locs ∧ lv_has ls 6 [(0, .ref o), (4, .int (mBest (mnd S L) x)), (5, .int (nI x))]) ?_ 0 ⟨Nat.zero_le _, hH, hS, lv_sub hl [2, 1, 0] rfl⟩
          intro x ih56 H locs ls hP
          obtain ⟨hxx, hH, hS, hl⟩ := hP
          refine lv_iload hx hb dX2_minds_56 (lv_at hl 2 rfl) ?_
          refine lv_aload_n hx hb dX2_minds_58 rfl (lv_at hl 0 rfl) ?_
          refine m_get hx hb hts hown hK hH 15 (by decide) q1467 rfl (v := .ref (o + 29)) rfl dX2_minds_59 ?_
          refine lv_iconst (v := nI 0) hx hb dX2_minds_62 (by decide) ?_
          refine m_iald (n := 2) (j := 0) (v := nI (aN S)) hx hb hK hH (by decide) rfl (by first | omega | (refine Nat.lt_of_lt_of_le (Nat.mod_lt _ ?_) ?_ <;> omega)) (by decide) (hM.n) dX2_minds_63 ?_
          refine lvN_ge (tgt := 110) hx hb (by first | omega | (refine Nat.lt_of_lt_of_le (Nat.mod_lt _ ?_) ?_ <;> omega)) (by first | omega | (refine Nat.lt_of_lt_of_le (Nat.mod_lt _ ?_) ?_ <;> omega)) dX2_minds_64 (by decide) (fun c11 => ?_) (fun c11 => ?_)
          · have ex : x = aN S := by omega
            rw [ex] at hl
            refine lv_iload hx hb dX2_minds_110 (lv_at hl 1 rfl) ?_
            exact hp_iret hx hb hr hlocks hH hS (by decide) (by decide) dX2_minds_112 (⟨congrArg some (congrArg Value.int (by rw [hL]; simp [spMinds, eq, ecr, cr0, cc0])), _, _, rfl, hM⟩)
          · have hmx := mnd_le hO hL x
            refine lv_aload_n hx hb dX2_minds_67 rfl (lv_at hl 0 rfl) ?_
            refine m_get hx hb hts hown hK hH 30 (by decide) q1482 rfl (v := .ref (o + 43)) rfl dX2_minds_68 ?_
            refine lv_iload hx hb dX2_minds_71 (lv_at hl 2 rfl) ?_
            refine m_iald (n := 10) (j := x) (v := nI (mnd S L x)) hx hb hK hH (by decide) rfl (by first | omega | (refine Nat.lt_of_lt_of_le (Nat.mod_lt _ ?_) ?_ <;> omega)) (by decide) (hsl.2.2 x (by omega)) dX2_minds_73 ?_
            refine lvZ_le (tgt := 104) hx hb (by first | omega | (refine Nat.lt_of_lt_of_le (Nat.mod_lt _ ?_) ?_ <;> omega)) dX2_minds_74 (by decide) (fun cz => ?_) (fun cz => ?_)
            · rw [show mBest (mnd S L) x = mBest (mnd S L) (x + 1) from Eq.symm (if_neg (fun q => q.1 cz))] at hl
              refine lv_iinc (v := nI (x + 1)) (lv' := [(5, .int (nI (x + 1))), (0, .ref o), (4, .int (mBest (mnd S L) (x + 1)))]) hx hb dX2_minds_104 hl (k := 2) rfl (nI_add x 1) (by decide) rfl (fun ls hl => ?_)
              refine lv_goto (tgt := 56) hx hb dX2_minds_107 (by decide) ?_
              exact ih56 (x + 1) (by omega) H locs ls ⟨by omega, hH, hS, lv_sub hl [1, 2, 0] rfl⟩
            · refine lv_iload hx hb dX2_minds_77 (lv_at hl 1 rfl) ?_
              refine lv_iconst (v := (-1)) hx hb dX2_minds_79 (by decide) ?_
              refine lv_icmp_eq (tgt := 100) hx hb dX2_minds_80 (by decide) (fun ce => ?_) (fun ce => ?_)
              · refine lv_iload hx hb dX2_minds_100 (lv_at hl 2 rfl) ?_
                refine lv_top (y := mBest (mnd S L) (x + 1)) (Eq.symm (if_pos ⟨cz, Or.inl ce⟩)) ?_
                refine lv_istore (lv' := [(4, .int (mBest (mnd S L) (x + 1))), (0, .ref o), (5, .int (nI x))]) hx hb dX2_minds_102 hl (by decide) rfl (fun ls hl => ?_)
                refine lv_iinc (v := nI (x + 1)) (lv' := [(5, .int (nI (x + 1))), (4, .int (mBest (mnd S L) (x + 1))), (0, .ref o)]) hx hb dX2_minds_104 hl (k := 2) rfl (nI_add x 1) (by decide) rfl (fun ls hl => ?_)
                refine lv_goto (tgt := 56) hx hb dX2_minds_107 (by decide) ?_
                exact ih56 (x + 1) (by omega) H locs ls ⟨by omega, hH, hS, lv_sub hl [2, 1, 0] rfl⟩
              · obtain ⟨b, hb9, eb⟩ := (mBest_lt (mnd S L) x).resolve_left ce
                have ebc := nI_clamp (show b < 2 ^ 31 by omega)
                have hmb := mnd_le hO hL b
                refine lv_aload_n hx hb dX2_minds_83 rfl (lv_at hl 0 rfl) ?_
                refine m_get hx hb hts hown hK hH 30 (by decide) q1482 rfl (v := .ref (o + 43)) rfl dX2_minds_84 ?_
                refine lv_iload hx hb dX2_minds_87 (lv_at hl 2 rfl) ?_
                refine m_iald (n := 10) (j := x) (v := nI (mnd S L x)) hx hb hK hH (by decide) rfl (by first | omega | (refine Nat.lt_of_lt_of_le (Nat.mod_lt _ ?_) ?_ <;> omega)) (by decide) (hsl.2.2 x (by omega)) dX2_minds_89 ?_
                refine lv_aload_n hx hb dX2_minds_90 rfl (lv_at hl 0 rfl) ?_
                refine m_get hx hb hts hown hK hH 30 (by decide) q1482 rfl (v := .ref (o + 43)) rfl dX2_minds_91 ?_
                refine lv_iload hx hb dX2_minds_94 (lv_at hl 1 rfl) ?_
                refine lv_top (y := nI b) (eb) ?_
                refine m_iald (n := 10) (j := b) (v := nI (mnd S L b)) hx hb hK hH (by decide) rfl (by first | omega | (refine Nat.lt_of_lt_of_le (Nat.mod_lt _ ?_) ?_ <;> omega)) (by decide) (hsl.2.2 b (by omega)) dX2_minds_96 ?_
                refine lvN_le (tgt := 104) hx hb (by first | omega | (refine Nat.lt_of_lt_of_le (Nat.mod_lt _ ?_) ?_ <;> omega)) (by first | omega | (refine Nat.lt_of_lt_of_le (Nat.mod_lt _ ?_) ?_ <;> omega)) dX2_minds_97 (by decide) (fun cw => ?_) (fun cw => ?_)
                · rw [show mBest (mnd S L) x = mBest (mnd S L) (x + 1) from Eq.symm (if_neg (fun q => q.2.elim ce (fun z => by rw [eb, ebc] at z; omega)))] at hl
                  refine lv_iinc (v := nI (x + 1)) (lv' := [(5, .int (nI (x + 1))), (0, .ref o), (4, .int (mBest (mnd S L) (x + 1)))]) hx hb dX2_minds_104 hl (k := 2) rfl (nI_add x 1) (by decide) rfl (fun ls hl => ?_)
                  refine lv_goto (tgt := 56) hx hb dX2_minds_107 (by decide) ?_
                  exact ih56 (x + 1) (by omega) H locs ls ⟨by omega, hH, hS, lv_sub hl [1, 2, 0] rfl⟩
                · refine lv_iload hx hb dX2_minds_100 (lv_at hl 2 rfl) ?_
                  refine lv_top (y := mBest (mnd S L) (x + 1)) (Eq.symm (if_pos ⟨cz, Or.inr (by rw [eb, ebc]; exact cw)⟩)) ?_
                  refine lv_istore (lv' := [(4, .int (mBest (mnd S L) (x + 1))), (0, .ref o), (5, .int (nI x))]) hx hb dX2_minds_102 hl (by decide) rfl (fun ls hl => ?_)
                  refine lv_iinc (v := nI (x + 1)) (lv' := [(5, .int (nI (x + 1))), (4, .int (mBest (mnd S L) (x + 1))), (0, .ref o)]) hx hb dX2_minds_104 hl (k := 2) rfl (nI_add x 1) (by decide) rfl (fun ls hl => ?_)
                  refine lv_goto (tgt := 56) hx hb dX2_minds_107 (by decide) ?_
                  exact ih56 (x + 1) (by omega) H locs ls ⟨by omega, hH, hS, lv_sub hl [2, 1, 0] rfl⟩
        · exact absurd rfl c10
      · refine lv_aload_n hx hb dX2_minds_21 rfl (lv_at hl 0 rfl) ?_
        refine lv_iload_n hx hb dX2_minds_22 rfl (lv_at hl 3 rfl) ?_
        refine hp_callV (As := [.int g]) (rest := []) hx hb hml hown hts hPB hK hH hS (mt_isGuest hK0 hO hM g) mset_o rfl rfl 1 (lw_V q1748 q1750 qs66 q107 q1751) (by decide +kernel) ⟨rfl, rfl⟩ (by decide) rfl hl.1 rfl (Nat.le_of_ble_eq_true rfl) (by decide) dX2_minds_23 (fun v12 h14 H locs hp13 _ hH hS => ?_)
        obtain ⟨rfl, rfl⟩ := hp13
        refine lvB_ne (tgt := 31) hx hb dX2_minds_26 (by decide) (fun cg0 => ?_) (fun cg0 => ?_)
        · obtain ⟨j, hj, rfl⟩ := inN_t cg0
          have ej := nI_clamp (show j < 2 ^ 31 by omega)
          refine lv_aload_n hx hb dX2_minds_31 rfl (lv_at hl 0 rfl) ?_
          refine lv_iload_n hx hb dX2_minds_32 rfl (lv_at hl 1 rfl) ?_
          refine lv_iload_n hx hb dX2_minds_33 rfl (lv_at hl 2 rfl) ?_
          refine lv_iconst (v := nI 0) hx hb dX2_minds_34 (by decide) ?_
          refine hp_callV (As := [.int (nI q), .int (nI cr), .int (nI 0)]) (rest := []) hx hb hml hown hts hPB hK hH hS (mt_finds hK0 hO hM (q := q) (cr := cr) (on := 0) (by omega) (by omega) (by omega)) mset_o rfl rfl 3 (lw_V q1818 q1820 qs75 q107 q1821) (by decide +kernel) ⟨rfl, rfl⟩ (by decide) rfl hl.1 rfl (Nat.le_of_ble_eq_true rfl) (by decide) dX2_minds_35 (fun v15 h17 H locs hp16 _ hH hS => ?_)
          obtain ⟨rfl, P, U, rfl, hM, hsl, hkV, hkI⟩ := hp16
          obtain ⟨L, hL⟩ : ∃ L, L = slL S q cr 0 := ⟨_, rfl⟩
          rw [← hL] at hsl
          have hlen : L.length ≤ 1200 := by rw [hL]; exact Nat.le_trans (slR_len S _ _ _ hn _) (by omega)
          refine lv_iload_n hx hb dX2_minds_38 rfl (lv_at hl 3 rfl) ?_
          refine lv_iconst (v := (-1)) hx hb dX2_minds_39 (by decide) ?_
          refine lv_icmp_eq (tgt := 50) hx hb dX2_minds_40 (by decide) (fun c18 => ?_) (fun c18 => ?_)
          · exact absurd c18 (nI_m1 (by omega))
          · refine lv_aload_n hx hb dX2_minds_43 rfl (lv_at hl 0 rfl) ?_
            refine m_get hx hb hts hown hK hH 30 (by decide) q1482 rfl (v := .ref (o + 43)) rfl dX2_minds_44 ?_
            refine lv_iload_n hx hb dX2_minds_47 rfl (lv_at hl 3 rfl) ?_
            refine m_iald (n := 10) (j := j) (v := nI (mnd S L j)) hx hb hK hH (by decide) rfl (by first | omega | (refine Nat.lt_of_lt_of_le (Nat.mod_lt _ ?_) ?_ <;> omega)) (by decide) (hsl.2.2 j (by omega)) dX2_minds_48 ?_
            exact hp_iret hx hb hr hlocks hH hS (by decide) (by decide) dX2_minds_49 (⟨congrArg some (congrArg Value.int (by rw [hL]; simp [spMinds, eq, ecr, cr0, cc0, ej, cg0, nI_m1 (show j < 2 ^ 31 by omega)])), _, _, rfl, hM⟩)
        · refine lv_iconst (v := (-1)) hx hb dX2_minds_29 (by decide) ?_
          exact hp_iret hx hb hr hlocks hH hS (by decide) (by decide) dX2_minds_30 (⟨congrArg some (congrArg Value.int (by simp [spMinds, eq, ecr, cr0, cc0, cm, cg0])), _, _, rfl, hM⟩)
set_option maxHeartbeats 4000000 in
theorem mt_source (hK0 : va_K D CL (TYS K) s0) {S : Ab} (hO : SOK S) (hM : MOK S I V) (room xa ya : Int32) : Met l yX2_source (ws_ yX2_source cX2_source 4 ((Option.some Jvm.ClassFile.FieldType.int))) (rmk 5 0 0) (va_Pc [.ref o, .int room, .int xa, .int ya] (PB s0 D CL (mset h K wd o I V J))) (QR s0 D CL (fun v h1 => v = some (.int (spSource S room xa ya)) ∧ h1 = mset h K wd o I V J)) 0 0 (zA s0) := by
  refine hp_met (by decide) (Nat.le_of_ble_eq_true rfl) hK0 ?_
  intro p e s m below meth cd ls hx hb hr hlocks hml hown hnm hts hK hPB hl hS hH hA
  have hl : lv_has ls 4 [(0, .ref o), (1, .int room), (2, .int xa), (3, .int ya)] := hl
  have hown : s.vm.findClass RX2 = some m.cls := hown
  have hn := hO.n
  have hmk := hO.mk
  have hrl := hO.rl
  have hrm := hO.rm
  have hsz := hO.sz
  refine lv_aload_n hx hb dX2_source_0 rfl (lv_at hl 0 rfl) ?_
  refine lv_iload_n hx hb dX2_source_1 rfl (lv_at hl 1 rfl) ?_
  refine hp_callV (As := [.int room]) (rest := []) hx hb hml hown hts hPB hK hH hS (mt_isRoom hK0 hO hM room) mset_o rfl rfl 1 (lw_V q1788 q1790 qs72 q107 q1791) (by decide +kernel) ⟨rfl, rfl⟩ (by decide) rfl hl.1 rfl (Nat.le_of_ble_eq_true rfl) (by decide) dX2_source_2 (fun v1 h3 H locs hp2 _ hH hS => ?_)
  obtain ⟨rfl, rfl⟩ := hp2
  refine lvB_eq (tgt := 35) hx hb dX2_source_5 (by decide) (fun cr0 => ?_) (fun cr0 => ?_)
  · refine lv_iconst (v := (-1)) hx hb dX2_source_35 (by decide) ?_
    exact hp_iret hx hb hr hlocks hH hS (by decide) (by decide) dX2_source_36 (⟨congrArg some (congrArg Value.int (by simp [spSource, cr0])), rfl⟩)
  · obtain ⟨q, hq, rfl⟩ := inN_t cr0
    have eq := nI_clamp (show q < 2 ^ 31 by omega)
    refine lv_aload_n hx hb dX2_source_8 rfl (lv_at hl 0 rfl) ?_
    refine lv_iload_n hx hb dX2_source_9 rfl (lv_at hl 2 rfl) ?_
    refine hp_callV (As := [.int xa]) (rest := []) hx hb hml hown hts hPB hK hH hS (mt_isGuest hK0 hO hM xa) mset_o rfl rfl 1 (lw_V q1748 q1750 qs66 q107 q1751) (by decide +kernel) ⟨rfl, rfl⟩ (by decide) rfl hl.1 rfl (Nat.le_of_ble_eq_true rfl) (by decide) dX2_source_10 (fun v4 h6 H locs hp5 _ hH hS => ?_)
    obtain ⟨rfl, rfl⟩ := hp5
    refine lvB_eq (tgt := 35) hx hb dX2_source_13 (by decide) (fun cx0 => ?_) (fun cx0 => ?_)
    · refine lv_iconst (v := (-1)) hx hb dX2_source_35 (by decide) ?_
      exact hp_iret hx hb hr hlocks hH hS (by decide) (by decide) dX2_source_36 (⟨congrArg some (congrArg Value.int (by simp [spSource, cr0, cx0])), rfl⟩)
    · obtain ⟨x1, hx1, rfl⟩ := inN_t cx0
      have ex1 := nI_clamp (show x1 < 2 ^ 31 by omega)
      refine lv_aload_n hx hb dX2_source_16 rfl (lv_at hl 0 rfl) ?_
      refine lv_iload_n hx hb dX2_source_17 rfl (lv_at hl 3 rfl) ?_
      refine hp_callV (As := [.int ya]) (rest := []) hx hb hml hown hts hPB hK hH hS (mt_isGuest hK0 hO hM ya) mset_o rfl rfl 1 (lw_V q1748 q1750 qs66 q107 q1751) (by decide +kernel) ⟨rfl, rfl⟩ (by decide) rfl hl.1 rfl (Nat.le_of_ble_eq_true rfl) (by decide) dX2_source_18 (fun v7 h9 H locs hp8 _ hH hS => ?_)
      obtain ⟨rfl, rfl⟩ := hp8
      refine lvB_eq (tgt := 35) hx hb dX2_source_21 (by decide) (fun cy0 => ?_) (fun cy0 => ?_)
      · refine lv_iconst (v := (-1)) hx hb dX2_source_35 (by decide) ?_
        exact hp_iret hx hb hr hlocks hH hS (by decide) (by decide) dX2_source_36 (⟨congrArg some (congrArg Value.int (by simp [spSource, ex1, cr0, cx0, cy0])), rfl⟩)
      · obtain ⟨y1, hy1, rfl⟩ := inN_t cy0
        have ey1 := nI_clamp (show y1 < 2 ^ 31 by omega)
        refine lv_aload_n hx hb dX2_source_24 rfl (lv_at hl 0 rfl) ?_
        refine lv_iload_n hx hb dX2_source_25 rfl (lv_at hl 1 rfl) ?_
        refine lv_iload_n hx hb dX2_source_26 rfl (lv_at hl 2 rfl) ?_
        refine lv_iload_n hx hb dX2_source_27 rfl (lv_at hl 3 rfl) ?_
        refine lv_iconst (v := nI 0) hx hb dX2_source_28 (by decide) ?_
        refine hp_callV (As := [.int (nI q), .int (nI x1), .int (nI y1), .int (nI 0)]) (rest := []) hx hb hml hown hts hPB hK hH hS (mt_sourceOf hK0 hO hM (x := x1) (y := y1) (wo := 0) (by omega) (by omega) (by omega) (nI q)) mset_o rfl rfl 4 (lw_V q1845 q1847 qs80 q107 q1848) (by decide +kernel) ⟨rfl, rfl⟩ (by decide) rfl hl.1 rfl (Nat.le_of_ble_eq_true rfl) (by decide) dX2_source_29 (fun v10 h12 H locs hp11 _ hH hS => ?_)
        obtain ⟨rfl, rfl⟩ := hp11
        refine lv_goto (tgt := 36) hx hb dX2_source_32 (by decide) ?_
        exact hp_iret hx hb hr hlocks hH hS (by decide) (by decide) dX2_source_36 (⟨congrArg some (congrArg Value.int (by simp [spSource, ex1, ey1, cr0, cx0, cy0])), rfl⟩)
set_option maxHeartbeats 4000000 in
theorem mt_ranks (hK0 : va_K D CL (TYS K) s0) {S : Ab} (hO : SOK S) (hM : MOK S I V) {wo : Nat} (hwo : wo < 4096) (room : Int32) : Met l yX2_ranks (ws_ yX2_ranks cX2_ranks 6 ((Option.none : Option Jvm.ClassFile.FieldType))) (rmk 5 0 0) (va_Pc [.ref o, .int room, .int (nI wo)] (PB s0 D CL (mset h K wd o I V J))) (QR s0 D CL (fun v h1 => v = none ∧ ∃ U, h1 = mset h K wd o I U J ∧ MOK S I U ∧ rkA S room wo U ∧ kp [44, 45] V U)) 0 0 (zA s0) := by
  refine hp_met (by decide) (Nat.le_of_ble_eq_true rfl) hK0 ?_
  intro p e s m below meth cd ls hx hb hr hlocks hml hown hnm hts hK hPB hl hS hH hA
  have hl : lv_has ls 6 [(0, .ref o), (1, .int room), (2, .int (nI wo))] := hl
  have hown : s.vm.findClass RX2 = some m.cls := hown
  have hn := hO.n
  have hmk := hO.mk
  have hrl := hO.rl
  have hrm := hO.rm
  have hsz := hO.sz
  refine lv_iconst (v := nI 0) hx hb dX2_ranks_0 (by decide) ?_
  refine lv_istore_n (lv' := [(3, .int (nI 0)), (0, .ref o), (1, .int room), (2, .int (nI wo))]) hx hb dX2_ranks_1 rfl hl (by decide) rfl (fun ls hl => ?_)
  refine w_loop2 (fun (x : Nat) (U : Nat → Nat → Int32) => aN S - x) (fun (x : Nat) (U : Nat → Nat → Int32) H locs ls => (x ≤ aN S) ∧ (∀ u w, u < x → w < aN S → U 44 (10 * u + w) = zI (abv S room wo u w) ∧ U 45 (10 * u + w) = zI (evn S room u w)) ∧ (MOK S I U) ∧ (kp [44, 45] V U) ∧ HP D CL (zA s0) (mset h K wd o I U J) H ∧ va_S (zA s0) s.heap H locs ∧ lv_has ls 6 [(0, .ref o), (1, .int room), (2, .int (nI wo)), (3, .int (nI x))]) ?_ 0 V ⟨Nat.zero_le _, fun u w hu => absurd hu (Nat.not_lt_zero _), hM, kp.rf, hH, hS, lv_sub hl [1, 2, 3, 0] rfl⟩
  intro x U ih2 H locs ls hP
  obtain ⟨hxx, hA, hM, hkp, hH, hS, hl⟩ := hP
  refine lv_iload_n hx hb dX2_ranks_2 rfl (lv_at hl 3 rfl) ?_
  refine lv_aload_n hx hb dX2_ranks_3 rfl (lv_at hl 0 rfl) ?_
  refine m_get hx hb hts hown hK hH 15 (by decide) q1467 rfl (v := .ref (o + 29)) rfl dX2_ranks_4 ?_
  refine lv_iconst (v := nI 0) hx hb dX2_ranks_7 (by decide) ?_
  refine m_iald (n := 2) (j := 0) (v := nI (aN S)) hx hb hK hH (by decide) rfl (by first | omega | (refine Nat.lt_of_lt_of_le (Nat.mod_lt _ ?_) ?_ <;> omega)) (by decide) (hM.n) dX2_ranks_8 ?_
  refine lvN_ge (tgt := 147) hx hb (by first | omega | (refine Nat.lt_of_lt_of_le (Nat.mod_lt _ ?_) ?_ <;> omega)) (by first | omega | (refine Nat.lt_of_lt_of_le (Nat.mod_lt _ ?_) ?_ <;> omega)) dX2_ranks_9 (by decide) (fun c1 => ?_) (fun c1 => ?_)
  · exact hp_vret hx hb hr hlocks hH hS (by decide) (by decide) dX2_ranks_147 (⟨rfl, U, rfl, hM, ⟨fun u w hu hw => (hA u w (by omega) hw).1, fun u w hu hw => (hA u w (by omega) hw).2⟩, hkp⟩)
  · refine lv_iconst (v := nI 0) hx hb dX2_ranks_12 (by decide) ?_
    refine lv_istore (lv' := [(4, .int (nI 0)), (0, .ref o), (1, .int room), (2, .int (nI wo)), (3, .int (nI x))]) hx hb dX2_ranks_13 hl (by decide) rfl (fun ls hl => ?_)
    refine w_loop2 (fun (y : Nat) (U : Nat → Nat → Int32) => aN S - y) (fun (y : Nat) (U : Nat → Nat → Int32) H locs ls => (y ≤ aN S) ∧ (∀ u w, u < x → w < aN S → U 44 (10 * u + w) = zI (abv S room wo u w) ∧ U 45 (10 * u + w) = zI (evn S room u w)) ∧ (∀ w, w < y → U 44 (10 * x + w) = zI (abv S room wo x w) ∧ U 45 (10 * x + w) = zI (evn S room x w)) ∧ (MOK S I U) ∧ (kp [44, 45] V U) ∧ HP D CL (zA s0) (mset h K wd o I U J) H ∧ va_S (zA s0) s.heap H locs ∧ lv_has ls 6 [(0, .ref o), (1, .int room), (2, .int (nI wo)), (3, .int (nI x)), (4, .int (nI y))]) ?_ 0 U ⟨Nat.zero_le _, hA, fun w hw => absurd hw (Nat.not_lt_zero _), hM, hkp, hH, hS, lv_sub hl [1, 2, 3, 4, 0] rfl⟩
    intro y U ih15 H locs ls hP
    obtain ⟨hyy, hA, hB, hM, hkp, hH, hS, hl⟩ := hP
    refine lv_iload hx hb dX2_ranks_15 (lv_at hl 4 rfl) ?_
    refine lv_aload_n hx hb dX2_ranks_17 rfl (lv_at hl 0 rfl) ?_
    refine m_get hx hb hts hown hK hH 15 (by decide) q1467 rfl (v := .ref (o + 29)) rfl dX2_ranks_18 ?_
    refine lv_iconst (v := nI 0) hx hb dX2_ranks_21 (by decide) ?_
    refine m_iald (n := 2) (j := 0) (v := nI (aN S)) hx hb hK hH (by decide) rfl (by first | omega | (refine Nat.lt_of_lt_of_le (Nat.mod_lt _ ?_) ?_ <;> omega)) (by decide) (hM.n) dX2_ranks_22 ?_
    refine lvN_ge (tgt := 141) hx hb (by first | omega | (refine Nat.lt_of_lt_of_le (Nat.mod_lt _ ?_) ?_ <;> omega)) (by first | omega | (refine Nat.lt_of_lt_of_le (Nat.mod_lt _ ?_) ?_ <;> omega)) dX2_ranks_23 (by decide) (fun c2 => ?_) (fun c2 => ?_)
    · have eyy : y = aN S := by omega
      refine lv_iinc (v := nI (x + 1)) (lv' := [(3, .int (nI (x + 1))), (0, .ref o), (1, .int room), (2, .int (nI wo)), (4, .int (nI y))]) hx hb dX2_ranks_141 hl (k := 3) rfl (nI_add x 1) (by decide) rfl (fun ls hl => ?_)
      refine lv_goto (tgt := 2) hx hb dX2_ranks_144 (by decide) ?_
      exact ih2 (x + 1) U (by omega) H locs ls ⟨by omega, fun u w hu hw => by rcases Nat.lt_succ_iff_lt_or_eq.mp hu with z | z; exact hA u w z hw; subst z; exact hB w (by omega), hM, hkp, hH, hS, lv_sub hl [1, 2, 3, 0] rfl⟩
    · refine lv_aload_n hx hb dX2_ranks_26 rfl (lv_at hl 0 rfl) ?_
      refine m_get hx hb hts hown hK hH 32 (by decide) q1484 rfl (v := .ref (o + 44)) rfl dX2_ranks_27 ?_
      refine lv_bipush (v := nI 10) hx hb dX2_ranks_30 (by decide) ?_
      refine lv_iload_n hx hb dX2_ranks_32 rfl (lv_at hl 3 rfl) ?_
      refine lv_imul hx hb dX2_ranks_33 ?_
      refine lv_top (y := nI (10 * x)) (pk_mul _ _) ?_
      refine lv_iload hx hb dX2_ranks_34 (lv_at hl 4 rfl) ?_
      refine lv_iadd hx hb dX2_ranks_36 ?_
      refine lv_top (y := nI ((10 * x) + y)) (nI_add _ _) ?_
      refine lv_aload_n hx hb dX2_ranks_37 rfl (lv_at hl 0 rfl) ?_
      refine lv_iload_n hx hb dX2_ranks_38 rfl (lv_at hl 1 rfl) ?_
      refine lv_iload_n hx hb dX2_ranks_39 rfl (lv_at hl 3 rfl) ?_
      refine lv_iload hx hb dX2_ranks_40 (lv_at hl 4 rfl) ?_
      refine lv_iload_n hx hb dX2_ranks_42 rfl (lv_at hl 2 rfl) ?_
      refine hp_callV (As := [.int room, .int (nI x), .int (nI y), .int (nI wo)]) (rest := [.int (nI ((10 * x) + y)), .ref (o + 44)]) hx hb hml hown hts hPB hK hH hS (mt_sourceOf hK0 hO hM (x := x) (y := y) (wo := wo) (by omega) (by omega) (by omega) room) mset_o rfl rfl 4 (lw_V q1845 q1847 qs80 q107 q1848) (by decide +kernel) ⟨rfl, rfl⟩ (by decide) rfl hl.1 rfl (Nat.le_of_ble_eq_true rfl) (by decide) dX2_ranks_43 (fun v3 h5 H locs hp4 _ hH hS => ?_)
      obtain ⟨rfl, rfl⟩ := hp4
      refine lv_iconst (v := (-1)) hx hb dX2_ranks_46 (by decide) ?_
      refine lv_icmp_eq (tgt := 54) hx hb dX2_ranks_47 (by decide) (fun cs => ?_) (fun cs => ?_)
      · refine lv_iconst (v := nI 0) hx hb dX2_ranks_54 (by decide) ?_
        refine lv_top (y := zI (abv S room wo x y)) (by rw [← src_abv hO]; exact zI_0 (decide_eq_false (not_not_intro cs))) ?_
        refine m_zast (n := 100) (j := (10 * x) + y) (x' := zI (abv S room wo x y)) hx hb hK hH hS (by decide) rfl (by first | omega | (refine Nat.lt_of_lt_of_le (Nat.mod_lt _ ?_) ?_ <;> omega)) (by decide) (zI_vnar _) dX2_ranks_55 (fun H locs hH hS => ?_)
        have hM := hM.vS (k := 44) rfl ((10 * x) + y) (zI (abv S room wo x y))
        refine lv_aload_n hx hb dX2_ranks_56 rfl (lv_at hl 0 rfl) ?_
        refine m_get hx hb hts hown hK hH 33 (by decide) q1485 rfl (v := .ref (o + 45)) rfl dX2_ranks_57 ?_
        refine lv_bipush (v := nI 10) hx hb dX2_ranks_60 (by decide) ?_
        refine lv_iload_n hx hb dX2_ranks_62 rfl (lv_at hl 3 rfl) ?_
        refine lv_imul hx hb dX2_ranks_63 ?_
        refine lv_top (y := nI (10 * x)) (pk_mul _ _) ?_
        refine lv_iload hx hb dX2_ranks_64 (lv_at hl 4 rfl) ?_
        refine lv_iadd hx hb dX2_ranks_66 ?_
        refine lv_top (y := nI ((10 * x) + y)) (nI_add _ _) ?_
        refine lv_iconst (v := nI 0) hx hb dX2_ranks_67 (by decide) ?_
        refine m_zast (n := 100) (j := (10 * x) + y) (x' := zI false) hx hb hK hH hS (by decide) rfl (by first | omega | (refine Nat.lt_of_lt_of_le (Nat.mod_lt _ ?_) ?_ <;> omega)) (by decide) rfl dX2_ranks_68 (fun H locs hH hS => ?_)
        have hM := hM.vS (k := 45) rfl ((10 * x) + y) (zI false)
        refine lv_iconst (v := nI 0) hx hb dX2_ranks_69 (by decide) ?_
        refine lv_istore (lv' := [(5, .int (nI 0)), (0, .ref o), (1, .int room), (2, .int (nI wo)), (3, .int (nI x)), (4, .int (nI y))]) hx hb dX2_ranks_70 hl (by decide) rfl (fun ls hl => ?_)
        refine w_loop2 (fun (r : Nat) (U : Nat → Nat → Int32) => aRl S - r) (fun (r : Nat) (U : Nat → Nat → Int32) H locs ls => (r ≤ aRl S) ∧ (∀ u w, u < x → w < aN S → U 44 (10 * u + w) = zI (abv S room wo u w) ∧ U 45 (10 * u + w) = zI (evn S room u w)) ∧ (∀ w, w < y → U 44 (10 * x + w) = zI (abv S room wo x w) ∧ U 45 (10 * x + w) = zI (evn S room x w)) ∧ (U 44 (10 * x + y) = zI (abv S room wo x y) ∧ U 45 (10 * x + y) = zI (anyB (fun r => decide (aKd S r = 1) && cntF S r room x y) r)) ∧ (MOK S I U) ∧ (kp [44, 45] V U) ∧ HP D CL (zA s0) (mset h K wd o I U J) H ∧ va_S (zA s0) s.heap H locs ∧ lv_has ls 6 [(0, .ref o), (1, .int room), (2, .int (nI wo)), (3, .int (nI x)), (4, .int (nI y)), (5, .int (nI r))]) ?_ 0 (vset (vset U 44 ((10 * x) + y) (zI (abv S room wo x y))) 45 ((10 * x) + y) (zI false)) ⟨Nat.zero_le _, fun u w hu hw => by have z := rk_two (U := U) (i := 10 * x + y) (j := 10 * u + w) (a := zI (abv S room wo x y)) (b := zI false) (by omega); rw [z.1, z.2]; exact hA u w hu hw, fun w hw => by have z := rk_two (U := U) (i := 10 * x + y) (j := 10 * x + w) (a := zI (abv S room wo x y)) (b := zI false) (by omega); rw [z.1, z.2]; exact hB w hw, ⟨by rw [vset_off _ _ (by decide), vset_self], by rw [vset_self]; rfl⟩, hM, (hkp.vs (by decide) _ _).vs (by decide) _ _, hH, hS, lv_sub hl [1, 2, 3, 4, 5, 0] rfl⟩
        intro r U ih72 H locs ls hP
        obtain ⟨hrr, hA, hB, hC, hM, hkp, hH, hS, hl⟩ := hP
        have hkd := hO.kd (r := r)
        refine lv_iload hx hb dX2_ranks_72 (lv_at hl 5 rfl) ?_
        refine lv_aload_n hx hb dX2_ranks_74 rfl (lv_at hl 0 rfl) ?_
        refine m_get hx hb hts hown hK hH 17 (by decide) q1469 rfl (v := .ref (o + 31)) rfl dX2_ranks_75 ?_
        refine lv_iconst (v := nI 0) hx hb dX2_ranks_78 (by decide) ?_
        refine m_iald (n := 2) (j := 0) (v := nI (aRl S)) hx hb hK hH (by decide) rfl (by first | omega | (refine Nat.lt_of_lt_of_le (Nat.mod_lt _ ?_) ?_ <;> omega)) (by decide) (hM.rl) dX2_ranks_79 ?_
        refine lvN_ge (tgt := 135) hx hb (by first | omega | (refine Nat.lt_of_lt_of_le (Nat.mod_lt _ ?_) ?_ <;> omega)) (by first | omega | (refine Nat.lt_of_lt_of_le (Nat.mod_lt _ ?_) ?_ <;> omega)) dX2_ranks_80 (by decide) (fun c6 => ?_) (fun c6 => ?_)
        · have err : r = aRl S := by omega
          refine lv_iinc (v := nI (y + 1)) (lv' := [(4, .int (nI (y + 1))), (0, .ref o), (1, .int room), (2, .int (nI wo)), (3, .int (nI x)), (5, .int (nI r))]) hx hb dX2_ranks_135 hl (k := 4) rfl (nI_add y 1) (by decide) rfl (fun ls hl => ?_)
          refine lv_goto (tgt := 15) hx hb dX2_ranks_138 (by decide) ?_
          exact ih15 (y + 1) U (by omega) H locs ls ⟨by omega, hA, fun w hw => by rcases Nat.lt_succ_iff_lt_or_eq.mp hw with z | z; exact hB w z; subst z; exact ⟨hC.1, by rw [hC.2, err]; rfl⟩, hM, hkp, hH, hS, lv_sub hl [1, 2, 3, 4, 0] rfl⟩
        · have hkd := hO.kd (r := r) (by omega)
          refine lv_aload_n hx hb dX2_ranks_83 rfl (lv_at hl 0 rfl) ?_
          refine m_get hx hb hts hown hK hH 33 (by decide) q1485 rfl (v := .ref (o + 45)) rfl dX2_ranks_84 ?_
          refine lv_bipush (v := nI 10) hx hb dX2_ranks_87 (by decide) ?_
          refine lv_iload_n hx hb dX2_ranks_89 rfl (lv_at hl 3 rfl) ?_
          refine lv_imul hx hb dX2_ranks_90 ?_
          refine lv_top (y := nI (10 * x)) (pk_mul _ _) ?_
          refine lv_iload hx hb dX2_ranks_91 (lv_at hl 4 rfl) ?_
          refine lv_iadd hx hb dX2_ranks_93 ?_
          refine lv_top (y := nI ((10 * x) + y)) (nI_add _ _) ?_
          refine lv_dup2_11 hx hb dX2_ranks_94 rfl rfl ?_
          refine m_zald (n := 100) (j := (10 * x) + y) (v := zI (anyB (fun r => decide (aKd S r = 1) && cntF S r room x y) r)) hx hb hK hH (by decide) rfl (by first | omega | (refine Nat.lt_of_lt_of_le (Nat.mod_lt _ ?_) ?_ <;> omega)) (by decide) (hC.2) dX2_ranks_95 ?_
          refine lv_aload_n hx hb dX2_ranks_96 rfl (lv_at hl 0 rfl) ?_
          refine m_get hx hb hts hown hK hH 9 (by decide) q1461 rfl (v := .ref (o + 11)) rfl dX2_ranks_97 ?_
          refine lv_iconst (v := nI 0) hx hb dX2_ranks_100 (by decide) ?_
          refine m_rowI (k' := 12) hx hb hK hH (by decide) rfl (by decide) (by decide) rfl dX2_ranks_101 ?_
          refine lv_iload hx hb dX2_ranks_102 (lv_at hl 5 rfl) ?_
          refine m_iald (n := 12) (j := r) (v := nI (aKd S r)) hx hb hK hH (by decide) rfl (by first | omega | (refine Nat.lt_of_lt_of_le (Nat.mod_lt _ ?_) ?_ <;> omega)) (by decide) (hM.kd (by first | omega | (refine Nat.lt_of_lt_of_le (Nat.mod_lt _ ?_) ?_ <;> omega))) dX2_ranks_104 ?_
          refine lv_iconst (v := nI 1) hx hb dX2_ranks_105 (by decide) ?_
          refine lvN_ne (tgt := 126) hx hb (by first | omega | (refine Nat.lt_of_lt_of_le (Nat.mod_lt _ ?_) ?_ <;> omega)) (by first | omega | (refine Nat.lt_of_lt_of_le (Nat.mod_lt _ ?_) ?_ <;> omega)) dX2_ranks_106 (by decide) (fun ck => ?_) (fun ck => ?_)
          · refine lv_iconst (v := nI 0) hx hb dX2_ranks_126 (by decide) ?_
            refine lv_ior hx hb dX2_ranks_127 ?_
            refine lv_top (y := zI (anyB (fun r => decide (aKd S r = 1) && cntF S r room x y) (r + 1))) (or_zI (b := decide (aKd S r = 1) && cntF S r room x y) (zI_0 (by simp [ck]))) ?_
            refine m_zast (n := 100) (j := (10 * x) + y) (x' := zI (anyB (fun r => decide (aKd S r = 1) && cntF S r room x y) (r + 1))) hx hb hK hH hS (by decide) rfl (by first | omega | (refine Nat.lt_of_lt_of_le (Nat.mod_lt _ ?_) ?_ <;> omega)) (by decide) (zI_vnar _) dX2_ranks_128 (fun H locs hH hS => ?_)
            have hM := hM.vS (k := 45) rfl ((10 * x) + y) (zI (anyB (fun r => decide (aKd S r = 1) && cntF S r room x y) (r + 1)))
            refine lv_iinc (v := nI (r + 1)) (lv' := [(5, .int (nI (r + 1))), (0, .ref o), (1, .int room), (2, .int (nI wo)), (3, .int (nI x)), (4, .int (nI y))]) hx hb dX2_ranks_129 hl (k := 5) rfl (nI_add r 1) (by decide) rfl (fun ls hl => ?_)
            refine lv_goto (tgt := 72) hx hb dX2_ranks_132 (by decide) ?_
            exact ih72 (r + 1) _ (by omega) H locs ls ⟨by omega, fun u w hu hw => by have z := rk_one (U := U) (i := 10 * x + y) (j := 10 * u + w) (by omega); rw [(z _).1, (z _).2]; exact hA u w hu hw, fun w hw => by have z := rk_one (U := U) (i := 10 * x + y) (j := 10 * x + w) (by omega); rw [(z _).1, (z _).2]; exact hB w hw, ⟨by rw [vset_off _ _ (by decide)]; exact hC.1, vset_self _ _ _ _⟩, hM, hkp.vs (by decide) _ _, hH, hS, lv_sub hl [1, 2, 3, 4, 5, 0] rfl⟩
          · refine lv_aload_n hx hb dX2_ranks_109 rfl (lv_at hl 0 rfl) ?_
            refine lv_iload hx hb dX2_ranks_110 (lv_at hl 5 rfl) ?_
            refine lv_iload_n hx hb dX2_ranks_112 rfl (lv_at hl 1 rfl) ?_
            refine lv_iload_n hx hb dX2_ranks_113 rfl (lv_at hl 3 rfl) ?_
            refine lv_iload hx hb dX2_ranks_114 (lv_at hl 4 rfl) ?_
            refine hp_callV (As := [.int (nI r), .int room, .int (nI x), .int (nI y)]) (rest := [.int (zI (anyB (fun r => decide (aKd S r = 1) && cntF S r room x y) r)), .int (nI ((10 * x) + y)), .ref (o + 45)]) hx hb hml hown hts hPB hK hH hS (mt_countsFor hK0 hO hM (r := r) (x := x) (y := y) (by omega) (by omega) (by omega) room) mset_o rfl rfl 4 (lw_V q1822 q1824 qs76 q107 q1825) (by decide +kernel) ⟨rfl, rfl⟩ (by decide) rfl hl.1 rfl (Nat.le_of_ble_eq_true rfl) (by decide) dX2_ranks_116 (fun v7 h9 H locs hp8 _ hH hS => ?_)
            obtain ⟨rfl, rfl⟩ := hp8
            refine lvB_eq (tgt := 126) hx hb dX2_ranks_119 (by decide) (fun cc => ?_) (fun cc => ?_)
            · refine lv_iconst (v := nI 0) hx hb dX2_ranks_126 (by decide) ?_
              refine lv_ior hx hb dX2_ranks_127 ?_
              refine lv_top (y := zI (anyB (fun r => decide (aKd S r = 1) && cntF S r room x y) (r + 1))) (or_zI (b := decide (aKd S r = 1) && cntF S r room x y) (zI_0 (by simp [cc]))) ?_
              refine m_zast (n := 100) (j := (10 * x) + y) (x' := zI (anyB (fun r => decide (aKd S r = 1) && cntF S r room x y) (r + 1))) hx hb hK hH hS (by decide) rfl (by first | omega | (refine Nat.lt_of_lt_of_le (Nat.mod_lt _ ?_) ?_ <;> omega)) (by decide) (zI_vnar _) dX2_ranks_128 (fun H locs hH hS => ?_)
              have hM := hM.vS (k := 45) rfl ((10 * x) + y) (zI (anyB (fun r => decide (aKd S r = 1) && cntF S r room x y) (r + 1)))
              refine lv_iinc (v := nI (r + 1)) (lv' := [(5, .int (nI (r + 1))), (0, .ref o), (1, .int room), (2, .int (nI wo)), (3, .int (nI x)), (4, .int (nI y))]) hx hb dX2_ranks_129 hl (k := 5) rfl (nI_add r 1) (by decide) rfl (fun ls hl => ?_)
              refine lv_goto (tgt := 72) hx hb dX2_ranks_132 (by decide) ?_
              exact ih72 (r + 1) _ (by omega) H locs ls ⟨by omega, fun u w hu hw => by have z := rk_one (U := U) (i := 10 * x + y) (j := 10 * u + w) (by omega); rw [(z _).1, (z _).2]; exact hA u w hu hw, fun w hw => by have z := rk_one (U := U) (i := 10 * x + y) (j := 10 * x + w) (by omega); rw [(z _).1, (z _).2]; exact hB w hw, ⟨by rw [vset_off _ _ (by decide)]; exact hC.1, vset_self _ _ _ _⟩, hM, hkp.vs (by decide) _ _, hH, hS, lv_sub hl [1, 2, 3, 4, 5, 0] rfl⟩
            · refine lv_iconst (v := nI 1) hx hb dX2_ranks_122 (by decide) ?_
              refine lv_goto (tgt := 127) hx hb dX2_ranks_123 (by decide) ?_
              refine lv_ior hx hb dX2_ranks_127 ?_
              refine lv_top (y := zI (anyB (fun r => decide (aKd S r = 1) && cntF S r room x y) (r + 1))) (or_zI (b := decide (aKd S r = 1) && cntF S r room x y) (zI_1 (by simp [ck, cc]))) ?_
              refine m_zast (n := 100) (j := (10 * x) + y) (x' := zI (anyB (fun r => decide (aKd S r = 1) && cntF S r room x y) (r + 1))) hx hb hK hH hS (by decide) rfl (by first | omega | (refine Nat.lt_of_lt_of_le (Nat.mod_lt _ ?_) ?_ <;> omega)) (by decide) (zI_vnar _) dX2_ranks_128 (fun H locs hH hS => ?_)
              have hM := hM.vS (k := 45) rfl ((10 * x) + y) (zI (anyB (fun r => decide (aKd S r = 1) && cntF S r room x y) (r + 1)))
              refine lv_iinc (v := nI (r + 1)) (lv' := [(5, .int (nI (r + 1))), (0, .ref o), (1, .int room), (2, .int (nI wo)), (3, .int (nI x)), (4, .int (nI y))]) hx hb dX2_ranks_129 hl (k := 5) rfl (nI_add r 1) (by decide) rfl (fun ls hl => ?_)
              refine lv_goto (tgt := 72) hx hb dX2_ranks_132 (by decide) ?_
              exact ih72 (r + 1) _ (by omega) H locs ls ⟨by omega, fun u w hu hw => by have z := rk_one (U := U) (i := 10 * x + y) (j := 10 * u + w) (by omega); rw [(z _).1, (z _).2]; exact hA u w hu hw, fun w hw => by have z := rk_one (U := U) (i := 10 * x + y) (j := 10 * x + w) (by omega); rw [(z _).1, (z _).2]; exact hB w hw, ⟨by rw [vset_off _ _ (by decide)]; exact hC.1, vset_self _ _ _ _⟩, hM, hkp.vs (by decide) _ _, hH, hS, lv_sub hl [1, 2, 3, 4, 5, 0] rfl⟩
      · refine lv_iconst (v := nI 1) hx hb dX2_ranks_50 (by decide) ?_
        refine lv_goto (tgt := 55) hx hb dX2_ranks_51 (by decide) ?_
        refine lv_top (y := zI (abv S room wo x y)) (by rw [← src_abv hO]; exact zI_1 (decide_eq_true cs)) ?_
        refine m_zast (n := 100) (j := (10 * x) + y) (x' := zI (abv S room wo x y)) hx hb hK hH hS (by decide) rfl (by first | omega | (refine Nat.lt_of_lt_of_le (Nat.mod_lt _ ?_) ?_ <;> omega)) (by decide) (zI_vnar _) dX2_ranks_55 (fun H locs hH hS => ?_)
        have hM := hM.vS (k := 44) rfl ((10 * x) + y) (zI (abv S room wo x y))
        refine lv_aload_n hx hb dX2_ranks_56 rfl (lv_at hl 0 rfl) ?_
        refine m_get hx hb hts hown hK hH 33 (by decide) q1485 rfl (v := .ref (o + 45)) rfl dX2_ranks_57 ?_
        refine lv_bipush (v := nI 10) hx hb dX2_ranks_60 (by decide) ?_
        refine lv_iload_n hx hb dX2_ranks_62 rfl (lv_at hl 3 rfl) ?_
        refine lv_imul hx hb dX2_ranks_63 ?_
        refine lv_top (y := nI (10 * x)) (pk_mul _ _) ?_
        refine lv_iload hx hb dX2_ranks_64 (lv_at hl 4 rfl) ?_
        refine lv_iadd hx hb dX2_ranks_66 ?_
        refine lv_top (y := nI ((10 * x) + y)) (nI_add _ _) ?_
        refine lv_iconst (v := nI 0) hx hb dX2_ranks_67 (by decide) ?_
        refine m_zast (n := 100) (j := (10 * x) + y) (x' := zI false) hx hb hK hH hS (by decide) rfl (by first | omega | (refine Nat.lt_of_lt_of_le (Nat.mod_lt _ ?_) ?_ <;> omega)) (by decide) rfl dX2_ranks_68 (fun H locs hH hS => ?_)
        have hM := hM.vS (k := 45) rfl ((10 * x) + y) (zI false)
        refine lv_iconst (v := nI 0) hx hb dX2_ranks_69 (by decide) ?_
        refine lv_istore (lv' := [(5, .int (nI 0)), (0, .ref o), (1, .int room), (2, .int (nI wo)), (3, .int (nI x)), (4, .int (nI y))]) hx hb dX2_ranks_70 hl (by decide) rfl (fun ls hl => ?_)
        refine w_loop2 (fun (r : Nat) (U : Nat → Nat → Int32) => aRl S - r) (fun (r : Nat) (U : Nat → Nat → Int32) H locs ls => (r ≤ aRl S) ∧ (∀ u w, u < x → w < aN S → U 44 (10 * u + w) = zI (abv S room wo u w) ∧ U 45 (10 * u + w) = zI (evn S room u w)) ∧ (∀ w, w < y → U 44 (10 * x + w) = zI (abv S room wo x w) ∧ U 45 (10 * x + w) = zI (evn S room x w)) ∧ (U 44 (10 * x + y) = zI (abv S room wo x y) ∧ U 45 (10 * x + y) = zI (anyB (fun r => decide (aKd S r = 1) && cntF S r room x y) r)) ∧ (MOK S I U) ∧ (kp [44, 45] V U) ∧ HP D CL (zA s0) (mset h K wd o I U J) H ∧ va_S (zA s0) s.heap H locs ∧ lv_has ls 6 [(0, .ref o), (1, .int room), (2, .int (nI wo)), (3, .int (nI x)), (4, .int (nI y)), (5, .int (nI r))]) ?_ 0 (vset (vset U 44 ((10 * x) + y) (zI (abv S room wo x y))) 45 ((10 * x) + y) (zI false)) ⟨Nat.zero_le _, fun u w hu hw => by have z := rk_two (U := U) (i := 10 * x + y) (j := 10 * u + w) (a := zI (abv S room wo x y)) (b := zI false) (by omega); rw [z.1, z.2]; exact hA u w hu hw, fun w hw => by have z := rk_two (U := U) (i := 10 * x + y) (j := 10 * x + w) (a := zI (abv S room wo x y)) (b := zI false) (by omega); rw [z.1, z.2]; exact hB w hw, ⟨by rw [vset_off _ _ (by decide), vset_self], by rw [vset_self]; rfl⟩, hM, (hkp.vs (by decide) _ _).vs (by decide) _ _, hH, hS, lv_sub hl [1, 2, 3, 4, 5, 0] rfl⟩
        intro r U ih72 H locs ls hP
        obtain ⟨hrr, hA, hB, hC, hM, hkp, hH, hS, hl⟩ := hP
        have hkd := hO.kd (r := r)
        refine lv_iload hx hb dX2_ranks_72 (lv_at hl 5 rfl) ?_
        refine lv_aload_n hx hb dX2_ranks_74 rfl (lv_at hl 0 rfl) ?_
        refine m_get hx hb hts hown hK hH 17 (by decide) q1469 rfl (v := .ref (o + 31)) rfl dX2_ranks_75 ?_
        refine lv_iconst (v := nI 0) hx hb dX2_ranks_78 (by decide) ?_
        refine m_iald (n := 2) (j := 0) (v := nI (aRl S)) hx hb hK hH (by decide) rfl (by first | omega | (refine Nat.lt_of_lt_of_le (Nat.mod_lt _ ?_) ?_ <;> omega)) (by decide) (hM.rl) dX2_ranks_79 ?_
        refine lvN_ge (tgt := 135) hx hb (by first | omega | (refine Nat.lt_of_lt_of_le (Nat.mod_lt _ ?_) ?_ <;> omega)) (by first | omega | (refine Nat.lt_of_lt_of_le (Nat.mod_lt _ ?_) ?_ <;> omega)) dX2_ranks_80 (by decide) (fun c10 => ?_) (fun c10 => ?_)
        · have err : r = aRl S := by omega
          refine lv_iinc (v := nI (y + 1)) (lv' := [(4, .int (nI (y + 1))), (0, .ref o), (1, .int room), (2, .int (nI wo)), (3, .int (nI x)), (5, .int (nI r))]) hx hb dX2_ranks_135 hl (k := 4) rfl (nI_add y 1) (by decide) rfl (fun ls hl => ?_)
          refine lv_goto (tgt := 15) hx hb dX2_ranks_138 (by decide) ?_
          exact ih15 (y + 1) U (by omega) H locs ls ⟨by omega, hA, fun w hw => by rcases Nat.lt_succ_iff_lt_or_eq.mp hw with z | z; exact hB w z; subst z; exact ⟨hC.1, by rw [hC.2, err]; rfl⟩, hM, hkp, hH, hS, lv_sub hl [1, 2, 3, 4, 0] rfl⟩
        · have hkd := hO.kd (r := r) (by omega)
          refine lv_aload_n hx hb dX2_ranks_83 rfl (lv_at hl 0 rfl) ?_
          refine m_get hx hb hts hown hK hH 33 (by decide) q1485 rfl (v := .ref (o + 45)) rfl dX2_ranks_84 ?_
          refine lv_bipush (v := nI 10) hx hb dX2_ranks_87 (by decide) ?_
          refine lv_iload_n hx hb dX2_ranks_89 rfl (lv_at hl 3 rfl) ?_
          refine lv_imul hx hb dX2_ranks_90 ?_
          refine lv_top (y := nI (10 * x)) (pk_mul _ _) ?_
          refine lv_iload hx hb dX2_ranks_91 (lv_at hl 4 rfl) ?_
          refine lv_iadd hx hb dX2_ranks_93 ?_
          refine lv_top (y := nI ((10 * x) + y)) (nI_add _ _) ?_
          refine lv_dup2_11 hx hb dX2_ranks_94 rfl rfl ?_
          refine m_zald (n := 100) (j := (10 * x) + y) (v := zI (anyB (fun r => decide (aKd S r = 1) && cntF S r room x y) r)) hx hb hK hH (by decide) rfl (by first | omega | (refine Nat.lt_of_lt_of_le (Nat.mod_lt _ ?_) ?_ <;> omega)) (by decide) (hC.2) dX2_ranks_95 ?_
          refine lv_aload_n hx hb dX2_ranks_96 rfl (lv_at hl 0 rfl) ?_
          refine m_get hx hb hts hown hK hH 9 (by decide) q1461 rfl (v := .ref (o + 11)) rfl dX2_ranks_97 ?_
          refine lv_iconst (v := nI 0) hx hb dX2_ranks_100 (by decide) ?_
          refine m_rowI (k' := 12) hx hb hK hH (by decide) rfl (by decide) (by decide) rfl dX2_ranks_101 ?_
          refine lv_iload hx hb dX2_ranks_102 (lv_at hl 5 rfl) ?_
          refine m_iald (n := 12) (j := r) (v := nI (aKd S r)) hx hb hK hH (by decide) rfl (by first | omega | (refine Nat.lt_of_lt_of_le (Nat.mod_lt _ ?_) ?_ <;> omega)) (by decide) (hM.kd (by first | omega | (refine Nat.lt_of_lt_of_le (Nat.mod_lt _ ?_) ?_ <;> omega))) dX2_ranks_104 ?_
          refine lv_iconst (v := nI 1) hx hb dX2_ranks_105 (by decide) ?_
          refine lvN_ne (tgt := 126) hx hb (by first | omega | (refine Nat.lt_of_lt_of_le (Nat.mod_lt _ ?_) ?_ <;> omega)) (by first | omega | (refine Nat.lt_of_lt_of_le (Nat.mod_lt _ ?_) ?_ <;> omega)) dX2_ranks_106 (by decide) (fun ck => ?_) (fun ck => ?_)
          · refine lv_iconst (v := nI 0) hx hb dX2_ranks_126 (by decide) ?_
            refine lv_ior hx hb dX2_ranks_127 ?_
            refine lv_top (y := zI (anyB (fun r => decide (aKd S r = 1) && cntF S r room x y) (r + 1))) (or_zI (b := decide (aKd S r = 1) && cntF S r room x y) (zI_0 (by simp [ck]))) ?_
            refine m_zast (n := 100) (j := (10 * x) + y) (x' := zI (anyB (fun r => decide (aKd S r = 1) && cntF S r room x y) (r + 1))) hx hb hK hH hS (by decide) rfl (by first | omega | (refine Nat.lt_of_lt_of_le (Nat.mod_lt _ ?_) ?_ <;> omega)) (by decide) (zI_vnar _) dX2_ranks_128 (fun H locs hH hS => ?_)
            have hM := hM.vS (k := 45) rfl ((10 * x) + y) (zI (anyB (fun r => decide (aKd S r = 1) && cntF S r room x y) (r + 1)))
            refine lv_iinc (v := nI (r + 1)) (lv' := [(5, .int (nI (r + 1))), (0, .ref o), (1, .int room), (2, .int (nI wo)), (3, .int (nI x)), (4, .int (nI y))]) hx hb dX2_ranks_129 hl (k := 5) rfl (nI_add r 1) (by decide) rfl (fun ls hl => ?_)
            refine lv_goto (tgt := 72) hx hb dX2_ranks_132 (by decide) ?_
            exact ih72 (r + 1) _ (by omega) H locs ls ⟨by omega, fun u w hu hw => by have z := rk_one (U := U) (i := 10 * x + y) (j := 10 * u + w) (by omega); rw [(z _).1, (z _).2]; exact hA u w hu hw, fun w hw => by have z := rk_one (U := U) (i := 10 * x + y) (j := 10 * x + w) (by omega); rw [(z _).1, (z _).2]; exact hB w hw, ⟨by rw [vset_off _ _ (by decide)]; exact hC.1, vset_self _ _ _ _⟩, hM, hkp.vs (by decide) _ _, hH, hS, lv_sub hl [1, 2, 3, 4, 5, 0] rfl⟩
          · refine lv_aload_n hx hb dX2_ranks_109 rfl (lv_at hl 0 rfl) ?_
            refine lv_iload hx hb dX2_ranks_110 (lv_at hl 5 rfl) ?_
            refine lv_iload_n hx hb dX2_ranks_112 rfl (lv_at hl 1 rfl) ?_
            refine lv_iload_n hx hb dX2_ranks_113 rfl (lv_at hl 3 rfl) ?_
            refine lv_iload hx hb dX2_ranks_114 (lv_at hl 4 rfl) ?_
            refine hp_callV (As := [.int (nI r), .int room, .int (nI x), .int (nI y)]) (rest := [.int (zI (anyB (fun r => decide (aKd S r = 1) && cntF S r room x y) r)), .int (nI ((10 * x) + y)), .ref (o + 45)]) hx hb hml hown hts hPB hK hH hS (mt_countsFor hK0 hO hM (r := r) (x := x) (y := y) (by omega) (by omega) (by omega) room) mset_o rfl rfl 4 (lw_V q1822 q1824 qs76 q107 q1825) (by decide +kernel) ⟨rfl, rfl⟩ (by decide) rfl hl.1 rfl (Nat.le_of_ble_eq_true rfl) (by decide) dX2_ranks_116 (fun v11 h13 H locs hp12 _ hH hS => ?_)
            obtain ⟨rfl, rfl⟩ := hp12
            refine lvB_eq (tgt := 126) hx hb dX2_ranks_119 (by decide) (fun cc => ?_) (fun cc => ?_)
            · refine lv_iconst (v := nI 0) hx hb dX2_ranks_126 (by decide) ?_
              refine lv_ior hx hb dX2_ranks_127 ?_
              refine lv_top (y := zI (anyB (fun r => decide (aKd S r = 1) && cntF S r room x y) (r + 1))) (or_zI (b := decide (aKd S r = 1) && cntF S r room x y) (zI_0 (by simp [cc]))) ?_
              refine m_zast (n := 100) (j := (10 * x) + y) (x' := zI (anyB (fun r => decide (aKd S r = 1) && cntF S r room x y) (r + 1))) hx hb hK hH hS (by decide) rfl (by first | omega | (refine Nat.lt_of_lt_of_le (Nat.mod_lt _ ?_) ?_ <;> omega)) (by decide) (zI_vnar _) dX2_ranks_128 (fun H locs hH hS => ?_)
              have hM := hM.vS (k := 45) rfl ((10 * x) + y) (zI (anyB (fun r => decide (aKd S r = 1) && cntF S r room x y) (r + 1)))
              refine lv_iinc (v := nI (r + 1)) (lv' := [(5, .int (nI (r + 1))), (0, .ref o), (1, .int room), (2, .int (nI wo)), (3, .int (nI x)), (4, .int (nI y))]) hx hb dX2_ranks_129 hl (k := 5) rfl (nI_add r 1) (by decide) rfl (fun ls hl => ?_)
              refine lv_goto (tgt := 72) hx hb dX2_ranks_132 (by decide) ?_
              exact ih72 (r + 1) _ (by omega) H locs ls ⟨by omega, fun u w hu hw => by have z := rk_one (U := U) (i := 10 * x + y) (j := 10 * u + w) (by omega); rw [(z _).1, (z _).2]; exact hA u w hu hw, fun w hw => by have z := rk_one (U := U) (i := 10 * x + y) (j := 10 * x + w) (by omega); rw [(z _).1, (z _).2]; exact hB w hw, ⟨by rw [vset_off _ _ (by decide)]; exact hC.1, vset_self _ _ _ _⟩, hM, hkp.vs (by decide) _ _, hH, hS, lv_sub hl [1, 2, 3, 4, 5, 0] rfl⟩
            · refine lv_iconst (v := nI 1) hx hb dX2_ranks_122 (by decide) ?_
              refine lv_goto (tgt := 127) hx hb dX2_ranks_123 (by decide) ?_
              refine lv_ior hx hb dX2_ranks_127 ?_
              refine lv_top (y := zI (anyB (fun r => decide (aKd S r = 1) && cntF S r room x y) (r + 1))) (or_zI (b := decide (aKd S r = 1) && cntF S r room x y) (zI_1 (by simp [ck, cc]))) ?_
              refine m_zast (n := 100) (j := (10 * x) + y) (x' := zI (anyB (fun r => decide (aKd S r = 1) && cntF S r room x y) (r + 1))) hx hb hK hH hS (by decide) rfl (by first | omega | (refine Nat.lt_of_lt_of_le (Nat.mod_lt _ ?_) ?_ <;> omega)) (by decide) (zI_vnar _) dX2_ranks_128 (fun H locs hH hS => ?_)
              have hM := hM.vS (k := 45) rfl ((10 * x) + y) (zI (anyB (fun r => decide (aKd S r = 1) && cntF S r room x y) (r + 1)))
              refine lv_iinc (v := nI (r + 1)) (lv' := [(5, .int (nI (r + 1))), (0, .ref o), (1, .int room), (2, .int (nI wo)), (3, .int (nI x)), (4, .int (nI y))]) hx hb dX2_ranks_129 hl (k := 5) rfl (nI_add r 1) (by decide) rfl (fun ls hl => ?_)
              refine lv_goto (tgt := 72) hx hb dX2_ranks_132 (by decide) ?_
              exact ih72 (r + 1) _ (by omega) H locs ls ⟨by omega, fun u w hu hw => by have z := rk_one (U := U) (i := 10 * x + y) (j := 10 * u + w) (by omega); rw [(z _).1, (z _).2]; exact hA u w hu hw, fun w hw => by have z := rk_one (U := U) (i := 10 * x + y) (j := 10 * x + w) (by omega); rw [(z _).1, (z _).2]; exact hB w hw, ⟨by rw [vset_off _ _ (by decide)]; exact hC.1, vset_self _ _ _ _⟩, hM, hkp.vs (by decide) _ _, hH, hS, lv_sub hl [1, 2, 3, 4, 5, 0] rfl⟩
end MODEL
