/-! by gen/mspec.py -/
set_option maxRecDepth 100000
section MODEL
variable {l : Launch} {s0 : State} {D : va_G} {K : Nat → ClassId} {wd : Nat → Nat} {o : Nat} {h : Hp} {I : Nat → Int32} {V : Nat → Nat → Int32} {J : Nat → Nat → Int64}
set_option maxHeartbeats 4000000 in
theorem mc_ring (hK0 : va_K D CL (TYS K) s0) {av : Nat → Nat} {ed mi : Nat} (hG : GX s0 wd av ed mi) {S : Ab} {w : Nat → Nat} {Ls : Nat → List Nat} {Jn : Nat → Nat} {Z : Nat → Nat → Int32} (hO : SOK S) (hO2 : SO2 S) (hW : CW K ed S h w Ls Jn Z) (room k : Int32) : Met l yX0_ring (ws_ yX0_ring cX0_ring 8 ((Option.some Jvm.ClassFile.FieldType.int))) (rmk 5 0 0) (va_Pc [.ref (w 0), .int room, .int k] (PB s0 D CL (h))) (QR s0 D CL (fun v h1 => v = some (.int (spRing S room k)) ∧ ∃ Z1, h1 = zset h K w S Z1)) 0 0 (zA s0) := by
  refine hp_met (by decide) (Nat.le_of_ble_eq_true rfl) hK0 ?_
  intro p e s m below meth cd ls hx hb hr hlocks hml hown hnm hts hK hPB hl hS hH hA
  have hl : lv_has ls 8 [(0, .ref (w 0)), (1, .int room), (2, .int k)] := hl
  have hown : s.vm.findClass RX0 = some m.cls := hown
  have hn := hO.n
  have hmk := hO.mk
  have hrl := hO.rl
  have hrm := hO.rm
  have hsz := hO.sz
  have hW0 := hW
  have hW := hW0.z Z
  have hH : HP D CL (zA s0) (zset h K w S Z) s.heap := by rw [zset_self hW0]; exact hH
  refine lv_aload_n hx hb dX0_ring_0 rfl (lv_at hl 0 rfl) ?_
  refine lv_iload_n hx hb dX0_ring_1 rfl (lv_at hl 1 rfl) ?_
  refine hp_callV (As := [.int room]) (rest := []) hx hb hml hown hts hPB hK hH hS (mc_roomAt hK0 hG hO hO2 hW room) hW.x rfl rfl 1 (lw_V q924 q926 qs24 q102 q927) (by decide +kernel) ⟨rfl, rfl⟩ (by decide) rfl hl.1 rfl (Nat.le_of_ble_eq_true rfl) (by decide) dX0_ring_2 (fun v3 h5 H locs hp4 _ hH hS => ?_)
  rcases hp4.1 with ⟨k1, hk1, hgk1, rfl⟩ | ⟨cz2, rfl⟩
  · have hq := hp4.2; rw [hq] at hH
    subst hgk1
    have hik1 : inN (nI k1) (aRm S) = true := by rw [inN_nI (by omega)]; exact decide_eq_true hk1
    have ek1 := nI_clamp (show k1 < 2 ^ 31 by omega)
    have hp6 := hO.rp (show k1 < aRm S by omega)
    refine lv_ifnonnull (tgt := 10) hx hb dX0_ring_5 (by decide) ?_
    refine lv_aload_n hx hb dX0_ring_10 rfl (lv_at hl 0 rfl) ?_
    refine lv_iload_n hx hb dX0_ring_11 rfl (lv_at hl 1 rfl) ?_
    refine lv_iconst (v := nI 0) hx hb dX0_ring_12 (by decide) ?_
    refine hp_callV (As := [.int (nI k1), .int (nI 0)]) (rest := []) hx hb hml hown hts hPB hK hH hS (mc_findAbove hK0 hG hO hO2 hW0 (Z := Z) (nI k1) (wo := 0) (by omega)) hW.x rfl rfl 2 (lw_V q1099 q1101 qs31 q102 q1102) (by decide +kernel) ⟨rfl, rfl⟩ (by decide) rfl hl.1 rfl (Nat.le_of_ble_eq_true rfl) (by decide) dX0_ring_13 (fun v8 h10 H locs hp9 _ hH hS => ?_)
    obtain ⟨rfl, Y7, hq, hkpY7, hab⟩ := hp9
    rw [hq] at hH
    have hW := hW0.z Y7
    refine lv_iconst (v := (-1)) hx hb dX0_ring_16 (by decide) ?_
    refine lv_istore_n (lv' := [(3, .int (-1)), (0, .ref (w 0)), (1, .int (nI k1)), (2, .int k)]) hx hb dX0_ring_17 rfl hl (by decide) rfl (fun ls hl => ?_)
    refine lv_iconst (v := nI 0) hx hb dX0_ring_18 (by decide) ?_
    refine lv_istore (lv' := [(4, .int (nI 0)), (3, .int (-1)), (0, .ref (w 0)), (1, .int (nI k1)), (2, .int k)]) hx hb dX0_ring_19 hl (by decide) rfl (fun ls hl => ?_)
    refine lv_iconst (v := nI 0) hx hb dX0_ring_21 (by decide) ?_
    refine lv_istore (lv' := [(5, .int (nI 0)), (4, .int (nI 0)), (3, .int (-1)), (0, .ref (w 0)), (1, .int (nI k1)), (2, .int k)]) hx hb dX0_ring_22 hl (by decide) rfl (fun ls hl => ?_)
    refine w_loop2 (fun (g : Nat) (Z1 : Nat → Nat → Int32) => aN S - g) (fun (g : Nat) (Z1 : Nat → Nat → Int32) H locs ls => (g ≤ aN S) ∧ (rowZ (abv S (nI k1) 0) Z1) ∧ HP D CL (zA s0) (zset h K w S Z1) H ∧ va_S (zA s0) s.heap H locs ∧ lv_has ls 8 [(0, .ref (w 0)), (1, .int (nI k1)), (2, .int k), (3, .int (oI (rgS (abv S (nI k1) 0) (aN S) g))), (4, .int (nI (rgL (abv S (nI k1) 0) (aN S) g))), (5, .int (nI g))]) ?_ 0 Y7 ⟨Nat.zero_le _, hab, hH, hS, lv_sub hl [3, 4, 5, 2, 1, 0] rfl⟩
    intro g Z1 ih24 H locs ls hP
    obtain ⟨hg, hab, hH, hS, hl⟩ := hP
    have hW := hW0.z Z1
    have hrl9 := rgL_le (A := abv S (nI k1) 0) (n := aN S) (g := g)
    refine lv_iload hx hb dX0_ring_24 (lv_at hl 5 rfl) ?_
    refine lv_aload_n hx hb dX0_ring_26 rfl (lv_at hl 0 rfl) ?_
    refine hp_get (C := RX0) (T := TX0) (N := 14) (v := .ref (w 3)) hx hb hts in_X0 hown hK hH hW.x rfl 2 (by decide) (hts _ q214) (fun _ z => z) rfl dX0_ring_27 ?_
    refine hp_siz hx hb hml hown hts hPB hK0 hK hH hS hG (hW.li 0 (by decide)) hW.ng q807 (by first | decide | (simp only [rmk]; omega)) hl.1 rfl (Nat.le_of_ble_eq_true rfl) (by decide) dX0_ring_30 (fun H locs hH hS => ?_)
    refine lvN_ge (tgt := 91) hx hb (by first | omega | (refine Nat.lt_of_lt_of_le (Nat.mod_lt _ ?_) ?_ <;> omega)) (by first | omega | (refine Nat.lt_of_lt_of_le (Nat.mod_lt _ ?_) ?_ <;> omega)) dX0_ring_33 (by decide) (fun c11 => ?_) (fun c11 => ?_)
    · have eg : g = aN S := by omega
      refine lv_iload_n hx hb dX0_ring_91 rfl (lv_at hl 3 rfl) ?_
      refine lv_iconst (v := (-1)) hx hb dX0_ring_92 (by decide) ?_
      refine lv_icmp_eq (tgt := 101) hx hb dX0_ring_93 (by decide) (fun c4 => ?_) (fun c4 => ?_)
      · have rgn := rgS_not (by omega) c4
        refine lv_iload_n hx hb dX0_ring_101 rfl (lv_at hl 3 rfl) ?_
        refine lv_iconst (v := (-1)) hx hb dX0_ring_102 (by decide) ?_
        refine lv_icmp_ne (tgt := 110) hx hb dX0_ring_103 (by decide) (fun c6 => ?_) (fun c6 => ?_)
        · exact absurd c4 c6
        · refine lv_iconst (v := (-1)) hx hb dX0_ring_106 (by decide) ?_
          refine lv_goto (tgt := 112) hx hb dX0_ring_107 (by decide) ?_
          exact hp_iret hx hb hr hlocks hH hS (by decide) (by decide) dX0_ring_112 (⟨congrArg some (congrArg Value.int (by simp only [spRing, hik1, if_true, eg ▸ rgn])), _, rfl⟩)
      · obtain ⟨b9, f9, hbf⟩ := rgS_is c4
        have hbl : rgL (abv S (nI k1) 0) (aN S) g = b9 := by unfold rgL; rw [hbf]; rfl
        have hbf2 : rgF (abv S (nI k1) 0) (aN S) (aN S) = some (b9, f9) := eg ▸ hbf
        obtain ⟨hf9, ht9⟩ := rgF_thr _ _ _ hbf
        have hdl := thrO_le _ _ _ _ _ _ ht9
        refine lv_iload_n hx hb dX0_ring_96 rfl (lv_at hl 2 rfl) ?_
        refine lv_iconst (v := (-1)) hx hb dX0_ring_97 (by decide) ?_
        refine lv_icmp_ne (tgt := 113) hx hb dX0_ring_98 (by decide) (fun c5 => ?_) (fun c5 => ?_)
        · refine lv_iload_n hx hb dX0_ring_113 rfl (lv_at hl 2 rfl) ?_
          refine lv_iconst (v := nI 0) hx hb dX0_ring_114 (by decide) ?_
          refine lv_iload hx hb dX0_ring_115 (lv_at hl 4 rfl) ?_
          refine lv_iconst (v := nI 1) hx hb dX0_ring_117 (by decide) ?_
          refine lv_isub hx hb dX0_ring_118 ?_
          refine hp_callS (As := [.int k, .int (nI 0), .int ((nI (rgL (abv S (nI k1) 0) (aN S) g)) - (nI 1))]) (rest := []) hx hb hml hown hts hPB hH hS (mc_in hK0 k (nI 0) ((nI (rgL (abv S (nI k1) 0) (aN S) g)) - (nI 1))) 3 (lw_S q268 q269 q102 q270) (by decide +kernel) ⟨rfl, rfl⟩ (by decide) rfl hl.1 rfl (Nat.le_of_ble_eq_true rfl) (by decide) dX0_ring_119 (fun v12 h14 H locs hp13 _ hH hS => ?_)
          obtain ⟨rfl, hq⟩ := hp13
          rw [hq] at hH
          refine lv_top (y := zI (inN k (rgL (abv S (nI k1) 0) (aN S) g))) (congrArg zI (in_i0 (by omega))) ?_
          refine lvB_ne (tgt := 127) hx hb dX0_ring_122 (by decide) (fun c7 => ?_) (fun c7 => ?_)
          · have c7b := c7
            rw [hbl] at c7b
            obtain ⟨k9, hk9, rfl⟩ := inN_t c7b
            have ek9 := nI_clamp (show k9 < 2 ^ 31 by omega)
            have hl : lv_has ls 8 [(0, .ref (w 0)), (1, .int (nI k1)), (2, .int (nI k9)), (3, .int (nI f9)), (4, .int (nI (rgL (abv S (nI k1) 0) (aN S) g))), (5, .int (nI g))] := by rw [show nI f9 = oI (rgS (abv S (nI k1) 0) (aN S) g) from by unfold rgS; rw [hbf]; rfl]; exact hl
            have hl : lv_has ls 8 [(0, .ref (w 0)), (1, .int (nI k1)), (2, .int (nI k9)), (3, .int (nI f9)), (4, .int (nI b9)), (5, .int (nI g))] := by rw [show nI b9 = nI (rgL (abv S (nI k1) 0) (aN S) g) from congrArg nI hbl.symm]; exact hl
            refine lv_aload_n hx hb dX0_ring_127 rfl (lv_at hl 0 rfl) ?_
            refine lv_iload_n hx hb dX0_ring_128 rfl (lv_at hl 3 rfl) ?_
            refine hp_callV (As := [.int (nI f9)]) (rest := []) hx hb hml hown hts hPB hK hH hS (mc_findSteps hK0 hG hO hO2 hW0 (Z := Z1) (A := abv S (nI k1) 0) (t := f9) hab (by omega)) hW.x rfl rfl 1 (lw_V q1103 q1105 qs32 q102 q1106) (by decide +kernel) ⟨rfl, rfl⟩ (by decide) rfl hl.1 rfl (Nat.le_of_ble_eq_true rfl) (by decide) dX0_ring_129 (fun v16 h18 H locs hp17 _ hH hS => ?_)
            obtain ⟨rfl, Y15, hq, hkpY15, hst⟩ := hp17
            rw [hq] at hH
            have hab := rowZ_k hab hkpY15 (by decide)
            have hW := hW0.z Y15
            refine lv_iload_n hx hb dX0_ring_132 rfl (lv_at hl 3 rfl) ?_
            refine lv_istore (lv' := [(5, .int (nI f9)), (0, .ref (w 0)), (1, .int (nI k1)), (2, .int (nI k9)), (3, .int (nI f9)), (4, .int (nI b9))]) hx hb dX0_ring_133 hl (by decide) rfl (fun ls hl => ?_)
            refine lv_iconst (v := nI 0) hx hb dX0_ring_135 (by decide) ?_
            refine lv_istore (lv' := [(6, .int (nI 0)), (5, .int (nI f9)), (0, .ref (w 0)), (1, .int (nI k1)), (2, .int (nI k9)), (3, .int (nI f9)), (4, .int (nI b9))]) hx hb dX0_ring_136 hl (by decide) rfl (fun ls hl => ?_)
            refine w_loop1 (fun (i : Nat) => k9 - i) (fun (i : Nat) H locs ls => (i ≤ k9) ∧ HP D CL (zA s0) (zset h K w S Y15) H ∧ va_S (zA s0) s.heap H locs ∧ lv_has ls 8 [(0, .ref (w 0)), (2, .int (nI k9)), (3, .int (nI f9)), (4, .int (nI b9)), (5, .int (nI (wlk (abv S (nI k1) 0) (aN S) f9 b9 i))), (6, .int (nI i))]) ?_ 0 ⟨Nat.zero_le _, hH, hS, lv_sub hl [2, 4, 5, 6, 1, 0] rfl⟩
            intro i ih138 H locs ls hP
            obtain ⟨hi, hH, hS, hl⟩ := hP
            have hw9 := wlk_b (A := abv S (nI k1) 0) (n := aN S) (by omega) ht9 (show i < b9 by omega)
            refine lv_iload hx hb dX0_ring_138 (lv_at hl 5 rfl) ?_
            refine lv_iload_n hx hb dX0_ring_140 rfl (lv_at hl 1 rfl) ?_
            refine lvN_ge (tgt := 197) hx hb (by first | omega | (refine Nat.lt_of_lt_of_le (Nat.mod_lt _ ?_) ?_ <;> omega)) (by first | omega | (refine Nat.lt_of_lt_of_le (Nat.mod_lt _ ?_) ?_ <;> omega)) dX0_ring_141 (by decide) (fun c19 => ?_) (fun c19 => ?_)
            · refine lv_iload hx hb dX0_ring_197 (lv_at hl 4 rfl) ?_
              exact hp_iret hx hb hr hlocks hH hS (by decide) (by decide) dX0_ring_199 (⟨congrArg some (congrArg Value.int (by simp only [spRing, hik1, if_true, hbf2, c7b, if_neg c5, ek9]; rw [show i = k9 by omega])), _, rfl⟩)
            · obtain ⟨z9, hz9, hfz, hAz⟩ := (wlk_ok (A := abv S (nI k1) 0) (n := aN S) (by omega) ht9 i (by omega)).2
              refine lv_iconst (v := nI 0) hx hb dX0_ring_144 (by decide) ?_
              refine lv_istore (lv' := [(7, .int (nI 0)), (0, .ref (w 0)), (2, .int (nI k9)), (3, .int (nI f9)), (4, .int (nI b9)), (5, .int (nI (wlk (abv S (nI k1) 0) (aN S) f9 b9 i))), (6, .int (nI i))]) hx hb dX0_ring_145 hl (by decide) rfl (fun ls hl => ?_)
              refine w_loop1 (fun (y : Nat) => z9 + 1 - y) (fun (y : Nat) H locs ls => (y ≤ z9) ∧ (∀ u, u < y → (fun u => decide (farO (abv S (nI k1) 0) (aN S) (2 ^ aN S - 1) f9 10 u = some (b9 - i - 1)) && abv S (nI k1) 0 (wlk (abv S (nI k1) 0) (aN S) f9 b9 i) u) u = false) ∧ HP D CL (zA s0) (zset h K w S Y15) H ∧ va_S (zA s0) s.heap H locs ∧ lv_has ls 8 [(0, .ref (w 0)), (2, .int (nI k9)), (3, .int (nI f9)), (4, .int (nI b9)), (5, .int (nI (wlk (abv S (nI k1) 0) (aN S) f9 b9 i))), (6, .int (nI i)), (7, .int (nI y))]) ?_ 0 ⟨Nat.zero_le _, fun u hu => absurd hu (Nat.not_lt_zero _), hH, hS, lv_sub hl [1, 2, 3, 4, 5, 6, 0] rfl⟩
              intro y ih147 H locs ls hP
              obtain ⟨hyz, hno, hH, hS, hl⟩ := hP
              refine lv_aload_n hx hb dX0_ring_147 rfl (lv_at hl 0 rfl) ?_
              refine lv_iload hx hb dX0_ring_148 (lv_at hl 4 rfl) ?_
              refine lv_iload hx hb dX0_ring_150 (lv_at hl 6 rfl) ?_
              refine hp_callV (As := [.int (nI (wlk (abv S (nI k1) 0) (aN S) f9 b9 i)), .int (nI y)]) (rest := []) hx hb hml hown hts hPB hK hH hS (mc_isAb hK0 hG hO hO2 hW0 (Z := Y15) (A := abv S (nI k1) 0) (x := wlk (abv S (nI k1) 0) (aN S) f9 b9 i) (y := y) hab (by omega) (by omega)) hW.x rfl rfl 2 (lw_V q1107 q1109 qs33 q102 q1110) (by decide +kernel) ⟨rfl, rfl⟩ (by decide) rfl hl.1 rfl (Nat.le_of_ble_eq_true rfl) (by decide) dX0_ring_152 (fun v20 h22 H locs hp21 _ hH hS => ?_)
              obtain ⟨rfl, hq⟩ := hp21
              rw [hq] at hH
              refine lvB_eq (tgt := 181) hx hb dX0_ring_155 (by decide) (fun c8 => ?_) (fun c8 => ?_)
              · refine lv_iinc (v := nI (y + 1)) (lv' := [(7, .int (nI (y + 1))), (0, .ref (w 0)), (2, .int (nI k9)), (3, .int (nI f9)), (4, .int (nI b9)), (5, .int (nI (wlk (abv S (nI k1) 0) (aN S) f9 b9 i))), (6, .int (nI i))]) hx hb dX0_ring_181 hl (k := 6) rfl (nI_add y 1) (by decide) rfl (fun ls hl => ?_)
                refine lv_goto (tgt := 147) hx hb dX0_ring_184 (by decide) ?_
                exact ih147 (y + 1) (by omega) H locs ls ⟨ring_z (p := fun u => decide (farO (abv S (nI k1) 0) (aN S) (2 ^ aN S - 1) f9 10 u = some (b9 - i - 1)) && abv S (nI k1) 0 (wlk (abv S (nI k1) 0) (aN S) f9 b9 i) u) hyz (by rw [decide_eq_true hfz, hAz]; rfl) (by rw [c8]; simp), ring_min (p := fun u => decide (farO (abv S (nI k1) 0) (aN S) (2 ^ aN S - 1) f9 10 u = some (b9 - i - 1)) && abv S (nI k1) 0 (wlk (abv S (nI k1) 0) (aN S) f9 b9 i) u) hno (by rw [c8]; simp), hH, hS, lv_sub hl [1, 2, 3, 4, 5, 6, 0] rfl⟩
              · refine lv_aload_n hx hb dX0_ring_158 rfl (lv_at hl 0 rfl) ?_
                refine hp_get (C := RX0) (T := TX0) (N := 14) (v := .ref (w 8)) hx hb hts in_X0 hown hK hH hW.x rfl 8 (by decide) (hts _ q220) (fun _ z => z) rfl dX0_ring_159 ?_
                refine lv_iload hx hb dX0_ring_162 (lv_at hl 6 rfl) ?_
                refine hp_ild (n := 10) (j := y) (v := (Y15 1) y) hx hb hK hH 0 (hW.ar 1 (by decide)) rfl (by first | omega | (refine Nat.lt_of_lt_of_le (Nat.mod_lt _ ?_) ?_ <;> omega)) (by first | omega | (refine Nat.lt_of_lt_of_le (Nat.mod_lt _ ?_) ?_ <;> omega)) (rfl) dX0_ring_164 ?_
                refine lv_iload hx hb dX0_ring_165 (lv_at hl 3 rfl) ?_
                refine lv_iconst (v := nI 1) hx hb dX0_ring_167 (by decide) ?_
                refine lv_isub hx hb dX0_ring_168 ?_
                refine lv_top (y := nI (b9 - 1)) (pk_sub (by first | omega | (refine Nat.lt_of_lt_of_le (Nat.mod_lt _ ?_) ?_ <;> omega))) ?_
                refine lv_iload hx hb dX0_ring_169 (lv_at hl 5 rfl) ?_
                refine lv_isub hx hb dX0_ring_171 ?_
                refine lv_top (y := nI ((b9 - 1) - i)) (pk_sub (by first | omega | (refine Nat.lt_of_lt_of_le (Nat.mod_lt _ ?_) ?_ <;> omega))) ?_
                refine lv_icmp_ne (tgt := 181) hx hb dX0_ring_172 (by decide) (fun c9 => ?_) (fun c9 => ?_)
                · refine lv_iinc (v := nI (y + 1)) (lv' := [(7, .int (nI (y + 1))), (0, .ref (w 0)), (2, .int (nI k9)), (3, .int (nI f9)), (4, .int (nI b9)), (5, .int (nI (wlk (abv S (nI k1) 0) (aN S) f9 b9 i))), (6, .int (nI i))]) hx hb dX0_ring_181 hl (k := 6) rfl (nI_add y 1) (by decide) rfl (fun ls hl => ?_)
                  refine lv_goto (tgt := 147) hx hb dX0_ring_184 (by decide) ?_
                  exact ih147 (y + 1) (by omega) H locs ls ⟨ring_z (p := fun u => decide (farO (abv S (nI k1) 0) (aN S) (2 ^ aN S - 1) f9 10 u = some (b9 - i - 1)) && abv S (nI k1) 0 (wlk (abv S (nI k1) 0) (aN S) f9 b9 i) u) hyz (by rw [decide_eq_true hfz, hAz]; rfl) (by rw [decide_eq_false (rg_no (by omega) (hst y (by omega)) c9 (by omega))]; rfl), ring_min (p := fun u => decide (farO (abv S (nI k1) 0) (aN S) (2 ^ aN S - 1) f9 10 u = some (b9 - i - 1)) && abv S (nI k1) 0 (wlk (abv S (nI k1) 0) (aN S) f9 b9 i) u) hno (by rw [decide_eq_false (rg_no (by omega) (hst y (by omega)) c9 (by omega))]; rfl), hH, hS, lv_sub hl [1, 2, 3, 4, 5, 6, 0] rfl⟩
                · refine lv_iload hx hb dX0_ring_175 (lv_at hl 6 rfl) ?_
                  refine lv_iload_n hx hb dX0_ring_177 rfl (lv_at hl 2 rfl) ?_
                  refine lvN_ne (tgt := 187) hx hb (by first | omega | (refine Nat.lt_of_lt_of_le (Nat.mod_lt _ ?_) ?_ <;> omega)) (by first | omega | (refine Nat.lt_of_lt_of_le (Nat.mod_lt _ ?_) ?_ <;> omega)) dX0_ring_178 (by decide) (fun c10 => ?_) (fun c10 => ?_)
                  · refine lv_iload hx hb dX0_ring_187 (lv_at hl 6 rfl) ?_
                    refine lv_istore (lv' := [(5, .int (nI y)), (0, .ref (w 0)), (2, .int (nI k9)), (3, .int (nI f9)), (4, .int (nI b9)), (6, .int (nI i)), (7, .int (nI y))]) hx hb dX0_ring_189 hl (by decide) rfl (fun ls hl => ?_)
                    refine lv_iinc (v := nI (i + 1)) (lv' := [(6, .int (nI (i + 1))), (5, .int (nI y)), (0, .ref (w 0)), (2, .int (nI k9)), (3, .int (nI f9)), (4, .int (nI b9)), (7, .int (nI y))]) hx hb dX0_ring_191 hl (k := 5) rfl (nI_add i 1) (by decide) rfl (fun ls hl => ?_)
                    refine lv_goto (tgt := 138) hx hb dX0_ring_194 (by decide) ?_
                    have hl : lv_has ls 8 [(6, .int (nI (i + 1))), (5, .int (nI (wlk (abv S (nI k1) 0) (aN S) f9 b9 (i + 1)))), (0, .ref (w 0)), (2, .int (nI k9)), (3, .int (nI f9)), (4, .int (nI b9)), (7, .int (nI y))] := by rw [show nI (wlk (abv S (nI k1) 0) (aN S) f9 b9 (i + 1)) = nI y from congrArg nI (firstB_eq (p := fun u => decide (farO (abv S (nI k1) 0) (aN S) (2 ^ aN S - 1) f9 10 u = some (b9 - i - 1)) && abv S (nI k1) 0 (wlk (abv S (nI k1) 0) (aN S) f9 b9 i) u) (by rw [decide_eq_true (rg_yes (by omega) (hst y (by omega)) c9 c10 (by omega)), c8]; rfl) _ 0 (Nat.zero_le _) (by omega) (fun u _ hu => hno u hu))]; exact hl
                    exact ih138 (i + 1) (by omega) H locs ls ⟨by omega, hH, hS, lv_sub hl [2, 3, 4, 5, 1, 0] rfl⟩
                  · refine lv_iinc (v := nI (y + 1)) (lv' := [(7, .int (nI (y + 1))), (0, .ref (w 0)), (2, .int (nI k9)), (3, .int (nI f9)), (4, .int (nI b9)), (5, .int (nI (wlk (abv S (nI k1) 0) (aN S) f9 b9 i))), (6, .int (nI i))]) hx hb dX0_ring_181 hl (k := 6) rfl (nI_add y 1) (by decide) rfl (fun ls hl => ?_)
                    refine lv_goto (tgt := 147) hx hb dX0_ring_184 (by decide) ?_
                    exact ih147 (y + 1) (by omega) H locs ls ⟨ring_z (p := fun u => decide (farO (abv S (nI k1) 0) (aN S) (2 ^ aN S - 1) f9 10 u = some (b9 - i - 1)) && abv S (nI k1) 0 (wlk (abv S (nI k1) 0) (aN S) f9 b9 i) u) hyz (by rw [decide_eq_true hfz, hAz]; rfl) (by rw [c10, decide_eq_false (rg_f (by omega))]; rfl), ring_min (p := fun u => decide (farO (abv S (nI k1) 0) (aN S) (2 ^ aN S - 1) f9 10 u = some (b9 - i - 1)) && abv S (nI k1) 0 (wlk (abv S (nI k1) 0) (aN S) f9 b9 i) u) hno (by rw [c10, decide_eq_false (rg_f (by omega))]; rfl), hH, hS, lv_sub hl [1, 2, 3, 4, 5, 6, 0] rfl⟩
          · have c7b := c7
            rw [hbl] at c7b
            refine lv_iconst (v := (-1)) hx hb dX0_ring_125 (by decide) ?_
            exact hp_iret hx hb hr hlocks hH hS (by decide) (by decide) dX0_ring_126 (⟨congrArg some (congrArg Value.int (by simp only [spRing, hik1, if_true, hbf2, c7b, if_neg c5]; rfl)), _, rfl⟩)
        · refine lv_iload_n hx hb dX0_ring_101 rfl (lv_at hl 3 rfl) ?_
          refine lv_iconst (v := (-1)) hx hb dX0_ring_102 (by decide) ?_
          refine lv_icmp_ne (tgt := 110) hx hb dX0_ring_103 (by decide) (fun c6 => ?_) (fun c6 => ?_)
          · refine lv_iload hx hb dX0_ring_110 (lv_at hl 4 rfl) ?_
            exact hp_iret hx hb hr hlocks hH hS (by decide) (by decide) dX0_ring_112 (⟨congrArg some (congrArg Value.int (by simp only [spRing, hik1, if_true, hbf2, if_pos c5]; rw [hbl])), _, rfl⟩)
          · exact absurd c6 c4
    · refine lv_aload_n hx hb dX0_ring_36 rfl (lv_at hl 0 rfl) ?_
      refine lv_iload hx hb dX0_ring_37 (lv_at hl 5 rfl) ?_
      refine hp_callV (As := [.int (nI g)]) (rest := []) hx hb hml hown hts hPB hK hH hS (mc_findSteps hK0 hG hO hO2 hW0 (Z := Z1) (A := abv S (nI k1) 0) (t := g) hab (by omega)) hW.x rfl rfl 1 (lw_V q1103 q1105 qs32 q102 q1106) (by decide +kernel) ⟨rfl, rfl⟩ (by decide) rfl hl.1 rfl (Nat.le_of_ble_eq_true rfl) (by decide) dX0_ring_39 (fun v24 h26 H locs hp25 _ hH hS => ?_)
      obtain ⟨rfl, Y23, hq, hkpY23, hst⟩ := hp25
      rw [hq] at hH
      have hab := rowZ_k hab hkpY23 (by decide)
      have hW := hW0.z Y23
      refine lv_aload_n hx hb dX0_ring_42 rfl (lv_at hl 0 rfl) ?_
      refine hp_get (C := RX0) (T := TX0) (N := 14) (v := .ref (w 8)) hx hb hts in_X0 hown hK hH hW.x rfl 8 (by decide) (hts _ q220) (fun _ z => z) rfl dX0_ring_43 ?_
      refine lv_iload hx hb dX0_ring_46 (lv_at hl 5 rfl) ?_
      refine hp_ild (n := 10) (j := g) (v := (Y23 1) g) hx hb hK hH 0 (hW.ar 1 (by decide)) rfl (by first | omega | (refine Nat.lt_of_lt_of_le (Nat.mod_lt _ ?_) ?_ <;> omega)) (by first | omega | (refine Nat.lt_of_lt_of_le (Nat.mod_lt _ ?_) ?_ <;> omega)) (rfl) dX0_ring_48 ?_
      refine lv_iconst (v := (-1)) hx hb dX0_ring_49 (by decide) ?_
      refine lv_icmp_eq (tgt := 85) hx hb dX0_ring_50 (by decide) (fun c1 => ?_) (fun c1 => ?_)
      · have hthr := (st_ring (A := abv S (nI k1) 0) (n := aN S) (t := g) (by omega) hn (abv_rr _ _ _ _)).symm.trans ((oI_none (st_b (by decide))).mp ((hst g (by omega)).symm.trans c1))
        refine lv_iinc (v := nI (g + 1)) (lv' := [(5, .int (nI (g + 1))), (0, .ref (w 0)), (1, .int (nI k1)), (2, .int k), (3, .int (oI (rgS (abv S (nI k1) 0) (aN S) g))), (4, .int (nI (rgL (abv S (nI k1) 0) (aN S) g)))]) hx hb dX0_ring_85 hl (k := 5) rfl (nI_add g 1) (by decide) rfl (fun ls hl => ?_)
        refine lv_goto (tgt := 24) hx hb dX0_ring_88 (by decide) ?_
        have hrs := rg_same (rg_none hthr)
        have hl : lv_has ls 8 [(5, .int (nI (g + 1))), (0, .ref (w 0)), (1, .int (nI k1)), (2, .int k), (3, .int (oI (rgS (abv S (nI k1) 0) (aN S) (g + 1)))), (4, .int (nI (rgL (abv S (nI k1) 0) (aN S) g)))] := by rw [show oI (rgS (abv S (nI k1) 0) (aN S) (g + 1)) = oI (rgS (abv S (nI k1) 0) (aN S) g) from congrArg oI hrs.1]; exact hl
        have hl : lv_has ls 8 [(5, .int (nI (g + 1))), (0, .ref (w 0)), (1, .int (nI k1)), (2, .int k), (3, .int (oI (rgS (abv S (nI k1) 0) (aN S) (g + 1)))), (4, .int (nI (rgL (abv S (nI k1) 0) (aN S) (g + 1))))] := by rw [show nI (rgL (abv S (nI k1) 0) (aN S) (g + 1)) = nI (rgL (abv S (nI k1) 0) (aN S) g) from congrArg nI hrs.2]; exact hl
        exact ih24 (g + 1) Y23 (by omega) H locs ls ⟨by omega, hab, hH, hS, lv_sub hl [1, 2, 3, 4, 5, 0] rfl⟩
      · obtain ⟨d9, hd9⟩ := far_is (fun q => c1 ((hst g (by omega)).trans q))
        have hthr := (st_ring (A := abv S (nI k1) 0) (n := aN S) (t := g) (by omega) hn (abv_rr _ _ _ _)).symm.trans hd9
        have hdl := thrO_le _ _ _ _ _ _ hthr
        refine lv_iload_n hx hb dX0_ring_53 rfl (lv_at hl 3 rfl) ?_
        refine lv_iconst (v := (-1)) hx hb dX0_ring_54 (by decide) ?_
        refine lv_icmp_eq (tgt := 73) hx hb dX0_ring_55 (by decide) (fun c2 => ?_) (fun c2 => ?_)
        · have rgn := rgS_not (by omega) c2
          refine lv_iload hx hb dX0_ring_73 (lv_at hl 5 rfl) ?_
          refine lv_istore_n (lv' := [(3, .int (nI g)), (0, .ref (w 0)), (1, .int (nI k1)), (2, .int k), (4, .int (nI (rgL (abv S (nI k1) 0) (aN S) g))), (5, .int (nI g))]) hx hb dX0_ring_75 rfl hl (by decide) rfl (fun ls hl => ?_)
          refine lv_aload_n hx hb dX0_ring_76 rfl (lv_at hl 1 rfl) ?_
          refine hp_get (C := RX0) (T := TX0) (N := 14) (v := .ref (w 8)) hx hb hts in_X0 hown hK hH hW.x rfl 8 (by decide) (hts _ q220) (fun _ z => z) rfl dX0_ring_77 ?_
          refine lv_iload hx hb dX0_ring_80 (lv_at hl 5 rfl) ?_
          refine hp_ild (n := 10) (j := g) (v := nI d9) hx hb hK hH 0 (hW.ar 1 (by decide)) rfl (by first | omega | (refine Nat.lt_of_lt_of_le (Nat.mod_lt _ ?_) ?_ <;> omega)) (by first | omega | (refine Nat.lt_of_lt_of_le (Nat.mod_lt _ ?_) ?_ <;> omega)) ((hst g (by omega)).trans (congrArg oI hd9)) dX0_ring_82 ?_
          refine lv_istore (lv' := [(4, .int (nI d9)), (3, .int (nI g)), (0, .ref (w 0)), (1, .int (nI k1)), (2, .int k), (5, .int (nI g))]) hx hb dX0_ring_83 hl (by decide) rfl (fun ls hl => ?_)
          refine lv_iinc (v := nI (g + 1)) (lv' := [(5, .int (nI (g + 1))), (4, .int (nI d9)), (3, .int (nI g)), (0, .ref (w 0)), (1, .int (nI k1)), (2, .int k)]) hx hb dX0_ring_85 hl (k := 5) rfl (nI_add g 1) (by decide) rfl (fun ls hl => ?_)
          refine lv_goto (tgt := 24) hx hb dX0_ring_88 (by decide) ?_
          have hrs := rg_put (rg_new hthr rgn)
          have hl : lv_has ls 8 [(5, .int (nI (g + 1))), (4, .int (nI d9)), (3, .int (oI (rgS (abv S (nI k1) 0) (aN S) (g + 1)))), (0, .ref (w 0)), (1, .int (nI k1)), (2, .int k)] := by rw [show oI (rgS (abv S (nI k1) 0) (aN S) (g + 1)) = nI g from congrArg oI hrs.1]; exact hl
          have hl : lv_has ls 8 [(5, .int (nI (g + 1))), (4, .int (nI (rgL (abv S (nI k1) 0) (aN S) (g + 1)))), (3, .int (oI (rgS (abv S (nI k1) 0) (aN S) (g + 1)))), (0, .ref (w 0)), (1, .int (nI k1)), (2, .int k)] := by rw [show nI (rgL (abv S (nI k1) 0) (aN S) (g + 1)) = nI d9 from congrArg nI hrs.2]; exact hl
          exact ih24 (g + 1) Y23 (by omega) H locs ls ⟨by omega, hab, hH, hS, lv_sub hl [3, 4, 5, 2, 1, 0] rfl⟩
        · obtain ⟨b9, f9, hbf⟩ := rgS_is c2
          have hbl : rgL (abv S (nI k1) 0) (aN S) g = b9 := by unfold rgL; rw [hbf]; rfl
          refine lv_aload_n hx hb dX0_ring_58 rfl (lv_at hl 0 rfl) ?_
          refine hp_get (C := RX0) (T := TX0) (N := 14) (v := .ref (w 8)) hx hb hts in_X0 hown hK hH hW.x rfl 8 (by decide) (hts _ q220) (fun _ z => z) rfl dX0_ring_59 ?_
          refine lv_iload hx hb dX0_ring_62 (lv_at hl 5 rfl) ?_
          refine hp_ild (n := 10) (j := g) (v := nI d9) hx hb hK hH 0 (hW.ar 1 (by decide)) rfl (by first | omega | (refine Nat.lt_of_lt_of_le (Nat.mod_lt _ ?_) ?_ <;> omega)) (by first | omega | (refine Nat.lt_of_lt_of_le (Nat.mod_lt _ ?_) ?_ <;> omega)) ((hst g (by omega)).trans (congrArg oI hd9)) dX0_ring_64 ?_
          refine lv_iload hx hb dX0_ring_65 (lv_at hl 4 rfl) ?_
          refine lvN_lt (tgt := 73) hx hb (by first | omega | (refine Nat.lt_of_lt_of_le (Nat.mod_lt _ ?_) ?_ <;> omega)) (by first | omega | (refine Nat.lt_of_lt_of_le (Nat.mod_lt _ ?_) ?_ <;> omega)) dX0_ring_67 (by decide) (fun c3 => ?_) (fun c3 => ?_)
          · refine lv_iload hx hb dX0_ring_73 (lv_at hl 5 rfl) ?_
            refine lv_istore_n (lv' := [(3, .int (nI g)), (0, .ref (w 0)), (1, .int (nI k1)), (2, .int k), (4, .int (nI (rgL (abv S (nI k1) 0) (aN S) g))), (5, .int (nI g))]) hx hb dX0_ring_75 rfl hl (by decide) rfl (fun ls hl => ?_)
            refine lv_aload_n hx hb dX0_ring_76 rfl (lv_at hl 1 rfl) ?_
            refine hp_get (C := RX0) (T := TX0) (N := 14) (v := .ref (w 8)) hx hb hts in_X0 hown hK hH hW.x rfl 8 (by decide) (hts _ q220) (fun _ z => z) rfl dX0_ring_77 ?_
            refine lv_iload hx hb dX0_ring_80 (lv_at hl 5 rfl) ?_
            refine hp_ild (n := 10) (j := g) (v := nI d9) hx hb hK hH 0 (hW.ar 1 (by decide)) rfl (by first | omega | (refine Nat.lt_of_lt_of_le (Nat.mod_lt _ ?_) ?_ <;> omega)) (by first | omega | (refine Nat.lt_of_lt_of_le (Nat.mod_lt _ ?_) ?_ <;> omega)) ((hst g (by omega)).trans (congrArg oI hd9)) dX0_ring_82 ?_
            refine lv_istore (lv' := [(4, .int (nI d9)), (3, .int (nI g)), (0, .ref (w 0)), (1, .int (nI k1)), (2, .int k), (5, .int (nI g))]) hx hb dX0_ring_83 hl (by decide) rfl (fun ls hl => ?_)
            refine lv_iinc (v := nI (g + 1)) (lv' := [(5, .int (nI (g + 1))), (4, .int (nI d9)), (3, .int (nI g)), (0, .ref (w 0)), (1, .int (nI k1)), (2, .int k)]) hx hb dX0_ring_85 hl (k := 5) rfl (nI_add g 1) (by decide) rfl (fun ls hl => ?_)
            refine lv_goto (tgt := 24) hx hb dX0_ring_88 (by decide) ?_
            have hrs := rg_put (rg_less hthr hbf (by omega))
            have hl : lv_has ls 8 [(5, .int (nI (g + 1))), (4, .int (nI d9)), (3, .int (oI (rgS (abv S (nI k1) 0) (aN S) (g + 1)))), (0, .ref (w 0)), (1, .int (nI k1)), (2, .int k)] := by rw [show oI (rgS (abv S (nI k1) 0) (aN S) (g + 1)) = nI g from congrArg oI hrs.1]; exact hl
            have hl : lv_has ls 8 [(5, .int (nI (g + 1))), (4, .int (nI (rgL (abv S (nI k1) 0) (aN S) (g + 1)))), (3, .int (oI (rgS (abv S (nI k1) 0) (aN S) (g + 1)))), (0, .ref (w 0)), (1, .int (nI k1)), (2, .int k)] := by rw [show nI (rgL (abv S (nI k1) 0) (aN S) (g + 1)) = nI d9 from congrArg nI hrs.2]; exact hl
            exact ih24 (g + 1) Y23 (by omega) H locs ls ⟨by omega, hab, hH, hS, lv_sub hl [3, 4, 5, 2, 1, 0] rfl⟩
          · refine lv_goto (tgt := 85) hx hb dX0_ring_70 (by decide) ?_
            refine lv_iinc (v := nI (g + 1)) (lv' := [(5, .int (nI (g + 1))), (0, .ref (w 0)), (1, .int (nI k1)), (2, .int k), (3, .int (oI (rgS (abv S (nI k1) 0) (aN S) g))), (4, .int (nI (rgL (abv S (nI k1) 0) (aN S) g)))]) hx hb dX0_ring_85 hl (k := 5) rfl (nI_add g 1) (by decide) rfl (fun ls hl => ?_)
            refine lv_goto (tgt := 24) hx hb dX0_ring_88 (by decide) ?_
            have hrs := rg_same (rg_keep hthr hbf (by omega))
            have hl : lv_has ls 8 [(5, .int (nI (g + 1))), (0, .ref (w 0)), (1, .int (nI k1)), (2, .int k), (3, .int (oI (rgS (abv S (nI k1) 0) (aN S) (g + 1)))), (4, .int (nI (rgL (abv S (nI k1) 0) (aN S) g)))] := by rw [show oI (rgS (abv S (nI k1) 0) (aN S) (g + 1)) = oI (rgS (abv S (nI k1) 0) (aN S) g) from congrArg oI hrs.1]; exact hl
            have hl : lv_has ls 8 [(5, .int (nI (g + 1))), (0, .ref (w 0)), (1, .int (nI k1)), (2, .int k), (3, .int (oI (rgS (abv S (nI k1) 0) (aN S) (g + 1)))), (4, .int (nI (rgL (abv S (nI k1) 0) (aN S) (g + 1))))] := by rw [show nI (rgL (abv S (nI k1) 0) (aN S) (g + 1)) = nI (rgL (abv S (nI k1) 0) (aN S) g) from congrArg nI hrs.2]; exact hl
            exact ih24 (g + 1) Y23 (by omega) H locs ls ⟨by omega, hab, hH, hS, lv_sub hl [1, 2, 3, 4, 5, 0] rfl⟩
  · have hq := hp4.2; rw [hq] at hH
    refine lv_ifnonnullN hx hb dX0_ring_5 ?_
    refine lv_iconst (v := (-1)) hx hb dX0_ring_8 (by decide) ?_
    exact hp_iret hx hb hr hlocks hH hS (by decide) (by decide) dX0_ring_9 (⟨congrArg some (congrArg Value.int (by simp [spRing, cz2])), _, rfl⟩)
end MODEL
