/-! by gen/mspec.py -/
set_option maxRecDepth 100000
section MODEL
variable {l : Launch} {s0 : State} {D : va_G} {K : Nat → ClassId} {wd : Nat → Nat} {o : Nat} {h : Hp} {I : Nat → Int32} {V : Nat → Nat → Int32} {J : Nat → Nat → Int64}
set_option maxHeartbeats 4000000 in
theorem mc_isEven (hK0 : va_K D CL (TYS K) s0) {av : Nat → Nat} {ed mi : Nat} (hG : GX s0 wd av ed mi) {S : Ab} {w : Nat → Nat} {Ls : Nat → List Nat} {Jn : Nat → Nat} {Z : Nat → Nat → Int32} (hO : SOK S) (hO2 : SO2 S) (hW : CW K ed S h w Ls Jn Z) {r : Nat} (room : Int32) (hr0 : r < aRl S) : Met l yX0_isEven (ws_ yX0_isEven cX0_isEven 3 ((Option.some Jvm.ClassFile.FieldType.boolean))) (rmk 2 0 0) (va_Pc [.ref (w 0), .ref ((Ls 2).getD r 0), .int room] (PB s0 D CL (h))) (QR s0 D CL (fun v h1 => v = some (.int (zI (decide (aKd S r = 1) && cnt S r room))) ∧ h1 = h)) 0 0 (zA s0) := by
  refine hp_met (by decide) (Nat.le_of_ble_eq_true rfl) hK0 ?_
  intro p e s m below meth cd ls hx hb hr hlocks hml hown hnm hts hK hPB hl hS hH hA
  have hl : lv_has ls 3 [(0, .ref (w 0)), (1, .ref ((Ls 2).getD r 0)), (2, .int room)] := hl
  have hown : s.vm.findClass RX0 = some m.cls := hown
  have hn := hO.n
  have hmk := hO.mk
  have hrl := hO.rl
  have hrm := hO.rm
  have hsz := hO.sz
  have hkd := hO.kd hr0
  refine lv_aload_n hx hb dX0_isEven_0 rfl (lv_at hl 1 rfl) ?_
  refine hp_kind hx hb hml hown hts hPB hK0 hK hH hS hG (hW.r (show r < aRl S by omega)) (hO.kd (show r < aRl S by omega)) q887 (by first | decide | (simp only [rmk]; omega)) hl.1 rfl (Nat.le_of_ble_eq_true rfl) (by decide) dX0_isEven_1 (fun H locs hH hS => ?_)
  refine lv_iconst (v := nI 1) hx hb dX0_isEven_4 (by decide) ?_
  refine lvN_ne (tgt := 20) hx hb (by first | omega | (refine Nat.lt_of_lt_of_le (Nat.mod_lt _ ?_) ?_ <;> omega)) (by first | omega | (refine Nat.lt_of_lt_of_le (Nat.mod_lt _ ?_) ?_ <;> omega)) dX0_isEven_5 (by decide) (fun c1 => ?_) (fun c1 => ?_)
  · refine lv_iconst (v := nI 0) hx hb dX0_isEven_20 (by decide) ?_
    exact hp_zret hx hb hr rfl hlocks hH hS (by decide) (by decide) dX0_isEven_21 (⟨congrArg some (congrArg Value.int (zI_0 (by rw [decide_eq_false c1]; rfl))), rfl⟩)
  · refine lv_aload_n hx hb dX0_isEven_8 rfl (lv_at hl 1 rfl) ?_
    refine lv_iload_n hx hb dX0_isEven_9 rfl (lv_at hl 2 rfl) ?_
    refine hp_cin hx hb hml hown hts hPB hK0 hK hH hS hG (hW.r (show r < aRl S by omega)) (hO.kd (show r < aRl S by omega)) q993 (by first | decide | (simp only [rmk]; omega)) hl.1 rfl (Nat.le_of_ble_eq_true rfl) (by decide) dX0_isEven_10 (fun H locs hH hS => ?_)
    refine lv_top (y := zI (cnt S r room)) rfl ?_
    refine lvB_eq (tgt := 20) hx hb dX0_isEven_13 (by decide) (fun c2 => ?_) (fun c2 => ?_)
    · refine lv_iconst (v := nI 0) hx hb dX0_isEven_20 (by decide) ?_
      exact hp_zret hx hb hr rfl hlocks hH hS (by decide) (by decide) dX0_isEven_21 (⟨congrArg some (congrArg Value.int (zI_0 (by rw [c2]; simp))), rfl⟩)
    · refine lv_iconst (v := nI 1) hx hb dX0_isEven_16 (by decide) ?_
      refine lv_goto (tgt := 21) hx hb dX0_isEven_17 (by decide) ?_
      exact hp_zret hx hb hr rfl hlocks hH hS (by decide) (by decide) dX0_isEven_21 (⟨congrArg some (congrArg Value.int (zI_1 (by rw [decide_eq_true c1, c2]; rfl))), rfl⟩)
set_option maxHeartbeats 4000000 in
theorem mc_together (hK0 : va_K D CL (TYS K) s0) {av : Nat → Nat} {ed mi : Nat} (hG : GX s0 wd av ed mi) {S : Ab} {w : Nat → Nat} {Ls : Nat → List Nat} {Jn : Nat → Nat} {Z : Nat → Nat → Int32} {Z9 : Nat → Nat → Int32} (hO : SOK S) (hO2 : SO2 S) (hW0 : CW K ed S h w Ls Jn Z9) (room : Int32) : Met l yX0_findTogether (ws_ yX0_findTogether cX0_findTogether 8 ((Option.none : Option Jvm.ClassFile.FieldType))) (rmk 4 0 0) (va_Pc [.ref (w 0), .int room] (PB s0 D CL (zset h K w S Z))) (QR s0 D CL (fun v h1 => v = none ∧ ∃ Z1, h1 = zset h K w S Z1 ∧ kp [2] Z Z1 ∧ ∃ f, hpZ f Z1 ∧ tgF (evn S room) (aN S) f)) 0 0 (zA s0) := by
  refine hp_met (by decide) (Nat.le_of_ble_eq_true rfl) hK0 ?_
  intro p e s m below meth cd ls hx hb hr hlocks hml hown hnm hts hK hPB hl hS hH hA
  have hl : lv_has ls 8 [(0, .ref (w 0)), (1, .int room)] := hl
  have hown : s.vm.findClass RX0 = some m.cls := hown
  have hn := hO.n
  have hmk := hO.mk
  have hrl := hO.rl
  have hrm := hO.rm
  have hsz := hO.sz
  have hW := hW0.z Z
  refine lv_iconst (v := nI 0) hx hb dX0_findTogether_0 (by decide) ?_
  refine lv_istore_n (lv' := [(2, .int (nI 0)), (0, .ref (w 0)), (1, .int room)]) hx hb dX0_findTogether_1 rfl hl (by decide) rfl (fun ls hl => ?_)
  refine w_loop2 (fun (k : Nat) (Z1 : Nat → Nat → Int32) => 10 - k) (fun (k : Nat) (Z1 : Nat → Nat → Int32) H locs ls => (k ≤ 10) ∧ (kp [2] Z Z1) ∧ (∀ u, u < k → Z1 2 u = nI u) ∧ HP D CL (zA s0) (zset h K w S Z1) H ∧ va_S (zA s0) s.heap H locs ∧ lv_has ls 8 [(0, .ref (w 0)), (1, .int room), (2, .int (nI k))]) ?_ 0 Z ⟨Nat.zero_le _, kp.rf, fun u hu => absurd hu (Nat.not_lt_zero _), hH, hS, lv_sub hl [1, 2, 0] rfl⟩
  intro k Z1 ih2 H locs ls hP
  obtain ⟨hk, hkp, hz, hH, hS, hl⟩ := hP
  have hW := hW0.z Z1
  refine lv_iload_n hx hb dX0_findTogether_2 rfl (lv_at hl 2 rfl) ?_
  refine lv_bipush (v := nI 10) hx hb dX0_findTogether_3 (by decide) ?_
  refine lvN_ge (tgt := 21) hx hb (by first | omega | (refine Nat.lt_of_lt_of_le (Nat.mod_lt _ ?_) ?_ <;> omega)) (by first | omega | (refine Nat.lt_of_lt_of_le (Nat.mod_lt _ ?_) ?_ <;> omega)) dX0_findTogether_5 (by decide) (fun c1 => ?_) (fun c1 => ?_)
  · refine lv_iconst (v := nI 0) hx hb dX0_findTogether_21 (by decide) ?_
    refine lv_istore_n (lv' := [(2, .int (nI 0)), (0, .ref (w 0)), (1, .int room)]) hx hb dX0_findTogether_22 rfl hl (by decide) rfl (fun ls hl => ?_)
    refine w_loop3 (fun (t : Nat) (f : Nat → Nat) (Z2 : Nat → Nat → Int32) => 10 - t) (fun (t : Nat) (f : Nat → Nat) (Z2 : Nat → Nat → Int32) H locs ls => (t ≤ 10) ∧ (kp [2] Z Z2) ∧ (hpZ f Z2) ∧ (relJ (evn S room) (aN S) t (fun _ _ => false) f) ∧ HP D CL (zA s0) (zset h K w S Z2) H ∧ va_S (zA s0) s.heap H locs ∧ lv_has ls 8 [(0, .ref (w 0)), (1, .int room), (2, .int (nI t))]) ?_ 0 (fun u => u) Z1 ⟨Nat.zero_le _, hkp, fun u hu => hz u (by omega), rj_0, hH, hS, lv_sub hl [1, 2, 0] rfl⟩
    intro t f Z2 ih23 H locs ls hP
    obtain ⟨hk, hkp, hz, hrj, hH, hS, hl⟩ := hP
    have hW := hW0.z Z2
    refine lv_iload_n hx hb dX0_findTogether_23 rfl (lv_at hl 2 rfl) ?_
    refine lv_bipush (v := nI 10) hx hb dX0_findTogether_24 (by decide) ?_
    refine lvN_ge (tgt := 175) hx hb (by first | omega | (refine Nat.lt_of_lt_of_le (Nat.mod_lt _ ?_) ?_ <;> omega)) (by first | omega | (refine Nat.lt_of_lt_of_le (Nat.mod_lt _ ?_) ?_ <;> omega)) dX0_findTogether_26 (by decide) (fun c2 => ?_) (fun c2 => ?_)
    · exact hp_vret hx hb hr hlocks hH hS (by decide) (by decide) dX0_findTogether_175 (⟨rfl, _, rfl, hkp, f, hz, rj_end hn (fun x y => evn_sym) ((show t = 10 by omega) ▸ hrj)⟩)
    · refine lv_iconst (v := nI 0) hx hb dX0_findTogether_29 (by decide) ?_
      refine lv_istore_n (lv' := [(3, .int (nI 0)), (0, .ref (w 0)), (1, .int room), (2, .int (nI t))]) hx hb dX0_findTogether_30 rfl hl (by decide) rfl (fun ls hl => ?_)
      refine w_loop3 (fun (i : Nat) (f : Nat → Nat) (Z3 : Nat → Nat → Int32) => aRl S - i) (fun (i : Nat) (f : Nat → Nat) (Z3 : Nat → Nat → Int32) H locs ls => (i ≤ aRl S) ∧ (kp [2] Z Z3) ∧ (hpZ f Z3) ∧ (relJ (evn S room) (aN S) t (evF S room i) f) ∧ HP D CL (zA s0) (zset h K w S Z3) H ∧ va_S (zA s0) s.heap H locs ∧ lv_has ls 8 [(0, .ref (w 0)), (1, .int room), (2, .int (nI t)), (3, .int (nI i))]) ?_ 0 f Z2 ⟨Nat.zero_le _, hkp, hz, hrj, hH, hS, lv_sub hl [1, 2, 3, 0] rfl⟩
      intro i f Z3 ih31 H locs ls hP
      obtain ⟨hi, hkp, hz, hrj, hH, hS, hl⟩ := hP
      have hW := hW0.z Z3
      refine lv_iload_n hx hb dX0_findTogether_31 rfl (lv_at hl 3 rfl) ?_
      refine lv_aload_n hx hb dX0_findTogether_32 rfl (lv_at hl 0 rfl) ?_
      refine hp_get (C := RX0) (T := TX0) (N := 14) (v := .ref (w 5)) hx hb hts in_X0 hown hK hH hW.x rfl 4 (by decide) (hts _ q216) (fun _ z => z) rfl dX0_findTogether_33 ?_
      refine hp_siz hx hb hml hown hts hPB hK0 hK hH hS hG (hW.li 2 (by decide)) hW.nr q807 (by first | decide | (simp only [rmk]; omega)) hl.1 rfl (Nat.le_of_ble_eq_true rfl) (by decide) dX0_findTogether_36 (fun H locs hH hS => ?_)
      refine lvN_ge (tgt := 169) hx hb (by first | omega | (refine Nat.lt_of_lt_of_le (Nat.mod_lt _ ?_) ?_ <;> omega)) (by first | omega | (refine Nat.lt_of_lt_of_le (Nat.mod_lt _ ?_) ?_ <;> omega)) dX0_findTogether_39 (by decide) (fun c3 => ?_) (fun c3 => ?_)
      · refine lv_iinc (v := nI (t + 1)) (lv' := [(2, .int (nI (t + 1))), (0, .ref (w 0)), (1, .int room), (3, .int (nI i))]) hx hb dX0_findTogether_169 hl (k := 2) rfl (nI_add t 1) (by decide) rfl (fun ls hl => ?_)
        refine lv_goto (tgt := 23) hx hb dX0_findTogether_172 (by decide) ?_
        exact ih23 (t + 1) f Z3 (by omega) H locs ls ⟨by omega, hkp, hz, rj_turn (rj_c hrj (fun u z q => by rw [show i = aRl S by omega]; exact q)), hH, hS, lv_sub hl [1, 2, 0] rfl⟩
      · refine lv_aload_n hx hb dX0_findTogether_42 rfl (lv_at hl 0 rfl) ?_
        refine hp_get (C := RX0) (T := TX0) (N := 14) (v := .ref (w 5)) hx hb hts in_X0 hown hK hH hW.x rfl 4 (by decide) (hts _ q216) (fun _ z => z) rfl dX0_findTogether_43 ?_
        refine lv_iload_n hx hb dX0_findTogether_46 rfl (lv_at hl 3 rfl) ?_
        refine hp_lget hx hb hml hown hts hPB hK0 hK hH hS hG (hW.li 2 (by decide)) (k9 := i) (by rw [hW.nr]; omega) q808 (by first | decide | (simp only [rmk]; omega)) hl.1 rfl (Nat.le_of_ble_eq_true rfl) (by decide) dX0_findTogether_47 (fun H locs hH hS => ?_)
        have hn4 := cN_le S i
        have hkhn4 := hO.kd (show i < aRl S by omega)
        have hwhn4 := hO.wt (show i < aRl S by omega)
        refine hp_castR hx hb hown (hts _ q812) hG hPB hK hH (hW.r (show i < aRl S by omega)) (hO.kd (show i < aRl S by omega)) dX0_findTogether_50 ?_
        refine lv_astore (lv' := [(4, .ref ((Ls 2).getD i 0)), (0, .ref (w 0)), (1, .int room), (2, .int (nI t)), (3, .int (nI i))]) hx hb dX0_findTogether_53 hl (by decide) rfl (fun ls hl => ?_)
        refine lv_iconst (v := nI 0) hx hb dX0_findTogether_55 (by decide) ?_
        refine lv_istore (lv' := [(5, .int (nI 0)), (4, .ref ((Ls 2).getD i 0)), (0, .ref (w 0)), (1, .int room), (2, .int (nI t)), (3, .int (nI i))]) hx hb dX0_findTogether_56 hl (by decide) rfl (fun ls hl => ?_)
        refine w_loop3 (fun (k : Nat) (f : Nat → Nat) (Z4 : Nat → Nat → Int32) => cN S i - k) (fun (k : Nat) (f : Nat → Nat) (Z4 : Nat → Nat → Int32) H locs ls => (k ≤ cN S i) ∧ (kp [2] Z Z4) ∧ (hpZ f Z4) ∧ (relJ (evn S room) (aN S) t (evD S room i k) f) ∧ (k = 0 ∨ (decide (aKd S i = 1) && cnt S i room) = true) ∧ HP D CL (zA s0) (zset h K w S Z4) H ∧ va_S (zA s0) s.heap H locs ∧ lv_has ls 8 [(0, .ref (w 0)), (1, .int room), (2, .int (nI t)), (3, .int (nI i)), (4, .ref ((Ls 2).getD i 0)), (5, .int (nI k))]) ?_ 0 f Z3 ⟨Nat.zero_le _, hkp, hz, rj_c hrj ev_in, Or.inl rfl, hH, hS, lv_sub hl [2, 3, 4, 5, 1, 0] rfl⟩
        intro k f Z4 ih58 H locs ls hP
        obtain ⟨hk, hkp, hz, hrj, hev, hH, hS, hl⟩ := hP
        have hW := hW0.z Z4
        refine lv_iload hx hb dX0_findTogether_58 (lv_at hl 5 rfl) ?_
        refine lv_aload hx hb dX0_findTogether_60 (lv_at hl 4 rfl) ?_
        refine hp_gR6N hx hb hts hown hK hH (hW.r (show i < aRl S by omega)) (hO.kd (show i < aRl S by omega)) (hG.nf hPB q746) dX0_findTogether_62 ?_
        refine hp_siz hx hb hml hown hts hPB hK0 hK hH hS hG (hW.cl (show i < aRl S by omega)) (hW.nc (show i < aRl S by omega)) q807 (by first | decide | (simp only [rmk]; omega)) hl.1 rfl (Nat.le_of_ble_eq_true rfl) (by decide) dX0_findTogether_65 (fun H locs hH hS => ?_)
        refine lvN_ge (tgt := 163) hx hb (by first | omega | (refine Nat.lt_of_lt_of_le (Nat.mod_lt _ ?_) ?_ <;> omega)) (by first | omega | (refine Nat.lt_of_lt_of_le (Nat.mod_lt _ ?_) ?_ <;> omega)) dX0_findTogether_68 (by decide) (fun c5 => ?_) (fun c5 => ?_)
        · refine lv_iinc (v := nI (i + 1)) (lv' := [(3, .int (nI (i + 1))), (0, .ref (w 0)), (1, .int room), (2, .int (nI t)), (4, .ref ((Ls 2).getD i 0)), (5, .int (nI k))]) hx hb dX0_findTogether_163 hl (k := 3) rfl (nI_add i 1) (by decide) rfl (fun ls hl => ?_)
          refine lv_goto (tgt := 31) hx hb dX0_findTogether_166 (by decide) ?_
          exact ih31 (i + 1) f Z4 (by omega) H locs ls ⟨by omega, hkp, hz, rj_c hrj (ev_out hO hO2 (by omega) (Or.inl (by omega)) hev), hH, hS, lv_sub hl [1, 2, 3, 0] rfl⟩
        · refine lv_aload_n hx hb dX0_findTogether_71 rfl (lv_at hl 0 rfl) ?_
          refine lv_aload hx hb dX0_findTogether_72 (lv_at hl 4 rfl) ?_
          refine lv_iload_n hx hb dX0_findTogether_74 rfl (lv_at hl 1 rfl) ?_
          refine hp_callV (As := [.ref ((Ls 2).getD i 0), .int room]) (rest := []) hx hb hml hown hts hPB hK hH hS (mc_isEven hK0 hG hO hO2 hW (r := i) room (by omega)) hW.x rfl rfl 2 (lw_V q1166 q1168 qs41 q102 q1169) (by decide +kernel) ⟨rfl, rfl⟩ (by decide) rfl hl.1 rfl (Nat.le_of_ble_eq_true rfl) (by decide) dX0_findTogether_75 (fun v6 h8 H locs hp7 _ hH hS => ?_)
          obtain ⟨rfl, hq⟩ := hp7
          rw [hq] at hH
          refine lvB_eq (tgt := 163) hx hb dX0_findTogether_78 (by decide) (fun ce => ?_) (fun ce => ?_)
          · refine lv_iinc (v := nI (i + 1)) (lv' := [(3, .int (nI (i + 1))), (0, .ref (w 0)), (1, .int room), (2, .int (nI t)), (4, .ref ((Ls 2).getD i 0)), (5, .int (nI k))]) hx hb dX0_findTogether_163 hl (k := 3) rfl (nI_add i 1) (by decide) rfl (fun ls hl => ?_)
            refine lv_goto (tgt := 31) hx hb dX0_findTogether_166 (by decide) ?_
            exact ih31 (i + 1) f Z4 (by omega) H locs ls ⟨by omega, hkp, hz, rj_c hrj (ev_out hO hO2 (by omega) (Or.inr ce) hev), hH, hS, lv_sub hl [1, 2, 3, 0] rfl⟩
          · refine lv_aload hx hb dX0_findTogether_81 (lv_at hl 4 rfl) ?_
            refine hp_gR6N hx hb hts hown hK hH (hW.r (show i < aRl S by omega)) (hO.kd (show i < aRl S by omega)) (hG.nf hPB q746) dX0_findTogether_83 ?_
            refine lv_iload hx hb dX0_findTogether_86 (lv_at hl 5 rfl) ?_
            refine hp_lget hx hb hml hown hts hPB hK0 hK hH hS hG (hW.cl (show i < aRl S by omega)) (k9 := k) (by rw [hW.nc (show i < aRl S by omega)]; omega) q808 (by first | decide | (simp only [rmk]; omega)) hl.1 rfl (Nat.le_of_ble_eq_true rfl) (by decide) dX0_findTogether_88 (fun H locs hH hS => ?_)
            have hc9 := cXY hO hO2 (show i < aRl S by omega) (show k < cN S i by omega)
            refine va_castE hx hb hown (hts _ q1004) (hp_rec hK hH (hW.c (show i < aRl S by omega) (show k < cN S i by omega)) rfl) dX0_findTogether_91 ?_
            refine lv_astore (lv' := [(6, .ref ((Ls (10 + i)).getD k 0)), (0, .ref (w 0)), (1, .int room), (2, .int (nI t)), (3, .int (nI i)), (4, .ref ((Ls 2).getD i 0)), (5, .int (nI k))]) hx hb dX0_findTogether_94 hl (by decide) rfl (fun ls hl => ?_)
            refine lv_aload_n hx hb dX0_findTogether_96 rfl (lv_at hl 1 rfl) ?_
            refine lv_aload hx hb dX0_findTogether_97 (lv_at hl 0 rfl) ?_
            refine hp_callV (As := [.ref ((Ls (10 + i)).getD k 0)]) (rest := []) hx hb hml hown hts hPB hK hH hS (mc_areComing hK0 hG hO hO2 hW (cx := cX S i k) (cy := cY S i k) (hW.c (show i < aRl S by omega) (show k < cN S i by omega)) (by omega) (by omega)) hW.x rfl rfl 1 (lw_V q1005 q1007 qs28 q102 q1008) (by decide +kernel) ⟨rfl, rfl⟩ (by decide) rfl hl.1 rfl (Nat.le_of_ble_eq_true rfl) (by decide) dX0_findTogether_99 (fun v10 h12 H locs hp11 _ hH hS => ?_)
            obtain ⟨rfl, hq⟩ := hp11
            rw [hq] at hH
            refine lvB_ne (tgt := 108) hx hb dX0_findTogether_102 (by decide) (fun cm => ?_) (fun cm => ?_)
            · have ce2 := Bool.and_eq_true_iff.mp ce
              have hed := ev_edge hO hO2 (show i < aRl S by omega) (of_decide_eq_true ce2.1) ce2.2 (show k < cN S i by omega) cm
              have hfx := (hrj.1 (cX S i k)).1
              have hfy := (hrj.1 (cY S i k)).1
              refine lv_aload_n hx hb dX0_findTogether_108 rfl (lv_at hl 1 rfl) ?_
              refine hp_get (C := RX0) (T := TX0) (N := 14) (v := .ref (w 9)) hx hb hts in_X0 hown hK hH hW.x rfl 9 (by decide) (hts _ q221) (fun _ z => z) rfl dX0_findTogether_109 ?_
              refine lv_aload hx hb dX0_findTogether_112 (lv_at hl 0 rfl) ?_
              refine hp_getN (C := RX9) (T := TX9) (N := 2) (v := .int (nI (cX S i k))) hx hb hts in_X9 hown hK hH (hW.c (show i < aRl S by omega) (show k < cN S i by omega)) rfl 0 (by decide) (hG.nf hPB q722) (fun _ z => z) rfl dX0_findTogether_114 ?_
              refine hp_ild (n := 10) (j := cX S i k) (v := nI (f (cX S i k))) hx hb hK hH 0 (hW.ar 2 (by decide)) rfl (by first | omega | (refine Nat.lt_of_lt_of_le (Nat.mod_lt _ ?_) ?_ <;> omega)) (by first | omega | (refine Nat.lt_of_lt_of_le (Nat.mod_lt _ ?_) ?_ <;> omega)) (hz _ (by omega)) dX0_findTogether_117 ?_
              refine lv_aload_n hx hb dX0_findTogether_118 rfl (lv_at hl 1 rfl) ?_
              refine hp_get (C := RX0) (T := TX0) (N := 14) (v := .ref (w 9)) hx hb hts in_X0 hown hK hH hW.x rfl 9 (by decide) (hts _ q221) (fun _ z => z) rfl dX0_findTogether_119 ?_
              refine lv_aload hx hb dX0_findTogether_122 (lv_at hl 0 rfl) ?_
              refine hp_getN (C := RX9) (T := TX9) (N := 2) (v := .int (nI (cY S i k))) hx hb hts in_X9 hown hK hH (hW.c (show i < aRl S by omega) (show k < cN S i by omega)) rfl 1 (by decide) (hG.nf hPB q725) (fun _ z => z) rfl dX0_findTogether_124 ?_
              refine hp_ild (n := 10) (j := cY S i k) (v := nI (f (cY S i k))) hx hb hK hH 0 (hW.ar 2 (by decide)) rfl (by first | omega | (refine Nat.lt_of_lt_of_le (Nat.mod_lt _ ?_) ?_ <;> omega)) (by first | omega | (refine Nat.lt_of_lt_of_le (Nat.mod_lt _ ?_) ?_ <;> omega)) (hz _ (by omega)) dX0_findTogether_127 ?_
              refine va_mmin hx hb (hml.trans hl.1.symm) hown (hts _ q1170) (hts _ q412) (hts _ q114) (hts _ q413) (Nat.le_of_ble_eq_true rfl) (Nat.le_of_ble_eq_true rfl) (Nat.le_of_ble_eq_true rfl) (Nat.le_of_ble_eq_true rfl) dX0_findTogether_128 ?_
              refine lv_top (y := nI (min (f (cX S i k)) (f (cY S i k)))) (i_minN (by first | omega | (refine Nat.lt_of_lt_of_le (Nat.mod_lt _ ?_) ?_ <;> omega)) (by first | omega | (refine Nat.lt_of_lt_of_le (Nat.mod_lt _ ?_) ?_ <;> omega))) ?_
              refine lv_istore (lv' := [(7, .int (nI (min (f (cX S i k)) (f (cY S i k))))), (6, .ref ((Ls (10 + i)).getD k 0)), (0, .ref (w 0)), (1, .int room), (2, .int (nI t)), (3, .int (nI i)), (4, .ref ((Ls 2).getD i 0)), (5, .int (nI k))]) hx hb dX0_findTogether_131 hl (by decide) rfl (fun ls hl => ?_)
              refine lv_aload_n hx hb dX0_findTogether_133 rfl (lv_at hl 2 rfl) ?_
              refine hp_get (C := RX0) (T := TX0) (N := 14) (v := .ref (w 9)) hx hb hts in_X0 hown hK hH hW.x rfl 9 (by decide) (hts _ q221) (fun _ z => z) rfl dX0_findTogether_134 ?_
              refine lv_aload hx hb dX0_findTogether_137 (lv_at hl 1 rfl) ?_
              refine hp_getN (C := RX9) (T := TX9) (N := 2) (v := .int (nI (cX S i k))) hx hb hts in_X9 hown hK hH (hW.c (show i < aRl S by omega) (show k < cN S i by omega)) rfl 0 (by decide) (hG.nf hPB q722) (fun _ z => z) rfl dX0_findTogether_139 ?_
              refine lv_iload hx hb dX0_findTogether_142 (lv_at hl 0 rfl) ?_
              refine z_ist (j := cX S i k) (x := nI (min (f (cX S i k)) (f (cY S i k)))) hx hb hK hW0 hH hS 2 (by decide) (by first | omega | (refine Nat.lt_of_lt_of_le (Nat.mod_lt _ ?_) ?_ <;> omega)) dX0_findTogether_144 (fun H locs hH hS => ?_)
              have hW := hW0.z (vset Z4 2 (cX S i k) (nI (min (f (cX S i k)) (f (cY S i k)))))
              refine lv_aload_n hx hb dX0_findTogether_145 rfl (lv_at hl 2 rfl) ?_
              refine hp_get (C := RX0) (T := TX0) (N := 14) (v := .ref (w 9)) hx hb hts in_X0 hown hK hH hW.x rfl 9 (by decide) (hts _ q221) (fun _ z => z) rfl dX0_findTogether_146 ?_
              refine lv_aload hx hb dX0_findTogether_149 (lv_at hl 1 rfl) ?_
              refine hp_getN (C := RX9) (T := TX9) (N := 2) (v := .int (nI (cY S i k))) hx hb hts in_X9 hown hK hH (hW.c (show i < aRl S by omega) (show k < cN S i by omega)) rfl 1 (by decide) (hG.nf hPB q725) (fun _ z => z) rfl dX0_findTogether_151 ?_
              refine lv_iload hx hb dX0_findTogether_154 (lv_at hl 0 rfl) ?_
              refine z_ist (j := cY S i k) (x := nI (min (f (cX S i k)) (f (cY S i k)))) hx hb hK hW0 hH hS 2 (by decide) (by first | omega | (refine Nat.lt_of_lt_of_le (Nat.mod_lt _ ?_) ?_ <;> omega)) dX0_findTogether_156 (fun H locs hH hS => ?_)
              have hW := hW0.z (vset (vset Z4 2 (cX S i k) (nI (min (f (cX S i k)) (f (cY S i k))))) 2 (cY S i k) (nI (min (f (cX S i k)) (f (cY S i k)))))
              refine lv_iinc (v := nI (k + 1)) (lv' := [(5, .int (nI (k + 1))), (7, .int (nI (min (f (cX S i k)) (f (cY S i k))))), (6, .ref ((Ls (10 + i)).getD k 0)), (0, .ref (w 0)), (1, .int room), (2, .int (nI t)), (3, .int (nI i)), (4, .ref ((Ls 2).getD i 0))]) hx hb dX0_findTogether_157 hl (k := 7) rfl (nI_add k 1) (by decide) rfl (fun ls hl => ?_)
              refine lv_goto (tgt := 58) hx hb dX0_findTogether_160 (by decide) ?_
              exact ih58 (k + 1) (va_up (va_up f (cX S i k) (min (f (cX S i k)) (f (cY S i k)))) (cY S i k) (min (f (cX S i k)) (f (cY S i k)))) (vset (vset Z4 2 (cX S i k) (nI (min (f (cX S i k)) (f (cY S i k))))) 2 (cY S i k) (nI (min (f (cX S i k)) (f (cY S i k))))) (by omega) H locs ls ⟨by omega, (hkp.vs (by decide) _ _).vs (by decide) _ _, hpZ_put hz, rj_put hrj hed (evn_sym hed) (by omega) (by omega) ev_put, Or.inr ce, hH, hS, lv_sub hl [3, 4, 5, 6, 7, 0] rfl⟩
            · refine lv_goto (tgt := 157) hx hb dX0_findTogether_105 (by decide) ?_
              refine lv_iinc (v := nI (k + 1)) (lv' := [(5, .int (nI (k + 1))), (6, .ref ((Ls (10 + i)).getD k 0)), (0, .ref (w 0)), (1, .int room), (2, .int (nI t)), (3, .int (nI i)), (4, .ref ((Ls 2).getD i 0))]) hx hb dX0_findTogether_157 hl (k := 6) rfl (nI_add k 1) (by decide) rfl (fun ls hl => ?_)
              refine lv_goto (tgt := 58) hx hb dX0_findTogether_160 (by decide) ?_
              exact ih58 (k + 1) f Z4 (by omega) H locs ls ⟨by omega, hkp, hz, rj_c hrj (evc_not cm), Or.inr ce, hH, hS, lv_sub hl [2, 3, 4, 5, 6, 0] rfl⟩
  · refine lv_aload_n hx hb dX0_findTogether_8 rfl (lv_at hl 0 rfl) ?_
    refine hp_get (C := RX0) (T := TX0) (N := 14) (v := .ref (w 9)) hx hb hts in_X0 hown hK hH hW.x rfl 9 (by decide) (hts _ q221) (fun _ z => z) rfl dX0_findTogether_9 ?_
    refine lv_iload_n hx hb dX0_findTogether_12 rfl (lv_at hl 2 rfl) ?_
    refine lv_iload_n hx hb dX0_findTogether_13 rfl (lv_at hl 2 rfl) ?_
    refine z_ist (j := k) (x := nI k) hx hb hK hW0 hH hS 2 (by decide) (by first | omega | (refine Nat.lt_of_lt_of_le (Nat.mod_lt _ ?_) ?_ <;> omega)) dX0_findTogether_14 (fun H locs hH hS => ?_)
    have hW := hW0.z (vset Z1 2 k (nI k))
    refine lv_iinc (v := nI (k + 1)) (lv' := [(2, .int (nI (k + 1))), (0, .ref (w 0)), (1, .int room)]) hx hb dX0_findTogether_15 hl (k := 2) rfl (nI_add k 1) (by decide) rfl (fun ls hl => ?_)
    refine lv_goto (tgt := 2) hx hb dX0_findTogether_18 (by decide) ?_
    exact ih2 (k + 1) (vset Z1 2 k (nI k)) (by omega) H locs ls ⟨by omega, hkp.vs (by decide) _ _, fun u hu => by rw [vset_in]; split; (rename_i q; rw [q]); exact hz u (by omega), hH, hS, lv_sub hl [1, 2, 0] rfl⟩
set_option maxHeartbeats 4000000 in
theorem mc_mayGo (hK0 : va_K D CL (TYS K) s0) {av : Nat → Nat} {ed mi : Nat} (hG : GX s0 wd av ed mi) {S : Ab} {w : Nat → Nat} {Ls : Nat → List Nat} {Jn : Nat → Nat} {Z : Nat → Nat → Int32} (hO : SOK S) (hO2 : SO2 S) (hW : CW K ed S h w Ls Jn Z) {d s9 ha aa th ta : Nat} {fh fa : Nat → Int32} {H9 G9 : Nat → Nat} (hha : h ha = some (.inl (K 0, 10, .inl fh), th)) (haa : h aa = some (.inl (K 0, 10, .inl fa), ta)) (hfh : ∀ k, k < 10 → fh k = nI (H9 k) ∧ H9 k < 1024) (hfa : ∀ k, k < 10 → fa k = nI (G9 k) ∧ G9 k < 1024) (hd : d < 1024) (hs9 : s9 < 1024) : Met l yX0_mayGo (ws_ yX0_mayGo cX0_mayGo 7 ((Option.some Jvm.ClassFile.FieldType.boolean))) (rmk 0 0 0) (va_Pc [.ref (w 0), .int (nI d), .int (nI s9), .ref ha, .ref aa] (PB s0 D CL (h))) (QR s0 D CL (fun v h1 => v = some (.int (zI (mgq H9 G9 d s9))) ∧ h1 = h)) 0 0 (zA s0) := by
  refine hp_met (by decide) (Nat.le_of_ble_eq_true rfl) hK0 ?_
  intro p e s m below meth cd ls hx hb hr hlocks hml hown hnm hts hK hPB hl hS hH hA
  have hl : lv_has ls 7 [(0, .ref (w 0)), (1, .int (nI d)), (2, .int (nI s9)), (3, .ref ha), (4, .ref aa)] := hl
  have hown : s.vm.findClass RX0 = some m.cls := hown
  have hn := hO.n
  have hmk := hO.mk
  have hrl := hO.rl
  have hrm := hO.rm
  have hsz := hO.sz
  refine lv_iconst (v := nI 0) hx hb dX0_mayGo_0 (by decide) ?_
  refine lv_istore (lv' := [(5, .int (nI 0)), (0, .ref (w 0)), (1, .int (nI d)), (2, .int (nI s9)), (3, .ref ha), (4, .ref aa)]) hx hb dX0_mayGo_1 hl (by decide) rfl (fun ls hl => ?_)
  refine w_loop1 (fun (k : Nat) => 10 - k) (fun (k : Nat) H locs ls => (k ≤ 10) ∧ (∀ u, u < k → H9 u &&& s9 = 0 ∨ (H9 u &&& s9 = H9 u ∧ G9 u ^^^ (G9 u &&& d) = 0)) ∧ HP D CL (zA s0) h H ∧ va_S (zA s0) s.heap H locs ∧ lv_has ls 7 [(0, .ref (w 0)), (1, .int (nI d)), (2, .int (nI s9)), (3, .ref ha), (4, .ref aa), (5, .int (nI k))]) ?_ 0 ⟨Nat.zero_le _, fun u hu => absurd hu (Nat.not_lt_zero _), hH, hS, lv_sub hl [1, 2, 3, 4, 5, 0] rfl⟩
  intro k ih3 H locs ls hP
  obtain ⟨hk, hno, hH, hS, hl⟩ := hP
  refine lv_iload hx hb dX0_mayGo_3 (lv_at hl 5 rfl) ?_
  refine lv_bipush (v := nI 10) hx hb dX0_mayGo_5 (by decide) ?_
  refine lvN_ge (tgt := 52) hx hb (by first | omega | (refine Nat.lt_of_lt_of_le (Nat.mod_lt _ ?_) ?_ <;> omega)) (by first | omega | (refine Nat.lt_of_lt_of_le (Nat.mod_lt _ ?_) ?_ <;> omega)) dX0_mayGo_7 (by decide) (fun c1 => ?_) (fun c1 => ?_)
  · refine lv_iconst (v := nI 1) hx hb dX0_mayGo_52 (by decide) ?_
    exact hp_zret hx hb hr rfl hlocks hH hS (by decide) (by decide) dX0_mayGo_53 (⟨congrArg some (congrArg Value.int (zI_1 (mgq_t (by rw [← show k = 10 by omega]; exact hno)))), rfl⟩)
  · have hHk := (hfh k (by omega)).2
    have hGk := (hfa k (by omega)).2
    have hand := Nat.and_le_left (n := H9 k) (m := s9)
    have hxr := andn_le (a := G9 k) (b := d)
    refine lv_aload_n hx hb dX0_mayGo_10 rfl (lv_at hl 3 rfl) ?_
    refine lv_iload hx hb dX0_mayGo_11 (lv_at hl 5 rfl) ?_
    refine hp_ild (n := 10) (j := k) (v := nI (H9 k)) hx hb hK hH 0 hha rfl (by first | omega | (refine Nat.lt_of_lt_of_le (Nat.mod_lt _ ?_) ?_ <;> omega)) (by first | omega | (refine Nat.lt_of_lt_of_le (Nat.mod_lt _ ?_) ?_ <;> omega)) ((hfh k (by omega)).1) dX0_mayGo_13 ?_
    refine lv_iload_n hx hb dX0_mayGo_14 rfl (lv_at hl 2 rfl) ?_
    refine lv_iand hx hb dX0_mayGo_15 ?_
    refine lv_top (y := nI ((H9 k) &&& s9)) (bi_and _ _) ?_
    refine lv_istore (lv' := [(6, .int (nI ((H9 k) &&& s9))), (0, .ref (w 0)), (1, .int (nI d)), (2, .int (nI s9)), (3, .ref ha), (4, .ref aa), (5, .int (nI k))]) hx hb dX0_mayGo_16 hl (by decide) rfl (fun ls hl => ?_)
    refine lv_iload hx hb dX0_mayGo_18 (lv_at hl 0 rfl) ?_
    refine lvZ_eq (tgt := 46) hx hb (by first | omega | (refine Nat.lt_of_lt_of_le (Nat.mod_lt _ ?_) ?_ <;> omega)) dX0_mayGo_20 (by decide) (fun c1 => ?_) (fun c1 => ?_)
    · refine lv_iinc (v := nI (k + 1)) (lv' := [(5, .int (nI (k + 1))), (6, .int (nI ((H9 k) &&& s9))), (0, .ref (w 0)), (1, .int (nI d)), (2, .int (nI s9)), (3, .ref ha), (4, .ref aa)]) hx hb dX0_mayGo_46 hl (k := 6) rfl (nI_add k 1) (by decide) rfl (fun ls hl => ?_)
      refine lv_goto (tgt := 3) hx hb dX0_mayGo_49 (by decide) ?_
      exact ih3 (k + 1) (by omega) H locs ls ⟨by omega, all_up hno (Or.inl c1), hH, hS, lv_sub hl [2, 3, 4, 5, 6, 0] rfl⟩
    · refine lv_iload hx hb dX0_mayGo_23 (lv_at hl 0 rfl) ?_
      refine lv_aload_n hx hb dX0_mayGo_25 rfl (lv_at hl 4 rfl) ?_
      refine lv_iload hx hb dX0_mayGo_26 (lv_at hl 6 rfl) ?_
      refine hp_ild (n := 10) (j := k) (v := nI (H9 k)) hx hb hK hH 0 hha rfl (by first | omega | (refine Nat.lt_of_lt_of_le (Nat.mod_lt _ ?_) ?_ <;> omega)) (by first | omega | (refine Nat.lt_of_lt_of_le (Nat.mod_lt _ ?_) ?_ <;> omega)) ((hfh k (by omega)).1) dX0_mayGo_28 ?_
      refine lvN_ne (tgt := 44) hx hb (by first | omega | (refine Nat.lt_of_lt_of_le (Nat.mod_lt _ ?_) ?_ <;> omega)) (by first | omega | (refine Nat.lt_of_lt_of_le (Nat.mod_lt _ ?_) ?_ <;> omega)) dX0_mayGo_29 (by decide) (fun c2 => ?_) (fun c2 => ?_)
      · refine lv_iconst (v := nI 0) hx hb dX0_mayGo_44 (by decide) ?_
        exact hp_zret hx hb hr rfl hlocks hH hS (by decide) (by decide) dX0_mayGo_45 (⟨congrArg some (congrArg Value.int (zI_0 (mgq_f (show k < 10 by omega) c1 (Or.inl c2)))), rfl⟩)
      · refine lv_aload hx hb dX0_mayGo_32 (lv_at hl 5 rfl) ?_
        refine lv_iload hx hb dX0_mayGo_34 (lv_at hl 6 rfl) ?_
        refine hp_ild (n := 10) (j := k) (v := nI (G9 k)) hx hb hK hH 0 haa rfl (by first | omega | (refine Nat.lt_of_lt_of_le (Nat.mod_lt _ ?_) ?_ <;> omega)) (by first | omega | (refine Nat.lt_of_lt_of_le (Nat.mod_lt _ ?_) ?_ <;> omega)) ((hfa k (by omega)).1) dX0_mayGo_36 ?_
        refine lv_iload_n hx hb dX0_mayGo_37 rfl (lv_at hl 2 rfl) ?_
        refine lv_iconst (v := (-1)) hx hb dX0_mayGo_38 (by decide) ?_
        refine lv_ixor hx hb dX0_mayGo_39 ?_
        refine lv_iand hx hb dX0_mayGo_40 ?_
        refine lv_top (y := nI (G9 k ^^^ (G9 k &&& d))) (bi_andn _ _) ?_
        refine lvZ_eq (tgt := 46) hx hb (by first | omega | (refine Nat.lt_of_lt_of_le (Nat.mod_lt _ ?_) ?_ <;> omega)) dX0_mayGo_41 (by decide) (fun c3 => ?_) (fun c3 => ?_)
        · refine lv_iinc (v := nI (k + 1)) (lv' := [(5, .int (nI (k + 1))), (6, .int (nI ((H9 k) &&& s9))), (0, .ref (w 0)), (1, .int (nI d)), (2, .int (nI s9)), (3, .ref ha), (4, .ref aa)]) hx hb dX0_mayGo_46 hl (k := 6) rfl (nI_add k 1) (by decide) rfl (fun ls hl => ?_)
          refine lv_goto (tgt := 3) hx hb dX0_mayGo_49 (by decide) ?_
          exact ih3 (k + 1) (by omega) H locs ls ⟨by omega, all_up hno (Or.inr ⟨c2, c3⟩), hH, hS, lv_sub hl [2, 3, 4, 5, 6, 0] rfl⟩
        · refine lv_iconst (v := nI 0) hx hb dX0_mayGo_44 (by decide) ?_
          exact hp_zret hx hb hr rfl hlocks hH hS (by decide) (by decide) dX0_mayGo_45 (⟨congrArg some (congrArg Value.int (zI_0 (mgq_f (show k < 10 by omega) c1 (Or.inr c3)))), rfl⟩)
end MODEL
