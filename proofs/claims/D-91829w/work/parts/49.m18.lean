/-! by gen/mspec.py -/
set_option maxRecDepth 100000
section MODEL
variable {l : Launch} {s0 : State} {D : va_G} {K : Nat → ClassId} {wd : Nat → Nat} {o : Nat} {h : Hp} {I : Nat → Int32} {V : Nat → Nat → Int32} {J : Nat → Nat → Int64}
set_option maxHeartbeats 4000000 in
theorem mt_goesThrough (hK0 : va_K D CL (TYS K) s0) {S : Ab} (hO : SOK S) (hM : MOK S I V) (room : Int32) (md : Bool) : Met l yX2_goesThrough (ws_ yX2_goesThrough cX2_goesThrough 4 ((Option.some Jvm.ClassFile.FieldType.boolean))) (rmk 10 0 0) (va_Pc [.ref o, .int room, .int (zI md)] (PB s0 D CL (mset h K wd o I V J))) (QR s0 D CL (fun v h1 => v = some (.int (zI (askB S room))) ∧ ∃ P U, h1 = mset h K wd o P U J ∧ MOK S P U ∧ (askB S room = true → P 43 = nI (comP S (aN S)).length ∧ P 52 = nI (aRp S room.toNatClampNeg) ∧ (∀ i, i < (comP S (aN S)).length → U 53 i = nI ((comP S (aN S)).getD i 0)) ∧ seR (comP S (aN S)).length P U (seAll S room md (I 58))))) 0 0 (zA s0) := by
  refine hp_met (by decide) (Nat.le_of_ble_eq_true rfl) hK0 ?_
  intro p e s m below meth cd ls hx hb hr hlocks hml hown hnm hts hK hPB hl hS hH hA
  have hl : lv_has ls 4 [(0, .ref o), (1, .int room), (2, .int (zI md))] := hl
  have hown : s.vm.findClass RX2 = some m.cls := hown
  have hn := hO.n
  have hmk := hO.mk
  have hrl := hO.rl
  have hrm := hO.rm
  have hsz := hO.sz
  refine lv_aload_n hx hb dX2_goesThrough_0 rfl (lv_at hl 0 rfl) ?_
  refine lv_iload_n hx hb dX2_goesThrough_1 rfl (lv_at hl 1 rfl) ?_
  refine hp_callV (As := [.int room]) (rest := []) hx hb hml hown hts hPB hK hH hS (mt_isRoom hK0 hO hM room) mset_o rfl rfl 1 (lw_V q1788 q1790 qs72 q107 q1791) (by decide +kernel) ⟨rfl, rfl⟩ (by decide) rfl hl.1 rfl (Nat.le_of_ble_eq_true rfl) (by decide) dX2_goesThrough_2 (fun v1 h3 H locs hp2 _ hH hS => ?_)
  obtain ⟨rfl, rfl⟩ := hp2
  refine lvB_ne (tgt := 10) hx hb dX2_goesThrough_5 (by decide) (fun cr0 => ?_) (fun cr0 => ?_)
  · obtain ⟨q, hq, rfl⟩ := inN_t cr0
    have eq := nI_clamp (show q < 2 ^ 31 by omega)
    refine lv_aload_n hx hb dX2_goesThrough_10 rfl (lv_at hl 0 rfl) ?_
    refine lv_iconst (v := nI 0) hx hb dX2_goesThrough_11 (by decide) ?_
    refine m_put (ty := .int) hx hb hts hown hK hH hS 43 (by decide) q1495 rfl rfl rfl (by decide +kernel) rfl rfl dX2_goesThrough_12 (fun H locs hH hS => ?_)
    have hM := hM.iS (k := 43) (by decide) (nI 0)
    refine lv_iconst (v := nI 0) hx hb dX2_goesThrough_15 (by decide) ?_
    refine lv_istore_n (lv' := [(3, .int (nI 0)), (0, .ref o), (1, .int (nI q)), (2, .int (zI md))]) hx hb dX2_goesThrough_16 rfl hl (by decide) rfl (fun ls hl => ?_)
    refine w_loop3 (fun (x : Nat) (P : Nat → Int32) (U : Nat → Nat → Int32) => aN S - x) (fun (x : Nat) (P : Nat → Int32) (U : Nat → Nat → Int32) H locs ls => (x ≤ aN S) ∧ (P 43 = nI (comP S x).length) ∧ (∀ i, i < (comP S x).length → U 53 i = nI ((comP S x).getD i 0)) ∧ (kp [43] I P) ∧ (MOK S P U) ∧ HP D CL (zA s0) (mset h K wd o P U J) H ∧ va_S (zA s0) s.heap H locs ∧ lv_has ls 4 [(0, .ref o), (1, .int (nI q)), (2, .int (zI md)), (3, .int (nI x))]) ?_ 0 (va_up I 43 (nI 0)) V ⟨Nat.zero_le _, rfl, fun i hi => absurd hi (Nat.not_lt_zero _), kp.rf.up (by decide) _, hM, hH, hS, lv_sub hl [1, 2, 3, 0] rfl⟩
    intro x P U ih17 H locs ls hP
    obtain ⟨hxx, h43, h53, hkI, hM, hH, hS, hl⟩ := hP
    refine lv_iload_n hx hb dX2_goesThrough_17 rfl (lv_at hl 3 rfl) ?_
    refine lv_aload_n hx hb dX2_goesThrough_18 rfl (lv_at hl 0 rfl) ?_
    refine m_get hx hb hts hown hK hH 15 (by decide) q1467 rfl (v := .ref (o + 29)) rfl dX2_goesThrough_19 ?_
    refine lv_iconst (v := nI 0) hx hb dX2_goesThrough_22 (by decide) ?_
    refine m_iald (n := 2) (j := 0) (v := nI (aN S)) hx hb hK hH (by decide) rfl (by first | omega | (refine Nat.lt_of_lt_of_le (Nat.mod_lt _ ?_) ?_ <;> omega)) (by decide) (hM.n) dX2_goesThrough_23 ?_
    refine lvN_ge (tgt := 65) hx hb (by first | omega | (refine Nat.lt_of_lt_of_le (Nat.mod_lt _ ?_) ?_ <;> omega)) (by first | omega | (refine Nat.lt_of_lt_of_le (Nat.mod_lt _ ?_) ?_ <;> omega)) dX2_goesThrough_24 (by decide) (fun c4 => ?_) (fun c4 => ?_)
    · have exn : x = aN S := by omega
      obtain ⟨mem, hmeq⟩ : ∃ m, m = comP S (aN S) := ⟨_, rfl⟩
      rw [exn, ← hmeq] at h43 h53
      have hmlen : mem.length ≤ 10 := by rw [hmeq]; exact Nat.le_trans (comP_len _ _) hn
      have hme : ∀ i, i < mem.length → mem.getD i 0 < aN S := by rw [hmeq]; exact (comP_ok hn).2.1
      have hrp := hO.rp hq
      refine lv_aload_n hx hb dX2_goesThrough_65 rfl (lv_at hl 0 rfl) ?_
      refine lv_aload_n hx hb dX2_goesThrough_66 rfl (lv_at hl 0 rfl) ?_
      refine m_get hx hb hts hown hK hH 25 (by decide) q1477 rfl (v := .ref (o + 39)) rfl dX2_goesThrough_67 ?_
      refine lv_iload_n hx hb dX2_goesThrough_70 rfl (lv_at hl 1 rfl) ?_
      refine m_iald (n := 4) (j := q) (v := nI (aRp S q)) hx hb hK hH (by decide) rfl (by first | omega | (refine Nat.lt_of_lt_of_le (Nat.mod_lt _ ?_) ?_ <;> omega)) (by decide) (hM.rp (by first | omega | (refine Nat.lt_of_lt_of_le (Nat.mod_lt _ ?_) ?_ <;> omega))) dX2_goesThrough_71 ?_
      refine m_put (ty := .int) hx hb hts hown hK hH hS 52 (by decide) q1504 rfl rfl rfl (by decide +kernel) rfl rfl dX2_goesThrough_72 (fun H locs hH hS => ?_)
      have hM := hM.iS (k := 52) (by decide) (nI (aRp S q))
      refine lv_aload_n hx hb dX2_goesThrough_75 rfl (lv_at hl 0 rfl) ?_
      refine m_get hx hb hts hown hK hH 43 (by decide) q1495 rfl (v := .int (nI mem.length)) (congrArg Value.int ((va_up_ne _ _ (by decide)).trans (h43))) dX2_goesThrough_76 ?_
      refine lv_bipush (v := nI 7) hx hb dX2_goesThrough_79 (by decide) ?_
      refine lvN_gt (tgt := 104) hx hb (by first | omega | (refine Nat.lt_of_lt_of_le (Nat.mod_lt _ ?_) ?_ <;> omega)) (by first | omega | (refine Nat.lt_of_lt_of_le (Nat.mod_lt _ ?_) ?_ <;> omega)) dX2_goesThrough_81 (by decide) (fun c5 => ?_) (fun c5 => ?_)
      · refine lv_iconst (v := nI 0) hx hb dX2_goesThrough_104 (by decide) ?_
        exact hp_zret hx hb hr rfl hlocks hH hS (by decide) (by decide) dX2_goesThrough_105 (⟨congrArg some (congrArg Value.int (zI_0 (by rw [askB, eq, ← hmeq, decide_eq_false (show ¬ mem.length ≤ 7 by omega)]; simp))), _, _, rfl, hM, fun q9 => Bool.noConfusion ((show askB S (nI q) = false from by rw [askB, eq, ← hmeq, decide_eq_false (show ¬ mem.length ≤ 7 by omega)]; simp).symm.trans q9)⟩)
      · refine lv_aload_n hx hb dX2_goesThrough_84 rfl (lv_at hl 0 rfl) ?_
        refine m_get hx hb hts hown hK hH 52 (by decide) q1504 rfl (v := .int (nI (aRp S q))) (congrArg Value.int (va_up_self _ _ _)) dX2_goesThrough_85 ?_
        refine lv_bipush (v := nI 8) hx hb dX2_goesThrough_88 (by decide) ?_
        refine lvN_gt (tgt := 104) hx hb (by first | omega | (refine Nat.lt_of_lt_of_le (Nat.mod_lt _ ?_) ?_ <;> omega)) (by first | omega | (refine Nat.lt_of_lt_of_le (Nat.mod_lt _ ?_) ?_ <;> omega)) dX2_goesThrough_90 (by decide) (fun c6 => ?_) (fun c6 => ?_)
        · refine lv_iconst (v := nI 0) hx hb dX2_goesThrough_104 (by decide) ?_
          exact hp_zret hx hb hr rfl hlocks hH hS (by decide) (by decide) dX2_goesThrough_105 (⟨congrArg some (congrArg Value.int (zI_0 (by rw [askB, eq, ← hmeq, decide_eq_false (show ¬ aRp S q ≤ 8 by omega)]; simp))), _, _, rfl, hM, fun q9 => Bool.noConfusion ((show askB S (nI q) = false from by rw [askB, eq, ← hmeq, decide_eq_false (show ¬ aRp S q ≤ 8 by omega)]; simp).symm.trans q9)⟩)
        · refine lv_aload_n hx hb dX2_goesThrough_93 rfl (lv_at hl 0 rfl) ?_
          refine m_get hx hb hts hown hK hH 52 (by decide) q1504 rfl (v := .int (nI (aRp S q))) (congrArg Value.int (va_up_self _ _ _)) dX2_goesThrough_94 ?_
          refine lv_aload_n hx hb dX2_goesThrough_97 rfl (lv_at hl 0 rfl) ?_
          refine m_get hx hb hts hown hK hH 43 (by decide) q1495 rfl (v := .int (nI mem.length)) (congrArg Value.int ((va_up_ne _ _ (by decide)).trans (h43))) dX2_goesThrough_98 ?_
          refine lvN_ge (tgt := 106) hx hb (by first | omega | (refine Nat.lt_of_lt_of_le (Nat.mod_lt _ ?_) ?_ <;> omega)) (by first | omega | (refine Nat.lt_of_lt_of_le (Nat.mod_lt _ ?_) ?_ <;> omega)) dX2_goesThrough_101 (by decide) (fun c7 => ?_) (fun c7 => ?_)
          · refine lv_aload_n hx hb dX2_goesThrough_106 rfl (lv_at hl 0 rfl) ?_
            refine lv_iload_n hx hb dX2_goesThrough_107 rfl (lv_at hl 1 rfl) ?_
            refine m_put (ty := .int) hx hb hts hown hK hH hS 53 (by decide) q1505 rfl rfl rfl (by decide +kernel) rfl rfl dX2_goesThrough_108 (fun H locs hH hS => ?_)
            have hM := hM.iS (k := 53) (by decide) (nI q)
            refine lv_aload_n hx hb dX2_goesThrough_111 rfl (lv_at hl 0 rfl) ?_
            refine lv_iload_n hx hb dX2_goesThrough_112 rfl (lv_at hl 2 rfl) ?_
            refine m_put (ty := .boolean) hx hb hts hown hK hH hS 60 (by decide) q1512 rfl rfl rfl (by decide +kernel) (zI_nar _) (zI_fits _) dX2_goesThrough_113 (fun H locs hH hS => ?_)
            have hM := hM.iS (k := 60) (by decide) (zI md)
            refine lv_aload_n hx hb dX2_goesThrough_116 rfl (lv_at hl 0 rfl) ?_
            refine lv_iconst (v := (-1)) hx hb dX2_goesThrough_117 (by decide) ?_
            refine m_put (ty := .int) hx hb hts hown hK hH hS 54 (by decide) q1506 rfl rfl rfl (by decide +kernel) rfl rfl dX2_goesThrough_118 (fun H locs hH hS => ?_)
            have hM := hM.iS (k := 54) (by decide) (-1)
            refine lv_aload_n hx hb dX2_goesThrough_121 rfl (lv_at hl 0 rfl) ?_
            refine lv_iconst (v := nI 0) hx hb dX2_goesThrough_122 (by decide) ?_
            refine m_put (ty := .int) hx hb hts hown hK hH hS 55 (by decide) q1507 rfl rfl rfl (by decide +kernel) rfl rfl dX2_goesThrough_123 (fun H locs hH hS => ?_)
            have hM := hM.iS (k := 55) (by decide) (nI 0)
            refine lv_aload_n hx hb dX2_goesThrough_126 rfl (lv_at hl 0 rfl) ?_
            refine lv_iconst (v := (-1)) hx hb dX2_goesThrough_127 (by decide) ?_
            refine m_put (ty := .int) hx hb hts hown hK hH hS 56 (by decide) q1508 rfl rfl rfl (by decide +kernel) rfl rfl dX2_goesThrough_128 (fun H locs hH hS => ?_)
            have hM := hM.iS (k := 56) (by decide) (-1)
            refine lv_aload_n hx hb dX2_goesThrough_131 rfl (lv_at hl 0 rfl) ?_
            refine lv_iconst (v := (-1)) hx hb dX2_goesThrough_132 (by decide) ?_
            refine m_put (ty := .int) hx hb hts hown hK hH hS 59 (by decide) q1511 rfl rfl rfl (by decide +kernel) rfl rfl dX2_goesThrough_133 (fun H locs hH hS => ?_)
            have hM := hM.iS (k := 59) (by decide) (-1)
            obtain ⟨P2, eP2⟩ : ∃ P2, P2 = va_up (va_up (va_up (va_up (va_up (va_up (va_up P 52 (nI (aRp S q))) 53 (nI q)) 60 (zI md)) 54 (-1)) 55 (nI 0)) 56 (-1)) 59 (-1) := ⟨_, rfl⟩
            rw [← eP2] at hH hM
            have g43 : P2 43 = nI mem.length := by rw [eP2]; exact h43
            have g52 : P2 52 = nI (aRp S q) := by rw [eP2]; rfl
            have g53 : P2 53 = nI q := by rw [eP2]; rfl
            have g54 : P2 54 = -1 := by rw [eP2]; rfl
            have g56 : P2 56 = -1 := by rw [eP2]; rfl
            have g59 : P2 59 = -1 := by rw [eP2]; rfl
            have g60 : P2 60 = zI md := by rw [eP2]; rfl
            have g58 : P2 58 = I 58 := by rw [eP2]; exact hkI 58 (by decide)
            clear eP2
            refine lv_aload_n hx hb dX2_goesThrough_136 rfl (lv_at hl 0 rfl) ?_
            refine lv_iload_n hx hb dX2_goesThrough_137 rfl (lv_at hl 1 rfl) ?_
            refine hp_callV (As := [.int (nI q)]) (rest := []) hx hb hml hown hts hPB hK hH hS (mt_weighPlaces hK0 hO hM (q := q) (by omega) (mem := mem) (n := aRp S q) g43 g52 h53 hme (by omega) (by omega)) mset_o rfl rfl 1 (lw_V q1940 q1942 qs94 q107 q1943) (by decide +kernel) ⟨rfl, rfl⟩ (by decide) rfl hl.1 rfl (Nat.le_of_ble_eq_true rfl) (by decide) dX2_goesThrough_138 (fun v8 h10 H locs hp9 _ hH hS => ?_)
            obtain ⟨rfl, U4, rfl, hM, hk4, hwp⟩ := hp9
            have hF : seF S q (aRp S q) mem md (I 58) P2 U4 := ⟨g43, g52, g53, g58, g60, fun i hi => (congrFun (hk4 53 (by decide)) _).trans (h53 i hi), hwp⟩
            refine lv_aload_n hx hb dX2_goesThrough_141 rfl (lv_at hl 0 rfl) ?_
            refine lv_iconst (v := nI 0) hx hb dX2_goesThrough_142 (by decide) ?_
            refine lv_iconst (v := nI 0) hx hb dX2_goesThrough_143 (by decide) ?_
            refine lv_iconst (v := nI 0) hx hb dX2_goesThrough_144 (by decide) ?_
            refine lv_iconst (v := nI 0) hx hb dX2_goesThrough_145 (by decide) ?_
            refine hp_callV (As := [.int (nI 0), .int (nI 0), .int (nI 0), .int (nI 0)]) (rest := []) hx hb hml hown hts hPB hK hH hS (mt_seatsFrom hK0 hO (mem := mem) (q := q) (n := aRp S q) (md := md) (lim := I 58) hq (by omega) (by omega) hme mem.length (pl := []) (tk := 0) (w := 0) (m9 := 0) (z := (none, none, none)) hM hF ⟨g54, g56, g59⟩ (fun j hj => absurd hj (Nat.not_lt_zero _)) (fun j hj => absurd hj (Nat.not_lt_zero _)) (Nat.zero_le _) (fun x _ => by rw [Nat.zero_testBit]; rfl) (by decide) (Nat.zero_le _) (Nat.zero_le _) rfl) mset_o rfl rfl 4 (lw_V q1948 q1950 qs96 q107 q1951) (by decide +kernel) ⟨rfl, rfl⟩ (by simp only [rmk]; omega) rfl hl.1 rfl (Nat.le_of_ble_eq_true rfl) (by first | decide | (simp [rmk, Value.category]; done) | (simp [rmk, Value.category]; omega)) dX2_goesThrough_146 (fun v11 h13 H locs hp12 _ hH hS => ?_)
            obtain ⟨rfl, P5, U5, rfl, hM, hk5, hk6, h57c, hz5⟩ := hp12
            refine lv_iconst (v := nI 1) hx hb dX2_goesThrough_149 (by decide) ?_
            exact hp_zret hx hb hr rfl hlocks hH hS (by decide) (by decide) dX2_goesThrough_150 (⟨congrArg some (congrArg Value.int (zI_1 (by rw [askB, eq, ← hmeq, cr0, decide_eq_true (show mem.length ≤ 7 by omega), decide_eq_true (show aRp S q ≤ 8 by omega), decide_eq_true (show mem.length ≤ aRp S q by omega)]; rfl))), _, _, rfl, hM, fun _ => ⟨by rw [← hmeq]; exact (hk5 43 (by decide)).trans g43, by rw [eq]; exact (hk5 52 (by decide)).trans g52, by rw [← hmeq]; exact fun i hi => (congrFun ((hk6 53 (by decide)).trans (hk4 53 (by decide))) _).trans (h53 i hi), by rw [seAll, eq, ← hmeq]; exact hz5⟩⟩)
          · refine lv_iconst (v := nI 0) hx hb dX2_goesThrough_104 (by decide) ?_
            exact hp_zret hx hb hr rfl hlocks hH hS (by decide) (by decide) dX2_goesThrough_105 (⟨congrArg some (congrArg Value.int (zI_0 (by rw [askB, eq, ← hmeq, decide_eq_false (show ¬ mem.length ≤ aRp S q by omega)]; simp))), _, _, rfl, hM, fun q9 => Bool.noConfusion ((show askB S (nI q) = false from by rw [askB, eq, ← hmeq, decide_eq_false (show ¬ mem.length ≤ aRp S q by omega)]; simp).symm.trans q9)⟩)
    · refine lv_aload_n hx hb dX2_goesThrough_27 rfl (lv_at hl 0 rfl) ?_
      refine m_get hx hb hts hown hK hH 20 (by decide) q1472 rfl (v := .ref (o + 34)) rfl dX2_goesThrough_28 ?_
      refine lv_iload_n hx hb dX2_goesThrough_31 rfl (lv_at hl 3 rfl) ?_
      refine m_zald (n := 10) (j := x) (v := zI (aCm S x)) hx hb hK hH (by decide) rfl (by first | omega | (refine Nat.lt_of_lt_of_le (Nat.mod_lt _ ?_) ?_ <;> omega)) (by decide) (hM.cm (by first | omega | (refine Nat.lt_of_lt_of_le (Nat.mod_lt _ ?_) ?_ <;> omega))) dX2_goesThrough_32 ?_
      refine lvB_ne (tgt := 39) hx hb dX2_goesThrough_33 (by decide) (fun cc => ?_) (fun cc => ?_)
      · have hcl := comP_len S x
        refine lv_aload_n hx hb dX2_goesThrough_39 rfl (lv_at hl 0 rfl) ?_
        refine m_get hx hb hts hown hK hH 41 (by decide) q1493 rfl (v := .ref (o + 53)) rfl dX2_goesThrough_40 ?_
        refine lv_aload_n hx hb dX2_goesThrough_43 rfl (lv_at hl 0 rfl) ?_
        refine m_get hx hb hts hown hK hH 43 (by decide) q1495 rfl (v := .int (nI ((comP S x).length))) (congrArg Value.int (h43)) dX2_goesThrough_44 ?_
        refine lv_iload_n hx hb dX2_goesThrough_47 rfl (lv_at hl 3 rfl) ?_
        refine m_iast (n := 10) (j := (comP S x).length) hx hb hK hH hS (by decide) rfl (by first | omega | (refine Nat.lt_of_lt_of_le (Nat.mod_lt _ ?_) ?_ <;> omega)) (by decide) dX2_goesThrough_48 (fun H locs hH hS => ?_)
        have hM := hM.vS (k := 53) rfl ((comP S x).length) (nI x)
        refine lv_aload_n hx hb dX2_goesThrough_49 rfl (lv_at hl 0 rfl) ?_
        refine lv_dup hx hb dX2_goesThrough_50 rfl ?_
        refine m_get hx hb hts hown hK hH 43 (by decide) q1495 rfl (v := .int (nI ((comP S x).length))) (congrArg Value.int (h43)) dX2_goesThrough_51 ?_
        refine lv_iconst (v := nI 1) hx hb dX2_goesThrough_54 (by decide) ?_
        refine lv_iadd hx hb dX2_goesThrough_55 ?_
        refine lv_top (y := nI (((comP S x).length) + 1)) (nI_add _ _) ?_
        refine m_put (ty := .int) hx hb hts hown hK hH hS 43 (by decide) q1495 rfl rfl rfl (by decide +kernel) rfl rfl dX2_goesThrough_56 (fun H locs hH hS => ?_)
        have hM := hM.iS (k := 43) (by decide) (nI (((comP S x).length) + 1))
        refine lv_iinc (v := nI (x + 1)) (lv' := [(3, .int (nI (x + 1))), (0, .ref o), (1, .int (nI q)), (2, .int (zI md))]) hx hb dX2_goesThrough_59 hl (k := 3) rfl (nI_add x 1) (by decide) rfl (fun ls hl => ?_)
        refine lv_goto (tgt := 17) hx hb dX2_goesThrough_62 (by decide) ?_
        exact ih17 (x + 1) _ _ (by omega) H locs ls ⟨by omega, by rw [va_up_self, comP_t cc, List.length_append]; rfl, by rw [comP_t cc]; exact mem_push h53, hkI.up (by decide) _, hM, hH, hS, lv_sub hl [1, 2, 3, 0] rfl⟩
      · refine lv_goto (tgt := 59) hx hb dX2_goesThrough_36 (by decide) ?_
        refine lv_iinc (v := nI (x + 1)) (lv' := [(3, .int (nI (x + 1))), (0, .ref o), (1, .int (nI q)), (2, .int (zI md))]) hx hb dX2_goesThrough_59 hl (k := 3) rfl (nI_add x 1) (by decide) rfl (fun ls hl => ?_)
        refine lv_goto (tgt := 17) hx hb dX2_goesThrough_62 (by decide) ?_
        exact ih17 (x + 1) P U (by omega) H locs ls ⟨by omega, by rw [comP_f cc]; exact h43, by rw [comP_f cc]; exact h53, hkI, hM, hH, hS, lv_sub hl [1, 2, 3, 0] rfl⟩
  · refine lv_iconst (v := nI 0) hx hb dX2_goesThrough_8 (by decide) ?_
    exact hp_zret hx hb hr rfl hlocks hH hS (by decide) (by decide) dX2_goesThrough_9 (⟨congrArg some (congrArg Value.int (zI_0 (by rw [askB, cr0]; rfl))), _, _, rfl, hM, fun q9 => Bool.noConfusion ((show askB S room = false by rw [askB, cr0]; rfl).symm.trans q9)⟩)
set_option maxHeartbeats 4000000 in
theorem mt_least (hK0 : va_K D CL (TYS K) s0) {S : Ab} (hO : SOK S) (hM : MOK S I V) (room what : Int32) : Met l yX2_least (ws_ yX2_least cX2_least 3 ((Option.some Jvm.ClassFile.FieldType.int))) (rmk 11 0 0) (va_Pc [.ref o, .int room, .int what] (PB s0 D CL (mset h K wd o I V J))) (QR s0 D CL (fun v h1 => v = some (.int (spLeast S room what)) ∧ ∃ P U, h1 = mset h K wd o P U J ∧ MOK S P U)) 0 0 (zA s0) := by
  refine hp_met (by decide) (Nat.le_of_ble_eq_true rfl) hK0 ?_
  intro p e s m below meth cd ls hx hb hr hlocks hml hown hnm hts hK hPB hl hS hH hA
  have hl : lv_has ls 3 [(0, .ref o), (1, .int room), (2, .int what)] := hl
  have hown : s.vm.findClass RX2 = some m.cls := hown
  have hn := hO.n
  have hmk := hO.mk
  have hrl := hO.rl
  have hrm := hO.rm
  have hsz := hO.sz
  refine lv_iload_n hx hb dX2_least_0 rfl (lv_at hl 2 rfl) ?_
  refine lv_i2l hx hb dX2_least_1 rfl ?_
  refine lv_lconst (v := 0) hx hb dX2_least_2 rfl ?_
  refine lv_ldc2 (v := 3) hx hb hown (hts _ q1844) dX2_least_3 ?_
  refine hp_callS (As := [.long (Int32.toInt64 what), .long 0, .long 3]) (rest := []) hx hb hml hown hts hPB hH hS (mt_in hK0 (Int32.toInt64 what) 0 3) 3 (lw_S q1658 q1659 q107 q1660) (by decide +kernel) ⟨rfl, rfl⟩ (by decide) rfl hl.1 rfl (Nat.le_of_ble_eq_true rfl) (by decide) dX2_least_6 (fun v1 h3 H locs hp2 _ hH hS => ?_)
  obtain ⟨rfl, rfl⟩ := hp2
  refine lvB_eq (tgt := 21) hx hb dX2_least_9 (by decide) (fun cw => ?_) (fun cw => ?_)
  · rw [in_k 3 rfl] at cw
    refine lv_iconst (v := (-1)) hx hb dX2_least_21 (by decide) ?_
    exact hp_iret hx hb hr hlocks hH hS (by decide) (by decide) dX2_least_22 (⟨congrArg some (congrArg Value.int (by rw [spLeast, cw]; rfl)), _, _, rfl, hM⟩)
  · rw [in_k 3 rfl] at cw
    refine lv_aload_n hx hb dX2_least_12 rfl (lv_at hl 0 rfl) ?_
    refine lv_iload_n hx hb dX2_least_13 rfl (lv_at hl 1 rfl) ?_
    refine lv_iconst (v := nI 0) hx hb dX2_least_14 (by decide) ?_
    refine hp_callV (As := [.int room, .int (nI 0)]) (rest := []) hx hb hml hown hts hPB hK hH hS (mt_goesThrough hK0 hO hM room false) mset_o rfl rfl 2 (lw_V q1936 q1938 qs93 q107 q1939) (by decide +kernel) ⟨rfl, rfl⟩ (by decide) rfl hl.1 rfl (Nat.le_of_ble_eq_true rfl) (by decide) dX2_least_15 (fun v4 h6 H locs hp5 _ hH hS => ?_)
    obtain ⟨rfl, P7, U7, rfl, hM, hgo⟩ := hp5
    refine lvB_ne (tgt := 23) hx hb dX2_least_18 (by decide) (fun ca => ?_) (fun ca => ?_)
    · obtain ⟨⟨b, L, ez1⟩, b2, a2, L2, ez2⟩ := seAll_ex ca 0
      obtain ⟨g43, g52, g53, hz1, hz2, hz3⟩ := hgo ca
      rw [seAll_f] at hz1 hz2
      rw [ez1] at hz1
      rw [ez2] at hz2
      refine lv_iload_n hx hb dX2_least_23 rfl (lv_at hl 2 rfl) ?_
      refine lv_if_ne (tgt := 34) hx hb dX2_least_24 (by decide) (fun c0 => ?_) (fun c0 => ?_)
      · have c0 : ¬ what = nI 0 := c0
        refine lv_iload_n hx hb dX2_least_34 rfl (lv_at hl 2 rfl) ?_
        refine lv_iconst (v := nI 1) hx hb dX2_least_35 (by decide) ?_
        refine lv_icmp_ne (tgt := 46) hx hb dX2_least_36 (by decide) (fun c1 => ?_) (fun c1 => ?_)
        · refine lv_iload_n hx hb dX2_least_46 rfl (lv_at hl 2 rfl) ?_
          refine lv_iconst (v := nI 2) hx hb dX2_least_47 (by decide) ?_
          refine lv_icmp_ne (tgt := 58) hx hb dX2_least_48 (by decide) (fun c2 => ?_) (fun c2 => ?_)
          · refine lv_aload_n hx hb dX2_least_58 rfl (lv_at hl 0 rfl) ?_
            refine m_get hx hb hts hown hK hH 56 (by decide) q1508 rfl (v := .int (nI b2)) (congrArg Value.int (hz2.2.2.1)) dX2_least_59 ?_
            exact hp_iret hx hb hr hlocks hH hS (by decide) (by decide) dX2_least_62 (⟨congrArg some (congrArg Value.int (by rw [spLeast, cw, ca, if_pos (by simp), ez1, ez2, if_neg c0, if_neg c1, if_neg c2]; rfl)), _, _, rfl, hM⟩)
          · refine lv_aload_n hx hb dX2_least_51 rfl (lv_at hl 0 rfl) ?_
            refine m_get hx hb hts hown hK hH 57 (by decide) q1509 rfl (v := .int (nI a2)) (congrArg Value.int (hz2.2.2.2.1)) dX2_least_52 ?_
            refine lv_goto (tgt := 62) hx hb dX2_least_55 (by decide) ?_
            exact hp_iret hx hb hr hlocks hH hS (by decide) (by decide) dX2_least_62 (⟨congrArg some (congrArg Value.int (by rw [spLeast, cw, ca, if_pos (by simp), ez1, ez2, if_neg c0, if_neg c1, if_pos c2]; rfl)), _, _, rfl, hM⟩)
        · refine lv_aload_n hx hb dX2_least_39 rfl (lv_at hl 0 rfl) ?_
          refine m_get hx hb hts hown hK hH 55 (by decide) q1507 rfl (v := .int (nI L.length)) (congrArg Value.int (hz1.2.2.1)) dX2_least_40 ?_
          refine lv_goto (tgt := 62) hx hb dX2_least_43 (by decide) ?_
          exact hp_iret hx hb hr hlocks hH hS (by decide) (by decide) dX2_least_62 (⟨congrArg some (congrArg Value.int (by rw [spLeast, cw, ca, if_pos (by simp), ez1, ez2, if_neg c0, if_pos c1]; rfl)), _, _, rfl, hM⟩)
      · have c0 : what = nI 0 := c0
        refine lv_aload_n hx hb dX2_least_27 rfl (lv_at hl 0 rfl) ?_
        refine m_get hx hb hts hown hK hH 54 (by decide) q1506 rfl (v := .int (nI b)) (congrArg Value.int (hz1.2.1)) dX2_least_28 ?_
        refine lv_goto (tgt := 62) hx hb dX2_least_31 (by decide) ?_
        exact hp_iret hx hb hr hlocks hH hS (by decide) (by decide) dX2_least_62 (⟨congrArg some (congrArg Value.int (by rw [spLeast, cw, ca, if_pos (by simp), ez1, ez2, if_pos c0]; rfl)), _, _, rfl, hM⟩)
    · refine lv_iconst (v := (-1)) hx hb dX2_least_21 (by decide) ?_
      exact hp_iret hx hb hr hlocks hH hS (by decide) (by decide) dX2_least_22 (⟨congrArg some (congrArg Value.int (by rw [spLeast, cw, ca]; rfl)), _, _, rfl, hM⟩)
set_option maxHeartbeats 4000000 in
theorem mt_best (hK0 : va_K D CL (TYS K) s0) {S : Ab} (hO : SOK S) (hM : MOK S I V) (room g : Int32) (mild : Bool) : Met l yX2_best (ws_ yX2_best cX2_best 4 ((Option.some Jvm.ClassFile.FieldType.int))) (rmk 11 0 0) (va_Pc [.ref o, .int room, .int g, .int (zI mild)] (PB s0 D CL (mset h K wd o I V J))) (QR s0 D CL (fun v h1 => v = some (.int (spBest S room g mild)) ∧ ∃ P U, h1 = mset h K wd o P U J ∧ MOK S P U)) 0 0 (zA s0) := by
  refine hp_met (by decide) (Nat.le_of_ble_eq_true rfl) hK0 ?_
  intro p e s m below meth cd ls hx hb hr hlocks hml hown hnm hts hK hPB hl hS hH hA
  have hl : lv_has ls 4 [(0, .ref o), (1, .int room), (2, .int g), (3, .int (zI mild))] := hl
  have hown : s.vm.findClass RX2 = some m.cls := hown
  have hn := hO.n
  have hmk := hO.mk
  have hrl := hO.rl
  have hrm := hO.rm
  have hsz := hO.sz
  refine lv_aload_n hx hb dX2_best_0 rfl (lv_at hl 0 rfl) ?_
  refine lv_iload_n hx hb dX2_best_1 rfl (lv_at hl 2 rfl) ?_
  refine hp_callV (As := [.int g]) (rest := []) hx hb hml hown hts hPB hK hH hS (mt_isGuest hK0 hO hM g) mset_o rfl rfl 1 (lw_V q1748 q1750 qs66 q107 q1751) (by decide +kernel) ⟨rfl, rfl⟩ (by decide) rfl hl.1 rfl (Nat.le_of_ble_eq_true rfl) (by decide) dX2_best_2 (fun v1 h3 H locs hp2 _ hH hS => ?_)
  obtain ⟨rfl, rfl⟩ := hp2
  refine lvB_eq (tgt := 26) hx hb dX2_best_5 (by decide) (fun cg0 => ?_) (fun cg0 => ?_)
  · refine lv_iconst (v := (-1)) hx hb dX2_best_26 (by decide) ?_
    exact hp_iret hx hb hr hlocks hH hS (by decide) (by decide) dX2_best_27 (⟨congrArg some (congrArg Value.int (by rw [spBest, cg0]; simp)), _, _, rfl, hM⟩)
  · obtain ⟨j, hj, rfl⟩ := inN_t cg0
    have ej := nI_clamp (show j < 2 ^ 31 by omega)
    refine lv_aload_n hx hb dX2_best_8 rfl (lv_at hl 0 rfl) ?_
    refine m_get hx hb hts hown hK hH 20 (by decide) q1472 rfl (v := .ref (o + 34)) rfl dX2_best_9 ?_
    refine lv_iload_n hx hb dX2_best_12 rfl (lv_at hl 2 rfl) ?_
    refine m_zald (n := 10) (j := j) (v := zI (aCm S j)) hx hb hK hH (by decide) rfl (by first | omega | (refine Nat.lt_of_lt_of_le (Nat.mod_lt _ ?_) ?_ <;> omega)) (by decide) (hM.cm (by first | omega | (refine Nat.lt_of_lt_of_le (Nat.mod_lt _ ?_) ?_ <;> omega))) dX2_best_13 ?_
    refine lvB_eq (tgt := 26) hx hb dX2_best_14 (by decide) (fun cm0 => ?_) (fun cm0 => ?_)
    · refine lv_iconst (v := (-1)) hx hb dX2_best_26 (by decide) ?_
      exact hp_iret hx hb hr hlocks hH hS (by decide) (by decide) dX2_best_27 (⟨congrArg some (congrArg Value.int (by rw [spBest, cg0, ej, cm0]; simp)), _, _, rfl, hM⟩)
    · refine lv_aload_n hx hb dX2_best_17 rfl (lv_at hl 0 rfl) ?_
      refine lv_iload_n hx hb dX2_best_18 rfl (lv_at hl 1 rfl) ?_
      refine lv_iconst (v := nI 0) hx hb dX2_best_19 (by decide) ?_
      refine hp_callV (As := [.int room, .int (nI 0)]) (rest := []) hx hb hml hown hts hPB hK hH hS (mt_goesThrough hK0 hO hM room false) mset_o rfl rfl 2 (lw_V q1936 q1938 qs93 q107 q1939) (by decide +kernel) ⟨rfl, rfl⟩ (by decide) rfl hl.1 rfl (Nat.le_of_ble_eq_true rfl) (by decide) dX2_best_20 (fun v4 h6 H locs hp5 _ hH hS => ?_)
      obtain ⟨rfl, P7, U7, rfl, hM, hgo⟩ := hp5
      refine lvB_ne (tgt := 28) hx hb dX2_best_23 (by decide) (fun ca => ?_) (fun ca => ?_)
      · obtain ⟨⟨b, L, ez1⟩, b2, a2, L2, ez2⟩ := seAll_ex ca 0
        obtain ⟨g43, g52, g53, hz1, hz2, hz3⟩ := hgo ca
        rw [seAll_f] at hz1 hz2
        rw [ez1] at hz1
        rw [ez2] at hz2
        have hgm : j ∈ comP S (aN S) := comP_mem.mpr ⟨hj, cm0⟩
        have hix := (idx_at hgm).1
        have hm7 : (comP S (aN S)).length ≤ 7 := by have := ca; unfold askB at this; simp only [Bool.and_eq_true, decide_eq_true_eq] at this; exact this.2.1
        refine lv_iload_n hx hb dX2_best_28 rfl (lv_at hl 3 rfl) ?_
        refine lvB_eq (tgt := 45) hx hb dX2_best_29 (by decide) (fun cmi => ?_) (fun cmi => ?_)
        · refine lv_aload_n hx hb dX2_best_45 rfl (lv_at hl 0 rfl) ?_
          refine m_get hx hb hts hown hK hH 47 (by decide) q1499 rfl (v := .ref (o + 58)) rfl dX2_best_46 ?_
          refine lv_aload_n hx hb dX2_best_49 rfl (lv_at hl 0 rfl) ?_
          refine lv_iload_n hx hb dX2_best_50 rfl (lv_at hl 2 rfl) ?_
          refine hp_callV (As := [.int (nI j)]) (rest := [.ref (o + 58)]) hx hb hml hown hts hPB hK hH hS (mt_memberOf hK0 hO hM (mem := comP S (aN S)) (g := j) g43 hm7 g53 (comP_ok hn).2.1 (by omega) hgm) mset_o rfl rfl 1 (lw_V q1968 q1970 qs100 q107 q1971) (by decide +kernel) ⟨rfl, rfl⟩ (by decide) rfl hl.1 rfl (Nat.le_of_ble_eq_true rfl) (by decide) dX2_best_51 (fun v7 h9 H locs hp8 _ hH hS => ?_)
          obtain ⟨rfl, rfl⟩ := hp8
          refine m_iald (n := 10) (j := (comP S (aN S)).idxOf j) (v := nI ((L.headD []).getD ((comP S (aN S)).idxOf j) 0)) hx hb hK hH (by decide) rfl (by first | omega | (refine Nat.lt_of_lt_of_le (Nat.mod_lt _ ?_) ?_ <;> omega)) (by decide) (hz1.2.2.2.1 _ hix) dX2_best_54 ?_
          exact hp_iret hx hb hr hlocks hH hS (by decide) (by decide) dX2_best_55 (⟨congrArg some (congrArg Value.int (by rw [spBest, cg0, ej, cm0, ca, if_pos (by simp), ez1, ez2, cmi]; rfl)), _, _, rfl, hM⟩)
        · refine lv_aload_n hx hb dX2_best_32 rfl (lv_at hl 0 rfl) ?_
          refine m_get hx hb hts hown hK hH 48 (by decide) q1500 rfl (v := .ref (o + 59)) rfl dX2_best_33 ?_
          refine lv_aload_n hx hb dX2_best_36 rfl (lv_at hl 0 rfl) ?_
          refine lv_iload_n hx hb dX2_best_37 rfl (lv_at hl 2 rfl) ?_
          refine hp_callV (As := [.int (nI j)]) (rest := [.ref (o + 59)]) hx hb hml hown hts hPB hK hH hS (mt_memberOf hK0 hO hM (mem := comP S (aN S)) (g := j) g43 hm7 g53 (comP_ok hn).2.1 (by omega) hgm) mset_o rfl rfl 1 (lw_V q1968 q1970 qs100 q107 q1971) (by decide +kernel) ⟨rfl, rfl⟩ (by decide) rfl hl.1 rfl (Nat.le_of_ble_eq_true rfl) (by decide) dX2_best_38 (fun v10 h12 H locs hp11 _ hH hS => ?_)
          obtain ⟨rfl, rfl⟩ := hp11
          refine m_iald (n := 10) (j := (comP S (aN S)).idxOf j) (v := nI (L2.getD ((comP S (aN S)).idxOf j) 0)) hx hb hK hH (by decide) rfl (by first | omega | (refine Nat.lt_of_lt_of_le (Nat.mod_lt _ ?_) ?_ <;> omega)) (by decide) (hz2.2.2.2.2 _ hix) dX2_best_41 ?_
          refine lv_goto (tgt := 55) hx hb dX2_best_42 (by decide) ?_
          exact hp_iret hx hb hr hlocks hH hS (by decide) (by decide) dX2_best_55 (⟨congrArg some (congrArg Value.int (by rw [spBest, cg0, ej, cm0, ca, if_pos (by simp), ez1, ez2, cmi]; rfl)), _, _, rfl, hM⟩)
      · refine lv_iconst (v := (-1)) hx hb dX2_best_26 (by decide) ?_
        exact hp_iret hx hb hr hlocks hH hS (by decide) (by decide) dX2_best_27 (⟨congrArg some (congrArg Value.int (by rw [spBest, cg0, ej, cm0, ca]; simp)), _, _, rfl, hM⟩)
set_option maxHeartbeats 4000000 in
theorem mt_must (hK0 : va_K D CL (TYS K) s0) {S : Ab} (hO : SOK S) (hM : MOK S I V) (room g : Int32) : Met l yX2_must (ws_ yX2_must cX2_must 3 ((Option.some Jvm.ClassFile.FieldType.int))) (rmk 11 0 0) (va_Pc [.ref o, .int room, .int g] (PB s0 D CL (mset h K wd o I V J))) (QR s0 D CL (fun v h1 => v = some (.int (spMust S room g)) ∧ ∃ P U, h1 = mset h K wd o P U J ∧ MOK S P U)) 0 0 (zA s0) := by
  refine hp_met (by decide) (Nat.le_of_ble_eq_true rfl) hK0 ?_
  intro p e s m below meth cd ls hx hb hr hlocks hml hown hnm hts hK hPB hl hS hH hA
  have hl : lv_has ls 3 [(0, .ref o), (1, .int room), (2, .int g)] := hl
  have hown : s.vm.findClass RX2 = some m.cls := hown
  have hn := hO.n
  have hmk := hO.mk
  have hrl := hO.rl
  have hrm := hO.rm
  have hsz := hO.sz
  refine lv_aload_n hx hb dX2_must_0 rfl (lv_at hl 0 rfl) ?_
  refine lv_iload_n hx hb dX2_must_1 rfl (lv_at hl 2 rfl) ?_
  refine hp_callV (As := [.int g]) (rest := []) hx hb hml hown hts hPB hK hH hS (mt_isGuest hK0 hO hM g) mset_o rfl rfl 1 (lw_V q1748 q1750 qs66 q107 q1751) (by decide +kernel) ⟨rfl, rfl⟩ (by decide) rfl hl.1 rfl (Nat.le_of_ble_eq_true rfl) (by decide) dX2_must_2 (fun v1 h3 H locs hp2 _ hH hS => ?_)
  obtain ⟨rfl, rfl⟩ := hp2
  refine lvB_eq (tgt := 39) hx hb dX2_must_5 (by decide) (fun cg0 => ?_) (fun cg0 => ?_)
  · refine lv_iconst (v := (-1)) hx hb dX2_must_39 (by decide) ?_
    exact hp_iret hx hb hr hlocks hH hS (by decide) (by decide) dX2_must_40 (⟨congrArg some (congrArg Value.int (by rw [spMust, cg0]; simp)), _, _, rfl, hM⟩)
  · obtain ⟨j, hj, rfl⟩ := inN_t cg0
    have ej := nI_clamp (show j < 2 ^ 31 by omega)
    refine lv_aload_n hx hb dX2_must_8 rfl (lv_at hl 0 rfl) ?_
    refine m_get hx hb hts hown hK hH 20 (by decide) q1472 rfl (v := .ref (o + 34)) rfl dX2_must_9 ?_
    refine lv_iload_n hx hb dX2_must_12 rfl (lv_at hl 2 rfl) ?_
    refine m_zald (n := 10) (j := j) (v := zI (aCm S j)) hx hb hK hH (by decide) rfl (by first | omega | (refine Nat.lt_of_lt_of_le (Nat.mod_lt _ ?_) ?_ <;> omega)) (by decide) (hM.cm (by first | omega | (refine Nat.lt_of_lt_of_le (Nat.mod_lt _ ?_) ?_ <;> omega))) dX2_must_13 ?_
    refine lvB_eq (tgt := 39) hx hb dX2_must_14 (by decide) (fun cm0 => ?_) (fun cm0 => ?_)
    · refine lv_iconst (v := (-1)) hx hb dX2_must_39 (by decide) ?_
      exact hp_iret hx hb hr hlocks hH hS (by decide) (by decide) dX2_must_40 (⟨congrArg some (congrArg Value.int (by rw [spMust, cg0, ej, cm0]; simp)), _, _, rfl, hM⟩)
    · refine lv_aload_n hx hb dX2_must_17 rfl (lv_at hl 0 rfl) ?_
      refine lv_iload_n hx hb dX2_must_18 rfl (lv_at hl 1 rfl) ?_
      refine lv_iconst (v := nI 0) hx hb dX2_must_19 (by decide) ?_
      refine hp_callV (As := [.int room, .int (nI 0)]) (rest := []) hx hb hml hown hts hPB hK hH hS (mt_goesThrough hK0 hO hM room false) mset_o rfl rfl 2 (lw_V q1936 q1938 qs93 q107 q1939) (by decide +kernel) ⟨rfl, rfl⟩ (by decide) rfl hl.1 rfl (Nat.le_of_ble_eq_true rfl) (by decide) dX2_must_20 (fun v4 h6 H locs hp5 _ hH hS => ?_)
      obtain ⟨rfl, P7, U7, rfl, hM, hgo⟩ := hp5
      refine lvB_eq (tgt := 39) hx hb dX2_must_23 (by decide) (fun ca => ?_) (fun ca => ?_)
      · refine lv_iconst (v := (-1)) hx hb dX2_must_39 (by decide) ?_
        exact hp_iret hx hb hr hlocks hH hS (by decide) (by decide) dX2_must_40 (⟨congrArg some (congrArg Value.int (by rw [spMust, cg0, ej, cm0, ca]; simp)), _, _, rfl, hM⟩)
      · obtain ⟨⟨b, L, ez1⟩, b2, a2, L2, ez2⟩ := seAll_ex ca 0
        obtain ⟨g43, g52, g53, hz1, hz2, hz3⟩ := hgo ca
        rw [seAll_f] at hz1 hz2
        rw [ez1] at hz1
        rw [ez2] at hz2
        have hgm : j ∈ comP S (aN S) := comP_mem.mpr ⟨hj, cm0⟩
        have hix := (idx_at hgm).1
        have hm7 : (comP S (aN S)).length ≤ 7 := by have := ca; unfold askB at this; simp only [Bool.and_eq_true, decide_eq_true_eq] at this; exact this.2.1
        refine lv_aload_n hx hb dX2_must_26 rfl (lv_at hl 0 rfl) ?_
        refine m_get hx hb hts hown hK hH 50 (by decide) q1502 rfl (v := .ref (o + 61)) rfl dX2_must_27 ?_
        refine lv_aload_n hx hb dX2_must_30 rfl (lv_at hl 0 rfl) ?_
        refine lv_iload_n hx hb dX2_must_31 rfl (lv_at hl 2 rfl) ?_
        refine hp_callV (As := [.int (nI j)]) (rest := [.ref (o + 61)]) hx hb hml hown hts hPB hK hH hS (mt_memberOf hK0 hO hM (mem := comP S (aN S)) (g := j) g43 hm7 g53 (comP_ok hn).2.1 (by omega) hgm) mset_o rfl rfl 1 (lw_V q1968 q1970 qs100 q107 q1971) (by decide +kernel) ⟨rfl, rfl⟩ (by decide) rfl hl.1 rfl (Nat.le_of_ble_eq_true rfl) (by decide) dX2_must_32 (fun v7 h9 H locs hp8 _ hH hS => ?_)
        obtain ⟨rfl, rfl⟩ := hp8
        refine m_iald (n := 10) (j := (comP S (aN S)).idxOf j) (v := smI L ((comP S (aN S)).idxOf j)) hx hb hK hH (by decide) rfl (by first | omega | (refine Nat.lt_of_lt_of_le (Nat.mod_lt _ ?_) ?_ <;> omega)) (by decide) (hz1.2.2.2.2.1 _ hix) dX2_must_35 ?_
        refine lv_goto (tgt := 40) hx hb dX2_must_36 (by decide) ?_
        exact hp_iret hx hb hr hlocks hH hS (by decide) (by decide) dX2_must_40 (⟨congrArg some (congrArg Value.int (by rw [spMust, cg0, ej, cm0, ca, if_pos (by simp), ez1]; rfl)), _, _, rfl, hM⟩)
set_option maxHeartbeats 4000000 in
theorem mt_free (hK0 : va_K D CL (TYS K) s0) {S : Ab} (hO : SOK S) (hM : MOK S I V) (room g : Int32) : Met l yX2_free (ws_ yX2_free cX2_free 3 ((Option.some Jvm.ClassFile.FieldType.int))) (rmk 11 0 0) (va_Pc [.ref o, .int room, .int g] (PB s0 D CL (mset h K wd o I V J))) (QR s0 D CL (fun v h1 => v = some (.int (spFree S room g)) ∧ ∃ P U, h1 = mset h K wd o P U J ∧ MOK S P U)) 0 0 (zA s0) := by
  refine hp_met (by decide) (Nat.le_of_ble_eq_true rfl) hK0 ?_
  intro p e s m below meth cd ls hx hb hr hlocks hml hown hnm hts hK hPB hl hS hH hA
  have hl : lv_has ls 3 [(0, .ref o), (1, .int room), (2, .int g)] := hl
  have hown : s.vm.findClass RX2 = some m.cls := hown
  have hn := hO.n
  have hmk := hO.mk
  have hrl := hO.rl
  have hrm := hO.rm
  have hsz := hO.sz
  refine lv_aload_n hx hb dX2_free_0 rfl (lv_at hl 0 rfl) ?_
  refine lv_iload_n hx hb dX2_free_1 rfl (lv_at hl 1 rfl) ?_
  refine lv_iconst (v := nI 0) hx hb dX2_free_2 (by decide) ?_
  refine hp_callV (As := [.int room, .int (nI 0)]) (rest := []) hx hb hml hown hts hPB hK hH hS (mt_goesThrough hK0 hO hM room false) mset_o rfl rfl 2 (lw_V q1936 q1938 qs93 q107 q1939) (by decide +kernel) ⟨rfl, rfl⟩ (by decide) rfl hl.1 rfl (Nat.le_of_ble_eq_true rfl) (by decide) dX2_free_3 (fun v1 h3 H locs hp2 _ hH hS => ?_)
  obtain ⟨rfl, P7, U7, rfl, hM, hgo⟩ := hp2
  refine lvB_eq (tgt := 37) hx hb dX2_free_6 (by decide) (fun ca => ?_) (fun ca => ?_)
  · refine lv_iconst (v := (-1)) hx hb dX2_free_37 (by decide) ?_
    exact hp_iret hx hb hr hlocks hH hS (by decide) (by decide) dX2_free_38 (⟨congrArg some (congrArg Value.int (by rw [spFree, ca]; simp)), _, _, rfl, hM⟩)
  · obtain ⟨⟨b, L, ez1⟩, b2, a2, L2, ez2⟩ := seAll_ex ca 0
    obtain ⟨g43, g52, g53, hz1, hz2, hz3⟩ := hgo ca
    rw [seAll_f] at hz1 hz2
    rw [ez1] at hz1
    rw [ez2] at hz2
    have hm7 : (comP S (aN S)).length ≤ 7 := by have := ca; unfold askB at this; simp only [Bool.and_eq_true, decide_eq_true_eq] at this; exact this.2.1
    have hn8 : aRp S room.toNatClampNeg ≤ 8 := by have := ca; unfold askB at this; simp only [Bool.and_eq_true, decide_eq_true_eq] at this; exact this.2.2.1
    refine lv_iload_n hx hb dX2_free_9 rfl (lv_at hl 2 rfl) ?_
    refine lv_i2l hx hb dX2_free_10 rfl ?_
    refine lv_lconst (v := 0) hx hb dX2_free_11 rfl ?_
    refine lv_aload_n hx hb dX2_free_12 rfl (lv_at hl 0 rfl) ?_
    refine m_get hx hb hts hown hK hH 52 (by decide) q1504 rfl (v := .int (nI (aRp S room.toNatClampNeg))) (congrArg Value.int (g52)) dX2_free_13 ?_
    refine lv_iconst (v := nI 1) hx hb dX2_free_16 (by decide) ?_
    refine lv_isub hx hb dX2_free_17 ?_
    refine lv_i2l hx hb dX2_free_18 rfl ?_
    refine hp_callS (As := [.long (Int32.toInt64 g), .long 0, .long (Int32.toInt64 ((nI (aRp S room.toNatClampNeg)) - (nI 1)))]) (rest := []) hx hb hml hown hts hPB hH hS (mt_in hK0 (Int32.toInt64 g) 0 (Int32.toInt64 ((nI (aRp S room.toNatClampNeg)) - (nI 1)))) 3 (lw_S q1658 q1659 q107 q1660) (by decide +kernel) ⟨rfl, rfl⟩ (by decide) rfl hl.1 rfl (Nat.le_of_ble_eq_true rfl) (by decide) dX2_free_19 (fun v4 h6 H locs hp5 _ hH hS => ?_)
    obtain ⟨rfl, rfl⟩ := hp5
    refine lvB_eq (tgt := 37) hx hb dX2_free_22 (by decide) (fun cg0 => ?_) (fun cg0 => ?_)
    · rw [in_n (by omega)] at cg0
      refine lv_iconst (v := (-1)) hx hb dX2_free_37 (by decide) ?_
      exact hp_iret hx hb hr hlocks hH hS (by decide) (by decide) dX2_free_38 (⟨congrArg some (congrArg Value.int (by rw [spFree, ca, cg0]; simp)), _, _, rfl, hM⟩)
    · rw [in_n (by omega)] at cg0
      obtain ⟨j, hj, rfl⟩ := inN_t cg0
      have ej := nI_clamp (show j < 2 ^ 31 by omega)
      refine lv_aload_n hx hb dX2_free_25 rfl (lv_at hl 0 rfl) ?_
      refine m_get hx hb hts hown hK hH 51 (by decide) q1503 rfl (v := .ref (o + 62)) rfl dX2_free_26 ?_
      refine lv_iload_n hx hb dX2_free_29 rfl (lv_at hl 2 rfl) ?_
      refine m_iald (n := 8) (j := j) (v := nI (snM L (comP S (aN S)).length j)) hx hb hK hH (by decide) rfl (by first | omega | (refine Nat.lt_of_lt_of_le (Nat.mod_lt _ ?_) ?_ <;> omega)) (by decide) (hz1.2.2.2.2.2 j (by omega)) dX2_free_30 ?_
      have hsn : snM L (comP S (aN S)).length j < 4096 := ofB_4096 _ hm7
      refine hp_callS (As := [.int (nI (snM L (comP S (aN S)).length j))]) (rest := []) hx hb hml hown hts hPB hH hS (mt_bitCount hK0 (x := snM L (comP S (aN S)).length j) (by omega)) 1 (lw_S q1885 q1128 q138 q1129) (by decide +kernel) ⟨rfl, rfl⟩ (by decide) rfl hl.1 rfl (Nat.le_of_ble_eq_true rfl) (by decide) dX2_free_31 (fun v7 h9 H locs hp8 _ hH hS => ?_)
      obtain ⟨rfl, rfl⟩ := hp8
      refine lv_goto (tgt := 38) hx hb dX2_free_34 (by decide) ?_
      exact hp_iret hx hb hr hlocks hH hS (by decide) (by decide) dX2_free_38 (⟨congrArg some (congrArg Value.int (by rw [spFree, ca, cg0, if_pos (by simp), ez1, ej, snM, pop_ofB _ (by omega)]; rfl)), _, _, rfl, hM⟩)
set_option maxHeartbeats 4000000 in
theorem mt_mended (hK0 : va_K D CL (TYS K) s0) {S : Ab} (hO : SOK S) (hM : MOK S I V) (room most g : Int32) : Met l yX2_mended (ws_ yX2_mended cX2_mended 4 ((Option.some Jvm.ClassFile.FieldType.int))) (rmk 11 0 0) (va_Pc [.ref o, .int room, .int most, .int g] (PB s0 D CL (mset h K wd o I V J))) (QR s0 D CL (fun v h1 => v = some (.int (spMended S room most g)) ∧ ∃ P U, h1 = mset h K wd o P U J ∧ MOK S P U)) 0 0 (zA s0) := by
  refine hp_met (by decide) (Nat.le_of_ble_eq_true rfl) hK0 ?_
  intro p e s m below meth cd ls hx hb hr hlocks hml hown hnm hts hK hPB hl hS hH hA
  have hl : lv_has ls 4 [(0, .ref o), (1, .int room), (2, .int most), (3, .int g)] := hl
  have hown : s.vm.findClass RX2 = some m.cls := hown
  have hn := hO.n
  have hmk := hO.mk
  have hrl := hO.rl
  have hrm := hO.rm
  have hsz := hO.sz
  refine lv_iload_n hx hb dX2_mended_0 rfl (lv_at hl 3 rfl) ?_
  refine lv_iconst (v := (-1)) hx hb dX2_mended_1 (by decide) ?_
  refine lv_icmp_eq (tgt := 24) hx hb dX2_mended_2 (by decide) (fun cgm => ?_) (fun cgm => ?_)
  · subst cgm
    refine lv_aload_n hx hb dX2_mended_24 rfl (lv_at hl 0 rfl) ?_
    refine lv_iload_n hx hb dX2_mended_25 rfl (lv_at hl 2 rfl) ?_
    refine m_put (ty := .int) hx hb hts hown hK hH hS 58 (by decide) q1510 rfl rfl rfl (by decide +kernel) rfl rfl dX2_mended_26 (fun H locs hH hS => ?_)
    have hM := hM.iS (k := 58) (by decide) most
    refine lv_aload_n hx hb dX2_mended_29 rfl (lv_at hl 0 rfl) ?_
    refine lv_iload_n hx hb dX2_mended_30 rfl (lv_at hl 1 rfl) ?_
    refine lv_iconst (v := nI 1) hx hb dX2_mended_31 (by decide) ?_
    refine hp_callV (As := [.int room, .int (nI 1)]) (rest := []) hx hb hml hown hts hPB hK hH hS (mt_goesThrough hK0 hO hM room true) mset_o rfl rfl 2 (lw_V q1936 q1938 qs93 q107 q1939) (by decide +kernel) ⟨rfl, rfl⟩ (by decide) rfl hl.1 rfl (Nat.le_of_ble_eq_true rfl) (by decide) dX2_mended_32 (fun v1 h3 H locs hp2 _ hH hS => ?_)
    obtain ⟨rfl, P7, U7, rfl, hM, hgo⟩ := hp2
    refine lvB_eq (tgt := 46) hx hb dX2_mended_35 (by decide) (fun ca => ?_) (fun ca => ?_)
    · refine lv_iconst (v := (-1)) hx hb dX2_mended_46 (by decide) ?_
      exact hp_iret hx hb hr hlocks hH hS (by decide) (by decide) dX2_mended_47 (⟨congrArg some (congrArg Value.int (by rw [spMended, decide_eq_true rfl, ca]; simp)), _, _, rfl, hM⟩)
    · obtain ⟨g43, g52, g53, hz1, hz2, hz3⟩ := hgo ca
      have hz3 : mdR (comP S (aN S)).length P7 U7 (seAll S room true most).2.2 := hz3
      refine lv_aload_n hx hb dX2_mended_38 rfl (lv_at hl 0 rfl) ?_
      refine m_get hx hb hts hown hK hH 59 (by decide) q1511 rfl (v := .int (P7 59)) (rfl) dX2_mended_39 ?_
      refine lv_iconst (v := (-1)) hx hb dX2_mended_42 (by decide) ?_
      refine lv_icmp_ne (tgt := 48) hx hb dX2_mended_43 (by decide) (fun cn => ?_) (fun cn => ?_)
      · obtain ⟨b, L, ez3⟩ := md_some hz3 cn
        rw [ez3] at hz3
        refine lv_iload_n hx hb dX2_mended_48 rfl (lv_at hl 3 rfl) ?_
        refine lv_iconst (v := (-1)) hx hb dX2_mended_49 (by decide) ?_
        refine lv_icmp_ne (tgt := 60) hx hb dX2_mended_50 (by decide) (fun c4 => ?_) (fun c4 => ?_)
        · exact absurd rfl c4
        · refine lv_aload_n hx hb dX2_mended_53 rfl (lv_at hl 0 rfl) ?_
          refine m_get hx hb hts hown hK hH 59 (by decide) q1511 rfl (v := .int (nI b)) (congrArg Value.int (hz3.2.1)) dX2_mended_54 ?_
          refine lv_goto (tgt := 70) hx hb dX2_mended_57 (by decide) ?_
          exact hp_iret hx hb hr hlocks hH hS (by decide) (by decide) dX2_mended_70 (⟨congrArg some (congrArg Value.int (by rw [spMended, decide_eq_true rfl, ca, if_pos (by simp), ez3]; exact (if_pos rfl).symm)), _, _, rfl, hM⟩)
      · have ez3 := md_none hz3 cn
        refine lv_iconst (v := (-1)) hx hb dX2_mended_46 (by decide) ?_
        exact hp_iret hx hb hr hlocks hH hS (by decide) (by decide) dX2_mended_47 (⟨congrArg some (congrArg Value.int (by rw [spMended, decide_eq_true rfl, ca, if_pos (by simp), ez3])), _, _, rfl, hM⟩)
  · refine lv_aload_n hx hb dX2_mended_5 rfl (lv_at hl 0 rfl) ?_
    refine lv_iload_n hx hb dX2_mended_6 rfl (lv_at hl 3 rfl) ?_
    refine hp_callV (As := [.int g]) (rest := []) hx hb hml hown hts hPB hK hH hS (mt_isGuest hK0 hO hM g) mset_o rfl rfl 1 (lw_V q1748 q1750 qs66 q107 q1751) (by decide +kernel) ⟨rfl, rfl⟩ (by decide) rfl hl.1 rfl (Nat.le_of_ble_eq_true rfl) (by decide) dX2_mended_7 (fun v5 h7 H locs hp6 _ hH hS => ?_)
    obtain ⟨rfl, rfl⟩ := hp6
    refine lvB_eq (tgt := 22) hx hb dX2_mended_10 (by decide) (fun cg0 => ?_) (fun cg0 => ?_)
    · refine lv_iconst (v := (-1)) hx hb dX2_mended_22 (by decide) ?_
      exact hp_iret hx hb hr hlocks hH hS (by decide) (by decide) dX2_mended_23 (⟨congrArg some (congrArg Value.int (by rw [spMended, decide_eq_false cgm, cg0]; simp)), _, _, rfl, hM⟩)
    · obtain ⟨j, hj, rfl⟩ := inN_t cg0
      have ej := nI_clamp (show j < 2 ^ 31 by omega)
      refine lv_aload_n hx hb dX2_mended_13 rfl (lv_at hl 0 rfl) ?_
      refine m_get hx hb hts hown hK hH 20 (by decide) q1472 rfl (v := .ref (o + 34)) rfl dX2_mended_14 ?_
      refine lv_iload_n hx hb dX2_mended_17 rfl (lv_at hl 3 rfl) ?_
      refine m_zald (n := 10) (j := j) (v := zI (aCm S j)) hx hb hK hH (by decide) rfl (by first | omega | (refine Nat.lt_of_lt_of_le (Nat.mod_lt _ ?_) ?_ <;> omega)) (by decide) (hM.cm (by first | omega | (refine Nat.lt_of_lt_of_le (Nat.mod_lt _ ?_) ?_ <;> omega))) dX2_mended_18 ?_
      refine lvB_ne (tgt := 24) hx hb dX2_mended_19 (by decide) (fun cm0 => ?_) (fun cm0 => ?_)
      · refine lv_aload_n hx hb dX2_mended_24 rfl (lv_at hl 0 rfl) ?_
        refine lv_iload_n hx hb dX2_mended_25 rfl (lv_at hl 2 rfl) ?_
        refine m_put (ty := .int) hx hb hts hown hK hH hS 58 (by decide) q1510 rfl rfl rfl (by decide +kernel) rfl rfl dX2_mended_26 (fun H locs hH hS => ?_)
        have hM := hM.iS (k := 58) (by decide) most
        refine lv_aload_n hx hb dX2_mended_29 rfl (lv_at hl 0 rfl) ?_
        refine lv_iload_n hx hb dX2_mended_30 rfl (lv_at hl 1 rfl) ?_
        refine lv_iconst (v := nI 1) hx hb dX2_mended_31 (by decide) ?_
        refine hp_callV (As := [.int room, .int (nI 1)]) (rest := []) hx hb hml hown hts hPB hK hH hS (mt_goesThrough hK0 hO hM room true) mset_o rfl rfl 2 (lw_V q1936 q1938 qs93 q107 q1939) (by decide +kernel) ⟨rfl, rfl⟩ (by decide) rfl hl.1 rfl (Nat.le_of_ble_eq_true rfl) (by decide) dX2_mended_32 (fun v8 h10 H locs hp9 _ hH hS => ?_)
        obtain ⟨rfl, P7, U7, rfl, hM, hgo⟩ := hp9
        refine lvB_eq (tgt := 46) hx hb dX2_mended_35 (by decide) (fun ca => ?_) (fun ca => ?_)
        · refine lv_iconst (v := (-1)) hx hb dX2_mended_46 (by decide) ?_
          exact hp_iret hx hb hr hlocks hH hS (by decide) (by decide) dX2_mended_47 (⟨congrArg some (congrArg Value.int (by rw [spMended, decide_eq_false cgm, cg0, ej, cm0, ca]; simp)), _, _, rfl, hM⟩)
        · obtain ⟨g43, g52, g53, hz1, hz2, hz3⟩ := hgo ca
          have hz3 : mdR (comP S (aN S)).length P7 U7 (seAll S room true most).2.2 := hz3
          refine lv_aload_n hx hb dX2_mended_38 rfl (lv_at hl 0 rfl) ?_
          refine m_get hx hb hts hown hK hH 59 (by decide) q1511 rfl (v := .int (P7 59)) (rfl) dX2_mended_39 ?_
          refine lv_iconst (v := (-1)) hx hb dX2_mended_42 (by decide) ?_
          refine lv_icmp_ne (tgt := 48) hx hb dX2_mended_43 (by decide) (fun cn => ?_) (fun cn => ?_)
          · obtain ⟨b, L, ez3⟩ := md_some hz3 cn
            rw [ez3] at hz3
            refine lv_iload_n hx hb dX2_mended_48 rfl (lv_at hl 3 rfl) ?_
            refine lv_iconst (v := (-1)) hx hb dX2_mended_49 (by decide) ?_
            refine lv_icmp_ne (tgt := 60) hx hb dX2_mended_50 (by decide) (fun c11 => ?_) (fun c11 => ?_)
            · have hgm : j ∈ comP S (aN S) := comP_mem.mpr ⟨hj, cm0⟩
              have hix := (idx_at hgm).1
              have hm7 : (comP S (aN S)).length ≤ 7 := by have := ca; unfold askB at this; simp only [Bool.and_eq_true, decide_eq_true_eq] at this; exact this.2.1
              refine lv_aload_n hx hb dX2_mended_60 rfl (lv_at hl 0 rfl) ?_
              refine m_get hx hb hts hown hK hH 49 (by decide) q1501 rfl (v := .ref (o + 60)) rfl dX2_mended_61 ?_
              refine lv_aload_n hx hb dX2_mended_64 rfl (lv_at hl 0 rfl) ?_
              refine lv_iload_n hx hb dX2_mended_65 rfl (lv_at hl 3 rfl) ?_
              refine hp_callV (As := [.int (nI j)]) (rest := [.ref (o + 60)]) hx hb hml hown hts hPB hK hH hS (mt_memberOf hK0 hO hM (mem := comP S (aN S)) (g := j) g43 hm7 g53 (comP_ok hn).2.1 (by omega) hgm) mset_o rfl rfl 1 (lw_V q1968 q1970 qs100 q107 q1971) (by decide +kernel) ⟨rfl, rfl⟩ (by decide) rfl hl.1 rfl (Nat.le_of_ble_eq_true rfl) (by decide) dX2_mended_66 (fun v12 h14 H locs hp13 _ hH hS => ?_)
              obtain ⟨rfl, rfl⟩ := hp13
              refine m_iald (n := 10) (j := (comP S (aN S)).idxOf j) (v := nI (L.getD ((comP S (aN S)).idxOf j) 0)) hx hb hK hH (by decide) rfl (by first | omega | (refine Nat.lt_of_lt_of_le (Nat.mod_lt _ ?_) ?_ <;> omega)) (by decide) (hz3.2.2 _ hix) dX2_mended_69 ?_
              exact hp_iret hx hb hr hlocks hH hS (by decide) (by decide) dX2_mended_70 (⟨congrArg some (congrArg Value.int (by rw [spMended, decide_eq_false cgm, cg0, ej, cm0, ca, if_pos (by simp), ez3]; exact (if_neg cgm).symm)), _, _, rfl, hM⟩)
            · exact absurd c11 cgm
          · have ez3 := md_none hz3 cn
            refine lv_iconst (v := (-1)) hx hb dX2_mended_46 (by decide) ?_
            exact hp_iret hx hb hr hlocks hH hS (by decide) (by decide) dX2_mended_47 (⟨congrArg some (congrArg Value.int (by rw [spMended, decide_eq_false cgm, cg0, ej, cm0, ca, if_pos (by simp), ez3])), _, _, rfl, hM⟩)
      · refine lv_iconst (v := (-1)) hx hb dX2_mended_22 (by decide) ?_
        exact hp_iret hx hb hr hlocks hH hS (by decide) (by decide) dX2_mended_23 (⟨congrArg some (congrArg Value.int (by rw [spMended, decide_eq_false cgm, cg0, ej, cm0]; simp)), _, _, rfl, hM⟩)
end MODEL
