/-! by gen/mspec.py -/
set_option maxRecDepth 100000
section MODEL
variable {l : Launch} {s0 : State} {D : va_G} {K : Nat → ClassId} {wd : Nat → Nat} {o : Nat} {h : Hp} {I : Nat → Int32} {V : Nat → Nat → Int32} {J : Nat → Nat → Int64}
set_option maxHeartbeats 4000000 in
theorem mt_quarrels (hK0 : va_K D CL (TYS K) s0) {S : Ab} (hO : SOK S) (hM : MOK S I V) (room : Int32) : Met l yX2_quarrels (ws_ yX2_quarrels cX2_quarrels 5 ((Option.some Jvm.ClassFile.FieldType.int))) (rmk 6 0 0) (va_Pc [.ref o, .int room] (PB s0 D CL (mset h K wd o I V J))) (QR s0 D CL (fun v h1 => v = some (.int (spQuarrels S room)) ∧ ∃ P U, h1 = mset h K wd o P U J ∧ MOK S P U)) 0 0 (zA s0) := by
  refine hp_met (by decide) (Nat.le_of_ble_eq_true rfl) hK0 ?_
  intro p e s m below meth cd ls hx hb hr hlocks hml hown hnm hts hK hPB hl hS hH hA
  have hl : lv_has ls 5 [(0, .ref o), (1, .int room)] := hl
  have hown : s.vm.findClass RX2 = some m.cls := hown
  have hn := hO.n
  have hmk := hO.mk
  have hrl := hO.rl
  have hrm := hO.rm
  have hsz := hO.sz
  refine lv_aload_n hx hb dX2_quarrels_0 rfl (lv_at hl 0 rfl) ?_
  refine lv_iload_n hx hb dX2_quarrels_1 rfl (lv_at hl 1 rfl) ?_
  refine hp_callV (As := [.int room]) (rest := []) hx hb hml hown hts hPB hK hH hS (mt_isRoom hK0 hO hM room) mset_o rfl rfl 1 (lw_V q1788 q1790 qs72 q107 q1791) (by decide +kernel) ⟨rfl, rfl⟩ (by decide) rfl hl.1 rfl (Nat.le_of_ble_eq_true rfl) (by decide) dX2_quarrels_2 (fun v1 h3 H locs hp2 _ hH hS => ?_)
  obtain ⟨rfl, rfl⟩ := hp2
  refine lvB_ne (tgt := 10) hx hb dX2_quarrels_5 (by decide) (fun cr0 => ?_) (fun cr0 => ?_)
  · obtain ⟨q, hq, rfl⟩ := inN_t cr0
    have eq := nI_clamp (show q < 2 ^ 31 by omega)
    refine lv_aload_n hx hb dX2_quarrels_10 rfl (lv_at hl 0 rfl) ?_
    refine lv_iload_n hx hb dX2_quarrels_11 rfl (lv_at hl 1 rfl) ?_
    refine lv_iconst (v := nI 0) hx hb dX2_quarrels_12 (by decide) ?_
    refine hp_callV (As := [.int (nI q), .int (nI 0)]) (rest := []) hx hb hml hown hts hPB hK hH hS (mt_ranks hK0 hO hM (wo := 0) (by omega) (nI q)) mset_o rfl rfl 2 (lw_V q1861 q1863 qs81 q107 q1864) (by decide +kernel) ⟨rfl, rfl⟩ (by decide) rfl hl.1 rfl (Nat.le_of_ble_eq_true rfl) (by decide) dX2_quarrels_13 (fun v4 h6 H locs hp5 _ hH hS => ?_)
    obtain ⟨rfl, U, rfl, hM, hrk, hkR⟩ := hp5
    refine lv_iconst (v := nI 0) hx hb dX2_quarrels_16 (by decide) ?_
    refine lv_istore_n (lv' := [(2, .int (nI 0)), (0, .ref o), (1, .int (nI q))]) hx hb dX2_quarrels_17 rfl hl (by decide) rfl (fun ls hl => ?_)
    refine lv_iconst (v := nI 0) hx hb dX2_quarrels_18 (by decide) ?_
    refine lv_istore_n (lv' := [(3, .int (nI 0)), (2, .int (nI 0)), (0, .ref o), (1, .int (nI q))]) hx hb dX2_quarrels_19 rfl hl (by decide) rfl (fun ls hl => ?_)
    refine w_loop1 (fun (x : Nat) => aN S - x) (fun (x : Nat) H locs ls => (x ≤ aN S) ∧ HP D CL (zA s0) (mset h K wd o I U J) H ∧ va_S (zA s0) s.heap H locs ∧ lv_has ls 5 [(0, .ref o), (2, .int (nI (quA S (nI q) x))), (3, .int (nI x))]) ?_ 0 ⟨Nat.zero_le _, hH, hS, lv_sub hl [2, 1, 0] rfl⟩
    intro x ih20 H locs ls hP
    obtain ⟨hxx, hH, hS, hl⟩ := hP
    have hqa := quA_le S (nI q) x (by omega)
    refine lv_iload_n hx hb dX2_quarrels_20 rfl (lv_at hl 2 rfl) ?_
    refine lv_aload_n hx hb dX2_quarrels_21 rfl (lv_at hl 0 rfl) ?_
    refine m_get hx hb hts hown hK hH 15 (by decide) q1467 rfl (v := .ref (o + 29)) rfl dX2_quarrels_22 ?_
    refine lv_iconst (v := nI 0) hx hb dX2_quarrels_25 (by decide) ?_
    refine m_iald (n := 2) (j := 0) (v := nI (aN S)) hx hb hK hH (by decide) rfl (by first | omega | (refine Nat.lt_of_lt_of_le (Nat.mod_lt _ ?_) ?_ <;> omega)) (by decide) (hM.n) dX2_quarrels_26 ?_
    refine lvN_ge (tgt := 89) hx hb (by first | omega | (refine Nat.lt_of_lt_of_le (Nat.mod_lt _ ?_) ?_ <;> omega)) (by first | omega | (refine Nat.lt_of_lt_of_le (Nat.mod_lt _ ?_) ?_ <;> omega)) dX2_quarrels_27 (by decide) (fun c7 => ?_) (fun c7 => ?_)
    · have exn : x = aN S := by omega
      rw [exn] at hl
      refine lv_iload_n hx hb dX2_quarrels_89 rfl (lv_at hl 1 rfl) ?_
      exact hp_iret hx hb hr hlocks hH hS (by decide) (by decide) dX2_quarrels_90 (⟨congrArg some (congrArg Value.int (by simp [spQuarrels, cr0])), _, _, rfl, hM⟩)
    · refine lv_iconst (v := nI 0) hx hb dX2_quarrels_30 (by decide) ?_
      refine lv_istore (lv' := [(4, .int (nI 0)), (0, .ref o), (2, .int (nI (quA S (nI q) x))), (3, .int (nI x))]) hx hb dX2_quarrels_31 hl (by decide) rfl (fun ls hl => ?_)
      refine w_loop1 (fun (y : Nat) => x - y) (fun (y : Nat) H locs ls => (y ≤ x) ∧ HP D CL (zA s0) (mset h K wd o I U J) H ∧ va_S (zA s0) s.heap H locs ∧ lv_has ls 5 [(0, .ref o), (2, .int (nI (quA S (nI q) x + quB S (nI q) x y))), (3, .int (nI x)), (4, .int (nI y))]) ?_ 0 ⟨Nat.zero_le _, hH, hS, lv_sub hl [1, 2, 3, 0] rfl⟩
      intro y ih33 H locs ls hP
      obtain ⟨hyy, hH, hS, hl⟩ := hP
      have hqb : quB S (nI q) x y ≤ y := cntN_le _ _
      refine lv_iload hx hb dX2_quarrels_33 (lv_at hl 3 rfl) ?_
      refine lv_iload_n hx hb dX2_quarrels_35 rfl (lv_at hl 2 rfl) ?_
      refine lvN_ge (tgt := 83) hx hb (by first | omega | (refine Nat.lt_of_lt_of_le (Nat.mod_lt _ ?_) ?_ <;> omega)) (by first | omega | (refine Nat.lt_of_lt_of_le (Nat.mod_lt _ ?_) ?_ <;> omega)) dX2_quarrels_36 (by decide) (fun c8 => ?_) (fun c8 => ?_)
      · have eyx : y = x := by omega
        rw [eyx] at hl
        refine lv_iinc (v := nI (x + 1)) (lv' := [(3, .int (nI (x + 1))), (0, .ref o), (2, .int (nI (quA S (nI q) x + quB S (nI q) x x))), (4, .int (nI x))]) hx hb dX2_quarrels_83 hl (k := 2) rfl (nI_add x 1) (by decide) rfl (fun ls hl => ?_)
        refine lv_goto (tgt := 20) hx hb dX2_quarrels_86 (by decide) ?_
        exact ih20 (x + 1) (by omega) H locs ls ⟨by omega, hH, hS, lv_sub hl [1, 2, 0] rfl⟩
      · refine lv_iload_n hx hb dX2_quarrels_39 rfl (lv_at hl 1 rfl) ?_
        refine lv_aload_n hx hb dX2_quarrels_40 rfl (lv_at hl 0 rfl) ?_
        refine m_get hx hb hts hown hK hH 32 (by decide) q1484 rfl (v := .ref (o + 44)) rfl dX2_quarrels_41 ?_
        refine lv_bipush (v := nI 10) hx hb dX2_quarrels_44 (by decide) ?_
        refine lv_iload_n hx hb dX2_quarrels_46 rfl (lv_at hl 2 rfl) ?_
        refine lv_imul hx hb dX2_quarrels_47 ?_
        refine lv_top (y := nI (10 * x)) (pk_mul _ _) ?_
        refine lv_iload hx hb dX2_quarrels_48 (lv_at hl 3 rfl) ?_
        refine lv_iadd hx hb dX2_quarrels_50 ?_
        refine lv_top (y := nI ((10 * x) + y)) (nI_add _ _) ?_
        refine m_zald (n := 100) (j := (10 * x) + y) (v := zI (abv S (nI q) 0 x y)) hx hb hK hH (by decide) rfl (by first | omega | (refine Nat.lt_of_lt_of_le (Nat.mod_lt _ ?_) ?_ <;> omega)) (by decide) (hrk.1 x y (by omega) (by omega)) dX2_quarrels_51 ?_
        refine lvB_eq (tgt := 74) hx hb dX2_quarrels_52 (by decide) (fun ca => ?_) (fun ca => ?_)
        · refine lv_iconst (v := nI 0) hx hb dX2_quarrels_74 (by decide) ?_
          refine lv_iadd hx hb dX2_quarrels_75 ?_
          refine lv_top (y := nI (quA S (nI q) x + quB S (nI q) x (y + 1))) (qu_f (by simp [ca])) ?_
          refine lv_istore_n (lv' := [(2, .int (nI (quA S (nI q) x + quB S (nI q) x (y + 1)))), (0, .ref o), (3, .int (nI x)), (4, .int (nI y))]) hx hb dX2_quarrels_76 rfl hl (by decide) rfl (fun ls hl => ?_)
          refine lv_iinc (v := nI (y + 1)) (lv' := [(4, .int (nI (y + 1))), (2, .int (nI (quA S (nI q) x + quB S (nI q) x (y + 1)))), (0, .ref o), (3, .int (nI x))]) hx hb dX2_quarrels_77 hl (k := 3) rfl (nI_add y 1) (by decide) rfl (fun ls hl => ?_)
          refine lv_goto (tgt := 33) hx hb dX2_quarrels_80 (by decide) ?_
          exact ih33 (y + 1) (by omega) H locs ls ⟨by omega, hH, hS, lv_sub hl [2, 1, 3, 0] rfl⟩
        · refine lv_aload_n hx hb dX2_quarrels_55 rfl (lv_at hl 0 rfl) ?_
          refine m_get hx hb hts hown hK hH 32 (by decide) q1484 rfl (v := .ref (o + 44)) rfl dX2_quarrels_56 ?_
          refine lv_bipush (v := nI 10) hx hb dX2_quarrels_59 (by decide) ?_
          refine lv_iload hx hb dX2_quarrels_61 (lv_at hl 3 rfl) ?_
          refine lv_imul hx hb dX2_quarrels_63 ?_
          refine lv_top (y := nI (10 * y)) (pk_mul _ _) ?_
          refine lv_iload_n hx hb dX2_quarrels_64 rfl (lv_at hl 2 rfl) ?_
          refine lv_iadd hx hb dX2_quarrels_65 ?_
          refine lv_top (y := nI ((10 * y) + x)) (nI_add _ _) ?_
          refine m_zald (n := 100) (j := (10 * y) + x) (v := zI (abv S (nI q) 0 y x)) hx hb hK hH (by decide) rfl (by first | omega | (refine Nat.lt_of_lt_of_le (Nat.mod_lt _ ?_) ?_ <;> omega)) (by decide) (hrk.1 y x (by omega) (by omega)) dX2_quarrels_66 ?_
          refine lvB_eq (tgt := 74) hx hb dX2_quarrels_67 (by decide) (fun cb => ?_) (fun cb => ?_)
          · refine lv_iconst (v := nI 0) hx hb dX2_quarrels_74 (by decide) ?_
            refine lv_iadd hx hb dX2_quarrels_75 ?_
            refine lv_top (y := nI (quA S (nI q) x + quB S (nI q) x (y + 1))) (qu_f (by simp [cb])) ?_
            refine lv_istore_n (lv' := [(2, .int (nI (quA S (nI q) x + quB S (nI q) x (y + 1)))), (0, .ref o), (3, .int (nI x)), (4, .int (nI y))]) hx hb dX2_quarrels_76 rfl hl (by decide) rfl (fun ls hl => ?_)
            refine lv_iinc (v := nI (y + 1)) (lv' := [(4, .int (nI (y + 1))), (2, .int (nI (quA S (nI q) x + quB S (nI q) x (y + 1)))), (0, .ref o), (3, .int (nI x))]) hx hb dX2_quarrels_77 hl (k := 3) rfl (nI_add y 1) (by decide) rfl (fun ls hl => ?_)
            refine lv_goto (tgt := 33) hx hb dX2_quarrels_80 (by decide) ?_
            exact ih33 (y + 1) (by omega) H locs ls ⟨by omega, hH, hS, lv_sub hl [2, 1, 3, 0] rfl⟩
          · refine lv_iconst (v := nI 1) hx hb dX2_quarrels_70 (by decide) ?_
            refine lv_goto (tgt := 75) hx hb dX2_quarrels_71 (by decide) ?_
            refine lv_iadd hx hb dX2_quarrels_75 ?_
            refine lv_top (y := nI (quA S (nI q) x + quB S (nI q) x (y + 1))) (qu_t ca cb) ?_
            refine lv_istore_n (lv' := [(2, .int (nI (quA S (nI q) x + quB S (nI q) x (y + 1)))), (0, .ref o), (3, .int (nI x)), (4, .int (nI y))]) hx hb dX2_quarrels_76 rfl hl (by decide) rfl (fun ls hl => ?_)
            refine lv_iinc (v := nI (y + 1)) (lv' := [(4, .int (nI (y + 1))), (2, .int (nI (quA S (nI q) x + quB S (nI q) x (y + 1)))), (0, .ref o), (3, .int (nI x))]) hx hb dX2_quarrels_77 hl (k := 3) rfl (nI_add y 1) (by decide) rfl (fun ls hl => ?_)
            refine lv_goto (tgt := 33) hx hb dX2_quarrels_80 (by decide) ?_
            exact ih33 (y + 1) (by omega) H locs ls ⟨by omega, hH, hS, lv_sub hl [2, 1, 3, 0] rfl⟩
  · refine lv_iconst (v := (-1)) hx hb dX2_quarrels_8 (by decide) ?_
    exact hp_iret hx hb hr hlocks hH hS (by decide) (by decide) dX2_quarrels_9 (⟨congrArg some (congrArg Value.int (by simp [spQuarrels, cr0])), _, _, rfl, hM⟩)
set_option maxHeartbeats 4000000 in
theorem mt_leads (hK0 : va_K D CL (TYS K) s0) {S : Ab} (hO : SOK S) (hM : MOK S I V) {t : Nat} {hp : Nat} (ht0 : t < 10) (hhp : hp < 1024) (A : Nat → Nat → Bool) (hab : ∀ x y, x < aN S → y < aN S → V 44 (10 * x + y) = zI (A x y)) : Met l yX2_leads (ws_ yX2_leads cX2_leads 6 ((Option.none : Option Jvm.ClassFile.FieldType))) (rmk 0 0 0) (va_Pc [.ref o, .int (nI t), .int (nI hp)] (PB s0 D CL (mset h K wd o I V J))) (QR s0 D CL (fun v h1 => v = none ∧ ∃ U, h1 = mset h K wd o I U J ∧ MOK S I U ∧ farA A (aN S) hp t U ∧ kp [46] V U)) 0 0 (zA s0) := by
  refine hp_met (by decide) (Nat.le_of_ble_eq_true rfl) hK0 ?_
  intro p e s m below meth cd ls hx hb hr hlocks hml hown hnm hts hK hPB hl hS hH hA
  have hl : lv_has ls 6 [(0, .ref o), (1, .int (nI t)), (2, .int (nI hp))] := hl
  have hown : s.vm.findClass RX2 = some m.cls := hown
  have hn := hO.n
  have hmk := hO.mk
  have hrl := hO.rl
  have hrm := hO.rm
  have hsz := hO.sz
  refine lv_iconst (v := nI 0) hx hb dX2_leads_0 (by decide) ?_
  refine lv_istore_n (lv' := [(3, .int (nI 0)), (0, .ref o), (1, .int (nI t)), (2, .int (nI hp))]) hx hb dX2_leads_1 rfl hl (by decide) rfl (fun ls hl => ?_)
  refine w_loop2 (fun (k : Nat) (U : Nat → Nat → Int32) => 10 - k) (fun (k : Nat) (U : Nat → Nat → Int32) H locs ls => (k ≤ 10) ∧ (∀ g, g < k → U 46 g = oI (farO A (aN S) hp t 0 g)) ∧ (MOK S I U) ∧ (kp [46] V U) ∧ HP D CL (zA s0) (mset h K wd o I U J) H ∧ va_S (zA s0) s.heap H locs ∧ lv_has ls 6 [(0, .ref o), (1, .int (nI t)), (2, .int (nI hp)), (3, .int (nI k))]) ?_ 0 V ⟨Nat.zero_le _, fun g hg => absurd hg (Nat.not_lt_zero _), hM, kp.rf, hH, hS, lv_sub hl [1, 2, 3, 0] rfl⟩
  intro k U ih2 H locs ls hP
  obtain ⟨hk, hz, hM, hkp, hH, hS, hl⟩ := hP
  refine lv_iload_n hx hb dX2_leads_2 rfl (lv_at hl 3 rfl) ?_
  refine lv_bipush (v := nI 10) hx hb dX2_leads_3 (by decide) ?_
  refine lvN_ge (tgt := 30) hx hb (by first | omega | (refine Nat.lt_of_lt_of_le (Nat.mod_lt _ ?_) ?_ <;> omega)) (by first | omega | (refine Nat.lt_of_lt_of_le (Nat.mod_lt _ ?_) ?_ <;> omega)) dX2_leads_5 (by decide) (fun c1 => ?_) (fun c1 => ?_)
  · refine lv_iconst (v := nI 0) hx hb dX2_leads_30 (by decide) ?_
    refine lv_istore_n (lv' := [(3, .int (nI 0)), (0, .ref o), (1, .int (nI t)), (2, .int (nI hp))]) hx hb dX2_leads_31 rfl hl (by decide) rfl (fun ls hl => ?_)
    refine w_loop2 (fun (k : Nat) (U : Nat → Nat → Int32) => 10 - k) (fun (k : Nat) (U : Nat → Nat → Int32) H locs ls => (k ≤ 10) ∧ (∀ g, g < 10 → U 46 g = oI (farO A (aN S) hp t k g)) ∧ (MOK S I U) ∧ (kp [46] V U) ∧ HP D CL (zA s0) (mset h K wd o I U J) H ∧ va_S (zA s0) s.heap H locs ∧ lv_has ls 6 [(0, .ref o), (1, .int (nI t)), (2, .int (nI hp)), (3, .int (nI k))]) ?_ 0 U ⟨Nat.zero_le _, fun g hg => hz g (by omega), hM, hkp, hH, hS, lv_sub hl [1, 2, 3, 0] rfl⟩
    intro k U ih32 H locs ls hP
    obtain ⟨hk, hF, hM, hkp, hH, hS, hl⟩ := hP
    refine lv_iload_n hx hb dX2_leads_32 rfl (lv_at hl 3 rfl) ?_
    refine lv_bipush (v := nI 10) hx hb dX2_leads_33 (by decide) ?_
    refine lvN_ge (tgt := 154) hx hb (by first | omega | (refine Nat.lt_of_lt_of_le (Nat.mod_lt _ ?_) ?_ <;> omega)) (by first | omega | (refine Nat.lt_of_lt_of_le (Nat.mod_lt _ ?_) ?_ <;> omega)) dX2_leads_35 (by decide) (fun c2 => ?_) (fun c2 => ?_)
    · exact hp_vret hx hb hr hlocks hH hS (by decide) (by decide) dX2_leads_154 (⟨rfl, U, rfl, hM, fun g hg => by rw [hF g hg, show k = 10 by omega], hkp⟩)
    · refine lv_iconst (v := nI 0) hx hb dX2_leads_38 (by decide) ?_
      refine lv_istore (lv' := [(4, .int (nI 0)), (0, .ref o), (1, .int (nI t)), (2, .int (nI hp)), (3, .int (nI k))]) hx hb dX2_leads_39 hl (by decide) rfl (fun ls hl => ?_)
      refine w_loop2 (fun (x : Nat) (U : Nat → Nat → Int32) => aN S - x) (fun (x : Nat) (U : Nat → Nat → Int32) H locs ls => (x ≤ aN S) ∧ (∀ g, g < 10 → U 46 g = oI (if g < x then farO A (aN S) hp t (k + 1) g else farO A (aN S) hp t k g)) ∧ (MOK S I U) ∧ (kp [46] V U) ∧ HP D CL (zA s0) (mset h K wd o I U J) H ∧ va_S (zA s0) s.heap H locs ∧ lv_has ls 6 [(0, .ref o), (1, .int (nI t)), (2, .int (nI hp)), (3, .int (nI k)), (4, .int (nI x))]) ?_ 0 U ⟨Nat.zero_le _, fun g hg => by rw [hF g hg, if_neg (Nat.not_lt_zero _)], hM, hkp, hH, hS, lv_sub hl [1, 2, 3, 4, 0] rfl⟩
      intro x U ih41 H locs ls hP
      obtain ⟨hxx, hC, hM, hkp, hH, hS, hl⟩ := hP
      refine lv_iload hx hb dX2_leads_41 (lv_at hl 4 rfl) ?_
      refine lv_aload_n hx hb dX2_leads_43 rfl (lv_at hl 0 rfl) ?_
      refine m_get hx hb hts hown hK hH 15 (by decide) q1467 rfl (v := .ref (o + 29)) rfl dX2_leads_44 ?_
      refine lv_iconst (v := nI 0) hx hb dX2_leads_47 (by decide) ?_
      refine m_iald (n := 2) (j := 0) (v := nI (aN S)) hx hb hK hH (by decide) rfl (by first | omega | (refine Nat.lt_of_lt_of_le (Nat.mod_lt _ ?_) ?_ <;> omega)) (by decide) (hM.n) dX2_leads_48 ?_
      refine lvN_ge (tgt := 148) hx hb (by first | omega | (refine Nat.lt_of_lt_of_le (Nat.mod_lt _ ?_) ?_ <;> omega)) (by first | omega | (refine Nat.lt_of_lt_of_le (Nat.mod_lt _ ?_) ?_ <;> omega)) dX2_leads_49 (by decide) (fun c3 => ?_) (fun c3 => ?_)
      · refine lv_iinc (v := nI (k + 1)) (lv' := [(3, .int (nI (k + 1))), (0, .ref o), (1, .int (nI t)), (2, .int (nI hp)), (4, .int (nI x))]) hx hb dX2_leads_148 hl (k := 3) rfl (nI_add k 1) (by decide) rfl (fun ls hl => ?_)
        refine lv_goto (tgt := 32) hx hb dX2_leads_151 (by decide) ?_
        exact ih32 (k + 1) U (by omega) H locs ls ⟨by omega, fun g hg => by rw [hC g hg]; split; rfl; exact congrArg oI (farO_out (by omega)).symm, hM, hkp, hH, hS, lv_sub hl [1, 2, 3, 0] rfl⟩
      · refine lv_aload_n hx hb dX2_leads_52 rfl (lv_at hl 0 rfl) ?_
        refine m_get hx hb hts hown hK hH 34 (by decide) q1486 rfl (v := .ref (o + 46)) rfl dX2_leads_53 ?_
        refine lv_iload hx hb dX2_leads_56 (lv_at hl 4 rfl) ?_
        refine m_iald (n := 10) (j := x) (v := U 46 x) hx hb hK hH (by decide) rfl (by first | omega | (refine Nat.lt_of_lt_of_le (Nat.mod_lt _ ?_) ?_ <;> omega)) (by decide) (rfl) dX2_leads_58 ?_
        refine lv_iconst (v := (-1)) hx hb dX2_leads_59 (by decide) ?_
        refine lv_icmp_ne (tgt := 142) hx hb dX2_leads_60 (by decide) (fun cx => ?_) (fun cx => ?_)
        · have hsx : ∃ d, farO A (aN S) hp t k x = some d := lead_is (hC x (by omega)) cx
          refine lv_iinc (v := nI (x + 1)) (lv' := [(4, .int (nI (x + 1))), (0, .ref o), (1, .int (nI t)), (2, .int (nI hp)), (3, .int (nI k))]) hx hb dX2_leads_142 hl (k := 4) rfl (nI_add x 1) (by decide) rfl (fun ls hl => ?_)
          refine lv_goto (tgt := 41) hx hb dX2_leads_145 (by decide) ?_
          exact ih41 (x + 1) U (by omega) H locs ls ⟨by omega, fun g hg => by rw [hC g hg]; exact congrArg oI (lead_same2 hsx), hM, hkp, hH, hS, lv_sub hl [1, 2, 3, 4, 0] rfl⟩
        · have hnx : farO A (aN S) hp t k x = none := lead_not (hC x (by omega)) cx (by omega)
          refine lv_iload_n hx hb dX2_leads_63 rfl (lv_at hl 2 rfl) ?_
          refine lv_iload hx hb dX2_leads_64 (lv_at hl 4 rfl) ?_
          refine lv_ishr hx hb dX2_leads_66 ?_
          refine lv_top (y := nI (hp / 2 ^ x)) (bi_shr (by first | omega | (refine Nat.lt_of_lt_of_le (Nat.mod_lt _ ?_) ?_ <;> omega)) (by first | omega | (refine Nat.lt_of_lt_of_le (Nat.mod_lt _ ?_) ?_ <;> omega))) ?_
          refine lv_iconst (v := nI 1) hx hb dX2_leads_67 (by decide) ?_
          refine lv_iand hx hb dX2_leads_68 ?_
          refine lv_top (y := zI (Nat.testBit hp x)) ((bi_and _ _).trans (bi_z _ _)) ?_
          refine lvB_ne (tgt := 75) hx hb dX2_leads_69 (by decide) (fun cbx => ?_) (fun cbx => ?_)
          · refine lv_iconst (v := nI 0) hx hb dX2_leads_75 (by decide) ?_
            refine lv_istore (lv' := [(5, .int (nI 0)), (0, .ref o), (1, .int (nI t)), (2, .int (nI hp)), (3, .int (nI k)), (4, .int (nI x))]) hx hb dX2_leads_76 hl (by decide) rfl (fun ls hl => ?_)
            refine w_loop2 (fun (y : Nat) (U : Nat → Nat → Int32) => aN S - y) (fun (y : Nat) (U : Nat → Nat → Int32) H locs ls => (y ≤ aN S) ∧ (∀ g, g < 10 → g ≠ x → U 46 g = oI (if g < x then farO A (aN S) hp t (k + 1) g else farO A (aN S) hp t k g)) ∧ (U 46 x = oI (if anyB (fun y => decide (farO A (aN S) hp t k y = some k) && Nat.testBit hp y && A x y) y then some (k + 1) else none)) ∧ (MOK S I U) ∧ (kp [46] V U) ∧ HP D CL (zA s0) (mset h K wd o I U J) H ∧ va_S (zA s0) s.heap H locs ∧ lv_has ls 6 [(0, .ref o), (1, .int (nI t)), (2, .int (nI hp)), (3, .int (nI k)), (4, .int (nI x)), (5, .int (nI y))]) ?_ 0 U ⟨Nat.zero_le _, fun g hg _ => hC g hg, cx, hM, hkp, hH, hS, lv_sub hl [1, 2, 3, 4, 5, 0] rfl⟩
            intro y U ih78 H locs ls hP
            obtain ⟨hyy, hD, hE, hM, hkp, hH, hS, hl⟩ := hP
            refine lv_iload hx hb dX2_leads_78 (lv_at hl 5 rfl) ?_
            refine lv_aload_n hx hb dX2_leads_80 rfl (lv_at hl 0 rfl) ?_
            refine m_get hx hb hts hown hK hH 15 (by decide) q1467 rfl (v := .ref (o + 29)) rfl dX2_leads_81 ?_
            refine lv_iconst (v := nI 0) hx hb dX2_leads_84 (by decide) ?_
            refine m_iald (n := 2) (j := 0) (v := nI (aN S)) hx hb hK hH (by decide) rfl (by first | omega | (refine Nat.lt_of_lt_of_le (Nat.mod_lt _ ?_) ?_ <;> omega)) (by decide) (hM.n) dX2_leads_85 ?_
            refine lvN_ge (tgt := 142) hx hb (by first | omega | (refine Nat.lt_of_lt_of_le (Nat.mod_lt _ ?_) ?_ <;> omega)) (by first | omega | (refine Nat.lt_of_lt_of_le (Nat.mod_lt _ ?_) ?_ <;> omega)) dX2_leads_86 (by decide) (fun c4 => ?_) (fun c4 => ?_)
            · refine lv_iinc (v := nI (x + 1)) (lv' := [(4, .int (nI (x + 1))), (0, .ref o), (1, .int (nI t)), (2, .int (nI hp)), (3, .int (nI k)), (5, .int (nI y))]) hx hb dX2_leads_142 hl (k := 4) rfl (nI_add x 1) (by decide) rfl (fun ls hl => ?_)
              refine lv_goto (tgt := 41) hx hb dX2_leads_145 (by decide) ?_
              exact ih41 (x + 1) U (by omega) H locs ls ⟨by omega, fun g hg => lead_x hD hE hg (by omega) hnx cbx (by omega), hM, hkp, hH, hS, lv_sub hl [1, 2, 3, 4, 0] rfl⟩
            · have hky : U 46 y = nI k ↔ farO A (aN S) hp t k y = some k := lead_key hD hE hnx (by omega) (by omega)
              refine lv_aload_n hx hb dX2_leads_89 rfl (lv_at hl 0 rfl) ?_
              refine m_get hx hb hts hown hK hH 34 (by decide) q1486 rfl (v := .ref (o + 46)) rfl dX2_leads_90 ?_
              refine lv_iload hx hb dX2_leads_93 (lv_at hl 5 rfl) ?_
              refine m_iald (n := 10) (j := y) (v := U 46 y) hx hb hK hH (by decide) rfl (by first | omega | (refine Nat.lt_of_lt_of_le (Nat.mod_lt _ ?_) ?_ <;> omega)) (by decide) (rfl) dX2_leads_95 ?_
              refine lv_iload_n hx hb dX2_leads_96 rfl (lv_at hl 3 rfl) ?_
              refine lv_icmp_ne (tgt := 136) hx hb dX2_leads_97 (by decide) (fun cy => ?_) (fun cy => ?_)
              · refine lv_iinc (v := nI (y + 1)) (lv' := [(5, .int (nI (y + 1))), (0, .ref o), (1, .int (nI t)), (2, .int (nI hp)), (3, .int (nI k)), (4, .int (nI x))]) hx hb dX2_leads_136 hl (k := 5) rfl (nI_add y 1) (by decide) rfl (fun ls hl => ?_)
                refine lv_goto (tgt := 78) hx hb dX2_leads_139 (by decide) ?_
                exact ih78 (y + 1) U (by omega) H locs ls ⟨by omega, hD, by rw [hE, anyB_f (p := (fun y => decide (farO A (aN S) hp t k y = some k) && Nat.testBit hp y && A x y)) (by simp [show ¬ farO A (aN S) hp t k y = some k from fun z => cy (hky.mpr z)])], hM, hkp, hH, hS, lv_sub hl [1, 2, 3, 4, 5, 0] rfl⟩
              · refine lv_iload_n hx hb dX2_leads_100 rfl (lv_at hl 2 rfl) ?_
                refine lv_iload hx hb dX2_leads_101 (lv_at hl 5 rfl) ?_
                refine lv_ishr hx hb dX2_leads_103 ?_
                refine lv_top (y := nI (hp / 2 ^ y)) (bi_shr (by first | omega | (refine Nat.lt_of_lt_of_le (Nat.mod_lt _ ?_) ?_ <;> omega)) (by first | omega | (refine Nat.lt_of_lt_of_le (Nat.mod_lt _ ?_) ?_ <;> omega))) ?_
                refine lv_iconst (v := nI 1) hx hb dX2_leads_104 (by decide) ?_
                refine lv_iand hx hb dX2_leads_105 ?_
                refine lv_top (y := zI (Nat.testBit hp y)) ((bi_and _ _).trans (bi_z _ _)) ?_
                refine lv_iconst (v := nI 1) hx hb dX2_leads_106 (by decide) ?_
                refine lvB_ne1 (tgt := 136) hx hb dX2_leads_107 (by decide) (fun cby => ?_) (fun cby => ?_)
                · refine lv_iinc (v := nI (y + 1)) (lv' := [(5, .int (nI (y + 1))), (0, .ref o), (1, .int (nI t)), (2, .int (nI hp)), (3, .int (nI k)), (4, .int (nI x))]) hx hb dX2_leads_136 hl (k := 5) rfl (nI_add y 1) (by decide) rfl (fun ls hl => ?_)
                  refine lv_goto (tgt := 78) hx hb dX2_leads_139 (by decide) ?_
                  exact ih78 (y + 1) U (by omega) H locs ls ⟨by omega, hD, by rw [hE, anyB_f (p := (fun y => decide (farO A (aN S) hp t k y = some k) && Nat.testBit hp y && A x y)) (by simp [cby])], hM, hkp, hH, hS, lv_sub hl [1, 2, 3, 4, 5, 0] rfl⟩
                · refine lv_aload_n hx hb dX2_leads_110 rfl (lv_at hl 0 rfl) ?_
                  refine m_get hx hb hts hown hK hH 32 (by decide) q1484 rfl (v := .ref (o + 44)) rfl dX2_leads_111 ?_
                  refine lv_bipush (v := nI 10) hx hb dX2_leads_114 (by decide) ?_
                  refine lv_iload hx hb dX2_leads_116 (lv_at hl 4 rfl) ?_
                  refine lv_imul hx hb dX2_leads_118 ?_
                  refine lv_top (y := nI (10 * x)) (pk_mul _ _) ?_
                  refine lv_iload hx hb dX2_leads_119 (lv_at hl 5 rfl) ?_
                  refine lv_iadd hx hb dX2_leads_121 ?_
                  refine lv_top (y := nI ((10 * x) + y)) (nI_add _ _) ?_
                  refine m_zald (n := 100) (j := (10 * x) + y) (v := zI (A x y)) hx hb hK hH (by decide) rfl (by first | omega | (refine Nat.lt_of_lt_of_le (Nat.mod_lt _ ?_) ?_ <;> omega)) (by decide) ((congrFun (hkp 44 (by decide)) _).trans (hab x y (by omega) (by omega))) dX2_leads_122 ?_
                  refine lvB_eq (tgt := 136) hx hb dX2_leads_123 (by decide) (fun cay => ?_) (fun cay => ?_)
                  · refine lv_iinc (v := nI (y + 1)) (lv' := [(5, .int (nI (y + 1))), (0, .ref o), (1, .int (nI t)), (2, .int (nI hp)), (3, .int (nI k)), (4, .int (nI x))]) hx hb dX2_leads_136 hl (k := 5) rfl (nI_add y 1) (by decide) rfl (fun ls hl => ?_)
                    refine lv_goto (tgt := 78) hx hb dX2_leads_139 (by decide) ?_
                    exact ih78 (y + 1) U (by omega) H locs ls ⟨by omega, hD, by rw [hE, anyB_f (p := (fun y => decide (farO A (aN S) hp t k y = some k) && Nat.testBit hp y && A x y)) (by simp [cay])], hM, hkp, hH, hS, lv_sub hl [1, 2, 3, 4, 5, 0] rfl⟩
                  · refine lv_aload_n hx hb dX2_leads_126 rfl (lv_at hl 0 rfl) ?_
                    refine m_get hx hb hts hown hK hH 34 (by decide) q1486 rfl (v := .ref (o + 46)) rfl dX2_leads_127 ?_
                    refine lv_iload hx hb dX2_leads_130 (lv_at hl 4 rfl) ?_
                    refine lv_iload_n hx hb dX2_leads_132 rfl (lv_at hl 3 rfl) ?_
                    refine lv_iconst (v := nI 1) hx hb dX2_leads_133 (by decide) ?_
                    refine lv_iadd hx hb dX2_leads_134 ?_
                    refine lv_top (y := nI (k + 1)) (nI_add _ _) ?_
                    refine m_iast (n := 10) (j := x) hx hb hK hH hS (by decide) rfl (by first | omega | (refine Nat.lt_of_lt_of_le (Nat.mod_lt _ ?_) ?_ <;> omega)) (by decide) dX2_leads_135 (fun H locs hH hS => ?_)
                    have hM := hM.vS (k := 46) rfl x (nI (k + 1))
                    refine lv_iinc (v := nI (y + 1)) (lv' := [(5, .int (nI (y + 1))), (0, .ref o), (1, .int (nI t)), (2, .int (nI hp)), (3, .int (nI k)), (4, .int (nI x))]) hx hb dX2_leads_136 hl (k := 5) rfl (nI_add y 1) (by decide) rfl (fun ls hl => ?_)
                    refine lv_goto (tgt := 78) hx hb dX2_leads_139 (by decide) ?_
                    exact ih78 (y + 1) _ (by omega) H locs ls ⟨by omega, fun g hg hne => by rw [vset_ne _ _ hne]; exact hD g hg hne, by rw [vset_self, anyB_t (p := (fun y => decide (farO A (aN S) hp t k y = some k) && Nat.testBit hp y && A x y)) (by simp [hky.mp cy, cby, cay])]; rfl, hM, hkp.vs (by decide) _ _, hH, hS, lv_sub hl [1, 2, 3, 4, 5, 0] rfl⟩
          · refine lv_goto (tgt := 142) hx hb dX2_leads_72 (by decide) ?_
            refine lv_iinc (v := nI (x + 1)) (lv' := [(4, .int (nI (x + 1))), (0, .ref o), (1, .int (nI t)), (2, .int (nI hp)), (3, .int (nI k))]) hx hb dX2_leads_142 hl (k := 4) rfl (nI_add x 1) (by decide) rfl (fun ls hl => ?_)
            refine lv_goto (tgt := 41) hx hb dX2_leads_145 (by decide) ?_
            exact ih41 (x + 1) U (by omega) H locs ls ⟨by omega, fun g hg => by rw [hC g hg]; exact congrArg oI (lead_same (farO_cut hnx cbx) hnx), hM, hkp, hH, hS, lv_sub hl [1, 2, 3, 4, 0] rfl⟩
  · refine lv_aload_n hx hb dX2_leads_8 rfl (lv_at hl 0 rfl) ?_
    refine m_get hx hb hts hown hK hH 34 (by decide) q1486 rfl (v := .ref (o + 46)) rfl dX2_leads_9 ?_
    refine lv_iload_n hx hb dX2_leads_12 rfl (lv_at hl 3 rfl) ?_
    refine lv_iload_n hx hb dX2_leads_13 rfl (lv_at hl 3 rfl) ?_
    refine lv_iload_n hx hb dX2_leads_14 rfl (lv_at hl 1 rfl) ?_
    refine lvN_ne (tgt := 22) hx hb (by first | omega | (refine Nat.lt_of_lt_of_le (Nat.mod_lt _ ?_) ?_ <;> omega)) (by first | omega | (refine Nat.lt_of_lt_of_le (Nat.mod_lt _ ?_) ?_ <;> omega)) dX2_leads_15 (by decide) (fun c5 => ?_) (fun c5 => ?_)
    · refine lv_iconst (v := (-1)) hx hb dX2_leads_22 (by decide) ?_
      refine m_iast (n := 10) (j := k) hx hb hK hH hS (by decide) rfl (by first | omega | (refine Nat.lt_of_lt_of_le (Nat.mod_lt _ ?_) ?_ <;> omega)) (by decide) dX2_leads_23 (fun H locs hH hS => ?_)
      have hM := hM.vS (k := 46) rfl k (-1)
      refine lv_iinc (v := nI (k + 1)) (lv' := [(3, .int (nI (k + 1))), (0, .ref o), (1, .int (nI t)), (2, .int (nI hp))]) hx hb dX2_leads_24 hl (k := 3) rfl (nI_add k 1) (by decide) rfl (fun ls hl => ?_)
      refine lv_goto (tgt := 2) hx hb dX2_leads_27 (by decide) ?_
      exact ih2 (k + 1) _ (by omega) H locs ls ⟨by omega, fun g hg => by rw [vset_in]; split; (rename_i e; rw [e]; simp [farO, oI, c5]); exact hz g (by omega), hM, hkp.vs (by decide) _ _, hH, hS, lv_sub hl [1, 2, 3, 0] rfl⟩
    · refine lv_iconst (v := nI 0) hx hb dX2_leads_18 (by decide) ?_
      refine lv_goto (tgt := 23) hx hb dX2_leads_19 (by decide) ?_
      refine m_iast (n := 10) (j := k) hx hb hK hH hS (by decide) rfl (by first | omega | (refine Nat.lt_of_lt_of_le (Nat.mod_lt _ ?_) ?_ <;> omega)) (by decide) dX2_leads_23 (fun H locs hH hS => ?_)
      have hM := hM.vS (k := 46) rfl k (nI 0)
      refine lv_iinc (v := nI (k + 1)) (lv' := [(3, .int (nI (k + 1))), (0, .ref o), (1, .int (nI t)), (2, .int (nI hp))]) hx hb dX2_leads_24 hl (k := 3) rfl (nI_add k 1) (by decide) rfl (fun ls hl => ?_)
      refine lv_goto (tgt := 2) hx hb dX2_leads_27 (by decide) ?_
      exact ih2 (k + 1) _ (by omega) H locs ls ⟨by omega, fun g hg => by rw [vset_in]; split; (rename_i e; rw [e]; simp [farO, oI, c5]); exact hz g (by omega), hM, hkp.vs (by decide) _ _, hH, hS, lv_sub hl [1, 2, 3, 0] rfl⟩
set_option maxHeartbeats 4000000 in
theorem mt_through (hK0 : va_K D CL (TYS K) s0) {S : Ab} (hO : SOK S) (hM : MOK S I V) {g : Nat} {hp : Nat} (hg0 : g < aN S) (hhp : hp < 1024) (A : Nat → Nat → Bool) (hab : ∀ x y, x < aN S → y < aN S → V 44 (10 * x + y) = zI (A x y)) : Met l yX2_through (ws_ yX2_through cX2_through 5 ((Option.some Jvm.ClassFile.FieldType.int))) (rmk 1 0 0) (va_Pc [.ref o, .int (nI g), .int (nI hp)] (PB s0 D CL (mset h K wd o I V J))) (QR s0 D CL (fun v h1 => v = some (.int (oI (thrO A (aN S) hp g (aN S)))) ∧ ∃ U, h1 = mset h K wd o I U J ∧ MOK S I U ∧ kp [46] V U)) 0 0 (zA s0) := by
  refine hp_met (by decide) (Nat.le_of_ble_eq_true rfl) hK0 ?_
  intro p e s m below meth cd ls hx hb hr hlocks hml hown hnm hts hK hPB hl hS hH hA
  have hl : lv_has ls 5 [(0, .ref o), (1, .int (nI g)), (2, .int (nI hp))] := hl
  have hown : s.vm.findClass RX2 = some m.cls := hown
  have hn := hO.n
  have hmk := hO.mk
  have hrl := hO.rl
  have hrm := hO.rm
  have hsz := hO.sz
  refine lv_aload_n hx hb dX2_through_0 rfl (lv_at hl 0 rfl) ?_
  refine lv_iload_n hx hb dX2_through_1 rfl (lv_at hl 1 rfl) ?_
  refine lv_iload_n hx hb dX2_through_2 rfl (lv_at hl 2 rfl) ?_
  refine hp_callV (As := [.int (nI g), .int (nI hp)]) (rest := []) hx hb hml hown hts hPB hK hH hS (mt_leads hK0 hO hM (t := g) (hp := hp) (by omega) (by omega) A hab) mset_o rfl rfl 2 (lw_V q1873 q1875 qs84 q107 q1876) (by decide +kernel) ⟨rfl, rfl⟩ (by decide) rfl hl.1 rfl (Nat.le_of_ble_eq_true rfl) (by decide) dX2_through_3 (fun v1 h3 H locs hp2 _ hH hS => ?_)
  obtain ⟨rfl, U, rfl, hM, hfa, hkL⟩ := hp2
  refine lv_iconst (v := (-1)) hx hb dX2_through_6 (by decide) ?_
  refine lv_istore_n (lv' := [(3, .int (-1)), (0, .ref o), (1, .int (nI g)), (2, .int (nI hp))]) hx hb dX2_through_7 rfl hl (by decide) rfl (fun ls hl => ?_)
  refine lv_iconst (v := nI 0) hx hb dX2_through_8 (by decide) ?_
  refine lv_istore (lv' := [(4, .int (nI 0)), (3, .int (-1)), (0, .ref o), (1, .int (nI g)), (2, .int (nI hp))]) hx hb dX2_through_9 hl (by decide) rfl (fun ls hl => ?_)
  refine w_loop1 (fun (y : Nat) => aN S - y) (fun (y : Nat) H locs ls => (y ≤ aN S) ∧ HP D CL (zA s0) (mset h K wd o I U J) H ∧ va_S (zA s0) s.heap H locs ∧ lv_has ls 5 [(0, .ref o), (1, .int (nI g)), (3, .int (oI (thrO A (aN S) hp g y))), (4, .int (nI y))]) ?_ 0 ⟨Nat.zero_le _, hH, hS, lv_sub hl [2, 3, 1, 0] rfl⟩
  intro y ih11 H locs ls hP
  obtain ⟨hyy, hH, hS, hl⟩ := hP
  refine lv_iload hx hb dX2_through_11 (lv_at hl 3 rfl) ?_
  refine lv_aload_n hx hb dX2_through_13 rfl (lv_at hl 0 rfl) ?_
  refine m_get hx hb hts hown hK hH 15 (by decide) q1467 rfl (v := .ref (o + 29)) rfl dX2_through_14 ?_
  refine lv_iconst (v := nI 0) hx hb dX2_through_17 (by decide) ?_
  refine m_iald (n := 2) (j := 0) (v := nI (aN S)) hx hb hK hH (by decide) rfl (by first | omega | (refine Nat.lt_of_lt_of_le (Nat.mod_lt _ ?_) ?_ <;> omega)) (by decide) (hM.n) dX2_through_18 ?_
  refine lvN_ge (tgt := 88) hx hb (by first | omega | (refine Nat.lt_of_lt_of_le (Nat.mod_lt _ ?_) ?_ <;> omega)) (by first | omega | (refine Nat.lt_of_lt_of_le (Nat.mod_lt _ ?_) ?_ <;> omega)) dX2_through_19 (by decide) (fun c4 => ?_) (fun c4 => ?_)
  · have eyn : y = aN S := by omega
    rw [eyn] at hl
    refine lv_iload_n hx hb dX2_through_88 rfl (lv_at hl 2 rfl) ?_
    exact hp_iret hx hb hr hlocks hH hS (by decide) (by decide) dX2_through_89 (⟨rfl, U, rfl, hM, hkL⟩)
  · refine lv_iload hx hb dX2_through_22 (lv_at hl 3 rfl) ?_
    refine lv_iload_n hx hb dX2_through_24 rfl (lv_at hl 1 rfl) ?_
    refine lvN_eq (tgt := 82) hx hb (by first | omega | (refine Nat.lt_of_lt_of_le (Nat.mod_lt _ ?_) ?_ <;> omega)) (by first | omega | (refine Nat.lt_of_lt_of_le (Nat.mod_lt _ ?_) ?_ <;> omega)) dX2_through_25 (by decide) (fun cg => ?_) (fun cg => ?_)
    · rw [show oI (thrO A (aN S) hp g y) = oI (thrO A (aN S) hp g (y + 1)) from congrArg oI (thr_skip (by simp [cg]))] at hl
      refine lv_iinc (v := nI (y + 1)) (lv' := [(4, .int (nI (y + 1))), (0, .ref o), (1, .int (nI g)), (3, .int (oI (thrO A (aN S) hp g (y + 1))))]) hx hb dX2_through_82 hl (k := 3) rfl (nI_add y 1) (by decide) rfl (fun ls hl => ?_)
      refine lv_goto (tgt := 11) hx hb dX2_through_85 (by decide) ?_
      exact ih11 (y + 1) (by omega) H locs ls ⟨by omega, hH, hS, lv_sub hl [1, 2, 3, 0] rfl⟩
    · have hfn : oI (farO A (aN S) hp g 10 y) = -1 → farO A (aN S) hp g 10 y = none := (oI_none (farO_b _ _ _ _ _ _ (by omega))).mp
      refine lv_aload_n hx hb dX2_through_28 rfl (lv_at hl 0 rfl) ?_
      refine m_get hx hb hts hown hK hH 34 (by decide) q1486 rfl (v := .ref (o + 46)) rfl dX2_through_29 ?_
      refine lv_iload hx hb dX2_through_32 (lv_at hl 3 rfl) ?_
      refine m_iald (n := 10) (j := y) (v := oI (farO A (aN S) hp g 10 y)) hx hb hK hH (by decide) rfl (by first | omega | (refine Nat.lt_of_lt_of_le (Nat.mod_lt _ ?_) ?_ <;> omega)) (by decide) (hfa y (by omega)) dX2_through_34 ?_
      refine lv_iconst (v := (-1)) hx hb dX2_through_35 (by decide) ?_
      refine lv_icmp_eq (tgt := 82) hx hb dX2_through_36 (by decide) (fun cf => ?_) (fun cf => ?_)
      · rw [show oI (thrO A (aN S) hp g y) = oI (thrO A (aN S) hp g (y + 1)) from congrArg oI (thr_none (hfn cf))] at hl
        refine lv_iinc (v := nI (y + 1)) (lv' := [(4, .int (nI (y + 1))), (0, .ref o), (1, .int (nI g)), (3, .int (oI (thrO A (aN S) hp g (y + 1))))]) hx hb dX2_through_82 hl (k := 3) rfl (nI_add y 1) (by decide) rfl (fun ls hl => ?_)
        refine lv_goto (tgt := 11) hx hb dX2_through_85 (by decide) ?_
        exact ih11 (y + 1) (by omega) H locs ls ⟨by omega, hH, hS, lv_sub hl [1, 2, 3, 0] rfl⟩
      · obtain ⟨d, ef⟩ : ∃ d, farO A (aN S) hp g 10 y = some d := far_is cf
        have hd10 := farO_le _ _ _ _ _ _ _ ef
        refine lv_aload_n hx hb dX2_through_39 rfl (lv_at hl 0 rfl) ?_
        refine m_get hx hb hts hown hK hH 32 (by decide) q1484 rfl (v := .ref (o + 44)) rfl dX2_through_40 ?_
        refine lv_bipush (v := nI 10) hx hb dX2_through_43 (by decide) ?_
        refine lv_iload_n hx hb dX2_through_45 rfl (lv_at hl 1 rfl) ?_
        refine lv_imul hx hb dX2_through_46 ?_
        refine lv_top (y := nI (10 * g)) (pk_mul _ _) ?_
        refine lv_iload hx hb dX2_through_47 (lv_at hl 3 rfl) ?_
        refine lv_iadd hx hb dX2_through_49 ?_
        refine lv_top (y := nI ((10 * g) + y)) (nI_add _ _) ?_
        refine m_zald (n := 100) (j := (10 * g) + y) (v := zI (A g y)) hx hb hK hH (by decide) rfl (by first | omega | (refine Nat.lt_of_lt_of_le (Nat.mod_lt _ ?_) ?_ <;> omega)) (by decide) ((congrFun (hkL 44 (by decide)) _).trans (hab g y (by omega) (by omega))) dX2_through_50 ?_
        refine lvB_eq (tgt := 82) hx hb dX2_through_51 (by decide) (fun ca => ?_) (fun ca => ?_)
        · rw [show oI (thrO A (aN S) hp g y) = oI (thrO A (aN S) hp g (y + 1)) from congrArg oI (thr_skip (by simp [ca]))] at hl
          refine lv_iinc (v := nI (y + 1)) (lv' := [(4, .int (nI (y + 1))), (0, .ref o), (1, .int (nI g)), (3, .int (oI (thrO A (aN S) hp g (y + 1))))]) hx hb dX2_through_82 hl (k := 3) rfl (nI_add y 1) (by decide) rfl (fun ls hl => ?_)
          refine lv_goto (tgt := 11) hx hb dX2_through_85 (by decide) ?_
          exact ih11 (y + 1) (by omega) H locs ls ⟨by omega, hH, hS, lv_sub hl [1, 2, 3, 0] rfl⟩
        · refine lv_iload_n hx hb dX2_through_54 rfl (lv_at hl 2 rfl) ?_
          refine lv_iconst (v := (-1)) hx hb dX2_through_55 (by decide) ?_
          refine lv_icmp_eq (tgt := 72) hx hb dX2_through_56 (by decide) (fun ce => ?_) (fun ce => ?_)
          · have eb : thrO A (aN S) hp g y = none := (oI_none (thrO_b _ _ _ _ _)).mp ce
            refine lv_aload_n hx hb dX2_through_72 rfl (lv_at hl 0 rfl) ?_
            refine m_get hx hb hts hown hK hH 34 (by decide) q1486 rfl (v := .ref (o + 46)) rfl dX2_through_73 ?_
            refine lv_iload hx hb dX2_through_76 (lv_at hl 3 rfl) ?_
            refine m_iald (n := 10) (j := y) (v := nI d) hx hb hK hH (by decide) rfl (by first | omega | (refine Nat.lt_of_lt_of_le (Nat.mod_lt _ ?_) ?_ <;> omega)) (by decide) ((hfa y (by omega)).trans (congrArg oI ef)) dX2_through_78 ?_
            refine lv_iconst (v := nI 1) hx hb dX2_through_79 (by decide) ?_
            refine lv_iadd hx hb dX2_through_80 ?_
            refine lv_top (y := nI (d + 1)) (nI_add _ _) ?_
            refine lv_top (y := oI (thrO A (aN S) hp g (y + 1))) (congrArg oI (thr_new cg ca ef eb).symm) ?_
            refine lv_istore_n (lv' := [(3, .int (oI (thrO A (aN S) hp g (y + 1)))), (0, .ref o), (1, .int (nI g)), (4, .int (nI y))]) hx hb dX2_through_81 rfl hl (by decide) rfl (fun ls hl => ?_)
            refine lv_iinc (v := nI (y + 1)) (lv' := [(4, .int (nI (y + 1))), (3, .int (oI (thrO A (aN S) hp g (y + 1)))), (0, .ref o), (1, .int (nI g))]) hx hb dX2_through_82 hl (k := 3) rfl (nI_add y 1) (by decide) rfl (fun ls hl => ?_)
            refine lv_goto (tgt := 11) hx hb dX2_through_85 (by decide) ?_
            exact ih11 (y + 1) (by omega) H locs ls ⟨by omega, hH, hS, lv_sub hl [2, 3, 1, 0] rfl⟩
          · obtain ⟨b, eb⟩ : ∃ b, thrO A (aN S) hp g y = some b := far_is ce
            have hb11 := thrO_le _ _ _ _ _ _ eb
            refine lv_aload_n hx hb dX2_through_59 rfl (lv_at hl 0 rfl) ?_
            refine m_get hx hb hts hown hK hH 34 (by decide) q1486 rfl (v := .ref (o + 46)) rfl dX2_through_60 ?_
            refine lv_iload hx hb dX2_through_63 (lv_at hl 3 rfl) ?_
            refine m_iald (n := 10) (j := y) (v := nI d) hx hb hK hH (by decide) rfl (by first | omega | (refine Nat.lt_of_lt_of_le (Nat.mod_lt _ ?_) ?_ <;> omega)) (by decide) ((hfa y (by omega)).trans (congrArg oI ef)) dX2_through_65 ?_
            refine lv_iconst (v := nI 1) hx hb dX2_through_66 (by decide) ?_
            refine lv_iadd hx hb dX2_through_67 ?_
            refine lv_top (y := nI (d + 1)) (nI_add _ _) ?_
            refine lv_iload_n hx hb dX2_through_68 rfl (lv_at hl 2 rfl) ?_
            refine lv_top (y := nI b) (congrArg oI eb) ?_
            refine lvN_ge (tgt := 82) hx hb (by first | omega | (refine Nat.lt_of_lt_of_le (Nat.mod_lt _ ?_) ?_ <;> omega)) (by first | omega | (refine Nat.lt_of_lt_of_le (Nat.mod_lt _ ?_) ?_ <;> omega)) dX2_through_69 (by decide) (fun cl => ?_) (fun cl => ?_)
            · rw [show oI (thrO A (aN S) hp g y) = oI (thrO A (aN S) hp g (y + 1)) from congrArg oI (thr_keep cg ca ef eb (by omega))] at hl
              refine lv_iinc (v := nI (y + 1)) (lv' := [(4, .int (nI (y + 1))), (0, .ref o), (1, .int (nI g)), (3, .int (oI (thrO A (aN S) hp g (y + 1))))]) hx hb dX2_through_82 hl (k := 3) rfl (nI_add y 1) (by decide) rfl (fun ls hl => ?_)
              refine lv_goto (tgt := 11) hx hb dX2_through_85 (by decide) ?_
              exact ih11 (y + 1) (by omega) H locs ls ⟨by omega, hH, hS, lv_sub hl [1, 2, 3, 0] rfl⟩
            · refine lv_aload_n hx hb dX2_through_72 rfl (lv_at hl 0 rfl) ?_
              refine m_get hx hb hts hown hK hH 34 (by decide) q1486 rfl (v := .ref (o + 46)) rfl dX2_through_73 ?_
              refine lv_iload hx hb dX2_through_76 (lv_at hl 3 rfl) ?_
              refine m_iald (n := 10) (j := y) (v := nI d) hx hb hK hH (by decide) rfl (by first | omega | (refine Nat.lt_of_lt_of_le (Nat.mod_lt _ ?_) ?_ <;> omega)) (by decide) ((hfa y (by omega)).trans (congrArg oI ef)) dX2_through_78 ?_
              refine lv_iconst (v := nI 1) hx hb dX2_through_79 (by decide) ?_
              refine lv_iadd hx hb dX2_through_80 ?_
              refine lv_top (y := nI (d + 1)) (nI_add _ _) ?_
              refine lv_top (y := oI (thrO A (aN S) hp g (y + 1))) (congrArg oI (thr_less cg ca ef eb (by omega)).symm) ?_
              refine lv_istore_n (lv' := [(3, .int (oI (thrO A (aN S) hp g (y + 1)))), (0, .ref o), (1, .int (nI g)), (4, .int (nI y))]) hx hb dX2_through_81 rfl hl (by decide) rfl (fun ls hl => ?_)
              refine lv_iinc (v := nI (y + 1)) (lv' := [(4, .int (nI (y + 1))), (3, .int (oI (thrO A (aN S) hp g (y + 1)))), (0, .ref o), (1, .int (nI g))]) hx hb dX2_through_82 hl (k := 3) rfl (nI_add y 1) (by decide) rfl (fun ls hl => ?_)
              refine lv_goto (tgt := 11) hx hb dX2_through_85 (by decide) ?_
              exact ih11 (y + 1) (by omega) H locs ls ⟨by omega, hH, hS, lv_sub hl [2, 3, 1, 0] rfl⟩
set_option maxHeartbeats 4000000 in
theorem mt_hasRing (hK0 : va_K D CL (TYS K) s0) {S : Ab} (hO : SOK S) (hM : MOK S I V) {hp : Nat} (hhp : hp < 1024) (A : Nat → Nat → Bool) (hab : ∀ x y, x < aN S → y < aN S → V 44 (10 * x + y) = zI (A x y)) : Met l yX2_hasRing (ws_ yX2_hasRing cX2_hasRing 3 ((Option.some Jvm.ClassFile.FieldType.boolean))) (rmk 2 0 0) (va_Pc [.ref o, .int (nI hp)] (PB s0 D CL (mset h K wd o I V J))) (QR s0 D CL (fun v h1 => v = some (.int (zI (ringB A (aN S) hp))) ∧ ∃ U, h1 = mset h K wd o I U J ∧ MOK S I U ∧ kp [46] V U)) 0 0 (zA s0) := by
  refine hp_met (by decide) (Nat.le_of_ble_eq_true rfl) hK0 ?_
  intro p e s m below meth cd ls hx hb hr hlocks hml hown hnm hts hK hPB hl hS hH hA
  have hl : lv_has ls 3 [(0, .ref o), (1, .int (nI hp))] := hl
  have hown : s.vm.findClass RX2 = some m.cls := hown
  have hn := hO.n
  have hmk := hO.mk
  have hrl := hO.rl
  have hrm := hO.rm
  have hsz := hO.sz
  refine lv_iconst (v := nI 0) hx hb dX2_hasRing_0 (by decide) ?_
  refine lv_istore_n (lv' := [(2, .int (nI 0)), (0, .ref o), (1, .int (nI hp))]) hx hb dX2_hasRing_1 rfl hl (by decide) rfl (fun ls hl => ?_)
  refine w_loop2 (fun (g : Nat) (U : Nat → Nat → Int32) => aN S - g) (fun (g : Nat) (U : Nat → Nat → Int32) H locs ls => (g ≤ aN S) ∧ (anyB (fun g => Nat.testBit hp g && (thrO A (aN S) hp g (aN S)).isSome) g = false) ∧ (MOK S I U) ∧ (kp [46] V U) ∧ HP D CL (zA s0) (mset h K wd o I U J) H ∧ va_S (zA s0) s.heap H locs ∧ lv_has ls 3 [(0, .ref o), (1, .int (nI hp)), (2, .int (nI g))]) ?_ 0 V ⟨Nat.zero_le _, rfl, hM, kp.rf, hH, hS, lv_sub hl [1, 2, 0] rfl⟩
  intro g U ih2 H locs ls hP
  obtain ⟨hgg, hno, hM, hkp, hH, hS, hl⟩ := hP
  refine lv_iload_n hx hb dX2_hasRing_2 rfl (lv_at hl 2 rfl) ?_
  refine lv_aload_n hx hb dX2_hasRing_3 rfl (lv_at hl 0 rfl) ?_
  refine m_get hx hb hts hown hK hH 15 (by decide) q1467 rfl (v := .ref (o + 29)) rfl dX2_hasRing_4 ?_
  refine lv_iconst (v := nI 0) hx hb dX2_hasRing_7 (by decide) ?_
  refine m_iald (n := 2) (j := 0) (v := nI (aN S)) hx hb hK hH (by decide) rfl (by first | omega | (refine Nat.lt_of_lt_of_le (Nat.mod_lt _ ?_) ?_ <;> omega)) (by decide) (hM.n) dX2_hasRing_8 ?_
  refine lvN_ge (tgt := 39) hx hb (by first | omega | (refine Nat.lt_of_lt_of_le (Nat.mod_lt _ ?_) ?_ <;> omega)) (by first | omega | (refine Nat.lt_of_lt_of_le (Nat.mod_lt _ ?_) ?_ <;> omega)) dX2_hasRing_9 (by decide) (fun c1 => ?_) (fun c1 => ?_)
  · refine lv_iconst (v := nI 0) hx hb dX2_hasRing_39 (by decide) ?_
    exact hp_zret hx hb hr rfl hlocks hH hS (by decide) (by decide) dX2_hasRing_40 (⟨congrArg some (congrArg Value.int (zI_0 (by unfold ringB; rw [show aN S = g by omega] at hno ⊢; exact hno))), _, rfl, hM, hkp⟩)
  · refine lv_iload_n hx hb dX2_hasRing_12 rfl (lv_at hl 1 rfl) ?_
    refine lv_iload_n hx hb dX2_hasRing_13 rfl (lv_at hl 2 rfl) ?_
    refine lv_ishr hx hb dX2_hasRing_14 ?_
    refine lv_top (y := nI (hp / 2 ^ g)) (bi_shr (by first | omega | (refine Nat.lt_of_lt_of_le (Nat.mod_lt _ ?_) ?_ <;> omega)) (by first | omega | (refine Nat.lt_of_lt_of_le (Nat.mod_lt _ ?_) ?_ <;> omega))) ?_
    refine lv_iconst (v := nI 1) hx hb dX2_hasRing_15 (by decide) ?_
    refine lv_iand hx hb dX2_hasRing_16 ?_
    refine lv_top (y := zI (Nat.testBit hp g)) ((bi_and _ _).trans (bi_z _ _)) ?_
    refine lv_iconst (v := nI 1) hx hb dX2_hasRing_17 (by decide) ?_
    refine lvB_ne1 (tgt := 33) hx hb dX2_hasRing_18 (by decide) (fun cb => ?_) (fun cb => ?_)
    · refine lv_iinc (v := nI (g + 1)) (lv' := [(2, .int (nI (g + 1))), (0, .ref o), (1, .int (nI hp))]) hx hb dX2_hasRing_33 hl (k := 2) rfl (nI_add g 1) (by decide) rfl (fun ls hl => ?_)
      refine lv_goto (tgt := 2) hx hb dX2_hasRing_36 (by decide) ?_
      exact ih2 (g + 1) U (by omega) H locs ls ⟨by omega, by rw [anyB_f (by simp [cb])]; exact hno, hM, hkp, hH, hS, lv_sub hl [1, 2, 0] rfl⟩
    · have hab2 : ∀ x y, x < aN S → y < aN S → U 44 (10 * x + y) = zI (A x y) := fun x y h1 h2 => (congrFun (hkp 44 (by decide)) _).trans (hab x y h1 h2)
      refine lv_aload_n hx hb dX2_hasRing_21 rfl (lv_at hl 0 rfl) ?_
      refine lv_iload_n hx hb dX2_hasRing_22 rfl (lv_at hl 2 rfl) ?_
      refine lv_iload_n hx hb dX2_hasRing_23 rfl (lv_at hl 1 rfl) ?_
      refine hp_callV (As := [.int (nI g), .int (nI hp)]) (rest := []) hx hb hml hown hts hPB hK hH hS (mt_through hK0 hO hM (g := g) (hp := hp) (by omega) (by omega) A hab2) mset_o rfl rfl 2 (lw_V q1869 q1871 qs83 q107 q1872) (by decide +kernel) ⟨rfl, rfl⟩ (by decide) rfl hl.1 rfl (Nat.le_of_ble_eq_true rfl) (by decide) dX2_hasRing_24 (fun v2 h4 H locs hp3 _ hH hS => ?_)
      obtain ⟨rfl, U2, rfl, hM, hkT⟩ := hp3
      refine lv_iconst (v := (-1)) hx hb dX2_hasRing_27 (by decide) ?_
      refine lv_icmp_eq (tgt := 33) hx hb dX2_hasRing_28 (by decide) (fun ct => ?_) (fun ct => ?_)
      · refine lv_iinc (v := nI (g + 1)) (lv' := [(2, .int (nI (g + 1))), (0, .ref o), (1, .int (nI hp))]) hx hb dX2_hasRing_33 hl (k := 2) rfl (nI_add g 1) (by decide) rfl (fun ls hl => ?_)
        refine lv_goto (tgt := 2) hx hb dX2_hasRing_36 (by decide) ?_
        exact ih2 (g + 1) U2 (by omega) H locs ls ⟨by omega, by rw [anyB_f (by simp [(oI_none (thrO_b _ _ _ _ _)).mp ct])]; exact hno, hM, hkp.tr hkT, hH, hS, lv_sub hl [1, 2, 0] rfl⟩
      · refine lv_iconst (v := nI 1) hx hb dX2_hasRing_31 (by decide) ?_
        exact hp_zret hx hb hr rfl hlocks hH hS (by decide) (by decide) dX2_hasRing_32 (⟨congrArg some (congrArg Value.int (zI_1 ((anyB_iff _ _).mpr ⟨g, by omega, by simp [cb, thr_some ct]⟩))), _, rfl, hM, hkp.tr hkT⟩)
set_option maxHeartbeats 4000000 in
theorem mt_all (hK0 : va_K D CL (TYS K) s0) {S : Ab} (hO : SOK S) (hM : MOK S I V) : Met l yX2_all (ws_ yX2_all cX2_all 1 ((Option.some Jvm.ClassFile.FieldType.int))) (rmk 0 0 0) (va_Pc [.ref o] (PB s0 D CL (mset h K wd o I V J))) (QR s0 D CL (fun v h1 => v = some (.int (nI (2 ^ aN S - 1))) ∧ h1 = mset h K wd o I V J)) 0 0 (zA s0) := by
  refine hp_met (by decide) (Nat.le_of_ble_eq_true rfl) hK0 ?_
  intro p e s m below meth cd ls hx hb hr hlocks hml hown hnm hts hK hPB hl hS hH hA
  have hl : lv_has ls 1 [(0, .ref o)] := hl
  have hown : s.vm.findClass RX2 = some m.cls := hown
  have hn := hO.n
  have hmk := hO.mk
  have hrl := hO.rl
  have hrm := hO.rm
  have hsz := hO.sz
  refine lv_iconst (v := nI 1) hx hb dX2_all_0 (by decide) ?_
  refine lv_aload_n hx hb dX2_all_1 rfl (lv_at hl 0 rfl) ?_
  refine m_get hx hb hts hown hK hH 15 (by decide) q1467 rfl (v := .ref (o + 29)) rfl dX2_all_2 ?_
  refine lv_iconst (v := nI 0) hx hb dX2_all_5 (by decide) ?_
  refine m_iald (n := 2) (j := 0) (v := nI (aN S)) hx hb hK hH (by decide) rfl (by first | omega | (refine Nat.lt_of_lt_of_le (Nat.mod_lt _ ?_) ?_ <;> omega)) (by decide) (hM.n) dX2_all_6 ?_
  refine lv_ishl hx hb dX2_all_7 ?_
  refine lv_top (y := nI (2 ^ (aN S))) (bi_shl1 (by first | omega | (refine Nat.lt_of_lt_of_le (Nat.mod_lt _ ?_) ?_ <;> omega))) ?_
  refine lv_iconst (v := nI 1) hx hb dX2_all_8 (by decide) ?_
  refine lv_isub hx hb dX2_all_9 ?_
  refine lv_top (y := nI ((2 ^ (aN S)) - 1)) (pk_sub (Nat.one_le_two_pow)) ?_
  exact hp_iret hx hb hr hlocks hH hS (by decide) (by decide) dX2_all_10 (⟨rfl, rfl⟩)
set_option maxHeartbeats 4000000 in
theorem mt_ring (hK0 : va_K D CL (TYS K) s0) {S : Ab} (hO : SOK S) (hM : MOK S I V) (room k : Int32) : Met l yX2_ring (ws_ yX2_ring cX2_ring 8 ((Option.some Jvm.ClassFile.FieldType.int))) (rmk 6 0 0) (va_Pc [.ref o, .int room, .int k] (PB s0 D CL (mset h K wd o I V J))) (QR s0 D CL (fun v h1 => v = some (.int (spRing S room k)) ∧ ∃ P U, h1 = mset h K wd o P U J ∧ MOK S P U)) 0 0 (zA s0) := by
  refine hp_met (by decide) (Nat.le_of_ble_eq_true rfl) hK0 ?_
  intro p e s m below meth cd ls hx hb hr hlocks hml hown hnm hts hK hPB hl hS hH hA
  have hl : lv_has ls 8 [(0, .ref o), (1, .int room), (2, .int k)] := hl
  have hown : s.vm.findClass RX2 = some m.cls := hown
  have hn := hO.n
  have hmk := hO.mk
  have hrl := hO.rl
  have hrm := hO.rm
  have hsz := hO.sz
  refine lv_aload_n hx hb dX2_ring_0 rfl (lv_at hl 0 rfl) ?_
  refine lv_iload_n hx hb dX2_ring_1 rfl (lv_at hl 1 rfl) ?_
  refine hp_callV (As := [.int room]) (rest := []) hx hb hml hown hts hPB hK hH hS (mt_isRoom hK0 hO hM room) mset_o rfl rfl 1 (lw_V q1788 q1790 qs72 q107 q1791) (by decide +kernel) ⟨rfl, rfl⟩ (by decide) rfl hl.1 rfl (Nat.le_of_ble_eq_true rfl) (by decide) dX2_ring_2 (fun v1 h3 H locs hp2 _ hH hS => ?_)
  obtain ⟨rfl, rfl⟩ := hp2
  refine lvB_ne (tgt := 10) hx hb dX2_ring_5 (by decide) (fun cr0 => ?_) (fun cr0 => ?_)
  · obtain ⟨q, hq, rfl⟩ := inN_t cr0
    have eq := nI_clamp (show q < 2 ^ 31 by omega)
    refine lv_aload_n hx hb dX2_ring_10 rfl (lv_at hl 0 rfl) ?_
    refine lv_iload_n hx hb dX2_ring_11 rfl (lv_at hl 1 rfl) ?_
    refine lv_iconst (v := nI 0) hx hb dX2_ring_12 (by decide) ?_
    refine hp_callV (As := [.int (nI q), .int (nI 0)]) (rest := []) hx hb hml hown hts hPB hK hH hS (mt_ranks hK0 hO hM (wo := 0) (by omega) (nI q)) mset_o rfl rfl 2 (lw_V q1861 q1863 qs81 q107 q1864) (by decide +kernel) ⟨rfl, rfl⟩ (by decide) rfl hl.1 rfl (Nat.le_of_ble_eq_true rfl) (by decide) dX2_ring_13 (fun v4 h6 H locs hp5 _ hH hS => ?_)
    obtain ⟨rfl, U, rfl, hM, hrk, hkR⟩ := hp5
    obtain ⟨A, hAe⟩ : ∃ A, A = abv S (nI q) 0 := ⟨_, rfl⟩
    have hab : ∀ x y, x < aN S → y < aN S → U 44 (10 * x + y) = zI (A x y) := fun x y h1 h2 => by rw [hAe]; exact hrk.1 x y h1 h2
    have hpw := pow2_le hn
    refine lv_iconst (v := (-1)) hx hb dX2_ring_16 (by decide) ?_
    refine lv_istore_n (lv' := [(3, .int (-1)), (0, .ref o), (1, .int (nI q)), (2, .int k)]) hx hb dX2_ring_17 rfl hl (by decide) rfl (fun ls hl => ?_)
    refine lv_iconst (v := (-1)) hx hb dX2_ring_18 (by decide) ?_
    refine lv_istore (lv' := [(4, .int (-1)), (3, .int (-1)), (0, .ref o), (1, .int (nI q)), (2, .int k)]) hx hb dX2_ring_19 hl (by decide) rfl (fun ls hl => ?_)
    refine lv_iconst (v := nI 0) hx hb dX2_ring_21 (by decide) ?_
    refine lv_istore (lv' := [(5, .int (nI 0)), (4, .int (-1)), (3, .int (-1)), (0, .ref o), (1, .int (nI q)), (2, .int k)]) hx hb dX2_ring_22 hl (by decide) rfl (fun ls hl => ?_)
    refine w_loop2 (fun (g : Nat) (U : Nat → Nat → Int32) => aN S - g) (fun (g : Nat) (U : Nat → Nat → Int32) H locs ls => (g ≤ aN S) ∧ (∀ x y, x < aN S → y < aN S → U 44 (10 * x + y) = zI (A x y)) ∧ (MOK S I U) ∧ HP D CL (zA s0) (mset h K wd o I U J) H ∧ va_S (zA s0) s.heap H locs ∧ lv_has ls 8 [(0, .ref o), (2, .int k), (3, .int (oI (Option.map Prod.fst (rgF A (aN S) g)))), (4, .int (oI (Option.map Prod.snd (rgF A (aN S) g)))), (5, .int (nI g))]) ?_ 0 U ⟨Nat.zero_le _, hab, hM, hH, hS, lv_sub hl [3, 5, 2, 1, 0] rfl⟩
    intro g U ih24 H locs ls hP
    obtain ⟨hgg, hab, hM, hH, hS, hl⟩ := hP
    refine lv_iload hx hb dX2_ring_24 (lv_at hl 4 rfl) ?_
    refine lv_aload_n hx hb dX2_ring_26 rfl (lv_at hl 0 rfl) ?_
    refine m_get hx hb hts hown hK hH 15 (by decide) q1467 rfl (v := .ref (o + 29)) rfl dX2_ring_27 ?_
    refine lv_iconst (v := nI 0) hx hb dX2_ring_30 (by decide) ?_
    refine m_iald (n := 2) (j := 0) (v := nI (aN S)) hx hb hK hH (by decide) rfl (by first | omega | (refine Nat.lt_of_lt_of_le (Nat.mod_lt _ ?_) ?_ <;> omega)) (by decide) (hM.n) dX2_ring_31 ?_
    refine lvN_ge (tgt := 80) hx hb (by first | omega | (refine Nat.lt_of_lt_of_le (Nat.mod_lt _ ?_) ?_ <;> omega)) (by first | omega | (refine Nat.lt_of_lt_of_le (Nat.mod_lt _ ?_) ?_ <;> omega)) dX2_ring_32 (by decide) (fun c7 => ?_) (fun c7 => ?_)
    · have egn : g = aN S := by omega
      rw [egn] at hl
      refine lv_iload_n hx hb dX2_ring_80 rfl (lv_at hl 2 rfl) ?_
      refine lv_iconst (v := (-1)) hx hb dX2_ring_81 (by decide) ?_
      refine lv_icmp_eq (tgt := 90) hx hb dX2_ring_82 (by decide) (fun cb0 => ?_) (fun cb0 => ?_)
      · have ebest : oI (Option.map Prod.fst (rgF A (aN S) (aN S))) = -1 := cb0
        refine lv_iload_n hx hb dX2_ring_90 rfl (lv_at hl 2 rfl) ?_
        exact hp_iret hx hb hr hlocks hH hS (by decide) (by decide) dX2_ring_91 (⟨congrArg some (congrArg Value.int (by rw [ebest]; simp [spRing, cr0, ← hAe, rg_not cb0])), _, _, rfl, hM⟩)
      · obtain ⟨b, f, erg⟩ := rg_is cb0
        have hft := rgF_thr _ _ _ erg
        have hb11 := thrO_le _ _ _ _ _ _ hft.2
        rw [erg] at hl
        refine lv_iload_n hx hb dX2_ring_85 rfl (lv_at hl 1 rfl) ?_
        refine lv_iconst (v := (-1)) hx hb dX2_ring_86 (by decide) ?_
        refine lv_icmp_ne (tgt := 92) hx hb dX2_ring_87 (by decide) (fun ck1 => ?_) (fun ck1 => ?_)
        · refine lv_iload_n hx hb dX2_ring_92 rfl (lv_at hl 1 rfl) ?_
          refine lv_i2l hx hb dX2_ring_93 rfl ?_
          refine lv_lconst (v := 0) hx hb dX2_ring_94 rfl ?_
          refine lv_iload_n hx hb dX2_ring_95 rfl (lv_at hl 2 rfl) ?_
          refine lv_iconst (v := nI 1) hx hb dX2_ring_96 (by decide) ?_
          refine lv_isub hx hb dX2_ring_97 ?_
          refine lv_i2l hx hb dX2_ring_98 rfl ?_
          refine hp_callS (As := [.long (Int32.toInt64 k), .long 0, .long (Int32.toInt64 ((nI b) - (nI 1)))]) (rest := []) hx hb hml hown hts hPB hH hS (mt_in hK0 (Int32.toInt64 k) 0 (Int32.toInt64 ((nI b) - (nI 1)))) 3 (lw_S q1658 q1659 q107 q1660) (by decide +kernel) ⟨rfl, rfl⟩ (by decide) rfl hl.1 rfl (Nat.le_of_ble_eq_true rfl) (by decide) dX2_ring_99 (fun v8 h10 H locs hp9 _ hH hS => ?_)
          obtain ⟨rfl, rfl⟩ := hp9
          refine lvB_ne (tgt := 107) hx hb dX2_ring_102 (by decide) (fun ck2 => ?_) (fun ck2 => ?_)
          · rw [in_n (by omega)] at ck2
            obtain ⟨k, hk, rfl⟩ := inN_t ck2
            have ek := nI_clamp (show k < 2 ^ 31 by omega)
            refine lv_aload_n hx hb dX2_ring_107 rfl (lv_at hl 0 rfl) ?_
            refine lv_iload hx hb dX2_ring_108 (lv_at hl 3 rfl) ?_
            refine lv_aload_n hx hb dX2_ring_110 rfl (lv_at hl 0 rfl) ?_
            refine hp_callV (As := []) (rest := [.int (nI f), .ref o]) hx hb hml hown hts hPB hK hH hS (mt_all hK0 hO hM) mset_o rfl rfl 0 (lw_V q1865 q1867 qs82 q107 q1868) (by decide +kernel) ⟨rfl, rfl⟩ (by decide) rfl hl.1 rfl (Nat.le_of_ble_eq_true rfl) (by decide) dX2_ring_111 (fun v11 h13 H locs hp12 _ hH hS => ?_)
            obtain ⟨rfl, rfl⟩ := hp12
            refine hp_callV (As := [.int (nI f), .int (nI (2 ^ aN S - 1))]) (rest := []) hx hb hml hown hts hPB hK hH hS (mt_leads hK0 hO hM (t := f) (hp := 2 ^ aN S - 1) (by omega) (by omega) A hab) mset_o rfl rfl 2 (lw_V q1873 q1875 qs84 q107 q1876) (by decide +kernel) ⟨rfl, rfl⟩ (by decide) rfl hl.1 rfl (Nat.le_of_ble_eq_true rfl) (by decide) dX2_ring_114 (fun v14 h16 H locs hp15 _ hH hS => ?_)
            obtain ⟨rfl, U, rfl, hM, hfa, hkL⟩ := hp15
            refine lv_iload hx hb dX2_ring_117 (lv_at hl 3 rfl) ?_
            refine lv_istore (lv' := [(5, .int (nI f)), (0, .ref o), (2, .int (nI k)), (3, .int (nI b)), (4, .int (nI f))]) hx hb dX2_ring_119 hl (by decide) rfl (fun ls hl => ?_)
            refine lv_iconst (v := nI 0) hx hb dX2_ring_121 (by decide) ?_
            refine lv_istore (lv' := [(6, .int (nI 0)), (5, .int (nI f)), (0, .ref o), (2, .int (nI k)), (3, .int (nI b)), (4, .int (nI f))]) hx hb dX2_ring_122 hl (by decide) rfl (fun ls hl => ?_)
            refine w_loop1 (fun (i : Nat) => k - i) (fun (i : Nat) H locs ls => (i ≤ k) ∧ HP D CL (zA s0) (mset h K wd o I U J) H ∧ va_S (zA s0) s.heap H locs ∧ lv_has ls 8 [(0, .ref o), (2, .int (nI k)), (3, .int (nI b)), (5, .int (nI (wlk A (aN S) f b i))), (6, .int (nI i))]) ?_ 0 ⟨Nat.zero_le _, hH, hS, lv_sub hl [2, 3, 4, 1, 0] rfl⟩
            intro i ih124 H locs ls hP
            obtain ⟨hii, hH, hS, hl⟩ := hP
            refine lv_iload hx hb dX2_ring_124 (lv_at hl 4 rfl) ?_
            refine lv_iload_n hx hb dX2_ring_126 rfl (lv_at hl 1 rfl) ?_
            refine lvN_ge (tgt := 181) hx hb (by first | omega | (refine Nat.lt_of_lt_of_le (Nat.mod_lt _ ?_) ?_ <;> omega)) (by first | omega | (refine Nat.lt_of_lt_of_le (Nat.mod_lt _ ?_) ?_ <;> omega)) dX2_ring_127 (by decide) (fun c17 => ?_) (fun c17 => ?_)
            · refine lv_iload hx hb dX2_ring_181 (lv_at hl 3 rfl) ?_
              exact hp_iret hx hb hr hlocks hH hS (by decide) (by decide) dX2_ring_183 (⟨congrArg some (congrArg Value.int (by simp [spRing, cr0, ← hAe, erg, ek, ck2, nI_m1 (show k < 2 ^ 31 by omega), show i = k by omega])), _, _, rfl, hM⟩)
            · obtain ⟨hwn, z0, hz1, hz2, hz3⟩ := wlk_ok hft.1 hft.2 i (by omega)
              refine lv_iconst (v := nI 0) hx hb dX2_ring_130 (by decide) ?_
              refine lv_istore (lv' := [(7, .int (nI 0)), (0, .ref o), (2, .int (nI k)), (3, .int (nI b)), (5, .int (nI (wlk A (aN S) f b i))), (6, .int (nI i))]) hx hb dX2_ring_131 hl (by decide) rfl (fun ls hl => ?_)
              refine w_loop1 (fun (y : Nat) => z0 - y) (fun (y : Nat) H locs ls => (∀ u, u < y → (decide (farO A (aN S) (2 ^ aN S - 1) f 10 u = some (b - i - 1)) && A (wlk A (aN S) f b i) u) = false) ∧ (y ≤ z0) ∧ HP D CL (zA s0) (mset h K wd o I U J) H ∧ va_S (zA s0) s.heap H locs ∧ lv_has ls 8 [(0, .ref o), (2, .int (nI k)), (3, .int (nI b)), (5, .int (nI (wlk A (aN S) f b i))), (6, .int (nI i)), (7, .int (nI y))]) ?_ 0 ⟨fun u hu => absurd hu (Nat.not_lt_zero _), Nat.zero_le _, hH, hS, lv_sub hl [1, 2, 3, 4, 5, 0] rfl⟩
              intro y ih133 H locs ls hP
              obtain ⟨hmin, hyz, hH, hS, hl⟩ := hP
              have hyn : y < aN S := by omega
              refine lv_aload_n hx hb dX2_ring_133 rfl (lv_at hl 0 rfl) ?_
              refine m_get hx hb hts hown hK hH 34 (by decide) q1486 rfl (v := .ref (o + 46)) rfl dX2_ring_134 ?_
              refine lv_iload hx hb dX2_ring_137 (lv_at hl 5 rfl) ?_
              refine m_iald (n := 10) (j := y) (v := oI (farO A (aN S) (2 ^ aN S - 1) f 10 y)) hx hb hK hH (by decide) rfl (by first | omega | (refine Nat.lt_of_lt_of_le (Nat.mod_lt _ ?_) ?_ <;> omega)) (by decide) (hfa y (by omega)) dX2_ring_139 ?_
              refine lv_iload_n hx hb dX2_ring_140 rfl (lv_at hl 2 rfl) ?_
              refine lv_iload hx hb dX2_ring_141 (lv_at hl 4 rfl) ?_
              refine lv_isub hx hb dX2_ring_143 ?_
              refine lv_top (y := nI (b - i)) (pk_sub (by first | omega | (refine Nat.lt_of_lt_of_le (Nat.mod_lt _ ?_) ?_ <;> omega))) ?_
              refine lv_iconst (v := nI 1) hx hb dX2_ring_144 (by decide) ?_
              refine lv_isub hx hb dX2_ring_145 ?_
              refine lv_top (y := nI ((b - i) - 1)) (pk_sub (by first | omega | (refine Nat.lt_of_lt_of_le (Nat.mod_lt _ ?_) ?_ <;> omega))) ?_
              refine lv_icmp_ne (tgt := 165) hx hb dX2_ring_146 (by decide) (fun cf => ?_) (fun cf => ?_)
              · refine lv_iinc (v := nI (y + 1)) (lv' := [(7, .int (nI (y + 1))), (0, .ref o), (2, .int (nI k)), (3, .int (nI b)), (5, .int (nI (wlk A (aN S) f b i))), (6, .int (nI i))]) hx hb dX2_ring_165 hl (k := 5) rfl (nI_add y 1) (by decide) rfl (fun ls hl => ?_)
                refine lv_goto (tgt := 133) hx hb dX2_ring_168 (by decide) ?_
                exact ih133 (y + 1) (by have hlt := ring_z hyz (p := fun u => decide (farO A (aN S) (2 ^ aN S - 1) f 10 u = some (b - i - 1)) && A (wlk A (aN S) f b i) u) (by simp [hz2, hz3]) (by first | (simp [ca]; done) | simp [show ¬ farO A (aN S) (2 ^ aN S - 1) f 10 y = some (b - i - 1) from fun q => cf ((oI_some (farO_b _ _ _ _ _ _ (by omega)) (by omega)).mpr q)]); omega) H locs ls ⟨ring_min hmin (by simp [show ¬ farO A (aN S) (2 ^ aN S - 1) f 10 y = some (b - i - 1) from fun q => cf ((oI_some (farO_b _ _ _ _ _ _ (by omega)) (by omega)).mpr q)]), ring_z hyz (p := fun u => decide (farO A (aN S) (2 ^ aN S - 1) f 10 u = some (b - i - 1)) && A (wlk A (aN S) f b i) u) (by simp [hz2, hz3]) (by simp [show ¬ farO A (aN S) (2 ^ aN S - 1) f 10 y = some (b - i - 1) from fun q => cf ((oI_some (farO_b _ _ _ _ _ _ (by omega)) (by omega)).mpr q)]), hH, hS, lv_sub hl [1, 2, 3, 4, 5, 0] rfl⟩
              · refine lv_aload_n hx hb dX2_ring_149 rfl (lv_at hl 0 rfl) ?_
                refine m_get hx hb hts hown hK hH 32 (by decide) q1484 rfl (v := .ref (o + 44)) rfl dX2_ring_150 ?_
                refine lv_bipush (v := nI 10) hx hb dX2_ring_153 (by decide) ?_
                refine lv_iload hx hb dX2_ring_155 (lv_at hl 3 rfl) ?_
                refine lv_imul hx hb dX2_ring_157 ?_
                refine lv_top (y := nI (10 * (wlk A (aN S) f b i))) (pk_mul _ _) ?_
                refine lv_iload hx hb dX2_ring_158 (lv_at hl 5 rfl) ?_
                refine lv_iadd hx hb dX2_ring_160 ?_
                refine lv_top (y := nI ((10 * (wlk A (aN S) f b i)) + y)) (nI_add _ _) ?_
                refine m_zald (n := 100) (j := (10 * (wlk A (aN S) f b i)) + y) (v := zI (A (wlk A (aN S) f b i) y)) hx hb hK hH (by decide) rfl (by first | omega | (refine Nat.lt_of_lt_of_le (Nat.mod_lt _ ?_) ?_ <;> omega)) (by decide) ((congrFun (hkL 44 (by decide)) _).trans (hab _ y (by omega) (by omega))) dX2_ring_161 ?_
                refine lvB_ne (tgt := 171) hx hb dX2_ring_162 (by decide) (fun ca => ?_) (fun ca => ?_)
                · refine lv_iload hx hb dX2_ring_171 (lv_at hl 5 rfl) ?_
                  refine lv_top (y := nI (wlk A (aN S) f b (i + 1))) (congrArg nI (Eq.symm (firstB_eq (by simp [(oI_some (farO_b _ _ _ _ _ _ (by omega)) (by omega)).mp cf, ca]) _ 0 (Nat.zero_le _) (by omega) (fun u _ hu => hmin u hu)))) ?_
                  refine lv_istore (lv' := [(5, .int (nI (wlk A (aN S) f b (i + 1)))), (0, .ref o), (2, .int (nI k)), (3, .int (nI b)), (6, .int (nI i)), (7, .int (nI y))]) hx hb dX2_ring_173 hl (by decide) rfl (fun ls hl => ?_)
                  refine lv_iinc (v := nI (i + 1)) (lv' := [(6, .int (nI (i + 1))), (5, .int (nI (wlk A (aN S) f b (i + 1)))), (0, .ref o), (2, .int (nI k)), (3, .int (nI b)), (7, .int (nI y))]) hx hb dX2_ring_175 hl (k := 4) rfl (nI_add i 1) (by decide) rfl (fun ls hl => ?_)
                  refine lv_goto (tgt := 124) hx hb dX2_ring_178 (by decide) ?_
                  exact ih124 (i + 1) (by omega) H locs ls ⟨by omega, hH, hS, lv_sub hl [2, 3, 4, 1, 0] rfl⟩
                · refine lv_iinc (v := nI (y + 1)) (lv' := [(7, .int (nI (y + 1))), (0, .ref o), (2, .int (nI k)), (3, .int (nI b)), (5, .int (nI (wlk A (aN S) f b i))), (6, .int (nI i))]) hx hb dX2_ring_165 hl (k := 5) rfl (nI_add y 1) (by decide) rfl (fun ls hl => ?_)
                  refine lv_goto (tgt := 133) hx hb dX2_ring_168 (by decide) ?_
                  exact ih133 (y + 1) (by have hlt := ring_z hyz (p := fun u => decide (farO A (aN S) (2 ^ aN S - 1) f 10 u = some (b - i - 1)) && A (wlk A (aN S) f b i) u) (by simp [hz2, hz3]) (by first | (simp [ca]; done) | simp [show ¬ farO A (aN S) (2 ^ aN S - 1) f 10 y = some (b - i - 1) from fun q => cf ((oI_some (farO_b _ _ _ _ _ _ (by omega)) (by omega)).mpr q)]); omega) H locs ls ⟨ring_min hmin (by simp [ca]), ring_z hyz (p := fun u => decide (farO A (aN S) (2 ^ aN S - 1) f 10 u = some (b - i - 1)) && A (wlk A (aN S) f b i) u) (by simp [hz2, hz3]) (by simp [ca]), hH, hS, lv_sub hl [1, 2, 3, 4, 5, 0] rfl⟩
          · rw [in_n (by omega)] at ck2
            refine lv_iconst (v := (-1)) hx hb dX2_ring_105 (by decide) ?_
            exact hp_iret hx hb hr hlocks hH hS (by decide) (by decide) dX2_ring_106 (⟨congrArg some (congrArg Value.int (by simp [spRing, cr0, ← hAe, erg, ck1, ck2])), _, _, rfl, hM⟩)
        · refine lv_iload_n hx hb dX2_ring_90 rfl (lv_at hl 2 rfl) ?_
          exact hp_iret hx hb hr hlocks hH hS (by decide) (by decide) dX2_ring_91 (⟨congrArg some (congrArg Value.int (by simp [spRing, cr0, ← hAe, erg, ck1, oI])), _, _, rfl, hM⟩)
    · refine lv_aload_n hx hb dX2_ring_35 rfl (lv_at hl 0 rfl) ?_
      refine lv_iload hx hb dX2_ring_36 (lv_at hl 4 rfl) ?_
      refine lv_aload_n hx hb dX2_ring_38 rfl (lv_at hl 0 rfl) ?_
      refine hp_callV (As := []) (rest := [.int (nI g), .ref o]) hx hb hml hown hts hPB hK hH hS (mt_all hK0 hO hM) mset_o rfl rfl 0 (lw_V q1865 q1867 qs82 q107 q1868) (by decide +kernel) ⟨rfl, rfl⟩ (by decide) rfl hl.1 rfl (Nat.le_of_ble_eq_true rfl) (by decide) dX2_ring_39 (fun v18 h20 H locs hp19 _ hH hS => ?_)
      obtain ⟨rfl, rfl⟩ := hp19
      refine hp_callV (As := [.int (nI g), .int (nI (2 ^ aN S - 1))]) (rest := []) hx hb hml hown hts hPB hK hH hS (mt_through hK0 hO hM (g := g) (hp := 2 ^ aN S - 1) (by omega) (by omega) A hab) mset_o rfl rfl 2 (lw_V q1869 q1871 qs83 q107 q1872) (by decide +kernel) ⟨rfl, rfl⟩ (by decide) rfl hl.1 rfl (Nat.le_of_ble_eq_true rfl) (by decide) dX2_ring_42 (fun v21 h23 H locs hp22 _ hH hS => ?_)
      obtain ⟨rfl, U2, rfl, hM, hkT⟩ := hp22
      refine lv_istore (lv' := [(6, .int (oI (thrO A (aN S) (2 ^ aN S - 1) g (aN S)))), (0, .ref o), (2, .int k), (3, .int (oI (Option.map Prod.fst (rgF A (aN S) g)))), (4, .int (oI (Option.map Prod.snd (rgF A (aN S) g)))), (5, .int (nI g))]) hx hb dX2_ring_45 hl (by decide) rfl (fun ls hl => ?_)
      refine lv_iload hx hb dX2_ring_47 (lv_at hl 0 rfl) ?_
      refine lv_iconst (v := (-1)) hx hb dX2_ring_49 (by decide) ?_
      refine lv_icmp_eq (tgt := 74) hx hb dX2_ring_50 (by decide) (fun ct => ?_) (fun ct => ?_)
      · have et := (oI_none (thrO_b _ _ _ _ _)).mp ct
        rw [show rgF A (aN S) g = rgF A (aN S) (g + 1) from rg_none et] at hl
        refine lv_iinc (v := nI (g + 1)) (lv' := [(5, .int (nI (g + 1))), (6, .int (oI (thrO A (aN S) (2 ^ aN S - 1) g (aN S)))), (0, .ref o), (2, .int k), (3, .int (oI (Option.map Prod.fst (rgF A (aN S) (g + 1))))), (4, .int (oI (Option.map Prod.snd (rgF A (aN S) (g + 1)))))]) hx hb dX2_ring_74 hl (k := 5) rfl (nI_add g 1) (by decide) rfl (fun ls hl => ?_)
        refine lv_goto (tgt := 24) hx hb dX2_ring_77 (by decide) ?_
        exact ih24 (g + 1) U2 (by omega) H locs ls ⟨by omega, fun x y h1 h2 => (congrFun (hkT 44 (by decide)) _).trans (hab x y h1 h2), hM, hH, hS, lv_sub hl [2, 3, 4, 5, 0] rfl⟩
      · obtain ⟨d, et⟩ := far_is ct
        have hd11 := thrO_le _ _ _ _ _ _ et
        refine lv_iload_n hx hb dX2_ring_53 rfl (lv_at hl 3 rfl) ?_
        refine lv_iconst (v := (-1)) hx hb dX2_ring_54 (by decide) ?_
        refine lv_icmp_eq (tgt := 67) hx hb dX2_ring_55 (by decide) (fun cb => ?_) (fun cb => ?_)
        · have erg := rg_not cb
          refine lv_iload hx hb dX2_ring_67 (lv_at hl 0 rfl) ?_
          refine lv_top (y := oI (Option.map Prod.fst (rgF A (aN S) (g + 1)))) (by rw [et, rg_new et erg]; rfl) ?_
          refine lv_istore_n (lv' := [(3, .int (oI (Option.map Prod.fst (rgF A (aN S) (g + 1))))), (6, .int (oI (thrO A (aN S) (2 ^ aN S - 1) g (aN S)))), (0, .ref o), (2, .int k), (4, .int (oI (Option.map Prod.snd (rgF A (aN S) g)))), (5, .int (nI g))]) hx hb dX2_ring_69 rfl hl (by decide) rfl (fun ls hl => ?_)
          refine lv_iload hx hb dX2_ring_70 (lv_at hl 5 rfl) ?_
          refine lv_top (y := oI (Option.map Prod.snd (rgF A (aN S) (g + 1)))) (by rw [rg_new et erg]; rfl) ?_
          refine lv_istore (lv' := [(4, .int (oI (Option.map Prod.snd (rgF A (aN S) (g + 1))))), (3, .int (oI (Option.map Prod.fst (rgF A (aN S) (g + 1))))), (6, .int (oI (thrO A (aN S) (2 ^ aN S - 1) g (aN S)))), (0, .ref o), (2, .int k), (5, .int (nI g))]) hx hb dX2_ring_72 hl (by decide) rfl (fun ls hl => ?_)
          refine lv_iinc (v := nI (g + 1)) (lv' := [(5, .int (nI (g + 1))), (4, .int (oI (Option.map Prod.snd (rgF A (aN S) (g + 1))))), (3, .int (oI (Option.map Prod.fst (rgF A (aN S) (g + 1))))), (6, .int (oI (thrO A (aN S) (2 ^ aN S - 1) g (aN S)))), (0, .ref o), (2, .int k)]) hx hb dX2_ring_74 hl (k := 5) rfl (nI_add g 1) (by decide) rfl (fun ls hl => ?_)
          refine lv_goto (tgt := 24) hx hb dX2_ring_77 (by decide) ?_
          exact ih24 (g + 1) U2 (by omega) H locs ls ⟨by omega, fun x y h1 h2 => (congrFun (hkT 44 (by decide)) _).trans (hab x y h1 h2), hM, hH, hS, lv_sub hl [4, 5, 2, 1, 0] rfl⟩
        · obtain ⟨b, f, erg⟩ := rg_is cb
          have hb11 := thrO_le _ _ _ _ _ _ (rgF_thr _ _ _ erg).2
          refine lv_iload hx hb dX2_ring_58 (lv_at hl 0 rfl) ?_
          refine lv_top (y := nI d) (by rw [et]; rfl) ?_
          refine lv_iload_n hx hb dX2_ring_60 rfl (lv_at hl 3 rfl) ?_
          refine lv_top (y := nI b) (by rw [erg]; rfl) ?_
          refine lvN_lt (tgt := 67) hx hb (by first | omega | (refine Nat.lt_of_lt_of_le (Nat.mod_lt _ ?_) ?_ <;> omega)) (by first | omega | (refine Nat.lt_of_lt_of_le (Nat.mod_lt _ ?_) ?_ <;> omega)) dX2_ring_61 (by decide) (fun cl => ?_) (fun cl => ?_)
          · refine lv_iload hx hb dX2_ring_67 (lv_at hl 0 rfl) ?_
            refine lv_top (y := oI (Option.map Prod.fst (rgF A (aN S) (g + 1)))) (by rw [et, rg_less et erg (by omega)]; rfl) ?_
            refine lv_istore_n (lv' := [(3, .int (oI (Option.map Prod.fst (rgF A (aN S) (g + 1))))), (6, .int (oI (thrO A (aN S) (2 ^ aN S - 1) g (aN S)))), (0, .ref o), (2, .int k), (4, .int (oI (Option.map Prod.snd (rgF A (aN S) g)))), (5, .int (nI g))]) hx hb dX2_ring_69 rfl hl (by decide) rfl (fun ls hl => ?_)
            refine lv_iload hx hb dX2_ring_70 (lv_at hl 5 rfl) ?_
            refine lv_top (y := oI (Option.map Prod.snd (rgF A (aN S) (g + 1)))) (by rw [rg_less et erg (by omega)]; rfl) ?_
            refine lv_istore (lv' := [(4, .int (oI (Option.map Prod.snd (rgF A (aN S) (g + 1))))), (3, .int (oI (Option.map Prod.fst (rgF A (aN S) (g + 1))))), (6, .int (oI (thrO A (aN S) (2 ^ aN S - 1) g (aN S)))), (0, .ref o), (2, .int k), (5, .int (nI g))]) hx hb dX2_ring_72 hl (by decide) rfl (fun ls hl => ?_)
            refine lv_iinc (v := nI (g + 1)) (lv' := [(5, .int (nI (g + 1))), (4, .int (oI (Option.map Prod.snd (rgF A (aN S) (g + 1))))), (3, .int (oI (Option.map Prod.fst (rgF A (aN S) (g + 1))))), (6, .int (oI (thrO A (aN S) (2 ^ aN S - 1) g (aN S)))), (0, .ref o), (2, .int k)]) hx hb dX2_ring_74 hl (k := 5) rfl (nI_add g 1) (by decide) rfl (fun ls hl => ?_)
            refine lv_goto (tgt := 24) hx hb dX2_ring_77 (by decide) ?_
            exact ih24 (g + 1) U2 (by omega) H locs ls ⟨by omega, fun x y h1 h2 => (congrFun (hkT 44 (by decide)) _).trans (hab x y h1 h2), hM, hH, hS, lv_sub hl [4, 5, 2, 1, 0] rfl⟩
          · refine lv_goto (tgt := 74) hx hb dX2_ring_64 (by decide) ?_
            rw [show rgF A (aN S) g = rgF A (aN S) (g + 1) from rg_keep et erg (by omega)] at hl
            refine lv_iinc (v := nI (g + 1)) (lv' := [(5, .int (nI (g + 1))), (6, .int (oI (thrO A (aN S) (2 ^ aN S - 1) g (aN S)))), (0, .ref o), (2, .int k), (3, .int (oI (Option.map Prod.fst (rgF A (aN S) (g + 1))))), (4, .int (oI (Option.map Prod.snd (rgF A (aN S) (g + 1)))))]) hx hb dX2_ring_74 hl (k := 5) rfl (nI_add g 1) (by decide) rfl (fun ls hl => ?_)
            refine lv_goto (tgt := 24) hx hb dX2_ring_77 (by decide) ?_
            exact ih24 (g + 1) U2 (by omega) H locs ls ⟨by omega, fun x y h1 h2 => (congrFun (hkT 44 (by decide)) _).trans (hab x y h1 h2), hM, hH, hS, lv_sub hl [2, 3, 4, 5, 0] rfl⟩
  · refine lv_iconst (v := (-1)) hx hb dX2_ring_8 (by decide) ?_
    exact hp_iret hx hb hr hlocks hH hS (by decide) (by decide) dX2_ring_9 (⟨congrArg some (congrArg Value.int (by simp [spRing, cr0])), _, _, rfl, hM⟩)
end MODEL
