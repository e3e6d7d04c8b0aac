/-! by gen/mspec.py -/
set_option maxRecDepth 100000
section MODEL
variable {l : Launch} {s0 : State} {D : va_G} {K : Nat → ClassId} {wd : Nat → Nat} {o : Nat} {h : Hp} {I : Nat → Int32} {V : Nat → Nat → Int32} {J : Nat → Nat → Int64}
set_option maxHeartbeats 4000000 in
theorem mt_staysElsewhere (hK0 : va_K D CL (TYS K) s0) {S : Ab} (hO : SOK S) (hM : MOK S I V) {q : Nat} {i : Nat} {p9 : Nat} {mem : List Nat} {md : Bool} (h53q : I 53 = nI q) (h60 : I 60 = zI md) (hmm : V 53 i = nI (mem.getD i 0)) (hmn : mem.getD i 0 < aN S) (hi7 : i < 10) : Met l yX2_staysElsewhere (ws_ yX2_staysElsewhere cX2_staysElsewhere 4 ((Option.some Jvm.ClassFile.FieldType.boolean))) (rmk 0 0 0) (va_Pc [.ref o, .int (nI i), .int (nI p9)] (PB s0 D CL (mset h K wd o I V J))) (QR s0 D CL (fun v h1 => v = some (.int (zI (seSt S q mem md i p9))) ∧ h1 = mset h K wd o I V J)) 0 0 (zA s0) := by
  refine hp_met (by decide) (Nat.le_of_ble_eq_true rfl) hK0 ?_
  intro p e s m below meth cd ls hx hb hr hlocks hml hown hnm hts hK hPB hl hS hH hA
  have hl : lv_has ls 4 [(0, .ref o), (1, .int (nI i)), (2, .int (nI p9))] := hl
  have hown : s.vm.findClass RX2 = some m.cls := hown
  have hn := hO.n
  have hmk := hO.mk
  have hrl := hO.rl
  have hrm := hO.rm
  have hsz := hO.sz
  refine lv_aload_n hx hb dX2_staysElsewhere_0 rfl (lv_at hl 0 rfl) ?_
  refine m_get hx hb hts hown hK hH 41 (by decide) q1493 rfl (v := .ref (o + 53)) rfl dX2_staysElsewhere_1 ?_
  refine lv_iload_n hx hb dX2_staysElsewhere_4 rfl (lv_at hl 1 rfl) ?_
  refine m_iald (n := 10) (j := i) (v := nI (mem.getD i 0)) hx hb hK hH (by decide) rfl (by first | omega | (refine Nat.lt_of_lt_of_le (Nat.mod_lt _ ?_) ?_ <;> omega)) (by decide) (hmm) dX2_staysElsewhere_5 ?_
  refine lv_istore_n (lv' := [(3, .int (nI (mem.getD i 0))), (0, .ref o), (1, .int (nI i)), (2, .int (nI p9))]) hx hb dX2_staysElsewhere_6 rfl hl (by decide) rfl (fun ls hl => ?_)
  refine lv_aload_n hx hb dX2_staysElsewhere_7 rfl (lv_at hl 1 rfl) ?_
  refine m_get hx hb hts hown hK hH 60 (by decide) q1512 rfl (v := .int (zI md)) (congrArg Value.int (h60)) dX2_staysElsewhere_8 ?_
  refine lvB_eq (tgt := 50) hx hb dX2_staysElsewhere_11 (by decide) (fun ca => ?_) (fun ca => ?_)
  · refine lv_iconst (v := nI 0) hx hb dX2_staysElsewhere_50 (by decide) ?_
    exact hp_zret hx hb hr rfl hlocks hH hS (by decide) (by decide) dX2_staysElsewhere_51 (⟨congrArg some (congrArg Value.int (zI_0 (by unfold seSt; rw [ca]; simp))), rfl⟩)
  · refine lv_aload_n hx hb dX2_staysElsewhere_14 rfl (lv_at hl 1 rfl) ?_
    refine m_get hx hb hts hown hK hH 21 (by decide) q1473 rfl (v := .ref (o + 35)) rfl dX2_staysElsewhere_15 ?_
    refine lv_iload_n hx hb dX2_staysElsewhere_18 rfl (lv_at hl 0 rfl) ?_
    refine m_zald (n := 10) (j := mem.getD i 0) (v := zI (aSi S (mem.getD i 0))) hx hb hK hH (by decide) rfl (by first | omega | (refine Nat.lt_of_lt_of_le (Nat.mod_lt _ ?_) ?_ <;> omega)) (by decide) (hM.si (by first | omega | (refine Nat.lt_of_lt_of_le (Nat.mod_lt _ ?_) ?_ <;> omega))) dX2_staysElsewhere_19 ?_
    refine lvB_eq (tgt := 50) hx hb dX2_staysElsewhere_20 (by decide) (fun cb => ?_) (fun cb => ?_)
    · refine lv_iconst (v := nI 0) hx hb dX2_staysElsewhere_50 (by decide) ?_
      exact hp_zret hx hb hr rfl hlocks hH hS (by decide) (by decide) dX2_staysElsewhere_51 (⟨congrArg some (congrArg Value.int (zI_0 (by unfold seSt; rw [cb]; simp))), rfl⟩)
    · refine lv_aload_n hx hb dX2_staysElsewhere_23 rfl (lv_at hl 1 rfl) ?_
      refine m_get hx hb hts hown hK hH 22 (by decide) q1474 rfl (v := .ref (o + 36)) rfl dX2_staysElsewhere_24 ?_
      refine lv_iload_n hx hb dX2_staysElsewhere_27 rfl (lv_at hl 0 rfl) ?_
      refine m_iald (n := 10) (j := mem.getD i 0) (v := aIr S (mem.getD i 0)) hx hb hK hH (by decide) rfl (by first | omega | (refine Nat.lt_of_lt_of_le (Nat.mod_lt _ ?_) ?_ <;> omega)) (by decide) (hM.ir (by first | omega | (refine Nat.lt_of_lt_of_le (Nat.mod_lt _ ?_) ?_ <;> omega))) dX2_staysElsewhere_28 ?_
      refine lv_aload_n hx hb dX2_staysElsewhere_29 rfl (lv_at hl 1 rfl) ?_
      refine m_get hx hb hts hown hK hH 53 (by decide) q1505 rfl (v := .int (nI q)) (congrArg Value.int (h53q)) dX2_staysElsewhere_30 ?_
      refine lv_icmp_ne (tgt := 50) hx hb dX2_staysElsewhere_33 (by decide) (fun cc => ?_) (fun cc => ?_)
      · refine lv_iconst (v := nI 0) hx hb dX2_staysElsewhere_50 (by decide) ?_
        exact hp_zret hx hb hr rfl hlocks hH hS (by decide) (by decide) dX2_staysElsewhere_51 (⟨congrArg some (congrArg Value.int (zI_0 (by unfold seSt; rw [decide_eq_false cc]; simp))), rfl⟩)
      · refine lv_aload_n hx hb dX2_staysElsewhere_36 rfl (lv_at hl 1 rfl) ?_
        refine m_get hx hb hts hown hK hH 23 (by decide) q1475 rfl (v := .ref (o + 37)) rfl dX2_staysElsewhere_37 ?_
        refine lv_iload_n hx hb dX2_staysElsewhere_40 rfl (lv_at hl 0 rfl) ?_
        refine m_iald (n := 10) (j := mem.getD i 0) (v := aIp S (mem.getD i 0)) hx hb hK hH (by decide) rfl (by first | omega | (refine Nat.lt_of_lt_of_le (Nat.mod_lt _ ?_) ?_ <;> omega)) (by decide) (hM.ip (by first | omega | (refine Nat.lt_of_lt_of_le (Nat.mod_lt _ ?_) ?_ <;> omega))) dX2_staysElsewhere_41 ?_
        refine lv_iload_n hx hb dX2_staysElsewhere_42 rfl (lv_at hl 3 rfl) ?_
        refine lv_icmp_eq (tgt := 50) hx hb dX2_staysElsewhere_43 (by decide) (fun cd0 => ?_) (fun cd0 => ?_)
        · refine lv_iconst (v := nI 0) hx hb dX2_staysElsewhere_50 (by decide) ?_
          exact hp_zret hx hb hr rfl hlocks hH hS (by decide) (by decide) dX2_staysElsewhere_51 (⟨congrArg some (congrArg Value.int (zI_0 (by unfold seSt; rw [decide_eq_false (not_not_intro cd0)]; simp))), rfl⟩)
        · refine lv_iconst (v := nI 1) hx hb dX2_staysElsewhere_46 (by decide) ?_
          refine lv_goto (tgt := 51) hx hb dX2_staysElsewhere_47 (by decide) ?_
          exact hp_zret hx hb hr rfl hlocks hH hS (by decide) (by decide) dX2_staysElsewhere_51 (⟨congrArg some (congrArg Value.int (zI_1 (by unfold seSt; rw [ca, cb, decide_eq_true cc, decide_eq_true cd0]; rfl))), rfl⟩)
set_option maxHeartbeats 4000000 in
theorem mt_meets (hK0 : va_K D CL (TYS K) s0) {S : Ab} (hO : SOK S) (hM : MOK S I V) {mem pl : List Nat} {q w m9 : Nat} {md : Bool} {lim : Int32} {z : SeZ} (h43 : I 43 = nI mem.length) (h53q : I 53 = nI q) (h58 : I 58 = lim) (h60 : I 60 = zI md) (hmm : ∀ i, i < mem.length → V 53 i = nI (mem.getD i 0)) (hme : ∀ i, i < mem.length → mem.getD i 0 < aN S) (hm7 : mem.length ≤ 7) (h57 : ∀ i, i < mem.length → V 57 i = nI (pl.getD i 0)) (hpl : ∀ i, pl.getD i 0 < 8) (hw : w < 2 ^ 31) (hm9 : m9 < 2 ^ 31) (hz : seR mem.length I V z) : Met l yX2_meets (ws_ yX2_meets cX2_meets 5 ((Option.none : Option Jvm.ClassFile.FieldType))) (rmk 1 0 0) (va_Pc [.ref o, .int (nI w), .int (nI m9)] (PB s0 D CL (mset h K wd o I V J))) (QR s0 D CL (fun v h1 => v = none ∧ ∃ P U, h1 = mset h K wd o P U J ∧ MOK S P U ∧ kp [54, 55, 56, 57, 59] I P ∧ kp [58, 59, 60, 61, 62] V U ∧ seR mem.length P U (lfU S q mem md lim z pl w m9))) 0 0 (zA s0) := by
  refine hp_met (by decide) (Nat.le_of_ble_eq_true rfl) hK0 ?_
  intro p e s m below meth cd ls hx hb hr hlocks hml hown hnm hts hK hPB hl hS hH hA
  have hl : lv_has ls 5 [(0, .ref o), (1, .int (nI w)), (2, .int (nI m9))] := hl
  have hown : s.vm.findClass RX2 = some m.cls := hown
  have hn := hO.n
  have hmk := hO.mk
  have hrl := hO.rl
  have hrm := hO.rm
  have hsz := hO.sz
  obtain ⟨z1, z2, z3⟩ := z
  have hz1 : lsR mem.length I V z1 := hz.1
  have hz2 : mlR mem.length I V z2 := hz.2.1
  have hz3 : mdR mem.length I V z3 := hz.2.2
  clear hz
  refine lv_aload_n hx hb dX2_meets_0 rfl (lv_at hl 0 rfl) ?_
  refine m_get hx hb hts hown hK hH 60 (by decide) q1512 rfl (v := .int (zI md)) (congrArg Value.int (h60)) dX2_meets_1 ?_
  refine lvB_eq (tgt := 115) hx hb dX2_meets_4 (by decide) (fun cmd => ?_) (fun cmd => ?_)
  · subst cmd
    refine w_join2 (pc' := 165) (fun (P : Nat → Int32) (U : Nat → Nat → Int32) H locs ls => (lsR mem.length P U z1) ∧ (mlR mem.length P U (mlU z2 pl w m9)) ∧ (mdR mem.length P U z3) ∧ (kp [56, 57] I P) ∧ (kp [59] V U) ∧ (MOK S P U) ∧ HP D CL (zA s0) (mset h K wd o P U J) H ∧ va_S (zA s0) s.heap H locs ∧ lv_has ls 5 [(0, .ref o), (1, .int (nI w)), (2, .int (nI m9))]) ?_ ?_
    · intro P U H locs ls hP
      obtain ⟨hz1, hz2, hz3, hkI, hkp, hM, hH, hS, hl⟩ := hP
      refine w_join3 (pc' := 257) (fun (P2 : Nat → Int32) (U2 : Nat → Nat → Int32) (L : List (List Nat)) H locs ls => (∀ l ∈ L, ∀ i, l.getD i 0 < 8) ∧ (P2 54 = nI w) ∧ (P2 55 = nI L.length) ∧ (∀ i, i < mem.length → U2 58 i = nI (((L ++ [pl]).headD []).getD i 0)) ∧ (∀ i, i < mem.length → U2 61 i = smA L pl i) ∧ (∀ u, u < 8 → U2 62 u = nI (snM L mem.length u)) ∧ (lsU z1 pl w = some (w, L ++ [pl])) ∧ (mlR mem.length P2 U2 (mlU z2 pl w m9)) ∧ (mdR mem.length P2 U2 z3) ∧ (kp [54, 55, 56, 57] I P2) ∧ (kp [58, 59, 61, 62] V U2) ∧ (MOK S P2 U2) ∧ HP D CL (zA s0) (mset h K wd o P2 U2 J) H ∧ va_S (zA s0) s.heap H locs ∧ lv_has ls 5 [(0, .ref o), (1, .int (nI w)), (2, .int (nI m9))]) ?_ ?_
      · intro P2 U2 L H locs ls hP
        obtain ⟨hL8, e54, e55, h58b, h61, h62, elu, hz2, hz3, hkI, hkp, hM, hH, hS, hl⟩ := hP
        have h57 : ∀ i, i < mem.length → U2 57 i = nI (pl.getD i 0) := fun i hi => (congrFun (hkp 57 (by decide)) _).trans (h57 i hi)
        have h43 := (hkI 43 (by decide)).trans h43
        refine lv_aload_n hx hb dX2_meets_257 rfl (lv_at hl 0 rfl) ?_
        refine lv_dup hx hb dX2_meets_258 rfl ?_
        refine m_get hx hb hts hown hK hH 55 (by decide) q1507 rfl (v := .int (nI L.length)) (congrArg Value.int (e55)) dX2_meets_259 ?_
        refine lv_iconst (v := nI 1) hx hb dX2_meets_262 (by decide) ?_
        refine lv_iadd hx hb dX2_meets_263 ?_
        refine lv_top (y := nI (L.length + 1)) (nI_add _ _) ?_
        refine m_put (ty := .int) hx hb hts hown hK hH hS 55 (by decide) q1507 rfl rfl rfl (by decide +kernel) rfl rfl dX2_meets_264 (fun H locs hH hS => ?_)
        have hM := hM.iS (k := 55) (by decide) (nI (L.length + 1))
        refine lv_iconst (v := nI 0) hx hb dX2_meets_267 (by decide) ?_
        refine lv_istore_n (lv' := [(3, .int (nI 0)), (0, .ref o), (1, .int (nI w)), (2, .int (nI m9))]) hx hb dX2_meets_268 rfl hl (by decide) rfl (fun ls hl => ?_)
        refine w_loop2 (fun (i : Nat) (U : Nat → Nat → Int32) => mem.length - i) (fun (i : Nat) (U : Nat → Nat → Int32) H locs ls => (i ≤ mem.length) ∧ (∀ u, u < mem.length → U 61 u = if u < i then smI (L ++ [pl]) u else smA L pl u) ∧ (∀ u, u < 8 → U 62 u = nI (ofB (snF L pl i u) mem.length)) ∧ (kp [61, 62] U2 U) ∧ (MOK S (va_up P2 55 (nI (L.length + 1))) U) ∧ HP D CL (zA s0) (mset h K wd o (va_up P2 55 (nI (L.length + 1))) U J) H ∧ va_S (zA s0) s.heap H locs ∧ lv_has ls 5 [(0, .ref o), (1, .int (nI w)), (2, .int (nI m9)), (3, .int (nI i))]) ?_ 0 U2 ⟨Nat.zero_le _, fun u hu => by rw [if_neg (Nat.not_lt_zero _)]; exact h61 u hu, fun u hu => by rw [sn_0]; exact h62 u hu, kp.rf, hM, hH, hS, lv_sub hl [1, 2, 3, 0] rfl⟩
        intro i U ih269 H locs ls hP
        obtain ⟨hii, h61, h62, hk3, hM, hH, hS, hl⟩ := hP
        have hp8 := hpl i
        refine lv_iload_n hx hb dX2_meets_269 rfl (lv_at hl 3 rfl) ?_
        refine lv_aload_n hx hb dX2_meets_270 rfl (lv_at hl 0 rfl) ?_
        refine m_get hx hb hts hown hK hH 43 (by decide) q1495 rfl (v := .int (nI mem.length)) (congrArg Value.int ((va_up_ne _ _ (by decide)).trans (h43))) dX2_meets_271 ?_
        refine lvN_ge (tgt := 322) hx hb (by first | omega | (refine Nat.lt_of_lt_of_le (Nat.mod_lt _ ?_) ?_ <;> omega)) (by first | omega | (refine Nat.lt_of_lt_of_le (Nat.mod_lt _ ?_) ?_ <;> omega)) dX2_meets_274 (by decide) (fun c1 => ?_) (fun c1 => ?_)
        · exact hp_vret hx hb hr hlocks hH hS (by decide) (by decide) dX2_meets_322 (⟨rfl, _, _, rfl, hM, (hkI.wide (by decide)).up (by decide) _, (hkp.wide (by decide)).tr (hk3.wide (by decide)), by rw [lf_f, elu]; exact ⟨ls_fin hL8 hpl hw ((va_up_ne _ _ (by decide)).trans (e54)) (va_up_self _ _ _) (fun i9 hi => (congrFun (hk3 58 (by decide)) _).trans (h58b i9 hi)) h61 h62 (by omega), ml_cg hz2 (va_up_ne _ _ (by decide)) (va_up_ne _ _ (by decide)) (hk3 59 (by decide)), md_cg hz3 (va_up_ne _ _ (by decide)) (hk3 60 (by decide))⟩⟩)
        · refine lv_aload_n hx hb dX2_meets_277 rfl (lv_at hl 0 rfl) ?_
          refine m_get hx hb hts hown hK hH 50 (by decide) q1502 rfl (v := .ref (o + 61)) rfl dX2_meets_278 ?_
          refine lv_iload_n hx hb dX2_meets_281 rfl (lv_at hl 3 rfl) ?_
          refine m_iald (n := 10) (j := i) (v := smA L pl i) hx hb hK hH (by decide) rfl (by first | omega | (refine Nat.lt_of_lt_of_le (Nat.mod_lt _ ?_) ?_ <;> omega)) (by decide) ((h61 i (by omega)).trans (if_neg (Nat.lt_irrefl _))) dX2_meets_282 ?_
          refine lv_aload_n hx hb dX2_meets_283 rfl (lv_at hl 0 rfl) ?_
          refine m_get hx hb hts hown hK hH 46 (by decide) q1498 rfl (v := .ref (o + 57)) rfl dX2_meets_284 ?_
          refine lv_iload_n hx hb dX2_meets_287 rfl (lv_at hl 3 rfl) ?_
          refine m_iald (n := 10) (j := i) (v := nI (pl.getD i 0)) hx hb hK hH (by decide) rfl (by first | omega | (refine Nat.lt_of_lt_of_le (Nat.mod_lt _ ?_) ?_ <;> omega)) (by decide) ((congrFun (hk3 57 (by decide)) _).trans (h57 i (by omega))) dX2_meets_288 ?_
          refine lv_icmp_eq (tgt := 299) hx hb dX2_meets_289 (by decide) (fun cs => ?_) (fun cs => ?_)
          · refine lv_aload_n hx hb dX2_meets_299 rfl (lv_at hl 0 rfl) ?_
            refine m_get hx hb hts hown hK hH 51 (by decide) q1503 rfl (v := .ref (o + 62)) rfl dX2_meets_300 ?_
            refine lv_aload_n hx hb dX2_meets_303 rfl (lv_at hl 0 rfl) ?_
            refine m_get hx hb hts hown hK hH 46 (by decide) q1498 rfl (v := .ref (o + 57)) rfl dX2_meets_304 ?_
            refine lv_iload_n hx hb dX2_meets_307 rfl (lv_at hl 3 rfl) ?_
            refine m_iald (n := 10) (j := i) (v := nI (pl.getD i 0)) hx hb hK hH (by decide) rfl (by first | omega | (refine Nat.lt_of_lt_of_le (Nat.mod_lt _ ?_) ?_ <;> omega)) (by decide) ((congrFun (hk3 57 (by decide)) _).trans (h57 i (by omega))) dX2_meets_308 ?_
            refine lv_dup2_11 hx hb dX2_meets_309 rfl rfl ?_
            refine m_iald (n := 8) (j := pl.getD i 0) (v := nI (ofB (snF L pl i (pl.getD i 0)) mem.length)) hx hb hK hH (by decide) rfl (by first | omega | (refine Nat.lt_of_lt_of_le (Nat.mod_lt _ ?_) ?_ <;> omega)) (by decide) (h62 _ hp8) dX2_meets_310 ?_
            refine lv_iconst (v := nI 1) hx hb dX2_meets_311 (by decide) ?_
            refine lv_iload_n hx hb dX2_meets_312 rfl (lv_at hl 3 rfl) ?_
            refine lv_ishl hx hb dX2_meets_313 ?_
            refine lv_top (y := nI (2 ^ i)) (bi_shl1 (by first | omega | (refine Nat.lt_of_lt_of_le (Nat.mod_lt _ ?_) ?_ <;> omega))) ?_
            refine lv_ior hx hb dX2_meets_314 ?_
            refine lv_top (y := nI (ofB (snF L pl (i + 1) (pl.getD i 0)) mem.length)) ((bi_or _ _).trans (congrArg nI (sn_hit (by omega)))) ?_
            refine m_iast (n := 8) (j := pl.getD i 0) hx hb hK hH hS (by decide) rfl (by first | omega | (refine Nat.lt_of_lt_of_le (Nat.mod_lt _ ?_) ?_ <;> omega)) (by decide) dX2_meets_315 (fun H locs hH hS => ?_)
            have hM := hM.vS (k := 62) rfl (pl.getD i 0) (nI (ofB (snF L pl (i + 1) (pl.getD i 0)) mem.length))
            refine lv_iinc (v := nI (i + 1)) (lv' := [(3, .int (nI (i + 1))), (0, .ref o), (1, .int (nI w)), (2, .int (nI m9))]) hx hb dX2_meets_316 hl (k := 3) rfl (nI_add i 1) (by decide) rfl (fun ls hl => ?_)
            refine lv_goto (tgt := 269) hx hb dX2_meets_319 (by decide) ?_
            exact ih269 (i + 1) _ (by omega) H locs ls ⟨by omega, fun u hu => by rw [vset_off _ _ (by decide)]; by_cases e : u = i; (rw [e, h61 i (by omega), if_neg (Nat.lt_irrefl _), if_pos (Nat.lt_succ_self _)]; exact sm_eq hL8 hpl cs); (rw [h61 u hu]; exact if_lt_s e _ _), fun u hu => by rw [vset_in]; by_cases e : u = pl.getD i 0; (rw [if_pos e, e]); (rw [if_neg e, h62 u hu, sn_off _ e]), hk3.vs (by decide) _ _, hM, hH, hS, lv_sub hl [1, 2, 3, 0] rfl⟩
          · refine lv_aload_n hx hb dX2_meets_292 rfl (lv_at hl 0 rfl) ?_
            refine m_get hx hb hts hown hK hH 50 (by decide) q1502 rfl (v := .ref (o + 61)) rfl dX2_meets_293 ?_
            refine lv_iload_n hx hb dX2_meets_296 rfl (lv_at hl 3 rfl) ?_
            refine lv_iconst (v := (-1)) hx hb dX2_meets_297 (by decide) ?_
            refine m_iast (n := 10) (j := i) hx hb hK hH hS (by decide) rfl (by first | omega | (refine Nat.lt_of_lt_of_le (Nat.mod_lt _ ?_) ?_ <;> omega)) (by decide) dX2_meets_298 (fun H locs hH hS => ?_)
            have hM := hM.vS (k := 61) rfl i (-1)
            refine lv_aload_n hx hb dX2_meets_299 rfl (lv_at hl 0 rfl) ?_
            refine m_get hx hb hts hown hK hH 51 (by decide) q1503 rfl (v := .ref (o + 62)) rfl dX2_meets_300 ?_
            refine lv_aload_n hx hb dX2_meets_303 rfl (lv_at hl 0 rfl) ?_
            refine m_get hx hb hts hown hK hH 46 (by decide) q1498 rfl (v := .ref (o + 57)) rfl dX2_meets_304 ?_
            refine lv_iload_n hx hb dX2_meets_307 rfl (lv_at hl 3 rfl) ?_
            refine m_iald (n := 10) (j := i) (v := nI (pl.getD i 0)) hx hb hK hH (by decide) rfl (by first | omega | (refine Nat.lt_of_lt_of_le (Nat.mod_lt _ ?_) ?_ <;> omega)) (by decide) ((congrFun (vset_off _ _ (by decide)) _).trans ((congrFun (hk3 57 (by decide)) _).trans (h57 i (by omega)))) dX2_meets_308 ?_
            refine lv_dup2_11 hx hb dX2_meets_309 rfl rfl ?_
            refine m_iald (n := 8) (j := pl.getD i 0) (v := nI (ofB (snF L pl i (pl.getD i 0)) mem.length)) hx hb hK hH (by decide) rfl (by first | omega | (refine Nat.lt_of_lt_of_le (Nat.mod_lt _ ?_) ?_ <;> omega)) (by decide) ((congrFun (vset_off _ _ (by decide)) _).trans (h62 _ hp8)) dX2_meets_310 ?_
            refine lv_iconst (v := nI 1) hx hb dX2_meets_311 (by decide) ?_
            refine lv_iload_n hx hb dX2_meets_312 rfl (lv_at hl 3 rfl) ?_
            refine lv_ishl hx hb dX2_meets_313 ?_
            refine lv_top (y := nI (2 ^ i)) (bi_shl1 (by first | omega | (refine Nat.lt_of_lt_of_le (Nat.mod_lt _ ?_) ?_ <;> omega))) ?_
            refine lv_ior hx hb dX2_meets_314 ?_
            refine lv_top (y := nI (ofB (snF L pl (i + 1) (pl.getD i 0)) mem.length)) ((bi_or _ _).trans (congrArg nI (sn_hit (by omega)))) ?_
            refine m_iast (n := 8) (j := pl.getD i 0) hx hb hK hH hS (by decide) rfl (by first | omega | (refine Nat.lt_of_lt_of_le (Nat.mod_lt _ ?_) ?_ <;> omega)) (by decide) dX2_meets_315 (fun H locs hH hS => ?_)
            have hM := hM.vS (k := 62) rfl (pl.getD i 0) (nI (ofB (snF L pl (i + 1) (pl.getD i 0)) mem.length))
            refine lv_iinc (v := nI (i + 1)) (lv' := [(3, .int (nI (i + 1))), (0, .ref o), (1, .int (nI w)), (2, .int (nI m9))]) hx hb dX2_meets_316 hl (k := 3) rfl (nI_add i 1) (by decide) rfl (fun ls hl => ?_)
            refine lv_goto (tgt := 269) hx hb dX2_meets_319 (by decide) ?_
            exact ih269 (i + 1) _ (by omega) H locs ls ⟨by omega, fun u hu => by rw [vset_off _ _ (by decide), vset_in]; by_cases e : u = i; (rw [if_pos e, e, if_pos (Nat.lt_succ_self _), sm_ne cs]); (rw [if_neg e, h61 u hu]; exact if_lt_s e _ _), fun u hu => by rw [vset_in]; by_cases e : u = pl.getD i 0; (rw [if_pos e, e]); (rw [if_neg e, vset_off _ _ (by decide), h62 u hu, sn_off _ e]), (hk3.vs (by decide) _ _).vs (by decide) _ _, hM, hH, hS, lv_sub hl [1, 2, 3, 0] rfl⟩
      · intro jn257
        refine w_join0 (pc' := 181) (fun  H locs ls => (lsU z1 pl w = some (w, [pl])) ∧ HP D CL (zA s0) (mset h K wd o P U J) H ∧ va_S (zA s0) s.heap H locs ∧ lv_has ls 5 [(0, .ref o), (1, .int (nI w)), (2, .int (nI m9))]) ?_ ?_
        · intro  H locs ls hP
          obtain ⟨eln, hH, hS, hl⟩ := hP
          refine lv_aload_n hx hb dX2_meets_181 rfl (lv_at hl 0 rfl) ?_
          refine lv_iload_n hx hb dX2_meets_182 rfl (lv_at hl 1 rfl) ?_
          refine m_put (ty := .int) hx hb hts hown hK hH hS 54 (by decide) q1506 rfl rfl rfl (by decide +kernel) rfl rfl dX2_meets_183 (fun H locs hH hS => ?_)
          have hM := hM.iS (k := 54) (by decide) (nI w)
          refine lv_aload_n hx hb dX2_meets_186 rfl (lv_at hl 0 rfl) ?_
          refine lv_iconst (v := nI 0) hx hb dX2_meets_187 (by decide) ?_
          refine m_put (ty := .int) hx hb hts hown hK hH hS 55 (by decide) q1507 rfl rfl rfl (by decide +kernel) rfl rfl dX2_meets_188 (fun H locs hH hS => ?_)
          have hM := hM.iS (k := 55) (by decide) (nI 0)
          refine lv_aload_n hx hb dX2_meets_191 rfl (lv_at hl 0 rfl) ?_
          refine lv_aload_n hx hb dX2_meets_192 rfl (lv_at hl 0 rfl) ?_
          refine m_get hx hb hts hown hK hH 47 (by decide) q1499 rfl (v := .ref (o + 58)) rfl dX2_meets_193 ?_
          refine hp_callV (As := [.ref (o + 58)]) (rest := []) hx hb hml hown hts hPB hK hH hS (mt_keepsIn58 hK0 hO hM (mem := mem) (pl := pl) ((va_up_ne _ _ (by decide)).trans ((va_up_ne _ _ (by decide)).trans ((hkI 43 (by decide)).trans h43))) hm7 (fun i hi => (congrFun (hkp 57 (by decide)) _).trans (h57 i hi))) mset_o rfl rfl 1 (lw_V q1956 q1958 qs98 q107 q1959) (by decide +kernel) ⟨rfl, rfl⟩ (by decide) rfl hl.1 rfl (Nat.le_of_ble_eq_true rfl) (by decide) dX2_meets_196 (fun v2 h4 H locs hp3 _ hH hS => ?_)
          obtain ⟨rfl, U3, rfl, hM, hk3, hto3⟩ := hp3
          refine lv_iconst (v := nI 0) hx hb dX2_meets_199 (by decide) ?_
          refine lv_istore_n (lv' := [(3, .int (nI 0)), (0, .ref o), (1, .int (nI w)), (2, .int (nI m9))]) hx hb dX2_meets_200 rfl hl (by decide) rfl (fun ls hl => ?_)
          refine w_loop2 (fun (i : Nat) (U4 : Nat → Nat → Int32) => mem.length - i) (fun (i : Nat) (U4 : Nat → Nat → Int32) H locs ls => (i ≤ mem.length) ∧ (∀ u, u < i → U4 61 u = nI (pl.getD u 0)) ∧ (kp [61] U3 U4) ∧ (MOK S (va_up (va_up P 54 (nI w)) 55 (nI 0)) U4) ∧ HP D CL (zA s0) (mset h K wd o (va_up (va_up P 54 (nI w)) 55 (nI 0)) U4 J) H ∧ va_S (zA s0) s.heap H locs ∧ lv_has ls 5 [(0, .ref o), (1, .int (nI w)), (2, .int (nI m9)), (3, .int (nI i))]) ?_ 0 U3 ⟨Nat.zero_le _, fun u hu => absurd hu (Nat.not_lt_zero _), kp.rf, hM, hH, hS, lv_sub hl [1, 2, 3, 0] rfl⟩
          intro i U4 ih201 H locs ls hP
          obtain ⟨hii, h61, hk4, hM, hH, hS, hl⟩ := hP
          refine lv_iload_n hx hb dX2_meets_201 rfl (lv_at hl 3 rfl) ?_
          refine lv_aload_n hx hb dX2_meets_202 rfl (lv_at hl 0 rfl) ?_
          refine m_get hx hb hts hown hK hH 43 (by decide) q1495 rfl (v := .int (nI mem.length)) (congrArg Value.int ((va_up_ne _ _ (by decide)).trans ((va_up_ne _ _ (by decide)).trans ((hkI 43 (by decide)).trans h43)))) dX2_meets_203 ?_
          refine lvN_ge (tgt := 227) hx hb (by first | omega | (refine Nat.lt_of_lt_of_le (Nat.mod_lt _ ?_) ?_ <;> omega)) (by first | omega | (refine Nat.lt_of_lt_of_le (Nat.mod_lt _ ?_) ?_ <;> omega)) dX2_meets_206 (by decide) (fun c5 => ?_) (fun c5 => ?_)
          · refine lv_iconst (v := nI 0) hx hb dX2_meets_227 (by decide) ?_
            refine lv_istore_n (lv' := [(3, .int (nI 0)), (0, .ref o), (1, .int (nI w)), (2, .int (nI m9))]) hx hb dX2_meets_228 rfl hl (by decide) rfl (fun ls hl => ?_)
            refine w_loop2 (fun (j : Nat) (U5 : Nat → Nat → Int32) => 8 - j) (fun (j : Nat) (U5 : Nat → Nat → Int32) H locs ls => (j ≤ 8) ∧ (∀ u, u < j → U5 62 u = nI 0) ∧ (kp [62] U4 U5) ∧ (MOK S (va_up (va_up P 54 (nI w)) 55 (nI 0)) U5) ∧ HP D CL (zA s0) (mset h K wd o (va_up (va_up P 54 (nI w)) 55 (nI 0)) U5 J) H ∧ va_S (zA s0) s.heap H locs ∧ lv_has ls 5 [(0, .ref o), (1, .int (nI w)), (2, .int (nI m9)), (3, .int (nI j))]) ?_ 0 U4 ⟨Nat.zero_le _, fun u hu => absurd hu (Nat.not_lt_zero _), kp.rf, hM, hH, hS, lv_sub hl [1, 2, 3, 0] rfl⟩
            intro j U5 ih229 H locs ls hP
            obtain ⟨hjj, h62, hk5, hM, hH, hS, hl⟩ := hP
            refine lv_iload_n hx hb dX2_meets_229 rfl (lv_at hl 3 rfl) ?_
            refine lv_bipush (v := nI 8) hx hb dX2_meets_230 (by decide) ?_
            refine lvN_ge (tgt := 248) hx hb (by first | omega | (refine Nat.lt_of_lt_of_le (Nat.mod_lt _ ?_) ?_ <;> omega)) (by first | omega | (refine Nat.lt_of_lt_of_le (Nat.mod_lt _ ?_) ?_ <;> omega)) dX2_meets_232 (by decide) (fun c6 => ?_) (fun c6 => ?_)
            · refine lv_iload_n hx hb dX2_meets_248 rfl (lv_at hl 1 rfl) ?_
              refine lv_aload_n hx hb dX2_meets_249 rfl (lv_at hl 0 rfl) ?_
              refine m_get hx hb hts hown hK hH 54 (by decide) q1506 rfl (v := .int (nI w)) (congrArg Value.int ((va_up_ne _ _ (by decide)).trans (va_up_self _ _ _))) dX2_meets_250 ?_
              refine lvN_le (tgt := 257) hx hb (by first | omega | (refine Nat.lt_of_lt_of_le (Nat.mod_lt _ ?_) ?_ <;> omega)) (by first | omega | (refine Nat.lt_of_lt_of_le (Nat.mod_lt _ ?_) ?_ <;> omega)) dX2_meets_253 (by decide) (fun c7 => ?_) (fun c7 => ?_)
              · exact jn257 _ _ ([]) _ _ _ ⟨(fun _ q => by cases q), (va_up_ne _ _ (by decide)).trans (va_up_self _ _ _), va_up_self _ _ _, fun i9 hi => (congrFun ((hk5 58 (by decide)).trans (hk4 58 (by decide))) _).trans (hto3 i9 hi), fun i9 hi => (congrFun (hk5 61 (by decide)) _).trans (h61 i9 (by omega)), fun u hu => by rw [h62 u (by omega), snM_nil], eln, ml_cg hz2 ((va_up_ne _ _ (by decide)).trans (va_up_ne _ _ (by decide))) ((va_up_ne _ _ (by decide)).trans (va_up_ne _ _ (by decide))) ((hk5 59 (by decide)).trans ((hk4 59 (by decide)).trans (hk3 59 (by decide)))), md_cg hz3 ((va_up_ne _ _ (by decide)).trans (va_up_ne _ _ (by decide))) ((hk5 60 (by decide)).trans ((hk4 60 (by decide)).trans (hk3 60 (by decide)))), ((hkI.wide (by decide)).up (by decide) _).up (by decide) _, (((hkp.wide (by decide)).tr (hk3.wide (by decide))).tr (hk4.wide (by decide))).tr (hk5.wide (by decide)), hM, hH, hS, lv_sub hl [0, 1, 2] rfl⟩
              · exact absurd c7 (by omega)
            · refine lv_aload_n hx hb dX2_meets_235 rfl (lv_at hl 0 rfl) ?_
              refine m_get hx hb hts hown hK hH 51 (by decide) q1503 rfl (v := .ref (o + 62)) rfl dX2_meets_236 ?_
              refine lv_iload_n hx hb dX2_meets_239 rfl (lv_at hl 3 rfl) ?_
              refine lv_iconst (v := nI 0) hx hb dX2_meets_240 (by decide) ?_
              refine m_iast (n := 8) (j := j) hx hb hK hH hS (by decide) rfl (by first | omega | (refine Nat.lt_of_lt_of_le (Nat.mod_lt _ ?_) ?_ <;> omega)) (by decide) dX2_meets_241 (fun H locs hH hS => ?_)
              have hM := hM.vS (k := 62) rfl j (nI 0)
              refine lv_iinc (v := nI (j + 1)) (lv' := [(3, .int (nI (j + 1))), (0, .ref o), (1, .int (nI w)), (2, .int (nI m9))]) hx hb dX2_meets_242 hl (k := 3) rfl (nI_add j 1) (by decide) rfl (fun ls hl => ?_)
              refine lv_goto (tgt := 229) hx hb dX2_meets_245 (by decide) ?_
              exact ih229 (j + 1) _ (by omega) H locs ls ⟨by omega, fun u hu => by rw [vset_in]; split; rfl; exact h62 u (by omega), hk5.vs (by decide) _ _, hM, hH, hS, lv_sub hl [1, 2, 3, 0] rfl⟩
          · refine lv_aload_n hx hb dX2_meets_209 rfl (lv_at hl 0 rfl) ?_
            refine m_get hx hb hts hown hK hH 50 (by decide) q1502 rfl (v := .ref (o + 61)) rfl dX2_meets_210 ?_
            refine lv_iload_n hx hb dX2_meets_213 rfl (lv_at hl 3 rfl) ?_
            refine lv_aload_n hx hb dX2_meets_214 rfl (lv_at hl 0 rfl) ?_
            refine m_get hx hb hts hown hK hH 46 (by decide) q1498 rfl (v := .ref (o + 57)) rfl dX2_meets_215 ?_
            refine lv_iload_n hx hb dX2_meets_218 rfl (lv_at hl 3 rfl) ?_
            refine m_iald (n := 10) (j := i) (v := nI (pl.getD i 0)) hx hb hK hH (by decide) rfl (by first | omega | (refine Nat.lt_of_lt_of_le (Nat.mod_lt _ ?_) ?_ <;> omega)) (by decide) ((congrFun ((hk4 57 (by decide)).trans ((hk3 57 (by decide)).trans (hkp 57 (by decide)))) _).trans (h57 i (by omega))) dX2_meets_219 ?_
            refine m_iast (n := 10) (j := i) hx hb hK hH hS (by decide) rfl (by first | omega | (refine Nat.lt_of_lt_of_le (Nat.mod_lt _ ?_) ?_ <;> omega)) (by decide) dX2_meets_220 (fun H locs hH hS => ?_)
            have hM := hM.vS (k := 61) rfl i (nI (pl.getD i 0))
            refine lv_iinc (v := nI (i + 1)) (lv' := [(3, .int (nI (i + 1))), (0, .ref o), (1, .int (nI w)), (2, .int (nI m9))]) hx hb dX2_meets_221 hl (k := 3) rfl (nI_add i 1) (by decide) rfl (fun ls hl => ?_)
            refine lv_goto (tgt := 201) hx hb dX2_meets_224 (by decide) ?_
            exact ih201 (i + 1) _ (by omega) H locs ls ⟨by omega, fun u hu => by rw [vset_in]; split; (rename_i e; rw [e]); exact h61 u (by omega), hk4.vs (by decide) _ _, hM, hH, hS, lv_sub hl [1, 2, 3, 0] rfl⟩
        · intro jn181
          refine lv_aload_n hx hb dX2_meets_165 rfl (lv_at hl 0 rfl) ?_
          refine m_get hx hb hts hown hK hH 54 (by decide) q1506 rfl (v := .int (P 54)) (rfl) dX2_meets_166 ?_
          refine lv_iconst (v := (-1)) hx hb dX2_meets_169 (by decide) ?_
          refine lv_icmp_eq (tgt := 181) hx hb dX2_meets_170 (by decide) (fun cn => ?_) (fun cn => ?_)
          · have ez := ls_none hz1 cn
            subst ez
            exact jn181  _ _ _ ⟨rfl, hH, hS, lv_sub hl [0, 1, 2] rfl⟩
          · obtain ⟨b, L, rfl⟩ := ls_some hz1 cn
            have hzb := hz1.1.1
            refine lv_iload_n hx hb dX2_meets_173 rfl (lv_at hl 1 rfl) ?_
            refine lv_aload_n hx hb dX2_meets_174 rfl (lv_at hl 0 rfl) ?_
            refine m_get hx hb hts hown hK hH 54 (by decide) q1506 rfl (v := .int (nI b)) (congrArg Value.int (hz1.2.1)) dX2_meets_175 ?_
            refine lvN_ge (tgt := 248) hx hb (by first | omega | (refine Nat.lt_of_lt_of_le (Nat.mod_lt _ ?_) ?_ <;> omega)) (by first | omega | (refine Nat.lt_of_lt_of_le (Nat.mod_lt _ ?_) ?_ <;> omega)) dX2_meets_178 (by decide) (fun c8 => ?_) (fun c8 => ?_)
            · refine lv_iload_n hx hb dX2_meets_248 rfl (lv_at hl 1 rfl) ?_
              refine lv_aload_n hx hb dX2_meets_249 rfl (lv_at hl 0 rfl) ?_
              refine m_get hx hb hts hown hK hH 54 (by decide) q1506 rfl (v := .int (nI b)) (congrArg Value.int (hz1.2.1)) dX2_meets_250 ?_
              refine lvN_le (tgt := 257) hx hb (by first | omega | (refine Nat.lt_of_lt_of_le (Nat.mod_lt _ ?_) ?_ <;> omega)) (by first | omega | (refine Nat.lt_of_lt_of_le (Nat.mod_lt _ ?_) ?_ <;> omega)) dX2_meets_253 (by decide) (fun c9 => ?_) (fun c9 => ?_)
              · exact jn257 P U L _ _ _ ⟨hz1.1.2.2, by rw [hz1.2.1, show b = w by omega], hz1.2.2.1, fun i9 hi => by rw [hz1.2.2.2.1 i9 hi, head_app hz1.1.2.1], fun i9 hi => by rw [hz1.2.2.2.2.1 i9 hi, smA_ne hz1.1.2.1], hz1.2.2.2.2.2, ls_add (by omega), hz2, hz3, hkI.wide (by decide), hkp.wide (by decide), hM, hH, hS, lv_sub hl [0, 1, 2] rfl⟩
              · exact hp_vret hx hb hr hlocks hH hS (by decide) (by decide) dX2_meets_256 (⟨rfl, _, _, rfl, hM, hkI.wide (by decide), hkp.wide (by decide), by rw [lf_f, ls_old (by omega)]; exact ⟨hz1, hz2, hz3⟩⟩)
            · exact jn181  _ _ _ ⟨ls_new (by omega), hH, hS, lv_sub hl [0, 1, 2] rfl⟩
    · intro jn165
      refine lv_aload_n hx hb dX2_meets_115 rfl (lv_at hl 0 rfl) ?_
      refine m_get hx hb hts hown hK hH 56 (by decide) q1508 rfl (v := .int (I 56)) (rfl) dX2_meets_116 ?_
      refine lv_iconst (v := (-1)) hx hb dX2_meets_119 (by decide) ?_
      refine lv_icmp_eq (tgt := 147) hx hb dX2_meets_120 (by decide) (fun cn => ?_) (fun cn => ?_)
      · have ez := ml_none hz2 cn
        subst ez
        refine lv_aload_n hx hb dX2_meets_147 rfl (lv_at hl 0 rfl) ?_
        refine lv_iload_n hx hb dX2_meets_148 rfl (lv_at hl 2 rfl) ?_
        refine m_put (ty := .int) hx hb hts hown hK hH hS 56 (by decide) q1508 rfl rfl rfl (by decide +kernel) rfl rfl dX2_meets_149 (fun H locs hH hS => ?_)
        have hM := hM.iS (k := 56) (by decide) (nI m9)
        refine lv_aload_n hx hb dX2_meets_152 rfl (lv_at hl 0 rfl) ?_
        refine lv_iload_n hx hb dX2_meets_153 rfl (lv_at hl 1 rfl) ?_
        refine m_put (ty := .int) hx hb hts hown hK hH hS 57 (by decide) q1509 rfl rfl rfl (by decide +kernel) rfl rfl dX2_meets_154 (fun H locs hH hS => ?_)
        have hM := hM.iS (k := 57) (by decide) (nI w)
        refine lv_aload_n hx hb dX2_meets_157 rfl (lv_at hl 0 rfl) ?_
        refine lv_aload_n hx hb dX2_meets_158 rfl (lv_at hl 0 rfl) ?_
        refine m_get hx hb hts hown hK hH 48 (by decide) q1500 rfl (v := .ref (o + 59)) rfl dX2_meets_159 ?_
        refine hp_callV (As := [.ref (o + 59)]) (rest := []) hx hb hml hown hts hPB hK hH hS (mt_keepsIn59 hK0 hO hM (mem := mem) (pl := pl) ((va_up_ne _ _ (by decide)).trans ((va_up_ne _ _ (by decide)).trans (h43))) hm7 h57) mset_o rfl rfl 1 (lw_V q1956 q1958 qs98 q107 q1959) (by decide +kernel) ⟨rfl, rfl⟩ (by decide) rfl hl.1 rfl (Nat.le_of_ble_eq_true rfl) (by decide) dX2_meets_162 (fun v10 h12 H locs hp11 _ hH hS => ?_)
        obtain ⟨rfl, U3, rfl, hM, hk3, hto3⟩ := hp11
        exact jn165 _ _ _ _ _ ⟨ls_cg hz1 ((va_up_ne _ _ (by decide)).trans (va_up_ne _ _ (by decide))) ((va_up_ne _ _ (by decide)).trans (va_up_ne _ _ (by decide))) (hk3 58 (by decide)) (hk3 61 (by decide)) (hk3 62 (by decide)), ⟨hm9, hw, (va_up_ne _ _ (by decide)).trans (va_up_self _ _ _), va_up_self _ _ _, hto3⟩, md_cg hz3 ((va_up_ne _ _ (by decide)).trans (va_up_ne _ _ (by decide))) (hk3 60 (by decide)), (kp.rf.up (by decide) _).up (by decide) _, hk3, hM, hH, hS, lv_sub hl [0, 1, 2] rfl⟩
      · obtain ⟨b, a, L, rfl⟩ := ml_some hz2 cn
        have hzb := hz2.1
        have hza := hz2.2.1
        refine lv_iload_n hx hb dX2_meets_123 rfl (lv_at hl 2 rfl) ?_
        refine lv_aload_n hx hb dX2_meets_124 rfl (lv_at hl 0 rfl) ?_
        refine m_get hx hb hts hown hK hH 56 (by decide) q1508 rfl (v := .int (nI b)) (congrArg Value.int (hz2.2.2.1)) dX2_meets_125 ?_
        refine lvN_lt (tgt := 147) hx hb (by first | omega | (refine Nat.lt_of_lt_of_le (Nat.mod_lt _ ?_) ?_ <;> omega)) (by first | omega | (refine Nat.lt_of_lt_of_le (Nat.mod_lt _ ?_) ?_ <;> omega)) dX2_meets_128 (by decide) (fun c13 => ?_) (fun c13 => ?_)
        · refine lv_aload_n hx hb dX2_meets_147 rfl (lv_at hl 0 rfl) ?_
          refine lv_iload_n hx hb dX2_meets_148 rfl (lv_at hl 2 rfl) ?_
          refine m_put (ty := .int) hx hb hts hown hK hH hS 56 (by decide) q1508 rfl rfl rfl (by decide +kernel) rfl rfl dX2_meets_149 (fun H locs hH hS => ?_)
          have hM := hM.iS (k := 56) (by decide) (nI m9)
          refine lv_aload_n hx hb dX2_meets_152 rfl (lv_at hl 0 rfl) ?_
          refine lv_iload_n hx hb dX2_meets_153 rfl (lv_at hl 1 rfl) ?_
          refine m_put (ty := .int) hx hb hts hown hK hH hS 57 (by decide) q1509 rfl rfl rfl (by decide +kernel) rfl rfl dX2_meets_154 (fun H locs hH hS => ?_)
          have hM := hM.iS (k := 57) (by decide) (nI w)
          refine lv_aload_n hx hb dX2_meets_157 rfl (lv_at hl 0 rfl) ?_
          refine lv_aload_n hx hb dX2_meets_158 rfl (lv_at hl 0 rfl) ?_
          refine m_get hx hb hts hown hK hH 48 (by decide) q1500 rfl (v := .ref (o + 59)) rfl dX2_meets_159 ?_
          refine hp_callV (As := [.ref (o + 59)]) (rest := []) hx hb hml hown hts hPB hK hH hS (mt_keepsIn59 hK0 hO hM (mem := mem) (pl := pl) ((va_up_ne _ _ (by decide)).trans ((va_up_ne _ _ (by decide)).trans (h43))) hm7 h57) mset_o rfl rfl 1 (lw_V q1956 q1958 qs98 q107 q1959) (by decide +kernel) ⟨rfl, rfl⟩ (by decide) rfl hl.1 rfl (Nat.le_of_ble_eq_true rfl) (by decide) dX2_meets_162 (fun v14 h16 H locs hp15 _ hH hS => ?_)
          obtain ⟨rfl, U3, rfl, hM, hk3, hto3⟩ := hp15
          exact jn165 _ _ _ _ _ ⟨ls_cg hz1 ((va_up_ne _ _ (by decide)).trans (va_up_ne _ _ (by decide))) ((va_up_ne _ _ (by decide)).trans (va_up_ne _ _ (by decide))) (hk3 58 (by decide)) (hk3 61 (by decide)) (hk3 62 (by decide)), by rw [ml_upd (by omega)]; exact ⟨hm9, hw, (va_up_ne _ _ (by decide)).trans (va_up_self _ _ _), va_up_self _ _ _, hto3⟩, md_cg hz3 ((va_up_ne _ _ (by decide)).trans (va_up_ne _ _ (by decide))) (hk3 60 (by decide)), (kp.rf.up (by decide) _).up (by decide) _, hk3, hM, hH, hS, lv_sub hl [0, 1, 2] rfl⟩
        · refine lv_iload_n hx hb dX2_meets_131 rfl (lv_at hl 2 rfl) ?_
          refine lv_aload_n hx hb dX2_meets_132 rfl (lv_at hl 0 rfl) ?_
          refine m_get hx hb hts hown hK hH 56 (by decide) q1508 rfl (v := .int (nI b)) (congrArg Value.int (hz2.2.2.1)) dX2_meets_133 ?_
          refine lvN_ne (tgt := 165) hx hb (by first | omega | (refine Nat.lt_of_lt_of_le (Nat.mod_lt _ ?_) ?_ <;> omega)) (by first | omega | (refine Nat.lt_of_lt_of_le (Nat.mod_lt _ ?_) ?_ <;> omega)) dX2_meets_136 (by decide) (fun c17 => ?_) (fun c17 => ?_)
          · exact jn165 I V _ _ _ ⟨hz1, by rw [ml_old (by omega)]; exact hz2, hz3, kp.rf, kp.rf, hM, hH, hS, lv_sub hl [0, 1, 2] rfl⟩
          · refine lv_iload_n hx hb dX2_meets_139 rfl (lv_at hl 1 rfl) ?_
            refine lv_aload_n hx hb dX2_meets_140 rfl (lv_at hl 0 rfl) ?_
            refine m_get hx hb hts hown hK hH 57 (by decide) q1509 rfl (v := .int (nI a)) (congrArg Value.int (hz2.2.2.2.1)) dX2_meets_141 ?_
            refine lvN_ge (tgt := 165) hx hb (by first | omega | (refine Nat.lt_of_lt_of_le (Nat.mod_lt _ ?_) ?_ <;> omega)) (by first | omega | (refine Nat.lt_of_lt_of_le (Nat.mod_lt _ ?_) ?_ <;> omega)) dX2_meets_144 (by decide) (fun c18 => ?_) (fun c18 => ?_)
            · exact jn165 I V _ _ _ ⟨hz1, by rw [ml_old (by omega)]; exact hz2, hz3, kp.rf, kp.rf, hM, hH, hS, lv_sub hl [0, 1, 2] rfl⟩
            · refine lv_aload_n hx hb dX2_meets_147 rfl (lv_at hl 0 rfl) ?_
              refine lv_iload_n hx hb dX2_meets_148 rfl (lv_at hl 2 rfl) ?_
              refine m_put (ty := .int) hx hb hts hown hK hH hS 56 (by decide) q1508 rfl rfl rfl (by decide +kernel) rfl rfl dX2_meets_149 (fun H locs hH hS => ?_)
              have hM := hM.iS (k := 56) (by decide) (nI m9)
              refine lv_aload_n hx hb dX2_meets_152 rfl (lv_at hl 0 rfl) ?_
              refine lv_iload_n hx hb dX2_meets_153 rfl (lv_at hl 1 rfl) ?_
              refine m_put (ty := .int) hx hb hts hown hK hH hS 57 (by decide) q1509 rfl rfl rfl (by decide +kernel) rfl rfl dX2_meets_154 (fun H locs hH hS => ?_)
              have hM := hM.iS (k := 57) (by decide) (nI w)
              refine lv_aload_n hx hb dX2_meets_157 rfl (lv_at hl 0 rfl) ?_
              refine lv_aload_n hx hb dX2_meets_158 rfl (lv_at hl 0 rfl) ?_
              refine m_get hx hb hts hown hK hH 48 (by decide) q1500 rfl (v := .ref (o + 59)) rfl dX2_meets_159 ?_
              refine hp_callV (As := [.ref (o + 59)]) (rest := []) hx hb hml hown hts hPB hK hH hS (mt_keepsIn59 hK0 hO hM (mem := mem) (pl := pl) ((va_up_ne _ _ (by decide)).trans ((va_up_ne _ _ (by decide)).trans (h43))) hm7 h57) mset_o rfl rfl 1 (lw_V q1956 q1958 qs98 q107 q1959) (by decide +kernel) ⟨rfl, rfl⟩ (by decide) rfl hl.1 rfl (Nat.le_of_ble_eq_true rfl) (by decide) dX2_meets_162 (fun v19 h21 H locs hp20 _ hH hS => ?_)
              obtain ⟨rfl, U3, rfl, hM, hk3, hto3⟩ := hp20
              exact jn165 _ _ _ _ _ ⟨ls_cg hz1 ((va_up_ne _ _ (by decide)).trans (va_up_ne _ _ (by decide))) ((va_up_ne _ _ (by decide)).trans (va_up_ne _ _ (by decide))) (hk3 58 (by decide)) (hk3 61 (by decide)) (hk3 62 (by decide)), by rw [ml_upd (by omega)]; exact ⟨hm9, hw, (va_up_ne _ _ (by decide)).trans (va_up_self _ _ _), va_up_self _ _ _, hto3⟩, md_cg hz3 ((va_up_ne _ _ (by decide)).trans (va_up_ne _ _ (by decide))) (hk3 60 (by decide)), (kp.rf.up (by decide) _).up (by decide) _, hk3, hM, hH, hS, lv_sub hl [0, 1, 2] rfl⟩
  · subst cmd
    refine lv_iconst (v := nI 0) hx hb dX2_meets_7 (by decide) ?_
    refine lv_istore_n (lv' := [(3, .int (nI 0)), (0, .ref o), (1, .int (nI w)), (2, .int (nI m9))]) hx hb dX2_meets_8 rfl hl (by decide) rfl (fun ls hl => ?_)
    refine lv_iconst (v := nI 0) hx hb dX2_meets_9 (by decide) ?_
    refine lv_istore (lv' := [(4, .int (nI 0)), (3, .int (nI 0)), (0, .ref o), (1, .int (nI w)), (2, .int (nI m9))]) hx hb dX2_meets_10 hl (by decide) rfl (fun ls hl => ?_)
    refine w_loop1 (fun (i : Nat) => mem.length - i) (fun (i : Nat) H locs ls => (i ≤ mem.length) ∧ HP D CL (zA s0) (mset h K wd o I V J) H ∧ va_S (zA s0) s.heap H locs ∧ lv_has ls 5 [(0, .ref o), (1, .int (nI w)), (2, .int (nI m9)), (3, .int (nI (mvN S q mem pl i))), (4, .int (nI i))]) ?_ 0 ⟨Nat.zero_le _, hH, hS, lv_sub hl [2, 3, 4, 1, 0] rfl⟩
    intro i ih12 H locs ls hP
    obtain ⟨hii, hH, hS, hl⟩ := hP
    refine lv_iload hx hb dX2_meets_12 (lv_at hl 4 rfl) ?_
    refine lv_aload_n hx hb dX2_meets_14 rfl (lv_at hl 0 rfl) ?_
    refine m_get hx hb hts hown hK hH 43 (by decide) q1495 rfl (v := .int (nI mem.length)) (congrArg Value.int (h43)) dX2_meets_15 ?_
    refine lvN_ge (tgt := 76) hx hb (by first | omega | (refine Nat.lt_of_lt_of_le (Nat.mod_lt _ ?_) ?_ <;> omega)) (by first | omega | (refine Nat.lt_of_lt_of_le (Nat.mod_lt _ ?_) ?_ <;> omega)) dX2_meets_18 (by decide) (fun c22 => ?_) (fun c22 => ?_)
    · have ei : i = mem.length := by omega
      subst ei
      have hmv : mvN S q mem pl mem.length ≤ mem.length := cntN_le _ _
      refine lv_iload_n hx hb dX2_meets_76 rfl (lv_at hl 1 rfl) ?_
      refine lv_aload_n hx hb dX2_meets_77 rfl (lv_at hl 0 rfl) ?_
      refine m_get hx hb hts hown hK hH 58 (by decide) q1510 rfl (v := .int lim) (congrArg Value.int (h58)) dX2_meets_78 ?_
      refine lv_icmp_gt (tgt := 100) hx hb dX2_meets_81 (by decide) (fun cl => ?_) (fun cl => ?_)
      · exact hp_vret hx hb hr hlocks hH hS (by decide) (by decide) dX2_meets_100 (⟨rfl, _, _, rfl, hM, kp.rf, kp.rf, by rw [lf_t, md_lim cl]; exact ⟨hz1, hz2, hz3⟩⟩)
      · refine lv_aload_n hx hb dX2_meets_84 rfl (lv_at hl 0 rfl) ?_
        refine m_get hx hb hts hown hK hH 59 (by decide) q1511 rfl (v := .int (I 59)) (rfl) dX2_meets_85 ?_
        refine lv_iconst (v := (-1)) hx hb dX2_meets_88 (by decide) ?_
        refine lv_icmp_eq (tgt := 101) hx hb dX2_meets_89 (by decide) (fun cn => ?_) (fun cn => ?_)
        · have ez := md_none hz3 cn
          subst ez
          refine lv_aload_n hx hb dX2_meets_101 rfl (lv_at hl 0 rfl) ?_
          refine lv_iload_n hx hb dX2_meets_102 rfl (lv_at hl 3 rfl) ?_
          refine m_put (ty := .int) hx hb hts hown hK hH hS 59 (by decide) q1511 rfl rfl rfl (by decide +kernel) rfl rfl dX2_meets_103 (fun H locs hH hS => ?_)
          have hM := hM.iS (k := 59) (by decide) (nI (mvN S q mem pl (mem.length)))
          refine lv_aload_n hx hb dX2_meets_106 rfl (lv_at hl 0 rfl) ?_
          refine lv_aload_n hx hb dX2_meets_107 rfl (lv_at hl 0 rfl) ?_
          refine m_get hx hb hts hown hK hH 49 (by decide) q1501 rfl (v := .ref (o + 60)) rfl dX2_meets_108 ?_
          refine hp_callV (As := [.ref (o + 60)]) (rest := []) hx hb hml hown hts hPB hK hH hS (mt_keepsIn60 hK0 hO hM (mem := mem) (pl := pl) ((va_up_ne _ _ (by decide)).trans (h43)) hm7 h57) mset_o rfl rfl 1 (lw_V q1956 q1958 qs98 q107 q1959) (by decide +kernel) ⟨rfl, rfl⟩ (by decide) rfl hl.1 rfl (Nat.le_of_ble_eq_true rfl) (by decide) dX2_meets_111 (fun v23 h25 H locs hp24 _ hH hS => ?_)
          obtain ⟨rfl, U3, rfl, hM, hk3, hto3⟩ := hp24
          exact hp_vret hx hb hr hlocks hH hS (by decide) (by decide) dX2_meets_114 (⟨rfl, _, _, rfl, hM, kp.rf.up (by decide) _, hk3.wide (by decide), by rw [lf_t, md_new cl]; exact ⟨ls_cg hz1 (va_up_ne _ _ (by decide)) (va_up_ne _ _ (by decide)) (hk3 58 (by decide)) (hk3 61 (by decide)) (hk3 62 (by decide)), ml_cg hz2 (va_up_ne _ _ (by decide)) (va_up_ne _ _ (by decide)) (hk3 59 (by decide)), by have := cntN_le (fun i => decide (aIr S (mem.getD i 0) = nI q) && decide (aIp S (mem.getD i 0) ≠ nI (pl.getD i 0))) mem.length; unfold mvN; omega, va_up_self _ _ _, hto3⟩⟩)
        · obtain ⟨b, L, rfl⟩ := md_some hz3 cn
          have hzb := hz3.1
          refine lv_iload_n hx hb dX2_meets_92 rfl (lv_at hl 3 rfl) ?_
          refine lv_aload_n hx hb dX2_meets_93 rfl (lv_at hl 0 rfl) ?_
          refine m_get hx hb hts hown hK hH 59 (by decide) q1511 rfl (v := .int (nI b)) (congrArg Value.int (hz3.2.1)) dX2_meets_94 ?_
          refine lvN_lt (tgt := 101) hx hb (by first | omega | (refine Nat.lt_of_lt_of_le (Nat.mod_lt _ ?_) ?_ <;> omega)) (by first | omega | (refine Nat.lt_of_lt_of_le (Nat.mod_lt _ ?_) ?_ <;> omega)) dX2_meets_97 (by decide) (fun cb => ?_) (fun cb => ?_)
          · refine lv_aload_n hx hb dX2_meets_101 rfl (lv_at hl 0 rfl) ?_
            refine lv_iload_n hx hb dX2_meets_102 rfl (lv_at hl 3 rfl) ?_
            refine m_put (ty := .int) hx hb hts hown hK hH hS 59 (by decide) q1511 rfl rfl rfl (by decide +kernel) rfl rfl dX2_meets_103 (fun H locs hH hS => ?_)
            have hM := hM.iS (k := 59) (by decide) (nI (mvN S q mem pl (mem.length)))
            refine lv_aload_n hx hb dX2_meets_106 rfl (lv_at hl 0 rfl) ?_
            refine lv_aload_n hx hb dX2_meets_107 rfl (lv_at hl 0 rfl) ?_
            refine m_get hx hb hts hown hK hH 49 (by decide) q1501 rfl (v := .ref (o + 60)) rfl dX2_meets_108 ?_
            refine hp_callV (As := [.ref (o + 60)]) (rest := []) hx hb hml hown hts hPB hK hH hS (mt_keepsIn60 hK0 hO hM (mem := mem) (pl := pl) ((va_up_ne _ _ (by decide)).trans (h43)) hm7 h57) mset_o rfl rfl 1 (lw_V q1956 q1958 qs98 q107 q1959) (by decide +kernel) ⟨rfl, rfl⟩ (by decide) rfl hl.1 rfl (Nat.le_of_ble_eq_true rfl) (by decide) dX2_meets_111 (fun v26 h28 H locs hp27 _ hH hS => ?_)
            obtain ⟨rfl, U3, rfl, hM, hk3, hto3⟩ := hp27
            exact hp_vret hx hb hr hlocks hH hS (by decide) (by decide) dX2_meets_114 (⟨rfl, _, _, rfl, hM, kp.rf.up (by decide) _, hk3.wide (by decide), by rw [lf_t, md_less cl (by omega)]; exact ⟨ls_cg hz1 (va_up_ne _ _ (by decide)) (va_up_ne _ _ (by decide)) (hk3 58 (by decide)) (hk3 61 (by decide)) (hk3 62 (by decide)), ml_cg hz2 (va_up_ne _ _ (by decide)) (va_up_ne _ _ (by decide)) (hk3 59 (by decide)), by have := cntN_le (fun i => decide (aIr S (mem.getD i 0) = nI q) && decide (aIp S (mem.getD i 0) ≠ nI (pl.getD i 0))) mem.length; unfold mvN; omega, va_up_self _ _ _, hto3⟩⟩)
          · exact hp_vret hx hb hr hlocks hH hS (by decide) (by decide) dX2_meets_100 (⟨rfl, _, _, rfl, hM, kp.rf, kp.rf, by rw [lf_t, md_not cl (by omega)]; exact ⟨hz1, hz2, hz3⟩⟩)
    · refine lv_iload_n hx hb dX2_meets_21 rfl (lv_at hl 3 rfl) ?_
      refine lv_aload_n hx hb dX2_meets_22 rfl (lv_at hl 0 rfl) ?_
      refine m_get hx hb hts hown hK hH 22 (by decide) q1474 rfl (v := .ref (o + 36)) rfl dX2_meets_23 ?_
      refine lv_aload_n hx hb dX2_meets_26 rfl (lv_at hl 0 rfl) ?_
      refine m_get hx hb hts hown hK hH 41 (by decide) q1493 rfl (v := .ref (o + 53)) rfl dX2_meets_27 ?_
      refine lv_iload hx hb dX2_meets_30 (lv_at hl 4 rfl) ?_
      refine m_iald (n := 10) (j := i) (v := nI (mem.getD i 0)) hx hb hK hH (by decide) rfl (by first | omega | (refine Nat.lt_of_lt_of_le (Nat.mod_lt _ ?_) ?_ <;> omega)) (by decide) (hmm i (by omega)) dX2_meets_32 ?_
      have hmi := hme i (by omega)
      refine m_iald (n := 10) (j := mem.getD i 0) (v := aIr S (mem.getD i 0)) hx hb hK hH (by decide) rfl (by first | omega | (refine Nat.lt_of_lt_of_le (Nat.mod_lt _ ?_) ?_ <;> omega)) (by decide) (hM.ir (by first | omega | (refine Nat.lt_of_lt_of_le (Nat.mod_lt _ ?_) ?_ <;> omega))) dX2_meets_33 ?_
      refine lv_aload_n hx hb dX2_meets_34 rfl (lv_at hl 0 rfl) ?_
      refine m_get hx hb hts hown hK hH 53 (by decide) q1505 rfl (v := .int (nI q)) (congrArg Value.int (h53q)) dX2_meets_35 ?_
      refine lv_icmp_ne (tgt := 67) hx hb dX2_meets_38 (by decide) (fun cr => ?_) (fun cr => ?_)
      · refine lv_iconst (v := nI 0) hx hb dX2_meets_67 (by decide) ?_
        refine lv_iadd hx hb dX2_meets_68 ?_
        refine lv_top (y := nI (mvN S q mem pl (i + 1))) (cntN_f (Bool.and_eq_false_iff.mpr (Or.inl (decide_eq_false cr)))) ?_
        refine lv_istore_n (lv' := [(3, .int (nI (mvN S q mem pl (i + 1)))), (0, .ref o), (1, .int (nI w)), (2, .int (nI m9)), (4, .int (nI i))]) hx hb dX2_meets_69 rfl hl (by decide) rfl (fun ls hl => ?_)
        refine lv_iinc (v := nI (i + 1)) (lv' := [(4, .int (nI (i + 1))), (3, .int (nI (mvN S q mem pl (i + 1)))), (0, .ref o), (1, .int (nI w)), (2, .int (nI m9))]) hx hb dX2_meets_70 hl (k := 4) rfl (nI_add i 1) (by decide) rfl (fun ls hl => ?_)
        refine lv_goto (tgt := 12) hx hb dX2_meets_73 (by decide) ?_
        exact ih12 (i + 1) (by omega) H locs ls ⟨by omega, hH, hS, lv_sub hl [2, 3, 4, 1, 0] rfl⟩
      · refine lv_aload_n hx hb dX2_meets_41 rfl (lv_at hl 0 rfl) ?_
        refine m_get hx hb hts hown hK hH 23 (by decide) q1475 rfl (v := .ref (o + 37)) rfl dX2_meets_42 ?_
        refine lv_aload_n hx hb dX2_meets_45 rfl (lv_at hl 0 rfl) ?_
        refine m_get hx hb hts hown hK hH 41 (by decide) q1493 rfl (v := .ref (o + 53)) rfl dX2_meets_46 ?_
        refine lv_iload hx hb dX2_meets_49 (lv_at hl 4 rfl) ?_
        refine m_iald (n := 10) (j := i) (v := nI (mem.getD i 0)) hx hb hK hH (by decide) rfl (by first | omega | (refine Nat.lt_of_lt_of_le (Nat.mod_lt _ ?_) ?_ <;> omega)) (by decide) (hmm i (by omega)) dX2_meets_51 ?_
        refine m_iald (n := 10) (j := mem.getD i 0) (v := aIp S (mem.getD i 0)) hx hb hK hH (by decide) rfl (by first | omega | (refine Nat.lt_of_lt_of_le (Nat.mod_lt _ ?_) ?_ <;> omega)) (by decide) (hM.ip (by first | omega | (refine Nat.lt_of_lt_of_le (Nat.mod_lt _ ?_) ?_ <;> omega))) dX2_meets_52 ?_
        refine lv_aload_n hx hb dX2_meets_53 rfl (lv_at hl 0 rfl) ?_
        refine m_get hx hb hts hown hK hH 46 (by decide) q1498 rfl (v := .ref (o + 57)) rfl dX2_meets_54 ?_
        refine lv_iload hx hb dX2_meets_57 (lv_at hl 4 rfl) ?_
        refine m_iald (n := 10) (j := i) (v := nI (pl.getD i 0)) hx hb hK hH (by decide) rfl (by first | omega | (refine Nat.lt_of_lt_of_le (Nat.mod_lt _ ?_) ?_ <;> omega)) (by decide) (h57 i (by omega)) dX2_meets_59 ?_
        refine lv_icmp_eq (tgt := 67) hx hb dX2_meets_60 (by decide) (fun cp => ?_) (fun cp => ?_)
        · refine lv_iconst (v := nI 0) hx hb dX2_meets_67 (by decide) ?_
          refine lv_iadd hx hb dX2_meets_68 ?_
          refine lv_top (y := nI (mvN S q mem pl (i + 1))) (cntN_f (Bool.and_eq_false_iff.mpr (Or.inr (decide_eq_false (not_not_intro cp))))) ?_
          refine lv_istore_n (lv' := [(3, .int (nI (mvN S q mem pl (i + 1)))), (0, .ref o), (1, .int (nI w)), (2, .int (nI m9)), (4, .int (nI i))]) hx hb dX2_meets_69 rfl hl (by decide) rfl (fun ls hl => ?_)
          refine lv_iinc (v := nI (i + 1)) (lv' := [(4, .int (nI (i + 1))), (3, .int (nI (mvN S q mem pl (i + 1)))), (0, .ref o), (1, .int (nI w)), (2, .int (nI m9))]) hx hb dX2_meets_70 hl (k := 4) rfl (nI_add i 1) (by decide) rfl (fun ls hl => ?_)
          refine lv_goto (tgt := 12) hx hb dX2_meets_73 (by decide) ?_
          exact ih12 (i + 1) (by omega) H locs ls ⟨by omega, hH, hS, lv_sub hl [2, 3, 4, 1, 0] rfl⟩
        · refine lv_iconst (v := nI 1) hx hb dX2_meets_63 (by decide) ?_
          refine lv_goto (tgt := 68) hx hb dX2_meets_64 (by decide) ?_
          refine lv_iadd hx hb dX2_meets_68 ?_
          refine lv_top (y := nI (mvN S q mem pl (i + 1))) (cntN_t (Bool.and_eq_true_iff.mpr ⟨decide_eq_true cr, decide_eq_true cp⟩)) ?_
          refine lv_istore_n (lv' := [(3, .int (nI (mvN S q mem pl (i + 1)))), (0, .ref o), (1, .int (nI w)), (2, .int (nI m9)), (4, .int (nI i))]) hx hb dX2_meets_69 rfl hl (by decide) rfl (fun ls hl => ?_)
          refine lv_iinc (v := nI (i + 1)) (lv' := [(4, .int (nI (i + 1))), (3, .int (nI (mvN S q mem pl (i + 1)))), (0, .ref o), (1, .int (nI w)), (2, .int (nI m9))]) hx hb dX2_meets_70 hl (k := 4) rfl (nI_add i 1) (by decide) rfl (fun ls hl => ?_)
          refine lv_goto (tgt := 12) hx hb dX2_meets_73 (by decide) ?_
          exact ih12 (i + 1) (by omega) H locs ls ⟨by omega, hH, hS, lv_sub hl [2, 3, 4, 1, 0] rfl⟩
end MODEL
