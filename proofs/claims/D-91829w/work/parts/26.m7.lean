/-! by gen/mspec.py -/
set_option maxRecDepth 100000
section MODEL
variable {l : Launch} {s0 : State} {D : va_G} {K : Nat → ClassId} {wd : Nat → Nat} {o : Nat} {h : Hp} {I : Nat → Int32} {V : Nat → Nat → Int32} {J : Nat → Nat → Int64}
set_option maxHeartbeats 4000000 in
theorem mt_comingBits (hK0 : va_K D CL (TYS K) s0) {S : Ab} (hO : SOK S) (hM : MOK S I V) : Met l yX2_comingBits (ws_ yX2_comingBits cX2_comingBits 3 ((Option.some Jvm.ClassFile.FieldType.int))) (rmk 0 0 0) (va_Pc [.ref o] (PB s0 D CL (mset h K wd o I V J))) (QR s0 D CL (fun v h1 => v = some (.int (nI (comB S (aN S)))) ∧ h1 = mset h K wd o I V J)) 0 0 (zA s0) := by
  refine hp_met (by decide) (Nat.le_of_ble_eq_true rfl) hK0 ?_
  intro p e s m below meth cd ls hx hb hr hlocks hml hown hnm hts hK hPB hl hS hH hA
  have hl : lv_has ls 3 [(0, .ref o)] := hl
  have hown : s.vm.findClass RX2 = some m.cls := hown
  have hn := hO.n
  have hmk := hO.mk
  have hrl := hO.rl
  have hrm := hO.rm
  have hsz := hO.sz
  refine lv_iconst (v := nI 0) hx hb dX2_comingBits_0 (by decide) ?_
  refine lv_istore_n (lv' := [(1, .int (nI 0)), (0, .ref o)]) hx hb dX2_comingBits_1 rfl hl (by decide) rfl (fun ls hl => ?_)
  refine lv_iconst (v := nI 0) hx hb dX2_comingBits_2 (by decide) ?_
  refine lv_istore_n (lv' := [(2, .int (nI 0)), (1, .int (nI 0)), (0, .ref o)]) hx hb dX2_comingBits_3 rfl hl (by decide) rfl (fun ls hl => ?_)
  refine w_loop1 (fun (g : Nat) => aN S - g) (fun (g : Nat) H locs ls => (g ≤ aN S) ∧ HP D CL (zA s0) (mset h K wd o I V J) H ∧ va_S (zA s0) s.heap H locs ∧ lv_has ls 3 [(0, .ref o), (1, .int (nI (comB S g))), (2, .int (nI g))]) ?_ 0 ⟨Nat.zero_le _, hH, hS, lv_sub hl [2, 1, 0] rfl⟩
  intro g ih4 H locs ls hP
  obtain ⟨hgg, hH, hS, hl⟩ := hP
  refine lv_iload_n hx hb dX2_comingBits_4 rfl (lv_at hl 2 rfl) ?_
  refine lv_aload_n hx hb dX2_comingBits_5 rfl (lv_at hl 0 rfl) ?_
  refine m_get hx hb hts hown hK hH 15 (by decide) q1467 rfl (v := .ref (o + 29)) rfl dX2_comingBits_6 ?_
  refine lv_iconst (v := nI 0) hx hb dX2_comingBits_9 (by decide) ?_
  refine m_iald (n := 2) (j := 0) (v := nI (aN S)) hx hb hK hH (by decide) rfl (by first | omega | (refine Nat.lt_of_lt_of_le (Nat.mod_lt _ ?_) ?_ <;> omega)) (by decide) (hM.n) dX2_comingBits_10 ?_
  refine lvN_ge (tgt := 39) hx hb (by first | omega | (refine Nat.lt_of_lt_of_le (Nat.mod_lt _ ?_) ?_ <;> omega)) (by first | omega | (refine Nat.lt_of_lt_of_le (Nat.mod_lt _ ?_) ?_ <;> omega)) dX2_comingBits_11 (by decide) (fun c1 => ?_) (fun c1 => ?_)
  · have egn : g = aN S := by omega
    rw [egn] at hl
    refine lv_iload_n hx hb dX2_comingBits_39 rfl (lv_at hl 1 rfl) ?_
    exact hp_iret hx hb hr hlocks hH hS (by decide) (by decide) dX2_comingBits_40 (⟨rfl, rfl⟩)
  · refine lv_iload_n hx hb dX2_comingBits_14 rfl (lv_at hl 1 rfl) ?_
    refine lv_aload_n hx hb dX2_comingBits_15 rfl (lv_at hl 0 rfl) ?_
    refine m_get hx hb hts hown hK hH 20 (by decide) q1472 rfl (v := .ref (o + 34)) rfl dX2_comingBits_16 ?_
    refine lv_iload_n hx hb dX2_comingBits_19 rfl (lv_at hl 2 rfl) ?_
    refine m_zald (n := 10) (j := g) (v := zI (aCm S g)) hx hb hK hH (by decide) rfl (by first | omega | (refine Nat.lt_of_lt_of_le (Nat.mod_lt _ ?_) ?_ <;> omega)) (by decide) (hM.cm (by first | omega | (refine Nat.lt_of_lt_of_le (Nat.mod_lt _ ?_) ?_ <;> omega))) dX2_comingBits_20 ?_
    refine lvB_eq (tgt := 30) hx hb dX2_comingBits_21 (by decide) (fun cg => ?_) (fun cg => ?_)
    · refine lv_iconst (v := nI 0) hx hb dX2_comingBits_30 (by decide) ?_
      refine lv_ior hx hb dX2_comingBits_31 ?_
      refine lv_top (y := nI (comB S (g + 1))) (by rw [bi_or]; exact congrArg nI (by rw [comB, if_neg (by rw [cg]; decide)])) ?_
      refine lv_istore_n (lv' := [(1, .int (nI (comB S (g + 1)))), (0, .ref o), (2, .int (nI g))]) hx hb dX2_comingBits_32 rfl hl (by decide) rfl (fun ls hl => ?_)
      refine lv_iinc (v := nI (g + 1)) (lv' := [(2, .int (nI (g + 1))), (1, .int (nI (comB S (g + 1)))), (0, .ref o)]) hx hb dX2_comingBits_33 hl (k := 2) rfl (nI_add g 1) (by decide) rfl (fun ls hl => ?_)
      refine lv_goto (tgt := 4) hx hb dX2_comingBits_36 (by decide) ?_
      exact ih4 (g + 1) (by omega) H locs ls ⟨by omega, hH, hS, lv_sub hl [2, 1, 0] rfl⟩
    · refine lv_iconst (v := nI 1) hx hb dX2_comingBits_24 (by decide) ?_
      refine lv_iload_n hx hb dX2_comingBits_25 rfl (lv_at hl 2 rfl) ?_
      refine lv_ishl hx hb dX2_comingBits_26 ?_
      refine lv_top (y := nI (2 ^ g)) (bi_shl1 (by first | omega | (refine Nat.lt_of_lt_of_le (Nat.mod_lt _ ?_) ?_ <;> omega))) ?_
      refine lv_goto (tgt := 31) hx hb dX2_comingBits_27 (by decide) ?_
      refine lv_ior hx hb dX2_comingBits_31 ?_
      refine lv_top (y := nI (comB S (g + 1))) (by rw [bi_or]; exact congrArg nI (by rw [comB, if_pos cg])) ?_
      refine lv_istore_n (lv' := [(1, .int (nI (comB S (g + 1)))), (0, .ref o), (2, .int (nI g))]) hx hb dX2_comingBits_32 rfl hl (by decide) rfl (fun ls hl => ?_)
      refine lv_iinc (v := nI (g + 1)) (lv' := [(2, .int (nI (g + 1))), (1, .int (nI (comB S (g + 1)))), (0, .ref o)]) hx hb dX2_comingBits_33 hl (k := 2) rfl (nI_add g 1) (by decide) rfl (fun ls hl => ?_)
      refine lv_goto (tgt := 4) hx hb dX2_comingBits_36 (by decide) ?_
      exact ih4 (g + 1) (by omega) H locs ls ⟨by omega, hH, hS, lv_sub hl [2, 1, 0] rfl⟩
set_option maxHeartbeats 4000000 in
theorem mt_isFree (hK0 : va_K D CL (TYS K) s0) {S : Ab} (hO : SOK S) (hM : MOK S I V) {g : Nat} {d : Nat} (hg0 : g < aN S) (hd0 : d < 1024) (A : Nat → Nat → Bool) (hab : ∀ x y, x < aN S → y < aN S → V 44 (10 * x + y) = zI (A x y)) : Met l yX2_isFree (ws_ yX2_isFree cX2_isFree 4 ((Option.some Jvm.ClassFile.FieldType.boolean))) (rmk 0 0 0) (va_Pc [.ref o, .int (nI g), .int (nI d)] (PB s0 D CL (mset h K wd o I V J))) (QR s0 D CL (fun v h1 => v = some (.int (zI (freeG A (aN S) g d))) ∧ h1 = mset h K wd o I V J)) 0 0 (zA s0) := by
  refine hp_met (by decide) (Nat.le_of_ble_eq_true rfl) hK0 ?_
  intro p e s m below meth cd ls hx hb hr hlocks hml hown hnm hts hK hPB hl hS hH hA
  have hl : lv_has ls 4 [(0, .ref o), (1, .int (nI g)), (2, .int (nI d))] := hl
  have hown : s.vm.findClass RX2 = some m.cls := hown
  have hn := hO.n
  have hmk := hO.mk
  have hrl := hO.rl
  have hrm := hO.rm
  have hsz := hO.sz
  refine lv_iconst (v := nI 0) hx hb dX2_isFree_0 (by decide) ?_
  refine lv_istore_n (lv' := [(3, .int (nI 0)), (0, .ref o), (1, .int (nI g)), (2, .int (nI d))]) hx hb dX2_isFree_1 rfl hl (by decide) rfl (fun ls hl => ?_)
  refine w_loop1 (fun (x : Nat) => aN S - x) (fun (x : Nat) H locs ls => (x ≤ aN S) ∧ (anyB (fun x => A x g && !(Nat.testBit d x)) x = false) ∧ HP D CL (zA s0) (mset h K wd o I V J) H ∧ va_S (zA s0) s.heap H locs ∧ lv_has ls 4 [(0, .ref o), (1, .int (nI g)), (2, .int (nI d)), (3, .int (nI x))]) ?_ 0 ⟨Nat.zero_le _, rfl, hH, hS, lv_sub hl [1, 2, 3, 0] rfl⟩
  intro x ih2 H locs ls hP
  obtain ⟨hxx, hno, hH, hS, hl⟩ := hP
  refine lv_iload_n hx hb dX2_isFree_2 rfl (lv_at hl 3 rfl) ?_
  refine lv_aload_n hx hb dX2_isFree_3 rfl (lv_at hl 0 rfl) ?_
  refine m_get hx hb hts hown hK hH 15 (by decide) q1467 rfl (v := .ref (o + 29)) rfl dX2_isFree_4 ?_
  refine lv_iconst (v := nI 0) hx hb dX2_isFree_7 (by decide) ?_
  refine m_iald (n := 2) (j := 0) (v := nI (aN S)) hx hb hK hH (by decide) rfl (by first | omega | (refine Nat.lt_of_lt_of_le (Nat.mod_lt _ ?_) ?_ <;> omega)) (by decide) (hM.n) dX2_isFree_8 ?_
  refine lvN_ge (tgt := 42) hx hb (by first | omega | (refine Nat.lt_of_lt_of_le (Nat.mod_lt _ ?_) ?_ <;> omega)) (by first | omega | (refine Nat.lt_of_lt_of_le (Nat.mod_lt _ ?_) ?_ <;> omega)) dX2_isFree_9 (by decide) (fun c1 => ?_) (fun c1 => ?_)
  · refine lv_iconst (v := nI 1) hx hb dX2_isFree_42 (by decide) ?_
    exact hp_zret hx hb hr rfl hlocks hH hS (by decide) (by decide) dX2_isFree_43 (⟨congrArg some (congrArg Value.int (zI_1 (by unfold freeG; rw [show aN S = x by omega, hno]; rfl))), rfl⟩)
  · refine lv_aload_n hx hb dX2_isFree_12 rfl (lv_at hl 0 rfl) ?_
    refine m_get hx hb hts hown hK hH 32 (by decide) q1484 rfl (v := .ref (o + 44)) rfl dX2_isFree_13 ?_
    refine lv_bipush (v := nI 10) hx hb dX2_isFree_16 (by decide) ?_
    refine lv_iload_n hx hb dX2_isFree_18 rfl (lv_at hl 3 rfl) ?_
    refine lv_imul hx hb dX2_isFree_19 ?_
    refine lv_top (y := nI (10 * x)) (pk_mul _ _) ?_
    refine lv_iload_n hx hb dX2_isFree_20 rfl (lv_at hl 1 rfl) ?_
    refine lv_iadd hx hb dX2_isFree_21 ?_
    refine lv_top (y := nI ((10 * x) + g)) (nI_add _ _) ?_
    refine m_zald (n := 100) (j := (10 * x) + g) (v := zI (A x g)) hx hb hK hH (by decide) rfl (by first | omega | (refine Nat.lt_of_lt_of_le (Nat.mod_lt _ ?_) ?_ <;> omega)) (by decide) (hab x g (by omega) (by omega)) dX2_isFree_22 ?_
    refine lvB_eq (tgt := 36) hx hb dX2_isFree_23 (by decide) (fun ca => ?_) (fun ca => ?_)
    · refine lv_iinc (v := nI (x + 1)) (lv' := [(3, .int (nI (x + 1))), (0, .ref o), (1, .int (nI g)), (2, .int (nI d))]) hx hb dX2_isFree_36 hl (k := 3) rfl (nI_add x 1) (by decide) rfl (fun ls hl => ?_)
      refine lv_goto (tgt := 2) hx hb dX2_isFree_39 (by decide) ?_
      exact ih2 (x + 1) (by omega) H locs ls ⟨by omega, by rw [anyB_f (by simp [ca])]; exact hno, hH, hS, lv_sub hl [1, 2, 3, 0] rfl⟩
    · refine lv_iload_n hx hb dX2_isFree_26 rfl (lv_at hl 2 rfl) ?_
      refine lv_iload_n hx hb dX2_isFree_27 rfl (lv_at hl 3 rfl) ?_
      refine lv_ishr hx hb dX2_isFree_28 ?_
      refine lv_top (y := nI (d / 2 ^ x)) (bi_shr (by first | omega | (refine Nat.lt_of_lt_of_le (Nat.mod_lt _ ?_) ?_ <;> omega)) (by first | omega | (refine Nat.lt_of_lt_of_le (Nat.mod_lt _ ?_) ?_ <;> omega))) ?_
      refine lv_iconst (v := nI 1) hx hb dX2_isFree_29 (by decide) ?_
      refine lv_iand hx hb dX2_isFree_30 ?_
      refine lv_top (y := zI (Nat.testBit d x)) ((bi_and _ _).trans (bi_z _ _)) ?_
      refine lvB_ne (tgt := 36) hx hb dX2_isFree_31 (by decide) (fun cb => ?_) (fun cb => ?_)
      · refine lv_iinc (v := nI (x + 1)) (lv' := [(3, .int (nI (x + 1))), (0, .ref o), (1, .int (nI g)), (2, .int (nI d))]) hx hb dX2_isFree_36 hl (k := 3) rfl (nI_add x 1) (by decide) rfl (fun ls hl => ?_)
        refine lv_goto (tgt := 2) hx hb dX2_isFree_39 (by decide) ?_
        exact ih2 (x + 1) (by omega) H locs ls ⟨by omega, by rw [anyB_f (by simp [cb])]; exact hno, hH, hS, lv_sub hl [1, 2, 3, 0] rfl⟩
      · refine lv_iconst (v := nI 0) hx hb dX2_isFree_34 (by decide) ?_
        exact hp_zret hx hb hr rfl hlocks hH hS (by decide) (by decide) dX2_isFree_35 (⟨congrArg some (congrArg Value.int (zI_0 (by unfold freeG; rw [(anyB_iff _ _).mpr ⟨x, by omega, by simp [ca, cb]⟩]; rfl))), rfl⟩)
set_option maxHeartbeats 4000000 in
theorem mt_order (hK0 : va_K D CL (TYS K) s0) {S : Ab} (hO : SOK S) (hM : MOK S I V) (room k : Int32) : Met l yX2_order (ws_ yX2_order cX2_order 8 ((Option.some Jvm.ClassFile.FieldType.int))) (rmk 6 0 0) (va_Pc [.ref o, .int room, .int k] (PB s0 D CL (mset h K wd o I V J))) (QR s0 D CL (fun v h1 => v = some (.int (spOrder S room k)) ∧ ∃ P U, h1 = mset h K wd o P U J ∧ MOK S P U)) 0 0 (zA s0) := by
  refine hp_met (by decide) (Nat.le_of_ble_eq_true rfl) hK0 ?_
  intro p e s m below meth cd ls hx hb hr hlocks hml hown hnm hts hK hPB hl hS hH hA
  have hl : lv_has ls 8 [(0, .ref o), (1, .int room), (2, .int k)] := hl
  have hown : s.vm.findClass RX2 = some m.cls := hown
  have hn := hO.n
  have hmk := hO.mk
  have hrl := hO.rl
  have hrm := hO.rm
  have hsz := hO.sz
  refine lv_aload_n hx hb dX2_order_0 rfl (lv_at hl 0 rfl) ?_
  refine lv_iload_n hx hb dX2_order_1 rfl (lv_at hl 1 rfl) ?_
  refine hp_callV (As := [.int room]) (rest := []) hx hb hml hown hts hPB hK hH hS (mt_isRoom hK0 hO hM room) mset_o rfl rfl 1 (lw_V q1788 q1790 qs72 q107 q1791) (by decide +kernel) ⟨rfl, rfl⟩ (by decide) rfl hl.1 rfl (Nat.le_of_ble_eq_true rfl) (by decide) dX2_order_2 (fun v1 h3 H locs hp2 _ hH hS => ?_)
  obtain ⟨rfl, rfl⟩ := hp2
  refine lvB_ne (tgt := 10) hx hb dX2_order_5 (by decide) (fun cr0 => ?_) (fun cr0 => ?_)
  · obtain ⟨q, hq, rfl⟩ := inN_t cr0
    have eq := nI_clamp (show q < 2 ^ 31 by omega)
    refine lv_aload_n hx hb dX2_order_10 rfl (lv_at hl 0 rfl) ?_
    refine lv_iload_n hx hb dX2_order_11 rfl (lv_at hl 1 rfl) ?_
    refine lv_iconst (v := nI 0) hx hb dX2_order_12 (by decide) ?_
    refine hp_callV (As := [.int (nI q), .int (nI 0)]) (rest := []) hx hb hml hown hts hPB hK hH hS (mt_ranks hK0 hO hM (wo := 0) (by omega) (nI q)) mset_o rfl rfl 2 (lw_V q1861 q1863 qs81 q107 q1864) (by decide +kernel) ⟨rfl, rfl⟩ (by decide) rfl hl.1 rfl (Nat.le_of_ble_eq_true rfl) (by decide) dX2_order_13 (fun v4 h6 H locs hp5 _ hH hS => ?_)
    obtain ⟨rfl, U, rfl, hM, hrk, hkR⟩ := hp5
    obtain ⟨A, hAe⟩ : ∃ A, A = abv S (nI q) 0 := ⟨_, rfl⟩
    have hab : ∀ x y, x < aN S → y < aN S → U 44 (10 * x + y) = zI (A x y) := fun x y h1 h2 => by rw [hAe]; exact hrk.1 x y h1 h2
    have hpw := pow2_le hn
    refine lv_aload_n hx hb dX2_order_16 rfl (lv_at hl 0 rfl) ?_
    refine hp_callV (As := []) (rest := []) hx hb hml hown hts hPB hK hH hS (mt_comingBits hK0 hO hM) mset_o rfl rfl 0 (lw_V q1894 q1896 qs86 q107 q1897) (by decide +kernel) ⟨rfl, rfl⟩ (by decide) rfl hl.1 rfl (Nat.le_of_ble_eq_true rfl) (by decide) dX2_order_17 (fun v7 h9 H locs hp8 _ hH hS => ?_)
    obtain ⟨rfl, rfl⟩ := hp8
    refine lv_istore_n (lv' := [(3, .int (nI (comB S (aN S)))), (0, .ref o), (1, .int (nI q)), (2, .int k)]) hx hb dX2_order_20 rfl hl (by decide) rfl (fun ls hl => ?_)
    refine lv_iconst (v := nI 0) hx hb dX2_order_21 (by decide) ?_
    refine lv_istore (lv' := [(4, .int (nI 0)), (3, .int (nI (comB S (aN S)))), (0, .ref o), (1, .int (nI q)), (2, .int k)]) hx hb dX2_order_22 hl (by decide) rfl (fun ls hl => ?_)
    refine lv_iconst (v := nI 0) hx hb dX2_order_24 (by decide) ?_
    refine lv_istore (lv' := [(5, .int (nI 0)), (4, .int (nI 0)), (3, .int (nI (comB S (aN S)))), (0, .ref o), (1, .int (nI q)), (2, .int k)]) hx hb dX2_order_25 hl (by decide) rfl (fun ls hl => ?_)
    refine lv_iconst (v := nI 1) hx hb dX2_order_27 (by decide) ?_
    refine lv_istore (lv' := [(6, .int (nI 1)), (5, .int (nI 0)), (4, .int (nI 0)), (3, .int (nI (comB S (aN S)))), (0, .ref o), (1, .int (nI q)), (2, .int k)]) hx hb dX2_order_28 hl (by decide) rfl (fun ls hl => ?_)
    refine w_loop5 (fun (w : Nat) (d : Nat) (L : List Nat) (more : Bool) (U : Nat → Nat → Int32) => 2 * w + (if more then 1 else 0)) (fun (w : Nat) (d : Nat) (L : List Nat) (more : Bool) (U : Nat → Nat → Int32) H locs ls => (ordI S A w d L U) ∧ (w < 2 ^ aN S) ∧ (∀ x y, x < aN S → y < aN S → U 44 (10 * x + y) = zI (A x y)) ∧ (MOK S I U) ∧ (more = false → pickL A (bitsL (aN S) w) = none) ∧ HP D CL (zA s0) (mset h K wd o I U J) H ∧ va_S (zA s0) s.heap H locs ∧ lv_has ls 8 [(0, .ref o), (2, .int k), (3, .int (nI w)), (4, .int (nI d)), (5, .int (nI L.length)), (6, .int (zI more))]) ?_ (comB S (aN S)) 0 ([]) true U ⟨ord_0 hn, comB_lt _ _, hab, hM, fun q => (by cases q), hH, hS, lv_sub hl [4, 6, 3, 2, 1, 0] rfl⟩
    intro w d L more U ih30 H locs ls hP
    obtain ⟨hI, hwn, hab, hM, hmore, hH, hS, hl⟩ := hP
    refine lv_iload hx hb dX2_order_30 (lv_at hl 5 rfl) ?_
    refine lvB_eq (tgt := 122) hx hb dX2_order_32 (by decide) (fun cm => ?_) (fun cm => ?_)
    · subst cm
      refine lv_iload_n hx hb dX2_order_122 rfl (lv_at hl 2 rfl) ?_
      have hw10 := hI.1
      refine lvZ_ne (tgt := 149) hx hb (by first | omega | (refine Nat.lt_of_lt_of_le (Nat.mod_lt _ ?_) ?_ <;> omega)) dX2_order_123 (by decide) (fun cw => ?_) (fun cw => ?_)
      · refine lv_iconst (v := (-1)) hx hb dX2_order_149 (by decide) ?_
        exact hp_iret hx hb hr hlocks hH hS (by decide) (by decide) dX2_order_150 (⟨congrArg some (congrArg Value.int (by have e := ord_end hI (hmore rfl); rw [spOrder, if_pos cr0, ← hAe, e.1, if_neg (by have := e.2.2 hwn cw; simp; omega)])), _, _, rfl, hM⟩)
      · have hlc : L.length ≤ 10 := by have := hI.2.2.2.2.2.2; have := bitsL_len (aN S) (comB S (aN S)); unfold comL at *; omega
        refine lv_iload_n hx hb dX2_order_126 rfl (lv_at hl 1 rfl) ?_
        refine lv_i2l hx hb dX2_order_127 rfl ?_
        refine lv_lconst (v := 0) hx hb dX2_order_128 rfl ?_
        refine lv_iload hx hb dX2_order_129 (lv_at hl 4 rfl) ?_
        refine lv_iconst (v := nI 1) hx hb dX2_order_131 (by decide) ?_
        refine lv_isub hx hb dX2_order_132 ?_
        refine lv_i2l hx hb dX2_order_133 rfl ?_
        refine hp_callS (As := [.long (Int32.toInt64 k), .long 0, .long (Int32.toInt64 ((nI L.length) - (nI 1)))]) (rest := []) hx hb hml hown hts hPB hH hS (mt_in hK0 (Int32.toInt64 k) 0 (Int32.toInt64 ((nI L.length) - (nI 1)))) 3 (lw_S q1658 q1659 q107 q1660) (by decide +kernel) ⟨rfl, rfl⟩ (by decide) rfl hl.1 rfl (Nat.le_of_ble_eq_true rfl) (by decide) dX2_order_134 (fun v10 h12 H locs hp11 _ hH hS => ?_)
        obtain ⟨rfl, rfl⟩ := hp11
        refine lvB_eq (tgt := 149) hx hb dX2_order_137 (by decide) (fun ck => ?_) (fun ck => ?_)
        · rw [in_n (by omega)] at ck
          refine lv_iconst (v := (-1)) hx hb dX2_order_149 (by decide) ?_
          exact hp_iret hx hb hr hlocks hH hS (by decide) (by decide) dX2_order_150 (⟨congrArg some (congrArg Value.int (by have e := ord_end hI (hmore rfl); rw [spOrder, if_pos cr0, ← hAe, e.1, if_neg (by rw [← e.2.1 cw, ck]; simp)])), _, _, rfl, hM⟩)
        · rw [in_n (by omega)] at ck
          obtain ⟨k, hk, rfl⟩ := inN_t ck
          have ek := nI_clamp (show k < 2 ^ 31 by omega)
          refine lv_aload_n hx hb dX2_order_140 rfl (lv_at hl 0 rfl) ?_
          refine m_get hx hb hts hown hK hH 35 (by decide) q1487 rfl (v := .ref (o + 47)) rfl dX2_order_141 ?_
          refine lv_iload_n hx hb dX2_order_144 rfl (lv_at hl 1 rfl) ?_
          refine m_iald (n := 10) (j := k) (v := nI (L.getD k 0)) hx hb hK hH (by decide) rfl (by first | omega | (refine Nat.lt_of_lt_of_le (Nat.mod_lt _ ?_) ?_ <;> omega)) (by decide) (hI.2.2.2.2.1 k hk) dX2_order_145 ?_
          refine lv_goto (tgt := 150) hx hb dX2_order_146 (by decide) ?_
          exact hp_iret hx hb hr hlocks hH hS (by decide) (by decide) dX2_order_150 (⟨congrArg some (congrArg Value.int (by have e := ord_end hI (hmore rfl); rw [spOrder, if_pos cr0, ← hAe, e.1, if_pos (by rw [← e.2.1 cw, ck]; simp), ek])), _, _, rfl, hM⟩)
    · subst cm
      obtain ⟨w0, ew0⟩ : ∃ w0, w = w0 := ⟨_, rfl⟩
      refine lv_iconst (v := nI 0) hx hb dX2_order_35 (by decide) ?_
      refine lv_top (y := zI false) rfl ?_
      refine lv_istore (lv' := [(6, .int (zI false)), (0, .ref o), (2, .int k), (3, .int (nI w)), (4, .int (nI d)), (5, .int (nI L.length))]) hx hb dX2_order_36 hl (by decide) rfl (fun ls hl => ?_)
      refine lv_iconst (v := nI 0) hx hb dX2_order_38 (by decide) ?_
      refine lv_istore (lv' := [(7, .int (nI 0)), (6, .int (zI false)), (0, .ref o), (2, .int k), (3, .int (nI w)), (4, .int (nI d)), (5, .int (nI L.length))]) hx hb dX2_order_39 hl (by decide) rfl (fun ls hl => ?_)
      refine w_loop6 (fun (g : Nat) (w : Nat) (d : Nat) (L : List Nat) (more : Bool) (U : Nat → Nat → Int32) => aN S - g) (fun (g : Nat) (w : Nat) (d : Nat) (L : List Nat) (more : Bool) (U : Nat → Nat → Int32) H locs ls => (ordI S A w d L U) ∧ (w < 2 ^ aN S) ∧ (∀ x y, x < aN S → y < aN S → U 44 (10 * x + y) = zI (A x y)) ∧ (MOK S I U) ∧ (g ≤ aN S ∧ (more = false → w = w0 ∧ ∀ u, u < g → (Nat.testBit w u && freeG A (aN S) u d) = false) ∧ (more = true → w < w0) ∧ w ≤ w0) ∧ HP D CL (zA s0) (mset h K wd o I U J) H ∧ va_S (zA s0) s.heap H locs ∧ lv_has ls 8 [(0, .ref o), (2, .int k), (3, .int (nI w)), (4, .int (nI d)), (5, .int (nI L.length)), (6, .int (zI more)), (7, .int (nI g))]) ?_ 0 w d L false U ⟨hI, hwn, hab, hM, ⟨Nat.zero_le _, fun _ => ⟨ew0, fun u hu => absurd hu (Nat.not_lt_zero _)⟩, fun q => (by cases q), Nat.le_of_eq ew0⟩, hH, hS, lv_sub hl [2, 3, 4, 5, 6, 1, 0] rfl⟩
      intro g w d L more U ih41 H locs ls hP
      obtain ⟨hI, hwn, hab, hM, hgi, hH, hS, hl⟩ := hP
      have hI2 := hI.1
      have hI3 := hI.2.1
      refine lv_iload hx hb dX2_order_41 (lv_at hl 6 rfl) ?_
      refine lv_aload_n hx hb dX2_order_43 rfl (lv_at hl 0 rfl) ?_
      refine m_get hx hb hts hown hK hH 15 (by decide) q1467 rfl (v := .ref (o + 29)) rfl dX2_order_44 ?_
      refine lv_iconst (v := nI 0) hx hb dX2_order_47 (by decide) ?_
      refine m_iald (n := 2) (j := 0) (v := nI (aN S)) hx hb hK hH (by decide) rfl (by first | omega | (refine Nat.lt_of_lt_of_le (Nat.mod_lt _ ?_) ?_ <;> omega)) (by decide) (hM.n) dX2_order_48 ?_
      refine lvN_ge (tgt := 119) hx hb (by first | omega | (refine Nat.lt_of_lt_of_le (Nat.mod_lt _ ?_) ?_ <;> omega)) (by first | omega | (refine Nat.lt_of_lt_of_le (Nat.mod_lt _ ?_) ?_ <;> omega)) dX2_order_49 (by decide) (fun cge => ?_) (fun cge => ?_)
      · refine lv_goto (tgt := 30) hx hb dX2_order_119 (by decide) ?_
        exact ih30 w d L more U (by cases more with | true => (have := hgi.2.2.1 rfl; simp; omega) | false => (have := (hgi.2.1 rfl).1; simp; omega)) H locs ls ⟨hI, hwn, hab, hM, fun q => ord_none (fun x y hxy => by rw [hAe] at hxy; exact (abv_com hxy).1) hI cge (hgi.2.1 q).2, hH, hS, lv_sub hl [0, 1, 2, 3, 4, 5] rfl⟩
      · refine lv_iload hx hb dX2_order_52 (lv_at hl 5 rfl) ?_
        refine lvB_ne (tgt := 119) hx hb dX2_order_54 (by decide) (fun cm2 => ?_) (fun cm2 => ?_)
        · refine lv_goto (tgt := 30) hx hb dX2_order_119 (by decide) ?_
          exact ih30 w d L more U (by cases more with | true => (have := hgi.2.2.1 rfl; simp; omega) | false => (have := (hgi.2.1 rfl).1; simp; omega)) H locs ls ⟨hI, hwn, hab, hM, fun q => (by rw [cm2] at q; cases q), hH, hS, lv_sub hl [0, 1, 2, 3, 4, 5] rfl⟩
        · subst cm2
          refine lv_iload_n hx hb dX2_order_57 rfl (lv_at hl 2 rfl) ?_
          refine lv_iload hx hb dX2_order_58 (lv_at hl 6 rfl) ?_
          refine lv_ishr hx hb dX2_order_60 ?_
          refine lv_top (y := nI (w / 2 ^ g)) (bi_shr (by first | omega | (refine Nat.lt_of_lt_of_le (Nat.mod_lt _ ?_) ?_ <;> omega)) (by first | omega | (refine Nat.lt_of_lt_of_le (Nat.mod_lt _ ?_) ?_ <;> omega))) ?_
          refine lv_iconst (v := nI 1) hx hb dX2_order_61 (by decide) ?_
          refine lv_iand hx hb dX2_order_62 ?_
          refine lv_top (y := zI (Nat.testBit w g)) ((bi_and _ _).trans (bi_z _ _)) ?_
          refine lvB_eq (tgt := 113) hx hb dX2_order_63 (by decide) (fun cb => ?_) (fun cb => ?_)
          · refine lv_iinc (v := nI (g + 1)) (lv' := [(7, .int (nI (g + 1))), (0, .ref o), (2, .int k), (3, .int (nI w)), (4, .int (nI d)), (5, .int (nI L.length)), (6, .int (zI false))]) hx hb dX2_order_113 hl (k := 6) rfl (nI_add g 1) (by decide) rfl (fun ls hl => ?_)
            refine lv_goto (tgt := 41) hx hb dX2_order_116 (by decide) ?_
            exact ih41 (g + 1) w d L false U (by omega) H locs ls ⟨hI, hwn, hab, hM, ⟨by omega, fun _ => ⟨(hgi.2.1 rfl).1, ring_min (hgi.2.1 rfl).2 (by simp [cb])⟩, fun q => (by cases q), hgi.2.2.2⟩, hH, hS, lv_sub hl [1, 2, 3, 4, 5, 6, 0] rfl⟩
          · refine lv_aload_n hx hb dX2_order_66 rfl (lv_at hl 0 rfl) ?_
            refine lv_iload hx hb dX2_order_67 (lv_at hl 6 rfl) ?_
            refine lv_iload hx hb dX2_order_69 (lv_at hl 3 rfl) ?_
            refine hp_callV (As := [.int (nI g), .int (nI d)]) (rest := []) hx hb hml hown hts hPB hK hH hS (mt_isFree hK0 hO hM (g := g) (d := d) (by omega) (by omega) A hab) mset_o rfl rfl 2 (lw_V q1898 q1900 qs87 q107 q1901) (by decide +kernel) ⟨rfl, rfl⟩ (by decide) rfl hl.1 rfl (Nat.le_of_ble_eq_true rfl) (by decide) dX2_order_71 (fun v13 h15 H locs hp14 _ hH hS => ?_)
            obtain ⟨rfl, rfl⟩ := hp14
            refine lvB_ne (tgt := 80) hx hb dX2_order_74 (by decide) (fun cf => ?_) (fun cf => ?_)
            · have hst := ord_step hn (fun x y hxy => by rw [hAe] at hxy; exact (abv_com hxy).1) hI (by omega) cb cf (hgi.2.1 rfl).2
              have hl10 := hst.2.2
              refine lv_iload_n hx hb dX2_order_80 rfl (lv_at hl 2 rfl) ?_
              refine lv_iconst (v := nI 1) hx hb dX2_order_81 (by decide) ?_
              refine lv_iload hx hb dX2_order_82 (lv_at hl 6 rfl) ?_
              refine lv_ishl hx hb dX2_order_84 ?_
              refine lv_top (y := nI (2 ^ g)) (bi_shl1 (by first | omega | (refine Nat.lt_of_lt_of_le (Nat.mod_lt _ ?_) ?_ <;> omega))) ?_
              refine lv_iconst (v := (-1)) hx hb dX2_order_85 (by decide) ?_
              refine lv_ixor hx hb dX2_order_86 ?_
              refine lv_iand hx hb dX2_order_87 ?_
              refine lv_top (y := nI (w ^^^ (w &&& 2 ^ g))) (bi_andn _ _) ?_
              refine lv_istore_n (lv' := [(3, .int (nI (w ^^^ (w &&& 2 ^ g)))), (0, .ref o), (2, .int k), (4, .int (nI d)), (5, .int (nI L.length)), (6, .int (zI false)), (7, .int (nI g))]) hx hb dX2_order_88 rfl hl (by decide) rfl (fun ls hl => ?_)
              refine lv_iload hx hb dX2_order_89 (lv_at hl 3 rfl) ?_
              refine lv_iconst (v := nI 1) hx hb dX2_order_91 (by decide) ?_
              refine lv_iload hx hb dX2_order_92 (lv_at hl 6 rfl) ?_
              refine lv_ishl hx hb dX2_order_94 ?_
              refine lv_top (y := nI (2 ^ g)) (bi_shl1 (by first | omega | (refine Nat.lt_of_lt_of_le (Nat.mod_lt _ ?_) ?_ <;> omega))) ?_
              refine lv_ior hx hb dX2_order_95 ?_
              refine lv_top (y := nI (d ||| (2 ^ g))) (bi_or _ _) ?_
              refine lv_istore (lv' := [(4, .int (nI (d ||| (2 ^ g)))), (3, .int (nI (w ^^^ (w &&& 2 ^ g)))), (0, .ref o), (2, .int k), (5, .int (nI L.length)), (6, .int (zI false)), (7, .int (nI g))]) hx hb dX2_order_96 hl (by decide) rfl (fun ls hl => ?_)
              refine lv_aload_n hx hb dX2_order_98 rfl (lv_at hl 2 rfl) ?_
              refine m_get hx hb hts hown hK hH 35 (by decide) q1487 rfl (v := .ref (o + 47)) rfl dX2_order_99 ?_
              refine lv_iload hx hb dX2_order_102 (lv_at hl 4 rfl) ?_
              refine lv_iload hx hb dX2_order_104 (lv_at hl 6 rfl) ?_
              refine m_iast (n := 10) (j := L.length) hx hb hK hH hS (by decide) rfl (by first | omega | (refine Nat.lt_of_lt_of_le (Nat.mod_lt _ ?_) ?_ <;> omega)) (by decide) dX2_order_106 (fun H locs hH hS => ?_)
              have hM := hM.vS (k := 47) rfl L.length (nI g)
              refine lv_iinc (v := nI (L.length + 1)) (lv' := [(5, .int (nI (L.length + 1))), (4, .int (nI (d ||| (2 ^ g)))), (3, .int (nI (w ^^^ (w &&& 2 ^ g)))), (0, .ref o), (2, .int k), (6, .int (zI false)), (7, .int (nI g))]) hx hb dX2_order_107 hl (k := 4) rfl (nI_add L.length 1) (by decide) rfl (fun ls hl => ?_)
              refine lv_iconst (v := nI 1) hx hb dX2_order_110 (by decide) ?_
              refine lv_top (y := zI true) rfl ?_
              refine lv_istore (lv' := [(6, .int (zI true)), (5, .int (nI (L.length + 1))), (4, .int (nI (d ||| (2 ^ g)))), (3, .int (nI (w ^^^ (w &&& 2 ^ g)))), (0, .ref o), (2, .int k), (7, .int (nI g))]) hx hb dX2_order_111 hl (by decide) rfl (fun ls hl => ?_)
              rw [show L.length + 1 = (L ++ [g]).length by simp] at hl
              refine lv_iinc (v := nI (g + 1)) (lv' := [(7, .int (nI (g + 1))), (6, .int (zI true)), (5, .int (nI ((L ++ [g]).length))), (4, .int (nI (d ||| (2 ^ g)))), (3, .int (nI (w ^^^ (w &&& 2 ^ g)))), (0, .ref o), (2, .int k)]) hx hb dX2_order_113 hl (k := 6) rfl (nI_add g 1) (by decide) rfl (fun ls hl => ?_)
              refine lv_goto (tgt := 41) hx hb dX2_order_116 (by decide) ?_
              exact ih41 (g + 1) _ _ (L ++ [g]) true _ (by omega) H locs ls ⟨hst.1, Nat.lt_trans hst.2.1 hwn, fun x y h1 h2 => (congrFun (vset_off _ _ (by decide)) _).trans (hab x y h1 h2), hM, ⟨by omega, fun q => (by cases q), fun _ => Nat.lt_of_lt_of_le hst.2.1 hgi.2.2.2, Nat.le_of_lt (Nat.lt_of_lt_of_le hst.2.1 hgi.2.2.2)⟩, hH, hS, lv_sub hl [5, 6, 4, 3, 2, 1, 0] rfl⟩
            · refine lv_goto (tgt := 113) hx hb dX2_order_77 (by decide) ?_
              refine lv_iinc (v := nI (g + 1)) (lv' := [(7, .int (nI (g + 1))), (0, .ref o), (2, .int k), (3, .int (nI w)), (4, .int (nI d)), (5, .int (nI L.length)), (6, .int (zI false))]) hx hb dX2_order_113 hl (k := 6) rfl (nI_add g 1) (by decide) rfl (fun ls hl => ?_)
              refine lv_goto (tgt := 41) hx hb dX2_order_116 (by decide) ?_
              exact ih41 (g + 1) w d L false U (by omega) H locs ls ⟨hI, hwn, hab, hM, ⟨by omega, fun _ => ⟨(hgi.2.1 rfl).1, ring_min (hgi.2.1 rfl).2 (by simp [cf])⟩, fun q => (by cases q), hgi.2.2.2⟩, hH, hS, lv_sub hl [1, 2, 3, 4, 5, 6, 0] rfl⟩
  · refine lv_iconst (v := (-1)) hx hb dX2_order_8 (by decide) ?_
    exact hp_iret hx hb hr hlocks hH hS (by decide) (by decide) dX2_order_9 (⟨congrArg some (congrArg Value.int (by simp [spOrder, cr0])), _, _, rfl, hM⟩)
end MODEL
