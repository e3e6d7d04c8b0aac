/-! by gen/mspec.py -/
set_option maxRecDepth 100000
section MODEL
variable {l : Launch} {s0 : State} {D : va_G} {K : Nat → ClassId} {wd : Nat → Nat} {o : Nat} {h : Hp} {I : Nat → Int32} {V : Nat → Nat → Int32} {J : Nat → Nat → Int64}
set_option maxHeartbeats 4000000 in
theorem mt_few (hK0 : va_K D CL (TYS K) s0) {S : Ab} (hO : SOK S) (hM : MOK S I V) (room g : Int32) : Met l yX2_few (ws_ yX2_few cX2_few 4 ((Option.some Jvm.ClassFile.FieldType.int))) (rmk 12 0 0) (va_Pc [.ref o, .int room, .int g] (PB s0 D CL (mset h K wd o I V J))) (QR s0 D CL (fun v h1 => v = some (.int (spFew S room g)) ∧ ∃ P U, h1 = mset h K wd o P U J ∧ MOK S P U)) 0 0 (zA s0) := by
  refine hp_met (by decide) (Nat.le_of_ble_eq_true rfl) hK0 ?_
  intro p e s m below meth cd ls hx hb hr hlocks hml hown hnm hts hK hPB hl hS hH hA
  have hl : lv_has ls 4 [(0, .ref o), (1, .int room), (2, .int g)] := hl
  have hown : s.vm.findClass RX2 = some m.cls := hown
  have hn := hO.n
  have hmk := hO.mk
  have hrl := hO.rl
  have hrm := hO.rm
  have hsz := hO.sz
  refine lv_aload_n hx hb dX2_few_0 rfl (lv_at hl 0 rfl) ?_
  refine lv_iload_n hx hb dX2_few_1 rfl (lv_at hl 1 rfl) ?_
  refine hp_callV (As := [.int room]) (rest := []) hx hb hml hown hts hPB hK hH hS (mt_isRoom hK0 hO hM room) mset_o rfl rfl 1 (lw_V q1788 q1790 qs72 q107 q1791) (by decide +kernel) ⟨rfl, rfl⟩ (by decide) rfl hl.1 rfl (Nat.le_of_ble_eq_true rfl) (by decide) dX2_few_2 (fun v1 h3 H locs hp2 _ hH hS => ?_)
  obtain ⟨rfl, rfl⟩ := hp2
  refine lvB_eq (tgt := 30) hx hb dX2_few_5 (by decide) (fun cr0 => ?_) (fun cr0 => ?_)
  · refine lv_iconst (v := (-1)) hx hb dX2_few_30 (by decide) ?_
    exact hp_iret hx hb hr hlocks hH hS (by decide) (by decide) dX2_few_31 (⟨congrArg some (congrArg Value.int (by simp [spFew, cr0])), _, _, rfl, hM⟩)
  · obtain ⟨q, hq, rfl⟩ := inN_t cr0
    have eq := nI_clamp (show q < 2 ^ 31 by omega)
    refine lv_iload_n hx hb dX2_few_8 rfl (lv_at hl 2 rfl) ?_
    refine lv_iconst (v := (-1)) hx hb dX2_few_9 (by decide) ?_
    refine lv_icmp_eq (tgt := 32) hx hb dX2_few_10 (by decide) (fun cgm => ?_) (fun cgm => ?_)
    · subst cgm
      refine lv_aload_n hx hb dX2_few_32 rfl (lv_at hl 0 rfl) ?_
      refine lv_iload_n hx hb dX2_few_33 rfl (lv_at hl 1 rfl) ?_
      refine lv_iconst (v := nI 0) hx hb dX2_few_34 (by decide) ?_
      refine hp_callV (As := [.int (nI q), .int (nI 0)]) (rest := []) hx hb hml hown hts hPB hK hH hS (mt_ranks hK0 hO hM (wo := 0) (by omega) (nI q)) mset_o rfl rfl 2 (lw_V q1861 q1863 qs81 q107 q1864) (by decide +kernel) ⟨rfl, rfl⟩ (by decide) rfl hl.1 rfl (Nat.le_of_ble_eq_true rfl) (by decide) dX2_few_35 (fun v4 h6 H locs hp5 _ hH hS => ?_)
      obtain ⟨rfl, U, rfl, hM, hrk, hkR⟩ := hp5
      obtain ⟨A, hAe⟩ : ∃ A, A = abv S (nI q) 0 := ⟨_, rfl⟩
      have hab : ∀ x y, x < aN S → y < aN S → U 44 (10 * x + y) = zI (A x y) := fun x y h1 h2 => by rw [hAe]; exact hrk.1 x y h1 h2
      have hpw := pow2_le hn
      obtain ⟨E, hEe⟩ : ∃ E, E = evn S (nI q) := ⟨_, rfl⟩
      have hev : ∀ x y, x < aN S → y < aN S → U 45 (10 * x + y) = zI (E x y) := fun x y h1 h2 => by rw [hEe]; exact hrk.2 x y h1 h2
      refine lv_aload_n hx hb dX2_few_38 rfl (lv_at hl 0 rfl) ?_
      refine lv_iconst (v := nI 0) hx hb dX2_few_39 (by decide) ?_
      refine m_put (ty := .int) hx hb hts hown hK hH hS 43 (by decide) q1495 rfl rfl rfl (by decide +kernel) rfl rfl dX2_few_40 (fun H locs hH hS => ?_)
      have hM := hM.iS (k := 43) (by decide) (nI 0)
      refine lv_iconst (v := nI 0) hx hb dX2_few_43 (by decide) ?_
      refine lv_istore_n (lv' := [(3, .int (nI 0)), (0, .ref o), (1, .int (nI q)), (2, .int (-1))]) hx hb dX2_few_44 rfl hl (by decide) rfl (fun ls hl => ?_)
      refine w_loop3 (fun (x : Nat) (P : Nat → Int32) (U : Nat → Nat → Int32) => aN S - x) (fun (x : Nat) (P : Nat → Int32) (U : Nat → Nat → Int32) H locs ls => (x ≤ aN S) ∧ (P 43 = nI (comP S x).length) ∧ (∀ i, i < (comP S x).length → U 53 i = nI ((comP S x).getD i 0)) ∧ (∀ x y, x < aN S → y < aN S → U 44 (10 * x + y) = zI (A x y)) ∧ (∀ x y, x < aN S → y < aN S → U 45 (10 * x + y) = zI (E x y)) ∧ (MOK S P U) ∧ HP D CL (zA s0) (mset h K wd o P U J) H ∧ va_S (zA s0) s.heap H locs ∧ lv_has ls 4 [(0, .ref o), (2, .int (-1)), (3, .int (nI x))]) ?_ 0 (va_up I 43 (nI 0)) U ⟨Nat.zero_le _, rfl, fun i hi => absurd hi (Nat.not_lt_zero _), hab, hev, hM, hH, hS, lv_sub hl [1, 3, 0] rfl⟩
      intro x P U ih45 H locs ls hP
      obtain ⟨hxx, h43, h53, hab, hev, hM, hH, hS, hl⟩ := hP
      refine lv_iload_n hx hb dX2_few_45 rfl (lv_at hl 2 rfl) ?_
      refine lv_aload_n hx hb dX2_few_46 rfl (lv_at hl 0 rfl) ?_
      refine m_get hx hb hts hown hK hH 15 (by decide) q1467 rfl (v := .ref (o + 29)) rfl dX2_few_47 ?_
      refine lv_iconst (v := nI 0) hx hb dX2_few_50 (by decide) ?_
      refine m_iald (n := 2) (j := 0) (v := nI (aN S)) hx hb hK hH (by decide) rfl (by first | omega | (refine Nat.lt_of_lt_of_le (Nat.mod_lt _ ?_) ?_ <;> omega)) (by decide) (hM.n) dX2_few_51 ?_
      refine lvN_ge (tgt := 93) hx hb (by first | omega | (refine Nat.lt_of_lt_of_le (Nat.mod_lt _ ?_) ?_ <;> omega)) (by first | omega | (refine Nat.lt_of_lt_of_le (Nat.mod_lt _ ?_) ?_ <;> omega)) dX2_few_52 (by decide) (fun c7 => ?_) (fun c7 => ?_)
      · have exn : x = aN S := by omega
        obtain ⟨mem, hmeq⟩ : ∃ m, m = comP S (aN S) := ⟨_, rfl⟩
        rw [exn, ← hmeq] at h43 h53
        have hmlen : mem.length ≤ 10 := by rw [hmeq]; exact Nat.le_trans (comP_len _ _) hn
        obtain ⟨Qt, hQe⟩ : ∃ q, q = qtB A E (aN S) := ⟨_, rfl⟩
        refine lv_iconst (v := nI 0) hx hb dX2_few_93 (by decide) ?_
        refine lv_istore_n (lv' := [(3, .int (nI 0)), (0, .ref o), (2, .int (-1))]) hx hb dX2_few_94 rfl hl (by decide) rfl (fun ls hl => ?_)
        refine w_loop2 (fun (x : Nat) (U : Nat → Nat → Int32) => 2 ^ aN S - x) (fun (x : Nat) (U : Nat → Nat → Int32) H locs ls => (x ≤ 2 ^ aN S) ∧ (∀ z, z < x → U 54 z = zI (qtB A E (aN S) z)) ∧ (∀ i, i < mem.length → U 53 i = nI (mem.getD i 0)) ∧ (∀ x y, x < aN S → y < aN S → U 44 (10 * x + y) = zI (A x y)) ∧ (∀ x y, x < aN S → y < aN S → U 45 (10 * x + y) = zI (E x y)) ∧ (MOK S P U) ∧ HP D CL (zA s0) (mset h K wd o P U J) H ∧ va_S (zA s0) s.heap H locs ∧ lv_has ls 4 [(0, .ref o), (2, .int (-1)), (3, .int (nI x))]) ?_ 0 U ⟨Nat.zero_le _, fun z hz => absurd hz (Nat.not_lt_zero _), h53, hab, hev, hM, hH, hS, lv_sub hl [1, 2, 0] rfl⟩
        intro x U ih95 H locs ls hP
        obtain ⟨hxx, hqq, h53, hab, hev, hM, hH, hS, hl⟩ := hP
        refine lv_iload_n hx hb dX2_few_95 rfl (lv_at hl 2 rfl) ?_
        refine lv_iconst (v := nI 1) hx hb dX2_few_96 (by decide) ?_
        refine lv_aload_n hx hb dX2_few_97 rfl (lv_at hl 0 rfl) ?_
        refine m_get hx hb hts hown hK hH 15 (by decide) q1467 rfl (v := .ref (o + 29)) rfl dX2_few_98 ?_
        refine lv_iconst (v := nI 0) hx hb dX2_few_101 (by decide) ?_
        refine m_iald (n := 2) (j := 0) (v := nI (aN S)) hx hb hK hH (by decide) rfl (by first | omega | (refine Nat.lt_of_lt_of_le (Nat.mod_lt _ ?_) ?_ <;> omega)) (by decide) (hM.n) dX2_few_102 ?_
        refine lv_ishl hx hb dX2_few_103 ?_
        refine lv_top (y := nI (2 ^ (aN S))) (bi_shl1 (by first | omega | (refine Nat.lt_of_lt_of_le (Nat.mod_lt _ ?_) ?_ <;> omega))) ?_
        refine lvN_ge (tgt := 124) hx hb (by first | omega | (refine Nat.lt_of_lt_of_le (Nat.mod_lt _ ?_) ?_ <;> omega)) (by first | omega | (refine Nat.lt_of_lt_of_le (Nat.mod_lt _ ?_) ?_ <;> omega)) dX2_few_104 (by decide) (fun c8 => ?_) (fun c8 => ?_)
        · have hpt0 : ptI (aN S) mem [] Qt P U := ⟨h43, h53, fun z hz => by rw [hQe]; exact hqq z (by omega), fun h hh => absurd hh (Nat.not_lt_zero _)⟩
          have hex : (prt Qt mem.length mem []).isSome = true := prt_ex _ _ (fun z _ => by rw [hQe]; exact qt_one (fun u => by rw [hAe]; rw [← Bool.not_eq_true]; exact fun hq => (abv_com hq).2.2 rfl)) (by simp)
          refine lv_iconst (v := nI 0) hx hb dX2_few_124 (by decide) ?_
          refine lv_istore_n (lv' := [(3, .int (nI 0)), (0, .ref o), (2, .int (-1))]) hx hb dX2_few_125 rfl hl (by decide) rfl (fun ls hl => ?_)
          refine w_loop2 (fun (n9 : Nat) (U : Nat → Nat → Int32) => mem.length - n9) (fun (n9 : Nat) (U : Nat → Nat → Int32) H locs ls => (∀ u, u < n9 → (prt Qt u mem []).isSome = false) ∧ (n9 ≤ mem.length) ∧ (ptI (aN S) mem [] Qt P U) ∧ (MOK S P U) ∧ HP D CL (zA s0) (mset h K wd o P U J) H ∧ va_S (zA s0) s.heap H locs ∧ lv_has ls 4 [(0, .ref o), (2, .int (-1)), (3, .int (nI n9))]) ?_ 0 U ⟨fun u hu => absurd hu (Nat.not_lt_zero _), Nat.zero_le _, hpt0, hM, hH, hS, lv_sub hl [1, 2, 0] rfl⟩
          intro n9 U ih126 H locs ls hP
          obtain ⟨hno, hnl, hpt, hM, hH, hS, hl⟩ := hP
          refine lv_aload_n hx hb dX2_few_126 rfl (lv_at hl 0 rfl) ?_
          refine lv_iconst (v := nI 0) hx hb dX2_few_127 (by decide) ?_
          refine lv_iconst (v := nI 0) hx hb dX2_few_128 (by decide) ?_
          refine lv_iload_n hx hb dX2_few_129 rfl (lv_at hl 2 rfl) ?_
          refine hp_callV (As := [.int (nI 0), .int (nI 0), .int (nI n9)]) (rest := []) hx hb hml hown hts hPB hK hH hS (mt_parts hK0 hO hn (hmeq ▸ comP_ok hn) (Qt := Qt) (most := n9) (by omega) mem.length (k := 0) (hs := []) hM hpt (by omega) (fun h => by simp; exact Nat.two_pow_pos _) (by decide) rfl) mset_o rfl rfl 3 (lw_V q1927 q1929 qs92 q107 q1930) (by decide +kernel) ⟨rfl, rfl⟩ (by simp only [rmk]; omega) rfl hl.1 rfl (Nat.le_of_ble_eq_true rfl) (by decide) dX2_few_130 (fun v9 h11 H locs hp10 _ hH hS => ?_)
          obtain ⟨rfl, U5, rfl, hM, hkP, hpe⟩ := hp10
          rw [List.drop_zero] at hpe
          refine lvB_ne (tgt := 142) hx hb dX2_few_133 (by decide) (fun cs => ?_) (fun cs => ?_)
          · have cs : (prt Qt n9 mem []).isSome = true := cs
            obtain ⟨⟨r, a⟩, err⟩ := Option.isSome_iff_exists.mp cs
            rw [err] at hpe
            have hfn := few_eq cs (by omega) hno
            have hpk := prt_ok (nn := aN S) _ _ _ _ (fun i hi => (hmeq ▸ comP_ok hn).2.1 i hi) (fun h => by simp; exact Nat.two_pow_pos _) err
            refine lv_iload_n hx hb dX2_few_142 rfl (lv_at hl 1 rfl) ?_
            refine lv_iconst (v := (-1)) hx hb dX2_few_143 (by decide) ?_
            refine lv_icmp_ne (tgt := 151) hx hb dX2_few_144 (by decide) (fun cge => ?_) (fun cge => ?_)
            · exact absurd rfl cge
            · refine lv_iload_n hx hb dX2_few_147 rfl (lv_at hl 2 rfl) ?_
              refine lv_goto (tgt := 165) hx hb dX2_few_148 (by decide) ?_
              exact hp_iret hx hb hr hlocks hH hS (by decide) (by decide) dX2_few_165 (⟨congrArg some (congrArg Value.int (by rw [spFew, if_pos (by simp [cr0]), ← hAe, ← hEe, ← hQe, ← hmeq, hfn, err]; simp)), _, _, rfl, hM⟩)
          · have cs : (prt Qt n9 mem []).isSome = false := cs
            refine lv_iinc (v := nI (n9 + 1)) (lv' := [(3, .int (nI (n9 + 1))), (0, .ref o), (2, .int (-1))]) hx hb dX2_few_136 hl (k := 2) rfl (nI_add n9 1) (by decide) rfl (fun ls hl => ?_)
            refine lv_goto (tgt := 126) hx hb dX2_few_139 (by decide) ?_
            exact ih126 (n9 + 1) U5 (by have := few_lt hnl hex cs; omega) H locs ls ⟨ring_min hno cs, few_lt hnl hex cs, pt_of hpt hkP (fun h hh => absurd hh (Nat.not_lt_zero _)), hM, hH, hS, lv_sub hl [1, 2, 0] rfl⟩
        · refine lv_aload_n hx hb dX2_few_107 rfl (lv_at hl 0 rfl) ?_
          refine m_get hx hb hts hown hK hH 42 (by decide) q1494 rfl (v := .ref (o + 54)) rfl dX2_few_108 ?_
          refine lv_iload_n hx hb dX2_few_111 rfl (lv_at hl 2 rfl) ?_
          refine lv_aload_n hx hb dX2_few_112 rfl (lv_at hl 0 rfl) ?_
          refine lv_iload_n hx hb dX2_few_113 rfl (lv_at hl 2 rfl) ?_
          refine hp_callV (As := [.int (nI x)]) (rest := [.int (nI x), .ref (o + 54)]) hx hb hml hown hts hPB hK hH hS (mt_isQuiet hK0 hO hM (hp := x) (by omega) A hab E hev) mset_o rfl rfl 1 (lw_V q1923 q1925 qs91 q107 q1926) (by decide +kernel) ⟨rfl, rfl⟩ (by decide) rfl hl.1 rfl (Nat.le_of_ble_eq_true rfl) (by decide) dX2_few_114 (fun v12 h14 H locs hp13 _ hH hS => ?_)
          obtain ⟨rfl, U4, rfl, hM, hkQ⟩ := hp13
          refine m_zast (n := 1024) (j := x) (x' := zI (qtB A E (aN S) x)) hx hb hK hH hS (by decide) rfl (by first | omega | (refine Nat.lt_of_lt_of_le (Nat.mod_lt _ ?_) ?_ <;> omega)) (by decide) (zI_vnar _) dX2_few_117 (fun H locs hH hS => ?_)
          have hM := hM.vS (k := 54) rfl x (zI (qtB A E (aN S) x))
          refine lv_iinc (v := nI (x + 1)) (lv' := [(3, .int (nI (x + 1))), (0, .ref o), (2, .int (-1))]) hx hb dX2_few_118 hl (k := 2) rfl (nI_add x 1) (by decide) rfl (fun ls hl => ?_)
          refine lv_goto (tgt := 95) hx hb dX2_few_121 (by decide) ?_
          exact ih95 (x + 1) _ (by omega) H locs ls ⟨by omega, fun z hz => by rw [vset_in]; split; (rename_i e; rw [e]); exact (congrFun (hkQ 54 (by decide)) _).trans (hqq z (by omega)), fun i hi => by rw [vset_off _ _ (by decide)]; exact (congrFun (hkQ 53 (by decide)) _).trans (h53 i hi), fun x y h1 h2 => (congrFun ((vset_off _ _ (by decide)).trans (hkQ 44 (by decide))) _).trans (hab x y h1 h2), fun x y h1 h2 => (congrFun ((vset_off _ _ (by decide)).trans (hkQ 45 (by decide))) _).trans (hev x y h1 h2), hM, hH, hS, lv_sub hl [1, 2, 0] rfl⟩
      · refine lv_aload_n hx hb dX2_few_55 rfl (lv_at hl 0 rfl) ?_
        refine m_get hx hb hts hown hK hH 20 (by decide) q1472 rfl (v := .ref (o + 34)) rfl dX2_few_56 ?_
        refine lv_iload_n hx hb dX2_few_59 rfl (lv_at hl 2 rfl) ?_
        refine m_zald (n := 10) (j := x) (v := zI (aCm S x)) hx hb hK hH (by decide) rfl (by first | omega | (refine Nat.lt_of_lt_of_le (Nat.mod_lt _ ?_) ?_ <;> omega)) (by decide) (hM.cm (by first | omega | (refine Nat.lt_of_lt_of_le (Nat.mod_lt _ ?_) ?_ <;> omega))) dX2_few_60 ?_
        refine lvB_ne (tgt := 67) hx hb dX2_few_61 (by decide) (fun cc => ?_) (fun cc => ?_)
        · have hcl := comP_len S x
          refine lv_aload_n hx hb dX2_few_67 rfl (lv_at hl 0 rfl) ?_
          refine m_get hx hb hts hown hK hH 41 (by decide) q1493 rfl (v := .ref (o + 53)) rfl dX2_few_68 ?_
          refine lv_aload_n hx hb dX2_few_71 rfl (lv_at hl 0 rfl) ?_
          refine m_get hx hb hts hown hK hH 43 (by decide) q1495 rfl (v := .int (nI ((comP S x).length))) (congrArg Value.int (h43)) dX2_few_72 ?_
          refine lv_iload_n hx hb dX2_few_75 rfl (lv_at hl 2 rfl) ?_
          refine m_iast (n := 10) (j := (comP S x).length) hx hb hK hH hS (by decide) rfl (by first | omega | (refine Nat.lt_of_lt_of_le (Nat.mod_lt _ ?_) ?_ <;> omega)) (by decide) dX2_few_76 (fun H locs hH hS => ?_)
          have hM := hM.vS (k := 53) rfl ((comP S x).length) (nI x)
          refine lv_aload_n hx hb dX2_few_77 rfl (lv_at hl 0 rfl) ?_
          refine lv_dup hx hb dX2_few_78 rfl ?_
          refine m_get hx hb hts hown hK hH 43 (by decide) q1495 rfl (v := .int (nI ((comP S x).length))) (congrArg Value.int (h43)) dX2_few_79 ?_
          refine lv_iconst (v := nI 1) hx hb dX2_few_82 (by decide) ?_
          refine lv_iadd hx hb dX2_few_83 ?_
          refine lv_top (y := nI (((comP S x).length) + 1)) (nI_add _ _) ?_
          refine m_put (ty := .int) hx hb hts hown hK hH hS 43 (by decide) q1495 rfl rfl rfl (by decide +kernel) rfl rfl dX2_few_84 (fun H locs hH hS => ?_)
          have hM := hM.iS (k := 43) (by decide) (nI (((comP S x).length) + 1))
          refine lv_iinc (v := nI (x + 1)) (lv' := [(3, .int (nI (x + 1))), (0, .ref o), (2, .int (-1))]) hx hb dX2_few_87 hl (k := 2) rfl (nI_add x 1) (by decide) rfl (fun ls hl => ?_)
          refine lv_goto (tgt := 45) hx hb dX2_few_90 (by decide) ?_
          exact ih45 (x + 1) _ _ (by omega) H locs ls ⟨by omega, by rw [va_up_self, comP_t cc, List.length_append]; rfl, by rw [comP_t cc]; exact mem_push h53, fun x y h1 h2 => (congrFun (vset_off _ _ (by decide)) _).trans (hab x y h1 h2), fun x y h1 h2 => (congrFun (vset_off _ _ (by decide)) _).trans (hev x y h1 h2), hM, hH, hS, lv_sub hl [1, 2, 0] rfl⟩
        · refine lv_goto (tgt := 87) hx hb dX2_few_64 (by decide) ?_
          refine lv_iinc (v := nI (x + 1)) (lv' := [(3, .int (nI (x + 1))), (0, .ref o), (2, .int (-1))]) hx hb dX2_few_87 hl (k := 2) rfl (nI_add x 1) (by decide) rfl (fun ls hl => ?_)
          refine lv_goto (tgt := 45) hx hb dX2_few_90 (by decide) ?_
          exact ih45 (x + 1) P U (by omega) H locs ls ⟨by omega, by rw [comP_f cc]; exact h43, by rw [comP_f cc]; exact h53, hab, hev, hM, hH, hS, lv_sub hl [1, 2, 0] rfl⟩
    · refine lv_aload_n hx hb dX2_few_13 rfl (lv_at hl 0 rfl) ?_
      refine lv_iload_n hx hb dX2_few_14 rfl (lv_at hl 2 rfl) ?_
      refine hp_callV (As := [.int g]) (rest := []) hx hb hml hown hts hPB hK hH hS (mt_isGuest hK0 hO hM g) mset_o rfl rfl 1 (lw_V q1748 q1750 qs66 q107 q1751) (by decide +kernel) ⟨rfl, rfl⟩ (by decide) rfl hl.1 rfl (Nat.le_of_ble_eq_true rfl) (by decide) dX2_few_15 (fun v15 h17 H locs hp16 _ hH hS => ?_)
      obtain ⟨rfl, rfl⟩ := hp16
      refine lvB_eq (tgt := 30) hx hb dX2_few_18 (by decide) (fun cg0 => ?_) (fun cg0 => ?_)
      · refine lv_iconst (v := (-1)) hx hb dX2_few_30 (by decide) ?_
        exact hp_iret hx hb hr hlocks hH hS (by decide) (by decide) dX2_few_31 (⟨congrArg some (congrArg Value.int (by simp [spFew, eq, cr0, cgm, cg0])), _, _, rfl, hM⟩)
      · obtain ⟨j, hj, rfl⟩ := inN_t cg0
        have ej := nI_clamp (show j < 2 ^ 31 by omega)
        refine lv_aload_n hx hb dX2_few_21 rfl (lv_at hl 0 rfl) ?_
        refine m_get hx hb hts hown hK hH 20 (by decide) q1472 rfl (v := .ref (o + 34)) rfl dX2_few_22 ?_
        refine lv_iload_n hx hb dX2_few_25 rfl (lv_at hl 2 rfl) ?_
        refine m_zald (n := 10) (j := j) (v := zI (aCm S j)) hx hb hK hH (by decide) rfl (by first | omega | (refine Nat.lt_of_lt_of_le (Nat.mod_lt _ ?_) ?_ <;> omega)) (by decide) (hM.cm (by first | omega | (refine Nat.lt_of_lt_of_le (Nat.mod_lt _ ?_) ?_ <;> omega))) dX2_few_26 ?_
        refine lvB_ne (tgt := 32) hx hb dX2_few_27 (by decide) (fun cm0 => ?_) (fun cm0 => ?_)
        · refine lv_aload_n hx hb dX2_few_32 rfl (lv_at hl 0 rfl) ?_
          refine lv_iload_n hx hb dX2_few_33 rfl (lv_at hl 1 rfl) ?_
          refine lv_iconst (v := nI 0) hx hb dX2_few_34 (by decide) ?_
          refine hp_callV (As := [.int (nI q), .int (nI 0)]) (rest := []) hx hb hml hown hts hPB hK hH hS (mt_ranks hK0 hO hM (wo := 0) (by omega) (nI q)) mset_o rfl rfl 2 (lw_V q1861 q1863 qs81 q107 q1864) (by decide +kernel) ⟨rfl, rfl⟩ (by decide) rfl hl.1 rfl (Nat.le_of_ble_eq_true rfl) (by decide) dX2_few_35 (fun v18 h20 H locs hp19 _ hH hS => ?_)
          obtain ⟨rfl, U, rfl, hM, hrk, hkR⟩ := hp19
          obtain ⟨A, hAe⟩ : ∃ A, A = abv S (nI q) 0 := ⟨_, rfl⟩
          have hab : ∀ x y, x < aN S → y < aN S → U 44 (10 * x + y) = zI (A x y) := fun x y h1 h2 => by rw [hAe]; exact hrk.1 x y h1 h2
          have hpw := pow2_le hn
          obtain ⟨E, hEe⟩ : ∃ E, E = evn S (nI q) := ⟨_, rfl⟩
          have hev : ∀ x y, x < aN S → y < aN S → U 45 (10 * x + y) = zI (E x y) := fun x y h1 h2 => by rw [hEe]; exact hrk.2 x y h1 h2
          refine lv_aload_n hx hb dX2_few_38 rfl (lv_at hl 0 rfl) ?_
          refine lv_iconst (v := nI 0) hx hb dX2_few_39 (by decide) ?_
          refine m_put (ty := .int) hx hb hts hown hK hH hS 43 (by decide) q1495 rfl rfl rfl (by decide +kernel) rfl rfl dX2_few_40 (fun H locs hH hS => ?_)
          have hM := hM.iS (k := 43) (by decide) (nI 0)
          refine lv_iconst (v := nI 0) hx hb dX2_few_43 (by decide) ?_
          refine lv_istore_n (lv' := [(3, .int (nI 0)), (0, .ref o), (1, .int (nI q)), (2, .int (nI j))]) hx hb dX2_few_44 rfl hl (by decide) rfl (fun ls hl => ?_)
          refine w_loop3 (fun (x : Nat) (P : Nat → Int32) (U : Nat → Nat → Int32) => aN S - x) (fun (x : Nat) (P : Nat → Int32) (U : Nat → Nat → Int32) H locs ls => (x ≤ aN S) ∧ (P 43 = nI (comP S x).length) ∧ (∀ i, i < (comP S x).length → U 53 i = nI ((comP S x).getD i 0)) ∧ (∀ x y, x < aN S → y < aN S → U 44 (10 * x + y) = zI (A x y)) ∧ (∀ x y, x < aN S → y < aN S → U 45 (10 * x + y) = zI (E x y)) ∧ (MOK S P U) ∧ HP D CL (zA s0) (mset h K wd o P U J) H ∧ va_S (zA s0) s.heap H locs ∧ lv_has ls 4 [(0, .ref o), (2, .int (nI j)), (3, .int (nI x))]) ?_ 0 (va_up I 43 (nI 0)) U ⟨Nat.zero_le _, rfl, fun i hi => absurd hi (Nat.not_lt_zero _), hab, hev, hM, hH, hS, lv_sub hl [1, 3, 0] rfl⟩
          intro x P U ih45 H locs ls hP
          obtain ⟨hxx, h43, h53, hab, hev, hM, hH, hS, hl⟩ := hP
          refine lv_iload_n hx hb dX2_few_45 rfl (lv_at hl 2 rfl) ?_
          refine lv_aload_n hx hb dX2_few_46 rfl (lv_at hl 0 rfl) ?_
          refine m_get hx hb hts hown hK hH 15 (by decide) q1467 rfl (v := .ref (o + 29)) rfl dX2_few_47 ?_
          refine lv_iconst (v := nI 0) hx hb dX2_few_50 (by decide) ?_
          refine m_iald (n := 2) (j := 0) (v := nI (aN S)) hx hb hK hH (by decide) rfl (by first | omega | (refine Nat.lt_of_lt_of_le (Nat.mod_lt _ ?_) ?_ <;> omega)) (by decide) (hM.n) dX2_few_51 ?_
          refine lvN_ge (tgt := 93) hx hb (by first | omega | (refine Nat.lt_of_lt_of_le (Nat.mod_lt _ ?_) ?_ <;> omega)) (by first | omega | (refine Nat.lt_of_lt_of_le (Nat.mod_lt _ ?_) ?_ <;> omega)) dX2_few_52 (by decide) (fun c21 => ?_) (fun c21 => ?_)
          · have exn : x = aN S := by omega
            obtain ⟨mem, hmeq⟩ : ∃ m, m = comP S (aN S) := ⟨_, rfl⟩
            rw [exn, ← hmeq] at h43 h53
            have hmlen : mem.length ≤ 10 := by rw [hmeq]; exact Nat.le_trans (comP_len _ _) hn
            obtain ⟨Qt, hQe⟩ : ∃ q, q = qtB A E (aN S) := ⟨_, rfl⟩
            refine lv_iconst (v := nI 0) hx hb dX2_few_93 (by decide) ?_
            refine lv_istore_n (lv' := [(3, .int (nI 0)), (0, .ref o), (2, .int (nI j))]) hx hb dX2_few_94 rfl hl (by decide) rfl (fun ls hl => ?_)
            refine w_loop2 (fun (x : Nat) (U : Nat → Nat → Int32) => 2 ^ aN S - x) (fun (x : Nat) (U : Nat → Nat → Int32) H locs ls => (x ≤ 2 ^ aN S) ∧ (∀ z, z < x → U 54 z = zI (qtB A E (aN S) z)) ∧ (∀ i, i < mem.length → U 53 i = nI (mem.getD i 0)) ∧ (∀ x y, x < aN S → y < aN S → U 44 (10 * x + y) = zI (A x y)) ∧ (∀ x y, x < aN S → y < aN S → U 45 (10 * x + y) = zI (E x y)) ∧ (MOK S P U) ∧ HP D CL (zA s0) (mset h K wd o P U J) H ∧ va_S (zA s0) s.heap H locs ∧ lv_has ls 4 [(0, .ref o), (2, .int (nI j)), (3, .int (nI x))]) ?_ 0 U ⟨Nat.zero_le _, fun z hz => absurd hz (Nat.not_lt_zero _), h53, hab, hev, hM, hH, hS, lv_sub hl [1, 2, 0] rfl⟩
            intro x U ih95 H locs ls hP
            obtain ⟨hxx, hqq, h53, hab, hev, hM, hH, hS, hl⟩ := hP
            refine lv_iload_n hx hb dX2_few_95 rfl (lv_at hl 2 rfl) ?_
            refine lv_iconst (v := nI 1) hx hb dX2_few_96 (by decide) ?_
            refine lv_aload_n hx hb dX2_few_97 rfl (lv_at hl 0 rfl) ?_
            refine m_get hx hb hts hown hK hH 15 (by decide) q1467 rfl (v := .ref (o + 29)) rfl dX2_few_98 ?_
            refine lv_iconst (v := nI 0) hx hb dX2_few_101 (by decide) ?_
            refine m_iald (n := 2) (j := 0) (v := nI (aN S)) hx hb hK hH (by decide) rfl (by first | omega | (refine Nat.lt_of_lt_of_le (Nat.mod_lt _ ?_) ?_ <;> omega)) (by decide) (hM.n) dX2_few_102 ?_
            refine lv_ishl hx hb dX2_few_103 ?_
            refine lv_top (y := nI (2 ^ (aN S))) (bi_shl1 (by first | omega | (refine Nat.lt_of_lt_of_le (Nat.mod_lt _ ?_) ?_ <;> omega))) ?_
            refine lvN_ge (tgt := 124) hx hb (by first | omega | (refine Nat.lt_of_lt_of_le (Nat.mod_lt _ ?_) ?_ <;> omega)) (by first | omega | (refine Nat.lt_of_lt_of_le (Nat.mod_lt _ ?_) ?_ <;> omega)) dX2_few_104 (by decide) (fun c22 => ?_) (fun c22 => ?_)
            · have hpt0 : ptI (aN S) mem [] Qt P U := ⟨h43, h53, fun z hz => by rw [hQe]; exact hqq z (by omega), fun h hh => absurd hh (Nat.not_lt_zero _)⟩
              have hex : (prt Qt mem.length mem []).isSome = true := prt_ex _ _ (fun z _ => by rw [hQe]; exact qt_one (fun u => by rw [hAe]; rw [← Bool.not_eq_true]; exact fun hq => (abv_com hq).2.2 rfl)) (by simp)
              refine lv_iconst (v := nI 0) hx hb dX2_few_124 (by decide) ?_
              refine lv_istore_n (lv' := [(3, .int (nI 0)), (0, .ref o), (2, .int (nI j))]) hx hb dX2_few_125 rfl hl (by decide) rfl (fun ls hl => ?_)
              refine w_loop2 (fun (n9 : Nat) (U : Nat → Nat → Int32) => mem.length - n9) (fun (n9 : Nat) (U : Nat → Nat → Int32) H locs ls => (∀ u, u < n9 → (prt Qt u mem []).isSome = false) ∧ (n9 ≤ mem.length) ∧ (ptI (aN S) mem [] Qt P U) ∧ (MOK S P U) ∧ HP D CL (zA s0) (mset h K wd o P U J) H ∧ va_S (zA s0) s.heap H locs ∧ lv_has ls 4 [(0, .ref o), (2, .int (nI j)), (3, .int (nI n9))]) ?_ 0 U ⟨fun u hu => absurd hu (Nat.not_lt_zero _), Nat.zero_le _, hpt0, hM, hH, hS, lv_sub hl [1, 2, 0] rfl⟩
              intro n9 U ih126 H locs ls hP
              obtain ⟨hno, hnl, hpt, hM, hH, hS, hl⟩ := hP
              refine lv_aload_n hx hb dX2_few_126 rfl (lv_at hl 0 rfl) ?_
              refine lv_iconst (v := nI 0) hx hb dX2_few_127 (by decide) ?_
              refine lv_iconst (v := nI 0) hx hb dX2_few_128 (by decide) ?_
              refine lv_iload_n hx hb dX2_few_129 rfl (lv_at hl 2 rfl) ?_
              refine hp_callV (As := [.int (nI 0), .int (nI 0), .int (nI n9)]) (rest := []) hx hb hml hown hts hPB hK hH hS (mt_parts hK0 hO hn (hmeq ▸ comP_ok hn) (Qt := Qt) (most := n9) (by omega) mem.length (k := 0) (hs := []) hM hpt (by omega) (fun h => by simp; exact Nat.two_pow_pos _) (by decide) rfl) mset_o rfl rfl 3 (lw_V q1927 q1929 qs92 q107 q1930) (by decide +kernel) ⟨rfl, rfl⟩ (by simp only [rmk]; omega) rfl hl.1 rfl (Nat.le_of_ble_eq_true rfl) (by decide) dX2_few_130 (fun v23 h25 H locs hp24 _ hH hS => ?_)
              obtain ⟨rfl, U5, rfl, hM, hkP, hpe⟩ := hp24
              rw [List.drop_zero] at hpe
              refine lvB_ne (tgt := 142) hx hb dX2_few_133 (by decide) (fun cs => ?_) (fun cs => ?_)
              · have cs : (prt Qt n9 mem []).isSome = true := cs
                obtain ⟨⟨r, a⟩, err⟩ := Option.isSome_iff_exists.mp cs
                rw [err] at hpe
                have hfn := few_eq cs (by omega) hno
                have hpk := prt_ok (nn := aN S) _ _ _ _ (fun i hi => (hmeq ▸ comP_ok hn).2.1 i hi) (fun h => by simp; exact Nat.two_pow_pos _) err
                refine lv_iload_n hx hb dX2_few_142 rfl (lv_at hl 1 rfl) ?_
                refine lv_iconst (v := (-1)) hx hb dX2_few_143 (by decide) ?_
                refine lv_icmp_ne (tgt := 151) hx hb dX2_few_144 (by decide) (fun cge => ?_) (fun cge => ?_)
                · have hix := idx_at (show j ∈ mem by rw [hmeq]; exact comP_mem.mpr ⟨hj, cm0⟩)
                  have hok := hpk.2.2.2.2 _ hix.1
                  have h51 : U5 51 j = nI (a.getD (mem.idxOf j) 0) := by
                    have z := hpe.2.2 (mem.idxOf j) (by omega)
                    rw [Nat.zero_add, hix.2] at z
                    exact z
                  have hrl10 := hpk.2.1 (Nat.zero_le _)
                  have hm1 := hpk.2.2.1 (a.getD (mem.idxOf j) 0)
                  have hm2 : r.getD (a.getD (mem.idxOf j) 0) 0 ≠ 0 := fun e => by rw [e] at hok; simp at hok
                  refine lv_aload_n hx hb dX2_few_151 rfl (lv_at hl 0 rfl) ?_
                  refine m_get hx hb hts hown hK hH 40 (by decide) q1492 rfl (v := .ref (o + 52)) rfl dX2_few_152 ?_
                  refine lv_aload_n hx hb dX2_few_155 rfl (lv_at hl 0 rfl) ?_
                  refine m_get hx hb hts hown hK hH 39 (by decide) q1491 rfl (v := .ref (o + 51)) rfl dX2_few_156 ?_
                  refine lv_iload_n hx hb dX2_few_159 rfl (lv_at hl 1 rfl) ?_
                  refine m_iald (n := 10) (j := j) (v := nI (a.getD (mem.idxOf j) 0)) hx hb hK hH (by decide) rfl (by first | omega | (refine Nat.lt_of_lt_of_le (Nat.mod_lt _ ?_) ?_ <;> omega)) (by decide) (h51) dX2_few_160 ?_
                  refine m_iald (n := 10) (j := a.getD (mem.idxOf j) 0) (v := nI (r.getD (a.getD (mem.idxOf j) 0) 0)) hx hb hK hH (by decide) rfl (by first | omega | (refine Nat.lt_of_lt_of_le (Nat.mod_lt _ ?_) ?_ <;> omega)) (by decide) (hpe.2.1 _ hok.1) dX2_few_161 ?_
                  refine hp_callS (As := [.int (nI (r.getD (a.getD (mem.idxOf j) 0) 0))]) (rest := []) hx hb hml hown hts hPB hH hS (mt_ntz hK0 (x := r.getD (a.getD (mem.idxOf j) 0) 0) (by omega) (by omega)) 1 (lw_S q1931 q1385 q138 q1386) (by decide +kernel) ⟨rfl, rfl⟩ (by decide) rfl hl.1 rfl (Nat.le_of_ble_eq_true rfl) (by decide) dX2_few_162 (fun v26 h28 H locs hp27 _ hH hS => ?_)
                  obtain ⟨rfl, rfl⟩ := hp27
                  exact hp_iret hx hb hr hlocks hH hS (by decide) (by decide) dX2_few_165 (⟨congrArg some (congrArg Value.int (by rw [spFew, if_pos (by simp [cr0, cg0, ej, cm0]), ← hAe, ← hEe, ← hQe, ← hmeq, hfn, err]; simp [nI_m1 (show j < 2 ^ 31 by omega), ej, -List.getD_eq_getElem?_getD])), _, _, rfl, hM⟩)
                · exact absurd cge (nI_m1 (by omega))
              · have cs : (prt Qt n9 mem []).isSome = false := cs
                refine lv_iinc (v := nI (n9 + 1)) (lv' := [(3, .int (nI (n9 + 1))), (0, .ref o), (2, .int (nI j))]) hx hb dX2_few_136 hl (k := 2) rfl (nI_add n9 1) (by decide) rfl (fun ls hl => ?_)
                refine lv_goto (tgt := 126) hx hb dX2_few_139 (by decide) ?_
                exact ih126 (n9 + 1) U5 (by have := few_lt hnl hex cs; omega) H locs ls ⟨ring_min hno cs, few_lt hnl hex cs, pt_of hpt hkP (fun h hh => absurd hh (Nat.not_lt_zero _)), hM, hH, hS, lv_sub hl [1, 2, 0] rfl⟩
            · refine lv_aload_n hx hb dX2_few_107 rfl (lv_at hl 0 rfl) ?_
              refine m_get hx hb hts hown hK hH 42 (by decide) q1494 rfl (v := .ref (o + 54)) rfl dX2_few_108 ?_
              refine lv_iload_n hx hb dX2_few_111 rfl (lv_at hl 2 rfl) ?_
              refine lv_aload_n hx hb dX2_few_112 rfl (lv_at hl 0 rfl) ?_
              refine lv_iload_n hx hb dX2_few_113 rfl (lv_at hl 2 rfl) ?_
              refine hp_callV (As := [.int (nI x)]) (rest := [.int (nI x), .ref (o + 54)]) hx hb hml hown hts hPB hK hH hS (mt_isQuiet hK0 hO hM (hp := x) (by omega) A hab E hev) mset_o rfl rfl 1 (lw_V q1923 q1925 qs91 q107 q1926) (by decide +kernel) ⟨rfl, rfl⟩ (by decide) rfl hl.1 rfl (Nat.le_of_ble_eq_true rfl) (by decide) dX2_few_114 (fun v29 h31 H locs hp30 _ hH hS => ?_)
              obtain ⟨rfl, U4, rfl, hM, hkQ⟩ := hp30
              refine m_zast (n := 1024) (j := x) (x' := zI (qtB A E (aN S) x)) hx hb hK hH hS (by decide) rfl (by first | omega | (refine Nat.lt_of_lt_of_le (Nat.mod_lt _ ?_) ?_ <;> omega)) (by decide) (zI_vnar _) dX2_few_117 (fun H locs hH hS => ?_)
              have hM := hM.vS (k := 54) rfl x (zI (qtB A E (aN S) x))
              refine lv_iinc (v := nI (x + 1)) (lv' := [(3, .int (nI (x + 1))), (0, .ref o), (2, .int (nI j))]) hx hb dX2_few_118 hl (k := 2) rfl (nI_add x 1) (by decide) rfl (fun ls hl => ?_)
              refine lv_goto (tgt := 95) hx hb dX2_few_121 (by decide) ?_
              exact ih95 (x + 1) _ (by omega) H locs ls ⟨by omega, fun z hz => by rw [vset_in]; split; (rename_i e; rw [e]); exact (congrFun (hkQ 54 (by decide)) _).trans (hqq z (by omega)), fun i hi => by rw [vset_off _ _ (by decide)]; exact (congrFun (hkQ 53 (by decide)) _).trans (h53 i hi), fun x y h1 h2 => (congrFun ((vset_off _ _ (by decide)).trans (hkQ 44 (by decide))) _).trans (hab x y h1 h2), fun x y h1 h2 => (congrFun ((vset_off _ _ (by decide)).trans (hkQ 45 (by decide))) _).trans (hev x y h1 h2), hM, hH, hS, lv_sub hl [1, 2, 0] rfl⟩
          · refine lv_aload_n hx hb dX2_few_55 rfl (lv_at hl 0 rfl) ?_
            refine m_get hx hb hts hown hK hH 20 (by decide) q1472 rfl (v := .ref (o + 34)) rfl dX2_few_56 ?_
            refine lv_iload_n hx hb dX2_few_59 rfl (lv_at hl 2 rfl) ?_
            refine m_zald (n := 10) (j := x) (v := zI (aCm S x)) hx hb hK hH (by decide) rfl (by first | omega | (refine Nat.lt_of_lt_of_le (Nat.mod_lt _ ?_) ?_ <;> omega)) (by decide) (hM.cm (by first | omega | (refine Nat.lt_of_lt_of_le (Nat.mod_lt _ ?_) ?_ <;> omega))) dX2_few_60 ?_
            refine lvB_ne (tgt := 67) hx hb dX2_few_61 (by decide) (fun cc => ?_) (fun cc => ?_)
            · have hcl := comP_len S x
              refine lv_aload_n hx hb dX2_few_67 rfl (lv_at hl 0 rfl) ?_
              refine m_get hx hb hts hown hK hH 41 (by decide) q1493 rfl (v := .ref (o + 53)) rfl dX2_few_68 ?_
              refine lv_aload_n hx hb dX2_few_71 rfl (lv_at hl 0 rfl) ?_
              refine m_get hx hb hts hown hK hH 43 (by decide) q1495 rfl (v := .int (nI ((comP S x).length))) (congrArg Value.int (h43)) dX2_few_72 ?_
              refine lv_iload_n hx hb dX2_few_75 rfl (lv_at hl 2 rfl) ?_
              refine m_iast (n := 10) (j := (comP S x).length) hx hb hK hH hS (by decide) rfl (by first | omega | (refine Nat.lt_of_lt_of_le (Nat.mod_lt _ ?_) ?_ <;> omega)) (by decide) dX2_few_76 (fun H locs hH hS => ?_)
              have hM := hM.vS (k := 53) rfl ((comP S x).length) (nI x)
              refine lv_aload_n hx hb dX2_few_77 rfl (lv_at hl 0 rfl) ?_
              refine lv_dup hx hb dX2_few_78 rfl ?_
              refine m_get hx hb hts hown hK hH 43 (by decide) q1495 rfl (v := .int (nI ((comP S x).length))) (congrArg Value.int (h43)) dX2_few_79 ?_
              refine lv_iconst (v := nI 1) hx hb dX2_few_82 (by decide) ?_
              refine lv_iadd hx hb dX2_few_83 ?_
              refine lv_top (y := nI (((comP S x).length) + 1)) (nI_add _ _) ?_
              refine m_put (ty := .int) hx hb hts hown hK hH hS 43 (by decide) q1495 rfl rfl rfl (by decide +kernel) rfl rfl dX2_few_84 (fun H locs hH hS => ?_)
              have hM := hM.iS (k := 43) (by decide) (nI (((comP S x).length) + 1))
              refine lv_iinc (v := nI (x + 1)) (lv' := [(3, .int (nI (x + 1))), (0, .ref o), (2, .int (nI j))]) hx hb dX2_few_87 hl (k := 2) rfl (nI_add x 1) (by decide) rfl (fun ls hl => ?_)
              refine lv_goto (tgt := 45) hx hb dX2_few_90 (by decide) ?_
              exact ih45 (x + 1) _ _ (by omega) H locs ls ⟨by omega, by rw [va_up_self, comP_t cc, List.length_append]; rfl, by rw [comP_t cc]; exact mem_push h53, fun x y h1 h2 => (congrFun (vset_off _ _ (by decide)) _).trans (hab x y h1 h2), fun x y h1 h2 => (congrFun (vset_off _ _ (by decide)) _).trans (hev x y h1 h2), hM, hH, hS, lv_sub hl [1, 2, 0] rfl⟩
            · refine lv_goto (tgt := 87) hx hb dX2_few_64 (by decide) ?_
              refine lv_iinc (v := nI (x + 1)) (lv' := [(3, .int (nI (x + 1))), (0, .ref o), (2, .int (nI j))]) hx hb dX2_few_87 hl (k := 2) rfl (nI_add x 1) (by decide) rfl (fun ls hl => ?_)
              refine lv_goto (tgt := 45) hx hb dX2_few_90 (by decide) ?_
              exact ih45 (x + 1) P U (by omega) H locs ls ⟨by omega, by rw [comP_f cc]; exact h43, by rw [comP_f cc]; exact h53, hab, hev, hM, hH, hS, lv_sub hl [1, 2, 0] rfl⟩
        · refine lv_iconst (v := (-1)) hx hb dX2_few_30 (by decide) ?_
          exact hp_iret hx hb hr hlocks hH hS (by decide) (by decide) dX2_few_31 (⟨congrArg some (congrArg Value.int (by simp [spFew, eq, ej, cr0, cgm, cg0, cm0])), _, _, rfl, hM⟩)
end MODEL
