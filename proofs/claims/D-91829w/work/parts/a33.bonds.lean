/-! by gen/mspec.py -/
set_option maxRecDepth 100000
section MODEL
variable {l : Launch} {s0 : State} {D : va_G} {K : Nat → ClassId} {wd : Nat → Nat} {o : Nat} {h : Hp} {I : Nat → Int32} {V : Nat → Nat → Int32} {J : Nat → Nat → Int64}
theorem c_bn {j j2 n cells slots : Nat} {G : Prop} (h : cells ≤ 1 + n + j ∧ slots ≤ 3 + 3 * n + gsum j) (hj : j2 = j ∨ (j2 = j + 1 ∧ G)) : cells + 1 + 0 + (j2 - j) ≤ 1 + (n + 1) + j2 ∧ slots + 3 + 0 + (gsum j2 - gsum j) ≤ 3 + 3 * (n + 1) + gsum j2 := by
  rcases hj with rfl | ⟨rfl, -⟩
  · omega
  · have : gsum (j + 1) = gsum j + gcap (j + 1) := rfl
    omega
set_option maxHeartbeats 4000000 in
theorem mc_bonds (hK0 : va_K D CL (TYS K) s0) {av : Nat → Nat} {ed mi : Nat} (hG : GX s0 wd av ed mi) {S : Ab} {w : Nat → Nat} {Ls : Nat → List Nat} {Jn : Nat → Nat} {Z : Nat → Nat → Int32} (hO : SOK S) (hO2 : SO2 S) (hW : CW K ed S h w Ls Jn Z) {q : Nat} (hq0 : q < aRm S) : Met l yX0_bonds (ws_ yX0_bonds cX0_bonds 6 ((Option.some (Jvm.ClassFile.FieldType.object "java/util/ArrayList")))) (rmk 7 1094 6933) (va_Pc [.ref (w 0), .int (nI q)] (PB s0 D CL (h))) (QR s0 D CL (fun v h1 => ∃ la j tg tgs L, v = some (.ref la) ∧ AL (K 4) ed h1 la tg L j ∧ BNO Ls tgs h1 L (bnA S q) ∧ exH h h1 ∧ (∀ b e u, h b = some (e, u) → u < tg) ∧ tg < tgs ∧ 30 ≤ tg)) 1094 6933 (zA s0) := by
  refine hp_met (by decide) (Nat.le_of_ble_eq_true rfl) hK0 ?_
  intro p e s m below meth cd ls hx hb hr hlocks hml hown hnm hts hK hPB hl hS hH hA
  have hl : lv_has ls 6 [(0, .ref (w 0)), (1, .int (nI q))] := hl
  have hown : s.vm.findClass RX0 = some m.cls := hown
  have hn := hO.n
  have hmk := hO.mk
  have hrl := hO.rl
  have hrm := hO.rm
  have hsz := hO.sz
  obtain ⟨tg, htg, htl⟩ := hH.tagL
  have hnt := tag_no htl
  obtain ⟨tgs, htgs⟩ : ∃ q, q = tg + 1 := ⟨_, rfl⟩
  have hW0 := hW
  obtain ⟨la, hla, nla⟩ := hH.fr
  refine hp_new (ci := 20) (C := RJ2) (T := TJ2) (N := 3) (fs := [.int 0, .null, .int 0]) hx hb hts in_J2 tyJ2 tyJ2_ok hown (hts _ q210) (hts _ q159) (hts _ q106) hK hH hS hA rfl (by decide) (by first | decide | omega | (simp only [rmk]; omega)) (by first | decide | omega | (simp only [rmk]; omega)) tg dX0_bonds_0 (fun H _ hH hS => ?_)
  rw [← hla] at hH ⊢
  have hH : HP D CL (zA s0) (hset h la (.inr (20, [.int 0, .null, .int 0])) tg) H := hH
  have hW := hW.X (exH.new (e1 := .inr (20, [.int 0, .null, .int 0])) (u1 := tg) nla)
  have e1 : (hset h la (.inr (20, [.int 0, .null, .int 0])) tg) la = some (.inr (20, [.int 0, .null, .int 0]), tg) := hset_self _ _ _ _
  refine lv_dup hx hb dX0_bonds_3 rfl ?_
  refine hp_callI (As := []) (rest := [.ref la]) hx hb hml hown hts hPB hH hS (mj_ainit hK0 hG e1) 0 q211 q161 q106 q162 rfl (by decide +kernel) ⟨rfl, rfl⟩ (by first | decide | omega | (simp only [rmk]; omega)) rfl hl.1 rfl (Nat.le_of_ble_eq_true rfl) (by first | decide | omega | (simp only [rmk]; omega)) dX0_bonds_4 (fun v2 h4 H locs hp3 _ hH hS => ?_)
  obtain ⟨rfl, hq⟩ := hp3
  rw [hq, hset_hset] at hH
  have hel : (hset h la (.inr (20, [.int 0, .ref ed, .int 0])) tg) la = some (.inr (20, [.int 0, .ref ed, .int 0]), tg) := hset_self _ _ _ _
  have hW := hW0.X (exH.new (e1 := (.inr (20, [.int 0, .ref ed, .int 0]))) (u1 := tg) nla)
  refine lv_astore_n (lv' := [(2, .ref la), (0, .ref (w 0)), (1, .int (nI q))]) hx hb dX0_bonds_7 rfl hl (by decide) rfl (fun ls hl => ?_)
  refine lv_iconst (v := nI 0) hx hb dX0_bonds_8 (by decide) ?_
  refine lv_istore_n (lv' := [(3, .int (nI 0)), (2, .ref la), (0, .ref (w 0)), (1, .int (nI q))]) hx hb dX0_bonds_9 rfl hl (by decide) rfl (fun ls hl => ?_)
  refine w_loopC4 (fun (i : Nat) (L : List Nat) (j : Nat) (hh : Hp) => aRl S - i) (fun (i : Nat) (L : List Nat) (j : Nat) (hh : Hp) H locs ls cells slots => (i ≤ aRl S) ∧ (AL (K 4) ed hh la tg L j) ∧ (BNO Ls tgs hh L (bnL S q i 0)) ∧ (exH h hh) ∧ (j = 0 ∨ gcap (j - 1) + 1 ≤ L.length) ∧ (cells ≤ 1 + L.length + j ∧ slots ≤ 3 + 3 * L.length + gsum j) ∧ HP D CL (zA s0) hh H ∧ va_S (zA s0) s.heap H locs ∧ lv_has ls 6 [(0, .ref (w 0)), (1, .int (nI q)), (2, .ref la), (3, .int (nI i))]) ?_ 0 ([]) 0 (hset h la (.inr (20, [.int 0, .ref ed, .int 0])) tg) ⟨Nat.zero_le _, al_nil (mcn := 0) (d := ed) hel (by decide) (Or.inl ⟨rfl, rfl⟩), ⟨by unfold bnL; rw [bnQ_0]; rfl, fun i hi => absurd hi (Nat.not_lt_zero _)⟩, exH.new nla, Or.inl rfl, by decide, hH, hS, lv_sub hl [2, 3, 1, 0] rfl⟩
  intro i L j hh ih10 H locs ls cells slots hP
  obtain ⟨hi, hAl, hSl, hxB, hjl, hcs, hH, hS, hl⟩ := hP
  have hW := hW0.X hxB
  have hll := hSl.1
  have hsl := bnL_len (S := S) q i 0 (by omega)
  have hgs9 := gs13 j (AL.j13 hAl)
  have hj13 := AL.j13 hAl
  refine lv_iload_n hx hb dX0_bonds_10 rfl (lv_at hl 3 rfl) ?_
  refine lv_aload_n hx hb dX0_bonds_11 rfl (lv_at hl 0 rfl) ?_
  refine hp_get (C := RX0) (T := TX0) (N := 14) (v := .ref (w 5)) hx hb hts in_X0 hown hK hH hW.x rfl 4 (by decide) (hts _ q216) (fun _ z => z) rfl dX0_bonds_12 ?_
  refine hp_siz hx hb hml hown hts hPB hK0 hK hH hS hG (hW.li 2 (by decide)) hW.nr q807 (by first | decide | (simp only [rmk]; omega)) hl.1 rfl (Nat.le_of_ble_eq_true rfl) (by first | decide | omega | (simp only [rmk]; omega)) dX0_bonds_15 (fun H locs hH hS => ?_)
  refine lvN_ge (tgt := 118) hx hb (by first | omega | (refine Nat.lt_of_lt_of_le (Nat.mod_lt _ ?_) ?_ <;> omega)) (by first | omega | (refine Nat.lt_of_lt_of_le (Nat.mod_lt _ ?_) ?_ <;> omega)) dX0_bonds_18 (by decide) (fun c5 => ?_) (fun c5 => ?_)
  · refine lv_aload_n hx hb dX0_bonds_118 rfl (lv_at hl 2 rfl) ?_
    exact hp_aret hx hb hr (Or.inl ⟨_, rfl⟩) (Or.inr ⟨_, rfl⟩) hlocks hH hS (by first | decide | omega | (simp only [rmk]; omega)) (by first | decide | omega | (simp only [rmk]; omega)) dX0_bonds_119 (⟨la, j, tg, tgs, L, rfl, hAl, (show bnA S q = bnL S q i 0 from by unfold bnA bnL; rw [show i = aRl S by omega, bnQ_0, List.append_nil]) ▸ hSl, hxB, htl, by omega, htg⟩)
  · refine lv_aload_n hx hb dX0_bonds_21 rfl (lv_at hl 0 rfl) ?_
    refine hp_get (C := RX0) (T := TX0) (N := 14) (v := .ref (w 5)) hx hb hts in_X0 hown hK hH hW.x rfl 4 (by decide) (hts _ q216) (fun _ z => z) rfl dX0_bonds_22 ?_
    refine lv_iload_n hx hb dX0_bonds_25 rfl (lv_at hl 3 rfl) ?_
    refine hp_lget hx hb hml hown hts hPB hK0 hK hH hS hG (hW.li 2 (by decide)) (k9 := i) (by rw [hW.nr]; omega) q808 (by first | decide | (simp only [rmk]; omega)) hl.1 rfl (Nat.le_of_ble_eq_true rfl) (by first | decide | omega | (simp only [rmk]; omega)) dX0_bonds_26 (fun H locs hH hS => ?_)
    have hn6 := cN_le S i
    have hkhn6 := hO.kd (show i < aRl S by omega)
    have hwhn6 := hO.wt (show i < aRl S by omega)
    refine hp_castR hx hb hown (hts _ q812) hG hPB hK hH (hW.r (show i < aRl S by omega)) (hO.kd (show i < aRl S by omega)) dX0_bonds_29 ?_
    refine lv_astore (lv' := [(4, .ref ((Ls 2).getD i 0)), (0, .ref (w 0)), (1, .int (nI q)), (2, .ref la), (3, .int (nI i))]) hx hb dX0_bonds_32 hl (by decide) rfl (fun ls hl => ?_)
    refine lv_iconst (v := nI 0) hx hb dX0_bonds_34 (by decide) ?_
    refine lv_istore (lv' := [(5, .int (nI 0)), (4, .ref ((Ls 2).getD i 0)), (0, .ref (w 0)), (1, .int (nI q)), (2, .ref la), (3, .int (nI i))]) hx hb dX0_bonds_35 hl (by decide) rfl (fun ls hl => ?_)
    refine w_loopC4 (fun (k : Nat) (L : List Nat) (j : Nat) (hh : Hp) => cN S i - k) (fun (k : Nat) (L : List Nat) (j : Nat) (hh : Hp) H locs ls cells slots => (k ≤ cN S i) ∧ (AL (K 4) ed hh la tg L j) ∧ (BNO Ls tgs hh L (bnL S q i k)) ∧ (exH h hh) ∧ (j = 0 ∨ gcap (j - 1) + 1 ≤ L.length) ∧ (cells ≤ 1 + L.length + j ∧ slots ≤ 3 + 3 * L.length + gsum j) ∧ HP D CL (zA s0) hh H ∧ va_S (zA s0) s.heap H locs ∧ lv_has ls 6 [(0, .ref (w 0)), (1, .int (nI q)), (2, .ref la), (3, .int (nI i)), (4, .ref ((Ls 2).getD i 0)), (5, .int (nI k))]) ?_ 0 L j hh ⟨Nat.zero_le _, hAl, hSl, hxB, hjl, hcs, hH, hS, lv_sub hl [2, 3, 4, 5, 1, 0] rfl⟩
    intro k L j hh ih37 H locs ls cells slots hP
    obtain ⟨hk, hAl, hSl, hxB, hjl, hcs, hH, hS, hl⟩ := hP
    have hW := hW0.X hxB
    have hll := hSl.1
    have hsl := bnL_len (S := S) q i k (by omega)
    have hgs9 := gs13 j (AL.j13 hAl)
    have hj13 := AL.j13 hAl
    have hc90 := cN_90 S i
    refine lv_iload hx hb dX0_bonds_37 (lv_at hl 5 rfl) ?_
    refine lv_aload hx hb dX0_bonds_39 (lv_at hl 4 rfl) ?_
    refine hp_gR6N hx hb hts hown hK hH (hW.r (show i < aRl S by omega)) (hO.kd (show i < aRl S by omega)) (hG.nf hPB q746) dX0_bonds_41 ?_
    refine hp_siz hx hb hml hown hts hPB hK0 hK hH hS hG (hW.cl (show i < aRl S by omega)) (hW.nc (show i < aRl S by omega)) q807 (by first | decide | (simp only [rmk]; omega)) hl.1 rfl (Nat.le_of_ble_eq_true rfl) (by first | decide | omega | (simp only [rmk]; omega)) dX0_bonds_44 (fun H locs hH hS => ?_)
    refine lvN_ge (tgt := 112) hx hb (by first | omega | (refine Nat.lt_of_lt_of_le (Nat.mod_lt _ ?_) ?_ <;> omega)) (by first | omega | (refine Nat.lt_of_lt_of_le (Nat.mod_lt _ ?_) ?_ <;> omega)) dX0_bonds_47 (by decide) (fun c7 => ?_) (fun c7 => ?_)
    · refine lv_iinc (v := nI (i + 1)) (lv' := [(3, .int (nI (i + 1))), (0, .ref (w 0)), (1, .int (nI q)), (2, .ref la), (4, .ref ((Ls 2).getD i 0)), (5, .int (nI k))]) hx hb dX0_bonds_112 hl (k := 3) rfl (nI_add i 1) (by decide) rfl (fun ls hl => ?_)
      refine lv_goto (tgt := 10) hx hb dX0_bonds_115 (by decide) ?_
      exact ih10 (i + 1) L j hh (by omega) H locs ls _ _ ⟨by omega, hAl, by rw [← bn_next (k := k) (Or.inl (by omega))]; exact hSl, hxB, hjl, hcs, hH, hS, lv_sub hl [1, 2, 3, 0] rfl⟩
    · refine lv_aload hx hb dX0_bonds_50 (lv_at hl 4 rfl) ?_
      refine lv_iload_n hx hb dX0_bonds_52 rfl (lv_at hl 1 rfl) ?_
      refine hp_cin hx hb hml hown hts hPB hK0 hK hH hS hG (hW.r (show i < aRl S by omega)) (hO.kd (show i < aRl S by omega)) q993 (by first | decide | (simp only [rmk]; omega)) hl.1 rfl (Nat.le_of_ble_eq_true rfl) (by first | decide | omega | (simp only [rmk]; omega)) dX0_bonds_53 (fun H locs hH hS => ?_)
      refine lv_top (y := zI (cnt S i (nI q))) rfl ?_
      refine lvB_eq (tgt := 112) hx hb dX0_bonds_56 (by decide) (fun cc => ?_) (fun cc => ?_)
      · refine lv_iinc (v := nI (i + 1)) (lv' := [(3, .int (nI (i + 1))), (0, .ref (w 0)), (1, .int (nI q)), (2, .ref la), (4, .ref ((Ls 2).getD i 0)), (5, .int (nI k))]) hx hb dX0_bonds_112 hl (k := 3) rfl (nI_add i 1) (by decide) rfl (fun ls hl => ?_)
        refine lv_goto (tgt := 10) hx hb dX0_bonds_115 (by decide) ?_
        exact ih10 (i + 1) L j hh (by omega) H locs ls _ _ ⟨by omega, hAl, by rw [← bn_next (k := k) (Or.inr cc)]; exact hSl, hxB, hjl, hcs, hH, hS, lv_sub hl [1, 2, 3, 0] rfl⟩
      · refine lv_aload_n hx hb dX0_bonds_59 rfl (lv_at hl 0 rfl) ?_
        refine lv_aload hx hb dX0_bonds_60 (lv_at hl 4 rfl) ?_
        refine hp_gR6N hx hb hts hown hK hH (hW.r (show i < aRl S by omega)) (hO.kd (show i < aRl S by omega)) (hG.nf hPB q746) dX0_bonds_62 ?_
        refine lv_iload hx hb dX0_bonds_65 (lv_at hl 5 rfl) ?_
        refine hp_lget hx hb hml hown hts hPB hK0 hK hH hS hG (hW.cl (show i < aRl S by omega)) (k9 := k) (by rw [hW.nc (show i < aRl S by omega)]; omega) q808 (by first | decide | (simp only [rmk]; omega)) hl.1 rfl (Nat.le_of_ble_eq_true rfl) (by first | decide | omega | (simp only [rmk]; omega)) dX0_bonds_67 (fun H locs hH hS => ?_)
        have hc8 := cXY hO hO2 (show i < aRl S by omega) (show k < cN S i by omega)
        refine va_castE hx hb hown (hts _ q1004) (hp_rec hK hH (hW.c (show i < aRl S by omega) (show k < cN S i by omega)) rfl) dX0_bonds_70 ?_
        refine hp_callV (As := [.ref ((Ls (10 + i)).getD k 0)]) (rest := []) hx hb hml hown hts hPB hK hH hS (mc_areComing hK0 hG hO hO2 hW (cx := cX S i k) (cy := cY S i k) (hW.c (show i < aRl S by omega) (show k < cN S i by omega)) (by omega) (by omega)) hW.x rfl rfl 1 (lw_V q1005 q1007 qs28 q102 q1008) (by decide +kernel) ⟨rfl, rfl⟩ (by first | decide | omega | (simp only [rmk]; omega)) rfl hl.1 rfl (Nat.le_of_ble_eq_true rfl) (by first | decide | omega | (simp only [rmk]; omega)) dX0_bonds_73 (fun v9 h11 H locs hp10 _ hH hS => ?_)
        obtain ⟨rfl, hq⟩ := hp10
        rw [hq] at hH
        refine lvB_eq (tgt := 106) hx hb dX0_bonds_76 (by decide) (fun c1 => ?_) (fun c1 => ?_)
        · refine lv_iinc (v := nI (k + 1)) (lv' := [(5, .int (nI (k + 1))), (0, .ref (w 0)), (1, .int (nI q)), (2, .ref la), (3, .int (nI i)), (4, .ref ((Ls 2).getD i 0))]) hx hb dX0_bonds_106 hl (k := 5) rfl (nI_add k 1) (by decide) rfl (fun ls hl => ?_)
          refine lv_goto (tgt := 37) hx hb dX0_bonds_109 (by decide) ?_
          exact ih37 (k + 1) L j hh (by omega) H locs ls _ _ ⟨by omega, hAl, by rw [bn_f (by omega) cc c1]; exact hSl, hxB, hjl, hcs, hH, hS, lv_sub hl [1, 2, 3, 4, 5, 0] rfl⟩
        · refine lv_aload_n hx hb dX0_bonds_79 rfl (lv_at hl 2 rfl) ?_
          obtain ⟨nw12, hnw12, nnw12⟩ := hH.fr
          refine hp_new (ci := 17) (C := RX22) (T := TX22) (N := 3) (fs := [.null, .int 0, .int 0]) hx hb hts in_X22 tyX22 tyX22_ok hown (hts _ q1208) (hts _ q1209) (hts _ q141) hK hH hS hA rfl (by decide) (by first | decide | omega | (simp only [rmk]; omega)) (by first | decide | omega | (simp only [rmk]; omega)) tgs dX0_bonds_80 (fun H _ hH hS => ?_)
          rw [← hnw12] at hH ⊢
          have hH : HP D CL (zA s0) (hset hh nw12 (.inr (17, [.null, .int 0, .int 0])) tgs) H := hH
          have hW := hW.X (exH.new (e1 := .inr (17, [.null, .int 0, .int 0])) (u1 := tgs) nnw12)
          have e13 : (hset hh nw12 (.inr (17, [.null, .int 0, .int 0])) tgs) nw12 = some (.inr (17, [.null, .int 0, .int 0]), tgs) := hset_self _ _ _ _
          refine lv_dup hx hb dX0_bonds_83 rfl ?_
          refine lv_aload hx hb dX0_bonds_84 (lv_at hl 4 rfl) ?_
          refine lv_aload hx hb dX0_bonds_86 (lv_at hl 4 rfl) ?_
          refine hp_gR6N hx hb hts hown hK hH (hW.r (show i < aRl S by omega)) (hO.kd (show i < aRl S by omega)) (hG.nf hPB q746) dX0_bonds_88 ?_
          refine lv_iload hx hb dX0_bonds_91 (lv_at hl 5 rfl) ?_
          refine hp_lget hx hb hml hown hts hPB hK0 hK hH hS hG (hW.cl (show i < aRl S by omega)) (k9 := k) (by rw [hW.nc (show i < aRl S by omega)]; omega) q808 (by first | decide | (simp only [rmk]; omega)) hl.1 rfl (Nat.le_of_ble_eq_true rfl) (by first | decide | omega | (simp only [rmk]; omega)) dX0_bonds_93 (fun H locs hH hS => ?_)
          have hc14 := cXY hO hO2 (show i < aRl S by omega) (show k < cN S i by omega)
          refine va_castE hx hb hown (hts _ q1004) (hp_rec hK hH (hW.c (show i < aRl S by omega) (show k < cN S i by omega)) rfl) dX0_bonds_96 ?_
          refine hp_callI (As := [.ref ((Ls 2).getD i 0), .ref ((Ls (10 + i)).getD k 0)]) (rest := [.ref nw12, .ref la]) hx hb hml hown hts hPB hH hS (mc_bond hK0 hG e13 (hW.c (show i < aRl S by omega) (show k < cN S i by omega))) 2 q1210 q1211 q141 q1212 rfl (by decide +kernel) ⟨rfl, rfl⟩ (by first | decide | omega | (simp only [rmk]; omega)) rfl hl.1 rfl (Nat.le_of_ble_eq_true rfl) (by first | decide | omega | (simp only [rmk]; omega)) dX0_bonds_99 (fun v15 h17 H locs hp16 _ hH hS => ?_)
          obtain ⟨rfl, hq⟩ := hp16
          rw [hq, hset_hset] at hH
          have hec : (hset hh nw12 (.inr (17, [.ref ((Ls 2).getD i 0), .int (nI (cX S i k)), .int (nI (cY S i k))])) tgs) nw12 = some (.inr (17, [.ref ((Ls 2).getD i 0), .int (nI (cX S i k)), .int (nI (cY S i k))]), tgs) := hset_self _ _ _ _
          have hxn : exH hh (hset hh nw12 (.inr (17, [.ref ((Ls 2).getD i 0), .int (nI (cX S i k)), .int (nI (cY S i k))])) tgs) := exH.new nnw12
          refine hp_add2 hx hb hml hown hts hPB hK0 hK hH hS hG (x := nw12) (hAl.X hxn) (⟨_, _, _, hec⟩) (by rw [gcap_13]; omega) q810 (by first | decide | (simp only [rmk]; omega)) (fun e => by have h12 := gc12 j (AL.j13 hAl) (by omega); have := gs13 (j + 1) (by omega); have e3 : gsum (j + 1) = gsum j + gcap (j + 1) := rfl; simp only [rmk]; omega) hl.1 rfl (Nat.le_of_ble_eq_true rfl) (by first | decide | omega | (simp only [rmk]; omega)) dX0_bonds_102 (fun j2 h4 H locs hA4 hf4 hk4 hj4 hH hS => ?_)
          refine lv_pop hx hb dX0_bonds_105 rfl ?_
          refine lv_iinc (v := nI (k + 1)) (lv' := [(5, .int (nI (k + 1))), (0, .ref (w 0)), (1, .int (nI q)), (2, .ref la), (3, .int (nI i)), (4, .ref ((Ls 2).getD i 0))]) hx hb dX0_bonds_106 hl (k := 5) rfl (nI_add k 1) (by decide) rfl (fun ls hl => ?_)
          refine lv_goto (tgt := 37) hx hb dX0_bonds_109 (by decide) ?_
          exact ih37 (k + 1) (L ++ [nw12]) j2 h4 (by omega) H locs ls _ _ ⟨by omega, hA4, by rw [bn_t (by omega) cc c1]; exact bno_push (bno_keep hSl (fun b e q => hf4 _ _ _ (hxn _ _ _ q) (by omega))) (hf4 _ _ _ hec (by omega)), ex_add hnt (ex_tr hxB hxn) hf4, j_next hjl hj4, by rw [len_push]; exact c_bn hcs hj4, hH, hS, lv_sub hl [1, 2, 3, 4, 5, 0] rfl⟩
end MODEL
