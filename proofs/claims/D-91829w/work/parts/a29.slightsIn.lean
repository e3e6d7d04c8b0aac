/-! by gen/mspec.py -/
set_option maxRecDepth 100000
section MODEL
variable {l : Launch} {s0 : State} {D : va_G} {K : Nat → ClassId} {wd : Nat → Nat} {o : Nat} {h : Hp} {I : Nat → Int32} {V : Nat → Nat → Int32} {J : Nat → Nat → Int64}
theorem hp_add2 {p : Program} {e : Env} {R : Room} {s : State} {m : MethodId} {args : Array Value} {below : List Frame} {meth : Method} {c : Code} {H : Heap} {locs : List Loc} {cells slots : Nat} {Q : State → Prop} {cc : ByteArray} {pc : Nat} {ls : Array Slot} {rest st0 : List Value} {h0 : Hp} {own : String} {index nL : Nat} (hx : p.tables.exec = Jvm.exec) (hb : c.code = cc) (hml : c.maxLocals = nL) (hown : s.vm.findClass own = some m.cls) (hts : ∀ w ∈ lw_all, w.before args s = true) (hPB : PB s0 D CL h0 s) (hK0 : va_K D CL (TYS K) s0) (hK : va_K D CL (TYS K) s) (hH : HP D CL (zA s0) h H) (hS : va_S (zA s0) s.heap H locs) {av : Nat → Nat} {ed mi : Nat} (hG : GX s0 wd av ed mi)
    {a t j x : Nat} {L : List Nat} (hA0 : AL (K 4) ed h a t L j) (hxo : OBJ h x) (hj13 : L.length < gcap 13) (hq : Cond.methodLink own index ⟨"java/util/ArrayList", "add", "(Ljava/lang/Object;)Z"⟩ ∈ lw_all) (hR : 7 ≤ R.frames ∧ 8 + (2 + 11) + 1200 ≤ R.locals) (hf : L.length = gcap j → cells + 1 ≤ R.cells ∧ slots + gcap (j + 1) ≤ R.slots) (hsize : ls.size = nL) (hstack : st0 = .ref x :: .ref a :: rest) (hroom : (rest.map fun v => v.category).sum ≤ 8) (hf0 : cells ≤ R.cells ∧ slots ≤ R.slots) (hdg : decode cc pc = .ok (.invokevirtual index, 3))
    (kk : ∀ (j2 : Nat) (h1 : Hp) (H1 : Heap) (locs1 : List Loc), AL (K 4) ed h1 a t (L ++ [x]) j2 → frT t h h1 → obK h h1 → (j2 = j ∨ (j2 = j + 1 ∧ L.length = gcap j)) → HP D CL (zA s0) h1 H1 → va_S (zA s0) s.heap H1 locs1 → W p l e R s m args below meth c H1 locs1 (cells + (j2 - j)) (slots + (gsum j2 - gsum j)) Q (F0 m (pc + 3) ls (.int (zI true) :: rest))) : W p l e R s m args below meth c H locs cells slots Q (F0 m pc ls st0) := by
  have hA := hA0
  obtain ⟨mcn, d, he, hob, hlen, hdd⟩ := hA
  by_cases hlt : L.length < gcap j
  · refine hp_callV (As := [.ref x]) (rest := rest) hx hb hml hown hts hPB hK hH hS (mj_addK hK0 hG hA0 hxo hlt) he rfl rfl 1 (lw_V hq q577 q578 q106 q579) (by decide +kernel) ⟨rfl, rfl⟩ (by simp only [rmk]; omega) rfl hsize hstack hroom (by omega) hdg (fun v h1 H1 locs1 hp _ hH1 hS1 => ?_)
    obtain ⟨rfl, q1, q2, q3⟩ := hp
    have z := kk j h1 H1 locs1 q1 q2 q3 (Or.inl rfl) hH1 hS1
    rw [Nat.sub_self, Nat.sub_self] at z
    exact z
  · have heq : L.length = gcap j := by omega
    have hj : j < 13 := by
      rcases Nat.lt_or_ge j 13 with q | q
      · exact q
      · have : j = 13 := by omega
        rw [this] at heq; omega
    have hs : gsum (j + 1) - gsum j = gcap (j + 1) := by show gsum j + gcap (j + 1) - gsum j = _; omega
    have h1e : j + 1 - j = 1 := by omega
    rcases Nat.eq_zero_or_pos j with q | q
    · subst q
      refine hp_callV (As := [.ref x]) (rest := rest) hx hb hml hown hts hPB hK hH hS (mj_add0 hK0 hG (j := 0) hA0 hxo) he rfl rfl 1 (lw_V hq q577 q578 q106 q579) (by decide +kernel) ⟨rfl, rfl⟩ (by simp only [rmk]; omega) rfl hsize hstack hroom (hf heq) hdg (fun v h1 H1 locs1 hp _ hH1 hS1 => ?_)
      obtain ⟨rfl, q1, q2, q3⟩ := hp
      have z := kk 1 h1 H1 locs1 q1 q2 q3 (Or.inr ⟨rfl, heq⟩) hH1 hS1
      exact z
    · refine hp_callV (As := [.ref x]) (rest := rest) hx hb hml hown hts hPB hK hH hS (mj_addN hK0 hG hA0 hxo heq ⟨q, hj⟩) he rfl rfl 1 (lw_V hq q577 q578 q106 q579) (by decide +kernel) ⟨rfl, rfl⟩ (by simp only [rmk]; omega) rfl hsize hstack hroom (hf heq) hdg (fun v h1 H1 locs1 hp _ hH1 hS1 => ?_)
      obtain ⟨rfl, q1, q2, q3⟩ := hp
      have z := kk (j + 1) h1 H1 locs1 q1 q2 q3 (Or.inr ⟨rfl, heq⟩) hH1 hS1
      rw [hs, h1e] at z
      exact z
def NX (s0 : State) : Prop := va_Nc "FirstIn$Row" "FirstIn$Turn" s0 ∧ va_Nc "FirstIn$Table" "FirstIn$Turn" s0 ∧ va_Nc "FirstIn$Ring" "FirstIn$Turn" s0 ∧ va_Nc "FirstIn$Door" "FirstIn$Turn" s0
theorem hp_inst {p : Program} {e : Env} {R : Room} {s : State} {m : MethodId} {args : Array Value} {below : List Frame} {meth : Method} {c : Code} {H : Heap} {locs : List Loc} {cells slots : Nat} {Q : State → Prop} {cc : ByteArray} {pc : Nat} {ls : Array Slot} {rest : List Value} {A : Nat → Prop} {h0 : Hp} {own : String} {index : Nat} (hx : p.tables.exec = Jvm.exec) (hb : c.code = cc) (hown : s.vm.findClass own = some m.cls) (hlink : (Cond.classLink own index "FirstIn$Turn").before args s = true) (hNX : NX s0) (hPB : PB s0 D CL h0 s) (hK : va_K D CL (TYS K) s) (hH : HP D CL A h H) {a t k9 : Nat} {fs : List Value} (he : h a = some (.inr (10 + k9, fs), t)) (hv : k9 < 5) (hdg : decode cc pc = .ok (.instanceof index, 3))
    (kk : W p l e R s m args below meth c H locs cells slots Q (F0 m (pc + 3) ls (.int (zI (decide (k9 = 4))) :: rest))) : W p l e R s m args below meth c H locs cells slots Q (F0 m pc ls (.ref a :: rest)) := by
  have h5 : k9 = 0 ∨ k9 = 1 ∨ k9 = 2 ∨ k9 = 3 ∨ k9 = 4 := by omega
  rcases h5 with rfl | rfl | rfl | rfl | rfl
  · exact va_instNo hx hb hown hlink (va_Nc.moved hPB.1.alike hNX.1) (hp_rec hK hH he rfl) hdg kk
  · exact va_instNo hx hb hown hlink (va_Nc.moved hPB.1.alike hNX.2.1) (hp_rec hK hH he rfl) hdg kk
  · exact va_instNo hx hb hown hlink (va_Nc.moved hPB.1.alike hNX.2.2.1) (hp_rec hK hH he rfl) hdg kk
  · exact va_instNo hx hb hown hlink (va_Nc.moved hPB.1.alike hNX.2.2.2) (hp_rec hK hH he rfl) hdg kk
  · exact va_instE hx hb hown hlink (hp_rec hK hH he rfl) hdg kk
set_option maxHeartbeats 4000000 in
theorem mc_slightsIn (hK0 : va_K D CL (TYS K) s0) {av : Nat → Nat} {ed mi : Nat} (hG : GX s0 wd av ed mi) {S : Ab} {w : Nat → Nat} {Ls : Nat → List Nat} {Jn : Nat → Nat} {Z : Nat → Nat → Int32} (hO : SOK S) (hO2 : SO2 S) (hW : CW K ed S h w Ls Jn Z) {q : Nat} {cr : Nat} {on : Nat} (hq0 : q < aRm S) (hcr : cr < 10) (hon : on < 10) : Met l yX0_slightsIn (ws_ yX0_slightsIn cX0_slightsIn 13 ((Option.some (Jvm.ClassFile.FieldType.object "java/util/ArrayList")))) (rmk 7 1094 9093) (va_Pc [.ref (w 0), .int (nI q), .int (nI cr), .int (nI on)] (PB s0 D CL (h))) (QR s0 D CL (fun v h1 => ∃ la j tg tgs L, v = some (.ref la) ∧ AL (K 4) ed h1 la tg L j ∧ SLO S tgs h1 L (slL S q cr on) ∧ exH h h1 ∧ (∀ b e u, h b = some (e, u) → u < tg) ∧ tg < tgs ∧ 30 ≤ tg)) 1094 9093 (zA s0) := by
  refine hp_met (by decide) (Nat.le_of_ble_eq_true rfl) hK0 ?_
  intro p e s m below meth cd ls hx hb hr hlocks hml hown hnm hts hK hPB hl hS hH hA
  have hl : lv_has ls 13 [(0, .ref (w 0)), (1, .int (nI q)), (2, .int (nI cr)), (3, .int (nI on))] := hl
  have hown : s.vm.findClass RX0 = some m.cls := hown
  have hn := hO.n
  have hmk := hO.mk
  have hrl := hO.rl
  have hrm := hO.rm
  have hsz := hO.sz
  have hqr := hO.rp hq0
  obtain ⟨tg, htg, htl⟩ := hH.tagL
  have hnt := tag_no htl
  obtain ⟨tgs, htgs⟩ : ∃ q, q = tg + 1 := ⟨_, rfl⟩
  have hW0 := hW
  obtain ⟨la, hla, nla⟩ := hH.fr
  refine hp_new (ci := 20) (C := RJ2) (T := TJ2) (N := 3) (fs := [.int 0, .null, .int 0]) hx hb hts in_J2 tyJ2 tyJ2_ok hown (hts _ q210) (hts _ q159) (hts _ q106) hK hH hS hA rfl (by decide) (by first | decide | omega | (simp only [rmk]; omega)) (by first | decide | omega | (simp only [rmk]; omega)) tg dX0_slightsIn_0 (fun H _ hH hS => ?_)
  rw [← hla] at hH ⊢
  have hH : HP D CL (zA s0) (hset h la (.inr (20, [.int 0, .null, .int 0])) tg) H := hH
  have hW := hW.X (exH.new (e1 := .inr (20, [.int 0, .null, .int 0])) (u1 := tg) nla)
  have e1 : (hset h la (.inr (20, [.int 0, .null, .int 0])) tg) la = some (.inr (20, [.int 0, .null, .int 0]), tg) := hset_self _ _ _ _
  refine lv_dup hx hb dX0_slightsIn_3 rfl ?_
  refine hp_callI (As := []) (rest := [.ref la]) hx hb hml hown hts hPB hH hS (mj_ainit hK0 hG e1) 0 q211 q161 q106 q162 rfl (by decide +kernel) ⟨rfl, rfl⟩ (by first | decide | omega | (simp only [rmk]; omega)) rfl hl.1 rfl (Nat.le_of_ble_eq_true rfl) (by first | decide | omega | (simp only [rmk]; omega)) dX0_slightsIn_4 (fun v2 h4 H locs hp3 _ hH hS => ?_)
  obtain ⟨rfl, hq⟩ := hp3
  rw [hq, hset_hset] at hH
  have hel : (hset h la (.inr (20, [.int 0, .ref ed, .int 0])) tg) la = some (.inr (20, [.int 0, .ref ed, .int 0]), tg) := hset_self _ _ _ _
  have hW := hW0.X (exH.new (e1 := (.inr (20, [.int 0, .ref ed, .int 0]))) (u1 := tg) nla)
  refine lv_astore (lv' := [(4, .ref la), (0, .ref (w 0)), (1, .int (nI q)), (2, .int (nI cr)), (3, .int (nI on))]) hx hb dX0_slightsIn_7 hl (by decide) rfl (fun ls hl => ?_)
  refine lv_aload_n hx hb dX0_slightsIn_9 rfl (lv_at hl 1 rfl) ?_
  refine hp_get (C := RX0) (T := TX0) (N := 14) (v := .ref (w 6)) hx hb hts in_X0 hown hK hH hW.x rfl 5 (by decide) (hts _ q217) (fun _ z => z) rfl dX0_slightsIn_10 ?_
  refine lv_iload_n hx hb dX0_slightsIn_13 rfl (lv_at hl 2 rfl) ?_
  refine hp_lget hx hb hml hown hts hPB hK0 hK hH hS hG (hW.li 3 (by decide)) (k9 := q) (by rw [hW.nq]; omega) q808 (by first | decide | (simp only [rmk]; omega)) hl.1 rfl (Nat.le_of_ble_eq_true rfl) (by first | decide | omega | (simp only [rmk]; omega)) dX0_slightsIn_14 (fun H locs hH hS => ?_)
  have hp5 := hO.rp (show q < aRm S by omega)
  refine hp_castQ hx hb hown (hts _ q928) hG hPB hK hH (hW.q (show q < aRm S by omega)) (hO.rk (show q < aRm S by omega)) dX0_slightsIn_17 ?_
  refine lv_astore (lv' := [(5, .ref ((Ls 3).getD q 0)), (4, .ref la), (0, .ref (w 0)), (1, .int (nI q)), (2, .int (nI cr)), (3, .int (nI on))]) hx hb dX0_slightsIn_20 hl (by decide) rfl (fun ls hl => ?_)
  refine lv_iconst (v := nI 0) hx hb dX0_slightsIn_22 (by decide) ?_
  refine lv_istore (lv' := [(6, .int (nI 0)), (5, .ref ((Ls 3).getD q 0)), (4, .ref la), (0, .ref (w 0)), (1, .int (nI q)), (2, .int (nI cr)), (3, .int (nI on))]) hx hb dX0_slightsIn_23 hl (by decide) rfl (fun ls hl => ?_)
  refine w_loopC4 (fun (i : Nat) (L : List Nat) (j : Nat) (hh : Hp) => aRl S - i) (fun (i : Nat) (L : List Nat) (j : Nat) (hh : Hp) H locs ls cells slots => (i ≤ aRl S) ∧ (AL (K 4) ed hh la tg L j) ∧ (SLO S tgs hh L (ssL S q cr on i 0)) ∧ (exH h hh) ∧ (j = 0 ∨ gcap (j - 1) + 1 ≤ L.length) ∧ (cells ≤ 1 + L.length + j ∧ slots ≤ 3 + 5 * L.length + gsum j) ∧ HP D CL (zA s0) hh H ∧ va_S (zA s0) s.heap H locs ∧ lv_has ls 13 [(0, .ref (w 0)), (1, .int (nI q)), (2, .int (nI cr)), (3, .int (nI on)), (4, .ref la), (5, .ref ((Ls 3).getD q 0)), (6, .int (nI i))]) ?_ 0 ([]) 0 (hset h la (.inr (20, [.int 0, .ref ed, .int 0])) tg) ⟨Nat.zero_le _, al_nil (mcn := 0) (d := ed) hel (by decide) (Or.inl ⟨rfl, rfl⟩), ⟨rfl, fun i hi => absurd hi (Nat.not_lt_zero _)⟩, exH.new nla, Or.inl rfl, by decide, hH, hS, lv_sub hl [3, 4, 5, 6, 2, 1, 0] rfl⟩
  intro i L j hh ih25 H locs ls cells slots hP
  obtain ⟨hi, hAl, hSl, hxB, hjl, hcs, hH, hS, hl⟩ := hP
  have hW := hW0.X hxB
  have hll := hSl.1
  have hsl := ssL_len hO hO2 q cr on (i := i) (k := 0) (by omega)
  have hgs9 := gs13 j (AL.j13 hAl)
  have hj13 := AL.j13 hAl
  refine lv_iload hx hb dX0_slightsIn_25 (lv_at hl 6 rfl) ?_
  refine lv_aload_n hx hb dX0_slightsIn_27 rfl (lv_at hl 0 rfl) ?_
  refine hp_get (C := RX0) (T := TX0) (N := 14) (v := .ref (w 5)) hx hb hts in_X0 hown hK hH hW.x rfl 4 (by decide) (hts _ q216) (fun _ z => z) rfl dX0_slightsIn_28 ?_
  refine hp_siz hx hb hml hown hts hPB hK0 hK hH hS hG (hW.li 2 (by decide)) hW.nr q807 (by first | decide | (simp only [rmk]; omega)) hl.1 rfl (Nat.le_of_ble_eq_true rfl) (by first | decide | omega | (simp only [rmk]; omega)) dX0_slightsIn_31 (fun H locs hH hS => ?_)
  refine lvN_ge (tgt := 231) hx hb (by first | omega | (refine Nat.lt_of_lt_of_le (Nat.mod_lt _ ?_) ?_ <;> omega)) (by first | omega | (refine Nat.lt_of_lt_of_le (Nat.mod_lt _ ?_) ?_ <;> omega)) dX0_slightsIn_34 (by decide) (fun c6 => ?_) (fun c6 => ?_)
  · refine lv_aload hx hb dX0_slightsIn_231 (lv_at hl 4 rfl) ?_
    exact hp_aret hx hb hr (Or.inl ⟨_, rfl⟩) (Or.inr ⟨_, rfl⟩) hlocks hH hS (by first | decide | omega | (simp only [rmk]; omega)) (by first | decide | omega | (simp only [rmk]; omega)) dX0_slightsIn_233 (⟨la, j, tg, tgs, L, rfl, hAl, (show slL S q cr on = ssL S q cr on i 0 from by rw [show i = aRl S by omega]; exact (List.append_nil _).symm) ▸ hSl, hxB, htl, by omega, htg⟩)
  · refine lv_aload_n hx hb dX0_slightsIn_37 rfl (lv_at hl 0 rfl) ?_
    refine hp_get (C := RX0) (T := TX0) (N := 14) (v := .ref (w 5)) hx hb hts in_X0 hown hK hH hW.x rfl 4 (by decide) (hts _ q216) (fun _ z => z) rfl dX0_slightsIn_38 ?_
    refine lv_iload hx hb dX0_slightsIn_41 (lv_at hl 6 rfl) ?_
    refine hp_lget hx hb hml hown hts hPB hK0 hK hH hS hG (hW.li 2 (by decide)) (k9 := i) (by rw [hW.nr]; omega) q808 (by first | decide | (simp only [rmk]; omega)) hl.1 rfl (Nat.le_of_ble_eq_true rfl) (by first | decide | omega | (simp only [rmk]; omega)) dX0_slightsIn_43 (fun H locs hH hS => ?_)
    have hn7 := cN_le S i
    have hkhn7 := hO.kd (show i < aRl S by omega)
    have hwhn7 := hO.wt (show i < aRl S by omega)
    refine hp_castR hx hb hown (hts _ q812) hG hPB hK hH (hW.r (show i < aRl S by omega)) (hO.kd (show i < aRl S by omega)) dX0_slightsIn_46 ?_
    refine lv_astore (lv' := [(7, .ref ((Ls 2).getD i 0)), (0, .ref (w 0)), (1, .int (nI q)), (2, .int (nI cr)), (3, .int (nI on)), (4, .ref la), (5, .ref ((Ls 3).getD q 0)), (6, .int (nI i))]) hx hb dX0_slightsIn_49 hl (by decide) rfl (fun ls hl => ?_)
    refine lv_iconst (v := nI 0) hx hb dX0_slightsIn_51 (by decide) ?_
    refine lv_istore (lv' := [(8, .int (nI 0)), (7, .ref ((Ls 2).getD i 0)), (0, .ref (w 0)), (1, .int (nI q)), (2, .int (nI cr)), (3, .int (nI on)), (4, .ref la), (5, .ref ((Ls 3).getD q 0)), (6, .int (nI i))]) hx hb dX0_slightsIn_52 hl (by decide) rfl (fun ls hl => ?_)
    refine w_loopC4 (fun (k : Nat) (L : List Nat) (j : Nat) (hh : Hp) => cN S i - k) (fun (k : Nat) (L : List Nat) (j : Nat) (hh : Hp) H locs ls cells slots => (k ≤ cN S i) ∧ (AL (K 4) ed hh la tg L j) ∧ (SLO S tgs hh L (ssL S q cr on i k)) ∧ (exH h hh) ∧ (j = 0 ∨ gcap (j - 1) + 1 ≤ L.length) ∧ (cells ≤ 1 + L.length + j ∧ slots ≤ 3 + 5 * L.length + gsum j) ∧ (k = 0 ∨ cnt S i (nI q) = true) ∧ HP D CL (zA s0) hh H ∧ va_S (zA s0) s.heap H locs ∧ lv_has ls 13 [(0, .ref (w 0)), (1, .int (nI q)), (2, .int (nI cr)), (3, .int (nI on)), (4, .ref la), (5, .ref ((Ls 3).getD q 0)), (6, .int (nI i)), (7, .ref ((Ls 2).getD i 0)), (8, .int (nI k))]) ?_ 0 L j hh ⟨Nat.zero_le _, hAl, hSl, hxB, hjl, hcs, Or.inl rfl, hH, hS, lv_sub hl [2, 3, 4, 5, 6, 7, 8, 1, 0] rfl⟩
    intro k L j hh ih54 H locs ls cells slots hP
    obtain ⟨hk, hAl, hSl, hxB, hjl, hcs, hkc, hH, hS, hl⟩ := hP
    have hW := hW0.X hxB
    have hll := hSl.1
    have hsl := ssL_len hO hO2 q cr on (i := i) (k := k) (by omega)
    have hgs9 := gs13 j (AL.j13 hAl)
    have hj13 := AL.j13 hAl
    have hc90 := cN_90 S i
    refine lv_iload hx hb dX0_slightsIn_54 (lv_at hl 8 rfl) ?_
    refine lv_aload hx hb dX0_slightsIn_56 (lv_at hl 7 rfl) ?_
    refine hp_gR6N hx hb hts hown hK hH (hW.r (show i < aRl S by omega)) (hO.kd (show i < aRl S by omega)) (hG.nf hPB q746) dX0_slightsIn_58 ?_
    refine hp_siz hx hb hml hown hts hPB hK0 hK hH hS hG (hW.cl (show i < aRl S by omega)) (hW.nc (show i < aRl S by omega)) q807 (by first | decide | (simp only [rmk]; omega)) hl.1 rfl (Nat.le_of_ble_eq_true rfl) (by first | decide | omega | (simp only [rmk]; omega)) dX0_slightsIn_61 (fun H locs hH hS => ?_)
    refine lvN_ge (tgt := 225) hx hb (by first | omega | (refine Nat.lt_of_lt_of_le (Nat.mod_lt _ ?_) ?_ <;> omega)) (by first | omega | (refine Nat.lt_of_lt_of_le (Nat.mod_lt _ ?_) ?_ <;> omega)) dX0_slightsIn_64 (by decide) (fun c8 => ?_) (fun c8 => ?_)
    · refine lv_iinc (v := nI (i + 1)) (lv' := [(6, .int (nI (i + 1))), (0, .ref (w 0)), (1, .int (nI q)), (2, .int (nI cr)), (3, .int (nI on)), (4, .ref la), (5, .ref ((Ls 3).getD q 0)), (7, .ref ((Ls 2).getD i 0)), (8, .int (nI k))]) hx hb dX0_slightsIn_225 hl (k := 6) rfl (nI_add i 1) (by decide) rfl (fun ls hl => ?_)
      refine lv_goto (tgt := 25) hx hb dX0_slightsIn_228 (by decide) ?_
      exact ih25 (i + 1) L j hh (by omega) H locs ls _ _ ⟨by omega, hAl, by rw [← ss_next hO hO2 (show i < aRl S by omega) (Or.inl (by omega)) hkc]; exact hSl, hxB, hjl, hcs, hH, hS, lv_sub hl [1, 2, 3, 4, 5, 6, 0] rfl⟩
    · refine lv_aload hx hb dX0_slightsIn_67 (lv_at hl 7 rfl) ?_
      refine lv_iload_n hx hb dX0_slightsIn_69 rfl (lv_at hl 1 rfl) ?_
      refine hp_cin hx hb hml hown hts hPB hK0 hK hH hS hG (hW.r (show i < aRl S by omega)) (hO.kd (show i < aRl S by omega)) q993 (by first | decide | (simp only [rmk]; omega)) hl.1 rfl (Nat.le_of_ble_eq_true rfl) (by first | decide | omega | (simp only [rmk]; omega)) dX0_slightsIn_70 (fun H locs hH hS => ?_)
      refine lv_top (y := zI (cnt S i (nI q))) rfl ?_
      refine lvB_eq (tgt := 225) hx hb dX0_slightsIn_73 (by decide) (fun cc => ?_) (fun cc => ?_)
      · refine lv_iinc (v := nI (i + 1)) (lv' := [(6, .int (nI (i + 1))), (0, .ref (w 0)), (1, .int (nI q)), (2, .int (nI cr)), (3, .int (nI on)), (4, .ref la), (5, .ref ((Ls 3).getD q 0)), (7, .ref ((Ls 2).getD i 0)), (8, .int (nI k))]) hx hb dX0_slightsIn_225 hl (k := 6) rfl (nI_add i 1) (by decide) rfl (fun ls hl => ?_)
        refine lv_goto (tgt := 25) hx hb dX0_slightsIn_228 (by decide) ?_
        exact ih25 (i + 1) L j hh (by omega) H locs ls _ _ ⟨by omega, hAl, by rw [← ss_next hO hO2 (show i < aRl S by omega) (Or.inr cc) hkc]; exact hSl, hxB, hjl, hcs, hH, hS, lv_sub hl [1, 2, 3, 4, 5, 6, 0] rfl⟩
      · refine lv_aload hx hb dX0_slightsIn_76 (lv_at hl 7 rfl) ?_
        refine hp_gR6N hx hb hts hown hK hH (hW.r (show i < aRl S by omega)) (hO.kd (show i < aRl S by omega)) (hG.nf hPB q746) dX0_slightsIn_78 ?_
        refine lv_iload hx hb dX0_slightsIn_81 (lv_at hl 8 rfl) ?_
        refine hp_lget hx hb hml hown hts hPB hK0 hK hH hS hG (hW.cl (show i < aRl S by omega)) (k9 := k) (by rw [hW.nc (show i < aRl S by omega)]; omega) q808 (by first | decide | (simp only [rmk]; omega)) hl.1 rfl (Nat.le_of_ble_eq_true rfl) (by first | decide | omega | (simp only [rmk]; omega)) dX0_slightsIn_83 (fun H locs hH hS => ?_)
        have hc9 := cXY hO hO2 (show i < aRl S by omega) (show k < cN S i by omega)
        refine va_castE hx hb hown (hts _ q1004) (hp_rec hK hH (hW.c (show i < aRl S by omega) (show k < cN S i by omega)) rfl) dX0_slightsIn_86 ?_
        refine lv_astore (lv' := [(9, .ref ((Ls (10 + i)).getD k 0)), (0, .ref (w 0)), (1, .int (nI q)), (2, .int (nI cr)), (3, .int (nI on)), (4, .ref la), (5, .ref ((Ls 3).getD q 0)), (6, .int (nI i)), (7, .ref ((Ls 2).getD i 0)), (8, .int (nI k))]) hx hb dX0_slightsIn_89 hl (by decide) rfl (fun ls hl => ?_)
        refine lv_aload_n hx hb dX0_slightsIn_91 rfl (lv_at hl 1 rfl) ?_
        refine hp_get (C := RX0) (T := TX0) (N := 14) (v := .ref (w 3)) hx hb hts in_X0 hown hK hH hW.x rfl 2 (by decide) (hts _ q214) (fun _ z => z) rfl dX0_slightsIn_92 ?_
        refine lv_aload hx hb dX0_slightsIn_95 (lv_at hl 0 rfl) ?_
        refine hp_getN (C := RX9) (T := TX9) (N := 2) (v := .int (nI (cX S i k))) hx hb hts in_X9 hown hK hH (hW.c (show i < aRl S by omega) (show k < cN S i by omega)) rfl 0 (by decide) (hG.nf hPB q722) (fun _ z => z) rfl dX0_slightsIn_97 ?_
        refine hp_lget hx hb hml hown hts hPB hK0 hK hH hS hG (hW.li 0 (by decide)) (k9 := cX S i k) (by rw [hW.ng]; omega) q808 (by first | decide | (simp only [rmk]; omega)) hl.1 rfl (Nat.le_of_ble_eq_true rfl) (by first | decide | omega | (simp only [rmk]; omega)) dX0_slightsIn_100 (fun H locs hH hS => ?_)
        refine va_castE hx hb hown (hts _ q809) (hp_rec hK hH (hW.g (show cX S i k < aN S by omega)) rfl) dX0_slightsIn_103 ?_
        refine lv_astore (lv' := [(10, .ref ((Ls 0).getD (cX S i k) 0)), (9, .ref ((Ls (10 + i)).getD k 0)), (0, .ref (w 0)), (1, .int (nI q)), (2, .int (nI cr)), (3, .int (nI on)), (4, .ref la), (5, .ref ((Ls 3).getD q 0)), (6, .int (nI i)), (7, .ref ((Ls 2).getD i 0)), (8, .int (nI k))]) hx hb dX0_slightsIn_106 hl (by decide) rfl (fun ls hl => ?_)
        refine lv_aload_n hx hb dX0_slightsIn_108 rfl (lv_at hl 2 rfl) ?_
        refine hp_get (C := RX0) (T := TX0) (N := 14) (v := .ref (w 3)) hx hb hts in_X0 hown hK hH hW.x rfl 2 (by decide) (hts _ q214) (fun _ z => z) rfl dX0_slightsIn_109 ?_
        refine lv_aload hx hb dX0_slightsIn_112 (lv_at hl 1 rfl) ?_
        refine hp_getN (C := RX9) (T := TX9) (N := 2) (v := .int (nI (cY S i k))) hx hb hts in_X9 hown hK hH (hW.c (show i < aRl S by omega) (show k < cN S i by omega)) rfl 1 (by decide) (hG.nf hPB q725) (fun _ z => z) rfl dX0_slightsIn_114 ?_
        refine hp_lget hx hb hml hown hts hPB hK0 hK hH hS hG (hW.li 0 (by decide)) (k9 := cY S i k) (by rw [hW.ng]; omega) q808 (by first | decide | (simp only [rmk]; omega)) hl.1 rfl (Nat.le_of_ble_eq_true rfl) (by first | decide | omega | (simp only [rmk]; omega)) dX0_slightsIn_117 (fun H locs hH hS => ?_)
        refine va_castE hx hb hown (hts _ q809) (hp_rec hK hH (hW.g (show cY S i k < aN S by omega)) rfl) dX0_slightsIn_120 ?_
        refine lv_astore (lv' := [(11, .ref ((Ls 0).getD (cY S i k) 0)), (10, .ref ((Ls 0).getD (cX S i k) 0)), (9, .ref ((Ls (10 + i)).getD k 0)), (0, .ref (w 0)), (1, .int (nI q)), (2, .int (nI cr)), (3, .int (nI on)), (4, .ref la), (5, .ref ((Ls 3).getD q 0)), (6, .int (nI i)), (7, .ref ((Ls 2).getD i 0)), (8, .int (nI k))]) hx hb dX0_slightsIn_123 hl (by decide) rfl (fun ls hl => ?_)
        refine lv_aload hx hb dX0_slightsIn_125 (lv_at hl 1 rfl) ?_
        refine hp_getN (C := RX5) (T := TX5) (N := 6) (v := .int (aIr S (cX S i k))) hx hb hts in_X5 hown hK hH (hW.g (show cX S i k < aN S by omega)) rfl 4 (by decide) (hG.nf hPB q548) (fun _ z => z) rfl dX0_slightsIn_127 ?_
        refine lv_iload_n hx hb dX0_slightsIn_130 rfl (lv_at hl 4 rfl) ?_
        refine lv_icmp_ne (tgt := 219) hx hb dX0_slightsIn_131 (by decide) (fun c1 => ?_) (fun c1 => ?_)
        · refine lv_iinc (v := nI (k + 1)) (lv' := [(8, .int (nI (k + 1))), (11, .ref ((Ls 0).getD (cY S i k) 0)), (10, .ref ((Ls 0).getD (cX S i k) 0)), (9, .ref ((Ls (10 + i)).getD k 0)), (0, .ref (w 0)), (1, .int (nI q)), (2, .int (nI cr)), (3, .int (nI on)), (4, .ref la), (5, .ref ((Ls 3).getD q 0)), (6, .int (nI i)), (7, .ref ((Ls 2).getD i 0))]) hx hb dX0_slightsIn_219 hl (k := 11) rfl (nI_add k 1) (by decide) rfl (fun ls hl => ?_)
          refine lv_goto (tgt := 54) hx hb dX0_slightsIn_222 (by decide) ?_
          exact ih54 (k + 1) L j hh (by omega) H locs ls _ _ ⟨by omega, hAl, by rw [ss_f (Or.inl c1)]; exact hSl, hxB, hjl, hcs, Or.inr cc, hH, hS, lv_sub hl [4, 5, 6, 7, 8, 9, 10, 11, 0] rfl⟩
        · refine lv_aload hx hb dX0_slightsIn_134 (lv_at hl 0 rfl) ?_
          refine hp_getN (C := RX5) (T := TX5) (N := 6) (v := .int (aIr S (cY S i k))) hx hb hts in_X5 hown hK hH (hW.g (show cY S i k < aN S by omega)) rfl 4 (by decide) (hG.nf hPB q548) (fun _ z => z) rfl dX0_slightsIn_136 ?_
          refine lv_iload_n hx hb dX0_slightsIn_139 rfl (lv_at hl 4 rfl) ?_
          refine lv_icmp_eq (tgt := 146) hx hb dX0_slightsIn_140 (by decide) (fun c2 => ?_) (fun c2 => ?_)
          · obtain ⟨hpax, hpbx, -⟩ := ipn_at hO (show cX S i k < aN S by omega) hq0 c1
            obtain ⟨hpay, hpby, -⟩ := ipn_at hO (show cY S i k < aN S by omega) hq0 c2
            have hm1 := Nat.mod_lt (ipn S (cX S i k) + on) (show 0 < aRp S q by omega)
            have hm2 := Nat.mod_lt (ipn S (cY S i k) + on) (show 0 < aRp S q by omega)
            refine lv_aload hx hb dX0_slightsIn_146 (lv_at hl 10 rfl) ?_
            refine lv_aload hx hb dX0_slightsIn_148 (lv_at hl 8 rfl) ?_
            refine lv_iload_n hx hb dX0_slightsIn_150 rfl (lv_at hl 5 rfl) ?_
            refine lv_aload hx hb dX0_slightsIn_151 (lv_at hl 1 rfl) ?_
            refine hp_getN (C := RX5) (T := TX5) (N := 6) (v := .int (aIp S (cX S i k))) hx hb hts in_X5 hown hK hH (hW.g (show cX S i k < aN S by omega)) rfl 5 (by decide) (hG.nf hPB q551) (fun _ z => z) rfl dX0_slightsIn_153 ?_
            refine lv_top (y := nI (ipn S (cX S i k))) hpax ?_
            refine lv_iload_n hx hb dX0_slightsIn_156 rfl (lv_at hl 6 rfl) ?_
            refine lv_iadd hx hb dX0_slightsIn_157 ?_
            refine lv_top (y := nI ((ipn S (cX S i k)) + on)) (nI_add _ _) ?_
            refine lv_aload hx hb dX0_slightsIn_158 (lv_at hl 8 rfl) ?_
            refine hp_gQ hx hb hts hown hK hH (hW.q (show q < aRm S by omega)) (hO.rk (show q < aRm S by omega)) (hts _ q835) dX0_slightsIn_160 ?_
            refine lv_irem hx hb dX0_slightsIn_163 (nI_ne0 (by first | omega | (refine Nat.lt_of_lt_of_le (Nat.mod_lt _ ?_) ?_ <;> omega)) (by first | omega | (refine Nat.lt_of_lt_of_le (Nat.mod_lt _ ?_) ?_ <;> omega))) ?_
            refine lv_top (y := nI (((ipn S (cX S i k)) + on) % (aRp S q))) (pk_rem (by first | omega | (refine Nat.lt_of_lt_of_le (Nat.mod_lt _ ?_) ?_ <;> omega)) (by first | omega | (refine Nat.lt_of_lt_of_le (Nat.mod_lt _ ?_) ?_ <;> omega)) (by first | omega | (refine Nat.lt_of_lt_of_le (Nat.mod_lt _ ?_) ?_ <;> omega))) ?_
            refine lv_aload hx hb dX0_slightsIn_164 (lv_at hl 0 rfl) ?_
            refine hp_getN (C := RX5) (T := TX5) (N := 6) (v := .int (aIp S (cY S i k))) hx hb hts in_X5 hown hK hH (hW.g (show cY S i k < aN S by omega)) rfl 5 (by decide) (hG.nf hPB q551) (fun _ z => z) rfl dX0_slightsIn_166 ?_
            refine lv_top (y := nI (ipn S (cY S i k))) hpay ?_
            refine lv_iload_n hx hb dX0_slightsIn_169 rfl (lv_at hl 6 rfl) ?_
            refine lv_iadd hx hb dX0_slightsIn_170 ?_
            refine lv_top (y := nI ((ipn S (cY S i k)) + on)) (nI_add _ _) ?_
            refine lv_aload hx hb dX0_slightsIn_171 (lv_at hl 8 rfl) ?_
            refine hp_gQ hx hb hts hown hK hH (hW.q (show q < aRm S by omega)) (hO.rk (show q < aRm S by omega)) (hts _ q835) dX0_slightsIn_173 ?_
            refine lv_irem hx hb dX0_slightsIn_176 (nI_ne0 (by first | omega | (refine Nat.lt_of_lt_of_le (Nat.mod_lt _ ?_) ?_ <;> omega)) (by first | omega | (refine Nat.lt_of_lt_of_le (Nat.mod_lt _ ?_) ?_ <;> omega))) ?_
            refine lv_top (y := nI (((ipn S (cY S i k)) + on) % (aRp S q))) (pk_rem (by first | omega | (refine Nat.lt_of_lt_of_le (Nat.mod_lt _ ?_) ?_ <;> omega)) (by first | omega | (refine Nat.lt_of_lt_of_le (Nat.mod_lt _ ?_) ?_ <;> omega)) (by first | omega | (refine Nat.lt_of_lt_of_le (Nat.mod_lt _ ?_) ?_ <;> omega))) ?_
            refine hp_minds hx hb hml hown hts hPB hK0 hK hH hS hG (hW.r (show i < aRl S by omega)) (hO.kd (show i < aRl S by omega)) (hW.q (show q < aRm S by omega)) (hO.rk (show q < aRm S by omega)) (hO.rp (show q < aRm S by omega)) (c9 := cr) (a := ((ipn S (cX S i k)) + on) % (aRp S q)) (b := ((ipn S (cY S i k)) + on) % (aRp S q)) (by omega) (by omega) (by omega) q1021 (by first | decide | (simp only [rmk]; omega)) hl.1 rfl (Nat.le_of_ble_eq_true rfl) (by first | decide | omega | (simp only [rmk]; omega)) dX0_slightsIn_177 (fun H locs hH hS => ?_)
            refine lv_top (y := nI (slW S i q cr on (cX S i k) (cY S i k))) (congrArg nI (whoM_wm (hO.rk hq0) hm1 hm2).symm) ?_
            have hwl := slW_le S i q cr on (cX S i k) (cY S i k)
            refine lv_istore (lv' := [(12, .int (nI (slW S i q cr on (cX S i k) (cY S i k)))), (11, .ref ((Ls 0).getD (cY S i k) 0)), (10, .ref ((Ls 0).getD (cX S i k) 0)), (9, .ref ((Ls (10 + i)).getD k 0)), (0, .ref (w 0)), (1, .int (nI q)), (2, .int (nI cr)), (3, .int (nI on)), (4, .ref la), (5, .ref ((Ls 3).getD q 0)), (6, .int (nI i)), (7, .ref ((Ls 2).getD i 0)), (8, .int (nI k))]) hx hb dX0_slightsIn_180 hl (by decide) rfl (fun ls hl => ?_)
            refine lv_iload hx hb dX0_slightsIn_182 (lv_at hl 0 rfl) ?_
            refine lvZ_eq (tgt := 219) hx hb (by first | omega | (refine Nat.lt_of_lt_of_le (Nat.mod_lt _ ?_) ?_ <;> omega)) dX0_slightsIn_184 (by decide) (fun c3 => ?_) (fun c3 => ?_)
            · refine lv_iinc (v := nI (k + 1)) (lv' := [(8, .int (nI (k + 1))), (12, .int (nI (slW S i q cr on (cX S i k) (cY S i k)))), (11, .ref ((Ls 0).getD (cY S i k) 0)), (10, .ref ((Ls 0).getD (cX S i k) 0)), (9, .ref ((Ls (10 + i)).getD k 0)), (0, .ref (w 0)), (1, .int (nI q)), (2, .int (nI cr)), (3, .int (nI on)), (4, .ref la), (5, .ref ((Ls 3).getD q 0)), (6, .int (nI i)), (7, .ref ((Ls 2).getD i 0))]) hx hb dX0_slightsIn_219 hl (k := 12) rfl (nI_add k 1) (by decide) rfl (fun ls hl => ?_)
              refine lv_goto (tgt := 54) hx hb dX0_slightsIn_222 (by decide) ?_
              exact ih54 (k + 1) L j hh (by omega) H locs ls _ _ ⟨by omega, hAl, by rw [ss_f (Or.inr (Or.inr c3))]; exact hSl, hxB, hjl, hcs, Or.inr cc, hH, hS, lv_sub hl [5, 6, 7, 8, 9, 10, 11, 12, 0] rfl⟩
            · refine lv_aload hx hb dX0_slightsIn_187 (lv_at hl 8 rfl) ?_
              obtain ⟨nw10, hnw10, nnw10⟩ := hH.fr
              refine hp_new (ci := 15) (C := RX19) (T := TX19) (N := 5) (fs := [.int 0, .int 0, .int 0, .int 0, .int 0]) hx hb hts in_X19 tyX19 tyX19_ok hown (hts _ q1056) (hts _ q1057) (hts _ q137) hK hH hS hA rfl (by decide) (by first | decide | omega | (simp only [rmk]; omega)) (by first | decide | omega | (simp only [rmk]; omega)) tgs dX0_slightsIn_189 (fun H _ hH hS => ?_)
              rw [← hnw10] at hH ⊢
              have hH : HP D CL (zA s0) (hset hh nw10 (.inr (15, [.int 0, .int 0, .int 0, .int 0, .int 0])) tgs) H := hH
              have hW := hW.X (exH.new (e1 := .inr (15, [.int 0, .int 0, .int 0, .int 0, .int 0])) (u1 := tgs) nnw10)
              have e11 : (hset hh nw10 (.inr (15, [.int 0, .int 0, .int 0, .int 0, .int 0])) tgs) nw10 = some (.inr (15, [.int 0, .int 0, .int 0, .int 0, .int 0]), tgs) := hset_self _ _ _ _
              refine lv_dup hx hb dX0_slightsIn_192 rfl ?_
              refine lv_iload hx hb dX0_slightsIn_193 (lv_at hl 10 rfl) ?_
              refine lv_aload hx hb dX0_slightsIn_195 (lv_at hl 3 rfl) ?_
              refine hp_getN (C := RX9) (T := TX9) (N := 2) (v := .int (nI (cX S i k))) hx hb hts in_X9 hown hK hH (hW.c (show i < aRl S by omega) (show k < cN S i by omega)) rfl 0 (by decide) (hG.nf hPB q722) (fun _ z => z) rfl dX0_slightsIn_197 ?_
              refine lv_aload hx hb dX0_slightsIn_200 (lv_at hl 3 rfl) ?_
              refine hp_getN (C := RX9) (T := TX9) (N := 2) (v := .int (nI (cY S i k))) hx hb hts in_X9 hown hK hH (hW.c (show i < aRl S by omega) (show k < cN S i by omega)) rfl 1 (by decide) (hG.nf hPB q725) (fun _ z => z) rfl dX0_slightsIn_202 ?_
              refine lv_aload hx hb dX0_slightsIn_205 (lv_at hl 11 rfl) ?_
              refine hp_gR2 hx hb hts hown hK hH (hW.r (show i < aRl S by omega)) (hO.kd (show i < aRl S by omega)) (hts _ q738) dX0_slightsIn_207 ?_
              refine lv_iload hx hb dX0_slightsIn_210 (lv_at hl 0 rfl) ?_
              refine hp_callI (As := [.int (nI i), .int (nI (cX S i k)), .int (nI (cY S i k)), .int (nI (aWt S i)), .int (nI (slW S i q cr on (cX S i k) (cY S i k)))]) (rest := [.ref nw10, .ref la]) hx hb hml hown hts hPB hH hS (mc_slight hK0 hG (r := i) (x := cX S i k) (y := cY S i k) (w := aWt S i) (o9 := slW S i q cr on (cX S i k) (cY S i k)) e11) 5 q1058 q1059 q137 q1060 rfl (by decide +kernel) ⟨rfl, rfl⟩ (by first | decide | omega | (simp only [rmk]; omega)) rfl hl.1 rfl (Nat.le_of_ble_eq_true rfl) (by first | decide | omega | (simp only [rmk]; omega)) dX0_slightsIn_212 (fun v12 h14 H locs hp13 _ hH hS => ?_)
              obtain ⟨rfl, hq⟩ := hp13
              rw [hq, hset_hset] at hH
              have hec : (hset hh nw10 (.inr (15, [.int (nI i), .int (nI (cX S i k)), .int (nI (cY S i k)), .int (nI (aWt S i)), .int (nI (slW S i q cr on (cX S i k) (cY S i k)))])) tgs) nw10 = some (.inr (15, [.int (nI i), .int (nI (cX S i k)), .int (nI (cY S i k)), .int (nI (aWt S i)), .int (nI (slW S i q cr on (cX S i k) (cY S i k)))]), tgs) := hset_self _ _ _ _
              have hxn : exH hh (hset hh nw10 (.inr (15, [.int (nI i), .int (nI (cX S i k)), .int (nI (cY S i k)), .int (nI (aWt S i)), .int (nI (slW S i q cr on (cX S i k) (cY S i k)))])) tgs) := exH.new nnw10
              refine hp_add2 hx hb hml hown hts hPB hK0 hK hH hS hG (x := nw10) (hAl.X hxn) (⟨_, _, _, hec⟩) (by rw [gcap_13]; omega) q810 (by first | decide | (simp only [rmk]; omega)) (fun e => by have h12 := gc12 j (AL.j13 hAl) (by omega); have := gs13 (j + 1) (by omega); have e3 : gsum (j + 1) = gsum j + gcap (j + 1) := rfl; simp only [rmk]; omega) hl.1 rfl (Nat.le_of_ble_eq_true rfl) (by first | decide | omega | (simp only [rmk]; omega)) dX0_slightsIn_215 (fun j2 h4 H locs hA4 hf4 hk4 hj4 hH hS => ?_)
              refine lv_pop hx hb dX0_slightsIn_218 rfl ?_
              refine lv_iinc (v := nI (k + 1)) (lv' := [(8, .int (nI (k + 1))), (12, .int (nI (slW S i q cr on (cX S i k) (cY S i k)))), (11, .ref ((Ls 0).getD (cY S i k) 0)), (10, .ref ((Ls 0).getD (cX S i k) 0)), (9, .ref ((Ls (10 + i)).getD k 0)), (0, .ref (w 0)), (1, .int (nI q)), (2, .int (nI cr)), (3, .int (nI on)), (4, .ref la), (5, .ref ((Ls 3).getD q 0)), (6, .int (nI i)), (7, .ref ((Ls 2).getD i 0))]) hx hb dX0_slightsIn_219 hl (k := 12) rfl (nI_add k 1) (by decide) rfl (fun ls hl => ?_)
              refine lv_goto (tgt := 54) hx hb dX0_slightsIn_222 (by decide) ?_
              exact ih54 (k + 1) (L ++ [nw10]) j2 h4 (by omega) H locs ls _ _ ⟨by omega, hA4, by rw [ss_t c1 c2 c3]; exact slo_push (slo_keep hSl (fun b e q => hf4 _ _ _ (hxn _ _ _ q) (by omega))) (hf4 _ _ _ hec (by omega)), ex_add hnt (ex_tr hxB hxn) hf4, j_next hjl hj4, by rw [len_push]; exact c_sl hcs hj4, Or.inr cc, hH, hS, lv_sub hl [5, 6, 7, 8, 9, 10, 11, 12, 0] rfl⟩
          · refine lv_goto (tgt := 219) hx hb dX0_slightsIn_143 (by decide) ?_
            refine lv_iinc (v := nI (k + 1)) (lv' := [(8, .int (nI (k + 1))), (11, .ref ((Ls 0).getD (cY S i k) 0)), (10, .ref ((Ls 0).getD (cX S i k) 0)), (9, .ref ((Ls (10 + i)).getD k 0)), (0, .ref (w 0)), (1, .int (nI q)), (2, .int (nI cr)), (3, .int (nI on)), (4, .ref la), (5, .ref ((Ls 3).getD q 0)), (6, .int (nI i)), (7, .ref ((Ls 2).getD i 0))]) hx hb dX0_slightsIn_219 hl (k := 11) rfl (nI_add k 1) (by decide) rfl (fun ls hl => ?_)
            refine lv_goto (tgt := 54) hx hb dX0_slightsIn_222 (by decide) ?_
            exact ih54 (k + 1) L j hh (by omega) H locs ls _ _ ⟨by omega, hAl, by rw [ss_f (Or.inr (Or.inl c2))]; exact hSl, hxB, hjl, hcs, Or.inr cc, hH, hS, lv_sub hl [4, 5, 6, 7, 8, 9, 10, 11, 0] rfl⟩
end MODEL
