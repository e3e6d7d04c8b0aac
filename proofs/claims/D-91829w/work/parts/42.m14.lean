/-! by gen/mspec.py -/
set_option maxRecDepth 100000
section MODEL
variable {l : Launch} {s0 : State} {D : va_G} {K : Nat → ClassId} {wd : Nat → Nat} {o : Nat} {h : Hp} {I : Nat → Int32} {V : Nat → Nat → Int32} {J : Nat → Nat → Int64}
set_option maxHeartbeats 4000000 in
theorem mt_weighPlaces (hK0 : va_K D CL (TYS K) s0) {S : Ab} (hO : SOK S) (hM : MOK S I V) {q : Nat} (hq : q < aRm S) {mem : List Nat} {n : Nat} (h43 : I 43 = nI mem.length) (h52 : I 52 = nI n) (h53 : ∀ i, i < mem.length → V 53 i = nI (mem.getD i 0)) (hme : ∀ i, i < mem.length → mem.getD i 0 < aN S) (hm7 : mem.length ≤ 7) (hn8 : n ≤ 8) : Met l yX2_weighPlaces (ws_ yX2_weighPlaces cX2_weighPlaces 6 ((Option.none : Option Jvm.ClassFile.FieldType))) (rmk 5 0 0) (va_Pc [.ref o, .int (nI q)] (PB s0 D CL (mset h K wd o I V J))) (QR s0 D CL (fun v h1 => v = none ∧ ∃ U, h1 = mset h K wd o I U J ∧ MOK S I U ∧ kp [55, 56] V U ∧ wpI S q n mem mem.length 0 0 0 U)) 0 0 (zA s0) := by
  refine hp_met (by decide) (Nat.le_of_ble_eq_true rfl) hK0 ?_
  intro p e s m below meth cd ls hx hb hr hlocks hml hown hnm hts hK hPB hl hS hH hA
  have hl : lv_has ls 6 [(0, .ref o), (1, .int (nI q))] := hl
  have hown : s.vm.findClass RX2 = some m.cls := hown
  have hn := hO.n
  have hmk := hO.mk
  have hrl := hO.rl
  have hrm := hO.rm
  have hsz := hO.sz
  refine lv_iconst (v := nI 0) hx hb dX2_weighPlaces_0 (by decide) ?_
  refine lv_istore_n (lv' := [(2, .int (nI 0)), (0, .ref o), (1, .int (nI q))]) hx hb dX2_weighPlaces_1 rfl hl (by decide) rfl (fun ls hl => ?_)
  refine w_loop2 (fun (i : Nat) (U : Nat → Nat → Int32) => mem.length - i) (fun (i : Nat) (U : Nat → Nat → Int32) H locs ls => (i ≤ mem.length) ∧ (wpI S q n mem i 0 0 0 U) ∧ (kp [55, 56] V U) ∧ (MOK S I U) ∧ HP D CL (zA s0) (mset h K wd o I U J) H ∧ va_S (zA s0) s.heap H locs ∧ lv_has ls 6 [(0, .ref o), (1, .int (nI q)), (2, .int (nI i))]) ?_ 0 V ⟨Nat.zero_le _, wp_0, kp.rf, hM, hH, hS, lv_sub hl [1, 2, 0] rfl⟩
  intro i U ih2 H locs ls hP
  obtain ⟨hii, hwp, hkp, hM, hH, hS, hl⟩ := hP
  refine lv_iload_n hx hb dX2_weighPlaces_2 rfl (lv_at hl 2 rfl) ?_
  refine lv_aload_n hx hb dX2_weighPlaces_3 rfl (lv_at hl 0 rfl) ?_
  refine m_get hx hb hts hown hK hH 43 (by decide) q1495 rfl (v := .int (nI mem.length)) (congrArg Value.int (h43)) dX2_weighPlaces_4 ?_
  refine lvN_ge (tgt := 79) hx hb (by first | omega | (refine Nat.lt_of_lt_of_le (Nat.mod_lt _ ?_) ?_ <;> omega)) (by first | omega | (refine Nat.lt_of_lt_of_le (Nat.mod_lt _ ?_) ?_ <;> omega)) dX2_weighPlaces_7 (by decide) (fun c1 => ?_) (fun c1 => ?_)
  · exact hp_vret hx hb hr hlocks hH hS (by decide) (by decide) dX2_weighPlaces_79 (⟨rfl, _, rfl, hM, hkp, by rw [show i = mem.length by omega] at hwp; exact hwp⟩)
  · refine lv_iconst (v := nI 0) hx hb dX2_weighPlaces_10 (by decide) ?_
    refine lv_istore_n (lv' := [(3, .int (nI 0)), (0, .ref o), (1, .int (nI q)), (2, .int (nI i))]) hx hb dX2_weighPlaces_11 rfl hl (by decide) rfl (fun ls hl => ?_)
    refine w_loop2 (fun (j : Nat) (U : Nat → Nat → Int32) => mem.length - j) (fun (j : Nat) (U : Nat → Nat → Int32) H locs ls => (j ≤ mem.length) ∧ (wpI S q n mem i j 0 0 U) ∧ (kp [55, 56] V U) ∧ (MOK S I U) ∧ HP D CL (zA s0) (mset h K wd o I U J) H ∧ va_S (zA s0) s.heap H locs ∧ lv_has ls 6 [(0, .ref o), (1, .int (nI q)), (2, .int (nI i)), (3, .int (nI j))]) ?_ 0 U ⟨Nat.zero_le _, hwp, hkp, hM, hH, hS, lv_sub hl [1, 2, 3, 0] rfl⟩
    intro j U ih12 H locs ls hP
    obtain ⟨hjj, hwp, hkp, hM, hH, hS, hl⟩ := hP
    refine lv_iload_n hx hb dX2_weighPlaces_12 rfl (lv_at hl 3 rfl) ?_
    refine lv_aload_n hx hb dX2_weighPlaces_13 rfl (lv_at hl 0 rfl) ?_
    refine m_get hx hb hts hown hK hH 43 (by decide) q1495 rfl (v := .int (nI mem.length)) (congrArg Value.int (h43)) dX2_weighPlaces_14 ?_
    refine lvN_ge (tgt := 73) hx hb (by first | omega | (refine Nat.lt_of_lt_of_le (Nat.mod_lt _ ?_) ?_ <;> omega)) (by first | omega | (refine Nat.lt_of_lt_of_le (Nat.mod_lt _ ?_) ?_ <;> omega)) dX2_weighPlaces_17 (by decide) (fun c2 => ?_) (fun c2 => ?_)
    · have hwp := wp_of (a2 := 0) (b2 := 0) (i2 := i + 1) (j2 := 0) hwp (fun i' j' a' b' h1 h2 h3 h4 h5 => by unfold bef at h5 ⊢; omega)
      refine lv_iinc (v := nI (i + 1)) (lv' := [(2, .int (nI (i + 1))), (0, .ref o), (1, .int (nI q)), (3, .int (nI j))]) hx hb dX2_weighPlaces_73 hl (k := 2) rfl (nI_add i 1) (by decide) rfl (fun ls hl => ?_)
      refine lv_goto (tgt := 2) hx hb dX2_weighPlaces_76 (by decide) ?_
      exact ih2 (i + 1) U (by omega) H locs ls ⟨by omega, hwp, hkp, hM, hH, hS, lv_sub hl [1, 2, 0] rfl⟩
    · refine lv_iconst (v := nI 0) hx hb dX2_weighPlaces_20 (by decide) ?_
      refine lv_istore (lv' := [(4, .int (nI 0)), (0, .ref o), (1, .int (nI q)), (2, .int (nI i)), (3, .int (nI j))]) hx hb dX2_weighPlaces_21 hl (by decide) rfl (fun ls hl => ?_)
      refine w_loop2 (fun (a : Nat) (U : Nat → Nat → Int32) => n - a) (fun (a : Nat) (U : Nat → Nat → Int32) H locs ls => (a ≤ n) ∧ (wpI S q n mem i j a 0 U) ∧ (kp [55, 56] V U) ∧ (MOK S I U) ∧ HP D CL (zA s0) (mset h K wd o I U J) H ∧ va_S (zA s0) s.heap H locs ∧ lv_has ls 6 [(0, .ref o), (1, .int (nI q)), (2, .int (nI i)), (3, .int (nI j)), (4, .int (nI a))]) ?_ 0 U ⟨Nat.zero_le _, hwp, hkp, hM, hH, hS, lv_sub hl [1, 2, 3, 4, 0] rfl⟩
      intro a U ih23 H locs ls hP
      obtain ⟨haa, hwp, hkp, hM, hH, hS, hl⟩ := hP
      refine lv_iload hx hb dX2_weighPlaces_23 (lv_at hl 4 rfl) ?_
      refine lv_aload_n hx hb dX2_weighPlaces_25 rfl (lv_at hl 0 rfl) ?_
      refine m_get hx hb hts hown hK hH 52 (by decide) q1504 rfl (v := .int (nI n)) (congrArg Value.int (h52)) dX2_weighPlaces_26 ?_
      refine lvN_ge (tgt := 67) hx hb (by first | omega | (refine Nat.lt_of_lt_of_le (Nat.mod_lt _ ?_) ?_ <;> omega)) (by first | omega | (refine Nat.lt_of_lt_of_le (Nat.mod_lt _ ?_) ?_ <;> omega)) dX2_weighPlaces_29 (by decide) (fun c3 => ?_) (fun c3 => ?_)
      · have hwp := wp_of (a2 := 0) (b2 := 0) (i2 := i) (j2 := j + 1) hwp (fun i' j' a' b' h1 h2 h3 h4 h5 => by unfold bef at h5 ⊢; omega)
        refine lv_iinc (v := nI (j + 1)) (lv' := [(3, .int (nI (j + 1))), (0, .ref o), (1, .int (nI q)), (2, .int (nI i)), (4, .int (nI a))]) hx hb dX2_weighPlaces_67 hl (k := 3) rfl (nI_add j 1) (by decide) rfl (fun ls hl => ?_)
        refine lv_goto (tgt := 12) hx hb dX2_weighPlaces_70 (by decide) ?_
        exact ih12 (j + 1) U (by omega) H locs ls ⟨by omega, hwp, hkp, hM, hH, hS, lv_sub hl [1, 2, 3, 0] rfl⟩
      · refine lv_iconst (v := nI 0) hx hb dX2_weighPlaces_32 (by decide) ?_
        refine lv_istore (lv' := [(5, .int (nI 0)), (0, .ref o), (1, .int (nI q)), (2, .int (nI i)), (3, .int (nI j)), (4, .int (nI a))]) hx hb dX2_weighPlaces_33 hl (by decide) rfl (fun ls hl => ?_)
        refine w_loop2 (fun (b : Nat) (U : Nat → Nat → Int32) => n - b) (fun (b : Nat) (U : Nat → Nat → Int32) H locs ls => (b ≤ n) ∧ (wpI S q n mem i j a b U) ∧ (kp [55, 56] V U) ∧ (MOK S I U) ∧ HP D CL (zA s0) (mset h K wd o I U J) H ∧ va_S (zA s0) s.heap H locs ∧ lv_has ls 6 [(0, .ref o), (1, .int (nI q)), (2, .int (nI i)), (3, .int (nI j)), (4, .int (nI a)), (5, .int (nI b))]) ?_ 0 U ⟨Nat.zero_le _, hwp, hkp, hM, hH, hS, lv_sub hl [1, 2, 3, 4, 5, 0] rfl⟩
        intro b U ih35 H locs ls hP
        obtain ⟨hbb, hwp, hkp, hM, hH, hS, hl⟩ := hP
        refine lv_iload hx hb dX2_weighPlaces_35 (lv_at hl 5 rfl) ?_
        refine lv_aload_n hx hb dX2_weighPlaces_37 rfl (lv_at hl 0 rfl) ?_
        refine m_get hx hb hts hown hK hH 52 (by decide) q1504 rfl (v := .int (nI n)) (congrArg Value.int (h52)) dX2_weighPlaces_38 ?_
        refine lvN_ge (tgt := 61) hx hb (by first | omega | (refine Nat.lt_of_lt_of_le (Nat.mod_lt _ ?_) ?_ <;> omega)) (by first | omega | (refine Nat.lt_of_lt_of_le (Nat.mod_lt _ ?_) ?_ <;> omega)) dX2_weighPlaces_41 (by decide) (fun c4 => ?_) (fun c4 => ?_)
        · have hwp := wp_of (a2 := a + 1) (b2 := 0) (i2 := i) (j2 := j) hwp (fun i' j' a' b' h1 h2 h3 h4 h5 => by unfold bef at h5 ⊢; omega)
          refine lv_iinc (v := nI (a + 1)) (lv' := [(4, .int (nI (a + 1))), (0, .ref o), (1, .int (nI q)), (2, .int (nI i)), (3, .int (nI j)), (5, .int (nI b))]) hx hb dX2_weighPlaces_61 hl (k := 4) rfl (nI_add a 1) (by decide) rfl (fun ls hl => ?_)
          refine lv_goto (tgt := 23) hx hb dX2_weighPlaces_64 (by decide) ?_
          exact ih23 (a + 1) U (by omega) H locs ls ⟨by omega, hwp, hkp, hM, hH, hS, lv_sub hl [1, 2, 3, 4, 0] rfl⟩
        · refine lv_aload_n hx hb dX2_weighPlaces_44 rfl (lv_at hl 0 rfl) ?_
          refine lv_iload_n hx hb dX2_weighPlaces_45 rfl (lv_at hl 1 rfl) ?_
          refine lv_iload_n hx hb dX2_weighPlaces_46 rfl (lv_at hl 2 rfl) ?_
          refine lv_iload_n hx hb dX2_weighPlaces_47 rfl (lv_at hl 3 rfl) ?_
          refine lv_iload hx hb dX2_weighPlaces_48 (lv_at hl 4 rfl) ?_
          refine lv_iload hx hb dX2_weighPlaces_50 (lv_at hl 5 rfl) ?_
          refine hp_callV (As := [.int (nI q), .int (nI i), .int (nI j), .int (nI a), .int (nI b)]) (rest := []) hx hb hml hown hts hPB hK hH hS (mt_weighPair hK0 hO hM (q := q) (i := i) (j := j) (a := a) (b := b) ((congrFun (hkp 53 (by decide)) _).trans (h53 i (by omega))) ((congrFun (hkp 53 (by decide)) _).trans (h53 j (by omega))) (hme i (by omega)) (hme j (by omega)) (by omega) (by omega) (by omega) (by omega) (by omega)) mset_o rfl rfl 5 (lw_V q1944 q1946 qs95 q107 q1947) (by decide +kernel) ⟨rfl, rfl⟩ (by decide) rfl hl.1 rfl (Nat.le_of_ble_eq_true rfl) (by decide) dX2_weighPlaces_52 (fun v5 h7 H locs hp6 _ hH hS => ?_)
          obtain ⟨rfl, U2, rfl, hM, hk2, e1, e2, e3⟩ := hp6
          refine lv_iinc (v := nI (b + 1)) (lv' := [(5, .int (nI (b + 1))), (0, .ref o), (1, .int (nI q)), (2, .int (nI i)), (3, .int (nI j)), (4, .int (nI a))]) hx hb dX2_weighPlaces_55 hl (k := 5) rfl (nI_add b 1) (by decide) rfl (fun ls hl => ?_)
          refine lv_goto (tgt := 35) hx hb dX2_weighPlaces_58 (by decide) ?_
          exact ih35 (b + 1) U2 (by omega) H locs ls ⟨by omega, wp_step hwp hm7 hn8 (by omega) (by omega) e1 e2 e3, hkp.tr hk2, hM, hH, hS, lv_sub hl [1, 2, 3, 4, 5, 0] rfl⟩
end MODEL
