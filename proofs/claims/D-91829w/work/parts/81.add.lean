/-! lists: an object is added, with growth or without -/
set_option maxRecDepth 100000
/-- all slots of the first j arrays -/
def gsum : Nat → Nat
  | 0 => 0
  | j + 1 => gsum j + gcap (j + 1)
section ADDROW
variable {l : Launch} {s0 : State} {D : va_G} {K : Nat → ClassId} {wd : Nat → Nat} {h : Hp}
theorem hp_add {p : Program} {e : Env} {R : Room} {s : State} {m : MethodId} {args : Array Value} {below : List Frame} {meth : Method} {c : Code} {H : Heap} {locs : List Loc} {cells slots : Nat} {Q : State → Prop} {cc : ByteArray} {pc : Nat} {ls : Array Slot} {rest st0 : List Value} {h0 : Hp} {own : String} {index nL : Nat} (hx : p.tables.exec = Jvm.exec) (hb : c.code = cc) (hml : c.maxLocals = nL) (hown : s.vm.findClass own = some m.cls) (hts : ∀ w ∈ lw_all, w.before args s = true) (hPB : PB s0 D CL h0 s) (hK0 : va_K D CL (TYS K) s0) (hK : va_K D CL (TYS K) s) (hH : HP D CL (zA s0) h H) (hS : va_S (zA s0) s.heap H locs) {av : Nat → Nat} {ed mi : Nat} (hG : GX s0 wd av ed mi)
    {a t j x : Nat} {L : List Nat} (hA0 : AL (K 4) ed h a t L j) (hxo : OBJ h x) (hj13 : L.length < gcap 13) (hq : Cond.methodLink own index ⟨"java/util/ArrayList", "add", "(Ljava/lang/Object;)Z"⟩ ∈ lw_all) (hR : 7 ≤ R.frames ∧ 8 + (2 + 11) + 1200 ≤ R.locals) (hsize : ls.size = nL) (hstack : st0 = .ref x :: .ref a :: rest) (hroom : (rest.map fun v => v.category).sum ≤ 8) (hf : cells + 1 ≤ R.cells ∧ slots + gcap (j + 1) ≤ R.slots) (hdg : decode cc pc = .ok (.invokevirtual index, 3))
    (kk : ∀ (j2 : Nat) (h1 : Hp) (H1 : Heap) (locs1 : List Loc), AL (K 4) ed h1 a t (L ++ [x]) j2 → frT t h h1 → obK h h1 → (j2 = j ∨ (j2 = j + 1 ∧ L.length = gcap j)) → HP D CL (zA s0) h1 H1 → va_S (zA s0) s.heap H1 locs1 → W p l e R s m args below meth c H1 locs1 (cells + (j2 - j)) (slots + (gsum j2 - gsum j)) Q (F0 m (pc + 3) ls (.int (zI true) :: rest))) : W p l e R s m args below meth c H locs cells slots Q (F0 m pc ls st0) := by
  have hA := hA0
  obtain ⟨mcn, d, he, hob, hlen, hdd⟩ := hA
  by_cases hlt : L.length < gcap j
  · refine hp_callV (As := [.ref x]) (rest := rest) hx hb hml hown hts hPB hK hH hS (mj_addK hK0 hG hA0 hxo hlt) he rfl rfl 1 (lw_V hq q577 q578 q106 q579) (by decide +kernel) ⟨rfl, rfl⟩ (by simp only [rmk]; omega) rfl hsize hstack hroom (by omega) hdg (fun v h1 H1 locs1 hp _ hH1 hS1 => ?_)
    obtain ⟨rfl, q1, q2, q3⟩ := hp
    have z := kk j h1 H1 locs1 q1 q2 q3 (Or.inl rfl) hH1 hS1
    rw [Nat.sub_self, Nat.sub_self] at z
    exact z
  · have heq : L.length = gcap j := by omega
    have hj : j < 13 := by
      rcases Nat.lt_or_ge j 13 with q | q
      · exact q
      · have : j = 13 := by omega
        rw [this] at heq; omega
    have hs : gsum (j + 1) - gsum j = gcap (j + 1) := by show gsum j + gcap (j + 1) - gsum j = _; omega
    have h1e : j + 1 - j = 1 := by omega
    rcases Nat.eq_zero_or_pos j with q | q
    · subst q
      refine hp_callV (As := [.ref x]) (rest := rest) hx hb hml hown hts hPB hK hH hS (mj_add0 hK0 hG (j := 0) hA0 hxo) he rfl rfl 1 (lw_V hq q577 q578 q106 q579) (by decide +kernel) ⟨rfl, rfl⟩ (by simp only [rmk]; omega) rfl hsize hstack hroom hf hdg (fun v h1 H1 locs1 hp _ hH1 hS1 => ?_)
      obtain ⟨rfl, q1, q2, q3⟩ := hp
      have z := kk 1 h1 H1 locs1 q1 q2 q3 (Or.inr ⟨rfl, heq⟩) hH1 hS1
      exact z
    · refine hp_callV (As := [.ref x]) (rest := rest) hx hb hml hown hts hPB hK hH hS (mj_addN hK0 hG hA0 hxo heq ⟨q, hj⟩) he rfl rfl 1 (lw_V hq q577 q578 q106 q579) (by decide +kernel) ⟨rfl, rfl⟩ (by simp only [rmk]; omega) rfl hsize hstack hroom hf hdg (fun v h1 H1 locs1 hp _ hH1 hS1 => ?_)
      obtain ⟨rfl, q1, q2, q3⟩ := hp
      have z := kk (j + 1) h1 H1 locs1 q1 q2 q3 (Or.inr ⟨rfl, heq⟩) hH1 hS1
      rw [hs, h1e] at z
      exact z
end ADDROW
theorem gsum_le : ∀ j, j ≤ 13 → gsum j ≤ 3700 := by decide
