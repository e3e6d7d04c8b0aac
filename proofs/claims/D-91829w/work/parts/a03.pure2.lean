/-! how the world goes on -/
set_option maxRecDepth 100000
theorem lv_topv {p : Program} {l : Launch} {e : Env} {R : Room} {s : State} {m : MethodId} {args : Array Value} {below : List Frame} {meth : Method} {c : Code} {H : Heap} {locs : List Loc} {cells slots : Nat} {Q : State → Prop} {pc : Nat} {ls : Array Slot} {rest : List Value} {x y : Value} (h : x = y) (k : W p l e R s m args below meth c H locs cells slots Q (F0 m pc ls (y :: rest))) : W p l e R s m args below meth c H locs cells slots Q (F0 m pc ls (x :: rest)) := by rw [h]; exact k
theorem unV_c {S : Ab} {r : Nat} (Ls : Nat → List Nat) (h : aUn S r = -1 ∨ ∃ m, m < aMk S ∧ aUn S r = nI m) (hm : aMk S ≤ 5) : (aUn S r = -1 ∧ unV Ls (aUn S r) = .null) ∨ ∃ m, m < aMk S ∧ aUn S r = nI m ∧ unV Ls (aUn S r) = .ref ((Ls 1).getD m 0) := by
  rcases h with q | ⟨m, h1, h2⟩
  · exact Or.inl ⟨q, by unfold unV; rw [if_pos q]⟩
  · refine Or.inr ⟨m, h1, h2, ?_⟩
    unfold unV
    rw [h2, if_neg (nI_m1 (by omega)), nI_clamp (by omega)]
/-- the cells of the model stay -/
def fr0 (h h1 : Hp) : Prop := ∀ b e, h b = some (e, 0) → h1 b = some (e, 0)
/-- behind a call of the component -/
def PBX (K : Nat → ClassId) (ed : Nat) (S : Ab) (x : Nat) (h h1 : Hp) : Prop := ∃ w Ls J Z, w 0 = x ∧ CW K ed S h1 w Ls J Z ∧ fr0 h h1
section WORLD2
variable {K : Nat → ClassId} {ed : Nat} {S S' : Ab} {h h1 : Hp} {w : Nat → Nat} {Ls : Nat → List Nat} {J : Nat → Nat} {Z : Nat → Nat → Int32}
theorem pbx_h (W : CW K ed S h w Ls J Z) : PBX K ed S (w 0) h h := ⟨w, Ls, J, Z, rfl, W, fun _ _ q => q⟩
theorem pbx_z (W : CW K ed S h w Ls J Z) (Z' : Nat → Nat → Int32) : PBX K ed S (w 0) h (zset h K w S Z') := ⟨w, Ls, J, Z', rfl, W.z Z', fun _ _ q => zset_f W q (by decide) (by decide)⟩
theorem getD_ne {L : List Nat} (hd : L.Nodup) {i j : Nat} (hi : i < L.length) (hj : j < L.length) (n : i ≠ j) : L.getD i 0 ≠ L.getD j 0 := by
  rw [List.getD_eq_getElem?_getD, List.getD_eq_getElem?_getD, List.getElem?_eq_getElem hi, List.getElem?_eq_getElem hj]
  intro q
  exact n ((List.getElem_inj hd).mp q)
/-- two states that are one but for a guest -/
def eqG (S S' : Ab) (g : Nat) : Prop := (S'.1 = S.1 ∧ S'.2.1 = S.2.1 ∧ S'.2.2.1 0 = S.2.2.1 0 ∧ S'.2.2.2 0 = S.2.2.2 0 ∧ S'.2.2.2 1 = S.2.2.2 1 ∧ S'.2.2.2 4 = S.2.2.2 4) ∧ ∀ k, k ≠ g → aCm S' k = aCm S k ∧ aSi S' k = aSi S k ∧ aIr S' k = aIr S k ∧ aIp S' k = aIp S k
theorem cplS_eq (e2 : S'.2.1 = S.2.1) (e5 : S'.2.2.2 1 = S.2.2.2 1) (r : Nat) : cplS S' r = cplS S r := by
  unfold cplS bW bU aKd aOn aOt aUn aMd
  rw [e2, e5]
theorem CW.gst (W : CW K ed S h w Ls J Z) {g : Nat} (hg : g < aN S) (E : eqG S S' g) : CW K ed S' (hset h ((Ls 0).getD g 0) (.inr (4, [.ref (w (100 + g)), .int (nI g), .int (zI (aCm S' g)), .int (zI (aSi S' g)), .int (aIr S' g), .int (aIp S' g)])) 20) w Ls J Z := by
  have ha := W.g hg
  generalize hc : (Sum.inr (4, [.ref (w (100 + g)), .int (nI g), .int (zI (aCm S' g)), .int (zI (aSi S' g)), .int (aIr S' g), .int (aIp S' g)]) : va_E) = cx
  have fr : frT 20 h (hset h ((Ls 0).getD g 0) cx 20) := set_fr ha
  have o : obK h (hset h ((Ls 0).getD g 0) cx 20) := fun y q => OBJ.set q (fun _ => ⟨_, _, hc.symm⟩)
  have W0 := W
  obtain ⟨w1, ⟨tx, w2, w2b⟩, ⟨⟨v0, i1, i2, i3, w3⟩, w3b⟩, w4, w5, w6, w7, w8, w9, w10⟩ := W
  obtain ⟨⟨e1, e2, e3, e4, e5, e6⟩, e7⟩ := E
  have n0 : aN S' = aN S := congrFun e1 0
  have n1 : aMk S' = aMk S := congrFun e1 1
  have n2 : aRl S' = aRl S := congrFun e1 2
  have n3 : aRm S' = aRm S := congrFun e1 3
  have n4 : aSz S' = aSz S := congrFun e1 4
  have n5 : aTx S' = aTx S := by unfold aTx; rw [e6]
  have n6 : aMd S' = aMd S := by unfold aMd; rw [e2]
  have n7 : aKd S' = aKd S := by unfold aKd; rw [e2]
  have n8 : aOn S' = aOn S := by unfold aOn; rw [e2]
  have n9 : aOt S' = aOt S := by unfold aOt; rw [e2]
  have n10 : aWt S' = aWt S := by unfold aWt; rw [e2]
  have n11 : aTl S' = aTl S := by unfold aTl; rw [e4]
  have n12 : aUn S' = aUn S := by unfold aUn; rw [e5]
  have n13 : aRs S' = aRs S := by unfold aRs; rw [e3]
  have n14 : aRk S' = aRk S := by unfold aRk; rw [e2]
  have n15 : aRp S' = aRp S := by unfold aRp; rw [e2]
  unfold CW
  rw [n0, n1, n2, n3, n4, n5, n6, n7, n8, n9, n10, n11, n12, n13, n14, n15]
  refine ⟨fr _ _ _ w1 (by decide), ⟨tx, fr _ _ _ w2 (by decide), w2b⟩, ⟨⟨v0, i1, i2, i3, fr _ _ _ w3 (by decide)⟩, fun k2 hk2 => ?_⟩, fun k2 hk2 => (w4 k2 hk2).keep (fun b e q => fr b e _ q (by omega)) o, fun k2 hk2 => fr _ _ _ (w5 k2 hk2) (by omega), w6, fun k hk => ?_, fun m hm => fr _ _ _ (w8 m hm) (by decide), fun r hr => ?_, fun q hq => fr _ _ _ (w10 q hq) (by decide)⟩
  · obtain ⟨L, j, a⟩ := w3b k2 hk2
    exact ⟨L, j, a.keep (fun b e q => fr b e _ q (by omega)) o⟩
  · by_cases c : k = g
    · subst c
      rw [← hc]
      exact hset_self _ _ _ _
    · rw [hset_ne _ _ _ (getD_ne W0.dg (by rw [W0.ng]; exact hk) (by rw [W0.ng]; exact hg) c), (e7 k c).1, (e7 k c).2.1, (e7 k c).2.2.1, (e7 k c).2.2.2]
      exact w7 k hk
  · obtain ⟨a, b, c⟩ := w9 r hr
    rw [cplS_eq e2 e5]
    exact ⟨fr _ _ _ a (by decide), b.keep (fun b e q => fr b e _ q (by decide)) o, cpl_keep c (fun b e q => fr b e _ q (by decide))⟩
theorem pbx_g (W : CW K ed S h w Ls J Z) {g : Nat} (hg : g < aN S) (E : eqG S S' g) {cx : va_E} (hc : cx = .inr (4, [.ref (w (100 + g)), .int (nI g), .int (zI (aCm S' g)), .int (zI (aSi S' g)), .int (aIr S' g), .int (aIp S' g)])) : PBX K ed S' (w 0) h (hset h ((Ls 0).getD g 0) cx 20) := by
  subst hc
  exact ⟨w, Ls, J, Z, rfl, W.gst hg E, fun b e q => (hset_ne _ _ _ (ne_tg q (W.g hg) (by decide))).trans q⟩
/-- a rule rests, or not -/
theorem CW.rst (W : CW K ed S h w Ls J Z) {r : Nat} (hr : r < aRl S) (b : Bool) : CW K ed (setB S 0 r b) (hset h ((Ls 2).getD r 0) (.inr (cRl (aKd S r), [.ref (sdA Ls (aOn S r)), .ref (sdA Ls (aOt S r)), .int (nI (aWt S r)), .int (aTl S r), unV Ls (aUn S r), .int (zI b), .ref (w (300 + r))])) 22) w Ls J Z := by
  have ha := W.r hr
  generalize hc : (Sum.inr (cRl (aKd S r), [.ref (sdA Ls (aOn S r)), .ref (sdA Ls (aOt S r)), .int (nI (aWt S r)), .int (aTl S r), unV Ls (aUn S r), .int (zI b), .ref (w (300 + r))]) : va_E) = cx
  have fr : frT 22 h (hset h ((Ls 2).getD r 0) cx 22) := set_fr ha
  have o : obK h (hset h ((Ls 2).getD r 0) cx 22) := fun y q => OBJ.set q (fun _ => ⟨_, _, hc.symm⟩)
  have W0 := W
  obtain ⟨w1, ⟨tx, w2, w2b⟩, ⟨⟨v0, i1, i2, i3, w3⟩, w3b⟩, w4, w5, w6, w7, w8, w9, w10⟩ := W
  have er : ∀ k, aRs (setB S 0 r b) k = if k = r then b else aRs S k := fun k => by
    show va_up S.2.2.1 0 (va_up (S.2.2.1 0) r b) 0 k = _
    rw [va_up_self]
    unfold va_up
    rfl
  refine ⟨fr _ _ _ w1 (by decide), ⟨tx, fr _ _ _ w2 (by decide), w2b⟩, ⟨⟨v0, i1, i2, i3, fr _ _ _ w3 (by decide)⟩, fun k2 hk2 => ?_⟩, fun k2 hk2 => (w4 k2 hk2).keep (fun b e q => fr b e _ q (by omega)) o, fun k2 hk2 => fr _ _ _ (w5 k2 hk2) (by omega), w6, fun k hk => fr _ _ _ (w7 k hk) (by decide), fun m hm => fr _ _ _ (w8 m hm) (by decide), fun k hk => ?_, fun q hq => fr _ _ _ (w10 q hq) (by decide)⟩
  · obtain ⟨L, j, a⟩ := w3b k2 hk2
    exact ⟨L, j, a.keep (fun b e q => fr b e _ q (by omega)) o⟩
  · have hk : k < aRl S := hk
    obtain ⟨a, b2, c2⟩ := w9 k hk
    refine ⟨?_, b2.keep (fun b e q => fr b e _ q (by decide)) o, cpl_keep c2 (fun b e q => fr b e _ q (by decide))⟩
    rw [er]
    by_cases c : k = r
    · subst c
      rw [if_pos rfl, hset_self, ← hc]
      rfl
    · rw [if_neg c, hset_ne _ _ _ (getD_ne W0.dr (by rw [W0.nr]; exact hk) (by rw [W0.nr]; exact hr) c)]
      exact a
theorem pbx_r (W : CW K ed S h w Ls J Z) {r : Nat} (hr : r < aRl S) (b : Bool) : PBX K ed (setB S 0 r b) (w 0) h (hset h ((Ls 2).getD r 0) (.inr (cRl (aKd S r), [.ref (sdA Ls (aOn S r)), .ref (sdA Ls (aOt S r)), .int (nI (aWt S r)), .int (aTl S r), unV Ls (aUn S r), .int (zI b), .ref (w (300 + r))])) 22) :=
  ⟨w, Ls, J, Z, rfl, W.rst hr b, fun b e q => (hset_ne _ _ _ (ne_tg q (W.r hr) (by decide))).trans q⟩
end WORLD2
section PURE2
variable {S : Ab} {room : Int32} {x y r i : Nat}
theorem no_up {P : Nat → Prop} {k : Nat} (h : ∀ u, u < k → ¬ P u) (hk : ¬ P k) : ∀ u, u < k + 1 → ¬ P u := fun u hu => by
  rcases Nat.lt_succ_iff_lt_or_eq.mp hu with q | q
  · exact h u q
  · rw [q]; exact hk
theorem cpl_yes {k : Nat} (hk : k < cN S r) (h1 : cX S r k = x) (h2 : cY S r k = y) : cplL S r x y = true := by
  have := (cplS_mem.mp (getDP_mem hk)).2.2
  rw [← h1, ← h2]
  exact this
theorem cpl_no (hO : SOK S) (h2 : SO2 S) (hr : r < aRl S) (hno : ∀ u, u < cN S r → ¬ (cX S r u = x ∧ cY S r u = y)) : cplL S r x y = false := by
  cases c : cplL S r x y with
  | false => rfl
  | true =>
    have hl := cplL_lt hO h2 hr c
    have hn := hO.n
    obtain ⟨i, hi, e⟩ := List.getElem_of_mem (cplS_mem.mpr (show (x, y).1 < 10 ∧ (x, y).2 < 10 ∧ cplL S r (x, y).1 (x, y).2 = true from ⟨by show x < 10; omega, by show y < 10; omega, c⟩))
    have e2 : (cplS S r).getD i (0, 0) = (x, y) := by rw [List.getD_eq_getElem?_getD, List.getElem?_eq_getElem hi]; exact e
    exact absurd ⟨by unfold cX; rw [e2], by unfold cY; rw [e2]⟩ (hno i hi)
theorem cntF_L (hk : aKd S r = 0) : cntF S r room x y = (cnt S r room && (cplL S r x y && (aCm S x && aCm S y))) := by
  unfold cntF hasC cplL
  rw [hk]
  cases cnt S r room <;> cases aCm S x <;> cases aCm S y <;> simp
theorem srcF_y (hk : aKd S i = 0) (h1 : cnt S i room = true) (h2 : (cplL S i x y && (aCm S x && aCm S y)) = true) (hw : srcF S room x y 0 i = -1 ∨ aWt S (srcF S room x y 0 i).toNatClampNeg < aWt S i) : srcF S room x y 0 (i + 1) = nI i := if_pos ⟨hk, Nat.zero_testBit _, by rw [cntF_L hk, h1, h2]; rfl, hw⟩
theorem srcF_k (h : aKd S i ≠ 0 ∨ (aKd S i = 0 ∧ (cnt S i room = false ∨ (cplL S i x y && (aCm S x && aCm S y)) = false)) ∨ (srcF S room x y 0 i ≠ -1 ∧ ¬ aWt S (srcF S room x y 0 i).toNatClampNeg < aWt S i)) : srcF S room x y 0 (i + 1) = srcF S room x y 0 i := by
  refine if_neg (fun q => ?_)
  rcases h with z | ⟨hk, z⟩ | z
  · exact z q.1
  · have := q.2.2.1
    rw [cntF_L hk] at this
    rcases z with z | z <;> rw [z] at this <;> simp at this
  · exact q.2.2.2.elim z.1 z.2
end PURE2
/-! tags for what is made on the way -/
def noT (t : Nat) (h : Hp) : Prop := ∀ b e, h b ≠ some (e, t)
theorem HP.tag {D : va_G} {cl : List vw_C} {A : Nat → Prop} {h : Hp} {H : Heap} (hH : HP D cl A h H) : ∃ tg, 30 ≤ tg ∧ noT tg h := by
  have key : ∀ n, ∃ N, ∀ a, a < n → ∀ e t, h a = some (e, t) → t < N := by
    intro n
    induction n with
    | zero => exact ⟨0, fun a ha => absurd ha (Nat.not_lt_zero _)⟩
    | succ n ih =>
      obtain ⟨N, hN⟩ := ih
      cases c : h n with
      | none =>
        refine ⟨N, fun a ha e t q => ?_⟩
        rcases Nat.lt_succ_iff_lt_or_eq.mp ha with z | z
        · exact hN a z e t q
        · rw [z, c] at q; cases q
      | some x =>
        obtain ⟨e0, t0⟩ := x
        refine ⟨max N (t0 + 1), fun a ha e t q => ?_⟩
        rcases Nat.lt_succ_iff_lt_or_eq.mp ha with z | z
        · have := hN a z e t q; omega
        · rw [z, c] at q; cases q; omega
  obtain ⟨N, hN⟩ := key H.size
  refine ⟨N + 30, by omega, fun b e q => ?_⟩
  have := hN b (hH.lt q) e _ q
  omega
theorem ex_add {t : Nat} {h h1 h2 : Hp} (hn : noT t h) (x : exH h h1) (f : frT t h1 h2) : exH h h2 := fun b e u q => f b e u (x b e u q) (fun z => hn b e (z ▸ q))
def nC (S : Ab) : Nat := (comP S (aN S)).length
def cm (S : Ab) (i : Nat) : Nat := (comP S (aN S)).getD i 0
theorem cm_lt {S : Ab} {i : Nat} (h : i < nC S) : cm S i < aN S ∧ aCm S (cm S i) = true := comP_lt h
theorem nC_le (S : Ab) : nC S ≤ aN S := comP_len S (aN S)
theorem cm_at {Ls : Nat → List Nat} {S : Ab} {i : Nat} (h : i < nC S) : Value.ref ((comA Ls S (aN S)).getD i 0) = .ref ((Ls 0).getD (cm S i) 0) := congrArg Value.ref (comA_get h)
theorem comA_n {Ls : Nat → List Nat} {S : Ab} : (comA Ls S (aN S)).length = nC S := comA_len
theorem c_one {j j2 cells slots : Nat} {G : Prop} (h : cells ≤ 1 + j ∧ slots ≤ 3 + gsum j) (hj : j2 = j ∨ (j2 = j + 1 ∧ G)) : cells + (j2 - j) ≤ 1 + j2 ∧ slots + (gsum j2 - gsum j) ≤ 3 + gsum j2 := by
  have : gsum j ≤ gsum j2 := by
    rcases hj with e | ⟨e, _⟩
    · rw [e]; exact Nat.le_refl _
    · rw [e]; show gsum j ≤ gsum j + _; omega
  rcases hj with e | ⟨e, _⟩ <;> omega
