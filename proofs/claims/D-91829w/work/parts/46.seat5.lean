/-! ways that join; seatings: what the cells hold of the search -/
set_option maxRecDepth 100000
section JOINS
variable {p : Program} {l : Launch} {e : Env} {R : Room} {s : State} {m : MethodId} {args : Array Value} {below : List Frame} {meth : Method} {c : Code} {H : Heap} {locs : List Loc} {cells slots : Nat} {Q : State → Prop}
variable {pc : Nat} {ls : Array Slot} {rest : List Value}
theorem w_join0 {pc' : Nat} (P : Heap → List Loc → Array Slot → Prop) (hj : ∀  (H : Heap) (locs : List Loc) (ls : Array Slot), P  H locs ls → W p l e R s m args below meth c H locs cells slots Q (F0 m pc' ls [])) (k : (∀  (H : Heap) (locs : List Loc) (ls : Array Slot), P  H locs ls → W p l e R s m args below meth c H locs cells slots Q (F0 m pc' ls [])) → W p l e R s m args below meth c H locs cells slots Q (F0 m pc ls rest)) : W p l e R s m args below meth c H locs cells slots Q (F0 m pc ls rest) := k hj
theorem w_join1 {A1 : Type} {pc' : Nat} (P : A1 → Heap → List Loc → Array Slot → Prop) (hj : ∀ (a1 : A1) (H : Heap) (locs : List Loc) (ls : Array Slot), P a1 H locs ls → W p l e R s m args below meth c H locs cells slots Q (F0 m pc' ls [])) (k : (∀ (a1 : A1) (H : Heap) (locs : List Loc) (ls : Array Slot), P a1 H locs ls → W p l e R s m args below meth c H locs cells slots Q (F0 m pc' ls [])) → W p l e R s m args below meth c H locs cells slots Q (F0 m pc ls rest)) : W p l e R s m args below meth c H locs cells slots Q (F0 m pc ls rest) := k hj
theorem w_join2 {A1 A2 : Type} {pc' : Nat} (P : A1 → A2 → Heap → List Loc → Array Slot → Prop) (hj : ∀ (a1 : A1) (a2 : A2) (H : Heap) (locs : List Loc) (ls : Array Slot), P a1 a2 H locs ls → W p l e R s m args below meth c H locs cells slots Q (F0 m pc' ls [])) (k : (∀ (a1 : A1) (a2 : A2) (H : Heap) (locs : List Loc) (ls : Array Slot), P a1 a2 H locs ls → W p l e R s m args below meth c H locs cells slots Q (F0 m pc' ls [])) → W p l e R s m args below meth c H locs cells slots Q (F0 m pc ls rest)) : W p l e R s m args below meth c H locs cells slots Q (F0 m pc ls rest) := k hj
theorem w_join3 {A1 A2 A3 : Type} {pc' : Nat} (P : A1 → A2 → A3 → Heap → List Loc → Array Slot → Prop) (hj : ∀ (a1 : A1) (a2 : A2) (a3 : A3) (H : Heap) (locs : List Loc) (ls : Array Slot), P a1 a2 a3 H locs ls → W p l e R s m args below meth c H locs cells slots Q (F0 m pc' ls [])) (k : (∀ (a1 : A1) (a2 : A2) (a3 : A3) (H : Heap) (locs : List Loc) (ls : Array Slot), P a1 a2 a3 H locs ls → W p l e R s m args below meth c H locs cells slots Q (F0 m pc' ls [])) → W p l e R s m args below meth c H locs cells slots Q (F0 m pc ls rest)) : W p l e R s m args below meth c H locs cells slots Q (F0 m pc ls rest) := k hj
theorem w_join4 {A1 A2 A3 A4 : Type} {pc' : Nat} (P : A1 → A2 → A3 → A4 → Heap → List Loc → Array Slot → Prop) (hj : ∀ (a1 : A1) (a2 : A2) (a3 : A3) (a4 : A4) (H : Heap) (locs : List Loc) (ls : Array Slot), P a1 a2 a3 a4 H locs ls → W p l e R s m args below meth c H locs cells slots Q (F0 m pc' ls [])) (k : (∀ (a1 : A1) (a2 : A2) (a3 : A3) (a4 : A4) (H : Heap) (locs : List Loc) (ls : Array Slot), P a1 a2 a3 a4 H locs ls → W p l e R s m args below meth c H locs cells slots Q (F0 m pc' ls [])) → W p l e R s m args below meth c H locs cells slots Q (F0 m pc ls rest)) : W p l e R s m args below meth c H locs cells slots Q (F0 m pc ls rest) := k hj
theorem w_join5 {A1 A2 A3 A4 A5 : Type} {pc' : Nat} (P : A1 → A2 → A3 → A4 → A5 → Heap → List Loc → Array Slot → Prop) (hj : ∀ (a1 : A1) (a2 : A2) (a3 : A3) (a4 : A4) (a5 : A5) (H : Heap) (locs : List Loc) (ls : Array Slot), P a1 a2 a3 a4 a5 H locs ls → W p l e R s m args below meth c H locs cells slots Q (F0 m pc' ls [])) (k : (∀ (a1 : A1) (a2 : A2) (a3 : A3) (a4 : A4) (a5 : A5) (H : Heap) (locs : List Loc) (ls : Array Slot), P a1 a2 a3 a4 a5 H locs ls → W p l e R s m args below meth c H locs cells slots Q (F0 m pc' ls [])) → W p l e R s m args below meth c H locs cells slots Q (F0 m pc ls rest)) : W p l e R s m args below meth c H locs cells slots Q (F0 m pc ls rest) := k hj
end JOINS
abbrev SeZ := Option (Nat × List (List Nat)) × Option (Nat × Nat × List Nat) × Option (Nat × List Nat)
/-- what a whole seating does to all that is kept -/
def lfU (S : Ab) (q : Nat) (mem : List Nat) (md : Bool) (lim : Int32) (z : SeZ) (pl : List Nat) (w m : Nat) : SeZ := if md then (z.1, z.2.1, mdU S q mem lim z.2.2 pl w) else (lsU z.1 pl w, mlU z.2.1 pl w m, z.2.2)
/-- the place that all have in common -/
def smI (L : List (List Nat)) (i : Nat) : Int32 := if L.all (fun l => decide (l.getD i 0 = (L.headD []).getD i 0)) then nI ((L.headD []).getD i 0) else -1
def snM (L : List (List Nat)) (n p : Nat) : Nat := ofB (fun i => L.any (fun l => decide (l.getD i 0 = p))) n
def lsR (n : Nat) (I : Nat → Int32) (V : Nat → Nat → Int32) : Option (Nat × List (List Nat)) → Prop
  | none => I 54 = -1
  | some (b, L) => (b < 2 ^ 31 ∧ L ≠ [] ∧ ∀ l ∈ L, ∀ i, l.getD i 0 < 8) ∧ I 54 = nI b ∧ I 55 = nI L.length ∧ (∀ i, i < n → V 58 i = nI ((L.headD []).getD i 0)) ∧ (∀ i, i < n → V 61 i = smI L i) ∧ ∀ p, p < 8 → V 62 p = nI (snM L n p)
def mlR (n : Nat) (I : Nat → Int32) (V : Nat → Nat → Int32) : Option (Nat × Nat × List Nat) → Prop
  | none => I 56 = -1
  | some (b, a, L) => b < 2 ^ 31 ∧ a < 2 ^ 31 ∧ I 56 = nI b ∧ I 57 = nI a ∧ ∀ i, i < n → V 59 i = nI (L.getD i 0)
def mdR (n : Nat) (I : Nat → Int32) (V : Nat → Nat → Int32) : Option (Nat × List Nat) → Prop
  | none => I 59 = -1
  | some (b, L) => b < 2 ^ 31 ∧ I 59 = nI b ∧ ∀ i, i < n → V 60 i = nI (L.getD i 0)
theorem ls_cg {n : Nat} {I I' : Nat → Int32} {V V' : Nat → Nat → Int32} {z : Option (Nat × List (List Nat))} (h : lsR n I V z) (e1 : I' 54 = I 54) (e2 : I' 55 = I 55) (e3 : V' 58 = V 58) (e4 : V' 61 = V 61) (e5 : V' 62 = V 62) : lsR n I' V' z := by
  cases z with
  | none => exact e1.trans h
  | some z => unfold lsR at h ⊢; rw [e1, e2, e3, e4, e5]; exact h
theorem ml_cg {n : Nat} {I I' : Nat → Int32} {V V' : Nat → Nat → Int32} {z : Option (Nat × Nat × List Nat)} (h : mlR n I V z) (e1 : I' 56 = I 56) (e2 : I' 57 = I 57) (e3 : V' 59 = V 59) : mlR n I' V' z := by
  cases z with
  | none => exact e1.trans h
  | some z => unfold mlR at h ⊢; rw [e1, e2, e3]; exact h
theorem md_cg {n : Nat} {I I' : Nat → Int32} {V V' : Nat → Nat → Int32} {z : Option (Nat × List Nat)} (h : mdR n I V z) (e1 : I' 59 = I 59) (e3 : V' 60 = V 60) : mdR n I' V' z := by
  cases z with
  | none => exact e1.trans h
  | some z => unfold mdR at h ⊢; rw [e1, e3]; exact h
theorem ls_none {n : Nat} {I : Nat → Int32} {V : Nat → Nat → Int32} {z : Option (Nat × List (List Nat))} (h : lsR n I V z) (e : I 54 = -1) : z = none := by
  cases z with
  | none => rfl
  | some z => exact absurd (h.2.1.symm.trans e) (nI_m1 h.1.1)
theorem ls_some {n : Nat} {I : Nat → Int32} {V : Nat → Nat → Int32} {z : Option (Nat × List (List Nat))} (h : lsR n I V z) (e : I 54 ≠ -1) : ∃ b L, z = some (b, L) := by
  cases z with
  | none => exact absurd h e
  | some z => exact ⟨z.1, z.2, rfl⟩
theorem ml_none {n : Nat} {I : Nat → Int32} {V : Nat → Nat → Int32} {z : Option (Nat × Nat × List Nat)} (h : mlR n I V z) (e : I 56 = -1) : z = none := by
  cases z with
  | none => rfl
  | some z => exact absurd (h.2.2.1.symm.trans e) (nI_m1 h.1)
theorem ml_some {n : Nat} {I : Nat → Int32} {V : Nat → Nat → Int32} {z : Option (Nat × Nat × List Nat)} (h : mlR n I V z) (e : I 56 ≠ -1) : ∃ b a L, z = some (b, a, L) := by
  cases z with
  | none => exact absurd h e
  | some z => exact ⟨z.1, z.2.1, z.2.2, rfl⟩
theorem md_none {n : Nat} {I : Nat → Int32} {V : Nat → Nat → Int32} {z : Option (Nat × List Nat)} (h : mdR n I V z) (e : I 59 = -1) : z = none := by
  cases z with
  | none => rfl
  | some z => exact absurd (h.2.1.symm.trans e) (nI_m1 h.1)
theorem md_some {n : Nat} {I : Nat → Int32} {V : Nat → Nat → Int32} {z : Option (Nat × List Nat)} (h : mdR n I V z) (e : I 59 ≠ -1) : ∃ b L, z = some (b, L) := by
  cases z with
  | none => exact absurd h e
  | some z => exact ⟨z.1, z.2, rfl⟩
/-- 'same' as a new seating finds it -/
def smA (L : List (List Nat)) (pl : List Nat) (u : Nat) : Int32 := if L = [] then nI (pl.getD u 0) else smI L u
theorem smA_nil (pl : List Nat) (u : Nat) : smA [] pl u = nI (pl.getD u 0) := rfl
theorem smA_ne {L : List (List Nat)} (h : L ≠ []) (pl : List Nat) (u : Nat) : smA L pl u = smI L u := if_neg h
theorem smI_cons (h : List Nat) (t : List (List Nat)) (u : Nat) : smI (h :: t) u = if t.all (fun l => decide (l.getD u 0 = h.getD u 0)) then nI (h.getD u 0) else -1 := by simp [smI, -List.getD_eq_getElem?_getD]
theorem smI_snoc (h : List Nat) (t : List (List Nat)) (pl : List Nat) (u : Nat) : smI ((h :: t) ++ [pl]) u = if t.all (fun l => decide (l.getD u 0 = h.getD u 0)) && decide (pl.getD u 0 = h.getD u 0) then nI (h.getD u 0) else -1 := by
  rw [List.cons_append, smI_cons, List.all_append]
  simp [-List.getD_eq_getElem?_getD]
theorem sm_eq {L : List (List Nat)} {pl : List Nat} {u : Nat} (hL : ∀ l ∈ L, ∀ i, l.getD i 0 < 8) (hp : ∀ i, pl.getD i 0 < 8) (h : smA L pl u = nI (pl.getD u 0)) : smA L pl u = smI (L ++ [pl]) u := by
  cases L with
  | nil => simp [smA, smI, -List.getD_eq_getElem?_getD]
  | cons x t =>
    rw [smA_ne (List.cons_ne_nil _ _)] at h ⊢
    rw [smI_snoc]
    rw [smI_cons] at h ⊢
    have h8 := hp u
    by_cases c : t.all (fun l => decide (l.getD u 0 = x.getD u 0)) = true
    · rw [if_pos c] at h ⊢
      have h9 := hL x (List.mem_cons_self ..) u
      have := (nI_eq (by omega) (by omega)).mp h
      rw [if_pos (by rw [c, this]; simp)]
    · rw [if_neg c] at h
      exact absurd h.symm (nI_m1 (by omega))
theorem sm_ne {L : List (List Nat)} {pl : List Nat} {u : Nat} (h : smA L pl u ≠ nI (pl.getD u 0)) : smI (L ++ [pl]) u = -1 := by
  cases L with
  | nil => exact absurd rfl h
  | cons x t =>
    rw [smA_ne (List.cons_ne_nil _ _), smI_cons] at h
    rw [smI_snoc]
    apply if_neg
    intro q
    rw [Bool.and_eq_true] at q
    rw [if_pos q.1] at h
    exact h (by rw [of_decide_eq_true q.2])
theorem ofB_cg {f g : Nat → Bool} {k : Nat} (h : ∀ u, u < k → f u = g u) : ofB f k = ofB g k := by
  apply Nat.eq_of_testBit_eq
  intro i
  rw [ofB_bit, ofB_bit]
  by_cases c : i < k
  · rw [h i c]
  · simp [c]
/-- 'seen' while a new seating goes in -/
def snF (L : List (List Nat)) (pl : List Nat) (i p u : Nat) : Bool := L.any (fun l => decide (l.getD u 0 = p)) || (decide (u < i) && decide (pl.getD u 0 = p))
theorem sn_0 (L : List (List Nat)) (pl : List Nat) (n p : Nat) : ofB (snF L pl 0 p) n = snM L n p := ofB_cg (fun u _ => by simp [snF])
theorem sn_end (L : List (List Nat)) (pl : List Nat) (n p : Nat) : ofB (snF L pl n p) n = snM (L ++ [pl]) n p := ofB_cg (fun u hu => by simp [snF, hu, -List.getD_eq_getElem?_getD])
theorem sn_off {L : List (List Nat)} {pl : List Nat} {i p : Nat} (n : Nat) (h : p ≠ pl.getD i 0) : ofB (snF L pl i p) n = ofB (snF L pl (i + 1) p) n := by
  apply ofB_cg
  intro u _
  unfold snF
  congr 1
  by_cases e : u = i
  · rw [e]
    have e3 : decide (pl.getD i 0 = p) = false := decide_eq_false (fun q => h q.symm)
    rw [e3, Bool.and_false, Bool.and_false]
  · rw [show decide (u < i) = decide (u < i + 1) from decide_eq_decide.mpr (by omega)]
theorem sn_hit {L : List (List Nat)} {pl : List Nat} {i n : Nat} (h : i < n) : ofB (snF L pl i (pl.getD i 0)) n ||| 2 ^ i = ofB (snF L pl (i + 1) (pl.getD i 0)) n := by
  apply Nat.eq_of_testBit_eq
  intro u
  rw [Nat.testBit_or, ofB_bit, ofB_bit, Nat.testBit_two_pow]
  unfold snF
  by_cases e : u = i
  · rw [e]; simp [h]
  · have e2 : ¬ i = u := fun q => e q.symm
    rw [show decide (u < i + 1) = decide (u < i) from decide_eq_decide.mpr (by omega), decide_eq_false e2, Bool.or_false]
theorem snM_nil (n p : Nat) : snM [] n p = 0 := by
  apply Nat.eq_of_testBit_eq
  intro i
  simp [snM, ofB_bit]
/-- of 'seen': how many -/
theorem pop_ofB (f : Nat → Bool) {n : Nat} (h : n ≤ 12) : popN (ofB f n) = cntN f n := by
  have key : ∀ k, n ≤ k → cntN (fun i => (ofB f n).testBit i) k = cntN f n := by
    intro k hk
    have h1 : ∀ j, j ≤ n → cntN (fun i => (ofB f n).testBit i) j = cntN f j := by
      intro j
      induction j with
      | zero => intro _; rfl
      | succ j ih => intro hj; unfold cntN; rw [ih (by omega)]; simp only [ofB_bit]; rw [decide_eq_true (show j < n by omega)]; rfl
    induction k with
    | zero => rw [show n = 0 by omega]; rfl
    | succ k ih =>
      by_cases c : n = k + 1
      · rw [← c]; exact h1 n (Nat.le_refl _)
      · unfold cntN; rw [ih (by omega)]; simp only [ofB_bit]; rw [decide_eq_false (show ¬ k < n by omega)]; simp
        cases n <;> rfl
  exact key 12 h
def seR (n : Nat) (I : Nat → Int32) (V : Nat → Nat → Int32) (z : SeZ) : Prop := lsR n I V z.1 ∧ mlR n I V z.2.1 ∧ mdR n I V z.2.2
theorem head_app {L : List (List Nat)} (h : L ≠ []) (pl : List Nat) : (L ++ [pl]).headD [] = L.headD [] := by
  cases L with
  | nil => exact absurd rfl h
  | cons x t => rfl
theorem lf_t (S : Ab) (q : Nat) (mem : List Nat) (lim : Int32) (z1 : Option (Nat × List (List Nat))) (z2 : Option (Nat × Nat × List Nat)) (z3 : Option (Nat × List Nat)) (pl : List Nat) (w m : Nat) : lfU S q mem true lim (z1, z2, z3) pl w m = (z1, z2, mdU S q mem lim z3 pl w) := rfl
theorem lf_f (S : Ab) (q : Nat) (mem : List Nat) (lim : Int32) (z1 : Option (Nat × List (List Nat))) (z2 : Option (Nat × Nat × List Nat)) (z3 : Option (Nat × List Nat)) (pl : List Nat) (w m : Nat) : lfU S q mem false lim (z1, z2, z3) pl w m = (lsU z1 pl w, mlU z2 pl w m, z3) := rfl
theorem md_lim {S : Ab} {q : Nat} {mem : List Nat} {lim : Int32} {z : Option (Nat × List Nat)} {pl : List Nat} {w : Nat} (h : lim < nI w) : mdU S q mem lim z pl w = z := if_pos h
theorem md_new {S : Ab} {q : Nat} {mem : List Nat} {lim : Int32} {pl : List Nat} {w : Nat} (h : ¬ lim < nI w) : mdU S q mem lim none pl w = some (mvN S q mem pl mem.length, pl) := if_neg h
theorem md_less {S : Ab} {q b : Nat} {mem L : List Nat} {lim : Int32} {pl : List Nat} {w : Nat} (h : ¬ lim < nI w) (h2 : mvN S q mem pl mem.length < b) : mdU S q mem lim (some (b, L)) pl w = some (mvN S q mem pl mem.length, pl) := (if_neg h).trans (if_pos h2)
theorem md_not {S : Ab} {q b : Nat} {mem L : List Nat} {lim : Int32} {pl : List Nat} {w : Nat} (h : ¬ lim < nI w) (h2 : ¬ mvN S q mem pl mem.length < b) : mdU S q mem lim (some (b, L)) pl w = some (b, L) := (if_neg h).trans (if_neg h2)
theorem ml_upd {b a w m : Nat} {L pl : List Nat} (h : m < b ∨ (m = b ∧ w < a)) : mlU (some (b, a, L)) pl w m = some (m, w, pl) := if_pos h
theorem ml_old {b a w m : Nat} {L pl : List Nat} (h : ¬ (m < b ∨ (m = b ∧ w < a))) : mlU (some (b, a, L)) pl w m = some (b, a, L) := if_neg h
theorem ls_new {b w : Nat} {L : List (List Nat)} {pl : List Nat} (h : w < b) : lsU (some (b, L)) pl w = some (w, [pl]) := if_pos h
theorem ls_add {b w : Nat} {L : List (List Nat)} {pl : List Nat} (h : w = b) : lsU (some (b, L)) pl w = some (w, L ++ [pl]) := by subst h; exact (if_neg (Nat.lt_irrefl _)).trans (if_pos rfl)
theorem ls_old {b w : Nat} {L : List (List Nat)} {pl : List Nat} (h : b < w) : lsU (some (b, L)) pl w = some (b, L) := (if_neg (by omega)).trans (if_neg (by omega))
theorem ls_fin {n i w : Nat} {L : List (List Nat)} {pl : List Nat} {P : Nat → Int32} {U : Nat → Nat → Int32} (hL8 : ∀ l ∈ L, ∀ i, l.getD i 0 < 8) (hpl : ∀ i, pl.getD i 0 < 8) (hw : w < 2 ^ 31) (e54 : P 54 = nI w) (e55 : P 55 = nI (L.length + 1)) (h58 : ∀ i, i < n → U 58 i = nI (((L ++ [pl]).headD []).getD i 0)) (h61 : ∀ u, u < n → U 61 u = if u < i then smI (L ++ [pl]) u else smA L pl u) (h62 : ∀ u, u < 8 → U 62 u = nI (ofB (snF L pl i u) n)) (hi : i = n) : lsR n P U (some (w, L ++ [pl])) := by
  subst hi
  refine ⟨⟨hw, by simp, fun l hl i => (List.mem_append.mp hl).elim (fun q => hL8 l q i) (fun q => by rw [List.mem_singleton.mp q]; exact hpl i)⟩, e54, e55.trans (congrArg nI (by rw [List.length_append]; rfl)), h58, fun u hu => by rw [h61 u hu, if_pos hu], fun u hu => by rw [h62 u hu, sn_end]⟩
/-! the search: what stays, one place more -/
def seSt (S : Ab) (q : Nat) (mem : List Nat) (md : Bool) (i p : Nat) : Bool := md && (aSi S (mem.getD i 0) && (decide (aIr S (mem.getD i 0) = nI q) && decide (aIp S (mem.getD i 0) ≠ nI p)))
def seOk (S : Ab) (q : Nat) (mem : List Nat) (md : Bool) (i p : Nat) : Bool := !(seSt S q mem md i p)
def seF (S : Ab) (q n : Nat) (mem : List Nat) (md : Bool) (lim : Int32) (I : Nat → Int32) (V : Nat → Nat → Int32) : Prop := I 43 = nI mem.length ∧ I 52 = nI n ∧ I 53 = nI q ∧ I 58 = lim ∧ I 60 = zI md ∧ (∀ i, i < mem.length → V 53 i = nI (mem.getD i 0)) ∧ wpI S q n mem mem.length 0 0 0 V
theorem se_cg {S : Ab} {q n : Nat} {mem : List Nat} {md : Bool} {lim : Int32} {I I' : Nat → Int32} {V V' : Nat → Nat → Int32} (h : seF S q n mem md lim I V) (hi : kp [54, 55, 56, 57, 59] I I') (hv : kp [57, 58, 59, 60, 61, 62] V V') : seF S q n mem md lim I' V' := by
  unfold seF wpI at h ⊢
  rw [hi 43 (by decide), hi 52 (by decide), hi 53 (by decide), hi 58 (by decide), hi 60 (by decide), hv 53 (by decide), hv 55 (by decide), hv 56 (by decide)]
  exact h
theorem se_w {S : Ab} {q n : Nat} {mem : List Nat} {md : Bool} {lim : Int32} {I : Nat → Int32} {V : Nat → Nat → Int32} (h : seF S q n mem md lim I V) {i j a b : Nat} (hi : i < mem.length) (hj : j < mem.length) (ha : a < n) (hb : b < n) : V 55 (80 * (8 * i + a) + 8 * j + b) = nI (wgP S q i j (mem.getD i 0) (mem.getD j 0) a b) ∧ V 56 (80 * (8 * i + a) + 8 * j + b) = nI (hvP S q i j (mem.getD i 0) (mem.getD j 0) a b) := h.2.2.2.2.2.2 i j a b hi hj ha hb (Or.inl hi)
theorem seR_57 {n : Nat} {I : Nat → Int32} {V V' : Nat → Nat → Int32} {z : SeZ} (h : seR n I V z) (hk : kp [57] V V') : seR n I V' z := ⟨ls_cg h.1 rfl rfl (hk 58 (by decide)) (hk 61 (by decide)) (hk 62 (by decide)), ml_cg h.2.1 rfl rfl (hk 59 (by decide)), md_cg h.2.2 rfl (hk 60 (by decide))⟩
def srP {σ : Type} (S : Ab) (q n : Nat) (mem : List Nat) (ok : Nat → Nat → Bool) (leaf : σ → List Nat → Nat → Nat → σ) (k : Nat) (pl : List Nat) (w m : Nat) (z : σ) (p : Nat) : σ := (List.range p).foldl (fun z p => if pl.contains p || !(ok pl.length p) then z else srF S q n mem ok leaf k (pl ++ [p]) (w + seW S q mem pl p pl.length) (seH S q mem pl p m pl.length) z) z
section SRP
variable {σ : Type} {S : Ab} {q n : Nat} {mem : List Nat} {ok : Nat → Nat → Bool} {leaf : σ → List Nat → Nat → Nat → σ} {k : Nat} {pl : List Nat} {w m : Nat} {z : σ} {p : Nat}
theorem srP_no (h : (pl.contains p || !(ok pl.length p)) = true) : srP S q n mem ok leaf k pl w m z (p + 1) = srP S q n mem ok leaf k pl w m z p := by
  unfold srP
  rw [List.range_succ, List.foldl_append, List.foldl_cons, List.foldl_nil, if_pos h]
theorem srP_go (h : (pl.contains p || !(ok pl.length p)) = false) : srP S q n mem ok leaf k pl w m z (p + 1) = srF S q n mem ok leaf k (pl ++ [p]) (w + seW S q mem pl p pl.length) (seH S q mem pl p m pl.length) (srP S q n mem ok leaf k pl w m z p) := by
  conv => lhs; unfold srP
  rw [List.range_succ, List.foldl_append, List.foldl_cons, List.foldl_nil, if_neg (by rw [h]; decide)]
  rfl
theorem srF_rows {k' : Nat} (h : k' = k + 1) : srF S q n mem ok leaf k' pl w m z = srP S q n mem ok leaf k pl w m z n := by subst h; rfl
end SRP
theorem len_push (pl : List Nat) (p : Nat) : (pl ++ [p]).length = pl.length + 1 := by rw [List.length_append]; rfl
theorem get_push {pl : List Nat} {p j : Nat} (h : j < pl.length) : (pl ++ [p]).getD j 0 = pl.getD j 0 := by
  rw [List.getD_eq_getElem?_getD, List.getD_eq_getElem?_getD, List.getElem?_append_left h]
theorem get_last (pl : List Nat) (p : Nat) : (pl ++ [p]).getD pl.length 0 = p := by simp
theorem pl_push {pl : List Nat} {U : Nat → Nat → Int32} {p : Nat} (h : ∀ j, j < pl.length → U 57 j = nI (pl.getD j 0)) : ∀ j, j < (pl ++ [p]).length → vset U 57 pl.length (nI p) 57 j = nI ((pl ++ [p]).getD j 0) := by
  intro j hj
  rw [len_push] at hj
  rw [vset_in]
  by_cases c : j = pl.length
  · rw [if_pos c, c, get_last]
  · rw [if_neg c, get_push (by omega)]; exact h j (by omega)
theorem pn_push {pl : List Nat} {n p : Nat} (h : ∀ j, j < pl.length → pl.getD j 0 < n) (hp : p < n) : ∀ j, j < (pl ++ [p]).length → (pl ++ [p]).getD j 0 < n := by
  intro j hj
  rw [len_push] at hj
  by_cases c : j = pl.length
  · rw [c, get_last]; exact hp
  · rw [get_push (by omega)]; exact h j (by omega)
theorem pl_8 {pl : List Nat} {n : Nat} (h : ∀ j, j < pl.length → pl.getD j 0 < n) (hn : n ≤ 8) : ∀ i, pl.getD i 0 < 8 := by
  intro i
  by_cases c : i < pl.length
  · exact Nat.lt_of_lt_of_le (h i c) hn
  · rw [List.getD_eq_getElem?_getD, List.getElem?_eq_none (by omega)]; decide
theorem tk_push {pl : List Nat} {tk p : Nat} (h : ∀ x, x < 8 → tk.testBit x = pl.contains x) : ∀ x, x < 8 → (tk ||| 2 ^ p).testBit x = (pl ++ [p]).contains x := by
  intro x hx
  rw [Nat.testBit_or, h x hx, Nat.testBit_two_pow, Bool.eq_iff_iff]
  simp
  exact or_congr Iff.rfl ⟨fun e => e.symm, fun e => e.symm⟩
theorem tk_lt {tk p : Nat} (h : tk < 256) (hp : p < 8) : tk ||| 2 ^ p < 256 := Nat.or_lt_two_pow (n := 8) h (Nat.pow_lt_pow_right (by decide) hp)
theorem wgP_le {S : Ab} (hO : SOK S) (q i j x y a b : Nat) : wgP S q i j x y a b ≤ 216 ∧ hvP S q i j x y a b ≤ 9 := by
  have h1 := wgR_le hO q x y a b (aRl S) (Nat.le_refl _)
  have h2 := hO.rl
  unfold wgP hvP
  split <;> omega
theorem seW_le {S : Ab} (hO : SOK S) (q : Nat) (mem pl : List Nat) (p : Nat) : ∀ j, seW S q mem pl p j ≤ 216 * j := by
  intro j
  induction j with
  | zero => exact Nat.zero_le _
  | succ j ih =>
    have h1 := (wgP_le hO q j pl.length (mem.getD j 0) (mem.getD pl.length 0) (pl.getD j 0) p).1
    unfold seW
    omega
theorem seH_le {S : Ab} (hO : SOK S) (q : Nat) (mem pl : List Nat) (p : Nat) {m9 : Nat} (hm : m9 ≤ 9) : ∀ j, seH S q mem pl p m9 j ≤ 9 := by
  intro j
  induction j with
  | zero => exact hm
  | succ j ih =>
    have h1 := (wgP_le hO q j pl.length (mem.getD j 0) (mem.getD pl.length 0) (pl.getD j 0) p).2
    unfold seH
    omega
theorem pig : ∀ (n : Nat) (pl : List Nat), pl.length < n → ∃ p, p < n ∧ p ∉ pl := by
  intro n
  induction n with
  | zero => intro pl h; exact absurd h (Nat.not_lt_zero _)
  | succ n ih =>
    intro pl h
    by_cases c : n ∈ pl
    · have hl := List.length_erase_of_mem c
      have hp := List.length_pos_of_mem c
      obtain ⟨p, h1, h2⟩ := ih (pl.erase n) (by omega)
      exact ⟨p, by omega, fun q => h2 ((List.mem_erase_of_ne (by omega)).mpr q)⟩
    · exact ⟨n, by omega, c⟩
theorem fold_keep {α σ : Type} {f : σ → α → σ} {P : σ → Prop} (h : ∀ z a, P z → P (f z a)) : ∀ (L : List α) (z : σ), P z → P (L.foldl f z) := by
  intro L
  induction L with
  | nil => intro z hz; exact hz
  | cons a t ih => intro z hz; exact ih _ (h z a hz)
theorem fold_once {α σ : Type} {f : σ → α → σ} {P : σ → Prop} (h : ∀ z a, P z → P (f z a)) {a : α} (ha : ∀ z, P (f z a)) : ∀ (L : List α) (z : σ), a ∈ L → P (L.foldl f z) := by
  intro L
  induction L with
  | nil => intro z hz; cases hz
  | cons b t ih =>
    intro z hz
    rcases List.mem_cons.mp hz with q | q
    · rw [← q]; exact fold_keep h t _ (ha z)
    · exact ih _ q
section SRX
variable {σ τ : Type} {S : Ab} {q n : Nat} {mem : List Nat} {ok : Nat → Nat → Bool} {leaf : σ → List Nat → Nat → Nat → σ}
theorem srF_keep {P : σ → Prop} (h : ∀ z pl w m, P z → P (leaf z pl w m)) : ∀ k pl w m z, P z → P (srF S q n mem ok leaf k pl w m z) := by
  intro k
  induction k with
  | zero => intro pl w m z hz; exact h z pl w m hz
  | succ k ih =>
    intro pl w m z hz
    refine fold_keep (P := P) (fun z p hz => ?_) _ _ hz
    split
    · exact hz
    · exact ih _ _ _ _ hz
/-- where nobody is held, there is a seating -/
theorem srF_ex {P : σ → Prop} (hok : ∀ i p, ok i p = true) (h : ∀ z pl w m, P (leaf z pl w m)) : ∀ {k : Nat} {pl : List Nat} {w m : Nat} {z : σ}, pl.length + k ≤ n → P (srF S q n mem ok leaf k pl w m z) := by
  intro k
  induction k with
  | zero => intro pl w m z _; exact h z pl w m
  | succ k ih =>
    intro pl w m z hn
    obtain ⟨p, h1, h2⟩ := pig n pl (by omega)
    refine fold_once (P := P) (a := p) (fun z p hz => ?_) (fun z => ?_) _ _ (List.mem_range.mpr h1)
    · split
      · exact hz
      · exact srF_keep (fun z pl w m _ => h z pl w m) _ _ _ _ _ hz
    · rw [if_neg (by simp [h2, hok])]
      exact ih (by rw [len_push]; omega)
/-- a part of what is kept, by itself -/
theorem srF_hom {leaf' : τ → List Nat → Nat → Nat → τ} (g : σ → τ) (h : ∀ z pl w m, g (leaf z pl w m) = leaf' (g z) pl w m) : ∀ k pl w m z, g (srF S q n mem ok leaf k pl w m z) = srF S q n mem ok leaf' k pl w m (g z) := by
  intro k
  induction k with
  | zero => intro pl w m z; exact h z pl w m
  | succ k ih =>
    intro pl w m z
    unfold srF
    generalize List.range n = L
    induction L generalizing z with
    | nil => rfl
    | cons p t iht =>
      rw [List.foldl_cons, List.foldl_cons, iht]
      congr 1
      split
      · rfl
      · exact ih _ _ _ _
end SRX
/-- whether seatings can be asked for -/
def askB (S : Ab) (room : Int32) : Bool := inN room (aRm S) && (decide ((comP S (aN S)).length ≤ 7) && (decide (aRp S room.toNatClampNeg ≤ 8) && decide ((comP S (aN S)).length ≤ aRp S room.toNatClampNeg)))
def seAll (S : Ab) (room : Int32) (md : Bool) (lim : Int32) : SeZ := srF S room.toNatClampNeg (aRp S room.toNatClampNeg) (comP S (aN S)) (seOk S room.toNatClampNeg (comP S (aN S)) md) (lfU S room.toNatClampNeg (comP S (aN S)) md lim) (comP S (aN S)).length [] 0 0 (none, none, none)
theorem seAll_f (S : Ab) (room lim : Int32) : seAll S room false lim = seAll S room false 0 := rfl
theorem seAll_ex {S : Ab} {room : Int32} (h : askB S room = true) (lim : Int32) : (∃ b L, (seAll S room false lim).1 = some (b, L)) ∧ ∃ b a L, (seAll S room false lim).2.1 = some (b, a, L) := by
  have hl : (comP S (aN S)).length ≤ aRp S room.toNatClampNeg := by
    unfold askB at h
    simp only [Bool.and_eq_true, decide_eq_true_eq] at h
    exact h.2.2.2
  have key : (fun z : SeZ => (∃ b L, z.1 = some (b, L)) ∧ ∃ b a L, z.2.1 = some (b, a, L)) (seAll S room false lim) := by
    refine srF_ex (ok := seOk S room.toNatClampNeg (comP S (aN S)) false) (P := fun z : SeZ => (∃ b L, z.1 = some (b, L)) ∧ ∃ b a L, z.2.1 = some (b, a, L)) (S := S) (q := room.toNatClampNeg) (mem := comP S (aN S)) (leaf := lfU S room.toNatClampNeg (comP S (aN S)) false lim) (k := (comP S (aN S)).length) (pl := []) (n := aRp S room.toNatClampNeg) (fun i p => rfl) (fun z pl w m => ?_) (w := 0) (m := 0) (z := (none, none, none)) (by rw [List.length_nil, Nat.zero_add]; exact hl)
    obtain ⟨z1, z2, z3⟩ := z
    rw [lf_f]
    refine ⟨?_, ?_⟩
    · cases z1 with
      | none => exact ⟨w, [pl], rfl⟩
      | some z =>
        obtain ⟨b, L⟩ := z
        show ∃ b' L', lsU (some (b, L)) pl w = some (b', L')
        unfold lsU
        dsimp only
        split
        · exact ⟨_, _, rfl⟩
        · split <;> exact ⟨_, _, rfl⟩
    · cases z2 with
      | none => exact ⟨m, w, pl, rfl⟩
      | some z =>
        obtain ⟨b, a, L⟩ := z
        show ∃ b' a' L', mlU (some (b, a, L)) pl w m = some (b', a', L')
        unfold mlU
        dsimp only
        split <;> exact ⟨_, _, _, rfl⟩
  exact key
def lsB (z : Option (Nat × List (List Nat))) : Nat × List (List Nat) := z.getD (0, [])
def mlB (z : Option (Nat × Nat × List Nat)) : Nat × Nat × List Nat := z.getD (0, 0, [])
def spLeast (S : Ab) (room what : Int32) : Int32 := if inN what 4 && askB S room then (if what = nI 0 then nI (lsB (seAll S room false 0).1).1 else if what = nI 1 then nI (lsB (seAll S room false 0).1).2.length else if what = nI 2 then nI (mlB (seAll S room false 0).2.1).2.1 else nI (mlB (seAll S room false 0).2.1).1) else -1
def spBest (S : Ab) (room g : Int32) (mild : Bool) : Int32 := if inN g (aN S) && (aCm S g.toNatClampNeg && askB S room) then (if mild then nI ((mlB (seAll S room false 0).2.1).2.2.getD ((comP S (aN S)).idxOf g.toNatClampNeg) 0) else nI (((lsB (seAll S room false 0).1).2.headD []).getD ((comP S (aN S)).idxOf g.toNatClampNeg) 0)) else -1
def spMust (S : Ab) (room g : Int32) : Int32 := if inN g (aN S) && (aCm S g.toNatClampNeg && askB S room) then smI (lsB (seAll S room false 0).1).2 ((comP S (aN S)).idxOf g.toNatClampNeg) else -1
def spFree (S : Ab) (room p : Int32) : Int32 := if askB S room && inN p (aRp S room.toNatClampNeg) then nI (cntN (fun i => (lsB (seAll S room false 0).1).2.any (fun l => decide (l.getD i 0 = p.toNatClampNeg))) (comP S (aN S)).length) else -1
def spMended (S : Ab) (room most g : Int32) : Int32 := if (decide (g = -1) || (inN g (aN S) && aCm S g.toNatClampNeg)) && askB S room then (match (seAll S room true most).2.2 with
  | none => -1
  | some (b, L) => if g = -1 then nI b else nI (L.getD ((comP S (aN S)).idxOf g.toNatClampNeg) 0)) else -1
theorem ofB_4096 (f : Nat → Bool) {n : Nat} (h : n ≤ 7) : ofB f n < 4096 := Nat.lt_of_lt_of_le (bit_lt (m := n) (fun i hi => by rw [ofB_bit, Bool.and_eq_true] at hi; exact of_decide_eq_true hi.1)) (Nat.pow_le_pow_right (n := 2) (by decide) (show n ≤ 12 by omega))
theorem if_lt_s {α : Type} {u i : Nat} (e : ¬ u = i) (a b : α) : (if u < i then a else b) = if u < i + 1 then a else b := by
  by_cases c : u < i
  · rw [if_pos c, if_pos (by omega)]
  · rw [if_neg c, if_neg (by omega)]
