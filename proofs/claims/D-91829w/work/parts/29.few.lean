/-! few: heaps without rings and without even couples of which one is above -/
set_option maxRecDepth 100000
def qtX (A E : Gr) (n hp x : Nat) : Nat → Bool := anyB (fun y => hp.testBit x && hp.testBit y && E x y && A x y)
def qtB (A E : Gr) (n hp : Nat) : Bool := !(anyB (fun x => qtX A E n hp x n) n) && !(ringB A n hp)
/-- heap h becomes x -/
def pushH (hs : List Nat) (h x : Nat) : List Nat := if h < hs.length then hs.set h x else hs ++ [x]
/-- the first parting of ms, heaps hs there already, into at most so many: the heaps, and each one's -/
def prt (Qt : Nat → Bool) (most : Nat) : List Nat → List Nat → Option (List Nat × List Nat)
  | [], hs => some (hs, [])
  | m :: ms, hs => (List.range (min (hs.length + 1) most)).findSome? (fun h => if Qt (hs.getD h 0 ||| 2 ^ m) then (prt Qt most ms (pushH hs h (hs.getD h 0 ||| 2 ^ m))).map (fun r => (r.1, h :: r.2)) else none)
theorem pushH_len {hs : List Nat} {h x : Nat} (hh : h ≤ hs.length) : (pushH hs h x).length = max hs.length (h + 1) := by
  unfold pushH
  split
  · rw [List.length_set]; omega
  · rw [List.length_append, List.length_singleton]; omega
theorem pushH_get {hs : List Nat} {h x u : Nat} (hh : h ≤ hs.length) : (pushH hs h x).getD u 0 = if u = h then x else hs.getD u 0 := by
  unfold pushH
  split
  · rename_i hl
    rw [List.getD_eq_getElem?_getD, List.getElem?_set]
    by_cases e : u = h
    · subst e; simp [hl]
    · rw [if_neg (Ne.symm e), if_neg e, List.getD_eq_getElem?_getD]
  · have e : h = hs.length := by omega
    subst e
    rw [List.getD_eq_getElem?_getD, List.getElem?_append]
    by_cases e : u < hs.length
    · rw [if_pos e, if_neg (by omega), List.getD_eq_getElem?_getD]
    · rw [if_neg e]
      by_cases e2 : u = hs.length
      · subst e2; simp
      · rw [if_neg e2, List.getD_eq_getElem?_getD, List.getElem?_eq_none (l := [x]) (by simp; omega), List.getElem?_eq_none (l := hs) (by omega)]
/-- what the search reads -/
def ptI (nn : Nat) (mem hs : List Nat) (Qt : Nat → Bool) (I : Nat → Int32) (V : Nat → Nat → Int32) : Prop := I 43 = nI mem.length ∧ (∀ i, i < mem.length → V 53 i = nI (mem.getD i 0)) ∧ (∀ x, x < 2 ^ nn → V 54 x = zI (Qt x)) ∧ ∀ h, h < hs.length → V 52 h = nI (hs.getD h 0)
def hOK (nn : Nat) (hs : List Nat) : Prop := ∀ h, hs.getD h 0 < 2 ^ nn
theorem hOK_push {nn : Nat} {hs : List Nat} {h m : Nat} (hO : hOK nn hs) (hm : m < nn) (hh : h ≤ hs.length) : hs.getD h 0 ||| 2 ^ m < 2 ^ nn ∧ hOK nn (pushH hs h (hs.getD h 0 ||| 2 ^ m)) := by
  have h1 : hs.getD h 0 ||| 2 ^ m < 2 ^ nn := Nat.or_lt_two_pow (n := nn) (hO h) (Nat.pow_lt_pow_right (by omega) hm)
  refine ⟨h1, fun u => ?_⟩
  rw [pushH_get hh]
  split
  · exact h1
  · exact hO u
/-- one try of the search -/
def prtT (Qt : Nat → Bool) (most m : Nat) (ms hs : List Nat) (h : Nat) : Option (List Nat × List Nat) := if Qt (hs.getD h 0 ||| 2 ^ m) then (prt Qt most ms (pushH hs h (hs.getD h 0 ||| 2 ^ m))).map (fun r => (r.1, h :: r.2)) else none
theorem prt_cons (Qt : Nat → Bool) (most m : Nat) (ms hs : List Nat) : prt Qt most (m :: ms) hs = (List.range (min (hs.length + 1) most)).findSome? (prtT Qt most m ms hs) := rfl
theorem findSome_first {α : Type} {f : Nat → Option α} : ∀ (k g : Nat), g < k → (f g).isSome = true → (∀ u, u < g → f u = none) → (List.range k).findSome? f = f g := by
  intro k
  induction k with
  | zero => intro g h; omega
  | succ k ih =>
    intro g hg hp hu
    rw [List.range_succ, List.findSome?_append]
    by_cases e : g = k
    · subst e
      have : (List.range g).findSome? f = none := by
        rw [List.findSome?_eq_none_iff]
        intro x hx
        exact hu x (List.mem_range.mp hx)
      rw [this]
      simp
    · rw [ih g (by omega) hp hu]
      cases h : f g with
      | none => rw [h] at hp; cases hp
      | some v => rfl
theorem findSome_none {α : Type} {f : Nat → Option α} {k : Nat} (hu : ∀ u, u < k → f u = none) : (List.range k).findSome? f = none := by
  rw [List.findSome?_eq_none_iff]
  intro x hx
  exact hu x (List.mem_range.mp hx)
/-- what the search leaves -/
def ptE (mem hs : List Nat) (k : Nat) (res : Option (List Nat × List Nat)) (V U : Nat → Nat → Int32) : Prop := (∀ g, g ∉ mem.drop k → U 51 g = V 51 g) ∧ match res with
  | none => ∀ h, h < hs.length → U 52 h = nI (hs.getD h 0)
  | some (r, a) => (∀ h, h < r.length → U 52 h = nI (r.getD h 0)) ∧ ∀ i, k + i < mem.length → U 51 (mem.getD (k + i) 0) = nI (a.getD i 0)
theorem drop_cons {mem : List Nat} {k : Nat} (h : k < mem.length) : mem.drop k = mem.getD k 0 :: mem.drop (k + 1) := by
  rw [List.drop_eq_getElem_cons h, List.getD_eq_getElem?_getD, List.getElem?_eq_getElem h]
  rfl
theorem drop_not {mem : List Nat} {k : Nat} (hn : mem.Nodup) (h : k < mem.length) : mem.getD k 0 ∉ mem.drop (k + 1) := by
  have h1 : (mem.drop k).Nodup := List.Nodup.sublist (List.drop_sublist _ _) hn
  rw [drop_cons h] at h1
  exact (List.nodup_cons.mp h1).1
section PT
variable {nn : Nat} {mem hs : List Nat} {Qt : Nat → Bool} {I : Nat → Int32} {V U U5 : Nat → Nat → Int32} {h9 x m k most : Nat} {y : Int32}
theorem pt_push (h : ptI nn mem hs Qt I U) (hh : h9 ≤ hs.length) : ptI nn mem (pushH hs h9 x) Qt I (vset (vset U 52 h9 (nI x)) 51 m y) := by
  refine ⟨h.1, fun i hi => ?_, fun i hi => ?_, fun u hu => ?_⟩
  · rw [vset_off _ _ (by decide), vset_off _ _ (by decide)]; exact h.2.1 i hi
  · rw [vset_off _ _ (by decide), vset_off _ _ (by decide)]; exact h.2.2.1 i hi
  · rw [vset_off _ _ (by decide), vset_in, pushH_get hh]
    rw [pushH_len hh] at hu
    split
    · rfl
    · exact h.2.2.2 u (by omega)
theorem pt_back (h : ptI nn mem (pushH hs h9 x) Qt I U) (hh : h9 ≤ hs.length) : ptI nn mem hs Qt I (vset U 52 h9 (nI (hs.getD h9 0))) := by
  refine ⟨h.1, fun i hi => ?_, fun i hi => ?_, fun u hu => ?_⟩
  · rw [vset_off _ _ (by decide)]; exact h.2.1 i hi
  · rw [vset_off _ _ (by decide)]; exact h.2.2.1 i hi
  · rw [vset_in]
    split
    · rename_i e; rw [e]
    · rename_i e
      have := h.2.2.2 u (by rw [pushH_len hh]; omega)
      rw [pushH_get hh, if_neg e] at this
      exact this
theorem pt_of (h : ptI nn mem hs Qt I V) (hk : kp [51, 52] V U) (h52 : ∀ h, h < hs.length → U 52 h = nI (hs.getD h 0)) : ptI nn mem hs Qt I U :=
  ⟨h.1, fun i hi => (congrFun (hk 53 (by decide)) _).trans (h.2.1 i hi), fun i hi => (congrFun (hk 54 (by decide)) _).trans (h.2.2.1 i hi), h52⟩
theorem pt_off {g : Nat} (hk : k < mem.length) (hg : g ∉ mem.drop k) : g ≠ mem.getD k 0 ∧ g ∉ mem.drop (k + 1) := by
  rw [drop_cons hk] at hg
  exact ⟨fun e => hg (by rw [e]; exact List.mem_cons_self), fun e => hg (List.mem_cons_of_mem _ e)⟩
theorem pt_done (h : k = mem.length) : prt Qt most (mem.drop k) hs = some (hs, []) := by rw [h, List.drop_length]; rfl
theorem pt_yes (hk : k < mem.length) (hh : h9 < min (hs.length + 1) most) (hno : ∀ u, u < h9 → prtT Qt most (mem.getD k 0) (mem.drop (k + 1)) hs u = none) (hq : Qt (hs.getD h9 0 ||| 2 ^ mem.getD k 0) = true) {r a : List Nat} (hr : prt Qt most (mem.drop (k + 1)) (pushH hs h9 (hs.getD h9 0 ||| 2 ^ mem.getD k 0)) = some (r, a)) : prt Qt most (mem.drop k) hs = some (r, h9 :: a) := by
  rw [drop_cons hk, prt_cons, findSome_first _ h9 hh ?_ hno]
  · unfold prtT; rw [hq, if_pos rfl, hr]; rfl
  · unfold prtT; rw [hq, if_pos rfl, hr]; rfl
theorem pt_no (hk : k < mem.length) (hh : min (hs.length + 1) most ≤ h9) (hno : ∀ u, u < h9 → prtT Qt most (mem.getD k 0) (mem.drop (k + 1)) hs u = none) : prt Qt most (mem.drop k) hs = none := by
  rw [drop_cons hk, prt_cons]
  exact findSome_none (fun u hu => hno u (by omega))
theorem pt_succ (hn : mem.Nodup) (hk : k < mem.length) {hs2 r a : List Nat} (hpe : ptE mem hs2 (k + 1) (some (r, a)) (vset (vset U 52 h9 (nI x)) 51 (mem.getD k 0) (nI h9)) U5) (h51 : ∀ g, g ∉ mem.drop k → U 51 g = V 51 g) : ptE mem hs k (some (r, h9 :: a)) V U5 := by
  obtain ⟨e1, e2, e3⟩ := hpe
  refine ⟨fun g hg => ?_, e2, fun i hi => ?_⟩
  · obtain ⟨h1, h2⟩ := pt_off hk hg
    rw [e1 g h2, vset_ne _ _ h1, vset_off _ _ (by decide)]
    exact h51 g hg
  · cases i with
    | zero =>
      rw [Nat.add_zero, e1 _ (drop_not hn hk), vset_self]
      rfl
    | succ i =>
      have := e3 i (by omega)
      rw [show k + (i + 1) = k + 1 + i by omega]
      exact this
theorem up_none {α : Type} {f : Nat → Option α} {h : Nat} (hu : ∀ u, u < h → f u = none) (hh : f h = none) : ∀ u, u < h + 1 → f u = none := by
  intro u h2
  rcases Nat.lt_succ_iff_lt_or_eq.mp h2 with q | q
  · exact hu u q
  · rw [q]; exact hh
end PT
