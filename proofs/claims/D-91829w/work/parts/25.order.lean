/-! order: who goes one behind another -/
set_option maxRecDepth 100000
def comB (S : Ab) : Nat → Nat
  | 0 => 0
  | k + 1 => comB S k ||| (if aCm S k then 2 ^ k else 0)
theorem comB_lt (S : Ab) : ∀ k, comB S k < 2 ^ k := by
  intro k
  induction k with
  | zero => exact Nat.one_pos
  | succ k ih =>
    unfold comB
    refine Nat.or_lt_two_pow (Nat.lt_of_lt_of_le ih (Nat.pow_le_pow_right (by omega) (by omega))) ?_
    split
    · exact Nat.pow_lt_pow_right (by omega) (by omega)
    · exact Nat.two_pow_pos _
theorem comB_bit (S : Ab) : ∀ k x, (comB S k).testBit x = (decide (x < k) && aCm S x) := by
  intro k
  induction k with
  | zero => intro x; simp [comB]
  | succ k ih =>
    intro x
    unfold comB
    rw [Nat.testBit_or, ih x]
    by_cases e : x = k
    · subst e
      cases h : aCm S x <;> simp [h]
    · have : (if aCm S k then 2 ^ k else 0).testBit x = false := by
        split
        · rw [Nat.testBit_two_pow]; simp; omega
        · simp
      rw [this, Bool.or_false]
      congr 1
      apply decide_eq_decide.mpr
      omega
def bitsL (n w : Nat) : List Nat := (List.range n).filter (fun g => w.testBit g)
theorem bitsL_mem {n w g : Nat} : g ∈ bitsL n w ↔ g < n ∧ w.testBit g = true := by simp [bitsL]
theorem bitsL_nodup (n w : Nat) : (bitsL n w).Nodup := List.Nodup.sublist List.filter_sublist List.nodup_range
theorem bitsL_len (n w : Nat) : (bitsL n w).length ≤ n := by
  have := List.length_filter_le (fun g => w.testBit g) (List.range n)
  rw [List.length_range] at this
  exact this
def comL (S : Ab) : List Nat := bitsL (aN S) (comB S (aN S))
def pickL (A : Gr) (L : List Nat) : Option Nat := L.find? (fun g => !(L.any (fun x => A x g)))
def ordL (A : Gr) : Nat → List Nat → List Nat
  | 0, _ => []
  | f + 1, L => match pickL A L with
    | none => []
    | some g => g :: ordL A f (L.erase g)
/-- all above g are in d -/
def freeG (A : Gr) (n g d : Nat) : Bool := !(anyB (fun x => A x g && !(d.testBit x)) n)
theorem bit_off {w g x : Nat} : (w ^^^ (w &&& 2 ^ g)).testBit x = (w.testBit x && decide (x ≠ g)) := by
  rw [Nat.testBit_xor, Nat.testBit_and, Nat.testBit_two_pow]
  by_cases e : g = x
  · subst e; cases w.testBit g <;> simp
  · cases w.testBit x <;> simp [e, Ne.symm e]
theorem bitsL_erase {n w g : Nat} : bitsL n (w ^^^ (w &&& 2 ^ g)) = (bitsL n w).erase g := by
  rw [(bitsL_nodup n w).erase_eq_filter]
  unfold bitsL
  rw [List.filter_filter]
  apply List.filter_congr
  intro x _
  rw [bit_off]
  by_cases e : x = g
  · subst e; simp
  · simp [e]
/-- the first of those in w that is free -/
theorem find_first {p : Nat → Bool} : ∀ (k g : Nat), g < k → p g = true → (∀ u, u < g → p u = false) → (List.range k).find? p = some g := by
  intro k
  induction k with
  | zero => intro g h; omega
  | succ k ih =>
    intro g hg hp hu
    rw [List.range_succ, List.find?_append]
    by_cases e : g = k
    · subst e
      have : (List.range g).find? p = none := by
        rw [List.find?_eq_none]
        intro x hx
        rw [hu x (List.mem_range.mp hx)]
        decide
      rw [this]
      simp [hp]
    · rw [ih g (by omega) hp hu]
      rfl
theorem pick_some {A : Gr} {n w g : Nat} (hg : g < n) (hw : w.testBit g = true) (hf : (bitsL n w).any (fun x => A x g) = false) (hu : ∀ u, u < g → w.testBit u = true → (bitsL n w).any (fun x => A x u) = true) : pickL A (bitsL n w) = some g := by
  unfold pickL
  generalize hq : (fun g => !((bitsL n w).any (fun x => A x g))) = q
  unfold bitsL
  rw [List.find?_filter]
  refine find_first n g hg ?_ (fun u h => ?_)
  · simp only [hw, ← hq, hf]; rfl
  · cases e : w.testBit u with
    | false => simp [e]
    | true => simp only [e, ← hq, hu u h e]; rfl
theorem pick_none {A : Gr} {n w : Nat} (hu : ∀ u, u < n → w.testBit u = true → (bitsL n w).any (fun x => A x u) = true) : pickL A (bitsL n w) = none := by
  unfold pickL
  rw [List.find?_eq_none]
  intro g hg
  obtain ⟨h1, h2⟩ := bitsL_mem.mp hg
  rw [hu g h1 h2]
  decide
/-- the model's state on its way -/
def ordI (S : Ab) (A : Gr) (w d : Nat) (L : List Nat) (U : Nat → Nat → Int32) : Prop := w < 1024 ∧ d < 1024 ∧ (∀ x, x < aN S → d.testBit x = (aCm S x && !(w.testBit x))) ∧ (∀ x, x < aN S → w.testBit x = true → aCm S x = true) ∧ (∀ i, i < L.length → U 47 i = nI (L.getD i 0)) ∧ ordL A (aN S) (comL S) = L ++ ordL A (aN S - L.length) (bitsL (aN S) w) ∧ L.length + (bitsL (aN S) w).length = (comL S).length
theorem free_any {S : Ab} {A : Gr} {w d g : Nat} (hA : ∀ x y, A x y = true → aCm S x = true) (hd : ∀ x, x < aN S → d.testBit x = (aCm S x && !(w.testBit x))) : (bitsL (aN S) w).any (fun x => A x g) = !(freeG A (aN S) g d) := by
  unfold freeG
  rw [Bool.not_not, Bool.eq_iff_iff, anyB_iff, List.any_eq_true]
  constructor
  · rintro ⟨x, hx, ha⟩
    obtain ⟨h1, h2⟩ := bitsL_mem.mp hx
    exact ⟨x, h1, by simp [ha, hd x h1, h2]⟩
  · rintro ⟨x, h1, h2⟩
    simp [hd x h1] at h2
    exact ⟨x, bitsL_mem.mpr ⟨h1, h2.2.resolve_left (by rw [hA x g h2.1]; decide)⟩, h2.1⟩
theorem ord_step {S : Ab} {A : Gr} {w d g : Nat} {L : List Nat} {U : Nat → Nat → Int32} (hn : aN S ≤ 10) (hA : ∀ x y, A x y = true → aCm S x = true) (h : ordI S A w d L U) (hg : g < aN S) (hw : w.testBit g = true) (hf : freeG A (aN S) g d = true) (hu : ∀ u, u < g → (w.testBit u && freeG A (aN S) u d) = false) : ordI S A (w ^^^ (w &&& 2 ^ g)) (d ||| 2 ^ g) (L ++ [g]) (vset U 47 L.length (nI g)) ∧ w ^^^ (w &&& 2 ^ g) < w ∧ L.length < 10 := by
  obtain ⟨a1, a2, a3, a4, a5, a6, a7⟩ := h
  have hpk : pickL A (bitsL (aN S) w) = some g := by
    refine pick_some hg hw (by rw [free_any hA a3, hf]; rfl) (fun u h1 h2 => ?_)
    have := hu u h1
    rw [h2, Bool.true_and] at this
    rw [free_any hA a3, this]
    rfl
  have hmem : g ∈ bitsL (aN S) w := bitsL_mem.mpr ⟨hg, hw⟩
  have hpos := List.length_pos_of_mem hmem
  have hc : (comL S).length ≤ aN S := bitsL_len _ _
  have hlt : w ^^^ (w &&& 2 ^ g) < w := by
    rcases Nat.lt_or_eq_of_le (andn_le (a := w) (b := 2 ^ g)) with q | q
    · exact q
    · have := congrArg (fun z => Nat.testBit z g) q
      simp only [bit_off, hw] at this
      simp at this
  refine ⟨⟨by omega, Nat.or_lt_two_pow (n := 10) a2 (Nat.pow_lt_pow_right (by omega) (by omega)), fun x hx => ?_, fun x hx hb => ?_, fun i hi => ?_, ?_, ?_⟩, hlt, by omega⟩
  · rw [Nat.testBit_or, Nat.testBit_two_pow, a3 x hx, bit_off]
    by_cases e : g = x
    · subst e; simp [a4 g hg hw]
    · simp [e, Ne.symm e]
  · rw [bit_off] at hb
    exact a4 x hx (by simp at hb; exact hb.1)
  · rw [vset_in]
    rw [List.length_append, List.length_singleton] at hi
    by_cases e : i = L.length
    · rw [if_pos e, e]
      simp
    · rw [if_neg e, a5 i (by omega)]
      rw [List.getD_eq_getElem?_getD, List.getD_eq_getElem?_getD, List.getElem?_append_left (show i < L.length by omega)]
  · rw [a6, List.append_assoc]
    congr 1
    rw [show aN S - L.length = (aN S - (L ++ [g]).length) + 1 by rw [List.length_append, List.length_singleton]; omega]
    rw [ordL, hpk, bitsL_erase]
    rfl
  · rw [List.length_append, List.length_singleton, bitsL_erase, List.length_erase_of_mem hmem]
    omega
theorem ord_end {S : Ab} {A : Gr} {w d : Nat} {L : List Nat} {U : Nat → Nat → Int32} (h : ordI S A w d L U) (hp : pickL A (bitsL (aN S) w) = none) : ordL A (aN S) (comL S) = L ∧ (w = 0 → L.length = (comL S).length) ∧ (w < 2 ^ aN S → w ≠ 0 → L.length < (comL S).length) := by
  obtain ⟨a1, a2, a3, a4, a5, a6, a7⟩ := h
  refine ⟨?_, fun h0 => ?_, fun h1 h0 => ?_⟩
  · rw [a6]
    cases e : aN S - L.length with
    | zero => rw [ordL, List.append_nil]
    | succ k => rw [ordL, hp, List.append_nil]
  · rw [h0] at a7
    have : bitsL (aN S) 0 = [] := by unfold bitsL; rw [List.filter_eq_nil_iff]; intro x _; simp
    rw [this] at a7
    exact a7
  · obtain ⟨i, hi⟩ := Nat.exists_testBit_of_ne_zero h0
    have hl : i < aN S := by
      rcases Nat.lt_or_ge i (aN S) with q | q
      · exact q
      · rw [Nat.testBit_lt_two_pow (Nat.lt_of_lt_of_le h1 (Nat.pow_le_pow_right (by omega) q))] at hi
        cases hi
    have := List.length_pos_of_mem (bitsL_mem.mpr ⟨hl, hi⟩)
    omega
theorem abv_com {S : Ab} {room : Int32} {wo x y : Nat} (h : abv S room wo x y = true) : aCm S x = true ∧ aCm S y = true ∧ x ≠ y := by
  unfold abv at h
  obtain ⟨r, -, hr⟩ := (anyB_iff _ _).mp h
  simp [cntF] at hr
  refine ⟨hr.2.1.1.2, hr.2.1.2, ?_⟩
  have := hr.2.2
  unfold hasC at this
  rw [hr.1.1] at this
  simp at this
  exact cpl_ne this
def spOrder (S : Ab) (room k : Int32) : Int32 := if inN room (aRm S) then (if decide ((ordL (abv S room 0) (aN S) (comL S)).length = (comL S).length) && inN k (comL S).length then nI ((ordL (abv S room 0) (aN S) (comL S)).getD k.toNatClampNeg 0) else -1) else -1
theorem ord_0 {S : Ab} {A : Gr} {U : Nat → Nat → Int32} (hn : aN S ≤ 10) : ordI S A (comB S (aN S)) 0 [] U := by
  refine ⟨Nat.lt_of_lt_of_le (comB_lt _ _) (pow2_le hn), by omega, fun x hx => ?_, fun x hx hb => ?_, fun i hi => absurd hi (Nat.not_lt_zero _), rfl, by simp [comL]⟩
  · rw [Nat.zero_testBit, comB_bit]; simp [hx]
  · rw [comB_bit] at hb; simp at hb; exact hb.2
theorem ord_none {S : Ab} {A : Gr} {w d g : Nat} {L : List Nat} {U : Nat → Nat → Int32} (hA : ∀ x y, A x y = true → aCm S x = true) (h : ordI S A w d L U) (hg : aN S ≤ g) (hu : ∀ u, u < g → (w.testBit u && freeG A (aN S) u d) = false) : pickL A (bitsL (aN S) w) = none := by
  refine pick_none (fun u h1 h2 => ?_)
  have := hu u (by omega)
  rw [h2, Bool.true_and] at this
  rw [free_any hA h.2.2.1, this]
  rfl
