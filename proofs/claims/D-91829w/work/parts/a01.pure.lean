/-! small rows for the component's numbers -/
set_option maxRecDepth 100000
def inI (x a b : Int32) : Bool := decide (a ≤ x) && decide (x ≤ b)
theorem inI_i {x a b : Int32} : inI x a b = decide (a.toInt ≤ x.toInt ∧ x.toInt ≤ b.toInt) := by
  unfold inI
  rw [← Bool.decide_and]
  apply decide_eq_decide.mpr
  rw [Int32.le_iff_toInt_le, Int32.le_iff_toInt_le]
theorem sub1_i {n : Nat} (hn : n < 2 ^ 30) : (nI n - nI 1 : Int32).toInt = (n : Int) - 1 := by
  rw [Int32.toInt_sub, nI_toInt (by omega), nI_toInt (by omega)]
  exact Int.bmod_eq_of_le (by omega) (by omega)
theorem in_i0 {x : Int32} {n : Nat} (hn : n < 2 ^ 30) : inI x (nI 0) (nI n - nI 1) = inN x n := by
  rw [inI_i, sub1_i hn, nI_toInt (by omega)]
  unfold inN
  apply decide_eq_decide.mpr
  omega
theorem in_ik {x : Int32} {n : Nat} (hn : n < 2 ^ 30) : inI x (nI 0) (nI n) = inN x (n + 1) := by
  rw [inI_i, nI_toInt (by omega), nI_toInt (by omega)]
  unfold inN
  apply decide_eq_decide.mpr
  omega
theorem in_i1 {x : Int32} {n : Nat} (hn : n < 2 ^ 30) : inI x (nI 1) (nI n) = inN (x - 1) n := by
  rw [inI_i, nI_toInt (by omega), nI_toInt (by omega)]
  unfold inN
  apply decide_eq_decide.mpr
  have h1 : (x - 1 : Int32).toInt = (x.toInt - 1).bmod (2 ^ 32) := by
    rw [Int32.toInt_sub]; rfl
  have h2 := Int32.toInt_lt x
  have h3 := Int32.le_toInt x
  rw [h1]
  by_cases c : x.toInt = -2147483648
  · rw [c, show ((-2147483648 : Int) - 1).bmod (2 ^ 32) = 2147483647 by decide]
    omega
  · rw [Int.bmod_eq_of_le (by omega) (by omega)]
    omega
theorem in_im {x : Int32} {n : Nat} (hn : n < 2 ^ 30) : inI x (-1) (nI n - nI 1) = (decide (x = -1) || inN x n) := by
  rw [inI_i, sub1_i hn]
  unfold inN
  rw [← Bool.decide_or]
  apply decide_eq_decide.mpr
  have e : x = -1 ↔ x.toInt = -1 := by
    rw [← Int32.toInt_inj]
    rfl
  have e2 : (-1 : Int32).toInt = -1 := by decide
  rw [e, e2]
  omega
theorem in_nk {a b k : Nat} (ha : a < 2 ^ 31) (hb : b < 2 ^ 31) (hk : k < 2 ^ 31) : inI (nI k) (nI a) (nI b) = (decide (a ≤ k) && decide (k ≤ b)) := by
  rw [inI_i, nI_toInt ha, nI_toInt hb, nI_toInt hk, ← Bool.decide_and]
  apply decide_eq_decide.mpr
  omega
theorem cntN_z {p : Nat → Bool} {k : Nat} : cntN p (k + 1) = cntN p k + (if p k then 1 else 0) := rfl
/-- who of the first k comes, where it lies -/
def comA (Ls : Nat → List Nat) (S : Ab) (k : Nat) : List Nat := (comP S k).map (fun g => (Ls 0).getD g 0)
theorem comA_t {Ls : Nat → List Nat} {S : Ab} {k : Nat} (h : aCm S k = true) : comA Ls S (k + 1) = comA Ls S k ++ [(Ls 0).getD k 0] := by unfold comA; rw [comP_t h, List.map_append]; rfl
theorem comA_f {Ls : Nat → List Nat} {S : Ab} {k : Nat} (h : aCm S k = false) : comA Ls S (k + 1) = comA Ls S k := by unfold comA; rw [comP_f h]
theorem comA_len {Ls : Nat → List Nat} {S : Ab} {k : Nat} : (comA Ls S k).length = (comP S k).length := by unfold comA; rw [List.length_map]
theorem comA_get {Ls : Nat → List Nat} {S : Ab} {k i : Nat} (h : i < (comP S k).length) : (comA Ls S k).getD i 0 = (Ls 0).getD ((comP S k).getD i 0) 0 := by
  unfold comA
  rw [List.getD_eq_getElem?_getD, List.getElem?_map, List.getElem?_eq_getElem h, List.getD_eq_getElem?_getD (l := comP S k), List.getElem?_eq_getElem h]
  rfl
theorem comP_cnt (S : Ab) : ∀ k, (comP S k).length = cntN (aCm S) k := by
  intro k
  induction k with
  | zero => rfl
  | succ k ih =>
    cases c : aCm S k with
    | true => rw [comP_t c, List.length_append, ih]; simp [cntN, c]
    | false => rw [comP_f c, ih]; simp [cntN, c]
theorem comP_lt {S : Ab} {k i : Nat} (h : i < (comP S k).length) : (comP S k).getD i 0 < k ∧ aCm S ((comP S k).getD i 0) = true := comP_mem.mp (getD_mem h)
theorem j_nx {j j2 : Nat} {L : List Nat} {q : Nat} (h : j ≤ 1 ∧ L.length < 11) (hj : j2 = j ∨ (j2 = j + 1 ∧ L.length = gcap j)) (hl : L.length < 10) : j2 ≤ 1 := by
  rcases hj with z | ⟨z, z2⟩
  · omega
  · have : j = 0 ∨ j = 1 := by omega
    rcases this with e | e
    · omega
    · rw [e] at z2
      have : gcap 1 = 10 := rfl
      omega
theorem gs1 {j : Nat} (h : j ≤ 1) : gsum j ≤ 10 ∧ gcap (j + 1) ≤ 15 := by
  have : j = 0 ∨ j = 1 := by omega
  rcases this with e | e <;> rw [e] <;> decide
