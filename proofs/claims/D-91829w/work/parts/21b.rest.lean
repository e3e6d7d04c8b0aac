/-! rules that rest -/
set_option maxRecDepth 100000
theorem bi_andn (a b : Nat) : nI a &&& (nI b ^^^ (-1)) = nI (a ^^^ (a &&& b)) := by
  apply Int32.toBitVec_inj.mp
  show (BitVec.ofNat 32 a) &&& ((BitVec.ofNat 32 b) ^^^ (BitVec.allOnes 32)) = BitVec.ofNat 32 (a ^^^ (a &&& b))
  apply BitVec.eq_of_getLsbD_eq
  intro i hi
  simp only [BitVec.getLsbD_and, BitVec.getLsbD_xor, BitVec.getLsbD_ofNat, BitVec.getLsbD_allOnes, hi, Nat.testBit_xor, Nat.testBit_and, decide_true, Bool.true_and]
  cases a.testBit i <;> cases b.testBit i <;> rfl
theorem and_sub {a b : Nat} : a ^^^ (a &&& b) = 0 ↔ ∀ i, a.testBit i = true → b.testBit i = true := by
  constructor
  · intro h i hi
    have := congrArg (fun z => Nat.testBit z i) h
    simp [hi] at this
    exact this
  · intro h
    apply Nat.eq_of_testBit_eq
    intro i
    rw [Nat.testBit_xor, Nat.testBit_and, Nat.zero_testBit]
    cases e : a.testBit i with
    | false => rfl
    | true => rw [h i e]; rfl
theorem andn_le {a b : Nat} : a ^^^ (a &&& b) ≤ a := by
  have : a ^^^ (a &&& b) = a &&& (a ^^^ (a &&& b)) := by
    apply Nat.eq_of_testBit_eq
    intro i
    simp
    cases a.testBit i <;> simp
  rw [this]
  exact Nat.and_le_left
/-- the rules that can rest: of above, and they count -/
def canB (S : Ab) (room : Int32) : Nat → Nat
  | 0 => 0
  | r + 1 => canB S room r ||| (if decide (aKd S r = 0) && cnt S r room then 2 ^ r else 0)
theorem canB_lt (S : Ab) (room : Int32) : ∀ r, canB S room r < 2 ^ r := by
  intro r
  induction r with
  | zero => exact Nat.one_pos
  | succ r ih =>
    unfold canB
    refine Nat.or_lt_two_pow (Nat.lt_of_lt_of_le ih (Nat.pow_le_pow_right (by omega) (by omega))) ?_
    split
    · exact Nat.pow_lt_pow_right (by omega) (by omega)
    · exact Nat.two_pow_pos _
theorem canB_bit (S : Ab) (room : Int32) : ∀ k r, (canB S room k).testBit r = (decide (r < k) && (decide (aKd S r = 0) && cnt S r room)) := by
  intro k
  induction k with
  | zero => intro r; simp [canB]
  | succ k ih =>
    intro r
    unfold canB
    rw [Nat.testBit_or, ih r]
    by_cases e : r = k
    · subst e
      split
      · rename_i h; simp [h]
      · rename_i h; simp only [Bool.not_eq_true] at h; simp [h]
    · have : (if decide (aKd S k = 0) && cnt S k room then 2 ^ k else 0).testBit r = false := by
        split
        · rw [Nat.testBit_two_pow]; simp; omega
        · simp
      rw [this, Bool.or_false]
      congr 1
      apply decide_eq_decide.mpr
      omega
/-- only rules that can rest are in b -/
def onlyA (S : Ab) (room : Int32) (b : Nat) : Bool := !(anyB (fun r => b.testBit r && !(decide (aKd S r = 0) && cnt S r room)) (aRl S))
theorem onlyA_iff {S : Ab} {room : Int32} {b : Nat} (hb : b < 2 ^ aRl S) : b ^^^ (b &&& canB S room (aRl S)) = 0 ↔ onlyA S room b = true := by
  rw [and_sub]
  unfold onlyA
  rw [Bool.not_eq_true', ← Bool.not_eq_true, anyB_iff]
  constructor
  · intro h ⟨r, hr, hp⟩
    simp only [Bool.and_eq_true, Bool.not_eq_true'] at hp
    have := h r hp.1
    rw [canB_bit, hp.2] at this
    simp at this
  · intro h i hi
    have hl : i < aRl S := by
      rcases Nat.lt_or_ge i (aRl S) with q | q
      · exact q
      · rw [Nat.testBit_lt_two_pow (Nat.lt_of_lt_of_le hb (Nat.pow_le_pow_right (by omega) q))] at hi
        cases hi
    rw [canB_bit]
    cases e : (decide (aKd S i = 0) && cnt S i room) with
    | true => simp [hl]
    | false => exact absurd ⟨i, hl, by simp only [hi, e]; rfl⟩ h
def wtF (S : Ab) (b : Nat) : Nat → Nat
  | 0 => 0
  | r + 1 => wtF S b r + (if b.testBit r then 1 else 0) * aWt S r
theorem wtF_le {S : Ab} (hO : SOK S) (b : Nat) : ∀ r, r ≤ aRl S → wtF S b r ≤ 9 * r := by
  intro r
  induction r with
  | zero => intro _; exact Nat.le_refl _
  | succ r ih =>
    intro h
    have h1 := ih (by omega)
    have h2 := hO.wt (r := r) (by omega)
    have e : wtF S b (r + 1) = wtF S b r + (if b.testBit r then 1 else 0) * aWt S r := rfl
    rw [e]
    split <;> omega
/-- one is passed over for the best so far -/
def trSkip (S : Ab) (x : Option Nat) (b : Nat) : Bool := match x with
  | none => false
  | some p => decide (wtF S p (aRl S) < wtF S b (aRl S)) || (decide (wtF S b (aRl S) = wtF S p (aRl S)) && decide (popN p ≤ popN b))
def trF (S : Ab) (room : Int32) : Nat → Option Nat
  | 0 => none
  | b + 1 => if onlyA S room b && !(trSkip S (trF S room b) b) && !(ringB (abv S room b) (aN S) (2 ^ aN S - 1)) then some b else trF S room b
theorem trF_lt (S : Ab) (room : Int32) : ∀ b p, trF S room b = some p → p < b := by
  intro b
  induction b with
  | zero => intro p h; cases h
  | succ b ih =>
    intro p h
    unfold trF at h
    split at h
    · cases h; omega
    · have := ih p h; omega
def trW (S : Ab) (x : Option Nat) : Nat := match x with
  | none => 0
  | some p => wtF S p (aRl S)
theorem trF_no {S : Ab} {room : Int32} {b : Nat} (h : (onlyA S room b && !(trSkip S (trF S room b) b) && !(ringB (abv S room b) (aN S) (2 ^ aN S - 1))) = false) : trF S room b = trF S room (b + 1) := by rw [trF, h]; rfl
theorem trF_yes {S : Ab} {room : Int32} {b : Nat} (h : (onlyA S room b && !(trSkip S (trF S room b) b) && !(ringB (abv S room b) (aN S) (2 ^ aN S - 1))) = true) : trF S room (b + 1) = some b := by rw [trF, h]; rfl
def spToRest (S : Ab) (room what : Int32) : Int32 := if inN room (aRm S) && inN what 2 then (if what = nI 0 then oI (trF S room (2 ^ aRl S)) else nI (trW S (trF S room (2 ^ aRl S)))) else -1
theorem pow12_le {n : Nat} (h : n ≤ 12) : 2 ^ n ≤ 4096 := Nat.pow_le_pow_right (by omega) h
theorem trW_le {S : Ab} (hO : SOK S) (x : Option Nat) : trW S x ≤ 108 := by
  cases x with
  | none => exact Nat.zero_le _
  | some p => have := wtF_le hO p (aRl S) (Nat.le_refl _); have := hO.rl; show wtF S p (aRl S) ≤ 108; omega
