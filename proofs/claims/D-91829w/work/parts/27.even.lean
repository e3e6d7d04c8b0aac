/-! evened: turns that even out -/
set_option maxRecDepth 100000
/-- course i of a code: the first is the highest digit -/
def dgt (n cs r i : Nat) : Nat := r / n ^ (cs - 1 - i) % n
def evS (S : Ab) (q n cs r g : Nat) : Nat → Nat
  | 0 => 0
  | i + 1 => evS S q n cs r g i + mnd S (slL S q 0 (dgt n cs r i)) g
def evM (S : Ab) (q n cs r : Nat) : Nat → Nat
  | 0 => 0
  | g + 1 => max (evM S q n cs r g) (evS S q n cs r g cs)
/-- the least so far, and its code -/
def evB (S : Ab) (q n cs : Nat) : Nat → Option (Nat × Nat)
  | 0 => none
  | r + 1 => match evB S q n cs r with
    | none => some (evM S q n cs r (aN S), r)
    | some (m, c) => if evM S q n cs r (aN S) < m then some (evM S q n cs r (aN S), r) else some (m, c)
theorem mnd_b {S : Ab} (hO : SOK S) (q cr on g : Nat) : mnd S (slL S q cr on) g ≤ 21600 := by
  have h1 := mnd_le hO (L := slL S q cr on) rfl g
  have h2 : (slL S q cr on).length ≤ 100 * aRl S := slR_len S q cr on hO.n _
  have := hO.rl
  omega
theorem evS_le {S : Ab} (hO : SOK S) (q n cs r g : Nat) : ∀ i, evS S q n cs r g i ≤ 21600 * i := by
  intro i
  induction i with
  | zero => exact Nat.le_refl _
  | succ i ih => have := mnd_b hO q 0 (dgt n cs r i) g; unfold evS; omega
theorem evM_le {S : Ab} (hO : SOK S) (q n cs r : Nat) (hcs : cs ≤ 3) : ∀ g, evM S q n cs r g ≤ 64800 := by
  intro g
  induction g with
  | zero => exact Nat.zero_le _
  | succ g ih => have := evS_le hO q n cs r g cs; unfold evM; omega
theorem evB_ok {S : Ab} (hO : SOK S) {q n cs : Nat} (hcs : cs ≤ 3) : ∀ r m c, evB S q n cs r = some (m, c) → m ≤ 64800 ∧ c < r := by
  intro r
  induction r with
  | zero => intro m c h; cases h
  | succ r ih =>
    intro m c h
    unfold evB at h
    have hm := evM_le hO q n cs r hcs (aN S)
    cases e : evB S q n cs r with
    | none => rw [e] at h; simp at h; omega
    | some z =>
      obtain ⟨m', c'⟩ := z
      have := ih m' c' e
      rw [e] at h
      simp only at h
      split at h <;> simp at h <;> omega
section EV
variable {S : Ab} {q n cs r m c : Nat}
theorem ev_new (h : evB S q n cs r = none) : evB S q n cs (r + 1) = some (evM S q n cs r (aN S), r) := by rw [evB, h]
theorem ev_less (h : evB S q n cs r = some (m, c)) (hl : evM S q n cs r (aN S) < m) : evB S q n cs (r + 1) = some (evM S q n cs r (aN S), r) := by rw [evB, h]; simp [hl]
theorem ev_keep (h : evB S q n cs r = some (m, c)) (hl : m ≤ evM S q n cs r (aN S)) : evB S q n cs r = evB S q n cs (r + 1) := by rw [evB, h]; simp; omega
theorem ev_b (hO : SOK S) (hcs : cs ≤ 3) : ∀ x, (evB S q n cs r).map Prod.fst = some x → x < 2 ^ 31 := fun x h => by
  cases e : evB S q n cs r with
  | none => rw [e] at h; cases h
  | some z => obtain ⟨m, c⟩ := z; rw [e] at h; cases h; have := (evB_ok hO hcs r m c e).1; show m < 2 ^ 31; omega
theorem ev_is (h : ¬ oI ((evB S q n cs r).map Prod.fst) = -1) : ∃ m c, evB S q n cs r = some (m, c) := by
  cases e : evB S q n cs r with
  | none => rw [e] at h; exact absurd rfl h
  | some z => obtain ⟨m, c⟩ := z; exact ⟨m, c, rfl⟩
theorem ev_not (hO : SOK S) (hcs : cs ≤ 3) (h : oI ((evB S q n cs r).map Prod.fst) = -1) : evB S q n cs r = none := by
  have := (oI_none (ev_b hO hcs)).mp h
  cases e : evB S q n cs r with
  | none => rfl
  | some z => rw [e] at this; cases this
end EV
theorem dgt_lt {n cs r i : Nat} (hn : 1 ≤ n) : dgt n cs r i < n := Nat.mod_lt _ (by omega)
theorem dgt_at {n cs r j : Nat} (hj : j < cs) : r / n ^ j % n = dgt n cs r (cs - j - 1) := by unfold dgt; rw [show cs - 1 - (cs - j - 1) = j by omega]
theorem div_next (r n j : Nat) : r / n ^ j / n = r / n ^ (j + 1) := by rw [Nat.div_div_eq_div_mul, Nat.pow_succ]
theorem dec_eq (x : Int32) : x + Int32.ofInt (-1) = x - nI 1 := by rw [Int32.sub_eq_add_neg]; rfl
theorem ev_end {a : Nat} (ha : a < 2 ^ 30) (h : nI a - nI 1 < 0) : a = 0 := by
  have h1 := Int32.lt_iff_toInt_lt.mp h
  rw [pk_sub_toInt ha (by omega), show (0 : Int32).toInt = 0 by decide] at h1
  omega
theorem ev_go {a : Nat} (h : ¬ nI a - nI 1 < 0) (ha : a < 2 ^ 30) : 1 ≤ a := by
  rcases Nat.eq_zero_or_pos a with e | e
  · subst e; exact absurd (by decide) h
  · exact e
theorem in_1c {g : Int32} : decide ((1 : Int64) ≤ Int32.toInt64 g ∧ Int32.toInt64 g ≤ (3 : Int64)) = inN (g - 1) 3 := by
  apply decide_eq_decide.mpr
  have h1 : (1 : Int64) = Int32.toInt64 1 := by decide
  have h2 : (3 : Int64) = Int32.toInt64 3 := by decide
  rw [h1, h2, i64_le, i64_le, Int32.toInt_sub]
  have h3 : (1 : Int32).toInt = 1 := by decide
  have h4 : (3 : Int32).toInt = 3 := by decide
  rw [h3, h4]
  have ha := g.le_toInt
  have hb := g.toInt_lt
  constructor
  · intro ⟨p, q⟩
    rw [Int.bmod_eq_of_le (by omega) (by omega)]
    omega
  · intro ⟨p, q⟩
    by_cases hm : g.toInt = -2147483648
    · rw [hm] at p q
      exfalso
      revert p q
      decide
    · rw [Int.bmod_eq_of_le (by omega) (by omega)] at p q
      omega
theorem in1c_t {x : Int32} (h : inN (x - 1) 3 = true) : ∃ j : Nat, (1 ≤ j ∧ j ≤ 3) ∧ x = nI j := by
  obtain ⟨j, hj, e⟩ := inN_t h
  refine ⟨j + 1, by omega, ?_⟩
  rw [← nI_1, ← e]
  grind
theorem in_m1 {g : Int32} {n : Nat} (hn : n < 2 ^ 30) : decide ((-1 : Int64) ≤ Int32.toInt64 g ∧ Int32.toInt64 g ≤ Int32.toInt64 (nI n - nI 1)) = (decide (g = -1) || inN g n) := by
  rw [Bool.eq_iff_iff, decide_eq_true_iff, Bool.or_eq_true, decide_eq_true_iff]
  unfold inN
  rw [decide_eq_true_iff]
  have h0 : (-1 : Int64) = Int32.toInt64 (-1) := by decide
  rw [h0, i64_le, i64_le, pk_sub_toInt hn (by omega), ← Int32.toInt_inj]
  have h1 : (-1 : Int32).toInt = -1 := by decide
  rw [h1]
  omega
def spEvened (S : Ab) (room courses k : Int32) : Int32 := if inN room (aRm S) && decide (aRk S room.toNatClampNeg = 4) && decide (aRp S room.toNatClampNeg ≤ 8) && inN (courses - 1) 3 && (decide (k = -1) || inN k courses.toNatClampNeg) then (match evB S room.toNatClampNeg (aRp S room.toNatClampNeg) courses.toNatClampNeg (aRp S room.toNatClampNeg ^ courses.toNatClampNeg) with
  | none => -1
  | some (m, c) => if k = -1 then nI m else nI (dgt (aRp S room.toNatClampNeg) courses.toNatClampNeg c k.toNatClampNeg)) else -1
theorem pow_b {n i : Nat} (hn : n ≤ 8) (hi : i ≤ 3) : n ^ i ≤ 512 := Nat.le_trans (Nat.pow_le_pow_left hn i) (Nat.le_trans (Nat.pow_le_pow_right (by omega) hi) (by decide))
theorem evB_some {S : Ab} (hO : SOK S) {q n cs r : Nat} (h : 1 ≤ r) : ∃ m c, evB S q n cs r = some (m, c) := by
  obtain ⟨k, rfl⟩ : ∃ k, r = k + 1 := ⟨r - 1, by omega⟩
  rw [evB]
  cases e : evB S q n cs k with
  | none => exact ⟨_, _, rfl⟩
  | some z => obtain ⟨m, c⟩ := z; simp only; split <;> exact ⟨_, _, rfl⟩
