/-! ranks as a graph: steps, rings -/
set_option maxRecDepth 100000
def oI (x : Option Nat) : Int32 := match x with
  | none => -1
  | some d => nI d
theorem oI_none {x : Option Nat} (hb : ∀ d, x = some d → d < 2 ^ 31) : oI x = -1 ↔ x = none := by
  cases x with
  | none => exact ⟨fun _ => rfl, fun _ => rfl⟩
  | some d => exact ⟨fun h => absurd h (nI_m1 (hb d rfl)), fun h => by cases h⟩
theorem oI_some {x : Option Nat} {k : Nat} (hb : ∀ d, x = some d → d < 2 ^ 31) (hk : k < 2 ^ 31) : oI x = nI k ↔ x = some k := by
  cases x with
  | none => exact ⟨fun h => absurd h.symm (nI_m1 hk), fun h => by cases h⟩
  | some d => exact ⟨fun h => by rw [nI_inj (hb d rfl) hk h], fun h => by cases h; rfl⟩
abbrev Gr : Type := Nat → Nat → Bool
/-- how many steps lead from x to t within hp, after k rounds -/
def farO (A : Gr) (n hp t : Nat) : Nat → Nat → Option Nat
  | 0, x => if x = t then some 0 else none
  | k + 1, x => match farO A n hp t k x with
    | some d => some d
    | none => if decide (x < n) && hp.testBit x && anyB (fun y => decide (farO A n hp t k y = some k) && hp.testBit y && A x y) n then some (k + 1) else none
theorem farO_le (A : Gr) (n hp t : Nat) : ∀ k x d, farO A n hp t k x = some d → d ≤ k := by
  intro k
  induction k with
  | zero => intro x d h; unfold farO at h; split at h <;> cases h; exact Nat.le_refl _
  | succ k ih =>
    intro x d h
    unfold farO at h
    cases e : farO A n hp t k x with
    | some d' =>
      rw [e] at h
      cases h
      exact Nat.le_succ_of_le (ih x d e)
    | none =>
      rw [e] at h
      simp only at h
      split at h <;> cases h
      exact Nat.le_refl _
theorem farO_b (A : Gr) (n hp t k x : Nat) (hk : k ≤ 100) : ∀ d, farO A n hp t k x = some d → d < 2 ^ 31 := fun d h => by have := farO_le A n hp t k x d h; omega
theorem farO_keep {A : Gr} {n hp t k x d : Nat} (h : farO A n hp t k x = some d) : farO A n hp t (k + 1) x = some d := by
  unfold farO
  rw [h]
theorem farO_cut {A : Gr} {n hp t k x : Nat} (h : farO A n hp t k x = none) (hb : hp.testBit x = false) : farO A n hp t (k + 1) x = none := by
  unfold farO
  rw [h]
  simp [hb]
theorem farO_step {A : Gr} {n hp t k x : Nat} (h : farO A n hp t k x = none) (hx : x < n) (hb : hp.testBit x = true) : farO A n hp t (k + 1) x = if anyB (fun y => decide (farO A n hp t k y = some k) && hp.testBit y && A x y) n then some (k + 1) else none := by
  rw [farO, h]
  simp [hb, hx]
/-- reading in the midst of a round -/
theorem farO_mid {A : Gr} {n hp t k y : Nat} (hk : k < 100) : oI (farO A n hp t (k + 1) y) = nI k ↔ farO A n hp t k y = some k := by
  rw [oI_some (farO_b A n hp t (k + 1) y (by omega)) (by omega)]
  constructor
  · intro h
    cases e : farO A n hp t k y with
    | some d => rw [farO_keep e] at h; exact h
    | none =>
      unfold farO at h
      rw [e] at h
      simp only at h
      split at h <;> simp at h
  · exact farO_keep
def minO (a b : Option Nat) : Option Nat := match a, b with
  | none, b => b
  | a, none => a
  | some a, some b => if b < a then some b else some a
/-- the shortest ring through g, by the first k that may follow it -/
def thrO (A : Gr) (n hp g : Nat) : Nat → Option Nat
  | 0 => none
  | y + 1 => if decide (y ≠ g) && A g y then minO (thrO A n hp g y) ((farO A n hp g 10 y).map (· + 1)) else thrO A n hp g y
theorem thrO_le (A : Gr) (n hp g : Nat) : ∀ k d, thrO A n hp g k = some d → 1 ≤ d ∧ d ≤ 11 := by
  intro k
  induction k with
  | zero => intro d h; cases h
  | succ k ih =>
    intro d h
    unfold thrO at h
    split at h
    · cases e : thrO A n hp g k with
      | none =>
        rw [e] at h
        cases f : farO A n hp g 10 k with
        | none => rw [f] at h; cases h
        | some d2 =>
          rw [f] at h
          have := farO_le A n hp g 10 k d2 f
          simp [minO] at h
          omega
      | some b =>
        have hb := ih b e
        rw [e] at h
        cases f : farO A n hp g 10 k with
        | none => rw [f] at h; simp [minO] at h; omega
        | some d2 =>
          rw [f] at h
          have := farO_le A n hp g 10 k d2 f
          simp [minO] at h
          split at h <;> simp at h <;> omega
    · exact ih d h
theorem thrO_b (A : Gr) (n hp g k : Nat) : ∀ d, thrO A n hp g k = some d → d < 2 ^ 31 := fun d h => by have := thrO_le A n hp g k d h; omega
/-- a ring in hp -/
def ringB (A : Gr) (n hp : Nat) : Bool := anyB (fun g => hp.testBit g && (thrO A n hp g n).isSome) n
/-- the model's far -/
def farA (A : Gr) (n hp t : Nat) (V : Nat → Nat → Int32) : Prop := ∀ g, g < 10 → V 46 g = oI (farO A n hp t 10 g)
/-- the shortest of all rings: its length and its first -/
def rgF (A : Gr) (n : Nat) : Nat → Option (Nat × Nat)
  | 0 => none
  | g + 1 => match thrO A n (2 ^ n - 1) g n with
    | none => rgF A n g
    | some d => match rgF A n g with
      | none => some (d, g)
      | some (b, f) => if d < b then some (d, g) else some (b, f)
theorem rgF_thr {A : Gr} {n : Nat} : ∀ k b f, rgF A n k = some (b, f) → f < k ∧ thrO A n (2 ^ n - 1) f n = some b := by
  intro k
  induction k with
  | zero => intro b f h; cases h
  | succ k ih =>
    intro b f h
    unfold rgF at h
    cases e : thrO A n (2 ^ n - 1) k n with
    | none =>
      rw [e] at h
      have := ih b f h
      exact ⟨by omega, this.2⟩
    | some d =>
      rw [e] at h
      cases e2 : rgF A n k with
      | none =>
        rw [e2] at h
        simp at h
        obtain ⟨rfl, rfl⟩ := h
        exact ⟨by omega, e⟩
      | some q =>
        obtain ⟨b', f'⟩ := q
        rw [e2] at h
        simp only at h
        split at h
        · simp at h
          obtain ⟨rfl, rfl⟩ := h
          exact ⟨by omega, e⟩
        · simp at h
          obtain ⟨rfl, rfl⟩ := h
          have := ih _ _ e2
          exact ⟨by omega, this.2⟩
/-- the first below n that is; n without -/
def firstB (p : Nat → Bool) : Nat → Nat → Nat
  | 0, y => y
  | k + 1, y => if p y then y else firstB p k (y + 1)
theorem firstB_eq {p : Nat → Bool} {z : Nat} (hz : p z = true) : ∀ k y, y ≤ z → z < y + k → (∀ u, y ≤ u → u < z → p u = false) → firstB p k y = z := by
  intro k
  induction k with
  | zero => intro y h1 h2; omega
  | succ k ih =>
    intro y h1 h2 h3
    unfold firstB
    by_cases e : y = z
    · subst e; rw [hz]; rfl
    · rw [h3 y (Nat.le_refl _) (by omega)]
      exact ih (y + 1) (by omega) (by omega) (fun u hu => h3 u (by omega))
/-- the walk along a ring -/
def wlk (A : Gr) (n f b : Nat) : Nat → Nat
  | 0 => f
  | i + 1 => firstB (fun y => decide (farO A n (2 ^ n - 1) f 10 y = some (b - i - 1)) && A (wlk A n f b i) y) n 0
theorem all_bit {n x : Nat} (h : x < n) : (2 ^ n - 1).testBit x = true := by
  rw [Nat.testBit_two_pow_sub_one]; simpa using h
theorem all_bit' {n x : Nat} (h : (2 ^ n - 1).testBit x = true) : x < n := by
  rw [Nat.testBit_two_pow_sub_one] at h; simpa using h
/-- a step towards t -/
theorem farO_next {A : Gr} {n hp t : Nat} : ∀ k x d, farO A n hp t k x = some (d + 1) → x < n ∧ hp.testBit x = true ∧ ∃ y, y < n ∧ hp.testBit y = true ∧ A x y = true ∧ farO A n hp t k y = some d := by
  intro k
  induction k with
  | zero => intro x d h; unfold farO at h; split at h <;> simp at h
  | succ k ih =>
    intro x d h
    cases e : farO A n hp t k x with
    | some d' =>
      rw [farO_keep e] at h
      cases h
      obtain ⟨a, b, y, h1, h2, h3, h4⟩ := ih x d e
      exact ⟨a, b, y, h1, h2, h3, farO_keep h4⟩
    | none =>
      unfold farO at h
      rw [e] at h
      simp only at h
      split at h
      · rename_i hc
        simp at h
        subst h
        simp at hc
        obtain ⟨y, hy, hp2⟩ := (anyB_iff _ _).mp hc.2
        simp at hp2
        exact ⟨hc.1.1, hc.1.2, y, hy, hp2.1.2, hp2.2, farO_keep hp2.1.1⟩
      · cases h
theorem thrO_next {A : Gr} {n hp g : Nat} : ∀ k b, thrO A n hp g k = some b → ∃ y, y < k ∧ A g y = true ∧ ∃ d, farO A n hp g 10 y = some d ∧ d + 1 = b := by
  intro k
  induction k with
  | zero => intro b h; cases h
  | succ k ih =>
    intro b h
    unfold thrO at h
    have low : thrO A n hp g k = some b → ∃ y, y < k + 1 ∧ A g y = true ∧ ∃ d, farO A n hp g 10 y = some d ∧ d + 1 = b := fun h => by
      obtain ⟨y, h1, h2⟩ := ih b h
      exact ⟨y, by omega, h2⟩
    split at h
    · rename_i hc
      simp at hc
      cases f : farO A n hp g 10 k with
      | none => rw [f] at h; cases e : thrO A n hp g k with
        | none => rw [e] at h; cases h
        | some q => rw [e] at h; exact low (e.trans h)
      | some d2 =>
        rw [f] at h
        cases e : thrO A n hp g k with
        | none =>
          rw [e] at h
          simp [minO] at h
          exact ⟨k, by omega, hc.2, d2, f, h⟩
        | some q =>
          rw [e] at h
          simp [minO] at h
          split at h
          · simp at h
            exact ⟨k, by omega, hc.2, d2, f, h⟩
          · exact low (e.trans h)
    · exact low h
/-- the walk stays on its ring -/
theorem wlk_ok {A : Gr} {n f b : Nat} (hn : f < n) (hb : thrO A n (2 ^ n - 1) f n = some b) : ∀ i, i < b → wlk A n f b i < n ∧ (∃ y, y < n ∧ farO A n (2 ^ n - 1) f 10 y = some (b - i - 1) ∧ A (wlk A n f b i) y = true) := by
  intro i
  induction i with
  | zero =>
    intro hi
    obtain ⟨y, h1, h2, d, h3, h4⟩ := thrO_next _ _ hb
    exact ⟨hn, y, h1, by rw [h3, show b - 0 - 1 = d by omega], h2⟩
  | succ i ih =>
    intro hi
    obtain ⟨h0, hex⟩ := ih (by omega)
    -- the first such y
    obtain ⟨y, ⟨hy1, hy2, hy3⟩, hmin⟩ := pk_least (fun y => y < n ∧ farO A n (2 ^ n - 1) f 10 y = some (b - i - 1) ∧ A (wlk A n f b i) y = true) hex
    have hw : wlk A n f b (i + 1) = y := by
      refine firstB_eq (by simp [hy2, hy3]) n 0 (Nat.zero_le _) (by omega) (fun u _ hu => ?_)
      have := hmin u hu
      simp
      intro e1
      cases e2 : A (wlk A n f b i) u with
      | false => rfl
      | true => exact absurd ⟨by omega, e1, e2⟩ this
    rw [hw]
    have hd : b - i - 1 = (b - (i + 1) - 1) + 1 := by omega
    rw [hd] at hy2
    obtain ⟨-, -, z, hz1, -, hz2, hz3⟩ := farO_next _ _ _ hy2
    exact ⟨hy1, z, hz1, hz3, hz2⟩
def spRing (S : Ab) (room k : Int32) : Int32 := if inN room (aRm S) then (match rgF (abv S room 0) (aN S) (aN S) with
  | none => -1
  | some (b, f) => if k = -1 then nI b else if inN k b then nI (wlk (abv S room 0) (aN S) f b k.toNatClampNeg) else -1) else -1
section LEAD
variable {A : Gr} {n hp t k x y : Nat} {U : Nat → Nat → Int32}
theorem farO_out {g : Nat} (h : n ≤ g) : farO A n hp t (k + 1) g = farO A n hp t k g := by
  cases e : farO A n hp t k g with
  | some d => exact farO_keep e
  | none => unfold farO; rw [e]; simp [show ¬ g < n by omega]
theorem lead_is (hC : U 46 x = oI (if x < x then farO A n hp t (k + 1) x else farO A n hp t k x)) (c : ¬ U 46 x = -1) : ∃ d, farO A n hp t k x = some d := by
  rw [if_neg (Nat.lt_irrefl _)] at hC
  cases e : farO A n hp t k x with
  | some d => exact ⟨d, rfl⟩
  | none => rw [e] at hC; exact absurd hC c
theorem lead_not (hC : U 46 x = oI (if x < x then farO A n hp t (k + 1) x else farO A n hp t k x)) (c : U 46 x = -1) (hk : k ≤ 100) : farO A n hp t k x = none := by
  rw [if_neg (Nat.lt_irrefl _)] at hC
  exact (oI_none (farO_b A n hp t k x hk)).mp (hC.symm.trans c)
theorem lead_same {g : Nat} (h1 : farO A n hp t (k + 1) x = none) (h2 : farO A n hp t k x = none) : (if g < x then farO A n hp t (k + 1) g else farO A n hp t k g) = (if g < x + 1 then farO A n hp t (k + 1) g else farO A n hp t k g) := by
  by_cases e : g = x
  · subst e; simp [h1, h2]
  · by_cases h : g < x
    · rw [if_pos h, if_pos (by omega)]
    · rw [if_neg h, if_neg (by omega)]
theorem lead_same2 {g : Nat} (h : ∃ d, farO A n hp t k x = some d) : (if g < x then farO A n hp t (k + 1) g else farO A n hp t k g) = (if g < x + 1 then farO A n hp t (k + 1) g else farO A n hp t k g) := by
  obtain ⟨d, h⟩ := h
  by_cases e : g = x
  · subst e; simp [h, farO_keep h]
  · by_cases h : g < x
    · rw [if_pos h, if_pos (by omega)]
    · rw [if_neg h, if_neg (by omega)]
theorem lead_key (hD : ∀ g, g < 10 → g ≠ x → U 46 g = oI (if g < x then farO A n hp t (k + 1) g else farO A n hp t k g)) (hE : U 46 x = oI (if anyB (fun y => decide (farO A n hp t k y = some k) && hp.testBit y && A x y) y then some (k + 1) else none)) (hnx : farO A n hp t k x = none) (hy : y < 10) (hk : k < 100) : U 46 y = nI k ↔ farO A n hp t k y = some k := by
  by_cases e : y = x
  · subst e
    rw [hE, hnx]
    constructor
    · intro h
      split at h
      · exact absurd (nI_inj (by omega) (by omega) h) (by omega)
      · exact absurd h.symm (nI_m1 (by omega))
    · intro h; cases h
  · rw [hD y hy e]
    split
    · exact farO_mid hk
    · exact oI_some (farO_b A n hp t k y (by omega)) (by omega)
theorem lead_x {g : Nat} (hD : ∀ g, g < 10 → g ≠ x → U 46 g = oI (if g < x then farO A n hp t (k + 1) g else farO A n hp t k g)) (hE : U 46 x = oI (if anyB (fun y => decide (farO A n hp t k y = some k) && hp.testBit y && A x y) y then some (k + 1) else none)) (hg : g < 10) (hy : n ≤ y ∧ y ≤ n) (hnx : farO A n hp t k x = none) (hb : hp.testBit x = true) (hx : x < n) : U 46 g = oI (if g < x + 1 then farO A n hp t (k + 1) g else farO A n hp t k g) := by
  have hyn : y = n := by omega
  subst hyn
  by_cases e : g = x
  · subst e
    rw [hE, if_pos (show g < g + 1 by omega), farO_step hnx hx hb]
  · rw [hD g hg e]
    by_cases h : g < x
    · rw [if_pos h, if_pos (by omega)]
    · rw [if_neg h, if_neg (by omega)]
end LEAD
theorem anyB_t {p : Nat → Bool} {k : Nat} (h : p k = true) : anyB p (k + 1) = true := by unfold anyB; rw [h, Bool.or_true]
theorem anyB_f {p : Nat → Bool} {k : Nat} (h : p k = false) : anyB p (k + 1) = anyB p k := by rw [anyB, h, Bool.or_false]
theorem far_is {x : Option Nat} (h : ¬ oI x = -1) : ∃ d, x = some d := by
  cases x with
  | none => exact absurd rfl h
  | some d => exact ⟨d, rfl⟩
theorem thr_some {x : Option Nat} (h : ¬ oI x = -1) : x.isSome = true := by
  obtain ⟨d, rfl⟩ := far_is h
  rfl
section THR
variable {A : Gr} {n hp g y d b : Nat}
theorem thr_skip (h : (decide (y ≠ g) && A g y) = false) : thrO A n hp g y = thrO A n hp g (y + 1) := by rw [thrO, h]; rfl
theorem thr_none (h : farO A n hp g 10 y = none) : thrO A n hp g y = thrO A n hp g (y + 1) := by
  rw [thrO, h]
  split
  · cases thrO A n hp g y <;> rfl
  · rfl
theorem thr_new (h1 : y ≠ g) (h2 : A g y = true) (h3 : farO A n hp g 10 y = some d) (h4 : thrO A n hp g y = none) : thrO A n hp g (y + 1) = some (d + 1) := by rw [thrO, h3, h4]; simp [h1, h2, minO]
theorem thr_less (h1 : y ≠ g) (h2 : A g y = true) (h3 : farO A n hp g 10 y = some d) (h4 : thrO A n hp g y = some b) (h5 : d + 1 < b) : thrO A n hp g (y + 1) = some (d + 1) := by rw [thrO, h3, h4]; simp [h1, h2, minO, h5]
theorem thr_keep (h1 : y ≠ g) (h2 : A g y = true) (h3 : farO A n hp g 10 y = some d) (h4 : thrO A n hp g y = some b) (h5 : b ≤ d + 1) : thrO A n hp g y = thrO A n hp g (y + 1) := by rw [thrO, h3, h4]; simp [h1, h2, minO]; omega
end THR
section RG
variable {A : Gr} {n g b f d : Nat}
theorem rg_none (h : thrO A n (2 ^ n - 1) g n = none) : rgF A n g = rgF A n (g + 1) := by rw [rgF, h]
theorem rg_keep (h : thrO A n (2 ^ n - 1) g n = some d) (e : rgF A n g = some (b, f)) (hd : b ≤ d) : rgF A n g = rgF A n (g + 1) := by rw [rgF, h, e]; simp; omega
theorem rg_new (h : thrO A n (2 ^ n - 1) g n = some d) (e : rgF A n g = none) : rgF A n (g + 1) = some (d, g) := by rw [rgF, h, e]
theorem rg_less (h : thrO A n (2 ^ n - 1) g n = some d) (e : rgF A n g = some (b, f)) (hd : d < b) : rgF A n (g + 1) = some (d, g) := by rw [rgF, h, e]; simp [hd]
theorem rg_b : ∀ x, (rgF A n g).map Prod.fst = some x → x < 2 ^ 31 := fun x h => by
  cases e : rgF A n g with
  | none => rw [e] at h; cases h
  | some q =>
    obtain ⟨b, f⟩ := q
    rw [e] at h
    cases h
    have := thrO_le _ _ _ _ _ _ (rgF_thr _ _ _ e).2
    show b < 2 ^ 31
    omega
theorem rg_is (h : ¬ oI ((rgF A n g).map Prod.fst) = -1) : ∃ b f, rgF A n g = some (b, f) := by
  cases e : rgF A n g with
  | none => rw [e] at h; exact absurd rfl h
  | some q => obtain ⟨b, f⟩ := q; exact ⟨b, f, rfl⟩
theorem rg_not (h : oI ((rgF A n g).map Prod.fst) = -1) : rgF A n g = none := by
  have := (oI_none rg_b).mp h
  cases e : rgF A n g with
  | none => rfl
  | some q => rw [e] at this; cases this
end RG
theorem pow2_le {n : Nat} (h : n ≤ 10) : 2 ^ n ≤ 1024 := Nat.pow_le_pow_right (by omega) h
theorem ring_min {p : Nat → Bool} {y : Nat} (h : ∀ u, u < y → p u = false) (hy : p y = false) : ∀ u, u < y + 1 → p u = false := by
  intro u hu
  rcases Nat.lt_succ_iff_lt_or_eq.mp hu with q | q
  · exact h u q
  · rw [q]; exact hy
theorem ring_z {p : Nat → Bool} {y z : Nat} (h : y ≤ z) (hz : p z = true) (hy : p y = false) : y + 1 ≤ z := by
  rcases Nat.lt_or_eq_of_le h with q | q
  · exact q
  · rw [q, hz] at hy; cases hy
