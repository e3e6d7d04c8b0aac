/-! rounds: heaps as bits, steps, the table -/
set_option maxRecDepth 100000
/-- those below x that are the least of their heap -/
def rtP (S : Ab) (f : Nat → Nat) (x : Nat) : List Nat := (List.range x).filter (fun g => aCm S g && decide (f g = g))
theorem rtP_t {S : Ab} {f : Nat → Nat} {x : Nat} (h1 : aCm S x = true) (h2 : f x = x) : rtP S f (x + 1) = rtP S f x ++ [x] := by simp [rtP, List.range_succ, h1, h2]
theorem rtP_f {S : Ab} {f : Nat → Nat} {x : Nat} (h : (aCm S x && decide (f x = x)) = false) : rtP S f (x + 1) = rtP S f x := by
  unfold rtP
  rw [List.range_succ, List.filter_append, List.filter_cons, h]
  simp
theorem rtP_len (S : Ab) (f : Nat → Nat) (x : Nat) : (rtP S f x).length ≤ x := by
  have := List.length_filter_le (fun g => aCm S g && decide (f g = g)) (List.range x)
  rw [List.length_range] at this
  exact this
theorem rtP_mem {S : Ab} {f : Nat → Nat} {x g : Nat} : g ∈ rtP S f x ↔ g < x ∧ aCm S g = true ∧ f g = g := by simp [rtP]
theorem rtP_nodup (S : Ab) (f : Nat → Nat) (x : Nat) : (rtP S f x).Nodup := List.Nodup.sublist List.filter_sublist List.nodup_range
/-- the heap of g among the first x -/
def gpB (S : Ab) (f : Nat → Nat) (g : Nat) : Nat → Nat
  | 0 => 0
  | x + 1 => gpB S f g x ||| (if aCm S x && decide (f x = g) then 2 ^ x else 0)
theorem gpB_lt (S : Ab) (f : Nat → Nat) (g : Nat) : ∀ k, gpB S f g k < 2 ^ k := by
  intro k
  induction k with
  | zero => exact Nat.one_pos
  | succ k ih =>
    unfold gpB
    refine Nat.or_lt_two_pow (Nat.lt_of_lt_of_le ih (Nat.pow_le_pow_right (by omega) (by omega))) ?_
    split
    · exact Nat.pow_lt_pow_right (by omega) (by omega)
    · exact Nat.two_pow_pos _
theorem gpB_bit (S : Ab) (f : Nat → Nat) (g : Nat) : ∀ k x, (gpB S f g k).testBit x = (decide (x < k) && (aCm S x && decide (f x = g))) := by
  intro k
  induction k with
  | zero => intro x; simp [gpB]
  | succ k ih =>
    intro x
    unfold gpB
    rw [Nat.testBit_or, ih x]
    by_cases e : x = k
    · subst e
      cases h : (aCm S x && decide (f x = g)) <;> simp [h]
    · have : (if (aCm S k && decide (f k = g)) = true then 2 ^ k else 0).testBit x = false := by
        split
        · rw [Nat.testBit_two_pow]; simp; omega
        · simp
      rw [this, Bool.or_false]
      congr 1
      apply decide_eq_decide.mpr
      omega
/-- the guests of some heaps -/
def boB (gb : Nat → Nat) (s : Nat) : Nat → Nat
  | 0 => 0
  | k + 1 => boB gb s k ||| (if s.testBit k then gb k else 0)
theorem boB_lt {gb : Nat → Nat} {s n : Nat} : ∀ k, (∀ i, i < k → gb i < 2 ^ n) → boB gb s k < 2 ^ n := by
  intro k
  induction k with
  | zero => intro _; exact Nat.two_pow_pos _
  | succ k ih =>
    intro h
    unfold boB
    refine Nat.or_lt_two_pow (ih fun i hi => h i (by omega)) ?_
    split
    · exact h k (by omega)
    · exact Nat.two_pow_pos _
theorem boB_bit {gb : Nat → Nat} {s u : Nat} : ∀ k, (boB gb s k).testBit u = true ↔ ∃ i, i < k ∧ s.testBit i = true ∧ (gb i).testBit u = true := by
  intro k
  induction k with
  | zero => simp [boB]
  | succ k ih =>
    unfold boB
    rw [Nat.testBit_or, Bool.or_eq_true, ih]
    constructor
    · rintro (⟨i, h1, h2⟩ | h)
      · exact ⟨i, by omega, h2⟩
      · cases hs : s.testBit k
        · rw [hs] at h; simp at h
        · rw [hs, if_pos rfl] at h; exact ⟨k, by omega, hs, h⟩
    · rintro ⟨i, h1, h2, h3⟩
      by_cases e : i = k
      · subst e; right; rw [h2, if_pos rfl]; exact h3
      · exact Or.inl ⟨i, by omega, h2, h3⟩
theorem idx_of {L : List Nat} (hn : L.Nodup) {i : Nat} (hi : i < L.length) : L.idxOf (L.getD i 0) = i := by
  have hx := idx_at (getD_mem hi)
  have hp := List.pairwise_iff_getElem.mp hn
  have e : L[L.idxOf (L.getD i 0)]'hx.1 = L[i]'hi := by
    have := hx.2
    have a1 : ∀ {j : Nat} (hj : j < L.length), L.getD j 0 = L[j]'hj := fun hj => by simp [hj]
    rw [a1 hx.1] at this
    exact this.trans (a1 hi)
  rcases Nat.lt_trichotomy (L.idxOf (L.getD i 0)) i with q | q | q
  · exact absurd e (hp _ _ hx.1 hi q)
  · exact q
  · exact absurd e.symm (hp _ _ hi hx.1 q)
/-- the guests of the heaps s -/
def gmB (S : Ab) (f : Nat → Nat) (s : Nat) : Nat := boB (fun i => gpB S f ((rtP S f (aN S)).getD i 0) (aN S)) s (rtP S f (aN S)).length
theorem gm_lt (S : Ab) (f : Nat → Nat) (s : Nat) : gmB S f s < 2 ^ aN S := boB_lt _ fun i _ => gpB_lt _ _ _ _
theorem gm_bit {S : Ab} {f : Nat → Nat} {E : Gr} (hf : tgF E (aN S) f) (hE : ∀ x y, E x y = true → aCm S x = true ∧ aCm S y = true) {s u : Nat} : (gmB S f s).testBit u = true ↔ u < aN S ∧ aCm S u = true ∧ f u ∈ rtP S f (aN S) ∧ s.testBit ((rtP S f (aN S)).idxOf (f u)) = true := by
  unfold gmB
  rw [boB_bit]
  constructor
  · rintro ⟨i, h1, h2, h3⟩
    rw [gpB_bit] at h3
    simp only [Bool.and_eq_true, decide_eq_true_eq] at h3
    have hm : f u ∈ rtP S f (aN S) := by rw [h3.2.2]; exact getD_mem h1
    refine ⟨h3.1, h3.2.1, hm, ?_⟩
    have : (rtP S f (aN S)).idxOf (f u) = i := by rw [h3.2.2]; exact idx_of (rtP_nodup S f (aN S)) h1
    rw [this]; exact h2
  · rintro ⟨h1, h2, h3, h4⟩
    have hx := idx_at h3
    refine ⟨_, hx.1, h4, ?_⟩
    rw [gpB_bit, hx.2]
    simp [h1, h2]
/-- reached in k steps -/
def rch (st : Nat → Nat → Prop) : Nat → Nat → Prop
  | 0, d => d = 0
  | k + 1, d => ∃ a, rch st k a ∧ st a d
noncomputable def dst (st : Nat → Nat → Prop) (d : Nat) : Option Nat := @dite _ (∃ k, rch st k d ∧ ∀ j, rch st j d → k ≤ j) (Classical.propDecidable _) (fun h => some (Classical.choose h)) (fun _ => none)
theorem dst_some {st : Nat → Nat → Prop} {d k : Nat} (h1 : rch st k d) (h2 : ∀ j, rch st j d → k ≤ j) : dst st d = some k := by
  have h : ∃ k, rch st k d ∧ ∀ j, rch st j d → k ≤ j := ⟨k, h1, h2⟩
  unfold dst
  rw [dif_pos h]
  have := Classical.choose_spec h
  exact congrArg some (Nat.le_antisymm (this.2 _ h1) (h2 _ this.1))
theorem dst_none {st : Nat → Nat → Prop} {d : Nat} (h : ∀ k, ¬ rch st k d) : dst st d = none := by
  unfold dst
  rw [dif_neg (fun ⟨k, hk, _⟩ => h k hk)]
/-- the table: what stands in it is reached; all steps from below h, and those from h to P, are done -/
def tbI (st : Nat → Nat → Prop) (T : Nat → Option Nat) (h : Nat) (P : Nat → Prop) : Prop := T 0 = some 0 ∧ (∀ d k, T d = some k → rch st k d) ∧ ∀ a d k, (a < h ∨ a = h ∧ P d) → T a = some k → st a d → ∃ j, T d = some j ∧ j ≤ k + 1
theorem tb_0 {st : Nat → Nat → Prop} {T : Nat → Option Nat} (h0 : T 0 = some 0) (h1 : ∀ d, d ≠ 0 → T d = none) : tbI st T 0 (fun _ => False) := by
  refine ⟨h0, fun d k hd => ?_, fun a d k hk => ?_⟩
  · by_cases e : d = 0
    · subst e; rw [h0] at hd; cases hd; rfl
    · rw [h1 d e] at hd; cases hd
  · rcases hk with q | ⟨_, q⟩
    · exact absurd q (Nat.not_lt_zero _)
    · exact absurd q id
theorem tb_more {st : Nat → Nat → Prop} {T : Nat → Option Nat} {h : Nat} {P Q : Nat → Prop} (H : tbI st T h P) (hq : ∀ d, Q d → st h d → P d) : tbI st T h Q :=
  ⟨H.1, H.2.1, fun a d k hk ha hs => by
    rcases hk with q | ⟨rfl, q⟩
    · exact H.2.2 a d k (Or.inl q) ha hs
    · exact H.2.2 a d k (Or.inr ⟨rfl, hq d q hs⟩) ha hs⟩
theorem tb_skip {st : Nat → Nat → Prop} {T : Nat → Option Nat} {h : Nat} {P : Nat → Prop} (H : tbI st T h P) (hn : T h = none) : tbI st T (h + 1) (fun _ => False) :=
  ⟨H.1, H.2.1, fun a d k hk ha hs => by
    rcases hk with q | ⟨_, q⟩
    · by_cases e : a = h
      · subst e; rw [hn] at ha; cases ha
      · exact H.2.2 a d k (Or.inl (by omega)) ha hs
    · exact absurd q id⟩
theorem tb_next {st : Nat → Nat → Prop} {T : Nat → Option Nat} {h : Nat} {P : Nat → Prop} (H : tbI st T h P) (hp : ∀ d, st h d → P d) : tbI st T (h + 1) (fun _ => False) :=
  ⟨H.1, H.2.1, fun a d k hk ha hs => by
    rcases hk with q | ⟨_, q⟩
    · by_cases e : a = h
      · subst e; exact H.2.2 a d k (Or.inr ⟨rfl, hp d hs⟩) ha hs
      · exact H.2.2 a d k (Or.inl (by omega)) ha hs
    · exact absurd q id⟩
/-- no less was found -/
theorem tb_keep {st : Nat → Nat → Prop} {T : Nat → Option Nat} {h d0 k0 j0 : Nat} {P : Nat → Prop} (H : tbI st T h P) (hT : T h = some k0) (hd : T d0 = some j0) (hj : j0 ≤ k0 + 1) : tbI st T h (fun d => P d ∨ d = d0) :=
  ⟨H.1, H.2.1, fun a d k hk ha hs => by
    rcases hk with q | ⟨rfl, q | rfl⟩
    · exact H.2.2 a d k (Or.inl q) ha hs
    · exact H.2.2 a d k (Or.inr ⟨rfl, q⟩) ha hs
    · rw [hT] at ha; cases ha; exact ⟨_, hd, hj⟩⟩
theorem tb_put {st : Nat → Nat → Prop} {T : Nat → Option Nat} {h d0 k0 : Nat} {P : Nat → Prop} (H : tbI st T h P) (hT : T h = some k0) (hs0 : st h d0) (h0 : h < d0) (hj : ∀ j, T d0 = some j → k0 + 1 < j) : tbI st (va_up T d0 (some (k0 + 1))) h (fun d => P d ∨ d = d0) := by
  refine ⟨by rw [va_up_ne _ _ (by omega)]; exact H.1, fun d k hd => ?_, fun a d k hk ha hs => ?_⟩
  · by_cases e : d = d0
    · subst e
      rw [va_up_self] at hd
      cases hd
      exact ⟨h, H.2.1 h k0 hT, hs0⟩
    · rw [va_up_ne _ _ e] at hd
      exact H.2.1 d k hd
  · have hle : a ≤ h := by rcases hk with q | ⟨q, _⟩ <;> omega
    rw [va_up_ne _ _ (by omega)] at ha
    by_cases e : d = d0
    · subst e
      refine ⟨k0 + 1, va_up_self _ _ _, ?_⟩
      rcases hk with q | ⟨rfl, q⟩
      · obtain ⟨j, h1, h2⟩ := H.2.2 a d k (Or.inl q) ha hs
        have := hj j h1
        omega
      · rw [hT] at ha; cases ha; exact Nat.le_refl _
    · rw [va_up_ne _ _ e]
      refine H.2.2 a d k ?_ ha hs
      rcases hk with q | ⟨rfl, q | q⟩
      · exact Or.inl q
      · exact Or.inr ⟨rfl, q⟩
      · exact absurd q e
theorem tb_end {st : Nat → Nat → Prop} {T : Nat → Option Nat} {h : Nat} (H : tbI st T h (fun _ => False)) (hb : ∀ a d, st a d → a < h) (d : Nat) : dst st d = T d := by
  have key : ∀ k d, rch st k d → ∃ j, T d = some j ∧ j ≤ k := by
    intro k
    induction k with
    | zero => intro d hd; rw [show d = 0 from hd]; exact ⟨0, H.1, Nat.le_refl _⟩
    | succ k ih =>
      rintro d ⟨a, h1, h2⟩
      obtain ⟨j, h3, h4⟩ := ih a h1
      obtain ⟨i, h5, h6⟩ := H.2.2 a d j (Or.inl (hb a d h2)) h3 h2
      exact ⟨i, h5, by omega⟩
  cases hT : T d with
  | none => exact dst_none fun k hk => by obtain ⟨j, h1, _⟩ := key k d hk; rw [hT] at h1; cases h1
  | some j => exact dst_some (H.2.1 d j hT) fun k hk => by obtain ⟨i, h1, h2⟩ := key k d hk; rw [hT] at h1; cases h1; exact h2
/-- the next lower set within r -/
theorem sub_next : ∀ (s r t : Nat), s &&& r = s → t &&& r = t → t < s → t ≤ (s - 1) &&& r := by
  intro s
  induction s using Nat.strongRecOn with
  | ind s ih =>
    intro r t hs ht hl
    have e1 : ∀ a b : Nat, (a &&& b) / 2 = a / 2 &&& b / 2 := fun a b => by
      have := Nat.and_div_two_pow (a := a) (b := b) (n := 1)
      simpa using this
    have e2 : ∀ a b : Nat, (a &&& b) % 2 = (a % 2) * (b % 2) := fun a b => by
      have := Nat.and_mod_two_pow (a := a) (b := b) (n := 1)
      rw [Nat.pow_one] at this
      rw [this]
      rcases Nat.mod_two_eq_zero_or_one a with x | x <;> rcases Nat.mod_two_eq_zero_or_one b with y | y <;> rw [x, y] <;> rfl
    have s1 : s / 2 &&& r / 2 = s / 2 := by rw [← e1, hs]
    have t1 : t / 2 &&& r / 2 = t / 2 := by rw [← e1, ht]
    have s2 := e2 s r
    have t2 := e2 t r
    rw [hs] at s2
    rw [ht] at t2
    have g1 := e1 (s - 1) r
    have g2 := e2 (s - 1) r
    rcases Nat.mod_two_eq_zero_or_one s with b | b
    · have hh := ih (s / 2) (by omega) (r / 2) (t / 2) s1 t1 (by omega)
      rw [show (s - 1) / 2 = s / 2 - 1 by omega] at g1
      rw [← g1] at hh
      rw [show (s - 1) % 2 = 1 by omega, Nat.one_mul] at g2
      have : t % 2 ≤ r % 2 := by
        rcases Nat.mod_two_eq_zero_or_one t with q | q
        · omega
        · rw [q, Nat.one_mul] at t2; omega
      omega
    · rw [show (s - 1) / 2 = s / 2 by omega, s1] at g1
      omega
