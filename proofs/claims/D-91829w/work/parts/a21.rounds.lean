/-! rounds in the component: who goes together -/
set_option maxRecDepth 100000
def evF (S : Ab) (room : Int32) (i : Nat) : Gr := fun x y => anyB (fun r => decide (aKd S r = 1) && cntF S r room x y) i
theorem evF_all (S : Ab) (room : Int32) : evF S room (aRl S) = evn S room := rfl
def evD (S : Ab) (room : Int32) (i k : Nat) : Gr := fun x y => evF S room i x y || (cpF S i k x y || cpF S i k y x)
/-- within a turn: D the couples that are done -/
def relJ (E : Gr) (n k : Nat) (D : Gr) (f : Nat → Nat) : Prop := (∀ u, f u ≤ u ∧ ∃ j, pthB E n j u (f u) = true) ∧ (∀ u v, u < n → pthB E n k u v = true → f u ≤ v) ∧ ∀ u z v, D u z = true → z < n → pthB E n k z v = true → f u ≤ v
section RELJ
variable {E D D' : Gr} {n k x y : Nat} {f : Nat → Nat}
theorem rj_0 : relJ E n 0 (fun _ _ => false) (fun u => u) := ⟨fun u => ⟨Nat.le_refl _, 0, pth_rf _ _ _ _⟩, (fun u v _ h => by rw [pthB] at h; exact Nat.le_of_eq (of_decide_eq_true h)), (fun _ _ _ h => by cases h)⟩
theorem rj_c (h : relJ E n k D f) (e : ∀ u z, D' u z = true → D u z = true) : relJ E n k D' f := ⟨h.1, h.2.1, fun u z v hD => h.2.2 u z v (e u z hD)⟩
theorem rj_put (h : relJ E n k D f) (hE : E x y = true) (hE2 : E y x = true) (hx : x < n) (hy : y < n) (e : ∀ u z, D' u z = true → D u z = true ∨ (u = x ∧ z = y) ∨ (u = y ∧ z = x)) : relJ E n k D' (va_up (va_up f x (min (f x) (f y))) y (min (f x) (f y))) := by
  obtain ⟨h1, h2, h3⟩ := h
  have le : ∀ u, va_up (va_up f x (min (f x) (f y))) y (min (f x) (f y)) u ≤ f u := by
    intro u
    unfold va_up
    split
    · rename_i c; rw [c]; omega
    · split
      · rename_i c; rw [c]; omega
      · exact Nat.le_refl _
  have lx : va_up (va_up f x (min (f x) (f y))) y (min (f x) (f y)) x ≤ f y := by
    unfold va_up
    split
    · omega
    · rw [if_pos rfl]; omega
  have ly : va_up (va_up f x (min (f x) (f y))) y (min (f x) (f y)) y ≤ f x := by
    unfold va_up
    rw [if_pos rfl]; omega
  refine ⟨fun u => ⟨Nat.le_trans (le u) (h1 u).1, ?_⟩, fun u v hu hp => Nat.le_trans (le u) (h2 u v hu hp), fun u z v hD hz hp => ?_⟩
  · have step : ∀ a b, a < n → b < n → E a b = true → ∃ j, pthB E n j a (f b) = true := by
      intro a b _ hb hab
      obtain ⟨j, hj⟩ := (h1 b).2
      refine ⟨j + 1, ?_⟩
      rw [pthB, Bool.or_eq_true]
      exact Or.inr ((anyB_iff _ _).mpr ⟨b, hb, by rw [hab, hj]; rfl⟩)
    have hm : min (f x) (f y) = f x ∨ min (f x) (f y) = f y := by omega
    unfold va_up
    split
    · rename_i c
      rw [c]
      rcases hm with q | q
      · rw [q]; exact step y x hy hx hE2
      · rw [q]; exact (h1 y).2
    · split
      · rename_i c
        rw [c]
        rcases hm with q | q
        · rw [q]; exact (h1 x).2
        · rw [q]; exact step x y hx hy hE
      · exact (h1 u).2
  · rcases e u z hD with q | ⟨q1, q2⟩ | ⟨q1, q2⟩
    · exact Nat.le_trans (le u) (h3 u z v q hz hp)
    · rw [q1]; rw [q2] at hp; exact Nat.le_trans lx (h2 y v hy hp)
    · rw [q1]; rw [q2] at hp; exact Nat.le_trans ly (h2 x v hx hp)
theorem rj_turn (h : relJ E n k E f) : relJ E n (k + 1) (fun _ _ => false) f := by
  refine ⟨h.1, fun u v hu hp => ?_, (fun _ _ _ h => by cases h)⟩
  rw [pthB, Bool.or_eq_true] at hp
  rcases hp with q | q
  · rw [← of_decide_eq_true q]; exact (h.1 u).1
  · obtain ⟨z, hz, q⟩ := (anyB_iff _ _).mp q
    rw [Bool.and_eq_true] at q
    exact h.2.2 u z v q.1 hz q.2
theorem rj_end (hn : n ≤ 10) (hs : ∀ x y, E x y = true → E y x = true) (h : relJ E n 10 (fun _ _ => false) f) : tgF E n f := rel_end hn hs ⟨h.1, h.2.1, fun _ _ h => absurd h (Nat.not_lt_zero _), fun _ _ h => absurd h (Nat.not_lt_zero _)⟩
end RELJ
section EVEN
variable {S : Ab} {room : Int32} {i k : Nat}
theorem cntF_E (hk : aKd S i = 1) (x y : Nat) : cntF S i room x y = (cnt S i room && ((cplL S i x y || cplL S i y x) && (aCm S x && aCm S y))) := by
  have h1 : ∀ a b, cpl S i a b = true → a ≠ b := fun a b => cpl_ne
  unfold cntF hasC cplL
  rw [hk]
  by_cases c : x < y
  · have c2 : ¬ y < x := by omega
    cases cnt S i room <;> cases aCm S x <;> cases aCm S y <;> simp [c, c2]
  · by_cases c2 : y < x
    · cases cnt S i room <;> cases aCm S x <;> cases aCm S y <;> simp [c, c2, Bool.or_comm]
    · have e : x = y := by omega
      subst e
      have : cpl S i x x = false := by
        cases q : cpl S i x x with
        | false => rfl
        | true => exact absurd rfl (h1 x x q)
      simp [this]
theorem ev_edge (hO : SOK S) (h2 : SO2 S) (hi : i < aRl S) (hk : aKd S i = 1) (hc : cnt S i room = true) {u : Nat} (hu : u < cN S i) (hm : (aCm S (cX S i u) && aCm S (cY S i u)) = true) : evn S room (cX S i u) (cY S i u) = true := by
  unfold evn
  rw [anyB_iff]
  refine ⟨i, hi, ?_⟩
  rw [cntF_E hk, hc, hm, (cXY hO h2 hi hu).2.2.1, hk]
  rfl
theorem ev_in : ∀ u z, evD S room i 0 u z = true → evF S room i u z = true := fun u z h => by
  unfold evD cpF anyB at h
  simpa using h
theorem cpF_s {x y : Nat} : cpF S i (k + 1) x y = true → cpF S i k x y = true ∨ (cX S i k = x ∧ cY S i k = y ∧ (aCm S x && aCm S y) = true) := by
  intro h
  unfold cpF at h ⊢
  rw [anyB, Bool.or_eq_true] at h
  rcases h with h | h
  · exact Or.inl h
  · simp only [Bool.and_eq_true, decide_eq_true_eq] at h
    exact Or.inr ⟨h.1.1, h.1.2, by rw [h.2.1, h.2.2]; rfl⟩
theorem ev_put : ∀ u z, evD S room i (k + 1) u z = true → evD S room i k u z = true ∨ (u = cX S i k ∧ z = cY S i k) ∨ (u = cY S i k ∧ z = cX S i k) := fun u z h => by
  unfold evD at h ⊢
  rw [Bool.or_eq_true, Bool.or_eq_true] at h
  rcases h with h | h | h
  · exact Or.inl (by rw [h]; rfl)
  · rcases cpF_s h with q | q
    · exact Or.inl (by rw [q]; simp)
    · exact Or.inr (Or.inl ⟨q.1.symm, q.2.1.symm⟩)
  · rcases cpF_s h with q | q
    · exact Or.inl (by rw [q]; simp)
    · exact Or.inr (Or.inr ⟨q.2.1.symm, q.1.symm⟩)
theorem evc_not (hm : (aCm S (cX S i k) && aCm S (cY S i k)) = false) : ∀ u z, evD S room i (k + 1) u z = true → evD S room i k u z = true := fun u z h => by
  unfold evD at h ⊢
  rw [Bool.or_eq_true, Bool.or_eq_true] at h
  rcases h with h | h | h
  · rw [h]; rfl
  · rcases cpF_s h with q | q
    · rw [q]; simp
    · rw [← q.1, ← q.2.1, hm] at q; cases q.2.2
  · rcases cpF_s h with q | q
    · rw [q]; simp
    · rw [← q.1, ← q.2.1, hm] at q; cases q.2.2
theorem evc_end (hO : SOK S) (h2 : SO2 S) (hi : i < aRl S) (hk : aKd S i = 1) : ∀ u z, evF S room (i + 1) u z = true → evD S room i (cN S i) u z = true := fun u z h => by
  unfold evF at h
  rw [anyB, Bool.or_eq_true] at h
  unfold evD
  rcases h with h | h
  · rw [show evF S room i u z = true from h]; rfl
  · rw [cpF_all hO h2 hi, cpF_all hO h2 hi]
    rw [cntF_E hk, Bool.and_eq_true, Bool.and_eq_true, Bool.and_eq_true, Bool.or_eq_true] at h
    rcases h.2.2.1 with q | q
    · rw [q, h.2.2.2]; simp
    · have := h.2.2.2
      rw [Bool.and_comm] at this
      rw [q, this]; simp
theorem ev_skip (hs : (decide (aKd S i = 1) && cnt S i room) = false) : ∀ u z, evF S room (i + 1) u z = true → evF S room i u z = true := fun u z h => by
  unfold evF at h ⊢
  rw [anyB, Bool.or_eq_true] at h
  rcases h with h | h
  · exact h
  · rw [Bool.and_eq_true] at h
    have h3 := h.2
    unfold cntF at h3
    simp only [Bool.and_eq_true] at h3
    rw [h.1, h3.1.1.1] at hs
    cases hs
theorem ev_none : ∀ u z, (fun _ _ => false : Gr) u z = evF S room 0 u z := fun _ _ => rfl
end EVEN
/-- 'heapOf' holds f -/
def hpZ (f : Nat → Nat) (Z : Nat → Nat → Int32) : Prop := ∀ u, u < 10 → Z 2 u = nI (f u)
theorem hpZ_put {f : Nat → Nat} {Z : Nat → Nat → Int32} {x y m : Nat} (h : hpZ f Z) : hpZ (va_up (va_up f x m) y m) (vset (vset Z 2 x (nI m)) 2 y (nI m)) := fun u hu => by
  rw [vset_in, vset_in]
  unfold va_up
  by_cases c : u = y
  · rw [if_pos c, if_pos c]
  · rw [if_neg c, if_neg c]
    by_cases c2 : u = x
    · rw [if_pos c2, if_pos c2]
    · rw [if_neg c2, if_neg c2]; exact h u hu
theorem hpZ_k {f : Nat → Nat} {Z Z' : Nat → Nat → Int32} {ks : List Nat} (h : hpZ f Z) (hk : kp ks Z Z') (h0 : 2 ∉ ks) : hpZ f Z' := fun x hx => by rw [hk 2 h0]; exact h x hx
/-! numbers that are put together -/
def orB (p : Nat → Nat) : Nat → Nat
  | 0 => 0
  | k + 1 => orB p k ||| p k
theorem orB_bit (p : Nat → Nat) : ∀ k x, (orB p k).testBit x = true ↔ ∃ i, i < k ∧ (p i).testBit x = true := by
  intro k
  induction k with
  | zero => intro x; simp [orB]
  | succ k ih =>
    intro x
    unfold orB
    rw [Nat.testBit_or, Bool.or_eq_true, ih]
    constructor
    · rintro (⟨i, h1, h2⟩ | h)
      · exact ⟨i, by omega, h2⟩
      · exact ⟨k, by omega, h⟩
    · rintro ⟨i, h1, h2⟩
      rcases Nat.lt_succ_iff_lt_or_eq.mp h1 with q | q
      · exact Or.inl ⟨i, q, h2⟩
      · rw [q] at h2; exact Or.inr h2
theorem orB_lt {p : Nat → Nat} {n : Nat} : ∀ k, (∀ i, i < k → p i < 2 ^ n) → orB p k < 2 ^ n := by
  intro k
  induction k with
  | zero => intro _; exact Nat.two_pow_pos n
  | succ k ih => intro h; exact Nat.or_lt_two_pow (ih fun i hi => h i (by omega)) (h k (by omega))
def alB (S : Ab) (k : Nat) : Nat := orB (fun i => 2 ^ cm S i) k
def heP (S : Ab) (f : Nat → Nat) (m k : Nat) : Nat := orB (fun i => if f (cm S i) = k then 2 ^ cm S i else 0) m
def abP (S : Ab) (A : Gr) (g i : Nat) : Nat := orB (fun i => if A (cm S i) g then 2 ^ cm S i else 0) i
def ahP (S : Ab) (A : Gr) (f : Nat → Nat) (m k : Nat) : Nat := orB (fun i => if f (cm S i) = k then abP S A (cm S i) (nC S) else 0) m
theorem cm_ex {S : Ab} {x : Nat} (h1 : x < aN S) (h2 : aCm S x = true) : ∃ i, i < nC S ∧ cm S i = x := by
  obtain ⟨a, b⟩ := idx_at (comP_mem.mpr ⟨h1, h2⟩)
  exact ⟨_, a, b⟩
section ORB
variable {S : Ab} {A : Gr} {f : Nat → Nat}
theorem p2_lt (hn : aN S ≤ 10) {i : Nat} (hi : i < nC S) : 2 ^ cm S i < 2 ^ 10 := Nat.pow_lt_pow_right (by decide) (by have := (cm_lt hi).1; omega)
theorem alB_lt (hn : aN S ≤ 10) {k : Nat} (hk : k ≤ nC S) : alB S k < 1024 := orB_lt (n := 10) k fun i hi => p2_lt hn (by omega)
theorem heP_lt (hn : aN S ≤ 10) {m k : Nat} (hm : m ≤ nC S) : heP S f m k < 1024 := orB_lt (n := 10) m fun i hi => by
  split
  · exact p2_lt hn (by omega)
  · decide
theorem abP_lt (hn : aN S ≤ 10) {g i : Nat} (hi : i ≤ nC S) : abP S A g i < 1024 := orB_lt (n := 10) i fun i hi => by
  split
  · exact p2_lt hn (by omega)
  · decide
theorem ahP_lt (hn : aN S ≤ 10) {m k : Nat} (hm : m ≤ nC S) : ahP S A f m k < 1024 := orB_lt (n := 10) m fun i hi => by
  split
  · exact abP_lt hn (Nat.le_refl _)
  · decide
theorem alB_com : alB S (nC S) = comB S (aN S) := by
  apply Nat.eq_of_testBit_eq
  intro x
  rw [comB_bit]
  apply Bool.eq_iff_iff.mpr
  unfold alB
  rw [orB_bit, Bool.and_eq_true, decide_eq_true_eq]
  constructor
  · rintro ⟨i, hi, e⟩
    rw [Nat.testBit_two_pow, decide_eq_true_eq] at e
    rw [← e]; exact cm_lt hi
  · rintro ⟨h1, h2⟩
    obtain ⟨i, hi, e⟩ := cm_ex h1 h2
    exact ⟨i, hi, by rw [e, Nat.testBit_two_pow]; simp⟩
theorem heP_bit {k x : Nat} : (heP S f (nC S) k).testBit x = true ↔ x < aN S ∧ aCm S x = true ∧ f x = k := by
  unfold heP
  rw [orB_bit]
  constructor
  · rintro ⟨i, hi, e⟩
    split at e
    · rename_i c
      rw [Nat.testBit_two_pow, decide_eq_true_eq] at e
      rw [← e]; exact ⟨(cm_lt hi).1, (cm_lt hi).2, c⟩
    · rw [Nat.zero_testBit] at e; cases e
  · rintro ⟨h1, h2, h3⟩
    obtain ⟨i, hi, e⟩ := cm_ex h1 h2
    exact ⟨i, hi, by rw [e, if_pos h3, Nat.testBit_two_pow]; simp⟩
theorem abP_bit {g x : Nat} : (abP S A g (nC S)).testBit x = true ↔ x < aN S ∧ aCm S x = true ∧ A x g = true := by
  unfold abP
  rw [orB_bit]
  constructor
  · rintro ⟨i, hi, e⟩
    split at e
    · rename_i c
      rw [Nat.testBit_two_pow, decide_eq_true_eq] at e
      rw [← e]; exact ⟨(cm_lt hi).1, (cm_lt hi).2, c⟩
    · rw [Nat.zero_testBit] at e; cases e
  · rintro ⟨h1, h2, h3⟩
    obtain ⟨i, hi, e⟩ := cm_ex h1 h2
    exact ⟨i, hi, by rw [e, if_pos h3, Nat.testBit_two_pow]; simp⟩
theorem ahP_bit {k x : Nat} : (ahP S A f (nC S) k).testBit x = true ↔ ∃ g, g < aN S ∧ aCm S g = true ∧ f g = k ∧ x < aN S ∧ aCm S x = true ∧ A x g = true := by
  unfold ahP
  rw [orB_bit]
  constructor
  · rintro ⟨i, hi, e⟩
    split at e
    · rename_i c
      exact ⟨cm S i, (cm_lt hi).1, (cm_lt hi).2, c, abP_bit.mp e⟩
    · rw [Nat.zero_testBit] at e; cases e
  · rintro ⟨g, h1, h2, h3, h4⟩
    obtain ⟨i, hi, e⟩ := cm_ex h1 h2
    exact ⟨i, hi, by rw [e, if_pos h3]; exact abP_bit.mpr h4⟩
/-- whole heaps, all above them in -/
def mgq (H G : Nat → Nat) (d s : Nat) : Bool := !(anyB (fun k => decide (H k &&& s ≠ 0) && !(decide (H k &&& s = H k) && decide (G k ^^^ (G k &&& d) = 0))) 10)
theorem mgq_f {H G : Nat → Nat} {d s k : Nat} (hk : k < 10) (h1 : ¬ H k &&& s = 0) (h2 : ¬ H k &&& s = H k ∨ ¬ G k ^^^ (G k &&& d) = 0) : mgq H G d s = false := by
  unfold mgq
  rw [show anyB _ _ = true from (anyB_iff _ _).mpr ⟨k, hk, ?_⟩]
  · rfl
  · rcases h2 with q | q <;> simp [h1, q]
theorem mgq_t {H G : Nat → Nat} {d s : Nat} (h : ∀ k, k < 10 → H k &&& s = 0 ∨ (H k &&& s = H k ∧ G k ^^^ (G k &&& d) = 0)) : mgq H G d s = true := by
  unfold mgq
  rw [Bool.not_eq_true']
  cases c : anyB (fun k => decide (H k &&& s ≠ 0) && !(decide (H k &&& s = H k) && decide (G k ^^^ (G k &&& d) = 0))) 10 with
  | false => rfl
  | true =>
    obtain ⟨k, hk, q⟩ := (anyB_iff _ _).mp c
    rcases h k hk with z | z
    · rw [z] at q; simp at q
    · rw [decide_eq_true z.1, decide_eq_true z.2] at q; simp at q
theorem mgq_iff {H G : Nat → Nat} {d s : Nat} : mgq H G d s = true ↔ ∀ k, k < 10 → H k &&& s = 0 ∨ (H k &&& s = H k ∧ G k ^^^ (G k &&& d) = 0) := by
  refine ⟨fun h k hk => ?_, mgq_t⟩
  by_cases c : H k &&& s = 0
  · exact Or.inl c
  · refine Or.inr ⟨?_, ?_⟩
    · apply Classical.byContradiction; intro q; rw [mgq_f hk c (Or.inl q)] at h; cases h
    · apply Classical.byContradiction; intro q; rw [mgq_f hk c (Or.inr q)] at h; cases h
/-- one step by guests' bits -/
theorem step_ok {E : Gr} {doors d s : Nat} (hn : aN S ≤ 10) (hf : tgF E (aN S) f) (hsy : ∀ x y, E x y = true → E y x = true) (hE : ∀ x y, E x y = true → aCm S x = true ∧ aCm S y = true) (hA : ∀ x y, A x y = true → x < aN S ∧ aCm S x = true) (hs : s &&& (comB S (aN S) ^^^ (comB S (aN S) &&& d)) = s) (h0 : s ≠ 0) : stp S A E doors d (d ||| s) ↔ popN s ≤ doors ∧ mgq (heP S f (nC S)) (ahP S A f (nC S)) d s = true := by
  have hsb : ∀ u, s.testBit u = true → u < aN S ∧ aCm S u = true ∧ d.testBit u = false := by
    intro u hu
    have := sub_bits.mp hs u hu
    rw [Nat.testBit_xor, Nat.testBit_and, comB_bit] at this
    by_cases c : u < aN S
    · cases e1 : aCm S u <;> cases e2 : d.testBit u <;> simp [c, e1, e2] at this ⊢
    · simp [c] at this
  have hfr : ∀ u, freeG A (aN S) u d = true ↔ ∀ x, A x u = true → d.testBit x = true := by
    intro u
    unfold freeG
    rw [Bool.not_eq_true']
    constructor
    · intro h x hx
      cases e : d.testBit x with
      | true => rfl
      | false =>
        have := (anyB_iff (fun x => A x u && !(d.testBit x)) (aN S)).mpr ⟨x, (hA x u hx).1, by rw [hx, e]; rfl⟩
        rw [h] at this; cases this
    · intro h
      cases c : anyB (fun x => A x u && !(d.testBit x)) (aN S) with
      | false => rfl
      | true =>
        obtain ⟨x, -, q⟩ := (anyB_iff _ _).mp c
        rw [Bool.and_eq_true] at q
        rw [h x q.1] at q; cases q.2
  constructor
  · rintro ⟨w, hw0, h1, h2, h3, h4⟩
    have ew : w = s := by
      apply Nat.eq_of_testBit_eq
      intro u
      have e := congrArg (fun z => z.testBit u) h4
      simp only [Nat.testBit_or] at e
      cases eu : d.testBit u with
      | false => rw [eu] at e; simpa using e.symm
      | true =>
        have a1 : w.testBit u = false := by
          cases q : w.testBit u with
          | false => rfl
          | true => have := (h1 u q).2.2.1; rw [eu] at this; cases this
        have a2 : s.testBit u = false := by
          cases q : s.testBit u with
          | false => rfl
          | true => have := (hsb u q).2.2; rw [eu] at this; cases this
        rw [a1, a2]
    subst ew
    refine ⟨h3, mgq_t fun k hk => ?_⟩
    by_cases c : heP S f (nC S) k &&& w = 0
    · exact Or.inl c
    · obtain ⟨u, hu⟩ := ne_bit c
      rw [Nat.testBit_and, Bool.and_eq_true] at hu
      obtain ⟨u1, u2, u3⟩ := heP_bit.mp hu.1
      have all : ∀ v, (heP S f (nC S) k).testBit v = true → w.testBit v = true := by
        intro v hv
        obtain ⟨v1, v2, v3⟩ := heP_bit.mp hv
        obtain ⟨j1, p1⟩ := hf.con u
        obtain ⟨j2, p2⟩ := hf.con v
        have a1 := tg_cl (P := fun x => w.testBit x = true) h2 j1 u (f u) u1 p1 hu.2
        apply Classical.byContradiction
        intro q
        have a2 := tg_cl (E := E) (n := aN S) (P := fun x => ¬ w.testBit x = true) (fun x y hx hy hxy hnx hny => hnx (h2 y x hy hx (hsy _ _ hxy) hny)) j2 v (f v) v1 p2 q
        rw [v3, ← u3] at a2
        exact a2 a1
      refine Or.inr ⟨?_, and_sub.mpr fun x hx => ?_⟩
      · exact sub_bits.mpr all
      · obtain ⟨g, g1, g2, g3, x1, x2, x3⟩ := ahP_bit.mp hx
        exact (hfr g).mp (h1 g (all g (heP_bit.mpr ⟨g1, g2, g3⟩))).2.2.2 x x3
  · rintro ⟨h3, h4⟩
    rw [mgq_iff] at h4
    have hu : ∀ u, s.testBit u = true → (∀ v, v < aN S → aCm S v = true → f v = f u → s.testBit v = true) ∧ ∀ x, A x u = true → d.testBit x = true := by
      intro u hu
      obtain ⟨u1, u2, u3⟩ := hsb u hu
      have hin : (heP S f (nC S) (f u)).testBit u = true := heP_bit.mpr ⟨u1, u2, rfl⟩
      have hle := hf.le u
      rcases h4 (f u) (by omega) with q | ⟨q1, q2⟩
      · have := congrArg (fun z => z.testBit u) q
        simp only [Nat.testBit_and, hin, hu, Nat.zero_testBit] at this
        cases this
      · refine ⟨fun v v1 v2 v3 => sub_bits.mp q1 v (heP_bit.mpr ⟨v1, v2, v3⟩), fun x hx => and_sub.mp q2 x (ahP_bit.mpr ⟨u, u1, u2, rfl, (hA x u hx).1, (hA x u hx).2, hx⟩)⟩
    refine ⟨s, h0, fun u hu2 => ⟨(hsb u hu2).1, (hsb u hu2).2.1, (hsb u hu2).2.2, (hfr u).mpr (hu u hu2).2⟩, fun x y hx hy hxy hsx => (hu x hsx).1 y hy (hE x y hxy).2 (hf.eq x y hx hy hxy).symm, h3, rfl⟩
end ORB
theorem ev_out {S : Ab} {room : Int32} {i k : Nat} (hO : SOK S) (h2 : SO2 S) (hi : i < aRl S) (hk : k = cN S i ∨ (decide (aKd S i = 1) && cnt S i room) = false) (hev : k = 0 ∨ (decide (aKd S i = 1) && cnt S i room) = true) : ∀ u z, evF S room (i + 1) u z = true → evD S room i k u z = true := fun u z h => by
  cases c : (decide (aKd S i = 1) && cnt S i room) with
  | true =>
    rw [c] at hk
    have hk : k = cN S i := hk.resolve_right (by decide)
    rw [Bool.and_eq_true] at c
    rw [hk]
    exact evc_end hO h2 hi (of_decide_eq_true c.1) u z h
  | false =>
    unfold evD
    rw [ev_skip c u z h]
    rfl
theorem stp_sub {S : Ab} {A E : Gr} {doors : Nat} : ∀ k d, rch (stp S A E doors) k d → ∀ u, d.testBit u = true → (comB S (aN S)).testBit u = true := by
  intro k
  induction k with
  | zero => intro d h u hu; rw [show d = 0 from h, Nat.zero_testBit] at hu; cases hu
  | succ k ih =>
    rintro d ⟨a, h1, w, -, h2, -, -, h3⟩ u hu
    rw [h3, Nat.testBit_or, Bool.or_eq_true] at hu
    rcases hu with q | q
    · exact ih a h1 u q
    · rw [comB_bit, decide_eq_true (h2 u q).1, (h2 u q).2.1]; rfl
theorem rch_le2 {S : Ab} {A E : Gr} {doors : Nat} : ∀ k d, rch (stp S A E doors) k d → k ≤ d := rch_le (fun a d h => by
  obtain ⟨w, h0, h1, -, -, h3⟩ := h
  obtain ⟨u, hu⟩ := ne_bit h0
  rcases Nat.lt_or_ge a d with q | q
  · exact q
  · have hle : a ≤ d := by rw [h3]; exact Nat.left_le_or
    have e : d = a := by omega
    have := congrArg (fun z => z.testBit u) h3
    simp only [Nat.testBit_or] at this
    rw [e, (h1 u hu).2.2.1, hu] at this
    cases this)
/-- steps by all sets above s are done -/
def ppR (r h s d : Nat) : Prop := ∃ t, t &&& r = t ∧ s < t ∧ d = h ||| t
section PPR
variable {st : Nat → Nat → Prop} {T : Nat → Option Nat} {r h s : Nat}
theorem pr_0 (H : tbI st T h (fun _ => False)) : tbI st T h (ppR r h r) := tb_more H fun d ⟨t, h1, h2, _⟩ _ => absurd h2 (Nat.not_lt.mpr (sub_le h1))
theorem pr_next (hs : s &&& r = s) (H : tbI st T h (fun d => ppR r h s d ∨ d = h ||| s)) : tbI st T h (ppR r h ((s - 1) &&& r)) := tb_more H fun d ⟨t, h1, h2, h3⟩ _ => by
  rcases Nat.lt_trichotomy s t with q | q | q
  · exact Or.inl ⟨t, h1, q, h3⟩
  · exact Or.inr (by rw [h3, q])
  · exact absurd (sub_next s r t hs h1 q) (by omega)
theorem pr_no (hn : ¬ st h (h ||| s)) (H : tbI st T h (ppR r h s)) : tbI st T h (fun d => ppR r h s d ∨ d = h ||| s) := tb_more H fun d q hst => by
  rcases q with q | q
  · exact q
  · rw [q] at hst; exact absurd hst hn
end PPR
theorem pr_end {S : Ab} {A E : Gr} {doors h : Nat} {T : Nat → Option Nat} (H : tbI (stp S A E doors) T h (ppR (comB S (aN S) ^^^ (comB S (aN S) &&& h)) h 0)) : tbI (stp S A E doors) T (h + 1) (fun _ => False) := tb_next H fun d hst => by
  obtain ⟨w, h0, h1, -, -, h3⟩ := hst
  refine ⟨w, sub_bits.mpr fun u hu => ?_, by omega, h3⟩
  obtain ⟨a, b, c, -⟩ := h1 u hu
  rw [Nat.testBit_xor, Nat.testBit_and, comB_bit, decide_eq_true a, b, c]; rfl
/-- the table's numbers: a million where nobody came yet -/
def oF (x : Option Nat) : Int32 := match x with
  | none => nI 1000000
  | some k => nI k
theorem oF_is {x : Option Nat} (hb : ∀ k, x = some k → k < 1000000) (h : ¬ oF x = nI 1000000) : ∃ k, x = some k := by
  cases x with
  | none => exact absurd rfl h
  | some k => exact ⟨k, rfl⟩
theorem oF_no {x : Option Nat} (hb : ∀ k, x = some k → k < 1000000) (h : oF x = nI 1000000) : x = none := by
  cases x with
  | none => rfl
  | some k =>
    have := hb k rfl
    have := nI_inj (by omega) (by omega) (show nI k = nI 1000000 from h)
    omega
def oFn (x : Option Nat) : Nat := x.getD 1000000
theorem oF_n (x : Option Nat) : oF x = nI (oFn x) := by cases x <;> rfl
/-- the table 'least' holds T -/
def tbF (T : Nat → Option Nat) (all : Nat) (f : Nat → Int32) : Prop := ∀ d, d ≤ all → f d = oF (T d)
theorem tbF_put {T : Nat → Option Nat} {all d0 k0 : Nat} {f : Nat → Int32} (h : tbF T all f) (hj : ∀ j, T d0 = some j → k0 + 1 < j) (hk : k0 + 1 < 1000000) : tbF (va_up T d0 (some (k0 + 1))) all (upd f d0 (nI (min (oFn (T d0)) (k0 + 1)))) := fun d hd => by
  have hm : min (oFn (T d0)) (k0 + 1) = k0 + 1 := by
    unfold oFn
    cases e : T d0 with
    | none => show min 1000000 (k0 + 1) = _; omega
    | some j => have := hj j e; show min j (k0 + 1) = _; omega
  unfold upd va_up
  by_cases c : d = d0
  · rw [if_pos c, if_pos c, hm]; rfl
  · rw [if_neg c, if_neg c]; exact h d hd
theorem tbF_same {T : Nat → Option Nat} {all d0 k0 j0 : Nat} {f : Nat → Int32} (h : tbF T all f) (hd : T d0 = some j0) (hj : j0 ≤ k0 + 1) : tbF T all (upd f d0 (nI (min (oFn (T d0)) (k0 + 1)))) := fun d hd2 => by
  unfold upd
  by_cases c : d = d0
  · rw [if_pos c, c, hd]
    show nI (min j0 (k0 + 1)) = nI j0
    rw [Nat.min_eq_left hj]
  · rw [if_neg c]; exact h d hd2
theorem or_le_all {S : Ab} {d s : Nat} (hd : ∀ u, d.testBit u = true → (comB S (aN S)).testBit u = true) (hs : s &&& (comB S (aN S) ^^^ (comB S (aN S) &&& d)) = s) : d ||| s ≤ comB S (aN S) := sub_le (sub_bits.mpr fun u hu => by
  rw [Nat.testBit_or, Bool.or_eq_true] at hu
  rcases hu with q | q
  · exact hd u q
  · have := sub_bits.mp hs u q
    rw [Nat.testBit_xor, Nat.testBit_and] at this
    cases e : (comB S (aN S)).testBit u with
    | true => rfl
    | false => rw [e] at this; simp at this)
theorem lt_or {d s : Nat} {r : Nat} (hs : s &&& (r ^^^ (r &&& d)) = s) (h0 : s ≠ 0) : d < d ||| s := by
  rcases Nat.lt_or_ge d (d ||| s) with q | q
  · exact q
  · have e : d ||| s = d := Nat.le_antisymm q Nat.left_le_or
    obtain ⟨u, hu⟩ := ne_bit h0
    have h1 := sub_bits.mp hs u hu
    have h2 := congrArg (fun z => z.testBit u) e
    simp only [Nat.testBit_or] at h2
    rw [hu, Bool.or_true] at h2
    rw [Nat.testBit_xor, Nat.testBit_and, ← h2] at h1
    simp at h1
theorem ex_set {B hh : Hp} {a : Nat} {c : va_E} {t : Nat} (x : exH B hh) (hn : B a = none) : exH B (hset hh a c t) := fun b e u q => by
  rw [hset_ne _ _ _ (ne_new q hn)]
  exact x b e u q
theorem tb_endR {S : Ab} {A E : Gr} {doors : Nat} {T : Nat → Option Nat} (H : tbI (stp S A E doors) T (comB S (aN S)) (fun _ => False)) (d : Nat) : dst (stp S A E doors) d = T d := by
  have key : ∀ k d, rch (stp S A E doors) k d → ∃ j, T d = some j ∧ j ≤ k := by
    intro k
    induction k with
    | zero => intro d h; rw [show d = 0 from h]; exact ⟨0, H.1, Nat.le_refl _⟩
    | succ k ih =>
      rintro d ⟨a, h1, h2⟩
      obtain ⟨j, hj, hjk⟩ := ih a h1
      have hsub := stp_sub k a h1
      have hle : a ≤ comB S (aN S) := sub_le (sub_bits.mpr hsub)
      have hlt : a < comB S (aN S) := by
        rcases Nat.lt_or_ge a (comB S (aN S)) with q | q
        · exact q
        · have e : a = comB S (aN S) := Nat.le_antisymm hle q
          obtain ⟨w, w0, w1, -⟩ := h2
          obtain ⟨u, hu⟩ := ne_bit w0
          obtain ⟨u1, u2, u3, -⟩ := w1 u hu
          rw [e, comB_bit, decide_eq_true u1, u2] at u3
          cases u3
      obtain ⟨j2, h3, h4⟩ := H.2.2 a d j (Or.inl hlt) hj h2
      exact ⟨j2, h3, by omega⟩
  cases e : T d with
  | some k =>
    refine dst_some (H.2.1 d k e) (fun j hj => ?_)
    obtain ⟨j2, h1, h2⟩ := key j d hj
    rw [e] at h1
    cases h1
    exact h2
  | none =>
    refine dst_none (fun k hk => ?_)
    obtain ⟨j2, h1, -⟩ := key k d hk
    rw [e] at h1
    cases h1
section RND
variable {S : Ab} {A E : Gr} {f : Nat → Nat} {doors : Nat} {T : Nat → Option Nat} {h : Nat} {P : Nat → Prop}
theorem tb_lt (H : tbI (stp S A E doors) T h P) {d k : Nat} (e : T d = some k) : k ≤ d := rch_le2 k d (H.2.1 d k e)
theorem tb_sub (H : tbI (stp S A E doors) T h P) {d k : Nat} (e : T d = some k) : ∀ u, d.testBit u = true → (comB S (aN S)).testBit u = true := stp_sub k d (H.2.1 d k e)
theorem tb_out (H : tbI (stp S A E doors) T h P) {d : Nat} (hd : d ^^^ (d &&& comB S (aN S)) ≠ 0) : T d = none := by
  cases e : T d with
  | none => rfl
  | some k => exact absurd (and_sub.mpr (tb_sub H e)) hd
theorem oFn_no (H : tbI (stp S A E doors) T h P) {d : Nat} (hd : d < 1024) (e : oFn (T d) = 1000000) : T d = none := by
  cases c : T d with
  | none => rfl
  | some k =>
    have := tb_lt H c
    rw [c] at e
    have e : k = 1000000 := e
    omega
theorem oFn_is {d : Nat} (e : oFn (T d) ≠ 1000000) : ∃ k, T d = some k := by
  cases c : T d with
  | none => rw [c] at e; exact absurd rfl e
  | some k => exact ⟨k, rfl⟩
theorem oFn_le (H : tbI (stp S A E doors) T h P) {d : Nat} (hd : d < 1024) : oFn (T d) ≤ 1000000 := by
  cases c : T d with
  | none => exact Nat.le_refl _
  | some k => have := tb_lt H c; show k ≤ _; omega
theorem he_put {fh : Nat → Int32} {m : Nat} (h : ∀ k, k < 10 → fh k = nI (heP S f m k)) : ∀ k, k < 10 → upd fh (f (cm S m)) (nI (heP S f m (f (cm S m)) ||| 2 ^ cm S m)) k = nI (heP S f (m + 1) k) := fun k hk => by
  unfold upd
  show _ = nI (heP S f m k ||| (if f (cm S m) = k then 2 ^ cm S m else 0))
  by_cases c : k = f (cm S m)
  · rw [if_pos c, c, if_pos rfl]
  · rw [if_neg c, if_neg (fun q => c q.symm), Nat.or_zero]; exact h k hk
def ahI (S : Ab) (A : Gr) (f : Nat → Nat) (m i : Nat) (fa : Nat → Int32) : Prop := ∀ k, k < 10 → fa k = nI (ahP S A f m k ||| (if k = f (cm S m) then abP S A (cm S m) i else 0))
theorem ah_in {fa : Nat → Int32} {m : Nat} (h : ∀ k, k < 10 → fa k = nI (ahP S A f m k)) : ahI S A f m 0 fa := fun k hk => by
  rw [h k hk]
  show nI (ahP S A f m k) = nI (ahP S A f m k ||| (if k = f (cm S m) then 0 else 0))
  split <;> rw [Nat.or_zero]
theorem ah_at {fa : Nat → Int32} {m i : Nat} (h : ahI S A f m i fa) (hl : f (cm S m) < 10) : fa (f (cm S m)) = nI (ahP S A f m (f (cm S m)) ||| abP S A (cm S m) i) := by rw [h _ hl, if_pos rfl]
theorem ah_put {fa : Nat → Int32} {m i : Nat} (h : ahI S A f m i fa) {x : Nat} (hx : x = if A (cm S i) (cm S m) then 2 ^ cm S i else 0) : ahI S A f m (i + 1) (upd fa (f (cm S m)) (nI (ahP S A f m (f (cm S m)) ||| abP S A (cm S m) i ||| x))) := fun k hk => by
  unfold upd
  by_cases c : k = f (cm S m)
  · rw [if_pos c, if_pos c, c, Nat.or_assoc, hx]
    rfl
  · rw [if_neg c, if_neg c, h k hk, if_neg c]
theorem ah_end {fa : Nat → Int32} {m : Nat} (h : ahI S A f m (nC S) fa) : ∀ k, k < 10 → fa k = nI (ahP S A f (m + 1) k) := fun k hk => by
  rw [h k hk]
  show _ = nI (ahP S A f m k ||| (if f (cm S m) = k then abP S A (cm S m) (nC S) else 0))
  by_cases c : k = f (cm S m)
  · rw [if_pos c, if_pos c.symm]
  · rw [if_neg c, if_neg (fun q => c q.symm)]
theorem tb_one (H : tbI (stp S A E doors) T h (fun _ => False)) (f0 : True) : True := f0
end RND
theorem ex_none {B hh : Hp} {a : Nat} (x : exH B hh) (h : hh a = none) : B a = none := by
  cases e : B a with
  | none => rfl
  | some q =>
    obtain ⟨c, t⟩ := q
    rw [x a c t e] at h
    cases h
theorem and_idem (s r : Nat) : (s &&& r) &&& r = s &&& r := by rw [Nat.and_assoc, Nat.and_self]
def T00 : Nat → Option Nat := fun d => if d = 0 then some 0 else none
theorem T00_f {all : Nat} {f : Nat → Int32} (h0 : f 0 = 0) (h : ∀ u, 1 ≤ u → u < all + 1 → f u = nI 1000000) : tbF T00 all f := fun d hd => by
  unfold T00
  by_cases c : d = 0
  · rw [if_pos c, c, h0]; rfl
  · rw [if_neg c, h d (by omega) (by omega)]; rfl
