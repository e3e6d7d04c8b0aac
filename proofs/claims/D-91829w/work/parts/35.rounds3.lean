/-! rounds: steps of guests and steps of heaps -/
set_option maxRecDepth 100000
/-- these may go in behind d: all above them are in -/
def mgB (A : Gr) (n w d : Nat) : Bool := !(anyB (fun g => w.testBit g && !(freeG A n g d)) n)
/-- one step: some go in at once behind d -/
def stp (S : Ab) (A E : Gr) (doors d d2 : Nat) : Prop := ∃ w, w ≠ 0 ∧ (∀ u, w.testBit u = true → u < aN S ∧ aCm S u = true ∧ d.testBit u = false ∧ freeG A (aN S) u d = true) ∧ (∀ x y, x < aN S → y < aN S → E x y = true → w.testBit x = true → w.testBit y = true) ∧ popN w ≤ doors ∧ d2 = d ||| w
/-- those heaps that are not in h -/
def rsB (m h : Nat) : Nat := (2 ^ m - 1) ^^^ ((2 ^ m - 1) &&& h)
theorem rsB_bit {m h i : Nat} : (rsB m h).testBit i = (decide (i < m) && !(h.testBit i)) := by
  unfold rsB
  rw [Nat.testBit_xor, Nat.testBit_and, Nat.testBit_two_pow_sub_one]
  cases h.testBit i <;> by_cases q : i < m <;> simp [q]
theorem sub_bits {s r : Nat} : s &&& r = s ↔ ∀ i, s.testBit i = true → r.testBit i = true := by
  constructor
  · intro h i hi
    rw [← h, Nat.testBit_and, Bool.and_eq_true] at hi
    exact hi.2
  · intro h
    apply Nat.eq_of_testBit_eq
    intro i
    rw [Nat.testBit_and]
    cases q : s.testBit i
    · rfl
    · rw [h i q]; rfl
def stG (S : Ab) (A : Gr) (f : Nat → Nat) (m doors h h2 : Nat) : Prop := h < 2 ^ m ∧ ∃ s, s ≠ 0 ∧ s &&& rsB m h = s ∧ popN (gmB S f s) ≤ doors ∧ mgB A (aN S) (gmB S f s) (gmB S f h) = true ∧ h2 = h ||| s
theorem bit_lt {s m : Nat} (h : ∀ i, s.testBit i = true → i < m) : s < 2 ^ m := by
  apply Nat.lt_pow_two_of_testBit
  intro i hi
  cases q : s.testBit i
  · rfl
  · have := h i q; omega
theorem ne_bit {s : Nat} (h : s ≠ 0) : ∃ i, s.testBit i = true := by
  cases Classical.em (∃ i, s.testBit i = true) with
  | inl q => exact q
  | inr q =>
    exfalso
    apply h
    apply Nat.eq_of_testBit_eq
    intro i
    rw [Nat.zero_testBit]
    cases e : s.testBit i
    · rfl
    · exact absurd ⟨i, e⟩ q
theorem bit_ne {s i : Nat} (h : s.testBit i = true) : s ≠ 0 := fun e => by rw [e, Nat.zero_testBit] at h; cases h
theorem lt_bit {s m i : Nat} (h : s < 2 ^ m) (hi : s.testBit i = true) : i < m := by
  cases Nat.lt_or_ge i m with
  | inl q => exact q
  | inr q =>
    have : s < 2 ^ i := Nat.lt_of_lt_of_le h (Nat.pow_le_pow_right (by omega) q)
    rw [Nat.testBit_lt_two_pow this] at hi
    cases hi
/-- the number with these bits -/
def ofB (p : Nat → Bool) : Nat → Nat
  | 0 => 0
  | k + 1 => ofB p k ||| (if p k then 2 ^ k else 0)
theorem ofB_bit (p : Nat → Bool) : ∀ k x, (ofB p k).testBit x = (decide (x < k) && p x) := by
  intro k
  induction k with
  | zero => intro x; simp [ofB]
  | succ k ih =>
    intro x
    unfold ofB
    rw [Nat.testBit_or, ih x]
    by_cases e : x = k
    · subst e
      cases h : p x <;> simp
    · have : (if p k = true then 2 ^ k else 0).testBit x = false := by
        split
        · rw [Nat.testBit_two_pow]; simp; omega
        · simp
      rw [this, Bool.or_false]
      congr 1
      apply decide_eq_decide.mpr
      omega
theorem dst_congr {st st' : Nat → Nat → Prop} {d d' : Nat} (h : ∀ k, rch st k d ↔ rch st' k d') : dst st d = dst st' d' := by
  cases Classical.em (∃ k, rch st k d ∧ ∀ j, rch st j d → k ≤ j) with
  | inl q =>
    obtain ⟨k, h1, h2⟩ := q
    rw [dst_some h1 h2, dst_some ((h k).mp h1) fun j hj => h2 j ((h j).mpr hj)]
  | inr q =>
    have q' : ¬ ∃ k, rch st' k d' ∧ ∀ j, rch st' j d' → k ≤ j := fun ⟨k, h1, h2⟩ => q ⟨k, (h k).mpr h1, fun j hj => h2 j ((h j).mp hj)⟩
    unfold dst
    rw [dif_neg q, dif_neg q']
section
variable {S : Ab} {A E : Gr} {f : Nat → Nat} {doors : Nat}
theorem rt_in (hf : tgF E (aN S) f) (hE : ∀ x y, E x y = true → aCm S x = true ∧ aCm S y = true) {u : Nat} (hu : u < aN S) (hc : aCm S u = true) : f u ∈ rtP S f (aN S) := by
  rw [rtP_mem]
  obtain ⟨j, hj⟩ := hf.con u
  exact ⟨Nat.lt_of_le_of_lt (hf.le u) hu, tg_cl (P := fun x => aCm S x = true) (fun x y _ _ h _ => (hE x y h).2) j u _ hu hj hc, tg_id hf hu⟩
theorem gm_or (hf : tgF E (aN S) f) (hE : ∀ x y, E x y = true → aCm S x = true ∧ aCm S y = true) (h s : Nat) : gmB S f (h ||| s) = gmB S f h ||| gmB S f s := by
  apply Nat.eq_of_testBit_eq
  intro u
  rw [Nat.testBit_or, Bool.eq_iff_iff, Bool.or_eq_true, gm_bit hf hE, gm_bit hf hE, gm_bit hf hE, Nat.testBit_or, Bool.or_eq_true]
  constructor
  · rintro ⟨a, b, c, d | d⟩
    · exact Or.inl ⟨a, b, c, d⟩
    · exact Or.inr ⟨a, b, c, d⟩
  · rintro (⟨a, b, c, d⟩ | ⟨a, b, c, d⟩)
    · exact ⟨a, b, c, Or.inl d⟩
    · exact ⟨a, b, c, Or.inr d⟩
theorem gm_root (hf : tgF E (aN S) f) (hE : ∀ x y, E x y = true → aCm S x = true ∧ aCm S y = true) {i s : Nat} (hi : i < (rtP S f (aN S)).length) : (gmB S f s).testBit ((rtP S f (aN S)).getD i 0) = s.testBit i := by
  have hm := rtP_mem.mp (getD_mem hi)
  rw [Bool.eq_iff_iff, gm_bit hf hE, hm.2.2, idx_of (rtP_nodup _ _ _) hi]
  exact ⟨fun q => q.2.2.2, fun q => ⟨hm.1, hm.2.1, getD_mem hi, q⟩⟩
theorem gm_inj (hf : tgF E (aN S) f) (hE : ∀ x y, E x y = true → aCm S x = true ∧ aCm S y = true) {s t : Nat} (hs : s < 2 ^ (rtP S f (aN S)).length) (ht : t < 2 ^ (rtP S f (aN S)).length) (e : gmB S f s = gmB S f t) : s = t := by
  apply Nat.eq_of_testBit_eq
  intro i
  by_cases q : i < (rtP S f (aN S)).length
  · rw [← gm_root hf hE q, e, gm_root hf hE q]
  · rw [Nat.testBit_lt_two_pow (Nat.lt_of_lt_of_le hs (Nat.pow_le_pow_right (by omega) (by omega))), Nat.testBit_lt_two_pow (Nat.lt_of_lt_of_le ht (Nat.pow_le_pow_right (by omega) (by omega)))]
theorem gm_all (hf : tgF E (aN S) f) (hE : ∀ x y, E x y = true → aCm S x = true ∧ aCm S y = true) : gmB S f (2 ^ (rtP S f (aN S)).length - 1) = comB S (aN S) := by
  apply Nat.eq_of_testBit_eq
  intro u
  rw [Bool.eq_iff_iff, gm_bit hf hE, comB_bit, Bool.and_eq_true, decide_eq_true_eq]
  constructor
  · exact fun q => ⟨q.1, q.2.1⟩
  · exact fun q => ⟨q.1, q.2, rt_in hf hE q.1 q.2, by rw [Nat.testBit_two_pow_sub_one]; exact decide_eq_true (idx_at (rt_in hf hE q.1 q.2)).1⟩
theorem gm_zero (hf : tgF E (aN S) f) (hE : ∀ x y, E x y = true → aCm S x = true ∧ aCm S y = true) : gmB S f 0 = 0 := by
  apply Nat.eq_of_testBit_eq
  intro u
  rw [Bool.eq_iff_iff, gm_bit hf hE]
  simp
theorem mg_iff {n w d : Nat} : mgB A n w d = true ↔ ∀ g, g < n → w.testBit g = true → freeG A n g d = true := by
  unfold mgB
  rw [Bool.not_eq_true', ← Bool.not_eq_true, anyB_iff]
  constructor
  · intro h g hg hw
    cases q : freeG A n g d
    · exact absurd ⟨g, hg, by rw [hw, q]; rfl⟩ h
    · rfl
  · rintro h ⟨g, hg, hq⟩
    rw [Bool.and_eq_true, Bool.not_eq_true'] at hq
    rw [h g hg hq.1] at hq
    exact absurd hq.2 (by decide)
theorem stG_lt {h h2 : Nat} {m : Nat} (h0 : stG S A f m doors h h2) : h < h2 ∧ h2 < 2 ^ m := by
  obtain ⟨h1, s, hs, hr, -, -, rfl⟩ := h0
  have hb := sub_bits.mp hr
  refine ⟨?_, Nat.or_lt_two_pow h1 (bit_lt fun i hi => ?_)⟩
  · obtain ⟨i, hi⟩ := ne_bit hs
    have hn := hb i hi
    rw [rsB_bit, Bool.and_eq_true] at hn
    refine Nat.lt_of_le_of_ne Nat.left_le_or (fun e => ?_)
    have : h.testBit i = true := by rw [e, Nat.testBit_or, hi, Bool.or_true]
    rw [this] at hn
    exact absurd hn.2 (by decide)
  · have hn := hb i hi
    rw [rsB_bit, Bool.and_eq_true] at hn
    exact of_decide_eq_true hn.1
theorem st_of (hf : tgF E (aN S) f) (hE : ∀ x y, E x y = true → aCm S x = true ∧ aCm S y = true) {h h2 : Nat} (h0 : stG S A f (rtP S f (aN S)).length doors h h2) : stp S A E doors (gmB S f h) (gmB S f h2) := by
  obtain ⟨h1, s, hs, hr, hp, hg, rfl⟩ := h0
  have hb := sub_bits.mp hr
  refine ⟨gmB S f s, ?_, fun u hu => ?_, fun x y hx hy hxy hw => ?_, hp, gm_or hf hE _ _⟩
  · obtain ⟨i, hi⟩ := ne_bit hs
    have hn := hb i hi
    rw [rsB_bit, Bool.and_eq_true] at hn
    refine bit_ne (i := (rtP S f (aN S)).getD i 0) ?_
    rw [gm_root hf hE (of_decide_eq_true hn.1)]
    exact hi
  · have hu' := (gm_bit hf hE).mp hu
    refine ⟨hu'.1, hu'.2.1, ?_, mg_iff.mp hg u hu'.1 hu⟩
    rw [← Bool.not_eq_true, gm_bit hf hE]
    have hn := hb _ hu'.2.2.2
    rw [rsB_bit, Bool.and_eq_true, Bool.not_eq_true'] at hn
    intro q
    rw [q.2.2.2] at hn
    exact absurd hn.2 (by decide)
  · rw [gm_bit hf hE] at hw ⊢
    rw [← hf.eq x y hx hy hxy]
    exact ⟨hy, (hE x y hxy).2, hw.2.2⟩
theorem st_to (hf : tgF E (aN S) f) (hE : ∀ x y, E x y = true → aCm S x = true ∧ aCm S y = true) (hsy : ∀ x y, E x y = true → E y x = true) {h d : Nat} (h1 : h < 2 ^ (rtP S f (aN S)).length) (h0 : stp S A E doors (gmB S f h) d) : ∃ h2, d = gmB S f h2 ∧ stG S A f (rtP S f (aN S)).length doors h h2 := by
  obtain ⟨w, hw, hb, hc, hp, rfl⟩ := h0
  have hgs : gmB S f (ofB (fun i => w.testBit ((rtP S f (aN S)).getD i 0)) (rtP S f (aN S)).length) = w := by
    apply Nat.eq_of_testBit_eq
    intro u
    rw [Bool.eq_iff_iff, gm_bit hf hE]
    have key : u < aN S → (w.testBit (f u) = true ↔ w.testBit u = true) := by
      intro hu
      obtain ⟨j, hj⟩ := hf.con u
      refine ⟨fun q => ?_, tg_cl (P := fun x => w.testBit x = true) hc j u _ hu hj⟩
      cases e : w.testBit u
      · exact absurd q (tg_cl (P := fun x => ¬ w.testBit x = true) (fun x y hx hy hxy h3 h4 => h3 (hc y x hy hx (hsy _ _ hxy) h4)) j u _ hu hj (by rw [e]; decide))
      · rfl
    constructor
    · rintro ⟨a, b, c, d⟩
      rw [ofB_bit, Bool.and_eq_true, (idx_at c).2] at d
      exact (key a).mp d.2
    · intro q
      have hq := hb u q
      have hm := rt_in hf hE hq.1 hq.2.1
      refine ⟨hq.1, hq.2.1, hm, ?_⟩
      rw [ofB_bit, Bool.and_eq_true, (idx_at hm).2]
      exact ⟨decide_eq_true (idx_at hm).1, (key hq.1).mpr q⟩
  refine ⟨h ||| ofB (fun i => w.testBit ((rtP S f (aN S)).getD i 0)) (rtP S f (aN S)).length, ?_, h1, _, ?_, ?_, ?_, ?_, rfl⟩
  · rw [gm_or hf hE, hgs]
  · intro e
    rw [e, gm_zero hf hE] at hgs
    exact hw hgs.symm
  · rw [sub_bits]
    intro i hi
    have hi' := hi
    rw [ofB_bit, Bool.and_eq_true, decide_eq_true_eq] at hi
    rw [rsB_bit, Bool.and_eq_true, decide_eq_true_eq, Bool.not_eq_true']
    refine ⟨hi.1, ?_⟩
    rw [← gm_root hf hE hi.1]
    exact (hb _ hi.2).2.2.1
  · rw [hgs]; exact hp
  · rw [hgs, mg_iff]
    exact fun g _ hg => (hb g hg).2.2.2
theorem rch_of (hf : tgF E (aN S) f) (hE : ∀ x y, E x y = true → aCm S x = true ∧ aCm S y = true) : ∀ k h, rch (stG S A f (rtP S f (aN S)).length doors) k h → rch (stp S A E doors) k (gmB S f h) := by
  intro k
  induction k with
  | zero => intro h e; rw [show h = 0 from e, gm_zero hf hE]; rfl
  | succ k ih => rintro h ⟨a, h1, h2⟩; exact ⟨_, ih a h1, st_of hf hE h2⟩
theorem rch_to (hf : tgF E (aN S) f) (hE : ∀ x y, E x y = true → aCm S x = true ∧ aCm S y = true) (hsy : ∀ x y, E x y = true → E y x = true) : ∀ k d, rch (stp S A E doors) k d → ∃ h, h < 2 ^ (rtP S f (aN S)).length ∧ d = gmB S f h ∧ rch (stG S A f (rtP S f (aN S)).length doors) k h := by
  intro k
  induction k with
  | zero => intro d e; exact ⟨0, Nat.two_pow_pos _, by rw [gm_zero hf hE]; exact e, rfl⟩
  | succ k ih =>
    rintro d ⟨a, h1, h2⟩
    obtain ⟨h, h3, rfl, h4⟩ := ih a h1
    obtain ⟨h5, h6, h7⟩ := st_to hf hE hsy h3 h2
    exact ⟨h5, (stG_lt h7).2, h6, h, h4, h7⟩
theorem dst_eq (hf : tgF E (aN S) f) (hE : ∀ x y, E x y = true → aCm S x = true ∧ aCm S y = true) (hsy : ∀ x y, E x y = true → E y x = true) : dst (stp S A E doors) (comB S (aN S)) = dst (stG S A f (rtP S f (aN S)).length doors) (2 ^ (rtP S f (aN S)).length - 1) := by
  refine dst_congr fun k => ⟨fun q => ?_, fun q => ?_⟩
  · obtain ⟨h, h1, h2, h3⟩ := rch_to hf hE hsy k _ q
    rw [← gm_all hf hE] at h2
    rw [gm_inj hf hE (Nat.sub_lt (Nat.two_pow_pos _) (by decide)) h1 h2]
    exact h3
  · rw [← gm_all hf hE]
    exact rch_of hf hE k _ q
end
