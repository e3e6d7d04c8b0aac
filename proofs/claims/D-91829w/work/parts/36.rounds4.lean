/-! rounds: what the walk wants -/
set_option maxRecDepth 100000
theorem in_1d {g : Int32} : decide ((1 : Int64) ≤ Int32.toInt64 g ∧ Int32.toInt64 g ≤ (4 : Int64)) = inN (g - 1) 4 := by
  apply decide_eq_decide.mpr
  have h1 : (1 : Int64) = Int32.toInt64 1 := by decide
  have h2 : (4 : Int64) = Int32.toInt64 4 := by decide
  rw [h1, h2, i64_le, i64_le, Int32.toInt_sub]
  have h3 : (1 : Int32).toInt = 1 := by decide
  have h4 : (4 : Int32).toInt = 4 := by decide
  rw [h3, h4]
  have ha := g.le_toInt
  have hb := g.toInt_lt
  constructor
  · intro ⟨p, q⟩
    rw [Int.bmod_eq_of_le (by omega) (by omega)]
    omega
  · intro ⟨p, q⟩
    by_cases hm : g.toInt = -2147483648
    · rw [hm] at p q
      exfalso
      revert p q
      decide
    · rw [Int.bmod_eq_of_le (by omega) (by omega)] at p q
      omega
theorem in1d_t {x : Int32} (h : inN (x - 1) 4 = true) : ∃ j : Nat, (1 ≤ j ∧ j ≤ 4) ∧ x = nI j := by
  obtain ⟨j, hj, e⟩ := inN_t h
  refine ⟨j + 1, by omega, ?_⟩
  rw [← nI_1, ← e]
  grind
noncomputable def spRounds (S : Ab) (room doors : Int32) : Int32 := if inN room (aRm S) && inN (doors - 1) 4 then oI (dst (stp S (abv S room 0) (evn S room) doors.toNatClampNeg) (comB S (aN S))) else -1
/-- done: the steps by sets above s -/
def ppD (m h s d : Nat) : Prop := ∃ t, t &&& rsB m h = t ∧ s < t ∧ d = h ||| t
theorem sub_le {s r : Nat} (h : s &&& r = s) : s ≤ r := by rw [← h]; exact Nat.and_le_right
theorem rch_le {st : Nat → Nat → Prop} (h : ∀ a d, st a d → a < d) : ∀ k d, rch st k d → k ≤ d := by
  intro k
  induction k with
  | zero => intro d _; exact Nat.zero_le _
  | succ k ih =>
    rintro d ⟨a, h1, h2⟩
    have := ih a h1
    have := h a d h2
    omega
section
variable {S : Ab} {A : Gr} {f : Nat → Nat} {m doors h s : Nat} {T : Nat → Option Nat} {st : Nat → Nat → Prop}
theorem tb_le {P : Nat → Prop} (H : tbI (stG S A f m doors) T h P) {d k : Nat} (hd : T d = some k) : k ≤ d := rch_le (fun _ _ q => (stG_lt q).1) k d (H.2.1 d k hd)
theorem tb_oI {P : Nat → Prop} (H : tbI (stG S A f m doors) T h P) {d : Nat} (hb : d < 1024) : ∀ k, T d = some k → k < 2 ^ 31 := fun k q => by have := tb_le H q; omega
theorem pp_0 (H : tbI st T h (fun _ => False)) : tbI st T h (ppD m h (rsB m h)) := tb_more H fun d ⟨t, h1, h2, _⟩ _ => absurd h2 (Nat.not_lt.mpr (sub_le h1))
theorem pp_one (hs : s &&& rsB m h = s) (H : tbI st T h (fun d => ppD m h s d ∨ d = h ||| s)) : tbI st T h (ppD m h ((s - 1) &&& rsB m h)) := tb_more H fun d ⟨t, h1, h2, h3⟩ _ => by
  rcases Nat.lt_trichotomy s t with q | q | q
  · exact Or.inl ⟨t, h1, q, h3⟩
  · subst q; exact Or.inr h3
  · have := sub_next s (rsB m h) t hs h1 q
    omega
theorem or_inj {s t : Nat} (hs : s &&& rsB m h = s) (ht : t &&& rsB m h = t) (e : h ||| s = h ||| t) : s = t := by
  apply Nat.eq_of_testBit_eq
  intro i
  have e1 : (h ||| s).testBit i = (h ||| t).testBit i := by rw [e]
  rw [Nat.testBit_or, Nat.testBit_or] at e1
  have g1 := sub_bits.mp hs i
  have g2 := sub_bits.mp ht i
  rw [rsB_bit] at g1 g2
  cases a : s.testBit i <;> cases b : t.testBit i <;> cases c : h.testBit i <;> simp_all
theorem pp_no (hs : s &&& rsB m h = s) (hno : ¬ (popN (gmB S f s) ≤ doors ∧ mgB A (aN S) (gmB S f s) (gmB S f h) = true)) (H : tbI (stG S A f m doors) T h (ppD m h s)) : tbI (stG S A f m doors) T h (ppD m h ((s - 1) &&& rsB m h)) := tb_more H fun d ⟨t, h1, h2, h3⟩ hst => by
  rcases Nat.lt_trichotomy s t with q | q | q
  · exact ⟨t, h1, q, h3⟩
  · subst q
    obtain ⟨_, u, _, hu, h4, h5, h6⟩ := hst
    rw [h3] at h6
    have := or_inj hs hu h6
    subst this
    exact absurd ⟨h4, h5⟩ hno
  · have := sub_next s (rsB m h) t hs h1 q
    omega
theorem pp_end (hs : s = 0) (H : tbI (stG S A f m doors) T h (ppD m h s)) : tbI (stG S A f m doors) T (h + 1) (fun _ => False) := tb_next H fun d ⟨_, t, h1, h2, _, _, h5⟩ => ⟨t, h2, by omega, h5⟩
end
theorem rs_lt (m h : Nat) : rsB m h < 2 ^ m := bit_lt fun i hi => by
  rw [rsB_bit, Bool.and_eq_true] at hi
  exact of_decide_eq_true hi.1
theorem gp_push {S : Ab} {f : Nat → Nat} {g n : Nat} {L : List Nat} {U : Nat → Nat → Int32} (h : ∀ i, i < L.length → U 49 i = nI (gpB S f (L.getD i 0) n)) (hg : U 49 L.length = nI (gpB S f g n)) : ∀ i, i < (L ++ [g]).length → U 49 i = nI (gpB S f ((L ++ [g]).getD i 0) n) := by
  intro i hi
  rw [List.length_append] at hi
  simp at hi
  by_cases e : i = L.length
  · subst e
    rw [hg]
    simp
  · rw [h i (by omega)]
    simp [List.getElem?_append_left (show i < L.length by omega)]
