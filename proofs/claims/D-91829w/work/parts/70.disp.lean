/-! dispatch: its words; places that turn -/
set_option maxRecDepth 100000
theorem lw_U {own : String} {idx : Nat} {C owner : String} {x y : MethodName} {b : ByteArray} {L : Nat} {r : Option FieldType} (h1 : Cond.methodLink own idx x ∈ lw_all) (h2 : Cond.sameMethod x.cls owner x.name x.desc ∈ lw_all) (h3 : Cond.selects C x y ∈ lw_all) (h4 : Cond.instanceMethod y ∈ lw_all) (h5 : Cond.initialized y.cls ∈ lw_all) (h6 : Cond.code y b L r ∈ lw_all) : GoodIn lw_all (va_wsU own idx C owner x y (ws_ y b L r)) := by
  refine lw_app ?_ (lw_meth h6)
  intro w hw
  simp only [List.mem_cons, List.not_mem_nil, or_false] at hw
  rcases hw with e | e | e | e | e
  · rw [e]; exact h1
  · rw [e]; exact h2
  · rw [e]; exact h3
  · rw [e]; exact h4
  · rw [e]; exact h5
theorem lw_O {own : String} {idx : Nat} {C owner : String} {x y : MethodName} {b : ByteArray} {L : Nat} {r : Option FieldType} (h1 : Cond.methodLink own idx x ∈ lw_all) (h2 : Cond.sameMethod x.cls owner x.name x.desc ∈ lw_all) (h7 : Cond.instanceMethod ⟨owner, x.name, x.desc⟩ ∈ lw_all) (h3 : Cond.selects C x y ∈ lw_all) (h4 : Cond.instanceMethod y ∈ lw_all) (h5 : Cond.initialized y.cls ∈ lw_all) (h6 : Cond.code y b L r ∈ lw_all) : GoodIn lw_all (va_wsO own idx C owner x y (ws_ y b L r)) := by
  refine lw_app ?_ (lw_meth h6)
  intro w hw
  simp only [List.mem_cons, List.not_mem_nil, or_false] at hw
  rcases hw with e | e | e | e | e | e
  · rw [e]; exact h1
  · rw [e]; exact h2
  · rw [e]; exact h7
  · rw [e]; exact h3
  · rw [e]; exact h4
  · rw [e]; exact h5
theorem mod_inj {a b c n : Nat} (ha : a < n) (hb : b < n) (h : (a + c) % n = (b + c) % n) : a = b := by
  rcases Nat.le_total a b with q | q
  · have h1 := Nat.sub_mod_eq_zero_of_mod_eq h.symm
    rw [show b + c - (a + c) = b - a by omega, Nat.mod_eq_of_lt (by omega)] at h1
    omega
  · have h1 := Nat.sub_mod_eq_zero_of_mod_eq h
    rw [show a + c - (b + c) = a - b by omega, Nat.mod_eq_of_lt (by omega)] at h1
    omega
/-- how high a place is, by a room's kind -/
def htN (k n c a : Nat) : Nat := if k = 0 then a else if k = 1 then a / 2 else if k = 2 then 0 else if k = 3 then a / 2 else (a + c) % n
def alI (k : Nat) : Int32 := if k = 1 ∨ k = 2 then -1 else nI 0
theorem hgh_ht {S : Ab} {q c a b : Nat} (hk : aRk S q < 5) (ha : a < aRp S q) (hb : b < aRp S q) : hgh S q c a b = if a = b then nI 0 else if htN (aRk S q) (aRp S q) c a = htN (aRk S q) (aRp S q) c b then alI (aRk S q) else if htN (aRk S q) (aRp S q) c a < htN (aRk S q) (aRp S q) c b then nI 1 else nI 2 := by
  unfold hgh
  by_cases e : a = b
  · rw [if_pos e, if_pos e]
  · rw [if_neg e, if_neg e]
    have hm := fun z => e (mod_inj (c := c) ha hb z)
    generalize aRk S q = k at hk
    have h5 : k = 0 ∨ k = 1 ∨ k = 2 ∨ k = 3 ∨ k = 4 := by omega
    rcases h5 with rfl | rfl | rfl | rfl | rfl
    · simp [htN, e]
    · simp only [htN, alI]
      by_cases z : a / 2 = b / 2
      · simp [z]
      · simp [z]
        by_cases y : a < b
        · rw [if_pos y, if_pos (by omega)]
        · rw [if_neg y, if_neg (by omega)]
    · simp [htN, alI]
    · simp only [htN, alI]
      by_cases z : a / 2 = b / 2
      · simp [z]
      · simp [z]
        by_cases y : a < b
        · rw [if_pos y, if_pos (by omega)]
        · rw [if_neg y, if_neg (by omega)]
    · simp [htN]
      exact fun z => absurd z hm
