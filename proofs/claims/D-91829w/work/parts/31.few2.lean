/-! few: what the search finds -/
set_option maxRecDepth 100000
def comP (S : Ab) (x : Nat) : List Nat := (List.range x).filter (fun g => aCm S g)
theorem comP_t {S : Ab} {x : Nat} (h : aCm S x = true) : comP S (x + 1) = comP S x ++ [x] := by simp [comP, List.range_succ, h]
theorem comP_f {S : Ab} {x : Nat} (h : aCm S x = false) : comP S (x + 1) = comP S x := by simp [comP, List.range_succ, h]
theorem comP_len (S : Ab) (x : Nat) : (comP S x).length ≤ x := by
  have := List.length_filter_le (fun g => aCm S g) (List.range x)
  rw [List.length_range] at this
  exact this
theorem comP_mem {S : Ab} {x g : Nat} : g ∈ comP S x ↔ g < x ∧ aCm S g = true := by simp [comP]
theorem comP_nodup (S : Ab) (x : Nat) : (comP S x).Nodup := List.Nodup.sublist List.filter_sublist List.nodup_range
theorem getD_mem {L : List Nat} {i : Nat} (h : i < L.length) : L.getD i 0 ∈ L := by
  rw [List.getD_eq_getElem?_getD, List.getElem?_eq_getElem h]
  exact List.getElem_mem h
theorem idx_at {L : List Nat} {g : Nat} (h : g ∈ L) : L.idxOf g < L.length ∧ L.getD (L.idxOf g) 0 = g := by
  have h1 := List.idxOf_lt_length_iff.mpr h
  refine ⟨h1, ?_⟩
  rw [List.getD_eq_getElem?_getD, List.getElem?_eq_getElem h1]
  exact List.getElem_idxOf h1
theorem comP_ok {S : Ab} (hn : aN S ≤ 10) : (comP S (aN S)).length ≤ 10 ∧ (∀ i, i < (comP S (aN S)).length → (comP S (aN S)).getD i 0 < aN S) ∧ (comP S (aN S)).Nodup :=
  ⟨Nat.le_trans (comP_len _ _) hn, fun i hi => (comP_mem.mp (getD_mem hi)).1, comP_nodup _ _⟩
theorem prt_ok {Qt : Nat → Bool} {most nn : Nat} : ∀ (ms hs r a : List Nat), (∀ i, i < ms.length → ms.getD i 0 < nn) → hOK nn hs → prt Qt most ms hs = some (r, a) → hs.length ≤ r.length ∧ (hs.length ≤ most → r.length ≤ most) ∧ hOK nn r ∧ (∀ h b, (hs.getD h 0).testBit b = true → (r.getD h 0).testBit b = true) ∧ ∀ i, i < ms.length → a.getD i 0 < r.length ∧ (r.getD (a.getD i 0) 0).testBit (ms.getD i 0) = true := by
  intro ms
  induction ms with
  | nil =>
    intro hs r a _ ho h
    cases h
    exact ⟨Nat.le_refl _, id, ho, fun _ _ => id, fun i hi => absurd hi (Nat.not_lt_zero _)⟩
  | cons m ms ih =>
    intro hs r a hm ho h
    rw [prt_cons] at h
    obtain ⟨h9, hmem, hf⟩ := List.exists_of_findSome?_eq_some h
    have hlt := List.mem_range.mp hmem
    unfold prtT at hf
    split at hf
    · cases e : prt Qt most ms (pushH hs h9 (hs.getD h9 0 ||| 2 ^ m)) with
      | none => rw [e] at hf; cases hf
      | some z =>
        obtain ⟨r', a'⟩ := z
        rw [e] at hf
        simp at hf
        obtain ⟨rfl, rfl⟩ := hf
        have hm0 : m < nn := hm 0 (by simp)
        have hpo := hOK_push (h := h9) ho hm0 (by omega)
        obtain ⟨b1, b2, b3, b4, b5⟩ := ih _ _ _ (fun i hi => hm (i + 1) (by simp; exact hi)) hpo.2 e
        rw [pushH_len (by omega)] at b1 b2
        refine ⟨by omega, fun hq => b2 (by omega), b3, fun h b hb => b4 h b ?_, fun i hi => ?_⟩
        · rw [pushH_get (by omega)]
          split
          · rename_i e; rw [Nat.testBit_or, ← e, hb]; rfl
          · exact hb
        · cases i with
          | zero =>
            refine ⟨show h9 < r'.length by omega, b4 h9 m ?_⟩
            rw [pushH_get (by omega), if_pos rfl, Nat.testBit_or, Nat.testBit_two_pow_self, Bool.or_true]
          | succ i => exact b5 i (by simpa using hi)
    · cases hf
theorem prt_ex {Qt : Nat → Bool} {most : Nat} : ∀ (ms hs : List Nat), (∀ m ∈ ms, Qt (2 ^ m) = true) → hs.length + ms.length ≤ most → (prt Qt most ms hs).isSome = true := by
  intro ms
  induction ms with
  | nil => intro hs _ _; rfl
  | cons m ms ih =>
    intro hs hq hl
    rw [prt_cons, List.findSome?_isSome_iff]
    rw [List.length_cons] at hl
    refine ⟨hs.length, List.mem_range.mpr (by omega), ?_⟩
    unfold prtT
    have e0 : hs.getD hs.length 0 = 0 := by simp
    rw [e0, Nat.zero_or, hq m List.mem_cons_self, if_pos rfl, Option.isSome_map]
    exact ih _ (fun z hz => hq z (List.mem_cons_of_mem _ hz)) (by rw [pushH_len (Nat.le_refl _)]; omega)
/-- one alone is quiet -/
theorem far_one {A : Gr} {n m x : Nat} (hx : x ≠ m) : ∀ k, farO A n (2 ^ m) m k x = none := by
  intro k
  induction k with
  | zero => unfold farO; rw [if_neg hx]
  | succ k ih => exact farO_cut ih (by rw [Nat.testBit_two_pow]; simp; exact Ne.symm hx)
theorem thr_one {A : Gr} {n m : Nat} : ∀ k, thrO A n (2 ^ m) m k = none := by
  intro k
  induction k with
  | zero => rfl
  | succ k ih =>
    by_cases e : k = m
    · rw [← thr_skip (by simp [e])]; exact ih
    · rw [← thr_none (far_one e 10)]; exact ih
theorem qt_one {A E : Gr} {n m : Nat} (hA : ∀ x, A x x = false) : qtB A E n (2 ^ m) = true := by
  unfold qtB
  have h1 : anyB (fun x => qtX A E n (2 ^ m) x n) n = false := by
    rw [← Bool.not_eq_true, anyB_iff]
    rintro ⟨x, -, hx⟩
    obtain ⟨y, -, hy⟩ := (anyB_iff _ _).mp hx
    simp [Nat.testBit_two_pow] at hy
    obtain ⟨⟨⟨e1, e2⟩, -⟩, e3⟩ := hy
    rw [← e1, ← e2, hA] at e3
    cases e3
  have h2 : ringB A n (2 ^ m) = false := by
    unfold ringB
    rw [← Bool.not_eq_true, anyB_iff]
    rintro ⟨x, -, hx⟩
    simp [Nat.testBit_two_pow] at hx
    rw [← hx.1, thr_one] at hx
    simp at hx
  rw [h1, h2]
  rfl
def fewN (Qt : Nat → Bool) (mem : List Nat) : Nat := firstB (fun n => (prt Qt n mem []).isSome) 11 0
def spFew (S : Ab) (room g : Int32) : Int32 := if inN room (aRm S) && (decide (g = -1) || (inN g (aN S) && aCm S g.toNatClampNeg)) then (match prt (qtB (abv S room 0) (evn S room) (aN S)) (fewN (qtB (abv S room 0) (evn S room) (aN S)) (comP S (aN S))) (comP S (aN S)) [] with
  | none => -1
  | some (r, a) => if g = -1 then nI (fewN (qtB (abv S room 0) (evn S room) (aN S)) (comP S (aN S))) else nI (ntzN (r.getD (a.getD ((comP S (aN S)).idxOf g.toNatClampNeg) 0) 0))) else -1
theorem mem_push {L : List Nat} {U : Nat → Nat → Int32} {x : Nat} (h : ∀ i, i < L.length → U 53 i = nI (L.getD i 0)) : ∀ i, i < (L ++ [x]).length → vset U 53 L.length (nI x) 53 i = nI ((L ++ [x]).getD i 0) := by
  intro i hi
  rw [List.length_append, List.length_singleton] at hi
  rw [vset_in]
  by_cases e : i = L.length
  · rw [if_pos e, e]; simp
  · rw [if_neg e, h i (by omega), List.getD_eq_getElem?_getD, List.getD_eq_getElem?_getD, List.getElem?_append_left (show i < L.length by omega)]
theorem few_eq {Qt : Nat → Bool} {mem : List Nat} {n : Nat} (h : (prt Qt n mem []).isSome = true) (hn : n ≤ 10) (hu : ∀ u, u < n → (prt Qt u mem []).isSome = false) : fewN Qt mem = n := firstB_eq h 11 0 (Nat.zero_le _) (by omega) (fun u _ hu2 => hu u hu2)
theorem few_lt {Qt : Nat → Bool} {mem : List Nat} {n : Nat} (h : n ≤ mem.length) (h1 : (prt Qt mem.length mem []).isSome = true) (h2 : (prt Qt n mem []).isSome = false) : n + 1 ≤ mem.length := by
  rcases Nat.lt_or_eq_of_le h with q | q
  · exact q
  · rw [q, h1] at h2; cases h2
