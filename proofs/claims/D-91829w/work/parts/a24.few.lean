/-! few in the component -/
set_option maxRecDepth 100000
/-- what is left of m still has every ring -/
def crI (A : Gr) (n m left : Nat) : Prop := (∀ u, left.testBit u = true → m.testBit u = true) ∧ ∀ C : Nat → Prop, (∀ x, C x → x < n ∧ m.testBit x = true ∧ ∃ z, C z ∧ A x z = true) → ∀ x, C x → left.testBit x = true
section CORE
variable {A : Gr} {n m left g : Nat}
theorem cr_0 : crI A n m m := ⟨fun _ q => q, fun C hC x hx => (hC x hx).2.1⟩
theorem xor_bit {u : Nat} (hg : left.testBit g = true) : (left ^^^ 2 ^ g).testBit u = (left.testBit u && decide (u ≠ g)) := by
  rw [Nat.testBit_xor, Nat.testBit_two_pow]
  by_cases c : g = u
  · subst c; simp [hg]
  · have c2 : ¬ u = g := fun q => c q.symm
    simp [c, c2]
theorem xor_lt (hg : left.testBit g = true) : left ^^^ 2 ^ g < left := by
  have e : left &&& 2 ^ g = 2 ^ g := by
    apply Nat.eq_of_testBit_eq
    intro i
    rw [Nat.testBit_and, Nat.testBit_two_pow]
    by_cases c : g = i
    · subst c; simp [hg]
    · simp [c]
  have h1 := andn_le (a := left) (b := 2 ^ g)
  rw [e] at h1
  rcases Nat.lt_or_eq_of_le h1 with q | q
  · exact q
  · have := congrArg (fun z => z.testBit g) q
    simp only [xor_bit hg, hg] at this
    simp at this
theorem cr_rm (hn : n ≤ 10) (h : crI A n m left) (hg : left.testBit g = true) (h0 : ofB (A g) 10 &&& left = 0) : crI A n m (left ^^^ 2 ^ g) := by
  refine ⟨fun u hu => ?_, fun C hC x hx => ?_⟩
  · rw [xor_bit hg, Bool.and_eq_true] at hu
    exact h.1 u hu.1
  · have h1 := h.2 C hC x hx
    rw [xor_bit hg, h1, Bool.true_and]
    apply decide_eq_true
    intro e
    subst e
    obtain ⟨-, -, z, z1, z2⟩ := hC x hx
    have z3 := h.2 C hC z z1
    have z4 := (hC z z1).1
    have := congrArg (fun q => q.testBit z) h0
    simp only [Nat.testBit_and, Nat.zero_testBit] at this
    rw [ofB_at (by omega), z2, z3] at this
    cases this
theorem cr_f (hn : n ≤ 10) (hir : ∀ x, A x x = false) (h : crI A n m left) (hm : m < 2 ^ n) (h0 : left ≠ 0) (hs : ∀ u, u < n → left.testBit u = true → ofB (A u) 10 &&& left ≠ 0) : ringB A n m = true := by
  obtain ⟨x0, hx0⟩ := ne_bit h0
  refine core_succ hn hir (C := fun x => left.testBit x = true) (fun x hx => ?_) hx0
  have hxm := h.1 x hx
  have hxn := lt_bit hm hxm
  obtain ⟨z, hz⟩ := ne_bit (hs x hxn hx)
  rw [Nat.testBit_and, Bool.and_eq_true, ofB_bit, Bool.and_eq_true] at hz
  exact ⟨hxn, hxm, z, hz.2, hz.1.2⟩
theorem cr_t (hn : n ≤ 10) (hir : ∀ x, A x x = false) (h : crI A n m 0) : ringB A n m = false := by
  cases c : ringB A n m with
  | false => rfl
  | true =>
    obtain ⟨C, ⟨x, hx⟩, hC⟩ := ring_core hn hir c
    have := h.2 C (fun x hx => ⟨(hC x hx).1, (hC x hx).2.1, (hC x hx).2.2.1⟩) x hx
    rw [Nat.zero_testBit] at this
    cases this
end CORE
/-- a couple that may not be in one heap -/
def bdC (S : Ab) (A : Gr) (m r u : Nat) : Prop := m.testBit (cX S r u) = true ∧ m.testBit (cY S r u) = true ∧ (A (cX S r u) (cY S r u) = true ∨ A (cY S r u) (cX S r u) = true)
theorem qx_no {S : Ab} (hO : SOK S) (h2 : SO2 S) {room : Int32} {m : Nat} (h : ∀ r, r < aRl S → (decide (aKd S r = 1) && cnt S r room) = true → ∀ u, u < cN S r → ¬ bdC S (abv S room 0) m r u) : anyB (fun x => qtX (abv S room 0) (evn S room) (aN S) m x (aN S)) (aN S) = false := by
  cases c : anyB (fun x => qtX (abv S room 0) (evn S room) (aN S) m x (aN S)) (aN S) with
  | false => rfl
  | true =>
    obtain ⟨x, hx, q⟩ := (anyB_iff _ _).mp c
    unfold qtX at q
    obtain ⟨y, hy, q⟩ := (anyB_iff _ _).mp q
    simp only [Bool.and_eq_true] at q
    obtain ⟨⟨⟨q1, q2⟩, q3⟩, q4⟩ := q
    unfold evn at q3
    obtain ⟨r, hr, q5⟩ := (anyB_iff _ _).mp q3
    rw [Bool.and_eq_true] at q5
    have hk := of_decide_eq_true q5.1
    have q6 := q5.2
    rw [cntF_E hk, Bool.and_eq_true, Bool.and_eq_true, Bool.or_eq_true] at q6
    have hcp : ∀ a b, cplL S r a b = true → ∃ u, u < cN S r ∧ cX S r u = a ∧ cY S r u = b := by
      intro a b hab
      apply Classical.byContradiction
      intro z
      have := cpl_no hO h2 hr (x := a) (y := b) (fun u hu e => z ⟨u, hu, e.1, e.2⟩)
      rw [hab] at this; cases this
    have hev : (decide (aKd S r = 1) && cnt S r room) = true := by rw [q5.1, q6.1]; rfl
    rcases q6.2.1 with z | z
    · obtain ⟨u, hu, e1, e2⟩ := hcp x y z
      exact absurd ⟨by rw [e1]; exact q1, by rw [e2]; exact q2, Or.inl (by rw [e1, e2]; exact q4)⟩ (h r hr hev u hu)
    · obtain ⟨u, hu, e1, e2⟩ := hcp y x z
      exact absurd ⟨by rw [e1]; exact q2, by rw [e2]; exact q1, Or.inr (by rw [e1, e2]; exact q4)⟩ (h r hr hev u hu)
theorem qx_yes {S : Ab} (hO : SOK S) (h2 : SO2 S) {room : Int32} {m r u : Nat} (hr : r < aRl S) (hev : (decide (aKd S r = 1) && cnt S r room) = true) (hu : u < cN S r) (hb : bdC S (abv S room 0) m r u) : anyB (fun x => qtX (abv S room 0) (evn S room) (aN S) m x (aN S)) (aN S) = true := by
  rw [Bool.and_eq_true] at hev
  have hxy := cXY hO h2 hr hu
  have key : ∀ x y, m.testBit x = true → m.testBit y = true → evn S room x y = true → abv S room 0 x y = true → x < aN S → y < aN S → anyB (fun x => qtX (abv S room 0) (evn S room) (aN S) m x (aN S)) (aN S) = true := by
    intro x y a b c d e f
    rw [anyB_iff]
    refine ⟨x, e, ?_⟩
    unfold qtX
    rw [anyB_iff]
    exact ⟨y, f, by rw [a, b, c, d]; rfl⟩
  obtain ⟨b1, b2, b3⟩ := hb
  have hm : (aCm S (cX S r u) && aCm S (cY S r u)) = true := by
    rcases b3 with q | q
    · rw [(abv_com q).1, (abv_com q).2.1]; rfl
    · rw [(abv_com q).1, (abv_com q).2.1]; rfl
  have he := ev_edge hO h2 hr (of_decide_eq_true hev.1) hev.2 hu hm
  rcases b3 with q | q
  · exact key _ _ b1 b2 he q hxy.1 hxy.2.1
  · exact key _ _ b2 b1 (evn_sym he) q hxy.2.1 hxy.1
theorem qt_t {A E : Gr} {n m : Nat} (h1 : anyB (fun x => qtX A E n m x n) n = false) (h2 : ringB A n m = false) : qtB A E n m = true := by unfold qtB; rw [h1, h2]; rfl
theorem qt_f1 {A E : Gr} {n m : Nat} (h2 : ringB A n m = true) : qtB A E n m = false := by unfold qtB; rw [h2]; simp
theorem qt_f2 {A E : Gr} {n m : Nat} (h1 : anyB (fun x => qtX A E n m x n) n = true) : qtB A E n m = false := by unfold qtB; rw [h1]; rfl
/-! all partings, in order -/
def lv (Qt : Nat → Bool) : List Nat → List Nat → List (List Nat × List Nat)
  | [], hs => [(hs, [])]
  | m :: ms, hs => (List.range (min (hs.length + 1) 10)).flatMap (fun h => if Qt (hs.getD h 0 ||| 2 ^ m) then (lv Qt ms (pushH hs h (hs.getD h 0 ||| 2 ^ m))).map (fun r => (r.1, h :: r.2)) else [])
def lvT (Qt : Nat → Bool) (m : Nat) (ms hs : List Nat) (h : Nat) : List (List Nat × List Nat) := if Qt (hs.getD h 0 ||| 2 ^ m) then (lv Qt ms (pushH hs h (hs.getD h 0 ||| 2 ^ m))).map (fun r => (r.1, h :: r.2)) else []
def lvP (Qt : Nat → Bool) (m : Nat) (ms hs : List Nat) (j : Nat) : List (List Nat × List Nat) := (List.range j).flatMap (lvT Qt m ms hs)
theorem lvP_s {Qt : Nat → Bool} {m : Nat} {ms hs : List Nat} {j : Nat} : lvP Qt m ms hs (j + 1) = lvP Qt m ms hs j ++ lvT Qt m ms hs j := by
  unfold lvP
  rw [List.range_succ, List.flatMap_append]
  simp
theorem lv_cons {Qt : Nat → Bool} {m : Nat} {ms hs : List Nat} : lv Qt (m :: ms) hs = lvP Qt m ms hs (min (hs.length + 1) 10) := rfl
/-- the fewest so far, and who is where -/
def fwS (pre : List Nat) (st : Nat × List Nat) (l : List Nat × List Nat) : Nat × List Nat := if l.1.length < st.1 then (l.1.length, pre ++ l.2) else st
theorem fw_map {pre : List Nat} {h : Nat} : ∀ (L : List (List Nat × List Nat)) (st : Nat × List Nat), (L.map (fun r => (r.1, h :: r.2))).foldl (fwS pre) st = L.foldl (fwS (pre ++ [h])) st := by
  intro L
  induction L with
  | nil => intro st; rfl
  | cons a L ih =>
    intro st
    rw [List.map_cons, List.foldl_cons, List.foldl_cons, ih]
    congr 1
    unfold fwS
    simp
theorem fw_cut {pre : List Nat} {F : Nat} {b : List Nat} : ∀ (L : List (List Nat × List Nat)), (∀ l ∈ L, F ≤ l.1.length) → L.foldl (fwS pre) (F, b) = (F, b) := by
  intro L
  induction L with
  | nil => intro _; rfl
  | cons a L ih =>
    intro h
    rw [List.foldl_cons]
    have : fwS pre (F, b) a = (F, b) := if_neg (by have := h a List.mem_cons_self; show ¬ a.1.length < F; omega)
    rw [this]
    exact ih (fun l hl => h l (List.mem_cons_of_mem _ hl))
theorem lv_len {Qt : Nat → Bool} : ∀ (ms hs : List Nat) (l : List Nat × List Nat), l ∈ lv Qt ms hs → hs.length ≤ l.1.length ∧ l.2.length = ms.length := by
  intro ms
  induction ms with
  | nil => intro hs l hl; rw [List.mem_singleton.mp hl]; exact ⟨Nat.le_refl _, rfl⟩
  | cons m ms ih =>
    intro hs l hl
    unfold lv at hl
    obtain ⟨h, hh, hl⟩ := List.mem_flatMap.mp hl
    have hlt := List.mem_range.mp hh
    split at hl
    · obtain ⟨r, hr, rfl⟩ := List.mem_map.mp hl
      obtain ⟨a, b⟩ := ih _ r hr
      rw [pushH_len (by omega)] at a
      exact ⟨by show hs.length ≤ r.1.length; omega, by show (h :: r.2).length = _; rw [List.length_cons, List.length_cons, b]⟩
    · cases hl
/-- what stands in the heaps -/
theorem lv_bits {Qt : Nat → Bool} : ∀ (ms hs : List Nat) (l : List Nat × List Nat), l ∈ lv Qt ms hs → ∀ h b, (l.1.getD h 0).testBit b = true ↔ (hs.getD h 0).testBit b = true ∨ ∃ i, i < ms.length ∧ l.2.getD i 0 = h ∧ ms.getD i 0 = b := by
  intro ms
  induction ms with
  | nil =>
    intro hs l hl h b
    rw [List.mem_singleton.mp hl]
    exact ⟨Or.inl, fun q => q.elim id (fun ⟨i, hi, _⟩ => absurd hi (Nat.not_lt_zero _))⟩
  | cons m ms ih =>
    intro hs l hl h b
    unfold lv at hl
    obtain ⟨h9, hh, hl⟩ := List.mem_flatMap.mp hl
    have hlt := List.mem_range.mp hh
    split at hl
    · obtain ⟨r, hr, rfl⟩ := List.mem_map.mp hl
      have := ih _ r hr h b
      show (r.1.getD h 0).testBit b = true ↔ _
      rw [this, pushH_get (by omega)]
      constructor
      · rintro (q | ⟨i, hi, e1, e2⟩)
        · split at q
          · rename_i e
            rw [Nat.testBit_or, Bool.or_eq_true, Nat.testBit_two_pow, decide_eq_true_eq] at q
            rcases q with q | q
            · rw [e]; exact Or.inl q
            · exact Or.inr ⟨0, by simp, e.symm, q⟩
          · exact Or.inl q
        · exact Or.inr ⟨i + 1, by simpa using hi, e1, e2⟩
      · rintro (q | ⟨i, hi, e1, e2⟩)
        · left
          split
          · rename_i e; rw [Nat.testBit_or, ← e, q]; rfl
          · exact q
        · cases i with
          | zero =>
            left
            have e1 : h9 = h := e1
            have e2 : m = b := e2
            rw [if_pos e1.symm, Nat.testBit_or, e2, Nat.testBit_two_pow]; simp
          | succ i => exact Or.inr ⟨i, by simpa using hi, e1, e2⟩
    · cases hl
theorem flatMap_find {α β : Type} (p : β → Bool) (f : α → List β) : ∀ L : List α, (L.flatMap f).find? p = L.findSome? (fun a => (f a).find? p) := by
  intro L
  induction L with
  | nil => rfl
  | cons a L ih =>
    rw [List.flatMap_cons, List.find?_append, List.findSome?_cons, ih]
    cases (f a).find? p <;> rfl
theorem findSome_cg {α β : Type} {f g : α → Option β} : ∀ L : List α, (∀ a ∈ L, f a = g a) → L.findSome? f = L.findSome? g := by
  intro L
  induction L with
  | nil => intro _; rfl
  | cons a L ih =>
    intro h
    rw [List.findSome?_cons, List.findSome?_cons, h a List.mem_cons_self, ih (fun x hx => h x (List.mem_cons_of_mem _ hx))]
/-- the parting into at most so many is the first of all that has at most so many -/
theorem prt_lv {Qt : Nat → Bool} {n : Nat} (hn : n ≤ 10) : ∀ (ms hs : List Nat), hs.length ≤ n → prt Qt n ms hs = (lv Qt ms hs).find? (fun l => decide (l.1.length ≤ n)) := by
  intro ms
  induction ms with
  | nil =>
    intro hs h
    show some (hs, []) = [(hs, [])].find? _
    rw [List.find?_cons, decide_eq_true h]
  | cons m ms ih =>
    intro hs h
    rw [prt_cons]
    unfold lv
    rw [flatMap_find]
    have e : min (hs.length + 1) 10 = min (hs.length + 1) n + (min (hs.length + 1) 10 - min (hs.length + 1) n) := by omega
    rw [e, List.range_add, List.findSome?_append]
    have k1 : (List.range (min (hs.length + 1) n)).findSome? (prtT Qt n m ms hs) = (List.range (min (hs.length + 1) n)).findSome? (fun h => (if Qt (hs.getD h 0 ||| 2 ^ m) then (lv Qt ms (pushH hs h (hs.getD h 0 ||| 2 ^ m))).map (fun r => (r.1, h :: r.2)) else []).find? (fun l => decide (l.1.length ≤ n))) := by
      apply findSome_cg
      intro h9 hh
      have hlt := List.mem_range.mp hh
      unfold prtT
      split
      · rw [ih _ (by rw [pushH_len (by omega)]; omega), List.find?_map]
        rfl
      · rfl
    rw [k1]
    have k2 : ((List.range (min (hs.length + 1) 10 - min (hs.length + 1) n)).map (fun x => min (hs.length + 1) n + x)).findSome? (fun h => (if Qt (hs.getD h 0 ||| 2 ^ m) then (lv Qt ms (pushH hs h (hs.getD h 0 ||| 2 ^ m))).map (fun r => (r.1, h :: r.2)) else []).find? (fun l => decide (l.1.length ≤ n))) = none := by
      rw [List.findSome?_eq_none_iff]
      intro h9 hh
      obtain ⟨x, hx, rfl⟩ := List.mem_map.mp hh
      have hx := List.mem_range.mp hx
      rw [List.find?_eq_none]
      intro l hl
      split at hl
      · obtain ⟨r, hr, rfl⟩ := List.mem_map.mp hl
        have := (lv_len _ _ r hr).1
        rw [pushH_len (by omega)] at this
        simp
        omega
      · cases hl
    rw [k2, Option.or_none]
/-- the fold finds the first of the fewest -/
theorem fw_first : ∀ (L : List (List Nat × List Nat)) (F : Nat) (b : List Nat), (L.foldl (fwS []) (F, b) = (F, b) ∧ ∀ l ∈ L, F ≤ l.1.length) ∨ ∃ l, L.foldl (fwS []) (F, b) = (l.1.length, l.2) ∧ l ∈ L ∧ l.1.length < F ∧ (∀ l2 ∈ L, l.1.length ≤ l2.1.length) ∧ L.find? (fun l2 => decide (l2.1.length ≤ l.1.length)) = some l := by
  intro L
  induction L with
  | nil => intro F b; exact Or.inl ⟨rfl, fun l hl => by cases hl⟩
  | cons a L ih =>
    intro F b
    rw [List.foldl_cons]
    by_cases c : a.1.length < F
    · have e : fwS [] (F, b) a = (a.1.length, a.2) := if_pos c
      rw [e]
      rcases ih a.1.length a.2 with ⟨h1, h2⟩ | ⟨l, h1, h2, h3, h4, h5⟩
      · refine Or.inr ⟨a, h1, List.mem_cons_self, c, fun l2 hl2 => ?_, by rw [List.find?_cons, decide_eq_true (Nat.le_refl _)]⟩
        rcases List.mem_cons.mp hl2 with q | q
        · rw [q]; exact Nat.le_refl _
        · exact h2 l2 q
      · refine Or.inr ⟨l, h1, List.mem_cons_of_mem _ h2, by omega, fun l2 hl2 => ?_, by rw [List.find?_cons, decide_eq_false (by omega)]; exact h5⟩
        rcases List.mem_cons.mp hl2 with q | q
        · rw [q]; omega
        · exact h4 l2 q
    · have e : fwS [] (F, b) a = (F, b) := if_neg c
      rw [e]
      rcases ih F b with ⟨h1, h2⟩ | ⟨l, h1, h2, h3, h4, h5⟩
      · refine Or.inl ⟨h1, fun l hl => ?_⟩
        rcases List.mem_cons.mp hl with q | q
        · rw [q]; omega
        · exact h2 l q
      · refine Or.inr ⟨l, h1, List.mem_cons_of_mem _ h2, h3, fun l2 hl2 => ?_, by rw [List.find?_cons, decide_eq_false (by omega)]; exact h5⟩
        rcases List.mem_cons.mp hl2 with q | q
        · rw [q]; omega
        · exact h4 l2 q
/-- the search's end against the parting into the fewest -/
theorem few_end {Qt : Nat → Bool} {mem : List Nat} (hm : ∀ m ∈ mem, Qt (2 ^ m) = true) (hl : mem.length ≤ 10) {b : List Nat} : ∃ r a, prt Qt (fewN Qt mem) mem [] = some (r, a) ∧ (lv Qt mem []).foldl (fwS []) (1000000, b) = (fewN Qt mem, a) ∧ fewN Qt mem ≤ 10 ∧ (r, a) ∈ lv Qt mem [] := by
  have h10 : (prt Qt 10 mem []).isSome = true := prt_ex mem [] hm (by simpa using hl)
  rw [prt_lv (Nat.le_refl _) mem [] (by simp)] at h10
  obtain ⟨l0, hl0⟩ := Option.isSome_iff_exists.mp h10
  have hl0m := List.mem_of_find?_eq_some hl0
  have hl0l : l0.1.length ≤ 10 := by
    have := List.find?_some hl0
    simpa using this
  rcases fw_first (lv Qt mem []) 1000000 b with ⟨h1, h2⟩ | ⟨l, h1, h2, h3, h4, h5⟩
  · have := h2 l0 hl0m
    omega
  · have hle := h4 l0 hl0m
    have hf : fewN Qt mem = l.1.length := by
      refine few_eq ?_ (by omega) (fun u hu => ?_)
      · rw [prt_lv (by omega) mem [] (by simp), h5]; rfl
      · rw [prt_lv (by omega) mem [] (by simp)]
        rw [List.find?_eq_none.mpr (fun l2 hl2 => by have := h4 l2 hl2; simp; omega)]
        rfl
    refine ⟨l.1, l.2, ?_, ?_, by omega, h2⟩
    · rw [hf, prt_lv (by omega) mem [] (by simp), h5]
    · rw [h1, hf]
section ZAR
variable {K : Nat → ClassId} {ed : Nat} {S : Ab} {h : Hp} {w : Nat → Nat} {Ls : Nat → List Nat} {J : Nat → Nat} {Z : Nat → Nat → Int32}
theorem zset_ar (W : CW K ed S h w Ls J Z) (Z' : Nat → Nat → Int32) (k : Nat) (hk : k < 6) (f : Nat → Int32) : hset (zset h K w S Z') (w (7 + k)) (.inl (K 0, 10, .inl f)) (11 + k) = zset h K w S (va_up Z' k f) := by
  have e6 : va_up Z' k f 6 = Z' 6 := va_up_ne _ _ (by omega)
  funext b
  by_cases hb : b = w (7 + k)
  · rw [hb, hset_self, zset_a W _ k hk, va_up_self]
  · rw [hset_ne _ _ _ hb]
    by_cases h0 : b = w 0
    · rw [h0, zset_x, zset_x, e6]
    · by_cases hk3 : ∀ k, k < 6 → b ≠ w (7 + k)
      · rw [zset_o h0 hk3, zset_o h0 hk3]
      · have : ∃ k, k < 6 ∧ b = w (7 + k) := by
          apply Classical.byContradiction
          intro q
          exact hk3 (fun k hk2 e => q ⟨k, hk2, e⟩)
        obtain ⟨k2, hk2, e⟩ := this
        rw [e, zset_a W Z' k2 hk2, zset_a W _ k2 hk2, va_up_ne _ _ (fun q => hb (by rw [e, q]))]
end ZAR
theorem cpy_all {f g : Nat → Int32} {i : Nat} (h : i < 10) : va_cpy f g 0 0 10 i = f i := by
  unfold va_cpy
  rw [if_pos (by omega)]
  congr 1
  omega
theorem cm_inj {S : Ab} {i j : Nat} (hi : i < nC S) (hj : j < nC S) (h : cm S i = cm S j) : i = j := by
  apply Classical.byContradiction
  intro q
  exact getD_ne (comP_nodup S (aN S)) hi hj q h
def mem9 (S : Ab) : List Nat := comP S (aN S)
theorem drop9 {S : Ab} {k : Nat} (hk : k < nC S) : (mem9 S).drop k = cm S k :: (mem9 S).drop (k + 1) := drop_cons hk
theorem drop9_n {S : Ab} {k : Nat} (hk : k = nC S) : (mem9 S).drop k = [] := by rw [hk]; exact List.drop_length
/-- the search's numbers -/
def fwI (S : Ab) (k : Nat) (hs pre : List Nat) (R : Nat × List Nat) (Z : Nat → Nat → Int32) : Prop := (∀ h, h < 10 → Z 3 h = nI (hs.getD h 0)) ∧ (∀ i, i < k → Z 4 (cm S i) = nI (pre.getD i 0)) ∧ Z 6 0 = nI R.1 ∧ (R.1 = 1000000 ∨ ∀ i, i < nC S → Z 5 (cm S i) = nI (R.2.getD i 0))
def hsF (S : Ab) (k : Nat) (hs : List Nat) : Prop := ∀ h i, k ≤ i → i < nC S → (hs.getD h 0).testBit (cm S i) = false
theorem hsF_push {S : Ab} {k h9 : Nat} {hs : List Nat} (h : hsF S k hs) (hk : k < nC S) (hh : h9 ≤ hs.length) : hsF S (k + 1) (pushH hs h9 (hs.getD h9 0 ||| 2 ^ cm S k)) := fun u i hi hn => by
  rw [pushH_get hh]
  split
  · rw [Nat.testBit_or, h h9 i (by omega) hn, Nat.testBit_two_pow, decide_eq_false]
    · rfl
    · intro q; have := cm_inj hk hn q; omega
  · exact h u i (by omega) hn
theorem fw_put {S : Ab} {k h9 : Nat} {hs pre : List Nat} {R : Nat × List Nat} {Z : Nat → Nat → Int32} {x : Nat} (h : fwI S k hs pre R Z) (hk : k < nC S) (hh : h9 ≤ hs.length) (hp : pre.length = k) : fwI S (k + 1) (pushH hs h9 x) (pre ++ [h9]) R (vset (vset Z 3 h9 (nI x)) 4 (cm S k) (nI h9)) := by
  obtain ⟨h1, h2, h3, h4⟩ := h
  refine ⟨fun u hu => ?_, fun i hi => ?_, ?_, ?_⟩
  · rw [vset_off _ _ (by decide), vset_in, pushH_get hh]
    split
    · rfl
    · exact h1 u hu
  · rw [vset_in, vset_off _ _ (by decide), getD_snoc]
    by_cases c : i = k
    · rw [if_pos (by rw [c]), if_neg (by omega), if_pos (by omega)]
    · rw [if_neg (fun q => c (cm_inj (by omega) hk q)), if_pos (by omega)]
      exact h2 i (by omega)
  · rw [vset_off _ _ (by decide), vset_off _ _ (by decide)]; exact h3
  · rw [vset_off _ _ (by decide), vset_off _ _ (by decide)]; exact h4
theorem fw_back {S : Ab} {k h9 : Nat} {hs pre : List Nat} {R : Nat × List Nat} {Z : Nat → Nat → Int32} {x : Nat} (h : fwI S (k + 1) (pushH hs h9 x) (pre ++ [h9]) R Z) (hh : h9 ≤ hs.length) (hp : pre.length = k) : fwI S k hs pre R (vset Z 3 h9 (nI (hs.getD h9 0))) := by
  obtain ⟨h1, h2, h3, h4⟩ := h
  refine ⟨fun u hu => ?_, fun i hi => ?_, ?_, ?_⟩
  · rw [vset_in]
    split
    · rename_i c; rw [c]
    · rename_i c
      rw [h1 u hu, pushH_get hh, if_neg c]
  · rw [vset_off _ _ (by decide), h2 i (by omega), getD_snoc, if_pos (by omega)]
  · rw [vset_off _ _ (by decide)]; exact h3
  · rw [vset_off _ _ (by decide)]; exact h4
theorem fw_leaf {S : Ab} {hs pre : List Nat} {R : Nat × List Nat} {Z : Nat → Nat → Int32} (h : fwI S (nC S) hs pre R Z) (hn : aN S ≤ 10) : fwI S (nC S) hs pre (hs.length, pre) (va_up (vset Z 6 0 (nI hs.length)) 5 (va_cpy (vset Z 6 0 (nI hs.length) 4) (vset Z 6 0 (nI hs.length) 5) 0 0 10)) := by
  obtain ⟨h1, h2, h3, h4⟩ := h
  refine ⟨fun u hu => ?_, fun i hi => ?_, ?_, Or.inr fun i hi => ?_⟩
  · rw [va_up_ne _ _ (by decide), vset_off _ _ (by decide)]; exact h1 u hu
  · rw [va_up_ne _ _ (by decide), vset_off _ _ (by decide)]; exact h2 i hi
  · rw [va_up_ne _ _ (by decide), vset_self]
  · have := (cm_lt hi).1
    rw [va_up_self, cpy_all (by omega), vset_off _ _ (by decide)]; exact h2 i hi
theorem or_xor {a m : Nat} (h : a.testBit m = false) : (a ||| 2 ^ m) ^^^ 2 ^ m = a := by
  apply Nat.eq_of_testBit_eq
  intro i
  rw [Nat.testBit_xor, Nat.testBit_or, Nat.testBit_two_pow]
  by_cases c : m = i
  · subst c; simp [h]
  · simp [c]
theorem fw_le {pre : List Nat} : ∀ (L : List (List Nat × List Nat)) (R : Nat × List Nat), (L.foldl (fwS pre) R).1 ≤ R.1 := by
  intro L
  induction L with
  | nil => intro R; exact Nat.le_refl _
  | cons a L ih =>
    intro R
    rw [List.foldl_cons]
    refine Nat.le_trans (ih _) ?_
    unfold fwS
    split
    · rename_i c; show a.1.length ≤ R.1; omega
    · exact Nat.le_refl _
/-- the lowest of one heap -/
theorem few_low {Qt : Nat → Bool} {S : Ab} {r a : List Nat} (hn : aN S ≤ 10) (hm : (r, a) ∈ lv Qt (mem9 S) []) {g k : Nat} (hg : g < aN S) (hc : aCm S g = true) (hk : k < nC S) (h1 : a.getD k 0 = a.getD ((mem9 S).idxOf g) 0) (h2 : ∀ u, u < k → a.getD u 0 ≠ a.getD ((mem9 S).idxOf g) 0) : ntzN (r.getD (a.getD ((mem9 S).idxOf g) 0) 0) = cm S k := by
  have hb := lv_bits _ _ _ hm
  have hkl := (cm_lt hk).1
  unfold ntzN
  refine firstB_eq (z := cm S k) ?_ 10 0 (Nat.zero_le _) (by omega) (fun u _ hu => ?_)
  · exact (hb _ _).mpr (Or.inr ⟨k, hk, h1, rfl⟩)
  · apply Bool.eq_false_iff.mpr
    intro q
    rcases (hb _ _).mp q with z | ⟨i, hi, e1, e2⟩
    · simp at z
    · have hik : i < k := by
        rcases Nat.lt_or_ge i k with z | z
        · exact z
        · have hs : (mem9 S).Pairwise (· < ·) := List.Pairwise.sublist List.filter_sublist List.pairwise_lt_range
          have hle : cm S k ≤ cm S i := by
            rcases Nat.lt_or_ge k i with z2 | z2
            · have := List.pairwise_iff_getElem.mp hs k i hk hi z2
              have hk' : k < (comP S (aN S)).length := hk
              have hi' : i < (comP S (aN S)).length := hi
              unfold cm
              rw [List.getD_eq_getElem?_getD, List.getD_eq_getElem?_getD, List.getElem?_eq_getElem hk', List.getElem?_eq_getElem hi']
              exact Nat.le_of_lt this
            · have : i = k := by omega
              rw [this]; exact Nat.le_refl _
          have e2 : cm S i = u := e2
          omega
      exact h2 i hik e1
theorem lv_lt10 {Qt : Nat → Bool} : ∀ (ms hs : List Nat) (l : List Nat × List Nat), l ∈ lv Qt ms hs → ∀ i, i < ms.length → l.2.getD i 0 < 10 := by
  intro ms
  induction ms with
  | nil => intro hs l _ i hi; exact absurd hi (Nat.not_lt_zero _)
  | cons m ms ih =>
    intro hs l hl i hi
    unfold lv at hl
    obtain ⟨h, hh, hl⟩ := List.mem_flatMap.mp hl
    have hlt := List.mem_range.mp hh
    split at hl
    · obtain ⟨r, hr, rfl⟩ := List.mem_map.mp hl
      cases i with
      | zero => show h < 10; omega
      | succ i => exact ih _ r hr i (by simpa using hi)
    · cases hl
