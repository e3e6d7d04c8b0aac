/-! THE READER: tokens -/
set_option maxRecDepth 100000
/-- tokens: from, to -/
abbrev Tk := Nat × Nat
def inR (S : Ab) (k : Nat) (a b : Int32) : Bool := decide (k < aSz S) && (decide (a ≤ aTx S k) && decide (aTx S k ≤ b))
def isSp (S : Ab) (k : Nat) : Bool := decide (k < aSz S) && (decide (aTx S k = 32) || decide (aTx S k = 10))
def skF (f : Nat → Bool) : Nat → Nat → Nat
  | 0, k => k
  | n + 1, k => if f k then skF f n (k + 1) else k
/-- the first place from k on that is none of f's -/
def skp (S : Ab) (f : Nat → Bool) (k : Nat) : Nat := skF f (aSz S - k) k
theorem skp_t {S : Ab} {f : Nat → Bool} {k : Nat} (h : f k = true) (hk : k < aSz S) : skp S f k = skp S f (k + 1) := by
  unfold skp
  rw [show aSz S - k = (aSz S - (k + 1)) + 1 by omega]
  exact if_pos h
theorem skp_f {S : Ab} {f : Nat → Bool} {k : Nat} (h : f k = false) : skp S f k = k := by
  unfold skp
  cases aSz S - k with
  | zero => rfl
  | succ n => exact if_neg (by rw [h]; decide)
theorem skF_le (f : Nat → Bool) : ∀ n k, k ≤ skF f n k ∧ skF f n k ≤ k + n ∧ ∀ j, k ≤ j → j < skF f n k → f j = true := by
  intro n
  induction n with
  | zero => intro k; exact ⟨Nat.le_refl _, Nat.le_refl _, fun j h1 h2 => absurd (Nat.lt_of_le_of_lt h1 h2) (Nat.lt_irrefl _)⟩
  | succ n ih =>
    intro k
    unfold skF
    split
    · rename_i c
      have := ih (k + 1)
      refine ⟨by omega, by omega, fun j h1 h2 => ?_⟩
      by_cases e : j = k
      · rw [e]; exact c
      · exact this.2.2 j (by omega) h2
    · exact ⟨Nat.le_refl _, by omega, fun j h1 h2 => absurd (Nat.lt_of_le_of_lt h1 h2) (Nat.lt_irrefl _)⟩
theorem skp_le {S : Ab} (f : Nat → Bool) {k : Nat} (hk : k ≤ aSz S) : k ≤ skp S f k ∧ skp S f k ≤ aSz S ∧ ∀ j, k ≤ j → j < skp S f k → f j = true := by
  have := skF_le f (aSz S - k) k
  exact ⟨this.1, Nat.le_trans this.2.1 (by omega), this.2.2⟩
/-- the next token behind t -/
def nxA (S : Ab) (t : Nat) : Nat := skp S (isSp S) t
def nxT (S : Ab) (a : Nat) : Nat := if inR S a 97 122 then skp S (fun k => inR S k 97 122) a else if inR S a 48 57 then skp S (fun k => inR S k 48 57) a else if a < aSz S then a + 1 else a
def nx (S : Ab) (t : Nat) : Tk := (nxA S t, nxT S (nxA S t))
/-- a token that was read -/
def tkOK (S : Ab) (tk : Tk) : Prop := (tk.1 ≤ tk.2 ∧ tk.2 ≤ aSz S) ∧ (tk.1 < aSz S → tk.1 < tk.2) ∧ (inR S tk.1 97 122 = true → ∀ j, tk.1 ≤ j → j < tk.2 → inR S j 97 122 = true) ∧ (inR S tk.1 48 57 = true → ∀ j, tk.1 ≤ j → j < tk.2 → inR S j 48 57 = true)
theorem inR_lt {S : Ab} {k : Nat} {a b : Int32} (h : inR S k a b = true) : k < aSz S ∧ a ≤ aTx S k ∧ aTx S k ≤ b := by
  unfold inR at h
  simp only [Bool.and_eq_true, decide_eq_true_eq] at h
  exact h
theorem nxA_le {S : Ab} {t : Nat} (h : t ≤ aSz S) : t ≤ nxA S t ∧ nxA S t ≤ aSz S := ⟨(skp_le _ h).1, (skp_le _ h).2.1⟩
theorem nx_ok {S : Ab} {t : Nat} (h : t ≤ aSz S) : tkOK S (nx S t) ∧ t ≤ (nx S t).1 := by
  have h1 := nxA_le h
  refine ⟨?_, h1.1⟩
  show tkOK S (nxA S t, nxT S (nxA S t))
  generalize nxA S t = a at h1
  have h2 := h1.2
  unfold tkOK nxT
  dsimp only
  by_cases c1 : inR S a 97 122 = true
  · rw [if_pos c1]
    have g := skp_le (fun k => inR S k 97 122) h2
    have hlt := (inR_lt c1).1
    have g1 : a < skp S (fun k => inR S k 97 122) a := by
      rw [skp_t c1 hlt]
      exact Nat.lt_of_lt_of_le (Nat.lt_succ_self a) (skp_le _ (by omega)).1
    refine ⟨⟨g.1, g.2.1⟩, fun _ => g1, fun _ => g.2.2, fun c2 => ?_⟩
    exact absurd (Int32.le_trans (inR_lt c1).2.1 (inR_lt c2).2.2) (by decide)
  · rw [if_neg c1]
    by_cases c2 : inR S a 48 57 = true
    · rw [if_pos c2]
      have g := skp_le (fun k => inR S k 48 57) h2
      have hlt := (inR_lt c2).1
      have g1 : a < skp S (fun k => inR S k 48 57) a := by
        rw [skp_t c2 hlt]
        exact Nat.lt_of_lt_of_le (Nat.lt_succ_self a) (skp_le _ (by omega)).1
      exact ⟨⟨g.1, g.2.1⟩, fun _ => g1, fun c => absurd c c1, fun _ => g.2.2⟩
    · rw [if_neg c2]
      split
      · exact ⟨by omega, fun _ => by omega, fun c => absurd c c1, fun c => absurd c c2⟩
      · exact ⟨by omega, fun c => by omega, fun c => absurd c c1, fun c => absurd c c2⟩
/-- the letters of a token -/
def tokL (S : Ab) (tk : Tk) : List Int32 := (List.range (tk.2 - tk.1)).map (fun k => aTx S (tk.1 + k))
theorem tokL_len (S : Ab) (tk : Tk) : (tokL S tk).length = tk.2 - tk.1 := by simp [tokL]
theorem tok_eq {S : Ab} {tk : Tk} {L : List Int32} : tokL S tk = L ↔ (tk.2 - tk.1 = L.length ∧ ∀ u, u < L.length → aTx S (tk.1 + u) = L.getD u 0) := by
  constructor
  · intro h
    subst h
    refine ⟨(tokL_len S tk).symm, fun u hu => ?_⟩
    rw [tokL_len] at hu
    simp [tokL, hu]
  · rintro ⟨h1, h2⟩
    apply List.ext_getElem
    · rw [tokL_len]; exact h1
    · intro i h3 h4
      have := h2 i h4
      rw [List.getD_eq_getElem?_getD, List.getElem?_eq_getElem h4] at this
      simp [tokL, this]
/-- whether a token is a word -/
def wrdB (S : Ab) (tk : Tk) (w : Nat) : Bool := decide (tokL S tk = WBYT.getD w [])
theorem wrdB_t {S : Ab} {tk : Tk} {w : Nat} (h1 : tk.2 - tk.1 = (WBYT.getD w []).length) (h2 : ∀ u, u < (WBYT.getD w []).length → aTx S (tk.1 + u) = (WBYT.getD w []).getD u 0) : wrdB S tk w = true := decide_eq_true (tok_eq.mpr ⟨h1, h2⟩)
theorem wrdB_f {S : Ab} {tk : Tk} {w : Nat} (h1 : ¬ (tk.2 - tk.1 = (WBYT.getD w []).length ∧ ∀ u, u < (WBYT.getD w []).length → aTx S (tk.1 + u) = (WBYT.getD w []).getD u 0)) : wrdB S tk w = false := decide_eq_false (fun q => h1 (tok_eq.mp q))
/-- the name that stands here -/
def namS (S : Ab) (tk : Tk) : Option (List Int32) := if inR S tk.1 97 122 && (decide (tk.2 - tk.1 ≤ 8) && !((List.range 9).any (fun w => wrdB S tk w))) then some (tokL S tk) else none
/-- a name as the model's number -/
def cdF (n : Int64) (b : Int32) : Int64 := 32 * n + Int32.toInt64 b - 97 + 1
def codeL (L : List Int32) : Int64 := L.foldl cdF 0
def nmJ (o : Option (List Int32)) : Int64 := match o with
  | none => -1
  | some L => codeL L
/-- what a name is -/
def nmOK (L : List Int32) : Prop := (L ≠ [] ∧ L.length ≤ 8) ∧ ∀ b ∈ L, 97 ≤ b ∧ b ≤ 122
theorem namS_ok {S : Ab} {tk : Tk} (h : tkOK S tk) {L : List Int32} (e : namS S tk = some L) : nmOK L ∧ L = tokL S tk ∧ tk.1 < tk.2 := by
  unfold namS at e
  split at e
  · rename_i c
    simp only [Bool.and_eq_true, decide_eq_true_eq] at c
    cases e
    have h1 := h.2.1 (inR_lt c.1).1
    refine ⟨⟨⟨fun q => ?_, by rw [tokL_len]; exact c.2.1⟩, fun b hb => ?_⟩, rfl, h1⟩
    · have := tokL_len S tk
      rw [q] at this
      simp at this
      omega
    · unfold tokL at hb
      obtain ⟨k, hk, rfl⟩ := List.mem_map.mp hb
      have := inR_lt (h.2.2.1 c.1 (tk.1 + k) (by omega) (by have := List.mem_range.mp hk; omega))
      exact this.2
  · cases e
/-- letters as digits from 1 on -/
def dgL (b : Int32) : Nat := (b.toInt - 96).toNat
def cNat (L : List Int32) : Nat := L.foldl (fun n b => 32 * n + dgL b) 0
theorem dgL_ok {b : Int32} (h : 97 ≤ b ∧ b ≤ 122) : 1 ≤ dgL b ∧ dgL b ≤ 26 ∧ (dgL b : Int) = b.toInt - 96 := by
  have h1 : (97 : Int32).toInt ≤ b.toInt := Int32.le_iff_toInt_le.mp h.1
  have h2 : b.toInt ≤ (122 : Int32).toInt := Int32.le_iff_toInt_le.mp h.2
  have e1 : (97 : Int32).toInt = 97 := by decide
  have e2 : (122 : Int32).toInt = 122 := by decide
  unfold dgL
  omega
theorem dgL_inj {a b : Int32} (ha : 97 ≤ a ∧ a ≤ 122) (hb : 97 ≤ b ∧ b ≤ 122) (h : dgL a = dgL b) : a = b := by
  have h1 := (dgL_ok ha).2.2
  have h2 := (dgL_ok hb).2.2
  apply Int32.toInt_inj.mp
  omega
theorem cNat_snoc (L : List Int32) (b : Int32) : cNat (L ++ [b]) = 32 * cNat L + dgL b := by simp [cNat]
theorem codeL_snoc (L : List Int32) (b : Int32) : codeL (L ++ [b]) = cdF (codeL L) b := by simp [codeL]
theorem cNat_lt : ∀ (L : List Int32), (∀ b ∈ L, 97 ≤ b ∧ b ≤ 122) → cNat L < 32 ^ L.length := by
  intro L
  induction h : L.length generalizing L with
  | zero => intro _; rw [List.length_eq_zero_iff.mp h]; decide
  | succ n ih =>
    intro hb
    have hne : L ≠ [] := fun q => by rw [q] at h; cases h
    obtain ⟨M, b, rfl⟩ : ∃ M b, L = M ++ [b] := ⟨L.dropLast, L.getLast hne, (List.dropLast_concat_getLast hne).symm⟩
    rw [List.length_append] at h
    have h1 := ih M (by simpa using h) (fun x hx => hb x (List.mem_append_left _ hx))
    have h2 := dgL_ok (hb b (by simp))
    rw [cNat_snoc, Nat.pow_succ]
    omega
theorem cNat_inj : ∀ (n : Nat) (L M : List Int32), L.length = n → (∀ b ∈ L, 97 ≤ b ∧ b ≤ 122) → (∀ b ∈ M, 97 ≤ b ∧ b ≤ 122) → cNat L = cNat M → L = M := by
  intro n
  induction n with
  | zero =>
    intro L M h hL hM e
    have h0 := List.length_eq_zero_iff.mp h
    subst h0
    by_cases hne : M = []
    · exact hne.symm
    · obtain ⟨M', b, rfl⟩ : ∃ M' b, M = M' ++ [b] := ⟨M.dropLast, M.getLast hne, (List.dropLast_concat_getLast hne).symm⟩
      rw [cNat_snoc] at e
      have h2 := dgL_ok (hM b (by simp))
      have : cNat [] = 0 := rfl
      omega
  | succ n ih =>
    intro L M h hL hM e
    have hne : L ≠ [] := fun q => by rw [q] at h; cases h
    obtain ⟨L', a, rfl⟩ : ∃ L' a, L = L' ++ [a] := ⟨L.dropLast, L.getLast hne, (List.dropLast_concat_getLast hne).symm⟩
    have h1 := dgL_ok (hL a (by simp))
    by_cases hm : M = []
    · subst hm
      rw [cNat_snoc] at e
      have : cNat [] = 0 := rfl
      omega
    · obtain ⟨M', b, rfl⟩ : ∃ M' b, M = M' ++ [b] := ⟨M.dropLast, M.getLast hm, (List.dropLast_concat_getLast hm).symm⟩
      have h2 := dgL_ok (hM b (by simp))
      rw [cNat_snoc, cNat_snoc] at e
      have e1 : cNat L' = cNat M' := by omega
      have e2 : dgL a = dgL b := by omega
      rw [List.length_append] at h
      rw [ih L' M' (by simpa using h) (fun x hx => hL x (List.mem_append_left _ hx)) (fun x hx => hM x (List.mem_append_left _ hx)) e1, dgL_inj (hL a (by simp)) (hM b (by simp)) e2]
theorem codeL_toInt : ∀ (L : List Int32), L.length ≤ 8 → (∀ b ∈ L, 97 ≤ b ∧ b ≤ 122) → (codeL L).toInt = (cNat L : Int) := by
  intro L
  induction h : L.length generalizing L with
  | zero => intro _ _; rw [List.length_eq_zero_iff.mp h]; decide
  | succ n ih =>
    intro h8 hb
    have hne : L ≠ [] := fun q => by rw [q] at h; cases h
    obtain ⟨M, b, rfl⟩ : ∃ M b, L = M ++ [b] := ⟨L.dropLast, L.getLast hne, (List.dropLast_concat_getLast hne).symm⟩
    rw [List.length_append] at h
    have hlen : M.length = n := by simpa using h
    have hMb := fun x hx => hb x (List.mem_append_left _ hx)
    have h1 := ih M hlen (by omega) hMb
    have h2 := dgL_ok (hb b (by simp))
    have h3 := cNat_lt M hMb
    have h4 : 32 ^ M.length ≤ 32 ^ 7 := Nat.pow_le_pow_right (by decide) (by omega)
    rw [codeL_snoc, cNat_snoc]
    unfold cdF
    have e32 : (32 : Int64).toInt = 32 := by decide
    have e97 : (97 : Int64).toInt = 97 := by decide
    have e1 : (1 : Int64).toInt = 1 := by decide
    have k1 : (32 * codeL M).toInt = 32 * (cNat M : Int) := by
      rw [Int64.toInt_mul, h1, e32]
      exact Int.bmod_eq_of_le (by omega) (by omega)
    have k2 : (32 * codeL M + Int32.toInt64 b).toInt = 32 * (cNat M : Int) + b.toInt := by
      rw [Int64.toInt_add, k1, Int32.toInt_toInt64]
      exact Int.bmod_eq_of_le (by omega) (by omega)
    have k3 : (32 * codeL M + Int32.toInt64 b - 97).toInt = 32 * (cNat M : Int) + b.toInt - 97 := by
      rw [Int64.toInt_sub, k2, e97]
      exact Int.bmod_eq_of_le (by omega) (by omega)
    rw [Int64.toInt_add, k3, e1]
    rw [Int.bmod_eq_of_le (by omega) (by omega)]
    omega
theorem codeL_inj {L M : List Int32} (hL : nmOK L) (hM : nmOK M) : codeL L = codeL M ↔ L = M := by
  refine ⟨fun e => ?_, fun e => by rw [e]⟩
  have h1 := codeL_toInt L hL.1.2 hL.2
  have h2 := codeL_toInt M hM.1.2 hM.2
  rw [e] at h1
  exact cNat_inj L.length L M rfl hL.2 hM.2 (by omega)
theorem codeL_m1 {L : List Int32} (hL : nmOK L) : codeL L ≠ -1 := by
  intro e
  have h1 := codeL_toInt L hL.1.2 hL.2
  rw [e] at h1
  have : (-1 : Int64).toInt = -1 := by decide
  omega
/-! THE READER: what is read, and lines -/
/-- kind, first, second, weight, room, unless -/
abbrev Rl := Nat × Nat × Nat × Nat × Int32 × Int32
/-- guests' names; marks' names and guests; rules -/
abbrev Dr := List (List Int32) × List (List Int32 × Nat) × List Rl
def fnd (G : List (List Int32)) (L : List Int32) : Option Nat := G.findIdx? (fun x => decide (x = L))
theorem fnd_is {G : List (List Int32)} {L : List Int32} {k : Nat} (hk : k < G.length) (e : G.getD k [] = L) (hno : ∀ u, u < k → G.getD u [] ≠ L) : fnd G L = some k := by
  unfold fnd
  rw [List.findIdx?_eq_some_iff_getElem]
  refine ⟨hk, ?_, fun j hj => ?_⟩
  · rw [List.getD_eq_getElem?_getD, List.getElem?_eq_getElem hk] at e
    simpa using e
  · have := hno j hj
    rw [List.getD_eq_getElem?_getD, List.getElem?_eq_getElem (by omega)] at this
    simpa using this
theorem fnd_no {G : List (List Int32)} {L : List Int32} (hno : ∀ u, u < G.length → G.getD u [] ≠ L) : fnd G L = none := by
  unfold fnd
  rw [List.findIdx?_eq_none_iff]
  intro x hx
  obtain ⟨i, hi, rfl⟩ := List.getElem_of_mem hx
  have := hno i hi
  rw [List.getD_eq_getElem?_getD, List.getElem?_eq_getElem hi] at this
  simpa using this
theorem fnd_lt {G : List (List Int32)} {L : List Int32} {k : Nat} (h : fnd G L = some k) : k < G.length := by
  unfold fnd at h
  rw [List.findIdx?_eq_some_iff_getElem] at h
  exact h.1
def mkN (D : Dr) : List (List Int32) := D.2.1.map (fun x => x.1)
theorem mkN_len (D : Dr) : (mkN D).length = D.2.1.length := by simp [mkN]
theorem mkN_get (D : Dr) (k : Nat) : (mkN D).getD k [] = (D.2.1.getD k ([], 0)).1 := by
  unfold mkN
  rw [List.getD_eq_getElem?_getD, List.getD_eq_getElem?_getD, List.getElem?_map]
  cases D.2.1[k]? <;> rfl
/-- on, unless it went wrong -/
def xb {α β : Type} (r : Except Nat α) (f : α → Except Nat β) : Except Nat β := match r with
  | .error a => .error a
  | .ok x => f x
theorem xb_ok {α β : Type} (x : α) (f : α → Except Nat β) : xb (.ok x) f = f x := rfl
theorem xb_er {α β : Type} (a : Nat) (f : α → Except Nat β) : xb (.error a) f = .error a := rfl
def xk {α : Type} (r : Except Nat α) : Bool := match r with
  | .error _ => false
  | .ok _ => true
/-- a token passes, or it is the fault -/
def pas (S : Ab) (b : Bool) (tk : Tk) : Except Nat Tk := if b then .ok (nx S tk.2) else .error tk.1
theorem pas_t {S : Ab} {b : Bool} {tk : Tk} (h : b = true) : pas S b tk = .ok (nx S tk.2) := by rw [h]; rfl
theorem pas_f {S : Ab} {b : Bool} {tk : Tk} (h : b = false) : pas S b tk = .error tk.1 := by rw [h]; rfl
def isCl (S : Ab) (tk : Tk) : Bool := decide (tk.1 < aSz S) && decide (aTx S tk.1 = 59)
def clo (S : Ab) (tk : Tk) : Except Nat Tk := pas S (isCl S tk) tk
/-- a name that nobody has -/
def newB (D : Dr) (o : Option (List Int32)) : Bool := match o with
  | none => false
  | some L => (fnd D.1 L).isNone && (fnd (mkN D) L).isNone
def gstO (D : Dr) (o : Option (List Int32)) : Option Nat := o.bind (fun L => fnd D.1 L)
def mrkO (D : Dr) (o : Option (List Int32)) : Option Nat := o.bind (fun L => fnd (mkN D) L)
def addG (D : Dr) (L : List Int32) : Dr := (D.1 ++ [L], D.2)
def addM (D : Dr) (L : List Int32) (b : Nat) : Dr := (D.1, D.2.1 ++ [(L, b)], D.2.2)
def addR (D : Dr) (r : Rl) : Dr := (D.1, D.2.1, D.2.2 ++ [r])
def rdG (S : Ab) (D : Dr) (tk : Tk) : Except Nat (Tk × Dr) := xb (pas S (newB D (namS S tk)) tk) (fun t1 => xb (clo S t1) (fun t2 => .ok (t2, addG D ((namS S tk).getD []))))
/-- whether a member may be told -/
def mbOk (D : Dr) (o : Option (List Int32)) (b : Nat) : Bool := match gstO D o with
  | none => false
  | some g => !(b.testBit g)
/-- members from here on, and who they are -/
def rdB (S : Ab) (D : Dr) : Nat → Tk → Nat → Except Nat (Tk × Nat)
  | 0, _, _ => .error 0
  | f + 1, tk, b => xb (pas S (mbOk D (namS S tk) b) tk) (fun t1 => if (namS S t1).isSome then rdB S D f t1 (b ||| 2 ^ ((gstO D (namS S tk)).getD 0)) else .ok (t1, b ||| 2 ^ ((gstO D (namS S tk)).getD 0)))
def rdM (S : Ab) (D : Dr) (tk : Tk) : Except Nat (Tk × Dr) := xb (pas S (newB D (namS S tk)) tk) (fun t1 => xb (pas S (wrdB S t1 2) t1) (fun t2 => xb (rdB S D (aSz S + 1) t2 0) (fun x => xb (clo S x.1) (fun t3 => .ok (t3, addM D ((namS S tk).getD []) x.2)))))
/-- a guest, or 100 and a mark -/
def sdB (D : Dr) (o : Option (List Int32)) : Bool := (gstO D o).isSome || (mrkO D o).isSome
def sdV (D : Dr) (o : Option (List Int32)) : Nat := match gstO D o with
  | some g => g
  | none => 100 + (mrkO D o).getD 0
def rdS (S : Ab) (D : Dr) (tk : Tk) : Except Nat (Tk × Nat) := xb (pas S (sdB D (namS S tk)) tk) (fun t1 => .ok (t1, sdV D (namS S tk)))
/-- a number's value, as far as it is told -/
def nuF (S : Ab) (a : Nat) : Nat → Nat
  | 0 => 0
  | k + 1 => if 99 < nuF S a k then 999 else 10 * nuF S a k + ((aTx S (a + k)).toInt - 48).toNat
def nuV (S : Ab) (tk : Tk) : Nat := if inR S tk.1 48 57 then nuF S tk.1 (tk.2 - tk.1) else 0
def nuB (S : Ab) (tk : Tk) (lo hi : Nat) : Bool := inR S tk.1 48 57 && (decide (lo ≤ nuV S tk) && decide (nuV S tk ≤ hi))
def rdN (S : Ab) (lo hi : Nat) (tk : Tk) : Except Nat (Tk × Nat) := xb (pas S (nuB S tk lo hi) tk) (fun t1 => .ok (t1, nuV S tk))
/-- 'in' and its room; 'unless' and its mark -/
def rdI (S : Ab) (tk : Tk) : Except Nat (Tk × Int32) := if wrdB S tk 7 then xb (rdN S 0 3 (nx S tk.2)) (fun x => .ok (x.1, nI x.2)) else .ok (tk, -1)
def rdU (S : Ab) (D : Dr) (tk : Tk) : Except Nat (Tk × Int32) := if wrdB S tk 8 then xb (pas S (mrkO D (namS S (nx S tk.2))).isSome (nx S tk.2)) (fun t1 => .ok (t1, nI ((mrkO D (namS S (nx S tk.2))).getD 0))) else .ok (tk, -1)
def rdR (S : Ab) (D : Dr) (kd : Nat) (tk : Tk) : Except Nat (Tk × Dr) := xb (rdS S D tk) (fun x1 => xb (rdS S D x1.1) (fun x2 => xb (pas S (wrdB S x2.1 6) x2.1) (fun t3 => xb (rdN S 1 9 t3) (fun x4 => xb (rdI S x4.1) (fun x5 => xb (rdU S D x5.1) (fun x6 => xb (clo S x6.1) (fun t7 => .ok (t7, addR D (kd, x1.2, x2.2, x4.2, x5.2, x6.2)))))))))
def kdO (S : Ab) (tk : Tk) : Option Nat := if wrdB S tk 3 then some 0 else if wrdB S tk 4 then some 1 else if wrdB S tk 5 then some 2 else none
def rdL (S : Ab) (D : Dr) (tk : Tk) : Except Nat (Tk × Dr) := if wrdB S tk 0 then xb (pas S (decide (D.1.length < 10)) tk) (fun t1 => rdG S D t1) else if wrdB S tk 1 then xb (pas S (decide (D.2.1.length < 5)) tk) (fun t1 => rdM S D t1) else xb (pas S ((kdO S tk).isSome && decide (D.2.2.length < 12)) tk) (fun t1 => rdR S D ((kdO S tk).getD 0) t1)
def rdA (S : Ab) : Nat → Tk × Dr → Except Nat (Tk × Dr)
  | 0, _ => .error 0
  | f + 1, x => if x.1.1 < aSz S then xb (rdL S x.2 x.1) (fun y => rdA S f y) else .ok x
def rdAll (S : Ab) : Except Nat (Tk × Dr) := rdA S (aSz S + 1) (nx S 0, [], [], [])
/-- where the fault is -/
def spFault (S : Ab) : Int32 := match rdAll S with
  | .error a => nI a
  | .ok x => if x.2.1.length = 0 then nI (aSz S) else -1
/-! what stands in what is read -/
def whoOK (D : Dr) (w : Nat) : Prop := w < D.1.length ∨ (100 ≤ w ∧ w < 100 + D.2.1.length)
def rlOK (D : Dr) (r : Rl) : Prop := r.1 < 3 ∧ whoOK D r.2.1 ∧ whoOK D r.2.2.1 ∧ (1 ≤ r.2.2.2.1 ∧ r.2.2.2.1 ≤ 9) ∧ (r.2.2.2.2.1 = -1 ∨ ∃ q, q < 4 ∧ r.2.2.2.2.1 = nI q) ∧ (r.2.2.2.2.2 = -1 ∨ ∃ m, m < D.2.1.length ∧ r.2.2.2.2.2 = nI m)
def drOK (D : Dr) : Prop := (D.1.length ≤ 10 ∧ D.2.1.length ≤ 5 ∧ D.2.2.length ≤ 12) ∧ (∀ L ∈ D.1, nmOK L) ∧ (∀ x ∈ D.2.1, nmOK x.1 ∧ x.2 < 1024) ∧ ∀ r ∈ D.2.2, rlOK D r
theorem pas_ok {S : Ab} {b : Bool} {tk t : Tk} (h : tkOK S tk) (e : pas S b tk = .ok t) : b = true ∧ t = nx S tk.2 ∧ tkOK S t ∧ tk.2 ≤ t.1 := by
  unfold pas at e
  split at e
  · rename_i c
    cases e
    exact ⟨c, rfl, nx_ok h.1.2⟩
  · cases e
theorem xb_inv {α β : Type} {r : Except Nat α} {f : α → Except Nat β} {y : β} (h : xb r f = .ok y) : ∃ x, r = .ok x ∧ f x = .ok y := by
  cases r with
  | error a => cases h
  | ok x => exact ⟨x, rfl, h⟩
theorem or_lt {b g : Nat} (hb : b < 1024) (hg : g < 10) : b ||| 2 ^ g < 1024 := Nat.or_lt_two_pow (n := 10) hb (Nat.pow_lt_pow_right (by decide) hg)
theorem who_G {D : Dr} {L : List Int32} {w : Nat} (h : whoOK D w) : whoOK (addG D L) w := by
  unfold whoOK addG at *
  rw [List.length_append]
  rcases h with h | h
  · exact Or.inl (by omega)
  · exact Or.inr h
theorem who_M {D : Dr} {L : List Int32} {b w : Nat} (h : whoOK D w) : whoOK (addM D L b) w := by
  unfold whoOK addM at *
  dsimp only
  rw [List.length_append]
  rcases h with h | h
  · exact Or.inl h
  · exact Or.inr (by omega)
theorem addG_ok {D : Dr} {L : List Int32} (h : drOK D) (hL : nmOK L) (h10 : D.1.length < 10) : drOK (addG D L) := by
  obtain ⟨h1, h2, h3, h4⟩ := h
  refine ⟨⟨by show (D.1 ++ [L]).length ≤ 10; rw [List.length_append]; simp; omega, h1.2.1, h1.2.2⟩, fun M hM => ?_, h3, fun r hr => ?_⟩
  · rcases List.mem_append.mp hM with q | q
    · exact h2 M q
    · rw [List.mem_singleton.mp q]; exact hL
  · obtain ⟨g1, g2, g3, g4, g5, g6⟩ := h4 r hr
    exact ⟨g1, who_G g2, who_G g3, g4, g5, g6⟩
theorem addM_ok {D : Dr} {L : List Int32} {b : Nat} (h : drOK D) (hL : nmOK L) (hb : b < 1024) (h5 : D.2.1.length < 5) : drOK (addM D L b) := by
  obtain ⟨h1, h2, h3, h4⟩ := h
  refine ⟨⟨h1.1, by show (D.2.1 ++ [(L, b)]).length ≤ 5; rw [List.length_append]; simp; omega, h1.2.2⟩, h2, fun M hM => ?_, fun r hr => ?_⟩
  · rcases List.mem_append.mp hM with q | q
    · exact h3 M q
    · rw [List.mem_singleton.mp q]; exact ⟨hL, hb⟩
  · obtain ⟨g1, g2, g3, g4, g5, g6⟩ := h4 r hr
    refine ⟨g1, who_M g2, who_M g3, g4, g5, ?_⟩
    rcases g6 with q | ⟨m, hm, e⟩
    · exact Or.inl q
    · exact Or.inr ⟨m, by show m < (D.2.1 ++ [(L, b)]).length; rw [List.length_append]; omega, e⟩
theorem addR_ok {D : Dr} {r : Rl} (h : drOK D) (hr : rlOK D r) (h12 : D.2.2.length < 12) : drOK (addR D r) := by
  obtain ⟨h1, h2, h3, h4⟩ := h
  refine ⟨⟨h1.1, h1.2.1, by show (D.2.2 ++ [r]).length ≤ 12; rw [List.length_append]; simp; omega⟩, h2, h3, fun M hM => ?_⟩
  rcases List.mem_append.mp hM with q | q
  · exact h4 M q
  · rw [List.mem_singleton.mp q]; exact hr
theorem gst_lt {D : Dr} {o : Option (List Int32)} {g : Nat} (h : gstO D o = some g) : g < D.1.length := by
  cases o with
  | none => cases h
  | some L => exact fnd_lt h
theorem mrk_lt {D : Dr} {o : Option (List Int32)} {g : Nat} (h : mrkO D o = some g) : g < D.2.1.length := by
  cases o with
  | none => cases h
  | some L => rw [← mkN_len]; exact fnd_lt h
theorem sd_ok {D : Dr} {o : Option (List Int32)} (h : sdB D o = true) : whoOK D (sdV D o) := by
  unfold sdB at h
  unfold sdV
  cases hg : gstO D o with
  | some g => exact Or.inl (gst_lt hg)
  | none =>
    cases hm : mrkO D o with
    | some m => exact Or.inr ⟨by simp, by have := mrk_lt hm; simp; exact this⟩
    | none => rw [hg, hm] at h; cases h
theorem clo_ok {S : Ab} {tk t : Tk} (h : tkOK S tk) (e : clo S tk = .ok t) : tkOK S t ∧ tk.1 ≤ t.1 := by
  have h1 := pas_ok h e
  have h2 := h.1.1
  exact ⟨h1.2.2.1, by have := h1.2.2.2; omega⟩
theorem new_nm {S : Ab} {D : Dr} {tk : Tk} (h : tkOK S tk) (e : newB D (namS S tk) = true) : nmOK ((namS S tk).getD []) ∧ tk.1 < tk.2 := by
  cases hn : namS S tk with
  | none => rw [hn] at e; cases e
  | some L => have := namS_ok h hn; exact ⟨this.1, this.2.2⟩
theorem rdG_ok {S : Ab} {D : Dr} {tk : Tk} {y : Tk × Dr} (h : tkOK S tk) (hD : drOK D) (h10 : D.1.length < 10) (e : rdG S D tk = .ok y) : tkOK S y.1 ∧ drOK y.2 ∧ tk.1 < y.1.1 := by
  obtain ⟨t1, e1, e⟩ := xb_inv e
  obtain ⟨t2, e2, e⟩ := xb_inv e
  cases e
  have h1 := pas_ok h e1
  have h2 := clo_ok h1.2.2.1 e2
  have h3 := new_nm h h1.1
  exact ⟨h2.1, addG_ok hD h3.1 h10, by have := h1.2.2.2; dsimp only; omega⟩
theorem mb_ok {S : Ab} {D : Dr} {tk : Tk} {b : Nat} (h : tkOK S tk) (e : mbOk D (namS S tk) b = true) : ∃ g, gstO D (namS S tk) = some g ∧ g < D.1.length ∧ b.testBit g = false ∧ tk.1 < tk.2 := by
  unfold mbOk at e
  cases hg : gstO D (namS S tk) with
  | none => rw [hg] at e; cases e
  | some g =>
    rw [hg] at e
    refine ⟨g, rfl, gst_lt hg, by simpa using e, ?_⟩
    cases hn : namS S tk with
    | none => rw [hn] at hg; cases hg
    | some L => exact (namS_ok h hn).2.2
theorem rdB_ok {S : Ab} {D : Dr} (h10 : D.1.length ≤ 10) : ∀ (f : Nat) (tk : Tk) (b : Nat) (y : Tk × Nat), tkOK S tk → b < 1024 → rdB S D f tk b = .ok y → tkOK S y.1 ∧ y.2 < 1024 ∧ tk.1 < y.1.1 := by
  intro f
  induction f with
  | zero => intro tk b y _ _ e; cases e
  | succ f ih =>
    intro tk b y h hb e
    unfold rdB at e
    obtain ⟨t1, e1, e⟩ := xb_inv e
    have h1 := pas_ok h e1
    obtain ⟨g, hg, hgl, -, hlt⟩ := mb_ok h h1.1
    have hb2 : b ||| 2 ^ ((gstO D (namS S tk)).getD 0) < 1024 := by rw [hg]; exact or_lt hb (by simp; omega)
    have h3 := h1.2.2.2
    split at e
    · have := ih _ _ _ h1.2.2.1 hb2 e
      exact ⟨this.1, this.2.1, by omega⟩
    · cases e
      exact ⟨h1.2.2.1, hb2, by dsimp only; omega⟩
theorem rdM_ok {S : Ab} {D : Dr} {tk : Tk} {y : Tk × Dr} (h : tkOK S tk) (hD : drOK D) (h5 : D.2.1.length < 5) (e : rdM S D tk = .ok y) : tkOK S y.1 ∧ drOK y.2 ∧ tk.1 < y.1.1 := by
  obtain ⟨t1, e1, e⟩ := xb_inv e
  obtain ⟨t2, e2, e⟩ := xb_inv e
  obtain ⟨x, e3, e⟩ := xb_inv e
  obtain ⟨t3, e4, e⟩ := xb_inv e
  cases e
  have h1 := pas_ok h e1
  have h2 := pas_ok h1.2.2.1 e2
  have h3 := rdB_ok hD.1.1 _ _ _ _ h2.2.2.1 (by decide) e3
  have h4 := clo_ok h3.1 e4
  have h6 := new_nm h h1.1
  have h7 := h1.2.2.1.1.1
  exact ⟨h4.1, addM_ok hD h6.1 h3.2.1 h5, by have := h1.2.2.2; have := h2.2.2.2; dsimp only; omega⟩
theorem rdS_ok {S : Ab} {D : Dr} {tk : Tk} {y : Tk × Nat} (h : tkOK S tk) (e : rdS S D tk = .ok y) : tkOK S y.1 ∧ whoOK D y.2 ∧ tk.1 ≤ y.1.1 := by
  obtain ⟨t1, e1, e⟩ := xb_inv e
  cases e
  have h1 := pas_ok h e1
  have h2 := h.1.1
  exact ⟨h1.2.2.1, sd_ok h1.1, by have := h1.2.2.2; dsimp only; omega⟩
theorem rdN_ok {S : Ab} {lo hi : Nat} {tk : Tk} {y : Tk × Nat} (h : tkOK S tk) (e : rdN S lo hi tk = .ok y) : tkOK S y.1 ∧ (lo ≤ y.2 ∧ y.2 ≤ hi) ∧ tk.1 ≤ y.1.1 := by
  obtain ⟨t1, e1, e⟩ := xb_inv e
  cases e
  have h1 := pas_ok h e1
  have h2 := h.1.1
  have h3 := h1.1
  unfold nuB at h3
  simp only [Bool.and_eq_true, decide_eq_true_eq] at h3
  exact ⟨h1.2.2.1, h3.2, by have := h1.2.2.2; dsimp only; omega⟩
theorem rdI_ok {S : Ab} {tk : Tk} {y : Tk × Int32} (h : tkOK S tk) (e : rdI S tk = .ok y) : tkOK S y.1 ∧ (y.2 = -1 ∨ ∃ q, q < 4 ∧ y.2 = nI q) ∧ tk.1 ≤ y.1.1 := by
  unfold rdI at e
  have h1 := h.1
  split at e
  · obtain ⟨x, e1, e⟩ := xb_inv e
    cases e
    have h2 := nx_ok h1.2
    have h3 := rdN_ok h2.1 e1
    exact ⟨h3.1, Or.inr ⟨x.2, by omega, rfl⟩, by dsimp only; omega⟩
  · cases e
    exact ⟨h, Or.inl rfl, Nat.le_refl _⟩
theorem rdU_ok {S : Ab} {D : Dr} {tk : Tk} {y : Tk × Int32} (h : tkOK S tk) (e : rdU S D tk = .ok y) : tkOK S y.1 ∧ (y.2 = -1 ∨ ∃ m, m < D.2.1.length ∧ y.2 = nI m) ∧ tk.1 ≤ y.1.1 := by
  unfold rdU at e
  have h1 := h.1
  split at e
  · obtain ⟨x, e1, e⟩ := xb_inv e
    cases e
    have h2 := nx_ok h1.2
    have h3 := pas_ok h2.1 e1
    obtain ⟨g, hg⟩ := Option.isSome_iff_exists.mp h3.1
    exact ⟨h3.2.2.1, Or.inr ⟨g, mrk_lt hg, by rw [hg]; rfl⟩, by have := h3.2.2.2; have := h2.1.1.1; dsimp only; omega⟩
  · cases e
    exact ⟨h, Or.inl rfl, Nat.le_refl _⟩
theorem rdR_ok {S : Ab} {D : Dr} {kd : Nat} {tk : Tk} {y : Tk × Dr} (h : tkOK S tk) (hD : drOK D) (h12 : D.2.2.length < 12) (hkd : kd < 3) (e : rdR S D kd tk = .ok y) : tkOK S y.1 ∧ drOK y.2 ∧ tk.1 ≤ y.1.1 := by
  obtain ⟨x1, e1, e⟩ := xb_inv e
  obtain ⟨x2, e2, e⟩ := xb_inv e
  obtain ⟨t3, e3, e⟩ := xb_inv e
  obtain ⟨x4, e4, e⟩ := xb_inv e
  obtain ⟨x5, e5, e⟩ := xb_inv e
  obtain ⟨x6, e6, e⟩ := xb_inv e
  obtain ⟨t7, e7, e⟩ := xb_inv e
  cases e
  have h1 := rdS_ok h e1
  have h2 := rdS_ok h1.1 e2
  have h3 := pas_ok h2.1 e3
  have h4 := rdN_ok h3.2.2.1 e4
  have h5 := rdI_ok h4.1 e5
  have h6 := rdU_ok h5.1 e6
  have h7 := clo_ok h6.1 e7
  have h8 := h2.1.1.1
  exact ⟨h7.1, addR_ok hD ⟨hkd, h1.2.1, h2.2.1, h4.2.1, h5.2.1, h6.2.1⟩ h12, by have := h3.2.2.2; dsimp only; omega⟩
theorem kd_lt (S : Ab) (tk : Tk) : (kdO S tk).getD 0 < 3 := by
  unfold kdO
  split
  · decide
  · split
    · decide
    · split <;> decide
theorem rdL_ok {S : Ab} {D : Dr} {tk : Tk} {y : Tk × Dr} (h : tkOK S tk) (hD : drOK D) (hlt : tk.1 < aSz S) (e : rdL S D tk = .ok y) : tkOK S y.1 ∧ drOK y.2 ∧ tk.1 < y.1.1 := by
  have h0 := h.2.1 hlt
  unfold rdL at e
  split at e
  · obtain ⟨t1, e1, e⟩ := xb_inv e
    have h1 := pas_ok h e1
    have h2 := rdG_ok h1.2.2.1 hD (of_decide_eq_true h1.1) e
    exact ⟨h2.1, h2.2.1, by have := h1.2.2.2; omega⟩
  · split at e
    · obtain ⟨t1, e1, e⟩ := xb_inv e
      have h1 := pas_ok h e1
      have h2 := rdM_ok h1.2.2.1 hD (of_decide_eq_true h1.1) e
      exact ⟨h2.1, h2.2.1, by have := h1.2.2.2; omega⟩
    · obtain ⟨t1, e1, e⟩ := xb_inv e
      have h1 := pas_ok h e1
      have h3 := h1.1
      rw [Bool.and_eq_true] at h3
      have h2 := rdR_ok h1.2.2.1 hD (of_decide_eq_true h3.2) (kd_lt S tk) e
      exact ⟨h2.1, h2.2.1, by have := h1.2.2.2; omega⟩
theorem rdA_ok {S : Ab} : ∀ (f : Nat) (x y : Tk × Dr), tkOK S x.1 → drOK x.2 → rdA S f x = .ok y → drOK y.2 := by
  intro f
  induction f with
  | zero => intro x y _ _ e; cases e
  | succ f ih =>
    intro x y h hD e
    unfold rdA at e
    split at e
    · rename_i c
      obtain ⟨z, e1, e⟩ := xb_inv e
      have h1 := rdL_ok h hD c e1
      exact ih z y h1.1 h1.2.1 e
    · cases e; exact hD
theorem dr_nil : drOK ([], [], []) := ⟨⟨by decide, by decide, by decide⟩, (fun L h => by cases h), (fun L h => by cases h), (fun L h => by cases h)⟩
theorem rdAll_ok {S : Ab} {y : Tk × Dr} (e : rdAll S = .ok y) : drOK y.2 := rdA_ok _ _ _ (nx_ok (Nat.zero_le _)).1 dr_nil e
/-! what the model's cells hold of it -/
def rdP (S : Ab) (tk : Tk) (I : Nat → Int32) : Prop := I 2 = nI tk.1 ∧ I 3 = nI tk.2 ∧ I 4 = -1 ∧ tkOK S tk
def drR (D : Dr) (V : Nat → Nat → Int32) (J : Nat → Nat → Int64) : Prop := (V 29 1 = nI D.1.length ∧ V 30 1 = nI D.2.1.length ∧ V 31 1 = nI D.2.2.length) ∧ (∀ k, k < D.1.length → J 4 k = codeL (D.1.getD k [])) ∧ (∀ k, k < D.2.1.length → J 7 k = codeL (D.2.1.getD k ([], 0)).1 ∧ V 10 k = nI (D.2.1.getD k ([], 0)).2) ∧
  ∀ k, k < D.2.2.length → V 13 k = nI (D.2.2.getD k (0, 0, 0, 0, 0, 0)).1 ∧ V 16 k = nI (D.2.2.getD k (0, 0, 0, 0, 0, 0)).2.1 ∧ V 19 k = nI (D.2.2.getD k (0, 0, 0, 0, 0, 0)).2.2.1 ∧ V 22 k = nI (D.2.2.getD k (0, 0, 0, 0, 0, 0)).2.2.2.1 ∧ V 25 k = (D.2.2.getD k (0, 0, 0, 0, 0, 0)).2.2.2.2.1 ∧ V 28 k = (D.2.2.getD k (0, 0, 0, 0, 0, 0)).2.2.2.2.2
/-- how a part of the reading ends -/
def rdO (S : Ab) (r : Except Nat Tk) (P : Nat → Int32) : Prop := match r with
  | .ok tk => rdP S tk P
  | .error a => P 4 = nI a ∧ a ≤ aSz S
def rdE (S : Ab) (r : Except Nat (Tk × Dr)) (P : Nat → Int32) (U : Nat → Nat → Int32) (W : Nat → Nat → Int64) : Prop := match r with
  | .ok x => rdP S x.1 P ∧ drR x.2 U W ∧ drOK x.2
  | .error a => P 4 = nI a ∧ a ≤ aSz S
def rdV (S : Ab) (r : Except Nat (Tk × Nat)) (P : Nat → Int32) : Prop := match r with
  | .ok x => rdP S x.1 P ∧ P 5 = nI x.2
  | .error a => P 4 = nI a ∧ a ≤ aSz S
