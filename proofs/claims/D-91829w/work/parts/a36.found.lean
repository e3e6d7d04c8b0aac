/-! what is found, as the cells say it -/
set_option maxRecDepth 100000
def prB (mem : List Nat) (L : List (List Nat)) (pl : List Nat) (k g p : Nat) : Bool := plB mem L g p || (decide (mem.idxOf g < k) && decide (pl.getD (mem.idxOf g) 0 = p))
def prN (mem : List Nat) (L : List (List Nat)) (pl : List Nat) (k g : Nat) : Nat := ofB (prB mem L pl k g) 8
def lsOK (mem : List Nat) (z : LsZ) : Prop := lsBst z ≤ 1000000 ∧ ∀ b L, z = some (b, L) → L ≠ [] ∧ ∀ l ∈ L, l.length = mem.length ∧ ∀ i, l.getD i 0 < 8
section PR
variable {mem pl : List Nat} {L : List (List Nat)} {k g w : Nat}
theorem prb_0 : prN mem L pl 0 g = ofB (plB mem L g) 8 := by
  unfold prN
  apply ofB_cg
  intro u _
  simp [prB]
theorem prb_end (hl : pl.length = mem.length) : prN mem L pl mem.length g = ofB (plB mem (L ++ [pl]) g) 8 := by
  unfold prN
  apply ofB_cg
  intro u _
  unfold prB plB
  rw [List.any_append, hl.symm]
  simp
theorem prb_hit (hd : mem.Nodup) (hk : k < mem.length) (hp : pl.getD k 0 < 8) : prN mem L pl k (mem.getD k 0) ||| 2 ^ pl.getD k 0 = prN mem L pl (k + 1) (mem.getD k 0) := by
  unfold prN
  apply Nat.eq_of_testBit_eq
  intro u
  rw [Nat.testBit_or, ofB_bit, ofB_bit, Nat.testBit_two_pow]
  unfold prB
  rw [idx_get hd hk]
  by_cases e : pl.getD k 0 = u
  · rw [← e]; simp [hp, -List.getD_eq_getElem?_getD]
  · simp [e, -List.getD_eq_getElem?_getD]
theorem prb_off (h : g ≠ mem.getD k 0) (hk : k < mem.length) : prN mem L pl k g = prN mem L pl (k + 1) g := by
  unfold prN
  apply ofB_cg
  intro u _
  unfold prB
  have : mem.idxOf g ≠ k := fun e => h (by rw [← e]; exact (get_idx (by omega)).symm)
  rw [show decide (mem.idxOf g < k) = decide (mem.idxOf g < k + 1) from decide_eq_decide.mpr (by omega)]
theorem pl_nil : ofB (plB mem [] g) 8 = 0 := by
  apply Nat.eq_of_testBit_eq
  intro u
  rw [ofB_bit]
  simp [plB]
theorem prb_upd {f : Nat → Int32} (hd : mem.Nodup) (hk : k < mem.length) (hp : pl.getD k 0 < 8) (hf : ∀ g, g < 10 → f g = nI (prN mem L pl k g)) : ∀ g, g < 10 → upd f (mem.getD k 0) (nI (prN mem L pl k (mem.getD k 0) ||| 2 ^ pl.getD k 0)) g = nI (prN mem L pl (k + 1) g) := by
  intro g hg
  by_cases c : g = mem.getD k 0
  · rw [c]; exact (if_pos rfl).trans (congrArg nI (prb_hit hd hk hp))
  · exact (if_neg c).trans ((hf g hg).trans (congrArg nI (prb_off c hk)))
theorem lsU_lt {z : LsZ} (h : w < lsBst z) : lsU z pl w = some (w, [pl]) := by
  cases z with
  | none => rfl
  | some z => exact ls_new h
theorem ls_eq {z : LsZ} (h1 : ¬ w < lsBst z) (h2 : w ≤ lsBst z) (hw : w < 1000000) : ∃ L, z = some (w, L) := by
  cases z with
  | none => exact absurd hw h1
  | some z =>
    obtain ⟨b, L⟩ := z
    have e1 : ¬ w < b := h1
    have e2 : w ≤ b := h2
    exact ⟨L, by rw [show w = b by omega]⟩
theorem lsOK_1 (hl : pl.length = mem.length) (hp : ∀ i, pl.getD i 0 < 8) (hw : w < 1000000) : lsOK mem (some (w, [pl])) := by
  refine ⟨Nat.le_of_lt hw, fun b L e => ?_⟩
  cases e
  exact ⟨List.cons_ne_nil _ _, fun l hl2 => by rw [List.mem_singleton.mp hl2]; exact ⟨hl, hp⟩⟩
theorem lsOK_s (h : lsOK mem (some (w, L))) (hl : pl.length = mem.length) (hp : ∀ i, pl.getD i 0 < 8) : lsOK mem (some (w, L ++ [pl])) := by
  refine ⟨h.1, fun b L2 e => ?_⟩
  cases e
  refine ⟨by simp, fun l hl2 => ?_⟩
  rcases List.mem_append.mp hl2 with q | q
  · exact (h.2 w L rfl).2 l q
  · rw [List.mem_singleton.mp q]; exact ⟨hl, hp⟩
theorem ls_add1 : lsU (some (w, L)) pl w = some (w, L ++ [pl]) := ls_add rfl
theorem lsF_s (h : L ≠ []) : lsFst mem (some (w, L ++ [pl])) = lsFst mem (some (w, L)) := by
  funext g
  show oI (atN mem ((L ++ [pl]).headD []) g) = oI (atN mem (L.headD []) g)
  rw [head_app h]
end PR
def mlOK (mem : List Nat) (z : MlZ) : Prop := (mlBst z ≤ 1000000 ∧ mlHvy z ≤ 1000000) ∧ ∀ b a L, z = some (b, a, L) → L.length = mem.length
def mdOK (mem : List Nat) (z : MdZ) : Prop := mdFew z ≤ 1000000 ∧ ∀ b L, z = some (b, L) → L.length = mem.length
theorem mlU_on {z : MlZ} {pl : List Nat} {w m : Nat} (h : m < mlHvy z ∨ (m = mlHvy z ∧ w < mlBst z)) : mlU z pl w m = some (m, w, pl) := by
  cases z with
  | none => rfl
  | some z => obtain ⟨b, a, L⟩ := z; exact ml_upd h
theorem mdU_on {S : Ab} {q : Nat} {mem : List Nat} {lim : Int32} {z : MdZ} {pl : List Nat} {w : Nat} (h1 : ¬ lim < nI w) (h2 : mvN S q mem pl mem.length < mdFew z) : mdU S q mem lim z pl w = some (mvN S q mem pl mem.length, pl) := by
  cases z with
  | none => exact md_new h1
  | some z => obtain ⟨b, L⟩ := z; exact md_less h1 h2
/-! the search objects -/
def SRL (K : Nat → ClassId) (mem : List Nat) (h : Hp) (x ra lb lg aa fa pa tg tk : Nat) (pl : List Nat) (z : LsZ) : Prop := lsOK mem z ∧ h x = some (.inr (16, [.ref ra, .ref lb, .ref lg, .ref aa, .ref fa, .int (nI tk), .int (nI (lsBst z)), .int (nI (lsMny z)), .ref pa]), tg) ∧ AR10 K h aa tg (fun g => oI (atN mem pl g)) ∧ AR10 K h fa tg (lsFst mem z) ∧ AR10 K h pa tg (fun g => nI (lsPl mem z g))
def SRM (K : Nat → ClassId) (mem : List Nat) (h : Hp) (x ra lb lg aa fa tg tk : Nat) (pl : List Nat) (z : MlZ) : Prop := mlOK mem z ∧ h x = some (.inr (18, [.ref ra, .ref lb, .ref lg, .ref aa, .ref fa, .int (nI tk), .int (nI (mlBst z)), .int (nI (mlHvy z))]), tg) ∧ AR10 K h aa tg (fun g => oI (atN mem pl g)) ∧ AR10 K h fa tg (mlFst mem z)
def SRD (q : Nat) (lim : Int32) (K : Nat → ClassId) (mem : List Nat) (h : Hp) (x ra lb lg aa fa tg tk : Nat) (pl : List Nat) (z : MdZ) : Prop := mdOK mem z ∧ h x = some (.inr (19, [.ref ra, .ref lb, .ref lg, .ref aa, .ref fa, .int (nI tk), .int (nI q), .int lim, .int (nI (mdFew z))]), tg) ∧ AR10 K h aa tg (fun g => oI (atN mem pl g)) ∧ AR10 K h fa tg (mdFst mem z)
theorem cpy10 {f g : Nat → Int32} {P : Nat → Int32} (h : ∀ k, k < 10 → f k = P k) : ∀ k, k < 10 → va_cpy f g 0 0 10 k = P k := fun k hk => by
  unfold va_cpy
  rw [if_pos ⟨Nat.zero_le _, by omega⟩, Nat.zero_add, Nat.sub_zero]
  exact h k hk
