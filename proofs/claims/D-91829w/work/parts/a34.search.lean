/-! the search: what is kept; where nothing can be found any more -/
set_option maxRecDepth 100000
theorem seH_ge {S : Ab} {q : Nat} {mem pl : List Nat} {p m : Nat} : ∀ j, m ≤ seH S q mem pl p m j := by
  intro j
  induction j with
  | zero => exact Nat.le_refl _
  | succ j ih => rw [seH]; omega
theorem fold_id {α σ : Type} {f : σ → α → σ} {z : σ} : ∀ (L : List α), (∀ a, f z a = z) → L.foldl f z = z := by
  intro L h
  induction L with
  | nil => rfl
  | cons a t ih => rw [List.foldl_cons, h a, ih]
theorem srF_stay {σ : Type} {S : Ab} {q n : Nat} {mem : List Nat} {ok : Nat → Nat → Bool} {leaf : σ → List Nat → Nat → Nat → σ} {z : σ} (P : Nat → List Nat → Nat → Nat → Prop) (hs : ∀ k pl w m p, P (k + 1) pl w m → P k (pl ++ [p]) (w + seW S q mem pl p pl.length) (seH S q mem pl p m pl.length)) (hl : ∀ pl w m, P 0 pl w m → leaf z pl w m = z) : ∀ k pl w m, P k pl w m → srF S q n mem ok leaf k pl w m z = z := by
  intro k
  induction k with
  | zero => intro pl w m h; exact hl pl w m h
  | succ k ih =>
    intro pl w m h
    refine fold_id _ (fun p => ?_)
    split
    · rfl
    · exact ih _ _ _ (hs k pl w m p h)
/-! the least -/
abbrev LsZ := Option (Nat × List (List Nat))
abbrev MlZ := Option (Nat × Nat × List Nat)
abbrev MdZ := Option (Nat × List Nat)
def ok1 : Nat → Nat → Bool := fun _ _ => true
def lfL (z : LsZ) (pl : List Nat) (w _m : Nat) : LsZ := lsU z pl w
def lfM (z : MlZ) (pl : List Nat) (w m : Nat) : MlZ := mlU z pl w m
def lfD (S : Ab) (q : Nat) (mem : List Nat) (lim : Int32) (z : MdZ) (pl : List Nat) (w _m : Nat) : MdZ := mdU S q mem lim z pl w
def lsBst (z : LsZ) : Nat := match z with | none => 1000000 | some (b, _) => b
def lsMny (z : LsZ) : Nat := match z with | none => 0 | some (_, L) => L.length
def lsFst (mem : List Nat) (z : LsZ) (g : Nat) : Int32 := match z with | none => -1 | some (_, L) => oI (atN mem (L.headD []) g)
def plB (mem : List Nat) (L : List (List Nat)) (g p : Nat) : Bool := L.any (fun l => decide (mem.idxOf g < l.length) && decide (l.getD (mem.idxOf g) 0 = p))
def lsPl (mem : List Nat) (z : LsZ) (g : Nat) : Nat := match z with | none => 0 | some (_, L) => ofB (plB mem L g) 8
def mlBst (z : MlZ) : Nat := match z with | none => 1000000 | some (_, a, _) => a
def mlHvy (z : MlZ) : Nat := match z with | none => 1000000 | some (b, _, _) => b
def mlFst (mem : List Nat) (z : MlZ) (g : Nat) : Int32 := match z with | none => -1 | some (_, _, L) => oI (atN mem L g)
def mdFew (z : MdZ) : Nat := match z with | none => 1000000 | some (b, _) => b
def mdFst (mem : List Nat) (z : MdZ) (g : Nat) : Int32 := match z with | none => -1 | some (_, L) => oI (atN mem L g)
section STAY
variable {S : Ab} {q n : Nat} {mem pl : List Nat} {ok : Nat → Nat → Bool} {k w m : Nat}
theorem ls_stay {z : LsZ} (h : lsBst z < w) (hw : w < 1000000) : srF S q n mem ok lfL k pl w m z = z := by
  cases z with
  | none => exact absurd h (by show ¬ 1000000 < w; omega)
  | some z =>
    obtain ⟨b, L⟩ := z
    refine srF_stay (fun _ _ w _ => b < w) (fun k pl w m p h => by omega) (fun pl w m h => ls_old h) k pl w m h
theorem ml_stay {z : MlZ} (h : ¬ (m < mlHvy z ∨ (m = mlHvy z ∧ w < mlBst z))) (hm : m < 1000000) : srF S q n mem ok lfM k pl w m z = z := by
  cases z with
  | none => exact absurd (Or.inl hm) h
  | some z =>
    obtain ⟨b, a, L⟩ := z
    refine srF_stay (fun _ _ w m => ¬ (m < b ∨ (m = b ∧ w < a))) (fun k pl w m p h => by have := seH_ge (S := S) (q := q) (mem := mem) (pl := pl) (p := p) (m := m) pl.length; omega) (fun pl w m h => ml_old h) k pl w m h
theorem mv_push {p : Nat} : mvN S q mem (pl ++ [p]) (pl.length + 1) = mvN S q mem pl pl.length + (if decide (aIr S (mem.getD pl.length 0) = nI q) && decide (aIp S (mem.getD pl.length 0) ≠ nI p) then 1 else 0) := by
  unfold mvN
  rw [cntN]
  rw [get_last]
  congr 1
  have : ∀ k, k ≤ pl.length → cntN (fun i => decide (aIr S (mem.getD i 0) = nI q) && decide (aIp S (mem.getD i 0) ≠ nI ((pl ++ [p]).getD i 0))) k = cntN (fun i => decide (aIr S (mem.getD i 0) = nI q) && decide (aIp S (mem.getD i 0) ≠ nI (pl.getD i 0))) k := by
    intro k
    induction k with
    | zero => intro _; rfl
    | succ k ih => intro hk; rw [cntN, cntN, ih (by omega), get_push (by omega)]
  exact this _ (Nat.le_refl _)
theorem md_stay {lim : Int32} {z : MdZ} (hO : SOK S) (hk : pl.length + k = mem.length) (hm7 : mem.length ≤ 7) (hw : w ≤ 2000 * pl.length) (h : lim < nI w ∨ mdFew z ≤ mvN S q mem pl pl.length) : srF S q n mem ok (lfD S q mem lim) k pl w m z = z := by
  refine srF_stay (fun k pl w _ => pl.length + k = mem.length ∧ w ≤ 2000 * pl.length ∧ (lim < nI w ∨ mdFew z ≤ mvN S q mem pl pl.length)) (fun k pl w m p h => ?_) (fun pl w m h => ?_) k pl w m ⟨hk, hw, h⟩
  · obtain ⟨h1, h2, h3⟩ := h
    have h4 := seW_le hO q mem pl p pl.length
    rw [len_push]
    refine ⟨by omega, by omega, ?_⟩
    rcases h3 with h3 | h3
    · left
      have e1 : (nI w).toInt = (w : Int) := nI_toInt (by omega)
      have e2 : (nI (w + seW S q mem pl p pl.length)).toInt = ((w + seW S q mem pl p pl.length : Nat) : Int) := nI_toInt (by omega)
      rw [Int32.lt_iff_toInt_lt] at h3 ⊢
      omega
    · right
      rw [mv_push]
      omega
  · obtain ⟨h1, h2, h3⟩ := h
    show mdU S q mem lim z pl w = z
    unfold mdU
    by_cases c : lim < nI w
    · rw [if_pos c]
    · rw [if_neg c]
      have h4 := h3.resolve_left c
      rw [show pl.length = mem.length by omega] at h4
      cases z with
      | none =>
        have : mvN S q mem pl mem.length ≤ mem.length := cntN_le _ _
        have h5 : 1000000 ≤ mvN S q mem pl mem.length := h4
        omega
      | some z => obtain ⟨b, L⟩ := z; have h5 : b ≤ mvN S q mem pl mem.length := h4; exact if_neg (by omega)
end STAY
/-! a guest more, a guest less -/
theorem idx_lt {L : List Nat} {x : Nat} (h : x ∈ L) : L.idxOf x < L.length := List.idxOf_lt_length_of_mem h
section ATP
variable {mem pl : List Nat} {p : Nat} {f : Nat → Int32}
theorem at_push (hd : mem.Nodup) (hi : pl.length < mem.length) (h : ∀ g, g < 10 → f g = oI (atN mem pl g)) : ∀ g, g < 10 → upd f (mem.getD pl.length 0) (nI p) g = oI (atN mem (pl ++ [p]) g) := by
  intro g hg
  by_cases c : g = mem.getD pl.length 0
  · rw [c, show upd f (mem.getD pl.length 0) (nI p) (mem.getD pl.length 0) = nI p from if_pos rfl, atN_old hd (by rw [len_push]; omega) (by rw [len_push]; omega), get_last]
    rfl
  · rw [show upd f (mem.getD pl.length 0) (nI p) g = f g from if_neg c, h g hg]
    unfold atN
    rw [len_push]
    have : mem.idxOf g ≠ pl.length := fun e => c (by rw [← e]; exact (get_idx (by omega)).symm)
    by_cases c2 : mem.idxOf g < pl.length
    · rw [if_pos c2, if_pos (by omega), get_push c2]
    · rw [if_neg c2, if_neg (by omega)]
theorem at_pop (hd : mem.Nodup) (hi : pl.length < mem.length) (h : ∀ g, g < 10 → f g = oI (atN mem (pl ++ [p]) g)) : ∀ g, g < 10 → upd f (mem.getD pl.length 0) (-1) g = oI (atN mem pl g) := by
  intro g hg
  by_cases c : g = mem.getD pl.length 0
  · rw [c, show upd f (mem.getD pl.length 0) (-1) (mem.getD pl.length 0) = -1 from if_pos rfl]
    unfold atN
    rw [idx_get hd hi, if_neg (Nat.lt_irrefl _)]
    rfl
  · rw [show upd f (mem.getD pl.length 0) (-1) g = f g from if_neg c, h g hg]
    unfold atN
    rw [len_push]
    have : mem.idxOf g ≠ pl.length := fun e => c (by rw [← e]; exact (get_idx (by omega)).symm)
    by_cases c2 : mem.idxOf g < pl.length
    · rw [if_pos c2, if_pos (by omega), get_push c2]
    · rw [if_neg c2, if_neg (by omega)]
theorem at_n {x a n : Nat} (hl : pl.length ≤ mem.length) (hn : ∀ j, j < pl.length → pl.getD j 0 < n) (h : atN mem pl x = some a) : a < n := by
  obtain ⟨j, h1, -, h3⟩ := atN_lt hl h
  rw [h3]; exact hn j h1
theorem oI_m1 {o : Option Nat} (hb : ∀ a, o = some a → a < 100) (h : oI o = -1) : o = none := by
  cases o with
  | none => rfl
  | some a => exact absurd h (nI_m1 (by have := hb a rfl; omega))
theorem oI_ne {o : Option Nat} (h : ¬ oI o = -1) : ∃ a, o = some a := by
  cases o with
  | none => exact absurd rfl h
  | some a => exact ⟨a, rfl⟩
end ATP
section ON
variable {S : Ab} {q : Nat} {mem pl : List Nat} {g m : Nat} {t : Nat × Nat × Nat} {f : Nat × Nat × Nat → Bool} {T : List (Nat × Nat × Nat)} {k : Nat}
theorem on_f1 (h1 : ¬ t.2.1 = g) (h2 : ¬ t.2.2 = g) : bnOn S q mem pl g t = false := by unfold bnOn; rw [decide_eq_false h1, decide_eq_false h2]; rfl
theorem on_f2 (h : atN mem pl t.2.1 = none) : bnOn S q mem pl g t = false := by unfold bnOn; rw [h]; simp
theorem on_f3 (h : atN mem pl t.2.2 = none) : bnOn S q mem pl g t = false := by unfold bnOn; rw [h]; cases atN mem pl t.2.1 <;> simp
theorem on_f4 {a b : Nat} (ha : atN mem pl t.2.1 = some a) (hb : atN mem pl t.2.2 = some b) (h : whoM S t.1 q 0 a b = 0) : bnOn S q mem pl g t = false := by unfold bnOn; rw [ha, hb]; simp [h]
theorem on_t {a b : Nat} (hg : t.2.1 = g ∨ t.2.2 = g) (ha : atN mem pl t.2.1 = some a) (hb : atN mem pl t.2.2 = some b) (h : ¬ whoM S t.1 q 0 a b = 0) : bnOn S q mem pl g t = true := by unfold bnOn; rw [ha, hb]; simp [h, hg]
theorem bnW_t (hk : k < T.length) (h : f (T.getD k t3) = true) : bnW S f (T.take (k + 1)) = bnW S f (T.take k) + aWt S (T.getD k t3).1 := by rw [bn_take (d := t3) hk, bnW_app, bnW, bnW, if_pos h]; rfl
theorem bnW_f (hk : k < T.length) (h : f (T.getD k t3) = false) : bnW S f (T.take (k + 1)) = bnW S f (T.take k) := by rw [bn_take (d := t3) hk, bnW_app, bnW, bnW, if_neg (by rw [h]; decide)]; rfl
theorem bnM_t (hk : k < T.length) (h : f (T.getD k t3) = true) : bnM S f m (T.take (k + 1)) = max (bnM S f m (T.take k)) (aWt S (T.getD k t3).1) := by rw [bn_take (d := t3) hk, bnM_app1, if_pos h]
theorem bnM_f (hk : k < T.length) (h : f (T.getD k t3) = false) : bnM S f m (T.take (k + 1)) = bnM S f m (T.take k) := by rw [bn_take (d := t3) hk, bnM_app1, if_neg (by rw [h]; decide)]; omega
theorem bnW_b (hO : SOK S) (h : ∀ t ∈ T, t.1 < aRl S) : ∀ k, k ≤ T.length → bnW S f (T.take k) ≤ 9 * k := by
  intro k
  induction k with
  | zero => intro _; exact Nat.le_refl _
  | succ k ih =>
    intro hk
    have h1 := ih (by omega)
    have h2 := (hO.wt (h (T.getD k t3) (by rw [List.getD_eq_getElem?_getD, List.getElem?_eq_getElem (show k < T.length by omega)]; exact List.getElem_mem _)))
    cases c : f (T.getD k t3) with
    | true => rw [bnW_t (by omega) c]; omega
    | false => rw [bnW_f (by omega) c]; omega
theorem bnM_b (hO : SOK S) (h : ∀ t ∈ T, t.1 < aRl S) (hm : m ≤ 9) (k : Nat) : bnM S f m (T.take k) ≤ 9 := by
  rw [bnM_le]
  refine ⟨hm, fun t ht _ => ?_⟩
  have := hO.wt (h t (List.mem_of_mem_take ht))
  omega
theorem bnA_ok (hO : SOK S) (h2 : SO2 S) : ∀ t ∈ bnA S q, t.1 < aRl S ∧ t.2.1 < aN S ∧ t.2.2 < aN S ∧ t.2.1 ≠ t.2.2 := by
  intro t ht
  obtain ⟨r, hr, ht⟩ := List.mem_flatMap.mp ht
  have hr := List.mem_range.mp hr
  unfold bnQ at ht
  split at ht
  · unfold bnC at ht
    obtain ⟨c, hc, rfl⟩ := List.mem_map.mp ht
    have hc2 := cplS_mem.mp (List.mem_of_mem_take (List.mem_filter.mp hc).1)
    have h3 := cplL_lt hO h2 hr hc2.2.2
    exact ⟨hr, h3.1, h3.2, cplL_ne hc2.2.2⟩
  · cases ht
theorem t3_mem (h : k < T.length) : T.getD k t3 ∈ T := by
  rw [List.getD_eq_getElem?_getD, List.getElem?_eq_getElem h]
  exact List.getElem_mem h
theorem bnA_len (S : Ab) (q : Nat) (hO : SOK S) : (bnA S q).length ≤ 1080 := by
  have := bnL_len (S := S) q (aRl S) 0 (Nat.zero_le _)
  have hr := hO.rl
  unfold bnL at this
  rw [bnQ_0, List.append_nil] at this
  unfold bnA
  omega
theorem tk_pop {tk p : Nat} (h : tk.testBit p = false) : (tk ||| 2 ^ p) ^^^ 2 ^ p = tk := by
  apply Nat.eq_of_testBit_eq
  intro i
  rw [Nat.testBit_xor, Nat.testBit_or, Nat.testBit_two_pow]
  by_cases c : p = i
  · rw [← c, h]; simp
  · simp [c]
end ON
/-! the search's cells -/
def SRX (S : Ab) (q : Nat) (K : Nat → ClassId) (ed : Nat) (Ls : Nat → List Nat) (h : Hp) (lb lg tg : Nat) : Prop := (∃ tb jb tbs Lb, AL (K 4) ed h lb tb Lb jb ∧ BNO Ls tbs h Lb (bnA S q) ∧ tb ≠ tg ∧ tbs ≠ tg) ∧ ∃ tc jc, AL (K 4) ed h lg tc (comA Ls S (aN S)) jc ∧ tc ≠ tg
theorem SRX.kp {S : Ab} {q : Nat} {K : Nat → ClassId} {ed : Nat} {Ls : Nat → List Nat} {h h1 : Hp} {lb lg tg : Nat} (x : SRX S q K ed Ls h lb lg tg) (f : frT tg h h1) (o : obK h h1) : SRX S q K ed Ls h1 lb lg tg := by
  obtain ⟨⟨tb, jb, tbs, Lb, h1, h2, h3, h4⟩, tc, jc, h5, h6⟩ := x
  exact ⟨⟨tb, jb, tbs, Lb, h1.keep (fun b e q => f b e _ q h3) o, bno_keep h2 (fun b e q => f b e _ q h4), h3, h4⟩, tc, jc, h5.keep (fun b e q => f b e _ q h6) o, h6⟩
/-- an array of ten ints, by what it says -/
def AR10 (K : Nat → ClassId) (h : Hp) (a tg : Nat) (P : Nat → Int32) : Prop := ∃ f, h a = some (.inl (K 0, 10, .inl f), tg) ∧ ∀ g, g < 10 → f g = P g
