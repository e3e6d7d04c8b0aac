/-! what the searches answer -/
set_option maxRecDepth 100000
def zL (S : Ab) (q : Nat) : LsZ := srF S q (aRp S q) (comP S (aN S)) ok1 lfL (comP S (aN S)).length [] 0 0 none
def zM (S : Ab) (q : Nat) : MlZ := srF S q (aRp S q) (comP S (aN S)) ok1 lfM (comP S (aN S)).length [] 0 0 none
def zD (S : Ab) (q : Nat) (lim : Int32) : MdZ := srF S q (aRp S q) (comP S (aN S)) (seOk S q (comP S (aN S)) true) (lfD S q (comP S (aN S)) lim) (comP S (aN S)).length [] 0 0 none
theorem ask_t {S : Ab} (hO : SOK S) {room : Int32} (h : askB S room = true) : ∃ q, q < aRm S ∧ room = nI q ∧ (comP S (aN S)).length ≤ 7 ∧ aRp S q ≤ 8 ∧ (comP S (aN S)).length ≤ aRp S q := by
  have h0 := h
  unfold askB at h
  rw [Bool.and_eq_true] at h
  obtain ⟨q, hq, rfl⟩ := inN_t h.1
  have hm := hO.rm
  have h2 := h.2
  rw [nI_clamp (by omega)] at h2
  simp only [Bool.and_eq_true, decide_eq_true_eq] at h2
  exact ⟨q, hq, rfl, h2.1, h2.2.1, h2.2.2⟩
section SE
variable {S : Ab} {q g : Nat}
theorem se_L (hq : q < 2 ^ 31) : (seAll S (nI q) false 0).1 = zL S q := by
  unfold seAll zL
  rw [nI_clamp hq]
  exact srF_hom (leaf' := lfL) (fun z : SeZ => z.1) (fun z pl w m => rfl) _ _ _ _ _
theorem se_M (hq : q < 2 ^ 31) : (seAll S (nI q) false 0).2.1 = zM S q := by
  unfold seAll zM
  rw [nI_clamp hq]
  exact srF_hom (leaf' := lfM) (fun z : SeZ => z.2.1) (fun z pl w m => rfl) _ _ _ _ _
theorem se_D (hq : q < 2 ^ 31) (lim : Int32) : (seAll S (nI q) true lim).2.2 = zD S q lim := by
  unfold seAll zD
  rw [nI_clamp hq]
  exact srF_hom (leaf' := lfD S q (comP S (aN S)) lim) (fun z : SeZ => z.2.2) (fun z pl w m => rfl) _ _ _ _ _
theorem zL_ex (hq : q < 2 ^ 31) (ha : askB S (nI q) = true) : ∃ b L, zL S q = some (b, L) := by rw [← se_L hq]; exact (seAll_ex ha 0).1
theorem zM_ex (hq : q < 2 ^ 31) (ha : askB S (nI q) = true) : ∃ b a L, zM S q = some (b, a, L) := by rw [← se_M hq]; exact (seAll_ex ha 0).2
theorem spLeast_a {k : Nat} (hk : k < 4) (hq : q < 2 ^ 31) (ha : askB S (nI q) = true) : spLeast S (nI q) (nI k) = if k = 0 then nI (lsBst (zL S q)) else if k = 1 then nI (lsMny (zL S q)) else if k = 2 then nI (mlBst (zM S q)) else nI (mlHvy (zM S q)) := by
  obtain ⟨b, L, e1⟩ := zL_ex hq ha
  obtain ⟨b2, a2, L2, e2⟩ := zM_ex hq ha
  unfold spLeast
  rw [inN_nI (by omega), decide_eq_true hk, ha, if_pos (by decide), se_L hq, se_M hq, e1, e2]
  have h4 : k = 0 ∨ k = 1 ∨ k = 2 ∨ k = 3 := by omega
  rcases h4 with rfl | rfl | rfl | rfl <;> rfl
theorem idx_com (hg : g < aN S) (hc : aCm S g = true) : (comP S (aN S)).idxOf g < (comP S (aN S)).length := idx_lt (comP_mem.mpr ⟨hg, hc⟩)
theorem at_com {L : List Nat} (hg : g < aN S) (hc : aCm S g = true) (hl : L.length = (comP S (aN S)).length) : oI (atN (comP S (aN S)) L g) = nI (L.getD ((comP S (aN S)).idxOf g) 0) := by
  unfold atN
  rw [if_pos (by rw [hl]; exact idx_com hg hc)]
  rfl
theorem head_len {mem : List Nat} {b : Nat} {L : List (List Nat)} (h : lsOK mem (some (b, L))) : (L.headD []).length = mem.length ∧ ∀ i, (L.headD []).getD i 0 < 8 := by
  have h2 := h.2 b L rfl
  cases L with
  | nil => exact absurd rfl h2.1
  | cons x t => exact h2.2 x (List.mem_cons_self ..)
theorem spBest_f (hn : aN S ≤ 10) (hg : g < aN S) (hc : aCm S g = true) (hq : q < 2 ^ 31) (ha : askB S (nI q) = true) (hok : lsOK (comP S (aN S)) (zL S q)) : spBest S (nI q) (nI g) false = lsFst (comP S (aN S)) (zL S q) g := by
  obtain ⟨b, L, e1⟩ := zL_ex hq ha
  rw [e1] at hok ⊢
  unfold spBest
  rw [inN_nI (by omega), decide_eq_true hg, nI_clamp (by omega), hc, ha, if_pos (by decide), if_neg (by decide), se_L hq, e1]
  exact (at_com hg hc (head_len hok).1).symm
theorem spBest_t (hn : aN S ≤ 10) (hg : g < aN S) (hc : aCm S g = true) (hq : q < 2 ^ 31) (ha : askB S (nI q) = true) (hok : mlOK (comP S (aN S)) (zM S q)) : spBest S (nI q) (nI g) true = mlFst (comP S (aN S)) (zM S q) g := by
  obtain ⟨b, a, L, e1⟩ := zM_ex hq ha
  rw [e1] at hok ⊢
  unfold spBest
  rw [inN_nI (by omega), decide_eq_true hg, nI_clamp (by omega), hc, ha, if_pos (by decide), if_pos rfl, se_M hq, e1]
  exact (at_com hg hc (hok.2 b a L rfl)).symm
/-! must -/
theorem cntN_two {f : Nat → Bool} {a b : Nat} (hab : a < b) (ha : f a = true) (hb : f b = true) : ∀ n, b < n → 2 ≤ cntN f n := by
  have h1 : ∀ n, a < n → 1 ≤ cntN f n := by
    intro n
    induction n with
    | zero => intro h; omega
    | succ n ih =>
      intro h
      unfold cntN
      by_cases e : a = n
      · rw [← e, if_pos ha]; omega
      · have := ih (by omega); omega
  intro n
  induction n with
  | zero => intro h; omega
  | succ n ih =>
    intro h
    unfold cntN
    by_cases e : b = n
    · have := h1 n (by omega); rw [← e, if_pos hb, e]; omega
    · have := ih (by omega); omega
theorem pop_pw : ∀ a, a < 8 → popN (2 ^ a) = 1 ∧ ntzN (2 ^ a) = a := by decide +kernel
theorem pop_0 : popN 0 = 0 := by decide +kernel
theorem plB_any {mem : List Nat} {b : Nat} {L : List (List Nat)} (hok : lsOK mem (some (b, L))) {g : Nat} (hi : mem.idxOf g < mem.length) (p : Nat) : plB mem L g p = L.any (fun l => decide (l.getD (mem.idxOf g) 0 = p)) := by
  have h2 := (hok.2 b L rfl).2
  unfold plB
  rw [Bool.eq_iff_iff, List.any_eq_true, List.any_eq_true]
  constructor
  · intro ⟨l, hl, h⟩; exact ⟨l, hl, (Bool.and_eq_true_iff.mp h).2⟩
  · intro ⟨l, hl, h⟩; exact ⟨l, hl, by rw [(h2 l hl).1, decide_eq_true hi, h]; rfl⟩
theorem must_c {mem : List Nat} {b : Nat} {L : List (List Nat)} (hok : lsOK mem (some (b, L))) {g : Nat} (hi : mem.idxOf g < mem.length) : (popN (ofB (plB mem L g) 8) = 1 ∧ smI L (mem.idxOf g) = nI (ntzN (ofB (plB mem L g) 8))) ∨ (popN (ofB (plB mem L g) 8) ≠ 1 ∧ smI L (mem.idxOf g) = -1) := by
  have h8 := (head_len hok).2 (mem.idxOf g)
  have hne := (hok.2 b L rfl).1
  have hl8 := (hok.2 b L rfl).2
  have hmem : L.headD [] ∈ L := by
    cases L with
    | nil => exact absurd rfl hne
    | cons x t => exact List.mem_cons_self ..
  by_cases c : L.all (fun l => decide (l.getD (mem.idxOf g) 0 = (L.headD []).getD (mem.idxOf g) 0)) = true
  · left
    have e : ofB (plB mem L g) 8 = 2 ^ (L.headD []).getD (mem.idxOf g) 0 := by
      apply Nat.eq_of_testBit_eq
      intro u
      rw [ofB_bit, Nat.testBit_two_pow, plB_any hok hi]
      by_cases e : (L.headD []).getD (mem.idxOf g) 0 = u
      · rw [← e, decide_eq_true h8, decide_eq_true (Eq.refl _), Bool.true_and, List.any_eq_true]
        exact ⟨_, hmem, decide_eq_true rfl⟩
      · rw [decide_eq_false e, Bool.and_eq_false_iff]
        right
        rw [List.any_eq_false]
        intro l hl h
        have h1 := of_decide_eq_true (List.all_eq_true.mp c l hl)
        exact e (h1 ▸ of_decide_eq_true h)
    rw [e]
    refine ⟨(pop_pw _ h8).1, ?_⟩
    rw [(pop_pw _ h8).2]
    exact if_pos c
  · right
    refine ⟨?_, if_neg c⟩
    have c2 : ∃ l ∈ L, l.getD (mem.idxOf g) 0 ≠ (L.headD []).getD (mem.idxOf g) 0 := by
      rw [List.all_eq_true] at c
      refine Classical.byContradiction (fun n => c (fun l hl => decide_eq_true ?_))
      exact Classical.byContradiction (fun n2 => n ⟨l, hl, n2⟩)
    obtain ⟨l, hl, hd⟩ := c2
    have h9 := (hl8 l hl).2 (mem.idxOf g)
    rw [pop_ofB _ (by decide)]
    have fa : ∀ l, l ∈ L → plB mem L g (l.getD (mem.idxOf g) 0) = true := fun l hl => by rw [plB_any hok hi, List.any_eq_true]; exact ⟨l, hl, decide_eq_true rfl⟩
    have f1 := fa _ hmem
    have f2 := fa _ hl
    rcases Nat.lt_or_ge (l.getD (mem.idxOf g) 0) ((L.headD []).getD (mem.idxOf g) 0) with z | z
    · have := cntN_two z f2 f1 8 h8; omega
    · have := cntN_two (show (L.headD []).getD (mem.idxOf g) 0 < l.getD (mem.idxOf g) 0 by omega) f1 f2 8 h9; omega
theorem lsPl_lt (mem : List Nat) (z : LsZ) (g : Nat) : lsPl mem z g < 256 := by
  cases z with
  | none => show 0 < 256; decide
  | some z => obtain ⟨b, L⟩ := z; exact bit_lt (m := 8) (fun i hi => by rw [show lsPl mem (some (b, L)) g = ofB (plB mem L g) 8 from rfl, ofB_bit, Bool.and_eq_true] at hi; exact of_decide_eq_true hi.1)
theorem spMust_c (hn : aN S ≤ 10) (hg : g < aN S) (hc : aCm S g = true) (hq : q < 2 ^ 31) (ha : askB S (nI q) = true) (hok : lsOK (comP S (aN S)) (zL S q)) : (popN (lsPl (comP S (aN S)) (zL S q) g) = 1 → spMust S (nI q) (nI g) = nI (ntzN (lsPl (comP S (aN S)) (zL S q) g))) ∧ (popN (lsPl (comP S (aN S)) (zL S q) g) ≠ 1 → spMust S (nI q) (nI g) = -1) := by
  obtain ⟨b, L, e1⟩ := zL_ex hq ha
  rw [e1] at hok ⊢
  have e2 : spMust S (nI q) (nI g) = smI L ((comP S (aN S)).idxOf g) := by
    unfold spMust
    rw [inN_nI (by omega), decide_eq_true hg, nI_clamp (by omega), hc, ha, if_pos (by decide), se_L hq, e1]
    rfl
  rw [e2]
  rcases must_c hok (idx_com hg hc) with z | z
  · exact ⟨fun _ => z.2, fun n => absurd z.1 n⟩
  · exact ⟨fun n => absurd n z.1, fun _ => z.2⟩
theorem pop_ne0 {x : Nat} (h : popN x = 1) : x ≠ 0 := fun e => by rw [e, pop_0] at h; cases h
/-! free -/
theorem cnt_sm (f : Nat → Bool) : ∀ n, cntN f n = smN (fun i => if f i then 1 else 0) n := by
  intro n
  induction n with
  | zero => rfl
  | succ n ih => rw [cntN, smN, ih]
theorem spFree_c {p : Nat} (hp : p < aRp S q) (hp8 : aRp S q ≤ 8) (hq : q < 2 ^ 31) (ha : askB S (nI q) = true) (hok : lsOK (comP S (aN S)) (zL S q)) : spFree S (nI q) (nI p) = nI (cntN (fun g => (lsPl (comP S (aN S)) (zL S q) g).testBit p) (aN S)) := by
  obtain ⟨b, L, e1⟩ := zL_ex hq ha
  rw [e1] at hok ⊢
  unfold spFree
  rw [ha, nI_clamp hq, inN_nI (by omega), decide_eq_true hp, if_pos (by decide), se_L hq, e1, nI_clamp (by omega)]
  congr 1
  have e3 : ∀ g, (lsPl (comP S (aN S)) (some (b, L)) g).testBit p = plB (comP S (aN S)) L g p := fun g => by
    show (ofB (plB (comP S (aN S)) L g) 8).testBit p = _
    rw [ofB_bit, decide_eq_true (show p < 8 by omega), Bool.true_and]
  rw [cnt_sm, cnt_sm]
  have e4 : smN (fun g => if (lsPl (comP S (aN S)) (some (b, L)) g).testBit p then 1 else 0) (aN S) = smN (fun g => if g ∈ comP S (aN S) then (if plB (comP S (aN S)) L g p then 1 else 0) else 0) (aN S) := by
    apply smN_cg
    intro g _
    rw [e3]
    by_cases c : g ∈ comP S (aN S)
    · rw [if_pos c]
    · rw [if_neg c, if_neg]
      intro h
      unfold plB at h
      obtain ⟨l, hl, h⟩ := List.any_eq_true.mp h
      have h1 := of_decide_eq_true (Bool.and_eq_true_iff.mp h).1
      rw [((hok.2 b L rfl).2 l hl).1] at h1
      exact c (List.idxOf_lt_length_iff.mp h1)
  rw [e4, smN_mem (G := fun g => if plB (comP S (aN S)) L g p then 1 else 0) (comP_nodup S (aN S)) (fun x hx => (comP_mem.mp hx).1)]
  apply smN_cg
  intro i hi
  show (if L.any _ then 1 else 0) = _
  rw [plB_any hok (by rw [idx_get (comP_nodup S (aN S)) hi]; exact hi), idx_get (comP_nodup S (aN S)) hi]
/-! mended -/
theorem zD_b (lim : Int32) {b : Nat} {L : List Nat} (h : zD S q lim = some (b, L)) : b ≤ (comP S (aN S)).length := by
  have key : (fun z : MdZ => ∀ b L, z = some (b, L) → b ≤ (comP S (aN S)).length) (zD S q lim) := by
    refine srF_keep (P := fun z : MdZ => ∀ b L, z = some (b, L) → b ≤ (comP S (aN S)).length) (fun z pl w m hz => ?_) _ _ _ _ _ (fun b L e => by cases e)
    intro b L e
    have hm : mvN S q (comP S (aN S)) pl (comP S (aN S)).length ≤ (comP S (aN S)).length := cntN_le _ _
    change mdU S q (comP S (aN S)) lim z pl w = some (b, L) at e
    unfold mdU at e
    split at e
    · exact hz b L e
    · cases z with
      | none => cases e; exact hm
      | some z =>
        obtain ⟨b2, L2⟩ := z
        dsimp only at e
        split at e
        · cases e; exact hm
        · exact hz b L e
  exact key b L h
theorem spMended_c {lim : Int32} (hq : q < 2 ^ 31) (ha : askB S (nI q) = true) (hm7 : (comP S (aN S)).length ≤ 7) (hok : mdOK (comP S (aN S)) (zD S q lim)) : (mdFew (zD S q lim) = 1000000 → ∀ g9, (decide (g9 = -1) || (inN g9 (aN S) && aCm S g9.toNatClampNeg)) = true → spMended S (nI q) lim g9 = -1) ∧ (mdFew (zD S q lim) ≠ 1000000 → spMended S (nI q) lim (-1) = nI (mdFew (zD S q lim))) ∧ (mdFew (zD S q lim) ≠ 1000000 → aN S ≤ 10 → ∀ g, g < aN S → aCm S g = true → spMended S (nI q) lim (nI g) = mdFst (comP S (aN S)) (zD S q lim) g) := by
  refine ⟨fun e g9 hg9 => ?_, fun e => ?_, fun e hn g hg hc => ?_⟩
  · unfold spMended
    rw [hg9, ha, if_pos (by decide), se_D hq]
    cases z : zD S q lim with
    | none => rfl
    | some y => obtain ⟨b, L⟩ := y; have := zD_b lim z; rw [z] at e; have e2 : b = 1000000 := e; omega
  · unfold spMended
    rw [show (decide ((-1 : Int32) = -1) || (inN (-1) (aN S) && aCm S (-1 : Int32).toNatClampNeg)) = true by simp, ha, if_pos (by decide), se_D hq]
    cases z : zD S q lim with
    | none => rw [z] at e; exact absurd rfl e
    | some y => obtain ⟨b, L⟩ := y; exact if_pos rfl
  · unfold spMended
    rw [inN_nI (by omega), decide_eq_true hg, nI_clamp (by omega), hc, ha, if_pos (by simp), se_D hq]
    cases z : zD S q lim with
    | none => rw [z] at e; exact absurd rfl e
    | some y =>
      obtain ⟨b, L⟩ := y
      rw [z] at hok
      show (if nI g = -1 then nI b else _) = _
      rw [if_neg (nI_m1 (by omega))]
      exact (at_com hg hc (hok.2 b L rfl)).symm
end SE
