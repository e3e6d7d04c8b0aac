/-! lists: emptied, one taken out -/
set_option maxRecDepth 100000
theorem al_nil {K4 : ClassId} {ed : Nat} {h1 : Hp} {a t d j : Nat} {mcn : Int32} (ha : h1 a = some (.inr (20, [.int mcn, .ref d, .int (nI 0)]), t)) (hj : j ≤ 13) (hd : (j = 0 ∧ d = ed) ∨ (0 < j ∧ ∃ f : Nat → Option Nat, h1 d = some (.inl (K4, gcap j, .inr (.inr (.inr (.inr f)))), t))) : AL K4 ed h1 a t [] j := by
  refine ⟨mcn, d, ha, (fun x q => by cases q), ⟨Nat.zero_le _, hj⟩, ?_⟩
  rcases hd with q | ⟨q, f, hf⟩
  · exact Or.inl q
  · exact Or.inr ⟨q, f, hf, fun i hi => absurd hi (Nat.not_lt_zero _)⟩
theorem ob_1 {h h1 : Hp} {a ci : Nat} {fs : List Value} {t : Nat} (ha : h1 a = some (.inr (ci, fs), t)) (ho : ∀ b, b ≠ a → h1 b = h b) : obK h h1 := by
  intro y hy
  by_cases c1 : y = a
  · subst c1; exact ⟨ci, fs, t, ha⟩
  · obtain ⟨ci2, fs2, u, he⟩ := hy
    exact ⟨ci2, fs2, u, (ho y c1).trans he⟩
theorem fr_1 {h h1 : Hp} {a : Nat} {c0 : va_E} {t : Nat} (ha : h a = some (c0, t)) (ho : ∀ b, b ≠ a → h1 b = h b) : frT t h h1 := by
  intro b e u hb n
  rw [ho b (fun c => by subst c; rw [ha] at hb; cases hb; exact n rfl)]
  exact hb
theorem er_get (L : List Nat) (k i : Nat) : (L.eraseIdx k).getD i 0 = if i < k then L.getD i 0 else L.getD (i + 1) 0 := by
  rw [List.getD_eq_getElem?_getD, List.getElem?_eraseIdx]
  split
  · rw [List.getD_eq_getElem?_getD]
  · rw [List.getD_eq_getElem?_getD]
theorem al_rem {K4 : ClassId} {ed : Nat} {h h1 : Hp} {a t q k : Nat} {L : List Nat} {j : Nat} {mcn : Int32} {g : Nat → Option Nat} (p : PW h h1 a q (.inr (20, [.int mcn, .ref q, .int (nI (L.length - 1))])) (.inl (K4, gcap j, .inr (.inr (.inr (.inr g))))) t) (hk : obK h h1) (hob : ∀ y ∈ L, OBJ h y) (hj : 0 < j ∧ j ≤ 13) (hl : L.length ≤ gcap j) (hkl : k < L.length) (hg : ∀ i, i < L.length - 1 → g i = some (if i < k then L.getD i 0 else L.getD (i + 1) 0)) : AL K4 ed h1 a t (L.eraseIdx k) j := by
  have hle : (L.eraseIdx k).length = L.length - 1 := by rw [List.length_eraseIdx, if_pos hkl]
  refine ⟨mcn, q, ?_, ?_, ⟨by omega, hj.2⟩, Or.inr ⟨hj.1, _, p.2.1, ?_⟩⟩
  · rw [p.1, hle]
  · intro y hy; exact hk y (hob y (List.mem_of_mem_eraseIdx hy))
  · intro i hi; rw [hle] at hi; rw [er_get]; exact hg i hi
theorem clear_fin {K4 : ClassId} {ed : Nat} {h hh : Hp} {a t d j : Nat} {L : List Nat} {mcn : Int32} {f g : Nat → Option Nat} (he : h a = some (.inr (20, [.int mcn, .ref d, .int (nI L.length)]), t)) (hf : h d = some (.inl (K4, gcap j, .inr (.inr (.inr (.inr f)))), t)) (hda : d ≠ a) (ho : ∀ b, b ≠ d → hh b = (hset (hset h a (.inr (20, [.int (mcn + nI 1), .ref d, .int (nI L.length)])) t) a (.inr (20, [.int (mcn + nI 1), .ref d, .int (nI 0)])) t) b) (hg : hh d = some (.inl (K4, gcap j, .inr (.inr (.inr (.inr g)))), t)) (hj : 0 < j) (hj13 : j ≤ 13) : (none : Option Value) = none ∧ AL K4 ed hh a t [] j ∧ frT t h hh ∧ obK h hh := by
  have ha : hh a = some (.inr (20, [.int (mcn + nI 1), .ref d, .int (nI 0)]), t) := (ho a hda.symm).trans (hset_self _ _ _ _)
  have p : PW h hh a d (.inr (20, [.int (mcn + nI 1), .ref d, .int (nI 0)])) (.inl (K4, gcap j, .inr (.inr (.inr (.inr g))))) t := ⟨ha, hg, fun b h1 h2 => (ho b h2).trans ((hset_ne _ _ _ h1).trans (hset_ne _ _ _ h1))⟩
  exact ⟨rfl, al_nil ha hj13 (Or.inr ⟨hj, g, hg⟩), pw_fr p he (Or.inr ⟨_, hf⟩), pw_ob p (fun x u q => by rw [hf] at q; cases q; exact ⟨_, rfl⟩)⟩
theorem pw_r1 {h : Hp} {a q : Nat} {ca cq c0 : va_E} {t : Nat} (n : q ≠ a) : PW h (hset (hset (hset h a c0 t) a ca t) q cq t) a q ca cq t := ⟨(hset_ne _ _ _ n.symm).trans (hset_self _ _ _ _), hset_self _ _ _ _, fun b h1 h2 => (hset_ne _ _ _ h2).trans ((hset_ne _ _ _ h1).trans (hset_ne _ _ _ h1))⟩
theorem pw_r2 {h : Hp} {a q : Nat} {ca cq c0 c1 : va_E} {t : Nat} (n : q ≠ a) : PW h (hset (hset (hset (hset h a c0 t) q c1 t) a ca t) q cq t) a q ca cq t := ⟨(hset_ne _ _ _ n.symm).trans (hset_self _ _ _ _), hset_self _ _ _ _, fun b h1 h2 => (hset_ne _ _ _ h2).trans ((hset_ne _ _ _ h1).trans ((hset_ne _ _ _ h2).trans (hset_ne _ _ _ h1)))⟩
theorem rem_fin {K4 : ClassId} {ed : Nat} {h h1 : Hp} {a t q k : Nat} {L : List Nat} {j : Nat} {mcn : Int32} {f : Nat → Option Nat} {ca0 : va_E} (p : PW h h1 a q (.inr (20, [.int mcn, .ref q, .int (nI (L.length - 1))])) (.inl (K4, gcap j, .inr (.inr (.inr (.inr (va_up (if L.length - 1 > k then va_cpy f f (k + 1) k (L.length - 1 - k) else f) (L.length - 1) none)))))) t) (ha : h a = some (ca0, t)) (hf : h q = some (.inl (K4, gcap j, .inr (.inr (.inr (.inr f)))), t)) (hob : ∀ y ∈ L, OBJ h y) (hj : 0 < j ∧ j ≤ 13) (hl : L.length ≤ gcap j) (hkl : k < L.length) (hfi : ∀ i, i < L.length → f i = some (L.getD i 0)) : some (Value.ref (L.getD k 0)) = some (Value.ref (L.getD k 0)) ∧ AL K4 ed h1 a t (L.eraseIdx k) j ∧ frT t h h1 ∧ obK h h1 := by
  have hk := pw_ob p (fun x u z => by rw [hf] at z; cases z; exact ⟨_, rfl⟩)
  refine ⟨rfl, al_rem p hk hob hj hl hkl (fun i hi => ?_), pw_fr p ha (Or.inr ⟨_, hf⟩), hk⟩
  rw [va_up_ne _ _ (by omega)]
  by_cases c : L.length - 1 > k
  · rw [if_pos c]
    unfold va_cpy
    by_cases c2 : i < k
    · rw [if_neg (by omega), if_pos c2]; exact hfi i (by omega)
    · rw [if_pos (by omega), if_neg c2, show k + 1 + (i - k) = i + 1 by omega]; exact hfi (i + 1) (by omega)
  · rw [if_neg c, if_pos (by omega)]; exact hfi i (by omega)
