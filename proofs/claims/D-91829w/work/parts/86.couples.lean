/-! a rule's couples -/
set_option maxRecDepth 100000
def cpR (kd b1 b2 : Nat) (bu : Option Nat) (x y : Nat) : List (Nat × Nat) := (List.range y).filterMap (fun z => if hldB kd b1 b2 bu x z then some (x, z) else none)
def cpP (kd b1 b2 : Nat) (bu : Option Nat) (x y : Nat) : List (Nat × Nat) := (List.range x).flatMap (fun z => cpR kd b1 b2 bu z 10) ++ cpR kd b1 b2 bu x y
section CPS
variable {kd b1 b2 : Nat} {bu : Option Nat} {x y : Nat}
theorem cpP_t (h : hldB kd b1 b2 bu x y = true) : cpP kd b1 b2 bu x (y + 1) = cpP kd b1 b2 bu x y ++ [(x, y)] := by simp [cpP, cpR, List.range_succ, h]
theorem cpP_f (h : hldB kd b1 b2 bu x y = false) : cpP kd b1 b2 bu x (y + 1) = cpP kd b1 b2 bu x y := by simp [cpP, cpR, List.range_succ, h]
theorem cpP_x : cpP kd b1 b2 bu (x + 1) 0 = cpP kd b1 b2 bu x 10 := by simp [cpP, cpR, List.range_succ]
theorem cpP_0 : cpP kd b1 b2 bu 0 0 = [] := by simp [cpP, cpR]
theorem cpR_len : (cpR kd b1 b2 bu x y).length ≤ y := by
  have := List.length_filterMap_le (fun z => if hldB kd b1 b2 bu x z then some (x, z) else none) (List.range y)
  rw [List.length_range] at this
  exact this
theorem cpP_len : (cpP kd b1 b2 bu x y).length ≤ 10 * x + y := by
  have h2 : ((List.range x).flatMap (fun z => cpR kd b1 b2 bu z 10)).length ≤ 10 * x := by
    induction x with
    | zero => simp
    | succ x ih =>
      rw [List.range_succ, List.flatMap_append, List.length_append]
      have := cpR_len (kd := kd) (b1 := b1) (b2 := b2) (bu := bu) (x := x) (y := 10)
      rw [List.flatMap_cons, List.flatMap_nil, List.append_nil]
      omega
  have h1 := cpR_len (kd := kd) (b1 := b1) (b2 := b2) (bu := bu) (x := x) (y := y)
  unfold cpP
  rw [List.length_append]
  omega
end CPS
/-- the couples P lie at L -/
def CPL (tc : Nat) (h : Hp) (L : List Nat) (P : List (Nat × Nat)) : Prop := L.length = P.length ∧ ∀ i, i < L.length → h (L.getD i 0) = some (.inr (7, [.int (nI (P.getD i (0, 0)).1), .int (nI (P.getD i (0, 0)).2)]), tc)
theorem cpl_keep {tc : Nat} {h h1 : Hp} {L : List Nat} {P : List (Nat × Nat)} (c : CPL tc h L P) (f : ∀ b e, h b = some (e, tc) → h1 b = some (e, tc)) : CPL tc h1 L P := ⟨c.1, fun i hi => f _ _ (c.2 i hi)⟩
theorem cpl_push {tc : Nat} {h : Hp} {L : List Nat} {P : List (Nat × Nat)} {q x y : Nat} (c : CPL tc h L P) (hq : h q = some (.inr (7, [.int (nI x), .int (nI y)]), tc)) : CPL tc h (L ++ [q]) (P ++ [(x, y)]) := by
  refine ⟨by rw [List.length_append, List.length_append, c.1]; rfl, fun i hi => ?_⟩
  rw [len_push] at hi
  by_cases e : i = L.length
  · rw [e, get_last, getD_snoc, if_neg (by have := c.1; omega), if_pos c.1]; exact hq
  · rw [get_push (by omega), getD_snoc, if_pos (by have := c.1; omega)]; exact c.2 i (by omega)
/-- cells of other tags than two are as they were -/
def frO (t tl : Nat) (h h1 : Hp) : Prop := ∀ b e u, h b = some (e, u) → u ≠ t → u ≠ tl → h1 b = some (e, u)
theorem frO.T {t tl : Nat} {h h1 h2 : Hp} (a : frO t tl h h1) (b : frT tl h1 h2) : frO t tl h h2 := fun x e u q n1 n2 => b x e u (a x e u q n1 n2) n2
/-- more cells -/
def exH (h h1 : Hp) : Prop := ∀ b e u, h b = some (e, u) → h1 b = some (e, u)
theorem exH.new {h : Hp} {a : Nat} {e1 : va_E} {u1 : Nat} (he : h a = none) : exH h (hset h a e1 u1) := fun b e u q => by rw [hset_ne _ _ _ (ne_new q he)]; exact q
theorem frO.X {t tl : Nat} {h h1 h2 : Hp} (a : frO t tl h h1) (b : exH h1 h2) : frO t tl h h2 := fun x e u q n1 n2 => b x e u (a x e u q n1 n2)
theorem AL.X {K4 : ClassId} {ed : Nat} {h h1 : Hp} {a t : Nat} {L : List Nat} {j : Nat} (A : AL K4 ed h a t L j) (x : exH h h1) : AL K4 ed h1 a t L j := by
  obtain ⟨mcn, d, he, hob, hlen, hdd⟩ := A
  refine ⟨mcn, d, x _ _ _ he, fun y hy => ?_, hlen, ?_⟩
  · obtain ⟨ci, fs, u, q⟩ := hob y hy; exact ⟨ci, fs, u, x _ _ _ q⟩
  · rcases hdd with q | ⟨q, f, hf, hfi⟩
    · exact Or.inl q
    · exact Or.inr ⟨q, f, x _ _ _ hf, hfi⟩
/-- sides and 'unless' away from two tags -/
def awy (t tl : Nat) (h : Hp) (s1 s2 : Nat) (un : Value) : Prop := ∀ b e u, (b = s1 ∨ b = s2 ∨ un = .ref b) → h b = some (e, u) → u ≠ t ∧ u ≠ tl
theorem side_fr {t tl : Nat} {h h1 : Hp} {s1 s2 w b : Nat} {un : Value} {sa : Nat} (f : frO t tl h h1) (a : awy t tl h s1 s2 un) (hs : sa = s1 ∨ sa = s2) (H : SIDE h sa w b) : SIDE h1 sa w b := by
  rcases H with ⟨nm, f2, f3, f4, f5, u, hsa, hw⟩ | ⟨nm, num, u, hsa, hw⟩
  · have n := a sa _ _ (hs.elim Or.inl (fun q => Or.inr (Or.inl q))) hsa
    exact Or.inl ⟨nm, f2, f3, f4, f5, u, f _ _ _ hsa n.1 n.2, hw⟩
  · have n := a sa _ _ (hs.elim Or.inl (fun q => Or.inr (Or.inl q))) hsa
    exact Or.inr ⟨nm, num, u, f _ _ _ hsa n.1 n.2, hw⟩
theorem unl_fr {t tl : Nat} {h h1 : Hp} {s1 s2 : Nat} {un : Value} {bu : Option Nat} (f : frO t tl h h1) (a : awy t tl h s1 s2 un) (H : UNL h un bu) : UNL h1 un bu := by
  rcases H with q | ⟨ma, nm, num, bits, u, e1, e2, hm, hb⟩
  · exact Or.inl q
  · have n := a ma _ _ (Or.inr (Or.inr e1)) hm
    exact Or.inr ⟨ma, nm, num, bits, u, e1, e2, f _ _ _ hm n.1 n.2, hb⟩
theorem gcap_7 : ∀ j, j ≤ 13 → gcap (j - 1) ≤ 99 → j ≤ 7 := by decide
theorem gsum_7 : ∀ j, j ≤ 7 → gsum j ≤ 311 := by decide
