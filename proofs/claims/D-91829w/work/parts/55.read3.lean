/-! THE READER in the model: what is read goes on -/
set_option maxRecDepth 100000
theorem jset_in (J : Nat → Nat → Int64) (k i j : Nat) (x : Int64) : jset J k i x k j = if j = i then x else J k j := by simp [jset, va_up, vp_updL]
theorem jset_off (J : Nat → Nat → Int64) {k i k' : Nat} (x : Int64) (h : k' ≠ k) : jset J k i x k' = J k' := by simp [jset, va_up, h]
/-- the cells that hold what is read -/
theorem drR.cg {D : Dr} {V V' : Nat → Nat → Int32} {J : Nat → Nat → Int64} (h : drR D V J) (hk : ∀ k, k ∈ [10, 13, 16, 19, 22, 25, 28, 29, 30, 31] → V' k = V k) : drR D V' J := by
  unfold drR at h ⊢
  rw [hk 10 (by decide), hk 13 (by decide), hk 16 (by decide), hk 19 (by decide), hk 22 (by decide), hk 25 (by decide), hk 28 (by decide), hk 29 (by decide), hk 30 (by decide), hk 31 (by decide)]
  exact h
theorem getD_snoc {α : Type} (L : List α) (x d : α) (k : Nat) : (L ++ [x]).getD k d = if k < L.length then L.getD k d else if k = L.length then x else d := by
  rw [List.getD_eq_getElem?_getD, List.getD_eq_getElem?_getD]
  by_cases c : k < L.length
  · rw [if_pos c, List.getElem?_append_left c]
  · rw [if_neg c]
    by_cases e : k = L.length
    · rw [if_pos e, e]; simp
    · rw [if_neg e, List.getElem?_eq_none (by simp; omega)]; rfl
theorem drR_G {D : Dr} {V : Nat → Nat → Int32} {J : Nat → Nat → Int64} (h : drR D V J) (L : List Int32) : drR (addG D L) (vset V 29 1 (nI (D.1.length + 1))) (jset J 4 D.1.length (codeL L)) := by
  obtain ⟨⟨a1, a2, a3⟩, b, c, d⟩ := h
  refine ⟨⟨?_, ?_, ?_⟩, fun k hk => ?_, fun k hk => ?_, fun k hk => ?_⟩
  · rw [vset_self]; show _ = nI (D.1 ++ [L]).length; rw [List.length_append]; rfl
  · rw [vset_off _ _ (by decide)]; exact a2
  · rw [vset_off _ _ (by decide)]; exact a3
  · have hk : k < (D.1 ++ [L]).length := hk
    rw [List.length_append] at hk
    have hk : k < D.1.length + 1 := hk
    show _ = codeL ((D.1 ++ [L]).getD k [])
    rw [jset_in, getD_snoc]
    by_cases e : k = D.1.length
    · rw [if_pos e, if_neg (by omega), if_pos e]
    · rw [if_neg e, if_pos (by omega)]; exact b k (by omega)
  · rw [jset_off _ _ (by decide), vset_off _ _ (by decide)]; exact c k hk
  · simp only [vset_off V _ (show 13 ≠ 29 by decide), vset_off V _ (show 16 ≠ 29 by decide), vset_off V _ (show 19 ≠ 29 by decide), vset_off V _ (show 22 ≠ 29 by decide), vset_off V _ (show 25 ≠ 29 by decide), vset_off V _ (show 28 ≠ 29 by decide)]
    exact d k hk
/-- a mark, whose cells are written ahead -/
theorem drR_M {D : Dr} {V V' : Nat → Nat → Int32} {J J' : Nat → Nat → Int64} (h : drR D V J) (L : List Int32) (b : Nat) (hk : ∀ k, k ∈ [13, 16, 19, 22, 25, 28, 29, 31] → V' k = V k) (h10 : ∀ k, k < D.2.1.length → V' 10 k = V 10 k) (e10 : V' 10 D.2.1.length = nI b) (e30 : V' 30 1 = nI (D.2.1.length + 1)) (hJ : J' = jset J 7 D.2.1.length (codeL L)) : drR (addM D L b) V' J' := by
  obtain ⟨⟨a1, a2, a3⟩, g, c, d⟩ := h
  subst hJ
  refine ⟨⟨?_, ?_, ?_⟩, fun k hk => ?_, fun k hk => ?_, fun k hk2 => ?_⟩
  · rw [hk 29 (by decide)]; exact a1
  · rw [e30]; show _ = nI (D.2.1 ++ [(L, b)]).length; rw [List.length_append]; rfl
  · rw [hk 31 (by decide)]; exact a3
  · rw [jset_off _ _ (by decide)]; exact g k hk
  · have hk : k < (D.2.1 ++ [(L, b)]).length := hk
    rw [List.length_append] at hk
    have hk : k < D.2.1.length + 1 := hk
    show _ = codeL ((D.2.1 ++ [(L, b)]).getD k ([], 0)).1 ∧ _ = nI ((D.2.1 ++ [(L, b)]).getD k ([], 0)).2
    rw [jset_in, getD_snoc]
    by_cases e : k = D.2.1.length
    · rw [if_pos e, if_neg (by omega), if_pos e, e]; exact ⟨rfl, e10⟩
    · rw [if_neg e, if_pos (by omega), h10 k (by omega)]; exact c k (by omega)
  · rw [hk 13 (by decide), hk 16 (by decide), hk 19 (by decide), hk 22 (by decide), hk 25 (by decide), hk 28 (by decide)]; exact d k hk2
/-- a rule, whose cells are written ahead -/
theorem drR_R {D : Dr} {V V' : Nat → Nat → Int32} {J : Nat → Nat → Int64} (h : drR D V J) (r : Rl) (hk : ∀ k, k ∈ [10, 29, 30] → V' k = V k) (ho : ∀ k, k ∈ [13, 16, 19, 22, 25, 28] → ∀ i, i < D.2.2.length → V' k i = V k i) (e : V' 13 D.2.2.length = nI r.1 ∧ V' 16 D.2.2.length = nI r.2.1 ∧ V' 19 D.2.2.length = nI r.2.2.1 ∧ V' 22 D.2.2.length = nI r.2.2.2.1 ∧ V' 25 D.2.2.length = r.2.2.2.2.1 ∧ V' 28 D.2.2.length = r.2.2.2.2.2) (e31 : V' 31 1 = nI (D.2.2.length + 1)) : drR (addR D r) V' J := by
  obtain ⟨⟨a1, a2, a3⟩, g, c, d⟩ := h
  refine ⟨⟨?_, ?_, ?_⟩, g, fun k hk2 => ?_, fun k hk2 => ?_⟩
  · rw [hk 29 (by decide)]; exact a1
  · rw [hk 30 (by decide)]; exact a2
  · rw [e31]; show _ = nI (D.2.2 ++ [r]).length; rw [List.length_append]; rfl
  · rw [hk 10 (by decide)]; exact c k hk2
  · have hk2 : k < (D.2.2 ++ [r]).length := hk2
    rw [List.length_append] at hk2
    have hk2 : k < D.2.2.length + 1 := hk2
    show _ = nI ((D.2.2 ++ [r]).getD k (0, 0, 0, 0, 0, 0)).1 ∧ _ = nI ((D.2.2 ++ [r]).getD k (0, 0, 0, 0, 0, 0)).2.1 ∧ _ = nI ((D.2.2 ++ [r]).getD k (0, 0, 0, 0, 0, 0)).2.2.1 ∧ _ = nI ((D.2.2 ++ [r]).getD k (0, 0, 0, 0, 0, 0)).2.2.2.1 ∧ _ = ((D.2.2 ++ [r]).getD k (0, 0, 0, 0, 0, 0)).2.2.2.2.1 ∧ _ = ((D.2.2 ++ [r]).getD k (0, 0, 0, 0, 0, 0)).2.2.2.2.2
    rw [getD_snoc]
    by_cases c2 : k = D.2.2.length
    · rw [if_neg (by omega), if_pos c2, c2]; exact e
    · rw [if_pos (by omega), ho 13 (by decide) k (by omega), ho 16 (by decide) k (by omega), ho 19 (by decide) k (by omega), ho 22 (by decide) k (by omega), ho 25 (by decide) k (by omega), ho 28 (by decide) k (by omega)]; exact d k (by omega)
theorem getD_memL {L : List (List Int32)} {i : Nat} (h : i < L.length) : L.getD i [] ∈ L := by
  rw [List.getD_eq_getElem?_getD, List.getElem?_eq_getElem h]
  exact List.getElem_mem h
theorem mkN_nm {D : Dr} (h : drOK D) {k : Nat} (hk : k < D.2.1.length) : nmOK ((mkN D).getD k []) := by
  have hm := getD_memL (L := mkN D) (i := k) (by rw [mkN_len]; exact hk)
  unfold mkN at hm
  obtain ⟨x, hx, e⟩ := List.mem_map.mp hm
  unfold mkN
  rw [← e]
  exact (h.2.2.1 x hx).1
theorem new_some {D : Dr} {o : Option (List Int32)} (h : newB D o = true) : o.isSome = true := by
  cases o with
  | none => cases h
  | some L => rfl
theorem xk_cl {α : Type} (r : Except Nat Tk) (f : Tk → α) : some (Value.int (zI (xk r))) = some (Value.int (zI (xk (xb r (fun t => .ok (f t)))))) := by cases r <;> rfl
theorem rdE_cl {S : Ab} {r : Except Nat Tk} {D : Dr} {P : Nat → Int32} {U : Nat → Nat → Int32} {W : Nat → Nat → Int64} (h : rdO S r P) (hD : drR D U W) (hO : drOK D) : rdE S (xb r (fun t => .ok (t, D))) P U W := by
  cases r with
  | error a => exact h
  | ok t => exact ⟨h, hD, hO⟩
