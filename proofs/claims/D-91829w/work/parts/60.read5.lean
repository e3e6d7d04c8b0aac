/-! THE READER in the model: all lines; a new house -/
set_option maxRecDepth 100000
def xget {α : Type} (r : Except Nat α) (d : α) : α := match r with
  | .error _ => d
  | .ok x => x
theorem rd_on {S : Ab} {f : Nat} {x : Tk × Dr} {P : Nat → Int32} {U : Nat → Nat → Int32} {W : Nat → Nat → Int64} (hx : tkOK S x.1) (hDO : drOK x.2) (hlt : x.1.1 < aSz S) (hax : rdAll S = rdA S f x) (hfx : aSz S < f + x.1.1) (re : rdE S (rdL S x.2 x.1) P U W) (q : xk (rdL S x.2 x.1) = true) :
    rdP S (xget (rdL S x.2 x.1) x).1 P ∧ drR (xget (rdL S x.2 x.1) x).2 U W ∧ drOK (xget (rdL S x.2 x.1) x).2 ∧ rdAll S = rdA S (f - 1) (xget (rdL S x.2 x.1) x) ∧ aSz S < f - 1 + (xget (rdL S x.2 x.1) x).1.1 := by
  obtain ⟨y, ey⟩ := xk_t q
  have h1 := rdL_ok hx hDO hlt ey
  rw [ey] at re ⊢
  obtain ⟨k, rfl⟩ : ∃ k, f = k + 1 := ⟨f - 1, by omega⟩
  unfold rdA at hax
  rw [if_pos hlt, ey, xb_ok] at hax
  exact ⟨re.1, re.2.1, re.2.2, hax, by show aSz S < k + 1 - 1 + y.1.1; omega⟩
theorem rd_of {S : Ab} {f : Nat} {x : Tk × Dr} {P : Nat → Int32} {U : Nat → Nat → Int32} {W : Nat → Nat → Int64} (hx : tkOK S x.1) (hlt : x.1.1 < aSz S) (hax : rdAll S = rdA S f x) (hfx : aSz S < f + x.1.1) (re : rdE S (rdL S x.2 x.1) P U W) (q : xk (rdL S x.2 x.1) = false) : ∃ a, rdAll S = .error a ∧ P 4 = nI a ∧ a ≤ aSz S := by
  obtain ⟨a, ea⟩ := xk_f q
  rw [ea] at re
  obtain ⟨k, rfl⟩ : ∃ k, f = k + 1 := ⟨f - 1, by have := hx.1; omega⟩
  unfold rdA at hax
  rw [if_pos hlt, ea, xb_er] at hax
  exact ⟨a, hax, re⟩
theorem rd_dec {S : Ab} {x : Tk × Dr} (hx : tkOK S x.1) (hDO : drOK x.2) (hlt : x.1.1 < aSz S) : (if xk (rdL S x.2 x.1) = true then aSz S + 1 - (xget (rdL S x.2 x.1) x).1.1 else 0) < (if true = true then aSz S + 1 - x.1.1 else 0) := by
  rw [if_pos rfl]
  split
  · rename_i q
    obtain ⟨y, ey⟩ := xk_t q
    have h1 := (rdL_ok hx hDO hlt ey).2.2
    rw [ey]
    show aSz S + 1 - y.1.1 < _
    omega
  · omega
theorem rdA_end {S : Ab} {f : Nat} {x : Tk × Dr} (hf : 0 < f) (h : ¬ x.1.1 < aSz S) : rdA S f x = .ok x := by
  obtain ⟨k, rfl⟩ : ∃ k, f = k + 1 := ⟨f - 1, by omega⟩
  unfold rdA
  exact if_neg h
/-- what is read, if it can stand -/
def okC (S : Ab) : Option Dr := match rdAll S with
  | .error _ => none
  | .ok y => if y.2.1.length = 0 then none else some y.2
theorem okC_ok {S : Ab} {D : Dr} (h : okC S = some D) : drOK D ∧ D.1.length ≠ 0 := by
  unfold okC at h
  cases e : rdAll S with
  | error a => rw [e] at h; cases h
  | ok y =>
    rw [e] at h
    dsimp only at h
    split at h
    · cases h
    · cases h; exact ⟨rdAll_ok e, by assumption⟩
/-- how the reading ends -/
def rdFin (S : Ab) (P : Nat → Int32) (U : Nat → Nat → Int32) (W : Nat → Nat → Int64) : Prop := P 4 = spFault S ∧ (spFault S = -1 ↔ (okC S).isSome = true) ∧ ∀ D, okC S = some D → drR D U W
theorem fin_err {S : Ab} {P : Nat → Int32} {U : Nat → Nat → Int32} {W : Nat → Nat → Int64} {a : Nat} (hsz : aSz S ≤ 700) (h : rdAll S = .error a) (h4 : P 4 = nI a) (ha : a ≤ aSz S) : rdFin S P U W := by
  have e1 : spFault S = nI a := by unfold spFault; rw [h]
  have e2 : okC S = none := by unfold okC; rw [h]
  refine ⟨h4.trans e1.symm, ?_, fun D hD => by rw [e2] at hD; cases hD⟩
  rw [e1, e2]
  exact ⟨fun q => absurd q (nI_m1 (by omega)), fun q => by cases q⟩
theorem fin_no {S : Ab} {P : Nat → Int32} {U : Nat → Nat → Int32} {W : Nat → Nat → Int64} {x : Tk × Dr} (hsz : aSz S ≤ 700) (h : rdAll S = .ok x) (h0 : x.2.1.length = 0) (h4 : P 4 = nI (aSz S)) : rdFin S P U W := by
  have e1 : spFault S = nI (aSz S) := by unfold spFault; rw [h]; exact if_pos h0
  have e2 : okC S = none := by unfold okC; rw [h]; exact if_pos h0
  refine ⟨h4.trans e1.symm, ?_, fun D hD => by rw [e2] at hD; cases hD⟩
  rw [e1, e2]
  exact ⟨fun q => absurd q (nI_m1 (by omega)), fun q => by cases q⟩
theorem fin_ok {S : Ab} {P : Nat → Int32} {U : Nat → Nat → Int32} {W : Nat → Nat → Int64} {x : Tk × Dr} (h : rdAll S = .ok x) (h0 : x.2.1.length ≠ 0) (h4 : P 4 = -1) (hD : drR x.2 U W) : rdFin S P U W := by
  have e1 : spFault S = -1 := by unfold spFault; rw [h]; exact if_neg h0
  have e2 : okC S = some x.2 := by unfold okC; rw [h]; exact if_neg h0
  refine ⟨h4.trans e1.symm, ?_, fun D hD2 => by rw [e2] at hD2; cases hD2; exact hD⟩
  rw [e1, e2]
  exact ⟨fun _ => rfl, fun _ => rfl⟩
def rl0 : Rl := (0, 0, 0, 0, 0, 0)
/-- a new house -/
def ctS (S : Ab) (D : Dr) : Ab :=
  (fun i => if i = 0 then D.1.length else if i = 1 then D.2.1.length else if i = 2 then D.2.2.length else if i = 3 then aRm S else 0,
   fun i k => if i = 0 then (D.2.1.getD k ([], 0)).2 else if i = 1 then (D.2.2.getD k rl0).1 else if i = 2 then (D.2.2.getD k rl0).2.1 else if i = 3 then (D.2.2.getD k rl0).2.2.1 else if i = 4 then (D.2.2.getD k rl0).2.2.2.1 else if i = 5 then aRk S k else aRp S k,
   fun i _ => decide (i = 1),
   fun i k => if i = 0 then (D.2.2.getD k rl0).2.2.2.2.1 else if i = 1 then (D.2.2.getD k rl0).2.2.2.2.2 else if i = 4 then aTx S k else -1)
def stCourt (S : Ab) : Ab := match okC S with
  | none => S
  | some D => ctS S D
def spCourt (S : Ab) : Int32 := match okC S with
  | none => -1
  | some D => nI D.1.length
theorem memL {α : Type} {L : List α} {k : Nat} {d : α} (h : k < L.length) : L.getD k d ∈ L := by
  rw [List.getD_eq_getElem?_getD, List.getElem?_eq_getElem h]
  exact List.getElem_mem h
theorem ctS_ok {S : Ab} {D : Dr} (hO : SOK S) (hD : drOK D) : SOK (ctS S D) := by
  obtain ⟨h1, h2, h3, h4⟩ := hD
  refine ⟨⟨h1.1, h1.2.1, h1.2.2, hO.rm, Nat.zero_le _⟩, fun m hm => (h3 _ (memL hm)).2, fun r hr => ?_, fun q hq => ⟨hO.rk hq, hO.rp hq⟩, fun g hg => Or.inl ⟨rfl, rfl, rfl⟩⟩
  obtain ⟨g1, g2, g3, g4, g5, g6⟩ := h4 _ (memL (d := rl0) hr)
  exact ⟨g1, g2, g3, g4, g5, g6⟩
theorem ct_MOK {S : Ab} {D : Dr} {P : Nat → Int32} {U U4 : Nat → Nat → Int32} {W : Nat → Nat → Int64} (hDO : drOK D) (hM : MOK S P U) (hD : drR D U W) (h29 : U4 29 0 = nI D.1.length) (h30 : U4 30 0 = nI D.2.1.length) (h31 : U4 31 0 = nI D.2.2.length) (h9 : ∀ u, u < 5 → U4 9 u = U 10 u)
    (h12 : ∀ u, u < 12 → U4 12 u = U 13 u ∧ U4 15 u = U 16 u ∧ U4 18 u = U 19 u ∧ U4 21 u = U 22 u ∧ U4 24 u = U 25 u ∧ U4 27 u = U 28 u ∧ U4 33 u = zI false) (h34 : ∀ u, u < 10 → U4 34 u = zI true ∧ U4 35 u = zI false ∧ U4 36 u = -1 ∧ U4 37 u = -1) (h38 : U4 38 = U 38) (h39 : U4 39 = U 39) : MOK (ctS S D) (va_up P 1 (nI 0)) U4 := by
  obtain ⟨a1, a2, a3⟩ := hDO.1
  refine ⟨⟨h29, h30, h31, (va_up_ne _ _ (by decide)).trans hM.rm, va_up_self _ _ _⟩, fun m hm => ?_, fun r hr => ?_, fun g hg => ?_, fun q hq => ?_, fun k hk => absurd (show k < 0 from hk) (Nat.not_lt_zero _)⟩
  · have hm : m < D.2.1.length := hm
    rw [h9 m (by omega)]; exact (hD.2.2.1 m hm).2
  · have hr : r < D.2.2.length := hr
    obtain ⟨g1, g2, g3, g4, g5, g6, g7⟩ := h12 r (by omega)
    obtain ⟨d1, d2, d3, d4, d5, d6⟩ := hD.2.2.2 r hr
    exact ⟨g1.trans d1, g2.trans d2, g3.trans d3, g4.trans d4, g5.trans d5, g6.trans d6, g7⟩
  · have hg : g < D.1.length := hg
    exact h34 g (by omega)
  · rw [h38, h39]; exact ⟨hM.rk hq, hM.rp hq⟩
theorem dr_zero (V : Nat → Nat → Int32) (J : Nat → Nat → Int64) : drR ([], [], []) (vset (vset (vset V 29 1 (nI 0)) 30 1 (nI 0)) 31 1 (nI 0)) J := by
  refine ⟨⟨?_, ?_, ?_⟩, fun k hk => absurd hk (Nat.not_lt_zero _), fun k hk => absurd hk (Nat.not_lt_zero _), fun k hk => absurd hk (Nat.not_lt_zero _)⟩
  · rw [vset_off _ _ (by decide), vset_off _ _ (by decide), vset_self]; rfl
  · rw [vset_off _ _ (by decide), vset_self]; rfl
  · rw [vset_self]; rfl
theorem ct_12 {U8 U3 U4 : Nat → Nat → Int32} {u : Nat} (hk4 : kp [34, 35, 36, 37] U3 U4) (h : U3 12 u = U8 13 u ∧ U3 15 u = U8 16 u ∧ U3 18 u = U8 19 u ∧ U3 21 u = U8 22 u ∧ U3 24 u = U8 25 u ∧ U3 27 u = U8 28 u ∧ U3 33 u = zI false) : U4 12 u = U8 13 u ∧ U4 15 u = U8 16 u ∧ U4 18 u = U8 19 u ∧ U4 21 u = U8 22 u ∧ U4 24 u = U8 25 u ∧ U4 27 u = U8 28 u ∧ U4 33 u = zI false := by
  rw [hk4 12 (by decide), hk4 15 (by decide), hk4 18 (by decide), hk4 21 (by decide), hk4 24 (by decide), hk4 27 (by decide), hk4 33 (by decide)]; exact h
