/-! slights in the component -/
set_option maxRecDepth 100000
def ssP (S : Ab) (q cr on r x y : Nat) : Bool := decide (aIr S x = nI q) && decide (aIr S y = nI q) && decide (slW S r q cr on x y ≠ 0)
/-- of the first k couples of a rule -/
def ssC (S : Ab) (q cr on r : Nat) : Nat → List (Nat × Nat × Nat × Nat)
  | 0 => []
  | k + 1 => ssC S q cr on r k ++ (if ssP S q cr on r (cX S r k) (cY S r k) then [(r, cX S r k, cY S r k, slW S r q cr on (cX S r k) (cY S r k))] else [])
theorem slY_fm (S : Ab) (q cr on r x : Nat) : ∀ y, slY S q cr on r x y = (List.range y).filterMap (fun z => if slP S r q cr on x z then some (r, x, z, slW S r q cr on x z) else none) := by
  intro y
  induction y with
  | zero => rfl
  | succ y ih =>
    rw [slY, ih, List.range_succ, List.filterMap_append]
    congr 1
    by_cases c : slP S r q cr on x y = true
    · simp [c]
    · simp [c]
theorem slX_fm (S : Ab) (q cr on r : Nat) : ∀ x, slX S q cr on r x = (List.range x).flatMap (fun z => slY S q cr on r z (aN S)) := by
  intro x
  induction x with
  | zero => rfl
  | succ x ih => rw [slX, ih, List.range_succ, List.flatMap_append]; simp
theorem ssC_fm (S : Ab) (q cr on r : Nat) : ∀ k, k ≤ cN S r → ssC S q cr on r k = ((cplS S r).take k).filterMap (fun z => if ssP S q cr on r z.1 z.2 then some (r, z.1, z.2, slW S r q cr on z.1 z.2) else none) := by
  intro k
  induction k with
  | zero => intro _; rfl
  | succ k ih =>
    intro hk
    have hk2 : k < (cplS S r).length := hk
    rw [ssC, ih (by omega), List.take_succ, List.filterMap_append, List.getElem?_eq_getElem hk2]
    congr 1
    have e : (cplS S r)[k] = (cX S r k, cY S r k) := by
      unfold cX cY
      rw [List.getD_eq_getElem?_getD, List.getElem?_eq_getElem hk2]
      rfl
    by_cases c : ssP S q cr on r (cX S r k) (cY S r k) = true
    · simp [e, c]
    · simp [e, c]
theorem range_cut {α : Type} (f : Nat → List α) {n N : Nat} (h : n ≤ N) (h0 : ∀ z, n ≤ z → f z = []) : (List.range N).flatMap f = (List.range n).flatMap f := by
  obtain ⟨k, rfl⟩ : ∃ k, N = n + k := ⟨N - n, by omega⟩
  rw [List.range_add, List.flatMap_append]
  have : ((List.range k).map (n + ·)).flatMap f = [] := by
    rw [List.flatMap_eq_nil_iff]
    intro x hx
    obtain ⟨y, -, rfl⟩ := List.mem_map.mp hx
    exact h0 _ (by omega)
  rw [this, List.append_nil]
theorem range_cutF {α : Type} (f : Nat → Option α) {n N : Nat} (h : n ≤ N) (h0 : ∀ z, n ≤ z → f z = none) : (List.range N).filterMap f = (List.range n).filterMap f := by
  obtain ⟨k, rfl⟩ : ∃ k, N = n + k := ⟨N - n, by omega⟩
  rw [List.range_add, List.filterMap_append]
  have : ((List.range k).map (n + ·)).filterMap f = [] := by
    rw [List.filterMap_eq_nil_iff]
    intro x hx
    obtain ⟨y, -, rfl⟩ := List.mem_map.mp hx
    exact h0 _ (by omega)
  rw [this, List.append_nil]
/-- a rule's slights: couple by couple, or place by place -/
theorem ss_sl {S : Ab} (hO : SOK S) (h2 : SO2 S) {q cr on r : Nat} (hr : r < aRl S) : slX S q cr on r (aN S) = if cnt S r (nI q) then ssC S q cr on r (cN S r) else [] := by
  rw [slX_fm]
  cases c : cnt S r (nI q) with
  | false =>
    rw [if_neg (by decide), List.flatMap_eq_nil_iff]
    intro x _
    rw [slY_fm, List.filterMap_eq_nil_iff]
    intro y _
    rw [if_neg]
    unfold slP
    rw [c]
    simp
  | true =>
    rw [if_pos rfl, ssC_fm S q cr on r (cN S r) (Nat.le_refl _), show (cplS S r).take (cN S r) = cplS S r from List.take_length]
    unfold cplS cpP
    rw [show cpR (aKd S r) (bW S (aOn S r)) (bW S (aOt S r)) (bU S r) 10 0 = [] from rfl, List.append_nil, List.filterMap_flatMap]
    have hn := hO.n
    rw [range_cut (n := aN S) (N := 10) _ hn]
    · congr 1
      funext x
      unfold cpR
      rw [slY_fm, List.filterMap_filterMap, range_cutF (n := aN S) (N := 10) _ hn]
      · congr 1
        funext y
        rw [hld_cpl]
        unfold slP ssP
        rw [c, Bool.true_and]
        cases e : cplL S r x y with
        | false => simp
        | true => simp
      · intro y hy
        rw [hld_cpl]
        cases e : cplL S r x y with
        | false => rfl
        | true => have := (cplL_lt hO h2 hr e).2; omega
    · intro x hx
      rw [List.filterMap_eq_nil_iff]
      intro z hz
      have := cpR_mem.mp hz
      rw [hld_cpl] at this
      have h3 := (cplL_lt hO h2 hr this.2.2).1
      rw [this.1] at h3
      omega
def ssL (S : Ab) (q cr on i k : Nat) : List (Nat × Nat × Nat × Nat) := slR S q cr on i ++ ssC S q cr on i k
theorem ss_next {S : Ab} (hO : SOK S) (h2 : SO2 S) {q cr on i k : Nat} (hi : i < aRl S) (hk : k = cN S i ∨ cnt S i (nI q) = false) (hc : k = 0 ∨ cnt S i (nI q) = true) : ssL S q cr on i k = ssL S q cr on (i + 1) 0 := by
  unfold ssL
  show _ = slR S q cr on (i + 1) ++ []
  rw [List.append_nil, slR, ss_sl hO h2 hi]
  cases c : cnt S i (nI q) with
  | true => rw [c] at hk; rw [if_pos rfl, hk.resolve_right (by decide)]
  | false => rw [c] at hc; rw [if_neg (by decide), hc.resolve_right (by decide)]; rfl
theorem ss_t {S : Ab} {q cr on i k : Nat} (h1 : aIr S (cX S i k) = nI q) (h2 : aIr S (cY S i k) = nI q) (h3 : slW S i q cr on (cX S i k) (cY S i k) ≠ 0) : ssL S q cr on i (k + 1) = ssL S q cr on i k ++ [(i, cX S i k, cY S i k, slW S i q cr on (cX S i k) (cY S i k))] := by
  unfold ssL
  rw [ssC, if_pos (show ssP S q cr on i (cX S i k) (cY S i k) = true by unfold ssP; simp [h1, h2, h3]), List.append_assoc]
theorem ss_f {S : Ab} {q cr on i k : Nat} (h : aIr S (cX S i k) ≠ nI q ∨ aIr S (cY S i k) ≠ nI q ∨ slW S i q cr on (cX S i k) (cY S i k) = 0) : ssL S q cr on i (k + 1) = ssL S q cr on i k := by
  unfold ssL
  rw [ssC, if_neg, List.append_nil]
  unfold ssP
  rcases h with q | q | q <;> simp [q]
/-! how many -/
theorem cntN_9 (p : Nat → Bool) (x : Nat) (hp : p x = false) : ∀ k, x < k → cntN p k ≤ k - 1 := by
  intro k
  induction k with
  | zero => intro h; omega
  | succ k ih =>
    intro h
    unfold cntN
    by_cases c : x = k
    · subst c
      rw [hp]
      have := cntN_le p x
      simp
      exact this
    · have := ih (by omega)
      split <;> omega
theorem cN_90 (S : Ab) (r : Nat) : cN S r ≤ 90 := by
  have key : ∀ x, x ≤ 10 → ((List.range x).flatMap (fun z => cpR (aKd S r) (bW S (aOn S r)) (bW S (aOt S r)) (bU S r) z 10)).length ≤ 9 * x := by
    intro x
    induction x with
    | zero => intro _; exact Nat.le_refl _
    | succ x ih =>
      intro hx
      have h1 := ih (by omega)
      have h2 : cntN (fun y => cplL S r x y) 10 ≤ 10 - 1 := cntN_9 _ x (by
        cases c : cplL S r x x with
        | false => rfl
        | true => exact absurd rfl (cplL_ne c)) 10 (by omega)
      rw [List.range_succ, List.flatMap_append, List.length_append, List.flatMap_cons, List.flatMap_nil, List.append_nil, cpR_cnt]
      omega
  unfold cN cplS cpP
  rw [List.length_append]
  have := key 10 (Nat.le_refl _)
  show _ + 0 ≤ _
  omega
theorem ssC_len (S : Ab) (q cr on r : Nat) : ∀ k, (ssC S q cr on r k).length ≤ k := by
  intro k
  induction k with
  | zero => exact Nat.le_refl _
  | succ k ih => unfold ssC; rw [List.length_append]; split <;> simp <;> omega
theorem slR_90 {S : Ab} (hO : SOK S) (h2 : SO2 S) (q cr on : Nat) : ∀ r, r ≤ aRl S → (slR S q cr on r).length ≤ 90 * r := by
  intro r
  induction r with
  | zero => intro _; exact Nat.le_refl _
  | succ r ih =>
    intro hr
    have h1 := ih (by omega)
    have h3 := ssC_len S q cr on r (cN S r)
    have h4 := cN_90 S r
    rw [slR, List.length_append, ss_sl hO h2 (by omega)]
    split
    · omega
    · simp; omega
theorem ssL_len {S : Ab} (hO : SOK S) (h2 : SO2 S) (q cr on : Nat) {i k : Nat} (hi : i ≤ aRl S) : (ssL S q cr on i k).length ≤ 90 * i + k := by
  unfold ssL
  rw [List.length_append]
  have h1 := slR_90 hO h2 q cr on i hi
  have h3 := ssC_len S q cr on i k
  omega
theorem slL_90 {S : Ab} (hO : SOK S) (h2 : SO2 S) (q cr on : Nat) : (slL S q cr on).length ≤ 1080 := by
  have := slR_90 hO h2 q cr on (aRl S) (Nat.le_refl _)
  have h := hO.rl
  unfold slL
  omega
/-- each slight's numbers -/
def slK (S : Ab) (t : Nat × Nat × Nat × Nat) : Prop := t.1 < aRl S ∧ t.2.1 < aN S ∧ t.2.2.1 < aN S ∧ t.2.1 ≠ t.2.2.1 ∧ t.2.2.2 ≤ 3
theorem slL_ok {S : Ab} (hO : SOK S) (h2 : SO2 S) {q cr on : Nat} : ∀ t ∈ slL S q cr on, slK S t := by
  have key : ∀ r, r ≤ aRl S → ∀ t ∈ slR S q cr on r, slK S t := by
    intro r
    induction r with
    | zero => intro _ t ht; cases ht
    | succ r ih =>
      intro hr t ht
      rw [slR, List.mem_append] at ht
      rcases ht with ht | ht
      · exact ih (by omega) t ht
      · rw [ss_sl hO h2 (by omega)] at ht
        split at ht
        · rw [ssC_fm S q cr on r (cN S r) (Nat.le_refl _), List.mem_filterMap] at ht
          obtain ⟨z, hz, e⟩ := ht
          split at e
          · cases e
            have hz := cplS_mem.mp (List.mem_of_mem_take hz)
            have h3 := cplL_lt hO h2 (show r < aRl S by omega) hz.2.2
            exact ⟨by show r < _; omega, h3.1, h3.2, cplL_ne hz.2.2, slW_le _ _ _ _ _ _ _⟩
          · cases e
        · cases ht
  exact key (aRl S) (Nat.le_refl _)
/-- slights that lie at L -/
def SLO (S : Ab) (ts : Nat) (h : Hp) (L : List Nat) (T : List (Nat × Nat × Nat × Nat)) : Prop := L.length = T.length ∧ ∀ i, i < L.length → h (L.getD i 0) = some (.inr (15, [.int (nI (T.getD i t4).1), .int (nI (T.getD i t4).2.1), .int (nI (T.getD i t4).2.2.1), .int (nI (aWt S (T.getD i t4).1)), .int (nI (T.getD i t4).2.2.2)]), ts)
theorem slo_keep {S : Ab} {ts : Nat} {h h1 : Hp} {L : List Nat} {T : List (Nat × Nat × Nat × Nat)} (c : SLO S ts h L T) (f : ∀ b e, h b = some (e, ts) → h1 b = some (e, ts)) : SLO S ts h1 L T := ⟨c.1, fun i hi => f _ _ (c.2 i hi)⟩
theorem slo_push {S : Ab} {ts : Nat} {h : Hp} {L : List Nat} {T : List (Nat × Nat × Nat × Nat)} {q : Nat} {t : Nat × Nat × Nat × Nat} (c : SLO S ts h L T) (hq : h q = some (.inr (15, [.int (nI t.1), .int (nI t.2.1), .int (nI t.2.2.1), .int (nI (aWt S t.1)), .int (nI t.2.2.2)]), ts)) : SLO S ts h (L ++ [q]) (T ++ [t]) := by
  refine ⟨by rw [List.length_append, List.length_append, c.1]; rfl, fun i hi => ?_⟩
  rw [List.length_append] at hi
  have hi : i < L.length + 1 := hi
  rw [getD_snoc, getD_snoc, ← c.1]
  by_cases e : i < L.length
  · rw [if_pos e, if_pos e]; exact c.2 i e
  · rw [if_neg e, if_neg e, if_pos (by omega), if_pos (by omega)]; exact hq
theorem mnd_take {S : Ab} {T : List (Nat × Nat × Nat × Nat)} {k g : Nat} (hk : k < T.length) : mnd S (T.take (k + 1)) g = mnd S (T.take k) g + mnd1 S (T.getD k t4) g := by
  rw [List.take_succ, List.getElem?_eq_getElem hk, List.getD_eq_getElem?_getD, List.getElem?_eq_getElem hk]
  exact mnd_app S _ _ g
theorem mnd1_le {S : Ab} (hO : SOK S) {t : Nat × Nat × Nat × Nat} (ht : slK S t) (g : Nat) : mnd1 S t g ≤ 9 := by
  have := hO.wt ht.1
  have h4 := ht.2.2.2.1
  unfold mnd1
  split <;> split <;> omega
theorem mnd_t {S : Ab} (hO : SOK S) {T : List (Nat × Nat × Nat × Nat)} (hT : ∀ t ∈ T, slK S t) (g : Nat) : ∀ k, k ≤ T.length → mnd S (T.take k) g ≤ 9 * k := by
  intro k
  induction k with
  | zero => intro _; exact Nat.le_refl _
  | succ k ih =>
    intro hk
    have h1 := ih (by omega)
    rw [mnd_take (by omega)]
    have hm : T.getD k t4 ∈ T := by
      rw [List.getD_eq_getElem?_getD, List.getElem?_eq_getElem (show k < T.length by omega)]
      exact List.getElem_mem _
    have := mnd1_le hO (hT _ hm) g
    omega
theorem w_and : ∀ w, w ≤ 3 → (w &&& 1 = 1 ↔ w &&& 1 ≠ 0) ∧ (w &&& 2 = 2 ↔ w &&& 2 ≠ 0) ∧ w &&& 1 ≤ 3 ∧ w &&& 2 ≤ 3 := by decide
theorem mnd1_t {S : Ab} {t : Nat × Nat × Nat × Nat} {g : Nat} (ht : slK S t) (h : (t.2.1 = g ∧ t.2.2.2 &&& 1 = 1) ∨ (t.2.2.1 = g ∧ t.2.2.2 &&& 2 = 2)) : mnd1 S t g = aWt S t.1 := by
  have h1 := w_and t.2.2.2 ht.2.2.2.2
  have h2 := ht.2.2.2.1
  unfold mnd1
  rcases h with ⟨a, b⟩ | ⟨a, b⟩
  · rw [if_pos ⟨a, h1.1.mp b⟩, if_neg (fun q => h2 (a.trans q.1.symm))]; omega
  · rw [if_neg (fun q : t.2.1 = g ∧ _ => h2 (q.1.trans a.symm)), if_pos ⟨a, h1.2.1.mp b⟩]; omega
theorem mnd1_f {S : Ab} {t : Nat × Nat × Nat × Nat} {g : Nat} (ht : slK S t) (h1 : ¬ t.2.1 = g ∨ ¬ t.2.2.2 &&& 1 = 1) (h2 : ¬ t.2.2.1 = g ∨ ¬ t.2.2.2 &&& 2 = 2) : mnd1 S t g = 0 := by
  have h3 := w_and t.2.2.2 ht.2.2.2.2
  unfold mnd1
  rw [if_neg (fun q => h1.elim (fun z => z q.1) (fun z => z (h3.1.mpr q.2))), if_neg (fun q => h2.elim (fun z => z q.1) (fun z => z (h3.2.1.mpr q.2)))]
theorem t4_mem {T : List (Nat × Nat × Nat × Nat)} {k : Nat} (hk : k < T.length) : T.getD k t4 ∈ T := by
  rw [List.getD_eq_getElem?_getD, List.getElem?_eq_getElem hk]; exact List.getElem_mem _
theorem gs13 : ∀ j, j ≤ 13 → gsum j ≤ 3690 := by decide
theorem gc12 : ∀ j, j ≤ 13 → gcap j ≤ 1080 → j ≤ 12 := by decide
theorem c_sl {j j2 n cells slots : Nat} {G : Prop} (h : cells ≤ 1 + n + j ∧ slots ≤ 3 + 5 * n + gsum j) (hj : j2 = j ∨ (j2 = j + 1 ∧ G)) : cells + 1 + 0 + (j2 - j) ≤ 1 + (n + 1) + j2 ∧ slots + 5 + 0 + (gsum j2 - gsum j) ≤ 3 + 5 * (n + 1) + gsum j2 := by
  have : gsum j ≤ gsum j2 := by
    rcases hj with e | ⟨e, _⟩
    · rw [e]; exact Nat.le_refl _
    · rw [e]; show gsum j ≤ gsum j + _; omega
  rcases hj with e | ⟨e, _⟩ <;> omega
/-! evened -/
def evR (S : Ab) (q n r g : Nat) : Nat → Nat
  | 0 => 0
  | c + 1 => evR S q n r g c + mnd S (slL S q 0 (r / n ^ c % n)) g
theorem evR_S {S : Ab} {q n cs r g : Nat} (h : 1 ≤ cs ∧ cs ≤ 3) : evR S q n r g cs = evS S q n cs r g cs := by
  have : cs = 1 ∨ cs = 2 ∨ cs = 3 := by omega
  rcases this with rfl | rfl | rfl
  · simp [evR, evS, dgt]
  · simp [evR, evS, dgt]; omega
  · simp [evR, evS, dgt]; omega
theorem evR_le {S : Ab} (hO : SOK S) (q n r g : Nat) : ∀ c, evR S q n r g c ≤ 21600 * c := by
  intro c
  induction c with
  | zero => exact Nat.le_refl _
  | succ c ih => have := mnd_b hO q 0 (r / n ^ c % n) g; unfold evR; omega
def evL (x : Option (Nat × Nat)) : Nat := match x with
  | none => 1000000
  | some z => z.1
def evC (x : Option (Nat × Nat)) : Nat := match x with
  | none => 0
  | some z => z.2
section EVC
variable {S : Ab} {q n cs r : Nat}
theorem evL_le (hO : SOK S) (hcs : cs ≤ 3) : evL (evB S q n cs r) ≤ 1000000 ∧ evC (evB S q n cs r) ≤ r := by
  cases e : evB S q n cs r with
  | none => exact ⟨Nat.le_refl _, Nat.zero_le _⟩
  | some z => have := evB_ok hO hcs r z.1 z.2 e; exact ⟨by show z.1 ≤ _; omega, by show z.2 ≤ _; omega⟩
theorem evl_t (hO : SOK S) (hcs : cs ≤ 3) (h : evM S q n cs r (aN S) < evL (evB S q n cs r)) : evB S q n cs (r + 1) = some (evM S q n cs r (aN S), r) := by
  cases e : evB S q n cs r with
  | none => exact ev_new e
  | some z => rw [e] at h; exact ev_less e h
theorem evl_f (hO : SOK S) (hcs : cs ≤ 3) (h : ¬ evM S q n cs r (aN S) < evL (evB S q n cs r)) : evB S q n cs (r + 1) = evB S q n cs r := by
  cases e : evB S q n cs r with
  | none =>
    rw [e] at h
    have := evM_le hO q n cs r hcs (aN S)
    exact absurd (show evM S q n cs r (aN S) < 1000000 by omega) h
  | some z => rw [e] at h; rw [← e]; exact (ev_keep e (Nat.not_lt.mp h)).symm
end EVC
theorem in4_f {x : Int32} (h0 : ¬ x = nI 0) (h1 : ¬ x = nI 1) (h2 : ¬ x = nI 2) (h3 : ¬ x = nI 3) : inN x 4 = false := by
  cases c : inN x 4 with
  | false => rfl
  | true =>
    obtain ⟨j, hj, e⟩ := inN_t c
    have : j = 0 ∨ j = 1 ∨ j = 2 ∨ j = 3 := by omega
    rcases this with q | q | q | q <;> rw [q] at e <;> contradiction
theorem HP.tagL {D : va_G} {cl : List vw_C} {A : Nat → Prop} {h : Hp} {H : Heap} (hH : HP D cl A h H) : ∃ tg, 30 ≤ tg ∧ ∀ b e u, h b = some (e, u) → u < tg := by
  have key : ∀ n, ∃ N, ∀ a, a < n → ∀ e t, h a = some (e, t) → t < N := by
    intro n
    induction n with
    | zero => exact ⟨0, fun a ha => absurd ha (Nat.not_lt_zero _)⟩
    | succ n ih =>
      obtain ⟨N, hN⟩ := ih
      cases c : h n with
      | none =>
        refine ⟨N, fun a ha e t q => ?_⟩
        rcases Nat.lt_succ_iff_lt_or_eq.mp ha with z | z
        · exact hN a z e t q
        · rw [z, c] at q; cases q
      | some x =>
        obtain ⟨e0, t0⟩ := x
        refine ⟨max N (t0 + 1), fun a ha e t q => ?_⟩
        rcases Nat.lt_succ_iff_lt_or_eq.mp ha with z | z
        · have := hN a z e t q; omega
        · rw [z, c] at q; cases q; omega
  obtain ⟨N, hN⟩ := key H.size
  refine ⟨N + 30, by omega, fun b e u q => ?_⟩
  have := hN b (hH.lt q) e _ q
  omega
theorem tag_no {h : Hp} {tg : Nat} (hl : ∀ b e u, h b = some (e, u) → u < tg) : noT tg h := fun b e q => absurd (hl b e tg q) (Nat.lt_irrefl _)
/-- the most so far -/
def mMost (f : Nat → Nat) (x : Nat) : Nat := if mBest f x = -1 then 0 else f (mBest f x).toNatClampNeg
theorem mbb_t {f : Nat → Nat} {x : Nat} (hx : x < 1000) (h : mMost f x < f x) : mBest f (x + 1) = nI x ∧ mMost f (x + 1) = f x := by
  have e : mBest f (x + 1) = nI x := by
    rw [mBest]
    apply if_pos
    unfold mMost at h
    by_cases c : mBest f x = -1
    · rw [if_pos c] at h; exact ⟨by omega, Or.inl c⟩
    · rw [if_neg c] at h; exact ⟨by omega, Or.inr h⟩
  refine ⟨e, ?_⟩
  unfold mMost
  rw [e, if_neg (nI_m1 (by omega)), nI_clamp (by omega)]
theorem mbb_f {f : Nat → Nat} {x : Nat} (h : ¬ mMost f x < f x) : mBest f (x + 1) = mBest f x ∧ mMost f (x + 1) = mMost f x := by
  have e : mBest f (x + 1) = mBest f x := by
    rw [mBest]
    apply if_neg
    intro q
    apply h
    unfold mMost
    by_cases c : mBest f x = -1
    · rw [if_pos c]; omega
    · rw [if_neg c]; exact q.2.resolve_left c
  refine ⟨e, ?_⟩
  unfold mMost
  rw [e]
theorem mMost_le {f : Nat → Nat} {B : Nat} (hf : ∀ g, f g ≤ B) (x : Nat) : mMost f x ≤ B := by
  unfold mMost
  split
  · exact Nat.zero_le _
  · exact hf _
/-- the numbers of all turns -/
def miA (S : Ab) (q s9 g9 : Nat) (f : Nat → Int32) : Prop := ∀ s g, g < aN S → (s < s9 ∨ (s = s9 ∧ g < g9)) → f (10 * s + g) = nI (mnd S (slL S q 0 s) g)
theorem mi_put {S : Ab} {q s9 g9 : Nat} {f : Nat → Int32} (hn : aN S ≤ 10) (hg : g9 < aN S) (h : miA S q s9 g9 f) : miA S q s9 (g9 + 1) (upd f (10 * s9 + g9) (nI (mnd S (slL S q 0 s9) g9))) := fun s g hg2 hs => by
  unfold upd
  by_cases c : 10 * s + g = 10 * s9 + g9
  · have e1 : s = s9 := by omega
    have e2 : g = g9 := by omega
    rw [if_pos c, e1, e2]
  · rw [if_neg c]
    exact h s g hg2 (by omega)
theorem mi_row {S : Ab} {q s9 : Nat} {f : Nat → Int32} (h : miA S q s9 (aN S) f) : miA S q (s9 + 1) 0 f := fun s g hg hs => h s g hg (by omega)
theorem dec_nI {a : Nat} (h : 1 ≤ a) (ha : a < 2 ^ 30) : nI a + Int32.ofInt (-1) = nI (a - 1) := by
  rw [dec_eq]
  apply Int32.toInt_inj.mp
  rw [sub1_i ha, nI_toInt (by omega)]
  omega
