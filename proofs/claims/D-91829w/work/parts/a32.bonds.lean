/-! the bonds of a room, as a list; what a guest at a place weighs, over the bonds -/
set_option maxRecDepth 100000
abbrev t3 : Nat × Nat × Nat := (0, 0, 0)
def bnC (S : Ab) (r k : Nat) : List (Nat × Nat × Nat) := (((cplS S r).take k).filter (fun c => aCm S c.1 && aCm S c.2)).map (fun c => (r, c.1, c.2))
def bnQ (S : Ab) (q r k : Nat) : List (Nat × Nat × Nat) := if cnt S r (nI q) then bnC S r k else []
def bnP (S : Ab) (q i : Nat) : List (Nat × Nat × Nat) := (List.range i).flatMap (fun r => bnQ S q r (cN S r))
def bnL (S : Ab) (q i k : Nat) : List (Nat × Nat × Nat) := bnP S q i ++ bnQ S q i k
def bnA (S : Ab) (q : Nat) : List (Nat × Nat × Nat) := bnP S q (aRl S)
theorem bnQ_0 (S : Ab) (q r : Nat) : bnQ S q r 0 = [] := by unfold bnQ bnC; simp
theorem bn_next {S : Ab} {q i k : Nat} (hk : k = cN S i ∨ cnt S i (nI q) = false) : bnL S q i k = bnL S q (i + 1) 0 := by
  unfold bnL
  rw [bnQ_0, List.append_nil]
  conv => rhs; unfold bnP
  rw [List.range_succ, List.flatMap_append, List.flatMap_cons, List.flatMap_nil, List.append_nil]
  rcases hk with e | e
  · rw [e]; rfl
  · have z : ∀ k, bnQ S q i k = [] := fun k => by unfold bnQ; rw [e]; rfl
    rw [z, z]; rfl
theorem bnC_s {S : Ab} {r k : Nat} (h : k < cN S r) : bnC S r (k + 1) = bnC S r k ++ (if aCm S (cX S r k) && aCm S (cY S r k) then [(r, cX S r k, cY S r k)] else []) := by
  unfold bnC
  rw [List.take_succ, List.filter_append, List.map_append]
  congr 1
  have e : (cplS S r)[k]? = some (cX S r k, cY S r k) := by
    unfold cX cY
    rw [List.getD_eq_getElem?_getD, List.getElem?_eq_getElem h]
    rfl
  rw [e]
  by_cases c : (aCm S (cX S r k) && aCm S (cY S r k)) = true
  · rw [if_pos c]; simp [List.filter_cons, c]
  · rw [if_neg c]; simp [List.filter_cons, c]
theorem bn_t {S : Ab} {q i k : Nat} (h : k < cN S i) (hc : cnt S i (nI q) = true) (h2 : (aCm S (cX S i k) && aCm S (cY S i k)) = true) : bnL S q i (k + 1) = bnL S q i k ++ [(i, cX S i k, cY S i k)] := by
  unfold bnL bnQ
  rw [if_pos hc, if_pos hc, bnC_s h, if_pos h2, List.append_assoc]
theorem bn_f {S : Ab} {q i k : Nat} (h : k < cN S i) (hc : cnt S i (nI q) = true) (h2 : (aCm S (cX S i k) && aCm S (cY S i k)) = false) : bnL S q i (k + 1) = bnL S q i k := by
  unfold bnL bnQ
  rw [if_pos hc, if_pos hc, bnC_s h, if_neg (by rw [h2]; decide), List.append_nil]
theorem bnC_len {S : Ab} (r k : Nat) (hk : k ≤ cN S r) : (bnC S r k).length ≤ k := by
  unfold bnC
  rw [List.length_map]
  refine Nat.le_trans (List.length_filter_le _ _) ?_
  rw [List.length_take]
  omega
theorem bnL_len {S : Ab} (q i k : Nat) (hk : k ≤ cN S i) : (bnL S q i k).length ≤ 90 * i + k := by
  have h1 : ∀ r k, k ≤ cN S r → (bnQ S q r k).length ≤ k := by
    intro r k hk
    unfold bnQ
    split
    · exact bnC_len r k hk
    · exact Nat.zero_le _
  have h2 : ∀ i, (bnP S q i).length ≤ 90 * i := by
    intro i
    induction i with
    | zero => exact Nat.le_refl _
    | succ i ih =>
      unfold bnP at ih ⊢
      rw [List.range_succ, List.flatMap_append, List.flatMap_cons, List.flatMap_nil, List.append_nil, List.length_append]
      have := h1 i (cN S i) (Nat.le_refl _)
      have := cN_90 S i
      omega
  unfold bnL
  rw [List.length_append]
  have := h1 i k hk
  have := h2 i
  omega
/-- the bonds lie at L -/
def BNO (Ls : Nat → List Nat) (ts : Nat) (h : Hp) (L : List Nat) (T : List (Nat × Nat × Nat)) : Prop := L.length = T.length ∧ ∀ i, i < L.length → h (L.getD i 0) = some (.inr (17, [.ref ((Ls 2).getD (T.getD i t3).1 0), .int (nI (T.getD i t3).2.1), .int (nI (T.getD i t3).2.2)]), ts)
theorem getT_snoc {α : Type} (L : List α) (x d : α) (i : Nat) : (L ++ [x]).getD i d = if i < L.length then L.getD i d else if i = L.length then x else d := by
  by_cases c : i < L.length
  · rw [if_pos c, List.getD_eq_getElem?_getD, List.getElem?_append_left c, ← List.getD_eq_getElem?_getD]
  · rw [if_neg c]
    by_cases e : i = L.length
    · rw [if_pos e, e]; simp
    · rw [if_neg e, List.getD_eq_getElem?_getD, List.getElem?_eq_none (by rw [List.length_append]; show L.length + 1 ≤ i; omega)]; rfl
theorem bno_keep {Ls : Nat → List Nat} {ts : Nat} {h h1 : Hp} {L : List Nat} {T : List (Nat × Nat × Nat)} (c : BNO Ls ts h L T) (f : ∀ b e, h b = some (e, ts) → h1 b = some (e, ts)) : BNO Ls ts h1 L T := ⟨c.1, fun i hi => f _ _ (c.2 i hi)⟩
theorem bno_push {Ls : Nat → List Nat} {ts : Nat} {h : Hp} {L : List Nat} {T : List (Nat × Nat × Nat)} {a r x y : Nat} (c : BNO Ls ts h L T) (hq : h a = some (.inr (17, [.ref ((Ls 2).getD r 0), .int (nI x), .int (nI y)]), ts)) : BNO Ls ts h (L ++ [a]) (T ++ [(r, x, y)]) := by
  refine ⟨by rw [List.length_append, List.length_append, c.1]; rfl, fun i hi => ?_⟩
  rw [len_push] at hi
  by_cases e : i = L.length
  · rw [e, get_last, getT_snoc, if_neg (by have := c.1; omega), if_pos c.1]; exact hq
  · rw [get_push (by omega), getT_snoc, if_pos (by have := c.1; omega)]; exact c.2 i (by omega)
/-! where they are -/
def atN (mem pl : List Nat) (g : Nat) : Option Nat := if mem.idxOf g < pl.length then some (pl.getD (mem.idxOf g) 0) else none
/-- whether a bond counts, with g as the last that sat down -/
def bnOn (S : Ab) (q : Nat) (mem pl : List Nat) (g : Nat) (t : Nat × Nat × Nat) : Bool := (decide (t.2.1 = g) || decide (t.2.2 = g)) && match atN mem pl t.2.1, atN mem pl t.2.2 with
  | some a, some b => decide (whoM S t.1 q 0 a b ≠ 0)
  | _, _ => false
def bnW (S : Ab) (f : Nat × Nat × Nat → Bool) : List (Nat × Nat × Nat) → Nat
  | [] => 0
  | t :: T => (if f t then aWt S t.1 else 0) + bnW S f T
def bnM (S : Ab) (f : Nat × Nat × Nat → Bool) (m : Nat) : List (Nat × Nat × Nat) → Nat
  | [] => m
  | t :: T => max (bnM S f m T) (if f t then aWt S t.1 else 0)
theorem bnW_app (S : Ab) (f : Nat × Nat × Nat → Bool) (A B : List (Nat × Nat × Nat)) : bnW S f (A ++ B) = bnW S f A + bnW S f B := by
  induction A with
  | nil => exact (Nat.zero_add _).symm
  | cons a t ih => rw [List.cons_append, bnW, bnW, ih]; omega
theorem bnM_le {S : Ab} {f : Nat × Nat × Nat → Bool} {m : Nat} {T : List (Nat × Nat × Nat)} {b : Nat} : bnM S f m T ≤ b ↔ m ≤ b ∧ ∀ t ∈ T, f t = true → aWt S t.1 ≤ b := by
  induction T with
  | nil => simp [bnM]
  | cons a t ih =>
    rw [bnM, Nat.max_le, ih]
    by_cases c : f a = true
    · simp [c]; constructor
      · intro ⟨⟨h1, h2⟩, h3⟩; exact ⟨h1, h3, h2⟩
      · intro ⟨h1, h3, h2⟩; exact ⟨⟨h1, h2⟩, h3⟩
    · simp [c]
theorem bnM_app1 (S : Ab) (f : Nat × Nat × Nat → Bool) (m : Nat) (A : List (Nat × Nat × Nat)) (t : Nat × Nat × Nat) : bnM S f m (A ++ [t]) = max (bnM S f m A) (if f t then aWt S t.1 else 0) := by
  apply Nat.le_antisymm
  · rw [bnM_le]
    refine ⟨Nat.le_trans (bnM_le.mp (Nat.le_refl _)).1 (Nat.le_max_left _ _), fun u hu fu => ?_⟩
    rcases List.mem_append.mp hu with q | q
    · exact Nat.le_trans ((bnM_le.mp (Nat.le_refl _)).2 u q fu) (Nat.le_max_left _ _)
    · rw [List.mem_singleton.mp q] at fu ⊢
      rw [if_pos fu]; exact Nat.le_max_right _ _
  · have h := bnM_le.mp (Nat.le_refl (bnM S f m (A ++ [t])))
    apply Nat.max_le.mpr
    refine ⟨bnM_le.mpr ⟨h.1, fun u hu fu => h.2 u (List.mem_append_left _ hu) fu⟩, ?_⟩
    split
    · rename_i c; exact h.2 t (by simp) c
    · exact Nat.zero_le _
theorem bn_take {α : Type} {T : List α} {k : Nat} {d : α} (h : k < T.length) : T.take (k + 1) = T.take k ++ [T.getD k d] := by
  rw [List.take_succ, List.getElem?_eq_getElem h, List.getD_eq_getElem?_getD, List.getElem?_eq_getElem h]
  rfl
/-! sums -/
def smN (f : Nat → Nat) : Nat → Nat
  | 0 => 0
  | n + 1 => smN f n + f n
theorem smN_cg {f g : Nat → Nat} {n : Nat} (h : ∀ i, i < n → f i = g i) : smN f n = smN g n := by
  induction n with
  | zero => rfl
  | succ n ih => rw [smN, smN, ih (fun i hi => h i (by omega)), h n (by omega)]
theorem smN_add (f g : Nat → Nat) (n : Nat) : smN (fun i => f i + g i) n = smN f n + smN g n := by
  induction n with
  | zero => rfl
  | succ n ih => rw [smN, smN, smN, ih]; omega
theorem smN_0 {f : Nat → Nat} {n : Nat} (h : ∀ i, i < n → f i = 0) : smN f n = 0 := by
  induction n with
  | zero => rfl
  | succ n ih => rw [smN, ih (fun i hi => h i (by omega)), h n (by omega)]
theorem smN_mul (f : Nat → Nat) (c n : Nat) : smN (fun i => f i * c) n = smN f n * c := by
  induction n with
  | zero => exact (Nat.zero_mul c).symm
  | succ n ih => rw [smN, smN, ih, Nat.add_mul]
theorem smN_one {f : Nat → Nat} {n a : Nat} (ha : a < n) (h : ∀ i, i < n → i ≠ a → f i = 0) : smN f n = f a := by
  induction n with
  | zero => exact absurd ha (Nat.not_lt_zero _)
  | succ n ih =>
    rw [smN]
    by_cases c : a = n
    · rw [c, smN_0 (fun i hi => h i (by omega) (by omega)), Nat.zero_add]
    · rw [ih (by omega) (fun i hi => h i (by omega)), h n (by omega) (Ne.symm c)]; omega
theorem smN_swap (F : Nat → Nat → Nat) (a b : Nat) : smN (fun i => smN (F i) b) a = smN (fun j => smN (fun i => F i j) a) b := by
  induction a with
  | zero => rw [smN, smN_0]; intro i _; rfl
  | succ a ih =>
    rw [smN, ih]
    conv => rhs; arg 1; intro j; rw [smN]
    rw [smN_add]
theorem smN_pos {f : Nat → Nat} {n : Nat} : 0 < smN f n ↔ ∃ i, i < n ∧ 0 < f i := by
  induction n with
  | zero => simp [smN]
  | succ n ih =>
    rw [smN]
    constructor
    · intro h
      by_cases c : 0 < f n
      · exact ⟨n, by omega, c⟩
      · obtain ⟨i, h1, h2⟩ := ih.mp (by omega); exact ⟨i, by omega, h2⟩
    · intro ⟨i, h1, h2⟩
      by_cases c : i = n
      · rw [c] at h2; omega
      · have := ih.mpr ⟨i, by omega, h2⟩; omega
/-- over a list without doubles -/
theorem smN_mem {G : Nat → Nat} {n : Nat} : ∀ {L : List Nat}, L.Nodup → (∀ x ∈ L, x < n) → smN (fun y => if y ∈ L then G y else 0) n = smN (fun j => G (L.getD j 0)) L.length := by
  intro L
  induction L with
  | nil => intro _ _; exact smN_0 (fun i _ => rfl)
  | cons a t ih =>
    intro hd hx
    have hd2 := List.nodup_cons.mp hd
    have e1 : smN (fun y => if y ∈ a :: t then G y else 0) n = smN (fun y => (if y = a then G y else 0) + (if y ∈ t then G y else 0)) n := by
      apply smN_cg
      intro y _
      by_cases c : y = a
      · rw [c]; simp [hd2.1]
      · simp [c]
    rw [e1, smN_add, ih hd2.2 (fun x hx2 => hx x (List.mem_cons_of_mem _ hx2))]
    rw [smN_one (f := fun y => if y = a then G y else 0) (a := a) (hx a (List.mem_cons_self ..)) (fun i _ hi => if_neg hi)]
    have e2 : ∀ k, smN (fun j => G ((a :: t).getD j 0)) (k + 1) = G a + smN (fun j => G (t.getD j 0)) k := by
      intro k
      induction k with
      | zero => rw [smN, smN, smN]; simp
      | succ k ihk => rw [smN, ihk, smN]; simp; omega
    rw [List.length_cons, e2]
    simp
/-- a sum of a row and a column -/
theorem smN_cross {F : Nat → Nat → Nat} {n g : Nat} (hg : g < n) (h0 : ∀ x y, x ≠ g → y ≠ g → F x y = 0) (h1 : F g g = 0) : smN (fun x => smN (F x) n) n = smN (fun y => F g y + F y g) n := by
  have e1 : smN (fun x => smN (F x) n) n = smN (fun x => (if x = g then smN (F g) n else 0) + F x g) n := by
    apply smN_cg
    intro x _
    by_cases c : x = g
    · rw [c, if_pos rfl, h1]; omega
    · rw [if_neg c, Nat.zero_add]
      exact smN_one hg (fun y _ hy => h0 x y c hy)
  rw [e1, smN_add, smN_add, smN_one (f := fun x => if x = g then smN (F g) n else 0) hg (fun i _ hi => if_neg hi), if_pos rfl]
/-! the bonds' weights are the pairs' weights -/
theorem cP_flat {α : Type} (Q : α → Bool) (R : Nat → List α) (x : Nat) : ((List.range x).flatMap R).countP Q = smN (fun z => (R z).countP Q) x := by
  induction x with
  | zero => rfl
  | succ x ih => rw [List.range_succ, List.flatMap_append, List.flatMap_cons, List.flatMap_nil, List.append_nil, List.countP_append, ih, smN]
theorem cP_cpR (S : Ab) (r x : Nat) (Q : Nat × Nat → Bool) : ∀ y, (cpR (aKd S r) (bW S (aOn S r)) (bW S (aOt S r)) (bU S r) x y).countP Q = smN (fun z => if cplL S r x z && Q (x, z) then 1 else 0) y := by
  intro y
  induction y with
  | zero => rfl
  | succ y ih =>
    unfold cpR at ih ⊢
    rw [List.range_succ, List.filterMap_append, List.countP_append, ih, smN]
    congr 1
    by_cases c : cplL S r x y = true
    · simp [hld_cpl, c, List.countP_cons]
    · simp [hld_cpl, c]
theorem cP_bnC (S : Ab) (r : Nat) (P : Nat × Nat × Nat → Bool) : (bnC S r (cN S r)).countP P = smN (fun x => smN (fun y => if cplL S r x y && (P (r, x, y) && (aCm S x && aCm S y)) then 1 else 0) 10) 10 := by
  unfold bnC
  rw [List.countP_map, List.countP_filter, show (cplS S r).take (cN S r) = cplS S r from List.take_length]
  unfold cplS cpP
  rw [List.countP_append, cP_flat]
  have e : List.countP (fun a => (P ∘ fun c => (r, c.1, c.2)) a && (aCm S a.1 && aCm S a.2)) (cpR (aKd S r) (bW S (aOn S r)) (bW S (aOt S r)) (bU S r) 10 0) = 0 := rfl
  rw [e, Nat.add_zero]
  apply smN_cg
  intro x _
  rw [cP_cpR]
  rfl
theorem comP_lt2 {S : Ab} {n i j : Nat} (hij : i < j) (hj : j < (comP S n).length) : (comP S n).getD i 0 < (comP S n).getD j 0 := by
  have h : (comP S n).Pairwise (· < ·) := List.Pairwise.sublist List.filter_sublist List.pairwise_lt_range
  rw [List.getD_eq_getElem?_getD, List.getD_eq_getElem?_getD, List.getElem?_eq_getElem hj, List.getElem?_eq_getElem (show i < (comP S n).length by omega)]
  exact List.pairwise_iff_getElem.mp h i j (by omega) hj hij
theorem idx_get {L : List Nat} (hd : L.Nodup) {j : Nat} (hj : j < L.length) : L.idxOf (L.getD j 0) = j := by
  rw [List.getD_eq_getElem?_getD, List.getElem?_eq_getElem hj]
  exact List.Nodup.idxOf_getElem hd j hj
theorem get_idx {L : List Nat} {x : Nat} (h : L.idxOf x < L.length) : L.getD (L.idxOf x) 0 = x := by
  rw [List.getD_eq_getElem?_getD, List.getElem?_eq_getElem h]
  exact List.getElem_idxOf h
theorem atN_old {mem pl : List Nat} (hd : mem.Nodup) {j : Nat} (hj : j < pl.length) (hl : pl.length ≤ mem.length) : atN mem pl (mem.getD j 0) = some (pl.getD j 0) := by
  unfold atN
  rw [idx_get hd (by omega), if_pos hj]
theorem atN_lt {mem pl : List Nat} {x a : Nat} (hl : pl.length ≤ mem.length) (h : atN mem pl x = some a) : ∃ j, j < pl.length ∧ mem.getD j 0 = x ∧ a = pl.getD j 0 := by
  unfold atN at h
  split at h
  · rename_i c
    exact ⟨mem.idxOf x, c, get_idx (by omega), (Option.some.inj h).symm⟩
  · cases h
section BK
variable {S : Ab} {q : Nat} {pl : List Nat} {p : Nat}
theorem bn_key (hO : SOK S) (hi : pl.length < (comP S (aN S)).length) {r : Nat} : (bnQ S q r (cN S r)).countP (bnOn S q (comP S (aN S)) (pl ++ [p]) ((comP S (aN S)).getD pl.length 0)) = smN (fun j => wMany S q r ((comP S (aN S)).getD j 0) ((comP S (aN S)).getD pl.length 0) (pl.getD j 0) p) pl.length := by
  obtain ⟨mem, hm⟩ : ∃ m, m = comP S (aN S) := ⟨_, rfl⟩
  obtain ⟨g, hg⟩ : ∃ g, g = mem.getD pl.length 0 := ⟨_, rfl⟩
  have hnd : mem.Nodup := hm ▸ comP_nodup S (aN S)
  rw [← hm] at hi ⊢
  rw [← hg]
  have hn := hO.n
  have hlt : ∀ j, j < mem.length → mem.getD j 0 < aN S ∧ aCm S (mem.getD j 0) = true := fun j hj => by rw [hm] at hj ⊢; exact cm_lt hj
  have hgl := hlt _ hi
  rw [← hg] at hgl
  by_cases c : cnt S r (nI q) = true
  · unfold bnQ
    rw [if_pos c, cP_bnC, smN_cross (g := g) (by omega)]
    · have e1 : smN (fun y => (if cplL S r g y && (bnOn S q mem (pl ++ [p]) g (r, g, y) && (aCm S g && aCm S y)) then 1 else 0) + (if cplL S r y g && (bnOn S q mem (pl ++ [p]) g (r, y, g) && (aCm S y && aCm S g)) then 1 else 0)) 10 = smN (fun y => if y ∈ mem.take pl.length then (if cplL S r g y && (bnOn S q mem (pl ++ [p]) g (r, g, y) && (aCm S g && aCm S y)) then 1 else 0) + (if cplL S r y g && (bnOn S q mem (pl ++ [p]) g (r, y, g) && (aCm S y && aCm S g)) then 1 else 0) else 0) 10 := by
        apply smN_cg
        intro y _
        by_cases cy : y ∈ mem.take pl.length
        · rw [if_pos cy]
        · rw [if_neg cy]
          have key : ∀ a, atN mem (pl ++ [p]) y = some a → y = g := by
            intro a ha
            obtain ⟨j, h1, h2, h3⟩ := atN_lt (by rw [len_push]; omega) ha
            rw [len_push] at h1
            by_cases cj : j = pl.length
            · rw [← h2, cj, hg]
            · exact absurd (by
                rw [← h2, List.getD_eq_getElem?_getD, List.getElem?_eq_getElem (show j < mem.length by omega)]
                exact List.mem_take_iff_getElem.mpr ⟨j, by omega, rfl⟩) cy
          have z1 : (cplL S r g y && (bnOn S q mem (pl ++ [p]) g (r, g, y) && (aCm S g && aCm S y))) = false := by
            cases e : (cplL S r g y && (bnOn S q mem (pl ++ [p]) g (r, g, y) && (aCm S g && aCm S y))) with
            | false => rfl
            | true =>
              simp only [Bool.and_eq_true] at e
              have e2 := e.2.1
              unfold bnOn at e2
              simp only [Bool.and_eq_true] at e2
              cases ea : atN mem (pl ++ [p]) y with
              | none => have := e2.2; rw [ea] at this; split at this <;> simp_all
              | some a => exact absurd (key a ea) (Ne.symm (cplL_ne e.1))
          have z2 : (cplL S r y g && (bnOn S q mem (pl ++ [p]) g (r, y, g) && (aCm S y && aCm S g))) = false := by
            cases e : (cplL S r y g && (bnOn S q mem (pl ++ [p]) g (r, y, g) && (aCm S y && aCm S g))) with
            | false => rfl
            | true =>
              simp only [Bool.and_eq_true] at e
              have e2 := e.2.1
              unfold bnOn at e2
              simp only [Bool.and_eq_true] at e2
              cases ea : atN mem (pl ++ [p]) y with
              | none => have := e2.2; rw [ea] at this; split at this <;> simp_all
              | some a => exact absurd (key a ea) (cplL_ne e.1)
          rw [z1, z2]
          rfl
      rw [e1, smN_mem (List.Nodup.sublist (List.take_sublist _ _) hnd) (fun x hx => by
        have := List.mem_of_mem_take hx
        rw [hm] at this
        have := (comP_mem.mp this).1
        omega)]
      rw [List.length_take, Nat.min_eq_left (by omega)]
      apply smN_cg
      intro j hj
      have ej : (mem.take pl.length).getD j 0 = mem.getD j 0 := by
        rw [List.getD_eq_getElem?_getD, List.getD_eq_getElem?_getD, List.getElem?_take_of_lt hj]
      rw [ej]
      have ha1 : atN mem (pl ++ [p]) (mem.getD j 0) = some (pl.getD j 0) := by
        rw [atN_old hnd (by rw [len_push]; omega) (by rw [len_push]; omega), get_push hj]
      have ha2 : atN mem (pl ++ [p]) g = some p := by
        rw [hg, atN_old hnd (by rw [len_push]; omega) (by rw [len_push]; omega), get_last]
      have hxl := hlt j (by omega)
      have hxg : mem.getD j 0 < g := by rw [hg, hm]; rw [hm] at hi; exact comP_lt2 hj hi
      generalize mem.getD j 0 = x at *
      have b1 : bnOn S q mem (pl ++ [p]) g (r, g, x) = decide (whoM S r q 0 p (pl.getD j 0) ≠ 0) := by
        unfold bnOn; simp only [ha1, ha2]; simp
      have b2 : bnOn S q mem (pl ++ [p]) g (r, x, g) = decide (whoM S r q 0 (pl.getD j 0) p ≠ 0) := by
        unfold bnOn; simp only [ha1, ha2]; simp
      rw [b1, b2, hxl.2, hgl.2]
      unfold wMany wM1 cntF
      rw [c, hxl.2, hgl.2]
      by_cases k0 : aKd S r = 0
      · rw [if_pos k0]
        have u1 : ∀ u v, cplL S r u v = cpl S r u v := fun u v => by unfold cplL; rw [if_pos k0]
        have u2 : ∀ u v, hasC S r u v = cpl S r u v := fun u v => by unfold hasC; rw [k0]; simp
        rw [u1, u1, u2, u2]
        simp only [Bool.true_and, Bool.and_true]
        omega
      · rw [if_neg k0]
        have u1 : cplL S r g x = false := by unfold cplL; rw [if_neg k0, decide_eq_false (by omega)]; rfl
        have u2 : cplL S r x g = hasC S r x g := by unfold cplL hasC; rw [if_neg k0, decide_eq_true hxg, decide_eq_true k0]; rfl
        rw [u1, u2]
        simp
    · intro x y hx hy
      rw [if_neg]
      unfold bnOn
      simp [hx, hy]
    · rw [if_neg]
      intro e
      rw [Bool.and_eq_true] at e
      exact cplL_ne e.1 rfl
  · unfold bnQ
    rw [if_neg c]
    symm
    apply smN_0
    intro j _
    unfold wMany wM1 cntF
    simp [c]
theorem bnW_cnt (f : Nat × Nat × Nat → Bool) {r : Nat} : ∀ {T : List (Nat × Nat × Nat)}, (∀ t ∈ T, t.1 = r) → bnW S f T = T.countP f * aWt S r := by
  intro T
  induction T with
  | nil => intro _; exact (Nat.zero_mul _).symm
  | cons a t ih =>
    intro h
    rw [bnW, ih (fun x hx => h x (List.mem_cons_of_mem _ hx)), List.countP_cons, h a (List.mem_cons_self ..)]
    by_cases c : f a = true
    · rw [if_pos c, if_pos c, Nat.add_mul]; omega
    · rw [if_neg c, if_neg c, Nat.zero_add, Nat.add_zero]
theorem bnQ_1 {r k : Nat} : ∀ t ∈ bnQ S q r k, t.1 = r := by
  intro t ht
  unfold bnQ at ht
  split at ht
  · unfold bnC at ht
    obtain ⟨c, -, rfl⟩ := List.mem_map.mp ht
    rfl
  · cases ht
theorem bnP_W (f : Nat × Nat × Nat → Bool) : ∀ i, bnW S f (bnP S q i) = smN (fun r => (bnQ S q r (cN S r)).countP f * aWt S r) i := by
  intro i
  induction i with
  | zero => rfl
  | succ i ih =>
    unfold bnP at ih ⊢
    rw [List.range_succ, List.flatMap_append, List.flatMap_cons, List.flatMap_nil, List.append_nil, bnW_app, ih, smN, bnW_cnt f bnQ_1]
theorem wgR_sm (x y a b : Nat) : ∀ k, wgR S q x y a b k = smN (fun r => wMany S q r x y a b * aWt S r) k := by
  intro k
  induction k with
  | zero => rfl
  | succ k ih => rw [wgR, smN, ih]
theorem seW_sm (mem : List Nat) (hp : p ∉ pl) : ∀ i, i ≤ pl.length → seW S q mem pl p i = smN (fun j => wgR S q (mem.getD j 0) (mem.getD pl.length 0) (pl.getD j 0) p (aRl S)) i := by
  intro i
  induction i with
  | zero => intro _; rfl
  | succ i ih =>
    intro hi
    rw [seW, smN, ih (by omega)]
    congr 1
    unfold wgP
    rw [if_pos]
    refine ⟨by omega, fun e => hp ?_⟩
    rw [← e, List.getD_eq_getElem?_getD, List.getElem?_eq_getElem (show i < pl.length by omega)]
    exact List.getElem_mem _
theorem bn_sum (hO : SOK S) (hi : pl.length < (comP S (aN S)).length) (hp : p ∉ pl) : bnW S (bnOn S q (comP S (aN S)) (pl ++ [p]) ((comP S (aN S)).getD pl.length 0)) (bnA S q) = seW S q (comP S (aN S)) pl p pl.length := by
  unfold bnA
  rw [bnP_W, seW_sm _ hp _ (Nat.le_refl _)]
  have e : (fun r => List.countP (bnOn S q (comP S (aN S)) (pl ++ [p]) ((comP S (aN S)).getD pl.length 0)) (bnQ S q r (cN S r)) * aWt S r) = (fun r => smN (fun j => wMany S q r ((comP S (aN S)).getD j 0) ((comP S (aN S)).getD pl.length 0) (pl.getD j 0) p * aWt S r) pl.length) := funext fun r => by rw [bn_key hO hi, smN_mul]
  rw [e, smN_swap]
  apply smN_cg
  intro j _
  rw [wgR_sm]
theorem hvR_le2 {x y a b t : Nat} : ∀ k, hvR S q x y a b k ≤ t ↔ ∀ r, r < k → 0 < wMany S q r x y a b → aWt S r ≤ t := by
  intro k
  induction k with
  | zero => simp [hvR]
  | succ k ih =>
    rw [hvR]
    constructor
    · intro h r hr hw
      by_cases e : r = k
      · subst e; rw [if_pos hw] at h; omega
      · refine ih.mp ?_ r (by omega) hw
        split at h <;> omega
    · intro h
      have h1 := ih.mpr (fun r hr => h r (by omega))
      split
      · rename_i c; have := h k (by omega) c; omega
      · exact h1
theorem seH_le2 (mem : List Nat) (hp : p ∉ pl) {m t : Nat} : ∀ i, i ≤ pl.length → (seH S q mem pl p m i ≤ t ↔ m ≤ t ∧ ∀ j, j < i → ∀ r, r < aRl S → 0 < wMany S q r (mem.getD j 0) (mem.getD pl.length 0) (pl.getD j 0) p → aWt S r ≤ t) := by
  intro i
  induction i with
  | zero => intro _; simp [seH]
  | succ i ih =>
    intro hi
    rw [seH, Nat.max_le, ih (by omega)]
    have e : hvP S q i pl.length (mem.getD i 0) (mem.getD pl.length 0) (pl.getD i 0) p = hvR S q (mem.getD i 0) (mem.getD pl.length 0) (pl.getD i 0) p (aRl S) := by
      unfold hvP
      rw [if_pos]
      refine ⟨by omega, fun e => hp ?_⟩
      rw [← e, List.getD_eq_getElem?_getD, List.getElem?_eq_getElem (show i < pl.length by omega)]
      exact List.getElem_mem _
    rw [e, hvR_le2]
    constructor
    · intro ⟨⟨h1, h2⟩, h3⟩
      refine ⟨h1, fun j hj => ?_⟩
      by_cases c : j = i
      · rw [c]; exact h3
      · exact h2 j (by omega)
    · intro ⟨h1, h2⟩
      exact ⟨⟨h1, fun j hj => h2 j (by omega)⟩, h2 i (by omega)⟩
theorem bn_max (hO : SOK S) (hi : pl.length < (comP S (aN S)).length) (hp : p ∉ pl) (m : Nat) : bnM S (bnOn S q (comP S (aN S)) (pl ++ [p]) ((comP S (aN S)).getD pl.length 0)) m (bnA S q) = seH S q (comP S (aN S)) pl p m pl.length := by
  have key : ∀ t, bnM S (bnOn S q (comP S (aN S)) (pl ++ [p]) ((comP S (aN S)).getD pl.length 0)) m (bnA S q) ≤ t ↔ seH S q (comP S (aN S)) pl p m pl.length ≤ t := by
    intro t
    rw [bnM_le, seH_le2 _ hp _ (Nat.le_refl _)]
    refine and_congr Iff.rfl ?_
    constructor
    · intro h j hj r hr hw
      have h1 : 0 < smN (fun j => wMany S q r ((comP S (aN S)).getD j 0) ((comP S (aN S)).getD pl.length 0) (pl.getD j 0) p) pl.length := smN_pos.mpr ⟨j, hj, hw⟩
      rw [← bn_key hO hi] at h1
      obtain ⟨x, hx, hf⟩ := List.countP_pos_iff.mp h1
      have := h x (List.mem_flatMap.mpr ⟨r, List.mem_range.mpr hr, hx⟩) hf
      rw [bnQ_1 x hx] at this
      exact this
    · intro h x hx hf
      obtain ⟨r, hr, hx2⟩ := List.mem_flatMap.mp hx
      have h1 : 0 < List.countP (bnOn S q (comP S (aN S)) (pl ++ [p]) ((comP S (aN S)).getD pl.length 0)) (bnQ S q r (cN S r)) := List.countP_pos_iff.mpr ⟨x, hx2, hf⟩
      rw [bn_key hO hi] at h1
      obtain ⟨j, hj, hw⟩ := smN_pos.mp h1
      rw [bnQ_1 x hx2]
      exact h j hj r (List.mem_range.mp hr) hw
  exact Nat.le_antisymm ((key _).mpr (Nat.le_refl _)) ((key _).mp (Nat.le_refl _))
end BK
