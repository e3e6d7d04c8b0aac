/-! rings: a set in which each has one behind it, or one ahead of it -/
set_option maxRecDepth 100000
/-- x comes down to t -/
def rc (A : Gr) (n hp t x : Nat) : Prop := ∃ d, farO A n hp t 10 x = some d
section GRAPH
variable {A : Gr} {n hp t x y g : Nat}
theorem far_kp {d k : Nat} (h : farO A n hp t k x = some d) : ∀ j, farO A n hp t (k + j) x = some d := by
  intro j
  induction j with
  | zero => exact h
  | succ j ih => exact farO_keep ih
theorem far_dn {d : Nat} : ∀ j, farO A n hp t (d + j) x = some d → farO A n hp t d x = some d := by
  intro j
  induction j with
  | zero => exact id
  | succ j ih =>
    intro q
    apply ih
    cases e : farO A n hp t (d + j) x with
    | some d2 => rw [← Nat.add_assoc, farO_keep e] at q; exact q
    | none =>
      rw [← Nat.add_assoc, farO, e] at q
      dsimp only at q
      split at q
      · have := Option.some.inj q; omega
      · cases q
theorem far_t (k : Nat) : farO A n hp t k t = some 0 := by
  induction k with
  | zero => exact if_pos rfl
  | succ k ih => exact farO_keep ih
theorem far_z {k : Nat} (h : farO A n hp t k x = some 0) : x = t := by
  have := far_dn (d := 0) k (by rw [Nat.zero_add]; exact h)
  unfold farO at this
  split at this
  · assumption
  · cases this
theorem rc_t : rc A n hp t t := ⟨0, far_t 10⟩
theorem rc_step (hn : n ≤ 10) (ht : t < n) (hx : x < n) (hbx : hp.testBit x = true) (hy : y < n) (hby : hp.testBit y = true) (hA : A x y = true) (h : rc A n hp t y) : rc A n hp t x := by
  obtain ⟨d, hd⟩ := h
  have hdn := far_lt ht hd
  have h1 : farO A n hp t d y = some d := far_dn (10 - d) (by rw [show d + (10 - d) = 10 by omega]; exact hd)
  cases e : farO A n hp t d x with
  | some d2 =>
    have := far_kp e (10 - d)
    rw [show d + (10 - d) = 10 by omega] at this
    exact ⟨_, this⟩
  | none =>
    have h2 : farO A n hp t (d + 1) x = some (d + 1) := by
      rw [farO_step e hx hbx, if_pos]
      rw [anyB_iff]
      exact ⟨y, hy, by rw [decide_eq_true h1, hby, hA]; rfl⟩
    have := far_kp h2 (10 - (d + 1))
    rw [show d + 1 + (10 - (d + 1)) = 10 by omega] at this
    exact ⟨_, this⟩
theorem rc_in (h : rc A n hp t x) (hx : x ≠ t) : x < n ∧ hp.testBit x = true ∧ ∃ z, z < n ∧ hp.testBit z = true ∧ A x z = true ∧ rc A n hp t z := by
  obtain ⟨d, hd⟩ := h
  cases d with
  | zero => exact absurd (far_z hd) hx
  | succ d =>
    obtain ⟨a, b, z, c, d1, e, f⟩ := farO_next _ _ _ hd
    exact ⟨a, b, z, c, d1, e, ⟨_, f⟩⟩
theorem rc_tr (hn : n ≤ 10) (ht : t < n) (hbt : hp.testBit t = true) (hg : g < n) (hbg : hp.testBit g = true) (hA : A t g = true) (h : rc A n hp t x) : rc A n hp g x := by
  obtain ⟨d, hd⟩ := h
  induction d generalizing x with
  | zero =>
    rw [far_z hd]
    exact rc_step hn hg ht hbt hg hbg hA rc_t
  | succ d ih =>
    obtain ⟨a, b, z, c, d1, e, f⟩ := farO_next _ _ _ hd
    exact rc_step hn hg a b c d1 e (ih f)
/-- the last step -/
theorem rc_last (hn : n ≤ 10) (hx : x < n) (h : rc A n hp x y) (hy : y ≠ x) : ∃ u, u < n ∧ hp.testBit u = true ∧ A u x = true ∧ rc A n hp u y := by
  obtain ⟨d, hd⟩ := h
  induction d generalizing y with
  | zero => exact absurd (far_z hd) hy
  | succ d ih =>
    obtain ⟨a, b, z, c, d1, e, f⟩ := farO_next _ _ _ hd
    by_cases c2 : z = x
    · rw [c2] at e
      exact ⟨y, a, b, e, rc_t⟩
    · obtain ⟨u, u1, u2, u3, u4⟩ := ih c2 f
      exact ⟨u, u1, u2, u3, rc_step hn u1 a b c d1 e u4⟩
theorem ring_iff (hir : ∀ x, A x x = false) : ringB A n hp = true ↔ ∃ g, g < n ∧ hp.testBit g = true ∧ ∃ z, z < n ∧ z ≠ g ∧ A g z = true ∧ rc A n hp g z := by
  unfold ringB
  rw [anyB_iff]
  constructor
  · rintro ⟨g, hg, q⟩
    simp only [Bool.and_eq_true] at q
    obtain ⟨b, hb⟩ := Option.isSome_iff_exists.mp q.2
    obtain ⟨z, hz, hz2, d, hd, -⟩ := thrO_next _ _ hb
    exact ⟨g, hg, q.1, z, hz, (fun e => by rw [e, hir] at hz2; cases hz2), hz2, d, hd⟩
  · rintro ⟨g, hg, hb, z, hz, hzg, hA, d, hd⟩
    obtain ⟨b, hb2, -⟩ := thr_min hzg hA hd n hz
    exact ⟨g, hg, by rw [hb, hb2]; rfl⟩
def rcq (A : Gr) (n hp t x u v : Nat) : Bool := decide (u < n) && (decide (u ≠ v) && (farO A n hp t 10 x).isSome)
theorem rcq_iff {u v : Nat} : rcq A n hp t x u v = true ↔ u < n ∧ u ≠ v ∧ rc A n hp t x := by
  unfold rcq rc
  rw [Bool.and_eq_true, Bool.and_eq_true, decide_eq_true_eq, decide_eq_true_eq, Option.isSome_iff_exists]
theorem core_succ (hn : n ≤ 10) (hir : ∀ x, A x x = false) {C : Nat → Prop} (hC : ∀ x, C x → x < n ∧ hp.testBit x = true ∧ ∃ z, C z ∧ A x z = true) {x0 : Nat} (h0 : C x0) : ringB A n hp = true := by
  apply Classical.byContradiction
  intro hr
  have hno : ∀ g, g < n → hp.testBit g = true → ∀ z, z < n → A g z = true → ¬ rc A n hp g z := fun g hg hb z hz hA hrc => hr ((ring_iff hir).mpr ⟨g, hg, hb, z, hz, (fun e => by rw [e, hir] at hA; cases hA), hA, hrc⟩)
  have key : ∀ m x, C x → cntN (fun z => rcq A n hp z x z x) n ≤ m → False := by
    intro m
    induction m with
    | zero =>
      intro x hx hm
      obtain ⟨h1, h2, z, h3, h4⟩ := hC x hx
      obtain ⟨z1, z2, -⟩ := hC z h3
      have hzx : z ≠ x := fun e => by rw [e, hir] at h4; cases h4
      have := (cntN_mono (p := fun _ => false) (q := fun z => rcq A n hp z x z x) (fun x h => by cases h) n).2 ⟨z, z1, rfl, rcq_iff.mpr ⟨z1, hzx, rc_step hn z1 h1 h2 z1 z2 h4 rc_t⟩⟩
      omega
    | succ m ih =>
      intro x hx hm
      obtain ⟨h1, h2, z, h3, h4⟩ := hC x hx
      obtain ⟨z1, z2, -⟩ := hC z h3
      have hzx : z ≠ x := fun e => by rw [e, hir] at h4; cases h4
      refine ih z h3 ?_
      have := (cntN_mono (p := fun u => rcq A n hp u z u z) (q := fun u => rcq A n hp u x u x) (fun u h => by
        rw [rcq_iff] at h ⊢
        refine ⟨h.1, fun e => ?_, rc_step hn h.1 h1 h2 z1 z2 h4 h.2.2⟩
        exact hno x h1 h2 z z1 h4 (e ▸ h.2.2)) n).2 ⟨z, z1, Bool.eq_false_iff.mpr (fun e => (rcq_iff.mp e).2.1 rfl), rcq_iff.mpr ⟨z1, hzx, rc_step hn z1 h1 h2 z1 z2 h4 rc_t⟩⟩
      omega
  exact key _ x0 h0 (Nat.le_refl _)
theorem core_pred (hn : n ≤ 10) (hir : ∀ x, A x x = false) {C : Nat → Prop} (hC : ∀ x, C x → x < n ∧ hp.testBit x = true ∧ ∃ z, C z ∧ A z x = true) {x0 : Nat} (h0 : C x0) : ringB A n hp = true := by
  apply Classical.byContradiction
  intro hr
  have hno : ∀ g, g < n → hp.testBit g = true → ∀ z, z < n → A g z = true → ¬ rc A n hp g z := fun g hg hb z hz hA hrc => hr ((ring_iff hir).mpr ⟨g, hg, hb, z, hz, (fun e => by rw [e, hir] at hA; cases hA), hA, hrc⟩)
  have key : ∀ m x, C x → cntN (fun z => rcq A n hp x z z x) n ≤ m → False := by
    intro m
    induction m with
    | zero =>
      intro x hx hm
      obtain ⟨h1, h2, z, h3, h4⟩ := hC x hx
      obtain ⟨z1, z2, -⟩ := hC z h3
      have hzx : z ≠ x := fun e => by rw [e, hir] at h4; cases h4
      have := (cntN_mono (p := fun _ => false) (q := fun z => rcq A n hp x z z x) (fun x h => by cases h) n).2 ⟨z, z1, rfl, rcq_iff.mpr ⟨z1, hzx, rc_step hn h1 z1 z2 h1 h2 h4 rc_t⟩⟩
      omega
    | succ m ih =>
      intro x hx hm
      obtain ⟨h1, h2, z, h3, h4⟩ := hC x hx
      obtain ⟨z1, z2, -⟩ := hC z h3
      have hzx : z ≠ x := fun e => by rw [e, hir] at h4; cases h4
      refine ih z h3 ?_
      have := (cntN_mono (p := fun u => rcq A n hp z u u z) (q := fun u => rcq A n hp x u u x) (fun u h => by
        rw [rcq_iff] at h ⊢
        refine ⟨h.1, fun e => ?_, rc_tr hn z1 z2 h1 h2 h4 h.2.2⟩
        exact hno z z1 z2 x h1 h4 (e ▸ h.2.2)) n).2 ⟨z, z1, Bool.eq_false_iff.mpr (fun e => (rcq_iff.mp e).2.1 rfl), rcq_iff.mpr ⟨z1, hzx, rc_step hn h1 z1 z2 h1 h2 h4 rc_t⟩⟩
      omega
  exact key _ x0 h0 (Nat.le_refl _)
/-- of a ring each has one behind it and one ahead of it -/
theorem ring_core (hn : n ≤ 10) (hir : ∀ x, A x x = false) (h : ringB A n hp = true) : ∃ C : Nat → Prop, (∃ x, C x) ∧ ∀ x, C x → x < n ∧ hp.testBit x = true ∧ (∃ z, C z ∧ A x z = true) ∧ ∃ z, C z ∧ A z x = true := by
  obtain ⟨g, hg, hb, z0, hz0, hzg, hA, hrc⟩ := (ring_iff hir).mp h
  have hbz := (rc_in hrc hzg).2.1
  refine ⟨fun x => x < n ∧ hp.testBit x = true ∧ rc A n hp g x ∧ rc A n hp x g, ⟨g, hg, hb, rc_t, rc_t⟩, fun x hx => ⟨hx.1, hx.2.1, ?_, ?_⟩⟩
  · by_cases c : x = g
    · subst c
      exact ⟨z0, ⟨hz0, hbz, hrc, rc_step hn hz0 hg hb hz0 hbz hA rc_t⟩, hA⟩
    · obtain ⟨-, -, z, z1, z2, z3, z4⟩ := rc_in hx.2.2.1 c
      exact ⟨z, ⟨z1, z2, z4, rc_tr hn hx.1 hx.2.1 z1 z2 z3 hx.2.2.2⟩, z3⟩
  · by_cases c : x = g
    · subst c
      obtain ⟨u, u1, u2, u3, u4⟩ := rc_last hn hg hrc hzg
      exact ⟨u, ⟨u1, u2, rc_step hn hg u1 u2 hg hb u3 rc_t, rc_step hn u1 hg hb hz0 hbz hA u4⟩, u3⟩
    · obtain ⟨u, u1, u2, u3, u4⟩ := rc_last hn hx.1 hx.2.2.2 (fun e => c e.symm)
      exact ⟨u, ⟨u1, u2, rc_step hn hg u1 u2 hx.1 hx.2.1 u3 hx.2.2.1, u4⟩, u3⟩
/-! the order that is picked -/
theorem pick_mem {L : List Nat} (h : pickL A L = some g) : g ∈ L ∧ L.any (fun x => A x g) = false := by
  unfold pickL at h
  exact ⟨List.mem_of_find?_eq_some h, by have := List.find?_some h; simpa using this⟩
theorem pick_no {L : List Nat} (h : pickL A L = none) : ∀ g ∈ L, ∃ x ∈ L, A x g = true := by
  unfold pickL at h
  intro g hg
  have := List.find?_eq_none.mp h g hg
  simpa using this
theorem pick_ex (hn : n ≤ 10) (hir : ∀ x, A x x = false) (hr : ringB A n (2 ^ n - 1) = false) {L : List Nat} (hL : ∀ u ∈ L, u < n) (h0 : L ≠ []) : ∃ g, pickL A L = some g := by
  cases e : pickL A L with
  | some g => exact ⟨g, rfl⟩
  | none =>
    have := pick_no e
    obtain ⟨x0, hx0⟩ := List.exists_mem_of_ne_nil L h0
    have := core_pred (A := A) (n := n) (hp := 2 ^ n - 1) hn hir (C := fun x => x ∈ L) (fun x hx => ⟨hL x hx, all_bit (hL x hx), by obtain ⟨z, z1, z2⟩ := this x hx; exact ⟨z, z1, z2⟩⟩) hx0
    rw [hr] at this
    cases this
theorem ord_full (hn : n ≤ 10) (hir : ∀ x, A x x = false) (hr : ringB A n (2 ^ n - 1) = false) : ∀ f (L : List Nat), (∀ u ∈ L, u < n) → L.length ≤ f → (ordL A f L).length = L.length := by
  intro f
  induction f with
  | zero =>
    intro L _ h
    rw [List.length_eq_zero_iff.mp (Nat.le_zero.mp h)]
    rfl
  | succ f ih =>
    intro L hL h
    by_cases h0 : L = []
    · rw [h0]; rfl
    · obtain ⟨g, hg⟩ := pick_ex hn hir hr hL h0
      have hm := (pick_mem hg).1
      have hl := List.length_erase_of_mem hm
      have hp := List.length_pos_of_mem hm
      rw [ordL, hg, List.length_cons, ih (L.erase g) (fun u hu => hL u (List.mem_of_mem_erase hu)) (by omega), hl]
      omega
theorem ord_stuck {C : Nat → Prop} (h0 : ∃ x, C x) (hC : ∀ x, C x → ∃ z, C z ∧ A z x = true) : ∀ f (L : List Nat), (∀ x, C x → x ∈ L) → (ordL A f L).length < L.length := by
  intro f
  induction f with
  | zero =>
    intro L hL
    obtain ⟨x, hx⟩ := h0
    exact List.length_pos_of_mem (hL x hx)
  | succ f ih =>
    intro L hL
    obtain ⟨x, hx⟩ := h0
    have hp := List.length_pos_of_mem (hL x hx)
    unfold ordL
    cases e : pickL A L with
    | none => exact hp
    | some g =>
      have hm := pick_mem e
      have hg : ¬ C g := fun q => by
        obtain ⟨z, z1, z2⟩ := hC g q
        have := List.any_eq_false.mp hm.2 z (hL z z1)
        exact this z2
      have := ih (L.erase g) (fun u hu => (List.mem_erase_of_ne (fun c : u = g => hg (c ▸ hu))).mpr (hL u hu))
      have hl := List.length_erase_of_mem hm.1
      dsimp only
      rw [List.length_cons]
      omega
end GRAPH
theorem comL_P (S : Ab) : comL S = comP S (aN S) := by
  unfold comL bitsL comP
  apply List.filter_congr
  intro x hx
  rw [comB_bit, decide_eq_true (List.mem_range.mp hx), Bool.true_and]
/-- whether all come into the order -/
theorem ord_ring {S : Ab} (hO : SOK S) (h2 : SO2 S) (room : Int32) : decide ((ordL (abv S room 0) (aN S) (comL S)).length = (comL S).length) = !(ringB (abv S room 0) (aN S) (2 ^ aN S - 1)) := by
  have hn := hO.n
  cases c : ringB (abv S room 0) (aN S) (2 ^ aN S - 1) with
  | false =>
    exact decide_eq_true (ord_full hn (abv_rr S room 0) c _ _ (fun u hu => (bitsL_mem.mp hu).1) (bitsL_len _ _))
  | true =>
    obtain ⟨C, h0, hC⟩ := ring_core hn (abv_rr S room 0) c
    have := ord_stuck (A := abv S room 0) h0 (fun x hx => (hC x hx).2.2.2) (aN S) (comL S) (fun x hx => by
      obtain ⟨h1, -, ⟨z, -, z2⟩, -⟩ := hC x hx
      rw [comL_P]
      exact comP_mem.mpr ⟨h1, (abv_com z2).1⟩)
    exact decide_eq_false (by omega)
