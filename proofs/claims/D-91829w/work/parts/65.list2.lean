/-! lists: what adding does -/
set_option maxRecDepth 100000
/-- a and q are written, all else is as it was -/
def PW (h h1 : Hp) (a q : Nat) (ca cq : va_E) (t : Nat) : Prop := h1 a = some (ca, t) ∧ h1 q = some (cq, t) ∧ ∀ b, b ≠ a → b ≠ q → h1 b = h b
theorem pw_2 {h : Hp} {a q : Nat} {ca cq : va_E} {t : Nat} (n : q ≠ a) : PW h (hset (hset h q cq t) a ca t) a q ca cq t := ⟨hset_self _ _ _ _, (hset_ne _ _ _ n).trans (hset_self _ _ _ _), fun b h1 h2 => (hset_ne _ _ _ h1).trans (hset_ne _ _ _ h2)⟩
theorem pw_4 {h : Hp} {a q : Nat} {ca cq ca0 cq0 : va_E} {t : Nat} (n : q ≠ a) : PW h (hset (hset (hset (hset h q cq0 t) a ca0 t) q cq t) a ca t) a q ca cq t := ⟨hset_self _ _ _ _, (hset_ne _ _ _ n).trans (hset_self _ _ _ _), fun b h1 h2 => (hset_ne _ _ _ h1).trans ((hset_ne _ _ _ h2).trans ((hset_ne _ _ _ h1).trans (hset_ne _ _ _ h2)))⟩
/-- objects stay objects -/
def obK (h h1 : Hp) : Prop := ∀ y, OBJ h y → OBJ h1 y
theorem obK.rf {h : Hp} : obK h h := fun _ q => q
theorem obK.tr {h h1 h2 : Hp} (a : obK h h1) (b : obK h1 h2) : obK h h2 := fun y q => b y (a y q)
theorem pw_ob {h h1 : Hp} {a q ci : Nat} {fs : List Value} {cq : va_E} {t : Nat} (p : PW h h1 a q (.inr (ci, fs)) cq t) (hq : ∀ x u, h q = some (x, u) → ∃ y, x = .inl y) : obK h h1 := by
  intro y hy
  by_cases c1 : y = a
  · subst c1; exact ⟨ci, fs, t, p.1⟩
  · by_cases c2 : y = q
    · subst c2
      obtain ⟨ci2, fs2, u, he⟩ := hy
      obtain ⟨z, hz⟩ := hq _ _ he
      cases hz
    · obtain ⟨ci2, fs2, u, he⟩ := hy
      exact ⟨ci2, fs2, u, (p.2.2 y c1 c2).trans he⟩
theorem pw_fr {h h1 : Hp} {a q : Nat} {ca cq ca0 : va_E} {t : Nat} (p : PW h h1 a q ca cq t) (ha : h a = some (ca0, t)) (hq : h q = none ∨ ∃ x, h q = some (x, t)) : frT t h h1 := by
  intro b e u hb n
  have n1 : b ≠ a := fun c => by subst c; rw [ha] at hb; cases hb; exact n rfl
  have n2 : b ≠ q := fun c => by
    subst c
    rcases hq with z | ⟨x, z⟩
    · rw [z] at hb; cases hb
    · rw [z] at hb; cases hb; exact n rfl
  rw [p.2.2 b n1 n2]
  exact hb
theorem al_push {K4 : ClassId} {ed : Nat} {h h1 : Hp} {a t x q : Nat} {L : List Nat} {j : Nat} {mcn : Int32} {f : Nat → Option Nat} (p : PW h h1 a q (.inr (20, [.int mcn, .ref q, .int (nI (L.length + 1))])) (.inl (K4, gcap j, .inr (.inr (.inr (.inr (va_up f L.length (some x))))))) t) (hk : obK h h1) (hob : ∀ y ∈ L, OBJ h y) (hx : OBJ h x) (hj : 0 < j ∧ j ≤ 13) (hl : L.length < gcap j) (hf : ∀ i, i < L.length → f i = some (L.getD i 0)) : AL K4 ed h1 a t (L ++ [x]) j := by
  refine ⟨mcn, q, ?_, ?_, ⟨?_, hj.2⟩, Or.inr ⟨hj.1, _, p.2.1, ?_⟩⟩
  · rw [p.1, len_push]
  · intro y hy
    rcases List.mem_append.mp hy with z | z
    · exact hk y (hob y z)
    · rw [List.mem_singleton.mp z]; exact hk x hx
  · rw [len_push]; omega
  · intro i hi
    rw [len_push] at hi
    by_cases c : i = L.length
    · rw [c, va_up_self, get_last]
    · rw [va_up_ne _ _ c, get_push (by omega)]; exact hf i (by omega)
theorem cpy_at {f : Nat → Option Nat} {n i : Nat} (h : i < n) : va_cpy f (fun _ => none) 0 0 n i = f i := by
  unfold va_cpy
  rw [if_pos (by omega)]
  congr 1
  omega
theorem pw_tr {h h1 : Hp} {a q : Nat} {c0 ca cq : va_E} {t : Nat} (p : PW (hset h a c0 t) h1 a q ca cq t) : PW h h1 a q ca cq t := ⟨p.1, p.2.1, fun b h1 h2 => (p.2.2 b h1 h2).trans (hset_ne _ _ _ h1)⟩
theorem hset_none {h : Hp} {a q : Nat} {c0 : va_E} {t : Nat} (p : hset h a c0 t q = none) : h q = none := by
  by_cases c : q = a
  · subst c; rw [hset_self] at p; cases p
  · rw [hset_ne _ _ _ c] at p; exact p
theorem add_fin {K4 : ClassId} {ed : Nat} {h h1 : Hp} {a t x q : Nat} {L : List Nat} {j : Nat} {mcn : Int32} {f : Nat → Option Nat} {ca0 : va_E} (p : PW h h1 a q (.inr (20, [.int mcn, .ref q, .int (nI (L.length + 1))])) (.inl (K4, gcap j, .inr (.inr (.inr (.inr (va_up f L.length (some x))))))) t) (ha : h a = some (ca0, t)) (hq : h q = none ∨ ∃ y, h q = some (y, t)) (hq2 : ∀ y u, h q = some (y, u) → ∃ z, y = .inl z) (hob : ∀ y ∈ L, OBJ h y) (hx : OBJ h x) (hj : 0 < j ∧ j ≤ 13) (hl : L.length < gcap j) (hf : ∀ i, i < L.length → f i = some (L.getD i 0)) : some (Value.int (nI 1)) = some (Value.int (zI true)) ∧ AL K4 ed h1 a t (L ++ [x]) j ∧ frT t h h1 ∧ obK h h1 :=
  ⟨rfl, al_push p (pw_ob p hq2) hob hx hj hl hf, pw_fr p ha hq, pw_ob p hq2⟩
