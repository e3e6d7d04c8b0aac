/-! how the world goes on: setters -/
set_option maxRecDepth 100000
theorem gcap_14 : ∀ j, j ≤ 13 → gcap (j + 1) ≤ 1851 := by decide
theorem gs_d {j j2 : Nat} {G : Prop} (hj : j2 = j ∨ (j2 = j + 1 ∧ G)) : gsum j2 - gsum j ≤ gcap (j + 1) ∧ j2 - j ≤ 1 := by
  rcases hj with e | ⟨e, _⟩
  · rw [e]; omega
  · rw [e]; show gsum j + gcap (j + 1) - gsum j ≤ _ ∧ _; omega
theorem eg_comes (S : Ab) (g : Nat) (b : Bool) : eqG S (outS (setB S 1 g b) g) g ∧ aCm (outS (setB S 1 g b) g) g = b ∧ aSi (outS (setB S 1 g b) g) g = false ∧ aIr (outS (setB S 1 g b) g) g = -1 ∧ aIp (outS (setB S 1 g b) g) g = -1 := by
  refine ⟨⟨⟨rfl, rfl, rfl, rfl, rfl, rfl⟩, fun k hk => ?_⟩, ?_, ?_, ?_, ?_⟩ <;> simp [outS, setX, setB, aCm, aSi, aIr, aIp, va_up, *]
theorem eg_seat (S : Ab) (g : Nat) (a b : Int32) : eqG S (setX (setX S 2 g a) 3 g b) g ∧ aCm (setX (setX S 2 g a) 3 g b) g = aCm S g ∧ aSi (setX (setX S 2 g a) 3 g b) g = aSi S g ∧ aIr (setX (setX S 2 g a) 3 g b) g = a ∧ aIp (setX (setX S 2 g a) 3 g b) g = b := by
  refine ⟨⟨⟨rfl, rfl, rfl, rfl, rfl, rfl⟩, fun k hk => ?_⟩, ?_, ?_, ?_, ?_⟩ <;> simp [setX, aCm, aSi, aIr, aIp, va_up, *]
theorem eg_sits (S : Ab) (g : Nat) (b : Bool) : eqG S (setB S 2 g b) g ∧ aCm (setB S 2 g b) g = aCm S g ∧ aSi (setB S 2 g b) g = b ∧ aIr (setB S 2 g b) g = aIr S g ∧ aIp (setB S 2 g b) g = aIp S g := by
  refine ⟨⟨⟨rfl, rfl, rfl, rfl, rfl, rfl⟩, fun k hk => ?_⟩, ?_, ?_, ?_, ?_⟩ <;> simp [setB, aCm, aSi, aIr, aIp, va_up, *]
theorem eg_cell {S S' : Ab} {w : Nat → Nat} {g : Nat} {cm si : Bool} {ir ip : Int32} (h : eqG S S' g ∧ aCm S' g = cm ∧ aSi S' g = si ∧ aIr S' g = ir ∧ aIp S' g = ip) : (Sum.inr (4, [.ref (w (100 + g)), .int (nI g), .int (zI cm), .int (zI si), .int ir, .int ip]) : va_E) = .inr (4, [.ref (w (100 + g)), .int (nI g), .int (zI (aCm S' g)), .int (zI (aSi S' g)), .int (aIr S' g), .int (aIp S' g)]) := by
  rw [h.2.1, h.2.2.1, h.2.2.2.1, h.2.2.2.2]
section SETS
variable {K : Nat → ClassId} {ed : Nat} {S S' : Ab} {h h1 h4 : Hp} {w : Nat → Nat} {Ls : Nat → List Nat} {J : Nat → Nat} {Z : Nat → Nat → Int32}
/-- a byte more -/
theorem CW.push (W : CW K ed S h w Ls J Z) {tx : Nat → Int32} (ht : h (w 1) = some (.inl (K 1, 700, .inl tx), 2)) (h2 : ∀ k, k < aSz S → tx k = aTx S k) (x : Int32) : ∃ h1, h1 = hset (hset h (w 1) (.inl (K 1, 700, .inl (upd tx (aSz S) x))) 2) (w 0) (x0C w (pushB S x) (Z 6 0)) 1 ∧ CW K ed (pushB S x) h1 w Ls J Z ∧ fr0 h h1 := by
  refine ⟨_, rfl, ?_, fun b e q => ?_⟩
  · have hne : w 1 ≠ w 0 := ne_ao ht W.x
    have fr1 : frT 2 h (hset h (w 1) (.inl (K 1, 700, .inl (upd tx (aSz S) x))) 2) := set_fr ht
    have o1 : obK h (hset h (w 1) (.inl (K 1, 700, .inl (upd tx (aSz S) x))) 2) := fun y q => OBJ.arr q ht
    have hx1 := fr1 _ _ _ W.x (by decide)
    have fr2 : frT 1 (hset h (w 1) (.inl (K 1, 700, .inl (upd tx (aSz S) x))) 2) (hset (hset h (w 1) (.inl (K 1, 700, .inl (upd tx (aSz S) x))) 2) (w 0) (x0C w (pushB S x) (Z 6 0)) 1) := set_fr hx1
    have o2 : obK h (hset (hset h (w 1) (.inl (K 1, 700, .inl (upd tx (aSz S) x))) 2) (w 0) (x0C w (pushB S x) (Z 6 0)) 1) := fun y q => OBJ.set (o1 y q) (fun _ => ⟨_, _, rfl⟩)
    have fr : ∀ b e u, h b = some (e, u) → u ≠ 1 → u ≠ 2 → hset (hset h (w 1) (.inl (K 1, 700, .inl (upd tx (aSz S) x))) 2) (w 0) (x0C w (pushB S x) (Z 6 0)) 1 b = some (e, u) := fun b e u q n1 n2 => fr2 _ _ _ (fr1 _ _ _ q n2) n1
    have k0 : hset (hset h (w 1) (.inl (K 1, 700, .inl (upd tx (aSz S) x))) 2) (w 0) (x0C w (pushB S x) (Z 6 0)) 1 (w 0) = some (x0C w (pushB S x) (Z 6 0), 1) := hset_self _ _ _ _
    have k1 : hset (hset h (w 1) (.inl (K 1, 700, .inl (upd tx (aSz S) x))) 2) (w 0) (x0C w (pushB S x) (Z 6 0)) 1 (w 1) = some (.inl (K 1, 700, .inl (upd tx (aSz S) x)), 2) := (hset_ne _ _ _ hne).trans (hset_self _ _ _ _)
    generalize hset (hset h (w 1) (.inl (K 1, 700, .inl (upd tx (aSz S) x))) 2) (w 0) (x0C w (pushB S x) (Z 6 0)) 1 = h9 at o2 fr k0 k1 ⊢
    obtain ⟨w1, -, ⟨⟨v0, i1, i2, i3, w3⟩, w3b⟩, w4, w5, w6, w7, w8, w9, w10⟩ := W
    refine ⟨k0, ⟨_, k1, fun k hk => ?_⟩, ⟨⟨v0, i1, i2, i3, fr _ _ _ w3 (by decide) (by decide)⟩, fun k2 hk2 => ?_⟩, fun k2 hk2 => (w4 k2 hk2).keep (fun b e q => fr b e _ q (by omega) (by omega)) o2, fun k2 hk2 => fr _ _ _ (w5 k2 hk2) (by omega) (by omega), w6, fun g hg => fr _ _ _ (w7 g hg) (by decide) (by decide), fun m hm => fr _ _ _ (w8 m hm) (by decide) (by decide), fun r hr => ?_, fun q hq => fr _ _ _ (w10 q hq) (by decide) (by decide)⟩
    · have hk : k < aSz S + 1 := hk
      show upd tx (aSz S) x k = va_up (S.2.2.2 4) (aSz S) x k
      unfold upd va_up
      split
      · rfl
      · exact h2 k (by omega)
    · obtain ⟨L, j, a⟩ := w3b k2 hk2
      exact ⟨L, j, a.keep (fun b e q => fr b e _ q (by omega) (by omega)) o2⟩
    · obtain ⟨a, b, c⟩ := w9 r hr
      exact ⟨fr _ _ _ a (by decide) (by decide), b.keep (fun b e q => fr b e _ q (by decide) (by decide)) o2, cpl_keep c (fun b e q => fr b e _ q (by decide) (by decide))⟩
  · exact (hset_ne _ _ _ (ne_tg q W.x (by decide))).trans ((hset_ne _ _ _ (ne_tg q ht (by decide))).trans q)
/-- the text is cut -/
theorem CW.cut (W : CW K ed S h w Ls J Z) {n : Nat} (hn : n ≤ aSz S) : CW K ed (setN S 4 n) (hset h (w 0) (x0C w (setN S 4 n) (Z 6 0)) 1) w Ls J Z := by
    have fr0 : frT 1 h (hset h (w 0) (x0C w (setN S 4 n) (Z 6 0)) 1) := set_fr W.x
    have fr : ∀ b e u, h b = some (e, u) → u ≠ 1 → u ≠ 0 → hset h (w 0) (x0C w (setN S 4 n) (Z 6 0)) 1 b = some (e, u) := fun b e u q n1 _ => fr0 _ _ _ q n1
    have o2 : obK h (hset h (w 0) (x0C w (setN S 4 n) (Z 6 0)) 1) := fun y q => OBJ.set q (fun _ => ⟨_, _, rfl⟩)
    have k0 : hset h (w 0) (x0C w (setN S 4 n) (Z 6 0)) 1 (w 0) = some (x0C w (setN S 4 n) (Z 6 0), 1) := hset_self _ _ _ _
    generalize hset h (w 0) (x0C w (setN S 4 n) (Z 6 0)) 1 = h9 at o2 fr k0 ⊢
    obtain ⟨w1, ⟨tx, w2, w2b⟩, ⟨⟨v0, i1, i2, i3, w3⟩, w3b⟩, w4, w5, w6, w7, w8, w9, w10⟩ := W
    refine ⟨k0, ⟨tx, fr _ _ _ w2 (by decide) (by decide), fun k hk => w2b k (Nat.lt_of_lt_of_le (show k < n from hk) hn)⟩, ⟨⟨v0, i1, i2, i3, fr _ _ _ w3 (by decide) (by decide)⟩, fun k2 hk2 => ?_⟩, fun k2 hk2 => (w4 k2 hk2).keep (fun b e q => fr b e _ q (by omega) (by omega)) o2, fun k2 hk2 => fr _ _ _ (w5 k2 hk2) (by omega) (by omega), w6, fun g hg => fr _ _ _ (w7 g hg) (by decide) (by decide), fun m hm => fr _ _ _ (w8 m hm) (by decide) (by decide), fun r hr => ?_, fun q hq => fr _ _ _ (w10 q hq) (by decide) (by decide)⟩
    · obtain ⟨L, j, a⟩ := w3b k2 hk2
      exact ⟨L, j, a.keep (fun b e q => fr b e _ q (by omega) (by omega)) o2⟩
    · obtain ⟨a, b, c⟩ := w9 r hr
      exact ⟨fr _ _ _ a (by decide) (by decide), b.keep (fun b e q => fr b e _ q (by decide) (by decide)) o2, cpl_keep c (fun b e q => fr b e _ q (by decide) (by decide))⟩
theorem pbx_c (W : CW K ed S h w Ls J Z) {n : Nat} (hn : n ≤ aSz S) : PBX K ed (setN S 4 n) (w 0) h (hset h (w 0) (x0C w (setN S 4 n) (Z 6 0)) 1) :=
  ⟨w, Ls, J, Z, rfl, W.cut hn, fun b e q => (hset_ne _ _ _ (ne_tg q W.x (by decide))).trans q⟩
/-- a room more -/
theorem CW.addq (W : CW K ed S h w Ls J Z) {q k n j2 : Nat} (hq : h q = none) (a4 : AL (K 4) ed h4 (w 6) 10 (Ls 3 ++ [q]) j2) (f4 : frT 10 (hset h q (.inr (10 + k, [.int (nI n)])) 25) h4) (o4 : obK (hset h q (.inr (10 + k, [.int (nI n)])) 25) h4) : CW K ed (setN (setA (setA S 5 (aRm S) k) 6 (aRm S) n) 3 (aRm S + 1)) h4 w (va_up Ls 3 (Ls 3 ++ [q])) (va_up J 3 j2) Z := by
  have x9 : exH h (hset h q (.inr (10 + k, [.int (nI n)])) 25) := exH.new hq
  have fr : ∀ b e u, h b = some (e, u) → u ≠ 10 → h4 b = some (e, u) := fun b e u q n1 => f4 _ _ _ (x9 _ _ _ q) n1
  have o : obK h h4 := x9.ob.tr o4
  have kq : h4 q = some (.inr (10 + k, [.int (nI n)]), 25) := f4 _ _ _ (hset_self _ _ _ _) (by decide)
  have hnq := W.nq
  obtain ⟨w1, ⟨tx, w2, w2b⟩, ⟨⟨v0, i1, i2, i3, w3⟩, w3b⟩, w4, w5, w6, w7, w8, w9, w10⟩ := W
  refine ⟨fr _ _ _ w1 (by decide), ⟨tx, fr _ _ _ w2 (by decide), w2b⟩, ⟨⟨v0, i1, i2, i3, fr _ _ _ w3 (by decide)⟩, fun k2 hk2 => ?_⟩, fun k2 hk2 => ?_, fun k2 hk2 => fr _ _ _ (w5 k2 hk2) (by omega), ⟨w6.1, w6.2.1, w6.2.2.1, ?_, w6.2.2.2.2⟩, fun g hg => fr _ _ _ (w7 g hg) (by decide), fun m hm => fr _ _ _ (w8 m hm) (by decide), fun r hr => ?_, fun u hu => ?_⟩
  · obtain ⟨L, j, a⟩ := w3b k2 hk2
    exact ⟨L, j, a.keep (fun b e q => fr b e _ q (by omega)) o⟩
  · by_cases c : k2 = 3
    · subst c
      rw [va_up_self, va_up_self]
      exact a4
    · rw [va_up_ne _ _ c, va_up_ne _ _ c]
      exact (w4 k2 hk2).keep (fun b e q => fr b e _ q (by omega)) o
  · show (va_up Ls 3 (Ls 3 ++ [q]) 3).length = aRm S + 1
    rw [va_up_self, List.length_append, hnq]
    rfl
  · obtain ⟨a, b, c⟩ := w9 r hr
    rw [va_up_ne Ls _ (show 10 + r ≠ 3 by omega), va_up_ne J _ (show 10 + r ≠ 3 by omega)]
    exact ⟨fr _ _ _ a (by decide), b.keep (fun b e q => fr b e _ q (by decide)) o, cpl_keep c (fun b e q => fr b e _ q (by decide))⟩
  · have hu : u < aRm S + 1 := hu
    show h4 ((va_up Ls 3 (Ls 3 ++ [q]) 3).getD u 0) = some (.inr (10 + va_up (S.2.1 5) (aRm S) k u, [.int (nI (va_up (S.2.1 6) (aRm S) n u))]), 25)
    rw [va_up_self, getD_snoc, hnq]
    by_cases c : u = aRm S
    · rw [if_neg (by omega), if_pos c, c, va_up_self, va_up_self]
      exact kq
    · rw [if_pos (by omega), va_up_ne _ _ c, va_up_ne _ _ c]
      exact fr _ _ _ (w10 u (by omega)) (by decide)
theorem pbx_q (W : CW K ed S h w Ls J Z) {q k n j2 : Nat} (hq : h q = none) (a4 : AL (K 4) ed h4 (w 6) 10 (Ls 3 ++ [q]) j2) (f4 : frT 10 (hset h q (.inr (10 + k, [.int (nI n)])) 25) h4) (o4 : obK (hset h q (.inr (10 + k, [.int (nI n)])) 25) h4) : PBX K ed (setN (setA (setA S 5 (aRm S) k) 6 (aRm S) n) 3 (aRm S + 1)) (w 0) h h4 :=
  ⟨w, _, _, Z, rfl, W.addq hq a4 f4 o4, fun b e z => f4 _ _ _ ((exH.new hq) _ _ _ z) (by decide)⟩
end SETS
