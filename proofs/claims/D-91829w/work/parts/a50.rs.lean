/-! the reader at work: what it has read lies in cells -/
set_option maxRecDepth 100000
def NMA (K : Nat → ClassId) (h : Hp) (a t : Nat) (L : List Int32) : Prop := ∃ f, h a = some (.inl (K 1, L.length, .inl f), t) ∧ ∀ u, u < L.length → f u = L.getD u 0
def bWD (Y : Dr) (w : Nat) : Nat := if w < 100 then 2 ^ w else (Y.2.1.getD (w - 100) ([], 0)).2
def bUD (Y : Dr) (u : Int32) : Option Nat := if u = -1 then none else some (Y.2.1.getD u.toNatClampNeg ([], 0)).2
def frR (h0 h : Hp) : Prop := ∀ b e u, h0 b = some (e, u) → (u < 3 ∨ 6 < u) → h b = some (e, u)
def RS (K : Nat → ClassId) (ed : Nat) (S : Ab) (h0 : Hp) (tb rd ta lg lm lr : Nat) (tx : Nat → Int32) (Y : Dr) (tk : Tk) (nm : Nat → Nat) (Ls : Nat → List Nat) (J : Nat → Nat) (h : Hp) : Prop :=
  (h rd = some (.inr (1, [.ref ta, .int (nI (aSz S)), .int (nI tk.2), .int (nI tk.1), .ref lg, .ref lm, .ref lr]), 3) ∧ h ta = some (.inl (K 1, 700, .inl tx), 2)) ∧
  (AL (K 4) ed h lg 4 (Ls 0) (J 0) ∧ AL (K 4) ed h lm 5 (Ls 1) (J 1) ∧ AL (K 4) ed h lr 6 (Ls 2) (J 2)) ∧
  ((Ls 0).length = Y.1.length ∧ (Ls 1).length = Y.2.1.length ∧ (Ls 2).length = Y.2.2.length ∧ (Ls 0).Nodup ∧ (Ls 2).Nodup) ∧
  (∀ g, g < Y.1.length → h ((Ls 0).getD g 0) = some (.inr (4, [.ref (nm (100 + g)), .int (nI g), .int (zI true), .int (zI false), .int (-1), .int (-1)]), tb) ∧ NMA K h (nm (100 + g)) (tb + 1) (Y.1.getD g [])) ∧
  (∀ m, m < Y.2.1.length → h ((Ls 1).getD m 0) = some (.inr (5, [.ref (nm (200 + m)), .int (nI m), .int (nI (Y.2.1.getD m ([], 0)).2)]), tb + 2 + m) ∧ NMA K h (nm (200 + m)) (tb + 1) (Y.2.1.getD m ([], 0)).1) ∧
  (∀ r, r < Y.2.2.length → h ((Ls 2).getD r 0) = some (.inr (cRl (Y.2.2.getD r rl0).1, [.ref (sdA Ls (Y.2.2.getD r rl0).2.1), .ref (sdA Ls (Y.2.2.getD r rl0).2.2.1), .int (nI (Y.2.2.getD r rl0).2.2.2.1), .int (Y.2.2.getD r rl0).2.2.2.2.1, unV Ls (Y.2.2.getD r rl0).2.2.2.2.2, .int (zI false), .ref (nm (300 + r))]), tb + 10 + 3 * r) ∧ AL (K 4) ed h (nm (300 + r)) (tb + 11 + 3 * r) (Ls (10 + r)) (J (10 + r)) ∧ CPL (tb + 12 + 3 * r) h (Ls (10 + r)) (cpP (Y.2.2.getD r rl0).1 (bWD Y (Y.2.2.getD r rl0).2.1) (bWD Y (Y.2.2.getD r rl0).2.2.1) (bUD Y (Y.2.2.getD r rl0).2.2.2.2.2) 10 0)) ∧
  (frR h0 h ∧ obK h0 h)
/-- behind a throw -/
def TR (K : Nat → ClassId) (ed : Nat) (h0 : Hp) (rd lg lm lr n a : Nat) (h1 : Hp) : Prop := FLT h1 a n ∧ RDX h1 rd lg lm lr ∧ ((∃ L j, AL (K 4) ed h1 lg 4 L j) ∧ (∃ L j, AL (K 4) ed h1 lm 5 L j) ∧ ∃ L j, AL (K 4) ed h1 lr 6 L j) ∧ frR h0 h1 ∧ obK h0 h1
section RSS
variable {K : Nat → ClassId} {ed : Nat} {S : Ab} {h0 h h1 : Hp} {tb rd ta lg lm lr : Nat} {tx : Nat → Int32} {Y : Dr} {tk tk' : Tk} {nm : Nat → Nat} {Ls : Nat → List Nat} {J : Nat → Nat}
theorem RS.cR (R : RS K ed S h0 tb rd ta lg lm lr tx Y tk nm Ls J h) : h rd = some (.inr (1, [.ref ta, .int (nI (aSz S)), .int (nI tk.2), .int (nI tk.1), .ref lg, .ref lm, .ref lr]), 3) := R.1.1
theorem RS.cT (R : RS K ed S h0 tb rd ta lg lm lr tx Y tk nm Ls J h) : h ta = some (.inl (K 1, 700, .inl tx), 2) := R.1.2
theorem RS.aG (R : RS K ed S h0 tb rd ta lg lm lr tx Y tk nm Ls J h) : AL (K 4) ed h lg 4 (Ls 0) (J 0) := R.2.1.1
theorem RS.aM (R : RS K ed S h0 tb rd ta lg lm lr tx Y tk nm Ls J h) : AL (K 4) ed h lm 5 (Ls 1) (J 1) := R.2.1.2.1
theorem RS.aR (R : RS K ed S h0 tb rd ta lg lm lr tx Y tk nm Ls J h) : AL (K 4) ed h lr 6 (Ls 2) (J 2) := R.2.1.2.2
theorem RS.ng (R : RS K ed S h0 tb rd ta lg lm lr tx Y tk nm Ls J h) : (Ls 0).length = Y.1.length := R.2.2.1.1
theorem RS.nm' (R : RS K ed S h0 tb rd ta lg lm lr tx Y tk nm Ls J h) : (Ls 1).length = Y.2.1.length := R.2.2.1.2.1
theorem RS.nr (R : RS K ed S h0 tb rd ta lg lm lr tx Y tk nm Ls J h) : (Ls 2).length = Y.2.2.length := R.2.2.1.2.2.1
theorem RS.g (R : RS K ed S h0 tb rd ta lg lm lr tx Y tk nm Ls J h) {g : Nat} (hg : g < Y.1.length) : h ((Ls 0).getD g 0) = some (.inr (4, [.ref (nm (100 + g)), .int (nI g), .int (zI true), .int (zI false), .int (-1), .int (-1)]), tb) := (R.2.2.2.1 g hg).1
theorem RS.gn (R : RS K ed S h0 tb rd ta lg lm lr tx Y tk nm Ls J h) {g : Nat} (hg : g < Y.1.length) : NMA K h (nm (100 + g)) (tb + 1) (Y.1.getD g []) := (R.2.2.2.1 g hg).2
theorem RS.m (R : RS K ed S h0 tb rd ta lg lm lr tx Y tk nm Ls J h) {m : Nat} (hm : m < Y.2.1.length) : h ((Ls 1).getD m 0) = some (.inr (5, [.ref (nm (200 + m)), .int (nI m), .int (nI (Y.2.1.getD m ([], 0)).2)]), tb + 2 + m) := (R.2.2.2.2.1 m hm).1
theorem RS.mn (R : RS K ed S h0 tb rd ta lg lm lr tx Y tk nm Ls J h) {m : Nat} (hm : m < Y.2.1.length) : NMA K h (nm (200 + m)) (tb + 1) (Y.2.1.getD m ([], 0)).1 := (R.2.2.2.2.1 m hm).2
theorem RS.fR (R : RS K ed S h0 tb rd ta lg lm lr tx Y tk nm Ls J h) : frR h0 h := R.2.2.2.2.2.2.1
theorem RS.oK (R : RS K ed S h0 tb rd ta lg lm lr tx Y tk nm Ls J h) : obK h0 h := R.2.2.2.2.2.2.2
theorem NMA.keep {a t : Nat} {L : List Int32} (N : NMA K h a t L) (f : ∀ b e, h b = some (e, t) → h1 b = some (e, t)) : NMA K h1 a t L := by obtain ⟨g, h2, h3⟩ := N; exact ⟨g, f _ _ h2, h3⟩
/-- the reader's own cell, or more cells: all else stays -/
theorem RS.keep (R : RS K ed S h0 tb rd ta lg lm lr tx Y tk nm Ls J h) (htb : 30 ≤ tb) (f : ∀ b e u, h b = some (e, u) → u ≠ 3 → h1 b = some (e, u)) (o : obK h h1) (hr : h1 rd = some (.inr (1, [.ref ta, .int (nI (aSz S)), .int (nI tk'.2), .int (nI tk'.1), .ref lg, .ref lm, .ref lr]), 3)) : RS K ed S h0 tb rd ta lg lm lr tx Y tk' nm Ls J h1 := by
  obtain ⟨⟨r1, r2⟩, ⟨l1, l2, l3⟩, r4, r5, r6, r7, r8, r9⟩ := R
  refine ⟨⟨hr, f _ _ _ r2 (by decide)⟩, ⟨l1.keep (fun b e q => f _ _ _ q (by decide)) o, l2.keep (fun b e q => f _ _ _ q (by decide)) o, l3.keep (fun b e q => f _ _ _ q (by decide)) o⟩, r4, fun g hg => ?_, fun m hm => ?_, fun r hr => ?_, ?_, ?_⟩
  · exact ⟨f _ _ _ (r5 g hg).1 (by omega), (r5 g hg).2.keep (fun b e q => f _ _ _ q (by omega))⟩
  · exact ⟨f _ _ _ (r6 m hm).1 (by omega), (r6 m hm).2.keep (fun b e q => f _ _ _ q (by omega))⟩
  · exact ⟨f _ _ _ (r7 r hr).1 (by omega), (r7 r hr).2.1.keep (fun b e q => f _ _ _ q (by omega)) o, cpl_keep (r7 r hr).2.2 (fun b e q => f _ _ _ q (by omega))⟩
  · exact fun b e u q n => f _ _ _ (r8 b e u q n) (by omega)
  · exact r9.tr o
theorem RS.X (R : RS K ed S h0 tb rd ta lg lm lr tx Y tk nm Ls J h) (htb : 30 ≤ tb) (x : exH h h1) : RS K ed S h0 tb rd ta lg lm lr tx Y tk nm Ls J h1 := R.keep htb (fun b e u q _ => x b e u q) x.ob (x _ _ _ R.cR)
theorem RS.nx (R : RS K ed S h0 tb rd ta lg lm lr tx Y tk nm Ls J h) (htb : 30 ≤ tb) : RS K ed S h0 tb rd ta lg lm lr tx Y tk' nm Ls J (hset h rd (.inr (1, [.ref ta, .int (nI (aSz S)), .int (nI tk'.2), .int (nI tk'.1), .ref lg, .ref lm, .ref lr])) 3) := R.keep htb (fun b e u q n => set_fr R.cR b e u q n) (ob_o R.cR) (hset_self _ _ _ _)
theorem RS.thr (R : RS K ed S h0 tb rd ta lg lm lr tx Y tk nm Ls J h) {n a : Nat} (t : TRW h rd lg lm lr n a h1) : TR K ed h0 rd lg lm lr n a h1 := by
  obtain ⟨t1, t2, t3, t4⟩ := t
  exact ⟨t1, t2, ⟨⟨_, _, R.aG.keep (fun b e q => t3 _ _ _ q (by decide)) t4⟩, ⟨_, _, R.aM.keep (fun b e q => t3 _ _ _ q (by decide)) t4⟩, _, _, R.aR.keep (fun b e q => t3 _ _ _ q (by decide)) t4⟩, fun b e u q z => t3 _ _ _ (R.fR b e u q z) (by omega), R.oK.tr t4⟩
/-- a fault of the reader's own, where it stands -/
theorem RS.wr (R : RS K ed S h0 tb rd ta lg lm lr tx Y tk nm Ls J h) {a : Nat} (hn : h a = none) : TR K ed h0 rd lg lm lr tk.1 a (hset h a (.inr (3, [.null, .null, .null, .null, .null, .int 0, .int (nI tk.1)])) 30) := R.thr ⟨⟨30, hset_self _ _ _ _⟩, ⟨_, _, _, _, (hset_ne _ _ _ (ne_new R.cR hn)).trans R.cR⟩, frT.rf.new hn, exH.ob (exH.new hn)⟩
theorem nam_eq {S : Ab} {tx fn : Nat → Int32} {t1 t2 : Nat} {L : List Int32} (htx : ∀ k, k < aSz S → tx k = aTx S k) (h2 : t2 ≤ aSz S) (hf : ∀ u, u < L.length → fn u = L.getD u 0) : (decide (t2 - t1 = L.length) && allP tx fn t1 L.length) = decide (L = tokL S (t1, t2)) := by
  have key : ∀ n, n ≤ L.length → n ≤ t2 - t1 → (allP tx fn t1 n = true ↔ ∀ u, u < n → aTx S (t1 + u) = L.getD u 0) := by
    intro n
    induction n with
    | zero => intro _ _; simp [allP]
    | succ n ih =>
      intro hn h3
      rw [allP, Bool.and_eq_true, ih (by omega) (by omega), decide_eq_true_eq, htx _ (by omega), hf n (by omega)]
      constructor
      · intro ⟨z1, z2⟩ u hu
        by_cases e : u = n
        · rw [e]; exact z2
        · exact z1 u (by omega)
      · intro z; exact ⟨fun u hu => z u (by omega), z n (by omega)⟩
  rw [Bool.eq_iff_iff, Bool.and_eq_true, decide_eq_true_eq, decide_eq_true_eq]
  constructor
  · intro ⟨z1, z2⟩
    exact (tok_eq.mpr ⟨z1, (key L.length (Nat.le_refl _) (by omega)).mp z2⟩).symm
  · intro e
    have h4 := tok_eq.mp e.symm
    exact ⟨h4.1, (key L.length (Nat.le_refl _) (by have := h4.1; show L.length ≤ t2 - t1; omega)).mpr h4.2⟩
end RSS
