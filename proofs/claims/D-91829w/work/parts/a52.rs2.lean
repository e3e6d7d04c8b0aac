/-! the reader at work: a cell under way; names -/
set_option maxRecDepth 100000
section RS2
variable {K : Nat → ClassId} {ed : Nat} {S : Ab} {h0 h h1 : Hp} {tb rd ta lg lm lr : Nat} {tx : Nat → Int32} {Y : Dr} {tk tk' : Tk} {nm : Nat → Nat} {Ls : Nat → List Nat} {J : Nat → Nat}
/-- cells of the tags 3 and T may change -/
def fr3 (T : Nat) (h h1 : Hp) : Prop := ∀ b e u, h b = some (e, u) → u ≠ 3 → u ≠ T → h1 b = some (e, u)
theorem RS.kT (R : RS K ed S h0 tb rd ta lg lm lr tx Y tk nm Ls J h) (htb : 30 ≤ tb) (ht0 : ∀ b e u, h0 b = some (e, u) → u < tb) {T : Nat} (hT : tb + 2 + Y.2.1.length ≤ T ∧ (T < tb + 10 ∨ tb + 10 + 3 * Y.2.2.length ≤ T)) (f : fr3 T h h1) (o : obK h h1) (hr : h1 rd = some (.inr (1, [.ref ta, .int (nI (aSz S)), .int (nI tk'.2), .int (nI tk'.1), .ref lg, .ref lm, .ref lr]), 3)) : RS K ed S h0 tb rd ta lg lm lr tx Y tk' nm Ls J h1 := by
  obtain ⟨⟨r1, r2⟩, ⟨l1, l2, l3⟩, r4, r5, r6, r7, r8, r9⟩ := R
  refine ⟨⟨hr, f _ _ _ r2 (by decide) (by omega)⟩, ⟨l1.keep (fun b e q => f _ _ _ q (by decide) (by omega)) o, l2.keep (fun b e q => f _ _ _ q (by decide) (by omega)) o, l3.keep (fun b e q => f _ _ _ q (by decide) (by omega)) o⟩, r4, fun g hg => ?_, fun m hm => ?_, fun r hr => ?_, ?_, ?_⟩
  · exact ⟨f _ _ _ (r5 g hg).1 (by omega) (by omega), (r5 g hg).2.keep (fun b e q => f _ _ _ q (by omega) (by omega))⟩
  · exact ⟨f _ _ _ (r6 m hm).1 (by omega) (by omega), (r6 m hm).2.keep (fun b e q => f _ _ _ q (by omega) (by omega))⟩
  · exact ⟨f _ _ _ (r7 r hr).1 (by omega) (by omega), (r7 r hr).2.1.keep (fun b e q => f _ _ _ q (by omega) (by omega)) o, cpl_keep (r7 r hr).2.2 (fun b e q => f _ _ _ q (by omega) (by omega))⟩
  · exact fun b e u q n => f _ _ _ (r8 b e u q n) (by omega) (by have := ht0 b e u q; omega)
  · exact r9.tr o
theorem nam_some (h : (namS S tk).isSome = true) : namS S tk = some (tokL S tk) := by
  unfold namS at h ⊢
  split
  · rfl
  · rename_i c; rw [if_neg c] at h; cases h
theorem nam_none (h : (namS S tk).isSome = false) : namS S tk = none := by
  cases e : namS S tk with
  | none => rfl
  | some L => rw [e] at h; cases h
theorem newB_t (h : (namS S tk).isSome = true) (h1 : fnd Y.1 (tokL S tk) = none) (h2 : fnd (mkN Y) (tokL S tk) = none) : newB Y (namS S tk) = true := by rw [nam_some h]; unfold newB; dsimp only; rw [h1, h2]; rfl
theorem newB_f0 (h : (namS S tk).isSome = false) : newB Y (namS S tk) = false := by rw [nam_none h]; rfl
theorem newB_f1 {k : Nat} (h : (namS S tk).isSome = true) (h1 : fnd Y.1 (tokL S tk) = some k) : newB Y (namS S tk) = false := by rw [nam_some h]; unfold newB; dsimp only; rw [h1]; rfl
theorem newB_f2 {k : Nat} (h : (namS S tk).isSome = true) (h1 : fnd Y.1 (tokL S tk) = none) (h2 : fnd (mkN Y) (tokL S tk) = some k) : newB Y (namS S tk) = false := by rw [nam_some h]; unfold newB; dsimp only; rw [h1, h2]; rfl
theorem gst_some {o : Option Nat} (h : (namS S tk).isSome = true) (h1 : fnd Y.1 (tokL S tk) = o) : gstO Y (namS S tk) = o := by rw [nam_some h]; exact h1
theorem mrk_some {o : Option Nat} (h : (namS S tk).isSome = true) (h1 : fnd (mkN Y) (tokL S tk) = o) : mrkO Y (namS S tk) = o := by rw [nam_some h]; exact h1
theorem gst_none (h : (namS S tk).isSome = false) : gstO Y (namS S tk) = none ∧ mrkO Y (namS S tk) = none := by rw [nam_none h]; exact ⟨rfl, rfl⟩
theorem sd_g {k : Nat} (h : gstO Y (namS S tk) = some k) : sdB Y (namS S tk) = true ∧ sdV Y (namS S tk) = k := by unfold sdB sdV; rw [h]; exact ⟨rfl, rfl⟩
theorem sd_m {k : Nat} (h : gstO Y (namS S tk) = none) (h2 : mrkO Y (namS S tk) = some k) : sdB Y (namS S tk) = true ∧ sdV Y (namS S tk) = 100 + k := by unfold sdB sdV; rw [h, h2]; exact ⟨rfl, rfl⟩
theorem sd_n (h : gstO Y (namS S tk) = none) (h2 : mrkO Y (namS S tk) = none) : sdB Y (namS S tk) = false := by unfold sdB; rw [h, h2]; rfl
theorem mb_1 {g b : Nat} (h : gstO Y (namS S tk) = some g) : mbOk Y (namS S tk) b = !(b.testBit g) := by unfold mbOk; rw [h]
theorem mb_0 {b : Nat} (h : gstO Y (namS S tk) = none) : mbOk Y (namS S tk) b = false := by unfold mbOk; rw [h]
theorem sdA_g {k : Nat} (hk : k < 100) : sdA Ls k = (Ls 0).getD k 0 := if_pos hk
theorem sdA_m {k : Nat} : sdA Ls (100 + k) = (Ls 1).getD k 0 := by unfold sdA; rw [if_neg (by omega), show 100 + k - 100 = k by omega]
theorem nma_cpy {f : Nat → Int32} {q t1 t2 tn : Nat} (htx : ∀ k, k < aSz S → tx k = aTx S k) (h2 : t2 ≤ aSz S) (he : h q = some (.inl (K 1, t2 - t1, .inl (va_cpy tx f t1 0 (t2 - t1))), tn)) : NMA K h q tn (tokL S (t1, t2)) := by
  refine ⟨va_cpy tx f t1 0 (t2 - t1), by rw [tokL_len]; exact he, fun u hu => ?_⟩
  rw [tokL_len] at hu
  have hu2 : u < t2 - t1 := hu
  have := (tok_eq (S := S) (tk := (t1, t2)) (L := tokL S (t1, t2))).mp rfl
  rw [← this.2 u (by rw [tokL_len]; exact hu)]
  unfold va_cpy
  rw [if_pos ⟨Nat.zero_le _, by omega⟩, Nat.sub_zero, htx _ (by omega)]
end RS2
