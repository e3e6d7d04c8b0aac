/-! the component's reader: a token that is none is the fault at once -/
set_option maxRecDepth 100000
theorem hset_eq {h : Hp} {a : Nat} {c : va_E} {t : Nat} (he : h a = some (c, t)) : hset h a c t = h := by
  funext b
  by_cases e : b = a
  · rw [e, hset_self, he]
  · rw [hset_ne _ _ _ e]
def badT (S : Ab) (tk : Tk) : Bool := decide (tk.1 < aSz S) && (!(inR S tk.1 97 122) && (!(inR S tk.1 48 57) && decide (aTx S tk.1 ≠ 59)))
def nxE (S : Ab) (t : Nat) : Except Nat Tk := if badT S (nx S t) then .error (nx S t).1 else .ok (nx S t)
def pasE (S : Ab) (b : Bool) (tk : Tk) : Except Nat Tk := if b then nxE S tk.2 else .error tk.1
theorem let_in {S : Ab} {k : Nat} (h : k < aSz S) (a b : Int32) : (decide (a ≤ aTx S k) && decide (aTx S k ≤ b)) = inR S k a b := by unfold inR; rw [decide_eq_true h, Bool.true_and]
def rdc (ta sz at9 bg lg lm lr : Nat) : va_E := .inr (1, [.ref ta, .int (nI sz), .int (nI at9), .int (nI bg), .ref lg, .ref lm, .ref lr])
/-- the fault that was thrown; the reader behind it; the rest as it was -/
def FLT (h : Hp) (a n : Nat) : Prop := ∃ t, h a = some (.inr (3, [.null, .null, .null, .null, .null, .int 0, .int (nI n)]), t)
def RDX (h : Hp) (rd lg lm lr : Nat) : Prop := ∃ (v0 : Value) (i1 i2 i3 : Int32), h rd = some (.inr (1, [v0, .int i1, .int i2, .int i3, .ref lg, .ref lm, .ref lr]), 3)
def TRW (h : Hp) (rd lg lm lr n a : Nat) (h1 : Hp) : Prop := FLT h1 a n ∧ RDX h1 rd lg lm lr ∧ frT 3 h h1 ∧ obK h h1
section NX
variable {S : Ab} {t a t8 : Nat}
theorem nx_is (h1 : nxA S t = a) (h2 : nxT S a = t8) : nx S t = (a, t8) := by unfold nx; rw [h1, h2]
theorem nxT_over (h : ¬ a < aSz S) : nxT S a = a := by
  have z : ∀ x y, inR S a x y = false := fun x y => by unfold inR; rw [decide_eq_false h]; rfl
  unfold nxT
  rw [z, z, if_neg (by decide), if_neg (by decide), if_neg h]
theorem nxT_let (h : inR S a 97 122 = true) : nxT S a = skp S (fun k => inR S k 97 122) (a + 1) := by
  unfold nxT
  rw [if_pos h]
  exact skp_t (f := fun k => inR S k 97 122) h (inR_lt h).1
theorem nxT_dig (h0 : inR S a 97 122 = false) (h : inR S a 48 57 = true) : nxT S a = skp S (fun k => inR S k 48 57) (a + 1) := by
  unfold nxT
  rw [h0, if_neg (by decide), if_pos h]
  exact skp_t (f := fun k => inR S k 48 57) h (inR_lt h).1
theorem nxT_one (h0 : inR S a 97 122 = false) (h : inR S a 48 57 = false) (hl : a < aSz S) : nxT S a = a + 1 := by
  unfold nxT
  rw [h0, if_neg (by decide), h, if_neg (by decide), if_pos hl]
theorem bad_f (tk : Tk) (h : ¬ tk.1 < aSz S ∨ inR S tk.1 97 122 = true ∨ inR S tk.1 48 57 = true ∨ aTx S tk.1 = 59) : badT S tk = false := by
  unfold badT
  rcases h with h | h | h | h <;> simp [h]
theorem bad_t (tk : Tk) (h1 : tk.1 < aSz S) (h2 : inR S tk.1 97 122 = false) (h3 : inR S tk.1 48 57 = false) (h4 : ¬ aTx S tk.1 = 59) : badT S tk = true := by
  unfold badT
  simp [h1, h2, h3, h4]
theorem sp_t (hk : a < aSz S) (h : aTx S a = nI 32 ∨ aTx S a = nI 10) : isSp S a = true := by
  unfold isSp
  rw [decide_eq_true hk]
  rcases h with h | h <;> (rw [h]; decide)
theorem sp_f (h : ¬ a < aSz S ∨ (¬ aTx S a = nI 32 ∧ ¬ aTx S a = nI 10)) : isSp S a = false := by
  unfold isSp
  rcases h with h | h
  · rw [decide_eq_false h]; rfl
  · rw [show decide (aTx S a = 32) = false from decide_eq_false h.1, show decide (aTx S a = 10) = false from decide_eq_false h.2, Bool.or_false, Bool.and_false]
end NX
