/-! by gen/mspec.py -/
set_option maxRecDepth 100000
section MODEL
variable {l : Launch} {s0 : State} {D : va_G} {K : Nat → ClassId} {wd : Nat → Nat} {o : Nat} {h : Hp} {I : Nat → Int32} {V : Nat → Nat → Int32} {J : Nat → Nat → Int64}
theorem ob_a {h : Hp} {a t t2 : Nat} {x : ClassId × vp_A} {e : va_E} (ha : h a = some (.inl x, t)) : obK h (hset h a e t2) := fun _ q => OBJ.arr q ha
theorem ob_o {h : Hp} {a t t2 ci : Nat} {c0 : va_E} {fs : List Value} (_ : h a = some (c0, t)) : obK h (hset h a (.inr (ci, fs)) t2) := fun _ q => OBJ.set q (fun _ => ⟨_, _, rfl⟩)
theorem z_ist {p : Program} {e : Env} {R : Room} {s : State} {m : MethodId} {args : Array Value} {below : List Frame} {meth : Method} {c : Code} {H : Heap} {locs : List Loc} {cells slots : Nat} {Q : State → Prop} {cc : ByteArray} {pc : Nat} {ls : Array Slot} {rest : List Value} {A : Nat → Prop} {H0 : Heap} {ed : Nat} {S : Ab} {w : Nat → Nat} {Ls : Nat → List Nat} {Jn : Nat → Nat} {Z Z9 : Nat → Nat → Int32}  (hx : p.tables.exec = Jvm.exec) (hb : c.code = cc) (hK : va_K D CL (TYS K) s) (hW : CW K ed S h w Ls Jn Z9) (hH : HP D CL A (zset h K w S Z) H) (hS : va_S A H0 H locs) (k : Nat) (hk : k < 6) {j : Nat} {x : Int32} (hj : j < 10) (hdg : decode cc pc = .ok (.iastore, 1))
    (kk : ∀ (H1 : Heap) (locs1 : List Loc), HP D CL A (zset h K w S (vset Z k j x)) H1 → va_S A H0 H1 locs1 → W p l e R s m args below meth c H1 locs1 cells slots Q (F0 m (pc + 1) ls rest)) : W p l e R s m args below meth c H locs cells slots Q (F0 m pc ls (.int x :: .int (nI j) :: .ref (w (7 + k)) :: rest)) := by
  refine hp_ist hx hb hK hH hS 0 (zset_a hW Z k hk) rfl hj (by decide) hdg (fun H1 locs1 _ hH1 hS1 => ?_)
  rw [zset_st hW Z k hk] at hH1
  exact kk H1 locs1 hH1 hS1
theorem z_fw {p : Program} {e : Env} {R : Room} {s : State} {m : MethodId} {args : Array Value} {below : List Frame} {meth : Method} {c : Code} {H : Heap} {locs : List Loc} {cells slots : Nat} {Q : State → Prop} {cc : ByteArray} {pc : Nat} {ls : Array Slot} {rest : List Value} {A : Nat → Prop} {H0 : Heap} {index : Nat} {ed : Nat} {S : Ab} {w : Nat → Nat} {Ls : Nat → List Nat} {Jn : Nat → Nat} {Z Z9 : Nat → Nat → Int32}  (hx : p.tables.exec = Jvm.exec) (hb : c.code = cc) (hts : ∀ w ∈ lw_all, w.before args s = true) (hown : s.vm.findClass RX0 = some m.cls) (hK : va_K D CL (TYS K) s) (hW : CW K ed S h w Ls Jn Z9) (hH : HP D CL A (zset h K w S Z) H) (hS : va_S A H0 H locs) {x : Int32} (hlink : (Cond.fieldLink RX0 index "FirstIn" "fewest" "I").before args s = true) (hdg : decode cc pc = .ok (.putfield index, 3))
    (kk : ∀ (H1 : Heap) (locs1 : List Loc), HP D CL A (zset h K w S (vset Z 6 0 x)) H1 → va_S A H0 H1 locs1 → W p l e R s m args below meth c H1 locs1 cells slots Q (F0 m (pc + 3) ls rest)) : W p l e R s m args below meth c H locs cells slots Q (F0 m pc ls (.int x :: .ref (w 0) :: rest)) := by
  refine hp_put (C := RX0) (T := TX0) (N := 14) (v := .int x) (ty := .int) hx hb hts in_X0 tyX0 tyX0_ok nmX0 hown hK hH hS zset_x rfl 13 (by decide) hlink (fun _ z => z) rfl (by decide +kernel) rfl rfl (Nat.le_of_ble_eq_true rfl) hdg (fun H1 locs1 _ hH1 hS1 => ?_)
  have hH1 : HP D CL A (hset (zset h K w S Z) (w 0) (x0C w S x) 1) H1 := hH1
  rw [zset_fw hW Z x] at hH1
  exact kk H1 locs1 hH1 hS1
end MODEL
