/-! rows: arrays of numbers, by plain places -/
set_option maxRecDepth 100000
section ROWS14
variable {p : Program} {l : Launch} {e : Env} {R : Room} {s s0 : State} {m : MethodId} {args : Array Value} {below : List Frame} {meth : Method} {c : Code} {H H0 : Heap} {locs : List Loc} {cells slots : Nat} {Q : State → Prop}
variable {cc : ByteArray} {pc : Nat} {ls : Array Slot} {rest st0 : List Value} {D : va_G} {cl : List vw_C} {A : Nat → Prop} {a b t : Nat} {tys : List (ClassId × FieldType)} {h h0 : Hp}
theorem hp_ild (hx : p.tables.exec = Jvm.exec) (hb : c.code = cc) (hK : va_K D cl tys s) (hH : HP D cl A h H) (t0 : Nat) {cA : ClassId} {n j : Nat} {f : Nat → Int32} {v : Int32} (he : h a = some (.inl (cA, n, .inl f), t)) (ht : tys[t0]? = some (cA, .int)) (hj : j < n) (hn : n < 2 ^ 31) (hv : f j = v) (hdg : decode cc pc = .ok (.iaload, 1))
    (kk : W p l e R s m args below meth c H locs cells slots Q (F0 m (pc + 1) ls (.int v :: rest))) : W p l e R s m args below meth c H locs cells slots Q (F0 m pc ls (.int (nI j) :: .ref a :: rest)) := by
  refine hp_iald hx hb hK hH t0 he ht (vp_in_nI hj hn) hdg ?_
  rw [nI_clamp (by omega), hv]
  exact kk
theorem hp_bld (hx : p.tables.exec = Jvm.exec) (hb : c.code = cc) (hK : va_K D cl tys s) (hH : HP D cl A h H) (t0 : Nat) {cA : ClassId} {n j : Nat} {f : Nat → Int32} {v : Int32} (he : h a = some (.inl (cA, n, .inl f), t)) (ht : tys[t0]? = some (cA, .byte)) (hj : j < n) (hn : n < 2 ^ 31) (hv : f j = v) (hdg : decode cc pc = .ok (.baload, 1))
    (kk : W p l e R s m args below meth c H locs cells slots Q (F0 m (pc + 1) ls (.int v :: rest))) : W p l e R s m args below meth c H locs cells slots Q (F0 m pc ls (.int (nI j) :: .ref a :: rest)) := by
  refine hp_bald hx hb hK hH t0 he ht (vp_in_nI hj hn) hdg ?_
  rw [nI_clamp (by omega), hv]
  exact kk
theorem hp_zld (hx : p.tables.exec = Jvm.exec) (hb : c.code = cc) (hK : va_K D cl tys s) (hH : HP D cl A h H) (t0 : Nat) {cA : ClassId} {n j : Nat} {f : Nat → Int32} {v : Int32} (he : h a = some (.inl (cA, n, .inl f), t)) (ht : tys[t0]? = some (cA, .boolean)) (hj : j < n) (hn : n < 2 ^ 31) (hv : f j = v) (hdg : decode cc pc = .ok (.baload, 1))
    (kk : W p l e R s m args below meth c H locs cells slots Q (F0 m (pc + 1) ls (.int v :: rest))) : W p l e R s m args below meth c H locs cells slots Q (F0 m pc ls (.int (nI j) :: .ref a :: rest)) := by
  refine hp_zald hx hb hK hH t0 he ht (vp_in_nI hj hn) hdg ?_
  rw [nI_clamp (by omega), hv]
  exact kk
end ROWS14
