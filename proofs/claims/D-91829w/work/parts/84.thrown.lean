/-! what a Throwable's constructor reads of the start -/
set_option maxRecDepth 100000
def TX (s0 : State) (us ss : Value) : Prop := (va_Z "java/lang/Throwable" "UNASSIGNED_STACK" "[Ljava/lang/StackTraceElement;" us (zA s0) s0 s0.heap ∧ (us = .null ∨ ∃ a, us = .ref a)) ∧ va_Z "java/lang/Throwable" "SUPPRESSED_SENTINEL" "Ljava/util/List;" ss (zA s0) s0 s0.heap ∧ (ss = .null ∨ ∃ a, ss = .ref a)
theorem TX.us {s0 s : State} {us ss : Value} (h : TX s0 us ss) {D : va_G} {cl : List vw_C} {hh : Hp} (hPB : PB s0 D cl hh s) : va_Z "java/lang/Throwable" "UNASSIGNED_STACK" "[Ljava/lang/StackTraceElement;" us (zA s0) s s.heap := (va_Z.moved hPB.1.alike h.1.1).kept (fun a h1 _ => hPB.2.2.1 a h1)
theorem TX.ss {s0 s : State} {us ss : Value} (h : TX s0 us ss) {D : va_G} {cl : List vw_C} {hh : Hp} (hPB : PB s0 D cl hh s) : va_Z "java/lang/Throwable" "SUPPRESSED_SENTINEL" "Ljava/util/List;" ss (zA s0) s s.heap := (va_Z.moved hPB.1.alike h.2.1).kept (fun a h1 _ => hPB.2.2.1 a h1)
theorem rf_nar {v : Value} (h : v = .null ∨ ∃ a, v = .ref a) {ty : FieldType} (ht : ty.isReference = true) : narrow ty v = v ∧ fits ty v = true := by
  rcases h with rfl | ⟨a, rfl⟩ <;> cases ty <;> first | exact ⟨rfl, rfl⟩ | cases ht
