/-! all the words in one: it ends with a blank -/
set_option maxRecDepth 100000
theorem w_stop {i : Nat} (h : (WBYT.getD 9 []).getD i 0 ≠ nI 32) (hi : i ≤ 43) : i + 1 ≤ 43 := by
  rcases Nat.lt_or_ge i 43 with q | q
  · omega
  · have : i = 43 := by omega
    subst this
    exact absurd (by decide) h
