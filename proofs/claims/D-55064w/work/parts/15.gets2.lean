/-! LINES: numbers -/
theorem numL_1 (q : lnR) {v : Nat} (h : v < 10) : numL q v = wrL q (nI (48 + v % 10)) := if_pos h
theorem numL_2 (q : lnR) {v : Nat} (h : 10 ≤ v) (h2 : v < 1000) : numL q v = wrL (numL q (v / 10)) (nI (48 + v % 10)) := by
  unfold numL
  rw [if_neg (by omega)]
  by_cases h3 : v < 100
  · rw [if_pos h3, if_pos (by omega)]
  · rw [if_neg h3, if_neg (by omega), if_pos (by omega)]
