/-! THE REFERENCE AT ITS START -/
def pr0 : Nat → Int32 := upd (upd (upd (upd (upd (upd (upd (upd (fun _ => 0) 0 1) 1 9) 2 19) 3 20) 4 99) 5 100) 6 250) 7 999
def saT (n : Nat) : Nat → Int32 := fun j => if 8 ≤ j ∧ j < 8 + n then pr0 (j - 8) else if 24 ≤ j ∧ j < 24 + n then 9 else 0
def saI : Nat → Int32 := upd (saT 8) 5 1
theorem saT_0 : (fun _ => 0) = saT 0 := by funext j; simp only [saT]; rw [if_neg (by omega), if_neg (by omega)]
theorem saT_s {h : Nat → Int32} {n : Nat} (hn : n < 8) (e : h = saT n) : upd (upd h (8 + n) (pr0 n)) (24 + n) 9 = saT (n + 1) := by
  subst e
  funext j
  simp only [upd, saT]
  by_cases h1 : j = 24 + n
  · subst h1; rw [if_pos rfl, if_neg (by omega), if_pos (by omega)]
  · rw [if_neg h1]
    by_cases h2 : j = 8 + n
    · subst h2; rw [if_pos rfl, if_pos (by omega), show 8 + n - 8 = n by omega]
    · rw [if_neg h2]
      by_cases h3 : 8 ≤ j ∧ j < 8 + n
      · rw [if_pos h3, if_pos (by omega)]
      · rw [if_neg h3, if_neg (show ¬ (8 ≤ j ∧ j < 8 + (n + 1)) by omega)]
        by_cases h4 : 24 ≤ j ∧ j < 24 + n
        · rw [if_pos h4, if_pos (by omega)]
        · rw [if_neg h4, if_neg (by omega)]
