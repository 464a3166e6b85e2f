/-! X's MORE -/
theorem mn_nat {a b : Nat} (ha : a < 2147483648) (hb : b < 2147483648) : mn_i (nI a) (nI b) = nI (min a b) := by
  unfold mn_i
  by_cases h : b < a
  · rw [if_pos (nI_lt h (by omega)), show min a b = b by omega]
  · rw [if_neg, show min a b = a by omega]
    intro q
    have := fx_lt1 (a := b) (b := a) q hb ha
    omega
