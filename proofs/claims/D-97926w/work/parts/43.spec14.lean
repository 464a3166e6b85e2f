/-! X's SEARCH FOR MORE -/
theorem i_0sub (a b : Int32) : 0 - a + b = b - a := by grind
theorem i_sub0 (a : Int32) : a - 0 = a := by grind
/-- less, by the first t places -/
def LX (bx ex : Nat → Nat) (t : Nat) : Prop := ∃ j, j < t ∧ (∀ i, i < j → bx i = ex i) ∧ bx j < ex j
def AG (bx ex : Nat → Nat) (t : Nat) : Prop := ∀ i, i < t → bx i = ex i
theorem LX_up {bx ex : Nat → Nat} {t n : Nat} (h : LX bx ex t) : LX bx (upN ex t n) (t + 1) := by
  obtain ⟨j, hj, h1, h2⟩ := h
  exact ⟨j, by omega, fun i hi => by rw [upN_n _ _ (by omega)]; exact h1 i hi, by rw [upN_n _ _ (by omega)]; exact h2⟩
theorem LX_dn {bx ex : Nat → Nat} {t n : Nat} (h : LX bx (upN ex t n) (t + 1) ∨ AG bx (upN ex t n) (t + 1)) : LX bx ex t ∨ (AG bx ex t ∧ bx t ≤ n) := by
  rcases h with ⟨j, hj, h1, h2⟩ | h
  · by_cases e : j = t
    · subst e
      rw [upN_s] at h2
      exact Or.inr ⟨fun i hi => by rw [h1 i hi, upN_n _ _ (by omega)], by omega⟩
    · rw [upN_n _ _ e] at h2
      exact Or.inl ⟨j, by omega, fun i hi => by rw [h1 i hi, upN_n _ _ (by omega)], h2⟩
  · refine Or.inr ⟨fun i hi => by rw [h i (by omega), upN_n _ _ (by omega)], ?_⟩
    have := h t (by omega)
    rw [upN_s] at this
    omega
theorem LX_nx {bx ex : Nat → Nat} {t n : Nat} (h : LX bx ex t ∨ (AG bx ex t ∧ bx t < n)) : LX bx (upN ex t n) (t + 1) := by
  rcases h with h | ⟨h, h2⟩
  · exact LX_up h
  · exact ⟨t, by omega, fun i hi => by rw [upN_n _ _ (by omega)]; exact h i hi, by rw [upN_s]; exact h2⟩
theorem cpy8 {f g : Nat → Int32} {i : Nat} (h : i < 8) : va_cpy f g 0 0 8 i = f i := by
  unfold va_cpy
  rw [if_pos (by omega)]
  congr 1
  omega
