/-! X's WORLD: what its pools hold -/
def tcn (kd : Nat) : Nat := if kd = 1 then 7 else if kd = 2 then 8 else if kd = 3 then 9 else if kd = 4 then 10 else if kd = 5 then 11 else if kd = 6 then 12 else 3
/-- the tills, by their kinds -/
def TLS (PL : va_W) (sa : Nat → Int32) (tl : Nat → Nat) : Prop := ∀ k, k < 4 → (tl k, .inr (tcn (nn (sa (32 + 2 * k))), [.int (nI k), .int (sa (32 + 2 * k + 1))])) ∈ PL
/-- a text's rows -/
def TXr (T : Tx) (f g : Nat → Int32) : Prop := ∀ k, k < T.1 → f k = nI (T.2.1 k) ∧ g k = nI (T.2.2 k)
def TXs (E : fx_En) (PL : va_W) (o : Option Nat) (T : Tx) : Prop := (o = none ∧ T.1 = 0) ∨ ∃ a b c f g, o = some a ∧ 0 < T.1 ∧ (a, .inr (14, [.ref b, .ref c, .int (nI T.1)])) ∈ PL ∧ (b, .inl (E.2 1, 60, .inl f)) ∈ PL ∧ (c, .inl (E.2 2, 60, .inl g)) ∈ PL ∧ TXr T f g
theorem sgn_lt {c : Nat} (h : sgn c) : c ≤ 124 := by unfold sgn at h; omega
theorem dpc_lt {tc tx : Nat → Nat} {k : Nat} (h : okS tc tx k) : tc k ≤ 124 := by
  rcases h with h | h | h | h
  · omega
  · omega
  · omega
  · exact sgn_lt h.2.1
theorem nm3X {f : Nat → Int32} {a b c : Int32} : ∀ i, i < 3 → upd (upd (upd f 0 a) 1 b) 2 c i = nm3 a b c i := by
  intro i hi
  rcases (show i = 0 ∨ i = 1 ∨ i = 2 by omega) with rfl | rfl | rfl <;> rfl
theorem mx_fl {a b : Nat} (ha : a < 2147483648) (hb : b < 2147483648) : mx_i (nI a) (nI b) = if b < a then nI a else nI b := by
  unfold mx_i
  by_cases h : b < a
  · rw [if_pos h, if_neg]
    intro q
    have := fx_lt1 (a := a) (b := b) q ha hb
    omega
  · rw [if_neg h]
    by_cases h2 : a = b
    · subst h2; split <;> rfl
    · rw [if_pos]
      exact nI_lt (by omega) hb
/-- the sheets -/
def SHS (E : fx_En) (PL : va_W) (bt sz nu : Nat → Int32) (sh : Nat → Option Nat) : Prop := ∀ k, k < 4 → (sh k = none ∧ bt k = 0) ∨ ∃ a f, sh k = some a ∧ (∀ i, i < nn (sz k) → f i = nu (24 * k + i)) ∧
  ((bt k = 8 ∧ (a, .inl (E.2 1, nn (sz k), .inl f)) ∈ PL) ∨ (bt k = 16 ∧ (a, .inl (E.2 2, nn (sz k), .inl f)) ∈ PL) ∨ (bt k = 32 ∧ (a, .inl (E.2 0, nn (sz k), .inl f)) ∈ PL))
theorem nar8 {v : Int32} (h : inB v 0 9 = true) : v.toInt8.toInt32 = v := by
  obtain ⟨j, hj, rfl⟩ := inB_nat (n := 9) h (by omega)
  rcases (show j = 0 ∨ j = 1 ∨ j = 2 ∨ j = 3 ∨ j = 4 ∨ j = 5 ∨ j = 6 ∨ j = 7 ∨ j = 8 ∨ j = 9 by omega) with h | h | h | h | h | h | h | h | h | h <;> subst h <;> decide
