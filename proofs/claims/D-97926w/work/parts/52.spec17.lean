/-! X's SHEETS TOGETHER -/
theorem tell_cases {bt sz nu : Nat → Int32} {k : Nat} : (tellC bt sz nu k 30 = 2 ∧ tellC bt sz nu k 99 = 2) ∨ (tellC bt sz nu k 30 = 1 ∧ tellC bt sz nu k 99 = 1) ∨ (tellC bt sz nu k 30 = 4 ∧ tellC bt sz nu k 99 = 0 ∧ 30 < manyN (rnG sz nu k) 8) ∨ (tellC bt sz nu k 30 = 0 ∧ tellC bt sz nu k 99 = 0 ∧ manyN (rnG sz nu k) 8 ≤ 30) := by
  by_cases h0 : bt k = 0
  · exact Or.inl ⟨tellC_2 h0, tellC_2 h0⟩
  · by_cases h1 : allB (fun t => inB (shG sz nu k t) 0 9) 8 = true
    · have h2 := allB_iff.1 h1
      have h3 := rn_of (sz := sz) (nu := nu) (k := k) (g := shG sz nu k) (fun _ _ => rfl) h2
      have h4 := manyN_le (rn := rnG sz nu k) (a := 9) 8 (fun t ht => (h3 t ht).2)
      rw [tellC_all h0 h2, tellC_all h0 h2, if_neg (show ¬ 99 < manyN (rnG sz nu k) 8 by omega)]
      by_cases h5 : 30 < manyN (rnG sz nu k) 8
      · rw [if_pos h5]; exact Or.inr (Or.inr (Or.inl ⟨rfl, rfl, h5⟩))
      · rw [if_neg h5]; exact Or.inr (Or.inr (Or.inr ⟨rfl, rfl, by omega⟩))
    · have h2 : allB (fun t => inB (shG sz nu k t) 0 9) 8 = false := Bool.eq_false_iff.2 h1
      unfold tellC
      rw [if_neg h0, if_neg h0, if_pos h2, if_pos h2]
      exact Or.inr (Or.inl ⟨rfl, rfl⟩)
/-- what is wrong with two sheets, as X tells it -/
theorem tog_x {bt sz nu : Nat → Int32} {a o b : Int32} (h1 : inB a 0 3 = true) (h2 : inB o 0 3 = true) (h3 : inB b 0 3 = true) : togC bt sz nu a o b =
    if tellC bt sz nu (nn a) 30 = 2 ∨ tellC bt sz nu (nn o) 30 = 2 then 2 else if tellC bt sz nu (nn a) 30 = 1 ∨ tellC bt sz nu (nn o) 30 = 1 then 1
    else if 0 < tellC bt sz nu (nn a) 30 ∨ 0 < tellC bt sz nu (nn o) 30 ∨ 30 < manyN (rnG sz nu (nn a)) 8 + manyN (rnG sz nu (nn o)) 8 then 4 else 0 := by
  have hl : lackF bt sz nu a b (inB o 0 3) 99 = tellC bt sz nu (nn a) 99 := by rw [h2]; exact lack_ok h1 h3
  unfold togC togA
  rw [hl]
  rcases tell_cases (bt := bt) (sz := sz) (nu := nu) (k := nn a) with ⟨e1, e2⟩ | ⟨e1, e2⟩ | ⟨e1, e2, e3⟩ | ⟨e1, e2, e3⟩ <;>
  rcases tell_cases (bt := bt) (sz := sz) (nu := nu) (k := nn o) with ⟨f1, f2⟩ | ⟨f1, f2⟩ | ⟨f1, f2, f3⟩ | ⟨f1, f2, f3⟩ <;>
  rw [e1, e2, f1, f2] <;> simp [h1, h2, h3] <;> (try omega)
theorem tog_no {bt sz nu : Nat → Int32} {a o b : Int32} (h : ¬ inB a 0 3 = true ∨ ¬ inB o 0 3 = true ∨ ¬ inB b 0 3 = true) : togC bt sz nu a o b = 1 := by
  have hl : lackF bt sz nu a b (inB o 0 3) 99 = 1 := by
    rcases h with h | h | h
    · exact lack_no (Or.inl h)
    · exact lack_no (Or.inr (Or.inr h))
    · exact lack_no (Or.inr (Or.inl h))
  have hA : togA bt sz nu a o b = 1 := by
    unfold togA
    rw [hl, if_neg]
    rintro (q | ⟨-, q1, q2, q3⟩)
    · omega
    · rcases h with h | h | h
      · exact h q1
      · exact h q2
      · exact h q3
  unfold togC
  rw [hA, if_neg (by omega)]
