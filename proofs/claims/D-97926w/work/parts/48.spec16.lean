/-! X's PARTING IN TWO -/
theorem mn_lf {x v : Int32} : mn_i x v = if v < x then v else x := rfl
theorem partF_nn {sa : Nat → Int32} {T : Tx} {k : Nat} {rn ex : Nat → Nat} : 0 ≤ partF sa T k rn ex := by
  unfold partF
  obtain ⟨h1, h2⟩ := paysF_nat sa T ex k
  obtain ⟨h3, h4⟩ := paysF_nat sa T (fun t => rn t - ex t) k
  rw [h1, h3, nI_add]
  exact nI_pos' (by omega)
theorem lfP_ge {f : (Nat → Nat) → Int32} {ex : Nat → Nat} {a b : Nat} {x : Int32} (hx : x = -1 ∨ 0 ≤ x) (h : ¬ x < 0) : lfP f ex a b x = mn_i x (f ex) := by
  unfold lfP
  rw [mn_lf]
  have h1 : ¬ x = -1 := fun e => h (by rw [e]; decide)
  by_cases h2 : f ex < x
  · rw [if_pos (Or.inr h2), if_pos h2]
  · rw [if_neg (fun q => q.elim h1 h2), if_neg h2]
theorem lfP_lt {f : (Nat → Nat) → Int32} {ex : Nat → Nat} {a b : Nat} {x : Int32} (hx : x = -1 ∨ 0 ≤ x) (h : x < 0) : lfP f ex a b x = f ex := by
  unfold lfP
  rw [if_pos (Or.inl (hx.resolve_right (fun q => absurd h (Int32.not_lt.2 q))))]
theorem lfP_nn {f : (Nat → Nat) → Int32} {ex : Nat → Nat} {a b : Nat} {x : Int32} (hf : 0 ≤ f ex) (hx : x = -1 ∨ 0 ≤ x) : 0 ≤ lfP f ex a b x := by
  unfold lfP
  split
  · exact hf
  · rename_i h
    exact hx.resolve_left (fun e => h (Or.inl e))
theorem rowr_s {rw_ : Nat → Int32} {rn ex : Nat → Nat} {t n : Nat} (h : ∀ i, i < t → rw_ i = nI (ex i) ∧ ex i ≤ rn i) (hn : n ≤ rn t) : ∀ i, i < t + 1 → upd rw_ t (nI n) i = nI (upN ex t n i) ∧ upN ex t n i ≤ rn i := by
  intro i hi
  by_cases e : i = t
  · subst e; rw [upd_s, upN_s]; exact ⟨rfl, hn⟩
  · rw [upd_n _ _ e, upN_n _ _ e]; exact h i (by omega)
