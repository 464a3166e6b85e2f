/-! MORE LEMMAS for the searches' callers -/
theorem rowq_s {rw_ : Nat → Int32} {ex : Nat → Nat} {t n : Nat} (h : ∀ i, i < t → rw_ i = nI (ex i) ∧ ex i ≤ 9) (hn : n ≤ 9) : ∀ i, i < t + 1 → upd rw_ t (nI n) i = nI (upN ex t n i) ∧ upN ex t n i ≤ 9 := by
  intro i hi
  by_cases e : i = t
  · subst e; rw [upd_s, upN_s]; exact ⟨rfl, hn⟩
  · rw [upd_n _ _ e, upN_n _ _ e]; exact h i (by omega)
theorem itr_s {β : Type} (f : Nat → β → β) (k : Nat) (b : β) : itr f (k + 1) b = f k (itr f k b) := rfl
theorem upd_self {f : Nat → Int32} {j : Nat} : upd f j (f j) = f := by
  funext i
  simp only [upd]
  by_cases h : i = j
  · rw [if_pos h, h]
  · rw [if_neg h]
theorem upd_pr {sa : Nat → Int32} {t : Nat} (h : Inv sa) (ht : t < 8) : upd sa (8 + t) (nI (nn (sa (8 + t)))) = sa := by
  rw [← (h.pr t ht).1]; exact upd_self
theorem fx_b1 {P : Prop} [Decidable P] {b : Int32} (h : b = fx_b P) (h1 : ¬ b = 0) : 1 = fx_b P := by
  rcases fx_bc h with ⟨h2, -⟩ | ⟨-, h2⟩
  · exact fx_bt h2
  · exact absurd h2 h1
theorem fx_b0 {P : Prop} [Decidable P] {b : Int32} (h : b = fx_b P) (h1 : b = 0) : 0 = fx_b P := by rw [← h, h1]
theorem til_nat {v : Int32} (h : inB v (-1) 3 = true) (h1 : ¬ v = -1) : v = nI (nn v) ∧ nn v ≤ 3 := by
  refine inB_nn (n := 3) (inB_iff.2 ⟨?_, (inB_iff.1 h).2⟩) (by omega)
  have h3 := (inB_iff.1 h).1
  rw [Int32.le_iff_toInt_le] at h3 ⊢
  have e2 : v.toInt ≠ -1 := fun e => h1 (Int32.toInt_inj.1 e)
  have e3 : (-1 : Int32).toInt = -1 := by decide
  have e4 : (0 : Int32).toInt = 0 := by decide
  omega
theorem mv_le {x n i : Int32} {s : Nat} (hs : x = nI s) (h24 : s ≤ 24) (hn : ¬ n < 0) (hi : ¬ i < 0) (h : i ≤ x - n) : nn i + nn n ≤ s := by
  obtain ⟨a, ha, rfl⟩ := nI_of hn
  obtain ⟨b, hb, rfl⟩ := nI_of hi
  subst hs
  rw [nn, nn, nn_nI ha, nn_nI hb]
  rw [Int32.le_iff_toInt_le, Int32.toInt_sub, nI_toInt hb, nI_toInt (by omega), nI_toInt ha] at h
  rw [Int.bmod_eq_of_le (by omega) (by omega)] at h
  omega
