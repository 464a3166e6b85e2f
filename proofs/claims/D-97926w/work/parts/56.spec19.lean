/-! X's BASKETS OF FEW THINGS -/
/-- X's numbers beside the reference's: all codes that were seen are below q -/
def SR (fm ff fl : Int32) (b : Sst) (q : Nat) : Prop := (fm = b.1 ∧ fl = b.2.2 ∧ (fl = -1 ∨ 0 ≤ fl)) ∧ ∃ n, n ≤ q ∧ fm = nI n ∧ ((n = 0 ∧ b.2.1 = -1) ∨ (0 < n ∧ ff = b.2.1 ∧ ∃ c, c < q ∧ ff = nI c))
theorem SR_le {fm ff fl : Int32} {b : Sst} {q q2 : Nat} (h : SR fm ff fl b q) (hq : q ≤ q2) : SR fm ff fl b q2 := by
  obtain ⟨h1, n, h2, h3, h4⟩ := h
  refine ⟨h1, n, by omega, h3, ?_⟩
  rcases h4 with h4 | ⟨h4, h5, c, h6, h7⟩
  · exact Or.inl h4
  · exact Or.inr ⟨h4, h5, c, by omega, h7⟩
theorem SR_skip {pay : (Nat → Nat) → Int32} {w fm ff fl : Int32} {ex : Nat → Nat} {le mo : Nat} {b : Sst} {q : Nat} (h : SR fm ff fl b q) (h0 : manyN ex 8 = 0) : SR fm ff fl (lfS pay w ex le mo b) (q + 1) := by
  unfold lfS
  rw [if_pos h0]
  exact SR_le h (by omega)
/-- the least that is paid -/
def lpX (v fl : Int32) : Int32 := if fl < 0 then v else mn_i fl v
theorem lpX_lf {v fl : Int32} (h : fl = -1 ∨ 0 ≤ fl) : lpX v fl = if fl = -1 ∨ v < fl then v else fl := by
  unfold lpX
  by_cases h1 : fl < 0
  · rw [if_pos h1, if_pos (Or.inl (h.resolve_right (fun q => absurd h1 (Int32.not_lt.2 q))))]
  · rw [if_neg h1, mn_lf]
    have h2 : ¬ fl = -1 := fun e => h1 (by rw [e]; decide)
    by_cases h3 : v < fl
    · rw [if_pos h3, if_pos (Or.inr h3)]
    · rw [if_neg h3, if_neg (fun q => q.elim h2 h3)]
theorem lpX_nn {v fl : Int32} (hv : 0 ≤ v) (h : fl = -1 ∨ 0 ≤ fl) : lpX v fl = -1 ∨ 0 ≤ lpX v fl := by
  rw [lpX_lf h]
  split
  · exact Or.inr hv
  · exact h
theorem SR_no {pay : (Nat → Nat) → Int32} {w fm ff fl : Int32} {ex : Nat → Nat} {le mo : Nat} {b : Sst} {q : Nat} (h : SR fm ff fl b q) (h0 : ¬ manyN ex 8 = 0) (hv : 0 ≤ pay ex) (hw : ¬ pay ex = w) : SR fm ff (lpX (pay ex) fl) (lfS pay w ex le mo b) (q + 1) := by
  obtain ⟨⟨h1, h2, h3⟩, n, h4, h5, h6⟩ := h
  unfold lfS
  rw [if_neg h0, if_neg hw, if_neg hw, ← h2, ← lpX_lf h3]
  refine ⟨⟨h1, rfl, lpX_nn hv h3⟩, n, by omega, h5, ?_⟩
  rcases h6 with h6 | ⟨h6, h7, c, h8, h9⟩
  · exact Or.inl h6
  · exact Or.inr ⟨h6, h7, c, by omega, h9⟩
theorem SR_hit0 {pay : (Nat → Nat) → Int32} {w fm ff fl : Int32} {ex : Nat → Nat} {le mo q : Nat} {b : Sst} (h : SR fm ff fl b q) (hq : q = codN ex 8) (hql : q < 100000000) (h0 : ¬ manyN ex 8 = 0) (hv : 0 ≤ pay ex) (hw : pay ex = w) (hm : fm = 0) : SR (fm + 1) (nI q) (lpX (pay ex) fl) (lfS pay w ex le mo b) (q + 1) := by
  obtain ⟨⟨h1, h2, h3⟩, n, h4, h5, h6⟩ := h
  have hn : n = 0 := by
    rcases Nat.eq_zero_or_pos n with e | e
    · exact e
    · exact absurd (h5.symm.trans hm) (nI_ne0 e (by omega))
  subst hn
  have h7 : b.2.1 = -1 := by
    rcases h6 with h6 | h6
    · exact h6.2
    · omega
  unfold lfS
  rw [if_neg h0, if_pos hw, if_pos hw, if_pos (Or.inl h7), ← h2, ← lpX_lf h3, ← hq]
  refine ⟨⟨by rw [h1], rfl, lpX_nn hv h3⟩, 1, by omega, by rw [hm]; rfl, Or.inr ⟨by omega, rfl, q, by omega, rfl⟩⟩
theorem SR_hit1 {pay : (Nat → Nat) → Int32} {w fm ff fl : Int32} {ex : Nat → Nat} {le mo q : Nat} {b : Sst} (h : SR fm ff fl b q) (hq : q = codN ex 8) (hql : q < 100000000) (h0 : ¬ manyN ex 8 = 0) (hv : 0 ≤ pay ex) (hw : pay ex = w) (hm : ¬ fm = 0) : SR (fm + 1) ff (lpX (pay ex) fl) (lfS pay w ex le mo b) (q + 1) := by
  obtain ⟨⟨h1, h2, h3⟩, n, h4, h5, h6⟩ := h
  rcases h6 with ⟨h6, -⟩ | ⟨h6, h7, c, h8, h9⟩
  · subst h6
    exact absurd h5 hm
  · have h10 : ¬ (b.2.1 = -1 ∨ nI (codN ex 8) < b.2.1) := by
      rw [← h7, h9, ← hq]
      rintro (e | e)
      · exact nI_ne_m1 (by omega) e
      · have := fx_lt1 e (by omega) (by omega)
        omega
    unfold lfS
    rw [if_neg h0, if_pos hw, if_pos hw, if_neg h10, ← h2, ← lpX_lf h3]
    exact ⟨⟨by rw [h1], rfl, lpX_nn hv h3⟩, n + 1, by omega, by rw [h5]; exact nI_1 n, Or.inr ⟨by omega, h7, c, by omega, h9⟩⟩
theorem manyN_up {f : Nat → Nat} {k n : Nat} : ∀ j, j ≤ k → manyN (upN f k n) j = manyN f j
  | 0, _ => rfl
  | j + 1, h => by rw [manyN, manyN, manyN_up j (by omega), upN_n _ _ (by omega)]
theorem codN_up {f : Nat → Nat} {k n : Nat} : ∀ j, j ≤ k → codN (upN f k n) j = codN f j
  | 0, _ => rfl
  | j + 1, h => by rw [codN, codN, codN_up j (by omega), upN_n _ _ (by omega)]
theorem manyN_nx {f : Nat → Nat} {k n : Nat} : manyN (upN f k n) (k + 1) = manyN f k + n := by rw [manyN, manyN_up k (Nat.le_refl _), upN_s]
theorem codN_nx {f : Nat → Nat} {k n : Nat} : codN (upN f k n) (k + 1) = 10 * codN f k + n := by rw [codN, codN_up k (Nat.le_refl _), upN_s]
theorem codN_lt {f : Nat → Nat} : ∀ {n : Nat}, (∀ i, i < n → f i ≤ 9) → codN f n < 10 ^ n
  | 0, _ => Nat.zero_lt_one
  | n + 1, h => by
    have h1 := codN_lt (f := f) (n := n) (fun i hi => h i (by omega))
    have h2 := h n (by omega)
    rw [codN, Nat.pow_succ]
    omega
theorem codN_8 {f : Nat → Nat} {n : Nat} (hn : n ≤ 8) (h : ∀ i, i < n → f i ≤ 9) : codN f n < 100000000 := by
  have h1 := codN_lt h
  have h2 : 10 ^ n ≤ 10 ^ 8 := Nat.pow_le_pow_right (by omega) hn
  omega
theorem codN_7 {f : Nat → Nat} {n : Nat} (hn : n ≤ 7) (h : ∀ i, i < n → f i ≤ 9) : codN f n < 10000000 := by
  have h1 := codN_lt h
  have h2 : 10 ^ n ≤ 10 ^ 7 := Nat.pow_le_pow_right (by omega) hn
  omega
theorem pw_in {c d : Nat} : c * 10 ^ (d + 1) ≤ (10 * c + 0) * 10 ^ d := by
  rw [Nat.pow_succ, Nat.add_zero, Nat.mul_comm (10 ^ d) 10, ← Nat.mul_assoc, Nat.mul_comm c 10]
  exact Nat.le_refl _
theorem pw_out {c d n : Nat} (h : n ≤ 10) : (10 * c + n) * 10 ^ d ≤ (c + 1) * 10 ^ (d + 1) := by
  rw [Nat.pow_succ, Nat.mul_comm (10 ^ d) 10, ← Nat.mul_assoc]
  exact Nat.mul_le_mul_right _ (by omega)
theorem SR_0 {ff : Int32} : SR 0 ff (-1) ((0, -1, -1) : Sst) 0 := ⟨⟨rfl, rfl, Or.inl rfl⟩, 0, Nat.le_refl _, rfl, Or.inl ⟨rfl, rfl⟩⟩
theorem SR_fi {fm ff fl : Int32} {b : Sst} {q : Nat} (h : SR fm ff fl b q) (hq : q < 2147483648) (h0 : fm = 0) : b.2.1 = -1 := by
  obtain ⟨-, n, h2, h3, h4⟩ := h
  rcases h4 with h4 | ⟨h4, -⟩
  · exact h4.2
  · exact absurd (h3.symm.trans h0) (nI_ne0 h4 (by omega))
theorem SR_ff {fm ff fl : Int32} {b : Sst} {q : Nat} (h : SR fm ff fl b q) (hq : q < 2147483648) (h0 : ¬ fm = 0) : b.2.1 = ff ∧ ¬ b.2.1 = -1 := by
  obtain ⟨-, n, h2, h3, h4⟩ := h
  rcases h4 with ⟨h4, -⟩ | ⟨h4, h5, c, h6, h7⟩
  · subst h4; exact absurd h3 h0
  · rw [← h5]; exact ⟨rfl, by rw [h7]; exact nI_ne_m1 (by omega)⟩
theorem til_m1 {v : Int32} (h : inB v (-1) 3 = true) (h1 : v < 0) : v = -1 := by
  have h2 := (inB_iff.1 h).1
  rw [Int32.le_iff_toInt_le] at h2
  rw [Int32.lt_iff_toInt_lt] at h1
  have e3 : (-1 : Int32).toInt = -1 := by decide
  have e4 : (0 : Int32).toInt = 0 := by decide
  exact Int32.toInt_inj.1 (by omega)
