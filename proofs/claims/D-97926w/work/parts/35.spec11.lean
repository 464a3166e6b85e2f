/-! X's rows beside the reference's -/
def rl (f sa : Nat → Int32) (b n : Nat) : Prop := ∀ t, t < n → f t = sa (b + t)
theorem rl_s {f sa : Nat → Int32} {b n j q : Nat} {v : Int32} (h : rl f sa b n) (hq : q = b + j) : rl (upd f j v) (upd sa q v) b n := by
  intro t ht
  subst hq
  by_cases e : t = j
  · subst e; rw [upd_s, upd_s]
  · rw [upd_n _ _ e, upd_n _ _ (by omega)]; exact h t ht
theorem rl_n {f sa : Nat → Int32} {b n q : Nat} {v : Int32} (h : rl f sa b n) (hq : q < b ∨ b + n ≤ q) : rl f (upd sa q v) b n := by
  intro t ht
  rw [upd_n _ _ (by omega)]; exact h t ht
theorem lack_ok {bt sz nu : Nat → Int32} {a b : Int32} {mo : Nat} (h1 : inB a 0 3 = true) (h2 : inB b 0 3 = true) : lackF bt sz nu a b true mo = tellC bt sz nu (nn a) mo := by
  rw [lackF, if_pos (by simp [h1, h2])]
theorem lack_no {bt sz nu : Nat → Int32} {a b : Int32} {o : Bool} {mo : Nat} (h : ¬ inB a 0 3 = true ∨ ¬ inB b 0 3 = true ∨ ¬ o = true) : lackF bt sz nu a b o mo = 1 := by
  rw [lackF, if_neg]
  intro q
  simp only [Bool.and_eq_true] at q
  rcases h with h | h | h
  · exact h q.1
  · exact h q.2.1
  · exact h q.2.2
theorem tell_row {bt sz nu g : Nat → Int32} {k mo : Nat} (h : tellC bt sz nu k mo = 0) (hg : ∀ t, t < 8 → g t = shG sz nu k t) : (∀ t, t < 8 → g t = nI (rnG sz nu k t) ∧ rnG sz nu k t ≤ 99) ∧ (∀ t, t < 8 → rnG sz nu k t ≤ 9) ∧ manyN (rnG sz nu k) 8 ≤ mo := by
  obtain ⟨-, h4, h5⟩ := tellC_0 h
  exact ⟨fun t ht => ⟨(hg t ht).trans (h4 t ht).1, by have := (h4 t ht).2; omega⟩, fun t ht => (h4 t ht).2, h5⟩
theorem and_t {Q : Nat → Prop} [∀ i, Decidable (Q i)] {t : Nat} {b : Int32} (hb : b = fx_b (allB (fun i => decide (Q i)) t = true)) (h : Q t) : b &&& 1 = fx_b (allB (fun i => decide (Q i)) (t + 1) = true) := by
  rcases fx_bc hb with ⟨h1, e⟩ | ⟨h1, e⟩
  · rw [e]; exact (by decide : (1 : Int32) &&& 1 = 1).trans (fx_bt (by simp [allB, h1, h]))
  · rw [e]; exact (by decide : (0 : Int32) &&& 1 = 0).trans (fx_bf (by simp [allB, h1]))
theorem and_f {Q : Nat → Prop} [∀ i, Decidable (Q i)] {t : Nat} {b : Int32} (hb : b = fx_b (allB (fun i => decide (Q i)) t = true)) (h : ¬ Q t) : b &&& 0 = fx_b (allB (fun i => decide (Q i)) (t + 1) = true) := by
  rcases fx_bc hb with ⟨h1, e⟩ | ⟨h1, e⟩
  · rw [e]; exact (by decide : (1 : Int32) &&& 0 = 0).trans (fx_bf (by simp [allB, h]))
  · rw [e]; exact (by decide : (0 : Int32) &&& 0 = 0).trans (fx_bf (by simp [allB, h]))
