/-! X's CHARGES THAT ERR -/
theorem lcmp_1 {a : Nat} (ha : a < 2147483648) (h : lg_cmp (lN a) 0 = 0) : a = 0 := by
  unfold lg_cmp at h
  split at h
  · exact absurd h (by decide)
  · split at h
    · rename_i h1
      exact (lN_eq (a := a) (b := 0) (by omega) (by omega)).1 h1
    · exact absurd h (by decide)
theorem lcmp_0 {a : Nat} (h : ¬ lg_cmp (lN a) 0 = 0) : ¬ a = 0 := by
  intro e
  subst e
  exact h (by decide)
theorem lN_ne0 {a : Nat} (ha : a < 2147483648) (h : 0 < a) : lN a ≠ 0 := fun e => by
  have := (lN_eq (a := a) (b := 0) (by omega) (by omega)).1 e
  omega
theorem lN_divs {a b : Nat} (ha : a < 2147483648) (hb : b < 2147483648) (h : 0 < b) : lN a / lN b = lN (a / b) := pk_lDiv (Nat.lt_trans ha (by decide)) h (Nat.lt_trans hb (by decide))
theorem lN_rems {a b : Nat} (ha : a < 2147483648) (hb : b < 2147483648) (h : 0 < b) : lN a - lN a / lN b * lN b = lN (a % b) := pk_lRem (Nat.lt_trans ha (by decide)) h (Nat.lt_trans hb (by decide))
theorem og_up {v : Int32} (h : ¬ v < 0) : v / 17 = nI (nn v / 17) := by
  obtain ⟨n, hn, rfl⟩ := nI_of h
  rw [nn, nn_nI hn]
  exact pk_div (a := n) (d := 17) (by omega) (by omega) (by omega)
theorem og_dn {v : Int32} (h : ¬ v < 0) : v - v / 17 * 17 = nI (nn v % 17) := by
  obtain ⟨n, hn, rfl⟩ := nI_of h
  rw [nn, nn_nI hn]
  exact pk_rem (a := n) (d := 17) (by omega) (by omega) (by omega)
theorem abv_x {p u d : Nat} (hp : p ≤ 9999) (hu : u ≤ 16) (hd : d ≤ 16) (h : d ≤ 16 * p + u) : 16 * (nI p).toInt64 + (nI u).toInt64 - (nI d).toInt64 = lN (16 * p + u - d) := by
  rw [nI_l (by omega), nI_l (by omega), nI_l (by omega), show (16 : Int64) = lN 16 from rfl, lN_mul, lN_add, lN_sub h]
theorem abv_0 {p u : Nat} (hp : p ≤ 9999) (hu : u ≤ 16) : 16 * (nI p).toInt64 + (nI u).toInt64 - (0 : Int32).toInt64 = lN (16 * p + u - 0) := abv_x (d := 0) hp hu (by omega) (by omega)
