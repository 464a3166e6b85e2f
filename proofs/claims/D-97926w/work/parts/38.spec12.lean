/-! X's GOES -/
theorem hld_mn {v hi : Int32} (h : 0 ≤ v) : mn_i hi v = hld v 0 hi := by
  unfold mn_i hld
  simp only [Int32.lt_iff_toInt_lt, Int32.le_iff_toInt_le] at h ⊢
  have h0 : (0 : Int32).toInt = 0 := by decide
  repeat' split
  all_goals first
    | rfl
    | exact Int32.toInt_inj.1 (by omega)
    | omega
theorem nn_add0 {x y : Int32} {a b : Nat} (hx : inB x 0 (nI a) = true) (hy : y = nI b) (hab : a + b < 2147483648) (ha : a < 2147483647) : 0 ≤ x + y := by
  have h := inB_nn hx ha
  rw [h.1, hy, nI_add]
  exact nI_pos' (by omega)
theorem goes_1 {sa g : Nat → Int32} {T : Tx} {rn : Nat → Nat} {k : Nat} : goesA sa T g rn k 1 = hld (sa 1 + paysF sa T rn k) 0 99999999 := by
  simp only [goesA, subN, gB]
  rw [if_neg (by omega), upd_n _ _ (by omega), upd_n _ _ (by omega), upd_s]
theorem goes_2 {sa g : Nat → Int32} {T : Tx} {rn : Nat → Nat} {k : Nat} : goesA sa T g rn k 2 = hld (sa 2 + nI (sumN rn (fun t => nn (sa (16 + t))) 8)) 0 99999999 := by
  simp only [goesA, subN, gB]
  rw [if_neg (by omega), upd_n _ _ (by omega), upd_s]
theorem goes_0 {sa g : Nat → Int32} {T : Tx} {rn : Nat → Nat} {k : Nat} : goesA sa T g rn k 0 = hld (sa 0 + 1) 0 9999 := by
  simp only [goesA, subN, gB]
  rw [if_neg (by omega), upd_s]
theorem goes_st {sa g : Nat → Int32} {T : Tx} {rn : Nat → Nat} {k t : Nat} (ht : t < 8) : goesA sa T g rn k (24 + t) = sa (24 + t) - g t := by
  simp only [goesA, subN]
  rw [if_pos (by omega), gB_at (by omega), show 24 + t - 24 = t by omega]
/-- the house's numbers -/
def HN (sa : Nat → Int32) (tk cs gs zz tp wg : Int32) : Prop := tk = sa 1 ∧ cs = sa 2 ∧ gs = sa 0 ∧ zz = sa 5 ∧ tp = sa 3 ∧ wg = sa 4
theorem allB_rl {sa g f : Nat → Int32} (h : rl f sa 24 8) : allB (fun i => decide (g i ≤ f i)) 8 = inSt sa g := by
  unfold inSt
  exact allB_congr fun t ht => by rw [h t ht]
theorem fit8 {v : Int32} {n : Nat} (h : v = nI n) (hn : n < 128) : v.toInt8.toInt32 = v := by
  subst h
  apply Int32.toInt_inj.1
  rw [Int8.toInt_toInt32, Int32.toInt_toInt8, nI_toInt (by omega)]
  exact Int.bmod_eq_of_le (by omega) (by omega)
