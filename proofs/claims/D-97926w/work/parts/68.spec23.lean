/-! X's HOUSE: smaller operations -/
theorem HN_w {sa : Nat → Int32} {tk cs gs zz tp wg z : Int32} (h : HN sa tk cs gs zz tp wg) : HN (upd sa 4 z) tk cs gs zz tp z := by
  obtain ⟨h1, h2, h3, h4, h5, h6⟩ := h
  exact ⟨h1.trans (upd_n _ _ (by omega)).symm, h2.trans (upd_n _ _ (by omega)).symm, h3.trans (upd_n _ _ (by omega)).symm, h4.trans (upd_n _ _ (by omega)).symm, h5.trans (upd_n _ _ (by omega)).symm, (upd_s _ _ _).symm⟩
theorem HN_n {sa : Nat → Int32} {tk cs gs zz tp wg v : Int32} {j : Nat} (hj : 6 ≤ j) (h : HN sa tk cs gs zz tp wg) : HN (upd sa j v) tk cs gs zz tp wg := by
  obtain ⟨h1, h2, h3, h4, h5, h6⟩ := h
  exact ⟨h1.trans (upd_n _ _ (by omega)).symm, h2.trans (upd_n _ _ (by omega)).symm, h3.trans (upd_n _ _ (by omega)).symm, h4.trans (upd_n _ _ (by omega)).symm, h5.trans (upd_n _ _ (by omega)).symm, h6.trans (upd_n _ _ (by omega)).symm⟩
theorem l_sum_rl {f sa : Nat → Int32} {b n : Nat} (h : rl f sa b n) : l_sum f n = l_sum (fun i_ => sa (b + i_)) n := l_sum_congr h
theorem km_c {km : Int32} (h : ¬ km < 0) (h2 : km / 10 ≤ 6) : inB km 0 69 = true ∧ km = nI (nn km) ∧ nn km ≤ 69 ∧ km / 10 = nI (nn km / 10) ∧ km - km / 10 * 10 = nI (nn km % 10) := by
  obtain ⟨n, hn, rfl⟩ := nI_of h
  have e1 : nI n / 10 = nI (n / 10) := pk_div (a := n) (d := 10) (by omega) (by omega) (by omega)
  have e2 : nI n - nI n / 10 * 10 = nI (n % 10) := pk_rem (a := n) (d := 10) (by omega) (by omega) (by omega)
  rw [e1] at h2
  have h3 := fx_le1 (a := n / 10) (b := 6) h2 (by omega) (by omega)
  have e3 : nn (nI n) = n := nn_nI (by omega)
  rw [e3]
  exact ⟨nI_inB (a := 0) (b := 69) (by omega) (by omega) (by omega), rfl, by omega, e1, e2⟩
theorem km_n {km : Int32} (h : km < 0 ∨ 6 < km / 10) : ¬ inB km 0 69 = true := by
  intro q
  have h1 := inB_nn (n := 69) q (by omega)
  rcases h with h | h
  · exact absurd (inB_iff.1 q).1 (Int32.not_le.2 h)
  · rw [h1.1, show nI (nn km) / 10 = nI (nn km / 10) from pk_div (a := nn km) (d := 10) (by omega) (by omega) (by omega)] at h
    have := fx_lt1 (a := 6) (b := nn km / 10) h (by omega) (by omega)
    omega
/-- the tills, where one is made anew -/
theorem TLS_new {PL nw : va_W} {sa : Nat → Int32} {tl : Nat → Nat} {k q kd m : Nat} (h : TLS PL sa tl) (hk : k < 4) (hkd : kd < 2147483648) (hw : (q, .inr (tcn kd, [.int (nI k), .int (nI m)])) ∈ nw) : TLS (PL ++ nw) (upd (upd sa (32 + 2 * k) (nI kd)) (32 + 2 * k + 1) (nI m)) (upN tl k q) := by
  intro j hj
  by_cases e : j = k
  · subst e
    rw [upN_s, upd_s, upd_n _ _ (by omega), upd_s]
    refine List.mem_append_right _ ?_
    rw [nn, nn_nI hkd]
    exact hw
  · rw [upN_n _ _ e, upd_n _ _ (by omega), upd_n _ _ (by omega), upd_n _ _ (by omega), upd_n _ _ (by omega)]
    exact List.mem_append_left _ (h j hj)
theorem TLS_app {PL nw : va_W} {sa : Nat → Int32} {tl : Nat → Nat} (h : TLS PL sa tl) : TLS (PL ++ nw) sa tl := fun k hk => List.mem_append_left _ (h k hk)
/-- X's prices from a sheet -/
theorem prA_rl {pr sa nu : Nat → Int32} {k : Nat} {b n : Nat} (h : rl pr sa b n) (hb : 16 ≤ b) {c : Nat} (hc : c ≤ 8) : rl pr (prA sa nu k c) b n := by
  intro t ht
  unfold prA
  rw [if_neg (by omega)]
  exact h t ht
theorem prA_pr {p2 pr sa nu : Nat → Int32} {k c : Nat} (h : ∀ t, t < c → p2 t = nu (24 * k + t)) (h2 : ∀ t, c ≤ t → t < 8 → p2 t = pr t) (hpr : rl pr sa 8 8) (hc : c ≤ 8) : rl p2 (prA sa nu k c) 8 8 := by
  intro t ht
  unfold prA
  by_cases e : t < c
  · rw [if_pos (by omega), show 8 + t - 8 = t by omega]; exact h t e
  · rw [if_neg (by omega), h2 t (by omega) ht]; exact hpr t ht
theorem prA_at {sa nu : Nat → Int32} {k c j : Nat} (h : j < 8 ∨ 8 + c ≤ j) : prA sa nu k c j = sa j := by
  unfold prA
  rw [if_neg (by omega)]
theorem HN_prA {sa nu : Nat → Int32} {tk cs gs zz tp wg : Int32} {k c : Nat} (h : HN sa tk cs gs zz tp wg) : HN (prA sa nu k c) tk cs gs zz tp wg := by
  obtain ⟨h1, h2, h3, h4, h5, h6⟩ := h
  exact ⟨h1.trans (prA_at (by omega)).symm, h2.trans (prA_at (by omega)).symm, h3.trans (prA_at (by omega)).symm, h4.trans (prA_at (by omega)).symm, h5.trans (prA_at (by omega)).symm, h6.trans (prA_at (by omega)).symm⟩
