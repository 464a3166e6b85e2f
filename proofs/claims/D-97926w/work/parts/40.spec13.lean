/-! X's DRAWS -/
theorem TLS_c {PL : va_W} {sa sb : Nat → Int32} {tl : Nat → Nat} (h : ∀ j, 32 ≤ j → j < 40 → sb j = sa j) (ht : TLS PL sa tl) : TLS PL sb tl := by
  intro k hk
  rw [h _ (by omega) (by omega), h _ (by omega) (by omega)]
  exact ht k hk
theorem rl_c {f sa sb : Nat → Int32} {b n : Nat} (h : ∀ j, b ≤ j → j < b + n → sb j = sa j) (hr : rl f sa b n) : rl f sb b n := fun t ht => by rw [h _ (by omega) (by omega)]; exact hr t ht
theorem buyA_at {sa : Nat → Int32} {T : Tx} {j : Nat} (h : 3 ≤ j) (h5 : j ≠ 5) (h2 : j < 24 ∨ 32 ≤ j) : buyA sa T j = sa j := by
  unfold buyA
  split
  · rw [goesA_at h h2, upd_n _ _ h5]
  · rw [upd_n _ _ h5]
theorem drawN_at {sa : Nat → Int32} {T : Tx} {j : Nat} (h : 3 ≤ j) (h5 : j ≠ 5) (h2 : j < 24 ∨ 32 ≤ j) : ∀ n, (drawN T n sa).1 j = sa j
  | 0 => rfl
  | n + 1 => (buyA_at h h5 h2).trans (drawN_at h h5 h2 n)
theorem HN_z {sa : Nat → Int32} {tk cs gs zz tp wg z : Int32} (h : HN sa tk cs gs zz tp wg) : HN (upd sa 5 z) tk cs gs z tp wg := by
  obtain ⟨h1, h2, h3, h4, h5, h6⟩ := h
  exact ⟨h1.trans (upd_n _ _ (by omega)).symm, h2.trans (upd_n _ _ (by omega)).symm, h3.trans (upd_n _ _ (by omega)).symm, (upd_s _ _ _).symm, h5.trans (upd_n _ _ (by omega)).symm, h6.trans (upd_n _ _ (by omega)).symm⟩
theorem byN_le (z : Int32) : byN z ≤ 4 := by unfold byN; omega
theorem byT_lt (z : Int32) : byT z < 8 := Nat.mod_lt _ (by decide)
theorem byK_lt (z : Int32) : byK z < 4 := Nat.mod_lt _ (by decide)
theorem buyS_of {sa f g : Nat → Int32} (hf : rl f sa 24 8) (hg : ∀ t, t < 8 → g t = nI (byR (sa 5) t)) : allB (fun i => decide (g i ≤ f i)) 8 = buyS sa := by
  rw [allB_rl (rl_n (q := 5) (v := byZ (sa 5)) hf (by omega)), buyS, inSt_congr hg]
theorem buyA_t {sa g : Nat → Int32} {T : Tx} (h : buyS sa = true) (hg : ∀ t, t < 8 → g t = nI (byR (sa 5) t)) : goesA (upd sa 5 (byZ (sa 5))) T g (byR (sa 5)) (byK (sa 5)) = buyA sa T := by
  rw [buyA, if_pos h]; exact goesA_congr hg
theorem buyA_f {sa : Nat → Int32} {T : Tx} (h : ¬ buyS sa = true) : upd sa 5 (byZ (sa 5)) = buyA sa T := by rw [buyA, if_neg h]
