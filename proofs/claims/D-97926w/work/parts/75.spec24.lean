/-! X's SHEETS: sheet, put, move -/
theorem le_nn {x : Int32} {N : Nat} (hN : N < 2147483648) (h : x ≤ nI N) (h0 : ¬ x < 0) : nn x ≤ N := by
  obtain ⟨j, hj, rfl⟩ := nI_of h0
  rw [nn, nn_nI hj]
  exact fx_le1 h (by omega) (by omega)
def ShN (E : fx_En) (bt sz nu : Nat → Int32) (sh sh2 : Nat → Option Nat) (nw2 : va_W) (R : R5) (k : Nat) : Prop :=
  (R.2.1 = bt ∧ R.2.2.1 = sz ∧ R.2.2.2.1 = nu ∧ sh2 = sh ∧ nw2 = []) ∨
  (k < 4 ∧ R.2.1 = upd bt k 0 ∧ R.2.2.1 = upd sz k 0 ∧ R.2.2.2.1 = clr nu k 24 ∧ sh2 = va_up sh k none ∧ nw2 = []) ∨
  (k < 4 ∧ ∃ (N q t : Nat) (b : Int32), N ≤ 24 ∧ (t = 1 ∧ b = 8 ∨ t = 2 ∧ b = 16 ∨ t = 0 ∧ b = 32) ∧ R.2.1 = upd bt k b ∧ R.2.2.1 = upd sz k (nI N) ∧ R.2.2.2.1 = clr nu k 24 ∧ sh2 = va_up sh k (some q) ∧ nw2 = [(q, .inl (E.2 t, N, .inl (fun _ => 0)))])
section SHV
variable {bt sz nu er : Nat → Int32} {sheet its n : Int32}
theorem sheet_r (h : ¬ (inB sheet 0 3 && isB its) = true) : sheet_ bt sz nu er sheet its n = (erv 1, bt, sz, nu, erI er 1) := by rw [sheet_, if_neg h]
theorem sheet_g (h1 : inB sheet 0 3 = true) (h2 : isB its = true) (h0 : its ≠ 0) (hn : n < 0) : sheet_ bt sz nu er sheet its n = (erv 3, bt, sz, nu, erI er 3) := by rw [sheet_, if_pos (by simp [h1, h2]), if_pos ⟨h0, hn⟩]
theorem sheet_b (h1 : inB sheet 0 3 = true) (h2 : isB its = true) (h0 : its ≠ 0) (hb : ¬ n ≤ 24) : sheet_ bt sz nu er sheet its n = (erv 1, bt, sz, nu, erI er 1) := by
  have h3 : 24 < n := Int32.not_le.1 hb
  rw [sheet_, if_pos (by simp [h1, h2]), if_neg (fun q => absurd (Int32.lt_trans h3 q.2) (by decide)), if_pos ⟨h0, h3⟩]
theorem sheet_z (h1 : inB sheet 0 3 = true) : sheet_ bt sz nu er sheet 0 n = (1, upd bt (nn sheet) 0, upd sz (nn sheet) 0, clr nu (nn sheet) 24, er) := by
  rw [sheet_, if_pos (by rw [h1]; decide), if_neg (fun q => q.1 rfl), if_neg (fun q => q.1 rfl), if_pos rfl]
theorem sheet_s (h1 : inB sheet 0 3 = true) (h2 : isB its = true) (h0 : its ≠ 0) (hn : ¬ n < 0) (hb : n ≤ 24) : sheet_ bt sz nu er sheet its n = (1, upd bt (nn sheet) its, upd sz (nn sheet) n, clr nu (nn sheet) 24, er) := by
  rw [sheet_, if_pos (by simp [h1, h2]), if_neg (fun q => hn q.2), if_neg (fun q => Int32.not_lt.2 hb q.2), if_neg h0]
end SHV
theorem put_N {bt sz nu er : Nat → Int32} {sheet i v : Int32} (h : ¬ inB sheet 0 3 = true) : put_ bt sz nu er sheet i v = (erv 1, nu, erI er 1) := by rw [put_, if_neg h]
theorem put_0 {bt sz nu er : Nat → Int32} {sheet i v : Int32} (h : inB sheet 0 3 = true) (h0 : bt (nn sheet) = 0) : put_ bt sz nu er sheet i v = (erv 2, nu, erI er 2) := by rw [put_, if_pos h, if_pos h0]
theorem put_b {bt sz nu er : Nat → Int32} {sheet i v : Int32} (h : inB sheet 0 3 = true) (h0 : ¬ bt (nn sheet) = 0) (hi : ¬ inB i 0 (sz (nn sheet) - 1) = true) : put_ bt sz nu er sheet i v = (erv 1, nu, erI er 1) := by rw [put_, if_pos h, if_neg h0, if_neg hi]
theorem put_s {bt sz nu er : Nat → Int32} {sheet i v : Int32} (h : inB sheet 0 3 = true) (h0 : ¬ bt (nn sheet) = 0) (hi : inB i 0 (sz (nn sheet) - 1) = true) : put_ bt sz nu er sheet i v = (1, upd nu (24 * nn sheet + nn i) (pvF (bt (nn sheet)) v), er) := by rw [put_, if_pos h, if_neg h0, if_pos hi]
/-- a row that is alike stays alike, written at one place -/
theorem row_u {rf nu : Nat → Int32} {b n i : Nat} {v : Int32} (h : ∀ j, j < n → rf j = nu (b + j)) : ∀ j, j < n → upd rf i v j = upd nu (b + i) v (b + j) := by
  intro j hj
  by_cases e : j = i
  · subst e; simp [upd]
  · rw [upd_n _ _ e, upd_n _ _ (by omega)]; exact h j hj
theorem cpy_0 {α : Type} (f g : Nat → α) (a b : Nat) : va_cpy f g a b 0 = g := by
  funext k
  simp only [va_cpy]
  rw [if_neg (by omega)]
/-- the first sheet's size, less the place, bounds the count: said the other way round -/
theorem mv_sw {n i : Int32} {N : Nat} (h24 : N ≤ 24) (hn : ¬ n < 0) (hi : ¬ i < 0) : nI N - i < n ↔ nI N - n < i := by
  obtain ⟨a, ha, rfl⟩ := nI_of hn
  obtain ⟨b, hb, rfl⟩ := nI_of hi
  rw [Int32.lt_iff_toInt_lt, Int32.lt_iff_toInt_lt, Int32.toInt_sub, Int32.toInt_sub, nI_toInt ha, nI_toInt hb, nI_toInt (by omega), Int.bmod_eq_of_le (by omega) (by omega), Int.bmod_eq_of_le (by omega) (by omega)]
  omega
section MVV
variable {bt sz nu er : Nat → Int32} {sheet i other j n : Int32}
theorem move_N (h : ¬ (inB sheet 0 3 && inB other 0 3) = true) : move_ bt sz nu er sheet i other j n = (erv 1, nu, erI er 1) := by rw [move_, if_neg h]
theorem move_0 (h1 : inB sheet 0 3 = true) (h2 : inB other 0 3 = true) (h0 : bt (nn sheet) = 0 ∨ bt (nn other) = 0) : move_ bt sz nu er sheet i other j n = (erv 2, nu, erI er 2) := by rw [move_, if_pos (by simp [h1, h2]), if_pos h0]
theorem move_k (h1 : inB sheet 0 3 = true) (h2 : inB other 0 3 = true) (h0 : ¬ (bt (nn sheet) = 0 ∨ bt (nn other) = 0)) (hk : ¬ bt (nn sheet) = bt (nn other)) : move_ bt sz nu er sheet i other j n = (erv 5, nu, erI er 5) := by rw [move_, if_pos (by simp [h1, h2]), if_neg h0, if_pos hk]
theorem move_b (h1 : inB sheet 0 3 = true) (h2 : inB other 0 3 = true) (h0 : ¬ (bt (nn sheet) = 0 ∨ bt (nn other) = 0)) (hk : bt (nn sheet) = bt (nn other)) (hb : mvBad sz (nn sheet) (nn other) i j n = true) : move_ bt sz nu er sheet i other j n = (erv 1, nu, erI er 1) := by rw [move_, if_pos (by simp [h1, h2]), if_neg h0, if_neg (not_not_intro hk), if_pos hb]
theorem move_s (h1 : inB sheet 0 3 = true) (h2 : inB other 0 3 = true) (h0 : ¬ (bt (nn sheet) = 0 ∨ bt (nn other) = 0)) (hk : bt (nn sheet) = bt (nn other)) (hb : ¬ mvBad sz (nn sheet) (nn other) i j n = true) : move_ bt sz nu er sheet i other j n = (n, mvN nu (24 * nn other + nn j) (24 * nn sheet + nn i) (nn n), er) := by rw [move_, if_pos (by simp [h1, h2]), if_neg h0, if_neg (not_not_intro hk), if_neg hb]
theorem mvB1 {k o : Nat} (h : n < 0) : mvBad sz k o i j n = true := by simp [mvBad, h]
theorem mvB2 {k o : Nat} (h : i < 0) : mvBad sz k o i j n = true := by simp [mvBad, h]
theorem mvB3 {k o : Nat} (h : j < 0) : mvBad sz k o i j n = true := by simp [mvBad, h]
theorem mvB4 {k o N : Nat} (hs : sz k = nI N) (h24 : N ≤ 24) (hn : ¬ n < 0) (hi : ¬ i < 0) (h : nI N - i < n) : mvBad sz k o i j n = true := by
  have h2 := (mv_sw h24 hn hi).1 h
  rw [← hs] at h2
  simp [mvBad, h2]
theorem mvB5 {k o N : Nat} (hs : sz o = nI N) (h24 : N ≤ 24) (hn : ¬ n < 0) (hj : ¬ j < 0) (h : nI N - j < n) : mvBad sz k o i j n = true := by
  have h2 := (mv_sw h24 hn hj).1 h
  rw [← hs] at h2
  simp [mvBad, h2]
theorem mvB0 {k o N O : Nat} (hs : sz k = nI N) (h24 : N ≤ 24) (ho : sz o = nI O) (o24 : O ≤ 24) (hn : ¬ n < 0) (hi : ¬ i < 0) (hj : ¬ j < 0) (h1 : n ≤ nI N - i) (h2 : n ≤ nI O - j) : ¬ mvBad sz k o i j n = true ∧ nn i + nn n ≤ N ∧ nn j + nn n ≤ O := by
  have a1 : ¬ nI N - n < i := fun q => Int32.not_lt.2 h1 ((mv_sw h24 hn hi).2 q)
  have a2 : ¬ nI O - n < j := fun q => Int32.not_lt.2 h2 ((mv_sw o24 hn hj).2 q)
  refine ⟨?_, mv_le rfl h24 hn hi (Int32.not_lt.1 a1), mv_le rfl o24 hn hj (Int32.not_lt.1 a2)⟩
  rw [← hs] at a1
  rw [← ho] at a2
  simp only [mvBad, Bool.or_eq_true, decide_eq_true_eq, not_or]
  exact ⟨hn, hi, hj, a1, a2⟩
end MVV
/-- a row copied in part from another row -/
theorem row_c {f g nu : Nat → Int32} {b c N O x y z : Nat} (hf : ∀ j, j < N → f j = nu (c + j)) (hg : ∀ j, j < O → g j = nu (b + j)) (h1 : x + z ≤ N) (h2 : y + z ≤ O) : ∀ j, j < O → va_cpy f g x y z j = mvN nu (b + y) (c + x) z (b + j) := by
  intro j hj
  simp only [va_cpy, mvN]
  by_cases e : y ≤ j ∧ j < y + z
  · rw [if_pos e, if_pos (by omega), hf _ (by omega)]
    congr 1
    omega
  · rw [if_neg e, if_neg (by omega)]; exact hg j hj
