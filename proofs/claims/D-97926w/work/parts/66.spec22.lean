/-! X's TEXTS -/
theorem TXs_TT {E : fx_En} {PL : va_W} {tx : Nat → Option Nat} {a b : Tx} {k : Nat} (ha : TXs E PL (tx 0) a) (hb : TXs E PL (tx 1) b) (hk : k < 2) : TXs E PL (tx k) (TTx a b k) := by
  unfold TTx
  by_cases h : k = 0
  · subst h; exact ha
  · rw [if_neg h, show k = 1 by omega]; exact hb
/-- X's tape beside the reference's -/
def TPE (ft sa : Nat → Int32) : Prop := ∀ i, i < 60 → ft i = (sa (290 + i)).toInt8.toInt32
theorem i64_b (x : Int64) : (x &&& 255).toInt32.toInt8.toInt32 = x.toInt32.toInt8.toInt32 := by
  apply Int32.toBitVec_inj.1
  have e : (x &&& 255).toInt32.toInt8.toBitVec = x.toInt32.toInt8.toBitVec := by
    apply BitVec.eq_of_getLsbD_eq
    intro i hi
    simp only [Int32.toBitVec_toInt8, Int64.toBitVec_toInt32, Int64.toBitVec_and, BitVec.getLsbD_signExtend, BitVec.getLsbD_setWidth, BitVec.getLsbD_and]
    have h255 : (255 : Int64).toBitVec.getLsbD i = true := by
      rcases (show i = 0 ∨ i = 1 ∨ i = 2 ∨ i = 3 ∨ i = 4 ∨ i = 5 ∨ i = 6 ∨ i = 7 by omega) with h | h | h | h | h | h | h | h <;> subst h <;> decide
    have h32 : i < 32 := by omega
    have h64 : i < 64 := by omega
    have h256 : (255#64).getLsbD i = true := h255
    simp [hi, h256, h32, h64]
  rw [Int8.toBitVec_toInt32, Int8.toBitVec_toInt32, e]
theorem fdA_at {sa : Nat → Int32} {w : Int64} {j : Nat} (h : j < 290) (h3 : j ≠ 3) : ∀ k, fdA sa w k j = sa j
  | 0 => rfl
  | k + 1 => by rw [fdA, upd_n _ _ h3, upd_n _ _ (by omega)]; exact fdA_at h h3 k
theorem TPE_s {ft sa : Nat → Int32} {w : Int64} {k q : Nat} {v : Int32} (h : TPE ft (fdA sa w k)) (hq : q = nn (sa 3) + k) (hv : v = (byteF w k).toInt8.toInt32) : TPE (upd ft q v) (fdA sa w (k + 1)) := by
  intro i hi
  subst hq
  rw [fdA, upd_n (k := 3) (j := 290 + i) _ _ (by omega)]
  by_cases e : i = nn (sa 3) + k
  · subst e; rw [upd_s, upd_s, hv]
  · rw [upd_n _ _ e, upd_n _ _ (by omega)]; exact h i hi
theorem HN_t {sa : Nat → Int32} {w : Int64} {tk cs gs zz tp wg : Int32} (h : HN sa tk cs gs zz tp wg) (h3 : sa 3 = nI (nn (sa 3))) (k : Nat) : HN (fdA sa w k) tk cs gs zz (nI (nn (sa 3) + k)) wg := by
  obtain ⟨a, b, c, d, -, f⟩ := h
  exact ⟨a.trans (fdA_at (by omega) (by omega) k).symm, b.trans (fdA_at (by omega) (by omega) k).symm, c.trans (fdA_at (by omega) (by omega) k).symm, d.trans (fdA_at (by omega) (by omega) k).symm, (fdA_3 h3 k).symm, f.trans (fdA_at (by omega) (by omega) k).symm⟩
theorem rdX_ok {sa : Nat → Int32} {u : Nat} (h : BY sa) (ht : nn (sa 3) ≤ 60) (h1 : (rdX sa u).1 = true) (h2 : (rdX sa u).2.p = nn (sa 3)) : rdG sa u = true := by
  rw [rdX_M h ht] at h1 h2
  rw [rdG, h1, decide_eq_true h2]
  rfl
theorem rdX_no {sa : Nat → Int32} {u : Nat} (h : BY sa) (ht : nn (sa 3) ≤ 60) (h1 : ¬ ((rdX sa u).1 = true ∧ (rdX sa u).2.p = nn (sa 3))) : rdG sa u = false := by
  rw [rdX_M h ht] at h1
  rw [rdG]
  by_cases h2 : (rdF sa u).1 = true
  · rw [h2, decide_eq_false (fun q => h1 ⟨h2, q⟩)]; rfl
  · rw [Bool.eq_false_iff.2 h2]; rfl
theorem rdX_n {sa : Nat → Int32} {u : Nat} (h1 : (rdX sa u).1 = true) : 0 < (rdX sa u).2.n := by
  have hp := whl_pp (u := u) (d := 5) (lkXH (sa := sa)) Ps0 (Ps0_ok _) h1
  have h2 : dpT (rdX sa u).2.tc (rdX sa u).2.n = 0 + 1 := hp.2.2.2
  have h3 := dpT_le (rdX sa u).2.tc (rdX sa u).2.n
  omega
/-- the text that was read -/
abbrev PsT (R : Ps) : Tx := (R.n, R.tc, R.tx)
