/-! THE TEXTS' OPERATIONS -/
theorem isNm_0 {c : Int32} : isNm 0 c = (decide (c = 115) || (decide (c = 107) || decide (c = 109))) := rfl
theorem isNm_1 {u : Nat} {c : Int32} (h : ¬ u = 0) : isNm u c = (decide (c = 116) || (decide (c = 112) || decide (c = 99))) := by
  unfold isNm nmC
  rw [if_neg h, if_neg h, if_neg h]
  rfl
theorem dg_nat {c : Int32} (h : isDg c = true) : c = nI (nn c) ∧ 48 ≤ nn c ∧ nn c ≤ 57 := by
  have h1 := inB_nn1 (n := 57) h (by decide) (by omega)
  exact ⟨h1.1, inB_lo (a := 48) (n := 57) h (by omega) (by omega), h1.2⟩
theorem dg_nm1 {c : Int32} (h : isDg c = true) : ¬ c = -1 := fun e => absurd (inB_iff.1 h).1 (by rw [e]; decide)
theorem lkH {sa : Nat → Int32} : ∀ i, ¬ lkM sa i = -1 → i < nn (sa 3) := fun _ h => lkM_lt h
abbrev Ps0 : Ps := (0, 0, (fun _ => 0), (fun _ => 0))
theorem Ps0_ok (n : Nat) : Pok n Ps0 := ⟨Nat.le_refl _, Nat.zero_le _, fun k hk => absurd hk (Nat.not_lt_zero _)⟩
theorem Ps0_MP (u : Nat) (g : Nat → Int32) : MP u Ps0 g := fun k hk => absurd hk (Nat.not_lt_zero _)
def rdF (sa : Nat → Int32) (u : Nat) : Bool × Ps := whlF (lkM sa) (oneF (lkM sa) u 5) Ps0
def rdG (sa : Nat → Int32) (u : Nat) : Bool := (rdF sa u).1 && decide ((rdF sa u).2.p = nn (sa 3))
/-- a text's row -/
def cpT (g : Nat → Int32) (b n : Nat) (f : Nat → Int32) : Nat → Int32 := fun j => if b ≤ j ∧ j < b + n then g (j - b) else f j
theorem cpT_0 (g f : Nat → Int32) (b : Nat) : f = cpT g b 0 f := by funext j; simp only [cpT]; rw [if_neg (by omega)]
theorem cpT_s {g f h : Nat → Int32} {b n : Nat} (e : h = cpT g b n f) : upd h (b + n) (g n) = cpT g b (n + 1) f := by
  subst e
  funext j
  simp only [upd, cpT]
  by_cases h1 : j = b + n
  · subst h1; rw [if_pos rfl, if_pos (by omega), show b + n - b = n by omega]
  · rw [if_neg h1]
    by_cases h2 : b ≤ j ∧ j < b + n
    · rw [if_pos h2, if_pos (by omega)]
    · rw [if_neg h2, if_neg (by omega)]
def rwT (u : Nat) (R : Ps) : Nat → Int32 := fun k => if k % 2 = 0 then mw (R.tc (k / 2)) else mxv u (R.tc (k / 2)) (R.tx (k / 2))
def txA (sa : Nat → Int32) (u : Nat) (R : Ps) : Nat → Int32 := cpT (rwT u R) (40 + 125 * u + 1) (2 * R.n) (upd (upd sa 3 0) (40 + 125 * u) (nI R.n))
theorem cpT_congr {g h f : Nat → Int32} {b n : Nat} (e : ∀ k, k < n → g k = h k) : cpT g b n f = cpT h b n f := by
  funext j
  simp only [cpT]
  by_cases h2 : b ≤ j ∧ j < b + n
  · rw [if_pos h2, if_pos h2, e _ (by omega)]
  · rw [if_neg h2, if_neg h2]
theorem MP_row {u : Nat} {R : Ps} {g : Nat → Int32} (h : MP u R g) : ∀ k, k < 2 * R.n → g k = rwT u R k := by
  intro k hk
  unfold rwT
  by_cases e : k % 2 = 0
  · rw [if_pos e, ← (h (k / 2) (by omega)).1, show 2 * (k / 2) = k by omega]
  · rw [if_neg e, ← (h (k / 2) (by omega)).2, show 2 * (k / 2) + 1 = k by omega]
theorem txA_of {sa g h : Nat → Int32} {u : Nat} {R : Ps} (hg : MP u R g) (e : h = cpT g (40 + 125 * u + 1) (2 * R.n) (upd (upd sa 3 0) (40 + 125 * u) (nI R.n))) : h = txA sa u R := by
  rw [e, txA]; exact cpT_congr (MP_row hg)
def text_ (sa er : Nat → Int32) (u : Int32) : R3 := if inB u 0 1 then (if rdG sa (nn u) then (1, txA sa (nn u) (rdF sa (nn u)).2, er) else ((-10) - nI (rdF sa (nn u)).2.p, upd sa 3 0, er)) else (erv 1, sa, erI er 1)
def untell_ (sa er : Nat → Int32) (u : Int32) : R3 := if inB u 0 1 then (fx_b (sa (40 + 125 * nn u) ≠ 0), upd sa (40 + 125 * nn u) 0, er) else (erv 1, sa, erI er 1)
def byteF (w : Int64) (k : Nat) : Int32 := ((w >>> ((nI (8 * k)).toInt64 &&& 63)) &&& 255).toInt32
def fdA (sa : Nat → Int32) (w : Int64) : Nat → Nat → Int32
  | 0 => sa
  | k + 1 => upd (upd (fdA sa w k) (290 + (nn (sa 3) + k)) (byteF w k)) 3 (nI (nn (sa 3) + k + 1))
def feed_ (sa er : Nat → Int32) (w : Int64) (n : Int32) : R3 := if inB n 1 8 then (if 60 < nn (sa 3) + nn n then (erv 4, sa, erI er 4) else (nI (nn (sa 3) + nn n), fdA sa w (nn n), er)) else (erv 1, sa, erI er 1)
theorem fdA_3 {sa : Nat → Int32} {w : Int64} (h : sa 3 = nI (nn (sa 3))) : ∀ k, fdA sa w k 3 = nI (nn (sa 3) + k)
  | 0 => h
  | k + 1 => by rw [fdA, upd_s]; rfl
def TTx (a b : Tx) (k : Nat) : Tx := if k = 0 then a else b
theorem TM_TT {sa : Nat → Int32} {a b : Tx} {k : Nat} (ha : TM sa 0 a) (hb : TM sa 1 b) (hk : k < 2) : TM sa k (TTx a b k) := by
  unfold TTx
  by_cases h : k = 0
  · subst h; exact ha
  · rw [if_neg h, show k = 1 by omega]; exact hb
theorem TOk_TT {a b : Tx} {k : Nat} (ha : TOk a) (hb : TOk b) : TOk (TTx a b k) := by
  unfold TTx
  split
  · exact ha
  · exact hb
