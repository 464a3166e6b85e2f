/-! WHAT IS COMPUTED, in plain numbers. -/
theorem fx_bt {P : Prop} [Decidable P] (h : P) : 1 = fx_b P := by unfold fx_b; rw [if_pos h]
theorem fx_bf {P : Prop} [Decidable P] (h : ¬ P) : 0 = fx_b P := by unfold fx_b; rw [if_neg h]
/-- digits' sum of n to the base B -/
def dg (B n : Nat) : Nat := if h : n = 0 ∨ B < 2 then 0 else n % B + dg B (n / B)
termination_by n
decreasing_by exact Nat.div_lt_self (by omega) (by omega)
theorem dg_0 (B : Nat) : dg B 0 = 0 := by rw [dg]; simp
theorem dg_s {B n : Nat} (hn : 0 < n) (hB : 2 ≤ B) : dg B n = n % B + dg B (n / B) := by
  rw [dg, dif_neg (by omega)]
theorem dg_le {B : Nat} (hB : 2 ≤ B) : ∀ n, dg B n ≤ n := by
  intro n
  induction n using Nat.strongRecOn with
  | ind n ih =>
    rcases Nat.eq_zero_or_pos n with h | h
    · subst h; rw [dg_0]; exact Nat.le_refl _
    · rw [dg_s h hB]
      have h1 := ih (n / B) (Nat.div_lt_self h hB)
      have h2 := Nat.div_add_mod n B
      have h3 : n / B ≤ B * (n / B) := Nat.le_mul_of_pos_left _ (by omega)
      omega
theorem dg_small {B n : Nat} (hB : 2 ≤ B) (h : n < B) : dg B n = n := by
  rcases Nat.eq_zero_or_pos n with h0 | h0
  · subst h0; rw [dg_0]
  · rw [dg_s h0 hB, Nat.mod_eq_of_lt h, Nat.div_eq_of_lt h, dg_0]; rfl
theorem dg_lt {B n : Nat} (hB : 2 ≤ B) (h : B ≤ n) : dg B n < n := by
  rw [dg_s (by omega) hB]
  have h1 := dg_le hB (n / B)
  have h2 := Nat.div_add_mod n B
  have h4 : 0 < n / B := Nat.div_pos h (by omega)
  have h3 : 2 * (n / B) ≤ B * (n / B) := Nat.mul_le_mul_right _ hB
  omega
/-- digits' sums till it is one digit -/
def rt (B n : Nat) : Nat := if h : n < B ∨ B < 2 then n else rt B (dg B n)
termination_by n
decreasing_by exact dg_lt (by omega) (by omega)
theorem rt_lt {B n : Nat} (h : n < B) : rt B n = n := by rw [rt, dif_pos (Or.inl h)]
theorem rt_ge {B n : Nat} (hB : 2 ≤ B) (h : B ≤ n) : rt B n = rt B (dg B n) := by rw [rt, dif_neg (by omega)]
theorem rt_dg {B n : Nat} (hB : 2 ≤ B) : rt B (dg B n) = rt B n := by
  rcases Nat.lt_or_ge n B with h | h
  · rw [dg_small hB h]
  · exact (rt_ge hB h).symm
theorem rt_le {B : Nat} (hB : 2 ≤ B) : ∀ n, rt B n ≤ n := by
  intro n
  induction n using Nat.strongRecOn with
  | ind n ih =>
    rcases Nat.lt_or_ge n B with h | h
    · rw [rt_lt h]; exact Nat.le_refl _
    · rw [rt_ge hB h]
      have := ih _ (dg_lt hB h)
      have := dg_lt hB h
      omega
/-- an error's answer -/
def erv (k : Nat) : Int32 := (-1000000000) - nI k
def hld (v lo hi : Int32) : Int32 := if v < lo then lo else if hi < v then hi else v
/-- the first n of f, then g -/
def cpyN (n : Nat) (f g : Nat → Int32) : Nat → Int32 := fun i => if i < n then f i else g i
theorem cpyN_0 (f g : Nat → Int32) : g = cpyN 0 f g := by funext i; simp [cpyN]
theorem cpyN_s {n : Nat} {f g h : Nat → Int32} (e : h = cpyN n f g) : upd h n (f n) = cpyN (n + 1) f g := by
  subst e
  funext i
  simp only [upd, cpyN]
  by_cases h1 : i = n
  · subst h1; simp
  · by_cases h2 : i < n
    · rw [if_neg h1, if_pos h2, if_pos (by omega)]
    · rw [if_neg h1, if_neg h2, if_neg (by omega)]
theorem upd_s (f : Nat → Int32) (k : Nat) (x : Int32) : upd f k x k = x := by simp [upd]
theorem upd_n (f : Nat → Int32) {k j : Nat} (x : Int32) (h : j ≠ k) : upd f k x j = f j := by simp [upd, h]
/-- what two numbers give by a sign -/
def jn (c x y : Int32) : Int32 :=
  if c = 43 then x + y else if c = 45 then x - y else if c = 42 then x * y else if c = 47 then (if y = 0 then 0 else x / y) else if c = 37 then (if y = 0 then 0 else x - x / y * y)
  else if c = 60 then fx_b (x < y) else if c = 61 then fx_b (x = y) else if c = 62 then fx_b (y < x) else if c = 38 then fx_b (x ≠ 0 ∧ y ≠ 0) else fx_b (x ≠ 0 ∨ y ≠ 0)
theorem dm1 (x : Int32) : x / (-1) = -x := by
  apply Int32.toInt_inj.1
  have h := Int32.toInt_div x (-1)
  rw [show (-1 : Int32).toInt = -1 from by decide] at h
  rw [h, Int32.toInt_neg, Int.tdiv_neg, Int.tdiv_one]
theorem rm1 (x : Int32) : x - x / (-1) * (-1) = 0 := by
  rw [dm1]
  grind
theorem hld_in {v lo hi : Int32} (h : lo ≤ hi) : lo ≤ hld v lo hi ∧ hld v lo hi ≤ hi := by
  unfold hld
  split
  · exact ⟨Int32.le_refl _, h⟩
  · split
    · exact ⟨h, Int32.le_refl _⟩
    · exact ⟨Int32.not_lt.1 (by assumption), Int32.not_lt.1 (by assumption)⟩
def inB (v lo hi : Int32) : Bool := decide (lo ≤ v) && decide (v ≤ hi)
theorem inB_iff {v lo hi : Int32} : inB v lo hi = true ↔ lo ≤ v ∧ v ≤ hi := by simp [inB]
theorem inB_nat {v : Int32} {n : Nat} (h : inB v 0 (nI n) = true) (hn : n < 2147483647) : ∃ k, k < n + 1 ∧ v = nI k := by
  obtain ⟨h1, h2⟩ := inB_iff.1 h
  obtain ⟨j, hj, e⟩ := nI_of2 (x := v) (M := nI n) (n := n) (nI_toInt (by omega)) (Int32.not_lt.2 h1) h2
  exact ⟨j, by omega, e⟩
theorem nI_inB {k a b : Nat} (ha : a ≤ k) (hb : k ≤ b) (hb2 : b < 2147483648) : inB (nI k) (nI a) (nI b) = true :=
  inB_iff.2 ⟨nI_le ha (by omega), nI_le hb (by omega)⟩
theorem nn_nI {k : Nat} (h : k < 2147483648) : (nI k).toNatClampNeg = k := nI_clamp h
/-- texts: how many steps, each step's kind and number (1 a number, 2 a name, 3 not, else a sign) -/
abbrev Tx : Type := Nat × (Nat → Nat) × (Nat → Nat)
def sgn (c : Nat) : Prop := c = 37 ∨ c = 38 ∨ c = 42 ∨ c = 43 ∨ c = 45 ∨ c = 47 ∨ c = 60 ∨ c = 61 ∨ c = 62 ∨ c = 124
def dpT (tc : Nat → Nat) : Nat → Nat
  | 0 => 0
  | k + 1 => if tc k = 1 ∨ tc k = 2 then dpT tc k + 1 else if tc k = 3 then dpT tc k else dpT tc k - 1
theorem dpT_le (tc : Nat → Nat) : ∀ k, dpT tc k ≤ k
  | 0 => Nat.le_refl _
  | k + 1 => by
    have := dpT_le tc k
    unfold dpT
    split
    · omega
    · split <;> omega
def okS (tc tx : Nat → Nat) (k : Nat) : Prop := (tc k = 1 ∧ tx k < 10000) ∨ (tc k = 2 ∧ tx k < 3) ∨ (tc k = 3 ∧ 1 ≤ dpT tc k ∧ tx k = 0) ∨ (3 < tc k ∧ sgn (tc k) ∧ 2 ≤ dpT tc k ∧ tx k = 0)
def okT (T : Tx) : Prop := 1 ≤ T.1 ∧ T.1 ≤ 60 ∧ ∀ k, k < T.1 → okS T.2.1 T.2.2 k
def evS (T : Tx) (nm : Nat → Int32) : Nat → Nat → Int32
  | 0 => fun _ => 0
  | k + 1 => if T.2.1 k = 1 then upd (evS T nm k) (dpT T.2.1 k) (nI (T.2.2 k)) else if T.2.1 k = 2 then upd (evS T nm k) (dpT T.2.1 k) (nm (T.2.2 k))
    else if T.2.1 k = 3 then upd (evS T nm k) (dpT T.2.1 k - 1) (if evS T nm k (dpT T.2.1 k - 1) = 0 then 1 else 0)
    else upd (evS T nm k) (dpT T.2.1 k - 1 - 1) (jn (nI (T.2.1 k)) (evS T nm k (dpT T.2.1 k - 1 - 1)) (evS T nm k (dpT T.2.1 k - 1)))
def val (T : Tx) (nm : Nat → Int32) : Int32 := evS T nm T.1 0
def agr (T : Tx) (nm : Nat → Int32) (k n : Nat) (p : Nat → Int32) : Prop := n = dpT T.2.1 k ∧ ∀ i, i < n → p i = evS T nm k i
theorem agr_0 (T : Tx) (nm p : Nat → Int32) : agr T nm 0 0 p := ⟨rfl, fun i h => absurd h (Nat.not_lt_zero _)⟩
theorem agr_u {p q : Nat → Int32} {n m j : Nat} {x y : Int32} (h : ∀ i, i < n → p i = q i) (hm : ∀ i, i < m → i < n ∨ i = j) (hx : x = y) : ∀ i, i < m → upd p j x i = upd q j y i := by
  intro i hi
  simp only [upd]
  by_cases e : i = j
  · rw [if_pos e, if_pos e, hx]
  · rw [if_neg e, if_neg e]
    rcases hm i hi with a | a
    · exact h i a
    · exact absurd a e
theorem agr_1 {T : Tx} {nm p : Nat → Int32} {k n : Nat} (h : agr T nm k n p) (e : T.2.1 k = 1) : agr T nm (k + 1) (n + 1) (upd p n (nI (T.2.2 k))) := by
  obtain ⟨h1, h2⟩ := h
  refine ⟨by unfold dpT; rw [if_pos (Or.inl e), h1], ?_⟩
  unfold evS
  rw [if_pos e, ← h1]
  exact agr_u h2 (fun i hi => by omega) rfl
theorem agr_2 {T : Tx} {nm p : Nat → Int32} {k n : Nat} (h : agr T nm k n p) (e : T.2.1 k = 2) {v : Int32} (hv : v = nm (T.2.2 k)) : agr T nm (k + 1) (n + 1) (upd p n v) := by
  obtain ⟨h1, h2⟩ := h
  refine ⟨by unfold dpT; rw [if_pos (Or.inr e), h1], ?_⟩
  unfold evS
  rw [if_neg (by omega), if_pos e, ← h1]
  exact agr_u h2 (fun i hi => by omega) hv
theorem agr_3 {T : Tx} {nm p : Nat → Int32} {k n : Nat} (h : agr T nm k n p) (e : T.2.1 k = 3) (hn : 1 ≤ n) {v : Int32} (hv : v = if p (n - 1) = 0 then 1 else 0) : agr T nm (k + 1) n (upd p (n - 1) v) := by
  obtain ⟨h1, h2⟩ := h
  refine ⟨by unfold dpT; rw [if_neg (by omega), if_pos e, h1], ?_⟩
  unfold evS
  rw [if_neg (by omega), if_neg (by omega), if_pos e, ← h1]
  exact agr_u h2 (fun i hi => by omega) (by rw [hv, h2 _ (by omega)])
theorem agr_4 {T : Tx} {nm p : Nat → Int32} {k n : Nat} (h : agr T nm k n p) (e : 3 < T.2.1 k) (hn : 2 ≤ n) : agr T nm (k + 1) (n - 1) (upd p (n - 1 - 1) (jn (nI (T.2.1 k)) (p (n - 1 - 1)) (p (n - 1)))) := by
  obtain ⟨h1, h2⟩ := h
  refine ⟨by unfold dpT; rw [if_neg (by omega), if_neg (by omega), h1], ?_⟩
  unfold evS
  rw [if_neg (by omega), if_neg (by omega), if_neg (by omega), ← h1]
  exact agr_u h2 (fun i hi => by omega) (by rw [h2 _ (by omega), h2 _ (by omega)])
theorem dpT_pos {T : Tx} (h : okT T) : ∀ k, k < T.1 → 1 ≤ dpT T.2.1 (k + 1) := by
  intro k
  induction k with
  | zero =>
    intro hk
    unfold dpT
    rcases h.2.2 0 hk with e | e | e | e
    · rw [if_pos (Or.inl e.1)]; omega
    · rw [if_pos (Or.inr e.1)]; omega
    · exact absurd e.2.1 (by unfold dpT; omega)
    · exact absurd e.2.2.1 (by unfold dpT; omega)
  | succ k ih =>
    intro hk
    have := ih (by omega)
    rw [dpT]
    rcases h.2.2 (k + 1) hk with e | e | e | e
    · rw [if_pos (Or.inl e.1)]; omega
    · rw [if_pos (Or.inr e.1)]; omega
    · rw [if_neg (by omega), if_pos e.1]; omega
    · rw [if_neg (by omega), if_neg (by omega)]; have := e.2.2.1; omega
theorem agr_end {T : Tx} {nm p : Nat → Int32} {n : Nat} (h : agr T nm T.1 n p) (ok : okT T) : p 0 = val T nm := by
  have h1 := dpT_pos ok (T.1 - 1) (by have := ok.1; omega)
  rw [show T.1 - 1 + 1 = T.1 by have := ok.1; omega] at h1
  exact h.2 0 (by rw [h.1]; omega)
/-- the reference's row of a text -/
def nmC (u x : Nat) : Nat := if u = 0 then (if x = 0 then 115 else if x = 1 then 107 else 109) else (if x = 0 then 116 else if x = 1 then 112 else 99)
def mw (c : Nat) : Int32 := if c = 1 then 0 else if c = 2 then 1 else if c = 3 then 2 else 3
def mxv (u c x : Nat) : Int32 := if c = 1 then nI x else if c = 2 then nI (nmC u x) else if c = 3 then 0 else nI c
def TM (sa : Nat → Int32) (u : Nat) (T : Tx) : Prop := sa (40 + 125 * u) = nI T.1 ∧ ∀ k, k < T.1 → sa (40 + 125 * u + 1 + 2 * k) = mw (T.2.1 k) ∧ sa (40 + 125 * u + 2 + 2 * k) = mxv u (T.2.1 k) (T.2.2 k)
def TOk (T : Tx) : Prop := T.1 = 0 ∨ okT T
theorem TOk.le {T : Tx} (h : TOk T) : T.1 ≤ 60 := by rcases h with h | h; omega; exact h.2.1
theorem TOk.ok {T : Tx} (h : TOk T) (h0 : 0 < T.1) : okT T := by rcases h with h | h; omega; exact h
def nm3 (a b c : Int32) : Nat → Int32 := fun i => if i = 0 then a else if i = 1 then b else c
theorem nm3_of {f : Nat → Int32} {u : Nat} {a b c : Int32} (h0 : f (nmC u 0) = a) (h1 : f (nmC u 1) = b) (h2 : f (nmC u 2) = c) : ∀ i, i < 3 → f (nmC u i) = nm3 a b c i := by
  intro i hi
  rcases (show i = 0 ∨ i = 1 ∨ i = 2 by omega) with rfl | rfl | rfl
  · exact h0
  · exact h1
  · exact h2
/-- what a till asks -/
def payF (kd m : Nat) (T : Tx) (S q : Nat) : Int32 :=
  if kd = 1 then nI (S % 10) else if kd = 2 then nI (rt 10 S) else if kd = 3 then nI (dg 10 (S + m)) else if kd = 4 then nI (rt (m + 2) S) else if kd = 5 then (if S % 10 < m then nI m else nI (S % 10))
  else if kd = 6 then (if T.1 = 0 then nI (dg 10 S) else val T (nm3 (nI S) (nI q) (nI m))) else nI (dg 10 S)
def askF (kd m : Nat) (T : Tx) (S q : Nat) : Int32 := if q = 0 then 0 else hld (payF kd m T S q) 0 9999
def valF (T : Tx) (t : Nat) (p c : Int32) : Int32 := if T.1 = 0 then 0 else hld (val T (nm3 (nI t) p c)) 0 99
def sumN (f g : Nat → Nat) : Nat → Nat
  | 0 => 0
  | n + 1 => sumN f g n + f n * g n
def manyN (f : Nat → Nat) : Nat → Nat
  | 0 => 0
  | n + 1 => manyN f n + f n
theorem sumN_I {row pc : Nat → Int32} {rn pr : Nat → Nat} : ∀ n, (∀ t, t < n → row t = nI (rn t)) → (∀ t, t < n → pc t = nI (pr t)) → l_sum (fun i_ => row i_ * pc i_) n = nI (sumN rn pr n)
  | 0, _, _ => rfl
  | n + 1, h1, h2 => by
    have ih := sumN_I n (fun t ht => h1 t (by omega)) (fun t ht => h2 t (by omega))
    show l_sum (fun i_ => row i_ * pc i_) n + row n * pc n = nI (sumN rn pr n + rn n * pr n)
    rw [ih, h1 n (by omega), h2 n (by omega), pk_mul, nI_add]
theorem manyN_I {row : Nat → Int32} {rn : Nat → Nat} : ∀ n, (∀ t, t < n → row t = nI (rn t)) → l_sum row n = nI (manyN rn n)
  | 0, _ => rfl
  | n + 1, h1 => by
    have ih := manyN_I n (fun t ht => h1 t (by omega))
    show l_sum row n + row n = nI (manyN rn n + rn n)
    rw [ih, h1 n (by omega), nI_add]
theorem sumN_le {rn pr : Nat → Nat} {a b : Nat} : ∀ n, (∀ t, t < n → rn t ≤ a) → (∀ t, t < n → pr t ≤ b) → sumN rn pr n ≤ n * (a * b)
  | 0, _, _ => by simp [sumN]
  | n + 1, h1, h2 => by
    have ih := sumN_le n (fun t ht => h1 t (by omega)) (fun t ht => h2 t (by omega))
    have := Nat.mul_le_mul (h1 n (by omega)) (h2 n (by omega))
    show sumN rn pr n + rn n * pr n ≤ _
    rw [Nat.add_mul, Nat.one_mul]
    omega
theorem manyN_le {rn : Nat → Nat} {a : Nat} : ∀ n, (∀ t, t < n → rn t ≤ a) → manyN rn n ≤ n * a
  | 0, _ => by simp [manyN]
  | n + 1, h1 => by
    have ih := manyN_le n (fun t ht => h1 t (by omega))
    have := h1 n (by omega)
    show manyN rn n + rn n ≤ _
    rw [Nat.add_mul, Nat.one_mul]
    omega
theorem hld_lo {v : Int32} : 0 ≤ hld v 0 9999 ∧ hld v 0 9999 ≤ 9999 := hld_in (by decide)
theorem askF_nat (kd m : Nat) (T : Tx) (S q : Nat) : ∃ n, n ≤ 9999 ∧ askF kd m T S q = nI n := by
  unfold askF
  split
  · exact ⟨0, by omega, rfl⟩
  · obtain ⟨h1, h2⟩ := hld_lo (v := payF kd m T S q)
    obtain ⟨j, hj, e⟩ := nI_of2 (x := hld (payF kd m T S q) 0 9999) (M := 9999) (n := 9999) (by decide) (Int32.not_lt.2 h1) h2
    exact ⟨j, hj, e⟩
def erI (er : Nat → Int32) (k : Nat) : Nat → Int32 := upd er k (er k + 1)
theorem fx_dec {t : Nat} (h : 0 < t) : nI t + Int32.ofInt (-1) = nI (t - 1) := sb_m1 h
theorem nmC_lt (u x : Nat) : nmC u x < 128 := by unfold nmC; split <;> split <;> (try split) <;> omega
