/-! THE OPERATIONS, in plain numbers, over the reference's rows: sa (all that an image keeps), er (errors), bt, sz, nu (sheets), texts T0, T1 -/
abbrev nn (x : Int32) : Nat := x.toNatClampNeg
def allB (f : Nat → Bool) : Nat → Bool
  | 0 => true
  | n + 1 => allB f n && f n
theorem allB_iff {f : Nat → Bool} : ∀ {n : Nat}, allB f n = true ↔ ∀ t, t < n → f t = true
  | 0 => by simp [allB]
  | n + 1 => by
    simp only [allB, Bool.and_eq_true, allB_iff (n := n)]
    constructor
    · rintro ⟨h1, h2⟩ t ht
      rcases Nat.lt_or_ge t n with h | h
      · exact h1 t h
      · rw [show t = n by omega]; exact h2
    · exact fun h => ⟨fun t ht => h t (by omega), h n (by omega)⟩
theorem allB_congr {f g : Nat → Bool} : ∀ {n : Nat}, (∀ t, t < n → f t = g t) → allB f n = allB g n
  | 0, _ => rfl
  | n + 1, h => by
    show (allB f n && f n) = (allB g n && g n)
    rw [allB_congr (fun t ht => h t (by omega)), h n (by omega)]
theorem inB_nn {v : Int32} {n : Nat} (h : inB v 0 (nI n) = true) (hn : n < 2147483647) : v = nI (nn v) ∧ nn v ≤ n := by
  obtain ⟨k, hk, rfl⟩ := inB_nat h hn
  rw [nn, nn_nI (by omega)]
  exact ⟨rfl, by omega⟩
/-- what always holds of sa -/
def Inv (sa : Nat → Int32) : Prop := (∀ t, t < 8 → inB (sa (8 + t)) 1 9999 = true) ∧ (∀ t, t < 8 → inB (sa (16 + t)) 0 9999 = true) ∧ (∀ k, k < 4 → inB (sa (32 + 2 * k)) 0 6 = true ∧ inB (sa (32 + 2 * k + 1)) 0 9 = true) ∧ (inB (sa 0) 0 9999 = true ∧ inB (sa 1) 0 99999999 = true ∧ inB (sa 2) 0 99999999 = true) ∧ (inB (sa 3) 0 60 = true ∧ inB (sa 4) 0 24 = true)
theorem Inv.pr {sa : Nat → Int32} (h : Inv sa) : ∀ t, t < 8 → sa (8 + t) = nI (nn (sa (8 + t))) ∧ nn (sa (8 + t)) ≤ 9999 := fun t ht => by
  have h1 := inB_iff.1 (h.1 t ht)
  exact inB_nn (n := 9999) (inB_iff.2 ⟨Int32.le_trans (by decide) h1.1, h1.2⟩) (by omega)
theorem Inv.co {sa : Nat → Int32} (h : Inv sa) : ∀ t, t < 8 → sa (16 + t) = nI (nn (sa (16 + t))) ∧ nn (sa (16 + t)) ≤ 9999 := fun t ht => inB_nn (n := 9999) (h.2.1 t ht) (by omega)
theorem Inv.kd {sa : Nat → Int32} (h : Inv sa) {k : Nat} (hk : k < 4) : sa (32 + 2 * k) = nI (nn (sa (32 + 2 * k))) ∧ nn (sa (32 + 2 * k)) ≤ 6 := inB_nn (n := 6) (h.2.2.1 k hk).1 (by omega)
theorem Inv.m {sa : Nat → Int32} (h : Inv sa) {k : Nat} (hk : k < 4) : sa (32 + 2 * k + 1) = nI (nn (sa (32 + 2 * k + 1))) ∧ nn (sa (32 + 2 * k + 1)) ≤ 9 := inB_nn (n := 9) (h.2.2.1 k hk).2 (by omega)
theorem Inv.taped {sa : Nat → Int32} (h : Inv sa) : sa 3 = nI (nn (sa 3)) ∧ nn (sa 3) ≤ 60 := inB_nn (n := 60) h.2.2.2.2.1 (by omega)
theorem Inv.waits {sa : Nat → Int32} (h : Inv sa) : sa 4 = nI (nn (sa 4)) ∧ nn (sa 4) ≤ 24 := inB_nn (n := 24) h.2.2.2.2.2 (by omega)
def InvS (bt sz : Nat → Int32) : Prop := ∀ k, k < 4 → (bt k = 0 ∨ bt k = 8 ∨ bt k = 16 ∨ bt k = 32) ∧ inB (sz k) 0 24 = true
theorem InvS.sz {bt sz : Nat → Int32} (h : InvS bt sz) {k : Nat} (hk : k < 4) : sz k = nI (nn (sz k)) ∧ nn (sz k) ≤ 24 := inB_nn (n := 24) (h k hk).2 (by omega)
/-- a sheet's first numbers -/
def shG (sz nu : Nat → Int32) (k : Nat) : Nat → Int32 := fun t => if t < nn (sz k) then nu (24 * k + t) else 0
def rnG (sz nu : Nat → Int32) (k : Nat) : Nat → Nat := fun t => nn (shG sz nu k t)
def tellC (bt sz nu : Nat → Int32) (k mo : Nat) : Nat := if bt k = 0 then 2 else if allB (fun t => inB (shG sz nu k t) 0 9) 8 = false then 1 else if mo < manyN (rnG sz nu k) 8 then 4 else 0
def lackF (bt sz nu : Nat → Int32) (sheet till : Int32) (o : Bool) (mo : Nat) : Nat := if inB sheet 0 3 && (inB till 0 3 && o) then tellC bt sz nu (nn sheet) mo else 1
theorem tellC_le {bt sz nu : Nat → Int32} {k mo : Nat} : tellC bt sz nu k mo ≤ 4 := by unfold tellC; split <;> (try split) <;> (try split) <;> omega
theorem lackF_le {bt sz nu : Nat → Int32} {a b : Int32} {o : Bool} {mo : Nat} : lackF bt sz nu a b o mo ≤ 4 := by unfold lackF; split; exact tellC_le; omega
theorem tellC_0 {bt sz nu : Nat → Int32} {k mo : Nat} (h : tellC bt sz nu k mo = 0) : bt k ≠ 0 ∧ (∀ t, t < 8 → shG sz nu k t = nI (rnG sz nu k t) ∧ rnG sz nu k t ≤ 9) ∧ manyN (rnG sz nu k) 8 ≤ mo := by
  unfold tellC at h
  split at h
  · omega
  · split at h
    · omega
    · split at h
      · omega
      · rename_i h1 h2 h3
        refine ⟨h1, fun t ht => ?_, by omega⟩
        have h4 : allB (fun t => inB (shG sz nu k t) 0 9) 8 = true := by
          cases hh : allB (fun t => inB (shG sz nu k t) 0 9) 8
          · exact absurd hh h2
          · rfl
        exact inB_nn (n := 9) (allB_iff.1 h4 t ht) (by omega)
theorem lackF_0 {bt sz nu : Nat → Int32} {a b : Int32} {o : Bool} {mo : Nat} (h : lackF bt sz nu a b o mo = 0) : (inB a 0 3 = true ∧ inB b 0 3 = true ∧ o = true) ∧ tellC bt sz nu (nn a) mo = 0 := by
  unfold lackF at h
  split at h
  · rename_i h1
    simp only [Bool.and_eq_true] at h1
    exact ⟨h1, h⟩
  · omega
def paysF (sa : Nat → Int32) (T : Tx) (rn : Nat → Nat) (k : Nat) : Int32 := askF (nn (sa (32 + 2 * k))) (nn (sa (32 + 2 * k + 1))) T (sumN rn (fun t => nn (sa (8 + t))) 8) (manyN rn 8)
/-- an error's answer, and the count -/
def eR (c : Nat) (r : Int32) : Int32 := if c = 0 then r else erv c
def eE (c : Nat) (er : Nat → Int32) : Nat → Int32 := if c = 0 then er else erI er c
def basketC (bt sz nu : Nat → Int32) (sheet what : Int32) : Nat := lackF bt sz nu sheet 0 (inB what 0 2) 30
def basketR (sa bt sz nu : Nat → Int32) (sheet what : Int32) : Int32 :=
  if what = 0 then nI (manyN (rnG sz nu (nn sheet)) 8) else if what = 1 then nI (sumN (rnG sz nu (nn sheet)) (fun t => nn (sa (8 + t))) 8) else nI (sumN (rnG sz nu (nn sheet)) (fun t => nn (sa (16 + t))) 8)
def inSt (sa g : Nat → Int32) : Bool := allB (fun t => decide (g t ≤ sa (24 + t))) 8
def subN (n : Nat) (b g : Nat → Int32) : Nat → Int32 := fun j => if 24 ≤ j ∧ j < 24 + n then b j - g (j - 24) else b j
theorem subN_0 (b g : Nat → Int32) : b = subN 0 b g := by funext j; simp only [subN]; rw [if_neg (by omega)]
theorem subN_s {n : Nat} {b g h : Nat → Int32} (e : h = subN n b g) : upd h (24 + n) (h (24 + n) - g n) = subN (n + 1) b g := by
  subst e
  funext j
  simp only [upd, subN]
  by_cases h1 : j = 24 + n
  · subst h1
    rw [if_pos rfl, if_neg (by omega), if_pos (by omega), show 24 + n - 24 = n by omega]
  · rw [if_neg h1]
    by_cases h2 : 24 ≤ j ∧ j < 24 + n
    · rw [if_pos h2, if_pos (by omega)]
    · rw [if_neg h2, if_neg (by omega)]
def gB (sa : Nat → Int32) (P C : Int32) : Nat → Int32 := upd (upd (upd sa 1 (hld (sa 1 + P) 0 99999999)) 2 (hld (sa 2 + C) 0 99999999)) 0 (hld (sa 0 + 1) 0 9999)
/-- a go: what is paid, what things cost; the row taken from the stock -/
def goesA (sa : Nat → Int32) (T : Tx) (g : Nat → Int32) (rn : Nat → Nat) (k : Nat) : Nat → Int32 := subN 8 (gB sa (paysF sa T rn k) (nI (sumN rn (fun t => nn (sa (16 + t))) 8))) g
def goC (sa bt sz nu : Nat → Int32) (sheet till : Int32) : Nat := if lackF bt sz nu sheet till true 30 = 0 then (if inSt sa (shG sz nu (nn sheet)) then 0 else 3) else lackF bt sz nu sheet till true 30
def zN (z : Int32) : Int32 := z * 1103515245 + 12345
def zD (z : Int32) : Int32 := (z.toUInt32 >>> ((8 : Int32).toUInt32 &&& Int32.toUInt32 31)).toInt32
theorem zD_nat (z : Int32) : ∃ n, n < 16777216 ∧ zD z = nI n := by
  refine ⟨z.toBitVec.toNat / 2 ^ 8, ?_, ?_⟩
  · have := z.toBitVec.isLt; omega
  · have h := pk_ushr z 8 8 (by decide)
    have h2 : z.toBitVec.toNat / 2 ^ 8 < 2 ^ 32 := by have := z.toBitVec.isLt; omega
    apply Int32.toBitVec_inj.1
    apply BitVec.eq_of_toNat_eq
    rw [pk_tn h2]
    exact h
def zT (z : Int32) : Nat := nn (zD z)
theorem zT_I (z : Int32) : zD z = nI (zT z) ∧ zT z < 16777216 := by
  obtain ⟨n, h1, h2⟩ := zD_nat z
  rw [zT, h2, nn, nn_nI (by omega)]
  exact ⟨rfl, h1⟩
/-- a buyer: who comes, what it takes, where it pays -/
def byT (z : Int32) : Nat := zT (zN z) % 8
def byN (z : Int32) : Nat := zT (zN (zN z)) % 4 + 1
def byK (z : Int32) : Nat := zT (zN (zN (zN z))) % 4
def byZ (z : Int32) : Int32 := zN (zN (zN z))
def byR (z : Int32) : Nat → Nat := fun t => if t = byT z then byN z else 0
def buyS (sa : Nat → Int32) : Bool := inSt (upd sa 5 (byZ (sa 5))) (fun t => nI (byR (sa 5) t))
def buyA (sa : Nat → Int32) (T : Tx) : Nat → Int32 := if buyS sa then goesA (upd sa 5 (byZ (sa 5))) T (fun t => nI (byR (sa 5) t)) (byR (sa 5)) (byK (sa 5)) else upd sa 5 (byZ (sa 5))
def drawN (T : Tx) : Nat → (Nat → Int32) → (Nat → Int32) × Nat
  | 0, sa => (sa, 0)
  | n + 1, sa => (buyA (drawN T n sa).1 T, (drawN T n sa).2 + if buyS (drawN T n sa).1 then 1 else 0)
def isU (own kind : Int32) : Bool := decide (kind = 0) || (decide (own = kind) || ((decide (kind = 2) && decide (own = 4)) || (decide (kind = 1) && decide (own = 5))))
theorem nar_b {P : Prop} [Decidable P] : narrow .boolean (.int (fx_b P)) = .int (fx_b P) := by unfold fx_b; split <;> rfl
theorem ext_s {g f : Nat → Int32} {t : Nat} {v : Int32} (h : ∀ i, i < t → g i = f i) (hv : v = f t) : ∀ i, i < t + 1 → upd g t v i = f i := by
  intro i hi
  simp only [upd]
  by_cases e : i = t
  · rw [if_pos e, e, hv]
  · rw [if_neg e]; exact h i (by omega)
theorem stk_t {f : Nat → Bool} {t : Nat} {b : Int32} (hb : b = fx_b (allB f t = true)) (h1 : ¬ b = 0) (h2 : f t = true) : 1 = fx_b (allB f (t + 1) = true) := by
  apply fx_bt
  rcases fx_bc hb with ⟨h, -⟩ | ⟨-, h⟩
  · simp [allB, h, h2]
  · exact absurd h h1
theorem stk_f1 {f : Nat → Bool} {t : Nat} {b : Int32} (hb : b = fx_b (allB f t = true)) (h1 : b = 0) : 0 = fx_b (allB f (t + 1) = true) := by
  apply fx_bf
  rcases fx_bc hb with ⟨-, h⟩ | ⟨h, -⟩
  · rw [h] at h1; exact absurd h1 (by decide)
  · simp [allB, h]
theorem stk_f2 {f : Nat → Bool} {t : Nat} (h : ¬ f t = true) : 0 = fx_b (allB f (t + 1) = true) := by
  apply fx_bf
  simp [allB, h]
theorem tellC_2 {bt sz nu : Nat → Int32} {k mo : Nat} (h : bt k = 0) : tellC bt sz nu k mo = 2 := by simp [tellC, h]
theorem tellC_1 {bt sz nu : Nat → Int32} {k mo t : Nat} (h0 : ¬ bt k = 0) (ht : t < 8) (h : ¬ inB (shG sz nu k t) 0 9 = true) : tellC bt sz nu k mo = 1 := by
  unfold tellC
  rw [if_neg h0, if_pos]
  cases hh : allB (fun t => inB (shG sz nu k t) 0 9) 8
  · rfl
  · exact absurd (allB_iff.1 hh t ht) h
theorem tellC_all {bt sz nu : Nat → Int32} {k mo : Nat} (h0 : ¬ bt k = 0) (h : ∀ t, t < 8 → inB (shG sz nu k t) 0 9 = true) : tellC bt sz nu k mo = if mo < manyN (rnG sz nu k) 8 then 4 else 0 := by
  unfold tellC
  rw [if_neg h0, if_neg]
  rw [allB_iff.2 h]
  decide
theorem rn_of {sz nu g : Nat → Int32} {k : Nat} (hg : ∀ i, i < 8 → g i = shG sz nu k i) (h : ∀ t, t < 8 → inB (shG sz nu k t) 0 9 = true) : ∀ t, t < 8 → g t = nI (rnG sz nu k t) ∧ rnG sz nu k t ≤ 9 := fun t ht => by
  have := inB_nn (n := 9) (h t ht) (by omega)
  exact ⟨(hg t ht).trans this.1, this.2⟩
theorem inSt_congr {sa g f : Nat → Int32} (h : ∀ t, t < 8 → g t = f t) : inSt sa g = inSt sa f := allB_congr fun t ht => by rw [h t ht]
theorem goesA_congr {sa g f : Nat → Int32} {T : Tx} {rn : Nat → Nat} {k : Nat} (h : ∀ t, t < 8 → g t = f t) : goesA sa T g rn k = goesA sa T f rn k := by
  funext j
  simp only [goesA, subN]
  by_cases hj : 24 ≤ j ∧ j < 24 + 8
  · rw [if_pos hj, if_pos hj, h _ (by omega)]
  · rw [if_neg hj, if_neg hj]
theorem gB_at {sa : Nat → Int32} {P C : Int32} {j : Nat} (h : 3 ≤ j) : gB sa P C j = sa j := by
  simp only [gB]
  rw [upd_n _ _ (by omega), upd_n _ _ (by omega), upd_n _ _ (by omega)]
theorem goesA_at {sa g : Nat → Int32} {T : Tx} {rn : Nat → Nat} {k j : Nat} (h : 3 ≤ j) (h2 : j < 24 ∨ 32 ≤ j) : goesA sa T g rn k j = sa j := by
  simp only [goesA, subN]
  rw [if_neg (by omega), gB_at h]
theorem TM_frame {sa sb : Nat → Int32} {u : Nat} {T : Tx} (h : ∀ j, 40 ≤ j → j < 290 → sb j = sa j) (hu : u < 2) (ho : TOk T) (hT : TM sa u T) : TM sb u T := by
  have := ho.le
  refine ⟨(h _ (by omega) (by omega)).trans hT.1, fun k hk => ⟨(h _ (by omega) (by omega)).trans (hT.2 k hk).1, (h _ (by omega) (by omega)).trans (hT.2 k hk).2⟩⟩
theorem hld_B {v : Int32} : inB (hld v 0 99999999) 0 99999999 = true := inB_iff.2 (hld_in (by decide))
theorem hld_B4 {v : Int32} : inB (hld v 0 9999) 0 9999 = true := inB_iff.2 (hld_in (by decide))
theorem Inv_goes {sa g : Nat → Int32} {T : Tx} {rn : Nat → Nat} {k : Nat} (h : Inv sa) : Inv (goesA sa T g rn k) := by
  obtain ⟨h1, h2, h3, ⟨h4, h5, h6⟩, h7, h8⟩ := h
  refine ⟨fun t ht => ?_, fun t ht => ?_, fun t ht => ⟨?_, ?_⟩, ⟨?_, ?_, ?_⟩, ?_, ?_⟩
  · rw [goesA_at (by omega) (by omega)]; exact h1 t ht
  · rw [goesA_at (by omega) (by omega)]; exact h2 t ht
  · rw [goesA_at (by omega) (by omega)]; exact (h3 t ht).1
  · rw [goesA_at (by omega) (by omega)]; exact (h3 t ht).2
  · show inB (goesA sa T g rn k 0) 0 9999 = true
    simp only [goesA, subN]
    rw [if_neg (by omega), gB, upd_s]; exact hld_B4
  · show inB (goesA sa T g rn k 1) 0 99999999 = true
    simp only [goesA, subN]
    rw [if_neg (by omega), gB, upd_n _ _ (by omega), upd_n _ _ (by omega), upd_s]; exact hld_B
  · show inB (goesA sa T g rn k 2) 0 99999999 = true
    simp only [goesA, subN]
    rw [if_neg (by omega), gB, upd_n _ _ (by omega), upd_s]; exact hld_B
  · rw [goesA_at (by omega) (by omega)]; exact h7
  · rw [goesA_at (by omega) (by omega)]; exact h8
theorem TM_goes {sa g : Nat → Int32} {T : Tx} {rn : Nat → Nat} {k u : Nat} {T' : Tx} (hu : u < 2) (ho : TOk T') (h : TM sa u T') : TM (goesA sa T g rn k) u T' := TM_frame (fun j h1 h2 => goesA_at (by omega) (by omega)) hu ho h
/-- a change of one place -/
theorem Inv_upd {sa : Nat → Int32} {j : Nat} {v : Int32} (h : Inv sa) (h1 : 8 ≤ j → j < 16 → inB v 1 9999 = true) (h2 : 16 ≤ j → j < 24 → inB v 0 9999 = true) (h3 : j < 40 → 32 ≤ j → (j % 2 = 0 → inB v 0 6 = true) ∧ (j % 2 = 1 → inB v 0 9 = true)) (h4 : 5 ≤ j ∨ (j = 3 ∧ inB v 0 60 = true) ∨ (j = 4 ∧ inB v 0 24 = true)) : Inv (upd sa j v) := by
  obtain ⟨i1, i2, i3, ⟨i4, i5, i6⟩, i7, i8⟩ := h
  refine ⟨fun t ht => ?_, fun t ht => ?_, fun t ht => ⟨?_, ?_⟩, ⟨?_, ?_, ?_⟩, ?_, ?_⟩
  · by_cases e : 8 + t = j
    · rw [e, upd_s]; exact h1 (by omega) (by omega)
    · rw [upd_n _ _ e]; exact i1 t ht
  · by_cases e : 16 + t = j
    · rw [e, upd_s]; exact h2 (by omega) (by omega)
    · rw [upd_n _ _ e]; exact i2 t ht
  · by_cases e : 32 + 2 * t = j
    · rw [e, upd_s]; exact (h3 (by omega) (by omega)).1 (by omega)
    · rw [upd_n _ _ e]; exact (i3 t ht).1
  · by_cases e : 32 + 2 * t + 1 = j
    · rw [e, upd_s]; exact (h3 (by omega) (by omega)).2 (by omega)
    · rw [upd_n _ _ e]; exact (i3 t ht).2
  · rw [upd_n _ _ (by omega)]; exact i4
  · rw [upd_n _ _ (by omega)]; exact i5
  · rw [upd_n _ _ (by omega)]; exact i6
  · by_cases e : 3 = j
    · rw [← e, upd_s]; rcases h4 with h | h | h
      · omega
      · exact h.2
      · omega
    · rw [upd_n _ _ e]; exact i7
  · by_cases e : 4 = j
    · rw [← e, upd_s]; rcases h4 with h | h | h
      · omega
      · omega
      · exact h.2
    · rw [upd_n _ _ e]; exact i8
theorem Inv_z {sa : Nat → Int32} {v : Int32} (h : Inv sa) : Inv (upd sa 5 v) := Inv_upd h (fun a _ => by omega) (fun a _ => by omega) (fun _ a => by omega) (Or.inl (by omega))
theorem TM_upd {sa : Nat → Int32} {u : Nat} {T : Tx} {j : Nat} {v : Int32} (hj : j < 40 ∨ 290 ≤ j) (hu : u < 2) (ho : TOk T) (h : TM sa u T) : TM (upd sa j v) u T := TM_frame (fun i h1 h2 => upd_n _ _ (by omega)) hu ho h
theorem Inv_buy {sa : Nat → Int32} {T : Tx} (h : Inv sa) : Inv (buyA sa T) := by
  unfold buyA
  split
  · exact Inv_goes (Inv_z h)
  · exact Inv_z h
theorem TM_buy {sa : Nat → Int32} {T T' : Tx} {u : Nat} (hu : u < 2) (ho : TOk T') (h : TM sa u T') : TM (buyA sa T) u T' := by
  unfold buyA
  split
  · exact TM_goes hu ho (TM_upd (by omega) hu ho h)
  · exact TM_upd (by omega) hu ho h
theorem Inv_draw {sa : Nat → Int32} {T : Tx} (h : Inv sa) : ∀ n, Inv (drawN T n sa).1
  | 0 => h
  | n + 1 => Inv_buy (Inv_draw h n)
theorem TM_draw {sa : Nat → Int32} {T T' : Tx} {u : Nat} (hu : u < 2) (ho : TOk T') (h : TM sa u T') : ∀ n, TM (drawN T n sa).1 u T'
  | 0 => h
  | n + 1 => TM_buy hu ho (TM_draw hu ho h n)
theorem drawN_le {T : Tx} {sa : Nat → Int32} : ∀ n, (drawN T n sa).2 ≤ n
  | 0 => Nat.le_refl _
  | n + 1 => by
    have := drawN_le (T := T) (sa := sa) n
    show (drawN T n sa).2 + (if buyS (drawN T n sa).1 then 1 else 0) ≤ n + 1
    split <;> omega
theorem byR_le (z : Int32) : ∀ t, t < 8 → byR z t ≤ 99 := fun t _ => by
  unfold byR byN
  split
  · omega
  · omega
theorem byR_row {g : Nat → Int32} {z : Int32} (h : ∀ i, i < 8 → g i = 0) : ∀ t, t < 8 → upd g (byT z) (nI (byN z)) t = nI (byR z t) := fun t ht => by
  simp only [upd, byR]
  by_cases e : t = byT z
  · rw [if_pos e, if_pos e]
  · rw [if_neg e, if_neg e]; exact h t ht
