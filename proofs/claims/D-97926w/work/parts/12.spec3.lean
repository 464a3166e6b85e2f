theorem nn_pos {x : Int32} (h : 0 ≤ x) : x = nI (nn x) ∧ nn x < 2147483648 := by
  obtain ⟨j, hj, rfl⟩ := nI_of (x := x) (Int32.not_lt.2 h)
  rw [nn, nn_nI hj]
  exact ⟨rfl, hj⟩
theorem inB_nn1 {v lo : Int32} {n : Nat} (h : inB v lo (nI n) = true) (hl : 0 ≤ lo) (hn : n < 2147483647) : v = nI (nn v) ∧ nn v ≤ n := by
  obtain ⟨h1, h2⟩ := inB_iff.1 h
  exact inB_nn (inB_iff.2 ⟨Int32.le_trans hl h1, h2⟩) hn
theorem inB_lo {v : Int32} {a n : Nat} (h : inB v (nI a) (nI n) = true) (ha : a < 2147483647) (hn : n < 2147483647) : a ≤ nn v := by
  have h1 := inB_nn1 h (nI_pos' (by omega)) hn
  obtain ⟨h2, -⟩ := inB_iff.1 h
  rw [h1.1] at h2
  exact (nI_leI (by omega) (by omega)).1 h2
abbrev R3 : Type := Int32 × (Nat → Int32) × (Nat → Int32)
abbrev R2 : Type := Int32 × (Nat → Int32)
def thing_ (sa er : Nat → Int32) (th wh v : Int32) : R3 := if inB th 0 7 && (inB wh 0 2 && inB v (if wh = 0 then 1 else 0) (if wh = 2 then 99 else 9999)) then (sa (8 + 8 * nn wh + nn th), upd sa (8 + 8 * nn wh + nn th) v, er) else (erv 1, sa, erI er 1)
def thingIs_ (sa er : Nat → Int32) (T1 : Tx) (th wh : Int32) : R2 := if inB th 0 7 && inB wh 0 3 then (if wh = 3 then valF T1 (nn th) (sa (8 + nn th)) (sa (16 + nn th)) else sa (8 + 8 * nn wh + nn th), er) else (erv 1, erI er 1)
def till_ (sa er : Nat → Int32) (til km : Int32) : R3 := if inB til 0 3 && inB km 0 69 then (10 * sa (32 + 2 * nn til) + sa (32 + 2 * nn til + 1), upd (upd sa (32 + 2 * nn til) (nI (nn km / 10))) (32 + 2 * nn til + 1) (nI (nn km % 10)), er) else (erv 1, sa, erI er 1)
def tillIs_ (sa er : Nat → Int32) (til wh : Int32) : R2 := if inB til 0 3 && inB wh 0 1 then (sa (32 + 2 * nn til + nn wh), er) else (erv 1, erI er 1)
def as_ (sa er : Nat → Int32) (til kd : Int32) : R2 := if inB til 0 3 && inB kd 0 6 then (if isU (sa (32 + 2 * nn til)) kd then (sa (32 + 2 * nn til + 1), er) else (erv 5, erI er 5)) else (erv 1, erI er 1)
def figures_ (er : Nat → Int32) (su ba : Int32) : R2 := if decide (0 ≤ su) && inB ba 2 11 then (nI (dg (nn ba) (nn su)), er) else (erv 1, erI er 1)
def askT (sa : Nat → Int32) (T : Tx) (k S q : Nat) : Int32 := askF (nn (sa (32 + 2 * k))) (nn (sa (32 + 2 * k + 1))) T S q
def asks_ (sa er : Nat → Int32) (T : Tx) (til su q : Int32) : R2 := if inB til 0 3 && (inB su 0 299970 && inB q 0 30) then (askT sa T (nn til) (nn su) (nn q), er) else (erv 1, erI er 1)
def basket_ (sa er bt sz nu : Nat → Int32) (sheet wh : Int32) : R2 := (eR (basketC bt sz nu sheet wh) (basketR sa bt sz nu sheet wh), eE (basketC bt sz nu sheet wh) er)
def pays_ (sa er bt sz nu : Nat → Int32) (T : Tx) (sheet til : Int32) : R2 := (eR (lackF bt sz nu sheet til true 30) (paysF sa T (rnG sz nu (nn sheet)) (nn til)), eE (lackF bt sz nu sheet til true 30) er)
def go_ (sa er bt sz nu : Nat → Int32) (T : Tx) (sheet til : Int32) : R3 := (eR (goC sa bt sz nu sheet til) (paysF sa T (rnG sz nu (nn sheet)) (nn til)), if goC sa bt sz nu sheet til = 0 then goesA sa T (shG sz nu (nn sheet)) (rnG sz nu (nn sheet)) (nn til) else sa, eE (goC sa bt sz nu sheet til) er)
def draws_ (sa er : Nat → Int32) (T : Tx) (n : Int32) : R3 := if inB n 1 60 then (nI (drawN T (nn n) sa).2, (drawN T (nn n) sa).1, er) else (erv 1, sa, erI er 1)
theorem eR_0 (r : Int32) : eR 0 r = r := by unfold eR; rw [if_pos (Eq.refl 0)]
theorem eE_0 (er : Nat → Int32) : eE 0 er = er := by unfold eE; rw [if_pos (Eq.refl 0)]
theorem eR_p {c : Nat} (h : 0 < c) (r : Int32) : eR c r = erv c := by unfold eR; rw [if_neg (by omega)]
theorem eE_p {c : Nat} (h : 0 < c) (er : Nat → Int32) : eE c er = erI er c := by unfold eE; rw [if_neg (by omega)]
/-- how many of the first m hold without a gap -/
def ldN (P : Nat → Bool) : Nat → Nat
  | 0 => 0
  | m + 1 => if ldN P m = m && P m then m + 1 else ldN P m
theorem ldN_le (P : Nat → Bool) : ∀ m, ldN P m ≤ m
  | 0 => Nat.le_refl _
  | m + 1 => by have := ldN_le P m; unfold ldN; split <;> omega
theorem ldN_all {P : Nat → Bool} : ∀ {m : Nat}, (∀ i, i < m → P i = true) → ldN P m = m
  | 0, _ => rfl
  | m + 1, h => by
    unfold ldN
    rw [ldN_all (fun i hi => h i (by omega)), h m (by omega)]
    simp
theorem ldN_stop {P : Nat → Bool} {c : Nat} (h : ∀ i, i < c → P i = true) (hc : P c = false) : ∀ m, c ≤ m → ldN P m = c
  | 0, h0 => by simp [ldN]; omega
  | m + 1, h0 => by
    rcases Nat.lt_or_ge m c with q | q
    · have : c = m + 1 := by omega
      subst this
      exact ldN_all h
    · have ih := ldN_stop h hc m q
      unfold ldN
      rw [ih]
      by_cases e : c = m
      · subst e; simp [hc]
      · simp [e]
def body_ (tr er : Nat → Int32) (n : Nat) (i : Int32) : R2 := if inB i 0 (nI n - 1) then (tr (nn i), er) else (erv 2, erI er 2)
theorem inB_pre {i : Int32} {n : Nat} (h : inB i 0 (nI n - 1) = true) (hn : n < 2147483647) : i = nI (nn i) ∧ nn i < n := by
  rcases Nat.eq_zero_or_pos n with e | e
  · subst e
    obtain ⟨h1, h2⟩ := inB_iff.1 h
    exact absurd (Int32.le_trans h1 h2) (by decide)
  · have e1 : nI n - 1 = nI (n - 1) := pk_sub (b := 1) e
    rw [e1] at h
    have := inB_nn h (by omega)
    exact ⟨this.1, by omega⟩
/-- a store into a sheet of b bits -/
def pvF (b v : Int32) : Int32 := if b = 8 then v.toInt8.toInt32 else if b = 16 then v.toInt16.toInt32 else v
def clr (nu : Nat → Int32) (k : Nat) (n : Nat) : Nat → Int32 := fun j => if 24 * k ≤ j ∧ j < 24 * k + n then 0 else nu j
abbrev R5 : Type := Int32 × (Nat → Int32) × (Nat → Int32) × (Nat → Int32) × (Nat → Int32)
def isB (b : Int32) : Bool := decide (b = 0) || (decide (b = 8) || (decide (b = 16) || decide (b = 32)))
def sheet_ (bt sz nu er : Nat → Int32) (sheet its n : Int32) : R5 :=
  if inB sheet 0 3 && isB its then
    (if its ≠ 0 ∧ n < 0 then (erv 3, bt, sz, nu, erI er 3) else if its ≠ 0 ∧ 24 < n then (erv 1, bt, sz, nu, erI er 1)
     else (1, upd bt (nn sheet) its, upd sz (nn sheet) (if its = 0 then 0 else n), clr nu (nn sheet) 24, er))
  else (erv 1, bt, sz, nu, erI er 1)
def put_ (bt sz nu er : Nat → Int32) (sheet i v : Int32) : R3 :=
  if inB sheet 0 3 then (if bt (nn sheet) = 0 then (erv 2, nu, erI er 2) else if inB i 0 (sz (nn sheet) - 1) then (1, upd nu (24 * nn sheet + nn i) (pvF (bt (nn sheet)) v), er) else (erv 1, nu, erI er 1)) else (erv 1, nu, erI er 1)
def prP (sz nu : Nat → Int32) (k : Nat) : Nat → Bool := fun i => decide (i < nn (sz k)) && inB (nu (24 * k + i)) 1 9999
def prA (sa nu : Nat → Int32) (k n : Nat) : Nat → Int32 := fun j => if 8 ≤ j ∧ j < 8 + n then nu (24 * k + (j - 8)) else sa j
def prices_ (sa bt sz nu er : Nat → Int32) (sheet : Int32) : R3 :=
  if inB sheet 0 3 then (if bt (nn sheet) = 0 then (erv 2, sa, erI er 2) else (nI (ldN (prP sz nu (nn sheet)) 8), prA sa nu (nn sheet) (ldN (prP sz nu (nn sheet)) 8), er)) else (erv 1, sa, erI er 1)
theorem prA_0 (sa nu : Nat → Int32) (k : Nat) : sa = prA sa nu k 0 := by funext j; simp only [prA]; rw [if_neg (by omega)]
theorem prA_s {sa nu s2 : Nat → Int32} {k n : Nat} (e : s2 = prA sa nu k n) : upd s2 (8 + n) (nu (24 * k + n)) = prA sa nu k (n + 1) := by
  subst e
  funext j
  simp only [upd, prA]
  by_cases h : j = 8 + n
  · subst h; rw [if_pos rfl, if_pos (by omega), show 8 + n - 8 = n by omega]
  · rw [if_neg h]
    by_cases h2 : 8 ≤ j ∧ j < 8 + n
    · rw [if_pos h2, if_pos (by omega)]
    · rw [if_neg h2, if_neg (by omega)]
theorem clr_0 (nu : Nat → Int32) (k : Nat) : nu = clr nu k 0 := by funext j; simp only [clr]; rw [if_neg (by omega)]
theorem clr_s {nu n2 : Nat → Int32} {k n : Nat} (e : n2 = clr nu k n) : upd n2 (24 * k + n) 0 = clr nu k (n + 1) := by
  subst e
  funext j
  simp only [upd, clr]
  by_cases h : j = 24 * k + n
  · subst h; rw [if_pos rfl, if_pos (by omega)]
  · rw [if_neg h]
    by_cases h2 : 24 * k ≤ j ∧ j < 24 * k + n
    · rw [if_pos h2, if_pos (by omega)]
    · rw [if_neg h2, if_neg (by omega)]
def restore_ (sa ka er : Nat → Int32) (im : Int32) : R3 := if im = 0 then (erv 2, sa, erI er 2) else (ka 0, cpyN 374 ka sa, er)
def tell_ (sa er : Nat → Int32) (v : Int32) : R3 := if sa 4 = 24 then (erv 4, sa, erI er 4) else (nI (nn (sa 4) + 1), upd (upd sa (350 + nn (sa 4)) v) 4 (nI (nn (sa 4) + 1)), er)
def ckP (sa : Nat → Int32) (T : Tx) (k : Nat) : Nat → Bool := fun i => decide (sa (350 + i) = askT sa T k (i + 1) 1)
def check_ (sa er : Nat → Int32) (T : Tx) (til : Int32) : R3 := if inB til 0 3 then (if ldN (ckP sa T (nn til)) (nn (sa 4)) = nn (sa 4) then 0 else nI (1 + ldN (ckP sa T (nn til)) (nn (sa 4))), upd sa 4 0, er) else (erv 1, upd sa 4 0, erI er 1)
def count_ (sa er : Nat → Int32) (n : Nat) (wh : Int32) : R2 := if wh = 0 then (sa 0, er) else if wh = 1 then (sa 1, er) else if wh = 2 then (sa 2, er) else if wh = 3 then (l_sum (fun i_ => sa (24 + i_)) 8, er) else if wh = 4 then (sa 3, er) else if wh = 5 then (sa 4, er) else if wh = 6 then (nI n, er) else if wh = 7 then (sa 5, er) else (erv 1, erI er 1)
def told_ (er : Nat → Int32) (k : Int32) : R2 := if inB k 1 6 then (er (nn k), er) else (erv 1, erI er 1)
theorem lack_row {bt sz nu g : Nat → Int32} {a b : Int32} {o : Bool} {mo : Nat} (h : lackF bt sz nu a b o mo = 0) (hg : ∀ t, t < 8 → g t = shG sz nu (nn a) t) : (∀ t, t < 8 → g t = nI (rnG sz nu (nn a) t) ∧ rnG sz nu (nn a) t ≤ 99) ∧ (∀ t, t < 8 → rnG sz nu (nn a) t ≤ 9) ∧ manyN (rnG sz nu (nn a)) 8 ≤ mo ∧ (a = nI (nn a) ∧ nn a < 4) ∧ (b = nI (nn b) ∧ nn b < 4) := by
  obtain ⟨⟨h1, h2, -⟩, h3⟩ := lackF_0 h
  obtain ⟨-, h4, h5⟩ := tellC_0 h3
  have ha := inB_nn (n := 3) h1 (by omega)
  have hb := inB_nn (n := 3) h2 (by omega)
  exact ⟨fun t ht => ⟨(hg t ht).trans (h4 t ht).1, by have := (h4 t ht).2; omega⟩, fun t ht => (h4 t ht).2, h5, ⟨ha.1, by omega⟩, ⟨hb.1, by omega⟩⟩
def mvN (nu : Nat → Int32) (b c n : Nat) : Nat → Int32 := fun x => if b ≤ x ∧ x < b + n then nu (c + (x - b)) else nu x
theorem mvN_0 (nu : Nat → Int32) (b c : Nat) : nu = mvN nu b c 0 := by funext x; simp only [mvN]; rw [if_neg (by omega)]
theorem mvN_s {nu n2 : Nat → Int32} {b c n : Nat} {v : Int32} (e : n2 = mvN nu b c n) (hv : v = nu (c + n)) : upd n2 (b + n) v = mvN nu b c (n + 1) := by
  subst e; subst hv
  funext x
  simp only [upd, mvN]
  by_cases h : x = b + n
  · subst h; rw [if_pos rfl, if_pos (by omega), show b + n - b = n by omega]
  · rw [if_neg h]
    by_cases h2 : b ≤ x ∧ x < b + n
    · rw [if_pos h2, if_pos (by omega)]
    · rw [if_neg h2, if_neg (by omega)]
def mvBad (sz : Nat → Int32) (k o : Nat) (i j n : Int32) : Bool := decide (n < 0) || (decide (i < 0) || (decide (j < 0) || (decide (sz k - n < i) || decide (sz o - n < j))))
def move_ (bt sz nu er : Nat → Int32) (sheet i other j n : Int32) : R3 :=
  if inB sheet 0 3 && inB other 0 3 then
    (if bt (nn sheet) = 0 ∨ bt (nn other) = 0 then (erv 2, nu, erI er 2) else if ¬ bt (nn sheet) = bt (nn other) then (erv 5, nu, erI er 5)
     else if mvBad sz (nn sheet) (nn other) i j n then (erv 1, nu, erI er 1) else (n, mvN nu (24 * nn other + nn j) (24 * nn sheet + nn i) (nn n), er))
  else (erv 1, nu, erI er 1)
theorem cnt8 (x : Int32) : x = 0 ∨ x = 1 ∨ x = 2 ∨ x = 3 ∨ x = 4 ∨ x = 5 ∨ x = 6 ∨ x = 7 ∨ (x.toInt < 0 ∨ 7 < x.toInt) := by
  by_cases h : x.toInt < 0 ∨ 7 < x.toInt
  · exact Or.inr (Or.inr (Or.inr (Or.inr (Or.inr (Or.inr (Or.inr (Or.inr h)))))))
  · have e : ∀ n : Int32, x.toInt = n.toInt → x = n := fun n h => Int32.toInt_inj.1 h
    have h2 : x.toInt = 0 ∨ x.toInt = 1 ∨ x.toInt = 2 ∨ x.toInt = 3 ∨ x.toInt = 4 ∨ x.toInt = 5 ∨ x.toInt = 6 ∨ x.toInt = 7 := by omega
    rcases h2 with h | h | h | h | h | h | h | h
    · exact Or.inl (e 0 h)
    · exact Or.inr (Or.inl (e 1 h))
    · exact Or.inr (Or.inr (Or.inl (e 2 h)))
    · exact Or.inr (Or.inr (Or.inr (Or.inl (e 3 h))))
    · exact Or.inr (Or.inr (Or.inr (Or.inr (Or.inl (e 4 h)))))
    · exact Or.inr (Or.inr (Or.inr (Or.inr (Or.inr (Or.inl (e 5 h))))))
    · exact Or.inr (Or.inr (Or.inr (Or.inr (Or.inr (Or.inr (Or.inl (e 6 h)))))))
    · exact Or.inr (Or.inr (Or.inr (Or.inr (Or.inr (Or.inr (Or.inr (Or.inl (e 7 h))))))))
theorem cnt8_no {x : Int32} (h : x.toInt < 0 ∨ 7 < x.toInt) : ¬ x = 0 ∧ ¬ x = 1 ∧ ¬ x = 2 ∧ ¬ x = 3 ∧ ¬ x = 4 ∧ ¬ x = 5 ∧ ¬ x = 6 ∧ ¬ x = 7 := by
  refine ⟨?_, ?_, ?_, ?_, ?_, ?_, ?_, ?_⟩ <;> (rintro rfl; revert h; decide)
theorem upd_zz (f : Nat → Int32) (x : Int32) : upd (upd f 5 x) 5 (zN ((upd f 5 x) 5)) = upd f 5 (zN x) := by
  funext j
  simp only [upd]
  by_cases h : j = 5
  · simp [h]
  · simp [h]
theorem shl24 (v : Int32) : (v <<< ((24 : Int32) &&& 31)) >>> ((24 : Int32) &&& 31) = v.toInt8.toInt32 := by
  apply Int32.toBitVec_inj.1
  rw [show ((24 : Int32) &&& 31) = 24 by decide, Int32.toBitVec_shiftRight, Int32.toBitVec_shiftLeft, Int8.toBitVec_toInt32, Int32.toBitVec_toInt8]
  rw [show (Int32.toBitVec 24).smod 32 = 24#32 by decide]
  apply BitVec.eq_of_getLsbD_eq
  intro i hi
  simp [BitVec.getLsbD_signExtend, BitVec.getLsbD_setWidth, BitVec.getLsbD_sshiftRight, BitVec.getElem_signExtend, BitVec.msb_eq_getLsbD_last]
  by_cases h : i < 8
  · have h2 : 24 + i < 32 := by omega
    simp [h, hi, h2, show ¬ 32 ≤ i by omega, show ¬ 24 + i < 24 by omega]
  · have h2 : ¬ 24 + i < 32 := by omega
    simp [h, hi, h2]
theorem shl16 (v : Int32) : (v <<< ((16 : Int32) &&& 31)) >>> ((16 : Int32) &&& 31) = v.toInt16.toInt32 := by
  apply Int32.toBitVec_inj.1
  rw [show ((16 : Int32) &&& 31) = 16 by decide, Int32.toBitVec_shiftRight, Int32.toBitVec_shiftLeft, Int16.toBitVec_toInt32, Int32.toBitVec_toInt16]
  rw [show (Int32.toBitVec 16).smod 32 = 16#32 by decide]
  apply BitVec.eq_of_getLsbD_eq
  intro i hi
  simp [BitVec.getLsbD_signExtend, BitVec.getLsbD_setWidth, BitVec.getLsbD_sshiftRight, BitVec.getElem_signExtend, BitVec.msb_eq_getLsbD_last]
  by_cases h : i < 16
  · have h2 : 16 + i < 32 := by omega
    simp [h, hi, h2, show ¬ 32 ≤ i by omega, show ¬ 16 + i < 16 by omega]
  · have h2 : ¬ 16 + i < 32 := by omega
    simp [h, hi, h2]
theorem shl0 (v : Int32) : (v <<< ((0 : Int32) &&& 31)) >>> ((0 : Int32) &&& 31) = v := by rw [sb_shl0, sb_shr0]
theorem pv_of {b v : Int32} (h : b = 0 ∨ b = 8 ∨ b = 16 ∨ b = 32) (h0 : ¬ b = 0) : (v <<< ((32 - b) &&& 31)) >>> ((32 - b) &&& 31) = pvF b v := by
  rcases h with rfl | rfl | rfl | rfl
  · exact absurd rfl h0
  · exact shl24 v
  · exact shl16 v
  · exact shl0 v
theorem by1 {s2 g : Nat → Int32} {T : Tx} (hb : buyS s2 = true) (hrow : ∀ t, t < 8 → g t = nI (byR (s2 5) t)) : goesA (upd s2 5 (zN (zN (zN (s2 5))))) T g (byR (s2 5)) (zT (zN (zN (zN (s2 5)))) % 4) = buyA s2 T := by
  unfold buyA
  rw [if_pos hb, goesA_congr hrow]
  rfl
theorem by0 {s2 : Nat → Int32} {T : Tx} (hb : ¬ buyS s2 = true) : upd s2 5 (zN (zN (zN (s2 5)))) = buyA s2 T := by
  unfold buyA
  rw [if_neg hb]
  rfl
theorem itsC (x : Int32) : x = 0 ∨ x = 8 ∨ x = 16 ∨ x = 32 ∨ (¬ x = 0 ∧ ¬ x = 8 ∧ ¬ x = 16 ∧ ¬ x = 32) := by
  by_cases h0 : x = 0
  · exact Or.inl h0
  · by_cases h1 : x = 8
    · exact Or.inr (Or.inl h1)
    · by_cases h2 : x = 16
      · exact Or.inr (Or.inr (Or.inl h2))
      · by_cases h3 : x = 32
        · exact Or.inr (Or.inr (Or.inr (Or.inl h3)))
        · exact Or.inr (Or.inr (Or.inr (Or.inr ⟨h0, h1, h2, h3⟩)))
