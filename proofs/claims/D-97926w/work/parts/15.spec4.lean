/-! SEARCHES: all rows from one thing on, in their order -/
def itr {β : Type} (f : Nat → β → β) : Nat → β → β
  | 0, b => b
  | k + 1, b => f k (itr f k b)
def upN (f : Nat → Nat) (k n : Nat) : Nat → Nat := fun j => if j = k then n else f j
def enL {β : Type} (bd : Nat → Nat → Nat) (lf : (Nat → Nat) → Nat → Nat → β → β) : Nat → (Nat → Nat) → Nat → Nat → β → β
  | 0, ex, le, mo, b => lf ex le mo b
  | d + 1, ex, le, mo, b => itr (fun n b => enL bd lf d (upN ex (8 - (d + 1)) n) (le - n) (mo + n) b) (bd (8 - (d + 1)) le + 1) b
/-- how many more, the net, the row of what is more -/
abbrev Bst : Type := Int32 × Int32 × (Nat → Nat)
def bdT (rn : Nat → Nat) : Nat → Nat → Nat := fun t le => min le (9 - rn t)
def netF (sa : Nat → Int32) (T : Tx) (k : Nat) (rn : Nat → Nat) (wo : Nat → Int32) (ex : Nat → Nat) : Int32 := paysF sa T (fun t => rn t + ex t) k - l_sum (fun i_ => nI (ex i_) * wo i_) 8
def lfT (net : (Nat → Nat) → Int32) (ex : Nat → Nat) (_ mo : Nat) (b : Bst) : Bst := if b.1 = -1 ∨ net ex < b.2.1 ∨ (net ex = b.2.1 ∧ nI mo < b.1) then (nI mo, net ex, ex) else b
theorem i_subsub (a b c : Int32) : a - b - c = a - (b + c) := by grind
theorem nI_ne_m1 {n : Nat} (h : n < 2147483648) : nI n ≠ -1 := fun e => by
  have := nI_pos h
  rw [e] at this
  exact this (by decide)
theorem lfT_t {net : (Nat → Nat) → Int32} {ex : Nat → Nat} {le mo : Nat} {b : Bst} (h : b.1 = -1 ∨ net ex < b.2.1 ∨ (net ex = b.2.1 ∧ nI mo < b.1)) : lfT net ex le mo b = (nI mo, net ex, ex) := by unfold lfT; rw [if_pos h]
theorem lfT_f {net : (Nat → Nat) → Int32} {ex : Nat → Nat} {le mo : Nat} {b : Bst} (h : ¬ (b.1 = -1 ∨ net ex < b.2.1 ∨ (net ex = b.2.1 ∧ nI mo < b.1))) : lfT net ex le mo b = b := by unfold lfT; rw [if_neg h]
theorem bst_eta {b : Bst} {x y : Int32} (h1 : x = b.1) (h2 : y = b.2.1) : ((x, y, b.2.2) : Bst) = b := by subst h1; subst h2; rfl
theorem upN_s (f : Nat → Nat) (k n : Nat) : upN f k n k = n := by simp [upN]
theorem upN_n (f : Nat → Nat) {k j : Nat} (n : Nat) (h : j ≠ k) : upN f k n j = f j := by simp [upN, h]
/-- the row one place further -/
theorem row_s {rw_ : Nat → Int32} {rn ex : Nat → Nat} {t n : Nat} (h : ∀ i, i < t → rw_ i = nI (rn i + ex i) ∧ ex i ≤ 9) (hn : n ≤ 9) : ∀ i, i < t + 1 → upd rw_ t (nI (rn t + n)) i = nI (rn i + upN ex t n i) ∧ upN ex t n i ≤ 9 := by
  intro i hi
  by_cases e : i = t
  · subst e; rw [upd_s, upN_s]; exact ⟨rfl, hn⟩
  · rw [upd_n _ _ e, upN_n _ _ e]; exact h i (by omega)
def vlF (sa : Nat → Int32) (T1 : Tx) (t : Nat) : Int32 := valF T1 t (sa (8 + t)) (sa (16 + t))
def seekF (sa : Nat → Int32) (T T1 : Tx) (k : Nat) (rn : Nat → Nat) (e : Nat) : Bst := enL (bdT rn) (lfT (netF sa T k rn (vlF sa T1))) 8 (fun _ => 0) (min e (30 - manyN rn 8)) 0 (-1, 0, fun _ => 0)
theorem l_sum_congr {f g : Nat → Int32} : ∀ {n : Nat}, (∀ t, t < n → f t = g t) → l_sum f n = l_sum g n
  | 0, _ => rfl
  | n + 1, h => by
    show l_sum f n + f n = l_sum g n + g n
    rw [l_sum_congr (fun t ht => h t (by omega)), h n (by omega)]
theorem netF_congr {sa : Nat → Int32} {T : Tx} {k : Nat} {rn : Nat → Nat} {wo wo' : Nat → Int32} (h : ∀ i, i < 8 → wo i = wo' i) : netF sa T k rn wo = netF sa T k rn wo' := by
  funext ex
  unfold netF
  rw [l_sum_congr (fun t ht => by rw [h t ht])]
theorem itr_m {β : Type} {f : Nat → β → β} {b b' : β} (h : f 0 b = f 0 b') : ∀ n, itr f (n + 1) b = itr f (n + 1) b'
  | 0 => h
  | n + 1 => by
    show f (n + 1) (itr f (n + 1) b) = f (n + 1) (itr f (n + 1) b')
    rw [itr_m h n]
theorem enL_m1 {bd : Nat → Nat → Nat} {net : (Nat → Nat) → Int32} : ∀ (d : Nat) (ex : Nat → Nat) (le mo : Nat) (b b' : Bst), b.1 = -1 → b'.1 = -1 → enL bd (lfT net) d ex le mo b = enL bd (lfT net) d ex le mo b'
  | 0, ex, le, mo, b, b', h, h' => by
    show lfT net ex le mo b = lfT net ex le mo b'
    rw [lfT_t (Or.inl h), lfT_t (Or.inl h')]
  | d + 1, ex, le, mo, b, b', h, h' => itr_m (f := fun n b => enL bd (lfT net) d (upN ex (8 - (d + 1)) n) (le - n) (mo + n) b) (enL_m1 d (upN ex (8 - (d + 1)) 0) (le - 0) (mo + 0) b b' h h') (bd (8 - (d + 1)) le)
theorem seek_of {sa wo : Nat → Int32} {T T1 : Tx} {k e le : Nat} {rn : Nat → Nat} {bn : Int32} (hwo : ∀ i, i < 8 → wo i = vlF sa T1 i) (hle : le = min e (30 - manyN rn 8)) : enL (bdT rn) (lfT (netF sa T k rn wo)) 8 (fun _ => 0) le 0 (-1, bn, fun _ => 0) = seekF sa T T1 k rn e := by
  rw [netF_congr hwo, hle]
  exact enL_m1 8 _ _ _ _ _ rfl rfl
theorem itr_p {β : Type} {P : β → Prop} {f : Nat → β → β} {n : Nat} (h : ∀ k b, k < n → P b → P (f k b)) : ∀ k b, k ≤ n → P b → P (itr f k b)
  | 0, _, _, hb => hb
  | k + 1, b, hk, hb => h k _ (by omega) (itr_p h k b (by omega) hb)
theorem enL_p {β : Type} {P : β → Prop} {bd : Nat → Nat → Nat} {lf : (Nat → Nat) → Nat → Nat → β → β} (G : (Nat → Nat) → Prop) (hG : ∀ ex t n le, G ex → n ≤ bd t le → G (upN ex t n)) (h : ∀ ex le mo b, G ex → P b → P (lf ex le mo b)) : ∀ (d : Nat) (ex : Nat → Nat) (le mo : Nat) (b : β), G ex → P b → P (enL bd lf d ex le mo b)
  | 0, ex, le, mo, b, hg, hb => h ex le mo b hg hb
  | d + 1, ex, le, mo, b, hg, hb => itr_p (n := bd (8 - (d + 1)) le + 1) (fun k b hk hb => enL_p G hG h d _ _ _ b (hG ex _ k le hg (by omega)) hb) _ b (Nat.le_refl _) hb
theorem lfT_p {net : (Nat → Nat) → Int32} (ex : Nat → Nat) (le mo : Nat) (b : Bst) (hg : ∀ i, ex i ≤ 9) (hb : ∀ i, b.2.2 i ≤ 9) : ∀ i, (lfT net ex le mo b).2.2 i ≤ 9 := by
  unfold lfT
  split
  · exact hg
  · exact hb
theorem bdT_p {rn : Nat → Nat} (ex : Nat → Nat) (t n le : Nat) (hg : ∀ i, ex i ≤ 9) (hn : n ≤ bdT rn t le) : ∀ i, upN ex t n i ≤ 9 := by
  intro i
  have : n ≤ min le (9 - rn t) := hn
  by_cases h : i = t
  · subst h; rw [upN_s]; omega
  · rw [upN_n _ _ h]; exact hg i
theorem enT_le {rn : Nat → Nat} {net : (Nat → Nat) → Int32} (d : Nat) (ex : Nat → Nat) (le mo : Nat) (b : Bst) (h1 : ∀ i, ex i ≤ 9) (h2 : ∀ i, b.2.2 i ≤ 9) : ∀ i, (enL (bdT rn) (lfT net) d ex le mo b).2.2 i ≤ 9 :=
  enL_p (P := fun b : Bst => ∀ i, b.2.2 i ≤ 9) (fun ex => ∀ i, ex i ≤ 9) bdT_p lfT_p d ex le mo b h1 h2
theorem seekF_le {sa : Nat → Int32} {T T1 : Tx} {k e : Nat} {rn : Nat → Nat} : ∀ i, (seekF sa T T1 k rn e).2.2 i ≤ 9 := by
  unfold seekF
  generalize (8 : Nat) = d
  exact enT_le d _ _ _ _ (fun _ => Nat.zero_le _) (fun _ => Nat.zero_le _)
def moreC (bt sz nu : Nat → Int32) (sheet til e wh : Int32) : Nat := lackF bt sz nu sheet til (inB e 0 4 && inB wh (-2) 7) 30
def moreR (sa : Nat → Int32) (T T1 : Tx) (rn : Nat → Nat) (k e : Nat) (wh : Int32) : Int32 := if wh = -2 then (seekF sa T T1 k rn e).2.1 else if wh = -1 then paysF sa T (fun t => rn t + (seekF sa T T1 k rn e).2.2 t) k else nI ((seekF sa T T1 k rn e).2.2 (nn wh))
abbrev R2e : Type := Int32 × (Nat → Int32)
def more_ (sa er bt sz nu : Nat → Int32) (T T1 : Tx) (sheet til e wh : Int32) : R2e := (eR (moreC bt sz nu sheet til e wh) (moreR sa T T1 (rnG sz nu (nn sheet)) (nn til) (nn e) wh), eE (moreC bt sz nu sheet til e wh) er)
def partF (sa : Nat → Int32) (T : Tx) (k : Nat) (rn ex : Nat → Nat) : Int32 := paysF sa T ex k + paysF sa T (fun t => rn t - ex t) k
def lfP (f : (Nat → Nat) → Int32) (ex : Nat → Nat) (_ _ : Nat) (x : Int32) : Int32 := if x = -1 ∨ f ex < x then f ex else x
def twoF (sa : Nat → Int32) (T : Tx) (k : Nat) (rn : Nat → Nat) : Int32 := enL (fun t _ => rn t) (lfP (partF sa T k rn)) 8 (fun _ => 0) 0 0 (-1)
def inTwo_ (sa er bt sz nu : Nat → Int32) (T : Tx) (sheet til : Int32) : R2e := (eR (lackF bt sz nu sheet til true 12) (twoF sa T (nn til) (rnG sz nu (nn sheet))), eE (lackF bt sz nu sheet til true 12) er)
def worth_ (sa er bt sz nu : Nat → Int32) (T : Tx) (sheet til tg : Int32) : R2e :=
  (eR (lackF bt sz nu sheet til (inB tg 0 7) 29) (paysF sa T (rnG sz nu (nn sheet)) (nn til) - paysF sa T (upN (rnG sz nu (nn sheet)) (nn tg) (rnG sz nu (nn sheet) (nn tg) + 1)) (nn til)), eE (lackF bt sz nu sheet til (inB tg 0 7) 29) er)
/-- the errors of two sheets together: one that is missing, a number that is none, too many -/
def togA (bt sz nu : Nat → Int32) (sheet other til : Int32) : Nat :=
  if lackF bt sz nu sheet til (inB other 0 3) 99 = 0 ∨ (lackF bt sz nu sheet til (inB other 0 3) 99 = 1 ∧ (inB sheet 0 3 = true ∧ inB other 0 3 = true ∧ inB til 0 3 = true)) then
    (if tellC bt sz nu (nn other) 99 = 2 ∨ lackF bt sz nu sheet til (inB other 0 3) 99 = 0 then tellC bt sz nu (nn other) 99 else lackF bt sz nu sheet til (inB other 0 3) 99)
  else lackF bt sz nu sheet til (inB other 0 3) 99
def togC (bt sz nu : Nat → Int32) (sheet other til : Int32) : Nat := if togA bt sz nu sheet other til = 0 ∧ 30 < manyN (rnG sz nu (nn sheet)) 8 + manyN (rnG sz nu (nn other)) 8 then 4 else togA bt sz nu sheet other til
def togR (sa sz nu : Nat → Int32) (T : Tx) (s o k : Nat) : Int32 := paysF sa T (rnG sz nu s) k + paysF sa T (rnG sz nu o) k - paysF sa T (fun t => rnG sz nu s t + rnG sz nu o t) k
def together_ (sa er bt sz nu : Nat → Int32) (T : Tx) (sheet other til : Int32) : R2e := (eR (togC bt sz nu sheet other til) (togR sa sz nu T (nn sheet) (nn other) (nn til)), eE (togC bt sz nu sheet other til) er)
theorem togC_le {bt sz nu : Nat → Int32} {a b c : Int32} : togC bt sz nu a b c ≤ 4 := by
  have h1 := lackF_le (bt := bt) (sz := sz) (nu := nu) (a := a) (b := c) (o := inB b 0 3) (mo := 99)
  have h2 := tellC_le (bt := bt) (sz := sz) (nu := nu) (k := nn b) (mo := 99)
  have h3 : togA bt sz nu a b c ≤ 4 := by
    unfold togA
    split
    · split
      · exact h2
      · exact h1
    · exact h1
  unfold togC
  split
  · omega
  · exact h3
def codN (f : Nat → Nat) : Nat → Nat
  | 0 => 0
  | n + 1 => 10 * codN f n + f n
abbrev Sst : Type := Int32 × Int32 × Int32
def lfS (pay : (Nat → Nat) → Int32) (w : Int32) (ex : Nat → Nat) (_ _ : Nat) (b : Sst) : Sst :=
  if manyN ex 8 = 0 then b else (if pay ex = w then b.1 + 1 else b.1, if pay ex = w then (if b.2.1 = -1 ∨ nI (codN ex 8) < b.2.1 then nI (codN ex 8) else b.2.1) else b.2.1, if b.2.2 = -1 ∨ pay ex < b.2.2 then pay ex else b.2.2)
def smF (sa : Nat → Int32) (T : Tx) (k : Nat) (w : Int32) : Sst := enL (fun _ le => le) (lfS (fun ex => paysF sa T ex k) w) 8 (fun _ => 0) 3 0 (0, -1, -1)
def nin9 (sa : Nat → Int32) : Bool := allB (fun t => decide (nn (sa (8 + t)) % 9 = 0)) 8
def nines_ (sa er : Nat → Int32) (T : Tx) (til : Int32) : R2e := if inB til (-1) 3 then (if til = -1 then fx_b (nin9 sa = true) else (smF sa T (nn til) (-1)).2.2, er) else (erv 1, erI er 1)
def wasIn_ (sa er : Nat → Int32) (T : Tx) (til pd wh : Int32) : R2e :=
  if inB til 0 3 && (inB pd 0 9999 && inB wh 0 1) then (if wh = 0 then ((smF sa T (nn til) pd).1, er) else if (smF sa T (nn til) pd).2.1 = -1 then (erv 2, erI er 2) else ((smF sa T (nn til) pd).2.1, er)) else (erv 1, erI er 1)
def dearV (sa : Nat → Int32) (T T1 : Tx) (k : Nat) (rn : Nat → Nat) (e t b : Nat) : Int32 :=
  paysF (upd sa (8 + t) (nI (nn (sa (8 + t)) + b))) T (fun i => rn i + (seekF (upd sa (8 + t) (nI (nn (sa (8 + t)) + b))) T T1 k rn e).2.2 i) k
def dearS (v : Int32) (code : Nat) (b : Int32 × Int32) : Int32 × Int32 := if b.1 = -1 ∨ b.2 < v then (nI code, v) else b
def dearB (sa : Nat → Int32) (T T1 : Tx) (k : Nat) (rn : Nat → Nat) (e t : Nat) (b : Int32 × Int32) : Int32 × Int32 := itr (fun u b => dearS (dearV sa T T1 k rn e t u) (10 * t + u) b) (min 10 (10000 - nn (sa (8 + t)))) b
def dearF (sa : Nat → Int32) (T T1 : Tx) (k : Nat) (rn : Nat → Nat) (e : Nat) : Int32 := (itr (fun t b => dearB sa T T1 k rn e t b) 8 (-1, 0)).1
def dearC (bt sz nu : Nat → Int32) (sheet til e : Int32) : Nat := lackF bt sz nu sheet til (inB e 0 2) 30
def dearer_ (sa er bt sz nu : Nat → Int32) (T T1 : Tx) (sheet til e : Int32) : R2e := (eR (dearC bt sz nu sheet til e) (dearF sa T T1 (nn til) (rnG sz nu (nn sheet)) (nn e)), eE (dearC bt sz nu sheet til e) er)
theorem upd_back {f : Nat → Int32} {j : Nat} {x : Int32} : upd (upd f j x) j (f j) = f := by
  funext i
  simp only [upd]
  by_cases h : i = j
  · rw [if_pos h, h]
  · rw [if_neg h, if_neg h]
theorem upd_twice {f : Nat → Int32} {j : Nat} {x y : Int32} : upd (upd f j x) j y = upd f j y := by
  funext i
  simp only [upd]
  by_cases h : i = j
  · rw [if_pos h, if_pos h]
  · rw [if_neg h, if_neg h, if_neg h]
theorem Inv_price {sa : Nat → Int32} {t p : Nat} (h : Inv sa) (ht : t < 8) (h1 : 1 ≤ p) (h2 : p ≤ 9999) : Inv (upd sa (8 + t) (nI p)) := Inv_upd h (fun _ _ => nI_inB (a := 1) (b := 9999) h1 h2 (by omega)) (fun a _ => by omega) (fun _ a => by omega) (Or.inl (by omega))
theorem Inv.pr1 {sa : Nat → Int32} (h : Inv sa) {t : Nat} (ht : t < 8) : 1 ≤ nn (sa (8 + t)) := inB_lo (a := 1) (n := 9999) (h.1 t ht) (by omega) (by omega)
/-- a charge that errs: odds in seventeenths -/
def ogF (od : Int32) : Bool := decide (0 ≤ od) && (decide (nn od / 17 ≤ 16) && decide (nn od / 17 + nn od % 17 ≤ 16))
def errC (bt sz nu : Nat → Int32) (sheet til od pa : Int32) : Nat := lackF bt sz nu sheet til (ogF od && inB pa 0 1) 30
def abvN (sa : Nat → Int32) (T : Tx) (rn : Nat → Nat) (k od : Nat) : Nat := if manyN rn 8 = 0 then 0 else 16 * nn (paysF sa T rn k) + od / 17 - (if 0 < nn (paysF sa T rn k) then od % 17 else 0)
def errN (sa : Nat → Int32) (T : Tx) (rn : Nat → Nat) (k od : Nat) (pa : Int32) : Nat := if pa = 0 then abvN sa T rn k od / Nat.gcd (abvN sa T rn k od) 16 else 16 / Nat.gcd (abvN sa T rn k od) 16
def erring_ (sa er bt sz nu : Nat → Int32) (T : Tx) (sheet til od pa : Int32) : Int64 × (Nat → Int32) :=
  (if errC bt sz nu sheet til od pa = 0 then lN (errN sa T (rnG sz nu (nn sheet)) (nn til) (nn od) pa) else (erv (errC bt sz nu sheet til od pa)).toInt64, eE (errC bt sz nu sheet til od pa) er)
theorem paysF_nat (sa : Nat → Int32) (T : Tx) (rn : Nat → Nat) (k : Nat) : paysF sa T rn k = nI (nn (paysF sa T rn k)) ∧ nn (paysF sa T rn k) ≤ 9999 := by
  obtain ⟨n, h1, h2⟩ := askF_nat (nn (sa (32 + 2 * k))) (nn (sa (32 + 2 * k + 1))) T (sumN rn (fun t => nn (sa (8 + t))) 8) (manyN rn 8)
  have h3 : paysF sa T rn k = nI n := h2
  rw [h3, nn, nn_nI (by omega)]
  exact ⟨rfl, h1⟩
theorem gcd_s {x y : Nat} : Nat.gcd y (x % y) = Nat.gcd x y := by
  rw [Nat.gcd_comm y (x % y), Nat.gcd_comm x y, Nat.gcd_rec y x]
theorem wh_nat {wh : Int32} (h : inB wh (-2) 7 = true) (h1 : ¬ wh = -2) (h2 : ¬ wh = -1) : wh = nI (nn wh) ∧ nn wh ≤ 7 := by
  refine inB_nn (n := 7) (inB_iff.2 ⟨?_, (inB_iff.1 h).2⟩) (by omega)
  have h3 := (inB_iff.1 h).1
  rw [Int32.le_iff_toInt_le] at h3 ⊢
  have e1 : wh.toInt ≠ -2 := fun e => h1 (Int32.toInt_inj.1 e)
  have e2 : wh.toInt ≠ -1 := fun e => h2 (Int32.toInt_inj.1 e)
  have e3 : (-2 : Int32).toInt = -2 := by decide
  have e4 : (0 : Int32).toInt = 0 := by decide
  omega
theorem rowp_s {rw_ bs : Nat → Int32} {rn ex : Nat → Nat} {t n : Nat} (h : ∀ i, i < t → rw_ i = nI (ex i) ∧ bs i = nI (rn i - ex i) ∧ ex i ≤ rn i) (hn : n ≤ rn t) : ∀ i, i < t + 1 → upd rw_ t (nI n) i = nI (upN ex t n i) ∧ upd bs t (nI (rn t - n)) i = nI (rn i - upN ex t n i) ∧ upN ex t n i ≤ rn i := by
  intro i hi
  by_cases e : i = t
  · subst e; rw [upd_s, upd_s, upN_s]; exact ⟨rfl, rfl, hn⟩
  · rw [upd_n _ _ e, upd_n _ _ e, upN_n _ _ e]; exact h i (by omega)
theorem rowu_s {g : Nat → Int32} {rn : Nat → Nat} {j : Nat} (h : ∀ t, t < 8 → g t = nI (rn t) ∧ rn t ≤ 99) (h9 : ∀ t, t < 8 → rn t ≤ 9) (hj : j < 8) : ∀ t, t < 8 → upd g j (nI (rn j + 1)) t = nI (upN rn j (rn j + 1) t) ∧ upN rn j (rn j + 1) t ≤ 99 := by
  intro i hi
  by_cases e : i = j
  · subst e; rw [upd_s, upN_s]; exact ⟨rfl, by have := h9 i hi; omega⟩
  · rw [upd_n _ _ e, upN_n _ _ e]; exact h i hi
