/-! TEXTS: how a tape is read -/
abbrev Ps : Type := Nat × Nat × (Nat → Nat) × (Nat → Nat)
abbrev Ps.p (s : Ps) : Nat := s.1
abbrev Ps.n (s : Ps) : Nat := s.2.1
abbrev Ps.tc (s : Ps) : Nat → Nat := s.2.2.1
abbrev Ps.tx (s : Ps) : Nat → Nat := s.2.2.2
def Ps.add (s : Ps) (c x : Nat) : Ps := ⟨s.p, s.n + 1, upN s.tc s.n c, upN s.tx s.n x⟩
def Ps.go (s : Ps) : Ps := ⟨s.p + 1, s.n, s.tc, s.tx⟩
def Ps.to (s : Ps) (p : Nat) : Ps := ⟨p, s.n, s.tc, s.tx⟩
def isNm (u : Nat) (c : Int32) : Bool := decide (c = nI (nmC u 0)) || (decide (c = nI (nmC u 1)) || decide (c = nI (nmC u 2)))
def nmX (u : Nat) (c : Int32) : Nat := if c = nI (nmC u 0) then 0 else if c = nI (nmC u 1) then 1 else 2
def isDg (c : Int32) : Bool := inB c 48 57
def numF (lk : Nat → Int32) : Nat → Nat → Nat → Nat × Nat
  | 0, v, p => (v, p)
  | f + 1, v, p => if isDg (lk p) then numF lk f (10 * v + (nn (lk p) - 48)) (p + 1) else (v, p)
abbrev Pf : Type := Ps → Bool × Ps
def lpF (lk : Nat → Int32) (sg : Int32 → Bool) (o : Pf) : Nat → Pf
  | 0, s => (true, s)
  | f + 1, s => if sg (lk s.p) then (if (o s.go).1 then lpF lk sg o f ((o s.go).2.add (nn (lk s.p)) 0) else (false, (o s.go).2)) else (true, s)
def sqF (lk : Nat → Int32) (sg : Int32 → Bool) (o : Pf) : Pf := fun s => if (o s).1 then lpF lk sg o 61 (o s).2 else (false, (o s).2)
def sgP (c : Int32) : Bool := decide (c = 42) || (decide (c = 47) || decide (c = 37))
def sgS (c : Int32) : Bool := decide (c = 43) || decide (c = 45)
def sgC (c : Int32) : Bool := decide (c = 60) || (decide (c = 61) || decide (c = 62))
def sgB (c : Int32) : Bool := decide (c = 38)
def sgW (c : Int32) : Bool := decide (c = 124)
def prdF (lk : Nat → Int32) (o : Pf) : Pf := sqF lk sgP o
def smmF (lk : Nat → Int32) (o : Pf) : Pf := sqF lk sgS (prdF lk o)
def cmpF (lk : Nat → Int32) (o : Pf) : Pf := fun s => if (smmF lk o s).1 then (if sgC (lk (smmF lk o s).2.p) then (if (smmF lk o (smmF lk o s).2.go).1 then (true, (smmF lk o (smmF lk o s).2.go).2.add (nn (lk (smmF lk o s).2.p)) 0) else (false, (smmF lk o (smmF lk o s).2.go).2)) else (true, (smmF lk o s).2)) else (false, (smmF lk o s).2)
def bthF (lk : Nat → Int32) (o : Pf) : Pf := sqF lk sgB (cmpF lk o)
def whlF (lk : Nat → Int32) (o : Pf) : Pf := sqF lk sgW (bthF lk o)
def oneF (lk : Nat → Int32) (u : Nat) : Nat → Pf
  | 0, s => if isNm u (lk s.p) then (true, s.go.add 2 (nmX u (lk s.p))) else if isDg (lk s.p) then (true, (s.to (numF lk 4 0 s.p).2).add 1 (numF lk 4 0 s.p).1) else (false, s)
  | d + 1, s => if isNm u (lk s.p) then (true, s.go.add 2 (nmX u (lk s.p))) else if isDg (lk s.p) then (true, (s.to (numF lk 4 0 s.p).2).add 1 (numF lk 4 0 s.p).1)
    else if lk s.p = 33 then (if (oneF lk u d s.go).1 then (true, (oneF lk u d s.go).2.add 3 0) else (false, (oneF lk u d s.go).2))
    else if lk s.p = 40 then (if (whlF lk (oneF lk u d) s.go).1 then (if lk (whlF lk (oneF lk u d) s.go).2.p = 41 then (true, (whlF lk (oneF lk u d) s.go).2.go) else (false, (whlF lk (oneF lk u d) s.go).2)) else (false, (whlF lk (oneF lk u d) s.go).2))
    else (false, s)
def lkM (sa : Nat → Int32) : Nat → Int32 := fun i => if i < nn (sa 3) then sa (290 + i) else -1
theorem lkM_lt {sa : Nat → Int32} {i : Nat} (h : ¬ lkM sa i = -1) : i < nn (sa 3) := by
  unfold lkM at h
  split at h
  · assumption
  · exact absurd rfl h
/-- what holds while a tape of n is read -/
def Pok (n : Nat) (s : Ps) : Prop := s.n ≤ s.p ∧ s.p ≤ n ∧ ∀ k, k < s.n → okS s.tc s.tx k
def PP (n : Nat) (o : Pf) : Prop := ∀ s, Pok n s → (o s).1 = true → Pok n (o s).2 ∧ s.p < (o s).2.p ∧ (o s).2.n + s.p ≤ (o s).2.p + s.n ∧ dpT (o s).2.tc (o s).2.n = dpT s.tc s.n + 1
theorem dpT_c {tc td : Nat → Nat} : ∀ {k : Nat}, (∀ i, i < k → tc i = td i) → dpT tc k = dpT td k
  | 0, _ => rfl
  | k + 1, h => by rw [dpT, dpT, h k (by omega), dpT_c (fun i hi => h i (by omega))]
theorem dpT_up {tc : Nat → Nat} {n c k : Nat} (h : k ≤ n) : dpT (upN tc n c) k = dpT tc k := dpT_c fun i hi => upN_n _ _ (by omega)
theorem okS_c {tc tx td ty : Nat → Nat} {k : Nat} (h : ∀ i, i ≤ k → tc i = td i) (h2 : tx k = ty k) (ho : okS tc tx k) : okS td ty k := by
  unfold okS at ho ⊢
  rw [← h k (Nat.le_refl _), ← h2, ← dpT_c (tc := tc) (td := td) (fun i hi => h i (by omega))]
  exact ho
theorem add_ok {n : Nat} {s : Ps} {c x : Nat} (h : Pok n s) (hp : s.n + 1 ≤ s.p) (hc : okS (upN s.tc s.n c) (upN s.tx s.n x) s.n) : Pok n (s.add c x) := by
  refine ⟨hp, h.2.1, fun k hk => ?_⟩
  have hk' : k < s.n + 1 := hk
  by_cases e : k = s.n
  · subst e; exact hc
  · exact okS_c (fun i hi => (upN_n _ _ (by omega)).symm) (upN_n _ _ e).symm (h.2.2 k (by omega))
theorem okS_v {tc tx : Nat → Nat} {n v : Nat} (h : v < 10000) : okS (upN tc n 1) (upN tx n v) n := Or.inl ⟨upN_s _ _ _, by rw [upN_s]; exact h⟩
theorem okS_n {tc tx : Nat → Nat} {n v : Nat} (h : v < 3) : okS (upN tc n 2) (upN tx n v) n := Or.inr (Or.inl ⟨upN_s _ _ _, by rw [upN_s]; exact h⟩)
theorem okS_t {tc tx : Nat → Nat} {n : Nat} (h : 1 ≤ dpT tc n) : okS (upN tc n 3) (upN tx n 0) n := Or.inr (Or.inr (Or.inl ⟨upN_s _ _ _, by rw [dpT_up (Nat.le_refl _)]; exact h, upN_s _ _ _⟩))
theorem okS_g {tc tx : Nat → Nat} {n c : Nat} (hc : 3 < c ∧ sgn c) (h : 2 ≤ dpT tc n) : okS (upN tc n c) (upN tx n 0) n := Or.inr (Or.inr (Or.inr ⟨by rw [upN_s]; exact hc.1, by rw [upN_s]; exact hc.2, by rw [dpT_up (Nat.le_refl _)]; exact h, upN_s _ _ _⟩))
theorem dpT_v (s : Ps) (c x : Nat) (h : c = 1 ∨ c = 2) : dpT (s.add c x).tc (s.add c x).n = dpT s.tc s.n + 1 := by
  show dpT (upN s.tc s.n c) (s.n + 1) = _
  rw [dpT, upN_s, if_pos h, dpT_up (Nat.le_refl _)]
theorem dpT_t (s : Ps) (x : Nat) : dpT (s.add 3 x).tc (s.add 3 x).n = dpT s.tc s.n := by
  show dpT (upN s.tc s.n 3) (s.n + 1) = _
  rw [dpT, upN_s, if_neg (by omega), if_pos rfl, dpT_up (Nat.le_refl _)]
theorem dpT_g (s : Ps) {c : Nat} (x : Nat) (h : 3 < c) : dpT (s.add c x).tc (s.add c x).n = dpT s.tc s.n - 1 := by
  show dpT (upN s.tc s.n c) (s.n + 1) = _
  rw [dpT, upN_s, if_neg (by omega), if_neg (by omega), dpT_up (Nat.le_refl _)]
/-- signs' bytes -/
def sgOk (sg : Int32 → Bool) : Prop := ∀ c, sg c = true → c = nI (nn c) ∧ 3 < nn c ∧ sgn (nn c)
theorem sgOk_of {c : Int32} {k : Nat} (e : c = nI k) (hk : k < 2147483648) (h : 3 < k ∧ sgn k) : c = nI (nn c) ∧ 3 < nn c ∧ sgn (nn c) := by
  subst e; rw [nn, nn_nI hk]; exact ⟨rfl, h⟩
theorem sgP_ok : sgOk sgP := by
  intro c h
  simp only [sgP, Bool.or_eq_true, decide_eq_true_eq] at h
  rcases h with h | h | h
  · exact sgOk_of (k := 42) h (by decide) ⟨by decide, by unfold sgn; decide⟩
  · exact sgOk_of (k := 47) h (by decide) ⟨by decide, by unfold sgn; decide⟩
  · exact sgOk_of (k := 37) h (by decide) ⟨by decide, by unfold sgn; decide⟩
theorem sgS_ok : sgOk sgS := by
  intro c h
  simp only [sgS, Bool.or_eq_true, decide_eq_true_eq] at h
  rcases h with h | h
  · exact sgOk_of (k := 43) h (by decide) ⟨by decide, by unfold sgn; decide⟩
  · exact sgOk_of (k := 45) h (by decide) ⟨by decide, by unfold sgn; decide⟩
theorem sgC_ok : sgOk sgC := by
  intro c h
  simp only [sgC, Bool.or_eq_true, decide_eq_true_eq] at h
  rcases h with h | h | h
  · exact sgOk_of (k := 60) h (by decide) ⟨by decide, by unfold sgn; decide⟩
  · exact sgOk_of (k := 61) h (by decide) ⟨by decide, by unfold sgn; decide⟩
  · exact sgOk_of (k := 62) h (by decide) ⟨by decide, by unfold sgn; decide⟩
theorem sgB_ok : sgOk sgB := by
  intro c h
  exact sgOk_of (k := 38) (of_decide_eq_true h) (by decide) ⟨by decide, by unfold sgn; decide⟩
theorem sgW_ok : sgOk sgW := by
  intro c h
  exact sgOk_of (k := 124) (of_decide_eq_true h) (by decide) ⟨by decide, by unfold sgn; decide⟩
theorem sgOk.nm1 {sg : Int32 → Bool} (h : sgOk sg) {c : Int32} (hc : sg c = true) : ¬ c = -1 := by
  intro e
  have := (h c hc).2.1
  rw [e] at this
  exact absurd this (by decide)
theorem go_ok {n : Nat} {s : Ps} (h : Pok n s) (hp : s.p < n) : Pok n s.go := ⟨Nat.le_succ_of_le h.1, hp, h.2.2⟩
/-- a sign's step -/
theorem lp_step {n : Nat} {o : Pf} {q : Ps} {c : Nat} (ho : PP n o) (hq : Pok n q) (hd : 1 ≤ dpT q.tc q.n) (hc : 3 < c ∧ sgn c) (hp : q.p < n) (hb : (o q.go).1 = true) :
    Pok n ((o q.go).2.add c 0) ∧ 1 ≤ dpT ((o q.go).2.add c 0).tc ((o q.go).2.add c 0).n ∧ q.p < ((o q.go).2.add c 0).p ∧ ((o q.go).2.add c 0).n + q.p ≤ ((o q.go).2.add c 0).p + q.n ∧ dpT ((o q.go).2.add c 0).tc ((o q.go).2.add c 0).n = dpT q.tc q.n := by
  obtain ⟨h1, h2, h3, h4⟩ := ho q.go (go_ok hq hp) hb
  have h2' : q.p + 1 < (o q.go).2.p := h2
  have h3' : (o q.go).2.n + (q.p + 1) ≤ (o q.go).2.p + q.n := h3
  have h4' : dpT (o q.go).2.tc (o q.go).2.n = dpT q.tc q.n + 1 := h4
  have hn := hq.1
  have hg := dpT_g (o q.go).2 0 hc.1
  refine ⟨add_ok h1 (by omega) (okS_g hc (by omega)), by rw [hg]; omega, ?_, ?_, by rw [hg]; omega⟩
  · show q.p < (o q.go).2.p; omega
  · show (o q.go).2.n + 1 + q.p ≤ (o q.go).2.p + q.n; omega
theorem lpF_pp {lk : Nat → Int32} {n : Nat} {sg : Int32 → Bool} {o : Pf} (hl : ∀ i, ¬ lk i = -1 → i < n) (hs : sgOk sg) (ho : PP n o) : ∀ (f : Nat) (q : Ps), Pok n q → 1 ≤ dpT q.tc q.n → (lpF lk sg o f q).1 = true →
    Pok n (lpF lk sg o f q).2 ∧ q.p ≤ (lpF lk sg o f q).2.p ∧ (lpF lk sg o f q).2.n + q.p ≤ (lpF lk sg o f q).2.p + q.n ∧ dpT (lpF lk sg o f q).2.tc (lpF lk sg o f q).2.n = dpT q.tc q.n
  | 0, q, hq, _, _ => ⟨hq, Nat.le_refl _, by show q.n + q.p ≤ q.p + q.n; omega, rfl⟩
  | f + 1, q, hq, hd, hb => by
    unfold lpF at hb ⊢
    by_cases h1 : sg (lk q.p) = true
    · rw [if_pos h1] at hb ⊢
      by_cases h2 : (o q.go).1 = true
      · rw [if_pos h2] at hb ⊢
        obtain ⟨a1, a2, a3, a4, a5⟩ := lp_step ho hq hd (hs _ h1).2 (hl _ (hs.nm1 h1)) h2
        obtain ⟨b1, b2, b3, b4⟩ := lpF_pp hl hs ho f _ a1 a2 hb
        exact ⟨b1, by omega, by omega, by omega⟩
      · rw [if_neg h2] at hb
        exact absurd hb Bool.false_ne_true
    · rw [if_neg h1]
      exact ⟨hq, Nat.le_refl _, by show q.n + q.p ≤ q.p + q.n; omega, rfl⟩
theorem sqF_pp {lk : Nat → Int32} {n : Nat} {sg : Int32 → Bool} {o : Pf} (hl : ∀ i, ¬ lk i = -1 → i < n) (hs : sgOk sg) (ho : PP n o) : PP n (sqF lk sg o) := by
  intro s h hb
  unfold sqF at hb ⊢
  by_cases h1 : (o s).1 = true
  · rw [if_pos h1] at hb ⊢
    obtain ⟨a1, a2, a3, a4⟩ := ho s h h1
    obtain ⟨b1, b2, b3, b4⟩ := lpF_pp hl hs ho 61 _ a1 (by omega) hb
    exact ⟨b1, by omega, by omega, by omega⟩
  · rw [if_neg h1] at hb
    exact absurd hb Bool.false_ne_true
theorem lin3 {a b c d e f : Nat} (h : a + b ≤ c + d) (h2 : d + e ≤ b + f) : a + e ≤ c + f := by omega
theorem cmpF_pp {lk : Nat → Int32} {n : Nat} {o : Pf} (hl : ∀ i, ¬ lk i = -1 → i < n) (ho : PP n (smmF lk o)) : PP n (cmpF lk o) := by
  intro s h hb
  unfold cmpF at hb ⊢
  by_cases h1 : (smmF lk o s).1 = true
  · rw [if_pos h1] at hb ⊢
    obtain ⟨a1, a2, a3, a4⟩ := ho s h h1
    by_cases h2 : sgC (lk (smmF lk o s).2.p) = true
    · rw [if_pos h2] at hb ⊢
      by_cases h3 : (smmF lk o (smmF lk o s).2.go).1 = true
      · rw [if_pos h3] at hb ⊢
        obtain ⟨b1, b2, b3, b4, b5⟩ := lp_step ho a1 (by omega) (sgC_ok _ h2).2 (hl _ (sgC_ok.nm1 h2)) h3
        exact ⟨b1, Nat.lt_trans a2 b3, lin3 b4 a3, b5.trans a4⟩
      · rw [if_neg h3] at hb
        exact absurd hb Bool.false_ne_true
    · rw [if_neg h2]
      exact ⟨a1, a2, a3, a4⟩
  · rw [if_neg h1] at hb
    exact absurd hb Bool.false_ne_true
theorem numF_p {lk : Nat → Int32} {n : Nat} (hl : ∀ i, ¬ lk i = -1 → i < n) : ∀ (f v p w : Nat), v < w → p ≤ n → (numF lk f v p).1 < w * 10 ^ f ∧ p ≤ (numF lk f v p).2 ∧ (numF lk f v p).2 ≤ n
  | 0, v, p, w, hv, hp => ⟨by simpa [numF] using hv, Nat.le_refl _, hp⟩
  | f + 1, v, p, w, hv, hp => by
    unfold numF
    by_cases h : isDg (lk p) = true
    · rw [if_pos h]
      have h1 := inB_iff.1 h
      have h2 : ¬ lk p = -1 := fun e => absurd h1.1 (by rw [e]; decide)
      have h3 := inB_nn1 (n := 57) h (by decide) (by omega)
      obtain ⟨a1, a2, a3⟩ := numF_p hl f (10 * v + (nn (lk p) - 48)) (p + 1) (10 * w) (by omega) (hl p h2)
      refine ⟨?_, by omega, a3⟩
      rw [Nat.pow_succ, Nat.mul_comm (10 ^ f) 10, ← Nat.mul_assoc, Nat.mul_comm w 10]
      exact a1
    · rw [if_neg h]
      refine ⟨Nat.lt_of_lt_of_le hv ?_, Nat.le_refl _, hp⟩
      exact Nat.le_mul_of_pos_right _ (Nat.pos_of_ne_zero (by simp))
theorem num4 {lk : Nat → Int32} {n p : Nat} (hl : ∀ i, ¬ lk i = -1 → i < n) (h : isDg (lk p) = true) (hp : p ≤ n) : (numF lk 4 0 p).1 < 10000 ∧ p < (numF lk 4 0 p).2 ∧ (numF lk 4 0 p).2 ≤ n := by
  have h1 := inB_iff.1 h
  have h2 : ¬ lk p = -1 := fun e => absurd h1.1 (by rw [e]; decide)
  have h3 := inB_nn1 (n := 57) h (by decide) (by omega)
  unfold numF
  rw [if_pos h]
  obtain ⟨a1, a2, a3⟩ := numF_p hl 3 (10 * 0 + (nn (lk p) - 48)) (p + 1) 10 (by omega) (hl p h2)
  exact ⟨a1, a2, a3⟩
theorem nmX_lt (u : Nat) (c : Int32) : nmX u c < 3 := by unfold nmX; split <;> (try split) <;> omega
theorem isNm_nm1 {u : Nat} {c : Int32} (h : isNm u c = true) : ¬ c = -1 := by
  intro e
  subst e
  revert h
  unfold isNm nmC
  by_cases hu : u = 0
  · subst hu; decide
  · simp only [hu, if_false]; decide
theorem isNm_c {u : Nat} {c : Int32} (h : isNm u c = true) : c = nI (nmC u (nmX u c)) := by
  unfold nmX
  simp only [isNm, Bool.or_eq_true, decide_eq_true_eq] at h
  by_cases h0 : c = nI (nmC u 0)
  · rw [if_pos h0]; exact h0
  · rw [if_neg h0]
    by_cases h1 : c = nI (nmC u 1)
    · rw [if_pos h1]; exact h1
    · rw [if_neg h1]
      exact (h.resolve_left h0).resolve_left h1
theorem one_nm {n : Nat} {s : Ps} {v : Nat} (h : Pok n s) (hp : s.p < n) (hv : v < 3) : Pok n (s.go.add 2 v) ∧ s.p < (s.go.add 2 v).p ∧ (s.go.add 2 v).n + s.p ≤ (s.go.add 2 v).p + s.n ∧ dpT (s.go.add 2 v).tc (s.go.add 2 v).n = dpT s.tc s.n + 1 :=
  ⟨add_ok (go_ok h hp) (Nat.succ_le_succ h.1) (okS_n hv), Nat.lt_succ_self _, by show s.n + 1 + s.p ≤ s.p + 1 + s.n; omega, dpT_v s.go 2 v (Or.inr rfl)⟩
theorem one_v {n : Nat} {s : Ps} {v p : Nat} (h : Pok n s) (hp : s.p < p) (hn : p ≤ n) (hv : v < 10000) : Pok n ((s.to p).add 1 v) ∧ s.p < ((s.to p).add 1 v).p ∧ ((s.to p).add 1 v).n + s.p ≤ ((s.to p).add 1 v).p + s.n ∧ dpT ((s.to p).add 1 v).tc ((s.to p).add 1 v).n = dpT s.tc s.n + 1 := by
  have h1 := h.1
  exact ⟨add_ok (s := s.to p) ⟨by show s.n ≤ p; omega, hn, h.2.2⟩ (by show s.n + 1 ≤ p; omega) (okS_v hv), hp, by show s.n + 1 + s.p ≤ p + s.n; omega, dpT_v (s.to p) 1 v (Or.inl rfl)⟩
theorem oneF_pp {lk : Nat → Int32} {n u : Nat} (hl : ∀ i, ¬ lk i = -1 → i < n) : ∀ d, PP n (oneF lk u d)
  | 0 => by
    intro s h hb
    unfold oneF at hb ⊢
    by_cases h1 : isNm u (lk s.p) = true
    · rw [if_pos h1]
      exact one_nm h (hl _ (isNm_nm1 h1)) (nmX_lt _ _)
    · rw [if_neg h1] at hb ⊢
      by_cases h2 : isDg (lk s.p) = true
      · rw [if_pos h2]
        obtain ⟨a1, a2, a3⟩ := num4 hl h2 h.2.1
        exact one_v h a2 a3 a1
      · rw [if_neg h2] at hb
        exact absurd hb Bool.false_ne_true
  | d + 1 => by
    have ih := oneF_pp (u := u) hl d
    intro s h hb
    unfold oneF at hb ⊢
    by_cases h1 : isNm u (lk s.p) = true
    · rw [if_pos h1]
      exact one_nm h (hl _ (isNm_nm1 h1)) (nmX_lt _ _)
    · rw [if_neg h1] at hb ⊢
      by_cases h2 : isDg (lk s.p) = true
      · rw [if_pos h2]
        obtain ⟨a1, a2, a3⟩ := num4 hl h2 h.2.1
        exact one_v h a2 a3 a1
      · rw [if_neg h2] at hb ⊢
        by_cases h3 : lk s.p = 33
        · rw [if_pos h3] at hb ⊢
          have hp := hl s.p (by rw [h3]; decide)
          by_cases h4 : (oneF lk u d s.go).1 = true
          · rw [if_pos h4] at hb ⊢
            obtain ⟨a1, a2, a3, a4⟩ := ih s.go (go_ok h hp) h4
            have a2' : s.p + 1 < (oneF lk u d s.go).2.p := a2
            have a3' : (oneF lk u d s.go).2.n + (s.p + 1) ≤ (oneF lk u d s.go).2.p + s.n := a3
            have a4' : dpT (oneF lk u d s.go).2.tc (oneF lk u d s.go).2.n = dpT s.tc s.n + 1 := a4
            have hn := h.1
            refine ⟨add_ok a1 (by omega) (okS_t (by omega)), ?_, ?_, by rw [dpT_t]; exact a4'⟩
            · show s.p < (oneF lk u d s.go).2.p; omega
            · show (oneF lk u d s.go).2.n + 1 + s.p ≤ (oneF lk u d s.go).2.p + s.n; omega
          · rw [if_neg h4] at hb
            exact absurd hb Bool.false_ne_true
        · rw [if_neg h3] at hb ⊢
          by_cases h4 : lk s.p = 40
          · rw [if_pos h4] at hb ⊢
            have hp := hl s.p (by rw [h4]; decide)
            by_cases h5 : (whlF lk (oneF lk u d) s.go).1 = true
            · rw [if_pos h5] at hb ⊢
              by_cases h6 : lk (whlF lk (oneF lk u d) s.go).2.p = 41
              · rw [if_pos h6]
                have hw : PP n (whlF lk (oneF lk u d)) := sqF_pp hl sgW_ok (sqF_pp hl sgB_ok (cmpF_pp hl (sqF_pp hl sgS_ok (sqF_pp hl sgP_ok ih))))
                obtain ⟨a1, a2, a3, a4⟩ := hw s.go (go_ok h hp) h5
                have a2' : s.p + 1 < (whlF lk (oneF lk u d) s.go).2.p := a2
                have a3' : (whlF lk (oneF lk u d) s.go).2.n + (s.p + 1) ≤ (whlF lk (oneF lk u d) s.go).2.p + s.n := a3
                refine ⟨go_ok a1 (hl _ (by rw [h6]; decide)), ?_, ?_, a4⟩
                · show s.p < (whlF lk (oneF lk u d) s.go).2.p + 1; omega
                · show (whlF lk (oneF lk u d) s.go).2.n + s.p ≤ (whlF lk (oneF lk u d) s.go).2.p + 1 + s.n; omega
              · rw [if_neg h6] at hb
                exact absurd hb Bool.false_ne_true
            · rw [if_neg h5] at hb
              exact absurd hb Bool.false_ne_true
          · rw [if_neg h4] at hb
            exact absurd hb Bool.false_ne_true
theorem prd_pp {lk : Nat → Int32} {n u d : Nat} (hl : ∀ i, ¬ lk i = -1 → i < n) : PP n (prdF lk (oneF lk u d)) := sqF_pp hl sgP_ok (oneF_pp hl d)
theorem smm_pp {lk : Nat → Int32} {n u d : Nat} (hl : ∀ i, ¬ lk i = -1 → i < n) : PP n (smmF lk (oneF lk u d)) := sqF_pp hl sgS_ok (prd_pp hl)
theorem cmp_pp {lk : Nat → Int32} {n u d : Nat} (hl : ∀ i, ¬ lk i = -1 → i < n) : PP n (cmpF lk (oneF lk u d)) := cmpF_pp hl (smm_pp hl)
theorem bth_pp {lk : Nat → Int32} {n u d : Nat} (hl : ∀ i, ¬ lk i = -1 → i < n) : PP n (bthF lk (oneF lk u d)) := sqF_pp hl sgB_ok (cmp_pp hl)
theorem whl_pp {lk : Nat → Int32} {n u d : Nat} (hl : ∀ i, ¬ lk i = -1 → i < n) : PP n (whlF lk (oneF lk u d)) := sqF_pp hl sgW_ok (bth_pp hl)
theorem lpF_f {lk : Nat → Int32} {sg : Int32 → Bool} {o : Pf} {f : Nat} {q : Ps} (h : sg (lk q.p) = false) : lpF lk sg o f q = (true, q) := by
  cases f with
  | zero => rfl
  | succ f => rw [lpF, if_neg (by rw [h]; decide)]
theorem lpF_n {lk : Nat → Int32} {sg : Int32 → Bool} {o : Pf} {f : Nat} {q : Ps} (h : sg (lk q.p) = true) (h2 : ¬ (o q.go).1 = true) : lpF lk sg o (f + 1) q = (false, (o q.go).2) := by rw [lpF, if_pos h, if_neg h2]
theorem lpF_t {lk : Nat → Int32} {sg : Int32 → Bool} {o : Pf} {f : Nat} {q : Ps} (h : sg (lk q.p) = true) (h2 : (o q.go).1 = true) : lpF lk sg o (f + 1) q = lpF lk sg o f ((o q.go).2.add (nn (lk q.p)) 0) := by rw [lpF, if_pos h, if_pos h2]
theorem numF_s {lk : Nat → Int32} {v p k : Nat} (h : isDg (lk p) = true) (hk : k < 4) : numF lk (4 - k) v p = numF lk (4 - (k + 1)) (10 * v + (nn (lk p) - 48)) (p + 1) := by
  rw [show 4 - k = (4 - (k + 1)) + 1 by omega, numF, if_pos h]
theorem numF_e {lk : Nat → Int32} {v p f : Nat} (h : f = 0 ∨ ¬ isDg (lk p) = true) : numF lk f v p = (v, p) := by
  cases f with
  | zero => rfl
  | succ f => rw [numF, if_neg (h.resolve_left (by omega))]
/-- the reference's steps -/
def MP (u : Nat) (s : Ps) (g : Nat → Int32) : Prop := ∀ k, k < s.n → g (2 * k) = mw (s.tc k) ∧ g (2 * k + 1) = mxv u (s.tc k) (s.tx k)
theorem MP_add {u : Nat} {s : Ps} {g : Nat → Int32} {c x : Nat} {v w : Int32} (h : MP u s g) (hv : v = mw c) (hw : w = mxv u c x) : MP u (s.add c x) (upd (upd g (2 * s.n) v) (2 * s.n + 1) w) := by
  intro k hk
  have hk' : k < s.n + 1 := hk
  show upd (upd g (2 * s.n) v) (2 * s.n + 1) w (2 * k) = mw (upN s.tc s.n c k) ∧ upd (upd g (2 * s.n) v) (2 * s.n + 1) w (2 * k + 1) = mxv u (upN s.tc s.n c k) (upN s.tx s.n x k)
  by_cases e : k = s.n
  · subst e
    rw [upN_s, upN_s, upd_s, upd_n _ _ (by omega), upd_s]
    exact ⟨hv, hw⟩
  · rw [upN_n _ _ e, upN_n _ _ e, upd_n _ _ (by omega), upd_n _ _ (by omega), upd_n _ _ (by omega), upd_n _ _ (by omega)]
    exact h k (by omega)
theorem MP_sg {u : Nat} {s : Ps} {g : Nat → Int32} {c : Int32} (h : MP u s g) (hc : c = nI (nn c) ∧ 3 < nn c ∧ sgn (nn c)) : MP u (s.add (nn c) 0) (upd (upd g (2 * s.n) 3) (2 * s.n + 1) c) :=
  MP_add h (by unfold mw; rw [if_neg (by omega), if_neg (by omega), if_neg (by omega)]) (by unfold mxv; rw [if_neg (by omega), if_neg (by omega), if_neg (by omega)]; exact hc.1)
theorem Pok.le60 {n : Nat} {s : Ps} (h : Pok n s) (hn : n ≤ 60) : s.p ≤ 60 ∧ s.n ≤ 60 := ⟨Nat.le_trans h.2.1 hn, Nat.le_trans h.1 (Nat.le_trans h.2.1 hn)⟩
