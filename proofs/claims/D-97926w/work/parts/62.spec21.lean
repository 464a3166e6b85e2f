/-! X's READER -/
theorem ishr0 (x : Int32) : x >>> ((0 : Int32) &&& 31) = x := by
  apply Int32.toBitVec_inj.1
  simp
theorem mn_self (x : Int32) : mn_i x x = x := by unfold mn_i; split <;> rfl
theorem fz_le3 : ∀ i, i < 5 → fz_len.getD i 0 ≤ 3 := by decide
/-- the byte of a String constant -/
abbrev bS (i k : Nat) : Int32 := (fz_byt.getD i []).getD k 0
def IXs (i : Nat) (c r : Int32) : Prop := (r = -1 ∧ ∀ j, j < fz_len.getD i 0 → ¬ bS i j = c) ∨ ∃ j, j < fz_len.getD i 0 ∧ r = nI j ∧ bS i j = c ∧ ∀ k, k < j → ¬ bS i k = c
def inS (i : Nat) (c : Int32) : Bool := (fz_byt.getD i []).any (fun b => decide (c = b))
theorem inS_2 (c : Int32) : inS 2 c = sgC c := by simp [inS, fz_byt, sgC]
theorem inS_3 (c : Int32) : inS 3 c = sgS c := by simp [inS, fz_byt, sgS]
theorem inS_4 (c : Int32) : inS 4 c = sgP c := by simp [inS, fz_byt, sgP]
theorem inS_u {u : Nat} (hu : u < 2) (c : Int32) : inS u c = isNm u c := by
  rcases (show u = 0 ∨ u = 1 by omega) with rfl | rfl
  · rw [isNm_0]; simp [inS, fz_byt]
  · rw [isNm_1 (by decide)]; simp [inS, fz_byt]
theorem inS_b {i : Nat} {c : Int32} (hi : i < 5) : inS i c = true ↔ ∃ j, j < fz_len.getD i 0 ∧ bS i j = c := by
  rcases (show i = 0 ∨ i = 1 ∨ i = 2 ∨ i = 3 ∨ i = 4 by omega) with rfl | rfl | rfl | rfl | rfl <;>
  simp only [inS, fz_byt, List.getD_cons_zero, List.getD_cons_succ, List.any_cons, List.any_nil, Bool.or_false, Bool.or_eq_true, decide_eq_true_eq, fz_len, bS]
  all_goals
    constructor
    · intro h
      first
        | (rcases h with h | h | h
           · exact ⟨0, by decide, h.symm⟩
           · exact ⟨1, by decide, h.symm⟩
           · exact ⟨2, by decide, h.symm⟩)
        | (rcases h with h | h
           · exact ⟨0, by decide, h.symm⟩
           · exact ⟨1, by decide, h.symm⟩)
    · rintro ⟨j, hj, e⟩
      first
        | (rcases (show j = 0 ∨ j = 1 ∨ j = 2 by omega) with rfl | rfl | rfl
           · exact Or.inl e.symm
           · exact Or.inr (Or.inl e.symm)
           · exact Or.inr (Or.inr e.symm))
        | (rcases (show j = 0 ∨ j = 1 by omega) with rfl | rfl
           · exact Or.inl e.symm
           · exact Or.inr e.symm)
theorem IXs_in {i : Nat} {c r : Int32} (hi : i < 5) (h : IXs i c r) : (¬ r < 0) ↔ inS i c = true := by
  rw [inS_b hi]
  rcases h with ⟨h1, h2⟩ | ⟨j, h1, h2, h3, -⟩
  · subst h1
    exact ⟨fun q => absurd (by decide) q, fun ⟨j, hj, e⟩ => absurd e (h2 j hj)⟩
  · subst h2
    have := fz_le3 i hi
    exact ⟨fun _ => ⟨j, h1, h3⟩, fun _ => nI_pos (by omega)⟩
/-- a name's place -/
theorem IXs_nm {u : Nat} {c r : Int32} (hu : u < 2) (h : IXs u c r) (hn : isNm u c = true) : r = nI (nmX u c) := by
  have h0 : ¬ r < 0 := (IXs_in (by omega) h).2 (by rw [inS_u hu]; exact hn)
  rcases h with ⟨h1, h2⟩ | ⟨j, h1, h2, h3, h4⟩
  · subst h1; exact absurd (by decide) h0
  · subst h2
    have h5 : fz_len.getD u 0 = 3 := by rcases (show u = 0 ∨ u = 1 by omega) with rfl | rfl <;> rfl
    rw [h5] at h1
    have e0 : bS u 0 = nI (nmC u 0) := by rcases (show u = 0 ∨ u = 1 by omega) with rfl | rfl <;> rfl
    have e1 : bS u 1 = nI (nmC u 1) := by rcases (show u = 0 ∨ u = 1 by omega) with rfl | rfl <;> rfl
    unfold nmX
    rcases (show j = 0 ∨ j = 1 ∨ j = 2 by omega) with rfl | rfl | rfl
    · rw [if_pos (h3.symm.trans e0)]
    · rw [if_neg (fun e => h4 0 (by omega) (e0.trans e.symm)), if_pos (h3.symm.trans e1)]
    · rw [if_neg (fun e => h4 0 (by omega) (e0.trans e.symm)), if_neg (fun e => h4 1 (by omega) (e1.trans e.symm))]
/-- X's tape: bytes -/
def lkX (sa : Nat → Int32) : Nat → Int32 := fun i => if i < nn (sa 3) then (sa (290 + i)).toInt8.toInt32 else -1
theorem lkXH {sa : Nat → Int32} : ∀ i, ¬ lkX sa i = -1 → i < nn (sa 3) := by
  intro i h
  unfold lkX at h
  split at h
  · assumption
  · exact absurd rfl h
theorem i8_nat {x : Int32} (h : ¬ x.toInt8.toInt32 < 0) : ∃ n, n < 128 ∧ x.toInt8.toInt32 = nI n := by
  obtain ⟨n, hn, e⟩ := nI_of h
  refine ⟨n, ?_, e⟩
  have h1 : x.toInt8.toInt32.toInt = (n : Int) := by rw [e]; exact nI_toInt hn
  rw [Int8.toInt_toInt32] at h1
  have h2 := Int8.toInt_lt x.toInt8
  omega
theorem lkX_nat {sa : Nat → Int32} {i : Nat} (h : ¬ lkX sa i < 0) : ∃ n, n < 128 ∧ lkX sa i = nI n := by
  unfold lkX at h ⊢
  split at h
  · rename_i h1
    rw [if_pos h1]
    exact i8_nat h
  · exact absurd (by decide) h
theorem lkX_nn {sa : Nat → Int32} {i : Nat} (h : ¬ lkX sa i < 0) : lkX sa i = nI (nn (lkX sa i)) ∧ nn (lkX sa i) < 128 := by
  obtain ⟨n, h1, h2⟩ := lkX_nat h
  rw [h2, nn, nn_nI (by omega)]
  exact ⟨rfl, h1⟩
/-- what is read, beside X's two rows -/
def TP (s : Ps) (f g : Nat → Int32) : Prop := ∀ k, k < s.n → f k = nI (s.tc k) ∧ g k = nI (s.tx k)
theorem TP_add {s : Ps} {f g : Nat → Int32} {c x : Nat} (h : TP s f g) : TP (s.add c x) (upd f s.n (nI c)) (upd g s.n (nI x)) := by
  intro k hk
  have hk' : k < s.n + 1 := hk
  show upd f s.n (nI c) k = nI (upN s.tc s.n c k) ∧ upd g s.n (nI x) k = nI (upN s.tx s.n x k)
  by_cases e : k = s.n
  · subst e
    rw [upN_s, upN_s, upd_s, upd_s]
    exact ⟨rfl, rfl⟩
  · rw [upN_n _ _ e, upN_n _ _ e, upd_n _ _ e, upd_n _ _ e]
    exact h k (by omega)
theorem Ps0_TP (f g : Nat → Int32) : TP Ps0 f g := fun k hk => absurd hk (Nat.not_lt_zero _)
theorem fit16 {v : Int32} {n : Nat} (h : v = nI n) (hn : n < 32768) : v.toInt16.toInt32 = v := by
  subst h
  apply Int32.toInt_inj.1
  rw [Int16.toInt_toInt32, Int32.toInt_toInt16, nI_toInt (by omega)]
  exact Int.bmod_eq_of_le (by omega) (by omega)
theorem sgn_c {c : Int32} {sg : Int32 → Bool} (hs : sgOk sg) (h : sg c = true) : nn c < 128 := by
  have := sgn_lt (hs c h).2.2
  omega
/-- chars that bear on nothing -/
def clC (c : Int32) : Int32 := if inB c 0 127 = true then c else -1
theorem clC_eq {c : Int32} {k : Nat} (hk : k < 128) : clC c = nI k ↔ c = nI k := by
  unfold clC
  by_cases h : inB c 0 127 = true
  · rw [if_pos h]
  · rw [if_neg h]
    constructor
    · intro e
      exact absurd e.symm (nI_ne_m1 (by omega))
    · intro e
      subst e
      exact absurd (nI_inB (a := 0) (b := 127) (by omega) (by omega) (by omega)) h
theorem clC_d {c : Int32} {k : Nat} (hk : k < 128) : decide (clC c = nI k) = decide (c = nI k) := decide_eq_decide.2 (clC_eq hk)
theorem clC_id {c : Int32} (h : inB c 0 127 = true) : clC c = c := if_pos h
theorem clC_dg (c : Int32) : isDg (clC c) = isDg c := by
  unfold isDg
  by_cases h : inB c 0 127 = true
  · rw [clC_id h]
  · have h1 : ¬ inB c 48 57 = true := fun q => h (inB_iff.2 ⟨Int32.le_trans (by decide) (inB_iff.1 q).1, Int32.le_trans (inB_iff.1 q).2 (by decide)⟩)
    rw [Bool.eq_false_iff.2 h1, clC, if_neg h]
    decide
theorem clC_nm (u : Nat) (c : Int32) : isNm u (clC c) = isNm u c := by
  unfold isNm
  rw [decide_eq_decide.2 (clC_eq (nmC_lt u 0)), decide_eq_decide.2 (clC_eq (nmC_lt u 1)), decide_eq_decide.2 (clC_eq (nmC_lt u 2))]
theorem clC_P (c : Int32) : sgP (clC c) = sgP c := by
  have h42 : decide (clC c = 42) = decide (c = 42) := clC_d (k := 42) (by decide)
  have h47 : decide (clC c = 47) = decide (c = 47) := clC_d (k := 47) (by decide)
  have h37 : decide (clC c = 37) = decide (c = 37) := clC_d (k := 37) (by decide)
  unfold sgP
  rw [h42, h47, h37]
theorem clC_S (c : Int32) : sgS (clC c) = sgS c := by
  have h43 : decide (clC c = 43) = decide (c = 43) := clC_d (k := 43) (by decide)
  have h45 : decide (clC c = 45) = decide (c = 45) := clC_d (k := 45) (by decide)
  unfold sgS
  rw [h43, h45]
theorem clC_C (c : Int32) : sgC (clC c) = sgC c := by
  have h60 : decide (clC c = 60) = decide (c = 60) := clC_d (k := 60) (by decide)
  have h61 : decide (clC c = 61) = decide (c = 61) := clC_d (k := 61) (by decide)
  have h62 : decide (clC c = 62) = decide (c = 62) := clC_d (k := 62) (by decide)
  unfold sgC
  rw [h60, h61, h62]
theorem clC_B (c : Int32) : sgB (clC c) = sgB c := by
  have h38 : decide (clC c = 38) = decide (c = 38) := clC_d (k := 38) (by decide)
  unfold sgB
  rw [h38]
theorem clC_W (c : Int32) : sgW (clC c) = sgW c := by
  have h124 : decide (clC c = 124) = decide (c = 124) := clC_d (k := 124) (by decide)
  unfold sgW
  rw [h124]
theorem in127c {c : Int32} {k : Nat} (h : c = nI k) (hk : k < 128) : inB c 0 127 = true := by
  subst h
  exact nI_inB (a := 0) (b := 127) (by omega) (by omega) (by omega)
theorem sgOk.in127 {sg : Int32 → Bool} (hs : sgOk sg) {c : Int32} (h : sg c = true) : inB c 0 127 = true := in127c (hs c h).1 (by have := sgn_lt (hs c h).2.2; omega)
theorem lpF_cl {lk : Nat → Int32} {sg : Int32 → Bool} (hs : sgOk sg) (hc : ∀ c, sg (clC c) = sg c) (o : Pf) : ∀ (f : Nat) (q : Ps), lpF (fun i => clC (lk i)) sg o f q = lpF lk sg o f q
  | 0, _ => rfl
  | f + 1, q => by
    unfold lpF
    rw [hc (lk q.p)]
    by_cases h : sg (lk q.p) = true
    · rw [if_pos h, if_pos h, clC_id (hs.in127 h)]
      by_cases h2 : (o q.go).1 = true
      · rw [if_pos h2, if_pos h2]
        exact lpF_cl hs hc o f _
      · rw [if_neg h2, if_neg h2]
    · rw [if_neg h, if_neg h]
theorem sqF_cl {lk : Nat → Int32} {sg : Int32 → Bool} (hs : sgOk sg) (hc : ∀ c, sg (clC c) = sg c) (o : Pf) : sqF (fun i => clC (lk i)) sg o = sqF lk sg o := by
  funext s
  unfold sqF
  by_cases h : (o s).1 = true
  · rw [if_pos h, if_pos h]; exact lpF_cl hs hc o 61 _
  · rw [if_neg h, if_neg h]
theorem smmF_cl {lk : Nat → Int32} (o : Pf) : smmF (fun i => clC (lk i)) o = smmF lk o := by
  unfold smmF prdF
  rw [sqF_cl sgP_ok clC_P, sqF_cl sgS_ok clC_S]
theorem cmpF_cl {lk : Nat → Int32} (o : Pf) : cmpF (fun i => clC (lk i)) o = cmpF lk o := by
  funext s
  unfold cmpF
  rw [smmF_cl]
  by_cases h : (smmF lk o s).1 = true
  · rw [if_pos h, if_pos h, clC_C]
    by_cases h2 : sgC (lk (smmF lk o s).2.p) = true
    · rw [if_pos h2, if_pos h2]
      simp only [clC_id (sgC_ok.in127 h2)]
    · rw [if_neg h2, if_neg h2]
  · rw [if_neg h, if_neg h]
theorem whlF_cl {lk : Nat → Int32} (o : Pf) : whlF (fun i => clC (lk i)) o = whlF lk o := by
  unfold whlF bthF
  rw [cmpF_cl, sqF_cl sgB_ok clC_B, sqF_cl sgW_ok clC_W]
theorem numF_cl {lk : Nat → Int32} : ∀ (f v p : Nat), numF (fun i => clC (lk i)) f v p = numF lk f v p
  | 0, _, _ => rfl
  | f + 1, v, p => by
    unfold numF
    rw [clC_dg]
    by_cases h : isDg (lk p) = true
    · have hd := dg_nat h
      rw [if_pos h, if_pos h, clC_id (in127c hd.1 (by have := hd.2.2; omega))]
      exact numF_cl f _ _
    · rw [if_neg h, if_neg h]
theorem oneF_cl {lk : Nat → Int32} {u : Nat} : ∀ d, oneF (fun i => clC (lk i)) u d = oneF lk u d
  | 0 => by
    funext s
    unfold oneF
    rw [clC_nm, clC_dg, numF_cl]
    by_cases h : isNm u (lk s.p) = true
    · rw [if_pos h, if_pos h, clC_id (in127c (isNm_c h) (nmC_lt _ _))]
    · rw [if_neg h, if_neg h]
  | d + 1 => by
    have ih := oneF_cl (lk := lk) (u := u) d
    funext s
    unfold oneF
    rw [clC_nm, clC_dg, numF_cl, ih, whlF_cl]
    by_cases h : isNm u (lk s.p) = true
    · rw [if_pos h, if_pos h, clC_id (in127c (isNm_c h) (nmC_lt _ _))]
    · rw [if_neg h, if_neg h]
      have e1 : (clC (lk s.p) = 33) = (lk s.p = 33) := propext (clC_eq (k := 33) (by decide))
      have e2 : (clC (lk s.p) = 40) = (lk s.p = 40) := propext (clC_eq (k := 40) (by decide))
      have e3 : (clC (lk (whlF lk (oneF lk u d) s.go).2.p) = 41) = (lk (whlF lk (oneF lk u d) s.go).2.p = 41) := propext (clC_eq (k := 41) (by decide))
      simp only [e1, e2, e3]
/-- a byte of the reference's tape -/
def BY (sa : Nat → Int32) : Prop := ∀ i, i < 60 → inB (sa (290 + i)) 0 255 = true
theorem clC_by {x : Int32} (h : inB x 0 255 = true) : clC (x.toInt8.toInt32) = clC x := by
  obtain ⟨n, hn, rfl⟩ := inB_nat (n := 255) h (by omega)
  rcases Nat.lt_or_ge n 128 with h1 | h1
  · rw [fit8 rfl h1]
  · have e1 : ¬ inB (nI n) 0 127 = true := fun q => by
      have := (inB_nn (n := 127) q (by omega)).2
      rw [nn, nn_nI (by omega)] at this
      omega
    have e2 : ¬ inB (nI n).toInt8.toInt32 0 127 = true := fun q => by
      have h2 := (inB_iff.1 q).1
      rw [Int32.le_iff_toInt_le, Int8.toInt_toInt32, Int32.toInt_toInt8, nI_toInt (by omega)] at h2
      have e3 : (0 : Int32).toInt = 0 := by decide
      rw [e3, Int.bmod_def] at h2
      split at h2 <;> omega
    rw [clC, clC, if_neg e1, if_neg e2]
theorem lk_cl {sa : Nat → Int32} (h : BY sa) (ht : nn (sa 3) ≤ 60) : (fun i => clC (lkX sa i)) = (fun i => clC (lkM sa i)) := by
  funext i
  unfold lkX lkM
  by_cases hi : i < nn (sa 3)
  · rw [if_pos hi, if_pos hi]; exact clC_by (h i (by omega))
  · rw [if_neg hi, if_neg hi]
/-- X's reading is the reference's -/
def rdX (sa : Nat → Int32) (u : Nat) : Bool × Ps := whlF (lkX sa) (oneF (lkX sa) u 5) Ps0
theorem rdX_M {sa : Nat → Int32} {u : Nat} (h : BY sa) (ht : nn (sa 3) ≤ 60) : rdX sa u = rdF sa u := by
  unfold rdX rdF
  rw [← oneF_cl (lk := lkX sa), ← oneF_cl (lk := lkM sa), ← whlF_cl (lk := lkX sa), ← whlF_cl (lk := lkM sa), lk_cl h ht]
theorem inS_neg {i : Nat} {c : Int32} (hi : i < 5) (h : c < 0) : ¬ inS i c = true := by
  rw [inS_b hi]
  rintro ⟨j, hj, e⟩
  have h3 := fz_le3 i hi
  subst e
  rcases (show i = 0 ∨ i = 1 ∨ i = 2 ∨ i = 3 ∨ i = 4 by omega) with rfl | rfl | rfl | rfl | rfl <;>
  rcases (show j = 0 ∨ j = 1 ∨ j = 2 by omega) with rfl | rfl | rfl <;> exact absurd h (by decide)
theorem nm33 (u : Nat) : ¬ isNm u 33 = true := by
  by_cases h : u = 0
  · subst h; decide
  · rw [isNm_1 h]; decide
theorem nm40 (u : Nat) : ¬ isNm u 40 = true := by
  by_cases h : u = 0
  · subst h; decide
  · rw [isNm_1 h]; decide
