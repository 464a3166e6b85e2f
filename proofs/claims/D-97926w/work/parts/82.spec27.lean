/-! THE LAW: sheets, and the pool of cells -/
def SInv (E : fx_En) (PL : va_W) (bt sz nu : Nat → Int32) (sh : Nat → Option Nat) : Prop :=
  (InvS bt sz ∧ SHS E PL bt sz nu sh) ∧ (∀ k j, k < 4 → j < 4 → k ≠ j → ∀ a, sh k = some a → ¬ sh j = some a) ∧
  ∀ k, k < 4 → ∀ t, t < nn (sz k) → (bt k = 8 → (nu (24 * k + t)).toInt8.toInt32 = nu (24 * k + t)) ∧ (bt k = 16 → (nu (24 * k + t)).toInt16.toInt32 = nu (24 * k + t))
theorem va_P_mem {D : va_G} {cl : List vw_C} {ws ws' : va_W} {H : Heap} (h : ∀ q ∈ ws', q ∈ ws) (hP : va_P D cl ws H) : va_P D cl ws' H := by
  intro k q hk
  obtain ⟨j, hj⟩ := List.getElem?_of_mem (h q (List.mem_of_getElem? hk))
  exact hP j q hj
theorem va_D_pw {A : Nat → Prop} {ws : va_W} (hD : va_D A ws) : ws.Pairwise (fun p q => p.1 ≠ q.1) := by
  rw [List.pairwise_iff_getElem]
  intro i j hi hj hij e
  have := hD.1 i j _ _ (List.getElem?_eq_getElem hi) (List.getElem?_eq_getElem hj) e
  omega
theorem va_D_of {A : Nat → Prop} {ws : va_W} (hp : ws.Pairwise (fun p q => p.1 ≠ q.1)) (hA : ∀ q ∈ ws, A q.1) : va_D A ws := by
  rw [List.pairwise_iff_getElem] at hp
  refine ⟨fun i j p q hi hj e => ?_, fun k q hk => hA q (List.mem_of_getElem? hk)⟩
  obtain ⟨h1, rfl⟩ := List.getElem?_eq_some_iff.mp hi
  obtain ⟨h2, rfl⟩ := List.getElem?_eq_some_iff.mp hj
  rcases Nat.lt_trichotomy i j with h | h | h
  · exact absurd e (hp i j h1 h2 h)
  · exact h
  · exact absurd e.symm (hp j i h2 h1 h)
theorem va_D_mem {A : Nat → Prop} {ws : va_W} (hD : va_D A ws) : ∀ q ∈ ws, A q.1 := fun q hq => by
  obtain ⟨j, hj⟩ := List.getElem?_of_mem hq
  exact hD.2 j q hj
theorem va_D_perm {A : Nat → Prop} {ws ws' : va_W} (hp : ws.Perm ws') (hD : va_D A ws) : va_D A ws' :=
  va_D_of ((hp.pairwise_iff (fun h => Ne.symm h)).1 (va_D_pw hD)) (fun q hq => va_D_mem hD q (hp.mem_iff.2 hq))
theorem pool_perm {LW P1 P2 : va_W} {c : Nat × va_E} : (LW ++ (P1 ++ c :: P2)).Perm ((LW ++ [c]) ++ (P1 ++ P2)) := by
  rw [List.append_assoc]
  exact List.perm_middle.append_left LW
theorem pool_P {D : va_G} {cl : List vw_C} {LW P1 P2 : va_W} {c : Nat × va_E} {H : Heap} (hP : va_P D cl (LW ++ (P1 ++ c :: P2)) H) : va_P D cl ((LW ++ [c]) ++ (P1 ++ P2)) H := va_P_mem (fun q hq => pool_perm.mem_iff.2 hq) hP
theorem pool_D {A : Nat → Prop} {LW P1 P2 : va_W} {c : Nat × va_E} (hD : va_D A (LW ++ (P1 ++ c :: P2))) : va_D A ((LW ++ [c]) ++ (P1 ++ P2)) := va_D_perm pool_perm hD
theorem pool_mem {P1 P2 : va_W} {c c' q : Nat × va_E} (h : q ∈ P1 ++ c :: P2) (hne : q ≠ c) : q ∈ c' :: (P1 ++ P2) := by
  rcases List.mem_append.mp h with h | h
  · exact List.mem_cons_of_mem _ (List.mem_append_left _ h)
  · rcases List.mem_cons.mp h with h | h
    · exact absurd h hne
    · exact List.mem_cons_of_mem _ (List.mem_append_right _ h)
theorem fresh_of {A : Nat → Prop} {LW PL nw : va_W} (hD : va_D A (LW ++ (PL ++ nw))) : ∀ q ∈ PL, ∀ c ∈ nw, q.1 ≠ c.1 := by
  have h1 := (List.pairwise_append.mp (va_D_pw hD)).2.1
  exact (List.pairwise_append.mp h1).2.2
theorem apart_of {A : Nat → Prop} {LW PL : va_W} (hD : va_D A (LW ++ PL)) {p q : Nat × va_E} (hp : p ∈ PL) (hq : q ∈ PL) (e : p.1 = q.1) : p = q := by
  obtain ⟨i, hi⟩ := List.getElem?_of_mem (List.mem_append_right LW hp)
  obtain ⟨j, hj⟩ := List.getElem?_of_mem (List.mem_append_right LW hq)
  have := hD.1 i j _ _ hi hj e
  subst this
  exact Option.some.inj (hi.symm.trans hj)
section LAWS
variable {E : fx_En} {PL PL' P1 P2 : va_W} {bt sz nu sa er : Nat → Int32} {sh : Nat → Option Nat} {T T1 : Tx}
theorem SHS_m (h : ∀ q ∈ PL, q ∈ PL') (x : SHS E PL bt sz nu sh) : SHS E PL' bt sz nu sh := by
  intro k hk
  rcases x k hk with h1 | ⟨a, f, h1, h2, ⟨h3, h4⟩ | ⟨h3, h4⟩ | ⟨h3, h4⟩⟩
  · exact Or.inl h1
  · exact Or.inr ⟨a, f, h1, h2, Or.inl ⟨h3, h _ h4⟩⟩
  · exact Or.inr ⟨a, f, h1, h2, Or.inr (Or.inl ⟨h3, h _ h4⟩)⟩
  · exact Or.inr ⟨a, f, h1, h2, Or.inr (Or.inr ⟨h3, h _ h4⟩)⟩
theorem SInv_m (h : ∀ q ∈ PL, q ∈ PL') (x : SInv E PL bt sz nu sh) : SInv E PL' bt sz nu sh := ⟨⟨x.1.1, SHS_m h x.1.2⟩, x.2⟩
theorem XH_pool {c c' : Nat × va_E} {t n : Nat} {f : Nat → Int32} {tk cs gs zz tp wg : Int32} {pr co st0 ft wt : Nat → Int32} {tx : Nat → Option Nat} {tl : Nat → Nat} (hc : c.2 = .inl (E.2 t, n, .inl f)) (hn : n ≤ 24)
    (x : XH E (P1 ++ c :: P2) sa T T1 tk cs gs zz tp wg pr co st0 ft wt tx tl) : XH E (c' :: (P1 ++ P2)) sa T T1 tk cs gs zz tp wg pr co st0 ft wt tx tl := by
  have ho : ∀ {a : Nat} {o : Nat × List Value}, (a, .inr o) ∈ P1 ++ c :: P2 → (a, .inr o) ∈ c' :: (P1 ++ P2) := fun h => pool_mem h (fun e => by rw [← e] at hc; cases hc)
  have ha : ∀ {a k : Nat} {g : Nat → Int32}, (a, .inl (E.2 k, 60, .inl g)) ∈ P1 ++ c :: P2 → (a, .inl (E.2 k, 60, .inl g)) ∈ c' :: (P1 ++ P2) := fun h => pool_mem h (fun e => by
    rw [← e] at hc
    have h1 := Sum.inl.inj hc
    have h2 : 60 = n := congrArg (fun z => z.2.1) h1
    omega)
  have hx : ∀ {o : Option Nat} {T : Tx}, TXs E (P1 ++ c :: P2) o T → TXs E (c' :: (P1 ++ P2)) o T := by
    intro o T h
    rcases h with q | ⟨a, b, d, f, g, h1, h2, h3, h4, h5, h6⟩
    · exact Or.inl q
    · exact Or.inr ⟨a, b, d, f, g, h1, h2, ho h3, ha h4, ha h5, h6⟩
  exact ⟨x.1, x.2.1, ⟨hx x.2.2.1.1, hx x.2.2.1.2⟩, fun k hk => ho (x.2.2.2 k hk)⟩
/-- one sheet's numbers are written -/
theorem SInv_w {nu2 rf2 : Nat → Int32} {k ra t : Nat} {b : Int32} (hS : SInv E PL bt sz nu sh) (hk : k < 4) (hs : sh k = some ra) (hb : bt k = b) (htb : t = 1 ∧ b = 8 ∨ t = 2 ∧ b = 16 ∨ t = 0 ∧ b = 32) (hPL : ∀ q ∈ PL, q.1 ≠ ra → q ∈ PL') (hc : (ra, .inl (E.2 t, nn (sz k), .inl rf2)) ∈ PL')
    (hnu : ∀ j, j < 4 → j ≠ k → ∀ t, t < 24 → nu2 (24 * j + t) = nu (24 * j + t)) (hrf : ∀ t, t < nn (sz k) → rf2 t = nu2 (24 * k + t)) (hfit : ∀ t, t < nn (sz k) → (bt k = 8 → (nu2 (24 * k + t)).toInt8.toInt32 = nu2 (24 * k + t)) ∧ (bt k = 16 → (nu2 (24 * k + t)).toInt16.toInt32 = nu2 (24 * k + t))) : SInv E PL' bt sz nu2 sh := by
  obtain ⟨⟨h1, h2⟩, h3, h4⟩ := hS
  refine ⟨⟨h1, fun j hj => ?_⟩, h3, fun j hj q hq => ?_⟩
  · by_cases e : j = k
    · subst e
      refine Or.inr ⟨ra, rf2, hs, hrf, ?_⟩
      rcases htb with ⟨e1, e2⟩ | ⟨e1, e2⟩ | ⟨e1, e2⟩ <;> subst e1 <;> subst e2
      · exact Or.inl ⟨hb, hc⟩
      · exact Or.inr (Or.inl ⟨hb, hc⟩)
      · exact Or.inr (Or.inr ⟨hb, hc⟩)
    · have h24 := (h1.sz hj).2
      rcases h2 j hj with g | ⟨a, f, g1, g2, g3⟩
      · exact Or.inl g
      · have hne : a ≠ ra := fun q => h3 j k hj hk e a g1 (by rw [q]; exact hs)
        refine Or.inr ⟨a, f, g1, fun i hi => by rw [hnu j hj e i (by omega)]; exact g2 i hi, ?_⟩
        rcases g3 with ⟨g4, g5⟩ | ⟨g4, g5⟩ | ⟨g4, g5⟩
        · exact Or.inl ⟨g4, hPL _ g5 hne⟩
        · exact Or.inr (Or.inl ⟨g4, hPL _ g5 hne⟩)
        · exact Or.inr (Or.inr ⟨g4, hPL _ g5 hne⟩)
  · by_cases e : j = k
    · subst e; exact hfit q hq
    · have h24 := (h1.sz hj).2
      rw [hnu j hj e q (by omega)]; exact h4 j hj q hq
theorem pv_fit {b v : Int32} : (b = 8 → (pvF b v).toInt8.toInt32 = pvF b v) ∧ (b = 16 → (pvF b v).toInt16.toInt32 = pvF b v) := by
  refine ⟨fun e => ?_, fun e => ?_⟩
  · subst e; rw [pvF8]; exact pk_bidem _
  · subst e; rw [pvF16]; exact pk_sidem _
theorem put_l {sheet i v : Int32} (hS : SInv E PL bt sz nu sh) (hin : inB sheet 0 3 = true) : (∀ j, j < 4 → j ≠ nn sheet → ∀ t, t < 24 → (put_ bt sz nu er sheet i v).2.1 (24 * j + t) = nu (24 * j + t)) ∧
    ∀ t, t < nn (sz (nn sheet)) → (bt (nn sheet) = 8 → ((put_ bt sz nu er sheet i v).2.1 (24 * nn sheet + t)).toInt8.toInt32 = (put_ bt sz nu er sheet i v).2.1 (24 * nn sheet + t)) ∧ (bt (nn sheet) = 16 → ((put_ bt sz nu er sheet i v).2.1 (24 * nn sheet + t)).toInt16.toInt32 = (put_ bt sz nu er sheet i v).2.1 (24 * nn sheet + t)) := by
  have gs := inB_nn (n := 3) hin (by omega)
  have hk : nn sheet < 4 := by omega
  have h4 := hS.2.2 (nn sheet) hk
  by_cases h0 : bt (nn sheet) = 0
  · rw [put_0 hin h0]; exact ⟨fun _ _ _ _ _ => rfl, h4⟩
  · by_cases hi : inB i 0 (sz (nn sheet) - 1) = true
    · rw [put_s hin h0 hi]
      have hsz := hS.1.1.sz hk
      rw [hsz.1] at hi
      have gi := inB_pre hi (by omega)
      have h24 := hsz.2
      have gi2 := gi.2
      refine ⟨fun j hj hne t ht => upd_n _ _ (by omega), fun t ht => ?_⟩
      show (_ → (upd nu (24 * nn sheet + nn i) (pvF (bt (nn sheet)) v) (24 * nn sheet + t)).toInt8.toInt32 = upd nu (24 * nn sheet + nn i) (pvF (bt (nn sheet)) v) (24 * nn sheet + t)) ∧ (_ → (upd nu (24 * nn sheet + nn i) (pvF (bt (nn sheet)) v) (24 * nn sheet + t)).toInt16.toInt32 = upd nu (24 * nn sheet + nn i) (pvF (bt (nn sheet)) v) (24 * nn sheet + t))
      by_cases e : 24 * nn sheet + t = 24 * nn sheet + nn i
      · rw [e, upd_s]; exact pv_fit
      · rw [upd_n _ _ e]; exact h4 t ht
    · rw [put_b hin h0 hi]; exact ⟨fun _ _ _ _ _ => rfl, h4⟩
theorem move_l {sheet i other j n : Int32} (hS : SInv E PL bt sz nu sh) (hin : inB sheet 0 3 = true) (hin2 : inB other 0 3 = true) : (∀ q, q < 4 → q ≠ nn other → ∀ t, t < 24 → (move_ bt sz nu er sheet i other j n).2.1 (24 * q + t) = nu (24 * q + t)) ∧
    ∀ t, t < nn (sz (nn other)) → (bt (nn other) = 8 → ((move_ bt sz nu er sheet i other j n).2.1 (24 * nn other + t)).toInt8.toInt32 = (move_ bt sz nu er sheet i other j n).2.1 (24 * nn other + t)) ∧ (bt (nn other) = 16 → ((move_ bt sz nu er sheet i other j n).2.1 (24 * nn other + t)).toInt16.toInt32 = (move_ bt sz nu er sheet i other j n).2.1 (24 * nn other + t)) := by
  have gs := inB_nn (n := 3) hin (by omega)
  have hk : nn sheet < 4 := by omega
  have go := inB_nn (n := 3) hin2 (by omega)
  have ho : nn other < 4 := by omega
  have h4 := hS.2.2 (nn other) ho
  by_cases h0 : bt (nn sheet) = 0 ∨ bt (nn other) = 0
  · rw [move_0 hin hin2 h0]; exact ⟨fun _ _ _ _ _ => rfl, h4⟩
  · by_cases hb : bt (nn sheet) = bt (nn other)
    · by_cases hm : mvBad sz (nn sheet) (nn other) i j n = true
      · rw [move_b hin hin2 h0 hb hm]; exact ⟨fun _ _ _ _ _ => rfl, h4⟩
      · rw [move_s hin hin2 h0 hb hm]
        simp only [mvBad, Bool.or_eq_true, decide_eq_true_eq, not_or] at hm
        obtain ⟨m1, m2, m3, m4, m5⟩ := hm
        have hsz := hS.1.1.sz hk
        have hso := hS.1.1.sz ho
        have b1 := mv_le hsz.1 hsz.2 m1 m2 (Int32.not_lt.1 m4)
        have b2 := mv_le hso.1 hso.2 m1 m3 (Int32.not_lt.1 m5)
        have h24 := hso.2
        have h5 := hS.2.2 (nn sheet) hk
        refine ⟨fun q hq hne t ht => ?_, fun t ht => ?_⟩
        · show mvN nu _ _ _ _ = _
          unfold mvN
          rw [if_neg (by omega)]
        · show (_ → (mvN nu (24 * nn other + nn j) (24 * nn sheet + nn i) (nn n) (24 * nn other + t)).toInt8.toInt32 = mvN nu (24 * nn other + nn j) (24 * nn sheet + nn i) (nn n) (24 * nn other + t)) ∧ (_ → (mvN nu (24 * nn other + nn j) (24 * nn sheet + nn i) (nn n) (24 * nn other + t)).toInt16.toInt32 = mvN nu (24 * nn other + nn j) (24 * nn sheet + nn i) (nn n) (24 * nn other + t))
          unfold mvN
          by_cases e : 24 * nn other + nn j ≤ 24 * nn other + t ∧ 24 * nn other + t < 24 * nn other + nn j + nn n
          · rw [if_pos e]
            have h6 := h5 (nn i + (t - nn j)) (by omega)
            rw [hb] at h6
            have e2 : 24 * nn sheet + nn i + (24 * nn other + t - (24 * nn other + nn j)) = 24 * nn sheet + (nn i + (t - nn j)) := by omega
            rw [e2]
            exact h6
          · rw [if_neg e]; exact h4 t ht
    · rw [move_k hin hin2 h0 hb]; exact ⟨fun _ _ _ _ _ => rfl, h4⟩
theorem nn_0 : nn 0 = 0 := nn_nI (k := 0) (by omega)
theorem clr_at {k j t : Nat} (hne : j ≠ k) (ht : t < 24) : clr nu k 24 (24 * j + t) = nu (24 * j + t) := by
  unfold clr
  rw [if_neg (by omega)]
theorem clr_0t {k t : Nat} (ht : t < 24) : clr nu k 24 (24 * k + t) = 0 := by
  unfold clr
  rw [if_pos (by omega)]
theorem sheet_S {sh2 : Nat → Option Nat} {nw2 : va_W} {R : R5} {k : Nat} (hS : SInv E PL bt sz nu sh) (hR : ShN E bt sz nu sh sh2 nw2 R k) (hfr : ∀ q ∈ PL, ∀ c ∈ nw2, q.1 ≠ c.1) : SInv E (PL ++ nw2) R.2.1 R.2.2.1 R.2.2.2.1 sh2 := by
  obtain ⟨⟨h1, h2⟩, h3, h4⟩ := hS
  rcases hR with ⟨e1, e2, e3, e4, e5⟩ | ⟨hk, e1, e2, e3, e4, e5⟩ | ⟨hk, N, q, t, b, hN, htb, e1, e2, e3, e4, e5⟩
  · rw [e1, e2, e3, e4]; exact SInv_m pl_l ⟨⟨h1, h2⟩, h3, h4⟩
  · rw [e1, e2, e3, e4]
    refine ⟨⟨fun j hj => ?_, fun j hj => ?_⟩, fun i j hi hj hne a ha hb => ?_, fun j hj t ht => ?_⟩
    · by_cases e : j = k
      · subst e; rw [upd_s, upd_s]; exact ⟨Or.inl rfl, by decide⟩
      · rw [upd_n _ _ e, upd_n _ _ e]; exact h1 j hj
    · by_cases e : j = k
      · subst e; rw [upd_s]; exact Or.inl ⟨by simp [va_up], rfl⟩
      · have h24 := (h1.sz hj).2
        rw [upd_n _ _ e, upd_n _ _ e, show va_up sh k none j = sh j by simp [va_up, e]]
        rcases SHS_m (PL' := PL ++ nw2) pl_l h2 j hj with g | ⟨a, f, g1, g2, g3⟩
        · exact Or.inl g
        · exact Or.inr ⟨a, f, g1, fun i hi => by rw [clr_at e (by omega)]; exact g2 i hi, g3⟩
    · by_cases e : i = k
      · subst e; simp [va_up] at ha
      · by_cases e' : j = k
        · subst e'; simp [va_up] at hb
        · simp only [va_up, if_neg e] at ha
          simp only [va_up, if_neg e'] at hb
          exact h3 i j hi hj hne a ha hb
    · by_cases e : j = k
      · subst e; rw [upd_s, nn_0] at ht; exact absurd ht (Nat.not_lt_zero _)
      · rw [upd_n _ _ e] at ht
        have h24 := (h1.sz hj).2
        rw [upd_n _ _ e, clr_at e (by omega)]; exact h4 j hj t ht
  · rw [e1, e2, e3, e4]
    have hnw : nn (nI N) = N := nn_nI (by omega)
    have hold : ∀ j, j < 4 → ∀ a, sh j = some a → a ≠ q := by
      intro j hj a ha e
      have hm : ∃ z, (a, z) ∈ PL := by
        rcases h2 j hj with g | ⟨a2, f, g1, g2, g3⟩
        · rw [g.1] at ha; cases ha
        · rw [g1] at ha; cases ha
          rcases g3 with ⟨_, g⟩ | ⟨_, g⟩ | ⟨_, g⟩ <;> exact ⟨_, g⟩
      obtain ⟨z, hz⟩ := hm
      exact hfr _ hz (q, .inl (E.2 t, N, .inl (fun _ => 0))) (by rw [e5]; exact List.mem_cons_self) e
    refine ⟨⟨fun j hj => ?_, fun j hj => ?_⟩, fun i j hi hj hne a ha hb => ?_, fun j hj t ht => ?_⟩
    · by_cases e : j = k
      · subst e
        rw [upd_s, upd_s]
        refine ⟨?_, nI_inB (a := 0) (b := 24) (by omega) hN (by omega)⟩
        rcases htb with h | h | h
        · exact Or.inr (Or.inl h.2)
        · exact Or.inr (Or.inr (Or.inl h.2))
        · exact Or.inr (Or.inr (Or.inr h.2))
      · rw [upd_n _ _ e, upd_n _ _ e]; exact h1 j hj
    · by_cases e : j = k
      · subst e
        rw [upd_s, upd_s, hnw]
        have hm : (q, .inl (E.2 t, N, .inl (fun _ => (0 : Int32)))) ∈ PL ++ nw2 := by rw [e5]; exact List.mem_append_right _ List.mem_cons_self
        refine Or.inr ⟨q, fun _ => 0, by simp [va_up], fun i hi => (clr_0t (by omega)).symm, ?_⟩
        rcases htb with ⟨a1, a2⟩ | ⟨a1, a2⟩ | ⟨a1, a2⟩ <;> subst a1 <;> subst a2
        · exact Or.inl ⟨rfl, hm⟩
        · exact Or.inr (Or.inl ⟨rfl, hm⟩)
        · exact Or.inr (Or.inr ⟨rfl, hm⟩)
      · have h24 := (h1.sz hj).2
        rw [upd_n _ _ e, upd_n _ _ e, show va_up sh k (some q) j = sh j by simp [va_up, e]]
        rcases SHS_m (PL' := PL ++ nw2) pl_l h2 j hj with g | ⟨a, f, g1, g2, g3⟩
        · exact Or.inl g
        · exact Or.inr ⟨a, f, g1, fun i hi => by rw [clr_at e (by omega)]; exact g2 i hi, g3⟩
    · by_cases e : i = k
      · subst e
        simp only [va_up, if_true, Option.some.injEq] at ha
        by_cases e' : j = i
        · exact hne e'.symm
        · simp only [va_up, if_neg e'] at hb
          exact hold j hj a hb ha.symm
      · simp only [va_up, if_neg e] at ha
        by_cases e' : j = k
        · subst e'
          simp only [va_up, if_true, Option.some.injEq] at hb
          exact hold i hi a ha hb.symm
        · simp only [va_up, if_neg e'] at hb
          exact h3 i j hi hj hne a ha hb
    · by_cases e : j = k
      · subst e
        rw [upd_s, hnw] at ht
        rw [clr_0t (by omega)]
        exact ⟨fun _ => by decide, fun _ => by decide⟩
      · rw [upd_n _ _ e] at ht
        have h24 := (h1.sz hj).2
        rw [upd_n _ _ e, clr_at e (by omega)]; exact h4 j hj t ht
end LAWS
