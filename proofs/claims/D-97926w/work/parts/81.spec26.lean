/-! THE LAW: what holds between the two, call by call -/
def AInv (sa : Nat → Int32) (T T1 : Tx) : Prop := Inv sa ∧ (TM sa 0 T ∧ TOk T) ∧ (TM sa 1 T1 ∧ TOk T1) ∧ BY sa
def XH (E : fx_En) (PL : va_W) (sa : Nat → Int32) (T T1 : Tx) (tk cs gs zz tp wg : Int32) (pr co st0 ft wt : Nat → Int32) (tx : Nat → Option Nat) (tl : Nat → Nat) : Prop :=
  (HN sa tk cs gs zz tp wg ∧ rl pr sa 8 8 ∧ rl co sa 16 8 ∧ rl st0 sa 24 8) ∧ (TPE ft sa ∧ rl wt sa 350 24) ∧ (TXs E PL (tx 0) T ∧ TXs E PL (tx 1) T1) ∧ TLS PL sa tl
section LAWA
variable {sa sb er nu bt sz : Nat → Int32} {T T1 : Tx}
theorem BY_c (h : ∀ j, 290 ≤ j → j < 350 → sb j = sa j) (hb : BY sa) : BY sb := fun i hi => by rw [h _ (by omega) (by omega)]; exact hb i hi
theorem AInv_c (hA : AInv sa T T1) (hI : Inv sb) (h : ∀ j, 40 ≤ j → j < 350 → sb j = sa j) : AInv sb T T1 :=
  ⟨hI, ⟨TM_frame (fun j a b => h j a (by omega)) (by omega) hA.2.1.2 hA.2.1.1, hA.2.1.2⟩, ⟨TM_frame (fun j a b => h j a (by omega)) (by omega) hA.2.2.1.2 hA.2.2.1.1, hA.2.2.1.2⟩, BY_c (fun j a b => h j (by omega) b) hA.2.2.2⟩
theorem TPE_c {ft : Nat → Int32} (h : ∀ j, 290 ≤ j → j < 350 → sb j = sa j) (ht : TPE ft sa) : TPE ft sb := fun i hi => by rw [h _ (by omega) (by omega)]; exact ht i hi
theorem HN_c {tk cs gs zz tp wg : Int32} (h : ∀ j, j < 6 → sb j = sa j) (x : HN sa tk cs gs zz tp wg) : HN sb tk cs gs zz tp wg := by
  obtain ⟨h1, h2, h3, h4, h5, h6⟩ := x
  exact ⟨h1.trans (h _ (by omega)).symm, h2.trans (h _ (by omega)).symm, h3.trans (h _ (by omega)).symm, h4.trans (h _ (by omega)).symm, h5.trans (h _ (by omega)).symm, h6.trans (h _ (by omega)).symm⟩
theorem Inv_fr (hI : Inv sa) (h : ∀ j, j < 40 → j ≠ 3 → sb j = sa j) (h3 : inB (sb 3) 0 60 = true) : Inv sb := by
  obtain ⟨i1, i2, i3, ⟨i4, i5, i6⟩, i7, i8⟩ := hI
  refine ⟨fun t ht => ?_, fun t ht => ?_, fun t ht => ⟨?_, ?_⟩, ⟨?_, ?_, ?_⟩, h3, ?_⟩
  · rw [h _ (by omega) (by omega)]; exact i1 t ht
  · rw [h _ (by omega) (by omega)]; exact i2 t ht
  · rw [h _ (by omega) (by omega)]; exact (i3 t ht).1
  · rw [h _ (by omega) (by omega)]; exact (i3 t ht).2
  · rw [h _ (by omega) (by omega)]; exact i4
  · rw [h _ (by omega) (by omega)]; exact i5
  · rw [h _ (by omega) (by omega)]; exact i6
  · rw [h _ (by omega) (by omega)]; exact i8
theorem TM_f2 {u : Nat} (h : ∀ j, 40 + 125 * u ≤ j → j < 165 + 125 * u → sb j = sa j) (ho : TOk T) (hT : TM sa u T) : TM sb u T := by
  have hle := ho.le
  refine ⟨by rw [h _ (by omega) (by omega)]; exact hT.1, fun k hk => ⟨?_, ?_⟩⟩
  · rw [h _ (by omega) (by omega)]; exact (hT.2 k hk).1
  · rw [h _ (by omega) (by omega)]; exact (hT.2 k hk).2
theorem TXs_m {E : fx_En} {PL PL' : va_W} {o : Option Nat} (h : ∀ q ∈ PL, q ∈ PL') (ht : TXs E PL o T) : TXs E PL' o T := by
  rcases ht with q | ⟨a, b, c, f, g, h1, h2, h3, h4, h5, h6⟩
  · exact Or.inl q
  · exact Or.inr ⟨a, b, c, f, g, h1, h2, h _ h3, h _ h4, h _ h5, h6⟩
theorem TLS_m {PL PL' : va_W} {tl : Nat → Nat} (h : ∀ q ∈ PL, q ∈ PL') (ht : TLS PL sa tl) : TLS PL' sa tl := fun k hk => h _ (ht k hk)
theorem XH_m {E : fx_En} {PL PL' : va_W} {tk cs gs zz tp wg : Int32} {pr co st0 ft wt : Nat → Int32} {tx : Nat → Option Nat} {tl : Nat → Nat} (h : ∀ q ∈ PL, q ∈ PL') (x : XH E PL sa T T1 tk cs gs zz tp wg pr co st0 ft wt tx tl) : XH E PL' sa T T1 tk cs gs zz tp wg pr co st0 ft wt tx tl :=
  ⟨x.1, x.2.1, ⟨TXs_m h x.2.2.1.1, TXs_m h x.2.2.1.2⟩, TLS_m h x.2.2.2⟩
theorem pl_l {PL nw : va_W} : ∀ q ∈ PL, q ∈ PL ++ nw := fun _ h => List.mem_append_left _ h
/-! the operations that change the state -/
theorem thing_l {th wh v : Int32} (hI : Inv sa) : Inv (thing_ sa er th wh v).2.1 ∧ ∀ j, (j < 8 ∨ 32 ≤ j) → (thing_ sa er th wh v).2.1 j = sa j := by
  unfold thing_
  by_cases h : (inB th 0 7 && (inB wh 0 2 && inB v (if wh = 0 then 1 else 0) (if wh = 2 then 99 else 9999))) = true
  · rw [if_pos h]
    simp only [Bool.and_eq_true] at h
    obtain ⟨h1, h2, h3⟩ := h
    have g1 := inB_nn (n := 7) h1 (by omega)
    have g2 := inB_nn (n := 2) h2 (by omega)
    refine ⟨Inv_upd hI (fun a b => ?_) (fun a b => ?_) (fun a b => by omega) (Or.inl (by omega)), fun j hj => upd_n _ _ (by omega)⟩
    · have e : nn wh = 0 := by omega
      have e2 : wh = 0 := by rw [g2.1, e]; rfl
      rw [e2, if_pos rfl, if_neg (by decide)] at h3
      exact h3
    · have e : nn wh = 1 := by omega
      have e2 : wh = 1 := by rw [g2.1, e]; rfl
      rw [e2, if_neg (by decide), if_neg (by decide)] at h3
      exact h3
  · rw [if_neg h]; exact ⟨hI, fun _ _ => rfl⟩
theorem till_l {til km : Int32} (hI : Inv sa) : Inv (till_ sa er til km).2.1 ∧ ∀ j, (j < 32 ∨ 40 ≤ j) → (till_ sa er til km).2.1 j = sa j := by
  unfold till_
  split
  · rename_i h
    simp only [Bool.and_eq_true] at h
    have g1 := inB_nn (n := 3) h.1 (by omega)
    have g2 := inB_nn (n := 69) h.2 (by omega)
    refine ⟨Inv_upd (Inv_upd hI (fun a b => by omega) (fun a b => by omega) (fun a b => ⟨fun _ => nI_inB (a := 0) (b := 6) (by omega) (by omega) (by omega), fun q => by omega⟩) (Or.inl (by omega))) (fun a b => by omega) (fun a b => by omega) (fun a b => ⟨fun q => by omega, fun _ => nI_inB (a := 0) (b := 9) (by omega) (by omega) (by omega)⟩) (Or.inl (by omega)), fun j hj => ?_⟩
    show upd (upd sa _ _) _ _ j = sa j
    rw [upd_n _ _ (by omega), upd_n _ _ (by omega)]
  · exact ⟨hI, fun _ _ => rfl⟩
theorem byteF_in (w : Int64) (k : Nat) : inB (byteF w k) 0 255 = true := by
  have key : ∀ x : Int64, ∃ n, n ≤ 255 ∧ (x &&& 255).toInt32 = nI n := by
    intro x
    refine ⟨(x.toBitVec &&& 255#64).toNat, ?_, ?_⟩
    · rw [BitVec.toNat_and]; exact Nat.and_le_right
    · apply Int32.toBitVec_inj.1
      apply BitVec.eq_of_toNat_eq
      have h1 : (x &&& 255).toInt32.toBitVec = (x.toBitVec &&& 255#64).setWidth 32 := by
        rw [Int64.toBitVec_toInt32, Int64.toBitVec_and]
        show BitVec.signExtend 32 (x.toBitVec &&& 255#64) = _
        apply BitVec.eq_of_getLsbD_eq
        intro i hi
        rw [BitVec.getLsbD_signExtend, BitVec.getLsbD_setWidth, if_pos (by omega)]
      rw [h1, BitVec.toNat_setWidth]
      show _ = (BitVec.ofNat 32 _).toNat
      rw [BitVec.toNat_ofNat]
  obtain ⟨n, hn, e⟩ := key (w >>> ((nI (8 * k)).toInt64 &&& 63))
  unfold byteF
  rw [e]
  exact nI_inB (a := 0) (b := 255) (by omega) hn (by omega)
theorem fdA_l {w : Int64} (hI : Inv sa) (hB : BY sa) : ∀ k, nn (sa 3) + k ≤ 60 → Inv (fdA sa w k) ∧ BY (fdA sa w k) ∧ ∀ j, j ≠ 3 → (j < 290 ∨ 350 ≤ j) → fdA sa w k j = sa j
  | 0, _ => ⟨hI, hB, fun _ _ _ => rfl⟩
  | k + 1, h => by
    obtain ⟨h1, h2, h3⟩ := fdA_l (w := w) hI hB k (by omega)
    refine ⟨?_, ?_, ?_⟩
    · rw [fdA]
      exact Inv_upd (Inv_upd h1 (fun a b => by omega) (fun a b => by omega) (fun a b => by omega) (Or.inl (by omega))) (fun a b => by omega) (fun a b => by omega) (fun a b => by omega) (Or.inr (Or.inl ⟨rfl, nI_inB (a := 0) (b := 60) (by omega) (by omega) (by omega)⟩))
    · intro i hi
      rw [fdA, upd_n _ _ (by omega)]
      by_cases e : 290 + i = 290 + (nn (sa 3) + k)
      · rw [e, upd_s]; exact byteF_in w k
      · rw [upd_n _ _ e]; exact h2 i hi
    · intro j h4 h5
      rw [fdA, upd_n _ _ h4, upd_n _ _ (by omega)]
      exact h3 j h4 h5
theorem feed_l {w : Int64} {n : Int32} (hA : AInv sa T T1) : AInv (feed_ sa er w n).2.1 T T1 ∧ ∀ j, j ≠ 3 → (j < 290 ∨ 350 ≤ j) → (feed_ sa er w n).2.1 j = sa j := by
  unfold feed_
  split
  · split
    · exact ⟨hA, fun _ _ _ => rfl⟩
    · rename_i h2
      obtain ⟨a, b, c⟩ := fdA_l (w := w) hA.1 hA.2.2.2 (nn n) (by omega)
      exact ⟨⟨a, ⟨TM_f2 (fun j h3 h4 => c j (by omega) (by omega)) hA.2.1.2 hA.2.1.1, hA.2.1.2⟩, ⟨TM_f2 (fun j h3 h4 => c j (by omega) (by omega)) hA.2.2.1.2 hA.2.2.1.1, hA.2.2.1.2⟩, b⟩, c⟩
  · exact ⟨hA, fun _ _ _ => rfl⟩
/-- a text that was read is one -/
theorem rd_T {u : Nat} (hA : Inv sa) (h : rdG sa u = true) : TOk (PsT (rdF sa u).2) ∧ (rdF sa u).2.n ≤ 60 := by
  have h1 : (rdF sa u).1 = true := by
    unfold rdG at h
    simp only [Bool.and_eq_true] at h
    exact h.1
  have hp := whl_pp (u := u) (d := 5) (lkH (sa := sa)) Ps0 (Ps0_ok _) h1
  have h2 : dpT (rdF sa u).2.tc (rdF sa u).2.n = 0 + 1 := hp.2.2.2
  have h3 := dpT_le (rdF sa u).2.tc (rdF sa u).2.n
  have hk : Pok (nn (sa 3)) (rdF sa u).2 := hp.1
  have h4 := hA.taped.2
  have h5 := hk.1
  have h6 := hk.2.1
  exact ⟨Or.inr ⟨by show 1 ≤ (rdF sa u).2.n; omega, by show (rdF sa u).2.n ≤ 60; omega, hk.2.2⟩, by omega⟩
theorem txA_at {u : Nat} {R : Ps} {j : Nat} (h3 : j ≠ 3) (h : j < 40 + 125 * u ∨ 40 + 125 * u + 1 + 2 * R.n ≤ j) : txA sa u R j = sa j := by
  unfold txA cpT
  rw [if_neg (by omega), upd_n _ _ (by omega), upd_n _ _ h3]
theorem txA_3 {u : Nat} {R : Ps} : txA sa u R 3 = 0 := by
  unfold txA cpT
  rw [if_neg (by omega), upd_n _ _ (by omega), upd_s]
theorem txA_TM {u : Nat} {R : Ps} : TM (txA sa u R) u (PsT R) := by
  refine ⟨?_, fun k hk => ⟨?_, ?_⟩⟩
  · unfold txA cpT
    rw [if_neg (by omega), upd_s]
  · have hk' : k < R.n := hk
    unfold txA cpT
    rw [if_pos (by omega), show 40 + 125 * u + 1 + 2 * k - (40 + 125 * u + 1) = 2 * k by omega, rwT, if_pos (by omega), show 2 * k / 2 = k by omega]
  · have hk' : k < R.n := hk
    unfold txA cpT
    rw [if_pos (by omega), show 40 + 125 * u + 2 + 2 * k - (40 + 125 * u + 1) = 2 * k + 1 by omega, rwT, if_neg (by omega), show (2 * k + 1) / 2 = k by omega]
/-- the state where a text came -/
theorem text_l0 (hA : AInv sa T T1) (h : rdG sa 0 = true) : AInv (txA sa 0 (rdF sa 0).2) (PsT (rdF sa 0).2) T1 := by
  obtain ⟨h1, h2⟩ := rd_T hA.1 h
  exact ⟨Inv_fr hA.1 (fun j a b => txA_at b (by omega)) (by rw [txA_3]; decide), ⟨txA_TM, h1⟩, ⟨TM_f2 (fun j a b => txA_at (by omega) (by omega)) hA.2.2.1.2 hA.2.2.1.1, hA.2.2.1.2⟩, BY_c (fun j a b => txA_at (by omega) (by omega)) hA.2.2.2⟩
theorem text_l1 (hA : AInv sa T T1) (h : rdG sa 1 = true) : AInv (txA sa 1 (rdF sa 1).2) T (PsT (rdF sa 1).2) := by
  obtain ⟨h1, h2⟩ := rd_T hA.1 h
  exact ⟨Inv_fr hA.1 (fun j a b => txA_at b (by omega)) (by rw [txA_3]; decide), ⟨TM_f2 (fun j a b => txA_at (by omega) (by omega)) hA.2.1.2 hA.2.1.1, hA.2.1.2⟩, ⟨txA_TM, h1⟩, BY_c (fun j a b => txA_at (by omega) (by omega)) hA.2.2.2⟩
theorem HN_tx {u : Nat} {R : Ps} {tk cs gs zz tp wg : Int32} (h : HN sa tk cs gs zz tp wg) : HN (txA sa u R) tk cs gs zz 0 wg := by
  obtain ⟨h1, h2, h3, h4, h5, h6⟩ := h
  exact ⟨h1.trans (txA_at (by omega) (by omega)).symm, h2.trans (txA_at (by omega) (by omega)).symm, h3.trans (txA_at (by omega) (by omega)).symm, h4.trans (txA_at (by omega) (by omega)).symm, txA_3.symm, h6.trans (txA_at (by omega) (by omega)).symm⟩
theorem HN_3 {z tk cs gs zz tp wg : Int32} (h : HN sa tk cs gs zz tp wg) : HN (upd sa 3 z) tk cs gs zz z wg := by
  obtain ⟨h1, h2, h3, h4, h5, h6⟩ := h
  exact ⟨h1.trans (upd_n _ _ (by omega)).symm, h2.trans (upd_n _ _ (by omega)).symm, h3.trans (upd_n _ _ (by omega)).symm, h4.trans (upd_n _ _ (by omega)).symm, (upd_s _ _ _).symm, h6.trans (upd_n _ _ (by omega)).symm⟩
theorem AInv_3 (hA : AInv sa T T1) : AInv (upd sa 3 0) T T1 := AInv_c hA (Inv_upd hA.1 (fun a b => by omega) (fun a b => by omega) (fun a b => by omega) (Or.inr (Or.inl ⟨rfl, by decide⟩))) (fun j a b => upd_n _ _ (by omega))
theorem AInv_4 (hA : AInv sa T T1) : AInv (upd sa 4 0) T T1 := AInv_c hA (Inv_upd hA.1 (fun a b => by omega) (fun a b => by omega) (fun a b => by omega) (Or.inr (Or.inr ⟨rfl, by decide⟩))) (fun j a b => upd_n _ _ (by omega))
theorem AInv_5 {v : Int32} (hA : AInv sa T T1) : AInv (upd sa 5 v) T T1 := AInv_c hA (Inv_z hA.1) (fun j a b => upd_n _ _ (by omega))
theorem untell_l0 (hA : AInv sa T T1) : AInv (upd sa 40 0) (0, T.2) T1 :=
  ⟨Inv_upd hA.1 (fun a b => by omega) (fun a b => by omega) (fun a b => by omega) (Or.inl (by omega)), ⟨⟨upd_s _ _ _, fun k hk => absurd hk (Nat.not_lt_zero _)⟩, Or.inl rfl⟩, ⟨TM_f2 (fun j a b => upd_n _ _ (by omega)) hA.2.2.1.2 hA.2.2.1.1, hA.2.2.1.2⟩, BY_c (fun j a b => upd_n _ _ (by omega)) hA.2.2.2⟩
theorem untell_l1 (hA : AInv sa T T1) : AInv (upd sa 165 0) T (0, T1.2) :=
  ⟨Inv_upd hA.1 (fun a b => by omega) (fun a b => by omega) (fun a b => by omega) (Or.inl (by omega)), ⟨TM_f2 (fun j a b => upd_n _ _ (by omega)) hA.2.1.2 hA.2.1.1, hA.2.1.2⟩, ⟨⟨upd_s _ _ _, fun k hk => absurd hk (Nat.not_lt_zero _)⟩, Or.inl rfl⟩, BY_c (fun j a b => upd_n _ _ (by omega)) hA.2.2.2⟩
theorem fx_bn0 {n : Nat} (h : n ≤ 60) : fx_b (nI n ≠ 0) = fx_b (n ≠ 0) := by
  by_cases e : n = 0
  · subst e; rfl
  · have h2 : nI n ≠ 0 := nI_ne0 (by omega) (by omega)
    unfold fx_b
    rw [if_pos h2, if_pos e]
theorem go_l {sheet til : Int32} (hA : AInv sa T T1) : AInv (go_ sa er bt sz nu T sheet til).2.1 T T1 ∧ ∀ j, 3 ≤ j → (j < 24 ∨ 32 ≤ j) → (go_ sa er bt sz nu T sheet til).2.1 j = sa j := by
  unfold go_
  dsimp only
  split
  · exact ⟨AInv_c hA (Inv_goes hA.1) (fun j a b => goesA_at (by omega) (by omega)), fun j a b => goesA_at a b⟩
  · exact ⟨hA, fun _ _ _ => rfl⟩
theorem drawN_fr {j : Nat} (h : 3 ≤ j) (h5 : j ≠ 5) (h2 : j < 24 ∨ 32 ≤ j) : ∀ n, (drawN T n sa).1 j = sa j
  | 0 => rfl
  | n + 1 => by
    show buyA (drawN T n sa).1 T j = sa j
    rw [buyA_at h h5 h2]; exact drawN_fr h h5 h2 n
theorem draws_l {n : Int32} (hA : AInv sa T T1) : AInv (draws_ sa er T n).2.1 T T1 ∧ ∀ j, 3 ≤ j → j ≠ 5 → (j < 24 ∨ 32 ≤ j) → (draws_ sa er T n).2.1 j = sa j := by
  unfold draws_
  split
  · exact ⟨AInv_c hA (Inv_draw hA.1 _) (fun j a b => drawN_fr (by omega) (by omega) (by omega) _), fun j a b c => drawN_fr a b c _⟩
  · exact ⟨hA, fun _ _ _ _ => rfl⟩
theorem ldN_h {P : Nat → Bool} : ∀ m q, q < ldN P m → P q = true
  | 0, q, h => absurd h (Nat.not_lt_zero _)
  | m + 1, q, h => by
    unfold ldN at h
    split at h
    · rename_i h1
      simp only [Bool.and_eq_true, decide_eq_true_eq, beq_iff_eq] at h1
      by_cases e : q = m
      · subst e; exact h1.2
      · exact ldN_h m q (by have := h1.1; omega)
    · exact ldN_h m q h
theorem prA_I {k c : Nat} (hI : Inv sa) (hc : c ≤ 8) (h : ∀ t, t < c → inB (nu (24 * k + t)) 1 9999 = true) : Inv (prA sa nu k c) := by
  have hfr : ∀ j, (j < 8 ∨ 16 ≤ j) → prA sa nu k c j = sa j := fun j hj => prA_at (by omega)
  obtain ⟨i1, i2, i3, ⟨i4, i5, i6⟩, i7, i8⟩ := hI
  refine ⟨fun t ht => ?_, fun t ht => ?_, fun t ht => ⟨?_, ?_⟩, ⟨?_, ?_, ?_⟩, ?_, ?_⟩
  · by_cases e : t < c
    · unfold prA
      rw [if_pos (by omega), show 8 + t - 8 = t by omega]
      exact h t e
    · unfold prA
      rw [if_neg (by omega)]; exact i1 t ht
  · rw [hfr _ (by omega)]; exact i2 t ht
  · rw [hfr _ (by omega)]; exact (i3 t ht).1
  · rw [hfr _ (by omega)]; exact (i3 t ht).2
  · rw [hfr _ (by omega)]; exact i4
  · rw [hfr _ (by omega)]; exact i5
  · rw [hfr _ (by omega)]; exact i6
  · rw [hfr _ (by omega)]; exact i7
  · rw [hfr _ (by omega)]; exact i8
theorem prices_l {sheet : Int32} (hA : AInv sa T T1) : AInv (prices_ sa bt sz nu er sheet).2.1 T T1 ∧ ∀ j, (j < 8 ∨ 16 ≤ j) → (prices_ sa bt sz nu er sheet).2.1 j = sa j := by
  unfold prices_
  split
  · split
    · exact ⟨hA, fun _ _ => rfl⟩
    · have hle := ldN_le (prP sz nu (nn sheet)) 8
      have hI := prA_I (k := nn sheet) hA.1 hle (nu := nu) (fun t e => by
        have h1 := ldN_h 8 t e
        unfold prP at h1
        simp only [Bool.and_eq_true] at h1
        exact h1.2)
      exact ⟨AInv_c hA hI (fun j a b => prA_at (by omega)), fun j hj => prA_at (by omega)⟩
  · exact ⟨hA, fun _ _ => rfl⟩
theorem tell_l {v : Int32} (hA : AInv sa T T1) : AInv (tell_ sa er v).2.1 T T1 ∧ ∀ j, j ≠ 4 → j < 350 → (tell_ sa er v).2.1 j = sa j := by
  unfold tell_
  split
  · exact ⟨hA, fun _ _ _ => rfl⟩
  · rename_i h4
    have hw := hA.1.waits
    have hne : nn (sa 4) ≠ 24 := fun e => h4 (by rw [hw.1, e]; rfl)
    have hfr : ∀ j, j ≠ 4 → j < 350 → upd (upd sa (350 + nn (sa 4)) v) 4 (nI (nn (sa 4) + 1)) j = sa j := fun j a b => by rw [upd_n _ _ a, upd_n _ _ (by omega)]
    exact ⟨AInv_c hA (Inv_upd (Inv_upd hA.1 (fun a b => by omega) (fun a b => by omega) (fun a b => by omega) (Or.inl (by omega))) (fun a b => by omega) (fun a b => by omega) (fun a b => by omega) (Or.inr (Or.inr ⟨rfl, nI_inB (a := 0) (b := 24) (by omega) (by omega) (by omega)⟩))) (fun j a b => hfr j (by omega) b), hfr⟩
/-! images -/
theorem cpy_at {α : Type} {f g : Nat → α} {n t : Nat} (h : t < n) : va_cpy f g 0 0 n t = f t := by
  simp only [va_cpy]
  rw [if_pos (by omega), Nat.zero_add, Nat.sub_zero]
theorem AInv_eq (h : ∀ j, j < 374 → sb j = sa j) (hA : AInv sa T T1) : AInv sb T T1 :=
  AInv_c hA (Inv_fr hA.1 (fun j a _ => h j (by omega)) (by rw [h _ (by omega)]; exact hA.1.2.2.2.2.1)) (fun j _ b => h j (by omega))
theorem XH_eq {E : fx_En} {PL : va_W} {tk cs gs zz tp wg : Int32} {pr co st0 ft wt pr9 co9 st9 ft9 wt9 : Nat → Int32} {tx tx9 : Nat → Option Nat} {tl : Nat → Nat} (h : ∀ j, j < 374 → sb j = sa j) (x : XH E PL sa T T1 tk cs gs zz tp wg pr co st0 ft wt tx tl) :
    XH E PL sb T T1 tk cs gs zz tp wg (va_cpy pr pr9 0 0 8) (va_cpy co co9 0 0 8) (va_cpy st0 st9 0 0 8) (va_cpy ft ft9 0 0 60) (va_cpy wt wt9 0 0 24) (va_cpy tx tx9 0 0 2) tl := by
  obtain ⟨⟨a1, a2, a3, a4⟩, ⟨b1, b2⟩, ⟨c1, c2⟩, d⟩ := x
  refine ⟨⟨HN_c (fun j hj => h j (by omega)) a1, rl_c (fun j _ b => h j (by omega)) (rl_cpy a2), rl_c (fun j _ b => h j (by omega)) (rl_cpy a3), rl_c (fun j _ b => h j (by omega)) (rl_cpy a4)⟩, ⟨fun i hi => ?_, rl_c (fun j _ b => h j (by omega)) (rl_cpy b2)⟩, ⟨?_, ?_⟩, TLS_c (fun j _ b => h j (by omega)) d⟩
  · rw [cpy_at hi, h _ (by omega)]; exact b1 i hi
  · rw [cpy_at (by omega)]; exact c1
  · rw [cpy_at (by omega)]; exact c2
theorem fits8 {v : Int32} (h : v.toInt8.toInt32 = v) : fits .byte (.int v) = true := by
  have h1 := Int8.le_toInt v.toInt8
  have h2 := Int8.toInt_lt v.toInt8
  have e1 : (-128 : Int32).toInt = -128 := by decide
  have e2 : (127 : Int32).toInt = 127 := by decide
  rw [← h]
  simp only [fits, Bool.and_eq_true, decide_eq_true_eq]
  rw [Int32.le_iff_toInt_le, Int32.le_iff_toInt_le, Int8.toInt_toInt32, e1, e2]
  omega
theorem fits16 {v : Int32} (h : v.toInt16.toInt32 = v) : fits .short (.int v) = true := by
  have h1 := Int16.le_toInt v.toInt16
  have h2 := Int16.toInt_lt v.toInt16
  have e1 : (-32768 : Int32).toInt = -32768 := by decide
  have e2 : (32767 : Int32).toInt = 32767 := by decide
  rw [← h]
  simp only [fits, Bool.and_eq_true, decide_eq_true_eq]
  rw [Int32.le_iff_toInt_le, Int32.le_iff_toInt_le, Int16.toInt_toInt32, e1, e2]
  omega
theorem TPE_fit {ft : Nat → Int32} (h : TPE ft sa) : ∀ i_, i_ < 60 → fits .byte (.int (ft i_)) = true := fun i hi => by rw [h i hi]; exact fits8 (pk_bidem _)
theorem htx_of {E : fx_En} {PL : va_W} {tx : Nat → Option Nat} (h0 : TXs E PL (tx 0) T) (h1 : TXs E PL (tx 1) T1) : ∀ i_ a_, i_ < 2 → tx i_ = some a_ → ∃ fs_, (a_, .inr (14, fs_)) ∈ PL := by
  have key : ∀ {o : Option Nat} {T : Tx} {a : Nat}, TXs E PL o T → o = some a → ∃ fs_, (a, .inr (14, fs_)) ∈ PL := by
    intro o T a h e
    rcases h with h | ⟨a2, b, c, f, g, h1, h2, h3, -⟩
    · rw [h.1] at e; cases e
    · rw [h1] at e; cases e; exact ⟨_, h3⟩
  intro i a hi e
  rcases (show i = 0 ∨ i = 1 by omega) with q | q
  · subst q; exact key h0 e
  · subst q; exact key h1 e
end LAWA
