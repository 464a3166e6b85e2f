set_option maxRecDepth 100000
theorem hdX0_findMore : yX0_findMore.cls ≠ "java/lang/invoke/MethodHandle" ∧ yX0_findMore.cls ≠ "java/lang/invoke/VarHandle" ∧ (parseMethodDescriptor yX0_findMore.desc).map (fun d => d.parameters.length) = some 2 := by decide +kernel
theorem hdX0_more : yX0_more.cls ≠ "java/lang/invoke/MethodHandle" ∧ yX0_more.cls ≠ "java/lang/invoke/VarHandle" ∧ (parseMethodDescriptor yX0_more.desc).map (fun d => d.parameters.length) = some 4 := by decide +kernel
abbrev rxX0_findMore : Room := { frames := 24, cells := 0, slots := 0, locals := 1000 }
set_option maxHeartbeats 400000 in
set_option maxRecDepth 100000 in
theorem xX0_findMore (l : Launch) (E : fx_En) (ax : Nat → Nat) (im : Int32) (bn : Int32) (bm : Int32) (fm : Int32) (ff : Int32) (fl : Int32) (tk : Int32) (cs : Int32) (gs : Int32) (zz : Int32) (tp : Int32) (wg : Int32) (nmd : Nat → Int32) (pl : Nat → Int32) (sa : Nat → Int32) (tl : Nat → Nat) (pr : Nat → Int32) (co : Nat → Int32) (bk : Nat → Int32) (ek : Nat → Int32) (al : Nat → Int32) (be : Nat → Int32) (rn : Nat → Nat) (tx : Nat → Option Nat) (T : Tx) (T1 : Tx) (PL : va_W) (k : Nat) (e_ : Nat) (hk : k < 4) (hI : Inv sa) (hTL : TLS PL sa tl) (hT : TXs E PL (tx 0) T) (hTo : TOk T) (hT1 : TXs E PL (tx 1) T1) (hTo1 : TOk T1) (hpr : rl pr sa 8 8) (hco : rl co sa 16 8) (hbk : ∀ i, i < 8 → bk i = nI (rn i) ∧ rn i ≤ 9) (hm30 : manyN rn 8 ≤ 30) (he : e_ ≤ 9) : fx_Mi l yX0_findMore cX0_findMore 4 .int rxX0_findMore E [.ref (ax 19), .int (nI k), .int (nI e_)] [(ax 19, .inr (0, [.ref (ax 0), .ref (ax 1), .ref (ax 35), .ref (ax 55), .ref (ax 4), .ref (ax 5), .ref (ax 6), .ref (ax 7), .int im, .ref (ax 9), .ref (ax 10), .ref (ax 11), .ref (ax 12), .ref (ax 13), .int bn, .int bm, .int fm, .int ff, .int fl])), (ax 1, .inl (E.2 0, 3, .inl nmd)), (ax 0, .inl (E.2 0, 60, .inl pl)), (ax 13, .inl (E.2 1, 8, .inl al)), (ax 11, .inl (E.2 1, 8, .inl ek)), (ax 12, .inl (E.2 1, 8, .inl be))] ([(ax 35, .inr (1, [.ref (ax 20), .ref (ax 21), .ref (ax 22), .int tk, .int cs, .int gs, .int zz, .int tp, .int wg, .ref (ax 29), .ref (ax 30), .ref (ax 31), .ref (ax 32)])), (ax 29, .inl (E.2 3, 4, .inr (.inr (.inr (.inr (fun i_ => some (ax (36 + i_)))))))), (ax 36, .inr (2, [.ref (tl 0)])), (ax 37, .inr (2, [.ref (tl 1)])), (ax 38, .inr (2, [.ref (tl 2)])), (ax 39, .inr (2, [.ref (tl 3)])), (ax 7, .inr (5, [.ref (ax 19)])), (ax 30, .inl (E.2 4, 2, .inr (.inr (.inr (.inr tx))))), (ax 20, .inl (E.2 0, 8, .inl pr)), (ax 21, .inl (E.2 0, 8, .inl co)), (ax 9, .inl (E.2 1, 8, .inl bk))] ++ PL) (S := Int32 × Int32 × (Nat → Int32) × (Nat → Int32) × (Nat → Int32) × (Nat → Int32) × (Nat → Int32)) (fun (u : Int32 × Int32 × (Nat → Int32) × (Nat → Int32) × (Nat → Int32) × (Nat → Int32) × (Nat → Int32)) => [(ax 19, .inr (0, [.ref (ax 0), .ref (ax 1), .ref (ax 35), .ref (ax 55), .ref (ax 4), .ref (ax 5), .ref (ax 6), .ref (ax 7), .int im, .ref (ax 9), .ref (ax 10), .ref (ax 11), .ref (ax 12), .ref (ax 13), .int u.1, .int u.2.1, .int fm, .int ff, .int fl])), (ax 1, .inl (E.2 0, 3, .inl u.2.2.1)), (ax 0, .inl (E.2 0, 60, .inl u.2.2.2.1)), (ax 13, .inl (E.2 1, 8, .inl u.2.2.2.2.1)), (ax 11, .inl (E.2 1, 8, .inl u.2.2.2.2.2.1)), (ax 12, .inl (E.2 1, 8, .inl u.2.2.2.2.2.2))]) (fun (r : Int32) (u : Int32 × Int32 × (Nat → Int32) × (Nat → Int32) × (Nat → Int32) × (Nat → Int32) × (Nat → Int32)) => r = paysF sa T (fun t => rn t + (seekF sa T T1 k rn e_).2.2 t) k ∧ u.1 = (seekF sa T T1 k rn e_).2.1 ∧ (∀ i, i < 8 → u.2.2.2.2.2.2 i = nI ((seekF sa T T1 k rn e_).2.2 i) ∧ (seekF sa T T1 k rn e_).2.2 i ≤ 9)) := by
  refine fx_iW rfl rfl ?_
  intro p e s m args below meth c A ls Q X hE hP hD hR hA hl hret
  have hx := X.1
  have hb := X.2.1
  have hS : va_S A s.heap s.heap [] := va_S.rf
  replace hP : va_P E.1 clA [(ax 19, .inr (0, [.ref (ax 0), .ref (ax 1), .ref (ax 35), .ref (ax 55), .ref (ax 4), .ref (ax 5), .ref (ax 6), .ref (ax 7), .int im, .ref (ax 9), .ref (ax 10), .ref (ax 11), .ref (ax 12), .ref (ax 13), .int bn, .int bm, .int fm, .int ff, .int fl])), (ax 1, .inl (E.2 0, 3, .inl nmd)), (ax 0, .inl (E.2 0, 60, .inl pl)), (ax 13, .inl (E.2 1, 8, .inl al)), (ax 11, .inl (E.2 1, 8, .inl ek)), (ax 12, .inl (E.2 1, 8, .inl be))] _ := hP
  replace hD : va_D A [(ax 19, .inr (0, [.ref (ax 0), .ref (ax 1), .ref (ax 35), .ref (ax 55), .ref (ax 4), .ref (ax 5), .ref (ax 6), .ref (ax 7), .int im, .ref (ax 9), .ref (ax 10), .ref (ax 11), .ref (ax 12), .ref (ax 13), .int bn, .int bm, .int fm, .int ff, .int fl])), (ax 1, .inl (E.2 0, 3, .inl nmd)), (ax 0, .inl (E.2 0, 60, .inl pl)), (ax 13, .inl (E.2 1, 8, .inl al)), (ax 11, .inl (E.2 1, 8, .inl ek)), (ax 12, .inl (E.2 1, 8, .inl be))] := hD
  replace hl : lv_has ls 4 [(0, .ref (ax 19)), (1, .int (nI k)), (2, .int (nI e_))] := hl
  refine lv_aload_n hx hb dX0_findMore_0 rfl (lv_at hl 0 rfl) ?_
  refine lv_iconst (v := (-1)) hx hb dX0_findMore_1 rfl ?_
  refine fx_put_ (ws' := [(ax 19, .inr (0, [.ref (ax 0), .ref (ax 1), .ref (ax 35), .ref (ax 55), .ref (ax 4), .ref (ax 5), .ref (ax 6), .ref (ax 7), .int im, .ref (ax 9), .ref (ax 10), .ref (ax 11), .ref (ax 12), .ref (ax 13), .int bn, .int (-1), .int fm, .int ff, .int fl])), (ax 1, .inl (E.2 0, 3, .inl nmd)), (ax 0, .inl (E.2 0, 60, .inl pl)), (ax 13, .inl (E.2 1, 8, .inl al)), (ax 11, .inl (E.2 1, 8, .inl ek)), (ax 12, .inl (E.2 1, 8, .inl be))]) X hE hP hD hS 0 rfl rfl tyX0_ok nmX0 15 rfl q250 rfl rfl rfl rfl rfl rfl dX0_findMore_2 (fun H locs hP hD hS => ?_)
  refine lv_aload_n hx hb dX0_findMore_5 rfl (lv_at hl 0 rfl) ?_
  refine lv_iconst (v := 0) hx hb dX0_findMore_6 rfl ?_
  refine lv_iload_n hx hb dX0_findMore_7 rfl (lv_at hl 2 rfl) ?_
  refine lv_bipush (v := 30) hx hb dX0_findMore_8 rfl ?_
  refine lv_aload_n hx hb dX0_findMore_10 rfl (lv_at hl 0 rfl) ?_
  refine fx_get X hE hP 0 rfl rfl 9 rfl q244 rfl rfl dX0_findMore_11 ?_
  refine fx_ci (va_runS (As := [.ref (ax 9)]) (rest := [.int 30, .int (nI e_), .int 0, .ref (ax 19)]) X (xX0_manyIn l E (ax 9) bk _) (va_cwS 1 X.2.2.2.2 (lw_S q822 q823 q69 q824) rfl rfl rfl hdX0_manyIn ⟨Nat.le_of_ble_eq_true rfl, Nat.le_of_ble_eq_true rfl⟩) (fx_pre hE hP hD hS hR [] rfl rfl (fx_rcr 10 rfl fx_rc0)) rfl rfl hl.1 rfl (lv_room (Nat.le_of_ble_eq_true rfl)) dX0_findMore_14 ⟨Nat.le_refl _, Nat.le_refl _⟩) hP hD hS hA [] rfl rfl (fun r_14 u H locs hq_14 hP hD hS => ?_)
  replace hP : va_P E.1 clA [(ax 19, .inr (0, [.ref (ax 0), .ref (ax 1), .ref (ax 35), .ref (ax 55), .ref (ax 4), .ref (ax 5), .ref (ax 6), .ref (ax 7), .int im, .ref (ax 9), .ref (ax 10), .ref (ax 11), .ref (ax 12), .ref (ax 13), .int bn, .int (-1), .int fm, .int ff, .int fl])), (ax 1, .inl (E.2 0, 3, .inl nmd)), (ax 0, .inl (E.2 0, 60, .inl pl)), (ax 13, .inl (E.2 1, 8, .inl al)), (ax 11, .inl (E.2 1, 8, .inl ek)), (ax 12, .inl (E.2 1, 8, .inl be))] _ := hP
  replace hD : va_D A [(ax 19, .inr (0, [.ref (ax 0), .ref (ax 1), .ref (ax 35), .ref (ax 55), .ref (ax 4), .ref (ax 5), .ref (ax 6), .ref (ax 7), .int im, .ref (ax 9), .ref (ax 10), .ref (ax 11), .ref (ax 12), .ref (ax 13), .int bn, .int (-1), .int fm, .int ff, .int fl])), (ax 1, .inl (E.2 0, 3, .inl nmd)), (ax 0, .inl (E.2 0, 60, .inl pl)), (ax 13, .inl (E.2 1, 8, .inl al)), (ax 11, .inl (E.2 1, 8, .inl ek)), (ax 12, .inl (E.2 1, 8, .inl be))] := hD
  replace hq_14 : r_14 = l_sum bk 8 := hq_14
  refine fx_ti (show r_14 = nI (manyN rn 8) from hq_14.trans (manyN_I 8 (fun t ht => (hbk t ht).1))) ?_
  refine lv_isub hx hb dX0_findMore_17 ?_
  refine fx_ti (pk_sub (a := 30) (b := manyN rn 8) (by omega)) ?_
  refine fx_min X hl.1 q326 ⟨Nat.le_of_ble_eq_true rfl, Nat.le_of_ble_eq_true rfl⟩ (Nat.le_refl _) (Nat.le_refl _) dX0_findMore_18 ?_
  refine fx_ti (show (mn_i (nI e_) (nI (30 - (manyN rn 8)))) = nI (min e_ (30 - manyN rn 8)) from mn_nat (by omega) (by omega)) ?_
  refine lv_iconst (v := 0) hx hb dX0_findMore_21 rfl ?_
  refine lv_iload_n hx hb dX0_findMore_22 rfl (lv_at hl 1 rfl) ?_
  refine fx_cv (va_runV (As := [.int 0, .int (nI (min e_ (30 - manyN rn 8))), .int 0, .int (nI k)]) (rest := []) X (xX0_tryExtra l E 8 ax im bn (-1) fm ff fl tk cs gs zz tp wg nmd pl sa tl pr co bk ek al be rn (fun _ => 0) (fun _ => 0) tx T T1 PL k (min e_ (30 - manyN rn 8)) 0 (Nat.le_refl 8) (by first | assumption | omega) (by first | assumption | omega) (by first | assumption | omega) (by first | assumption | omega) (by first | assumption | omega) (by first | assumption | omega) (by first | assumption | omega) (by first | assumption | omega) (by first | assumption | omega) (by first | assumption | omega) (fun i hi => absurd hi (by omega)) (by omega) (by omega) (Or.inl rfl) _) (cwV 4 X.2.2.2.2 (lw_V q875 q877 qs24 q69 q878) rfl rfl rfl ⟨rfl, hdX0_tryExtra⟩ ⟨Nat.le_of_ble_eq_true rfl, Nat.le_of_ble_eq_true rfl⟩) (fx_preV (fx_pre hE hP hD hS hR [0, 1, 2, 3, 4, 5] rfl rfl (fx_rcr 0 rfl (fx_rcr 1 rfl (fx_rcr 2 rfl (fx_rcr 3 rfl (fx_rcr 4 rfl (fx_rcr 5 rfl (fx_rcr 6 rfl (fx_rcr 7 rfl (fx_rcr 8 rfl (fx_rcr 9 rfl (fx_rcr 10 rfl (fx_rct (fun q hq => List.mem_append_right _ hq)))))))))))))) (va_recv hE.1 hP (ci := 0) (q0 := 0) rfl rfl)) rfl rfl hl.1 rfl (lv_room (Nat.le_of_ble_eq_true rfl)) dX0_findMore_23 ⟨Nat.le_refl _, Nat.le_refl _⟩) hP hD hS hA [0, 1, 2, 3, 4, 5] rfl rfl (fun u H locs hq_23 hP hD hS => ?_)
  obtain ⟨bn2_23, bm2_23, nm2_23, pl2_23, al2_23, ek2_23, be2_23⟩ := u
  replace hP : va_P E.1 clA [(ax 19, .inr (0, [.ref (ax 0), .ref (ax 1), .ref (ax 35), .ref (ax 55), .ref (ax 4), .ref (ax 5), .ref (ax 6), .ref (ax 7), .int im, .ref (ax 9), .ref (ax 10), .ref (ax 11), .ref (ax 12), .ref (ax 13), .int bn2_23, .int bm2_23, .int fm, .int ff, .int fl])), (ax 1, .inl (E.2 0, 3, .inl nm2_23)), (ax 0, .inl (E.2 0, 60, .inl pl2_23)), (ax 13, .inl (E.2 1, 8, .inl al2_23)), (ax 11, .inl (E.2 1, 8, .inl ek2_23)), (ax 12, .inl (E.2 1, 8, .inl be2_23))] _ := hP
  replace hD : va_D A [(ax 19, .inr (0, [.ref (ax 0), .ref (ax 1), .ref (ax 35), .ref (ax 55), .ref (ax 4), .ref (ax 5), .ref (ax 6), .ref (ax 7), .int im, .ref (ax 9), .ref (ax 10), .ref (ax 11), .ref (ax 12), .ref (ax 13), .int bn2_23, .int bm2_23, .int fm, .int ff, .int fl])), (ax 1, .inl (E.2 0, 3, .inl nm2_23)), (ax 0, .inl (E.2 0, 60, .inl pl2_23)), (ax 13, .inl (E.2 1, 8, .inl al2_23)), (ax 11, .inl (E.2 1, 8, .inl ek2_23)), (ax 12, .inl (E.2 1, 8, .inl be2_23))] := hD
  replace hq_23 : (bm2_23 = (enL (bdT rn) (lfT (netF sa T k rn (vlF sa T1))) 8 (fun _ => 0) (min e_ (30 - manyN rn 8)) 0 ((-1), bn, (fun _ => 0))).1 ∧ bn2_23 = (enL (bdT rn) (lfT (netF sa T k rn (vlF sa T1))) 8 (fun _ => 0) (min e_ (30 - manyN rn 8)) 0 ((-1), bn, (fun _ => 0))).2.1) ∧ bm2_23 ≠ -1 ∧ (∀ i, i < 8 → be2_23 i = nI ((enL (bdT rn) (lfT (netF sa T k rn (vlF sa T1))) 8 (fun _ => 0) (min e_ (30 - manyN rn 8)) 0 ((-1), bn, (fun _ => 0))).2.2 i) ∧ (enL (bdT rn) (lfT (netF sa T k rn (vlF sa T1))) 8 (fun _ => 0) (min e_ (30 - manyN rn 8)) 0 ((-1), bn, (fun _ => 0))).2.2 i ≤ 9) ∧ (∀ i, i < 8 - 8 → ek2_23 i = ek i) ∧ (LX (enL (bdT rn) (lfT (netF sa T k rn (vlF sa T1))) 8 (fun _ => 0) (min e_ (30 - manyN rn 8)) 0 ((-1), bn, (fun _ => 0))).2.2 (fun _ => 0) (8 - 8) ∨ AG (enL (bdT rn) (lfT (netF sa T k rn (vlF sa T1))) 8 (fun _ => 0) (min e_ (30 - manyN rn 8)) 0 ((-1), bn, (fun _ => 0))).2.2 (fun _ => 0) (8 - 8)) := hq_23
  have hsk := seek_of (sa := sa) (wo := vlF sa T1) (T := T) (T1 := T1) (k := k) (e := e_) (rn := rn) (bn := bn) (fun _ _ => rfl) (show min e_ (30 - manyN rn 8) = min e_ (30 - manyN rn 8) from rfl)
  have hbe2 : ∀ i, i < 8 → be2_23 i = nI ((seekF sa T T1 k rn e_).2.2 i) ∧ (seekF sa T T1 k rn e_).2.2 i ≤ 9 := by rw [← hsk]; exact hq_23.2.2.1
  have hbn2 : bn2_23 = (seekF sa T T1 k rn e_).2.1 := by rw [← hsk]; exact hq_23.1.2
  refine lv_iconst (v := 0) hx hb dX0_findMore_26 rfl ?_
  refine lv_istore_n (lv' := [(3, .int 0), (0, .ref (ax 19)), (1, .int (nI k)), (2, .int (nI e_))]) hx hb dX0_findMore_27 rfl hl (by decide) rfl (fun ls hl => ?_)
  have loop_28 : ∀ (n_28 : Nat) (t : Nat) (alv : Nat → Int32), (8 - t < n_28) → (t ≤ 8) → (∀ i, i < t → alv i = nI (rn i + (seekF sa T T1 k rn e_).2.2 i)) → ∀ (H : Heap) (locs : List Loc), va_P E.1 clA [(ax 19, .inr (0, [.ref (ax 0), .ref (ax 1), .ref (ax 35), .ref (ax 55), .ref (ax 4), .ref (ax 5), .ref (ax 6), .ref (ax 7), .int im, .ref (ax 9), .ref (ax 10), .ref (ax 11), .ref (ax 12), .ref (ax 13), .int bn2_23, .int bm2_23, .int fm, .int ff, .int fl])), (ax 1, .inl (E.2 0, 3, .inl nm2_23)), (ax 0, .inl (E.2 0, 60, .inl pl2_23)), (ax 13, .inl (E.2 1, 8, .inl alv)), (ax 11, .inl (E.2 1, 8, .inl ek2_23)), (ax 12, .inl (E.2 1, 8, .inl be2_23))] H → va_D A [(ax 19, .inr (0, [.ref (ax 0), .ref (ax 1), .ref (ax 35), .ref (ax 55), .ref (ax 4), .ref (ax 5), .ref (ax 6), .ref (ax 7), .int im, .ref (ax 9), .ref (ax 10), .ref (ax 11), .ref (ax 12), .ref (ax 13), .int bn2_23, .int bm2_23, .int fm, .int ff, .int fl])), (ax 1, .inl (E.2 0, 3, .inl nm2_23)), (ax 0, .inl (E.2 0, 60, .inl pl2_23)), (ax 13, .inl (E.2 1, 8, .inl alv)), (ax 11, .inl (E.2 1, 8, .inl ek2_23)), (ax 12, .inl (E.2 1, 8, .inl be2_23))] → va_S A s.heap H locs → ∀ (ls : Array Slot), lv_has ls 4 [(3, .int (nI t)), (0, .ref (ax 19)), (1, .int (nI k)), (2, .int (nI e_))] → W p l e rxX0_findMore s m args below meth c H locs 0 0 Q (F0 m 28 ls []) := by
    intro n_28
    induction n_28 with
    | zero => intro t alv hm_28; exact absurd hm_28 (Nat.not_lt_zero _)
    | succ n_28 ih_28 =>
      intro t alv hm_28 ht hal H locs hP hD hS ls hl
      refine lv_iload_n hx hb dX0_findMore_28 rfl (lv_at hl 0 rfl) ?_
      refine lv_bipush (v := 8) hx hb dX0_findMore_29 rfl ?_
      refine lv_icmp_ge (tgt := 60) hx hb dX0_findMore_31 (by decide) (fun c_31 => ?_) (fun c_31 => ?_)
      · -- jump 60
        have n_31 := fx_le1 (a := 8) (b := t) c_31 (by omega) (by omega)
        obtain rfl : t = 8 := by omega
        refine lv_aload_n hx hb dX0_findMore_60 rfl (lv_at hl 1 rfl) ?_
        refine lv_aload_n hx hb dX0_findMore_61 rfl (lv_at hl 1 rfl) ?_
        refine fx_get X hE hP 0 rfl rfl 13 rfl q248 rfl rfl dX0_findMore_62 ?_
        refine lv_iload_n hx hb dX0_findMore_65 rfl (lv_at hl 2 rfl) ?_
        refine fx_ci (va_runV (As := [.ref (ax 13), .int (nI k)]) (rest := []) X (xX0_paysOf l E ax im bn2_23 bm2_23 fm ff fl tk cs gs zz tp wg nm2_23 pl2_23 sa tl tx T PL pr (ax 13) alv (fun t => rn t + (seekF sa T T1 k rn e_).2.2 t) k (by first | assumption | omega) (by first | assumption | omega) (by first | assumption | omega) (by first | assumption | omega) (by first | assumption | omega) (fun t ht => ⟨hal t ht, by have := (hbk t ht).2; have := (hbe2 t ht).2; omega⟩) (by first | assumption | omega) _) (cwV 2 X.2.2.2.2 (lw_V q833 q835 qs19 q69 q836) rfl rfl rfl ⟨rfl, hdX0_paysOf⟩ ⟨Nat.le_of_ble_eq_true rfl, Nat.le_of_ble_eq_true rfl⟩) (fx_preV (fx_pre hE hP hD hS hR [1, 2] rfl rfl (fx_rcm 0 rfl (by decide) (fx_rcr 0 rfl (fx_rcr 1 rfl (fx_rcr 2 rfl (fx_rcr 3 rfl (fx_rcr 4 rfl (fx_rcr 5 rfl (fx_rcr 6 rfl (fx_rcr 7 rfl (fx_rcr 8 rfl (fx_rcm 3 rfl (by decide) (fx_rct (fun q hq => List.mem_append_right _ hq)))))))))))))) (va_recv hE.1 hP (ci := 0) (q0 := 0) rfl rfl)) rfl rfl hl.1 rfl (lv_room (Nat.le_of_ble_eq_true rfl)) dX0_findMore_66 ⟨Nat.le_refl _, Nat.le_refl _⟩) hP hD hS hA [1, 2] rfl rfl (fun r_66 u H locs hq_66 hP hD hS => ?_)
        obtain ⟨nm2_66, pl2_66⟩ := u
        replace hP : va_P E.1 clA [(ax 19, .inr (0, [.ref (ax 0), .ref (ax 1), .ref (ax 35), .ref (ax 55), .ref (ax 4), .ref (ax 5), .ref (ax 6), .ref (ax 7), .int im, .ref (ax 9), .ref (ax 10), .ref (ax 11), .ref (ax 12), .ref (ax 13), .int bn2_23, .int bm2_23, .int fm, .int ff, .int fl])), (ax 1, .inl (E.2 0, 3, .inl nm2_66)), (ax 0, .inl (E.2 0, 60, .inl pl2_66)), (ax 13, .inl (E.2 1, 8, .inl alv)), (ax 11, .inl (E.2 1, 8, .inl ek2_23)), (ax 12, .inl (E.2 1, 8, .inl be2_23))] _ := hP
        replace hD : va_D A [(ax 19, .inr (0, [.ref (ax 0), .ref (ax 1), .ref (ax 35), .ref (ax 55), .ref (ax 4), .ref (ax 5), .ref (ax 6), .ref (ax 7), .int im, .ref (ax 9), .ref (ax 10), .ref (ax 11), .ref (ax 12), .ref (ax 13), .int bn2_23, .int bm2_23, .int fm, .int ff, .int fl])), (ax 1, .inl (E.2 0, 3, .inl nm2_66)), (ax 0, .inl (E.2 0, 60, .inl pl2_66)), (ax 13, .inl (E.2 1, 8, .inl alv)), (ax 11, .inl (E.2 1, 8, .inl ek2_23)), (ax 12, .inl (E.2 1, 8, .inl be2_23))] := hD
        replace hq_66 : r_66 = paysF sa T (fun t => rn t + (seekF sa T T1 k rn e_).2.2 t) k := hq_66
        exact hret r_66 (bn2_23, bm2_23, nm2_66, pl2_66, alv, ek2_23, be2_23) (⟨hq_66, hbn2, hbe2⟩) (rfl) hP hD hS (Nat.le_refl _) (Nat.le_refl _) dX0_findMore_69
      · -- fall 34
        have n_31 := fx_le0 (a := 8) (b := t) c_31 (by omega) (by omega)
        have hb9 := hbk t (by omega)
        have he9 := hbe2 t (by omega)
        have hb92 := hb9.2
        have he92 := he9.2
        refine lv_aload_n hx hb dX0_findMore_34 rfl (lv_at hl 1 rfl) ?_
        refine fx_get X hE hP 0 rfl rfl 13 rfl q248 rfl rfl dX0_findMore_35 ?_
        refine lv_iload_n hx hb dX0_findMore_38 rfl (lv_at hl 0 rfl) ?_
        refine lv_aload_n hx hb dX0_findMore_39 rfl (lv_at hl 1 rfl) ?_
        refine fx_get X hE hP 0 rfl rfl 9 rfl q244 rfl rfl dX0_findMore_40 ?_
        refine lv_iload_n hx hb dX0_findMore_43 rfl (lv_at hl 0 rfl) ?_
        refine fx_bald X hE (hR.at hS) 10 rfl t rfl (by omega) rfl dX0_findMore_44 ?_
        refine fx_ti (show (bk t) = nI (rn t) from hb9.1) ?_
        refine lv_aload_n hx hb dX0_findMore_45 rfl (lv_at hl 1 rfl) ?_
        refine fx_get X hE hP 0 rfl rfl 12 rfl q247 rfl rfl dX0_findMore_46 ?_
        refine lv_iload_n hx hb dX0_findMore_49 rfl (lv_at hl 0 rfl) ?_
        refine fx_bald X hE hP 5 rfl t rfl (by omega) rfl dX0_findMore_50 ?_
        refine fx_ti (show (be2_23 t) = nI ((seekF sa T T1 k rn e_).2.2 t) from he9.1) ?_
        refine lv_iadd hx hb dX0_findMore_51 ?_
        refine fx_ti (nI_add (rn t) ((seekF sa T T1 k rn e_).2.2 t)) ?_
        refine lv_i2b (v := (nI (rn t + (seekF sa T T1 k rn e_).2.2 t)).toInt8.toInt32) hx hb dX0_findMore_52 rfl ?_
        refine fx_bast (ws' := [(ax 19, .inr (0, [.ref (ax 0), .ref (ax 1), .ref (ax 35), .ref (ax 55), .ref (ax 4), .ref (ax 5), .ref (ax 6), .ref (ax 7), .int im, .ref (ax 9), .ref (ax 10), .ref (ax 11), .ref (ax 12), .ref (ax 13), .int bn2_23, .int bm2_23, .int fm, .int ff, .int fl])), (ax 1, .inl (E.2 0, 3, .inl nm2_23)), (ax 0, .inl (E.2 0, 60, .inl pl2_23)), (ax 13, .inl (E.2 1, 8, .inl (upd alv t (nI (rn t + (seekF sa T T1 k rn e_).2.2 t))))), (ax 11, .inl (E.2 1, 8, .inl ek2_23)), (ax 12, .inl (E.2 1, 8, .inl be2_23))]) X hE hP hD hS 3 rfl t rfl (by omega) rfl (by rw [pk_bidem]; exact fit8 rfl (by omega)) rfl dX0_findMore_53 (fun H locs hP hD hS => ?_)
        refine lv_iinc (v := nI (t + 1)) (lv' := [(3, .int (nI (t + 1))), (0, .ref (ax 19)), (1, .int (nI k)), (2, .int (nI e_))]) hx hb dX0_findMore_54 hl (k := 0) rfl (fx_inc _) (by decide) rfl (fun ls hl => ?_)
        refine lv_goto (tgt := 28) hx hb dX0_findMore_57 (by decide) ?_
        exact ih_28 (t + 1) (upd alv t (nI (rn t + (seekF sa T T1 k rn e_).2.2 t))) (by omega) (by omega) (ext_s (f := fun i => nI (rn i + (seekF sa T T1 k rn e_).2.2 i)) hal rfl) _ _ hP hD hS ls (lv_sub hl [0, 1, 2, 3] rfl)
  exact loop_28 ((8 - 0) + 1) 0 al2_23 (Nat.lt_succ_self _) (by omega) (fun i hi => absurd hi (Nat.not_lt_zero _)) _ _ hP hD hS ls (lv_sub hl [0, 1, 2, 3] rfl)
abbrev rxX0_more : Room := { frames := 25, cells := 0, slots := 0, locals := 1050 }
set_option maxHeartbeats 400000 in
set_option maxRecDepth 100000 in
theorem xX0_more (l : Launch) (E : fx_En) (ax : Nat → Nat) (im : Int32) (bn : Int32) (bm : Int32) (fm : Int32) (ff : Int32) (fl : Int32) (tk : Int32) (cs : Int32) (gs : Int32) (zz : Int32) (tp : Int32) (wg : Int32) (er : Nat → Int32) (nmd : Nat → Int32) (pl : Nat → Int32) (sa : Nat → Int32) (tl : Nat → Nat) (pr : Nat → Int32) (co : Nat → Int32) (bk : Nat → Int32) (ek : Nat → Int32) (al : Nat → Int32) (be : Nat → Int32) (bt : Nat → Int32) (sz : Nat → Int32) (nu : Nat → Int32) (sh : Nat → Option Nat) (tx : Nat → Option Nat) (T : Tx) (T1 : Tx) (PL : va_W) (sheet : Int32) (til : Int32) (ee : Int32) (wh : Int32) (hI : Inv sa) (hTL : TLS PL sa tl) (hT : TXs E PL (tx 0) T) (hTo : TOk T) (hT1 : TXs E PL (tx 1) T1) (hTo1 : TOk T1) (hpr : rl pr sa 8 8) (hco : rl co sa 16 8) (hIS : InvS bt sz) (hSH : SHS E PL bt sz nu sh) : fx_Mi l yX0_more cX0_more 7 .int rxX0_more E [.ref (ax 19), .int sheet, .int til, .int ee, .int wh] [(ax 19, .inr (0, [.ref (ax 0), .ref (ax 1), .ref (ax 35), .ref (ax 55), .ref (ax 4), .ref (ax 5), .ref (ax 6), .ref (ax 7), .int im, .ref (ax 9), .ref (ax 10), .ref (ax 11), .ref (ax 12), .ref (ax 13), .int bn, .int bm, .int fm, .int ff, .int fl])), (ax 1, .inl (E.2 0, 3, .inl nmd)), (ax 0, .inl (E.2 0, 60, .inl pl)), (ax 13, .inl (E.2 1, 8, .inl al)), (ax 11, .inl (E.2 1, 8, .inl ek)), (ax 12, .inl (E.2 1, 8, .inl be)), (ax 5, .inl (E.2 0, 7, .inl er)), (ax 9, .inl (E.2 1, 8, .inl bk))] ([(ax 35, .inr (1, [.ref (ax 20), .ref (ax 21), .ref (ax 22), .int tk, .int cs, .int gs, .int zz, .int tp, .int wg, .ref (ax 29), .ref (ax 30), .ref (ax 31), .ref (ax 32)])), (ax 29, .inl (E.2 3, 4, .inr (.inr (.inr (.inr (fun i_ => some (ax (36 + i_)))))))), (ax 36, .inr (2, [.ref (tl 0)])), (ax 37, .inr (2, [.ref (tl 1)])), (ax 38, .inr (2, [.ref (tl 2)])), (ax 39, .inr (2, [.ref (tl 3)])), (ax 7, .inr (5, [.ref (ax 19)])), (ax 30, .inl (E.2 4, 2, .inr (.inr (.inr (.inr tx))))), (ax 20, .inl (E.2 0, 8, .inl pr)), (ax 21, .inl (E.2 0, 8, .inl co)), (ax 6, .inl (E.2 3, 4, .inr (.inr (.inr (.inr (fun i_ => some (ax (64 + i_)))))))), (ax 64, .inr (2, [va_rf (sh 0)])), (ax 65, .inr (2, [va_rf (sh 1)])), (ax 66, .inr (2, [va_rf (sh 2)])), (ax 67, .inr (2, [va_rf (sh 3)]))] ++ PL) (S := Int32 × Int32 × (Nat → Int32) × (Nat → Int32) × (Nat → Int32) × (Nat → Int32) × (Nat → Int32) × (Nat → Int32) × (Nat → Int32)) (fun (u : Int32 × Int32 × (Nat → Int32) × (Nat → Int32) × (Nat → Int32) × (Nat → Int32) × (Nat → Int32) × (Nat → Int32) × (Nat → Int32)) => [(ax 19, .inr (0, [.ref (ax 0), .ref (ax 1), .ref (ax 35), .ref (ax 55), .ref (ax 4), .ref (ax 5), .ref (ax 6), .ref (ax 7), .int im, .ref (ax 9), .ref (ax 10), .ref (ax 11), .ref (ax 12), .ref (ax 13), .int u.1, .int u.2.1, .int fm, .int ff, .int fl])), (ax 1, .inl (E.2 0, 3, .inl u.2.2.1)), (ax 0, .inl (E.2 0, 60, .inl u.2.2.2.1)), (ax 13, .inl (E.2 1, 8, .inl u.2.2.2.2.1)), (ax 11, .inl (E.2 1, 8, .inl u.2.2.2.2.2.1)), (ax 12, .inl (E.2 1, 8, .inl u.2.2.2.2.2.2.1)), (ax 5, .inl (E.2 0, 7, .inl u.2.2.2.2.2.2.2.1)), (ax 9, .inl (E.2 1, 8, .inl u.2.2.2.2.2.2.2.2))]) (fun (r : Int32) (u : Int32 × Int32 × (Nat → Int32) × (Nat → Int32) × (Nat → Int32) × (Nat → Int32) × (Nat → Int32) × (Nat → Int32) × (Nat → Int32)) => (r, u.2.2.2.2.2.2.2.1) = more_ sa er bt sz nu T T1 sheet til ee wh) := by
  refine fx_iW rfl rfl ?_
  intro p e s m args below meth c A ls Q X hE hP hD hR hA hl hret
  have hx := X.1
  have hb := X.2.1
  have hS : va_S A s.heap s.heap [] := va_S.rf
  replace hP : va_P E.1 clA [(ax 19, .inr (0, [.ref (ax 0), .ref (ax 1), .ref (ax 35), .ref (ax 55), .ref (ax 4), .ref (ax 5), .ref (ax 6), .ref (ax 7), .int im, .ref (ax 9), .ref (ax 10), .ref (ax 11), .ref (ax 12), .ref (ax 13), .int bn, .int bm, .int fm, .int ff, .int fl])), (ax 1, .inl (E.2 0, 3, .inl nmd)), (ax 0, .inl (E.2 0, 60, .inl pl)), (ax 13, .inl (E.2 1, 8, .inl al)), (ax 11, .inl (E.2 1, 8, .inl ek)), (ax 12, .inl (E.2 1, 8, .inl be)), (ax 5, .inl (E.2 0, 7, .inl er)), (ax 9, .inl (E.2 1, 8, .inl bk))] _ := hP
  replace hD : va_D A [(ax 19, .inr (0, [.ref (ax 0), .ref (ax 1), .ref (ax 35), .ref (ax 55), .ref (ax 4), .ref (ax 5), .ref (ax 6), .ref (ax 7), .int im, .ref (ax 9), .ref (ax 10), .ref (ax 11), .ref (ax 12), .ref (ax 13), .int bn, .int bm, .int fm, .int ff, .int fl])), (ax 1, .inl (E.2 0, 3, .inl nmd)), (ax 0, .inl (E.2 0, 60, .inl pl)), (ax 13, .inl (E.2 1, 8, .inl al)), (ax 11, .inl (E.2 1, 8, .inl ek)), (ax 12, .inl (E.2 1, 8, .inl be)), (ax 5, .inl (E.2 0, 7, .inl er)), (ax 9, .inl (E.2 1, 8, .inl bk))] := hD
  replace hl : lv_has ls 7 [(0, .ref (ax 19)), (1, .int sheet), (2, .int til), (3, .int ee), (4, .int wh)] := hl
  refine lv_iload_n hx hb dX0_more_0 rfl (lv_at hl 1 rfl) ?_
  refine fx_ci (va_runS (As := [.int sheet]) (rest := []) X (xX0_isSheet l E sheet _) (va_cwS 1 X.2.2.2.2 (lw_S q806 q807 q69 q808) rfl rfl rfl hdX0_isSheet ⟨Nat.le_of_ble_eq_true rfl, Nat.le_of_ble_eq_true rfl⟩) (fx_pre hE hP hD hS hR [] rfl rfl fx_rc0) rfl rfl hl.1 rfl (lv_room (Nat.le_of_ble_eq_true rfl)) dX0_more_1 ⟨Nat.le_refl _, Nat.le_refl _⟩) hP hD hS hA [] rfl rfl (fun r_1 u H locs hq_1 hP hD hS => ?_)
  replace hP : va_P E.1 clA [(ax 19, .inr (0, [.ref (ax 0), .ref (ax 1), .ref (ax 35), .ref (ax 55), .ref (ax 4), .ref (ax 5), .ref (ax 6), .ref (ax 7), .int im, .ref (ax 9), .ref (ax 10), .ref (ax 11), .ref (ax 12), .ref (ax 13), .int bn, .int bm, .int fm, .int ff, .int fl])), (ax 1, .inl (E.2 0, 3, .inl nmd)), (ax 0, .inl (E.2 0, 60, .inl pl)), (ax 13, .inl (E.2 1, 8, .inl al)), (ax 11, .inl (E.2 1, 8, .inl ek)), (ax 12, .inl (E.2 1, 8, .inl be)), (ax 5, .inl (E.2 0, 7, .inl er)), (ax 9, .inl (E.2 1, 8, .inl bk))] _ := hP
  replace hD : va_D A [(ax 19, .inr (0, [.ref (ax 0), .ref (ax 1), .ref (ax 35), .ref (ax 55), .ref (ax 4), .ref (ax 5), .ref (ax 6), .ref (ax 7), .int im, .ref (ax 9), .ref (ax 10), .ref (ax 11), .ref (ax 12), .ref (ax 13), .int bn, .int bm, .int fm, .int ff, .int fl])), (ax 1, .inl (E.2 0, 3, .inl nmd)), (ax 0, .inl (E.2 0, 60, .inl pl)), (ax 13, .inl (E.2 1, 8, .inl al)), (ax 11, .inl (E.2 1, 8, .inl ek)), (ax 12, .inl (E.2 1, 8, .inl be)), (ax 5, .inl (E.2 0, 7, .inl er)), (ax 9, .inl (E.2 1, 8, .inl bk))] := hD
  replace hq_1 : r_1 = fx_b (inB sheet 0 3 = true) := hq_1
  rcases fx_bc hq_1 with ⟨hb_1, hr_1⟩ | ⟨hb_1, hr_1⟩
  · -- True
    subst hr_1
    refine lv_if_eq (tgt := 35) hx hb dX0_more_4 (by decide) (fun c => absurd c (by decide)) (fun _ => ?_)
    refine lv_iload_n hx hb dX0_more_7 rfl (lv_at hl 2 rfl) ?_
    refine fx_ci (va_runS (As := [.int til]) (rest := []) X (xX0_isTill l E til _) (va_cwS 1 X.2.2.2.2 (lw_S q336 q337 q69 q338) rfl rfl rfl hdX0_isTill ⟨Nat.le_of_ble_eq_true rfl, Nat.le_of_ble_eq_true rfl⟩) (fx_pre hE hP hD hS hR [] rfl rfl fx_rc0) rfl rfl hl.1 rfl (lv_room (Nat.le_of_ble_eq_true rfl)) dX0_more_8 ⟨Nat.le_refl _, Nat.le_refl _⟩) hP hD hS hA [] rfl rfl (fun r_8 u H locs hq_8 hP hD hS => ?_)
    replace hP : va_P E.1 clA [(ax 19, .inr (0, [.ref (ax 0), .ref (ax 1), .ref (ax 35), .ref (ax 55), .ref (ax 4), .ref (ax 5), .ref (ax 6), .ref (ax 7), .int im, .ref (ax 9), .ref (ax 10), .ref (ax 11), .ref (ax 12), .ref (ax 13), .int bn, .int bm, .int fm, .int ff, .int fl])), (ax 1, .inl (E.2 0, 3, .inl nmd)), (ax 0, .inl (E.2 0, 60, .inl pl)), (ax 13, .inl (E.2 1, 8, .inl al)), (ax 11, .inl (E.2 1, 8, .inl ek)), (ax 12, .inl (E.2 1, 8, .inl be)), (ax 5, .inl (E.2 0, 7, .inl er)), (ax 9, .inl (E.2 1, 8, .inl bk))] _ := hP
    replace hD : va_D A [(ax 19, .inr (0, [.ref (ax 0), .ref (ax 1), .ref (ax 35), .ref (ax 55), .ref (ax 4), .ref (ax 5), .ref (ax 6), .ref (ax 7), .int im, .ref (ax 9), .ref (ax 10), .ref (ax 11), .ref (ax 12), .ref (ax 13), .int bn, .int bm, .int fm, .int ff, .int fl])), (ax 1, .inl (E.2 0, 3, .inl nmd)), (ax 0, .inl (E.2 0, 60, .inl pl)), (ax 13, .inl (E.2 1, 8, .inl al)), (ax 11, .inl (E.2 1, 8, .inl ek)), (ax 12, .inl (E.2 1, 8, .inl be)), (ax 5, .inl (E.2 0, 7, .inl er)), (ax 9, .inl (E.2 1, 8, .inl bk))] := hD
    replace hq_8 : r_8 = fx_b (inB til 0 3 = true) := hq_8
    rcases fx_bc hq_8 with ⟨hb_8, hr_8⟩ | ⟨hb_8, hr_8⟩
    · -- True
      subst hr_8
      refine lv_if_eq (tgt := 35) hx hb dX0_more_11 (by decide) (fun c => absurd c (by decide)) (fun _ => ?_)
      refine lv_iload_n hx hb dX0_more_14 rfl (lv_at hl 3 rfl) ?_
      refine lv_iconst (v := 0) hx hb dX0_more_15 rfl ?_
      refine lv_iconst (v := 4) hx hb dX0_more_16 rfl ?_
      refine fx_ci (va_runS (As := [.int ee, .int 0, .int 4]) (rest := []) X (xX0_isIn l E ee 0 4 _) (va_cwS 3 X.2.2.2.2 (lw_S q300 q301 q69 q302) rfl rfl rfl hdX0_isIn ⟨Nat.le_of_ble_eq_true rfl, Nat.le_of_ble_eq_true rfl⟩) (fx_pre hE hP hD hS hR [] rfl rfl fx_rc0) rfl rfl hl.1 rfl (lv_room (Nat.le_of_ble_eq_true rfl)) dX0_more_17 ⟨Nat.le_refl _, Nat.le_refl _⟩) hP hD hS hA [] rfl rfl (fun r_17 u H locs hq_17 hP hD hS => ?_)
      replace hP : va_P E.1 clA [(ax 19, .inr (0, [.ref (ax 0), .ref (ax 1), .ref (ax 35), .ref (ax 55), .ref (ax 4), .ref (ax 5), .ref (ax 6), .ref (ax 7), .int im, .ref (ax 9), .ref (ax 10), .ref (ax 11), .ref (ax 12), .ref (ax 13), .int bn, .int bm, .int fm, .int ff, .int fl])), (ax 1, .inl (E.2 0, 3, .inl nmd)), (ax 0, .inl (E.2 0, 60, .inl pl)), (ax 13, .inl (E.2 1, 8, .inl al)), (ax 11, .inl (E.2 1, 8, .inl ek)), (ax 12, .inl (E.2 1, 8, .inl be)), (ax 5, .inl (E.2 0, 7, .inl er)), (ax 9, .inl (E.2 1, 8, .inl bk))] _ := hP
      replace hD : va_D A [(ax 19, .inr (0, [.ref (ax 0), .ref (ax 1), .ref (ax 35), .ref (ax 55), .ref (ax 4), .ref (ax 5), .ref (ax 6), .ref (ax 7), .int im, .ref (ax 9), .ref (ax 10), .ref (ax 11), .ref (ax 12), .ref (ax 13), .int bn, .int bm, .int fm, .int ff, .int fl])), (ax 1, .inl (E.2 0, 3, .inl nmd)), (ax 0, .inl (E.2 0, 60, .inl pl)), (ax 13, .inl (E.2 1, 8, .inl al)), (ax 11, .inl (E.2 1, 8, .inl ek)), (ax 12, .inl (E.2 1, 8, .inl be)), (ax 5, .inl (E.2 0, 7, .inl er)), (ax 9, .inl (E.2 1, 8, .inl bk))] := hD
      replace hq_17 : r_17 = fx_b (inB ee 0 4 = true) := hq_17
      rcases fx_bc hq_17 with ⟨hb_17, hr_17⟩ | ⟨hb_17, hr_17⟩
      · -- True
        subst hr_17
        refine lv_if_eq (tgt := 35) hx hb dX0_more_20 (by decide) (fun c => absurd c (by decide)) (fun _ => ?_)
        refine lv_iload hx hb dX0_more_23 (lv_at hl 4 rfl) ?_
        refine lv_bipush (v := (-2)) hx hb dX0_more_25 rfl ?_
        refine lv_bipush (v := 7) hx hb dX0_more_27 rfl ?_
        refine fx_ci (va_runS (As := [.int wh, .int (-2), .int 7]) (rest := []) X (xX0_isIn l E wh (-2) 7 _) (va_cwS 3 X.2.2.2.2 (lw_S q300 q301 q69 q302) rfl rfl rfl hdX0_isIn ⟨Nat.le_of_ble_eq_true rfl, Nat.le_of_ble_eq_true rfl⟩) (fx_pre hE hP hD hS hR [] rfl rfl fx_rc0) rfl rfl hl.1 rfl (lv_room (Nat.le_of_ble_eq_true rfl)) dX0_more_29 ⟨Nat.le_refl _, Nat.le_refl _⟩) hP hD hS hA [] rfl rfl (fun r_29 u H locs hq_29 hP hD hS => ?_)
        replace hP : va_P E.1 clA [(ax 19, .inr (0, [.ref (ax 0), .ref (ax 1), .ref (ax 35), .ref (ax 55), .ref (ax 4), .ref (ax 5), .ref (ax 6), .ref (ax 7), .int im, .ref (ax 9), .ref (ax 10), .ref (ax 11), .ref (ax 12), .ref (ax 13), .int bn, .int bm, .int fm, .int ff, .int fl])), (ax 1, .inl (E.2 0, 3, .inl nmd)), (ax 0, .inl (E.2 0, 60, .inl pl)), (ax 13, .inl (E.2 1, 8, .inl al)), (ax 11, .inl (E.2 1, 8, .inl ek)), (ax 12, .inl (E.2 1, 8, .inl be)), (ax 5, .inl (E.2 0, 7, .inl er)), (ax 9, .inl (E.2 1, 8, .inl bk))] _ := hP
        replace hD : va_D A [(ax 19, .inr (0, [.ref (ax 0), .ref (ax 1), .ref (ax 35), .ref (ax 55), .ref (ax 4), .ref (ax 5), .ref (ax 6), .ref (ax 7), .int im, .ref (ax 9), .ref (ax 10), .ref (ax 11), .ref (ax 12), .ref (ax 13), .int bn, .int bm, .int fm, .int ff, .int fl])), (ax 1, .inl (E.2 0, 3, .inl nmd)), (ax 0, .inl (E.2 0, 60, .inl pl)), (ax 13, .inl (E.2 1, 8, .inl al)), (ax 11, .inl (E.2 1, 8, .inl ek)), (ax 12, .inl (E.2 1, 8, .inl be)), (ax 5, .inl (E.2 0, 7, .inl er)), (ax 9, .inl (E.2 1, 8, .inl bk))] := hD
        replace hq_29 : r_29 = fx_b (inB wh (-2) 7 = true) := hq_29
        rcases fx_bc hq_29 with ⟨hb_29, hr_29⟩ | ⟨hb_29, hr_29⟩
        · -- True
          subst hr_29
          have gsh := inB_nn (n := 3) hb_1 (by omega)
          have gs1 : nn sheet < 4 := by omega
          have gn := inB_nn (n := 3) hb_8 (by omega)
          have g1 : nn til < 4 := by omega
          have ge := inB_nn (n := 4) hb_17 (by omega)
          have ge2 := ge.2
          have hbc : moreC bt sz nu sheet til ee wh = tellC bt sz nu (nn sheet) 30 := by rw [moreC, hb_17, hb_29]; exact lack_ok hb_1 hb_8
          refine lv_if_ne (tgt := 41) hx hb dX0_more_32 (by decide) (fun _ => ?_) (fun c => absurd c (by decide))
          refine lv_aload_n hx hb dX0_more_41 rfl (lv_at hl 0 rfl) ?_
          refine lv_iload_n hx hb dX0_more_42 rfl (lv_at hl 1 rfl) ?_
          refine fx_ti (show sheet = nI (nn sheet) from gsh.1) ?_
          refine lv_aload_n hx hb dX0_more_43 rfl (lv_at hl 0 rfl) ?_
          refine fx_get X hE hP 0 rfl rfl 9 rfl q244 rfl rfl dX0_more_44 ?_
          refine lv_bipush (v := 30) hx hb dX0_more_47 rfl ?_
          refine fx_ci (va_runV (As := [.int (nI (nn sheet)), .ref (ax 9), .int 30]) (rest := []) X (xX0_faultOf l E ax im bn bm fm ff fl bt sz nu sh (ax 9) bk (nn sheet) 30 PL gs1 (by first | assumption | omega) (by first | assumption | omega) (by decide) _) (cwV 3 X.2.2.2.2 (lw_V q809 q811 qs17 q69 q812) rfl rfl rfl ⟨rfl, hdX0_faultOf⟩ ⟨Nat.le_of_ble_eq_true rfl, Nat.le_of_ble_eq_true rfl⟩) (fx_preV (fx_pre hE hP hD hS hR [7] rfl rfl (fx_rcm 0 rfl (by decide) (fx_rcr 10 rfl (fx_rcr 11 rfl (fx_rcr 12 rfl (fx_rcr 13 rfl (fx_rcr 14 rfl (fx_rct (fun q hq => List.mem_append_right _ hq))))))))) (va_recv hE.1 hP (ci := 0) (q0 := 0) rfl rfl)) rfl rfl hl.1 rfl (lv_room (Nat.le_of_ble_eq_true rfl)) dX0_more_49 ⟨Nat.le_refl _, Nat.le_refl _⟩) hP hD hS hA [7] rfl rfl (fun r_49 u H locs hq_49 hP hD hS => ?_)
          obtain ⟨row2_49, rfl⟩ : ∃ z, z = u := ⟨_, rfl⟩
          replace hP : va_P E.1 clA [(ax 19, .inr (0, [.ref (ax 0), .ref (ax 1), .ref (ax 35), .ref (ax 55), .ref (ax 4), .ref (ax 5), .ref (ax 6), .ref (ax 7), .int im, .ref (ax 9), .ref (ax 10), .ref (ax 11), .ref (ax 12), .ref (ax 13), .int bn, .int bm, .int fm, .int ff, .int fl])), (ax 1, .inl (E.2 0, 3, .inl nmd)), (ax 0, .inl (E.2 0, 60, .inl pl)), (ax 13, .inl (E.2 1, 8, .inl al)), (ax 11, .inl (E.2 1, 8, .inl ek)), (ax 12, .inl (E.2 1, 8, .inl be)), (ax 5, .inl (E.2 0, 7, .inl er)), (ax 9, .inl (E.2 1, 8, .inl row2_49))] _ := hP
          replace hD : va_D A [(ax 19, .inr (0, [.ref (ax 0), .ref (ax 1), .ref (ax 35), .ref (ax 55), .ref (ax 4), .ref (ax 5), .ref (ax 6), .ref (ax 7), .int im, .ref (ax 9), .ref (ax 10), .ref (ax 11), .ref (ax 12), .ref (ax 13), .int bn, .int bm, .int fm, .int ff, .int fl])), (ax 1, .inl (E.2 0, 3, .inl nmd)), (ax 0, .inl (E.2 0, 60, .inl pl)), (ax 13, .inl (E.2 1, 8, .inl al)), (ax 11, .inl (E.2 1, 8, .inl ek)), (ax 12, .inl (E.2 1, 8, .inl be)), (ax 5, .inl (E.2 0, 7, .inl er)), (ax 9, .inl (E.2 1, 8, .inl row2_49))] := hD
          replace hq_49 : r_49 = nI (tellC bt sz nu (nn sheet) 30) ∧ (tellC bt sz nu (nn sheet) 30 = 0 → ∀ t, t < 8 → row2_49 t = shG sz nu (nn sheet) t) := hq_49
          refine fx_ti (show r_49 = nI (tellC bt sz nu (nn sheet) 30) from hq_49.1) ?_
          have hcl : tellC bt sz nu (nn sheet) 30 ≤ 4 := tellC_le
          refine lv_istore (lv' := [(5, .int (nI (tellC bt sz nu (nn sheet) 30))), (0, .ref (ax 19)), (1, .int sheet), (2, .int til), (3, .int ee), (4, .int wh)]) hx hb dX0_more_52 hl (by decide) rfl (fun ls hl => ?_)
          refine lv_iload hx hb dX0_more_54 (lv_at hl 0 rfl) ?_
          refine lv_if_le (tgt := 66) hx hb dX0_more_56 (by decide) (fun c_56 => ?_) (fun c_56 => ?_)
          · -- jump 66
            have n_56 := fx_le1 (a := (tellC bt sz nu (nn sheet) 30)) (b := 0) c_56 (by omega) (by omega)
            have h0 : tellC bt sz nu (nn sheet) 30 = 0 := by omega
            obtain ⟨hrow, hr9, hm30⟩ := tell_row h0 (hq_49.2 h0)
            refine lv_aload_n hx hb dX0_more_66 rfl (lv_at hl 1 rfl) ?_
            refine lv_iload_n hx hb dX0_more_67 rfl (lv_at hl 3 rfl) ?_
            refine fx_ti (show til = nI (nn til) from gn.1) ?_
            refine lv_iload_n hx hb dX0_more_68 rfl (lv_at hl 4 rfl) ?_
            refine fx_ti (show ee = nI (nn ee) from ge.1) ?_
            refine fx_ci (va_runV (As := [.int (nI (nn til)), .int (nI (nn ee))]) (rest := []) X (xX0_findMore l E ax im bn bm fm ff fl tk cs gs zz tp wg nmd pl sa tl pr co row2_49 ek al be (rnG sz nu (nn sheet)) tx T T1 PL (nn til) (nn ee) g1 (by first | assumption | omega) (by first | assumption | omega) (by first | assumption | omega) (by first | assumption | omega) (by first | assumption | omega) (by first | assumption | omega) (by first | assumption | omega) (by first | assumption | omega) (fun i hi => ⟨(hrow i hi).1, hr9 i hi⟩) (by first | assumption | omega) (by omega) _) (cwV 2 X.2.2.2.2 (lw_V q871 q873 qs23 q69 q874) rfl rfl rfl ⟨rfl, hdX0_findMore⟩ ⟨Nat.le_of_ble_eq_true rfl, Nat.le_of_ble_eq_true rfl⟩) (fx_preV (fx_pre hE hP hD hS hR [0, 1, 2, 3, 4, 5] rfl rfl (fx_rcr 0 rfl (fx_rcr 1 rfl (fx_rcr 2 rfl (fx_rcr 3 rfl (fx_rcr 4 rfl (fx_rcr 5 rfl (fx_rcr 6 rfl (fx_rcr 7 rfl (fx_rcr 8 rfl (fx_rcr 9 rfl (fx_rcm 7 rfl (by decide) (fx_rct (fun q hq => List.mem_append_right _ hq)))))))))))))) (va_recv hE.1 hP (ci := 0) (q0 := 0) rfl rfl)) rfl rfl hl.1 rfl (lv_room (Nat.le_of_ble_eq_true rfl)) dX0_more_69 ⟨Nat.le_refl _, Nat.le_refl _⟩) hP hD hS hA [0, 1, 2, 3, 4, 5] rfl rfl (fun r_69 u H locs hq_69 hP hD hS => ?_)
            obtain ⟨bn2_69, bm2_69, nm2_69, pl2_69, al2_69, ek2_69, be2_69⟩ := u
            replace hP : va_P E.1 clA [(ax 19, .inr (0, [.ref (ax 0), .ref (ax 1), .ref (ax 35), .ref (ax 55), .ref (ax 4), .ref (ax 5), .ref (ax 6), .ref (ax 7), .int im, .ref (ax 9), .ref (ax 10), .ref (ax 11), .ref (ax 12), .ref (ax 13), .int bn2_69, .int bm2_69, .int fm, .int ff, .int fl])), (ax 1, .inl (E.2 0, 3, .inl nm2_69)), (ax 0, .inl (E.2 0, 60, .inl pl2_69)), (ax 13, .inl (E.2 1, 8, .inl al2_69)), (ax 11, .inl (E.2 1, 8, .inl ek2_69)), (ax 12, .inl (E.2 1, 8, .inl be2_69)), (ax 5, .inl (E.2 0, 7, .inl er)), (ax 9, .inl (E.2 1, 8, .inl row2_49))] _ := hP
            replace hD : va_D A [(ax 19, .inr (0, [.ref (ax 0), .ref (ax 1), .ref (ax 35), .ref (ax 55), .ref (ax 4), .ref (ax 5), .ref (ax 6), .ref (ax 7), .int im, .ref (ax 9), .ref (ax 10), .ref (ax 11), .ref (ax 12), .ref (ax 13), .int bn2_69, .int bm2_69, .int fm, .int ff, .int fl])), (ax 1, .inl (E.2 0, 3, .inl nm2_69)), (ax 0, .inl (E.2 0, 60, .inl pl2_69)), (ax 13, .inl (E.2 1, 8, .inl al2_69)), (ax 11, .inl (E.2 1, 8, .inl ek2_69)), (ax 12, .inl (E.2 1, 8, .inl be2_69)), (ax 5, .inl (E.2 0, 7, .inl er)), (ax 9, .inl (E.2 1, 8, .inl row2_49))] := hD
            replace hq_69 : r_69 = paysF sa T (fun t => (rnG sz nu (nn sheet)) t + (seekF sa T T1 (nn til) (rnG sz nu (nn sheet)) (nn ee)).2.2 t) (nn til) ∧ bn2_69 = (seekF sa T T1 (nn til) (rnG sz nu (nn sheet)) (nn ee)).2.1 ∧ (∀ i, i < 8 → be2_69 i = nI ((seekF sa T T1 (nn til) (rnG sz nu (nn sheet)) (nn ee)).2.2 i) ∧ (seekF sa T T1 (nn til) (rnG sz nu (nn sheet)) (nn ee)).2.2 i ≤ 9) := hq_69
            refine lv_istore (lv' := [(6, .int r_69), (5, .int (nI (tellC bt sz nu (nn sheet) 30))), (0, .ref (ax 19)), (1, .int sheet), (2, .int til), (3, .int ee), (4, .int wh)]) hx hb dX0_more_72 hl (by decide) rfl (fun ls hl => ?_)
            refine lv_iload hx hb dX0_more_74 (lv_at hl 6 rfl) ?_
            refine lv_iconst (v := (-1)) hx hb dX0_more_76 rfl ?_
            refine lv_icmp_ne (tgt := 85) hx hb dX0_more_77 (by decide) (fun c_77 => ?_) (fun c_77 => ?_)
            · -- jump 85
              refine lv_iload hx hb dX0_more_85 (lv_at hl 6 rfl) ?_
              refine lv_bipush (v := (-2)) hx hb dX0_more_87 rfl ?_
              refine lv_icmp_ne (tgt := 99) hx hb dX0_more_89 (by decide) (fun c_89 => ?_) (fun c_89 => ?_)
              · -- jump 99
                refine lv_aload_n hx hb dX0_more_99 rfl (lv_at hl 2 rfl) ?_
                refine fx_get X hE hP 0 rfl rfl 12 rfl q247 rfl rfl dX0_more_100 ?_
                have gw := wh_nat hb_29 c_89 c_77
                have gw2 := gw.2
                refine lv_iload hx hb dX0_more_103 (lv_at hl 6 rfl) ?_
                refine fx_ti (show wh = nI (nn wh) from gw.1) ?_
                refine fx_bald X hE hP 5 rfl (nn wh) rfl (by omega) rfl dX0_more_105 ?_
                exact hret (be2_69 (nn wh)) (bn2_69, bm2_69, nm2_69, pl2_69, al2_69, ek2_69, be2_69, er, row2_49) (by simp only [more_, hbc, h0, eR_0, eE_0, moreR]; rw [if_neg c_89, if_neg c_77, (hq_69.2.2 _ (by omega)).1]) (rfl) hP hD hS (Nat.le_refl _) (Nat.le_refl _) dX0_more_106
              · -- fall 92
                refine lv_aload_n hx hb dX0_more_92 rfl (lv_at hl 2 rfl) ?_
                refine fx_get X hE hP 0 rfl rfl 14 rfl q249 rfl rfl dX0_more_93 ?_
                refine lv_goto (tgt := 106) hx hb dX0_more_96 (by decide) ?_
                exact hret bn2_69 (bn2_69, bm2_69, nm2_69, pl2_69, al2_69, ek2_69, be2_69, er, row2_49) (by simp only [more_, hbc, h0, eR_0, eE_0, moreR]; rw [if_pos c_89, hq_69.2.1]) (rfl) hP hD hS (Nat.le_refl _) (Nat.le_refl _) dX0_more_106
            · -- fall 80
              refine lv_iload hx hb dX0_more_80 (lv_at hl 0 rfl) ?_
              refine lv_goto (tgt := 106) hx hb dX0_more_82 (by decide) ?_
              exact hret r_69 (bn2_69, bm2_69, nm2_69, pl2_69, al2_69, ek2_69, be2_69, er, row2_49) (by simp only [more_, hbc, h0, eR_0, eE_0, moreR]; rw [if_neg (by rw [c_77]; decide), if_pos c_77, hq_69.1]) (rfl) hP hD hS (Nat.le_refl _) (Nat.le_refl _) dX0_more_106
          · -- fall 59
            have n_56 := fx_le0 (a := (tellC bt sz nu (nn sheet) 30)) (b := 0) c_56 (by omega) (by omega)
            refine lv_aload_n hx hb dX0_more_59 rfl (lv_at hl 1 rfl) ?_
            refine lv_iload hx hb dX0_more_60 (lv_at hl 0 rfl) ?_
            refine fx_ci (va_runV (As := [.int (nI (tellC bt sz nu (nn sheet) 30))]) (rest := []) X (xX0_finds l E ax im bn bm fm ff fl er (tellC bt sz nu (nn sheet) 30) (by omega) _) (cwV 1 X.2.2.2.2 (lw_V q303 q305 qs0 q69 q306) rfl rfl rfl ⟨rfl, hdX0_finds⟩ ⟨Nat.le_of_ble_eq_true rfl, Nat.le_of_ble_eq_true rfl⟩) (fx_preV (fx_pre hE hP hD hS hR [6] rfl rfl (fx_rcm 0 rfl (by decide) fx_rc0)) (va_recv hE.1 hP (ci := 0) (q0 := 0) rfl rfl)) rfl rfl hl.1 rfl (lv_room (Nat.le_of_ble_eq_true rfl)) dX0_more_62 ⟨Nat.le_refl _, Nat.le_refl _⟩) hP hD hS hA [6] rfl rfl (fun r_62 u H locs hq_62 hP hD hS => ?_)
            replace hP : va_P E.1 clA [(ax 19, .inr (0, [.ref (ax 0), .ref (ax 1), .ref (ax 35), .ref (ax 55), .ref (ax 4), .ref (ax 5), .ref (ax 6), .ref (ax 7), .int im, .ref (ax 9), .ref (ax 10), .ref (ax 11), .ref (ax 12), .ref (ax 13), .int bn, .int bm, .int fm, .int ff, .int fl])), (ax 1, .inl (E.2 0, 3, .inl nmd)), (ax 0, .inl (E.2 0, 60, .inl pl)), (ax 13, .inl (E.2 1, 8, .inl al)), (ax 11, .inl (E.2 1, 8, .inl ek)), (ax 12, .inl (E.2 1, 8, .inl be)), (ax 5, .inl (E.2 0, 7, .inl (upd er (tellC bt sz nu (nn sheet) 30) (er (tellC bt sz nu (nn sheet) 30) + 1)))), (ax 9, .inl (E.2 1, 8, .inl row2_49))] _ := hP
            replace hD : va_D A [(ax 19, .inr (0, [.ref (ax 0), .ref (ax 1), .ref (ax 35), .ref (ax 55), .ref (ax 4), .ref (ax 5), .ref (ax 6), .ref (ax 7), .int im, .ref (ax 9), .ref (ax 10), .ref (ax 11), .ref (ax 12), .ref (ax 13), .int bn, .int bm, .int fm, .int ff, .int fl])), (ax 1, .inl (E.2 0, 3, .inl nmd)), (ax 0, .inl (E.2 0, 60, .inl pl)), (ax 13, .inl (E.2 1, 8, .inl al)), (ax 11, .inl (E.2 1, 8, .inl ek)), (ax 12, .inl (E.2 1, 8, .inl be)), (ax 5, .inl (E.2 0, 7, .inl (upd er (tellC bt sz nu (nn sheet) 30) (er (tellC bt sz nu (nn sheet) 30) + 1)))), (ax 9, .inl (E.2 1, 8, .inl row2_49))] := hD
            replace hq_62 : r_62 = erv (tellC bt sz nu (nn sheet) 30) := hq_62
            exact hret r_62 (bn, bm, nmd, pl, al, ek, be, (upd er (tellC bt sz nu (nn sheet) 30) (er (tellC bt sz nu (nn sheet) 30) + 1)), row2_49) (by rw [hq_62]; simp only [more_, hbc, eR_p n_56, eE_p n_56, erI]) (rfl) hP hD hS (Nat.le_refl _) (Nat.le_refl _) dX0_more_65
        · -- False
          subst hr_29
          have hbc : moreC bt sz nu sheet til ee wh = 1 := lack_no (Or.inr (Or.inr (by rw [Bool.eq_false_iff.2 hb_29, Bool.and_false]; exact Bool.false_ne_true)))
          refine lv_if_ne (tgt := 41) hx hb dX0_more_32 (by decide) (fun c => (c (by decide)).elim) (fun _ => ?_)
          refine lv_aload_n hx hb dX0_more_35 rfl (lv_at hl 0 rfl) ?_
          refine lv_iconst (v := 1) hx hb dX0_more_36 rfl ?_
          refine fx_ci (va_runV (As := [.int 1]) (rest := []) X (xX0_finds l E ax im bn bm fm ff fl er 1 (by decide) _) (cwV 1 X.2.2.2.2 (lw_V q303 q305 qs0 q69 q306) rfl rfl rfl ⟨rfl, hdX0_finds⟩ ⟨Nat.le_of_ble_eq_true rfl, Nat.le_of_ble_eq_true rfl⟩) (fx_preV (fx_pre hE hP hD hS hR [6] rfl rfl (fx_rcm 0 rfl (by decide) fx_rc0)) (va_recv hE.1 hP (ci := 0) (q0 := 0) rfl rfl)) rfl rfl hl.1 rfl (lv_room (Nat.le_of_ble_eq_true rfl)) dX0_more_37 ⟨Nat.le_refl _, Nat.le_refl _⟩) hP hD hS hA [6] rfl rfl (fun r_37 u H locs hq_37 hP hD hS => ?_)
          replace hP : va_P E.1 clA [(ax 19, .inr (0, [.ref (ax 0), .ref (ax 1), .ref (ax 35), .ref (ax 55), .ref (ax 4), .ref (ax 5), .ref (ax 6), .ref (ax 7), .int im, .ref (ax 9), .ref (ax 10), .ref (ax 11), .ref (ax 12), .ref (ax 13), .int bn, .int bm, .int fm, .int ff, .int fl])), (ax 1, .inl (E.2 0, 3, .inl nmd)), (ax 0, .inl (E.2 0, 60, .inl pl)), (ax 13, .inl (E.2 1, 8, .inl al)), (ax 11, .inl (E.2 1, 8, .inl ek)), (ax 12, .inl (E.2 1, 8, .inl be)), (ax 5, .inl (E.2 0, 7, .inl (upd er 1 (er 1 + 1)))), (ax 9, .inl (E.2 1, 8, .inl bk))] _ := hP
          replace hD : va_D A [(ax 19, .inr (0, [.ref (ax 0), .ref (ax 1), .ref (ax 35), .ref (ax 55), .ref (ax 4), .ref (ax 5), .ref (ax 6), .ref (ax 7), .int im, .ref (ax 9), .ref (ax 10), .ref (ax 11), .ref (ax 12), .ref (ax 13), .int bn, .int bm, .int fm, .int ff, .int fl])), (ax 1, .inl (E.2 0, 3, .inl nmd)), (ax 0, .inl (E.2 0, 60, .inl pl)), (ax 13, .inl (E.2 1, 8, .inl al)), (ax 11, .inl (E.2 1, 8, .inl ek)), (ax 12, .inl (E.2 1, 8, .inl be)), (ax 5, .inl (E.2 0, 7, .inl (upd er 1 (er 1 + 1)))), (ax 9, .inl (E.2 1, 8, .inl bk))] := hD
          replace hq_37 : r_37 = erv 1 := hq_37
          exact hret r_37 (bn, bm, nmd, pl, al, ek, be, (upd er 1 (er 1 + 1)), bk) (by rw [hq_37]; simp only [more_, hbc]; rfl) (rfl) hP hD hS (Nat.le_refl _) (Nat.le_refl _) dX0_more_40
      · -- False
        subst hr_17
        have hbc : moreC bt sz nu sheet til ee wh = 1 := lack_no (Or.inr (Or.inr (by rw [Bool.eq_false_iff.2 hb_17]; exact Bool.false_ne_true)))
        refine lv_if_eq (tgt := 35) hx hb dX0_more_20 (by decide) (fun _ => ?_) (fun c => (c (by decide)).elim)
        refine lv_aload_n hx hb dX0_more_35 rfl (lv_at hl 0 rfl) ?_
        refine lv_iconst (v := 1) hx hb dX0_more_36 rfl ?_
        refine fx_ci (va_runV (As := [.int 1]) (rest := []) X (xX0_finds l E ax im bn bm fm ff fl er 1 (by decide) _) (cwV 1 X.2.2.2.2 (lw_V q303 q305 qs0 q69 q306) rfl rfl rfl ⟨rfl, hdX0_finds⟩ ⟨Nat.le_of_ble_eq_true rfl, Nat.le_of_ble_eq_true rfl⟩) (fx_preV (fx_pre hE hP hD hS hR [6] rfl rfl (fx_rcm 0 rfl (by decide) fx_rc0)) (va_recv hE.1 hP (ci := 0) (q0 := 0) rfl rfl)) rfl rfl hl.1 rfl (lv_room (Nat.le_of_ble_eq_true rfl)) dX0_more_37 ⟨Nat.le_refl _, Nat.le_refl _⟩) hP hD hS hA [6] rfl rfl (fun r_37 u H locs hq_37 hP hD hS => ?_)
        replace hP : va_P E.1 clA [(ax 19, .inr (0, [.ref (ax 0), .ref (ax 1), .ref (ax 35), .ref (ax 55), .ref (ax 4), .ref (ax 5), .ref (ax 6), .ref (ax 7), .int im, .ref (ax 9), .ref (ax 10), .ref (ax 11), .ref (ax 12), .ref (ax 13), .int bn, .int bm, .int fm, .int ff, .int fl])), (ax 1, .inl (E.2 0, 3, .inl nmd)), (ax 0, .inl (E.2 0, 60, .inl pl)), (ax 13, .inl (E.2 1, 8, .inl al)), (ax 11, .inl (E.2 1, 8, .inl ek)), (ax 12, .inl (E.2 1, 8, .inl be)), (ax 5, .inl (E.2 0, 7, .inl (upd er 1 (er 1 + 1)))), (ax 9, .inl (E.2 1, 8, .inl bk))] _ := hP
        replace hD : va_D A [(ax 19, .inr (0, [.ref (ax 0), .ref (ax 1), .ref (ax 35), .ref (ax 55), .ref (ax 4), .ref (ax 5), .ref (ax 6), .ref (ax 7), .int im, .ref (ax 9), .ref (ax 10), .ref (ax 11), .ref (ax 12), .ref (ax 13), .int bn, .int bm, .int fm, .int ff, .int fl])), (ax 1, .inl (E.2 0, 3, .inl nmd)), (ax 0, .inl (E.2 0, 60, .inl pl)), (ax 13, .inl (E.2 1, 8, .inl al)), (ax 11, .inl (E.2 1, 8, .inl ek)), (ax 12, .inl (E.2 1, 8, .inl be)), (ax 5, .inl (E.2 0, 7, .inl (upd er 1 (er 1 + 1)))), (ax 9, .inl (E.2 1, 8, .inl bk))] := hD
        replace hq_37 : r_37 = erv 1 := hq_37
        exact hret r_37 (bn, bm, nmd, pl, al, ek, be, (upd er 1 (er 1 + 1)), bk) (by rw [hq_37]; simp only [more_, hbc]; rfl) (rfl) hP hD hS (Nat.le_refl _) (Nat.le_refl _) dX0_more_40
    · -- False
      subst hr_8
      have hbc : moreC bt sz nu sheet til ee wh = 1 := lack_no (Or.inr (Or.inl hb_8))
      refine lv_if_eq (tgt := 35) hx hb dX0_more_11 (by decide) (fun _ => ?_) (fun c => (c (by decide)).elim)
      refine lv_aload_n hx hb dX0_more_35 rfl (lv_at hl 0 rfl) ?_
      refine lv_iconst (v := 1) hx hb dX0_more_36 rfl ?_
      refine fx_ci (va_runV (As := [.int 1]) (rest := []) X (xX0_finds l E ax im bn bm fm ff fl er 1 (by decide) _) (cwV 1 X.2.2.2.2 (lw_V q303 q305 qs0 q69 q306) rfl rfl rfl ⟨rfl, hdX0_finds⟩ ⟨Nat.le_of_ble_eq_true rfl, Nat.le_of_ble_eq_true rfl⟩) (fx_preV (fx_pre hE hP hD hS hR [6] rfl rfl (fx_rcm 0 rfl (by decide) fx_rc0)) (va_recv hE.1 hP (ci := 0) (q0 := 0) rfl rfl)) rfl rfl hl.1 rfl (lv_room (Nat.le_of_ble_eq_true rfl)) dX0_more_37 ⟨Nat.le_refl _, Nat.le_refl _⟩) hP hD hS hA [6] rfl rfl (fun r_37 u H locs hq_37 hP hD hS => ?_)
      replace hP : va_P E.1 clA [(ax 19, .inr (0, [.ref (ax 0), .ref (ax 1), .ref (ax 35), .ref (ax 55), .ref (ax 4), .ref (ax 5), .ref (ax 6), .ref (ax 7), .int im, .ref (ax 9), .ref (ax 10), .ref (ax 11), .ref (ax 12), .ref (ax 13), .int bn, .int bm, .int fm, .int ff, .int fl])), (ax 1, .inl (E.2 0, 3, .inl nmd)), (ax 0, .inl (E.2 0, 60, .inl pl)), (ax 13, .inl (E.2 1, 8, .inl al)), (ax 11, .inl (E.2 1, 8, .inl ek)), (ax 12, .inl (E.2 1, 8, .inl be)), (ax 5, .inl (E.2 0, 7, .inl (upd er 1 (er 1 + 1)))), (ax 9, .inl (E.2 1, 8, .inl bk))] _ := hP
      replace hD : va_D A [(ax 19, .inr (0, [.ref (ax 0), .ref (ax 1), .ref (ax 35), .ref (ax 55), .ref (ax 4), .ref (ax 5), .ref (ax 6), .ref (ax 7), .int im, .ref (ax 9), .ref (ax 10), .ref (ax 11), .ref (ax 12), .ref (ax 13), .int bn, .int bm, .int fm, .int ff, .int fl])), (ax 1, .inl (E.2 0, 3, .inl nmd)), (ax 0, .inl (E.2 0, 60, .inl pl)), (ax 13, .inl (E.2 1, 8, .inl al)), (ax 11, .inl (E.2 1, 8, .inl ek)), (ax 12, .inl (E.2 1, 8, .inl be)), (ax 5, .inl (E.2 0, 7, .inl (upd er 1 (er 1 + 1)))), (ax 9, .inl (E.2 1, 8, .inl bk))] := hD
      replace hq_37 : r_37 = erv 1 := hq_37
      exact hret r_37 (bn, bm, nmd, pl, al, ek, be, (upd er 1 (er 1 + 1)), bk) (by rw [hq_37]; simp only [more_, hbc]; rfl) (rfl) hP hD hS (Nat.le_refl _) (Nat.le_refl _) dX0_more_40
  · -- False
    subst hr_1
    have hbc : moreC bt sz nu sheet til ee wh = 1 := lack_no (Or.inl hb_1)
    refine lv_if_eq (tgt := 35) hx hb dX0_more_4 (by decide) (fun _ => ?_) (fun c => (c (by decide)).elim)
    refine lv_aload_n hx hb dX0_more_35 rfl (lv_at hl 0 rfl) ?_
    refine lv_iconst (v := 1) hx hb dX0_more_36 rfl ?_
    refine fx_ci (va_runV (As := [.int 1]) (rest := []) X (xX0_finds l E ax im bn bm fm ff fl er 1 (by decide) _) (cwV 1 X.2.2.2.2 (lw_V q303 q305 qs0 q69 q306) rfl rfl rfl ⟨rfl, hdX0_finds⟩ ⟨Nat.le_of_ble_eq_true rfl, Nat.le_of_ble_eq_true rfl⟩) (fx_preV (fx_pre hE hP hD hS hR [6] rfl rfl (fx_rcm 0 rfl (by decide) fx_rc0)) (va_recv hE.1 hP (ci := 0) (q0 := 0) rfl rfl)) rfl rfl hl.1 rfl (lv_room (Nat.le_of_ble_eq_true rfl)) dX0_more_37 ⟨Nat.le_refl _, Nat.le_refl _⟩) hP hD hS hA [6] rfl rfl (fun r_37 u H locs hq_37 hP hD hS => ?_)
    replace hP : va_P E.1 clA [(ax 19, .inr (0, [.ref (ax 0), .ref (ax 1), .ref (ax 35), .ref (ax 55), .ref (ax 4), .ref (ax 5), .ref (ax 6), .ref (ax 7), .int im, .ref (ax 9), .ref (ax 10), .ref (ax 11), .ref (ax 12), .ref (ax 13), .int bn, .int bm, .int fm, .int ff, .int fl])), (ax 1, .inl (E.2 0, 3, .inl nmd)), (ax 0, .inl (E.2 0, 60, .inl pl)), (ax 13, .inl (E.2 1, 8, .inl al)), (ax 11, .inl (E.2 1, 8, .inl ek)), (ax 12, .inl (E.2 1, 8, .inl be)), (ax 5, .inl (E.2 0, 7, .inl (upd er 1 (er 1 + 1)))), (ax 9, .inl (E.2 1, 8, .inl bk))] _ := hP
    replace hD : va_D A [(ax 19, .inr (0, [.ref (ax 0), .ref (ax 1), .ref (ax 35), .ref (ax 55), .ref (ax 4), .ref (ax 5), .ref (ax 6), .ref (ax 7), .int im, .ref (ax 9), .ref (ax 10), .ref (ax 11), .ref (ax 12), .ref (ax 13), .int bn, .int bm, .int fm, .int ff, .int fl])), (ax 1, .inl (E.2 0, 3, .inl nmd)), (ax 0, .inl (E.2 0, 60, .inl pl)), (ax 13, .inl (E.2 1, 8, .inl al)), (ax 11, .inl (E.2 1, 8, .inl ek)), (ax 12, .inl (E.2 1, 8, .inl be)), (ax 5, .inl (E.2 0, 7, .inl (upd er 1 (er 1 + 1)))), (ax 9, .inl (E.2 1, 8, .inl bk))] := hD
    replace hq_37 : r_37 = erv 1 := hq_37
    exact hret r_37 (bn, bm, nmd, pl, al, ek, be, (upd er 1 (er 1 + 1)), bk) (by rw [hq_37]; simp only [more_, hbc]; rfl) (rfl) hP hD hS (Nat.le_refl _) (Nat.le_refl _) dX0_more_40
