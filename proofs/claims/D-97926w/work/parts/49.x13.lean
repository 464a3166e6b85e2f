set_option maxRecDepth 100000
theorem hdX0_leastInTwo : yX0_leastInTwo.cls ≠ "java/lang/invoke/MethodHandle" ∧ yX0_leastInTwo.cls ≠ "java/lang/invoke/VarHandle" ∧ (parseMethodDescriptor yX0_leastInTwo.desc).map (fun d => d.parameters.length) = some 3 := by decide +kernel
abbrev rxX0_leastInTwo (d : Nat) : Room := { frames := d + 14, cells := 0, slots := 0, locals := 30 * d + 700 }
set_option maxHeartbeats 1000000 in
set_option maxRecDepth 100000 in
theorem xX0_leastInTwo (l : Launch) (E : fx_En) : ∀ (d : Nat) (ax : Nat → Nat) (im : Int32) (bn : Int32) (bm : Int32) (fm : Int32) (ff : Int32) (fl : Int32) (tk : Int32) (cs : Int32) (gs : Int32) (zz : Int32) (tp : Int32) (wg : Int32) (nmd : Nat → Int32) (pl : Nat → Int32) (sa : Nat → Int32) (tl : Nat → Nat) (pr : Nat → Int32) (bk : Nat → Int32) (ek : Nat → Int32) (al : Nat → Int32) (rn : Nat → Nat) (ex : Nat → Nat) (tx : Nat → Option Nat) (T : Tx) (PL : va_W) (k : Nat) (le : Nat) (mo : Nat) (la : Int32) (hd : d ≤ 8) (hk : k < 4) (hI : Inv sa) (hTL : TLS PL sa tl) (hT : TXs E PL (tx 0) T) (hTo : TOk T) (hpr : rl pr sa 8 8) (hbk : ∀ i, i < 8 → bk i = nI (rn i) ∧ rn i ≤ 9) (hek : ∀ i, i < 8 - d → ek i = nI (ex i) ∧ ex i ≤ rn i) (hla : la = -1 ∨ 0 ≤ la), fx_Mi l yX0_leastInTwo cX0_leastInTwo 6 .int (rxX0_leastInTwo d) E [.ref (ax 19), .int (nI (8 - d)), .int (nI k), .int la] [(ax 1, .inl (E.2 0, 3, .inl nmd)), (ax 0, .inl (E.2 0, 60, .inl pl)), (ax 13, .inl (E.2 1, 8, .inl al)), (ax 11, .inl (E.2 1, 8, .inl ek))] ([(ax 19, .inr (0, [.ref (ax 0), .ref (ax 1), .ref (ax 35), .ref (ax 55), .ref (ax 4), .ref (ax 5), .ref (ax 6), .ref (ax 7), .int im, .ref (ax 9), .ref (ax 10), .ref (ax 11), .ref (ax 12), .ref (ax 13), .int bn, .int bm, .int fm, .int ff, .int fl])), (ax 35, .inr (1, [.ref (ax 20), .ref (ax 21), .ref (ax 22), .int tk, .int cs, .int gs, .int zz, .int tp, .int wg, .ref (ax 29), .ref (ax 30), .ref (ax 31), .ref (ax 32)])), (ax 29, .inl (E.2 3, 4, .inr (.inr (.inr (.inr (fun i_ => some (ax (36 + i_)))))))), (ax 36, .inr (2, [.ref (tl 0)])), (ax 37, .inr (2, [.ref (tl 1)])), (ax 38, .inr (2, [.ref (tl 2)])), (ax 39, .inr (2, [.ref (tl 3)])), (ax 7, .inr (5, [.ref (ax 19)])), (ax 30, .inl (E.2 4, 2, .inr (.inr (.inr (.inr tx))))), (ax 20, .inl (E.2 0, 8, .inl pr)), (ax 9, .inl (E.2 1, 8, .inl bk))] ++ PL) (S := (Nat → Int32) × (Nat → Int32) × (Nat → Int32) × (Nat → Int32)) (fun (u : (Nat → Int32) × (Nat → Int32) × (Nat → Int32) × (Nat → Int32)) => [(ax 1, .inl (E.2 0, 3, .inl u.1)), (ax 0, .inl (E.2 0, 60, .inl u.2.1)), (ax 13, .inl (E.2 1, 8, .inl u.2.2.1)), (ax 11, .inl (E.2 1, 8, .inl u.2.2.2))]) (fun (r : Int32) (u : (Nat → Int32) × (Nat → Int32) × (Nat → Int32) × (Nat → Int32)) => r = (enL (fun t _ => rn t) (lfP (partF sa T k rn)) d ex le mo la) ∧ 0 ≤ r ∧ (∀ i, i < 8 - d → u.2.2.2 i = ek i)) := by
  intro d
  induction d with
  | zero =>
    intro ax im bn bm fm ff fl tk cs gs zz tp wg nmd pl sa tl pr bk ek al rn ex tx T PL k le mo la hd hk hI hTL hT hTo hpr hbk hek hla
    refine fx_iW rfl rfl ?_
    intro p e s m args below meth c A ls Q X hE hP hD hR hA hl hret
    have hx := X.1
    have hb := X.2.1
    have hS : va_S A s.heap s.heap [] := va_S.rf
    replace hP : va_P E.1 clA [(ax 1, .inl (E.2 0, 3, .inl nmd)), (ax 0, .inl (E.2 0, 60, .inl pl)), (ax 13, .inl (E.2 1, 8, .inl al)), (ax 11, .inl (E.2 1, 8, .inl ek))] _ := hP
    replace hD : va_D A [(ax 1, .inl (E.2 0, 3, .inl nmd)), (ax 0, .inl (E.2 0, 60, .inl pl)), (ax 13, .inl (E.2 1, 8, .inl al)), (ax 11, .inl (E.2 1, 8, .inl ek))] := hD
    replace hl : lv_has ls 6 [(0, .ref (ax 19)), (1, .int (nI (8 - 0))), (2, .int (nI k)), (3, .int la)] := hl
    refine lv_iload_n hx hb dX0_leastInTwo_0 rfl (lv_at hl 1 rfl) ?_
    refine lv_bipush (v := 8) hx hb dX0_leastInTwo_1 rfl ?_
    refine lv_icmp_ne (tgt := 82) hx hb dX0_leastInTwo_3 (by decide) (fun c_3 => (c_3 rfl).elim) (fun c_3 => ?_)
    have n_3 := fx_eq1 (a := (8 - 0)) (b := 8) c_3 (by omega) (by omega)
    refine lv_iconst (v := 0) hx hb dX0_leastInTwo_6 rfl ?_
    refine lv_istore (lv' := [(4, .int 0), (0, .ref (ax 19)), (1, .int (nI (8 - 0))), (2, .int (nI k)), (3, .int la)]) hx hb dX0_leastInTwo_7 hl (by decide) rfl (fun ls hl => ?_)
    have loop_9 : ∀ (n_9 : Nat) (t : Nat) (alv : Nat → Int32), (8 - t < n_9) → (t ≤ 8) → (∀ i, i < t → alv i = nI (rn i - ex i)) → ∀ (H : Heap) (locs : List Loc), va_P E.1 clA [(ax 1, .inl (E.2 0, 3, .inl nmd)), (ax 0, .inl (E.2 0, 60, .inl pl)), (ax 13, .inl (E.2 1, 8, .inl alv)), (ax 11, .inl (E.2 1, 8, .inl ek))] H → va_D A [(ax 1, .inl (E.2 0, 3, .inl nmd)), (ax 0, .inl (E.2 0, 60, .inl pl)), (ax 13, .inl (E.2 1, 8, .inl alv)), (ax 11, .inl (E.2 1, 8, .inl ek))] → va_S A s.heap H locs → ∀ (ls : Array Slot), lv_has ls 6 [(4, .int (nI t)), (0, .ref (ax 19)), (1, .int (nI (8 - 0))), (2, .int (nI k)), (3, .int la)] → W p l e (rxX0_leastInTwo 0) s m args below meth c H locs 0 0 Q (F0 m 9 ls []) := by
      intro n_9
      induction n_9 with
      | zero => intro t alv hm_9; exact absurd hm_9 (Nat.not_lt_zero _)
      | succ n_9 ih_9 =>
        intro t alv hm_9 ht hal H locs hP hD hS ls hl
        refine lv_iload hx hb dX0_leastInTwo_9 (lv_at hl 0 rfl) ?_
        refine lv_bipush (v := 8) hx hb dX0_leastInTwo_11 rfl ?_
        refine lv_icmp_ge (tgt := 45) hx hb dX0_leastInTwo_13 (by decide) (fun c_13 => ?_) (fun c_13 => ?_)
        · -- jump 45
          have n_13 := fx_le1 (a := 8) (b := t) c_13 (by omega) (by omega)
          obtain rfl : t = 8 := by omega
          refine lv_aload_n hx hb dX0_leastInTwo_45 rfl (lv_at hl 1 rfl) ?_
          refine lv_aload_n hx hb dX0_leastInTwo_46 rfl (lv_at hl 1 rfl) ?_
          refine fx_get X hE (hR.at hS) 0 rfl rfl 11 rfl q246 rfl rfl dX0_leastInTwo_47 ?_
          refine lv_iload_n hx hb dX0_leastInTwo_50 rfl (lv_at hl 3 rfl) ?_
          refine fx_ci (va_runV (As := [.ref (ax 11), .int (nI k)]) (rest := []) X (xX0_paysOf l E ax im bn bm fm ff fl tk cs gs zz tp wg nmd pl sa tl tx T PL pr (ax 11) ek ex k (by first | assumption | omega) (by first | assumption | omega) (by first | assumption | omega) (by first | assumption | omega) (by first | assumption | omega) (fun t ht => ⟨(hek t ht).1, by have := (hek t ht).2; have := (hbk t ht).2; omega⟩) (by first | assumption | omega) _) (cwV 2 X.2.2.2.2 (lw_V q833 q835 qs19 q69 q836) rfl rfl rfl ⟨rfl, hdX0_paysOf⟩ ⟨Nat.le_of_ble_eq_true rfl, Nat.le_of_ble_eq_true rfl⟩) (fx_preV (fx_pre hE hP hD hS hR [0, 1] rfl rfl (fx_rcr 0 rfl (fx_rcr 1 rfl (fx_rcr 2 rfl (fx_rcr 3 rfl (fx_rcr 4 rfl (fx_rcr 5 rfl (fx_rcr 6 rfl (fx_rcr 7 rfl (fx_rcr 8 rfl (fx_rcr 9 rfl (fx_rcm 3 rfl (by decide) (fx_rct (fun q hq => List.mem_append_right _ hq)))))))))))))) (va_recv hE.1 (hR.at hS) (ci := 0) (q0 := 0) rfl rfl)) rfl rfl hl.1 rfl (lv_room (Nat.le_of_ble_eq_true rfl)) dX0_leastInTwo_51 ⟨Nat.le_refl _, Nat.le_refl _⟩) hP hD hS hA [0, 1] rfl rfl (fun r_51 u H locs hq_51 hP hD hS => ?_)
          obtain ⟨nm2_51, pl2_51⟩ := u
          replace hP : va_P E.1 clA [(ax 1, .inl (E.2 0, 3, .inl nm2_51)), (ax 0, .inl (E.2 0, 60, .inl pl2_51)), (ax 13, .inl (E.2 1, 8, .inl alv)), (ax 11, .inl (E.2 1, 8, .inl ek))] _ := hP
          replace hD : va_D A [(ax 1, .inl (E.2 0, 3, .inl nm2_51)), (ax 0, .inl (E.2 0, 60, .inl pl2_51)), (ax 13, .inl (E.2 1, 8, .inl alv)), (ax 11, .inl (E.2 1, 8, .inl ek))] := hD
          replace hq_51 : r_51 = paysF sa T ex k := hq_51
          refine lv_aload_n hx hb dX0_leastInTwo_54 rfl (lv_at hl 1 rfl) ?_
          refine lv_aload_n hx hb dX0_leastInTwo_55 rfl (lv_at hl 1 rfl) ?_
          refine fx_get X hE (hR.at hS) 0 rfl rfl 13 rfl q248 rfl rfl dX0_leastInTwo_56 ?_
          refine lv_iload_n hx hb dX0_leastInTwo_59 rfl (lv_at hl 3 rfl) ?_
          refine fx_ci (va_runV (As := [.ref (ax 13), .int (nI k)]) (rest := [.int r_51]) X (xX0_paysOf l E ax im bn bm fm ff fl tk cs gs zz tp wg nm2_51 pl2_51 sa tl tx T PL pr (ax 13) alv (fun t => rn t - ex t) k (by first | assumption | omega) (by first | assumption | omega) (by first | assumption | omega) (by first | assumption | omega) (by first | assumption | omega) (fun t ht => ⟨hal t ht, by have := (hbk t ht).2; omega⟩) (by first | assumption | omega) _) (cwV 2 X.2.2.2.2 (lw_V q833 q835 qs19 q69 q836) rfl rfl rfl ⟨rfl, hdX0_paysOf⟩ ⟨Nat.le_of_ble_eq_true rfl, Nat.le_of_ble_eq_true rfl⟩) (fx_preV (fx_pre hE hP hD hS hR [0, 1] rfl rfl (fx_rcr 0 rfl (fx_rcr 1 rfl (fx_rcr 2 rfl (fx_rcr 3 rfl (fx_rcr 4 rfl (fx_rcr 5 rfl (fx_rcr 6 rfl (fx_rcr 7 rfl (fx_rcr 8 rfl (fx_rcr 9 rfl (fx_rcm 2 rfl (by decide) (fx_rct (fun q hq => List.mem_append_right _ hq)))))))))))))) (va_recv hE.1 (hR.at hS) (ci := 0) (q0 := 0) rfl rfl)) rfl rfl hl.1 rfl (lv_room (Nat.le_of_ble_eq_true rfl)) dX0_leastInTwo_60 ⟨Nat.le_refl _, Nat.le_refl _⟩) hP hD hS hA [0, 1] rfl rfl (fun r_60 u H locs hq_60 hP hD hS => ?_)
          obtain ⟨nm2_60, pl2_60⟩ := u
          replace hP : va_P E.1 clA [(ax 1, .inl (E.2 0, 3, .inl nm2_60)), (ax 0, .inl (E.2 0, 60, .inl pl2_60)), (ax 13, .inl (E.2 1, 8, .inl alv)), (ax 11, .inl (E.2 1, 8, .inl ek))] _ := hP
          replace hD : va_D A [(ax 1, .inl (E.2 0, 3, .inl nm2_60)), (ax 0, .inl (E.2 0, 60, .inl pl2_60)), (ax 13, .inl (E.2 1, 8, .inl alv)), (ax 11, .inl (E.2 1, 8, .inl ek))] := hD
          replace hq_60 : r_60 = paysF sa T (fun t => rn t - ex t) k := hq_60
          refine lv_iadd hx hb dX0_leastInTwo_63 ?_
          refine fx_ti (show (r_51 + r_60) = (partF sa T k rn ex) from by rw [hq_51, hq_60]; rfl) ?_
          refine lv_istore (lv' := [(4, .int (partF sa T k rn ex)), (0, .ref (ax 19)), (1, .int (nI (8 - 0))), (2, .int (nI k)), (3, .int la)]) hx hb dX0_leastInTwo_64 hl (by decide) rfl (fun ls hl => ?_)
          refine lv_iload_n hx hb dX0_leastInTwo_66 rfl (lv_at hl 4 rfl) ?_
          refine lv_if_ge (tgt := 75) hx hb dX0_leastInTwo_67 (by decide) (fun c_67 => ?_) (fun c_67 => ?_)
          · -- jump 75
            refine lv_iload_n hx hb dX0_leastInTwo_75 rfl (lv_at hl 4 rfl) ?_
            refine lv_iload hx hb dX0_leastInTwo_76 (lv_at hl 0 rfl) ?_
            refine fx_min X hl.1 q326 ⟨Nat.le_of_ble_eq_true rfl, Nat.le_of_ble_eq_true rfl⟩ (Nat.le_refl _) (Nat.le_refl _) dX0_leastInTwo_78 ?_
            exact hret (mn_i la (partF sa T k rn ex)) (nm2_60, pl2_60, alv, ek) (⟨by rw [enL, lfP_ge hla (Int32.not_lt.2 c_67)], by rw [← lfP_ge (f := partF sa T k rn) (ex := ex) (a := 0) (b := 0) hla (Int32.not_lt.2 c_67)]; exact lfP_nn partF_nn hla, fun i hi => rfl⟩) (rfl) hP hD hS (Nat.le_refl _) (Nat.le_refl _) dX0_leastInTwo_81
          · -- fall 70
            refine lv_iload hx hb dX0_leastInTwo_70 (lv_at hl 0 rfl) ?_
            refine lv_goto (tgt := 81) hx hb dX0_leastInTwo_72 (by decide) ?_
            exact hret (partF sa T k rn ex) (nm2_60, pl2_60, alv, ek) (⟨by rw [enL, lfP_lt hla (Int32.not_le.1 c_67)], partF_nn, fun i hi => rfl⟩) (rfl) hP hD hS (Nat.le_refl _) (Nat.le_refl _) dX0_leastInTwo_81
        · -- fall 16
          have n_13 := fx_le0 (a := 8) (b := t) c_13 (by omega) (by omega)
          have hb9 := hbk t (by omega)
          have he9 := hek t (by omega)
          have hb92 := hb9.2
          have he92 := he9.2
          refine lv_aload_n hx hb dX0_leastInTwo_16 rfl (lv_at hl 1 rfl) ?_
          refine fx_get X hE (hR.at hS) 0 rfl rfl 13 rfl q248 rfl rfl dX0_leastInTwo_17 ?_
          refine lv_iload hx hb dX0_leastInTwo_20 (lv_at hl 0 rfl) ?_
          refine lv_aload_n hx hb dX0_leastInTwo_22 rfl (lv_at hl 1 rfl) ?_
          refine fx_get X hE (hR.at hS) 0 rfl rfl 9 rfl q244 rfl rfl dX0_leastInTwo_23 ?_
          refine lv_iload hx hb dX0_leastInTwo_26 (lv_at hl 0 rfl) ?_
          refine fx_bald X hE (hR.at hS) 10 rfl t rfl (by omega) rfl dX0_leastInTwo_28 ?_
          refine fx_ti (show (bk t) = nI (rn t) from hb9.1) ?_
          refine lv_aload_n hx hb dX0_leastInTwo_29 rfl (lv_at hl 1 rfl) ?_
          refine fx_get X hE (hR.at hS) 0 rfl rfl 11 rfl q246 rfl rfl dX0_leastInTwo_30 ?_
          refine lv_iload hx hb dX0_leastInTwo_33 (lv_at hl 0 rfl) ?_
          refine fx_bald X hE hP 3 rfl t rfl (by omega) rfl dX0_leastInTwo_35 ?_
          refine fx_ti (show (ek t) = nI (ex t) from he9.1) ?_
          refine lv_isub hx hb dX0_leastInTwo_36 ?_
          refine fx_ti (pk_sub (a := rn t) (b := ex t) (by omega)) ?_
          refine lv_i2b (v := (nI (rn t - (ex t))).toInt8.toInt32) hx hb dX0_leastInTwo_37 rfl ?_
          refine fx_bast (ws' := [(ax 1, .inl (E.2 0, 3, .inl nmd)), (ax 0, .inl (E.2 0, 60, .inl pl)), (ax 13, .inl (E.2 1, 8, .inl (upd alv t (nI (rn t - ex t))))), (ax 11, .inl (E.2 1, 8, .inl ek))]) X hE hP hD hS 2 rfl t rfl (by omega) rfl (by rw [pk_bidem]; exact fit8 rfl (by omega)) rfl dX0_leastInTwo_38 (fun H locs hP hD hS => ?_)
          refine lv_iinc (v := nI (t + 1)) (lv' := [(4, .int (nI (t + 1))), (0, .ref (ax 19)), (1, .int (nI (8 - 0))), (2, .int (nI k)), (3, .int la)]) hx hb dX0_leastInTwo_39 hl (k := 0) rfl (fx_inc _) (by decide) rfl (fun ls hl => ?_)
          refine lv_goto (tgt := 9) hx hb dX0_leastInTwo_42 (by decide) ?_
          exact ih_9 (t + 1) (upd alv t (nI (rn t - ex t))) (by omega) (by omega) (ext_s (f := fun i => nI (rn i - ex i)) hal rfl) _ _ hP hD hS ls (lv_sub hl [0, 1, 2, 3, 4] rfl)
    exact loop_9 ((8 - 0) + 1) 0 al (Nat.lt_succ_self _) (by omega) (fun i hi => absurd hi (Nat.not_lt_zero _)) _ _ hP hD hS ls (lv_sub hl [0, 1, 2, 3, 4] rfl)
  | succ d ih =>
    intro ax im bn bm fm ff fl tk cs gs zz tp wg nmd pl sa tl pr bk ek al rn ex tx T PL k le mo la hd hk hI hTL hT hTo hpr hbk hek hla
    refine fx_iW rfl rfl ?_
    intro p e s m args below meth c A ls Q X hE hP hD hR hA hl hret
    have hx := X.1
    have hb := X.2.1
    have hS : va_S A s.heap s.heap [] := va_S.rf
    replace hP : va_P E.1 clA [(ax 1, .inl (E.2 0, 3, .inl nmd)), (ax 0, .inl (E.2 0, 60, .inl pl)), (ax 13, .inl (E.2 1, 8, .inl al)), (ax 11, .inl (E.2 1, 8, .inl ek))] _ := hP
    replace hD : va_D A [(ax 1, .inl (E.2 0, 3, .inl nmd)), (ax 0, .inl (E.2 0, 60, .inl pl)), (ax 13, .inl (E.2 1, 8, .inl al)), (ax 11, .inl (E.2 1, 8, .inl ek))] := hD
    replace hl : lv_has ls 6 [(0, .ref (ax 19)), (1, .int (nI (8 - (d + 1)))), (2, .int (nI k)), (3, .int la)] := hl
    refine lv_iload_n hx hb dX0_leastInTwo_0 rfl (lv_at hl 1 rfl) ?_
    refine lv_bipush (v := 8) hx hb dX0_leastInTwo_1 rfl ?_
    refine lv_icmp_ne (tgt := 82) hx hb dX0_leastInTwo_3 (by decide) (fun c_3 => ?_) (fun c_3 => absurd (fx_eq1 (a := 8 - (d + 1)) (b := 8) c_3 (by omega) (by omega)) (by omega))
    have n_3 := fx_eq0 (a := (8 - (d + 1))) (b := 8) c_3 (by omega) (by omega)
    have htt := hbk (8 - (d + 1)) (by omega)
    have htt2 := htt.2
    refine lv_iload_n hx hb dX0_leastInTwo_82 rfl (lv_at hl 3 rfl) ?_
    refine lv_istore (lv' := [(4, .int la), (0, .ref (ax 19)), (1, .int (nI (8 - (d + 1)))), (2, .int (nI k)), (3, .int la)]) hx hb dX0_leastInTwo_83 hl (by decide) rfl (fun ls hl => ?_)
    refine lv_iconst (v := 0) hx hb dX0_leastInTwo_85 rfl ?_
    refine lv_istore (lv' := [(5, .int 0), (4, .int la), (0, .ref (ax 19)), (1, .int (nI (8 - (d + 1)))), (2, .int (nI k)), (3, .int la)]) hx hb dX0_leastInTwo_86 hl (by decide) rfl (fun ls hl => ?_)
    have loop_88 : ∀ (n_88 : Nat) (n : Nat) (lav : Int32) (nmv : Nat → Int32) (plv : Nat → Int32) (alv : Nat → Int32) (ekv : Nat → Int32), (rn (8 - (d + 1)) + 1 - n < n_88) → (n ≤ rn (8 - (d + 1)) + 1) → (lav = (itr (fun n_ b => enL (fun t _ => rn t) (lfP (partF sa T k rn)) d (upN ex (8 - (d + 1)) n_) (le - n_) (mo + n_) b) n la)) → (lav = -1 ∨ 0 ≤ lav) → (n = 0 ∨ 0 ≤ lav) → (∀ i, i < (8 - (d + 1)) → ekv i = ek i) → ∀ (H : Heap) (locs : List Loc), va_P E.1 clA [(ax 1, .inl (E.2 0, 3, .inl nmv)), (ax 0, .inl (E.2 0, 60, .inl plv)), (ax 13, .inl (E.2 1, 8, .inl alv)), (ax 11, .inl (E.2 1, 8, .inl ekv))] H → va_D A [(ax 1, .inl (E.2 0, 3, .inl nmv)), (ax 0, .inl (E.2 0, 60, .inl plv)), (ax 13, .inl (E.2 1, 8, .inl alv)), (ax 11, .inl (E.2 1, 8, .inl ekv))] → va_S A s.heap H locs → ∀ (ls : Array Slot), lv_has ls 6 [(5, .int (nI n)), (4, .int lav), (0, .ref (ax 19)), (1, .int (nI (8 - (d + 1)))), (2, .int (nI k)), (3, .int la)] → W p l e (rxX0_leastInTwo (d + 1)) s m args below meth c H locs 0 0 Q (F0 m 88 ls []) := by
      intro n_88
      induction n_88 with
      | zero => intro n lav nmv plv alv ekv hm_88; exact absurd hm_88 (Nat.not_lt_zero _)
      | succ n_88 ih_88 =>
        intro n lav nmv plv alv ekv hm_88 hn hB hlv hge hr3 H locs hP hD hS ls hl
        refine lv_iload hx hb dX0_leastInTwo_88 (lv_at hl 0 rfl) ?_
        refine lv_aload_n hx hb dX0_leastInTwo_90 rfl (lv_at hl 2 rfl) ?_
        refine fx_get X hE (hR.at hS) 0 rfl rfl 9 rfl q244 rfl rfl dX0_leastInTwo_91 ?_
        refine lv_iload_n hx hb dX0_leastInTwo_94 rfl (lv_at hl 3 rfl) ?_
        refine fx_bald X hE (hR.at hS) 10 rfl (8 - (d + 1)) rfl (by omega) rfl dX0_leastInTwo_95 ?_
        refine fx_ti (show (bk (8 - (d + 1))) = nI (rn (8 - (d + 1))) from htt.1) ?_
        refine lv_icmp_gt (tgt := 126) hx hb dX0_leastInTwo_96 (by decide) (fun c_96 => ?_) (fun c_96 => ?_)
        · -- jump 126
          have n_96 := fx_lt1 (a := (rn (8 - (d + 1)))) (b := n) c_96 (by omega) (by omega)
          have hne : n = rn (8 - (d + 1)) + 1 := by omega
          refine lv_aload_n hx hb dX0_leastInTwo_126 rfl (lv_at hl 2 rfl) ?_
          refine fx_get X hE (hR.at hS) 0 rfl rfl 11 rfl q246 rfl rfl dX0_leastInTwo_127 ?_
          refine lv_iload_n hx hb dX0_leastInTwo_130 rfl (lv_at hl 3 rfl) ?_
          refine lv_iconst (v := 0) hx hb dX0_leastInTwo_131 rfl ?_
          refine fx_bast (ws' := [(ax 1, .inl (E.2 0, 3, .inl nmv)), (ax 0, .inl (E.2 0, 60, .inl plv)), (ax 13, .inl (E.2 1, 8, .inl alv)), (ax 11, .inl (E.2 1, 8, .inl (upd ekv (8 - (d + 1)) 0)))]) X hE hP hD hS 3 rfl (8 - (d + 1)) rfl (by omega) rfl (by decide) rfl dX0_leastInTwo_132 (fun H locs hP hD hS => ?_)
          refine lv_iload hx hb dX0_leastInTwo_133 (lv_at hl 1 rfl) ?_
          exact hret lav (nmv, plv, alv, (upd ekv (8 - (d + 1)) 0)) (⟨by rw [enL]; exact hne ▸ hB, hge.resolve_left (by omega), fun i hi => (upd_n _ _ (by omega)).trans (hr3 i hi)⟩) (rfl) hP hD hS (Nat.le_refl _) (Nat.le_refl _) dX0_leastInTwo_135
        · -- fall 99
          have n_96 := fx_lt0 (a := (rn (8 - (d + 1)))) (b := n) c_96 (by omega) (by omega)
          refine lv_aload_n hx hb dX0_leastInTwo_99 rfl (lv_at hl 2 rfl) ?_
          refine fx_get X hE (hR.at hS) 0 rfl rfl 11 rfl q246 rfl rfl dX0_leastInTwo_100 ?_
          refine lv_iload_n hx hb dX0_leastInTwo_103 rfl (lv_at hl 3 rfl) ?_
          refine lv_iload hx hb dX0_leastInTwo_104 (lv_at hl 0 rfl) ?_
          refine lv_i2b (v := (nI n).toInt8.toInt32) hx hb dX0_leastInTwo_106 rfl ?_
          refine fx_bast (ws' := [(ax 1, .inl (E.2 0, 3, .inl nmv)), (ax 0, .inl (E.2 0, 60, .inl plv)), (ax 13, .inl (E.2 1, 8, .inl alv)), (ax 11, .inl (E.2 1, 8, .inl (upd ekv (8 - (d + 1)) (nI n))))]) X hE hP hD hS 3 rfl (8 - (d + 1)) rfl (by omega) rfl (by rw [pk_bidem]; exact fit8 rfl (by omega)) rfl dX0_leastInTwo_107 (fun H locs hP hD hS => ?_)
          refine lv_aload_n hx hb dX0_leastInTwo_108 rfl (lv_at hl 2 rfl) ?_
          refine lv_iload_n hx hb dX0_leastInTwo_109 rfl (lv_at hl 3 rfl) ?_
          refine lv_iconst (v := 1) hx hb dX0_leastInTwo_110 rfl ?_
          refine lv_iadd hx hb dX0_leastInTwo_111 ?_
          refine fx_ti (nI_add (8 - (d + 1)) 1) ?_
          refine fx_ti (show nI (8 - (d + 1) + 1) = nI (8 - d) from congrArg nI (by omega)) ?_
          refine lv_iload_n hx hb dX0_leastInTwo_112 rfl (lv_at hl 4 rfl) ?_
          refine lv_iload hx hb dX0_leastInTwo_113 (lv_at hl 1 rfl) ?_
          refine fx_ci (va_runV (As := [.int (nI (8 - d)), .int (nI k), .int lav]) (rest := []) X (ih ax im bn bm fm ff fl tk cs gs zz tp wg nmv plv sa tl pr bk (upd ekv (8 - (d + 1)) (nI n)) alv rn (upN ex (8 - (d + 1)) n) tx T PL k (le - n) (mo + n) lav (by omega) (by first | assumption | omega) (by first | assumption | omega) (by first | assumption | omega) (by first | assumption | omega) (by first | assumption | omega) (by first | assumption | omega) (by first | assumption | omega) (by rw [show 8 - d = 8 - (d + 1) + 1 by omega]; exact rowr_s (fun i hi => ⟨(hr3 i hi).trans (hek i hi).1, (hek i hi).2⟩) (by omega)) hlv _) (cwV 3 X.2.2.2.2 (lw_V q894 q896 qs27 q69 q897) rfl rfl rfl ⟨rfl, hdX0_leastInTwo⟩ ⟨by simp only [rxX0_leastInTwo]; omega, by simp only [rxX0_leastInTwo]; omega⟩) (fx_preV (fx_pre hE hP hD hS hR [0, 1, 2, 3] rfl rfl (fx_rcr 0 rfl (fx_rcr 1 rfl (fx_rcr 2 rfl (fx_rcr 3 rfl (fx_rcr 4 rfl (fx_rcr 5 rfl (fx_rcr 6 rfl (fx_rcr 7 rfl (fx_rcr 8 rfl (fx_rcr 9 rfl (fx_rcr 10 rfl (fx_rct (fun q hq => List.mem_append_right _ hq)))))))))))))) (va_recv hE.1 (hR.at hS) (ci := 0) (q0 := 0) rfl rfl)) rfl rfl hl.1 rfl (lv_room (Nat.le_of_ble_eq_true rfl)) dX0_leastInTwo_115 ⟨Nat.le_refl _, Nat.le_refl _⟩) hP hD hS hA [0, 1, 2, 3] rfl rfl (fun r_115 u H locs hq_115 hP hD hS => ?_)
          obtain ⟨nm2_115, pl2_115, al2_115, ek2_115⟩ := u
          replace hP : va_P E.1 clA [(ax 1, .inl (E.2 0, 3, .inl nm2_115)), (ax 0, .inl (E.2 0, 60, .inl pl2_115)), (ax 13, .inl (E.2 1, 8, .inl al2_115)), (ax 11, .inl (E.2 1, 8, .inl ek2_115))] _ := hP
          replace hD : va_D A [(ax 1, .inl (E.2 0, 3, .inl nm2_115)), (ax 0, .inl (E.2 0, 60, .inl pl2_115)), (ax 13, .inl (E.2 1, 8, .inl al2_115)), (ax 11, .inl (E.2 1, 8, .inl ek2_115))] := hD
          replace hq_115 : r_115 = (enL (fun t _ => rn t) (lfP (partF sa T k rn)) d (upN ex (8 - (d + 1)) n) (le - n) (mo + n) lav) ∧ 0 ≤ r_115 ∧ (∀ i, i < 8 - d → ek2_115 i = (upd ekv (8 - (d + 1)) (nI n)) i) := hq_115
          refine lv_istore (lv' := [(4, .int r_115), (5, .int (nI n)), (0, .ref (ax 19)), (1, .int (nI (8 - (d + 1)))), (2, .int (nI k)), (3, .int la)]) hx hb dX0_leastInTwo_118 hl (by decide) rfl (fun ls hl => ?_)
          refine lv_iinc (v := nI (n + 1)) (lv' := [(5, .int (nI (n + 1))), (4, .int r_115), (0, .ref (ax 19)), (1, .int (nI (8 - (d + 1)))), (2, .int (nI k)), (3, .int la)]) hx hb dX0_leastInTwo_120 hl (k := 1) rfl (fx_inc _) (by decide) rfl (fun ls hl => ?_)
          refine lv_goto (tgt := 88) hx hb dX0_leastInTwo_123 (by decide) ?_
          exact ih_88 (n + 1) r_115 nm2_115 pl2_115 al2_115 ek2_115 (by omega) (by omega) (by rw [hq_115.1, hB]; rfl) (Or.inr hq_115.2.1) (Or.inr hq_115.2.1) (fun i hi => by rw [hq_115.2.2 i (by omega), upd_n _ _ (by omega), hr3 i hi]) _ _ hP hD hS ls (lv_sub hl [0, 1, 2, 3, 4, 5] rfl)
    exact loop_88 ((rn (8 - (d + 1)) + 1 - 0) + 1) 0 la nmd pl al ek (Nat.lt_succ_self _) (Nat.zero_le _) rfl hla (Or.inl rfl) (fun i hi => rfl) _ _ hP hD hS ls (lv_sub hl [0, 1, 2, 3, 4, 5] rfl)
