set_option maxRecDepth 100000
theorem hdX0_goes : yX0_goes.cls ≠ "java/lang/invoke/MethodHandle" ∧ yX0_goes.cls ≠ "java/lang/invoke/VarHandle" ∧ (parseMethodDescriptor yX0_goes.desc).map (fun d => d.parameters.length) = some 1 := by decide +kernel
theorem hdX0_go : yX0_go.cls ≠ "java/lang/invoke/MethodHandle" ∧ yX0_go.cls ≠ "java/lang/invoke/VarHandle" ∧ (parseMethodDescriptor yX0_go.desc).map (fun d => d.parameters.length) = some 2 := by decide +kernel
abbrev rxX0_goes : Room := { frames := 6, cells := 0, slots := 0, locals := 139 }
set_option maxHeartbeats 400000 in
set_option maxRecDepth 100000 in
theorem xX0_goes (l : Launch) (E : fx_En) (ax : Nat → Nat) (im : Int32) (bn : Int32) (bm : Int32) (fm : Int32) (ff : Int32) (fl : Int32) (tk : Int32) (cs : Int32) (gs : Int32) (zz : Int32) (tp : Int32) (wg : Int32) (nmd : Nat → Int32) (pl : Nat → Int32) (sa : Nat → Int32) (tl : Nat → Nat) (pr : Nat → Int32) (co : Nat → Int32) (st0 : Nat → Int32) (bk : Nat → Int32) (rn : Nat → Nat) (tx : Nat → Option Nat) (T : Tx) (PL : va_W) (k : Nat) (hk : k < 4) (hI : Inv sa) (hTL : TLS PL sa tl) (hT : TXs E PL (tx 0) T) (hTo : TOk T) (hpr : rl pr sa 8 8) (hco : rl co sa 16 8) (hst : rl st0 sa 24 8) (hN : HN sa tk cs gs zz tp wg) (hrow : ∀ t, t < 8 → bk t = nI (rn t) ∧ rn t ≤ 99) : fx_Mi l yX0_goes cX0_goes 4 .int rxX0_goes E [.ref (ax 19), .int (nI k)] [(ax 35, .inr (1, [.ref (ax 20), .ref (ax 21), .ref (ax 22), .int tk, .int cs, .int gs, .int zz, .int tp, .int wg, .ref (ax 29), .ref (ax 30), .ref (ax 31), .ref (ax 32)])), (ax 22, .inl (E.2 0, 8, .inl st0)), (ax 1, .inl (E.2 0, 3, .inl nmd)), (ax 0, .inl (E.2 0, 60, .inl pl))] ([(ax 19, .inr (0, [.ref (ax 0), .ref (ax 1), .ref (ax 35), .ref (ax 55), .ref (ax 4), .ref (ax 5), .ref (ax 6), .ref (ax 7), .int im, .ref (ax 9), .ref (ax 10), .ref (ax 11), .ref (ax 12), .ref (ax 13), .int bn, .int bm, .int fm, .int ff, .int fl])), (ax 29, .inl (E.2 3, 4, .inr (.inr (.inr (.inr (fun i_ => some (ax (36 + i_)))))))), (ax 36, .inr (2, [.ref (tl 0)])), (ax 37, .inr (2, [.ref (tl 1)])), (ax 38, .inr (2, [.ref (tl 2)])), (ax 39, .inr (2, [.ref (tl 3)])), (ax 7, .inr (5, [.ref (ax 19)])), (ax 30, .inl (E.2 4, 2, .inr (.inr (.inr (.inr tx))))), (ax 20, .inl (E.2 0, 8, .inl pr)), (ax 21, .inl (E.2 0, 8, .inl co)), (ax 9, .inl (E.2 1, 8, .inl bk))] ++ PL) (S := Int32 × Int32 × Int32 × (Nat → Int32) × (Nat → Int32) × (Nat → Int32)) (fun (u : Int32 × Int32 × Int32 × (Nat → Int32) × (Nat → Int32) × (Nat → Int32)) => [(ax 35, .inr (1, [.ref (ax 20), .ref (ax 21), .ref (ax 22), .int u.1, .int u.2.1, .int u.2.2.1, .int zz, .int tp, .int wg, .ref (ax 29), .ref (ax 30), .ref (ax 31), .ref (ax 32)])), (ax 22, .inl (E.2 0, 8, .inl u.2.2.2.1)), (ax 1, .inl (E.2 0, 3, .inl u.2.2.2.2.1)), (ax 0, .inl (E.2 0, 60, .inl u.2.2.2.2.2))]) (fun (r : Int32) (u : Int32 × Int32 × Int32 × (Nat → Int32) × (Nat → Int32) × (Nat → Int32)) => r = paysF sa T rn k ∧ HN (goesA sa T bk rn k) u.1 u.2.1 u.2.2.1 zz tp wg ∧ rl u.2.2.2.1 (goesA sa T bk rn k) 24 8) := by
  refine fx_iW rfl rfl ?_
  intro p e s m args below meth c A ls Q X hE hP hD hR hA hl hret
  have hx := X.1
  have hb := X.2.1
  have hS : va_S A s.heap s.heap [] := va_S.rf
  replace hP : va_P E.1 clA [(ax 35, .inr (1, [.ref (ax 20), .ref (ax 21), .ref (ax 22), .int tk, .int cs, .int gs, .int zz, .int tp, .int wg, .ref (ax 29), .ref (ax 30), .ref (ax 31), .ref (ax 32)])), (ax 22, .inl (E.2 0, 8, .inl st0)), (ax 1, .inl (E.2 0, 3, .inl nmd)), (ax 0, .inl (E.2 0, 60, .inl pl))] _ := hP
  replace hD : va_D A [(ax 35, .inr (1, [.ref (ax 20), .ref (ax 21), .ref (ax 22), .int tk, .int cs, .int gs, .int zz, .int tp, .int wg, .ref (ax 29), .ref (ax 30), .ref (ax 31), .ref (ax 32)])), (ax 22, .inl (E.2 0, 8, .inl st0)), (ax 1, .inl (E.2 0, 3, .inl nmd)), (ax 0, .inl (E.2 0, 60, .inl pl))] := hD
  replace hl : lv_has ls 4 [(0, .ref (ax 19)), (1, .int (nI k))] := hl
  have hpn := paysF_nat sa T rn k
  have hsl := sumN_le (rn := rn) (pr := fun t => nn (sa (16 + t))) (a := 99) (b := 9999) 8 (fun t ht => (hrow t ht).2) (fun t ht => (hI.co t ht).2)
  refine lv_aload_n hx hb dX0_goes_0 rfl (lv_at hl 0 rfl) ?_
  refine lv_aload_n hx hb dX0_goes_1 rfl (lv_at hl 0 rfl) ?_
  refine fx_get X hE (hR.at hS) 0 rfl rfl 9 rfl q244 rfl rfl dX0_goes_2 ?_
  refine lv_iload_n hx hb dX0_goes_5 rfl (lv_at hl 1 rfl) ?_
  refine fx_ci (va_runV (As := [.ref (ax 9), .int (nI k)]) (rest := []) X (xX0_paysOf l E ax im bn bm fm ff fl tk cs gs zz tp wg nmd pl sa tl tx T PL pr (ax 9) bk rn k (by first | assumption | omega) (by first | assumption | omega) (by first | assumption | omega) (by first | assumption | omega) (by first | assumption | omega) hrow (by first | assumption | omega) _) (cwV 2 X.2.2.2.2 (lw_V q833 q835 qs19 q69 q836) rfl rfl rfl ⟨rfl, hdX0_paysOf⟩ ⟨Nat.le_of_ble_eq_true rfl, Nat.le_of_ble_eq_true rfl⟩) (fx_preV (fx_pre hE hP hD hS hR [2, 3] rfl rfl (fx_rcr 0 rfl (fx_rcm 0 rfl (by decide) (fx_rcr 1 rfl (fx_rcr 2 rfl (fx_rcr 3 rfl (fx_rcr 4 rfl (fx_rcr 5 rfl (fx_rcr 6 rfl (fx_rcr 7 rfl (fx_rcr 8 rfl (fx_rcr 10 rfl (fx_rct (fun q hq => List.mem_append_right _ hq)))))))))))))) (va_recv hE.1 (hR.at hS) (ci := 0) (q0 := 0) rfl rfl)) rfl rfl hl.1 rfl (lv_room (Nat.le_of_ble_eq_true rfl)) dX0_goes_6 ⟨Nat.le_refl _, Nat.le_refl _⟩) hP hD hS hA [2, 3] rfl rfl (fun r_6 u H locs hq_6 hP hD hS => ?_)
  obtain ⟨nm2_6, pl2_6⟩ := u
  replace hP : va_P E.1 clA [(ax 35, .inr (1, [.ref (ax 20), .ref (ax 21), .ref (ax 22), .int tk, .int cs, .int gs, .int zz, .int tp, .int wg, .ref (ax 29), .ref (ax 30), .ref (ax 31), .ref (ax 32)])), (ax 22, .inl (E.2 0, 8, .inl st0)), (ax 1, .inl (E.2 0, 3, .inl nm2_6)), (ax 0, .inl (E.2 0, 60, .inl pl2_6))] _ := hP
  replace hD : va_D A [(ax 35, .inr (1, [.ref (ax 20), .ref (ax 21), .ref (ax 22), .int tk, .int cs, .int gs, .int zz, .int tp, .int wg, .ref (ax 29), .ref (ax 30), .ref (ax 31), .ref (ax 32)])), (ax 22, .inl (E.2 0, 8, .inl st0)), (ax 1, .inl (E.2 0, 3, .inl nm2_6)), (ax 0, .inl (E.2 0, 60, .inl pl2_6))] := hD
  replace hq_6 : r_6 = paysF sa T rn k := hq_6
  refine lv_istore_n (lv' := [(2, .int r_6), (0, .ref (ax 19)), (1, .int (nI k))]) hx hb dX0_goes_9 rfl hl (by decide) rfl (fun ls hl => ?_)
  refine lv_iconst (v := 0) hx hb dX0_goes_10 rfl ?_
  refine lv_istore_n (lv' := [(3, .int 0), (2, .int r_6), (0, .ref (ax 19)), (1, .int (nI k))]) hx hb dX0_goes_11 rfl hl (by decide) rfl (fun ls hl => ?_)
  have loop_12 : ∀ (n_12 : Nat) (t : Nat) (sv : Nat → Int32), (8 - t < n_12) → (t ≤ 8) → (∀ i, i < t → sv i = sa (24 + i) - bk i) → (∀ i, t ≤ i → i < 8 → sv i = sa (24 + i)) → ∀ (H : Heap) (locs : List Loc), va_P E.1 clA [(ax 35, .inr (1, [.ref (ax 20), .ref (ax 21), .ref (ax 22), .int tk, .int cs, .int gs, .int zz, .int tp, .int wg, .ref (ax 29), .ref (ax 30), .ref (ax 31), .ref (ax 32)])), (ax 22, .inl (E.2 0, 8, .inl sv)), (ax 1, .inl (E.2 0, 3, .inl nm2_6)), (ax 0, .inl (E.2 0, 60, .inl pl2_6))] H → va_D A [(ax 35, .inr (1, [.ref (ax 20), .ref (ax 21), .ref (ax 22), .int tk, .int cs, .int gs, .int zz, .int tp, .int wg, .ref (ax 29), .ref (ax 30), .ref (ax 31), .ref (ax 32)])), (ax 22, .inl (E.2 0, 8, .inl sv)), (ax 1, .inl (E.2 0, 3, .inl nm2_6)), (ax 0, .inl (E.2 0, 60, .inl pl2_6))] → va_S A s.heap H locs → ∀ (ls : Array Slot), lv_has ls 4 [(3, .int (nI t)), (2, .int r_6), (0, .ref (ax 19)), (1, .int (nI k))] → W p l e rxX0_goes s m args below meth c H locs 0 0 Q (F0 m 12 ls []) := by
    intro n_12
    induction n_12 with
    | zero => intro t sv hm_12; exact absurd hm_12 (Nat.not_lt_zero _)
    | succ n_12 ih_12 =>
      intro t sv hm_12 ht h1 h2 H locs hP hD hS ls hl
      refine lv_iload_n hx hb dX0_goes_12 rfl (lv_at hl 0 rfl) ?_
      refine lv_bipush (v := 8) hx hb dX0_goes_13 rfl ?_
      refine lv_icmp_ge (tgt := 42) hx hb dX0_goes_15 (by decide) (fun c_15 => ?_) (fun c_15 => ?_)
      · -- jump 42
        have n_15 := fx_le1 (a := 8) (b := t) c_15 (by omega) (by omega)
        obtain rfl : t = 8 := by omega
        refine lv_aload_n hx hb dX0_goes_42 rfl (lv_at hl 2 rfl) ?_
        refine fx_get X hE (hR.at hS) 0 rfl rfl 2 rfl q237 rfl rfl dX0_goes_43 ?_
        refine lv_ldc (v := 99999999) hx hb X.2.2.2.1 (X.2.2.2.2 _ q849) dX0_goes_46 ?_
        refine lv_aload_n hx hb dX0_goes_48 rfl (lv_at hl 2 rfl) ?_
        refine fx_get X hE (hR.at hS) 0 rfl rfl 2 rfl q237 rfl rfl dX0_goes_49 ?_
        refine fx_getN X hE hP 0 rfl rfl 3 rfl 6 rfl rfl rfl dX0_goes_52 ?_
        refine lv_iload_n hx hb dX0_goes_55 rfl (lv_at hl 1 rfl) ?_
        refine lv_iadd hx hb dX0_goes_56 ?_
        refine fx_min X hl.1 q326 ⟨Nat.le_of_ble_eq_true rfl, Nat.le_of_ble_eq_true rfl⟩ (Nat.le_refl _) (Nat.le_refl _) dX0_goes_57 ?_
        refine fx_putN (ws' := [(ax 35, .inr (1, [.ref (ax 20), .ref (ax 21), .ref (ax 22), .int (mn_i 99999999 (tk + r_6)), .int cs, .int gs, .int zz, .int tp, .int wg, .ref (ax 29), .ref (ax 30), .ref (ax 31), .ref (ax 32)])), (ax 22, .inl (E.2 0, 8, .inl sv)), (ax 1, .inl (E.2 0, 3, .inl nm2_6)), (ax 0, .inl (E.2 0, 60, .inl pl2_6))]) X hE hP hD hS 0 rfl rfl tyX1_ok nmX1 3 rfl 6 rfl rfl rfl rfl rfl rfl rfl dX0_goes_60 (fun H locs hP hD hS => ?_)
        refine lv_aload_n hx hb dX0_goes_63 rfl (lv_at hl 2 rfl) ?_
        refine fx_get X hE (hR.at hS) 0 rfl rfl 2 rfl q237 rfl rfl dX0_goes_64 ?_
        refine lv_ldc (v := 99999999) hx hb X.2.2.2.1 (X.2.2.2.2 _ q849) dX0_goes_67 ?_
        refine lv_aload_n hx hb dX0_goes_69 rfl (lv_at hl 2 rfl) ?_
        refine fx_get X hE (hR.at hS) 0 rfl rfl 2 rfl q237 rfl rfl dX0_goes_70 ?_
        refine fx_getN X hE hP 0 rfl rfl 4 rfl 7 rfl rfl rfl dX0_goes_73 ?_
        refine lv_aload_n hx hb dX0_goes_76 rfl (lv_at hl 2 rfl) ?_
        refine lv_aload_n hx hb dX0_goes_77 rfl (lv_at hl 2 rfl) ?_
        refine fx_get X hE (hR.at hS) 0 rfl rfl 9 rfl q244 rfl rfl dX0_goes_78 ?_
        refine lv_aload_n hx hb dX0_goes_81 rfl (lv_at hl 2 rfl) ?_
        refine fx_get X hE (hR.at hS) 0 rfl rfl 2 rfl q237 rfl rfl dX0_goes_82 ?_
        refine fx_getN X hE hP 0 rfl rfl 1 rfl 4 rfl rfl rfl dX0_goes_85 ?_
        refine fx_ci (va_runV (As := [.ref (ax 9), .ref (ax 21)]) (rest := [.int cs, .int 99999999, .ref (ax 35)]) X (xX0_sumOf l E ax im bn bm fm ff fl (ax 9) bk (ax 21) co _) (cwV 2 X.2.2.2.2 (lw_V q825 q827 qs18 q69 q828) rfl rfl rfl ⟨rfl, hdX0_sumOf⟩ ⟨Nat.le_of_ble_eq_true rfl, Nat.le_of_ble_eq_true rfl⟩) (fx_preV (fx_pre hE hP hD hS hR [] rfl rfl (fx_rcr 0 rfl (fx_rcr 10 rfl (fx_rcr 9 rfl fx_rc0)))) (va_recv hE.1 (hR.at hS) (ci := 0) (q0 := 0) rfl rfl)) rfl rfl hl.1 rfl (lv_room (Nat.le_of_ble_eq_true rfl)) dX0_goes_88 ⟨Nat.le_refl _, Nat.le_refl _⟩) hP hD hS hA [] rfl rfl (fun r_88 u H locs hq_88 hP hD hS => ?_)
        replace hP : va_P E.1 clA [(ax 35, .inr (1, [.ref (ax 20), .ref (ax 21), .ref (ax 22), .int (mn_i 99999999 (tk + r_6)), .int cs, .int gs, .int zz, .int tp, .int wg, .ref (ax 29), .ref (ax 30), .ref (ax 31), .ref (ax 32)])), (ax 22, .inl (E.2 0, 8, .inl sv)), (ax 1, .inl (E.2 0, 3, .inl nm2_6)), (ax 0, .inl (E.2 0, 60, .inl pl2_6))] _ := hP
        replace hD : va_D A [(ax 35, .inr (1, [.ref (ax 20), .ref (ax 21), .ref (ax 22), .int (mn_i 99999999 (tk + r_6)), .int cs, .int gs, .int zz, .int tp, .int wg, .ref (ax 29), .ref (ax 30), .ref (ax 31), .ref (ax 32)])), (ax 22, .inl (E.2 0, 8, .inl sv)), (ax 1, .inl (E.2 0, 3, .inl nm2_6)), (ax 0, .inl (E.2 0, 60, .inl pl2_6))] := hD
        replace hq_88 : r_88 = l_sum (fun i_ => bk i_ * co i_) 8 := hq_88
        refine fx_ti (show r_88 = (nI (sumN rn (fun t => nn (sa (16 + t))) 8)) from hq_88.trans (sumN_I (pc := co) 8 (fun t ht => (hrow t ht).1) (fun t ht => (hco t ht).trans (hI.co t ht).1))) ?_
        refine lv_iadd hx hb dX0_goes_91 ?_
        refine fx_min X hl.1 q326 ⟨Nat.le_of_ble_eq_true rfl, Nat.le_of_ble_eq_true rfl⟩ (Nat.le_refl _) (Nat.le_refl _) dX0_goes_92 ?_
        refine fx_putN (ws' := [(ax 35, .inr (1, [.ref (ax 20), .ref (ax 21), .ref (ax 22), .int (mn_i 99999999 (tk + r_6)), .int (mn_i 99999999 (cs + (nI (sumN rn (fun t => nn (sa (16 + t))) 8)))), .int gs, .int zz, .int tp, .int wg, .ref (ax 29), .ref (ax 30), .ref (ax 31), .ref (ax 32)])), (ax 22, .inl (E.2 0, 8, .inl sv)), (ax 1, .inl (E.2 0, 3, .inl nm2_6)), (ax 0, .inl (E.2 0, 60, .inl pl2_6))]) X hE hP hD hS 0 rfl rfl tyX1_ok nmX1 4 rfl 7 rfl rfl rfl rfl rfl rfl rfl dX0_goes_95 (fun H locs hP hD hS => ?_)
        refine lv_aload_n hx hb dX0_goes_98 rfl (lv_at hl 2 rfl) ?_
        refine fx_get X hE (hR.at hS) 0 rfl rfl 2 rfl q237 rfl rfl dX0_goes_99 ?_
        refine lv_sipush (v := 9999) hx hb dX0_goes_102 rfl ?_
        refine lv_aload_n hx hb dX0_goes_105 rfl (lv_at hl 2 rfl) ?_
        refine fx_get X hE (hR.at hS) 0 rfl rfl 2 rfl q237 rfl rfl dX0_goes_106 ?_
        refine fx_getN X hE hP 0 rfl rfl 5 rfl 8 rfl rfl rfl dX0_goes_109 ?_
        refine lv_iconst (v := 1) hx hb dX0_goes_112 rfl ?_
        refine lv_iadd hx hb dX0_goes_113 ?_
        refine fx_min X hl.1 q326 ⟨Nat.le_of_ble_eq_true rfl, Nat.le_of_ble_eq_true rfl⟩ (Nat.le_refl _) (Nat.le_refl _) dX0_goes_114 ?_
        refine fx_putN (ws' := [(ax 35, .inr (1, [.ref (ax 20), .ref (ax 21), .ref (ax 22), .int (mn_i 99999999 (tk + r_6)), .int (mn_i 99999999 (cs + (nI (sumN rn (fun t => nn (sa (16 + t))) 8)))), .int (mn_i 9999 (gs + 1)), .int zz, .int tp, .int wg, .ref (ax 29), .ref (ax 30), .ref (ax 31), .ref (ax 32)])), (ax 22, .inl (E.2 0, 8, .inl sv)), (ax 1, .inl (E.2 0, 3, .inl nm2_6)), (ax 0, .inl (E.2 0, 60, .inl pl2_6))]) X hE hP hD hS 0 rfl rfl tyX1_ok nmX1 5 rfl 8 rfl rfl rfl rfl rfl rfl rfl dX0_goes_117 (fun H locs hP hD hS => ?_)
        refine lv_iload_n hx hb dX0_goes_120 rfl (lv_at hl 1 rfl) ?_
        exact hret r_6 ((mn_i 99999999 (tk + r_6)), (mn_i 99999999 (cs + (nI (sumN rn (fun t => nn (sa (16 + t))) 8)))), (mn_i 9999 (gs + 1)), sv, nm2_6, pl2_6) (⟨hq_6, ⟨by rw [goes_1, hN.1, hq_6]; exact hld_mn (nn_add0 (a := 99999999) hI.2.2.2.1.2.1 hpn.1 (by omega) (by omega)), by rw [goes_2, hN.2.1]; exact hld_mn (nn_add0 (a := 99999999) hI.2.2.2.1.2.2 rfl (by omega) (by omega)), by rw [goes_0, hN.2.2.1]; exact hld_mn (nn_add0 (a := 9999) (b := 1) hI.2.2.2.1.1 rfl (by omega) (by omega)), by rw [goesA_at (by omega) (by omega)]; exact hN.2.2.2.1, by rw [goesA_at (by omega) (by omega)]; exact hN.2.2.2.2.1, by rw [goesA_at (by omega) (by omega)]; exact hN.2.2.2.2.2⟩, fun t ht => by rw [goes_st ht]; exact h1 t ht⟩) (rfl) hP hD hS (Nat.le_refl _) (Nat.le_refl _) dX0_goes_121
      · -- fall 18
        have n_15 := fx_le0 (a := 8) (b := t) c_15 (by omega) (by omega)
        refine lv_aload_n hx hb dX0_goes_18 rfl (lv_at hl 2 rfl) ?_
        refine fx_get X hE (hR.at hS) 0 rfl rfl 2 rfl q237 rfl rfl dX0_goes_19 ?_
        refine fx_getN X hE hP 0 rfl rfl 2 rfl 5 rfl rfl rfl dX0_goes_22 ?_
        refine lv_iload_n hx hb dX0_goes_25 rfl (lv_at hl 0 rfl) ?_
        refine lv_dup2_11 hx hb dX0_goes_26 rfl rfl ?_
        refine fx_iald X hE hP 1 rfl t rfl (by omega) rfl dX0_goes_27 ?_
        refine lv_aload_n hx hb dX0_goes_28 rfl (lv_at hl 2 rfl) ?_
        refine fx_get X hE (hR.at hS) 0 rfl rfl 9 rfl q244 rfl rfl dX0_goes_29 ?_
        refine lv_iload_n hx hb dX0_goes_32 rfl (lv_at hl 0 rfl) ?_
        refine fx_bald X hE (hR.at hS) 10 rfl t rfl (by omega) rfl dX0_goes_33 ?_
        refine lv_isub hx hb dX0_goes_34 ?_
        refine fx_iast (ws' := [(ax 35, .inr (1, [.ref (ax 20), .ref (ax 21), .ref (ax 22), .int tk, .int cs, .int gs, .int zz, .int tp, .int wg, .ref (ax 29), .ref (ax 30), .ref (ax 31), .ref (ax 32)])), (ax 22, .inl (E.2 0, 8, .inl (upd sv t ((sv t) - (bk t))))), (ax 1, .inl (E.2 0, 3, .inl nm2_6)), (ax 0, .inl (E.2 0, 60, .inl pl2_6))]) X hE hP hD hS 1 rfl t rfl (by omega) rfl rfl dX0_goes_35 (fun H locs hP hD hS => ?_)
        refine lv_iinc (v := nI (t + 1)) (lv' := [(3, .int (nI (t + 1))), (2, .int r_6), (0, .ref (ax 19)), (1, .int (nI k))]) hx hb dX0_goes_36 hl (k := 0) rfl (fx_inc _) (by decide) rfl (fun ls hl => ?_)
        refine lv_goto (tgt := 12) hx hb dX0_goes_39 (by decide) ?_
        exact ih_12 (t + 1) (upd sv t ((sv t) - (bk t))) (by omega) (by omega) (ext_s (f := fun i => sa (24 + i) - bk i) h1 (by rw [h2 t (Nat.le_refl _) (by omega)])) (fun i hi hi2 => by rw [upd_n _ _ (by omega)]; exact h2 i (by omega) hi2) _ _ hP hD hS ls (lv_sub hl [0, 1, 2, 3] rfl)
  exact loop_12 ((8 - 0) + 1) 0 st0 (Nat.lt_succ_self _) (by omega) (fun i hi => absurd hi (Nat.not_lt_zero _)) (fun i _ hi => hst i hi) _ _ hP hD hS ls (lv_sub hl [0, 1, 2, 3] rfl)
abbrev rxX0_go : Room := { frames := 7, cells := 0, slots := 0, locals := 162 }
set_option maxHeartbeats 400000 in
set_option maxRecDepth 100000 in
theorem xX0_go (l : Launch) (E : fx_En) (ax : Nat → Nat) (im : Int32) (bn : Int32) (bm : Int32) (fm : Int32) (ff : Int32) (fl : Int32) (tk : Int32) (cs : Int32) (gs : Int32) (zz : Int32) (tp : Int32) (wg : Int32) (er : Nat → Int32) (nmd : Nat → Int32) (pl : Nat → Int32) (sa : Nat → Int32) (tl : Nat → Nat) (pr : Nat → Int32) (co : Nat → Int32) (st0 : Nat → Int32) (bk : Nat → Int32) (bt : Nat → Int32) (sz : Nat → Int32) (nu : Nat → Int32) (sh : Nat → Option Nat) (tx : Nat → Option Nat) (T : Tx) (PL : va_W) (sheet : Int32) (til : Int32) (hI : Inv sa) (hTL : TLS PL sa tl) (hT : TXs E PL (tx 0) T) (hTo : TOk T) (hpr : rl pr sa 8 8) (hco : rl co sa 16 8) (hst : rl st0 sa 24 8) (hN : HN sa tk cs gs zz tp wg) (hIS : InvS bt sz) (hSH : SHS E PL bt sz nu sh) : fx_Mi l yX0_go cX0_go 4 .int rxX0_go E [.ref (ax 19), .int sheet, .int til] [(ax 35, .inr (1, [.ref (ax 20), .ref (ax 21), .ref (ax 22), .int tk, .int cs, .int gs, .int zz, .int tp, .int wg, .ref (ax 29), .ref (ax 30), .ref (ax 31), .ref (ax 32)])), (ax 22, .inl (E.2 0, 8, .inl st0)), (ax 1, .inl (E.2 0, 3, .inl nmd)), (ax 0, .inl (E.2 0, 60, .inl pl)), (ax 5, .inl (E.2 0, 7, .inl er)), (ax 9, .inl (E.2 1, 8, .inl bk))] ([(ax 19, .inr (0, [.ref (ax 0), .ref (ax 1), .ref (ax 35), .ref (ax 55), .ref (ax 4), .ref (ax 5), .ref (ax 6), .ref (ax 7), .int im, .ref (ax 9), .ref (ax 10), .ref (ax 11), .ref (ax 12), .ref (ax 13), .int bn, .int bm, .int fm, .int ff, .int fl])), (ax 29, .inl (E.2 3, 4, .inr (.inr (.inr (.inr (fun i_ => some (ax (36 + i_)))))))), (ax 36, .inr (2, [.ref (tl 0)])), (ax 37, .inr (2, [.ref (tl 1)])), (ax 38, .inr (2, [.ref (tl 2)])), (ax 39, .inr (2, [.ref (tl 3)])), (ax 7, .inr (5, [.ref (ax 19)])), (ax 30, .inl (E.2 4, 2, .inr (.inr (.inr (.inr tx))))), (ax 20, .inl (E.2 0, 8, .inl pr)), (ax 21, .inl (E.2 0, 8, .inl co)), (ax 6, .inl (E.2 3, 4, .inr (.inr (.inr (.inr (fun i_ => some (ax (64 + i_)))))))), (ax 64, .inr (2, [va_rf (sh 0)])), (ax 65, .inr (2, [va_rf (sh 1)])), (ax 66, .inr (2, [va_rf (sh 2)])), (ax 67, .inr (2, [va_rf (sh 3)]))] ++ PL) (S := Int32 × Int32 × Int32 × (Nat → Int32) × (Nat → Int32) × (Nat → Int32) × (Nat → Int32) × (Nat → Int32)) (fun (u : Int32 × Int32 × Int32 × (Nat → Int32) × (Nat → Int32) × (Nat → Int32) × (Nat → Int32) × (Nat → Int32)) => [(ax 35, .inr (1, [.ref (ax 20), .ref (ax 21), .ref (ax 22), .int u.1, .int u.2.1, .int u.2.2.1, .int zz, .int tp, .int wg, .ref (ax 29), .ref (ax 30), .ref (ax 31), .ref (ax 32)])), (ax 22, .inl (E.2 0, 8, .inl u.2.2.2.1)), (ax 1, .inl (E.2 0, 3, .inl u.2.2.2.2.1)), (ax 0, .inl (E.2 0, 60, .inl u.2.2.2.2.2.1)), (ax 5, .inl (E.2 0, 7, .inl u.2.2.2.2.2.2.1)), (ax 9, .inl (E.2 1, 8, .inl u.2.2.2.2.2.2.2))]) (fun (r : Int32) (u : Int32 × Int32 × Int32 × (Nat → Int32) × (Nat → Int32) × (Nat → Int32) × (Nat → Int32) × (Nat → Int32)) => r = (go_ sa er bt sz nu T sheet til).1 ∧ u.2.2.2.2.2.2.1 = (go_ sa er bt sz nu T sheet til).2.2 ∧ HN (go_ sa er bt sz nu T sheet til).2.1 u.1 u.2.1 u.2.2.1 zz tp wg ∧ rl u.2.2.2.1 (go_ sa er bt sz nu T sheet til).2.1 24 8) := by
  refine fx_iW rfl rfl ?_
  intro p e s m args below meth c A ls Q X hE hP hD hR hA hl hret
  have hx := X.1
  have hb := X.2.1
  have hS : va_S A s.heap s.heap [] := va_S.rf
  replace hP : va_P E.1 clA [(ax 35, .inr (1, [.ref (ax 20), .ref (ax 21), .ref (ax 22), .int tk, .int cs, .int gs, .int zz, .int tp, .int wg, .ref (ax 29), .ref (ax 30), .ref (ax 31), .ref (ax 32)])), (ax 22, .inl (E.2 0, 8, .inl st0)), (ax 1, .inl (E.2 0, 3, .inl nmd)), (ax 0, .inl (E.2 0, 60, .inl pl)), (ax 5, .inl (E.2 0, 7, .inl er)), (ax 9, .inl (E.2 1, 8, .inl bk))] _ := hP
  replace hD : va_D A [(ax 35, .inr (1, [.ref (ax 20), .ref (ax 21), .ref (ax 22), .int tk, .int cs, .int gs, .int zz, .int tp, .int wg, .ref (ax 29), .ref (ax 30), .ref (ax 31), .ref (ax 32)])), (ax 22, .inl (E.2 0, 8, .inl st0)), (ax 1, .inl (E.2 0, 3, .inl nmd)), (ax 0, .inl (E.2 0, 60, .inl pl)), (ax 5, .inl (E.2 0, 7, .inl er)), (ax 9, .inl (E.2 1, 8, .inl bk))] := hD
  replace hl : lv_has ls 4 [(0, .ref (ax 19)), (1, .int sheet), (2, .int til)] := hl
  refine lv_iload_n hx hb dX0_go_0 rfl (lv_at hl 1 rfl) ?_
  refine fx_ci (va_runS (As := [.int sheet]) (rest := []) X (xX0_isSheet l E sheet _) (va_cwS 1 X.2.2.2.2 (lw_S q806 q807 q69 q808) rfl rfl rfl hdX0_isSheet ⟨Nat.le_of_ble_eq_true rfl, Nat.le_of_ble_eq_true rfl⟩) (fx_pre hE hP hD hS hR [] rfl rfl fx_rc0) rfl rfl hl.1 rfl (lv_room (Nat.le_of_ble_eq_true rfl)) dX0_go_1 ⟨Nat.le_refl _, Nat.le_refl _⟩) hP hD hS hA [] rfl rfl (fun r_1 u H locs hq_1 hP hD hS => ?_)
  replace hP : va_P E.1 clA [(ax 35, .inr (1, [.ref (ax 20), .ref (ax 21), .ref (ax 22), .int tk, .int cs, .int gs, .int zz, .int tp, .int wg, .ref (ax 29), .ref (ax 30), .ref (ax 31), .ref (ax 32)])), (ax 22, .inl (E.2 0, 8, .inl st0)), (ax 1, .inl (E.2 0, 3, .inl nmd)), (ax 0, .inl (E.2 0, 60, .inl pl)), (ax 5, .inl (E.2 0, 7, .inl er)), (ax 9, .inl (E.2 1, 8, .inl bk))] _ := hP
  replace hD : va_D A [(ax 35, .inr (1, [.ref (ax 20), .ref (ax 21), .ref (ax 22), .int tk, .int cs, .int gs, .int zz, .int tp, .int wg, .ref (ax 29), .ref (ax 30), .ref (ax 31), .ref (ax 32)])), (ax 22, .inl (E.2 0, 8, .inl st0)), (ax 1, .inl (E.2 0, 3, .inl nmd)), (ax 0, .inl (E.2 0, 60, .inl pl)), (ax 5, .inl (E.2 0, 7, .inl er)), (ax 9, .inl (E.2 1, 8, .inl bk))] := hD
  replace hq_1 : r_1 = fx_b (inB sheet 0 3 = true) := hq_1
  rcases fx_bc hq_1 with ⟨hb_1, hr_1⟩ | ⟨hb_1, hr_1⟩
  · -- True
    subst hr_1
    refine lv_if_eq (tgt := 14) hx hb dX0_go_4 (by decide) (fun c => absurd c (by decide)) (fun _ => ?_)
    refine lv_iload_n hx hb dX0_go_7 rfl (lv_at hl 2 rfl) ?_
    refine fx_ci (va_runS (As := [.int til]) (rest := []) X (xX0_isTill l E til _) (va_cwS 1 X.2.2.2.2 (lw_S q336 q337 q69 q338) rfl rfl rfl hdX0_isTill ⟨Nat.le_of_ble_eq_true rfl, Nat.le_of_ble_eq_true rfl⟩) (fx_pre hE hP hD hS hR [] rfl rfl fx_rc0) rfl rfl hl.1 rfl (lv_room (Nat.le_of_ble_eq_true rfl)) dX0_go_8 ⟨Nat.le_refl _, Nat.le_refl _⟩) hP hD hS hA [] rfl rfl (fun r_8 u H locs hq_8 hP hD hS => ?_)
    replace hP : va_P E.1 clA [(ax 35, .inr (1, [.ref (ax 20), .ref (ax 21), .ref (ax 22), .int tk, .int cs, .int gs, .int zz, .int tp, .int wg, .ref (ax 29), .ref (ax 30), .ref (ax 31), .ref (ax 32)])), (ax 22, .inl (E.2 0, 8, .inl st0)), (ax 1, .inl (E.2 0, 3, .inl nmd)), (ax 0, .inl (E.2 0, 60, .inl pl)), (ax 5, .inl (E.2 0, 7, .inl er)), (ax 9, .inl (E.2 1, 8, .inl bk))] _ := hP
    replace hD : va_D A [(ax 35, .inr (1, [.ref (ax 20), .ref (ax 21), .ref (ax 22), .int tk, .int cs, .int gs, .int zz, .int tp, .int wg, .ref (ax 29), .ref (ax 30), .ref (ax 31), .ref (ax 32)])), (ax 22, .inl (E.2 0, 8, .inl st0)), (ax 1, .inl (E.2 0, 3, .inl nmd)), (ax 0, .inl (E.2 0, 60, .inl pl)), (ax 5, .inl (E.2 0, 7, .inl er)), (ax 9, .inl (E.2 1, 8, .inl bk))] := hD
    replace hq_8 : r_8 = fx_b (inB til 0 3 = true) := hq_8
    rcases fx_bc hq_8 with ⟨hb_8, hr_8⟩ | ⟨hb_8, hr_8⟩
    · -- True
      subst hr_8
      have gsh := inB_nn (n := 3) hb_1 (by omega)
      have gs1 : nn sheet < 4 := by omega
      have gn := inB_nn (n := 3) hb_8 (by omega)
      have g1 : nn til < 4 := by omega
      have hbc : lackF bt sz nu sheet til true 30 = tellC bt sz nu (nn sheet) 30 := lack_ok hb_1 hb_8
      refine lv_if_ne (tgt := 20) hx hb dX0_go_11 (by decide) (fun _ => ?_) (fun c => absurd c (by decide))
      refine lv_aload_n hx hb dX0_go_20 rfl (lv_at hl 0 rfl) ?_
      refine lv_iload_n hx hb dX0_go_21 rfl (lv_at hl 1 rfl) ?_
      refine fx_ti (show sheet = nI (nn sheet) from gsh.1) ?_
      refine lv_aload_n hx hb dX0_go_22 rfl (lv_at hl 0 rfl) ?_
      refine fx_get X hE (hR.at hS) 0 rfl rfl 9 rfl q244 rfl rfl dX0_go_23 ?_
      refine lv_bipush (v := 30) hx hb dX0_go_26 rfl ?_
      refine fx_ci (va_runV (As := [.int (nI (nn sheet)), .ref (ax 9), .int 30]) (rest := []) X (xX0_faultOf l E ax im bn bm fm ff fl bt sz nu sh (ax 9) bk (nn sheet) 30 PL gs1 (by first | assumption | omega) (by first | assumption | omega) (by decide) _) (cwV 3 X.2.2.2.2 (lw_V q809 q811 qs17 q69 q812) rfl rfl rfl ⟨rfl, hdX0_faultOf⟩ ⟨Nat.le_of_ble_eq_true rfl, Nat.le_of_ble_eq_true rfl⟩) (fx_preV (fx_pre hE hP hD hS hR [5] rfl rfl (fx_rcr 0 rfl (fx_rcr 10 rfl (fx_rcr 11 rfl (fx_rcr 12 rfl (fx_rcr 13 rfl (fx_rcr 14 rfl (fx_rct (fun q hq => List.mem_append_right _ hq))))))))) (va_recv hE.1 (hR.at hS) (ci := 0) (q0 := 0) rfl rfl)) rfl rfl hl.1 rfl (lv_room (Nat.le_of_ble_eq_true rfl)) dX0_go_28 ⟨Nat.le_refl _, Nat.le_refl _⟩) hP hD hS hA [5] rfl rfl (fun r_28 u H locs hq_28 hP hD hS => ?_)
      obtain ⟨row2_28, rfl⟩ : ∃ z, z = u := ⟨_, rfl⟩
      replace hP : va_P E.1 clA [(ax 35, .inr (1, [.ref (ax 20), .ref (ax 21), .ref (ax 22), .int tk, .int cs, .int gs, .int zz, .int tp, .int wg, .ref (ax 29), .ref (ax 30), .ref (ax 31), .ref (ax 32)])), (ax 22, .inl (E.2 0, 8, .inl st0)), (ax 1, .inl (E.2 0, 3, .inl nmd)), (ax 0, .inl (E.2 0, 60, .inl pl)), (ax 5, .inl (E.2 0, 7, .inl er)), (ax 9, .inl (E.2 1, 8, .inl row2_28))] _ := hP
      replace hD : va_D A [(ax 35, .inr (1, [.ref (ax 20), .ref (ax 21), .ref (ax 22), .int tk, .int cs, .int gs, .int zz, .int tp, .int wg, .ref (ax 29), .ref (ax 30), .ref (ax 31), .ref (ax 32)])), (ax 22, .inl (E.2 0, 8, .inl st0)), (ax 1, .inl (E.2 0, 3, .inl nmd)), (ax 0, .inl (E.2 0, 60, .inl pl)), (ax 5, .inl (E.2 0, 7, .inl er)), (ax 9, .inl (E.2 1, 8, .inl row2_28))] := hD
      replace hq_28 : r_28 = nI (tellC bt sz nu (nn sheet) 30) ∧ (tellC bt sz nu (nn sheet) 30 = 0 → ∀ t, t < 8 → row2_28 t = shG sz nu (nn sheet) t) := hq_28
      refine fx_ti (show r_28 = nI (tellC bt sz nu (nn sheet) 30) from hq_28.1) ?_
      have hcl : tellC bt sz nu (nn sheet) 30 ≤ 4 := tellC_le
      refine lv_istore_n (lv' := [(3, .int (nI (tellC bt sz nu (nn sheet) 30))), (0, .ref (ax 19)), (1, .int sheet), (2, .int til)]) hx hb dX0_go_31 rfl hl (by decide) rfl (fun ls hl => ?_)
      refine lv_iload_n hx hb dX0_go_32 rfl (lv_at hl 0 rfl) ?_
      refine lv_if_le (tgt := 42) hx hb dX0_go_33 (by decide) (fun c_33 => ?_) (fun c_33 => ?_)
      · -- jump 42
        have n_33 := fx_le1 (a := (tellC bt sz nu (nn sheet) 30)) (b := 0) c_33 (by omega) (by omega)
        have h0 : tellC bt sz nu (nn sheet) 30 = 0 := by omega
        obtain ⟨hrow, hr9, hm30⟩ := tell_row h0 (hq_28.2 h0)
        refine lv_aload_n hx hb dX0_go_42 rfl (lv_at hl 1 rfl) ?_
        refine fx_ci (va_runV (As := []) (rest := []) X (xX0_isThere l E ax im bn bm fm ff fl tk cs gs zz tp wg row2_28 st0 _) (cwV 0 X.2.2.2.2 (lw_V q841 q843 qs20 q69 q844) rfl rfl rfl ⟨rfl, hdX0_isThere⟩ ⟨Nat.le_of_ble_eq_true rfl, Nat.le_of_ble_eq_true rfl⟩) (fx_preV (fx_pre hE hP hD hS hR [] rfl rfl (fx_rcr 0 rfl (fx_rcm 0 rfl (by decide) (fx_rcm 5 rfl (by decide) (fx_rcm 1 rfl (by decide) fx_rc0))))) (va_recv hE.1 (hR.at hS) (ci := 0) (q0 := 0) rfl rfl)) rfl rfl hl.1 rfl (lv_room (Nat.le_of_ble_eq_true rfl)) dX0_go_43 ⟨Nat.le_refl _, Nat.le_refl _⟩) hP hD hS hA [] rfl rfl (fun r_43 u H locs hq_43 hP hD hS => ?_)
        replace hP : va_P E.1 clA [(ax 35, .inr (1, [.ref (ax 20), .ref (ax 21), .ref (ax 22), .int tk, .int cs, .int gs, .int zz, .int tp, .int wg, .ref (ax 29), .ref (ax 30), .ref (ax 31), .ref (ax 32)])), (ax 22, .inl (E.2 0, 8, .inl st0)), (ax 1, .inl (E.2 0, 3, .inl nmd)), (ax 0, .inl (E.2 0, 60, .inl pl)), (ax 5, .inl (E.2 0, 7, .inl er)), (ax 9, .inl (E.2 1, 8, .inl row2_28))] _ := hP
        replace hD : va_D A [(ax 35, .inr (1, [.ref (ax 20), .ref (ax 21), .ref (ax 22), .int tk, .int cs, .int gs, .int zz, .int tp, .int wg, .ref (ax 29), .ref (ax 30), .ref (ax 31), .ref (ax 32)])), (ax 22, .inl (E.2 0, 8, .inl st0)), (ax 1, .inl (E.2 0, 3, .inl nmd)), (ax 0, .inl (E.2 0, 60, .inl pl)), (ax 5, .inl (E.2 0, 7, .inl er)), (ax 9, .inl (E.2 1, 8, .inl row2_28))] := hD
        replace hq_43 : r_43 = fx_b (allB (fun i_ => decide (row2_28 i_ ≤ st0 i_)) 8 = true) := hq_43
        rcases fx_bc hq_43 with ⟨hb_43, hr_43⟩ | ⟨hb_43, hr_43⟩
        · -- True
          subst hr_43
          have hin : inSt sa (shG sz nu (nn sheet)) = true := by rw [← inSt_congr (hq_28.2 h0), ← allB_rl hst]; exact hb_43
          have hgc : goC sa bt sz nu sheet til = 0 := by rw [goC, hbc, if_pos h0, if_pos hin]
          refine lv_if_eq (tgt := 57) hx hb dX0_go_46 (by decide) (fun c => absurd c (by decide)) (fun _ => ?_)
          refine lv_aload_n hx hb dX0_go_49 rfl (lv_at hl 1 rfl) ?_
          refine lv_iload_n hx hb dX0_go_50 rfl (lv_at hl 3 rfl) ?_
          refine fx_ti (show til = nI (nn til) from gn.1) ?_
          refine fx_ci (va_runV (As := [.int (nI (nn til))]) (rest := []) X (xX0_goes l E ax im bn bm fm ff fl tk cs gs zz tp wg nmd pl sa tl pr co st0 row2_28 (rnG sz nu (nn sheet)) tx T PL (nn til) g1 (by first | assumption | omega) (by first | assumption | omega) (by first | assumption | omega) (by first | assumption | omega) (by first | assumption | omega) (by first | assumption | omega) (by first | assumption | omega) (by first | assumption | omega) (by first | assumption | omega) _) (cwV 1 X.2.2.2.2 (lw_V q845 q847 qs21 q69 q848) rfl rfl rfl ⟨rfl, hdX0_goes⟩ ⟨Nat.le_of_ble_eq_true rfl, Nat.le_of_ble_eq_true rfl⟩) (fx_preV (fx_pre hE hP hD hS hR [0, 1, 2, 3] rfl rfl (fx_rcr 0 rfl (fx_rcr 1 rfl (fx_rcr 2 rfl (fx_rcr 3 rfl (fx_rcr 4 rfl (fx_rcr 5 rfl (fx_rcr 6 rfl (fx_rcr 7 rfl (fx_rcr 8 rfl (fx_rcr 9 rfl (fx_rcm 5 rfl (by decide) (fx_rct (fun q hq => List.mem_append_right _ hq)))))))))))))) (va_recv hE.1 (hR.at hS) (ci := 0) (q0 := 0) rfl rfl)) rfl rfl hl.1 rfl (lv_room (Nat.le_of_ble_eq_true rfl)) dX0_go_51 ⟨Nat.le_refl _, Nat.le_refl _⟩) hP hD hS hA [0, 1, 2, 3] rfl rfl (fun r_51 u H locs hq_51 hP hD hS => ?_)
          obtain ⟨tk2_51, cs2_51, gs2_51, st2_51, nm2_51, pl2_51⟩ := u
          replace hP : va_P E.1 clA [(ax 35, .inr (1, [.ref (ax 20), .ref (ax 21), .ref (ax 22), .int tk2_51, .int cs2_51, .int gs2_51, .int zz, .int tp, .int wg, .ref (ax 29), .ref (ax 30), .ref (ax 31), .ref (ax 32)])), (ax 22, .inl (E.2 0, 8, .inl st2_51)), (ax 1, .inl (E.2 0, 3, .inl nm2_51)), (ax 0, .inl (E.2 0, 60, .inl pl2_51)), (ax 5, .inl (E.2 0, 7, .inl er)), (ax 9, .inl (E.2 1, 8, .inl row2_28))] _ := hP
          replace hD : va_D A [(ax 35, .inr (1, [.ref (ax 20), .ref (ax 21), .ref (ax 22), .int tk2_51, .int cs2_51, .int gs2_51, .int zz, .int tp, .int wg, .ref (ax 29), .ref (ax 30), .ref (ax 31), .ref (ax 32)])), (ax 22, .inl (E.2 0, 8, .inl st2_51)), (ax 1, .inl (E.2 0, 3, .inl nm2_51)), (ax 0, .inl (E.2 0, 60, .inl pl2_51)), (ax 5, .inl (E.2 0, 7, .inl er)), (ax 9, .inl (E.2 1, 8, .inl row2_28))] := hD
          replace hq_51 : r_51 = paysF sa T (rnG sz nu (nn sheet)) (nn til) ∧ HN (goesA sa T row2_28 (rnG sz nu (nn sheet)) (nn til)) tk2_51 cs2_51 gs2_51 zz tp wg ∧ rl st2_51 (goesA sa T row2_28 (rnG sz nu (nn sheet)) (nn til)) 24 8 := hq_51
          refine lv_goto (tgt := 62) hx hb dX0_go_54 (by decide) ?_
          exact hret r_51 (tk2_51, cs2_51, gs2_51, st2_51, nm2_51, pl2_51, er, row2_28) (⟨by rw [hq_51.1]; simp only [go_, hgc, eR_0], by simp only [go_, hgc, eE_0], by simp only [go_, hgc]; rw [if_pos trivial, ← goesA_congr (hq_28.2 h0)]; exact hq_51.2.1, by simp only [go_, hgc]; rw [if_pos trivial, ← goesA_congr (hq_28.2 h0)]; exact hq_51.2.2⟩) (rfl) hP hD hS (Nat.le_refl _) (Nat.le_refl _) dX0_go_62
        · -- False
          subst hr_43
          have hin : ¬ inSt sa (shG sz nu (nn sheet)) = true := by rw [← inSt_congr (hq_28.2 h0), ← allB_rl hst]; exact hb_43
          have hgc : goC sa bt sz nu sheet til = 3 := by rw [goC, hbc, if_pos h0, if_neg hin]
          refine lv_if_eq (tgt := 57) hx hb dX0_go_46 (by decide) (fun _ => ?_) (fun c => (c (by decide)).elim)
          refine lv_aload_n hx hb dX0_go_57 rfl (lv_at hl 1 rfl) ?_
          refine lv_iconst (v := 3) hx hb dX0_go_58 rfl ?_
          refine fx_ci (va_runV (As := [.int 3]) (rest := []) X (xX0_finds l E ax im bn bm fm ff fl er 3 (by decide) _) (cwV 1 X.2.2.2.2 (lw_V q303 q305 qs0 q69 q306) rfl rfl rfl ⟨rfl, hdX0_finds⟩ ⟨Nat.le_of_ble_eq_true rfl, Nat.le_of_ble_eq_true rfl⟩) (fx_preV (fx_pre hE hP hD hS hR [4] rfl rfl (fx_rcr 0 rfl fx_rc0)) (va_recv hE.1 (hR.at hS) (ci := 0) (q0 := 0) rfl rfl)) rfl rfl hl.1 rfl (lv_room (Nat.le_of_ble_eq_true rfl)) dX0_go_59 ⟨Nat.le_refl _, Nat.le_refl _⟩) hP hD hS hA [4] rfl rfl (fun r_59 u H locs hq_59 hP hD hS => ?_)
          replace hP : va_P E.1 clA [(ax 35, .inr (1, [.ref (ax 20), .ref (ax 21), .ref (ax 22), .int tk, .int cs, .int gs, .int zz, .int tp, .int wg, .ref (ax 29), .ref (ax 30), .ref (ax 31), .ref (ax 32)])), (ax 22, .inl (E.2 0, 8, .inl st0)), (ax 1, .inl (E.2 0, 3, .inl nmd)), (ax 0, .inl (E.2 0, 60, .inl pl)), (ax 5, .inl (E.2 0, 7, .inl (upd er 3 (er 3 + 1)))), (ax 9, .inl (E.2 1, 8, .inl row2_28))] _ := hP
          replace hD : va_D A [(ax 35, .inr (1, [.ref (ax 20), .ref (ax 21), .ref (ax 22), .int tk, .int cs, .int gs, .int zz, .int tp, .int wg, .ref (ax 29), .ref (ax 30), .ref (ax 31), .ref (ax 32)])), (ax 22, .inl (E.2 0, 8, .inl st0)), (ax 1, .inl (E.2 0, 3, .inl nmd)), (ax 0, .inl (E.2 0, 60, .inl pl)), (ax 5, .inl (E.2 0, 7, .inl (upd er 3 (er 3 + 1)))), (ax 9, .inl (E.2 1, 8, .inl row2_28))] := hD
          replace hq_59 : r_59 = erv 3 := hq_59
          exact hret r_59 (tk, cs, gs, st0, nmd, pl, (upd er 3 (er 3 + 1)), row2_28) (⟨by rw [hq_59]; simp only [go_, hgc]; rfl, by simp only [go_, hgc]; rfl, by simp only [go_, hgc]; exact hN, by simp only [go_, hgc]; exact hst⟩) (rfl) hP hD hS (Nat.le_refl _) (Nat.le_refl _) dX0_go_62
      · -- fall 36
        have n_33 := fx_le0 (a := (tellC bt sz nu (nn sheet) 30)) (b := 0) c_33 (by omega) (by omega)
        have hgp : goC sa bt sz nu sheet til = tellC bt sz nu (nn sheet) 30 := by rw [goC, hbc, if_neg (by omega)]
        refine lv_aload_n hx hb dX0_go_36 rfl (lv_at hl 1 rfl) ?_
        refine lv_iload_n hx hb dX0_go_37 rfl (lv_at hl 0 rfl) ?_
        refine fx_ci (va_runV (As := [.int (nI (tellC bt sz nu (nn sheet) 30))]) (rest := []) X (xX0_finds l E ax im bn bm fm ff fl er (tellC bt sz nu (nn sheet) 30) (by omega) _) (cwV 1 X.2.2.2.2 (lw_V q303 q305 qs0 q69 q306) rfl rfl rfl ⟨rfl, hdX0_finds⟩ ⟨Nat.le_of_ble_eq_true rfl, Nat.le_of_ble_eq_true rfl⟩) (fx_preV (fx_pre hE hP hD hS hR [4] rfl rfl (fx_rcr 0 rfl fx_rc0)) (va_recv hE.1 (hR.at hS) (ci := 0) (q0 := 0) rfl rfl)) rfl rfl hl.1 rfl (lv_room (Nat.le_of_ble_eq_true rfl)) dX0_go_38 ⟨Nat.le_refl _, Nat.le_refl _⟩) hP hD hS hA [4] rfl rfl (fun r_38 u H locs hq_38 hP hD hS => ?_)
        replace hP : va_P E.1 clA [(ax 35, .inr (1, [.ref (ax 20), .ref (ax 21), .ref (ax 22), .int tk, .int cs, .int gs, .int zz, .int tp, .int wg, .ref (ax 29), .ref (ax 30), .ref (ax 31), .ref (ax 32)])), (ax 22, .inl (E.2 0, 8, .inl st0)), (ax 1, .inl (E.2 0, 3, .inl nmd)), (ax 0, .inl (E.2 0, 60, .inl pl)), (ax 5, .inl (E.2 0, 7, .inl (upd er (tellC bt sz nu (nn sheet) 30) (er (tellC bt sz nu (nn sheet) 30) + 1)))), (ax 9, .inl (E.2 1, 8, .inl row2_28))] _ := hP
        replace hD : va_D A [(ax 35, .inr (1, [.ref (ax 20), .ref (ax 21), .ref (ax 22), .int tk, .int cs, .int gs, .int zz, .int tp, .int wg, .ref (ax 29), .ref (ax 30), .ref (ax 31), .ref (ax 32)])), (ax 22, .inl (E.2 0, 8, .inl st0)), (ax 1, .inl (E.2 0, 3, .inl nmd)), (ax 0, .inl (E.2 0, 60, .inl pl)), (ax 5, .inl (E.2 0, 7, .inl (upd er (tellC bt sz nu (nn sheet) 30) (er (tellC bt sz nu (nn sheet) 30) + 1)))), (ax 9, .inl (E.2 1, 8, .inl row2_28))] := hD
        replace hq_38 : r_38 = erv (tellC bt sz nu (nn sheet) 30) := hq_38
        exact hret r_38 (tk, cs, gs, st0, nmd, pl, (upd er (tellC bt sz nu (nn sheet) 30) (er (tellC bt sz nu (nn sheet) 30) + 1)), row2_28) (⟨by rw [hq_38]; simp only [go_, hgp, eR_p n_33], by simp only [go_, hgp, eE_p n_33, erI], by simp only [go_, hgp]; rw [if_neg (by omega)]; exact hN, by simp only [go_, hgp]; rw [if_neg (by omega)]; exact hst⟩) (rfl) hP hD hS (Nat.le_refl _) (Nat.le_refl _) dX0_go_41
    · -- False
      subst hr_8
      have hbc : lackF bt sz nu sheet til true 30 = 1 := lack_no (Or.inr (Or.inl hb_8))
      refine lv_if_ne (tgt := 20) hx hb dX0_go_11 (by decide) (fun c => (c (by decide)).elim) (fun _ => ?_)
      refine lv_aload_n hx hb dX0_go_14 rfl (lv_at hl 0 rfl) ?_
      refine lv_iconst (v := 1) hx hb dX0_go_15 rfl ?_
      refine fx_ci (va_runV (As := [.int 1]) (rest := []) X (xX0_finds l E ax im bn bm fm ff fl er 1 (by decide) _) (cwV 1 X.2.2.2.2 (lw_V q303 q305 qs0 q69 q306) rfl rfl rfl ⟨rfl, hdX0_finds⟩ ⟨Nat.le_of_ble_eq_true rfl, Nat.le_of_ble_eq_true rfl⟩) (fx_preV (fx_pre hE hP hD hS hR [4] rfl rfl (fx_rcr 0 rfl fx_rc0)) (va_recv hE.1 (hR.at hS) (ci := 0) (q0 := 0) rfl rfl)) rfl rfl hl.1 rfl (lv_room (Nat.le_of_ble_eq_true rfl)) dX0_go_16 ⟨Nat.le_refl _, Nat.le_refl _⟩) hP hD hS hA [4] rfl rfl (fun r_16 u H locs hq_16 hP hD hS => ?_)
      replace hP : va_P E.1 clA [(ax 35, .inr (1, [.ref (ax 20), .ref (ax 21), .ref (ax 22), .int tk, .int cs, .int gs, .int zz, .int tp, .int wg, .ref (ax 29), .ref (ax 30), .ref (ax 31), .ref (ax 32)])), (ax 22, .inl (E.2 0, 8, .inl st0)), (ax 1, .inl (E.2 0, 3, .inl nmd)), (ax 0, .inl (E.2 0, 60, .inl pl)), (ax 5, .inl (E.2 0, 7, .inl (upd er 1 (er 1 + 1)))), (ax 9, .inl (E.2 1, 8, .inl bk))] _ := hP
      replace hD : va_D A [(ax 35, .inr (1, [.ref (ax 20), .ref (ax 21), .ref (ax 22), .int tk, .int cs, .int gs, .int zz, .int tp, .int wg, .ref (ax 29), .ref (ax 30), .ref (ax 31), .ref (ax 32)])), (ax 22, .inl (E.2 0, 8, .inl st0)), (ax 1, .inl (E.2 0, 3, .inl nmd)), (ax 0, .inl (E.2 0, 60, .inl pl)), (ax 5, .inl (E.2 0, 7, .inl (upd er 1 (er 1 + 1)))), (ax 9, .inl (E.2 1, 8, .inl bk))] := hD
      replace hq_16 : r_16 = erv 1 := hq_16
      exact hret r_16 (tk, cs, gs, st0, nmd, pl, (upd er 1 (er 1 + 1)), bk) (⟨by rw [hq_16]; simp only [go_, goC, hbc]; rfl, by simp only [go_, goC, hbc]; rfl, by simp only [go_, goC, hbc]; exact hN, by simp only [go_, goC, hbc]; exact hst⟩) (rfl) hP hD hS (Nat.le_refl _) (Nat.le_refl _) dX0_go_19
  · -- False
    subst hr_1
    have hbc : lackF bt sz nu sheet til true 30 = 1 := lack_no (Or.inl hb_1)
    refine lv_if_eq (tgt := 14) hx hb dX0_go_4 (by decide) (fun _ => ?_) (fun c => (c (by decide)).elim)
    refine lv_aload_n hx hb dX0_go_14 rfl (lv_at hl 0 rfl) ?_
    refine lv_iconst (v := 1) hx hb dX0_go_15 rfl ?_
    refine fx_ci (va_runV (As := [.int 1]) (rest := []) X (xX0_finds l E ax im bn bm fm ff fl er 1 (by decide) _) (cwV 1 X.2.2.2.2 (lw_V q303 q305 qs0 q69 q306) rfl rfl rfl ⟨rfl, hdX0_finds⟩ ⟨Nat.le_of_ble_eq_true rfl, Nat.le_of_ble_eq_true rfl⟩) (fx_preV (fx_pre hE hP hD hS hR [4] rfl rfl (fx_rcr 0 rfl fx_rc0)) (va_recv hE.1 (hR.at hS) (ci := 0) (q0 := 0) rfl rfl)) rfl rfl hl.1 rfl (lv_room (Nat.le_of_ble_eq_true rfl)) dX0_go_16 ⟨Nat.le_refl _, Nat.le_refl _⟩) hP hD hS hA [4] rfl rfl (fun r_16 u H locs hq_16 hP hD hS => ?_)
    replace hP : va_P E.1 clA [(ax 35, .inr (1, [.ref (ax 20), .ref (ax 21), .ref (ax 22), .int tk, .int cs, .int gs, .int zz, .int tp, .int wg, .ref (ax 29), .ref (ax 30), .ref (ax 31), .ref (ax 32)])), (ax 22, .inl (E.2 0, 8, .inl st0)), (ax 1, .inl (E.2 0, 3, .inl nmd)), (ax 0, .inl (E.2 0, 60, .inl pl)), (ax 5, .inl (E.2 0, 7, .inl (upd er 1 (er 1 + 1)))), (ax 9, .inl (E.2 1, 8, .inl bk))] _ := hP
    replace hD : va_D A [(ax 35, .inr (1, [.ref (ax 20), .ref (ax 21), .ref (ax 22), .int tk, .int cs, .int gs, .int zz, .int tp, .int wg, .ref (ax 29), .ref (ax 30), .ref (ax 31), .ref (ax 32)])), (ax 22, .inl (E.2 0, 8, .inl st0)), (ax 1, .inl (E.2 0, 3, .inl nmd)), (ax 0, .inl (E.2 0, 60, .inl pl)), (ax 5, .inl (E.2 0, 7, .inl (upd er 1 (er 1 + 1)))), (ax 9, .inl (E.2 1, 8, .inl bk))] := hD
    replace hq_16 : r_16 = erv 1 := hq_16
    exact hret r_16 (tk, cs, gs, st0, nmd, pl, (upd er 1 (er 1 + 1)), bk) (⟨by rw [hq_16]; simp only [go_, goC, hbc]; rfl, by simp only [go_, goC, hbc]; rfl, by simp only [go_, goC, hbc]; exact hN, by simp only [go_, goC, hbc]; exact hst⟩) (rfl) hP hD hS (Nat.le_refl _) (Nat.le_refl _) dX0_go_19
