set_option maxRecDepth 100000
theorem hdX5_told : yX5_told.cls ≠ "java/lang/invoke/MethodHandle" ∧ yX5_told.cls ≠ "java/lang/invoke/VarHandle" ∧ (parseMethodDescriptor yX5_told.desc).map (fun d => d.parameters.length) = some 4 := by decide +kernel
theorem hdX3_pays : yX3_pays.cls ≠ "java/lang/invoke/MethodHandle" ∧ yX3_pays.cls ≠ "java/lang/invoke/VarHandle" ∧ (parseMethodDescriptor yX3_pays.desc).map (fun d => d.parameters.length) = some 3 := by decide +kernel
theorem hdX7_pays : yX7_pays.cls ≠ "java/lang/invoke/MethodHandle" ∧ yX7_pays.cls ≠ "java/lang/invoke/VarHandle" ∧ (parseMethodDescriptor yX7_pays.desc).map (fun d => d.parameters.length) = some 3 := by decide +kernel
theorem hdX8_base : yX8_base.cls ≠ "java/lang/invoke/MethodHandle" ∧ yX8_base.cls ≠ "java/lang/invoke/VarHandle" ∧ (parseMethodDescriptor yX8_base.desc).map (fun d => d.parameters.length) = some 0 := by decide +kernel
theorem hdX10_base : yX10_base.cls ≠ "java/lang/invoke/MethodHandle" ∧ yX10_base.cls ≠ "java/lang/invoke/VarHandle" ∧ (parseMethodDescriptor yX10_base.desc).map (fun d => d.parameters.length) = some 0 := by decide +kernel
theorem hdX8_pays : yX8_pays.cls ≠ "java/lang/invoke/MethodHandle" ∧ yX8_pays.cls ≠ "java/lang/invoke/VarHandle" ∧ (parseMethodDescriptor yX8_pays.desc).map (fun d => d.parameters.length) = some 3 := by decide +kernel
theorem hdX9_pays : yX9_pays.cls ≠ "java/lang/invoke/MethodHandle" ∧ yX9_pays.cls ≠ "java/lang/invoke/VarHandle" ∧ (parseMethodDescriptor yX9_pays.desc).map (fun d => d.parameters.length) = some 3 := by decide +kernel
theorem hdX11_pays : yX11_pays.cls ≠ "java/lang/invoke/MethodHandle" ∧ yX11_pays.cls ≠ "java/lang/invoke/VarHandle" ∧ (parseMethodDescriptor yX11_pays.desc).map (fun d => d.parameters.length) = some 3 := by decide +kernel
theorem hdX12_pays : yX12_pays.cls ≠ "java/lang/invoke/MethodHandle" ∧ yX12_pays.cls ≠ "java/lang/invoke/VarHandle" ∧ (parseMethodDescriptor yX12_pays.desc).map (fun d => d.parameters.length) = some 3 := by decide +kernel
theorem hdX1_at : yX1_at.cls ≠ "java/lang/invoke/MethodHandle" ∧ yX1_at.cls ≠ "java/lang/invoke/VarHandle" ∧ (parseMethodDescriptor yX1_at.desc).map (fun d => d.parameters.length) = some 1 := by decide +kernel
theorem hdX0_asked : yX0_asked.cls ≠ "java/lang/invoke/MethodHandle" ∧ yX0_asked.cls ≠ "java/lang/invoke/VarHandle" ∧ (parseMethodDescriptor yX0_asked.desc).map (fun d => d.parameters.length) = some 3 := by decide +kernel
theorem hdX0_valueOf : yX0_valueOf.cls ≠ "java/lang/invoke/MethodHandle" ∧ yX0_valueOf.cls ≠ "java/lang/invoke/VarHandle" ∧ (parseMethodDescriptor yX0_valueOf.desc).map (fun d => d.parameters.length) = some 1 := by decide +kernel
abbrev rxX5_told : Room := { frames := 2, cells := 0, slots := 0, locals := 46 }
set_option maxHeartbeats 400000 in
set_option maxRecDepth 100000 in
theorem xX5_told (l : Launch) (E : fx_En) (ax : Nat → Nat) (im : Int32) (bn : Int32) (bm : Int32) (fm : Int32) (ff : Int32) (fl : Int32) (tk : Int32) (cs : Int32) (gs : Int32) (zz : Int32) (tp : Int32) (wg : Int32) (nmd : Nat → Int32) (pl : Nat → Int32) (tx : Nat → Option Nat) (T : Tx) (PL : va_W) (su : Int32) (qq : Int32) (mm : Int32) (wo : Int32) (hT : TXs E PL (tx 0) T) (hTo : TOk T) : fx_Mi l yX5_told cX5_told 5 .int rxX5_told E [.ref (ax 7), .int su, .int qq, .int mm, .int wo] [(ax 1, .inl (E.2 0, 3, .inl nmd)), (ax 0, .inl (E.2 0, 60, .inl pl))] ([(ax 7, .inr (5, [.ref (ax 19)])), (ax 19, .inr (0, [.ref (ax 0), .ref (ax 1), .ref (ax 35), .ref (ax 55), .ref (ax 4), .ref (ax 5), .ref (ax 6), .ref (ax 7), .int im, .ref (ax 9), .ref (ax 10), .ref (ax 11), .ref (ax 12), .ref (ax 13), .int bn, .int bm, .int fm, .int ff, .int fl])), (ax 35, .inr (1, [.ref (ax 20), .ref (ax 21), .ref (ax 22), .int tk, .int cs, .int gs, .int zz, .int tp, .int wg, .ref (ax 29), .ref (ax 30), .ref (ax 31), .ref (ax 32)])), (ax 30, .inl (E.2 4, 2, .inr (.inr (.inr (.inr tx)))))] ++ PL) (S := (Nat → Int32) × (Nat → Int32)) (fun (u : (Nat → Int32) × (Nat → Int32)) => [(ax 1, .inl (E.2 0, 3, .inl u.1)), (ax 0, .inl (E.2 0, 60, .inl u.2))]) (fun (r : Int32) (u : (Nat → Int32) × (Nat → Int32)) => r = (if T.1 = 0 then wo else val T (nm3 su qq mm))) := by
  refine fx_iW rfl rfl ?_
  intro p e s m args below meth c A ls Q X hE hP hD hR hA hl hret
  have hx := X.1
  have hb := X.2.1
  have hS : va_S A s.heap s.heap [] := va_S.rf
  replace hP : va_P E.1 clA [(ax 1, .inl (E.2 0, 3, .inl nmd)), (ax 0, .inl (E.2 0, 60, .inl pl))] _ := hP
  replace hD : va_D A [(ax 1, .inl (E.2 0, 3, .inl nmd)), (ax 0, .inl (E.2 0, 60, .inl pl))] := hD
  replace hl : lv_has ls 5 [(0, .ref (ax 7)), (1, .int su), (2, .int qq), (3, .int mm), (4, .int wo)] := hl
  refine lv_aload_n hx hb dX5_told_0 rfl (lv_at hl 0 rfl) ?_
  refine fx_get X hE (hR.at hS) 0 rfl rfl 0 rfl q229 rfl rfl dX5_told_1 ?_
  refine fx_getN X hE (hR.at hS) 1 rfl rfl 2 rfl 23 rfl rfl rfl dX5_told_4 ?_
  refine fx_getN X hE (hR.at hS) 2 rfl rfl 10 rfl 13 rfl rfl rfl dX5_told_7 ?_
  refine lv_iconst (v := 0) hx hb dX5_told_10 rfl ?_
  rcases hT with ⟨htx, hT0⟩ | ⟨ta, tb, tc_, sf, vf, htx, hTp, hc1, hc2, hc3, hfg⟩
  ·
    refine fx_aald X hE (hR.at hS) 3 4 rfl rfl 0 rfl (by decide) rfl (r := none) (htx) dX5_told_11 ?_
    refine lv_ifnonnullN hx hb dX5_told_12 ?_
    refine lv_iload hx hb dX5_told_15 (lv_at hl 4 rfl) ?_
    exact hret wo (nmd, pl) (by rw [if_pos hT0]) (rfl) hP hD hS (Nat.le_refl _) (Nat.le_refl _) dX5_told_17
  ·
    refine fx_aald X hE (hR.at hS) 3 4 rfl rfl 0 rfl (by decide) rfl (r := some ta) (htx) dX5_told_11 ?_
    refine lv_ifnonnull (tgt := 18) hx hb dX5_told_12 (by decide) ?_
    refine lv_aload_n hx hb dX5_told_18 rfl (lv_at hl 0 rfl) ?_
    refine fx_get X hE (hR.at hS) 0 rfl rfl 0 rfl q229 rfl rfl dX5_told_19 ?_
    refine fx_getN X hE (hR.at hS) 1 rfl rfl 1 rfl 22 rfl rfl rfl dX5_told_22 ?_
    refine lv_iconst (v := 0) hx hb dX5_told_25 rfl ?_
    refine lv_iload_n hx hb dX5_told_26 rfl (lv_at hl 1 rfl) ?_
    refine fx_iast (ws' := [(ax 1, .inl (E.2 0, 3, .inl (upd nmd 0 su))), (ax 0, .inl (E.2 0, 60, .inl pl))]) X hE hP hD hS 0 rfl 0 rfl (by decide) rfl rfl dX5_told_27 (fun H locs hP hD hS => ?_)
    refine lv_aload_n hx hb dX5_told_28 rfl (lv_at hl 0 rfl) ?_
    refine fx_get X hE (hR.at hS) 0 rfl rfl 0 rfl q229 rfl rfl dX5_told_29 ?_
    refine fx_getN X hE (hR.at hS) 1 rfl rfl 1 rfl 22 rfl rfl rfl dX5_told_32 ?_
    refine lv_iconst (v := 1) hx hb dX5_told_35 rfl ?_
    refine lv_iload_n hx hb dX5_told_36 rfl (lv_at hl 2 rfl) ?_
    refine fx_iast (ws' := [(ax 1, .inl (E.2 0, 3, .inl (upd (upd nmd 0 su) 1 qq))), (ax 0, .inl (E.2 0, 60, .inl pl))]) X hE hP hD hS 0 rfl 1 rfl (by decide) rfl rfl dX5_told_37 (fun H locs hP hD hS => ?_)
    refine lv_aload_n hx hb dX5_told_38 rfl (lv_at hl 0 rfl) ?_
    refine fx_get X hE (hR.at hS) 0 rfl rfl 0 rfl q229 rfl rfl dX5_told_39 ?_
    refine fx_getN X hE (hR.at hS) 1 rfl rfl 1 rfl 22 rfl rfl rfl dX5_told_42 ?_
    refine lv_iconst (v := 2) hx hb dX5_told_45 rfl ?_
    refine lv_iload_n hx hb dX5_told_46 rfl (lv_at hl 3 rfl) ?_
    refine fx_iast (ws' := [(ax 1, .inl (E.2 0, 3, .inl (upd (upd (upd nmd 0 su) 1 qq) 2 mm))), (ax 0, .inl (E.2 0, 60, .inl pl))]) X hE hP hD hS 0 rfl 2 rfl (by decide) rfl rfl dX5_told_47 (fun H locs hP hD hS => ?_)
    refine lv_aload_n hx hb dX5_told_48 rfl (lv_at hl 0 rfl) ?_
    refine fx_get X hE (hR.at hS) 0 rfl rfl 0 rfl q229 rfl rfl dX5_told_49 ?_
    refine lv_aload_n hx hb dX5_told_52 rfl (lv_at hl 0 rfl) ?_
    refine fx_get X hE (hR.at hS) 0 rfl rfl 0 rfl q229 rfl rfl dX5_told_53 ?_
    refine fx_getN X hE (hR.at hS) 1 rfl rfl 2 rfl 23 rfl rfl rfl dX5_told_56 ?_
    refine fx_getN X hE (hR.at hS) 2 rfl rfl 10 rfl 13 rfl rfl rfl dX5_told_59 ?_
    refine lv_iconst (v := 0) hx hb dX5_told_62 rfl ?_
    refine fx_aald X hE (hR.at hS) 3 4 rfl rfl 0 rfl (by decide) rfl (r := some ta) (htx) dX5_told_63 ?_
    refine fx_ci (va_runVN (As := [.ref ta]) (rest := []) X (xX0_worked l E ax im bn bm fm ff fl ta tb tc_ (upd (upd (upd nmd 0 su) 1 qq) 2 mm) pl sf vf T (nm3 su qq mm) (hTo.ok hTp) nm3X hfg _) ⟨va_cnB 1 X.2.2.2.2 (lw_meth q319) rfl rfl rfl (hE.2.1 _ (List.mem_of_getElem? (i := 34) rfl)) (X.2.2.2.2 _ q69) hdX0_worked ⟨Nat.le_of_ble_eq_true rfl, Nat.le_of_ble_eq_true rfl⟩, X.2.2.2.2 _ q318, X.2.2.2.2 _ qs2⟩ (fx_preV (fx_pre hE hP hD hS hR [1] rfl rfl (fx_rcr 1 rfl (fx_rcm 0 rfl (by decide) (fx_rcx ((List.mem_append_right _ hc1)) (fx_rcx ((List.mem_append_right _ hc2)) (fx_rcx ((List.mem_append_right _ hc3)) fx_rc0)))))) (va_recv hE.1 (hR.at hS) (ci := 0) (q0 := 1) rfl rfl)) rfl rfl hl.1 rfl (lv_room (Nat.le_of_ble_eq_true rfl)) dX5_told_64 ⟨Nat.le_refl _, Nat.le_refl _⟩) hP hD hS hA [1] rfl rfl (fun r_64 u H locs hq_64 hP hD hS => ?_)
    obtain ⟨pl2_64, rfl⟩ : ∃ z, z = u := ⟨_, rfl⟩
    replace hP : va_P E.1 clA [(ax 1, .inl (E.2 0, 3, .inl (upd (upd (upd nmd 0 su) 1 qq) 2 mm))), (ax 0, .inl (E.2 0, 60, .inl pl2_64))] _ := hP
    replace hD : va_D A [(ax 1, .inl (E.2 0, 3, .inl (upd (upd (upd nmd 0 su) 1 qq) 2 mm))), (ax 0, .inl (E.2 0, 60, .inl pl2_64))] := hD
    replace hq_64 : r_64 = val T (nm3 su qq mm) := hq_64
    exact hret r_64 ((upd (upd (upd nmd 0 su) 1 qq) 2 mm), pl2_64) (by rw [hq_64, if_neg (by omega)]) (rfl) hP hD hS (Nat.le_refl _) (Nat.le_refl _) dX5_told_67
abbrev rxX3_pays : Room := { frames := 1, cells := 0, slots := 0, locals := 23 }
set_option maxHeartbeats 400000 in
set_option maxRecDepth 100000 in
theorem xX3_pays (l : Launch) (E : fx_En) (th : Nat) (es : Nat) (S : Nat) (qq : Int32) (hS : S + 20 < 2147483648) : fx_Mi l yX3_pays cX3_pays 4 .int rxX3_pays E [.ref th, .ref es, .int (nI S), .int qq] [] [] (S := Unit) (fun (u : Unit) => []) (fun (r : Int32) (u : Unit) => r = nI (dg 10 S)) := by
  refine fx_iW rfl rfl ?_
  intro p e s m args below meth c A ls Q X hE hP hD hR hA hl hret
  have hx := X.1
  have hb := X.2.1
  have hS : va_S A s.heap s.heap [] := va_S.rf
  replace hl : lv_has ls 4 [(0, .ref th), (1, .ref es), (2, .int (nI S)), (3, .int qq)] := hl
  refine lv_iload_n hx hb dX3_pays_0 rfl (lv_at hl 2 rfl) ?_
  refine lv_bipush (v := 10) hx hb dX3_pays_1 rfl ?_
  refine fx_ci (va_runSN (As := [.int (nI S), .int 10]) (rest := []) X (xX0_figuresOf l E S 10 (by omega) (by decide) (by decide) _) ⟨va_cnB 2 X.2.2.2.2 (lw_meth q448) rfl rfl rfl (hE.2.1 _ (List.mem_of_getElem? (i := 25) rfl)) (X.2.2.2.2 _ q69) hdX0_figuresOf ⟨Nat.le_of_ble_eq_true rfl, Nat.le_of_ble_eq_true rfl⟩, X.2.2.2.2 _ q447, trivial⟩ (fx_pre hE hP hD hS hR [] rfl rfl fx_rc0) rfl rfl hl.1 rfl (lv_room (Nat.le_of_ble_eq_true rfl)) dX3_pays_3 ⟨Nat.le_refl _, Nat.le_refl _⟩) hP hD hS hA [] rfl rfl (fun r_3 u H locs hq_3 hP hD hS => ?_)
  replace hP : va_P E.1 clA [] _ := hP
  replace hD : va_D A [] := hD
  replace hq_3 : r_3 = nI (dg 10 S) := hq_3
  exact hret r_3 () (hq_3) (rfl) hP hD hS (Nat.le_refl _) (Nat.le_refl _) dX3_pays_6
abbrev rxX7_pays : Room := { frames := 0, cells := 0, slots := 0, locals := 0 }
set_option maxHeartbeats 400000 in
set_option maxRecDepth 100000 in
theorem xX7_pays (l : Launch) (E : fx_En) (th : Nat) (es : Nat) (S : Nat) (qq : Int32) (hS : S + 20 < 2147483648) : fx_Mi l yX7_pays cX7_pays 4 .int rxX7_pays E [.ref th, .ref es, .int (nI S), .int qq] [] [] (S := Unit) (fun (u : Unit) => []) (fun (r : Int32) (u : Unit) => r = nI (S % 10)) := by
  refine fx_iW rfl rfl ?_
  intro p e s m args below meth c A ls Q X hE hP hD hR hA hl hret
  have hx := X.1
  have hb := X.2.1
  have hS : va_S A s.heap s.heap [] := va_S.rf
  replace hl : lv_has ls 4 [(0, .ref th), (1, .ref es), (2, .int (nI S)), (3, .int qq)] := hl
  refine lv_iload_n hx hb dX7_pays_0 rfl (lv_at hl 2 rfl) ?_
  refine lv_bipush (v := 10) hx hb dX7_pays_1 rfl ?_
  refine lv_irem hx hb dX7_pays_3 (by decide) ?_
  refine fx_ti (pk_rem (a := S) (d := 10) (by omega) (by omega) (by omega)) ?_
  exact hret (nI (S % 10)) () (rfl) (rfl) hP hD hS (Nat.le_refl _) (Nat.le_refl _) dX7_pays_4
abbrev rxX8_base : Room := { frames := 0, cells := 0, slots := 0, locals := 0 }
set_option maxHeartbeats 400000 in
set_option maxRecDepth 100000 in
theorem xX8_base (l : Launch) (E : fx_En) (th : Nat) : fx_Mi l yX8_base cX8_base 1 .int rxX8_base E [.ref th] [] [] (S := Unit) (fun (u : Unit) => []) (fun (r : Int32) (u : Unit) => r = 10) := by
  refine fx_iW rfl rfl ?_
  intro p e s m args below meth c A ls Q X hE hP hD hR hA hl hret
  have hx := X.1
  have hb := X.2.1
  have hS : va_S A s.heap s.heap [] := va_S.rf
  replace hl : lv_has ls 1 [(0, .ref th)] := hl
  refine lv_bipush (v := 10) hx hb dX8_base_0 rfl ?_
  exact hret 10 () (rfl) (rfl) hP hD hS (Nat.le_refl _) (Nat.le_refl _) dX8_base_2
abbrev rxX10_base : Room := { frames := 0, cells := 0, slots := 0, locals := 0 }
set_option maxHeartbeats 400000 in
set_option maxRecDepth 100000 in
theorem xX10_base (l : Launch) (E : fx_En) (th : Nat) (nb : Int32) (mm : Nat) : fx_Mi l yX10_base cX10_base 1 .int rxX10_base E [.ref th] [] [(th, .inr (10, [.int nb, .int (nI mm)]))] (S := Unit) (fun (u : Unit) => []) (fun (r : Int32) (u : Unit) => r = nI (mm + 2)) := by
  refine fx_iW rfl rfl ?_
  intro p e s m args below meth c A ls Q X hE hP hD hR hA hl hret
  have hx := X.1
  have hb := X.2.1
  have hS : va_S A s.heap s.heap [] := va_S.rf
  replace hl : lv_has ls 1 [(0, .ref th)] := hl
  refine lv_aload_n hx hb dX10_base_0 rfl (lv_at hl 0 rfl) ?_
  refine fx_getS X hE (hR.at hS) 0 rfl rfl 1 rfl q140 q141 rfl dX10_base_1 ?_
  refine lv_iconst (v := 2) hx hb dX10_base_4 rfl ?_
  refine lv_iadd hx hb dX10_base_5 ?_
  refine fx_ti (nI_add mm 2) ?_
  exact hret (nI (mm + 2)) () (rfl) (rfl) hP hD hS (Nat.le_refl _) (Nat.le_refl _) dX10_base_6
abbrev rxX8_paysR : Room := { frames := 2, cells := 0, slots := 0, locals := 45 }
set_option maxHeartbeats 400000 in
set_option maxRecDepth 100000 in
theorem xX8_paysR (l : Launch) (E : fx_En) (th : Nat) (es : Nat) (S : Nat) (qq : Int32) (nb : Int32) (mm : Int32) (hS : S + 20 < 2147483648) : fx_Mi l yX8_pays cX8_pays 4 .int rxX8_paysR E [.ref th, .ref es, .int (nI S), .int qq] [] [(th, .inr (8, [.int nb, .int mm]))] (S := Unit) (fun (u : Unit) => []) (fun (r : Int32) (u : Unit) => r = nI (rt 10 S)) := by
  refine fx_iW rfl rfl ?_
  intro p e s m args below meth c A ls Q X hE hP hD hR hA hl hret
  have hx := X.1
  have hb := X.2.1
  have hS : va_S A s.heap s.heap [] := va_S.rf
  replace hl : lv_has ls 4 [(0, .ref th), (1, .ref es), (2, .int (nI S)), (3, .int qq)] := hl
  refine lv_iload_n hx hb dX8_pays_0 rfl (lv_at hl 2 rfl) ?_
  refine lv_aload_n hx hb dX8_pays_1 rfl (lv_at hl 0 rfl) ?_
  refine fx_ci (va_runV (As := []) (rest := [.int (nI S)]) X (xX8_base l E th _) (cwV 0 X.2.2.2.2 (lw_V q492 q493 q494 q78 q499) rfl rfl rfl ⟨rfl, hdX8_base⟩ ⟨Nat.le_of_ble_eq_true rfl, Nat.le_of_ble_eq_true rfl⟩) (fx_preV (fx_pre hE hP hD hS hR [] rfl rfl fx_rc0) (va_recv hE.1 (hR.at hS) (ci := 8) (q0 := 0) rfl rfl)) rfl rfl hl.1 rfl (lv_room (Nat.le_of_ble_eq_true rfl)) dX8_pays_2 ⟨Nat.le_refl _, Nat.le_refl _⟩) hP hD hS hA [] rfl rfl (fun r_2 u H locs hq_2 hP hD hS => ?_)
  replace hP : va_P E.1 clA [] _ := hP
  replace hD : va_D A [] := hD
  replace hq_2 : r_2 = 10 := hq_2
  refine fx_ti (show r_2 = 10 from hq_2) ?_
  refine fx_ci (va_runSN (As := [.int (nI S), .int 10]) (rest := []) X (xX0_rootOf l E S 10 (by omega) (by decide) (by decide) _) ⟨va_cnB 2 X.2.2.2.2 (lw_meth q502) rfl rfl rfl (hE.2.1 _ (List.mem_of_getElem? (i := 29) rfl)) (X.2.2.2.2 _ q69) hdX0_rootOf ⟨Nat.le_of_ble_eq_true rfl, Nat.le_of_ble_eq_true rfl⟩, X.2.2.2.2 _ q501, trivial⟩ (fx_pre hE hP hD hS hR [] rfl rfl fx_rc0) rfl rfl hl.1 rfl (lv_room (Nat.le_of_ble_eq_true rfl)) dX8_pays_5 ⟨Nat.le_refl _, Nat.le_refl _⟩) hP hD hS hA [] rfl rfl (fun r_5 u H locs hq_5 hP hD hS => ?_)
  replace hP : va_P E.1 clA [] _ := hP
  replace hD : va_D A [] := hD
  replace hq_5 : r_5 = nI (rt 10 S) := hq_5
  exact hret r_5 () (hq_5) (rfl) hP hD hS (Nat.le_refl _) (Nat.le_refl _) dX8_pays_8
abbrev rxX8_paysO : Room := { frames := 2, cells := 0, slots := 0, locals := 45 }
set_option maxHeartbeats 400000 in
set_option maxRecDepth 100000 in
theorem xX8_paysO (l : Launch) (E : fx_En) (th : Nat) (es : Nat) (S : Nat) (qq : Int32) (nb : Int32) (mm : Nat) (hS : S + 20 < 2147483648) (hm : mm ≤ 9) : fx_Mi l yX8_pays cX8_pays 4 .int rxX8_paysO E [.ref th, .ref es, .int (nI S), .int qq] [] [(th, .inr (10, [.int nb, .int (nI mm)]))] (S := Unit) (fun (u : Unit) => []) (fun (r : Int32) (u : Unit) => r = nI (rt (mm + 2) S)) := by
  refine fx_iW rfl rfl ?_
  intro p e s m args below meth c A ls Q X hE hP hD hR hA hl hret
  have hx := X.1
  have hb := X.2.1
  have hS : va_S A s.heap s.heap [] := va_S.rf
  replace hl : lv_has ls 4 [(0, .ref th), (1, .ref es), (2, .int (nI S)), (3, .int qq)] := hl
  refine lv_iload_n hx hb dX8_pays_0 rfl (lv_at hl 2 rfl) ?_
  refine lv_aload_n hx hb dX8_pays_1 rfl (lv_at hl 0 rfl) ?_
  refine fx_ci (va_runU (As := []) (rest := [.int (nI S)]) X (xX10_base l E th nb mm _) (va_cwO 0 X.2.2.2.2 (lw_O q492 q495 q493 q496 q497 q80 q498) rfl rfl rfl q499 ⟨by decide +kernel, by decide +kernel, hdX10_base.2.2⟩ ⟨Nat.le_of_ble_eq_true rfl, Nat.le_of_ble_eq_true rfl⟩) (fx_preV (fx_pre hE hP hD hS hR [] rfl rfl (fx_rcr 0 rfl fx_rc0)) (va_recv hE.1 (hR.at hS) (ci := 10) (q0 := 0) rfl rfl)) rfl rfl hl.1 rfl (lv_room (Nat.le_of_ble_eq_true rfl)) dX8_pays_2 ⟨Nat.le_refl _, Nat.le_refl _⟩) hP hD hS hA [] rfl rfl (fun r_2 u H locs hq_2 hP hD hS => ?_)
  replace hP : va_P E.1 clA [] _ := hP
  replace hD : va_D A [] := hD
  replace hq_2 : r_2 = nI (mm + 2) := hq_2
  refine fx_ti (show r_2 = nI (mm + 2) from hq_2) ?_
  refine fx_ci (va_runSN (As := [.int (nI S), .int (nI (mm + 2))]) (rest := []) X (xX0_rootOf l E S (mm + 2) (by omega) (by omega) (by omega) _) ⟨va_cnB 2 X.2.2.2.2 (lw_meth q502) rfl rfl rfl (hE.2.1 _ (List.mem_of_getElem? (i := 29) rfl)) (X.2.2.2.2 _ q69) hdX0_rootOf ⟨Nat.le_of_ble_eq_true rfl, Nat.le_of_ble_eq_true rfl⟩, X.2.2.2.2 _ q501, trivial⟩ (fx_pre hE hP hD hS hR [] rfl rfl fx_rc0) rfl rfl hl.1 rfl (lv_room (Nat.le_of_ble_eq_true rfl)) dX8_pays_5 ⟨Nat.le_refl _, Nat.le_refl _⟩) hP hD hS hA [] rfl rfl (fun r_5 u H locs hq_5 hP hD hS => ?_)
  replace hP : va_P E.1 clA [] _ := hP
  replace hD : va_D A [] := hD
  replace hq_5 : r_5 = nI (rt (mm + 2) S) := hq_5
  exact hret r_5 () (hq_5) (rfl) hP hD hS (Nat.le_refl _) (Nat.le_refl _) dX8_pays_8
abbrev rxX9_pays : Room := { frames := 2, cells := 0, slots := 0, locals := 46 }
set_option maxHeartbeats 400000 in
set_option maxRecDepth 100000 in
theorem xX9_pays (l : Launch) (E : fx_En) (th : Nat) (es : Nat) (S : Nat) (qq : Int32) (nb : Int32) (mm : Nat) (hS : S + 30 < 2147483648) (hm : mm ≤ 9) : fx_Mi l yX9_pays cX9_pays 4 .int rxX9_pays E [.ref th, .ref es, .int (nI S), .int qq] [] [(th, .inr (9, [.int nb, .int (nI mm)]))] (S := Unit) (fun (u : Unit) => []) (fun (r : Int32) (u : Unit) => r = nI (dg 10 (S + mm))) := by
  refine fx_iW rfl rfl ?_
  intro p e s m args below meth c A ls Q X hE hP hD hR hA hl hret
  have hx := X.1
  have hb := X.2.1
  have hS : va_S A s.heap s.heap [] := va_S.rf
  replace hl : lv_has ls 4 [(0, .ref th), (1, .ref es), (2, .int (nI S)), (3, .int qq)] := hl
  refine lv_aload_n hx hb dX9_pays_0 rfl (lv_at hl 0 rfl) ?_
  refine lv_aload_n hx hb dX9_pays_1 rfl (lv_at hl 1 rfl) ?_
  refine lv_iload_n hx hb dX9_pays_2 rfl (lv_at hl 2 rfl) ?_
  refine lv_aload_n hx hb dX9_pays_3 rfl (lv_at hl 0 rfl) ?_
  refine fx_getS X hE (hR.at hS) 0 rfl rfl 1 rfl q142 q143 rfl dX9_pays_4 ?_
  refine lv_iadd hx hb dX9_pays_7 ?_
  refine fx_ti (nI_add S mm) ?_
  refine lv_iload_n hx hb dX9_pays_8 rfl (lv_at hl 3 rfl) ?_
  refine fx_ci (va_runSU (As := [.ref es, .int (nI (S + mm)), .int qq]) (rest := []) (hE.1.1 9 _ rfl).2 X (xX3_pays l E th es (S + mm) qq (by first | assumption | omega) _) (va_cwSU 3 X.2.2.2.2 (lw_SU q468 q1590 q351 q469 q72 q470) rfl rfl rfl ⟨by decide, hdX3_pays.2.2⟩ ⟨Nat.le_of_ble_eq_true rfl, Nat.le_of_ble_eq_true rfl⟩) (fx_preV (fx_pre hE hP hD hS hR [] rfl rfl fx_rc0) (va_recv hE.1 (hR.at hS) (ci := 9) (q0 := 0) rfl rfl)) rfl rfl hl.1 rfl (lv_room (Nat.le_of_ble_eq_true rfl)) dX9_pays_9 ⟨Nat.le_refl _, Nat.le_refl _⟩) hP hD hS hA [] rfl rfl (fun r_9 u H locs hq_9 hP hD hS => ?_)
  replace hP : va_P E.1 clA [] _ := hP
  replace hD : va_D A [] := hD
  replace hq_9 : r_9 = nI (dg 10 (S + mm)) := hq_9
  exact hret r_9 () (hq_9) (rfl) hP hD hS (Nat.le_refl _) (Nat.le_refl _) dX9_pays_12
abbrev rxX11_pays : Room := { frames := 1, cells := 0, slots := 0, locals := 40 }
set_option maxHeartbeats 400000 in
set_option maxRecDepth 100000 in
theorem xX11_pays (l : Launch) (E : fx_En) (th : Nat) (es : Nat) (S : Nat) (qq : Int32) (nb : Int32) (mm : Nat) (hS : S + 20 < 2147483648) (hm : mm ≤ 9) : fx_Mi l yX11_pays cX11_pays 4 .int rxX11_pays E [.ref th, .ref es, .int (nI S), .int qq] [] [(th, .inr (11, [.int nb, .int (nI mm)]))] (S := Unit) (fun (u : Unit) => []) (fun (r : Int32) (u : Unit) => r = (if S % 10 < mm then nI mm else nI (S % 10))) := by
  refine fx_iW rfl rfl ?_
  intro p e s m args below meth c A ls Q X hE hP hD hR hA hl hret
  have hx := X.1
  have hb := X.2.1
  have hS : va_S A s.heap s.heap [] := va_S.rf
  replace hl : lv_has ls 4 [(0, .ref th), (1, .ref es), (2, .int (nI S)), (3, .int qq)] := hl
  refine lv_aload_n hx hb dX11_pays_0 rfl (lv_at hl 0 rfl) ?_
  refine fx_getS X hE (hR.at hS) 0 rfl rfl 1 rfl q138 q139 rfl dX11_pays_1 ?_
  refine lv_aload_n hx hb dX11_pays_4 rfl (lv_at hl 0 rfl) ?_
  refine lv_aload_n hx hb dX11_pays_5 rfl (lv_at hl 1 rfl) ?_
  refine lv_iload_n hx hb dX11_pays_6 rfl (lv_at hl 2 rfl) ?_
  refine lv_iload_n hx hb dX11_pays_7 rfl (lv_at hl 3 rfl) ?_
  refine fx_ci (va_runSU (As := [.ref es, .int (nI S), .int qq]) (rest := [.int (nI mm)]) (hE.1.1 11 _ rfl).2 X (xX7_pays l E th es S qq (by first | assumption | omega) _) (va_cwSU 3 X.2.2.2.2 (lw_SU q478 q1591 q357 q479 q77 q480) rfl rfl rfl ⟨by decide, hdX7_pays.2.2⟩ ⟨Nat.le_of_ble_eq_true rfl, Nat.le_of_ble_eq_true rfl⟩) (fx_preV (fx_pre hE hP hD hS hR [] rfl rfl fx_rc0) (va_recv hE.1 (hR.at hS) (ci := 11) (q0 := 0) rfl rfl)) rfl rfl hl.1 rfl (lv_room (Nat.le_of_ble_eq_true rfl)) dX11_pays_8 ⟨Nat.le_refl _, Nat.le_refl _⟩) hP hD hS hA [] rfl rfl (fun r_8 u H locs hq_8 hP hD hS => ?_)
  replace hP : va_P E.1 clA [] _ := hP
  replace hD : va_D A [] := hD
  replace hq_8 : r_8 = nI (S % 10) := hq_8
  refine fx_ti (show r_8 = nI (S % 10) from hq_8) ?_
  refine fx_max X hl.1 q481 ⟨Nat.le_of_ble_eq_true rfl, Nat.le_of_ble_eq_true rfl⟩ (Nat.le_refl _) (Nat.le_refl _) dX11_pays_11 ?_
  exact hret (mx_i (nI mm) (nI (S % 10))) () (mx_fl (by omega) (by omega)) (rfl) hP hD hS (Nat.le_refl _) (Nat.le_refl _) dX11_pays_14
abbrev rxX12_pays : Room := { frames := 3, cells := 0, slots := 0, locals := 70 }
set_option maxHeartbeats 400000 in
set_option maxRecDepth 100000 in
theorem xX12_pays (l : Launch) (E : fx_En) (ax : Nat → Nat) (im : Int32) (bn : Int32) (bm : Int32) (fm : Int32) (ff : Int32) (fl : Int32) (tk : Int32) (cs : Int32) (gs : Int32) (zz : Int32) (tp : Int32) (wg : Int32) (nmd : Nat → Int32) (pl : Nat → Int32) (tx : Nat → Option Nat) (T : Tx) (PL : va_W) (th : Nat) (S : Nat) (qq : Int32) (nb : Int32) (mm : Int32) (hT : TXs E PL (tx 0) T) (hTo : TOk T) (hS : S + 20 < 2147483648) : fx_Mi l yX12_pays cX12_pays 4 .int rxX12_pays E [.ref th, .ref (ax 7), .int (nI S), .int qq] [(ax 1, .inl (E.2 0, 3, .inl nmd)), (ax 0, .inl (E.2 0, 60, .inl pl))] ([(th, .inr (12, [.int nb, .int mm])), (ax 7, .inr (5, [.ref (ax 19)])), (ax 19, .inr (0, [.ref (ax 0), .ref (ax 1), .ref (ax 35), .ref (ax 55), .ref (ax 4), .ref (ax 5), .ref (ax 6), .ref (ax 7), .int im, .ref (ax 9), .ref (ax 10), .ref (ax 11), .ref (ax 12), .ref (ax 13), .int bn, .int bm, .int fm, .int ff, .int fl])), (ax 35, .inr (1, [.ref (ax 20), .ref (ax 21), .ref (ax 22), .int tk, .int cs, .int gs, .int zz, .int tp, .int wg, .ref (ax 29), .ref (ax 30), .ref (ax 31), .ref (ax 32)])), (ax 30, .inl (E.2 4, 2, .inr (.inr (.inr (.inr tx)))))] ++ PL) (S := (Nat → Int32) × (Nat → Int32)) (fun (u : (Nat → Int32) × (Nat → Int32)) => [(ax 1, .inl (E.2 0, 3, .inl u.1)), (ax 0, .inl (E.2 0, 60, .inl u.2))]) (fun (r : Int32) (u : (Nat → Int32) × (Nat → Int32)) => r = (if T.1 = 0 then nI (dg 10 S) else val T (nm3 (nI S) qq mm))) := by
  refine fx_iW rfl rfl ?_
  intro p e s m args below meth c A ls Q X hE hP hD hR hA hl hret
  have hx := X.1
  have hb := X.2.1
  have hS : va_S A s.heap s.heap [] := va_S.rf
  replace hP : va_P E.1 clA [(ax 1, .inl (E.2 0, 3, .inl nmd)), (ax 0, .inl (E.2 0, 60, .inl pl))] _ := hP
  replace hD : va_D A [(ax 1, .inl (E.2 0, 3, .inl nmd)), (ax 0, .inl (E.2 0, 60, .inl pl))] := hD
  replace hl : lv_has ls 4 [(0, .ref th), (1, .ref (ax 7)), (2, .int (nI S)), (3, .int qq)] := hl
  refine lv_aload_n hx hb dX12_pays_0 rfl (lv_at hl 1 rfl) ?_
  refine lv_iload_n hx hb dX12_pays_1 rfl (lv_at hl 2 rfl) ?_
  refine lv_iload_n hx hb dX12_pays_2 rfl (lv_at hl 3 rfl) ?_
  refine lv_aload_n hx hb dX12_pays_3 rfl (lv_at hl 0 rfl) ?_
  refine fx_getS X hE (hR.at hS) 0 rfl rfl 1 rfl q144 q145 rfl dX12_pays_4 ?_
  refine lv_aload_n hx hb dX12_pays_7 rfl (lv_at hl 0 rfl) ?_
  refine lv_aload_n hx hb dX12_pays_8 rfl (lv_at hl 1 rfl) ?_
  refine lv_iload_n hx hb dX12_pays_9 rfl (lv_at hl 2 rfl) ?_
  refine lv_iload_n hx hb dX12_pays_10 rfl (lv_at hl 3 rfl) ?_
  refine fx_ci (va_runSU (As := [.ref (ax 7), .int (nI S), .int qq]) (rest := [.int mm, .int qq, .int (nI S), .ref (ax 7)]) (hE.1.1 12 _ rfl).2 X (xX3_pays l E th (ax 7) S qq (by first | assumption | omega) _) (va_cwSU 3 X.2.2.2.2 (lw_SU q516 q1590 q377 q469 q72 q470) rfl rfl rfl ⟨by decide, hdX3_pays.2.2⟩ ⟨Nat.le_of_ble_eq_true rfl, Nat.le_of_ble_eq_true rfl⟩) (fx_preV (fx_pre hE hP hD hS hR [] rfl rfl fx_rc0) (va_recv hE.1 (hR.at hS) (ci := 12) (q0 := 0) rfl rfl)) rfl rfl hl.1 rfl (lv_room (Nat.le_of_ble_eq_true rfl)) dX12_pays_11 ⟨Nat.le_refl _, Nat.le_refl _⟩) hP hD hS hA [] rfl rfl (fun r_11 u H locs hq_11 hP hD hS => ?_)
  replace hP : va_P E.1 clA [(ax 1, .inl (E.2 0, 3, .inl nmd)), (ax 0, .inl (E.2 0, 60, .inl pl))] _ := hP
  replace hD : va_D A [(ax 1, .inl (E.2 0, 3, .inl nmd)), (ax 0, .inl (E.2 0, 60, .inl pl))] := hD
  replace hq_11 : r_11 = nI (dg 10 S) := hq_11
  refine fx_ti (show r_11 = nI (dg 10 S) from hq_11) ?_
  refine fx_ci5 (va_runF (As := [.int (nI S), .int qq, .int mm, .int (nI (dg 10 S))]) (rest := []) (hE.1.1 5 _ rfl).2 X (xX5_told l E ax im bn bm fm ff fl tk cs gs zz tp wg nmd pl tx T PL (nI S) qq mm (nI (dg 10 S)) (by first | assumption | omega) (by first | assumption | omega) _) (va_cwF 4 X.2.2.2.2 (lw_F q518 q522 q524 q74 q526) rfl rfl rfl (hE.2.2.2.1 _ (List.mem_of_getElem? (i := 7) rfl)) ⟨(ifA_ok _ (List.mem_of_getElem? (i := 7) rfl)).1, (ifA_ok _ (List.mem_of_getElem? (i := 7) rfl)).2, hdX5_told.2.2⟩ ⟨Nat.le_of_ble_eq_true rfl, Nat.le_of_ble_eq_true rfl⟩) (fx_preV (fx_pre hE hP hD hS hR [0, 1] rfl rfl (fx_rcr 1 rfl (fx_rcr 2 rfl (fx_rcr 3 rfl (fx_rcr 4 rfl (fx_rct (fun q hq => List.mem_append_right _ hq))))))) (va_recv hE.1 (hR.at hS) (ci := 5) (q0 := 1) rfl rfl)) rfl rfl hl.1 rfl (lv_room (Nat.le_of_ble_eq_true rfl)) dX12_pays_14 ⟨Nat.le_refl _, Nat.le_refl _⟩) hP hD hS hA [0, 1] rfl rfl (fun r_14 u H locs hq_14 hP hD hS => ?_)
  obtain ⟨nm2_14, pl2_14⟩ := u
  replace hP : va_P E.1 clA [(ax 1, .inl (E.2 0, 3, .inl nm2_14)), (ax 0, .inl (E.2 0, 60, .inl pl2_14))] _ := hP
  replace hD : va_D A [(ax 1, .inl (E.2 0, 3, .inl nm2_14)), (ax 0, .inl (E.2 0, 60, .inl pl2_14))] := hD
  replace hq_14 : r_14 = (if T.1 = 0 then (nI (dg 10 S)) else val T (nm3 (nI S) qq mm)) := hq_14
  exact hret r_14 (nm2_14, pl2_14) (hq_14) (rfl) hP hD hS (Nat.le_refl _) (Nat.le_refl _) dX12_pays_19
abbrev rxX1_at : Room := { frames := 0, cells := 0, slots := 0, locals := 0 }
set_option maxHeartbeats 400000 in
set_option maxRecDepth 100000 in
theorem xX1_at (l : Launch) (E : fx_En) (ax : Nat → Nat) (tk : Int32) (cs : Int32) (gs : Int32) (zz : Int32) (tp : Int32) (wg : Int32) (sa : Nat → Int32) (tl : Nat → Nat) (k : Nat) (PL : va_W) (hk : k < 4) (hI : Inv sa) (hTL : TLS PL sa tl) : fx_Mq l yX1_at cX1_at 2 (.object "FigureTill$Till") rxX1_at E [.ref (ax 35), .int (nI k)] [] ([(ax 35, .inr (1, [.ref (ax 20), .ref (ax 21), .ref (ax 22), .int tk, .int cs, .int gs, .int zz, .int tp, .int wg, .ref (ax 29), .ref (ax 30), .ref (ax 31), .ref (ax 32)])), (ax 29, .inl (E.2 3, 4, .inr (.inr (.inr (.inr (fun i_ => some (ax (36 + i_)))))))), (ax 36, .inr (2, [.ref (tl 0)])), (ax 37, .inr (2, [.ref (tl 1)])), (ax 38, .inr (2, [.ref (tl 2)])), (ax 39, .inr (2, [.ref (tl 3)]))] ++ PL) (S := Unit) (fun (u : Unit) => []) (fun (r : Option Nat) (u : Unit) => r = some (tl k)) := by
  refine fx_qW rfl rfl (by first | exact Or.inl ⟨_, rfl⟩ | exact Or.inr ⟨_, rfl⟩) ?_
  intro p e s m args below meth c A ls Q X hE hP hD hR hA hl hret
  have hx := X.1
  have hb := X.2.1
  have hS : va_S A s.heap s.heap [] := va_S.rf
  replace hl : lv_has ls 2 [(0, .ref (ax 35)), (1, .int (nI k))] := hl
  have hsl : ((ax (36 + k), .inr (2, [.ref (tl k)])) : Nat × va_E) ∈ ([(ax 35, .inr (1, [.ref (ax 20), .ref (ax 21), .ref (ax 22), .int tk, .int cs, .int gs, .int zz, .int tp, .int wg, .ref (ax 29), .ref (ax 30), .ref (ax 31), .ref (ax 32)])), (ax 29, .inl (E.2 3, 4, .inr (.inr (.inr (.inr (fun i_ => some (ax (36 + i_)))))))), (ax 36, .inr (2, [.ref (tl 0)])), (ax 37, .inr (2, [.ref (tl 1)])), (ax 38, .inr (2, [.ref (tl 2)])), (ax 39, .inr (2, [.ref (tl 3)]))] ++ PL) := by rcases (show k = 0 ∨ k = 1 ∨ k = 2 ∨ k = 3 by omega) with h | h | h | h <;> rw [h] <;> first | exact List.mem_of_getElem? (i := 2) rfl | exact List.mem_of_getElem? (i := 3) rfl | exact List.mem_of_getElem? (i := 4) rfl | exact List.mem_of_getElem? (i := 5) rfl
  refine lv_aload_n hx hb dX1_at_0 rfl (lv_at hl 0 rfl) ?_
  refine fx_get X hE (hR.at hS) 0 rfl rfl 9 rfl q170 rfl rfl dX1_at_1 ?_
  refine lv_iload_n hx hb dX1_at_4 rfl (lv_at hl 1 rfl) ?_
  refine fx_aald X hE (hR.at hS) 1 3 rfl rfl k rfl (by omega) rfl (r := some (ax (36 + k))) (rfl) dX1_at_5 ?_
  refine fx_getN X hE (fx_one (hR.at hS) hsl) 0 rfl rfl 0 rfl 1 rfl rfl rfl dX1_at_6 ?_
  rcases kd7 (hI.kd (k := k) hk).2 with hw | hw | hw | hw | hw | hw | hw
  ·
    have hc : ((tl k, .inr (3, [.int (nI k), .int (sa (32 + 2 * k + 1))])) : Nat × va_E) ∈ PL := by have hz := hTL k hk; rw [hw] at hz; exact hz
    refine fx_castS X hE (fx_one (hR.at hS) (List.mem_append_right _ hc)) 0 rfl rfl q128 dX1_at_9 ?_
    exact hret (some (tl k)) () (rfl) hP hD hS (Nat.le_refl _) (Nat.le_refl _) dX1_at_12
  ·
    have hc : ((tl k, .inr (7, [.int (nI k), .int (sa (32 + 2 * k + 1))])) : Nat × va_E) ∈ PL := by have hz := hTL k hk; rw [hw] at hz; exact hz
    refine fx_castY X hE (fx_one (hR.at hS) (List.mem_append_right _ hc)) 0 rfl rfl q128 54 rfl dX1_at_9 ?_
    exact hret (some (tl k)) () (rfl) hP hD hS (Nat.le_refl _) (Nat.le_refl _) dX1_at_12
  ·
    have hc : ((tl k, .inr (8, [.int (nI k), .int (sa (32 + 2 * k + 1))])) : Nat × va_E) ∈ PL := by have hz := hTL k hk; rw [hw] at hz; exact hz
    refine fx_castY X hE (fx_one (hR.at hS) (List.mem_append_right _ hc)) 0 rfl rfl q128 56 rfl dX1_at_9 ?_
    exact hret (some (tl k)) () (rfl) hP hD hS (Nat.le_refl _) (Nat.le_refl _) dX1_at_12
  ·
    have hc : ((tl k, .inr (9, [.int (nI k), .int (sa (32 + 2 * k + 1))])) : Nat × va_E) ∈ PL := by have hz := hTL k hk; rw [hw] at hz; exact hz
    refine fx_castY X hE (fx_one (hR.at hS) (List.mem_append_right _ hc)) 0 rfl rfl q128 52 rfl dX1_at_9 ?_
    exact hret (some (tl k)) () (rfl) hP hD hS (Nat.le_refl _) (Nat.le_refl _) dX1_at_12
  ·
    have hc : ((tl k, .inr (10, [.int (nI k), .int (sa (32 + 2 * k + 1))])) : Nat × va_E) ∈ PL := by have hz := hTL k hk; rw [hw] at hz; exact hz
    refine fx_castY X hE (fx_one (hR.at hS) (List.mem_append_right _ hc)) 0 rfl rfl q128 55 rfl dX1_at_9 ?_
    exact hret (some (tl k)) () (rfl) hP hD hS (Nat.le_refl _) (Nat.le_refl _) dX1_at_12
  ·
    have hc : ((tl k, .inr (11, [.int (nI k), .int (sa (32 + 2 * k + 1))])) : Nat × va_E) ∈ PL := by have hz := hTL k hk; rw [hw] at hz; exact hz
    refine fx_castY X hE (fx_one (hR.at hS) (List.mem_append_right _ hc)) 0 rfl rfl q128 53 rfl dX1_at_9 ?_
    exact hret (some (tl k)) () (rfl) hP hD hS (Nat.le_refl _) (Nat.le_refl _) dX1_at_12
  ·
    have hc : ((tl k, .inr (12, [.int (nI k), .int (sa (32 + 2 * k + 1))])) : Nat × va_E) ∈ PL := by have hz := hTL k hk; rw [hw] at hz; exact hz
    refine fx_castY X hE (fx_one (hR.at hS) (List.mem_append_right _ hc)) 0 rfl rfl q128 57 rfl dX1_at_9 ?_
    exact hret (some (tl k)) () (rfl) hP hD hS (Nat.le_refl _) (Nat.le_refl _) dX1_at_12
abbrev rxX0_asked : Room := { frames := 4, cells := 0, slots := 0, locals := 93 }
set_option maxHeartbeats 2000000 in
set_option maxRecDepth 100000 in
theorem xX0_asked (l : Launch) (E : fx_En) (ax : Nat → Nat) (im : Int32) (bn : Int32) (bm : Int32) (fm : Int32) (ff : Int32) (fl : Int32) (tk : Int32) (cs : Int32) (gs : Int32) (zz : Int32) (tp : Int32) (wg : Int32) (nmd : Nat → Int32) (pl : Nat → Int32) (sa : Nat → Int32) (tl : Nat → Nat) (tx : Nat → Option Nat) (T : Tx) (PL : va_W) (k : Nat) (S : Nat) (q : Nat) (hk : k < 4) (hI : Inv sa) (hTL : TLS PL sa tl) (hT : TXs E PL (tx 0) T) (hTo : TOk T) (hS : S + 30 < 2147483648) (hq : q < 2147483648) : fx_Mi l yX0_asked cX0_asked 5 .int rxX0_asked E [.ref (ax 19), .int (nI k), .int (nI S), .int (nI q)] [(ax 1, .inl (E.2 0, 3, .inl nmd)), (ax 0, .inl (E.2 0, 60, .inl pl))] ([(ax 19, .inr (0, [.ref (ax 0), .ref (ax 1), .ref (ax 35), .ref (ax 55), .ref (ax 4), .ref (ax 5), .ref (ax 6), .ref (ax 7), .int im, .ref (ax 9), .ref (ax 10), .ref (ax 11), .ref (ax 12), .ref (ax 13), .int bn, .int bm, .int fm, .int ff, .int fl])), (ax 35, .inr (1, [.ref (ax 20), .ref (ax 21), .ref (ax 22), .int tk, .int cs, .int gs, .int zz, .int tp, .int wg, .ref (ax 29), .ref (ax 30), .ref (ax 31), .ref (ax 32)])), (ax 29, .inl (E.2 3, 4, .inr (.inr (.inr (.inr (fun i_ => some (ax (36 + i_)))))))), (ax 36, .inr (2, [.ref (tl 0)])), (ax 37, .inr (2, [.ref (tl 1)])), (ax 38, .inr (2, [.ref (tl 2)])), (ax 39, .inr (2, [.ref (tl 3)])), (ax 7, .inr (5, [.ref (ax 19)])), (ax 30, .inl (E.2 4, 2, .inr (.inr (.inr (.inr tx)))))] ++ PL) (S := (Nat → Int32) × (Nat → Int32)) (fun (u : (Nat → Int32) × (Nat → Int32)) => [(ax 1, .inl (E.2 0, 3, .inl u.1)), (ax 0, .inl (E.2 0, 60, .inl u.2))]) (fun (r : Int32) (u : (Nat → Int32) × (Nat → Int32)) => r = askT sa T k S q) := by
  refine fx_iW rfl rfl ?_
  intro p e s m args below meth c A ls Q X hE hP hD hR hA hl hret
  have hx := X.1
  have hb := X.2.1
  have hS : va_S A s.heap s.heap [] := va_S.rf
  replace hP : va_P E.1 clA [(ax 1, .inl (E.2 0, 3, .inl nmd)), (ax 0, .inl (E.2 0, 60, .inl pl))] _ := hP
  replace hD : va_D A [(ax 1, .inl (E.2 0, 3, .inl nmd)), (ax 0, .inl (E.2 0, 60, .inl pl))] := hD
  replace hl : lv_has ls 5 [(0, .ref (ax 19)), (1, .int (nI k)), (2, .int (nI S)), (3, .int (nI q))] := hl
  refine lv_iload_n hx hb dX0_asked_0 rfl (lv_at hl 3 rfl) ?_
  refine lv_if_ne (tgt := 6) hx hb dX0_asked_1 (by decide) (fun c_1 => ?_) (fun c_1 => ?_)
  · -- jump 6
    have n_1 := fx_eq0 (a := q) (b := 0) c_1 (by omega) (by omega)
    refine lv_aload_n hx hb dX0_asked_6 rfl (lv_at hl 0 rfl) ?_
    refine fx_get X hE (hR.at hS) 0 rfl rfl 2 rfl q237 rfl rfl dX0_asked_7 ?_
    refine lv_iload_n hx hb dX0_asked_10 rfl (lv_at hl 1 rfl) ?_
    refine fx_cq (va_runV (As := [.int (nI k)]) (rest := []) X (xX1_at l E ax tk cs gs zz tp wg sa tl k PL (by first | assumption | omega) (by first | assumption | omega) (by first | assumption | omega) _) (cwV 1 X.2.2.2.2 (lw_V q339 q340 q341 q70 q342) rfl rfl rfl ⟨rfl, hdX1_at⟩ ⟨Nat.le_of_ble_eq_true rfl, Nat.le_of_ble_eq_true rfl⟩) (fx_preV (fx_pre hE hP hD hS hR [] rfl rfl (fx_rcr 1 rfl (fx_rcr 2 rfl (fx_rcr 3 rfl (fx_rcr 4 rfl (fx_rcr 5 rfl (fx_rcr 6 rfl (fx_rct (fun q hq => List.mem_append_right _ hq))))))))) (va_recv hE.1 (hR.at hS) (ci := 1) (q0 := 1) rfl rfl)) rfl rfl hl.1 rfl (lv_room (Nat.le_of_ble_eq_true rfl)) dX0_asked_11 ⟨Nat.le_refl _, Nat.le_refl _⟩) hP hD hS hA [] rfl rfl (fun r_11 u H locs hq_11 hP hD hS => ?_)
    replace hP : va_P E.1 clA [(ax 1, .inl (E.2 0, 3, .inl nmd)), (ax 0, .inl (E.2 0, 60, .inl pl))] _ := hP
    replace hD : va_D A [(ax 1, .inl (E.2 0, 3, .inl nmd)), (ax 0, .inl (E.2 0, 60, .inl pl))] := hD
    replace hq_11 : r_11 = some (tl k) := hq_11
    obtain rfl : r_11 = some (tl k) := by first | exact hq_11 | exact hq_11.1
    refine lv_astore (lv' := [(4, .ref (tl k)), (0, .ref (ax 19)), (1, .int (nI k)), (2, .int (nI S)), (3, .int (nI q))]) hx hb dX0_asked_14 hl (by decide) rfl (fun ls hl => ?_)
    rcases kd7 (hI.kd (k := k) hk).2 with hw | hw | hw | hw | hw | hw | hw
    ·
      have hc : ((tl k, .inr (3, [.int (nI k), .int (nI (nn (sa (32 + 2 * k + 1))))])) : Nat × va_E) ∈ PL := by have hz := hTL k hk; rw [hw] at hz; rw [← (hI.m (k := k) hk).1]; exact hz
      refine lv_aload hx hb dX0_asked_16 (lv_at hl 0 rfl) ?_
      refine lv_aload_n hx hb dX0_asked_18 rfl (lv_at hl 1 rfl) ?_
      refine fx_get X hE (hR.at hS) 0 rfl rfl 7 rfl q242 rfl rfl dX0_asked_19 ?_
      refine lv_iload_n hx hb dX0_asked_22 rfl (lv_at hl 3 rfl) ?_
      refine lv_iload_n hx hb dX0_asked_23 rfl (lv_at hl 4 rfl) ?_
      refine fx_ci5 (va_runF (As := [.ref (ax 7), .int (nI S), .int (nI q)]) (rest := []) (hE.1.1 3 _ rfl).2 X (xX3_pays l E (tl k) (ax 7) S (nI q) (by omega) _) (va_cwF 3 X.2.2.2.2 (lw_F q459 q507 q469 q72 q470) rfl rfl rfl (hE.2.2.2.1 _ (List.mem_of_getElem? (i := 0) rfl)) ⟨(ifA_ok _ (List.mem_of_getElem? (i := 0) rfl)).1, (ifA_ok _ (List.mem_of_getElem? (i := 0) rfl)).2, hdX3_pays.2.2⟩ ⟨Nat.le_of_ble_eq_true rfl, Nat.le_of_ble_eq_true rfl⟩) (fx_preV (fx_pre hE hP hD hS hR [] rfl rfl fx_rc0) (va_recv hE.1 (fx_one (hR.at hS) (List.mem_append_right _ hc)) (ci := 3) (q0 := 0) rfl rfl)) rfl rfl hl.1 rfl (lv_room (Nat.le_of_ble_eq_true rfl)) dX0_asked_24 ⟨Nat.le_refl _, Nat.le_refl _⟩) hP hD hS hA [] rfl rfl (fun r_24 u H locs hq_24 hP hD hS => ?_)
      replace hP : va_P E.1 clA [(ax 1, .inl (E.2 0, 3, .inl nmd)), (ax 0, .inl (E.2 0, 60, .inl pl))] _ := hP
      replace hD : va_D A [(ax 1, .inl (E.2 0, 3, .inl nmd)), (ax 0, .inl (E.2 0, 60, .inl pl))] := hD
      replace hq_24 : r_24 = nI (dg 10 S) := hq_24
      refine lv_iconst (v := 0) hx hb dX0_asked_29 rfl ?_
      refine lv_sipush (v := 9999) hx hb dX0_asked_30 rfl ?_
      refine fx_ci (va_runS (As := [.int r_24, .int 0, .int 9999]) (rest := []) X (xX0_held l E r_24 0 9999 (by decide) _) (va_cwS 3 X.2.2.2.2 (lw_S q323 q324 q69 q325) rfl rfl rfl hdX0_held ⟨Nat.le_of_ble_eq_true rfl, Nat.le_of_ble_eq_true rfl⟩) (fx_pre hE hP hD hS hR [] rfl rfl fx_rc0) rfl rfl hl.1 rfl (lv_room (Nat.le_of_ble_eq_true rfl)) dX0_asked_33 ⟨Nat.le_refl _, Nat.le_refl _⟩) hP hD hS hA [] rfl rfl (fun r_33 u H locs hq_33 hP hD hS => ?_)
      replace hP : va_P E.1 clA [(ax 1, .inl (E.2 0, 3, .inl nmd)), (ax 0, .inl (E.2 0, 60, .inl pl))] _ := hP
      replace hD : va_D A [(ax 1, .inl (E.2 0, 3, .inl nmd)), (ax 0, .inl (E.2 0, 60, .inl pl))] := hD
      replace hq_33 : r_33 = hld r_24 0 9999 := hq_33
      exact hret r_33 (nmd, pl) (by rw [hq_33, hq_24]; simp [askT, askF, payF, hw, n_1]) (rfl) hP hD hS (Nat.le_refl _) (Nat.le_refl _) dX0_asked_36
    ·
      have hc : ((tl k, .inr (7, [.int (nI k), .int (nI (nn (sa (32 + 2 * k + 1))))])) : Nat × va_E) ∈ PL := by have hz := hTL k hk; rw [hw] at hz; rw [← (hI.m (k := k) hk).1]; exact hz
      refine lv_aload hx hb dX0_asked_16 (lv_at hl 0 rfl) ?_
      refine lv_aload_n hx hb dX0_asked_18 rfl (lv_at hl 1 rfl) ?_
      refine fx_get X hE (hR.at hS) 0 rfl rfl 7 rfl q242 rfl rfl dX0_asked_19 ?_
      refine lv_iload_n hx hb dX0_asked_22 rfl (lv_at hl 3 rfl) ?_
      refine lv_iload_n hx hb dX0_asked_23 rfl (lv_at hl 4 rfl) ?_
      refine fx_ci5 (va_runF (As := [.ref (ax 7), .int (nI S), .int (nI q)]) (rest := []) (hE.1.1 7 _ rfl).2 X (xX7_pays l E (tl k) (ax 7) S (nI q) (by omega) _) (va_cwF 3 X.2.2.2.2 (lw_F q459 q483 q479 q77 q480) rfl rfl rfl (hE.2.2.2.1 _ (List.mem_of_getElem? (i := 1) rfl)) ⟨(ifA_ok _ (List.mem_of_getElem? (i := 1) rfl)).1, (ifA_ok _ (List.mem_of_getElem? (i := 1) rfl)).2, hdX7_pays.2.2⟩ ⟨Nat.le_of_ble_eq_true rfl, Nat.le_of_ble_eq_true rfl⟩) (fx_preV (fx_pre hE hP hD hS hR [] rfl rfl fx_rc0) (va_recv hE.1 (fx_one (hR.at hS) (List.mem_append_right _ hc)) (ci := 7) (q0 := 0) rfl rfl)) rfl rfl hl.1 rfl (lv_room (Nat.le_of_ble_eq_true rfl)) dX0_asked_24 ⟨Nat.le_refl _, Nat.le_refl _⟩) hP hD hS hA [] rfl rfl (fun r_24 u H locs hq_24 hP hD hS => ?_)
      replace hP : va_P E.1 clA [(ax 1, .inl (E.2 0, 3, .inl nmd)), (ax 0, .inl (E.2 0, 60, .inl pl))] _ := hP
      replace hD : va_D A [(ax 1, .inl (E.2 0, 3, .inl nmd)), (ax 0, .inl (E.2 0, 60, .inl pl))] := hD
      replace hq_24 : r_24 = nI (S % 10) := hq_24
      refine lv_iconst (v := 0) hx hb dX0_asked_29 rfl ?_
      refine lv_sipush (v := 9999) hx hb dX0_asked_30 rfl ?_
      refine fx_ci (va_runS (As := [.int r_24, .int 0, .int 9999]) (rest := []) X (xX0_held l E r_24 0 9999 (by decide) _) (va_cwS 3 X.2.2.2.2 (lw_S q323 q324 q69 q325) rfl rfl rfl hdX0_held ⟨Nat.le_of_ble_eq_true rfl, Nat.le_of_ble_eq_true rfl⟩) (fx_pre hE hP hD hS hR [] rfl rfl fx_rc0) rfl rfl hl.1 rfl (lv_room (Nat.le_of_ble_eq_true rfl)) dX0_asked_33 ⟨Nat.le_refl _, Nat.le_refl _⟩) hP hD hS hA [] rfl rfl (fun r_33 u H locs hq_33 hP hD hS => ?_)
      replace hP : va_P E.1 clA [(ax 1, .inl (E.2 0, 3, .inl nmd)), (ax 0, .inl (E.2 0, 60, .inl pl))] _ := hP
      replace hD : va_D A [(ax 1, .inl (E.2 0, 3, .inl nmd)), (ax 0, .inl (E.2 0, 60, .inl pl))] := hD
      replace hq_33 : r_33 = hld r_24 0 9999 := hq_33
      exact hret r_33 (nmd, pl) (by rw [hq_33, hq_24]; simp [askT, askF, payF, hw, n_1]) (rfl) hP hD hS (Nat.le_refl _) (Nat.le_refl _) dX0_asked_36
    ·
      have hc : ((tl k, .inr (8, [.int (nI k), .int (nI (nn (sa (32 + 2 * k + 1))))])) : Nat × va_E) ∈ PL := by have hz := hTL k hk; rw [hw] at hz; rw [← (hI.m (k := k) hk).1]; exact hz
      refine lv_aload hx hb dX0_asked_16 (lv_at hl 0 rfl) ?_
      refine lv_aload_n hx hb dX0_asked_18 rfl (lv_at hl 1 rfl) ?_
      refine fx_get X hE (hR.at hS) 0 rfl rfl 7 rfl q242 rfl rfl dX0_asked_19 ?_
      refine lv_iload_n hx hb dX0_asked_22 rfl (lv_at hl 3 rfl) ?_
      refine lv_iload_n hx hb dX0_asked_23 rfl (lv_at hl 4 rfl) ?_
      refine fx_ci5 (va_runF (As := [.ref (ax 7), .int (nI S), .int (nI q)]) (rest := []) (hE.1.1 8 _ rfl).2 X (xX8_paysR l E (tl k) (ax 7) S (nI q) (nI k) (nI (nn (sa (32 + 2 * k + 1)))) (by omega) _) (va_cwF 3 X.2.2.2.2 (lw_F q459 q504 q489 q78 q491) rfl rfl rfl (hE.2.2.2.1 _ (List.mem_of_getElem? (i := 2) rfl)) ⟨(ifA_ok _ (List.mem_of_getElem? (i := 2) rfl)).1, (ifA_ok _ (List.mem_of_getElem? (i := 2) rfl)).2, hdX8_pays.2.2⟩ ⟨Nat.le_of_ble_eq_true rfl, Nat.le_of_ble_eq_true rfl⟩) (fx_preV (fx_pre hE hP hD hS hR [] rfl rfl (fx_rcx ((List.mem_append_right _ hc)) fx_rc0)) (va_recv hE.1 (fx_one (hR.at hS) (List.mem_append_right _ hc)) (ci := 8) (q0 := 0) rfl rfl)) rfl rfl hl.1 rfl (lv_room (Nat.le_of_ble_eq_true rfl)) dX0_asked_24 ⟨Nat.le_refl _, Nat.le_refl _⟩) hP hD hS hA [] rfl rfl (fun r_24 u H locs hq_24 hP hD hS => ?_)
      replace hP : va_P E.1 clA [(ax 1, .inl (E.2 0, 3, .inl nmd)), (ax 0, .inl (E.2 0, 60, .inl pl))] _ := hP
      replace hD : va_D A [(ax 1, .inl (E.2 0, 3, .inl nmd)), (ax 0, .inl (E.2 0, 60, .inl pl))] := hD
      replace hq_24 : r_24 = nI (rt 10 S) := hq_24
      refine lv_iconst (v := 0) hx hb dX0_asked_29 rfl ?_
      refine lv_sipush (v := 9999) hx hb dX0_asked_30 rfl ?_
      refine fx_ci (va_runS (As := [.int r_24, .int 0, .int 9999]) (rest := []) X (xX0_held l E r_24 0 9999 (by decide) _) (va_cwS 3 X.2.2.2.2 (lw_S q323 q324 q69 q325) rfl rfl rfl hdX0_held ⟨Nat.le_of_ble_eq_true rfl, Nat.le_of_ble_eq_true rfl⟩) (fx_pre hE hP hD hS hR [] rfl rfl fx_rc0) rfl rfl hl.1 rfl (lv_room (Nat.le_of_ble_eq_true rfl)) dX0_asked_33 ⟨Nat.le_refl _, Nat.le_refl _⟩) hP hD hS hA [] rfl rfl (fun r_33 u H locs hq_33 hP hD hS => ?_)
      replace hP : va_P E.1 clA [(ax 1, .inl (E.2 0, 3, .inl nmd)), (ax 0, .inl (E.2 0, 60, .inl pl))] _ := hP
      replace hD : va_D A [(ax 1, .inl (E.2 0, 3, .inl nmd)), (ax 0, .inl (E.2 0, 60, .inl pl))] := hD
      replace hq_33 : r_33 = hld r_24 0 9999 := hq_33
      exact hret r_33 (nmd, pl) (by rw [hq_33, hq_24]; simp [askT, askF, payF, hw, n_1]) (rfl) hP hD hS (Nat.le_refl _) (Nat.le_refl _) dX0_asked_36
    ·
      have hc : ((tl k, .inr (9, [.int (nI k), .int (nI (nn (sa (32 + 2 * k + 1))))])) : Nat × va_E) ∈ PL := by have hz := hTL k hk; rw [hw] at hz; rw [← (hI.m (k := k) hk).1]; exact hz
      refine lv_aload hx hb dX0_asked_16 (lv_at hl 0 rfl) ?_
      refine lv_aload_n hx hb dX0_asked_18 rfl (lv_at hl 1 rfl) ?_
      refine fx_get X hE (hR.at hS) 0 rfl rfl 7 rfl q242 rfl rfl dX0_asked_19 ?_
      refine lv_iload_n hx hb dX0_asked_22 rfl (lv_at hl 3 rfl) ?_
      refine lv_iload_n hx hb dX0_asked_23 rfl (lv_at hl 4 rfl) ?_
      refine fx_ci5 (va_runF (As := [.ref (ax 7), .int (nI S), .int (nI q)]) (rest := []) (hE.1.1 9 _ rfl).2 X (xX9_pays l E (tl k) (ax 7) S (nI q) (nI k) (nn (sa (32 + 2 * k + 1))) (by omega) ((hI.m hk).2) _) (va_cwF 3 X.2.2.2.2 (lw_F q459 q463 q465 q79 q467) rfl rfl rfl (hE.2.2.2.1 _ (List.mem_of_getElem? (i := 3) rfl)) ⟨(ifA_ok _ (List.mem_of_getElem? (i := 3) rfl)).1, (ifA_ok _ (List.mem_of_getElem? (i := 3) rfl)).2, hdX9_pays.2.2⟩ ⟨Nat.le_of_ble_eq_true rfl, Nat.le_of_ble_eq_true rfl⟩) (fx_preV (fx_pre hE hP hD hS hR [] rfl rfl (fx_rcx ((List.mem_append_right _ hc)) fx_rc0)) (va_recv hE.1 (fx_one (hR.at hS) (List.mem_append_right _ hc)) (ci := 9) (q0 := 0) rfl rfl)) rfl rfl hl.1 rfl (lv_room (Nat.le_of_ble_eq_true rfl)) dX0_asked_24 ⟨Nat.le_refl _, Nat.le_refl _⟩) hP hD hS hA [] rfl rfl (fun r_24 u H locs hq_24 hP hD hS => ?_)
      replace hP : va_P E.1 clA [(ax 1, .inl (E.2 0, 3, .inl nmd)), (ax 0, .inl (E.2 0, 60, .inl pl))] _ := hP
      replace hD : va_D A [(ax 1, .inl (E.2 0, 3, .inl nmd)), (ax 0, .inl (E.2 0, 60, .inl pl))] := hD
      replace hq_24 : r_24 = nI (dg 10 (S + (nn (sa (32 + 2 * k + 1))))) := hq_24
      refine lv_iconst (v := 0) hx hb dX0_asked_29 rfl ?_
      refine lv_sipush (v := 9999) hx hb dX0_asked_30 rfl ?_
      refine fx_ci (va_runS (As := [.int r_24, .int 0, .int 9999]) (rest := []) X (xX0_held l E r_24 0 9999 (by decide) _) (va_cwS 3 X.2.2.2.2 (lw_S q323 q324 q69 q325) rfl rfl rfl hdX0_held ⟨Nat.le_of_ble_eq_true rfl, Nat.le_of_ble_eq_true rfl⟩) (fx_pre hE hP hD hS hR [] rfl rfl fx_rc0) rfl rfl hl.1 rfl (lv_room (Nat.le_of_ble_eq_true rfl)) dX0_asked_33 ⟨Nat.le_refl _, Nat.le_refl _⟩) hP hD hS hA [] rfl rfl (fun r_33 u H locs hq_33 hP hD hS => ?_)
      replace hP : va_P E.1 clA [(ax 1, .inl (E.2 0, 3, .inl nmd)), (ax 0, .inl (E.2 0, 60, .inl pl))] _ := hP
      replace hD : va_D A [(ax 1, .inl (E.2 0, 3, .inl nmd)), (ax 0, .inl (E.2 0, 60, .inl pl))] := hD
      replace hq_33 : r_33 = hld r_24 0 9999 := hq_33
      exact hret r_33 (nmd, pl) (by rw [hq_33, hq_24]; simp [askT, askF, payF, hw, n_1]) (rfl) hP hD hS (Nat.le_refl _) (Nat.le_refl _) dX0_asked_36
    ·
      have hc : ((tl k, .inr (10, [.int (nI k), .int (nI (nn (sa (32 + 2 * k + 1))))])) : Nat × va_E) ∈ PL := by have hz := hTL k hk; rw [hw] at hz; rw [← (hI.m (k := k) hk).1]; exact hz
      refine lv_aload hx hb dX0_asked_16 (lv_at hl 0 rfl) ?_
      refine lv_aload_n hx hb dX0_asked_18 rfl (lv_at hl 1 rfl) ?_
      refine fx_get X hE (hR.at hS) 0 rfl rfl 7 rfl q242 rfl rfl dX0_asked_19 ?_
      refine lv_iload_n hx hb dX0_asked_22 rfl (lv_at hl 3 rfl) ?_
      refine lv_iload_n hx hb dX0_asked_23 rfl (lv_at hl 4 rfl) ?_
      refine fx_ci5 (va_runF (As := [.ref (ax 7), .int (nI S), .int (nI q)]) (rest := []) (hE.1.1 10 _ rfl).2 X (xX8_paysO l E (tl k) (ax 7) S (nI q) (nI k) (nn (sa (32 + 2 * k + 1))) (by omega) ((hI.m hk).2) _) (va_cwF 3 X.2.2.2.2 (lw_F q459 q487 q489 q78 q491) rfl rfl rfl (hE.2.2.2.1 _ (List.mem_of_getElem? (i := 4) rfl)) ⟨(ifA_ok _ (List.mem_of_getElem? (i := 4) rfl)).1, (ifA_ok _ (List.mem_of_getElem? (i := 4) rfl)).2, hdX8_pays.2.2⟩ ⟨Nat.le_of_ble_eq_true rfl, Nat.le_of_ble_eq_true rfl⟩) (fx_preV (fx_pre hE hP hD hS hR [] rfl rfl (fx_rcx ((List.mem_append_right _ hc)) fx_rc0)) (va_recv hE.1 (fx_one (hR.at hS) (List.mem_append_right _ hc)) (ci := 10) (q0 := 0) rfl rfl)) rfl rfl hl.1 rfl (lv_room (Nat.le_of_ble_eq_true rfl)) dX0_asked_24 ⟨Nat.le_refl _, Nat.le_refl _⟩) hP hD hS hA [] rfl rfl (fun r_24 u H locs hq_24 hP hD hS => ?_)
      replace hP : va_P E.1 clA [(ax 1, .inl (E.2 0, 3, .inl nmd)), (ax 0, .inl (E.2 0, 60, .inl pl))] _ := hP
      replace hD : va_D A [(ax 1, .inl (E.2 0, 3, .inl nmd)), (ax 0, .inl (E.2 0, 60, .inl pl))] := hD
      replace hq_24 : r_24 = nI (rt ((nn (sa (32 + 2 * k + 1))) + 2) S) := hq_24
      refine lv_iconst (v := 0) hx hb dX0_asked_29 rfl ?_
      refine lv_sipush (v := 9999) hx hb dX0_asked_30 rfl ?_
      refine fx_ci (va_runS (As := [.int r_24, .int 0, .int 9999]) (rest := []) X (xX0_held l E r_24 0 9999 (by decide) _) (va_cwS 3 X.2.2.2.2 (lw_S q323 q324 q69 q325) rfl rfl rfl hdX0_held ⟨Nat.le_of_ble_eq_true rfl, Nat.le_of_ble_eq_true rfl⟩) (fx_pre hE hP hD hS hR [] rfl rfl fx_rc0) rfl rfl hl.1 rfl (lv_room (Nat.le_of_ble_eq_true rfl)) dX0_asked_33 ⟨Nat.le_refl _, Nat.le_refl _⟩) hP hD hS hA [] rfl rfl (fun r_33 u H locs hq_33 hP hD hS => ?_)
      replace hP : va_P E.1 clA [(ax 1, .inl (E.2 0, 3, .inl nmd)), (ax 0, .inl (E.2 0, 60, .inl pl))] _ := hP
      replace hD : va_D A [(ax 1, .inl (E.2 0, 3, .inl nmd)), (ax 0, .inl (E.2 0, 60, .inl pl))] := hD
      replace hq_33 : r_33 = hld r_24 0 9999 := hq_33
      exact hret r_33 (nmd, pl) (by rw [hq_33, hq_24]; simp [askT, askF, payF, hw, n_1]) (rfl) hP hD hS (Nat.le_refl _) (Nat.le_refl _) dX0_asked_36
    ·
      have hc : ((tl k, .inr (11, [.int (nI k), .int (nI (nn (sa (32 + 2 * k + 1))))])) : Nat × va_E) ∈ PL := by have hz := hTL k hk; rw [hw] at hz; rw [← (hI.m (k := k) hk).1]; exact hz
      refine lv_aload hx hb dX0_asked_16 (lv_at hl 0 rfl) ?_
      refine lv_aload_n hx hb dX0_asked_18 rfl (lv_at hl 1 rfl) ?_
      refine fx_get X hE (hR.at hS) 0 rfl rfl 7 rfl q242 rfl rfl dX0_asked_19 ?_
      refine lv_iload_n hx hb dX0_asked_22 rfl (lv_at hl 3 rfl) ?_
      refine lv_iload_n hx hb dX0_asked_23 rfl (lv_at hl 4 rfl) ?_
      refine fx_ci5 (va_runF (As := [.ref (ax 7), .int (nI S), .int (nI q)]) (rest := []) (hE.1.1 11 _ rfl).2 X (xX11_pays l E (tl k) (ax 7) S (nI q) (nI k) (nn (sa (32 + 2 * k + 1))) (by omega) ((hI.m hk).2) _) (va_cwF 3 X.2.2.2.2 (lw_F q459 q473 q475 q81 q477) rfl rfl rfl (hE.2.2.2.1 _ (List.mem_of_getElem? (i := 5) rfl)) ⟨(ifA_ok _ (List.mem_of_getElem? (i := 5) rfl)).1, (ifA_ok _ (List.mem_of_getElem? (i := 5) rfl)).2, hdX11_pays.2.2⟩ ⟨Nat.le_of_ble_eq_true rfl, Nat.le_of_ble_eq_true rfl⟩) (fx_preV (fx_pre hE hP hD hS hR [] rfl rfl (fx_rcx ((List.mem_append_right _ hc)) fx_rc0)) (va_recv hE.1 (fx_one (hR.at hS) (List.mem_append_right _ hc)) (ci := 11) (q0 := 0) rfl rfl)) rfl rfl hl.1 rfl (lv_room (Nat.le_of_ble_eq_true rfl)) dX0_asked_24 ⟨Nat.le_refl _, Nat.le_refl _⟩) hP hD hS hA [] rfl rfl (fun r_24 u H locs hq_24 hP hD hS => ?_)
      replace hP : va_P E.1 clA [(ax 1, .inl (E.2 0, 3, .inl nmd)), (ax 0, .inl (E.2 0, 60, .inl pl))] _ := hP
      replace hD : va_D A [(ax 1, .inl (E.2 0, 3, .inl nmd)), (ax 0, .inl (E.2 0, 60, .inl pl))] := hD
      replace hq_24 : r_24 = (if S % 10 < (nn (sa (32 + 2 * k + 1))) then nI (nn (sa (32 + 2 * k + 1))) else nI (S % 10)) := hq_24
      refine lv_iconst (v := 0) hx hb dX0_asked_29 rfl ?_
      refine lv_sipush (v := 9999) hx hb dX0_asked_30 rfl ?_
      refine fx_ci (va_runS (As := [.int r_24, .int 0, .int 9999]) (rest := []) X (xX0_held l E r_24 0 9999 (by decide) _) (va_cwS 3 X.2.2.2.2 (lw_S q323 q324 q69 q325) rfl rfl rfl hdX0_held ⟨Nat.le_of_ble_eq_true rfl, Nat.le_of_ble_eq_true rfl⟩) (fx_pre hE hP hD hS hR [] rfl rfl fx_rc0) rfl rfl hl.1 rfl (lv_room (Nat.le_of_ble_eq_true rfl)) dX0_asked_33 ⟨Nat.le_refl _, Nat.le_refl _⟩) hP hD hS hA [] rfl rfl (fun r_33 u H locs hq_33 hP hD hS => ?_)
      replace hP : va_P E.1 clA [(ax 1, .inl (E.2 0, 3, .inl nmd)), (ax 0, .inl (E.2 0, 60, .inl pl))] _ := hP
      replace hD : va_D A [(ax 1, .inl (E.2 0, 3, .inl nmd)), (ax 0, .inl (E.2 0, 60, .inl pl))] := hD
      replace hq_33 : r_33 = hld r_24 0 9999 := hq_33
      exact hret r_33 (nmd, pl) (by rw [hq_33, hq_24]; simp [askT, askF, payF, hw, n_1]) (rfl) hP hD hS (Nat.le_refl _) (Nat.le_refl _) dX0_asked_36
    ·
      have hc : ((tl k, .inr (12, [.int (nI k), .int (nI (nn (sa (32 + 2 * k + 1))))])) : Nat × va_E) ∈ PL := by have hz := hTL k hk; rw [hw] at hz; rw [← (hI.m (k := k) hk).1]; exact hz
      refine lv_aload hx hb dX0_asked_16 (lv_at hl 0 rfl) ?_
      refine lv_aload_n hx hb dX0_asked_18 rfl (lv_at hl 1 rfl) ?_
      refine fx_get X hE (hR.at hS) 0 rfl rfl 7 rfl q242 rfl rfl dX0_asked_19 ?_
      refine lv_iload_n hx hb dX0_asked_22 rfl (lv_at hl 3 rfl) ?_
      refine lv_iload_n hx hb dX0_asked_23 rfl (lv_at hl 4 rfl) ?_
      refine fx_ci5 (va_runF (As := [.ref (ax 7), .int (nI S), .int (nI q)]) (rest := []) (hE.1.1 12 _ rfl).2 X (xX12_pays l E ax im bn bm fm ff fl tk cs gs zz tp wg nmd pl tx T PL (tl k) S (nI q) (nI k) (nI (nn (sa (32 + 2 * k + 1)))) (by first | assumption | omega) (by first | assumption | omega) (by omega) _) (va_cwF 3 X.2.2.2.2 (lw_F q459 q511 q513 q82 q515) rfl rfl rfl (hE.2.2.2.1 _ (List.mem_of_getElem? (i := 6) rfl)) ⟨(ifA_ok _ (List.mem_of_getElem? (i := 6) rfl)).1, (ifA_ok _ (List.mem_of_getElem? (i := 6) rfl)).2, hdX12_pays.2.2⟩ ⟨Nat.le_of_ble_eq_true rfl, Nat.le_of_ble_eq_true rfl⟩) (fx_preV (fx_pre hE hP hD hS hR [0, 1] rfl rfl (fx_rcx ((List.mem_append_right _ hc)) (fx_rcr 7 rfl (fx_rcr 0 rfl (fx_rcr 1 rfl (fx_rcr 8 rfl (fx_rct (fun q hq => List.mem_append_right _ hq)))))))) (va_recv hE.1 (fx_one (hR.at hS) (List.mem_append_right _ hc)) (ci := 12) (q0 := 0) rfl rfl)) rfl rfl hl.1 rfl (lv_room (Nat.le_of_ble_eq_true rfl)) dX0_asked_24 ⟨Nat.le_refl _, Nat.le_refl _⟩) hP hD hS hA [0, 1] rfl rfl (fun r_24 u H locs hq_24 hP hD hS => ?_)
      obtain ⟨nm2_24, pl2_24⟩ := u
      replace hP : va_P E.1 clA [(ax 1, .inl (E.2 0, 3, .inl nm2_24)), (ax 0, .inl (E.2 0, 60, .inl pl2_24))] _ := hP
      replace hD : va_D A [(ax 1, .inl (E.2 0, 3, .inl nm2_24)), (ax 0, .inl (E.2 0, 60, .inl pl2_24))] := hD
      replace hq_24 : r_24 = (if T.1 = 0 then nI (dg 10 S) else val T (nm3 (nI S) (nI q) (nI (nn (sa (32 + 2 * k + 1)))))) := hq_24
      refine lv_iconst (v := 0) hx hb dX0_asked_29 rfl ?_
      refine lv_sipush (v := 9999) hx hb dX0_asked_30 rfl ?_
      refine fx_ci (va_runS (As := [.int r_24, .int 0, .int 9999]) (rest := []) X (xX0_held l E r_24 0 9999 (by decide) _) (va_cwS 3 X.2.2.2.2 (lw_S q323 q324 q69 q325) rfl rfl rfl hdX0_held ⟨Nat.le_of_ble_eq_true rfl, Nat.le_of_ble_eq_true rfl⟩) (fx_pre hE hP hD hS hR [] rfl rfl fx_rc0) rfl rfl hl.1 rfl (lv_room (Nat.le_of_ble_eq_true rfl)) dX0_asked_33 ⟨Nat.le_refl _, Nat.le_refl _⟩) hP hD hS hA [] rfl rfl (fun r_33 u H locs hq_33 hP hD hS => ?_)
      replace hP : va_P E.1 clA [(ax 1, .inl (E.2 0, 3, .inl nm2_24)), (ax 0, .inl (E.2 0, 60, .inl pl2_24))] _ := hP
      replace hD : va_D A [(ax 1, .inl (E.2 0, 3, .inl nm2_24)), (ax 0, .inl (E.2 0, 60, .inl pl2_24))] := hD
      replace hq_33 : r_33 = hld r_24 0 9999 := hq_33
      exact hret r_33 (nm2_24, pl2_24) (by rw [hq_33, hq_24]; simp [askT, askF, payF, hw, n_1]) (rfl) hP hD hS (Nat.le_refl _) (Nat.le_refl _) dX0_asked_36
  · -- fall 4
    have n_1 := fx_eq1 (a := q) (b := 0) c_1 (by omega) (by omega)
    refine lv_iconst (v := 0) hx hb dX0_asked_4 rfl ?_
    exact hret 0 (nmd, pl) (by simp [askT, askF, n_1]) (rfl) hP hD hS (Nat.le_refl _) (Nat.le_refl _) dX0_asked_5
abbrev rxX0_valueOf : Room := { frames := 2, cells := 0, slots := 0, locals := 62 }
set_option maxHeartbeats 400000 in
set_option maxRecDepth 100000 in
theorem xX0_valueOf (l : Launch) (E : fx_En) (ax : Nat → Nat) (im : Int32) (bn : Int32) (bm : Int32) (fm : Int32) (ff : Int32) (fl : Int32) (tk : Int32) (cs : Int32) (gs : Int32) (zz : Int32) (tp : Int32) (wg : Int32) (nmd : Nat → Int32) (pl : Nat → Int32) (pr : Nat → Int32) (co : Nat → Int32) (t : Nat) (tx : Nat → Option Nat) (T : Tx) (PL : va_W) (ht : t < 8) (hT : TXs E PL (tx 1) T) (hTo : TOk T) : fx_Mi l yX0_valueOf cX0_valueOf 2 .int rxX0_valueOf E [.ref (ax 19), .int (nI t)] [(ax 1, .inl (E.2 0, 3, .inl nmd)), (ax 0, .inl (E.2 0, 60, .inl pl))] ([(ax 19, .inr (0, [.ref (ax 0), .ref (ax 1), .ref (ax 35), .ref (ax 55), .ref (ax 4), .ref (ax 5), .ref (ax 6), .ref (ax 7), .int im, .ref (ax 9), .ref (ax 10), .ref (ax 11), .ref (ax 12), .ref (ax 13), .int bn, .int bm, .int fm, .int ff, .int fl])), (ax 35, .inr (1, [.ref (ax 20), .ref (ax 21), .ref (ax 22), .int tk, .int cs, .int gs, .int zz, .int tp, .int wg, .ref (ax 29), .ref (ax 30), .ref (ax 31), .ref (ax 32)])), (ax 30, .inl (E.2 4, 2, .inr (.inr (.inr (.inr tx))))), (ax 20, .inl (E.2 0, 8, .inl pr)), (ax 21, .inl (E.2 0, 8, .inl co))] ++ PL) (S := (Nat → Int32) × (Nat → Int32)) (fun (u : (Nat → Int32) × (Nat → Int32)) => [(ax 1, .inl (E.2 0, 3, .inl u.1)), (ax 0, .inl (E.2 0, 60, .inl u.2))]) (fun (r : Int32) (u : (Nat → Int32) × (Nat → Int32)) => r = valF T t (pr t) (co t)) := by
  refine fx_iW rfl rfl ?_
  intro p e s m args below meth c A ls Q X hE hP hD hR hA hl hret
  have hx := X.1
  have hb := X.2.1
  have hS : va_S A s.heap s.heap [] := va_S.rf
  replace hP : va_P E.1 clA [(ax 1, .inl (E.2 0, 3, .inl nmd)), (ax 0, .inl (E.2 0, 60, .inl pl))] _ := hP
  replace hD : va_D A [(ax 1, .inl (E.2 0, 3, .inl nmd)), (ax 0, .inl (E.2 0, 60, .inl pl))] := hD
  replace hl : lv_has ls 2 [(0, .ref (ax 19)), (1, .int (nI t))] := hl
  refine lv_aload_n hx hb dX0_valueOf_0 rfl (lv_at hl 0 rfl) ?_
  refine fx_get X hE (hR.at hS) 0 rfl rfl 2 rfl q237 rfl rfl dX0_valueOf_1 ?_
  refine fx_getN X hE (hR.at hS) 1 rfl rfl 10 rfl 14 rfl rfl rfl dX0_valueOf_4 ?_
  refine lv_iconst (v := 1) hx hb dX0_valueOf_7 rfl ?_
  rcases hT with ⟨htx, hT0⟩ | ⟨ta, tb, tc_, sf, vf, htx, hTp, hc1, hc2, hc3, hfg⟩
  ·
    refine fx_aald X hE (hR.at hS) 2 4 rfl rfl 1 rfl (by decide) rfl (r := none) (htx) dX0_valueOf_8 ?_
    refine lv_ifnonnullN hx hb dX0_valueOf_9 ?_
    refine lv_iconst (v := 0) hx hb dX0_valueOf_12 rfl ?_
    exact hret 0 (nmd, pl) (by rw [valF, if_pos hT0]) (rfl) hP hD hS (Nat.le_refl _) (Nat.le_refl _) dX0_valueOf_13
  ·
    refine fx_aald X hE (hR.at hS) 2 4 rfl rfl 1 rfl (by decide) rfl (r := some ta) (htx) dX0_valueOf_8 ?_
    refine lv_ifnonnull (tgt := 14) hx hb dX0_valueOf_9 (by decide) ?_
    refine lv_aload_n hx hb dX0_valueOf_14 rfl (lv_at hl 0 rfl) ?_
    refine fx_get X hE (hR.at hS) 0 rfl rfl 1 rfl q235 rfl rfl dX0_valueOf_15 ?_
    refine lv_iconst (v := 0) hx hb dX0_valueOf_18 rfl ?_
    refine lv_iload_n hx hb dX0_valueOf_19 rfl (lv_at hl 1 rfl) ?_
    refine fx_iast (ws' := [(ax 1, .inl (E.2 0, 3, .inl (upd nmd 0 (nI t)))), (ax 0, .inl (E.2 0, 60, .inl pl))]) X hE hP hD hS 0 rfl 0 rfl (by decide) rfl rfl dX0_valueOf_20 (fun H locs hP hD hS => ?_)
    refine lv_aload_n hx hb dX0_valueOf_21 rfl (lv_at hl 0 rfl) ?_
    refine fx_get X hE (hR.at hS) 0 rfl rfl 1 rfl q235 rfl rfl dX0_valueOf_22 ?_
    refine lv_iconst (v := 1) hx hb dX0_valueOf_25 rfl ?_
    refine lv_aload_n hx hb dX0_valueOf_26 rfl (lv_at hl 0 rfl) ?_
    refine fx_get X hE (hR.at hS) 0 rfl rfl 2 rfl q237 rfl rfl dX0_valueOf_27 ?_
    refine fx_getN X hE (hR.at hS) 1 rfl rfl 0 rfl 3 rfl rfl rfl dX0_valueOf_30 ?_
    refine lv_iload_n hx hb dX0_valueOf_33 rfl (lv_at hl 1 rfl) ?_
    refine fx_iald X hE (hR.at hS) 3 rfl t rfl (by omega) rfl dX0_valueOf_34 ?_
    refine fx_iast (ws' := [(ax 1, .inl (E.2 0, 3, .inl (upd (upd nmd 0 (nI t)) 1 (pr t)))), (ax 0, .inl (E.2 0, 60, .inl pl))]) X hE hP hD hS 0 rfl 1 rfl (by decide) rfl rfl dX0_valueOf_35 (fun H locs hP hD hS => ?_)
    refine lv_aload_n hx hb dX0_valueOf_36 rfl (lv_at hl 0 rfl) ?_
    refine fx_get X hE (hR.at hS) 0 rfl rfl 1 rfl q235 rfl rfl dX0_valueOf_37 ?_
    refine lv_iconst (v := 2) hx hb dX0_valueOf_40 rfl ?_
    refine lv_aload_n hx hb dX0_valueOf_41 rfl (lv_at hl 0 rfl) ?_
    refine fx_get X hE (hR.at hS) 0 rfl rfl 2 rfl q237 rfl rfl dX0_valueOf_42 ?_
    refine fx_getN X hE (hR.at hS) 1 rfl rfl 1 rfl 4 rfl rfl rfl dX0_valueOf_45 ?_
    refine lv_iload_n hx hb dX0_valueOf_48 rfl (lv_at hl 1 rfl) ?_
    refine fx_iald X hE (hR.at hS) 4 rfl t rfl (by omega) rfl dX0_valueOf_49 ?_
    refine fx_iast (ws' := [(ax 1, .inl (E.2 0, 3, .inl (upd (upd (upd nmd 0 (nI t)) 1 (pr t)) 2 (co t)))), (ax 0, .inl (E.2 0, 60, .inl pl))]) X hE hP hD hS 0 rfl 2 rfl (by decide) rfl rfl dX0_valueOf_50 (fun H locs hP hD hS => ?_)
    refine lv_aload_n hx hb dX0_valueOf_51 rfl (lv_at hl 0 rfl) ?_
    refine lv_aload_n hx hb dX0_valueOf_52 rfl (lv_at hl 0 rfl) ?_
    refine fx_get X hE (hR.at hS) 0 rfl rfl 2 rfl q237 rfl rfl dX0_valueOf_53 ?_
    refine fx_getN X hE (hR.at hS) 1 rfl rfl 10 rfl 14 rfl rfl rfl dX0_valueOf_56 ?_
    refine lv_iconst (v := 1) hx hb dX0_valueOf_59 rfl ?_
    refine fx_aald X hE (hR.at hS) 2 4 rfl rfl 1 rfl (by decide) rfl (r := some ta) (htx) dX0_valueOf_60 ?_
    refine fx_ci (va_runV (As := [.ref ta]) (rest := []) X (xX0_worked l E ax im bn bm fm ff fl ta tb tc_ (upd (upd (upd nmd 0 (nI t)) 1 (pr t)) 2 (co t)) pl sf vf T (nm3 (nI t) (pr t) (co t)) (hTo.ok hTp) nm3X hfg _) (cwV 1 X.2.2.2.2 (lw_V q316 q318 qs2 q69 q319) rfl rfl rfl ⟨rfl, hdX0_worked⟩ ⟨Nat.le_of_ble_eq_true rfl, Nat.le_of_ble_eq_true rfl⟩) (fx_preV (fx_pre hE hP hD hS hR [1] rfl rfl (fx_rcr 0 rfl (fx_rcm 0 rfl (by decide) (fx_rcx ((List.mem_append_right _ hc1)) (fx_rcx ((List.mem_append_right _ hc2)) (fx_rcx ((List.mem_append_right _ hc3)) fx_rc0)))))) (va_recv hE.1 (hR.at hS) (ci := 0) (q0 := 0) rfl rfl)) rfl rfl hl.1 rfl (lv_room (Nat.le_of_ble_eq_true rfl)) dX0_valueOf_61 ⟨Nat.le_refl _, Nat.le_refl _⟩) hP hD hS hA [1] rfl rfl (fun r_61 u H locs hq_61 hP hD hS => ?_)
    obtain ⟨pl2_61, rfl⟩ : ∃ z, z = u := ⟨_, rfl⟩
    replace hP : va_P E.1 clA [(ax 1, .inl (E.2 0, 3, .inl (upd (upd (upd nmd 0 (nI t)) 1 (pr t)) 2 (co t)))), (ax 0, .inl (E.2 0, 60, .inl pl2_61))] _ := hP
    replace hD : va_D A [(ax 1, .inl (E.2 0, 3, .inl (upd (upd (upd nmd 0 (nI t)) 1 (pr t)) 2 (co t)))), (ax 0, .inl (E.2 0, 60, .inl pl2_61))] := hD
    replace hq_61 : r_61 = val T (nm3 (nI t) (pr t) (co t)) := hq_61
    refine lv_iconst (v := 0) hx hb dX0_valueOf_64 rfl ?_
    refine lv_bipush (v := 99) hx hb dX0_valueOf_65 rfl ?_
    refine fx_ci (va_runS (As := [.int r_61, .int 0, .int 99]) (rest := []) X (xX0_held l E r_61 0 99 (by decide) _) (va_cwS 3 X.2.2.2.2 (lw_S q323 q324 q69 q325) rfl rfl rfl hdX0_held ⟨Nat.le_of_ble_eq_true rfl, Nat.le_of_ble_eq_true rfl⟩) (fx_pre hE hP hD hS hR [] rfl rfl fx_rc0) rfl rfl hl.1 rfl (lv_room (Nat.le_of_ble_eq_true rfl)) dX0_valueOf_67 ⟨Nat.le_refl _, Nat.le_refl _⟩) hP hD hS hA [] rfl rfl (fun r_67 u H locs hq_67 hP hD hS => ?_)
    replace hP : va_P E.1 clA [(ax 1, .inl (E.2 0, 3, .inl (upd (upd (upd nmd 0 (nI t)) 1 (pr t)) 2 (co t)))), (ax 0, .inl (E.2 0, 60, .inl pl2_61))] _ := hP
    replace hD : va_D A [(ax 1, .inl (E.2 0, 3, .inl (upd (upd (upd nmd 0 (nI t)) 1 (pr t)) 2 (co t)))), (ax 0, .inl (E.2 0, 60, .inl pl2_61))] := hD
    replace hq_67 : r_67 = hld r_61 0 99 := hq_67
    exact hret r_67 ((upd (upd (upd nmd 0 (nI t)) 1 (pr t)) 2 (co t)), pl2_61) (by rw [hq_67, hq_61, valF, if_neg (by omega)]) (rfl) hP hD hS (Nat.le_refl _) (Nat.le_refl _) dX0_valueOf_70
