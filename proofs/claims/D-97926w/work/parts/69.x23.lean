set_option maxRecDepth 100000
theorem hdX4_ran : yX4_ran.cls ≠ "java/lang/invoke/MethodHandle" ∧ yX4_ran.cls ≠ "java/lang/invoke/VarHandle" ∧ (parseMethodDescriptor yX4_ran.desc).map (fun d => d.parameters.length) = some 1 := by decide +kernel
theorem hdX0_body : yX0_body.cls ≠ "java/lang/invoke/MethodHandle" ∧ yX0_body.cls ≠ "java/lang/invoke/VarHandle" ∧ (parseMethodDescriptor yX0_body.desc).map (fun d => d.parameters.length) = some 1 := by decide +kernel
theorem hdX0_told : yX0_told.cls ≠ "java/lang/invoke/MethodHandle" ∧ yX0_told.cls ≠ "java/lang/invoke/VarHandle" ∧ (parseMethodDescriptor yX0_told.desc).map (fun d => d.parameters.length) = some 1 := by decide +kernel
theorem hdX0_tell : yX0_tell.cls ≠ "java/lang/invoke/MethodHandle" ∧ yX0_tell.cls ≠ "java/lang/invoke/VarHandle" ∧ (parseMethodDescriptor yX0_tell.desc).map (fun d => d.parameters.length) = some 1 := by decide +kernel
theorem hdX0_check : yX0_check.cls ≠ "java/lang/invoke/MethodHandle" ∧ yX0_check.cls ≠ "java/lang/invoke/VarHandle" ∧ (parseMethodDescriptor yX0_check.desc).map (fun d => d.parameters.length) = some 1 := by decide +kernel
theorem hdX0_allStock : yX0_allStock.cls ≠ "java/lang/invoke/MethodHandle" ∧ yX0_allStock.cls ≠ "java/lang/invoke/VarHandle" ∧ (parseMethodDescriptor yX0_allStock.desc).map (fun d => d.parameters.length) = some 0 := by decide +kernel
theorem hdX0_count : yX0_count.cls ≠ "java/lang/invoke/MethodHandle" ∧ yX0_count.cls ≠ "java/lang/invoke/VarHandle" ∧ (parseMethodDescriptor yX0_count.desc).map (fun d => d.parameters.length) = some 1 := by decide +kernel
theorem hdX0_prices : yX0_prices.cls ≠ "java/lang/invoke/MethodHandle" ∧ yX0_prices.cls ≠ "java/lang/invoke/VarHandle" ∧ (parseMethodDescriptor yX0_prices.desc).map (fun d => d.parameters.length) = some 1 := by decide +kernel
theorem hdX3_init : yX3_init.cls ≠ "java/lang/invoke/MethodHandle" ∧ yX3_init.cls ≠ "java/lang/invoke/VarHandle" ∧ (parseMethodDescriptor yX3_init.desc).map (fun d => d.parameters.length) = some 2 := by decide +kernel
theorem hdX7_init : yX7_init.cls ≠ "java/lang/invoke/MethodHandle" ∧ yX7_init.cls ≠ "java/lang/invoke/VarHandle" ∧ (parseMethodDescriptor yX7_init.desc).map (fun d => d.parameters.length) = some 2 := by decide +kernel
theorem hdX8_init : yX8_init.cls ≠ "java/lang/invoke/MethodHandle" ∧ yX8_init.cls ≠ "java/lang/invoke/VarHandle" ∧ (parseMethodDescriptor yX8_init.desc).map (fun d => d.parameters.length) = some 2 := by decide +kernel
theorem hdX9_init : yX9_init.cls ≠ "java/lang/invoke/MethodHandle" ∧ yX9_init.cls ≠ "java/lang/invoke/VarHandle" ∧ (parseMethodDescriptor yX9_init.desc).map (fun d => d.parameters.length) = some 2 := by decide +kernel
theorem hdX10_init : yX10_init.cls ≠ "java/lang/invoke/MethodHandle" ∧ yX10_init.cls ≠ "java/lang/invoke/VarHandle" ∧ (parseMethodDescriptor yX10_init.desc).map (fun d => d.parameters.length) = some 2 := by decide +kernel
theorem hdX11_init : yX11_init.cls ≠ "java/lang/invoke/MethodHandle" ∧ yX11_init.cls ≠ "java/lang/invoke/VarHandle" ∧ (parseMethodDescriptor yX11_init.desc).map (fun d => d.parameters.length) = some 2 := by decide +kernel
theorem hdX12_init : yX12_init.cls ≠ "java/lang/invoke/MethodHandle" ∧ yX12_init.cls ≠ "java/lang/invoke/VarHandle" ∧ (parseMethodDescriptor yX12_init.desc).map (fun d => d.parameters.length) = some 2 := by decide +kernel
theorem hdX0_made : yX0_made.cls ≠ "java/lang/invoke/MethodHandle" ∧ yX0_made.cls ≠ "java/lang/invoke/VarHandle" ∧ (parseMethodDescriptor yX0_made.desc).map (fun d => d.parameters.length) = some 3 := by decide +kernel
theorem hdX0_till : yX0_till.cls ≠ "java/lang/invoke/MethodHandle" ∧ yX0_till.cls ≠ "java/lang/invoke/VarHandle" ∧ (parseMethodDescriptor yX0_till.desc).map (fun d => d.parameters.length) = some 2 := by decide +kernel
abbrev rxX4_ran : Room := { frames := 0, cells := 0, slots := 0, locals := 0 }
set_option maxHeartbeats 400000 in
set_option maxRecDepth 100000 in
theorem xX4_ran (l : Launch) (E : fx_En) (ax : Nat → Nat) (tr : Nat → Int32) (tn : Nat) (bz : Int32) (htn : tn ≤ 30) (hbz : bz.toInt8.toInt32 = bz) : fx_Mv l yX4_ran cX4_ran 2 rxX4_ran E [.ref (ax 4), .int bz] [(ax 4, .inr (4, [.ref (ax 60), .int (nI tn)])), (ax 60, .inl (E.2 1, 30, .inl tr))] [] (S := (Nat → Int32) × Nat) (fun (u : (Nat → Int32) × Nat) => [(ax 4, .inr (4, [.ref (ax 60), .int (nI u.2)])), (ax 60, .inl (E.2 1, 30, .inl u.1))]) (fun (u : (Nat → Int32) × Nat) => (u.1, u.2) = bg (tr, tn) bz) := by
  refine fx_vW rfl rfl ?_
  intro p e s m args below meth c A ls Q X hnm hE hP hD hR hA hl hret
  have hx := X.1
  have hb := X.2.1
  have hS : va_S A s.heap s.heap [] := va_S.rf
  replace hP : va_P E.1 clA [(ax 4, .inr (4, [.ref (ax 60), .int (nI tn)])), (ax 60, .inl (E.2 1, 30, .inl tr))] _ := hP
  replace hD : va_D A [(ax 4, .inr (4, [.ref (ax 60), .int (nI tn)])), (ax 60, .inl (E.2 1, 30, .inl tr))] := hD
  replace hl : lv_has ls 2 [(0, .ref (ax 4)), (1, .int bz)] := hl
  refine lv_aload_n hx hb dX4_ran_0 rfl (lv_at hl 0 rfl) ?_
  refine fx_get X hE hP 0 rfl rfl 1 rfl q214 rfl rfl dX4_ran_1 ?_
  refine lv_bipush (v := 30) hx hb dX4_ran_4 rfl ?_
  refine lv_icmp_ge (tgt := 27) hx hb dX4_ran_6 (by decide) (fun c_6 => ?_) (fun c_6 => ?_)
  · -- jump 27
    have n_6 := fx_le1 (a := 30) (b := tn) c_6 (by omega) (by omega)
    exact hret (tr, tn) (by rw [bg, if_neg (show ¬ tn < 30 by omega)]) hP hD hS (Nat.le_refl _) (Nat.le_refl _) dX4_ran_27
  · -- fall 9
    have n_6 := fx_le0 (a := 30) (b := tn) c_6 (by omega) (by omega)
    refine lv_aload_n hx hb dX4_ran_9 rfl (lv_at hl 0 rfl) ?_
    refine fx_get X hE hP 0 rfl rfl 0 rfl q212 rfl rfl dX4_ran_10 ?_
    refine lv_aload_n hx hb dX4_ran_13 rfl (lv_at hl 0 rfl) ?_
    refine lv_dup hx hb dX4_ran_14 rfl ?_
    refine fx_get X hE hP 0 rfl rfl 1 rfl q214 rfl rfl dX4_ran_15 ?_
    refine lv_dup_x1 hx hb dX4_ran_18 rfl rfl ?_
    refine lv_iconst (v := 1) hx hb dX4_ran_19 rfl ?_
    refine lv_iadd hx hb dX4_ran_20 ?_
    refine fx_ti (nI_add tn 1) ?_
    refine fx_put_ (ws' := [(ax 4, .inr (4, [.ref (ax 60), .int (nI (tn + 1))])), (ax 60, .inl (E.2 1, 30, .inl tr))]) X hE hP hD hS 0 rfl rfl tyX4_ok nmX4 1 rfl q214 rfl rfl rfl rfl rfl rfl dX4_ran_21 (fun H locs hP hD hS => ?_)
    refine lv_iload_n hx hb dX4_ran_24 rfl (lv_at hl 1 rfl) ?_
    refine lv_i2b (v := bz.toInt8.toInt32) hx hb dX4_ran_25 rfl ?_
    refine fx_bast (ws' := [(ax 4, .inr (4, [.ref (ax 60), .int (nI (tn + 1))])), (ax 60, .inl (E.2 1, 30, .inl (upd tr tn bz)))]) X hE hP hD hS 1 rfl tn rfl (by omega) rfl (by rw [hbz]; exact hbz) rfl dX4_ran_26 (fun H locs hP hD hS => ?_)
    exact hret ((upd tr tn bz), tn + 1) (by rw [bg, if_pos n_6]) hP hD hS (Nat.le_refl _) (Nat.le_refl _) dX4_ran_27
abbrev rxX0_body : Room := { frames := 1, cells := 0, slots := 0, locals := 22 }
set_option maxHeartbeats 400000 in
set_option maxRecDepth 100000 in
theorem xX0_body (l : Launch) (E : fx_En) (ax : Nat → Nat) (im : Int32) (bn : Int32) (bm : Int32) (fm : Int32) (ff : Int32) (fl : Int32) (er : Nat → Int32) (tr : Nat → Int32) (tn : Nat) (i_v : Int32) (htn : tn ≤ 30) : fx_Mi l yX0_body cX0_body 2 .int rxX0_body E [.ref (ax 19), .int i_v] [(ax 5, .inl (E.2 0, 7, .inl er))] [(ax 19, .inr (0, [.ref (ax 0), .ref (ax 1), .ref (ax 35), .ref (ax 55), .ref (ax 4), .ref (ax 5), .ref (ax 6), .ref (ax 7), .int im, .ref (ax 9), .ref (ax 10), .ref (ax 11), .ref (ax 12), .ref (ax 13), .int bn, .int bm, .int fm, .int ff, .int fl])), (ax 4, .inr (4, [.ref (ax 60), .int (nI tn)])), (ax 60, .inl (E.2 1, 30, .inl tr))] (S := (Nat → Int32)) (fun (u : (Nat → Int32)) => [(ax 5, .inl (E.2 0, 7, .inl u))]) (fun (r : Int32) (u : (Nat → Int32)) => (r, u) = body_ tr er tn i_v) := by
  refine fx_iW rfl rfl ?_
  intro p e s m args below meth c A ls Q X hE hP hD hR hA hl hret
  have hx := X.1
  have hb := X.2.1
  have hS : va_S A s.heap s.heap [] := va_S.rf
  replace hP : va_P E.1 clA [(ax 5, .inl (E.2 0, 7, .inl er))] _ := hP
  replace hD : va_D A [(ax 5, .inl (E.2 0, 7, .inl er))] := hD
  replace hl : lv_has ls 2 [(0, .ref (ax 19)), (1, .int i_v)] := hl
  refine lv_iload_n hx hb dX0_body_0 rfl (lv_at hl 1 rfl) ?_
  refine lv_iconst (v := 0) hx hb dX0_body_1 rfl ?_
  refine lv_aload_n hx hb dX0_body_2 rfl (lv_at hl 0 rfl) ?_
  refine fx_get X hE (hR.at hS) 0 rfl rfl 4 rfl q239 rfl rfl dX0_body_3 ?_
  refine fx_getN X hE (hR.at hS) 1 rfl rfl 1 rfl 19 rfl rfl rfl dX0_body_6 ?_
  refine lv_iconst (v := 1) hx hb dX0_body_9 rfl ?_
  refine lv_isub hx hb dX0_body_10 ?_
  refine fx_ci (va_runS (As := [.int i_v, .int 0, .int ((nI tn) - 1)]) (rest := []) X (xX0_isIn l E i_v 0 ((nI tn) - 1) _) (va_cwS 3 X.2.2.2.2 (lw_S q300 q301 q69 q302) rfl rfl rfl hdX0_isIn ⟨Nat.le_of_ble_eq_true rfl, Nat.le_of_ble_eq_true rfl⟩) (fx_pre hE hP hD hS hR [] rfl rfl fx_rc0) rfl rfl hl.1 rfl (lv_room (Nat.le_of_ble_eq_true rfl)) dX0_body_11 ⟨Nat.le_refl _, Nat.le_refl _⟩) hP hD hS hA [] rfl rfl (fun r_11 u H locs hq_11 hP hD hS => ?_)
  replace hP : va_P E.1 clA [(ax 5, .inl (E.2 0, 7, .inl er))] _ := hP
  replace hD : va_D A [(ax 5, .inl (E.2 0, 7, .inl er))] := hD
  replace hq_11 : r_11 = fx_b (inB i_v 0 ((nI tn) - 1) = true) := hq_11
  rcases fx_bc hq_11 with ⟨hb_11, hr_11⟩ | ⟨hb_11, hr_11⟩
  · -- True
    subst hr_11
    refine lv_if_eq (tgt := 29) hx hb dX0_body_14 (by decide) (fun c => absurd c (by decide)) (fun _ => ?_)
    refine lv_aload_n hx hb dX0_body_17 rfl (lv_at hl 0 rfl) ?_
    refine fx_get X hE (hR.at hS) 0 rfl rfl 4 rfl q239 rfl rfl dX0_body_18 ?_
    refine fx_getN X hE (hR.at hS) 1 rfl rfl 0 rfl 18 rfl rfl rfl dX0_body_21 ?_
    refine lv_iload_n hx hb dX0_body_24 rfl (lv_at hl 1 rfl) ?_
    refine fx_ti (show i_v = nI (nn i_v) from (inB_pre hb_11 (by omega)).1) ?_
    have g1 := (inB_pre hb_11 (by omega)).2
    refine fx_bald X hE (hR.at hS) 2 rfl (nn i_v) rfl (by omega) rfl dX0_body_25 ?_
    refine lv_goto (tgt := 34) hx hb dX0_body_26 (by decide) ?_
    exact hret (tr (nn i_v)) (er) (by simp [body_, erI, hb_11]) (rfl) hP hD hS (Nat.le_refl _) (Nat.le_refl _) dX0_body_34
  · -- False
    subst hr_11
    refine lv_if_eq (tgt := 29) hx hb dX0_body_14 (by decide) (fun _ => ?_) (fun c => (c (by decide)).elim)
    refine lv_aload_n hx hb dX0_body_29 rfl (lv_at hl 0 rfl) ?_
    refine lv_iconst (v := 2) hx hb dX0_body_30 rfl ?_
    refine fx_ci (va_runV (As := [.int 2]) (rest := []) X (xX0_finds l E ax im bn bm fm ff fl er 2 (by decide) _) (cwV 1 X.2.2.2.2 (lw_V q303 q305 qs0 q69 q306) rfl rfl rfl ⟨rfl, hdX0_finds⟩ ⟨Nat.le_of_ble_eq_true rfl, Nat.le_of_ble_eq_true rfl⟩) (fx_preV (fx_pre hE hP hD hS hR [0] rfl rfl (fx_rcr 0 rfl fx_rc0)) (va_recv hE.1 (hR.at hS) (ci := 0) (q0 := 0) rfl rfl)) rfl rfl hl.1 rfl (lv_room (Nat.le_of_ble_eq_true rfl)) dX0_body_31 ⟨Nat.le_refl _, Nat.le_refl _⟩) hP hD hS hA [0] rfl rfl (fun r_31 u H locs hq_31 hP hD hS => ?_)
    replace hP : va_P E.1 clA [(ax 5, .inl (E.2 0, 7, .inl (upd er 2 (er 2 + 1))))] _ := hP
    replace hD : va_D A [(ax 5, .inl (E.2 0, 7, .inl (upd er 2 (er 2 + 1))))] := hD
    replace hq_31 : r_31 = erv 2 := hq_31
    exact hret r_31 ((upd er 2 (er 2 + 1))) (by simp [body_, erI, hq_31, hb_11]) (rfl) hP hD hS (Nat.le_refl _) (Nat.le_refl _) dX0_body_34
abbrev rxX0_told : Room := { frames := 1, cells := 0, slots := 0, locals := 22 }
set_option maxHeartbeats 400000 in
set_option maxRecDepth 100000 in
theorem xX0_told (l : Launch) (E : fx_En) (ax : Nat → Nat) (im : Int32) (bn : Int32) (bm : Int32) (fm : Int32) (ff : Int32) (fl : Int32) (er : Nat → Int32) (kw : Int32) : fx_Mi l yX0_told cX0_told 2 .int rxX0_told E [.ref (ax 19), .int kw] [(ax 5, .inl (E.2 0, 7, .inl er))] [(ax 19, .inr (0, [.ref (ax 0), .ref (ax 1), .ref (ax 35), .ref (ax 55), .ref (ax 4), .ref (ax 5), .ref (ax 6), .ref (ax 7), .int im, .ref (ax 9), .ref (ax 10), .ref (ax 11), .ref (ax 12), .ref (ax 13), .int bn, .int bm, .int fm, .int ff, .int fl]))] (S := (Nat → Int32)) (fun (u : (Nat → Int32)) => [(ax 5, .inl (E.2 0, 7, .inl u))]) (fun (r : Int32) (u : (Nat → Int32)) => (r, u) = told_ er kw) := by
  refine fx_iW rfl rfl ?_
  intro p e s m args below meth c A ls Q X hE hP hD hR hA hl hret
  have hx := X.1
  have hb := X.2.1
  have hS : va_S A s.heap s.heap [] := va_S.rf
  replace hP : va_P E.1 clA [(ax 5, .inl (E.2 0, 7, .inl er))] _ := hP
  replace hD : va_D A [(ax 5, .inl (E.2 0, 7, .inl er))] := hD
  replace hl : lv_has ls 2 [(0, .ref (ax 19)), (1, .int kw)] := hl
  refine lv_iload_n hx hb dX0_told_0 rfl (lv_at hl 1 rfl) ?_
  refine lv_iconst (v := 1) hx hb dX0_told_1 rfl ?_
  refine lv_bipush (v := 6) hx hb dX0_told_2 rfl ?_
  refine fx_ci (va_runS (As := [.int kw, .int 1, .int 6]) (rest := []) X (xX0_isIn l E kw 1 6 _) (va_cwS 3 X.2.2.2.2 (lw_S q300 q301 q69 q302) rfl rfl rfl hdX0_isIn ⟨Nat.le_of_ble_eq_true rfl, Nat.le_of_ble_eq_true rfl⟩) (fx_pre hE hP hD hS hR [] rfl rfl fx_rc0) rfl rfl hl.1 rfl (lv_room (Nat.le_of_ble_eq_true rfl)) dX0_told_4 ⟨Nat.le_refl _, Nat.le_refl _⟩) hP hD hS hA [] rfl rfl (fun r_4 u H locs hq_4 hP hD hS => ?_)
  replace hP : va_P E.1 clA [(ax 5, .inl (E.2 0, 7, .inl er))] _ := hP
  replace hD : va_D A [(ax 5, .inl (E.2 0, 7, .inl er))] := hD
  replace hq_4 : r_4 = fx_b (inB kw 1 6 = true) := hq_4
  rcases fx_bc hq_4 with ⟨hb_4, hr_4⟩ | ⟨hb_4, hr_4⟩
  · -- True
    subst hr_4
    refine lv_if_eq (tgt := 19) hx hb dX0_told_7 (by decide) (fun c => absurd c (by decide)) (fun _ => ?_)
    refine lv_aload_n hx hb dX0_told_10 rfl (lv_at hl 0 rfl) ?_
    refine fx_get X hE (hR.at hS) 0 rfl rfl 5 rfl q240 rfl rfl dX0_told_11 ?_
    refine lv_iload_n hx hb dX0_told_14 rfl (lv_at hl 1 rfl) ?_
    refine fx_ti (show kw = nI (nn kw) from (inB_nn1 (n := 6) hb_4 (by decide) (by omega)).1) ?_
    have g1 := (inB_nn1 (n := 6) hb_4 (by decide) (by omega)).2
    refine fx_iald X hE hP 0 rfl (nn kw) rfl (by omega) rfl dX0_told_15 ?_
    refine lv_goto (tgt := 24) hx hb dX0_told_16 (by decide) ?_
    exact hret (er (nn kw)) (er) (by simp [told_, erI, hb_4]) (rfl) hP hD hS (Nat.le_refl _) (Nat.le_refl _) dX0_told_24
  · -- False
    subst hr_4
    refine lv_if_eq (tgt := 19) hx hb dX0_told_7 (by decide) (fun _ => ?_) (fun c => (c (by decide)).elim)
    refine lv_aload_n hx hb dX0_told_19 rfl (lv_at hl 0 rfl) ?_
    refine lv_iconst (v := 1) hx hb dX0_told_20 rfl ?_
    refine fx_ci (va_runV (As := [.int 1]) (rest := []) X (xX0_finds l E ax im bn bm fm ff fl er 1 (by decide) _) (cwV 1 X.2.2.2.2 (lw_V q303 q305 qs0 q69 q306) rfl rfl rfl ⟨rfl, hdX0_finds⟩ ⟨Nat.le_of_ble_eq_true rfl, Nat.le_of_ble_eq_true rfl⟩) (fx_preV (fx_pre hE hP hD hS hR [0] rfl rfl (fx_rcr 0 rfl fx_rc0)) (va_recv hE.1 (hR.at hS) (ci := 0) (q0 := 0) rfl rfl)) rfl rfl hl.1 rfl (lv_room (Nat.le_of_ble_eq_true rfl)) dX0_told_21 ⟨Nat.le_refl _, Nat.le_refl _⟩) hP hD hS hA [0] rfl rfl (fun r_21 u H locs hq_21 hP hD hS => ?_)
    replace hP : va_P E.1 clA [(ax 5, .inl (E.2 0, 7, .inl (upd er 1 (er 1 + 1))))] _ := hP
    replace hD : va_D A [(ax 5, .inl (E.2 0, 7, .inl (upd er 1 (er 1 + 1))))] := hD
    replace hq_21 : r_21 = erv 1 := hq_21
    exact hret r_21 ((upd er 1 (er 1 + 1))) (by simp [told_, erI, hq_21, hb_4]) (rfl) hP hD hS (Nat.le_refl _) (Nat.le_refl _) dX0_told_24
abbrev rxX0_tell : Room := { frames := 1, cells := 0, slots := 0, locals := 21 }
set_option maxHeartbeats 400000 in
set_option maxRecDepth 100000 in
theorem xX0_tell (l : Launch) (E : fx_En) (ax : Nat → Nat) (im : Int32) (bn : Int32) (bm : Int32) (fm : Int32) (ff : Int32) (fl : Int32) (tk : Int32) (cs : Int32) (gs : Int32) (zz : Int32) (tp : Int32) (wg : Int32) (er : Nat → Int32) (sa : Nat → Int32) (wt : Nat → Int32) (v_ : Int32) (hI : Inv sa) (hN : HN sa tk cs gs zz tp wg) (hwt : rl wt sa 350 24) : fx_Mi l yX0_tell cX0_tell 2 .int rxX0_tell E [.ref (ax 19), .int v_] [(ax 35, .inr (1, [.ref (ax 20), .ref (ax 21), .ref (ax 22), .int tk, .int cs, .int gs, .int zz, .int tp, .int wg, .ref (ax 29), .ref (ax 30), .ref (ax 31), .ref (ax 32)])), (ax 32, .inl (E.2 0, 24, .inl wt)), (ax 5, .inl (E.2 0, 7, .inl er))] [(ax 19, .inr (0, [.ref (ax 0), .ref (ax 1), .ref (ax 35), .ref (ax 55), .ref (ax 4), .ref (ax 5), .ref (ax 6), .ref (ax 7), .int im, .ref (ax 9), .ref (ax 10), .ref (ax 11), .ref (ax 12), .ref (ax 13), .int bn, .int bm, .int fm, .int ff, .int fl]))] (S := Int32 × (Nat → Int32) × (Nat → Int32)) (fun (u : Int32 × (Nat → Int32) × (Nat → Int32)) => [(ax 35, .inr (1, [.ref (ax 20), .ref (ax 21), .ref (ax 22), .int tk, .int cs, .int gs, .int zz, .int tp, .int u.1, .ref (ax 29), .ref (ax 30), .ref (ax 31), .ref (ax 32)])), (ax 32, .inl (E.2 0, 24, .inl u.2.1)), (ax 5, .inl (E.2 0, 7, .inl u.2.2))]) (fun (r : Int32) (u : Int32 × (Nat → Int32) × (Nat → Int32)) => r = (tell_ sa er v_).1 ∧ u.2.2 = (tell_ sa er v_).2.2 ∧ HN (tell_ sa er v_).2.1 tk cs gs zz tp u.1 ∧ rl u.2.1 (tell_ sa er v_).2.1 350 24) := by
  refine fx_iW rfl rfl ?_
  intro p e s m args below meth c A ls Q X hE hP hD hR hA hl hret
  have hx := X.1
  have hb := X.2.1
  have hS : va_S A s.heap s.heap [] := va_S.rf
  replace hP : va_P E.1 clA [(ax 35, .inr (1, [.ref (ax 20), .ref (ax 21), .ref (ax 22), .int tk, .int cs, .int gs, .int zz, .int tp, .int wg, .ref (ax 29), .ref (ax 30), .ref (ax 31), .ref (ax 32)])), (ax 32, .inl (E.2 0, 24, .inl wt)), (ax 5, .inl (E.2 0, 7, .inl er))] _ := hP
  replace hD : va_D A [(ax 35, .inr (1, [.ref (ax 20), .ref (ax 21), .ref (ax 22), .int tk, .int cs, .int gs, .int zz, .int tp, .int wg, .ref (ax 29), .ref (ax 30), .ref (ax 31), .ref (ax 32)])), (ax 32, .inl (E.2 0, 24, .inl wt)), (ax 5, .inl (E.2 0, 7, .inl er))] := hD
  replace hl : lv_has ls 2 [(0, .ref (ax 19)), (1, .int v_)] := hl
  have hw4 := hI.waits.2
  have ewg : wg = nI (nn (sa 4)) := hN.2.2.2.2.2.trans hI.waits.1
  subst ewg
  refine lv_aload_n hx hb dX0_tell_0 rfl (lv_at hl 0 rfl) ?_
  refine fx_get X hE (hR.at hS) 0 rfl rfl 2 rfl q237 rfl rfl dX0_tell_1 ?_
  refine fx_getN X hE hP 0 rfl rfl 8 rfl 11 rfl rfl rfl dX0_tell_4 ?_
  refine lv_bipush (v := 24) hx hb dX0_tell_7 rfl ?_
  refine lv_icmp_ne (tgt := 18) hx hb dX0_tell_9 (by decide) (fun c_9 => ?_) (fun c_9 => ?_)
  · -- jump 18
    have n_9 := fx_eq0 (a := (nn (sa 4))) (b := 24) c_9 (by omega) (by omega)
    have h4 : ¬ sa 4 = 24 := by rw [hI.waits.1]; exact c_9
    refine lv_aload_n hx hb dX0_tell_18 rfl (lv_at hl 0 rfl) ?_
    refine fx_get X hE (hR.at hS) 0 rfl rfl 2 rfl q237 rfl rfl dX0_tell_19 ?_
    refine fx_getN X hE hP 0 rfl rfl 12 rfl 16 rfl rfl rfl dX0_tell_22 ?_
    refine lv_aload_n hx hb dX0_tell_25 rfl (lv_at hl 0 rfl) ?_
    refine fx_get X hE (hR.at hS) 0 rfl rfl 2 rfl q237 rfl rfl dX0_tell_26 ?_
    refine fx_getN X hE hP 0 rfl rfl 8 rfl 11 rfl rfl rfl dX0_tell_29 ?_
    refine lv_iload_n hx hb dX0_tell_32 rfl (lv_at hl 1 rfl) ?_
    refine fx_iast (ws' := [(ax 35, .inr (1, [.ref (ax 20), .ref (ax 21), .ref (ax 22), .int tk, .int cs, .int gs, .int zz, .int tp, .int (nI (nn (sa 4))), .ref (ax 29), .ref (ax 30), .ref (ax 31), .ref (ax 32)])), (ax 32, .inl (E.2 0, 24, .inl (upd wt (nn (sa 4)) v_))), (ax 5, .inl (E.2 0, 7, .inl er))]) X hE hP hD hS 1 rfl (nn (sa 4)) rfl (by omega) rfl rfl dX0_tell_33 (fun H locs hP hD hS => ?_)
    refine lv_aload_n hx hb dX0_tell_34 rfl (lv_at hl 0 rfl) ?_
    refine fx_get X hE (hR.at hS) 0 rfl rfl 2 rfl q237 rfl rfl dX0_tell_35 ?_
    refine lv_dup hx hb dX0_tell_38 rfl ?_
    refine fx_getN X hE hP 0 rfl rfl 8 rfl 11 rfl rfl rfl dX0_tell_39 ?_
    refine lv_iconst (v := 1) hx hb dX0_tell_42 rfl ?_
    refine lv_iadd hx hb dX0_tell_43 ?_
    refine fx_ti (nI_add (nn (sa 4)) 1) ?_
    refine fx_putN (ws' := [(ax 35, .inr (1, [.ref (ax 20), .ref (ax 21), .ref (ax 22), .int tk, .int cs, .int gs, .int zz, .int tp, .int (nI (nn (sa 4) + 1)), .ref (ax 29), .ref (ax 30), .ref (ax 31), .ref (ax 32)])), (ax 32, .inl (E.2 0, 24, .inl (upd wt (nn (sa 4)) v_))), (ax 5, .inl (E.2 0, 7, .inl er))]) X hE hP hD hS 0 rfl rfl tyX1_ok nmX1 8 rfl 11 rfl rfl rfl rfl rfl rfl rfl dX0_tell_44 (fun H locs hP hD hS => ?_)
    refine lv_aload_n hx hb dX0_tell_47 rfl (lv_at hl 0 rfl) ?_
    refine fx_get X hE (hR.at hS) 0 rfl rfl 2 rfl q237 rfl rfl dX0_tell_48 ?_
    refine fx_getN X hE hP 0 rfl rfl 8 rfl 11 rfl rfl rfl dX0_tell_51 ?_
    exact hret (nI (nn (sa 4) + 1)) (nI (nn (sa 4) + 1), (upd wt (nn (sa 4)) v_), er) (by simp only [tell_, if_neg h4]; exact ⟨by first | trivial | rfl, by first | trivial | rfl, HN_w (HN_n (by omega) hN), rl_n (rl_s hwt rfl) (by omega)⟩) (rfl) hP hD hS (Nat.le_refl _) (Nat.le_refl _) dX0_tell_54
  · -- fall 12
    have n_9 := fx_eq1 (a := (nn (sa 4))) (b := 24) c_9 (by omega) (by omega)
    have h4 : sa 4 = 24 := by rw [hI.waits.1]; exact c_9
    refine lv_aload_n hx hb dX0_tell_12 rfl (lv_at hl 0 rfl) ?_
    refine lv_iconst (v := 4) hx hb dX0_tell_13 rfl ?_
    refine fx_ci (va_runV (As := [.int 4]) (rest := []) X (xX0_finds l E ax im bn bm fm ff fl er 4 (by decide) _) (cwV 1 X.2.2.2.2 (lw_V q303 q305 qs0 q69 q306) rfl rfl rfl ⟨rfl, hdX0_finds⟩ ⟨Nat.le_of_ble_eq_true rfl, Nat.le_of_ble_eq_true rfl⟩) (fx_preV (fx_pre hE hP hD hS hR [2] rfl rfl (fx_rcr 0 rfl fx_rc0)) (va_recv hE.1 (hR.at hS) (ci := 0) (q0 := 0) rfl rfl)) rfl rfl hl.1 rfl (lv_room (Nat.le_of_ble_eq_true rfl)) dX0_tell_14 ⟨Nat.le_refl _, Nat.le_refl _⟩) hP hD hS hA [2] rfl rfl (fun r_14 u H locs hq_14 hP hD hS => ?_)
    replace hP : va_P E.1 clA [(ax 35, .inr (1, [.ref (ax 20), .ref (ax 21), .ref (ax 22), .int tk, .int cs, .int gs, .int zz, .int tp, .int (nI (nn (sa 4))), .ref (ax 29), .ref (ax 30), .ref (ax 31), .ref (ax 32)])), (ax 32, .inl (E.2 0, 24, .inl wt)), (ax 5, .inl (E.2 0, 7, .inl (upd er 4 (er 4 + 1))))] _ := hP
    replace hD : va_D A [(ax 35, .inr (1, [.ref (ax 20), .ref (ax 21), .ref (ax 22), .int tk, .int cs, .int gs, .int zz, .int tp, .int (nI (nn (sa 4))), .ref (ax 29), .ref (ax 30), .ref (ax 31), .ref (ax 32)])), (ax 32, .inl (E.2 0, 24, .inl wt)), (ax 5, .inl (E.2 0, 7, .inl (upd er 4 (er 4 + 1))))] := hD
    replace hq_14 : r_14 = erv 4 := hq_14
    exact hret r_14 (nI (nn (sa 4)), wt, (upd er 4 (er 4 + 1))) (by rw [hq_14]; simp only [tell_, if_pos h4]; exact ⟨by first | trivial | rfl, by first | trivial | rfl, hN, hwt⟩) (rfl) hP hD hS (Nat.le_refl _) (Nat.le_refl _) dX0_tell_17
abbrev rxX0_check : Room := { frames := 5, cells := 0, slots := 0, locals := 117 }
set_option maxHeartbeats 400000 in
set_option maxRecDepth 100000 in
theorem xX0_check (l : Launch) (E : fx_En) (ax : Nat → Nat) (im : Int32) (bn : Int32) (bm : Int32) (fm : Int32) (ff : Int32) (fl : Int32) (tk : Int32) (cs : Int32) (gs : Int32) (zz : Int32) (tp : Int32) (wg : Int32) (er : Nat → Int32) (nmd : Nat → Int32) (pl : Nat → Int32) (sa : Nat → Int32) (tl : Nat → Nat) (wt : Nat → Int32) (tx : Nat → Option Nat) (T : Tx) (PL : va_W) (til : Int32) (hI : Inv sa) (hTL : TLS PL sa tl) (hT : TXs E PL (tx 0) T) (hTo : TOk T) (hN : HN sa tk cs gs zz tp wg) (hwt : rl wt sa 350 24) : fx_Mi l yX0_check cX0_check 4 .int rxX0_check E [.ref (ax 19), .int til] [(ax 35, .inr (1, [.ref (ax 20), .ref (ax 21), .ref (ax 22), .int tk, .int cs, .int gs, .int zz, .int tp, .int wg, .ref (ax 29), .ref (ax 30), .ref (ax 31), .ref (ax 32)])), (ax 5, .inl (E.2 0, 7, .inl er)), (ax 1, .inl (E.2 0, 3, .inl nmd)), (ax 0, .inl (E.2 0, 60, .inl pl))] ([(ax 19, .inr (0, [.ref (ax 0), .ref (ax 1), .ref (ax 35), .ref (ax 55), .ref (ax 4), .ref (ax 5), .ref (ax 6), .ref (ax 7), .int im, .ref (ax 9), .ref (ax 10), .ref (ax 11), .ref (ax 12), .ref (ax 13), .int bn, .int bm, .int fm, .int ff, .int fl])), (ax 29, .inl (E.2 3, 4, .inr (.inr (.inr (.inr (fun i_ => some (ax (36 + i_)))))))), (ax 36, .inr (2, [.ref (tl 0)])), (ax 37, .inr (2, [.ref (tl 1)])), (ax 38, .inr (2, [.ref (tl 2)])), (ax 39, .inr (2, [.ref (tl 3)])), (ax 7, .inr (5, [.ref (ax 19)])), (ax 30, .inl (E.2 4, 2, .inr (.inr (.inr (.inr tx))))), (ax 32, .inl (E.2 0, 24, .inl wt))] ++ PL) (S := Int32 × (Nat → Int32) × (Nat → Int32) × (Nat → Int32)) (fun (u : Int32 × (Nat → Int32) × (Nat → Int32) × (Nat → Int32)) => [(ax 35, .inr (1, [.ref (ax 20), .ref (ax 21), .ref (ax 22), .int tk, .int cs, .int gs, .int zz, .int tp, .int u.1, .ref (ax 29), .ref (ax 30), .ref (ax 31), .ref (ax 32)])), (ax 5, .inl (E.2 0, 7, .inl u.2.1)), (ax 1, .inl (E.2 0, 3, .inl u.2.2.1)), (ax 0, .inl (E.2 0, 60, .inl u.2.2.2))]) (fun (r : Int32) (u : Int32 × (Nat → Int32) × (Nat → Int32) × (Nat → Int32)) => r = (check_ sa er T til).1 ∧ u.2.1 = (check_ sa er T til).2.2 ∧ HN (check_ sa er T til).2.1 tk cs gs zz tp u.1 ∧ (check_ sa er T til).2.1 = upd sa 4 0) := by
  refine fx_iW rfl rfl ?_
  intro p e s m args below meth c A ls Q X hE hP hD hR hA hl hret
  have hx := X.1
  have hb := X.2.1
  have hS : va_S A s.heap s.heap [] := va_S.rf
  replace hP : va_P E.1 clA [(ax 35, .inr (1, [.ref (ax 20), .ref (ax 21), .ref (ax 22), .int tk, .int cs, .int gs, .int zz, .int tp, .int wg, .ref (ax 29), .ref (ax 30), .ref (ax 31), .ref (ax 32)])), (ax 5, .inl (E.2 0, 7, .inl er)), (ax 1, .inl (E.2 0, 3, .inl nmd)), (ax 0, .inl (E.2 0, 60, .inl pl))] _ := hP
  replace hD : va_D A [(ax 35, .inr (1, [.ref (ax 20), .ref (ax 21), .ref (ax 22), .int tk, .int cs, .int gs, .int zz, .int tp, .int wg, .ref (ax 29), .ref (ax 30), .ref (ax 31), .ref (ax 32)])), (ax 5, .inl (E.2 0, 7, .inl er)), (ax 1, .inl (E.2 0, 3, .inl nmd)), (ax 0, .inl (E.2 0, 60, .inl pl))] := hD
  replace hl : lv_has ls 4 [(0, .ref (ax 19)), (1, .int til)] := hl
  have hw4 := hI.waits.2
  have ewg : wg = nI (nn (sa 4)) := hN.2.2.2.2.2.trans hI.waits.1
  subst ewg
  refine lv_aload_n hx hb dX0_check_0 rfl (lv_at hl 0 rfl) ?_
  refine fx_get X hE (hR.at hS) 0 rfl rfl 2 rfl q237 rfl rfl dX0_check_1 ?_
  refine fx_getN X hE hP 0 rfl rfl 8 rfl 11 rfl rfl rfl dX0_check_4 ?_
  refine lv_istore_n (lv' := [(2, .int (nI (nn (sa 4)))), (0, .ref (ax 19)), (1, .int til)]) hx hb dX0_check_7 rfl hl (by decide) rfl (fun ls hl => ?_)
  refine lv_aload_n hx hb dX0_check_8 rfl (lv_at hl 1 rfl) ?_
  refine fx_get X hE (hR.at hS) 0 rfl rfl 2 rfl q237 rfl rfl dX0_check_9 ?_
  refine lv_iconst (v := 0) hx hb dX0_check_12 rfl ?_
  refine fx_putN (ws' := [(ax 35, .inr (1, [.ref (ax 20), .ref (ax 21), .ref (ax 22), .int tk, .int cs, .int gs, .int zz, .int tp, .int 0, .ref (ax 29), .ref (ax 30), .ref (ax 31), .ref (ax 32)])), (ax 5, .inl (E.2 0, 7, .inl er)), (ax 1, .inl (E.2 0, 3, .inl nmd)), (ax 0, .inl (E.2 0, 60, .inl pl))]) X hE hP hD hS 0 rfl rfl tyX1_ok nmX1 8 rfl 11 rfl rfl rfl rfl rfl rfl rfl dX0_check_13 (fun H locs hP hD hS => ?_)
  refine lv_iload_n hx hb dX0_check_16 rfl (lv_at hl 2 rfl) ?_
  refine fx_ci (va_runS (As := [.int til]) (rest := []) X (xX0_isTill l E til _) (va_cwS 1 X.2.2.2.2 (lw_S q336 q337 q69 q338) rfl rfl rfl hdX0_isTill ⟨Nat.le_of_ble_eq_true rfl, Nat.le_of_ble_eq_true rfl⟩) (fx_pre hE hP hD hS hR [] rfl rfl fx_rc0) rfl rfl hl.1 rfl (lv_room (Nat.le_of_ble_eq_true rfl)) dX0_check_17 ⟨Nat.le_refl _, Nat.le_refl _⟩) hP hD hS hA [] rfl rfl (fun r_17 u H locs hq_17 hP hD hS => ?_)
  replace hP : va_P E.1 clA [(ax 35, .inr (1, [.ref (ax 20), .ref (ax 21), .ref (ax 22), .int tk, .int cs, .int gs, .int zz, .int tp, .int 0, .ref (ax 29), .ref (ax 30), .ref (ax 31), .ref (ax 32)])), (ax 5, .inl (E.2 0, 7, .inl er)), (ax 1, .inl (E.2 0, 3, .inl nmd)), (ax 0, .inl (E.2 0, 60, .inl pl))] _ := hP
  replace hD : va_D A [(ax 35, .inr (1, [.ref (ax 20), .ref (ax 21), .ref (ax 22), .int tk, .int cs, .int gs, .int zz, .int tp, .int 0, .ref (ax 29), .ref (ax 30), .ref (ax 31), .ref (ax 32)])), (ax 5, .inl (E.2 0, 7, .inl er)), (ax 1, .inl (E.2 0, 3, .inl nmd)), (ax 0, .inl (E.2 0, 60, .inl pl))] := hD
  replace hq_17 : r_17 = fx_b (inB til 0 3 = true) := hq_17
  rcases fx_bc hq_17 with ⟨hb_17, hr_17⟩ | ⟨hb_17, hr_17⟩
  · -- True
    subst hr_17
    refine lv_if_ne (tgt := 29) hx hb dX0_check_20 (by decide) (fun _ => ?_) (fun c => absurd c (by decide))
    have gn := inB_nn (n := 3) hb_17 (by omega)
    have g1 : nn til < 4 := by omega
    refine lv_iconst (v := 0) hx hb dX0_check_29 rfl ?_
    refine lv_istore_n (lv' := [(3, .int 0), (2, .int (nI (nn (sa 4)))), (0, .ref (ax 19)), (1, .int til)]) hx hb dX0_check_30 rfl hl (by decide) rfl (fun ls hl => ?_)
    have loop_31 : ∀ (n_31 : Nat) (k : Nat) (nmv : Nat → Int32) (plv : Nat → Int32), (nn (sa 4) - k < n_31) → (k ≤ nn (sa 4)) → (∀ q, q < k → ckP sa T (nn til) q = true) → ∀ (H : Heap) (locs : List Loc), va_P E.1 clA [(ax 35, .inr (1, [.ref (ax 20), .ref (ax 21), .ref (ax 22), .int tk, .int cs, .int gs, .int zz, .int tp, .int 0, .ref (ax 29), .ref (ax 30), .ref (ax 31), .ref (ax 32)])), (ax 5, .inl (E.2 0, 7, .inl er)), (ax 1, .inl (E.2 0, 3, .inl nmv)), (ax 0, .inl (E.2 0, 60, .inl plv))] H → va_D A [(ax 35, .inr (1, [.ref (ax 20), .ref (ax 21), .ref (ax 22), .int tk, .int cs, .int gs, .int zz, .int tp, .int 0, .ref (ax 29), .ref (ax 30), .ref (ax 31), .ref (ax 32)])), (ax 5, .inl (E.2 0, 7, .inl er)), (ax 1, .inl (E.2 0, 3, .inl nmv)), (ax 0, .inl (E.2 0, 60, .inl plv))] → va_S A s.heap H locs → ∀ (ls : Array Slot), lv_has ls 4 [(3, .int (nI k)), (2, .int (nI (nn (sa 4)))), (0, .ref (ax 19)), (1, .int til)] → W p l e rxX0_check s m args below meth c H locs 0 0 Q (F0 m 31 ls []) := by
      intro n_31
      induction n_31 with
      | zero => intro k nmv plv hm_31; exact absurd hm_31 (Nat.not_lt_zero _)
      | succ n_31 ih_31 =>
        intro k nmv plv hm_31 hkk hall H locs hP hD hS ls hl
        refine lv_iload_n hx hb dX0_check_31 rfl (lv_at hl 0 rfl) ?_
        refine lv_iload_n hx hb dX0_check_32 rfl (lv_at hl 1 rfl) ?_
        refine lv_icmp_ge (tgt := 63) hx hb dX0_check_33 (by decide) (fun c_33 => ?_) (fun c_33 => ?_)
        · -- jump 63
          have n_33 := fx_le1 (a := (nn (sa 4))) (b := k) c_33 (by omega) (by omega)
          obtain rfl : k = nn (sa 4) := by omega
          have hL := ldN_all hall
          refine lv_iload_n hx hb dX0_check_63 rfl (lv_at hl 0 rfl) ?_
          refine lv_iload_n hx hb dX0_check_64 rfl (lv_at hl 1 rfl) ?_
          refine lv_icmp_ne (tgt := 72) hx hb dX0_check_65 (by decide) (fun c_65 => ?_) (fun c_65 => ?_)
          · -- jump 72
            have n_65 := fx_eq0 (a := (nn (sa 4))) (b := (nn (sa 4))) c_65 (by omega) (by omega)
            exact absurd rfl n_65
          · -- fall 68
            have n_65 := fx_eq1 (a := (nn (sa 4))) (b := (nn (sa 4))) c_65 (by omega) (by omega)
            refine lv_iconst (v := 0) hx hb dX0_check_68 rfl ?_
            refine lv_goto (tgt := 75) hx hb dX0_check_69 (by decide) ?_
            exact hret 0 (0, er, nmv, plv) (by simp only [check_, if_pos hb_17, hL]; exact ⟨by rw [if_pos trivial], by first | trivial | rfl, HN_w hN, by first | trivial | rfl⟩) (rfl) hP hD hS (Nat.le_refl _) (Nat.le_refl _) dX0_check_75
        · -- fall 36
          have n_33 := fx_le0 (a := (nn (sa 4))) (b := k) c_33 (by omega) (by omega)
          refine lv_aload_n hx hb dX0_check_36 rfl (lv_at hl 2 rfl) ?_
          refine fx_get X hE (hR.at hS) 0 rfl rfl 2 rfl q237 rfl rfl dX0_check_37 ?_
          refine fx_getN X hE hP 0 rfl rfl 12 rfl 16 rfl rfl rfl dX0_check_40 ?_
          refine lv_iload_n hx hb dX0_check_43 rfl (lv_at hl 0 rfl) ?_
          refine fx_iald X hE (hR.at hS) 8 rfl k rfl (by omega) rfl dX0_check_44 ?_
          refine lv_aload_n hx hb dX0_check_45 rfl (lv_at hl 2 rfl) ?_
          refine lv_iload_n hx hb dX0_check_46 rfl (lv_at hl 3 rfl) ?_
          refine fx_ti (show til = nI (nn til) from gn.1) ?_
          refine lv_iload_n hx hb dX0_check_47 rfl (lv_at hl 0 rfl) ?_
          refine lv_iconst (v := 1) hx hb dX0_check_48 rfl ?_
          refine lv_iadd hx hb dX0_check_49 ?_
          refine fx_ti (nI_add k 1) ?_
          refine lv_iconst (v := 1) hx hb dX0_check_50 rfl ?_
          refine fx_ci (va_runV (As := [.int (nI (nn til)), .int (nI (k + 1)), .int 1]) (rest := [.int (wt k)]) X (xX0_asked l E ax im bn bm fm ff fl tk cs gs zz tp 0 nmv plv sa tl tx T PL (nn til) (k + 1) 1 g1 (by first | assumption | omega) (by first | assumption | omega) (by first | assumption | omega) (by first | assumption | omega) (by omega) (by decide) _) (cwV 3 X.2.2.2.2 (lw_V q454 q456 qs3 q69 q457) rfl rfl rfl ⟨rfl, hdX0_asked⟩ ⟨Nat.le_of_ble_eq_true rfl, Nat.le_of_ble_eq_true rfl⟩) (fx_preV (fx_pre hE hP hD hS hR [2, 3] rfl rfl (fx_rcr 0 rfl (fx_rcm 0 rfl (by decide) (fx_rcr 1 rfl (fx_rcr 2 rfl (fx_rcr 3 rfl (fx_rcr 4 rfl (fx_rcr 5 rfl (fx_rcr 6 rfl (fx_rcr 7 rfl (fx_rct (fun q hq => List.mem_append_right _ hq)))))))))))) (va_recv hE.1 (hR.at hS) (ci := 0) (q0 := 0) rfl rfl)) rfl rfl hl.1 rfl (lv_room (Nat.le_of_ble_eq_true rfl)) dX0_check_51 ⟨Nat.le_refl _, Nat.le_refl _⟩) hP hD hS hA [2, 3] rfl rfl (fun r_51 u H locs hq_51 hP hD hS => ?_)
          obtain ⟨nm2_51, pl2_51⟩ := u
          replace hP : va_P E.1 clA [(ax 35, .inr (1, [.ref (ax 20), .ref (ax 21), .ref (ax 22), .int tk, .int cs, .int gs, .int zz, .int tp, .int 0, .ref (ax 29), .ref (ax 30), .ref (ax 31), .ref (ax 32)])), (ax 5, .inl (E.2 0, 7, .inl er)), (ax 1, .inl (E.2 0, 3, .inl nm2_51)), (ax 0, .inl (E.2 0, 60, .inl pl2_51))] _ := hP
          replace hD : va_D A [(ax 35, .inr (1, [.ref (ax 20), .ref (ax 21), .ref (ax 22), .int tk, .int cs, .int gs, .int zz, .int tp, .int 0, .ref (ax 29), .ref (ax 30), .ref (ax 31), .ref (ax 32)])), (ax 5, .inl (E.2 0, 7, .inl er)), (ax 1, .inl (E.2 0, 3, .inl nm2_51)), (ax 0, .inl (E.2 0, 60, .inl pl2_51))] := hD
          replace hq_51 : r_51 = askT sa T (nn til) (k + 1) 1 := hq_51
          refine fx_ti (show r_51 = (askT sa T (nn til) (k + 1) 1) from hq_51) ?_
          refine lv_icmp_ne (tgt := 63) hx hb dX0_check_54 (by decide) (fun c_54 => ?_) (fun c_54 => ?_)
          · -- jump 63
            have hL := ldN_stop hall (decide_eq_false (fun e => c_54 ((hwt k (by omega)).trans e))) (nn (sa 4)) hkk
            refine lv_iload_n hx hb dX0_check_63 rfl (lv_at hl 0 rfl) ?_
            refine lv_iload_n hx hb dX0_check_64 rfl (lv_at hl 1 rfl) ?_
            refine lv_icmp_ne (tgt := 72) hx hb dX0_check_65 (by decide) (fun c_65 => ?_) (fun c_65 => ?_)
            · -- jump 72
              have n_65 := fx_eq0 (a := k) (b := (nn (sa 4))) c_65 (by omega) (by omega)
              refine lv_iconst (v := 1) hx hb dX0_check_72 rfl ?_
              refine lv_iload_n hx hb dX0_check_73 rfl (lv_at hl 0 rfl) ?_
              refine lv_iadd hx hb dX0_check_74 ?_
              refine fx_ti (nI_add 1 k) ?_
              exact hret (nI (1 + k)) (0, er, nm2_51, pl2_51) (by simp only [check_, if_pos hb_17, hL]; exact ⟨by rw [if_neg n_65], by first | trivial | rfl, HN_w hN, by first | trivial | rfl⟩) (rfl) hP hD hS (Nat.le_refl _) (Nat.le_refl _) dX0_check_75
            · -- fall 68
              have n_65 := fx_eq1 (a := k) (b := (nn (sa 4))) c_65 (by omega) (by omega)
              exact absurd n_65 (by omega)
          · -- fall 57
            refine lv_iinc (v := nI (k + 1)) (lv' := [(3, .int (nI (k + 1))), (2, .int (nI (nn (sa 4)))), (0, .ref (ax 19)), (1, .int til)]) hx hb dX0_check_57 hl (k := 0) rfl (fx_inc _) (by decide) rfl (fun ls hl => ?_)
            refine lv_goto (tgt := 31) hx hb dX0_check_60 (by decide) ?_
            exact ih_31 (k + 1) nm2_51 pl2_51 (by omega) (by omega) (fun q hq => by rcases Nat.lt_or_ge q k with z | z; exact hall q z; rw [show q = k by omega]; exact decide_eq_true ((hwt k (by omega)).symm.trans c_54)) _ _ hP hD hS ls (lv_sub hl [0, 1, 2, 3] rfl)
    exact loop_31 ((nn (sa 4) - 0) + 1) 0 nmd pl (Nat.lt_succ_self _) (Nat.zero_le _) (fun q hq => absurd hq (Nat.not_lt_zero _)) _ _ hP hD hS ls (lv_sub hl [0, 1, 2, 3] rfl)
  · -- False
    subst hr_17
    refine lv_if_ne (tgt := 29) hx hb dX0_check_20 (by decide) (fun c => (c (by decide)).elim) (fun _ => ?_)
    refine lv_aload_n hx hb dX0_check_23 rfl (lv_at hl 1 rfl) ?_
    refine lv_iconst (v := 1) hx hb dX0_check_24 rfl ?_
    refine fx_ci (va_runV (As := [.int 1]) (rest := []) X (xX0_finds l E ax im bn bm fm ff fl er 1 (by decide) _) (cwV 1 X.2.2.2.2 (lw_V q303 q305 qs0 q69 q306) rfl rfl rfl ⟨rfl, hdX0_finds⟩ ⟨Nat.le_of_ble_eq_true rfl, Nat.le_of_ble_eq_true rfl⟩) (fx_preV (fx_pre hE hP hD hS hR [1] rfl rfl (fx_rcr 0 rfl fx_rc0)) (va_recv hE.1 (hR.at hS) (ci := 0) (q0 := 0) rfl rfl)) rfl rfl hl.1 rfl (lv_room (Nat.le_of_ble_eq_true rfl)) dX0_check_25 ⟨Nat.le_refl _, Nat.le_refl _⟩) hP hD hS hA [1] rfl rfl (fun r_25 u H locs hq_25 hP hD hS => ?_)
    replace hP : va_P E.1 clA [(ax 35, .inr (1, [.ref (ax 20), .ref (ax 21), .ref (ax 22), .int tk, .int cs, .int gs, .int zz, .int tp, .int 0, .ref (ax 29), .ref (ax 30), .ref (ax 31), .ref (ax 32)])), (ax 5, .inl (E.2 0, 7, .inl (upd er 1 (er 1 + 1)))), (ax 1, .inl (E.2 0, 3, .inl nmd)), (ax 0, .inl (E.2 0, 60, .inl pl))] _ := hP
    replace hD : va_D A [(ax 35, .inr (1, [.ref (ax 20), .ref (ax 21), .ref (ax 22), .int tk, .int cs, .int gs, .int zz, .int tp, .int 0, .ref (ax 29), .ref (ax 30), .ref (ax 31), .ref (ax 32)])), (ax 5, .inl (E.2 0, 7, .inl (upd er 1 (er 1 + 1)))), (ax 1, .inl (E.2 0, 3, .inl nmd)), (ax 0, .inl (E.2 0, 60, .inl pl))] := hD
    replace hq_25 : r_25 = erv 1 := hq_25
    exact hret r_25 (0, (upd er 1 (er 1 + 1)), nmd, pl) (by rw [hq_25]; simp only [check_, if_neg hb_17]; exact ⟨by first | trivial | rfl, by first | trivial | rfl, HN_w hN, by first | trivial | rfl⟩) (rfl) hP hD hS (Nat.le_refl _) (Nat.le_refl _) dX0_check_28
abbrev rxX0_allStock : Room := { frames := 0, cells := 0, slots := 0, locals := 0 }
set_option maxHeartbeats 400000 in
set_option maxRecDepth 100000 in
theorem xX0_allStock (l : Launch) (E : fx_En) (ax : Nat → Nat) (im : Int32) (bn : Int32) (bm : Int32) (fm : Int32) (ff : Int32) (fl : Int32) (tk : Int32) (cs : Int32) (gs : Int32) (zz : Int32) (tp : Int32) (wg : Int32) (st0 : Nat → Int32) : fx_Mi l yX0_allStock cX0_allStock 3 .int rxX0_allStock E [.ref (ax 19)] [] [(ax 19, .inr (0, [.ref (ax 0), .ref (ax 1), .ref (ax 35), .ref (ax 55), .ref (ax 4), .ref (ax 5), .ref (ax 6), .ref (ax 7), .int im, .ref (ax 9), .ref (ax 10), .ref (ax 11), .ref (ax 12), .ref (ax 13), .int bn, .int bm, .int fm, .int ff, .int fl])), (ax 35, .inr (1, [.ref (ax 20), .ref (ax 21), .ref (ax 22), .int tk, .int cs, .int gs, .int zz, .int tp, .int wg, .ref (ax 29), .ref (ax 30), .ref (ax 31), .ref (ax 32)])), (ax 22, .inl (E.2 0, 8, .inl st0))] (S := Unit) (fun (u : Unit) => []) (fun (r : Int32) (u : Unit) => r = l_sum st0 8) := by
  refine fx_iW rfl rfl ?_
  intro p e s m args below meth c A ls Q X hE hP hD hR hA hl hret
  have hx := X.1
  have hb := X.2.1
  have hS : va_S A s.heap s.heap [] := va_S.rf
  replace hl : lv_has ls 3 [(0, .ref (ax 19))] := hl
  refine lv_iconst (v := 0) hx hb dX0_allStock_0 rfl ?_
  refine lv_istore_n (lv' := [(1, .int 0), (0, .ref (ax 19))]) hx hb dX0_allStock_1 rfl hl (by decide) rfl (fun ls hl => ?_)
  refine lv_iconst (v := 0) hx hb dX0_allStock_2 rfl ?_
  refine lv_istore_n (lv' := [(2, .int 0), (1, .int 0), (0, .ref (ax 19))]) hx hb dX0_allStock_3 rfl hl (by decide) rfl (fun ls hl => ?_)
  have loop_4 : ∀ (n_4 : Nat) (t : Nat), (8 - t < n_4) → (t ≤ 8) → ∀ (H : Heap) (locs : List Loc), va_P E.1 clA [] H → va_D A [] → va_S A s.heap H locs → ∀ (ls : Array Slot), lv_has ls 3 [(2, .int (nI t)), (1, .int (l_sum st0 t)), (0, .ref (ax 19))] → W p l e rxX0_allStock s m args below meth c H locs 0 0 Q (F0 m 4 ls []) := by
    intro n_4
    induction n_4 with
    | zero => intro t hm_4; exact absurd hm_4 (Nat.not_lt_zero _)
    | succ n_4 ih_4 =>
      intro t hm_4 ht H locs hP hD hS ls hl
      refine lv_iload_n hx hb dX0_allStock_4 rfl (lv_at hl 0 rfl) ?_
      refine lv_bipush (v := 8) hx hb dX0_allStock_5 rfl ?_
      refine lv_icmp_ge (tgt := 28) hx hb dX0_allStock_7 (by decide) (fun c_7 => ?_) (fun c_7 => ?_)
      · -- jump 28
        have n_7 := fx_le1 (a := 8) (b := t) c_7 (by omega) (by omega)
        obtain rfl : t = 8 := by omega
        refine lv_iload_n hx hb dX0_allStock_28 rfl (lv_at hl 1 rfl) ?_
        exact hret (l_sum st0 8) () (rfl) (rfl) hP hD hS (Nat.le_refl _) (Nat.le_refl _) dX0_allStock_29
      · -- fall 10
        have n_7 := fx_le0 (a := 8) (b := t) c_7 (by omega) (by omega)
        refine lv_iload_n hx hb dX0_allStock_10 rfl (lv_at hl 1 rfl) ?_
        refine lv_aload_n hx hb dX0_allStock_11 rfl (lv_at hl 2 rfl) ?_
        refine fx_get X hE (hR.at hS) 0 rfl rfl 2 rfl q237 rfl rfl dX0_allStock_12 ?_
        refine fx_getN X hE (hR.at hS) 1 rfl rfl 2 rfl 5 rfl rfl rfl dX0_allStock_15 ?_
        refine lv_iload_n hx hb dX0_allStock_18 rfl (lv_at hl 0 rfl) ?_
        refine fx_iald X hE (hR.at hS) 2 rfl t rfl (by omega) rfl dX0_allStock_19 ?_
        refine lv_iadd hx hb dX0_allStock_20 ?_
        refine lv_istore_n (lv' := [(1, .int ((l_sum st0 t) + (st0 t))), (2, .int (nI t)), (0, .ref (ax 19))]) hx hb dX0_allStock_21 rfl hl (by decide) rfl (fun ls hl => ?_)
        refine lv_iinc (v := nI (t + 1)) (lv' := [(2, .int (nI (t + 1))), (1, .int ((l_sum st0 t) + (st0 t))), (0, .ref (ax 19))]) hx hb dX0_allStock_22 hl (k := 1) rfl (fx_inc _) (by decide) rfl (fun ls hl => ?_)
        refine lv_goto (tgt := 4) hx hb dX0_allStock_25 (by decide) ?_
        exact ih_4 (t + 1) (by omega) (by omega) _ _ hP hD hS ls (lv_sub hl [0, 1, 2] rfl)
  exact loop_4 ((8 - 0) + 1) 0 (Nat.lt_succ_self _) (by omega) _ _ hP hD hS ls (lv_sub hl [0, 1, 2] rfl)
abbrev rxX0_count : Room := { frames := 1, cells := 0, slots := 0, locals := 22 }
set_option maxHeartbeats 400000 in
set_option maxRecDepth 100000 in
theorem xX0_count (l : Launch) (E : fx_En) (ax : Nat → Nat) (im : Int32) (bn : Int32) (bm : Int32) (fm : Int32) (ff : Int32) (fl : Int32) (tk : Int32) (cs : Int32) (gs : Int32) (zz : Int32) (tp : Int32) (wg : Int32) (er : Nat → Int32) (sa : Nat → Int32) (st0 : Nat → Int32) (tn : Nat) (wh : Int32) (hN : HN sa tk cs gs zz tp wg) (hst : rl st0 sa 24 8) : fx_Mi l yX0_count cX0_count 2 .int rxX0_count E [.ref (ax 19), .int wh] [(ax 5, .inl (E.2 0, 7, .inl er))] [(ax 19, .inr (0, [.ref (ax 0), .ref (ax 1), .ref (ax 35), .ref (ax 55), .ref (ax 4), .ref (ax 5), .ref (ax 6), .ref (ax 7), .int im, .ref (ax 9), .ref (ax 10), .ref (ax 11), .ref (ax 12), .ref (ax 13), .int bn, .int bm, .int fm, .int ff, .int fl])), (ax 35, .inr (1, [.ref (ax 20), .ref (ax 21), .ref (ax 22), .int tk, .int cs, .int gs, .int zz, .int tp, .int wg, .ref (ax 29), .ref (ax 30), .ref (ax 31), .ref (ax 32)])), (ax 22, .inl (E.2 0, 8, .inl st0)), (ax 4, .inr (4, [.ref (ax 60), .int (nI tn)]))] (S := (Nat → Int32)) (fun (u : (Nat → Int32)) => [(ax 5, .inl (E.2 0, 7, .inl u))]) (fun (r : Int32) (u : (Nat → Int32)) => (r, u) = count_ sa er tn wh) := by
  refine fx_iW rfl rfl ?_
  intro p e s m args below meth c A ls Q X hE hP hD hR hA hl hret
  have hx := X.1
  have hb := X.2.1
  have hS : va_S A s.heap s.heap [] := va_S.rf
  replace hP : va_P E.1 clA [(ax 5, .inl (E.2 0, 7, .inl er))] _ := hP
  replace hD : va_D A [(ax 5, .inl (E.2 0, 7, .inl er))] := hD
  replace hl : lv_has ls 2 [(0, .ref (ax 19)), (1, .int wh)] := hl
  obtain ⟨n1, n2, n3, n4, n5, n6⟩ := hN
  rcases cnt8 wh with rfl | rfl | rfl | rfl | rfl | rfl | rfl | rfl | hno
  ·
    refine lv_iload_n hx hb dX0_count_0 rfl (lv_at hl 1 rfl) ?_
    refine lv_tableIn (tgt := 48) (off := 47) hx hb dX0_count_1 (by decide) (by decide) rfl (by decide) ?_
    refine lv_aload_n hx hb dX0_count_48 rfl (lv_at hl 0 rfl) ?_
    refine fx_get X hE (hR.at hS) 0 rfl rfl 2 rfl q237 rfl rfl dX0_count_49 ?_
    refine fx_getN X hE (hR.at hS) 1 rfl rfl 5 rfl 8 rfl rfl rfl dX0_count_52 ?_
    exact hret gs (er) (by simp [count_, n1, n2, n3, n4, n5, n6]) (rfl) hP hD hS (Nat.le_refl _) (Nat.le_refl _) dX0_count_55
  ·
    refine lv_iload_n hx hb dX0_count_0 rfl (lv_at hl 1 rfl) ?_
    refine lv_tableIn (tgt := 56) (off := 55) hx hb dX0_count_1 (by decide) (by decide) rfl (by decide) ?_
    refine lv_aload_n hx hb dX0_count_56 rfl (lv_at hl 0 rfl) ?_
    refine fx_get X hE (hR.at hS) 0 rfl rfl 2 rfl q237 rfl rfl dX0_count_57 ?_
    refine fx_getN X hE (hR.at hS) 1 rfl rfl 3 rfl 6 rfl rfl rfl dX0_count_60 ?_
    exact hret tk (er) (by simp [count_, n1, n2, n3, n4, n5, n6]) (rfl) hP hD hS (Nat.le_refl _) (Nat.le_refl _) dX0_count_63
  ·
    refine lv_iload_n hx hb dX0_count_0 rfl (lv_at hl 1 rfl) ?_
    refine lv_tableIn (tgt := 64) (off := 63) hx hb dX0_count_1 (by decide) (by decide) rfl (by decide) ?_
    refine lv_aload_n hx hb dX0_count_64 rfl (lv_at hl 0 rfl) ?_
    refine fx_get X hE (hR.at hS) 0 rfl rfl 2 rfl q237 rfl rfl dX0_count_65 ?_
    refine fx_getN X hE (hR.at hS) 1 rfl rfl 4 rfl 7 rfl rfl rfl dX0_count_68 ?_
    exact hret cs (er) (by simp [count_, n1, n2, n3, n4, n5, n6]) (rfl) hP hD hS (Nat.le_refl _) (Nat.le_refl _) dX0_count_71
  ·
    refine lv_iload_n hx hb dX0_count_0 rfl (lv_at hl 1 rfl) ?_
    refine lv_tableIn (tgt := 72) (off := 71) hx hb dX0_count_1 (by decide) (by decide) rfl (by decide) ?_
    refine lv_aload_n hx hb dX0_count_72 rfl (lv_at hl 0 rfl) ?_
    refine fx_ci (va_runV (As := []) (rest := []) X (xX0_allStock l E ax im bn bm fm ff fl tk cs gs zz tp wg st0 _) (cwV 0 X.2.2.2.2 (lw_V q1154 q1156 qs31 q69 q1157) rfl rfl rfl ⟨rfl, hdX0_allStock⟩ ⟨Nat.le_of_ble_eq_true rfl, Nat.le_of_ble_eq_true rfl⟩) (fx_preV (fx_pre hE hP hD hS hR [] rfl rfl (fx_rcr 0 rfl (fx_rcr 1 rfl (fx_rcr 2 rfl fx_rc0)))) (va_recv hE.1 (hR.at hS) (ci := 0) (q0 := 0) rfl rfl)) rfl rfl hl.1 rfl (lv_room (Nat.le_of_ble_eq_true rfl)) dX0_count_73 ⟨Nat.le_refl _, Nat.le_refl _⟩) hP hD hS hA [] rfl rfl (fun r_73 u H locs hq_73 hP hD hS => ?_)
    replace hP : va_P E.1 clA [(ax 5, .inl (E.2 0, 7, .inl er))] _ := hP
    replace hD : va_D A [(ax 5, .inl (E.2 0, 7, .inl er))] := hD
    replace hq_73 : r_73 = l_sum st0 8 := hq_73
    exact hret r_73 (er) (by rw [hq_73, l_sum_rl hst]; simp [count_]) (rfl) hP hD hS (Nat.le_refl _) (Nat.le_refl _) dX0_count_76
  ·
    refine lv_iload_n hx hb dX0_count_0 rfl (lv_at hl 1 rfl) ?_
    refine lv_tableIn (tgt := 77) (off := 76) hx hb dX0_count_1 (by decide) (by decide) rfl (by decide) ?_
    refine lv_aload_n hx hb dX0_count_77 rfl (lv_at hl 0 rfl) ?_
    refine fx_get X hE (hR.at hS) 0 rfl rfl 2 rfl q237 rfl rfl dX0_count_78 ?_
    refine fx_getN X hE (hR.at hS) 1 rfl rfl 7 rfl 10 rfl rfl rfl dX0_count_81 ?_
    exact hret tp (er) (by simp [count_, n1, n2, n3, n4, n5, n6]) (rfl) hP hD hS (Nat.le_refl _) (Nat.le_refl _) dX0_count_84
  ·
    refine lv_iload_n hx hb dX0_count_0 rfl (lv_at hl 1 rfl) ?_
    refine lv_tableIn (tgt := 85) (off := 84) hx hb dX0_count_1 (by decide) (by decide) rfl (by decide) ?_
    refine lv_aload_n hx hb dX0_count_85 rfl (lv_at hl 0 rfl) ?_
    refine fx_get X hE (hR.at hS) 0 rfl rfl 2 rfl q237 rfl rfl dX0_count_86 ?_
    refine fx_getN X hE (hR.at hS) 1 rfl rfl 8 rfl 11 rfl rfl rfl dX0_count_89 ?_
    exact hret wg (er) (by simp [count_, n1, n2, n3, n4, n5, n6]) (rfl) hP hD hS (Nat.le_refl _) (Nat.le_refl _) dX0_count_92
  ·
    refine lv_iload_n hx hb dX0_count_0 rfl (lv_at hl 1 rfl) ?_
    refine lv_tableIn (tgt := 93) (off := 92) hx hb dX0_count_1 (by decide) (by decide) rfl (by decide) ?_
    refine lv_aload_n hx hb dX0_count_93 rfl (lv_at hl 0 rfl) ?_
    refine fx_get X hE (hR.at hS) 0 rfl rfl 4 rfl q239 rfl rfl dX0_count_94 ?_
    refine fx_getN X hE (hR.at hS) 3 rfl rfl 1 rfl 19 rfl rfl rfl dX0_count_97 ?_
    exact hret (nI tn) (er) (by simp [count_, n1, n2, n3, n4, n5, n6]) (rfl) hP hD hS (Nat.le_refl _) (Nat.le_refl _) dX0_count_100
  ·
    refine lv_iload_n hx hb dX0_count_0 rfl (lv_at hl 1 rfl) ?_
    refine lv_tableIn (tgt := 101) (off := 100) hx hb dX0_count_1 (by decide) (by decide) rfl (by decide) ?_
    refine lv_aload_n hx hb dX0_count_101 rfl (lv_at hl 0 rfl) ?_
    refine fx_get X hE (hR.at hS) 0 rfl rfl 2 rfl q237 rfl rfl dX0_count_102 ?_
    refine fx_getN X hE (hR.at hS) 1 rfl rfl 6 rfl 9 rfl rfl rfl dX0_count_105 ?_
    exact hret zz (er) (by simp [count_, n1, n2, n3, n4, n5, n6]) (rfl) hP hD hS (Nat.le_refl _) (Nat.le_refl _) dX0_count_108
  ·
    have hno8 := cnt8_no hno
    refine lv_iload_n hx hb dX0_count_0 rfl (lv_at hl 1 rfl) ?_
    refine lv_tableOut (tgt := 109) hx hb dX0_count_1 hno (by decide) ?_
    refine lv_aload_n hx hb dX0_count_109 rfl (lv_at hl 0 rfl) ?_
    refine lv_iconst (v := 1) hx hb dX0_count_110 rfl ?_
    refine fx_ci (va_runV (As := [.int 1]) (rest := []) X (xX0_finds l E ax im bn bm fm ff fl er 1 (by decide) _) (cwV 1 X.2.2.2.2 (lw_V q303 q305 qs0 q69 q306) rfl rfl rfl ⟨rfl, hdX0_finds⟩ ⟨Nat.le_of_ble_eq_true rfl, Nat.le_of_ble_eq_true rfl⟩) (fx_preV (fx_pre hE hP hD hS hR [0] rfl rfl (fx_rcr 0 rfl fx_rc0)) (va_recv hE.1 (hR.at hS) (ci := 0) (q0 := 0) rfl rfl)) rfl rfl hl.1 rfl (lv_room (Nat.le_of_ble_eq_true rfl)) dX0_count_111 ⟨Nat.le_refl _, Nat.le_refl _⟩) hP hD hS hA [0] rfl rfl (fun r_111 u H locs hq_111 hP hD hS => ?_)
    replace hP : va_P E.1 clA [(ax 5, .inl (E.2 0, 7, .inl (upd er 1 (er 1 + 1))))] _ := hP
    replace hD : va_D A [(ax 5, .inl (E.2 0, 7, .inl (upd er 1 (er 1 + 1))))] := hD
    replace hq_111 : r_111 = erv 1 := hq_111
    exact hret r_111 ((upd er 1 (er 1 + 1))) (by simp [count_, hq_111, hno8, erI]) (rfl) hP hD hS (Nat.le_refl _) (Nat.le_refl _) dX0_count_114
abbrev rxX0_prices : Room := { frames := 2, cells := 0, slots := 0, locals := 42 }
set_option maxHeartbeats 400000 in
set_option maxRecDepth 100000 in
theorem xX0_prices (l : Launch) (E : fx_En) (ax : Nat → Nat) (im : Int32) (bn : Int32) (bm : Int32) (fm : Int32) (ff : Int32) (fl : Int32) (tk : Int32) (cs : Int32) (gs : Int32) (zz : Int32) (tp : Int32) (wg : Int32) (er : Nat → Int32) (sa : Nat → Int32) (pr : Nat → Int32) (bt : Nat → Int32) (sz : Nat → Int32) (nu : Nat → Int32) (sh : Nat → Option Nat) (PL : va_W) (sheet : Int32) (hpr : rl pr sa 8 8) (hIS : InvS bt sz) (hSH : SHS E PL bt sz nu sh) : fx_Mi l yX0_prices cX0_prices 4 .int rxX0_prices E [.ref (ax 19), .int sheet] [(ax 20, .inl (E.2 0, 8, .inl pr)), (ax 5, .inl (E.2 0, 7, .inl er))] ([(ax 19, .inr (0, [.ref (ax 0), .ref (ax 1), .ref (ax 35), .ref (ax 55), .ref (ax 4), .ref (ax 5), .ref (ax 6), .ref (ax 7), .int im, .ref (ax 9), .ref (ax 10), .ref (ax 11), .ref (ax 12), .ref (ax 13), .int bn, .int bm, .int fm, .int ff, .int fl])), (ax 35, .inr (1, [.ref (ax 20), .ref (ax 21), .ref (ax 22), .int tk, .int cs, .int gs, .int zz, .int tp, .int wg, .ref (ax 29), .ref (ax 30), .ref (ax 31), .ref (ax 32)])), (ax 6, .inl (E.2 3, 4, .inr (.inr (.inr (.inr (fun i_ => some (ax (64 + i_)))))))), (ax 64, .inr (2, [va_rf (sh 0)])), (ax 65, .inr (2, [va_rf (sh 1)])), (ax 66, .inr (2, [va_rf (sh 2)])), (ax 67, .inr (2, [va_rf (sh 3)]))] ++ PL) (S := (Nat → Int32) × (Nat → Int32)) (fun (u : (Nat → Int32) × (Nat → Int32)) => [(ax 20, .inl (E.2 0, 8, .inl u.1)), (ax 5, .inl (E.2 0, 7, .inl u.2))]) (fun (r : Int32) (u : (Nat → Int32) × (Nat → Int32)) => r = (prices_ sa bt sz nu er sheet).1 ∧ u.2 = (prices_ sa bt sz nu er sheet).2.2 ∧ rl u.1 (prices_ sa bt sz nu er sheet).2.1 8 8 ∧ ((prices_ sa bt sz nu er sheet).2.1 = sa ∨ ∃ k c, c ≤ 8 ∧ (prices_ sa bt sz nu er sheet).2.1 = prA sa nu k c)) := by
  refine fx_iW rfl rfl ?_
  intro p e s m args below meth c A ls Q X hE hP hD hR hA hl hret
  have hx := X.1
  have hb := X.2.1
  have hS : va_S A s.heap s.heap [] := va_S.rf
  replace hP : va_P E.1 clA [(ax 20, .inl (E.2 0, 8, .inl pr)), (ax 5, .inl (E.2 0, 7, .inl er))] _ := hP
  replace hD : va_D A [(ax 20, .inl (E.2 0, 8, .inl pr)), (ax 5, .inl (E.2 0, 7, .inl er))] := hD
  replace hl : lv_has ls 4 [(0, .ref (ax 19)), (1, .int sheet)] := hl
  refine lv_iload_n hx hb dX0_prices_0 rfl (lv_at hl 1 rfl) ?_
  refine fx_ci (va_runS (As := [.int sheet]) (rest := []) X (xX0_isSheet l E sheet _) (va_cwS 1 X.2.2.2.2 (lw_S q806 q807 q69 q808) rfl rfl rfl hdX0_isSheet ⟨Nat.le_of_ble_eq_true rfl, Nat.le_of_ble_eq_true rfl⟩) (fx_pre hE hP hD hS hR [] rfl rfl fx_rc0) rfl rfl hl.1 rfl (lv_room (Nat.le_of_ble_eq_true rfl)) dX0_prices_1 ⟨Nat.le_refl _, Nat.le_refl _⟩) hP hD hS hA [] rfl rfl (fun r_1 u H locs hq_1 hP hD hS => ?_)
  replace hP : va_P E.1 clA [(ax 20, .inl (E.2 0, 8, .inl pr)), (ax 5, .inl (E.2 0, 7, .inl er))] _ := hP
  replace hD : va_D A [(ax 20, .inl (E.2 0, 8, .inl pr)), (ax 5, .inl (E.2 0, 7, .inl er))] := hD
  replace hq_1 : r_1 = fx_b (inB sheet 0 3 = true) := hq_1
  rcases fx_bc hq_1 with ⟨hb_1, hr_1⟩ | ⟨hb_1, hr_1⟩
  · -- True
    subst hr_1
    refine lv_if_ne (tgt := 13) hx hb dX0_prices_4 (by decide) (fun _ => ?_) (fun c => absurd c (by decide))
    have gsh := inB_nn (n := 3) hb_1 (by omega)
    have gs1 : nn sheet < 4 := by omega
    have hsh : ((ax (64 + nn sheet), .inr (2, [va_rf (sh (nn sheet))])) : Nat × va_E) ∈ ([(ax 19, .inr (0, [.ref (ax 0), .ref (ax 1), .ref (ax 35), .ref (ax 55), .ref (ax 4), .ref (ax 5), .ref (ax 6), .ref (ax 7), .int im, .ref (ax 9), .ref (ax 10), .ref (ax 11), .ref (ax 12), .ref (ax 13), .int bn, .int bm, .int fm, .int ff, .int fl])), (ax 35, .inr (1, [.ref (ax 20), .ref (ax 21), .ref (ax 22), .int tk, .int cs, .int gs, .int zz, .int tp, .int wg, .ref (ax 29), .ref (ax 30), .ref (ax 31), .ref (ax 32)])), (ax 6, .inl (E.2 3, 4, .inr (.inr (.inr (.inr (fun i_ => some (ax (64 + i_)))))))), (ax 64, .inr (2, [va_rf (sh 0)])), (ax 65, .inr (2, [va_rf (sh 1)])), (ax 66, .inr (2, [va_rf (sh 2)])), (ax 67, .inr (2, [va_rf (sh 3)]))] ++ PL) := by rcases (show nn sheet = 0 ∨ nn sheet = 1 ∨ nn sheet = 2 ∨ nn sheet = 3 by omega) with h | h | h | h <;> rw [h] <;> first | exact List.mem_of_getElem? (i := 3) rfl | exact List.mem_of_getElem? (i := 4) rfl | exact List.mem_of_getElem? (i := 5) rfl | exact List.mem_of_getElem? (i := 6) rfl
    refine lv_aload_n hx hb dX0_prices_13 rfl (lv_at hl 0 rfl) ?_
    refine fx_get X hE (hR.at hS) 0 rfl rfl 6 rfl q241 rfl rfl dX0_prices_14 ?_
    refine lv_iload_n hx hb dX0_prices_17 rfl (lv_at hl 1 rfl) ?_
    refine fx_ti (show sheet = nI (nn sheet) from gsh.1) ?_
    refine fx_aald X hE (hR.at hS) 2 3 rfl rfl (nn sheet) rfl (by omega) rfl (r := some (ax (64 + nn sheet))) (rfl) dX0_prices_18 ?_
    refine fx_getN X hE (fx_one (hR.at hS) hsh) 0 rfl rfl 0 rfl 2 rfl rfl rfl dX0_prices_19 ?_
    rcases hSH (nn sheet) gs1 with ⟨hs0, hb0⟩ | ⟨ra, rf, hs0, hf, ⟨hb0, hrc⟩ | ⟨hb0, hrc⟩ | ⟨hb0, hrc⟩⟩
    ·
      rw [hs0]
      refine lv_astore_nN (lv' := [(2, .null), (0, .ref (ax 19)), (1, .int sheet)]) hx hb dX0_prices_22 rfl hl (by decide) rfl (fun ls hl => ?_)
      refine lv_aload_nN hx hb dX0_prices_23 rfl (lv_at hl 0 rfl) ?_
      refine lv_ifnonnullN hx hb dX0_prices_24 ?_
      refine lv_aload_n hx hb dX0_prices_27 rfl (lv_at hl 1 rfl) ?_
      refine lv_iconst (v := 2) hx hb dX0_prices_28 rfl ?_
      refine fx_ci (va_runV (As := [.int 2]) (rest := []) X (xX0_finds l E ax im bn bm fm ff fl er 2 (by decide) _) (cwV 1 X.2.2.2.2 (lw_V q303 q305 qs0 q69 q306) rfl rfl rfl ⟨rfl, hdX0_finds⟩ ⟨Nat.le_of_ble_eq_true rfl, Nat.le_of_ble_eq_true rfl⟩) (fx_preV (fx_pre hE hP hD hS hR [1] rfl rfl (fx_rcr 0 rfl fx_rc0)) (va_recv hE.1 (hR.at hS) (ci := 0) (q0 := 0) rfl rfl)) rfl rfl hl.1 rfl (lv_room (Nat.le_of_ble_eq_true rfl)) dX0_prices_29 ⟨Nat.le_refl _, Nat.le_refl _⟩) hP hD hS hA [1] rfl rfl (fun r_29 u H locs hq_29 hP hD hS => ?_)
      replace hP : va_P E.1 clA [(ax 20, .inl (E.2 0, 8, .inl pr)), (ax 5, .inl (E.2 0, 7, .inl (upd er 2 (er 2 + 1))))] _ := hP
      replace hD : va_D A [(ax 20, .inl (E.2 0, 8, .inl pr)), (ax 5, .inl (E.2 0, 7, .inl (upd er 2 (er 2 + 1))))] := hD
      replace hq_29 : r_29 = erv 2 := hq_29
      exact hret r_29 (pr, (upd er 2 (er 2 + 1))) (by rw [hq_29]; simp only [prices_, if_pos hb_1, if_pos hb0]; exact ⟨by first | trivial | rfl, by first | trivial | rfl, hpr, Or.inl (by first | trivial | rfl)⟩) (rfl) hP hD hS (Nat.le_refl _) (Nat.le_refl _) dX0_prices_32
    ·
      rw [hs0]
      refine lv_astore_n (lv' := [(2, .ref ra), (0, .ref (ax 19)), (1, .int sheet)]) hx hb dX0_prices_22 rfl hl (by decide) rfl (fun ls hl => ?_)
      refine lv_aload_n hx hb dX0_prices_23 rfl (lv_at hl 0 rfl) ?_
      refine lv_ifnonnull (tgt := 33) hx hb dX0_prices_24 (by decide) ?_
      have hsz := hIS.sz gs1
      have hsz2 := hsz.2
      have hbt : ¬ bt (nn sheet) = 0 := by rw [hb0]; decide
      refine lv_iconst (v := 0) hx hb dX0_prices_33 rfl ?_
      refine lv_istore_n (lv' := [(3, .int 0), (2, .ref ra), (0, .ref (ax 19)), (1, .int sheet)]) hx hb dX0_prices_34 rfl hl (by decide) rfl (fun ls hl => ?_)
      have loop_35 : ∀ (n_35 : Nat) (ca : Nat) (pz : Nat → Int32), (8 - ca < n_35) → (ca ≤ 8) → (∀ t, t < ca → pz t = nu (24 * nn sheet + t)) → (∀ t, ca ≤ t → t < 8 → pz t = pr t) → (∀ q, q < ca → prP sz nu (nn sheet) q = true) → ∀ (H : Heap) (locs : List Loc), va_P E.1 clA [(ax 20, .inl (E.2 0, 8, .inl pz)), (ax 5, .inl (E.2 0, 7, .inl er))] H → va_D A [(ax 20, .inl (E.2 0, 8, .inl pz)), (ax 5, .inl (E.2 0, 7, .inl er))] → va_S A s.heap H locs → ∀ (ls : Array Slot), lv_has ls 4 [(3, .int (nI ca)), (2, .ref ra), (0, .ref (ax 19)), (1, .int sheet)] → W p l e rxX0_prices s m args below meth c H locs 0 0 Q (F0 m 35 ls []) := by
        intro n_35
        induction n_35 with
        | zero => intro ca pz hm_35; exact absurd hm_35 (Nat.not_lt_zero _)
        | succ n_35 ih_35 =>
          intro ca pz hm_35 hca h1 h2 hall H locs hP hD hS ls hl
          refine lv_iload_n hx hb dX0_prices_35 rfl (lv_at hl 0 rfl) ?_
          refine lv_aload_n hx hb dX0_prices_36 rfl (lv_at hl 1 rfl) ?_
          refine fx_ci (va_runS (As := [.ref ra]) (rest := [.int (nI ca)]) X (xX0_sizeOfB l E ra (nn (sz (nn sheet))) rf _) (va_cwS 1 X.2.2.2.2 (lw_S q813 q814 q69 q815) rfl rfl rfl hdX0_sizeOf ⟨Nat.le_of_ble_eq_true rfl, Nat.le_of_ble_eq_true rfl⟩) (fx_pre hE hP hD hS hR [] rfl rfl (fx_rcx ((List.mem_append_right _ hrc)) fx_rc0)) rfl rfl hl.1 rfl (lv_room (Nat.le_of_ble_eq_true rfl)) dX0_prices_37 ⟨Nat.le_refl _, Nat.le_refl _⟩) hP hD hS hA [] rfl rfl (fun r_37 u H locs hq_37 hP hD hS => ?_)
          replace hP : va_P E.1 clA [(ax 20, .inl (E.2 0, 8, .inl pz)), (ax 5, .inl (E.2 0, 7, .inl er))] _ := hP
          replace hD : va_D A [(ax 20, .inl (E.2 0, 8, .inl pz)), (ax 5, .inl (E.2 0, 7, .inl er))] := hD
          replace hq_37 : r_37 = nI (nn (sz (nn sheet))) := hq_37
          refine fx_ti (show r_37 = nI (nn (sz (nn sheet))) from hq_37) ?_
          refine lv_icmp_ge (tgt := 84) hx hb dX0_prices_40 (by decide) (fun c_40 => ?_) (fun c_40 => ?_)
          · -- jump 84
            have n_40 := fx_le1 (a := (nn (sz (nn sheet)))) (b := ca) c_40 (by omega) (by omega)
            have hL := ldN_stop hall (by rw [prP, decide_eq_false (by omega), Bool.false_and]) 8 hca
            refine lv_iload_n hx hb dX0_prices_84 rfl (lv_at hl 0 rfl) ?_
            exact hret (nI ca) (pz, er) (by simp only [prices_, if_pos hb_1, if_neg hbt, hL]; exact ⟨by first | trivial | rfl, by first | trivial | rfl, prA_pr h1 h2 hpr (by omega), Or.inr ⟨_, _, by omega, rfl⟩⟩) (rfl) hP hD hS (Nat.le_refl _) (Nat.le_refl _) dX0_prices_85
          · -- fall 43
            have n_40 := fx_le0 (a := (nn (sz (nn sheet)))) (b := ca) c_40 (by omega) (by omega)
            refine lv_iload_n hx hb dX0_prices_43 rfl (lv_at hl 0 rfl) ?_
            refine lv_bipush (v := 8) hx hb dX0_prices_44 rfl ?_
            refine lv_icmp_ge (tgt := 84) hx hb dX0_prices_46 (by decide) (fun c_46 => ?_) (fun c_46 => ?_)
            · -- jump 84
              have n_46 := fx_le1 (a := 8) (b := ca) c_46 (by omega) (by omega)
              obtain rfl : ca = 8 := by omega
              have hL := ldN_all hall
              refine lv_iload_n hx hb dX0_prices_84 rfl (lv_at hl 0 rfl) ?_
              exact hret (nI 8) (pz, er) (by simp only [prices_, if_pos hb_1, if_neg hbt, hL]; exact ⟨by first | trivial | rfl, by first | trivial | rfl, prA_pr h1 h2 hpr (by omega), Or.inr ⟨_, _, by omega, rfl⟩⟩) (rfl) hP hD hS (Nat.le_refl _) (Nat.le_refl _) dX0_prices_85
            · -- fall 49
              have n_46 := fx_le0 (a := 8) (b := ca) c_46 (by omega) (by omega)
              refine lv_aload_n hx hb dX0_prices_49 rfl (lv_at hl 1 rfl) ?_
              refine lv_iload_n hx hb dX0_prices_50 rfl (lv_at hl 0 rfl) ?_
              refine fx_ci (va_runS (As := [.ref ra, .int (nI ca)]) (rest := []) X (xX0_numberOfB l E ra (nn (sz (nn sheet))) rf ca n_40 hsz2 _) (va_cwS 2 X.2.2.2.2 (lw_S q819 q820 q69 q821) rfl rfl rfl hdX0_numberOf ⟨Nat.le_of_ble_eq_true rfl, Nat.le_of_ble_eq_true rfl⟩) (fx_pre hE hP hD hS hR [] rfl rfl (fx_rcx ((List.mem_append_right _ hrc)) fx_rc0)) rfl rfl hl.1 rfl (lv_room (Nat.le_of_ble_eq_true rfl)) dX0_prices_51 ⟨Nat.le_refl _, Nat.le_refl _⟩) hP hD hS hA [] rfl rfl (fun r_51 u H locs hq_51 hP hD hS => ?_)
              replace hP : va_P E.1 clA [(ax 20, .inl (E.2 0, 8, .inl pz)), (ax 5, .inl (E.2 0, 7, .inl er))] _ := hP
              replace hD : va_D A [(ax 20, .inl (E.2 0, 8, .inl pz)), (ax 5, .inl (E.2 0, 7, .inl er))] := hD
              replace hq_51 : r_51 = rf ca := hq_51
              refine fx_ti (show r_51 = (nu (24 * nn sheet + ca)) from hq_51.trans (hf ca n_40)) ?_
              refine lv_iconst (v := 1) hx hb dX0_prices_54 rfl ?_
              refine lv_sipush (v := 9999) hx hb dX0_prices_55 rfl ?_
              refine fx_ci (va_runS (As := [.int (nu (24 * nn sheet + ca)), .int 1, .int 9999]) (rest := []) X (xX0_isIn l E (nu (24 * nn sheet + ca)) 1 9999 _) (va_cwS 3 X.2.2.2.2 (lw_S q300 q301 q69 q302) rfl rfl rfl hdX0_isIn ⟨Nat.le_of_ble_eq_true rfl, Nat.le_of_ble_eq_true rfl⟩) (fx_pre hE hP hD hS hR [] rfl rfl fx_rc0) rfl rfl hl.1 rfl (lv_room (Nat.le_of_ble_eq_true rfl)) dX0_prices_58 ⟨Nat.le_refl _, Nat.le_refl _⟩) hP hD hS hA [] rfl rfl (fun r_58 u H locs hq_58 hP hD hS => ?_)
              replace hP : va_P E.1 clA [(ax 20, .inl (E.2 0, 8, .inl pz)), (ax 5, .inl (E.2 0, 7, .inl er))] _ := hP
              replace hD : va_D A [(ax 20, .inl (E.2 0, 8, .inl pz)), (ax 5, .inl (E.2 0, 7, .inl er))] := hD
              replace hq_58 : r_58 = fx_b (inB (nu (24 * nn sheet + ca)) 1 9999 = true) := hq_58
              rcases fx_bc hq_58 with ⟨hb_58, hr_58⟩ | ⟨hb_58, hr_58⟩
              · -- True
                subst hr_58
                have hb_58b : inB (nu (24 * nn sheet + ca)) 1 9999 = true := hb_58
                refine lv_if_eq (tgt := 84) hx hb dX0_prices_61 (by decide) (fun c => absurd c (by decide)) (fun _ => ?_)
                refine lv_aload_n hx hb dX0_prices_64 rfl (lv_at hl 2 rfl) ?_
                refine fx_get X hE (hR.at hS) 0 rfl rfl 2 rfl q237 rfl rfl dX0_prices_65 ?_
                refine fx_getN X hE (hR.at hS) 1 rfl rfl 0 rfl 3 rfl rfl rfl dX0_prices_68 ?_
                refine lv_iload_n hx hb dX0_prices_71 rfl (lv_at hl 0 rfl) ?_
                refine lv_aload_n hx hb dX0_prices_72 rfl (lv_at hl 1 rfl) ?_
                refine lv_iload_n hx hb dX0_prices_73 rfl (lv_at hl 0 rfl) ?_
                refine fx_ci (va_runS (As := [.ref ra, .int (nI ca)]) (rest := [.int (nI ca), .ref (ax 20)]) X (xX0_numberOfB l E ra (nn (sz (nn sheet))) rf ca n_40 hsz2 _) (va_cwS 2 X.2.2.2.2 (lw_S q819 q820 q69 q821) rfl rfl rfl hdX0_numberOf ⟨Nat.le_of_ble_eq_true rfl, Nat.le_of_ble_eq_true rfl⟩) (fx_pre hE hP hD hS hR [] rfl rfl (fx_rcx ((List.mem_append_right _ hrc)) fx_rc0)) rfl rfl hl.1 rfl (lv_room (Nat.le_of_ble_eq_true rfl)) dX0_prices_74 ⟨Nat.le_refl _, Nat.le_refl _⟩) hP hD hS hA [] rfl rfl (fun r_74 u H locs hq_74 hP hD hS => ?_)
                replace hP : va_P E.1 clA [(ax 20, .inl (E.2 0, 8, .inl pz)), (ax 5, .inl (E.2 0, 7, .inl er))] _ := hP
                replace hD : va_D A [(ax 20, .inl (E.2 0, 8, .inl pz)), (ax 5, .inl (E.2 0, 7, .inl er))] := hD
                replace hq_74 : r_74 = rf ca := hq_74
                refine fx_iast (ws' := [(ax 20, .inl (E.2 0, 8, .inl (upd pz ca r_74))), (ax 5, .inl (E.2 0, 7, .inl er))]) X hE hP hD hS 0 rfl ca rfl (by omega) rfl rfl dX0_prices_77 (fun H locs hP hD hS => ?_)
                refine lv_iinc (v := nI (ca + 1)) (lv' := [(3, .int (nI (ca + 1))), (2, .ref ra), (0, .ref (ax 19)), (1, .int sheet)]) hx hb dX0_prices_78 hl (k := 0) rfl (fx_inc _) (by decide) rfl (fun ls hl => ?_)
                refine lv_goto (tgt := 35) hx hb dX0_prices_81 (by decide) ?_
                exact ih_35 (ca + 1) (upd pz ca r_74) (by omega) (by omega) (ext_s (f := fun t => nu (24 * nn sheet + t)) h1 (hq_74.trans (hf ca n_40))) (fun t ht ht2 => (upd_n _ _ (by omega)).trans (h2 t (by omega) ht2)) (fun q hq => by rcases Nat.lt_or_ge q ca with z | z; exact hall q z; rw [show q = ca by omega, prP, hb_58b, Bool.and_true]; exact decide_eq_true n_40) _ _ hP hD hS ls (lv_sub hl [0, 1, 2, 3] rfl)
              · -- False
                subst hr_58
                have hL := ldN_stop hall (by rw [prP, Bool.eq_false_iff.2 hb_58, Bool.and_false]) 8 hca
                refine lv_if_eq (tgt := 84) hx hb dX0_prices_61 (by decide) (fun _ => ?_) (fun c => (c (by decide)).elim)
                refine lv_iload_n hx hb dX0_prices_84 rfl (lv_at hl 0 rfl) ?_
                exact hret (nI ca) (pz, er) (by simp only [prices_, if_pos hb_1, if_neg hbt, hL]; exact ⟨by first | trivial | rfl, by first | trivial | rfl, prA_pr h1 h2 hpr (by omega), Or.inr ⟨_, _, by omega, rfl⟩⟩) (rfl) hP hD hS (Nat.le_refl _) (Nat.le_refl _) dX0_prices_85
      exact loop_35 ((8 - 0) + 1) 0 pr (Nat.lt_succ_self _) (by omega) (fun q hq => absurd hq (Nat.not_lt_zero _)) (fun t _ _ => rfl) (fun q hq => absurd hq (Nat.not_lt_zero _)) _ _ hP hD hS ls (lv_sub hl [0, 1, 2, 3] rfl)
    ·
      rw [hs0]
      refine lv_astore_n (lv' := [(2, .ref ra), (0, .ref (ax 19)), (1, .int sheet)]) hx hb dX0_prices_22 rfl hl (by decide) rfl (fun ls hl => ?_)
      refine lv_aload_n hx hb dX0_prices_23 rfl (lv_at hl 0 rfl) ?_
      refine lv_ifnonnull (tgt := 33) hx hb dX0_prices_24 (by decide) ?_
      have hsz := hIS.sz gs1
      have hsz2 := hsz.2
      have hbt : ¬ bt (nn sheet) = 0 := by rw [hb0]; decide
      refine lv_iconst (v := 0) hx hb dX0_prices_33 rfl ?_
      refine lv_istore_n (lv' := [(3, .int 0), (2, .ref ra), (0, .ref (ax 19)), (1, .int sheet)]) hx hb dX0_prices_34 rfl hl (by decide) rfl (fun ls hl => ?_)
      have loop_35 : ∀ (n_35 : Nat) (ca : Nat) (pz : Nat → Int32), (8 - ca < n_35) → (ca ≤ 8) → (∀ t, t < ca → pz t = nu (24 * nn sheet + t)) → (∀ t, ca ≤ t → t < 8 → pz t = pr t) → (∀ q, q < ca → prP sz nu (nn sheet) q = true) → ∀ (H : Heap) (locs : List Loc), va_P E.1 clA [(ax 20, .inl (E.2 0, 8, .inl pz)), (ax 5, .inl (E.2 0, 7, .inl er))] H → va_D A [(ax 20, .inl (E.2 0, 8, .inl pz)), (ax 5, .inl (E.2 0, 7, .inl er))] → va_S A s.heap H locs → ∀ (ls : Array Slot), lv_has ls 4 [(3, .int (nI ca)), (2, .ref ra), (0, .ref (ax 19)), (1, .int sheet)] → W p l e rxX0_prices s m args below meth c H locs 0 0 Q (F0 m 35 ls []) := by
        intro n_35
        induction n_35 with
        | zero => intro ca pz hm_35; exact absurd hm_35 (Nat.not_lt_zero _)
        | succ n_35 ih_35 =>
          intro ca pz hm_35 hca h1 h2 hall H locs hP hD hS ls hl
          refine lv_iload_n hx hb dX0_prices_35 rfl (lv_at hl 0 rfl) ?_
          refine lv_aload_n hx hb dX0_prices_36 rfl (lv_at hl 1 rfl) ?_
          refine fx_ci (va_runS (As := [.ref ra]) (rest := [.int (nI ca)]) X (xX0_sizeOfS l E ra (nn (sz (nn sheet))) rf _) (va_cwS 1 X.2.2.2.2 (lw_S q813 q814 q69 q815) rfl rfl rfl hdX0_sizeOf ⟨Nat.le_of_ble_eq_true rfl, Nat.le_of_ble_eq_true rfl⟩) (fx_pre hE hP hD hS hR [] rfl rfl (fx_rcx ((List.mem_append_right _ hrc)) fx_rc0)) rfl rfl hl.1 rfl (lv_room (Nat.le_of_ble_eq_true rfl)) dX0_prices_37 ⟨Nat.le_refl _, Nat.le_refl _⟩) hP hD hS hA [] rfl rfl (fun r_37 u H locs hq_37 hP hD hS => ?_)
          replace hP : va_P E.1 clA [(ax 20, .inl (E.2 0, 8, .inl pz)), (ax 5, .inl (E.2 0, 7, .inl er))] _ := hP
          replace hD : va_D A [(ax 20, .inl (E.2 0, 8, .inl pz)), (ax 5, .inl (E.2 0, 7, .inl er))] := hD
          replace hq_37 : r_37 = nI (nn (sz (nn sheet))) := hq_37
          refine fx_ti (show r_37 = nI (nn (sz (nn sheet))) from hq_37) ?_
          refine lv_icmp_ge (tgt := 84) hx hb dX0_prices_40 (by decide) (fun c_40 => ?_) (fun c_40 => ?_)
          · -- jump 84
            have n_40 := fx_le1 (a := (nn (sz (nn sheet)))) (b := ca) c_40 (by omega) (by omega)
            have hL := ldN_stop hall (by rw [prP, decide_eq_false (by omega), Bool.false_and]) 8 hca
            refine lv_iload_n hx hb dX0_prices_84 rfl (lv_at hl 0 rfl) ?_
            exact hret (nI ca) (pz, er) (by simp only [prices_, if_pos hb_1, if_neg hbt, hL]; exact ⟨by first | trivial | rfl, by first | trivial | rfl, prA_pr h1 h2 hpr (by omega), Or.inr ⟨_, _, by omega, rfl⟩⟩) (rfl) hP hD hS (Nat.le_refl _) (Nat.le_refl _) dX0_prices_85
          · -- fall 43
            have n_40 := fx_le0 (a := (nn (sz (nn sheet)))) (b := ca) c_40 (by omega) (by omega)
            refine lv_iload_n hx hb dX0_prices_43 rfl (lv_at hl 0 rfl) ?_
            refine lv_bipush (v := 8) hx hb dX0_prices_44 rfl ?_
            refine lv_icmp_ge (tgt := 84) hx hb dX0_prices_46 (by decide) (fun c_46 => ?_) (fun c_46 => ?_)
            · -- jump 84
              have n_46 := fx_le1 (a := 8) (b := ca) c_46 (by omega) (by omega)
              obtain rfl : ca = 8 := by omega
              have hL := ldN_all hall
              refine lv_iload_n hx hb dX0_prices_84 rfl (lv_at hl 0 rfl) ?_
              exact hret (nI 8) (pz, er) (by simp only [prices_, if_pos hb_1, if_neg hbt, hL]; exact ⟨by first | trivial | rfl, by first | trivial | rfl, prA_pr h1 h2 hpr (by omega), Or.inr ⟨_, _, by omega, rfl⟩⟩) (rfl) hP hD hS (Nat.le_refl _) (Nat.le_refl _) dX0_prices_85
            · -- fall 49
              have n_46 := fx_le0 (a := 8) (b := ca) c_46 (by omega) (by omega)
              refine lv_aload_n hx hb dX0_prices_49 rfl (lv_at hl 1 rfl) ?_
              refine lv_iload_n hx hb dX0_prices_50 rfl (lv_at hl 0 rfl) ?_
              refine fx_ci (va_runS (As := [.ref ra, .int (nI ca)]) (rest := []) X (xX0_numberOfS l E ra (nn (sz (nn sheet))) rf ca n_40 hsz2 _) (va_cwS 2 X.2.2.2.2 (lw_S q819 q820 q69 q821) rfl rfl rfl hdX0_numberOf ⟨Nat.le_of_ble_eq_true rfl, Nat.le_of_ble_eq_true rfl⟩) (fx_pre hE hP hD hS hR [] rfl rfl (fx_rcx ((List.mem_append_right _ hrc)) fx_rc0)) rfl rfl hl.1 rfl (lv_room (Nat.le_of_ble_eq_true rfl)) dX0_prices_51 ⟨Nat.le_refl _, Nat.le_refl _⟩) hP hD hS hA [] rfl rfl (fun r_51 u H locs hq_51 hP hD hS => ?_)
              replace hP : va_P E.1 clA [(ax 20, .inl (E.2 0, 8, .inl pz)), (ax 5, .inl (E.2 0, 7, .inl er))] _ := hP
              replace hD : va_D A [(ax 20, .inl (E.2 0, 8, .inl pz)), (ax 5, .inl (E.2 0, 7, .inl er))] := hD
              replace hq_51 : r_51 = rf ca := hq_51
              refine fx_ti (show r_51 = (nu (24 * nn sheet + ca)) from hq_51.trans (hf ca n_40)) ?_
              refine lv_iconst (v := 1) hx hb dX0_prices_54 rfl ?_
              refine lv_sipush (v := 9999) hx hb dX0_prices_55 rfl ?_
              refine fx_ci (va_runS (As := [.int (nu (24 * nn sheet + ca)), .int 1, .int 9999]) (rest := []) X (xX0_isIn l E (nu (24 * nn sheet + ca)) 1 9999 _) (va_cwS 3 X.2.2.2.2 (lw_S q300 q301 q69 q302) rfl rfl rfl hdX0_isIn ⟨Nat.le_of_ble_eq_true rfl, Nat.le_of_ble_eq_true rfl⟩) (fx_pre hE hP hD hS hR [] rfl rfl fx_rc0) rfl rfl hl.1 rfl (lv_room (Nat.le_of_ble_eq_true rfl)) dX0_prices_58 ⟨Nat.le_refl _, Nat.le_refl _⟩) hP hD hS hA [] rfl rfl (fun r_58 u H locs hq_58 hP hD hS => ?_)
              replace hP : va_P E.1 clA [(ax 20, .inl (E.2 0, 8, .inl pz)), (ax 5, .inl (E.2 0, 7, .inl er))] _ := hP
              replace hD : va_D A [(ax 20, .inl (E.2 0, 8, .inl pz)), (ax 5, .inl (E.2 0, 7, .inl er))] := hD
              replace hq_58 : r_58 = fx_b (inB (nu (24 * nn sheet + ca)) 1 9999 = true) := hq_58
              rcases fx_bc hq_58 with ⟨hb_58, hr_58⟩ | ⟨hb_58, hr_58⟩
              · -- True
                subst hr_58
                have hb_58b : inB (nu (24 * nn sheet + ca)) 1 9999 = true := hb_58
                refine lv_if_eq (tgt := 84) hx hb dX0_prices_61 (by decide) (fun c => absurd c (by decide)) (fun _ => ?_)
                refine lv_aload_n hx hb dX0_prices_64 rfl (lv_at hl 2 rfl) ?_
                refine fx_get X hE (hR.at hS) 0 rfl rfl 2 rfl q237 rfl rfl dX0_prices_65 ?_
                refine fx_getN X hE (hR.at hS) 1 rfl rfl 0 rfl 3 rfl rfl rfl dX0_prices_68 ?_
                refine lv_iload_n hx hb dX0_prices_71 rfl (lv_at hl 0 rfl) ?_
                refine lv_aload_n hx hb dX0_prices_72 rfl (lv_at hl 1 rfl) ?_
                refine lv_iload_n hx hb dX0_prices_73 rfl (lv_at hl 0 rfl) ?_
                refine fx_ci (va_runS (As := [.ref ra, .int (nI ca)]) (rest := [.int (nI ca), .ref (ax 20)]) X (xX0_numberOfS l E ra (nn (sz (nn sheet))) rf ca n_40 hsz2 _) (va_cwS 2 X.2.2.2.2 (lw_S q819 q820 q69 q821) rfl rfl rfl hdX0_numberOf ⟨Nat.le_of_ble_eq_true rfl, Nat.le_of_ble_eq_true rfl⟩) (fx_pre hE hP hD hS hR [] rfl rfl (fx_rcx ((List.mem_append_right _ hrc)) fx_rc0)) rfl rfl hl.1 rfl (lv_room (Nat.le_of_ble_eq_true rfl)) dX0_prices_74 ⟨Nat.le_refl _, Nat.le_refl _⟩) hP hD hS hA [] rfl rfl (fun r_74 u H locs hq_74 hP hD hS => ?_)
                replace hP : va_P E.1 clA [(ax 20, .inl (E.2 0, 8, .inl pz)), (ax 5, .inl (E.2 0, 7, .inl er))] _ := hP
                replace hD : va_D A [(ax 20, .inl (E.2 0, 8, .inl pz)), (ax 5, .inl (E.2 0, 7, .inl er))] := hD
                replace hq_74 : r_74 = rf ca := hq_74
                refine fx_iast (ws' := [(ax 20, .inl (E.2 0, 8, .inl (upd pz ca r_74))), (ax 5, .inl (E.2 0, 7, .inl er))]) X hE hP hD hS 0 rfl ca rfl (by omega) rfl rfl dX0_prices_77 (fun H locs hP hD hS => ?_)
                refine lv_iinc (v := nI (ca + 1)) (lv' := [(3, .int (nI (ca + 1))), (2, .ref ra), (0, .ref (ax 19)), (1, .int sheet)]) hx hb dX0_prices_78 hl (k := 0) rfl (fx_inc _) (by decide) rfl (fun ls hl => ?_)
                refine lv_goto (tgt := 35) hx hb dX0_prices_81 (by decide) ?_
                exact ih_35 (ca + 1) (upd pz ca r_74) (by omega) (by omega) (ext_s (f := fun t => nu (24 * nn sheet + t)) h1 (hq_74.trans (hf ca n_40))) (fun t ht ht2 => (upd_n _ _ (by omega)).trans (h2 t (by omega) ht2)) (fun q hq => by rcases Nat.lt_or_ge q ca with z | z; exact hall q z; rw [show q = ca by omega, prP, hb_58b, Bool.and_true]; exact decide_eq_true n_40) _ _ hP hD hS ls (lv_sub hl [0, 1, 2, 3] rfl)
              · -- False
                subst hr_58
                have hL := ldN_stop hall (by rw [prP, Bool.eq_false_iff.2 hb_58, Bool.and_false]) 8 hca
                refine lv_if_eq (tgt := 84) hx hb dX0_prices_61 (by decide) (fun _ => ?_) (fun c => (c (by decide)).elim)
                refine lv_iload_n hx hb dX0_prices_84 rfl (lv_at hl 0 rfl) ?_
                exact hret (nI ca) (pz, er) (by simp only [prices_, if_pos hb_1, if_neg hbt, hL]; exact ⟨by first | trivial | rfl, by first | trivial | rfl, prA_pr h1 h2 hpr (by omega), Or.inr ⟨_, _, by omega, rfl⟩⟩) (rfl) hP hD hS (Nat.le_refl _) (Nat.le_refl _) dX0_prices_85
      exact loop_35 ((8 - 0) + 1) 0 pr (Nat.lt_succ_self _) (by omega) (fun q hq => absurd hq (Nat.not_lt_zero _)) (fun t _ _ => rfl) (fun q hq => absurd hq (Nat.not_lt_zero _)) _ _ hP hD hS ls (lv_sub hl [0, 1, 2, 3] rfl)
    ·
      rw [hs0]
      refine lv_astore_n (lv' := [(2, .ref ra), (0, .ref (ax 19)), (1, .int sheet)]) hx hb dX0_prices_22 rfl hl (by decide) rfl (fun ls hl => ?_)
      refine lv_aload_n hx hb dX0_prices_23 rfl (lv_at hl 0 rfl) ?_
      refine lv_ifnonnull (tgt := 33) hx hb dX0_prices_24 (by decide) ?_
      have hsz := hIS.sz gs1
      have hsz2 := hsz.2
      have hbt : ¬ bt (nn sheet) = 0 := by rw [hb0]; decide
      refine lv_iconst (v := 0) hx hb dX0_prices_33 rfl ?_
      refine lv_istore_n (lv' := [(3, .int 0), (2, .ref ra), (0, .ref (ax 19)), (1, .int sheet)]) hx hb dX0_prices_34 rfl hl (by decide) rfl (fun ls hl => ?_)
      have loop_35 : ∀ (n_35 : Nat) (ca : Nat) (pz : Nat → Int32), (8 - ca < n_35) → (ca ≤ 8) → (∀ t, t < ca → pz t = nu (24 * nn sheet + t)) → (∀ t, ca ≤ t → t < 8 → pz t = pr t) → (∀ q, q < ca → prP sz nu (nn sheet) q = true) → ∀ (H : Heap) (locs : List Loc), va_P E.1 clA [(ax 20, .inl (E.2 0, 8, .inl pz)), (ax 5, .inl (E.2 0, 7, .inl er))] H → va_D A [(ax 20, .inl (E.2 0, 8, .inl pz)), (ax 5, .inl (E.2 0, 7, .inl er))] → va_S A s.heap H locs → ∀ (ls : Array Slot), lv_has ls 4 [(3, .int (nI ca)), (2, .ref ra), (0, .ref (ax 19)), (1, .int sheet)] → W p l e rxX0_prices s m args below meth c H locs 0 0 Q (F0 m 35 ls []) := by
        intro n_35
        induction n_35 with
        | zero => intro ca pz hm_35; exact absurd hm_35 (Nat.not_lt_zero _)
        | succ n_35 ih_35 =>
          intro ca pz hm_35 hca h1 h2 hall H locs hP hD hS ls hl
          refine lv_iload_n hx hb dX0_prices_35 rfl (lv_at hl 0 rfl) ?_
          refine lv_aload_n hx hb dX0_prices_36 rfl (lv_at hl 1 rfl) ?_
          refine fx_ci (va_runS (As := [.ref ra]) (rest := [.int (nI ca)]) X (xX0_sizeOfI l E ra (nn (sz (nn sheet))) rf _) (va_cwS 1 X.2.2.2.2 (lw_S q813 q814 q69 q815) rfl rfl rfl hdX0_sizeOf ⟨Nat.le_of_ble_eq_true rfl, Nat.le_of_ble_eq_true rfl⟩) (fx_pre hE hP hD hS hR [] rfl rfl (fx_rcx ((List.mem_append_right _ hrc)) fx_rc0)) rfl rfl hl.1 rfl (lv_room (Nat.le_of_ble_eq_true rfl)) dX0_prices_37 ⟨Nat.le_refl _, Nat.le_refl _⟩) hP hD hS hA [] rfl rfl (fun r_37 u H locs hq_37 hP hD hS => ?_)
          replace hP : va_P E.1 clA [(ax 20, .inl (E.2 0, 8, .inl pz)), (ax 5, .inl (E.2 0, 7, .inl er))] _ := hP
          replace hD : va_D A [(ax 20, .inl (E.2 0, 8, .inl pz)), (ax 5, .inl (E.2 0, 7, .inl er))] := hD
          replace hq_37 : r_37 = nI (nn (sz (nn sheet))) := hq_37
          refine fx_ti (show r_37 = nI (nn (sz (nn sheet))) from hq_37) ?_
          refine lv_icmp_ge (tgt := 84) hx hb dX0_prices_40 (by decide) (fun c_40 => ?_) (fun c_40 => ?_)
          · -- jump 84
            have n_40 := fx_le1 (a := (nn (sz (nn sheet)))) (b := ca) c_40 (by omega) (by omega)
            have hL := ldN_stop hall (by rw [prP, decide_eq_false (by omega), Bool.false_and]) 8 hca
            refine lv_iload_n hx hb dX0_prices_84 rfl (lv_at hl 0 rfl) ?_
            exact hret (nI ca) (pz, er) (by simp only [prices_, if_pos hb_1, if_neg hbt, hL]; exact ⟨by first | trivial | rfl, by first | trivial | rfl, prA_pr h1 h2 hpr (by omega), Or.inr ⟨_, _, by omega, rfl⟩⟩) (rfl) hP hD hS (Nat.le_refl _) (Nat.le_refl _) dX0_prices_85
          · -- fall 43
            have n_40 := fx_le0 (a := (nn (sz (nn sheet)))) (b := ca) c_40 (by omega) (by omega)
            refine lv_iload_n hx hb dX0_prices_43 rfl (lv_at hl 0 rfl) ?_
            refine lv_bipush (v := 8) hx hb dX0_prices_44 rfl ?_
            refine lv_icmp_ge (tgt := 84) hx hb dX0_prices_46 (by decide) (fun c_46 => ?_) (fun c_46 => ?_)
            · -- jump 84
              have n_46 := fx_le1 (a := 8) (b := ca) c_46 (by omega) (by omega)
              obtain rfl : ca = 8 := by omega
              have hL := ldN_all hall
              refine lv_iload_n hx hb dX0_prices_84 rfl (lv_at hl 0 rfl) ?_
              exact hret (nI 8) (pz, er) (by simp only [prices_, if_pos hb_1, if_neg hbt, hL]; exact ⟨by first | trivial | rfl, by first | trivial | rfl, prA_pr h1 h2 hpr (by omega), Or.inr ⟨_, _, by omega, rfl⟩⟩) (rfl) hP hD hS (Nat.le_refl _) (Nat.le_refl _) dX0_prices_85
            · -- fall 49
              have n_46 := fx_le0 (a := 8) (b := ca) c_46 (by omega) (by omega)
              refine lv_aload_n hx hb dX0_prices_49 rfl (lv_at hl 1 rfl) ?_
              refine lv_iload_n hx hb dX0_prices_50 rfl (lv_at hl 0 rfl) ?_
              refine fx_ci (va_runS (As := [.ref ra, .int (nI ca)]) (rest := []) X (xX0_numberOfI l E ra (nn (sz (nn sheet))) rf ca n_40 hsz2 _) (va_cwS 2 X.2.2.2.2 (lw_S q819 q820 q69 q821) rfl rfl rfl hdX0_numberOf ⟨Nat.le_of_ble_eq_true rfl, Nat.le_of_ble_eq_true rfl⟩) (fx_pre hE hP hD hS hR [] rfl rfl (fx_rcx ((List.mem_append_right _ hrc)) fx_rc0)) rfl rfl hl.1 rfl (lv_room (Nat.le_of_ble_eq_true rfl)) dX0_prices_51 ⟨Nat.le_refl _, Nat.le_refl _⟩) hP hD hS hA [] rfl rfl (fun r_51 u H locs hq_51 hP hD hS => ?_)
              replace hP : va_P E.1 clA [(ax 20, .inl (E.2 0, 8, .inl pz)), (ax 5, .inl (E.2 0, 7, .inl er))] _ := hP
              replace hD : va_D A [(ax 20, .inl (E.2 0, 8, .inl pz)), (ax 5, .inl (E.2 0, 7, .inl er))] := hD
              replace hq_51 : r_51 = rf ca := hq_51
              refine fx_ti (show r_51 = (nu (24 * nn sheet + ca)) from hq_51.trans (hf ca n_40)) ?_
              refine lv_iconst (v := 1) hx hb dX0_prices_54 rfl ?_
              refine lv_sipush (v := 9999) hx hb dX0_prices_55 rfl ?_
              refine fx_ci (va_runS (As := [.int (nu (24 * nn sheet + ca)), .int 1, .int 9999]) (rest := []) X (xX0_isIn l E (nu (24 * nn sheet + ca)) 1 9999 _) (va_cwS 3 X.2.2.2.2 (lw_S q300 q301 q69 q302) rfl rfl rfl hdX0_isIn ⟨Nat.le_of_ble_eq_true rfl, Nat.le_of_ble_eq_true rfl⟩) (fx_pre hE hP hD hS hR [] rfl rfl fx_rc0) rfl rfl hl.1 rfl (lv_room (Nat.le_of_ble_eq_true rfl)) dX0_prices_58 ⟨Nat.le_refl _, Nat.le_refl _⟩) hP hD hS hA [] rfl rfl (fun r_58 u H locs hq_58 hP hD hS => ?_)
              replace hP : va_P E.1 clA [(ax 20, .inl (E.2 0, 8, .inl pz)), (ax 5, .inl (E.2 0, 7, .inl er))] _ := hP
              replace hD : va_D A [(ax 20, .inl (E.2 0, 8, .inl pz)), (ax 5, .inl (E.2 0, 7, .inl er))] := hD
              replace hq_58 : r_58 = fx_b (inB (nu (24 * nn sheet + ca)) 1 9999 = true) := hq_58
              rcases fx_bc hq_58 with ⟨hb_58, hr_58⟩ | ⟨hb_58, hr_58⟩
              · -- True
                subst hr_58
                have hb_58b : inB (nu (24 * nn sheet + ca)) 1 9999 = true := hb_58
                refine lv_if_eq (tgt := 84) hx hb dX0_prices_61 (by decide) (fun c => absurd c (by decide)) (fun _ => ?_)
                refine lv_aload_n hx hb dX0_prices_64 rfl (lv_at hl 2 rfl) ?_
                refine fx_get X hE (hR.at hS) 0 rfl rfl 2 rfl q237 rfl rfl dX0_prices_65 ?_
                refine fx_getN X hE (hR.at hS) 1 rfl rfl 0 rfl 3 rfl rfl rfl dX0_prices_68 ?_
                refine lv_iload_n hx hb dX0_prices_71 rfl (lv_at hl 0 rfl) ?_
                refine lv_aload_n hx hb dX0_prices_72 rfl (lv_at hl 1 rfl) ?_
                refine lv_iload_n hx hb dX0_prices_73 rfl (lv_at hl 0 rfl) ?_
                refine fx_ci (va_runS (As := [.ref ra, .int (nI ca)]) (rest := [.int (nI ca), .ref (ax 20)]) X (xX0_numberOfI l E ra (nn (sz (nn sheet))) rf ca n_40 hsz2 _) (va_cwS 2 X.2.2.2.2 (lw_S q819 q820 q69 q821) rfl rfl rfl hdX0_numberOf ⟨Nat.le_of_ble_eq_true rfl, Nat.le_of_ble_eq_true rfl⟩) (fx_pre hE hP hD hS hR [] rfl rfl (fx_rcx ((List.mem_append_right _ hrc)) fx_rc0)) rfl rfl hl.1 rfl (lv_room (Nat.le_of_ble_eq_true rfl)) dX0_prices_74 ⟨Nat.le_refl _, Nat.le_refl _⟩) hP hD hS hA [] rfl rfl (fun r_74 u H locs hq_74 hP hD hS => ?_)
                replace hP : va_P E.1 clA [(ax 20, .inl (E.2 0, 8, .inl pz)), (ax 5, .inl (E.2 0, 7, .inl er))] _ := hP
                replace hD : va_D A [(ax 20, .inl (E.2 0, 8, .inl pz)), (ax 5, .inl (E.2 0, 7, .inl er))] := hD
                replace hq_74 : r_74 = rf ca := hq_74
                refine fx_iast (ws' := [(ax 20, .inl (E.2 0, 8, .inl (upd pz ca r_74))), (ax 5, .inl (E.2 0, 7, .inl er))]) X hE hP hD hS 0 rfl ca rfl (by omega) rfl rfl dX0_prices_77 (fun H locs hP hD hS => ?_)
                refine lv_iinc (v := nI (ca + 1)) (lv' := [(3, .int (nI (ca + 1))), (2, .ref ra), (0, .ref (ax 19)), (1, .int sheet)]) hx hb dX0_prices_78 hl (k := 0) rfl (fx_inc _) (by decide) rfl (fun ls hl => ?_)
                refine lv_goto (tgt := 35) hx hb dX0_prices_81 (by decide) ?_
                exact ih_35 (ca + 1) (upd pz ca r_74) (by omega) (by omega) (ext_s (f := fun t => nu (24 * nn sheet + t)) h1 (hq_74.trans (hf ca n_40))) (fun t ht ht2 => (upd_n _ _ (by omega)).trans (h2 t (by omega) ht2)) (fun q hq => by rcases Nat.lt_or_ge q ca with z | z; exact hall q z; rw [show q = ca by omega, prP, hb_58b, Bool.and_true]; exact decide_eq_true n_40) _ _ hP hD hS ls (lv_sub hl [0, 1, 2, 3] rfl)
              · -- False
                subst hr_58
                have hL := ldN_stop hall (by rw [prP, Bool.eq_false_iff.2 hb_58, Bool.and_false]) 8 hca
                refine lv_if_eq (tgt := 84) hx hb dX0_prices_61 (by decide) (fun _ => ?_) (fun c => (c (by decide)).elim)
                refine lv_iload_n hx hb dX0_prices_84 rfl (lv_at hl 0 rfl) ?_
                exact hret (nI ca) (pz, er) (by simp only [prices_, if_pos hb_1, if_neg hbt, hL]; exact ⟨by first | trivial | rfl, by first | trivial | rfl, prA_pr h1 h2 hpr (by omega), Or.inr ⟨_, _, by omega, rfl⟩⟩) (rfl) hP hD hS (Nat.le_refl _) (Nat.le_refl _) dX0_prices_85
      exact loop_35 ((8 - 0) + 1) 0 pr (Nat.lt_succ_self _) (by omega) (fun q hq => absurd hq (Nat.not_lt_zero _)) (fun t _ _ => rfl) (fun q hq => absurd hq (Nat.not_lt_zero _)) _ _ hP hD hS ls (lv_sub hl [0, 1, 2, 3] rfl)
  · -- False
    subst hr_1
    refine lv_if_ne (tgt := 13) hx hb dX0_prices_4 (by decide) (fun c => (c (by decide)).elim) (fun _ => ?_)
    refine lv_aload_n hx hb dX0_prices_7 rfl (lv_at hl 0 rfl) ?_
    refine lv_iconst (v := 1) hx hb dX0_prices_8 rfl ?_
    refine fx_ci (va_runV (As := [.int 1]) (rest := []) X (xX0_finds l E ax im bn bm fm ff fl er 1 (by decide) _) (cwV 1 X.2.2.2.2 (lw_V q303 q305 qs0 q69 q306) rfl rfl rfl ⟨rfl, hdX0_finds⟩ ⟨Nat.le_of_ble_eq_true rfl, Nat.le_of_ble_eq_true rfl⟩) (fx_preV (fx_pre hE hP hD hS hR [1] rfl rfl (fx_rcr 0 rfl fx_rc0)) (va_recv hE.1 (hR.at hS) (ci := 0) (q0 := 0) rfl rfl)) rfl rfl hl.1 rfl (lv_room (Nat.le_of_ble_eq_true rfl)) dX0_prices_9 ⟨Nat.le_refl _, Nat.le_refl _⟩) hP hD hS hA [1] rfl rfl (fun r_9 u H locs hq_9 hP hD hS => ?_)
    replace hP : va_P E.1 clA [(ax 20, .inl (E.2 0, 8, .inl pr)), (ax 5, .inl (E.2 0, 7, .inl (upd er 1 (er 1 + 1))))] _ := hP
    replace hD : va_D A [(ax 20, .inl (E.2 0, 8, .inl pr)), (ax 5, .inl (E.2 0, 7, .inl (upd er 1 (er 1 + 1))))] := hD
    replace hq_9 : r_9 = erv 1 := hq_9
    exact hret r_9 (pr, (upd er 1 (er 1 + 1))) (by rw [hq_9]; simp only [prices_, if_neg hb_1]; exact ⟨by first | trivial | rfl, by first | trivial | rfl, hpr, Or.inl (by first | trivial | rfl)⟩) (rfl) hP hD hS (Nat.le_refl _) (Nat.le_refl _) dX0_prices_12
abbrev rxX3_init_3 : Room := { frames := 1, cells := 0, slots := 0, locals := 20 }
set_option maxHeartbeats 400000 in
set_option maxRecDepth 100000 in
theorem xX3_init_3 (l : Launch) (E : fx_En) (th : Nat) (nb : Int32) (mm : Int32) : fx_Mv l yX3_init cX3_init 3 rxX3_init_3 E [.ref th, .int nb, .int mm] [(th, .inr (3, [.int 0, .int 0]))] [] (S := Unit) (fun (u : Unit) => [(th, .inr (3, [.int nb, .int mm]))]) (fun (u : Unit) => True) := by
  refine fx_vW rfl rfl ?_
  intro p e s m args below meth c A ls Q X hnm hE hP hD hR hA hl hret
  have hx := X.1
  have hb := X.2.1
  have hS : va_S A s.heap s.heap [] := va_S.rf
  replace hP : va_P E.1 clA [(th, .inr (3, [.int 0, .int 0]))] _ := hP
  replace hD : va_D A [(th, .inr (3, [.int 0, .int 0]))] := hD
  replace hl : lv_has ls 3 [(0, .ref th), (1, .int nb), (2, .int mm)] := hl
  refine lv_aload_n hx hb dX3_init_0 rfl (lv_at hl 0 rfl) ?_
  refine W.objInit hx hb X.2.2.2.1 (X.2.2.2.2 _ q133) (X.2.2.2.2 _ q104) (X.2.2.2.2 _ q105) rfl (hl.1.trans X.2.2.1.symm) rfl dX3_init_1 (Nat.le_of_ble_eq_true rfl) (Nat.le_of_ble_eq_true rfl) ?_
  refine W.eq (g2 := F0 m 4 ls []) rfl ?_
  refine lv_aload_n hx hb dX3_init_4 rfl (lv_at hl 0 rfl) ?_
  refine lv_iload_n hx hb dX3_init_5 rfl (lv_at hl 1 rfl) ?_
  refine fx_putF (ws' := [(th, .inr (3, [.int nb, .int 0]))]) X hE hP hD hS 0 rfl rfl tyX3_ok nmX3 0 rfl q134 rfl rfl hnm rfl rfl rfl rfl rfl dX3_init_6 (fun H locs hP hD hS => ?_)
  refine lv_aload_n hx hb dX3_init_9 rfl (lv_at hl 0 rfl) ?_
  refine lv_iload_n hx hb dX3_init_10 rfl (lv_at hl 2 rfl) ?_
  refine fx_putF (ws' := [(th, .inr (3, [.int nb, .int mm]))]) X hE hP hD hS 0 rfl rfl tyX3_ok nmX3 1 rfl q137 rfl rfl hnm rfl rfl rfl rfl rfl dX3_init_11 (fun H locs hP hD hS => ?_)
  exact hret () (trivial) hP hD hS (Nat.le_refl _) (Nat.le_refl _) dX3_init_14
abbrev rxX3_init_7 : Room := { frames := 1, cells := 0, slots := 0, locals := 20 }
set_option maxHeartbeats 400000 in
set_option maxRecDepth 100000 in
theorem xX3_init_7 (l : Launch) (E : fx_En) (th : Nat) (nb : Int32) (mm : Int32) : fx_Mv l yX3_init cX3_init 3 rxX3_init_7 E [.ref th, .int nb, .int mm] [(th, .inr (7, [.int 0, .int 0]))] [] (S := Unit) (fun (u : Unit) => [(th, .inr (7, [.int nb, .int mm]))]) (fun (u : Unit) => True) := by
  refine fx_vW rfl rfl ?_
  intro p e s m args below meth c A ls Q X hnm hE hP hD hR hA hl hret
  have hx := X.1
  have hb := X.2.1
  have hS : va_S A s.heap s.heap [] := va_S.rf
  replace hP : va_P E.1 clA [(th, .inr (7, [.int 0, .int 0]))] _ := hP
  replace hD : va_D A [(th, .inr (7, [.int 0, .int 0]))] := hD
  replace hl : lv_has ls 3 [(0, .ref th), (1, .int nb), (2, .int mm)] := hl
  refine lv_aload_n hx hb dX3_init_0 rfl (lv_at hl 0 rfl) ?_
  refine W.objInit hx hb X.2.2.2.1 (X.2.2.2.2 _ q133) (X.2.2.2.2 _ q104) (X.2.2.2.2 _ q105) rfl (hl.1.trans X.2.2.1.symm) rfl dX3_init_1 (Nat.le_of_ble_eq_true rfl) (Nat.le_of_ble_eq_true rfl) ?_
  refine W.eq (g2 := F0 m 4 ls []) rfl ?_
  refine lv_aload_n hx hb dX3_init_4 rfl (lv_at hl 0 rfl) ?_
  refine lv_iload_n hx hb dX3_init_5 rfl (lv_at hl 1 rfl) ?_
  refine fx_putF (ws' := [(th, .inr (7, [.int nb, .int 0]))]) X hE hP hD hS 0 rfl rfl tyX7_ok nmX7 0 rfl q134 rfl rfl hnm rfl rfl rfl rfl rfl dX3_init_6 (fun H locs hP hD hS => ?_)
  refine lv_aload_n hx hb dX3_init_9 rfl (lv_at hl 0 rfl) ?_
  refine lv_iload_n hx hb dX3_init_10 rfl (lv_at hl 2 rfl) ?_
  refine fx_putF (ws' := [(th, .inr (7, [.int nb, .int mm]))]) X hE hP hD hS 0 rfl rfl tyX7_ok nmX7 1 rfl q137 rfl rfl hnm rfl rfl rfl rfl rfl dX3_init_11 (fun H locs hP hD hS => ?_)
  exact hret () (trivial) hP hD hS (Nat.le_refl _) (Nat.le_refl _) dX3_init_14
abbrev rxX7_init_7 : Room := { frames := 2, cells := 0, slots := 0, locals := 42 }
set_option maxHeartbeats 400000 in
set_option maxRecDepth 100000 in
theorem xX7_init_7 (l : Launch) (E : fx_En) (th : Nat) (nb : Int32) (mm : Int32) : fx_Mv l yX7_init cX7_init 3 rxX7_init_7 E [.ref th, .int nb, .int mm] [(th, .inr (7, [.int 0, .int 0]))] [] (S := Unit) (fun (u : Unit) => [(th, .inr (7, [.int nb, .int mm]))]) (fun (u : Unit) => True) := by
  refine fx_vW rfl rfl ?_
  intro p e s m args below meth c A ls Q X hnm hE hP hD hR hA hl hret
  have hx := X.1
  have hb := X.2.1
  have hS : va_S A s.heap s.heap [] := va_S.rf
  replace hP : va_P E.1 clA [(th, .inr (7, [.int 0, .int 0]))] _ := hP
  replace hD : va_D A [(th, .inr (7, [.int 0, .int 0]))] := hD
  replace hl : lv_has ls 3 [(0, .ref th), (1, .int nb), (2, .int mm)] := hl
  refine lv_aload_n hx hb dX7_init_0 rfl (lv_at hl 0 rfl) ?_
  refine lv_iload_n hx hb dX7_init_1 rfl (lv_at hl 1 rfl) ?_
  refine lv_iload_n hx hb dX7_init_2 rfl (lv_at hl 2 rfl) ?_
  refine fx_cv (va_runI (As := [.int nb, .int mm]) (rest := []) X (xX3_init_7 l E th nb mm _) (cwI 2 X.2.2.2.2 (lw_meth q132) rfl rfl rfl (X.2.2.2.2 _ q72) (X.2.2.2.2 _ q386) (X.2.2.2.2 _ q131) rfl hdX3_init ⟨Nat.le_of_ble_eq_true rfl, Nat.le_of_ble_eq_true rfl⟩) (fx_pre hE hP hD hS hR [0] rfl rfl fx_rc0) rfl rfl hl.1 rfl (lv_room (Nat.le_of_ble_eq_true rfl)) dX7_init_3 ⟨Nat.le_refl _, Nat.le_refl _⟩) hP hD hS hA [0] rfl rfl (fun u H locs hq_3 hP hD hS => ?_)
  replace hP : va_P E.1 clA [(th, .inr (7, [.int nb, .int mm]))] _ := hP
  replace hD : va_D A [(th, .inr (7, [.int nb, .int mm]))] := hD
  replace hq_3 : True := hq_3
  exact hret () (trivial) hP hD hS (Nat.le_refl _) (Nat.le_refl _) dX7_init_6
abbrev rxX3_init_8 : Room := { frames := 1, cells := 0, slots := 0, locals := 20 }
set_option maxHeartbeats 400000 in
set_option maxRecDepth 100000 in
theorem xX3_init_8 (l : Launch) (E : fx_En) (th : Nat) (nb : Int32) (mm : Int32) : fx_Mv l yX3_init cX3_init 3 rxX3_init_8 E [.ref th, .int nb, .int mm] [(th, .inr (8, [.int 0, .int 0]))] [] (S := Unit) (fun (u : Unit) => [(th, .inr (8, [.int nb, .int mm]))]) (fun (u : Unit) => True) := by
  refine fx_vW rfl rfl ?_
  intro p e s m args below meth c A ls Q X hnm hE hP hD hR hA hl hret
  have hx := X.1
  have hb := X.2.1
  have hS : va_S A s.heap s.heap [] := va_S.rf
  replace hP : va_P E.1 clA [(th, .inr (8, [.int 0, .int 0]))] _ := hP
  replace hD : va_D A [(th, .inr (8, [.int 0, .int 0]))] := hD
  replace hl : lv_has ls 3 [(0, .ref th), (1, .int nb), (2, .int mm)] := hl
  refine lv_aload_n hx hb dX3_init_0 rfl (lv_at hl 0 rfl) ?_
  refine W.objInit hx hb X.2.2.2.1 (X.2.2.2.2 _ q133) (X.2.2.2.2 _ q104) (X.2.2.2.2 _ q105) rfl (hl.1.trans X.2.2.1.symm) rfl dX3_init_1 (Nat.le_of_ble_eq_true rfl) (Nat.le_of_ble_eq_true rfl) ?_
  refine W.eq (g2 := F0 m 4 ls []) rfl ?_
  refine lv_aload_n hx hb dX3_init_4 rfl (lv_at hl 0 rfl) ?_
  refine lv_iload_n hx hb dX3_init_5 rfl (lv_at hl 1 rfl) ?_
  refine fx_putF (ws' := [(th, .inr (8, [.int nb, .int 0]))]) X hE hP hD hS 0 rfl rfl tyX8_ok nmX8 0 rfl q134 rfl rfl hnm rfl rfl rfl rfl rfl dX3_init_6 (fun H locs hP hD hS => ?_)
  refine lv_aload_n hx hb dX3_init_9 rfl (lv_at hl 0 rfl) ?_
  refine lv_iload_n hx hb dX3_init_10 rfl (lv_at hl 2 rfl) ?_
  refine fx_putF (ws' := [(th, .inr (8, [.int nb, .int mm]))]) X hE hP hD hS 0 rfl rfl tyX8_ok nmX8 1 rfl q137 rfl rfl hnm rfl rfl rfl rfl rfl dX3_init_11 (fun H locs hP hD hS => ?_)
  exact hret () (trivial) hP hD hS (Nat.le_refl _) (Nat.le_refl _) dX3_init_14
abbrev rxX8_init_8 : Room := { frames := 2, cells := 0, slots := 0, locals := 42 }
set_option maxHeartbeats 400000 in
set_option maxRecDepth 100000 in
theorem xX8_init_8 (l : Launch) (E : fx_En) (th : Nat) (nb : Int32) (mm : Int32) : fx_Mv l yX8_init cX8_init 3 rxX8_init_8 E [.ref th, .int nb, .int mm] [(th, .inr (8, [.int 0, .int 0]))] [] (S := Unit) (fun (u : Unit) => [(th, .inr (8, [.int nb, .int mm]))]) (fun (u : Unit) => True) := by
  refine fx_vW rfl rfl ?_
  intro p e s m args below meth c A ls Q X hnm hE hP hD hR hA hl hret
  have hx := X.1
  have hb := X.2.1
  have hS : va_S A s.heap s.heap [] := va_S.rf
  replace hP : va_P E.1 clA [(th, .inr (8, [.int 0, .int 0]))] _ := hP
  replace hD : va_D A [(th, .inr (8, [.int 0, .int 0]))] := hD
  replace hl : lv_has ls 3 [(0, .ref th), (1, .int nb), (2, .int mm)] := hl
  refine lv_aload_n hx hb dX8_init_0 rfl (lv_at hl 0 rfl) ?_
  refine lv_iload_n hx hb dX8_init_1 rfl (lv_at hl 1 rfl) ?_
  refine lv_iload_n hx hb dX8_init_2 rfl (lv_at hl 2 rfl) ?_
  refine fx_cv (va_runI (As := [.int nb, .int mm]) (rest := []) X (xX3_init_8 l E th nb mm _) (cwI 2 X.2.2.2.2 (lw_meth q132) rfl rfl rfl (X.2.2.2.2 _ q72) (X.2.2.2.2 _ q394) (X.2.2.2.2 _ q131) rfl hdX3_init ⟨Nat.le_of_ble_eq_true rfl, Nat.le_of_ble_eq_true rfl⟩) (fx_pre hE hP hD hS hR [0] rfl rfl fx_rc0) rfl rfl hl.1 rfl (lv_room (Nat.le_of_ble_eq_true rfl)) dX8_init_3 ⟨Nat.le_refl _, Nat.le_refl _⟩) hP hD hS hA [0] rfl rfl (fun u H locs hq_3 hP hD hS => ?_)
  replace hP : va_P E.1 clA [(th, .inr (8, [.int nb, .int mm]))] _ := hP
  replace hD : va_D A [(th, .inr (8, [.int nb, .int mm]))] := hD
  replace hq_3 : True := hq_3
  exact hret () (trivial) hP hD hS (Nat.le_refl _) (Nat.le_refl _) dX8_init_6
abbrev rxX3_init_9 : Room := { frames := 1, cells := 0, slots := 0, locals := 20 }
set_option maxHeartbeats 400000 in
set_option maxRecDepth 100000 in
theorem xX3_init_9 (l : Launch) (E : fx_En) (th : Nat) (nb : Int32) (mm : Int32) : fx_Mv l yX3_init cX3_init 3 rxX3_init_9 E [.ref th, .int nb, .int mm] [(th, .inr (9, [.int 0, .int 0]))] [] (S := Unit) (fun (u : Unit) => [(th, .inr (9, [.int nb, .int mm]))]) (fun (u : Unit) => True) := by
  refine fx_vW rfl rfl ?_
  intro p e s m args below meth c A ls Q X hnm hE hP hD hR hA hl hret
  have hx := X.1
  have hb := X.2.1
  have hS : va_S A s.heap s.heap [] := va_S.rf
  replace hP : va_P E.1 clA [(th, .inr (9, [.int 0, .int 0]))] _ := hP
  replace hD : va_D A [(th, .inr (9, [.int 0, .int 0]))] := hD
  replace hl : lv_has ls 3 [(0, .ref th), (1, .int nb), (2, .int mm)] := hl
  refine lv_aload_n hx hb dX3_init_0 rfl (lv_at hl 0 rfl) ?_
  refine W.objInit hx hb X.2.2.2.1 (X.2.2.2.2 _ q133) (X.2.2.2.2 _ q104) (X.2.2.2.2 _ q105) rfl (hl.1.trans X.2.2.1.symm) rfl dX3_init_1 (Nat.le_of_ble_eq_true rfl) (Nat.le_of_ble_eq_true rfl) ?_
  refine W.eq (g2 := F0 m 4 ls []) rfl ?_
  refine lv_aload_n hx hb dX3_init_4 rfl (lv_at hl 0 rfl) ?_
  refine lv_iload_n hx hb dX3_init_5 rfl (lv_at hl 1 rfl) ?_
  refine fx_putF (ws' := [(th, .inr (9, [.int nb, .int 0]))]) X hE hP hD hS 0 rfl rfl tyX9_ok nmX9 0 rfl q134 rfl rfl hnm rfl rfl rfl rfl rfl dX3_init_6 (fun H locs hP hD hS => ?_)
  refine lv_aload_n hx hb dX3_init_9 rfl (lv_at hl 0 rfl) ?_
  refine lv_iload_n hx hb dX3_init_10 rfl (lv_at hl 2 rfl) ?_
  refine fx_putF (ws' := [(th, .inr (9, [.int nb, .int mm]))]) X hE hP hD hS 0 rfl rfl tyX9_ok nmX9 1 rfl q137 rfl rfl hnm rfl rfl rfl rfl rfl dX3_init_11 (fun H locs hP hD hS => ?_)
  exact hret () (trivial) hP hD hS (Nat.le_refl _) (Nat.le_refl _) dX3_init_14
abbrev rxX9_init_9 : Room := { frames := 2, cells := 0, slots := 0, locals := 42 }
set_option maxHeartbeats 400000 in
set_option maxRecDepth 100000 in
theorem xX9_init_9 (l : Launch) (E : fx_En) (th : Nat) (nb : Int32) (mm : Int32) : fx_Mv l yX9_init cX9_init 3 rxX9_init_9 E [.ref th, .int nb, .int mm] [(th, .inr (9, [.int 0, .int 0]))] [] (S := Unit) (fun (u : Unit) => [(th, .inr (9, [.int nb, .int mm]))]) (fun (u : Unit) => True) := by
  refine fx_vW rfl rfl ?_
  intro p e s m args below meth c A ls Q X hnm hE hP hD hR hA hl hret
  have hx := X.1
  have hb := X.2.1
  have hS : va_S A s.heap s.heap [] := va_S.rf
  replace hP : va_P E.1 clA [(th, .inr (9, [.int 0, .int 0]))] _ := hP
  replace hD : va_D A [(th, .inr (9, [.int 0, .int 0]))] := hD
  replace hl : lv_has ls 3 [(0, .ref th), (1, .int nb), (2, .int mm)] := hl
  refine lv_aload_n hx hb dX9_init_0 rfl (lv_at hl 0 rfl) ?_
  refine lv_iload_n hx hb dX9_init_1 rfl (lv_at hl 1 rfl) ?_
  refine lv_iload_n hx hb dX9_init_2 rfl (lv_at hl 2 rfl) ?_
  refine fx_cv (va_runI (As := [.int nb, .int mm]) (rest := []) X (xX3_init_9 l E th nb mm _) (cwI 2 X.2.2.2.2 (lw_meth q132) rfl rfl rfl (X.2.2.2.2 _ q72) (X.2.2.2.2 _ q402) (X.2.2.2.2 _ q131) rfl hdX3_init ⟨Nat.le_of_ble_eq_true rfl, Nat.le_of_ble_eq_true rfl⟩) (fx_pre hE hP hD hS hR [0] rfl rfl fx_rc0) rfl rfl hl.1 rfl (lv_room (Nat.le_of_ble_eq_true rfl)) dX9_init_3 ⟨Nat.le_refl _, Nat.le_refl _⟩) hP hD hS hA [0] rfl rfl (fun u H locs hq_3 hP hD hS => ?_)
  replace hP : va_P E.1 clA [(th, .inr (9, [.int nb, .int mm]))] _ := hP
  replace hD : va_D A [(th, .inr (9, [.int nb, .int mm]))] := hD
  replace hq_3 : True := hq_3
  exact hret () (trivial) hP hD hS (Nat.le_refl _) (Nat.le_refl _) dX9_init_6
abbrev rxX3_init_10 : Room := { frames := 1, cells := 0, slots := 0, locals := 20 }
set_option maxHeartbeats 400000 in
set_option maxRecDepth 100000 in
theorem xX3_init_10 (l : Launch) (E : fx_En) (th : Nat) (nb : Int32) (mm : Int32) : fx_Mv l yX3_init cX3_init 3 rxX3_init_10 E [.ref th, .int nb, .int mm] [(th, .inr (10, [.int 0, .int 0]))] [] (S := Unit) (fun (u : Unit) => [(th, .inr (10, [.int nb, .int mm]))]) (fun (u : Unit) => True) := by
  refine fx_vW rfl rfl ?_
  intro p e s m args below meth c A ls Q X hnm hE hP hD hR hA hl hret
  have hx := X.1
  have hb := X.2.1
  have hS : va_S A s.heap s.heap [] := va_S.rf
  replace hP : va_P E.1 clA [(th, .inr (10, [.int 0, .int 0]))] _ := hP
  replace hD : va_D A [(th, .inr (10, [.int 0, .int 0]))] := hD
  replace hl : lv_has ls 3 [(0, .ref th), (1, .int nb), (2, .int mm)] := hl
  refine lv_aload_n hx hb dX3_init_0 rfl (lv_at hl 0 rfl) ?_
  refine W.objInit hx hb X.2.2.2.1 (X.2.2.2.2 _ q133) (X.2.2.2.2 _ q104) (X.2.2.2.2 _ q105) rfl (hl.1.trans X.2.2.1.symm) rfl dX3_init_1 (Nat.le_of_ble_eq_true rfl) (Nat.le_of_ble_eq_true rfl) ?_
  refine W.eq (g2 := F0 m 4 ls []) rfl ?_
  refine lv_aload_n hx hb dX3_init_4 rfl (lv_at hl 0 rfl) ?_
  refine lv_iload_n hx hb dX3_init_5 rfl (lv_at hl 1 rfl) ?_
  refine fx_putF (ws' := [(th, .inr (10, [.int nb, .int 0]))]) X hE hP hD hS 0 rfl rfl tyX10_ok nmX10 0 rfl q134 rfl rfl hnm rfl rfl rfl rfl rfl dX3_init_6 (fun H locs hP hD hS => ?_)
  refine lv_aload_n hx hb dX3_init_9 rfl (lv_at hl 0 rfl) ?_
  refine lv_iload_n hx hb dX3_init_10 rfl (lv_at hl 2 rfl) ?_
  refine fx_putF (ws' := [(th, .inr (10, [.int nb, .int mm]))]) X hE hP hD hS 0 rfl rfl tyX10_ok nmX10 1 rfl q137 rfl rfl hnm rfl rfl rfl rfl rfl dX3_init_11 (fun H locs hP hD hS => ?_)
  exact hret () (trivial) hP hD hS (Nat.le_refl _) (Nat.le_refl _) dX3_init_14
abbrev rxX8_init_10 : Room := { frames := 2, cells := 0, slots := 0, locals := 42 }
set_option maxHeartbeats 400000 in
set_option maxRecDepth 100000 in
theorem xX8_init_10 (l : Launch) (E : fx_En) (th : Nat) (nb : Int32) (mm : Int32) : fx_Mv l yX8_init cX8_init 3 rxX8_init_10 E [.ref th, .int nb, .int mm] [(th, .inr (10, [.int 0, .int 0]))] [] (S := Unit) (fun (u : Unit) => [(th, .inr (10, [.int nb, .int mm]))]) (fun (u : Unit) => True) := by
  refine fx_vW rfl rfl ?_
  intro p e s m args below meth c A ls Q X hnm hE hP hD hR hA hl hret
  have hx := X.1
  have hb := X.2.1
  have hS : va_S A s.heap s.heap [] := va_S.rf
  replace hP : va_P E.1 clA [(th, .inr (10, [.int 0, .int 0]))] _ := hP
  replace hD : va_D A [(th, .inr (10, [.int 0, .int 0]))] := hD
  replace hl : lv_has ls 3 [(0, .ref th), (1, .int nb), (2, .int mm)] := hl
  refine lv_aload_n hx hb dX8_init_0 rfl (lv_at hl 0 rfl) ?_
  refine lv_iload_n hx hb dX8_init_1 rfl (lv_at hl 1 rfl) ?_
  refine lv_iload_n hx hb dX8_init_2 rfl (lv_at hl 2 rfl) ?_
  refine fx_cv (va_runI (As := [.int nb, .int mm]) (rest := []) X (xX3_init_10 l E th nb mm _) (cwI 2 X.2.2.2.2 (lw_meth q132) rfl rfl rfl (X.2.2.2.2 _ q72) (X.2.2.2.2 _ q394) (X.2.2.2.2 _ q131) rfl hdX3_init ⟨Nat.le_of_ble_eq_true rfl, Nat.le_of_ble_eq_true rfl⟩) (fx_pre hE hP hD hS hR [0] rfl rfl fx_rc0) rfl rfl hl.1 rfl (lv_room (Nat.le_of_ble_eq_true rfl)) dX8_init_3 ⟨Nat.le_refl _, Nat.le_refl _⟩) hP hD hS hA [0] rfl rfl (fun u H locs hq_3 hP hD hS => ?_)
  replace hP : va_P E.1 clA [(th, .inr (10, [.int nb, .int mm]))] _ := hP
  replace hD : va_D A [(th, .inr (10, [.int nb, .int mm]))] := hD
  replace hq_3 : True := hq_3
  exact hret () (trivial) hP hD hS (Nat.le_refl _) (Nat.le_refl _) dX8_init_6
abbrev rxX10_init_10 : Room := { frames := 3, cells := 0, slots := 0, locals := 64 }
set_option maxHeartbeats 400000 in
set_option maxRecDepth 100000 in
theorem xX10_init_10 (l : Launch) (E : fx_En) (th : Nat) (nb : Int32) (mm : Int32) : fx_Mv l yX10_init cX10_init 3 rxX10_init_10 E [.ref th, .int nb, .int mm] [(th, .inr (10, [.int 0, .int 0]))] [] (S := Unit) (fun (u : Unit) => [(th, .inr (10, [.int nb, .int mm]))]) (fun (u : Unit) => True) := by
  refine fx_vW rfl rfl ?_
  intro p e s m args below meth c A ls Q X hnm hE hP hD hR hA hl hret
  have hx := X.1
  have hb := X.2.1
  have hS : va_S A s.heap s.heap [] := va_S.rf
  replace hP : va_P E.1 clA [(th, .inr (10, [.int 0, .int 0]))] _ := hP
  replace hD : va_D A [(th, .inr (10, [.int 0, .int 0]))] := hD
  replace hl : lv_has ls 3 [(0, .ref th), (1, .int nb), (2, .int mm)] := hl
  refine lv_aload_n hx hb dX10_init_0 rfl (lv_at hl 0 rfl) ?_
  refine lv_iload_n hx hb dX10_init_1 rfl (lv_at hl 1 rfl) ?_
  refine lv_iload_n hx hb dX10_init_2 rfl (lv_at hl 2 rfl) ?_
  refine fx_cv (va_runI (As := [.int nb, .int mm]) (rest := []) X (xX8_init_10 l E th nb mm _) (cwI 2 X.2.2.2.2 (lw_meth q393) rfl rfl rfl (X.2.2.2.2 _ q78) (X.2.2.2.2 _ q410) (X.2.2.2.2 _ q392) rfl hdX8_init ⟨Nat.le_of_ble_eq_true rfl, Nat.le_of_ble_eq_true rfl⟩) (fx_pre hE hP hD hS hR [0] rfl rfl fx_rc0) rfl rfl hl.1 rfl (lv_room (Nat.le_of_ble_eq_true rfl)) dX10_init_3 ⟨Nat.le_refl _, Nat.le_refl _⟩) hP hD hS hA [0] rfl rfl (fun u H locs hq_3 hP hD hS => ?_)
  replace hP : va_P E.1 clA [(th, .inr (10, [.int nb, .int mm]))] _ := hP
  replace hD : va_D A [(th, .inr (10, [.int nb, .int mm]))] := hD
  replace hq_3 : True := hq_3
  exact hret () (trivial) hP hD hS (Nat.le_refl _) (Nat.le_refl _) dX10_init_6
abbrev rxX3_init_11 : Room := { frames := 1, cells := 0, slots := 0, locals := 20 }
set_option maxHeartbeats 400000 in
set_option maxRecDepth 100000 in
theorem xX3_init_11 (l : Launch) (E : fx_En) (th : Nat) (nb : Int32) (mm : Int32) : fx_Mv l yX3_init cX3_init 3 rxX3_init_11 E [.ref th, .int nb, .int mm] [(th, .inr (11, [.int 0, .int 0]))] [] (S := Unit) (fun (u : Unit) => [(th, .inr (11, [.int nb, .int mm]))]) (fun (u : Unit) => True) := by
  refine fx_vW rfl rfl ?_
  intro p e s m args below meth c A ls Q X hnm hE hP hD hR hA hl hret
  have hx := X.1
  have hb := X.2.1
  have hS : va_S A s.heap s.heap [] := va_S.rf
  replace hP : va_P E.1 clA [(th, .inr (11, [.int 0, .int 0]))] _ := hP
  replace hD : va_D A [(th, .inr (11, [.int 0, .int 0]))] := hD
  replace hl : lv_has ls 3 [(0, .ref th), (1, .int nb), (2, .int mm)] := hl
  refine lv_aload_n hx hb dX3_init_0 rfl (lv_at hl 0 rfl) ?_
  refine W.objInit hx hb X.2.2.2.1 (X.2.2.2.2 _ q133) (X.2.2.2.2 _ q104) (X.2.2.2.2 _ q105) rfl (hl.1.trans X.2.2.1.symm) rfl dX3_init_1 (Nat.le_of_ble_eq_true rfl) (Nat.le_of_ble_eq_true rfl) ?_
  refine W.eq (g2 := F0 m 4 ls []) rfl ?_
  refine lv_aload_n hx hb dX3_init_4 rfl (lv_at hl 0 rfl) ?_
  refine lv_iload_n hx hb dX3_init_5 rfl (lv_at hl 1 rfl) ?_
  refine fx_putF (ws' := [(th, .inr (11, [.int nb, .int 0]))]) X hE hP hD hS 0 rfl rfl tyX11_ok nmX11 0 rfl q134 rfl rfl hnm rfl rfl rfl rfl rfl dX3_init_6 (fun H locs hP hD hS => ?_)
  refine lv_aload_n hx hb dX3_init_9 rfl (lv_at hl 0 rfl) ?_
  refine lv_iload_n hx hb dX3_init_10 rfl (lv_at hl 2 rfl) ?_
  refine fx_putF (ws' := [(th, .inr (11, [.int nb, .int mm]))]) X hE hP hD hS 0 rfl rfl tyX11_ok nmX11 1 rfl q137 rfl rfl hnm rfl rfl rfl rfl rfl dX3_init_11 (fun H locs hP hD hS => ?_)
  exact hret () (trivial) hP hD hS (Nat.le_refl _) (Nat.le_refl _) dX3_init_14
abbrev rxX7_init_11 : Room := { frames := 2, cells := 0, slots := 0, locals := 42 }
set_option maxHeartbeats 400000 in
set_option maxRecDepth 100000 in
theorem xX7_init_11 (l : Launch) (E : fx_En) (th : Nat) (nb : Int32) (mm : Int32) : fx_Mv l yX7_init cX7_init 3 rxX7_init_11 E [.ref th, .int nb, .int mm] [(th, .inr (11, [.int 0, .int 0]))] [] (S := Unit) (fun (u : Unit) => [(th, .inr (11, [.int nb, .int mm]))]) (fun (u : Unit) => True) := by
  refine fx_vW rfl rfl ?_
  intro p e s m args below meth c A ls Q X hnm hE hP hD hR hA hl hret
  have hx := X.1
  have hb := X.2.1
  have hS : va_S A s.heap s.heap [] := va_S.rf
  replace hP : va_P E.1 clA [(th, .inr (11, [.int 0, .int 0]))] _ := hP
  replace hD : va_D A [(th, .inr (11, [.int 0, .int 0]))] := hD
  replace hl : lv_has ls 3 [(0, .ref th), (1, .int nb), (2, .int mm)] := hl
  refine lv_aload_n hx hb dX7_init_0 rfl (lv_at hl 0 rfl) ?_
  refine lv_iload_n hx hb dX7_init_1 rfl (lv_at hl 1 rfl) ?_
  refine lv_iload_n hx hb dX7_init_2 rfl (lv_at hl 2 rfl) ?_
  refine fx_cv (va_runI (As := [.int nb, .int mm]) (rest := []) X (xX3_init_11 l E th nb mm _) (cwI 2 X.2.2.2.2 (lw_meth q132) rfl rfl rfl (X.2.2.2.2 _ q72) (X.2.2.2.2 _ q386) (X.2.2.2.2 _ q131) rfl hdX3_init ⟨Nat.le_of_ble_eq_true rfl, Nat.le_of_ble_eq_true rfl⟩) (fx_pre hE hP hD hS hR [0] rfl rfl fx_rc0) rfl rfl hl.1 rfl (lv_room (Nat.le_of_ble_eq_true rfl)) dX7_init_3 ⟨Nat.le_refl _, Nat.le_refl _⟩) hP hD hS hA [0] rfl rfl (fun u H locs hq_3 hP hD hS => ?_)
  replace hP : va_P E.1 clA [(th, .inr (11, [.int nb, .int mm]))] _ := hP
  replace hD : va_D A [(th, .inr (11, [.int nb, .int mm]))] := hD
  replace hq_3 : True := hq_3
  exact hret () (trivial) hP hD hS (Nat.le_refl _) (Nat.le_refl _) dX7_init_6
abbrev rxX11_init_11 : Room := { frames := 3, cells := 0, slots := 0, locals := 64 }
set_option maxHeartbeats 400000 in
set_option maxRecDepth 100000 in
theorem xX11_init_11 (l : Launch) (E : fx_En) (th : Nat) (nb : Int32) (mm : Int32) : fx_Mv l yX11_init cX11_init 3 rxX11_init_11 E [.ref th, .int nb, .int mm] [(th, .inr (11, [.int 0, .int 0]))] [] (S := Unit) (fun (u : Unit) => [(th, .inr (11, [.int nb, .int mm]))]) (fun (u : Unit) => True) := by
  refine fx_vW rfl rfl ?_
  intro p e s m args below meth c A ls Q X hnm hE hP hD hR hA hl hret
  have hx := X.1
  have hb := X.2.1
  have hS : va_S A s.heap s.heap [] := va_S.rf
  replace hP : va_P E.1 clA [(th, .inr (11, [.int 0, .int 0]))] _ := hP
  replace hD : va_D A [(th, .inr (11, [.int 0, .int 0]))] := hD
  replace hl : lv_has ls 3 [(0, .ref th), (1, .int nb), (2, .int mm)] := hl
  refine lv_aload_n hx hb dX11_init_0 rfl (lv_at hl 0 rfl) ?_
  refine lv_iload_n hx hb dX11_init_1 rfl (lv_at hl 1 rfl) ?_
  refine lv_iload_n hx hb dX11_init_2 rfl (lv_at hl 2 rfl) ?_
  refine fx_cv (va_runI (As := [.int nb, .int mm]) (rest := []) X (xX7_init_11 l E th nb mm _) (cwI 2 X.2.2.2.2 (lw_meth q385) rfl rfl rfl (X.2.2.2.2 _ q77) (X.2.2.2.2 _ q418) (X.2.2.2.2 _ q384) rfl hdX7_init ⟨Nat.le_of_ble_eq_true rfl, Nat.le_of_ble_eq_true rfl⟩) (fx_pre hE hP hD hS hR [0] rfl rfl fx_rc0) rfl rfl hl.1 rfl (lv_room (Nat.le_of_ble_eq_true rfl)) dX11_init_3 ⟨Nat.le_refl _, Nat.le_refl _⟩) hP hD hS hA [0] rfl rfl (fun u H locs hq_3 hP hD hS => ?_)
  replace hP : va_P E.1 clA [(th, .inr (11, [.int nb, .int mm]))] _ := hP
  replace hD : va_D A [(th, .inr (11, [.int nb, .int mm]))] := hD
  replace hq_3 : True := hq_3
  exact hret () (trivial) hP hD hS (Nat.le_refl _) (Nat.le_refl _) dX11_init_6
abbrev rxX3_init_12 : Room := { frames := 1, cells := 0, slots := 0, locals := 20 }
set_option maxHeartbeats 400000 in
set_option maxRecDepth 100000 in
theorem xX3_init_12 (l : Launch) (E : fx_En) (th : Nat) (nb : Int32) (mm : Int32) : fx_Mv l yX3_init cX3_init 3 rxX3_init_12 E [.ref th, .int nb, .int mm] [(th, .inr (12, [.int 0, .int 0]))] [] (S := Unit) (fun (u : Unit) => [(th, .inr (12, [.int nb, .int mm]))]) (fun (u : Unit) => True) := by
  refine fx_vW rfl rfl ?_
  intro p e s m args below meth c A ls Q X hnm hE hP hD hR hA hl hret
  have hx := X.1
  have hb := X.2.1
  have hS : va_S A s.heap s.heap [] := va_S.rf
  replace hP : va_P E.1 clA [(th, .inr (12, [.int 0, .int 0]))] _ := hP
  replace hD : va_D A [(th, .inr (12, [.int 0, .int 0]))] := hD
  replace hl : lv_has ls 3 [(0, .ref th), (1, .int nb), (2, .int mm)] := hl
  refine lv_aload_n hx hb dX3_init_0 rfl (lv_at hl 0 rfl) ?_
  refine W.objInit hx hb X.2.2.2.1 (X.2.2.2.2 _ q133) (X.2.2.2.2 _ q104) (X.2.2.2.2 _ q105) rfl (hl.1.trans X.2.2.1.symm) rfl dX3_init_1 (Nat.le_of_ble_eq_true rfl) (Nat.le_of_ble_eq_true rfl) ?_
  refine W.eq (g2 := F0 m 4 ls []) rfl ?_
  refine lv_aload_n hx hb dX3_init_4 rfl (lv_at hl 0 rfl) ?_
  refine lv_iload_n hx hb dX3_init_5 rfl (lv_at hl 1 rfl) ?_
  refine fx_putF (ws' := [(th, .inr (12, [.int nb, .int 0]))]) X hE hP hD hS 0 rfl rfl tyX12_ok nmX12 0 rfl q134 rfl rfl hnm rfl rfl rfl rfl rfl dX3_init_6 (fun H locs hP hD hS => ?_)
  refine lv_aload_n hx hb dX3_init_9 rfl (lv_at hl 0 rfl) ?_
  refine lv_iload_n hx hb dX3_init_10 rfl (lv_at hl 2 rfl) ?_
  refine fx_putF (ws' := [(th, .inr (12, [.int nb, .int mm]))]) X hE hP hD hS 0 rfl rfl tyX12_ok nmX12 1 rfl q137 rfl rfl hnm rfl rfl rfl rfl rfl dX3_init_11 (fun H locs hP hD hS => ?_)
  exact hret () (trivial) hP hD hS (Nat.le_refl _) (Nat.le_refl _) dX3_init_14
abbrev rxX12_init_12 : Room := { frames := 2, cells := 0, slots := 0, locals := 42 }
set_option maxHeartbeats 400000 in
set_option maxRecDepth 100000 in
theorem xX12_init_12 (l : Launch) (E : fx_En) (th : Nat) (nb : Int32) (mm : Int32) : fx_Mv l yX12_init cX12_init 3 rxX12_init_12 E [.ref th, .int nb, .int mm] [(th, .inr (12, [.int 0, .int 0]))] [] (S := Unit) (fun (u : Unit) => [(th, .inr (12, [.int nb, .int mm]))]) (fun (u : Unit) => True) := by
  refine fx_vW rfl rfl ?_
  intro p e s m args below meth c A ls Q X hnm hE hP hD hR hA hl hret
  have hx := X.1
  have hb := X.2.1
  have hS : va_S A s.heap s.heap [] := va_S.rf
  replace hP : va_P E.1 clA [(th, .inr (12, [.int 0, .int 0]))] _ := hP
  replace hD : va_D A [(th, .inr (12, [.int 0, .int 0]))] := hD
  replace hl : lv_has ls 3 [(0, .ref th), (1, .int nb), (2, .int mm)] := hl
  refine lv_aload_n hx hb dX12_init_0 rfl (lv_at hl 0 rfl) ?_
  refine lv_iload_n hx hb dX12_init_1 rfl (lv_at hl 1 rfl) ?_
  refine lv_iload_n hx hb dX12_init_2 rfl (lv_at hl 2 rfl) ?_
  refine fx_cv (va_runI (As := [.int nb, .int mm]) (rest := []) X (xX3_init_12 l E th nb mm _) (cwI 2 X.2.2.2.2 (lw_meth q132) rfl rfl rfl (X.2.2.2.2 _ q72) (X.2.2.2.2 _ q426) (X.2.2.2.2 _ q131) rfl hdX3_init ⟨Nat.le_of_ble_eq_true rfl, Nat.le_of_ble_eq_true rfl⟩) (fx_pre hE hP hD hS hR [0] rfl rfl fx_rc0) rfl rfl hl.1 rfl (lv_room (Nat.le_of_ble_eq_true rfl)) dX12_init_3 ⟨Nat.le_refl _, Nat.le_refl _⟩) hP hD hS hA [0] rfl rfl (fun u H locs hq_3 hP hD hS => ?_)
  replace hP : va_P E.1 clA [(th, .inr (12, [.int nb, .int mm]))] _ := hP
  replace hD : va_D A [(th, .inr (12, [.int nb, .int mm]))] := hD
  replace hq_3 : True := hq_3
  exact hret () (trivial) hP hD hS (Nat.le_refl _) (Nat.le_refl _) dX12_init_6
abbrev rxX0_made : Room := { frames := 4, cells := 1, slots := 2, locals := 86 }
set_option maxHeartbeats 400000 in
set_option maxRecDepth 100000 in
theorem xX0_made (l : Launch) (E : fx_En) (kd : Nat) (nb : Int32) (mm : Int32) (hkd : kd ≤ 6) : fx_Mq l yX0_made cX0_made 3 (.object "FigureTill$Till") rxX0_made E [.int (nI kd), .int nb, .int mm] [] [] (S := Nat) (fun (u : Nat) => [(u, .inr ((tcn kd), [.int nb, .int mm]))]) (fun (r : Option Nat) (u : Nat) => r = some u) := by
  refine fx_qW rfl rfl (by first | exact Or.inl ⟨_, rfl⟩ | exact Or.inr ⟨_, rfl⟩) ?_
  intro p e s m args below meth c A ls Q X hE hP hD hR hA hl hret
  have hx := X.1
  have hb := X.2.1
  have hS : va_S A s.heap s.heap [] := va_S.rf
  replace hl : lv_has ls 3 [(0, .int (nI kd)), (1, .int nb), (2, .int mm)] := hl
  refine lv_iload_n hx hb dX0_made_0 rfl (lv_at hl 0 rfl) ?_
  rcases kd7 hkd with rfl | rfl | rfl | rfl | rfl | rfl | rfl
  ·
    refine lv_tableOut (tgt := 100) hx hb dX0_made_1 (by decide) (by decide) ?_
    refine fx_new X hE hP hD hS hA (ci := 3) rfl tyX3_ok q429 q129 q72 (fs := [.int 0, .int 0]) (by decide) (Nat.le_of_ble_eq_true rfl) (Nat.le_of_ble_eq_true rfl) dX0_made_100 (fun q100 H hP hD hS => ?_)
    replace hP : va_P E.1 clA [(q100, .inr (3, [.int 0, .int 0]))] _ := hP
    replace hD : va_D A [(q100, .inr (3, [.int 0, .int 0]))] := hD
    refine W.widen (k := 1) (n := 2) (by first | omega | exact Nat.le_of_ble_eq_true rfl) (by first | omega | exact Nat.le_of_ble_eq_true rfl) ?_
    refine lv_dup hx hb dX0_made_103 rfl ?_
    refine lv_iload_n hx hb dX0_made_104 rfl (lv_at hl 1 rfl) ?_
    refine lv_iload_n hx hb dX0_made_105 rfl (lv_at hl 2 rfl) ?_
    refine fx_cv (va_runI (As := [.int nb, .int mm]) (rest := [.ref q100]) X (xX3_init_3 l E q100 nb mm _) (cwI 2 X.2.2.2.2 (lw_meth q132) rfl rfl rfl (X.2.2.2.2 _ q72) (X.2.2.2.2 _ q430) (X.2.2.2.2 _ q131) rfl hdX3_init ⟨Nat.le_of_ble_eq_true rfl, Nat.le_of_ble_eq_true rfl⟩) (fx_pre hE hP hD hS hR [0] rfl rfl fx_rc0) rfl rfl hl.1 rfl (lv_room (Nat.le_of_ble_eq_true rfl)) dX0_made_106 ⟨Nat.le_refl _, Nat.le_refl _⟩) hP hD hS hA [0] rfl rfl (fun u H locs hq_106 hP hD hS => ?_)
    replace hP : va_P E.1 clA [(q100, .inr (3, [.int nb, .int mm]))] _ := hP
    replace hD : va_D A [(q100, .inr (3, [.int nb, .int mm]))] := hD
    replace hq_106 : True := hq_106
    exact hret (some q100) q100 (rfl) hP hD hS (Nat.le_refl _) (Nat.le_refl _) dX0_made_109
  ·
    refine lv_tableIn (tgt := 40) (off := 39) hx hb dX0_made_1 (by decide) (by decide) rfl (by decide) ?_
    refine fx_new X hE hP hD hS hA (ci := 7) rfl tyX7_ok q381 q382 q77 (fs := [.int 0, .int 0]) (by decide) (Nat.le_of_ble_eq_true rfl) (Nat.le_of_ble_eq_true rfl) dX0_made_40 (fun q40 H hP hD hS => ?_)
    replace hP : va_P E.1 clA [(q40, .inr (7, [.int 0, .int 0]))] _ := hP
    replace hD : va_D A [(q40, .inr (7, [.int 0, .int 0]))] := hD
    refine W.widen (k := 1) (n := 2) (by first | omega | exact Nat.le_of_ble_eq_true rfl) (by first | omega | exact Nat.le_of_ble_eq_true rfl) ?_
    refine lv_dup hx hb dX0_made_43 rfl ?_
    refine lv_iload_n hx hb dX0_made_44 rfl (lv_at hl 1 rfl) ?_
    refine lv_iload_n hx hb dX0_made_45 rfl (lv_at hl 2 rfl) ?_
    refine fx_cv (va_runI (As := [.int nb, .int mm]) (rest := [.ref q40]) X (xX7_init_7 l E q40 nb mm _) (cwI 2 X.2.2.2.2 (lw_meth q385) rfl rfl rfl (X.2.2.2.2 _ q77) (X.2.2.2.2 _ q383) (X.2.2.2.2 _ q384) rfl hdX7_init ⟨Nat.le_of_ble_eq_true rfl, Nat.le_of_ble_eq_true rfl⟩) (fx_pre hE hP hD hS hR [0] rfl rfl fx_rc0) rfl rfl hl.1 rfl (lv_room (Nat.le_of_ble_eq_true rfl)) dX0_made_46 ⟨Nat.le_refl _, Nat.le_refl _⟩) hP hD hS hA [0] rfl rfl (fun u H locs hq_46 hP hD hS => ?_)
    replace hP : va_P E.1 clA [(q40, .inr (7, [.int nb, .int mm]))] _ := hP
    replace hD : va_D A [(q40, .inr (7, [.int nb, .int mm]))] := hD
    replace hq_46 : True := hq_46
    exact hret (some q40) q40 (rfl) hP hD hS (Nat.le_refl _) (Nat.le_refl _) dX0_made_49
  ·
    refine lv_tableIn (tgt := 50) (off := 49) hx hb dX0_made_1 (by decide) (by decide) rfl (by decide) ?_
    refine fx_new X hE hP hD hS hA (ci := 8) rfl tyX8_ok q389 q390 q78 (fs := [.int 0, .int 0]) (by decide) (Nat.le_of_ble_eq_true rfl) (Nat.le_of_ble_eq_true rfl) dX0_made_50 (fun q50 H hP hD hS => ?_)
    replace hP : va_P E.1 clA [(q50, .inr (8, [.int 0, .int 0]))] _ := hP
    replace hD : va_D A [(q50, .inr (8, [.int 0, .int 0]))] := hD
    refine W.widen (k := 1) (n := 2) (by first | omega | exact Nat.le_of_ble_eq_true rfl) (by first | omega | exact Nat.le_of_ble_eq_true rfl) ?_
    refine lv_dup hx hb dX0_made_53 rfl ?_
    refine lv_iload_n hx hb dX0_made_54 rfl (lv_at hl 1 rfl) ?_
    refine lv_iload_n hx hb dX0_made_55 rfl (lv_at hl 2 rfl) ?_
    refine fx_cv (va_runI (As := [.int nb, .int mm]) (rest := [.ref q50]) X (xX8_init_8 l E q50 nb mm _) (cwI 2 X.2.2.2.2 (lw_meth q393) rfl rfl rfl (X.2.2.2.2 _ q78) (X.2.2.2.2 _ q391) (X.2.2.2.2 _ q392) rfl hdX8_init ⟨Nat.le_of_ble_eq_true rfl, Nat.le_of_ble_eq_true rfl⟩) (fx_pre hE hP hD hS hR [0] rfl rfl fx_rc0) rfl rfl hl.1 rfl (lv_room (Nat.le_of_ble_eq_true rfl)) dX0_made_56 ⟨Nat.le_refl _, Nat.le_refl _⟩) hP hD hS hA [0] rfl rfl (fun u H locs hq_56 hP hD hS => ?_)
    replace hP : va_P E.1 clA [(q50, .inr (8, [.int nb, .int mm]))] _ := hP
    replace hD : va_D A [(q50, .inr (8, [.int nb, .int mm]))] := hD
    replace hq_56 : True := hq_56
    exact hret (some q50) q50 (rfl) hP hD hS (Nat.le_refl _) (Nat.le_refl _) dX0_made_59
  ·
    refine lv_tableIn (tgt := 60) (off := 59) hx hb dX0_made_1 (by decide) (by decide) rfl (by decide) ?_
    refine fx_new X hE hP hD hS hA (ci := 9) rfl tyX9_ok q397 q398 q79 (fs := [.int 0, .int 0]) (by decide) (Nat.le_of_ble_eq_true rfl) (Nat.le_of_ble_eq_true rfl) dX0_made_60 (fun q60 H hP hD hS => ?_)
    replace hP : va_P E.1 clA [(q60, .inr (9, [.int 0, .int 0]))] _ := hP
    replace hD : va_D A [(q60, .inr (9, [.int 0, .int 0]))] := hD
    refine W.widen (k := 1) (n := 2) (by first | omega | exact Nat.le_of_ble_eq_true rfl) (by first | omega | exact Nat.le_of_ble_eq_true rfl) ?_
    refine lv_dup hx hb dX0_made_63 rfl ?_
    refine lv_iload_n hx hb dX0_made_64 rfl (lv_at hl 1 rfl) ?_
    refine lv_iload_n hx hb dX0_made_65 rfl (lv_at hl 2 rfl) ?_
    refine fx_cv (va_runI (As := [.int nb, .int mm]) (rest := [.ref q60]) X (xX9_init_9 l E q60 nb mm _) (cwI 2 X.2.2.2.2 (lw_meth q401) rfl rfl rfl (X.2.2.2.2 _ q79) (X.2.2.2.2 _ q399) (X.2.2.2.2 _ q400) rfl hdX9_init ⟨Nat.le_of_ble_eq_true rfl, Nat.le_of_ble_eq_true rfl⟩) (fx_pre hE hP hD hS hR [0] rfl rfl fx_rc0) rfl rfl hl.1 rfl (lv_room (Nat.le_of_ble_eq_true rfl)) dX0_made_66 ⟨Nat.le_refl _, Nat.le_refl _⟩) hP hD hS hA [0] rfl rfl (fun u H locs hq_66 hP hD hS => ?_)
    replace hP : va_P E.1 clA [(q60, .inr (9, [.int nb, .int mm]))] _ := hP
    replace hD : va_D A [(q60, .inr (9, [.int nb, .int mm]))] := hD
    replace hq_66 : True := hq_66
    exact hret (some q60) q60 (rfl) hP hD hS (Nat.le_refl _) (Nat.le_refl _) dX0_made_69
  ·
    refine lv_tableIn (tgt := 70) (off := 69) hx hb dX0_made_1 (by decide) (by decide) rfl (by decide) ?_
    refine fx_new X hE hP hD hS hA (ci := 10) rfl tyX10_ok q405 q406 q80 (fs := [.int 0, .int 0]) (by decide) (Nat.le_of_ble_eq_true rfl) (Nat.le_of_ble_eq_true rfl) dX0_made_70 (fun q70 H hP hD hS => ?_)
    replace hP : va_P E.1 clA [(q70, .inr (10, [.int 0, .int 0]))] _ := hP
    replace hD : va_D A [(q70, .inr (10, [.int 0, .int 0]))] := hD
    refine W.widen (k := 1) (n := 2) (by first | omega | exact Nat.le_of_ble_eq_true rfl) (by first | omega | exact Nat.le_of_ble_eq_true rfl) ?_
    refine lv_dup hx hb dX0_made_73 rfl ?_
    refine lv_iload_n hx hb dX0_made_74 rfl (lv_at hl 1 rfl) ?_
    refine lv_iload_n hx hb dX0_made_75 rfl (lv_at hl 2 rfl) ?_
    refine fx_cv (va_runI (As := [.int nb, .int mm]) (rest := [.ref q70]) X (xX10_init_10 l E q70 nb mm _) (cwI 2 X.2.2.2.2 (lw_meth q409) rfl rfl rfl (X.2.2.2.2 _ q80) (X.2.2.2.2 _ q407) (X.2.2.2.2 _ q408) rfl hdX10_init ⟨Nat.le_of_ble_eq_true rfl, Nat.le_of_ble_eq_true rfl⟩) (fx_pre hE hP hD hS hR [0] rfl rfl fx_rc0) rfl rfl hl.1 rfl (lv_room (Nat.le_of_ble_eq_true rfl)) dX0_made_76 ⟨Nat.le_refl _, Nat.le_refl _⟩) hP hD hS hA [0] rfl rfl (fun u H locs hq_76 hP hD hS => ?_)
    replace hP : va_P E.1 clA [(q70, .inr (10, [.int nb, .int mm]))] _ := hP
    replace hD : va_D A [(q70, .inr (10, [.int nb, .int mm]))] := hD
    replace hq_76 : True := hq_76
    exact hret (some q70) q70 (rfl) hP hD hS (Nat.le_refl _) (Nat.le_refl _) dX0_made_79
  ·
    refine lv_tableIn (tgt := 80) (off := 79) hx hb dX0_made_1 (by decide) (by decide) rfl (by decide) ?_
    refine fx_new X hE hP hD hS hA (ci := 11) rfl tyX11_ok q413 q414 q81 (fs := [.int 0, .int 0]) (by decide) (Nat.le_of_ble_eq_true rfl) (Nat.le_of_ble_eq_true rfl) dX0_made_80 (fun q80 H hP hD hS => ?_)
    replace hP : va_P E.1 clA [(q80, .inr (11, [.int 0, .int 0]))] _ := hP
    replace hD : va_D A [(q80, .inr (11, [.int 0, .int 0]))] := hD
    refine W.widen (k := 1) (n := 2) (by first | omega | exact Nat.le_of_ble_eq_true rfl) (by first | omega | exact Nat.le_of_ble_eq_true rfl) ?_
    refine lv_dup hx hb dX0_made_83 rfl ?_
    refine lv_iload_n hx hb dX0_made_84 rfl (lv_at hl 1 rfl) ?_
    refine lv_iload_n hx hb dX0_made_85 rfl (lv_at hl 2 rfl) ?_
    refine fx_cv (va_runI (As := [.int nb, .int mm]) (rest := [.ref q80]) X (xX11_init_11 l E q80 nb mm _) (cwI 2 X.2.2.2.2 (lw_meth q417) rfl rfl rfl (X.2.2.2.2 _ q81) (X.2.2.2.2 _ q415) (X.2.2.2.2 _ q416) rfl hdX11_init ⟨Nat.le_of_ble_eq_true rfl, Nat.le_of_ble_eq_true rfl⟩) (fx_pre hE hP hD hS hR [0] rfl rfl fx_rc0) rfl rfl hl.1 rfl (lv_room (Nat.le_of_ble_eq_true rfl)) dX0_made_86 ⟨Nat.le_refl _, Nat.le_refl _⟩) hP hD hS hA [0] rfl rfl (fun u H locs hq_86 hP hD hS => ?_)
    replace hP : va_P E.1 clA [(q80, .inr (11, [.int nb, .int mm]))] _ := hP
    replace hD : va_D A [(q80, .inr (11, [.int nb, .int mm]))] := hD
    replace hq_86 : True := hq_86
    exact hret (some q80) q80 (rfl) hP hD hS (Nat.le_refl _) (Nat.le_refl _) dX0_made_89
  ·
    refine lv_tableIn (tgt := 90) (off := 89) hx hb dX0_made_1 (by decide) (by decide) rfl (by decide) ?_
    refine fx_new X hE hP hD hS hA (ci := 12) rfl tyX12_ok q421 q422 q82 (fs := [.int 0, .int 0]) (by decide) (Nat.le_of_ble_eq_true rfl) (Nat.le_of_ble_eq_true rfl) dX0_made_90 (fun q90 H hP hD hS => ?_)
    replace hP : va_P E.1 clA [(q90, .inr (12, [.int 0, .int 0]))] _ := hP
    replace hD : va_D A [(q90, .inr (12, [.int 0, .int 0]))] := hD
    refine W.widen (k := 1) (n := 2) (by first | omega | exact Nat.le_of_ble_eq_true rfl) (by first | omega | exact Nat.le_of_ble_eq_true rfl) ?_
    refine lv_dup hx hb dX0_made_93 rfl ?_
    refine lv_iload_n hx hb dX0_made_94 rfl (lv_at hl 1 rfl) ?_
    refine lv_iload_n hx hb dX0_made_95 rfl (lv_at hl 2 rfl) ?_
    refine fx_cv (va_runI (As := [.int nb, .int mm]) (rest := [.ref q90]) X (xX12_init_12 l E q90 nb mm _) (cwI 2 X.2.2.2.2 (lw_meth q425) rfl rfl rfl (X.2.2.2.2 _ q82) (X.2.2.2.2 _ q423) (X.2.2.2.2 _ q424) rfl hdX12_init ⟨Nat.le_of_ble_eq_true rfl, Nat.le_of_ble_eq_true rfl⟩) (fx_pre hE hP hD hS hR [0] rfl rfl fx_rc0) rfl rfl hl.1 rfl (lv_room (Nat.le_of_ble_eq_true rfl)) dX0_made_96 ⟨Nat.le_refl _, Nat.le_refl _⟩) hP hD hS hA [0] rfl rfl (fun u H locs hq_96 hP hD hS => ?_)
    replace hP : va_P E.1 clA [(q90, .inr (12, [.int nb, .int mm]))] _ := hP
    replace hD : va_D A [(q90, .inr (12, [.int nb, .int mm]))] := hD
    replace hq_96 : True := hq_96
    exact hret (some q90) q90 (rfl) hP hD hS (Nat.le_refl _) (Nat.le_refl _) dX0_made_99
abbrev rxX0_till : Room := { frames := 5, cells := 1, slots := 2, locals := 108 }
set_option maxHeartbeats 4000000 in
set_option maxRecDepth 100000 in
theorem xX0_till (l : Launch) (E : fx_En) (ax : Nat → Nat) (im : Int32) (bn : Int32) (bm : Int32) (fm : Int32) (ff : Int32) (fl : Int32) (tk : Int32) (cs : Int32) (gs : Int32) (zz : Int32) (tp : Int32) (wg : Int32) (er : Nat → Int32) (sa : Nat → Int32) (tl : Nat → Nat) (PL : va_W) (til : Int32) (km : Int32) (hI : Inv sa) (hTL : TLS PL sa tl) : fx_Mi l yX0_till cX0_till 4 .int rxX0_till E [.ref (ax 19), .int til, .int km] [(ax 36, .inr (2, [.ref (tl 0)])), (ax 37, .inr (2, [.ref (tl 1)])), (ax 38, .inr (2, [.ref (tl 2)])), (ax 39, .inr (2, [.ref (tl 3)])), (ax 5, .inl (E.2 0, 7, .inl er))] ([(ax 19, .inr (0, [.ref (ax 0), .ref (ax 1), .ref (ax 35), .ref (ax 55), .ref (ax 4), .ref (ax 5), .ref (ax 6), .ref (ax 7), .int im, .ref (ax 9), .ref (ax 10), .ref (ax 11), .ref (ax 12), .ref (ax 13), .int bn, .int bm, .int fm, .int ff, .int fl])), (ax 35, .inr (1, [.ref (ax 20), .ref (ax 21), .ref (ax 22), .int tk, .int cs, .int gs, .int zz, .int tp, .int wg, .ref (ax 29), .ref (ax 30), .ref (ax 31), .ref (ax 32)])), (ax 29, .inl (E.2 3, 4, .inr (.inr (.inr (.inr (fun i_ => some (ax (36 + i_))))))))] ++ PL) (S := (Nat → Nat) × (Nat → Int32) × va_W) (fun (u : (Nat → Nat) × (Nat → Int32) × va_W) => ([(ax 36, .inr (2, [.ref (u.1 0)])), (ax 37, .inr (2, [.ref (u.1 1)])), (ax 38, .inr (2, [.ref (u.1 2)])), (ax 39, .inr (2, [.ref (u.1 3)])), (ax 5, .inl (E.2 0, 7, .inl u.2.1))] ++ u.2.2)) (fun (r : Int32) (u : (Nat → Nat) × (Nat → Int32) × va_W) => r = (till_ sa er til km).1 ∧ u.2.1 = (till_ sa er til km).2.2 ∧ TLS (PL ++ u.2.2) (till_ sa er til km).2.1 u.1) := by
  refine fx_iW rfl rfl ?_
  intro p e s m args below meth c A ls Q X hE hP hD hR hA hl hret
  have hx := X.1
  have hb := X.2.1
  have hS : va_S A s.heap s.heap [] := va_S.rf
  replace hP : va_P E.1 clA [(ax 36, .inr (2, [.ref (tl 0)])), (ax 37, .inr (2, [.ref (tl 1)])), (ax 38, .inr (2, [.ref (tl 2)])), (ax 39, .inr (2, [.ref (tl 3)])), (ax 5, .inl (E.2 0, 7, .inl er))] _ := hP
  replace hD : va_D A [(ax 36, .inr (2, [.ref (tl 0)])), (ax 37, .inr (2, [.ref (tl 1)])), (ax 38, .inr (2, [.ref (tl 2)])), (ax 39, .inr (2, [.ref (tl 3)])), (ax 5, .inl (E.2 0, 7, .inl er))] := hD
  replace hl : lv_has ls 4 [(0, .ref (ax 19)), (1, .int til), (2, .int km)] := hl
  refine lv_iload_n hx hb dX0_till_0 rfl (lv_at hl 1 rfl) ?_
  refine fx_ci (va_runS (As := [.int til]) (rest := []) X (xX0_isTill l E til _) (va_cwS 1 X.2.2.2.2 (lw_S q336 q337 q69 q338) rfl rfl rfl hdX0_isTill ⟨Nat.le_of_ble_eq_true rfl, Nat.le_of_ble_eq_true rfl⟩) (fx_pre hE hP hD hS hR [] rfl rfl fx_rc0) rfl rfl hl.1 rfl (lv_room (Nat.le_of_ble_eq_true rfl)) dX0_till_1 ⟨Nat.le_of_ble_eq_true rfl, Nat.le_of_ble_eq_true rfl⟩) hP hD hS hA [] rfl rfl (fun r_1 u H locs hq_1 hP hD hS => ?_)
  replace hP : va_P E.1 clA [(ax 36, .inr (2, [.ref (tl 0)])), (ax 37, .inr (2, [.ref (tl 1)])), (ax 38, .inr (2, [.ref (tl 2)])), (ax 39, .inr (2, [.ref (tl 3)])), (ax 5, .inl (E.2 0, 7, .inl er))] _ := hP
  replace hD : va_D A [(ax 36, .inr (2, [.ref (tl 0)])), (ax 37, .inr (2, [.ref (tl 1)])), (ax 38, .inr (2, [.ref (tl 2)])), (ax 39, .inr (2, [.ref (tl 3)])), (ax 5, .inl (E.2 0, 7, .inl er))] := hD
  replace hq_1 : r_1 = fx_b (inB til 0 3 = true) := hq_1
  rcases fx_bc hq_1 with ⟨hb_1, hr_1⟩ | ⟨hb_1, hr_1⟩
  · -- True
    subst hr_1
    refine lv_if_eq (tgt := 20) hx hb dX0_till_4 (by decide) (fun c => absurd c (by decide)) (fun _ => ?_)
    refine lv_iload_n hx hb dX0_till_7 rfl (lv_at hl 2 rfl) ?_
    refine lv_if_lt (tgt := 20) hx hb dX0_till_8 (by decide) (fun c_8 => ?_) (fun c_8 => ?_)
    · -- jump 20
      have hbc : ¬ (inB til 0 3 && inB km 0 69) = true := by rw [Bool.eq_false_iff.2 (km_n (Or.inl c_8)), Bool.and_false]; exact Bool.false_ne_true
      refine lv_aload_n hx hb dX0_till_20 rfl (lv_at hl 0 rfl) ?_
      refine lv_iconst (v := 1) hx hb dX0_till_21 rfl ?_
      refine fx_ci (va_runV (As := [.int 1]) (rest := []) X (xX0_finds l E ax im bn bm fm ff fl er 1 (by decide) _) (cwV 1 X.2.2.2.2 (lw_V q303 q305 qs0 q69 q306) rfl rfl rfl ⟨rfl, hdX0_finds⟩ ⟨Nat.le_of_ble_eq_true rfl, Nat.le_of_ble_eq_true rfl⟩) (fx_preV (fx_pre hE hP hD hS hR [4] rfl rfl (fx_rcr 0 rfl fx_rc0)) (va_recv hE.1 (hR.at hS) (ci := 0) (q0 := 0) rfl rfl)) rfl rfl hl.1 rfl (lv_room (Nat.le_of_ble_eq_true rfl)) dX0_till_22 ⟨Nat.le_of_ble_eq_true rfl, Nat.le_of_ble_eq_true rfl⟩) hP hD hS hA [4] rfl rfl (fun r_22 u H locs hq_22 hP hD hS => ?_)
      replace hP : va_P E.1 clA [(ax 36, .inr (2, [.ref (tl 0)])), (ax 37, .inr (2, [.ref (tl 1)])), (ax 38, .inr (2, [.ref (tl 2)])), (ax 39, .inr (2, [.ref (tl 3)])), (ax 5, .inl (E.2 0, 7, .inl (upd er 1 (er 1 + 1))))] _ := hP
      replace hD : va_D A [(ax 36, .inr (2, [.ref (tl 0)])), (ax 37, .inr (2, [.ref (tl 1)])), (ax 38, .inr (2, [.ref (tl 2)])), (ax 39, .inr (2, [.ref (tl 3)])), (ax 5, .inl (E.2 0, 7, .inl (upd er 1 (er 1 + 1))))] := hD
      replace hq_22 : r_22 = erv 1 := hq_22
      exact hret r_22 (tl, (upd er 1 (er 1 + 1)), []) (⟨by rw [hq_22, till_, if_neg hbc], by simp only [till_, if_neg hbc]; rfl, by simp only [till_, if_neg hbc]; exact TLS_app hTL⟩) (rfl) hP hD hS (Nat.le_of_ble_eq_true rfl) (Nat.le_of_ble_eq_true rfl) dX0_till_25
    · -- fall 11
      refine lv_iload_n hx hb dX0_till_11 rfl (lv_at hl 2 rfl) ?_
      refine lv_bipush (v := 10) hx hb dX0_till_12 rfl ?_
      refine lv_idiv hx hb dX0_till_14 (by decide) ?_
      refine lv_bipush (v := 6) hx hb dX0_till_15 rfl ?_
      refine lv_icmp_le (tgt := 26) hx hb dX0_till_17 (by decide) (fun c_17 => ?_) (fun c_17 => ?_)
      · -- jump 26
        have gn := inB_nn (n := 3) hb_1 (by omega)
        obtain ⟨hb69, hk1, hk2, hk3, hk4⟩ := km_c c_8 c_17
        have hbc : (inB til 0 3 && inB km 0 69) = true := by rw [hb_1, hb69]; rfl
        obtain ⟨k, hk, rfl⟩ : ∃ k, k < 4 ∧ til = nI k := ⟨nn til, by omega, gn.1⟩; rcases (show k = 0 ∨ k = 1 ∨ k = 2 ∨ k = 3 by omega) with rfl | rfl | rfl | rfl
        ·
          have hk0 : 0 < 4 := by decide
          have hnn : nn (nI 0) = 0 := rfl
          refine lv_bipush (v := 10) hx hb dX0_till_26 rfl ?_
          refine lv_aload_n hx hb dX0_till_28 rfl (lv_at hl 0 rfl) ?_
          refine fx_get X hE (hR.at hS) 0 rfl rfl 2 rfl q237 rfl rfl dX0_till_29 ?_
          refine lv_iload_n hx hb dX0_till_32 rfl (lv_at hl 1 rfl) ?_
          refine fx_cq (va_runV (As := [.int (nI 0)]) (rest := [.int 10]) X (xX1_at l E ax tk cs gs zz tp wg sa tl 0 PL (by first | assumption | omega) (by first | assumption | omega) (by first | assumption | omega) _) (cwV 1 X.2.2.2.2 (lw_V q339 q340 q341 q70 q342) rfl rfl rfl ⟨rfl, hdX1_at⟩ ⟨Nat.le_of_ble_eq_true rfl, Nat.le_of_ble_eq_true rfl⟩) (fx_preV (fx_pre hE hP hD hS hR [] rfl rfl (fx_rcr 1 rfl (fx_rcr 2 rfl (fx_rcm 0 rfl (by decide) (fx_rcm 1 rfl (by decide) (fx_rcm 2 rfl (by decide) (fx_rcm 3 rfl (by decide) (fx_rct (fun q hq => List.mem_append_right _ hq))))))))) (va_recv hE.1 (hR.at hS) (ci := 1) (q0 := 1) rfl rfl)) rfl rfl hl.1 rfl (lv_room (Nat.le_of_ble_eq_true rfl)) dX0_till_33 ⟨Nat.le_of_ble_eq_true rfl, Nat.le_of_ble_eq_true rfl⟩) hP hD hS hA [] rfl rfl (fun r_33 u H locs hq_33 hP hD hS => ?_)
          replace hP : va_P E.1 clA [(ax 36, .inr (2, [.ref (tl 0)])), (ax 37, .inr (2, [.ref (tl 1)])), (ax 38, .inr (2, [.ref (tl 2)])), (ax 39, .inr (2, [.ref (tl 3)])), (ax 5, .inl (E.2 0, 7, .inl er))] _ := hP
          replace hD : va_D A [(ax 36, .inr (2, [.ref (tl 0)])), (ax 37, .inr (2, [.ref (tl 1)])), (ax 38, .inr (2, [.ref (tl 2)])), (ax 39, .inr (2, [.ref (tl 3)])), (ax 5, .inl (E.2 0, 7, .inl er))] := hD
          replace hq_33 : r_33 = some (tl 0) := hq_33
          obtain rfl : r_33 = some (tl 0) := by first | exact hq_33 | exact hq_33.1
          rcases kd7 (hI.kd (k := 0) hk0).2 with hw | hw | hw | hw | hw | hw | hw
          ·
            have hc : ((tl 0, .inr (3, [.int (nI 0), .int (sa (32 + 2 * 0 + 1))])) : Nat × va_E) ∈ PL := by have hz := hTL 0 hk0; rw [hw] at hz; exact hz
            refine fx_ci (va_runV (As := []) (rest := [.int 10]) X (xX3_kind l E (tl 0) _) (cwV 0 X.2.2.2.2 (lw_V q343 q344 q345 q72 q352) rfl rfl rfl ⟨rfl, hdX3_kind⟩ ⟨Nat.le_of_ble_eq_true rfl, Nat.le_of_ble_eq_true rfl⟩) (fx_preV (fx_pre hE hP hD hS hR [] rfl rfl fx_rc0) (va_recv hE.1 (fx_one (hR.at hS) (List.mem_append_right _ hc)) (ci := 3) (q0 := 0) rfl rfl)) rfl rfl hl.1 rfl (lv_room (Nat.le_of_ble_eq_true rfl)) dX0_till_36 ⟨Nat.le_of_ble_eq_true rfl, Nat.le_of_ble_eq_true rfl⟩) hP hD hS hA [] rfl rfl (fun r_36 u H locs hq_36 hP hD hS => ?_)
            replace hP : va_P E.1 clA [(ax 36, .inr (2, [.ref (tl 0)])), (ax 37, .inr (2, [.ref (tl 1)])), (ax 38, .inr (2, [.ref (tl 2)])), (ax 39, .inr (2, [.ref (tl 3)])), (ax 5, .inl (E.2 0, 7, .inl er))] _ := hP
            replace hD : va_D A [(ax 36, .inr (2, [.ref (tl 0)])), (ax 37, .inr (2, [.ref (tl 1)])), (ax 38, .inr (2, [.ref (tl 2)])), (ax 39, .inr (2, [.ref (tl 3)])), (ax 5, .inl (E.2 0, 7, .inl er))] := hD
            replace hq_36 : r_36 = 0 := hq_36
            refine lv_imul hx hb dX0_till_39 ?_
            refine lv_aload_n hx hb dX0_till_40 rfl (lv_at hl 0 rfl) ?_
            refine fx_get X hE (hR.at hS) 0 rfl rfl 2 rfl q237 rfl rfl dX0_till_41 ?_
            refine lv_iload_n hx hb dX0_till_44 rfl (lv_at hl 1 rfl) ?_
            refine fx_cq (va_runV (As := [.int (nI 0)]) (rest := [.int (10 * r_36)]) X (xX1_at l E ax tk cs gs zz tp wg sa tl 0 PL (by first | assumption | omega) (by first | assumption | omega) (by first | assumption | omega) _) (cwV 1 X.2.2.2.2 (lw_V q339 q340 q341 q70 q342) rfl rfl rfl ⟨rfl, hdX1_at⟩ ⟨Nat.le_of_ble_eq_true rfl, Nat.le_of_ble_eq_true rfl⟩) (fx_preV (fx_pre hE hP hD hS hR [] rfl rfl (fx_rcr 1 rfl (fx_rcr 2 rfl (fx_rcm 0 rfl (by decide) (fx_rcm 1 rfl (by decide) (fx_rcm 2 rfl (by decide) (fx_rcm 3 rfl (by decide) (fx_rct (fun q hq => List.mem_append_right _ hq))))))))) (va_recv hE.1 (hR.at hS) (ci := 1) (q0 := 1) rfl rfl)) rfl rfl hl.1 rfl (lv_room (Nat.le_of_ble_eq_true rfl)) dX0_till_45 ⟨Nat.le_of_ble_eq_true rfl, Nat.le_of_ble_eq_true rfl⟩) hP hD hS hA [] rfl rfl (fun r_45 u H locs hq_45 hP hD hS => ?_)
            replace hP : va_P E.1 clA [(ax 36, .inr (2, [.ref (tl 0)])), (ax 37, .inr (2, [.ref (tl 1)])), (ax 38, .inr (2, [.ref (tl 2)])), (ax 39, .inr (2, [.ref (tl 3)])), (ax 5, .inl (E.2 0, 7, .inl er))] _ := hP
            replace hD : va_D A [(ax 36, .inr (2, [.ref (tl 0)])), (ax 37, .inr (2, [.ref (tl 1)])), (ax 38, .inr (2, [.ref (tl 2)])), (ax 39, .inr (2, [.ref (tl 3)])), (ax 5, .inl (E.2 0, 7, .inl er))] := hD
            replace hq_45 : r_45 = some (tl 0) := hq_45
            obtain rfl : r_45 = some (tl 0) := by first | exact hq_45 | exact hq_45.1
            refine fx_get X hE (fx_one (hR.at hS) (List.mem_append_right _ hc)) 0 rfl rfl 1 rfl q146 rfl rfl dX0_till_48 ?_
            refine lv_iadd hx hb dX0_till_51 ?_
            refine lv_istore_n (lv' := [(3, .int ((10 * r_36) + (sa (32 + 2 * 0 + 1)))), (0, .ref (ax 19)), (1, .int (nI 0)), (2, .int km)]) hx hb dX0_till_52 rfl hl (by decide) rfl (fun ls hl => ?_)
            refine lv_aload_n hx hb dX0_till_53 rfl (lv_at hl 1 rfl) ?_
            refine fx_get X hE (hR.at hS) 0 rfl rfl 2 rfl q237 rfl rfl dX0_till_54 ?_
            refine fx_getN X hE (hR.at hS) 1 rfl rfl 9 rfl 12 rfl rfl rfl dX0_till_57 ?_
            refine lv_iload_n hx hb dX0_till_60 rfl (lv_at hl 2 rfl) ?_
            refine fx_aald X hE (hR.at hS) 2 3 rfl rfl 0 rfl (by decide) rfl (r := some (ax 36)) (rfl) dX0_till_61 ?_
            refine lv_iload_n hx hb dX0_till_62 rfl (lv_at hl 3 rfl) ?_
            refine lv_bipush (v := 10) hx hb dX0_till_63 rfl ?_
            refine lv_idiv hx hb dX0_till_65 (by decide) ?_
            refine fx_ti (show (km / 10) = nI (nn km / 10) from hk3) ?_
            refine lv_iload_n hx hb dX0_till_66 rfl (lv_at hl 2 rfl) ?_
            refine lv_iload_n hx hb dX0_till_67 rfl (lv_at hl 3 rfl) ?_
            refine lv_bipush (v := 10) hx hb dX0_till_68 rfl ?_
            refine lv_irem hx hb dX0_till_70 (by decide) ?_
            refine fx_ti (show (km - km / 10 * 10) = nI (nn km % 10) from hk4) ?_
            refine fx_cq (va_runS (As := [.int (nI (nn km / 10)), .int (nI 0), .int (nI (nn km % 10))]) (rest := [.ref (ax 36)]) X (xX0_made l E (nn km / 10) (nI 0) (nI (nn km % 10)) (by first | assumption | omega) _) (va_cwS 3 X.2.2.2.2 (lw_S q378 q379 q69 q380) rfl rfl rfl hdX0_made ⟨Nat.le_of_ble_eq_true rfl, Nat.le_of_ble_eq_true rfl⟩) (fx_pre hE hP hD hS hR [] rfl rfl fx_rc0) rfl rfl hl.1 rfl (lv_room (Nat.le_of_ble_eq_true rfl)) dX0_till_71 ⟨Nat.le_of_ble_eq_true rfl, Nat.le_of_ble_eq_true rfl⟩) hP hD hS hA [] rfl rfl (fun r_71 u H locs hq_71 hP hD hS => ?_)
            obtain ⟨q2_71, rfl⟩ : ∃ z, z = u := ⟨_, rfl⟩
            replace hP : va_P E.1 clA [(ax 36, .inr (2, [.ref (tl 0)])), (ax 37, .inr (2, [.ref (tl 1)])), (ax 38, .inr (2, [.ref (tl 2)])), (ax 39, .inr (2, [.ref (tl 3)])), (ax 5, .inl (E.2 0, 7, .inl er)), (q2_71, .inr ((tcn (nn km / 10)), [.int (nI 0), .int (nI (nn km % 10))]))] _ := hP
            replace hD : va_D A [(ax 36, .inr (2, [.ref (tl 0)])), (ax 37, .inr (2, [.ref (tl 1)])), (ax 38, .inr (2, [.ref (tl 2)])), (ax 39, .inr (2, [.ref (tl 3)])), (ax 5, .inl (E.2 0, 7, .inl er)), (q2_71, .inr ((tcn (nn km / 10)), [.int (nI 0), .int (nI (nn km % 10))]))] := hD
            replace hq_71 : r_71 = some q2_71 := hq_71
            refine W.widen (k := 1) (n := 2) (by first | omega | exact Nat.le_of_ble_eq_true rfl) (by first | omega | exact Nat.le_of_ble_eq_true rfl) ?_
            obtain rfl : r_71 = some q2_71 := by first | exact hq_71 | exact hq_71.1
            refine fx_putN (ws' := [(ax 36, .inr (2, [.ref q2_71])), (ax 37, .inr (2, [.ref (tl 1)])), (ax 38, .inr (2, [.ref (tl 2)])), (ax 39, .inr (2, [.ref (tl 3)])), (ax 5, .inl (E.2 0, 7, .inl er)), (q2_71, .inr ((tcn (nn km / 10)), [.int (nI 0), .int (nI (nn km % 10))]))]) X hE hP hD hS 0 rfl rfl tyX2_ok nmX2 0 rfl 2 rfl rfl rfl rfl rfl rfl rfl dX0_till_74 (fun H locs hP hD hS => ?_)
            refine lv_iload_n hx hb dX0_till_77 rfl (lv_at hl 0 rfl) ?_
            exact hret ((10 * r_36) + (sa (32 + 2 * 0 + 1))) ((upN tl 0 q2_71), er, [(q2_71, .inr ((tcn (nn km / 10)), [.int (nI 0), .int (nI (nn km % 10))]))]) (⟨by rw [till_, if_pos hbc]; show _ = 10 * sa (32 + 2 * nn (nI 0)) + sa (32 + 2 * nn (nI 0) + 1); rw [hnn, hq_36, (hI.kd (k := 0) hk0).1, hw]; rfl, by simp only [till_, if_pos hbc], by rw [till_, if_pos hbc]; show TLS _ (upd (upd sa (32 + 2 * nn (nI 0)) _) (32 + 2 * nn (nI 0) + 1) _) _; rw [hnn]; exact TLS_new hTL hk0 (by omega) (List.mem_of_getElem? (i := 0) rfl)⟩) (rfl) hP hD hS (Nat.le_refl _) (Nat.le_refl _) dX0_till_78
          ·
            have hc : ((tl 0, .inr (7, [.int (nI 0), .int (sa (32 + 2 * 0 + 1))])) : Nat × va_E) ∈ PL := by have hz := hTL 0 hk0; rw [hw] at hz; exact hz
            refine fx_ci (va_runU (As := []) (rest := [.int 10]) X (xX7_kind l E (tl 0) (nI 0) (sa (32 + 2 * 0 + 1)) _) (va_cwO 0 X.2.2.2.2 (lw_O q343 q346 q344 q362 q358 q77 q359) rfl rfl rfl q352 ⟨by decide +kernel, by decide +kernel, hdX7_kind.2.2⟩ ⟨Nat.le_of_ble_eq_true rfl, Nat.le_of_ble_eq_true rfl⟩) (fx_preV (fx_pre hE hP hD hS hR [] rfl rfl (fx_rcx ((List.mem_append_right _ hc)) fx_rc0)) (va_recv hE.1 (fx_one (hR.at hS) (List.mem_append_right _ hc)) (ci := 7) (q0 := 0) rfl rfl)) rfl rfl hl.1 rfl (lv_room (Nat.le_of_ble_eq_true rfl)) dX0_till_36 ⟨Nat.le_of_ble_eq_true rfl, Nat.le_of_ble_eq_true rfl⟩) hP hD hS hA [] rfl rfl (fun r_36 u H locs hq_36 hP hD hS => ?_)
            replace hP : va_P E.1 clA [(ax 36, .inr (2, [.ref (tl 0)])), (ax 37, .inr (2, [.ref (tl 1)])), (ax 38, .inr (2, [.ref (tl 2)])), (ax 39, .inr (2, [.ref (tl 3)])), (ax 5, .inl (E.2 0, 7, .inl er))] _ := hP
            replace hD : va_D A [(ax 36, .inr (2, [.ref (tl 0)])), (ax 37, .inr (2, [.ref (tl 1)])), (ax 38, .inr (2, [.ref (tl 2)])), (ax 39, .inr (2, [.ref (tl 3)])), (ax 5, .inl (E.2 0, 7, .inl er))] := hD
            replace hq_36 : r_36 = 1 := hq_36
            refine lv_imul hx hb dX0_till_39 ?_
            refine lv_aload_n hx hb dX0_till_40 rfl (lv_at hl 0 rfl) ?_
            refine fx_get X hE (hR.at hS) 0 rfl rfl 2 rfl q237 rfl rfl dX0_till_41 ?_
            refine lv_iload_n hx hb dX0_till_44 rfl (lv_at hl 1 rfl) ?_
            refine fx_cq (va_runV (As := [.int (nI 0)]) (rest := [.int (10 * r_36)]) X (xX1_at l E ax tk cs gs zz tp wg sa tl 0 PL (by first | assumption | omega) (by first | assumption | omega) (by first | assumption | omega) _) (cwV 1 X.2.2.2.2 (lw_V q339 q340 q341 q70 q342) rfl rfl rfl ⟨rfl, hdX1_at⟩ ⟨Nat.le_of_ble_eq_true rfl, Nat.le_of_ble_eq_true rfl⟩) (fx_preV (fx_pre hE hP hD hS hR [] rfl rfl (fx_rcr 1 rfl (fx_rcr 2 rfl (fx_rcm 0 rfl (by decide) (fx_rcm 1 rfl (by decide) (fx_rcm 2 rfl (by decide) (fx_rcm 3 rfl (by decide) (fx_rct (fun q hq => List.mem_append_right _ hq))))))))) (va_recv hE.1 (hR.at hS) (ci := 1) (q0 := 1) rfl rfl)) rfl rfl hl.1 rfl (lv_room (Nat.le_of_ble_eq_true rfl)) dX0_till_45 ⟨Nat.le_of_ble_eq_true rfl, Nat.le_of_ble_eq_true rfl⟩) hP hD hS hA [] rfl rfl (fun r_45 u H locs hq_45 hP hD hS => ?_)
            replace hP : va_P E.1 clA [(ax 36, .inr (2, [.ref (tl 0)])), (ax 37, .inr (2, [.ref (tl 1)])), (ax 38, .inr (2, [.ref (tl 2)])), (ax 39, .inr (2, [.ref (tl 3)])), (ax 5, .inl (E.2 0, 7, .inl er))] _ := hP
            replace hD : va_D A [(ax 36, .inr (2, [.ref (tl 0)])), (ax 37, .inr (2, [.ref (tl 1)])), (ax 38, .inr (2, [.ref (tl 2)])), (ax 39, .inr (2, [.ref (tl 3)])), (ax 5, .inl (E.2 0, 7, .inl er))] := hD
            replace hq_45 : r_45 = some (tl 0) := hq_45
            obtain rfl : r_45 = some (tl 0) := by first | exact hq_45 | exact hq_45.1
            refine fx_get X hE (fx_one (hR.at hS) (List.mem_append_right _ hc)) 0 rfl rfl 1 rfl q146 rfl rfl dX0_till_48 ?_
            refine lv_iadd hx hb dX0_till_51 ?_
            refine lv_istore_n (lv' := [(3, .int ((10 * r_36) + (sa (32 + 2 * 0 + 1)))), (0, .ref (ax 19)), (1, .int (nI 0)), (2, .int km)]) hx hb dX0_till_52 rfl hl (by decide) rfl (fun ls hl => ?_)
            refine lv_aload_n hx hb dX0_till_53 rfl (lv_at hl 1 rfl) ?_
            refine fx_get X hE (hR.at hS) 0 rfl rfl 2 rfl q237 rfl rfl dX0_till_54 ?_
            refine fx_getN X hE (hR.at hS) 1 rfl rfl 9 rfl 12 rfl rfl rfl dX0_till_57 ?_
            refine lv_iload_n hx hb dX0_till_60 rfl (lv_at hl 2 rfl) ?_
            refine fx_aald X hE (hR.at hS) 2 3 rfl rfl 0 rfl (by decide) rfl (r := some (ax 36)) (rfl) dX0_till_61 ?_
            refine lv_iload_n hx hb dX0_till_62 rfl (lv_at hl 3 rfl) ?_
            refine lv_bipush (v := 10) hx hb dX0_till_63 rfl ?_
            refine lv_idiv hx hb dX0_till_65 (by decide) ?_
            refine fx_ti (show (km / 10) = nI (nn km / 10) from hk3) ?_
            refine lv_iload_n hx hb dX0_till_66 rfl (lv_at hl 2 rfl) ?_
            refine lv_iload_n hx hb dX0_till_67 rfl (lv_at hl 3 rfl) ?_
            refine lv_bipush (v := 10) hx hb dX0_till_68 rfl ?_
            refine lv_irem hx hb dX0_till_70 (by decide) ?_
            refine fx_ti (show (km - km / 10 * 10) = nI (nn km % 10) from hk4) ?_
            refine fx_cq (va_runS (As := [.int (nI (nn km / 10)), .int (nI 0), .int (nI (nn km % 10))]) (rest := [.ref (ax 36)]) X (xX0_made l E (nn km / 10) (nI 0) (nI (nn km % 10)) (by first | assumption | omega) _) (va_cwS 3 X.2.2.2.2 (lw_S q378 q379 q69 q380) rfl rfl rfl hdX0_made ⟨Nat.le_of_ble_eq_true rfl, Nat.le_of_ble_eq_true rfl⟩) (fx_pre hE hP hD hS hR [] rfl rfl fx_rc0) rfl rfl hl.1 rfl (lv_room (Nat.le_of_ble_eq_true rfl)) dX0_till_71 ⟨Nat.le_of_ble_eq_true rfl, Nat.le_of_ble_eq_true rfl⟩) hP hD hS hA [] rfl rfl (fun r_71 u H locs hq_71 hP hD hS => ?_)
            obtain ⟨q2_71, rfl⟩ : ∃ z, z = u := ⟨_, rfl⟩
            replace hP : va_P E.1 clA [(ax 36, .inr (2, [.ref (tl 0)])), (ax 37, .inr (2, [.ref (tl 1)])), (ax 38, .inr (2, [.ref (tl 2)])), (ax 39, .inr (2, [.ref (tl 3)])), (ax 5, .inl (E.2 0, 7, .inl er)), (q2_71, .inr ((tcn (nn km / 10)), [.int (nI 0), .int (nI (nn km % 10))]))] _ := hP
            replace hD : va_D A [(ax 36, .inr (2, [.ref (tl 0)])), (ax 37, .inr (2, [.ref (tl 1)])), (ax 38, .inr (2, [.ref (tl 2)])), (ax 39, .inr (2, [.ref (tl 3)])), (ax 5, .inl (E.2 0, 7, .inl er)), (q2_71, .inr ((tcn (nn km / 10)), [.int (nI 0), .int (nI (nn km % 10))]))] := hD
            replace hq_71 : r_71 = some q2_71 := hq_71
            refine W.widen (k := 1) (n := 2) (by first | omega | exact Nat.le_of_ble_eq_true rfl) (by first | omega | exact Nat.le_of_ble_eq_true rfl) ?_
            obtain rfl : r_71 = some q2_71 := by first | exact hq_71 | exact hq_71.1
            refine fx_putN (ws' := [(ax 36, .inr (2, [.ref q2_71])), (ax 37, .inr (2, [.ref (tl 1)])), (ax 38, .inr (2, [.ref (tl 2)])), (ax 39, .inr (2, [.ref (tl 3)])), (ax 5, .inl (E.2 0, 7, .inl er)), (q2_71, .inr ((tcn (nn km / 10)), [.int (nI 0), .int (nI (nn km % 10))]))]) X hE hP hD hS 0 rfl rfl tyX2_ok nmX2 0 rfl 2 rfl rfl rfl rfl rfl rfl rfl dX0_till_74 (fun H locs hP hD hS => ?_)
            refine lv_iload_n hx hb dX0_till_77 rfl (lv_at hl 0 rfl) ?_
            exact hret ((10 * r_36) + (sa (32 + 2 * 0 + 1))) ((upN tl 0 q2_71), er, [(q2_71, .inr ((tcn (nn km / 10)), [.int (nI 0), .int (nI (nn km % 10))]))]) (⟨by rw [till_, if_pos hbc]; show _ = 10 * sa (32 + 2 * nn (nI 0)) + sa (32 + 2 * nn (nI 0) + 1); rw [hnn, hq_36, (hI.kd (k := 0) hk0).1, hw]; rfl, by simp only [till_, if_pos hbc], by rw [till_, if_pos hbc]; show TLS _ (upd (upd sa (32 + 2 * nn (nI 0)) _) (32 + 2 * nn (nI 0) + 1) _) _; rw [hnn]; exact TLS_new hTL hk0 (by omega) (List.mem_of_getElem? (i := 0) rfl)⟩) (rfl) hP hD hS (Nat.le_refl _) (Nat.le_refl _) dX0_till_78
          ·
            have hc : ((tl 0, .inr (8, [.int (nI 0), .int (sa (32 + 2 * 0 + 1))])) : Nat × va_E) ∈ PL := by have hz := hTL 0 hk0; rw [hw] at hz; exact hz
            refine fx_ci (va_runU (As := []) (rest := [.int 10]) X (xX8_kind l E (tl 0) (nI 0) (sa (32 + 2 * 0 + 1)) _) (va_cwO 0 X.2.2.2.2 (lw_O q343 q346 q344 q372 q368 q78 q369) rfl rfl rfl q352 ⟨by decide +kernel, by decide +kernel, hdX8_kind.2.2⟩ ⟨Nat.le_of_ble_eq_true rfl, Nat.le_of_ble_eq_true rfl⟩) (fx_preV (fx_pre hE hP hD hS hR [] rfl rfl (fx_rcx ((List.mem_append_right _ hc)) fx_rc0)) (va_recv hE.1 (fx_one (hR.at hS) (List.mem_append_right _ hc)) (ci := 8) (q0 := 0) rfl rfl)) rfl rfl hl.1 rfl (lv_room (Nat.le_of_ble_eq_true rfl)) dX0_till_36 ⟨Nat.le_of_ble_eq_true rfl, Nat.le_of_ble_eq_true rfl⟩) hP hD hS hA [] rfl rfl (fun r_36 u H locs hq_36 hP hD hS => ?_)
            replace hP : va_P E.1 clA [(ax 36, .inr (2, [.ref (tl 0)])), (ax 37, .inr (2, [.ref (tl 1)])), (ax 38, .inr (2, [.ref (tl 2)])), (ax 39, .inr (2, [.ref (tl 3)])), (ax 5, .inl (E.2 0, 7, .inl er))] _ := hP
            replace hD : va_D A [(ax 36, .inr (2, [.ref (tl 0)])), (ax 37, .inr (2, [.ref (tl 1)])), (ax 38, .inr (2, [.ref (tl 2)])), (ax 39, .inr (2, [.ref (tl 3)])), (ax 5, .inl (E.2 0, 7, .inl er))] := hD
            replace hq_36 : r_36 = 2 := hq_36
            refine lv_imul hx hb dX0_till_39 ?_
            refine lv_aload_n hx hb dX0_till_40 rfl (lv_at hl 0 rfl) ?_
            refine fx_get X hE (hR.at hS) 0 rfl rfl 2 rfl q237 rfl rfl dX0_till_41 ?_
            refine lv_iload_n hx hb dX0_till_44 rfl (lv_at hl 1 rfl) ?_
            refine fx_cq (va_runV (As := [.int (nI 0)]) (rest := [.int (10 * r_36)]) X (xX1_at l E ax tk cs gs zz tp wg sa tl 0 PL (by first | assumption | omega) (by first | assumption | omega) (by first | assumption | omega) _) (cwV 1 X.2.2.2.2 (lw_V q339 q340 q341 q70 q342) rfl rfl rfl ⟨rfl, hdX1_at⟩ ⟨Nat.le_of_ble_eq_true rfl, Nat.le_of_ble_eq_true rfl⟩) (fx_preV (fx_pre hE hP hD hS hR [] rfl rfl (fx_rcr 1 rfl (fx_rcr 2 rfl (fx_rcm 0 rfl (by decide) (fx_rcm 1 rfl (by decide) (fx_rcm 2 rfl (by decide) (fx_rcm 3 rfl (by decide) (fx_rct (fun q hq => List.mem_append_right _ hq))))))))) (va_recv hE.1 (hR.at hS) (ci := 1) (q0 := 1) rfl rfl)) rfl rfl hl.1 rfl (lv_room (Nat.le_of_ble_eq_true rfl)) dX0_till_45 ⟨Nat.le_of_ble_eq_true rfl, Nat.le_of_ble_eq_true rfl⟩) hP hD hS hA [] rfl rfl (fun r_45 u H locs hq_45 hP hD hS => ?_)
            replace hP : va_P E.1 clA [(ax 36, .inr (2, [.ref (tl 0)])), (ax 37, .inr (2, [.ref (tl 1)])), (ax 38, .inr (2, [.ref (tl 2)])), (ax 39, .inr (2, [.ref (tl 3)])), (ax 5, .inl (E.2 0, 7, .inl er))] _ := hP
            replace hD : va_D A [(ax 36, .inr (2, [.ref (tl 0)])), (ax 37, .inr (2, [.ref (tl 1)])), (ax 38, .inr (2, [.ref (tl 2)])), (ax 39, .inr (2, [.ref (tl 3)])), (ax 5, .inl (E.2 0, 7, .inl er))] := hD
            replace hq_45 : r_45 = some (tl 0) := hq_45
            obtain rfl : r_45 = some (tl 0) := by first | exact hq_45 | exact hq_45.1
            refine fx_get X hE (fx_one (hR.at hS) (List.mem_append_right _ hc)) 0 rfl rfl 1 rfl q146 rfl rfl dX0_till_48 ?_
            refine lv_iadd hx hb dX0_till_51 ?_
            refine lv_istore_n (lv' := [(3, .int ((10 * r_36) + (sa (32 + 2 * 0 + 1)))), (0, .ref (ax 19)), (1, .int (nI 0)), (2, .int km)]) hx hb dX0_till_52 rfl hl (by decide) rfl (fun ls hl => ?_)
            refine lv_aload_n hx hb dX0_till_53 rfl (lv_at hl 1 rfl) ?_
            refine fx_get X hE (hR.at hS) 0 rfl rfl 2 rfl q237 rfl rfl dX0_till_54 ?_
            refine fx_getN X hE (hR.at hS) 1 rfl rfl 9 rfl 12 rfl rfl rfl dX0_till_57 ?_
            refine lv_iload_n hx hb dX0_till_60 rfl (lv_at hl 2 rfl) ?_
            refine fx_aald X hE (hR.at hS) 2 3 rfl rfl 0 rfl (by decide) rfl (r := some (ax 36)) (rfl) dX0_till_61 ?_
            refine lv_iload_n hx hb dX0_till_62 rfl (lv_at hl 3 rfl) ?_
            refine lv_bipush (v := 10) hx hb dX0_till_63 rfl ?_
            refine lv_idiv hx hb dX0_till_65 (by decide) ?_
            refine fx_ti (show (km / 10) = nI (nn km / 10) from hk3) ?_
            refine lv_iload_n hx hb dX0_till_66 rfl (lv_at hl 2 rfl) ?_
            refine lv_iload_n hx hb dX0_till_67 rfl (lv_at hl 3 rfl) ?_
            refine lv_bipush (v := 10) hx hb dX0_till_68 rfl ?_
            refine lv_irem hx hb dX0_till_70 (by decide) ?_
            refine fx_ti (show (km - km / 10 * 10) = nI (nn km % 10) from hk4) ?_
            refine fx_cq (va_runS (As := [.int (nI (nn km / 10)), .int (nI 0), .int (nI (nn km % 10))]) (rest := [.ref (ax 36)]) X (xX0_made l E (nn km / 10) (nI 0) (nI (nn km % 10)) (by first | assumption | omega) _) (va_cwS 3 X.2.2.2.2 (lw_S q378 q379 q69 q380) rfl rfl rfl hdX0_made ⟨Nat.le_of_ble_eq_true rfl, Nat.le_of_ble_eq_true rfl⟩) (fx_pre hE hP hD hS hR [] rfl rfl fx_rc0) rfl rfl hl.1 rfl (lv_room (Nat.le_of_ble_eq_true rfl)) dX0_till_71 ⟨Nat.le_of_ble_eq_true rfl, Nat.le_of_ble_eq_true rfl⟩) hP hD hS hA [] rfl rfl (fun r_71 u H locs hq_71 hP hD hS => ?_)
            obtain ⟨q2_71, rfl⟩ : ∃ z, z = u := ⟨_, rfl⟩
            replace hP : va_P E.1 clA [(ax 36, .inr (2, [.ref (tl 0)])), (ax 37, .inr (2, [.ref (tl 1)])), (ax 38, .inr (2, [.ref (tl 2)])), (ax 39, .inr (2, [.ref (tl 3)])), (ax 5, .inl (E.2 0, 7, .inl er)), (q2_71, .inr ((tcn (nn km / 10)), [.int (nI 0), .int (nI (nn km % 10))]))] _ := hP
            replace hD : va_D A [(ax 36, .inr (2, [.ref (tl 0)])), (ax 37, .inr (2, [.ref (tl 1)])), (ax 38, .inr (2, [.ref (tl 2)])), (ax 39, .inr (2, [.ref (tl 3)])), (ax 5, .inl (E.2 0, 7, .inl er)), (q2_71, .inr ((tcn (nn km / 10)), [.int (nI 0), .int (nI (nn km % 10))]))] := hD
            replace hq_71 : r_71 = some q2_71 := hq_71
            refine W.widen (k := 1) (n := 2) (by first | omega | exact Nat.le_of_ble_eq_true rfl) (by first | omega | exact Nat.le_of_ble_eq_true rfl) ?_
            obtain rfl : r_71 = some q2_71 := by first | exact hq_71 | exact hq_71.1
            refine fx_putN (ws' := [(ax 36, .inr (2, [.ref q2_71])), (ax 37, .inr (2, [.ref (tl 1)])), (ax 38, .inr (2, [.ref (tl 2)])), (ax 39, .inr (2, [.ref (tl 3)])), (ax 5, .inl (E.2 0, 7, .inl er)), (q2_71, .inr ((tcn (nn km / 10)), [.int (nI 0), .int (nI (nn km % 10))]))]) X hE hP hD hS 0 rfl rfl tyX2_ok nmX2 0 rfl 2 rfl rfl rfl rfl rfl rfl rfl dX0_till_74 (fun H locs hP hD hS => ?_)
            refine lv_iload_n hx hb dX0_till_77 rfl (lv_at hl 0 rfl) ?_
            exact hret ((10 * r_36) + (sa (32 + 2 * 0 + 1))) ((upN tl 0 q2_71), er, [(q2_71, .inr ((tcn (nn km / 10)), [.int (nI 0), .int (nI (nn km % 10))]))]) (⟨by rw [till_, if_pos hbc]; show _ = 10 * sa (32 + 2 * nn (nI 0)) + sa (32 + 2 * nn (nI 0) + 1); rw [hnn, hq_36, (hI.kd (k := 0) hk0).1, hw]; rfl, by simp only [till_, if_pos hbc], by rw [till_, if_pos hbc]; show TLS _ (upd (upd sa (32 + 2 * nn (nI 0)) _) (32 + 2 * nn (nI 0) + 1) _) _; rw [hnn]; exact TLS_new hTL hk0 (by omega) (List.mem_of_getElem? (i := 0) rfl)⟩) (rfl) hP hD hS (Nat.le_refl _) (Nat.le_refl _) dX0_till_78
          ·
            have hc : ((tl 0, .inr (9, [.int (nI 0), .int (sa (32 + 2 * 0 + 1))])) : Nat × va_E) ∈ PL := by have hz := hTL 0 hk0; rw [hw] at hz; exact hz
            refine fx_ci (va_runU (As := []) (rest := [.int 10]) X (xX9_kind l E (tl 0) (nI 0) (sa (32 + 2 * 0 + 1)) _) (va_cwO 0 X.2.2.2.2 (lw_O q343 q346 q344 q347 q348 q79 q349) rfl rfl rfl q352 ⟨by decide +kernel, by decide +kernel, hdX9_kind.2.2⟩ ⟨Nat.le_of_ble_eq_true rfl, Nat.le_of_ble_eq_true rfl⟩) (fx_preV (fx_pre hE hP hD hS hR [] rfl rfl (fx_rcx ((List.mem_append_right _ hc)) fx_rc0)) (va_recv hE.1 (fx_one (hR.at hS) (List.mem_append_right _ hc)) (ci := 9) (q0 := 0) rfl rfl)) rfl rfl hl.1 rfl (lv_room (Nat.le_of_ble_eq_true rfl)) dX0_till_36 ⟨Nat.le_of_ble_eq_true rfl, Nat.le_of_ble_eq_true rfl⟩) hP hD hS hA [] rfl rfl (fun r_36 u H locs hq_36 hP hD hS => ?_)
            replace hP : va_P E.1 clA [(ax 36, .inr (2, [.ref (tl 0)])), (ax 37, .inr (2, [.ref (tl 1)])), (ax 38, .inr (2, [.ref (tl 2)])), (ax 39, .inr (2, [.ref (tl 3)])), (ax 5, .inl (E.2 0, 7, .inl er))] _ := hP
            replace hD : va_D A [(ax 36, .inr (2, [.ref (tl 0)])), (ax 37, .inr (2, [.ref (tl 1)])), (ax 38, .inr (2, [.ref (tl 2)])), (ax 39, .inr (2, [.ref (tl 3)])), (ax 5, .inl (E.2 0, 7, .inl er))] := hD
            replace hq_36 : r_36 = 3 := hq_36
            refine lv_imul hx hb dX0_till_39 ?_
            refine lv_aload_n hx hb dX0_till_40 rfl (lv_at hl 0 rfl) ?_
            refine fx_get X hE (hR.at hS) 0 rfl rfl 2 rfl q237 rfl rfl dX0_till_41 ?_
            refine lv_iload_n hx hb dX0_till_44 rfl (lv_at hl 1 rfl) ?_
            refine fx_cq (va_runV (As := [.int (nI 0)]) (rest := [.int (10 * r_36)]) X (xX1_at l E ax tk cs gs zz tp wg sa tl 0 PL (by first | assumption | omega) (by first | assumption | omega) (by first | assumption | omega) _) (cwV 1 X.2.2.2.2 (lw_V q339 q340 q341 q70 q342) rfl rfl rfl ⟨rfl, hdX1_at⟩ ⟨Nat.le_of_ble_eq_true rfl, Nat.le_of_ble_eq_true rfl⟩) (fx_preV (fx_pre hE hP hD hS hR [] rfl rfl (fx_rcr 1 rfl (fx_rcr 2 rfl (fx_rcm 0 rfl (by decide) (fx_rcm 1 rfl (by decide) (fx_rcm 2 rfl (by decide) (fx_rcm 3 rfl (by decide) (fx_rct (fun q hq => List.mem_append_right _ hq))))))))) (va_recv hE.1 (hR.at hS) (ci := 1) (q0 := 1) rfl rfl)) rfl rfl hl.1 rfl (lv_room (Nat.le_of_ble_eq_true rfl)) dX0_till_45 ⟨Nat.le_of_ble_eq_true rfl, Nat.le_of_ble_eq_true rfl⟩) hP hD hS hA [] rfl rfl (fun r_45 u H locs hq_45 hP hD hS => ?_)
            replace hP : va_P E.1 clA [(ax 36, .inr (2, [.ref (tl 0)])), (ax 37, .inr (2, [.ref (tl 1)])), (ax 38, .inr (2, [.ref (tl 2)])), (ax 39, .inr (2, [.ref (tl 3)])), (ax 5, .inl (E.2 0, 7, .inl er))] _ := hP
            replace hD : va_D A [(ax 36, .inr (2, [.ref (tl 0)])), (ax 37, .inr (2, [.ref (tl 1)])), (ax 38, .inr (2, [.ref (tl 2)])), (ax 39, .inr (2, [.ref (tl 3)])), (ax 5, .inl (E.2 0, 7, .inl er))] := hD
            replace hq_45 : r_45 = some (tl 0) := hq_45
            obtain rfl : r_45 = some (tl 0) := by first | exact hq_45 | exact hq_45.1
            refine fx_get X hE (fx_one (hR.at hS) (List.mem_append_right _ hc)) 0 rfl rfl 1 rfl q146 rfl rfl dX0_till_48 ?_
            refine lv_iadd hx hb dX0_till_51 ?_
            refine lv_istore_n (lv' := [(3, .int ((10 * r_36) + (sa (32 + 2 * 0 + 1)))), (0, .ref (ax 19)), (1, .int (nI 0)), (2, .int km)]) hx hb dX0_till_52 rfl hl (by decide) rfl (fun ls hl => ?_)
            refine lv_aload_n hx hb dX0_till_53 rfl (lv_at hl 1 rfl) ?_
            refine fx_get X hE (hR.at hS) 0 rfl rfl 2 rfl q237 rfl rfl dX0_till_54 ?_
            refine fx_getN X hE (hR.at hS) 1 rfl rfl 9 rfl 12 rfl rfl rfl dX0_till_57 ?_
            refine lv_iload_n hx hb dX0_till_60 rfl (lv_at hl 2 rfl) ?_
            refine fx_aald X hE (hR.at hS) 2 3 rfl rfl 0 rfl (by decide) rfl (r := some (ax 36)) (rfl) dX0_till_61 ?_
            refine lv_iload_n hx hb dX0_till_62 rfl (lv_at hl 3 rfl) ?_
            refine lv_bipush (v := 10) hx hb dX0_till_63 rfl ?_
            refine lv_idiv hx hb dX0_till_65 (by decide) ?_
            refine fx_ti (show (km / 10) = nI (nn km / 10) from hk3) ?_
            refine lv_iload_n hx hb dX0_till_66 rfl (lv_at hl 2 rfl) ?_
            refine lv_iload_n hx hb dX0_till_67 rfl (lv_at hl 3 rfl) ?_
            refine lv_bipush (v := 10) hx hb dX0_till_68 rfl ?_
            refine lv_irem hx hb dX0_till_70 (by decide) ?_
            refine fx_ti (show (km - km / 10 * 10) = nI (nn km % 10) from hk4) ?_
            refine fx_cq (va_runS (As := [.int (nI (nn km / 10)), .int (nI 0), .int (nI (nn km % 10))]) (rest := [.ref (ax 36)]) X (xX0_made l E (nn km / 10) (nI 0) (nI (nn km % 10)) (by first | assumption | omega) _) (va_cwS 3 X.2.2.2.2 (lw_S q378 q379 q69 q380) rfl rfl rfl hdX0_made ⟨Nat.le_of_ble_eq_true rfl, Nat.le_of_ble_eq_true rfl⟩) (fx_pre hE hP hD hS hR [] rfl rfl fx_rc0) rfl rfl hl.1 rfl (lv_room (Nat.le_of_ble_eq_true rfl)) dX0_till_71 ⟨Nat.le_of_ble_eq_true rfl, Nat.le_of_ble_eq_true rfl⟩) hP hD hS hA [] rfl rfl (fun r_71 u H locs hq_71 hP hD hS => ?_)
            obtain ⟨q2_71, rfl⟩ : ∃ z, z = u := ⟨_, rfl⟩
            replace hP : va_P E.1 clA [(ax 36, .inr (2, [.ref (tl 0)])), (ax 37, .inr (2, [.ref (tl 1)])), (ax 38, .inr (2, [.ref (tl 2)])), (ax 39, .inr (2, [.ref (tl 3)])), (ax 5, .inl (E.2 0, 7, .inl er)), (q2_71, .inr ((tcn (nn km / 10)), [.int (nI 0), .int (nI (nn km % 10))]))] _ := hP
            replace hD : va_D A [(ax 36, .inr (2, [.ref (tl 0)])), (ax 37, .inr (2, [.ref (tl 1)])), (ax 38, .inr (2, [.ref (tl 2)])), (ax 39, .inr (2, [.ref (tl 3)])), (ax 5, .inl (E.2 0, 7, .inl er)), (q2_71, .inr ((tcn (nn km / 10)), [.int (nI 0), .int (nI (nn km % 10))]))] := hD
            replace hq_71 : r_71 = some q2_71 := hq_71
            refine W.widen (k := 1) (n := 2) (by first | omega | exact Nat.le_of_ble_eq_true rfl) (by first | omega | exact Nat.le_of_ble_eq_true rfl) ?_
            obtain rfl : r_71 = some q2_71 := by first | exact hq_71 | exact hq_71.1
            refine fx_putN (ws' := [(ax 36, .inr (2, [.ref q2_71])), (ax 37, .inr (2, [.ref (tl 1)])), (ax 38, .inr (2, [.ref (tl 2)])), (ax 39, .inr (2, [.ref (tl 3)])), (ax 5, .inl (E.2 0, 7, .inl er)), (q2_71, .inr ((tcn (nn km / 10)), [.int (nI 0), .int (nI (nn km % 10))]))]) X hE hP hD hS 0 rfl rfl tyX2_ok nmX2 0 rfl 2 rfl rfl rfl rfl rfl rfl rfl dX0_till_74 (fun H locs hP hD hS => ?_)
            refine lv_iload_n hx hb dX0_till_77 rfl (lv_at hl 0 rfl) ?_
            exact hret ((10 * r_36) + (sa (32 + 2 * 0 + 1))) ((upN tl 0 q2_71), er, [(q2_71, .inr ((tcn (nn km / 10)), [.int (nI 0), .int (nI (nn km % 10))]))]) (⟨by rw [till_, if_pos hbc]; show _ = 10 * sa (32 + 2 * nn (nI 0)) + sa (32 + 2 * nn (nI 0) + 1); rw [hnn, hq_36, (hI.kd (k := 0) hk0).1, hw]; rfl, by simp only [till_, if_pos hbc], by rw [till_, if_pos hbc]; show TLS _ (upd (upd sa (32 + 2 * nn (nI 0)) _) (32 + 2 * nn (nI 0) + 1) _) _; rw [hnn]; exact TLS_new hTL hk0 (by omega) (List.mem_of_getElem? (i := 0) rfl)⟩) (rfl) hP hD hS (Nat.le_refl _) (Nat.le_refl _) dX0_till_78
          ·
            have hc : ((tl 0, .inr (10, [.int (nI 0), .int (sa (32 + 2 * 0 + 1))])) : Nat × va_E) ∈ PL := by have hz := hTL 0 hk0; rw [hw] at hz; exact hz
            refine fx_ci (va_runU (As := []) (rest := [.int 10]) X (xX10_kind l E (tl 0) (nI 0) (sa (32 + 2 * 0 + 1)) _) (va_cwO 0 X.2.2.2.2 (lw_O q343 q346 q344 q363 q364 q80 q365) rfl rfl rfl q352 ⟨by decide +kernel, by decide +kernel, hdX10_kind.2.2⟩ ⟨Nat.le_of_ble_eq_true rfl, Nat.le_of_ble_eq_true rfl⟩) (fx_preV (fx_pre hE hP hD hS hR [] rfl rfl (fx_rcx ((List.mem_append_right _ hc)) fx_rc0)) (va_recv hE.1 (fx_one (hR.at hS) (List.mem_append_right _ hc)) (ci := 10) (q0 := 0) rfl rfl)) rfl rfl hl.1 rfl (lv_room (Nat.le_of_ble_eq_true rfl)) dX0_till_36 ⟨Nat.le_of_ble_eq_true rfl, Nat.le_of_ble_eq_true rfl⟩) hP hD hS hA [] rfl rfl (fun r_36 u H locs hq_36 hP hD hS => ?_)
            replace hP : va_P E.1 clA [(ax 36, .inr (2, [.ref (tl 0)])), (ax 37, .inr (2, [.ref (tl 1)])), (ax 38, .inr (2, [.ref (tl 2)])), (ax 39, .inr (2, [.ref (tl 3)])), (ax 5, .inl (E.2 0, 7, .inl er))] _ := hP
            replace hD : va_D A [(ax 36, .inr (2, [.ref (tl 0)])), (ax 37, .inr (2, [.ref (tl 1)])), (ax 38, .inr (2, [.ref (tl 2)])), (ax 39, .inr (2, [.ref (tl 3)])), (ax 5, .inl (E.2 0, 7, .inl er))] := hD
            replace hq_36 : r_36 = 4 := hq_36
            refine lv_imul hx hb dX0_till_39 ?_
            refine lv_aload_n hx hb dX0_till_40 rfl (lv_at hl 0 rfl) ?_
            refine fx_get X hE (hR.at hS) 0 rfl rfl 2 rfl q237 rfl rfl dX0_till_41 ?_
            refine lv_iload_n hx hb dX0_till_44 rfl (lv_at hl 1 rfl) ?_
            refine fx_cq (va_runV (As := [.int (nI 0)]) (rest := [.int (10 * r_36)]) X (xX1_at l E ax tk cs gs zz tp wg sa tl 0 PL (by first | assumption | omega) (by first | assumption | omega) (by first | assumption | omega) _) (cwV 1 X.2.2.2.2 (lw_V q339 q340 q341 q70 q342) rfl rfl rfl ⟨rfl, hdX1_at⟩ ⟨Nat.le_of_ble_eq_true rfl, Nat.le_of_ble_eq_true rfl⟩) (fx_preV (fx_pre hE hP hD hS hR [] rfl rfl (fx_rcr 1 rfl (fx_rcr 2 rfl (fx_rcm 0 rfl (by decide) (fx_rcm 1 rfl (by decide) (fx_rcm 2 rfl (by decide) (fx_rcm 3 rfl (by decide) (fx_rct (fun q hq => List.mem_append_right _ hq))))))))) (va_recv hE.1 (hR.at hS) (ci := 1) (q0 := 1) rfl rfl)) rfl rfl hl.1 rfl (lv_room (Nat.le_of_ble_eq_true rfl)) dX0_till_45 ⟨Nat.le_of_ble_eq_true rfl, Nat.le_of_ble_eq_true rfl⟩) hP hD hS hA [] rfl rfl (fun r_45 u H locs hq_45 hP hD hS => ?_)
            replace hP : va_P E.1 clA [(ax 36, .inr (2, [.ref (tl 0)])), (ax 37, .inr (2, [.ref (tl 1)])), (ax 38, .inr (2, [.ref (tl 2)])), (ax 39, .inr (2, [.ref (tl 3)])), (ax 5, .inl (E.2 0, 7, .inl er))] _ := hP
            replace hD : va_D A [(ax 36, .inr (2, [.ref (tl 0)])), (ax 37, .inr (2, [.ref (tl 1)])), (ax 38, .inr (2, [.ref (tl 2)])), (ax 39, .inr (2, [.ref (tl 3)])), (ax 5, .inl (E.2 0, 7, .inl er))] := hD
            replace hq_45 : r_45 = some (tl 0) := hq_45
            obtain rfl : r_45 = some (tl 0) := by first | exact hq_45 | exact hq_45.1
            refine fx_get X hE (fx_one (hR.at hS) (List.mem_append_right _ hc)) 0 rfl rfl 1 rfl q146 rfl rfl dX0_till_48 ?_
            refine lv_iadd hx hb dX0_till_51 ?_
            refine lv_istore_n (lv' := [(3, .int ((10 * r_36) + (sa (32 + 2 * 0 + 1)))), (0, .ref (ax 19)), (1, .int (nI 0)), (2, .int km)]) hx hb dX0_till_52 rfl hl (by decide) rfl (fun ls hl => ?_)
            refine lv_aload_n hx hb dX0_till_53 rfl (lv_at hl 1 rfl) ?_
            refine fx_get X hE (hR.at hS) 0 rfl rfl 2 rfl q237 rfl rfl dX0_till_54 ?_
            refine fx_getN X hE (hR.at hS) 1 rfl rfl 9 rfl 12 rfl rfl rfl dX0_till_57 ?_
            refine lv_iload_n hx hb dX0_till_60 rfl (lv_at hl 2 rfl) ?_
            refine fx_aald X hE (hR.at hS) 2 3 rfl rfl 0 rfl (by decide) rfl (r := some (ax 36)) (rfl) dX0_till_61 ?_
            refine lv_iload_n hx hb dX0_till_62 rfl (lv_at hl 3 rfl) ?_
            refine lv_bipush (v := 10) hx hb dX0_till_63 rfl ?_
            refine lv_idiv hx hb dX0_till_65 (by decide) ?_
            refine fx_ti (show (km / 10) = nI (nn km / 10) from hk3) ?_
            refine lv_iload_n hx hb dX0_till_66 rfl (lv_at hl 2 rfl) ?_
            refine lv_iload_n hx hb dX0_till_67 rfl (lv_at hl 3 rfl) ?_
            refine lv_bipush (v := 10) hx hb dX0_till_68 rfl ?_
            refine lv_irem hx hb dX0_till_70 (by decide) ?_
            refine fx_ti (show (km - km / 10 * 10) = nI (nn km % 10) from hk4) ?_
            refine fx_cq (va_runS (As := [.int (nI (nn km / 10)), .int (nI 0), .int (nI (nn km % 10))]) (rest := [.ref (ax 36)]) X (xX0_made l E (nn km / 10) (nI 0) (nI (nn km % 10)) (by first | assumption | omega) _) (va_cwS 3 X.2.2.2.2 (lw_S q378 q379 q69 q380) rfl rfl rfl hdX0_made ⟨Nat.le_of_ble_eq_true rfl, Nat.le_of_ble_eq_true rfl⟩) (fx_pre hE hP hD hS hR [] rfl rfl fx_rc0) rfl rfl hl.1 rfl (lv_room (Nat.le_of_ble_eq_true rfl)) dX0_till_71 ⟨Nat.le_of_ble_eq_true rfl, Nat.le_of_ble_eq_true rfl⟩) hP hD hS hA [] rfl rfl (fun r_71 u H locs hq_71 hP hD hS => ?_)
            obtain ⟨q2_71, rfl⟩ : ∃ z, z = u := ⟨_, rfl⟩
            replace hP : va_P E.1 clA [(ax 36, .inr (2, [.ref (tl 0)])), (ax 37, .inr (2, [.ref (tl 1)])), (ax 38, .inr (2, [.ref (tl 2)])), (ax 39, .inr (2, [.ref (tl 3)])), (ax 5, .inl (E.2 0, 7, .inl er)), (q2_71, .inr ((tcn (nn km / 10)), [.int (nI 0), .int (nI (nn km % 10))]))] _ := hP
            replace hD : va_D A [(ax 36, .inr (2, [.ref (tl 0)])), (ax 37, .inr (2, [.ref (tl 1)])), (ax 38, .inr (2, [.ref (tl 2)])), (ax 39, .inr (2, [.ref (tl 3)])), (ax 5, .inl (E.2 0, 7, .inl er)), (q2_71, .inr ((tcn (nn km / 10)), [.int (nI 0), .int (nI (nn km % 10))]))] := hD
            replace hq_71 : r_71 = some q2_71 := hq_71
            refine W.widen (k := 1) (n := 2) (by first | omega | exact Nat.le_of_ble_eq_true rfl) (by first | omega | exact Nat.le_of_ble_eq_true rfl) ?_
            obtain rfl : r_71 = some q2_71 := by first | exact hq_71 | exact hq_71.1
            refine fx_putN (ws' := [(ax 36, .inr (2, [.ref q2_71])), (ax 37, .inr (2, [.ref (tl 1)])), (ax 38, .inr (2, [.ref (tl 2)])), (ax 39, .inr (2, [.ref (tl 3)])), (ax 5, .inl (E.2 0, 7, .inl er)), (q2_71, .inr ((tcn (nn km / 10)), [.int (nI 0), .int (nI (nn km % 10))]))]) X hE hP hD hS 0 rfl rfl tyX2_ok nmX2 0 rfl 2 rfl rfl rfl rfl rfl rfl rfl dX0_till_74 (fun H locs hP hD hS => ?_)
            refine lv_iload_n hx hb dX0_till_77 rfl (lv_at hl 0 rfl) ?_
            exact hret ((10 * r_36) + (sa (32 + 2 * 0 + 1))) ((upN tl 0 q2_71), er, [(q2_71, .inr ((tcn (nn km / 10)), [.int (nI 0), .int (nI (nn km % 10))]))]) (⟨by rw [till_, if_pos hbc]; show _ = 10 * sa (32 + 2 * nn (nI 0)) + sa (32 + 2 * nn (nI 0) + 1); rw [hnn, hq_36, (hI.kd (k := 0) hk0).1, hw]; rfl, by simp only [till_, if_pos hbc], by rw [till_, if_pos hbc]; show TLS _ (upd (upd sa (32 + 2 * nn (nI 0)) _) (32 + 2 * nn (nI 0) + 1) _) _; rw [hnn]; exact TLS_new hTL hk0 (by omega) (List.mem_of_getElem? (i := 0) rfl)⟩) (rfl) hP hD hS (Nat.le_refl _) (Nat.le_refl _) dX0_till_78
          ·
            have hc : ((tl 0, .inr (11, [.int (nI 0), .int (sa (32 + 2 * 0 + 1))])) : Nat × va_E) ∈ PL := by have hz := hTL 0 hk0; rw [hw] at hz; exact hz
            refine fx_ci (va_runU (As := []) (rest := [.int 10]) X (xX11_kind l E (tl 0) (nI 0) (sa (32 + 2 * 0 + 1)) _) (va_cwO 0 X.2.2.2.2 (lw_O q343 q346 q344 q353 q354 q81 q355) rfl rfl rfl q352 ⟨by decide +kernel, by decide +kernel, hdX11_kind.2.2⟩ ⟨Nat.le_of_ble_eq_true rfl, Nat.le_of_ble_eq_true rfl⟩) (fx_preV (fx_pre hE hP hD hS hR [] rfl rfl (fx_rcx ((List.mem_append_right _ hc)) fx_rc0)) (va_recv hE.1 (fx_one (hR.at hS) (List.mem_append_right _ hc)) (ci := 11) (q0 := 0) rfl rfl)) rfl rfl hl.1 rfl (lv_room (Nat.le_of_ble_eq_true rfl)) dX0_till_36 ⟨Nat.le_of_ble_eq_true rfl, Nat.le_of_ble_eq_true rfl⟩) hP hD hS hA [] rfl rfl (fun r_36 u H locs hq_36 hP hD hS => ?_)
            replace hP : va_P E.1 clA [(ax 36, .inr (2, [.ref (tl 0)])), (ax 37, .inr (2, [.ref (tl 1)])), (ax 38, .inr (2, [.ref (tl 2)])), (ax 39, .inr (2, [.ref (tl 3)])), (ax 5, .inl (E.2 0, 7, .inl er))] _ := hP
            replace hD : va_D A [(ax 36, .inr (2, [.ref (tl 0)])), (ax 37, .inr (2, [.ref (tl 1)])), (ax 38, .inr (2, [.ref (tl 2)])), (ax 39, .inr (2, [.ref (tl 3)])), (ax 5, .inl (E.2 0, 7, .inl er))] := hD
            replace hq_36 : r_36 = 5 := hq_36
            refine lv_imul hx hb dX0_till_39 ?_
            refine lv_aload_n hx hb dX0_till_40 rfl (lv_at hl 0 rfl) ?_
            refine fx_get X hE (hR.at hS) 0 rfl rfl 2 rfl q237 rfl rfl dX0_till_41 ?_
            refine lv_iload_n hx hb dX0_till_44 rfl (lv_at hl 1 rfl) ?_
            refine fx_cq (va_runV (As := [.int (nI 0)]) (rest := [.int (10 * r_36)]) X (xX1_at l E ax tk cs gs zz tp wg sa tl 0 PL (by first | assumption | omega) (by first | assumption | omega) (by first | assumption | omega) _) (cwV 1 X.2.2.2.2 (lw_V q339 q340 q341 q70 q342) rfl rfl rfl ⟨rfl, hdX1_at⟩ ⟨Nat.le_of_ble_eq_true rfl, Nat.le_of_ble_eq_true rfl⟩) (fx_preV (fx_pre hE hP hD hS hR [] rfl rfl (fx_rcr 1 rfl (fx_rcr 2 rfl (fx_rcm 0 rfl (by decide) (fx_rcm 1 rfl (by decide) (fx_rcm 2 rfl (by decide) (fx_rcm 3 rfl (by decide) (fx_rct (fun q hq => List.mem_append_right _ hq))))))))) (va_recv hE.1 (hR.at hS) (ci := 1) (q0 := 1) rfl rfl)) rfl rfl hl.1 rfl (lv_room (Nat.le_of_ble_eq_true rfl)) dX0_till_45 ⟨Nat.le_of_ble_eq_true rfl, Nat.le_of_ble_eq_true rfl⟩) hP hD hS hA [] rfl rfl (fun r_45 u H locs hq_45 hP hD hS => ?_)
            replace hP : va_P E.1 clA [(ax 36, .inr (2, [.ref (tl 0)])), (ax 37, .inr (2, [.ref (tl 1)])), (ax 38, .inr (2, [.ref (tl 2)])), (ax 39, .inr (2, [.ref (tl 3)])), (ax 5, .inl (E.2 0, 7, .inl er))] _ := hP
            replace hD : va_D A [(ax 36, .inr (2, [.ref (tl 0)])), (ax 37, .inr (2, [.ref (tl 1)])), (ax 38, .inr (2, [.ref (tl 2)])), (ax 39, .inr (2, [.ref (tl 3)])), (ax 5, .inl (E.2 0, 7, .inl er))] := hD
            replace hq_45 : r_45 = some (tl 0) := hq_45
            obtain rfl : r_45 = some (tl 0) := by first | exact hq_45 | exact hq_45.1
            refine fx_get X hE (fx_one (hR.at hS) (List.mem_append_right _ hc)) 0 rfl rfl 1 rfl q146 rfl rfl dX0_till_48 ?_
            refine lv_iadd hx hb dX0_till_51 ?_
            refine lv_istore_n (lv' := [(3, .int ((10 * r_36) + (sa (32 + 2 * 0 + 1)))), (0, .ref (ax 19)), (1, .int (nI 0)), (2, .int km)]) hx hb dX0_till_52 rfl hl (by decide) rfl (fun ls hl => ?_)
            refine lv_aload_n hx hb dX0_till_53 rfl (lv_at hl 1 rfl) ?_
            refine fx_get X hE (hR.at hS) 0 rfl rfl 2 rfl q237 rfl rfl dX0_till_54 ?_
            refine fx_getN X hE (hR.at hS) 1 rfl rfl 9 rfl 12 rfl rfl rfl dX0_till_57 ?_
            refine lv_iload_n hx hb dX0_till_60 rfl (lv_at hl 2 rfl) ?_
            refine fx_aald X hE (hR.at hS) 2 3 rfl rfl 0 rfl (by decide) rfl (r := some (ax 36)) (rfl) dX0_till_61 ?_
            refine lv_iload_n hx hb dX0_till_62 rfl (lv_at hl 3 rfl) ?_
            refine lv_bipush (v := 10) hx hb dX0_till_63 rfl ?_
            refine lv_idiv hx hb dX0_till_65 (by decide) ?_
            refine fx_ti (show (km / 10) = nI (nn km / 10) from hk3) ?_
            refine lv_iload_n hx hb dX0_till_66 rfl (lv_at hl 2 rfl) ?_
            refine lv_iload_n hx hb dX0_till_67 rfl (lv_at hl 3 rfl) ?_
            refine lv_bipush (v := 10) hx hb dX0_till_68 rfl ?_
            refine lv_irem hx hb dX0_till_70 (by decide) ?_
            refine fx_ti (show (km - km / 10 * 10) = nI (nn km % 10) from hk4) ?_
            refine fx_cq (va_runS (As := [.int (nI (nn km / 10)), .int (nI 0), .int (nI (nn km % 10))]) (rest := [.ref (ax 36)]) X (xX0_made l E (nn km / 10) (nI 0) (nI (nn km % 10)) (by first | assumption | omega) _) (va_cwS 3 X.2.2.2.2 (lw_S q378 q379 q69 q380) rfl rfl rfl hdX0_made ⟨Nat.le_of_ble_eq_true rfl, Nat.le_of_ble_eq_true rfl⟩) (fx_pre hE hP hD hS hR [] rfl rfl fx_rc0) rfl rfl hl.1 rfl (lv_room (Nat.le_of_ble_eq_true rfl)) dX0_till_71 ⟨Nat.le_of_ble_eq_true rfl, Nat.le_of_ble_eq_true rfl⟩) hP hD hS hA [] rfl rfl (fun r_71 u H locs hq_71 hP hD hS => ?_)
            obtain ⟨q2_71, rfl⟩ : ∃ z, z = u := ⟨_, rfl⟩
            replace hP : va_P E.1 clA [(ax 36, .inr (2, [.ref (tl 0)])), (ax 37, .inr (2, [.ref (tl 1)])), (ax 38, .inr (2, [.ref (tl 2)])), (ax 39, .inr (2, [.ref (tl 3)])), (ax 5, .inl (E.2 0, 7, .inl er)), (q2_71, .inr ((tcn (nn km / 10)), [.int (nI 0), .int (nI (nn km % 10))]))] _ := hP
            replace hD : va_D A [(ax 36, .inr (2, [.ref (tl 0)])), (ax 37, .inr (2, [.ref (tl 1)])), (ax 38, .inr (2, [.ref (tl 2)])), (ax 39, .inr (2, [.ref (tl 3)])), (ax 5, .inl (E.2 0, 7, .inl er)), (q2_71, .inr ((tcn (nn km / 10)), [.int (nI 0), .int (nI (nn km % 10))]))] := hD
            replace hq_71 : r_71 = some q2_71 := hq_71
            refine W.widen (k := 1) (n := 2) (by first | omega | exact Nat.le_of_ble_eq_true rfl) (by first | omega | exact Nat.le_of_ble_eq_true rfl) ?_
            obtain rfl : r_71 = some q2_71 := by first | exact hq_71 | exact hq_71.1
            refine fx_putN (ws' := [(ax 36, .inr (2, [.ref q2_71])), (ax 37, .inr (2, [.ref (tl 1)])), (ax 38, .inr (2, [.ref (tl 2)])), (ax 39, .inr (2, [.ref (tl 3)])), (ax 5, .inl (E.2 0, 7, .inl er)), (q2_71, .inr ((tcn (nn km / 10)), [.int (nI 0), .int (nI (nn km % 10))]))]) X hE hP hD hS 0 rfl rfl tyX2_ok nmX2 0 rfl 2 rfl rfl rfl rfl rfl rfl rfl dX0_till_74 (fun H locs hP hD hS => ?_)
            refine lv_iload_n hx hb dX0_till_77 rfl (lv_at hl 0 rfl) ?_
            exact hret ((10 * r_36) + (sa (32 + 2 * 0 + 1))) ((upN tl 0 q2_71), er, [(q2_71, .inr ((tcn (nn km / 10)), [.int (nI 0), .int (nI (nn km % 10))]))]) (⟨by rw [till_, if_pos hbc]; show _ = 10 * sa (32 + 2 * nn (nI 0)) + sa (32 + 2 * nn (nI 0) + 1); rw [hnn, hq_36, (hI.kd (k := 0) hk0).1, hw]; rfl, by simp only [till_, if_pos hbc], by rw [till_, if_pos hbc]; show TLS _ (upd (upd sa (32 + 2 * nn (nI 0)) _) (32 + 2 * nn (nI 0) + 1) _) _; rw [hnn]; exact TLS_new hTL hk0 (by omega) (List.mem_of_getElem? (i := 0) rfl)⟩) (rfl) hP hD hS (Nat.le_refl _) (Nat.le_refl _) dX0_till_78
          ·
            have hc : ((tl 0, .inr (12, [.int (nI 0), .int (sa (32 + 2 * 0 + 1))])) : Nat × va_E) ∈ PL := by have hz := hTL 0 hk0; rw [hw] at hz; exact hz
            refine fx_ci (va_runU (As := []) (rest := [.int 10]) X (xX12_kind l E (tl 0) (nI 0) (sa (32 + 2 * 0 + 1)) _) (va_cwO 0 X.2.2.2.2 (lw_O q343 q346 q344 q373 q374 q82 q375) rfl rfl rfl q352 ⟨by decide +kernel, by decide +kernel, hdX12_kind.2.2⟩ ⟨Nat.le_of_ble_eq_true rfl, Nat.le_of_ble_eq_true rfl⟩) (fx_preV (fx_pre hE hP hD hS hR [] rfl rfl (fx_rcx ((List.mem_append_right _ hc)) fx_rc0)) (va_recv hE.1 (fx_one (hR.at hS) (List.mem_append_right _ hc)) (ci := 12) (q0 := 0) rfl rfl)) rfl rfl hl.1 rfl (lv_room (Nat.le_of_ble_eq_true rfl)) dX0_till_36 ⟨Nat.le_of_ble_eq_true rfl, Nat.le_of_ble_eq_true rfl⟩) hP hD hS hA [] rfl rfl (fun r_36 u H locs hq_36 hP hD hS => ?_)
            replace hP : va_P E.1 clA [(ax 36, .inr (2, [.ref (tl 0)])), (ax 37, .inr (2, [.ref (tl 1)])), (ax 38, .inr (2, [.ref (tl 2)])), (ax 39, .inr (2, [.ref (tl 3)])), (ax 5, .inl (E.2 0, 7, .inl er))] _ := hP
            replace hD : va_D A [(ax 36, .inr (2, [.ref (tl 0)])), (ax 37, .inr (2, [.ref (tl 1)])), (ax 38, .inr (2, [.ref (tl 2)])), (ax 39, .inr (2, [.ref (tl 3)])), (ax 5, .inl (E.2 0, 7, .inl er))] := hD
            replace hq_36 : r_36 = 6 := hq_36
            refine lv_imul hx hb dX0_till_39 ?_
            refine lv_aload_n hx hb dX0_till_40 rfl (lv_at hl 0 rfl) ?_
            refine fx_get X hE (hR.at hS) 0 rfl rfl 2 rfl q237 rfl rfl dX0_till_41 ?_
            refine lv_iload_n hx hb dX0_till_44 rfl (lv_at hl 1 rfl) ?_
            refine fx_cq (va_runV (As := [.int (nI 0)]) (rest := [.int (10 * r_36)]) X (xX1_at l E ax tk cs gs zz tp wg sa tl 0 PL (by first | assumption | omega) (by first | assumption | omega) (by first | assumption | omega) _) (cwV 1 X.2.2.2.2 (lw_V q339 q340 q341 q70 q342) rfl rfl rfl ⟨rfl, hdX1_at⟩ ⟨Nat.le_of_ble_eq_true rfl, Nat.le_of_ble_eq_true rfl⟩) (fx_preV (fx_pre hE hP hD hS hR [] rfl rfl (fx_rcr 1 rfl (fx_rcr 2 rfl (fx_rcm 0 rfl (by decide) (fx_rcm 1 rfl (by decide) (fx_rcm 2 rfl (by decide) (fx_rcm 3 rfl (by decide) (fx_rct (fun q hq => List.mem_append_right _ hq))))))))) (va_recv hE.1 (hR.at hS) (ci := 1) (q0 := 1) rfl rfl)) rfl rfl hl.1 rfl (lv_room (Nat.le_of_ble_eq_true rfl)) dX0_till_45 ⟨Nat.le_of_ble_eq_true rfl, Nat.le_of_ble_eq_true rfl⟩) hP hD hS hA [] rfl rfl (fun r_45 u H locs hq_45 hP hD hS => ?_)
            replace hP : va_P E.1 clA [(ax 36, .inr (2, [.ref (tl 0)])), (ax 37, .inr (2, [.ref (tl 1)])), (ax 38, .inr (2, [.ref (tl 2)])), (ax 39, .inr (2, [.ref (tl 3)])), (ax 5, .inl (E.2 0, 7, .inl er))] _ := hP
            replace hD : va_D A [(ax 36, .inr (2, [.ref (tl 0)])), (ax 37, .inr (2, [.ref (tl 1)])), (ax 38, .inr (2, [.ref (tl 2)])), (ax 39, .inr (2, [.ref (tl 3)])), (ax 5, .inl (E.2 0, 7, .inl er))] := hD
            replace hq_45 : r_45 = some (tl 0) := hq_45
            obtain rfl : r_45 = some (tl 0) := by first | exact hq_45 | exact hq_45.1
            refine fx_get X hE (fx_one (hR.at hS) (List.mem_append_right _ hc)) 0 rfl rfl 1 rfl q146 rfl rfl dX0_till_48 ?_
            refine lv_iadd hx hb dX0_till_51 ?_
            refine lv_istore_n (lv' := [(3, .int ((10 * r_36) + (sa (32 + 2 * 0 + 1)))), (0, .ref (ax 19)), (1, .int (nI 0)), (2, .int km)]) hx hb dX0_till_52 rfl hl (by decide) rfl (fun ls hl => ?_)
            refine lv_aload_n hx hb dX0_till_53 rfl (lv_at hl 1 rfl) ?_
            refine fx_get X hE (hR.at hS) 0 rfl rfl 2 rfl q237 rfl rfl dX0_till_54 ?_
            refine fx_getN X hE (hR.at hS) 1 rfl rfl 9 rfl 12 rfl rfl rfl dX0_till_57 ?_
            refine lv_iload_n hx hb dX0_till_60 rfl (lv_at hl 2 rfl) ?_
            refine fx_aald X hE (hR.at hS) 2 3 rfl rfl 0 rfl (by decide) rfl (r := some (ax 36)) (rfl) dX0_till_61 ?_
            refine lv_iload_n hx hb dX0_till_62 rfl (lv_at hl 3 rfl) ?_
            refine lv_bipush (v := 10) hx hb dX0_till_63 rfl ?_
            refine lv_idiv hx hb dX0_till_65 (by decide) ?_
            refine fx_ti (show (km / 10) = nI (nn km / 10) from hk3) ?_
            refine lv_iload_n hx hb dX0_till_66 rfl (lv_at hl 2 rfl) ?_
            refine lv_iload_n hx hb dX0_till_67 rfl (lv_at hl 3 rfl) ?_
            refine lv_bipush (v := 10) hx hb dX0_till_68 rfl ?_
            refine lv_irem hx hb dX0_till_70 (by decide) ?_
            refine fx_ti (show (km - km / 10 * 10) = nI (nn km % 10) from hk4) ?_
            refine fx_cq (va_runS (As := [.int (nI (nn km / 10)), .int (nI 0), .int (nI (nn km % 10))]) (rest := [.ref (ax 36)]) X (xX0_made l E (nn km / 10) (nI 0) (nI (nn km % 10)) (by first | assumption | omega) _) (va_cwS 3 X.2.2.2.2 (lw_S q378 q379 q69 q380) rfl rfl rfl hdX0_made ⟨Nat.le_of_ble_eq_true rfl, Nat.le_of_ble_eq_true rfl⟩) (fx_pre hE hP hD hS hR [] rfl rfl fx_rc0) rfl rfl hl.1 rfl (lv_room (Nat.le_of_ble_eq_true rfl)) dX0_till_71 ⟨Nat.le_of_ble_eq_true rfl, Nat.le_of_ble_eq_true rfl⟩) hP hD hS hA [] rfl rfl (fun r_71 u H locs hq_71 hP hD hS => ?_)
            obtain ⟨q2_71, rfl⟩ : ∃ z, z = u := ⟨_, rfl⟩
            replace hP : va_P E.1 clA [(ax 36, .inr (2, [.ref (tl 0)])), (ax 37, .inr (2, [.ref (tl 1)])), (ax 38, .inr (2, [.ref (tl 2)])), (ax 39, .inr (2, [.ref (tl 3)])), (ax 5, .inl (E.2 0, 7, .inl er)), (q2_71, .inr ((tcn (nn km / 10)), [.int (nI 0), .int (nI (nn km % 10))]))] _ := hP
            replace hD : va_D A [(ax 36, .inr (2, [.ref (tl 0)])), (ax 37, .inr (2, [.ref (tl 1)])), (ax 38, .inr (2, [.ref (tl 2)])), (ax 39, .inr (2, [.ref (tl 3)])), (ax 5, .inl (E.2 0, 7, .inl er)), (q2_71, .inr ((tcn (nn km / 10)), [.int (nI 0), .int (nI (nn km % 10))]))] := hD
            replace hq_71 : r_71 = some q2_71 := hq_71
            refine W.widen (k := 1) (n := 2) (by first | omega | exact Nat.le_of_ble_eq_true rfl) (by first | omega | exact Nat.le_of_ble_eq_true rfl) ?_
            obtain rfl : r_71 = some q2_71 := by first | exact hq_71 | exact hq_71.1
            refine fx_putN (ws' := [(ax 36, .inr (2, [.ref q2_71])), (ax 37, .inr (2, [.ref (tl 1)])), (ax 38, .inr (2, [.ref (tl 2)])), (ax 39, .inr (2, [.ref (tl 3)])), (ax 5, .inl (E.2 0, 7, .inl er)), (q2_71, .inr ((tcn (nn km / 10)), [.int (nI 0), .int (nI (nn km % 10))]))]) X hE hP hD hS 0 rfl rfl tyX2_ok nmX2 0 rfl 2 rfl rfl rfl rfl rfl rfl rfl dX0_till_74 (fun H locs hP hD hS => ?_)
            refine lv_iload_n hx hb dX0_till_77 rfl (lv_at hl 0 rfl) ?_
            exact hret ((10 * r_36) + (sa (32 + 2 * 0 + 1))) ((upN tl 0 q2_71), er, [(q2_71, .inr ((tcn (nn km / 10)), [.int (nI 0), .int (nI (nn km % 10))]))]) (⟨by rw [till_, if_pos hbc]; show _ = 10 * sa (32 + 2 * nn (nI 0)) + sa (32 + 2 * nn (nI 0) + 1); rw [hnn, hq_36, (hI.kd (k := 0) hk0).1, hw]; rfl, by simp only [till_, if_pos hbc], by rw [till_, if_pos hbc]; show TLS _ (upd (upd sa (32 + 2 * nn (nI 0)) _) (32 + 2 * nn (nI 0) + 1) _) _; rw [hnn]; exact TLS_new hTL hk0 (by omega) (List.mem_of_getElem? (i := 0) rfl)⟩) (rfl) hP hD hS (Nat.le_refl _) (Nat.le_refl _) dX0_till_78
        ·
          have hk0 : 1 < 4 := by decide
          have hnn : nn (nI 1) = 1 := rfl
          refine lv_bipush (v := 10) hx hb dX0_till_26 rfl ?_
          refine lv_aload_n hx hb dX0_till_28 rfl (lv_at hl 0 rfl) ?_
          refine fx_get X hE (hR.at hS) 0 rfl rfl 2 rfl q237 rfl rfl dX0_till_29 ?_
          refine lv_iload_n hx hb dX0_till_32 rfl (lv_at hl 1 rfl) ?_
          refine fx_cq (va_runV (As := [.int (nI 1)]) (rest := [.int 10]) X (xX1_at l E ax tk cs gs zz tp wg sa tl 1 PL (by first | assumption | omega) (by first | assumption | omega) (by first | assumption | omega) _) (cwV 1 X.2.2.2.2 (lw_V q339 q340 q341 q70 q342) rfl rfl rfl ⟨rfl, hdX1_at⟩ ⟨Nat.le_of_ble_eq_true rfl, Nat.le_of_ble_eq_true rfl⟩) (fx_preV (fx_pre hE hP hD hS hR [] rfl rfl (fx_rcr 1 rfl (fx_rcr 2 rfl (fx_rcm 0 rfl (by decide) (fx_rcm 1 rfl (by decide) (fx_rcm 2 rfl (by decide) (fx_rcm 3 rfl (by decide) (fx_rct (fun q hq => List.mem_append_right _ hq))))))))) (va_recv hE.1 (hR.at hS) (ci := 1) (q0 := 1) rfl rfl)) rfl rfl hl.1 rfl (lv_room (Nat.le_of_ble_eq_true rfl)) dX0_till_33 ⟨Nat.le_of_ble_eq_true rfl, Nat.le_of_ble_eq_true rfl⟩) hP hD hS hA [] rfl rfl (fun r_33 u H locs hq_33 hP hD hS => ?_)
          replace hP : va_P E.1 clA [(ax 36, .inr (2, [.ref (tl 0)])), (ax 37, .inr (2, [.ref (tl 1)])), (ax 38, .inr (2, [.ref (tl 2)])), (ax 39, .inr (2, [.ref (tl 3)])), (ax 5, .inl (E.2 0, 7, .inl er))] _ := hP
          replace hD : va_D A [(ax 36, .inr (2, [.ref (tl 0)])), (ax 37, .inr (2, [.ref (tl 1)])), (ax 38, .inr (2, [.ref (tl 2)])), (ax 39, .inr (2, [.ref (tl 3)])), (ax 5, .inl (E.2 0, 7, .inl er))] := hD
          replace hq_33 : r_33 = some (tl 1) := hq_33
          obtain rfl : r_33 = some (tl 1) := by first | exact hq_33 | exact hq_33.1
          rcases kd7 (hI.kd (k := 1) hk0).2 with hw | hw | hw | hw | hw | hw | hw
          ·
            have hc : ((tl 1, .inr (3, [.int (nI 1), .int (sa (32 + 2 * 1 + 1))])) : Nat × va_E) ∈ PL := by have hz := hTL 1 hk0; rw [hw] at hz; exact hz
            refine fx_ci (va_runV (As := []) (rest := [.int 10]) X (xX3_kind l E (tl 1) _) (cwV 0 X.2.2.2.2 (lw_V q343 q344 q345 q72 q352) rfl rfl rfl ⟨rfl, hdX3_kind⟩ ⟨Nat.le_of_ble_eq_true rfl, Nat.le_of_ble_eq_true rfl⟩) (fx_preV (fx_pre hE hP hD hS hR [] rfl rfl fx_rc0) (va_recv hE.1 (fx_one (hR.at hS) (List.mem_append_right _ hc)) (ci := 3) (q0 := 0) rfl rfl)) rfl rfl hl.1 rfl (lv_room (Nat.le_of_ble_eq_true rfl)) dX0_till_36 ⟨Nat.le_of_ble_eq_true rfl, Nat.le_of_ble_eq_true rfl⟩) hP hD hS hA [] rfl rfl (fun r_36 u H locs hq_36 hP hD hS => ?_)
            replace hP : va_P E.1 clA [(ax 36, .inr (2, [.ref (tl 0)])), (ax 37, .inr (2, [.ref (tl 1)])), (ax 38, .inr (2, [.ref (tl 2)])), (ax 39, .inr (2, [.ref (tl 3)])), (ax 5, .inl (E.2 0, 7, .inl er))] _ := hP
            replace hD : va_D A [(ax 36, .inr (2, [.ref (tl 0)])), (ax 37, .inr (2, [.ref (tl 1)])), (ax 38, .inr (2, [.ref (tl 2)])), (ax 39, .inr (2, [.ref (tl 3)])), (ax 5, .inl (E.2 0, 7, .inl er))] := hD
            replace hq_36 : r_36 = 0 := hq_36
            refine lv_imul hx hb dX0_till_39 ?_
            refine lv_aload_n hx hb dX0_till_40 rfl (lv_at hl 0 rfl) ?_
            refine fx_get X hE (hR.at hS) 0 rfl rfl 2 rfl q237 rfl rfl dX0_till_41 ?_
            refine lv_iload_n hx hb dX0_till_44 rfl (lv_at hl 1 rfl) ?_
            refine fx_cq (va_runV (As := [.int (nI 1)]) (rest := [.int (10 * r_36)]) X (xX1_at l E ax tk cs gs zz tp wg sa tl 1 PL (by first | assumption | omega) (by first | assumption | omega) (by first | assumption | omega) _) (cwV 1 X.2.2.2.2 (lw_V q339 q340 q341 q70 q342) rfl rfl rfl ⟨rfl, hdX1_at⟩ ⟨Nat.le_of_ble_eq_true rfl, Nat.le_of_ble_eq_true rfl⟩) (fx_preV (fx_pre hE hP hD hS hR [] rfl rfl (fx_rcr 1 rfl (fx_rcr 2 rfl (fx_rcm 0 rfl (by decide) (fx_rcm 1 rfl (by decide) (fx_rcm 2 rfl (by decide) (fx_rcm 3 rfl (by decide) (fx_rct (fun q hq => List.mem_append_right _ hq))))))))) (va_recv hE.1 (hR.at hS) (ci := 1) (q0 := 1) rfl rfl)) rfl rfl hl.1 rfl (lv_room (Nat.le_of_ble_eq_true rfl)) dX0_till_45 ⟨Nat.le_of_ble_eq_true rfl, Nat.le_of_ble_eq_true rfl⟩) hP hD hS hA [] rfl rfl (fun r_45 u H locs hq_45 hP hD hS => ?_)
            replace hP : va_P E.1 clA [(ax 36, .inr (2, [.ref (tl 0)])), (ax 37, .inr (2, [.ref (tl 1)])), (ax 38, .inr (2, [.ref (tl 2)])), (ax 39, .inr (2, [.ref (tl 3)])), (ax 5, .inl (E.2 0, 7, .inl er))] _ := hP
            replace hD : va_D A [(ax 36, .inr (2, [.ref (tl 0)])), (ax 37, .inr (2, [.ref (tl 1)])), (ax 38, .inr (2, [.ref (tl 2)])), (ax 39, .inr (2, [.ref (tl 3)])), (ax 5, .inl (E.2 0, 7, .inl er))] := hD
            replace hq_45 : r_45 = some (tl 1) := hq_45
            obtain rfl : r_45 = some (tl 1) := by first | exact hq_45 | exact hq_45.1
            refine fx_get X hE (fx_one (hR.at hS) (List.mem_append_right _ hc)) 0 rfl rfl 1 rfl q146 rfl rfl dX0_till_48 ?_
            refine lv_iadd hx hb dX0_till_51 ?_
            refine lv_istore_n (lv' := [(3, .int ((10 * r_36) + (sa (32 + 2 * 1 + 1)))), (0, .ref (ax 19)), (1, .int (nI 1)), (2, .int km)]) hx hb dX0_till_52 rfl hl (by decide) rfl (fun ls hl => ?_)
            refine lv_aload_n hx hb dX0_till_53 rfl (lv_at hl 1 rfl) ?_
            refine fx_get X hE (hR.at hS) 0 rfl rfl 2 rfl q237 rfl rfl dX0_till_54 ?_
            refine fx_getN X hE (hR.at hS) 1 rfl rfl 9 rfl 12 rfl rfl rfl dX0_till_57 ?_
            refine lv_iload_n hx hb dX0_till_60 rfl (lv_at hl 2 rfl) ?_
            refine fx_aald X hE (hR.at hS) 2 3 rfl rfl 1 rfl (by decide) rfl (r := some (ax 37)) (rfl) dX0_till_61 ?_
            refine lv_iload_n hx hb dX0_till_62 rfl (lv_at hl 3 rfl) ?_
            refine lv_bipush (v := 10) hx hb dX0_till_63 rfl ?_
            refine lv_idiv hx hb dX0_till_65 (by decide) ?_
            refine fx_ti (show (km / 10) = nI (nn km / 10) from hk3) ?_
            refine lv_iload_n hx hb dX0_till_66 rfl (lv_at hl 2 rfl) ?_
            refine lv_iload_n hx hb dX0_till_67 rfl (lv_at hl 3 rfl) ?_
            refine lv_bipush (v := 10) hx hb dX0_till_68 rfl ?_
            refine lv_irem hx hb dX0_till_70 (by decide) ?_
            refine fx_ti (show (km - km / 10 * 10) = nI (nn km % 10) from hk4) ?_
            refine fx_cq (va_runS (As := [.int (nI (nn km / 10)), .int (nI 1), .int (nI (nn km % 10))]) (rest := [.ref (ax 37)]) X (xX0_made l E (nn km / 10) (nI 1) (nI (nn km % 10)) (by first | assumption | omega) _) (va_cwS 3 X.2.2.2.2 (lw_S q378 q379 q69 q380) rfl rfl rfl hdX0_made ⟨Nat.le_of_ble_eq_true rfl, Nat.le_of_ble_eq_true rfl⟩) (fx_pre hE hP hD hS hR [] rfl rfl fx_rc0) rfl rfl hl.1 rfl (lv_room (Nat.le_of_ble_eq_true rfl)) dX0_till_71 ⟨Nat.le_of_ble_eq_true rfl, Nat.le_of_ble_eq_true rfl⟩) hP hD hS hA [] rfl rfl (fun r_71 u H locs hq_71 hP hD hS => ?_)
            obtain ⟨q2_71, rfl⟩ : ∃ z, z = u := ⟨_, rfl⟩
            replace hP : va_P E.1 clA [(ax 36, .inr (2, [.ref (tl 0)])), (ax 37, .inr (2, [.ref (tl 1)])), (ax 38, .inr (2, [.ref (tl 2)])), (ax 39, .inr (2, [.ref (tl 3)])), (ax 5, .inl (E.2 0, 7, .inl er)), (q2_71, .inr ((tcn (nn km / 10)), [.int (nI 1), .int (nI (nn km % 10))]))] _ := hP
            replace hD : va_D A [(ax 36, .inr (2, [.ref (tl 0)])), (ax 37, .inr (2, [.ref (tl 1)])), (ax 38, .inr (2, [.ref (tl 2)])), (ax 39, .inr (2, [.ref (tl 3)])), (ax 5, .inl (E.2 0, 7, .inl er)), (q2_71, .inr ((tcn (nn km / 10)), [.int (nI 1), .int (nI (nn km % 10))]))] := hD
            replace hq_71 : r_71 = some q2_71 := hq_71
            refine W.widen (k := 1) (n := 2) (by first | omega | exact Nat.le_of_ble_eq_true rfl) (by first | omega | exact Nat.le_of_ble_eq_true rfl) ?_
            obtain rfl : r_71 = some q2_71 := by first | exact hq_71 | exact hq_71.1
            refine fx_putN (ws' := [(ax 36, .inr (2, [.ref (tl 0)])), (ax 37, .inr (2, [.ref q2_71])), (ax 38, .inr (2, [.ref (tl 2)])), (ax 39, .inr (2, [.ref (tl 3)])), (ax 5, .inl (E.2 0, 7, .inl er)), (q2_71, .inr ((tcn (nn km / 10)), [.int (nI 1), .int (nI (nn km % 10))]))]) X hE hP hD hS 1 rfl rfl tyX2_ok nmX2 0 rfl 2 rfl rfl rfl rfl rfl rfl rfl dX0_till_74 (fun H locs hP hD hS => ?_)
            refine lv_iload_n hx hb dX0_till_77 rfl (lv_at hl 0 rfl) ?_
            exact hret ((10 * r_36) + (sa (32 + 2 * 1 + 1))) ((upN tl 1 q2_71), er, [(q2_71, .inr ((tcn (nn km / 10)), [.int (nI 1), .int (nI (nn km % 10))]))]) (⟨by rw [till_, if_pos hbc]; show _ = 10 * sa (32 + 2 * nn (nI 1)) + sa (32 + 2 * nn (nI 1) + 1); rw [hnn, hq_36, (hI.kd (k := 1) hk0).1, hw]; rfl, by simp only [till_, if_pos hbc], by rw [till_, if_pos hbc]; show TLS _ (upd (upd sa (32 + 2 * nn (nI 1)) _) (32 + 2 * nn (nI 1) + 1) _) _; rw [hnn]; exact TLS_new hTL hk0 (by omega) (List.mem_of_getElem? (i := 0) rfl)⟩) (rfl) hP hD hS (Nat.le_refl _) (Nat.le_refl _) dX0_till_78
          ·
            have hc : ((tl 1, .inr (7, [.int (nI 1), .int (sa (32 + 2 * 1 + 1))])) : Nat × va_E) ∈ PL := by have hz := hTL 1 hk0; rw [hw] at hz; exact hz
            refine fx_ci (va_runU (As := []) (rest := [.int 10]) X (xX7_kind l E (tl 1) (nI 1) (sa (32 + 2 * 1 + 1)) _) (va_cwO 0 X.2.2.2.2 (lw_O q343 q346 q344 q362 q358 q77 q359) rfl rfl rfl q352 ⟨by decide +kernel, by decide +kernel, hdX7_kind.2.2⟩ ⟨Nat.le_of_ble_eq_true rfl, Nat.le_of_ble_eq_true rfl⟩) (fx_preV (fx_pre hE hP hD hS hR [] rfl rfl (fx_rcx ((List.mem_append_right _ hc)) fx_rc0)) (va_recv hE.1 (fx_one (hR.at hS) (List.mem_append_right _ hc)) (ci := 7) (q0 := 0) rfl rfl)) rfl rfl hl.1 rfl (lv_room (Nat.le_of_ble_eq_true rfl)) dX0_till_36 ⟨Nat.le_of_ble_eq_true rfl, Nat.le_of_ble_eq_true rfl⟩) hP hD hS hA [] rfl rfl (fun r_36 u H locs hq_36 hP hD hS => ?_)
            replace hP : va_P E.1 clA [(ax 36, .inr (2, [.ref (tl 0)])), (ax 37, .inr (2, [.ref (tl 1)])), (ax 38, .inr (2, [.ref (tl 2)])), (ax 39, .inr (2, [.ref (tl 3)])), (ax 5, .inl (E.2 0, 7, .inl er))] _ := hP
            replace hD : va_D A [(ax 36, .inr (2, [.ref (tl 0)])), (ax 37, .inr (2, [.ref (tl 1)])), (ax 38, .inr (2, [.ref (tl 2)])), (ax 39, .inr (2, [.ref (tl 3)])), (ax 5, .inl (E.2 0, 7, .inl er))] := hD
            replace hq_36 : r_36 = 1 := hq_36
            refine lv_imul hx hb dX0_till_39 ?_
            refine lv_aload_n hx hb dX0_till_40 rfl (lv_at hl 0 rfl) ?_
            refine fx_get X hE (hR.at hS) 0 rfl rfl 2 rfl q237 rfl rfl dX0_till_41 ?_
            refine lv_iload_n hx hb dX0_till_44 rfl (lv_at hl 1 rfl) ?_
            refine fx_cq (va_runV (As := [.int (nI 1)]) (rest := [.int (10 * r_36)]) X (xX1_at l E ax tk cs gs zz tp wg sa tl 1 PL (by first | assumption | omega) (by first | assumption | omega) (by first | assumption | omega) _) (cwV 1 X.2.2.2.2 (lw_V q339 q340 q341 q70 q342) rfl rfl rfl ⟨rfl, hdX1_at⟩ ⟨Nat.le_of_ble_eq_true rfl, Nat.le_of_ble_eq_true rfl⟩) (fx_preV (fx_pre hE hP hD hS hR [] rfl rfl (fx_rcr 1 rfl (fx_rcr 2 rfl (fx_rcm 0 rfl (by decide) (fx_rcm 1 rfl (by decide) (fx_rcm 2 rfl (by decide) (fx_rcm 3 rfl (by decide) (fx_rct (fun q hq => List.mem_append_right _ hq))))))))) (va_recv hE.1 (hR.at hS) (ci := 1) (q0 := 1) rfl rfl)) rfl rfl hl.1 rfl (lv_room (Nat.le_of_ble_eq_true rfl)) dX0_till_45 ⟨Nat.le_of_ble_eq_true rfl, Nat.le_of_ble_eq_true rfl⟩) hP hD hS hA [] rfl rfl (fun r_45 u H locs hq_45 hP hD hS => ?_)
            replace hP : va_P E.1 clA [(ax 36, .inr (2, [.ref (tl 0)])), (ax 37, .inr (2, [.ref (tl 1)])), (ax 38, .inr (2, [.ref (tl 2)])), (ax 39, .inr (2, [.ref (tl 3)])), (ax 5, .inl (E.2 0, 7, .inl er))] _ := hP
            replace hD : va_D A [(ax 36, .inr (2, [.ref (tl 0)])), (ax 37, .inr (2, [.ref (tl 1)])), (ax 38, .inr (2, [.ref (tl 2)])), (ax 39, .inr (2, [.ref (tl 3)])), (ax 5, .inl (E.2 0, 7, .inl er))] := hD
            replace hq_45 : r_45 = some (tl 1) := hq_45
            obtain rfl : r_45 = some (tl 1) := by first | exact hq_45 | exact hq_45.1
            refine fx_get X hE (fx_one (hR.at hS) (List.mem_append_right _ hc)) 0 rfl rfl 1 rfl q146 rfl rfl dX0_till_48 ?_
            refine lv_iadd hx hb dX0_till_51 ?_
            refine lv_istore_n (lv' := [(3, .int ((10 * r_36) + (sa (32 + 2 * 1 + 1)))), (0, .ref (ax 19)), (1, .int (nI 1)), (2, .int km)]) hx hb dX0_till_52 rfl hl (by decide) rfl (fun ls hl => ?_)
            refine lv_aload_n hx hb dX0_till_53 rfl (lv_at hl 1 rfl) ?_
            refine fx_get X hE (hR.at hS) 0 rfl rfl 2 rfl q237 rfl rfl dX0_till_54 ?_
            refine fx_getN X hE (hR.at hS) 1 rfl rfl 9 rfl 12 rfl rfl rfl dX0_till_57 ?_
            refine lv_iload_n hx hb dX0_till_60 rfl (lv_at hl 2 rfl) ?_
            refine fx_aald X hE (hR.at hS) 2 3 rfl rfl 1 rfl (by decide) rfl (r := some (ax 37)) (rfl) dX0_till_61 ?_
            refine lv_iload_n hx hb dX0_till_62 rfl (lv_at hl 3 rfl) ?_
            refine lv_bipush (v := 10) hx hb dX0_till_63 rfl ?_
            refine lv_idiv hx hb dX0_till_65 (by decide) ?_
            refine fx_ti (show (km / 10) = nI (nn km / 10) from hk3) ?_
            refine lv_iload_n hx hb dX0_till_66 rfl (lv_at hl 2 rfl) ?_
            refine lv_iload_n hx hb dX0_till_67 rfl (lv_at hl 3 rfl) ?_
            refine lv_bipush (v := 10) hx hb dX0_till_68 rfl ?_
            refine lv_irem hx hb dX0_till_70 (by decide) ?_
            refine fx_ti (show (km - km / 10 * 10) = nI (nn km % 10) from hk4) ?_
            refine fx_cq (va_runS (As := [.int (nI (nn km / 10)), .int (nI 1), .int (nI (nn km % 10))]) (rest := [.ref (ax 37)]) X (xX0_made l E (nn km / 10) (nI 1) (nI (nn km % 10)) (by first | assumption | omega) _) (va_cwS 3 X.2.2.2.2 (lw_S q378 q379 q69 q380) rfl rfl rfl hdX0_made ⟨Nat.le_of_ble_eq_true rfl, Nat.le_of_ble_eq_true rfl⟩) (fx_pre hE hP hD hS hR [] rfl rfl fx_rc0) rfl rfl hl.1 rfl (lv_room (Nat.le_of_ble_eq_true rfl)) dX0_till_71 ⟨Nat.le_of_ble_eq_true rfl, Nat.le_of_ble_eq_true rfl⟩) hP hD hS hA [] rfl rfl (fun r_71 u H locs hq_71 hP hD hS => ?_)
            obtain ⟨q2_71, rfl⟩ : ∃ z, z = u := ⟨_, rfl⟩
            replace hP : va_P E.1 clA [(ax 36, .inr (2, [.ref (tl 0)])), (ax 37, .inr (2, [.ref (tl 1)])), (ax 38, .inr (2, [.ref (tl 2)])), (ax 39, .inr (2, [.ref (tl 3)])), (ax 5, .inl (E.2 0, 7, .inl er)), (q2_71, .inr ((tcn (nn km / 10)), [.int (nI 1), .int (nI (nn km % 10))]))] _ := hP
            replace hD : va_D A [(ax 36, .inr (2, [.ref (tl 0)])), (ax 37, .inr (2, [.ref (tl 1)])), (ax 38, .inr (2, [.ref (tl 2)])), (ax 39, .inr (2, [.ref (tl 3)])), (ax 5, .inl (E.2 0, 7, .inl er)), (q2_71, .inr ((tcn (nn km / 10)), [.int (nI 1), .int (nI (nn km % 10))]))] := hD
            replace hq_71 : r_71 = some q2_71 := hq_71
            refine W.widen (k := 1) (n := 2) (by first | omega | exact Nat.le_of_ble_eq_true rfl) (by first | omega | exact Nat.le_of_ble_eq_true rfl) ?_
            obtain rfl : r_71 = some q2_71 := by first | exact hq_71 | exact hq_71.1
            refine fx_putN (ws' := [(ax 36, .inr (2, [.ref (tl 0)])), (ax 37, .inr (2, [.ref q2_71])), (ax 38, .inr (2, [.ref (tl 2)])), (ax 39, .inr (2, [.ref (tl 3)])), (ax 5, .inl (E.2 0, 7, .inl er)), (q2_71, .inr ((tcn (nn km / 10)), [.int (nI 1), .int (nI (nn km % 10))]))]) X hE hP hD hS 1 rfl rfl tyX2_ok nmX2 0 rfl 2 rfl rfl rfl rfl rfl rfl rfl dX0_till_74 (fun H locs hP hD hS => ?_)
            refine lv_iload_n hx hb dX0_till_77 rfl (lv_at hl 0 rfl) ?_
            exact hret ((10 * r_36) + (sa (32 + 2 * 1 + 1))) ((upN tl 1 q2_71), er, [(q2_71, .inr ((tcn (nn km / 10)), [.int (nI 1), .int (nI (nn km % 10))]))]) (⟨by rw [till_, if_pos hbc]; show _ = 10 * sa (32 + 2 * nn (nI 1)) + sa (32 + 2 * nn (nI 1) + 1); rw [hnn, hq_36, (hI.kd (k := 1) hk0).1, hw]; rfl, by simp only [till_, if_pos hbc], by rw [till_, if_pos hbc]; show TLS _ (upd (upd sa (32 + 2 * nn (nI 1)) _) (32 + 2 * nn (nI 1) + 1) _) _; rw [hnn]; exact TLS_new hTL hk0 (by omega) (List.mem_of_getElem? (i := 0) rfl)⟩) (rfl) hP hD hS (Nat.le_refl _) (Nat.le_refl _) dX0_till_78
          ·
            have hc : ((tl 1, .inr (8, [.int (nI 1), .int (sa (32 + 2 * 1 + 1))])) : Nat × va_E) ∈ PL := by have hz := hTL 1 hk0; rw [hw] at hz; exact hz
            refine fx_ci (va_runU (As := []) (rest := [.int 10]) X (xX8_kind l E (tl 1) (nI 1) (sa (32 + 2 * 1 + 1)) _) (va_cwO 0 X.2.2.2.2 (lw_O q343 q346 q344 q372 q368 q78 q369) rfl rfl rfl q352 ⟨by decide +kernel, by decide +kernel, hdX8_kind.2.2⟩ ⟨Nat.le_of_ble_eq_true rfl, Nat.le_of_ble_eq_true rfl⟩) (fx_preV (fx_pre hE hP hD hS hR [] rfl rfl (fx_rcx ((List.mem_append_right _ hc)) fx_rc0)) (va_recv hE.1 (fx_one (hR.at hS) (List.mem_append_right _ hc)) (ci := 8) (q0 := 0) rfl rfl)) rfl rfl hl.1 rfl (lv_room (Nat.le_of_ble_eq_true rfl)) dX0_till_36 ⟨Nat.le_of_ble_eq_true rfl, Nat.le_of_ble_eq_true rfl⟩) hP hD hS hA [] rfl rfl (fun r_36 u H locs hq_36 hP hD hS => ?_)
            replace hP : va_P E.1 clA [(ax 36, .inr (2, [.ref (tl 0)])), (ax 37, .inr (2, [.ref (tl 1)])), (ax 38, .inr (2, [.ref (tl 2)])), (ax 39, .inr (2, [.ref (tl 3)])), (ax 5, .inl (E.2 0, 7, .inl er))] _ := hP
            replace hD : va_D A [(ax 36, .inr (2, [.ref (tl 0)])), (ax 37, .inr (2, [.ref (tl 1)])), (ax 38, .inr (2, [.ref (tl 2)])), (ax 39, .inr (2, [.ref (tl 3)])), (ax 5, .inl (E.2 0, 7, .inl er))] := hD
            replace hq_36 : r_36 = 2 := hq_36
            refine lv_imul hx hb dX0_till_39 ?_
            refine lv_aload_n hx hb dX0_till_40 rfl (lv_at hl 0 rfl) ?_
            refine fx_get X hE (hR.at hS) 0 rfl rfl 2 rfl q237 rfl rfl dX0_till_41 ?_
            refine lv_iload_n hx hb dX0_till_44 rfl (lv_at hl 1 rfl) ?_
            refine fx_cq (va_runV (As := [.int (nI 1)]) (rest := [.int (10 * r_36)]) X (xX1_at l E ax tk cs gs zz tp wg sa tl 1 PL (by first | assumption | omega) (by first | assumption | omega) (by first | assumption | omega) _) (cwV 1 X.2.2.2.2 (lw_V q339 q340 q341 q70 q342) rfl rfl rfl ⟨rfl, hdX1_at⟩ ⟨Nat.le_of_ble_eq_true rfl, Nat.le_of_ble_eq_true rfl⟩) (fx_preV (fx_pre hE hP hD hS hR [] rfl rfl (fx_rcr 1 rfl (fx_rcr 2 rfl (fx_rcm 0 rfl (by decide) (fx_rcm 1 rfl (by decide) (fx_rcm 2 rfl (by decide) (fx_rcm 3 rfl (by decide) (fx_rct (fun q hq => List.mem_append_right _ hq))))))))) (va_recv hE.1 (hR.at hS) (ci := 1) (q0 := 1) rfl rfl)) rfl rfl hl.1 rfl (lv_room (Nat.le_of_ble_eq_true rfl)) dX0_till_45 ⟨Nat.le_of_ble_eq_true rfl, Nat.le_of_ble_eq_true rfl⟩) hP hD hS hA [] rfl rfl (fun r_45 u H locs hq_45 hP hD hS => ?_)
            replace hP : va_P E.1 clA [(ax 36, .inr (2, [.ref (tl 0)])), (ax 37, .inr (2, [.ref (tl 1)])), (ax 38, .inr (2, [.ref (tl 2)])), (ax 39, .inr (2, [.ref (tl 3)])), (ax 5, .inl (E.2 0, 7, .inl er))] _ := hP
            replace hD : va_D A [(ax 36, .inr (2, [.ref (tl 0)])), (ax 37, .inr (2, [.ref (tl 1)])), (ax 38, .inr (2, [.ref (tl 2)])), (ax 39, .inr (2, [.ref (tl 3)])), (ax 5, .inl (E.2 0, 7, .inl er))] := hD
            replace hq_45 : r_45 = some (tl 1) := hq_45
            obtain rfl : r_45 = some (tl 1) := by first | exact hq_45 | exact hq_45.1
            refine fx_get X hE (fx_one (hR.at hS) (List.mem_append_right _ hc)) 0 rfl rfl 1 rfl q146 rfl rfl dX0_till_48 ?_
            refine lv_iadd hx hb dX0_till_51 ?_
            refine lv_istore_n (lv' := [(3, .int ((10 * r_36) + (sa (32 + 2 * 1 + 1)))), (0, .ref (ax 19)), (1, .int (nI 1)), (2, .int km)]) hx hb dX0_till_52 rfl hl (by decide) rfl (fun ls hl => ?_)
            refine lv_aload_n hx hb dX0_till_53 rfl (lv_at hl 1 rfl) ?_
            refine fx_get X hE (hR.at hS) 0 rfl rfl 2 rfl q237 rfl rfl dX0_till_54 ?_
            refine fx_getN X hE (hR.at hS) 1 rfl rfl 9 rfl 12 rfl rfl rfl dX0_till_57 ?_
            refine lv_iload_n hx hb dX0_till_60 rfl (lv_at hl 2 rfl) ?_
            refine fx_aald X hE (hR.at hS) 2 3 rfl rfl 1 rfl (by decide) rfl (r := some (ax 37)) (rfl) dX0_till_61 ?_
            refine lv_iload_n hx hb dX0_till_62 rfl (lv_at hl 3 rfl) ?_
            refine lv_bipush (v := 10) hx hb dX0_till_63 rfl ?_
            refine lv_idiv hx hb dX0_till_65 (by decide) ?_
            refine fx_ti (show (km / 10) = nI (nn km / 10) from hk3) ?_
            refine lv_iload_n hx hb dX0_till_66 rfl (lv_at hl 2 rfl) ?_
            refine lv_iload_n hx hb dX0_till_67 rfl (lv_at hl 3 rfl) ?_
            refine lv_bipush (v := 10) hx hb dX0_till_68 rfl ?_
            refine lv_irem hx hb dX0_till_70 (by decide) ?_
            refine fx_ti (show (km - km / 10 * 10) = nI (nn km % 10) from hk4) ?_
            refine fx_cq (va_runS (As := [.int (nI (nn km / 10)), .int (nI 1), .int (nI (nn km % 10))]) (rest := [.ref (ax 37)]) X (xX0_made l E (nn km / 10) (nI 1) (nI (nn km % 10)) (by first | assumption | omega) _) (va_cwS 3 X.2.2.2.2 (lw_S q378 q379 q69 q380) rfl rfl rfl hdX0_made ⟨Nat.le_of_ble_eq_true rfl, Nat.le_of_ble_eq_true rfl⟩) (fx_pre hE hP hD hS hR [] rfl rfl fx_rc0) rfl rfl hl.1 rfl (lv_room (Nat.le_of_ble_eq_true rfl)) dX0_till_71 ⟨Nat.le_of_ble_eq_true rfl, Nat.le_of_ble_eq_true rfl⟩) hP hD hS hA [] rfl rfl (fun r_71 u H locs hq_71 hP hD hS => ?_)
            obtain ⟨q2_71, rfl⟩ : ∃ z, z = u := ⟨_, rfl⟩
            replace hP : va_P E.1 clA [(ax 36, .inr (2, [.ref (tl 0)])), (ax 37, .inr (2, [.ref (tl 1)])), (ax 38, .inr (2, [.ref (tl 2)])), (ax 39, .inr (2, [.ref (tl 3)])), (ax 5, .inl (E.2 0, 7, .inl er)), (q2_71, .inr ((tcn (nn km / 10)), [.int (nI 1), .int (nI (nn km % 10))]))] _ := hP
            replace hD : va_D A [(ax 36, .inr (2, [.ref (tl 0)])), (ax 37, .inr (2, [.ref (tl 1)])), (ax 38, .inr (2, [.ref (tl 2)])), (ax 39, .inr (2, [.ref (tl 3)])), (ax 5, .inl (E.2 0, 7, .inl er)), (q2_71, .inr ((tcn (nn km / 10)), [.int (nI 1), .int (nI (nn km % 10))]))] := hD
            replace hq_71 : r_71 = some q2_71 := hq_71
            refine W.widen (k := 1) (n := 2) (by first | omega | exact Nat.le_of_ble_eq_true rfl) (by first | omega | exact Nat.le_of_ble_eq_true rfl) ?_
            obtain rfl : r_71 = some q2_71 := by first | exact hq_71 | exact hq_71.1
            refine fx_putN (ws' := [(ax 36, .inr (2, [.ref (tl 0)])), (ax 37, .inr (2, [.ref q2_71])), (ax 38, .inr (2, [.ref (tl 2)])), (ax 39, .inr (2, [.ref (tl 3)])), (ax 5, .inl (E.2 0, 7, .inl er)), (q2_71, .inr ((tcn (nn km / 10)), [.int (nI 1), .int (nI (nn km % 10))]))]) X hE hP hD hS 1 rfl rfl tyX2_ok nmX2 0 rfl 2 rfl rfl rfl rfl rfl rfl rfl dX0_till_74 (fun H locs hP hD hS => ?_)
            refine lv_iload_n hx hb dX0_till_77 rfl (lv_at hl 0 rfl) ?_
            exact hret ((10 * r_36) + (sa (32 + 2 * 1 + 1))) ((upN tl 1 q2_71), er, [(q2_71, .inr ((tcn (nn km / 10)), [.int (nI 1), .int (nI (nn km % 10))]))]) (⟨by rw [till_, if_pos hbc]; show _ = 10 * sa (32 + 2 * nn (nI 1)) + sa (32 + 2 * nn (nI 1) + 1); rw [hnn, hq_36, (hI.kd (k := 1) hk0).1, hw]; rfl, by simp only [till_, if_pos hbc], by rw [till_, if_pos hbc]; show TLS _ (upd (upd sa (32 + 2 * nn (nI 1)) _) (32 + 2 * nn (nI 1) + 1) _) _; rw [hnn]; exact TLS_new hTL hk0 (by omega) (List.mem_of_getElem? (i := 0) rfl)⟩) (rfl) hP hD hS (Nat.le_refl _) (Nat.le_refl _) dX0_till_78
          ·
            have hc : ((tl 1, .inr (9, [.int (nI 1), .int (sa (32 + 2 * 1 + 1))])) : Nat × va_E) ∈ PL := by have hz := hTL 1 hk0; rw [hw] at hz; exact hz
            refine fx_ci (va_runU (As := []) (rest := [.int 10]) X (xX9_kind l E (tl 1) (nI 1) (sa (32 + 2 * 1 + 1)) _) (va_cwO 0 X.2.2.2.2 (lw_O q343 q346 q344 q347 q348 q79 q349) rfl rfl rfl q352 ⟨by decide +kernel, by decide +kernel, hdX9_kind.2.2⟩ ⟨Nat.le_of_ble_eq_true rfl, Nat.le_of_ble_eq_true rfl⟩) (fx_preV (fx_pre hE hP hD hS hR [] rfl rfl (fx_rcx ((List.mem_append_right _ hc)) fx_rc0)) (va_recv hE.1 (fx_one (hR.at hS) (List.mem_append_right _ hc)) (ci := 9) (q0 := 0) rfl rfl)) rfl rfl hl.1 rfl (lv_room (Nat.le_of_ble_eq_true rfl)) dX0_till_36 ⟨Nat.le_of_ble_eq_true rfl, Nat.le_of_ble_eq_true rfl⟩) hP hD hS hA [] rfl rfl (fun r_36 u H locs hq_36 hP hD hS => ?_)
            replace hP : va_P E.1 clA [(ax 36, .inr (2, [.ref (tl 0)])), (ax 37, .inr (2, [.ref (tl 1)])), (ax 38, .inr (2, [.ref (tl 2)])), (ax 39, .inr (2, [.ref (tl 3)])), (ax 5, .inl (E.2 0, 7, .inl er))] _ := hP
            replace hD : va_D A [(ax 36, .inr (2, [.ref (tl 0)])), (ax 37, .inr (2, [.ref (tl 1)])), (ax 38, .inr (2, [.ref (tl 2)])), (ax 39, .inr (2, [.ref (tl 3)])), (ax 5, .inl (E.2 0, 7, .inl er))] := hD
            replace hq_36 : r_36 = 3 := hq_36
            refine lv_imul hx hb dX0_till_39 ?_
            refine lv_aload_n hx hb dX0_till_40 rfl (lv_at hl 0 rfl) ?_
            refine fx_get X hE (hR.at hS) 0 rfl rfl 2 rfl q237 rfl rfl dX0_till_41 ?_
            refine lv_iload_n hx hb dX0_till_44 rfl (lv_at hl 1 rfl) ?_
            refine fx_cq (va_runV (As := [.int (nI 1)]) (rest := [.int (10 * r_36)]) X (xX1_at l E ax tk cs gs zz tp wg sa tl 1 PL (by first | assumption | omega) (by first | assumption | omega) (by first | assumption | omega) _) (cwV 1 X.2.2.2.2 (lw_V q339 q340 q341 q70 q342) rfl rfl rfl ⟨rfl, hdX1_at⟩ ⟨Nat.le_of_ble_eq_true rfl, Nat.le_of_ble_eq_true rfl⟩) (fx_preV (fx_pre hE hP hD hS hR [] rfl rfl (fx_rcr 1 rfl (fx_rcr 2 rfl (fx_rcm 0 rfl (by decide) (fx_rcm 1 rfl (by decide) (fx_rcm 2 rfl (by decide) (fx_rcm 3 rfl (by decide) (fx_rct (fun q hq => List.mem_append_right _ hq))))))))) (va_recv hE.1 (hR.at hS) (ci := 1) (q0 := 1) rfl rfl)) rfl rfl hl.1 rfl (lv_room (Nat.le_of_ble_eq_true rfl)) dX0_till_45 ⟨Nat.le_of_ble_eq_true rfl, Nat.le_of_ble_eq_true rfl⟩) hP hD hS hA [] rfl rfl (fun r_45 u H locs hq_45 hP hD hS => ?_)
            replace hP : va_P E.1 clA [(ax 36, .inr (2, [.ref (tl 0)])), (ax 37, .inr (2, [.ref (tl 1)])), (ax 38, .inr (2, [.ref (tl 2)])), (ax 39, .inr (2, [.ref (tl 3)])), (ax 5, .inl (E.2 0, 7, .inl er))] _ := hP
            replace hD : va_D A [(ax 36, .inr (2, [.ref (tl 0)])), (ax 37, .inr (2, [.ref (tl 1)])), (ax 38, .inr (2, [.ref (tl 2)])), (ax 39, .inr (2, [.ref (tl 3)])), (ax 5, .inl (E.2 0, 7, .inl er))] := hD
            replace hq_45 : r_45 = some (tl 1) := hq_45
            obtain rfl : r_45 = some (tl 1) := by first | exact hq_45 | exact hq_45.1
            refine fx_get X hE (fx_one (hR.at hS) (List.mem_append_right _ hc)) 0 rfl rfl 1 rfl q146 rfl rfl dX0_till_48 ?_
            refine lv_iadd hx hb dX0_till_51 ?_
            refine lv_istore_n (lv' := [(3, .int ((10 * r_36) + (sa (32 + 2 * 1 + 1)))), (0, .ref (ax 19)), (1, .int (nI 1)), (2, .int km)]) hx hb dX0_till_52 rfl hl (by decide) rfl (fun ls hl => ?_)
            refine lv_aload_n hx hb dX0_till_53 rfl (lv_at hl 1 rfl) ?_
            refine fx_get X hE (hR.at hS) 0 rfl rfl 2 rfl q237 rfl rfl dX0_till_54 ?_
            refine fx_getN X hE (hR.at hS) 1 rfl rfl 9 rfl 12 rfl rfl rfl dX0_till_57 ?_
            refine lv_iload_n hx hb dX0_till_60 rfl (lv_at hl 2 rfl) ?_
            refine fx_aald X hE (hR.at hS) 2 3 rfl rfl 1 rfl (by decide) rfl (r := some (ax 37)) (rfl) dX0_till_61 ?_
            refine lv_iload_n hx hb dX0_till_62 rfl (lv_at hl 3 rfl) ?_
            refine lv_bipush (v := 10) hx hb dX0_till_63 rfl ?_
            refine lv_idiv hx hb dX0_till_65 (by decide) ?_
            refine fx_ti (show (km / 10) = nI (nn km / 10) from hk3) ?_
            refine lv_iload_n hx hb dX0_till_66 rfl (lv_at hl 2 rfl) ?_
            refine lv_iload_n hx hb dX0_till_67 rfl (lv_at hl 3 rfl) ?_
            refine lv_bipush (v := 10) hx hb dX0_till_68 rfl ?_
            refine lv_irem hx hb dX0_till_70 (by decide) ?_
            refine fx_ti (show (km - km / 10 * 10) = nI (nn km % 10) from hk4) ?_
            refine fx_cq (va_runS (As := [.int (nI (nn km / 10)), .int (nI 1), .int (nI (nn km % 10))]) (rest := [.ref (ax 37)]) X (xX0_made l E (nn km / 10) (nI 1) (nI (nn km % 10)) (by first | assumption | omega) _) (va_cwS 3 X.2.2.2.2 (lw_S q378 q379 q69 q380) rfl rfl rfl hdX0_made ⟨Nat.le_of_ble_eq_true rfl, Nat.le_of_ble_eq_true rfl⟩) (fx_pre hE hP hD hS hR [] rfl rfl fx_rc0) rfl rfl hl.1 rfl (lv_room (Nat.le_of_ble_eq_true rfl)) dX0_till_71 ⟨Nat.le_of_ble_eq_true rfl, Nat.le_of_ble_eq_true rfl⟩) hP hD hS hA [] rfl rfl (fun r_71 u H locs hq_71 hP hD hS => ?_)
            obtain ⟨q2_71, rfl⟩ : ∃ z, z = u := ⟨_, rfl⟩
            replace hP : va_P E.1 clA [(ax 36, .inr (2, [.ref (tl 0)])), (ax 37, .inr (2, [.ref (tl 1)])), (ax 38, .inr (2, [.ref (tl 2)])), (ax 39, .inr (2, [.ref (tl 3)])), (ax 5, .inl (E.2 0, 7, .inl er)), (q2_71, .inr ((tcn (nn km / 10)), [.int (nI 1), .int (nI (nn km % 10))]))] _ := hP
            replace hD : va_D A [(ax 36, .inr (2, [.ref (tl 0)])), (ax 37, .inr (2, [.ref (tl 1)])), (ax 38, .inr (2, [.ref (tl 2)])), (ax 39, .inr (2, [.ref (tl 3)])), (ax 5, .inl (E.2 0, 7, .inl er)), (q2_71, .inr ((tcn (nn km / 10)), [.int (nI 1), .int (nI (nn km % 10))]))] := hD
            replace hq_71 : r_71 = some q2_71 := hq_71
            refine W.widen (k := 1) (n := 2) (by first | omega | exact Nat.le_of_ble_eq_true rfl) (by first | omega | exact Nat.le_of_ble_eq_true rfl) ?_
            obtain rfl : r_71 = some q2_71 := by first | exact hq_71 | exact hq_71.1
            refine fx_putN (ws' := [(ax 36, .inr (2, [.ref (tl 0)])), (ax 37, .inr (2, [.ref q2_71])), (ax 38, .inr (2, [.ref (tl 2)])), (ax 39, .inr (2, [.ref (tl 3)])), (ax 5, .inl (E.2 0, 7, .inl er)), (q2_71, .inr ((tcn (nn km / 10)), [.int (nI 1), .int (nI (nn km % 10))]))]) X hE hP hD hS 1 rfl rfl tyX2_ok nmX2 0 rfl 2 rfl rfl rfl rfl rfl rfl rfl dX0_till_74 (fun H locs hP hD hS => ?_)
            refine lv_iload_n hx hb dX0_till_77 rfl (lv_at hl 0 rfl) ?_
            exact hret ((10 * r_36) + (sa (32 + 2 * 1 + 1))) ((upN tl 1 q2_71), er, [(q2_71, .inr ((tcn (nn km / 10)), [.int (nI 1), .int (nI (nn km % 10))]))]) (⟨by rw [till_, if_pos hbc]; show _ = 10 * sa (32 + 2 * nn (nI 1)) + sa (32 + 2 * nn (nI 1) + 1); rw [hnn, hq_36, (hI.kd (k := 1) hk0).1, hw]; rfl, by simp only [till_, if_pos hbc], by rw [till_, if_pos hbc]; show TLS _ (upd (upd sa (32 + 2 * nn (nI 1)) _) (32 + 2 * nn (nI 1) + 1) _) _; rw [hnn]; exact TLS_new hTL hk0 (by omega) (List.mem_of_getElem? (i := 0) rfl)⟩) (rfl) hP hD hS (Nat.le_refl _) (Nat.le_refl _) dX0_till_78
          ·
            have hc : ((tl 1, .inr (10, [.int (nI 1), .int (sa (32 + 2 * 1 + 1))])) : Nat × va_E) ∈ PL := by have hz := hTL 1 hk0; rw [hw] at hz; exact hz
            refine fx_ci (va_runU (As := []) (rest := [.int 10]) X (xX10_kind l E (tl 1) (nI 1) (sa (32 + 2 * 1 + 1)) _) (va_cwO 0 X.2.2.2.2 (lw_O q343 q346 q344 q363 q364 q80 q365) rfl rfl rfl q352 ⟨by decide +kernel, by decide +kernel, hdX10_kind.2.2⟩ ⟨Nat.le_of_ble_eq_true rfl, Nat.le_of_ble_eq_true rfl⟩) (fx_preV (fx_pre hE hP hD hS hR [] rfl rfl (fx_rcx ((List.mem_append_right _ hc)) fx_rc0)) (va_recv hE.1 (fx_one (hR.at hS) (List.mem_append_right _ hc)) (ci := 10) (q0 := 0) rfl rfl)) rfl rfl hl.1 rfl (lv_room (Nat.le_of_ble_eq_true rfl)) dX0_till_36 ⟨Nat.le_of_ble_eq_true rfl, Nat.le_of_ble_eq_true rfl⟩) hP hD hS hA [] rfl rfl (fun r_36 u H locs hq_36 hP hD hS => ?_)
            replace hP : va_P E.1 clA [(ax 36, .inr (2, [.ref (tl 0)])), (ax 37, .inr (2, [.ref (tl 1)])), (ax 38, .inr (2, [.ref (tl 2)])), (ax 39, .inr (2, [.ref (tl 3)])), (ax 5, .inl (E.2 0, 7, .inl er))] _ := hP
            replace hD : va_D A [(ax 36, .inr (2, [.ref (tl 0)])), (ax 37, .inr (2, [.ref (tl 1)])), (ax 38, .inr (2, [.ref (tl 2)])), (ax 39, .inr (2, [.ref (tl 3)])), (ax 5, .inl (E.2 0, 7, .inl er))] := hD
            replace hq_36 : r_36 = 4 := hq_36
            refine lv_imul hx hb dX0_till_39 ?_
            refine lv_aload_n hx hb dX0_till_40 rfl (lv_at hl 0 rfl) ?_
            refine fx_get X hE (hR.at hS) 0 rfl rfl 2 rfl q237 rfl rfl dX0_till_41 ?_
            refine lv_iload_n hx hb dX0_till_44 rfl (lv_at hl 1 rfl) ?_
            refine fx_cq (va_runV (As := [.int (nI 1)]) (rest := [.int (10 * r_36)]) X (xX1_at l E ax tk cs gs zz tp wg sa tl 1 PL (by first | assumption | omega) (by first | assumption | omega) (by first | assumption | omega) _) (cwV 1 X.2.2.2.2 (lw_V q339 q340 q341 q70 q342) rfl rfl rfl ⟨rfl, hdX1_at⟩ ⟨Nat.le_of_ble_eq_true rfl, Nat.le_of_ble_eq_true rfl⟩) (fx_preV (fx_pre hE hP hD hS hR [] rfl rfl (fx_rcr 1 rfl (fx_rcr 2 rfl (fx_rcm 0 rfl (by decide) (fx_rcm 1 rfl (by decide) (fx_rcm 2 rfl (by decide) (fx_rcm 3 rfl (by decide) (fx_rct (fun q hq => List.mem_append_right _ hq))))))))) (va_recv hE.1 (hR.at hS) (ci := 1) (q0 := 1) rfl rfl)) rfl rfl hl.1 rfl (lv_room (Nat.le_of_ble_eq_true rfl)) dX0_till_45 ⟨Nat.le_of_ble_eq_true rfl, Nat.le_of_ble_eq_true rfl⟩) hP hD hS hA [] rfl rfl (fun r_45 u H locs hq_45 hP hD hS => ?_)
            replace hP : va_P E.1 clA [(ax 36, .inr (2, [.ref (tl 0)])), (ax 37, .inr (2, [.ref (tl 1)])), (ax 38, .inr (2, [.ref (tl 2)])), (ax 39, .inr (2, [.ref (tl 3)])), (ax 5, .inl (E.2 0, 7, .inl er))] _ := hP
            replace hD : va_D A [(ax 36, .inr (2, [.ref (tl 0)])), (ax 37, .inr (2, [.ref (tl 1)])), (ax 38, .inr (2, [.ref (tl 2)])), (ax 39, .inr (2, [.ref (tl 3)])), (ax 5, .inl (E.2 0, 7, .inl er))] := hD
            replace hq_45 : r_45 = some (tl 1) := hq_45
            obtain rfl : r_45 = some (tl 1) := by first | exact hq_45 | exact hq_45.1
            refine fx_get X hE (fx_one (hR.at hS) (List.mem_append_right _ hc)) 0 rfl rfl 1 rfl q146 rfl rfl dX0_till_48 ?_
            refine lv_iadd hx hb dX0_till_51 ?_
            refine lv_istore_n (lv' := [(3, .int ((10 * r_36) + (sa (32 + 2 * 1 + 1)))), (0, .ref (ax 19)), (1, .int (nI 1)), (2, .int km)]) hx hb dX0_till_52 rfl hl (by decide) rfl (fun ls hl => ?_)
            refine lv_aload_n hx hb dX0_till_53 rfl (lv_at hl 1 rfl) ?_
            refine fx_get X hE (hR.at hS) 0 rfl rfl 2 rfl q237 rfl rfl dX0_till_54 ?_
            refine fx_getN X hE (hR.at hS) 1 rfl rfl 9 rfl 12 rfl rfl rfl dX0_till_57 ?_
            refine lv_iload_n hx hb dX0_till_60 rfl (lv_at hl 2 rfl) ?_
            refine fx_aald X hE (hR.at hS) 2 3 rfl rfl 1 rfl (by decide) rfl (r := some (ax 37)) (rfl) dX0_till_61 ?_
            refine lv_iload_n hx hb dX0_till_62 rfl (lv_at hl 3 rfl) ?_
            refine lv_bipush (v := 10) hx hb dX0_till_63 rfl ?_
            refine lv_idiv hx hb dX0_till_65 (by decide) ?_
            refine fx_ti (show (km / 10) = nI (nn km / 10) from hk3) ?_
            refine lv_iload_n hx hb dX0_till_66 rfl (lv_at hl 2 rfl) ?_
            refine lv_iload_n hx hb dX0_till_67 rfl (lv_at hl 3 rfl) ?_
            refine lv_bipush (v := 10) hx hb dX0_till_68 rfl ?_
            refine lv_irem hx hb dX0_till_70 (by decide) ?_
            refine fx_ti (show (km - km / 10 * 10) = nI (nn km % 10) from hk4) ?_
            refine fx_cq (va_runS (As := [.int (nI (nn km / 10)), .int (nI 1), .int (nI (nn km % 10))]) (rest := [.ref (ax 37)]) X (xX0_made l E (nn km / 10) (nI 1) (nI (nn km % 10)) (by first | assumption | omega) _) (va_cwS 3 X.2.2.2.2 (lw_S q378 q379 q69 q380) rfl rfl rfl hdX0_made ⟨Nat.le_of_ble_eq_true rfl, Nat.le_of_ble_eq_true rfl⟩) (fx_pre hE hP hD hS hR [] rfl rfl fx_rc0) rfl rfl hl.1 rfl (lv_room (Nat.le_of_ble_eq_true rfl)) dX0_till_71 ⟨Nat.le_of_ble_eq_true rfl, Nat.le_of_ble_eq_true rfl⟩) hP hD hS hA [] rfl rfl (fun r_71 u H locs hq_71 hP hD hS => ?_)
            obtain ⟨q2_71, rfl⟩ : ∃ z, z = u := ⟨_, rfl⟩
            replace hP : va_P E.1 clA [(ax 36, .inr (2, [.ref (tl 0)])), (ax 37, .inr (2, [.ref (tl 1)])), (ax 38, .inr (2, [.ref (tl 2)])), (ax 39, .inr (2, [.ref (tl 3)])), (ax 5, .inl (E.2 0, 7, .inl er)), (q2_71, .inr ((tcn (nn km / 10)), [.int (nI 1), .int (nI (nn km % 10))]))] _ := hP
            replace hD : va_D A [(ax 36, .inr (2, [.ref (tl 0)])), (ax 37, .inr (2, [.ref (tl 1)])), (ax 38, .inr (2, [.ref (tl 2)])), (ax 39, .inr (2, [.ref (tl 3)])), (ax 5, .inl (E.2 0, 7, .inl er)), (q2_71, .inr ((tcn (nn km / 10)), [.int (nI 1), .int (nI (nn km % 10))]))] := hD
            replace hq_71 : r_71 = some q2_71 := hq_71
            refine W.widen (k := 1) (n := 2) (by first | omega | exact Nat.le_of_ble_eq_true rfl) (by first | omega | exact Nat.le_of_ble_eq_true rfl) ?_
            obtain rfl : r_71 = some q2_71 := by first | exact hq_71 | exact hq_71.1
            refine fx_putN (ws' := [(ax 36, .inr (2, [.ref (tl 0)])), (ax 37, .inr (2, [.ref q2_71])), (ax 38, .inr (2, [.ref (tl 2)])), (ax 39, .inr (2, [.ref (tl 3)])), (ax 5, .inl (E.2 0, 7, .inl er)), (q2_71, .inr ((tcn (nn km / 10)), [.int (nI 1), .int (nI (nn km % 10))]))]) X hE hP hD hS 1 rfl rfl tyX2_ok nmX2 0 rfl 2 rfl rfl rfl rfl rfl rfl rfl dX0_till_74 (fun H locs hP hD hS => ?_)
            refine lv_iload_n hx hb dX0_till_77 rfl (lv_at hl 0 rfl) ?_
            exact hret ((10 * r_36) + (sa (32 + 2 * 1 + 1))) ((upN tl 1 q2_71), er, [(q2_71, .inr ((tcn (nn km / 10)), [.int (nI 1), .int (nI (nn km % 10))]))]) (⟨by rw [till_, if_pos hbc]; show _ = 10 * sa (32 + 2 * nn (nI 1)) + sa (32 + 2 * nn (nI 1) + 1); rw [hnn, hq_36, (hI.kd (k := 1) hk0).1, hw]; rfl, by simp only [till_, if_pos hbc], by rw [till_, if_pos hbc]; show TLS _ (upd (upd sa (32 + 2 * nn (nI 1)) _) (32 + 2 * nn (nI 1) + 1) _) _; rw [hnn]; exact TLS_new hTL hk0 (by omega) (List.mem_of_getElem? (i := 0) rfl)⟩) (rfl) hP hD hS (Nat.le_refl _) (Nat.le_refl _) dX0_till_78
          ·
            have hc : ((tl 1, .inr (11, [.int (nI 1), .int (sa (32 + 2 * 1 + 1))])) : Nat × va_E) ∈ PL := by have hz := hTL 1 hk0; rw [hw] at hz; exact hz
            refine fx_ci (va_runU (As := []) (rest := [.int 10]) X (xX11_kind l E (tl 1) (nI 1) (sa (32 + 2 * 1 + 1)) _) (va_cwO 0 X.2.2.2.2 (lw_O q343 q346 q344 q353 q354 q81 q355) rfl rfl rfl q352 ⟨by decide +kernel, by decide +kernel, hdX11_kind.2.2⟩ ⟨Nat.le_of_ble_eq_true rfl, Nat.le_of_ble_eq_true rfl⟩) (fx_preV (fx_pre hE hP hD hS hR [] rfl rfl (fx_rcx ((List.mem_append_right _ hc)) fx_rc0)) (va_recv hE.1 (fx_one (hR.at hS) (List.mem_append_right _ hc)) (ci := 11) (q0 := 0) rfl rfl)) rfl rfl hl.1 rfl (lv_room (Nat.le_of_ble_eq_true rfl)) dX0_till_36 ⟨Nat.le_of_ble_eq_true rfl, Nat.le_of_ble_eq_true rfl⟩) hP hD hS hA [] rfl rfl (fun r_36 u H locs hq_36 hP hD hS => ?_)
            replace hP : va_P E.1 clA [(ax 36, .inr (2, [.ref (tl 0)])), (ax 37, .inr (2, [.ref (tl 1)])), (ax 38, .inr (2, [.ref (tl 2)])), (ax 39, .inr (2, [.ref (tl 3)])), (ax 5, .inl (E.2 0, 7, .inl er))] _ := hP
            replace hD : va_D A [(ax 36, .inr (2, [.ref (tl 0)])), (ax 37, .inr (2, [.ref (tl 1)])), (ax 38, .inr (2, [.ref (tl 2)])), (ax 39, .inr (2, [.ref (tl 3)])), (ax 5, .inl (E.2 0, 7, .inl er))] := hD
            replace hq_36 : r_36 = 5 := hq_36
            refine lv_imul hx hb dX0_till_39 ?_
            refine lv_aload_n hx hb dX0_till_40 rfl (lv_at hl 0 rfl) ?_
            refine fx_get X hE (hR.at hS) 0 rfl rfl 2 rfl q237 rfl rfl dX0_till_41 ?_
            refine lv_iload_n hx hb dX0_till_44 rfl (lv_at hl 1 rfl) ?_
            refine fx_cq (va_runV (As := [.int (nI 1)]) (rest := [.int (10 * r_36)]) X (xX1_at l E ax tk cs gs zz tp wg sa tl 1 PL (by first | assumption | omega) (by first | assumption | omega) (by first | assumption | omega) _) (cwV 1 X.2.2.2.2 (lw_V q339 q340 q341 q70 q342) rfl rfl rfl ⟨rfl, hdX1_at⟩ ⟨Nat.le_of_ble_eq_true rfl, Nat.le_of_ble_eq_true rfl⟩) (fx_preV (fx_pre hE hP hD hS hR [] rfl rfl (fx_rcr 1 rfl (fx_rcr 2 rfl (fx_rcm 0 rfl (by decide) (fx_rcm 1 rfl (by decide) (fx_rcm 2 rfl (by decide) (fx_rcm 3 rfl (by decide) (fx_rct (fun q hq => List.mem_append_right _ hq))))))))) (va_recv hE.1 (hR.at hS) (ci := 1) (q0 := 1) rfl rfl)) rfl rfl hl.1 rfl (lv_room (Nat.le_of_ble_eq_true rfl)) dX0_till_45 ⟨Nat.le_of_ble_eq_true rfl, Nat.le_of_ble_eq_true rfl⟩) hP hD hS hA [] rfl rfl (fun r_45 u H locs hq_45 hP hD hS => ?_)
            replace hP : va_P E.1 clA [(ax 36, .inr (2, [.ref (tl 0)])), (ax 37, .inr (2, [.ref (tl 1)])), (ax 38, .inr (2, [.ref (tl 2)])), (ax 39, .inr (2, [.ref (tl 3)])), (ax 5, .inl (E.2 0, 7, .inl er))] _ := hP
            replace hD : va_D A [(ax 36, .inr (2, [.ref (tl 0)])), (ax 37, .inr (2, [.ref (tl 1)])), (ax 38, .inr (2, [.ref (tl 2)])), (ax 39, .inr (2, [.ref (tl 3)])), (ax 5, .inl (E.2 0, 7, .inl er))] := hD
            replace hq_45 : r_45 = some (tl 1) := hq_45
            obtain rfl : r_45 = some (tl 1) := by first | exact hq_45 | exact hq_45.1
            refine fx_get X hE (fx_one (hR.at hS) (List.mem_append_right _ hc)) 0 rfl rfl 1 rfl q146 rfl rfl dX0_till_48 ?_
            refine lv_iadd hx hb dX0_till_51 ?_
            refine lv_istore_n (lv' := [(3, .int ((10 * r_36) + (sa (32 + 2 * 1 + 1)))), (0, .ref (ax 19)), (1, .int (nI 1)), (2, .int km)]) hx hb dX0_till_52 rfl hl (by decide) rfl (fun ls hl => ?_)
            refine lv_aload_n hx hb dX0_till_53 rfl (lv_at hl 1 rfl) ?_
            refine fx_get X hE (hR.at hS) 0 rfl rfl 2 rfl q237 rfl rfl dX0_till_54 ?_
            refine fx_getN X hE (hR.at hS) 1 rfl rfl 9 rfl 12 rfl rfl rfl dX0_till_57 ?_
            refine lv_iload_n hx hb dX0_till_60 rfl (lv_at hl 2 rfl) ?_
            refine fx_aald X hE (hR.at hS) 2 3 rfl rfl 1 rfl (by decide) rfl (r := some (ax 37)) (rfl) dX0_till_61 ?_
            refine lv_iload_n hx hb dX0_till_62 rfl (lv_at hl 3 rfl) ?_
            refine lv_bipush (v := 10) hx hb dX0_till_63 rfl ?_
            refine lv_idiv hx hb dX0_till_65 (by decide) ?_
            refine fx_ti (show (km / 10) = nI (nn km / 10) from hk3) ?_
            refine lv_iload_n hx hb dX0_till_66 rfl (lv_at hl 2 rfl) ?_
            refine lv_iload_n hx hb dX0_till_67 rfl (lv_at hl 3 rfl) ?_
            refine lv_bipush (v := 10) hx hb dX0_till_68 rfl ?_
            refine lv_irem hx hb dX0_till_70 (by decide) ?_
            refine fx_ti (show (km - km / 10 * 10) = nI (nn km % 10) from hk4) ?_
            refine fx_cq (va_runS (As := [.int (nI (nn km / 10)), .int (nI 1), .int (nI (nn km % 10))]) (rest := [.ref (ax 37)]) X (xX0_made l E (nn km / 10) (nI 1) (nI (nn km % 10)) (by first | assumption | omega) _) (va_cwS 3 X.2.2.2.2 (lw_S q378 q379 q69 q380) rfl rfl rfl hdX0_made ⟨Nat.le_of_ble_eq_true rfl, Nat.le_of_ble_eq_true rfl⟩) (fx_pre hE hP hD hS hR [] rfl rfl fx_rc0) rfl rfl hl.1 rfl (lv_room (Nat.le_of_ble_eq_true rfl)) dX0_till_71 ⟨Nat.le_of_ble_eq_true rfl, Nat.le_of_ble_eq_true rfl⟩) hP hD hS hA [] rfl rfl (fun r_71 u H locs hq_71 hP hD hS => ?_)
            obtain ⟨q2_71, rfl⟩ : ∃ z, z = u := ⟨_, rfl⟩
            replace hP : va_P E.1 clA [(ax 36, .inr (2, [.ref (tl 0)])), (ax 37, .inr (2, [.ref (tl 1)])), (ax 38, .inr (2, [.ref (tl 2)])), (ax 39, .inr (2, [.ref (tl 3)])), (ax 5, .inl (E.2 0, 7, .inl er)), (q2_71, .inr ((tcn (nn km / 10)), [.int (nI 1), .int (nI (nn km % 10))]))] _ := hP
            replace hD : va_D A [(ax 36, .inr (2, [.ref (tl 0)])), (ax 37, .inr (2, [.ref (tl 1)])), (ax 38, .inr (2, [.ref (tl 2)])), (ax 39, .inr (2, [.ref (tl 3)])), (ax 5, .inl (E.2 0, 7, .inl er)), (q2_71, .inr ((tcn (nn km / 10)), [.int (nI 1), .int (nI (nn km % 10))]))] := hD
            replace hq_71 : r_71 = some q2_71 := hq_71
            refine W.widen (k := 1) (n := 2) (by first | omega | exact Nat.le_of_ble_eq_true rfl) (by first | omega | exact Nat.le_of_ble_eq_true rfl) ?_
            obtain rfl : r_71 = some q2_71 := by first | exact hq_71 | exact hq_71.1
            refine fx_putN (ws' := [(ax 36, .inr (2, [.ref (tl 0)])), (ax 37, .inr (2, [.ref q2_71])), (ax 38, .inr (2, [.ref (tl 2)])), (ax 39, .inr (2, [.ref (tl 3)])), (ax 5, .inl (E.2 0, 7, .inl er)), (q2_71, .inr ((tcn (nn km / 10)), [.int (nI 1), .int (nI (nn km % 10))]))]) X hE hP hD hS 1 rfl rfl tyX2_ok nmX2 0 rfl 2 rfl rfl rfl rfl rfl rfl rfl dX0_till_74 (fun H locs hP hD hS => ?_)
            refine lv_iload_n hx hb dX0_till_77 rfl (lv_at hl 0 rfl) ?_
            exact hret ((10 * r_36) + (sa (32 + 2 * 1 + 1))) ((upN tl 1 q2_71), er, [(q2_71, .inr ((tcn (nn km / 10)), [.int (nI 1), .int (nI (nn km % 10))]))]) (⟨by rw [till_, if_pos hbc]; show _ = 10 * sa (32 + 2 * nn (nI 1)) + sa (32 + 2 * nn (nI 1) + 1); rw [hnn, hq_36, (hI.kd (k := 1) hk0).1, hw]; rfl, by simp only [till_, if_pos hbc], by rw [till_, if_pos hbc]; show TLS _ (upd (upd sa (32 + 2 * nn (nI 1)) _) (32 + 2 * nn (nI 1) + 1) _) _; rw [hnn]; exact TLS_new hTL hk0 (by omega) (List.mem_of_getElem? (i := 0) rfl)⟩) (rfl) hP hD hS (Nat.le_refl _) (Nat.le_refl _) dX0_till_78
          ·
            have hc : ((tl 1, .inr (12, [.int (nI 1), .int (sa (32 + 2 * 1 + 1))])) : Nat × va_E) ∈ PL := by have hz := hTL 1 hk0; rw [hw] at hz; exact hz
            refine fx_ci (va_runU (As := []) (rest := [.int 10]) X (xX12_kind l E (tl 1) (nI 1) (sa (32 + 2 * 1 + 1)) _) (va_cwO 0 X.2.2.2.2 (lw_O q343 q346 q344 q373 q374 q82 q375) rfl rfl rfl q352 ⟨by decide +kernel, by decide +kernel, hdX12_kind.2.2⟩ ⟨Nat.le_of_ble_eq_true rfl, Nat.le_of_ble_eq_true rfl⟩) (fx_preV (fx_pre hE hP hD hS hR [] rfl rfl (fx_rcx ((List.mem_append_right _ hc)) fx_rc0)) (va_recv hE.1 (fx_one (hR.at hS) (List.mem_append_right _ hc)) (ci := 12) (q0 := 0) rfl rfl)) rfl rfl hl.1 rfl (lv_room (Nat.le_of_ble_eq_true rfl)) dX0_till_36 ⟨Nat.le_of_ble_eq_true rfl, Nat.le_of_ble_eq_true rfl⟩) hP hD hS hA [] rfl rfl (fun r_36 u H locs hq_36 hP hD hS => ?_)
            replace hP : va_P E.1 clA [(ax 36, .inr (2, [.ref (tl 0)])), (ax 37, .inr (2, [.ref (tl 1)])), (ax 38, .inr (2, [.ref (tl 2)])), (ax 39, .inr (2, [.ref (tl 3)])), (ax 5, .inl (E.2 0, 7, .inl er))] _ := hP
            replace hD : va_D A [(ax 36, .inr (2, [.ref (tl 0)])), (ax 37, .inr (2, [.ref (tl 1)])), (ax 38, .inr (2, [.ref (tl 2)])), (ax 39, .inr (2, [.ref (tl 3)])), (ax 5, .inl (E.2 0, 7, .inl er))] := hD
            replace hq_36 : r_36 = 6 := hq_36
            refine lv_imul hx hb dX0_till_39 ?_
            refine lv_aload_n hx hb dX0_till_40 rfl (lv_at hl 0 rfl) ?_
            refine fx_get X hE (hR.at hS) 0 rfl rfl 2 rfl q237 rfl rfl dX0_till_41 ?_
            refine lv_iload_n hx hb dX0_till_44 rfl (lv_at hl 1 rfl) ?_
            refine fx_cq (va_runV (As := [.int (nI 1)]) (rest := [.int (10 * r_36)]) X (xX1_at l E ax tk cs gs zz tp wg sa tl 1 PL (by first | assumption | omega) (by first | assumption | omega) (by first | assumption | omega) _) (cwV 1 X.2.2.2.2 (lw_V q339 q340 q341 q70 q342) rfl rfl rfl ⟨rfl, hdX1_at⟩ ⟨Nat.le_of_ble_eq_true rfl, Nat.le_of_ble_eq_true rfl⟩) (fx_preV (fx_pre hE hP hD hS hR [] rfl rfl (fx_rcr 1 rfl (fx_rcr 2 rfl (fx_rcm 0 rfl (by decide) (fx_rcm 1 rfl (by decide) (fx_rcm 2 rfl (by decide) (fx_rcm 3 rfl (by decide) (fx_rct (fun q hq => List.mem_append_right _ hq))))))))) (va_recv hE.1 (hR.at hS) (ci := 1) (q0 := 1) rfl rfl)) rfl rfl hl.1 rfl (lv_room (Nat.le_of_ble_eq_true rfl)) dX0_till_45 ⟨Nat.le_of_ble_eq_true rfl, Nat.le_of_ble_eq_true rfl⟩) hP hD hS hA [] rfl rfl (fun r_45 u H locs hq_45 hP hD hS => ?_)
            replace hP : va_P E.1 clA [(ax 36, .inr (2, [.ref (tl 0)])), (ax 37, .inr (2, [.ref (tl 1)])), (ax 38, .inr (2, [.ref (tl 2)])), (ax 39, .inr (2, [.ref (tl 3)])), (ax 5, .inl (E.2 0, 7, .inl er))] _ := hP
            replace hD : va_D A [(ax 36, .inr (2, [.ref (tl 0)])), (ax 37, .inr (2, [.ref (tl 1)])), (ax 38, .inr (2, [.ref (tl 2)])), (ax 39, .inr (2, [.ref (tl 3)])), (ax 5, .inl (E.2 0, 7, .inl er))] := hD
            replace hq_45 : r_45 = some (tl 1) := hq_45
            obtain rfl : r_45 = some (tl 1) := by first | exact hq_45 | exact hq_45.1
            refine fx_get X hE (fx_one (hR.at hS) (List.mem_append_right _ hc)) 0 rfl rfl 1 rfl q146 rfl rfl dX0_till_48 ?_
            refine lv_iadd hx hb dX0_till_51 ?_
            refine lv_istore_n (lv' := [(3, .int ((10 * r_36) + (sa (32 + 2 * 1 + 1)))), (0, .ref (ax 19)), (1, .int (nI 1)), (2, .int km)]) hx hb dX0_till_52 rfl hl (by decide) rfl (fun ls hl => ?_)
            refine lv_aload_n hx hb dX0_till_53 rfl (lv_at hl 1 rfl) ?_
            refine fx_get X hE (hR.at hS) 0 rfl rfl 2 rfl q237 rfl rfl dX0_till_54 ?_
            refine fx_getN X hE (hR.at hS) 1 rfl rfl 9 rfl 12 rfl rfl rfl dX0_till_57 ?_
            refine lv_iload_n hx hb dX0_till_60 rfl (lv_at hl 2 rfl) ?_
            refine fx_aald X hE (hR.at hS) 2 3 rfl rfl 1 rfl (by decide) rfl (r := some (ax 37)) (rfl) dX0_till_61 ?_
            refine lv_iload_n hx hb dX0_till_62 rfl (lv_at hl 3 rfl) ?_
            refine lv_bipush (v := 10) hx hb dX0_till_63 rfl ?_
            refine lv_idiv hx hb dX0_till_65 (by decide) ?_
            refine fx_ti (show (km / 10) = nI (nn km / 10) from hk3) ?_
            refine lv_iload_n hx hb dX0_till_66 rfl (lv_at hl 2 rfl) ?_
            refine lv_iload_n hx hb dX0_till_67 rfl (lv_at hl 3 rfl) ?_
            refine lv_bipush (v := 10) hx hb dX0_till_68 rfl ?_
            refine lv_irem hx hb dX0_till_70 (by decide) ?_
            refine fx_ti (show (km - km / 10 * 10) = nI (nn km % 10) from hk4) ?_
            refine fx_cq (va_runS (As := [.int (nI (nn km / 10)), .int (nI 1), .int (nI (nn km % 10))]) (rest := [.ref (ax 37)]) X (xX0_made l E (nn km / 10) (nI 1) (nI (nn km % 10)) (by first | assumption | omega) _) (va_cwS 3 X.2.2.2.2 (lw_S q378 q379 q69 q380) rfl rfl rfl hdX0_made ⟨Nat.le_of_ble_eq_true rfl, Nat.le_of_ble_eq_true rfl⟩) (fx_pre hE hP hD hS hR [] rfl rfl fx_rc0) rfl rfl hl.1 rfl (lv_room (Nat.le_of_ble_eq_true rfl)) dX0_till_71 ⟨Nat.le_of_ble_eq_true rfl, Nat.le_of_ble_eq_true rfl⟩) hP hD hS hA [] rfl rfl (fun r_71 u H locs hq_71 hP hD hS => ?_)
            obtain ⟨q2_71, rfl⟩ : ∃ z, z = u := ⟨_, rfl⟩
            replace hP : va_P E.1 clA [(ax 36, .inr (2, [.ref (tl 0)])), (ax 37, .inr (2, [.ref (tl 1)])), (ax 38, .inr (2, [.ref (tl 2)])), (ax 39, .inr (2, [.ref (tl 3)])), (ax 5, .inl (E.2 0, 7, .inl er)), (q2_71, .inr ((tcn (nn km / 10)), [.int (nI 1), .int (nI (nn km % 10))]))] _ := hP
            replace hD : va_D A [(ax 36, .inr (2, [.ref (tl 0)])), (ax 37, .inr (2, [.ref (tl 1)])), (ax 38, .inr (2, [.ref (tl 2)])), (ax 39, .inr (2, [.ref (tl 3)])), (ax 5, .inl (E.2 0, 7, .inl er)), (q2_71, .inr ((tcn (nn km / 10)), [.int (nI 1), .int (nI (nn km % 10))]))] := hD
            replace hq_71 : r_71 = some q2_71 := hq_71
            refine W.widen (k := 1) (n := 2) (by first | omega | exact Nat.le_of_ble_eq_true rfl) (by first | omega | exact Nat.le_of_ble_eq_true rfl) ?_
            obtain rfl : r_71 = some q2_71 := by first | exact hq_71 | exact hq_71.1
            refine fx_putN (ws' := [(ax 36, .inr (2, [.ref (tl 0)])), (ax 37, .inr (2, [.ref q2_71])), (ax 38, .inr (2, [.ref (tl 2)])), (ax 39, .inr (2, [.ref (tl 3)])), (ax 5, .inl (E.2 0, 7, .inl er)), (q2_71, .inr ((tcn (nn km / 10)), [.int (nI 1), .int (nI (nn km % 10))]))]) X hE hP hD hS 1 rfl rfl tyX2_ok nmX2 0 rfl 2 rfl rfl rfl rfl rfl rfl rfl dX0_till_74 (fun H locs hP hD hS => ?_)
            refine lv_iload_n hx hb dX0_till_77 rfl (lv_at hl 0 rfl) ?_
            exact hret ((10 * r_36) + (sa (32 + 2 * 1 + 1))) ((upN tl 1 q2_71), er, [(q2_71, .inr ((tcn (nn km / 10)), [.int (nI 1), .int (nI (nn km % 10))]))]) (⟨by rw [till_, if_pos hbc]; show _ = 10 * sa (32 + 2 * nn (nI 1)) + sa (32 + 2 * nn (nI 1) + 1); rw [hnn, hq_36, (hI.kd (k := 1) hk0).1, hw]; rfl, by simp only [till_, if_pos hbc], by rw [till_, if_pos hbc]; show TLS _ (upd (upd sa (32 + 2 * nn (nI 1)) _) (32 + 2 * nn (nI 1) + 1) _) _; rw [hnn]; exact TLS_new hTL hk0 (by omega) (List.mem_of_getElem? (i := 0) rfl)⟩) (rfl) hP hD hS (Nat.le_refl _) (Nat.le_refl _) dX0_till_78
        ·
          have hk0 : 2 < 4 := by decide
          have hnn : nn (nI 2) = 2 := rfl
          refine lv_bipush (v := 10) hx hb dX0_till_26 rfl ?_
          refine lv_aload_n hx hb dX0_till_28 rfl (lv_at hl 0 rfl) ?_
          refine fx_get X hE (hR.at hS) 0 rfl rfl 2 rfl q237 rfl rfl dX0_till_29 ?_
          refine lv_iload_n hx hb dX0_till_32 rfl (lv_at hl 1 rfl) ?_
          refine fx_cq (va_runV (As := [.int (nI 2)]) (rest := [.int 10]) X (xX1_at l E ax tk cs gs zz tp wg sa tl 2 PL (by first | assumption | omega) (by first | assumption | omega) (by first | assumption | omega) _) (cwV 1 X.2.2.2.2 (lw_V q339 q340 q341 q70 q342) rfl rfl rfl ⟨rfl, hdX1_at⟩ ⟨Nat.le_of_ble_eq_true rfl, Nat.le_of_ble_eq_true rfl⟩) (fx_preV (fx_pre hE hP hD hS hR [] rfl rfl (fx_rcr 1 rfl (fx_rcr 2 rfl (fx_rcm 0 rfl (by decide) (fx_rcm 1 rfl (by decide) (fx_rcm 2 rfl (by decide) (fx_rcm 3 rfl (by decide) (fx_rct (fun q hq => List.mem_append_right _ hq))))))))) (va_recv hE.1 (hR.at hS) (ci := 1) (q0 := 1) rfl rfl)) rfl rfl hl.1 rfl (lv_room (Nat.le_of_ble_eq_true rfl)) dX0_till_33 ⟨Nat.le_of_ble_eq_true rfl, Nat.le_of_ble_eq_true rfl⟩) hP hD hS hA [] rfl rfl (fun r_33 u H locs hq_33 hP hD hS => ?_)
          replace hP : va_P E.1 clA [(ax 36, .inr (2, [.ref (tl 0)])), (ax 37, .inr (2, [.ref (tl 1)])), (ax 38, .inr (2, [.ref (tl 2)])), (ax 39, .inr (2, [.ref (tl 3)])), (ax 5, .inl (E.2 0, 7, .inl er))] _ := hP
          replace hD : va_D A [(ax 36, .inr (2, [.ref (tl 0)])), (ax 37, .inr (2, [.ref (tl 1)])), (ax 38, .inr (2, [.ref (tl 2)])), (ax 39, .inr (2, [.ref (tl 3)])), (ax 5, .inl (E.2 0, 7, .inl er))] := hD
          replace hq_33 : r_33 = some (tl 2) := hq_33
          obtain rfl : r_33 = some (tl 2) := by first | exact hq_33 | exact hq_33.1
          rcases kd7 (hI.kd (k := 2) hk0).2 with hw | hw | hw | hw | hw | hw | hw
          ·
            have hc : ((tl 2, .inr (3, [.int (nI 2), .int (sa (32 + 2 * 2 + 1))])) : Nat × va_E) ∈ PL := by have hz := hTL 2 hk0; rw [hw] at hz; exact hz
            refine fx_ci (va_runV (As := []) (rest := [.int 10]) X (xX3_kind l E (tl 2) _) (cwV 0 X.2.2.2.2 (lw_V q343 q344 q345 q72 q352) rfl rfl rfl ⟨rfl, hdX3_kind⟩ ⟨Nat.le_of_ble_eq_true rfl, Nat.le_of_ble_eq_true rfl⟩) (fx_preV (fx_pre hE hP hD hS hR [] rfl rfl fx_rc0) (va_recv hE.1 (fx_one (hR.at hS) (List.mem_append_right _ hc)) (ci := 3) (q0 := 0) rfl rfl)) rfl rfl hl.1 rfl (lv_room (Nat.le_of_ble_eq_true rfl)) dX0_till_36 ⟨Nat.le_of_ble_eq_true rfl, Nat.le_of_ble_eq_true rfl⟩) hP hD hS hA [] rfl rfl (fun r_36 u H locs hq_36 hP hD hS => ?_)
            replace hP : va_P E.1 clA [(ax 36, .inr (2, [.ref (tl 0)])), (ax 37, .inr (2, [.ref (tl 1)])), (ax 38, .inr (2, [.ref (tl 2)])), (ax 39, .inr (2, [.ref (tl 3)])), (ax 5, .inl (E.2 0, 7, .inl er))] _ := hP
            replace hD : va_D A [(ax 36, .inr (2, [.ref (tl 0)])), (ax 37, .inr (2, [.ref (tl 1)])), (ax 38, .inr (2, [.ref (tl 2)])), (ax 39, .inr (2, [.ref (tl 3)])), (ax 5, .inl (E.2 0, 7, .inl er))] := hD
            replace hq_36 : r_36 = 0 := hq_36
            refine lv_imul hx hb dX0_till_39 ?_
            refine lv_aload_n hx hb dX0_till_40 rfl (lv_at hl 0 rfl) ?_
            refine fx_get X hE (hR.at hS) 0 rfl rfl 2 rfl q237 rfl rfl dX0_till_41 ?_
            refine lv_iload_n hx hb dX0_till_44 rfl (lv_at hl 1 rfl) ?_
            refine fx_cq (va_runV (As := [.int (nI 2)]) (rest := [.int (10 * r_36)]) X (xX1_at l E ax tk cs gs zz tp wg sa tl 2 PL (by first | assumption | omega) (by first | assumption | omega) (by first | assumption | omega) _) (cwV 1 X.2.2.2.2 (lw_V q339 q340 q341 q70 q342) rfl rfl rfl ⟨rfl, hdX1_at⟩ ⟨Nat.le_of_ble_eq_true rfl, Nat.le_of_ble_eq_true rfl⟩) (fx_preV (fx_pre hE hP hD hS hR [] rfl rfl (fx_rcr 1 rfl (fx_rcr 2 rfl (fx_rcm 0 rfl (by decide) (fx_rcm 1 rfl (by decide) (fx_rcm 2 rfl (by decide) (fx_rcm 3 rfl (by decide) (fx_rct (fun q hq => List.mem_append_right _ hq))))))))) (va_recv hE.1 (hR.at hS) (ci := 1) (q0 := 1) rfl rfl)) rfl rfl hl.1 rfl (lv_room (Nat.le_of_ble_eq_true rfl)) dX0_till_45 ⟨Nat.le_of_ble_eq_true rfl, Nat.le_of_ble_eq_true rfl⟩) hP hD hS hA [] rfl rfl (fun r_45 u H locs hq_45 hP hD hS => ?_)
            replace hP : va_P E.1 clA [(ax 36, .inr (2, [.ref (tl 0)])), (ax 37, .inr (2, [.ref (tl 1)])), (ax 38, .inr (2, [.ref (tl 2)])), (ax 39, .inr (2, [.ref (tl 3)])), (ax 5, .inl (E.2 0, 7, .inl er))] _ := hP
            replace hD : va_D A [(ax 36, .inr (2, [.ref (tl 0)])), (ax 37, .inr (2, [.ref (tl 1)])), (ax 38, .inr (2, [.ref (tl 2)])), (ax 39, .inr (2, [.ref (tl 3)])), (ax 5, .inl (E.2 0, 7, .inl er))] := hD
            replace hq_45 : r_45 = some (tl 2) := hq_45
            obtain rfl : r_45 = some (tl 2) := by first | exact hq_45 | exact hq_45.1
            refine fx_get X hE (fx_one (hR.at hS) (List.mem_append_right _ hc)) 0 rfl rfl 1 rfl q146 rfl rfl dX0_till_48 ?_
            refine lv_iadd hx hb dX0_till_51 ?_
            refine lv_istore_n (lv' := [(3, .int ((10 * r_36) + (sa (32 + 2 * 2 + 1)))), (0, .ref (ax 19)), (1, .int (nI 2)), (2, .int km)]) hx hb dX0_till_52 rfl hl (by decide) rfl (fun ls hl => ?_)
            refine lv_aload_n hx hb dX0_till_53 rfl (lv_at hl 1 rfl) ?_
            refine fx_get X hE (hR.at hS) 0 rfl rfl 2 rfl q237 rfl rfl dX0_till_54 ?_
            refine fx_getN X hE (hR.at hS) 1 rfl rfl 9 rfl 12 rfl rfl rfl dX0_till_57 ?_
            refine lv_iload_n hx hb dX0_till_60 rfl (lv_at hl 2 rfl) ?_
            refine fx_aald X hE (hR.at hS) 2 3 rfl rfl 2 rfl (by decide) rfl (r := some (ax 38)) (rfl) dX0_till_61 ?_
            refine lv_iload_n hx hb dX0_till_62 rfl (lv_at hl 3 rfl) ?_
            refine lv_bipush (v := 10) hx hb dX0_till_63 rfl ?_
            refine lv_idiv hx hb dX0_till_65 (by decide) ?_
            refine fx_ti (show (km / 10) = nI (nn km / 10) from hk3) ?_
            refine lv_iload_n hx hb dX0_till_66 rfl (lv_at hl 2 rfl) ?_
            refine lv_iload_n hx hb dX0_till_67 rfl (lv_at hl 3 rfl) ?_
            refine lv_bipush (v := 10) hx hb dX0_till_68 rfl ?_
            refine lv_irem hx hb dX0_till_70 (by decide) ?_
            refine fx_ti (show (km - km / 10 * 10) = nI (nn km % 10) from hk4) ?_
            refine fx_cq (va_runS (As := [.int (nI (nn km / 10)), .int (nI 2), .int (nI (nn km % 10))]) (rest := [.ref (ax 38)]) X (xX0_made l E (nn km / 10) (nI 2) (nI (nn km % 10)) (by first | assumption | omega) _) (va_cwS 3 X.2.2.2.2 (lw_S q378 q379 q69 q380) rfl rfl rfl hdX0_made ⟨Nat.le_of_ble_eq_true rfl, Nat.le_of_ble_eq_true rfl⟩) (fx_pre hE hP hD hS hR [] rfl rfl fx_rc0) rfl rfl hl.1 rfl (lv_room (Nat.le_of_ble_eq_true rfl)) dX0_till_71 ⟨Nat.le_of_ble_eq_true rfl, Nat.le_of_ble_eq_true rfl⟩) hP hD hS hA [] rfl rfl (fun r_71 u H locs hq_71 hP hD hS => ?_)
            obtain ⟨q2_71, rfl⟩ : ∃ z, z = u := ⟨_, rfl⟩
            replace hP : va_P E.1 clA [(ax 36, .inr (2, [.ref (tl 0)])), (ax 37, .inr (2, [.ref (tl 1)])), (ax 38, .inr (2, [.ref (tl 2)])), (ax 39, .inr (2, [.ref (tl 3)])), (ax 5, .inl (E.2 0, 7, .inl er)), (q2_71, .inr ((tcn (nn km / 10)), [.int (nI 2), .int (nI (nn km % 10))]))] _ := hP
            replace hD : va_D A [(ax 36, .inr (2, [.ref (tl 0)])), (ax 37, .inr (2, [.ref (tl 1)])), (ax 38, .inr (2, [.ref (tl 2)])), (ax 39, .inr (2, [.ref (tl 3)])), (ax 5, .inl (E.2 0, 7, .inl er)), (q2_71, .inr ((tcn (nn km / 10)), [.int (nI 2), .int (nI (nn km % 10))]))] := hD
            replace hq_71 : r_71 = some q2_71 := hq_71
            refine W.widen (k := 1) (n := 2) (by first | omega | exact Nat.le_of_ble_eq_true rfl) (by first | omega | exact Nat.le_of_ble_eq_true rfl) ?_
            obtain rfl : r_71 = some q2_71 := by first | exact hq_71 | exact hq_71.1
            refine fx_putN (ws' := [(ax 36, .inr (2, [.ref (tl 0)])), (ax 37, .inr (2, [.ref (tl 1)])), (ax 38, .inr (2, [.ref q2_71])), (ax 39, .inr (2, [.ref (tl 3)])), (ax 5, .inl (E.2 0, 7, .inl er)), (q2_71, .inr ((tcn (nn km / 10)), [.int (nI 2), .int (nI (nn km % 10))]))]) X hE hP hD hS 2 rfl rfl tyX2_ok nmX2 0 rfl 2 rfl rfl rfl rfl rfl rfl rfl dX0_till_74 (fun H locs hP hD hS => ?_)
            refine lv_iload_n hx hb dX0_till_77 rfl (lv_at hl 0 rfl) ?_
            exact hret ((10 * r_36) + (sa (32 + 2 * 2 + 1))) ((upN tl 2 q2_71), er, [(q2_71, .inr ((tcn (nn km / 10)), [.int (nI 2), .int (nI (nn km % 10))]))]) (⟨by rw [till_, if_pos hbc]; show _ = 10 * sa (32 + 2 * nn (nI 2)) + sa (32 + 2 * nn (nI 2) + 1); rw [hnn, hq_36, (hI.kd (k := 2) hk0).1, hw]; rfl, by simp only [till_, if_pos hbc], by rw [till_, if_pos hbc]; show TLS _ (upd (upd sa (32 + 2 * nn (nI 2)) _) (32 + 2 * nn (nI 2) + 1) _) _; rw [hnn]; exact TLS_new hTL hk0 (by omega) (List.mem_of_getElem? (i := 0) rfl)⟩) (rfl) hP hD hS (Nat.le_refl _) (Nat.le_refl _) dX0_till_78
          ·
            have hc : ((tl 2, .inr (7, [.int (nI 2), .int (sa (32 + 2 * 2 + 1))])) : Nat × va_E) ∈ PL := by have hz := hTL 2 hk0; rw [hw] at hz; exact hz
            refine fx_ci (va_runU (As := []) (rest := [.int 10]) X (xX7_kind l E (tl 2) (nI 2) (sa (32 + 2 * 2 + 1)) _) (va_cwO 0 X.2.2.2.2 (lw_O q343 q346 q344 q362 q358 q77 q359) rfl rfl rfl q352 ⟨by decide +kernel, by decide +kernel, hdX7_kind.2.2⟩ ⟨Nat.le_of_ble_eq_true rfl, Nat.le_of_ble_eq_true rfl⟩) (fx_preV (fx_pre hE hP hD hS hR [] rfl rfl (fx_rcx ((List.mem_append_right _ hc)) fx_rc0)) (va_recv hE.1 (fx_one (hR.at hS) (List.mem_append_right _ hc)) (ci := 7) (q0 := 0) rfl rfl)) rfl rfl hl.1 rfl (lv_room (Nat.le_of_ble_eq_true rfl)) dX0_till_36 ⟨Nat.le_of_ble_eq_true rfl, Nat.le_of_ble_eq_true rfl⟩) hP hD hS hA [] rfl rfl (fun r_36 u H locs hq_36 hP hD hS => ?_)
            replace hP : va_P E.1 clA [(ax 36, .inr (2, [.ref (tl 0)])), (ax 37, .inr (2, [.ref (tl 1)])), (ax 38, .inr (2, [.ref (tl 2)])), (ax 39, .inr (2, [.ref (tl 3)])), (ax 5, .inl (E.2 0, 7, .inl er))] _ := hP
            replace hD : va_D A [(ax 36, .inr (2, [.ref (tl 0)])), (ax 37, .inr (2, [.ref (tl 1)])), (ax 38, .inr (2, [.ref (tl 2)])), (ax 39, .inr (2, [.ref (tl 3)])), (ax 5, .inl (E.2 0, 7, .inl er))] := hD
            replace hq_36 : r_36 = 1 := hq_36
            refine lv_imul hx hb dX0_till_39 ?_
            refine lv_aload_n hx hb dX0_till_40 rfl (lv_at hl 0 rfl) ?_
            refine fx_get X hE (hR.at hS) 0 rfl rfl 2 rfl q237 rfl rfl dX0_till_41 ?_
            refine lv_iload_n hx hb dX0_till_44 rfl (lv_at hl 1 rfl) ?_
            refine fx_cq (va_runV (As := [.int (nI 2)]) (rest := [.int (10 * r_36)]) X (xX1_at l E ax tk cs gs zz tp wg sa tl 2 PL (by first | assumption | omega) (by first | assumption | omega) (by first | assumption | omega) _) (cwV 1 X.2.2.2.2 (lw_V q339 q340 q341 q70 q342) rfl rfl rfl ⟨rfl, hdX1_at⟩ ⟨Nat.le_of_ble_eq_true rfl, Nat.le_of_ble_eq_true rfl⟩) (fx_preV (fx_pre hE hP hD hS hR [] rfl rfl (fx_rcr 1 rfl (fx_rcr 2 rfl (fx_rcm 0 rfl (by decide) (fx_rcm 1 rfl (by decide) (fx_rcm 2 rfl (by decide) (fx_rcm 3 rfl (by decide) (fx_rct (fun q hq => List.mem_append_right _ hq))))))))) (va_recv hE.1 (hR.at hS) (ci := 1) (q0 := 1) rfl rfl)) rfl rfl hl.1 rfl (lv_room (Nat.le_of_ble_eq_true rfl)) dX0_till_45 ⟨Nat.le_of_ble_eq_true rfl, Nat.le_of_ble_eq_true rfl⟩) hP hD hS hA [] rfl rfl (fun r_45 u H locs hq_45 hP hD hS => ?_)
            replace hP : va_P E.1 clA [(ax 36, .inr (2, [.ref (tl 0)])), (ax 37, .inr (2, [.ref (tl 1)])), (ax 38, .inr (2, [.ref (tl 2)])), (ax 39, .inr (2, [.ref (tl 3)])), (ax 5, .inl (E.2 0, 7, .inl er))] _ := hP
            replace hD : va_D A [(ax 36, .inr (2, [.ref (tl 0)])), (ax 37, .inr (2, [.ref (tl 1)])), (ax 38, .inr (2, [.ref (tl 2)])), (ax 39, .inr (2, [.ref (tl 3)])), (ax 5, .inl (E.2 0, 7, .inl er))] := hD
            replace hq_45 : r_45 = some (tl 2) := hq_45
            obtain rfl : r_45 = some (tl 2) := by first | exact hq_45 | exact hq_45.1
            refine fx_get X hE (fx_one (hR.at hS) (List.mem_append_right _ hc)) 0 rfl rfl 1 rfl q146 rfl rfl dX0_till_48 ?_
            refine lv_iadd hx hb dX0_till_51 ?_
            refine lv_istore_n (lv' := [(3, .int ((10 * r_36) + (sa (32 + 2 * 2 + 1)))), (0, .ref (ax 19)), (1, .int (nI 2)), (2, .int km)]) hx hb dX0_till_52 rfl hl (by decide) rfl (fun ls hl => ?_)
            refine lv_aload_n hx hb dX0_till_53 rfl (lv_at hl 1 rfl) ?_
            refine fx_get X hE (hR.at hS) 0 rfl rfl 2 rfl q237 rfl rfl dX0_till_54 ?_
            refine fx_getN X hE (hR.at hS) 1 rfl rfl 9 rfl 12 rfl rfl rfl dX0_till_57 ?_
            refine lv_iload_n hx hb dX0_till_60 rfl (lv_at hl 2 rfl) ?_
            refine fx_aald X hE (hR.at hS) 2 3 rfl rfl 2 rfl (by decide) rfl (r := some (ax 38)) (rfl) dX0_till_61 ?_
            refine lv_iload_n hx hb dX0_till_62 rfl (lv_at hl 3 rfl) ?_
            refine lv_bipush (v := 10) hx hb dX0_till_63 rfl ?_
            refine lv_idiv hx hb dX0_till_65 (by decide) ?_
            refine fx_ti (show (km / 10) = nI (nn km / 10) from hk3) ?_
            refine lv_iload_n hx hb dX0_till_66 rfl (lv_at hl 2 rfl) ?_
            refine lv_iload_n hx hb dX0_till_67 rfl (lv_at hl 3 rfl) ?_
            refine lv_bipush (v := 10) hx hb dX0_till_68 rfl ?_
            refine lv_irem hx hb dX0_till_70 (by decide) ?_
            refine fx_ti (show (km - km / 10 * 10) = nI (nn km % 10) from hk4) ?_
            refine fx_cq (va_runS (As := [.int (nI (nn km / 10)), .int (nI 2), .int (nI (nn km % 10))]) (rest := [.ref (ax 38)]) X (xX0_made l E (nn km / 10) (nI 2) (nI (nn km % 10)) (by first | assumption | omega) _) (va_cwS 3 X.2.2.2.2 (lw_S q378 q379 q69 q380) rfl rfl rfl hdX0_made ⟨Nat.le_of_ble_eq_true rfl, Nat.le_of_ble_eq_true rfl⟩) (fx_pre hE hP hD hS hR [] rfl rfl fx_rc0) rfl rfl hl.1 rfl (lv_room (Nat.le_of_ble_eq_true rfl)) dX0_till_71 ⟨Nat.le_of_ble_eq_true rfl, Nat.le_of_ble_eq_true rfl⟩) hP hD hS hA [] rfl rfl (fun r_71 u H locs hq_71 hP hD hS => ?_)
            obtain ⟨q2_71, rfl⟩ : ∃ z, z = u := ⟨_, rfl⟩
            replace hP : va_P E.1 clA [(ax 36, .inr (2, [.ref (tl 0)])), (ax 37, .inr (2, [.ref (tl 1)])), (ax 38, .inr (2, [.ref (tl 2)])), (ax 39, .inr (2, [.ref (tl 3)])), (ax 5, .inl (E.2 0, 7, .inl er)), (q2_71, .inr ((tcn (nn km / 10)), [.int (nI 2), .int (nI (nn km % 10))]))] _ := hP
            replace hD : va_D A [(ax 36, .inr (2, [.ref (tl 0)])), (ax 37, .inr (2, [.ref (tl 1)])), (ax 38, .inr (2, [.ref (tl 2)])), (ax 39, .inr (2, [.ref (tl 3)])), (ax 5, .inl (E.2 0, 7, .inl er)), (q2_71, .inr ((tcn (nn km / 10)), [.int (nI 2), .int (nI (nn km % 10))]))] := hD
            replace hq_71 : r_71 = some q2_71 := hq_71
            refine W.widen (k := 1) (n := 2) (by first | omega | exact Nat.le_of_ble_eq_true rfl) (by first | omega | exact Nat.le_of_ble_eq_true rfl) ?_
            obtain rfl : r_71 = some q2_71 := by first | exact hq_71 | exact hq_71.1
            refine fx_putN (ws' := [(ax 36, .inr (2, [.ref (tl 0)])), (ax 37, .inr (2, [.ref (tl 1)])), (ax 38, .inr (2, [.ref q2_71])), (ax 39, .inr (2, [.ref (tl 3)])), (ax 5, .inl (E.2 0, 7, .inl er)), (q2_71, .inr ((tcn (nn km / 10)), [.int (nI 2), .int (nI (nn km % 10))]))]) X hE hP hD hS 2 rfl rfl tyX2_ok nmX2 0 rfl 2 rfl rfl rfl rfl rfl rfl rfl dX0_till_74 (fun H locs hP hD hS => ?_)
            refine lv_iload_n hx hb dX0_till_77 rfl (lv_at hl 0 rfl) ?_
            exact hret ((10 * r_36) + (sa (32 + 2 * 2 + 1))) ((upN tl 2 q2_71), er, [(q2_71, .inr ((tcn (nn km / 10)), [.int (nI 2), .int (nI (nn km % 10))]))]) (⟨by rw [till_, if_pos hbc]; show _ = 10 * sa (32 + 2 * nn (nI 2)) + sa (32 + 2 * nn (nI 2) + 1); rw [hnn, hq_36, (hI.kd (k := 2) hk0).1, hw]; rfl, by simp only [till_, if_pos hbc], by rw [till_, if_pos hbc]; show TLS _ (upd (upd sa (32 + 2 * nn (nI 2)) _) (32 + 2 * nn (nI 2) + 1) _) _; rw [hnn]; exact TLS_new hTL hk0 (by omega) (List.mem_of_getElem? (i := 0) rfl)⟩) (rfl) hP hD hS (Nat.le_refl _) (Nat.le_refl _) dX0_till_78
          ·
            have hc : ((tl 2, .inr (8, [.int (nI 2), .int (sa (32 + 2 * 2 + 1))])) : Nat × va_E) ∈ PL := by have hz := hTL 2 hk0; rw [hw] at hz; exact hz
            refine fx_ci (va_runU (As := []) (rest := [.int 10]) X (xX8_kind l E (tl 2) (nI 2) (sa (32 + 2 * 2 + 1)) _) (va_cwO 0 X.2.2.2.2 (lw_O q343 q346 q344 q372 q368 q78 q369) rfl rfl rfl q352 ⟨by decide +kernel, by decide +kernel, hdX8_kind.2.2⟩ ⟨Nat.le_of_ble_eq_true rfl, Nat.le_of_ble_eq_true rfl⟩) (fx_preV (fx_pre hE hP hD hS hR [] rfl rfl (fx_rcx ((List.mem_append_right _ hc)) fx_rc0)) (va_recv hE.1 (fx_one (hR.at hS) (List.mem_append_right _ hc)) (ci := 8) (q0 := 0) rfl rfl)) rfl rfl hl.1 rfl (lv_room (Nat.le_of_ble_eq_true rfl)) dX0_till_36 ⟨Nat.le_of_ble_eq_true rfl, Nat.le_of_ble_eq_true rfl⟩) hP hD hS hA [] rfl rfl (fun r_36 u H locs hq_36 hP hD hS => ?_)
            replace hP : va_P E.1 clA [(ax 36, .inr (2, [.ref (tl 0)])), (ax 37, .inr (2, [.ref (tl 1)])), (ax 38, .inr (2, [.ref (tl 2)])), (ax 39, .inr (2, [.ref (tl 3)])), (ax 5, .inl (E.2 0, 7, .inl er))] _ := hP
            replace hD : va_D A [(ax 36, .inr (2, [.ref (tl 0)])), (ax 37, .inr (2, [.ref (tl 1)])), (ax 38, .inr (2, [.ref (tl 2)])), (ax 39, .inr (2, [.ref (tl 3)])), (ax 5, .inl (E.2 0, 7, .inl er))] := hD
            replace hq_36 : r_36 = 2 := hq_36
            refine lv_imul hx hb dX0_till_39 ?_
            refine lv_aload_n hx hb dX0_till_40 rfl (lv_at hl 0 rfl) ?_
            refine fx_get X hE (hR.at hS) 0 rfl rfl 2 rfl q237 rfl rfl dX0_till_41 ?_
            refine lv_iload_n hx hb dX0_till_44 rfl (lv_at hl 1 rfl) ?_
            refine fx_cq (va_runV (As := [.int (nI 2)]) (rest := [.int (10 * r_36)]) X (xX1_at l E ax tk cs gs zz tp wg sa tl 2 PL (by first | assumption | omega) (by first | assumption | omega) (by first | assumption | omega) _) (cwV 1 X.2.2.2.2 (lw_V q339 q340 q341 q70 q342) rfl rfl rfl ⟨rfl, hdX1_at⟩ ⟨Nat.le_of_ble_eq_true rfl, Nat.le_of_ble_eq_true rfl⟩) (fx_preV (fx_pre hE hP hD hS hR [] rfl rfl (fx_rcr 1 rfl (fx_rcr 2 rfl (fx_rcm 0 rfl (by decide) (fx_rcm 1 rfl (by decide) (fx_rcm 2 rfl (by decide) (fx_rcm 3 rfl (by decide) (fx_rct (fun q hq => List.mem_append_right _ hq))))))))) (va_recv hE.1 (hR.at hS) (ci := 1) (q0 := 1) rfl rfl)) rfl rfl hl.1 rfl (lv_room (Nat.le_of_ble_eq_true rfl)) dX0_till_45 ⟨Nat.le_of_ble_eq_true rfl, Nat.le_of_ble_eq_true rfl⟩) hP hD hS hA [] rfl rfl (fun r_45 u H locs hq_45 hP hD hS => ?_)
            replace hP : va_P E.1 clA [(ax 36, .inr (2, [.ref (tl 0)])), (ax 37, .inr (2, [.ref (tl 1)])), (ax 38, .inr (2, [.ref (tl 2)])), (ax 39, .inr (2, [.ref (tl 3)])), (ax 5, .inl (E.2 0, 7, .inl er))] _ := hP
            replace hD : va_D A [(ax 36, .inr (2, [.ref (tl 0)])), (ax 37, .inr (2, [.ref (tl 1)])), (ax 38, .inr (2, [.ref (tl 2)])), (ax 39, .inr (2, [.ref (tl 3)])), (ax 5, .inl (E.2 0, 7, .inl er))] := hD
            replace hq_45 : r_45 = some (tl 2) := hq_45
            obtain rfl : r_45 = some (tl 2) := by first | exact hq_45 | exact hq_45.1
            refine fx_get X hE (fx_one (hR.at hS) (List.mem_append_right _ hc)) 0 rfl rfl 1 rfl q146 rfl rfl dX0_till_48 ?_
            refine lv_iadd hx hb dX0_till_51 ?_
            refine lv_istore_n (lv' := [(3, .int ((10 * r_36) + (sa (32 + 2 * 2 + 1)))), (0, .ref (ax 19)), (1, .int (nI 2)), (2, .int km)]) hx hb dX0_till_52 rfl hl (by decide) rfl (fun ls hl => ?_)
            refine lv_aload_n hx hb dX0_till_53 rfl (lv_at hl 1 rfl) ?_
            refine fx_get X hE (hR.at hS) 0 rfl rfl 2 rfl q237 rfl rfl dX0_till_54 ?_
            refine fx_getN X hE (hR.at hS) 1 rfl rfl 9 rfl 12 rfl rfl rfl dX0_till_57 ?_
            refine lv_iload_n hx hb dX0_till_60 rfl (lv_at hl 2 rfl) ?_
            refine fx_aald X hE (hR.at hS) 2 3 rfl rfl 2 rfl (by decide) rfl (r := some (ax 38)) (rfl) dX0_till_61 ?_
            refine lv_iload_n hx hb dX0_till_62 rfl (lv_at hl 3 rfl) ?_
            refine lv_bipush (v := 10) hx hb dX0_till_63 rfl ?_
            refine lv_idiv hx hb dX0_till_65 (by decide) ?_
            refine fx_ti (show (km / 10) = nI (nn km / 10) from hk3) ?_
            refine lv_iload_n hx hb dX0_till_66 rfl (lv_at hl 2 rfl) ?_
            refine lv_iload_n hx hb dX0_till_67 rfl (lv_at hl 3 rfl) ?_
            refine lv_bipush (v := 10) hx hb dX0_till_68 rfl ?_
            refine lv_irem hx hb dX0_till_70 (by decide) ?_
            refine fx_ti (show (km - km / 10 * 10) = nI (nn km % 10) from hk4) ?_
            refine fx_cq (va_runS (As := [.int (nI (nn km / 10)), .int (nI 2), .int (nI (nn km % 10))]) (rest := [.ref (ax 38)]) X (xX0_made l E (nn km / 10) (nI 2) (nI (nn km % 10)) (by first | assumption | omega) _) (va_cwS 3 X.2.2.2.2 (lw_S q378 q379 q69 q380) rfl rfl rfl hdX0_made ⟨Nat.le_of_ble_eq_true rfl, Nat.le_of_ble_eq_true rfl⟩) (fx_pre hE hP hD hS hR [] rfl rfl fx_rc0) rfl rfl hl.1 rfl (lv_room (Nat.le_of_ble_eq_true rfl)) dX0_till_71 ⟨Nat.le_of_ble_eq_true rfl, Nat.le_of_ble_eq_true rfl⟩) hP hD hS hA [] rfl rfl (fun r_71 u H locs hq_71 hP hD hS => ?_)
            obtain ⟨q2_71, rfl⟩ : ∃ z, z = u := ⟨_, rfl⟩
            replace hP : va_P E.1 clA [(ax 36, .inr (2, [.ref (tl 0)])), (ax 37, .inr (2, [.ref (tl 1)])), (ax 38, .inr (2, [.ref (tl 2)])), (ax 39, .inr (2, [.ref (tl 3)])), (ax 5, .inl (E.2 0, 7, .inl er)), (q2_71, .inr ((tcn (nn km / 10)), [.int (nI 2), .int (nI (nn km % 10))]))] _ := hP
            replace hD : va_D A [(ax 36, .inr (2, [.ref (tl 0)])), (ax 37, .inr (2, [.ref (tl 1)])), (ax 38, .inr (2, [.ref (tl 2)])), (ax 39, .inr (2, [.ref (tl 3)])), (ax 5, .inl (E.2 0, 7, .inl er)), (q2_71, .inr ((tcn (nn km / 10)), [.int (nI 2), .int (nI (nn km % 10))]))] := hD
            replace hq_71 : r_71 = some q2_71 := hq_71
            refine W.widen (k := 1) (n := 2) (by first | omega | exact Nat.le_of_ble_eq_true rfl) (by first | omega | exact Nat.le_of_ble_eq_true rfl) ?_
            obtain rfl : r_71 = some q2_71 := by first | exact hq_71 | exact hq_71.1
            refine fx_putN (ws' := [(ax 36, .inr (2, [.ref (tl 0)])), (ax 37, .inr (2, [.ref (tl 1)])), (ax 38, .inr (2, [.ref q2_71])), (ax 39, .inr (2, [.ref (tl 3)])), (ax 5, .inl (E.2 0, 7, .inl er)), (q2_71, .inr ((tcn (nn km / 10)), [.int (nI 2), .int (nI (nn km % 10))]))]) X hE hP hD hS 2 rfl rfl tyX2_ok nmX2 0 rfl 2 rfl rfl rfl rfl rfl rfl rfl dX0_till_74 (fun H locs hP hD hS => ?_)
            refine lv_iload_n hx hb dX0_till_77 rfl (lv_at hl 0 rfl) ?_
            exact hret ((10 * r_36) + (sa (32 + 2 * 2 + 1))) ((upN tl 2 q2_71), er, [(q2_71, .inr ((tcn (nn km / 10)), [.int (nI 2), .int (nI (nn km % 10))]))]) (⟨by rw [till_, if_pos hbc]; show _ = 10 * sa (32 + 2 * nn (nI 2)) + sa (32 + 2 * nn (nI 2) + 1); rw [hnn, hq_36, (hI.kd (k := 2) hk0).1, hw]; rfl, by simp only [till_, if_pos hbc], by rw [till_, if_pos hbc]; show TLS _ (upd (upd sa (32 + 2 * nn (nI 2)) _) (32 + 2 * nn (nI 2) + 1) _) _; rw [hnn]; exact TLS_new hTL hk0 (by omega) (List.mem_of_getElem? (i := 0) rfl)⟩) (rfl) hP hD hS (Nat.le_refl _) (Nat.le_refl _) dX0_till_78
          ·
            have hc : ((tl 2, .inr (9, [.int (nI 2), .int (sa (32 + 2 * 2 + 1))])) : Nat × va_E) ∈ PL := by have hz := hTL 2 hk0; rw [hw] at hz; exact hz
            refine fx_ci (va_runU (As := []) (rest := [.int 10]) X (xX9_kind l E (tl 2) (nI 2) (sa (32 + 2 * 2 + 1)) _) (va_cwO 0 X.2.2.2.2 (lw_O q343 q346 q344 q347 q348 q79 q349) rfl rfl rfl q352 ⟨by decide +kernel, by decide +kernel, hdX9_kind.2.2⟩ ⟨Nat.le_of_ble_eq_true rfl, Nat.le_of_ble_eq_true rfl⟩) (fx_preV (fx_pre hE hP hD hS hR [] rfl rfl (fx_rcx ((List.mem_append_right _ hc)) fx_rc0)) (va_recv hE.1 (fx_one (hR.at hS) (List.mem_append_right _ hc)) (ci := 9) (q0 := 0) rfl rfl)) rfl rfl hl.1 rfl (lv_room (Nat.le_of_ble_eq_true rfl)) dX0_till_36 ⟨Nat.le_of_ble_eq_true rfl, Nat.le_of_ble_eq_true rfl⟩) hP hD hS hA [] rfl rfl (fun r_36 u H locs hq_36 hP hD hS => ?_)
            replace hP : va_P E.1 clA [(ax 36, .inr (2, [.ref (tl 0)])), (ax 37, .inr (2, [.ref (tl 1)])), (ax 38, .inr (2, [.ref (tl 2)])), (ax 39, .inr (2, [.ref (tl 3)])), (ax 5, .inl (E.2 0, 7, .inl er))] _ := hP
            replace hD : va_D A [(ax 36, .inr (2, [.ref (tl 0)])), (ax 37, .inr (2, [.ref (tl 1)])), (ax 38, .inr (2, [.ref (tl 2)])), (ax 39, .inr (2, [.ref (tl 3)])), (ax 5, .inl (E.2 0, 7, .inl er))] := hD
            replace hq_36 : r_36 = 3 := hq_36
            refine lv_imul hx hb dX0_till_39 ?_
            refine lv_aload_n hx hb dX0_till_40 rfl (lv_at hl 0 rfl) ?_
            refine fx_get X hE (hR.at hS) 0 rfl rfl 2 rfl q237 rfl rfl dX0_till_41 ?_
            refine lv_iload_n hx hb dX0_till_44 rfl (lv_at hl 1 rfl) ?_
            refine fx_cq (va_runV (As := [.int (nI 2)]) (rest := [.int (10 * r_36)]) X (xX1_at l E ax tk cs gs zz tp wg sa tl 2 PL (by first | assumption | omega) (by first | assumption | omega) (by first | assumption | omega) _) (cwV 1 X.2.2.2.2 (lw_V q339 q340 q341 q70 q342) rfl rfl rfl ⟨rfl, hdX1_at⟩ ⟨Nat.le_of_ble_eq_true rfl, Nat.le_of_ble_eq_true rfl⟩) (fx_preV (fx_pre hE hP hD hS hR [] rfl rfl (fx_rcr 1 rfl (fx_rcr 2 rfl (fx_rcm 0 rfl (by decide) (fx_rcm 1 rfl (by decide) (fx_rcm 2 rfl (by decide) (fx_rcm 3 rfl (by decide) (fx_rct (fun q hq => List.mem_append_right _ hq))))))))) (va_recv hE.1 (hR.at hS) (ci := 1) (q0 := 1) rfl rfl)) rfl rfl hl.1 rfl (lv_room (Nat.le_of_ble_eq_true rfl)) dX0_till_45 ⟨Nat.le_of_ble_eq_true rfl, Nat.le_of_ble_eq_true rfl⟩) hP hD hS hA [] rfl rfl (fun r_45 u H locs hq_45 hP hD hS => ?_)
            replace hP : va_P E.1 clA [(ax 36, .inr (2, [.ref (tl 0)])), (ax 37, .inr (2, [.ref (tl 1)])), (ax 38, .inr (2, [.ref (tl 2)])), (ax 39, .inr (2, [.ref (tl 3)])), (ax 5, .inl (E.2 0, 7, .inl er))] _ := hP
            replace hD : va_D A [(ax 36, .inr (2, [.ref (tl 0)])), (ax 37, .inr (2, [.ref (tl 1)])), (ax 38, .inr (2, [.ref (tl 2)])), (ax 39, .inr (2, [.ref (tl 3)])), (ax 5, .inl (E.2 0, 7, .inl er))] := hD
            replace hq_45 : r_45 = some (tl 2) := hq_45
            obtain rfl : r_45 = some (tl 2) := by first | exact hq_45 | exact hq_45.1
            refine fx_get X hE (fx_one (hR.at hS) (List.mem_append_right _ hc)) 0 rfl rfl 1 rfl q146 rfl rfl dX0_till_48 ?_
            refine lv_iadd hx hb dX0_till_51 ?_
            refine lv_istore_n (lv' := [(3, .int ((10 * r_36) + (sa (32 + 2 * 2 + 1)))), (0, .ref (ax 19)), (1, .int (nI 2)), (2, .int km)]) hx hb dX0_till_52 rfl hl (by decide) rfl (fun ls hl => ?_)
            refine lv_aload_n hx hb dX0_till_53 rfl (lv_at hl 1 rfl) ?_
            refine fx_get X hE (hR.at hS) 0 rfl rfl 2 rfl q237 rfl rfl dX0_till_54 ?_
            refine fx_getN X hE (hR.at hS) 1 rfl rfl 9 rfl 12 rfl rfl rfl dX0_till_57 ?_
            refine lv_iload_n hx hb dX0_till_60 rfl (lv_at hl 2 rfl) ?_
            refine fx_aald X hE (hR.at hS) 2 3 rfl rfl 2 rfl (by decide) rfl (r := some (ax 38)) (rfl) dX0_till_61 ?_
            refine lv_iload_n hx hb dX0_till_62 rfl (lv_at hl 3 rfl) ?_
            refine lv_bipush (v := 10) hx hb dX0_till_63 rfl ?_
            refine lv_idiv hx hb dX0_till_65 (by decide) ?_
            refine fx_ti (show (km / 10) = nI (nn km / 10) from hk3) ?_
            refine lv_iload_n hx hb dX0_till_66 rfl (lv_at hl 2 rfl) ?_
            refine lv_iload_n hx hb dX0_till_67 rfl (lv_at hl 3 rfl) ?_
            refine lv_bipush (v := 10) hx hb dX0_till_68 rfl ?_
            refine lv_irem hx hb dX0_till_70 (by decide) ?_
            refine fx_ti (show (km - km / 10 * 10) = nI (nn km % 10) from hk4) ?_
            refine fx_cq (va_runS (As := [.int (nI (nn km / 10)), .int (nI 2), .int (nI (nn km % 10))]) (rest := [.ref (ax 38)]) X (xX0_made l E (nn km / 10) (nI 2) (nI (nn km % 10)) (by first | assumption | omega) _) (va_cwS 3 X.2.2.2.2 (lw_S q378 q379 q69 q380) rfl rfl rfl hdX0_made ⟨Nat.le_of_ble_eq_true rfl, Nat.le_of_ble_eq_true rfl⟩) (fx_pre hE hP hD hS hR [] rfl rfl fx_rc0) rfl rfl hl.1 rfl (lv_room (Nat.le_of_ble_eq_true rfl)) dX0_till_71 ⟨Nat.le_of_ble_eq_true rfl, Nat.le_of_ble_eq_true rfl⟩) hP hD hS hA [] rfl rfl (fun r_71 u H locs hq_71 hP hD hS => ?_)
            obtain ⟨q2_71, rfl⟩ : ∃ z, z = u := ⟨_, rfl⟩
            replace hP : va_P E.1 clA [(ax 36, .inr (2, [.ref (tl 0)])), (ax 37, .inr (2, [.ref (tl 1)])), (ax 38, .inr (2, [.ref (tl 2)])), (ax 39, .inr (2, [.ref (tl 3)])), (ax 5, .inl (E.2 0, 7, .inl er)), (q2_71, .inr ((tcn (nn km / 10)), [.int (nI 2), .int (nI (nn km % 10))]))] _ := hP
            replace hD : va_D A [(ax 36, .inr (2, [.ref (tl 0)])), (ax 37, .inr (2, [.ref (tl 1)])), (ax 38, .inr (2, [.ref (tl 2)])), (ax 39, .inr (2, [.ref (tl 3)])), (ax 5, .inl (E.2 0, 7, .inl er)), (q2_71, .inr ((tcn (nn km / 10)), [.int (nI 2), .int (nI (nn km % 10))]))] := hD
            replace hq_71 : r_71 = some q2_71 := hq_71
            refine W.widen (k := 1) (n := 2) (by first | omega | exact Nat.le_of_ble_eq_true rfl) (by first | omega | exact Nat.le_of_ble_eq_true rfl) ?_
            obtain rfl : r_71 = some q2_71 := by first | exact hq_71 | exact hq_71.1
            refine fx_putN (ws' := [(ax 36, .inr (2, [.ref (tl 0)])), (ax 37, .inr (2, [.ref (tl 1)])), (ax 38, .inr (2, [.ref q2_71])), (ax 39, .inr (2, [.ref (tl 3)])), (ax 5, .inl (E.2 0, 7, .inl er)), (q2_71, .inr ((tcn (nn km / 10)), [.int (nI 2), .int (nI (nn km % 10))]))]) X hE hP hD hS 2 rfl rfl tyX2_ok nmX2 0 rfl 2 rfl rfl rfl rfl rfl rfl rfl dX0_till_74 (fun H locs hP hD hS => ?_)
            refine lv_iload_n hx hb dX0_till_77 rfl (lv_at hl 0 rfl) ?_
            exact hret ((10 * r_36) + (sa (32 + 2 * 2 + 1))) ((upN tl 2 q2_71), er, [(q2_71, .inr ((tcn (nn km / 10)), [.int (nI 2), .int (nI (nn km % 10))]))]) (⟨by rw [till_, if_pos hbc]; show _ = 10 * sa (32 + 2 * nn (nI 2)) + sa (32 + 2 * nn (nI 2) + 1); rw [hnn, hq_36, (hI.kd (k := 2) hk0).1, hw]; rfl, by simp only [till_, if_pos hbc], by rw [till_, if_pos hbc]; show TLS _ (upd (upd sa (32 + 2 * nn (nI 2)) _) (32 + 2 * nn (nI 2) + 1) _) _; rw [hnn]; exact TLS_new hTL hk0 (by omega) (List.mem_of_getElem? (i := 0) rfl)⟩) (rfl) hP hD hS (Nat.le_refl _) (Nat.le_refl _) dX0_till_78
          ·
            have hc : ((tl 2, .inr (10, [.int (nI 2), .int (sa (32 + 2 * 2 + 1))])) : Nat × va_E) ∈ PL := by have hz := hTL 2 hk0; rw [hw] at hz; exact hz
            refine fx_ci (va_runU (As := []) (rest := [.int 10]) X (xX10_kind l E (tl 2) (nI 2) (sa (32 + 2 * 2 + 1)) _) (va_cwO 0 X.2.2.2.2 (lw_O q343 q346 q344 q363 q364 q80 q365) rfl rfl rfl q352 ⟨by decide +kernel, by decide +kernel, hdX10_kind.2.2⟩ ⟨Nat.le_of_ble_eq_true rfl, Nat.le_of_ble_eq_true rfl⟩) (fx_preV (fx_pre hE hP hD hS hR [] rfl rfl (fx_rcx ((List.mem_append_right _ hc)) fx_rc0)) (va_recv hE.1 (fx_one (hR.at hS) (List.mem_append_right _ hc)) (ci := 10) (q0 := 0) rfl rfl)) rfl rfl hl.1 rfl (lv_room (Nat.le_of_ble_eq_true rfl)) dX0_till_36 ⟨Nat.le_of_ble_eq_true rfl, Nat.le_of_ble_eq_true rfl⟩) hP hD hS hA [] rfl rfl (fun r_36 u H locs hq_36 hP hD hS => ?_)
            replace hP : va_P E.1 clA [(ax 36, .inr (2, [.ref (tl 0)])), (ax 37, .inr (2, [.ref (tl 1)])), (ax 38, .inr (2, [.ref (tl 2)])), (ax 39, .inr (2, [.ref (tl 3)])), (ax 5, .inl (E.2 0, 7, .inl er))] _ := hP
            replace hD : va_D A [(ax 36, .inr (2, [.ref (tl 0)])), (ax 37, .inr (2, [.ref (tl 1)])), (ax 38, .inr (2, [.ref (tl 2)])), (ax 39, .inr (2, [.ref (tl 3)])), (ax 5, .inl (E.2 0, 7, .inl er))] := hD
            replace hq_36 : r_36 = 4 := hq_36
            refine lv_imul hx hb dX0_till_39 ?_
            refine lv_aload_n hx hb dX0_till_40 rfl (lv_at hl 0 rfl) ?_
            refine fx_get X hE (hR.at hS) 0 rfl rfl 2 rfl q237 rfl rfl dX0_till_41 ?_
            refine lv_iload_n hx hb dX0_till_44 rfl (lv_at hl 1 rfl) ?_
            refine fx_cq (va_runV (As := [.int (nI 2)]) (rest := [.int (10 * r_36)]) X (xX1_at l E ax tk cs gs zz tp wg sa tl 2 PL (by first | assumption | omega) (by first | assumption | omega) (by first | assumption | omega) _) (cwV 1 X.2.2.2.2 (lw_V q339 q340 q341 q70 q342) rfl rfl rfl ⟨rfl, hdX1_at⟩ ⟨Nat.le_of_ble_eq_true rfl, Nat.le_of_ble_eq_true rfl⟩) (fx_preV (fx_pre hE hP hD hS hR [] rfl rfl (fx_rcr 1 rfl (fx_rcr 2 rfl (fx_rcm 0 rfl (by decide) (fx_rcm 1 rfl (by decide) (fx_rcm 2 rfl (by decide) (fx_rcm 3 rfl (by decide) (fx_rct (fun q hq => List.mem_append_right _ hq))))))))) (va_recv hE.1 (hR.at hS) (ci := 1) (q0 := 1) rfl rfl)) rfl rfl hl.1 rfl (lv_room (Nat.le_of_ble_eq_true rfl)) dX0_till_45 ⟨Nat.le_of_ble_eq_true rfl, Nat.le_of_ble_eq_true rfl⟩) hP hD hS hA [] rfl rfl (fun r_45 u H locs hq_45 hP hD hS => ?_)
            replace hP : va_P E.1 clA [(ax 36, .inr (2, [.ref (tl 0)])), (ax 37, .inr (2, [.ref (tl 1)])), (ax 38, .inr (2, [.ref (tl 2)])), (ax 39, .inr (2, [.ref (tl 3)])), (ax 5, .inl (E.2 0, 7, .inl er))] _ := hP
            replace hD : va_D A [(ax 36, .inr (2, [.ref (tl 0)])), (ax 37, .inr (2, [.ref (tl 1)])), (ax 38, .inr (2, [.ref (tl 2)])), (ax 39, .inr (2, [.ref (tl 3)])), (ax 5, .inl (E.2 0, 7, .inl er))] := hD
            replace hq_45 : r_45 = some (tl 2) := hq_45
            obtain rfl : r_45 = some (tl 2) := by first | exact hq_45 | exact hq_45.1
            refine fx_get X hE (fx_one (hR.at hS) (List.mem_append_right _ hc)) 0 rfl rfl 1 rfl q146 rfl rfl dX0_till_48 ?_
            refine lv_iadd hx hb dX0_till_51 ?_
            refine lv_istore_n (lv' := [(3, .int ((10 * r_36) + (sa (32 + 2 * 2 + 1)))), (0, .ref (ax 19)), (1, .int (nI 2)), (2, .int km)]) hx hb dX0_till_52 rfl hl (by decide) rfl (fun ls hl => ?_)
            refine lv_aload_n hx hb dX0_till_53 rfl (lv_at hl 1 rfl) ?_
            refine fx_get X hE (hR.at hS) 0 rfl rfl 2 rfl q237 rfl rfl dX0_till_54 ?_
            refine fx_getN X hE (hR.at hS) 1 rfl rfl 9 rfl 12 rfl rfl rfl dX0_till_57 ?_
            refine lv_iload_n hx hb dX0_till_60 rfl (lv_at hl 2 rfl) ?_
            refine fx_aald X hE (hR.at hS) 2 3 rfl rfl 2 rfl (by decide) rfl (r := some (ax 38)) (rfl) dX0_till_61 ?_
            refine lv_iload_n hx hb dX0_till_62 rfl (lv_at hl 3 rfl) ?_
            refine lv_bipush (v := 10) hx hb dX0_till_63 rfl ?_
            refine lv_idiv hx hb dX0_till_65 (by decide) ?_
            refine fx_ti (show (km / 10) = nI (nn km / 10) from hk3) ?_
            refine lv_iload_n hx hb dX0_till_66 rfl (lv_at hl 2 rfl) ?_
            refine lv_iload_n hx hb dX0_till_67 rfl (lv_at hl 3 rfl) ?_
            refine lv_bipush (v := 10) hx hb dX0_till_68 rfl ?_
            refine lv_irem hx hb dX0_till_70 (by decide) ?_
            refine fx_ti (show (km - km / 10 * 10) = nI (nn km % 10) from hk4) ?_
            refine fx_cq (va_runS (As := [.int (nI (nn km / 10)), .int (nI 2), .int (nI (nn km % 10))]) (rest := [.ref (ax 38)]) X (xX0_made l E (nn km / 10) (nI 2) (nI (nn km % 10)) (by first | assumption | omega) _) (va_cwS 3 X.2.2.2.2 (lw_S q378 q379 q69 q380) rfl rfl rfl hdX0_made ⟨Nat.le_of_ble_eq_true rfl, Nat.le_of_ble_eq_true rfl⟩) (fx_pre hE hP hD hS hR [] rfl rfl fx_rc0) rfl rfl hl.1 rfl (lv_room (Nat.le_of_ble_eq_true rfl)) dX0_till_71 ⟨Nat.le_of_ble_eq_true rfl, Nat.le_of_ble_eq_true rfl⟩) hP hD hS hA [] rfl rfl (fun r_71 u H locs hq_71 hP hD hS => ?_)
            obtain ⟨q2_71, rfl⟩ : ∃ z, z = u := ⟨_, rfl⟩
            replace hP : va_P E.1 clA [(ax 36, .inr (2, [.ref (tl 0)])), (ax 37, .inr (2, [.ref (tl 1)])), (ax 38, .inr (2, [.ref (tl 2)])), (ax 39, .inr (2, [.ref (tl 3)])), (ax 5, .inl (E.2 0, 7, .inl er)), (q2_71, .inr ((tcn (nn km / 10)), [.int (nI 2), .int (nI (nn km % 10))]))] _ := hP
            replace hD : va_D A [(ax 36, .inr (2, [.ref (tl 0)])), (ax 37, .inr (2, [.ref (tl 1)])), (ax 38, .inr (2, [.ref (tl 2)])), (ax 39, .inr (2, [.ref (tl 3)])), (ax 5, .inl (E.2 0, 7, .inl er)), (q2_71, .inr ((tcn (nn km / 10)), [.int (nI 2), .int (nI (nn km % 10))]))] := hD
            replace hq_71 : r_71 = some q2_71 := hq_71
            refine W.widen (k := 1) (n := 2) (by first | omega | exact Nat.le_of_ble_eq_true rfl) (by first | omega | exact Nat.le_of_ble_eq_true rfl) ?_
            obtain rfl : r_71 = some q2_71 := by first | exact hq_71 | exact hq_71.1
            refine fx_putN (ws' := [(ax 36, .inr (2, [.ref (tl 0)])), (ax 37, .inr (2, [.ref (tl 1)])), (ax 38, .inr (2, [.ref q2_71])), (ax 39, .inr (2, [.ref (tl 3)])), (ax 5, .inl (E.2 0, 7, .inl er)), (q2_71, .inr ((tcn (nn km / 10)), [.int (nI 2), .int (nI (nn km % 10))]))]) X hE hP hD hS 2 rfl rfl tyX2_ok nmX2 0 rfl 2 rfl rfl rfl rfl rfl rfl rfl dX0_till_74 (fun H locs hP hD hS => ?_)
            refine lv_iload_n hx hb dX0_till_77 rfl (lv_at hl 0 rfl) ?_
            exact hret ((10 * r_36) + (sa (32 + 2 * 2 + 1))) ((upN tl 2 q2_71), er, [(q2_71, .inr ((tcn (nn km / 10)), [.int (nI 2), .int (nI (nn km % 10))]))]) (⟨by rw [till_, if_pos hbc]; show _ = 10 * sa (32 + 2 * nn (nI 2)) + sa (32 + 2 * nn (nI 2) + 1); rw [hnn, hq_36, (hI.kd (k := 2) hk0).1, hw]; rfl, by simp only [till_, if_pos hbc], by rw [till_, if_pos hbc]; show TLS _ (upd (upd sa (32 + 2 * nn (nI 2)) _) (32 + 2 * nn (nI 2) + 1) _) _; rw [hnn]; exact TLS_new hTL hk0 (by omega) (List.mem_of_getElem? (i := 0) rfl)⟩) (rfl) hP hD hS (Nat.le_refl _) (Nat.le_refl _) dX0_till_78
          ·
            have hc : ((tl 2, .inr (11, [.int (nI 2), .int (sa (32 + 2 * 2 + 1))])) : Nat × va_E) ∈ PL := by have hz := hTL 2 hk0; rw [hw] at hz; exact hz
            refine fx_ci (va_runU (As := []) (rest := [.int 10]) X (xX11_kind l E (tl 2) (nI 2) (sa (32 + 2 * 2 + 1)) _) (va_cwO 0 X.2.2.2.2 (lw_O q343 q346 q344 q353 q354 q81 q355) rfl rfl rfl q352 ⟨by decide +kernel, by decide +kernel, hdX11_kind.2.2⟩ ⟨Nat.le_of_ble_eq_true rfl, Nat.le_of_ble_eq_true rfl⟩) (fx_preV (fx_pre hE hP hD hS hR [] rfl rfl (fx_rcx ((List.mem_append_right _ hc)) fx_rc0)) (va_recv hE.1 (fx_one (hR.at hS) (List.mem_append_right _ hc)) (ci := 11) (q0 := 0) rfl rfl)) rfl rfl hl.1 rfl (lv_room (Nat.le_of_ble_eq_true rfl)) dX0_till_36 ⟨Nat.le_of_ble_eq_true rfl, Nat.le_of_ble_eq_true rfl⟩) hP hD hS hA [] rfl rfl (fun r_36 u H locs hq_36 hP hD hS => ?_)
            replace hP : va_P E.1 clA [(ax 36, .inr (2, [.ref (tl 0)])), (ax 37, .inr (2, [.ref (tl 1)])), (ax 38, .inr (2, [.ref (tl 2)])), (ax 39, .inr (2, [.ref (tl 3)])), (ax 5, .inl (E.2 0, 7, .inl er))] _ := hP
            replace hD : va_D A [(ax 36, .inr (2, [.ref (tl 0)])), (ax 37, .inr (2, [.ref (tl 1)])), (ax 38, .inr (2, [.ref (tl 2)])), (ax 39, .inr (2, [.ref (tl 3)])), (ax 5, .inl (E.2 0, 7, .inl er))] := hD
            replace hq_36 : r_36 = 5 := hq_36
            refine lv_imul hx hb dX0_till_39 ?_
            refine lv_aload_n hx hb dX0_till_40 rfl (lv_at hl 0 rfl) ?_
            refine fx_get X hE (hR.at hS) 0 rfl rfl 2 rfl q237 rfl rfl dX0_till_41 ?_
            refine lv_iload_n hx hb dX0_till_44 rfl (lv_at hl 1 rfl) ?_
            refine fx_cq (va_runV (As := [.int (nI 2)]) (rest := [.int (10 * r_36)]) X (xX1_at l E ax tk cs gs zz tp wg sa tl 2 PL (by first | assumption | omega) (by first | assumption | omega) (by first | assumption | omega) _) (cwV 1 X.2.2.2.2 (lw_V q339 q340 q341 q70 q342) rfl rfl rfl ⟨rfl, hdX1_at⟩ ⟨Nat.le_of_ble_eq_true rfl, Nat.le_of_ble_eq_true rfl⟩) (fx_preV (fx_pre hE hP hD hS hR [] rfl rfl (fx_rcr 1 rfl (fx_rcr 2 rfl (fx_rcm 0 rfl (by decide) (fx_rcm 1 rfl (by decide) (fx_rcm 2 rfl (by decide) (fx_rcm 3 rfl (by decide) (fx_rct (fun q hq => List.mem_append_right _ hq))))))))) (va_recv hE.1 (hR.at hS) (ci := 1) (q0 := 1) rfl rfl)) rfl rfl hl.1 rfl (lv_room (Nat.le_of_ble_eq_true rfl)) dX0_till_45 ⟨Nat.le_of_ble_eq_true rfl, Nat.le_of_ble_eq_true rfl⟩) hP hD hS hA [] rfl rfl (fun r_45 u H locs hq_45 hP hD hS => ?_)
            replace hP : va_P E.1 clA [(ax 36, .inr (2, [.ref (tl 0)])), (ax 37, .inr (2, [.ref (tl 1)])), (ax 38, .inr (2, [.ref (tl 2)])), (ax 39, .inr (2, [.ref (tl 3)])), (ax 5, .inl (E.2 0, 7, .inl er))] _ := hP
            replace hD : va_D A [(ax 36, .inr (2, [.ref (tl 0)])), (ax 37, .inr (2, [.ref (tl 1)])), (ax 38, .inr (2, [.ref (tl 2)])), (ax 39, .inr (2, [.ref (tl 3)])), (ax 5, .inl (E.2 0, 7, .inl er))] := hD
            replace hq_45 : r_45 = some (tl 2) := hq_45
            obtain rfl : r_45 = some (tl 2) := by first | exact hq_45 | exact hq_45.1
            refine fx_get X hE (fx_one (hR.at hS) (List.mem_append_right _ hc)) 0 rfl rfl 1 rfl q146 rfl rfl dX0_till_48 ?_
            refine lv_iadd hx hb dX0_till_51 ?_
            refine lv_istore_n (lv' := [(3, .int ((10 * r_36) + (sa (32 + 2 * 2 + 1)))), (0, .ref (ax 19)), (1, .int (nI 2)), (2, .int km)]) hx hb dX0_till_52 rfl hl (by decide) rfl (fun ls hl => ?_)
            refine lv_aload_n hx hb dX0_till_53 rfl (lv_at hl 1 rfl) ?_
            refine fx_get X hE (hR.at hS) 0 rfl rfl 2 rfl q237 rfl rfl dX0_till_54 ?_
            refine fx_getN X hE (hR.at hS) 1 rfl rfl 9 rfl 12 rfl rfl rfl dX0_till_57 ?_
            refine lv_iload_n hx hb dX0_till_60 rfl (lv_at hl 2 rfl) ?_
            refine fx_aald X hE (hR.at hS) 2 3 rfl rfl 2 rfl (by decide) rfl (r := some (ax 38)) (rfl) dX0_till_61 ?_
            refine lv_iload_n hx hb dX0_till_62 rfl (lv_at hl 3 rfl) ?_
            refine lv_bipush (v := 10) hx hb dX0_till_63 rfl ?_
            refine lv_idiv hx hb dX0_till_65 (by decide) ?_
            refine fx_ti (show (km / 10) = nI (nn km / 10) from hk3) ?_
            refine lv_iload_n hx hb dX0_till_66 rfl (lv_at hl 2 rfl) ?_
            refine lv_iload_n hx hb dX0_till_67 rfl (lv_at hl 3 rfl) ?_
            refine lv_bipush (v := 10) hx hb dX0_till_68 rfl ?_
            refine lv_irem hx hb dX0_till_70 (by decide) ?_
            refine fx_ti (show (km - km / 10 * 10) = nI (nn km % 10) from hk4) ?_
            refine fx_cq (va_runS (As := [.int (nI (nn km / 10)), .int (nI 2), .int (nI (nn km % 10))]) (rest := [.ref (ax 38)]) X (xX0_made l E (nn km / 10) (nI 2) (nI (nn km % 10)) (by first | assumption | omega) _) (va_cwS 3 X.2.2.2.2 (lw_S q378 q379 q69 q380) rfl rfl rfl hdX0_made ⟨Nat.le_of_ble_eq_true rfl, Nat.le_of_ble_eq_true rfl⟩) (fx_pre hE hP hD hS hR [] rfl rfl fx_rc0) rfl rfl hl.1 rfl (lv_room (Nat.le_of_ble_eq_true rfl)) dX0_till_71 ⟨Nat.le_of_ble_eq_true rfl, Nat.le_of_ble_eq_true rfl⟩) hP hD hS hA [] rfl rfl (fun r_71 u H locs hq_71 hP hD hS => ?_)
            obtain ⟨q2_71, rfl⟩ : ∃ z, z = u := ⟨_, rfl⟩
            replace hP : va_P E.1 clA [(ax 36, .inr (2, [.ref (tl 0)])), (ax 37, .inr (2, [.ref (tl 1)])), (ax 38, .inr (2, [.ref (tl 2)])), (ax 39, .inr (2, [.ref (tl 3)])), (ax 5, .inl (E.2 0, 7, .inl er)), (q2_71, .inr ((tcn (nn km / 10)), [.int (nI 2), .int (nI (nn km % 10))]))] _ := hP
            replace hD : va_D A [(ax 36, .inr (2, [.ref (tl 0)])), (ax 37, .inr (2, [.ref (tl 1)])), (ax 38, .inr (2, [.ref (tl 2)])), (ax 39, .inr (2, [.ref (tl 3)])), (ax 5, .inl (E.2 0, 7, .inl er)), (q2_71, .inr ((tcn (nn km / 10)), [.int (nI 2), .int (nI (nn km % 10))]))] := hD
            replace hq_71 : r_71 = some q2_71 := hq_71
            refine W.widen (k := 1) (n := 2) (by first | omega | exact Nat.le_of_ble_eq_true rfl) (by first | omega | exact Nat.le_of_ble_eq_true rfl) ?_
            obtain rfl : r_71 = some q2_71 := by first | exact hq_71 | exact hq_71.1
            refine fx_putN (ws' := [(ax 36, .inr (2, [.ref (tl 0)])), (ax 37, .inr (2, [.ref (tl 1)])), (ax 38, .inr (2, [.ref q2_71])), (ax 39, .inr (2, [.ref (tl 3)])), (ax 5, .inl (E.2 0, 7, .inl er)), (q2_71, .inr ((tcn (nn km / 10)), [.int (nI 2), .int (nI (nn km % 10))]))]) X hE hP hD hS 2 rfl rfl tyX2_ok nmX2 0 rfl 2 rfl rfl rfl rfl rfl rfl rfl dX0_till_74 (fun H locs hP hD hS => ?_)
            refine lv_iload_n hx hb dX0_till_77 rfl (lv_at hl 0 rfl) ?_
            exact hret ((10 * r_36) + (sa (32 + 2 * 2 + 1))) ((upN tl 2 q2_71), er, [(q2_71, .inr ((tcn (nn km / 10)), [.int (nI 2), .int (nI (nn km % 10))]))]) (⟨by rw [till_, if_pos hbc]; show _ = 10 * sa (32 + 2 * nn (nI 2)) + sa (32 + 2 * nn (nI 2) + 1); rw [hnn, hq_36, (hI.kd (k := 2) hk0).1, hw]; rfl, by simp only [till_, if_pos hbc], by rw [till_, if_pos hbc]; show TLS _ (upd (upd sa (32 + 2 * nn (nI 2)) _) (32 + 2 * nn (nI 2) + 1) _) _; rw [hnn]; exact TLS_new hTL hk0 (by omega) (List.mem_of_getElem? (i := 0) rfl)⟩) (rfl) hP hD hS (Nat.le_refl _) (Nat.le_refl _) dX0_till_78
          ·
            have hc : ((tl 2, .inr (12, [.int (nI 2), .int (sa (32 + 2 * 2 + 1))])) : Nat × va_E) ∈ PL := by have hz := hTL 2 hk0; rw [hw] at hz; exact hz
            refine fx_ci (va_runU (As := []) (rest := [.int 10]) X (xX12_kind l E (tl 2) (nI 2) (sa (32 + 2 * 2 + 1)) _) (va_cwO 0 X.2.2.2.2 (lw_O q343 q346 q344 q373 q374 q82 q375) rfl rfl rfl q352 ⟨by decide +kernel, by decide +kernel, hdX12_kind.2.2⟩ ⟨Nat.le_of_ble_eq_true rfl, Nat.le_of_ble_eq_true rfl⟩) (fx_preV (fx_pre hE hP hD hS hR [] rfl rfl (fx_rcx ((List.mem_append_right _ hc)) fx_rc0)) (va_recv hE.1 (fx_one (hR.at hS) (List.mem_append_right _ hc)) (ci := 12) (q0 := 0) rfl rfl)) rfl rfl hl.1 rfl (lv_room (Nat.le_of_ble_eq_true rfl)) dX0_till_36 ⟨Nat.le_of_ble_eq_true rfl, Nat.le_of_ble_eq_true rfl⟩) hP hD hS hA [] rfl rfl (fun r_36 u H locs hq_36 hP hD hS => ?_)
            replace hP : va_P E.1 clA [(ax 36, .inr (2, [.ref (tl 0)])), (ax 37, .inr (2, [.ref (tl 1)])), (ax 38, .inr (2, [.ref (tl 2)])), (ax 39, .inr (2, [.ref (tl 3)])), (ax 5, .inl (E.2 0, 7, .inl er))] _ := hP
            replace hD : va_D A [(ax 36, .inr (2, [.ref (tl 0)])), (ax 37, .inr (2, [.ref (tl 1)])), (ax 38, .inr (2, [.ref (tl 2)])), (ax 39, .inr (2, [.ref (tl 3)])), (ax 5, .inl (E.2 0, 7, .inl er))] := hD
            replace hq_36 : r_36 = 6 := hq_36
            refine lv_imul hx hb dX0_till_39 ?_
            refine lv_aload_n hx hb dX0_till_40 rfl (lv_at hl 0 rfl) ?_
            refine fx_get X hE (hR.at hS) 0 rfl rfl 2 rfl q237 rfl rfl dX0_till_41 ?_
            refine lv_iload_n hx hb dX0_till_44 rfl (lv_at hl 1 rfl) ?_
            refine fx_cq (va_runV (As := [.int (nI 2)]) (rest := [.int (10 * r_36)]) X (xX1_at l E ax tk cs gs zz tp wg sa tl 2 PL (by first | assumption | omega) (by first | assumption | omega) (by first | assumption | omega) _) (cwV 1 X.2.2.2.2 (lw_V q339 q340 q341 q70 q342) rfl rfl rfl ⟨rfl, hdX1_at⟩ ⟨Nat.le_of_ble_eq_true rfl, Nat.le_of_ble_eq_true rfl⟩) (fx_preV (fx_pre hE hP hD hS hR [] rfl rfl (fx_rcr 1 rfl (fx_rcr 2 rfl (fx_rcm 0 rfl (by decide) (fx_rcm 1 rfl (by decide) (fx_rcm 2 rfl (by decide) (fx_rcm 3 rfl (by decide) (fx_rct (fun q hq => List.mem_append_right _ hq))))))))) (va_recv hE.1 (hR.at hS) (ci := 1) (q0 := 1) rfl rfl)) rfl rfl hl.1 rfl (lv_room (Nat.le_of_ble_eq_true rfl)) dX0_till_45 ⟨Nat.le_of_ble_eq_true rfl, Nat.le_of_ble_eq_true rfl⟩) hP hD hS hA [] rfl rfl (fun r_45 u H locs hq_45 hP hD hS => ?_)
            replace hP : va_P E.1 clA [(ax 36, .inr (2, [.ref (tl 0)])), (ax 37, .inr (2, [.ref (tl 1)])), (ax 38, .inr (2, [.ref (tl 2)])), (ax 39, .inr (2, [.ref (tl 3)])), (ax 5, .inl (E.2 0, 7, .inl er))] _ := hP
            replace hD : va_D A [(ax 36, .inr (2, [.ref (tl 0)])), (ax 37, .inr (2, [.ref (tl 1)])), (ax 38, .inr (2, [.ref (tl 2)])), (ax 39, .inr (2, [.ref (tl 3)])), (ax 5, .inl (E.2 0, 7, .inl er))] := hD
            replace hq_45 : r_45 = some (tl 2) := hq_45
            obtain rfl : r_45 = some (tl 2) := by first | exact hq_45 | exact hq_45.1
            refine fx_get X hE (fx_one (hR.at hS) (List.mem_append_right _ hc)) 0 rfl rfl 1 rfl q146 rfl rfl dX0_till_48 ?_
            refine lv_iadd hx hb dX0_till_51 ?_
            refine lv_istore_n (lv' := [(3, .int ((10 * r_36) + (sa (32 + 2 * 2 + 1)))), (0, .ref (ax 19)), (1, .int (nI 2)), (2, .int km)]) hx hb dX0_till_52 rfl hl (by decide) rfl (fun ls hl => ?_)
            refine lv_aload_n hx hb dX0_till_53 rfl (lv_at hl 1 rfl) ?_
            refine fx_get X hE (hR.at hS) 0 rfl rfl 2 rfl q237 rfl rfl dX0_till_54 ?_
            refine fx_getN X hE (hR.at hS) 1 rfl rfl 9 rfl 12 rfl rfl rfl dX0_till_57 ?_
            refine lv_iload_n hx hb dX0_till_60 rfl (lv_at hl 2 rfl) ?_
            refine fx_aald X hE (hR.at hS) 2 3 rfl rfl 2 rfl (by decide) rfl (r := some (ax 38)) (rfl) dX0_till_61 ?_
            refine lv_iload_n hx hb dX0_till_62 rfl (lv_at hl 3 rfl) ?_
            refine lv_bipush (v := 10) hx hb dX0_till_63 rfl ?_
            refine lv_idiv hx hb dX0_till_65 (by decide) ?_
            refine fx_ti (show (km / 10) = nI (nn km / 10) from hk3) ?_
            refine lv_iload_n hx hb dX0_till_66 rfl (lv_at hl 2 rfl) ?_
            refine lv_iload_n hx hb dX0_till_67 rfl (lv_at hl 3 rfl) ?_
            refine lv_bipush (v := 10) hx hb dX0_till_68 rfl ?_
            refine lv_irem hx hb dX0_till_70 (by decide) ?_
            refine fx_ti (show (km - km / 10 * 10) = nI (nn km % 10) from hk4) ?_
            refine fx_cq (va_runS (As := [.int (nI (nn km / 10)), .int (nI 2), .int (nI (nn km % 10))]) (rest := [.ref (ax 38)]) X (xX0_made l E (nn km / 10) (nI 2) (nI (nn km % 10)) (by first | assumption | omega) _) (va_cwS 3 X.2.2.2.2 (lw_S q378 q379 q69 q380) rfl rfl rfl hdX0_made ⟨Nat.le_of_ble_eq_true rfl, Nat.le_of_ble_eq_true rfl⟩) (fx_pre hE hP hD hS hR [] rfl rfl fx_rc0) rfl rfl hl.1 rfl (lv_room (Nat.le_of_ble_eq_true rfl)) dX0_till_71 ⟨Nat.le_of_ble_eq_true rfl, Nat.le_of_ble_eq_true rfl⟩) hP hD hS hA [] rfl rfl (fun r_71 u H locs hq_71 hP hD hS => ?_)
            obtain ⟨q2_71, rfl⟩ : ∃ z, z = u := ⟨_, rfl⟩
            replace hP : va_P E.1 clA [(ax 36, .inr (2, [.ref (tl 0)])), (ax 37, .inr (2, [.ref (tl 1)])), (ax 38, .inr (2, [.ref (tl 2)])), (ax 39, .inr (2, [.ref (tl 3)])), (ax 5, .inl (E.2 0, 7, .inl er)), (q2_71, .inr ((tcn (nn km / 10)), [.int (nI 2), .int (nI (nn km % 10))]))] _ := hP
            replace hD : va_D A [(ax 36, .inr (2, [.ref (tl 0)])), (ax 37, .inr (2, [.ref (tl 1)])), (ax 38, .inr (2, [.ref (tl 2)])), (ax 39, .inr (2, [.ref (tl 3)])), (ax 5, .inl (E.2 0, 7, .inl er)), (q2_71, .inr ((tcn (nn km / 10)), [.int (nI 2), .int (nI (nn km % 10))]))] := hD
            replace hq_71 : r_71 = some q2_71 := hq_71
            refine W.widen (k := 1) (n := 2) (by first | omega | exact Nat.le_of_ble_eq_true rfl) (by first | omega | exact Nat.le_of_ble_eq_true rfl) ?_
            obtain rfl : r_71 = some q2_71 := by first | exact hq_71 | exact hq_71.1
            refine fx_putN (ws' := [(ax 36, .inr (2, [.ref (tl 0)])), (ax 37, .inr (2, [.ref (tl 1)])), (ax 38, .inr (2, [.ref q2_71])), (ax 39, .inr (2, [.ref (tl 3)])), (ax 5, .inl (E.2 0, 7, .inl er)), (q2_71, .inr ((tcn (nn km / 10)), [.int (nI 2), .int (nI (nn km % 10))]))]) X hE hP hD hS 2 rfl rfl tyX2_ok nmX2 0 rfl 2 rfl rfl rfl rfl rfl rfl rfl dX0_till_74 (fun H locs hP hD hS => ?_)
            refine lv_iload_n hx hb dX0_till_77 rfl (lv_at hl 0 rfl) ?_
            exact hret ((10 * r_36) + (sa (32 + 2 * 2 + 1))) ((upN tl 2 q2_71), er, [(q2_71, .inr ((tcn (nn km / 10)), [.int (nI 2), .int (nI (nn km % 10))]))]) (⟨by rw [till_, if_pos hbc]; show _ = 10 * sa (32 + 2 * nn (nI 2)) + sa (32 + 2 * nn (nI 2) + 1); rw [hnn, hq_36, (hI.kd (k := 2) hk0).1, hw]; rfl, by simp only [till_, if_pos hbc], by rw [till_, if_pos hbc]; show TLS _ (upd (upd sa (32 + 2 * nn (nI 2)) _) (32 + 2 * nn (nI 2) + 1) _) _; rw [hnn]; exact TLS_new hTL hk0 (by omega) (List.mem_of_getElem? (i := 0) rfl)⟩) (rfl) hP hD hS (Nat.le_refl _) (Nat.le_refl _) dX0_till_78
        ·
          have hk0 : 3 < 4 := by decide
          have hnn : nn (nI 3) = 3 := rfl
          refine lv_bipush (v := 10) hx hb dX0_till_26 rfl ?_
          refine lv_aload_n hx hb dX0_till_28 rfl (lv_at hl 0 rfl) ?_
          refine fx_get X hE (hR.at hS) 0 rfl rfl 2 rfl q237 rfl rfl dX0_till_29 ?_
          refine lv_iload_n hx hb dX0_till_32 rfl (lv_at hl 1 rfl) ?_
          refine fx_cq (va_runV (As := [.int (nI 3)]) (rest := [.int 10]) X (xX1_at l E ax tk cs gs zz tp wg sa tl 3 PL (by first | assumption | omega) (by first | assumption | omega) (by first | assumption | omega) _) (cwV 1 X.2.2.2.2 (lw_V q339 q340 q341 q70 q342) rfl rfl rfl ⟨rfl, hdX1_at⟩ ⟨Nat.le_of_ble_eq_true rfl, Nat.le_of_ble_eq_true rfl⟩) (fx_preV (fx_pre hE hP hD hS hR [] rfl rfl (fx_rcr 1 rfl (fx_rcr 2 rfl (fx_rcm 0 rfl (by decide) (fx_rcm 1 rfl (by decide) (fx_rcm 2 rfl (by decide) (fx_rcm 3 rfl (by decide) (fx_rct (fun q hq => List.mem_append_right _ hq))))))))) (va_recv hE.1 (hR.at hS) (ci := 1) (q0 := 1) rfl rfl)) rfl rfl hl.1 rfl (lv_room (Nat.le_of_ble_eq_true rfl)) dX0_till_33 ⟨Nat.le_of_ble_eq_true rfl, Nat.le_of_ble_eq_true rfl⟩) hP hD hS hA [] rfl rfl (fun r_33 u H locs hq_33 hP hD hS => ?_)
          replace hP : va_P E.1 clA [(ax 36, .inr (2, [.ref (tl 0)])), (ax 37, .inr (2, [.ref (tl 1)])), (ax 38, .inr (2, [.ref (tl 2)])), (ax 39, .inr (2, [.ref (tl 3)])), (ax 5, .inl (E.2 0, 7, .inl er))] _ := hP
          replace hD : va_D A [(ax 36, .inr (2, [.ref (tl 0)])), (ax 37, .inr (2, [.ref (tl 1)])), (ax 38, .inr (2, [.ref (tl 2)])), (ax 39, .inr (2, [.ref (tl 3)])), (ax 5, .inl (E.2 0, 7, .inl er))] := hD
          replace hq_33 : r_33 = some (tl 3) := hq_33
          obtain rfl : r_33 = some (tl 3) := by first | exact hq_33 | exact hq_33.1
          rcases kd7 (hI.kd (k := 3) hk0).2 with hw | hw | hw | hw | hw | hw | hw
          ·
            have hc : ((tl 3, .inr (3, [.int (nI 3), .int (sa (32 + 2 * 3 + 1))])) : Nat × va_E) ∈ PL := by have hz := hTL 3 hk0; rw [hw] at hz; exact hz
            refine fx_ci (va_runV (As := []) (rest := [.int 10]) X (xX3_kind l E (tl 3) _) (cwV 0 X.2.2.2.2 (lw_V q343 q344 q345 q72 q352) rfl rfl rfl ⟨rfl, hdX3_kind⟩ ⟨Nat.le_of_ble_eq_true rfl, Nat.le_of_ble_eq_true rfl⟩) (fx_preV (fx_pre hE hP hD hS hR [] rfl rfl fx_rc0) (va_recv hE.1 (fx_one (hR.at hS) (List.mem_append_right _ hc)) (ci := 3) (q0 := 0) rfl rfl)) rfl rfl hl.1 rfl (lv_room (Nat.le_of_ble_eq_true rfl)) dX0_till_36 ⟨Nat.le_of_ble_eq_true rfl, Nat.le_of_ble_eq_true rfl⟩) hP hD hS hA [] rfl rfl (fun r_36 u H locs hq_36 hP hD hS => ?_)
            replace hP : va_P E.1 clA [(ax 36, .inr (2, [.ref (tl 0)])), (ax 37, .inr (2, [.ref (tl 1)])), (ax 38, .inr (2, [.ref (tl 2)])), (ax 39, .inr (2, [.ref (tl 3)])), (ax 5, .inl (E.2 0, 7, .inl er))] _ := hP
            replace hD : va_D A [(ax 36, .inr (2, [.ref (tl 0)])), (ax 37, .inr (2, [.ref (tl 1)])), (ax 38, .inr (2, [.ref (tl 2)])), (ax 39, .inr (2, [.ref (tl 3)])), (ax 5, .inl (E.2 0, 7, .inl er))] := hD
            replace hq_36 : r_36 = 0 := hq_36
            refine lv_imul hx hb dX0_till_39 ?_
            refine lv_aload_n hx hb dX0_till_40 rfl (lv_at hl 0 rfl) ?_
            refine fx_get X hE (hR.at hS) 0 rfl rfl 2 rfl q237 rfl rfl dX0_till_41 ?_
            refine lv_iload_n hx hb dX0_till_44 rfl (lv_at hl 1 rfl) ?_
            refine fx_cq (va_runV (As := [.int (nI 3)]) (rest := [.int (10 * r_36)]) X (xX1_at l E ax tk cs gs zz tp wg sa tl 3 PL (by first | assumption | omega) (by first | assumption | omega) (by first | assumption | omega) _) (cwV 1 X.2.2.2.2 (lw_V q339 q340 q341 q70 q342) rfl rfl rfl ⟨rfl, hdX1_at⟩ ⟨Nat.le_of_ble_eq_true rfl, Nat.le_of_ble_eq_true rfl⟩) (fx_preV (fx_pre hE hP hD hS hR [] rfl rfl (fx_rcr 1 rfl (fx_rcr 2 rfl (fx_rcm 0 rfl (by decide) (fx_rcm 1 rfl (by decide) (fx_rcm 2 rfl (by decide) (fx_rcm 3 rfl (by decide) (fx_rct (fun q hq => List.mem_append_right _ hq))))))))) (va_recv hE.1 (hR.at hS) (ci := 1) (q0 := 1) rfl rfl)) rfl rfl hl.1 rfl (lv_room (Nat.le_of_ble_eq_true rfl)) dX0_till_45 ⟨Nat.le_of_ble_eq_true rfl, Nat.le_of_ble_eq_true rfl⟩) hP hD hS hA [] rfl rfl (fun r_45 u H locs hq_45 hP hD hS => ?_)
            replace hP : va_P E.1 clA [(ax 36, .inr (2, [.ref (tl 0)])), (ax 37, .inr (2, [.ref (tl 1)])), (ax 38, .inr (2, [.ref (tl 2)])), (ax 39, .inr (2, [.ref (tl 3)])), (ax 5, .inl (E.2 0, 7, .inl er))] _ := hP
            replace hD : va_D A [(ax 36, .inr (2, [.ref (tl 0)])), (ax 37, .inr (2, [.ref (tl 1)])), (ax 38, .inr (2, [.ref (tl 2)])), (ax 39, .inr (2, [.ref (tl 3)])), (ax 5, .inl (E.2 0, 7, .inl er))] := hD
            replace hq_45 : r_45 = some (tl 3) := hq_45
            obtain rfl : r_45 = some (tl 3) := by first | exact hq_45 | exact hq_45.1
            refine fx_get X hE (fx_one (hR.at hS) (List.mem_append_right _ hc)) 0 rfl rfl 1 rfl q146 rfl rfl dX0_till_48 ?_
            refine lv_iadd hx hb dX0_till_51 ?_
            refine lv_istore_n (lv' := [(3, .int ((10 * r_36) + (sa (32 + 2 * 3 + 1)))), (0, .ref (ax 19)), (1, .int (nI 3)), (2, .int km)]) hx hb dX0_till_52 rfl hl (by decide) rfl (fun ls hl => ?_)
            refine lv_aload_n hx hb dX0_till_53 rfl (lv_at hl 1 rfl) ?_
            refine fx_get X hE (hR.at hS) 0 rfl rfl 2 rfl q237 rfl rfl dX0_till_54 ?_
            refine fx_getN X hE (hR.at hS) 1 rfl rfl 9 rfl 12 rfl rfl rfl dX0_till_57 ?_
            refine lv_iload_n hx hb dX0_till_60 rfl (lv_at hl 2 rfl) ?_
            refine fx_aald X hE (hR.at hS) 2 3 rfl rfl 3 rfl (by decide) rfl (r := some (ax 39)) (rfl) dX0_till_61 ?_
            refine lv_iload_n hx hb dX0_till_62 rfl (lv_at hl 3 rfl) ?_
            refine lv_bipush (v := 10) hx hb dX0_till_63 rfl ?_
            refine lv_idiv hx hb dX0_till_65 (by decide) ?_
            refine fx_ti (show (km / 10) = nI (nn km / 10) from hk3) ?_
            refine lv_iload_n hx hb dX0_till_66 rfl (lv_at hl 2 rfl) ?_
            refine lv_iload_n hx hb dX0_till_67 rfl (lv_at hl 3 rfl) ?_
            refine lv_bipush (v := 10) hx hb dX0_till_68 rfl ?_
            refine lv_irem hx hb dX0_till_70 (by decide) ?_
            refine fx_ti (show (km - km / 10 * 10) = nI (nn km % 10) from hk4) ?_
            refine fx_cq (va_runS (As := [.int (nI (nn km / 10)), .int (nI 3), .int (nI (nn km % 10))]) (rest := [.ref (ax 39)]) X (xX0_made l E (nn km / 10) (nI 3) (nI (nn km % 10)) (by first | assumption | omega) _) (va_cwS 3 X.2.2.2.2 (lw_S q378 q379 q69 q380) rfl rfl rfl hdX0_made ⟨Nat.le_of_ble_eq_true rfl, Nat.le_of_ble_eq_true rfl⟩) (fx_pre hE hP hD hS hR [] rfl rfl fx_rc0) rfl rfl hl.1 rfl (lv_room (Nat.le_of_ble_eq_true rfl)) dX0_till_71 ⟨Nat.le_of_ble_eq_true rfl, Nat.le_of_ble_eq_true rfl⟩) hP hD hS hA [] rfl rfl (fun r_71 u H locs hq_71 hP hD hS => ?_)
            obtain ⟨q2_71, rfl⟩ : ∃ z, z = u := ⟨_, rfl⟩
            replace hP : va_P E.1 clA [(ax 36, .inr (2, [.ref (tl 0)])), (ax 37, .inr (2, [.ref (tl 1)])), (ax 38, .inr (2, [.ref (tl 2)])), (ax 39, .inr (2, [.ref (tl 3)])), (ax 5, .inl (E.2 0, 7, .inl er)), (q2_71, .inr ((tcn (nn km / 10)), [.int (nI 3), .int (nI (nn km % 10))]))] _ := hP
            replace hD : va_D A [(ax 36, .inr (2, [.ref (tl 0)])), (ax 37, .inr (2, [.ref (tl 1)])), (ax 38, .inr (2, [.ref (tl 2)])), (ax 39, .inr (2, [.ref (tl 3)])), (ax 5, .inl (E.2 0, 7, .inl er)), (q2_71, .inr ((tcn (nn km / 10)), [.int (nI 3), .int (nI (nn km % 10))]))] := hD
            replace hq_71 : r_71 = some q2_71 := hq_71
            refine W.widen (k := 1) (n := 2) (by first | omega | exact Nat.le_of_ble_eq_true rfl) (by first | omega | exact Nat.le_of_ble_eq_true rfl) ?_
            obtain rfl : r_71 = some q2_71 := by first | exact hq_71 | exact hq_71.1
            refine fx_putN (ws' := [(ax 36, .inr (2, [.ref (tl 0)])), (ax 37, .inr (2, [.ref (tl 1)])), (ax 38, .inr (2, [.ref (tl 2)])), (ax 39, .inr (2, [.ref q2_71])), (ax 5, .inl (E.2 0, 7, .inl er)), (q2_71, .inr ((tcn (nn km / 10)), [.int (nI 3), .int (nI (nn km % 10))]))]) X hE hP hD hS 3 rfl rfl tyX2_ok nmX2 0 rfl 2 rfl rfl rfl rfl rfl rfl rfl dX0_till_74 (fun H locs hP hD hS => ?_)
            refine lv_iload_n hx hb dX0_till_77 rfl (lv_at hl 0 rfl) ?_
            exact hret ((10 * r_36) + (sa (32 + 2 * 3 + 1))) ((upN tl 3 q2_71), er, [(q2_71, .inr ((tcn (nn km / 10)), [.int (nI 3), .int (nI (nn km % 10))]))]) (⟨by rw [till_, if_pos hbc]; show _ = 10 * sa (32 + 2 * nn (nI 3)) + sa (32 + 2 * nn (nI 3) + 1); rw [hnn, hq_36, (hI.kd (k := 3) hk0).1, hw]; rfl, by simp only [till_, if_pos hbc], by rw [till_, if_pos hbc]; show TLS _ (upd (upd sa (32 + 2 * nn (nI 3)) _) (32 + 2 * nn (nI 3) + 1) _) _; rw [hnn]; exact TLS_new hTL hk0 (by omega) (List.mem_of_getElem? (i := 0) rfl)⟩) (rfl) hP hD hS (Nat.le_refl _) (Nat.le_refl _) dX0_till_78
          ·
            have hc : ((tl 3, .inr (7, [.int (nI 3), .int (sa (32 + 2 * 3 + 1))])) : Nat × va_E) ∈ PL := by have hz := hTL 3 hk0; rw [hw] at hz; exact hz
            refine fx_ci (va_runU (As := []) (rest := [.int 10]) X (xX7_kind l E (tl 3) (nI 3) (sa (32 + 2 * 3 + 1)) _) (va_cwO 0 X.2.2.2.2 (lw_O q343 q346 q344 q362 q358 q77 q359) rfl rfl rfl q352 ⟨by decide +kernel, by decide +kernel, hdX7_kind.2.2⟩ ⟨Nat.le_of_ble_eq_true rfl, Nat.le_of_ble_eq_true rfl⟩) (fx_preV (fx_pre hE hP hD hS hR [] rfl rfl (fx_rcx ((List.mem_append_right _ hc)) fx_rc0)) (va_recv hE.1 (fx_one (hR.at hS) (List.mem_append_right _ hc)) (ci := 7) (q0 := 0) rfl rfl)) rfl rfl hl.1 rfl (lv_room (Nat.le_of_ble_eq_true rfl)) dX0_till_36 ⟨Nat.le_of_ble_eq_true rfl, Nat.le_of_ble_eq_true rfl⟩) hP hD hS hA [] rfl rfl (fun r_36 u H locs hq_36 hP hD hS => ?_)
            replace hP : va_P E.1 clA [(ax 36, .inr (2, [.ref (tl 0)])), (ax 37, .inr (2, [.ref (tl 1)])), (ax 38, .inr (2, [.ref (tl 2)])), (ax 39, .inr (2, [.ref (tl 3)])), (ax 5, .inl (E.2 0, 7, .inl er))] _ := hP
            replace hD : va_D A [(ax 36, .inr (2, [.ref (tl 0)])), (ax 37, .inr (2, [.ref (tl 1)])), (ax 38, .inr (2, [.ref (tl 2)])), (ax 39, .inr (2, [.ref (tl 3)])), (ax 5, .inl (E.2 0, 7, .inl er))] := hD
            replace hq_36 : r_36 = 1 := hq_36
            refine lv_imul hx hb dX0_till_39 ?_
            refine lv_aload_n hx hb dX0_till_40 rfl (lv_at hl 0 rfl) ?_
            refine fx_get X hE (hR.at hS) 0 rfl rfl 2 rfl q237 rfl rfl dX0_till_41 ?_
            refine lv_iload_n hx hb dX0_till_44 rfl (lv_at hl 1 rfl) ?_
            refine fx_cq (va_runV (As := [.int (nI 3)]) (rest := [.int (10 * r_36)]) X (xX1_at l E ax tk cs gs zz tp wg sa tl 3 PL (by first | assumption | omega) (by first | assumption | omega) (by first | assumption | omega) _) (cwV 1 X.2.2.2.2 (lw_V q339 q340 q341 q70 q342) rfl rfl rfl ⟨rfl, hdX1_at⟩ ⟨Nat.le_of_ble_eq_true rfl, Nat.le_of_ble_eq_true rfl⟩) (fx_preV (fx_pre hE hP hD hS hR [] rfl rfl (fx_rcr 1 rfl (fx_rcr 2 rfl (fx_rcm 0 rfl (by decide) (fx_rcm 1 rfl (by decide) (fx_rcm 2 rfl (by decide) (fx_rcm 3 rfl (by decide) (fx_rct (fun q hq => List.mem_append_right _ hq))))))))) (va_recv hE.1 (hR.at hS) (ci := 1) (q0 := 1) rfl rfl)) rfl rfl hl.1 rfl (lv_room (Nat.le_of_ble_eq_true rfl)) dX0_till_45 ⟨Nat.le_of_ble_eq_true rfl, Nat.le_of_ble_eq_true rfl⟩) hP hD hS hA [] rfl rfl (fun r_45 u H locs hq_45 hP hD hS => ?_)
            replace hP : va_P E.1 clA [(ax 36, .inr (2, [.ref (tl 0)])), (ax 37, .inr (2, [.ref (tl 1)])), (ax 38, .inr (2, [.ref (tl 2)])), (ax 39, .inr (2, [.ref (tl 3)])), (ax 5, .inl (E.2 0, 7, .inl er))] _ := hP
            replace hD : va_D A [(ax 36, .inr (2, [.ref (tl 0)])), (ax 37, .inr (2, [.ref (tl 1)])), (ax 38, .inr (2, [.ref (tl 2)])), (ax 39, .inr (2, [.ref (tl 3)])), (ax 5, .inl (E.2 0, 7, .inl er))] := hD
            replace hq_45 : r_45 = some (tl 3) := hq_45
            obtain rfl : r_45 = some (tl 3) := by first | exact hq_45 | exact hq_45.1
            refine fx_get X hE (fx_one (hR.at hS) (List.mem_append_right _ hc)) 0 rfl rfl 1 rfl q146 rfl rfl dX0_till_48 ?_
            refine lv_iadd hx hb dX0_till_51 ?_
            refine lv_istore_n (lv' := [(3, .int ((10 * r_36) + (sa (32 + 2 * 3 + 1)))), (0, .ref (ax 19)), (1, .int (nI 3)), (2, .int km)]) hx hb dX0_till_52 rfl hl (by decide) rfl (fun ls hl => ?_)
            refine lv_aload_n hx hb dX0_till_53 rfl (lv_at hl 1 rfl) ?_
            refine fx_get X hE (hR.at hS) 0 rfl rfl 2 rfl q237 rfl rfl dX0_till_54 ?_
            refine fx_getN X hE (hR.at hS) 1 rfl rfl 9 rfl 12 rfl rfl rfl dX0_till_57 ?_
            refine lv_iload_n hx hb dX0_till_60 rfl (lv_at hl 2 rfl) ?_
            refine fx_aald X hE (hR.at hS) 2 3 rfl rfl 3 rfl (by decide) rfl (r := some (ax 39)) (rfl) dX0_till_61 ?_
            refine lv_iload_n hx hb dX0_till_62 rfl (lv_at hl 3 rfl) ?_
            refine lv_bipush (v := 10) hx hb dX0_till_63 rfl ?_
            refine lv_idiv hx hb dX0_till_65 (by decide) ?_
            refine fx_ti (show (km / 10) = nI (nn km / 10) from hk3) ?_
            refine lv_iload_n hx hb dX0_till_66 rfl (lv_at hl 2 rfl) ?_
            refine lv_iload_n hx hb dX0_till_67 rfl (lv_at hl 3 rfl) ?_
            refine lv_bipush (v := 10) hx hb dX0_till_68 rfl ?_
            refine lv_irem hx hb dX0_till_70 (by decide) ?_
            refine fx_ti (show (km - km / 10 * 10) = nI (nn km % 10) from hk4) ?_
            refine fx_cq (va_runS (As := [.int (nI (nn km / 10)), .int (nI 3), .int (nI (nn km % 10))]) (rest := [.ref (ax 39)]) X (xX0_made l E (nn km / 10) (nI 3) (nI (nn km % 10)) (by first | assumption | omega) _) (va_cwS 3 X.2.2.2.2 (lw_S q378 q379 q69 q380) rfl rfl rfl hdX0_made ⟨Nat.le_of_ble_eq_true rfl, Nat.le_of_ble_eq_true rfl⟩) (fx_pre hE hP hD hS hR [] rfl rfl fx_rc0) rfl rfl hl.1 rfl (lv_room (Nat.le_of_ble_eq_true rfl)) dX0_till_71 ⟨Nat.le_of_ble_eq_true rfl, Nat.le_of_ble_eq_true rfl⟩) hP hD hS hA [] rfl rfl (fun r_71 u H locs hq_71 hP hD hS => ?_)
            obtain ⟨q2_71, rfl⟩ : ∃ z, z = u := ⟨_, rfl⟩
            replace hP : va_P E.1 clA [(ax 36, .inr (2, [.ref (tl 0)])), (ax 37, .inr (2, [.ref (tl 1)])), (ax 38, .inr (2, [.ref (tl 2)])), (ax 39, .inr (2, [.ref (tl 3)])), (ax 5, .inl (E.2 0, 7, .inl er)), (q2_71, .inr ((tcn (nn km / 10)), [.int (nI 3), .int (nI (nn km % 10))]))] _ := hP
            replace hD : va_D A [(ax 36, .inr (2, [.ref (tl 0)])), (ax 37, .inr (2, [.ref (tl 1)])), (ax 38, .inr (2, [.ref (tl 2)])), (ax 39, .inr (2, [.ref (tl 3)])), (ax 5, .inl (E.2 0, 7, .inl er)), (q2_71, .inr ((tcn (nn km / 10)), [.int (nI 3), .int (nI (nn km % 10))]))] := hD
            replace hq_71 : r_71 = some q2_71 := hq_71
            refine W.widen (k := 1) (n := 2) (by first | omega | exact Nat.le_of_ble_eq_true rfl) (by first | omega | exact Nat.le_of_ble_eq_true rfl) ?_
            obtain rfl : r_71 = some q2_71 := by first | exact hq_71 | exact hq_71.1
            refine fx_putN (ws' := [(ax 36, .inr (2, [.ref (tl 0)])), (ax 37, .inr (2, [.ref (tl 1)])), (ax 38, .inr (2, [.ref (tl 2)])), (ax 39, .inr (2, [.ref q2_71])), (ax 5, .inl (E.2 0, 7, .inl er)), (q2_71, .inr ((tcn (nn km / 10)), [.int (nI 3), .int (nI (nn km % 10))]))]) X hE hP hD hS 3 rfl rfl tyX2_ok nmX2 0 rfl 2 rfl rfl rfl rfl rfl rfl rfl dX0_till_74 (fun H locs hP hD hS => ?_)
            refine lv_iload_n hx hb dX0_till_77 rfl (lv_at hl 0 rfl) ?_
            exact hret ((10 * r_36) + (sa (32 + 2 * 3 + 1))) ((upN tl 3 q2_71), er, [(q2_71, .inr ((tcn (nn km / 10)), [.int (nI 3), .int (nI (nn km % 10))]))]) (⟨by rw [till_, if_pos hbc]; show _ = 10 * sa (32 + 2 * nn (nI 3)) + sa (32 + 2 * nn (nI 3) + 1); rw [hnn, hq_36, (hI.kd (k := 3) hk0).1, hw]; rfl, by simp only [till_, if_pos hbc], by rw [till_, if_pos hbc]; show TLS _ (upd (upd sa (32 + 2 * nn (nI 3)) _) (32 + 2 * nn (nI 3) + 1) _) _; rw [hnn]; exact TLS_new hTL hk0 (by omega) (List.mem_of_getElem? (i := 0) rfl)⟩) (rfl) hP hD hS (Nat.le_refl _) (Nat.le_refl _) dX0_till_78
          ·
            have hc : ((tl 3, .inr (8, [.int (nI 3), .int (sa (32 + 2 * 3 + 1))])) : Nat × va_E) ∈ PL := by have hz := hTL 3 hk0; rw [hw] at hz; exact hz
            refine fx_ci (va_runU (As := []) (rest := [.int 10]) X (xX8_kind l E (tl 3) (nI 3) (sa (32 + 2 * 3 + 1)) _) (va_cwO 0 X.2.2.2.2 (lw_O q343 q346 q344 q372 q368 q78 q369) rfl rfl rfl q352 ⟨by decide +kernel, by decide +kernel, hdX8_kind.2.2⟩ ⟨Nat.le_of_ble_eq_true rfl, Nat.le_of_ble_eq_true rfl⟩) (fx_preV (fx_pre hE hP hD hS hR [] rfl rfl (fx_rcx ((List.mem_append_right _ hc)) fx_rc0)) (va_recv hE.1 (fx_one (hR.at hS) (List.mem_append_right _ hc)) (ci := 8) (q0 := 0) rfl rfl)) rfl rfl hl.1 rfl (lv_room (Nat.le_of_ble_eq_true rfl)) dX0_till_36 ⟨Nat.le_of_ble_eq_true rfl, Nat.le_of_ble_eq_true rfl⟩) hP hD hS hA [] rfl rfl (fun r_36 u H locs hq_36 hP hD hS => ?_)
            replace hP : va_P E.1 clA [(ax 36, .inr (2, [.ref (tl 0)])), (ax 37, .inr (2, [.ref (tl 1)])), (ax 38, .inr (2, [.ref (tl 2)])), (ax 39, .inr (2, [.ref (tl 3)])), (ax 5, .inl (E.2 0, 7, .inl er))] _ := hP
            replace hD : va_D A [(ax 36, .inr (2, [.ref (tl 0)])), (ax 37, .inr (2, [.ref (tl 1)])), (ax 38, .inr (2, [.ref (tl 2)])), (ax 39, .inr (2, [.ref (tl 3)])), (ax 5, .inl (E.2 0, 7, .inl er))] := hD
            replace hq_36 : r_36 = 2 := hq_36
            refine lv_imul hx hb dX0_till_39 ?_
            refine lv_aload_n hx hb dX0_till_40 rfl (lv_at hl 0 rfl) ?_
            refine fx_get X hE (hR.at hS) 0 rfl rfl 2 rfl q237 rfl rfl dX0_till_41 ?_
            refine lv_iload_n hx hb dX0_till_44 rfl (lv_at hl 1 rfl) ?_
            refine fx_cq (va_runV (As := [.int (nI 3)]) (rest := [.int (10 * r_36)]) X (xX1_at l E ax tk cs gs zz tp wg sa tl 3 PL (by first | assumption | omega) (by first | assumption | omega) (by first | assumption | omega) _) (cwV 1 X.2.2.2.2 (lw_V q339 q340 q341 q70 q342) rfl rfl rfl ⟨rfl, hdX1_at⟩ ⟨Nat.le_of_ble_eq_true rfl, Nat.le_of_ble_eq_true rfl⟩) (fx_preV (fx_pre hE hP hD hS hR [] rfl rfl (fx_rcr 1 rfl (fx_rcr 2 rfl (fx_rcm 0 rfl (by decide) (fx_rcm 1 rfl (by decide) (fx_rcm 2 rfl (by decide) (fx_rcm 3 rfl (by decide) (fx_rct (fun q hq => List.mem_append_right _ hq))))))))) (va_recv hE.1 (hR.at hS) (ci := 1) (q0 := 1) rfl rfl)) rfl rfl hl.1 rfl (lv_room (Nat.le_of_ble_eq_true rfl)) dX0_till_45 ⟨Nat.le_of_ble_eq_true rfl, Nat.le_of_ble_eq_true rfl⟩) hP hD hS hA [] rfl rfl (fun r_45 u H locs hq_45 hP hD hS => ?_)
            replace hP : va_P E.1 clA [(ax 36, .inr (2, [.ref (tl 0)])), (ax 37, .inr (2, [.ref (tl 1)])), (ax 38, .inr (2, [.ref (tl 2)])), (ax 39, .inr (2, [.ref (tl 3)])), (ax 5, .inl (E.2 0, 7, .inl er))] _ := hP
            replace hD : va_D A [(ax 36, .inr (2, [.ref (tl 0)])), (ax 37, .inr (2, [.ref (tl 1)])), (ax 38, .inr (2, [.ref (tl 2)])), (ax 39, .inr (2, [.ref (tl 3)])), (ax 5, .inl (E.2 0, 7, .inl er))] := hD
            replace hq_45 : r_45 = some (tl 3) := hq_45
            obtain rfl : r_45 = some (tl 3) := by first | exact hq_45 | exact hq_45.1
            refine fx_get X hE (fx_one (hR.at hS) (List.mem_append_right _ hc)) 0 rfl rfl 1 rfl q146 rfl rfl dX0_till_48 ?_
            refine lv_iadd hx hb dX0_till_51 ?_
            refine lv_istore_n (lv' := [(3, .int ((10 * r_36) + (sa (32 + 2 * 3 + 1)))), (0, .ref (ax 19)), (1, .int (nI 3)), (2, .int km)]) hx hb dX0_till_52 rfl hl (by decide) rfl (fun ls hl => ?_)
            refine lv_aload_n hx hb dX0_till_53 rfl (lv_at hl 1 rfl) ?_
            refine fx_get X hE (hR.at hS) 0 rfl rfl 2 rfl q237 rfl rfl dX0_till_54 ?_
            refine fx_getN X hE (hR.at hS) 1 rfl rfl 9 rfl 12 rfl rfl rfl dX0_till_57 ?_
            refine lv_iload_n hx hb dX0_till_60 rfl (lv_at hl 2 rfl) ?_
            refine fx_aald X hE (hR.at hS) 2 3 rfl rfl 3 rfl (by decide) rfl (r := some (ax 39)) (rfl) dX0_till_61 ?_
            refine lv_iload_n hx hb dX0_till_62 rfl (lv_at hl 3 rfl) ?_
            refine lv_bipush (v := 10) hx hb dX0_till_63 rfl ?_
            refine lv_idiv hx hb dX0_till_65 (by decide) ?_
            refine fx_ti (show (km / 10) = nI (nn km / 10) from hk3) ?_
            refine lv_iload_n hx hb dX0_till_66 rfl (lv_at hl 2 rfl) ?_
            refine lv_iload_n hx hb dX0_till_67 rfl (lv_at hl 3 rfl) ?_
            refine lv_bipush (v := 10) hx hb dX0_till_68 rfl ?_
            refine lv_irem hx hb dX0_till_70 (by decide) ?_
            refine fx_ti (show (km - km / 10 * 10) = nI (nn km % 10) from hk4) ?_
            refine fx_cq (va_runS (As := [.int (nI (nn km / 10)), .int (nI 3), .int (nI (nn km % 10))]) (rest := [.ref (ax 39)]) X (xX0_made l E (nn km / 10) (nI 3) (nI (nn km % 10)) (by first | assumption | omega) _) (va_cwS 3 X.2.2.2.2 (lw_S q378 q379 q69 q380) rfl rfl rfl hdX0_made ⟨Nat.le_of_ble_eq_true rfl, Nat.le_of_ble_eq_true rfl⟩) (fx_pre hE hP hD hS hR [] rfl rfl fx_rc0) rfl rfl hl.1 rfl (lv_room (Nat.le_of_ble_eq_true rfl)) dX0_till_71 ⟨Nat.le_of_ble_eq_true rfl, Nat.le_of_ble_eq_true rfl⟩) hP hD hS hA [] rfl rfl (fun r_71 u H locs hq_71 hP hD hS => ?_)
            obtain ⟨q2_71, rfl⟩ : ∃ z, z = u := ⟨_, rfl⟩
            replace hP : va_P E.1 clA [(ax 36, .inr (2, [.ref (tl 0)])), (ax 37, .inr (2, [.ref (tl 1)])), (ax 38, .inr (2, [.ref (tl 2)])), (ax 39, .inr (2, [.ref (tl 3)])), (ax 5, .inl (E.2 0, 7, .inl er)), (q2_71, .inr ((tcn (nn km / 10)), [.int (nI 3), .int (nI (nn km % 10))]))] _ := hP
            replace hD : va_D A [(ax 36, .inr (2, [.ref (tl 0)])), (ax 37, .inr (2, [.ref (tl 1)])), (ax 38, .inr (2, [.ref (tl 2)])), (ax 39, .inr (2, [.ref (tl 3)])), (ax 5, .inl (E.2 0, 7, .inl er)), (q2_71, .inr ((tcn (nn km / 10)), [.int (nI 3), .int (nI (nn km % 10))]))] := hD
            replace hq_71 : r_71 = some q2_71 := hq_71
            refine W.widen (k := 1) (n := 2) (by first | omega | exact Nat.le_of_ble_eq_true rfl) (by first | omega | exact Nat.le_of_ble_eq_true rfl) ?_
            obtain rfl : r_71 = some q2_71 := by first | exact hq_71 | exact hq_71.1
            refine fx_putN (ws' := [(ax 36, .inr (2, [.ref (tl 0)])), (ax 37, .inr (2, [.ref (tl 1)])), (ax 38, .inr (2, [.ref (tl 2)])), (ax 39, .inr (2, [.ref q2_71])), (ax 5, .inl (E.2 0, 7, .inl er)), (q2_71, .inr ((tcn (nn km / 10)), [.int (nI 3), .int (nI (nn km % 10))]))]) X hE hP hD hS 3 rfl rfl tyX2_ok nmX2 0 rfl 2 rfl rfl rfl rfl rfl rfl rfl dX0_till_74 (fun H locs hP hD hS => ?_)
            refine lv_iload_n hx hb dX0_till_77 rfl (lv_at hl 0 rfl) ?_
            exact hret ((10 * r_36) + (sa (32 + 2 * 3 + 1))) ((upN tl 3 q2_71), er, [(q2_71, .inr ((tcn (nn km / 10)), [.int (nI 3), .int (nI (nn km % 10))]))]) (⟨by rw [till_, if_pos hbc]; show _ = 10 * sa (32 + 2 * nn (nI 3)) + sa (32 + 2 * nn (nI 3) + 1); rw [hnn, hq_36, (hI.kd (k := 3) hk0).1, hw]; rfl, by simp only [till_, if_pos hbc], by rw [till_, if_pos hbc]; show TLS _ (upd (upd sa (32 + 2 * nn (nI 3)) _) (32 + 2 * nn (nI 3) + 1) _) _; rw [hnn]; exact TLS_new hTL hk0 (by omega) (List.mem_of_getElem? (i := 0) rfl)⟩) (rfl) hP hD hS (Nat.le_refl _) (Nat.le_refl _) dX0_till_78
          ·
            have hc : ((tl 3, .inr (9, [.int (nI 3), .int (sa (32 + 2 * 3 + 1))])) : Nat × va_E) ∈ PL := by have hz := hTL 3 hk0; rw [hw] at hz; exact hz
            refine fx_ci (va_runU (As := []) (rest := [.int 10]) X (xX9_kind l E (tl 3) (nI 3) (sa (32 + 2 * 3 + 1)) _) (va_cwO 0 X.2.2.2.2 (lw_O q343 q346 q344 q347 q348 q79 q349) rfl rfl rfl q352 ⟨by decide +kernel, by decide +kernel, hdX9_kind.2.2⟩ ⟨Nat.le_of_ble_eq_true rfl, Nat.le_of_ble_eq_true rfl⟩) (fx_preV (fx_pre hE hP hD hS hR [] rfl rfl (fx_rcx ((List.mem_append_right _ hc)) fx_rc0)) (va_recv hE.1 (fx_one (hR.at hS) (List.mem_append_right _ hc)) (ci := 9) (q0 := 0) rfl rfl)) rfl rfl hl.1 rfl (lv_room (Nat.le_of_ble_eq_true rfl)) dX0_till_36 ⟨Nat.le_of_ble_eq_true rfl, Nat.le_of_ble_eq_true rfl⟩) hP hD hS hA [] rfl rfl (fun r_36 u H locs hq_36 hP hD hS => ?_)
            replace hP : va_P E.1 clA [(ax 36, .inr (2, [.ref (tl 0)])), (ax 37, .inr (2, [.ref (tl 1)])), (ax 38, .inr (2, [.ref (tl 2)])), (ax 39, .inr (2, [.ref (tl 3)])), (ax 5, .inl (E.2 0, 7, .inl er))] _ := hP
            replace hD : va_D A [(ax 36, .inr (2, [.ref (tl 0)])), (ax 37, .inr (2, [.ref (tl 1)])), (ax 38, .inr (2, [.ref (tl 2)])), (ax 39, .inr (2, [.ref (tl 3)])), (ax 5, .inl (E.2 0, 7, .inl er))] := hD
            replace hq_36 : r_36 = 3 := hq_36
            refine lv_imul hx hb dX0_till_39 ?_
            refine lv_aload_n hx hb dX0_till_40 rfl (lv_at hl 0 rfl) ?_
            refine fx_get X hE (hR.at hS) 0 rfl rfl 2 rfl q237 rfl rfl dX0_till_41 ?_
            refine lv_iload_n hx hb dX0_till_44 rfl (lv_at hl 1 rfl) ?_
            refine fx_cq (va_runV (As := [.int (nI 3)]) (rest := [.int (10 * r_36)]) X (xX1_at l E ax tk cs gs zz tp wg sa tl 3 PL (by first | assumption | omega) (by first | assumption | omega) (by first | assumption | omega) _) (cwV 1 X.2.2.2.2 (lw_V q339 q340 q341 q70 q342) rfl rfl rfl ⟨rfl, hdX1_at⟩ ⟨Nat.le_of_ble_eq_true rfl, Nat.le_of_ble_eq_true rfl⟩) (fx_preV (fx_pre hE hP hD hS hR [] rfl rfl (fx_rcr 1 rfl (fx_rcr 2 rfl (fx_rcm 0 rfl (by decide) (fx_rcm 1 rfl (by decide) (fx_rcm 2 rfl (by decide) (fx_rcm 3 rfl (by decide) (fx_rct (fun q hq => List.mem_append_right _ hq))))))))) (va_recv hE.1 (hR.at hS) (ci := 1) (q0 := 1) rfl rfl)) rfl rfl hl.1 rfl (lv_room (Nat.le_of_ble_eq_true rfl)) dX0_till_45 ⟨Nat.le_of_ble_eq_true rfl, Nat.le_of_ble_eq_true rfl⟩) hP hD hS hA [] rfl rfl (fun r_45 u H locs hq_45 hP hD hS => ?_)
            replace hP : va_P E.1 clA [(ax 36, .inr (2, [.ref (tl 0)])), (ax 37, .inr (2, [.ref (tl 1)])), (ax 38, .inr (2, [.ref (tl 2)])), (ax 39, .inr (2, [.ref (tl 3)])), (ax 5, .inl (E.2 0, 7, .inl er))] _ := hP
            replace hD : va_D A [(ax 36, .inr (2, [.ref (tl 0)])), (ax 37, .inr (2, [.ref (tl 1)])), (ax 38, .inr (2, [.ref (tl 2)])), (ax 39, .inr (2, [.ref (tl 3)])), (ax 5, .inl (E.2 0, 7, .inl er))] := hD
            replace hq_45 : r_45 = some (tl 3) := hq_45
            obtain rfl : r_45 = some (tl 3) := by first | exact hq_45 | exact hq_45.1
            refine fx_get X hE (fx_one (hR.at hS) (List.mem_append_right _ hc)) 0 rfl rfl 1 rfl q146 rfl rfl dX0_till_48 ?_
            refine lv_iadd hx hb dX0_till_51 ?_
            refine lv_istore_n (lv' := [(3, .int ((10 * r_36) + (sa (32 + 2 * 3 + 1)))), (0, .ref (ax 19)), (1, .int (nI 3)), (2, .int km)]) hx hb dX0_till_52 rfl hl (by decide) rfl (fun ls hl => ?_)
            refine lv_aload_n hx hb dX0_till_53 rfl (lv_at hl 1 rfl) ?_
            refine fx_get X hE (hR.at hS) 0 rfl rfl 2 rfl q237 rfl rfl dX0_till_54 ?_
            refine fx_getN X hE (hR.at hS) 1 rfl rfl 9 rfl 12 rfl rfl rfl dX0_till_57 ?_
            refine lv_iload_n hx hb dX0_till_60 rfl (lv_at hl 2 rfl) ?_
            refine fx_aald X hE (hR.at hS) 2 3 rfl rfl 3 rfl (by decide) rfl (r := some (ax 39)) (rfl) dX0_till_61 ?_
            refine lv_iload_n hx hb dX0_till_62 rfl (lv_at hl 3 rfl) ?_
            refine lv_bipush (v := 10) hx hb dX0_till_63 rfl ?_
            refine lv_idiv hx hb dX0_till_65 (by decide) ?_
            refine fx_ti (show (km / 10) = nI (nn km / 10) from hk3) ?_
            refine lv_iload_n hx hb dX0_till_66 rfl (lv_at hl 2 rfl) ?_
            refine lv_iload_n hx hb dX0_till_67 rfl (lv_at hl 3 rfl) ?_
            refine lv_bipush (v := 10) hx hb dX0_till_68 rfl ?_
            refine lv_irem hx hb dX0_till_70 (by decide) ?_
            refine fx_ti (show (km - km / 10 * 10) = nI (nn km % 10) from hk4) ?_
            refine fx_cq (va_runS (As := [.int (nI (nn km / 10)), .int (nI 3), .int (nI (nn km % 10))]) (rest := [.ref (ax 39)]) X (xX0_made l E (nn km / 10) (nI 3) (nI (nn km % 10)) (by first | assumption | omega) _) (va_cwS 3 X.2.2.2.2 (lw_S q378 q379 q69 q380) rfl rfl rfl hdX0_made ⟨Nat.le_of_ble_eq_true rfl, Nat.le_of_ble_eq_true rfl⟩) (fx_pre hE hP hD hS hR [] rfl rfl fx_rc0) rfl rfl hl.1 rfl (lv_room (Nat.le_of_ble_eq_true rfl)) dX0_till_71 ⟨Nat.le_of_ble_eq_true rfl, Nat.le_of_ble_eq_true rfl⟩) hP hD hS hA [] rfl rfl (fun r_71 u H locs hq_71 hP hD hS => ?_)
            obtain ⟨q2_71, rfl⟩ : ∃ z, z = u := ⟨_, rfl⟩
            replace hP : va_P E.1 clA [(ax 36, .inr (2, [.ref (tl 0)])), (ax 37, .inr (2, [.ref (tl 1)])), (ax 38, .inr (2, [.ref (tl 2)])), (ax 39, .inr (2, [.ref (tl 3)])), (ax 5, .inl (E.2 0, 7, .inl er)), (q2_71, .inr ((tcn (nn km / 10)), [.int (nI 3), .int (nI (nn km % 10))]))] _ := hP
            replace hD : va_D A [(ax 36, .inr (2, [.ref (tl 0)])), (ax 37, .inr (2, [.ref (tl 1)])), (ax 38, .inr (2, [.ref (tl 2)])), (ax 39, .inr (2, [.ref (tl 3)])), (ax 5, .inl (E.2 0, 7, .inl er)), (q2_71, .inr ((tcn (nn km / 10)), [.int (nI 3), .int (nI (nn km % 10))]))] := hD
            replace hq_71 : r_71 = some q2_71 := hq_71
            refine W.widen (k := 1) (n := 2) (by first | omega | exact Nat.le_of_ble_eq_true rfl) (by first | omega | exact Nat.le_of_ble_eq_true rfl) ?_
            obtain rfl : r_71 = some q2_71 := by first | exact hq_71 | exact hq_71.1
            refine fx_putN (ws' := [(ax 36, .inr (2, [.ref (tl 0)])), (ax 37, .inr (2, [.ref (tl 1)])), (ax 38, .inr (2, [.ref (tl 2)])), (ax 39, .inr (2, [.ref q2_71])), (ax 5, .inl (E.2 0, 7, .inl er)), (q2_71, .inr ((tcn (nn km / 10)), [.int (nI 3), .int (nI (nn km % 10))]))]) X hE hP hD hS 3 rfl rfl tyX2_ok nmX2 0 rfl 2 rfl rfl rfl rfl rfl rfl rfl dX0_till_74 (fun H locs hP hD hS => ?_)
            refine lv_iload_n hx hb dX0_till_77 rfl (lv_at hl 0 rfl) ?_
            exact hret ((10 * r_36) + (sa (32 + 2 * 3 + 1))) ((upN tl 3 q2_71), er, [(q2_71, .inr ((tcn (nn km / 10)), [.int (nI 3), .int (nI (nn km % 10))]))]) (⟨by rw [till_, if_pos hbc]; show _ = 10 * sa (32 + 2 * nn (nI 3)) + sa (32 + 2 * nn (nI 3) + 1); rw [hnn, hq_36, (hI.kd (k := 3) hk0).1, hw]; rfl, by simp only [till_, if_pos hbc], by rw [till_, if_pos hbc]; show TLS _ (upd (upd sa (32 + 2 * nn (nI 3)) _) (32 + 2 * nn (nI 3) + 1) _) _; rw [hnn]; exact TLS_new hTL hk0 (by omega) (List.mem_of_getElem? (i := 0) rfl)⟩) (rfl) hP hD hS (Nat.le_refl _) (Nat.le_refl _) dX0_till_78
          ·
            have hc : ((tl 3, .inr (10, [.int (nI 3), .int (sa (32 + 2 * 3 + 1))])) : Nat × va_E) ∈ PL := by have hz := hTL 3 hk0; rw [hw] at hz; exact hz
            refine fx_ci (va_runU (As := []) (rest := [.int 10]) X (xX10_kind l E (tl 3) (nI 3) (sa (32 + 2 * 3 + 1)) _) (va_cwO 0 X.2.2.2.2 (lw_O q343 q346 q344 q363 q364 q80 q365) rfl rfl rfl q352 ⟨by decide +kernel, by decide +kernel, hdX10_kind.2.2⟩ ⟨Nat.le_of_ble_eq_true rfl, Nat.le_of_ble_eq_true rfl⟩) (fx_preV (fx_pre hE hP hD hS hR [] rfl rfl (fx_rcx ((List.mem_append_right _ hc)) fx_rc0)) (va_recv hE.1 (fx_one (hR.at hS) (List.mem_append_right _ hc)) (ci := 10) (q0 := 0) rfl rfl)) rfl rfl hl.1 rfl (lv_room (Nat.le_of_ble_eq_true rfl)) dX0_till_36 ⟨Nat.le_of_ble_eq_true rfl, Nat.le_of_ble_eq_true rfl⟩) hP hD hS hA [] rfl rfl (fun r_36 u H locs hq_36 hP hD hS => ?_)
            replace hP : va_P E.1 clA [(ax 36, .inr (2, [.ref (tl 0)])), (ax 37, .inr (2, [.ref (tl 1)])), (ax 38, .inr (2, [.ref (tl 2)])), (ax 39, .inr (2, [.ref (tl 3)])), (ax 5, .inl (E.2 0, 7, .inl er))] _ := hP
            replace hD : va_D A [(ax 36, .inr (2, [.ref (tl 0)])), (ax 37, .inr (2, [.ref (tl 1)])), (ax 38, .inr (2, [.ref (tl 2)])), (ax 39, .inr (2, [.ref (tl 3)])), (ax 5, .inl (E.2 0, 7, .inl er))] := hD
            replace hq_36 : r_36 = 4 := hq_36
            refine lv_imul hx hb dX0_till_39 ?_
            refine lv_aload_n hx hb dX0_till_40 rfl (lv_at hl 0 rfl) ?_
            refine fx_get X hE (hR.at hS) 0 rfl rfl 2 rfl q237 rfl rfl dX0_till_41 ?_
            refine lv_iload_n hx hb dX0_till_44 rfl (lv_at hl 1 rfl) ?_
            refine fx_cq (va_runV (As := [.int (nI 3)]) (rest := [.int (10 * r_36)]) X (xX1_at l E ax tk cs gs zz tp wg sa tl 3 PL (by first | assumption | omega) (by first | assumption | omega) (by first | assumption | omega) _) (cwV 1 X.2.2.2.2 (lw_V q339 q340 q341 q70 q342) rfl rfl rfl ⟨rfl, hdX1_at⟩ ⟨Nat.le_of_ble_eq_true rfl, Nat.le_of_ble_eq_true rfl⟩) (fx_preV (fx_pre hE hP hD hS hR [] rfl rfl (fx_rcr 1 rfl (fx_rcr 2 rfl (fx_rcm 0 rfl (by decide) (fx_rcm 1 rfl (by decide) (fx_rcm 2 rfl (by decide) (fx_rcm 3 rfl (by decide) (fx_rct (fun q hq => List.mem_append_right _ hq))))))))) (va_recv hE.1 (hR.at hS) (ci := 1) (q0 := 1) rfl rfl)) rfl rfl hl.1 rfl (lv_room (Nat.le_of_ble_eq_true rfl)) dX0_till_45 ⟨Nat.le_of_ble_eq_true rfl, Nat.le_of_ble_eq_true rfl⟩) hP hD hS hA [] rfl rfl (fun r_45 u H locs hq_45 hP hD hS => ?_)
            replace hP : va_P E.1 clA [(ax 36, .inr (2, [.ref (tl 0)])), (ax 37, .inr (2, [.ref (tl 1)])), (ax 38, .inr (2, [.ref (tl 2)])), (ax 39, .inr (2, [.ref (tl 3)])), (ax 5, .inl (E.2 0, 7, .inl er))] _ := hP
            replace hD : va_D A [(ax 36, .inr (2, [.ref (tl 0)])), (ax 37, .inr (2, [.ref (tl 1)])), (ax 38, .inr (2, [.ref (tl 2)])), (ax 39, .inr (2, [.ref (tl 3)])), (ax 5, .inl (E.2 0, 7, .inl er))] := hD
            replace hq_45 : r_45 = some (tl 3) := hq_45
            obtain rfl : r_45 = some (tl 3) := by first | exact hq_45 | exact hq_45.1
            refine fx_get X hE (fx_one (hR.at hS) (List.mem_append_right _ hc)) 0 rfl rfl 1 rfl q146 rfl rfl dX0_till_48 ?_
            refine lv_iadd hx hb dX0_till_51 ?_
            refine lv_istore_n (lv' := [(3, .int ((10 * r_36) + (sa (32 + 2 * 3 + 1)))), (0, .ref (ax 19)), (1, .int (nI 3)), (2, .int km)]) hx hb dX0_till_52 rfl hl (by decide) rfl (fun ls hl => ?_)
            refine lv_aload_n hx hb dX0_till_53 rfl (lv_at hl 1 rfl) ?_
            refine fx_get X hE (hR.at hS) 0 rfl rfl 2 rfl q237 rfl rfl dX0_till_54 ?_
            refine fx_getN X hE (hR.at hS) 1 rfl rfl 9 rfl 12 rfl rfl rfl dX0_till_57 ?_
            refine lv_iload_n hx hb dX0_till_60 rfl (lv_at hl 2 rfl) ?_
            refine fx_aald X hE (hR.at hS) 2 3 rfl rfl 3 rfl (by decide) rfl (r := some (ax 39)) (rfl) dX0_till_61 ?_
            refine lv_iload_n hx hb dX0_till_62 rfl (lv_at hl 3 rfl) ?_
            refine lv_bipush (v := 10) hx hb dX0_till_63 rfl ?_
            refine lv_idiv hx hb dX0_till_65 (by decide) ?_
            refine fx_ti (show (km / 10) = nI (nn km / 10) from hk3) ?_
            refine lv_iload_n hx hb dX0_till_66 rfl (lv_at hl 2 rfl) ?_
            refine lv_iload_n hx hb dX0_till_67 rfl (lv_at hl 3 rfl) ?_
            refine lv_bipush (v := 10) hx hb dX0_till_68 rfl ?_
            refine lv_irem hx hb dX0_till_70 (by decide) ?_
            refine fx_ti (show (km - km / 10 * 10) = nI (nn km % 10) from hk4) ?_
            refine fx_cq (va_runS (As := [.int (nI (nn km / 10)), .int (nI 3), .int (nI (nn km % 10))]) (rest := [.ref (ax 39)]) X (xX0_made l E (nn km / 10) (nI 3) (nI (nn km % 10)) (by first | assumption | omega) _) (va_cwS 3 X.2.2.2.2 (lw_S q378 q379 q69 q380) rfl rfl rfl hdX0_made ⟨Nat.le_of_ble_eq_true rfl, Nat.le_of_ble_eq_true rfl⟩) (fx_pre hE hP hD hS hR [] rfl rfl fx_rc0) rfl rfl hl.1 rfl (lv_room (Nat.le_of_ble_eq_true rfl)) dX0_till_71 ⟨Nat.le_of_ble_eq_true rfl, Nat.le_of_ble_eq_true rfl⟩) hP hD hS hA [] rfl rfl (fun r_71 u H locs hq_71 hP hD hS => ?_)
            obtain ⟨q2_71, rfl⟩ : ∃ z, z = u := ⟨_, rfl⟩
            replace hP : va_P E.1 clA [(ax 36, .inr (2, [.ref (tl 0)])), (ax 37, .inr (2, [.ref (tl 1)])), (ax 38, .inr (2, [.ref (tl 2)])), (ax 39, .inr (2, [.ref (tl 3)])), (ax 5, .inl (E.2 0, 7, .inl er)), (q2_71, .inr ((tcn (nn km / 10)), [.int (nI 3), .int (nI (nn km % 10))]))] _ := hP
            replace hD : va_D A [(ax 36, .inr (2, [.ref (tl 0)])), (ax 37, .inr (2, [.ref (tl 1)])), (ax 38, .inr (2, [.ref (tl 2)])), (ax 39, .inr (2, [.ref (tl 3)])), (ax 5, .inl (E.2 0, 7, .inl er)), (q2_71, .inr ((tcn (nn km / 10)), [.int (nI 3), .int (nI (nn km % 10))]))] := hD
            replace hq_71 : r_71 = some q2_71 := hq_71
            refine W.widen (k := 1) (n := 2) (by first | omega | exact Nat.le_of_ble_eq_true rfl) (by first | omega | exact Nat.le_of_ble_eq_true rfl) ?_
            obtain rfl : r_71 = some q2_71 := by first | exact hq_71 | exact hq_71.1
            refine fx_putN (ws' := [(ax 36, .inr (2, [.ref (tl 0)])), (ax 37, .inr (2, [.ref (tl 1)])), (ax 38, .inr (2, [.ref (tl 2)])), (ax 39, .inr (2, [.ref q2_71])), (ax 5, .inl (E.2 0, 7, .inl er)), (q2_71, .inr ((tcn (nn km / 10)), [.int (nI 3), .int (nI (nn km % 10))]))]) X hE hP hD hS 3 rfl rfl tyX2_ok nmX2 0 rfl 2 rfl rfl rfl rfl rfl rfl rfl dX0_till_74 (fun H locs hP hD hS => ?_)
            refine lv_iload_n hx hb dX0_till_77 rfl (lv_at hl 0 rfl) ?_
            exact hret ((10 * r_36) + (sa (32 + 2 * 3 + 1))) ((upN tl 3 q2_71), er, [(q2_71, .inr ((tcn (nn km / 10)), [.int (nI 3), .int (nI (nn km % 10))]))]) (⟨by rw [till_, if_pos hbc]; show _ = 10 * sa (32 + 2 * nn (nI 3)) + sa (32 + 2 * nn (nI 3) + 1); rw [hnn, hq_36, (hI.kd (k := 3) hk0).1, hw]; rfl, by simp only [till_, if_pos hbc], by rw [till_, if_pos hbc]; show TLS _ (upd (upd sa (32 + 2 * nn (nI 3)) _) (32 + 2 * nn (nI 3) + 1) _) _; rw [hnn]; exact TLS_new hTL hk0 (by omega) (List.mem_of_getElem? (i := 0) rfl)⟩) (rfl) hP hD hS (Nat.le_refl _) (Nat.le_refl _) dX0_till_78
          ·
            have hc : ((tl 3, .inr (11, [.int (nI 3), .int (sa (32 + 2 * 3 + 1))])) : Nat × va_E) ∈ PL := by have hz := hTL 3 hk0; rw [hw] at hz; exact hz
            refine fx_ci (va_runU (As := []) (rest := [.int 10]) X (xX11_kind l E (tl 3) (nI 3) (sa (32 + 2 * 3 + 1)) _) (va_cwO 0 X.2.2.2.2 (lw_O q343 q346 q344 q353 q354 q81 q355) rfl rfl rfl q352 ⟨by decide +kernel, by decide +kernel, hdX11_kind.2.2⟩ ⟨Nat.le_of_ble_eq_true rfl, Nat.le_of_ble_eq_true rfl⟩) (fx_preV (fx_pre hE hP hD hS hR [] rfl rfl (fx_rcx ((List.mem_append_right _ hc)) fx_rc0)) (va_recv hE.1 (fx_one (hR.at hS) (List.mem_append_right _ hc)) (ci := 11) (q0 := 0) rfl rfl)) rfl rfl hl.1 rfl (lv_room (Nat.le_of_ble_eq_true rfl)) dX0_till_36 ⟨Nat.le_of_ble_eq_true rfl, Nat.le_of_ble_eq_true rfl⟩) hP hD hS hA [] rfl rfl (fun r_36 u H locs hq_36 hP hD hS => ?_)
            replace hP : va_P E.1 clA [(ax 36, .inr (2, [.ref (tl 0)])), (ax 37, .inr (2, [.ref (tl 1)])), (ax 38, .inr (2, [.ref (tl 2)])), (ax 39, .inr (2, [.ref (tl 3)])), (ax 5, .inl (E.2 0, 7, .inl er))] _ := hP
            replace hD : va_D A [(ax 36, .inr (2, [.ref (tl 0)])), (ax 37, .inr (2, [.ref (tl 1)])), (ax 38, .inr (2, [.ref (tl 2)])), (ax 39, .inr (2, [.ref (tl 3)])), (ax 5, .inl (E.2 0, 7, .inl er))] := hD
            replace hq_36 : r_36 = 5 := hq_36
            refine lv_imul hx hb dX0_till_39 ?_
            refine lv_aload_n hx hb dX0_till_40 rfl (lv_at hl 0 rfl) ?_
            refine fx_get X hE (hR.at hS) 0 rfl rfl 2 rfl q237 rfl rfl dX0_till_41 ?_
            refine lv_iload_n hx hb dX0_till_44 rfl (lv_at hl 1 rfl) ?_
            refine fx_cq (va_runV (As := [.int (nI 3)]) (rest := [.int (10 * r_36)]) X (xX1_at l E ax tk cs gs zz tp wg sa tl 3 PL (by first | assumption | omega) (by first | assumption | omega) (by first | assumption | omega) _) (cwV 1 X.2.2.2.2 (lw_V q339 q340 q341 q70 q342) rfl rfl rfl ⟨rfl, hdX1_at⟩ ⟨Nat.le_of_ble_eq_true rfl, Nat.le_of_ble_eq_true rfl⟩) (fx_preV (fx_pre hE hP hD hS hR [] rfl rfl (fx_rcr 1 rfl (fx_rcr 2 rfl (fx_rcm 0 rfl (by decide) (fx_rcm 1 rfl (by decide) (fx_rcm 2 rfl (by decide) (fx_rcm 3 rfl (by decide) (fx_rct (fun q hq => List.mem_append_right _ hq))))))))) (va_recv hE.1 (hR.at hS) (ci := 1) (q0 := 1) rfl rfl)) rfl rfl hl.1 rfl (lv_room (Nat.le_of_ble_eq_true rfl)) dX0_till_45 ⟨Nat.le_of_ble_eq_true rfl, Nat.le_of_ble_eq_true rfl⟩) hP hD hS hA [] rfl rfl (fun r_45 u H locs hq_45 hP hD hS => ?_)
            replace hP : va_P E.1 clA [(ax 36, .inr (2, [.ref (tl 0)])), (ax 37, .inr (2, [.ref (tl 1)])), (ax 38, .inr (2, [.ref (tl 2)])), (ax 39, .inr (2, [.ref (tl 3)])), (ax 5, .inl (E.2 0, 7, .inl er))] _ := hP
            replace hD : va_D A [(ax 36, .inr (2, [.ref (tl 0)])), (ax 37, .inr (2, [.ref (tl 1)])), (ax 38, .inr (2, [.ref (tl 2)])), (ax 39, .inr (2, [.ref (tl 3)])), (ax 5, .inl (E.2 0, 7, .inl er))] := hD
            replace hq_45 : r_45 = some (tl 3) := hq_45
            obtain rfl : r_45 = some (tl 3) := by first | exact hq_45 | exact hq_45.1
            refine fx_get X hE (fx_one (hR.at hS) (List.mem_append_right _ hc)) 0 rfl rfl 1 rfl q146 rfl rfl dX0_till_48 ?_
            refine lv_iadd hx hb dX0_till_51 ?_
            refine lv_istore_n (lv' := [(3, .int ((10 * r_36) + (sa (32 + 2 * 3 + 1)))), (0, .ref (ax 19)), (1, .int (nI 3)), (2, .int km)]) hx hb dX0_till_52 rfl hl (by decide) rfl (fun ls hl => ?_)
            refine lv_aload_n hx hb dX0_till_53 rfl (lv_at hl 1 rfl) ?_
            refine fx_get X hE (hR.at hS) 0 rfl rfl 2 rfl q237 rfl rfl dX0_till_54 ?_
            refine fx_getN X hE (hR.at hS) 1 rfl rfl 9 rfl 12 rfl rfl rfl dX0_till_57 ?_
            refine lv_iload_n hx hb dX0_till_60 rfl (lv_at hl 2 rfl) ?_
            refine fx_aald X hE (hR.at hS) 2 3 rfl rfl 3 rfl (by decide) rfl (r := some (ax 39)) (rfl) dX0_till_61 ?_
            refine lv_iload_n hx hb dX0_till_62 rfl (lv_at hl 3 rfl) ?_
            refine lv_bipush (v := 10) hx hb dX0_till_63 rfl ?_
            refine lv_idiv hx hb dX0_till_65 (by decide) ?_
            refine fx_ti (show (km / 10) = nI (nn km / 10) from hk3) ?_
            refine lv_iload_n hx hb dX0_till_66 rfl (lv_at hl 2 rfl) ?_
            refine lv_iload_n hx hb dX0_till_67 rfl (lv_at hl 3 rfl) ?_
            refine lv_bipush (v := 10) hx hb dX0_till_68 rfl ?_
            refine lv_irem hx hb dX0_till_70 (by decide) ?_
            refine fx_ti (show (km - km / 10 * 10) = nI (nn km % 10) from hk4) ?_
            refine fx_cq (va_runS (As := [.int (nI (nn km / 10)), .int (nI 3), .int (nI (nn km % 10))]) (rest := [.ref (ax 39)]) X (xX0_made l E (nn km / 10) (nI 3) (nI (nn km % 10)) (by first | assumption | omega) _) (va_cwS 3 X.2.2.2.2 (lw_S q378 q379 q69 q380) rfl rfl rfl hdX0_made ⟨Nat.le_of_ble_eq_true rfl, Nat.le_of_ble_eq_true rfl⟩) (fx_pre hE hP hD hS hR [] rfl rfl fx_rc0) rfl rfl hl.1 rfl (lv_room (Nat.le_of_ble_eq_true rfl)) dX0_till_71 ⟨Nat.le_of_ble_eq_true rfl, Nat.le_of_ble_eq_true rfl⟩) hP hD hS hA [] rfl rfl (fun r_71 u H locs hq_71 hP hD hS => ?_)
            obtain ⟨q2_71, rfl⟩ : ∃ z, z = u := ⟨_, rfl⟩
            replace hP : va_P E.1 clA [(ax 36, .inr (2, [.ref (tl 0)])), (ax 37, .inr (2, [.ref (tl 1)])), (ax 38, .inr (2, [.ref (tl 2)])), (ax 39, .inr (2, [.ref (tl 3)])), (ax 5, .inl (E.2 0, 7, .inl er)), (q2_71, .inr ((tcn (nn km / 10)), [.int (nI 3), .int (nI (nn km % 10))]))] _ := hP
            replace hD : va_D A [(ax 36, .inr (2, [.ref (tl 0)])), (ax 37, .inr (2, [.ref (tl 1)])), (ax 38, .inr (2, [.ref (tl 2)])), (ax 39, .inr (2, [.ref (tl 3)])), (ax 5, .inl (E.2 0, 7, .inl er)), (q2_71, .inr ((tcn (nn km / 10)), [.int (nI 3), .int (nI (nn km % 10))]))] := hD
            replace hq_71 : r_71 = some q2_71 := hq_71
            refine W.widen (k := 1) (n := 2) (by first | omega | exact Nat.le_of_ble_eq_true rfl) (by first | omega | exact Nat.le_of_ble_eq_true rfl) ?_
            obtain rfl : r_71 = some q2_71 := by first | exact hq_71 | exact hq_71.1
            refine fx_putN (ws' := [(ax 36, .inr (2, [.ref (tl 0)])), (ax 37, .inr (2, [.ref (tl 1)])), (ax 38, .inr (2, [.ref (tl 2)])), (ax 39, .inr (2, [.ref q2_71])), (ax 5, .inl (E.2 0, 7, .inl er)), (q2_71, .inr ((tcn (nn km / 10)), [.int (nI 3), .int (nI (nn km % 10))]))]) X hE hP hD hS 3 rfl rfl tyX2_ok nmX2 0 rfl 2 rfl rfl rfl rfl rfl rfl rfl dX0_till_74 (fun H locs hP hD hS => ?_)
            refine lv_iload_n hx hb dX0_till_77 rfl (lv_at hl 0 rfl) ?_
            exact hret ((10 * r_36) + (sa (32 + 2 * 3 + 1))) ((upN tl 3 q2_71), er, [(q2_71, .inr ((tcn (nn km / 10)), [.int (nI 3), .int (nI (nn km % 10))]))]) (⟨by rw [till_, if_pos hbc]; show _ = 10 * sa (32 + 2 * nn (nI 3)) + sa (32 + 2 * nn (nI 3) + 1); rw [hnn, hq_36, (hI.kd (k := 3) hk0).1, hw]; rfl, by simp only [till_, if_pos hbc], by rw [till_, if_pos hbc]; show TLS _ (upd (upd sa (32 + 2 * nn (nI 3)) _) (32 + 2 * nn (nI 3) + 1) _) _; rw [hnn]; exact TLS_new hTL hk0 (by omega) (List.mem_of_getElem? (i := 0) rfl)⟩) (rfl) hP hD hS (Nat.le_refl _) (Nat.le_refl _) dX0_till_78
          ·
            have hc : ((tl 3, .inr (12, [.int (nI 3), .int (sa (32 + 2 * 3 + 1))])) : Nat × va_E) ∈ PL := by have hz := hTL 3 hk0; rw [hw] at hz; exact hz
            refine fx_ci (va_runU (As := []) (rest := [.int 10]) X (xX12_kind l E (tl 3) (nI 3) (sa (32 + 2 * 3 + 1)) _) (va_cwO 0 X.2.2.2.2 (lw_O q343 q346 q344 q373 q374 q82 q375) rfl rfl rfl q352 ⟨by decide +kernel, by decide +kernel, hdX12_kind.2.2⟩ ⟨Nat.le_of_ble_eq_true rfl, Nat.le_of_ble_eq_true rfl⟩) (fx_preV (fx_pre hE hP hD hS hR [] rfl rfl (fx_rcx ((List.mem_append_right _ hc)) fx_rc0)) (va_recv hE.1 (fx_one (hR.at hS) (List.mem_append_right _ hc)) (ci := 12) (q0 := 0) rfl rfl)) rfl rfl hl.1 rfl (lv_room (Nat.le_of_ble_eq_true rfl)) dX0_till_36 ⟨Nat.le_of_ble_eq_true rfl, Nat.le_of_ble_eq_true rfl⟩) hP hD hS hA [] rfl rfl (fun r_36 u H locs hq_36 hP hD hS => ?_)
            replace hP : va_P E.1 clA [(ax 36, .inr (2, [.ref (tl 0)])), (ax 37, .inr (2, [.ref (tl 1)])), (ax 38, .inr (2, [.ref (tl 2)])), (ax 39, .inr (2, [.ref (tl 3)])), (ax 5, .inl (E.2 0, 7, .inl er))] _ := hP
            replace hD : va_D A [(ax 36, .inr (2, [.ref (tl 0)])), (ax 37, .inr (2, [.ref (tl 1)])), (ax 38, .inr (2, [.ref (tl 2)])), (ax 39, .inr (2, [.ref (tl 3)])), (ax 5, .inl (E.2 0, 7, .inl er))] := hD
            replace hq_36 : r_36 = 6 := hq_36
            refine lv_imul hx hb dX0_till_39 ?_
            refine lv_aload_n hx hb dX0_till_40 rfl (lv_at hl 0 rfl) ?_
            refine fx_get X hE (hR.at hS) 0 rfl rfl 2 rfl q237 rfl rfl dX0_till_41 ?_
            refine lv_iload_n hx hb dX0_till_44 rfl (lv_at hl 1 rfl) ?_
            refine fx_cq (va_runV (As := [.int (nI 3)]) (rest := [.int (10 * r_36)]) X (xX1_at l E ax tk cs gs zz tp wg sa tl 3 PL (by first | assumption | omega) (by first | assumption | omega) (by first | assumption | omega) _) (cwV 1 X.2.2.2.2 (lw_V q339 q340 q341 q70 q342) rfl rfl rfl ⟨rfl, hdX1_at⟩ ⟨Nat.le_of_ble_eq_true rfl, Nat.le_of_ble_eq_true rfl⟩) (fx_preV (fx_pre hE hP hD hS hR [] rfl rfl (fx_rcr 1 rfl (fx_rcr 2 rfl (fx_rcm 0 rfl (by decide) (fx_rcm 1 rfl (by decide) (fx_rcm 2 rfl (by decide) (fx_rcm 3 rfl (by decide) (fx_rct (fun q hq => List.mem_append_right _ hq))))))))) (va_recv hE.1 (hR.at hS) (ci := 1) (q0 := 1) rfl rfl)) rfl rfl hl.1 rfl (lv_room (Nat.le_of_ble_eq_true rfl)) dX0_till_45 ⟨Nat.le_of_ble_eq_true rfl, Nat.le_of_ble_eq_true rfl⟩) hP hD hS hA [] rfl rfl (fun r_45 u H locs hq_45 hP hD hS => ?_)
            replace hP : va_P E.1 clA [(ax 36, .inr (2, [.ref (tl 0)])), (ax 37, .inr (2, [.ref (tl 1)])), (ax 38, .inr (2, [.ref (tl 2)])), (ax 39, .inr (2, [.ref (tl 3)])), (ax 5, .inl (E.2 0, 7, .inl er))] _ := hP
            replace hD : va_D A [(ax 36, .inr (2, [.ref (tl 0)])), (ax 37, .inr (2, [.ref (tl 1)])), (ax 38, .inr (2, [.ref (tl 2)])), (ax 39, .inr (2, [.ref (tl 3)])), (ax 5, .inl (E.2 0, 7, .inl er))] := hD
            replace hq_45 : r_45 = some (tl 3) := hq_45
            obtain rfl : r_45 = some (tl 3) := by first | exact hq_45 | exact hq_45.1
            refine fx_get X hE (fx_one (hR.at hS) (List.mem_append_right _ hc)) 0 rfl rfl 1 rfl q146 rfl rfl dX0_till_48 ?_
            refine lv_iadd hx hb dX0_till_51 ?_
            refine lv_istore_n (lv' := [(3, .int ((10 * r_36) + (sa (32 + 2 * 3 + 1)))), (0, .ref (ax 19)), (1, .int (nI 3)), (2, .int km)]) hx hb dX0_till_52 rfl hl (by decide) rfl (fun ls hl => ?_)
            refine lv_aload_n hx hb dX0_till_53 rfl (lv_at hl 1 rfl) ?_
            refine fx_get X hE (hR.at hS) 0 rfl rfl 2 rfl q237 rfl rfl dX0_till_54 ?_
            refine fx_getN X hE (hR.at hS) 1 rfl rfl 9 rfl 12 rfl rfl rfl dX0_till_57 ?_
            refine lv_iload_n hx hb dX0_till_60 rfl (lv_at hl 2 rfl) ?_
            refine fx_aald X hE (hR.at hS) 2 3 rfl rfl 3 rfl (by decide) rfl (r := some (ax 39)) (rfl) dX0_till_61 ?_
            refine lv_iload_n hx hb dX0_till_62 rfl (lv_at hl 3 rfl) ?_
            refine lv_bipush (v := 10) hx hb dX0_till_63 rfl ?_
            refine lv_idiv hx hb dX0_till_65 (by decide) ?_
            refine fx_ti (show (km / 10) = nI (nn km / 10) from hk3) ?_
            refine lv_iload_n hx hb dX0_till_66 rfl (lv_at hl 2 rfl) ?_
            refine lv_iload_n hx hb dX0_till_67 rfl (lv_at hl 3 rfl) ?_
            refine lv_bipush (v := 10) hx hb dX0_till_68 rfl ?_
            refine lv_irem hx hb dX0_till_70 (by decide) ?_
            refine fx_ti (show (km - km / 10 * 10) = nI (nn km % 10) from hk4) ?_
            refine fx_cq (va_runS (As := [.int (nI (nn km / 10)), .int (nI 3), .int (nI (nn km % 10))]) (rest := [.ref (ax 39)]) X (xX0_made l E (nn km / 10) (nI 3) (nI (nn km % 10)) (by first | assumption | omega) _) (va_cwS 3 X.2.2.2.2 (lw_S q378 q379 q69 q380) rfl rfl rfl hdX0_made ⟨Nat.le_of_ble_eq_true rfl, Nat.le_of_ble_eq_true rfl⟩) (fx_pre hE hP hD hS hR [] rfl rfl fx_rc0) rfl rfl hl.1 rfl (lv_room (Nat.le_of_ble_eq_true rfl)) dX0_till_71 ⟨Nat.le_of_ble_eq_true rfl, Nat.le_of_ble_eq_true rfl⟩) hP hD hS hA [] rfl rfl (fun r_71 u H locs hq_71 hP hD hS => ?_)
            obtain ⟨q2_71, rfl⟩ : ∃ z, z = u := ⟨_, rfl⟩
            replace hP : va_P E.1 clA [(ax 36, .inr (2, [.ref (tl 0)])), (ax 37, .inr (2, [.ref (tl 1)])), (ax 38, .inr (2, [.ref (tl 2)])), (ax 39, .inr (2, [.ref (tl 3)])), (ax 5, .inl (E.2 0, 7, .inl er)), (q2_71, .inr ((tcn (nn km / 10)), [.int (nI 3), .int (nI (nn km % 10))]))] _ := hP
            replace hD : va_D A [(ax 36, .inr (2, [.ref (tl 0)])), (ax 37, .inr (2, [.ref (tl 1)])), (ax 38, .inr (2, [.ref (tl 2)])), (ax 39, .inr (2, [.ref (tl 3)])), (ax 5, .inl (E.2 0, 7, .inl er)), (q2_71, .inr ((tcn (nn km / 10)), [.int (nI 3), .int (nI (nn km % 10))]))] := hD
            replace hq_71 : r_71 = some q2_71 := hq_71
            refine W.widen (k := 1) (n := 2) (by first | omega | exact Nat.le_of_ble_eq_true rfl) (by first | omega | exact Nat.le_of_ble_eq_true rfl) ?_
            obtain rfl : r_71 = some q2_71 := by first | exact hq_71 | exact hq_71.1
            refine fx_putN (ws' := [(ax 36, .inr (2, [.ref (tl 0)])), (ax 37, .inr (2, [.ref (tl 1)])), (ax 38, .inr (2, [.ref (tl 2)])), (ax 39, .inr (2, [.ref q2_71])), (ax 5, .inl (E.2 0, 7, .inl er)), (q2_71, .inr ((tcn (nn km / 10)), [.int (nI 3), .int (nI (nn km % 10))]))]) X hE hP hD hS 3 rfl rfl tyX2_ok nmX2 0 rfl 2 rfl rfl rfl rfl rfl rfl rfl dX0_till_74 (fun H locs hP hD hS => ?_)
            refine lv_iload_n hx hb dX0_till_77 rfl (lv_at hl 0 rfl) ?_
            exact hret ((10 * r_36) + (sa (32 + 2 * 3 + 1))) ((upN tl 3 q2_71), er, [(q2_71, .inr ((tcn (nn km / 10)), [.int (nI 3), .int (nI (nn km % 10))]))]) (⟨by rw [till_, if_pos hbc]; show _ = 10 * sa (32 + 2 * nn (nI 3)) + sa (32 + 2 * nn (nI 3) + 1); rw [hnn, hq_36, (hI.kd (k := 3) hk0).1, hw]; rfl, by simp only [till_, if_pos hbc], by rw [till_, if_pos hbc]; show TLS _ (upd (upd sa (32 + 2 * nn (nI 3)) _) (32 + 2 * nn (nI 3) + 1) _) _; rw [hnn]; exact TLS_new hTL hk0 (by omega) (List.mem_of_getElem? (i := 0) rfl)⟩) (rfl) hP hD hS (Nat.le_refl _) (Nat.le_refl _) dX0_till_78
      · -- fall 20
        have hbc : ¬ (inB til 0 3 && inB km 0 69) = true := by rw [Bool.eq_false_iff.2 (km_n (Or.inr (Int32.not_le.1 c_17))), Bool.and_false]; exact Bool.false_ne_true
        refine lv_aload_n hx hb dX0_till_20 rfl (lv_at hl 0 rfl) ?_
        refine lv_iconst (v := 1) hx hb dX0_till_21 rfl ?_
        refine fx_ci (va_runV (As := [.int 1]) (rest := []) X (xX0_finds l E ax im bn bm fm ff fl er 1 (by decide) _) (cwV 1 X.2.2.2.2 (lw_V q303 q305 qs0 q69 q306) rfl rfl rfl ⟨rfl, hdX0_finds⟩ ⟨Nat.le_of_ble_eq_true rfl, Nat.le_of_ble_eq_true rfl⟩) (fx_preV (fx_pre hE hP hD hS hR [4] rfl rfl (fx_rcr 0 rfl fx_rc0)) (va_recv hE.1 (hR.at hS) (ci := 0) (q0 := 0) rfl rfl)) rfl rfl hl.1 rfl (lv_room (Nat.le_of_ble_eq_true rfl)) dX0_till_22 ⟨Nat.le_of_ble_eq_true rfl, Nat.le_of_ble_eq_true rfl⟩) hP hD hS hA [4] rfl rfl (fun r_22 u H locs hq_22 hP hD hS => ?_)
        replace hP : va_P E.1 clA [(ax 36, .inr (2, [.ref (tl 0)])), (ax 37, .inr (2, [.ref (tl 1)])), (ax 38, .inr (2, [.ref (tl 2)])), (ax 39, .inr (2, [.ref (tl 3)])), (ax 5, .inl (E.2 0, 7, .inl (upd er 1 (er 1 + 1))))] _ := hP
        replace hD : va_D A [(ax 36, .inr (2, [.ref (tl 0)])), (ax 37, .inr (2, [.ref (tl 1)])), (ax 38, .inr (2, [.ref (tl 2)])), (ax 39, .inr (2, [.ref (tl 3)])), (ax 5, .inl (E.2 0, 7, .inl (upd er 1 (er 1 + 1))))] := hD
        replace hq_22 : r_22 = erv 1 := hq_22
        exact hret r_22 (tl, (upd er 1 (er 1 + 1)), []) (⟨by rw [hq_22, till_, if_neg hbc], by simp only [till_, if_neg hbc]; rfl, by simp only [till_, if_neg hbc]; exact TLS_app hTL⟩) (rfl) hP hD hS (Nat.le_of_ble_eq_true rfl) (Nat.le_of_ble_eq_true rfl) dX0_till_25
  · -- False
    subst hr_1
    have hbc : ¬ (inB til 0 3 && inB km 0 69) = true := by rw [Bool.eq_false_iff.2 hb_1]; exact Bool.false_ne_true
    refine lv_if_eq (tgt := 20) hx hb dX0_till_4 (by decide) (fun _ => ?_) (fun c => (c (by decide)).elim)
    refine lv_aload_n hx hb dX0_till_20 rfl (lv_at hl 0 rfl) ?_
    refine lv_iconst (v := 1) hx hb dX0_till_21 rfl ?_
    refine fx_ci (va_runV (As := [.int 1]) (rest := []) X (xX0_finds l E ax im bn bm fm ff fl er 1 (by decide) _) (cwV 1 X.2.2.2.2 (lw_V q303 q305 qs0 q69 q306) rfl rfl rfl ⟨rfl, hdX0_finds⟩ ⟨Nat.le_of_ble_eq_true rfl, Nat.le_of_ble_eq_true rfl⟩) (fx_preV (fx_pre hE hP hD hS hR [4] rfl rfl (fx_rcr 0 rfl fx_rc0)) (va_recv hE.1 (hR.at hS) (ci := 0) (q0 := 0) rfl rfl)) rfl rfl hl.1 rfl (lv_room (Nat.le_of_ble_eq_true rfl)) dX0_till_22 ⟨Nat.le_of_ble_eq_true rfl, Nat.le_of_ble_eq_true rfl⟩) hP hD hS hA [4] rfl rfl (fun r_22 u H locs hq_22 hP hD hS => ?_)
    replace hP : va_P E.1 clA [(ax 36, .inr (2, [.ref (tl 0)])), (ax 37, .inr (2, [.ref (tl 1)])), (ax 38, .inr (2, [.ref (tl 2)])), (ax 39, .inr (2, [.ref (tl 3)])), (ax 5, .inl (E.2 0, 7, .inl (upd er 1 (er 1 + 1))))] _ := hP
    replace hD : va_D A [(ax 36, .inr (2, [.ref (tl 0)])), (ax 37, .inr (2, [.ref (tl 1)])), (ax 38, .inr (2, [.ref (tl 2)])), (ax 39, .inr (2, [.ref (tl 3)])), (ax 5, .inl (E.2 0, 7, .inl (upd er 1 (er 1 + 1))))] := hD
    replace hq_22 : r_22 = erv 1 := hq_22
    exact hret r_22 (tl, (upd er 1 (er 1 + 1)), []) (⟨by rw [hq_22, till_, if_neg hbc], by simp only [till_, if_neg hbc]; rfl, by simp only [till_, if_neg hbc]; exact TLS_app hTL⟩) (rfl) hP hD hS (Nat.le_of_ble_eq_true rfl) (Nat.le_of_ble_eq_true rfl) dX0_till_25
