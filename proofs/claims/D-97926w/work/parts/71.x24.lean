set_option maxRecDepth 100000
theorem hdX3_adds : yX3_adds.cls ≠ "java/lang/invoke/MethodHandle" ∧ yX3_adds.cls ≠ "java/lang/invoke/VarHandle" ∧ (parseMethodDescriptor yX3_adds.desc).map (fun d => d.parameters.length) = some 2 := by decide +kernel
theorem hdX7_adds : yX7_adds.cls ≠ "java/lang/invoke/MethodHandle" ∧ yX7_adds.cls ≠ "java/lang/invoke/VarHandle" ∧ (parseMethodDescriptor yX7_adds.desc).map (fun d => d.parameters.length) = some 2 := by decide +kernel
theorem hdX11_adds : yX11_adds.cls ≠ "java/lang/invoke/MethodHandle" ∧ yX11_adds.cls ≠ "java/lang/invoke/VarHandle" ∧ (parseMethodDescriptor yX11_adds.desc).map (fun d => d.parameters.length) = some 2 := by decide +kernel
theorem hdX12_adds : yX12_adds.cls ≠ "java/lang/invoke/MethodHandle" ∧ yX12_adds.cls ≠ "java/lang/invoke/VarHandle" ∧ (parseMethodDescriptor yX12_adds.desc).map (fun d => d.parameters.length) = some 2 := by decide +kernel
theorem hdX16_comes : yX16_comes.cls ≠ "java/lang/invoke/MethodHandle" ∧ yX16_comes.cls ≠ "java/lang/invoke/VarHandle" ∧ (parseMethodDescriptor yX16_comes.desc).map (fun d => d.parameters.length) = some 2 := by decide +kernel
theorem hdX8_comes : yX8_comes.cls ≠ "java/lang/invoke/MethodHandle" ∧ yX8_comes.cls ≠ "java/lang/invoke/VarHandle" ∧ (parseMethodDescriptor yX8_comes.desc).map (fun d => d.parameters.length) = some 2 := by decide +kernel
theorem hdX10_comes : yX10_comes.cls ≠ "java/lang/invoke/MethodHandle" ∧ yX10_comes.cls ≠ "java/lang/invoke/VarHandle" ∧ (parseMethodDescriptor yX10_comes.desc).map (fun d => d.parameters.length) = some 2 := by decide +kernel
theorem hdX12_comes : yX12_comes.cls ≠ "java/lang/invoke/MethodHandle" ∧ yX12_comes.cls ≠ "java/lang/invoke/VarHandle" ∧ (parseMethodDescriptor yX12_comes.desc).map (fun d => d.parameters.length) = some 2 := by decide +kernel
theorem hdX3_gives : yX3_gives.cls ≠ "java/lang/invoke/MethodHandle" ∧ yX3_gives.cls ≠ "java/lang/invoke/VarHandle" ∧ (parseMethodDescriptor yX3_gives.desc).map (fun d => d.parameters.length) = some 2 := by decide +kernel
theorem hdX9_gives : yX9_gives.cls ≠ "java/lang/invoke/MethodHandle" ∧ yX9_gives.cls ≠ "java/lang/invoke/VarHandle" ∧ (parseMethodDescriptor yX9_gives.desc).map (fun d => d.parameters.length) = some 2 := by decide +kernel
theorem hdX11_gives : yX11_gives.cls ≠ "java/lang/invoke/MethodHandle" ∧ yX11_gives.cls ≠ "java/lang/invoke/VarHandle" ∧ (parseMethodDescriptor yX11_gives.desc).map (fun d => d.parameters.length) = some 2 := by decide +kernel
abbrev rxX3_adds_3 : Room := { frames := 1, cells := 0, slots := 0, locals := 21 }
set_option maxHeartbeats 400000 in
set_option maxRecDepth 100000 in
theorem xX3_adds_3 (l : Launch) (E : fx_En) (ax : Nat → Nat) (th : Nat) (nb : Int32) (mm : Int32) (tr : Nat → Int32) (tn : Nat) (xv : Int32) (htn : tn ≤ 30) : fx_Mi l yX3_adds cX3_adds 3 .int rxX3_adds_3 E [.ref th, .int xv, .ref (ax 4)] [(ax 4, .inr (4, [.ref (ax 60), .int (nI tn)])), (ax 60, .inl (E.2 1, 30, .inl tr))] [(th, .inr (3, [.int nb, .int mm]))] (S := (Nat → Int32) × Nat) (fun (u : (Nat → Int32) × Nat) => [(ax 4, .inr (4, [.ref (ax 60), .int (nI u.2)])), (ax 60, .inl (E.2 1, 30, .inl u.1))]) (fun (r : Int32) (u : (Nat → Int32) × Nat) => r = addsV 0 nb xv ∧ (u.1, u.2) = bgL (tr, tn) (addsB 0)) := by
  refine fx_iW rfl rfl ?_
  intro p e s m args below meth c A ls Q X hE hP hD hR hA hl hret
  have hx := X.1
  have hb := X.2.1
  have hS : va_S A s.heap s.heap [] := va_S.rf
  replace hP : va_P E.1 clA [(ax 4, .inr (4, [.ref (ax 60), .int (nI tn)])), (ax 60, .inl (E.2 1, 30, .inl tr))] _ := hP
  replace hD : va_D A [(ax 4, .inr (4, [.ref (ax 60), .int (nI tn)])), (ax 60, .inl (E.2 1, 30, .inl tr))] := hD
  replace hl : lv_has ls 3 [(0, .ref th), (1, .int xv), (2, .ref (ax 4))] := hl
  refine lv_aload_n hx hb dX3_adds_0 rfl (lv_at hl 2 rfl) ?_
  refine lv_bipush (v := 10) hx hb dX3_adds_1 rfl ?_
  refine fx_cv (va_runV (As := [.int 10]) (rest := []) X (xX4_ran l E ax tr tn 10 (by first | assumption | omega) (by decide) _) (cwV 1 X.2.2.2.2 (lw_V q989 q980 q981 q73 q982) rfl rfl rfl ⟨rfl, hdX4_ran⟩ ⟨Nat.le_of_ble_eq_true rfl, Nat.le_of_ble_eq_true rfl⟩) (fx_preV (fx_pre hE hP hD hS hR [0, 1] rfl rfl fx_rc0) (va_recv hE.1 hP (ci := 4) (q0 := 0) rfl rfl)) rfl rfl hl.1 rfl (lv_room (Nat.le_of_ble_eq_true rfl)) dX3_adds_3 ⟨Nat.le_refl _, Nat.le_refl _⟩) hP hD hS hA [0, 1] rfl rfl (fun u H locs hq_3 hP hD hS => ?_)
  obtain ⟨tr2_3, tn2_3⟩ := u
  replace hP : va_P E.1 clA [(ax 4, .inr (4, [.ref (ax 60), .int (nI tn2_3)])), (ax 60, .inl (E.2 1, 30, .inl tr2_3))] _ := hP
  replace hD : va_D A [(ax 4, .inr (4, [.ref (ax 60), .int (nI tn2_3)])), (ax 60, .inl (E.2 1, 30, .inl tr2_3))] := hD
  replace hq_3 : (tr2_3, tn2_3) = bg (tr, tn) 10 := hq_3
  have ht_3 : tn2_3 ≤ 30 := trc_le hq_3 (bg_le htn)
  refine lv_iload_n hx hb dX3_adds_6 rfl (lv_at hl 1 rfl) ?_
  refine lv_aload_n hx hb dX3_adds_7 rfl (lv_at hl 0 rfl) ?_
  refine fx_get X hE (hR.at hS) 0 rfl rfl 0 rfl q134 rfl rfl dX3_adds_8 ?_
  refine lv_iadd hx hb dX3_adds_11 ?_
  exact hret (xv + nb) (tr2_3, tn2_3) (⟨rfl, hq_3⟩) (rfl) hP hD hS (Nat.le_refl _) (Nat.le_refl _) dX3_adds_12
abbrev rxX3_adds_7 : Room := { frames := 1, cells := 0, slots := 0, locals := 21 }
set_option maxHeartbeats 400000 in
set_option maxRecDepth 100000 in
theorem xX3_adds_7 (l : Launch) (E : fx_En) (ax : Nat → Nat) (th : Nat) (nb : Int32) (mm : Int32) (tr : Nat → Int32) (tn : Nat) (xv : Int32) (htn : tn ≤ 30) : fx_Mi l yX3_adds cX3_adds 3 .int rxX3_adds_7 E [.ref th, .int xv, .ref (ax 4)] [(ax 4, .inr (4, [.ref (ax 60), .int (nI tn)])), (ax 60, .inl (E.2 1, 30, .inl tr))] [(th, .inr (7, [.int nb, .int mm]))] (S := (Nat → Int32) × Nat) (fun (u : (Nat → Int32) × Nat) => [(ax 4, .inr (4, [.ref (ax 60), .int (nI u.2)])), (ax 60, .inl (E.2 1, 30, .inl u.1))]) (fun (r : Int32) (u : (Nat → Int32) × Nat) => r = addsV 0 nb xv ∧ (u.1, u.2) = bgL (tr, tn) (addsB 0)) := by
  refine fx_iW rfl rfl ?_
  intro p e s m args below meth c A ls Q X hE hP hD hR hA hl hret
  have hx := X.1
  have hb := X.2.1
  have hS : va_S A s.heap s.heap [] := va_S.rf
  replace hP : va_P E.1 clA [(ax 4, .inr (4, [.ref (ax 60), .int (nI tn)])), (ax 60, .inl (E.2 1, 30, .inl tr))] _ := hP
  replace hD : va_D A [(ax 4, .inr (4, [.ref (ax 60), .int (nI tn)])), (ax 60, .inl (E.2 1, 30, .inl tr))] := hD
  replace hl : lv_has ls 3 [(0, .ref th), (1, .int xv), (2, .ref (ax 4))] := hl
  refine lv_aload_n hx hb dX3_adds_0 rfl (lv_at hl 2 rfl) ?_
  refine lv_bipush (v := 10) hx hb dX3_adds_1 rfl ?_
  refine fx_cv (va_runV (As := [.int 10]) (rest := []) X (xX4_ran l E ax tr tn 10 (by first | assumption | omega) (by decide) _) (cwV 1 X.2.2.2.2 (lw_V q989 q980 q981 q73 q982) rfl rfl rfl ⟨rfl, hdX4_ran⟩ ⟨Nat.le_of_ble_eq_true rfl, Nat.le_of_ble_eq_true rfl⟩) (fx_preV (fx_pre hE hP hD hS hR [0, 1] rfl rfl fx_rc0) (va_recv hE.1 hP (ci := 4) (q0 := 0) rfl rfl)) rfl rfl hl.1 rfl (lv_room (Nat.le_of_ble_eq_true rfl)) dX3_adds_3 ⟨Nat.le_refl _, Nat.le_refl _⟩) hP hD hS hA [0, 1] rfl rfl (fun u H locs hq_3 hP hD hS => ?_)
  obtain ⟨tr2_3, tn2_3⟩ := u
  replace hP : va_P E.1 clA [(ax 4, .inr (4, [.ref (ax 60), .int (nI tn2_3)])), (ax 60, .inl (E.2 1, 30, .inl tr2_3))] _ := hP
  replace hD : va_D A [(ax 4, .inr (4, [.ref (ax 60), .int (nI tn2_3)])), (ax 60, .inl (E.2 1, 30, .inl tr2_3))] := hD
  replace hq_3 : (tr2_3, tn2_3) = bg (tr, tn) 10 := hq_3
  have ht_3 : tn2_3 ≤ 30 := trc_le hq_3 (bg_le htn)
  refine lv_iload_n hx hb dX3_adds_6 rfl (lv_at hl 1 rfl) ?_
  refine lv_aload_n hx hb dX3_adds_7 rfl (lv_at hl 0 rfl) ?_
  refine fx_get X hE (hR.at hS) 0 rfl rfl 0 rfl q134 rfl rfl dX3_adds_8 ?_
  refine lv_iadd hx hb dX3_adds_11 ?_
  exact hret (xv + nb) (tr2_3, tn2_3) (⟨rfl, hq_3⟩) (rfl) hP hD hS (Nat.le_refl _) (Nat.le_refl _) dX3_adds_12
abbrev rxX7_adds_7 : Room := { frames := 2, cells := 0, slots := 0, locals := 43 }
set_option maxHeartbeats 400000 in
set_option maxRecDepth 100000 in
theorem xX7_adds_7 (l : Launch) (E : fx_En) (ax : Nat → Nat) (th : Nat) (nb : Int32) (mm : Int32) (tr : Nat → Int32) (tn : Nat) (xv : Int32) (htn : tn ≤ 30) : fx_Mi l yX7_adds cX7_adds 3 .int rxX7_adds_7 E [.ref th, .int xv, .ref (ax 4)] [(ax 4, .inr (4, [.ref (ax 60), .int (nI tn)])), (ax 60, .inl (E.2 1, 30, .inl tr))] [(th, .inr (7, [.int nb, .int mm]))] (S := (Nat → Int32) × Nat) (fun (u : (Nat → Int32) × Nat) => [(ax 4, .inr (4, [.ref (ax 60), .int (nI u.2)])), (ax 60, .inl (E.2 1, 30, .inl u.1))]) (fun (r : Int32) (u : (Nat → Int32) × Nat) => r = addsV 1 nb xv ∧ (u.1, u.2) = bgL (tr, tn) (addsB 1)) := by
  refine fx_iW rfl rfl ?_
  intro p e s m args below meth c A ls Q X hE hP hD hR hA hl hret
  have hx := X.1
  have hb := X.2.1
  have hS : va_S A s.heap s.heap [] := va_S.rf
  replace hP : va_P E.1 clA [(ax 4, .inr (4, [.ref (ax 60), .int (nI tn)])), (ax 60, .inl (E.2 1, 30, .inl tr))] _ := hP
  replace hD : va_D A [(ax 4, .inr (4, [.ref (ax 60), .int (nI tn)])), (ax 60, .inl (E.2 1, 30, .inl tr))] := hD
  replace hl : lv_has ls 3 [(0, .ref th), (1, .int xv), (2, .ref (ax 4))] := hl
  refine lv_aload_n hx hb dX7_adds_0 rfl (lv_at hl 2 rfl) ?_
  refine lv_bipush (v := 20) hx hb dX7_adds_1 rfl ?_
  refine fx_cv (va_runV (As := [.int 20]) (rest := []) X (xX4_ran l E ax tr tn 20 (by first | assumption | omega) (by decide) _) (cwV 1 X.2.2.2.2 (lw_V q986 q980 q981 q73 q982) rfl rfl rfl ⟨rfl, hdX4_ran⟩ ⟨Nat.le_of_ble_eq_true rfl, Nat.le_of_ble_eq_true rfl⟩) (fx_preV (fx_pre hE hP hD hS hR [0, 1] rfl rfl fx_rc0) (va_recv hE.1 hP (ci := 4) (q0 := 0) rfl rfl)) rfl rfl hl.1 rfl (lv_room (Nat.le_of_ble_eq_true rfl)) dX7_adds_3 ⟨Nat.le_refl _, Nat.le_refl _⟩) hP hD hS hA [0, 1] rfl rfl (fun u H locs hq_3 hP hD hS => ?_)
  obtain ⟨tr2_3, tn2_3⟩ := u
  replace hP : va_P E.1 clA [(ax 4, .inr (4, [.ref (ax 60), .int (nI tn2_3)])), (ax 60, .inl (E.2 1, 30, .inl tr2_3))] _ := hP
  replace hD : va_D A [(ax 4, .inr (4, [.ref (ax 60), .int (nI tn2_3)])), (ax 60, .inl (E.2 1, 30, .inl tr2_3))] := hD
  replace hq_3 : (tr2_3, tn2_3) = bg (tr, tn) 20 := hq_3
  have ht_3 : tn2_3 ≤ 30 := trc_le hq_3 (bg_le htn)
  refine lv_aload_n hx hb dX7_adds_6 rfl (lv_at hl 0 rfl) ?_
  refine lv_iload_n hx hb dX7_adds_7 rfl (lv_at hl 1 rfl) ?_
  refine lv_aload_n hx hb dX7_adds_8 rfl (lv_at hl 2 rfl) ?_
  refine fx_ci (va_runSU (As := [.int xv, .ref (ax 4)]) (rest := []) (hE.1.1 7 _ rfl).2 X (xX3_adds_7 l E ax th nb mm tr2_3 tn2_3 xv (by first | assumption | omega) _) (va_cwSU 2 X.2.2.2.2 (lw_SU q987 q974 q361 q972 q72 q988) rfl rfl rfl ⟨by decide, hdX3_adds.2.2⟩ ⟨Nat.le_of_ble_eq_true rfl, Nat.le_of_ble_eq_true rfl⟩) (fx_preV (fx_pre hE hP hD hS hR [0, 1] rfl rfl (fx_rcr 0 rfl fx_rc0)) (va_recv hE.1 (hR.at hS) (ci := 7) (q0 := 0) rfl rfl)) rfl rfl hl.1 rfl (lv_room (Nat.le_of_ble_eq_true rfl)) dX7_adds_9 ⟨Nat.le_refl _, Nat.le_refl _⟩) hP hD hS hA [0, 1] rfl rfl (fun r_9 u H locs hq_9 hP hD hS => ?_)
  obtain ⟨tr2_9, tn2_9⟩ := u
  replace hP : va_P E.1 clA [(ax 4, .inr (4, [.ref (ax 60), .int (nI tn2_9)])), (ax 60, .inl (E.2 1, 30, .inl tr2_9))] _ := hP
  replace hD : va_D A [(ax 4, .inr (4, [.ref (ax 60), .int (nI tn2_9)])), (ax 60, .inl (E.2 1, 30, .inl tr2_9))] := hD
  replace hq_9 : r_9 = addsV 0 nb xv ∧ (tr2_9, tn2_9) = bgL (tr2_3, tn2_3) (addsB 0) := hq_9
  refine lv_bipush (v := 9) hx hb dX7_adds_12 rfl ?_
  refine lv_isub hx hb dX7_adds_14 ?_
  exact hret (r_9 - 9) (tr2_9, tn2_9) (⟨by rw [hq_9.1]; rfl, by rw [hq_9.2, hq_3]; rfl⟩) (rfl) hP hD hS (Nat.le_refl _) (Nat.le_refl _) dX7_adds_15
abbrev rxX3_adds_8 : Room := { frames := 1, cells := 0, slots := 0, locals := 21 }
set_option maxHeartbeats 400000 in
set_option maxRecDepth 100000 in
theorem xX3_adds_8 (l : Launch) (E : fx_En) (ax : Nat → Nat) (th : Nat) (nb : Int32) (mm : Int32) (tr : Nat → Int32) (tn : Nat) (xv : Int32) (htn : tn ≤ 30) : fx_Mi l yX3_adds cX3_adds 3 .int rxX3_adds_8 E [.ref th, .int xv, .ref (ax 4)] [(ax 4, .inr (4, [.ref (ax 60), .int (nI tn)])), (ax 60, .inl (E.2 1, 30, .inl tr))] [(th, .inr (8, [.int nb, .int mm]))] (S := (Nat → Int32) × Nat) (fun (u : (Nat → Int32) × Nat) => [(ax 4, .inr (4, [.ref (ax 60), .int (nI u.2)])), (ax 60, .inl (E.2 1, 30, .inl u.1))]) (fun (r : Int32) (u : (Nat → Int32) × Nat) => r = addsV 0 nb xv ∧ (u.1, u.2) = bgL (tr, tn) (addsB 0)) := by
  refine fx_iW rfl rfl ?_
  intro p e s m args below meth c A ls Q X hE hP hD hR hA hl hret
  have hx := X.1
  have hb := X.2.1
  have hS : va_S A s.heap s.heap [] := va_S.rf
  replace hP : va_P E.1 clA [(ax 4, .inr (4, [.ref (ax 60), .int (nI tn)])), (ax 60, .inl (E.2 1, 30, .inl tr))] _ := hP
  replace hD : va_D A [(ax 4, .inr (4, [.ref (ax 60), .int (nI tn)])), (ax 60, .inl (E.2 1, 30, .inl tr))] := hD
  replace hl : lv_has ls 3 [(0, .ref th), (1, .int xv), (2, .ref (ax 4))] := hl
  refine lv_aload_n hx hb dX3_adds_0 rfl (lv_at hl 2 rfl) ?_
  refine lv_bipush (v := 10) hx hb dX3_adds_1 rfl ?_
  refine fx_cv (va_runV (As := [.int 10]) (rest := []) X (xX4_ran l E ax tr tn 10 (by first | assumption | omega) (by decide) _) (cwV 1 X.2.2.2.2 (lw_V q989 q980 q981 q73 q982) rfl rfl rfl ⟨rfl, hdX4_ran⟩ ⟨Nat.le_of_ble_eq_true rfl, Nat.le_of_ble_eq_true rfl⟩) (fx_preV (fx_pre hE hP hD hS hR [0, 1] rfl rfl fx_rc0) (va_recv hE.1 hP (ci := 4) (q0 := 0) rfl rfl)) rfl rfl hl.1 rfl (lv_room (Nat.le_of_ble_eq_true rfl)) dX3_adds_3 ⟨Nat.le_refl _, Nat.le_refl _⟩) hP hD hS hA [0, 1] rfl rfl (fun u H locs hq_3 hP hD hS => ?_)
  obtain ⟨tr2_3, tn2_3⟩ := u
  replace hP : va_P E.1 clA [(ax 4, .inr (4, [.ref (ax 60), .int (nI tn2_3)])), (ax 60, .inl (E.2 1, 30, .inl tr2_3))] _ := hP
  replace hD : va_D A [(ax 4, .inr (4, [.ref (ax 60), .int (nI tn2_3)])), (ax 60, .inl (E.2 1, 30, .inl tr2_3))] := hD
  replace hq_3 : (tr2_3, tn2_3) = bg (tr, tn) 10 := hq_3
  have ht_3 : tn2_3 ≤ 30 := trc_le hq_3 (bg_le htn)
  refine lv_iload_n hx hb dX3_adds_6 rfl (lv_at hl 1 rfl) ?_
  refine lv_aload_n hx hb dX3_adds_7 rfl (lv_at hl 0 rfl) ?_
  refine fx_get X hE (hR.at hS) 0 rfl rfl 0 rfl q134 rfl rfl dX3_adds_8 ?_
  refine lv_iadd hx hb dX3_adds_11 ?_
  exact hret (xv + nb) (tr2_3, tn2_3) (⟨rfl, hq_3⟩) (rfl) hP hD hS (Nat.le_refl _) (Nat.le_refl _) dX3_adds_12
abbrev rxX3_adds_9 : Room := { frames := 1, cells := 0, slots := 0, locals := 21 }
set_option maxHeartbeats 400000 in
set_option maxRecDepth 100000 in
theorem xX3_adds_9 (l : Launch) (E : fx_En) (ax : Nat → Nat) (th : Nat) (nb : Int32) (mm : Int32) (tr : Nat → Int32) (tn : Nat) (xv : Int32) (htn : tn ≤ 30) : fx_Mi l yX3_adds cX3_adds 3 .int rxX3_adds_9 E [.ref th, .int xv, .ref (ax 4)] [(ax 4, .inr (4, [.ref (ax 60), .int (nI tn)])), (ax 60, .inl (E.2 1, 30, .inl tr))] [(th, .inr (9, [.int nb, .int mm]))] (S := (Nat → Int32) × Nat) (fun (u : (Nat → Int32) × Nat) => [(ax 4, .inr (4, [.ref (ax 60), .int (nI u.2)])), (ax 60, .inl (E.2 1, 30, .inl u.1))]) (fun (r : Int32) (u : (Nat → Int32) × Nat) => r = addsV 0 nb xv ∧ (u.1, u.2) = bgL (tr, tn) (addsB 0)) := by
  refine fx_iW rfl rfl ?_
  intro p e s m args below meth c A ls Q X hE hP hD hR hA hl hret
  have hx := X.1
  have hb := X.2.1
  have hS : va_S A s.heap s.heap [] := va_S.rf
  replace hP : va_P E.1 clA [(ax 4, .inr (4, [.ref (ax 60), .int (nI tn)])), (ax 60, .inl (E.2 1, 30, .inl tr))] _ := hP
  replace hD : va_D A [(ax 4, .inr (4, [.ref (ax 60), .int (nI tn)])), (ax 60, .inl (E.2 1, 30, .inl tr))] := hD
  replace hl : lv_has ls 3 [(0, .ref th), (1, .int xv), (2, .ref (ax 4))] := hl
  refine lv_aload_n hx hb dX3_adds_0 rfl (lv_at hl 2 rfl) ?_
  refine lv_bipush (v := 10) hx hb dX3_adds_1 rfl ?_
  refine fx_cv (va_runV (As := [.int 10]) (rest := []) X (xX4_ran l E ax tr tn 10 (by first | assumption | omega) (by decide) _) (cwV 1 X.2.2.2.2 (lw_V q989 q980 q981 q73 q982) rfl rfl rfl ⟨rfl, hdX4_ran⟩ ⟨Nat.le_of_ble_eq_true rfl, Nat.le_of_ble_eq_true rfl⟩) (fx_preV (fx_pre hE hP hD hS hR [0, 1] rfl rfl fx_rc0) (va_recv hE.1 hP (ci := 4) (q0 := 0) rfl rfl)) rfl rfl hl.1 rfl (lv_room (Nat.le_of_ble_eq_true rfl)) dX3_adds_3 ⟨Nat.le_refl _, Nat.le_refl _⟩) hP hD hS hA [0, 1] rfl rfl (fun u H locs hq_3 hP hD hS => ?_)
  obtain ⟨tr2_3, tn2_3⟩ := u
  replace hP : va_P E.1 clA [(ax 4, .inr (4, [.ref (ax 60), .int (nI tn2_3)])), (ax 60, .inl (E.2 1, 30, .inl tr2_3))] _ := hP
  replace hD : va_D A [(ax 4, .inr (4, [.ref (ax 60), .int (nI tn2_3)])), (ax 60, .inl (E.2 1, 30, .inl tr2_3))] := hD
  replace hq_3 : (tr2_3, tn2_3) = bg (tr, tn) 10 := hq_3
  have ht_3 : tn2_3 ≤ 30 := trc_le hq_3 (bg_le htn)
  refine lv_iload_n hx hb dX3_adds_6 rfl (lv_at hl 1 rfl) ?_
  refine lv_aload_n hx hb dX3_adds_7 rfl (lv_at hl 0 rfl) ?_
  refine fx_get X hE (hR.at hS) 0 rfl rfl 0 rfl q134 rfl rfl dX3_adds_8 ?_
  refine lv_iadd hx hb dX3_adds_11 ?_
  exact hret (xv + nb) (tr2_3, tn2_3) (⟨rfl, hq_3⟩) (rfl) hP hD hS (Nat.le_refl _) (Nat.le_refl _) dX3_adds_12
abbrev rxX3_adds_10 : Room := { frames := 1, cells := 0, slots := 0, locals := 21 }
set_option maxHeartbeats 400000 in
set_option maxRecDepth 100000 in
theorem xX3_adds_10 (l : Launch) (E : fx_En) (ax : Nat → Nat) (th : Nat) (nb : Int32) (mm : Int32) (tr : Nat → Int32) (tn : Nat) (xv : Int32) (htn : tn ≤ 30) : fx_Mi l yX3_adds cX3_adds 3 .int rxX3_adds_10 E [.ref th, .int xv, .ref (ax 4)] [(ax 4, .inr (4, [.ref (ax 60), .int (nI tn)])), (ax 60, .inl (E.2 1, 30, .inl tr))] [(th, .inr (10, [.int nb, .int mm]))] (S := (Nat → Int32) × Nat) (fun (u : (Nat → Int32) × Nat) => [(ax 4, .inr (4, [.ref (ax 60), .int (nI u.2)])), (ax 60, .inl (E.2 1, 30, .inl u.1))]) (fun (r : Int32) (u : (Nat → Int32) × Nat) => r = addsV 0 nb xv ∧ (u.1, u.2) = bgL (tr, tn) (addsB 0)) := by
  refine fx_iW rfl rfl ?_
  intro p e s m args below meth c A ls Q X hE hP hD hR hA hl hret
  have hx := X.1
  have hb := X.2.1
  have hS : va_S A s.heap s.heap [] := va_S.rf
  replace hP : va_P E.1 clA [(ax 4, .inr (4, [.ref (ax 60), .int (nI tn)])), (ax 60, .inl (E.2 1, 30, .inl tr))] _ := hP
  replace hD : va_D A [(ax 4, .inr (4, [.ref (ax 60), .int (nI tn)])), (ax 60, .inl (E.2 1, 30, .inl tr))] := hD
  replace hl : lv_has ls 3 [(0, .ref th), (1, .int xv), (2, .ref (ax 4))] := hl
  refine lv_aload_n hx hb dX3_adds_0 rfl (lv_at hl 2 rfl) ?_
  refine lv_bipush (v := 10) hx hb dX3_adds_1 rfl ?_
  refine fx_cv (va_runV (As := [.int 10]) (rest := []) X (xX4_ran l E ax tr tn 10 (by first | assumption | omega) (by decide) _) (cwV 1 X.2.2.2.2 (lw_V q989 q980 q981 q73 q982) rfl rfl rfl ⟨rfl, hdX4_ran⟩ ⟨Nat.le_of_ble_eq_true rfl, Nat.le_of_ble_eq_true rfl⟩) (fx_preV (fx_pre hE hP hD hS hR [0, 1] rfl rfl fx_rc0) (va_recv hE.1 hP (ci := 4) (q0 := 0) rfl rfl)) rfl rfl hl.1 rfl (lv_room (Nat.le_of_ble_eq_true rfl)) dX3_adds_3 ⟨Nat.le_refl _, Nat.le_refl _⟩) hP hD hS hA [0, 1] rfl rfl (fun u H locs hq_3 hP hD hS => ?_)
  obtain ⟨tr2_3, tn2_3⟩ := u
  replace hP : va_P E.1 clA [(ax 4, .inr (4, [.ref (ax 60), .int (nI tn2_3)])), (ax 60, .inl (E.2 1, 30, .inl tr2_3))] _ := hP
  replace hD : va_D A [(ax 4, .inr (4, [.ref (ax 60), .int (nI tn2_3)])), (ax 60, .inl (E.2 1, 30, .inl tr2_3))] := hD
  replace hq_3 : (tr2_3, tn2_3) = bg (tr, tn) 10 := hq_3
  have ht_3 : tn2_3 ≤ 30 := trc_le hq_3 (bg_le htn)
  refine lv_iload_n hx hb dX3_adds_6 rfl (lv_at hl 1 rfl) ?_
  refine lv_aload_n hx hb dX3_adds_7 rfl (lv_at hl 0 rfl) ?_
  refine fx_get X hE (hR.at hS) 0 rfl rfl 0 rfl q134 rfl rfl dX3_adds_8 ?_
  refine lv_iadd hx hb dX3_adds_11 ?_
  exact hret (xv + nb) (tr2_3, tn2_3) (⟨rfl, hq_3⟩) (rfl) hP hD hS (Nat.le_refl _) (Nat.le_refl _) dX3_adds_12
abbrev rxX3_adds_11 : Room := { frames := 1, cells := 0, slots := 0, locals := 21 }
set_option maxHeartbeats 400000 in
set_option maxRecDepth 100000 in
theorem xX3_adds_11 (l : Launch) (E : fx_En) (ax : Nat → Nat) (th : Nat) (nb : Int32) (mm : Int32) (tr : Nat → Int32) (tn : Nat) (xv : Int32) (htn : tn ≤ 30) : fx_Mi l yX3_adds cX3_adds 3 .int rxX3_adds_11 E [.ref th, .int xv, .ref (ax 4)] [(ax 4, .inr (4, [.ref (ax 60), .int (nI tn)])), (ax 60, .inl (E.2 1, 30, .inl tr))] [(th, .inr (11, [.int nb, .int mm]))] (S := (Nat → Int32) × Nat) (fun (u : (Nat → Int32) × Nat) => [(ax 4, .inr (4, [.ref (ax 60), .int (nI u.2)])), (ax 60, .inl (E.2 1, 30, .inl u.1))]) (fun (r : Int32) (u : (Nat → Int32) × Nat) => r = addsV 0 nb xv ∧ (u.1, u.2) = bgL (tr, tn) (addsB 0)) := by
  refine fx_iW rfl rfl ?_
  intro p e s m args below meth c A ls Q X hE hP hD hR hA hl hret
  have hx := X.1
  have hb := X.2.1
  have hS : va_S A s.heap s.heap [] := va_S.rf
  replace hP : va_P E.1 clA [(ax 4, .inr (4, [.ref (ax 60), .int (nI tn)])), (ax 60, .inl (E.2 1, 30, .inl tr))] _ := hP
  replace hD : va_D A [(ax 4, .inr (4, [.ref (ax 60), .int (nI tn)])), (ax 60, .inl (E.2 1, 30, .inl tr))] := hD
  replace hl : lv_has ls 3 [(0, .ref th), (1, .int xv), (2, .ref (ax 4))] := hl
  refine lv_aload_n hx hb dX3_adds_0 rfl (lv_at hl 2 rfl) ?_
  refine lv_bipush (v := 10) hx hb dX3_adds_1 rfl ?_
  refine fx_cv (va_runV (As := [.int 10]) (rest := []) X (xX4_ran l E ax tr tn 10 (by first | assumption | omega) (by decide) _) (cwV 1 X.2.2.2.2 (lw_V q989 q980 q981 q73 q982) rfl rfl rfl ⟨rfl, hdX4_ran⟩ ⟨Nat.le_of_ble_eq_true rfl, Nat.le_of_ble_eq_true rfl⟩) (fx_preV (fx_pre hE hP hD hS hR [0, 1] rfl rfl fx_rc0) (va_recv hE.1 hP (ci := 4) (q0 := 0) rfl rfl)) rfl rfl hl.1 rfl (lv_room (Nat.le_of_ble_eq_true rfl)) dX3_adds_3 ⟨Nat.le_refl _, Nat.le_refl _⟩) hP hD hS hA [0, 1] rfl rfl (fun u H locs hq_3 hP hD hS => ?_)
  obtain ⟨tr2_3, tn2_3⟩ := u
  replace hP : va_P E.1 clA [(ax 4, .inr (4, [.ref (ax 60), .int (nI tn2_3)])), (ax 60, .inl (E.2 1, 30, .inl tr2_3))] _ := hP
  replace hD : va_D A [(ax 4, .inr (4, [.ref (ax 60), .int (nI tn2_3)])), (ax 60, .inl (E.2 1, 30, .inl tr2_3))] := hD
  replace hq_3 : (tr2_3, tn2_3) = bg (tr, tn) 10 := hq_3
  have ht_3 : tn2_3 ≤ 30 := trc_le hq_3 (bg_le htn)
  refine lv_iload_n hx hb dX3_adds_6 rfl (lv_at hl 1 rfl) ?_
  refine lv_aload_n hx hb dX3_adds_7 rfl (lv_at hl 0 rfl) ?_
  refine fx_get X hE (hR.at hS) 0 rfl rfl 0 rfl q134 rfl rfl dX3_adds_8 ?_
  refine lv_iadd hx hb dX3_adds_11 ?_
  exact hret (xv + nb) (tr2_3, tn2_3) (⟨rfl, hq_3⟩) (rfl) hP hD hS (Nat.le_refl _) (Nat.le_refl _) dX3_adds_12
abbrev rxX7_adds_11 : Room := { frames := 2, cells := 0, slots := 0, locals := 43 }
set_option maxHeartbeats 400000 in
set_option maxRecDepth 100000 in
theorem xX7_adds_11 (l : Launch) (E : fx_En) (ax : Nat → Nat) (th : Nat) (nb : Int32) (mm : Int32) (tr : Nat → Int32) (tn : Nat) (xv : Int32) (htn : tn ≤ 30) : fx_Mi l yX7_adds cX7_adds 3 .int rxX7_adds_11 E [.ref th, .int xv, .ref (ax 4)] [(ax 4, .inr (4, [.ref (ax 60), .int (nI tn)])), (ax 60, .inl (E.2 1, 30, .inl tr))] [(th, .inr (11, [.int nb, .int mm]))] (S := (Nat → Int32) × Nat) (fun (u : (Nat → Int32) × Nat) => [(ax 4, .inr (4, [.ref (ax 60), .int (nI u.2)])), (ax 60, .inl (E.2 1, 30, .inl u.1))]) (fun (r : Int32) (u : (Nat → Int32) × Nat) => r = addsV 1 nb xv ∧ (u.1, u.2) = bgL (tr, tn) (addsB 1)) := by
  refine fx_iW rfl rfl ?_
  intro p e s m args below meth c A ls Q X hE hP hD hR hA hl hret
  have hx := X.1
  have hb := X.2.1
  have hS : va_S A s.heap s.heap [] := va_S.rf
  replace hP : va_P E.1 clA [(ax 4, .inr (4, [.ref (ax 60), .int (nI tn)])), (ax 60, .inl (E.2 1, 30, .inl tr))] _ := hP
  replace hD : va_D A [(ax 4, .inr (4, [.ref (ax 60), .int (nI tn)])), (ax 60, .inl (E.2 1, 30, .inl tr))] := hD
  replace hl : lv_has ls 3 [(0, .ref th), (1, .int xv), (2, .ref (ax 4))] := hl
  refine lv_aload_n hx hb dX7_adds_0 rfl (lv_at hl 2 rfl) ?_
  refine lv_bipush (v := 20) hx hb dX7_adds_1 rfl ?_
  refine fx_cv (va_runV (As := [.int 20]) (rest := []) X (xX4_ran l E ax tr tn 20 (by first | assumption | omega) (by decide) _) (cwV 1 X.2.2.2.2 (lw_V q986 q980 q981 q73 q982) rfl rfl rfl ⟨rfl, hdX4_ran⟩ ⟨Nat.le_of_ble_eq_true rfl, Nat.le_of_ble_eq_true rfl⟩) (fx_preV (fx_pre hE hP hD hS hR [0, 1] rfl rfl fx_rc0) (va_recv hE.1 hP (ci := 4) (q0 := 0) rfl rfl)) rfl rfl hl.1 rfl (lv_room (Nat.le_of_ble_eq_true rfl)) dX7_adds_3 ⟨Nat.le_refl _, Nat.le_refl _⟩) hP hD hS hA [0, 1] rfl rfl (fun u H locs hq_3 hP hD hS => ?_)
  obtain ⟨tr2_3, tn2_3⟩ := u
  replace hP : va_P E.1 clA [(ax 4, .inr (4, [.ref (ax 60), .int (nI tn2_3)])), (ax 60, .inl (E.2 1, 30, .inl tr2_3))] _ := hP
  replace hD : va_D A [(ax 4, .inr (4, [.ref (ax 60), .int (nI tn2_3)])), (ax 60, .inl (E.2 1, 30, .inl tr2_3))] := hD
  replace hq_3 : (tr2_3, tn2_3) = bg (tr, tn) 20 := hq_3
  have ht_3 : tn2_3 ≤ 30 := trc_le hq_3 (bg_le htn)
  refine lv_aload_n hx hb dX7_adds_6 rfl (lv_at hl 0 rfl) ?_
  refine lv_iload_n hx hb dX7_adds_7 rfl (lv_at hl 1 rfl) ?_
  refine lv_aload_n hx hb dX7_adds_8 rfl (lv_at hl 2 rfl) ?_
  refine fx_ci (va_runSU (As := [.int xv, .ref (ax 4)]) (rest := []) (hE.1.1 11 _ rfl).2 X (xX3_adds_11 l E ax th nb mm tr2_3 tn2_3 xv (by first | assumption | omega) _) (va_cwSU 2 X.2.2.2.2 (lw_SU q987 q974 q361 q972 q72 q988) rfl rfl rfl ⟨by decide, hdX3_adds.2.2⟩ ⟨Nat.le_of_ble_eq_true rfl, Nat.le_of_ble_eq_true rfl⟩) (fx_preV (fx_pre hE hP hD hS hR [0, 1] rfl rfl (fx_rcr 0 rfl fx_rc0)) (va_recv hE.1 (hR.at hS) (ci := 11) (q0 := 0) rfl rfl)) rfl rfl hl.1 rfl (lv_room (Nat.le_of_ble_eq_true rfl)) dX7_adds_9 ⟨Nat.le_refl _, Nat.le_refl _⟩) hP hD hS hA [0, 1] rfl rfl (fun r_9 u H locs hq_9 hP hD hS => ?_)
  obtain ⟨tr2_9, tn2_9⟩ := u
  replace hP : va_P E.1 clA [(ax 4, .inr (4, [.ref (ax 60), .int (nI tn2_9)])), (ax 60, .inl (E.2 1, 30, .inl tr2_9))] _ := hP
  replace hD : va_D A [(ax 4, .inr (4, [.ref (ax 60), .int (nI tn2_9)])), (ax 60, .inl (E.2 1, 30, .inl tr2_9))] := hD
  replace hq_9 : r_9 = addsV 0 nb xv ∧ (tr2_9, tn2_9) = bgL (tr2_3, tn2_3) (addsB 0) := hq_9
  refine lv_bipush (v := 9) hx hb dX7_adds_12 rfl ?_
  refine lv_isub hx hb dX7_adds_14 ?_
  exact hret (r_9 - 9) (tr2_9, tn2_9) (⟨by rw [hq_9.1]; rfl, by rw [hq_9.2, hq_3]; rfl⟩) (rfl) hP hD hS (Nat.le_refl _) (Nat.le_refl _) dX7_adds_15
abbrev rxX11_adds_11 : Room := { frames := 3, cells := 0, slots := 0, locals := 65 }
set_option maxHeartbeats 400000 in
set_option maxRecDepth 100000 in
theorem xX11_adds_11 (l : Launch) (E : fx_En) (ax : Nat → Nat) (th : Nat) (nb : Int32) (mm : Int32) (tr : Nat → Int32) (tn : Nat) (xv : Int32) (htn : tn ≤ 30) : fx_Mi l yX11_adds cX11_adds 3 .int rxX11_adds_11 E [.ref th, .int xv, .ref (ax 4)] [(ax 4, .inr (4, [.ref (ax 60), .int (nI tn)])), (ax 60, .inl (E.2 1, 30, .inl tr))] [(th, .inr (11, [.int nb, .int mm]))] (S := (Nat → Int32) × Nat) (fun (u : (Nat → Int32) × Nat) => [(ax 4, .inr (4, [.ref (ax 60), .int (nI u.2)])), (ax 60, .inl (E.2 1, 30, .inl u.1))]) (fun (r : Int32) (u : (Nat → Int32) × Nat) => r = addsV 5 nb xv ∧ (u.1, u.2) = bgL (tr, tn) (addsB 5)) := by
  refine fx_iW rfl rfl ?_
  intro p e s m args below meth c A ls Q X hE hP hD hR hA hl hret
  have hx := X.1
  have hb := X.2.1
  have hS : va_S A s.heap s.heap [] := va_S.rf
  replace hP : va_P E.1 clA [(ax 4, .inr (4, [.ref (ax 60), .int (nI tn)])), (ax 60, .inl (E.2 1, 30, .inl tr))] _ := hP
  replace hD : va_D A [(ax 4, .inr (4, [.ref (ax 60), .int (nI tn)])), (ax 60, .inl (E.2 1, 30, .inl tr))] := hD
  replace hl : lv_has ls 3 [(0, .ref th), (1, .int xv), (2, .ref (ax 4))] := hl
  refine lv_aload_n hx hb dX11_adds_0 rfl (lv_at hl 2 rfl) ?_
  refine lv_bipush (v := 50) hx hb dX11_adds_1 rfl ?_
  refine fx_cv (va_runV (As := [.int 50]) (rest := []) X (xX4_ran l E ax tr tn 50 (by first | assumption | omega) (by decide) _) (cwV 1 X.2.2.2.2 (lw_V q979 q980 q981 q73 q982) rfl rfl rfl ⟨rfl, hdX4_ran⟩ ⟨Nat.le_of_ble_eq_true rfl, Nat.le_of_ble_eq_true rfl⟩) (fx_preV (fx_pre hE hP hD hS hR [0, 1] rfl rfl fx_rc0) (va_recv hE.1 hP (ci := 4) (q0 := 0) rfl rfl)) rfl rfl hl.1 rfl (lv_room (Nat.le_of_ble_eq_true rfl)) dX11_adds_3 ⟨Nat.le_refl _, Nat.le_refl _⟩) hP hD hS hA [0, 1] rfl rfl (fun u H locs hq_3 hP hD hS => ?_)
  obtain ⟨tr2_3, tn2_3⟩ := u
  replace hP : va_P E.1 clA [(ax 4, .inr (4, [.ref (ax 60), .int (nI tn2_3)])), (ax 60, .inl (E.2 1, 30, .inl tr2_3))] _ := hP
  replace hD : va_D A [(ax 4, .inr (4, [.ref (ax 60), .int (nI tn2_3)])), (ax 60, .inl (E.2 1, 30, .inl tr2_3))] := hD
  replace hq_3 : (tr2_3, tn2_3) = bg (tr, tn) 50 := hq_3
  have ht_3 : tn2_3 ≤ 30 := trc_le hq_3 (bg_le htn)
  refine lv_aload_n hx hb dX11_adds_6 rfl (lv_at hl 0 rfl) ?_
  refine lv_iload_n hx hb dX11_adds_7 rfl (lv_at hl 1 rfl) ?_
  refine lv_aload_n hx hb dX11_adds_8 rfl (lv_at hl 2 rfl) ?_
  refine fx_ci (va_runSU (As := [.int xv, .ref (ax 4)]) (rest := []) (hE.1.1 11 _ rfl).2 X (xX7_adds_11 l E ax th nb mm tr2_3 tn2_3 xv (by first | assumption | omega) _) (va_cwSU 2 X.2.2.2.2 (lw_SU q983 q1593 q357 q984 q77 q985) rfl rfl rfl ⟨by decide, hdX7_adds.2.2⟩ ⟨Nat.le_of_ble_eq_true rfl, Nat.le_of_ble_eq_true rfl⟩) (fx_preV (fx_pre hE hP hD hS hR [0, 1] rfl rfl (fx_rcr 0 rfl fx_rc0)) (va_recv hE.1 (hR.at hS) (ci := 11) (q0 := 0) rfl rfl)) rfl rfl hl.1 rfl (lv_room (Nat.le_of_ble_eq_true rfl)) dX11_adds_9 ⟨Nat.le_refl _, Nat.le_refl _⟩) hP hD hS hA [0, 1] rfl rfl (fun r_9 u H locs hq_9 hP hD hS => ?_)
  obtain ⟨tr2_9, tn2_9⟩ := u
  replace hP : va_P E.1 clA [(ax 4, .inr (4, [.ref (ax 60), .int (nI tn2_9)])), (ax 60, .inl (E.2 1, 30, .inl tr2_9))] _ := hP
  replace hD : va_D A [(ax 4, .inr (4, [.ref (ax 60), .int (nI tn2_9)])), (ax 60, .inl (E.2 1, 30, .inl tr2_9))] := hD
  replace hq_9 : r_9 = addsV 1 nb xv ∧ (tr2_9, tn2_9) = bgL (tr2_3, tn2_3) (addsB 1) := hq_9
  refine lv_iconst (v := 3) hx hb dX11_adds_12 rfl ?_
  refine lv_imul hx hb dX11_adds_13 ?_
  exact hret (r_9 * 3) (tr2_9, tn2_9) (⟨by rw [hq_9.1]; rfl, by rw [hq_9.2, hq_3]; rfl⟩) (rfl) hP hD hS (Nat.le_refl _) (Nat.le_refl _) dX11_adds_14
abbrev rxX12_adds_12 : Room := { frames := 1, cells := 0, slots := 0, locals := 21 }
set_option maxHeartbeats 400000 in
set_option maxRecDepth 100000 in
theorem xX12_adds_12 (l : Launch) (E : fx_En) (ax : Nat → Nat) (th : Nat) (nb : Int32) (mm : Int32) (tr : Nat → Int32) (tn : Nat) (xv : Int32) (htn : tn ≤ 30) : fx_Mi l yX12_adds cX12_adds 3 .int rxX12_adds_12 E [.ref th, .int xv, .ref (ax 4)] [(ax 4, .inr (4, [.ref (ax 60), .int (nI tn)])), (ax 60, .inl (E.2 1, 30, .inl tr))] [(th, .inr (12, [.int nb, .int mm]))] (S := (Nat → Int32) × Nat) (fun (u : (Nat → Int32) × Nat) => [(ax 4, .inr (4, [.ref (ax 60), .int (nI u.2)])), (ax 60, .inl (E.2 1, 30, .inl u.1))]) (fun (r : Int32) (u : (Nat → Int32) × Nat) => r = addsV 6 nb xv ∧ (u.1, u.2) = bgL (tr, tn) (addsB 6)) := by
  refine fx_iW rfl rfl ?_
  intro p e s m args below meth c A ls Q X hE hP hD hR hA hl hret
  have hx := X.1
  have hb := X.2.1
  have hS : va_S A s.heap s.heap [] := va_S.rf
  replace hP : va_P E.1 clA [(ax 4, .inr (4, [.ref (ax 60), .int (nI tn)])), (ax 60, .inl (E.2 1, 30, .inl tr))] _ := hP
  replace hD : va_D A [(ax 4, .inr (4, [.ref (ax 60), .int (nI tn)])), (ax 60, .inl (E.2 1, 30, .inl tr))] := hD
  replace hl : lv_has ls 3 [(0, .ref th), (1, .int xv), (2, .ref (ax 4))] := hl
  refine lv_aload_n hx hb dX12_adds_0 rfl (lv_at hl 2 rfl) ?_
  refine lv_bipush (v := 70) hx hb dX12_adds_1 rfl ?_
  refine fx_cv (va_runV (As := [.int 70]) (rest := []) X (xX4_ran l E ax tr tn 70 (by first | assumption | omega) (by decide) _) (cwV 1 X.2.2.2.2 (lw_V q996 q980 q981 q73 q982) rfl rfl rfl ⟨rfl, hdX4_ran⟩ ⟨Nat.le_of_ble_eq_true rfl, Nat.le_of_ble_eq_true rfl⟩) (fx_preV (fx_pre hE hP hD hS hR [0, 1] rfl rfl fx_rc0) (va_recv hE.1 hP (ci := 4) (q0 := 0) rfl rfl)) rfl rfl hl.1 rfl (lv_room (Nat.le_of_ble_eq_true rfl)) dX12_adds_3 ⟨Nat.le_refl _, Nat.le_refl _⟩) hP hD hS hA [0, 1] rfl rfl (fun u H locs hq_3 hP hD hS => ?_)
  obtain ⟨tr2_3, tn2_3⟩ := u
  replace hP : va_P E.1 clA [(ax 4, .inr (4, [.ref (ax 60), .int (nI tn2_3)])), (ax 60, .inl (E.2 1, 30, .inl tr2_3))] _ := hP
  replace hD : va_D A [(ax 4, .inr (4, [.ref (ax 60), .int (nI tn2_3)])), (ax 60, .inl (E.2 1, 30, .inl tr2_3))] := hD
  replace hq_3 : (tr2_3, tn2_3) = bg (tr, tn) 70 := hq_3
  have ht_3 : tn2_3 ≤ 30 := trc_le hq_3 (bg_le htn)
  refine lv_bipush (v := 9) hx hb dX12_adds_6 rfl ?_
  exact hret 9 (tr2_3, tn2_3) (⟨rfl, hq_3⟩) (rfl) hP hD hS (Nat.le_refl _) (Nat.le_refl _) dX12_adds_8
abbrev rxX16_comes_3 : Room := { frames := 2, cells := 0, slots := 0, locals := 43 }
set_option maxHeartbeats 400000 in
set_option maxRecDepth 100000 in
theorem xX16_comes_3 (l : Launch) (E : fx_En) (ax : Nat → Nat) (th : Nat) (nb : Int32) (mm : Int32) (tr : Nat → Int32) (tn : Nat) (xv : Int32) (htn : tn ≤ 30) : fx_Mi l yX16_comes cX16_comes 3 .int rxX16_comes_3 E [.ref th, .int xv, .ref (ax 4)] [(ax 4, .inr (4, [.ref (ax 60), .int (nI tn)])), (ax 60, .inl (E.2 1, 30, .inl tr))] [(th, .inr (3, [.int nb, .int mm]))] (S := (Nat → Int32) × Nat) (fun (u : (Nat → Int32) × Nat) => [(ax 4, .inr (4, [.ref (ax 60), .int (nI u.2)])), (ax 60, .inl (E.2 1, 30, .inl u.1))]) (fun (r : Int32) (u : (Nat → Int32) × Nat) => r = comesV 0 0 nb mm xv ∧ (u.1, u.2) = bgL (tr, tn) (comesB 0 0)) := by
  refine fx_iW rfl rfl ?_
  intro p e s m args below meth c A ls Q X hE hP hD hR hA hl hret
  have hx := X.1
  have hb := X.2.1
  have hS : va_S A s.heap s.heap [] := va_S.rf
  replace hP : va_P E.1 clA [(ax 4, .inr (4, [.ref (ax 60), .int (nI tn)])), (ax 60, .inl (E.2 1, 30, .inl tr))] _ := hP
  replace hD : va_D A [(ax 4, .inr (4, [.ref (ax 60), .int (nI tn)])), (ax 60, .inl (E.2 1, 30, .inl tr))] := hD
  replace hl : lv_has ls 3 [(0, .ref th), (1, .int xv), (2, .ref (ax 4))] := hl
  refine lv_aload_n hx hb dX16_comes_0 rfl (lv_at hl 2 rfl) ?_
  refine lv_bipush (v := 11) hx hb dX16_comes_1 rfl ?_
  refine fx_cv (va_runV (As := [.int 11]) (rest := []) X (xX4_ran l E ax tr tn 11 (by first | assumption | omega) (by decide) _) (cwV 1 X.2.2.2.2 (lw_V q1011 q980 q981 q73 q982) rfl rfl rfl ⟨rfl, hdX4_ran⟩ ⟨Nat.le_of_ble_eq_true rfl, Nat.le_of_ble_eq_true rfl⟩) (fx_preV (fx_pre hE hP hD hS hR [0, 1] rfl rfl fx_rc0) (va_recv hE.1 hP (ci := 4) (q0 := 0) rfl rfl)) rfl rfl hl.1 rfl (lv_room (Nat.le_of_ble_eq_true rfl)) dX16_comes_3 ⟨Nat.le_refl _, Nat.le_refl _⟩) hP hD hS hA [0, 1] rfl rfl (fun u H locs hq_3 hP hD hS => ?_)
  obtain ⟨tr2_3, tn2_3⟩ := u
  replace hP : va_P E.1 clA [(ax 4, .inr (4, [.ref (ax 60), .int (nI tn2_3)])), (ax 60, .inl (E.2 1, 30, .inl tr2_3))] _ := hP
  replace hD : va_D A [(ax 4, .inr (4, [.ref (ax 60), .int (nI tn2_3)])), (ax 60, .inl (E.2 1, 30, .inl tr2_3))] := hD
  replace hq_3 : (tr2_3, tn2_3) = bg (tr, tn) 11 := hq_3
  have ht_3 : tn2_3 ≤ 30 := trc_le hq_3 (bg_le htn)
  refine lv_aload_n hx hb dX16_comes_6 rfl (lv_at hl 0 rfl) ?_
  refine lv_iload_n hx hb dX16_comes_7 rfl (lv_at hl 1 rfl) ?_
  refine lv_aload_n hx hb dX16_comes_8 rfl (lv_at hl 2 rfl) ?_
  refine fx_ci5 (va_runF (As := [.int xv, .ref (ax 4)]) (rest := []) (hE.1.1 3 _ rfl).2 X (xX3_adds_3 l E ax th nb mm tr2_3 tn2_3 xv (by first | assumption | omega) _) (va_cwF 2 X.2.2.2.2 (lw_F q1013 q1035 q972 q72 q988) rfl rfl rfl (hE.2.2.2.1 _ (List.mem_of_getElem? (i := 8) rfl)) ⟨(ifA_ok _ (List.mem_of_getElem? (i := 8) rfl)).1, (ifA_ok _ (List.mem_of_getElem? (i := 8) rfl)).2, hdX3_adds.2.2⟩ ⟨Nat.le_of_ble_eq_true rfl, Nat.le_of_ble_eq_true rfl⟩) (fx_preV (fx_pre hE hP hD hS hR [0, 1] rfl rfl (fx_rcr 0 rfl fx_rc0)) (va_recv hE.1 (hR.at hS) (ci := 3) (q0 := 0) rfl rfl)) rfl rfl hl.1 rfl (lv_room (Nat.le_of_ble_eq_true rfl)) dX16_comes_9 ⟨Nat.le_refl _, Nat.le_refl _⟩) hP hD hS hA [0, 1] rfl rfl (fun r_9 u H locs hq_9 hP hD hS => ?_)
  obtain ⟨tr2_9, tn2_9⟩ := u
  replace hP : va_P E.1 clA [(ax 4, .inr (4, [.ref (ax 60), .int (nI tn2_9)])), (ax 60, .inl (E.2 1, 30, .inl tr2_9))] _ := hP
  replace hD : va_D A [(ax 4, .inr (4, [.ref (ax 60), .int (nI tn2_9)])), (ax 60, .inl (E.2 1, 30, .inl tr2_9))] := hD
  replace hq_9 : r_9 = addsV 0 nb xv ∧ (tr2_9, tn2_9) = bgL (tr2_3, tn2_3) (addsB 0) := hq_9
  refine lv_iconst (v := 2) hx hb dX16_comes_14 rfl ?_
  refine lv_imul hx hb dX16_comes_15 ?_
  exact hret (r_9 * 2) (tr2_9, tn2_9) (⟨by rw [hq_9.1]; rfl, by rw [hq_9.2, hq_3]; rfl⟩) (rfl) hP hD hS (Nat.le_refl _) (Nat.le_refl _) dX16_comes_16
abbrev rxX16_comes_7 : Room := { frames := 3, cells := 0, slots := 0, locals := 65 }
set_option maxHeartbeats 400000 in
set_option maxRecDepth 100000 in
theorem xX16_comes_7 (l : Launch) (E : fx_En) (ax : Nat → Nat) (th : Nat) (nb : Int32) (mm : Int32) (tr : Nat → Int32) (tn : Nat) (xv : Int32) (htn : tn ≤ 30) : fx_Mi l yX16_comes cX16_comes 3 .int rxX16_comes_7 E [.ref th, .int xv, .ref (ax 4)] [(ax 4, .inr (4, [.ref (ax 60), .int (nI tn)])), (ax 60, .inl (E.2 1, 30, .inl tr))] [(th, .inr (7, [.int nb, .int mm]))] (S := (Nat → Int32) × Nat) (fun (u : (Nat → Int32) × Nat) => [(ax 4, .inr (4, [.ref (ax 60), .int (nI u.2)])), (ax 60, .inl (E.2 1, 30, .inl u.1))]) (fun (r : Int32) (u : (Nat → Int32) × Nat) => r = comesV 0 1 nb mm xv ∧ (u.1, u.2) = bgL (tr, tn) (comesB 0 1)) := by
  refine fx_iW rfl rfl ?_
  intro p e s m args below meth c A ls Q X hE hP hD hR hA hl hret
  have hx := X.1
  have hb := X.2.1
  have hS : va_S A s.heap s.heap [] := va_S.rf
  replace hP : va_P E.1 clA [(ax 4, .inr (4, [.ref (ax 60), .int (nI tn)])), (ax 60, .inl (E.2 1, 30, .inl tr))] _ := hP
  replace hD : va_D A [(ax 4, .inr (4, [.ref (ax 60), .int (nI tn)])), (ax 60, .inl (E.2 1, 30, .inl tr))] := hD
  replace hl : lv_has ls 3 [(0, .ref th), (1, .int xv), (2, .ref (ax 4))] := hl
  refine lv_aload_n hx hb dX16_comes_0 rfl (lv_at hl 2 rfl) ?_
  refine lv_bipush (v := 11) hx hb dX16_comes_1 rfl ?_
  refine fx_cv (va_runV (As := [.int 11]) (rest := []) X (xX4_ran l E ax tr tn 11 (by first | assumption | omega) (by decide) _) (cwV 1 X.2.2.2.2 (lw_V q1011 q980 q981 q73 q982) rfl rfl rfl ⟨rfl, hdX4_ran⟩ ⟨Nat.le_of_ble_eq_true rfl, Nat.le_of_ble_eq_true rfl⟩) (fx_preV (fx_pre hE hP hD hS hR [0, 1] rfl rfl fx_rc0) (va_recv hE.1 hP (ci := 4) (q0 := 0) rfl rfl)) rfl rfl hl.1 rfl (lv_room (Nat.le_of_ble_eq_true rfl)) dX16_comes_3 ⟨Nat.le_refl _, Nat.le_refl _⟩) hP hD hS hA [0, 1] rfl rfl (fun u H locs hq_3 hP hD hS => ?_)
  obtain ⟨tr2_3, tn2_3⟩ := u
  replace hP : va_P E.1 clA [(ax 4, .inr (4, [.ref (ax 60), .int (nI tn2_3)])), (ax 60, .inl (E.2 1, 30, .inl tr2_3))] _ := hP
  replace hD : va_D A [(ax 4, .inr (4, [.ref (ax 60), .int (nI tn2_3)])), (ax 60, .inl (E.2 1, 30, .inl tr2_3))] := hD
  replace hq_3 : (tr2_3, tn2_3) = bg (tr, tn) 11 := hq_3
  have ht_3 : tn2_3 ≤ 30 := trc_le hq_3 (bg_le htn)
  refine lv_aload_n hx hb dX16_comes_6 rfl (lv_at hl 0 rfl) ?_
  refine lv_iload_n hx hb dX16_comes_7 rfl (lv_at hl 1 rfl) ?_
  refine lv_aload_n hx hb dX16_comes_8 rfl (lv_at hl 2 rfl) ?_
  refine fx_ci5 (va_runF (As := [.int xv, .ref (ax 4)]) (rest := []) (hE.1.1 7 _ rfl).2 X (xX7_adds_7 l E ax th nb mm tr2_3 tn2_3 xv (by first | assumption | omega) _) (va_cwF 2 X.2.2.2.2 (lw_F q1013 q1025 q984 q77 q985) rfl rfl rfl (hE.2.2.2.1 _ (List.mem_of_getElem? (i := 9) rfl)) ⟨(ifA_ok _ (List.mem_of_getElem? (i := 9) rfl)).1, (ifA_ok _ (List.mem_of_getElem? (i := 9) rfl)).2, hdX7_adds.2.2⟩ ⟨Nat.le_of_ble_eq_true rfl, Nat.le_of_ble_eq_true rfl⟩) (fx_preV (fx_pre hE hP hD hS hR [0, 1] rfl rfl (fx_rcr 0 rfl fx_rc0)) (va_recv hE.1 (hR.at hS) (ci := 7) (q0 := 0) rfl rfl)) rfl rfl hl.1 rfl (lv_room (Nat.le_of_ble_eq_true rfl)) dX16_comes_9 ⟨Nat.le_refl _, Nat.le_refl _⟩) hP hD hS hA [0, 1] rfl rfl (fun r_9 u H locs hq_9 hP hD hS => ?_)
  obtain ⟨tr2_9, tn2_9⟩ := u
  replace hP : va_P E.1 clA [(ax 4, .inr (4, [.ref (ax 60), .int (nI tn2_9)])), (ax 60, .inl (E.2 1, 30, .inl tr2_9))] _ := hP
  replace hD : va_D A [(ax 4, .inr (4, [.ref (ax 60), .int (nI tn2_9)])), (ax 60, .inl (E.2 1, 30, .inl tr2_9))] := hD
  replace hq_9 : r_9 = addsV 1 nb xv ∧ (tr2_9, tn2_9) = bgL (tr2_3, tn2_3) (addsB 1) := hq_9
  refine lv_iconst (v := 2) hx hb dX16_comes_14 rfl ?_
  refine lv_imul hx hb dX16_comes_15 ?_
  exact hret (r_9 * 2) (tr2_9, tn2_9) (⟨by rw [hq_9.1]; rfl, by rw [hq_9.2, hq_3]; rfl⟩) (rfl) hP hD hS (Nat.le_refl _) (Nat.le_refl _) dX16_comes_16
abbrev rxX16_comes_8 : Room := { frames := 2, cells := 0, slots := 0, locals := 43 }
set_option maxHeartbeats 400000 in
set_option maxRecDepth 100000 in
theorem xX16_comes_8 (l : Launch) (E : fx_En) (ax : Nat → Nat) (th : Nat) (nb : Int32) (mm : Int32) (tr : Nat → Int32) (tn : Nat) (xv : Int32) (htn : tn ≤ 30) : fx_Mi l yX16_comes cX16_comes 3 .int rxX16_comes_8 E [.ref th, .int xv, .ref (ax 4)] [(ax 4, .inr (4, [.ref (ax 60), .int (nI tn)])), (ax 60, .inl (E.2 1, 30, .inl tr))] [(th, .inr (8, [.int nb, .int mm]))] (S := (Nat → Int32) × Nat) (fun (u : (Nat → Int32) × Nat) => [(ax 4, .inr (4, [.ref (ax 60), .int (nI u.2)])), (ax 60, .inl (E.2 1, 30, .inl u.1))]) (fun (r : Int32) (u : (Nat → Int32) × Nat) => r = comesV 0 2 nb mm xv ∧ (u.1, u.2) = bgL (tr, tn) (comesB 0 2)) := by
  refine fx_iW rfl rfl ?_
  intro p e s m args below meth c A ls Q X hE hP hD hR hA hl hret
  have hx := X.1
  have hb := X.2.1
  have hS : va_S A s.heap s.heap [] := va_S.rf
  replace hP : va_P E.1 clA [(ax 4, .inr (4, [.ref (ax 60), .int (nI tn)])), (ax 60, .inl (E.2 1, 30, .inl tr))] _ := hP
  replace hD : va_D A [(ax 4, .inr (4, [.ref (ax 60), .int (nI tn)])), (ax 60, .inl (E.2 1, 30, .inl tr))] := hD
  replace hl : lv_has ls 3 [(0, .ref th), (1, .int xv), (2, .ref (ax 4))] := hl
  refine lv_aload_n hx hb dX16_comes_0 rfl (lv_at hl 2 rfl) ?_
  refine lv_bipush (v := 11) hx hb dX16_comes_1 rfl ?_
  refine fx_cv (va_runV (As := [.int 11]) (rest := []) X (xX4_ran l E ax tr tn 11 (by first | assumption | omega) (by decide) _) (cwV 1 X.2.2.2.2 (lw_V q1011 q980 q981 q73 q982) rfl rfl rfl ⟨rfl, hdX4_ran⟩ ⟨Nat.le_of_ble_eq_true rfl, Nat.le_of_ble_eq_true rfl⟩) (fx_preV (fx_pre hE hP hD hS hR [0, 1] rfl rfl fx_rc0) (va_recv hE.1 hP (ci := 4) (q0 := 0) rfl rfl)) rfl rfl hl.1 rfl (lv_room (Nat.le_of_ble_eq_true rfl)) dX16_comes_3 ⟨Nat.le_refl _, Nat.le_refl _⟩) hP hD hS hA [0, 1] rfl rfl (fun u H locs hq_3 hP hD hS => ?_)
  obtain ⟨tr2_3, tn2_3⟩ := u
  replace hP : va_P E.1 clA [(ax 4, .inr (4, [.ref (ax 60), .int (nI tn2_3)])), (ax 60, .inl (E.2 1, 30, .inl tr2_3))] _ := hP
  replace hD : va_D A [(ax 4, .inr (4, [.ref (ax 60), .int (nI tn2_3)])), (ax 60, .inl (E.2 1, 30, .inl tr2_3))] := hD
  replace hq_3 : (tr2_3, tn2_3) = bg (tr, tn) 11 := hq_3
  have ht_3 : tn2_3 ≤ 30 := trc_le hq_3 (bg_le htn)
  refine lv_aload_n hx hb dX16_comes_6 rfl (lv_at hl 0 rfl) ?_
  refine lv_iload_n hx hb dX16_comes_7 rfl (lv_at hl 1 rfl) ?_
  refine lv_aload_n hx hb dX16_comes_8 rfl (lv_at hl 2 rfl) ?_
  refine fx_ci5 (va_runF (As := [.int xv, .ref (ax 4)]) (rest := []) (hE.1.1 8 _ rfl).2 X (xX3_adds_8 l E ax th nb mm tr2_3 tn2_3 xv (by first | assumption | omega) _) (va_cwF 2 X.2.2.2.2 (lw_F q1013 q1032 q972 q72 q988) rfl rfl rfl (hE.2.2.2.1 _ (List.mem_of_getElem? (i := 10) rfl)) ⟨(ifA_ok _ (List.mem_of_getElem? (i := 10) rfl)).1, (ifA_ok _ (List.mem_of_getElem? (i := 10) rfl)).2, hdX3_adds.2.2⟩ ⟨Nat.le_of_ble_eq_true rfl, Nat.le_of_ble_eq_true rfl⟩) (fx_preV (fx_pre hE hP hD hS hR [0, 1] rfl rfl (fx_rcr 0 rfl fx_rc0)) (va_recv hE.1 (hR.at hS) (ci := 8) (q0 := 0) rfl rfl)) rfl rfl hl.1 rfl (lv_room (Nat.le_of_ble_eq_true rfl)) dX16_comes_9 ⟨Nat.le_refl _, Nat.le_refl _⟩) hP hD hS hA [0, 1] rfl rfl (fun r_9 u H locs hq_9 hP hD hS => ?_)
  obtain ⟨tr2_9, tn2_9⟩ := u
  replace hP : va_P E.1 clA [(ax 4, .inr (4, [.ref (ax 60), .int (nI tn2_9)])), (ax 60, .inl (E.2 1, 30, .inl tr2_9))] _ := hP
  replace hD : va_D A [(ax 4, .inr (4, [.ref (ax 60), .int (nI tn2_9)])), (ax 60, .inl (E.2 1, 30, .inl tr2_9))] := hD
  replace hq_9 : r_9 = addsV 0 nb xv ∧ (tr2_9, tn2_9) = bgL (tr2_3, tn2_3) (addsB 0) := hq_9
  refine lv_iconst (v := 2) hx hb dX16_comes_14 rfl ?_
  refine lv_imul hx hb dX16_comes_15 ?_
  exact hret (r_9 * 2) (tr2_9, tn2_9) (⟨by rw [hq_9.1]; rfl, by rw [hq_9.2, hq_3]; rfl⟩) (rfl) hP hD hS (Nat.le_refl _) (Nat.le_refl _) dX16_comes_16
abbrev rxX8_comes_8 : Room := { frames := 3, cells := 0, slots := 0, locals := 65 }
set_option maxHeartbeats 400000 in
set_option maxRecDepth 100000 in
theorem xX8_comes_8 (l : Launch) (E : fx_En) (ks : fz_Ks) (ax : Nat → Nat) (th : Nat) (nb : Int32) (mm : Int32) (tr : Nat → Int32) (tn : Nat) (xv : Int32) (htn : tn ≤ 30) : fy_Mi l yX8_comes cX8_comes 3 .int rxX8_comes_8 E ks [.ref th, .int xv, .ref (ax 4)] [(ax 4, .inr (4, [.ref (ax 60), .int (nI tn)])), (ax 60, .inl (E.2 1, 30, .inl tr))] [(th, .inr (8, [.int nb, .int mm]))] (S := (Nat → Int32) × Nat) (fun (u : (Nat → Int32) × Nat) => [(ax 4, .inr (4, [.ref (ax 60), .int (nI u.2)])), (ax 60, .inl (E.2 1, 30, .inl u.1))]) (fun (r : Int32) (u : (Nat → Int32) × Nat) => r = comesV 2 2 nb mm xv ∧ (u.1, u.2) = bgL (tr, tn) (comesB 2 2)) := by
  refine fy_iW rfl rfl ?_
  intro p e s m args below meth c A ls Q X hE hP hD hR hZ hA hl hret
  have hx := X.1
  have hb := X.2.1
  have hS : va_S A s.heap s.heap [] := va_S.rf
  replace hP : va_P E.1 clA [(ax 4, .inr (4, [.ref (ax 60), .int (nI tn)])), (ax 60, .inl (E.2 1, 30, .inl tr))] _ := hP
  replace hD : va_D A [(ax 4, .inr (4, [.ref (ax 60), .int (nI tn)])), (ax 60, .inl (E.2 1, 30, .inl tr))] := hD
  replace hl : lv_has ls 3 [(0, .ref th), (1, .int xv), (2, .ref (ax 4))] := hl
  refine lv_aload_n hx hb dX8_comes_0 rfl (lv_at hl 2 rfl) ?_
  refine lv_bipush (v := 30) hx hb dX8_comes_1 rfl ?_
  refine fx_cv (va_runV (As := [.int 30]) (rest := []) X (xX4_ran l E ax tr tn 30 (by first | assumption | omega) (by decide) _) (cwV 1 X.2.2.2.2 (lw_V q1008 q980 q981 q73 q982) rfl rfl rfl ⟨rfl, hdX4_ran⟩ ⟨Nat.le_of_ble_eq_true rfl, Nat.le_of_ble_eq_true rfl⟩) (fx_preV (fx_pre hE hP hD hS hR [0, 1] rfl rfl fx_rc0) (va_recv hE.1 hP (ci := 4) (q0 := 0) rfl rfl)) rfl rfl hl.1 rfl (lv_room (Nat.le_of_ble_eq_true rfl)) dX8_comes_3 ⟨Nat.le_refl _, Nat.le_refl _⟩) hP hD hS hA [0, 1] rfl rfl (fun u H locs hq_3 hP hD hS => ?_)
  obtain ⟨tr2_3, tn2_3⟩ := u
  replace hP : va_P E.1 clA [(ax 4, .inr (4, [.ref (ax 60), .int (nI tn2_3)])), (ax 60, .inl (E.2 1, 30, .inl tr2_3))] _ := hP
  replace hD : va_D A [(ax 4, .inr (4, [.ref (ax 60), .int (nI tn2_3)])), (ax 60, .inl (E.2 1, 30, .inl tr2_3))] := hD
  replace hq_3 : (tr2_3, tn2_3) = bg (tr, tn) 30 := hq_3
  have ht_3 : tn2_3 ≤ 30 := trc_le hq_3 (bg_le htn)
  refine lv_iconst (v := 0) hx hb dX8_comes_6 rfl ?_
  refine lv_aload_n hx hb dX8_comes_7 rfl (lv_at hl 0 rfl) ?_
  refine lv_iload_n hx hb dX8_comes_8 rfl (lv_at hl 1 rfl) ?_
  refine lv_aload_n hx hb dX8_comes_9 rfl (lv_at hl 2 rfl) ?_
  refine fx_ci (df_runS (As := [.int xv, .ref (ax 4)]) (rest := [.int 0]) (x := yTc) (hE.1.1 8 _ rfl).2 X (xX16_comes_8 l E ax th nb mm tr2_3 tn2_3 xv (by first | assumption | omega) _) ⟨rfl, rfl, Nat.le_of_ble_eq_true rfl, Nat.le_of_ble_eq_true rfl⟩ (lw_meth q1010) List.mem_cons_self q1595 q1009 q371 ⟨rfl, rfl⟩ (by decide) hdX16_comes.2.2 (va_tabs rfl rfl (hZ.1.2.2.1 _ (List.mem_of_getElem? (i := 2) rfl))) (va_tabs rfl rfl (hZ.1.2.2.1 _ (List.mem_of_getElem? (i := 1) rfl))) (df_fD (args := args) ⟨rfl, rfl⟩ (va_tabs rfl rfl (hZ.1.2.2.1 _ (List.mem_of_getElem? (i := 1) rfl))) (df_ld (hZ.1.2.2.2.1 _ (List.mem_of_getElem? (i := 0) rfl)))) (fx_preV (fx_pre hE hP hD hS hR [0, 1] rfl rfl (fx_rcr 0 rfl fx_rc0)) (va_recv hE.1 (hR.at hS) (ci := 8) (q0 := 0) rfl rfl)) rfl rfl hl.1 rfl (lv_room (Nat.le_of_ble_eq_true rfl)) dX8_comes_10 ⟨Nat.le_refl _, Nat.le_refl _⟩) hP hD hS hA [0, 1] rfl rfl (fun r_10 u H locs hq_10 hP hD hS => ?_)
  obtain ⟨tr2_10, tn2_10⟩ := u
  replace hP : va_P E.1 clA [(ax 4, .inr (4, [.ref (ax 60), .int (nI tn2_10)])), (ax 60, .inl (E.2 1, 30, .inl tr2_10))] _ := hP
  replace hD : va_D A [(ax 4, .inr (4, [.ref (ax 60), .int (nI tn2_10)])), (ax 60, .inl (E.2 1, 30, .inl tr2_10))] := hD
  replace hq_10 : r_10 = comesV 0 2 nb mm xv ∧ (tr2_10, tn2_10) = bgL (tr2_3, tn2_3) (comesB 0 2) := hq_10
  refine lv_isub hx hb dX8_comes_13 ?_
  exact hret (0 - r_10) (tr2_10, tn2_10) (⟨by rw [hq_10.1]; rfl, by rw [hq_10.2, hq_3]; rfl⟩) (rfl) hP hD hS (Nat.le_refl _) (Nat.le_refl _) dX8_comes_14
abbrev rxX16_comes_9 : Room := { frames := 2, cells := 0, slots := 0, locals := 43 }
set_option maxHeartbeats 400000 in
set_option maxRecDepth 100000 in
theorem xX16_comes_9 (l : Launch) (E : fx_En) (ax : Nat → Nat) (th : Nat) (nb : Int32) (mm : Int32) (tr : Nat → Int32) (tn : Nat) (xv : Int32) (htn : tn ≤ 30) : fx_Mi l yX16_comes cX16_comes 3 .int rxX16_comes_9 E [.ref th, .int xv, .ref (ax 4)] [(ax 4, .inr (4, [.ref (ax 60), .int (nI tn)])), (ax 60, .inl (E.2 1, 30, .inl tr))] [(th, .inr (9, [.int nb, .int mm]))] (S := (Nat → Int32) × Nat) (fun (u : (Nat → Int32) × Nat) => [(ax 4, .inr (4, [.ref (ax 60), .int (nI u.2)])), (ax 60, .inl (E.2 1, 30, .inl u.1))]) (fun (r : Int32) (u : (Nat → Int32) × Nat) => r = comesV 0 3 nb mm xv ∧ (u.1, u.2) = bgL (tr, tn) (comesB 0 3)) := by
  refine fx_iW rfl rfl ?_
  intro p e s m args below meth c A ls Q X hE hP hD hR hA hl hret
  have hx := X.1
  have hb := X.2.1
  have hS : va_S A s.heap s.heap [] := va_S.rf
  replace hP : va_P E.1 clA [(ax 4, .inr (4, [.ref (ax 60), .int (nI tn)])), (ax 60, .inl (E.2 1, 30, .inl tr))] _ := hP
  replace hD : va_D A [(ax 4, .inr (4, [.ref (ax 60), .int (nI tn)])), (ax 60, .inl (E.2 1, 30, .inl tr))] := hD
  replace hl : lv_has ls 3 [(0, .ref th), (1, .int xv), (2, .ref (ax 4))] := hl
  refine lv_aload_n hx hb dX16_comes_0 rfl (lv_at hl 2 rfl) ?_
  refine lv_bipush (v := 11) hx hb dX16_comes_1 rfl ?_
  refine fx_cv (va_runV (As := [.int 11]) (rest := []) X (xX4_ran l E ax tr tn 11 (by first | assumption | omega) (by decide) _) (cwV 1 X.2.2.2.2 (lw_V q1011 q980 q981 q73 q982) rfl rfl rfl ⟨rfl, hdX4_ran⟩ ⟨Nat.le_of_ble_eq_true rfl, Nat.le_of_ble_eq_true rfl⟩) (fx_preV (fx_pre hE hP hD hS hR [0, 1] rfl rfl fx_rc0) (va_recv hE.1 hP (ci := 4) (q0 := 0) rfl rfl)) rfl rfl hl.1 rfl (lv_room (Nat.le_of_ble_eq_true rfl)) dX16_comes_3 ⟨Nat.le_refl _, Nat.le_refl _⟩) hP hD hS hA [0, 1] rfl rfl (fun u H locs hq_3 hP hD hS => ?_)
  obtain ⟨tr2_3, tn2_3⟩ := u
  replace hP : va_P E.1 clA [(ax 4, .inr (4, [.ref (ax 60), .int (nI tn2_3)])), (ax 60, .inl (E.2 1, 30, .inl tr2_3))] _ := hP
  replace hD : va_D A [(ax 4, .inr (4, [.ref (ax 60), .int (nI tn2_3)])), (ax 60, .inl (E.2 1, 30, .inl tr2_3))] := hD
  replace hq_3 : (tr2_3, tn2_3) = bg (tr, tn) 11 := hq_3
  have ht_3 : tn2_3 ≤ 30 := trc_le hq_3 (bg_le htn)
  refine lv_aload_n hx hb dX16_comes_6 rfl (lv_at hl 0 rfl) ?_
  refine lv_iload_n hx hb dX16_comes_7 rfl (lv_at hl 1 rfl) ?_
  refine lv_aload_n hx hb dX16_comes_8 rfl (lv_at hl 2 rfl) ?_
  refine fx_ci5 (va_runF (As := [.int xv, .ref (ax 4)]) (rest := []) (hE.1.1 9 _ rfl).2 X (xX3_adds_9 l E ax th nb mm tr2_3 tn2_3 xv (by first | assumption | omega) _) (va_cwF 2 X.2.2.2.2 (lw_F q1013 q1017 q972 q72 q988) rfl rfl rfl (hE.2.2.2.1 _ (List.mem_of_getElem? (i := 11) rfl)) ⟨(ifA_ok _ (List.mem_of_getElem? (i := 11) rfl)).1, (ifA_ok _ (List.mem_of_getElem? (i := 11) rfl)).2, hdX3_adds.2.2⟩ ⟨Nat.le_of_ble_eq_true rfl, Nat.le_of_ble_eq_true rfl⟩) (fx_preV (fx_pre hE hP hD hS hR [0, 1] rfl rfl (fx_rcr 0 rfl fx_rc0)) (va_recv hE.1 (hR.at hS) (ci := 9) (q0 := 0) rfl rfl)) rfl rfl hl.1 rfl (lv_room (Nat.le_of_ble_eq_true rfl)) dX16_comes_9 ⟨Nat.le_refl _, Nat.le_refl _⟩) hP hD hS hA [0, 1] rfl rfl (fun r_9 u H locs hq_9 hP hD hS => ?_)
  obtain ⟨tr2_9, tn2_9⟩ := u
  replace hP : va_P E.1 clA [(ax 4, .inr (4, [.ref (ax 60), .int (nI tn2_9)])), (ax 60, .inl (E.2 1, 30, .inl tr2_9))] _ := hP
  replace hD : va_D A [(ax 4, .inr (4, [.ref (ax 60), .int (nI tn2_9)])), (ax 60, .inl (E.2 1, 30, .inl tr2_9))] := hD
  replace hq_9 : r_9 = addsV 0 nb xv ∧ (tr2_9, tn2_9) = bgL (tr2_3, tn2_3) (addsB 0) := hq_9
  refine lv_iconst (v := 2) hx hb dX16_comes_14 rfl ?_
  refine lv_imul hx hb dX16_comes_15 ?_
  exact hret (r_9 * 2) (tr2_9, tn2_9) (⟨by rw [hq_9.1]; rfl, by rw [hq_9.2, hq_3]; rfl⟩) (rfl) hP hD hS (Nat.le_refl _) (Nat.le_refl _) dX16_comes_16
abbrev rxX16_comes_10 : Room := { frames := 2, cells := 0, slots := 0, locals := 43 }
set_option maxHeartbeats 400000 in
set_option maxRecDepth 100000 in
theorem xX16_comes_10 (l : Launch) (E : fx_En) (ax : Nat → Nat) (th : Nat) (nb : Int32) (mm : Int32) (tr : Nat → Int32) (tn : Nat) (xv : Int32) (htn : tn ≤ 30) : fx_Mi l yX16_comes cX16_comes 3 .int rxX16_comes_10 E [.ref th, .int xv, .ref (ax 4)] [(ax 4, .inr (4, [.ref (ax 60), .int (nI tn)])), (ax 60, .inl (E.2 1, 30, .inl tr))] [(th, .inr (10, [.int nb, .int mm]))] (S := (Nat → Int32) × Nat) (fun (u : (Nat → Int32) × Nat) => [(ax 4, .inr (4, [.ref (ax 60), .int (nI u.2)])), (ax 60, .inl (E.2 1, 30, .inl u.1))]) (fun (r : Int32) (u : (Nat → Int32) × Nat) => r = comesV 0 4 nb mm xv ∧ (u.1, u.2) = bgL (tr, tn) (comesB 0 4)) := by
  refine fx_iW rfl rfl ?_
  intro p e s m args below meth c A ls Q X hE hP hD hR hA hl hret
  have hx := X.1
  have hb := X.2.1
  have hS : va_S A s.heap s.heap [] := va_S.rf
  replace hP : va_P E.1 clA [(ax 4, .inr (4, [.ref (ax 60), .int (nI tn)])), (ax 60, .inl (E.2 1, 30, .inl tr))] _ := hP
  replace hD : va_D A [(ax 4, .inr (4, [.ref (ax 60), .int (nI tn)])), (ax 60, .inl (E.2 1, 30, .inl tr))] := hD
  replace hl : lv_has ls 3 [(0, .ref th), (1, .int xv), (2, .ref (ax 4))] := hl
  refine lv_aload_n hx hb dX16_comes_0 rfl (lv_at hl 2 rfl) ?_
  refine lv_bipush (v := 11) hx hb dX16_comes_1 rfl ?_
  refine fx_cv (va_runV (As := [.int 11]) (rest := []) X (xX4_ran l E ax tr tn 11 (by first | assumption | omega) (by decide) _) (cwV 1 X.2.2.2.2 (lw_V q1011 q980 q981 q73 q982) rfl rfl rfl ⟨rfl, hdX4_ran⟩ ⟨Nat.le_of_ble_eq_true rfl, Nat.le_of_ble_eq_true rfl⟩) (fx_preV (fx_pre hE hP hD hS hR [0, 1] rfl rfl fx_rc0) (va_recv hE.1 hP (ci := 4) (q0 := 0) rfl rfl)) rfl rfl hl.1 rfl (lv_room (Nat.le_of_ble_eq_true rfl)) dX16_comes_3 ⟨Nat.le_refl _, Nat.le_refl _⟩) hP hD hS hA [0, 1] rfl rfl (fun u H locs hq_3 hP hD hS => ?_)
  obtain ⟨tr2_3, tn2_3⟩ := u
  replace hP : va_P E.1 clA [(ax 4, .inr (4, [.ref (ax 60), .int (nI tn2_3)])), (ax 60, .inl (E.2 1, 30, .inl tr2_3))] _ := hP
  replace hD : va_D A [(ax 4, .inr (4, [.ref (ax 60), .int (nI tn2_3)])), (ax 60, .inl (E.2 1, 30, .inl tr2_3))] := hD
  replace hq_3 : (tr2_3, tn2_3) = bg (tr, tn) 11 := hq_3
  have ht_3 : tn2_3 ≤ 30 := trc_le hq_3 (bg_le htn)
  refine lv_aload_n hx hb dX16_comes_6 rfl (lv_at hl 0 rfl) ?_
  refine lv_iload_n hx hb dX16_comes_7 rfl (lv_at hl 1 rfl) ?_
  refine lv_aload_n hx hb dX16_comes_8 rfl (lv_at hl 2 rfl) ?_
  refine fx_ci5 (va_runF (As := [.int xv, .ref (ax 4)]) (rest := []) (hE.1.1 10 _ rfl).2 X (xX3_adds_10 l E ax th nb mm tr2_3 tn2_3 xv (by first | assumption | omega) _) (va_cwF 2 X.2.2.2.2 (lw_F q1013 q1029 q972 q72 q988) rfl rfl rfl (hE.2.2.2.1 _ (List.mem_of_getElem? (i := 12) rfl)) ⟨(ifA_ok _ (List.mem_of_getElem? (i := 12) rfl)).1, (ifA_ok _ (List.mem_of_getElem? (i := 12) rfl)).2, hdX3_adds.2.2⟩ ⟨Nat.le_of_ble_eq_true rfl, Nat.le_of_ble_eq_true rfl⟩) (fx_preV (fx_pre hE hP hD hS hR [0, 1] rfl rfl (fx_rcr 0 rfl fx_rc0)) (va_recv hE.1 (hR.at hS) (ci := 10) (q0 := 0) rfl rfl)) rfl rfl hl.1 rfl (lv_room (Nat.le_of_ble_eq_true rfl)) dX16_comes_9 ⟨Nat.le_refl _, Nat.le_refl _⟩) hP hD hS hA [0, 1] rfl rfl (fun r_9 u H locs hq_9 hP hD hS => ?_)
  obtain ⟨tr2_9, tn2_9⟩ := u
  replace hP : va_P E.1 clA [(ax 4, .inr (4, [.ref (ax 60), .int (nI tn2_9)])), (ax 60, .inl (E.2 1, 30, .inl tr2_9))] _ := hP
  replace hD : va_D A [(ax 4, .inr (4, [.ref (ax 60), .int (nI tn2_9)])), (ax 60, .inl (E.2 1, 30, .inl tr2_9))] := hD
  replace hq_9 : r_9 = addsV 0 nb xv ∧ (tr2_9, tn2_9) = bgL (tr2_3, tn2_3) (addsB 0) := hq_9
  refine lv_iconst (v := 2) hx hb dX16_comes_14 rfl ?_
  refine lv_imul hx hb dX16_comes_15 ?_
  exact hret (r_9 * 2) (tr2_9, tn2_9) (⟨by rw [hq_9.1]; rfl, by rw [hq_9.2, hq_3]; rfl⟩) (rfl) hP hD hS (Nat.le_refl _) (Nat.le_refl _) dX16_comes_16
abbrev rxX8_comes_10 : Room := { frames := 3, cells := 0, slots := 0, locals := 65 }
set_option maxHeartbeats 400000 in
set_option maxRecDepth 100000 in
theorem xX8_comes_10 (l : Launch) (E : fx_En) (ks : fz_Ks) (ax : Nat → Nat) (th : Nat) (nb : Int32) (mm : Int32) (tr : Nat → Int32) (tn : Nat) (xv : Int32) (htn : tn ≤ 30) : fy_Mi l yX8_comes cX8_comes 3 .int rxX8_comes_10 E ks [.ref th, .int xv, .ref (ax 4)] [(ax 4, .inr (4, [.ref (ax 60), .int (nI tn)])), (ax 60, .inl (E.2 1, 30, .inl tr))] [(th, .inr (10, [.int nb, .int mm]))] (S := (Nat → Int32) × Nat) (fun (u : (Nat → Int32) × Nat) => [(ax 4, .inr (4, [.ref (ax 60), .int (nI u.2)])), (ax 60, .inl (E.2 1, 30, .inl u.1))]) (fun (r : Int32) (u : (Nat → Int32) × Nat) => r = comesV 2 4 nb mm xv ∧ (u.1, u.2) = bgL (tr, tn) (comesB 2 4)) := by
  refine fy_iW rfl rfl ?_
  intro p e s m args below meth c A ls Q X hE hP hD hR hZ hA hl hret
  have hx := X.1
  have hb := X.2.1
  have hS : va_S A s.heap s.heap [] := va_S.rf
  replace hP : va_P E.1 clA [(ax 4, .inr (4, [.ref (ax 60), .int (nI tn)])), (ax 60, .inl (E.2 1, 30, .inl tr))] _ := hP
  replace hD : va_D A [(ax 4, .inr (4, [.ref (ax 60), .int (nI tn)])), (ax 60, .inl (E.2 1, 30, .inl tr))] := hD
  replace hl : lv_has ls 3 [(0, .ref th), (1, .int xv), (2, .ref (ax 4))] := hl
  refine lv_aload_n hx hb dX8_comes_0 rfl (lv_at hl 2 rfl) ?_
  refine lv_bipush (v := 30) hx hb dX8_comes_1 rfl ?_
  refine fx_cv (va_runV (As := [.int 30]) (rest := []) X (xX4_ran l E ax tr tn 30 (by first | assumption | omega) (by decide) _) (cwV 1 X.2.2.2.2 (lw_V q1008 q980 q981 q73 q982) rfl rfl rfl ⟨rfl, hdX4_ran⟩ ⟨Nat.le_of_ble_eq_true rfl, Nat.le_of_ble_eq_true rfl⟩) (fx_preV (fx_pre hE hP hD hS hR [0, 1] rfl rfl fx_rc0) (va_recv hE.1 hP (ci := 4) (q0 := 0) rfl rfl)) rfl rfl hl.1 rfl (lv_room (Nat.le_of_ble_eq_true rfl)) dX8_comes_3 ⟨Nat.le_refl _, Nat.le_refl _⟩) hP hD hS hA [0, 1] rfl rfl (fun u H locs hq_3 hP hD hS => ?_)
  obtain ⟨tr2_3, tn2_3⟩ := u
  replace hP : va_P E.1 clA [(ax 4, .inr (4, [.ref (ax 60), .int (nI tn2_3)])), (ax 60, .inl (E.2 1, 30, .inl tr2_3))] _ := hP
  replace hD : va_D A [(ax 4, .inr (4, [.ref (ax 60), .int (nI tn2_3)])), (ax 60, .inl (E.2 1, 30, .inl tr2_3))] := hD
  replace hq_3 : (tr2_3, tn2_3) = bg (tr, tn) 30 := hq_3
  have ht_3 : tn2_3 ≤ 30 := trc_le hq_3 (bg_le htn)
  refine lv_iconst (v := 0) hx hb dX8_comes_6 rfl ?_
  refine lv_aload_n hx hb dX8_comes_7 rfl (lv_at hl 0 rfl) ?_
  refine lv_iload_n hx hb dX8_comes_8 rfl (lv_at hl 1 rfl) ?_
  refine lv_aload_n hx hb dX8_comes_9 rfl (lv_at hl 2 rfl) ?_
  refine fx_ci (df_runS (As := [.int xv, .ref (ax 4)]) (rest := [.int 0]) (x := yTc) (hE.1.1 10 _ rfl).2 X (xX16_comes_10 l E ax th nb mm tr2_3 tn2_3 xv (by first | assumption | omega) _) ⟨rfl, rfl, Nat.le_of_ble_eq_true rfl, Nat.le_of_ble_eq_true rfl⟩ (lw_meth q1010) List.mem_cons_self q1595 q1009 q371 ⟨rfl, rfl⟩ (by decide) hdX16_comes.2.2 (va_tabs rfl rfl (hZ.1.2.2.1 _ (List.mem_of_getElem? (i := 2) rfl))) (va_tabs rfl rfl (hZ.1.2.2.1 _ (List.mem_of_getElem? (i := 1) rfl))) (df_fD (args := args) ⟨rfl, rfl⟩ (va_tabs rfl rfl (hZ.1.2.2.1 _ (List.mem_of_getElem? (i := 1) rfl))) (df_ld (hZ.1.2.2.2.1 _ (List.mem_of_getElem? (i := 0) rfl)))) (fx_preV (fx_pre hE hP hD hS hR [0, 1] rfl rfl (fx_rcr 0 rfl fx_rc0)) (va_recv hE.1 (hR.at hS) (ci := 10) (q0 := 0) rfl rfl)) rfl rfl hl.1 rfl (lv_room (Nat.le_of_ble_eq_true rfl)) dX8_comes_10 ⟨Nat.le_refl _, Nat.le_refl _⟩) hP hD hS hA [0, 1] rfl rfl (fun r_10 u H locs hq_10 hP hD hS => ?_)
  obtain ⟨tr2_10, tn2_10⟩ := u
  replace hP : va_P E.1 clA [(ax 4, .inr (4, [.ref (ax 60), .int (nI tn2_10)])), (ax 60, .inl (E.2 1, 30, .inl tr2_10))] _ := hP
  replace hD : va_D A [(ax 4, .inr (4, [.ref (ax 60), .int (nI tn2_10)])), (ax 60, .inl (E.2 1, 30, .inl tr2_10))] := hD
  replace hq_10 : r_10 = comesV 0 4 nb mm xv ∧ (tr2_10, tn2_10) = bgL (tr2_3, tn2_3) (comesB 0 4) := hq_10
  refine lv_isub hx hb dX8_comes_13 ?_
  exact hret (0 - r_10) (tr2_10, tn2_10) (⟨by rw [hq_10.1]; rfl, by rw [hq_10.2, hq_3]; rfl⟩) (rfl) hP hD hS (Nat.le_refl _) (Nat.le_refl _) dX8_comes_14
abbrev rxX10_comes_10 : Room := { frames := 4, cells := 0, slots := 0, locals := 87 }
set_option maxHeartbeats 400000 in
set_option maxRecDepth 100000 in
theorem xX10_comes_10 (l : Launch) (E : fx_En) (ks : fz_Ks) (ax : Nat → Nat) (th : Nat) (nb : Int32) (mm : Int32) (tr : Nat → Int32) (tn : Nat) (xv : Int32) (htn : tn ≤ 30) : fy_Mi l yX10_comes cX10_comes 3 .int rxX10_comes_10 E ks [.ref th, .int xv, .ref (ax 4)] [(ax 4, .inr (4, [.ref (ax 60), .int (nI tn)])), (ax 60, .inl (E.2 1, 30, .inl tr))] [(th, .inr (10, [.int nb, .int mm]))] (S := (Nat → Int32) × Nat) (fun (u : (Nat → Int32) × Nat) => [(ax 4, .inr (4, [.ref (ax 60), .int (nI u.2)])), (ax 60, .inl (E.2 1, 30, .inl u.1))]) (fun (r : Int32) (u : (Nat → Int32) × Nat) => r = comesV 4 4 nb mm xv ∧ (u.1, u.2) = bgL (tr, tn) (comesB 4 4)) := by
  refine fy_iW rfl rfl ?_
  intro p e s m args below meth c A ls Q X hE hP hD hR hZ hA hl hret
  have hx := X.1
  have hb := X.2.1
  have hS : va_S A s.heap s.heap [] := va_S.rf
  replace hP : va_P E.1 clA [(ax 4, .inr (4, [.ref (ax 60), .int (nI tn)])), (ax 60, .inl (E.2 1, 30, .inl tr))] _ := hP
  replace hD : va_D A [(ax 4, .inr (4, [.ref (ax 60), .int (nI tn)])), (ax 60, .inl (E.2 1, 30, .inl tr))] := hD
  replace hl : lv_has ls 3 [(0, .ref th), (1, .int xv), (2, .ref (ax 4))] := hl
  refine lv_aload_n hx hb dX10_comes_0 rfl (lv_at hl 2 rfl) ?_
  refine lv_bipush (v := 60) hx hb dX10_comes_1 rfl ?_
  refine fx_cv (va_runV (As := [.int 60]) (rest := []) X (xX4_ran l E ax tr tn 60 (by first | assumption | omega) (by decide) _) (cwV 1 X.2.2.2.2 (lw_V q1004 q980 q981 q73 q982) rfl rfl rfl ⟨rfl, hdX4_ran⟩ ⟨Nat.le_of_ble_eq_true rfl, Nat.le_of_ble_eq_true rfl⟩) (fx_preV (fx_pre hE hP hD hS hR [0, 1] rfl rfl fx_rc0) (va_recv hE.1 hP (ci := 4) (q0 := 0) rfl rfl)) rfl rfl hl.1 rfl (lv_room (Nat.le_of_ble_eq_true rfl)) dX10_comes_3 ⟨Nat.le_refl _, Nat.le_refl _⟩) hP hD hS hA [0, 1] rfl rfl (fun u H locs hq_3 hP hD hS => ?_)
  obtain ⟨tr2_3, tn2_3⟩ := u
  replace hP : va_P E.1 clA [(ax 4, .inr (4, [.ref (ax 60), .int (nI tn2_3)])), (ax 60, .inl (E.2 1, 30, .inl tr2_3))] _ := hP
  replace hD : va_D A [(ax 4, .inr (4, [.ref (ax 60), .int (nI tn2_3)])), (ax 60, .inl (E.2 1, 30, .inl tr2_3))] := hD
  replace hq_3 : (tr2_3, tn2_3) = bg (tr, tn) 60 := hq_3
  have ht_3 : tn2_3 ≤ 30 := trc_le hq_3 (bg_le htn)
  refine lv_aload_n hx hb dX10_comes_6 rfl (lv_at hl 0 rfl) ?_
  refine lv_iload_n hx hb dX10_comes_7 rfl (lv_at hl 1 rfl) ?_
  refine lv_iconst (v := 1) hx hb dX10_comes_8 rfl ?_
  refine lv_iadd hx hb dX10_comes_9 ?_
  refine lv_aload_n hx hb dX10_comes_10 rfl (lv_at hl 2 rfl) ?_
  refine fx_ci (va_runSU (As := [.int (xv + 1), .ref (ax 4)]) (rest := []) (hE.1.1 10 _ rfl).2 X (xX8_comes_10 l E ks ax th nb mm tr2_3 tn2_3 (xv + 1) (by first | assumption | omega) _) (va_cwSU 2 X.2.2.2.2 (lw_SU q1005 q1594 q367 q1006 q78 q1007) rfl rfl rfl ⟨by decide, hdX8_comes.2.2⟩ ⟨Nat.le_of_ble_eq_true rfl, Nat.le_of_ble_eq_true rfl⟩) (fx_preV (fz_pre hE hP hD hS hR hZ hA [0, 1] rfl rfl (fx_rcr 0 rfl fx_rc0)) (va_recv hE.1 (hR.at hS) (ci := 10) (q0 := 0) rfl rfl)) rfl rfl hl.1 rfl (lv_room (Nat.le_of_ble_eq_true rfl)) dX10_comes_11 ⟨Nat.le_refl _, Nat.le_refl _⟩) hP hD hS hA [0, 1] rfl rfl (fun r_11 u H locs hq_11 hP hD hS => ?_)
  obtain ⟨tr2_11, tn2_11⟩ := u
  replace hP : va_P E.1 clA [(ax 4, .inr (4, [.ref (ax 60), .int (nI tn2_11)])), (ax 60, .inl (E.2 1, 30, .inl tr2_11))] _ := hP
  replace hD : va_D A [(ax 4, .inr (4, [.ref (ax 60), .int (nI tn2_11)])), (ax 60, .inl (E.2 1, 30, .inl tr2_11))] := hD
  replace hq_11 : r_11 = comesV 2 4 nb mm (xv + 1) ∧ (tr2_11, tn2_11) = bgL (tr2_3, tn2_3) (comesB 2 4) := hq_11
  exact hret r_11 (tr2_11, tn2_11) (⟨by rw [hq_11.1]; rfl, by rw [hq_11.2, hq_3]; rfl⟩) (rfl) hP hD hS (Nat.le_refl _) (Nat.le_refl _) dX10_comes_14
abbrev rxX16_comes_11 : Room := { frames := 4, cells := 0, slots := 0, locals := 87 }
set_option maxHeartbeats 400000 in
set_option maxRecDepth 100000 in
theorem xX16_comes_11 (l : Launch) (E : fx_En) (ax : Nat → Nat) (th : Nat) (nb : Int32) (mm : Int32) (tr : Nat → Int32) (tn : Nat) (xv : Int32) (htn : tn ≤ 30) : fx_Mi l yX16_comes cX16_comes 3 .int rxX16_comes_11 E [.ref th, .int xv, .ref (ax 4)] [(ax 4, .inr (4, [.ref (ax 60), .int (nI tn)])), (ax 60, .inl (E.2 1, 30, .inl tr))] [(th, .inr (11, [.int nb, .int mm]))] (S := (Nat → Int32) × Nat) (fun (u : (Nat → Int32) × Nat) => [(ax 4, .inr (4, [.ref (ax 60), .int (nI u.2)])), (ax 60, .inl (E.2 1, 30, .inl u.1))]) (fun (r : Int32) (u : (Nat → Int32) × Nat) => r = comesV 0 5 nb mm xv ∧ (u.1, u.2) = bgL (tr, tn) (comesB 0 5)) := by
  refine fx_iW rfl rfl ?_
  intro p e s m args below meth c A ls Q X hE hP hD hR hA hl hret
  have hx := X.1
  have hb := X.2.1
  have hS : va_S A s.heap s.heap [] := va_S.rf
  replace hP : va_P E.1 clA [(ax 4, .inr (4, [.ref (ax 60), .int (nI tn)])), (ax 60, .inl (E.2 1, 30, .inl tr))] _ := hP
  replace hD : va_D A [(ax 4, .inr (4, [.ref (ax 60), .int (nI tn)])), (ax 60, .inl (E.2 1, 30, .inl tr))] := hD
  replace hl : lv_has ls 3 [(0, .ref th), (1, .int xv), (2, .ref (ax 4))] := hl
  refine lv_aload_n hx hb dX16_comes_0 rfl (lv_at hl 2 rfl) ?_
  refine lv_bipush (v := 11) hx hb dX16_comes_1 rfl ?_
  refine fx_cv (va_runV (As := [.int 11]) (rest := []) X (xX4_ran l E ax tr tn 11 (by first | assumption | omega) (by decide) _) (cwV 1 X.2.2.2.2 (lw_V q1011 q980 q981 q73 q982) rfl rfl rfl ⟨rfl, hdX4_ran⟩ ⟨Nat.le_of_ble_eq_true rfl, Nat.le_of_ble_eq_true rfl⟩) (fx_preV (fx_pre hE hP hD hS hR [0, 1] rfl rfl fx_rc0) (va_recv hE.1 hP (ci := 4) (q0 := 0) rfl rfl)) rfl rfl hl.1 rfl (lv_room (Nat.le_of_ble_eq_true rfl)) dX16_comes_3 ⟨Nat.le_refl _, Nat.le_refl _⟩) hP hD hS hA [0, 1] rfl rfl (fun u H locs hq_3 hP hD hS => ?_)
  obtain ⟨tr2_3, tn2_3⟩ := u
  replace hP : va_P E.1 clA [(ax 4, .inr (4, [.ref (ax 60), .int (nI tn2_3)])), (ax 60, .inl (E.2 1, 30, .inl tr2_3))] _ := hP
  replace hD : va_D A [(ax 4, .inr (4, [.ref (ax 60), .int (nI tn2_3)])), (ax 60, .inl (E.2 1, 30, .inl tr2_3))] := hD
  replace hq_3 : (tr2_3, tn2_3) = bg (tr, tn) 11 := hq_3
  have ht_3 : tn2_3 ≤ 30 := trc_le hq_3 (bg_le htn)
  refine lv_aload_n hx hb dX16_comes_6 rfl (lv_at hl 0 rfl) ?_
  refine lv_iload_n hx hb dX16_comes_7 rfl (lv_at hl 1 rfl) ?_
  refine lv_aload_n hx hb dX16_comes_8 rfl (lv_at hl 2 rfl) ?_
  refine fx_ci5 (va_runF (As := [.int xv, .ref (ax 4)]) (rest := []) (hE.1.1 11 _ rfl).2 X (xX11_adds_11 l E ax th nb mm tr2_3 tn2_3 xv (by first | assumption | omega) _) (va_cwF 2 X.2.2.2.2 (lw_F q1013 q1021 q977 q81 q978) rfl rfl rfl (hE.2.2.2.1 _ (List.mem_of_getElem? (i := 13) rfl)) ⟨(ifA_ok _ (List.mem_of_getElem? (i := 13) rfl)).1, (ifA_ok _ (List.mem_of_getElem? (i := 13) rfl)).2, hdX11_adds.2.2⟩ ⟨Nat.le_of_ble_eq_true rfl, Nat.le_of_ble_eq_true rfl⟩) (fx_preV (fx_pre hE hP hD hS hR [0, 1] rfl rfl (fx_rcr 0 rfl fx_rc0)) (va_recv hE.1 (hR.at hS) (ci := 11) (q0 := 0) rfl rfl)) rfl rfl hl.1 rfl (lv_room (Nat.le_of_ble_eq_true rfl)) dX16_comes_9 ⟨Nat.le_refl _, Nat.le_refl _⟩) hP hD hS hA [0, 1] rfl rfl (fun r_9 u H locs hq_9 hP hD hS => ?_)
  obtain ⟨tr2_9, tn2_9⟩ := u
  replace hP : va_P E.1 clA [(ax 4, .inr (4, [.ref (ax 60), .int (nI tn2_9)])), (ax 60, .inl (E.2 1, 30, .inl tr2_9))] _ := hP
  replace hD : va_D A [(ax 4, .inr (4, [.ref (ax 60), .int (nI tn2_9)])), (ax 60, .inl (E.2 1, 30, .inl tr2_9))] := hD
  replace hq_9 : r_9 = addsV 5 nb xv ∧ (tr2_9, tn2_9) = bgL (tr2_3, tn2_3) (addsB 5) := hq_9
  refine lv_iconst (v := 2) hx hb dX16_comes_14 rfl ?_
  refine lv_imul hx hb dX16_comes_15 ?_
  exact hret (r_9 * 2) (tr2_9, tn2_9) (⟨by rw [hq_9.1]; rfl, by rw [hq_9.2, hq_3]; rfl⟩) (rfl) hP hD hS (Nat.le_refl _) (Nat.le_refl _) dX16_comes_16
abbrev rxX16_comes_12 : Room := { frames := 2, cells := 0, slots := 0, locals := 43 }
set_option maxHeartbeats 400000 in
set_option maxRecDepth 100000 in
theorem xX16_comes_12 (l : Launch) (E : fx_En) (ax : Nat → Nat) (th : Nat) (nb : Int32) (mm : Int32) (tr : Nat → Int32) (tn : Nat) (xv : Int32) (htn : tn ≤ 30) : fx_Mi l yX16_comes cX16_comes 3 .int rxX16_comes_12 E [.ref th, .int xv, .ref (ax 4)] [(ax 4, .inr (4, [.ref (ax 60), .int (nI tn)])), (ax 60, .inl (E.2 1, 30, .inl tr))] [(th, .inr (12, [.int nb, .int mm]))] (S := (Nat → Int32) × Nat) (fun (u : (Nat → Int32) × Nat) => [(ax 4, .inr (4, [.ref (ax 60), .int (nI u.2)])), (ax 60, .inl (E.2 1, 30, .inl u.1))]) (fun (r : Int32) (u : (Nat → Int32) × Nat) => r = comesV 0 6 nb mm xv ∧ (u.1, u.2) = bgL (tr, tn) (comesB 0 6)) := by
  refine fx_iW rfl rfl ?_
  intro p e s m args below meth c A ls Q X hE hP hD hR hA hl hret
  have hx := X.1
  have hb := X.2.1
  have hS : va_S A s.heap s.heap [] := va_S.rf
  replace hP : va_P E.1 clA [(ax 4, .inr (4, [.ref (ax 60), .int (nI tn)])), (ax 60, .inl (E.2 1, 30, .inl tr))] _ := hP
  replace hD : va_D A [(ax 4, .inr (4, [.ref (ax 60), .int (nI tn)])), (ax 60, .inl (E.2 1, 30, .inl tr))] := hD
  replace hl : lv_has ls 3 [(0, .ref th), (1, .int xv), (2, .ref (ax 4))] := hl
  refine lv_aload_n hx hb dX16_comes_0 rfl (lv_at hl 2 rfl) ?_
  refine lv_bipush (v := 11) hx hb dX16_comes_1 rfl ?_
  refine fx_cv (va_runV (As := [.int 11]) (rest := []) X (xX4_ran l E ax tr tn 11 (by first | assumption | omega) (by decide) _) (cwV 1 X.2.2.2.2 (lw_V q1011 q980 q981 q73 q982) rfl rfl rfl ⟨rfl, hdX4_ran⟩ ⟨Nat.le_of_ble_eq_true rfl, Nat.le_of_ble_eq_true rfl⟩) (fx_preV (fx_pre hE hP hD hS hR [0, 1] rfl rfl fx_rc0) (va_recv hE.1 hP (ci := 4) (q0 := 0) rfl rfl)) rfl rfl hl.1 rfl (lv_room (Nat.le_of_ble_eq_true rfl)) dX16_comes_3 ⟨Nat.le_refl _, Nat.le_refl _⟩) hP hD hS hA [0, 1] rfl rfl (fun u H locs hq_3 hP hD hS => ?_)
  obtain ⟨tr2_3, tn2_3⟩ := u
  replace hP : va_P E.1 clA [(ax 4, .inr (4, [.ref (ax 60), .int (nI tn2_3)])), (ax 60, .inl (E.2 1, 30, .inl tr2_3))] _ := hP
  replace hD : va_D A [(ax 4, .inr (4, [.ref (ax 60), .int (nI tn2_3)])), (ax 60, .inl (E.2 1, 30, .inl tr2_3))] := hD
  replace hq_3 : (tr2_3, tn2_3) = bg (tr, tn) 11 := hq_3
  have ht_3 : tn2_3 ≤ 30 := trc_le hq_3 (bg_le htn)
  refine lv_aload_n hx hb dX16_comes_6 rfl (lv_at hl 0 rfl) ?_
  refine lv_iload_n hx hb dX16_comes_7 rfl (lv_at hl 1 rfl) ?_
  refine lv_aload_n hx hb dX16_comes_8 rfl (lv_at hl 2 rfl) ?_
  refine fx_ci5 (va_runF (As := [.int xv, .ref (ax 4)]) (rest := []) (hE.1.1 12 _ rfl).2 X (xX12_adds_12 l E ax th nb mm tr2_3 tn2_3 xv (by first | assumption | omega) _) (va_cwF 2 X.2.2.2.2 (lw_F q1013 q1038 q994 q82 q995) rfl rfl rfl (hE.2.2.2.1 _ (List.mem_of_getElem? (i := 14) rfl)) ⟨(ifA_ok _ (List.mem_of_getElem? (i := 14) rfl)).1, (ifA_ok _ (List.mem_of_getElem? (i := 14) rfl)).2, hdX12_adds.2.2⟩ ⟨Nat.le_of_ble_eq_true rfl, Nat.le_of_ble_eq_true rfl⟩) (fx_preV (fx_pre hE hP hD hS hR [0, 1] rfl rfl (fx_rcr 0 rfl fx_rc0)) (va_recv hE.1 (hR.at hS) (ci := 12) (q0 := 0) rfl rfl)) rfl rfl hl.1 rfl (lv_room (Nat.le_of_ble_eq_true rfl)) dX16_comes_9 ⟨Nat.le_refl _, Nat.le_refl _⟩) hP hD hS hA [0, 1] rfl rfl (fun r_9 u H locs hq_9 hP hD hS => ?_)
  obtain ⟨tr2_9, tn2_9⟩ := u
  replace hP : va_P E.1 clA [(ax 4, .inr (4, [.ref (ax 60), .int (nI tn2_9)])), (ax 60, .inl (E.2 1, 30, .inl tr2_9))] _ := hP
  replace hD : va_D A [(ax 4, .inr (4, [.ref (ax 60), .int (nI tn2_9)])), (ax 60, .inl (E.2 1, 30, .inl tr2_9))] := hD
  replace hq_9 : r_9 = addsV 6 nb xv ∧ (tr2_9, tn2_9) = bgL (tr2_3, tn2_3) (addsB 6) := hq_9
  refine lv_iconst (v := 2) hx hb dX16_comes_14 rfl ?_
  refine lv_imul hx hb dX16_comes_15 ?_
  exact hret (r_9 * 2) (tr2_9, tn2_9) (⟨by rw [hq_9.1]; rfl, by rw [hq_9.2, hq_3]; rfl⟩) (rfl) hP hD hS (Nat.le_refl _) (Nat.le_refl _) dX16_comes_16
abbrev rxX12_comes_12 : Room := { frames := 3, cells := 0, slots := 0, locals := 65 }
set_option maxHeartbeats 400000 in
set_option maxRecDepth 100000 in
theorem xX12_comes_12 (l : Launch) (E : fx_En) (ks : fz_Ks) (ax : Nat → Nat) (th : Nat) (nb : Int32) (mm : Int32) (tr : Nat → Int32) (tn : Nat) (xv : Int32) (htn : tn ≤ 30) : fy_Mi l yX12_comes cX12_comes 3 .int rxX12_comes_12 E ks [.ref th, .int xv, .ref (ax 4)] [(ax 4, .inr (4, [.ref (ax 60), .int (nI tn)])), (ax 60, .inl (E.2 1, 30, .inl tr))] [(th, .inr (12, [.int nb, .int mm]))] (S := (Nat → Int32) × Nat) (fun (u : (Nat → Int32) × Nat) => [(ax 4, .inr (4, [.ref (ax 60), .int (nI u.2)])), (ax 60, .inl (E.2 1, 30, .inl u.1))]) (fun (r : Int32) (u : (Nat → Int32) × Nat) => r = comesV 6 6 nb mm xv ∧ (u.1, u.2) = bgL (tr, tn) (comesB 6 6)) := by
  refine fy_iW rfl rfl ?_
  intro p e s m args below meth c A ls Q X hE hP hD hR hZ hA hl hret
  have hx := X.1
  have hb := X.2.1
  have hS : va_S A s.heap s.heap [] := va_S.rf
  replace hP : va_P E.1 clA [(ax 4, .inr (4, [.ref (ax 60), .int (nI tn)])), (ax 60, .inl (E.2 1, 30, .inl tr))] _ := hP
  replace hD : va_D A [(ax 4, .inr (4, [.ref (ax 60), .int (nI tn)])), (ax 60, .inl (E.2 1, 30, .inl tr))] := hD
  replace hl : lv_has ls 3 [(0, .ref th), (1, .int xv), (2, .ref (ax 4))] := hl
  refine lv_aload_n hx hb dX12_comes_0 rfl (lv_at hl 2 rfl) ?_
  refine lv_bipush (v := 71) hx hb dX12_comes_1 rfl ?_
  refine fx_cv (va_runV (As := [.int 71]) (rest := []) X (xX4_ran l E ax tr tn 71 (by first | assumption | omega) (by decide) _) (cwV 1 X.2.2.2.2 (lw_V q996 q980 q981 q73 q982) rfl rfl rfl ⟨rfl, hdX4_ran⟩ ⟨Nat.le_of_ble_eq_true rfl, Nat.le_of_ble_eq_true rfl⟩) (fx_preV (fx_pre hE hP hD hS hR [0, 1] rfl rfl fx_rc0) (va_recv hE.1 hP (ci := 4) (q0 := 0) rfl rfl)) rfl rfl hl.1 rfl (lv_room (Nat.le_of_ble_eq_true rfl)) dX12_comes_3 ⟨Nat.le_refl _, Nat.le_refl _⟩) hP hD hS hA [0, 1] rfl rfl (fun u H locs hq_3 hP hD hS => ?_)
  obtain ⟨tr2_3, tn2_3⟩ := u
  replace hP : va_P E.1 clA [(ax 4, .inr (4, [.ref (ax 60), .int (nI tn2_3)])), (ax 60, .inl (E.2 1, 30, .inl tr2_3))] _ := hP
  replace hD : va_D A [(ax 4, .inr (4, [.ref (ax 60), .int (nI tn2_3)])), (ax 60, .inl (E.2 1, 30, .inl tr2_3))] := hD
  replace hq_3 : (tr2_3, tn2_3) = bg (tr, tn) 71 := hq_3
  have ht_3 : tn2_3 ≤ 30 := trc_le hq_3 (bg_le htn)
  refine lv_aload_n hx hb dX12_comes_6 rfl (lv_at hl 0 rfl) ?_
  refine lv_iload_n hx hb dX12_comes_7 rfl (lv_at hl 1 rfl) ?_
  refine lv_aload_n hx hb dX12_comes_8 rfl (lv_at hl 2 rfl) ?_
  refine fx_ci (df_runS (As := [.int xv, .ref (ax 4)]) (rest := []) (x := yTc) (hE.1.1 12 _ rfl).2 X (xX16_comes_12 l E ax th nb mm tr2_3 tn2_3 xv (by first | assumption | omega) _) ⟨rfl, rfl, Nat.le_of_ble_eq_true rfl, Nat.le_of_ble_eq_true rfl⟩ (lw_meth q1010) List.mem_cons_self q1595 q1009 q377 ⟨rfl, rfl⟩ (by decide) hdX16_comes.2.2 (va_tabs rfl rfl (hZ.1.2.2.1 _ (List.mem_of_getElem? (i := 3) rfl))) (va_tabs rfl rfl (hZ.1.2.2.1 _ (List.mem_of_getElem? (i := 1) rfl))) (df_fD (args := args) ⟨rfl, rfl⟩ (va_tabs rfl rfl (hZ.1.2.2.1 _ (List.mem_of_getElem? (i := 1) rfl))) (df_ld (hZ.1.2.2.2.1 _ (List.mem_of_getElem? (i := 0) rfl)))) (fx_preV (fx_pre hE hP hD hS hR [0, 1] rfl rfl (fx_rcr 0 rfl fx_rc0)) (va_recv hE.1 (hR.at hS) (ci := 12) (q0 := 0) rfl rfl)) rfl rfl hl.1 rfl (lv_room (Nat.le_of_ble_eq_true rfl)) dX12_comes_9 ⟨Nat.le_refl _, Nat.le_refl _⟩) hP hD hS hA [0, 1] rfl rfl (fun r_9 u H locs hq_9 hP hD hS => ?_)
  obtain ⟨tr2_9, tn2_9⟩ := u
  replace hP : va_P E.1 clA [(ax 4, .inr (4, [.ref (ax 60), .int (nI tn2_9)])), (ax 60, .inl (E.2 1, 30, .inl tr2_9))] _ := hP
  replace hD : va_D A [(ax 4, .inr (4, [.ref (ax 60), .int (nI tn2_9)])), (ax 60, .inl (E.2 1, 30, .inl tr2_9))] := hD
  replace hq_9 : r_9 = comesV 0 6 nb mm xv ∧ (tr2_9, tn2_9) = bgL (tr2_3, tn2_3) (comesB 0 6) := hq_9
  refine lv_aload_n hx hb dX12_comes_12 rfl (lv_at hl 0 rfl) ?_
  refine fx_getS X hE (hR.at hS) 0 rfl rfl 1 rfl q144 q145 rfl dX12_comes_13 ?_
  refine lv_iadd hx hb dX12_comes_16 ?_
  exact hret (r_9 + mm) (tr2_9, tn2_9) (⟨by rw [hq_9.1]; rfl, by rw [hq_9.2, hq_3]; rfl⟩) (rfl) hP hD hS (Nat.le_refl _) (Nat.le_refl _) dX12_comes_17
abbrev rxX3_gives_3 : Room := { frames := 3, cells := 0, slots := 0, locals := 65 }
set_option maxHeartbeats 400000 in
set_option maxRecDepth 100000 in
theorem xX3_gives_3 (l : Launch) (E : fx_En) (ks : fz_Ks) (ax : Nat → Nat) (th : Nat) (nb : Int32) (mm : Int32) (tr : Nat → Int32) (tn : Nat) (xv : Int32) (htn : tn ≤ 30) : fy_Mi l yX3_gives cX3_gives 3 .int rxX3_gives_3 E ks [.ref th, .int xv, .ref (ax 4)] [(ax 4, .inr (4, [.ref (ax 60), .int (nI tn)])), (ax 60, .inl (E.2 1, 30, .inl tr))] [(th, .inr (3, [.int nb, .int mm]))] (S := (Nat → Int32) × Nat) (fun (u : (Nat → Int32) × Nat) => [(ax 4, .inr (4, [.ref (ax 60), .int (nI u.2)])), (ax 60, .inl (E.2 1, 30, .inl u.1))]) (fun (r : Int32) (u : (Nat → Int32) × Nat) => r = givesV 0 0 nb mm xv ∧ (u.1, u.2) = bgL (tr, tn) (givesB 0 0)) := by
  refine fy_iW rfl rfl ?_
  intro p e s m args below meth c A ls Q X hE hP hD hR hZ hA hl hret
  have hx := X.1
  have hb := X.2.1
  have hS : va_S A s.heap s.heap [] := va_S.rf
  replace hP : va_P E.1 clA [(ax 4, .inr (4, [.ref (ax 60), .int (nI tn)])), (ax 60, .inl (E.2 1, 30, .inl tr))] _ := hP
  replace hD : va_D A [(ax 4, .inr (4, [.ref (ax 60), .int (nI tn)])), (ax 60, .inl (E.2 1, 30, .inl tr))] := hD
  replace hl : lv_has ls 3 [(0, .ref th), (1, .int xv), (2, .ref (ax 4))] := hl
  refine lv_aload_n hx hb dX3_gives_0 rfl (lv_at hl 2 rfl) ?_
  refine lv_bipush (v := 12) hx hb dX3_gives_1 rfl ?_
  refine fx_cv (va_runV (As := [.int 12]) (rest := []) X (xX4_ran l E ax tr tn 12 (by first | assumption | omega) (by decide) _) (cwV 1 X.2.2.2.2 (lw_V q989 q980 q981 q73 q982) rfl rfl rfl ⟨rfl, hdX4_ran⟩ ⟨Nat.le_of_ble_eq_true rfl, Nat.le_of_ble_eq_true rfl⟩) (fx_preV (fx_pre hE hP hD hS hR [0, 1] rfl rfl fx_rc0) (va_recv hE.1 hP (ci := 4) (q0 := 0) rfl rfl)) rfl rfl hl.1 rfl (lv_room (Nat.le_of_ble_eq_true rfl)) dX3_gives_3 ⟨Nat.le_refl _, Nat.le_refl _⟩) hP hD hS hA [0, 1] rfl rfl (fun u H locs hq_3 hP hD hS => ?_)
  obtain ⟨tr2_3, tn2_3⟩ := u
  replace hP : va_P E.1 clA [(ax 4, .inr (4, [.ref (ax 60), .int (nI tn2_3)])), (ax 60, .inl (E.2 1, 30, .inl tr2_3))] _ := hP
  replace hD : va_D A [(ax 4, .inr (4, [.ref (ax 60), .int (nI tn2_3)])), (ax 60, .inl (E.2 1, 30, .inl tr2_3))] := hD
  replace hq_3 : (tr2_3, tn2_3) = bg (tr, tn) 12 := hq_3
  have ht_3 : tn2_3 ≤ 30 := trc_le hq_3 (bg_le htn)
  refine lv_aload_n hx hb dX3_gives_6 rfl (lv_at hl 0 rfl) ?_
  refine lv_iload_n hx hb dX3_gives_7 rfl (lv_at hl 1 rfl) ?_
  refine lv_aload_n hx hb dX3_gives_8 rfl (lv_at hl 2 rfl) ?_
  refine fx_ci (df_runV (As := [.int xv, .ref (ax 4)]) (rest := []) (x := yTc) X (xX16_comes_3 l E ax th nb mm tr2_3 tn2_3 xv (by first | assumption | omega) _) ⟨rfl, rfl, Nat.le_of_ble_eq_true rfl, Nat.le_of_ble_eq_true rfl⟩ (lw_meth q1010) List.mem_cons_self q1595 q1009 ⟨rfl, rfl⟩ hdX16_comes.2.2 ⟨hdX16_comes.1, hdX16_comes.2.1⟩ (va_tabs rfl rfl (hZ.1.2.2.1 _ (List.mem_of_getElem? (i := 4) rfl))) (va_tabs rfl rfl (hZ.1.2.2.1 _ (List.mem_of_getElem? (i := 1) rfl))) (va_tabs rfl rfl hZ.1.2.2.2.2) (df_ld (hZ.1.2.2.2.1 _ (List.mem_of_getElem? (i := 0) rfl))) (fx_preV (fx_pre hE hP hD hS hR [0, 1] rfl rfl (fx_rcr 0 rfl fx_rc0)) (va_recv hE.1 (hR.at hS) (ci := 3) (q0 := 0) rfl rfl)) rfl rfl hl.1 rfl (lv_room (Nat.le_of_ble_eq_true rfl)) dX3_gives_9 ⟨Nat.le_refl _, Nat.le_refl _⟩) hP hD hS hA [0, 1] rfl rfl (fun r_9 u H locs hq_9 hP hD hS => ?_)
  obtain ⟨tr2_9, tn2_9⟩ := u
  replace hP : va_P E.1 clA [(ax 4, .inr (4, [.ref (ax 60), .int (nI tn2_9)])), (ax 60, .inl (E.2 1, 30, .inl tr2_9))] _ := hP
  replace hD : va_D A [(ax 4, .inr (4, [.ref (ax 60), .int (nI tn2_9)])), (ax 60, .inl (E.2 1, 30, .inl tr2_9))] := hD
  replace hq_9 : r_9 = comesV 0 0 nb mm xv ∧ (tr2_9, tn2_9) = bgL (tr2_3, tn2_3) (comesB 0 0) := hq_9
  refine lv_aload_n hx hb dX3_gives_12 rfl (lv_at hl 0 rfl) ?_
  refine fx_get X hE (hR.at hS) 0 rfl rfl 1 rfl q137 rfl rfl dX3_gives_13 ?_
  refine lv_isub hx hb dX3_gives_16 ?_
  exact hret (r_9 - mm) (tr2_9, tn2_9) (⟨by rw [hq_9.1]; rfl, by rw [hq_9.2, hq_3]; rfl⟩) (rfl) hP hD hS (Nat.le_refl _) (Nat.le_refl _) dX3_gives_17
abbrev rxX3_gives_7 : Room := { frames := 4, cells := 0, slots := 0, locals := 87 }
set_option maxHeartbeats 400000 in
set_option maxRecDepth 100000 in
theorem xX3_gives_7 (l : Launch) (E : fx_En) (ks : fz_Ks) (ax : Nat → Nat) (th : Nat) (nb : Int32) (mm : Int32) (tr : Nat → Int32) (tn : Nat) (xv : Int32) (htn : tn ≤ 30) : fy_Mi l yX3_gives cX3_gives 3 .int rxX3_gives_7 E ks [.ref th, .int xv, .ref (ax 4)] [(ax 4, .inr (4, [.ref (ax 60), .int (nI tn)])), (ax 60, .inl (E.2 1, 30, .inl tr))] [(th, .inr (7, [.int nb, .int mm]))] (S := (Nat → Int32) × Nat) (fun (u : (Nat → Int32) × Nat) => [(ax 4, .inr (4, [.ref (ax 60), .int (nI u.2)])), (ax 60, .inl (E.2 1, 30, .inl u.1))]) (fun (r : Int32) (u : (Nat → Int32) × Nat) => r = givesV 0 1 nb mm xv ∧ (u.1, u.2) = bgL (tr, tn) (givesB 0 1)) := by
  refine fy_iW rfl rfl ?_
  intro p e s m args below meth c A ls Q X hE hP hD hR hZ hA hl hret
  have hx := X.1
  have hb := X.2.1
  have hS : va_S A s.heap s.heap [] := va_S.rf
  replace hP : va_P E.1 clA [(ax 4, .inr (4, [.ref (ax 60), .int (nI tn)])), (ax 60, .inl (E.2 1, 30, .inl tr))] _ := hP
  replace hD : va_D A [(ax 4, .inr (4, [.ref (ax 60), .int (nI tn)])), (ax 60, .inl (E.2 1, 30, .inl tr))] := hD
  replace hl : lv_has ls 3 [(0, .ref th), (1, .int xv), (2, .ref (ax 4))] := hl
  refine lv_aload_n hx hb dX3_gives_0 rfl (lv_at hl 2 rfl) ?_
  refine lv_bipush (v := 12) hx hb dX3_gives_1 rfl ?_
  refine fx_cv (va_runV (As := [.int 12]) (rest := []) X (xX4_ran l E ax tr tn 12 (by first | assumption | omega) (by decide) _) (cwV 1 X.2.2.2.2 (lw_V q989 q980 q981 q73 q982) rfl rfl rfl ⟨rfl, hdX4_ran⟩ ⟨Nat.le_of_ble_eq_true rfl, Nat.le_of_ble_eq_true rfl⟩) (fx_preV (fx_pre hE hP hD hS hR [0, 1] rfl rfl fx_rc0) (va_recv hE.1 hP (ci := 4) (q0 := 0) rfl rfl)) rfl rfl hl.1 rfl (lv_room (Nat.le_of_ble_eq_true rfl)) dX3_gives_3 ⟨Nat.le_refl _, Nat.le_refl _⟩) hP hD hS hA [0, 1] rfl rfl (fun u H locs hq_3 hP hD hS => ?_)
  obtain ⟨tr2_3, tn2_3⟩ := u
  replace hP : va_P E.1 clA [(ax 4, .inr (4, [.ref (ax 60), .int (nI tn2_3)])), (ax 60, .inl (E.2 1, 30, .inl tr2_3))] _ := hP
  replace hD : va_D A [(ax 4, .inr (4, [.ref (ax 60), .int (nI tn2_3)])), (ax 60, .inl (E.2 1, 30, .inl tr2_3))] := hD
  replace hq_3 : (tr2_3, tn2_3) = bg (tr, tn) 12 := hq_3
  have ht_3 : tn2_3 ≤ 30 := trc_le hq_3 (bg_le htn)
  refine lv_aload_n hx hb dX3_gives_6 rfl (lv_at hl 0 rfl) ?_
  refine lv_iload_n hx hb dX3_gives_7 rfl (lv_at hl 1 rfl) ?_
  refine lv_aload_n hx hb dX3_gives_8 rfl (lv_at hl 2 rfl) ?_
  refine fx_ci (df_runV (As := [.int xv, .ref (ax 4)]) (rest := []) (x := yTc) X (xX16_comes_7 l E ax th nb mm tr2_3 tn2_3 xv (by first | assumption | omega) _) ⟨rfl, rfl, Nat.le_of_ble_eq_true rfl, Nat.le_of_ble_eq_true rfl⟩ (lw_meth q1010) List.mem_cons_self q1595 q1009 ⟨rfl, rfl⟩ hdX16_comes.2.2 ⟨hdX16_comes.1, hdX16_comes.2.1⟩ (va_tabs rfl rfl (hZ.1.2.2.1 _ (List.mem_of_getElem? (i := 4) rfl))) (va_tabs rfl rfl (hZ.1.2.2.1 _ (List.mem_of_getElem? (i := 1) rfl))) (va_tabs rfl rfl hZ.1.2.2.2.2) (df_ld (hZ.1.2.2.2.1 _ (List.mem_of_getElem? (i := 1) rfl))) (fx_preV (fx_pre hE hP hD hS hR [0, 1] rfl rfl (fx_rcr 0 rfl fx_rc0)) (va_recv hE.1 (hR.at hS) (ci := 7) (q0 := 0) rfl rfl)) rfl rfl hl.1 rfl (lv_room (Nat.le_of_ble_eq_true rfl)) dX3_gives_9 ⟨Nat.le_refl _, Nat.le_refl _⟩) hP hD hS hA [0, 1] rfl rfl (fun r_9 u H locs hq_9 hP hD hS => ?_)
  obtain ⟨tr2_9, tn2_9⟩ := u
  replace hP : va_P E.1 clA [(ax 4, .inr (4, [.ref (ax 60), .int (nI tn2_9)])), (ax 60, .inl (E.2 1, 30, .inl tr2_9))] _ := hP
  replace hD : va_D A [(ax 4, .inr (4, [.ref (ax 60), .int (nI tn2_9)])), (ax 60, .inl (E.2 1, 30, .inl tr2_9))] := hD
  replace hq_9 : r_9 = comesV 0 1 nb mm xv ∧ (tr2_9, tn2_9) = bgL (tr2_3, tn2_3) (comesB 0 1) := hq_9
  refine lv_aload_n hx hb dX3_gives_12 rfl (lv_at hl 0 rfl) ?_
  refine fx_get X hE (hR.at hS) 0 rfl rfl 1 rfl q137 rfl rfl dX3_gives_13 ?_
  refine lv_isub hx hb dX3_gives_16 ?_
  exact hret (r_9 - mm) (tr2_9, tn2_9) (⟨by rw [hq_9.1]; rfl, by rw [hq_9.2, hq_3]; rfl⟩) (rfl) hP hD hS (Nat.le_refl _) (Nat.le_refl _) dX3_gives_17
abbrev rxX3_gives_8 : Room := { frames := 4, cells := 0, slots := 0, locals := 87 }
set_option maxHeartbeats 400000 in
set_option maxRecDepth 100000 in
theorem xX3_gives_8 (l : Launch) (E : fx_En) (ks : fz_Ks) (ax : Nat → Nat) (th : Nat) (nb : Int32) (mm : Int32) (tr : Nat → Int32) (tn : Nat) (xv : Int32) (htn : tn ≤ 30) : fy_Mi l yX3_gives cX3_gives 3 .int rxX3_gives_8 E ks [.ref th, .int xv, .ref (ax 4)] [(ax 4, .inr (4, [.ref (ax 60), .int (nI tn)])), (ax 60, .inl (E.2 1, 30, .inl tr))] [(th, .inr (8, [.int nb, .int mm]))] (S := (Nat → Int32) × Nat) (fun (u : (Nat → Int32) × Nat) => [(ax 4, .inr (4, [.ref (ax 60), .int (nI u.2)])), (ax 60, .inl (E.2 1, 30, .inl u.1))]) (fun (r : Int32) (u : (Nat → Int32) × Nat) => r = givesV 0 2 nb mm xv ∧ (u.1, u.2) = bgL (tr, tn) (givesB 0 2)) := by
  refine fy_iW rfl rfl ?_
  intro p e s m args below meth c A ls Q X hE hP hD hR hZ hA hl hret
  have hx := X.1
  have hb := X.2.1
  have hS : va_S A s.heap s.heap [] := va_S.rf
  replace hP : va_P E.1 clA [(ax 4, .inr (4, [.ref (ax 60), .int (nI tn)])), (ax 60, .inl (E.2 1, 30, .inl tr))] _ := hP
  replace hD : va_D A [(ax 4, .inr (4, [.ref (ax 60), .int (nI tn)])), (ax 60, .inl (E.2 1, 30, .inl tr))] := hD
  replace hl : lv_has ls 3 [(0, .ref th), (1, .int xv), (2, .ref (ax 4))] := hl
  refine lv_aload_n hx hb dX3_gives_0 rfl (lv_at hl 2 rfl) ?_
  refine lv_bipush (v := 12) hx hb dX3_gives_1 rfl ?_
  refine fx_cv (va_runV (As := [.int 12]) (rest := []) X (xX4_ran l E ax tr tn 12 (by first | assumption | omega) (by decide) _) (cwV 1 X.2.2.2.2 (lw_V q989 q980 q981 q73 q982) rfl rfl rfl ⟨rfl, hdX4_ran⟩ ⟨Nat.le_of_ble_eq_true rfl, Nat.le_of_ble_eq_true rfl⟩) (fx_preV (fx_pre hE hP hD hS hR [0, 1] rfl rfl fx_rc0) (va_recv hE.1 hP (ci := 4) (q0 := 0) rfl rfl)) rfl rfl hl.1 rfl (lv_room (Nat.le_of_ble_eq_true rfl)) dX3_gives_3 ⟨Nat.le_refl _, Nat.le_refl _⟩) hP hD hS hA [0, 1] rfl rfl (fun u H locs hq_3 hP hD hS => ?_)
  obtain ⟨tr2_3, tn2_3⟩ := u
  replace hP : va_P E.1 clA [(ax 4, .inr (4, [.ref (ax 60), .int (nI tn2_3)])), (ax 60, .inl (E.2 1, 30, .inl tr2_3))] _ := hP
  replace hD : va_D A [(ax 4, .inr (4, [.ref (ax 60), .int (nI tn2_3)])), (ax 60, .inl (E.2 1, 30, .inl tr2_3))] := hD
  replace hq_3 : (tr2_3, tn2_3) = bg (tr, tn) 12 := hq_3
  have ht_3 : tn2_3 ≤ 30 := trc_le hq_3 (bg_le htn)
  refine lv_aload_n hx hb dX3_gives_6 rfl (lv_at hl 0 rfl) ?_
  refine lv_iload_n hx hb dX3_gives_7 rfl (lv_at hl 1 rfl) ?_
  refine lv_aload_n hx hb dX3_gives_8 rfl (lv_at hl 2 rfl) ?_
  refine fx_ci (df_runO (As := [.int xv, .ref (ax 4)]) (rest := []) (x := yTc) (owner := "FigureTill$Comes") X (xX8_comes_8 l E ks ax th nb mm tr2_3 tn2_3 xv (by first | assumption | omega) _) ⟨rfl, rfl, Nat.le_of_ble_eq_true rfl, Nat.le_of_ble_eq_true rfl⟩ (lw_meth q1007) List.mem_cons_self q78 q1006 hdX8_comes.2.2 ⟨by decide, by decide⟩ (va_tabs rfl rfl (hZ.1.2.2.1 _ (List.mem_of_getElem? (i := 4) rfl))) (va_tabs rfl rfl (hZ.1.2.2.1 _ (List.mem_of_getElem? (i := 1) rfl))) (va_Decl.of (X.2.2.2.2 _ q1009) (X.2.2.2.2 _ q1010)) q1041 (fx_preV (fz_pre hE hP hD hS hR hZ hA [0, 1] rfl rfl (fx_rcr 0 rfl fx_rc0)) (va_recv hE.1 (hR.at hS) (ci := 8) (q0 := 0) rfl rfl)) rfl rfl hl.1 rfl (lv_room (Nat.le_of_ble_eq_true rfl)) dX3_gives_9 ⟨Nat.le_refl _, Nat.le_refl _⟩) hP hD hS hA [0, 1] rfl rfl (fun r_9 u H locs hq_9 hP hD hS => ?_)
  obtain ⟨tr2_9, tn2_9⟩ := u
  replace hP : va_P E.1 clA [(ax 4, .inr (4, [.ref (ax 60), .int (nI tn2_9)])), (ax 60, .inl (E.2 1, 30, .inl tr2_9))] _ := hP
  replace hD : va_D A [(ax 4, .inr (4, [.ref (ax 60), .int (nI tn2_9)])), (ax 60, .inl (E.2 1, 30, .inl tr2_9))] := hD
  replace hq_9 : r_9 = comesV 2 2 nb mm xv ∧ (tr2_9, tn2_9) = bgL (tr2_3, tn2_3) (comesB 2 2) := hq_9
  refine lv_aload_n hx hb dX3_gives_12 rfl (lv_at hl 0 rfl) ?_
  refine fx_get X hE (hR.at hS) 0 rfl rfl 1 rfl q137 rfl rfl dX3_gives_13 ?_
  refine lv_isub hx hb dX3_gives_16 ?_
  exact hret (r_9 - mm) (tr2_9, tn2_9) (⟨by rw [hq_9.1]; rfl, by rw [hq_9.2, hq_3]; rfl⟩) (rfl) hP hD hS (Nat.le_refl _) (Nat.le_refl _) dX3_gives_17
abbrev rxX3_gives_9 : Room := { frames := 3, cells := 0, slots := 0, locals := 65 }
set_option maxHeartbeats 400000 in
set_option maxRecDepth 100000 in
theorem xX3_gives_9 (l : Launch) (E : fx_En) (ks : fz_Ks) (ax : Nat → Nat) (th : Nat) (nb : Int32) (mm : Int32) (tr : Nat → Int32) (tn : Nat) (xv : Int32) (htn : tn ≤ 30) : fy_Mi l yX3_gives cX3_gives 3 .int rxX3_gives_9 E ks [.ref th, .int xv, .ref (ax 4)] [(ax 4, .inr (4, [.ref (ax 60), .int (nI tn)])), (ax 60, .inl (E.2 1, 30, .inl tr))] [(th, .inr (9, [.int nb, .int mm]))] (S := (Nat → Int32) × Nat) (fun (u : (Nat → Int32) × Nat) => [(ax 4, .inr (4, [.ref (ax 60), .int (nI u.2)])), (ax 60, .inl (E.2 1, 30, .inl u.1))]) (fun (r : Int32) (u : (Nat → Int32) × Nat) => r = givesV 0 3 nb mm xv ∧ (u.1, u.2) = bgL (tr, tn) (givesB 0 3)) := by
  refine fy_iW rfl rfl ?_
  intro p e s m args below meth c A ls Q X hE hP hD hR hZ hA hl hret
  have hx := X.1
  have hb := X.2.1
  have hS : va_S A s.heap s.heap [] := va_S.rf
  replace hP : va_P E.1 clA [(ax 4, .inr (4, [.ref (ax 60), .int (nI tn)])), (ax 60, .inl (E.2 1, 30, .inl tr))] _ := hP
  replace hD : va_D A [(ax 4, .inr (4, [.ref (ax 60), .int (nI tn)])), (ax 60, .inl (E.2 1, 30, .inl tr))] := hD
  replace hl : lv_has ls 3 [(0, .ref th), (1, .int xv), (2, .ref (ax 4))] := hl
  refine lv_aload_n hx hb dX3_gives_0 rfl (lv_at hl 2 rfl) ?_
  refine lv_bipush (v := 12) hx hb dX3_gives_1 rfl ?_
  refine fx_cv (va_runV (As := [.int 12]) (rest := []) X (xX4_ran l E ax tr tn 12 (by first | assumption | omega) (by decide) _) (cwV 1 X.2.2.2.2 (lw_V q989 q980 q981 q73 q982) rfl rfl rfl ⟨rfl, hdX4_ran⟩ ⟨Nat.le_of_ble_eq_true rfl, Nat.le_of_ble_eq_true rfl⟩) (fx_preV (fx_pre hE hP hD hS hR [0, 1] rfl rfl fx_rc0) (va_recv hE.1 hP (ci := 4) (q0 := 0) rfl rfl)) rfl rfl hl.1 rfl (lv_room (Nat.le_of_ble_eq_true rfl)) dX3_gives_3 ⟨Nat.le_refl _, Nat.le_refl _⟩) hP hD hS hA [0, 1] rfl rfl (fun u H locs hq_3 hP hD hS => ?_)
  obtain ⟨tr2_3, tn2_3⟩ := u
  replace hP : va_P E.1 clA [(ax 4, .inr (4, [.ref (ax 60), .int (nI tn2_3)])), (ax 60, .inl (E.2 1, 30, .inl tr2_3))] _ := hP
  replace hD : va_D A [(ax 4, .inr (4, [.ref (ax 60), .int (nI tn2_3)])), (ax 60, .inl (E.2 1, 30, .inl tr2_3))] := hD
  replace hq_3 : (tr2_3, tn2_3) = bg (tr, tn) 12 := hq_3
  have ht_3 : tn2_3 ≤ 30 := trc_le hq_3 (bg_le htn)
  refine lv_aload_n hx hb dX3_gives_6 rfl (lv_at hl 0 rfl) ?_
  refine lv_iload_n hx hb dX3_gives_7 rfl (lv_at hl 1 rfl) ?_
  refine lv_aload_n hx hb dX3_gives_8 rfl (lv_at hl 2 rfl) ?_
  refine fx_ci (df_runV (As := [.int xv, .ref (ax 4)]) (rest := []) (x := yTc) X (xX16_comes_9 l E ax th nb mm tr2_3 tn2_3 xv (by first | assumption | omega) _) ⟨rfl, rfl, Nat.le_of_ble_eq_true rfl, Nat.le_of_ble_eq_true rfl⟩ (lw_meth q1010) List.mem_cons_self q1595 q1009 ⟨rfl, rfl⟩ hdX16_comes.2.2 ⟨hdX16_comes.1, hdX16_comes.2.1⟩ (va_tabs rfl rfl (hZ.1.2.2.1 _ (List.mem_of_getElem? (i := 4) rfl))) (va_tabs rfl rfl (hZ.1.2.2.1 _ (List.mem_of_getElem? (i := 1) rfl))) (va_tabs rfl rfl hZ.1.2.2.2.2) (df_ld (hZ.1.2.2.2.1 _ (List.mem_of_getElem? (i := 2) rfl))) (fx_preV (fx_pre hE hP hD hS hR [0, 1] rfl rfl (fx_rcr 0 rfl fx_rc0)) (va_recv hE.1 (hR.at hS) (ci := 9) (q0 := 0) rfl rfl)) rfl rfl hl.1 rfl (lv_room (Nat.le_of_ble_eq_true rfl)) dX3_gives_9 ⟨Nat.le_refl _, Nat.le_refl _⟩) hP hD hS hA [0, 1] rfl rfl (fun r_9 u H locs hq_9 hP hD hS => ?_)
  obtain ⟨tr2_9, tn2_9⟩ := u
  replace hP : va_P E.1 clA [(ax 4, .inr (4, [.ref (ax 60), .int (nI tn2_9)])), (ax 60, .inl (E.2 1, 30, .inl tr2_9))] _ := hP
  replace hD : va_D A [(ax 4, .inr (4, [.ref (ax 60), .int (nI tn2_9)])), (ax 60, .inl (E.2 1, 30, .inl tr2_9))] := hD
  replace hq_9 : r_9 = comesV 0 3 nb mm xv ∧ (tr2_9, tn2_9) = bgL (tr2_3, tn2_3) (comesB 0 3) := hq_9
  refine lv_aload_n hx hb dX3_gives_12 rfl (lv_at hl 0 rfl) ?_
  refine fx_get X hE (hR.at hS) 0 rfl rfl 1 rfl q137 rfl rfl dX3_gives_13 ?_
  refine lv_isub hx hb dX3_gives_16 ?_
  exact hret (r_9 - mm) (tr2_9, tn2_9) (⟨by rw [hq_9.1]; rfl, by rw [hq_9.2, hq_3]; rfl⟩) (rfl) hP hD hS (Nat.le_refl _) (Nat.le_refl _) dX3_gives_17
abbrev rxX9_gives_9 : Room := { frames := 4, cells := 0, slots := 0, locals := 87 }
set_option maxHeartbeats 400000 in
set_option maxRecDepth 100000 in
theorem xX9_gives_9 (l : Launch) (E : fx_En) (ks : fz_Ks) (ax : Nat → Nat) (th : Nat) (nb : Int32) (mm : Int32) (tr : Nat → Int32) (tn : Nat) (xv : Int32) (htn : tn ≤ 30) : fy_Mi l yX9_gives cX9_gives 3 .int rxX9_gives_9 E ks [.ref th, .int xv, .ref (ax 4)] [(ax 4, .inr (4, [.ref (ax 60), .int (nI tn)])), (ax 60, .inl (E.2 1, 30, .inl tr))] [(th, .inr (9, [.int nb, .int mm]))] (S := (Nat → Int32) × Nat) (fun (u : (Nat → Int32) × Nat) => [(ax 4, .inr (4, [.ref (ax 60), .int (nI u.2)])), (ax 60, .inl (E.2 1, 30, .inl u.1))]) (fun (r : Int32) (u : (Nat → Int32) × Nat) => r = givesV 3 3 nb mm xv ∧ (u.1, u.2) = bgL (tr, tn) (givesB 3 3)) := by
  refine fy_iW rfl rfl ?_
  intro p e s m args below meth c A ls Q X hE hP hD hR hZ hA hl hret
  have hx := X.1
  have hb := X.2.1
  have hS : va_S A s.heap s.heap [] := va_S.rf
  replace hP : va_P E.1 clA [(ax 4, .inr (4, [.ref (ax 60), .int (nI tn)])), (ax 60, .inl (E.2 1, 30, .inl tr))] _ := hP
  replace hD : va_D A [(ax 4, .inr (4, [.ref (ax 60), .int (nI tn)])), (ax 60, .inl (E.2 1, 30, .inl tr))] := hD
  replace hl : lv_has ls 3 [(0, .ref th), (1, .int xv), (2, .ref (ax 4))] := hl
  refine lv_aload_n hx hb dX9_gives_0 rfl (lv_at hl 2 rfl) ?_
  refine lv_bipush (v := 40) hx hb dX9_gives_1 rfl ?_
  refine fx_cv (va_runV (As := [.int 40]) (rest := []) X (xX4_ran l E ax tr tn 40 (by first | assumption | omega) (by decide) _) (cwV 1 X.2.2.2.2 (lw_V q1054 q980 q981 q73 q982) rfl rfl rfl ⟨rfl, hdX4_ran⟩ ⟨Nat.le_of_ble_eq_true rfl, Nat.le_of_ble_eq_true rfl⟩) (fx_preV (fx_pre hE hP hD hS hR [0, 1] rfl rfl fx_rc0) (va_recv hE.1 hP (ci := 4) (q0 := 0) rfl rfl)) rfl rfl hl.1 rfl (lv_room (Nat.le_of_ble_eq_true rfl)) dX9_gives_3 ⟨Nat.le_refl _, Nat.le_refl _⟩) hP hD hS hA [0, 1] rfl rfl (fun u H locs hq_3 hP hD hS => ?_)
  obtain ⟨tr2_3, tn2_3⟩ := u
  replace hP : va_P E.1 clA [(ax 4, .inr (4, [.ref (ax 60), .int (nI tn2_3)])), (ax 60, .inl (E.2 1, 30, .inl tr2_3))] _ := hP
  replace hD : va_D A [(ax 4, .inr (4, [.ref (ax 60), .int (nI tn2_3)])), (ax 60, .inl (E.2 1, 30, .inl tr2_3))] := hD
  replace hq_3 : (tr2_3, tn2_3) = bg (tr, tn) 40 := hq_3
  have ht_3 : tn2_3 ≤ 30 := trc_le hq_3 (bg_le htn)
  refine lv_aload_n hx hb dX9_gives_6 rfl (lv_at hl 0 rfl) ?_
  refine lv_iload_n hx hb dX9_gives_7 rfl (lv_at hl 1 rfl) ?_
  refine lv_iconst (v := 2) hx hb dX9_gives_8 rfl ?_
  refine lv_idiv hx hb dX9_gives_9 (by decide) ?_
  refine lv_aload_n hx hb dX9_gives_10 rfl (lv_at hl 2 rfl) ?_
  refine fx_ci (va_runSU (As := [.int (xv / 2), .ref (ax 4)]) (rest := []) (hE.1.1 9 _ rfl).2 X (xX3_gives_9 l E ks ax th nb mm tr2_3 tn2_3 (xv / 2) (by first | assumption | omega) _) (va_cwSU 2 X.2.2.2.2 (lw_SU q1055 q1050 q351 q1048 q72 q1056) rfl rfl rfl ⟨by decide, hdX3_gives.2.2⟩ ⟨Nat.le_of_ble_eq_true rfl, Nat.le_of_ble_eq_true rfl⟩) (fx_preV (fz_pre hE hP hD hS hR hZ hA [0, 1] rfl rfl (fx_rcr 0 rfl fx_rc0)) (va_recv hE.1 (hR.at hS) (ci := 9) (q0 := 0) rfl rfl)) rfl rfl hl.1 rfl (lv_room (Nat.le_of_ble_eq_true rfl)) dX9_gives_11 ⟨Nat.le_refl _, Nat.le_refl _⟩) hP hD hS hA [0, 1] rfl rfl (fun r_11 u H locs hq_11 hP hD hS => ?_)
  obtain ⟨tr2_11, tn2_11⟩ := u
  replace hP : va_P E.1 clA [(ax 4, .inr (4, [.ref (ax 60), .int (nI tn2_11)])), (ax 60, .inl (E.2 1, 30, .inl tr2_11))] _ := hP
  replace hD : va_D A [(ax 4, .inr (4, [.ref (ax 60), .int (nI tn2_11)])), (ax 60, .inl (E.2 1, 30, .inl tr2_11))] := hD
  replace hq_11 : r_11 = givesV 0 3 nb mm (xv / 2) ∧ (tr2_11, tn2_11) = bgL (tr2_3, tn2_3) (givesB 0 3) := hq_11
  exact hret r_11 (tr2_11, tn2_11) (⟨by rw [hq_11.1]; rfl, by rw [hq_11.2, hq_3]; rfl⟩) (rfl) hP hD hS (Nat.le_refl _) (Nat.le_refl _) dX9_gives_14
abbrev rxX3_gives_10 : Room := { frames := 5, cells := 0, slots := 0, locals := 109 }
set_option maxHeartbeats 400000 in
set_option maxRecDepth 100000 in
theorem xX3_gives_10 (l : Launch) (E : fx_En) (ks : fz_Ks) (ax : Nat → Nat) (th : Nat) (nb : Int32) (mm : Int32) (tr : Nat → Int32) (tn : Nat) (xv : Int32) (htn : tn ≤ 30) : fy_Mi l yX3_gives cX3_gives 3 .int rxX3_gives_10 E ks [.ref th, .int xv, .ref (ax 4)] [(ax 4, .inr (4, [.ref (ax 60), .int (nI tn)])), (ax 60, .inl (E.2 1, 30, .inl tr))] [(th, .inr (10, [.int nb, .int mm]))] (S := (Nat → Int32) × Nat) (fun (u : (Nat → Int32) × Nat) => [(ax 4, .inr (4, [.ref (ax 60), .int (nI u.2)])), (ax 60, .inl (E.2 1, 30, .inl u.1))]) (fun (r : Int32) (u : (Nat → Int32) × Nat) => r = givesV 0 4 nb mm xv ∧ (u.1, u.2) = bgL (tr, tn) (givesB 0 4)) := by
  refine fy_iW rfl rfl ?_
  intro p e s m args below meth c A ls Q X hE hP hD hR hZ hA hl hret
  have hx := X.1
  have hb := X.2.1
  have hS : va_S A s.heap s.heap [] := va_S.rf
  replace hP : va_P E.1 clA [(ax 4, .inr (4, [.ref (ax 60), .int (nI tn)])), (ax 60, .inl (E.2 1, 30, .inl tr))] _ := hP
  replace hD : va_D A [(ax 4, .inr (4, [.ref (ax 60), .int (nI tn)])), (ax 60, .inl (E.2 1, 30, .inl tr))] := hD
  replace hl : lv_has ls 3 [(0, .ref th), (1, .int xv), (2, .ref (ax 4))] := hl
  refine lv_aload_n hx hb dX3_gives_0 rfl (lv_at hl 2 rfl) ?_
  refine lv_bipush (v := 12) hx hb dX3_gives_1 rfl ?_
  refine fx_cv (va_runV (As := [.int 12]) (rest := []) X (xX4_ran l E ax tr tn 12 (by first | assumption | omega) (by decide) _) (cwV 1 X.2.2.2.2 (lw_V q989 q980 q981 q73 q982) rfl rfl rfl ⟨rfl, hdX4_ran⟩ ⟨Nat.le_of_ble_eq_true rfl, Nat.le_of_ble_eq_true rfl⟩) (fx_preV (fx_pre hE hP hD hS hR [0, 1] rfl rfl fx_rc0) (va_recv hE.1 hP (ci := 4) (q0 := 0) rfl rfl)) rfl rfl hl.1 rfl (lv_room (Nat.le_of_ble_eq_true rfl)) dX3_gives_3 ⟨Nat.le_refl _, Nat.le_refl _⟩) hP hD hS hA [0, 1] rfl rfl (fun u H locs hq_3 hP hD hS => ?_)
  obtain ⟨tr2_3, tn2_3⟩ := u
  replace hP : va_P E.1 clA [(ax 4, .inr (4, [.ref (ax 60), .int (nI tn2_3)])), (ax 60, .inl (E.2 1, 30, .inl tr2_3))] _ := hP
  replace hD : va_D A [(ax 4, .inr (4, [.ref (ax 60), .int (nI tn2_3)])), (ax 60, .inl (E.2 1, 30, .inl tr2_3))] := hD
  replace hq_3 : (tr2_3, tn2_3) = bg (tr, tn) 12 := hq_3
  have ht_3 : tn2_3 ≤ 30 := trc_le hq_3 (bg_le htn)
  refine lv_aload_n hx hb dX3_gives_6 rfl (lv_at hl 0 rfl) ?_
  refine lv_iload_n hx hb dX3_gives_7 rfl (lv_at hl 1 rfl) ?_
  refine lv_aload_n hx hb dX3_gives_8 rfl (lv_at hl 2 rfl) ?_
  refine fx_ci (df_runO (As := [.int xv, .ref (ax 4)]) (rest := []) (x := yTc) (owner := "FigureTill$Comes") X (xX10_comes_10 l E ks ax th nb mm tr2_3 tn2_3 xv (by first | assumption | omega) _) ⟨rfl, rfl, Nat.le_of_ble_eq_true rfl, Nat.le_of_ble_eq_true rfl⟩ (lw_meth q1003) List.mem_cons_self q80 q1002 hdX10_comes.2.2 ⟨by decide, by decide⟩ (va_tabs rfl rfl (hZ.1.2.2.1 _ (List.mem_of_getElem? (i := 4) rfl))) (va_tabs rfl rfl (hZ.1.2.2.1 _ (List.mem_of_getElem? (i := 1) rfl))) (va_Decl.of (X.2.2.2.2 _ q1009) (X.2.2.2.2 _ q1010)) q1001 (fx_preV (fz_pre hE hP hD hS hR hZ hA [0, 1] rfl rfl (fx_rcr 0 rfl fx_rc0)) (va_recv hE.1 (hR.at hS) (ci := 10) (q0 := 0) rfl rfl)) rfl rfl hl.1 rfl (lv_room (Nat.le_of_ble_eq_true rfl)) dX3_gives_9 ⟨Nat.le_refl _, Nat.le_refl _⟩) hP hD hS hA [0, 1] rfl rfl (fun r_9 u H locs hq_9 hP hD hS => ?_)
  obtain ⟨tr2_9, tn2_9⟩ := u
  replace hP : va_P E.1 clA [(ax 4, .inr (4, [.ref (ax 60), .int (nI tn2_9)])), (ax 60, .inl (E.2 1, 30, .inl tr2_9))] _ := hP
  replace hD : va_D A [(ax 4, .inr (4, [.ref (ax 60), .int (nI tn2_9)])), (ax 60, .inl (E.2 1, 30, .inl tr2_9))] := hD
  replace hq_9 : r_9 = comesV 4 4 nb mm xv ∧ (tr2_9, tn2_9) = bgL (tr2_3, tn2_3) (comesB 4 4) := hq_9
  refine lv_aload_n hx hb dX3_gives_12 rfl (lv_at hl 0 rfl) ?_
  refine fx_get X hE (hR.at hS) 0 rfl rfl 1 rfl q137 rfl rfl dX3_gives_13 ?_
  refine lv_isub hx hb dX3_gives_16 ?_
  exact hret (r_9 - mm) (tr2_9, tn2_9) (⟨by rw [hq_9.1]; rfl, by rw [hq_9.2, hq_3]; rfl⟩) (rfl) hP hD hS (Nat.le_refl _) (Nat.le_refl _) dX3_gives_17
abbrev rxX3_gives_11 : Room := { frames := 5, cells := 0, slots := 0, locals := 109 }
set_option maxHeartbeats 400000 in
set_option maxRecDepth 100000 in
theorem xX3_gives_11 (l : Launch) (E : fx_En) (ks : fz_Ks) (ax : Nat → Nat) (th : Nat) (nb : Int32) (mm : Int32) (tr : Nat → Int32) (tn : Nat) (xv : Int32) (htn : tn ≤ 30) : fy_Mi l yX3_gives cX3_gives 3 .int rxX3_gives_11 E ks [.ref th, .int xv, .ref (ax 4)] [(ax 4, .inr (4, [.ref (ax 60), .int (nI tn)])), (ax 60, .inl (E.2 1, 30, .inl tr))] [(th, .inr (11, [.int nb, .int mm]))] (S := (Nat → Int32) × Nat) (fun (u : (Nat → Int32) × Nat) => [(ax 4, .inr (4, [.ref (ax 60), .int (nI u.2)])), (ax 60, .inl (E.2 1, 30, .inl u.1))]) (fun (r : Int32) (u : (Nat → Int32) × Nat) => r = givesV 0 5 nb mm xv ∧ (u.1, u.2) = bgL (tr, tn) (givesB 0 5)) := by
  refine fy_iW rfl rfl ?_
  intro p e s m args below meth c A ls Q X hE hP hD hR hZ hA hl hret
  have hx := X.1
  have hb := X.2.1
  have hS : va_S A s.heap s.heap [] := va_S.rf
  replace hP : va_P E.1 clA [(ax 4, .inr (4, [.ref (ax 60), .int (nI tn)])), (ax 60, .inl (E.2 1, 30, .inl tr))] _ := hP
  replace hD : va_D A [(ax 4, .inr (4, [.ref (ax 60), .int (nI tn)])), (ax 60, .inl (E.2 1, 30, .inl tr))] := hD
  replace hl : lv_has ls 3 [(0, .ref th), (1, .int xv), (2, .ref (ax 4))] := hl
  refine lv_aload_n hx hb dX3_gives_0 rfl (lv_at hl 2 rfl) ?_
  refine lv_bipush (v := 12) hx hb dX3_gives_1 rfl ?_
  refine fx_cv (va_runV (As := [.int 12]) (rest := []) X (xX4_ran l E ax tr tn 12 (by first | assumption | omega) (by decide) _) (cwV 1 X.2.2.2.2 (lw_V q989 q980 q981 q73 q982) rfl rfl rfl ⟨rfl, hdX4_ran⟩ ⟨Nat.le_of_ble_eq_true rfl, Nat.le_of_ble_eq_true rfl⟩) (fx_preV (fx_pre hE hP hD hS hR [0, 1] rfl rfl fx_rc0) (va_recv hE.1 hP (ci := 4) (q0 := 0) rfl rfl)) rfl rfl hl.1 rfl (lv_room (Nat.le_of_ble_eq_true rfl)) dX3_gives_3 ⟨Nat.le_refl _, Nat.le_refl _⟩) hP hD hS hA [0, 1] rfl rfl (fun u H locs hq_3 hP hD hS => ?_)
  obtain ⟨tr2_3, tn2_3⟩ := u
  replace hP : va_P E.1 clA [(ax 4, .inr (4, [.ref (ax 60), .int (nI tn2_3)])), (ax 60, .inl (E.2 1, 30, .inl tr2_3))] _ := hP
  replace hD : va_D A [(ax 4, .inr (4, [.ref (ax 60), .int (nI tn2_3)])), (ax 60, .inl (E.2 1, 30, .inl tr2_3))] := hD
  replace hq_3 : (tr2_3, tn2_3) = bg (tr, tn) 12 := hq_3
  have ht_3 : tn2_3 ≤ 30 := trc_le hq_3 (bg_le htn)
  refine lv_aload_n hx hb dX3_gives_6 rfl (lv_at hl 0 rfl) ?_
  refine lv_iload_n hx hb dX3_gives_7 rfl (lv_at hl 1 rfl) ?_
  refine lv_aload_n hx hb dX3_gives_8 rfl (lv_at hl 2 rfl) ?_
  refine fx_ci (df_runV (As := [.int xv, .ref (ax 4)]) (rest := []) (x := yTc) X (xX16_comes_11 l E ax th nb mm tr2_3 tn2_3 xv (by first | assumption | omega) _) ⟨rfl, rfl, Nat.le_of_ble_eq_true rfl, Nat.le_of_ble_eq_true rfl⟩ (lw_meth q1010) List.mem_cons_self q1595 q1009 ⟨rfl, rfl⟩ hdX16_comes.2.2 ⟨hdX16_comes.1, hdX16_comes.2.1⟩ (va_tabs rfl rfl (hZ.1.2.2.1 _ (List.mem_of_getElem? (i := 4) rfl))) (va_tabs rfl rfl (hZ.1.2.2.1 _ (List.mem_of_getElem? (i := 1) rfl))) (va_tabs rfl rfl hZ.1.2.2.2.2) (df_ld (hZ.1.2.2.2.1 _ (List.mem_of_getElem? (i := 3) rfl))) (fx_preV (fx_pre hE hP hD hS hR [0, 1] rfl rfl (fx_rcr 0 rfl fx_rc0)) (va_recv hE.1 (hR.at hS) (ci := 11) (q0 := 0) rfl rfl)) rfl rfl hl.1 rfl (lv_room (Nat.le_of_ble_eq_true rfl)) dX3_gives_9 ⟨Nat.le_refl _, Nat.le_refl _⟩) hP hD hS hA [0, 1] rfl rfl (fun r_9 u H locs hq_9 hP hD hS => ?_)
  obtain ⟨tr2_9, tn2_9⟩ := u
  replace hP : va_P E.1 clA [(ax 4, .inr (4, [.ref (ax 60), .int (nI tn2_9)])), (ax 60, .inl (E.2 1, 30, .inl tr2_9))] _ := hP
  replace hD : va_D A [(ax 4, .inr (4, [.ref (ax 60), .int (nI tn2_9)])), (ax 60, .inl (E.2 1, 30, .inl tr2_9))] := hD
  replace hq_9 : r_9 = comesV 0 5 nb mm xv ∧ (tr2_9, tn2_9) = bgL (tr2_3, tn2_3) (comesB 0 5) := hq_9
  refine lv_aload_n hx hb dX3_gives_12 rfl (lv_at hl 0 rfl) ?_
  refine fx_get X hE (hR.at hS) 0 rfl rfl 1 rfl q137 rfl rfl dX3_gives_13 ?_
  refine lv_isub hx hb dX3_gives_16 ?_
  exact hret (r_9 - mm) (tr2_9, tn2_9) (⟨by rw [hq_9.1]; rfl, by rw [hq_9.2, hq_3]; rfl⟩) (rfl) hP hD hS (Nat.le_refl _) (Nat.le_refl _) dX3_gives_17
abbrev rxX11_gives_11 : Room := { frames := 6, cells := 0, slots := 0, locals := 131 }
set_option maxHeartbeats 400000 in
set_option maxRecDepth 100000 in
theorem xX11_gives_11 (l : Launch) (E : fx_En) (ks : fz_Ks) (ax : Nat → Nat) (th : Nat) (nb : Int32) (mm : Int32) (tr : Nat → Int32) (tn : Nat) (xv : Int32) (htn : tn ≤ 30) : fy_Mi l yX11_gives cX11_gives 3 .int rxX11_gives_11 E ks [.ref th, .int xv, .ref (ax 4)] [(ax 4, .inr (4, [.ref (ax 60), .int (nI tn)])), (ax 60, .inl (E.2 1, 30, .inl tr))] [(th, .inr (11, [.int nb, .int mm]))] (S := (Nat → Int32) × Nat) (fun (u : (Nat → Int32) × Nat) => [(ax 4, .inr (4, [.ref (ax 60), .int (nI u.2)])), (ax 60, .inl (E.2 1, 30, .inl u.1))]) (fun (r : Int32) (u : (Nat → Int32) × Nat) => r = givesV 5 5 nb mm xv ∧ (u.1, u.2) = bgL (tr, tn) (givesB 5 5)) := by
  refine fy_iW rfl rfl ?_
  intro p e s m args below meth c A ls Q X hE hP hD hR hZ hA hl hret
  have hx := X.1
  have hb := X.2.1
  have hS : va_S A s.heap s.heap [] := va_S.rf
  replace hP : va_P E.1 clA [(ax 4, .inr (4, [.ref (ax 60), .int (nI tn)])), (ax 60, .inl (E.2 1, 30, .inl tr))] _ := hP
  replace hD : va_D A [(ax 4, .inr (4, [.ref (ax 60), .int (nI tn)])), (ax 60, .inl (E.2 1, 30, .inl tr))] := hD
  replace hl : lv_has ls 3 [(0, .ref th), (1, .int xv), (2, .ref (ax 4))] := hl
  refine lv_aload_n hx hb dX11_gives_0 rfl (lv_at hl 2 rfl) ?_
  refine lv_bipush (v := 51) hx hb dX11_gives_1 rfl ?_
  refine fx_cv (va_runV (As := [.int 51]) (rest := []) X (xX4_ran l E ax tr tn 51 (by first | assumption | omega) (by decide) _) (cwV 1 X.2.2.2.2 (lw_V q979 q980 q981 q73 q982) rfl rfl rfl ⟨rfl, hdX4_ran⟩ ⟨Nat.le_of_ble_eq_true rfl, Nat.le_of_ble_eq_true rfl⟩) (fx_preV (fx_pre hE hP hD hS hR [0, 1] rfl rfl fx_rc0) (va_recv hE.1 hP (ci := 4) (q0 := 0) rfl rfl)) rfl rfl hl.1 rfl (lv_room (Nat.le_of_ble_eq_true rfl)) dX11_gives_3 ⟨Nat.le_refl _, Nat.le_refl _⟩) hP hD hS hA [0, 1] rfl rfl (fun u H locs hq_3 hP hD hS => ?_)
  obtain ⟨tr2_3, tn2_3⟩ := u
  replace hP : va_P E.1 clA [(ax 4, .inr (4, [.ref (ax 60), .int (nI tn2_3)])), (ax 60, .inl (E.2 1, 30, .inl tr2_3))] _ := hP
  replace hD : va_D A [(ax 4, .inr (4, [.ref (ax 60), .int (nI tn2_3)])), (ax 60, .inl (E.2 1, 30, .inl tr2_3))] := hD
  replace hq_3 : (tr2_3, tn2_3) = bg (tr, tn) 51 := hq_3
  have ht_3 : tn2_3 ≤ 30 := trc_le hq_3 (bg_le htn)
  refine lv_aload_n hx hb dX11_gives_6 rfl (lv_at hl 0 rfl) ?_
  refine lv_iload_n hx hb dX11_gives_7 rfl (lv_at hl 1 rfl) ?_
  refine lv_aload_n hx hb dX11_gives_8 rfl (lv_at hl 2 rfl) ?_
  refine fx_ci (df_runS (As := [.int xv, .ref (ax 4)]) (rest := []) (x := ⟨"FigureTill$Last", "gives", "(ILFigureTill$Trace;)I"⟩) (hE.1.1 11 _ rfl).2 X (xX3_gives_11 l E ks ax th nb mm tr2_3 tn2_3 xv (by first | assumption | omega) _) ⟨rfl, rfl, Nat.le_of_ble_eq_true rfl, Nat.le_of_ble_eq_true rfl⟩ (lw_meth q1056) List.mem_cons_self q72 q1048 q357 ⟨rfl, rfl⟩ (by decide) hdX3_gives.2.2 (X.2.2.2.2 _ q1060) (X.2.2.2.2 _ q1061) (df_fG (args := args) ⟨rfl, rfl⟩ (X.2.2.2.2 _ q1061) (X.2.2.2.2 _ q361)) (fx_preV (fz_pre hE hP hD hS hR hZ hA [0, 1] rfl rfl (fx_rcr 0 rfl fx_rc0)) (va_recv hE.1 (hR.at hS) (ci := 11) (q0 := 0) rfl rfl)) rfl rfl hl.1 rfl (lv_room (Nat.le_of_ble_eq_true rfl)) dX11_gives_9 ⟨Nat.le_refl _, Nat.le_refl _⟩) hP hD hS hA [0, 1] rfl rfl (fun r_9 u H locs hq_9 hP hD hS => ?_)
  obtain ⟨tr2_9, tn2_9⟩ := u
  replace hP : va_P E.1 clA [(ax 4, .inr (4, [.ref (ax 60), .int (nI tn2_9)])), (ax 60, .inl (E.2 1, 30, .inl tr2_9))] _ := hP
  replace hD : va_D A [(ax 4, .inr (4, [.ref (ax 60), .int (nI tn2_9)])), (ax 60, .inl (E.2 1, 30, .inl tr2_9))] := hD
  replace hq_9 : r_9 = givesV 0 5 nb mm xv ∧ (tr2_9, tn2_9) = bgL (tr2_3, tn2_3) (givesB 0 5) := hq_9
  refine lv_aload_n hx hb dX11_gives_12 rfl (lv_at hl 0 rfl) ?_
  refine fx_getS X hE (hR.at hS) 0 rfl rfl 0 rfl q135 q136 rfl dX11_gives_13 ?_
  refine lv_ixor hx hb dX11_gives_16 ?_
  exact hret (r_9 ^^^ nb) (tr2_9, tn2_9) (⟨by rw [hq_9.1]; rfl, by rw [hq_9.2, hq_3]; rfl⟩) (rfl) hP hD hS (Nat.le_refl _) (Nat.le_refl _) dX11_gives_17
abbrev rxX3_gives_12 : Room := { frames := 4, cells := 0, slots := 0, locals := 87 }
set_option maxHeartbeats 400000 in
set_option maxRecDepth 100000 in
theorem xX3_gives_12 (l : Launch) (E : fx_En) (ks : fz_Ks) (ax : Nat → Nat) (th : Nat) (nb : Int32) (mm : Int32) (tr : Nat → Int32) (tn : Nat) (xv : Int32) (htn : tn ≤ 30) : fy_Mi l yX3_gives cX3_gives 3 .int rxX3_gives_12 E ks [.ref th, .int xv, .ref (ax 4)] [(ax 4, .inr (4, [.ref (ax 60), .int (nI tn)])), (ax 60, .inl (E.2 1, 30, .inl tr))] [(th, .inr (12, [.int nb, .int mm]))] (S := (Nat → Int32) × Nat) (fun (u : (Nat → Int32) × Nat) => [(ax 4, .inr (4, [.ref (ax 60), .int (nI u.2)])), (ax 60, .inl (E.2 1, 30, .inl u.1))]) (fun (r : Int32) (u : (Nat → Int32) × Nat) => r = givesV 0 6 nb mm xv ∧ (u.1, u.2) = bgL (tr, tn) (givesB 0 6)) := by
  refine fy_iW rfl rfl ?_
  intro p e s m args below meth c A ls Q X hE hP hD hR hZ hA hl hret
  have hx := X.1
  have hb := X.2.1
  have hS : va_S A s.heap s.heap [] := va_S.rf
  replace hP : va_P E.1 clA [(ax 4, .inr (4, [.ref (ax 60), .int (nI tn)])), (ax 60, .inl (E.2 1, 30, .inl tr))] _ := hP
  replace hD : va_D A [(ax 4, .inr (4, [.ref (ax 60), .int (nI tn)])), (ax 60, .inl (E.2 1, 30, .inl tr))] := hD
  replace hl : lv_has ls 3 [(0, .ref th), (1, .int xv), (2, .ref (ax 4))] := hl
  refine lv_aload_n hx hb dX3_gives_0 rfl (lv_at hl 2 rfl) ?_
  refine lv_bipush (v := 12) hx hb dX3_gives_1 rfl ?_
  refine fx_cv (va_runV (As := [.int 12]) (rest := []) X (xX4_ran l E ax tr tn 12 (by first | assumption | omega) (by decide) _) (cwV 1 X.2.2.2.2 (lw_V q989 q980 q981 q73 q982) rfl rfl rfl ⟨rfl, hdX4_ran⟩ ⟨Nat.le_of_ble_eq_true rfl, Nat.le_of_ble_eq_true rfl⟩) (fx_preV (fx_pre hE hP hD hS hR [0, 1] rfl rfl fx_rc0) (va_recv hE.1 hP (ci := 4) (q0 := 0) rfl rfl)) rfl rfl hl.1 rfl (lv_room (Nat.le_of_ble_eq_true rfl)) dX3_gives_3 ⟨Nat.le_refl _, Nat.le_refl _⟩) hP hD hS hA [0, 1] rfl rfl (fun u H locs hq_3 hP hD hS => ?_)
  obtain ⟨tr2_3, tn2_3⟩ := u
  replace hP : va_P E.1 clA [(ax 4, .inr (4, [.ref (ax 60), .int (nI tn2_3)])), (ax 60, .inl (E.2 1, 30, .inl tr2_3))] _ := hP
  replace hD : va_D A [(ax 4, .inr (4, [.ref (ax 60), .int (nI tn2_3)])), (ax 60, .inl (E.2 1, 30, .inl tr2_3))] := hD
  replace hq_3 : (tr2_3, tn2_3) = bg (tr, tn) 12 := hq_3
  have ht_3 : tn2_3 ≤ 30 := trc_le hq_3 (bg_le htn)
  refine lv_aload_n hx hb dX3_gives_6 rfl (lv_at hl 0 rfl) ?_
  refine lv_iload_n hx hb dX3_gives_7 rfl (lv_at hl 1 rfl) ?_
  refine lv_aload_n hx hb dX3_gives_8 rfl (lv_at hl 2 rfl) ?_
  refine fx_ci (df_runO (As := [.int xv, .ref (ax 4)]) (rest := []) (x := yTc) (owner := "FigureTill$Comes") X (xX12_comes_12 l E ks ax th nb mm tr2_3 tn2_3 xv (by first | assumption | omega) _) ⟨rfl, rfl, Nat.le_of_ble_eq_true rfl, Nat.le_of_ble_eq_true rfl⟩ (lw_meth q1045) List.mem_cons_self q82 q1044 hdX12_comes.2.2 ⟨by decide, by decide⟩ (va_tabs rfl rfl (hZ.1.2.2.1 _ (List.mem_of_getElem? (i := 4) rfl))) (va_tabs rfl rfl (hZ.1.2.2.1 _ (List.mem_of_getElem? (i := 1) rfl))) (va_Decl.of (X.2.2.2.2 _ q1009) (X.2.2.2.2 _ q1010)) q1043 (fx_preV (fz_pre hE hP hD hS hR hZ hA [0, 1] rfl rfl (fx_rcr 0 rfl fx_rc0)) (va_recv hE.1 (hR.at hS) (ci := 12) (q0 := 0) rfl rfl)) rfl rfl hl.1 rfl (lv_room (Nat.le_of_ble_eq_true rfl)) dX3_gives_9 ⟨Nat.le_refl _, Nat.le_refl _⟩) hP hD hS hA [0, 1] rfl rfl (fun r_9 u H locs hq_9 hP hD hS => ?_)
  obtain ⟨tr2_9, tn2_9⟩ := u
  replace hP : va_P E.1 clA [(ax 4, .inr (4, [.ref (ax 60), .int (nI tn2_9)])), (ax 60, .inl (E.2 1, 30, .inl tr2_9))] _ := hP
  replace hD : va_D A [(ax 4, .inr (4, [.ref (ax 60), .int (nI tn2_9)])), (ax 60, .inl (E.2 1, 30, .inl tr2_9))] := hD
  replace hq_9 : r_9 = comesV 6 6 nb mm xv ∧ (tr2_9, tn2_9) = bgL (tr2_3, tn2_3) (comesB 6 6) := hq_9
  refine lv_aload_n hx hb dX3_gives_12 rfl (lv_at hl 0 rfl) ?_
  refine fx_get X hE (hR.at hS) 0 rfl rfl 1 rfl q137 rfl rfl dX3_gives_13 ?_
  refine lv_isub hx hb dX3_gives_16 ?_
  exact hret (r_9 - mm) (tr2_9, tn2_9) (⟨by rw [hq_9.1]; rfl, by rw [hq_9.2, hq_3]; rfl⟩) (rfl) hP hD hS (Nat.le_refl _) (Nat.le_refl _) dX3_gives_17
