set_option maxRecDepth 100000
theorem hdX3_kind : yX3_kind.cls ≠ "java/lang/invoke/MethodHandle" ∧ yX3_kind.cls ≠ "java/lang/invoke/VarHandle" ∧ (parseMethodDescriptor yX3_kind.desc).map (fun d => d.parameters.length) = some 0 := by decide +kernel
theorem hdX7_kind : yX7_kind.cls ≠ "java/lang/invoke/MethodHandle" ∧ yX7_kind.cls ≠ "java/lang/invoke/VarHandle" ∧ (parseMethodDescriptor yX7_kind.desc).map (fun d => d.parameters.length) = some 0 := by decide +kernel
theorem hdX8_kind : yX8_kind.cls ≠ "java/lang/invoke/MethodHandle" ∧ yX8_kind.cls ≠ "java/lang/invoke/VarHandle" ∧ (parseMethodDescriptor yX8_kind.desc).map (fun d => d.parameters.length) = some 0 := by decide +kernel
theorem hdX9_kind : yX9_kind.cls ≠ "java/lang/invoke/MethodHandle" ∧ yX9_kind.cls ≠ "java/lang/invoke/VarHandle" ∧ (parseMethodDescriptor yX9_kind.desc).map (fun d => d.parameters.length) = some 0 := by decide +kernel
theorem hdX11_kind : yX11_kind.cls ≠ "java/lang/invoke/MethodHandle" ∧ yX11_kind.cls ≠ "java/lang/invoke/VarHandle" ∧ (parseMethodDescriptor yX11_kind.desc).map (fun d => d.parameters.length) = some 0 := by decide +kernel
theorem hdX10_kind : yX10_kind.cls ≠ "java/lang/invoke/MethodHandle" ∧ yX10_kind.cls ≠ "java/lang/invoke/VarHandle" ∧ (parseMethodDescriptor yX10_kind.desc).map (fun d => d.parameters.length) = some 0 := by decide +kernel
theorem hdX12_kind : yX12_kind.cls ≠ "java/lang/invoke/MethodHandle" ∧ yX12_kind.cls ≠ "java/lang/invoke/VarHandle" ∧ (parseMethodDescriptor yX12_kind.desc).map (fun d => d.parameters.length) = some 0 := by decide +kernel
theorem hdX0_isOf : yX0_isOf.cls ≠ "java/lang/invoke/MethodHandle" ∧ yX0_isOf.cls ≠ "java/lang/invoke/VarHandle" ∧ (parseMethodDescriptor yX0_isOf.desc).map (fun d => d.parameters.length) = some 2 := by decide +kernel
theorem hdX0_tillIs : yX0_tillIs.cls ≠ "java/lang/invoke/MethodHandle" ∧ yX0_tillIs.cls ≠ "java/lang/invoke/VarHandle" ∧ (parseMethodDescriptor yX0_tillIs.desc).map (fun d => d.parameters.length) = some 2 := by decide +kernel
theorem hdX0_as : yX0_as.cls ≠ "java/lang/invoke/MethodHandle" ∧ yX0_as.cls ≠ "java/lang/invoke/VarHandle" ∧ (parseMethodDescriptor yX0_as.desc).map (fun d => d.parameters.length) = some 2 := by decide +kernel
theorem hdX0_figures : yX0_figures.cls ≠ "java/lang/invoke/MethodHandle" ∧ yX0_figures.cls ≠ "java/lang/invoke/VarHandle" ∧ (parseMethodDescriptor yX0_figures.desc).map (fun d => d.parameters.length) = some 2 := by decide +kernel
theorem hdX0_asks : yX0_asks.cls ≠ "java/lang/invoke/MethodHandle" ∧ yX0_asks.cls ≠ "java/lang/invoke/VarHandle" ∧ (parseMethodDescriptor yX0_asks.desc).map (fun d => d.parameters.length) = some 3 := by decide +kernel
theorem hdX0_seed : yX0_seed.cls ≠ "java/lang/invoke/MethodHandle" ∧ yX0_seed.cls ≠ "java/lang/invoke/VarHandle" ∧ (parseMethodDescriptor yX0_seed.desc).map (fun d => d.parameters.length) = some 1 := by decide +kernel
abbrev rxX3_kind : Room := { frames := 0, cells := 0, slots := 0, locals := 0 }
set_option maxHeartbeats 400000 in
set_option maxRecDepth 100000 in
theorem xX3_kind (l : Launch) (E : fx_En) (th : Nat) : fx_Mi l yX3_kind cX3_kind 1 .int rxX3_kind E [.ref th] [] [] (S := Unit) (fun (u : Unit) => []) (fun (r : Int32) (u : Unit) => r = 0) := by
  refine fx_iW rfl rfl ?_
  intro p e s m args below meth c A ls Q X hE hP hD hR hA hl hret
  have hx := X.1
  have hb := X.2.1
  have hS : va_S A s.heap s.heap [] := va_S.rf
  replace hl : lv_has ls 1 [(0, .ref th)] := hl
  refine lv_iconst (v := 0) hx hb dX3_kind_0 rfl ?_
  exact hret 0 () (rfl) (rfl) hP hD hS (Nat.le_refl _) (Nat.le_refl _) dX3_kind_1
abbrev rxX7_kind : Room := { frames := 1, cells := 0, slots := 0, locals := 20 }
set_option maxHeartbeats 400000 in
set_option maxRecDepth 100000 in
theorem xX7_kind (l : Launch) (E : fx_En) (th : Nat) (nb : Int32) (mm : Int32) : fx_Mi l yX7_kind cX7_kind 1 .int rxX7_kind E [.ref th] [] [(th, .inr (7, [.int nb, .int mm]))] (S := Unit) (fun (u : Unit) => []) (fun (r : Int32) (u : Unit) => r = 1) := by
  refine fx_iW rfl rfl ?_
  intro p e s m args below meth c A ls Q X hE hP hD hR hA hl hret
  have hx := X.1
  have hb := X.2.1
  have hS : va_S A s.heap s.heap [] := va_S.rf
  replace hl : lv_has ls 1 [(0, .ref th)] := hl
  refine lv_aload_n hx hb dX7_kind_0 rfl (lv_at hl 0 rfl) ?_
  refine fx_ci (va_runSU (As := []) (rest := []) (hE.1.1 7 _ rfl).2 X (xX3_kind l E th _) (va_cwSU 0 X.2.2.2.2 (lw_SU q360 q346 q361 q344 q72 q352) rfl rfl rfl ⟨by decide, hdX3_kind.2.2⟩ ⟨Nat.le_of_ble_eq_true rfl, Nat.le_of_ble_eq_true rfl⟩) (fx_preV (fx_pre hE hP hD hS hR [] rfl rfl fx_rc0) (va_recv hE.1 (hR.at hS) (ci := 7) (q0 := 0) rfl rfl)) rfl rfl hl.1 rfl (lv_room (Nat.le_of_ble_eq_true rfl)) dX7_kind_1 ⟨Nat.le_refl _, Nat.le_refl _⟩) hP hD hS hA [] rfl rfl (fun r_1 u H locs hq_1 hP hD hS => ?_)
  replace hP : va_P E.1 clA [] _ := hP
  replace hD : va_D A [] := hD
  replace hq_1 : r_1 = 0 := hq_1
  refine lv_iconst (v := 1) hx hb dX7_kind_4 rfl ?_
  refine lv_iadd hx hb dX7_kind_5 ?_
  exact hret (r_1 + 1) () (by rw [hq_1]; rfl) (rfl) hP hD hS (Nat.le_refl _) (Nat.le_refl _) dX7_kind_6
abbrev rxX7_kindF : Room := { frames := 1, cells := 0, slots := 0, locals := 20 }
set_option maxHeartbeats 400000 in
set_option maxRecDepth 100000 in
theorem xX7_kindF (l : Launch) (E : fx_En) (th : Nat) (nb : Int32) (mm : Int32) : fx_Mi l yX7_kind cX7_kind 1 .int rxX7_kindF E [.ref th] [] [(th, .inr (11, [.int nb, .int mm]))] (S := Unit) (fun (u : Unit) => []) (fun (r : Int32) (u : Unit) => r = 1) := by
  refine fx_iW rfl rfl ?_
  intro p e s m args below meth c A ls Q X hE hP hD hR hA hl hret
  have hx := X.1
  have hb := X.2.1
  have hS : va_S A s.heap s.heap [] := va_S.rf
  replace hl : lv_has ls 1 [(0, .ref th)] := hl
  refine lv_aload_n hx hb dX7_kind_0 rfl (lv_at hl 0 rfl) ?_
  refine fx_ci (va_runSU (As := []) (rest := []) (hE.1.1 11 _ rfl).2 X (xX3_kind l E th _) (va_cwSU 0 X.2.2.2.2 (lw_SU q360 q346 q361 q344 q72 q352) rfl rfl rfl ⟨by decide, hdX3_kind.2.2⟩ ⟨Nat.le_of_ble_eq_true rfl, Nat.le_of_ble_eq_true rfl⟩) (fx_preV (fx_pre hE hP hD hS hR [] rfl rfl fx_rc0) (va_recv hE.1 (hR.at hS) (ci := 11) (q0 := 0) rfl rfl)) rfl rfl hl.1 rfl (lv_room (Nat.le_of_ble_eq_true rfl)) dX7_kind_1 ⟨Nat.le_refl _, Nat.le_refl _⟩) hP hD hS hA [] rfl rfl (fun r_1 u H locs hq_1 hP hD hS => ?_)
  replace hP : va_P E.1 clA [] _ := hP
  replace hD : va_D A [] := hD
  replace hq_1 : r_1 = 0 := hq_1
  refine lv_iconst (v := 1) hx hb dX7_kind_4 rfl ?_
  refine lv_iadd hx hb dX7_kind_5 ?_
  exact hret (r_1 + 1) () (by rw [hq_1]; rfl) (rfl) hP hD hS (Nat.le_refl _) (Nat.le_refl _) dX7_kind_6
abbrev rxX8_kind : Room := { frames := 1, cells := 0, slots := 0, locals := 20 }
set_option maxHeartbeats 400000 in
set_option maxRecDepth 100000 in
theorem xX8_kind (l : Launch) (E : fx_En) (th : Nat) (nb : Int32) (mm : Int32) : fx_Mi l yX8_kind cX8_kind 1 .int rxX8_kind E [.ref th] [] [(th, .inr (8, [.int nb, .int mm]))] (S := Unit) (fun (u : Unit) => []) (fun (r : Int32) (u : Unit) => r = 2) := by
  refine fx_iW rfl rfl ?_
  intro p e s m args below meth c A ls Q X hE hP hD hR hA hl hret
  have hx := X.1
  have hb := X.2.1
  have hS : va_S A s.heap s.heap [] := va_S.rf
  replace hl : lv_has ls 1 [(0, .ref th)] := hl
  refine lv_aload_n hx hb dX8_kind_0 rfl (lv_at hl 0 rfl) ?_
  refine fx_ci (va_runSU (As := []) (rest := []) (hE.1.1 8 _ rfl).2 X (xX3_kind l E th _) (va_cwSU 0 X.2.2.2.2 (lw_SU q370 q346 q371 q344 q72 q352) rfl rfl rfl ⟨by decide, hdX3_kind.2.2⟩ ⟨Nat.le_of_ble_eq_true rfl, Nat.le_of_ble_eq_true rfl⟩) (fx_preV (fx_pre hE hP hD hS hR [] rfl rfl fx_rc0) (va_recv hE.1 (hR.at hS) (ci := 8) (q0 := 0) rfl rfl)) rfl rfl hl.1 rfl (lv_room (Nat.le_of_ble_eq_true rfl)) dX8_kind_1 ⟨Nat.le_refl _, Nat.le_refl _⟩) hP hD hS hA [] rfl rfl (fun r_1 u H locs hq_1 hP hD hS => ?_)
  replace hP : va_P E.1 clA [] _ := hP
  replace hD : va_D A [] := hD
  replace hq_1 : r_1 = 0 := hq_1
  refine lv_iconst (v := 2) hx hb dX8_kind_4 rfl ?_
  refine lv_iadd hx hb dX8_kind_5 ?_
  exact hret (r_1 + 2) () (by rw [hq_1]; rfl) (rfl) hP hD hS (Nat.le_refl _) (Nat.le_refl _) dX8_kind_6
abbrev rxX8_kindO : Room := { frames := 1, cells := 0, slots := 0, locals := 20 }
set_option maxHeartbeats 400000 in
set_option maxRecDepth 100000 in
theorem xX8_kindO (l : Launch) (E : fx_En) (th : Nat) (nb : Int32) (mm : Int32) : fx_Mi l yX8_kind cX8_kind 1 .int rxX8_kindO E [.ref th] [] [(th, .inr (10, [.int nb, .int mm]))] (S := Unit) (fun (u : Unit) => []) (fun (r : Int32) (u : Unit) => r = 2) := by
  refine fx_iW rfl rfl ?_
  intro p e s m args below meth c A ls Q X hE hP hD hR hA hl hret
  have hx := X.1
  have hb := X.2.1
  have hS : va_S A s.heap s.heap [] := va_S.rf
  replace hl : lv_has ls 1 [(0, .ref th)] := hl
  refine lv_aload_n hx hb dX8_kind_0 rfl (lv_at hl 0 rfl) ?_
  refine fx_ci (va_runSU (As := []) (rest := []) (hE.1.1 10 _ rfl).2 X (xX3_kind l E th _) (va_cwSU 0 X.2.2.2.2 (lw_SU q370 q346 q371 q344 q72 q352) rfl rfl rfl ⟨by decide, hdX3_kind.2.2⟩ ⟨Nat.le_of_ble_eq_true rfl, Nat.le_of_ble_eq_true rfl⟩) (fx_preV (fx_pre hE hP hD hS hR [] rfl rfl fx_rc0) (va_recv hE.1 (hR.at hS) (ci := 10) (q0 := 0) rfl rfl)) rfl rfl hl.1 rfl (lv_room (Nat.le_of_ble_eq_true rfl)) dX8_kind_1 ⟨Nat.le_refl _, Nat.le_refl _⟩) hP hD hS hA [] rfl rfl (fun r_1 u H locs hq_1 hP hD hS => ?_)
  replace hP : va_P E.1 clA [] _ := hP
  replace hD : va_D A [] := hD
  replace hq_1 : r_1 = 0 := hq_1
  refine lv_iconst (v := 2) hx hb dX8_kind_4 rfl ?_
  refine lv_iadd hx hb dX8_kind_5 ?_
  exact hret (r_1 + 2) () (by rw [hq_1]; rfl) (rfl) hP hD hS (Nat.le_refl _) (Nat.le_refl _) dX8_kind_6
abbrev rxX9_kind : Room := { frames := 1, cells := 0, slots := 0, locals := 20 }
set_option maxHeartbeats 400000 in
set_option maxRecDepth 100000 in
theorem xX9_kind (l : Launch) (E : fx_En) (th : Nat) (nb : Int32) (mm : Int32) : fx_Mi l yX9_kind cX9_kind 1 .int rxX9_kind E [.ref th] [] [(th, .inr (9, [.int nb, .int mm]))] (S := Unit) (fun (u : Unit) => []) (fun (r : Int32) (u : Unit) => r = 3) := by
  refine fx_iW rfl rfl ?_
  intro p e s m args below meth c A ls Q X hE hP hD hR hA hl hret
  have hx := X.1
  have hb := X.2.1
  have hS : va_S A s.heap s.heap [] := va_S.rf
  replace hl : lv_has ls 1 [(0, .ref th)] := hl
  refine lv_aload_n hx hb dX9_kind_0 rfl (lv_at hl 0 rfl) ?_
  refine fx_ci (va_runSU (As := []) (rest := []) (hE.1.1 9 _ rfl).2 X (xX3_kind l E th _) (va_cwSU 0 X.2.2.2.2 (lw_SU q350 q346 q351 q344 q72 q352) rfl rfl rfl ⟨by decide, hdX3_kind.2.2⟩ ⟨Nat.le_of_ble_eq_true rfl, Nat.le_of_ble_eq_true rfl⟩) (fx_preV (fx_pre hE hP hD hS hR [] rfl rfl fx_rc0) (va_recv hE.1 (hR.at hS) (ci := 9) (q0 := 0) rfl rfl)) rfl rfl hl.1 rfl (lv_room (Nat.le_of_ble_eq_true rfl)) dX9_kind_1 ⟨Nat.le_refl _, Nat.le_refl _⟩) hP hD hS hA [] rfl rfl (fun r_1 u H locs hq_1 hP hD hS => ?_)
  replace hP : va_P E.1 clA [] _ := hP
  replace hD : va_D A [] := hD
  replace hq_1 : r_1 = 0 := hq_1
  refine lv_iconst (v := 3) hx hb dX9_kind_4 rfl ?_
  refine lv_iadd hx hb dX9_kind_5 ?_
  exact hret (r_1 + 3) () (by rw [hq_1]; rfl) (rfl) hP hD hS (Nat.le_refl _) (Nat.le_refl _) dX9_kind_6
abbrev rxX11_kind : Room := { frames := 2, cells := 0, slots := 0, locals := 40 }
set_option maxHeartbeats 400000 in
set_option maxRecDepth 100000 in
theorem xX11_kind (l : Launch) (E : fx_En) (th : Nat) (nb : Int32) (mm : Int32) : fx_Mi l yX11_kind cX11_kind 1 .int rxX11_kind E [.ref th] [] [(th, .inr (11, [.int nb, .int mm]))] (S := Unit) (fun (u : Unit) => []) (fun (r : Int32) (u : Unit) => r = 5) := by
  refine fx_iW rfl rfl ?_
  intro p e s m args below meth c A ls Q X hE hP hD hR hA hl hret
  have hx := X.1
  have hb := X.2.1
  have hS : va_S A s.heap s.heap [] := va_S.rf
  replace hl : lv_has ls 1 [(0, .ref th)] := hl
  refine lv_aload_n hx hb dX11_kind_0 rfl (lv_at hl 0 rfl) ?_
  refine fx_ci (va_runSU (As := []) (rest := []) (hE.1.1 11 _ rfl).2 X (xX7_kindF l E th nb mm _) (va_cwSU 0 X.2.2.2.2 (lw_SU q356 q1588 q357 q358 q77 q359) rfl rfl rfl ⟨by decide, hdX7_kind.2.2⟩ ⟨Nat.le_of_ble_eq_true rfl, Nat.le_of_ble_eq_true rfl⟩) (fx_preV (fx_pre hE hP hD hS hR [] rfl rfl (fx_rcr 0 rfl fx_rc0)) (va_recv hE.1 (hR.at hS) (ci := 11) (q0 := 0) rfl rfl)) rfl rfl hl.1 rfl (lv_room (Nat.le_of_ble_eq_true rfl)) dX11_kind_1 ⟨Nat.le_refl _, Nat.le_refl _⟩) hP hD hS hA [] rfl rfl (fun r_1 u H locs hq_1 hP hD hS => ?_)
  replace hP : va_P E.1 clA [] _ := hP
  replace hD : va_D A [] := hD
  replace hq_1 : r_1 = 1 := hq_1
  refine lv_iconst (v := 4) hx hb dX11_kind_4 rfl ?_
  refine lv_iadd hx hb dX11_kind_5 ?_
  exact hret (r_1 + 4) () (by rw [hq_1]; rfl) (rfl) hP hD hS (Nat.le_refl _) (Nat.le_refl _) dX11_kind_6
abbrev rxX10_kind : Room := { frames := 2, cells := 0, slots := 0, locals := 40 }
set_option maxHeartbeats 400000 in
set_option maxRecDepth 100000 in
theorem xX10_kind (l : Launch) (E : fx_En) (th : Nat) (nb : Int32) (mm : Int32) : fx_Mi l yX10_kind cX10_kind 1 .int rxX10_kind E [.ref th] [] [(th, .inr (10, [.int nb, .int mm]))] (S := Unit) (fun (u : Unit) => []) (fun (r : Int32) (u : Unit) => r = 4) := by
  refine fx_iW rfl rfl ?_
  intro p e s m args below meth c A ls Q X hE hP hD hR hA hl hret
  have hx := X.1
  have hb := X.2.1
  have hS : va_S A s.heap s.heap [] := va_S.rf
  replace hl : lv_has ls 1 [(0, .ref th)] := hl
  refine lv_aload_n hx hb dX10_kind_0 rfl (lv_at hl 0 rfl) ?_
  refine fx_ci (va_runSU (As := []) (rest := []) (hE.1.1 10 _ rfl).2 X (xX8_kindO l E th nb mm _) (va_cwSU 0 X.2.2.2.2 (lw_SU q366 q1589 q367 q368 q78 q369) rfl rfl rfl ⟨by decide, hdX8_kind.2.2⟩ ⟨Nat.le_of_ble_eq_true rfl, Nat.le_of_ble_eq_true rfl⟩) (fx_preV (fx_pre hE hP hD hS hR [] rfl rfl (fx_rcr 0 rfl fx_rc0)) (va_recv hE.1 (hR.at hS) (ci := 10) (q0 := 0) rfl rfl)) rfl rfl hl.1 rfl (lv_room (Nat.le_of_ble_eq_true rfl)) dX10_kind_1 ⟨Nat.le_refl _, Nat.le_refl _⟩) hP hD hS hA [] rfl rfl (fun r_1 u H locs hq_1 hP hD hS => ?_)
  replace hP : va_P E.1 clA [] _ := hP
  replace hD : va_D A [] := hD
  replace hq_1 : r_1 = 2 := hq_1
  refine lv_iconst (v := 2) hx hb dX10_kind_4 rfl ?_
  refine lv_iadd hx hb dX10_kind_5 ?_
  exact hret (r_1 + 2) () (by rw [hq_1]; rfl) (rfl) hP hD hS (Nat.le_refl _) (Nat.le_refl _) dX10_kind_6
abbrev rxX12_kind : Room := { frames := 1, cells := 0, slots := 0, locals := 20 }
set_option maxHeartbeats 400000 in
set_option maxRecDepth 100000 in
theorem xX12_kind (l : Launch) (E : fx_En) (th : Nat) (nb : Int32) (mm : Int32) : fx_Mi l yX12_kind cX12_kind 1 .int rxX12_kind E [.ref th] [] [(th, .inr (12, [.int nb, .int mm]))] (S := Unit) (fun (u : Unit) => []) (fun (r : Int32) (u : Unit) => r = 6) := by
  refine fx_iW rfl rfl ?_
  intro p e s m args below meth c A ls Q X hE hP hD hR hA hl hret
  have hx := X.1
  have hb := X.2.1
  have hS : va_S A s.heap s.heap [] := va_S.rf
  replace hl : lv_has ls 1 [(0, .ref th)] := hl
  refine lv_aload_n hx hb dX12_kind_0 rfl (lv_at hl 0 rfl) ?_
  refine fx_ci (va_runSU (As := []) (rest := []) (hE.1.1 12 _ rfl).2 X (xX3_kind l E th _) (va_cwSU 0 X.2.2.2.2 (lw_SU q376 q346 q377 q344 q72 q352) rfl rfl rfl ⟨by decide, hdX3_kind.2.2⟩ ⟨Nat.le_of_ble_eq_true rfl, Nat.le_of_ble_eq_true rfl⟩) (fx_preV (fx_pre hE hP hD hS hR [] rfl rfl fx_rc0) (va_recv hE.1 (hR.at hS) (ci := 12) (q0 := 0) rfl rfl)) rfl rfl hl.1 rfl (lv_room (Nat.le_of_ble_eq_true rfl)) dX12_kind_1 ⟨Nat.le_refl _, Nat.le_refl _⟩) hP hD hS hA [] rfl rfl (fun r_1 u H locs hq_1 hP hD hS => ?_)
  replace hP : va_P E.1 clA [] _ := hP
  replace hD : va_D A [] := hD
  replace hq_1 : r_1 = 0 := hq_1
  refine lv_bipush (v := 6) hx hb dX12_kind_4 rfl ?_
  refine lv_iadd hx hb dX12_kind_6 ?_
  exact hret (r_1 + 6) () (by rw [hq_1]; rfl) (rfl) hP hD hS (Nat.le_refl _) (Nat.le_refl _) dX12_kind_7
abbrev rxX0_isOf0 : Room := { frames := 0, cells := 0, slots := 0, locals := 0 }
set_option maxHeartbeats 400000 in
set_option maxRecDepth 100000 in
theorem xX0_isOf0 (l : Launch) (E : fx_En) (th : Nat) (nb : Int32) (mm : Int32) (kn : Nat) (hkn : kn ≤ 6) : fx_Mi l yX0_isOf cX0_isOf 2 .boolean rxX0_isOf0 E [.ref th, .int (nI kn)] [] [(th, .inr (3, [.int nb, .int mm]))] (S := Unit) (fun (u : Unit) => []) (fun (r : Int32) (u : Unit) => r = fx_b (isU 0 (nI kn) = true)) := by
  refine fx_iW rfl rfl ?_
  intro p e s m args below meth c A ls Q X hE hP hD hR hA hl hret
  have hx := X.1
  have hb := X.2.1
  have hS : va_S A s.heap s.heap [] := va_S.rf
  replace hl : lv_has ls 2 [(0, .ref th), (1, .int (nI kn))] := hl
  refine lv_iload_n hx hb dX0_isOf_0 rfl (lv_at hl 1 rfl) ?_
  rcases kd7 hkn with rfl | rfl | rfl | rfl | rfl | rfl | rfl
  ·
    refine lv_tableOut (tgt := 70) hx hb dX0_isOf_1 (by decide) (by decide) ?_
    refine lv_aload_n hx hb dX0_isOf_70 rfl (lv_at hl 0 rfl) ?_
    refine fx_instS X hE (hR.at hS) 0 rfl rfl q429 dX0_isOf_71 ?_
    exact hret 1 () (by decide) (rfl) hP hD hS (Nat.le_refl _) (Nat.le_refl _) dX0_isOf_74
  ·
    refine lv_tableIn (tgt := 40) (off := 39) hx hb dX0_isOf_1 (by decide) (by decide) rfl (by decide) ?_
    refine lv_aload_n hx hb dX0_isOf_40 rfl (lv_at hl 0 rfl) ?_
    refine fx_instN X hE (hR.at hS) 0 rfl rfl q381 0 rfl dX0_isOf_41 ?_
    exact hret 0 () (by decide) (rfl) hP hD hS (Nat.le_refl _) (Nat.le_refl _) dX0_isOf_44
  ·
    refine lv_tableIn (tgt := 45) (off := 44) hx hb dX0_isOf_1 (by decide) (by decide) rfl (by decide) ?_
    refine lv_aload_n hx hb dX0_isOf_45 rfl (lv_at hl 0 rfl) ?_
    refine fx_instN X hE (hR.at hS) 0 rfl rfl q389 5 rfl dX0_isOf_46 ?_
    exact hret 0 () (by decide) (rfl) hP hD hS (Nat.le_refl _) (Nat.le_refl _) dX0_isOf_49
  ·
    refine lv_tableIn (tgt := 50) (off := 49) hx hb dX0_isOf_1 (by decide) (by decide) rfl (by decide) ?_
    refine lv_aload_n hx hb dX0_isOf_50 rfl (lv_at hl 0 rfl) ?_
    refine fx_instN X hE (hR.at hS) 0 rfl rfl q397 10 rfl dX0_isOf_51 ?_
    exact hret 0 () (by decide) (rfl) hP hD hS (Nat.le_refl _) (Nat.le_refl _) dX0_isOf_54
  ·
    refine lv_tableIn (tgt := 55) (off := 54) hx hb dX0_isOf_1 (by decide) (by decide) rfl (by decide) ?_
    refine lv_aload_n hx hb dX0_isOf_55 rfl (lv_at hl 0 rfl) ?_
    refine fx_instN X hE (hR.at hS) 0 rfl rfl q405 16 rfl dX0_isOf_56 ?_
    exact hret 0 () (by decide) (rfl) hP hD hS (Nat.le_refl _) (Nat.le_refl _) dX0_isOf_59
  ·
    refine lv_tableIn (tgt := 60) (off := 59) hx hb dX0_isOf_1 (by decide) (by decide) rfl (by decide) ?_
    refine lv_aload_n hx hb dX0_isOf_60 rfl (lv_at hl 0 rfl) ?_
    refine fx_instN X hE (hR.at hS) 0 rfl rfl q413 22 rfl dX0_isOf_61 ?_
    exact hret 0 () (by decide) (rfl) hP hD hS (Nat.le_refl _) (Nat.le_refl _) dX0_isOf_64
  ·
    refine lv_tableIn (tgt := 65) (off := 64) hx hb dX0_isOf_1 (by decide) (by decide) rfl (by decide) ?_
    refine lv_aload_n hx hb dX0_isOf_65 rfl (lv_at hl 0 rfl) ?_
    refine fx_instN X hE (hR.at hS) 0 rfl rfl q421 28 rfl dX0_isOf_66 ?_
    exact hret 0 () (by decide) (rfl) hP hD hS (Nat.le_refl _) (Nat.le_refl _) dX0_isOf_69
abbrev rxX0_isOf1 : Room := { frames := 0, cells := 0, slots := 0, locals := 0 }
set_option maxHeartbeats 400000 in
set_option maxRecDepth 100000 in
theorem xX0_isOf1 (l : Launch) (E : fx_En) (th : Nat) (nb : Int32) (mm : Int32) (kn : Nat) (hkn : kn ≤ 6) : fx_Mi l yX0_isOf cX0_isOf 2 .boolean rxX0_isOf1 E [.ref th, .int (nI kn)] [] [(th, .inr (7, [.int nb, .int mm]))] (S := Unit) (fun (u : Unit) => []) (fun (r : Int32) (u : Unit) => r = fx_b (isU 1 (nI kn) = true)) := by
  refine fx_iW rfl rfl ?_
  intro p e s m args below meth c A ls Q X hE hP hD hR hA hl hret
  have hx := X.1
  have hb := X.2.1
  have hS : va_S A s.heap s.heap [] := va_S.rf
  replace hl : lv_has ls 2 [(0, .ref th), (1, .int (nI kn))] := hl
  refine lv_iload_n hx hb dX0_isOf_0 rfl (lv_at hl 1 rfl) ?_
  rcases kd7 hkn with rfl | rfl | rfl | rfl | rfl | rfl | rfl
  ·
    refine lv_tableOut (tgt := 70) hx hb dX0_isOf_1 (by decide) (by decide) ?_
    refine lv_aload_n hx hb dX0_isOf_70 rfl (lv_at hl 0 rfl) ?_
    refine fx_instY X hE (hR.at hS) 0 rfl rfl q429 54 rfl dX0_isOf_71 ?_
    exact hret 1 () (by decide) (rfl) hP hD hS (Nat.le_refl _) (Nat.le_refl _) dX0_isOf_74
  ·
    refine lv_tableIn (tgt := 40) (off := 39) hx hb dX0_isOf_1 (by decide) (by decide) rfl (by decide) ?_
    refine lv_aload_n hx hb dX0_isOf_40 rfl (lv_at hl 0 rfl) ?_
    refine fx_instS X hE (hR.at hS) 0 rfl rfl q381 dX0_isOf_41 ?_
    exact hret 1 () (by decide) (rfl) hP hD hS (Nat.le_refl _) (Nat.le_refl _) dX0_isOf_44
  ·
    refine lv_tableIn (tgt := 45) (off := 44) hx hb dX0_isOf_1 (by decide) (by decide) rfl (by decide) ?_
    refine lv_aload_n hx hb dX0_isOf_45 rfl (lv_at hl 0 rfl) ?_
    refine fx_instN X hE (hR.at hS) 0 rfl rfl q389 6 rfl dX0_isOf_46 ?_
    exact hret 0 () (by decide) (rfl) hP hD hS (Nat.le_refl _) (Nat.le_refl _) dX0_isOf_49
  ·
    refine lv_tableIn (tgt := 50) (off := 49) hx hb dX0_isOf_1 (by decide) (by decide) rfl (by decide) ?_
    refine lv_aload_n hx hb dX0_isOf_50 rfl (lv_at hl 0 rfl) ?_
    refine fx_instN X hE (hR.at hS) 0 rfl rfl q397 11 rfl dX0_isOf_51 ?_
    exact hret 0 () (by decide) (rfl) hP hD hS (Nat.le_refl _) (Nat.le_refl _) dX0_isOf_54
  ·
    refine lv_tableIn (tgt := 55) (off := 54) hx hb dX0_isOf_1 (by decide) (by decide) rfl (by decide) ?_
    refine lv_aload_n hx hb dX0_isOf_55 rfl (lv_at hl 0 rfl) ?_
    refine fx_instN X hE (hR.at hS) 0 rfl rfl q405 17 rfl dX0_isOf_56 ?_
    exact hret 0 () (by decide) (rfl) hP hD hS (Nat.le_refl _) (Nat.le_refl _) dX0_isOf_59
  ·
    refine lv_tableIn (tgt := 60) (off := 59) hx hb dX0_isOf_1 (by decide) (by decide) rfl (by decide) ?_
    refine lv_aload_n hx hb dX0_isOf_60 rfl (lv_at hl 0 rfl) ?_
    refine fx_instN X hE (hR.at hS) 0 rfl rfl q413 23 rfl dX0_isOf_61 ?_
    exact hret 0 () (by decide) (rfl) hP hD hS (Nat.le_refl _) (Nat.le_refl _) dX0_isOf_64
  ·
    refine lv_tableIn (tgt := 65) (off := 64) hx hb dX0_isOf_1 (by decide) (by decide) rfl (by decide) ?_
    refine lv_aload_n hx hb dX0_isOf_65 rfl (lv_at hl 0 rfl) ?_
    refine fx_instN X hE (hR.at hS) 0 rfl rfl q421 29 rfl dX0_isOf_66 ?_
    exact hret 0 () (by decide) (rfl) hP hD hS (Nat.le_refl _) (Nat.le_refl _) dX0_isOf_69
abbrev rxX0_isOf2 : Room := { frames := 0, cells := 0, slots := 0, locals := 0 }
set_option maxHeartbeats 400000 in
set_option maxRecDepth 100000 in
theorem xX0_isOf2 (l : Launch) (E : fx_En) (th : Nat) (nb : Int32) (mm : Int32) (kn : Nat) (hkn : kn ≤ 6) : fx_Mi l yX0_isOf cX0_isOf 2 .boolean rxX0_isOf2 E [.ref th, .int (nI kn)] [] [(th, .inr (8, [.int nb, .int mm]))] (S := Unit) (fun (u : Unit) => []) (fun (r : Int32) (u : Unit) => r = fx_b (isU 2 (nI kn) = true)) := by
  refine fx_iW rfl rfl ?_
  intro p e s m args below meth c A ls Q X hE hP hD hR hA hl hret
  have hx := X.1
  have hb := X.2.1
  have hS : va_S A s.heap s.heap [] := va_S.rf
  replace hl : lv_has ls 2 [(0, .ref th), (1, .int (nI kn))] := hl
  refine lv_iload_n hx hb dX0_isOf_0 rfl (lv_at hl 1 rfl) ?_
  rcases kd7 hkn with rfl | rfl | rfl | rfl | rfl | rfl | rfl
  ·
    refine lv_tableOut (tgt := 70) hx hb dX0_isOf_1 (by decide) (by decide) ?_
    refine lv_aload_n hx hb dX0_isOf_70 rfl (lv_at hl 0 rfl) ?_
    refine fx_instY X hE (hR.at hS) 0 rfl rfl q429 56 rfl dX0_isOf_71 ?_
    exact hret 1 () (by decide) (rfl) hP hD hS (Nat.le_refl _) (Nat.le_refl _) dX0_isOf_74
  ·
    refine lv_tableIn (tgt := 40) (off := 39) hx hb dX0_isOf_1 (by decide) (by decide) rfl (by decide) ?_
    refine lv_aload_n hx hb dX0_isOf_40 rfl (lv_at hl 0 rfl) ?_
    refine fx_instN X hE (hR.at hS) 0 rfl rfl q381 1 rfl dX0_isOf_41 ?_
    exact hret 0 () (by decide) (rfl) hP hD hS (Nat.le_refl _) (Nat.le_refl _) dX0_isOf_44
  ·
    refine lv_tableIn (tgt := 45) (off := 44) hx hb dX0_isOf_1 (by decide) (by decide) rfl (by decide) ?_
    refine lv_aload_n hx hb dX0_isOf_45 rfl (lv_at hl 0 rfl) ?_
    refine fx_instS X hE (hR.at hS) 0 rfl rfl q389 dX0_isOf_46 ?_
    exact hret 1 () (by decide) (rfl) hP hD hS (Nat.le_refl _) (Nat.le_refl _) dX0_isOf_49
  ·
    refine lv_tableIn (tgt := 50) (off := 49) hx hb dX0_isOf_1 (by decide) (by decide) rfl (by decide) ?_
    refine lv_aload_n hx hb dX0_isOf_50 rfl (lv_at hl 0 rfl) ?_
    refine fx_instN X hE (hR.at hS) 0 rfl rfl q397 12 rfl dX0_isOf_51 ?_
    exact hret 0 () (by decide) (rfl) hP hD hS (Nat.le_refl _) (Nat.le_refl _) dX0_isOf_54
  ·
    refine lv_tableIn (tgt := 55) (off := 54) hx hb dX0_isOf_1 (by decide) (by decide) rfl (by decide) ?_
    refine lv_aload_n hx hb dX0_isOf_55 rfl (lv_at hl 0 rfl) ?_
    refine fx_instN X hE (hR.at hS) 0 rfl rfl q405 18 rfl dX0_isOf_56 ?_
    exact hret 0 () (by decide) (rfl) hP hD hS (Nat.le_refl _) (Nat.le_refl _) dX0_isOf_59
  ·
    refine lv_tableIn (tgt := 60) (off := 59) hx hb dX0_isOf_1 (by decide) (by decide) rfl (by decide) ?_
    refine lv_aload_n hx hb dX0_isOf_60 rfl (lv_at hl 0 rfl) ?_
    refine fx_instN X hE (hR.at hS) 0 rfl rfl q413 24 rfl dX0_isOf_61 ?_
    exact hret 0 () (by decide) (rfl) hP hD hS (Nat.le_refl _) (Nat.le_refl _) dX0_isOf_64
  ·
    refine lv_tableIn (tgt := 65) (off := 64) hx hb dX0_isOf_1 (by decide) (by decide) rfl (by decide) ?_
    refine lv_aload_n hx hb dX0_isOf_65 rfl (lv_at hl 0 rfl) ?_
    refine fx_instN X hE (hR.at hS) 0 rfl rfl q421 30 rfl dX0_isOf_66 ?_
    exact hret 0 () (by decide) (rfl) hP hD hS (Nat.le_refl _) (Nat.le_refl _) dX0_isOf_69
abbrev rxX0_isOf3 : Room := { frames := 0, cells := 0, slots := 0, locals := 0 }
set_option maxHeartbeats 400000 in
set_option maxRecDepth 100000 in
theorem xX0_isOf3 (l : Launch) (E : fx_En) (th : Nat) (nb : Int32) (mm : Int32) (kn : Nat) (hkn : kn ≤ 6) : fx_Mi l yX0_isOf cX0_isOf 2 .boolean rxX0_isOf3 E [.ref th, .int (nI kn)] [] [(th, .inr (9, [.int nb, .int mm]))] (S := Unit) (fun (u : Unit) => []) (fun (r : Int32) (u : Unit) => r = fx_b (isU 3 (nI kn) = true)) := by
  refine fx_iW rfl rfl ?_
  intro p e s m args below meth c A ls Q X hE hP hD hR hA hl hret
  have hx := X.1
  have hb := X.2.1
  have hS : va_S A s.heap s.heap [] := va_S.rf
  replace hl : lv_has ls 2 [(0, .ref th), (1, .int (nI kn))] := hl
  refine lv_iload_n hx hb dX0_isOf_0 rfl (lv_at hl 1 rfl) ?_
  rcases kd7 hkn with rfl | rfl | rfl | rfl | rfl | rfl | rfl
  ·
    refine lv_tableOut (tgt := 70) hx hb dX0_isOf_1 (by decide) (by decide) ?_
    refine lv_aload_n hx hb dX0_isOf_70 rfl (lv_at hl 0 rfl) ?_
    refine fx_instY X hE (hR.at hS) 0 rfl rfl q429 52 rfl dX0_isOf_71 ?_
    exact hret 1 () (by decide) (rfl) hP hD hS (Nat.le_refl _) (Nat.le_refl _) dX0_isOf_74
  ·
    refine lv_tableIn (tgt := 40) (off := 39) hx hb dX0_isOf_1 (by decide) (by decide) rfl (by decide) ?_
    refine lv_aload_n hx hb dX0_isOf_40 rfl (lv_at hl 0 rfl) ?_
    refine fx_instN X hE (hR.at hS) 0 rfl rfl q381 2 rfl dX0_isOf_41 ?_
    exact hret 0 () (by decide) (rfl) hP hD hS (Nat.le_refl _) (Nat.le_refl _) dX0_isOf_44
  ·
    refine lv_tableIn (tgt := 45) (off := 44) hx hb dX0_isOf_1 (by decide) (by decide) rfl (by decide) ?_
    refine lv_aload_n hx hb dX0_isOf_45 rfl (lv_at hl 0 rfl) ?_
    refine fx_instN X hE (hR.at hS) 0 rfl rfl q389 7 rfl dX0_isOf_46 ?_
    exact hret 0 () (by decide) (rfl) hP hD hS (Nat.le_refl _) (Nat.le_refl _) dX0_isOf_49
  ·
    refine lv_tableIn (tgt := 50) (off := 49) hx hb dX0_isOf_1 (by decide) (by decide) rfl (by decide) ?_
    refine lv_aload_n hx hb dX0_isOf_50 rfl (lv_at hl 0 rfl) ?_
    refine fx_instS X hE (hR.at hS) 0 rfl rfl q397 dX0_isOf_51 ?_
    exact hret 1 () (by decide) (rfl) hP hD hS (Nat.le_refl _) (Nat.le_refl _) dX0_isOf_54
  ·
    refine lv_tableIn (tgt := 55) (off := 54) hx hb dX0_isOf_1 (by decide) (by decide) rfl (by decide) ?_
    refine lv_aload_n hx hb dX0_isOf_55 rfl (lv_at hl 0 rfl) ?_
    refine fx_instN X hE (hR.at hS) 0 rfl rfl q405 19 rfl dX0_isOf_56 ?_
    exact hret 0 () (by decide) (rfl) hP hD hS (Nat.le_refl _) (Nat.le_refl _) dX0_isOf_59
  ·
    refine lv_tableIn (tgt := 60) (off := 59) hx hb dX0_isOf_1 (by decide) (by decide) rfl (by decide) ?_
    refine lv_aload_n hx hb dX0_isOf_60 rfl (lv_at hl 0 rfl) ?_
    refine fx_instN X hE (hR.at hS) 0 rfl rfl q413 25 rfl dX0_isOf_61 ?_
    exact hret 0 () (by decide) (rfl) hP hD hS (Nat.le_refl _) (Nat.le_refl _) dX0_isOf_64
  ·
    refine lv_tableIn (tgt := 65) (off := 64) hx hb dX0_isOf_1 (by decide) (by decide) rfl (by decide) ?_
    refine lv_aload_n hx hb dX0_isOf_65 rfl (lv_at hl 0 rfl) ?_
    refine fx_instN X hE (hR.at hS) 0 rfl rfl q421 31 rfl dX0_isOf_66 ?_
    exact hret 0 () (by decide) (rfl) hP hD hS (Nat.le_refl _) (Nat.le_refl _) dX0_isOf_69
abbrev rxX0_isOf4 : Room := { frames := 0, cells := 0, slots := 0, locals := 0 }
set_option maxHeartbeats 400000 in
set_option maxRecDepth 100000 in
theorem xX0_isOf4 (l : Launch) (E : fx_En) (th : Nat) (nb : Int32) (mm : Int32) (kn : Nat) (hkn : kn ≤ 6) : fx_Mi l yX0_isOf cX0_isOf 2 .boolean rxX0_isOf4 E [.ref th, .int (nI kn)] [] [(th, .inr (10, [.int nb, .int mm]))] (S := Unit) (fun (u : Unit) => []) (fun (r : Int32) (u : Unit) => r = fx_b (isU 4 (nI kn) = true)) := by
  refine fx_iW rfl rfl ?_
  intro p e s m args below meth c A ls Q X hE hP hD hR hA hl hret
  have hx := X.1
  have hb := X.2.1
  have hS : va_S A s.heap s.heap [] := va_S.rf
  replace hl : lv_has ls 2 [(0, .ref th), (1, .int (nI kn))] := hl
  refine lv_iload_n hx hb dX0_isOf_0 rfl (lv_at hl 1 rfl) ?_
  rcases kd7 hkn with rfl | rfl | rfl | rfl | rfl | rfl | rfl
  ·
    refine lv_tableOut (tgt := 70) hx hb dX0_isOf_1 (by decide) (by decide) ?_
    refine lv_aload_n hx hb dX0_isOf_70 rfl (lv_at hl 0 rfl) ?_
    refine fx_instY X hE (hR.at hS) 0 rfl rfl q429 55 rfl dX0_isOf_71 ?_
    exact hret 1 () (by decide) (rfl) hP hD hS (Nat.le_refl _) (Nat.le_refl _) dX0_isOf_74
  ·
    refine lv_tableIn (tgt := 40) (off := 39) hx hb dX0_isOf_1 (by decide) (by decide) rfl (by decide) ?_
    refine lv_aload_n hx hb dX0_isOf_40 rfl (lv_at hl 0 rfl) ?_
    refine fx_instN X hE (hR.at hS) 0 rfl rfl q381 3 rfl dX0_isOf_41 ?_
    exact hret 0 () (by decide) (rfl) hP hD hS (Nat.le_refl _) (Nat.le_refl _) dX0_isOf_44
  ·
    refine lv_tableIn (tgt := 45) (off := 44) hx hb dX0_isOf_1 (by decide) (by decide) rfl (by decide) ?_
    refine lv_aload_n hx hb dX0_isOf_45 rfl (lv_at hl 0 rfl) ?_
    refine fx_instY X hE (hR.at hS) 0 rfl rfl q389 59 rfl dX0_isOf_46 ?_
    exact hret 1 () (by decide) (rfl) hP hD hS (Nat.le_refl _) (Nat.le_refl _) dX0_isOf_49
  ·
    refine lv_tableIn (tgt := 50) (off := 49) hx hb dX0_isOf_1 (by decide) (by decide) rfl (by decide) ?_
    refine lv_aload_n hx hb dX0_isOf_50 rfl (lv_at hl 0 rfl) ?_
    refine fx_instN X hE (hR.at hS) 0 rfl rfl q397 13 rfl dX0_isOf_51 ?_
    exact hret 0 () (by decide) (rfl) hP hD hS (Nat.le_refl _) (Nat.le_refl _) dX0_isOf_54
  ·
    refine lv_tableIn (tgt := 55) (off := 54) hx hb dX0_isOf_1 (by decide) (by decide) rfl (by decide) ?_
    refine lv_aload_n hx hb dX0_isOf_55 rfl (lv_at hl 0 rfl) ?_
    refine fx_instS X hE (hR.at hS) 0 rfl rfl q405 dX0_isOf_56 ?_
    exact hret 1 () (by decide) (rfl) hP hD hS (Nat.le_refl _) (Nat.le_refl _) dX0_isOf_59
  ·
    refine lv_tableIn (tgt := 60) (off := 59) hx hb dX0_isOf_1 (by decide) (by decide) rfl (by decide) ?_
    refine lv_aload_n hx hb dX0_isOf_60 rfl (lv_at hl 0 rfl) ?_
    refine fx_instN X hE (hR.at hS) 0 rfl rfl q413 26 rfl dX0_isOf_61 ?_
    exact hret 0 () (by decide) (rfl) hP hD hS (Nat.le_refl _) (Nat.le_refl _) dX0_isOf_64
  ·
    refine lv_tableIn (tgt := 65) (off := 64) hx hb dX0_isOf_1 (by decide) (by decide) rfl (by decide) ?_
    refine lv_aload_n hx hb dX0_isOf_65 rfl (lv_at hl 0 rfl) ?_
    refine fx_instN X hE (hR.at hS) 0 rfl rfl q421 32 rfl dX0_isOf_66 ?_
    exact hret 0 () (by decide) (rfl) hP hD hS (Nat.le_refl _) (Nat.le_refl _) dX0_isOf_69
abbrev rxX0_isOf5 : Room := { frames := 0, cells := 0, slots := 0, locals := 0 }
set_option maxHeartbeats 400000 in
set_option maxRecDepth 100000 in
theorem xX0_isOf5 (l : Launch) (E : fx_En) (th : Nat) (nb : Int32) (mm : Int32) (kn : Nat) (hkn : kn ≤ 6) : fx_Mi l yX0_isOf cX0_isOf 2 .boolean rxX0_isOf5 E [.ref th, .int (nI kn)] [] [(th, .inr (11, [.int nb, .int mm]))] (S := Unit) (fun (u : Unit) => []) (fun (r : Int32) (u : Unit) => r = fx_b (isU 5 (nI kn) = true)) := by
  refine fx_iW rfl rfl ?_
  intro p e s m args below meth c A ls Q X hE hP hD hR hA hl hret
  have hx := X.1
  have hb := X.2.1
  have hS : va_S A s.heap s.heap [] := va_S.rf
  replace hl : lv_has ls 2 [(0, .ref th), (1, .int (nI kn))] := hl
  refine lv_iload_n hx hb dX0_isOf_0 rfl (lv_at hl 1 rfl) ?_
  rcases kd7 hkn with rfl | rfl | rfl | rfl | rfl | rfl | rfl
  ·
    refine lv_tableOut (tgt := 70) hx hb dX0_isOf_1 (by decide) (by decide) ?_
    refine lv_aload_n hx hb dX0_isOf_70 rfl (lv_at hl 0 rfl) ?_
    refine fx_instY X hE (hR.at hS) 0 rfl rfl q429 53 rfl dX0_isOf_71 ?_
    exact hret 1 () (by decide) (rfl) hP hD hS (Nat.le_refl _) (Nat.le_refl _) dX0_isOf_74
  ·
    refine lv_tableIn (tgt := 40) (off := 39) hx hb dX0_isOf_1 (by decide) (by decide) rfl (by decide) ?_
    refine lv_aload_n hx hb dX0_isOf_40 rfl (lv_at hl 0 rfl) ?_
    refine fx_instY X hE (hR.at hS) 0 rfl rfl q381 58 rfl dX0_isOf_41 ?_
    exact hret 1 () (by decide) (rfl) hP hD hS (Nat.le_refl _) (Nat.le_refl _) dX0_isOf_44
  ·
    refine lv_tableIn (tgt := 45) (off := 44) hx hb dX0_isOf_1 (by decide) (by decide) rfl (by decide) ?_
    refine lv_aload_n hx hb dX0_isOf_45 rfl (lv_at hl 0 rfl) ?_
    refine fx_instN X hE (hR.at hS) 0 rfl rfl q389 8 rfl dX0_isOf_46 ?_
    exact hret 0 () (by decide) (rfl) hP hD hS (Nat.le_refl _) (Nat.le_refl _) dX0_isOf_49
  ·
    refine lv_tableIn (tgt := 50) (off := 49) hx hb dX0_isOf_1 (by decide) (by decide) rfl (by decide) ?_
    refine lv_aload_n hx hb dX0_isOf_50 rfl (lv_at hl 0 rfl) ?_
    refine fx_instN X hE (hR.at hS) 0 rfl rfl q397 14 rfl dX0_isOf_51 ?_
    exact hret 0 () (by decide) (rfl) hP hD hS (Nat.le_refl _) (Nat.le_refl _) dX0_isOf_54
  ·
    refine lv_tableIn (tgt := 55) (off := 54) hx hb dX0_isOf_1 (by decide) (by decide) rfl (by decide) ?_
    refine lv_aload_n hx hb dX0_isOf_55 rfl (lv_at hl 0 rfl) ?_
    refine fx_instN X hE (hR.at hS) 0 rfl rfl q405 20 rfl dX0_isOf_56 ?_
    exact hret 0 () (by decide) (rfl) hP hD hS (Nat.le_refl _) (Nat.le_refl _) dX0_isOf_59
  ·
    refine lv_tableIn (tgt := 60) (off := 59) hx hb dX0_isOf_1 (by decide) (by decide) rfl (by decide) ?_
    refine lv_aload_n hx hb dX0_isOf_60 rfl (lv_at hl 0 rfl) ?_
    refine fx_instS X hE (hR.at hS) 0 rfl rfl q413 dX0_isOf_61 ?_
    exact hret 1 () (by decide) (rfl) hP hD hS (Nat.le_refl _) (Nat.le_refl _) dX0_isOf_64
  ·
    refine lv_tableIn (tgt := 65) (off := 64) hx hb dX0_isOf_1 (by decide) (by decide) rfl (by decide) ?_
    refine lv_aload_n hx hb dX0_isOf_65 rfl (lv_at hl 0 rfl) ?_
    refine fx_instN X hE (hR.at hS) 0 rfl rfl q421 33 rfl dX0_isOf_66 ?_
    exact hret 0 () (by decide) (rfl) hP hD hS (Nat.le_refl _) (Nat.le_refl _) dX0_isOf_69
abbrev rxX0_isOf6 : Room := { frames := 0, cells := 0, slots := 0, locals := 0 }
set_option maxHeartbeats 400000 in
set_option maxRecDepth 100000 in
theorem xX0_isOf6 (l : Launch) (E : fx_En) (th : Nat) (nb : Int32) (mm : Int32) (kn : Nat) (hkn : kn ≤ 6) : fx_Mi l yX0_isOf cX0_isOf 2 .boolean rxX0_isOf6 E [.ref th, .int (nI kn)] [] [(th, .inr (12, [.int nb, .int mm]))] (S := Unit) (fun (u : Unit) => []) (fun (r : Int32) (u : Unit) => r = fx_b (isU 6 (nI kn) = true)) := by
  refine fx_iW rfl rfl ?_
  intro p e s m args below meth c A ls Q X hE hP hD hR hA hl hret
  have hx := X.1
  have hb := X.2.1
  have hS : va_S A s.heap s.heap [] := va_S.rf
  replace hl : lv_has ls 2 [(0, .ref th), (1, .int (nI kn))] := hl
  refine lv_iload_n hx hb dX0_isOf_0 rfl (lv_at hl 1 rfl) ?_
  rcases kd7 hkn with rfl | rfl | rfl | rfl | rfl | rfl | rfl
  ·
    refine lv_tableOut (tgt := 70) hx hb dX0_isOf_1 (by decide) (by decide) ?_
    refine lv_aload_n hx hb dX0_isOf_70 rfl (lv_at hl 0 rfl) ?_
    refine fx_instY X hE (hR.at hS) 0 rfl rfl q429 57 rfl dX0_isOf_71 ?_
    exact hret 1 () (by decide) (rfl) hP hD hS (Nat.le_refl _) (Nat.le_refl _) dX0_isOf_74
  ·
    refine lv_tableIn (tgt := 40) (off := 39) hx hb dX0_isOf_1 (by decide) (by decide) rfl (by decide) ?_
    refine lv_aload_n hx hb dX0_isOf_40 rfl (lv_at hl 0 rfl) ?_
    refine fx_instN X hE (hR.at hS) 0 rfl rfl q381 4 rfl dX0_isOf_41 ?_
    exact hret 0 () (by decide) (rfl) hP hD hS (Nat.le_refl _) (Nat.le_refl _) dX0_isOf_44
  ·
    refine lv_tableIn (tgt := 45) (off := 44) hx hb dX0_isOf_1 (by decide) (by decide) rfl (by decide) ?_
    refine lv_aload_n hx hb dX0_isOf_45 rfl (lv_at hl 0 rfl) ?_
    refine fx_instN X hE (hR.at hS) 0 rfl rfl q389 9 rfl dX0_isOf_46 ?_
    exact hret 0 () (by decide) (rfl) hP hD hS (Nat.le_refl _) (Nat.le_refl _) dX0_isOf_49
  ·
    refine lv_tableIn (tgt := 50) (off := 49) hx hb dX0_isOf_1 (by decide) (by decide) rfl (by decide) ?_
    refine lv_aload_n hx hb dX0_isOf_50 rfl (lv_at hl 0 rfl) ?_
    refine fx_instN X hE (hR.at hS) 0 rfl rfl q397 15 rfl dX0_isOf_51 ?_
    exact hret 0 () (by decide) (rfl) hP hD hS (Nat.le_refl _) (Nat.le_refl _) dX0_isOf_54
  ·
    refine lv_tableIn (tgt := 55) (off := 54) hx hb dX0_isOf_1 (by decide) (by decide) rfl (by decide) ?_
    refine lv_aload_n hx hb dX0_isOf_55 rfl (lv_at hl 0 rfl) ?_
    refine fx_instN X hE (hR.at hS) 0 rfl rfl q405 21 rfl dX0_isOf_56 ?_
    exact hret 0 () (by decide) (rfl) hP hD hS (Nat.le_refl _) (Nat.le_refl _) dX0_isOf_59
  ·
    refine lv_tableIn (tgt := 60) (off := 59) hx hb dX0_isOf_1 (by decide) (by decide) rfl (by decide) ?_
    refine lv_aload_n hx hb dX0_isOf_60 rfl (lv_at hl 0 rfl) ?_
    refine fx_instN X hE (hR.at hS) 0 rfl rfl q413 27 rfl dX0_isOf_61 ?_
    exact hret 0 () (by decide) (rfl) hP hD hS (Nat.le_refl _) (Nat.le_refl _) dX0_isOf_64
  ·
    refine lv_tableIn (tgt := 65) (off := 64) hx hb dX0_isOf_1 (by decide) (by decide) rfl (by decide) ?_
    refine lv_aload_n hx hb dX0_isOf_65 rfl (lv_at hl 0 rfl) ?_
    refine fx_instS X hE (hR.at hS) 0 rfl rfl q421 dX0_isOf_66 ?_
    exact hret 1 () (by decide) (rfl) hP hD hS (Nat.le_refl _) (Nat.le_refl _) dX0_isOf_69
abbrev rxX0_tillIs : Room := { frames := 3, cells := 0, slots := 0, locals := 60 }
set_option maxHeartbeats 400000 in
set_option maxRecDepth 100000 in
theorem xX0_tillIs (l : Launch) (E : fx_En) (ax : Nat → Nat) (im : Int32) (bn : Int32) (bm : Int32) (fm : Int32) (ff : Int32) (fl : Int32) (tk : Int32) (cs : Int32) (gs : Int32) (zz : Int32) (tp : Int32) (wg : Int32) (er : Nat → Int32) (sa : Nat → Int32) (tl : Nat → Nat) (PL : va_W) (til : Int32) (wh : Int32) (hI : Inv sa) (hTL : TLS PL sa tl) : fx_Mi l yX0_tillIs cX0_tillIs 3 .int rxX0_tillIs E [.ref (ax 19), .int til, .int wh] [(ax 5, .inl (E.2 0, 7, .inl er))] ([(ax 19, .inr (0, [.ref (ax 0), .ref (ax 1), .ref (ax 35), .ref (ax 55), .ref (ax 4), .ref (ax 5), .ref (ax 6), .ref (ax 7), .int im, .ref (ax 9), .ref (ax 10), .ref (ax 11), .ref (ax 12), .ref (ax 13), .int bn, .int bm, .int fm, .int ff, .int fl])), (ax 35, .inr (1, [.ref (ax 20), .ref (ax 21), .ref (ax 22), .int tk, .int cs, .int gs, .int zz, .int tp, .int wg, .ref (ax 29), .ref (ax 30), .ref (ax 31), .ref (ax 32)])), (ax 29, .inl (E.2 3, 4, .inr (.inr (.inr (.inr (fun i_ => some (ax (36 + i_)))))))), (ax 36, .inr (2, [.ref (tl 0)])), (ax 37, .inr (2, [.ref (tl 1)])), (ax 38, .inr (2, [.ref (tl 2)])), (ax 39, .inr (2, [.ref (tl 3)]))] ++ PL) (S := (Nat → Int32)) (fun (u : (Nat → Int32)) => [(ax 5, .inl (E.2 0, 7, .inl u))]) (fun (r : Int32) (u : (Nat → Int32)) => (r, u) = tillIs_ sa er til wh) := by
  refine fx_iW rfl rfl ?_
  intro p e s m args below meth c A ls Q X hE hP hD hR hA hl hret
  have hx := X.1
  have hb := X.2.1
  have hS : va_S A s.heap s.heap [] := va_S.rf
  replace hP : va_P E.1 clA [(ax 5, .inl (E.2 0, 7, .inl er))] _ := hP
  replace hD : va_D A [(ax 5, .inl (E.2 0, 7, .inl er))] := hD
  replace hl : lv_has ls 3 [(0, .ref (ax 19)), (1, .int til), (2, .int wh)] := hl
  refine lv_iload_n hx hb dX0_tillIs_0 rfl (lv_at hl 1 rfl) ?_
  refine fx_ci (va_runS (As := [.int til]) (rest := []) X (xX0_isTill l E til _) (va_cwS 1 X.2.2.2.2 (lw_S q336 q337 q69 q338) rfl rfl rfl hdX0_isTill ⟨Nat.le_of_ble_eq_true rfl, Nat.le_of_ble_eq_true rfl⟩) (fx_pre hE hP hD hS hR [] rfl rfl fx_rc0) rfl rfl hl.1 rfl (lv_room (Nat.le_of_ble_eq_true rfl)) dX0_tillIs_1 ⟨Nat.le_refl _, Nat.le_refl _⟩) hP hD hS hA [] rfl rfl (fun r_1 u H locs hq_1 hP hD hS => ?_)
  replace hP : va_P E.1 clA [(ax 5, .inl (E.2 0, 7, .inl er))] _ := hP
  replace hD : va_D A [(ax 5, .inl (E.2 0, 7, .inl er))] := hD
  replace hq_1 : r_1 = fx_b (inB til 0 3 = true) := hq_1
  rcases fx_bc hq_1 with ⟨hb_1, hr_1⟩ | ⟨hb_1, hr_1⟩
  · -- True
    subst hr_1
    refine lv_if_eq (tgt := 16) hx hb dX0_tillIs_4 (by decide) (fun c => absurd c (by decide)) (fun _ => ?_)
    refine lv_iload_n hx hb dX0_tillIs_7 rfl (lv_at hl 2 rfl) ?_
    refine lv_iconst (v := 0) hx hb dX0_tillIs_8 rfl ?_
    refine lv_iconst (v := 1) hx hb dX0_tillIs_9 rfl ?_
    refine fx_ci (va_runS (As := [.int wh, .int 0, .int 1]) (rest := []) X (xX0_isIn l E wh 0 1 _) (va_cwS 3 X.2.2.2.2 (lw_S q300 q301 q69 q302) rfl rfl rfl hdX0_isIn ⟨Nat.le_of_ble_eq_true rfl, Nat.le_of_ble_eq_true rfl⟩) (fx_pre hE hP hD hS hR [] rfl rfl fx_rc0) rfl rfl hl.1 rfl (lv_room (Nat.le_of_ble_eq_true rfl)) dX0_tillIs_10 ⟨Nat.le_refl _, Nat.le_refl _⟩) hP hD hS hA [] rfl rfl (fun r_10 u H locs hq_10 hP hD hS => ?_)
    replace hP : va_P E.1 clA [(ax 5, .inl (E.2 0, 7, .inl er))] _ := hP
    replace hD : va_D A [(ax 5, .inl (E.2 0, 7, .inl er))] := hD
    replace hq_10 : r_10 = fx_b (inB wh 0 1 = true) := hq_10
    rcases fx_bc hq_10 with ⟨hb_10, hr_10⟩ | ⟨hb_10, hr_10⟩
    · -- True
      subst hr_10
      refine lv_if_ne (tgt := 22) hx hb dX0_tillIs_13 (by decide) (fun _ => ?_) (fun c => absurd c (by decide))
      have gn := inB_nn (n := 3) hb_1 (by omega)
      have g1 : nn til < 4 := by omega
      refine lv_iload_n hx hb dX0_tillIs_22 rfl (lv_at hl 2 rfl) ?_
      refine lv_if_ne (tgt := 40) hx hb dX0_tillIs_23 (by decide) (fun c_23 => ?_) (fun c_23 => ?_)
      · -- jump 40
        have hw1 : nn wh = 1 := by have h2 := inB_nn (n := 1) hb_10 (by omega); have h3 : nn wh ≠ 0 := fun h => c_23 (by rw [h2.1, h]; rfl); omega
        refine lv_aload_n hx hb dX0_tillIs_40 rfl (lv_at hl 0 rfl) ?_
        refine fx_get X hE (hR.at hS) 0 rfl rfl 2 rfl q237 rfl rfl dX0_tillIs_41 ?_
        refine lv_iload_n hx hb dX0_tillIs_44 rfl (lv_at hl 1 rfl) ?_
        refine fx_ti (show til = nI (nn til) from gn.1) ?_
        refine fx_cq (va_runV (As := [.int (nI (nn til))]) (rest := []) X (xX1_at l E ax tk cs gs zz tp wg sa tl (nn til) PL g1 (by first | assumption | omega) (by first | assumption | omega) _) (cwV 1 X.2.2.2.2 (lw_V q339 q340 q341 q70 q342) rfl rfl rfl ⟨rfl, hdX1_at⟩ ⟨Nat.le_of_ble_eq_true rfl, Nat.le_of_ble_eq_true rfl⟩) (fx_preV (fx_pre hE hP hD hS hR [] rfl rfl (fx_rcr 1 rfl (fx_rcr 2 rfl (fx_rcr 3 rfl (fx_rcr 4 rfl (fx_rcr 5 rfl (fx_rcr 6 rfl (fx_rct (fun q hq => List.mem_append_right _ hq))))))))) (va_recv hE.1 (hR.at hS) (ci := 1) (q0 := 1) rfl rfl)) rfl rfl hl.1 rfl (lv_room (Nat.le_of_ble_eq_true rfl)) dX0_tillIs_45 ⟨Nat.le_refl _, Nat.le_refl _⟩) hP hD hS hA [] rfl rfl (fun r_45 u H locs hq_45 hP hD hS => ?_)
        replace hP : va_P E.1 clA [(ax 5, .inl (E.2 0, 7, .inl er))] _ := hP
        replace hD : va_D A [(ax 5, .inl (E.2 0, 7, .inl er))] := hD
        replace hq_45 : r_45 = some (tl (nn til)) := hq_45
        obtain rfl : r_45 = some (tl (nn til)) := by first | exact hq_45 | exact hq_45.1
        rcases kd7 (hI.kd (k := nn til) g1).2 with hw | hw | hw | hw | hw | hw | hw
        ·
          have hc : ((tl (nn til), .inr (3, [.int (nI (nn til)), .int (sa (32 + 2 * nn til + 1))])) : Nat × va_E) ∈ PL := by have hz := hTL (nn til) g1; rw [hw] at hz; exact hz
          refine fx_get X hE (fx_one (hR.at hS) (List.mem_append_right _ hc)) 0 rfl rfl 1 rfl q146 rfl rfl dX0_tillIs_48 ?_
          exact hret (sa (32 + 2 * nn til + 1)) (er) (by rw [tillIs_, if_pos (by simp [hb_1, hb_10]), hw1]) (rfl) hP hD hS (Nat.le_refl _) (Nat.le_refl _) dX0_tillIs_51
        ·
          have hc : ((tl (nn til), .inr (7, [.int (nI (nn til)), .int (sa (32 + 2 * nn til + 1))])) : Nat × va_E) ∈ PL := by have hz := hTL (nn til) g1; rw [hw] at hz; exact hz
          refine fx_get X hE (fx_one (hR.at hS) (List.mem_append_right _ hc)) 0 rfl rfl 1 rfl q146 rfl rfl dX0_tillIs_48 ?_
          exact hret (sa (32 + 2 * nn til + 1)) (er) (by rw [tillIs_, if_pos (by simp [hb_1, hb_10]), hw1]) (rfl) hP hD hS (Nat.le_refl _) (Nat.le_refl _) dX0_tillIs_51
        ·
          have hc : ((tl (nn til), .inr (8, [.int (nI (nn til)), .int (sa (32 + 2 * nn til + 1))])) : Nat × va_E) ∈ PL := by have hz := hTL (nn til) g1; rw [hw] at hz; exact hz
          refine fx_get X hE (fx_one (hR.at hS) (List.mem_append_right _ hc)) 0 rfl rfl 1 rfl q146 rfl rfl dX0_tillIs_48 ?_
          exact hret (sa (32 + 2 * nn til + 1)) (er) (by rw [tillIs_, if_pos (by simp [hb_1, hb_10]), hw1]) (rfl) hP hD hS (Nat.le_refl _) (Nat.le_refl _) dX0_tillIs_51
        ·
          have hc : ((tl (nn til), .inr (9, [.int (nI (nn til)), .int (sa (32 + 2 * nn til + 1))])) : Nat × va_E) ∈ PL := by have hz := hTL (nn til) g1; rw [hw] at hz; exact hz
          refine fx_get X hE (fx_one (hR.at hS) (List.mem_append_right _ hc)) 0 rfl rfl 1 rfl q146 rfl rfl dX0_tillIs_48 ?_
          exact hret (sa (32 + 2 * nn til + 1)) (er) (by rw [tillIs_, if_pos (by simp [hb_1, hb_10]), hw1]) (rfl) hP hD hS (Nat.le_refl _) (Nat.le_refl _) dX0_tillIs_51
        ·
          have hc : ((tl (nn til), .inr (10, [.int (nI (nn til)), .int (sa (32 + 2 * nn til + 1))])) : Nat × va_E) ∈ PL := by have hz := hTL (nn til) g1; rw [hw] at hz; exact hz
          refine fx_get X hE (fx_one (hR.at hS) (List.mem_append_right _ hc)) 0 rfl rfl 1 rfl q146 rfl rfl dX0_tillIs_48 ?_
          exact hret (sa (32 + 2 * nn til + 1)) (er) (by rw [tillIs_, if_pos (by simp [hb_1, hb_10]), hw1]) (rfl) hP hD hS (Nat.le_refl _) (Nat.le_refl _) dX0_tillIs_51
        ·
          have hc : ((tl (nn til), .inr (11, [.int (nI (nn til)), .int (sa (32 + 2 * nn til + 1))])) : Nat × va_E) ∈ PL := by have hz := hTL (nn til) g1; rw [hw] at hz; exact hz
          refine fx_get X hE (fx_one (hR.at hS) (List.mem_append_right _ hc)) 0 rfl rfl 1 rfl q146 rfl rfl dX0_tillIs_48 ?_
          exact hret (sa (32 + 2 * nn til + 1)) (er) (by rw [tillIs_, if_pos (by simp [hb_1, hb_10]), hw1]) (rfl) hP hD hS (Nat.le_refl _) (Nat.le_refl _) dX0_tillIs_51
        ·
          have hc : ((tl (nn til), .inr (12, [.int (nI (nn til)), .int (sa (32 + 2 * nn til + 1))])) : Nat × va_E) ∈ PL := by have hz := hTL (nn til) g1; rw [hw] at hz; exact hz
          refine fx_get X hE (fx_one (hR.at hS) (List.mem_append_right _ hc)) 0 rfl rfl 1 rfl q146 rfl rfl dX0_tillIs_48 ?_
          exact hret (sa (32 + 2 * nn til + 1)) (er) (by rw [tillIs_, if_pos (by simp [hb_1, hb_10]), hw1]) (rfl) hP hD hS (Nat.le_refl _) (Nat.le_refl _) dX0_tillIs_51
      · -- fall 26
        subst c_23
        refine lv_aload_n hx hb dX0_tillIs_26 rfl (lv_at hl 0 rfl) ?_
        refine fx_get X hE (hR.at hS) 0 rfl rfl 2 rfl q237 rfl rfl dX0_tillIs_27 ?_
        refine lv_iload_n hx hb dX0_tillIs_30 rfl (lv_at hl 1 rfl) ?_
        refine fx_ti (show til = nI (nn til) from gn.1) ?_
        refine fx_cq (va_runV (As := [.int (nI (nn til))]) (rest := []) X (xX1_at l E ax tk cs gs zz tp wg sa tl (nn til) PL g1 (by first | assumption | omega) (by first | assumption | omega) _) (cwV 1 X.2.2.2.2 (lw_V q339 q340 q341 q70 q342) rfl rfl rfl ⟨rfl, hdX1_at⟩ ⟨Nat.le_of_ble_eq_true rfl, Nat.le_of_ble_eq_true rfl⟩) (fx_preV (fx_pre hE hP hD hS hR [] rfl rfl (fx_rcr 1 rfl (fx_rcr 2 rfl (fx_rcr 3 rfl (fx_rcr 4 rfl (fx_rcr 5 rfl (fx_rcr 6 rfl (fx_rct (fun q hq => List.mem_append_right _ hq))))))))) (va_recv hE.1 (hR.at hS) (ci := 1) (q0 := 1) rfl rfl)) rfl rfl hl.1 rfl (lv_room (Nat.le_of_ble_eq_true rfl)) dX0_tillIs_31 ⟨Nat.le_refl _, Nat.le_refl _⟩) hP hD hS hA [] rfl rfl (fun r_31 u H locs hq_31 hP hD hS => ?_)
        replace hP : va_P E.1 clA [(ax 5, .inl (E.2 0, 7, .inl er))] _ := hP
        replace hD : va_D A [(ax 5, .inl (E.2 0, 7, .inl er))] := hD
        replace hq_31 : r_31 = some (tl (nn til)) := hq_31
        obtain rfl : r_31 = some (tl (nn til)) := by first | exact hq_31 | exact hq_31.1
        rcases kd7 (hI.kd (k := nn til) g1).2 with hw | hw | hw | hw | hw | hw | hw
        ·
          have hc : ((tl (nn til), .inr (3, [.int (nI (nn til)), .int (sa (32 + 2 * nn til + 1))])) : Nat × va_E) ∈ PL := by have hz := hTL (nn til) g1; rw [hw] at hz; exact hz
          refine fx_ci (va_runV (As := []) (rest := []) X (xX3_kind l E (tl (nn til)) _) (cwV 0 X.2.2.2.2 (lw_V q343 q344 q345 q72 q352) rfl rfl rfl ⟨rfl, hdX3_kind⟩ ⟨Nat.le_of_ble_eq_true rfl, Nat.le_of_ble_eq_true rfl⟩) (fx_preV (fx_pre hE hP hD hS hR [] rfl rfl fx_rc0) (va_recv hE.1 (fx_one (hR.at hS) (List.mem_append_right _ hc)) (ci := 3) (q0 := 0) rfl rfl)) rfl rfl hl.1 rfl (lv_room (Nat.le_of_ble_eq_true rfl)) dX0_tillIs_34 ⟨Nat.le_refl _, Nat.le_refl _⟩) hP hD hS hA [] rfl rfl (fun r_34 u H locs hq_34 hP hD hS => ?_)
          replace hP : va_P E.1 clA [(ax 5, .inl (E.2 0, 7, .inl er))] _ := hP
          replace hD : va_D A [(ax 5, .inl (E.2 0, 7, .inl er))] := hD
          replace hq_34 : r_34 = 0 := hq_34
          refine lv_goto (tgt := 51) hx hb dX0_tillIs_37 (by decide) ?_
          exact hret r_34 (er) (by rw [tillIs_, if_pos (by simp [hb_1, hb_10]), hq_34]; exact congrArg (fun x => (x, er)) ((hI.kd g1).1.trans (congrArg nI hw)).symm) (rfl) hP hD hS (Nat.le_refl _) (Nat.le_refl _) dX0_tillIs_51
        ·
          have hc : ((tl (nn til), .inr (7, [.int (nI (nn til)), .int (sa (32 + 2 * nn til + 1))])) : Nat × va_E) ∈ PL := by have hz := hTL (nn til) g1; rw [hw] at hz; exact hz
          refine fx_ci (va_runU (As := []) (rest := []) X (xX7_kind l E (tl (nn til)) (nI (nn til)) (sa (32 + 2 * nn til + 1)) _) (va_cwO 0 X.2.2.2.2 (lw_O q343 q346 q344 q362 q358 q77 q359) rfl rfl rfl q352 ⟨by decide +kernel, by decide +kernel, hdX7_kind.2.2⟩ ⟨Nat.le_of_ble_eq_true rfl, Nat.le_of_ble_eq_true rfl⟩) (fx_preV (fx_pre hE hP hD hS hR [] rfl rfl (fx_rcx ((List.mem_append_right _ hc)) fx_rc0)) (va_recv hE.1 (fx_one (hR.at hS) (List.mem_append_right _ hc)) (ci := 7) (q0 := 0) rfl rfl)) rfl rfl hl.1 rfl (lv_room (Nat.le_of_ble_eq_true rfl)) dX0_tillIs_34 ⟨Nat.le_refl _, Nat.le_refl _⟩) hP hD hS hA [] rfl rfl (fun r_34 u H locs hq_34 hP hD hS => ?_)
          replace hP : va_P E.1 clA [(ax 5, .inl (E.2 0, 7, .inl er))] _ := hP
          replace hD : va_D A [(ax 5, .inl (E.2 0, 7, .inl er))] := hD
          replace hq_34 : r_34 = 1 := hq_34
          refine lv_goto (tgt := 51) hx hb dX0_tillIs_37 (by decide) ?_
          exact hret r_34 (er) (by rw [tillIs_, if_pos (by simp [hb_1, hb_10]), hq_34]; exact congrArg (fun x => (x, er)) ((hI.kd g1).1.trans (congrArg nI hw)).symm) (rfl) hP hD hS (Nat.le_refl _) (Nat.le_refl _) dX0_tillIs_51
        ·
          have hc : ((tl (nn til), .inr (8, [.int (nI (nn til)), .int (sa (32 + 2 * nn til + 1))])) : Nat × va_E) ∈ PL := by have hz := hTL (nn til) g1; rw [hw] at hz; exact hz
          refine fx_ci (va_runU (As := []) (rest := []) X (xX8_kind l E (tl (nn til)) (nI (nn til)) (sa (32 + 2 * nn til + 1)) _) (va_cwO 0 X.2.2.2.2 (lw_O q343 q346 q344 q372 q368 q78 q369) rfl rfl rfl q352 ⟨by decide +kernel, by decide +kernel, hdX8_kind.2.2⟩ ⟨Nat.le_of_ble_eq_true rfl, Nat.le_of_ble_eq_true rfl⟩) (fx_preV (fx_pre hE hP hD hS hR [] rfl rfl (fx_rcx ((List.mem_append_right _ hc)) fx_rc0)) (va_recv hE.1 (fx_one (hR.at hS) (List.mem_append_right _ hc)) (ci := 8) (q0 := 0) rfl rfl)) rfl rfl hl.1 rfl (lv_room (Nat.le_of_ble_eq_true rfl)) dX0_tillIs_34 ⟨Nat.le_refl _, Nat.le_refl _⟩) hP hD hS hA [] rfl rfl (fun r_34 u H locs hq_34 hP hD hS => ?_)
          replace hP : va_P E.1 clA [(ax 5, .inl (E.2 0, 7, .inl er))] _ := hP
          replace hD : va_D A [(ax 5, .inl (E.2 0, 7, .inl er))] := hD
          replace hq_34 : r_34 = 2 := hq_34
          refine lv_goto (tgt := 51) hx hb dX0_tillIs_37 (by decide) ?_
          exact hret r_34 (er) (by rw [tillIs_, if_pos (by simp [hb_1, hb_10]), hq_34]; exact congrArg (fun x => (x, er)) ((hI.kd g1).1.trans (congrArg nI hw)).symm) (rfl) hP hD hS (Nat.le_refl _) (Nat.le_refl _) dX0_tillIs_51
        ·
          have hc : ((tl (nn til), .inr (9, [.int (nI (nn til)), .int (sa (32 + 2 * nn til + 1))])) : Nat × va_E) ∈ PL := by have hz := hTL (nn til) g1; rw [hw] at hz; exact hz
          refine fx_ci (va_runU (As := []) (rest := []) X (xX9_kind l E (tl (nn til)) (nI (nn til)) (sa (32 + 2 * nn til + 1)) _) (va_cwO 0 X.2.2.2.2 (lw_O q343 q346 q344 q347 q348 q79 q349) rfl rfl rfl q352 ⟨by decide +kernel, by decide +kernel, hdX9_kind.2.2⟩ ⟨Nat.le_of_ble_eq_true rfl, Nat.le_of_ble_eq_true rfl⟩) (fx_preV (fx_pre hE hP hD hS hR [] rfl rfl (fx_rcx ((List.mem_append_right _ hc)) fx_rc0)) (va_recv hE.1 (fx_one (hR.at hS) (List.mem_append_right _ hc)) (ci := 9) (q0 := 0) rfl rfl)) rfl rfl hl.1 rfl (lv_room (Nat.le_of_ble_eq_true rfl)) dX0_tillIs_34 ⟨Nat.le_refl _, Nat.le_refl _⟩) hP hD hS hA [] rfl rfl (fun r_34 u H locs hq_34 hP hD hS => ?_)
          replace hP : va_P E.1 clA [(ax 5, .inl (E.2 0, 7, .inl er))] _ := hP
          replace hD : va_D A [(ax 5, .inl (E.2 0, 7, .inl er))] := hD
          replace hq_34 : r_34 = 3 := hq_34
          refine lv_goto (tgt := 51) hx hb dX0_tillIs_37 (by decide) ?_
          exact hret r_34 (er) (by rw [tillIs_, if_pos (by simp [hb_1, hb_10]), hq_34]; exact congrArg (fun x => (x, er)) ((hI.kd g1).1.trans (congrArg nI hw)).symm) (rfl) hP hD hS (Nat.le_refl _) (Nat.le_refl _) dX0_tillIs_51
        ·
          have hc : ((tl (nn til), .inr (10, [.int (nI (nn til)), .int (sa (32 + 2 * nn til + 1))])) : Nat × va_E) ∈ PL := by have hz := hTL (nn til) g1; rw [hw] at hz; exact hz
          refine fx_ci (va_runU (As := []) (rest := []) X (xX10_kind l E (tl (nn til)) (nI (nn til)) (sa (32 + 2 * nn til + 1)) _) (va_cwO 0 X.2.2.2.2 (lw_O q343 q346 q344 q363 q364 q80 q365) rfl rfl rfl q352 ⟨by decide +kernel, by decide +kernel, hdX10_kind.2.2⟩ ⟨Nat.le_of_ble_eq_true rfl, Nat.le_of_ble_eq_true rfl⟩) (fx_preV (fx_pre hE hP hD hS hR [] rfl rfl (fx_rcx ((List.mem_append_right _ hc)) fx_rc0)) (va_recv hE.1 (fx_one (hR.at hS) (List.mem_append_right _ hc)) (ci := 10) (q0 := 0) rfl rfl)) rfl rfl hl.1 rfl (lv_room (Nat.le_of_ble_eq_true rfl)) dX0_tillIs_34 ⟨Nat.le_refl _, Nat.le_refl _⟩) hP hD hS hA [] rfl rfl (fun r_34 u H locs hq_34 hP hD hS => ?_)
          replace hP : va_P E.1 clA [(ax 5, .inl (E.2 0, 7, .inl er))] _ := hP
          replace hD : va_D A [(ax 5, .inl (E.2 0, 7, .inl er))] := hD
          replace hq_34 : r_34 = 4 := hq_34
          refine lv_goto (tgt := 51) hx hb dX0_tillIs_37 (by decide) ?_
          exact hret r_34 (er) (by rw [tillIs_, if_pos (by simp [hb_1, hb_10]), hq_34]; exact congrArg (fun x => (x, er)) ((hI.kd g1).1.trans (congrArg nI hw)).symm) (rfl) hP hD hS (Nat.le_refl _) (Nat.le_refl _) dX0_tillIs_51
        ·
          have hc : ((tl (nn til), .inr (11, [.int (nI (nn til)), .int (sa (32 + 2 * nn til + 1))])) : Nat × va_E) ∈ PL := by have hz := hTL (nn til) g1; rw [hw] at hz; exact hz
          refine fx_ci (va_runU (As := []) (rest := []) X (xX11_kind l E (tl (nn til)) (nI (nn til)) (sa (32 + 2 * nn til + 1)) _) (va_cwO 0 X.2.2.2.2 (lw_O q343 q346 q344 q353 q354 q81 q355) rfl rfl rfl q352 ⟨by decide +kernel, by decide +kernel, hdX11_kind.2.2⟩ ⟨Nat.le_of_ble_eq_true rfl, Nat.le_of_ble_eq_true rfl⟩) (fx_preV (fx_pre hE hP hD hS hR [] rfl rfl (fx_rcx ((List.mem_append_right _ hc)) fx_rc0)) (va_recv hE.1 (fx_one (hR.at hS) (List.mem_append_right _ hc)) (ci := 11) (q0 := 0) rfl rfl)) rfl rfl hl.1 rfl (lv_room (Nat.le_of_ble_eq_true rfl)) dX0_tillIs_34 ⟨Nat.le_refl _, Nat.le_refl _⟩) hP hD hS hA [] rfl rfl (fun r_34 u H locs hq_34 hP hD hS => ?_)
          replace hP : va_P E.1 clA [(ax 5, .inl (E.2 0, 7, .inl er))] _ := hP
          replace hD : va_D A [(ax 5, .inl (E.2 0, 7, .inl er))] := hD
          replace hq_34 : r_34 = 5 := hq_34
          refine lv_goto (tgt := 51) hx hb dX0_tillIs_37 (by decide) ?_
          exact hret r_34 (er) (by rw [tillIs_, if_pos (by simp [hb_1, hb_10]), hq_34]; exact congrArg (fun x => (x, er)) ((hI.kd g1).1.trans (congrArg nI hw)).symm) (rfl) hP hD hS (Nat.le_refl _) (Nat.le_refl _) dX0_tillIs_51
        ·
          have hc : ((tl (nn til), .inr (12, [.int (nI (nn til)), .int (sa (32 + 2 * nn til + 1))])) : Nat × va_E) ∈ PL := by have hz := hTL (nn til) g1; rw [hw] at hz; exact hz
          refine fx_ci (va_runU (As := []) (rest := []) X (xX12_kind l E (tl (nn til)) (nI (nn til)) (sa (32 + 2 * nn til + 1)) _) (va_cwO 0 X.2.2.2.2 (lw_O q343 q346 q344 q373 q374 q82 q375) rfl rfl rfl q352 ⟨by decide +kernel, by decide +kernel, hdX12_kind.2.2⟩ ⟨Nat.le_of_ble_eq_true rfl, Nat.le_of_ble_eq_true rfl⟩) (fx_preV (fx_pre hE hP hD hS hR [] rfl rfl (fx_rcx ((List.mem_append_right _ hc)) fx_rc0)) (va_recv hE.1 (fx_one (hR.at hS) (List.mem_append_right _ hc)) (ci := 12) (q0 := 0) rfl rfl)) rfl rfl hl.1 rfl (lv_room (Nat.le_of_ble_eq_true rfl)) dX0_tillIs_34 ⟨Nat.le_refl _, Nat.le_refl _⟩) hP hD hS hA [] rfl rfl (fun r_34 u H locs hq_34 hP hD hS => ?_)
          replace hP : va_P E.1 clA [(ax 5, .inl (E.2 0, 7, .inl er))] _ := hP
          replace hD : va_D A [(ax 5, .inl (E.2 0, 7, .inl er))] := hD
          replace hq_34 : r_34 = 6 := hq_34
          refine lv_goto (tgt := 51) hx hb dX0_tillIs_37 (by decide) ?_
          exact hret r_34 (er) (by rw [tillIs_, if_pos (by simp [hb_1, hb_10]), hq_34]; exact congrArg (fun x => (x, er)) ((hI.kd g1).1.trans (congrArg nI hw)).symm) (rfl) hP hD hS (Nat.le_refl _) (Nat.le_refl _) dX0_tillIs_51
    · -- False
      subst hr_10
      refine lv_if_ne (tgt := 22) hx hb dX0_tillIs_13 (by decide) (fun c => (c (by decide)).elim) (fun _ => ?_)
      refine lv_aload_n hx hb dX0_tillIs_16 rfl (lv_at hl 0 rfl) ?_
      refine lv_iconst (v := 1) hx hb dX0_tillIs_17 rfl ?_
      refine fx_ci (va_runV (As := [.int 1]) (rest := []) X (xX0_finds l E ax im bn bm fm ff fl er 1 (by decide) _) (cwV 1 X.2.2.2.2 (lw_V q303 q305 qs0 q69 q306) rfl rfl rfl ⟨rfl, hdX0_finds⟩ ⟨Nat.le_of_ble_eq_true rfl, Nat.le_of_ble_eq_true rfl⟩) (fx_preV (fx_pre hE hP hD hS hR [0] rfl rfl (fx_rcr 0 rfl fx_rc0)) (va_recv hE.1 (hR.at hS) (ci := 0) (q0 := 0) rfl rfl)) rfl rfl hl.1 rfl (lv_room (Nat.le_of_ble_eq_true rfl)) dX0_tillIs_18 ⟨Nat.le_refl _, Nat.le_refl _⟩) hP hD hS hA [0] rfl rfl (fun r_18 u H locs hq_18 hP hD hS => ?_)
      replace hP : va_P E.1 clA [(ax 5, .inl (E.2 0, 7, .inl (upd er 1 (er 1 + 1))))] _ := hP
      replace hD : va_D A [(ax 5, .inl (E.2 0, 7, .inl (upd er 1 (er 1 + 1))))] := hD
      replace hq_18 : r_18 = erv 1 := hq_18
      exact hret r_18 ((upd er 1 (er 1 + 1))) (by simp [tillIs_, erI, hq_18, hb_1, hb_10]) (rfl) hP hD hS (Nat.le_refl _) (Nat.le_refl _) dX0_tillIs_21
  · -- False
    subst hr_1
    refine lv_if_eq (tgt := 16) hx hb dX0_tillIs_4 (by decide) (fun _ => ?_) (fun c => (c (by decide)).elim)
    refine lv_aload_n hx hb dX0_tillIs_16 rfl (lv_at hl 0 rfl) ?_
    refine lv_iconst (v := 1) hx hb dX0_tillIs_17 rfl ?_
    refine fx_ci (va_runV (As := [.int 1]) (rest := []) X (xX0_finds l E ax im bn bm fm ff fl er 1 (by decide) _) (cwV 1 X.2.2.2.2 (lw_V q303 q305 qs0 q69 q306) rfl rfl rfl ⟨rfl, hdX0_finds⟩ ⟨Nat.le_of_ble_eq_true rfl, Nat.le_of_ble_eq_true rfl⟩) (fx_preV (fx_pre hE hP hD hS hR [0] rfl rfl (fx_rcr 0 rfl fx_rc0)) (va_recv hE.1 (hR.at hS) (ci := 0) (q0 := 0) rfl rfl)) rfl rfl hl.1 rfl (lv_room (Nat.le_of_ble_eq_true rfl)) dX0_tillIs_18 ⟨Nat.le_refl _, Nat.le_refl _⟩) hP hD hS hA [0] rfl rfl (fun r_18 u H locs hq_18 hP hD hS => ?_)
    replace hP : va_P E.1 clA [(ax 5, .inl (E.2 0, 7, .inl (upd er 1 (er 1 + 1))))] _ := hP
    replace hD : va_D A [(ax 5, .inl (E.2 0, 7, .inl (upd er 1 (er 1 + 1))))] := hD
    replace hq_18 : r_18 = erv 1 := hq_18
    exact hret r_18 ((upd er 1 (er 1 + 1))) (by simp [tillIs_, erI, hq_18, hb_1]) (rfl) hP hD hS (Nat.le_refl _) (Nat.le_refl _) dX0_tillIs_21
abbrev rxX0_as : Room := { frames := 2, cells := 0, slots := 0, locals := 42 }
set_option maxHeartbeats 400000 in
set_option maxRecDepth 100000 in
theorem xX0_as (l : Launch) (E : fx_En) (ax : Nat → Nat) (im : Int32) (bn : Int32) (bm : Int32) (fm : Int32) (ff : Int32) (fl : Int32) (tk : Int32) (cs : Int32) (gs : Int32) (zz : Int32) (tp : Int32) (wg : Int32) (er : Nat → Int32) (sa : Nat → Int32) (tl : Nat → Nat) (PL : va_W) (til : Int32) (kd : Int32) (hI : Inv sa) (hTL : TLS PL sa tl) : fx_Mi l yX0_as cX0_as 3 .int rxX0_as E [.ref (ax 19), .int til, .int kd] [(ax 5, .inl (E.2 0, 7, .inl er))] ([(ax 19, .inr (0, [.ref (ax 0), .ref (ax 1), .ref (ax 35), .ref (ax 55), .ref (ax 4), .ref (ax 5), .ref (ax 6), .ref (ax 7), .int im, .ref (ax 9), .ref (ax 10), .ref (ax 11), .ref (ax 12), .ref (ax 13), .int bn, .int bm, .int fm, .int ff, .int fl])), (ax 35, .inr (1, [.ref (ax 20), .ref (ax 21), .ref (ax 22), .int tk, .int cs, .int gs, .int zz, .int tp, .int wg, .ref (ax 29), .ref (ax 30), .ref (ax 31), .ref (ax 32)])), (ax 29, .inl (E.2 3, 4, .inr (.inr (.inr (.inr (fun i_ => some (ax (36 + i_)))))))), (ax 36, .inr (2, [.ref (tl 0)])), (ax 37, .inr (2, [.ref (tl 1)])), (ax 38, .inr (2, [.ref (tl 2)])), (ax 39, .inr (2, [.ref (tl 3)]))] ++ PL) (S := (Nat → Int32)) (fun (u : (Nat → Int32)) => [(ax 5, .inl (E.2 0, 7, .inl u))]) (fun (r : Int32) (u : (Nat → Int32)) => (r, u) = as_ sa er til kd) := by
  refine fx_iW rfl rfl ?_
  intro p e s m args below meth c A ls Q X hE hP hD hR hA hl hret
  have hx := X.1
  have hb := X.2.1
  have hS : va_S A s.heap s.heap [] := va_S.rf
  replace hP : va_P E.1 clA [(ax 5, .inl (E.2 0, 7, .inl er))] _ := hP
  replace hD : va_D A [(ax 5, .inl (E.2 0, 7, .inl er))] := hD
  replace hl : lv_has ls 3 [(0, .ref (ax 19)), (1, .int til), (2, .int kd)] := hl
  refine lv_iload_n hx hb dX0_as_0 rfl (lv_at hl 1 rfl) ?_
  refine fx_ci (va_runS (As := [.int til]) (rest := []) X (xX0_isTill l E til _) (va_cwS 1 X.2.2.2.2 (lw_S q336 q337 q69 q338) rfl rfl rfl hdX0_isTill ⟨Nat.le_of_ble_eq_true rfl, Nat.le_of_ble_eq_true rfl⟩) (fx_pre hE hP hD hS hR [] rfl rfl fx_rc0) rfl rfl hl.1 rfl (lv_room (Nat.le_of_ble_eq_true rfl)) dX0_as_1 ⟨Nat.le_refl _, Nat.le_refl _⟩) hP hD hS hA [] rfl rfl (fun r_1 u H locs hq_1 hP hD hS => ?_)
  replace hP : va_P E.1 clA [(ax 5, .inl (E.2 0, 7, .inl er))] _ := hP
  replace hD : va_D A [(ax 5, .inl (E.2 0, 7, .inl er))] := hD
  replace hq_1 : r_1 = fx_b (inB til 0 3 = true) := hq_1
  rcases fx_bc hq_1 with ⟨hb_1, hr_1⟩ | ⟨hb_1, hr_1⟩
  · -- True
    subst hr_1
    refine lv_if_eq (tgt := 17) hx hb dX0_as_4 (by decide) (fun c => absurd c (by decide)) (fun _ => ?_)
    refine lv_iload_n hx hb dX0_as_7 rfl (lv_at hl 2 rfl) ?_
    refine lv_iconst (v := 0) hx hb dX0_as_8 rfl ?_
    refine lv_bipush (v := 6) hx hb dX0_as_9 rfl ?_
    refine fx_ci (va_runS (As := [.int kd, .int 0, .int 6]) (rest := []) X (xX0_isIn l E kd 0 6 _) (va_cwS 3 X.2.2.2.2 (lw_S q300 q301 q69 q302) rfl rfl rfl hdX0_isIn ⟨Nat.le_of_ble_eq_true rfl, Nat.le_of_ble_eq_true rfl⟩) (fx_pre hE hP hD hS hR [] rfl rfl fx_rc0) rfl rfl hl.1 rfl (lv_room (Nat.le_of_ble_eq_true rfl)) dX0_as_11 ⟨Nat.le_refl _, Nat.le_refl _⟩) hP hD hS hA [] rfl rfl (fun r_11 u H locs hq_11 hP hD hS => ?_)
    replace hP : va_P E.1 clA [(ax 5, .inl (E.2 0, 7, .inl er))] _ := hP
    replace hD : va_D A [(ax 5, .inl (E.2 0, 7, .inl er))] := hD
    replace hq_11 : r_11 = fx_b (inB kd 0 6 = true) := hq_11
    rcases fx_bc hq_11 with ⟨hb_11, hr_11⟩ | ⟨hb_11, hr_11⟩
    · -- True
      subst hr_11
      refine lv_if_ne (tgt := 23) hx hb dX0_as_14 (by decide) (fun _ => ?_) (fun c => absurd c (by decide))
      have gn := inB_nn (n := 3) hb_1 (by omega)
      have g1 : nn til < 4 := by omega
      have gk := inB_nn (n := 6) hb_11 (by omega)
      have hsl : ((ax (36 + nn til), .inr (2, [.ref (tl (nn til))])) : Nat × va_E) ∈ ([(ax 19, .inr (0, [.ref (ax 0), .ref (ax 1), .ref (ax 35), .ref (ax 55), .ref (ax 4), .ref (ax 5), .ref (ax 6), .ref (ax 7), .int im, .ref (ax 9), .ref (ax 10), .ref (ax 11), .ref (ax 12), .ref (ax 13), .int bn, .int bm, .int fm, .int ff, .int fl])), (ax 35, .inr (1, [.ref (ax 20), .ref (ax 21), .ref (ax 22), .int tk, .int cs, .int gs, .int zz, .int tp, .int wg, .ref (ax 29), .ref (ax 30), .ref (ax 31), .ref (ax 32)])), (ax 29, .inl (E.2 3, 4, .inr (.inr (.inr (.inr (fun i_ => some (ax (36 + i_)))))))), (ax 36, .inr (2, [.ref (tl 0)])), (ax 37, .inr (2, [.ref (tl 1)])), (ax 38, .inr (2, [.ref (tl 2)])), (ax 39, .inr (2, [.ref (tl 3)]))] ++ PL) := by rcases (show nn til = 0 ∨ nn til = 1 ∨ nn til = 2 ∨ nn til = 3 by omega) with h | h | h | h <;> rw [h] <;> first | exact List.mem_of_getElem? (i := 3) rfl | exact List.mem_of_getElem? (i := 4) rfl | exact List.mem_of_getElem? (i := 5) rfl | exact List.mem_of_getElem? (i := 6) rfl
      refine lv_aload_n hx hb dX0_as_23 rfl (lv_at hl 0 rfl) ?_
      refine fx_get X hE (hR.at hS) 0 rfl rfl 2 rfl q237 rfl rfl dX0_as_24 ?_
      refine fx_getN X hE (hR.at hS) 1 rfl rfl 9 rfl 12 rfl rfl rfl dX0_as_27 ?_
      refine lv_iload_n hx hb dX0_as_30 rfl (lv_at hl 1 rfl) ?_
      refine fx_ti (show til = nI (nn til) from gn.1) ?_
      refine fx_aald X hE (hR.at hS) 2 3 rfl rfl (nn til) rfl (by omega) rfl (r := some (ax (36 + nn til))) (rfl) dX0_as_31 ?_
      refine fx_getN X hE (fx_one (hR.at hS) hsl) 0 rfl rfl 0 rfl 2 rfl rfl rfl dX0_as_32 ?_
      rcases kd7 (hI.kd (k := nn til) g1).2 with hw | hw | hw | hw | hw | hw | hw
      ·
        have hc : ((tl (nn til), .inr (3, [.int (nI (nn til)), .int (sa (32 + 2 * nn til + 1))])) : Nat × va_E) ∈ PL := by have hz := hTL (nn til) g1; rw [hw] at hz; exact hz
        refine lv_iload_n hx hb dX0_as_35 rfl (lv_at hl 2 rfl) ?_
        refine fx_ti (show kd = nI (nn kd) from gk.1) ?_
        refine fx_ci (va_runS (As := [.ref (tl (nn til)), .int (nI (nn kd))]) (rest := []) X (xX0_isOf0 l E (tl (nn til)) (nI (nn til)) (sa (32 + 2 * nn til + 1)) (nn kd) gk.2 _) (va_cwS 2 X.2.2.2.2 (lw_S q439 q440 q69 q441) rfl rfl rfl hdX0_isOf ⟨Nat.le_of_ble_eq_true rfl, Nat.le_of_ble_eq_true rfl⟩) (fx_pre hE hP hD hS hR [] rfl rfl (fx_rcx ((List.mem_append_right _ hc)) fx_rc0)) rfl rfl hl.1 rfl (lv_room (Nat.le_of_ble_eq_true rfl)) dX0_as_36 ⟨Nat.le_refl _, Nat.le_refl _⟩) hP hD hS hA [] rfl rfl (fun r_36 u H locs hq_36 hP hD hS => ?_)
        replace hP : va_P E.1 clA [(ax 5, .inl (E.2 0, 7, .inl er))] _ := hP
        replace hD : va_D A [(ax 5, .inl (E.2 0, 7, .inl er))] := hD
        replace hq_36 : r_36 = fx_b (isU 0 (nI (nn kd)) = true) := hq_36
        rcases fx_bc hq_36 with ⟨hb_36, hr_36⟩ | ⟨hb_36, hr_36⟩
        · -- True
          subst hr_36
          have hU : isU (sa (32 + 2 * nn til)) kd = true := by rw [(hI.kd g1).1, hw, gk.1]; exact hb_36
          refine lv_if_eq (tgt := 56) hx hb dX0_as_39 (by decide) (fun c => absurd c (by decide)) (fun _ => ?_)
          refine lv_aload_n hx hb dX0_as_42 rfl (lv_at hl 0 rfl) ?_
          refine fx_get X hE (hR.at hS) 0 rfl rfl 2 rfl q237 rfl rfl dX0_as_43 ?_
          refine lv_iload_n hx hb dX0_as_46 rfl (lv_at hl 1 rfl) ?_
          refine fx_ti (show til = nI (nn til) from gn.1) ?_
          refine fx_cq (va_runV (As := [.int (nI (nn til))]) (rest := []) X (xX1_at l E ax tk cs gs zz tp wg sa tl (nn til) PL g1 (by first | assumption | omega) (by first | assumption | omega) _) (cwV 1 X.2.2.2.2 (lw_V q339 q340 q341 q70 q342) rfl rfl rfl ⟨rfl, hdX1_at⟩ ⟨Nat.le_of_ble_eq_true rfl, Nat.le_of_ble_eq_true rfl⟩) (fx_preV (fx_pre hE hP hD hS hR [] rfl rfl (fx_rcr 1 rfl (fx_rcr 2 rfl (fx_rcr 3 rfl (fx_rcr 4 rfl (fx_rcr 5 rfl (fx_rcr 6 rfl (fx_rct (fun q hq => List.mem_append_right _ hq))))))))) (va_recv hE.1 (hR.at hS) (ci := 1) (q0 := 1) rfl rfl)) rfl rfl hl.1 rfl (lv_room (Nat.le_of_ble_eq_true rfl)) dX0_as_47 ⟨Nat.le_refl _, Nat.le_refl _⟩) hP hD hS hA [] rfl rfl (fun r_47 u H locs hq_47 hP hD hS => ?_)
          replace hP : va_P E.1 clA [(ax 5, .inl (E.2 0, 7, .inl er))] _ := hP
          replace hD : va_D A [(ax 5, .inl (E.2 0, 7, .inl er))] := hD
          replace hq_47 : r_47 = some (tl (nn til)) := hq_47
          obtain rfl : r_47 = some (tl (nn til)) := by first | exact hq_47 | exact hq_47.1
          refine fx_get X hE (fx_one (hR.at hS) (List.mem_append_right _ hc)) 0 rfl rfl 1 rfl q146 rfl rfl dX0_as_50 ?_
          refine lv_goto (tgt := 61) hx hb dX0_as_53 (by decide) ?_
          exact hret (sa (32 + 2 * nn til + 1)) (er) (by rw [as_, if_pos (by simp [hb_1, hb_11]), if_pos hU]) (rfl) hP hD hS (Nat.le_refl _) (Nat.le_refl _) dX0_as_61
        · -- False
          subst hr_36
          have hU : isU (sa (32 + 2 * nn til)) kd = false := by rw [(hI.kd g1).1, hw, gk.1]; exact Bool.eq_false_iff.2 hb_36
          refine lv_if_eq (tgt := 56) hx hb dX0_as_39 (by decide) (fun _ => ?_) (fun c => (c (by decide)).elim)
          refine lv_aload_n hx hb dX0_as_56 rfl (lv_at hl 0 rfl) ?_
          refine lv_iconst (v := 5) hx hb dX0_as_57 rfl ?_
          refine fx_ci (va_runV (As := [.int 5]) (rest := []) X (xX0_finds l E ax im bn bm fm ff fl er 5 (by decide) _) (cwV 1 X.2.2.2.2 (lw_V q303 q305 qs0 q69 q306) rfl rfl rfl ⟨rfl, hdX0_finds⟩ ⟨Nat.le_of_ble_eq_true rfl, Nat.le_of_ble_eq_true rfl⟩) (fx_preV (fx_pre hE hP hD hS hR [0] rfl rfl (fx_rcr 0 rfl fx_rc0)) (va_recv hE.1 (hR.at hS) (ci := 0) (q0 := 0) rfl rfl)) rfl rfl hl.1 rfl (lv_room (Nat.le_of_ble_eq_true rfl)) dX0_as_58 ⟨Nat.le_refl _, Nat.le_refl _⟩) hP hD hS hA [0] rfl rfl (fun r_58 u H locs hq_58 hP hD hS => ?_)
          replace hP : va_P E.1 clA [(ax 5, .inl (E.2 0, 7, .inl (upd er 5 (er 5 + 1))))] _ := hP
          replace hD : va_D A [(ax 5, .inl (E.2 0, 7, .inl (upd er 5 (er 5 + 1))))] := hD
          replace hq_58 : r_58 = erv 5 := hq_58
          exact hret r_58 ((upd er 5 (er 5 + 1))) (by rw [hq_58, as_, if_pos (by simp [hb_1, hb_11]), if_neg (by rw [hU]; exact Bool.false_ne_true)]; rfl) (rfl) hP hD hS (Nat.le_refl _) (Nat.le_refl _) dX0_as_61
      ·
        have hc : ((tl (nn til), .inr (7, [.int (nI (nn til)), .int (sa (32 + 2 * nn til + 1))])) : Nat × va_E) ∈ PL := by have hz := hTL (nn til) g1; rw [hw] at hz; exact hz
        refine lv_iload_n hx hb dX0_as_35 rfl (lv_at hl 2 rfl) ?_
        refine fx_ti (show kd = nI (nn kd) from gk.1) ?_
        refine fx_ci (va_runS (As := [.ref (tl (nn til)), .int (nI (nn kd))]) (rest := []) X (xX0_isOf1 l E (tl (nn til)) (nI (nn til)) (sa (32 + 2 * nn til + 1)) (nn kd) gk.2 _) (va_cwS 2 X.2.2.2.2 (lw_S q439 q440 q69 q441) rfl rfl rfl hdX0_isOf ⟨Nat.le_of_ble_eq_true rfl, Nat.le_of_ble_eq_true rfl⟩) (fx_pre hE hP hD hS hR [] rfl rfl (fx_rcx ((List.mem_append_right _ hc)) fx_rc0)) rfl rfl hl.1 rfl (lv_room (Nat.le_of_ble_eq_true rfl)) dX0_as_36 ⟨Nat.le_refl _, Nat.le_refl _⟩) hP hD hS hA [] rfl rfl (fun r_36 u H locs hq_36 hP hD hS => ?_)
        replace hP : va_P E.1 clA [(ax 5, .inl (E.2 0, 7, .inl er))] _ := hP
        replace hD : va_D A [(ax 5, .inl (E.2 0, 7, .inl er))] := hD
        replace hq_36 : r_36 = fx_b (isU 1 (nI (nn kd)) = true) := hq_36
        rcases fx_bc hq_36 with ⟨hb_36, hr_36⟩ | ⟨hb_36, hr_36⟩
        · -- True
          subst hr_36
          have hU : isU (sa (32 + 2 * nn til)) kd = true := by rw [(hI.kd g1).1, hw, gk.1]; exact hb_36
          refine lv_if_eq (tgt := 56) hx hb dX0_as_39 (by decide) (fun c => absurd c (by decide)) (fun _ => ?_)
          refine lv_aload_n hx hb dX0_as_42 rfl (lv_at hl 0 rfl) ?_
          refine fx_get X hE (hR.at hS) 0 rfl rfl 2 rfl q237 rfl rfl dX0_as_43 ?_
          refine lv_iload_n hx hb dX0_as_46 rfl (lv_at hl 1 rfl) ?_
          refine fx_ti (show til = nI (nn til) from gn.1) ?_
          refine fx_cq (va_runV (As := [.int (nI (nn til))]) (rest := []) X (xX1_at l E ax tk cs gs zz tp wg sa tl (nn til) PL g1 (by first | assumption | omega) (by first | assumption | omega) _) (cwV 1 X.2.2.2.2 (lw_V q339 q340 q341 q70 q342) rfl rfl rfl ⟨rfl, hdX1_at⟩ ⟨Nat.le_of_ble_eq_true rfl, Nat.le_of_ble_eq_true rfl⟩) (fx_preV (fx_pre hE hP hD hS hR [] rfl rfl (fx_rcr 1 rfl (fx_rcr 2 rfl (fx_rcr 3 rfl (fx_rcr 4 rfl (fx_rcr 5 rfl (fx_rcr 6 rfl (fx_rct (fun q hq => List.mem_append_right _ hq))))))))) (va_recv hE.1 (hR.at hS) (ci := 1) (q0 := 1) rfl rfl)) rfl rfl hl.1 rfl (lv_room (Nat.le_of_ble_eq_true rfl)) dX0_as_47 ⟨Nat.le_refl _, Nat.le_refl _⟩) hP hD hS hA [] rfl rfl (fun r_47 u H locs hq_47 hP hD hS => ?_)
          replace hP : va_P E.1 clA [(ax 5, .inl (E.2 0, 7, .inl er))] _ := hP
          replace hD : va_D A [(ax 5, .inl (E.2 0, 7, .inl er))] := hD
          replace hq_47 : r_47 = some (tl (nn til)) := hq_47
          obtain rfl : r_47 = some (tl (nn til)) := by first | exact hq_47 | exact hq_47.1
          refine fx_get X hE (fx_one (hR.at hS) (List.mem_append_right _ hc)) 0 rfl rfl 1 rfl q146 rfl rfl dX0_as_50 ?_
          refine lv_goto (tgt := 61) hx hb dX0_as_53 (by decide) ?_
          exact hret (sa (32 + 2 * nn til + 1)) (er) (by rw [as_, if_pos (by simp [hb_1, hb_11]), if_pos hU]) (rfl) hP hD hS (Nat.le_refl _) (Nat.le_refl _) dX0_as_61
        · -- False
          subst hr_36
          have hU : isU (sa (32 + 2 * nn til)) kd = false := by rw [(hI.kd g1).1, hw, gk.1]; exact Bool.eq_false_iff.2 hb_36
          refine lv_if_eq (tgt := 56) hx hb dX0_as_39 (by decide) (fun _ => ?_) (fun c => (c (by decide)).elim)
          refine lv_aload_n hx hb dX0_as_56 rfl (lv_at hl 0 rfl) ?_
          refine lv_iconst (v := 5) hx hb dX0_as_57 rfl ?_
          refine fx_ci (va_runV (As := [.int 5]) (rest := []) X (xX0_finds l E ax im bn bm fm ff fl er 5 (by decide) _) (cwV 1 X.2.2.2.2 (lw_V q303 q305 qs0 q69 q306) rfl rfl rfl ⟨rfl, hdX0_finds⟩ ⟨Nat.le_of_ble_eq_true rfl, Nat.le_of_ble_eq_true rfl⟩) (fx_preV (fx_pre hE hP hD hS hR [0] rfl rfl (fx_rcr 0 rfl fx_rc0)) (va_recv hE.1 (hR.at hS) (ci := 0) (q0 := 0) rfl rfl)) rfl rfl hl.1 rfl (lv_room (Nat.le_of_ble_eq_true rfl)) dX0_as_58 ⟨Nat.le_refl _, Nat.le_refl _⟩) hP hD hS hA [0] rfl rfl (fun r_58 u H locs hq_58 hP hD hS => ?_)
          replace hP : va_P E.1 clA [(ax 5, .inl (E.2 0, 7, .inl (upd er 5 (er 5 + 1))))] _ := hP
          replace hD : va_D A [(ax 5, .inl (E.2 0, 7, .inl (upd er 5 (er 5 + 1))))] := hD
          replace hq_58 : r_58 = erv 5 := hq_58
          exact hret r_58 ((upd er 5 (er 5 + 1))) (by rw [hq_58, as_, if_pos (by simp [hb_1, hb_11]), if_neg (by rw [hU]; exact Bool.false_ne_true)]; rfl) (rfl) hP hD hS (Nat.le_refl _) (Nat.le_refl _) dX0_as_61
      ·
        have hc : ((tl (nn til), .inr (8, [.int (nI (nn til)), .int (sa (32 + 2 * nn til + 1))])) : Nat × va_E) ∈ PL := by have hz := hTL (nn til) g1; rw [hw] at hz; exact hz
        refine lv_iload_n hx hb dX0_as_35 rfl (lv_at hl 2 rfl) ?_
        refine fx_ti (show kd = nI (nn kd) from gk.1) ?_
        refine fx_ci (va_runS (As := [.ref (tl (nn til)), .int (nI (nn kd))]) (rest := []) X (xX0_isOf2 l E (tl (nn til)) (nI (nn til)) (sa (32 + 2 * nn til + 1)) (nn kd) gk.2 _) (va_cwS 2 X.2.2.2.2 (lw_S q439 q440 q69 q441) rfl rfl rfl hdX0_isOf ⟨Nat.le_of_ble_eq_true rfl, Nat.le_of_ble_eq_true rfl⟩) (fx_pre hE hP hD hS hR [] rfl rfl (fx_rcx ((List.mem_append_right _ hc)) fx_rc0)) rfl rfl hl.1 rfl (lv_room (Nat.le_of_ble_eq_true rfl)) dX0_as_36 ⟨Nat.le_refl _, Nat.le_refl _⟩) hP hD hS hA [] rfl rfl (fun r_36 u H locs hq_36 hP hD hS => ?_)
        replace hP : va_P E.1 clA [(ax 5, .inl (E.2 0, 7, .inl er))] _ := hP
        replace hD : va_D A [(ax 5, .inl (E.2 0, 7, .inl er))] := hD
        replace hq_36 : r_36 = fx_b (isU 2 (nI (nn kd)) = true) := hq_36
        rcases fx_bc hq_36 with ⟨hb_36, hr_36⟩ | ⟨hb_36, hr_36⟩
        · -- True
          subst hr_36
          have hU : isU (sa (32 + 2 * nn til)) kd = true := by rw [(hI.kd g1).1, hw, gk.1]; exact hb_36
          refine lv_if_eq (tgt := 56) hx hb dX0_as_39 (by decide) (fun c => absurd c (by decide)) (fun _ => ?_)
          refine lv_aload_n hx hb dX0_as_42 rfl (lv_at hl 0 rfl) ?_
          refine fx_get X hE (hR.at hS) 0 rfl rfl 2 rfl q237 rfl rfl dX0_as_43 ?_
          refine lv_iload_n hx hb dX0_as_46 rfl (lv_at hl 1 rfl) ?_
          refine fx_ti (show til = nI (nn til) from gn.1) ?_
          refine fx_cq (va_runV (As := [.int (nI (nn til))]) (rest := []) X (xX1_at l E ax tk cs gs zz tp wg sa tl (nn til) PL g1 (by first | assumption | omega) (by first | assumption | omega) _) (cwV 1 X.2.2.2.2 (lw_V q339 q340 q341 q70 q342) rfl rfl rfl ⟨rfl, hdX1_at⟩ ⟨Nat.le_of_ble_eq_true rfl, Nat.le_of_ble_eq_true rfl⟩) (fx_preV (fx_pre hE hP hD hS hR [] rfl rfl (fx_rcr 1 rfl (fx_rcr 2 rfl (fx_rcr 3 rfl (fx_rcr 4 rfl (fx_rcr 5 rfl (fx_rcr 6 rfl (fx_rct (fun q hq => List.mem_append_right _ hq))))))))) (va_recv hE.1 (hR.at hS) (ci := 1) (q0 := 1) rfl rfl)) rfl rfl hl.1 rfl (lv_room (Nat.le_of_ble_eq_true rfl)) dX0_as_47 ⟨Nat.le_refl _, Nat.le_refl _⟩) hP hD hS hA [] rfl rfl (fun r_47 u H locs hq_47 hP hD hS => ?_)
          replace hP : va_P E.1 clA [(ax 5, .inl (E.2 0, 7, .inl er))] _ := hP
          replace hD : va_D A [(ax 5, .inl (E.2 0, 7, .inl er))] := hD
          replace hq_47 : r_47 = some (tl (nn til)) := hq_47
          obtain rfl : r_47 = some (tl (nn til)) := by first | exact hq_47 | exact hq_47.1
          refine fx_get X hE (fx_one (hR.at hS) (List.mem_append_right _ hc)) 0 rfl rfl 1 rfl q146 rfl rfl dX0_as_50 ?_
          refine lv_goto (tgt := 61) hx hb dX0_as_53 (by decide) ?_
          exact hret (sa (32 + 2 * nn til + 1)) (er) (by rw [as_, if_pos (by simp [hb_1, hb_11]), if_pos hU]) (rfl) hP hD hS (Nat.le_refl _) (Nat.le_refl _) dX0_as_61
        · -- False
          subst hr_36
          have hU : isU (sa (32 + 2 * nn til)) kd = false := by rw [(hI.kd g1).1, hw, gk.1]; exact Bool.eq_false_iff.2 hb_36
          refine lv_if_eq (tgt := 56) hx hb dX0_as_39 (by decide) (fun _ => ?_) (fun c => (c (by decide)).elim)
          refine lv_aload_n hx hb dX0_as_56 rfl (lv_at hl 0 rfl) ?_
          refine lv_iconst (v := 5) hx hb dX0_as_57 rfl ?_
          refine fx_ci (va_runV (As := [.int 5]) (rest := []) X (xX0_finds l E ax im bn bm fm ff fl er 5 (by decide) _) (cwV 1 X.2.2.2.2 (lw_V q303 q305 qs0 q69 q306) rfl rfl rfl ⟨rfl, hdX0_finds⟩ ⟨Nat.le_of_ble_eq_true rfl, Nat.le_of_ble_eq_true rfl⟩) (fx_preV (fx_pre hE hP hD hS hR [0] rfl rfl (fx_rcr 0 rfl fx_rc0)) (va_recv hE.1 (hR.at hS) (ci := 0) (q0 := 0) rfl rfl)) rfl rfl hl.1 rfl (lv_room (Nat.le_of_ble_eq_true rfl)) dX0_as_58 ⟨Nat.le_refl _, Nat.le_refl _⟩) hP hD hS hA [0] rfl rfl (fun r_58 u H locs hq_58 hP hD hS => ?_)
          replace hP : va_P E.1 clA [(ax 5, .inl (E.2 0, 7, .inl (upd er 5 (er 5 + 1))))] _ := hP
          replace hD : va_D A [(ax 5, .inl (E.2 0, 7, .inl (upd er 5 (er 5 + 1))))] := hD
          replace hq_58 : r_58 = erv 5 := hq_58
          exact hret r_58 ((upd er 5 (er 5 + 1))) (by rw [hq_58, as_, if_pos (by simp [hb_1, hb_11]), if_neg (by rw [hU]; exact Bool.false_ne_true)]; rfl) (rfl) hP hD hS (Nat.le_refl _) (Nat.le_refl _) dX0_as_61
      ·
        have hc : ((tl (nn til), .inr (9, [.int (nI (nn til)), .int (sa (32 + 2 * nn til + 1))])) : Nat × va_E) ∈ PL := by have hz := hTL (nn til) g1; rw [hw] at hz; exact hz
        refine lv_iload_n hx hb dX0_as_35 rfl (lv_at hl 2 rfl) ?_
        refine fx_ti (show kd = nI (nn kd) from gk.1) ?_
        refine fx_ci (va_runS (As := [.ref (tl (nn til)), .int (nI (nn kd))]) (rest := []) X (xX0_isOf3 l E (tl (nn til)) (nI (nn til)) (sa (32 + 2 * nn til + 1)) (nn kd) gk.2 _) (va_cwS 2 X.2.2.2.2 (lw_S q439 q440 q69 q441) rfl rfl rfl hdX0_isOf ⟨Nat.le_of_ble_eq_true rfl, Nat.le_of_ble_eq_true rfl⟩) (fx_pre hE hP hD hS hR [] rfl rfl (fx_rcx ((List.mem_append_right _ hc)) fx_rc0)) rfl rfl hl.1 rfl (lv_room (Nat.le_of_ble_eq_true rfl)) dX0_as_36 ⟨Nat.le_refl _, Nat.le_refl _⟩) hP hD hS hA [] rfl rfl (fun r_36 u H locs hq_36 hP hD hS => ?_)
        replace hP : va_P E.1 clA [(ax 5, .inl (E.2 0, 7, .inl er))] _ := hP
        replace hD : va_D A [(ax 5, .inl (E.2 0, 7, .inl er))] := hD
        replace hq_36 : r_36 = fx_b (isU 3 (nI (nn kd)) = true) := hq_36
        rcases fx_bc hq_36 with ⟨hb_36, hr_36⟩ | ⟨hb_36, hr_36⟩
        · -- True
          subst hr_36
          have hU : isU (sa (32 + 2 * nn til)) kd = true := by rw [(hI.kd g1).1, hw, gk.1]; exact hb_36
          refine lv_if_eq (tgt := 56) hx hb dX0_as_39 (by decide) (fun c => absurd c (by decide)) (fun _ => ?_)
          refine lv_aload_n hx hb dX0_as_42 rfl (lv_at hl 0 rfl) ?_
          refine fx_get X hE (hR.at hS) 0 rfl rfl 2 rfl q237 rfl rfl dX0_as_43 ?_
          refine lv_iload_n hx hb dX0_as_46 rfl (lv_at hl 1 rfl) ?_
          refine fx_ti (show til = nI (nn til) from gn.1) ?_
          refine fx_cq (va_runV (As := [.int (nI (nn til))]) (rest := []) X (xX1_at l E ax tk cs gs zz tp wg sa tl (nn til) PL g1 (by first | assumption | omega) (by first | assumption | omega) _) (cwV 1 X.2.2.2.2 (lw_V q339 q340 q341 q70 q342) rfl rfl rfl ⟨rfl, hdX1_at⟩ ⟨Nat.le_of_ble_eq_true rfl, Nat.le_of_ble_eq_true rfl⟩) (fx_preV (fx_pre hE hP hD hS hR [] rfl rfl (fx_rcr 1 rfl (fx_rcr 2 rfl (fx_rcr 3 rfl (fx_rcr 4 rfl (fx_rcr 5 rfl (fx_rcr 6 rfl (fx_rct (fun q hq => List.mem_append_right _ hq))))))))) (va_recv hE.1 (hR.at hS) (ci := 1) (q0 := 1) rfl rfl)) rfl rfl hl.1 rfl (lv_room (Nat.le_of_ble_eq_true rfl)) dX0_as_47 ⟨Nat.le_refl _, Nat.le_refl _⟩) hP hD hS hA [] rfl rfl (fun r_47 u H locs hq_47 hP hD hS => ?_)
          replace hP : va_P E.1 clA [(ax 5, .inl (E.2 0, 7, .inl er))] _ := hP
          replace hD : va_D A [(ax 5, .inl (E.2 0, 7, .inl er))] := hD
          replace hq_47 : r_47 = some (tl (nn til)) := hq_47
          obtain rfl : r_47 = some (tl (nn til)) := by first | exact hq_47 | exact hq_47.1
          refine fx_get X hE (fx_one (hR.at hS) (List.mem_append_right _ hc)) 0 rfl rfl 1 rfl q146 rfl rfl dX0_as_50 ?_
          refine lv_goto (tgt := 61) hx hb dX0_as_53 (by decide) ?_
          exact hret (sa (32 + 2 * nn til + 1)) (er) (by rw [as_, if_pos (by simp [hb_1, hb_11]), if_pos hU]) (rfl) hP hD hS (Nat.le_refl _) (Nat.le_refl _) dX0_as_61
        · -- False
          subst hr_36
          have hU : isU (sa (32 + 2 * nn til)) kd = false := by rw [(hI.kd g1).1, hw, gk.1]; exact Bool.eq_false_iff.2 hb_36
          refine lv_if_eq (tgt := 56) hx hb dX0_as_39 (by decide) (fun _ => ?_) (fun c => (c (by decide)).elim)
          refine lv_aload_n hx hb dX0_as_56 rfl (lv_at hl 0 rfl) ?_
          refine lv_iconst (v := 5) hx hb dX0_as_57 rfl ?_
          refine fx_ci (va_runV (As := [.int 5]) (rest := []) X (xX0_finds l E ax im bn bm fm ff fl er 5 (by decide) _) (cwV 1 X.2.2.2.2 (lw_V q303 q305 qs0 q69 q306) rfl rfl rfl ⟨rfl, hdX0_finds⟩ ⟨Nat.le_of_ble_eq_true rfl, Nat.le_of_ble_eq_true rfl⟩) (fx_preV (fx_pre hE hP hD hS hR [0] rfl rfl (fx_rcr 0 rfl fx_rc0)) (va_recv hE.1 (hR.at hS) (ci := 0) (q0 := 0) rfl rfl)) rfl rfl hl.1 rfl (lv_room (Nat.le_of_ble_eq_true rfl)) dX0_as_58 ⟨Nat.le_refl _, Nat.le_refl _⟩) hP hD hS hA [0] rfl rfl (fun r_58 u H locs hq_58 hP hD hS => ?_)
          replace hP : va_P E.1 clA [(ax 5, .inl (E.2 0, 7, .inl (upd er 5 (er 5 + 1))))] _ := hP
          replace hD : va_D A [(ax 5, .inl (E.2 0, 7, .inl (upd er 5 (er 5 + 1))))] := hD
          replace hq_58 : r_58 = erv 5 := hq_58
          exact hret r_58 ((upd er 5 (er 5 + 1))) (by rw [hq_58, as_, if_pos (by simp [hb_1, hb_11]), if_neg (by rw [hU]; exact Bool.false_ne_true)]; rfl) (rfl) hP hD hS (Nat.le_refl _) (Nat.le_refl _) dX0_as_61
      ·
        have hc : ((tl (nn til), .inr (10, [.int (nI (nn til)), .int (sa (32 + 2 * nn til + 1))])) : Nat × va_E) ∈ PL := by have hz := hTL (nn til) g1; rw [hw] at hz; exact hz
        refine lv_iload_n hx hb dX0_as_35 rfl (lv_at hl 2 rfl) ?_
        refine fx_ti (show kd = nI (nn kd) from gk.1) ?_
        refine fx_ci (va_runS (As := [.ref (tl (nn til)), .int (nI (nn kd))]) (rest := []) X (xX0_isOf4 l E (tl (nn til)) (nI (nn til)) (sa (32 + 2 * nn til + 1)) (nn kd) gk.2 _) (va_cwS 2 X.2.2.2.2 (lw_S q439 q440 q69 q441) rfl rfl rfl hdX0_isOf ⟨Nat.le_of_ble_eq_true rfl, Nat.le_of_ble_eq_true rfl⟩) (fx_pre hE hP hD hS hR [] rfl rfl (fx_rcx ((List.mem_append_right _ hc)) fx_rc0)) rfl rfl hl.1 rfl (lv_room (Nat.le_of_ble_eq_true rfl)) dX0_as_36 ⟨Nat.le_refl _, Nat.le_refl _⟩) hP hD hS hA [] rfl rfl (fun r_36 u H locs hq_36 hP hD hS => ?_)
        replace hP : va_P E.1 clA [(ax 5, .inl (E.2 0, 7, .inl er))] _ := hP
        replace hD : va_D A [(ax 5, .inl (E.2 0, 7, .inl er))] := hD
        replace hq_36 : r_36 = fx_b (isU 4 (nI (nn kd)) = true) := hq_36
        rcases fx_bc hq_36 with ⟨hb_36, hr_36⟩ | ⟨hb_36, hr_36⟩
        · -- True
          subst hr_36
          have hU : isU (sa (32 + 2 * nn til)) kd = true := by rw [(hI.kd g1).1, hw, gk.1]; exact hb_36
          refine lv_if_eq (tgt := 56) hx hb dX0_as_39 (by decide) (fun c => absurd c (by decide)) (fun _ => ?_)
          refine lv_aload_n hx hb dX0_as_42 rfl (lv_at hl 0 rfl) ?_
          refine fx_get X hE (hR.at hS) 0 rfl rfl 2 rfl q237 rfl rfl dX0_as_43 ?_
          refine lv_iload_n hx hb dX0_as_46 rfl (lv_at hl 1 rfl) ?_
          refine fx_ti (show til = nI (nn til) from gn.1) ?_
          refine fx_cq (va_runV (As := [.int (nI (nn til))]) (rest := []) X (xX1_at l E ax tk cs gs zz tp wg sa tl (nn til) PL g1 (by first | assumption | omega) (by first | assumption | omega) _) (cwV 1 X.2.2.2.2 (lw_V q339 q340 q341 q70 q342) rfl rfl rfl ⟨rfl, hdX1_at⟩ ⟨Nat.le_of_ble_eq_true rfl, Nat.le_of_ble_eq_true rfl⟩) (fx_preV (fx_pre hE hP hD hS hR [] rfl rfl (fx_rcr 1 rfl (fx_rcr 2 rfl (fx_rcr 3 rfl (fx_rcr 4 rfl (fx_rcr 5 rfl (fx_rcr 6 rfl (fx_rct (fun q hq => List.mem_append_right _ hq))))))))) (va_recv hE.1 (hR.at hS) (ci := 1) (q0 := 1) rfl rfl)) rfl rfl hl.1 rfl (lv_room (Nat.le_of_ble_eq_true rfl)) dX0_as_47 ⟨Nat.le_refl _, Nat.le_refl _⟩) hP hD hS hA [] rfl rfl (fun r_47 u H locs hq_47 hP hD hS => ?_)
          replace hP : va_P E.1 clA [(ax 5, .inl (E.2 0, 7, .inl er))] _ := hP
          replace hD : va_D A [(ax 5, .inl (E.2 0, 7, .inl er))] := hD
          replace hq_47 : r_47 = some (tl (nn til)) := hq_47
          obtain rfl : r_47 = some (tl (nn til)) := by first | exact hq_47 | exact hq_47.1
          refine fx_get X hE (fx_one (hR.at hS) (List.mem_append_right _ hc)) 0 rfl rfl 1 rfl q146 rfl rfl dX0_as_50 ?_
          refine lv_goto (tgt := 61) hx hb dX0_as_53 (by decide) ?_
          exact hret (sa (32 + 2 * nn til + 1)) (er) (by rw [as_, if_pos (by simp [hb_1, hb_11]), if_pos hU]) (rfl) hP hD hS (Nat.le_refl _) (Nat.le_refl _) dX0_as_61
        · -- False
          subst hr_36
          have hU : isU (sa (32 + 2 * nn til)) kd = false := by rw [(hI.kd g1).1, hw, gk.1]; exact Bool.eq_false_iff.2 hb_36
          refine lv_if_eq (tgt := 56) hx hb dX0_as_39 (by decide) (fun _ => ?_) (fun c => (c (by decide)).elim)
          refine lv_aload_n hx hb dX0_as_56 rfl (lv_at hl 0 rfl) ?_
          refine lv_iconst (v := 5) hx hb dX0_as_57 rfl ?_
          refine fx_ci (va_runV (As := [.int 5]) (rest := []) X (xX0_finds l E ax im bn bm fm ff fl er 5 (by decide) _) (cwV 1 X.2.2.2.2 (lw_V q303 q305 qs0 q69 q306) rfl rfl rfl ⟨rfl, hdX0_finds⟩ ⟨Nat.le_of_ble_eq_true rfl, Nat.le_of_ble_eq_true rfl⟩) (fx_preV (fx_pre hE hP hD hS hR [0] rfl rfl (fx_rcr 0 rfl fx_rc0)) (va_recv hE.1 (hR.at hS) (ci := 0) (q0 := 0) rfl rfl)) rfl rfl hl.1 rfl (lv_room (Nat.le_of_ble_eq_true rfl)) dX0_as_58 ⟨Nat.le_refl _, Nat.le_refl _⟩) hP hD hS hA [0] rfl rfl (fun r_58 u H locs hq_58 hP hD hS => ?_)
          replace hP : va_P E.1 clA [(ax 5, .inl (E.2 0, 7, .inl (upd er 5 (er 5 + 1))))] _ := hP
          replace hD : va_D A [(ax 5, .inl (E.2 0, 7, .inl (upd er 5 (er 5 + 1))))] := hD
          replace hq_58 : r_58 = erv 5 := hq_58
          exact hret r_58 ((upd er 5 (er 5 + 1))) (by rw [hq_58, as_, if_pos (by simp [hb_1, hb_11]), if_neg (by rw [hU]; exact Bool.false_ne_true)]; rfl) (rfl) hP hD hS (Nat.le_refl _) (Nat.le_refl _) dX0_as_61
      ·
        have hc : ((tl (nn til), .inr (11, [.int (nI (nn til)), .int (sa (32 + 2 * nn til + 1))])) : Nat × va_E) ∈ PL := by have hz := hTL (nn til) g1; rw [hw] at hz; exact hz
        refine lv_iload_n hx hb dX0_as_35 rfl (lv_at hl 2 rfl) ?_
        refine fx_ti (show kd = nI (nn kd) from gk.1) ?_
        refine fx_ci (va_runS (As := [.ref (tl (nn til)), .int (nI (nn kd))]) (rest := []) X (xX0_isOf5 l E (tl (nn til)) (nI (nn til)) (sa (32 + 2 * nn til + 1)) (nn kd) gk.2 _) (va_cwS 2 X.2.2.2.2 (lw_S q439 q440 q69 q441) rfl rfl rfl hdX0_isOf ⟨Nat.le_of_ble_eq_true rfl, Nat.le_of_ble_eq_true rfl⟩) (fx_pre hE hP hD hS hR [] rfl rfl (fx_rcx ((List.mem_append_right _ hc)) fx_rc0)) rfl rfl hl.1 rfl (lv_room (Nat.le_of_ble_eq_true rfl)) dX0_as_36 ⟨Nat.le_refl _, Nat.le_refl _⟩) hP hD hS hA [] rfl rfl (fun r_36 u H locs hq_36 hP hD hS => ?_)
        replace hP : va_P E.1 clA [(ax 5, .inl (E.2 0, 7, .inl er))] _ := hP
        replace hD : va_D A [(ax 5, .inl (E.2 0, 7, .inl er))] := hD
        replace hq_36 : r_36 = fx_b (isU 5 (nI (nn kd)) = true) := hq_36
        rcases fx_bc hq_36 with ⟨hb_36, hr_36⟩ | ⟨hb_36, hr_36⟩
        · -- True
          subst hr_36
          have hU : isU (sa (32 + 2 * nn til)) kd = true := by rw [(hI.kd g1).1, hw, gk.1]; exact hb_36
          refine lv_if_eq (tgt := 56) hx hb dX0_as_39 (by decide) (fun c => absurd c (by decide)) (fun _ => ?_)
          refine lv_aload_n hx hb dX0_as_42 rfl (lv_at hl 0 rfl) ?_
          refine fx_get X hE (hR.at hS) 0 rfl rfl 2 rfl q237 rfl rfl dX0_as_43 ?_
          refine lv_iload_n hx hb dX0_as_46 rfl (lv_at hl 1 rfl) ?_
          refine fx_ti (show til = nI (nn til) from gn.1) ?_
          refine fx_cq (va_runV (As := [.int (nI (nn til))]) (rest := []) X (xX1_at l E ax tk cs gs zz tp wg sa tl (nn til) PL g1 (by first | assumption | omega) (by first | assumption | omega) _) (cwV 1 X.2.2.2.2 (lw_V q339 q340 q341 q70 q342) rfl rfl rfl ⟨rfl, hdX1_at⟩ ⟨Nat.le_of_ble_eq_true rfl, Nat.le_of_ble_eq_true rfl⟩) (fx_preV (fx_pre hE hP hD hS hR [] rfl rfl (fx_rcr 1 rfl (fx_rcr 2 rfl (fx_rcr 3 rfl (fx_rcr 4 rfl (fx_rcr 5 rfl (fx_rcr 6 rfl (fx_rct (fun q hq => List.mem_append_right _ hq))))))))) (va_recv hE.1 (hR.at hS) (ci := 1) (q0 := 1) rfl rfl)) rfl rfl hl.1 rfl (lv_room (Nat.le_of_ble_eq_true rfl)) dX0_as_47 ⟨Nat.le_refl _, Nat.le_refl _⟩) hP hD hS hA [] rfl rfl (fun r_47 u H locs hq_47 hP hD hS => ?_)
          replace hP : va_P E.1 clA [(ax 5, .inl (E.2 0, 7, .inl er))] _ := hP
          replace hD : va_D A [(ax 5, .inl (E.2 0, 7, .inl er))] := hD
          replace hq_47 : r_47 = some (tl (nn til)) := hq_47
          obtain rfl : r_47 = some (tl (nn til)) := by first | exact hq_47 | exact hq_47.1
          refine fx_get X hE (fx_one (hR.at hS) (List.mem_append_right _ hc)) 0 rfl rfl 1 rfl q146 rfl rfl dX0_as_50 ?_
          refine lv_goto (tgt := 61) hx hb dX0_as_53 (by decide) ?_
          exact hret (sa (32 + 2 * nn til + 1)) (er) (by rw [as_, if_pos (by simp [hb_1, hb_11]), if_pos hU]) (rfl) hP hD hS (Nat.le_refl _) (Nat.le_refl _) dX0_as_61
        · -- False
          subst hr_36
          have hU : isU (sa (32 + 2 * nn til)) kd = false := by rw [(hI.kd g1).1, hw, gk.1]; exact Bool.eq_false_iff.2 hb_36
          refine lv_if_eq (tgt := 56) hx hb dX0_as_39 (by decide) (fun _ => ?_) (fun c => (c (by decide)).elim)
          refine lv_aload_n hx hb dX0_as_56 rfl (lv_at hl 0 rfl) ?_
          refine lv_iconst (v := 5) hx hb dX0_as_57 rfl ?_
          refine fx_ci (va_runV (As := [.int 5]) (rest := []) X (xX0_finds l E ax im bn bm fm ff fl er 5 (by decide) _) (cwV 1 X.2.2.2.2 (lw_V q303 q305 qs0 q69 q306) rfl rfl rfl ⟨rfl, hdX0_finds⟩ ⟨Nat.le_of_ble_eq_true rfl, Nat.le_of_ble_eq_true rfl⟩) (fx_preV (fx_pre hE hP hD hS hR [0] rfl rfl (fx_rcr 0 rfl fx_rc0)) (va_recv hE.1 (hR.at hS) (ci := 0) (q0 := 0) rfl rfl)) rfl rfl hl.1 rfl (lv_room (Nat.le_of_ble_eq_true rfl)) dX0_as_58 ⟨Nat.le_refl _, Nat.le_refl _⟩) hP hD hS hA [0] rfl rfl (fun r_58 u H locs hq_58 hP hD hS => ?_)
          replace hP : va_P E.1 clA [(ax 5, .inl (E.2 0, 7, .inl (upd er 5 (er 5 + 1))))] _ := hP
          replace hD : va_D A [(ax 5, .inl (E.2 0, 7, .inl (upd er 5 (er 5 + 1))))] := hD
          replace hq_58 : r_58 = erv 5 := hq_58
          exact hret r_58 ((upd er 5 (er 5 + 1))) (by rw [hq_58, as_, if_pos (by simp [hb_1, hb_11]), if_neg (by rw [hU]; exact Bool.false_ne_true)]; rfl) (rfl) hP hD hS (Nat.le_refl _) (Nat.le_refl _) dX0_as_61
      ·
        have hc : ((tl (nn til), .inr (12, [.int (nI (nn til)), .int (sa (32 + 2 * nn til + 1))])) : Nat × va_E) ∈ PL := by have hz := hTL (nn til) g1; rw [hw] at hz; exact hz
        refine lv_iload_n hx hb dX0_as_35 rfl (lv_at hl 2 rfl) ?_
        refine fx_ti (show kd = nI (nn kd) from gk.1) ?_
        refine fx_ci (va_runS (As := [.ref (tl (nn til)), .int (nI (nn kd))]) (rest := []) X (xX0_isOf6 l E (tl (nn til)) (nI (nn til)) (sa (32 + 2 * nn til + 1)) (nn kd) gk.2 _) (va_cwS 2 X.2.2.2.2 (lw_S q439 q440 q69 q441) rfl rfl rfl hdX0_isOf ⟨Nat.le_of_ble_eq_true rfl, Nat.le_of_ble_eq_true rfl⟩) (fx_pre hE hP hD hS hR [] rfl rfl (fx_rcx ((List.mem_append_right _ hc)) fx_rc0)) rfl rfl hl.1 rfl (lv_room (Nat.le_of_ble_eq_true rfl)) dX0_as_36 ⟨Nat.le_refl _, Nat.le_refl _⟩) hP hD hS hA [] rfl rfl (fun r_36 u H locs hq_36 hP hD hS => ?_)
        replace hP : va_P E.1 clA [(ax 5, .inl (E.2 0, 7, .inl er))] _ := hP
        replace hD : va_D A [(ax 5, .inl (E.2 0, 7, .inl er))] := hD
        replace hq_36 : r_36 = fx_b (isU 6 (nI (nn kd)) = true) := hq_36
        rcases fx_bc hq_36 with ⟨hb_36, hr_36⟩ | ⟨hb_36, hr_36⟩
        · -- True
          subst hr_36
          have hU : isU (sa (32 + 2 * nn til)) kd = true := by rw [(hI.kd g1).1, hw, gk.1]; exact hb_36
          refine lv_if_eq (tgt := 56) hx hb dX0_as_39 (by decide) (fun c => absurd c (by decide)) (fun _ => ?_)
          refine lv_aload_n hx hb dX0_as_42 rfl (lv_at hl 0 rfl) ?_
          refine fx_get X hE (hR.at hS) 0 rfl rfl 2 rfl q237 rfl rfl dX0_as_43 ?_
          refine lv_iload_n hx hb dX0_as_46 rfl (lv_at hl 1 rfl) ?_
          refine fx_ti (show til = nI (nn til) from gn.1) ?_
          refine fx_cq (va_runV (As := [.int (nI (nn til))]) (rest := []) X (xX1_at l E ax tk cs gs zz tp wg sa tl (nn til) PL g1 (by first | assumption | omega) (by first | assumption | omega) _) (cwV 1 X.2.2.2.2 (lw_V q339 q340 q341 q70 q342) rfl rfl rfl ⟨rfl, hdX1_at⟩ ⟨Nat.le_of_ble_eq_true rfl, Nat.le_of_ble_eq_true rfl⟩) (fx_preV (fx_pre hE hP hD hS hR [] rfl rfl (fx_rcr 1 rfl (fx_rcr 2 rfl (fx_rcr 3 rfl (fx_rcr 4 rfl (fx_rcr 5 rfl (fx_rcr 6 rfl (fx_rct (fun q hq => List.mem_append_right _ hq))))))))) (va_recv hE.1 (hR.at hS) (ci := 1) (q0 := 1) rfl rfl)) rfl rfl hl.1 rfl (lv_room (Nat.le_of_ble_eq_true rfl)) dX0_as_47 ⟨Nat.le_refl _, Nat.le_refl _⟩) hP hD hS hA [] rfl rfl (fun r_47 u H locs hq_47 hP hD hS => ?_)
          replace hP : va_P E.1 clA [(ax 5, .inl (E.2 0, 7, .inl er))] _ := hP
          replace hD : va_D A [(ax 5, .inl (E.2 0, 7, .inl er))] := hD
          replace hq_47 : r_47 = some (tl (nn til)) := hq_47
          obtain rfl : r_47 = some (tl (nn til)) := by first | exact hq_47 | exact hq_47.1
          refine fx_get X hE (fx_one (hR.at hS) (List.mem_append_right _ hc)) 0 rfl rfl 1 rfl q146 rfl rfl dX0_as_50 ?_
          refine lv_goto (tgt := 61) hx hb dX0_as_53 (by decide) ?_
          exact hret (sa (32 + 2 * nn til + 1)) (er) (by rw [as_, if_pos (by simp [hb_1, hb_11]), if_pos hU]) (rfl) hP hD hS (Nat.le_refl _) (Nat.le_refl _) dX0_as_61
        · -- False
          subst hr_36
          have hU : isU (sa (32 + 2 * nn til)) kd = false := by rw [(hI.kd g1).1, hw, gk.1]; exact Bool.eq_false_iff.2 hb_36
          refine lv_if_eq (tgt := 56) hx hb dX0_as_39 (by decide) (fun _ => ?_) (fun c => (c (by decide)).elim)
          refine lv_aload_n hx hb dX0_as_56 rfl (lv_at hl 0 rfl) ?_
          refine lv_iconst (v := 5) hx hb dX0_as_57 rfl ?_
          refine fx_ci (va_runV (As := [.int 5]) (rest := []) X (xX0_finds l E ax im bn bm fm ff fl er 5 (by decide) _) (cwV 1 X.2.2.2.2 (lw_V q303 q305 qs0 q69 q306) rfl rfl rfl ⟨rfl, hdX0_finds⟩ ⟨Nat.le_of_ble_eq_true rfl, Nat.le_of_ble_eq_true rfl⟩) (fx_preV (fx_pre hE hP hD hS hR [0] rfl rfl (fx_rcr 0 rfl fx_rc0)) (va_recv hE.1 (hR.at hS) (ci := 0) (q0 := 0) rfl rfl)) rfl rfl hl.1 rfl (lv_room (Nat.le_of_ble_eq_true rfl)) dX0_as_58 ⟨Nat.le_refl _, Nat.le_refl _⟩) hP hD hS hA [0] rfl rfl (fun r_58 u H locs hq_58 hP hD hS => ?_)
          replace hP : va_P E.1 clA [(ax 5, .inl (E.2 0, 7, .inl (upd er 5 (er 5 + 1))))] _ := hP
          replace hD : va_D A [(ax 5, .inl (E.2 0, 7, .inl (upd er 5 (er 5 + 1))))] := hD
          replace hq_58 : r_58 = erv 5 := hq_58
          exact hret r_58 ((upd er 5 (er 5 + 1))) (by rw [hq_58, as_, if_pos (by simp [hb_1, hb_11]), if_neg (by rw [hU]; exact Bool.false_ne_true)]; rfl) (rfl) hP hD hS (Nat.le_refl _) (Nat.le_refl _) dX0_as_61
    · -- False
      subst hr_11
      refine lv_if_ne (tgt := 23) hx hb dX0_as_14 (by decide) (fun c => (c (by decide)).elim) (fun _ => ?_)
      refine lv_aload_n hx hb dX0_as_17 rfl (lv_at hl 0 rfl) ?_
      refine lv_iconst (v := 1) hx hb dX0_as_18 rfl ?_
      refine fx_ci (va_runV (As := [.int 1]) (rest := []) X (xX0_finds l E ax im bn bm fm ff fl er 1 (by decide) _) (cwV 1 X.2.2.2.2 (lw_V q303 q305 qs0 q69 q306) rfl rfl rfl ⟨rfl, hdX0_finds⟩ ⟨Nat.le_of_ble_eq_true rfl, Nat.le_of_ble_eq_true rfl⟩) (fx_preV (fx_pre hE hP hD hS hR [0] rfl rfl (fx_rcr 0 rfl fx_rc0)) (va_recv hE.1 (hR.at hS) (ci := 0) (q0 := 0) rfl rfl)) rfl rfl hl.1 rfl (lv_room (Nat.le_of_ble_eq_true rfl)) dX0_as_19 ⟨Nat.le_refl _, Nat.le_refl _⟩) hP hD hS hA [0] rfl rfl (fun r_19 u H locs hq_19 hP hD hS => ?_)
      replace hP : va_P E.1 clA [(ax 5, .inl (E.2 0, 7, .inl (upd er 1 (er 1 + 1))))] _ := hP
      replace hD : va_D A [(ax 5, .inl (E.2 0, 7, .inl (upd er 1 (er 1 + 1))))] := hD
      replace hq_19 : r_19 = erv 1 := hq_19
      exact hret r_19 ((upd er 1 (er 1 + 1))) (by simp [as_, erI, hq_19, hb_1, hb_11]) (rfl) hP hD hS (Nat.le_refl _) (Nat.le_refl _) dX0_as_22
  · -- False
    subst hr_1
    refine lv_if_eq (tgt := 17) hx hb dX0_as_4 (by decide) (fun _ => ?_) (fun c => (c (by decide)).elim)
    refine lv_aload_n hx hb dX0_as_17 rfl (lv_at hl 0 rfl) ?_
    refine lv_iconst (v := 1) hx hb dX0_as_18 rfl ?_
    refine fx_ci (va_runV (As := [.int 1]) (rest := []) X (xX0_finds l E ax im bn bm fm ff fl er 1 (by decide) _) (cwV 1 X.2.2.2.2 (lw_V q303 q305 qs0 q69 q306) rfl rfl rfl ⟨rfl, hdX0_finds⟩ ⟨Nat.le_of_ble_eq_true rfl, Nat.le_of_ble_eq_true rfl⟩) (fx_preV (fx_pre hE hP hD hS hR [0] rfl rfl (fx_rcr 0 rfl fx_rc0)) (va_recv hE.1 (hR.at hS) (ci := 0) (q0 := 0) rfl rfl)) rfl rfl hl.1 rfl (lv_room (Nat.le_of_ble_eq_true rfl)) dX0_as_19 ⟨Nat.le_refl _, Nat.le_refl _⟩) hP hD hS hA [0] rfl rfl (fun r_19 u H locs hq_19 hP hD hS => ?_)
    replace hP : va_P E.1 clA [(ax 5, .inl (E.2 0, 7, .inl (upd er 1 (er 1 + 1))))] _ := hP
    replace hD : va_D A [(ax 5, .inl (E.2 0, 7, .inl (upd er 1 (er 1 + 1))))] := hD
    replace hq_19 : r_19 = erv 1 := hq_19
    exact hret r_19 ((upd er 1 (er 1 + 1))) (by simp [as_, erI, hq_19, hb_1]) (rfl) hP hD hS (Nat.le_refl _) (Nat.le_refl _) dX0_as_22
abbrev rxX0_figures : Room := { frames := 1, cells := 0, slots := 0, locals := 23 }
set_option maxHeartbeats 400000 in
set_option maxRecDepth 100000 in
theorem xX0_figures (l : Launch) (E : fx_En) (ax : Nat → Nat) (im : Int32) (bn : Int32) (bm : Int32) (fm : Int32) (ff : Int32) (fl : Int32) (er : Nat → Int32) (su : Int32) (ba : Int32) : fx_Mi l yX0_figures cX0_figures 3 .int rxX0_figures E [.ref (ax 19), .int su, .int ba] [(ax 5, .inl (E.2 0, 7, .inl er))] [(ax 19, .inr (0, [.ref (ax 0), .ref (ax 1), .ref (ax 35), .ref (ax 55), .ref (ax 4), .ref (ax 5), .ref (ax 6), .ref (ax 7), .int im, .ref (ax 9), .ref (ax 10), .ref (ax 11), .ref (ax 12), .ref (ax 13), .int bn, .int bm, .int fm, .int ff, .int fl]))] (S := (Nat → Int32)) (fun (u : (Nat → Int32)) => [(ax 5, .inl (E.2 0, 7, .inl u))]) (fun (r : Int32) (u : (Nat → Int32)) => (r, u) = figures_ er su ba) := by
  refine fx_iW rfl rfl ?_
  intro p e s m args below meth c A ls Q X hE hP hD hR hA hl hret
  have hx := X.1
  have hb := X.2.1
  have hS : va_S A s.heap s.heap [] := va_S.rf
  replace hP : va_P E.1 clA [(ax 5, .inl (E.2 0, 7, .inl er))] _ := hP
  replace hD : va_D A [(ax 5, .inl (E.2 0, 7, .inl er))] := hD
  replace hl : lv_has ls 3 [(0, .ref (ax 19)), (1, .int su), (2, .int ba)] := hl
  refine lv_iload_n hx hb dX0_figures_0 rfl (lv_at hl 1 rfl) ?_
  refine lv_if_lt (tgt := 22) hx hb dX0_figures_1 (by decide) (fun c_1 => ?_) (fun c_1 => ?_)
  · -- jump 22
    have d_1 : decide (0 ≤ su) = false := decide_eq_false (Int32.not_le.2 c_1)
    refine lv_aload_n hx hb dX0_figures_22 rfl (lv_at hl 0 rfl) ?_
    refine lv_iconst (v := 1) hx hb dX0_figures_23 rfl ?_
    refine fx_ci (va_runV (As := [.int 1]) (rest := []) X (xX0_finds l E ax im bn bm fm ff fl er 1 (by decide) _) (cwV 1 X.2.2.2.2 (lw_V q303 q305 qs0 q69 q306) rfl rfl rfl ⟨rfl, hdX0_finds⟩ ⟨Nat.le_of_ble_eq_true rfl, Nat.le_of_ble_eq_true rfl⟩) (fx_preV (fx_pre hE hP hD hS hR [0] rfl rfl (fx_rcr 0 rfl fx_rc0)) (va_recv hE.1 (hR.at hS) (ci := 0) (q0 := 0) rfl rfl)) rfl rfl hl.1 rfl (lv_room (Nat.le_of_ble_eq_true rfl)) dX0_figures_24 ⟨Nat.le_refl _, Nat.le_refl _⟩) hP hD hS hA [0] rfl rfl (fun r_24 u H locs hq_24 hP hD hS => ?_)
    replace hP : va_P E.1 clA [(ax 5, .inl (E.2 0, 7, .inl (upd er 1 (er 1 + 1))))] _ := hP
    replace hD : va_D A [(ax 5, .inl (E.2 0, 7, .inl (upd er 1 (er 1 + 1))))] := hD
    replace hq_24 : r_24 = erv 1 := hq_24
    exact hret r_24 ((upd er 1 (er 1 + 1))) (by simp [figures_, erI, hq_24, -decide_eq_true_eq, -decide_eq_false_iff_not, Int32.not_le.2 c_1, d_1]) (rfl) hP hD hS (Nat.le_refl _) (Nat.le_refl _) dX0_figures_27
  · -- fall 4
    have d_1 : decide (0 ≤ su) = true := decide_eq_true (Int32.not_lt.1 c_1)
    refine lv_iload_n hx hb dX0_figures_4 rfl (lv_at hl 2 rfl) ?_
    refine lv_iconst (v := 2) hx hb dX0_figures_5 rfl ?_
    refine lv_bipush (v := 11) hx hb dX0_figures_6 rfl ?_
    refine fx_ci (va_runS (As := [.int ba, .int 2, .int 11]) (rest := []) X (xX0_isIn l E ba 2 11 _) (va_cwS 3 X.2.2.2.2 (lw_S q300 q301 q69 q302) rfl rfl rfl hdX0_isIn ⟨Nat.le_of_ble_eq_true rfl, Nat.le_of_ble_eq_true rfl⟩) (fx_pre hE hP hD hS hR [] rfl rfl fx_rc0) rfl rfl hl.1 rfl (lv_room (Nat.le_of_ble_eq_true rfl)) dX0_figures_8 ⟨Nat.le_refl _, Nat.le_refl _⟩) hP hD hS hA [] rfl rfl (fun r_8 u H locs hq_8 hP hD hS => ?_)
    replace hP : va_P E.1 clA [(ax 5, .inl (E.2 0, 7, .inl er))] _ := hP
    replace hD : va_D A [(ax 5, .inl (E.2 0, 7, .inl er))] := hD
    replace hq_8 : r_8 = fx_b (inB ba 2 11 = true) := hq_8
    rcases fx_bc hq_8 with ⟨hb_8, hr_8⟩ | ⟨hb_8, hr_8⟩
    · -- True
      subst hr_8
      refine lv_if_eq (tgt := 22) hx hb dX0_figures_11 (by decide) (fun c => absurd c (by decide)) (fun _ => ?_)
      refine lv_iload_n hx hb dX0_figures_14 rfl (lv_at hl 1 rfl) ?_
      refine fx_ti (show su = nI (nn su) from (nn_pos (Int32.not_lt.1 c_1)).1) ?_
      refine lv_iload_n hx hb dX0_figures_15 rfl (lv_at hl 2 rfl) ?_
      refine fx_ti (show ba = nI (nn ba) from (inB_nn1 (n := 11) hb_8 (by decide) (by omega)).1) ?_
      have g1 := (inB_nn1 (n := 11) hb_8 (by decide) (by omega)).2
      refine fx_ci (va_runS (As := [.int (nI (nn su)), .int (nI (nn ba))]) (rest := []) X (xX0_figuresOf l E (nn su) (nn ba) ((nn_pos (Int32.not_lt.1 c_1)).2) (inB_lo (a := 2) (n := 11) hb_8 (by omega) (by omega)) (by omega) _) (va_cwS 2 X.2.2.2.2 (lw_S q446 q447 q69 q448) rfl rfl rfl hdX0_figuresOf ⟨Nat.le_of_ble_eq_true rfl, Nat.le_of_ble_eq_true rfl⟩) (fx_pre hE hP hD hS hR [] rfl rfl fx_rc0) rfl rfl hl.1 rfl (lv_room (Nat.le_of_ble_eq_true rfl)) dX0_figures_16 ⟨Nat.le_refl _, Nat.le_refl _⟩) hP hD hS hA [] rfl rfl (fun r_16 u H locs hq_16 hP hD hS => ?_)
      replace hP : va_P E.1 clA [(ax 5, .inl (E.2 0, 7, .inl er))] _ := hP
      replace hD : va_D A [(ax 5, .inl (E.2 0, 7, .inl er))] := hD
      replace hq_16 : r_16 = nI (dg (nn ba) (nn su)) := hq_16
      refine lv_goto (tgt := 27) hx hb dX0_figures_19 (by decide) ?_
      exact hret r_16 (er) (by simp [figures_, erI, hq_16, -decide_eq_true_eq, -decide_eq_false_iff_not, Int32.not_lt.1 c_1, d_1, hb_8]) (rfl) hP hD hS (Nat.le_refl _) (Nat.le_refl _) dX0_figures_27
    · -- False
      subst hr_8
      refine lv_if_eq (tgt := 22) hx hb dX0_figures_11 (by decide) (fun _ => ?_) (fun c => (c (by decide)).elim)
      refine lv_aload_n hx hb dX0_figures_22 rfl (lv_at hl 0 rfl) ?_
      refine lv_iconst (v := 1) hx hb dX0_figures_23 rfl ?_
      refine fx_ci (va_runV (As := [.int 1]) (rest := []) X (xX0_finds l E ax im bn bm fm ff fl er 1 (by decide) _) (cwV 1 X.2.2.2.2 (lw_V q303 q305 qs0 q69 q306) rfl rfl rfl ⟨rfl, hdX0_finds⟩ ⟨Nat.le_of_ble_eq_true rfl, Nat.le_of_ble_eq_true rfl⟩) (fx_preV (fx_pre hE hP hD hS hR [0] rfl rfl (fx_rcr 0 rfl fx_rc0)) (va_recv hE.1 (hR.at hS) (ci := 0) (q0 := 0) rfl rfl)) rfl rfl hl.1 rfl (lv_room (Nat.le_of_ble_eq_true rfl)) dX0_figures_24 ⟨Nat.le_refl _, Nat.le_refl _⟩) hP hD hS hA [0] rfl rfl (fun r_24 u H locs hq_24 hP hD hS => ?_)
      replace hP : va_P E.1 clA [(ax 5, .inl (E.2 0, 7, .inl (upd er 1 (er 1 + 1))))] _ := hP
      replace hD : va_D A [(ax 5, .inl (E.2 0, 7, .inl (upd er 1 (er 1 + 1))))] := hD
      replace hq_24 : r_24 = erv 1 := hq_24
      exact hret r_24 ((upd er 1 (er 1 + 1))) (by simp [figures_, erI, hq_24, -decide_eq_true_eq, -decide_eq_false_iff_not, Int32.not_lt.1 c_1, d_1, hb_8]) (rfl) hP hD hS (Nat.le_refl _) (Nat.le_refl _) dX0_figures_27
abbrev rxX0_asks : Room := { frames := 5, cells := 0, slots := 0, locals := 117 }
set_option maxHeartbeats 400000 in
set_option maxRecDepth 100000 in
theorem xX0_asks (l : Launch) (E : fx_En) (ax : Nat → Nat) (im : Int32) (bn : Int32) (bm : Int32) (fm : Int32) (ff : Int32) (fl : Int32) (tk : Int32) (cs : Int32) (gs : Int32) (zz : Int32) (tp : Int32) (wg : Int32) (er : Nat → Int32) (nmd : Nat → Int32) (pl : Nat → Int32) (sa : Nat → Int32) (tl : Nat → Nat) (tx : Nat → Option Nat) (T : Tx) (PL : va_W) (til : Int32) (su : Int32) (qn : Int32) (hI : Inv sa) (hTL : TLS PL sa tl) (hT : TXs E PL (tx 0) T) (hTo : TOk T) : fx_Mi l yX0_asks cX0_asks 4 .int rxX0_asks E [.ref (ax 19), .int til, .int su, .int qn] [(ax 5, .inl (E.2 0, 7, .inl er)), (ax 1, .inl (E.2 0, 3, .inl nmd)), (ax 0, .inl (E.2 0, 60, .inl pl))] ([(ax 19, .inr (0, [.ref (ax 0), .ref (ax 1), .ref (ax 35), .ref (ax 55), .ref (ax 4), .ref (ax 5), .ref (ax 6), .ref (ax 7), .int im, .ref (ax 9), .ref (ax 10), .ref (ax 11), .ref (ax 12), .ref (ax 13), .int bn, .int bm, .int fm, .int ff, .int fl])), (ax 35, .inr (1, [.ref (ax 20), .ref (ax 21), .ref (ax 22), .int tk, .int cs, .int gs, .int zz, .int tp, .int wg, .ref (ax 29), .ref (ax 30), .ref (ax 31), .ref (ax 32)])), (ax 29, .inl (E.2 3, 4, .inr (.inr (.inr (.inr (fun i_ => some (ax (36 + i_)))))))), (ax 36, .inr (2, [.ref (tl 0)])), (ax 37, .inr (2, [.ref (tl 1)])), (ax 38, .inr (2, [.ref (tl 2)])), (ax 39, .inr (2, [.ref (tl 3)])), (ax 7, .inr (5, [.ref (ax 19)])), (ax 30, .inl (E.2 4, 2, .inr (.inr (.inr (.inr tx)))))] ++ PL) (S := (Nat → Int32) × (Nat → Int32) × (Nat → Int32)) (fun (u : (Nat → Int32) × (Nat → Int32) × (Nat → Int32)) => [(ax 5, .inl (E.2 0, 7, .inl u.1)), (ax 1, .inl (E.2 0, 3, .inl u.2.1)), (ax 0, .inl (E.2 0, 60, .inl u.2.2))]) (fun (r : Int32) (u : (Nat → Int32) × (Nat → Int32) × (Nat → Int32)) => (r, u.1) = asks_ sa er T til su qn) := by
  refine fx_iW rfl rfl ?_
  intro p e s m args below meth c A ls Q X hE hP hD hR hA hl hret
  have hx := X.1
  have hb := X.2.1
  have hS : va_S A s.heap s.heap [] := va_S.rf
  replace hP : va_P E.1 clA [(ax 5, .inl (E.2 0, 7, .inl er)), (ax 1, .inl (E.2 0, 3, .inl nmd)), (ax 0, .inl (E.2 0, 60, .inl pl))] _ := hP
  replace hD : va_D A [(ax 5, .inl (E.2 0, 7, .inl er)), (ax 1, .inl (E.2 0, 3, .inl nmd)), (ax 0, .inl (E.2 0, 60, .inl pl))] := hD
  replace hl : lv_has ls 4 [(0, .ref (ax 19)), (1, .int til), (2, .int su), (3, .int qn)] := hl
  refine lv_iload_n hx hb dX0_asks_0 rfl (lv_at hl 1 rfl) ?_
  refine fx_ci (va_runS (As := [.int til]) (rest := []) X (xX0_isTill l E til _) (va_cwS 1 X.2.2.2.2 (lw_S q336 q337 q69 q338) rfl rfl rfl hdX0_isTill ⟨Nat.le_of_ble_eq_true rfl, Nat.le_of_ble_eq_true rfl⟩) (fx_pre hE hP hD hS hR [] rfl rfl fx_rc0) rfl rfl hl.1 rfl (lv_room (Nat.le_of_ble_eq_true rfl)) dX0_asks_1 ⟨Nat.le_refl _, Nat.le_refl _⟩) hP hD hS hA [] rfl rfl (fun r_1 u H locs hq_1 hP hD hS => ?_)
  replace hP : va_P E.1 clA [(ax 5, .inl (E.2 0, 7, .inl er)), (ax 1, .inl (E.2 0, 3, .inl nmd)), (ax 0, .inl (E.2 0, 60, .inl pl))] _ := hP
  replace hD : va_D A [(ax 5, .inl (E.2 0, 7, .inl er)), (ax 1, .inl (E.2 0, 3, .inl nmd)), (ax 0, .inl (E.2 0, 60, .inl pl))] := hD
  replace hq_1 : r_1 = fx_b (inB til 0 3 = true) := hq_1
  rcases fx_bc hq_1 with ⟨hb_1, hr_1⟩ | ⟨hb_1, hr_1⟩
  · -- True
    subst hr_1
    refine lv_if_eq (tgt := 37) hx hb dX0_asks_4 (by decide) (fun c => absurd c (by decide)) (fun _ => ?_)
    refine lv_iload_n hx hb dX0_asks_7 rfl (lv_at hl 2 rfl) ?_
    refine lv_iconst (v := 0) hx hb dX0_asks_8 rfl ?_
    refine lv_ldc (v := 299970) hx hb X.2.2.2.1 (X.2.2.2.2 _ q453) dX0_asks_9 ?_
    refine fx_ci (va_runS (As := [.int su, .int 0, .int 299970]) (rest := []) X (xX0_isIn l E su 0 299970 _) (va_cwS 3 X.2.2.2.2 (lw_S q300 q301 q69 q302) rfl rfl rfl hdX0_isIn ⟨Nat.le_of_ble_eq_true rfl, Nat.le_of_ble_eq_true rfl⟩) (fx_pre hE hP hD hS hR [] rfl rfl fx_rc0) rfl rfl hl.1 rfl (lv_room (Nat.le_of_ble_eq_true rfl)) dX0_asks_11 ⟨Nat.le_refl _, Nat.le_refl _⟩) hP hD hS hA [] rfl rfl (fun r_11 u H locs hq_11 hP hD hS => ?_)
    replace hP : va_P E.1 clA [(ax 5, .inl (E.2 0, 7, .inl er)), (ax 1, .inl (E.2 0, 3, .inl nmd)), (ax 0, .inl (E.2 0, 60, .inl pl))] _ := hP
    replace hD : va_D A [(ax 5, .inl (E.2 0, 7, .inl er)), (ax 1, .inl (E.2 0, 3, .inl nmd)), (ax 0, .inl (E.2 0, 60, .inl pl))] := hD
    replace hq_11 : r_11 = fx_b (inB su 0 299970 = true) := hq_11
    rcases fx_bc hq_11 with ⟨hb_11, hr_11⟩ | ⟨hb_11, hr_11⟩
    · -- True
      subst hr_11
      refine lv_if_eq (tgt := 37) hx hb dX0_asks_14 (by decide) (fun c => absurd c (by decide)) (fun _ => ?_)
      refine lv_iload_n hx hb dX0_asks_17 rfl (lv_at hl 3 rfl) ?_
      refine lv_iconst (v := 0) hx hb dX0_asks_18 rfl ?_
      refine lv_bipush (v := 30) hx hb dX0_asks_19 rfl ?_
      refine fx_ci (va_runS (As := [.int qn, .int 0, .int 30]) (rest := []) X (xX0_isIn l E qn 0 30 _) (va_cwS 3 X.2.2.2.2 (lw_S q300 q301 q69 q302) rfl rfl rfl hdX0_isIn ⟨Nat.le_of_ble_eq_true rfl, Nat.le_of_ble_eq_true rfl⟩) (fx_pre hE hP hD hS hR [] rfl rfl fx_rc0) rfl rfl hl.1 rfl (lv_room (Nat.le_of_ble_eq_true rfl)) dX0_asks_21 ⟨Nat.le_refl _, Nat.le_refl _⟩) hP hD hS hA [] rfl rfl (fun r_21 u H locs hq_21 hP hD hS => ?_)
      replace hP : va_P E.1 clA [(ax 5, .inl (E.2 0, 7, .inl er)), (ax 1, .inl (E.2 0, 3, .inl nmd)), (ax 0, .inl (E.2 0, 60, .inl pl))] _ := hP
      replace hD : va_D A [(ax 5, .inl (E.2 0, 7, .inl er)), (ax 1, .inl (E.2 0, 3, .inl nmd)), (ax 0, .inl (E.2 0, 60, .inl pl))] := hD
      replace hq_21 : r_21 = fx_b (inB qn 0 30 = true) := hq_21
      rcases fx_bc hq_21 with ⟨hb_21, hr_21⟩ | ⟨hb_21, hr_21⟩
      · -- True
        subst hr_21
        refine lv_if_eq (tgt := 37) hx hb dX0_asks_24 (by decide) (fun c => absurd c (by decide)) (fun _ => ?_)
        refine lv_aload_n hx hb dX0_asks_27 rfl (lv_at hl 0 rfl) ?_
        refine lv_iload_n hx hb dX0_asks_28 rfl (lv_at hl 1 rfl) ?_
        refine fx_ti (show til = nI (nn til) from (inB_nn (n := 3) hb_1 (by omega)).1) ?_
        have g1 := (inB_nn (n := 3) hb_1 (by omega)).2
        refine lv_iload_n hx hb dX0_asks_29 rfl (lv_at hl 2 rfl) ?_
        refine fx_ti (show su = nI (nn su) from (inB_nn (n := 299970) hb_11 (by omega)).1) ?_
        have g2 := (inB_nn (n := 299970) hb_11 (by omega)).2
        refine lv_iload_n hx hb dX0_asks_30 rfl (lv_at hl 3 rfl) ?_
        refine fx_ti (show qn = nI (nn qn) from (inB_nn (n := 30) hb_21 (by omega)).1) ?_
        have g3 := (inB_nn (n := 30) hb_21 (by omega)).2
        refine fx_ci (va_runV (As := [.int (nI (nn til)), .int (nI (nn su)), .int (nI (nn qn))]) (rest := []) X (xX0_asked l E ax im bn bm fm ff fl tk cs gs zz tp wg nmd pl sa tl tx T PL (nn til) (nn su) (nn qn) (by omega) (by first | assumption | omega) (by first | assumption | omega) (by first | assumption | omega) (by first | assumption | omega) (by omega) (by omega) _) (cwV 3 X.2.2.2.2 (lw_V q454 q456 qs3 q69 q457) rfl rfl rfl ⟨rfl, hdX0_asked⟩ ⟨Nat.le_of_ble_eq_true rfl, Nat.le_of_ble_eq_true rfl⟩) (fx_preV (fx_pre hE hP hD hS hR [1, 2] rfl rfl (fx_rcr 0 rfl (fx_rcr 1 rfl (fx_rcr 2 rfl (fx_rcr 3 rfl (fx_rcr 4 rfl (fx_rcr 5 rfl (fx_rcr 6 rfl (fx_rcr 7 rfl (fx_rcr 8 rfl (fx_rct (fun q hq => List.mem_append_right _ hq)))))))))))) (va_recv hE.1 (hR.at hS) (ci := 0) (q0 := 0) rfl rfl)) rfl rfl hl.1 rfl (lv_room (Nat.le_of_ble_eq_true rfl)) dX0_asks_31 ⟨Nat.le_refl _, Nat.le_refl _⟩) hP hD hS hA [1, 2] rfl rfl (fun r_31 u H locs hq_31 hP hD hS => ?_)
        obtain ⟨nm2_31, pl2_31⟩ := u
        replace hP : va_P E.1 clA [(ax 5, .inl (E.2 0, 7, .inl er)), (ax 1, .inl (E.2 0, 3, .inl nm2_31)), (ax 0, .inl (E.2 0, 60, .inl pl2_31))] _ := hP
        replace hD : va_D A [(ax 5, .inl (E.2 0, 7, .inl er)), (ax 1, .inl (E.2 0, 3, .inl nm2_31)), (ax 0, .inl (E.2 0, 60, .inl pl2_31))] := hD
        replace hq_31 : r_31 = askT sa T (nn til) (nn su) (nn qn) := hq_31
        refine lv_goto (tgt := 42) hx hb dX0_asks_34 (by decide) ?_
        exact hret r_31 (er, nm2_31, pl2_31) (by simp [asks_, erI, hq_31, hb_1, hb_11, hb_21]) (rfl) hP hD hS (Nat.le_refl _) (Nat.le_refl _) dX0_asks_42
      · -- False
        subst hr_21
        refine lv_if_eq (tgt := 37) hx hb dX0_asks_24 (by decide) (fun _ => ?_) (fun c => (c (by decide)).elim)
        refine lv_aload_n hx hb dX0_asks_37 rfl (lv_at hl 0 rfl) ?_
        refine lv_iconst (v := 1) hx hb dX0_asks_38 rfl ?_
        refine fx_ci (va_runV (As := [.int 1]) (rest := []) X (xX0_finds l E ax im bn bm fm ff fl er 1 (by decide) _) (cwV 1 X.2.2.2.2 (lw_V q303 q305 qs0 q69 q306) rfl rfl rfl ⟨rfl, hdX0_finds⟩ ⟨Nat.le_of_ble_eq_true rfl, Nat.le_of_ble_eq_true rfl⟩) (fx_preV (fx_pre hE hP hD hS hR [0] rfl rfl (fx_rcr 0 rfl fx_rc0)) (va_recv hE.1 (hR.at hS) (ci := 0) (q0 := 0) rfl rfl)) rfl rfl hl.1 rfl (lv_room (Nat.le_of_ble_eq_true rfl)) dX0_asks_39 ⟨Nat.le_refl _, Nat.le_refl _⟩) hP hD hS hA [0] rfl rfl (fun r_39 u H locs hq_39 hP hD hS => ?_)
        replace hP : va_P E.1 clA [(ax 5, .inl (E.2 0, 7, .inl (upd er 1 (er 1 + 1)))), (ax 1, .inl (E.2 0, 3, .inl nmd)), (ax 0, .inl (E.2 0, 60, .inl pl))] _ := hP
        replace hD : va_D A [(ax 5, .inl (E.2 0, 7, .inl (upd er 1 (er 1 + 1)))), (ax 1, .inl (E.2 0, 3, .inl nmd)), (ax 0, .inl (E.2 0, 60, .inl pl))] := hD
        replace hq_39 : r_39 = erv 1 := hq_39
        exact hret r_39 ((upd er 1 (er 1 + 1)), nmd, pl) (by simp [asks_, erI, hq_39, hb_1, hb_11, hb_21]) (rfl) hP hD hS (Nat.le_refl _) (Nat.le_refl _) dX0_asks_42
    · -- False
      subst hr_11
      refine lv_if_eq (tgt := 37) hx hb dX0_asks_14 (by decide) (fun _ => ?_) (fun c => (c (by decide)).elim)
      refine lv_aload_n hx hb dX0_asks_37 rfl (lv_at hl 0 rfl) ?_
      refine lv_iconst (v := 1) hx hb dX0_asks_38 rfl ?_
      refine fx_ci (va_runV (As := [.int 1]) (rest := []) X (xX0_finds l E ax im bn bm fm ff fl er 1 (by decide) _) (cwV 1 X.2.2.2.2 (lw_V q303 q305 qs0 q69 q306) rfl rfl rfl ⟨rfl, hdX0_finds⟩ ⟨Nat.le_of_ble_eq_true rfl, Nat.le_of_ble_eq_true rfl⟩) (fx_preV (fx_pre hE hP hD hS hR [0] rfl rfl (fx_rcr 0 rfl fx_rc0)) (va_recv hE.1 (hR.at hS) (ci := 0) (q0 := 0) rfl rfl)) rfl rfl hl.1 rfl (lv_room (Nat.le_of_ble_eq_true rfl)) dX0_asks_39 ⟨Nat.le_refl _, Nat.le_refl _⟩) hP hD hS hA [0] rfl rfl (fun r_39 u H locs hq_39 hP hD hS => ?_)
      replace hP : va_P E.1 clA [(ax 5, .inl (E.2 0, 7, .inl (upd er 1 (er 1 + 1)))), (ax 1, .inl (E.2 0, 3, .inl nmd)), (ax 0, .inl (E.2 0, 60, .inl pl))] _ := hP
      replace hD : va_D A [(ax 5, .inl (E.2 0, 7, .inl (upd er 1 (er 1 + 1)))), (ax 1, .inl (E.2 0, 3, .inl nmd)), (ax 0, .inl (E.2 0, 60, .inl pl))] := hD
      replace hq_39 : r_39 = erv 1 := hq_39
      exact hret r_39 ((upd er 1 (er 1 + 1)), nmd, pl) (by simp [asks_, erI, hq_39, hb_1, hb_11]) (rfl) hP hD hS (Nat.le_refl _) (Nat.le_refl _) dX0_asks_42
  · -- False
    subst hr_1
    refine lv_if_eq (tgt := 37) hx hb dX0_asks_4 (by decide) (fun _ => ?_) (fun c => (c (by decide)).elim)
    refine lv_aload_n hx hb dX0_asks_37 rfl (lv_at hl 0 rfl) ?_
    refine lv_iconst (v := 1) hx hb dX0_asks_38 rfl ?_
    refine fx_ci (va_runV (As := [.int 1]) (rest := []) X (xX0_finds l E ax im bn bm fm ff fl er 1 (by decide) _) (cwV 1 X.2.2.2.2 (lw_V q303 q305 qs0 q69 q306) rfl rfl rfl ⟨rfl, hdX0_finds⟩ ⟨Nat.le_of_ble_eq_true rfl, Nat.le_of_ble_eq_true rfl⟩) (fx_preV (fx_pre hE hP hD hS hR [0] rfl rfl (fx_rcr 0 rfl fx_rc0)) (va_recv hE.1 (hR.at hS) (ci := 0) (q0 := 0) rfl rfl)) rfl rfl hl.1 rfl (lv_room (Nat.le_of_ble_eq_true rfl)) dX0_asks_39 ⟨Nat.le_refl _, Nat.le_refl _⟩) hP hD hS hA [0] rfl rfl (fun r_39 u H locs hq_39 hP hD hS => ?_)
    replace hP : va_P E.1 clA [(ax 5, .inl (E.2 0, 7, .inl (upd er 1 (er 1 + 1)))), (ax 1, .inl (E.2 0, 3, .inl nmd)), (ax 0, .inl (E.2 0, 60, .inl pl))] _ := hP
    replace hD : va_D A [(ax 5, .inl (E.2 0, 7, .inl (upd er 1 (er 1 + 1)))), (ax 1, .inl (E.2 0, 3, .inl nmd)), (ax 0, .inl (E.2 0, 60, .inl pl))] := hD
    replace hq_39 : r_39 = erv 1 := hq_39
    exact hret r_39 ((upd er 1 (er 1 + 1)), nmd, pl) (by simp [asks_, erI, hq_39, hb_1]) (rfl) hP hD hS (Nat.le_refl _) (Nat.le_refl _) dX0_asks_42
abbrev rxX0_seed : Room := { frames := 0, cells := 0, slots := 0, locals := 0 }
set_option maxHeartbeats 400000 in
set_option maxRecDepth 100000 in
theorem xX0_seed (l : Launch) (E : fx_En) (ax : Nat → Nat) (im : Int32) (bn : Int32) (bm : Int32) (fm : Int32) (ff : Int32) (fl : Int32) (tk : Int32) (cs : Int32) (gs : Int32) (zz : Int32) (tp : Int32) (wg : Int32) (v : Int32) : fx_Mi l yX0_seed cX0_seed 3 .int rxX0_seed E [.ref (ax 19), .int v] [(ax 35, .inr (1, [.ref (ax 20), .ref (ax 21), .ref (ax 22), .int tk, .int cs, .int gs, .int zz, .int tp, .int wg, .ref (ax 29), .ref (ax 30), .ref (ax 31), .ref (ax 32)]))] [(ax 19, .inr (0, [.ref (ax 0), .ref (ax 1), .ref (ax 35), .ref (ax 55), .ref (ax 4), .ref (ax 5), .ref (ax 6), .ref (ax 7), .int im, .ref (ax 9), .ref (ax 10), .ref (ax 11), .ref (ax 12), .ref (ax 13), .int bn, .int bm, .int fm, .int ff, .int fl]))] (S := Unit) (fun (u : Unit) => [(ax 35, .inr (1, [.ref (ax 20), .ref (ax 21), .ref (ax 22), .int tk, .int cs, .int gs, .int v, .int tp, .int wg, .ref (ax 29), .ref (ax 30), .ref (ax 31), .ref (ax 32)]))]) (fun (r : Int32) (u : Unit) => r = zz) := by
  refine fx_iW rfl rfl ?_
  intro p e s m args below meth c A ls Q X hE hP hD hR hA hl hret
  have hx := X.1
  have hb := X.2.1
  have hS : va_S A s.heap s.heap [] := va_S.rf
  replace hP : va_P E.1 clA [(ax 35, .inr (1, [.ref (ax 20), .ref (ax 21), .ref (ax 22), .int tk, .int cs, .int gs, .int zz, .int tp, .int wg, .ref (ax 29), .ref (ax 30), .ref (ax 31), .ref (ax 32)]))] _ := hP
  replace hD : va_D A [(ax 35, .inr (1, [.ref (ax 20), .ref (ax 21), .ref (ax 22), .int tk, .int cs, .int gs, .int zz, .int tp, .int wg, .ref (ax 29), .ref (ax 30), .ref (ax 31), .ref (ax 32)]))] := hD
  replace hl : lv_has ls 3 [(0, .ref (ax 19)), (1, .int v)] := hl
  refine lv_aload_n hx hb dX0_seed_0 rfl (lv_at hl 0 rfl) ?_
  refine fx_get X hE (hR.at hS) 0 rfl rfl 2 rfl q237 rfl rfl dX0_seed_1 ?_
  refine fx_getN X hE hP 0 rfl rfl 6 rfl 9 rfl rfl rfl dX0_seed_4 ?_
  refine lv_istore_n (lv' := [(2, .int zz), (0, .ref (ax 19)), (1, .int v)]) hx hb dX0_seed_7 rfl hl (by decide) rfl (fun ls hl => ?_)
  refine lv_aload_n hx hb dX0_seed_8 rfl (lv_at hl 1 rfl) ?_
  refine fx_get X hE (hR.at hS) 0 rfl rfl 2 rfl q237 rfl rfl dX0_seed_9 ?_
  refine lv_iload_n hx hb dX0_seed_12 rfl (lv_at hl 2 rfl) ?_
  refine fx_putN (ws' := [(ax 35, .inr (1, [.ref (ax 20), .ref (ax 21), .ref (ax 22), .int tk, .int cs, .int gs, .int v, .int tp, .int wg, .ref (ax 29), .ref (ax 30), .ref (ax 31), .ref (ax 32)]))]) X hE hP hD hS 0 rfl rfl tyX1_ok nmX1 6 rfl 9 rfl rfl rfl rfl rfl rfl rfl dX0_seed_13 (fun H locs hP hD hS => ?_)
  refine lv_iload_n hx hb dX0_seed_16 rfl (lv_at hl 0 rfl) ?_
  exact hret zz () (rfl) (rfl) hP hD hS (Nat.le_refl _) (Nat.le_refl _) dX0_seed_17
