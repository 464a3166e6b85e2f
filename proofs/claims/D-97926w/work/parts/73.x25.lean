set_option maxRecDepth 100000
theorem hdX3_parts : yX3_parts.cls ≠ "java/lang/invoke/MethodHandle" ∧ yX3_parts.cls ≠ "java/lang/invoke/VarHandle" ∧ (parseMethodDescriptor yX3_parts.desc).map (fun d => d.parameters.length) = some 2 := by decide +kernel
theorem hdX7_parts : yX7_parts.cls ≠ "java/lang/invoke/MethodHandle" ∧ yX7_parts.cls ≠ "java/lang/invoke/VarHandle" ∧ (parseMethodDescriptor yX7_parts.desc).map (fun d => d.parameters.length) = some 2 := by decide +kernel
theorem hdX0_voice : yX0_voice.cls ≠ "java/lang/invoke/MethodHandle" ∧ yX0_voice.cls ≠ "java/lang/invoke/VarHandle" ∧ (parseMethodDescriptor yX0_voice.desc).map (fun d => d.parameters.length) = some 3 := by decide +kernel
abbrev rxX3_parts_3 : Room := { frames := 8, cells := 3, slots := 19, locals := 10300 }
set_option maxHeartbeats 400000 in
set_option maxRecDepth 100000 in
theorem xX3_parts_3 (l : Launch) (E : fx_En) (ks : fz_Ks) (ax : Nat → Nat) (th : Nat) (nb : Int32) (mm : Int32) (tr : Nat → Int32) (tn : Nat) (xv : Int32) (hst : l.stackTraces = false) (htn : tn ≤ 30) : fz_Mi l yX3_parts cX3_parts 3 .int rxX3_parts_3 0 0 E ks [.ref th, .int xv, .ref (ax 4)] [(ax 4, .inr (4, [.ref (ax 60), .int (nI tn)])), (ax 60, .inl (E.2 1, 30, .inl tr))] [(th, .inr (3, [.int nb, .int mm]))] (S := (Nat → Int32) × Nat) (fun (u : (Nat → Int32) × Nat) => [(ax 4, .inr (4, [.ref (ax 60), .int (nI u.2)])), (ax 60, .inl (E.2 1, 30, .inl u.1))]) (fun (r : Int32) (u : (Nat → Int32) × Nat) => ¬ mm - nb = 0 ∧ r = xv / (mm - nb) ∧ (u.1, u.2) = bgL (tr, tn) [13]) "java/lang/ArithmeticException" (SX := (Nat → Int32) × Nat) (fun (u : (Nat → Int32) × Nat) => [(ax 4, .inr (4, [.ref (ax 60), .int (nI u.2)])), (ax 60, .inl (E.2 1, 30, .inl u.1))]) (fun (q : Nat) (u : (Nat → Int32) × Nat) => mm - nb = 0 ∧ (u.1, u.2) = bgL (tr, tn) [13]) := by
  refine fe_iW rfl rfl ?_
  intro p e s m args below meth c A ls Q X hlocks hE hP hD hR hZ hA hl hret hthrow
  have hx := X.1
  have hb := X.2.1
  have hS : va_S A s.heap s.heap [] := va_S.rf
  replace hP : va_P E.1 clA [(ax 4, .inr (4, [.ref (ax 60), .int (nI tn)])), (ax 60, .inl (E.2 1, 30, .inl tr))] _ := hP
  replace hD : va_D A [(ax 4, .inr (4, [.ref (ax 60), .int (nI tn)])), (ax 60, .inl (E.2 1, 30, .inl tr))] := hD
  replace hl : lv_has ls 3 [(0, .ref th), (1, .int xv), (2, .ref (ax 4))] := hl
  refine lv_aload_n hx hb dX3_parts_0 rfl (lv_at hl 2 rfl) ?_
  refine lv_bipush (v := 13) hx hb dX3_parts_1 rfl ?_
  refine fx_cv (va_runV (As := [.int 13]) (rest := []) X (xX4_ran l E ax tr tn 13 (by first | assumption | omega) (by decide) _) (cwV 1 X.2.2.2.2 (lw_V q989 q980 q981 q73 q982) rfl rfl rfl ⟨rfl, hdX4_ran⟩ ⟨Nat.le_of_ble_eq_true rfl, Nat.le_of_ble_eq_true rfl⟩) (fx_preV (fx_pre hE hP hD hS hR [0, 1] rfl rfl fx_rc0) (va_recv hE.1 hP (ci := 4) (q0 := 0) rfl rfl)) rfl rfl hl.1 rfl (lv_room (Nat.le_of_ble_eq_true rfl)) dX3_parts_3 ⟨Nat.le_of_ble_eq_true rfl, Nat.le_of_ble_eq_true rfl⟩) hP hD hS hA [0, 1] rfl rfl (fun u H locs hq_3 hP hD hS => ?_)
  obtain ⟨tr2_3, tn2_3⟩ := u
  replace hP : va_P E.1 clA [(ax 4, .inr (4, [.ref (ax 60), .int (nI tn2_3)])), (ax 60, .inl (E.2 1, 30, .inl tr2_3))] _ := hP
  replace hD : va_D A [(ax 4, .inr (4, [.ref (ax 60), .int (nI tn2_3)])), (ax 60, .inl (E.2 1, 30, .inl tr2_3))] := hD
  replace hq_3 : (tr2_3, tn2_3) = bg (tr, tn) 13 := hq_3
  have ht_3 : tn2_3 ≤ 30 := trc_le hq_3 (bg_le htn)
  refine lv_iload_n hx hb dX3_parts_6 rfl (lv_at hl 1 rfl) ?_
  refine lv_aload_n hx hb dX3_parts_7 rfl (lv_at hl 0 rfl) ?_
  refine fx_get X hE (hR.at hS) 0 rfl rfl 1 rfl q137 rfl rfl dX3_parts_8 ?_
  refine lv_aload_n hx hb dX3_parts_11 rfl (lv_at hl 0 rfl) ?_
  refine fx_get X hE (hR.at hS) 0 rfl rfl 0 rfl q134 rfl rfl dX3_parts_12 ?_
  refine lv_isub hx hb dX3_parts_15 ?_
  by_cases hz : mm - nb = 0
  ·
    exact vx_idivZ X.1 X.2.1 hz dX3_parts_16 (fe_vm X hst hlocks hZ hP hS hl.1 (feA_w X hE) feA_g ⟨by decide +kernel, rfl, rfl⟩ (nb := 9) (by decide +kernel) (by decide +kernel) (by decide) (Nat.le_of_ble_eq_true rfl) (Nat.le_of_ble_eq_true rfl) (Nat.le_of_ble_eq_true rfl) (Nat.le_of_ble_eq_true rfl) (fun H1 q9 ce hP hS hce hcv hcl => hthrow q9 (tr2_3, tn2_3) ⟨hz, hq_3⟩ hP hD hS (Nat.le_of_ble_eq_true rfl) (Nat.le_of_ble_eq_true rfl) hce hcv hcl))
  ·
    refine lv_idiv hx hb dX3_parts_16 (by assumption) ?_
    exact hret (xv / (mm - nb)) (tr2_3, tn2_3) (⟨hz, rfl, hq_3⟩) (rfl) hP hD hS (Nat.le_refl _) (Nat.le_refl _) dX3_parts_17
abbrev rxX3_parts_7 : Room := { frames := 8, cells := 3, slots := 19, locals := 10300 }
set_option maxHeartbeats 400000 in
set_option maxRecDepth 100000 in
theorem xX3_parts_7 (l : Launch) (E : fx_En) (ks : fz_Ks) (ax : Nat → Nat) (th : Nat) (nb : Int32) (mm : Int32) (tr : Nat → Int32) (tn : Nat) (xv : Int32) (hst : l.stackTraces = false) (htn : tn ≤ 30) : fz_Mi l yX3_parts cX3_parts 3 .int rxX3_parts_7 0 0 E ks [.ref th, .int xv, .ref (ax 4)] [(ax 4, .inr (4, [.ref (ax 60), .int (nI tn)])), (ax 60, .inl (E.2 1, 30, .inl tr))] [(th, .inr (7, [.int nb, .int mm]))] (S := (Nat → Int32) × Nat) (fun (u : (Nat → Int32) × Nat) => [(ax 4, .inr (4, [.ref (ax 60), .int (nI u.2)])), (ax 60, .inl (E.2 1, 30, .inl u.1))]) (fun (r : Int32) (u : (Nat → Int32) × Nat) => ¬ mm - nb = 0 ∧ r = xv / (mm - nb) ∧ (u.1, u.2) = bgL (tr, tn) [13]) "java/lang/ArithmeticException" (SX := (Nat → Int32) × Nat) (fun (u : (Nat → Int32) × Nat) => [(ax 4, .inr (4, [.ref (ax 60), .int (nI u.2)])), (ax 60, .inl (E.2 1, 30, .inl u.1))]) (fun (q : Nat) (u : (Nat → Int32) × Nat) => mm - nb = 0 ∧ (u.1, u.2) = bgL (tr, tn) [13]) := by
  refine fe_iW rfl rfl ?_
  intro p e s m args below meth c A ls Q X hlocks hE hP hD hR hZ hA hl hret hthrow
  have hx := X.1
  have hb := X.2.1
  have hS : va_S A s.heap s.heap [] := va_S.rf
  replace hP : va_P E.1 clA [(ax 4, .inr (4, [.ref (ax 60), .int (nI tn)])), (ax 60, .inl (E.2 1, 30, .inl tr))] _ := hP
  replace hD : va_D A [(ax 4, .inr (4, [.ref (ax 60), .int (nI tn)])), (ax 60, .inl (E.2 1, 30, .inl tr))] := hD
  replace hl : lv_has ls 3 [(0, .ref th), (1, .int xv), (2, .ref (ax 4))] := hl
  refine lv_aload_n hx hb dX3_parts_0 rfl (lv_at hl 2 rfl) ?_
  refine lv_bipush (v := 13) hx hb dX3_parts_1 rfl ?_
  refine fx_cv (va_runV (As := [.int 13]) (rest := []) X (xX4_ran l E ax tr tn 13 (by first | assumption | omega) (by decide) _) (cwV 1 X.2.2.2.2 (lw_V q989 q980 q981 q73 q982) rfl rfl rfl ⟨rfl, hdX4_ran⟩ ⟨Nat.le_of_ble_eq_true rfl, Nat.le_of_ble_eq_true rfl⟩) (fx_preV (fx_pre hE hP hD hS hR [0, 1] rfl rfl fx_rc0) (va_recv hE.1 hP (ci := 4) (q0 := 0) rfl rfl)) rfl rfl hl.1 rfl (lv_room (Nat.le_of_ble_eq_true rfl)) dX3_parts_3 ⟨Nat.le_of_ble_eq_true rfl, Nat.le_of_ble_eq_true rfl⟩) hP hD hS hA [0, 1] rfl rfl (fun u H locs hq_3 hP hD hS => ?_)
  obtain ⟨tr2_3, tn2_3⟩ := u
  replace hP : va_P E.1 clA [(ax 4, .inr (4, [.ref (ax 60), .int (nI tn2_3)])), (ax 60, .inl (E.2 1, 30, .inl tr2_3))] _ := hP
  replace hD : va_D A [(ax 4, .inr (4, [.ref (ax 60), .int (nI tn2_3)])), (ax 60, .inl (E.2 1, 30, .inl tr2_3))] := hD
  replace hq_3 : (tr2_3, tn2_3) = bg (tr, tn) 13 := hq_3
  have ht_3 : tn2_3 ≤ 30 := trc_le hq_3 (bg_le htn)
  refine lv_iload_n hx hb dX3_parts_6 rfl (lv_at hl 1 rfl) ?_
  refine lv_aload_n hx hb dX3_parts_7 rfl (lv_at hl 0 rfl) ?_
  refine fx_get X hE (hR.at hS) 0 rfl rfl 1 rfl q137 rfl rfl dX3_parts_8 ?_
  refine lv_aload_n hx hb dX3_parts_11 rfl (lv_at hl 0 rfl) ?_
  refine fx_get X hE (hR.at hS) 0 rfl rfl 0 rfl q134 rfl rfl dX3_parts_12 ?_
  refine lv_isub hx hb dX3_parts_15 ?_
  by_cases hz : mm - nb = 0
  ·
    exact vx_idivZ X.1 X.2.1 hz dX3_parts_16 (fe_vm X hst hlocks hZ hP hS hl.1 (feA_w X hE) feA_g ⟨by decide +kernel, rfl, rfl⟩ (nb := 9) (by decide +kernel) (by decide +kernel) (by decide) (Nat.le_of_ble_eq_true rfl) (Nat.le_of_ble_eq_true rfl) (Nat.le_of_ble_eq_true rfl) (Nat.le_of_ble_eq_true rfl) (fun H1 q9 ce hP hS hce hcv hcl => hthrow q9 (tr2_3, tn2_3) ⟨hz, hq_3⟩ hP hD hS (Nat.le_of_ble_eq_true rfl) (Nat.le_of_ble_eq_true rfl) hce hcv hcl))
  ·
    refine lv_idiv hx hb dX3_parts_16 (by assumption) ?_
    exact hret (xv / (mm - nb)) (tr2_3, tn2_3) (⟨hz, rfl, hq_3⟩) (rfl) hP hD hS (Nat.le_refl _) (Nat.le_refl _) dX3_parts_17
abbrev rxX3_parts_8 : Room := { frames := 8, cells := 3, slots := 19, locals := 10300 }
set_option maxHeartbeats 400000 in
set_option maxRecDepth 100000 in
theorem xX3_parts_8 (l : Launch) (E : fx_En) (ks : fz_Ks) (ax : Nat → Nat) (th : Nat) (nb : Int32) (mm : Int32) (tr : Nat → Int32) (tn : Nat) (xv : Int32) (hst : l.stackTraces = false) (htn : tn ≤ 30) : fz_Mi l yX3_parts cX3_parts 3 .int rxX3_parts_8 0 0 E ks [.ref th, .int xv, .ref (ax 4)] [(ax 4, .inr (4, [.ref (ax 60), .int (nI tn)])), (ax 60, .inl (E.2 1, 30, .inl tr))] [(th, .inr (8, [.int nb, .int mm]))] (S := (Nat → Int32) × Nat) (fun (u : (Nat → Int32) × Nat) => [(ax 4, .inr (4, [.ref (ax 60), .int (nI u.2)])), (ax 60, .inl (E.2 1, 30, .inl u.1))]) (fun (r : Int32) (u : (Nat → Int32) × Nat) => ¬ mm - nb = 0 ∧ r = xv / (mm - nb) ∧ (u.1, u.2) = bgL (tr, tn) [13]) "java/lang/ArithmeticException" (SX := (Nat → Int32) × Nat) (fun (u : (Nat → Int32) × Nat) => [(ax 4, .inr (4, [.ref (ax 60), .int (nI u.2)])), (ax 60, .inl (E.2 1, 30, .inl u.1))]) (fun (q : Nat) (u : (Nat → Int32) × Nat) => mm - nb = 0 ∧ (u.1, u.2) = bgL (tr, tn) [13]) := by
  refine fe_iW rfl rfl ?_
  intro p e s m args below meth c A ls Q X hlocks hE hP hD hR hZ hA hl hret hthrow
  have hx := X.1
  have hb := X.2.1
  have hS : va_S A s.heap s.heap [] := va_S.rf
  replace hP : va_P E.1 clA [(ax 4, .inr (4, [.ref (ax 60), .int (nI tn)])), (ax 60, .inl (E.2 1, 30, .inl tr))] _ := hP
  replace hD : va_D A [(ax 4, .inr (4, [.ref (ax 60), .int (nI tn)])), (ax 60, .inl (E.2 1, 30, .inl tr))] := hD
  replace hl : lv_has ls 3 [(0, .ref th), (1, .int xv), (2, .ref (ax 4))] := hl
  refine lv_aload_n hx hb dX3_parts_0 rfl (lv_at hl 2 rfl) ?_
  refine lv_bipush (v := 13) hx hb dX3_parts_1 rfl ?_
  refine fx_cv (va_runV (As := [.int 13]) (rest := []) X (xX4_ran l E ax tr tn 13 (by first | assumption | omega) (by decide) _) (cwV 1 X.2.2.2.2 (lw_V q989 q980 q981 q73 q982) rfl rfl rfl ⟨rfl, hdX4_ran⟩ ⟨Nat.le_of_ble_eq_true rfl, Nat.le_of_ble_eq_true rfl⟩) (fx_preV (fx_pre hE hP hD hS hR [0, 1] rfl rfl fx_rc0) (va_recv hE.1 hP (ci := 4) (q0 := 0) rfl rfl)) rfl rfl hl.1 rfl (lv_room (Nat.le_of_ble_eq_true rfl)) dX3_parts_3 ⟨Nat.le_of_ble_eq_true rfl, Nat.le_of_ble_eq_true rfl⟩) hP hD hS hA [0, 1] rfl rfl (fun u H locs hq_3 hP hD hS => ?_)
  obtain ⟨tr2_3, tn2_3⟩ := u
  replace hP : va_P E.1 clA [(ax 4, .inr (4, [.ref (ax 60), .int (nI tn2_3)])), (ax 60, .inl (E.2 1, 30, .inl tr2_3))] _ := hP
  replace hD : va_D A [(ax 4, .inr (4, [.ref (ax 60), .int (nI tn2_3)])), (ax 60, .inl (E.2 1, 30, .inl tr2_3))] := hD
  replace hq_3 : (tr2_3, tn2_3) = bg (tr, tn) 13 := hq_3
  have ht_3 : tn2_3 ≤ 30 := trc_le hq_3 (bg_le htn)
  refine lv_iload_n hx hb dX3_parts_6 rfl (lv_at hl 1 rfl) ?_
  refine lv_aload_n hx hb dX3_parts_7 rfl (lv_at hl 0 rfl) ?_
  refine fx_get X hE (hR.at hS) 0 rfl rfl 1 rfl q137 rfl rfl dX3_parts_8 ?_
  refine lv_aload_n hx hb dX3_parts_11 rfl (lv_at hl 0 rfl) ?_
  refine fx_get X hE (hR.at hS) 0 rfl rfl 0 rfl q134 rfl rfl dX3_parts_12 ?_
  refine lv_isub hx hb dX3_parts_15 ?_
  by_cases hz : mm - nb = 0
  ·
    exact vx_idivZ X.1 X.2.1 hz dX3_parts_16 (fe_vm X hst hlocks hZ hP hS hl.1 (feA_w X hE) feA_g ⟨by decide +kernel, rfl, rfl⟩ (nb := 9) (by decide +kernel) (by decide +kernel) (by decide) (Nat.le_of_ble_eq_true rfl) (Nat.le_of_ble_eq_true rfl) (Nat.le_of_ble_eq_true rfl) (Nat.le_of_ble_eq_true rfl) (fun H1 q9 ce hP hS hce hcv hcl => hthrow q9 (tr2_3, tn2_3) ⟨hz, hq_3⟩ hP hD hS (Nat.le_of_ble_eq_true rfl) (Nat.le_of_ble_eq_true rfl) hce hcv hcl))
  ·
    refine lv_idiv hx hb dX3_parts_16 (by assumption) ?_
    exact hret (xv / (mm - nb)) (tr2_3, tn2_3) (⟨hz, rfl, hq_3⟩) (rfl) hP hD hS (Nat.le_refl _) (Nat.le_refl _) dX3_parts_17
abbrev rxX3_parts_9 : Room := { frames := 8, cells := 3, slots := 19, locals := 10300 }
set_option maxHeartbeats 400000 in
set_option maxRecDepth 100000 in
theorem xX3_parts_9 (l : Launch) (E : fx_En) (ks : fz_Ks) (ax : Nat → Nat) (th : Nat) (nb : Int32) (mm : Int32) (tr : Nat → Int32) (tn : Nat) (xv : Int32) (hst : l.stackTraces = false) (htn : tn ≤ 30) : fz_Mi l yX3_parts cX3_parts 3 .int rxX3_parts_9 0 0 E ks [.ref th, .int xv, .ref (ax 4)] [(ax 4, .inr (4, [.ref (ax 60), .int (nI tn)])), (ax 60, .inl (E.2 1, 30, .inl tr))] [(th, .inr (9, [.int nb, .int mm]))] (S := (Nat → Int32) × Nat) (fun (u : (Nat → Int32) × Nat) => [(ax 4, .inr (4, [.ref (ax 60), .int (nI u.2)])), (ax 60, .inl (E.2 1, 30, .inl u.1))]) (fun (r : Int32) (u : (Nat → Int32) × Nat) => ¬ mm - nb = 0 ∧ r = xv / (mm - nb) ∧ (u.1, u.2) = bgL (tr, tn) [13]) "java/lang/ArithmeticException" (SX := (Nat → Int32) × Nat) (fun (u : (Nat → Int32) × Nat) => [(ax 4, .inr (4, [.ref (ax 60), .int (nI u.2)])), (ax 60, .inl (E.2 1, 30, .inl u.1))]) (fun (q : Nat) (u : (Nat → Int32) × Nat) => mm - nb = 0 ∧ (u.1, u.2) = bgL (tr, tn) [13]) := by
  refine fe_iW rfl rfl ?_
  intro p e s m args below meth c A ls Q X hlocks hE hP hD hR hZ hA hl hret hthrow
  have hx := X.1
  have hb := X.2.1
  have hS : va_S A s.heap s.heap [] := va_S.rf
  replace hP : va_P E.1 clA [(ax 4, .inr (4, [.ref (ax 60), .int (nI tn)])), (ax 60, .inl (E.2 1, 30, .inl tr))] _ := hP
  replace hD : va_D A [(ax 4, .inr (4, [.ref (ax 60), .int (nI tn)])), (ax 60, .inl (E.2 1, 30, .inl tr))] := hD
  replace hl : lv_has ls 3 [(0, .ref th), (1, .int xv), (2, .ref (ax 4))] := hl
  refine lv_aload_n hx hb dX3_parts_0 rfl (lv_at hl 2 rfl) ?_
  refine lv_bipush (v := 13) hx hb dX3_parts_1 rfl ?_
  refine fx_cv (va_runV (As := [.int 13]) (rest := []) X (xX4_ran l E ax tr tn 13 (by first | assumption | omega) (by decide) _) (cwV 1 X.2.2.2.2 (lw_V q989 q980 q981 q73 q982) rfl rfl rfl ⟨rfl, hdX4_ran⟩ ⟨Nat.le_of_ble_eq_true rfl, Nat.le_of_ble_eq_true rfl⟩) (fx_preV (fx_pre hE hP hD hS hR [0, 1] rfl rfl fx_rc0) (va_recv hE.1 hP (ci := 4) (q0 := 0) rfl rfl)) rfl rfl hl.1 rfl (lv_room (Nat.le_of_ble_eq_true rfl)) dX3_parts_3 ⟨Nat.le_of_ble_eq_true rfl, Nat.le_of_ble_eq_true rfl⟩) hP hD hS hA [0, 1] rfl rfl (fun u H locs hq_3 hP hD hS => ?_)
  obtain ⟨tr2_3, tn2_3⟩ := u
  replace hP : va_P E.1 clA [(ax 4, .inr (4, [.ref (ax 60), .int (nI tn2_3)])), (ax 60, .inl (E.2 1, 30, .inl tr2_3))] _ := hP
  replace hD : va_D A [(ax 4, .inr (4, [.ref (ax 60), .int (nI tn2_3)])), (ax 60, .inl (E.2 1, 30, .inl tr2_3))] := hD
  replace hq_3 : (tr2_3, tn2_3) = bg (tr, tn) 13 := hq_3
  have ht_3 : tn2_3 ≤ 30 := trc_le hq_3 (bg_le htn)
  refine lv_iload_n hx hb dX3_parts_6 rfl (lv_at hl 1 rfl) ?_
  refine lv_aload_n hx hb dX3_parts_7 rfl (lv_at hl 0 rfl) ?_
  refine fx_get X hE (hR.at hS) 0 rfl rfl 1 rfl q137 rfl rfl dX3_parts_8 ?_
  refine lv_aload_n hx hb dX3_parts_11 rfl (lv_at hl 0 rfl) ?_
  refine fx_get X hE (hR.at hS) 0 rfl rfl 0 rfl q134 rfl rfl dX3_parts_12 ?_
  refine lv_isub hx hb dX3_parts_15 ?_
  by_cases hz : mm - nb = 0
  ·
    exact vx_idivZ X.1 X.2.1 hz dX3_parts_16 (fe_vm X hst hlocks hZ hP hS hl.1 (feA_w X hE) feA_g ⟨by decide +kernel, rfl, rfl⟩ (nb := 9) (by decide +kernel) (by decide +kernel) (by decide) (Nat.le_of_ble_eq_true rfl) (Nat.le_of_ble_eq_true rfl) (Nat.le_of_ble_eq_true rfl) (Nat.le_of_ble_eq_true rfl) (fun H1 q9 ce hP hS hce hcv hcl => hthrow q9 (tr2_3, tn2_3) ⟨hz, hq_3⟩ hP hD hS (Nat.le_of_ble_eq_true rfl) (Nat.le_of_ble_eq_true rfl) hce hcv hcl))
  ·
    refine lv_idiv hx hb dX3_parts_16 (by assumption) ?_
    exact hret (xv / (mm - nb)) (tr2_3, tn2_3) (⟨hz, rfl, hq_3⟩) (rfl) hP hD hS (Nat.le_refl _) (Nat.le_refl _) dX3_parts_17
abbrev rxX3_parts_10 : Room := { frames := 8, cells := 3, slots := 19, locals := 10300 }
set_option maxHeartbeats 400000 in
set_option maxRecDepth 100000 in
theorem xX3_parts_10 (l : Launch) (E : fx_En) (ks : fz_Ks) (ax : Nat → Nat) (th : Nat) (nb : Int32) (mm : Int32) (tr : Nat → Int32) (tn : Nat) (xv : Int32) (hst : l.stackTraces = false) (htn : tn ≤ 30) : fz_Mi l yX3_parts cX3_parts 3 .int rxX3_parts_10 0 0 E ks [.ref th, .int xv, .ref (ax 4)] [(ax 4, .inr (4, [.ref (ax 60), .int (nI tn)])), (ax 60, .inl (E.2 1, 30, .inl tr))] [(th, .inr (10, [.int nb, .int mm]))] (S := (Nat → Int32) × Nat) (fun (u : (Nat → Int32) × Nat) => [(ax 4, .inr (4, [.ref (ax 60), .int (nI u.2)])), (ax 60, .inl (E.2 1, 30, .inl u.1))]) (fun (r : Int32) (u : (Nat → Int32) × Nat) => ¬ mm - nb = 0 ∧ r = xv / (mm - nb) ∧ (u.1, u.2) = bgL (tr, tn) [13]) "java/lang/ArithmeticException" (SX := (Nat → Int32) × Nat) (fun (u : (Nat → Int32) × Nat) => [(ax 4, .inr (4, [.ref (ax 60), .int (nI u.2)])), (ax 60, .inl (E.2 1, 30, .inl u.1))]) (fun (q : Nat) (u : (Nat → Int32) × Nat) => mm - nb = 0 ∧ (u.1, u.2) = bgL (tr, tn) [13]) := by
  refine fe_iW rfl rfl ?_
  intro p e s m args below meth c A ls Q X hlocks hE hP hD hR hZ hA hl hret hthrow
  have hx := X.1
  have hb := X.2.1
  have hS : va_S A s.heap s.heap [] := va_S.rf
  replace hP : va_P E.1 clA [(ax 4, .inr (4, [.ref (ax 60), .int (nI tn)])), (ax 60, .inl (E.2 1, 30, .inl tr))] _ := hP
  replace hD : va_D A [(ax 4, .inr (4, [.ref (ax 60), .int (nI tn)])), (ax 60, .inl (E.2 1, 30, .inl tr))] := hD
  replace hl : lv_has ls 3 [(0, .ref th), (1, .int xv), (2, .ref (ax 4))] := hl
  refine lv_aload_n hx hb dX3_parts_0 rfl (lv_at hl 2 rfl) ?_
  refine lv_bipush (v := 13) hx hb dX3_parts_1 rfl ?_
  refine fx_cv (va_runV (As := [.int 13]) (rest := []) X (xX4_ran l E ax tr tn 13 (by first | assumption | omega) (by decide) _) (cwV 1 X.2.2.2.2 (lw_V q989 q980 q981 q73 q982) rfl rfl rfl ⟨rfl, hdX4_ran⟩ ⟨Nat.le_of_ble_eq_true rfl, Nat.le_of_ble_eq_true rfl⟩) (fx_preV (fx_pre hE hP hD hS hR [0, 1] rfl rfl fx_rc0) (va_recv hE.1 hP (ci := 4) (q0 := 0) rfl rfl)) rfl rfl hl.1 rfl (lv_room (Nat.le_of_ble_eq_true rfl)) dX3_parts_3 ⟨Nat.le_of_ble_eq_true rfl, Nat.le_of_ble_eq_true rfl⟩) hP hD hS hA [0, 1] rfl rfl (fun u H locs hq_3 hP hD hS => ?_)
  obtain ⟨tr2_3, tn2_3⟩ := u
  replace hP : va_P E.1 clA [(ax 4, .inr (4, [.ref (ax 60), .int (nI tn2_3)])), (ax 60, .inl (E.2 1, 30, .inl tr2_3))] _ := hP
  replace hD : va_D A [(ax 4, .inr (4, [.ref (ax 60), .int (nI tn2_3)])), (ax 60, .inl (E.2 1, 30, .inl tr2_3))] := hD
  replace hq_3 : (tr2_3, tn2_3) = bg (tr, tn) 13 := hq_3
  have ht_3 : tn2_3 ≤ 30 := trc_le hq_3 (bg_le htn)
  refine lv_iload_n hx hb dX3_parts_6 rfl (lv_at hl 1 rfl) ?_
  refine lv_aload_n hx hb dX3_parts_7 rfl (lv_at hl 0 rfl) ?_
  refine fx_get X hE (hR.at hS) 0 rfl rfl 1 rfl q137 rfl rfl dX3_parts_8 ?_
  refine lv_aload_n hx hb dX3_parts_11 rfl (lv_at hl 0 rfl) ?_
  refine fx_get X hE (hR.at hS) 0 rfl rfl 0 rfl q134 rfl rfl dX3_parts_12 ?_
  refine lv_isub hx hb dX3_parts_15 ?_
  by_cases hz : mm - nb = 0
  ·
    exact vx_idivZ X.1 X.2.1 hz dX3_parts_16 (fe_vm X hst hlocks hZ hP hS hl.1 (feA_w X hE) feA_g ⟨by decide +kernel, rfl, rfl⟩ (nb := 9) (by decide +kernel) (by decide +kernel) (by decide) (Nat.le_of_ble_eq_true rfl) (Nat.le_of_ble_eq_true rfl) (Nat.le_of_ble_eq_true rfl) (Nat.le_of_ble_eq_true rfl) (fun H1 q9 ce hP hS hce hcv hcl => hthrow q9 (tr2_3, tn2_3) ⟨hz, hq_3⟩ hP hD hS (Nat.le_of_ble_eq_true rfl) (Nat.le_of_ble_eq_true rfl) hce hcv hcl))
  ·
    refine lv_idiv hx hb dX3_parts_16 (by assumption) ?_
    exact hret (xv / (mm - nb)) (tr2_3, tn2_3) (⟨hz, rfl, hq_3⟩) (rfl) hP hD hS (Nat.le_refl _) (Nat.le_refl _) dX3_parts_17
abbrev rxX3_parts_11 : Room := { frames := 8, cells := 3, slots := 19, locals := 10300 }
set_option maxHeartbeats 400000 in
set_option maxRecDepth 100000 in
theorem xX3_parts_11 (l : Launch) (E : fx_En) (ks : fz_Ks) (ax : Nat → Nat) (th : Nat) (nb : Int32) (mm : Int32) (tr : Nat → Int32) (tn : Nat) (xv : Int32) (hst : l.stackTraces = false) (htn : tn ≤ 30) : fz_Mi l yX3_parts cX3_parts 3 .int rxX3_parts_11 0 0 E ks [.ref th, .int xv, .ref (ax 4)] [(ax 4, .inr (4, [.ref (ax 60), .int (nI tn)])), (ax 60, .inl (E.2 1, 30, .inl tr))] [(th, .inr (11, [.int nb, .int mm]))] (S := (Nat → Int32) × Nat) (fun (u : (Nat → Int32) × Nat) => [(ax 4, .inr (4, [.ref (ax 60), .int (nI u.2)])), (ax 60, .inl (E.2 1, 30, .inl u.1))]) (fun (r : Int32) (u : (Nat → Int32) × Nat) => ¬ mm - nb = 0 ∧ r = xv / (mm - nb) ∧ (u.1, u.2) = bgL (tr, tn) [13]) "java/lang/ArithmeticException" (SX := (Nat → Int32) × Nat) (fun (u : (Nat → Int32) × Nat) => [(ax 4, .inr (4, [.ref (ax 60), .int (nI u.2)])), (ax 60, .inl (E.2 1, 30, .inl u.1))]) (fun (q : Nat) (u : (Nat → Int32) × Nat) => mm - nb = 0 ∧ (u.1, u.2) = bgL (tr, tn) [13]) := by
  refine fe_iW rfl rfl ?_
  intro p e s m args below meth c A ls Q X hlocks hE hP hD hR hZ hA hl hret hthrow
  have hx := X.1
  have hb := X.2.1
  have hS : va_S A s.heap s.heap [] := va_S.rf
  replace hP : va_P E.1 clA [(ax 4, .inr (4, [.ref (ax 60), .int (nI tn)])), (ax 60, .inl (E.2 1, 30, .inl tr))] _ := hP
  replace hD : va_D A [(ax 4, .inr (4, [.ref (ax 60), .int (nI tn)])), (ax 60, .inl (E.2 1, 30, .inl tr))] := hD
  replace hl : lv_has ls 3 [(0, .ref th), (1, .int xv), (2, .ref (ax 4))] := hl
  refine lv_aload_n hx hb dX3_parts_0 rfl (lv_at hl 2 rfl) ?_
  refine lv_bipush (v := 13) hx hb dX3_parts_1 rfl ?_
  refine fx_cv (va_runV (As := [.int 13]) (rest := []) X (xX4_ran l E ax tr tn 13 (by first | assumption | omega) (by decide) _) (cwV 1 X.2.2.2.2 (lw_V q989 q980 q981 q73 q982) rfl rfl rfl ⟨rfl, hdX4_ran⟩ ⟨Nat.le_of_ble_eq_true rfl, Nat.le_of_ble_eq_true rfl⟩) (fx_preV (fx_pre hE hP hD hS hR [0, 1] rfl rfl fx_rc0) (va_recv hE.1 hP (ci := 4) (q0 := 0) rfl rfl)) rfl rfl hl.1 rfl (lv_room (Nat.le_of_ble_eq_true rfl)) dX3_parts_3 ⟨Nat.le_of_ble_eq_true rfl, Nat.le_of_ble_eq_true rfl⟩) hP hD hS hA [0, 1] rfl rfl (fun u H locs hq_3 hP hD hS => ?_)
  obtain ⟨tr2_3, tn2_3⟩ := u
  replace hP : va_P E.1 clA [(ax 4, .inr (4, [.ref (ax 60), .int (nI tn2_3)])), (ax 60, .inl (E.2 1, 30, .inl tr2_3))] _ := hP
  replace hD : va_D A [(ax 4, .inr (4, [.ref (ax 60), .int (nI tn2_3)])), (ax 60, .inl (E.2 1, 30, .inl tr2_3))] := hD
  replace hq_3 : (tr2_3, tn2_3) = bg (tr, tn) 13 := hq_3
  have ht_3 : tn2_3 ≤ 30 := trc_le hq_3 (bg_le htn)
  refine lv_iload_n hx hb dX3_parts_6 rfl (lv_at hl 1 rfl) ?_
  refine lv_aload_n hx hb dX3_parts_7 rfl (lv_at hl 0 rfl) ?_
  refine fx_get X hE (hR.at hS) 0 rfl rfl 1 rfl q137 rfl rfl dX3_parts_8 ?_
  refine lv_aload_n hx hb dX3_parts_11 rfl (lv_at hl 0 rfl) ?_
  refine fx_get X hE (hR.at hS) 0 rfl rfl 0 rfl q134 rfl rfl dX3_parts_12 ?_
  refine lv_isub hx hb dX3_parts_15 ?_
  by_cases hz : mm - nb = 0
  ·
    exact vx_idivZ X.1 X.2.1 hz dX3_parts_16 (fe_vm X hst hlocks hZ hP hS hl.1 (feA_w X hE) feA_g ⟨by decide +kernel, rfl, rfl⟩ (nb := 9) (by decide +kernel) (by decide +kernel) (by decide) (Nat.le_of_ble_eq_true rfl) (Nat.le_of_ble_eq_true rfl) (Nat.le_of_ble_eq_true rfl) (Nat.le_of_ble_eq_true rfl) (fun H1 q9 ce hP hS hce hcv hcl => hthrow q9 (tr2_3, tn2_3) ⟨hz, hq_3⟩ hP hD hS (Nat.le_of_ble_eq_true rfl) (Nat.le_of_ble_eq_true rfl) hce hcv hcl))
  ·
    refine lv_idiv hx hb dX3_parts_16 (by assumption) ?_
    exact hret (xv / (mm - nb)) (tr2_3, tn2_3) (⟨hz, rfl, hq_3⟩) (rfl) hP hD hS (Nat.le_refl _) (Nat.le_refl _) dX3_parts_17
abbrev rxX3_parts_12 : Room := { frames := 8, cells := 3, slots := 19, locals := 10300 }
set_option maxHeartbeats 400000 in
set_option maxRecDepth 100000 in
theorem xX3_parts_12 (l : Launch) (E : fx_En) (ks : fz_Ks) (ax : Nat → Nat) (th : Nat) (nb : Int32) (mm : Int32) (tr : Nat → Int32) (tn : Nat) (xv : Int32) (hst : l.stackTraces = false) (htn : tn ≤ 30) : fz_Mi l yX3_parts cX3_parts 3 .int rxX3_parts_12 0 0 E ks [.ref th, .int xv, .ref (ax 4)] [(ax 4, .inr (4, [.ref (ax 60), .int (nI tn)])), (ax 60, .inl (E.2 1, 30, .inl tr))] [(th, .inr (12, [.int nb, .int mm]))] (S := (Nat → Int32) × Nat) (fun (u : (Nat → Int32) × Nat) => [(ax 4, .inr (4, [.ref (ax 60), .int (nI u.2)])), (ax 60, .inl (E.2 1, 30, .inl u.1))]) (fun (r : Int32) (u : (Nat → Int32) × Nat) => ¬ mm - nb = 0 ∧ r = xv / (mm - nb) ∧ (u.1, u.2) = bgL (tr, tn) [13]) "java/lang/ArithmeticException" (SX := (Nat → Int32) × Nat) (fun (u : (Nat → Int32) × Nat) => [(ax 4, .inr (4, [.ref (ax 60), .int (nI u.2)])), (ax 60, .inl (E.2 1, 30, .inl u.1))]) (fun (q : Nat) (u : (Nat → Int32) × Nat) => mm - nb = 0 ∧ (u.1, u.2) = bgL (tr, tn) [13]) := by
  refine fe_iW rfl rfl ?_
  intro p e s m args below meth c A ls Q X hlocks hE hP hD hR hZ hA hl hret hthrow
  have hx := X.1
  have hb := X.2.1
  have hS : va_S A s.heap s.heap [] := va_S.rf
  replace hP : va_P E.1 clA [(ax 4, .inr (4, [.ref (ax 60), .int (nI tn)])), (ax 60, .inl (E.2 1, 30, .inl tr))] _ := hP
  replace hD : va_D A [(ax 4, .inr (4, [.ref (ax 60), .int (nI tn)])), (ax 60, .inl (E.2 1, 30, .inl tr))] := hD
  replace hl : lv_has ls 3 [(0, .ref th), (1, .int xv), (2, .ref (ax 4))] := hl
  refine lv_aload_n hx hb dX3_parts_0 rfl (lv_at hl 2 rfl) ?_
  refine lv_bipush (v := 13) hx hb dX3_parts_1 rfl ?_
  refine fx_cv (va_runV (As := [.int 13]) (rest := []) X (xX4_ran l E ax tr tn 13 (by first | assumption | omega) (by decide) _) (cwV 1 X.2.2.2.2 (lw_V q989 q980 q981 q73 q982) rfl rfl rfl ⟨rfl, hdX4_ran⟩ ⟨Nat.le_of_ble_eq_true rfl, Nat.le_of_ble_eq_true rfl⟩) (fx_preV (fx_pre hE hP hD hS hR [0, 1] rfl rfl fx_rc0) (va_recv hE.1 hP (ci := 4) (q0 := 0) rfl rfl)) rfl rfl hl.1 rfl (lv_room (Nat.le_of_ble_eq_true rfl)) dX3_parts_3 ⟨Nat.le_of_ble_eq_true rfl, Nat.le_of_ble_eq_true rfl⟩) hP hD hS hA [0, 1] rfl rfl (fun u H locs hq_3 hP hD hS => ?_)
  obtain ⟨tr2_3, tn2_3⟩ := u
  replace hP : va_P E.1 clA [(ax 4, .inr (4, [.ref (ax 60), .int (nI tn2_3)])), (ax 60, .inl (E.2 1, 30, .inl tr2_3))] _ := hP
  replace hD : va_D A [(ax 4, .inr (4, [.ref (ax 60), .int (nI tn2_3)])), (ax 60, .inl (E.2 1, 30, .inl tr2_3))] := hD
  replace hq_3 : (tr2_3, tn2_3) = bg (tr, tn) 13 := hq_3
  have ht_3 : tn2_3 ≤ 30 := trc_le hq_3 (bg_le htn)
  refine lv_iload_n hx hb dX3_parts_6 rfl (lv_at hl 1 rfl) ?_
  refine lv_aload_n hx hb dX3_parts_7 rfl (lv_at hl 0 rfl) ?_
  refine fx_get X hE (hR.at hS) 0 rfl rfl 1 rfl q137 rfl rfl dX3_parts_8 ?_
  refine lv_aload_n hx hb dX3_parts_11 rfl (lv_at hl 0 rfl) ?_
  refine fx_get X hE (hR.at hS) 0 rfl rfl 0 rfl q134 rfl rfl dX3_parts_12 ?_
  refine lv_isub hx hb dX3_parts_15 ?_
  by_cases hz : mm - nb = 0
  ·
    exact vx_idivZ X.1 X.2.1 hz dX3_parts_16 (fe_vm X hst hlocks hZ hP hS hl.1 (feA_w X hE) feA_g ⟨by decide +kernel, rfl, rfl⟩ (nb := 9) (by decide +kernel) (by decide +kernel) (by decide) (Nat.le_of_ble_eq_true rfl) (Nat.le_of_ble_eq_true rfl) (Nat.le_of_ble_eq_true rfl) (Nat.le_of_ble_eq_true rfl) (fun H1 q9 ce hP hS hce hcv hcl => hthrow q9 (tr2_3, tn2_3) ⟨hz, hq_3⟩ hP hD hS (Nat.le_of_ble_eq_true rfl) (Nat.le_of_ble_eq_true rfl) hce hcv hcl))
  ·
    refine lv_idiv hx hb dX3_parts_16 (by assumption) ?_
    exact hret (xv / (mm - nb)) (tr2_3, tn2_3) (⟨hz, rfl, hq_3⟩) (rfl) hP hD hS (Nat.le_refl _) (Nat.le_refl _) dX3_parts_17
abbrev rxX7_parts_7 : Room := { frames := 9, cells := 3, slots := 19, locals := 10322 }
set_option maxHeartbeats 400000 in
set_option maxRecDepth 100000 in
theorem xX7_parts_7 (l : Launch) (E : fx_En) (ks : fz_Ks) (ax : Nat → Nat) (th : Nat) (nb : Int32) (mm : Int32) (tr : Nat → Int32) (tn : Nat) (xv : Int32) (hst : l.stackTraces = false) (htn : tn ≤ 30) : fz_Mi l yX7_parts cX7_parts 4 .int rxX7_parts_7 0 0 E ks [.ref th, .int xv, .ref (ax 4)] [(ax 4, .inr (4, [.ref (ax 60), .int (nI tn)])), (ax 60, .inl (E.2 1, 30, .inl tr))] [(th, .inr (7, [.int nb, .int mm]))] (S := (Nat → Int32) × Nat) (fun (u : (Nat → Int32) × Nat) => [(ax 4, .inr (4, [.ref (ax 60), .int (nI u.2)])), (ax 60, .inl (E.2 1, 30, .inl u.1))]) (fun (r : Int32) (u : (Nat → Int32) × Nat) => ¬ mm - nb = 0 ∧ r = xv / (mm - nb) + comesV 1 1 nb mm 1 ∧ (u.1, u.2) = bgL (tr, tn) (21 :: 13 :: comesB 1 1)) "java/lang/ArithmeticException" (SX := (Nat → Int32) × Nat) (fun (u : (Nat → Int32) × Nat) => [(ax 4, .inr (4, [.ref (ax 60), .int (nI u.2)])), (ax 60, .inl (E.2 1, 30, .inl u.1))]) (fun (q : Nat) (u : (Nat → Int32) × Nat) => mm - nb = 0 ∧ (u.1, u.2) = bgL (tr, tn) [21, 13]) := by
  refine fe_iW rfl rfl ?_
  intro p e s m args below meth c A ls Q X hlocks hE hP hD hR hZ hA hl hret hthrow
  have hx := X.1
  have hb := X.2.1
  have hS : va_S A s.heap s.heap [] := va_S.rf
  replace hP : va_P E.1 clA [(ax 4, .inr (4, [.ref (ax 60), .int (nI tn)])), (ax 60, .inl (E.2 1, 30, .inl tr))] _ := hP
  replace hD : va_D A [(ax 4, .inr (4, [.ref (ax 60), .int (nI tn)])), (ax 60, .inl (E.2 1, 30, .inl tr))] := hD
  replace hl : lv_has ls 4 [(0, .ref th), (1, .int xv), (2, .ref (ax 4))] := hl
  refine lv_aload_n hx hb dX7_parts_0 rfl (lv_at hl 2 rfl) ?_
  refine lv_bipush (v := 21) hx hb dX7_parts_1 rfl ?_
  refine fx_cv (va_runV (As := [.int 21]) (rest := []) X (xX4_ran l E ax tr tn 21 (by first | assumption | omega) (by decide) _) (cwV 1 X.2.2.2.2 (lw_V q986 q980 q981 q73 q982) rfl rfl rfl ⟨rfl, hdX4_ran⟩ ⟨Nat.le_of_ble_eq_true rfl, Nat.le_of_ble_eq_true rfl⟩) (fx_preV (fx_pre hE hP hD hS hR [0, 1] rfl rfl fx_rc0) (va_recv hE.1 hP (ci := 4) (q0 := 0) rfl rfl)) rfl rfl hl.1 rfl (lv_room (Nat.le_of_ble_eq_true rfl)) dX7_parts_3 ⟨Nat.le_of_ble_eq_true rfl, Nat.le_of_ble_eq_true rfl⟩) hP hD hS hA [0, 1] rfl rfl (fun u H locs hq_3 hP hD hS => ?_)
  obtain ⟨tr2_3, tn2_3⟩ := u
  replace hP : va_P E.1 clA [(ax 4, .inr (4, [.ref (ax 60), .int (nI tn2_3)])), (ax 60, .inl (E.2 1, 30, .inl tr2_3))] _ := hP
  replace hD : va_D A [(ax 4, .inr (4, [.ref (ax 60), .int (nI tn2_3)])), (ax 60, .inl (E.2 1, 30, .inl tr2_3))] := hD
  replace hq_3 : (tr2_3, tn2_3) = bg (tr, tn) 21 := hq_3
  have ht_3 : tn2_3 ≤ 30 := trc_le hq_3 (bg_le htn)
  refine lv_aload_n hx hb dX7_parts_6 rfl (lv_at hl 0 rfl) ?_
  refine lv_iload_n hx hb dX7_parts_7 rfl (lv_at hl 1 rfl) ?_
  refine lv_aload_n hx hb dX7_parts_8 rfl (lv_at hl 2 rfl) ?_
  refine fz_ci (vz_runSU (As := [.int xv, .ref (ax 4)]) (rest := []) (hE.1.1 7 _ rfl).2 X (xX3_parts_7 l E ks ax th nb mm tr2_3 tn2_3 xv (by first | assumption | omega) (by first | assumption | omega) _) (va_cwSU 2 X.2.2.2.2 (lw_SU q1075 q1070 q361 q1068 q72 q1076) rfl rfl rfl ⟨by decide, hdX3_parts.2.2⟩ ⟨Nat.le_of_ble_eq_true rfl, Nat.le_of_ble_eq_true rfl⟩) (fx_preV (fz_pre hE hP hD hS hR hZ hA [0, 1] rfl rfl (fx_rcr 0 rfl fx_rc0)) (va_recv hE.1 (hR.at hS) (ci := 7) (q0 := 0) rfl rfl)) rfl rfl hl.1 rfl (lv_room (Nat.le_of_ble_eq_true rfl)) dX7_parts_9 ⟨Nat.le_of_ble_eq_true rfl, Nat.le_of_ble_eq_true rfl⟩) hP hD hS hA [0, 1] rfl rfl (fun qx_9 u H locs ce hqx_9 hP hD hS hce hcv hcl => ?_) (fun r_9 u H locs hq_9 hP hD hS => ?_)
  · -- thrown
    obtain ⟨trx_9x, tnx_9x⟩ := u
    replace hP : va_P E.1 clA [(ax 4, .inr (4, [.ref (ax 60), .int (nI tnx_9x)])), (ax 60, .inl (E.2 1, 30, .inl trx_9x))] _ := hP
    replace hD : va_D A [(ax 4, .inr (4, [.ref (ax 60), .int (nI tnx_9x)])), (ax 60, .inl (E.2 1, 30, .inl trx_9x))] := hD
    replace hqx_9 : mm - nb = 0 ∧ (trx_9x, tnx_9x) = bgL (tr2_3, tn2_3) [13] := hqx_9
    exact hthrow _ (trx_9x, tnx_9x) (⟨hqx_9.1, by rw [hqx_9.2, hq_3]; rfl⟩) hP hD hS (Nat.le_refl _) (Nat.le_refl _) hce hcv hcl
  · -- back
    obtain ⟨tr2_9, tn2_9⟩ := u
    replace hP : va_P E.1 clA [(ax 4, .inr (4, [.ref (ax 60), .int (nI tn2_9)])), (ax 60, .inl (E.2 1, 30, .inl tr2_9))] _ := hP
    replace hD : va_D A [(ax 4, .inr (4, [.ref (ax 60), .int (nI tn2_9)])), (ax 60, .inl (E.2 1, 30, .inl tr2_9))] := hD
    replace hq_9 : ¬ mm - nb = 0 ∧ r_9 = xv / (mm - nb) ∧ (tr2_9, tn2_9) = bgL (tr2_3, tn2_3) [13] := hq_9
    have ht_9 : tn2_9 ≤ 30 := trc_le hq_9.2.2 (bgL_le _ ht_3)
    refine lv_istore_n (lv' := [(3, .int r_9), (0, .ref th), (1, .int xv), (2, .ref (ax 4))]) hx hb dX7_parts_12 rfl hl (by decide) rfl (fun ls hl => ?_)
    refine lv_iload_n hx hb dX7_parts_13 rfl (lv_at hl 0 rfl) ?_
    refine lv_aload_n hx hb dX7_parts_14 rfl (lv_at hl 1 rfl) ?_
    refine lv_iconst (v := 1) hx hb dX7_parts_15 rfl ?_
    refine lv_aload_n hx hb dX7_parts_16 rfl (lv_at hl 3 rfl) ?_
    refine fx_ci (df_runV (As := [.int 1, .ref (ax 4)]) (rest := [.int r_9]) (x := yLc) X (xX16_comes_7 l E ax th nb mm tr2_9 tn2_9 1 (by first | assumption | omega) _) ⟨rfl, rfl, Nat.le_of_ble_eq_true rfl, Nat.le_of_ble_eq_true rfl⟩ (lw_meth q1010) List.mem_cons_self q1595 q1009 ⟨rfl, rfl⟩ hdX16_comes.2.2 ⟨hdX16_comes.1, hdX16_comes.2.1⟩ (va_tabs rfl rfl (hZ.1.2.2.1 _ (List.mem_of_getElem? (i := 5) rfl))) (va_tabs rfl rfl (hZ.1.2.2.1 _ (List.mem_of_getElem? (i := 6) rfl))) (va_tabs rfl rfl hZ.1.2.2.2.2) (df_ld (hZ.1.2.2.2.1 _ (List.mem_of_getElem? (i := 4) rfl))) (fx_preV (fx_pre hE hP hD hS hR [0, 1] rfl rfl (fx_rcr 0 rfl fx_rc0)) (va_recv hE.1 (hR.at hS) (ci := 7) (q0 := 0) rfl rfl)) rfl rfl hl.1 rfl (lv_room (Nat.le_of_ble_eq_true rfl)) dX7_parts_17 ⟨Nat.le_of_ble_eq_true rfl, Nat.le_of_ble_eq_true rfl⟩) hP hD hS hA [0, 1] rfl rfl (fun r_17 u H locs hq_17 hP hD hS => ?_)
    obtain ⟨tr2_17, tn2_17⟩ := u
    replace hP : va_P E.1 clA [(ax 4, .inr (4, [.ref (ax 60), .int (nI tn2_17)])), (ax 60, .inl (E.2 1, 30, .inl tr2_17))] _ := hP
    replace hD : va_D A [(ax 4, .inr (4, [.ref (ax 60), .int (nI tn2_17)])), (ax 60, .inl (E.2 1, 30, .inl tr2_17))] := hD
    replace hq_17 : r_17 = comesV 0 1 nb mm 1 ∧ (tr2_17, tn2_17) = bgL (tr2_9, tn2_9) (comesB 0 1) := hq_17
    refine lv_iadd hx hb dX7_parts_20 ?_
    exact hret (r_9 + r_17) (tr2_17, tn2_17) (⟨hq_9.1, by rw [hq_9.2.1, hq_17.1]; rfl, by rw [hq_17.2, hq_9.2.2, hq_3]; rfl⟩) (rfl) hP hD hS (Nat.le_refl _) (Nat.le_refl _) dX7_parts_21
abbrev rxX7_parts_11 : Room := { frames := 9, cells := 3, slots := 19, locals := 10322 }
set_option maxHeartbeats 400000 in
set_option maxRecDepth 100000 in
theorem xX7_parts_11 (l : Launch) (E : fx_En) (ks : fz_Ks) (ax : Nat → Nat) (th : Nat) (nb : Int32) (mm : Int32) (tr : Nat → Int32) (tn : Nat) (xv : Int32) (hst : l.stackTraces = false) (htn : tn ≤ 30) : fz_Mi l yX7_parts cX7_parts 4 .int rxX7_parts_11 0 0 E ks [.ref th, .int xv, .ref (ax 4)] [(ax 4, .inr (4, [.ref (ax 60), .int (nI tn)])), (ax 60, .inl (E.2 1, 30, .inl tr))] [(th, .inr (11, [.int nb, .int mm]))] (S := (Nat → Int32) × Nat) (fun (u : (Nat → Int32) × Nat) => [(ax 4, .inr (4, [.ref (ax 60), .int (nI u.2)])), (ax 60, .inl (E.2 1, 30, .inl u.1))]) (fun (r : Int32) (u : (Nat → Int32) × Nat) => ¬ mm - nb = 0 ∧ r = xv / (mm - nb) + comesV 5 5 nb mm 1 ∧ (u.1, u.2) = bgL (tr, tn) (21 :: 13 :: comesB 5 5)) "java/lang/ArithmeticException" (SX := (Nat → Int32) × Nat) (fun (u : (Nat → Int32) × Nat) => [(ax 4, .inr (4, [.ref (ax 60), .int (nI u.2)])), (ax 60, .inl (E.2 1, 30, .inl u.1))]) (fun (q : Nat) (u : (Nat → Int32) × Nat) => mm - nb = 0 ∧ (u.1, u.2) = bgL (tr, tn) [21, 13]) := by
  refine fe_iW rfl rfl ?_
  intro p e s m args below meth c A ls Q X hlocks hE hP hD hR hZ hA hl hret hthrow
  have hx := X.1
  have hb := X.2.1
  have hS : va_S A s.heap s.heap [] := va_S.rf
  replace hP : va_P E.1 clA [(ax 4, .inr (4, [.ref (ax 60), .int (nI tn)])), (ax 60, .inl (E.2 1, 30, .inl tr))] _ := hP
  replace hD : va_D A [(ax 4, .inr (4, [.ref (ax 60), .int (nI tn)])), (ax 60, .inl (E.2 1, 30, .inl tr))] := hD
  replace hl : lv_has ls 4 [(0, .ref th), (1, .int xv), (2, .ref (ax 4))] := hl
  refine lv_aload_n hx hb dX7_parts_0 rfl (lv_at hl 2 rfl) ?_
  refine lv_bipush (v := 21) hx hb dX7_parts_1 rfl ?_
  refine fx_cv (va_runV (As := [.int 21]) (rest := []) X (xX4_ran l E ax tr tn 21 (by first | assumption | omega) (by decide) _) (cwV 1 X.2.2.2.2 (lw_V q986 q980 q981 q73 q982) rfl rfl rfl ⟨rfl, hdX4_ran⟩ ⟨Nat.le_of_ble_eq_true rfl, Nat.le_of_ble_eq_true rfl⟩) (fx_preV (fx_pre hE hP hD hS hR [0, 1] rfl rfl fx_rc0) (va_recv hE.1 hP (ci := 4) (q0 := 0) rfl rfl)) rfl rfl hl.1 rfl (lv_room (Nat.le_of_ble_eq_true rfl)) dX7_parts_3 ⟨Nat.le_of_ble_eq_true rfl, Nat.le_of_ble_eq_true rfl⟩) hP hD hS hA [0, 1] rfl rfl (fun u H locs hq_3 hP hD hS => ?_)
  obtain ⟨tr2_3, tn2_3⟩ := u
  replace hP : va_P E.1 clA [(ax 4, .inr (4, [.ref (ax 60), .int (nI tn2_3)])), (ax 60, .inl (E.2 1, 30, .inl tr2_3))] _ := hP
  replace hD : va_D A [(ax 4, .inr (4, [.ref (ax 60), .int (nI tn2_3)])), (ax 60, .inl (E.2 1, 30, .inl tr2_3))] := hD
  replace hq_3 : (tr2_3, tn2_3) = bg (tr, tn) 21 := hq_3
  have ht_3 : tn2_3 ≤ 30 := trc_le hq_3 (bg_le htn)
  refine lv_aload_n hx hb dX7_parts_6 rfl (lv_at hl 0 rfl) ?_
  refine lv_iload_n hx hb dX7_parts_7 rfl (lv_at hl 1 rfl) ?_
  refine lv_aload_n hx hb dX7_parts_8 rfl (lv_at hl 2 rfl) ?_
  refine fz_ci (vz_runSU (As := [.int xv, .ref (ax 4)]) (rest := []) (hE.1.1 11 _ rfl).2 X (xX3_parts_11 l E ks ax th nb mm tr2_3 tn2_3 xv (by first | assumption | omega) (by first | assumption | omega) _) (va_cwSU 2 X.2.2.2.2 (lw_SU q1075 q1070 q361 q1068 q72 q1076) rfl rfl rfl ⟨by decide, hdX3_parts.2.2⟩ ⟨Nat.le_of_ble_eq_true rfl, Nat.le_of_ble_eq_true rfl⟩) (fx_preV (fz_pre hE hP hD hS hR hZ hA [0, 1] rfl rfl (fx_rcr 0 rfl fx_rc0)) (va_recv hE.1 (hR.at hS) (ci := 11) (q0 := 0) rfl rfl)) rfl rfl hl.1 rfl (lv_room (Nat.le_of_ble_eq_true rfl)) dX7_parts_9 ⟨Nat.le_of_ble_eq_true rfl, Nat.le_of_ble_eq_true rfl⟩) hP hD hS hA [0, 1] rfl rfl (fun qx_9 u H locs ce hqx_9 hP hD hS hce hcv hcl => ?_) (fun r_9 u H locs hq_9 hP hD hS => ?_)
  · -- thrown
    obtain ⟨trx_9x, tnx_9x⟩ := u
    replace hP : va_P E.1 clA [(ax 4, .inr (4, [.ref (ax 60), .int (nI tnx_9x)])), (ax 60, .inl (E.2 1, 30, .inl trx_9x))] _ := hP
    replace hD : va_D A [(ax 4, .inr (4, [.ref (ax 60), .int (nI tnx_9x)])), (ax 60, .inl (E.2 1, 30, .inl trx_9x))] := hD
    replace hqx_9 : mm - nb = 0 ∧ (trx_9x, tnx_9x) = bgL (tr2_3, tn2_3) [13] := hqx_9
    exact hthrow _ (trx_9x, tnx_9x) (⟨hqx_9.1, by rw [hqx_9.2, hq_3]; rfl⟩) hP hD hS (Nat.le_refl _) (Nat.le_refl _) hce hcv hcl
  · -- back
    obtain ⟨tr2_9, tn2_9⟩ := u
    replace hP : va_P E.1 clA [(ax 4, .inr (4, [.ref (ax 60), .int (nI tn2_9)])), (ax 60, .inl (E.2 1, 30, .inl tr2_9))] _ := hP
    replace hD : va_D A [(ax 4, .inr (4, [.ref (ax 60), .int (nI tn2_9)])), (ax 60, .inl (E.2 1, 30, .inl tr2_9))] := hD
    replace hq_9 : ¬ mm - nb = 0 ∧ r_9 = xv / (mm - nb) ∧ (tr2_9, tn2_9) = bgL (tr2_3, tn2_3) [13] := hq_9
    have ht_9 : tn2_9 ≤ 30 := trc_le hq_9.2.2 (bgL_le _ ht_3)
    refine lv_istore_n (lv' := [(3, .int r_9), (0, .ref th), (1, .int xv), (2, .ref (ax 4))]) hx hb dX7_parts_12 rfl hl (by decide) rfl (fun ls hl => ?_)
    refine lv_iload_n hx hb dX7_parts_13 rfl (lv_at hl 0 rfl) ?_
    refine lv_aload_n hx hb dX7_parts_14 rfl (lv_at hl 1 rfl) ?_
    refine lv_iconst (v := 1) hx hb dX7_parts_15 rfl ?_
    refine lv_aload_n hx hb dX7_parts_16 rfl (lv_at hl 3 rfl) ?_
    refine fx_ci (df_runV (As := [.int 1, .ref (ax 4)]) (rest := [.int r_9]) (x := yLc) X (xX16_comes_11 l E ax th nb mm tr2_9 tn2_9 1 (by first | assumption | omega) _) ⟨rfl, rfl, Nat.le_of_ble_eq_true rfl, Nat.le_of_ble_eq_true rfl⟩ (lw_meth q1010) List.mem_cons_self q1595 q1009 ⟨rfl, rfl⟩ hdX16_comes.2.2 ⟨hdX16_comes.1, hdX16_comes.2.1⟩ (va_tabs rfl rfl (hZ.1.2.2.1 _ (List.mem_of_getElem? (i := 5) rfl))) (va_tabs rfl rfl (hZ.1.2.2.1 _ (List.mem_of_getElem? (i := 6) rfl))) (va_tabs rfl rfl hZ.1.2.2.2.2) (df_ld (hZ.1.2.2.2.1 _ (List.mem_of_getElem? (i := 5) rfl))) (fx_preV (fx_pre hE hP hD hS hR [0, 1] rfl rfl (fx_rcr 0 rfl fx_rc0)) (va_recv hE.1 (hR.at hS) (ci := 11) (q0 := 0) rfl rfl)) rfl rfl hl.1 rfl (lv_room (Nat.le_of_ble_eq_true rfl)) dX7_parts_17 ⟨Nat.le_of_ble_eq_true rfl, Nat.le_of_ble_eq_true rfl⟩) hP hD hS hA [0, 1] rfl rfl (fun r_17 u H locs hq_17 hP hD hS => ?_)
    obtain ⟨tr2_17, tn2_17⟩ := u
    replace hP : va_P E.1 clA [(ax 4, .inr (4, [.ref (ax 60), .int (nI tn2_17)])), (ax 60, .inl (E.2 1, 30, .inl tr2_17))] _ := hP
    replace hD : va_D A [(ax 4, .inr (4, [.ref (ax 60), .int (nI tn2_17)])), (ax 60, .inl (E.2 1, 30, .inl tr2_17))] := hD
    replace hq_17 : r_17 = comesV 0 5 nb mm 1 ∧ (tr2_17, tn2_17) = bgL (tr2_9, tn2_9) (comesB 0 5) := hq_17
    refine lv_iadd hx hb dX7_parts_20 ?_
    exact hret (r_9 + r_17) (tr2_17, tn2_17) (⟨hq_9.1, by rw [hq_9.2.1, hq_17.1]; rfl, by rw [hq_17.2, hq_9.2.2, hq_3]; rfl⟩) (rfl) hP hD hS (Nat.le_refl _) (Nat.le_refl _) dX7_parts_21
abbrev rxX0_voice : Room := { frames := 10, cells := 3, slots := 19, locals := 10345 }
set_option maxHeartbeats 4000000 in
set_option maxRecDepth 100000 in
theorem xX0_voice (l : Launch) (E : fx_En) (ks : fz_Ks) (ax : Nat → Nat) (im : Int32) (bn : Int32) (bm : Int32) (fm : Int32) (ff : Int32) (fl : Int32) (tk : Int32) (cs : Int32) (gs : Int32) (zz : Int32) (tp : Int32) (wg : Int32) (er : Nat → Int32) (sa : Nat → Int32) (tl : Nat → Nat) (tr : Nat → Int32) (tn : Nat) (PL : va_W) (til : Int32) (vo : Int32) (xv : Int32) (hst : l.stackTraces = false) (hI : Inv sa) (hTL : TLS PL sa tl) (htn : tn ≤ 30) : fz_Hi l yX0_voice cX0_voice 6 [((40 : Nat), (103 : Nat), (104 : Nat), (344 : Nat))] .int rxX0_voice E ks [.ref (ax 19), .int til, .int vo, .int xv] [(ax 4, .inr (4, [.ref (ax 60), .int (nI tn)])), (ax 60, .inl (E.2 1, 30, .inl tr)), (ax 5, .inl (E.2 0, 7, .inl er))] ([(ax 19, .inr (0, [.ref (ax 0), .ref (ax 1), .ref (ax 35), .ref (ax 55), .ref (ax 4), .ref (ax 5), .ref (ax 6), .ref (ax 7), .int im, .ref (ax 9), .ref (ax 10), .ref (ax 11), .ref (ax 12), .ref (ax 13), .int bn, .int bm, .int fm, .int ff, .int fl])), (ax 35, .inr (1, [.ref (ax 20), .ref (ax 21), .ref (ax 22), .int tk, .int cs, .int gs, .int zz, .int tp, .int wg, .ref (ax 29), .ref (ax 30), .ref (ax 31), .ref (ax 32)])), (ax 29, .inl (E.2 3, 4, .inr (.inr (.inr (.inr (fun i_ => some (ax (36 + i_)))))))), (ax 36, .inr (2, [.ref (tl 0)])), (ax 37, .inr (2, [.ref (tl 1)])), (ax 38, .inr (2, [.ref (tl 2)])), (ax 39, .inr (2, [.ref (tl 3)]))] ++ PL) (S := (Nat → Int32) × Nat × (Nat → Int32)) (fun (u : (Nat → Int32) × Nat × (Nat → Int32)) => [(ax 4, .inr (4, [.ref (ax 60), .int (nI u.2.1)])), (ax 60, .inl (E.2 1, 30, .inl u.1)), (ax 5, .inl (E.2 0, 7, .inl u.2.2))]) (fun (r : Int32) (u : (Nat → Int32) × Nat × (Nat → Int32)) => (r, u.1, u.2.1, u.2.2) = voice_ sa er tr tn til vo xv ∧ u.2.1 ≤ 30) := by
  refine fz_hW rfl rfl ?_
  intro p e s m args below meth c A ls Q X htab hlocks hE hP hD hR hZ hA hl hret
  have hx := X.1
  have hb := X.2.1
  have hS : va_S A s.heap s.heap [] := va_S.rf
  replace hP : va_P E.1 clA [(ax 4, .inr (4, [.ref (ax 60), .int (nI tn)])), (ax 60, .inl (E.2 1, 30, .inl tr)), (ax 5, .inl (E.2 0, 7, .inl er))] _ := hP
  replace hD : va_D A [(ax 4, .inr (4, [.ref (ax 60), .int (nI tn)])), (ax 60, .inl (E.2 1, 30, .inl tr)), (ax 5, .inl (E.2 0, 7, .inl er))] := hD
  replace hl : lv_has ls 6 [(0, .ref (ax 19)), (1, .int til), (2, .int vo), (3, .int xv)] := hl
  refine lv_iload_n hx hb dX0_voice_0 rfl (lv_at hl 1 rfl) ?_
  refine fx_ci (va_runS (As := [.int til]) (rest := []) X (xX0_isTill l E til _) (va_cwS 1 X.2.2.2.2 (lw_S q336 q337 q69 q338) rfl rfl rfl hdX0_isTill ⟨Nat.le_of_ble_eq_true rfl, Nat.le_of_ble_eq_true rfl⟩) (fx_pre hE hP hD hS hR [] rfl rfl fx_rc0) rfl rfl hl.1 rfl (lv_room (Nat.le_of_ble_eq_true rfl)) dX0_voice_1 ⟨Nat.le_of_ble_eq_true rfl, Nat.le_of_ble_eq_true rfl⟩) hP hD hS hA [] rfl rfl (fun r_1 u H locs hq_1 hP hD hS => ?_)
  replace hP : va_P E.1 clA [(ax 4, .inr (4, [.ref (ax 60), .int (nI tn)])), (ax 60, .inl (E.2 1, 30, .inl tr)), (ax 5, .inl (E.2 0, 7, .inl er))] _ := hP
  replace hD : va_D A [(ax 4, .inr (4, [.ref (ax 60), .int (nI tn)])), (ax 60, .inl (E.2 1, 30, .inl tr)), (ax 5, .inl (E.2 0, 7, .inl er))] := hD
  replace hq_1 : r_1 = fx_b (inB til 0 3 = true) := hq_1
  rcases fx_bc hq_1 with ⟨hb_1, hr_1⟩ | ⟨hb_1, hr_1⟩
  · -- True
    subst hr_1
    refine lv_if_eq (tgt := 16) hx hb dX0_voice_4 (by decide) (fun c => absurd c (by decide)) (fun _ => ?_)
    refine lv_iload_n hx hb dX0_voice_7 rfl (lv_at hl 2 rfl) ?_
    refine lv_iconst (v := 0) hx hb dX0_voice_8 rfl ?_
    refine lv_iconst (v := 3) hx hb dX0_voice_9 rfl ?_
    refine fx_ci (va_runS (As := [.int vo, .int 0, .int 3]) (rest := []) X (xX0_isIn l E vo 0 3 _) (va_cwS 3 X.2.2.2.2 (lw_S q300 q301 q69 q302) rfl rfl rfl hdX0_isIn ⟨Nat.le_of_ble_eq_true rfl, Nat.le_of_ble_eq_true rfl⟩) (fx_pre hE hP hD hS hR [] rfl rfl fx_rc0) rfl rfl hl.1 rfl (lv_room (Nat.le_of_ble_eq_true rfl)) dX0_voice_10 ⟨Nat.le_of_ble_eq_true rfl, Nat.le_of_ble_eq_true rfl⟩) hP hD hS hA [] rfl rfl (fun r_10 u H locs hq_10 hP hD hS => ?_)
    replace hP : va_P E.1 clA [(ax 4, .inr (4, [.ref (ax 60), .int (nI tn)])), (ax 60, .inl (E.2 1, 30, .inl tr)), (ax 5, .inl (E.2 0, 7, .inl er))] _ := hP
    replace hD : va_D A [(ax 4, .inr (4, [.ref (ax 60), .int (nI tn)])), (ax 60, .inl (E.2 1, 30, .inl tr)), (ax 5, .inl (E.2 0, 7, .inl er))] := hD
    replace hq_10 : r_10 = fx_b (inB vo 0 3 = true) := hq_10
    rcases fx_bc hq_10 with ⟨hb_10, hr_10⟩ | ⟨hb_10, hr_10⟩
    · -- True
      subst hr_10
      refine lv_if_ne (tgt := 22) hx hb dX0_voice_13 (by decide) (fun _ => ?_) (fun c => absurd c (by decide))
      have gn := inB_nn (n := 3) hb_1 (by omega)
      have g1 : nn til < 4 := by omega
      refine lv_aload_n hx hb dX0_voice_22 rfl (lv_at hl 0 rfl) ?_
      refine fx_get X hE (hR.at hS) 0 rfl rfl 4 rfl q239 rfl rfl dX0_voice_23 ?_
      refine lv_iconst (v := 0) hx hb dX0_voice_26 rfl ?_
      refine fx_putN (ws' := [(ax 4, .inr (4, [.ref (ax 60), .int 0])), (ax 60, .inl (E.2 1, 30, .inl tr)), (ax 5, .inl (E.2 0, 7, .inl er))]) X hE hP hD hS 0 rfl rfl tyX4_ok nmX4 1 rfl 19 rfl rfl rfl rfl rfl rfl rfl dX0_voice_27 (fun H locs hP hD hS => ?_)
      refine lv_aload_n hx hb dX0_voice_30 rfl (lv_at hl 0 rfl) ?_
      refine fx_get X hE (hR.at hS) 0 rfl rfl 2 rfl q237 rfl rfl dX0_voice_31 ?_
      refine lv_iload_n hx hb dX0_voice_34 rfl (lv_at hl 1 rfl) ?_
      refine fx_ti (show til = nI (nn til) from gn.1) ?_
      refine fx_cq (va_runV (As := [.int (nI (nn til))]) (rest := []) X (xX1_at l E ax tk cs gs zz tp wg sa tl (nn til) PL g1 (by first | assumption | omega) (by first | assumption | omega) _) (cwV 1 X.2.2.2.2 (lw_V q339 q340 q341 q70 q342) rfl rfl rfl ⟨rfl, hdX1_at⟩ ⟨Nat.le_of_ble_eq_true rfl, Nat.le_of_ble_eq_true rfl⟩) (fx_preV (fx_pre hE hP hD hS hR [] rfl rfl (fx_rcr 1 rfl (fx_rcr 2 rfl (fx_rcr 3 rfl (fx_rcr 4 rfl (fx_rcr 5 rfl (fx_rcr 6 rfl (fx_rct (fun q hq => List.mem_append_right _ hq))))))))) (va_recv hE.1 (hR.at hS) (ci := 1) (q0 := 1) rfl rfl)) rfl rfl hl.1 rfl (lv_room (Nat.le_of_ble_eq_true rfl)) dX0_voice_35 ⟨Nat.le_of_ble_eq_true rfl, Nat.le_of_ble_eq_true rfl⟩) hP hD hS hA [] rfl rfl (fun r_35 u H locs hq_35 hP hD hS => ?_)
      replace hP : va_P E.1 clA [(ax 4, .inr (4, [.ref (ax 60), .int 0])), (ax 60, .inl (E.2 1, 30, .inl tr)), (ax 5, .inl (E.2 0, 7, .inl er))] _ := hP
      replace hD : va_D A [(ax 4, .inr (4, [.ref (ax 60), .int 0])), (ax 60, .inl (E.2 1, 30, .inl tr)), (ax 5, .inl (E.2 0, 7, .inl er))] := hD
      replace hq_35 : r_35 = some (tl (nn til)) := hq_35
      obtain rfl : r_35 = some (tl (nn til)) := by first | exact hq_35 | exact hq_35.1
      refine lv_astore (lv' := [(4, .ref (tl (nn til))), (0, .ref (ax 19)), (1, .int til), (2, .int vo), (3, .int xv)]) hx hb dX0_voice_38 hl (by decide) rfl (fun ls hl => ?_)
      rcases kd7 (hI.kd (k := (nn til)) g1).2 with hw | hw | hw | hw | hw | hw | hw
      ·
        have hc : ((tl (nn til), .inr (3, [.int (nI (nn til)), .int (sa (32 + 2 * (nn til) + 1))])) : Nat × va_E) ∈ PL := by have hz := hTL (nn til) g1; rw [hw] at hz; exact hz
        refine lv_iload_n hx hb dX0_voice_40 rfl (lv_at hl 3 rfl) ?_
        refine lv_if_ne (tgt := 57) hx hb dX0_voice_41 (by decide) (fun c_41 => ?_) (fun c_41 => ?_)
        · -- jump 57
          refine lv_iload_n hx hb dX0_voice_57 rfl (lv_at hl 3 rfl) ?_
          refine lv_iconst (v := 1) hx hb dX0_voice_58 rfl ?_
          refine lv_icmp_ne (tgt := 75) hx hb dX0_voice_59 (by decide) (fun c_59 => ?_) (fun c_59 => ?_)
          · -- jump 75
            refine lv_iload_n hx hb dX0_voice_75 rfl (lv_at hl 3 rfl) ?_
            refine lv_iconst (v := 2) hx hb dX0_voice_76 rfl ?_
            refine lv_icmp_ne (tgt := 93) hx hb dX0_voice_77 (by decide) (fun c_77 => ?_) (fun c_77 => ?_)
            · -- jump 93
              refine lv_aload hx hb dX0_voice_93 (lv_at hl 0 rfl) ?_
              refine lv_iload_n hx hb dX0_voice_95 rfl (lv_at hl 4 rfl) ?_
              refine lv_aload_n hx hb dX0_voice_96 rfl (lv_at hl 1 rfl) ?_
              refine fx_get X hE (hR.at hS) 0 rfl rfl 4 rfl q239 rfl rfl dX0_voice_97 ?_
              refine fz_ci (vz_runV (As := [.int xv, .ref (ax 4)]) (rest := []) X (xX3_parts_3 l E ks ax (tl (nn til)) (nI (nn til)) (sa (32 + 2 * (nn til) + 1)) tr 0 xv (by first | assumption | omega) (by first | assumption | omega) _) (cwV 2 X.2.2.2.2 (lw_V q1067 q1068 q1069 q72 q1076) rfl rfl rfl ⟨rfl, hdX3_parts⟩ ⟨Nat.le_of_ble_eq_true rfl, Nat.le_of_ble_eq_true rfl⟩) (fx_preV (fz_pre hE hP hD hS hR hZ hA [0, 1] rfl rfl (fx_rcx ((List.mem_append_right _ hc)) fx_rc0)) (va_recv hE.1 (fx_one (hR.at hS) (List.mem_append_right _ hc)) (ci := 3) (q0 := 0) rfl rfl)) rfl rfl hl.1 rfl (lv_room (Nat.le_of_ble_eq_true rfl)) dX0_voice_100 ⟨Nat.le_of_ble_eq_true rfl, Nat.le_of_ble_eq_true rfl⟩) hP hD hS hA [0, 1] rfl rfl (fun qx_100 u H locs ce hqx_100 hP hD hS hce hcv hcl => ?_) (fun r_100 u H locs hq_100 hP hD hS => ?_)
              · -- thrown
                obtain ⟨trx_100x, tnx_100x⟩ := u
                replace hP : va_P E.1 clA [(ax 4, .inr (4, [.ref (ax 60), .int (nI tnx_100x)])), (ax 60, .inl (E.2 1, 30, .inl trx_100x)), (ax 5, .inl (E.2 0, 7, .inl er))] _ := hP
                replace hD : va_D A [(ax 4, .inr (4, [.ref (ax 60), .int (nI tnx_100x)])), (ax 60, .inl (E.2 1, 30, .inl trx_100x)), (ax 5, .inl (E.2 0, 7, .inl er))] := hD
                replace hqx_100 : (sa (32 + 2 * (nn til) + 1)) - (nI (nn til)) = 0 ∧ (trx_100x, tnx_100x) = bgL (tr, 0) [13] := hqx_100
                refine vx_catch X.2.2.2.1 [] ⟨40, 103, 104, 344⟩ _ (htab.trans rfl) (fun _ h => nomatch h) rfl (by decide) (X.2.2.2.2 _ q942) (va_tabs rfl rfl (hE.2.1 _ (List.mem_of_getElem? (i := 42) rfl))) hce hcv hcl ?_
                refine lv_astore (lv' := [(5, .ref qx_100), (4, .ref (tl (nn til))), (0, .ref (ax 19)), (1, .int til), (2, .int vo), (3, .int xv)]) hx hb dX0_voice_104 hl (by decide) rfl (fun ls hl => ?_)
                refine lv_aload_n hx hb dX0_voice_106 rfl (lv_at hl 2 rfl) ?_
                refine lv_bipush (v := 6) hx hb dX0_voice_107 rfl ?_
                refine fx_ci (va_runV (As := [.int 6]) (rest := []) X (xX0_finds l E ax im bn bm fm ff fl er 6 (by decide) _) (cwV 1 X.2.2.2.2 (lw_V q303 q305 qs0 q69 q306) rfl rfl rfl ⟨rfl, hdX0_finds⟩ ⟨Nat.le_of_ble_eq_true rfl, Nat.le_of_ble_eq_true rfl⟩) (fx_preV (fx_pre hE hP hD hS hR [2] rfl rfl (fx_rcr 0 rfl fx_rc0)) (va_recv hE.1 (hR.at hS) (ci := 0) (q0 := 0) rfl rfl)) rfl rfl hl.1 rfl (lv_room (Nat.le_of_ble_eq_true rfl)) dX0_voice_109 ⟨Nat.le_refl _, Nat.le_refl _⟩) hP hD hS hA [2] rfl rfl (fun r_109 u H locs hq_109 hP hD hS => ?_)
                replace hP : va_P E.1 clA [(ax 4, .inr (4, [.ref (ax 60), .int (nI tnx_100x)])), (ax 60, .inl (E.2 1, 30, .inl trx_100x)), (ax 5, .inl (E.2 0, 7, .inl (upd er 6 (er 6 + 1))))] _ := hP
                replace hD : va_D A [(ax 4, .inr (4, [.ref (ax 60), .int (nI tnx_100x)])), (ax 60, .inl (E.2 1, 30, .inl trx_100x)), (ax 5, .inl (E.2 0, 7, .inl (upd er 6 (er 6 + 1))))] := hD
                replace hq_109 : r_109 = erv 6 := hq_109
                exact hret r_109 (trx_100x, tnx_100x, (upd er 6 (er 6 + 1))) (⟨by rw [voice_, if_pos (by simp [hb_1, hb_10]), hw]; rw [(trc_1 hqx_100.2).1, (trc_1 hqx_100.2).2]; rw [hq_109]; simp [voP, voV, voB, partsB, c_41, c_59, c_77, hqx_100.1, erI], trc_le hqx_100.2 (bgL_le _ (Nat.zero_le 30))⟩) (rfl) hP hD hS (Nat.le_refl _) (Nat.le_refl _) dX0_voice_112
              · -- back
                obtain ⟨tr2_100, tn2_100⟩ := u
                replace hP : va_P E.1 clA [(ax 4, .inr (4, [.ref (ax 60), .int (nI tn2_100)])), (ax 60, .inl (E.2 1, 30, .inl tr2_100)), (ax 5, .inl (E.2 0, 7, .inl er))] _ := hP
                replace hD : va_D A [(ax 4, .inr (4, [.ref (ax 60), .int (nI tn2_100)])), (ax 60, .inl (E.2 1, 30, .inl tr2_100)), (ax 5, .inl (E.2 0, 7, .inl er))] := hD
                replace hq_100 : ¬ (sa (32 + 2 * (nn til) + 1)) - (nI (nn til)) = 0 ∧ r_100 = xv / ((sa (32 + 2 * (nn til) + 1)) - (nI (nn til))) ∧ (tr2_100, tn2_100) = bgL (tr, 0) [13] := hq_100
                exact hret r_100 (tr2_100, tn2_100, er) (⟨by rw [voice_, if_pos (by simp [hb_1, hb_10]), hw]; rw [(trc_1 hq_100.2.2).1, (trc_1 hq_100.2.2).2]; rw [hq_100.2.1]; simp [voP, voV, voB, partsV, partsB, comesV, comesB, addsV, addsB, c_41, c_59, c_77, hq_100.1], trc_le hq_100.2.2 (bgL_le _ (Nat.zero_le 30))⟩) (rfl) hP hD hS (Nat.le_of_ble_eq_true rfl) (Nat.le_of_ble_eq_true rfl) dX0_voice_103
            · -- fall 80
              refine lv_aload hx hb dX0_voice_80 (lv_at hl 0 rfl) ?_
              refine lv_iload_n hx hb dX0_voice_82 rfl (lv_at hl 4 rfl) ?_
              refine lv_aload_n hx hb dX0_voice_83 rfl (lv_at hl 1 rfl) ?_
              refine fx_get X hE (hR.at hS) 0 rfl rfl 4 rfl q239 rfl rfl dX0_voice_84 ?_
              refine fx_ci (va_runV (As := [.int xv, .ref (ax 4)]) (rest := []) X (xX3_gives_3 l E ks ax (tl (nn til)) (nI (nn til)) (sa (32 + 2 * (nn til) + 1)) tr 0 xv (by first | assumption | omega) _) (cwV 2 X.2.2.2.2 (lw_V q1047 q1048 q1049 q72 q1056) rfl rfl rfl ⟨rfl, hdX3_gives⟩ ⟨Nat.le_of_ble_eq_true rfl, Nat.le_of_ble_eq_true rfl⟩) (fx_preV (fz_pre hE hP hD hS hR hZ hA [0, 1] rfl rfl (fx_rcx ((List.mem_append_right _ hc)) fx_rc0)) (va_recv hE.1 (fx_one (hR.at hS) (List.mem_append_right _ hc)) (ci := 3) (q0 := 0) rfl rfl)) rfl rfl hl.1 rfl (lv_room (Nat.le_of_ble_eq_true rfl)) dX0_voice_87 ⟨Nat.le_of_ble_eq_true rfl, Nat.le_of_ble_eq_true rfl⟩) hP hD hS hA [0, 1] rfl rfl (fun r_87 u H locs hq_87 hP hD hS => ?_)
              obtain ⟨tr2_87, tn2_87⟩ := u
              replace hP : va_P E.1 clA [(ax 4, .inr (4, [.ref (ax 60), .int (nI tn2_87)])), (ax 60, .inl (E.2 1, 30, .inl tr2_87)), (ax 5, .inl (E.2 0, 7, .inl er))] _ := hP
              replace hD : va_D A [(ax 4, .inr (4, [.ref (ax 60), .int (nI tn2_87)])), (ax 60, .inl (E.2 1, 30, .inl tr2_87)), (ax 5, .inl (E.2 0, 7, .inl er))] := hD
              replace hq_87 : r_87 = givesV 0 0 (nI (nn til)) (sa (32 + 2 * (nn til) + 1)) xv ∧ (tr2_87, tn2_87) = bgL (tr, 0) (givesB 0 0) := hq_87
              refine lv_goto (tgt := 103) hx hb dX0_voice_90 (by decide) ?_
              exact hret r_87 (tr2_87, tn2_87, er) (⟨by rw [voice_, if_pos (by simp [hb_1, hb_10]), hw]; rw [(trc_1 hq_87.2).1, (trc_1 hq_87.2).2]; rw [hq_87.1]; simp [voP, voV, voB, comesV, comesB, givesV, givesB, addsV, addsB, c_41, c_59, c_77], trc_le hq_87.2 (bgL_le _ (Nat.zero_le 30))⟩) (rfl) hP hD hS (Nat.le_of_ble_eq_true rfl) (Nat.le_of_ble_eq_true rfl) dX0_voice_103
          · -- fall 62
            refine lv_aload hx hb dX0_voice_62 (lv_at hl 0 rfl) ?_
            refine lv_iload_n hx hb dX0_voice_64 rfl (lv_at hl 4 rfl) ?_
            refine lv_aload_n hx hb dX0_voice_65 rfl (lv_at hl 1 rfl) ?_
            refine fx_get X hE (hR.at hS) 0 rfl rfl 4 rfl q239 rfl rfl dX0_voice_66 ?_
            refine fx_ci (df_runV (As := [.int xv, .ref (ax 4)]) (rest := []) (x := yTc) X (xX16_comes_3 l E ax (tl (nn til)) (nI (nn til)) (sa (32 + 2 * (nn til) + 1)) tr 0 xv (by first | assumption | omega) _) ⟨rfl, rfl, Nat.le_of_ble_eq_true rfl, Nat.le_of_ble_eq_true rfl⟩ (lw_meth q1010) List.mem_cons_self q1595 q1009 ⟨rfl, rfl⟩ hdX16_comes.2.2 ⟨hdX16_comes.1, hdX16_comes.2.1⟩ (va_tabs rfl rfl (hZ.1.2.2.1 _ (List.mem_of_getElem? (i := 0) rfl))) (va_tabs rfl rfl (hZ.1.2.2.1 _ (List.mem_of_getElem? (i := 1) rfl))) (va_tabs rfl rfl hZ.1.2.2.2.2) (df_ld (hZ.1.2.2.2.1 _ (List.mem_of_getElem? (i := 0) rfl))) (fx_preV (fx_pre hE hP hD hS hR [0, 1] rfl rfl (fx_rcx ((List.mem_append_right _ hc)) fx_rc0)) (va_recv hE.1 (fx_one (hR.at hS) (List.mem_append_right _ hc)) (ci := 3) (q0 := 0) rfl rfl)) rfl rfl hl.1 rfl (lv_room (Nat.le_of_ble_eq_true rfl)) dX0_voice_69 ⟨Nat.le_of_ble_eq_true rfl, Nat.le_of_ble_eq_true rfl⟩) hP hD hS hA [0, 1] rfl rfl (fun r_69 u H locs hq_69 hP hD hS => ?_)
            obtain ⟨tr2_69, tn2_69⟩ := u
            replace hP : va_P E.1 clA [(ax 4, .inr (4, [.ref (ax 60), .int (nI tn2_69)])), (ax 60, .inl (E.2 1, 30, .inl tr2_69)), (ax 5, .inl (E.2 0, 7, .inl er))] _ := hP
            replace hD : va_D A [(ax 4, .inr (4, [.ref (ax 60), .int (nI tn2_69)])), (ax 60, .inl (E.2 1, 30, .inl tr2_69)), (ax 5, .inl (E.2 0, 7, .inl er))] := hD
            replace hq_69 : r_69 = comesV 0 0 (nI (nn til)) (sa (32 + 2 * (nn til) + 1)) xv ∧ (tr2_69, tn2_69) = bgL (tr, 0) (comesB 0 0) := hq_69
            refine lv_goto (tgt := 103) hx hb dX0_voice_72 (by decide) ?_
            exact hret r_69 (tr2_69, tn2_69, er) (⟨by rw [voice_, if_pos (by simp [hb_1, hb_10]), hw]; rw [(trc_1 hq_69.2).1, (trc_1 hq_69.2).2]; rw [hq_69.1]; simp [voP, voV, voB, comesV, comesB, givesV, givesB, addsV, addsB, c_41, c_59], trc_le hq_69.2 (bgL_le _ (Nat.zero_le 30))⟩) (rfl) hP hD hS (Nat.le_of_ble_eq_true rfl) (Nat.le_of_ble_eq_true rfl) dX0_voice_103
        · -- fall 44
          refine lv_aload hx hb dX0_voice_44 (lv_at hl 0 rfl) ?_
          refine lv_iload_n hx hb dX0_voice_46 rfl (lv_at hl 4 rfl) ?_
          refine lv_aload_n hx hb dX0_voice_47 rfl (lv_at hl 1 rfl) ?_
          refine fx_get X hE (hR.at hS) 0 rfl rfl 4 rfl q239 rfl rfl dX0_voice_48 ?_
          refine fx_ci (va_runV (As := [.int xv, .ref (ax 4)]) (rest := []) X (xX3_adds_3 l E ax (tl (nn til)) (nI (nn til)) (sa (32 + 2 * (nn til) + 1)) tr 0 xv (by first | assumption | omega) _) (cwV 2 X.2.2.2.2 (lw_V q971 q972 q973 q72 q988) rfl rfl rfl ⟨rfl, hdX3_adds⟩ ⟨Nat.le_of_ble_eq_true rfl, Nat.le_of_ble_eq_true rfl⟩) (fx_preV (fx_pre hE hP hD hS hR [0, 1] rfl rfl (fx_rcx ((List.mem_append_right _ hc)) fx_rc0)) (va_recv hE.1 (fx_one (hR.at hS) (List.mem_append_right _ hc)) (ci := 3) (q0 := 0) rfl rfl)) rfl rfl hl.1 rfl (lv_room (Nat.le_of_ble_eq_true rfl)) dX0_voice_51 ⟨Nat.le_of_ble_eq_true rfl, Nat.le_of_ble_eq_true rfl⟩) hP hD hS hA [0, 1] rfl rfl (fun r_51 u H locs hq_51 hP hD hS => ?_)
          obtain ⟨tr2_51, tn2_51⟩ := u
          replace hP : va_P E.1 clA [(ax 4, .inr (4, [.ref (ax 60), .int (nI tn2_51)])), (ax 60, .inl (E.2 1, 30, .inl tr2_51)), (ax 5, .inl (E.2 0, 7, .inl er))] _ := hP
          replace hD : va_D A [(ax 4, .inr (4, [.ref (ax 60), .int (nI tn2_51)])), (ax 60, .inl (E.2 1, 30, .inl tr2_51)), (ax 5, .inl (E.2 0, 7, .inl er))] := hD
          replace hq_51 : r_51 = addsV 0 (nI (nn til)) xv ∧ (tr2_51, tn2_51) = bgL (tr, 0) (addsB 0) := hq_51
          refine lv_goto (tgt := 103) hx hb dX0_voice_54 (by decide) ?_
          exact hret r_51 (tr2_51, tn2_51, er) (⟨by rw [voice_, if_pos (by simp [hb_1, hb_10]), hw]; rw [(trc_1 hq_51.2).1, (trc_1 hq_51.2).2]; rw [hq_51.1]; simp [voP, voV, voB, comesV, comesB, givesV, givesB, addsV, addsB, c_41], trc_le hq_51.2 (bgL_le _ (Nat.zero_le 30))⟩) (rfl) hP hD hS (Nat.le_of_ble_eq_true rfl) (Nat.le_of_ble_eq_true rfl) dX0_voice_103
      ·
        have hc : ((tl (nn til), .inr (7, [.int (nI (nn til)), .int (sa (32 + 2 * (nn til) + 1))])) : Nat × va_E) ∈ PL := by have hz := hTL (nn til) g1; rw [hw] at hz; exact hz
        refine lv_iload_n hx hb dX0_voice_40 rfl (lv_at hl 3 rfl) ?_
        refine lv_if_ne (tgt := 57) hx hb dX0_voice_41 (by decide) (fun c_41 => ?_) (fun c_41 => ?_)
        · -- jump 57
          refine lv_iload_n hx hb dX0_voice_57 rfl (lv_at hl 3 rfl) ?_
          refine lv_iconst (v := 1) hx hb dX0_voice_58 rfl ?_
          refine lv_icmp_ne (tgt := 75) hx hb dX0_voice_59 (by decide) (fun c_59 => ?_) (fun c_59 => ?_)
          · -- jump 75
            refine lv_iload_n hx hb dX0_voice_75 rfl (lv_at hl 3 rfl) ?_
            refine lv_iconst (v := 2) hx hb dX0_voice_76 rfl ?_
            refine lv_icmp_ne (tgt := 93) hx hb dX0_voice_77 (by decide) (fun c_77 => ?_) (fun c_77 => ?_)
            · -- jump 93
              refine lv_aload hx hb dX0_voice_93 (lv_at hl 0 rfl) ?_
              refine lv_iload_n hx hb dX0_voice_95 rfl (lv_at hl 4 rfl) ?_
              refine lv_aload_n hx hb dX0_voice_96 rfl (lv_at hl 1 rfl) ?_
              refine fx_get X hE (hR.at hS) 0 rfl rfl 4 rfl q239 rfl rfl dX0_voice_97 ?_
              refine fz_ci (vz_runU (As := [.int xv, .ref (ax 4)]) (rest := []) X (xX7_parts_7 l E ks ax (tl (nn til)) (nI (nn til)) (sa (32 + 2 * (nn til) + 1)) tr 0 xv (by first | assumption | omega) (by first | assumption | omega) _) (va_cwO 2 X.2.2.2.2 (lw_O q1067 q1070 q1068 q1077 q1073 q77 q1074) rfl rfl rfl q1076 ⟨by decide +kernel, by decide +kernel, hdX7_parts.2.2⟩ ⟨Nat.le_of_ble_eq_true rfl, Nat.le_of_ble_eq_true rfl⟩) (fx_preV (fz_pre hE hP hD hS hR hZ hA [0, 1] rfl rfl (fx_rcx ((List.mem_append_right _ hc)) fx_rc0)) (va_recv hE.1 (fx_one (hR.at hS) (List.mem_append_right _ hc)) (ci := 7) (q0 := 0) rfl rfl)) rfl rfl hl.1 rfl (lv_room (Nat.le_of_ble_eq_true rfl)) dX0_voice_100 ⟨Nat.le_of_ble_eq_true rfl, Nat.le_of_ble_eq_true rfl⟩) hP hD hS hA [0, 1] rfl rfl (fun qx_100 u H locs ce hqx_100 hP hD hS hce hcv hcl => ?_) (fun r_100 u H locs hq_100 hP hD hS => ?_)
              · -- thrown
                obtain ⟨trx_100x, tnx_100x⟩ := u
                replace hP : va_P E.1 clA [(ax 4, .inr (4, [.ref (ax 60), .int (nI tnx_100x)])), (ax 60, .inl (E.2 1, 30, .inl trx_100x)), (ax 5, .inl (E.2 0, 7, .inl er))] _ := hP
                replace hD : va_D A [(ax 4, .inr (4, [.ref (ax 60), .int (nI tnx_100x)])), (ax 60, .inl (E.2 1, 30, .inl trx_100x)), (ax 5, .inl (E.2 0, 7, .inl er))] := hD
                replace hqx_100 : (sa (32 + 2 * (nn til) + 1)) - (nI (nn til)) = 0 ∧ (trx_100x, tnx_100x) = bgL (tr, 0) [21, 13] := hqx_100
                refine vx_catch X.2.2.2.1 [] ⟨40, 103, 104, 344⟩ _ (htab.trans rfl) (fun _ h => nomatch h) rfl (by decide) (X.2.2.2.2 _ q942) (va_tabs rfl rfl (hE.2.1 _ (List.mem_of_getElem? (i := 42) rfl))) hce hcv hcl ?_
                refine lv_astore (lv' := [(5, .ref qx_100), (4, .ref (tl (nn til))), (0, .ref (ax 19)), (1, .int til), (2, .int vo), (3, .int xv)]) hx hb dX0_voice_104 hl (by decide) rfl (fun ls hl => ?_)
                refine lv_aload_n hx hb dX0_voice_106 rfl (lv_at hl 2 rfl) ?_
                refine lv_bipush (v := 6) hx hb dX0_voice_107 rfl ?_
                refine fx_ci (va_runV (As := [.int 6]) (rest := []) X (xX0_finds l E ax im bn bm fm ff fl er 6 (by decide) _) (cwV 1 X.2.2.2.2 (lw_V q303 q305 qs0 q69 q306) rfl rfl rfl ⟨rfl, hdX0_finds⟩ ⟨Nat.le_of_ble_eq_true rfl, Nat.le_of_ble_eq_true rfl⟩) (fx_preV (fx_pre hE hP hD hS hR [2] rfl rfl (fx_rcr 0 rfl fx_rc0)) (va_recv hE.1 (hR.at hS) (ci := 0) (q0 := 0) rfl rfl)) rfl rfl hl.1 rfl (lv_room (Nat.le_of_ble_eq_true rfl)) dX0_voice_109 ⟨Nat.le_refl _, Nat.le_refl _⟩) hP hD hS hA [2] rfl rfl (fun r_109 u H locs hq_109 hP hD hS => ?_)
                replace hP : va_P E.1 clA [(ax 4, .inr (4, [.ref (ax 60), .int (nI tnx_100x)])), (ax 60, .inl (E.2 1, 30, .inl trx_100x)), (ax 5, .inl (E.2 0, 7, .inl (upd er 6 (er 6 + 1))))] _ := hP
                replace hD : va_D A [(ax 4, .inr (4, [.ref (ax 60), .int (nI tnx_100x)])), (ax 60, .inl (E.2 1, 30, .inl trx_100x)), (ax 5, .inl (E.2 0, 7, .inl (upd er 6 (er 6 + 1))))] := hD
                replace hq_109 : r_109 = erv 6 := hq_109
                exact hret r_109 (trx_100x, tnx_100x, (upd er 6 (er 6 + 1))) (⟨by rw [voice_, if_pos (by simp [hb_1, hb_10]), hw]; rw [(trc_1 hqx_100.2).1, (trc_1 hqx_100.2).2]; rw [hq_109]; simp [voP, voV, voB, partsB, c_41, c_59, c_77, hqx_100.1, erI], trc_le hqx_100.2 (bgL_le _ (Nat.zero_le 30))⟩) (rfl) hP hD hS (Nat.le_refl _) (Nat.le_refl _) dX0_voice_112
              · -- back
                obtain ⟨tr2_100, tn2_100⟩ := u
                replace hP : va_P E.1 clA [(ax 4, .inr (4, [.ref (ax 60), .int (nI tn2_100)])), (ax 60, .inl (E.2 1, 30, .inl tr2_100)), (ax 5, .inl (E.2 0, 7, .inl er))] _ := hP
                replace hD : va_D A [(ax 4, .inr (4, [.ref (ax 60), .int (nI tn2_100)])), (ax 60, .inl (E.2 1, 30, .inl tr2_100)), (ax 5, .inl (E.2 0, 7, .inl er))] := hD
                replace hq_100 : ¬ (sa (32 + 2 * (nn til) + 1)) - (nI (nn til)) = 0 ∧ r_100 = xv / ((sa (32 + 2 * (nn til) + 1)) - (nI (nn til))) + comesV 1 1 (nI (nn til)) (sa (32 + 2 * (nn til) + 1)) 1 ∧ (tr2_100, tn2_100) = bgL (tr, 0) (21 :: 13 :: comesB 1 1) := hq_100
                exact hret r_100 (tr2_100, tn2_100, er) (⟨by rw [voice_, if_pos (by simp [hb_1, hb_10]), hw]; rw [(trc_1 hq_100.2.2).1, (trc_1 hq_100.2.2).2]; rw [hq_100.2.1]; simp [voP, voV, voB, partsV, partsB, comesV, comesB, addsV, addsB, c_41, c_59, c_77, hq_100.1], trc_le hq_100.2.2 (bgL_le _ (Nat.zero_le 30))⟩) (rfl) hP hD hS (Nat.le_of_ble_eq_true rfl) (Nat.le_of_ble_eq_true rfl) dX0_voice_103
            · -- fall 80
              refine lv_aload hx hb dX0_voice_80 (lv_at hl 0 rfl) ?_
              refine lv_iload_n hx hb dX0_voice_82 rfl (lv_at hl 4 rfl) ?_
              refine lv_aload_n hx hb dX0_voice_83 rfl (lv_at hl 1 rfl) ?_
              refine fx_get X hE (hR.at hS) 0 rfl rfl 4 rfl q239 rfl rfl dX0_voice_84 ?_
              refine fx_ci (va_runU (As := [.int xv, .ref (ax 4)]) (rest := []) X (xX3_gives_7 l E ks ax (tl (nn til)) (nI (nn til)) (sa (32 + 2 * (nn til) + 1)) tr 0 xv (by first | assumption | omega) _) (va_cwU 2 X.2.2.2.2 (lw_U q1047 q1050 q1063 q1048 q72 q1056) rfl rfl rfl rfl hdX3_gives ⟨Nat.le_of_ble_eq_true rfl, Nat.le_of_ble_eq_true rfl⟩) (fx_preV (fz_pre hE hP hD hS hR hZ hA [0, 1] rfl rfl (fx_rcx ((List.mem_append_right _ hc)) fx_rc0)) (va_recv hE.1 (fx_one (hR.at hS) (List.mem_append_right _ hc)) (ci := 7) (q0 := 0) rfl rfl)) rfl rfl hl.1 rfl (lv_room (Nat.le_of_ble_eq_true rfl)) dX0_voice_87 ⟨Nat.le_of_ble_eq_true rfl, Nat.le_of_ble_eq_true rfl⟩) hP hD hS hA [0, 1] rfl rfl (fun r_87 u H locs hq_87 hP hD hS => ?_)
              obtain ⟨tr2_87, tn2_87⟩ := u
              replace hP : va_P E.1 clA [(ax 4, .inr (4, [.ref (ax 60), .int (nI tn2_87)])), (ax 60, .inl (E.2 1, 30, .inl tr2_87)), (ax 5, .inl (E.2 0, 7, .inl er))] _ := hP
              replace hD : va_D A [(ax 4, .inr (4, [.ref (ax 60), .int (nI tn2_87)])), (ax 60, .inl (E.2 1, 30, .inl tr2_87)), (ax 5, .inl (E.2 0, 7, .inl er))] := hD
              replace hq_87 : r_87 = givesV 0 1 (nI (nn til)) (sa (32 + 2 * (nn til) + 1)) xv ∧ (tr2_87, tn2_87) = bgL (tr, 0) (givesB 0 1) := hq_87
              refine lv_goto (tgt := 103) hx hb dX0_voice_90 (by decide) ?_
              exact hret r_87 (tr2_87, tn2_87, er) (⟨by rw [voice_, if_pos (by simp [hb_1, hb_10]), hw]; rw [(trc_1 hq_87.2).1, (trc_1 hq_87.2).2]; rw [hq_87.1]; simp [voP, voV, voB, comesV, comesB, givesV, givesB, addsV, addsB, c_41, c_59, c_77], trc_le hq_87.2 (bgL_le _ (Nat.zero_le 30))⟩) (rfl) hP hD hS (Nat.le_of_ble_eq_true rfl) (Nat.le_of_ble_eq_true rfl) dX0_voice_103
          · -- fall 62
            refine lv_aload hx hb dX0_voice_62 (lv_at hl 0 rfl) ?_
            refine lv_iload_n hx hb dX0_voice_64 rfl (lv_at hl 4 rfl) ?_
            refine lv_aload_n hx hb dX0_voice_65 rfl (lv_at hl 1 rfl) ?_
            refine fx_get X hE (hR.at hS) 0 rfl rfl 4 rfl q239 rfl rfl dX0_voice_66 ?_
            refine fx_ci (df_runV (As := [.int xv, .ref (ax 4)]) (rest := []) (x := yTc) X (xX16_comes_7 l E ax (tl (nn til)) (nI (nn til)) (sa (32 + 2 * (nn til) + 1)) tr 0 xv (by first | assumption | omega) _) ⟨rfl, rfl, Nat.le_of_ble_eq_true rfl, Nat.le_of_ble_eq_true rfl⟩ (lw_meth q1010) List.mem_cons_self q1595 q1009 ⟨rfl, rfl⟩ hdX16_comes.2.2 ⟨hdX16_comes.1, hdX16_comes.2.1⟩ (va_tabs rfl rfl (hZ.1.2.2.1 _ (List.mem_of_getElem? (i := 0) rfl))) (va_tabs rfl rfl (hZ.1.2.2.1 _ (List.mem_of_getElem? (i := 1) rfl))) (va_tabs rfl rfl hZ.1.2.2.2.2) (df_ld (hZ.1.2.2.2.1 _ (List.mem_of_getElem? (i := 1) rfl))) (fx_preV (fx_pre hE hP hD hS hR [0, 1] rfl rfl (fx_rcx ((List.mem_append_right _ hc)) fx_rc0)) (va_recv hE.1 (fx_one (hR.at hS) (List.mem_append_right _ hc)) (ci := 7) (q0 := 0) rfl rfl)) rfl rfl hl.1 rfl (lv_room (Nat.le_of_ble_eq_true rfl)) dX0_voice_69 ⟨Nat.le_of_ble_eq_true rfl, Nat.le_of_ble_eq_true rfl⟩) hP hD hS hA [0, 1] rfl rfl (fun r_69 u H locs hq_69 hP hD hS => ?_)
            obtain ⟨tr2_69, tn2_69⟩ := u
            replace hP : va_P E.1 clA [(ax 4, .inr (4, [.ref (ax 60), .int (nI tn2_69)])), (ax 60, .inl (E.2 1, 30, .inl tr2_69)), (ax 5, .inl (E.2 0, 7, .inl er))] _ := hP
            replace hD : va_D A [(ax 4, .inr (4, [.ref (ax 60), .int (nI tn2_69)])), (ax 60, .inl (E.2 1, 30, .inl tr2_69)), (ax 5, .inl (E.2 0, 7, .inl er))] := hD
            replace hq_69 : r_69 = comesV 0 1 (nI (nn til)) (sa (32 + 2 * (nn til) + 1)) xv ∧ (tr2_69, tn2_69) = bgL (tr, 0) (comesB 0 1) := hq_69
            refine lv_goto (tgt := 103) hx hb dX0_voice_72 (by decide) ?_
            exact hret r_69 (tr2_69, tn2_69, er) (⟨by rw [voice_, if_pos (by simp [hb_1, hb_10]), hw]; rw [(trc_1 hq_69.2).1, (trc_1 hq_69.2).2]; rw [hq_69.1]; simp [voP, voV, voB, comesV, comesB, givesV, givesB, addsV, addsB, c_41, c_59], trc_le hq_69.2 (bgL_le _ (Nat.zero_le 30))⟩) (rfl) hP hD hS (Nat.le_of_ble_eq_true rfl) (Nat.le_of_ble_eq_true rfl) dX0_voice_103
        · -- fall 44
          refine lv_aload hx hb dX0_voice_44 (lv_at hl 0 rfl) ?_
          refine lv_iload_n hx hb dX0_voice_46 rfl (lv_at hl 4 rfl) ?_
          refine lv_aload_n hx hb dX0_voice_47 rfl (lv_at hl 1 rfl) ?_
          refine fx_get X hE (hR.at hS) 0 rfl rfl 4 rfl q239 rfl rfl dX0_voice_48 ?_
          refine fx_ci (va_runU (As := [.int xv, .ref (ax 4)]) (rest := []) X (xX7_adds_7 l E ax (tl (nn til)) (nI (nn til)) (sa (32 + 2 * (nn til) + 1)) tr 0 xv (by first | assumption | omega) _) (va_cwO 2 X.2.2.2.2 (lw_O q971 q974 q972 q990 q984 q77 q985) rfl rfl rfl q988 ⟨by decide +kernel, by decide +kernel, hdX7_adds.2.2⟩ ⟨Nat.le_of_ble_eq_true rfl, Nat.le_of_ble_eq_true rfl⟩) (fx_preV (fx_pre hE hP hD hS hR [0, 1] rfl rfl (fx_rcx ((List.mem_append_right _ hc)) fx_rc0)) (va_recv hE.1 (fx_one (hR.at hS) (List.mem_append_right _ hc)) (ci := 7) (q0 := 0) rfl rfl)) rfl rfl hl.1 rfl (lv_room (Nat.le_of_ble_eq_true rfl)) dX0_voice_51 ⟨Nat.le_of_ble_eq_true rfl, Nat.le_of_ble_eq_true rfl⟩) hP hD hS hA [0, 1] rfl rfl (fun r_51 u H locs hq_51 hP hD hS => ?_)
          obtain ⟨tr2_51, tn2_51⟩ := u
          replace hP : va_P E.1 clA [(ax 4, .inr (4, [.ref (ax 60), .int (nI tn2_51)])), (ax 60, .inl (E.2 1, 30, .inl tr2_51)), (ax 5, .inl (E.2 0, 7, .inl er))] _ := hP
          replace hD : va_D A [(ax 4, .inr (4, [.ref (ax 60), .int (nI tn2_51)])), (ax 60, .inl (E.2 1, 30, .inl tr2_51)), (ax 5, .inl (E.2 0, 7, .inl er))] := hD
          replace hq_51 : r_51 = addsV 1 (nI (nn til)) xv ∧ (tr2_51, tn2_51) = bgL (tr, 0) (addsB 1) := hq_51
          refine lv_goto (tgt := 103) hx hb dX0_voice_54 (by decide) ?_
          exact hret r_51 (tr2_51, tn2_51, er) (⟨by rw [voice_, if_pos (by simp [hb_1, hb_10]), hw]; rw [(trc_1 hq_51.2).1, (trc_1 hq_51.2).2]; rw [hq_51.1]; simp [voP, voV, voB, comesV, comesB, givesV, givesB, addsV, addsB, c_41], trc_le hq_51.2 (bgL_le _ (Nat.zero_le 30))⟩) (rfl) hP hD hS (Nat.le_of_ble_eq_true rfl) (Nat.le_of_ble_eq_true rfl) dX0_voice_103
      ·
        have hc : ((tl (nn til), .inr (8, [.int (nI (nn til)), .int (sa (32 + 2 * (nn til) + 1))])) : Nat × va_E) ∈ PL := by have hz := hTL (nn til) g1; rw [hw] at hz; exact hz
        refine lv_iload_n hx hb dX0_voice_40 rfl (lv_at hl 3 rfl) ?_
        refine lv_if_ne (tgt := 57) hx hb dX0_voice_41 (by decide) (fun c_41 => ?_) (fun c_41 => ?_)
        · -- jump 57
          refine lv_iload_n hx hb dX0_voice_57 rfl (lv_at hl 3 rfl) ?_
          refine lv_iconst (v := 1) hx hb dX0_voice_58 rfl ?_
          refine lv_icmp_ne (tgt := 75) hx hb dX0_voice_59 (by decide) (fun c_59 => ?_) (fun c_59 => ?_)
          · -- jump 75
            refine lv_iload_n hx hb dX0_voice_75 rfl (lv_at hl 3 rfl) ?_
            refine lv_iconst (v := 2) hx hb dX0_voice_76 rfl ?_
            refine lv_icmp_ne (tgt := 93) hx hb dX0_voice_77 (by decide) (fun c_77 => ?_) (fun c_77 => ?_)
            · -- jump 93
              refine lv_aload hx hb dX0_voice_93 (lv_at hl 0 rfl) ?_
              refine lv_iload_n hx hb dX0_voice_95 rfl (lv_at hl 4 rfl) ?_
              refine lv_aload_n hx hb dX0_voice_96 rfl (lv_at hl 1 rfl) ?_
              refine fx_get X hE (hR.at hS) 0 rfl rfl 4 rfl q239 rfl rfl dX0_voice_97 ?_
              refine fz_ci (vz_runU (As := [.int xv, .ref (ax 4)]) (rest := []) X (xX3_parts_8 l E ks ax (tl (nn til)) (nI (nn til)) (sa (32 + 2 * (nn til) + 1)) tr 0 xv (by first | assumption | omega) (by first | assumption | omega) _) (va_cwU 2 X.2.2.2.2 (lw_U q1067 q1070 q1079 q1068 q72 q1076) rfl rfl rfl rfl hdX3_parts ⟨Nat.le_of_ble_eq_true rfl, Nat.le_of_ble_eq_true rfl⟩) (fx_preV (fz_pre hE hP hD hS hR hZ hA [0, 1] rfl rfl (fx_rcx ((List.mem_append_right _ hc)) fx_rc0)) (va_recv hE.1 (fx_one (hR.at hS) (List.mem_append_right _ hc)) (ci := 8) (q0 := 0) rfl rfl)) rfl rfl hl.1 rfl (lv_room (Nat.le_of_ble_eq_true rfl)) dX0_voice_100 ⟨Nat.le_of_ble_eq_true rfl, Nat.le_of_ble_eq_true rfl⟩) hP hD hS hA [0, 1] rfl rfl (fun qx_100 u H locs ce hqx_100 hP hD hS hce hcv hcl => ?_) (fun r_100 u H locs hq_100 hP hD hS => ?_)
              · -- thrown
                obtain ⟨trx_100x, tnx_100x⟩ := u
                replace hP : va_P E.1 clA [(ax 4, .inr (4, [.ref (ax 60), .int (nI tnx_100x)])), (ax 60, .inl (E.2 1, 30, .inl trx_100x)), (ax 5, .inl (E.2 0, 7, .inl er))] _ := hP
                replace hD : va_D A [(ax 4, .inr (4, [.ref (ax 60), .int (nI tnx_100x)])), (ax 60, .inl (E.2 1, 30, .inl trx_100x)), (ax 5, .inl (E.2 0, 7, .inl er))] := hD
                replace hqx_100 : (sa (32 + 2 * (nn til) + 1)) - (nI (nn til)) = 0 ∧ (trx_100x, tnx_100x) = bgL (tr, 0) [13] := hqx_100
                refine vx_catch X.2.2.2.1 [] ⟨40, 103, 104, 344⟩ _ (htab.trans rfl) (fun _ h => nomatch h) rfl (by decide) (X.2.2.2.2 _ q942) (va_tabs rfl rfl (hE.2.1 _ (List.mem_of_getElem? (i := 42) rfl))) hce hcv hcl ?_
                refine lv_astore (lv' := [(5, .ref qx_100), (4, .ref (tl (nn til))), (0, .ref (ax 19)), (1, .int til), (2, .int vo), (3, .int xv)]) hx hb dX0_voice_104 hl (by decide) rfl (fun ls hl => ?_)
                refine lv_aload_n hx hb dX0_voice_106 rfl (lv_at hl 2 rfl) ?_
                refine lv_bipush (v := 6) hx hb dX0_voice_107 rfl ?_
                refine fx_ci (va_runV (As := [.int 6]) (rest := []) X (xX0_finds l E ax im bn bm fm ff fl er 6 (by decide) _) (cwV 1 X.2.2.2.2 (lw_V q303 q305 qs0 q69 q306) rfl rfl rfl ⟨rfl, hdX0_finds⟩ ⟨Nat.le_of_ble_eq_true rfl, Nat.le_of_ble_eq_true rfl⟩) (fx_preV (fx_pre hE hP hD hS hR [2] rfl rfl (fx_rcr 0 rfl fx_rc0)) (va_recv hE.1 (hR.at hS) (ci := 0) (q0 := 0) rfl rfl)) rfl rfl hl.1 rfl (lv_room (Nat.le_of_ble_eq_true rfl)) dX0_voice_109 ⟨Nat.le_refl _, Nat.le_refl _⟩) hP hD hS hA [2] rfl rfl (fun r_109 u H locs hq_109 hP hD hS => ?_)
                replace hP : va_P E.1 clA [(ax 4, .inr (4, [.ref (ax 60), .int (nI tnx_100x)])), (ax 60, .inl (E.2 1, 30, .inl trx_100x)), (ax 5, .inl (E.2 0, 7, .inl (upd er 6 (er 6 + 1))))] _ := hP
                replace hD : va_D A [(ax 4, .inr (4, [.ref (ax 60), .int (nI tnx_100x)])), (ax 60, .inl (E.2 1, 30, .inl trx_100x)), (ax 5, .inl (E.2 0, 7, .inl (upd er 6 (er 6 + 1))))] := hD
                replace hq_109 : r_109 = erv 6 := hq_109
                exact hret r_109 (trx_100x, tnx_100x, (upd er 6 (er 6 + 1))) (⟨by rw [voice_, if_pos (by simp [hb_1, hb_10]), hw]; rw [(trc_1 hqx_100.2).1, (trc_1 hqx_100.2).2]; rw [hq_109]; simp [voP, voV, voB, partsB, c_41, c_59, c_77, hqx_100.1, erI], trc_le hqx_100.2 (bgL_le _ (Nat.zero_le 30))⟩) (rfl) hP hD hS (Nat.le_refl _) (Nat.le_refl _) dX0_voice_112
              · -- back
                obtain ⟨tr2_100, tn2_100⟩ := u
                replace hP : va_P E.1 clA [(ax 4, .inr (4, [.ref (ax 60), .int (nI tn2_100)])), (ax 60, .inl (E.2 1, 30, .inl tr2_100)), (ax 5, .inl (E.2 0, 7, .inl er))] _ := hP
                replace hD : va_D A [(ax 4, .inr (4, [.ref (ax 60), .int (nI tn2_100)])), (ax 60, .inl (E.2 1, 30, .inl tr2_100)), (ax 5, .inl (E.2 0, 7, .inl er))] := hD
                replace hq_100 : ¬ (sa (32 + 2 * (nn til) + 1)) - (nI (nn til)) = 0 ∧ r_100 = xv / ((sa (32 + 2 * (nn til) + 1)) - (nI (nn til))) ∧ (tr2_100, tn2_100) = bgL (tr, 0) [13] := hq_100
                exact hret r_100 (tr2_100, tn2_100, er) (⟨by rw [voice_, if_pos (by simp [hb_1, hb_10]), hw]; rw [(trc_1 hq_100.2.2).1, (trc_1 hq_100.2.2).2]; rw [hq_100.2.1]; simp [voP, voV, voB, partsV, partsB, comesV, comesB, addsV, addsB, c_41, c_59, c_77, hq_100.1], trc_le hq_100.2.2 (bgL_le _ (Nat.zero_le 30))⟩) (rfl) hP hD hS (Nat.le_of_ble_eq_true rfl) (Nat.le_of_ble_eq_true rfl) dX0_voice_103
            · -- fall 80
              refine lv_aload hx hb dX0_voice_80 (lv_at hl 0 rfl) ?_
              refine lv_iload_n hx hb dX0_voice_82 rfl (lv_at hl 4 rfl) ?_
              refine lv_aload_n hx hb dX0_voice_83 rfl (lv_at hl 1 rfl) ?_
              refine fx_get X hE (hR.at hS) 0 rfl rfl 4 rfl q239 rfl rfl dX0_voice_84 ?_
              refine fx_ci (va_runU (As := [.int xv, .ref (ax 4)]) (rest := []) X (xX3_gives_8 l E ks ax (tl (nn til)) (nI (nn til)) (sa (32 + 2 * (nn til) + 1)) tr 0 xv (by first | assumption | omega) _) (va_cwU 2 X.2.2.2.2 (lw_U q1047 q1050 q1065 q1048 q72 q1056) rfl rfl rfl rfl hdX3_gives ⟨Nat.le_of_ble_eq_true rfl, Nat.le_of_ble_eq_true rfl⟩) (fx_preV (fz_pre hE hP hD hS hR hZ hA [0, 1] rfl rfl (fx_rcx ((List.mem_append_right _ hc)) fx_rc0)) (va_recv hE.1 (fx_one (hR.at hS) (List.mem_append_right _ hc)) (ci := 8) (q0 := 0) rfl rfl)) rfl rfl hl.1 rfl (lv_room (Nat.le_of_ble_eq_true rfl)) dX0_voice_87 ⟨Nat.le_of_ble_eq_true rfl, Nat.le_of_ble_eq_true rfl⟩) hP hD hS hA [0, 1] rfl rfl (fun r_87 u H locs hq_87 hP hD hS => ?_)
              obtain ⟨tr2_87, tn2_87⟩ := u
              replace hP : va_P E.1 clA [(ax 4, .inr (4, [.ref (ax 60), .int (nI tn2_87)])), (ax 60, .inl (E.2 1, 30, .inl tr2_87)), (ax 5, .inl (E.2 0, 7, .inl er))] _ := hP
              replace hD : va_D A [(ax 4, .inr (4, [.ref (ax 60), .int (nI tn2_87)])), (ax 60, .inl (E.2 1, 30, .inl tr2_87)), (ax 5, .inl (E.2 0, 7, .inl er))] := hD
              replace hq_87 : r_87 = givesV 0 2 (nI (nn til)) (sa (32 + 2 * (nn til) + 1)) xv ∧ (tr2_87, tn2_87) = bgL (tr, 0) (givesB 0 2) := hq_87
              refine lv_goto (tgt := 103) hx hb dX0_voice_90 (by decide) ?_
              exact hret r_87 (tr2_87, tn2_87, er) (⟨by rw [voice_, if_pos (by simp [hb_1, hb_10]), hw]; rw [(trc_1 hq_87.2).1, (trc_1 hq_87.2).2]; rw [hq_87.1]; simp [voP, voV, voB, comesV, comesB, givesV, givesB, addsV, addsB, c_41, c_59, c_77], trc_le hq_87.2 (bgL_le _ (Nat.zero_le 30))⟩) (rfl) hP hD hS (Nat.le_of_ble_eq_true rfl) (Nat.le_of_ble_eq_true rfl) dX0_voice_103
          · -- fall 62
            refine lv_aload hx hb dX0_voice_62 (lv_at hl 0 rfl) ?_
            refine lv_iload_n hx hb dX0_voice_64 rfl (lv_at hl 4 rfl) ?_
            refine lv_aload_n hx hb dX0_voice_65 rfl (lv_at hl 1 rfl) ?_
            refine fx_get X hE (hR.at hS) 0 rfl rfl 4 rfl q239 rfl rfl dX0_voice_66 ?_
            refine fx_ci (df_runO (As := [.int xv, .ref (ax 4)]) (rest := []) (x := yTc) (owner := "FigureTill$Comes") X (xX8_comes_8 l E ks ax (tl (nn til)) (nI (nn til)) (sa (32 + 2 * (nn til) + 1)) tr 0 xv (by first | assumption | omega) _) ⟨rfl, rfl, Nat.le_of_ble_eq_true rfl, Nat.le_of_ble_eq_true rfl⟩ (lw_meth q1007) List.mem_cons_self q78 q1006 hdX8_comes.2.2 ⟨by decide, by decide⟩ (va_tabs rfl rfl (hZ.1.2.2.1 _ (List.mem_of_getElem? (i := 0) rfl))) (va_tabs rfl rfl (hZ.1.2.2.1 _ (List.mem_of_getElem? (i := 1) rfl))) (va_Decl.of (X.2.2.2.2 _ q1009) (X.2.2.2.2 _ q1010)) q1041 (fx_preV (fz_pre hE hP hD hS hR hZ hA [0, 1] rfl rfl (fx_rcx ((List.mem_append_right _ hc)) fx_rc0)) (va_recv hE.1 (fx_one (hR.at hS) (List.mem_append_right _ hc)) (ci := 8) (q0 := 0) rfl rfl)) rfl rfl hl.1 rfl (lv_room (Nat.le_of_ble_eq_true rfl)) dX0_voice_69 ⟨Nat.le_of_ble_eq_true rfl, Nat.le_of_ble_eq_true rfl⟩) hP hD hS hA [0, 1] rfl rfl (fun r_69 u H locs hq_69 hP hD hS => ?_)
            obtain ⟨tr2_69, tn2_69⟩ := u
            replace hP : va_P E.1 clA [(ax 4, .inr (4, [.ref (ax 60), .int (nI tn2_69)])), (ax 60, .inl (E.2 1, 30, .inl tr2_69)), (ax 5, .inl (E.2 0, 7, .inl er))] _ := hP
            replace hD : va_D A [(ax 4, .inr (4, [.ref (ax 60), .int (nI tn2_69)])), (ax 60, .inl (E.2 1, 30, .inl tr2_69)), (ax 5, .inl (E.2 0, 7, .inl er))] := hD
            replace hq_69 : r_69 = comesV 2 2 (nI (nn til)) (sa (32 + 2 * (nn til) + 1)) xv ∧ (tr2_69, tn2_69) = bgL (tr, 0) (comesB 2 2) := hq_69
            refine lv_goto (tgt := 103) hx hb dX0_voice_72 (by decide) ?_
            exact hret r_69 (tr2_69, tn2_69, er) (⟨by rw [voice_, if_pos (by simp [hb_1, hb_10]), hw]; rw [(trc_1 hq_69.2).1, (trc_1 hq_69.2).2]; rw [hq_69.1]; simp [voP, voV, voB, comesV, comesB, givesV, givesB, addsV, addsB, c_41, c_59], trc_le hq_69.2 (bgL_le _ (Nat.zero_le 30))⟩) (rfl) hP hD hS (Nat.le_of_ble_eq_true rfl) (Nat.le_of_ble_eq_true rfl) dX0_voice_103
        · -- fall 44
          refine lv_aload hx hb dX0_voice_44 (lv_at hl 0 rfl) ?_
          refine lv_iload_n hx hb dX0_voice_46 rfl (lv_at hl 4 rfl) ?_
          refine lv_aload_n hx hb dX0_voice_47 rfl (lv_at hl 1 rfl) ?_
          refine fx_get X hE (hR.at hS) 0 rfl rfl 4 rfl q239 rfl rfl dX0_voice_48 ?_
          refine fx_ci (va_runU (As := [.int xv, .ref (ax 4)]) (rest := []) X (xX3_adds_8 l E ax (tl (nn til)) (nI (nn til)) (sa (32 + 2 * (nn til) + 1)) tr 0 xv (by first | assumption | omega) _) (va_cwU 2 X.2.2.2.2 (lw_U q971 q974 q992 q972 q72 q988) rfl rfl rfl rfl hdX3_adds ⟨Nat.le_of_ble_eq_true rfl, Nat.le_of_ble_eq_true rfl⟩) (fx_preV (fx_pre hE hP hD hS hR [0, 1] rfl rfl (fx_rcx ((List.mem_append_right _ hc)) fx_rc0)) (va_recv hE.1 (fx_one (hR.at hS) (List.mem_append_right _ hc)) (ci := 8) (q0 := 0) rfl rfl)) rfl rfl hl.1 rfl (lv_room (Nat.le_of_ble_eq_true rfl)) dX0_voice_51 ⟨Nat.le_of_ble_eq_true rfl, Nat.le_of_ble_eq_true rfl⟩) hP hD hS hA [0, 1] rfl rfl (fun r_51 u H locs hq_51 hP hD hS => ?_)
          obtain ⟨tr2_51, tn2_51⟩ := u
          replace hP : va_P E.1 clA [(ax 4, .inr (4, [.ref (ax 60), .int (nI tn2_51)])), (ax 60, .inl (E.2 1, 30, .inl tr2_51)), (ax 5, .inl (E.2 0, 7, .inl er))] _ := hP
          replace hD : va_D A [(ax 4, .inr (4, [.ref (ax 60), .int (nI tn2_51)])), (ax 60, .inl (E.2 1, 30, .inl tr2_51)), (ax 5, .inl (E.2 0, 7, .inl er))] := hD
          replace hq_51 : r_51 = addsV 0 (nI (nn til)) xv ∧ (tr2_51, tn2_51) = bgL (tr, 0) (addsB 0) := hq_51
          refine lv_goto (tgt := 103) hx hb dX0_voice_54 (by decide) ?_
          exact hret r_51 (tr2_51, tn2_51, er) (⟨by rw [voice_, if_pos (by simp [hb_1, hb_10]), hw]; rw [(trc_1 hq_51.2).1, (trc_1 hq_51.2).2]; rw [hq_51.1]; simp [voP, voV, voB, comesV, comesB, givesV, givesB, addsV, addsB, c_41], trc_le hq_51.2 (bgL_le _ (Nat.zero_le 30))⟩) (rfl) hP hD hS (Nat.le_of_ble_eq_true rfl) (Nat.le_of_ble_eq_true rfl) dX0_voice_103
      ·
        have hc : ((tl (nn til), .inr (9, [.int (nI (nn til)), .int (sa (32 + 2 * (nn til) + 1))])) : Nat × va_E) ∈ PL := by have hz := hTL (nn til) g1; rw [hw] at hz; exact hz
        refine lv_iload_n hx hb dX0_voice_40 rfl (lv_at hl 3 rfl) ?_
        refine lv_if_ne (tgt := 57) hx hb dX0_voice_41 (by decide) (fun c_41 => ?_) (fun c_41 => ?_)
        · -- jump 57
          refine lv_iload_n hx hb dX0_voice_57 rfl (lv_at hl 3 rfl) ?_
          refine lv_iconst (v := 1) hx hb dX0_voice_58 rfl ?_
          refine lv_icmp_ne (tgt := 75) hx hb dX0_voice_59 (by decide) (fun c_59 => ?_) (fun c_59 => ?_)
          · -- jump 75
            refine lv_iload_n hx hb dX0_voice_75 rfl (lv_at hl 3 rfl) ?_
            refine lv_iconst (v := 2) hx hb dX0_voice_76 rfl ?_
            refine lv_icmp_ne (tgt := 93) hx hb dX0_voice_77 (by decide) (fun c_77 => ?_) (fun c_77 => ?_)
            · -- jump 93
              refine lv_aload hx hb dX0_voice_93 (lv_at hl 0 rfl) ?_
              refine lv_iload_n hx hb dX0_voice_95 rfl (lv_at hl 4 rfl) ?_
              refine lv_aload_n hx hb dX0_voice_96 rfl (lv_at hl 1 rfl) ?_
              refine fx_get X hE (hR.at hS) 0 rfl rfl 4 rfl q239 rfl rfl dX0_voice_97 ?_
              refine fz_ci (vz_runU (As := [.int xv, .ref (ax 4)]) (rest := []) X (xX3_parts_9 l E ks ax (tl (nn til)) (nI (nn til)) (sa (32 + 2 * (nn til) + 1)) tr 0 xv (by first | assumption | omega) (by first | assumption | omega) _) (va_cwU 2 X.2.2.2.2 (lw_U q1067 q1070 q1071 q1068 q72 q1076) rfl rfl rfl rfl hdX3_parts ⟨Nat.le_of_ble_eq_true rfl, Nat.le_of_ble_eq_true rfl⟩) (fx_preV (fz_pre hE hP hD hS hR hZ hA [0, 1] rfl rfl (fx_rcx ((List.mem_append_right _ hc)) fx_rc0)) (va_recv hE.1 (fx_one (hR.at hS) (List.mem_append_right _ hc)) (ci := 9) (q0 := 0) rfl rfl)) rfl rfl hl.1 rfl (lv_room (Nat.le_of_ble_eq_true rfl)) dX0_voice_100 ⟨Nat.le_of_ble_eq_true rfl, Nat.le_of_ble_eq_true rfl⟩) hP hD hS hA [0, 1] rfl rfl (fun qx_100 u H locs ce hqx_100 hP hD hS hce hcv hcl => ?_) (fun r_100 u H locs hq_100 hP hD hS => ?_)
              · -- thrown
                obtain ⟨trx_100x, tnx_100x⟩ := u
                replace hP : va_P E.1 clA [(ax 4, .inr (4, [.ref (ax 60), .int (nI tnx_100x)])), (ax 60, .inl (E.2 1, 30, .inl trx_100x)), (ax 5, .inl (E.2 0, 7, .inl er))] _ := hP
                replace hD : va_D A [(ax 4, .inr (4, [.ref (ax 60), .int (nI tnx_100x)])), (ax 60, .inl (E.2 1, 30, .inl trx_100x)), (ax 5, .inl (E.2 0, 7, .inl er))] := hD
                replace hqx_100 : (sa (32 + 2 * (nn til) + 1)) - (nI (nn til)) = 0 ∧ (trx_100x, tnx_100x) = bgL (tr, 0) [13] := hqx_100
                refine vx_catch X.2.2.2.1 [] ⟨40, 103, 104, 344⟩ _ (htab.trans rfl) (fun _ h => nomatch h) rfl (by decide) (X.2.2.2.2 _ q942) (va_tabs rfl rfl (hE.2.1 _ (List.mem_of_getElem? (i := 42) rfl))) hce hcv hcl ?_
                refine lv_astore (lv' := [(5, .ref qx_100), (4, .ref (tl (nn til))), (0, .ref (ax 19)), (1, .int til), (2, .int vo), (3, .int xv)]) hx hb dX0_voice_104 hl (by decide) rfl (fun ls hl => ?_)
                refine lv_aload_n hx hb dX0_voice_106 rfl (lv_at hl 2 rfl) ?_
                refine lv_bipush (v := 6) hx hb dX0_voice_107 rfl ?_
                refine fx_ci (va_runV (As := [.int 6]) (rest := []) X (xX0_finds l E ax im bn bm fm ff fl er 6 (by decide) _) (cwV 1 X.2.2.2.2 (lw_V q303 q305 qs0 q69 q306) rfl rfl rfl ⟨rfl, hdX0_finds⟩ ⟨Nat.le_of_ble_eq_true rfl, Nat.le_of_ble_eq_true rfl⟩) (fx_preV (fx_pre hE hP hD hS hR [2] rfl rfl (fx_rcr 0 rfl fx_rc0)) (va_recv hE.1 (hR.at hS) (ci := 0) (q0 := 0) rfl rfl)) rfl rfl hl.1 rfl (lv_room (Nat.le_of_ble_eq_true rfl)) dX0_voice_109 ⟨Nat.le_refl _, Nat.le_refl _⟩) hP hD hS hA [2] rfl rfl (fun r_109 u H locs hq_109 hP hD hS => ?_)
                replace hP : va_P E.1 clA [(ax 4, .inr (4, [.ref (ax 60), .int (nI tnx_100x)])), (ax 60, .inl (E.2 1, 30, .inl trx_100x)), (ax 5, .inl (E.2 0, 7, .inl (upd er 6 (er 6 + 1))))] _ := hP
                replace hD : va_D A [(ax 4, .inr (4, [.ref (ax 60), .int (nI tnx_100x)])), (ax 60, .inl (E.2 1, 30, .inl trx_100x)), (ax 5, .inl (E.2 0, 7, .inl (upd er 6 (er 6 + 1))))] := hD
                replace hq_109 : r_109 = erv 6 := hq_109
                exact hret r_109 (trx_100x, tnx_100x, (upd er 6 (er 6 + 1))) (⟨by rw [voice_, if_pos (by simp [hb_1, hb_10]), hw]; rw [(trc_1 hqx_100.2).1, (trc_1 hqx_100.2).2]; rw [hq_109]; simp [voP, voV, voB, partsB, c_41, c_59, c_77, hqx_100.1, erI], trc_le hqx_100.2 (bgL_le _ (Nat.zero_le 30))⟩) (rfl) hP hD hS (Nat.le_refl _) (Nat.le_refl _) dX0_voice_112
              · -- back
                obtain ⟨tr2_100, tn2_100⟩ := u
                replace hP : va_P E.1 clA [(ax 4, .inr (4, [.ref (ax 60), .int (nI tn2_100)])), (ax 60, .inl (E.2 1, 30, .inl tr2_100)), (ax 5, .inl (E.2 0, 7, .inl er))] _ := hP
                replace hD : va_D A [(ax 4, .inr (4, [.ref (ax 60), .int (nI tn2_100)])), (ax 60, .inl (E.2 1, 30, .inl tr2_100)), (ax 5, .inl (E.2 0, 7, .inl er))] := hD
                replace hq_100 : ¬ (sa (32 + 2 * (nn til) + 1)) - (nI (nn til)) = 0 ∧ r_100 = xv / ((sa (32 + 2 * (nn til) + 1)) - (nI (nn til))) ∧ (tr2_100, tn2_100) = bgL (tr, 0) [13] := hq_100
                exact hret r_100 (tr2_100, tn2_100, er) (⟨by rw [voice_, if_pos (by simp [hb_1, hb_10]), hw]; rw [(trc_1 hq_100.2.2).1, (trc_1 hq_100.2.2).2]; rw [hq_100.2.1]; simp [voP, voV, voB, partsV, partsB, comesV, comesB, addsV, addsB, c_41, c_59, c_77, hq_100.1], trc_le hq_100.2.2 (bgL_le _ (Nat.zero_le 30))⟩) (rfl) hP hD hS (Nat.le_of_ble_eq_true rfl) (Nat.le_of_ble_eq_true rfl) dX0_voice_103
            · -- fall 80
              refine lv_aload hx hb dX0_voice_80 (lv_at hl 0 rfl) ?_
              refine lv_iload_n hx hb dX0_voice_82 rfl (lv_at hl 4 rfl) ?_
              refine lv_aload_n hx hb dX0_voice_83 rfl (lv_at hl 1 rfl) ?_
              refine fx_get X hE (hR.at hS) 0 rfl rfl 4 rfl q239 rfl rfl dX0_voice_84 ?_
              refine fx_ci (va_runU (As := [.int xv, .ref (ax 4)]) (rest := []) X (xX9_gives_9 l E ks ax (tl (nn til)) (nI (nn til)) (sa (32 + 2 * (nn til) + 1)) tr 0 xv (by first | assumption | omega) _) (va_cwO 2 X.2.2.2.2 (lw_O q1047 q1050 q1048 q1051 q1052 q79 q1053) rfl rfl rfl q1056 ⟨by decide +kernel, by decide +kernel, hdX9_gives.2.2⟩ ⟨Nat.le_of_ble_eq_true rfl, Nat.le_of_ble_eq_true rfl⟩) (fx_preV (fz_pre hE hP hD hS hR hZ hA [0, 1] rfl rfl (fx_rcx ((List.mem_append_right _ hc)) fx_rc0)) (va_recv hE.1 (fx_one (hR.at hS) (List.mem_append_right _ hc)) (ci := 9) (q0 := 0) rfl rfl)) rfl rfl hl.1 rfl (lv_room (Nat.le_of_ble_eq_true rfl)) dX0_voice_87 ⟨Nat.le_of_ble_eq_true rfl, Nat.le_of_ble_eq_true rfl⟩) hP hD hS hA [0, 1] rfl rfl (fun r_87 u H locs hq_87 hP hD hS => ?_)
              obtain ⟨tr2_87, tn2_87⟩ := u
              replace hP : va_P E.1 clA [(ax 4, .inr (4, [.ref (ax 60), .int (nI tn2_87)])), (ax 60, .inl (E.2 1, 30, .inl tr2_87)), (ax 5, .inl (E.2 0, 7, .inl er))] _ := hP
              replace hD : va_D A [(ax 4, .inr (4, [.ref (ax 60), .int (nI tn2_87)])), (ax 60, .inl (E.2 1, 30, .inl tr2_87)), (ax 5, .inl (E.2 0, 7, .inl er))] := hD
              replace hq_87 : r_87 = givesV 3 3 (nI (nn til)) (sa (32 + 2 * (nn til) + 1)) xv ∧ (tr2_87, tn2_87) = bgL (tr, 0) (givesB 3 3) := hq_87
              refine lv_goto (tgt := 103) hx hb dX0_voice_90 (by decide) ?_
              exact hret r_87 (tr2_87, tn2_87, er) (⟨by rw [voice_, if_pos (by simp [hb_1, hb_10]), hw]; rw [(trc_1 hq_87.2).1, (trc_1 hq_87.2).2]; rw [hq_87.1]; simp [voP, voV, voB, comesV, comesB, givesV, givesB, addsV, addsB, c_41, c_59, c_77], trc_le hq_87.2 (bgL_le _ (Nat.zero_le 30))⟩) (rfl) hP hD hS (Nat.le_of_ble_eq_true rfl) (Nat.le_of_ble_eq_true rfl) dX0_voice_103
          · -- fall 62
            refine lv_aload hx hb dX0_voice_62 (lv_at hl 0 rfl) ?_
            refine lv_iload_n hx hb dX0_voice_64 rfl (lv_at hl 4 rfl) ?_
            refine lv_aload_n hx hb dX0_voice_65 rfl (lv_at hl 1 rfl) ?_
            refine fx_get X hE (hR.at hS) 0 rfl rfl 4 rfl q239 rfl rfl dX0_voice_66 ?_
            refine fx_ci (df_runV (As := [.int xv, .ref (ax 4)]) (rest := []) (x := yTc) X (xX16_comes_9 l E ax (tl (nn til)) (nI (nn til)) (sa (32 + 2 * (nn til) + 1)) tr 0 xv (by first | assumption | omega) _) ⟨rfl, rfl, Nat.le_of_ble_eq_true rfl, Nat.le_of_ble_eq_true rfl⟩ (lw_meth q1010) List.mem_cons_self q1595 q1009 ⟨rfl, rfl⟩ hdX16_comes.2.2 ⟨hdX16_comes.1, hdX16_comes.2.1⟩ (va_tabs rfl rfl (hZ.1.2.2.1 _ (List.mem_of_getElem? (i := 0) rfl))) (va_tabs rfl rfl (hZ.1.2.2.1 _ (List.mem_of_getElem? (i := 1) rfl))) (va_tabs rfl rfl hZ.1.2.2.2.2) (df_ld (hZ.1.2.2.2.1 _ (List.mem_of_getElem? (i := 2) rfl))) (fx_preV (fx_pre hE hP hD hS hR [0, 1] rfl rfl (fx_rcx ((List.mem_append_right _ hc)) fx_rc0)) (va_recv hE.1 (fx_one (hR.at hS) (List.mem_append_right _ hc)) (ci := 9) (q0 := 0) rfl rfl)) rfl rfl hl.1 rfl (lv_room (Nat.le_of_ble_eq_true rfl)) dX0_voice_69 ⟨Nat.le_of_ble_eq_true rfl, Nat.le_of_ble_eq_true rfl⟩) hP hD hS hA [0, 1] rfl rfl (fun r_69 u H locs hq_69 hP hD hS => ?_)
            obtain ⟨tr2_69, tn2_69⟩ := u
            replace hP : va_P E.1 clA [(ax 4, .inr (4, [.ref (ax 60), .int (nI tn2_69)])), (ax 60, .inl (E.2 1, 30, .inl tr2_69)), (ax 5, .inl (E.2 0, 7, .inl er))] _ := hP
            replace hD : va_D A [(ax 4, .inr (4, [.ref (ax 60), .int (nI tn2_69)])), (ax 60, .inl (E.2 1, 30, .inl tr2_69)), (ax 5, .inl (E.2 0, 7, .inl er))] := hD
            replace hq_69 : r_69 = comesV 0 3 (nI (nn til)) (sa (32 + 2 * (nn til) + 1)) xv ∧ (tr2_69, tn2_69) = bgL (tr, 0) (comesB 0 3) := hq_69
            refine lv_goto (tgt := 103) hx hb dX0_voice_72 (by decide) ?_
            exact hret r_69 (tr2_69, tn2_69, er) (⟨by rw [voice_, if_pos (by simp [hb_1, hb_10]), hw]; rw [(trc_1 hq_69.2).1, (trc_1 hq_69.2).2]; rw [hq_69.1]; simp [voP, voV, voB, comesV, comesB, givesV, givesB, addsV, addsB, c_41, c_59], trc_le hq_69.2 (bgL_le _ (Nat.zero_le 30))⟩) (rfl) hP hD hS (Nat.le_of_ble_eq_true rfl) (Nat.le_of_ble_eq_true rfl) dX0_voice_103
        · -- fall 44
          refine lv_aload hx hb dX0_voice_44 (lv_at hl 0 rfl) ?_
          refine lv_iload_n hx hb dX0_voice_46 rfl (lv_at hl 4 rfl) ?_
          refine lv_aload_n hx hb dX0_voice_47 rfl (lv_at hl 1 rfl) ?_
          refine fx_get X hE (hR.at hS) 0 rfl rfl 4 rfl q239 rfl rfl dX0_voice_48 ?_
          refine fx_ci (va_runU (As := [.int xv, .ref (ax 4)]) (rest := []) X (xX3_adds_9 l E ax (tl (nn til)) (nI (nn til)) (sa (32 + 2 * (nn til) + 1)) tr 0 xv (by first | assumption | omega) _) (va_cwU 2 X.2.2.2.2 (lw_U q971 q974 q975 q972 q72 q988) rfl rfl rfl rfl hdX3_adds ⟨Nat.le_of_ble_eq_true rfl, Nat.le_of_ble_eq_true rfl⟩) (fx_preV (fx_pre hE hP hD hS hR [0, 1] rfl rfl (fx_rcx ((List.mem_append_right _ hc)) fx_rc0)) (va_recv hE.1 (fx_one (hR.at hS) (List.mem_append_right _ hc)) (ci := 9) (q0 := 0) rfl rfl)) rfl rfl hl.1 rfl (lv_room (Nat.le_of_ble_eq_true rfl)) dX0_voice_51 ⟨Nat.le_of_ble_eq_true rfl, Nat.le_of_ble_eq_true rfl⟩) hP hD hS hA [0, 1] rfl rfl (fun r_51 u H locs hq_51 hP hD hS => ?_)
          obtain ⟨tr2_51, tn2_51⟩ := u
          replace hP : va_P E.1 clA [(ax 4, .inr (4, [.ref (ax 60), .int (nI tn2_51)])), (ax 60, .inl (E.2 1, 30, .inl tr2_51)), (ax 5, .inl (E.2 0, 7, .inl er))] _ := hP
          replace hD : va_D A [(ax 4, .inr (4, [.ref (ax 60), .int (nI tn2_51)])), (ax 60, .inl (E.2 1, 30, .inl tr2_51)), (ax 5, .inl (E.2 0, 7, .inl er))] := hD
          replace hq_51 : r_51 = addsV 0 (nI (nn til)) xv ∧ (tr2_51, tn2_51) = bgL (tr, 0) (addsB 0) := hq_51
          refine lv_goto (tgt := 103) hx hb dX0_voice_54 (by decide) ?_
          exact hret r_51 (tr2_51, tn2_51, er) (⟨by rw [voice_, if_pos (by simp [hb_1, hb_10]), hw]; rw [(trc_1 hq_51.2).1, (trc_1 hq_51.2).2]; rw [hq_51.1]; simp [voP, voV, voB, comesV, comesB, givesV, givesB, addsV, addsB, c_41], trc_le hq_51.2 (bgL_le _ (Nat.zero_le 30))⟩) (rfl) hP hD hS (Nat.le_of_ble_eq_true rfl) (Nat.le_of_ble_eq_true rfl) dX0_voice_103
      ·
        have hc : ((tl (nn til), .inr (10, [.int (nI (nn til)), .int (sa (32 + 2 * (nn til) + 1))])) : Nat × va_E) ∈ PL := by have hz := hTL (nn til) g1; rw [hw] at hz; exact hz
        refine lv_iload_n hx hb dX0_voice_40 rfl (lv_at hl 3 rfl) ?_
        refine lv_if_ne (tgt := 57) hx hb dX0_voice_41 (by decide) (fun c_41 => ?_) (fun c_41 => ?_)
        · -- jump 57
          refine lv_iload_n hx hb dX0_voice_57 rfl (lv_at hl 3 rfl) ?_
          refine lv_iconst (v := 1) hx hb dX0_voice_58 rfl ?_
          refine lv_icmp_ne (tgt := 75) hx hb dX0_voice_59 (by decide) (fun c_59 => ?_) (fun c_59 => ?_)
          · -- jump 75
            refine lv_iload_n hx hb dX0_voice_75 rfl (lv_at hl 3 rfl) ?_
            refine lv_iconst (v := 2) hx hb dX0_voice_76 rfl ?_
            refine lv_icmp_ne (tgt := 93) hx hb dX0_voice_77 (by decide) (fun c_77 => ?_) (fun c_77 => ?_)
            · -- jump 93
              refine lv_aload hx hb dX0_voice_93 (lv_at hl 0 rfl) ?_
              refine lv_iload_n hx hb dX0_voice_95 rfl (lv_at hl 4 rfl) ?_
              refine lv_aload_n hx hb dX0_voice_96 rfl (lv_at hl 1 rfl) ?_
              refine fx_get X hE (hR.at hS) 0 rfl rfl 4 rfl q239 rfl rfl dX0_voice_97 ?_
              refine fz_ci (vz_runU (As := [.int xv, .ref (ax 4)]) (rest := []) X (xX3_parts_10 l E ks ax (tl (nn til)) (nI (nn til)) (sa (32 + 2 * (nn til) + 1)) tr 0 xv (by first | assumption | omega) (by first | assumption | omega) _) (va_cwU 2 X.2.2.2.2 (lw_U q1067 q1070 q1078 q1068 q72 q1076) rfl rfl rfl rfl hdX3_parts ⟨Nat.le_of_ble_eq_true rfl, Nat.le_of_ble_eq_true rfl⟩) (fx_preV (fz_pre hE hP hD hS hR hZ hA [0, 1] rfl rfl (fx_rcx ((List.mem_append_right _ hc)) fx_rc0)) (va_recv hE.1 (fx_one (hR.at hS) (List.mem_append_right _ hc)) (ci := 10) (q0 := 0) rfl rfl)) rfl rfl hl.1 rfl (lv_room (Nat.le_of_ble_eq_true rfl)) dX0_voice_100 ⟨Nat.le_of_ble_eq_true rfl, Nat.le_of_ble_eq_true rfl⟩) hP hD hS hA [0, 1] rfl rfl (fun qx_100 u H locs ce hqx_100 hP hD hS hce hcv hcl => ?_) (fun r_100 u H locs hq_100 hP hD hS => ?_)
              · -- thrown
                obtain ⟨trx_100x, tnx_100x⟩ := u
                replace hP : va_P E.1 clA [(ax 4, .inr (4, [.ref (ax 60), .int (nI tnx_100x)])), (ax 60, .inl (E.2 1, 30, .inl trx_100x)), (ax 5, .inl (E.2 0, 7, .inl er))] _ := hP
                replace hD : va_D A [(ax 4, .inr (4, [.ref (ax 60), .int (nI tnx_100x)])), (ax 60, .inl (E.2 1, 30, .inl trx_100x)), (ax 5, .inl (E.2 0, 7, .inl er))] := hD
                replace hqx_100 : (sa (32 + 2 * (nn til) + 1)) - (nI (nn til)) = 0 ∧ (trx_100x, tnx_100x) = bgL (tr, 0) [13] := hqx_100
                refine vx_catch X.2.2.2.1 [] ⟨40, 103, 104, 344⟩ _ (htab.trans rfl) (fun _ h => nomatch h) rfl (by decide) (X.2.2.2.2 _ q942) (va_tabs rfl rfl (hE.2.1 _ (List.mem_of_getElem? (i := 42) rfl))) hce hcv hcl ?_
                refine lv_astore (lv' := [(5, .ref qx_100), (4, .ref (tl (nn til))), (0, .ref (ax 19)), (1, .int til), (2, .int vo), (3, .int xv)]) hx hb dX0_voice_104 hl (by decide) rfl (fun ls hl => ?_)
                refine lv_aload_n hx hb dX0_voice_106 rfl (lv_at hl 2 rfl) ?_
                refine lv_bipush (v := 6) hx hb dX0_voice_107 rfl ?_
                refine fx_ci (va_runV (As := [.int 6]) (rest := []) X (xX0_finds l E ax im bn bm fm ff fl er 6 (by decide) _) (cwV 1 X.2.2.2.2 (lw_V q303 q305 qs0 q69 q306) rfl rfl rfl ⟨rfl, hdX0_finds⟩ ⟨Nat.le_of_ble_eq_true rfl, Nat.le_of_ble_eq_true rfl⟩) (fx_preV (fx_pre hE hP hD hS hR [2] rfl rfl (fx_rcr 0 rfl fx_rc0)) (va_recv hE.1 (hR.at hS) (ci := 0) (q0 := 0) rfl rfl)) rfl rfl hl.1 rfl (lv_room (Nat.le_of_ble_eq_true rfl)) dX0_voice_109 ⟨Nat.le_refl _, Nat.le_refl _⟩) hP hD hS hA [2] rfl rfl (fun r_109 u H locs hq_109 hP hD hS => ?_)
                replace hP : va_P E.1 clA [(ax 4, .inr (4, [.ref (ax 60), .int (nI tnx_100x)])), (ax 60, .inl (E.2 1, 30, .inl trx_100x)), (ax 5, .inl (E.2 0, 7, .inl (upd er 6 (er 6 + 1))))] _ := hP
                replace hD : va_D A [(ax 4, .inr (4, [.ref (ax 60), .int (nI tnx_100x)])), (ax 60, .inl (E.2 1, 30, .inl trx_100x)), (ax 5, .inl (E.2 0, 7, .inl (upd er 6 (er 6 + 1))))] := hD
                replace hq_109 : r_109 = erv 6 := hq_109
                exact hret r_109 (trx_100x, tnx_100x, (upd er 6 (er 6 + 1))) (⟨by rw [voice_, if_pos (by simp [hb_1, hb_10]), hw]; rw [(trc_1 hqx_100.2).1, (trc_1 hqx_100.2).2]; rw [hq_109]; simp [voP, voV, voB, partsB, c_41, c_59, c_77, hqx_100.1, erI], trc_le hqx_100.2 (bgL_le _ (Nat.zero_le 30))⟩) (rfl) hP hD hS (Nat.le_refl _) (Nat.le_refl _) dX0_voice_112
              · -- back
                obtain ⟨tr2_100, tn2_100⟩ := u
                replace hP : va_P E.1 clA [(ax 4, .inr (4, [.ref (ax 60), .int (nI tn2_100)])), (ax 60, .inl (E.2 1, 30, .inl tr2_100)), (ax 5, .inl (E.2 0, 7, .inl er))] _ := hP
                replace hD : va_D A [(ax 4, .inr (4, [.ref (ax 60), .int (nI tn2_100)])), (ax 60, .inl (E.2 1, 30, .inl tr2_100)), (ax 5, .inl (E.2 0, 7, .inl er))] := hD
                replace hq_100 : ¬ (sa (32 + 2 * (nn til) + 1)) - (nI (nn til)) = 0 ∧ r_100 = xv / ((sa (32 + 2 * (nn til) + 1)) - (nI (nn til))) ∧ (tr2_100, tn2_100) = bgL (tr, 0) [13] := hq_100
                exact hret r_100 (tr2_100, tn2_100, er) (⟨by rw [voice_, if_pos (by simp [hb_1, hb_10]), hw]; rw [(trc_1 hq_100.2.2).1, (trc_1 hq_100.2.2).2]; rw [hq_100.2.1]; simp [voP, voV, voB, partsV, partsB, comesV, comesB, addsV, addsB, c_41, c_59, c_77, hq_100.1], trc_le hq_100.2.2 (bgL_le _ (Nat.zero_le 30))⟩) (rfl) hP hD hS (Nat.le_of_ble_eq_true rfl) (Nat.le_of_ble_eq_true rfl) dX0_voice_103
            · -- fall 80
              refine lv_aload hx hb dX0_voice_80 (lv_at hl 0 rfl) ?_
              refine lv_iload_n hx hb dX0_voice_82 rfl (lv_at hl 4 rfl) ?_
              refine lv_aload_n hx hb dX0_voice_83 rfl (lv_at hl 1 rfl) ?_
              refine fx_get X hE (hR.at hS) 0 rfl rfl 4 rfl q239 rfl rfl dX0_voice_84 ?_
              refine fx_ci (va_runU (As := [.int xv, .ref (ax 4)]) (rest := []) X (xX3_gives_10 l E ks ax (tl (nn til)) (nI (nn til)) (sa (32 + 2 * (nn til) + 1)) tr 0 xv (by first | assumption | omega) _) (va_cwU 2 X.2.2.2.2 (lw_U q1047 q1050 q1064 q1048 q72 q1056) rfl rfl rfl rfl hdX3_gives ⟨Nat.le_of_ble_eq_true rfl, Nat.le_of_ble_eq_true rfl⟩) (fx_preV (fz_pre hE hP hD hS hR hZ hA [0, 1] rfl rfl (fx_rcx ((List.mem_append_right _ hc)) fx_rc0)) (va_recv hE.1 (fx_one (hR.at hS) (List.mem_append_right _ hc)) (ci := 10) (q0 := 0) rfl rfl)) rfl rfl hl.1 rfl (lv_room (Nat.le_of_ble_eq_true rfl)) dX0_voice_87 ⟨Nat.le_of_ble_eq_true rfl, Nat.le_of_ble_eq_true rfl⟩) hP hD hS hA [0, 1] rfl rfl (fun r_87 u H locs hq_87 hP hD hS => ?_)
              obtain ⟨tr2_87, tn2_87⟩ := u
              replace hP : va_P E.1 clA [(ax 4, .inr (4, [.ref (ax 60), .int (nI tn2_87)])), (ax 60, .inl (E.2 1, 30, .inl tr2_87)), (ax 5, .inl (E.2 0, 7, .inl er))] _ := hP
              replace hD : va_D A [(ax 4, .inr (4, [.ref (ax 60), .int (nI tn2_87)])), (ax 60, .inl (E.2 1, 30, .inl tr2_87)), (ax 5, .inl (E.2 0, 7, .inl er))] := hD
              replace hq_87 : r_87 = givesV 0 4 (nI (nn til)) (sa (32 + 2 * (nn til) + 1)) xv ∧ (tr2_87, tn2_87) = bgL (tr, 0) (givesB 0 4) := hq_87
              refine lv_goto (tgt := 103) hx hb dX0_voice_90 (by decide) ?_
              exact hret r_87 (tr2_87, tn2_87, er) (⟨by rw [voice_, if_pos (by simp [hb_1, hb_10]), hw]; rw [(trc_1 hq_87.2).1, (trc_1 hq_87.2).2]; rw [hq_87.1]; simp [voP, voV, voB, comesV, comesB, givesV, givesB, addsV, addsB, c_41, c_59, c_77], trc_le hq_87.2 (bgL_le _ (Nat.zero_le 30))⟩) (rfl) hP hD hS (Nat.le_of_ble_eq_true rfl) (Nat.le_of_ble_eq_true rfl) dX0_voice_103
          · -- fall 62
            refine lv_aload hx hb dX0_voice_62 (lv_at hl 0 rfl) ?_
            refine lv_iload_n hx hb dX0_voice_64 rfl (lv_at hl 4 rfl) ?_
            refine lv_aload_n hx hb dX0_voice_65 rfl (lv_at hl 1 rfl) ?_
            refine fx_get X hE (hR.at hS) 0 rfl rfl 4 rfl q239 rfl rfl dX0_voice_66 ?_
            refine fx_ci (df_runO (As := [.int xv, .ref (ax 4)]) (rest := []) (x := yTc) (owner := "FigureTill$Comes") X (xX10_comes_10 l E ks ax (tl (nn til)) (nI (nn til)) (sa (32 + 2 * (nn til) + 1)) tr 0 xv (by first | assumption | omega) _) ⟨rfl, rfl, Nat.le_of_ble_eq_true rfl, Nat.le_of_ble_eq_true rfl⟩ (lw_meth q1003) List.mem_cons_self q80 q1002 hdX10_comes.2.2 ⟨by decide, by decide⟩ (va_tabs rfl rfl (hZ.1.2.2.1 _ (List.mem_of_getElem? (i := 0) rfl))) (va_tabs rfl rfl (hZ.1.2.2.1 _ (List.mem_of_getElem? (i := 1) rfl))) (va_Decl.of (X.2.2.2.2 _ q1009) (X.2.2.2.2 _ q1010)) q1001 (fx_preV (fz_pre hE hP hD hS hR hZ hA [0, 1] rfl rfl (fx_rcx ((List.mem_append_right _ hc)) fx_rc0)) (va_recv hE.1 (fx_one (hR.at hS) (List.mem_append_right _ hc)) (ci := 10) (q0 := 0) rfl rfl)) rfl rfl hl.1 rfl (lv_room (Nat.le_of_ble_eq_true rfl)) dX0_voice_69 ⟨Nat.le_of_ble_eq_true rfl, Nat.le_of_ble_eq_true rfl⟩) hP hD hS hA [0, 1] rfl rfl (fun r_69 u H locs hq_69 hP hD hS => ?_)
            obtain ⟨tr2_69, tn2_69⟩ := u
            replace hP : va_P E.1 clA [(ax 4, .inr (4, [.ref (ax 60), .int (nI tn2_69)])), (ax 60, .inl (E.2 1, 30, .inl tr2_69)), (ax 5, .inl (E.2 0, 7, .inl er))] _ := hP
            replace hD : va_D A [(ax 4, .inr (4, [.ref (ax 60), .int (nI tn2_69)])), (ax 60, .inl (E.2 1, 30, .inl tr2_69)), (ax 5, .inl (E.2 0, 7, .inl er))] := hD
            replace hq_69 : r_69 = comesV 4 4 (nI (nn til)) (sa (32 + 2 * (nn til) + 1)) xv ∧ (tr2_69, tn2_69) = bgL (tr, 0) (comesB 4 4) := hq_69
            refine lv_goto (tgt := 103) hx hb dX0_voice_72 (by decide) ?_
            exact hret r_69 (tr2_69, tn2_69, er) (⟨by rw [voice_, if_pos (by simp [hb_1, hb_10]), hw]; rw [(trc_1 hq_69.2).1, (trc_1 hq_69.2).2]; rw [hq_69.1]; simp [voP, voV, voB, comesV, comesB, givesV, givesB, addsV, addsB, c_41, c_59], trc_le hq_69.2 (bgL_le _ (Nat.zero_le 30))⟩) (rfl) hP hD hS (Nat.le_of_ble_eq_true rfl) (Nat.le_of_ble_eq_true rfl) dX0_voice_103
        · -- fall 44
          refine lv_aload hx hb dX0_voice_44 (lv_at hl 0 rfl) ?_
          refine lv_iload_n hx hb dX0_voice_46 rfl (lv_at hl 4 rfl) ?_
          refine lv_aload_n hx hb dX0_voice_47 rfl (lv_at hl 1 rfl) ?_
          refine fx_get X hE (hR.at hS) 0 rfl rfl 4 rfl q239 rfl rfl dX0_voice_48 ?_
          refine fx_ci (va_runU (As := [.int xv, .ref (ax 4)]) (rest := []) X (xX3_adds_10 l E ax (tl (nn til)) (nI (nn til)) (sa (32 + 2 * (nn til) + 1)) tr 0 xv (by first | assumption | omega) _) (va_cwU 2 X.2.2.2.2 (lw_U q971 q974 q991 q972 q72 q988) rfl rfl rfl rfl hdX3_adds ⟨Nat.le_of_ble_eq_true rfl, Nat.le_of_ble_eq_true rfl⟩) (fx_preV (fx_pre hE hP hD hS hR [0, 1] rfl rfl (fx_rcx ((List.mem_append_right _ hc)) fx_rc0)) (va_recv hE.1 (fx_one (hR.at hS) (List.mem_append_right _ hc)) (ci := 10) (q0 := 0) rfl rfl)) rfl rfl hl.1 rfl (lv_room (Nat.le_of_ble_eq_true rfl)) dX0_voice_51 ⟨Nat.le_of_ble_eq_true rfl, Nat.le_of_ble_eq_true rfl⟩) hP hD hS hA [0, 1] rfl rfl (fun r_51 u H locs hq_51 hP hD hS => ?_)
          obtain ⟨tr2_51, tn2_51⟩ := u
          replace hP : va_P E.1 clA [(ax 4, .inr (4, [.ref (ax 60), .int (nI tn2_51)])), (ax 60, .inl (E.2 1, 30, .inl tr2_51)), (ax 5, .inl (E.2 0, 7, .inl er))] _ := hP
          replace hD : va_D A [(ax 4, .inr (4, [.ref (ax 60), .int (nI tn2_51)])), (ax 60, .inl (E.2 1, 30, .inl tr2_51)), (ax 5, .inl (E.2 0, 7, .inl er))] := hD
          replace hq_51 : r_51 = addsV 0 (nI (nn til)) xv ∧ (tr2_51, tn2_51) = bgL (tr, 0) (addsB 0) := hq_51
          refine lv_goto (tgt := 103) hx hb dX0_voice_54 (by decide) ?_
          exact hret r_51 (tr2_51, tn2_51, er) (⟨by rw [voice_, if_pos (by simp [hb_1, hb_10]), hw]; rw [(trc_1 hq_51.2).1, (trc_1 hq_51.2).2]; rw [hq_51.1]; simp [voP, voV, voB, comesV, comesB, givesV, givesB, addsV, addsB, c_41], trc_le hq_51.2 (bgL_le _ (Nat.zero_le 30))⟩) (rfl) hP hD hS (Nat.le_of_ble_eq_true rfl) (Nat.le_of_ble_eq_true rfl) dX0_voice_103
      ·
        have hc : ((tl (nn til), .inr (11, [.int (nI (nn til)), .int (sa (32 + 2 * (nn til) + 1))])) : Nat × va_E) ∈ PL := by have hz := hTL (nn til) g1; rw [hw] at hz; exact hz
        refine lv_iload_n hx hb dX0_voice_40 rfl (lv_at hl 3 rfl) ?_
        refine lv_if_ne (tgt := 57) hx hb dX0_voice_41 (by decide) (fun c_41 => ?_) (fun c_41 => ?_)
        · -- jump 57
          refine lv_iload_n hx hb dX0_voice_57 rfl (lv_at hl 3 rfl) ?_
          refine lv_iconst (v := 1) hx hb dX0_voice_58 rfl ?_
          refine lv_icmp_ne (tgt := 75) hx hb dX0_voice_59 (by decide) (fun c_59 => ?_) (fun c_59 => ?_)
          · -- jump 75
            refine lv_iload_n hx hb dX0_voice_75 rfl (lv_at hl 3 rfl) ?_
            refine lv_iconst (v := 2) hx hb dX0_voice_76 rfl ?_
            refine lv_icmp_ne (tgt := 93) hx hb dX0_voice_77 (by decide) (fun c_77 => ?_) (fun c_77 => ?_)
            · -- jump 93
              refine lv_aload hx hb dX0_voice_93 (lv_at hl 0 rfl) ?_
              refine lv_iload_n hx hb dX0_voice_95 rfl (lv_at hl 4 rfl) ?_
              refine lv_aload_n hx hb dX0_voice_96 rfl (lv_at hl 1 rfl) ?_
              refine fx_get X hE (hR.at hS) 0 rfl rfl 4 rfl q239 rfl rfl dX0_voice_97 ?_
              refine fz_ci (vz_runU (As := [.int xv, .ref (ax 4)]) (rest := []) X (xX7_parts_11 l E ks ax (tl (nn til)) (nI (nn til)) (sa (32 + 2 * (nn til) + 1)) tr 0 xv (by first | assumption | omega) (by first | assumption | omega) _) (va_cwO 2 X.2.2.2.2 (lw_O q1067 q1070 q1068 q1072 q1073 q77 q1074) rfl rfl rfl q1076 ⟨by decide +kernel, by decide +kernel, hdX7_parts.2.2⟩ ⟨Nat.le_of_ble_eq_true rfl, Nat.le_of_ble_eq_true rfl⟩) (fx_preV (fz_pre hE hP hD hS hR hZ hA [0, 1] rfl rfl (fx_rcx ((List.mem_append_right _ hc)) fx_rc0)) (va_recv hE.1 (fx_one (hR.at hS) (List.mem_append_right _ hc)) (ci := 11) (q0 := 0) rfl rfl)) rfl rfl hl.1 rfl (lv_room (Nat.le_of_ble_eq_true rfl)) dX0_voice_100 ⟨Nat.le_of_ble_eq_true rfl, Nat.le_of_ble_eq_true rfl⟩) hP hD hS hA [0, 1] rfl rfl (fun qx_100 u H locs ce hqx_100 hP hD hS hce hcv hcl => ?_) (fun r_100 u H locs hq_100 hP hD hS => ?_)
              · -- thrown
                obtain ⟨trx_100x, tnx_100x⟩ := u
                replace hP : va_P E.1 clA [(ax 4, .inr (4, [.ref (ax 60), .int (nI tnx_100x)])), (ax 60, .inl (E.2 1, 30, .inl trx_100x)), (ax 5, .inl (E.2 0, 7, .inl er))] _ := hP
                replace hD : va_D A [(ax 4, .inr (4, [.ref (ax 60), .int (nI tnx_100x)])), (ax 60, .inl (E.2 1, 30, .inl trx_100x)), (ax 5, .inl (E.2 0, 7, .inl er))] := hD
                replace hqx_100 : (sa (32 + 2 * (nn til) + 1)) - (nI (nn til)) = 0 ∧ (trx_100x, tnx_100x) = bgL (tr, 0) [21, 13] := hqx_100
                refine vx_catch X.2.2.2.1 [] ⟨40, 103, 104, 344⟩ _ (htab.trans rfl) (fun _ h => nomatch h) rfl (by decide) (X.2.2.2.2 _ q942) (va_tabs rfl rfl (hE.2.1 _ (List.mem_of_getElem? (i := 42) rfl))) hce hcv hcl ?_
                refine lv_astore (lv' := [(5, .ref qx_100), (4, .ref (tl (nn til))), (0, .ref (ax 19)), (1, .int til), (2, .int vo), (3, .int xv)]) hx hb dX0_voice_104 hl (by decide) rfl (fun ls hl => ?_)
                refine lv_aload_n hx hb dX0_voice_106 rfl (lv_at hl 2 rfl) ?_
                refine lv_bipush (v := 6) hx hb dX0_voice_107 rfl ?_
                refine fx_ci (va_runV (As := [.int 6]) (rest := []) X (xX0_finds l E ax im bn bm fm ff fl er 6 (by decide) _) (cwV 1 X.2.2.2.2 (lw_V q303 q305 qs0 q69 q306) rfl rfl rfl ⟨rfl, hdX0_finds⟩ ⟨Nat.le_of_ble_eq_true rfl, Nat.le_of_ble_eq_true rfl⟩) (fx_preV (fx_pre hE hP hD hS hR [2] rfl rfl (fx_rcr 0 rfl fx_rc0)) (va_recv hE.1 (hR.at hS) (ci := 0) (q0 := 0) rfl rfl)) rfl rfl hl.1 rfl (lv_room (Nat.le_of_ble_eq_true rfl)) dX0_voice_109 ⟨Nat.le_refl _, Nat.le_refl _⟩) hP hD hS hA [2] rfl rfl (fun r_109 u H locs hq_109 hP hD hS => ?_)
                replace hP : va_P E.1 clA [(ax 4, .inr (4, [.ref (ax 60), .int (nI tnx_100x)])), (ax 60, .inl (E.2 1, 30, .inl trx_100x)), (ax 5, .inl (E.2 0, 7, .inl (upd er 6 (er 6 + 1))))] _ := hP
                replace hD : va_D A [(ax 4, .inr (4, [.ref (ax 60), .int (nI tnx_100x)])), (ax 60, .inl (E.2 1, 30, .inl trx_100x)), (ax 5, .inl (E.2 0, 7, .inl (upd er 6 (er 6 + 1))))] := hD
                replace hq_109 : r_109 = erv 6 := hq_109
                exact hret r_109 (trx_100x, tnx_100x, (upd er 6 (er 6 + 1))) (⟨by rw [voice_, if_pos (by simp [hb_1, hb_10]), hw]; rw [(trc_1 hqx_100.2).1, (trc_1 hqx_100.2).2]; rw [hq_109]; simp [voP, voV, voB, partsB, c_41, c_59, c_77, hqx_100.1, erI], trc_le hqx_100.2 (bgL_le _ (Nat.zero_le 30))⟩) (rfl) hP hD hS (Nat.le_refl _) (Nat.le_refl _) dX0_voice_112
              · -- back
                obtain ⟨tr2_100, tn2_100⟩ := u
                replace hP : va_P E.1 clA [(ax 4, .inr (4, [.ref (ax 60), .int (nI tn2_100)])), (ax 60, .inl (E.2 1, 30, .inl tr2_100)), (ax 5, .inl (E.2 0, 7, .inl er))] _ := hP
                replace hD : va_D A [(ax 4, .inr (4, [.ref (ax 60), .int (nI tn2_100)])), (ax 60, .inl (E.2 1, 30, .inl tr2_100)), (ax 5, .inl (E.2 0, 7, .inl er))] := hD
                replace hq_100 : ¬ (sa (32 + 2 * (nn til) + 1)) - (nI (nn til)) = 0 ∧ r_100 = xv / ((sa (32 + 2 * (nn til) + 1)) - (nI (nn til))) + comesV 5 5 (nI (nn til)) (sa (32 + 2 * (nn til) + 1)) 1 ∧ (tr2_100, tn2_100) = bgL (tr, 0) (21 :: 13 :: comesB 5 5) := hq_100
                exact hret r_100 (tr2_100, tn2_100, er) (⟨by rw [voice_, if_pos (by simp [hb_1, hb_10]), hw]; rw [(trc_1 hq_100.2.2).1, (trc_1 hq_100.2.2).2]; rw [hq_100.2.1]; simp [voP, voV, voB, partsV, partsB, comesV, comesB, addsV, addsB, c_41, c_59, c_77, hq_100.1], trc_le hq_100.2.2 (bgL_le _ (Nat.zero_le 30))⟩) (rfl) hP hD hS (Nat.le_of_ble_eq_true rfl) (Nat.le_of_ble_eq_true rfl) dX0_voice_103
            · -- fall 80
              refine lv_aload hx hb dX0_voice_80 (lv_at hl 0 rfl) ?_
              refine lv_iload_n hx hb dX0_voice_82 rfl (lv_at hl 4 rfl) ?_
              refine lv_aload_n hx hb dX0_voice_83 rfl (lv_at hl 1 rfl) ?_
              refine fx_get X hE (hR.at hS) 0 rfl rfl 4 rfl q239 rfl rfl dX0_voice_84 ?_
              refine fx_ci (va_runU (As := [.int xv, .ref (ax 4)]) (rest := []) X (xX11_gives_11 l E ks ax (tl (nn til)) (nI (nn til)) (sa (32 + 2 * (nn til) + 1)) tr 0 xv (by first | assumption | omega) _) (va_cwO 2 X.2.2.2.2 (lw_O q1047 q1050 q1048 q1057 q1058 q81 q1059) rfl rfl rfl q1056 ⟨by decide +kernel, by decide +kernel, hdX11_gives.2.2⟩ ⟨Nat.le_of_ble_eq_true rfl, Nat.le_of_ble_eq_true rfl⟩) (fx_preV (fz_pre hE hP hD hS hR hZ hA [0, 1] rfl rfl (fx_rcx ((List.mem_append_right _ hc)) fx_rc0)) (va_recv hE.1 (fx_one (hR.at hS) (List.mem_append_right _ hc)) (ci := 11) (q0 := 0) rfl rfl)) rfl rfl hl.1 rfl (lv_room (Nat.le_of_ble_eq_true rfl)) dX0_voice_87 ⟨Nat.le_of_ble_eq_true rfl, Nat.le_of_ble_eq_true rfl⟩) hP hD hS hA [0, 1] rfl rfl (fun r_87 u H locs hq_87 hP hD hS => ?_)
              obtain ⟨tr2_87, tn2_87⟩ := u
              replace hP : va_P E.1 clA [(ax 4, .inr (4, [.ref (ax 60), .int (nI tn2_87)])), (ax 60, .inl (E.2 1, 30, .inl tr2_87)), (ax 5, .inl (E.2 0, 7, .inl er))] _ := hP
              replace hD : va_D A [(ax 4, .inr (4, [.ref (ax 60), .int (nI tn2_87)])), (ax 60, .inl (E.2 1, 30, .inl tr2_87)), (ax 5, .inl (E.2 0, 7, .inl er))] := hD
              replace hq_87 : r_87 = givesV 5 5 (nI (nn til)) (sa (32 + 2 * (nn til) + 1)) xv ∧ (tr2_87, tn2_87) = bgL (tr, 0) (givesB 5 5) := hq_87
              refine lv_goto (tgt := 103) hx hb dX0_voice_90 (by decide) ?_
              exact hret r_87 (tr2_87, tn2_87, er) (⟨by rw [voice_, if_pos (by simp [hb_1, hb_10]), hw]; rw [(trc_1 hq_87.2).1, (trc_1 hq_87.2).2]; rw [hq_87.1]; simp [voP, voV, voB, comesV, comesB, givesV, givesB, addsV, addsB, c_41, c_59, c_77], trc_le hq_87.2 (bgL_le _ (Nat.zero_le 30))⟩) (rfl) hP hD hS (Nat.le_of_ble_eq_true rfl) (Nat.le_of_ble_eq_true rfl) dX0_voice_103
          · -- fall 62
            refine lv_aload hx hb dX0_voice_62 (lv_at hl 0 rfl) ?_
            refine lv_iload_n hx hb dX0_voice_64 rfl (lv_at hl 4 rfl) ?_
            refine lv_aload_n hx hb dX0_voice_65 rfl (lv_at hl 1 rfl) ?_
            refine fx_get X hE (hR.at hS) 0 rfl rfl 4 rfl q239 rfl rfl dX0_voice_66 ?_
            refine fx_ci (df_runV (As := [.int xv, .ref (ax 4)]) (rest := []) (x := yTc) X (xX16_comes_11 l E ax (tl (nn til)) (nI (nn til)) (sa (32 + 2 * (nn til) + 1)) tr 0 xv (by first | assumption | omega) _) ⟨rfl, rfl, Nat.le_of_ble_eq_true rfl, Nat.le_of_ble_eq_true rfl⟩ (lw_meth q1010) List.mem_cons_self q1595 q1009 ⟨rfl, rfl⟩ hdX16_comes.2.2 ⟨hdX16_comes.1, hdX16_comes.2.1⟩ (va_tabs rfl rfl (hZ.1.2.2.1 _ (List.mem_of_getElem? (i := 0) rfl))) (va_tabs rfl rfl (hZ.1.2.2.1 _ (List.mem_of_getElem? (i := 1) rfl))) (va_tabs rfl rfl hZ.1.2.2.2.2) (df_ld (hZ.1.2.2.2.1 _ (List.mem_of_getElem? (i := 3) rfl))) (fx_preV (fx_pre hE hP hD hS hR [0, 1] rfl rfl (fx_rcx ((List.mem_append_right _ hc)) fx_rc0)) (va_recv hE.1 (fx_one (hR.at hS) (List.mem_append_right _ hc)) (ci := 11) (q0 := 0) rfl rfl)) rfl rfl hl.1 rfl (lv_room (Nat.le_of_ble_eq_true rfl)) dX0_voice_69 ⟨Nat.le_of_ble_eq_true rfl, Nat.le_of_ble_eq_true rfl⟩) hP hD hS hA [0, 1] rfl rfl (fun r_69 u H locs hq_69 hP hD hS => ?_)
            obtain ⟨tr2_69, tn2_69⟩ := u
            replace hP : va_P E.1 clA [(ax 4, .inr (4, [.ref (ax 60), .int (nI tn2_69)])), (ax 60, .inl (E.2 1, 30, .inl tr2_69)), (ax 5, .inl (E.2 0, 7, .inl er))] _ := hP
            replace hD : va_D A [(ax 4, .inr (4, [.ref (ax 60), .int (nI tn2_69)])), (ax 60, .inl (E.2 1, 30, .inl tr2_69)), (ax 5, .inl (E.2 0, 7, .inl er))] := hD
            replace hq_69 : r_69 = comesV 0 5 (nI (nn til)) (sa (32 + 2 * (nn til) + 1)) xv ∧ (tr2_69, tn2_69) = bgL (tr, 0) (comesB 0 5) := hq_69
            refine lv_goto (tgt := 103) hx hb dX0_voice_72 (by decide) ?_
            exact hret r_69 (tr2_69, tn2_69, er) (⟨by rw [voice_, if_pos (by simp [hb_1, hb_10]), hw]; rw [(trc_1 hq_69.2).1, (trc_1 hq_69.2).2]; rw [hq_69.1]; simp [voP, voV, voB, comesV, comesB, givesV, givesB, addsV, addsB, c_41, c_59], trc_le hq_69.2 (bgL_le _ (Nat.zero_le 30))⟩) (rfl) hP hD hS (Nat.le_of_ble_eq_true rfl) (Nat.le_of_ble_eq_true rfl) dX0_voice_103
        · -- fall 44
          refine lv_aload hx hb dX0_voice_44 (lv_at hl 0 rfl) ?_
          refine lv_iload_n hx hb dX0_voice_46 rfl (lv_at hl 4 rfl) ?_
          refine lv_aload_n hx hb dX0_voice_47 rfl (lv_at hl 1 rfl) ?_
          refine fx_get X hE (hR.at hS) 0 rfl rfl 4 rfl q239 rfl rfl dX0_voice_48 ?_
          refine fx_ci (va_runU (As := [.int xv, .ref (ax 4)]) (rest := []) X (xX11_adds_11 l E ax (tl (nn til)) (nI (nn til)) (sa (32 + 2 * (nn til) + 1)) tr 0 xv (by first | assumption | omega) _) (va_cwO 2 X.2.2.2.2 (lw_O q971 q974 q972 q976 q977 q81 q978) rfl rfl rfl q988 ⟨by decide +kernel, by decide +kernel, hdX11_adds.2.2⟩ ⟨Nat.le_of_ble_eq_true rfl, Nat.le_of_ble_eq_true rfl⟩) (fx_preV (fx_pre hE hP hD hS hR [0, 1] rfl rfl (fx_rcx ((List.mem_append_right _ hc)) fx_rc0)) (va_recv hE.1 (fx_one (hR.at hS) (List.mem_append_right _ hc)) (ci := 11) (q0 := 0) rfl rfl)) rfl rfl hl.1 rfl (lv_room (Nat.le_of_ble_eq_true rfl)) dX0_voice_51 ⟨Nat.le_of_ble_eq_true rfl, Nat.le_of_ble_eq_true rfl⟩) hP hD hS hA [0, 1] rfl rfl (fun r_51 u H locs hq_51 hP hD hS => ?_)
          obtain ⟨tr2_51, tn2_51⟩ := u
          replace hP : va_P E.1 clA [(ax 4, .inr (4, [.ref (ax 60), .int (nI tn2_51)])), (ax 60, .inl (E.2 1, 30, .inl tr2_51)), (ax 5, .inl (E.2 0, 7, .inl er))] _ := hP
          replace hD : va_D A [(ax 4, .inr (4, [.ref (ax 60), .int (nI tn2_51)])), (ax 60, .inl (E.2 1, 30, .inl tr2_51)), (ax 5, .inl (E.2 0, 7, .inl er))] := hD
          replace hq_51 : r_51 = addsV 5 (nI (nn til)) xv ∧ (tr2_51, tn2_51) = bgL (tr, 0) (addsB 5) := hq_51
          refine lv_goto (tgt := 103) hx hb dX0_voice_54 (by decide) ?_
          exact hret r_51 (tr2_51, tn2_51, er) (⟨by rw [voice_, if_pos (by simp [hb_1, hb_10]), hw]; rw [(trc_1 hq_51.2).1, (trc_1 hq_51.2).2]; rw [hq_51.1]; simp [voP, voV, voB, comesV, comesB, givesV, givesB, addsV, addsB, c_41], trc_le hq_51.2 (bgL_le _ (Nat.zero_le 30))⟩) (rfl) hP hD hS (Nat.le_of_ble_eq_true rfl) (Nat.le_of_ble_eq_true rfl) dX0_voice_103
      ·
        have hc : ((tl (nn til), .inr (12, [.int (nI (nn til)), .int (sa (32 + 2 * (nn til) + 1))])) : Nat × va_E) ∈ PL := by have hz := hTL (nn til) g1; rw [hw] at hz; exact hz
        refine lv_iload_n hx hb dX0_voice_40 rfl (lv_at hl 3 rfl) ?_
        refine lv_if_ne (tgt := 57) hx hb dX0_voice_41 (by decide) (fun c_41 => ?_) (fun c_41 => ?_)
        · -- jump 57
          refine lv_iload_n hx hb dX0_voice_57 rfl (lv_at hl 3 rfl) ?_
          refine lv_iconst (v := 1) hx hb dX0_voice_58 rfl ?_
          refine lv_icmp_ne (tgt := 75) hx hb dX0_voice_59 (by decide) (fun c_59 => ?_) (fun c_59 => ?_)
          · -- jump 75
            refine lv_iload_n hx hb dX0_voice_75 rfl (lv_at hl 3 rfl) ?_
            refine lv_iconst (v := 2) hx hb dX0_voice_76 rfl ?_
            refine lv_icmp_ne (tgt := 93) hx hb dX0_voice_77 (by decide) (fun c_77 => ?_) (fun c_77 => ?_)
            · -- jump 93
              refine lv_aload hx hb dX0_voice_93 (lv_at hl 0 rfl) ?_
              refine lv_iload_n hx hb dX0_voice_95 rfl (lv_at hl 4 rfl) ?_
              refine lv_aload_n hx hb dX0_voice_96 rfl (lv_at hl 1 rfl) ?_
              refine fx_get X hE (hR.at hS) 0 rfl rfl 4 rfl q239 rfl rfl dX0_voice_97 ?_
              refine fz_ci (vz_runU (As := [.int xv, .ref (ax 4)]) (rest := []) X (xX3_parts_12 l E ks ax (tl (nn til)) (nI (nn til)) (sa (32 + 2 * (nn til) + 1)) tr 0 xv (by first | assumption | omega) (by first | assumption | omega) _) (va_cwU 2 X.2.2.2.2 (lw_U q1067 q1070 q1080 q1068 q72 q1076) rfl rfl rfl rfl hdX3_parts ⟨Nat.le_of_ble_eq_true rfl, Nat.le_of_ble_eq_true rfl⟩) (fx_preV (fz_pre hE hP hD hS hR hZ hA [0, 1] rfl rfl (fx_rcx ((List.mem_append_right _ hc)) fx_rc0)) (va_recv hE.1 (fx_one (hR.at hS) (List.mem_append_right _ hc)) (ci := 12) (q0 := 0) rfl rfl)) rfl rfl hl.1 rfl (lv_room (Nat.le_of_ble_eq_true rfl)) dX0_voice_100 ⟨Nat.le_of_ble_eq_true rfl, Nat.le_of_ble_eq_true rfl⟩) hP hD hS hA [0, 1] rfl rfl (fun qx_100 u H locs ce hqx_100 hP hD hS hce hcv hcl => ?_) (fun r_100 u H locs hq_100 hP hD hS => ?_)
              · -- thrown
                obtain ⟨trx_100x, tnx_100x⟩ := u
                replace hP : va_P E.1 clA [(ax 4, .inr (4, [.ref (ax 60), .int (nI tnx_100x)])), (ax 60, .inl (E.2 1, 30, .inl trx_100x)), (ax 5, .inl (E.2 0, 7, .inl er))] _ := hP
                replace hD : va_D A [(ax 4, .inr (4, [.ref (ax 60), .int (nI tnx_100x)])), (ax 60, .inl (E.2 1, 30, .inl trx_100x)), (ax 5, .inl (E.2 0, 7, .inl er))] := hD
                replace hqx_100 : (sa (32 + 2 * (nn til) + 1)) - (nI (nn til)) = 0 ∧ (trx_100x, tnx_100x) = bgL (tr, 0) [13] := hqx_100
                refine vx_catch X.2.2.2.1 [] ⟨40, 103, 104, 344⟩ _ (htab.trans rfl) (fun _ h => nomatch h) rfl (by decide) (X.2.2.2.2 _ q942) (va_tabs rfl rfl (hE.2.1 _ (List.mem_of_getElem? (i := 42) rfl))) hce hcv hcl ?_
                refine lv_astore (lv' := [(5, .ref qx_100), (4, .ref (tl (nn til))), (0, .ref (ax 19)), (1, .int til), (2, .int vo), (3, .int xv)]) hx hb dX0_voice_104 hl (by decide) rfl (fun ls hl => ?_)
                refine lv_aload_n hx hb dX0_voice_106 rfl (lv_at hl 2 rfl) ?_
                refine lv_bipush (v := 6) hx hb dX0_voice_107 rfl ?_
                refine fx_ci (va_runV (As := [.int 6]) (rest := []) X (xX0_finds l E ax im bn bm fm ff fl er 6 (by decide) _) (cwV 1 X.2.2.2.2 (lw_V q303 q305 qs0 q69 q306) rfl rfl rfl ⟨rfl, hdX0_finds⟩ ⟨Nat.le_of_ble_eq_true rfl, Nat.le_of_ble_eq_true rfl⟩) (fx_preV (fx_pre hE hP hD hS hR [2] rfl rfl (fx_rcr 0 rfl fx_rc0)) (va_recv hE.1 (hR.at hS) (ci := 0) (q0 := 0) rfl rfl)) rfl rfl hl.1 rfl (lv_room (Nat.le_of_ble_eq_true rfl)) dX0_voice_109 ⟨Nat.le_refl _, Nat.le_refl _⟩) hP hD hS hA [2] rfl rfl (fun r_109 u H locs hq_109 hP hD hS => ?_)
                replace hP : va_P E.1 clA [(ax 4, .inr (4, [.ref (ax 60), .int (nI tnx_100x)])), (ax 60, .inl (E.2 1, 30, .inl trx_100x)), (ax 5, .inl (E.2 0, 7, .inl (upd er 6 (er 6 + 1))))] _ := hP
                replace hD : va_D A [(ax 4, .inr (4, [.ref (ax 60), .int (nI tnx_100x)])), (ax 60, .inl (E.2 1, 30, .inl trx_100x)), (ax 5, .inl (E.2 0, 7, .inl (upd er 6 (er 6 + 1))))] := hD
                replace hq_109 : r_109 = erv 6 := hq_109
                exact hret r_109 (trx_100x, tnx_100x, (upd er 6 (er 6 + 1))) (⟨by rw [voice_, if_pos (by simp [hb_1, hb_10]), hw]; rw [(trc_1 hqx_100.2).1, (trc_1 hqx_100.2).2]; rw [hq_109]; simp [voP, voV, voB, partsB, c_41, c_59, c_77, hqx_100.1, erI], trc_le hqx_100.2 (bgL_le _ (Nat.zero_le 30))⟩) (rfl) hP hD hS (Nat.le_refl _) (Nat.le_refl _) dX0_voice_112
              · -- back
                obtain ⟨tr2_100, tn2_100⟩ := u
                replace hP : va_P E.1 clA [(ax 4, .inr (4, [.ref (ax 60), .int (nI tn2_100)])), (ax 60, .inl (E.2 1, 30, .inl tr2_100)), (ax 5, .inl (E.2 0, 7, .inl er))] _ := hP
                replace hD : va_D A [(ax 4, .inr (4, [.ref (ax 60), .int (nI tn2_100)])), (ax 60, .inl (E.2 1, 30, .inl tr2_100)), (ax 5, .inl (E.2 0, 7, .inl er))] := hD
                replace hq_100 : ¬ (sa (32 + 2 * (nn til) + 1)) - (nI (nn til)) = 0 ∧ r_100 = xv / ((sa (32 + 2 * (nn til) + 1)) - (nI (nn til))) ∧ (tr2_100, tn2_100) = bgL (tr, 0) [13] := hq_100
                exact hret r_100 (tr2_100, tn2_100, er) (⟨by rw [voice_, if_pos (by simp [hb_1, hb_10]), hw]; rw [(trc_1 hq_100.2.2).1, (trc_1 hq_100.2.2).2]; rw [hq_100.2.1]; simp [voP, voV, voB, partsV, partsB, comesV, comesB, addsV, addsB, c_41, c_59, c_77, hq_100.1], trc_le hq_100.2.2 (bgL_le _ (Nat.zero_le 30))⟩) (rfl) hP hD hS (Nat.le_of_ble_eq_true rfl) (Nat.le_of_ble_eq_true rfl) dX0_voice_103
            · -- fall 80
              refine lv_aload hx hb dX0_voice_80 (lv_at hl 0 rfl) ?_
              refine lv_iload_n hx hb dX0_voice_82 rfl (lv_at hl 4 rfl) ?_
              refine lv_aload_n hx hb dX0_voice_83 rfl (lv_at hl 1 rfl) ?_
              refine fx_get X hE (hR.at hS) 0 rfl rfl 4 rfl q239 rfl rfl dX0_voice_84 ?_
              refine fx_ci (va_runU (As := [.int xv, .ref (ax 4)]) (rest := []) X (xX3_gives_12 l E ks ax (tl (nn til)) (nI (nn til)) (sa (32 + 2 * (nn til) + 1)) tr 0 xv (by first | assumption | omega) _) (va_cwU 2 X.2.2.2.2 (lw_U q1047 q1050 q1066 q1048 q72 q1056) rfl rfl rfl rfl hdX3_gives ⟨Nat.le_of_ble_eq_true rfl, Nat.le_of_ble_eq_true rfl⟩) (fx_preV (fz_pre hE hP hD hS hR hZ hA [0, 1] rfl rfl (fx_rcx ((List.mem_append_right _ hc)) fx_rc0)) (va_recv hE.1 (fx_one (hR.at hS) (List.mem_append_right _ hc)) (ci := 12) (q0 := 0) rfl rfl)) rfl rfl hl.1 rfl (lv_room (Nat.le_of_ble_eq_true rfl)) dX0_voice_87 ⟨Nat.le_of_ble_eq_true rfl, Nat.le_of_ble_eq_true rfl⟩) hP hD hS hA [0, 1] rfl rfl (fun r_87 u H locs hq_87 hP hD hS => ?_)
              obtain ⟨tr2_87, tn2_87⟩ := u
              replace hP : va_P E.1 clA [(ax 4, .inr (4, [.ref (ax 60), .int (nI tn2_87)])), (ax 60, .inl (E.2 1, 30, .inl tr2_87)), (ax 5, .inl (E.2 0, 7, .inl er))] _ := hP
              replace hD : va_D A [(ax 4, .inr (4, [.ref (ax 60), .int (nI tn2_87)])), (ax 60, .inl (E.2 1, 30, .inl tr2_87)), (ax 5, .inl (E.2 0, 7, .inl er))] := hD
              replace hq_87 : r_87 = givesV 0 6 (nI (nn til)) (sa (32 + 2 * (nn til) + 1)) xv ∧ (tr2_87, tn2_87) = bgL (tr, 0) (givesB 0 6) := hq_87
              refine lv_goto (tgt := 103) hx hb dX0_voice_90 (by decide) ?_
              exact hret r_87 (tr2_87, tn2_87, er) (⟨by rw [voice_, if_pos (by simp [hb_1, hb_10]), hw]; rw [(trc_1 hq_87.2).1, (trc_1 hq_87.2).2]; rw [hq_87.1]; simp [voP, voV, voB, comesV, comesB, givesV, givesB, addsV, addsB, c_41, c_59, c_77], trc_le hq_87.2 (bgL_le _ (Nat.zero_le 30))⟩) (rfl) hP hD hS (Nat.le_of_ble_eq_true rfl) (Nat.le_of_ble_eq_true rfl) dX0_voice_103
          · -- fall 62
            refine lv_aload hx hb dX0_voice_62 (lv_at hl 0 rfl) ?_
            refine lv_iload_n hx hb dX0_voice_64 rfl (lv_at hl 4 rfl) ?_
            refine lv_aload_n hx hb dX0_voice_65 rfl (lv_at hl 1 rfl) ?_
            refine fx_get X hE (hR.at hS) 0 rfl rfl 4 rfl q239 rfl rfl dX0_voice_66 ?_
            refine fx_ci (df_runO (As := [.int xv, .ref (ax 4)]) (rest := []) (x := yTc) (owner := "FigureTill$Comes") X (xX12_comes_12 l E ks ax (tl (nn til)) (nI (nn til)) (sa (32 + 2 * (nn til) + 1)) tr 0 xv (by first | assumption | omega) _) ⟨rfl, rfl, Nat.le_of_ble_eq_true rfl, Nat.le_of_ble_eq_true rfl⟩ (lw_meth q1045) List.mem_cons_self q82 q1044 hdX12_comes.2.2 ⟨by decide, by decide⟩ (va_tabs rfl rfl (hZ.1.2.2.1 _ (List.mem_of_getElem? (i := 0) rfl))) (va_tabs rfl rfl (hZ.1.2.2.1 _ (List.mem_of_getElem? (i := 1) rfl))) (va_Decl.of (X.2.2.2.2 _ q1009) (X.2.2.2.2 _ q1010)) q1043 (fx_preV (fz_pre hE hP hD hS hR hZ hA [0, 1] rfl rfl (fx_rcx ((List.mem_append_right _ hc)) fx_rc0)) (va_recv hE.1 (fx_one (hR.at hS) (List.mem_append_right _ hc)) (ci := 12) (q0 := 0) rfl rfl)) rfl rfl hl.1 rfl (lv_room (Nat.le_of_ble_eq_true rfl)) dX0_voice_69 ⟨Nat.le_of_ble_eq_true rfl, Nat.le_of_ble_eq_true rfl⟩) hP hD hS hA [0, 1] rfl rfl (fun r_69 u H locs hq_69 hP hD hS => ?_)
            obtain ⟨tr2_69, tn2_69⟩ := u
            replace hP : va_P E.1 clA [(ax 4, .inr (4, [.ref (ax 60), .int (nI tn2_69)])), (ax 60, .inl (E.2 1, 30, .inl tr2_69)), (ax 5, .inl (E.2 0, 7, .inl er))] _ := hP
            replace hD : va_D A [(ax 4, .inr (4, [.ref (ax 60), .int (nI tn2_69)])), (ax 60, .inl (E.2 1, 30, .inl tr2_69)), (ax 5, .inl (E.2 0, 7, .inl er))] := hD
            replace hq_69 : r_69 = comesV 6 6 (nI (nn til)) (sa (32 + 2 * (nn til) + 1)) xv ∧ (tr2_69, tn2_69) = bgL (tr, 0) (comesB 6 6) := hq_69
            refine lv_goto (tgt := 103) hx hb dX0_voice_72 (by decide) ?_
            exact hret r_69 (tr2_69, tn2_69, er) (⟨by rw [voice_, if_pos (by simp [hb_1, hb_10]), hw]; rw [(trc_1 hq_69.2).1, (trc_1 hq_69.2).2]; rw [hq_69.1]; simp [voP, voV, voB, comesV, comesB, givesV, givesB, addsV, addsB, c_41, c_59], trc_le hq_69.2 (bgL_le _ (Nat.zero_le 30))⟩) (rfl) hP hD hS (Nat.le_of_ble_eq_true rfl) (Nat.le_of_ble_eq_true rfl) dX0_voice_103
        · -- fall 44
          refine lv_aload hx hb dX0_voice_44 (lv_at hl 0 rfl) ?_
          refine lv_iload_n hx hb dX0_voice_46 rfl (lv_at hl 4 rfl) ?_
          refine lv_aload_n hx hb dX0_voice_47 rfl (lv_at hl 1 rfl) ?_
          refine fx_get X hE (hR.at hS) 0 rfl rfl 4 rfl q239 rfl rfl dX0_voice_48 ?_
          refine fx_ci (va_runU (As := [.int xv, .ref (ax 4)]) (rest := []) X (xX12_adds_12 l E ax (tl (nn til)) (nI (nn til)) (sa (32 + 2 * (nn til) + 1)) tr 0 xv (by first | assumption | omega) _) (va_cwO 2 X.2.2.2.2 (lw_O q971 q974 q972 q993 q994 q82 q995) rfl rfl rfl q988 ⟨by decide +kernel, by decide +kernel, hdX12_adds.2.2⟩ ⟨Nat.le_of_ble_eq_true rfl, Nat.le_of_ble_eq_true rfl⟩) (fx_preV (fx_pre hE hP hD hS hR [0, 1] rfl rfl (fx_rcx ((List.mem_append_right _ hc)) fx_rc0)) (va_recv hE.1 (fx_one (hR.at hS) (List.mem_append_right _ hc)) (ci := 12) (q0 := 0) rfl rfl)) rfl rfl hl.1 rfl (lv_room (Nat.le_of_ble_eq_true rfl)) dX0_voice_51 ⟨Nat.le_of_ble_eq_true rfl, Nat.le_of_ble_eq_true rfl⟩) hP hD hS hA [0, 1] rfl rfl (fun r_51 u H locs hq_51 hP hD hS => ?_)
          obtain ⟨tr2_51, tn2_51⟩ := u
          replace hP : va_P E.1 clA [(ax 4, .inr (4, [.ref (ax 60), .int (nI tn2_51)])), (ax 60, .inl (E.2 1, 30, .inl tr2_51)), (ax 5, .inl (E.2 0, 7, .inl er))] _ := hP
          replace hD : va_D A [(ax 4, .inr (4, [.ref (ax 60), .int (nI tn2_51)])), (ax 60, .inl (E.2 1, 30, .inl tr2_51)), (ax 5, .inl (E.2 0, 7, .inl er))] := hD
          replace hq_51 : r_51 = addsV 6 (nI (nn til)) xv ∧ (tr2_51, tn2_51) = bgL (tr, 0) (addsB 6) := hq_51
          refine lv_goto (tgt := 103) hx hb dX0_voice_54 (by decide) ?_
          exact hret r_51 (tr2_51, tn2_51, er) (⟨by rw [voice_, if_pos (by simp [hb_1, hb_10]), hw]; rw [(trc_1 hq_51.2).1, (trc_1 hq_51.2).2]; rw [hq_51.1]; simp [voP, voV, voB, comesV, comesB, givesV, givesB, addsV, addsB, c_41], trc_le hq_51.2 (bgL_le _ (Nat.zero_le 30))⟩) (rfl) hP hD hS (Nat.le_of_ble_eq_true rfl) (Nat.le_of_ble_eq_true rfl) dX0_voice_103
    · -- False
      subst hr_10
      refine lv_if_ne (tgt := 22) hx hb dX0_voice_13 (by decide) (fun c => (c (by decide)).elim) (fun _ => ?_)
      refine lv_aload_n hx hb dX0_voice_16 rfl (lv_at hl 0 rfl) ?_
      refine lv_iconst (v := 1) hx hb dX0_voice_17 rfl ?_
      refine fx_ci (va_runV (As := [.int 1]) (rest := []) X (xX0_finds l E ax im bn bm fm ff fl er 1 (by decide) _) (cwV 1 X.2.2.2.2 (lw_V q303 q305 qs0 q69 q306) rfl rfl rfl ⟨rfl, hdX0_finds⟩ ⟨Nat.le_of_ble_eq_true rfl, Nat.le_of_ble_eq_true rfl⟩) (fx_preV (fx_pre hE hP hD hS hR [2] rfl rfl (fx_rcr 0 rfl fx_rc0)) (va_recv hE.1 (hR.at hS) (ci := 0) (q0 := 0) rfl rfl)) rfl rfl hl.1 rfl (lv_room (Nat.le_of_ble_eq_true rfl)) dX0_voice_18 ⟨Nat.le_of_ble_eq_true rfl, Nat.le_of_ble_eq_true rfl⟩) hP hD hS hA [2] rfl rfl (fun r_18 u H locs hq_18 hP hD hS => ?_)
      replace hP : va_P E.1 clA [(ax 4, .inr (4, [.ref (ax 60), .int (nI tn)])), (ax 60, .inl (E.2 1, 30, .inl tr)), (ax 5, .inl (E.2 0, 7, .inl (upd er 1 (er 1 + 1))))] _ := hP
      replace hD : va_D A [(ax 4, .inr (4, [.ref (ax 60), .int (nI tn)])), (ax 60, .inl (E.2 1, 30, .inl tr)), (ax 5, .inl (E.2 0, 7, .inl (upd er 1 (er 1 + 1))))] := hD
      replace hq_18 : r_18 = erv 1 := hq_18
      exact hret r_18 (tr, tn, (upd er 1 (er 1 + 1))) (⟨by rw [hq_18]; simp [voice_, erI, hb_1, hb_10], htn⟩) (rfl) hP hD hS (Nat.le_of_ble_eq_true rfl) (Nat.le_of_ble_eq_true rfl) dX0_voice_21
  · -- False
    subst hr_1
    refine lv_if_eq (tgt := 16) hx hb dX0_voice_4 (by decide) (fun _ => ?_) (fun c => (c (by decide)).elim)
    refine lv_aload_n hx hb dX0_voice_16 rfl (lv_at hl 0 rfl) ?_
    refine lv_iconst (v := 1) hx hb dX0_voice_17 rfl ?_
    refine fx_ci (va_runV (As := [.int 1]) (rest := []) X (xX0_finds l E ax im bn bm fm ff fl er 1 (by decide) _) (cwV 1 X.2.2.2.2 (lw_V q303 q305 qs0 q69 q306) rfl rfl rfl ⟨rfl, hdX0_finds⟩ ⟨Nat.le_of_ble_eq_true rfl, Nat.le_of_ble_eq_true rfl⟩) (fx_preV (fx_pre hE hP hD hS hR [2] rfl rfl (fx_rcr 0 rfl fx_rc0)) (va_recv hE.1 (hR.at hS) (ci := 0) (q0 := 0) rfl rfl)) rfl rfl hl.1 rfl (lv_room (Nat.le_of_ble_eq_true rfl)) dX0_voice_18 ⟨Nat.le_of_ble_eq_true rfl, Nat.le_of_ble_eq_true rfl⟩) hP hD hS hA [2] rfl rfl (fun r_18 u H locs hq_18 hP hD hS => ?_)
    replace hP : va_P E.1 clA [(ax 4, .inr (4, [.ref (ax 60), .int (nI tn)])), (ax 60, .inl (E.2 1, 30, .inl tr)), (ax 5, .inl (E.2 0, 7, .inl (upd er 1 (er 1 + 1))))] _ := hP
    replace hD : va_D A [(ax 4, .inr (4, [.ref (ax 60), .int (nI tn)])), (ax 60, .inl (E.2 1, 30, .inl tr)), (ax 5, .inl (E.2 0, 7, .inl (upd er 1 (er 1 + 1))))] := hD
    replace hq_18 : r_18 = erv 1 := hq_18
    exact hret r_18 (tr, tn, (upd er 1 (er 1 + 1))) (⟨by rw [hq_18]; simp [voice_, erI, hb_1], htn⟩) (rfl) hP hD hS (Nat.le_of_ble_eq_true rfl) (Nat.le_of_ble_eq_true rfl) dX0_voice_21
