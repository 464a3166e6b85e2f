set_option maxRecDepth 100000
theorem hdX0_namesOf : yX0_namesOf.cls ≠ "java/lang/invoke/MethodHandle" ∧ yX0_namesOf.cls ≠ "java/lang/invoke/VarHandle" ∧ (parseMethodDescriptor yX0_namesOf.desc).map (fun d => d.parameters.length) = some 1 := by decide +kernel
theorem hdX14_init : yX14_init.cls ≠ "java/lang/invoke/MethodHandle" ∧ yX14_init.cls ≠ "java/lang/invoke/VarHandle" ∧ (parseMethodDescriptor yX14_init.desc).map (fun d => d.parameters.length) = some 0 := by decide +kernel
theorem hdX13_init : yX13_init.cls ≠ "java/lang/invoke/MethodHandle" ∧ yX13_init.cls ≠ "java/lang/invoke/VarHandle" ∧ (parseMethodDescriptor yX13_init.desc).map (fun d => d.parameters.length) = some 3 := by decide +kernel
theorem hdX0_untell : yX0_untell.cls ≠ "java/lang/invoke/MethodHandle" ∧ yX0_untell.cls ≠ "java/lang/invoke/VarHandle" ∧ (parseMethodDescriptor yX0_untell.desc).map (fun d => d.parameters.length) = some 1 := by decide +kernel
theorem hdX0_feed : yX0_feed.cls ≠ "java/lang/invoke/MethodHandle" ∧ yX0_feed.cls ≠ "java/lang/invoke/VarHandle" ∧ (parseMethodDescriptor yX0_feed.desc).map (fun d => d.parameters.length) = some 2 := by decide +kernel
theorem hdX0_text : yX0_text.cls ≠ "java/lang/invoke/MethodHandle" ∧ yX0_text.cls ≠ "java/lang/invoke/VarHandle" ∧ (parseMethodDescriptor yX0_text.desc).map (fun d => d.parameters.length) = some 1 := by decide +kernel
abbrev rxX0_namesOf : Room := { frames := 0, cells := 0, slots := 0, locals := 0 }
set_option maxHeartbeats 400000 in
set_option maxRecDepth 100000 in
theorem xX0_namesOf (l : Launch) (E : fx_En) (ks : fz_Ks) (uz : Nat) (hu : uz < 2) : fz_Mq l yX0_namesOf cX0_namesOf 1 (.object "java/lang/String") rxX0_namesOf 0 0 E ks [.int (nI uz)] [] [] (S := Unit) (fun (u : Unit) => []) (fun (r : Option Nat) (u : Unit) => r = some (ks.1 uz)) "" (SX := Unit) (fun (u : Unit) => []) (fun (q : Nat) (u : Unit) => False) := by
  refine fz_qW rfl rfl (by first | exact Or.inl ⟨_, rfl⟩ | exact Or.inr ⟨_, rfl⟩) ?_
  intro p e s m args below meth c A ls Q X hnm hE hP hD hR hZ hA hl hret hthrow
  have hx := X.1
  have hb := X.2.1
  have hS : va_S A s.heap s.heap [] := va_S.rf
  replace hl : lv_has ls 1 [(0, .int (nI uz))] := hl
  refine lv_iload_n hx hb dX0_namesOf_0 rfl (lv_at hl 0 rfl) ?_
  refine lv_if_ne (tgt := 9) hx hb dX0_namesOf_1 (by decide) (fun c_1 => ?_) (fun c_1 => ?_)
  · -- jump 9
    have n_1 := fx_eq0 (a := uz) (b := 0) c_1 (by omega) (by omega)
    obtain rfl : uz = 1 := by omega
    refine va_ldcS X.1 X.2.1 X.2.2.2.1 hZ.2.2.2.2.1 dX0_namesOf_9 ?_
    exact hret (some (ks.1 1)) () (rfl) hP hD hS (Nat.le_refl _) (Nat.le_refl _) dX0_namesOf_11
  · -- fall 4
    have n_1 := fx_eq1 (a := uz) (b := 0) c_1 (by omega) (by omega)
    obtain rfl : uz = 0 := by omega
    refine va_ldcS X.1 X.2.1 X.2.2.2.1 hZ.2.2.2.1 dX0_namesOf_4 ?_
    refine lv_goto (tgt := 11) hx hb dX0_namesOf_6 (by decide) ?_
    exact hret (some (ks.1 0)) () (rfl) hP hD hS (Nat.le_refl _) (Nat.le_refl _) dX0_namesOf_11
abbrev rxX14_init : Room := { frames := 1, cells := 2, slots := 120, locals := 20 }
set_option maxHeartbeats 400000 in
set_option maxRecDepth 100000 in
theorem xX14_init (l : Launch) (E : fx_En) (xa : Nat) : fx_Mv l yX14_init cX14_init 1 rxX14_init E [.ref xa] [(xa, .inr (14, [.null, .null, .int 0]))] [] (S := Nat × Nat) (fun (u : Nat × Nat) => [(xa, .inr (14, [.ref u.1, .ref u.2, .int 0])), (u.1, .inl (E.2 1, 60, .inl (fun _ => 0))), (u.2, .inl (E.2 2, 60, .inl (fun _ => 0)))]) (fun (u : Nat × Nat) => True) := by
  refine fx_vW rfl rfl ?_
  intro p e s m args below meth c A ls Q X hnm hE hP hD hR hA hl hret
  have hx := X.1
  have hb := X.2.1
  have hS : va_S A s.heap s.heap [] := va_S.rf
  replace hP : va_P E.1 clA [(xa, .inr (14, [.null, .null, .int 0]))] _ := hP
  replace hD : va_D A [(xa, .inr (14, [.null, .null, .int 0]))] := hD
  replace hl : lv_has ls 1 [(0, .ref xa)] := hl
  refine lv_aload_n hx hb dX14_init_0 rfl (lv_at hl 0 rfl) ?_
  refine W.objInit hx hb X.2.2.2.1 (X.2.2.2.2 _ q556) (X.2.2.2.2 _ q104) (X.2.2.2.2 _ q105) rfl (hl.1.trans X.2.2.1.symm) rfl dX14_init_1 (Nat.le_of_ble_eq_true rfl) (Nat.le_of_ble_eq_true rfl) ?_
  refine W.eq (g2 := F0 m 4 ls []) rfl ?_
  refine lv_aload_n hx hb dX14_init_4 rfl (lv_at hl 0 rfl) ?_
  refine lv_bipush (v := 60) hx hb dX14_init_5 rfl ?_
  refine fx_newa1 X hE hP hD hS hA q127 (N := 60) rfl rfl (Nat.le_of_ble_eq_true rfl) (Nat.le_of_ble_eq_true rfl) dX14_init_7 (fun q7 H hP hD hS => ?_)
  replace hP : va_P E.1 clA [(xa, .inr (14, [.null, .null, .int 0])), (q7, .inl (E.2 1, 60, .inl (fun _ => 0)))] _ := hP
  replace hD : va_D A [(xa, .inr (14, [.null, .null, .int 0])), (q7, .inl (E.2 1, 60, .inl (fun _ => 0)))] := hD
  refine W.widen (k := 1) (n := 60) (by first | omega | exact Nat.le_of_ble_eq_true rfl) (by first | omega | exact Nat.le_of_ble_eq_true rfl) ?_
  refine fx_putF (ws' := [(xa, .inr (14, [.ref q7, .null, .int 0])), (q7, .inl (E.2 1, 60, .inl (fun _ => 0)))]) X hE hP hD hS 0 rfl rfl tyX14_ok nmX14 0 rfl q557 rfl rfl hnm rfl rfl rfl rfl rfl dX14_init_9 (fun H locs hP hD hS => ?_)
  refine lv_aload_n hx hb dX14_init_12 rfl (lv_at hl 0 rfl) ?_
  refine lv_bipush (v := 60) hx hb dX14_init_13 rfl ?_
  refine fx_newa2 X hE hP hD hS hA q570 (N := 60) rfl rfl (Nat.le_of_ble_eq_true rfl) (Nat.le_of_ble_eq_true rfl) dX14_init_15 (fun q15 H hP hD hS => ?_)
  replace hP : va_P E.1 clA [(xa, .inr (14, [.ref q7, .null, .int 0])), (q7, .inl (E.2 1, 60, .inl (fun _ => 0))), (q15, .inl (E.2 2, 60, .inl (fun _ => 0)))] _ := hP
  replace hD : va_D A [(xa, .inr (14, [.ref q7, .null, .int 0])), (q7, .inl (E.2 1, 60, .inl (fun _ => 0))), (q15, .inl (E.2 2, 60, .inl (fun _ => 0)))] := hD
  refine W.widen (k := 2) (n := 120) (by first | omega | exact Nat.le_of_ble_eq_true rfl) (by first | omega | exact Nat.le_of_ble_eq_true rfl) ?_
  refine fx_putF (ws' := [(xa, .inr (14, [.ref q7, .ref q15, .int 0])), (q7, .inl (E.2 1, 60, .inl (fun _ => 0))), (q15, .inl (E.2 2, 60, .inl (fun _ => 0)))]) X hE hP hD hS 0 rfl rfl tyX14_ok nmX14 1 rfl q559 rfl rfl hnm rfl rfl rfl rfl rfl dX14_init_17 (fun H locs hP hD hS => ?_)
  exact hret (q7, q15) (trivial) hP hD hS (Nat.le_refl _) (Nat.le_refl _) dX14_init_20
abbrev rxX13_init : Room := { frames := 2, cells := 3, slots := 123, locals := 40 }
set_option maxHeartbeats 400000 in
set_option maxRecDepth 100000 in
theorem xX13_init (l : Launch) (E : fx_En) (rd : Nat) (tp_ : Nat) (nma : Nat) (szv : Int32) : fx_Mv l yX13_init cX13_init 4 rxX13_init E [.ref rd, .ref tp_, .int szv, .ref nma] [(rd, .inr (13, [.null, .int 0, .null, .null, .int 0, .int 0]))] [] (S := Nat × Nat × Nat) (fun (u : Nat × Nat × Nat) => [(rd, .inr (13, [.ref tp_, .int szv, .ref nma, .ref u.1, .int 0, .int 0])), (u.1, .inr (14, [.ref u.2.1, .ref u.2.2, .int 0])), (u.2.1, .inl (E.2 1, 60, .inl (fun _ => 0))), (u.2.2, .inl (E.2 2, 60, .inl (fun _ => 0)))]) (fun (u : Nat × Nat × Nat) => True) := by
  refine fx_vW rfl rfl ?_
  intro p e s m args below meth c A ls Q X hnm hE hP hD hR hA hl hret
  have hx := X.1
  have hb := X.2.1
  have hS : va_S A s.heap s.heap [] := va_S.rf
  replace hP : va_P E.1 clA [(rd, .inr (13, [.null, .int 0, .null, .null, .int 0, .int 0]))] _ := hP
  replace hD : va_D A [(rd, .inr (13, [.null, .int 0, .null, .null, .int 0, .int 0]))] := hD
  replace hl : lv_has ls 4 [(0, .ref rd), (1, .ref tp_), (2, .int szv), (3, .ref nma)] := hl
  refine lv_aload_n hx hb dX13_init_0 rfl (lv_at hl 0 rfl) ?_
  refine W.objInit hx hb X.2.2.2.1 (X.2.2.2.2 _ q550) (X.2.2.2.2 _ q104) (X.2.2.2.2 _ q105) rfl (hl.1.trans X.2.2.1.symm) rfl dX13_init_1 (Nat.le_of_ble_eq_true rfl) (Nat.le_of_ble_eq_true rfl) ?_
  refine W.eq (g2 := F0 m 4 ls []) rfl ?_
  refine lv_aload_n hx hb dX13_init_4 rfl (lv_at hl 0 rfl) ?_
  refine fx_new X hE hP hD hS hA (ci := 14) rfl tyX14_ok q551 q552 q84 (fs := [.null, .null, .int 0]) (by decide) (Nat.le_of_ble_eq_true rfl) (Nat.le_of_ble_eq_true rfl) dX13_init_5 (fun q5 H hP hD hS => ?_)
  replace hP : va_P E.1 clA [(rd, .inr (13, [.null, .int 0, .null, .null, .int 0, .int 0])), (q5, .inr (14, [.null, .null, .int 0]))] _ := hP
  replace hD : va_D A [(rd, .inr (13, [.null, .int 0, .null, .null, .int 0, .int 0])), (q5, .inr (14, [.null, .null, .int 0]))] := hD
  refine W.widen (k := 1) (n := 3) (by first | omega | exact Nat.le_of_ble_eq_true rfl) (by first | omega | exact Nat.le_of_ble_eq_true rfl) ?_
  refine lv_dup hx hb dX13_init_8 rfl ?_
  refine fx_cv (va_runIN (As := []) (rest := [.ref q5, .ref rd]) X (xX14_init l E q5 _) ⟨va_cnB 0 X.2.2.2.2 (lw_meth q555) rfl rfl rfl (hE.2.1 _ (List.mem_of_getElem? (i := 35) rfl)) (X.2.2.2.2 _ q84) hdX14_init ⟨Nat.le_of_ble_eq_true rfl, Nat.le_of_ble_eq_true rfl⟩, rfl, X.2.2.2.2 _ q554⟩ (fx_pre hE hP hD hS hR [1] rfl rfl fx_rc0) rfl rfl hl.1 rfl (lv_room (Nat.le_of_ble_eq_true rfl)) dX13_init_9 ⟨Nat.le_of_ble_eq_true rfl, Nat.le_of_ble_eq_true rfl⟩) hP hD hS hA [1] rfl rfl (fun u H locs hq_9 hP hD hS => ?_)
  obtain ⟨qb_9, qc_9⟩ := u
  replace hP : va_P E.1 clA [(rd, .inr (13, [.null, .int 0, .null, .null, .int 0, .int 0])), (q5, .inr (14, [.ref qb_9, .ref qc_9, .int 0])), (qb_9, .inl (E.2 1, 60, .inl (fun _ => 0))), (qc_9, .inl (E.2 2, 60, .inl (fun _ => 0)))] _ := hP
  replace hD : va_D A [(rd, .inr (13, [.null, .int 0, .null, .null, .int 0, .int 0])), (q5, .inr (14, [.ref qb_9, .ref qc_9, .int 0])), (qb_9, .inl (E.2 1, 60, .inl (fun _ => 0))), (qc_9, .inl (E.2 2, 60, .inl (fun _ => 0)))] := hD
  replace hq_9 : True := hq_9
  refine W.widen (k := 3) (n := 123) (by first | omega | exact Nat.le_of_ble_eq_true rfl) (by first | omega | exact Nat.le_of_ble_eq_true rfl) ?_
  refine fx_putF (ws' := [(rd, .inr (13, [.null, .int 0, .null, .ref q5, .int 0, .int 0])), (q5, .inr (14, [.ref qb_9, .ref qc_9, .int 0])), (qb_9, .inl (E.2 1, 60, .inl (fun _ => 0))), (qc_9, .inl (E.2 2, 60, .inl (fun _ => 0)))]) X hE hP hD hS 0 rfl rfl tyX13_ok nmX13 3 rfl q574 rfl rfl hnm rfl rfl rfl rfl rfl dX13_init_12 (fun H locs hP hD hS => ?_)
  refine lv_aload_n hx hb dX13_init_15 rfl (lv_at hl 0 rfl) ?_
  refine lv_aload_n hx hb dX13_init_16 rfl (lv_at hl 1 rfl) ?_
  refine fx_putF (ws' := [(rd, .inr (13, [.ref tp_, .int 0, .null, .ref q5, .int 0, .int 0])), (q5, .inr (14, [.ref qb_9, .ref qc_9, .int 0])), (qb_9, .inl (E.2 1, 60, .inl (fun _ => 0))), (qc_9, .inl (E.2 2, 60, .inl (fun _ => 0)))]) X hE hP hD hS 0 rfl rfl tyX13_ok nmX13 0 rfl q571 rfl rfl hnm rfl rfl rfl rfl rfl dX13_init_17 (fun H locs hP hD hS => ?_)
  refine lv_aload_n hx hb dX13_init_20 rfl (lv_at hl 0 rfl) ?_
  refine lv_iload_n hx hb dX13_init_21 rfl (lv_at hl 2 rfl) ?_
  refine fx_putF (ws' := [(rd, .inr (13, [.ref tp_, .int szv, .null, .ref q5, .int 0, .int 0])), (q5, .inr (14, [.ref qb_9, .ref qc_9, .int 0])), (qb_9, .inl (E.2 1, 60, .inl (fun _ => 0))), (qc_9, .inl (E.2 2, 60, .inl (fun _ => 0)))]) X hE hP hD hS 0 rfl rfl tyX13_ok nmX13 1 rfl q572 rfl rfl hnm rfl rfl rfl rfl rfl dX13_init_22 (fun H locs hP hD hS => ?_)
  refine lv_aload_n hx hb dX13_init_25 rfl (lv_at hl 0 rfl) ?_
  refine lv_aload_n hx hb dX13_init_26 rfl (lv_at hl 3 rfl) ?_
  refine fx_putF (ws' := [(rd, .inr (13, [.ref tp_, .int szv, .ref nma, .ref q5, .int 0, .int 0])), (q5, .inr (14, [.ref qb_9, .ref qc_9, .int 0])), (qb_9, .inl (E.2 1, 60, .inl (fun _ => 0))), (qc_9, .inl (E.2 2, 60, .inl (fun _ => 0)))]) X hE hP hD hS 0 rfl rfl tyX13_ok nmX13 2 rfl q573 rfl rfl hnm rfl rfl rfl rfl rfl dX13_init_27 (fun H locs hP hD hS => ?_)
  exact hret (q5, qb_9, qc_9) (trivial) hP hD hS (Nat.le_refl _) (Nat.le_refl _) dX13_init_30
abbrev rxX0_untell : Room := { frames := 2, cells := 0, slots := 0, locals := 42 }
set_option maxHeartbeats 400000 in
set_option maxRecDepth 100000 in
theorem xX0_untell (l : Launch) (E : fx_En) (ax : Nat → Nat) (im : Int32) (bn : Int32) (bm : Int32) (fm : Int32) (ff : Int32) (fl : Int32) (tk : Int32) (cs : Int32) (gs : Int32) (zz : Int32) (tp : Int32) (wg : Int32) (er : Nat → Int32) (tx : Nat → Option Nat) (T : Tx) (T1 : Tx) (PL : va_W) (u_ : Int32) (hT : TXs E PL (tx 0) T) (hT1 : TXs E PL (tx 1) T1) : fx_Mi l yX0_untell cX0_untell 3 .int rxX0_untell E [.ref (ax 19), .int u_] [(ax 30, .inl (E.2 4, 2, .inr (.inr (.inr (.inr tx))))), (ax 5, .inl (E.2 0, 7, .inl er))] ([(ax 19, .inr (0, [.ref (ax 0), .ref (ax 1), .ref (ax 35), .ref (ax 55), .ref (ax 4), .ref (ax 5), .ref (ax 6), .ref (ax 7), .int im, .ref (ax 9), .ref (ax 10), .ref (ax 11), .ref (ax 12), .ref (ax 13), .int bn, .int bm, .int fm, .int ff, .int fl])), (ax 35, .inr (1, [.ref (ax 20), .ref (ax 21), .ref (ax 22), .int tk, .int cs, .int gs, .int zz, .int tp, .int wg, .ref (ax 29), .ref (ax 30), .ref (ax 31), .ref (ax 32)]))] ++ PL) (S := (Nat → Option Nat) × (Nat → Int32)) (fun (u : (Nat → Option Nat) × (Nat → Int32)) => [(ax 30, .inl (E.2 4, 2, .inr (.inr (.inr (.inr u.1))))), (ax 5, .inl (E.2 0, 7, .inl u.2))]) (fun (r : Int32) (u : (Nat → Option Nat) × (Nat → Int32)) => (inB u_ 0 1 = true ∧ r = fx_b ((TTx T T1 (nn u_)).1 ≠ 0) ∧ u.1 = va_up tx (nn u_) none ∧ u.2 = er) ∨ (¬ inB u_ 0 1 = true ∧ r = erv 1 ∧ u.1 = tx ∧ u.2 = erI er 1)) := by
  refine fx_iW rfl rfl ?_
  intro p e s m args below meth c A ls Q X hE hP hD hR hA hl hret
  have hx := X.1
  have hb := X.2.1
  have hS : va_S A s.heap s.heap [] := va_S.rf
  replace hP : va_P E.1 clA [(ax 30, .inl (E.2 4, 2, .inr (.inr (.inr (.inr tx))))), (ax 5, .inl (E.2 0, 7, .inl er))] _ := hP
  replace hD : va_D A [(ax 30, .inl (E.2 4, 2, .inr (.inr (.inr (.inr tx))))), (ax 5, .inl (E.2 0, 7, .inl er))] := hD
  replace hl : lv_has ls 3 [(0, .ref (ax 19)), (1, .int u_)] := hl
  refine lv_iload_n hx hb dX0_untell_0 rfl (lv_at hl 1 rfl) ?_
  refine fx_ci (va_runS (As := [.int u_]) (rest := []) X (xX0_isUse l E u_ _) (va_cwS 1 X.2.2.2.2 (lw_S q537 q538 q69 q539) rfl rfl rfl hdX0_isUse ⟨Nat.le_of_ble_eq_true rfl, Nat.le_of_ble_eq_true rfl⟩) (fx_pre hE hP hD hS hR [] rfl rfl fx_rc0) rfl rfl hl.1 rfl (lv_room (Nat.le_of_ble_eq_true rfl)) dX0_untell_1 ⟨Nat.le_refl _, Nat.le_refl _⟩) hP hD hS hA [] rfl rfl (fun r_1 u H locs hq_1 hP hD hS => ?_)
  replace hP : va_P E.1 clA [(ax 30, .inl (E.2 4, 2, .inr (.inr (.inr (.inr tx))))), (ax 5, .inl (E.2 0, 7, .inl er))] _ := hP
  replace hD : va_D A [(ax 30, .inl (E.2 4, 2, .inr (.inr (.inr (.inr tx))))), (ax 5, .inl (E.2 0, 7, .inl er))] := hD
  replace hq_1 : r_1 = fx_b (inB u_ 0 1 = true) := hq_1
  rcases fx_bc hq_1 with ⟨hb_1, hr_1⟩ | ⟨hb_1, hr_1⟩
  · -- True
    subst hr_1
    have gn := inB_nn (n := 1) hb_1 (by omega)
    have gn2 := gn.2
    have hTT := TXs_TT hT hT1 (k := nn u_) (by omega)
    refine lv_if_ne (tgt := 13) hx hb dX0_untell_4 (by decide) (fun _ => ?_) (fun c => absurd c (by decide))
    refine lv_aload_n hx hb dX0_untell_13 rfl (lv_at hl 0 rfl) ?_
    refine fx_get X hE (hR.at hS) 0 rfl rfl 2 rfl q237 rfl rfl dX0_untell_14 ?_
    refine fx_getN X hE (hR.at hS) 1 rfl rfl 10 rfl 14 rfl rfl rfl dX0_untell_17 ?_
    refine lv_iload_n hx hb dX0_untell_20 rfl (lv_at hl 1 rfl) ?_
    refine fx_ti (show u_ = nI (nn u_) from gn.1) ?_
    rcases hTT with ⟨htx, hT0⟩ | ⟨ta, tb, tc_, sf, vf, htx, hTp, hc1, hc2, hc3, hfg⟩
    ·
      refine fx_aald X hE hP 0 4 rfl rfl (nn u_) rfl (by omega) rfl (r := none) (htx) dX0_untell_21 ?_
      refine lv_ifnonnullN hx hb dX0_untell_22 ?_
      refine lv_iconst (v := 0) hx hb dX0_untell_25 rfl ?_
      refine lv_goto (tgt := 30) hx hb dX0_untell_26 (by decide) ?_
      refine lv_istore_n (lv' := [(2, .int 0), (0, .ref (ax 19)), (1, .int u_)]) hx hb dX0_untell_30 rfl hl (by decide) rfl (fun ls hl => ?_)
      refine lv_aload_n hx hb dX0_untell_31 rfl (lv_at hl 1 rfl) ?_
      refine fx_get X hE (hR.at hS) 0 rfl rfl 2 rfl q237 rfl rfl dX0_untell_32 ?_
      refine fx_getN X hE (hR.at hS) 1 rfl rfl 10 rfl 14 rfl rfl rfl dX0_untell_35 ?_
      refine lv_iload_n hx hb dX0_untell_38 rfl (lv_at hl 2 rfl) ?_
      refine fx_ti (show u_ = nI (nn u_) from gn.1) ?_
      refine lv_null hx hb dX0_untell_39 ?_
      refine fx_aastN (ws' := [(ax 30, .inl (E.2 4, 2, .inr (.inr (.inr (.inr (va_up tx (nn u_) none)))))), (ax 5, .inl (E.2 0, 7, .inl er))]) X hE hP hD hS 0 4 rfl rfl (nn u_) rfl (by omega) rfl rfl dX0_untell_40 (fun H locs hP hD hS => ?_)
      refine lv_iload_n hx hb dX0_untell_41 rfl (lv_at hl 0 rfl) ?_
      exact hret 0 ((va_up tx (nn u_) none), er) (Or.inl ⟨hb_1, fx_bf (fun h => h hT0), rfl, rfl⟩) (rfl) hP hD hS (Nat.le_refl _) (Nat.le_refl _) dX0_untell_42
    ·
      refine fx_aald X hE hP 0 4 rfl rfl (nn u_) rfl (by omega) rfl (r := some ta) (htx) dX0_untell_21 ?_
      refine lv_ifnonnull (tgt := 29) hx hb dX0_untell_22 (by decide) ?_
      refine lv_iconst (v := 1) hx hb dX0_untell_29 rfl ?_
      refine lv_istore_n (lv' := [(2, .int 1), (0, .ref (ax 19)), (1, .int u_)]) hx hb dX0_untell_30 rfl hl (by decide) rfl (fun ls hl => ?_)
      refine lv_aload_n hx hb dX0_untell_31 rfl (lv_at hl 1 rfl) ?_
      refine fx_get X hE (hR.at hS) 0 rfl rfl 2 rfl q237 rfl rfl dX0_untell_32 ?_
      refine fx_getN X hE (hR.at hS) 1 rfl rfl 10 rfl 14 rfl rfl rfl dX0_untell_35 ?_
      refine lv_iload_n hx hb dX0_untell_38 rfl (lv_at hl 2 rfl) ?_
      refine fx_ti (show u_ = nI (nn u_) from gn.1) ?_
      refine lv_null hx hb dX0_untell_39 ?_
      refine fx_aastN (ws' := [(ax 30, .inl (E.2 4, 2, .inr (.inr (.inr (.inr (va_up tx (nn u_) none)))))), (ax 5, .inl (E.2 0, 7, .inl er))]) X hE hP hD hS 0 4 rfl rfl (nn u_) rfl (by omega) rfl rfl dX0_untell_40 (fun H locs hP hD hS => ?_)
      refine lv_iload_n hx hb dX0_untell_41 rfl (lv_at hl 0 rfl) ?_
      exact hret 1 ((va_up tx (nn u_) none), er) (Or.inl ⟨hb_1, fx_bt (by omega), rfl, rfl⟩) (rfl) hP hD hS (Nat.le_refl _) (Nat.le_refl _) dX0_untell_42
  · -- False
    subst hr_1
    refine lv_if_ne (tgt := 13) hx hb dX0_untell_4 (by decide) (fun c => (c (by decide)).elim) (fun _ => ?_)
    refine lv_aload_n hx hb dX0_untell_7 rfl (lv_at hl 0 rfl) ?_
    refine lv_iconst (v := 1) hx hb dX0_untell_8 rfl ?_
    refine fx_ci (va_runV (As := [.int 1]) (rest := []) X (xX0_finds l E ax im bn bm fm ff fl er 1 (by decide) _) (cwV 1 X.2.2.2.2 (lw_V q303 q305 qs0 q69 q306) rfl rfl rfl ⟨rfl, hdX0_finds⟩ ⟨Nat.le_of_ble_eq_true rfl, Nat.le_of_ble_eq_true rfl⟩) (fx_preV (fx_pre hE hP hD hS hR [1] rfl rfl (fx_rcr 0 rfl fx_rc0)) (va_recv hE.1 (hR.at hS) (ci := 0) (q0 := 0) rfl rfl)) rfl rfl hl.1 rfl (lv_room (Nat.le_of_ble_eq_true rfl)) dX0_untell_9 ⟨Nat.le_refl _, Nat.le_refl _⟩) hP hD hS hA [1] rfl rfl (fun r_9 u H locs hq_9 hP hD hS => ?_)
    replace hP : va_P E.1 clA [(ax 30, .inl (E.2 4, 2, .inr (.inr (.inr (.inr tx))))), (ax 5, .inl (E.2 0, 7, .inl (upd er 1 (er 1 + 1))))] _ := hP
    replace hD : va_D A [(ax 30, .inl (E.2 4, 2, .inr (.inr (.inr (.inr tx))))), (ax 5, .inl (E.2 0, 7, .inl (upd er 1 (er 1 + 1))))] := hD
    replace hq_9 : r_9 = erv 1 := hq_9
    exact hret r_9 (tx, (upd er 1 (er 1 + 1))) (Or.inr ⟨hb_1, hq_9, rfl, rfl⟩) (rfl) hP hD hS (Nat.le_refl _) (Nat.le_refl _) dX0_untell_12
abbrev rxX0_feed : Room := { frames := 1, cells := 0, slots := 0, locals := 22 }
set_option maxHeartbeats 400000 in
set_option maxRecDepth 100000 in
theorem xX0_feed (l : Launch) (E : fx_En) (ax : Nat → Nat) (im : Int32) (bn : Int32) (bm : Int32) (fm : Int32) (ff : Int32) (fl : Int32) (tk : Int32) (cs : Int32) (gs : Int32) (zz : Int32) (tp : Int32) (wg : Int32) (er : Nat → Int32) (sa : Nat → Int32) (ft : Nat → Int32) (wd : Int64) (n_ : Int32) (hI : Inv sa) (hN : HN sa tk cs gs zz tp wg) (hft : TPE ft sa) : fx_Mi l yX0_feed cX0_feed 5 .int rxX0_feed E [.ref (ax 19), .long wd, .int n_] [(ax 35, .inr (1, [.ref (ax 20), .ref (ax 21), .ref (ax 22), .int tk, .int cs, .int gs, .int zz, .int tp, .int wg, .ref (ax 29), .ref (ax 30), .ref (ax 31), .ref (ax 32)])), (ax 31, .inl (E.2 1, 60, .inl ft)), (ax 5, .inl (E.2 0, 7, .inl er))] [(ax 19, .inr (0, [.ref (ax 0), .ref (ax 1), .ref (ax 35), .ref (ax 55), .ref (ax 4), .ref (ax 5), .ref (ax 6), .ref (ax 7), .int im, .ref (ax 9), .ref (ax 10), .ref (ax 11), .ref (ax 12), .ref (ax 13), .int bn, .int bm, .int fm, .int ff, .int fl]))] (S := Int32 × (Nat → Int32) × (Nat → Int32)) (fun (u : Int32 × (Nat → Int32) × (Nat → Int32)) => [(ax 35, .inr (1, [.ref (ax 20), .ref (ax 21), .ref (ax 22), .int tk, .int cs, .int gs, .int zz, .int u.1, .int wg, .ref (ax 29), .ref (ax 30), .ref (ax 31), .ref (ax 32)])), (ax 31, .inl (E.2 1, 60, .inl u.2.1)), (ax 5, .inl (E.2 0, 7, .inl u.2.2))]) (fun (r : Int32) (u : Int32 × (Nat → Int32) × (Nat → Int32)) => r = (feed_ sa er wd n_).1 ∧ u.2.2 = (feed_ sa er wd n_).2.2 ∧ HN (feed_ sa er wd n_).2.1 tk cs gs zz u.1 wg ∧ TPE u.2.1 (feed_ sa er wd n_).2.1) := by
  refine fx_iW rfl rfl ?_
  intro p e s m args below meth c A ls Q X hE hP hD hR hA hl hret
  have hx := X.1
  have hb := X.2.1
  have hS : va_S A s.heap s.heap [] := va_S.rf
  replace hP : va_P E.1 clA [(ax 35, .inr (1, [.ref (ax 20), .ref (ax 21), .ref (ax 22), .int tk, .int cs, .int gs, .int zz, .int tp, .int wg, .ref (ax 29), .ref (ax 30), .ref (ax 31), .ref (ax 32)])), (ax 31, .inl (E.2 1, 60, .inl ft)), (ax 5, .inl (E.2 0, 7, .inl er))] _ := hP
  replace hD : va_D A [(ax 35, .inr (1, [.ref (ax 20), .ref (ax 21), .ref (ax 22), .int tk, .int cs, .int gs, .int zz, .int tp, .int wg, .ref (ax 29), .ref (ax 30), .ref (ax 31), .ref (ax 32)])), (ax 31, .inl (E.2 1, 60, .inl ft)), (ax 5, .inl (E.2 0, 7, .inl er))] := hD
  replace hl : lv_has ls 5 [(0, .ref (ax 19)), (1, .long wd), (3, .int n_)] := hl
  have htp := hI.taped.2
  have etp : tp = nI (nn (sa 3)) := hN.2.2.2.2.1.trans hI.taped.1
  subst etp
  refine lv_iload_n hx hb dX0_feed_0 rfl (lv_at hl 2 rfl) ?_
  refine lv_iconst (v := 1) hx hb dX0_feed_1 rfl ?_
  refine lv_bipush (v := 8) hx hb dX0_feed_2 rfl ?_
  refine fx_ci (va_runS (As := [.int n_, .int 1, .int 8]) (rest := []) X (xX0_isIn l E n_ 1 8 _) (va_cwS 3 X.2.2.2.2 (lw_S q300 q301 q69 q302) rfl rfl rfl hdX0_isIn ⟨Nat.le_of_ble_eq_true rfl, Nat.le_of_ble_eq_true rfl⟩) (fx_pre hE hP hD hS hR [] rfl rfl fx_rc0) rfl rfl hl.1 rfl (lv_room (Nat.le_of_ble_eq_true rfl)) dX0_feed_4 ⟨Nat.le_refl _, Nat.le_refl _⟩) hP hD hS hA [] rfl rfl (fun r_4 u H locs hq_4 hP hD hS => ?_)
  replace hP : va_P E.1 clA [(ax 35, .inr (1, [.ref (ax 20), .ref (ax 21), .ref (ax 22), .int tk, .int cs, .int gs, .int zz, .int (nI (nn (sa 3))), .int wg, .ref (ax 29), .ref (ax 30), .ref (ax 31), .ref (ax 32)])), (ax 31, .inl (E.2 1, 60, .inl ft)), (ax 5, .inl (E.2 0, 7, .inl er))] _ := hP
  replace hD : va_D A [(ax 35, .inr (1, [.ref (ax 20), .ref (ax 21), .ref (ax 22), .int tk, .int cs, .int gs, .int zz, .int (nI (nn (sa 3))), .int wg, .ref (ax 29), .ref (ax 30), .ref (ax 31), .ref (ax 32)])), (ax 31, .inl (E.2 1, 60, .inl ft)), (ax 5, .inl (E.2 0, 7, .inl er))] := hD
  replace hq_4 : r_4 = fx_b (inB n_ 1 8 = true) := hq_4
  rcases fx_bc hq_4 with ⟨hb_4, hr_4⟩ | ⟨hb_4, hr_4⟩
  · -- True
    subst hr_4
    refine lv_if_ne (tgt := 16) hx hb dX0_feed_7 (by decide) (fun _ => ?_) (fun c => absurd c (by decide))
    have gn := inB_nn1 (n := 8) hb_4 (by decide) (by omega)
    have gn2 := gn.2
    refine lv_aload_n hx hb dX0_feed_16 rfl (lv_at hl 0 rfl) ?_
    refine fx_get X hE (hR.at hS) 0 rfl rfl 2 rfl q237 rfl rfl dX0_feed_17 ?_
    refine fx_getN X hE hP 0 rfl rfl 7 rfl 10 rfl rfl rfl dX0_feed_20 ?_
    refine lv_iload_n hx hb dX0_feed_23 rfl (lv_at hl 2 rfl) ?_
    refine fx_ti (show n_ = nI (nn n_) from gn.1) ?_
    refine lv_iadd hx hb dX0_feed_24 ?_
    refine fx_ti (nI_add (nn (sa 3)) (nn n_)) ?_
    refine lv_bipush (v := 60) hx hb dX0_feed_25 rfl ?_
    refine lv_icmp_le (tgt := 36) hx hb dX0_feed_27 (by decide) (fun c_27 => ?_) (fun c_27 => ?_)
    · -- jump 36
      have n_27 := fx_le1 (a := (nn (sa 3) + nn n_)) (b := 60) c_27 (by omega) (by omega)
      refine lv_iconst (v := 0) hx hb dX0_feed_36 rfl ?_
      refine lv_istore (lv' := [(4, .int 0), (0, .ref (ax 19)), (1, .long wd), (3, .int n_)]) hx hb dX0_feed_37 hl (by decide) rfl (fun ls hl => ?_)
      have loop_39 : ∀ (n_39 : Nat) (t : Nat) (fv : Nat → Int32), (nn n_ - t < n_39) → (t ≤ nn n_) → (TPE fv (fdA sa wd t)) → ∀ (H : Heap) (locs : List Loc), va_P E.1 clA [(ax 35, .inr (1, [.ref (ax 20), .ref (ax 21), .ref (ax 22), .int tk, .int cs, .int gs, .int zz, .int (nI (nn (sa 3) + t)), .int wg, .ref (ax 29), .ref (ax 30), .ref (ax 31), .ref (ax 32)])), (ax 31, .inl (E.2 1, 60, .inl fv)), (ax 5, .inl (E.2 0, 7, .inl er))] H → va_D A [(ax 35, .inr (1, [.ref (ax 20), .ref (ax 21), .ref (ax 22), .int tk, .int cs, .int gs, .int zz, .int (nI (nn (sa 3) + t)), .int wg, .ref (ax 29), .ref (ax 30), .ref (ax 31), .ref (ax 32)])), (ax 31, .inl (E.2 1, 60, .inl fv)), (ax 5, .inl (E.2 0, 7, .inl er))] → va_S A s.heap H locs → ∀ (ls : Array Slot), lv_has ls 5 [(4, .int (nI t)), (0, .ref (ax 19)), (1, .long wd), (3, .int n_)] → W p l e rxX0_feed s m args below meth c H locs 0 0 Q (F0 m 39 ls []) := by
        intro n_39
        induction n_39 with
        | zero => intro t fv hm_39; exact absurd hm_39 (Nat.not_lt_zero _)
        | succ n_39 ih_39 =>
          intro t fv hm_39 ht hfv H locs hP hD hS ls hl
          refine lv_iload hx hb dX0_feed_39 (lv_at hl 0 rfl) ?_
          refine lv_iload_n hx hb dX0_feed_41 rfl (lv_at hl 3 rfl) ?_
          refine fx_ti (show n_ = nI (nn n_) from gn.1) ?_
          refine lv_icmp_ge (tgt := 88) hx hb dX0_feed_42 (by decide) (fun c_42 => ?_) (fun c_42 => ?_)
          · -- jump 88
            have n_42 := fx_le1 (a := (nn n_)) (b := t) c_42 (by omega) (by omega)
            obtain rfl : t = nn n_ := by omega
            refine lv_aload_n hx hb dX0_feed_88 rfl (lv_at hl 1 rfl) ?_
            refine fx_get X hE (hR.at hS) 0 rfl rfl 2 rfl q237 rfl rfl dX0_feed_89 ?_
            refine fx_getN X hE hP 0 rfl rfl 7 rfl 10 rfl rfl rfl dX0_feed_92 ?_
            exact hret (nI (nn (sa 3) + (nn n_))) (nI (nn (sa 3) + (nn n_)), fv, er) (by simp only [feed_]; rw [if_pos hb_4, if_neg (show ¬ 60 < nn (sa 3) + nn n_ by omega)]; exact ⟨rfl, rfl, HN_t hN hI.taped.1 _, hfv⟩) (rfl) hP hD hS (Nat.le_refl _) (Nat.le_refl _) dX0_feed_95
          · -- fall 45
            have n_42 := fx_le0 (a := (nn n_)) (b := t) c_42 (by omega) (by omega)
            refine lv_aload_n hx hb dX0_feed_45 rfl (lv_at hl 1 rfl) ?_
            refine fx_get X hE (hR.at hS) 0 rfl rfl 2 rfl q237 rfl rfl dX0_feed_46 ?_
            refine fx_getN X hE hP 0 rfl rfl 11 rfl 15 rfl rfl rfl dX0_feed_49 ?_
            refine lv_aload_n hx hb dX0_feed_52 rfl (lv_at hl 1 rfl) ?_
            refine fx_get X hE (hR.at hS) 0 rfl rfl 2 rfl q237 rfl rfl dX0_feed_53 ?_
            refine fx_getN X hE hP 0 rfl rfl 7 rfl 10 rfl rfl rfl dX0_feed_56 ?_
            refine lv_lload_n hx hb dX0_feed_59 rfl (lv_at hl 2 rfl) ?_
            refine lv_bipush (v := 8) hx hb dX0_feed_60 rfl ?_
            refine lv_iload hx hb dX0_feed_62 (lv_at hl 0 rfl) ?_
            refine lv_imul hx hb dX0_feed_64 ?_
            refine fx_ti (pk_mul 8 t) ?_
            refine lv_lshr (v := (wd >>> ((nI (8 * t) : Int32).toInt64 &&& 63))) hx hb dX0_feed_65 rfl ?_
            refine lv_l2i (v := (wd >>> ((nI (8 * t) : Int32).toInt64 &&& 63)).toInt32) hx hb dX0_feed_66 rfl ?_
            refine lv_i2b (v := ((wd >>> ((nI (8 * t) : Int32).toInt64 &&& 63)).toInt32).toInt8.toInt32) hx hb dX0_feed_67 rfl ?_
            refine fx_bast (ws' := [(ax 35, .inr (1, [.ref (ax 20), .ref (ax 21), .ref (ax 22), .int tk, .int cs, .int gs, .int zz, .int (nI (nn (sa 3) + t)), .int wg, .ref (ax 29), .ref (ax 30), .ref (ax 31), .ref (ax 32)])), (ax 31, .inl (E.2 1, 60, .inl (upd fv (nn (sa 3) + t) (((wd >>> ((nI (8 * t) : Int32).toInt64 &&& 63)).toInt32).toInt8.toInt32)))), (ax 5, .inl (E.2 0, 7, .inl er))]) X hE hP hD hS 1 rfl (nn (sa 3) + t) rfl (by omega) rfl (pk_bidem _) rfl dX0_feed_68 (fun H locs hP hD hS => ?_)
            refine lv_aload_n hx hb dX0_feed_69 rfl (lv_at hl 1 rfl) ?_
            refine fx_get X hE (hR.at hS) 0 rfl rfl 2 rfl q237 rfl rfl dX0_feed_70 ?_
            refine lv_dup hx hb dX0_feed_73 rfl ?_
            refine fx_getN X hE hP 0 rfl rfl 7 rfl 10 rfl rfl rfl dX0_feed_74 ?_
            refine lv_iconst (v := 1) hx hb dX0_feed_77 rfl ?_
            refine lv_iadd hx hb dX0_feed_78 ?_
            refine fx_ti (nI_add (nn (sa 3) + t) 1) ?_
            refine fx_putN (ws' := [(ax 35, .inr (1, [.ref (ax 20), .ref (ax 21), .ref (ax 22), .int tk, .int cs, .int gs, .int zz, .int (nI (nn (sa 3) + t + 1)), .int wg, .ref (ax 29), .ref (ax 30), .ref (ax 31), .ref (ax 32)])), (ax 31, .inl (E.2 1, 60, .inl (upd fv (nn (sa 3) + t) (((wd >>> ((nI (8 * t) : Int32).toInt64 &&& 63)).toInt32).toInt8.toInt32)))), (ax 5, .inl (E.2 0, 7, .inl er))]) X hE hP hD hS 0 rfl rfl tyX1_ok nmX1 7 rfl 10 rfl rfl rfl rfl rfl rfl rfl dX0_feed_79 (fun H locs hP hD hS => ?_)
            refine lv_iinc (v := nI (t + 1)) (lv' := [(4, .int (nI (t + 1))), (0, .ref (ax 19)), (1, .long wd), (3, .int n_)]) hx hb dX0_feed_82 hl (k := 0) rfl (fx_inc _) (by decide) rfl (fun ls hl => ?_)
            refine lv_goto (tgt := 39) hx hb dX0_feed_85 (by decide) ?_
            exact ih_39 (t + 1) (upd fv (nn (sa 3) + t) (((wd >>> ((nI (8 * t) : Int32).toInt64 &&& 63)).toInt32).toInt8.toInt32)) (by omega) (by omega) (TPE_s hfv rfl (i64_b _).symm) _ _ hP hD hS ls (lv_sub hl [0, 1, 2, 3] rfl)
      exact loop_39 ((nn n_ - 0) + 1) 0 ft (Nat.lt_succ_self _) (Nat.zero_le _) hft _ _ hP hD hS ls (lv_sub hl [0, 1, 2, 3] rfl)
    · -- fall 30
      have n_27 := fx_le0 (a := (nn (sa 3) + nn n_)) (b := 60) c_27 (by omega) (by omega)
      refine lv_aload_n hx hb dX0_feed_30 rfl (lv_at hl 0 rfl) ?_
      refine lv_iconst (v := 4) hx hb dX0_feed_31 rfl ?_
      refine fx_ci (va_runV (As := [.int 4]) (rest := []) X (xX0_finds l E ax im bn bm fm ff fl er 4 (by decide) _) (cwV 1 X.2.2.2.2 (lw_V q303 q305 qs0 q69 q306) rfl rfl rfl ⟨rfl, hdX0_finds⟩ ⟨Nat.le_of_ble_eq_true rfl, Nat.le_of_ble_eq_true rfl⟩) (fx_preV (fx_pre hE hP hD hS hR [2] rfl rfl (fx_rcr 0 rfl fx_rc0)) (va_recv hE.1 (hR.at hS) (ci := 0) (q0 := 0) rfl rfl)) rfl rfl hl.1 rfl (lv_room (Nat.le_of_ble_eq_true rfl)) dX0_feed_32 ⟨Nat.le_refl _, Nat.le_refl _⟩) hP hD hS hA [2] rfl rfl (fun r_32 u H locs hq_32 hP hD hS => ?_)
      replace hP : va_P E.1 clA [(ax 35, .inr (1, [.ref (ax 20), .ref (ax 21), .ref (ax 22), .int tk, .int cs, .int gs, .int zz, .int (nI (nn (sa 3))), .int wg, .ref (ax 29), .ref (ax 30), .ref (ax 31), .ref (ax 32)])), (ax 31, .inl (E.2 1, 60, .inl ft)), (ax 5, .inl (E.2 0, 7, .inl (upd er 4 (er 4 + 1))))] _ := hP
      replace hD : va_D A [(ax 35, .inr (1, [.ref (ax 20), .ref (ax 21), .ref (ax 22), .int tk, .int cs, .int gs, .int zz, .int (nI (nn (sa 3))), .int wg, .ref (ax 29), .ref (ax 30), .ref (ax 31), .ref (ax 32)])), (ax 31, .inl (E.2 1, 60, .inl ft)), (ax 5, .inl (E.2 0, 7, .inl (upd er 4 (er 4 + 1))))] := hD
      replace hq_32 : r_32 = erv 4 := hq_32
      exact hret r_32 (nI (nn (sa 3)), ft, (upd er 4 (er 4 + 1))) (by rw [hq_32]; simp only [feed_]; rw [if_pos hb_4, if_pos (show 60 < nn (sa 3) + nn n_ by omega)]; exact ⟨rfl, rfl, hN, hft⟩) (rfl) hP hD hS (Nat.le_refl _) (Nat.le_refl _) dX0_feed_35
  · -- False
    subst hr_4
    refine lv_if_ne (tgt := 16) hx hb dX0_feed_7 (by decide) (fun c => (c (by decide)).elim) (fun _ => ?_)
    refine lv_aload_n hx hb dX0_feed_10 rfl (lv_at hl 0 rfl) ?_
    refine lv_iconst (v := 1) hx hb dX0_feed_11 rfl ?_
    refine fx_ci (va_runV (As := [.int 1]) (rest := []) X (xX0_finds l E ax im bn bm fm ff fl er 1 (by decide) _) (cwV 1 X.2.2.2.2 (lw_V q303 q305 qs0 q69 q306) rfl rfl rfl ⟨rfl, hdX0_finds⟩ ⟨Nat.le_of_ble_eq_true rfl, Nat.le_of_ble_eq_true rfl⟩) (fx_preV (fx_pre hE hP hD hS hR [2] rfl rfl (fx_rcr 0 rfl fx_rc0)) (va_recv hE.1 (hR.at hS) (ci := 0) (q0 := 0) rfl rfl)) rfl rfl hl.1 rfl (lv_room (Nat.le_of_ble_eq_true rfl)) dX0_feed_12 ⟨Nat.le_refl _, Nat.le_refl _⟩) hP hD hS hA [2] rfl rfl (fun r_12 u H locs hq_12 hP hD hS => ?_)
    replace hP : va_P E.1 clA [(ax 35, .inr (1, [.ref (ax 20), .ref (ax 21), .ref (ax 22), .int tk, .int cs, .int gs, .int zz, .int (nI (nn (sa 3))), .int wg, .ref (ax 29), .ref (ax 30), .ref (ax 31), .ref (ax 32)])), (ax 31, .inl (E.2 1, 60, .inl ft)), (ax 5, .inl (E.2 0, 7, .inl (upd er 1 (er 1 + 1))))] _ := hP
    replace hD : va_D A [(ax 35, .inr (1, [.ref (ax 20), .ref (ax 21), .ref (ax 22), .int tk, .int cs, .int gs, .int zz, .int (nI (nn (sa 3))), .int wg, .ref (ax 29), .ref (ax 30), .ref (ax 31), .ref (ax 32)])), (ax 31, .inl (E.2 1, 60, .inl ft)), (ax 5, .inl (E.2 0, 7, .inl (upd er 1 (er 1 + 1))))] := hD
    replace hq_12 : r_12 = erv 1 := hq_12
    exact hret r_12 (nI (nn (sa 3)), ft, (upd er 1 (er 1 + 1))) (by rw [hq_12]; simp only [feed_, if_neg hb_4]; refine ⟨?_, ?_, hN, hft⟩ <;> first | trivial | rfl) (rfl) hP hD hS (Nat.le_refl _) (Nat.le_refl _) dX0_feed_15
abbrev rxX0_text : Room := { frames := 47, cells := 5, slots := 200, locals := 1570 }
set_option maxHeartbeats 400000 in
set_option maxRecDepth 100000 in
theorem xX0_text (l : Launch) (E : fx_En) (ks : fz_Ks) (ax : Nat → Nat) (im : Int32) (bn : Int32) (bm : Int32) (fm : Int32) (ff : Int32) (fl : Int32) (tk : Int32) (cs : Int32) (gs : Int32) (zz : Int32) (tp : Int32) (wg : Int32) (er : Nat → Int32) (sa : Nat → Int32) (ft : Nat → Int32) (tx : Nat → Option Nat) (u_ : Int32) (hI : Inv sa) (hN : HN sa tk cs gs zz tp wg) (hft : TPE ft sa) (hBY : BY sa) : fz_Hi l yX0_text cX0_text 6 [((39 : Nat), (54 : Nat), (64 : Nat), (220 : Nat)), ((39 : Nat), (54 : Nat), (85 : Nat), (0 : Nat)), ((64 : Nat), (74 : Nat), (85 : Nat), (0 : Nat)), ((85 : Nat), (87 : Nat), (85 : Nat), (0 : Nat))] .int rxX0_text E ks [.ref (ax 19), .int u_] [(ax 35, .inr (1, [.ref (ax 20), .ref (ax 21), .ref (ax 22), .int tk, .int cs, .int gs, .int zz, .int tp, .int wg, .ref (ax 29), .ref (ax 30), .ref (ax 31), .ref (ax 32)])), (ax 30, .inl (E.2 4, 2, .inr (.inr (.inr (.inr tx))))), (ax 5, .inl (E.2 0, 7, .inl er))] [(ax 19, .inr (0, [.ref (ax 0), .ref (ax 1), .ref (ax 35), .ref (ax 55), .ref (ax 4), .ref (ax 5), .ref (ax 6), .ref (ax 7), .int im, .ref (ax 9), .ref (ax 10), .ref (ax 11), .ref (ax 12), .ref (ax 13), .int bn, .int bm, .int fm, .int ff, .int fl])), (ax 31, .inl (E.2 1, 60, .inl ft))] (S := Int32 × (Nat → Option Nat) × (Nat → Int32) × va_W) (fun (u : Int32 × (Nat → Option Nat) × (Nat → Int32) × va_W) => ([(ax 35, .inr (1, [.ref (ax 20), .ref (ax 21), .ref (ax 22), .int tk, .int cs, .int gs, .int zz, .int u.1, .int wg, .ref (ax 29), .ref (ax 30), .ref (ax 31), .ref (ax 32)])), (ax 30, .inl (E.2 4, 2, .inr (.inr (.inr (.inr u.2.1))))), (ax 5, .inl (E.2 0, 7, .inl u.2.2.1))] ++ u.2.2.2)) (fun (r : Int32) (u : Int32 × (Nat → Option Nat) × (Nat → Int32) × va_W) => r = (text_ sa er u_).1 ∧ u.2.2.1 = (text_ sa er u_).2.2 ∧ ((inB u_ 0 1 = true ∧ rdG sa (nn u_) = true ∧ u.1 = 0 ∧ (∃ a_, u.2.1 = va_up tx (nn u_) (some a_)) ∧ TXs E u.2.2.2 (u.2.1 (nn u_)) (PsT (rdF sa (nn u_)).2)) ∨ (inB u_ 0 1 = true ∧ rdG sa (nn u_) = false ∧ u.1 = 0 ∧ u.2.1 = tx ∧ u.2.2.2 = []) ∨ (¬ inB u_ 0 1 = true ∧ u.1 = tp ∧ u.2.1 = tx ∧ u.2.2.2 = []))) := by
  refine fz_hW rfl rfl ?_
  intro p e s m args below meth c A ls Q X htab hlocks hE hP hD hR hZ hA hl hret
  have hx := X.1
  have hb := X.2.1
  have hS : va_S A s.heap s.heap [] := va_S.rf
  replace hP : va_P E.1 clA [(ax 35, .inr (1, [.ref (ax 20), .ref (ax 21), .ref (ax 22), .int tk, .int cs, .int gs, .int zz, .int tp, .int wg, .ref (ax 29), .ref (ax 30), .ref (ax 31), .ref (ax 32)])), (ax 30, .inl (E.2 4, 2, .inr (.inr (.inr (.inr tx))))), (ax 5, .inl (E.2 0, 7, .inl er))] _ := hP
  replace hD : va_D A [(ax 35, .inr (1, [.ref (ax 20), .ref (ax 21), .ref (ax 22), .int tk, .int cs, .int gs, .int zz, .int tp, .int wg, .ref (ax 29), .ref (ax 30), .ref (ax 31), .ref (ax 32)])), (ax 30, .inl (E.2 4, 2, .inr (.inr (.inr (.inr tx))))), (ax 5, .inl (E.2 0, 7, .inl er))] := hD
  replace hl : lv_has ls 6 [(0, .ref (ax 19)), (1, .int u_)] := hl
  have htp := hI.taped.2
  have etp : tp = nI (nn (sa 3)) := hN.2.2.2.2.1.trans hI.taped.1
  subst etp
  refine lv_iload_n hx hb dX0_text_0 rfl (lv_at hl 1 rfl) ?_
  refine fx_ci (va_runS (As := [.int u_]) (rest := []) X (xX0_isUse l E u_ _) (va_cwS 1 X.2.2.2.2 (lw_S q537 q538 q69 q539) rfl rfl rfl hdX0_isUse ⟨Nat.le_of_ble_eq_true rfl, Nat.le_of_ble_eq_true rfl⟩) (fx_pre hE hP hD hS hR [] rfl rfl fx_rc0) rfl rfl hl.1 rfl (lv_room (Nat.le_of_ble_eq_true rfl)) dX0_text_1 ⟨Nat.le_of_ble_eq_true rfl, Nat.le_of_ble_eq_true rfl⟩) hP hD hS hA [] rfl rfl (fun r_1 u H locs hq_1 hP hD hS => ?_)
  replace hP : va_P E.1 clA [(ax 35, .inr (1, [.ref (ax 20), .ref (ax 21), .ref (ax 22), .int tk, .int cs, .int gs, .int zz, .int (nI (nn (sa 3))), .int wg, .ref (ax 29), .ref (ax 30), .ref (ax 31), .ref (ax 32)])), (ax 30, .inl (E.2 4, 2, .inr (.inr (.inr (.inr tx))))), (ax 5, .inl (E.2 0, 7, .inl er))] _ := hP
  replace hD : va_D A [(ax 35, .inr (1, [.ref (ax 20), .ref (ax 21), .ref (ax 22), .int tk, .int cs, .int gs, .int zz, .int (nI (nn (sa 3))), .int wg, .ref (ax 29), .ref (ax 30), .ref (ax 31), .ref (ax 32)])), (ax 30, .inl (E.2 4, 2, .inr (.inr (.inr (.inr tx))))), (ax 5, .inl (E.2 0, 7, .inl er))] := hD
  replace hq_1 : r_1 = fx_b (inB u_ 0 1 = true) := hq_1
  rcases fx_bc hq_1 with ⟨hb_1, hr_1⟩ | ⟨hb_1, hr_1⟩
  · -- True
    subst hr_1
    have gn := inB_nn (n := 1) hb_1 (by omega)
    have gn2 := gn.2
    refine lv_if_ne (tgt := 13) hx hb dX0_text_4 (by decide) (fun _ => ?_) (fun c => absurd c (by decide))
    refine fx_new X hE hP hD hS hA (ci := 13) rfl tyX13_ok q540 q541 q83 (fs := [.null, .int 0, .null, .null, .int 0, .int 0]) (by decide) (Nat.le_of_ble_eq_true rfl) (Nat.le_of_ble_eq_true rfl) dX0_text_13 (fun q13 H hP hD hS => ?_)
    replace hP : va_P E.1 clA [(ax 35, .inr (1, [.ref (ax 20), .ref (ax 21), .ref (ax 22), .int tk, .int cs, .int gs, .int zz, .int (nI (nn (sa 3))), .int wg, .ref (ax 29), .ref (ax 30), .ref (ax 31), .ref (ax 32)])), (ax 30, .inl (E.2 4, 2, .inr (.inr (.inr (.inr tx))))), (ax 5, .inl (E.2 0, 7, .inl er)), (q13, .inr (13, [.null, .int 0, .null, .null, .int 0, .int 0]))] _ := hP
    replace hD : va_D A [(ax 35, .inr (1, [.ref (ax 20), .ref (ax 21), .ref (ax 22), .int tk, .int cs, .int gs, .int zz, .int (nI (nn (sa 3))), .int wg, .ref (ax 29), .ref (ax 30), .ref (ax 31), .ref (ax 32)])), (ax 30, .inl (E.2 4, 2, .inr (.inr (.inr (.inr tx))))), (ax 5, .inl (E.2 0, 7, .inl er)), (q13, .inr (13, [.null, .int 0, .null, .null, .int 0, .int 0]))] := hD
    refine W.widen (k := 1) (n := 6) (by first | omega | exact Nat.le_of_ble_eq_true rfl) (by first | omega | exact Nat.le_of_ble_eq_true rfl) ?_
    refine lv_dup hx hb dX0_text_16 rfl ?_
    refine lv_aload_n hx hb dX0_text_17 rfl (lv_at hl 0 rfl) ?_
    refine fx_get X hE (hR.at hS) 0 rfl rfl 2 rfl q237 rfl rfl dX0_text_18 ?_
    refine fx_getN X hE hP 0 rfl rfl 11 rfl 15 rfl rfl rfl dX0_text_21 ?_
    refine lv_aload_n hx hb dX0_text_24 rfl (lv_at hl 0 rfl) ?_
    refine fx_get X hE (hR.at hS) 0 rfl rfl 2 rfl q237 rfl rfl dX0_text_25 ?_
    refine fx_getN X hE hP 0 rfl rfl 7 rfl 10 rfl rfl rfl dX0_text_28 ?_
    refine lv_iload_n hx hb dX0_text_31 rfl (lv_at hl 1 rfl) ?_
    refine fx_ti (show u_ = nI (nn u_) from gn.1) ?_
    refine fz_cq (vz_runS (As := [.int (nI (nn u_))]) (rest := [.int (nI (nn (sa 3))), .ref (ax 31), .ref q13, .ref q13]) X (xX0_namesOf l E ks (nn u_) (by omega) _) (va_cwS 1 X.2.2.2.2 (lw_S q542 q543 q69 q544) rfl rfl rfl hdX0_namesOf ⟨Nat.le_of_ble_eq_true rfl, Nat.le_of_ble_eq_true rfl⟩) (fz_pre hE hP hD hS hR hZ hA [] rfl rfl fx_rc0) rfl rfl hl.1 rfl (lv_room (Nat.le_of_ble_eq_true rfl)) dX0_text_32 ⟨Nat.le_of_ble_eq_true rfl, Nat.le_of_ble_eq_true rfl⟩) hP hD hS hA [] rfl rfl (fun _ _ _ _ _ h => h.elim) (fun r_32 u H locs hq_32 hP hD hS => ?_)
    replace hP : va_P E.1 clA [(ax 35, .inr (1, [.ref (ax 20), .ref (ax 21), .ref (ax 22), .int tk, .int cs, .int gs, .int zz, .int (nI (nn (sa 3))), .int wg, .ref (ax 29), .ref (ax 30), .ref (ax 31), .ref (ax 32)])), (ax 30, .inl (E.2 4, 2, .inr (.inr (.inr (.inr tx))))), (ax 5, .inl (E.2 0, 7, .inl er)), (q13, .inr (13, [.null, .int 0, .null, .null, .int 0, .int 0]))] _ := hP
    replace hD : va_D A [(ax 35, .inr (1, [.ref (ax 20), .ref (ax 21), .ref (ax 22), .int tk, .int cs, .int gs, .int zz, .int (nI (nn (sa 3))), .int wg, .ref (ax 29), .ref (ax 30), .ref (ax 31), .ref (ax 32)])), (ax 30, .inl (E.2 4, 2, .inr (.inr (.inr (.inr tx))))), (ax 5, .inl (E.2 0, 7, .inl er)), (q13, .inr (13, [.null, .int 0, .null, .null, .int 0, .int 0]))] := hD
    replace hq_32 : r_32 = some (ks.1 (nn u_)) := hq_32
    obtain rfl : r_32 = some (ks.1 (nn u_)) := by first | exact hq_32 | exact hq_32.1
    refine fx_cv (va_runI (As := [.ref (ax 31), .int (nI (nn (sa 3))), .ref (ks.1 (nn u_))]) (rest := [.ref q13]) X (xX13_init l E q13 (ax 31) (ks.1 (nn u_)) (nI (nn (sa 3))) _) (cwI 3 X.2.2.2.2 (lw_meth q549) rfl rfl rfl (X.2.2.2.2 _ q83) (X.2.2.2.2 _ q547) (X.2.2.2.2 _ q548) rfl hdX13_init ⟨Nat.le_of_ble_eq_true rfl, Nat.le_of_ble_eq_true rfl⟩) (fx_pre hE hP hD hS hR [3] rfl rfl fx_rc0) rfl rfl hl.1 rfl (lv_room (Nat.le_of_ble_eq_true rfl)) dX0_text_35 ⟨Nat.le_of_ble_eq_true rfl, Nat.le_of_ble_eq_true rfl⟩) hP hD hS hA [3] rfl rfl (fun u H locs hq_35 hP hD hS => ?_)
    obtain ⟨qa_35, qb_35, qc_35⟩ := u
    replace hP : va_P E.1 clA [(ax 35, .inr (1, [.ref (ax 20), .ref (ax 21), .ref (ax 22), .int tk, .int cs, .int gs, .int zz, .int (nI (nn (sa 3))), .int wg, .ref (ax 29), .ref (ax 30), .ref (ax 31), .ref (ax 32)])), (ax 30, .inl (E.2 4, 2, .inr (.inr (.inr (.inr tx))))), (ax 5, .inl (E.2 0, 7, .inl er)), (q13, .inr (13, [.ref (ax 31), .int (nI (nn (sa 3))), .ref (ks.1 (nn u_)), .ref qa_35, .int 0, .int 0])), (qa_35, .inr (14, [.ref qb_35, .ref qc_35, .int 0])), (qb_35, .inl (E.2 1, 60, .inl (fun _ => 0))), (qc_35, .inl (E.2 2, 60, .inl (fun _ => 0)))] _ := hP
    replace hD : va_D A [(ax 35, .inr (1, [.ref (ax 20), .ref (ax 21), .ref (ax 22), .int tk, .int cs, .int gs, .int zz, .int (nI (nn (sa 3))), .int wg, .ref (ax 29), .ref (ax 30), .ref (ax 31), .ref (ax 32)])), (ax 30, .inl (E.2 4, 2, .inr (.inr (.inr (.inr tx))))), (ax 5, .inl (E.2 0, 7, .inl er)), (q13, .inr (13, [.ref (ax 31), .int (nI (nn (sa 3))), .ref (ks.1 (nn u_)), .ref qa_35, .int 0, .int 0])), (qa_35, .inr (14, [.ref qb_35, .ref qc_35, .int 0])), (qb_35, .inl (E.2 1, 60, .inl (fun _ => 0))), (qc_35, .inl (E.2 2, 60, .inl (fun _ => 0)))] := hD
    replace hq_35 : True := hq_35
    refine W.widen (k := 4) (n := 129) (by first | omega | exact Nat.le_of_ble_eq_true rfl) (by first | omega | exact Nat.le_of_ble_eq_true rfl) ?_
    refine lv_astore_n (lv' := [(2, .ref q13), (0, .ref (ax 19)), (1, .int u_)]) hx hb dX0_text_38 rfl hl (by decide) rfl (fun ls hl => ?_)
    refine lv_aload_n hx hb dX0_text_39 rfl (lv_at hl 1 rfl) ?_
    refine fx_get X hE (hR.at hS) 0 rfl rfl 2 rfl q237 rfl rfl dX0_text_40 ?_
    refine fx_getN X hE hP 0 rfl rfl 10 rfl 14 rfl rfl rfl dX0_text_43 ?_
    refine lv_iload_n hx hb dX0_text_46 rfl (lv_at hl 2 rfl) ?_
    refine fx_ti (show u_ = nI (nn u_) from gn.1) ?_
    refine lv_aload_n hx hb dX0_text_47 rfl (lv_at hl 0 rfl) ?_
    refine fz_cq (vz_runV (As := []) (rest := [.int (nI (nn u_)), .ref (ax 30)]) X (xX13_read l E ks sa q13 (ax 31) qa_35 qb_35 qc_35 (nn u_) ft (fun _ => 0) (fun _ => 0) (by omega) htp hft _) (cwV 0 X.2.2.2.2 (lw_V q590 q591 q592 q83 q593) rfl rfl rfl ⟨rfl, hdX13_read⟩ ⟨Nat.le_of_ble_eq_true rfl, Nat.le_of_ble_eq_true rfl⟩) (fx_preV (fz_pre hE hP hD hS hR hZ hA [3, 4, 5, 6] rfl rfl (fx_rcr 1 rfl fx_rc0)) (va_recv hE.1 hP (ci := 13) (q0 := 3) rfl rfl)) rfl rfl hl.1 rfl (lv_room (Nat.le_of_ble_eq_true rfl)) dX0_text_48 ⟨Nat.le_of_ble_eq_true rfl, Nat.le_of_ble_eq_true rfl⟩) hP hD hS hA [3, 4, 5, 6] rfl rfl (fun qx_48 u H locs ce hqx_48 hP hD hS hce hcv hcl => ?_) (fun r_48 u H locs hq_48 hP hD hS => ?_)
    · -- thrown
      obtain ⟨at9_48x, op9_48x, n9_48x, fb9_48x, fc9_48x, q9_48x, pl9_48x⟩ := u
      replace hP : va_P E.1 clA [(ax 35, .inr (1, [.ref (ax 20), .ref (ax 21), .ref (ax 22), .int tk, .int cs, .int gs, .int zz, .int (nI (nn (sa 3))), .int wg, .ref (ax 29), .ref (ax 30), .ref (ax 31), .ref (ax 32)])), (ax 30, .inl (E.2 4, 2, .inr (.inr (.inr (.inr tx))))), (ax 5, .inl (E.2 0, 7, .inl er)), (q13, .inr (13, [.ref (ax 31), .int (nI (nn (sa 3))), .ref (ks.1 (nn u_)), .ref qa_35, .int at9_48x, .int op9_48x])), (qa_35, .inr (14, [.ref qb_35, .ref qc_35, .int n9_48x])), (qb_35, .inl (E.2 1, 60, .inl fb9_48x)), (qc_35, .inl (E.2 2, 60, .inl fc9_48x)), (q9_48x, .inr (15, [.null, .null, .null, .null, .null, .int 0, .int pl9_48x]))] _ := hP
      replace hD : va_D A [(ax 35, .inr (1, [.ref (ax 20), .ref (ax 21), .ref (ax 22), .int tk, .int cs, .int gs, .int zz, .int (nI (nn (sa 3))), .int wg, .ref (ax 29), .ref (ax 30), .ref (ax 31), .ref (ax 32)])), (ax 30, .inl (E.2 4, 2, .inr (.inr (.inr (.inr tx))))), (ax 5, .inl (E.2 0, 7, .inl er)), (q13, .inr (13, [.ref (ax 31), .int (nI (nn (sa 3))), .ref (ks.1 (nn u_)), .ref qa_35, .int at9_48x, .int op9_48x])), (qa_35, .inr (14, [.ref qb_35, .ref qc_35, .int n9_48x])), (qb_35, .inl (E.2 1, 60, .inl fb9_48x)), (qc_35, .inl (E.2 2, 60, .inl fc9_48x)), (q9_48x, .inr (15, [.null, .null, .null, .null, .null, .int 0, .int pl9_48x]))] := hD
      replace hqx_48 : qx_48 = q9_48x ∧ ¬ ((rdX sa (nn u_)).1 = true ∧ (rdX sa (nn u_)).2.p = nn (sa 3)) ∧ pl9_48x = nI (rdX sa (nn u_)).2.p := hqx_48
      obtain ⟨hqe, hno, hpl9⟩ := hqx_48
      subst hqe
      have hng := rdX_no hBY htp hno
      have hM := rdX_M hBY htp (u := nn u_)
      refine vx_catch X.2.2.2.1 [] ⟨39, 54, 64, 220⟩ _ (htab.trans rfl) (fun _ h => nomatch h) rfl (by decide) (X.2.2.2.2 _ q536) (va_tabs rfl rfl (hE.2.1 _ (List.mem_of_getElem? (i := 39) rfl))) hce hcv hcl ?_
      refine lv_astore_n (lv' := [(3, .ref qx_48), (2, .ref q13), (0, .ref (ax 19)), (1, .int u_)]) hx hb dX0_text_64 rfl hl (by decide) rfl (fun ls hl => ?_)
      refine lv_bipush (v := (-10)) hx hb dX0_text_65 rfl ?_
      refine lv_aload_n hx hb dX0_text_67 rfl (lv_at hl 0 rfl) ?_
      refine fx_getN X hE hP 7 rfl rfl 6 rfl 40 rfl rfl rfl dX0_text_68 ?_
      refine lv_isub hx hb dX0_text_71 ?_
      refine lv_istore (lv' := [(4, .int ((-10) - pl9_48x)), (3, .ref qx_48), (2, .ref q13), (0, .ref (ax 19)), (1, .int u_)]) hx hb dX0_text_72 hl (by decide) rfl (fun ls hl => ?_)
      refine lv_aload_n hx hb dX0_text_74 rfl (lv_at hl 3 rfl) ?_
      refine fx_get X hE (hR.at hS) 0 rfl rfl 2 rfl q237 rfl rfl dX0_text_75 ?_
      refine lv_iconst (v := 0) hx hb dX0_text_78 rfl ?_
      refine fx_putN (ws' := [(ax 35, .inr (1, [.ref (ax 20), .ref (ax 21), .ref (ax 22), .int tk, .int cs, .int gs, .int zz, .int 0, .int wg, .ref (ax 29), .ref (ax 30), .ref (ax 31), .ref (ax 32)])), (ax 30, .inl (E.2 4, 2, .inr (.inr (.inr (.inr tx))))), (ax 5, .inl (E.2 0, 7, .inl er)), (q13, .inr (13, [.ref (ax 31), .int (nI (nn (sa 3))), .ref (ks.1 (nn u_)), .ref qa_35, .int at9_48x, .int op9_48x])), (qa_35, .inr (14, [.ref qb_35, .ref qc_35, .int n9_48x])), (qb_35, .inl (E.2 1, 60, .inl fb9_48x)), (qc_35, .inl (E.2 2, 60, .inl fc9_48x)), (qx_48, .inr (15, [.null, .null, .null, .null, .null, .int 0, .int pl9_48x]))]) X hE hP hD hS 0 rfl rfl tyX1_ok nmX1 7 rfl 10 rfl rfl rfl rfl rfl rfl rfl dX0_text_79 (fun H locs hP hD hS => ?_)
      refine lv_iload hx hb dX0_text_82 (lv_at hl 0 rfl) ?_
      have hP := hP.sub (ws' := [(ax 35, .inr (1, [.ref (ax 20), .ref (ax 21), .ref (ax 22), .int tk, .int cs, .int gs, .int zz, .int 0, .int wg, .ref (ax 29), .ref (ax 30), .ref (ax 31), .ref (ax 32)])), (ax 30, .inl (E.2 4, 2, .inr (.inr (.inr (.inr tx))))), (ax 5, .inl (E.2 0, 7, .inl er))]) [0, 1, 2] rfl
      have hD := hD.sub (ws' := [(ax 35, .inr (1, [.ref (ax 20), .ref (ax 21), .ref (ax 22), .int tk, .int cs, .int gs, .int zz, .int 0, .int wg, .ref (ax 29), .ref (ax 30), .ref (ax 31), .ref (ax 32)])), (ax 30, .inl (E.2 4, 2, .inr (.inr (.inr (.inr tx))))), (ax 5, .inl (E.2 0, 7, .inl er))]) [0, 1, 2] (by decide) rfl
      exact hret ((-10) - pl9_48x) (0, tx, er, []) (⟨by rw [hpl9]; simp only [text_]; rw [if_pos hb_1, if_neg (by rw [hng]; exact Bool.false_ne_true), hM], by simp only [text_]; rw [if_pos hb_1, if_neg (by rw [hng]; exact Bool.false_ne_true)], Or.inr (Or.inl ⟨hb_1, hng, rfl, rfl, rfl⟩)⟩) (rfl) hP hD hS (Nat.le_refl _) (Nat.le_of_ble_eq_true rfl) dX0_text_84
    · -- back
      obtain ⟨at2_48, n2_48, fb2_48, fc2_48⟩ := u
      replace hP : va_P E.1 clA [(ax 35, .inr (1, [.ref (ax 20), .ref (ax 21), .ref (ax 22), .int tk, .int cs, .int gs, .int zz, .int (nI (nn (sa 3))), .int wg, .ref (ax 29), .ref (ax 30), .ref (ax 31), .ref (ax 32)])), (ax 30, .inl (E.2 4, 2, .inr (.inr (.inr (.inr tx))))), (ax 5, .inl (E.2 0, 7, .inl er)), (q13, .inr (13, [.ref (ax 31), .int (nI (nn (sa 3))), .ref (ks.1 (nn u_)), .ref qa_35, .int at2_48, .int (nI 0)])), (qa_35, .inr (14, [.ref qb_35, .ref qc_35, .int (nI n2_48)])), (qb_35, .inl (E.2 1, 60, .inl fb2_48)), (qc_35, .inl (E.2 2, 60, .inl fc2_48))] _ := hP
      replace hD : va_D A [(ax 35, .inr (1, [.ref (ax 20), .ref (ax 21), .ref (ax 22), .int tk, .int cs, .int gs, .int zz, .int (nI (nn (sa 3))), .int wg, .ref (ax 29), .ref (ax 30), .ref (ax 31), .ref (ax 32)])), (ax 30, .inl (E.2 4, 2, .inr (.inr (.inr (.inr tx))))), (ax 5, .inl (E.2 0, 7, .inl er)), (q13, .inr (13, [.ref (ax 31), .int (nI (nn (sa 3))), .ref (ks.1 (nn u_)), .ref qa_35, .int at2_48, .int (nI 0)])), (qa_35, .inr (14, [.ref qb_35, .ref qc_35, .int (nI n2_48)])), (qb_35, .inl (E.2 1, 60, .inl fb2_48)), (qc_35, .inl (E.2 2, 60, .inl fc2_48))] := hD
      replace hq_48 : r_48 = some qa_35 ∧ (rdX sa (nn u_)).1 = true ∧ (rdX sa (nn u_)).2.p = nn (sa 3) ∧ n2_48 = (rdX sa (nn u_)).2.n ∧ TP (rdX sa (nn u_)).2 fb2_48 fc2_48 := hq_48
      obtain rfl : r_48 = some qa_35 := by first | exact hq_48 | exact hq_48.1
      have hok := rdX_ok hBY htp hq_48.2.1 hq_48.2.2.1
      have hnp := rdX_n hq_48.2.1
      have hM := rdX_M hBY htp (u := nn u_)
      refine fx_aast (ws' := [(ax 35, .inr (1, [.ref (ax 20), .ref (ax 21), .ref (ax 22), .int tk, .int cs, .int gs, .int zz, .int (nI (nn (sa 3))), .int wg, .ref (ax 29), .ref (ax 30), .ref (ax 31), .ref (ax 32)])), (ax 30, .inl (E.2 4, 2, .inr (.inr (.inr (.inr (va_up tx (nn u_) (some qa_35))))))), (ax 5, .inl (E.2 0, 7, .inl er)), (q13, .inr (13, [.ref (ax 31), .int (nI (nn (sa 3))), .ref (ks.1 (nn u_)), .ref qa_35, .int at2_48, .int (nI 0)])), (qa_35, .inr (14, [.ref qb_35, .ref qc_35, .int (nI n2_48)])), (qb_35, .inl (E.2 1, 60, .inl fb2_48)), (qc_35, .inl (E.2 2, 60, .inl fc2_48))]) X hE hP hD hS 1 4 4 14 rfl rfl rfl rfl (nn u_) rfl (by omega) rfl rfl dX0_text_51 (fun H locs hP hD hS => ?_)
      refine lv_iconst (v := 1) hx hb dX0_text_52 rfl ?_
      refine lv_istore_n (lv' := [(3, .int 1), (2, .ref q13), (0, .ref (ax 19)), (1, .int u_)]) hx hb dX0_text_53 rfl hl (by decide) rfl (fun ls hl => ?_)
      refine lv_aload_n hx hb dX0_text_54 rfl (lv_at hl 2 rfl) ?_
      refine fx_get X hE (hR.at hS) 0 rfl rfl 2 rfl q237 rfl rfl dX0_text_55 ?_
      refine lv_iconst (v := 0) hx hb dX0_text_58 rfl ?_
      refine fx_putN (ws' := [(ax 35, .inr (1, [.ref (ax 20), .ref (ax 21), .ref (ax 22), .int tk, .int cs, .int gs, .int zz, .int 0, .int wg, .ref (ax 29), .ref (ax 30), .ref (ax 31), .ref (ax 32)])), (ax 30, .inl (E.2 4, 2, .inr (.inr (.inr (.inr (va_up tx (nn u_) (some qa_35))))))), (ax 5, .inl (E.2 0, 7, .inl er)), (q13, .inr (13, [.ref (ax 31), .int (nI (nn (sa 3))), .ref (ks.1 (nn u_)), .ref qa_35, .int at2_48, .int (nI 0)])), (qa_35, .inr (14, [.ref qb_35, .ref qc_35, .int (nI n2_48)])), (qb_35, .inl (E.2 1, 60, .inl fb2_48)), (qc_35, .inl (E.2 2, 60, .inl fc2_48))]) X hE hP hD hS 0 rfl rfl tyX1_ok nmX1 7 rfl 10 rfl rfl rfl rfl rfl rfl rfl dX0_text_59 (fun H locs hP hD hS => ?_)
      refine lv_iload_n hx hb dX0_text_62 rfl (lv_at hl 0 rfl) ?_
      have hP := hP.sub (ws' := [(ax 35, .inr (1, [.ref (ax 20), .ref (ax 21), .ref (ax 22), .int tk, .int cs, .int gs, .int zz, .int 0, .int wg, .ref (ax 29), .ref (ax 30), .ref (ax 31), .ref (ax 32)])), (ax 30, .inl (E.2 4, 2, .inr (.inr (.inr (.inr (va_up tx (nn u_) (some qa_35))))))), (ax 5, .inl (E.2 0, 7, .inl er)), (qa_35, .inr (14, [.ref qb_35, .ref qc_35, .int (nI n2_48)])), (qb_35, .inl (E.2 1, 60, .inl fb2_48)), (qc_35, .inl (E.2 2, 60, .inl fc2_48))]) [0, 1, 2, 4, 5, 6] rfl
      have hD := hD.sub (ws' := [(ax 35, .inr (1, [.ref (ax 20), .ref (ax 21), .ref (ax 22), .int tk, .int cs, .int gs, .int zz, .int 0, .int wg, .ref (ax 29), .ref (ax 30), .ref (ax 31), .ref (ax 32)])), (ax 30, .inl (E.2 4, 2, .inr (.inr (.inr (.inr (va_up tx (nn u_) (some qa_35))))))), (ax 5, .inl (E.2 0, 7, .inl er)), (qa_35, .inr (14, [.ref qb_35, .ref qc_35, .int (nI n2_48)])), (qb_35, .inl (E.2 1, 60, .inl fb2_48)), (qc_35, .inl (E.2 2, 60, .inl fc2_48))]) [0, 1, 2, 4, 5, 6] (by decide) rfl
      exact hret 1 (0, (va_up tx (nn u_) (some qa_35)), er, [(qa_35, .inr (14, [.ref qb_35, .ref qc_35, .int (nI n2_48)])), (qb_35, .inl (E.2 1, 60, .inl fb2_48)), (qc_35, .inl (E.2 2, 60, .inl fc2_48))]) (⟨by simp only [text_]; rw [if_pos hb_1, if_pos hok], by simp only [text_]; rw [if_pos hb_1, if_pos hok], Or.inl ⟨hb_1, hok, rfl, ⟨_, rfl⟩, Or.inr ⟨qa_35, qb_35, qc_35, fb2_48, fc2_48, by simp [va_up], by rw [← hM]; exact hnp, by rw [← hM, show (PsT (rdX sa (nn u_)).2).1 = n2_48 from hq_48.2.2.2.1.symm]; exact List.mem_of_getElem? (i := 0) rfl, List.mem_of_getElem? (i := 1) rfl, List.mem_of_getElem? (i := 2) rfl, by rw [← hM]; exact hq_48.2.2.2.2⟩⟩⟩) (rfl) hP hD hS (Nat.le_of_ble_eq_true rfl) (Nat.le_of_ble_eq_true rfl) dX0_text_63
  · -- False
    subst hr_1
    refine lv_if_ne (tgt := 13) hx hb dX0_text_4 (by decide) (fun c => (c (by decide)).elim) (fun _ => ?_)
    refine lv_aload_n hx hb dX0_text_7 rfl (lv_at hl 0 rfl) ?_
    refine lv_iconst (v := 1) hx hb dX0_text_8 rfl ?_
    refine fx_ci (va_runV (As := [.int 1]) (rest := []) X (xX0_finds l E ax im bn bm fm ff fl er 1 (by decide) _) (cwV 1 X.2.2.2.2 (lw_V q303 q305 qs0 q69 q306) rfl rfl rfl ⟨rfl, hdX0_finds⟩ ⟨Nat.le_of_ble_eq_true rfl, Nat.le_of_ble_eq_true rfl⟩) (fx_preV (fx_pre hE hP hD hS hR [2] rfl rfl (fx_rcr 0 rfl fx_rc0)) (va_recv hE.1 (hR.at hS) (ci := 0) (q0 := 0) rfl rfl)) rfl rfl hl.1 rfl (lv_room (Nat.le_of_ble_eq_true rfl)) dX0_text_9 ⟨Nat.le_of_ble_eq_true rfl, Nat.le_of_ble_eq_true rfl⟩) hP hD hS hA [2] rfl rfl (fun r_9 u H locs hq_9 hP hD hS => ?_)
    replace hP : va_P E.1 clA [(ax 35, .inr (1, [.ref (ax 20), .ref (ax 21), .ref (ax 22), .int tk, .int cs, .int gs, .int zz, .int (nI (nn (sa 3))), .int wg, .ref (ax 29), .ref (ax 30), .ref (ax 31), .ref (ax 32)])), (ax 30, .inl (E.2 4, 2, .inr (.inr (.inr (.inr tx))))), (ax 5, .inl (E.2 0, 7, .inl (upd er 1 (er 1 + 1))))] _ := hP
    replace hD : va_D A [(ax 35, .inr (1, [.ref (ax 20), .ref (ax 21), .ref (ax 22), .int tk, .int cs, .int gs, .int zz, .int (nI (nn (sa 3))), .int wg, .ref (ax 29), .ref (ax 30), .ref (ax 31), .ref (ax 32)])), (ax 30, .inl (E.2 4, 2, .inr (.inr (.inr (.inr tx))))), (ax 5, .inl (E.2 0, 7, .inl (upd er 1 (er 1 + 1))))] := hD
    replace hq_9 : r_9 = erv 1 := hq_9
    have hP := hP.sub (ws' := [(ax 35, .inr (1, [.ref (ax 20), .ref (ax 21), .ref (ax 22), .int tk, .int cs, .int gs, .int zz, .int (nI (nn (sa 3))), .int wg, .ref (ax 29), .ref (ax 30), .ref (ax 31), .ref (ax 32)])), (ax 30, .inl (E.2 4, 2, .inr (.inr (.inr (.inr tx))))), (ax 5, .inl (E.2 0, 7, .inl (upd er 1 (er 1 + 1))))]) [0, 1, 2] rfl
    have hD := hD.sub (ws' := [(ax 35, .inr (1, [.ref (ax 20), .ref (ax 21), .ref (ax 22), .int tk, .int cs, .int gs, .int zz, .int (nI (nn (sa 3))), .int wg, .ref (ax 29), .ref (ax 30), .ref (ax 31), .ref (ax 32)])), (ax 30, .inl (E.2 4, 2, .inr (.inr (.inr (.inr tx))))), (ax 5, .inl (E.2 0, 7, .inl (upd er 1 (er 1 + 1))))]) [0, 1, 2] (by decide) rfl
    exact hret r_9 (nI (nn (sa 3)), tx, (upd er 1 (er 1 + 1)), []) (⟨by rw [hq_9]; simp only [text_, if_neg hb_1], by simp only [text_, if_neg hb_1]; rfl, Or.inr (Or.inr ⟨hb_1, rfl, rfl, rfl⟩)⟩) (rfl) hP hD hS (Nat.le_of_ble_eq_true rfl) (Nat.le_of_ble_eq_true rfl) dX0_text_12
