set_option maxRecDepth 100000
theorem hdX0_isIn : yX0_isIn.cls ≠ "java/lang/invoke/MethodHandle" ∧ yX0_isIn.cls ≠ "java/lang/invoke/VarHandle" ∧ (parseMethodDescriptor yX0_isIn.desc).map (fun d => d.parameters.length) = some 3 := by decide +kernel
theorem hdX0_isThing : yX0_isThing.cls ≠ "java/lang/invoke/MethodHandle" ∧ yX0_isThing.cls ≠ "java/lang/invoke/VarHandle" ∧ (parseMethodDescriptor yX0_isThing.desc).map (fun d => d.parameters.length) = some 1 := by decide +kernel
theorem hdX0_isTill : yX0_isTill.cls ≠ "java/lang/invoke/MethodHandle" ∧ yX0_isTill.cls ≠ "java/lang/invoke/VarHandle" ∧ (parseMethodDescriptor yX0_isTill.desc).map (fun d => d.parameters.length) = some 1 := by decide +kernel
theorem hdX0_isUse : yX0_isUse.cls ≠ "java/lang/invoke/MethodHandle" ∧ yX0_isUse.cls ≠ "java/lang/invoke/VarHandle" ∧ (parseMethodDescriptor yX0_isUse.desc).map (fun d => d.parameters.length) = some 1 := by decide +kernel
theorem hdX0_isSheet : yX0_isSheet.cls ≠ "java/lang/invoke/MethodHandle" ∧ yX0_isSheet.cls ≠ "java/lang/invoke/VarHandle" ∧ (parseMethodDescriptor yX0_isSheet.desc).map (fun d => d.parameters.length) = some 1 := by decide +kernel
theorem hdX0_held : yX0_held.cls ≠ "java/lang/invoke/MethodHandle" ∧ yX0_held.cls ≠ "java/lang/invoke/VarHandle" ∧ (parseMethodDescriptor yX0_held.desc).map (fun d => d.parameters.length) = some 3 := by decide +kernel
theorem hdX0_finds : yX0_finds.cls ≠ "java/lang/invoke/MethodHandle" ∧ yX0_finds.cls ≠ "java/lang/invoke/VarHandle" ∧ (parseMethodDescriptor yX0_finds.desc).map (fun d => d.parameters.length) = some 1 := by decide +kernel
theorem hdX0_figuresOf : yX0_figuresOf.cls ≠ "java/lang/invoke/MethodHandle" ∧ yX0_figuresOf.cls ≠ "java/lang/invoke/VarHandle" ∧ (parseMethodDescriptor yX0_figuresOf.desc).map (fun d => d.parameters.length) = some 2 := by decide +kernel
theorem hdX0_rootOf : yX0_rootOf.cls ≠ "java/lang/invoke/MethodHandle" ∧ yX0_rootOf.cls ≠ "java/lang/invoke/VarHandle" ∧ (parseMethodDescriptor yX0_rootOf.desc).map (fun d => d.parameters.length) = some 2 := by decide +kernel
theorem hdX0_both : yX0_both.cls ≠ "java/lang/invoke/MethodHandle" ∧ yX0_both.cls ≠ "java/lang/invoke/VarHandle" ∧ (parseMethodDescriptor yX0_both.desc).map (fun d => d.parameters.length) = some 3 := by decide +kernel
theorem hdX0_worked : yX0_worked.cls ≠ "java/lang/invoke/MethodHandle" ∧ yX0_worked.cls ≠ "java/lang/invoke/VarHandle" ∧ (parseMethodDescriptor yX0_worked.desc).map (fun d => d.parameters.length) = some 1 := by decide +kernel
abbrev rxX0_isIn : Room := { frames := 0, cells := 0, slots := 0, locals := 0 }
set_option maxHeartbeats 400000 in
set_option maxRecDepth 100000 in
theorem xX0_isIn (l : Launch) (E : fx_En) (v : Int32) (lo : Int32) (hi : Int32) : fx_Mi l yX0_isIn cX0_isIn 3 .boolean rxX0_isIn E [.int v, .int lo, .int hi] [] [] (S := Unit) (fun (u : Unit) => []) (fun (r : Int32) (u : Unit) => r = fx_b (inB v lo hi = true)) := by
  refine fx_iW rfl rfl ?_
  intro p e s m args below meth c A ls Q X hE hP hD hR hA hl hret
  have hx := X.1
  have hb := X.2.1
  have hS : va_S A s.heap s.heap [] := va_S.rf
  replace hl : lv_has ls 3 [(0, .int v), (1, .int lo), (2, .int hi)] := hl
  refine lv_iload_n hx hb dX0_isIn_0 rfl (lv_at hl 0 rfl) ?_
  refine lv_iload_n hx hb dX0_isIn_1 rfl (lv_at hl 1 rfl) ?_
  refine lv_icmp_lt (tgt := 14) hx hb dX0_isIn_2 (by decide) (fun c_2 => ?_) (fun c_2 => ?_)
  · -- jump 14
    refine lv_iconst (v := 0) hx hb dX0_isIn_14 rfl ?_
    exact hret 0 () (fx_bf (fun h => absurd c_2 (Int32.not_lt.2 (inB_iff.1 h).1))) (rfl) hP hD hS (Nat.le_refl _) (Nat.le_refl _) dX0_isIn_15
  · -- fall 5
    refine lv_iload_n hx hb dX0_isIn_5 rfl (lv_at hl 0 rfl) ?_
    refine lv_iload_n hx hb dX0_isIn_6 rfl (lv_at hl 2 rfl) ?_
    refine lv_icmp_gt (tgt := 14) hx hb dX0_isIn_7 (by decide) (fun c_7 => ?_) (fun c_7 => ?_)
    · -- jump 14
      refine lv_iconst (v := 0) hx hb dX0_isIn_14 rfl ?_
      exact hret 0 () (fx_bf (fun h => absurd c_7 (Int32.not_lt.2 (inB_iff.1 h).2))) (rfl) hP hD hS (Nat.le_refl _) (Nat.le_refl _) dX0_isIn_15
    · -- fall 10
      refine lv_iconst (v := 1) hx hb dX0_isIn_10 rfl ?_
      refine lv_goto (tgt := 15) hx hb dX0_isIn_11 (by decide) ?_
      exact hret 1 () (fx_bt (inB_iff.2 ⟨Int32.not_lt.1 c_2, Int32.not_lt.1 c_7⟩)) (rfl) hP hD hS (Nat.le_refl _) (Nat.le_refl _) dX0_isIn_15
abbrev rxX0_isThing : Room := { frames := 1, cells := 0, slots := 0, locals := 22 }
set_option maxHeartbeats 400000 in
set_option maxRecDepth 100000 in
theorem xX0_isThing (l : Launch) (E : fx_En) (v : Int32) : fx_Mi l yX0_isThing cX0_isThing 1 .boolean rxX0_isThing E [.int v] [] [] (S := Unit) (fun (u : Unit) => []) (fun (r : Int32) (u : Unit) => r = fx_b (inB v 0 7 = true)) := by
  refine fx_iW rfl rfl ?_
  intro p e s m args below meth c A ls Q X hE hP hD hR hA hl hret
  have hx := X.1
  have hb := X.2.1
  have hS : va_S A s.heap s.heap [] := va_S.rf
  replace hl : lv_has ls 1 [(0, .int v)] := hl
  refine lv_iload_n hx hb dX0_isThing_0 rfl (lv_at hl 0 rfl) ?_
  refine lv_iconst (v := 0) hx hb dX0_isThing_1 rfl ?_
  refine lv_bipush (v := 7) hx hb dX0_isThing_2 rfl ?_
  refine fx_ci (va_runS (As := [.int v, .int 0, .int 7]) (rest := []) X (xX0_isIn l E v 0 7 _) (va_cwS 3 X.2.2.2.2 (lw_S q300 q301 q69 q302) rfl rfl rfl hdX0_isIn ⟨Nat.le_of_ble_eq_true rfl, Nat.le_of_ble_eq_true rfl⟩) (fx_pre hE hP hD hS hR [] rfl rfl fx_rc0) rfl rfl hl.1 rfl (lv_room (Nat.le_of_ble_eq_true rfl)) dX0_isThing_4 ⟨Nat.le_refl _, Nat.le_refl _⟩) hP hD hS hA [] rfl rfl (fun r_4 u H locs hq_4 hP hD hS => ?_)
  replace hP : va_P E.1 clA [] _ := hP
  replace hD : va_D A [] := hD
  replace hq_4 : r_4 = fx_b (inB v 0 7 = true) := hq_4
  rcases fx_bc hq_4 with ⟨hb_4, hr_4⟩ | ⟨hb_4, hr_4⟩
  · -- True
    subst hr_4
    exact hret 1 () (fx_bt hb_4) (rfl) hP hD hS (Nat.le_refl _) (Nat.le_refl _) dX0_isThing_7
  · -- False
    subst hr_4
    exact hret 0 () (fx_bf hb_4) (rfl) hP hD hS (Nat.le_refl _) (Nat.le_refl _) dX0_isThing_7
abbrev rxX0_isTill : Room := { frames := 1, cells := 0, slots := 0, locals := 22 }
set_option maxHeartbeats 400000 in
set_option maxRecDepth 100000 in
theorem xX0_isTill (l : Launch) (E : fx_En) (v : Int32) : fx_Mi l yX0_isTill cX0_isTill 1 .boolean rxX0_isTill E [.int v] [] [] (S := Unit) (fun (u : Unit) => []) (fun (r : Int32) (u : Unit) => r = fx_b (inB v 0 3 = true)) := by
  refine fx_iW rfl rfl ?_
  intro p e s m args below meth c A ls Q X hE hP hD hR hA hl hret
  have hx := X.1
  have hb := X.2.1
  have hS : va_S A s.heap s.heap [] := va_S.rf
  replace hl : lv_has ls 1 [(0, .int v)] := hl
  refine lv_iload_n hx hb dX0_isTill_0 rfl (lv_at hl 0 rfl) ?_
  refine lv_iconst (v := 0) hx hb dX0_isTill_1 rfl ?_
  refine lv_iconst (v := 3) hx hb dX0_isTill_2 rfl ?_
  refine fx_ci (va_runS (As := [.int v, .int 0, .int 3]) (rest := []) X (xX0_isIn l E v 0 3 _) (va_cwS 3 X.2.2.2.2 (lw_S q300 q301 q69 q302) rfl rfl rfl hdX0_isIn ⟨Nat.le_of_ble_eq_true rfl, Nat.le_of_ble_eq_true rfl⟩) (fx_pre hE hP hD hS hR [] rfl rfl fx_rc0) rfl rfl hl.1 rfl (lv_room (Nat.le_of_ble_eq_true rfl)) dX0_isTill_3 ⟨Nat.le_refl _, Nat.le_refl _⟩) hP hD hS hA [] rfl rfl (fun r_3 u H locs hq_3 hP hD hS => ?_)
  replace hP : va_P E.1 clA [] _ := hP
  replace hD : va_D A [] := hD
  replace hq_3 : r_3 = fx_b (inB v 0 3 = true) := hq_3
  rcases fx_bc hq_3 with ⟨hb_3, hr_3⟩ | ⟨hb_3, hr_3⟩
  · -- True
    subst hr_3
    exact hret 1 () (fx_bt hb_3) (rfl) hP hD hS (Nat.le_refl _) (Nat.le_refl _) dX0_isTill_6
  · -- False
    subst hr_3
    exact hret 0 () (fx_bf hb_3) (rfl) hP hD hS (Nat.le_refl _) (Nat.le_refl _) dX0_isTill_6
abbrev rxX0_isUse : Room := { frames := 1, cells := 0, slots := 0, locals := 22 }
set_option maxHeartbeats 400000 in
set_option maxRecDepth 100000 in
theorem xX0_isUse (l : Launch) (E : fx_En) (v : Int32) : fx_Mi l yX0_isUse cX0_isUse 1 .boolean rxX0_isUse E [.int v] [] [] (S := Unit) (fun (u : Unit) => []) (fun (r : Int32) (u : Unit) => r = fx_b (inB v 0 1 = true)) := by
  refine fx_iW rfl rfl ?_
  intro p e s m args below meth c A ls Q X hE hP hD hR hA hl hret
  have hx := X.1
  have hb := X.2.1
  have hS : va_S A s.heap s.heap [] := va_S.rf
  replace hl : lv_has ls 1 [(0, .int v)] := hl
  refine lv_iload_n hx hb dX0_isUse_0 rfl (lv_at hl 0 rfl) ?_
  refine lv_iconst (v := 0) hx hb dX0_isUse_1 rfl ?_
  refine lv_iconst (v := 1) hx hb dX0_isUse_2 rfl ?_
  refine fx_ci (va_runS (As := [.int v, .int 0, .int 1]) (rest := []) X (xX0_isIn l E v 0 1 _) (va_cwS 3 X.2.2.2.2 (lw_S q300 q301 q69 q302) rfl rfl rfl hdX0_isIn ⟨Nat.le_of_ble_eq_true rfl, Nat.le_of_ble_eq_true rfl⟩) (fx_pre hE hP hD hS hR [] rfl rfl fx_rc0) rfl rfl hl.1 rfl (lv_room (Nat.le_of_ble_eq_true rfl)) dX0_isUse_3 ⟨Nat.le_refl _, Nat.le_refl _⟩) hP hD hS hA [] rfl rfl (fun r_3 u H locs hq_3 hP hD hS => ?_)
  replace hP : va_P E.1 clA [] _ := hP
  replace hD : va_D A [] := hD
  replace hq_3 : r_3 = fx_b (inB v 0 1 = true) := hq_3
  rcases fx_bc hq_3 with ⟨hb_3, hr_3⟩ | ⟨hb_3, hr_3⟩
  · -- True
    subst hr_3
    exact hret 1 () (fx_bt hb_3) (rfl) hP hD hS (Nat.le_refl _) (Nat.le_refl _) dX0_isUse_6
  · -- False
    subst hr_3
    exact hret 0 () (fx_bf hb_3) (rfl) hP hD hS (Nat.le_refl _) (Nat.le_refl _) dX0_isUse_6
abbrev rxX0_isSheet : Room := { frames := 1, cells := 0, slots := 0, locals := 22 }
set_option maxHeartbeats 400000 in
set_option maxRecDepth 100000 in
theorem xX0_isSheet (l : Launch) (E : fx_En) (v : Int32) : fx_Mi l yX0_isSheet cX0_isSheet 1 .boolean rxX0_isSheet E [.int v] [] [] (S := Unit) (fun (u : Unit) => []) (fun (r : Int32) (u : Unit) => r = fx_b (inB v 0 3 = true)) := by
  refine fx_iW rfl rfl ?_
  intro p e s m args below meth c A ls Q X hE hP hD hR hA hl hret
  have hx := X.1
  have hb := X.2.1
  have hS : va_S A s.heap s.heap [] := va_S.rf
  replace hl : lv_has ls 1 [(0, .int v)] := hl
  refine lv_iload_n hx hb dX0_isSheet_0 rfl (lv_at hl 0 rfl) ?_
  refine lv_iconst (v := 0) hx hb dX0_isSheet_1 rfl ?_
  refine lv_iconst (v := 3) hx hb dX0_isSheet_2 rfl ?_
  refine fx_ci (va_runS (As := [.int v, .int 0, .int 3]) (rest := []) X (xX0_isIn l E v 0 3 _) (va_cwS 3 X.2.2.2.2 (lw_S q300 q301 q69 q302) rfl rfl rfl hdX0_isIn ⟨Nat.le_of_ble_eq_true rfl, Nat.le_of_ble_eq_true rfl⟩) (fx_pre hE hP hD hS hR [] rfl rfl fx_rc0) rfl rfl hl.1 rfl (lv_room (Nat.le_of_ble_eq_true rfl)) dX0_isSheet_3 ⟨Nat.le_refl _, Nat.le_refl _⟩) hP hD hS hA [] rfl rfl (fun r_3 u H locs hq_3 hP hD hS => ?_)
  replace hP : va_P E.1 clA [] _ := hP
  replace hD : va_D A [] := hD
  replace hq_3 : r_3 = fx_b (inB v 0 3 = true) := hq_3
  rcases fx_bc hq_3 with ⟨hb_3, hr_3⟩ | ⟨hb_3, hr_3⟩
  · -- True
    subst hr_3
    exact hret 1 () (fx_bt hb_3) (rfl) hP hD hS (Nat.le_refl _) (Nat.le_refl _) dX0_isSheet_6
  · -- False
    subst hr_3
    exact hret 0 () (fx_bf hb_3) (rfl) hP hD hS (Nat.le_refl _) (Nat.le_refl _) dX0_isSheet_6
abbrev rxX0_held : Room := { frames := 1, cells := 0, slots := 0, locals := 40 }
set_option maxHeartbeats 400000 in
set_option maxRecDepth 100000 in
theorem xX0_held (l : Launch) (E : fx_En) (v : Int32) (lo : Int32) (hi : Int32) (hle : lo ≤ hi) : fx_Mi l yX0_held cX0_held 3 .int rxX0_held E [.int v, .int lo, .int hi] [] [] (S := Unit) (fun (u : Unit) => []) (fun (r : Int32) (u : Unit) => r = hld v lo hi) := by
  refine fx_iW rfl rfl ?_
  intro p e s m args below meth c A ls Q X hE hP hD hR hA hl hret
  have hx := X.1
  have hb := X.2.1
  have hS : va_S A s.heap s.heap [] := va_S.rf
  replace hl : lv_has ls 3 [(0, .int v), (1, .int lo), (2, .int hi)] := hl
  refine lv_iload_n hx hb dX0_held_0 rfl (lv_at hl 1 rfl) ?_
  refine lv_iload_n hx hb dX0_held_1 rfl (lv_at hl 2 rfl) ?_
  refine lv_iload_n hx hb dX0_held_2 rfl (lv_at hl 0 rfl) ?_
  refine fx_min X hl.1 q326 ⟨Nat.le_of_ble_eq_true rfl, Nat.le_of_ble_eq_true rfl⟩ (Nat.le_refl _) (Nat.le_refl _) dX0_held_3 ?_
  refine fx_max X hl.1 q329 ⟨Nat.le_of_ble_eq_true rfl, Nat.le_of_ble_eq_true rfl⟩ (Nat.le_refl _) (Nat.le_refl _) dX0_held_6 ?_
  exact hret (mx_i lo (mn_i hi v)) () (hld_mm hle) (rfl) hP hD hS (Nat.le_refl _) (Nat.le_refl _) dX0_held_9
abbrev rxX0_finds : Room := { frames := 0, cells := 0, slots := 0, locals := 0 }
set_option maxHeartbeats 400000 in
set_option maxRecDepth 100000 in
theorem xX0_finds (l : Launch) (E : fx_En) (ax : Nat → Nat) (im : Int32) (bn : Int32) (bm : Int32) (fm : Int32) (ff : Int32) (fl : Int32) (er : Nat → Int32) (k : Nat) (hk : k < 7) : fx_Mi l yX0_finds cX0_finds 2 .int rxX0_finds E [.ref (ax 19), .int (nI k)] [(ax 5, .inl (E.2 0, 7, .inl er))] [(ax 19, .inr (0, [.ref (ax 0), .ref (ax 1), .ref (ax 35), .ref (ax 55), .ref (ax 4), .ref (ax 5), .ref (ax 6), .ref (ax 7), .int im, .ref (ax 9), .ref (ax 10), .ref (ax 11), .ref (ax 12), .ref (ax 13), .int bn, .int bm, .int fm, .int ff, .int fl]))] (S := Unit) (fun (u : Unit) => [(ax 5, .inl (E.2 0, 7, .inl (upd er k (er k + 1))))]) (fun (r : Int32) (u : Unit) => r = erv k) := by
  refine fx_iW rfl rfl ?_
  intro p e s m args below meth c A ls Q X hE hP hD hR hA hl hret
  have hx := X.1
  have hb := X.2.1
  have hS : va_S A s.heap s.heap [] := va_S.rf
  replace hP : va_P E.1 clA [(ax 5, .inl (E.2 0, 7, .inl er))] _ := hP
  replace hD : va_D A [(ax 5, .inl (E.2 0, 7, .inl er))] := hD
  replace hl : lv_has ls 2 [(0, .ref (ax 19)), (1, .int (nI k))] := hl
  refine lv_aload_n hx hb dX0_finds_0 rfl (lv_at hl 0 rfl) ?_
  refine fx_get X hE (hR.at hS) 0 rfl rfl 5 rfl q240 rfl rfl dX0_finds_1 ?_
  refine lv_iload_n hx hb dX0_finds_4 rfl (lv_at hl 1 rfl) ?_
  refine lv_dup2_11 hx hb dX0_finds_5 rfl rfl ?_
  refine fx_iald X hE hP 0 rfl k rfl (by omega) rfl dX0_finds_6 ?_
  refine lv_iconst (v := 1) hx hb dX0_finds_7 rfl ?_
  refine lv_iadd hx hb dX0_finds_8 ?_
  refine fx_iast (ws' := [(ax 5, .inl (E.2 0, 7, .inl (upd er k ((er k) + 1))))]) X hE hP hD hS 0 rfl k rfl (by omega) rfl rfl dX0_finds_9 (fun H locs hP hD hS => ?_)
  refine lv_ldc (v := (-1000000000)) hx hb X.2.2.2.1 (X.2.2.2.2 _ q307) dX0_finds_10 ?_
  refine lv_iload_n hx hb dX0_finds_12 rfl (lv_at hl 1 rfl) ?_
  refine lv_isub hx hb dX0_finds_13 ?_
  exact hret ((-1000000000) - (nI k)) () (rfl) (rfl) hP hD hS (Nat.le_refl _) (Nat.le_refl _) dX0_finds_14
abbrev rxX0_figuresOf : Room := { frames := 0, cells := 0, slots := 0, locals := 0 }
set_option maxHeartbeats 400000 in
set_option maxRecDepth 100000 in
theorem xX0_figuresOf (l : Launch) (E : fx_En) (S : Nat) (B : Nat) (hS : S < 2147483648) (hB : 2 ≤ B) (hB2 : B < 2147483648) : fx_Mi l yX0_figuresOf cX0_figuresOf 4 .int rxX0_figuresOf E [.int (nI S), .int (nI B)] [] [] (S := Unit) (fun (u : Unit) => []) (fun (r : Int32) (u : Unit) => r = nI (dg B S)) := by
  refine fx_iW rfl rfl ?_
  intro p e s m args below meth c A ls Q X hE hP hD hR hA hl hret
  have hx := X.1
  have hb := X.2.1
  have hS : va_S A s.heap s.heap [] := va_S.rf
  replace hl : lv_has ls 4 [(0, .int (nI S)), (1, .int (nI B))] := hl
  refine lv_iconst (v := 0) hx hb dX0_figuresOf_0 rfl ?_
  refine lv_istore_n (lv' := [(2, .int 0), (0, .int (nI S)), (1, .int (nI B))]) hx hb dX0_figuresOf_1 rfl hl (by decide) rfl (fun ls hl => ?_)
  refine lv_iload_n hx hb dX0_figuresOf_2 rfl (lv_at hl 1 rfl) ?_
  refine lv_istore_n (lv' := [(3, .int (nI S)), (2, .int 0), (0, .int (nI S)), (1, .int (nI B))]) hx hb dX0_figuresOf_3 rfl hl (by decide) rfl (fun ls hl => ?_)
  have loop_4 : ∀ (n_4 : Nat) (acc : Nat) (left : Nat), (left < n_4) → (acc + dg B left = dg B S) → (left ≤ S) → ∀ (H : Heap) (locs : List Loc), va_P E.1 clA [] H → va_D A [] → va_S A s.heap H locs → ∀ (ls : Array Slot), lv_has ls 4 [(3, .int (nI left)), (2, .int (nI acc)), (0, .int (nI S)), (1, .int (nI B))] → W p l e rxX0_figuresOf s m args below meth c H locs 0 0 Q (F0 m 4 ls []) := by
    intro n_4
    induction n_4 with
    | zero => intro acc left hm_4; exact absurd hm_4 (Nat.not_lt_zero _)
    | succ n_4 ih_4 =>
      intro acc left hm_4 hs hleft H locs hP hD hS ls hl
      refine lv_iload_n hx hb dX0_figuresOf_4 rfl (lv_at hl 0 rfl) ?_
      refine lv_if_le (tgt := 21) hx hb dX0_figuresOf_5 (by decide) (fun c_5 => ?_) (fun c_5 => ?_)
      · -- jump 21
        have n_5 := fx_le1 (a := left) (b := 0) c_5 (by omega) (by omega)
        obtain rfl : left = 0 := by omega
        rw [dg_0] at hs
        refine lv_iload_n hx hb dX0_figuresOf_21 rfl (lv_at hl 1 rfl) ?_
        exact hret (nI acc) () (congrArg nI (by omega)) (rfl) hP hD hS (Nat.le_refl _) (Nat.le_refl _) dX0_figuresOf_22
      · -- fall 8
        have n_5 := fx_le0 (a := left) (b := 0) c_5 (by omega) (by omega)
        refine lv_iload_n hx hb dX0_figuresOf_8 rfl (lv_at hl 1 rfl) ?_
        refine lv_iload_n hx hb dX0_figuresOf_9 rfl (lv_at hl 0 rfl) ?_
        refine lv_iload_n hx hb dX0_figuresOf_10 rfl (lv_at hl 3 rfl) ?_
        refine lv_irem hx hb dX0_figuresOf_11 (nI_ne0 (by omega) (by omega)) ?_
        refine fx_ti (pk_rem (a := left) (d := B) (by omega) (by omega) (by omega)) ?_
        refine lv_iadd hx hb dX0_figuresOf_12 ?_
        refine fx_ti (nI_add acc (left % B)) ?_
        refine lv_istore_n (lv' := [(2, .int (nI (acc + left % B))), (3, .int (nI left)), (0, .int (nI S)), (1, .int (nI B))]) hx hb dX0_figuresOf_13 rfl hl (by decide) rfl (fun ls hl => ?_)
        refine lv_iload_n hx hb dX0_figuresOf_14 rfl (lv_at hl 1 rfl) ?_
        refine lv_iload_n hx hb dX0_figuresOf_15 rfl (lv_at hl 3 rfl) ?_
        refine lv_idiv hx hb dX0_figuresOf_16 (nI_ne0 (by omega) (by omega)) ?_
        refine fx_ti (pk_div (a := left) (d := B) (by omega) (by omega) (by omega)) ?_
        refine lv_istore_n (lv' := [(3, .int (nI (left / B))), (2, .int (nI (acc + left % B))), (0, .int (nI S)), (1, .int (nI B))]) hx hb dX0_figuresOf_17 rfl hl (by decide) rfl (fun ls hl => ?_)
        refine lv_goto (tgt := 4) hx hb dX0_figuresOf_18 (by decide) ?_
        exact ih_4 (acc + left % B) (left / B) (by have := Nat.div_lt_self (n := left) (k := B) (by omega) (by omega); omega) (by rw [← hs, dg_s (n := left) (by omega) hB]; omega) (Nat.le_trans (Nat.div_le_self _ _) hleft) _ _ hP hD hS ls (lv_sub hl [0, 1, 2, 3] rfl)
  exact loop_4 (S + 1) 0 S (Nat.lt_succ_self _) (Nat.zero_add _) (by omega) _ _ hP hD hS ls (lv_sub hl [0, 1, 2, 3] rfl)
abbrev rxX0_rootOf : Room := { frames := 1, cells := 0, slots := 0, locals := 23 }
set_option maxHeartbeats 400000 in
set_option maxRecDepth 100000 in
theorem xX0_rootOf (l : Launch) (E : fx_En) (S : Nat) (B : Nat) (hS : S < 2147483648) (hB : 2 ≤ B) (hB2 : B < 2147483648) : fx_Mi l yX0_rootOf cX0_rootOf 3 .int rxX0_rootOf E [.int (nI S), .int (nI B)] [] [] (S := Unit) (fun (u : Unit) => []) (fun (r : Int32) (u : Unit) => r = nI (rt B S)) := by
  refine fx_iW rfl rfl ?_
  intro p e s m args below meth c A ls Q X hE hP hD hR hA hl hret
  have hx := X.1
  have hb := X.2.1
  have hS : va_S A s.heap s.heap [] := va_S.rf
  replace hl : lv_has ls 3 [(0, .int (nI S)), (1, .int (nI B))] := hl
  refine lv_iload_n hx hb dX0_rootOf_0 rfl (lv_at hl 0 rfl) ?_
  refine lv_istore_n (lv' := [(2, .int (nI S)), (0, .int (nI S)), (1, .int (nI B))]) hx hb dX0_rootOf_1 rfl hl (by decide) rfl (fun ls hl => ?_)
  have loop_2 : ∀ (n_2 : Nat) (v : Nat), (v < n_2) → (rt B v = rt B S) → (v ≤ S) → ∀ (H : Heap) (locs : List Loc), va_P E.1 clA [] H → va_D A [] → va_S A s.heap H locs → ∀ (ls : Array Slot), lv_has ls 3 [(2, .int (nI v)), (0, .int (nI S)), (1, .int (nI B))] → W p l e rxX0_rootOf s m args below meth c H locs 0 0 Q (F0 m 2 ls []) := by
    intro n_2
    induction n_2 with
    | zero => intro v hm_2; exact absurd hm_2 (Nat.not_lt_zero _)
    | succ n_2 ih_2 =>
      intro v hm_2 hv hv2 H locs hP hD hS ls hl
      refine lv_iload_n hx hb dX0_rootOf_2 rfl (lv_at hl 0 rfl) ?_
      refine lv_iload_n hx hb dX0_rootOf_3 rfl (lv_at hl 2 rfl) ?_
      refine lv_icmp_lt (tgt := 16) hx hb dX0_rootOf_4 (by decide) (fun c_4 => ?_) (fun c_4 => ?_)
      · -- jump 16
        have n_4 := fx_lt1 (a := v) (b := B) c_4 (by omega) (by omega)
        refine lv_iload_n hx hb dX0_rootOf_16 rfl (lv_at hl 0 rfl) ?_
        exact hret (nI v) () (by rw [← hv, rt_lt (by omega)]) (rfl) hP hD hS (Nat.le_refl _) (Nat.le_refl _) dX0_rootOf_17
      · -- fall 7
        have n_4 := fx_lt0 (a := v) (b := B) c_4 (by omega) (by omega)
        refine lv_iload_n hx hb dX0_rootOf_7 rfl (lv_at hl 0 rfl) ?_
        refine lv_iload_n hx hb dX0_rootOf_8 rfl (lv_at hl 2 rfl) ?_
        refine fx_ci (va_runS (As := [.int (nI v), .int (nI B)]) (rest := []) X (xX0_figuresOf l E v B (by omega) (by first | assumption | omega) (by first | assumption | omega) _) (va_cwS 2 X.2.2.2.2 (lw_S q446 q447 q69 q448) rfl rfl rfl hdX0_figuresOf ⟨Nat.le_of_ble_eq_true rfl, Nat.le_of_ble_eq_true rfl⟩) (fx_pre hE hP hD hS hR [] rfl rfl fx_rc0) rfl rfl hl.1 rfl (lv_room (Nat.le_of_ble_eq_true rfl)) dX0_rootOf_9 ⟨Nat.le_refl _, Nat.le_refl _⟩) hP hD hS hA [] rfl rfl (fun r_9 u H locs hq_9 hP hD hS => ?_)
        replace hP : va_P E.1 clA [] _ := hP
        replace hD : va_D A [] := hD
        replace hq_9 : r_9 = nI (dg B v) := hq_9
        refine fx_ti (show r_9 = nI (dg B v) from hq_9) ?_
        refine lv_istore_n (lv' := [(2, .int (nI (dg B v))), (0, .int (nI S)), (1, .int (nI B))]) hx hb dX0_rootOf_12 rfl hl (by decide) rfl (fun ls hl => ?_)
        refine lv_goto (tgt := 2) hx hb dX0_rootOf_13 (by decide) ?_
        exact ih_2 (dg B v) (by have := dg_lt hB (n := v) (by omega); omega) ((rt_dg hB).trans hv) (Nat.le_trans (dg_le hB v) hv2) _ _ hP hD hS ls (lv_sub hl [0, 1, 2] rfl)
  exact loop_2 (S + 1) S (Nat.lt_succ_self _) rfl (Nat.le_refl _) _ _ hP hD hS ls (lv_sub hl [0, 1, 2] rfl)
abbrev rxX0_both : Room := { frames := 0, cells := 0, slots := 0, locals := 0 }
set_option maxHeartbeats 400000 in
set_option maxRecDepth 100000 in
theorem xX0_both (l : Launch) (E : fx_En) (cz : Nat) (x : Int32) (y : Int32) (hc : sgn cz) : fx_Mi l yX0_both cX0_both 3 .int rxX0_both E [.int (nI cz), .int x, .int y] [] [] (S := Unit) (fun (u : Unit) => []) (fun (r : Int32) (u : Unit) => r = jn (nI cz) x y) := by
  refine fx_iW rfl rfl ?_
  intro p e s m args below meth c A ls Q X hE hP hD hR hA hl hret
  have hx := X.1
  have hb := X.2.1
  have hS : va_S A s.heap s.heap [] := va_S.rf
  replace hl : lv_has ls 3 [(0, .int (nI cz)), (1, .int x), (2, .int y)] := hl
  refine lv_iload_n hx hb dX0_both_0 rfl (lv_at hl 0 rfl) ?_
  rcases hc with rfl | rfl | rfl | rfl | rfl | rfl | rfl | rfl | rfl | rfl
  ·
    refine lv_tableIn (tgt := 144) (off := 143) hx hb dX0_both_1 (by decide) (by decide) rfl (by decide) ?_
    refine lv_iload_n hx hb dX0_both_144 rfl (lv_at hl 2 rfl) ?_
    refine lv_if_ne (tgt := 152) hx hb dX0_both_145 (by decide) (fun c_145 => ?_) (fun c_145 => ?_)
    · -- jump 152
      refine lv_iload_n hx hb dX0_both_152 rfl (lv_at hl 1 rfl) ?_
      refine lv_iload_n hx hb dX0_both_153 rfl (lv_at hl 2 rfl) ?_
      refine lv_irem hx hb dX0_both_154 c_145 ?_
      exact hret (x - x / y * y) () (by show _ = jn 37 x y; simp [jn, fx_b, c_145]) (rfl) hP hD hS (Nat.le_refl _) (Nat.le_refl _) dX0_both_155
    · -- fall 148
      refine lv_iconst (v := 0) hx hb dX0_both_148 rfl ?_
      refine lv_goto (tgt := 155) hx hb dX0_both_149 (by decide) ?_
      exact hret 0 () (by show _ = jn 37 x y; simp [jn, fx_b, eq_true c_145]) (rfl) hP hD hS (Nat.le_refl _) (Nat.le_refl _) dX0_both_155
  ·
    refine lv_tableIn (tgt := 189) (off := 188) hx hb dX0_both_1 (by decide) (by decide) rfl (by decide) ?_
    refine lv_iload_n hx hb dX0_both_189 rfl (lv_at hl 1 rfl) ?_
    refine lv_if_eq (tgt := 201) hx hb dX0_both_190 (by decide) (fun c_190 => ?_) (fun c_190 => ?_)
    · -- jump 201
      refine lv_iconst (v := 0) hx hb dX0_both_201 rfl ?_
      exact hret 0 () (by show _ = jn 38 x y; simp [jn, fx_b, eq_true c_190]) (rfl) hP hD hS (Nat.le_refl _) (Nat.le_refl _) dX0_both_202
    · -- fall 193
      refine lv_iload_n hx hb dX0_both_193 rfl (lv_at hl 2 rfl) ?_
      refine lv_if_eq (tgt := 201) hx hb dX0_both_194 (by decide) (fun c_194 => ?_) (fun c_194 => ?_)
      · -- jump 201
        refine lv_iconst (v := 0) hx hb dX0_both_201 rfl ?_
        exact hret 0 () (by show _ = jn 38 x y; simp [jn, fx_b, c_190, eq_true c_194]) (rfl) hP hD hS (Nat.le_refl _) (Nat.le_refl _) dX0_both_202
      · -- fall 197
        refine lv_iconst (v := 1) hx hb dX0_both_197 rfl ?_
        refine lv_goto (tgt := 202) hx hb dX0_both_198 (by decide) ?_
        exact hret 1 () (by show _ = jn 38 x y; simp [jn, fx_b, c_190, c_194]) (rfl) hP hD hS (Nat.le_refl _) (Nat.le_refl _) dX0_both_202
  ·
    refine lv_tableIn (tgt := 128) (off := 127) hx hb dX0_both_1 (by decide) (by decide) rfl (by decide) ?_
    refine lv_iload_n hx hb dX0_both_128 rfl (lv_at hl 1 rfl) ?_
    refine lv_iload_n hx hb dX0_both_129 rfl (lv_at hl 2 rfl) ?_
    refine lv_imul hx hb dX0_both_130 ?_
    exact hret (x * y) () (by show _ = jn 42 x y; simp [jn, fx_b]) (rfl) hP hD hS (Nat.le_refl _) (Nat.le_refl _) dX0_both_131
  ·
    refine lv_tableIn (tgt := 120) (off := 119) hx hb dX0_both_1 (by decide) (by decide) rfl (by decide) ?_
    refine lv_iload_n hx hb dX0_both_120 rfl (lv_at hl 1 rfl) ?_
    refine lv_iload_n hx hb dX0_both_121 rfl (lv_at hl 2 rfl) ?_
    refine lv_iadd hx hb dX0_both_122 ?_
    exact hret (x + y) () (by show _ = jn 43 x y; simp [jn, fx_b]) (rfl) hP hD hS (Nat.le_refl _) (Nat.le_refl _) dX0_both_123
  ·
    refine lv_tableIn (tgt := 124) (off := 123) hx hb dX0_both_1 (by decide) (by decide) rfl (by decide) ?_
    refine lv_iload_n hx hb dX0_both_124 rfl (lv_at hl 1 rfl) ?_
    refine lv_iload_n hx hb dX0_both_125 rfl (lv_at hl 2 rfl) ?_
    refine lv_isub hx hb dX0_both_126 ?_
    exact hret (x - y) () (by show _ = jn 45 x y; simp [jn, fx_b]) (rfl) hP hD hS (Nat.le_refl _) (Nat.le_refl _) dX0_both_127
  ·
    refine lv_tableIn (tgt := 132) (off := 131) hx hb dX0_both_1 (by decide) (by decide) rfl (by decide) ?_
    refine lv_iload_n hx hb dX0_both_132 rfl (lv_at hl 2 rfl) ?_
    refine lv_if_ne (tgt := 140) hx hb dX0_both_133 (by decide) (fun c_133 => ?_) (fun c_133 => ?_)
    · -- jump 140
      refine lv_iload_n hx hb dX0_both_140 rfl (lv_at hl 1 rfl) ?_
      refine lv_iload_n hx hb dX0_both_141 rfl (lv_at hl 2 rfl) ?_
      refine lv_idiv hx hb dX0_both_142 c_133 ?_
      exact hret (x / y) () (by show _ = jn 47 x y; simp [jn, fx_b, c_133]) (rfl) hP hD hS (Nat.le_refl _) (Nat.le_refl _) dX0_both_143
    · -- fall 136
      refine lv_iconst (v := 0) hx hb dX0_both_136 rfl ?_
      refine lv_goto (tgt := 143) hx hb dX0_both_137 (by decide) ?_
      exact hret 0 () (by show _ = jn 47 x y; simp [jn, fx_b, eq_true c_133]) (rfl) hP hD hS (Nat.le_refl _) (Nat.le_refl _) dX0_both_143
  ·
    refine lv_tableIn (tgt := 156) (off := 155) hx hb dX0_both_1 (by decide) (by decide) rfl (by decide) ?_
    refine lv_iload_n hx hb dX0_both_156 rfl (lv_at hl 1 rfl) ?_
    refine lv_iload_n hx hb dX0_both_157 rfl (lv_at hl 2 rfl) ?_
    refine lv_icmp_ge (tgt := 165) hx hb dX0_both_158 (by decide) (fun c_158 => ?_) (fun c_158 => ?_)
    · -- jump 165
      refine lv_iconst (v := 0) hx hb dX0_both_165 rfl ?_
      exact hret 0 () (by show _ = jn 60 x y; simp [jn, fx_b, c_158, Int32.not_lt.2 c_158]) (rfl) hP hD hS (Nat.le_refl _) (Nat.le_refl _) dX0_both_166
    · -- fall 161
      refine lv_iconst (v := 1) hx hb dX0_both_161 rfl ?_
      refine lv_goto (tgt := 166) hx hb dX0_both_162 (by decide) ?_
      exact hret 1 () (by show _ = jn 60 x y; simp [jn, fx_b, c_158, Int32.not_le.1 c_158]) (rfl) hP hD hS (Nat.le_refl _) (Nat.le_refl _) dX0_both_166
  ·
    refine lv_tableIn (tgt := 167) (off := 166) hx hb dX0_both_1 (by decide) (by decide) rfl (by decide) ?_
    refine lv_iload_n hx hb dX0_both_167 rfl (lv_at hl 1 rfl) ?_
    refine lv_iload_n hx hb dX0_both_168 rfl (lv_at hl 2 rfl) ?_
    refine lv_icmp_ne (tgt := 176) hx hb dX0_both_169 (by decide) (fun c_169 => ?_) (fun c_169 => ?_)
    · -- jump 176
      refine lv_iconst (v := 0) hx hb dX0_both_176 rfl ?_
      exact hret 0 () (by show _ = jn 61 x y; simp [jn, fx_b, c_169]) (rfl) hP hD hS (Nat.le_refl _) (Nat.le_refl _) dX0_both_177
    · -- fall 172
      refine lv_iconst (v := 1) hx hb dX0_both_172 rfl ?_
      refine lv_goto (tgt := 177) hx hb dX0_both_173 (by decide) ?_
      exact hret 1 () (by show _ = jn 61 x y; simp [jn, fx_b, eq_true c_169]) (rfl) hP hD hS (Nat.le_refl _) (Nat.le_refl _) dX0_both_177
  ·
    refine lv_tableIn (tgt := 178) (off := 177) hx hb dX0_both_1 (by decide) (by decide) rfl (by decide) ?_
    refine lv_iload_n hx hb dX0_both_178 rfl (lv_at hl 1 rfl) ?_
    refine lv_iload_n hx hb dX0_both_179 rfl (lv_at hl 2 rfl) ?_
    refine lv_icmp_le (tgt := 187) hx hb dX0_both_180 (by decide) (fun c_180 => ?_) (fun c_180 => ?_)
    · -- jump 187
      refine lv_iconst (v := 0) hx hb dX0_both_187 rfl ?_
      exact hret 0 () (by show _ = jn 62 x y; simp [jn, fx_b, c_180, Int32.not_lt.2 c_180]) (rfl) hP hD hS (Nat.le_refl _) (Nat.le_refl _) dX0_both_188
    · -- fall 183
      refine lv_iconst (v := 1) hx hb dX0_both_183 rfl ?_
      refine lv_goto (tgt := 188) hx hb dX0_both_184 (by decide) ?_
      exact hret 1 () (by show _ = jn 62 x y; simp [jn, fx_b, c_180, Int32.not_le.1 c_180]) (rfl) hP hD hS (Nat.le_refl _) (Nat.le_refl _) dX0_both_188
  ·
    refine lv_tableOut (tgt := 203) hx hb dX0_both_1 (by decide) (by decide) ?_
    refine lv_iload_n hx hb dX0_both_203 rfl (lv_at hl 1 rfl) ?_
    refine lv_if_ne (tgt := 211) hx hb dX0_both_204 (by decide) (fun c_204 => ?_) (fun c_204 => ?_)
    · -- jump 211
      refine lv_iconst (v := 1) hx hb dX0_both_211 rfl ?_
      refine lv_goto (tgt := 216) hx hb dX0_both_212 (by decide) ?_
      exact hret 1 () (by show _ = jn 124 x y; simp [jn, fx_b, c_204]) (rfl) hP hD hS (Nat.le_refl _) (Nat.le_refl _) dX0_both_216
    · -- fall 207
      refine lv_iload_n hx hb dX0_both_207 rfl (lv_at hl 2 rfl) ?_
      refine lv_if_eq (tgt := 215) hx hb dX0_both_208 (by decide) (fun c_208 => ?_) (fun c_208 => ?_)
      · -- jump 215
        refine lv_iconst (v := 0) hx hb dX0_both_215 rfl ?_
        exact hret 0 () (by show _ = jn 124 x y; simp [jn, fx_b, eq_true c_204, eq_true c_208]) (rfl) hP hD hS (Nat.le_refl _) (Nat.le_refl _) dX0_both_216
      · -- fall 211
        refine lv_iconst (v := 1) hx hb dX0_both_211 rfl ?_
        refine lv_goto (tgt := 216) hx hb dX0_both_212 (by decide) ?_
        exact hret 1 () (by show _ = jn 124 x y; simp [jn, fx_b, eq_true c_204, c_208]) (rfl) hP hD hS (Nat.le_refl _) (Nat.le_refl _) dX0_both_216
abbrev rxX0_worked : Room := { frames := 1, cells := 0, slots := 0, locals := 22 }
set_option maxHeartbeats 400000 in
set_option maxRecDepth 100000 in
theorem xX0_worked (l : Launch) (E : fx_En) (ax : Nat → Nat) (im : Int32) (bn : Int32) (bm : Int32) (fm : Int32) (ff : Int32) (fl : Int32) (ta : Nat) (tb : Nat) (tc_ : Nat) (nmd : Nat → Int32) (pl : Nat → Int32) (sf : Nat → Int32) (vf : Nat → Int32) (T : Tx) (nm : Nat → Int32) (hok : okT T) (hnm : ∀ i, i < 3 → nmd i = nm i) (hr : TXr T sf vf) : fx_Mi l yX0_worked cX0_worked 5 .int rxX0_worked E [.ref (ax 19), .ref ta] [(ax 0, .inl (E.2 0, 60, .inl pl))] [(ax 19, .inr (0, [.ref (ax 0), .ref (ax 1), .ref (ax 35), .ref (ax 55), .ref (ax 4), .ref (ax 5), .ref (ax 6), .ref (ax 7), .int im, .ref (ax 9), .ref (ax 10), .ref (ax 11), .ref (ax 12), .ref (ax 13), .int bn, .int bm, .int fm, .int ff, .int fl])), (ax 1, .inl (E.2 0, 3, .inl nmd)), (ta, .inr (14, [.ref tb, .ref tc_, .int (nI T.1)])), (tb, .inl (E.2 1, 60, .inl sf)), (tc_, .inl (E.2 2, 60, .inl vf))] (S := (Nat → Int32)) (fun (u : (Nat → Int32)) => [(ax 0, .inl (E.2 0, 60, .inl u))]) (fun (r : Int32) (u : (Nat → Int32)) => r = val T nm) := by
  refine fx_iW rfl rfl ?_
  intro p e s m args below meth c A ls Q X hE hP hD hR hA hl hret
  have hx := X.1
  have hb := X.2.1
  have hS : va_S A s.heap s.heap [] := va_S.rf
  replace hP : va_P E.1 clA [(ax 0, .inl (E.2 0, 60, .inl pl))] _ := hP
  replace hD : va_D A [(ax 0, .inl (E.2 0, 60, .inl pl))] := hD
  replace hl : lv_has ls 5 [(0, .ref (ax 19)), (1, .ref ta)] := hl
  have hle := hok.2.1
  refine lv_iconst (v := 0) hx hb dX0_worked_0 rfl ?_
  refine lv_istore_n (lv' := [(2, .int 0), (0, .ref (ax 19)), (1, .ref ta)]) hx hb dX0_worked_1 rfl hl (by decide) rfl (fun ls hl => ?_)
  refine lv_iconst (v := 0) hx hb dX0_worked_2 rfl ?_
  refine lv_istore_n (lv' := [(3, .int 0), (2, .int 0), (0, .ref (ax 19)), (1, .ref ta)]) hx hb dX0_worked_3 rfl hl (by decide) rfl (fun ls hl => ?_)
  have loop_4 : ∀ (n_4 : Nat) (k : Nat) (n : Nat) (pz : Nat → Int32), (T.1 - k < n_4) → (k ≤ T.1) → (agr T nm k n pz) → ∀ (H : Heap) (locs : List Loc), va_P E.1 clA [(ax 0, .inl (E.2 0, 60, .inl pz))] H → va_D A [(ax 0, .inl (E.2 0, 60, .inl pz))] → va_S A s.heap H locs → ∀ (ls : Array Slot), lv_has ls 5 [(3, .int (nI k)), (2, .int (nI n)), (0, .ref (ax 19)), (1, .ref ta)] → W p l e rxX0_worked s m args below meth c H locs 0 0 Q (F0 m 4 ls []) := by
    intro n_4
    induction n_4 with
    | zero => intro k n pz hm_4; exact absurd hm_4 (Nat.not_lt_zero _)
    | succ n_4 ih_4 =>
      intro k n pz hm_4 hk hag H locs hP hD hS ls hl
      refine lv_iload_n hx hb dX0_worked_4 rfl (lv_at hl 0 rfl) ?_
      refine lv_aload_n hx hb dX0_worked_5 rfl (lv_at hl 3 rfl) ?_
      refine fx_getN X hE (hR.at hS) 2 rfl rfl 2 rfl 38 rfl rfl rfl dX0_worked_6 ?_
      refine lv_icmp_ge (tgt := 139) hx hb dX0_worked_9 (by decide) (fun c_9 => ?_) (fun c_9 => ?_)
      · -- jump 139
        have n_9 := fx_le1 (a := T.1) (b := k) c_9 (by omega) (by omega)
        obtain rfl : k = T.1 := by omega
        refine lv_aload_n hx hb dX0_worked_139 rfl (lv_at hl 2 rfl) ?_
        refine fx_get X hE (hR.at hS) 0 rfl rfl 0 rfl q233 rfl rfl dX0_worked_140 ?_
        refine lv_iconst (v := 0) hx hb dX0_worked_143 rfl ?_
        refine fx_iald X hE hP 0 rfl 0 rfl (by decide) rfl dX0_worked_144 ?_
        exact hret (pz 0) (pz) (agr_end hag hok) (rfl) hP hD hS (Nat.le_refl _) (Nat.le_refl _) dX0_worked_145
      · -- fall 12
        have n_9 := fx_le0 (a := T.1) (b := k) c_9 (by omega) (by omega)
        have hkl : k < T.1 := n_9
        have hdk := dpT_le T.2.1 k
        have hn1 := hag.1
        have hcl := dpc_lt (hok.2.2 k hkl)
        rcases hok.2.2 k hkl with e1 | e2 | e3 | e4
        ·
          refine lv_aload_n hx hb dX0_worked_12 rfl (lv_at hl 3 rfl) ?_
          refine fx_getN X hE (hR.at hS) 2 rfl rfl 0 rfl 36 rfl rfl rfl dX0_worked_13 ?_
          refine lv_iload_n hx hb dX0_worked_16 rfl (lv_at hl 0 rfl) ?_
          refine fx_bald X hE (hR.at hS) 3 rfl k rfl (by omega) rfl dX0_worked_17 ?_
          refine fx_ti (show (sf k) = 1 from ((hr k hkl).1.trans (congrArg nI e1.1))) ?_
          refine lv_istore (lv' := [(4, .int 1), (3, .int (nI k)), (2, .int (nI n)), (0, .ref (ax 19)), (1, .ref ta)]) hx hb dX0_worked_18 hl (by decide) rfl (fun ls hl => ?_)
          refine lv_iload hx hb dX0_worked_20 (lv_at hl 0 rfl) ?_
          refine lv_iconst (v := 1) hx hb dX0_worked_22 rfl ?_
          refine lv_icmp_eq (tgt := 32) hx hb dX0_worked_23 (by decide) (fun _ => ?_) (fun c => (c (by decide)).elim)
          refine lv_aload_n hx hb dX0_worked_32 rfl (lv_at hl 3 rfl) ?_
          refine fx_get X hE (hR.at hS) 0 rfl rfl 0 rfl q233 rfl rfl dX0_worked_33 ?_
          refine lv_iload_n hx hb dX0_worked_36 rfl (lv_at hl 2 rfl) ?_
          refine lv_iload hx hb dX0_worked_37 (lv_at hl 0 rfl) ?_
          refine lv_iconst (v := 1) hx hb dX0_worked_39 rfl ?_
          refine lv_icmp_ne (tgt := 52) hx hb dX0_worked_40 (by decide) (fun c => (c (by decide)).elim) (fun _ => ?_)
          refine lv_aload_n hx hb dX0_worked_43 rfl (lv_at hl 4 rfl) ?_
          refine fx_getN X hE (hR.at hS) 2 rfl rfl 1 rfl 37 rfl rfl rfl dX0_worked_44 ?_
          refine lv_iload_n hx hb dX0_worked_47 rfl (lv_at hl 1 rfl) ?_
          refine fx_sald X hE (hR.at hS) 4 rfl k rfl (by omega) rfl dX0_worked_48 ?_
          refine fx_ti (show (vf k) = nI (T.2.2 k) from (hr k hkl).2) ?_
          refine lv_goto (tgt := 63) hx hb dX0_worked_49 (by decide) ?_
          refine fx_iast (ws' := [(ax 0, .inl (E.2 0, 60, .inl (upd pz n (nI (T.2.2 k)))))]) X hE hP hD hS 0 rfl n rfl (by omega) rfl rfl dX0_worked_63 (fun H locs hP hD hS => ?_)
          refine lv_iinc (v := nI (n + 1)) (lv' := [(2, .int (nI (n + 1))), (4, .int 1), (3, .int (nI k)), (0, .ref (ax 19)), (1, .ref ta)]) hx hb dX0_worked_64 hl (k := 2) rfl (fx_inc _) (by decide) rfl (fun ls hl => ?_)
          refine lv_goto (tgt := 133) hx hb dX0_worked_67 (by decide) ?_
          refine lv_iinc (v := nI (k + 1)) (lv' := [(3, .int (nI (k + 1))), (2, .int (nI (n + 1))), (4, .int 1), (0, .ref (ax 19)), (1, .ref ta)]) hx hb dX0_worked_133 hl (k := 2) rfl (fx_inc _) (by decide) rfl (fun ls hl => ?_)
          refine lv_goto (tgt := 4) hx hb dX0_worked_136 (by decide) ?_
          exact ih_4 (k + 1) (n + 1) (upd pz n (nI (T.2.2 k))) (by omega) (by omega) (agr_1 hag e1.1) _ _ hP hD hS ls (lv_sub hl [0, 1, 3, 4] rfl)
        ·
          refine lv_aload_n hx hb dX0_worked_12 rfl (lv_at hl 3 rfl) ?_
          refine fx_getN X hE (hR.at hS) 2 rfl rfl 0 rfl 36 rfl rfl rfl dX0_worked_13 ?_
          refine lv_iload_n hx hb dX0_worked_16 rfl (lv_at hl 0 rfl) ?_
          refine fx_bald X hE (hR.at hS) 3 rfl k rfl (by omega) rfl dX0_worked_17 ?_
          refine fx_ti (show (sf k) = 2 from ((hr k hkl).1.trans (congrArg nI e2.1))) ?_
          refine lv_istore (lv' := [(4, .int 2), (3, .int (nI k)), (2, .int (nI n)), (0, .ref (ax 19)), (1, .ref ta)]) hx hb dX0_worked_18 hl (by decide) rfl (fun ls hl => ?_)
          refine lv_iload hx hb dX0_worked_20 (lv_at hl 0 rfl) ?_
          refine lv_iconst (v := 1) hx hb dX0_worked_22 rfl ?_
          refine lv_icmp_eq (tgt := 32) hx hb dX0_worked_23 (by decide) (fun c => absurd c (by decide)) (fun _ => ?_)
          refine lv_iload hx hb dX0_worked_26 (lv_at hl 0 rfl) ?_
          refine lv_iconst (v := 2) hx hb dX0_worked_28 rfl ?_
          refine lv_icmp_ne (tgt := 70) hx hb dX0_worked_29 (by decide) (fun c => (c (by decide)).elim) (fun _ => ?_)
          refine lv_aload_n hx hb dX0_worked_32 rfl (lv_at hl 3 rfl) ?_
          refine fx_get X hE (hR.at hS) 0 rfl rfl 0 rfl q233 rfl rfl dX0_worked_33 ?_
          refine lv_iload_n hx hb dX0_worked_36 rfl (lv_at hl 2 rfl) ?_
          refine lv_iload hx hb dX0_worked_37 (lv_at hl 0 rfl) ?_
          refine lv_iconst (v := 1) hx hb dX0_worked_39 rfl ?_
          refine lv_icmp_ne (tgt := 52) hx hb dX0_worked_40 (by decide) (fun _ => ?_) (fun c => absurd c (by decide))
          refine lv_aload_n hx hb dX0_worked_52 rfl (lv_at hl 3 rfl) ?_
          refine fx_get X hE (hR.at hS) 0 rfl rfl 1 rfl q235 rfl rfl dX0_worked_53 ?_
          refine lv_aload_n hx hb dX0_worked_56 rfl (lv_at hl 4 rfl) ?_
          refine fx_getN X hE (hR.at hS) 2 rfl rfl 1 rfl 37 rfl rfl rfl dX0_worked_57 ?_
          refine lv_iload_n hx hb dX0_worked_60 rfl (lv_at hl 1 rfl) ?_
          refine fx_sald X hE (hR.at hS) 4 rfl k rfl (by omega) rfl dX0_worked_61 ?_
          refine fx_ti (show (vf k) = nI (T.2.2 k) from (hr k hkl).2) ?_
          refine fx_iald X hE (hR.at hS) 1 rfl (T.2.2 k) rfl (by have := e2.2; omega) rfl dX0_worked_62 ?_
          refine fx_iast (ws' := [(ax 0, .inl (E.2 0, 60, .inl (upd pz n (nmd (T.2.2 k)))))]) X hE hP hD hS 0 rfl n rfl (by omega) rfl rfl dX0_worked_63 (fun H locs hP hD hS => ?_)
          refine lv_iinc (v := nI (n + 1)) (lv' := [(2, .int (nI (n + 1))), (4, .int 2), (3, .int (nI k)), (0, .ref (ax 19)), (1, .ref ta)]) hx hb dX0_worked_64 hl (k := 2) rfl (fx_inc _) (by decide) rfl (fun ls hl => ?_)
          refine lv_goto (tgt := 133) hx hb dX0_worked_67 (by decide) ?_
          refine lv_iinc (v := nI (k + 1)) (lv' := [(3, .int (nI (k + 1))), (2, .int (nI (n + 1))), (4, .int 2), (0, .ref (ax 19)), (1, .ref ta)]) hx hb dX0_worked_133 hl (k := 2) rfl (fx_inc _) (by decide) rfl (fun ls hl => ?_)
          refine lv_goto (tgt := 4) hx hb dX0_worked_136 (by decide) ?_
          exact ih_4 (k + 1) (n + 1) (upd pz n (nmd (T.2.2 k))) (by omega) (by omega) (agr_2 hag e2.1 (hnm _ e2.2)) _ _ hP hD hS ls (lv_sub hl [0, 1, 3, 4] rfl)
        ·
          have he3 := e3.2.1
          refine lv_aload_n hx hb dX0_worked_12 rfl (lv_at hl 3 rfl) ?_
          refine fx_getN X hE (hR.at hS) 2 rfl rfl 0 rfl 36 rfl rfl rfl dX0_worked_13 ?_
          refine lv_iload_n hx hb dX0_worked_16 rfl (lv_at hl 0 rfl) ?_
          refine fx_bald X hE (hR.at hS) 3 rfl k rfl (by omega) rfl dX0_worked_17 ?_
          refine fx_ti (show (sf k) = 3 from ((hr k hkl).1.trans (congrArg nI e3.1))) ?_
          refine lv_istore (lv' := [(4, .int 3), (3, .int (nI k)), (2, .int (nI n)), (0, .ref (ax 19)), (1, .ref ta)]) hx hb dX0_worked_18 hl (by decide) rfl (fun ls hl => ?_)
          refine lv_iload hx hb dX0_worked_20 (lv_at hl 0 rfl) ?_
          refine lv_iconst (v := 1) hx hb dX0_worked_22 rfl ?_
          refine lv_icmp_eq (tgt := 32) hx hb dX0_worked_23 (by decide) (fun c => absurd c (by decide)) (fun _ => ?_)
          refine lv_iload hx hb dX0_worked_26 (lv_at hl 0 rfl) ?_
          refine lv_iconst (v := 2) hx hb dX0_worked_28 rfl ?_
          refine lv_icmp_ne (tgt := 70) hx hb dX0_worked_29 (by decide) (fun _ => ?_) (fun c => absurd c (by decide))
          refine lv_iload hx hb dX0_worked_70 (lv_at hl 0 rfl) ?_
          refine lv_iconst (v := 3) hx hb dX0_worked_72 rfl ?_
          refine lv_icmp_ne (tgt := 103) hx hb dX0_worked_73 (by decide) (fun c => (c (by decide)).elim) (fun _ => ?_)
          refine lv_aload_n hx hb dX0_worked_76 rfl (lv_at hl 3 rfl) ?_
          refine fx_get X hE (hR.at hS) 0 rfl rfl 0 rfl q233 rfl rfl dX0_worked_77 ?_
          refine lv_iload_n hx hb dX0_worked_80 rfl (lv_at hl 2 rfl) ?_
          refine lv_iconst (v := 1) hx hb dX0_worked_81 rfl ?_
          refine lv_isub hx hb dX0_worked_82 ?_
          refine fx_ti (pk_sub (a := n) (b := 1) (by omega)) ?_
          refine lv_aload_n hx hb dX0_worked_83 rfl (lv_at hl 3 rfl) ?_
          refine fx_get X hE (hR.at hS) 0 rfl rfl 0 rfl q233 rfl rfl dX0_worked_84 ?_
          refine lv_iload_n hx hb dX0_worked_87 rfl (lv_at hl 2 rfl) ?_
          refine lv_iconst (v := 1) hx hb dX0_worked_88 rfl ?_
          refine lv_isub hx hb dX0_worked_89 ?_
          refine fx_ti (pk_sub (a := n) (b := 1) (by omega)) ?_
          refine fx_iald X hE hP 0 rfl (n - 1) rfl (by omega) rfl dX0_worked_90 ?_
          refine lv_if_ne (tgt := 98) hx hb dX0_worked_91 (by decide) (fun c_91 => ?_) (fun c_91 => ?_)
          · -- jump 98
            refine lv_iconst (v := 0) hx hb dX0_worked_98 rfl ?_
            refine fx_iast (ws' := [(ax 0, .inl (E.2 0, 60, .inl (upd pz (n - 1) 0)))]) X hE hP hD hS 0 rfl (n - 1) rfl (by omega) rfl rfl dX0_worked_99 (fun H locs hP hD hS => ?_)
            refine lv_goto (tgt := 133) hx hb dX0_worked_100 (by decide) ?_
            refine lv_iinc (v := nI (k + 1)) (lv' := [(3, .int (nI (k + 1))), (4, .int 3), (2, .int (nI n)), (0, .ref (ax 19)), (1, .ref ta)]) hx hb dX0_worked_133 hl (k := 1) rfl (fx_inc _) (by decide) rfl (fun ls hl => ?_)
            refine lv_goto (tgt := 4) hx hb dX0_worked_136 (by decide) ?_
            exact ih_4 (k + 1) n (upd pz (n - 1) 0) (by omega) (by omega) (agr_3 hag e3.1 (by have := e3.2.1; omega) (by simp [c_91])) _ _ hP hD hS ls (lv_sub hl [0, 2, 3, 4] rfl)
          · -- fall 94
            refine lv_iconst (v := 1) hx hb dX0_worked_94 rfl ?_
            refine lv_goto (tgt := 99) hx hb dX0_worked_95 (by decide) ?_
            refine fx_iast (ws' := [(ax 0, .inl (E.2 0, 60, .inl (upd pz (n - 1) 1)))]) X hE hP hD hS 0 rfl (n - 1) rfl (by omega) rfl rfl dX0_worked_99 (fun H locs hP hD hS => ?_)
            refine lv_goto (tgt := 133) hx hb dX0_worked_100 (by decide) ?_
            refine lv_iinc (v := nI (k + 1)) (lv' := [(3, .int (nI (k + 1))), (4, .int 3), (2, .int (nI n)), (0, .ref (ax 19)), (1, .ref ta)]) hx hb dX0_worked_133 hl (k := 1) rfl (fx_inc _) (by decide) rfl (fun ls hl => ?_)
            refine lv_goto (tgt := 4) hx hb dX0_worked_136 (by decide) ?_
            exact ih_4 (k + 1) n (upd pz (n - 1) 1) (by omega) (by omega) (agr_3 hag e3.1 (by have := e3.2.1; omega) (by simp [c_91])) _ _ hP hD hS ls (lv_sub hl [0, 2, 3, 4] rfl)
        ·
          have he4 := e4.2.2.1
          refine lv_aload_n hx hb dX0_worked_12 rfl (lv_at hl 3 rfl) ?_
          refine fx_getN X hE (hR.at hS) 2 rfl rfl 0 rfl 36 rfl rfl rfl dX0_worked_13 ?_
          refine lv_iload_n hx hb dX0_worked_16 rfl (lv_at hl 0 rfl) ?_
          refine fx_bald X hE (hR.at hS) 3 rfl k rfl (by omega) rfl dX0_worked_17 ?_
          refine fx_ti (show (sf k) = nI (T.2.1 k) from (hr k hkl).1) ?_
          refine lv_istore (lv' := [(4, .int (nI (T.2.1 k))), (3, .int (nI k)), (2, .int (nI n)), (0, .ref (ax 19)), (1, .ref ta)]) hx hb dX0_worked_18 hl (by decide) rfl (fun ls hl => ?_)
          refine lv_iload hx hb dX0_worked_20 (lv_at hl 0 rfl) ?_
          refine lv_iconst (v := 1) hx hb dX0_worked_22 rfl ?_
          refine lv_icmp_eq (tgt := 32) hx hb dX0_worked_23 (by decide) (fun c_23 => ?_) (fun c_23 => ?_)
          · -- jump 32
            have n_23 := fx_eq1 (a := (T.2.1 k)) (b := 1) c_23 (by omega) (by omega)
            exact absurd n_23 (by have := e4.1; omega)
          · -- fall 26
            have n_23 := fx_eq0 (a := (T.2.1 k)) (b := 1) c_23 (by omega) (by omega)
            refine lv_iload hx hb dX0_worked_26 (lv_at hl 0 rfl) ?_
            refine lv_iconst (v := 2) hx hb dX0_worked_28 rfl ?_
            refine lv_icmp_ne (tgt := 70) hx hb dX0_worked_29 (by decide) (fun c_29 => ?_) (fun c_29 => ?_)
            · -- jump 70
              have n_29 := fx_eq0 (a := (T.2.1 k)) (b := 2) c_29 (by omega) (by omega)
              refine lv_iload hx hb dX0_worked_70 (lv_at hl 0 rfl) ?_
              refine lv_iconst (v := 3) hx hb dX0_worked_72 rfl ?_
              refine lv_icmp_ne (tgt := 103) hx hb dX0_worked_73 (by decide) (fun c_73 => ?_) (fun c_73 => ?_)
              · -- jump 103
                have n_73 := fx_eq0 (a := (T.2.1 k)) (b := 3) c_73 (by omega) (by omega)
                refine lv_iinc (v := nI (n - 1)) (lv' := [(2, .int (nI (n - 1))), (4, .int (nI (T.2.1 k))), (3, .int (nI k)), (0, .ref (ax 19)), (1, .ref ta)]) hx hb dX0_worked_103 hl (k := 2) rfl (fx_dec (by omega)) (by decide) rfl (fun ls hl => ?_)
                refine lv_aload_n hx hb dX0_worked_106 rfl (lv_at hl 3 rfl) ?_
                refine fx_get X hE (hR.at hS) 0 rfl rfl 0 rfl q233 rfl rfl dX0_worked_107 ?_
                refine lv_iload_n hx hb dX0_worked_110 rfl (lv_at hl 0 rfl) ?_
                refine lv_iconst (v := 1) hx hb dX0_worked_111 rfl ?_
                refine lv_isub hx hb dX0_worked_112 ?_
                refine fx_ti (pk_sub (a := n - 1) (b := 1) (by omega)) ?_
                refine lv_iload hx hb dX0_worked_113 (lv_at hl 1 rfl) ?_
                refine lv_aload_n hx hb dX0_worked_115 rfl (lv_at hl 3 rfl) ?_
                refine fx_get X hE (hR.at hS) 0 rfl rfl 0 rfl q233 rfl rfl dX0_worked_116 ?_
                refine lv_iload_n hx hb dX0_worked_119 rfl (lv_at hl 0 rfl) ?_
                refine lv_iconst (v := 1) hx hb dX0_worked_120 rfl ?_
                refine lv_isub hx hb dX0_worked_121 ?_
                refine fx_ti (pk_sub (a := n - 1) (b := 1) (by omega)) ?_
                refine fx_iald X hE hP 0 rfl (n - 1 - 1) rfl (by omega) rfl dX0_worked_122 ?_
                refine lv_aload_n hx hb dX0_worked_123 rfl (lv_at hl 3 rfl) ?_
                refine fx_get X hE (hR.at hS) 0 rfl rfl 0 rfl q233 rfl rfl dX0_worked_124 ?_
                refine lv_iload_n hx hb dX0_worked_127 rfl (lv_at hl 0 rfl) ?_
                refine fx_iald X hE hP 0 rfl (n - 1) rfl (by omega) rfl dX0_worked_128 ?_
                refine fx_ci (va_runS (As := [.int (nI (T.2.1 k)), .int (pz (n - 1 - 1)), .int (pz (n - 1))]) (rest := [.int (nI (n - 1 - 1)), .ref (ax 0)]) X (xX0_both l E (T.2.1 k) (pz (n - 1 - 1)) (pz (n - 1)) e4.2.1 _) (va_cwS 3 X.2.2.2.2 (lw_S q320 q321 q69 q322) rfl rfl rfl hdX0_both ⟨Nat.le_of_ble_eq_true rfl, Nat.le_of_ble_eq_true rfl⟩) (fx_pre hE hP hD hS hR [] rfl rfl fx_rc0) rfl rfl hl.1 rfl (lv_room (Nat.le_of_ble_eq_true rfl)) dX0_worked_129 ⟨Nat.le_refl _, Nat.le_refl _⟩) hP hD hS hA [] rfl rfl (fun r_129 u H locs hq_129 hP hD hS => ?_)
                replace hP : va_P E.1 clA [(ax 0, .inl (E.2 0, 60, .inl pz))] _ := hP
                replace hD : va_D A [(ax 0, .inl (E.2 0, 60, .inl pz))] := hD
                replace hq_129 : r_129 = jn (nI (T.2.1 k)) (pz (n - 1 - 1)) (pz (n - 1)) := hq_129
                refine fx_ti (show r_129 = (jn (nI (T.2.1 k)) (pz (n - 1 - 1)) (pz (n - 1))) from hq_129) ?_
                refine fx_iast (ws' := [(ax 0, .inl (E.2 0, 60, .inl (upd pz (n - 1 - 1) (jn (nI (T.2.1 k)) (pz (n - 1 - 1)) (pz (n - 1))))))]) X hE hP hD hS 0 rfl (n - 1 - 1) rfl (by omega) rfl rfl dX0_worked_132 (fun H locs hP hD hS => ?_)
                refine lv_iinc (v := nI (k + 1)) (lv' := [(3, .int (nI (k + 1))), (2, .int (nI (n - 1))), (4, .int (nI (T.2.1 k))), (0, .ref (ax 19)), (1, .ref ta)]) hx hb dX0_worked_133 hl (k := 2) rfl (fx_inc _) (by decide) rfl (fun ls hl => ?_)
                refine lv_goto (tgt := 4) hx hb dX0_worked_136 (by decide) ?_
                exact ih_4 (k + 1) (n - 1) (upd pz (n - 1 - 1) (jn (nI (T.2.1 k)) (pz (n - 1 - 1)) (pz (n - 1)))) (by omega) (by omega) (agr_4 hag e4.1 (by have := e4.2.2.1; omega)) _ _ hP hD hS ls (lv_sub hl [0, 1, 3, 4] rfl)
              · -- fall 76
                have n_73 := fx_eq1 (a := (T.2.1 k)) (b := 3) c_73 (by omega) (by omega)
                exact absurd n_73 (by have := e4.1; omega)
            · -- fall 32
              have n_29 := fx_eq1 (a := (T.2.1 k)) (b := 2) c_29 (by omega) (by omega)
              exact absurd n_29 (by have := e4.1; omega)
  exact loop_4 ((T.1 - 0) + 1) 0 0 pl (Nat.lt_succ_self _) (Nat.zero_le _) (agr_0 T nm _) _ _ hP hD hS ls (lv_sub hl [0, 1, 2, 3] rfl)
