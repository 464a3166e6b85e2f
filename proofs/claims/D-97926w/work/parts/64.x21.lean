set_option maxRecDepth 100000
theorem hdX13_opens : yX13_opens.cls ≠ "java/lang/invoke/MethodHandle" ∧ yX13_opens.cls ≠ "java/lang/invoke/VarHandle" ∧ (parseMethodDescriptor yX13_opens.desc).map (fun d => d.parameters.length) = some 0 := by decide +kernel
theorem hdX13_number : yX13_number.cls ≠ "java/lang/invoke/MethodHandle" ∧ yX13_number.cls ≠ "java/lang/invoke/VarHandle" ∧ (parseMethodDescriptor yX13_number.desc).map (fun d => d.parameters.length) = some 0 := by decide +kernel
theorem hdX13_product : yX13_product.cls ≠ "java/lang/invoke/MethodHandle" ∧ yX13_product.cls ≠ "java/lang/invoke/VarHandle" ∧ (parseMethodDescriptor yX13_product.desc).map (fun d => d.parameters.length) = some 0 := by decide +kernel
theorem hdX13_sum : yX13_sum.cls ≠ "java/lang/invoke/MethodHandle" ∧ yX13_sum.cls ≠ "java/lang/invoke/VarHandle" ∧ (parseMethodDescriptor yX13_sum.desc).map (fun d => d.parameters.length) = some 0 := by decide +kernel
theorem hdX13_compared : yX13_compared.cls ≠ "java/lang/invoke/MethodHandle" ∧ yX13_compared.cls ≠ "java/lang/invoke/VarHandle" ∧ (parseMethodDescriptor yX13_compared.desc).map (fun d => d.parameters.length) = some 0 := by decide +kernel
theorem hdX13_both : yX13_both.cls ≠ "java/lang/invoke/MethodHandle" ∧ yX13_both.cls ≠ "java/lang/invoke/VarHandle" ∧ (parseMethodDescriptor yX13_both.desc).map (fun d => d.parameters.length) = some 0 := by decide +kernel
theorem hdX13_either : yX13_either.cls ≠ "java/lang/invoke/MethodHandle" ∧ yX13_either.cls ≠ "java/lang/invoke/VarHandle" ∧ (parseMethodDescriptor yX13_either.desc).map (fun d => d.parameters.length) = some 0 := by decide +kernel
theorem hdX13_unit : yX13_unit.cls ≠ "java/lang/invoke/MethodHandle" ∧ yX13_unit.cls ≠ "java/lang/invoke/VarHandle" ∧ (parseMethodDescriptor yX13_unit.desc).map (fun d => d.parameters.length) = some 0 := by decide +kernel
theorem hdX13_read : yX13_read.cls ≠ "java/lang/invoke/MethodHandle" ∧ yX13_read.cls ≠ "java/lang/invoke/VarHandle" ∧ (parseMethodDescriptor yX13_read.desc).map (fun d => d.parameters.length) = some 0 := by decide +kernel
abbrev rxX13_unit (d : Nat) : Room := { frames := 6 * d + 9, cells := 1, slots := 7, locals := 180 * d + 400 }
abbrev rxX13_opens : Room := { frames := 5, cells := 1, slots := 7, locals := 109 }
set_option maxHeartbeats 400000 in
set_option maxRecDepth 100000 in
theorem xX13_opens (l : Launch) (E : fx_En) (ks : fz_Ks) (sa : Nat → Int32) (rd : Nat) (tp_ : Nat) (xa : Nat) (uz : Nat) (pa : Nat) (on : Nat) (hon : on ≤ 5) : fz_Mv l yX13_opens cX13_opens 1 rxX13_opens 0 0 E ks [.ref rd] [(rd, .inr (13, [.ref tp_, .int (nI (nn (sa 3))), .ref (ks.1 uz), .ref xa, .int (nI pa), .int (nI on)]))] [] (S := Unit) (fun (u : Unit) => [(rd, .inr (13, [.ref tp_, .int (nI (nn (sa 3))), .ref (ks.1 uz), .ref xa, .int (nI (pa + 1)), .int (nI (on + 1))]))]) (fun (u : Unit) => on ≠ 5) RX15 (SX := Int32 × Int32 × Nat × Int32) (fun (u : Int32 × Int32 × Nat × Int32) => [(rd, .inr (13, [.ref tp_, .int (nI (nn (sa 3))), .ref (ks.1 uz), .ref xa, .int u.1, .int u.2.1])), (u.2.2.1, .inr (15, [.null, .null, .null, .null, .null, .int 0, .int u.2.2.2]))]) (fun (q : Nat) (u : Int32 × Int32 × Nat × Int32) => q = u.2.2.1 ∧ on = 5 ∧ u.2.2.2 = nI pa) := by
  refine fz_vW rfl rfl ?_
  intro p e s m args below meth c A ls Q X hnm hE hP hD hR hZ hA hl hret hthrow
  have hx := X.1
  have hb := X.2.1
  have hS : va_S A s.heap s.heap [] := va_S.rf
  replace hP : va_P E.1 clA [(rd, .inr (13, [.ref tp_, .int (nI (nn (sa 3))), .ref (ks.1 uz), .ref xa, .int (nI pa), .int (nI on)]))] _ := hP
  replace hD : va_D A [(rd, .inr (13, [.ref tp_, .int (nI (nn (sa 3))), .ref (ks.1 uz), .ref xa, .int (nI pa), .int (nI on)]))] := hD
  replace hl : lv_has ls 1 [(0, .ref rd)] := hl
  refine lv_aload_n hx hb dX13_opens_0 rfl (lv_at hl 0 rfl) ?_
  refine fx_get X hE hP 0 rfl rfl 5 rfl q576 rfl rfl dX13_opens_1 ?_
  refine lv_iconst (v := 5) hx hb dX13_opens_4 rfl ?_
  refine lv_icmp_ne (tgt := 13) hx hb dX13_opens_5 (by decide) (fun c_5 => ?_) (fun c_5 => ?_)
  · -- jump 13
    have n_5 := fx_eq0 (a := on) (b := 5) c_5 (by omega) (by omega)
    refine lv_aload_n hx hb dX13_opens_13 rfl (lv_at hl 0 rfl) ?_
    refine lv_dup hx hb dX13_opens_14 rfl ?_
    refine fx_get X hE hP 0 rfl rfl 5 rfl q576 rfl rfl dX13_opens_15 ?_
    refine lv_iconst (v := 1) hx hb dX13_opens_18 rfl ?_
    refine lv_iadd hx hb dX13_opens_19 ?_
    refine fx_ti (nI_add on 1) ?_
    refine fx_put_ (ws' := [(rd, .inr (13, [.ref tp_, .int (nI (nn (sa 3))), .ref (ks.1 uz), .ref xa, .int (nI pa), .int (nI (on + 1))]))]) X hE hP hD hS 0 rfl rfl tyX13_ok nmX13 5 rfl q576 rfl rfl rfl rfl rfl rfl dX13_opens_20 (fun H locs hP hD hS => ?_)
    refine lv_aload_n hx hb dX13_opens_23 rfl (lv_at hl 0 rfl) ?_
    refine lv_dup hx hb dX13_opens_24 rfl ?_
    refine fx_get X hE hP 0 rfl rfl 4 rfl q575 rfl rfl dX13_opens_25 ?_
    refine lv_iconst (v := 1) hx hb dX13_opens_28 rfl ?_
    refine lv_iadd hx hb dX13_opens_29 ?_
    refine fx_ti (nI_add pa 1) ?_
    refine fx_put_ (ws' := [(rd, .inr (13, [.ref tp_, .int (nI (nn (sa 3))), .ref (ks.1 uz), .ref xa, .int (nI (pa + 1)), .int (nI (on + 1))]))]) X hE hP hD hS 0 rfl rfl tyX13_ok nmX13 4 rfl q575 rfl rfl rfl rfl rfl rfl dX13_opens_30 (fun H locs hP hD hS => ?_)
    exact hret () (n_5) hP hD hS (Nat.le_refl _) (Nat.le_refl _) dX13_opens_33
  · -- fall 8
    have n_5 := fx_eq1 (a := on) (b := 5) c_5 (by omega) (by omega)
    refine lv_aload_n hx hb dX13_opens_8 rfl (lv_at hl 0 rfl) ?_
    refine fz_cq (vz_runV (As := []) (rest := []) X (xX13_wrong l E ks sa rd tp_ xa uz pa on _) (cwV 0 X.2.2.2.2 (lw_V q626 q628 qs12 q83 q629) rfl rfl rfl ⟨rfl, hdX13_wrong⟩ ⟨Nat.le_of_ble_eq_true rfl, Nat.le_of_ble_eq_true rfl⟩) (fx_preV (fz_pre hE hP hD hS hR hZ hA [] rfl rfl (fx_rcm 0 rfl (by decide) fx_rc0)) (va_recv hE.1 hP (ci := 13) (q0 := 0) rfl rfl)) rfl rfl hl.1 rfl (lv_room (Nat.le_of_ble_eq_true rfl)) dX13_opens_9 ⟨Nat.le_of_ble_eq_true rfl, Nat.le_of_ble_eq_true rfl⟩) hP hD hS hA [] rfl rfl (fun _ _ _ _ _ h => h.elim) (fun r_9 u H locs hq_9 hP hD hS => ?_)
    obtain ⟨q2_9, rfl⟩ : ∃ z, z = u := ⟨_, rfl⟩
    replace hP : va_P E.1 clA [(rd, .inr (13, [.ref tp_, .int (nI (nn (sa 3))), .ref (ks.1 uz), .ref xa, .int (nI pa), .int (nI on)])), (q2_9, .inr (15, [.null, .null, .null, .null, .null, .int 0, .int (nI pa)]))] _ := hP
    replace hD : va_D A [(rd, .inr (13, [.ref tp_, .int (nI (nn (sa 3))), .ref (ks.1 uz), .ref xa, .int (nI pa), .int (nI on)])), (q2_9, .inr (15, [.null, .null, .null, .null, .null, .int 0, .int (nI pa)]))] := hD
    replace hq_9 : r_9 = some q2_9 := hq_9
    refine W.widen (k := 1) (n := 7) (by first | omega | exact Nat.le_of_ble_eq_true rfl) (by first | omega | exact Nat.le_of_ble_eq_true rfl) ?_
    obtain rfl : r_9 = some q2_9 := by first | exact hq_9 | exact hq_9.1
    refine fz_athrow X hE hP 1 rfl rfl dX13_opens_12 (fun ce hce hcv hcl => ?_)
    exact hthrow _ (nI pa, nI on, q2_9, nI pa) (⟨rfl, n_5, rfl⟩) hP hD hS (Nat.le_refl _) (Nat.le_refl _) hce hcv hcl
abbrev rxX13_number : Room := { frames := 5, cells := 1, slots := 7, locals := 109 }
set_option maxHeartbeats 400000 in
set_option maxRecDepth 100000 in
theorem xX13_number (l : Launch) (E : fx_En) (ks : fz_Ks) (sa : Nat → Int32) (rd : Nat) (tp_ : Nat) (xa : Nat) (uz : Nat) (pa : Nat) (on : Nat) (ft : Nat → Int32) (hta : nn (sa 3) ≤ 60) (hft : ∀ i, i < 60 → ft i = (sa (290 + i)).toInt8.toInt32) (hpa : pa ≤ nn (sa 3)) : fz_Mi l yX13_number cX13_number 3 .int rxX13_number 0 0 E ks [.ref rd] [(rd, .inr (13, [.ref tp_, .int (nI (nn (sa 3))), .ref (ks.1 uz), .ref xa, .int (nI pa), .int (nI on)]))] [(tp_, .inl (E.2 1, 60, .inl ft))] (S := Nat) (fun (u : Nat) => [(rd, .inr (13, [.ref tp_, .int (nI (nn (sa 3))), .ref (ks.1 uz), .ref xa, .int (nI u), .int (nI on)]))]) (fun (r : Int32) (u : Nat) => isDg (lkX sa pa) = true ∧ u = (numF (lkX sa) 4 0 pa).2 ∧ r = nI (numF (lkX sa) 4 0 pa).1) RX15 (SX := Int32 × Int32 × Nat × Int32) (fun (u : Int32 × Int32 × Nat × Int32) => [(rd, .inr (13, [.ref tp_, .int (nI (nn (sa 3))), .ref (ks.1 uz), .ref xa, .int u.1, .int u.2.1])), (u.2.2.1, .inr (15, [.null, .null, .null, .null, .null, .int 0, .int u.2.2.2]))]) (fun (q : Nat) (u : Int32 × Int32 × Nat × Int32) => q = u.2.2.1 ∧ ¬ isDg (lkX sa pa) = true ∧ u.2.2.2 = nI pa) := by
  refine fz_iW rfl rfl ?_
  intro p e s m args below meth c A ls Q X hnm hE hP hD hR hZ hA hl hret hthrow
  have hx := X.1
  have hb := X.2.1
  have hS : va_S A s.heap s.heap [] := va_S.rf
  replace hP : va_P E.1 clA [(rd, .inr (13, [.ref tp_, .int (nI (nn (sa 3))), .ref (ks.1 uz), .ref xa, .int (nI pa), .int (nI on)]))] _ := hP
  replace hD : va_D A [(rd, .inr (13, [.ref tp_, .int (nI (nn (sa 3))), .ref (ks.1 uz), .ref xa, .int (nI pa), .int (nI on)]))] := hD
  replace hl : lv_has ls 3 [(0, .ref rd)] := hl
  refine lv_iconst (v := 0) hx hb dX13_number_0 rfl ?_
  refine lv_istore_n (lv' := [(1, .int 0), (0, .ref rd)]) hx hb dX13_number_1 rfl hl (by decide) rfl (fun ls hl => ?_)
  refine lv_iconst (v := 0) hx hb dX13_number_2 rfl ?_
  refine lv_istore_n (lv' := [(2, .int 0), (1, .int 0), (0, .ref rd)]) hx hb dX13_number_3 rfl hl (by decide) rfl (fun ls hl => ?_)
  have loop_4 : ∀ (n_4 : Nat) (vv : Nat) (kk : Nat) (pq : Nat), (4 - kk < n_4) → (kk ≤ 4) → (numF (lkX sa) (4 - kk) vv pq = (numF (lkX sa) 4 0 pa)) → (pq ≤ nn (sa 3)) → ((kk = 0 ∧ pq = pa) ∨ (0 < kk ∧ isDg (lkX sa pa) = true)) → ∀ (H : Heap) (locs : List Loc), va_P E.1 clA [(rd, .inr (13, [.ref tp_, .int (nI (nn (sa 3))), .ref (ks.1 uz), .ref xa, .int (nI pq), .int (nI on)]))] H → va_D A [(rd, .inr (13, [.ref tp_, .int (nI (nn (sa 3))), .ref (ks.1 uz), .ref xa, .int (nI pq), .int (nI on)]))] → va_S A s.heap H locs → ∀ (ls : Array Slot), lv_has ls 3 [(2, .int (nI kk)), (1, .int (nI vv)), (0, .ref rd)] → W p l e rxX13_number s m args below meth c H locs 0 0 Q (F0 m 4 ls []) := by
    intro n_4
    induction n_4 with
    | zero => intro vv kk pq hm_4; exact absurd hm_4 (Nat.not_lt_zero _)
    | succ n_4 ih_4 =>
      intro vv kk pq hm_4 hkk hN hpq hz H locs hP hD hS ls hl
      refine lv_iload_n hx hb dX13_number_4 rfl (lv_at hl 0 rfl) ?_
      refine lv_iconst (v := 4) hx hb dX13_number_5 rfl ?_
      refine lv_icmp_ge (tgt := 52) hx hb dX13_number_6 (by decide) (fun c_6 => ?_) (fun c_6 => ?_)
      · -- jump 52
        have n_6 := fx_le1 (a := 4) (b := kk) c_6 (by omega) (by omega)
        have hEE : (numF (lkX sa) 4 0 pa) = (vv, pq) := by rw [← hN]; exact numF_e (Or.inl (by omega))
        refine lv_iload_n hx hb dX13_number_52 rfl (lv_at hl 0 rfl) ?_
        refine lv_if_ne (tgt := 61) hx hb dX13_number_53 (by decide) (fun c_53 => ?_) (fun c_53 => ?_)
        · -- jump 61
          have n_53 := fx_eq0 (a := kk) (b := 0) c_53 (by omega) (by omega)
          refine lv_iload_n hx hb dX13_number_61 rfl (lv_at hl 1 rfl) ?_
          exact hret (nI vv) (pq) (⟨(hz.resolve_left (fun h => n_53 h.1)).2, by rw [hEE], by rw [hEE]⟩) (rfl) hP hD hS (Nat.le_refl _) (Nat.le_refl _) dX13_number_62
        · -- fall 56
          have n_53 := fx_eq1 (a := kk) (b := 0) c_53 (by omega) (by omega)
          exact absurd n_53 (by omega)
      · -- fall 9
        have n_6 := fx_le0 (a := 4) (b := kk) c_6 (by omega) (by omega)
        refine lv_aload_n hx hb dX13_number_9 rfl (lv_at hl 2 rfl) ?_
        refine fx_ci (va_runV (As := []) (rest := []) X (xX13_here l E ks sa rd tp_ xa uz pq on ft (by first | assumption | omega) (by first | assumption | omega) (by omega) _) (cwV 0 X.2.2.2.2 (lw_V q618 q620 qs10 q83 q621) rfl rfl rfl ⟨rfl, hdX13_here⟩ ⟨Nat.le_of_ble_eq_true rfl, Nat.le_of_ble_eq_true rfl⟩) (fx_preV (fx_pre hE hP hD hS hR [] rfl rfl (fx_rcm 0 rfl (by decide) (fx_rcr 0 rfl fx_rc0))) (va_recv hE.1 hP (ci := 13) (q0 := 0) rfl rfl)) rfl rfl hl.1 rfl (lv_room (Nat.le_of_ble_eq_true rfl)) dX13_number_10 ⟨Nat.le_of_ble_eq_true rfl, Nat.le_of_ble_eq_true rfl⟩) hP hD hS hA [] rfl rfl (fun r_10 u H locs hq_10 hP hD hS => ?_)
        replace hP : va_P E.1 clA [(rd, .inr (13, [.ref tp_, .int (nI (nn (sa 3))), .ref (ks.1 uz), .ref xa, .int (nI pq), .int (nI on)]))] _ := hP
        replace hD : va_D A [(rd, .inr (13, [.ref tp_, .int (nI (nn (sa 3))), .ref (ks.1 uz), .ref xa, .int (nI pq), .int (nI on)]))] := hD
        replace hq_10 : r_10 = lkX sa pq := hq_10
        refine fx_ti (show r_10 = (lkX sa pq) from hq_10) ?_
        refine lv_bipush (v := 48) hx hb dX13_number_13 rfl ?_
        refine lv_bipush (v := 57) hx hb dX13_number_15 rfl ?_
        refine fx_ci (va_runSN (As := [.int (lkX sa pq), .int 48, .int 57]) (rest := []) X (xX0_isIn l E (lkX sa pq) 48 57 _) ⟨va_cnB 3 X.2.2.2.2 (lw_meth q302) rfl rfl rfl (hE.2.1 _ (List.mem_of_getElem? (i := 41) rfl)) (X.2.2.2.2 _ q69) hdX0_isIn ⟨Nat.le_of_ble_eq_true rfl, Nat.le_of_ble_eq_true rfl⟩, X.2.2.2.2 _ q301, trivial⟩ (fx_pre hE hP hD hS hR [] rfl rfl fx_rc0) rfl rfl hl.1 rfl (lv_room (Nat.le_of_ble_eq_true rfl)) dX13_number_17 ⟨Nat.le_of_ble_eq_true rfl, Nat.le_of_ble_eq_true rfl⟩) hP hD hS hA [] rfl rfl (fun r_17 u H locs hq_17 hP hD hS => ?_)
        replace hP : va_P E.1 clA [(rd, .inr (13, [.ref tp_, .int (nI (nn (sa 3))), .ref (ks.1 uz), .ref xa, .int (nI pq), .int (nI on)]))] _ := hP
        replace hD : va_D A [(rd, .inr (13, [.ref tp_, .int (nI (nn (sa 3))), .ref (ks.1 uz), .ref xa, .int (nI pq), .int (nI on)]))] := hD
        replace hq_17 : r_17 = fx_b (inB (lkX sa pq) 48 57 = true) := hq_17
        rcases fx_bc hq_17 with ⟨hb_17, hr_17⟩ | ⟨hb_17, hr_17⟩
        · -- True
          subst hr_17
          have hdg : isDg (lkX sa pq) = true := hb_17
          have hlt := lkXH _ (dg_nm1 hdg)
          have hdn := dg_nat hdg
          have hdn2 := hdn.2
          refine lv_if_eq (tgt := 52) hx hb dX13_number_20 (by decide) (fun c => absurd c (by decide)) (fun _ => ?_)
          refine lv_bipush (v := 10) hx hb dX13_number_23 rfl ?_
          refine lv_iload_n hx hb dX13_number_25 rfl (lv_at hl 1 rfl) ?_
          refine lv_imul hx hb dX13_number_26 ?_
          refine fx_ti (pk_mul 10 vv) ?_
          refine lv_aload_n hx hb dX13_number_27 rfl (lv_at hl 2 rfl) ?_
          refine fx_ci (va_runV (As := []) (rest := [.int (nI (10 * vv))]) X (xX13_here l E ks sa rd tp_ xa uz pq on ft (by first | assumption | omega) (by first | assumption | omega) (by omega) _) (cwV 0 X.2.2.2.2 (lw_V q618 q620 qs10 q83 q621) rfl rfl rfl ⟨rfl, hdX13_here⟩ ⟨Nat.le_of_ble_eq_true rfl, Nat.le_of_ble_eq_true rfl⟩) (fx_preV (fx_pre hE hP hD hS hR [] rfl rfl (fx_rcm 0 rfl (by decide) (fx_rcr 0 rfl fx_rc0))) (va_recv hE.1 hP (ci := 13) (q0 := 0) rfl rfl)) rfl rfl hl.1 rfl (lv_room (Nat.le_of_ble_eq_true rfl)) dX13_number_28 ⟨Nat.le_of_ble_eq_true rfl, Nat.le_of_ble_eq_true rfl⟩) hP hD hS hA [] rfl rfl (fun r_28 u H locs hq_28 hP hD hS => ?_)
          replace hP : va_P E.1 clA [(rd, .inr (13, [.ref tp_, .int (nI (nn (sa 3))), .ref (ks.1 uz), .ref xa, .int (nI pq), .int (nI on)]))] _ := hP
          replace hD : va_D A [(rd, .inr (13, [.ref tp_, .int (nI (nn (sa 3))), .ref (ks.1 uz), .ref xa, .int (nI pq), .int (nI on)]))] := hD
          replace hq_28 : r_28 = lkX sa pq := hq_28
          refine fx_ti (show r_28 = nI (nn (lkX sa pq)) from hq_28.trans hdn.1) ?_
          refine lv_iadd hx hb dX13_number_31 ?_
          refine fx_ti (nI_add (10 * vv) (nn (lkX sa pq))) ?_
          refine lv_bipush (v := 48) hx hb dX13_number_32 rfl ?_
          refine lv_isub hx hb dX13_number_34 ?_
          refine fx_ti (pk_sub (a := 10 * vv + nn (lkX sa pq)) (b := 48) (by omega)) ?_
          refine lv_istore_n (lv' := [(1, .int (nI (10 * vv + nn (lkX sa pq) - 48))), (2, .int (nI kk)), (0, .ref rd)]) hx hb dX13_number_35 rfl hl (by decide) rfl (fun ls hl => ?_)
          refine lv_aload_n hx hb dX13_number_36 rfl (lv_at hl 2 rfl) ?_
          refine lv_dup hx hb dX13_number_37 rfl ?_
          refine fx_get X hE hP 0 rfl rfl 4 rfl q575 rfl rfl dX13_number_38 ?_
          refine lv_iconst (v := 1) hx hb dX13_number_41 rfl ?_
          refine lv_iadd hx hb dX13_number_42 ?_
          refine fx_ti (nI_add pq 1) ?_
          refine fx_put_ (ws' := [(rd, .inr (13, [.ref tp_, .int (nI (nn (sa 3))), .ref (ks.1 uz), .ref xa, .int (nI (pq + 1)), .int (nI on)]))]) X hE hP hD hS 0 rfl rfl tyX13_ok nmX13 4 rfl q575 rfl rfl rfl rfl rfl rfl dX13_number_43 (fun H locs hP hD hS => ?_)
          refine lv_iinc (v := nI (kk + 1)) (lv' := [(2, .int (nI (kk + 1))), (1, .int (nI (10 * vv + nn (lkX sa pq) - 48))), (0, .ref rd)]) hx hb dX13_number_46 hl (k := 1) rfl (fx_inc _) (by decide) rfl (fun ls hl => ?_)
          refine lv_goto (tgt := 4) hx hb dX13_number_49 (by decide) ?_
          exact ih_4 (10 * vv + nn (lkX sa pq) - 48) (kk + 1) (pq + 1) (by omega) (by omega) (by rw [← hN, numF_s hdg (by omega), show 10 * vv + nn (lkX sa pq) - 48 = 10 * vv + (nn (lkX sa pq) - 48) by omega]) hlt (Or.inr ⟨Nat.succ_pos _, hz.elim (fun h => h.2 ▸ hdg) (fun h => h.2)⟩) _ _ hP hD hS ls (lv_sub hl [0, 1, 2] rfl)
        · -- False
          subst hr_17
          have hEE : (numF (lkX sa) 4 0 pa) = (vv, pq) := by rw [← hN]; exact numF_e (Or.inr hb_17)
          refine lv_if_eq (tgt := 52) hx hb dX13_number_20 (by decide) (fun _ => ?_) (fun c => (c (by decide)).elim)
          refine lv_iload_n hx hb dX13_number_52 rfl (lv_at hl 0 rfl) ?_
          refine lv_if_ne (tgt := 61) hx hb dX13_number_53 (by decide) (fun c_53 => ?_) (fun c_53 => ?_)
          · -- jump 61
            have n_53 := fx_eq0 (a := kk) (b := 0) c_53 (by omega) (by omega)
            refine lv_iload_n hx hb dX13_number_61 rfl (lv_at hl 1 rfl) ?_
            exact hret (nI vv) (pq) (⟨(hz.resolve_left (fun h => n_53 h.1)).2, by rw [hEE], by rw [hEE]⟩) (rfl) hP hD hS (Nat.le_refl _) (Nat.le_refl _) dX13_number_62
          · -- fall 56
            have n_53 := fx_eq1 (a := kk) (b := 0) c_53 (by omega) (by omega)
            have hzz : pa = pq := (hz.resolve_right (fun h => by omega)).2.symm
            subst hzz
            have hnd : ¬ isDg (lkX sa pa) = true := hb_17
            refine lv_aload_n hx hb dX13_number_56 rfl (lv_at hl 2 rfl) ?_
            refine fz_cq (vz_runV (As := []) (rest := []) X (xX13_wrong l E ks sa rd tp_ xa uz pa on _) (cwV 0 X.2.2.2.2 (lw_V q626 q628 qs12 q83 q629) rfl rfl rfl ⟨rfl, hdX13_wrong⟩ ⟨Nat.le_of_ble_eq_true rfl, Nat.le_of_ble_eq_true rfl⟩) (fx_preV (fz_pre hE hP hD hS hR hZ hA [] rfl rfl (fx_rcm 0 rfl (by decide) fx_rc0)) (va_recv hE.1 hP (ci := 13) (q0 := 0) rfl rfl)) rfl rfl hl.1 rfl (lv_room (Nat.le_of_ble_eq_true rfl)) dX13_number_57 ⟨Nat.le_of_ble_eq_true rfl, Nat.le_of_ble_eq_true rfl⟩) hP hD hS hA [] rfl rfl (fun _ _ _ _ _ h => h.elim) (fun r_57 u H locs hq_57 hP hD hS => ?_)
            obtain ⟨q2_57, rfl⟩ : ∃ z, z = u := ⟨_, rfl⟩
            replace hP : va_P E.1 clA [(rd, .inr (13, [.ref tp_, .int (nI (nn (sa 3))), .ref (ks.1 uz), .ref xa, .int (nI pa), .int (nI on)])), (q2_57, .inr (15, [.null, .null, .null, .null, .null, .int 0, .int (nI pa)]))] _ := hP
            replace hD : va_D A [(rd, .inr (13, [.ref tp_, .int (nI (nn (sa 3))), .ref (ks.1 uz), .ref xa, .int (nI pa), .int (nI on)])), (q2_57, .inr (15, [.null, .null, .null, .null, .null, .int 0, .int (nI pa)]))] := hD
            replace hq_57 : r_57 = some q2_57 := hq_57
            refine W.widen (k := 1) (n := 7) (by first | omega | exact Nat.le_of_ble_eq_true rfl) (by first | omega | exact Nat.le_of_ble_eq_true rfl) ?_
            obtain rfl : r_57 = some q2_57 := by first | exact hq_57 | exact hq_57.1
            refine fz_athrow X hE hP 1 rfl rfl dX13_number_60 (fun ce hce hcv hcl => ?_)
            exact hthrow _ (nI pa, nI on, q2_57, nI pa) (⟨rfl, hnd, rfl⟩) hP hD hS (Nat.le_refl _) (Nat.le_refl _) hce hcv hcl
  exact loop_4 ((4 - 0) + 1) 0 0 pa (Nat.lt_succ_self _) (by omega) rfl hpa (Or.inl ⟨rfl, rfl⟩) _ _ hP hD hS ls (lv_sub hl [0, 1, 2] rfl)
abbrev rxX13_product (d : Nat) : Room := { frames := 6 * d + 10, cells := 1, slots := 7, locals := 180 * d + 430 }
set_option maxHeartbeats 400000 in
set_option maxRecDepth 100000 in
theorem xX13_product (l : Launch) (E : fx_En) (ks : fz_Ks) (sa : Nat → Int32) (rd : Nat) (tp_ : Nat) (xa : Nat) (xb : Nat) (xc : Nat) (uz : Nat) (ft : Nat → Int32) (fb : Nat → Int32) (fc : Nat → Int32) (ps : Ps) (d : Nat) (hd : d ≤ 5) (hu : uz < 2) (hta : nn (sa 3) ≤ 60) (hft : ∀ i, i < 60 → ft i = (sa (290 + i)).toInt8.toInt32) (hps : Pok (nn (sa 3)) ps) (hTP : TP ps fb fc) (h1 : ∀ (ks : fz_Ks) (sa : Nat → Int32) (rd : Nat) (tp_ : Nat) (xa : Nat) (xb : Nat) (xc : Nat) (uz : Nat) (ft : Nat → Int32) (fb : Nat → Int32) (fc : Nat → Int32) (ps : Ps) (hd : d ≤ 5) (hu : uz < 2) (hta : nn (sa 3) ≤ 60) (hft : ∀ i, i < 60 → ft i = (sa (290 + i)).toInt8.toInt32) (hps : Pok (nn (sa 3)) ps) (hTP : TP ps fb fc), fz_Mv l yX13_unit cX13_unit 1 (rxX13_unit d) 0 0 E ks [.ref rd] [(rd, .inr (13, [.ref tp_, .int (nI (nn (sa 3))), .ref (ks.1 uz), .ref xa, .int (nI ps.p), .int (nI (5 - d))])), (xa, .inr (14, [.ref xb, .ref xc, .int (nI ps.n)])), (xb, .inl (E.2 1, 60, .inl fb)), (xc, .inl (E.2 2, 60, .inl fc))] [(tp_, .inl (E.2 1, 60, .inl ft))] (S := Nat × Nat × (Nat → Int32) × (Nat → Int32)) (fun (u : Nat × Nat × (Nat → Int32) × (Nat → Int32)) => [(rd, .inr (13, [.ref tp_, .int (nI (nn (sa 3))), .ref (ks.1 uz), .ref xa, .int (nI u.1), .int (nI (5 - d))])), (xa, .inr (14, [.ref xb, .ref xc, .int (nI u.2.1)])), (xb, .inl (E.2 1, 60, .inl u.2.2.1)), (xc, .inl (E.2 2, 60, .inl u.2.2.2))]) (fun (u : Nat × Nat × (Nat → Int32) × (Nat → Int32)) => ((oneF (lkX sa) uz d ps)).1 = true ∧ u.1 = ((oneF (lkX sa) uz d ps)).2.p ∧ u.2.1 = ((oneF (lkX sa) uz d ps)).2.n ∧ TP ((oneF (lkX sa) uz d ps)).2 u.2.2.1 u.2.2.2) RX15 (SX := Int32 × Int32 × Int32 × (Nat → Int32) × (Nat → Int32) × Nat × Int32) (fun (u : Int32 × Int32 × Int32 × (Nat → Int32) × (Nat → Int32) × Nat × Int32) => [(rd, .inr (13, [.ref tp_, .int (nI (nn (sa 3))), .ref (ks.1 uz), .ref xa, .int u.1, .int u.2.1])), (xa, .inr (14, [.ref xb, .ref xc, .int u.2.2.1])), (xb, .inl (E.2 1, 60, .inl u.2.2.2.1)), (xc, .inl (E.2 2, 60, .inl u.2.2.2.2.1)), (u.2.2.2.2.2.1, .inr (15, [.null, .null, .null, .null, .null, .int 0, .int u.2.2.2.2.2.2]))]) (fun (q : Nat) (u : Int32 × Int32 × Int32 × (Nat → Int32) × (Nat → Int32) × Nat × Int32) => q = u.2.2.2.2.2.1 ∧ ((oneF (lkX sa) uz d ps)).1 = false ∧ u.2.2.2.2.2.2 = nI ((oneF (lkX sa) uz d ps)).2.p)) : fz_Mv l yX13_product cX13_product 2 (rxX13_product d) 0 0 E ks [.ref rd] [(rd, .inr (13, [.ref tp_, .int (nI (nn (sa 3))), .ref (ks.1 uz), .ref xa, .int (nI ps.p), .int (nI (5 - d))])), (xa, .inr (14, [.ref xb, .ref xc, .int (nI ps.n)])), (xb, .inl (E.2 1, 60, .inl fb)), (xc, .inl (E.2 2, 60, .inl fc))] [(tp_, .inl (E.2 1, 60, .inl ft))] (S := Nat × Nat × (Nat → Int32) × (Nat → Int32)) (fun (u : Nat × Nat × (Nat → Int32) × (Nat → Int32)) => [(rd, .inr (13, [.ref tp_, .int (nI (nn (sa 3))), .ref (ks.1 uz), .ref xa, .int (nI u.1), .int (nI (5 - d))])), (xa, .inr (14, [.ref xb, .ref xc, .int (nI u.2.1)])), (xb, .inl (E.2 1, 60, .inl u.2.2.1)), (xc, .inl (E.2 2, 60, .inl u.2.2.2))]) (fun (u : Nat × Nat × (Nat → Int32) × (Nat → Int32)) => (((prdF (lkX sa) (oneF (lkX sa) uz d)) ps)).1 = true ∧ u.1 = (((prdF (lkX sa) (oneF (lkX sa) uz d)) ps)).2.p ∧ u.2.1 = (((prdF (lkX sa) (oneF (lkX sa) uz d)) ps)).2.n ∧ TP (((prdF (lkX sa) (oneF (lkX sa) uz d)) ps)).2 u.2.2.1 u.2.2.2) RX15 (SX := Int32 × Int32 × Int32 × (Nat → Int32) × (Nat → Int32) × Nat × Int32) (fun (u : Int32 × Int32 × Int32 × (Nat → Int32) × (Nat → Int32) × Nat × Int32) => [(rd, .inr (13, [.ref tp_, .int (nI (nn (sa 3))), .ref (ks.1 uz), .ref xa, .int u.1, .int u.2.1])), (xa, .inr (14, [.ref xb, .ref xc, .int u.2.2.1])), (xb, .inl (E.2 1, 60, .inl u.2.2.2.1)), (xc, .inl (E.2 2, 60, .inl u.2.2.2.2.1)), (u.2.2.2.2.2.1, .inr (15, [.null, .null, .null, .null, .null, .int 0, .int u.2.2.2.2.2.2]))]) (fun (q : Nat) (u : Int32 × Int32 × Int32 × (Nat → Int32) × (Nat → Int32) × Nat × Int32) => q = u.2.2.2.2.2.1 ∧ (((prdF (lkX sa) (oneF (lkX sa) uz d)) ps)).1 = false ∧ u.2.2.2.2.2.2 = nI (((prdF (lkX sa) (oneF (lkX sa) uz d)) ps)).2.p) := by
  refine fz_vW rfl rfl ?_
  intro p e s m args below meth c A ls Q X hnm hE hP hD hR hZ hA hl hret hthrow
  have hx := X.1
  have hb := X.2.1
  have hS : va_S A s.heap s.heap [] := va_S.rf
  replace hP : va_P E.1 clA [(rd, .inr (13, [.ref tp_, .int (nI (nn (sa 3))), .ref (ks.1 uz), .ref xa, .int (nI ps.p), .int (nI (5 - d))])), (xa, .inr (14, [.ref xb, .ref xc, .int (nI ps.n)])), (xb, .inl (E.2 1, 60, .inl fb)), (xc, .inl (E.2 2, 60, .inl fc))] _ := hP
  replace hD : va_D A [(rd, .inr (13, [.ref tp_, .int (nI (nn (sa 3))), .ref (ks.1 uz), .ref xa, .int (nI ps.p), .int (nI (5 - d))])), (xa, .inr (14, [.ref xb, .ref xc, .int (nI ps.n)])), (xb, .inl (E.2 1, 60, .inl fb)), (xc, .inl (E.2 2, 60, .inl fc))] := hD
  replace hl : lv_has ls 2 [(0, .ref rd)] := hl
  have hpl := hps.le60 hta
  refine lv_aload_n hx hb dX13_product_0 rfl (lv_at hl 0 rfl) ?_
  refine fz_cv (vz_runV (As := []) (rest := []) X (h1 ks sa rd tp_ xa xb xc uz ft fb fc ps (by first | assumption | omega) (by first | assumption | omega) (by first | assumption | omega) (by first | assumption | omega) (by first | assumption | omega) (by first | assumption | omega) _) (cwV 0 X.2.2.2.2 (lw_V q614 q616 qs9 q83 q617) rfl rfl rfl ⟨rfl, hdX13_unit⟩ ⟨by simp only [rxX13_unit, rxX13_product] <;> omega, by simp only [rxX13_unit, rxX13_product] <;> omega⟩) (fx_preV (fz_pre hE hP hD hS hR hZ hA [0, 1, 2, 3] rfl rfl (fx_rcr 0 rfl fx_rc0)) (va_recv hE.1 hP (ci := 13) (q0 := 0) rfl rfl)) rfl rfl hl.1 rfl (lv_room (Nat.le_of_ble_eq_true rfl)) dX13_product_1 ⟨Nat.le_of_ble_eq_true rfl, Nat.le_of_ble_eq_true rfl⟩) hP hD hS hA [0, 1, 2, 3] rfl rfl (fun qx_1 u H locs ce hqx_1 hP hD hS hce hcv hcl => ?_) (fun u H locs hq_1 hP hD hS => ?_)
  · -- thrown
    obtain ⟨at9_1x, op9_1x, n9_1x, fb9_1x, fc9_1x, q9_1x, pl9_1x⟩ := u
    replace hP : va_P E.1 clA [(rd, .inr (13, [.ref tp_, .int (nI (nn (sa 3))), .ref (ks.1 uz), .ref xa, .int at9_1x, .int op9_1x])), (xa, .inr (14, [.ref xb, .ref xc, .int n9_1x])), (xb, .inl (E.2 1, 60, .inl fb9_1x)), (xc, .inl (E.2 2, 60, .inl fc9_1x)), (q9_1x, .inr (15, [.null, .null, .null, .null, .null, .int 0, .int pl9_1x]))] _ := hP
    replace hD : va_D A [(rd, .inr (13, [.ref tp_, .int (nI (nn (sa 3))), .ref (ks.1 uz), .ref xa, .int at9_1x, .int op9_1x])), (xa, .inr (14, [.ref xb, .ref xc, .int n9_1x])), (xb, .inl (E.2 1, 60, .inl fb9_1x)), (xc, .inl (E.2 2, 60, .inl fc9_1x)), (q9_1x, .inr (15, [.null, .null, .null, .null, .null, .int 0, .int pl9_1x]))] := hD
    replace hqx_1 : qx_1 = q9_1x ∧ ((oneF (lkX sa) uz d ps)).1 = false ∧ pl9_1x = nI ((oneF (lkX sa) uz d ps)).2.p := hqx_1
    have hRR : ((prdF (lkX sa) (oneF (lkX sa) uz d)) ps) = (false, ((oneF (lkX sa) uz d) ps).2) := by show sqF (lkX sa) sgP (oneF (lkX sa) uz d) ps = _; rw [sqF, if_neg (by rw [hqx_1.2.1]; exact Bool.false_ne_true)]
    exact hthrow _ (at9_1x, op9_1x, n9_1x, fb9_1x, fc9_1x, q9_1x, pl9_1x) (⟨hqx_1.1, by rw [hRR], by rw [hRR]; exact hqx_1.2.2⟩) hP hD hS (Nat.le_refl _) (Nat.le_refl _) hce hcv hcl
  · -- back
    obtain ⟨at2_1, n2_1, fb2_1, fc2_1⟩ := u
    replace hP : va_P E.1 clA [(rd, .inr (13, [.ref tp_, .int (nI (nn (sa 3))), .ref (ks.1 uz), .ref xa, .int (nI at2_1), .int (nI (5 - d))])), (xa, .inr (14, [.ref xb, .ref xc, .int (nI n2_1)])), (xb, .inl (E.2 1, 60, .inl fb2_1)), (xc, .inl (E.2 2, 60, .inl fc2_1))] _ := hP
    replace hD : va_D A [(rd, .inr (13, [.ref tp_, .int (nI (nn (sa 3))), .ref (ks.1 uz), .ref xa, .int (nI at2_1), .int (nI (5 - d))])), (xa, .inr (14, [.ref xb, .ref xc, .int (nI n2_1)])), (xb, .inl (E.2 1, 60, .inl fb2_1)), (xc, .inl (E.2 2, 60, .inl fc2_1))] := hD
    replace hq_1 : ((oneF (lkX sa) uz d ps)).1 = true ∧ at2_1 = ((oneF (lkX sa) uz d ps)).2.p ∧ n2_1 = ((oneF (lkX sa) uz d ps)).2.n ∧ TP ((oneF (lkX sa) uz d ps)).2 fb2_1 fc2_1 := hq_1
    obtain ⟨hb_1, ha_1, hn_1, hM_1⟩ := hq_1
    subst ha_1 hn_1
    have loop_4 : ∀ (n_4 : Nat) (q : Ps) (f : Nat) (fbv : Nat → Int32) (fcv : Nat → Int32), (f < n_4) → (lpF (lkX sa) sgP (oneF (lkX sa) uz d) f q = lpF (lkX sa) sgP (oneF (lkX sa) uz d) 61 ((oneF (lkX sa) uz d) ps).2) → (nn (sa 3) < q.p + f) → (Pok (nn (sa 3)) q) → (1 ≤ dpT q.tc q.n) → (TP q fbv fcv) → ∀ (H : Heap) (locs : List Loc), va_P E.1 clA [(rd, .inr (13, [.ref tp_, .int (nI (nn (sa 3))), .ref (ks.1 uz), .ref xa, .int (nI q.p), .int (nI (5 - d))])), (xa, .inr (14, [.ref xb, .ref xc, .int (nI q.n)])), (xb, .inl (E.2 1, 60, .inl fbv)), (xc, .inl (E.2 2, 60, .inl fcv))] H → va_D A [(rd, .inr (13, [.ref tp_, .int (nI (nn (sa 3))), .ref (ks.1 uz), .ref xa, .int (nI q.p), .int (nI (5 - d))])), (xa, .inr (14, [.ref xb, .ref xc, .int (nI q.n)])), (xb, .inl (E.2 1, 60, .inl fbv)), (xc, .inl (E.2 2, 60, .inl fcv))] → va_S A s.heap H locs → ∀ (ls : Array Slot), lv_has ls 2 [(0, .ref rd)] → W p l e (rxX13_product d) s m args below meth c H locs 0 0 Q (F0 m 4 ls []) := by
      intro n_4
      induction n_4 with
      | zero => intro q f fbv fcv hm_4; exact absurd hm_4 (Nat.not_lt_zero _)
      | succ n_4 ih_4 =>
        intro q f fbv fcv hm_4 hf hff hq hdq hTq H locs hP hD hS ls hl
        have hql := hq.le60 hta
        refine lv_aload_n hx hb dX13_product_4 rfl (lv_at hl 0 rfl) ?_
        refine va_ldcS X.1 X.2.1 X.2.2.2.1 hZ.2.2.2.2.2.2.2 dX13_product_5 ?_
        refine fz_ci (vz_runV (As := [.ref (ks.1 4)]) (rest := []) X (xX13_isOneOf l E ks sa rd tp_ xa uz q.p (5 - d) ft 4 (by decide) (by first | assumption | omega) (by first | assumption | omega) hql.1 _) (cwV 1 X.2.2.2.2 (lw_V q704 q706 qs15 q83 q707) rfl rfl rfl ⟨rfl, hdX13_isOneOf⟩ ⟨by simp only [rxX13_isOneOf, rxX13_product] <;> omega, by simp only [rxX13_isOneOf, rxX13_product] <;> omega⟩) (fx_preV (fz_pre hE hP hD hS hR hZ hA [] rfl rfl (fx_rcm 0 rfl (by decide) (fx_rcr 0 rfl fx_rc0))) (va_recv hE.1 hP (ci := 13) (q0 := 0) rfl rfl)) rfl rfl hl.1 rfl (lv_room (Nat.le_of_ble_eq_true rfl)) dX13_product_7 ⟨Nat.le_of_ble_eq_true rfl, Nat.le_of_ble_eq_true rfl⟩) hP hD hS hA [] rfl rfl (fun _ _ _ _ _ h => h.elim) (fun r_7 u H locs hq_7 hP hD hS => ?_)
        replace hP : va_P E.1 clA [(rd, .inr (13, [.ref tp_, .int (nI (nn (sa 3))), .ref (ks.1 uz), .ref xa, .int (nI q.p), .int (nI (5 - d))])), (xa, .inr (14, [.ref xb, .ref xc, .int (nI q.n)])), (xb, .inl (E.2 1, 60, .inl fbv)), (xc, .inl (E.2 2, 60, .inl fcv))] _ := hP
        replace hD : va_D A [(rd, .inr (13, [.ref tp_, .int (nI (nn (sa 3))), .ref (ks.1 uz), .ref xa, .int (nI q.p), .int (nI (5 - d))])), (xa, .inr (14, [.ref xb, .ref xc, .int (nI q.n)])), (xb, .inl (E.2 1, 60, .inl fbv)), (xc, .inl (E.2 2, 60, .inl fcv))] := hD
        replace hq_7 : r_7 = fx_b (inS 4 (lkX sa q.p) = true) := hq_7
        rcases fx_bc hq_7 with ⟨hb_7, hr_7⟩ | ⟨hb_7, hr_7⟩
        · -- True
          subst hr_7
          have hsg : sgP (lkX sa q.p) = true := by rw [← inS_4]; exact hb_7
          have hsk := sgP_ok _ hsg
          have hlt := lkXH _ (sgP_ok.nm1 hsg)
          have hsc := sgn_c sgP_ok hsg
          obtain ⟨f1, rfl⟩ : ∃ z, f = z + 1 := ⟨f - 1, by omega⟩
          refine lv_if_eq (tgt := 44) hx hb dX13_product_10 (by decide) (fun c => absurd c (by decide)) (fun _ => ?_)
          refine lv_aload_n hx hb dX13_product_13 rfl (lv_at hl 0 rfl) ?_
          refine fx_ci (va_runV (As := []) (rest := []) X (xX13_here l E ks sa rd tp_ xa uz q.p (5 - d) ft (by first | assumption | omega) (by first | assumption | omega) hql.1 _) (cwV 0 X.2.2.2.2 (lw_V q618 q620 qs10 q83 q621) rfl rfl rfl ⟨rfl, hdX13_here⟩ ⟨by simp only [rxX13_here, rxX13_product] <;> omega, by simp only [rxX13_here, rxX13_product] <;> omega⟩) (fx_preV (fx_pre hE hP hD hS hR [] rfl rfl (fx_rcm 0 rfl (by decide) (fx_rcr 0 rfl fx_rc0))) (va_recv hE.1 hP (ci := 13) (q0 := 0) rfl rfl)) rfl rfl hl.1 rfl (lv_room (Nat.le_of_ble_eq_true rfl)) dX13_product_14 ⟨Nat.le_of_ble_eq_true rfl, Nat.le_of_ble_eq_true rfl⟩) hP hD hS hA [] rfl rfl (fun r_14 u H locs hq_14 hP hD hS => ?_)
          replace hP : va_P E.1 clA [(rd, .inr (13, [.ref tp_, .int (nI (nn (sa 3))), .ref (ks.1 uz), .ref xa, .int (nI q.p), .int (nI (5 - d))])), (xa, .inr (14, [.ref xb, .ref xc, .int (nI q.n)])), (xb, .inl (E.2 1, 60, .inl fbv)), (xc, .inl (E.2 2, 60, .inl fcv))] _ := hP
          replace hD : va_D A [(rd, .inr (13, [.ref tp_, .int (nI (nn (sa 3))), .ref (ks.1 uz), .ref xa, .int (nI q.p), .int (nI (5 - d))])), (xa, .inr (14, [.ref xb, .ref xc, .int (nI q.n)])), (xb, .inl (E.2 1, 60, .inl fbv)), (xc, .inl (E.2 2, 60, .inl fcv))] := hD
          replace hq_14 : r_14 = lkX sa q.p := hq_14
          refine fx_ti (show r_14 = nI (nn (lkX sa q.p)) from hq_14.trans hsk.1) ?_
          refine lv_istore_n (lv' := [(1, .int (nI (nn (lkX sa q.p)))), (0, .ref rd)]) hx hb dX13_product_17 rfl hl (by decide) rfl (fun ls hl => ?_)
          refine lv_aload_n hx hb dX13_product_18 rfl (lv_at hl 1 rfl) ?_
          refine lv_dup hx hb dX13_product_19 rfl ?_
          refine fx_get X hE hP 0 rfl rfl 4 rfl q575 rfl rfl dX13_product_20 ?_
          refine lv_iconst (v := 1) hx hb dX13_product_23 rfl ?_
          refine lv_iadd hx hb dX13_product_24 ?_
          refine fx_ti (nI_add q.p 1) ?_
          refine fx_put_ (ws' := [(rd, .inr (13, [.ref tp_, .int (nI (nn (sa 3))), .ref (ks.1 uz), .ref xa, .int (nI (q.p + 1)), .int (nI (5 - d))])), (xa, .inr (14, [.ref xb, .ref xc, .int (nI q.n)])), (xb, .inl (E.2 1, 60, .inl fbv)), (xc, .inl (E.2 2, 60, .inl fcv))]) X hE hP hD hS 0 rfl rfl tyX13_ok nmX13 4 rfl q575 rfl rfl rfl rfl rfl rfl dX13_product_25 (fun H locs hP hD hS => ?_)
          refine lv_aload_n hx hb dX13_product_28 rfl (lv_at hl 1 rfl) ?_
          refine fz_cv (vz_runV (As := []) (rest := []) X (h1 ks sa rd tp_ xa xb xc uz ft fbv fcv q.go (by first | assumption | omega) (by first | assumption | omega) (by first | assumption | omega) (by first | assumption | omega) (go_ok hq hlt) (show TP q.go fbv fcv from hTq) _) (cwV 0 X.2.2.2.2 (lw_V q614 q616 qs9 q83 q617) rfl rfl rfl ⟨rfl, hdX13_unit⟩ ⟨by simp only [rxX13_unit, rxX13_product] <;> omega, by simp only [rxX13_unit, rxX13_product] <;> omega⟩) (fx_preV (fz_pre hE hP hD hS hR hZ hA [0, 1, 2, 3] rfl rfl (fx_rcr 0 rfl fx_rc0)) (va_recv hE.1 hP (ci := 13) (q0 := 0) rfl rfl)) rfl rfl hl.1 rfl (lv_room (Nat.le_of_ble_eq_true rfl)) dX13_product_29 ⟨Nat.le_of_ble_eq_true rfl, Nat.le_of_ble_eq_true rfl⟩) hP hD hS hA [0, 1, 2, 3] rfl rfl (fun qx_29 u H locs ce hqx_29 hP hD hS hce hcv hcl => ?_) (fun u H locs hq_29 hP hD hS => ?_)
          · -- thrown
            obtain ⟨at9_29x, op9_29x, n9_29x, fb9_29x, fc9_29x, q9_29x, pl9_29x⟩ := u
            replace hP : va_P E.1 clA [(rd, .inr (13, [.ref tp_, .int (nI (nn (sa 3))), .ref (ks.1 uz), .ref xa, .int at9_29x, .int op9_29x])), (xa, .inr (14, [.ref xb, .ref xc, .int n9_29x])), (xb, .inl (E.2 1, 60, .inl fb9_29x)), (xc, .inl (E.2 2, 60, .inl fc9_29x)), (q9_29x, .inr (15, [.null, .null, .null, .null, .null, .int 0, .int pl9_29x]))] _ := hP
            replace hD : va_D A [(rd, .inr (13, [.ref tp_, .int (nI (nn (sa 3))), .ref (ks.1 uz), .ref xa, .int at9_29x, .int op9_29x])), (xa, .inr (14, [.ref xb, .ref xc, .int n9_29x])), (xb, .inl (E.2 1, 60, .inl fb9_29x)), (xc, .inl (E.2 2, 60, .inl fc9_29x)), (q9_29x, .inr (15, [.null, .null, .null, .null, .null, .int 0, .int pl9_29x]))] := hD
            replace hqx_29 : qx_29 = q9_29x ∧ ((oneF (lkX sa) uz d q.go)).1 = false ∧ pl9_29x = nI ((oneF (lkX sa) uz d q.go)).2.p := hqx_29
            have hRR : ((prdF (lkX sa) (oneF (lkX sa) uz d)) ps) = (false, ((oneF (lkX sa) uz d) q.go).2) := by show sqF (lkX sa) sgP (oneF (lkX sa) uz d) ps = _; rw [sqF, if_pos hb_1, ← hf, lpF_n hsg (by rw [hqx_29.2.1]; exact Bool.false_ne_true)]
            exact hthrow _ (at9_29x, op9_29x, n9_29x, fb9_29x, fc9_29x, q9_29x, pl9_29x) (⟨hqx_29.1, by rw [hRR], by rw [hRR]; exact hqx_29.2.2⟩) hP hD hS (Nat.le_refl _) (Nat.le_refl _) hce hcv hcl
          · -- back
            obtain ⟨at2_29, n2_29, fb2_29, fc2_29⟩ := u
            replace hP : va_P E.1 clA [(rd, .inr (13, [.ref tp_, .int (nI (nn (sa 3))), .ref (ks.1 uz), .ref xa, .int (nI at2_29), .int (nI (5 - d))])), (xa, .inr (14, [.ref xb, .ref xc, .int (nI n2_29)])), (xb, .inl (E.2 1, 60, .inl fb2_29)), (xc, .inl (E.2 2, 60, .inl fc2_29))] _ := hP
            replace hD : va_D A [(rd, .inr (13, [.ref tp_, .int (nI (nn (sa 3))), .ref (ks.1 uz), .ref xa, .int (nI at2_29), .int (nI (5 - d))])), (xa, .inr (14, [.ref xb, .ref xc, .int (nI n2_29)])), (xb, .inl (E.2 1, 60, .inl fb2_29)), (xc, .inl (E.2 2, 60, .inl fc2_29))] := hD
            replace hq_29 : ((oneF (lkX sa) uz d q.go)).1 = true ∧ at2_29 = ((oneF (lkX sa) uz d q.go)).2.p ∧ n2_29 = ((oneF (lkX sa) uz d q.go)).2.n ∧ TP ((oneF (lkX sa) uz d q.go)).2 fb2_29 fc2_29 := hq_29
            obtain ⟨hb_29, ha_29, hn_29, hM_29⟩ := hq_29
            subst ha_29 hn_29
            have hst := lp_step (oneF_pp lkXH d) hq hdq hsk.2 hlt hb_29
            have hin : ((oneF (lkX sa) uz d) q.go).2.n + 1 ≤ 60 := (hst.1.le60 hta).2
            refine lv_aload_n hx hb dX13_product_32 rfl (lv_at hl 1 rfl) ?_
            refine fx_get X hE hP 0 rfl rfl 3 rfl q574 rfl rfl dX13_product_33 ?_
            refine lv_iload_n hx hb dX13_product_36 rfl (lv_at hl 0 rfl) ?_
            refine lv_iconst (v := 0) hx hb dX13_product_37 rfl ?_
            refine fx_cv (va_runV (As := [.int (nI (nn (lkX sa q.p))), .int 0]) (rest := []) X (xX14_add l E xa xb xc (((oneF (lkX sa) uz d) q.go).2.n) fb2_29 fc2_29 (nn (lkX sa q.p)) 0 (by omega) hsc (by decide) _) (cwV 2 X.2.2.2.2 (lw_V q696 q697 q698 q84 q699) rfl rfl rfl ⟨rfl, hdX14_add⟩ ⟨by simp only [rxX14_add, rxX13_product] <;> omega, by simp only [rxX14_add, rxX13_product] <;> omega⟩) (fx_preV (fx_pre hE hP hD hS hR [1, 2, 3] rfl rfl fx_rc0) (va_recv hE.1 hP (ci := 14) (q0 := 1) rfl rfl)) rfl rfl hl.1 rfl (lv_room (Nat.le_of_ble_eq_true rfl)) dX13_product_38 ⟨Nat.le_of_ble_eq_true rfl, Nat.le_of_ble_eq_true rfl⟩) hP hD hS hA [1, 2, 3] rfl rfl (fun u H locs hq_38 hP hD hS => ?_)
            replace hP : va_P E.1 clA [(rd, .inr (13, [.ref tp_, .int (nI (nn (sa 3))), .ref (ks.1 uz), .ref xa, .int (nI (((oneF (lkX sa) uz d) q.go).2.p)), .int (nI (5 - d))])), (xa, .inr (14, [.ref xb, .ref xc, .int (nI ((((oneF (lkX sa) uz d) q.go).2.n) + 1))])), (xb, .inl (E.2 1, 60, .inl (upd fb2_29 (((oneF (lkX sa) uz d) q.go).2.n) (nI (nn (lkX sa q.p)))))), (xc, .inl (E.2 2, 60, .inl (upd fc2_29 (((oneF (lkX sa) uz d) q.go).2.n) (nI 0))))] _ := hP
            replace hD : va_D A [(rd, .inr (13, [.ref tp_, .int (nI (nn (sa 3))), .ref (ks.1 uz), .ref xa, .int (nI (((oneF (lkX sa) uz d) q.go).2.p)), .int (nI (5 - d))])), (xa, .inr (14, [.ref xb, .ref xc, .int (nI ((((oneF (lkX sa) uz d) q.go).2.n) + 1))])), (xb, .inl (E.2 1, 60, .inl (upd fb2_29 (((oneF (lkX sa) uz d) q.go).2.n) (nI (nn (lkX sa q.p)))))), (xc, .inl (E.2 2, 60, .inl (upd fc2_29 (((oneF (lkX sa) uz d) q.go).2.n) (nI 0))))] := hD
            replace hq_38 : True := hq_38
            refine lv_goto (tgt := 4) hx hb dX13_product_41 (by decide) ?_
            exact ih_4 (((oneF (lkX sa) uz d) q.go).2.add (nn (lkX sa q.p)) 0) f1 (upd fb2_29 (((oneF (lkX sa) uz d) q.go).2.n) (nI (nn (lkX sa q.p)))) (upd fc2_29 (((oneF (lkX sa) uz d) q.go).2.n) (nI 0)) (by omega) ((lpF_t hsg hb_29).symm.trans hf) (by have := hst.2.2.1; omega) hst.1 hst.2.1 (TP_add hM_29) _ _ hP hD hS ls (lv_sub hl [1] rfl)
        · -- False
          subst hr_7
          have hsn : sgP (lkX sa q.p) = false := by rw [← inS_4]; exact Bool.eq_false_iff.2 hb_7
          have hRR : ((prdF (lkX sa) (oneF (lkX sa) uz d)) ps) = (true, q) := by show sqF (lkX sa) sgP (oneF (lkX sa) uz d) ps = _; rw [sqF, if_pos hb_1, ← hf, lpF_f hsn]
          refine lv_if_eq (tgt := 44) hx hb dX13_product_10 (by decide) (fun _ => ?_) (fun c => (c (by decide)).elim)
          exact hret (q.p, q.n, fbv, fcv) (⟨by rw [hRR], by rw [hRR], by rw [hRR], by rw [hRR]; exact hTq⟩) hP hD hS (Nat.le_refl _) (Nat.le_refl _) dX13_product_44
    exact loop_4 (61 + 1) (((oneF (lkX sa) uz d) ps).2) 61 fb2_1 fc2_1 (Nat.lt_succ_self _) rfl (by omega) ((oneF_pp lkXH d ps hps hb_1).1) (by have := (oneF_pp lkXH d ps hps hb_1).2.2.2; omega) hM_1 _ _ hP hD hS ls (lv_sub hl [0] rfl)
abbrev rxX13_sum (d : Nat) : Room := { frames := 6 * d + 11, cells := 1, slots := 7, locals := 180 * d + 460 }
set_option maxHeartbeats 400000 in
set_option maxRecDepth 100000 in
theorem xX13_sum (l : Launch) (E : fx_En) (ks : fz_Ks) (sa : Nat → Int32) (rd : Nat) (tp_ : Nat) (xa : Nat) (xb : Nat) (xc : Nat) (uz : Nat) (ft : Nat → Int32) (fb : Nat → Int32) (fc : Nat → Int32) (ps : Ps) (d : Nat) (hd : d ≤ 5) (hu : uz < 2) (hta : nn (sa 3) ≤ 60) (hft : ∀ i, i < 60 → ft i = (sa (290 + i)).toInt8.toInt32) (hps : Pok (nn (sa 3)) ps) (hTP : TP ps fb fc) (h1 : ∀ (ks : fz_Ks) (sa : Nat → Int32) (rd : Nat) (tp_ : Nat) (xa : Nat) (xb : Nat) (xc : Nat) (uz : Nat) (ft : Nat → Int32) (fb : Nat → Int32) (fc : Nat → Int32) (ps : Ps) (hd : d ≤ 5) (hu : uz < 2) (hta : nn (sa 3) ≤ 60) (hft : ∀ i, i < 60 → ft i = (sa (290 + i)).toInt8.toInt32) (hps : Pok (nn (sa 3)) ps) (hTP : TP ps fb fc), fz_Mv l yX13_unit cX13_unit 1 (rxX13_unit d) 0 0 E ks [.ref rd] [(rd, .inr (13, [.ref tp_, .int (nI (nn (sa 3))), .ref (ks.1 uz), .ref xa, .int (nI ps.p), .int (nI (5 - d))])), (xa, .inr (14, [.ref xb, .ref xc, .int (nI ps.n)])), (xb, .inl (E.2 1, 60, .inl fb)), (xc, .inl (E.2 2, 60, .inl fc))] [(tp_, .inl (E.2 1, 60, .inl ft))] (S := Nat × Nat × (Nat → Int32) × (Nat → Int32)) (fun (u : Nat × Nat × (Nat → Int32) × (Nat → Int32)) => [(rd, .inr (13, [.ref tp_, .int (nI (nn (sa 3))), .ref (ks.1 uz), .ref xa, .int (nI u.1), .int (nI (5 - d))])), (xa, .inr (14, [.ref xb, .ref xc, .int (nI u.2.1)])), (xb, .inl (E.2 1, 60, .inl u.2.2.1)), (xc, .inl (E.2 2, 60, .inl u.2.2.2))]) (fun (u : Nat × Nat × (Nat → Int32) × (Nat → Int32)) => ((oneF (lkX sa) uz d ps)).1 = true ∧ u.1 = ((oneF (lkX sa) uz d ps)).2.p ∧ u.2.1 = ((oneF (lkX sa) uz d ps)).2.n ∧ TP ((oneF (lkX sa) uz d ps)).2 u.2.2.1 u.2.2.2) RX15 (SX := Int32 × Int32 × Int32 × (Nat → Int32) × (Nat → Int32) × Nat × Int32) (fun (u : Int32 × Int32 × Int32 × (Nat → Int32) × (Nat → Int32) × Nat × Int32) => [(rd, .inr (13, [.ref tp_, .int (nI (nn (sa 3))), .ref (ks.1 uz), .ref xa, .int u.1, .int u.2.1])), (xa, .inr (14, [.ref xb, .ref xc, .int u.2.2.1])), (xb, .inl (E.2 1, 60, .inl u.2.2.2.1)), (xc, .inl (E.2 2, 60, .inl u.2.2.2.2.1)), (u.2.2.2.2.2.1, .inr (15, [.null, .null, .null, .null, .null, .int 0, .int u.2.2.2.2.2.2]))]) (fun (q : Nat) (u : Int32 × Int32 × Int32 × (Nat → Int32) × (Nat → Int32) × Nat × Int32) => q = u.2.2.2.2.2.1 ∧ ((oneF (lkX sa) uz d ps)).1 = false ∧ u.2.2.2.2.2.2 = nI ((oneF (lkX sa) uz d ps)).2.p)) : fz_Mv l yX13_sum cX13_sum 2 (rxX13_sum d) 0 0 E ks [.ref rd] [(rd, .inr (13, [.ref tp_, .int (nI (nn (sa 3))), .ref (ks.1 uz), .ref xa, .int (nI ps.p), .int (nI (5 - d))])), (xa, .inr (14, [.ref xb, .ref xc, .int (nI ps.n)])), (xb, .inl (E.2 1, 60, .inl fb)), (xc, .inl (E.2 2, 60, .inl fc))] [(tp_, .inl (E.2 1, 60, .inl ft))] (S := Nat × Nat × (Nat → Int32) × (Nat → Int32)) (fun (u : Nat × Nat × (Nat → Int32) × (Nat → Int32)) => [(rd, .inr (13, [.ref tp_, .int (nI (nn (sa 3))), .ref (ks.1 uz), .ref xa, .int (nI u.1), .int (nI (5 - d))])), (xa, .inr (14, [.ref xb, .ref xc, .int (nI u.2.1)])), (xb, .inl (E.2 1, 60, .inl u.2.2.1)), (xc, .inl (E.2 2, 60, .inl u.2.2.2))]) (fun (u : Nat × Nat × (Nat → Int32) × (Nat → Int32)) => (((smmF (lkX sa) (oneF (lkX sa) uz d)) ps)).1 = true ∧ u.1 = (((smmF (lkX sa) (oneF (lkX sa) uz d)) ps)).2.p ∧ u.2.1 = (((smmF (lkX sa) (oneF (lkX sa) uz d)) ps)).2.n ∧ TP (((smmF (lkX sa) (oneF (lkX sa) uz d)) ps)).2 u.2.2.1 u.2.2.2) RX15 (SX := Int32 × Int32 × Int32 × (Nat → Int32) × (Nat → Int32) × Nat × Int32) (fun (u : Int32 × Int32 × Int32 × (Nat → Int32) × (Nat → Int32) × Nat × Int32) => [(rd, .inr (13, [.ref tp_, .int (nI (nn (sa 3))), .ref (ks.1 uz), .ref xa, .int u.1, .int u.2.1])), (xa, .inr (14, [.ref xb, .ref xc, .int u.2.2.1])), (xb, .inl (E.2 1, 60, .inl u.2.2.2.1)), (xc, .inl (E.2 2, 60, .inl u.2.2.2.2.1)), (u.2.2.2.2.2.1, .inr (15, [.null, .null, .null, .null, .null, .int 0, .int u.2.2.2.2.2.2]))]) (fun (q : Nat) (u : Int32 × Int32 × Int32 × (Nat → Int32) × (Nat → Int32) × Nat × Int32) => q = u.2.2.2.2.2.1 ∧ (((smmF (lkX sa) (oneF (lkX sa) uz d)) ps)).1 = false ∧ u.2.2.2.2.2.2 = nI (((smmF (lkX sa) (oneF (lkX sa) uz d)) ps)).2.p) := by
  refine fz_vW rfl rfl ?_
  intro p e s m args below meth c A ls Q X hnm hE hP hD hR hZ hA hl hret hthrow
  have hx := X.1
  have hb := X.2.1
  have hS : va_S A s.heap s.heap [] := va_S.rf
  replace hP : va_P E.1 clA [(rd, .inr (13, [.ref tp_, .int (nI (nn (sa 3))), .ref (ks.1 uz), .ref xa, .int (nI ps.p), .int (nI (5 - d))])), (xa, .inr (14, [.ref xb, .ref xc, .int (nI ps.n)])), (xb, .inl (E.2 1, 60, .inl fb)), (xc, .inl (E.2 2, 60, .inl fc))] _ := hP
  replace hD : va_D A [(rd, .inr (13, [.ref tp_, .int (nI (nn (sa 3))), .ref (ks.1 uz), .ref xa, .int (nI ps.p), .int (nI (5 - d))])), (xa, .inr (14, [.ref xb, .ref xc, .int (nI ps.n)])), (xb, .inl (E.2 1, 60, .inl fb)), (xc, .inl (E.2 2, 60, .inl fc))] := hD
  replace hl : lv_has ls 2 [(0, .ref rd)] := hl
  have hpl := hps.le60 hta
  refine lv_aload_n hx hb dX13_sum_0 rfl (lv_at hl 0 rfl) ?_
  refine fz_cv (vz_runV (As := []) (rest := []) X (xX13_product l E ks sa rd tp_ xa xb xc uz ft fb fc ps d (by first | assumption | omega) (by first | assumption | omega) (by first | assumption | omega) (by first | assumption | omega) (by first | assumption | omega) (by first | assumption | omega) (by first | assumption | omega) _) (cwV 0 X.2.2.2.2 (lw_V q610 q612 qs8 q83 q613) rfl rfl rfl ⟨rfl, hdX13_product⟩ ⟨by simp only [rxX13_product, rxX13_sum] <;> omega, by simp only [rxX13_product, rxX13_sum] <;> omega⟩) (fx_preV (fz_pre hE hP hD hS hR hZ hA [0, 1, 2, 3] rfl rfl (fx_rcr 0 rfl fx_rc0)) (va_recv hE.1 hP (ci := 13) (q0 := 0) rfl rfl)) rfl rfl hl.1 rfl (lv_room (Nat.le_of_ble_eq_true rfl)) dX13_sum_1 ⟨Nat.le_of_ble_eq_true rfl, Nat.le_of_ble_eq_true rfl⟩) hP hD hS hA [0, 1, 2, 3] rfl rfl (fun qx_1 u H locs ce hqx_1 hP hD hS hce hcv hcl => ?_) (fun u H locs hq_1 hP hD hS => ?_)
  · -- thrown
    obtain ⟨at9_1x, op9_1x, n9_1x, fb9_1x, fc9_1x, q9_1x, pl9_1x⟩ := u
    replace hP : va_P E.1 clA [(rd, .inr (13, [.ref tp_, .int (nI (nn (sa 3))), .ref (ks.1 uz), .ref xa, .int at9_1x, .int op9_1x])), (xa, .inr (14, [.ref xb, .ref xc, .int n9_1x])), (xb, .inl (E.2 1, 60, .inl fb9_1x)), (xc, .inl (E.2 2, 60, .inl fc9_1x)), (q9_1x, .inr (15, [.null, .null, .null, .null, .null, .int 0, .int pl9_1x]))] _ := hP
    replace hD : va_D A [(rd, .inr (13, [.ref tp_, .int (nI (nn (sa 3))), .ref (ks.1 uz), .ref xa, .int at9_1x, .int op9_1x])), (xa, .inr (14, [.ref xb, .ref xc, .int n9_1x])), (xb, .inl (E.2 1, 60, .inl fb9_1x)), (xc, .inl (E.2 2, 60, .inl fc9_1x)), (q9_1x, .inr (15, [.null, .null, .null, .null, .null, .int 0, .int pl9_1x]))] := hD
    replace hqx_1 : qx_1 = q9_1x ∧ (((prdF (lkX sa) (oneF (lkX sa) uz d)) ps)).1 = false ∧ pl9_1x = nI (((prdF (lkX sa) (oneF (lkX sa) uz d)) ps)).2.p := hqx_1
    have hRR : ((smmF (lkX sa) (oneF (lkX sa) uz d)) ps) = (false, ((prdF (lkX sa) (oneF (lkX sa) uz d)) ps).2) := by show sqF (lkX sa) sgS (prdF (lkX sa) (oneF (lkX sa) uz d)) ps = _; rw [sqF, if_neg (by rw [hqx_1.2.1]; exact Bool.false_ne_true)]
    exact hthrow _ (at9_1x, op9_1x, n9_1x, fb9_1x, fc9_1x, q9_1x, pl9_1x) (⟨hqx_1.1, by rw [hRR], by rw [hRR]; exact hqx_1.2.2⟩) hP hD hS (Nat.le_refl _) (Nat.le_refl _) hce hcv hcl
  · -- back
    obtain ⟨at2_1, n2_1, fb2_1, fc2_1⟩ := u
    replace hP : va_P E.1 clA [(rd, .inr (13, [.ref tp_, .int (nI (nn (sa 3))), .ref (ks.1 uz), .ref xa, .int (nI at2_1), .int (nI (5 - d))])), (xa, .inr (14, [.ref xb, .ref xc, .int (nI n2_1)])), (xb, .inl (E.2 1, 60, .inl fb2_1)), (xc, .inl (E.2 2, 60, .inl fc2_1))] _ := hP
    replace hD : va_D A [(rd, .inr (13, [.ref tp_, .int (nI (nn (sa 3))), .ref (ks.1 uz), .ref xa, .int (nI at2_1), .int (nI (5 - d))])), (xa, .inr (14, [.ref xb, .ref xc, .int (nI n2_1)])), (xb, .inl (E.2 1, 60, .inl fb2_1)), (xc, .inl (E.2 2, 60, .inl fc2_1))] := hD
    replace hq_1 : (((prdF (lkX sa) (oneF (lkX sa) uz d)) ps)).1 = true ∧ at2_1 = (((prdF (lkX sa) (oneF (lkX sa) uz d)) ps)).2.p ∧ n2_1 = (((prdF (lkX sa) (oneF (lkX sa) uz d)) ps)).2.n ∧ TP (((prdF (lkX sa) (oneF (lkX sa) uz d)) ps)).2 fb2_1 fc2_1 := hq_1
    obtain ⟨hb_1, ha_1, hn_1, hM_1⟩ := hq_1
    subst ha_1 hn_1
    have loop_4 : ∀ (n_4 : Nat) (q : Ps) (f : Nat) (fbv : Nat → Int32) (fcv : Nat → Int32), (f < n_4) → (lpF (lkX sa) sgS (prdF (lkX sa) (oneF (lkX sa) uz d)) f q = lpF (lkX sa) sgS (prdF (lkX sa) (oneF (lkX sa) uz d)) 61 ((prdF (lkX sa) (oneF (lkX sa) uz d)) ps).2) → (nn (sa 3) < q.p + f) → (Pok (nn (sa 3)) q) → (1 ≤ dpT q.tc q.n) → (TP q fbv fcv) → ∀ (H : Heap) (locs : List Loc), va_P E.1 clA [(rd, .inr (13, [.ref tp_, .int (nI (nn (sa 3))), .ref (ks.1 uz), .ref xa, .int (nI q.p), .int (nI (5 - d))])), (xa, .inr (14, [.ref xb, .ref xc, .int (nI q.n)])), (xb, .inl (E.2 1, 60, .inl fbv)), (xc, .inl (E.2 2, 60, .inl fcv))] H → va_D A [(rd, .inr (13, [.ref tp_, .int (nI (nn (sa 3))), .ref (ks.1 uz), .ref xa, .int (nI q.p), .int (nI (5 - d))])), (xa, .inr (14, [.ref xb, .ref xc, .int (nI q.n)])), (xb, .inl (E.2 1, 60, .inl fbv)), (xc, .inl (E.2 2, 60, .inl fcv))] → va_S A s.heap H locs → ∀ (ls : Array Slot), lv_has ls 2 [(0, .ref rd)] → W p l e (rxX13_sum d) s m args below meth c H locs 0 0 Q (F0 m 4 ls []) := by
      intro n_4
      induction n_4 with
      | zero => intro q f fbv fcv hm_4; exact absurd hm_4 (Nat.not_lt_zero _)
      | succ n_4 ih_4 =>
        intro q f fbv fcv hm_4 hf hff hq hdq hTq H locs hP hD hS ls hl
        have hql := hq.le60 hta
        refine lv_aload_n hx hb dX13_sum_4 rfl (lv_at hl 0 rfl) ?_
        refine va_ldcS X.1 X.2.1 X.2.2.2.1 hZ.2.2.2.2.2.2.1 dX13_sum_5 ?_
        refine fz_ci (vz_runV (As := [.ref (ks.1 3)]) (rest := []) X (xX13_isOneOf l E ks sa rd tp_ xa uz q.p (5 - d) ft 3 (by decide) (by first | assumption | omega) (by first | assumption | omega) hql.1 _) (cwV 1 X.2.2.2.2 (lw_V q704 q706 qs15 q83 q707) rfl rfl rfl ⟨rfl, hdX13_isOneOf⟩ ⟨by simp only [rxX13_isOneOf, rxX13_sum] <;> omega, by simp only [rxX13_isOneOf, rxX13_sum] <;> omega⟩) (fx_preV (fz_pre hE hP hD hS hR hZ hA [] rfl rfl (fx_rcm 0 rfl (by decide) (fx_rcr 0 rfl fx_rc0))) (va_recv hE.1 hP (ci := 13) (q0 := 0) rfl rfl)) rfl rfl hl.1 rfl (lv_room (Nat.le_of_ble_eq_true rfl)) dX13_sum_7 ⟨Nat.le_of_ble_eq_true rfl, Nat.le_of_ble_eq_true rfl⟩) hP hD hS hA [] rfl rfl (fun _ _ _ _ _ h => h.elim) (fun r_7 u H locs hq_7 hP hD hS => ?_)
        replace hP : va_P E.1 clA [(rd, .inr (13, [.ref tp_, .int (nI (nn (sa 3))), .ref (ks.1 uz), .ref xa, .int (nI q.p), .int (nI (5 - d))])), (xa, .inr (14, [.ref xb, .ref xc, .int (nI q.n)])), (xb, .inl (E.2 1, 60, .inl fbv)), (xc, .inl (E.2 2, 60, .inl fcv))] _ := hP
        replace hD : va_D A [(rd, .inr (13, [.ref tp_, .int (nI (nn (sa 3))), .ref (ks.1 uz), .ref xa, .int (nI q.p), .int (nI (5 - d))])), (xa, .inr (14, [.ref xb, .ref xc, .int (nI q.n)])), (xb, .inl (E.2 1, 60, .inl fbv)), (xc, .inl (E.2 2, 60, .inl fcv))] := hD
        replace hq_7 : r_7 = fx_b (inS 3 (lkX sa q.p) = true) := hq_7
        rcases fx_bc hq_7 with ⟨hb_7, hr_7⟩ | ⟨hb_7, hr_7⟩
        · -- True
          subst hr_7
          have hsg : sgS (lkX sa q.p) = true := by rw [← inS_3]; exact hb_7
          have hsk := sgS_ok _ hsg
          have hlt := lkXH _ (sgS_ok.nm1 hsg)
          have hsc := sgn_c sgS_ok hsg
          obtain ⟨f1, rfl⟩ : ∃ z, f = z + 1 := ⟨f - 1, by omega⟩
          refine lv_if_eq (tgt := 44) hx hb dX13_sum_10 (by decide) (fun c => absurd c (by decide)) (fun _ => ?_)
          refine lv_aload_n hx hb dX13_sum_13 rfl (lv_at hl 0 rfl) ?_
          refine fx_ci (va_runV (As := []) (rest := []) X (xX13_here l E ks sa rd tp_ xa uz q.p (5 - d) ft (by first | assumption | omega) (by first | assumption | omega) hql.1 _) (cwV 0 X.2.2.2.2 (lw_V q618 q620 qs10 q83 q621) rfl rfl rfl ⟨rfl, hdX13_here⟩ ⟨by simp only [rxX13_here, rxX13_sum] <;> omega, by simp only [rxX13_here, rxX13_sum] <;> omega⟩) (fx_preV (fx_pre hE hP hD hS hR [] rfl rfl (fx_rcm 0 rfl (by decide) (fx_rcr 0 rfl fx_rc0))) (va_recv hE.1 hP (ci := 13) (q0 := 0) rfl rfl)) rfl rfl hl.1 rfl (lv_room (Nat.le_of_ble_eq_true rfl)) dX13_sum_14 ⟨Nat.le_of_ble_eq_true rfl, Nat.le_of_ble_eq_true rfl⟩) hP hD hS hA [] rfl rfl (fun r_14 u H locs hq_14 hP hD hS => ?_)
          replace hP : va_P E.1 clA [(rd, .inr (13, [.ref tp_, .int (nI (nn (sa 3))), .ref (ks.1 uz), .ref xa, .int (nI q.p), .int (nI (5 - d))])), (xa, .inr (14, [.ref xb, .ref xc, .int (nI q.n)])), (xb, .inl (E.2 1, 60, .inl fbv)), (xc, .inl (E.2 2, 60, .inl fcv))] _ := hP
          replace hD : va_D A [(rd, .inr (13, [.ref tp_, .int (nI (nn (sa 3))), .ref (ks.1 uz), .ref xa, .int (nI q.p), .int (nI (5 - d))])), (xa, .inr (14, [.ref xb, .ref xc, .int (nI q.n)])), (xb, .inl (E.2 1, 60, .inl fbv)), (xc, .inl (E.2 2, 60, .inl fcv))] := hD
          replace hq_14 : r_14 = lkX sa q.p := hq_14
          refine fx_ti (show r_14 = nI (nn (lkX sa q.p)) from hq_14.trans hsk.1) ?_
          refine lv_istore_n (lv' := [(1, .int (nI (nn (lkX sa q.p)))), (0, .ref rd)]) hx hb dX13_sum_17 rfl hl (by decide) rfl (fun ls hl => ?_)
          refine lv_aload_n hx hb dX13_sum_18 rfl (lv_at hl 1 rfl) ?_
          refine lv_dup hx hb dX13_sum_19 rfl ?_
          refine fx_get X hE hP 0 rfl rfl 4 rfl q575 rfl rfl dX13_sum_20 ?_
          refine lv_iconst (v := 1) hx hb dX13_sum_23 rfl ?_
          refine lv_iadd hx hb dX13_sum_24 ?_
          refine fx_ti (nI_add q.p 1) ?_
          refine fx_put_ (ws' := [(rd, .inr (13, [.ref tp_, .int (nI (nn (sa 3))), .ref (ks.1 uz), .ref xa, .int (nI (q.p + 1)), .int (nI (5 - d))])), (xa, .inr (14, [.ref xb, .ref xc, .int (nI q.n)])), (xb, .inl (E.2 1, 60, .inl fbv)), (xc, .inl (E.2 2, 60, .inl fcv))]) X hE hP hD hS 0 rfl rfl tyX13_ok nmX13 4 rfl q575 rfl rfl rfl rfl rfl rfl dX13_sum_25 (fun H locs hP hD hS => ?_)
          refine lv_aload_n hx hb dX13_sum_28 rfl (lv_at hl 1 rfl) ?_
          refine fz_cv (vz_runV (As := []) (rest := []) X (xX13_product l E ks sa rd tp_ xa xb xc uz ft fbv fcv q.go d (by first | assumption | omega) (by first | assumption | omega) (by first | assumption | omega) (by first | assumption | omega) (go_ok hq hlt) (show TP q.go fbv fcv from hTq) (by first | assumption | omega) _) (cwV 0 X.2.2.2.2 (lw_V q610 q612 qs8 q83 q613) rfl rfl rfl ⟨rfl, hdX13_product⟩ ⟨by simp only [rxX13_product, rxX13_sum] <;> omega, by simp only [rxX13_product, rxX13_sum] <;> omega⟩) (fx_preV (fz_pre hE hP hD hS hR hZ hA [0, 1, 2, 3] rfl rfl (fx_rcr 0 rfl fx_rc0)) (va_recv hE.1 hP (ci := 13) (q0 := 0) rfl rfl)) rfl rfl hl.1 rfl (lv_room (Nat.le_of_ble_eq_true rfl)) dX13_sum_29 ⟨Nat.le_of_ble_eq_true rfl, Nat.le_of_ble_eq_true rfl⟩) hP hD hS hA [0, 1, 2, 3] rfl rfl (fun qx_29 u H locs ce hqx_29 hP hD hS hce hcv hcl => ?_) (fun u H locs hq_29 hP hD hS => ?_)
          · -- thrown
            obtain ⟨at9_29x, op9_29x, n9_29x, fb9_29x, fc9_29x, q9_29x, pl9_29x⟩ := u
            replace hP : va_P E.1 clA [(rd, .inr (13, [.ref tp_, .int (nI (nn (sa 3))), .ref (ks.1 uz), .ref xa, .int at9_29x, .int op9_29x])), (xa, .inr (14, [.ref xb, .ref xc, .int n9_29x])), (xb, .inl (E.2 1, 60, .inl fb9_29x)), (xc, .inl (E.2 2, 60, .inl fc9_29x)), (q9_29x, .inr (15, [.null, .null, .null, .null, .null, .int 0, .int pl9_29x]))] _ := hP
            replace hD : va_D A [(rd, .inr (13, [.ref tp_, .int (nI (nn (sa 3))), .ref (ks.1 uz), .ref xa, .int at9_29x, .int op9_29x])), (xa, .inr (14, [.ref xb, .ref xc, .int n9_29x])), (xb, .inl (E.2 1, 60, .inl fb9_29x)), (xc, .inl (E.2 2, 60, .inl fc9_29x)), (q9_29x, .inr (15, [.null, .null, .null, .null, .null, .int 0, .int pl9_29x]))] := hD
            replace hqx_29 : qx_29 = q9_29x ∧ (((prdF (lkX sa) (oneF (lkX sa) uz d)) q.go)).1 = false ∧ pl9_29x = nI (((prdF (lkX sa) (oneF (lkX sa) uz d)) q.go)).2.p := hqx_29
            have hRR : ((smmF (lkX sa) (oneF (lkX sa) uz d)) ps) = (false, ((prdF (lkX sa) (oneF (lkX sa) uz d)) q.go).2) := by show sqF (lkX sa) sgS (prdF (lkX sa) (oneF (lkX sa) uz d)) ps = _; rw [sqF, if_pos hb_1, ← hf, lpF_n hsg (by rw [hqx_29.2.1]; exact Bool.false_ne_true)]
            exact hthrow _ (at9_29x, op9_29x, n9_29x, fb9_29x, fc9_29x, q9_29x, pl9_29x) (⟨hqx_29.1, by rw [hRR], by rw [hRR]; exact hqx_29.2.2⟩) hP hD hS (Nat.le_refl _) (Nat.le_refl _) hce hcv hcl
          · -- back
            obtain ⟨at2_29, n2_29, fb2_29, fc2_29⟩ := u
            replace hP : va_P E.1 clA [(rd, .inr (13, [.ref tp_, .int (nI (nn (sa 3))), .ref (ks.1 uz), .ref xa, .int (nI at2_29), .int (nI (5 - d))])), (xa, .inr (14, [.ref xb, .ref xc, .int (nI n2_29)])), (xb, .inl (E.2 1, 60, .inl fb2_29)), (xc, .inl (E.2 2, 60, .inl fc2_29))] _ := hP
            replace hD : va_D A [(rd, .inr (13, [.ref tp_, .int (nI (nn (sa 3))), .ref (ks.1 uz), .ref xa, .int (nI at2_29), .int (nI (5 - d))])), (xa, .inr (14, [.ref xb, .ref xc, .int (nI n2_29)])), (xb, .inl (E.2 1, 60, .inl fb2_29)), (xc, .inl (E.2 2, 60, .inl fc2_29))] := hD
            replace hq_29 : (((prdF (lkX sa) (oneF (lkX sa) uz d)) q.go)).1 = true ∧ at2_29 = (((prdF (lkX sa) (oneF (lkX sa) uz d)) q.go)).2.p ∧ n2_29 = (((prdF (lkX sa) (oneF (lkX sa) uz d)) q.go)).2.n ∧ TP (((prdF (lkX sa) (oneF (lkX sa) uz d)) q.go)).2 fb2_29 fc2_29 := hq_29
            obtain ⟨hb_29, ha_29, hn_29, hM_29⟩ := hq_29
            subst ha_29 hn_29
            have hst := lp_step (prd_pp lkXH) hq hdq hsk.2 hlt hb_29
            have hin : ((prdF (lkX sa) (oneF (lkX sa) uz d)) q.go).2.n + 1 ≤ 60 := (hst.1.le60 hta).2
            refine lv_aload_n hx hb dX13_sum_32 rfl (lv_at hl 1 rfl) ?_
            refine fx_get X hE hP 0 rfl rfl 3 rfl q574 rfl rfl dX13_sum_33 ?_
            refine lv_iload_n hx hb dX13_sum_36 rfl (lv_at hl 0 rfl) ?_
            refine lv_iconst (v := 0) hx hb dX13_sum_37 rfl ?_
            refine fx_cv (va_runV (As := [.int (nI (nn (lkX sa q.p))), .int 0]) (rest := []) X (xX14_add l E xa xb xc (((prdF (lkX sa) (oneF (lkX sa) uz d)) q.go).2.n) fb2_29 fc2_29 (nn (lkX sa q.p)) 0 (by omega) hsc (by decide) _) (cwV 2 X.2.2.2.2 (lw_V q696 q697 q698 q84 q699) rfl rfl rfl ⟨rfl, hdX14_add⟩ ⟨by simp only [rxX14_add, rxX13_sum] <;> omega, by simp only [rxX14_add, rxX13_sum] <;> omega⟩) (fx_preV (fx_pre hE hP hD hS hR [1, 2, 3] rfl rfl fx_rc0) (va_recv hE.1 hP (ci := 14) (q0 := 1) rfl rfl)) rfl rfl hl.1 rfl (lv_room (Nat.le_of_ble_eq_true rfl)) dX13_sum_38 ⟨Nat.le_of_ble_eq_true rfl, Nat.le_of_ble_eq_true rfl⟩) hP hD hS hA [1, 2, 3] rfl rfl (fun u H locs hq_38 hP hD hS => ?_)
            replace hP : va_P E.1 clA [(rd, .inr (13, [.ref tp_, .int (nI (nn (sa 3))), .ref (ks.1 uz), .ref xa, .int (nI (((prdF (lkX sa) (oneF (lkX sa) uz d)) q.go).2.p)), .int (nI (5 - d))])), (xa, .inr (14, [.ref xb, .ref xc, .int (nI ((((prdF (lkX sa) (oneF (lkX sa) uz d)) q.go).2.n) + 1))])), (xb, .inl (E.2 1, 60, .inl (upd fb2_29 (((prdF (lkX sa) (oneF (lkX sa) uz d)) q.go).2.n) (nI (nn (lkX sa q.p)))))), (xc, .inl (E.2 2, 60, .inl (upd fc2_29 (((prdF (lkX sa) (oneF (lkX sa) uz d)) q.go).2.n) (nI 0))))] _ := hP
            replace hD : va_D A [(rd, .inr (13, [.ref tp_, .int (nI (nn (sa 3))), .ref (ks.1 uz), .ref xa, .int (nI (((prdF (lkX sa) (oneF (lkX sa) uz d)) q.go).2.p)), .int (nI (5 - d))])), (xa, .inr (14, [.ref xb, .ref xc, .int (nI ((((prdF (lkX sa) (oneF (lkX sa) uz d)) q.go).2.n) + 1))])), (xb, .inl (E.2 1, 60, .inl (upd fb2_29 (((prdF (lkX sa) (oneF (lkX sa) uz d)) q.go).2.n) (nI (nn (lkX sa q.p)))))), (xc, .inl (E.2 2, 60, .inl (upd fc2_29 (((prdF (lkX sa) (oneF (lkX sa) uz d)) q.go).2.n) (nI 0))))] := hD
            replace hq_38 : True := hq_38
            refine lv_goto (tgt := 4) hx hb dX13_sum_41 (by decide) ?_
            exact ih_4 (((prdF (lkX sa) (oneF (lkX sa) uz d)) q.go).2.add (nn (lkX sa q.p)) 0) f1 (upd fb2_29 (((prdF (lkX sa) (oneF (lkX sa) uz d)) q.go).2.n) (nI (nn (lkX sa q.p)))) (upd fc2_29 (((prdF (lkX sa) (oneF (lkX sa) uz d)) q.go).2.n) (nI 0)) (by omega) ((lpF_t hsg hb_29).symm.trans hf) (by have := hst.2.2.1; omega) hst.1 hst.2.1 (TP_add hM_29) _ _ hP hD hS ls (lv_sub hl [1] rfl)
        · -- False
          subst hr_7
          have hsn : sgS (lkX sa q.p) = false := by rw [← inS_3]; exact Bool.eq_false_iff.2 hb_7
          have hRR : ((smmF (lkX sa) (oneF (lkX sa) uz d)) ps) = (true, q) := by show sqF (lkX sa) sgS (prdF (lkX sa) (oneF (lkX sa) uz d)) ps = _; rw [sqF, if_pos hb_1, ← hf, lpF_f hsn]
          refine lv_if_eq (tgt := 44) hx hb dX13_sum_10 (by decide) (fun _ => ?_) (fun c => (c (by decide)).elim)
          exact hret (q.p, q.n, fbv, fcv) (⟨by rw [hRR], by rw [hRR], by rw [hRR], by rw [hRR]; exact hTq⟩) hP hD hS (Nat.le_refl _) (Nat.le_refl _) dX13_sum_44
    exact loop_4 (61 + 1) (((prdF (lkX sa) (oneF (lkX sa) uz d)) ps).2) 61 fb2_1 fc2_1 (Nat.lt_succ_self _) rfl (by omega) ((prd_pp lkXH ps hps hb_1).1) (by have := (prd_pp lkXH ps hps hb_1).2.2.2; omega) hM_1 _ _ hP hD hS ls (lv_sub hl [0] rfl)
abbrev rxX13_compared (d : Nat) : Room := { frames := 6 * d + 12, cells := 1, slots := 7, locals := 180 * d + 490 }
set_option maxHeartbeats 400000 in
set_option maxRecDepth 100000 in
theorem xX13_compared (l : Launch) (E : fx_En) (ks : fz_Ks) (sa : Nat → Int32) (rd : Nat) (tp_ : Nat) (xa : Nat) (xb : Nat) (xc : Nat) (uz : Nat) (ft : Nat → Int32) (fb : Nat → Int32) (fc : Nat → Int32) (ps : Ps) (d : Nat) (hd : d ≤ 5) (hu : uz < 2) (hta : nn (sa 3) ≤ 60) (hft : ∀ i, i < 60 → ft i = (sa (290 + i)).toInt8.toInt32) (hps : Pok (nn (sa 3)) ps) (hTP : TP ps fb fc) (h1 : ∀ (ks : fz_Ks) (sa : Nat → Int32) (rd : Nat) (tp_ : Nat) (xa : Nat) (xb : Nat) (xc : Nat) (uz : Nat) (ft : Nat → Int32) (fb : Nat → Int32) (fc : Nat → Int32) (ps : Ps) (hd : d ≤ 5) (hu : uz < 2) (hta : nn (sa 3) ≤ 60) (hft : ∀ i, i < 60 → ft i = (sa (290 + i)).toInt8.toInt32) (hps : Pok (nn (sa 3)) ps) (hTP : TP ps fb fc), fz_Mv l yX13_unit cX13_unit 1 (rxX13_unit d) 0 0 E ks [.ref rd] [(rd, .inr (13, [.ref tp_, .int (nI (nn (sa 3))), .ref (ks.1 uz), .ref xa, .int (nI ps.p), .int (nI (5 - d))])), (xa, .inr (14, [.ref xb, .ref xc, .int (nI ps.n)])), (xb, .inl (E.2 1, 60, .inl fb)), (xc, .inl (E.2 2, 60, .inl fc))] [(tp_, .inl (E.2 1, 60, .inl ft))] (S := Nat × Nat × (Nat → Int32) × (Nat → Int32)) (fun (u : Nat × Nat × (Nat → Int32) × (Nat → Int32)) => [(rd, .inr (13, [.ref tp_, .int (nI (nn (sa 3))), .ref (ks.1 uz), .ref xa, .int (nI u.1), .int (nI (5 - d))])), (xa, .inr (14, [.ref xb, .ref xc, .int (nI u.2.1)])), (xb, .inl (E.2 1, 60, .inl u.2.2.1)), (xc, .inl (E.2 2, 60, .inl u.2.2.2))]) (fun (u : Nat × Nat × (Nat → Int32) × (Nat → Int32)) => ((oneF (lkX sa) uz d ps)).1 = true ∧ u.1 = ((oneF (lkX sa) uz d ps)).2.p ∧ u.2.1 = ((oneF (lkX sa) uz d ps)).2.n ∧ TP ((oneF (lkX sa) uz d ps)).2 u.2.2.1 u.2.2.2) RX15 (SX := Int32 × Int32 × Int32 × (Nat → Int32) × (Nat → Int32) × Nat × Int32) (fun (u : Int32 × Int32 × Int32 × (Nat → Int32) × (Nat → Int32) × Nat × Int32) => [(rd, .inr (13, [.ref tp_, .int (nI (nn (sa 3))), .ref (ks.1 uz), .ref xa, .int u.1, .int u.2.1])), (xa, .inr (14, [.ref xb, .ref xc, .int u.2.2.1])), (xb, .inl (E.2 1, 60, .inl u.2.2.2.1)), (xc, .inl (E.2 2, 60, .inl u.2.2.2.2.1)), (u.2.2.2.2.2.1, .inr (15, [.null, .null, .null, .null, .null, .int 0, .int u.2.2.2.2.2.2]))]) (fun (q : Nat) (u : Int32 × Int32 × Int32 × (Nat → Int32) × (Nat → Int32) × Nat × Int32) => q = u.2.2.2.2.2.1 ∧ ((oneF (lkX sa) uz d ps)).1 = false ∧ u.2.2.2.2.2.2 = nI ((oneF (lkX sa) uz d ps)).2.p)) : fz_Mv l yX13_compared cX13_compared 2 (rxX13_compared d) 0 0 E ks [.ref rd] [(rd, .inr (13, [.ref tp_, .int (nI (nn (sa 3))), .ref (ks.1 uz), .ref xa, .int (nI ps.p), .int (nI (5 - d))])), (xa, .inr (14, [.ref xb, .ref xc, .int (nI ps.n)])), (xb, .inl (E.2 1, 60, .inl fb)), (xc, .inl (E.2 2, 60, .inl fc))] [(tp_, .inl (E.2 1, 60, .inl ft))] (S := Nat × Nat × (Nat → Int32) × (Nat → Int32)) (fun (u : Nat × Nat × (Nat → Int32) × (Nat → Int32)) => [(rd, .inr (13, [.ref tp_, .int (nI (nn (sa 3))), .ref (ks.1 uz), .ref xa, .int (nI u.1), .int (nI (5 - d))])), (xa, .inr (14, [.ref xb, .ref xc, .int (nI u.2.1)])), (xb, .inl (E.2 1, 60, .inl u.2.2.1)), (xc, .inl (E.2 2, 60, .inl u.2.2.2))]) (fun (u : Nat × Nat × (Nat → Int32) × (Nat → Int32)) => (((cmpF (lkX sa) (oneF (lkX sa) uz d)) ps)).1 = true ∧ u.1 = (((cmpF (lkX sa) (oneF (lkX sa) uz d)) ps)).2.p ∧ u.2.1 = (((cmpF (lkX sa) (oneF (lkX sa) uz d)) ps)).2.n ∧ TP (((cmpF (lkX sa) (oneF (lkX sa) uz d)) ps)).2 u.2.2.1 u.2.2.2) RX15 (SX := Int32 × Int32 × Int32 × (Nat → Int32) × (Nat → Int32) × Nat × Int32) (fun (u : Int32 × Int32 × Int32 × (Nat → Int32) × (Nat → Int32) × Nat × Int32) => [(rd, .inr (13, [.ref tp_, .int (nI (nn (sa 3))), .ref (ks.1 uz), .ref xa, .int u.1, .int u.2.1])), (xa, .inr (14, [.ref xb, .ref xc, .int u.2.2.1])), (xb, .inl (E.2 1, 60, .inl u.2.2.2.1)), (xc, .inl (E.2 2, 60, .inl u.2.2.2.2.1)), (u.2.2.2.2.2.1, .inr (15, [.null, .null, .null, .null, .null, .int 0, .int u.2.2.2.2.2.2]))]) (fun (q : Nat) (u : Int32 × Int32 × Int32 × (Nat → Int32) × (Nat → Int32) × Nat × Int32) => q = u.2.2.2.2.2.1 ∧ (((cmpF (lkX sa) (oneF (lkX sa) uz d)) ps)).1 = false ∧ u.2.2.2.2.2.2 = nI (((cmpF (lkX sa) (oneF (lkX sa) uz d)) ps)).2.p) := by
  refine fz_vW rfl rfl ?_
  intro p e s m args below meth c A ls Q X hnm hE hP hD hR hZ hA hl hret hthrow
  have hx := X.1
  have hb := X.2.1
  have hS : va_S A s.heap s.heap [] := va_S.rf
  replace hP : va_P E.1 clA [(rd, .inr (13, [.ref tp_, .int (nI (nn (sa 3))), .ref (ks.1 uz), .ref xa, .int (nI ps.p), .int (nI (5 - d))])), (xa, .inr (14, [.ref xb, .ref xc, .int (nI ps.n)])), (xb, .inl (E.2 1, 60, .inl fb)), (xc, .inl (E.2 2, 60, .inl fc))] _ := hP
  replace hD : va_D A [(rd, .inr (13, [.ref tp_, .int (nI (nn (sa 3))), .ref (ks.1 uz), .ref xa, .int (nI ps.p), .int (nI (5 - d))])), (xa, .inr (14, [.ref xb, .ref xc, .int (nI ps.n)])), (xb, .inl (E.2 1, 60, .inl fb)), (xc, .inl (E.2 2, 60, .inl fc))] := hD
  replace hl : lv_has ls 2 [(0, .ref rd)] := hl
  have hpl := hps.le60 hta
  refine lv_aload_n hx hb dX13_compared_0 rfl (lv_at hl 0 rfl) ?_
  refine fz_cv (vz_runV (As := []) (rest := []) X (xX13_sum l E ks sa rd tp_ xa xb xc uz ft fb fc ps d (by first | assumption | omega) (by first | assumption | omega) (by first | assumption | omega) (by first | assumption | omega) (by first | assumption | omega) (by first | assumption | omega) (by first | assumption | omega) _) (cwV 0 X.2.2.2.2 (lw_V q606 q608 qs7 q83 q609) rfl rfl rfl ⟨rfl, hdX13_sum⟩ ⟨by simp only [rxX13_sum, rxX13_compared] <;> omega, by simp only [rxX13_sum, rxX13_compared] <;> omega⟩) (fx_preV (fz_pre hE hP hD hS hR hZ hA [0, 1, 2, 3] rfl rfl (fx_rcr 0 rfl fx_rc0)) (va_recv hE.1 hP (ci := 13) (q0 := 0) rfl rfl)) rfl rfl hl.1 rfl (lv_room (Nat.le_of_ble_eq_true rfl)) dX13_compared_1 ⟨Nat.le_of_ble_eq_true rfl, Nat.le_of_ble_eq_true rfl⟩) hP hD hS hA [0, 1, 2, 3] rfl rfl (fun qx_1 u H locs ce hqx_1 hP hD hS hce hcv hcl => ?_) (fun u H locs hq_1 hP hD hS => ?_)
  · -- thrown
    obtain ⟨at9_1x, op9_1x, n9_1x, fb9_1x, fc9_1x, q9_1x, pl9_1x⟩ := u
    replace hP : va_P E.1 clA [(rd, .inr (13, [.ref tp_, .int (nI (nn (sa 3))), .ref (ks.1 uz), .ref xa, .int at9_1x, .int op9_1x])), (xa, .inr (14, [.ref xb, .ref xc, .int n9_1x])), (xb, .inl (E.2 1, 60, .inl fb9_1x)), (xc, .inl (E.2 2, 60, .inl fc9_1x)), (q9_1x, .inr (15, [.null, .null, .null, .null, .null, .int 0, .int pl9_1x]))] _ := hP
    replace hD : va_D A [(rd, .inr (13, [.ref tp_, .int (nI (nn (sa 3))), .ref (ks.1 uz), .ref xa, .int at9_1x, .int op9_1x])), (xa, .inr (14, [.ref xb, .ref xc, .int n9_1x])), (xb, .inl (E.2 1, 60, .inl fb9_1x)), (xc, .inl (E.2 2, 60, .inl fc9_1x)), (q9_1x, .inr (15, [.null, .null, .null, .null, .null, .int 0, .int pl9_1x]))] := hD
    replace hqx_1 : qx_1 = q9_1x ∧ (((smmF (lkX sa) (oneF (lkX sa) uz d)) ps)).1 = false ∧ pl9_1x = nI (((smmF (lkX sa) (oneF (lkX sa) uz d)) ps)).2.p := hqx_1
    have hRR : ((cmpF (lkX sa) (oneF (lkX sa) uz d)) ps) = (false, ((smmF (lkX sa) (oneF (lkX sa) uz d)) ps).2) := by rw [cmpF, if_neg (by rw [hqx_1.2.1]; exact Bool.false_ne_true)]
    exact hthrow _ (at9_1x, op9_1x, n9_1x, fb9_1x, fc9_1x, q9_1x, pl9_1x) (⟨hqx_1.1, by rw [hRR], by rw [hRR]; exact hqx_1.2.2⟩) hP hD hS (Nat.le_refl _) (Nat.le_refl _) hce hcv hcl
  · -- back
    obtain ⟨at2_1, n2_1, fb2_1, fc2_1⟩ := u
    replace hP : va_P E.1 clA [(rd, .inr (13, [.ref tp_, .int (nI (nn (sa 3))), .ref (ks.1 uz), .ref xa, .int (nI at2_1), .int (nI (5 - d))])), (xa, .inr (14, [.ref xb, .ref xc, .int (nI n2_1)])), (xb, .inl (E.2 1, 60, .inl fb2_1)), (xc, .inl (E.2 2, 60, .inl fc2_1))] _ := hP
    replace hD : va_D A [(rd, .inr (13, [.ref tp_, .int (nI (nn (sa 3))), .ref (ks.1 uz), .ref xa, .int (nI at2_1), .int (nI (5 - d))])), (xa, .inr (14, [.ref xb, .ref xc, .int (nI n2_1)])), (xb, .inl (E.2 1, 60, .inl fb2_1)), (xc, .inl (E.2 2, 60, .inl fc2_1))] := hD
    replace hq_1 : (((smmF (lkX sa) (oneF (lkX sa) uz d)) ps)).1 = true ∧ at2_1 = (((smmF (lkX sa) (oneF (lkX sa) uz d)) ps)).2.p ∧ n2_1 = (((smmF (lkX sa) (oneF (lkX sa) uz d)) ps)).2.n ∧ TP (((smmF (lkX sa) (oneF (lkX sa) uz d)) ps)).2 fb2_1 fc2_1 := hq_1
    obtain ⟨hb_1, ha_1, hn_1, hM_1⟩ := hq_1
    subst ha_1 hn_1
    have hpk := smm_pp lkXH ps hps hb_1
    have hpl1 := hpk.1.le60 hta
    refine lv_aload_n hx hb dX13_compared_4 rfl (lv_at hl 0 rfl) ?_
    refine va_ldcS X.1 X.2.1 X.2.2.2.1 hZ.2.2.2.2.2.1 dX13_compared_5 ?_
    refine fz_ci (vz_runV (As := [.ref (ks.1 2)]) (rest := []) X (xX13_isOneOf l E ks sa rd tp_ xa uz (((smmF (lkX sa) (oneF (lkX sa) uz d)) ps).2.p) (5 - d) ft 2 (by decide) (by first | assumption | omega) (by first | assumption | omega) hpl1.1 _) (cwV 1 X.2.2.2.2 (lw_V q704 q706 qs15 q83 q707) rfl rfl rfl ⟨rfl, hdX13_isOneOf⟩ ⟨by simp only [rxX13_isOneOf, rxX13_compared] <;> omega, by simp only [rxX13_isOneOf, rxX13_compared] <;> omega⟩) (fx_preV (fz_pre hE hP hD hS hR hZ hA [] rfl rfl (fx_rcm 0 rfl (by decide) (fx_rcr 0 rfl fx_rc0))) (va_recv hE.1 hP (ci := 13) (q0 := 0) rfl rfl)) rfl rfl hl.1 rfl (lv_room (Nat.le_of_ble_eq_true rfl)) dX13_compared_7 ⟨Nat.le_of_ble_eq_true rfl, Nat.le_of_ble_eq_true rfl⟩) hP hD hS hA [] rfl rfl (fun _ _ _ _ _ h => h.elim) (fun r_7 u H locs hq_7 hP hD hS => ?_)
    replace hP : va_P E.1 clA [(rd, .inr (13, [.ref tp_, .int (nI (nn (sa 3))), .ref (ks.1 uz), .ref xa, .int (nI (((smmF (lkX sa) (oneF (lkX sa) uz d)) ps).2.p)), .int (nI (5 - d))])), (xa, .inr (14, [.ref xb, .ref xc, .int (nI (((smmF (lkX sa) (oneF (lkX sa) uz d)) ps).2.n))])), (xb, .inl (E.2 1, 60, .inl fb2_1)), (xc, .inl (E.2 2, 60, .inl fc2_1))] _ := hP
    replace hD : va_D A [(rd, .inr (13, [.ref tp_, .int (nI (nn (sa 3))), .ref (ks.1 uz), .ref xa, .int (nI (((smmF (lkX sa) (oneF (lkX sa) uz d)) ps).2.p)), .int (nI (5 - d))])), (xa, .inr (14, [.ref xb, .ref xc, .int (nI (((smmF (lkX sa) (oneF (lkX sa) uz d)) ps).2.n))])), (xb, .inl (E.2 1, 60, .inl fb2_1)), (xc, .inl (E.2 2, 60, .inl fc2_1))] := hD
    replace hq_7 : r_7 = fx_b (inS 2 (lkX sa (((smmF (lkX sa) (oneF (lkX sa) uz d)) ps).2.p)) = true) := hq_7
    rcases fx_bc hq_7 with ⟨hb_7, hr_7⟩ | ⟨hb_7, hr_7⟩
    · -- True
      subst hr_7
      have hsg : sgC (lkX sa ((smmF (lkX sa) (oneF (lkX sa) uz d)) ps).2.p) = true := by rw [← inS_2]; exact hb_7
      have hsk := sgC_ok _ hsg
      have hlt := lkXH _ (sgC_ok.nm1 hsg)
      have hsc := sgn_c sgC_ok hsg
      refine lv_if_ne (tgt := 14) hx hb dX13_compared_10 (by decide) (fun _ => ?_) (fun c => absurd c (by decide))
      refine lv_aload_n hx hb dX13_compared_14 rfl (lv_at hl 0 rfl) ?_
      refine fx_ci (va_runV (As := []) (rest := []) X (xX13_here l E ks sa rd tp_ xa uz (((smmF (lkX sa) (oneF (lkX sa) uz d)) ps).2.p) (5 - d) ft (by first | assumption | omega) (by first | assumption | omega) hpl1.1 _) (cwV 0 X.2.2.2.2 (lw_V q618 q620 qs10 q83 q621) rfl rfl rfl ⟨rfl, hdX13_here⟩ ⟨by simp only [rxX13_here, rxX13_compared] <;> omega, by simp only [rxX13_here, rxX13_compared] <;> omega⟩) (fx_preV (fx_pre hE hP hD hS hR [] rfl rfl (fx_rcm 0 rfl (by decide) (fx_rcr 0 rfl fx_rc0))) (va_recv hE.1 hP (ci := 13) (q0 := 0) rfl rfl)) rfl rfl hl.1 rfl (lv_room (Nat.le_of_ble_eq_true rfl)) dX13_compared_15 ⟨Nat.le_of_ble_eq_true rfl, Nat.le_of_ble_eq_true rfl⟩) hP hD hS hA [] rfl rfl (fun r_15 u H locs hq_15 hP hD hS => ?_)
      replace hP : va_P E.1 clA [(rd, .inr (13, [.ref tp_, .int (nI (nn (sa 3))), .ref (ks.1 uz), .ref xa, .int (nI (((smmF (lkX sa) (oneF (lkX sa) uz d)) ps).2.p)), .int (nI (5 - d))])), (xa, .inr (14, [.ref xb, .ref xc, .int (nI (((smmF (lkX sa) (oneF (lkX sa) uz d)) ps).2.n))])), (xb, .inl (E.2 1, 60, .inl fb2_1)), (xc, .inl (E.2 2, 60, .inl fc2_1))] _ := hP
      replace hD : va_D A [(rd, .inr (13, [.ref tp_, .int (nI (nn (sa 3))), .ref (ks.1 uz), .ref xa, .int (nI (((smmF (lkX sa) (oneF (lkX sa) uz d)) ps).2.p)), .int (nI (5 - d))])), (xa, .inr (14, [.ref xb, .ref xc, .int (nI (((smmF (lkX sa) (oneF (lkX sa) uz d)) ps).2.n))])), (xb, .inl (E.2 1, 60, .inl fb2_1)), (xc, .inl (E.2 2, 60, .inl fc2_1))] := hD
      replace hq_15 : r_15 = lkX sa (((smmF (lkX sa) (oneF (lkX sa) uz d)) ps).2.p) := hq_15
      refine fx_ti (show r_15 = nI (nn (lkX sa ((smmF (lkX sa) (oneF (lkX sa) uz d)) ps).2.p)) from hq_15.trans hsk.1) ?_
      refine lv_istore_n (lv' := [(1, .int (nI (nn (lkX sa ((smmF (lkX sa) (oneF (lkX sa) uz d)) ps).2.p)))), (0, .ref rd)]) hx hb dX13_compared_18 rfl hl (by decide) rfl (fun ls hl => ?_)
      refine lv_aload_n hx hb dX13_compared_19 rfl (lv_at hl 1 rfl) ?_
      refine lv_dup hx hb dX13_compared_20 rfl ?_
      refine fx_get X hE hP 0 rfl rfl 4 rfl q575 rfl rfl dX13_compared_21 ?_
      refine lv_iconst (v := 1) hx hb dX13_compared_24 rfl ?_
      refine lv_iadd hx hb dX13_compared_25 ?_
      refine fx_ti (nI_add (((smmF (lkX sa) (oneF (lkX sa) uz d)) ps).2.p) 1) ?_
      refine fx_put_ (ws' := [(rd, .inr (13, [.ref tp_, .int (nI (nn (sa 3))), .ref (ks.1 uz), .ref xa, .int (nI (((smmF (lkX sa) (oneF (lkX sa) uz d)) ps).2.p + 1)), .int (nI (5 - d))])), (xa, .inr (14, [.ref xb, .ref xc, .int (nI (((smmF (lkX sa) (oneF (lkX sa) uz d)) ps).2.n))])), (xb, .inl (E.2 1, 60, .inl fb2_1)), (xc, .inl (E.2 2, 60, .inl fc2_1))]) X hE hP hD hS 0 rfl rfl tyX13_ok nmX13 4 rfl q575 rfl rfl rfl rfl rfl rfl dX13_compared_26 (fun H locs hP hD hS => ?_)
      refine lv_aload_n hx hb dX13_compared_29 rfl (lv_at hl 1 rfl) ?_
      refine fz_cv (vz_runV (As := []) (rest := []) X (xX13_sum l E ks sa rd tp_ xa xb xc uz ft fb2_1 fc2_1 (((smmF (lkX sa) (oneF (lkX sa) uz d)) ps).2.go) d (by first | assumption | omega) (by first | assumption | omega) (by first | assumption | omega) (by first | assumption | omega) (go_ok hpk.1 hlt) (show TP ((smmF (lkX sa) (oneF (lkX sa) uz d)) ps).2.go fb2_1 fc2_1 from hM_1) (by first | assumption | omega) _) (cwV 0 X.2.2.2.2 (lw_V q606 q608 qs7 q83 q609) rfl rfl rfl ⟨rfl, hdX13_sum⟩ ⟨by simp only [rxX13_sum, rxX13_compared] <;> omega, by simp only [rxX13_sum, rxX13_compared] <;> omega⟩) (fx_preV (fz_pre hE hP hD hS hR hZ hA [0, 1, 2, 3] rfl rfl (fx_rcr 0 rfl fx_rc0)) (va_recv hE.1 hP (ci := 13) (q0 := 0) rfl rfl)) rfl rfl hl.1 rfl (lv_room (Nat.le_of_ble_eq_true rfl)) dX13_compared_30 ⟨Nat.le_of_ble_eq_true rfl, Nat.le_of_ble_eq_true rfl⟩) hP hD hS hA [0, 1, 2, 3] rfl rfl (fun qx_30 u H locs ce hqx_30 hP hD hS hce hcv hcl => ?_) (fun u H locs hq_30 hP hD hS => ?_)
      · -- thrown
        obtain ⟨at9_30x, op9_30x, n9_30x, fb9_30x, fc9_30x, q9_30x, pl9_30x⟩ := u
        replace hP : va_P E.1 clA [(rd, .inr (13, [.ref tp_, .int (nI (nn (sa 3))), .ref (ks.1 uz), .ref xa, .int at9_30x, .int op9_30x])), (xa, .inr (14, [.ref xb, .ref xc, .int n9_30x])), (xb, .inl (E.2 1, 60, .inl fb9_30x)), (xc, .inl (E.2 2, 60, .inl fc9_30x)), (q9_30x, .inr (15, [.null, .null, .null, .null, .null, .int 0, .int pl9_30x]))] _ := hP
        replace hD : va_D A [(rd, .inr (13, [.ref tp_, .int (nI (nn (sa 3))), .ref (ks.1 uz), .ref xa, .int at9_30x, .int op9_30x])), (xa, .inr (14, [.ref xb, .ref xc, .int n9_30x])), (xb, .inl (E.2 1, 60, .inl fb9_30x)), (xc, .inl (E.2 2, 60, .inl fc9_30x)), (q9_30x, .inr (15, [.null, .null, .null, .null, .null, .int 0, .int pl9_30x]))] := hD
        replace hqx_30 : qx_30 = q9_30x ∧ (((smmF (lkX sa) (oneF (lkX sa) uz d)) (((smmF (lkX sa) (oneF (lkX sa) uz d)) ps).2.go))).1 = false ∧ pl9_30x = nI (((smmF (lkX sa) (oneF (lkX sa) uz d)) (((smmF (lkX sa) (oneF (lkX sa) uz d)) ps).2.go))).2.p := hqx_30
        have hRR : ((cmpF (lkX sa) (oneF (lkX sa) uz d)) ps) = (false, ((smmF (lkX sa) (oneF (lkX sa) uz d)) ((smmF (lkX sa) (oneF (lkX sa) uz d)) ps).2.go).2) := by rw [cmpF, if_pos hb_1, if_pos hsg, if_neg (by rw [hqx_30.2.1]; exact Bool.false_ne_true)]
        exact hthrow _ (at9_30x, op9_30x, n9_30x, fb9_30x, fc9_30x, q9_30x, pl9_30x) (⟨hqx_30.1, by rw [hRR], by rw [hRR]; exact hqx_30.2.2⟩) hP hD hS (Nat.le_refl _) (Nat.le_refl _) hce hcv hcl
      · -- back
        obtain ⟨at2_30, n2_30, fb2_30, fc2_30⟩ := u
        replace hP : va_P E.1 clA [(rd, .inr (13, [.ref tp_, .int (nI (nn (sa 3))), .ref (ks.1 uz), .ref xa, .int (nI at2_30), .int (nI (5 - d))])), (xa, .inr (14, [.ref xb, .ref xc, .int (nI n2_30)])), (xb, .inl (E.2 1, 60, .inl fb2_30)), (xc, .inl (E.2 2, 60, .inl fc2_30))] _ := hP
        replace hD : va_D A [(rd, .inr (13, [.ref tp_, .int (nI (nn (sa 3))), .ref (ks.1 uz), .ref xa, .int (nI at2_30), .int (nI (5 - d))])), (xa, .inr (14, [.ref xb, .ref xc, .int (nI n2_30)])), (xb, .inl (E.2 1, 60, .inl fb2_30)), (xc, .inl (E.2 2, 60, .inl fc2_30))] := hD
        replace hq_30 : (((smmF (lkX sa) (oneF (lkX sa) uz d)) (((smmF (lkX sa) (oneF (lkX sa) uz d)) ps).2.go))).1 = true ∧ at2_30 = (((smmF (lkX sa) (oneF (lkX sa) uz d)) (((smmF (lkX sa) (oneF (lkX sa) uz d)) ps).2.go))).2.p ∧ n2_30 = (((smmF (lkX sa) (oneF (lkX sa) uz d)) (((smmF (lkX sa) (oneF (lkX sa) uz d)) ps).2.go))).2.n ∧ TP (((smmF (lkX sa) (oneF (lkX sa) uz d)) (((smmF (lkX sa) (oneF (lkX sa) uz d)) ps).2.go))).2 fb2_30 fc2_30 := hq_30
        obtain ⟨hb_30, ha_30, hn_30, hM_30⟩ := hq_30
        subst ha_30 hn_30
        have hst := lp_step (smm_pp lkXH) hpk.1 (by have := hpk.2.2.2; omega) hsk.2 hlt hb_30
        have hin : ((smmF (lkX sa) (oneF (lkX sa) uz d)) ((smmF (lkX sa) (oneF (lkX sa) uz d)) ps).2.go).2.n + 1 ≤ 60 := (hst.1.le60 hta).2
        have hRR : ((cmpF (lkX sa) (oneF (lkX sa) uz d)) ps) = (true, ((smmF (lkX sa) (oneF (lkX sa) uz d)) ((smmF (lkX sa) (oneF (lkX sa) uz d)) ps).2.go).2.add (nn (lkX sa ((smmF (lkX sa) (oneF (lkX sa) uz d)) ps).2.p)) 0) := by rw [cmpF, if_pos hb_1, if_pos hsg, if_pos hb_30]
        refine lv_aload_n hx hb dX13_compared_33 rfl (lv_at hl 1 rfl) ?_
        refine fx_get X hE hP 0 rfl rfl 3 rfl q574 rfl rfl dX13_compared_34 ?_
        refine lv_iload_n hx hb dX13_compared_37 rfl (lv_at hl 0 rfl) ?_
        refine lv_iconst (v := 0) hx hb dX13_compared_38 rfl ?_
        refine fx_cv (va_runV (As := [.int (nI (nn (lkX sa ((smmF (lkX sa) (oneF (lkX sa) uz d)) ps).2.p))), .int 0]) (rest := []) X (xX14_add l E xa xb xc (((smmF (lkX sa) (oneF (lkX sa) uz d)) ((smmF (lkX sa) (oneF (lkX sa) uz d)) ps).2.go).2.n) fb2_30 fc2_30 (nn (lkX sa ((smmF (lkX sa) (oneF (lkX sa) uz d)) ps).2.p)) 0 (by omega) hsc (by decide) _) (cwV 2 X.2.2.2.2 (lw_V q696 q697 q698 q84 q699) rfl rfl rfl ⟨rfl, hdX14_add⟩ ⟨by simp only [rxX14_add, rxX13_compared] <;> omega, by simp only [rxX14_add, rxX13_compared] <;> omega⟩) (fx_preV (fx_pre hE hP hD hS hR [1, 2, 3] rfl rfl fx_rc0) (va_recv hE.1 hP (ci := 14) (q0 := 1) rfl rfl)) rfl rfl hl.1 rfl (lv_room (Nat.le_of_ble_eq_true rfl)) dX13_compared_39 ⟨Nat.le_of_ble_eq_true rfl, Nat.le_of_ble_eq_true rfl⟩) hP hD hS hA [1, 2, 3] rfl rfl (fun u H locs hq_39 hP hD hS => ?_)
        replace hP : va_P E.1 clA [(rd, .inr (13, [.ref tp_, .int (nI (nn (sa 3))), .ref (ks.1 uz), .ref xa, .int (nI (((smmF (lkX sa) (oneF (lkX sa) uz d)) ((smmF (lkX sa) (oneF (lkX sa) uz d)) ps).2.go).2.p)), .int (nI (5 - d))])), (xa, .inr (14, [.ref xb, .ref xc, .int (nI ((((smmF (lkX sa) (oneF (lkX sa) uz d)) ((smmF (lkX sa) (oneF (lkX sa) uz d)) ps).2.go).2.n) + 1))])), (xb, .inl (E.2 1, 60, .inl (upd fb2_30 (((smmF (lkX sa) (oneF (lkX sa) uz d)) ((smmF (lkX sa) (oneF (lkX sa) uz d)) ps).2.go).2.n) (nI (nn (lkX sa ((smmF (lkX sa) (oneF (lkX sa) uz d)) ps).2.p)))))), (xc, .inl (E.2 2, 60, .inl (upd fc2_30 (((smmF (lkX sa) (oneF (lkX sa) uz d)) ((smmF (lkX sa) (oneF (lkX sa) uz d)) ps).2.go).2.n) (nI 0))))] _ := hP
        replace hD : va_D A [(rd, .inr (13, [.ref tp_, .int (nI (nn (sa 3))), .ref (ks.1 uz), .ref xa, .int (nI (((smmF (lkX sa) (oneF (lkX sa) uz d)) ((smmF (lkX sa) (oneF (lkX sa) uz d)) ps).2.go).2.p)), .int (nI (5 - d))])), (xa, .inr (14, [.ref xb, .ref xc, .int (nI ((((smmF (lkX sa) (oneF (lkX sa) uz d)) ((smmF (lkX sa) (oneF (lkX sa) uz d)) ps).2.go).2.n) + 1))])), (xb, .inl (E.2 1, 60, .inl (upd fb2_30 (((smmF (lkX sa) (oneF (lkX sa) uz d)) ((smmF (lkX sa) (oneF (lkX sa) uz d)) ps).2.go).2.n) (nI (nn (lkX sa ((smmF (lkX sa) (oneF (lkX sa) uz d)) ps).2.p)))))), (xc, .inl (E.2 2, 60, .inl (upd fc2_30 (((smmF (lkX sa) (oneF (lkX sa) uz d)) ((smmF (lkX sa) (oneF (lkX sa) uz d)) ps).2.go).2.n) (nI 0))))] := hD
        replace hq_39 : True := hq_39
        exact hret (((smmF (lkX sa) (oneF (lkX sa) uz d)) ((smmF (lkX sa) (oneF (lkX sa) uz d)) ps).2.go).2.p, (((smmF (lkX sa) (oneF (lkX sa) uz d)) ((smmF (lkX sa) (oneF (lkX sa) uz d)) ps).2.go).2.n) + 1, (upd fb2_30 (((smmF (lkX sa) (oneF (lkX sa) uz d)) ((smmF (lkX sa) (oneF (lkX sa) uz d)) ps).2.go).2.n) (nI (nn (lkX sa ((smmF (lkX sa) (oneF (lkX sa) uz d)) ps).2.p)))), (upd fc2_30 (((smmF (lkX sa) (oneF (lkX sa) uz d)) ((smmF (lkX sa) (oneF (lkX sa) uz d)) ps).2.go).2.n) (nI 0))) (⟨by rw [hRR], by rw [hRR]; rfl, by rw [hRR]; rfl, by rw [hRR]; exact TP_add hM_30⟩) hP hD hS (Nat.le_refl _) (Nat.le_refl _) dX13_compared_42
    · -- False
      subst hr_7
      have hsn : sgC (lkX sa ((smmF (lkX sa) (oneF (lkX sa) uz d)) ps).2.p) = false := by rw [← inS_2]; exact Bool.eq_false_iff.2 hb_7
      have hRR : ((cmpF (lkX sa) (oneF (lkX sa) uz d)) ps) = (true, ((smmF (lkX sa) (oneF (lkX sa) uz d)) ps).2) := by rw [cmpF, if_pos hb_1, if_neg (by rw [hsn]; exact Bool.false_ne_true)]
      refine lv_if_ne (tgt := 14) hx hb dX13_compared_10 (by decide) (fun c => (c (by decide)).elim) (fun _ => ?_)
      exact hret (((smmF (lkX sa) (oneF (lkX sa) uz d)) ps).2.p, ((smmF (lkX sa) (oneF (lkX sa) uz d)) ps).2.n, fb2_1, fc2_1) (⟨by rw [hRR], by rw [hRR], by rw [hRR], by rw [hRR]; exact hM_1⟩) hP hD hS (Nat.le_refl _) (Nat.le_refl _) dX13_compared_13
abbrev rxX13_both (d : Nat) : Room := { frames := 6 * d + 13, cells := 1, slots := 7, locals := 180 * d + 520 }
set_option maxHeartbeats 400000 in
set_option maxRecDepth 100000 in
theorem xX13_both (l : Launch) (E : fx_En) (ks : fz_Ks) (sa : Nat → Int32) (rd : Nat) (tp_ : Nat) (xa : Nat) (xb : Nat) (xc : Nat) (uz : Nat) (ft : Nat → Int32) (fb : Nat → Int32) (fc : Nat → Int32) (ps : Ps) (d : Nat) (hd : d ≤ 5) (hu : uz < 2) (hta : nn (sa 3) ≤ 60) (hft : ∀ i, i < 60 → ft i = (sa (290 + i)).toInt8.toInt32) (hps : Pok (nn (sa 3)) ps) (hTP : TP ps fb fc) (h1 : ∀ (ks : fz_Ks) (sa : Nat → Int32) (rd : Nat) (tp_ : Nat) (xa : Nat) (xb : Nat) (xc : Nat) (uz : Nat) (ft : Nat → Int32) (fb : Nat → Int32) (fc : Nat → Int32) (ps : Ps) (hd : d ≤ 5) (hu : uz < 2) (hta : nn (sa 3) ≤ 60) (hft : ∀ i, i < 60 → ft i = (sa (290 + i)).toInt8.toInt32) (hps : Pok (nn (sa 3)) ps) (hTP : TP ps fb fc), fz_Mv l yX13_unit cX13_unit 1 (rxX13_unit d) 0 0 E ks [.ref rd] [(rd, .inr (13, [.ref tp_, .int (nI (nn (sa 3))), .ref (ks.1 uz), .ref xa, .int (nI ps.p), .int (nI (5 - d))])), (xa, .inr (14, [.ref xb, .ref xc, .int (nI ps.n)])), (xb, .inl (E.2 1, 60, .inl fb)), (xc, .inl (E.2 2, 60, .inl fc))] [(tp_, .inl (E.2 1, 60, .inl ft))] (S := Nat × Nat × (Nat → Int32) × (Nat → Int32)) (fun (u : Nat × Nat × (Nat → Int32) × (Nat → Int32)) => [(rd, .inr (13, [.ref tp_, .int (nI (nn (sa 3))), .ref (ks.1 uz), .ref xa, .int (nI u.1), .int (nI (5 - d))])), (xa, .inr (14, [.ref xb, .ref xc, .int (nI u.2.1)])), (xb, .inl (E.2 1, 60, .inl u.2.2.1)), (xc, .inl (E.2 2, 60, .inl u.2.2.2))]) (fun (u : Nat × Nat × (Nat → Int32) × (Nat → Int32)) => ((oneF (lkX sa) uz d ps)).1 = true ∧ u.1 = ((oneF (lkX sa) uz d ps)).2.p ∧ u.2.1 = ((oneF (lkX sa) uz d ps)).2.n ∧ TP ((oneF (lkX sa) uz d ps)).2 u.2.2.1 u.2.2.2) RX15 (SX := Int32 × Int32 × Int32 × (Nat → Int32) × (Nat → Int32) × Nat × Int32) (fun (u : Int32 × Int32 × Int32 × (Nat → Int32) × (Nat → Int32) × Nat × Int32) => [(rd, .inr (13, [.ref tp_, .int (nI (nn (sa 3))), .ref (ks.1 uz), .ref xa, .int u.1, .int u.2.1])), (xa, .inr (14, [.ref xb, .ref xc, .int u.2.2.1])), (xb, .inl (E.2 1, 60, .inl u.2.2.2.1)), (xc, .inl (E.2 2, 60, .inl u.2.2.2.2.1)), (u.2.2.2.2.2.1, .inr (15, [.null, .null, .null, .null, .null, .int 0, .int u.2.2.2.2.2.2]))]) (fun (q : Nat) (u : Int32 × Int32 × Int32 × (Nat → Int32) × (Nat → Int32) × Nat × Int32) => q = u.2.2.2.2.2.1 ∧ ((oneF (lkX sa) uz d ps)).1 = false ∧ u.2.2.2.2.2.2 = nI ((oneF (lkX sa) uz d ps)).2.p)) : fz_Mv l yX13_both cX13_both 1 (rxX13_both d) 0 0 E ks [.ref rd] [(rd, .inr (13, [.ref tp_, .int (nI (nn (sa 3))), .ref (ks.1 uz), .ref xa, .int (nI ps.p), .int (nI (5 - d))])), (xa, .inr (14, [.ref xb, .ref xc, .int (nI ps.n)])), (xb, .inl (E.2 1, 60, .inl fb)), (xc, .inl (E.2 2, 60, .inl fc))] [(tp_, .inl (E.2 1, 60, .inl ft))] (S := Nat × Nat × (Nat → Int32) × (Nat → Int32)) (fun (u : Nat × Nat × (Nat → Int32) × (Nat → Int32)) => [(rd, .inr (13, [.ref tp_, .int (nI (nn (sa 3))), .ref (ks.1 uz), .ref xa, .int (nI u.1), .int (nI (5 - d))])), (xa, .inr (14, [.ref xb, .ref xc, .int (nI u.2.1)])), (xb, .inl (E.2 1, 60, .inl u.2.2.1)), (xc, .inl (E.2 2, 60, .inl u.2.2.2))]) (fun (u : Nat × Nat × (Nat → Int32) × (Nat → Int32)) => (((bthF (lkX sa) (oneF (lkX sa) uz d)) ps)).1 = true ∧ u.1 = (((bthF (lkX sa) (oneF (lkX sa) uz d)) ps)).2.p ∧ u.2.1 = (((bthF (lkX sa) (oneF (lkX sa) uz d)) ps)).2.n ∧ TP (((bthF (lkX sa) (oneF (lkX sa) uz d)) ps)).2 u.2.2.1 u.2.2.2) RX15 (SX := Int32 × Int32 × Int32 × (Nat → Int32) × (Nat → Int32) × Nat × Int32) (fun (u : Int32 × Int32 × Int32 × (Nat → Int32) × (Nat → Int32) × Nat × Int32) => [(rd, .inr (13, [.ref tp_, .int (nI (nn (sa 3))), .ref (ks.1 uz), .ref xa, .int u.1, .int u.2.1])), (xa, .inr (14, [.ref xb, .ref xc, .int u.2.2.1])), (xb, .inl (E.2 1, 60, .inl u.2.2.2.1)), (xc, .inl (E.2 2, 60, .inl u.2.2.2.2.1)), (u.2.2.2.2.2.1, .inr (15, [.null, .null, .null, .null, .null, .int 0, .int u.2.2.2.2.2.2]))]) (fun (q : Nat) (u : Int32 × Int32 × Int32 × (Nat → Int32) × (Nat → Int32) × Nat × Int32) => q = u.2.2.2.2.2.1 ∧ (((bthF (lkX sa) (oneF (lkX sa) uz d)) ps)).1 = false ∧ u.2.2.2.2.2.2 = nI (((bthF (lkX sa) (oneF (lkX sa) uz d)) ps)).2.p) := by
  refine fz_vW rfl rfl ?_
  intro p e s m args below meth c A ls Q X hnm hE hP hD hR hZ hA hl hret hthrow
  have hx := X.1
  have hb := X.2.1
  have hS : va_S A s.heap s.heap [] := va_S.rf
  replace hP : va_P E.1 clA [(rd, .inr (13, [.ref tp_, .int (nI (nn (sa 3))), .ref (ks.1 uz), .ref xa, .int (nI ps.p), .int (nI (5 - d))])), (xa, .inr (14, [.ref xb, .ref xc, .int (nI ps.n)])), (xb, .inl (E.2 1, 60, .inl fb)), (xc, .inl (E.2 2, 60, .inl fc))] _ := hP
  replace hD : va_D A [(rd, .inr (13, [.ref tp_, .int (nI (nn (sa 3))), .ref (ks.1 uz), .ref xa, .int (nI ps.p), .int (nI (5 - d))])), (xa, .inr (14, [.ref xb, .ref xc, .int (nI ps.n)])), (xb, .inl (E.2 1, 60, .inl fb)), (xc, .inl (E.2 2, 60, .inl fc))] := hD
  replace hl : lv_has ls 1 [(0, .ref rd)] := hl
  have hpl := hps.le60 hta
  refine lv_aload_n hx hb dX13_both_0 rfl (lv_at hl 0 rfl) ?_
  refine fz_cv (vz_runV (As := []) (rest := []) X (xX13_compared l E ks sa rd tp_ xa xb xc uz ft fb fc ps d (by first | assumption | omega) (by first | assumption | omega) (by first | assumption | omega) (by first | assumption | omega) (by first | assumption | omega) (by first | assumption | omega) (by first | assumption | omega) _) (cwV 0 X.2.2.2.2 (lw_V q602 q604 qs6 q83 q605) rfl rfl rfl ⟨rfl, hdX13_compared⟩ ⟨by simp only [rxX13_compared, rxX13_both] <;> omega, by simp only [rxX13_compared, rxX13_both] <;> omega⟩) (fx_preV (fz_pre hE hP hD hS hR hZ hA [0, 1, 2, 3] rfl rfl (fx_rcr 0 rfl fx_rc0)) (va_recv hE.1 hP (ci := 13) (q0 := 0) rfl rfl)) rfl rfl hl.1 rfl (lv_room (Nat.le_of_ble_eq_true rfl)) dX13_both_1 ⟨Nat.le_of_ble_eq_true rfl, Nat.le_of_ble_eq_true rfl⟩) hP hD hS hA [0, 1, 2, 3] rfl rfl (fun qx_1 u H locs ce hqx_1 hP hD hS hce hcv hcl => ?_) (fun u H locs hq_1 hP hD hS => ?_)
  · -- thrown
    obtain ⟨at9_1x, op9_1x, n9_1x, fb9_1x, fc9_1x, q9_1x, pl9_1x⟩ := u
    replace hP : va_P E.1 clA [(rd, .inr (13, [.ref tp_, .int (nI (nn (sa 3))), .ref (ks.1 uz), .ref xa, .int at9_1x, .int op9_1x])), (xa, .inr (14, [.ref xb, .ref xc, .int n9_1x])), (xb, .inl (E.2 1, 60, .inl fb9_1x)), (xc, .inl (E.2 2, 60, .inl fc9_1x)), (q9_1x, .inr (15, [.null, .null, .null, .null, .null, .int 0, .int pl9_1x]))] _ := hP
    replace hD : va_D A [(rd, .inr (13, [.ref tp_, .int (nI (nn (sa 3))), .ref (ks.1 uz), .ref xa, .int at9_1x, .int op9_1x])), (xa, .inr (14, [.ref xb, .ref xc, .int n9_1x])), (xb, .inl (E.2 1, 60, .inl fb9_1x)), (xc, .inl (E.2 2, 60, .inl fc9_1x)), (q9_1x, .inr (15, [.null, .null, .null, .null, .null, .int 0, .int pl9_1x]))] := hD
    replace hqx_1 : qx_1 = q9_1x ∧ (((cmpF (lkX sa) (oneF (lkX sa) uz d)) ps)).1 = false ∧ pl9_1x = nI (((cmpF (lkX sa) (oneF (lkX sa) uz d)) ps)).2.p := hqx_1
    have hRR : ((bthF (lkX sa) (oneF (lkX sa) uz d)) ps) = (false, ((cmpF (lkX sa) (oneF (lkX sa) uz d)) ps).2) := by show sqF (lkX sa) sgB (cmpF (lkX sa) (oneF (lkX sa) uz d)) ps = _; rw [sqF, if_neg (by rw [hqx_1.2.1]; exact Bool.false_ne_true)]
    exact hthrow _ (at9_1x, op9_1x, n9_1x, fb9_1x, fc9_1x, q9_1x, pl9_1x) (⟨hqx_1.1, by rw [hRR], by rw [hRR]; exact hqx_1.2.2⟩) hP hD hS (Nat.le_refl _) (Nat.le_refl _) hce hcv hcl
  · -- back
    obtain ⟨at2_1, n2_1, fb2_1, fc2_1⟩ := u
    replace hP : va_P E.1 clA [(rd, .inr (13, [.ref tp_, .int (nI (nn (sa 3))), .ref (ks.1 uz), .ref xa, .int (nI at2_1), .int (nI (5 - d))])), (xa, .inr (14, [.ref xb, .ref xc, .int (nI n2_1)])), (xb, .inl (E.2 1, 60, .inl fb2_1)), (xc, .inl (E.2 2, 60, .inl fc2_1))] _ := hP
    replace hD : va_D A [(rd, .inr (13, [.ref tp_, .int (nI (nn (sa 3))), .ref (ks.1 uz), .ref xa, .int (nI at2_1), .int (nI (5 - d))])), (xa, .inr (14, [.ref xb, .ref xc, .int (nI n2_1)])), (xb, .inl (E.2 1, 60, .inl fb2_1)), (xc, .inl (E.2 2, 60, .inl fc2_1))] := hD
    replace hq_1 : (((cmpF (lkX sa) (oneF (lkX sa) uz d)) ps)).1 = true ∧ at2_1 = (((cmpF (lkX sa) (oneF (lkX sa) uz d)) ps)).2.p ∧ n2_1 = (((cmpF (lkX sa) (oneF (lkX sa) uz d)) ps)).2.n ∧ TP (((cmpF (lkX sa) (oneF (lkX sa) uz d)) ps)).2 fb2_1 fc2_1 := hq_1
    obtain ⟨hb_1, ha_1, hn_1, hM_1⟩ := hq_1
    subst ha_1 hn_1
    have loop_4 : ∀ (n_4 : Nat) (q : Ps) (f : Nat) (fbv : Nat → Int32) (fcv : Nat → Int32), (f < n_4) → (lpF (lkX sa) sgB (cmpF (lkX sa) (oneF (lkX sa) uz d)) f q = lpF (lkX sa) sgB (cmpF (lkX sa) (oneF (lkX sa) uz d)) 61 ((cmpF (lkX sa) (oneF (lkX sa) uz d)) ps).2) → (nn (sa 3) < q.p + f) → (Pok (nn (sa 3)) q) → (1 ≤ dpT q.tc q.n) → (TP q fbv fcv) → ∀ (H : Heap) (locs : List Loc), va_P E.1 clA [(rd, .inr (13, [.ref tp_, .int (nI (nn (sa 3))), .ref (ks.1 uz), .ref xa, .int (nI q.p), .int (nI (5 - d))])), (xa, .inr (14, [.ref xb, .ref xc, .int (nI q.n)])), (xb, .inl (E.2 1, 60, .inl fbv)), (xc, .inl (E.2 2, 60, .inl fcv))] H → va_D A [(rd, .inr (13, [.ref tp_, .int (nI (nn (sa 3))), .ref (ks.1 uz), .ref xa, .int (nI q.p), .int (nI (5 - d))])), (xa, .inr (14, [.ref xb, .ref xc, .int (nI q.n)])), (xb, .inl (E.2 1, 60, .inl fbv)), (xc, .inl (E.2 2, 60, .inl fcv))] → va_S A s.heap H locs → ∀ (ls : Array Slot), lv_has ls 1 [(0, .ref rd)] → W p l e (rxX13_both d) s m args below meth c H locs 0 0 Q (F0 m 4 ls []) := by
      intro n_4
      induction n_4 with
      | zero => intro q f fbv fcv hm_4; exact absurd hm_4 (Nat.not_lt_zero _)
      | succ n_4 ih_4 =>
        intro q f fbv fcv hm_4 hf hff hq hdq hTq H locs hP hD hS ls hl
        have hql := hq.le60 hta
        refine lv_aload_n hx hb dX13_both_4 rfl (lv_at hl 0 rfl) ?_
        refine lv_bipush (v := 38) hx hb dX13_both_5 rfl ?_
        refine fx_ci (va_runV (As := [.int 38]) (rest := []) X (xX13_takes l E ks sa rd tp_ xa uz q.p (5 - d) ft 38 (by first | assumption | omega) (by first | assumption | omega) hql.1 _) (cwV 1 X.2.2.2.2 (lw_V q700 q702 qs14 q83 q703) rfl rfl rfl ⟨rfl, hdX13_takes⟩ ⟨by simp only [rxX13_takes, rxX13_both] <;> omega, by simp only [rxX13_takes, rxX13_both] <;> omega⟩) (fx_preV (fx_pre hE hP hD hS hR [0] rfl rfl (fx_rcr 0 rfl fx_rc0)) (va_recv hE.1 hP (ci := 13) (q0 := 0) rfl rfl)) rfl rfl hl.1 rfl (lv_room (Nat.le_of_ble_eq_true rfl)) dX13_both_7 ⟨Nat.le_of_ble_eq_true rfl, Nat.le_of_ble_eq_true rfl⟩) hP hD hS hA [0] rfl rfl (fun r_7 u H locs hq_7 hP hD hS => ?_)
        obtain ⟨at2_7, rfl⟩ : ∃ z, z = u := ⟨_, rfl⟩
        replace hP : va_P E.1 clA [(rd, .inr (13, [.ref tp_, .int (nI (nn (sa 3))), .ref (ks.1 uz), .ref xa, .int (nI at2_7), .int (nI (5 - d))])), (xa, .inr (14, [.ref xb, .ref xc, .int (nI q.n)])), (xb, .inl (E.2 1, 60, .inl fbv)), (xc, .inl (E.2 2, 60, .inl fcv))] _ := hP
        replace hD : va_D A [(rd, .inr (13, [.ref tp_, .int (nI (nn (sa 3))), .ref (ks.1 uz), .ref xa, .int (nI at2_7), .int (nI (5 - d))])), (xa, .inr (14, [.ref xb, .ref xc, .int (nI q.n)])), (xb, .inl (E.2 1, 60, .inl fbv)), (xc, .inl (E.2 2, 60, .inl fcv))] := hD
        replace hq_7 : r_7 = fx_b (lkX sa q.p = 38) ∧ (lkX sa q.p = 38 → at2_7 = q.p + 1) ∧ (¬ lkX sa q.p = 38 → at2_7 = q.p) := hq_7
        rcases fx_bc hq_7.1 with ⟨hb_7, hr_7⟩ | ⟨hb_7, hr_7⟩
        · -- True
          subst hr_7
          have hsg : sgB (lkX sa q.p) = true := decide_eq_true hb_7
          have hsk := sgB_ok _ hsg
          have hlt := lkXH _ (sgB_ok.nm1 hsg)
          have hsc := sgn_c sgB_ok hsg
          obtain ⟨f1, rfl⟩ : ∃ z, f = z + 1 := ⟨f - 1, by omega⟩
          have ha_7 := hq_7.2.1 hb_7
          subst ha_7
          refine lv_if_eq (tgt := 30) hx hb dX13_both_10 (by decide) (fun c => absurd c (by decide)) (fun _ => ?_)
          refine lv_aload_n hx hb dX13_both_13 rfl (lv_at hl 0 rfl) ?_
          refine fz_cv (vz_runV (As := []) (rest := []) X (xX13_compared l E ks sa rd tp_ xa xb xc uz ft fbv fcv q.go d (by first | assumption | omega) (by first | assumption | omega) (by first | assumption | omega) (by first | assumption | omega) (go_ok hq hlt) (show TP q.go fbv fcv from hTq) (by first | assumption | omega) _) (cwV 0 X.2.2.2.2 (lw_V q602 q604 qs6 q83 q605) rfl rfl rfl ⟨rfl, hdX13_compared⟩ ⟨by simp only [rxX13_compared, rxX13_both] <;> omega, by simp only [rxX13_compared, rxX13_both] <;> omega⟩) (fx_preV (fz_pre hE hP hD hS hR hZ hA [0, 1, 2, 3] rfl rfl (fx_rcr 0 rfl fx_rc0)) (va_recv hE.1 hP (ci := 13) (q0 := 0) rfl rfl)) rfl rfl hl.1 rfl (lv_room (Nat.le_of_ble_eq_true rfl)) dX13_both_14 ⟨Nat.le_of_ble_eq_true rfl, Nat.le_of_ble_eq_true rfl⟩) hP hD hS hA [0, 1, 2, 3] rfl rfl (fun qx_14 u H locs ce hqx_14 hP hD hS hce hcv hcl => ?_) (fun u H locs hq_14 hP hD hS => ?_)
          · -- thrown
            obtain ⟨at9_14x, op9_14x, n9_14x, fb9_14x, fc9_14x, q9_14x, pl9_14x⟩ := u
            replace hP : va_P E.1 clA [(rd, .inr (13, [.ref tp_, .int (nI (nn (sa 3))), .ref (ks.1 uz), .ref xa, .int at9_14x, .int op9_14x])), (xa, .inr (14, [.ref xb, .ref xc, .int n9_14x])), (xb, .inl (E.2 1, 60, .inl fb9_14x)), (xc, .inl (E.2 2, 60, .inl fc9_14x)), (q9_14x, .inr (15, [.null, .null, .null, .null, .null, .int 0, .int pl9_14x]))] _ := hP
            replace hD : va_D A [(rd, .inr (13, [.ref tp_, .int (nI (nn (sa 3))), .ref (ks.1 uz), .ref xa, .int at9_14x, .int op9_14x])), (xa, .inr (14, [.ref xb, .ref xc, .int n9_14x])), (xb, .inl (E.2 1, 60, .inl fb9_14x)), (xc, .inl (E.2 2, 60, .inl fc9_14x)), (q9_14x, .inr (15, [.null, .null, .null, .null, .null, .int 0, .int pl9_14x]))] := hD
            replace hqx_14 : qx_14 = q9_14x ∧ (((cmpF (lkX sa) (oneF (lkX sa) uz d)) q.go)).1 = false ∧ pl9_14x = nI (((cmpF (lkX sa) (oneF (lkX sa) uz d)) q.go)).2.p := hqx_14
            have hRR : ((bthF (lkX sa) (oneF (lkX sa) uz d)) ps) = (false, ((cmpF (lkX sa) (oneF (lkX sa) uz d)) q.go).2) := by show sqF (lkX sa) sgB (cmpF (lkX sa) (oneF (lkX sa) uz d)) ps = _; rw [sqF, if_pos hb_1, ← hf, lpF_n hsg (by rw [hqx_14.2.1]; exact Bool.false_ne_true)]
            exact hthrow _ (at9_14x, op9_14x, n9_14x, fb9_14x, fc9_14x, q9_14x, pl9_14x) (⟨hqx_14.1, by rw [hRR], by rw [hRR]; exact hqx_14.2.2⟩) hP hD hS (Nat.le_refl _) (Nat.le_refl _) hce hcv hcl
          · -- back
            obtain ⟨at2_14, n2_14, fb2_14, fc2_14⟩ := u
            replace hP : va_P E.1 clA [(rd, .inr (13, [.ref tp_, .int (nI (nn (sa 3))), .ref (ks.1 uz), .ref xa, .int (nI at2_14), .int (nI (5 - d))])), (xa, .inr (14, [.ref xb, .ref xc, .int (nI n2_14)])), (xb, .inl (E.2 1, 60, .inl fb2_14)), (xc, .inl (E.2 2, 60, .inl fc2_14))] _ := hP
            replace hD : va_D A [(rd, .inr (13, [.ref tp_, .int (nI (nn (sa 3))), .ref (ks.1 uz), .ref xa, .int (nI at2_14), .int (nI (5 - d))])), (xa, .inr (14, [.ref xb, .ref xc, .int (nI n2_14)])), (xb, .inl (E.2 1, 60, .inl fb2_14)), (xc, .inl (E.2 2, 60, .inl fc2_14))] := hD
            replace hq_14 : (((cmpF (lkX sa) (oneF (lkX sa) uz d)) q.go)).1 = true ∧ at2_14 = (((cmpF (lkX sa) (oneF (lkX sa) uz d)) q.go)).2.p ∧ n2_14 = (((cmpF (lkX sa) (oneF (lkX sa) uz d)) q.go)).2.n ∧ TP (((cmpF (lkX sa) (oneF (lkX sa) uz d)) q.go)).2 fb2_14 fc2_14 := hq_14
            obtain ⟨hb_14, ha_14, hn_14, hM_14⟩ := hq_14
            subst ha_14 hn_14
            have hst := lp_step (cmp_pp lkXH) hq hdq hsk.2 hlt hb_14
            have hin : ((cmpF (lkX sa) (oneF (lkX sa) uz d)) q.go).2.n + 1 ≤ 60 := (hst.1.le60 hta).2
            refine lv_aload_n hx hb dX13_both_17 rfl (lv_at hl 0 rfl) ?_
            refine fx_get X hE hP 0 rfl rfl 3 rfl q574 rfl rfl dX13_both_18 ?_
            refine lv_bipush (v := 38) hx hb dX13_both_21 rfl ?_
            refine fx_ti (show 38 = nI (nn (lkX sa q.p)) from hb_7.symm.trans hsk.1) ?_
            refine lv_iconst (v := 0) hx hb dX13_both_23 rfl ?_
            refine fx_cv (va_runV (As := [.int (nI (nn (lkX sa q.p))), .int 0]) (rest := []) X (xX14_add l E xa xb xc (((cmpF (lkX sa) (oneF (lkX sa) uz d)) q.go).2.n) fb2_14 fc2_14 (nn (lkX sa q.p)) 0 (by omega) hsc (by decide) _) (cwV 2 X.2.2.2.2 (lw_V q696 q697 q698 q84 q699) rfl rfl rfl ⟨rfl, hdX14_add⟩ ⟨by simp only [rxX14_add, rxX13_both] <;> omega, by simp only [rxX14_add, rxX13_both] <;> omega⟩) (fx_preV (fx_pre hE hP hD hS hR [1, 2, 3] rfl rfl fx_rc0) (va_recv hE.1 hP (ci := 14) (q0 := 1) rfl rfl)) rfl rfl hl.1 rfl (lv_room (Nat.le_of_ble_eq_true rfl)) dX13_both_24 ⟨Nat.le_of_ble_eq_true rfl, Nat.le_of_ble_eq_true rfl⟩) hP hD hS hA [1, 2, 3] rfl rfl (fun u H locs hq_24 hP hD hS => ?_)
            replace hP : va_P E.1 clA [(rd, .inr (13, [.ref tp_, .int (nI (nn (sa 3))), .ref (ks.1 uz), .ref xa, .int (nI (((cmpF (lkX sa) (oneF (lkX sa) uz d)) q.go).2.p)), .int (nI (5 - d))])), (xa, .inr (14, [.ref xb, .ref xc, .int (nI ((((cmpF (lkX sa) (oneF (lkX sa) uz d)) q.go).2.n) + 1))])), (xb, .inl (E.2 1, 60, .inl (upd fb2_14 (((cmpF (lkX sa) (oneF (lkX sa) uz d)) q.go).2.n) (nI (nn (lkX sa q.p)))))), (xc, .inl (E.2 2, 60, .inl (upd fc2_14 (((cmpF (lkX sa) (oneF (lkX sa) uz d)) q.go).2.n) (nI 0))))] _ := hP
            replace hD : va_D A [(rd, .inr (13, [.ref tp_, .int (nI (nn (sa 3))), .ref (ks.1 uz), .ref xa, .int (nI (((cmpF (lkX sa) (oneF (lkX sa) uz d)) q.go).2.p)), .int (nI (5 - d))])), (xa, .inr (14, [.ref xb, .ref xc, .int (nI ((((cmpF (lkX sa) (oneF (lkX sa) uz d)) q.go).2.n) + 1))])), (xb, .inl (E.2 1, 60, .inl (upd fb2_14 (((cmpF (lkX sa) (oneF (lkX sa) uz d)) q.go).2.n) (nI (nn (lkX sa q.p)))))), (xc, .inl (E.2 2, 60, .inl (upd fc2_14 (((cmpF (lkX sa) (oneF (lkX sa) uz d)) q.go).2.n) (nI 0))))] := hD
            replace hq_24 : True := hq_24
            refine lv_goto (tgt := 4) hx hb dX13_both_27 (by decide) ?_
            exact ih_4 (((cmpF (lkX sa) (oneF (lkX sa) uz d)) q.go).2.add (nn (lkX sa q.p)) 0) f1 (upd fb2_14 (((cmpF (lkX sa) (oneF (lkX sa) uz d)) q.go).2.n) (nI (nn (lkX sa q.p)))) (upd fc2_14 (((cmpF (lkX sa) (oneF (lkX sa) uz d)) q.go).2.n) (nI 0)) (by omega) ((lpF_t hsg hb_14).symm.trans hf) (by have := hst.2.2.1; omega) hst.1 hst.2.1 (TP_add hM_14) _ _ hP hD hS ls (lv_sub hl [0] rfl)
        · -- False
          subst hr_7
          have hsn : sgB (lkX sa q.p) = false := decide_eq_false hb_7
          have hRR : ((bthF (lkX sa) (oneF (lkX sa) uz d)) ps) = (true, q) := by show sqF (lkX sa) sgB (cmpF (lkX sa) (oneF (lkX sa) uz d)) ps = _; rw [sqF, if_pos hb_1, ← hf, lpF_f hsn]
          have ha_7 := hq_7.2.2 hb_7
          subst ha_7
          refine lv_if_eq (tgt := 30) hx hb dX13_both_10 (by decide) (fun _ => ?_) (fun c => (c (by decide)).elim)
          exact hret (q.p, q.n, fbv, fcv) (⟨by rw [hRR], by rw [hRR], by rw [hRR], by rw [hRR]; exact hTq⟩) hP hD hS (Nat.le_refl _) (Nat.le_refl _) dX13_both_30
    exact loop_4 (61 + 1) (((cmpF (lkX sa) (oneF (lkX sa) uz d)) ps).2) 61 fb2_1 fc2_1 (Nat.lt_succ_self _) rfl (by omega) ((cmp_pp lkXH ps hps hb_1).1) (by have := (cmp_pp lkXH ps hps hb_1).2.2.2; omega) hM_1 _ _ hP hD hS ls (lv_sub hl [0] rfl)
abbrev rxX13_either (d : Nat) : Room := { frames := 6 * d + 14, cells := 1, slots := 7, locals := 180 * d + 550 }
set_option maxHeartbeats 400000 in
set_option maxRecDepth 100000 in
theorem xX13_either (l : Launch) (E : fx_En) (ks : fz_Ks) (sa : Nat → Int32) (rd : Nat) (tp_ : Nat) (xa : Nat) (xb : Nat) (xc : Nat) (uz : Nat) (ft : Nat → Int32) (fb : Nat → Int32) (fc : Nat → Int32) (ps : Ps) (d : Nat) (hd : d ≤ 5) (hu : uz < 2) (hta : nn (sa 3) ≤ 60) (hft : ∀ i, i < 60 → ft i = (sa (290 + i)).toInt8.toInt32) (hps : Pok (nn (sa 3)) ps) (hTP : TP ps fb fc) (h1 : ∀ (ks : fz_Ks) (sa : Nat → Int32) (rd : Nat) (tp_ : Nat) (xa : Nat) (xb : Nat) (xc : Nat) (uz : Nat) (ft : Nat → Int32) (fb : Nat → Int32) (fc : Nat → Int32) (ps : Ps) (hd : d ≤ 5) (hu : uz < 2) (hta : nn (sa 3) ≤ 60) (hft : ∀ i, i < 60 → ft i = (sa (290 + i)).toInt8.toInt32) (hps : Pok (nn (sa 3)) ps) (hTP : TP ps fb fc), fz_Mv l yX13_unit cX13_unit 1 (rxX13_unit d) 0 0 E ks [.ref rd] [(rd, .inr (13, [.ref tp_, .int (nI (nn (sa 3))), .ref (ks.1 uz), .ref xa, .int (nI ps.p), .int (nI (5 - d))])), (xa, .inr (14, [.ref xb, .ref xc, .int (nI ps.n)])), (xb, .inl (E.2 1, 60, .inl fb)), (xc, .inl (E.2 2, 60, .inl fc))] [(tp_, .inl (E.2 1, 60, .inl ft))] (S := Nat × Nat × (Nat → Int32) × (Nat → Int32)) (fun (u : Nat × Nat × (Nat → Int32) × (Nat → Int32)) => [(rd, .inr (13, [.ref tp_, .int (nI (nn (sa 3))), .ref (ks.1 uz), .ref xa, .int (nI u.1), .int (nI (5 - d))])), (xa, .inr (14, [.ref xb, .ref xc, .int (nI u.2.1)])), (xb, .inl (E.2 1, 60, .inl u.2.2.1)), (xc, .inl (E.2 2, 60, .inl u.2.2.2))]) (fun (u : Nat × Nat × (Nat → Int32) × (Nat → Int32)) => ((oneF (lkX sa) uz d ps)).1 = true ∧ u.1 = ((oneF (lkX sa) uz d ps)).2.p ∧ u.2.1 = ((oneF (lkX sa) uz d ps)).2.n ∧ TP ((oneF (lkX sa) uz d ps)).2 u.2.2.1 u.2.2.2) RX15 (SX := Int32 × Int32 × Int32 × (Nat → Int32) × (Nat → Int32) × Nat × Int32) (fun (u : Int32 × Int32 × Int32 × (Nat → Int32) × (Nat → Int32) × Nat × Int32) => [(rd, .inr (13, [.ref tp_, .int (nI (nn (sa 3))), .ref (ks.1 uz), .ref xa, .int u.1, .int u.2.1])), (xa, .inr (14, [.ref xb, .ref xc, .int u.2.2.1])), (xb, .inl (E.2 1, 60, .inl u.2.2.2.1)), (xc, .inl (E.2 2, 60, .inl u.2.2.2.2.1)), (u.2.2.2.2.2.1, .inr (15, [.null, .null, .null, .null, .null, .int 0, .int u.2.2.2.2.2.2]))]) (fun (q : Nat) (u : Int32 × Int32 × Int32 × (Nat → Int32) × (Nat → Int32) × Nat × Int32) => q = u.2.2.2.2.2.1 ∧ ((oneF (lkX sa) uz d ps)).1 = false ∧ u.2.2.2.2.2.2 = nI ((oneF (lkX sa) uz d ps)).2.p)) : fz_Mv l yX13_either cX13_either 1 (rxX13_either d) 0 0 E ks [.ref rd] [(rd, .inr (13, [.ref tp_, .int (nI (nn (sa 3))), .ref (ks.1 uz), .ref xa, .int (nI ps.p), .int (nI (5 - d))])), (xa, .inr (14, [.ref xb, .ref xc, .int (nI ps.n)])), (xb, .inl (E.2 1, 60, .inl fb)), (xc, .inl (E.2 2, 60, .inl fc))] [(tp_, .inl (E.2 1, 60, .inl ft))] (S := Nat × Nat × (Nat → Int32) × (Nat → Int32)) (fun (u : Nat × Nat × (Nat → Int32) × (Nat → Int32)) => [(rd, .inr (13, [.ref tp_, .int (nI (nn (sa 3))), .ref (ks.1 uz), .ref xa, .int (nI u.1), .int (nI (5 - d))])), (xa, .inr (14, [.ref xb, .ref xc, .int (nI u.2.1)])), (xb, .inl (E.2 1, 60, .inl u.2.2.1)), (xc, .inl (E.2 2, 60, .inl u.2.2.2))]) (fun (u : Nat × Nat × (Nat → Int32) × (Nat → Int32)) => (((whlF (lkX sa) (oneF (lkX sa) uz d)) ps)).1 = true ∧ u.1 = (((whlF (lkX sa) (oneF (lkX sa) uz d)) ps)).2.p ∧ u.2.1 = (((whlF (lkX sa) (oneF (lkX sa) uz d)) ps)).2.n ∧ TP (((whlF (lkX sa) (oneF (lkX sa) uz d)) ps)).2 u.2.2.1 u.2.2.2) RX15 (SX := Int32 × Int32 × Int32 × (Nat → Int32) × (Nat → Int32) × Nat × Int32) (fun (u : Int32 × Int32 × Int32 × (Nat → Int32) × (Nat → Int32) × Nat × Int32) => [(rd, .inr (13, [.ref tp_, .int (nI (nn (sa 3))), .ref (ks.1 uz), .ref xa, .int u.1, .int u.2.1])), (xa, .inr (14, [.ref xb, .ref xc, .int u.2.2.1])), (xb, .inl (E.2 1, 60, .inl u.2.2.2.1)), (xc, .inl (E.2 2, 60, .inl u.2.2.2.2.1)), (u.2.2.2.2.2.1, .inr (15, [.null, .null, .null, .null, .null, .int 0, .int u.2.2.2.2.2.2]))]) (fun (q : Nat) (u : Int32 × Int32 × Int32 × (Nat → Int32) × (Nat → Int32) × Nat × Int32) => q = u.2.2.2.2.2.1 ∧ (((whlF (lkX sa) (oneF (lkX sa) uz d)) ps)).1 = false ∧ u.2.2.2.2.2.2 = nI (((whlF (lkX sa) (oneF (lkX sa) uz d)) ps)).2.p) := by
  refine fz_vW rfl rfl ?_
  intro p e s m args below meth c A ls Q X hnm hE hP hD hR hZ hA hl hret hthrow
  have hx := X.1
  have hb := X.2.1
  have hS : va_S A s.heap s.heap [] := va_S.rf
  replace hP : va_P E.1 clA [(rd, .inr (13, [.ref tp_, .int (nI (nn (sa 3))), .ref (ks.1 uz), .ref xa, .int (nI ps.p), .int (nI (5 - d))])), (xa, .inr (14, [.ref xb, .ref xc, .int (nI ps.n)])), (xb, .inl (E.2 1, 60, .inl fb)), (xc, .inl (E.2 2, 60, .inl fc))] _ := hP
  replace hD : va_D A [(rd, .inr (13, [.ref tp_, .int (nI (nn (sa 3))), .ref (ks.1 uz), .ref xa, .int (nI ps.p), .int (nI (5 - d))])), (xa, .inr (14, [.ref xb, .ref xc, .int (nI ps.n)])), (xb, .inl (E.2 1, 60, .inl fb)), (xc, .inl (E.2 2, 60, .inl fc))] := hD
  replace hl : lv_has ls 1 [(0, .ref rd)] := hl
  have hpl := hps.le60 hta
  refine lv_aload_n hx hb dX13_either_0 rfl (lv_at hl 0 rfl) ?_
  refine fz_cv (vz_runV (As := []) (rest := []) X (xX13_both l E ks sa rd tp_ xa xb xc uz ft fb fc ps d (by first | assumption | omega) (by first | assumption | omega) (by first | assumption | omega) (by first | assumption | omega) (by first | assumption | omega) (by first | assumption | omega) (by first | assumption | omega) _) (cwV 0 X.2.2.2.2 (lw_V q598 q600 qs5 q83 q601) rfl rfl rfl ⟨rfl, hdX13_both⟩ ⟨by simp only [rxX13_both, rxX13_either] <;> omega, by simp only [rxX13_both, rxX13_either] <;> omega⟩) (fx_preV (fz_pre hE hP hD hS hR hZ hA [0, 1, 2, 3] rfl rfl (fx_rcr 0 rfl fx_rc0)) (va_recv hE.1 hP (ci := 13) (q0 := 0) rfl rfl)) rfl rfl hl.1 rfl (lv_room (Nat.le_of_ble_eq_true rfl)) dX13_either_1 ⟨Nat.le_of_ble_eq_true rfl, Nat.le_of_ble_eq_true rfl⟩) hP hD hS hA [0, 1, 2, 3] rfl rfl (fun qx_1 u H locs ce hqx_1 hP hD hS hce hcv hcl => ?_) (fun u H locs hq_1 hP hD hS => ?_)
  · -- thrown
    obtain ⟨at9_1x, op9_1x, n9_1x, fb9_1x, fc9_1x, q9_1x, pl9_1x⟩ := u
    replace hP : va_P E.1 clA [(rd, .inr (13, [.ref tp_, .int (nI (nn (sa 3))), .ref (ks.1 uz), .ref xa, .int at9_1x, .int op9_1x])), (xa, .inr (14, [.ref xb, .ref xc, .int n9_1x])), (xb, .inl (E.2 1, 60, .inl fb9_1x)), (xc, .inl (E.2 2, 60, .inl fc9_1x)), (q9_1x, .inr (15, [.null, .null, .null, .null, .null, .int 0, .int pl9_1x]))] _ := hP
    replace hD : va_D A [(rd, .inr (13, [.ref tp_, .int (nI (nn (sa 3))), .ref (ks.1 uz), .ref xa, .int at9_1x, .int op9_1x])), (xa, .inr (14, [.ref xb, .ref xc, .int n9_1x])), (xb, .inl (E.2 1, 60, .inl fb9_1x)), (xc, .inl (E.2 2, 60, .inl fc9_1x)), (q9_1x, .inr (15, [.null, .null, .null, .null, .null, .int 0, .int pl9_1x]))] := hD
    replace hqx_1 : qx_1 = q9_1x ∧ (((bthF (lkX sa) (oneF (lkX sa) uz d)) ps)).1 = false ∧ pl9_1x = nI (((bthF (lkX sa) (oneF (lkX sa) uz d)) ps)).2.p := hqx_1
    have hRR : ((whlF (lkX sa) (oneF (lkX sa) uz d)) ps) = (false, ((bthF (lkX sa) (oneF (lkX sa) uz d)) ps).2) := by show sqF (lkX sa) sgW (bthF (lkX sa) (oneF (lkX sa) uz d)) ps = _; rw [sqF, if_neg (by rw [hqx_1.2.1]; exact Bool.false_ne_true)]
    exact hthrow _ (at9_1x, op9_1x, n9_1x, fb9_1x, fc9_1x, q9_1x, pl9_1x) (⟨hqx_1.1, by rw [hRR], by rw [hRR]; exact hqx_1.2.2⟩) hP hD hS (Nat.le_refl _) (Nat.le_refl _) hce hcv hcl
  · -- back
    obtain ⟨at2_1, n2_1, fb2_1, fc2_1⟩ := u
    replace hP : va_P E.1 clA [(rd, .inr (13, [.ref tp_, .int (nI (nn (sa 3))), .ref (ks.1 uz), .ref xa, .int (nI at2_1), .int (nI (5 - d))])), (xa, .inr (14, [.ref xb, .ref xc, .int (nI n2_1)])), (xb, .inl (E.2 1, 60, .inl fb2_1)), (xc, .inl (E.2 2, 60, .inl fc2_1))] _ := hP
    replace hD : va_D A [(rd, .inr (13, [.ref tp_, .int (nI (nn (sa 3))), .ref (ks.1 uz), .ref xa, .int (nI at2_1), .int (nI (5 - d))])), (xa, .inr (14, [.ref xb, .ref xc, .int (nI n2_1)])), (xb, .inl (E.2 1, 60, .inl fb2_1)), (xc, .inl (E.2 2, 60, .inl fc2_1))] := hD
    replace hq_1 : (((bthF (lkX sa) (oneF (lkX sa) uz d)) ps)).1 = true ∧ at2_1 = (((bthF (lkX sa) (oneF (lkX sa) uz d)) ps)).2.p ∧ n2_1 = (((bthF (lkX sa) (oneF (lkX sa) uz d)) ps)).2.n ∧ TP (((bthF (lkX sa) (oneF (lkX sa) uz d)) ps)).2 fb2_1 fc2_1 := hq_1
    obtain ⟨hb_1, ha_1, hn_1, hM_1⟩ := hq_1
    subst ha_1 hn_1
    have loop_4 : ∀ (n_4 : Nat) (q : Ps) (f : Nat) (fbv : Nat → Int32) (fcv : Nat → Int32), (f < n_4) → (lpF (lkX sa) sgW (bthF (lkX sa) (oneF (lkX sa) uz d)) f q = lpF (lkX sa) sgW (bthF (lkX sa) (oneF (lkX sa) uz d)) 61 ((bthF (lkX sa) (oneF (lkX sa) uz d)) ps).2) → (nn (sa 3) < q.p + f) → (Pok (nn (sa 3)) q) → (1 ≤ dpT q.tc q.n) → (TP q fbv fcv) → ∀ (H : Heap) (locs : List Loc), va_P E.1 clA [(rd, .inr (13, [.ref tp_, .int (nI (nn (sa 3))), .ref (ks.1 uz), .ref xa, .int (nI q.p), .int (nI (5 - d))])), (xa, .inr (14, [.ref xb, .ref xc, .int (nI q.n)])), (xb, .inl (E.2 1, 60, .inl fbv)), (xc, .inl (E.2 2, 60, .inl fcv))] H → va_D A [(rd, .inr (13, [.ref tp_, .int (nI (nn (sa 3))), .ref (ks.1 uz), .ref xa, .int (nI q.p), .int (nI (5 - d))])), (xa, .inr (14, [.ref xb, .ref xc, .int (nI q.n)])), (xb, .inl (E.2 1, 60, .inl fbv)), (xc, .inl (E.2 2, 60, .inl fcv))] → va_S A s.heap H locs → ∀ (ls : Array Slot), lv_has ls 1 [(0, .ref rd)] → W p l e (rxX13_either d) s m args below meth c H locs 0 0 Q (F0 m 4 ls []) := by
      intro n_4
      induction n_4 with
      | zero => intro q f fbv fcv hm_4; exact absurd hm_4 (Nat.not_lt_zero _)
      | succ n_4 ih_4 =>
        intro q f fbv fcv hm_4 hf hff hq hdq hTq H locs hP hD hS ls hl
        have hql := hq.le60 hta
        refine lv_aload_n hx hb dX13_either_4 rfl (lv_at hl 0 rfl) ?_
        refine lv_bipush (v := 124) hx hb dX13_either_5 rfl ?_
        refine fx_ci (va_runV (As := [.int 124]) (rest := []) X (xX13_takes l E ks sa rd tp_ xa uz q.p (5 - d) ft 124 (by first | assumption | omega) (by first | assumption | omega) hql.1 _) (cwV 1 X.2.2.2.2 (lw_V q700 q702 qs14 q83 q703) rfl rfl rfl ⟨rfl, hdX13_takes⟩ ⟨by simp only [rxX13_takes, rxX13_either] <;> omega, by simp only [rxX13_takes, rxX13_either] <;> omega⟩) (fx_preV (fx_pre hE hP hD hS hR [0] rfl rfl (fx_rcr 0 rfl fx_rc0)) (va_recv hE.1 hP (ci := 13) (q0 := 0) rfl rfl)) rfl rfl hl.1 rfl (lv_room (Nat.le_of_ble_eq_true rfl)) dX13_either_7 ⟨Nat.le_of_ble_eq_true rfl, Nat.le_of_ble_eq_true rfl⟩) hP hD hS hA [0] rfl rfl (fun r_7 u H locs hq_7 hP hD hS => ?_)
        obtain ⟨at2_7, rfl⟩ : ∃ z, z = u := ⟨_, rfl⟩
        replace hP : va_P E.1 clA [(rd, .inr (13, [.ref tp_, .int (nI (nn (sa 3))), .ref (ks.1 uz), .ref xa, .int (nI at2_7), .int (nI (5 - d))])), (xa, .inr (14, [.ref xb, .ref xc, .int (nI q.n)])), (xb, .inl (E.2 1, 60, .inl fbv)), (xc, .inl (E.2 2, 60, .inl fcv))] _ := hP
        replace hD : va_D A [(rd, .inr (13, [.ref tp_, .int (nI (nn (sa 3))), .ref (ks.1 uz), .ref xa, .int (nI at2_7), .int (nI (5 - d))])), (xa, .inr (14, [.ref xb, .ref xc, .int (nI q.n)])), (xb, .inl (E.2 1, 60, .inl fbv)), (xc, .inl (E.2 2, 60, .inl fcv))] := hD
        replace hq_7 : r_7 = fx_b (lkX sa q.p = 124) ∧ (lkX sa q.p = 124 → at2_7 = q.p + 1) ∧ (¬ lkX sa q.p = 124 → at2_7 = q.p) := hq_7
        rcases fx_bc hq_7.1 with ⟨hb_7, hr_7⟩ | ⟨hb_7, hr_7⟩
        · -- True
          subst hr_7
          have hsg : sgW (lkX sa q.p) = true := decide_eq_true hb_7
          have hsk := sgW_ok _ hsg
          have hlt := lkXH _ (sgW_ok.nm1 hsg)
          have hsc := sgn_c sgW_ok hsg
          obtain ⟨f1, rfl⟩ : ∃ z, f = z + 1 := ⟨f - 1, by omega⟩
          have ha_7 := hq_7.2.1 hb_7
          subst ha_7
          refine lv_if_eq (tgt := 30) hx hb dX13_either_10 (by decide) (fun c => absurd c (by decide)) (fun _ => ?_)
          refine lv_aload_n hx hb dX13_either_13 rfl (lv_at hl 0 rfl) ?_
          refine fz_cv (vz_runV (As := []) (rest := []) X (xX13_both l E ks sa rd tp_ xa xb xc uz ft fbv fcv q.go d (by first | assumption | omega) (by first | assumption | omega) (by first | assumption | omega) (by first | assumption | omega) (go_ok hq hlt) (show TP q.go fbv fcv from hTq) (by first | assumption | omega) _) (cwV 0 X.2.2.2.2 (lw_V q598 q600 qs5 q83 q601) rfl rfl rfl ⟨rfl, hdX13_both⟩ ⟨by simp only [rxX13_both, rxX13_either] <;> omega, by simp only [rxX13_both, rxX13_either] <;> omega⟩) (fx_preV (fz_pre hE hP hD hS hR hZ hA [0, 1, 2, 3] rfl rfl (fx_rcr 0 rfl fx_rc0)) (va_recv hE.1 hP (ci := 13) (q0 := 0) rfl rfl)) rfl rfl hl.1 rfl (lv_room (Nat.le_of_ble_eq_true rfl)) dX13_either_14 ⟨Nat.le_of_ble_eq_true rfl, Nat.le_of_ble_eq_true rfl⟩) hP hD hS hA [0, 1, 2, 3] rfl rfl (fun qx_14 u H locs ce hqx_14 hP hD hS hce hcv hcl => ?_) (fun u H locs hq_14 hP hD hS => ?_)
          · -- thrown
            obtain ⟨at9_14x, op9_14x, n9_14x, fb9_14x, fc9_14x, q9_14x, pl9_14x⟩ := u
            replace hP : va_P E.1 clA [(rd, .inr (13, [.ref tp_, .int (nI (nn (sa 3))), .ref (ks.1 uz), .ref xa, .int at9_14x, .int op9_14x])), (xa, .inr (14, [.ref xb, .ref xc, .int n9_14x])), (xb, .inl (E.2 1, 60, .inl fb9_14x)), (xc, .inl (E.2 2, 60, .inl fc9_14x)), (q9_14x, .inr (15, [.null, .null, .null, .null, .null, .int 0, .int pl9_14x]))] _ := hP
            replace hD : va_D A [(rd, .inr (13, [.ref tp_, .int (nI (nn (sa 3))), .ref (ks.1 uz), .ref xa, .int at9_14x, .int op9_14x])), (xa, .inr (14, [.ref xb, .ref xc, .int n9_14x])), (xb, .inl (E.2 1, 60, .inl fb9_14x)), (xc, .inl (E.2 2, 60, .inl fc9_14x)), (q9_14x, .inr (15, [.null, .null, .null, .null, .null, .int 0, .int pl9_14x]))] := hD
            replace hqx_14 : qx_14 = q9_14x ∧ (((bthF (lkX sa) (oneF (lkX sa) uz d)) q.go)).1 = false ∧ pl9_14x = nI (((bthF (lkX sa) (oneF (lkX sa) uz d)) q.go)).2.p := hqx_14
            have hRR : ((whlF (lkX sa) (oneF (lkX sa) uz d)) ps) = (false, ((bthF (lkX sa) (oneF (lkX sa) uz d)) q.go).2) := by show sqF (lkX sa) sgW (bthF (lkX sa) (oneF (lkX sa) uz d)) ps = _; rw [sqF, if_pos hb_1, ← hf, lpF_n hsg (by rw [hqx_14.2.1]; exact Bool.false_ne_true)]
            exact hthrow _ (at9_14x, op9_14x, n9_14x, fb9_14x, fc9_14x, q9_14x, pl9_14x) (⟨hqx_14.1, by rw [hRR], by rw [hRR]; exact hqx_14.2.2⟩) hP hD hS (Nat.le_refl _) (Nat.le_refl _) hce hcv hcl
          · -- back
            obtain ⟨at2_14, n2_14, fb2_14, fc2_14⟩ := u
            replace hP : va_P E.1 clA [(rd, .inr (13, [.ref tp_, .int (nI (nn (sa 3))), .ref (ks.1 uz), .ref xa, .int (nI at2_14), .int (nI (5 - d))])), (xa, .inr (14, [.ref xb, .ref xc, .int (nI n2_14)])), (xb, .inl (E.2 1, 60, .inl fb2_14)), (xc, .inl (E.2 2, 60, .inl fc2_14))] _ := hP
            replace hD : va_D A [(rd, .inr (13, [.ref tp_, .int (nI (nn (sa 3))), .ref (ks.1 uz), .ref xa, .int (nI at2_14), .int (nI (5 - d))])), (xa, .inr (14, [.ref xb, .ref xc, .int (nI n2_14)])), (xb, .inl (E.2 1, 60, .inl fb2_14)), (xc, .inl (E.2 2, 60, .inl fc2_14))] := hD
            replace hq_14 : (((bthF (lkX sa) (oneF (lkX sa) uz d)) q.go)).1 = true ∧ at2_14 = (((bthF (lkX sa) (oneF (lkX sa) uz d)) q.go)).2.p ∧ n2_14 = (((bthF (lkX sa) (oneF (lkX sa) uz d)) q.go)).2.n ∧ TP (((bthF (lkX sa) (oneF (lkX sa) uz d)) q.go)).2 fb2_14 fc2_14 := hq_14
            obtain ⟨hb_14, ha_14, hn_14, hM_14⟩ := hq_14
            subst ha_14 hn_14
            have hst := lp_step (bth_pp lkXH) hq hdq hsk.2 hlt hb_14
            have hin : ((bthF (lkX sa) (oneF (lkX sa) uz d)) q.go).2.n + 1 ≤ 60 := (hst.1.le60 hta).2
            refine lv_aload_n hx hb dX13_either_17 rfl (lv_at hl 0 rfl) ?_
            refine fx_get X hE hP 0 rfl rfl 3 rfl q574 rfl rfl dX13_either_18 ?_
            refine lv_bipush (v := 124) hx hb dX13_either_21 rfl ?_
            refine fx_ti (show 124 = nI (nn (lkX sa q.p)) from hb_7.symm.trans hsk.1) ?_
            refine lv_iconst (v := 0) hx hb dX13_either_23 rfl ?_
            refine fx_cv (va_runV (As := [.int (nI (nn (lkX sa q.p))), .int 0]) (rest := []) X (xX14_add l E xa xb xc (((bthF (lkX sa) (oneF (lkX sa) uz d)) q.go).2.n) fb2_14 fc2_14 (nn (lkX sa q.p)) 0 (by omega) hsc (by decide) _) (cwV 2 X.2.2.2.2 (lw_V q696 q697 q698 q84 q699) rfl rfl rfl ⟨rfl, hdX14_add⟩ ⟨by simp only [rxX14_add, rxX13_either] <;> omega, by simp only [rxX14_add, rxX13_either] <;> omega⟩) (fx_preV (fx_pre hE hP hD hS hR [1, 2, 3] rfl rfl fx_rc0) (va_recv hE.1 hP (ci := 14) (q0 := 1) rfl rfl)) rfl rfl hl.1 rfl (lv_room (Nat.le_of_ble_eq_true rfl)) dX13_either_24 ⟨Nat.le_of_ble_eq_true rfl, Nat.le_of_ble_eq_true rfl⟩) hP hD hS hA [1, 2, 3] rfl rfl (fun u H locs hq_24 hP hD hS => ?_)
            replace hP : va_P E.1 clA [(rd, .inr (13, [.ref tp_, .int (nI (nn (sa 3))), .ref (ks.1 uz), .ref xa, .int (nI (((bthF (lkX sa) (oneF (lkX sa) uz d)) q.go).2.p)), .int (nI (5 - d))])), (xa, .inr (14, [.ref xb, .ref xc, .int (nI ((((bthF (lkX sa) (oneF (lkX sa) uz d)) q.go).2.n) + 1))])), (xb, .inl (E.2 1, 60, .inl (upd fb2_14 (((bthF (lkX sa) (oneF (lkX sa) uz d)) q.go).2.n) (nI (nn (lkX sa q.p)))))), (xc, .inl (E.2 2, 60, .inl (upd fc2_14 (((bthF (lkX sa) (oneF (lkX sa) uz d)) q.go).2.n) (nI 0))))] _ := hP
            replace hD : va_D A [(rd, .inr (13, [.ref tp_, .int (nI (nn (sa 3))), .ref (ks.1 uz), .ref xa, .int (nI (((bthF (lkX sa) (oneF (lkX sa) uz d)) q.go).2.p)), .int (nI (5 - d))])), (xa, .inr (14, [.ref xb, .ref xc, .int (nI ((((bthF (lkX sa) (oneF (lkX sa) uz d)) q.go).2.n) + 1))])), (xb, .inl (E.2 1, 60, .inl (upd fb2_14 (((bthF (lkX sa) (oneF (lkX sa) uz d)) q.go).2.n) (nI (nn (lkX sa q.p)))))), (xc, .inl (E.2 2, 60, .inl (upd fc2_14 (((bthF (lkX sa) (oneF (lkX sa) uz d)) q.go).2.n) (nI 0))))] := hD
            replace hq_24 : True := hq_24
            refine lv_goto (tgt := 4) hx hb dX13_either_27 (by decide) ?_
            exact ih_4 (((bthF (lkX sa) (oneF (lkX sa) uz d)) q.go).2.add (nn (lkX sa q.p)) 0) f1 (upd fb2_14 (((bthF (lkX sa) (oneF (lkX sa) uz d)) q.go).2.n) (nI (nn (lkX sa q.p)))) (upd fc2_14 (((bthF (lkX sa) (oneF (lkX sa) uz d)) q.go).2.n) (nI 0)) (by omega) ((lpF_t hsg hb_14).symm.trans hf) (by have := hst.2.2.1; omega) hst.1 hst.2.1 (TP_add hM_14) _ _ hP hD hS ls (lv_sub hl [0] rfl)
        · -- False
          subst hr_7
          have hsn : sgW (lkX sa q.p) = false := decide_eq_false hb_7
          have hRR : ((whlF (lkX sa) (oneF (lkX sa) uz d)) ps) = (true, q) := by show sqF (lkX sa) sgW (bthF (lkX sa) (oneF (lkX sa) uz d)) ps = _; rw [sqF, if_pos hb_1, ← hf, lpF_f hsn]
          have ha_7 := hq_7.2.2 hb_7
          subst ha_7
          refine lv_if_eq (tgt := 30) hx hb dX13_either_10 (by decide) (fun _ => ?_) (fun c => (c (by decide)).elim)
          exact hret (q.p, q.n, fbv, fcv) (⟨by rw [hRR], by rw [hRR], by rw [hRR], by rw [hRR]; exact hTq⟩) hP hD hS (Nat.le_refl _) (Nat.le_refl _) dX13_either_30
    exact loop_4 (61 + 1) (((bthF (lkX sa) (oneF (lkX sa) uz d)) ps).2) 61 fb2_1 fc2_1 (Nat.lt_succ_self _) rfl (by omega) ((bth_pp lkXH ps hps hb_1).1) (by have := (bth_pp lkXH ps hps hb_1).2.2.2; omega) hM_1 _ _ hP hD hS ls (lv_sub hl [0] rfl)
set_option maxHeartbeats 1000000 in
set_option maxRecDepth 100000 in
theorem xX13_unit (l : Launch) (E : fx_En) : ∀ (d : Nat) (ks : fz_Ks) (sa : Nat → Int32) (rd : Nat) (tp_ : Nat) (xa : Nat) (xb : Nat) (xc : Nat) (uz : Nat) (ft : Nat → Int32) (fb : Nat → Int32) (fc : Nat → Int32) (ps : Ps) (hd : d ≤ 5) (hu : uz < 2) (hta : nn (sa 3) ≤ 60) (hft : ∀ i, i < 60 → ft i = (sa (290 + i)).toInt8.toInt32) (hps : Pok (nn (sa 3)) ps) (hTP : TP ps fb fc), fz_Mv l yX13_unit cX13_unit 1 (rxX13_unit d) 0 0 E ks [.ref rd] [(rd, .inr (13, [.ref tp_, .int (nI (nn (sa 3))), .ref (ks.1 uz), .ref xa, .int (nI ps.p), .int (nI (5 - d))])), (xa, .inr (14, [.ref xb, .ref xc, .int (nI ps.n)])), (xb, .inl (E.2 1, 60, .inl fb)), (xc, .inl (E.2 2, 60, .inl fc))] [(tp_, .inl (E.2 1, 60, .inl ft))] (S := Nat × Nat × (Nat → Int32) × (Nat → Int32)) (fun (u : Nat × Nat × (Nat → Int32) × (Nat → Int32)) => [(rd, .inr (13, [.ref tp_, .int (nI (nn (sa 3))), .ref (ks.1 uz), .ref xa, .int (nI u.1), .int (nI (5 - d))])), (xa, .inr (14, [.ref xb, .ref xc, .int (nI u.2.1)])), (xb, .inl (E.2 1, 60, .inl u.2.2.1)), (xc, .inl (E.2 2, 60, .inl u.2.2.2))]) (fun (u : Nat × Nat × (Nat → Int32) × (Nat → Int32)) => ((oneF (lkX sa) uz d ps)).1 = true ∧ u.1 = ((oneF (lkX sa) uz d ps)).2.p ∧ u.2.1 = ((oneF (lkX sa) uz d ps)).2.n ∧ TP ((oneF (lkX sa) uz d ps)).2 u.2.2.1 u.2.2.2) RX15 (SX := Int32 × Int32 × Int32 × (Nat → Int32) × (Nat → Int32) × Nat × Int32) (fun (u : Int32 × Int32 × Int32 × (Nat → Int32) × (Nat → Int32) × Nat × Int32) => [(rd, .inr (13, [.ref tp_, .int (nI (nn (sa 3))), .ref (ks.1 uz), .ref xa, .int u.1, .int u.2.1])), (xa, .inr (14, [.ref xb, .ref xc, .int u.2.2.1])), (xb, .inl (E.2 1, 60, .inl u.2.2.2.1)), (xc, .inl (E.2 2, 60, .inl u.2.2.2.2.1)), (u.2.2.2.2.2.1, .inr (15, [.null, .null, .null, .null, .null, .int 0, .int u.2.2.2.2.2.2]))]) (fun (q : Nat) (u : Int32 × Int32 × Int32 × (Nat → Int32) × (Nat → Int32) × Nat × Int32) => q = u.2.2.2.2.2.1 ∧ ((oneF (lkX sa) uz d ps)).1 = false ∧ u.2.2.2.2.2.2 = nI ((oneF (lkX sa) uz d ps)).2.p) := by
  intro d
  induction d with
  | zero =>
    intro ks sa rd tp_ xa xb xc uz ft fb fc ps hd hu hta hft hps hTP
    refine fz_vW rfl rfl ?_
    intro p e s m args below meth c A ls Q X hnm hE hP hD hR hZ hA hl hret hthrow
    have hx := X.1
    have hb := X.2.1
    have hS : va_S A s.heap s.heap [] := va_S.rf
    replace hP : va_P E.1 clA [(rd, .inr (13, [.ref tp_, .int (nI (nn (sa 3))), .ref (ks.1 uz), .ref xa, .int (nI ps.p), .int (nI (5 - 0))])), (xa, .inr (14, [.ref xb, .ref xc, .int (nI ps.n)])), (xb, .inl (E.2 1, 60, .inl fb)), (xc, .inl (E.2 2, 60, .inl fc))] _ := hP
    replace hD : va_D A [(rd, .inr (13, [.ref tp_, .int (nI (nn (sa 3))), .ref (ks.1 uz), .ref xa, .int (nI ps.p), .int (nI (5 - 0))])), (xa, .inr (14, [.ref xb, .ref xc, .int (nI ps.n)])), (xb, .inl (E.2 1, 60, .inl fb)), (xc, .inl (E.2 2, 60, .inl fc))] := hD
    replace hl : lv_has ls 1 [(0, .ref rd)] := hl
    have hpl := hps.le60 hta
    refine lv_aload_n hx hb dX13_unit_0 rfl (lv_at hl 0 rfl) ?_
    refine fx_ci (va_runV (As := []) (rest := []) X (xX13_here l E ks sa rd tp_ xa uz ps.p (5 - 0) ft (by first | assumption | omega) (by first | assumption | omega) hpl.1 _) (cwV 0 X.2.2.2.2 (lw_V q618 q620 qs10 q83 q621) rfl rfl rfl ⟨rfl, hdX13_here⟩ ⟨Nat.le_of_ble_eq_true rfl, Nat.le_of_ble_eq_true rfl⟩) (fx_preV (fx_pre hE hP hD hS hR [] rfl rfl (fx_rcm 0 rfl (by decide) (fx_rcr 0 rfl fx_rc0))) (va_recv hE.1 hP (ci := 13) (q0 := 0) rfl rfl)) rfl rfl hl.1 rfl (lv_room (Nat.le_of_ble_eq_true rfl)) dX13_unit_1 ⟨Nat.le_of_ble_eq_true rfl, Nat.le_of_ble_eq_true rfl⟩) hP hD hS hA [] rfl rfl (fun r_1 u H locs hq_1 hP hD hS => ?_)
    replace hP : va_P E.1 clA [(rd, .inr (13, [.ref tp_, .int (nI (nn (sa 3))), .ref (ks.1 uz), .ref xa, .int (nI ps.p), .int (nI (5 - 0))])), (xa, .inr (14, [.ref xb, .ref xc, .int (nI ps.n)])), (xb, .inl (E.2 1, 60, .inl fb)), (xc, .inl (E.2 2, 60, .inl fc))] _ := hP
    replace hD : va_D A [(rd, .inr (13, [.ref tp_, .int (nI (nn (sa 3))), .ref (ks.1 uz), .ref xa, .int (nI ps.p), .int (nI (5 - 0))])), (xa, .inr (14, [.ref xb, .ref xc, .int (nI ps.n)])), (xb, .inl (E.2 1, 60, .inl fb)), (xc, .inl (E.2 2, 60, .inl fc))] := hD
    replace hq_1 : r_1 = lkX sa ps.p := hq_1
    refine fx_ti (show r_1 = (lkX sa ps.p) from hq_1) ?_
    refine lv_bipush (v := 33) hx hb dX13_unit_4 rfl ?_
    refine lv_icmp_ne (tgt := 39) hx hb dX13_unit_6 (by decide) (fun c_6 => ?_) (fun c_6 => ?_)
    · -- jump 39
      refine lv_aload_n hx hb dX13_unit_39 rfl (lv_at hl 0 rfl) ?_
      refine fx_ci (va_runV (As := []) (rest := []) X (xX13_here l E ks sa rd tp_ xa uz ps.p (5 - 0) ft (by first | assumption | omega) (by first | assumption | omega) hpl.1 _) (cwV 0 X.2.2.2.2 (lw_V q618 q620 qs10 q83 q621) rfl rfl rfl ⟨rfl, hdX13_here⟩ ⟨Nat.le_of_ble_eq_true rfl, Nat.le_of_ble_eq_true rfl⟩) (fx_preV (fx_pre hE hP hD hS hR [] rfl rfl (fx_rcm 0 rfl (by decide) (fx_rcr 0 rfl fx_rc0))) (va_recv hE.1 hP (ci := 13) (q0 := 0) rfl rfl)) rfl rfl hl.1 rfl (lv_room (Nat.le_of_ble_eq_true rfl)) dX13_unit_40 ⟨Nat.le_of_ble_eq_true rfl, Nat.le_of_ble_eq_true rfl⟩) hP hD hS hA [] rfl rfl (fun r_40 u H locs hq_40 hP hD hS => ?_)
      replace hP : va_P E.1 clA [(rd, .inr (13, [.ref tp_, .int (nI (nn (sa 3))), .ref (ks.1 uz), .ref xa, .int (nI ps.p), .int (nI (5 - 0))])), (xa, .inr (14, [.ref xb, .ref xc, .int (nI ps.n)])), (xb, .inl (E.2 1, 60, .inl fb)), (xc, .inl (E.2 2, 60, .inl fc))] _ := hP
      replace hD : va_D A [(rd, .inr (13, [.ref tp_, .int (nI (nn (sa 3))), .ref (ks.1 uz), .ref xa, .int (nI ps.p), .int (nI (5 - 0))])), (xa, .inr (14, [.ref xb, .ref xc, .int (nI ps.n)])), (xb, .inl (E.2 1, 60, .inl fb)), (xc, .inl (E.2 2, 60, .inl fc))] := hD
      replace hq_40 : r_40 = lkX sa ps.p := hq_40
      refine fx_ti (show r_40 = (lkX sa ps.p) from hq_40) ?_
      refine lv_bipush (v := 40) hx hb dX13_unit_43 rfl ?_
      refine lv_icmp_ne (tgt := 83) hx hb dX13_unit_45 (by decide) (fun c_45 => ?_) (fun c_45 => ?_)
      · -- jump 83
        refine lv_aload_n hx hb dX13_unit_83 rfl (lv_at hl 0 rfl) ?_
        refine lv_aload_n hx hb dX13_unit_84 rfl (lv_at hl 0 rfl) ?_
        refine fx_get X hE hP 0 rfl rfl 2 rfl q573 rfl rfl dX13_unit_85 ?_
        refine fz_ci (vz_runV (As := [.ref (ks.1 uz)]) (rest := []) X (xX13_isOneOf l E ks sa rd tp_ xa uz ps.p (5 - 0) ft uz (by omega) (by first | assumption | omega) (by first | assumption | omega) hpl.1 _) (cwV 1 X.2.2.2.2 (lw_V q704 q706 qs15 q83 q707) rfl rfl rfl ⟨rfl, hdX13_isOneOf⟩ ⟨Nat.le_of_ble_eq_true rfl, Nat.le_of_ble_eq_true rfl⟩) (fx_preV (fz_pre hE hP hD hS hR hZ hA [] rfl rfl (fx_rcm 0 rfl (by decide) (fx_rcr 0 rfl fx_rc0))) (va_recv hE.1 hP (ci := 13) (q0 := 0) rfl rfl)) rfl rfl hl.1 rfl (lv_room (Nat.le_of_ble_eq_true rfl)) dX13_unit_88 ⟨Nat.le_of_ble_eq_true rfl, Nat.le_of_ble_eq_true rfl⟩) hP hD hS hA [] rfl rfl (fun _ _ _ _ _ h => h.elim) (fun r_88 u H locs hq_88 hP hD hS => ?_)
        replace hP : va_P E.1 clA [(rd, .inr (13, [.ref tp_, .int (nI (nn (sa 3))), .ref (ks.1 uz), .ref xa, .int (nI ps.p), .int (nI (5 - 0))])), (xa, .inr (14, [.ref xb, .ref xc, .int (nI ps.n)])), (xb, .inl (E.2 1, 60, .inl fb)), (xc, .inl (E.2 2, 60, .inl fc))] _ := hP
        replace hD : va_D A [(rd, .inr (13, [.ref tp_, .int (nI (nn (sa 3))), .ref (ks.1 uz), .ref xa, .int (nI ps.p), .int (nI (5 - 0))])), (xa, .inr (14, [.ref xb, .ref xc, .int (nI ps.n)])), (xb, .inl (E.2 1, 60, .inl fb)), (xc, .inl (E.2 2, 60, .inl fc))] := hD
        replace hq_88 : r_88 = fx_b (inS uz (lkX sa ps.p) = true) := hq_88
        rcases fx_bc hq_88 with ⟨hb_88, hr_88⟩ | ⟨hb_88, hr_88⟩
        · -- True
          subst hr_88
          have hnm : isNm uz (lkX sa ps.p) = true := by rw [← inS_u hu]; exact hb_88
          have hlt := lkXH _ (isNm_nm1 hnm)
          have hcn := isNm_c hnm
          have hnl := nmC_lt uz (nmX uz (lkX sa ps.p))
          have hxl := nmX_lt uz (lkX sa ps.p)
          have hnp := hps.1
          have hRR : oneF (lkX sa) uz 0 ps = (true, ps.go.add 2 (nmX uz (lkX sa ps.p))) := by rw [oneF, if_pos hnm]
          refine lv_if_eq (tgt := 126) hx hb dX13_unit_91 (by decide) (fun c => absurd c (by decide)) (fun _ => ?_)
          refine lv_aload_n hx hb dX13_unit_94 rfl (lv_at hl 0 rfl) ?_
          refine fx_get X hE hP 0 rfl rfl 3 rfl q574 rfl rfl dX13_unit_95 ?_
          refine lv_iconst (v := 2) hx hb dX13_unit_98 rfl ?_
          refine lv_aload_n hx hb dX13_unit_99 rfl (lv_at hl 0 rfl) ?_
          refine fx_get X hE hP 0 rfl rfl 2 rfl q573 rfl rfl dX13_unit_100 ?_
          refine lv_aload_n hx hb dX13_unit_103 rfl (lv_at hl 0 rfl) ?_
          refine fx_ci (va_runV (As := []) (rest := [.ref (ks.1 uz), .int 2, .ref xa]) X (xX13_here l E ks sa rd tp_ xa uz ps.p (5 - 0) ft (by first | assumption | omega) (by first | assumption | omega) hpl.1 _) (cwV 0 X.2.2.2.2 (lw_V q618 q620 qs10 q83 q621) rfl rfl rfl ⟨rfl, hdX13_here⟩ ⟨Nat.le_of_ble_eq_true rfl, Nat.le_of_ble_eq_true rfl⟩) (fx_preV (fx_pre hE hP hD hS hR [] rfl rfl (fx_rcm 0 rfl (by decide) (fx_rcr 0 rfl fx_rc0))) (va_recv hE.1 hP (ci := 13) (q0 := 0) rfl rfl)) rfl rfl hl.1 rfl (lv_room (Nat.le_of_ble_eq_true rfl)) dX13_unit_104 ⟨Nat.le_of_ble_eq_true rfl, Nat.le_of_ble_eq_true rfl⟩) hP hD hS hA [] rfl rfl (fun r_104 u H locs hq_104 hP hD hS => ?_)
          replace hP : va_P E.1 clA [(rd, .inr (13, [.ref tp_, .int (nI (nn (sa 3))), .ref (ks.1 uz), .ref xa, .int (nI ps.p), .int (nI (5 - 0))])), (xa, .inr (14, [.ref xb, .ref xc, .int (nI ps.n)])), (xb, .inl (E.2 1, 60, .inl fb)), (xc, .inl (E.2 2, 60, .inl fc))] _ := hP
          replace hD : va_D A [(rd, .inr (13, [.ref tp_, .int (nI (nn (sa 3))), .ref (ks.1 uz), .ref xa, .int (nI ps.p), .int (nI (5 - 0))])), (xa, .inr (14, [.ref xb, .ref xc, .int (nI ps.n)])), (xb, .inl (E.2 1, 60, .inl fb)), (xc, .inl (E.2 2, 60, .inl fc))] := hD
          replace hq_104 : r_104 = lkX sa ps.p := hq_104
          refine fx_ti (show r_104 = nI (nmC uz (nmX uz (lkX sa ps.p))) from hq_104.trans hcn) ?_
          refine fz_ci (vz_runV (As := [.int (nI (nmC uz (nmX uz (lkX sa ps.p))))]) (rest := [.int 2, .ref xa]) X (xJ3_indexOf l E ks uz (nmC uz (nmX uz (lkX sa ps.p))) (by omega) hnl _) (cwV 1 X.2.2.2.2 (lw_V q708 q709 q710 q88 q711) rfl rfl rfl ⟨rfl, hdJ3_indexOf⟩ ⟨Nat.le_of_ble_eq_true rfl, Nat.le_of_ble_eq_true rfl⟩) (fx_preV (fz_pre hE hP hD hS hR hZ hA [] rfl rfl fx_rc0) (vk_recv hZ.2.2.1 (by omega) hS)) rfl rfl hl.1 rfl (lv_room (Nat.le_of_ble_eq_true rfl)) dX13_unit_107 ⟨Nat.le_of_ble_eq_true rfl, Nat.le_of_ble_eq_true rfl⟩) hP hD hS hA [] rfl rfl (fun _ _ _ _ _ h => h.elim) (fun r_107 u H locs hq_107 hP hD hS => ?_)
          replace hP : va_P E.1 clA [(rd, .inr (13, [.ref tp_, .int (nI (nn (sa 3))), .ref (ks.1 uz), .ref xa, .int (nI ps.p), .int (nI (5 - 0))])), (xa, .inr (14, [.ref xb, .ref xc, .int (nI ps.n)])), (xb, .inl (E.2 1, 60, .inl fb)), (xc, .inl (E.2 2, 60, .inl fc))] _ := hP
          replace hD : va_D A [(rd, .inr (13, [.ref tp_, .int (nI (nn (sa 3))), .ref (ks.1 uz), .ref xa, .int (nI ps.p), .int (nI (5 - 0))])), (xa, .inr (14, [.ref xb, .ref xc, .int (nI ps.n)])), (xb, .inl (E.2 1, 60, .inl fb)), (xc, .inl (E.2 2, 60, .inl fc))] := hD
          replace hq_107 : IXs uz (nI (nmC uz (nmX uz (lkX sa ps.p)))) r_107 := hq_107
          refine fx_ti (show r_107 = nI (nmX uz (lkX sa ps.p)) from IXs_nm hu (hcn ▸ hq_107) hnm) ?_
          refine fx_cv (va_runV (As := [.int 2, .int (nI (nmX uz (lkX sa ps.p)))]) (rest := []) X (xX14_add l E xa xb xc ps.n fb fc 2 (nmX uz (lkX sa ps.p)) (by have := hps.2.1; omega) (by decide) (by omega) _) (cwV 2 X.2.2.2.2 (lw_V q696 q697 q698 q84 q699) rfl rfl rfl ⟨rfl, hdX14_add⟩ ⟨Nat.le_of_ble_eq_true rfl, Nat.le_of_ble_eq_true rfl⟩) (fx_preV (fx_pre hE hP hD hS hR [1, 2, 3] rfl rfl fx_rc0) (va_recv hE.1 hP (ci := 14) (q0 := 1) rfl rfl)) rfl rfl hl.1 rfl (lv_room (Nat.le_of_ble_eq_true rfl)) dX13_unit_110 ⟨Nat.le_of_ble_eq_true rfl, Nat.le_of_ble_eq_true rfl⟩) hP hD hS hA [1, 2, 3] rfl rfl (fun u H locs hq_110 hP hD hS => ?_)
          replace hP : va_P E.1 clA [(rd, .inr (13, [.ref tp_, .int (nI (nn (sa 3))), .ref (ks.1 uz), .ref xa, .int (nI ps.p), .int (nI (5 - 0))])), (xa, .inr (14, [.ref xb, .ref xc, .int (nI (ps.n + 1))])), (xb, .inl (E.2 1, 60, .inl (upd fb ps.n (nI 2)))), (xc, .inl (E.2 2, 60, .inl (upd fc ps.n (nI (nmX uz (lkX sa ps.p))))))] _ := hP
          replace hD : va_D A [(rd, .inr (13, [.ref tp_, .int (nI (nn (sa 3))), .ref (ks.1 uz), .ref xa, .int (nI ps.p), .int (nI (5 - 0))])), (xa, .inr (14, [.ref xb, .ref xc, .int (nI (ps.n + 1))])), (xb, .inl (E.2 1, 60, .inl (upd fb ps.n (nI 2)))), (xc, .inl (E.2 2, 60, .inl (upd fc ps.n (nI (nmX uz (lkX sa ps.p))))))] := hD
          replace hq_110 : True := hq_110
          refine lv_aload_n hx hb dX13_unit_113 rfl (lv_at hl 0 rfl) ?_
          refine lv_dup hx hb dX13_unit_114 rfl ?_
          refine fx_get X hE hP 0 rfl rfl 4 rfl q575 rfl rfl dX13_unit_115 ?_
          refine lv_iconst (v := 1) hx hb dX13_unit_118 rfl ?_
          refine lv_iadd hx hb dX13_unit_119 ?_
          refine fx_ti (nI_add ps.p 1) ?_
          refine fx_put_ (ws' := [(rd, .inr (13, [.ref tp_, .int (nI (nn (sa 3))), .ref (ks.1 uz), .ref xa, .int (nI (ps.p + 1)), .int (nI (5 - 0))])), (xa, .inr (14, [.ref xb, .ref xc, .int (nI (ps.n + 1))])), (xb, .inl (E.2 1, 60, .inl (upd fb ps.n (nI 2)))), (xc, .inl (E.2 2, 60, .inl (upd fc ps.n (nI (nmX uz (lkX sa ps.p))))))]) X hE hP hD hS 0 rfl rfl tyX13_ok nmX13 4 rfl q575 rfl rfl rfl rfl rfl rfl dX13_unit_120 (fun H locs hP hD hS => ?_)
          refine lv_goto (tgt := 138) hx hb dX13_unit_123 (by decide) ?_
          exact hret (ps.p + 1, ps.n + 1, (upd fb ps.n (nI 2)), (upd fc ps.n (nI (nmX uz (lkX sa ps.p))))) (⟨by rw [hRR], by rw [hRR]; rfl, by rw [hRR]; rfl, by rw [hRR]; exact TP_add hTP⟩) hP hD hS (Nat.le_refl _) (Nat.le_refl _) dX13_unit_138
        · -- False
          subst hr_88
          have hnn : ¬ isNm uz (lkX sa ps.p) = true := by rw [← inS_u hu]; exact hb_88
          refine lv_if_eq (tgt := 126) hx hb dX13_unit_91 (by decide) (fun _ => ?_) (fun c => (c (by decide)).elim)
          refine lv_aload_n hx hb dX13_unit_126 rfl (lv_at hl 0 rfl) ?_
          refine fx_get X hE hP 0 rfl rfl 3 rfl q574 rfl rfl dX13_unit_127 ?_
          refine lv_iconst (v := 1) hx hb dX13_unit_130 rfl ?_
          refine lv_aload_n hx hb dX13_unit_131 rfl (lv_at hl 0 rfl) ?_
          refine fz_ci (vz_runV (As := []) (rest := [.int 1, .ref xa]) X (xX13_number l E ks sa rd tp_ xa uz ps.p (5 - 0) ft (by first | assumption | omega) (by first | assumption | omega) hps.2.1 _) (cwV 0 X.2.2.2.2 (lw_V q790 q792 qs16 q83 q793) rfl rfl rfl ⟨rfl, hdX13_number⟩ ⟨Nat.le_of_ble_eq_true rfl, Nat.le_of_ble_eq_true rfl⟩) (fx_preV (fz_pre hE hP hD hS hR hZ hA [0] rfl rfl (fx_rcr 0 rfl fx_rc0)) (va_recv hE.1 hP (ci := 13) (q0 := 0) rfl rfl)) rfl rfl hl.1 rfl (lv_room (Nat.le_of_ble_eq_true rfl)) dX13_unit_132 ⟨Nat.le_of_ble_eq_true rfl, Nat.le_of_ble_eq_true rfl⟩) hP hD hS hA [0] rfl rfl (fun qx_132 u H locs ce hqx_132 hP hD hS hce hcv hcl => ?_) (fun r_132 u H locs hq_132 hP hD hS => ?_)
          · -- thrown
            obtain ⟨at9_132x, op9_132x, q9_132x, pl9_132x⟩ := u
            replace hP : va_P E.1 clA [(rd, .inr (13, [.ref tp_, .int (nI (nn (sa 3))), .ref (ks.1 uz), .ref xa, .int at9_132x, .int op9_132x])), (xa, .inr (14, [.ref xb, .ref xc, .int (nI ps.n)])), (xb, .inl (E.2 1, 60, .inl fb)), (xc, .inl (E.2 2, 60, .inl fc)), (q9_132x, .inr (15, [.null, .null, .null, .null, .null, .int 0, .int pl9_132x]))] _ := hP
            replace hD : va_D A [(rd, .inr (13, [.ref tp_, .int (nI (nn (sa 3))), .ref (ks.1 uz), .ref xa, .int at9_132x, .int op9_132x])), (xa, .inr (14, [.ref xb, .ref xc, .int (nI ps.n)])), (xb, .inl (E.2 1, 60, .inl fb)), (xc, .inl (E.2 2, 60, .inl fc)), (q9_132x, .inr (15, [.null, .null, .null, .null, .null, .int 0, .int pl9_132x]))] := hD
            replace hqx_132 : qx_132 = q9_132x ∧ ¬ isDg (lkX sa ps.p) = true ∧ pl9_132x = nI ps.p := hqx_132
            have hRR : oneF (lkX sa) uz 0 ps = (false, ps) := by rw [oneF, if_neg hnn, if_neg hqx_132.2.1]
            exact hthrow _ (at9_132x, op9_132x, nI ps.n, fb, fc, q9_132x, pl9_132x) (⟨hqx_132.1, by rw [hRR], by rw [hRR]; exact hqx_132.2.2⟩) hP hD hS (Nat.le_refl _) (Nat.le_refl _) hce hcv hcl
          · -- back
            obtain ⟨at2_132, rfl⟩ : ∃ z, z = u := ⟨_, rfl⟩
            replace hP : va_P E.1 clA [(rd, .inr (13, [.ref tp_, .int (nI (nn (sa 3))), .ref (ks.1 uz), .ref xa, .int (nI at2_132), .int (nI (5 - 0))])), (xa, .inr (14, [.ref xb, .ref xc, .int (nI ps.n)])), (xb, .inl (E.2 1, 60, .inl fb)), (xc, .inl (E.2 2, 60, .inl fc))] _ := hP
            replace hD : va_D A [(rd, .inr (13, [.ref tp_, .int (nI (nn (sa 3))), .ref (ks.1 uz), .ref xa, .int (nI at2_132), .int (nI (5 - 0))])), (xa, .inr (14, [.ref xb, .ref xc, .int (nI ps.n)])), (xb, .inl (E.2 1, 60, .inl fb)), (xc, .inl (E.2 2, 60, .inl fc))] := hD
            replace hq_132 : isDg (lkX sa ps.p) = true ∧ at2_132 = (numF (lkX sa) 4 0 ps.p).2 ∧ r_132 = nI (numF (lkX sa) 4 0 ps.p).1 := hq_132
            obtain ⟨hdg, ha_132, hr_132⟩ := hq_132
            subst ha_132
            refine fx_ti (show r_132 = nI ((numF (lkX sa) 4 0 ps.p).1) from hr_132) ?_
            have h4 := num4 lkXH hdg hps.2.1
            have hnp := hps.1
            have hRR : oneF (lkX sa) uz 0 ps = (true, (ps.to (numF (lkX sa) 4 0 ps.p).2).add 1 (numF (lkX sa) 4 0 ps.p).1) := by rw [oneF, if_neg hnn, if_pos hdg]
            refine fx_cv (va_runV (As := [.int 1, .int (nI ((numF (lkX sa) 4 0 ps.p).1))]) (rest := []) X (xX14_add l E xa xb xc ps.n fb fc 1 ((numF (lkX sa) 4 0 ps.p).1) (by omega) (by decide) (by omega) _) (cwV 2 X.2.2.2.2 (lw_V q696 q697 q698 q84 q699) rfl rfl rfl ⟨rfl, hdX14_add⟩ ⟨Nat.le_of_ble_eq_true rfl, Nat.le_of_ble_eq_true rfl⟩) (fx_preV (fx_pre hE hP hD hS hR [1, 2, 3] rfl rfl fx_rc0) (va_recv hE.1 hP (ci := 14) (q0 := 1) rfl rfl)) rfl rfl hl.1 rfl (lv_room (Nat.le_of_ble_eq_true rfl)) dX13_unit_135 ⟨Nat.le_of_ble_eq_true rfl, Nat.le_of_ble_eq_true rfl⟩) hP hD hS hA [1, 2, 3] rfl rfl (fun u H locs hq_135 hP hD hS => ?_)
            replace hP : va_P E.1 clA [(rd, .inr (13, [.ref tp_, .int (nI (nn (sa 3))), .ref (ks.1 uz), .ref xa, .int (nI ((numF (lkX sa) 4 0 ps.p).2)), .int (nI (5 - 0))])), (xa, .inr (14, [.ref xb, .ref xc, .int (nI (ps.n + 1))])), (xb, .inl (E.2 1, 60, .inl (upd fb ps.n (nI 1)))), (xc, .inl (E.2 2, 60, .inl (upd fc ps.n (nI ((numF (lkX sa) 4 0 ps.p).1)))))] _ := hP
            replace hD : va_D A [(rd, .inr (13, [.ref tp_, .int (nI (nn (sa 3))), .ref (ks.1 uz), .ref xa, .int (nI ((numF (lkX sa) 4 0 ps.p).2)), .int (nI (5 - 0))])), (xa, .inr (14, [.ref xb, .ref xc, .int (nI (ps.n + 1))])), (xb, .inl (E.2 1, 60, .inl (upd fb ps.n (nI 1)))), (xc, .inl (E.2 2, 60, .inl (upd fc ps.n (nI ((numF (lkX sa) 4 0 ps.p).1)))))] := hD
            replace hq_135 : True := hq_135
            exact hret ((numF (lkX sa) 4 0 ps.p).2, ps.n + 1, (upd fb ps.n (nI 1)), (upd fc ps.n (nI ((numF (lkX sa) 4 0 ps.p).1)))) (⟨by rw [hRR], by rw [hRR]; rfl, by rw [hRR]; rfl, by rw [hRR]; exact TP_add (s := ps.to (numF (lkX sa) 4 0 ps.p).2) hTP⟩) hP hD hS (Nat.le_refl _) (Nat.le_refl _) dX13_unit_138
      · -- fall 48
        have hlt := lkXH ps.p (by rw [c_45]; decide)
        refine lv_aload_n hx hb dX13_unit_48 rfl (lv_at hl 0 rfl) ?_
        refine fz_cv (vz_runV (As := []) (rest := []) X (xX13_opens l E ks sa rd tp_ xa uz ps.p (5 - 0) (by omega) _) (cwV 0 X.2.2.2.2 (lw_V q622 q624 qs11 q83 q625) rfl rfl rfl ⟨rfl, hdX13_opens⟩ ⟨Nat.le_of_ble_eq_true rfl, Nat.le_of_ble_eq_true rfl⟩) (fx_preV (fz_pre hE hP hD hS hR hZ hA [0] rfl rfl fx_rc0) (va_recv hE.1 hP (ci := 13) (q0 := 0) rfl rfl)) rfl rfl hl.1 rfl (lv_room (Nat.le_of_ble_eq_true rfl)) dX13_unit_49 ⟨Nat.le_of_ble_eq_true rfl, Nat.le_of_ble_eq_true rfl⟩) hP hD hS hA [0] rfl rfl (fun qx_49 u H locs ce hqx_49 hP hD hS hce hcv hcl => ?_) (fun u H locs hq_49 hP hD hS => ?_)
        · -- thrown
          obtain ⟨at9_49x, op9_49x, q9_49x, pl9_49x⟩ := u
          replace hP : va_P E.1 clA [(rd, .inr (13, [.ref tp_, .int (nI (nn (sa 3))), .ref (ks.1 uz), .ref xa, .int at9_49x, .int op9_49x])), (xa, .inr (14, [.ref xb, .ref xc, .int (nI ps.n)])), (xb, .inl (E.2 1, 60, .inl fb)), (xc, .inl (E.2 2, 60, .inl fc)), (q9_49x, .inr (15, [.null, .null, .null, .null, .null, .int 0, .int pl9_49x]))] _ := hP
          replace hD : va_D A [(rd, .inr (13, [.ref tp_, .int (nI (nn (sa 3))), .ref (ks.1 uz), .ref xa, .int at9_49x, .int op9_49x])), (xa, .inr (14, [.ref xb, .ref xc, .int (nI ps.n)])), (xb, .inl (E.2 1, 60, .inl fb)), (xc, .inl (E.2 2, 60, .inl fc)), (q9_49x, .inr (15, [.null, .null, .null, .null, .null, .int 0, .int pl9_49x]))] := hD
          replace hqx_49 : qx_49 = q9_49x ∧ (5 - 0) = 5 ∧ pl9_49x = nI ps.p := hqx_49
          have hRR : oneF (lkX sa) uz 0 ps = (false, ps) := by rw [oneF, if_neg (show ¬ isNm uz (lkX sa ps.p) = true by rw [c_45]; exact nm40 uz), if_neg (show ¬ isDg (lkX sa ps.p) = true by rw [c_45]; decide)]
          exact hthrow _ (at9_49x, op9_49x, nI ps.n, fb, fc, q9_49x, pl9_49x) (⟨hqx_49.1, by rw [hRR], by rw [hRR]; exact hqx_49.2.2⟩) hP hD hS (Nat.le_refl _) (Nat.le_refl _) hce hcv hcl
        · -- back
          replace hP : va_P E.1 clA [(rd, .inr (13, [.ref tp_, .int (nI (nn (sa 3))), .ref (ks.1 uz), .ref xa, .int (nI (ps.p + 1)), .int (nI ((5 - 0) + 1))])), (xa, .inr (14, [.ref xb, .ref xc, .int (nI ps.n)])), (xb, .inl (E.2 1, 60, .inl fb)), (xc, .inl (E.2 2, 60, .inl fc))] _ := hP
          replace hD : va_D A [(rd, .inr (13, [.ref tp_, .int (nI (nn (sa 3))), .ref (ks.1 uz), .ref xa, .int (nI (ps.p + 1)), .int (nI ((5 - 0) + 1))])), (xa, .inr (14, [.ref xb, .ref xc, .int (nI ps.n)])), (xb, .inl (E.2 1, 60, .inl fb)), (xc, .inl (E.2 2, 60, .inl fc))] := hD
          replace hq_49 : (5 - 0) ≠ 5 := hq_49
          exact absurd rfl hq_49
    · -- fall 9
      have hlt := lkXH ps.p (by rw [c_6]; decide)
      refine lv_aload_n hx hb dX13_unit_9 rfl (lv_at hl 0 rfl) ?_
      refine fz_cv (vz_runV (As := []) (rest := []) X (xX13_opens l E ks sa rd tp_ xa uz ps.p (5 - 0) (by omega) _) (cwV 0 X.2.2.2.2 (lw_V q622 q624 qs11 q83 q625) rfl rfl rfl ⟨rfl, hdX13_opens⟩ ⟨Nat.le_of_ble_eq_true rfl, Nat.le_of_ble_eq_true rfl⟩) (fx_preV (fz_pre hE hP hD hS hR hZ hA [0] rfl rfl fx_rc0) (va_recv hE.1 hP (ci := 13) (q0 := 0) rfl rfl)) rfl rfl hl.1 rfl (lv_room (Nat.le_of_ble_eq_true rfl)) dX13_unit_10 ⟨Nat.le_of_ble_eq_true rfl, Nat.le_of_ble_eq_true rfl⟩) hP hD hS hA [0] rfl rfl (fun qx_10 u H locs ce hqx_10 hP hD hS hce hcv hcl => ?_) (fun u H locs hq_10 hP hD hS => ?_)
      · -- thrown
        obtain ⟨at9_10x, op9_10x, q9_10x, pl9_10x⟩ := u
        replace hP : va_P E.1 clA [(rd, .inr (13, [.ref tp_, .int (nI (nn (sa 3))), .ref (ks.1 uz), .ref xa, .int at9_10x, .int op9_10x])), (xa, .inr (14, [.ref xb, .ref xc, .int (nI ps.n)])), (xb, .inl (E.2 1, 60, .inl fb)), (xc, .inl (E.2 2, 60, .inl fc)), (q9_10x, .inr (15, [.null, .null, .null, .null, .null, .int 0, .int pl9_10x]))] _ := hP
        replace hD : va_D A [(rd, .inr (13, [.ref tp_, .int (nI (nn (sa 3))), .ref (ks.1 uz), .ref xa, .int at9_10x, .int op9_10x])), (xa, .inr (14, [.ref xb, .ref xc, .int (nI ps.n)])), (xb, .inl (E.2 1, 60, .inl fb)), (xc, .inl (E.2 2, 60, .inl fc)), (q9_10x, .inr (15, [.null, .null, .null, .null, .null, .int 0, .int pl9_10x]))] := hD
        replace hqx_10 : qx_10 = q9_10x ∧ (5 - 0) = 5 ∧ pl9_10x = nI ps.p := hqx_10
        have hRR : oneF (lkX sa) uz 0 ps = (false, ps) := by rw [oneF, if_neg (show ¬ isNm uz (lkX sa ps.p) = true by rw [c_6]; exact nm33 uz), if_neg (show ¬ isDg (lkX sa ps.p) = true by rw [c_6]; decide)]
        exact hthrow _ (at9_10x, op9_10x, nI ps.n, fb, fc, q9_10x, pl9_10x) (⟨hqx_10.1, by rw [hRR], by rw [hRR]; exact hqx_10.2.2⟩) hP hD hS (Nat.le_refl _) (Nat.le_refl _) hce hcv hcl
      · -- back
        replace hP : va_P E.1 clA [(rd, .inr (13, [.ref tp_, .int (nI (nn (sa 3))), .ref (ks.1 uz), .ref xa, .int (nI (ps.p + 1)), .int (nI ((5 - 0) + 1))])), (xa, .inr (14, [.ref xb, .ref xc, .int (nI ps.n)])), (xb, .inl (E.2 1, 60, .inl fb)), (xc, .inl (E.2 2, 60, .inl fc))] _ := hP
        replace hD : va_D A [(rd, .inr (13, [.ref tp_, .int (nI (nn (sa 3))), .ref (ks.1 uz), .ref xa, .int (nI (ps.p + 1)), .int (nI ((5 - 0) + 1))])), (xa, .inr (14, [.ref xb, .ref xc, .int (nI ps.n)])), (xb, .inl (E.2 1, 60, .inl fb)), (xc, .inl (E.2 2, 60, .inl fc))] := hD
        replace hq_10 : (5 - 0) ≠ 5 := hq_10
        exact absurd rfl hq_10
  | succ d ih =>
    intro ks sa rd tp_ xa xb xc uz ft fb fc ps hd hu hta hft hps hTP
    refine fz_vW rfl rfl ?_
    intro p e s m args below meth c A ls Q X hnm hE hP hD hR hZ hA hl hret hthrow
    have hx := X.1
    have hb := X.2.1
    have hS : va_S A s.heap s.heap [] := va_S.rf
    replace hP : va_P E.1 clA [(rd, .inr (13, [.ref tp_, .int (nI (nn (sa 3))), .ref (ks.1 uz), .ref xa, .int (nI ps.p), .int (nI (5 - (d + 1)))])), (xa, .inr (14, [.ref xb, .ref xc, .int (nI ps.n)])), (xb, .inl (E.2 1, 60, .inl fb)), (xc, .inl (E.2 2, 60, .inl fc))] _ := hP
    replace hD : va_D A [(rd, .inr (13, [.ref tp_, .int (nI (nn (sa 3))), .ref (ks.1 uz), .ref xa, .int (nI ps.p), .int (nI (5 - (d + 1)))])), (xa, .inr (14, [.ref xb, .ref xc, .int (nI ps.n)])), (xb, .inl (E.2 1, 60, .inl fb)), (xc, .inl (E.2 2, 60, .inl fc))] := hD
    replace hl : lv_has ls 1 [(0, .ref rd)] := hl
    have hpl := hps.le60 hta
    refine lv_aload_n hx hb dX13_unit_0 rfl (lv_at hl 0 rfl) ?_
    refine fx_ci (va_runV (As := []) (rest := []) X (xX13_here l E ks sa rd tp_ xa uz ps.p (5 - (d + 1)) ft (by first | assumption | omega) (by first | assumption | omega) hpl.1 _) (cwV 0 X.2.2.2.2 (lw_V q618 q620 qs10 q83 q621) rfl rfl rfl ⟨rfl, hdX13_here⟩ ⟨by simp only [rxX13_here, rxX13_unit] <;> omega, by simp only [rxX13_here, rxX13_unit] <;> omega⟩) (fx_preV (fx_pre hE hP hD hS hR [] rfl rfl (fx_rcm 0 rfl (by decide) (fx_rcr 0 rfl fx_rc0))) (va_recv hE.1 hP (ci := 13) (q0 := 0) rfl rfl)) rfl rfl hl.1 rfl (lv_room (Nat.le_of_ble_eq_true rfl)) dX13_unit_1 ⟨Nat.le_of_ble_eq_true rfl, Nat.le_of_ble_eq_true rfl⟩) hP hD hS hA [] rfl rfl (fun r_1 u H locs hq_1 hP hD hS => ?_)
    replace hP : va_P E.1 clA [(rd, .inr (13, [.ref tp_, .int (nI (nn (sa 3))), .ref (ks.1 uz), .ref xa, .int (nI ps.p), .int (nI (5 - (d + 1)))])), (xa, .inr (14, [.ref xb, .ref xc, .int (nI ps.n)])), (xb, .inl (E.2 1, 60, .inl fb)), (xc, .inl (E.2 2, 60, .inl fc))] _ := hP
    replace hD : va_D A [(rd, .inr (13, [.ref tp_, .int (nI (nn (sa 3))), .ref (ks.1 uz), .ref xa, .int (nI ps.p), .int (nI (5 - (d + 1)))])), (xa, .inr (14, [.ref xb, .ref xc, .int (nI ps.n)])), (xb, .inl (E.2 1, 60, .inl fb)), (xc, .inl (E.2 2, 60, .inl fc))] := hD
    replace hq_1 : r_1 = lkX sa ps.p := hq_1
    refine fx_ti (show r_1 = (lkX sa ps.p) from hq_1) ?_
    refine lv_bipush (v := 33) hx hb dX13_unit_4 rfl ?_
    refine lv_icmp_ne (tgt := 39) hx hb dX13_unit_6 (by decide) (fun c_6 => ?_) (fun c_6 => ?_)
    · -- jump 39
      refine lv_aload_n hx hb dX13_unit_39 rfl (lv_at hl 0 rfl) ?_
      refine fx_ci (va_runV (As := []) (rest := []) X (xX13_here l E ks sa rd tp_ xa uz ps.p (5 - (d + 1)) ft (by first | assumption | omega) (by first | assumption | omega) hpl.1 _) (cwV 0 X.2.2.2.2 (lw_V q618 q620 qs10 q83 q621) rfl rfl rfl ⟨rfl, hdX13_here⟩ ⟨by simp only [rxX13_here, rxX13_unit] <;> omega, by simp only [rxX13_here, rxX13_unit] <;> omega⟩) (fx_preV (fx_pre hE hP hD hS hR [] rfl rfl (fx_rcm 0 rfl (by decide) (fx_rcr 0 rfl fx_rc0))) (va_recv hE.1 hP (ci := 13) (q0 := 0) rfl rfl)) rfl rfl hl.1 rfl (lv_room (Nat.le_of_ble_eq_true rfl)) dX13_unit_40 ⟨Nat.le_of_ble_eq_true rfl, Nat.le_of_ble_eq_true rfl⟩) hP hD hS hA [] rfl rfl (fun r_40 u H locs hq_40 hP hD hS => ?_)
      replace hP : va_P E.1 clA [(rd, .inr (13, [.ref tp_, .int (nI (nn (sa 3))), .ref (ks.1 uz), .ref xa, .int (nI ps.p), .int (nI (5 - (d + 1)))])), (xa, .inr (14, [.ref xb, .ref xc, .int (nI ps.n)])), (xb, .inl (E.2 1, 60, .inl fb)), (xc, .inl (E.2 2, 60, .inl fc))] _ := hP
      replace hD : va_D A [(rd, .inr (13, [.ref tp_, .int (nI (nn (sa 3))), .ref (ks.1 uz), .ref xa, .int (nI ps.p), .int (nI (5 - (d + 1)))])), (xa, .inr (14, [.ref xb, .ref xc, .int (nI ps.n)])), (xb, .inl (E.2 1, 60, .inl fb)), (xc, .inl (E.2 2, 60, .inl fc))] := hD
      replace hq_40 : r_40 = lkX sa ps.p := hq_40
      refine fx_ti (show r_40 = (lkX sa ps.p) from hq_40) ?_
      refine lv_bipush (v := 40) hx hb dX13_unit_43 rfl ?_
      refine lv_icmp_ne (tgt := 83) hx hb dX13_unit_45 (by decide) (fun c_45 => ?_) (fun c_45 => ?_)
      · -- jump 83
        refine lv_aload_n hx hb dX13_unit_83 rfl (lv_at hl 0 rfl) ?_
        refine lv_aload_n hx hb dX13_unit_84 rfl (lv_at hl 0 rfl) ?_
        refine fx_get X hE hP 0 rfl rfl 2 rfl q573 rfl rfl dX13_unit_85 ?_
        refine fz_ci (vz_runV (As := [.ref (ks.1 uz)]) (rest := []) X (xX13_isOneOf l E ks sa rd tp_ xa uz ps.p (5 - (d + 1)) ft uz (by omega) (by first | assumption | omega) (by first | assumption | omega) hpl.1 _) (cwV 1 X.2.2.2.2 (lw_V q704 q706 qs15 q83 q707) rfl rfl rfl ⟨rfl, hdX13_isOneOf⟩ ⟨by simp only [rxX13_isOneOf, rxX13_unit] <;> omega, by simp only [rxX13_isOneOf, rxX13_unit] <;> omega⟩) (fx_preV (fz_pre hE hP hD hS hR hZ hA [] rfl rfl (fx_rcm 0 rfl (by decide) (fx_rcr 0 rfl fx_rc0))) (va_recv hE.1 hP (ci := 13) (q0 := 0) rfl rfl)) rfl rfl hl.1 rfl (lv_room (Nat.le_of_ble_eq_true rfl)) dX13_unit_88 ⟨Nat.le_of_ble_eq_true rfl, Nat.le_of_ble_eq_true rfl⟩) hP hD hS hA [] rfl rfl (fun _ _ _ _ _ h => h.elim) (fun r_88 u H locs hq_88 hP hD hS => ?_)
        replace hP : va_P E.1 clA [(rd, .inr (13, [.ref tp_, .int (nI (nn (sa 3))), .ref (ks.1 uz), .ref xa, .int (nI ps.p), .int (nI (5 - (d + 1)))])), (xa, .inr (14, [.ref xb, .ref xc, .int (nI ps.n)])), (xb, .inl (E.2 1, 60, .inl fb)), (xc, .inl (E.2 2, 60, .inl fc))] _ := hP
        replace hD : va_D A [(rd, .inr (13, [.ref tp_, .int (nI (nn (sa 3))), .ref (ks.1 uz), .ref xa, .int (nI ps.p), .int (nI (5 - (d + 1)))])), (xa, .inr (14, [.ref xb, .ref xc, .int (nI ps.n)])), (xb, .inl (E.2 1, 60, .inl fb)), (xc, .inl (E.2 2, 60, .inl fc))] := hD
        replace hq_88 : r_88 = fx_b (inS uz (lkX sa ps.p) = true) := hq_88
        rcases fx_bc hq_88 with ⟨hb_88, hr_88⟩ | ⟨hb_88, hr_88⟩
        · -- True
          subst hr_88
          have hnm : isNm uz (lkX sa ps.p) = true := by rw [← inS_u hu]; exact hb_88
          have hlt := lkXH _ (isNm_nm1 hnm)
          have hcn := isNm_c hnm
          have hnl := nmC_lt uz (nmX uz (lkX sa ps.p))
          have hxl := nmX_lt uz (lkX sa ps.p)
          have hnp := hps.1
          have hRR : oneF (lkX sa) uz (d + 1) ps = (true, ps.go.add 2 (nmX uz (lkX sa ps.p))) := by rw [oneF, if_pos hnm]
          refine lv_if_eq (tgt := 126) hx hb dX13_unit_91 (by decide) (fun c => absurd c (by decide)) (fun _ => ?_)
          refine lv_aload_n hx hb dX13_unit_94 rfl (lv_at hl 0 rfl) ?_
          refine fx_get X hE hP 0 rfl rfl 3 rfl q574 rfl rfl dX13_unit_95 ?_
          refine lv_iconst (v := 2) hx hb dX13_unit_98 rfl ?_
          refine lv_aload_n hx hb dX13_unit_99 rfl (lv_at hl 0 rfl) ?_
          refine fx_get X hE hP 0 rfl rfl 2 rfl q573 rfl rfl dX13_unit_100 ?_
          refine lv_aload_n hx hb dX13_unit_103 rfl (lv_at hl 0 rfl) ?_
          refine fx_ci (va_runV (As := []) (rest := [.ref (ks.1 uz), .int 2, .ref xa]) X (xX13_here l E ks sa rd tp_ xa uz ps.p (5 - (d + 1)) ft (by first | assumption | omega) (by first | assumption | omega) hpl.1 _) (cwV 0 X.2.2.2.2 (lw_V q618 q620 qs10 q83 q621) rfl rfl rfl ⟨rfl, hdX13_here⟩ ⟨by simp only [rxX13_here, rxX13_unit] <;> omega, by simp only [rxX13_here, rxX13_unit] <;> omega⟩) (fx_preV (fx_pre hE hP hD hS hR [] rfl rfl (fx_rcm 0 rfl (by decide) (fx_rcr 0 rfl fx_rc0))) (va_recv hE.1 hP (ci := 13) (q0 := 0) rfl rfl)) rfl rfl hl.1 rfl (lv_room (Nat.le_of_ble_eq_true rfl)) dX13_unit_104 ⟨Nat.le_of_ble_eq_true rfl, Nat.le_of_ble_eq_true rfl⟩) hP hD hS hA [] rfl rfl (fun r_104 u H locs hq_104 hP hD hS => ?_)
          replace hP : va_P E.1 clA [(rd, .inr (13, [.ref tp_, .int (nI (nn (sa 3))), .ref (ks.1 uz), .ref xa, .int (nI ps.p), .int (nI (5 - (d + 1)))])), (xa, .inr (14, [.ref xb, .ref xc, .int (nI ps.n)])), (xb, .inl (E.2 1, 60, .inl fb)), (xc, .inl (E.2 2, 60, .inl fc))] _ := hP
          replace hD : va_D A [(rd, .inr (13, [.ref tp_, .int (nI (nn (sa 3))), .ref (ks.1 uz), .ref xa, .int (nI ps.p), .int (nI (5 - (d + 1)))])), (xa, .inr (14, [.ref xb, .ref xc, .int (nI ps.n)])), (xb, .inl (E.2 1, 60, .inl fb)), (xc, .inl (E.2 2, 60, .inl fc))] := hD
          replace hq_104 : r_104 = lkX sa ps.p := hq_104
          refine fx_ti (show r_104 = nI (nmC uz (nmX uz (lkX sa ps.p))) from hq_104.trans hcn) ?_
          refine fz_ci (vz_runV (As := [.int (nI (nmC uz (nmX uz (lkX sa ps.p))))]) (rest := [.int 2, .ref xa]) X (xJ3_indexOf l E ks uz (nmC uz (nmX uz (lkX sa ps.p))) (by omega) hnl _) (cwV 1 X.2.2.2.2 (lw_V q708 q709 q710 q88 q711) rfl rfl rfl ⟨rfl, hdJ3_indexOf⟩ ⟨by simp only [rxJ3_indexOf, rxX13_unit] <;> omega, by simp only [rxJ3_indexOf, rxX13_unit] <;> omega⟩) (fx_preV (fz_pre hE hP hD hS hR hZ hA [] rfl rfl fx_rc0) (vk_recv hZ.2.2.1 (by omega) hS)) rfl rfl hl.1 rfl (lv_room (Nat.le_of_ble_eq_true rfl)) dX13_unit_107 ⟨Nat.le_of_ble_eq_true rfl, Nat.le_of_ble_eq_true rfl⟩) hP hD hS hA [] rfl rfl (fun _ _ _ _ _ h => h.elim) (fun r_107 u H locs hq_107 hP hD hS => ?_)
          replace hP : va_P E.1 clA [(rd, .inr (13, [.ref tp_, .int (nI (nn (sa 3))), .ref (ks.1 uz), .ref xa, .int (nI ps.p), .int (nI (5 - (d + 1)))])), (xa, .inr (14, [.ref xb, .ref xc, .int (nI ps.n)])), (xb, .inl (E.2 1, 60, .inl fb)), (xc, .inl (E.2 2, 60, .inl fc))] _ := hP
          replace hD : va_D A [(rd, .inr (13, [.ref tp_, .int (nI (nn (sa 3))), .ref (ks.1 uz), .ref xa, .int (nI ps.p), .int (nI (5 - (d + 1)))])), (xa, .inr (14, [.ref xb, .ref xc, .int (nI ps.n)])), (xb, .inl (E.2 1, 60, .inl fb)), (xc, .inl (E.2 2, 60, .inl fc))] := hD
          replace hq_107 : IXs uz (nI (nmC uz (nmX uz (lkX sa ps.p)))) r_107 := hq_107
          refine fx_ti (show r_107 = nI (nmX uz (lkX sa ps.p)) from IXs_nm hu (hcn ▸ hq_107) hnm) ?_
          refine fx_cv (va_runV (As := [.int 2, .int (nI (nmX uz (lkX sa ps.p)))]) (rest := []) X (xX14_add l E xa xb xc ps.n fb fc 2 (nmX uz (lkX sa ps.p)) (by have := hps.2.1; omega) (by decide) (by omega) _) (cwV 2 X.2.2.2.2 (lw_V q696 q697 q698 q84 q699) rfl rfl rfl ⟨rfl, hdX14_add⟩ ⟨by simp only [rxX14_add, rxX13_unit] <;> omega, by simp only [rxX14_add, rxX13_unit] <;> omega⟩) (fx_preV (fx_pre hE hP hD hS hR [1, 2, 3] rfl rfl fx_rc0) (va_recv hE.1 hP (ci := 14) (q0 := 1) rfl rfl)) rfl rfl hl.1 rfl (lv_room (Nat.le_of_ble_eq_true rfl)) dX13_unit_110 ⟨Nat.le_of_ble_eq_true rfl, Nat.le_of_ble_eq_true rfl⟩) hP hD hS hA [1, 2, 3] rfl rfl (fun u H locs hq_110 hP hD hS => ?_)
          replace hP : va_P E.1 clA [(rd, .inr (13, [.ref tp_, .int (nI (nn (sa 3))), .ref (ks.1 uz), .ref xa, .int (nI ps.p), .int (nI (5 - (d + 1)))])), (xa, .inr (14, [.ref xb, .ref xc, .int (nI (ps.n + 1))])), (xb, .inl (E.2 1, 60, .inl (upd fb ps.n (nI 2)))), (xc, .inl (E.2 2, 60, .inl (upd fc ps.n (nI (nmX uz (lkX sa ps.p))))))] _ := hP
          replace hD : va_D A [(rd, .inr (13, [.ref tp_, .int (nI (nn (sa 3))), .ref (ks.1 uz), .ref xa, .int (nI ps.p), .int (nI (5 - (d + 1)))])), (xa, .inr (14, [.ref xb, .ref xc, .int (nI (ps.n + 1))])), (xb, .inl (E.2 1, 60, .inl (upd fb ps.n (nI 2)))), (xc, .inl (E.2 2, 60, .inl (upd fc ps.n (nI (nmX uz (lkX sa ps.p))))))] := hD
          replace hq_110 : True := hq_110
          refine lv_aload_n hx hb dX13_unit_113 rfl (lv_at hl 0 rfl) ?_
          refine lv_dup hx hb dX13_unit_114 rfl ?_
          refine fx_get X hE hP 0 rfl rfl 4 rfl q575 rfl rfl dX13_unit_115 ?_
          refine lv_iconst (v := 1) hx hb dX13_unit_118 rfl ?_
          refine lv_iadd hx hb dX13_unit_119 ?_
          refine fx_ti (nI_add ps.p 1) ?_
          refine fx_put_ (ws' := [(rd, .inr (13, [.ref tp_, .int (nI (nn (sa 3))), .ref (ks.1 uz), .ref xa, .int (nI (ps.p + 1)), .int (nI (5 - (d + 1)))])), (xa, .inr (14, [.ref xb, .ref xc, .int (nI (ps.n + 1))])), (xb, .inl (E.2 1, 60, .inl (upd fb ps.n (nI 2)))), (xc, .inl (E.2 2, 60, .inl (upd fc ps.n (nI (nmX uz (lkX sa ps.p))))))]) X hE hP hD hS 0 rfl rfl tyX13_ok nmX13 4 rfl q575 rfl rfl rfl rfl rfl rfl dX13_unit_120 (fun H locs hP hD hS => ?_)
          refine lv_goto (tgt := 138) hx hb dX13_unit_123 (by decide) ?_
          exact hret (ps.p + 1, ps.n + 1, (upd fb ps.n (nI 2)), (upd fc ps.n (nI (nmX uz (lkX sa ps.p))))) (⟨by rw [hRR], by rw [hRR]; rfl, by rw [hRR]; rfl, by rw [hRR]; exact TP_add hTP⟩) hP hD hS (Nat.le_refl _) (Nat.le_refl _) dX13_unit_138
        · -- False
          subst hr_88
          have hnn : ¬ isNm uz (lkX sa ps.p) = true := by rw [← inS_u hu]; exact hb_88
          refine lv_if_eq (tgt := 126) hx hb dX13_unit_91 (by decide) (fun _ => ?_) (fun c => (c (by decide)).elim)
          refine lv_aload_n hx hb dX13_unit_126 rfl (lv_at hl 0 rfl) ?_
          refine fx_get X hE hP 0 rfl rfl 3 rfl q574 rfl rfl dX13_unit_127 ?_
          refine lv_iconst (v := 1) hx hb dX13_unit_130 rfl ?_
          refine lv_aload_n hx hb dX13_unit_131 rfl (lv_at hl 0 rfl) ?_
          refine fz_ci (vz_runV (As := []) (rest := [.int 1, .ref xa]) X (xX13_number l E ks sa rd tp_ xa uz ps.p (5 - (d + 1)) ft (by first | assumption | omega) (by first | assumption | omega) hps.2.1 _) (cwV 0 X.2.2.2.2 (lw_V q790 q792 qs16 q83 q793) rfl rfl rfl ⟨rfl, hdX13_number⟩ ⟨by simp only [rxX13_number, rxX13_unit] <;> omega, by simp only [rxX13_number, rxX13_unit] <;> omega⟩) (fx_preV (fz_pre hE hP hD hS hR hZ hA [0] rfl rfl (fx_rcr 0 rfl fx_rc0)) (va_recv hE.1 hP (ci := 13) (q0 := 0) rfl rfl)) rfl rfl hl.1 rfl (lv_room (Nat.le_of_ble_eq_true rfl)) dX13_unit_132 ⟨Nat.le_of_ble_eq_true rfl, Nat.le_of_ble_eq_true rfl⟩) hP hD hS hA [0] rfl rfl (fun qx_132 u H locs ce hqx_132 hP hD hS hce hcv hcl => ?_) (fun r_132 u H locs hq_132 hP hD hS => ?_)
          · -- thrown
            obtain ⟨at9_132x, op9_132x, q9_132x, pl9_132x⟩ := u
            replace hP : va_P E.1 clA [(rd, .inr (13, [.ref tp_, .int (nI (nn (sa 3))), .ref (ks.1 uz), .ref xa, .int at9_132x, .int op9_132x])), (xa, .inr (14, [.ref xb, .ref xc, .int (nI ps.n)])), (xb, .inl (E.2 1, 60, .inl fb)), (xc, .inl (E.2 2, 60, .inl fc)), (q9_132x, .inr (15, [.null, .null, .null, .null, .null, .int 0, .int pl9_132x]))] _ := hP
            replace hD : va_D A [(rd, .inr (13, [.ref tp_, .int (nI (nn (sa 3))), .ref (ks.1 uz), .ref xa, .int at9_132x, .int op9_132x])), (xa, .inr (14, [.ref xb, .ref xc, .int (nI ps.n)])), (xb, .inl (E.2 1, 60, .inl fb)), (xc, .inl (E.2 2, 60, .inl fc)), (q9_132x, .inr (15, [.null, .null, .null, .null, .null, .int 0, .int pl9_132x]))] := hD
            replace hqx_132 : qx_132 = q9_132x ∧ ¬ isDg (lkX sa ps.p) = true ∧ pl9_132x = nI ps.p := hqx_132
            have hRR : oneF (lkX sa) uz (d + 1) ps = (false, ps) := by rw [oneF, if_neg hnn, if_neg hqx_132.2.1, if_neg c_6, if_neg c_45]
            exact hthrow _ (at9_132x, op9_132x, nI ps.n, fb, fc, q9_132x, pl9_132x) (⟨hqx_132.1, by rw [hRR], by rw [hRR]; exact hqx_132.2.2⟩) hP hD hS (Nat.le_refl _) (Nat.le_refl _) hce hcv hcl
          · -- back
            obtain ⟨at2_132, rfl⟩ : ∃ z, z = u := ⟨_, rfl⟩
            replace hP : va_P E.1 clA [(rd, .inr (13, [.ref tp_, .int (nI (nn (sa 3))), .ref (ks.1 uz), .ref xa, .int (nI at2_132), .int (nI (5 - (d + 1)))])), (xa, .inr (14, [.ref xb, .ref xc, .int (nI ps.n)])), (xb, .inl (E.2 1, 60, .inl fb)), (xc, .inl (E.2 2, 60, .inl fc))] _ := hP
            replace hD : va_D A [(rd, .inr (13, [.ref tp_, .int (nI (nn (sa 3))), .ref (ks.1 uz), .ref xa, .int (nI at2_132), .int (nI (5 - (d + 1)))])), (xa, .inr (14, [.ref xb, .ref xc, .int (nI ps.n)])), (xb, .inl (E.2 1, 60, .inl fb)), (xc, .inl (E.2 2, 60, .inl fc))] := hD
            replace hq_132 : isDg (lkX sa ps.p) = true ∧ at2_132 = (numF (lkX sa) 4 0 ps.p).2 ∧ r_132 = nI (numF (lkX sa) 4 0 ps.p).1 := hq_132
            obtain ⟨hdg, ha_132, hr_132⟩ := hq_132
            subst ha_132
            refine fx_ti (show r_132 = nI ((numF (lkX sa) 4 0 ps.p).1) from hr_132) ?_
            have h4 := num4 lkXH hdg hps.2.1
            have hnp := hps.1
            have hRR : oneF (lkX sa) uz (d + 1) ps = (true, (ps.to (numF (lkX sa) 4 0 ps.p).2).add 1 (numF (lkX sa) 4 0 ps.p).1) := by rw [oneF, if_neg hnn, if_pos hdg]
            refine fx_cv (va_runV (As := [.int 1, .int (nI ((numF (lkX sa) 4 0 ps.p).1))]) (rest := []) X (xX14_add l E xa xb xc ps.n fb fc 1 ((numF (lkX sa) 4 0 ps.p).1) (by omega) (by decide) (by omega) _) (cwV 2 X.2.2.2.2 (lw_V q696 q697 q698 q84 q699) rfl rfl rfl ⟨rfl, hdX14_add⟩ ⟨by simp only [rxX14_add, rxX13_unit] <;> omega, by simp only [rxX14_add, rxX13_unit] <;> omega⟩) (fx_preV (fx_pre hE hP hD hS hR [1, 2, 3] rfl rfl fx_rc0) (va_recv hE.1 hP (ci := 14) (q0 := 1) rfl rfl)) rfl rfl hl.1 rfl (lv_room (Nat.le_of_ble_eq_true rfl)) dX13_unit_135 ⟨Nat.le_of_ble_eq_true rfl, Nat.le_of_ble_eq_true rfl⟩) hP hD hS hA [1, 2, 3] rfl rfl (fun u H locs hq_135 hP hD hS => ?_)
            replace hP : va_P E.1 clA [(rd, .inr (13, [.ref tp_, .int (nI (nn (sa 3))), .ref (ks.1 uz), .ref xa, .int (nI ((numF (lkX sa) 4 0 ps.p).2)), .int (nI (5 - (d + 1)))])), (xa, .inr (14, [.ref xb, .ref xc, .int (nI (ps.n + 1))])), (xb, .inl (E.2 1, 60, .inl (upd fb ps.n (nI 1)))), (xc, .inl (E.2 2, 60, .inl (upd fc ps.n (nI ((numF (lkX sa) 4 0 ps.p).1)))))] _ := hP
            replace hD : va_D A [(rd, .inr (13, [.ref tp_, .int (nI (nn (sa 3))), .ref (ks.1 uz), .ref xa, .int (nI ((numF (lkX sa) 4 0 ps.p).2)), .int (nI (5 - (d + 1)))])), (xa, .inr (14, [.ref xb, .ref xc, .int (nI (ps.n + 1))])), (xb, .inl (E.2 1, 60, .inl (upd fb ps.n (nI 1)))), (xc, .inl (E.2 2, 60, .inl (upd fc ps.n (nI ((numF (lkX sa) 4 0 ps.p).1)))))] := hD
            replace hq_135 : True := hq_135
            exact hret ((numF (lkX sa) 4 0 ps.p).2, ps.n + 1, (upd fb ps.n (nI 1)), (upd fc ps.n (nI ((numF (lkX sa) 4 0 ps.p).1)))) (⟨by rw [hRR], by rw [hRR]; rfl, by rw [hRR]; rfl, by rw [hRR]; exact TP_add (s := ps.to (numF (lkX sa) 4 0 ps.p).2) hTP⟩) hP hD hS (Nat.le_refl _) (Nat.le_refl _) dX13_unit_138
      · -- fall 48
        have hlt := lkXH ps.p (by rw [c_45]; decide)
        refine lv_aload_n hx hb dX13_unit_48 rfl (lv_at hl 0 rfl) ?_
        refine fz_cv (vz_runV (As := []) (rest := []) X (xX13_opens l E ks sa rd tp_ xa uz ps.p (5 - (d + 1)) (by omega) _) (cwV 0 X.2.2.2.2 (lw_V q622 q624 qs11 q83 q625) rfl rfl rfl ⟨rfl, hdX13_opens⟩ ⟨by simp only [rxX13_opens, rxX13_unit] <;> omega, by simp only [rxX13_opens, rxX13_unit] <;> omega⟩) (fx_preV (fz_pre hE hP hD hS hR hZ hA [0] rfl rfl fx_rc0) (va_recv hE.1 hP (ci := 13) (q0 := 0) rfl rfl)) rfl rfl hl.1 rfl (lv_room (Nat.le_of_ble_eq_true rfl)) dX13_unit_49 ⟨Nat.le_of_ble_eq_true rfl, Nat.le_of_ble_eq_true rfl⟩) hP hD hS hA [0] rfl rfl (fun qx_49 u H locs ce hqx_49 hP hD hS hce hcv hcl => ?_) (fun u H locs hq_49 hP hD hS => ?_)
        · -- thrown
          obtain ⟨at9_49x, op9_49x, q9_49x, pl9_49x⟩ := u
          replace hP : va_P E.1 clA [(rd, .inr (13, [.ref tp_, .int (nI (nn (sa 3))), .ref (ks.1 uz), .ref xa, .int at9_49x, .int op9_49x])), (xa, .inr (14, [.ref xb, .ref xc, .int (nI ps.n)])), (xb, .inl (E.2 1, 60, .inl fb)), (xc, .inl (E.2 2, 60, .inl fc)), (q9_49x, .inr (15, [.null, .null, .null, .null, .null, .int 0, .int pl9_49x]))] _ := hP
          replace hD : va_D A [(rd, .inr (13, [.ref tp_, .int (nI (nn (sa 3))), .ref (ks.1 uz), .ref xa, .int at9_49x, .int op9_49x])), (xa, .inr (14, [.ref xb, .ref xc, .int (nI ps.n)])), (xb, .inl (E.2 1, 60, .inl fb)), (xc, .inl (E.2 2, 60, .inl fc)), (q9_49x, .inr (15, [.null, .null, .null, .null, .null, .int 0, .int pl9_49x]))] := hD
          replace hqx_49 : qx_49 = q9_49x ∧ (5 - (d + 1)) = 5 ∧ pl9_49x = nI ps.p := hqx_49
          exact absurd hqx_49.2.1 (by omega)
        · -- back
          replace hP : va_P E.1 clA [(rd, .inr (13, [.ref tp_, .int (nI (nn (sa 3))), .ref (ks.1 uz), .ref xa, .int (nI (ps.p + 1)), .int (nI ((5 - (d + 1)) + 1))])), (xa, .inr (14, [.ref xb, .ref xc, .int (nI ps.n)])), (xb, .inl (E.2 1, 60, .inl fb)), (xc, .inl (E.2 2, 60, .inl fc))] _ := hP
          replace hD : va_D A [(rd, .inr (13, [.ref tp_, .int (nI (nn (sa 3))), .ref (ks.1 uz), .ref xa, .int (nI (ps.p + 1)), .int (nI ((5 - (d + 1)) + 1))])), (xa, .inr (14, [.ref xb, .ref xc, .int (nI ps.n)])), (xb, .inl (E.2 1, 60, .inl fb)), (xc, .inl (E.2 2, 60, .inl fc))] := hD
          replace hq_49 : (5 - (d + 1)) ≠ 5 := hq_49
          have eO : 5 - (d + 1) + 1 = 5 - d := by omega
          rw [eO] at hP hD
          refine lv_aload_n hx hb dX13_unit_52 rfl (lv_at hl 0 rfl) ?_
          refine fz_cv (vz_runV (As := []) (rest := []) X (xX13_either l E ks sa rd tp_ xa xb xc uz ft fb fc ps.go d (by omega) (by first | assumption | omega) (by first | assumption | omega) (by first | assumption | omega) (go_ok hps hlt) (show TP ps.go fb fc from hTP) ih _) (cwV 0 X.2.2.2.2 (lw_V q594 q596 qs4 q83 q597) rfl rfl rfl ⟨rfl, hdX13_either⟩ ⟨by simp only [rxX13_either, rxX13_unit] <;> omega, by simp only [rxX13_either, rxX13_unit] <;> omega⟩) (fx_preV (fz_pre hE hP hD hS hR hZ hA [0, 1, 2, 3] rfl rfl (fx_rcr 0 rfl fx_rc0)) (va_recv hE.1 hP (ci := 13) (q0 := 0) rfl rfl)) rfl rfl hl.1 rfl (lv_room (Nat.le_of_ble_eq_true rfl)) dX13_unit_53 ⟨Nat.le_of_ble_eq_true rfl, Nat.le_of_ble_eq_true rfl⟩) hP hD hS hA [0, 1, 2, 3] rfl rfl (fun qx_53 u H locs ce hqx_53 hP hD hS hce hcv hcl => ?_) (fun u H locs hq_53 hP hD hS => ?_)
          · -- thrown
            obtain ⟨at9_53x, op9_53x, n9_53x, fb9_53x, fc9_53x, q9_53x, pl9_53x⟩ := u
            replace hP : va_P E.1 clA [(rd, .inr (13, [.ref tp_, .int (nI (nn (sa 3))), .ref (ks.1 uz), .ref xa, .int at9_53x, .int op9_53x])), (xa, .inr (14, [.ref xb, .ref xc, .int n9_53x])), (xb, .inl (E.2 1, 60, .inl fb9_53x)), (xc, .inl (E.2 2, 60, .inl fc9_53x)), (q9_53x, .inr (15, [.null, .null, .null, .null, .null, .int 0, .int pl9_53x]))] _ := hP
            replace hD : va_D A [(rd, .inr (13, [.ref tp_, .int (nI (nn (sa 3))), .ref (ks.1 uz), .ref xa, .int at9_53x, .int op9_53x])), (xa, .inr (14, [.ref xb, .ref xc, .int n9_53x])), (xb, .inl (E.2 1, 60, .inl fb9_53x)), (xc, .inl (E.2 2, 60, .inl fc9_53x)), (q9_53x, .inr (15, [.null, .null, .null, .null, .null, .int 0, .int pl9_53x]))] := hD
            replace hqx_53 : qx_53 = q9_53x ∧ (((whlF (lkX sa) (oneF (lkX sa) uz d)) ps.go)).1 = false ∧ pl9_53x = nI (((whlF (lkX sa) (oneF (lkX sa) uz d)) ps.go)).2.p := hqx_53
            have hRR : (oneF (lkX sa) uz (d + 1) ps) = (false, ((whlF (lkX sa) (oneF (lkX sa) uz d)) ps.go).2) := by rw [oneF, if_neg (show ¬ isNm uz (lkX sa ps.p) = true by rw [c_45]; exact nm40 uz), if_neg (show ¬ isDg (lkX sa ps.p) = true by rw [c_45]; decide), if_neg (by rw [c_45]; decide), if_pos c_45, if_neg (by rw [hqx_53.2.1]; exact Bool.false_ne_true)]
            exact hthrow _ (at9_53x, op9_53x, n9_53x, fb9_53x, fc9_53x, q9_53x, pl9_53x) (⟨hqx_53.1, by rw [hRR], by rw [hRR]; exact hqx_53.2.2⟩) hP hD hS (Nat.le_refl _) (Nat.le_refl _) hce hcv hcl
          · -- back
            obtain ⟨at2_53, n2_53, fb2_53, fc2_53⟩ := u
            replace hP : va_P E.1 clA [(rd, .inr (13, [.ref tp_, .int (nI (nn (sa 3))), .ref (ks.1 uz), .ref xa, .int (nI at2_53), .int (nI (5 - d))])), (xa, .inr (14, [.ref xb, .ref xc, .int (nI n2_53)])), (xb, .inl (E.2 1, 60, .inl fb2_53)), (xc, .inl (E.2 2, 60, .inl fc2_53))] _ := hP
            replace hD : va_D A [(rd, .inr (13, [.ref tp_, .int (nI (nn (sa 3))), .ref (ks.1 uz), .ref xa, .int (nI at2_53), .int (nI (5 - d))])), (xa, .inr (14, [.ref xb, .ref xc, .int (nI n2_53)])), (xb, .inl (E.2 1, 60, .inl fb2_53)), (xc, .inl (E.2 2, 60, .inl fc2_53))] := hD
            replace hq_53 : (((whlF (lkX sa) (oneF (lkX sa) uz d)) ps.go)).1 = true ∧ at2_53 = (((whlF (lkX sa) (oneF (lkX sa) uz d)) ps.go)).2.p ∧ n2_53 = (((whlF (lkX sa) (oneF (lkX sa) uz d)) ps.go)).2.n ∧ TP (((whlF (lkX sa) (oneF (lkX sa) uz d)) ps.go)).2 fb2_53 fc2_53 := hq_53
            obtain ⟨hb_53, ha_53, hn_53, hM_53⟩ := hq_53
            subst ha_53 hn_53
            have hin := (whl_pp lkXH ps.go (go_ok hps hlt) hb_53).1.le60 hta
            refine lv_aload_n hx hb dX13_unit_56 rfl (lv_at hl 0 rfl) ?_
            refine lv_bipush (v := 41) hx hb dX13_unit_57 rfl ?_
            refine fx_ci (va_runV (As := [.int 41]) (rest := []) X (xX13_takes l E ks sa rd tp_ xa uz (((whlF (lkX sa) (oneF (lkX sa) uz d)) ps.go).2.p) (5 - d) ft 41 (by first | assumption | omega) (by first | assumption | omega) hin.1 _) (cwV 1 X.2.2.2.2 (lw_V q700 q702 qs14 q83 q703) rfl rfl rfl ⟨rfl, hdX13_takes⟩ ⟨by simp only [rxX13_takes, rxX13_unit] <;> omega, by simp only [rxX13_takes, rxX13_unit] <;> omega⟩) (fx_preV (fx_pre hE hP hD hS hR [0] rfl rfl (fx_rcr 0 rfl fx_rc0)) (va_recv hE.1 hP (ci := 13) (q0 := 0) rfl rfl)) rfl rfl hl.1 rfl (lv_room (Nat.le_of_ble_eq_true rfl)) dX13_unit_59 ⟨Nat.le_of_ble_eq_true rfl, Nat.le_of_ble_eq_true rfl⟩) hP hD hS hA [0] rfl rfl (fun r_59 u H locs hq_59 hP hD hS => ?_)
            obtain ⟨at2_59, rfl⟩ : ∃ z, z = u := ⟨_, rfl⟩
            replace hP : va_P E.1 clA [(rd, .inr (13, [.ref tp_, .int (nI (nn (sa 3))), .ref (ks.1 uz), .ref xa, .int (nI at2_59), .int (nI (5 - d))])), (xa, .inr (14, [.ref xb, .ref xc, .int (nI (((whlF (lkX sa) (oneF (lkX sa) uz d)) ps.go).2.n))])), (xb, .inl (E.2 1, 60, .inl fb2_53)), (xc, .inl (E.2 2, 60, .inl fc2_53))] _ := hP
            replace hD : va_D A [(rd, .inr (13, [.ref tp_, .int (nI (nn (sa 3))), .ref (ks.1 uz), .ref xa, .int (nI at2_59), .int (nI (5 - d))])), (xa, .inr (14, [.ref xb, .ref xc, .int (nI (((whlF (lkX sa) (oneF (lkX sa) uz d)) ps.go).2.n))])), (xb, .inl (E.2 1, 60, .inl fb2_53)), (xc, .inl (E.2 2, 60, .inl fc2_53))] := hD
            replace hq_59 : r_59 = fx_b (lkX sa (((whlF (lkX sa) (oneF (lkX sa) uz d)) ps.go).2.p) = 41) ∧ (lkX sa (((whlF (lkX sa) (oneF (lkX sa) uz d)) ps.go).2.p) = 41 → at2_59 = (((whlF (lkX sa) (oneF (lkX sa) uz d)) ps.go).2.p) + 1) ∧ (¬ lkX sa (((whlF (lkX sa) (oneF (lkX sa) uz d)) ps.go).2.p) = 41 → at2_59 = (((whlF (lkX sa) (oneF (lkX sa) uz d)) ps.go).2.p)) := hq_59
            rcases fx_bc hq_59.1 with ⟨hb_59, hr_59⟩ | ⟨hb_59, hr_59⟩
            · -- True
              subst hr_59
              have ha_59 := hq_59.2.1 hb_59
              subst ha_59
              have hRR : oneF (lkX sa) uz (d + 1) ps = (true, ((whlF (lkX sa) (oneF (lkX sa) uz d)) ps.go).2.go) := by rw [oneF, if_neg (show ¬ isNm uz (lkX sa ps.p) = true by rw [c_45]; exact nm40 uz), if_neg (show ¬ isDg (lkX sa ps.p) = true by rw [c_45]; decide), if_neg (by rw [c_45]; decide), if_pos c_45, if_pos hb_53, if_pos hb_59]
              refine lv_if_ne (tgt := 70) hx hb dX13_unit_62 (by decide) (fun _ => ?_) (fun c => absurd c (by decide))
              refine lv_aload_n hx hb dX13_unit_70 rfl (lv_at hl 0 rfl) ?_
              refine lv_dup hx hb dX13_unit_71 rfl ?_
              refine fx_get X hE hP 0 rfl rfl 5 rfl q576 rfl rfl dX13_unit_72 ?_
              refine lv_iconst (v := 1) hx hb dX13_unit_75 rfl ?_
              refine lv_isub hx hb dX13_unit_76 ?_
              refine fx_ti (pk_sub (a := 5 - d) (b := 1) (by omega)) ?_
              refine fx_ti (show nI (5 - d - 1) = nI (5 - (d + 1)) from congrArg nI (by omega)) ?_
              refine fx_put_ (ws' := [(rd, .inr (13, [.ref tp_, .int (nI (nn (sa 3))), .ref (ks.1 uz), .ref xa, .int (nI (((whlF (lkX sa) (oneF (lkX sa) uz d)) ps.go).2.p + 1)), .int (nI (5 - (d + 1)))])), (xa, .inr (14, [.ref xb, .ref xc, .int (nI (((whlF (lkX sa) (oneF (lkX sa) uz d)) ps.go).2.n))])), (xb, .inl (E.2 1, 60, .inl fb2_53)), (xc, .inl (E.2 2, 60, .inl fc2_53))]) X hE hP hD hS 0 rfl rfl tyX13_ok nmX13 5 rfl q576 rfl rfl rfl rfl rfl rfl dX13_unit_77 (fun H locs hP hD hS => ?_)
              refine lv_goto (tgt := 138) hx hb dX13_unit_80 (by decide) ?_
              exact hret (((whlF (lkX sa) (oneF (lkX sa) uz d)) ps.go).2.p + 1, ((whlF (lkX sa) (oneF (lkX sa) uz d)) ps.go).2.n, fb2_53, fc2_53) (⟨by rw [hRR], by rw [hRR]; rfl, by rw [hRR]; rfl, by rw [hRR]; exact hM_53⟩) hP hD hS (Nat.le_refl _) (Nat.le_refl _) dX13_unit_138
            · -- False
              subst hr_59
              have ha_59 := hq_59.2.2 hb_59
              subst ha_59
              have hRR : oneF (lkX sa) uz (d + 1) ps = (false, ((whlF (lkX sa) (oneF (lkX sa) uz d)) ps.go).2) := by rw [oneF, if_neg (show ¬ isNm uz (lkX sa ps.p) = true by rw [c_45]; exact nm40 uz), if_neg (show ¬ isDg (lkX sa ps.p) = true by rw [c_45]; decide), if_neg (by rw [c_45]; decide), if_pos c_45, if_pos hb_53, if_neg hb_59]
              refine lv_if_ne (tgt := 70) hx hb dX13_unit_62 (by decide) (fun c => (c (by decide)).elim) (fun _ => ?_)
              refine lv_aload_n hx hb dX13_unit_65 rfl (lv_at hl 0 rfl) ?_
              refine fz_cq (vz_runV (As := []) (rest := []) X (xX13_wrong l E ks sa rd tp_ xa uz (((whlF (lkX sa) (oneF (lkX sa) uz d)) ps.go).2.p) (5 - d) _) (cwV 0 X.2.2.2.2 (lw_V q626 q628 qs12 q83 q629) rfl rfl rfl ⟨rfl, hdX13_wrong⟩ ⟨by simp only [rxX13_wrong, rxX13_unit] <;> omega, by simp only [rxX13_wrong, rxX13_unit] <;> omega⟩) (fx_preV (fz_pre hE hP hD hS hR hZ hA [] rfl rfl (fx_rcm 0 rfl (by decide) fx_rc0)) (va_recv hE.1 hP (ci := 13) (q0 := 0) rfl rfl)) rfl rfl hl.1 rfl (lv_room (Nat.le_of_ble_eq_true rfl)) dX13_unit_66 ⟨Nat.le_of_ble_eq_true rfl, Nat.le_of_ble_eq_true rfl⟩) hP hD hS hA [] rfl rfl (fun _ _ _ _ _ h => h.elim) (fun r_66 u H locs hq_66 hP hD hS => ?_)
              obtain ⟨q2_66, rfl⟩ : ∃ z, z = u := ⟨_, rfl⟩
              replace hP : va_P E.1 clA [(rd, .inr (13, [.ref tp_, .int (nI (nn (sa 3))), .ref (ks.1 uz), .ref xa, .int (nI (((whlF (lkX sa) (oneF (lkX sa) uz d)) ps.go).2.p)), .int (nI (5 - d))])), (xa, .inr (14, [.ref xb, .ref xc, .int (nI (((whlF (lkX sa) (oneF (lkX sa) uz d)) ps.go).2.n))])), (xb, .inl (E.2 1, 60, .inl fb2_53)), (xc, .inl (E.2 2, 60, .inl fc2_53)), (q2_66, .inr (15, [.null, .null, .null, .null, .null, .int 0, .int (nI (((whlF (lkX sa) (oneF (lkX sa) uz d)) ps.go).2.p))]))] _ := hP
              replace hD : va_D A [(rd, .inr (13, [.ref tp_, .int (nI (nn (sa 3))), .ref (ks.1 uz), .ref xa, .int (nI (((whlF (lkX sa) (oneF (lkX sa) uz d)) ps.go).2.p)), .int (nI (5 - d))])), (xa, .inr (14, [.ref xb, .ref xc, .int (nI (((whlF (lkX sa) (oneF (lkX sa) uz d)) ps.go).2.n))])), (xb, .inl (E.2 1, 60, .inl fb2_53)), (xc, .inl (E.2 2, 60, .inl fc2_53)), (q2_66, .inr (15, [.null, .null, .null, .null, .null, .int 0, .int (nI (((whlF (lkX sa) (oneF (lkX sa) uz d)) ps.go).2.p))]))] := hD
              replace hq_66 : r_66 = some q2_66 := hq_66
              refine W.widen (k := 1) (n := 7) (by first | omega | exact Nat.le_of_ble_eq_true rfl) (by first | omega | exact Nat.le_of_ble_eq_true rfl) ?_
              obtain rfl : r_66 = some q2_66 := by first | exact hq_66 | exact hq_66.1
              refine fz_athrow X hE hP 4 rfl rfl dX13_unit_69 (fun ce hce hcv hcl => ?_)
              exact hthrow _ (nI ((whlF (lkX sa) (oneF (lkX sa) uz d)) ps.go).2.p, nI (5 - d), nI ((whlF (lkX sa) (oneF (lkX sa) uz d)) ps.go).2.n, fb2_53, fc2_53, q2_66, nI ((whlF (lkX sa) (oneF (lkX sa) uz d)) ps.go).2.p) (⟨rfl, by rw [hRR], by rw [hRR]⟩) hP hD hS (Nat.le_refl _) (Nat.le_refl _) hce hcv hcl
    · -- fall 9
      have hlt := lkXH ps.p (by rw [c_6]; decide)
      refine lv_aload_n hx hb dX13_unit_9 rfl (lv_at hl 0 rfl) ?_
      refine fz_cv (vz_runV (As := []) (rest := []) X (xX13_opens l E ks sa rd tp_ xa uz ps.p (5 - (d + 1)) (by omega) _) (cwV 0 X.2.2.2.2 (lw_V q622 q624 qs11 q83 q625) rfl rfl rfl ⟨rfl, hdX13_opens⟩ ⟨by simp only [rxX13_opens, rxX13_unit] <;> omega, by simp only [rxX13_opens, rxX13_unit] <;> omega⟩) (fx_preV (fz_pre hE hP hD hS hR hZ hA [0] rfl rfl fx_rc0) (va_recv hE.1 hP (ci := 13) (q0 := 0) rfl rfl)) rfl rfl hl.1 rfl (lv_room (Nat.le_of_ble_eq_true rfl)) dX13_unit_10 ⟨Nat.le_of_ble_eq_true rfl, Nat.le_of_ble_eq_true rfl⟩) hP hD hS hA [0] rfl rfl (fun qx_10 u H locs ce hqx_10 hP hD hS hce hcv hcl => ?_) (fun u H locs hq_10 hP hD hS => ?_)
      · -- thrown
        obtain ⟨at9_10x, op9_10x, q9_10x, pl9_10x⟩ := u
        replace hP : va_P E.1 clA [(rd, .inr (13, [.ref tp_, .int (nI (nn (sa 3))), .ref (ks.1 uz), .ref xa, .int at9_10x, .int op9_10x])), (xa, .inr (14, [.ref xb, .ref xc, .int (nI ps.n)])), (xb, .inl (E.2 1, 60, .inl fb)), (xc, .inl (E.2 2, 60, .inl fc)), (q9_10x, .inr (15, [.null, .null, .null, .null, .null, .int 0, .int pl9_10x]))] _ := hP
        replace hD : va_D A [(rd, .inr (13, [.ref tp_, .int (nI (nn (sa 3))), .ref (ks.1 uz), .ref xa, .int at9_10x, .int op9_10x])), (xa, .inr (14, [.ref xb, .ref xc, .int (nI ps.n)])), (xb, .inl (E.2 1, 60, .inl fb)), (xc, .inl (E.2 2, 60, .inl fc)), (q9_10x, .inr (15, [.null, .null, .null, .null, .null, .int 0, .int pl9_10x]))] := hD
        replace hqx_10 : qx_10 = q9_10x ∧ (5 - (d + 1)) = 5 ∧ pl9_10x = nI ps.p := hqx_10
        exact absurd hqx_10.2.1 (by omega)
      · -- back
        replace hP : va_P E.1 clA [(rd, .inr (13, [.ref tp_, .int (nI (nn (sa 3))), .ref (ks.1 uz), .ref xa, .int (nI (ps.p + 1)), .int (nI ((5 - (d + 1)) + 1))])), (xa, .inr (14, [.ref xb, .ref xc, .int (nI ps.n)])), (xb, .inl (E.2 1, 60, .inl fb)), (xc, .inl (E.2 2, 60, .inl fc))] _ := hP
        replace hD : va_D A [(rd, .inr (13, [.ref tp_, .int (nI (nn (sa 3))), .ref (ks.1 uz), .ref xa, .int (nI (ps.p + 1)), .int (nI ((5 - (d + 1)) + 1))])), (xa, .inr (14, [.ref xb, .ref xc, .int (nI ps.n)])), (xb, .inl (E.2 1, 60, .inl fb)), (xc, .inl (E.2 2, 60, .inl fc))] := hD
        replace hq_10 : (5 - (d + 1)) ≠ 5 := hq_10
        have eO : 5 - (d + 1) + 1 = 5 - d := by omega
        rw [eO] at hP hD
        refine lv_aload_n hx hb dX13_unit_13 rfl (lv_at hl 0 rfl) ?_
        refine fz_cv (vz_runV (As := []) (rest := []) X (ih ks sa rd tp_ xa xb xc uz ft fb fc ps.go (by omega) (by first | assumption | omega) (by first | assumption | omega) (by first | assumption | omega) (go_ok hps hlt) (show TP ps.go fb fc from hTP) _) (cwV 0 X.2.2.2.2 (lw_V q614 q616 qs9 q83 q617) rfl rfl rfl ⟨rfl, hdX13_unit⟩ ⟨by simp only [rxX13_unit]; omega, by simp only [rxX13_unit]; omega⟩) (fx_preV (fz_pre hE hP hD hS hR hZ hA [0, 1, 2, 3] rfl rfl (fx_rcr 0 rfl fx_rc0)) (va_recv hE.1 hP (ci := 13) (q0 := 0) rfl rfl)) rfl rfl hl.1 rfl (lv_room (Nat.le_of_ble_eq_true rfl)) dX13_unit_14 ⟨Nat.le_of_ble_eq_true rfl, Nat.le_of_ble_eq_true rfl⟩) hP hD hS hA [0, 1, 2, 3] rfl rfl (fun qx_14 u H locs ce hqx_14 hP hD hS hce hcv hcl => ?_) (fun u H locs hq_14 hP hD hS => ?_)
        · -- thrown
          obtain ⟨at9_14x, op9_14x, n9_14x, fb9_14x, fc9_14x, q9_14x, pl9_14x⟩ := u
          replace hP : va_P E.1 clA [(rd, .inr (13, [.ref tp_, .int (nI (nn (sa 3))), .ref (ks.1 uz), .ref xa, .int at9_14x, .int op9_14x])), (xa, .inr (14, [.ref xb, .ref xc, .int n9_14x])), (xb, .inl (E.2 1, 60, .inl fb9_14x)), (xc, .inl (E.2 2, 60, .inl fc9_14x)), (q9_14x, .inr (15, [.null, .null, .null, .null, .null, .int 0, .int pl9_14x]))] _ := hP
          replace hD : va_D A [(rd, .inr (13, [.ref tp_, .int (nI (nn (sa 3))), .ref (ks.1 uz), .ref xa, .int at9_14x, .int op9_14x])), (xa, .inr (14, [.ref xb, .ref xc, .int n9_14x])), (xb, .inl (E.2 1, 60, .inl fb9_14x)), (xc, .inl (E.2 2, 60, .inl fc9_14x)), (q9_14x, .inr (15, [.null, .null, .null, .null, .null, .int 0, .int pl9_14x]))] := hD
          replace hqx_14 : qx_14 = q9_14x ∧ ((oneF (lkX sa) uz d ps.go)).1 = false ∧ pl9_14x = nI ((oneF (lkX sa) uz d ps.go)).2.p := hqx_14
          have hRR : (oneF (lkX sa) uz (d + 1) ps) = (false, ((oneF (lkX sa) uz d) ps.go).2) := by rw [oneF, if_neg (show ¬ isNm uz (lkX sa ps.p) = true by rw [c_6]; exact nm33 uz), if_neg (show ¬ isDg (lkX sa ps.p) = true by rw [c_6]; decide), if_pos c_6, if_neg (by rw [hqx_14.2.1]; exact Bool.false_ne_true)]
          exact hthrow _ (at9_14x, op9_14x, n9_14x, fb9_14x, fc9_14x, q9_14x, pl9_14x) (⟨hqx_14.1, by rw [hRR], by rw [hRR]; exact hqx_14.2.2⟩) hP hD hS (Nat.le_refl _) (Nat.le_refl _) hce hcv hcl
        · -- back
          obtain ⟨at2_14, n2_14, fb2_14, fc2_14⟩ := u
          replace hP : va_P E.1 clA [(rd, .inr (13, [.ref tp_, .int (nI (nn (sa 3))), .ref (ks.1 uz), .ref xa, .int (nI at2_14), .int (nI (5 - d))])), (xa, .inr (14, [.ref xb, .ref xc, .int (nI n2_14)])), (xb, .inl (E.2 1, 60, .inl fb2_14)), (xc, .inl (E.2 2, 60, .inl fc2_14))] _ := hP
          replace hD : va_D A [(rd, .inr (13, [.ref tp_, .int (nI (nn (sa 3))), .ref (ks.1 uz), .ref xa, .int (nI at2_14), .int (nI (5 - d))])), (xa, .inr (14, [.ref xb, .ref xc, .int (nI n2_14)])), (xb, .inl (E.2 1, 60, .inl fb2_14)), (xc, .inl (E.2 2, 60, .inl fc2_14))] := hD
          replace hq_14 : ((oneF (lkX sa) uz d ps.go)).1 = true ∧ at2_14 = ((oneF (lkX sa) uz d ps.go)).2.p ∧ n2_14 = ((oneF (lkX sa) uz d ps.go)).2.n ∧ TP ((oneF (lkX sa) uz d ps.go)).2 fb2_14 fc2_14 := hq_14
          obtain ⟨hb_14, ha_14, hn_14, hM_14⟩ := hq_14
          subst ha_14 hn_14
          have hpp := oneF_pp lkXH d ps.go (go_ok hps hlt) hb_14
          have hin := hpp.1.le60 hta
          have hpn := hpp.1.1
          have hin3 : ((oneF (lkX sa) uz d) ps.go).2.n < 60 := by have h1 : ((oneF (lkX sa) uz d) ps.go).2.n + (ps.p + 1) ≤ ((oneF (lkX sa) uz d) ps.go).2.p + ps.n := hpp.2.2.1; have := hps.1; omega
          have hRR : oneF (lkX sa) uz (d + 1) ps = (true, ((oneF (lkX sa) uz d) ps.go).2.add 3 0) := by rw [oneF, if_neg (show ¬ isNm uz (lkX sa ps.p) = true by rw [c_6]; exact nm33 uz), if_neg (show ¬ isDg (lkX sa ps.p) = true by rw [c_6]; decide), if_pos c_6, if_pos hb_14]
          refine lv_aload_n hx hb dX13_unit_17 rfl (lv_at hl 0 rfl) ?_
          refine fx_get X hE hP 0 rfl rfl 3 rfl q574 rfl rfl dX13_unit_18 ?_
          refine lv_iconst (v := 3) hx hb dX13_unit_21 rfl ?_
          refine lv_iconst (v := 0) hx hb dX13_unit_22 rfl ?_
          refine fx_cv (va_runV (As := [.int 3, .int 0]) (rest := []) X (xX14_add l E xa xb xc (((oneF (lkX sa) uz d) ps.go).2.n) fb2_14 fc2_14 3 0 hin3 (by decide) (by decide) _) (cwV 2 X.2.2.2.2 (lw_V q696 q697 q698 q84 q699) rfl rfl rfl ⟨rfl, hdX14_add⟩ ⟨by simp only [rxX14_add, rxX13_unit] <;> omega, by simp only [rxX14_add, rxX13_unit] <;> omega⟩) (fx_preV (fx_pre hE hP hD hS hR [1, 2, 3] rfl rfl fx_rc0) (va_recv hE.1 hP (ci := 14) (q0 := 1) rfl rfl)) rfl rfl hl.1 rfl (lv_room (Nat.le_of_ble_eq_true rfl)) dX13_unit_23 ⟨Nat.le_of_ble_eq_true rfl, Nat.le_of_ble_eq_true rfl⟩) hP hD hS hA [1, 2, 3] rfl rfl (fun u H locs hq_23 hP hD hS => ?_)
          replace hP : va_P E.1 clA [(rd, .inr (13, [.ref tp_, .int (nI (nn (sa 3))), .ref (ks.1 uz), .ref xa, .int (nI (((oneF (lkX sa) uz d) ps.go).2.p)), .int (nI (5 - d))])), (xa, .inr (14, [.ref xb, .ref xc, .int (nI ((((oneF (lkX sa) uz d) ps.go).2.n) + 1))])), (xb, .inl (E.2 1, 60, .inl (upd fb2_14 (((oneF (lkX sa) uz d) ps.go).2.n) (nI 3)))), (xc, .inl (E.2 2, 60, .inl (upd fc2_14 (((oneF (lkX sa) uz d) ps.go).2.n) (nI 0))))] _ := hP
          replace hD : va_D A [(rd, .inr (13, [.ref tp_, .int (nI (nn (sa 3))), .ref (ks.1 uz), .ref xa, .int (nI (((oneF (lkX sa) uz d) ps.go).2.p)), .int (nI (5 - d))])), (xa, .inr (14, [.ref xb, .ref xc, .int (nI ((((oneF (lkX sa) uz d) ps.go).2.n) + 1))])), (xb, .inl (E.2 1, 60, .inl (upd fb2_14 (((oneF (lkX sa) uz d) ps.go).2.n) (nI 3)))), (xc, .inl (E.2 2, 60, .inl (upd fc2_14 (((oneF (lkX sa) uz d) ps.go).2.n) (nI 0))))] := hD
          replace hq_23 : True := hq_23
          refine lv_aload_n hx hb dX13_unit_26 rfl (lv_at hl 0 rfl) ?_
          refine lv_dup hx hb dX13_unit_27 rfl ?_
          refine fx_get X hE hP 0 rfl rfl 5 rfl q576 rfl rfl dX13_unit_28 ?_
          refine lv_iconst (v := 1) hx hb dX13_unit_31 rfl ?_
          refine lv_isub hx hb dX13_unit_32 ?_
          refine fx_ti (pk_sub (a := 5 - d) (b := 1) (by omega)) ?_
          refine fx_ti (show nI (5 - d - 1) = nI (5 - (d + 1)) from congrArg nI (by omega)) ?_
          refine fx_put_ (ws' := [(rd, .inr (13, [.ref tp_, .int (nI (nn (sa 3))), .ref (ks.1 uz), .ref xa, .int (nI (((oneF (lkX sa) uz d) ps.go).2.p)), .int (nI (5 - (d + 1)))])), (xa, .inr (14, [.ref xb, .ref xc, .int (nI ((((oneF (lkX sa) uz d) ps.go).2.n) + 1))])), (xb, .inl (E.2 1, 60, .inl (upd fb2_14 (((oneF (lkX sa) uz d) ps.go).2.n) (nI 3)))), (xc, .inl (E.2 2, 60, .inl (upd fc2_14 (((oneF (lkX sa) uz d) ps.go).2.n) (nI 0))))]) X hE hP hD hS 0 rfl rfl tyX13_ok nmX13 5 rfl q576 rfl rfl rfl rfl rfl rfl dX13_unit_33 (fun H locs hP hD hS => ?_)
          refine lv_goto (tgt := 138) hx hb dX13_unit_36 (by decide) ?_
          exact hret (((oneF (lkX sa) uz d) ps.go).2.p, (((oneF (lkX sa) uz d) ps.go).2.n) + 1, (upd fb2_14 (((oneF (lkX sa) uz d) ps.go).2.n) (nI 3)), (upd fc2_14 (((oneF (lkX sa) uz d) ps.go).2.n) (nI 0))) (⟨by rw [hRR], by rw [hRR]; rfl, by rw [hRR]; rfl, by rw [hRR]; exact TP_add hM_14⟩) hP hD hS (Nat.le_refl _) (Nat.le_refl _) dX13_unit_138
abbrev rxX13_read : Room := { frames := 46, cells := 1, slots := 7, locals := 1550 }
set_option maxHeartbeats 400000 in
set_option maxRecDepth 100000 in
theorem xX13_read (l : Launch) (E : fx_En) (ks : fz_Ks) (sa : Nat → Int32) (rd : Nat) (tp_ : Nat) (xa : Nat) (xb : Nat) (xc : Nat) (uz : Nat) (ft : Nat → Int32) (fb : Nat → Int32) (fc : Nat → Int32) (hu : uz < 2) (hta : nn (sa 3) ≤ 60) (hft : ∀ i, i < 60 → ft i = (sa (290 + i)).toInt8.toInt32) : fz_Mq l yX13_read cX13_read 1 (.object "FigureTill$Text") rxX13_read 0 0 E ks [.ref rd] [(rd, .inr (13, [.ref tp_, .int (nI (nn (sa 3))), .ref (ks.1 uz), .ref xa, .int (nI 0), .int (nI 0)])), (xa, .inr (14, [.ref xb, .ref xc, .int (nI 0)])), (xb, .inl (E.2 1, 60, .inl fb)), (xc, .inl (E.2 2, 60, .inl fc))] [(tp_, .inl (E.2 1, 60, .inl ft))] (S := Int32 × Nat × (Nat → Int32) × (Nat → Int32)) (fun (u : Int32 × Nat × (Nat → Int32) × (Nat → Int32)) => [(rd, .inr (13, [.ref tp_, .int (nI (nn (sa 3))), .ref (ks.1 uz), .ref xa, .int u.1, .int (nI 0)])), (xa, .inr (14, [.ref xb, .ref xc, .int (nI u.2.1)])), (xb, .inl (E.2 1, 60, .inl u.2.2.1)), (xc, .inl (E.2 2, 60, .inl u.2.2.2))]) (fun (r : Option Nat) (u : Int32 × Nat × (Nat → Int32) × (Nat → Int32)) => r = some xa ∧ (rdX sa uz).1 = true ∧ (rdX sa uz).2.p = nn (sa 3) ∧ u.2.1 = (rdX sa uz).2.n ∧ TP (rdX sa uz).2 u.2.2.1 u.2.2.2) RX15 (SX := Int32 × Int32 × Int32 × (Nat → Int32) × (Nat → Int32) × Nat × Int32) (fun (u : Int32 × Int32 × Int32 × (Nat → Int32) × (Nat → Int32) × Nat × Int32) => [(rd, .inr (13, [.ref tp_, .int (nI (nn (sa 3))), .ref (ks.1 uz), .ref xa, .int u.1, .int u.2.1])), (xa, .inr (14, [.ref xb, .ref xc, .int u.2.2.1])), (xb, .inl (E.2 1, 60, .inl u.2.2.2.1)), (xc, .inl (E.2 2, 60, .inl u.2.2.2.2.1)), (u.2.2.2.2.2.1, .inr (15, [.null, .null, .null, .null, .null, .int 0, .int u.2.2.2.2.2.2]))]) (fun (q : Nat) (u : Int32 × Int32 × Int32 × (Nat → Int32) × (Nat → Int32) × Nat × Int32) => q = u.2.2.2.2.2.1 ∧ ¬ ((rdX sa uz).1 = true ∧ (rdX sa uz).2.p = nn (sa 3)) ∧ u.2.2.2.2.2.2 = nI (rdX sa uz).2.p) := by
  refine fz_qW rfl rfl (by first | exact Or.inl ⟨_, rfl⟩ | exact Or.inr ⟨_, rfl⟩) ?_
  intro p e s m args below meth c A ls Q X hnm hE hP hD hR hZ hA hl hret hthrow
  have hx := X.1
  have hb := X.2.1
  have hS : va_S A s.heap s.heap [] := va_S.rf
  replace hP : va_P E.1 clA [(rd, .inr (13, [.ref tp_, .int (nI (nn (sa 3))), .ref (ks.1 uz), .ref xa, .int (nI 0), .int (nI 0)])), (xa, .inr (14, [.ref xb, .ref xc, .int (nI 0)])), (xb, .inl (E.2 1, 60, .inl fb)), (xc, .inl (E.2 2, 60, .inl fc))] _ := hP
  replace hD : va_D A [(rd, .inr (13, [.ref tp_, .int (nI (nn (sa 3))), .ref (ks.1 uz), .ref xa, .int (nI 0), .int (nI 0)])), (xa, .inr (14, [.ref xb, .ref xc, .int (nI 0)])), (xb, .inl (E.2 1, 60, .inl fb)), (xc, .inl (E.2 2, 60, .inl fc))] := hD
  replace hl : lv_has ls 1 [(0, .ref rd)] := hl
  refine lv_aload_n hx hb dX13_read_0 rfl (lv_at hl 0 rfl) ?_
  refine fz_cv (vz_runV (As := []) (rest := []) X (xX13_either l E ks sa rd tp_ xa xb xc uz ft fb fc Ps0 5 (Nat.le_refl 5) (by first | assumption | omega) (by first | assumption | omega) (by first | assumption | omega) (Ps0_ok _) (Ps0_TP _ _) (xX13_unit l E 5) _) (cwV 0 X.2.2.2.2 (lw_V q594 q596 qs4 q83 q597) rfl rfl rfl ⟨rfl, hdX13_either⟩ ⟨Nat.le_of_ble_eq_true rfl, Nat.le_of_ble_eq_true rfl⟩) (fx_preV (fz_pre hE hP hD hS hR hZ hA [0, 1, 2, 3] rfl rfl (fx_rcr 0 rfl fx_rc0)) (va_recv hE.1 hP (ci := 13) (q0 := 0) rfl rfl)) rfl rfl hl.1 rfl (lv_room (Nat.le_of_ble_eq_true rfl)) dX13_read_1 ⟨Nat.le_of_ble_eq_true rfl, Nat.le_of_ble_eq_true rfl⟩) hP hD hS hA [0, 1, 2, 3] rfl rfl (fun qx_1 u H locs ce hqx_1 hP hD hS hce hcv hcl => ?_) (fun u H locs hq_1 hP hD hS => ?_)
  · -- thrown
    obtain ⟨at9_1x, op9_1x, n9_1x, fb9_1x, fc9_1x, q9_1x, pl9_1x⟩ := u
    replace hP : va_P E.1 clA [(rd, .inr (13, [.ref tp_, .int (nI (nn (sa 3))), .ref (ks.1 uz), .ref xa, .int at9_1x, .int op9_1x])), (xa, .inr (14, [.ref xb, .ref xc, .int n9_1x])), (xb, .inl (E.2 1, 60, .inl fb9_1x)), (xc, .inl (E.2 2, 60, .inl fc9_1x)), (q9_1x, .inr (15, [.null, .null, .null, .null, .null, .int 0, .int pl9_1x]))] _ := hP
    replace hD : va_D A [(rd, .inr (13, [.ref tp_, .int (nI (nn (sa 3))), .ref (ks.1 uz), .ref xa, .int at9_1x, .int op9_1x])), (xa, .inr (14, [.ref xb, .ref xc, .int n9_1x])), (xb, .inl (E.2 1, 60, .inl fb9_1x)), (xc, .inl (E.2 2, 60, .inl fc9_1x)), (q9_1x, .inr (15, [.null, .null, .null, .null, .null, .int 0, .int pl9_1x]))] := hD
    replace hqx_1 : qx_1 = q9_1x ∧ (((whlF (lkX sa) (oneF (lkX sa) uz 5)) Ps0)).1 = false ∧ pl9_1x = nI (((whlF (lkX sa) (oneF (lkX sa) uz 5)) Ps0)).2.p := hqx_1
    replace hqx_1 : qx_1 = q9_1x ∧ (rdX sa uz).1 = false ∧ pl9_1x = nI (rdX sa uz).2.p := hqx_1
    exact hthrow _ (at9_1x, op9_1x, n9_1x, fb9_1x, fc9_1x, q9_1x, pl9_1x) (⟨hqx_1.1, fun h => Bool.false_ne_true (hqx_1.2.1.symm.trans h.1), hqx_1.2.2⟩) hP hD hS (Nat.le_refl _) (Nat.le_refl _) hce hcv hcl
  · -- back
    obtain ⟨at2_1, n2_1, fb2_1, fc2_1⟩ := u
    replace hP : va_P E.1 clA [(rd, .inr (13, [.ref tp_, .int (nI (nn (sa 3))), .ref (ks.1 uz), .ref xa, .int (nI at2_1), .int (nI (5 - 5))])), (xa, .inr (14, [.ref xb, .ref xc, .int (nI n2_1)])), (xb, .inl (E.2 1, 60, .inl fb2_1)), (xc, .inl (E.2 2, 60, .inl fc2_1))] _ := hP
    replace hD : va_D A [(rd, .inr (13, [.ref tp_, .int (nI (nn (sa 3))), .ref (ks.1 uz), .ref xa, .int (nI at2_1), .int (nI (5 - 5))])), (xa, .inr (14, [.ref xb, .ref xc, .int (nI n2_1)])), (xb, .inl (E.2 1, 60, .inl fb2_1)), (xc, .inl (E.2 2, 60, .inl fc2_1))] := hD
    replace hq_1 : (((whlF (lkX sa) (oneF (lkX sa) uz 5)) Ps0)).1 = true ∧ at2_1 = (((whlF (lkX sa) (oneF (lkX sa) uz 5)) Ps0)).2.p ∧ n2_1 = (((whlF (lkX sa) (oneF (lkX sa) uz 5)) Ps0)).2.n ∧ TP (((whlF (lkX sa) (oneF (lkX sa) uz 5)) Ps0)).2 fb2_1 fc2_1 := hq_1
    replace hq_1 : (rdX sa uz).1 = true ∧ at2_1 = (rdX sa uz).2.p ∧ n2_1 = (rdX sa uz).2.n ∧ TP (rdX sa uz).2 fb2_1 fc2_1 := hq_1
    have hpk := whl_pp lkXH Ps0 (Ps0_ok _) hq_1.1
    have hpk2 : (rdX sa uz).2.p ≤ nn (sa 3) := hpk.1.2.1
    have hat := hq_1.2.1
    refine lv_aload_n hx hb dX13_read_4 rfl (lv_at hl 0 rfl) ?_
    refine fx_get X hE hP 0 rfl rfl 4 rfl q575 rfl rfl dX13_read_5 ?_
    refine lv_aload_n hx hb dX13_read_8 rfl (lv_at hl 0 rfl) ?_
    refine fx_get X hE hP 0 rfl rfl 1 rfl q572 rfl rfl dX13_read_9 ?_
    refine lv_icmp_ge (tgt := 20) hx hb dX13_read_12 (by decide) (fun c_12 => ?_) (fun c_12 => ?_)
    · -- jump 20
      have n_12 := fx_le1 (a := (nn (sa 3))) (b := at2_1) c_12 (by omega) (by omega)
      refine lv_aload_n hx hb dX13_read_20 rfl (lv_at hl 0 rfl) ?_
      refine fx_get X hE hP 0 rfl rfl 3 rfl q574 rfl rfl dX13_read_21 ?_
      exact hret (some xa) (nI at2_1, n2_1, fb2_1, fc2_1) (⟨rfl, hq_1.1, by omega, hq_1.2.2.1, hq_1.2.2.2⟩) hP hD hS (Nat.le_refl _) (Nat.le_refl _) dX13_read_24
    · -- fall 15
      have n_12 := fx_le0 (a := (nn (sa 3))) (b := at2_1) c_12 (by omega) (by omega)
      refine lv_aload_n hx hb dX13_read_15 rfl (lv_at hl 0 rfl) ?_
      refine fz_cq (vz_runV (As := []) (rest := []) X (xX13_wrong l E ks sa rd tp_ xa uz at2_1 (5 - 5) _) (cwV 0 X.2.2.2.2 (lw_V q626 q628 qs12 q83 q629) rfl rfl rfl ⟨rfl, hdX13_wrong⟩ ⟨Nat.le_of_ble_eq_true rfl, Nat.le_of_ble_eq_true rfl⟩) (fx_preV (fz_pre hE hP hD hS hR hZ hA [] rfl rfl (fx_rcm 0 rfl (by decide) fx_rc0)) (va_recv hE.1 hP (ci := 13) (q0 := 0) rfl rfl)) rfl rfl hl.1 rfl (lv_room (Nat.le_of_ble_eq_true rfl)) dX13_read_16 ⟨Nat.le_of_ble_eq_true rfl, Nat.le_of_ble_eq_true rfl⟩) hP hD hS hA [] rfl rfl (fun _ _ _ _ _ h => h.elim) (fun r_16 u H locs hq_16 hP hD hS => ?_)
      obtain ⟨q2_16, rfl⟩ : ∃ z, z = u := ⟨_, rfl⟩
      replace hP : va_P E.1 clA [(rd, .inr (13, [.ref tp_, .int (nI (nn (sa 3))), .ref (ks.1 uz), .ref xa, .int (nI at2_1), .int (nI (5 - 5))])), (xa, .inr (14, [.ref xb, .ref xc, .int (nI n2_1)])), (xb, .inl (E.2 1, 60, .inl fb2_1)), (xc, .inl (E.2 2, 60, .inl fc2_1)), (q2_16, .inr (15, [.null, .null, .null, .null, .null, .int 0, .int (nI at2_1)]))] _ := hP
      replace hD : va_D A [(rd, .inr (13, [.ref tp_, .int (nI (nn (sa 3))), .ref (ks.1 uz), .ref xa, .int (nI at2_1), .int (nI (5 - 5))])), (xa, .inr (14, [.ref xb, .ref xc, .int (nI n2_1)])), (xb, .inl (E.2 1, 60, .inl fb2_1)), (xc, .inl (E.2 2, 60, .inl fc2_1)), (q2_16, .inr (15, [.null, .null, .null, .null, .null, .int 0, .int (nI at2_1)]))] := hD
      replace hq_16 : r_16 = some q2_16 := hq_16
      refine W.widen (k := 1) (n := 7) (by first | omega | exact Nat.le_of_ble_eq_true rfl) (by first | omega | exact Nat.le_of_ble_eq_true rfl) ?_
      obtain rfl : r_16 = some q2_16 := by first | exact hq_16 | exact hq_16.1
      refine fz_athrow X hE hP 4 rfl rfl dX13_read_19 (fun ce hce hcv hcl => ?_)
      exact hthrow _ (nI at2_1, nI (5 - 5), nI n2_1, fb2_1, fc2_1, q2_16, nI at2_1) (⟨rfl, fun h => by omega, by rw [hat]⟩) hP hD hS (Nat.le_refl _) (Nat.le_refl _) hce hcv hcl
