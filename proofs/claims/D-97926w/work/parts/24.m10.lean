set_option maxRecDepth 100000
theorem hdX6_look : yX6_look.cls ≠ "java/lang/invoke/MethodHandle" ∧ yX6_look.cls ≠ "java/lang/invoke/VarHandle" ∧ (parseMethodDescriptor yX6_look.desc).map (fun d => d.parameters.length) = some 0 := by decide +kernel
theorem hdX6_isName : yX6_isName.cls ≠ "java/lang/invoke/MethodHandle" ∧ yX6_isName.cls ≠ "java/lang/invoke/VarHandle" ∧ (parseMethodDescriptor yX6_isName.desc).map (fun d => d.parameters.length) = some 1 := by decide +kernel
theorem hdX6_step1 : yX6_step1.cls ≠ "java/lang/invoke/MethodHandle" ∧ yX6_step1.cls ≠ "java/lang/invoke/VarHandle" ∧ (parseMethodDescriptor yX6_step1.desc).map (fun d => d.parameters.length) = some 2 := by decide +kernel
theorem hdX6_opens : yX6_opens.cls ≠ "java/lang/invoke/MethodHandle" ∧ yX6_opens.cls ≠ "java/lang/invoke/VarHandle" ∧ (parseMethodDescriptor yX6_opens.desc).map (fun d => d.parameters.length) = some 0 := by decide +kernel
theorem hdX6_product : yX6_product.cls ≠ "java/lang/invoke/MethodHandle" ∧ yX6_product.cls ≠ "java/lang/invoke/VarHandle" ∧ (parseMethodDescriptor yX6_product.desc).map (fun d => d.parameters.length) = some 0 := by decide +kernel
theorem hdX6_sum : yX6_sum.cls ≠ "java/lang/invoke/MethodHandle" ∧ yX6_sum.cls ≠ "java/lang/invoke/VarHandle" ∧ (parseMethodDescriptor yX6_sum.desc).map (fun d => d.parameters.length) = some 0 := by decide +kernel
theorem hdX6_compared : yX6_compared.cls ≠ "java/lang/invoke/MethodHandle" ∧ yX6_compared.cls ≠ "java/lang/invoke/VarHandle" ∧ (parseMethodDescriptor yX6_compared.desc).map (fun d => d.parameters.length) = some 0 := by decide +kernel
theorem hdX6_both : yX6_both.cls ≠ "java/lang/invoke/MethodHandle" ∧ yX6_both.cls ≠ "java/lang/invoke/VarHandle" ∧ (parseMethodDescriptor yX6_both.desc).map (fun d => d.parameters.length) = some 0 := by decide +kernel
theorem hdX6_whole : yX6_whole.cls ≠ "java/lang/invoke/MethodHandle" ∧ yX6_whole.cls ≠ "java/lang/invoke/VarHandle" ∧ (parseMethodDescriptor yX6_whole.desc).map (fun d => d.parameters.length) = some 0 := by decide +kernel
theorem hdX6_one : yX6_one.cls ≠ "java/lang/invoke/MethodHandle" ∧ yX6_one.cls ≠ "java/lang/invoke/VarHandle" ∧ (parseMethodDescriptor yX6_one.desc).map (fun d => d.parameters.length) = some 0 := by decide +kernel
abbrev rmX6_one (d : Nat) : Room := { frames := 6 * d + 4, cells := 0, slots := 0, locals := 180 * d + 200 }
abbrev rmX6_look : Room := { frames := 0, cells := 0, slots := 0, locals := 0 }
set_option maxHeartbeats 400000 in
set_option maxRecDepth 100000 in
theorem mX6_look (l : Launch) (E : fx_En) (ad : Nat → Nat) (im : Int32) (bn : Int32) (bm : Int32) (la : Int32) (fo : Int32) (fi : Int32) (lp : Int32) (tr_ : Int32) (sp : Int32) (ip : Int32) (pa : Nat) (on : Nat) (pn : Nat) (uz : Nat) (sa : Nat → Int32) (hI : Inv sa) (hpa : pa ≤ 60) : fx_Mi l yX6_look cX6_look 1 .int rmX6_look E [.ref (ad 30)] [] [(ad 30, .inr (6, [.ref (ad 0), .ref (ad 1), .int im, .ref (ad 3), .int (nI pa), .int (nI on), .int (nI pn), .int (nI uz), .ref (ad 8), .ref (ad 9), .ref (ad 10), .ref (ad 11), .ref (ad 12), .ref (ad 13), .ref (ad 14), .int bn, .int bm, .ref (ad 17), .int la, .int fo, .int fi, .int lp, .ref (ad 22), .int tr_, .int sp, .int ip, .ref (ad 26), .ref (ad 27), .ref (ad 28), .ref (ad 29)])), (ad 0, .inl (E.2 0, 374, .inl sa))] (S := Unit) (fun (u : Unit) => []) (fun (r : Int32) (u : Unit) => r = lkM sa pa) := by
  refine fx_iW rfl rfl ?_
  intro p e s m args below meth c A ls Q X hE hP hD hR hA hl hret
  have hx := X.1
  have hb := X.2.1
  have hS : va_S A s.heap s.heap [] := va_S.rf
  replace hl : lv_has ls 1 [(0, .ref (ad 30))] := hl
  have htp := hI.taped.2
  refine lv_aload_n hx hb dX6_look_0 rfl (lv_at hl 0 rfl) ?_
  refine fx_get X hE (hR.at hS) 0 rfl rfl 4 rfl q1172 rfl rfl dX6_look_1 ?_
  refine lv_aload_n hx hb dX6_look_4 rfl (lv_at hl 0 rfl) ?_
  refine fx_get X hE (hR.at hS) 0 rfl rfl 0 rfl q1168 rfl rfl dX6_look_5 ?_
  refine lv_iconst (v := 3) hx hb dX6_look_8 rfl ?_
  refine fx_iald X hE (hR.at hS) 1 rfl 3 rfl (by decide) rfl dX6_look_9 ?_
  refine fx_ti (show (sa 3) = nI (nn (sa 3)) from hI.taped.1) ?_
  refine lv_icmp_ge (tgt := 29) hx hb dX6_look_10 (by decide) (fun c_10 => ?_) (fun c_10 => ?_)
  · -- jump 29
    have n_10 := fx_le1 (a := (nn (sa 3))) (b := pa) c_10 (by omega) (by omega)
    refine lv_iconst (v := (-1)) hx hb dX6_look_29 rfl ?_
    exact hret (-1) () (by rw [lkM, if_neg (show ¬ pa < nn (sa 3) by omega)]) (rfl) hP hD hS (Nat.le_refl _) (Nat.le_refl _) dX6_look_30
  · -- fall 13
    have n_10 := fx_le0 (a := (nn (sa 3))) (b := pa) c_10 (by omega) (by omega)
    refine lv_aload_n hx hb dX6_look_13 rfl (lv_at hl 0 rfl) ?_
    refine fx_get X hE (hR.at hS) 0 rfl rfl 0 rfl q1168 rfl rfl dX6_look_14 ?_
    refine lv_sipush (v := 290) hx hb dX6_look_17 rfl ?_
    refine lv_aload_n hx hb dX6_look_20 rfl (lv_at hl 0 rfl) ?_
    refine fx_get X hE (hR.at hS) 0 rfl rfl 4 rfl q1172 rfl rfl dX6_look_21 ?_
    refine lv_iadd hx hb dX6_look_24 ?_
    refine fx_ti (nI_add 290 pa) ?_
    refine fx_iald X hE (hR.at hS) 1 rfl (290 + pa) rfl (by omega) rfl dX6_look_25 ?_
    refine lv_goto (tgt := 30) hx hb dX6_look_26 (by decide) ?_
    exact hret (sa (290 + pa)) () (by rw [lkM, if_pos n_10]) (rfl) hP hD hS (Nat.le_refl _) (Nat.le_refl _) dX6_look_30
abbrev rmX6_isName : Room := { frames := 0, cells := 0, slots := 0, locals := 0 }
set_option maxHeartbeats 400000 in
set_option maxRecDepth 100000 in
theorem mX6_isName (l : Launch) (E : fx_En) (ad : Nat → Nat) (im : Int32) (bn : Int32) (bm : Int32) (la : Int32) (fo : Int32) (fi : Int32) (lp : Int32) (tr_ : Int32) (sp : Int32) (ip : Int32) (pa : Nat) (on : Nat) (pn : Nat) (uz : Nat) (c_ : Int32) (hu : uz < 2) : fx_Mi l yX6_isName cX6_isName 2 .boolean rmX6_isName E [.ref (ad 30), .int c_] [] [(ad 30, .inr (6, [.ref (ad 0), .ref (ad 1), .int im, .ref (ad 3), .int (nI pa), .int (nI on), .int (nI pn), .int (nI uz), .ref (ad 8), .ref (ad 9), .ref (ad 10), .ref (ad 11), .ref (ad 12), .ref (ad 13), .ref (ad 14), .int bn, .int bm, .ref (ad 17), .int la, .int fo, .int fi, .int lp, .ref (ad 22), .int tr_, .int sp, .int ip, .ref (ad 26), .ref (ad 27), .ref (ad 28), .ref (ad 29)]))] (S := Unit) (fun (u : Unit) => []) (fun (r : Int32) (u : Unit) => r = fx_b (isNm uz c_ = true)) := by
  refine fx_iW rfl rfl ?_
  intro p e s m args below meth c A ls Q X hE hP hD hR hA hl hret
  have hx := X.1
  have hb := X.2.1
  have hS : va_S A s.heap s.heap [] := va_S.rf
  replace hl : lv_has ls 2 [(0, .ref (ad 30)), (1, .int c_)] := hl
  refine lv_aload_n hx hb dX6_isName_0 rfl (lv_at hl 0 rfl) ?_
  refine fx_get X hE (hR.at hS) 0 rfl rfl 7 rfl q1175 rfl rfl dX6_isName_1 ?_
  refine lv_if_ne (tgt := 31) hx hb dX6_isName_4 (by decide) (fun c_4 => ?_) (fun c_4 => ?_)
  · -- jump 31
    have n_4 := fx_eq0 (a := uz) (b := 0) c_4 (by omega) (by omega)
    refine lv_iload_n hx hb dX6_isName_31 rfl (lv_at hl 1 rfl) ?_
    refine lv_bipush (v := 116) hx hb dX6_isName_32 rfl ?_
    refine lv_icmp_eq (tgt := 49) hx hb dX6_isName_34 (by decide) (fun c_34 => ?_) (fun c_34 => ?_)
    · -- jump 49
      refine lv_iconst (v := 1) hx hb dX6_isName_49 rfl ?_
      refine lv_goto (tgt := 54) hx hb dX6_isName_50 (by decide) ?_
      exact hret 1 () (fx_bt (by rw [isNm_1 (show ¬ uz = 0 by omega)]; simp [eq_true c_34])) (rfl) hP hD hS (Nat.le_refl _) (Nat.le_refl _) dX6_isName_54
    · -- fall 37
      refine lv_iload_n hx hb dX6_isName_37 rfl (lv_at hl 1 rfl) ?_
      refine lv_bipush (v := 112) hx hb dX6_isName_38 rfl ?_
      refine lv_icmp_eq (tgt := 49) hx hb dX6_isName_40 (by decide) (fun c_40 => ?_) (fun c_40 => ?_)
      · -- jump 49
        refine lv_iconst (v := 1) hx hb dX6_isName_49 rfl ?_
        refine lv_goto (tgt := 54) hx hb dX6_isName_50 (by decide) ?_
        exact hret 1 () (fx_bt (by rw [isNm_1 (show ¬ uz = 0 by omega)]; simp [c_34, eq_true c_40])) (rfl) hP hD hS (Nat.le_refl _) (Nat.le_refl _) dX6_isName_54
      · -- fall 43
        refine lv_iload_n hx hb dX6_isName_43 rfl (lv_at hl 1 rfl) ?_
        refine lv_bipush (v := 99) hx hb dX6_isName_44 rfl ?_
        refine lv_icmp_ne (tgt := 53) hx hb dX6_isName_46 (by decide) (fun c_46 => ?_) (fun c_46 => ?_)
        · -- jump 53
          refine lv_iconst (v := 0) hx hb dX6_isName_53 rfl ?_
          exact hret 0 () (fx_bf (by rw [isNm_1 (show ¬ uz = 0 by omega)]; simp [c_34, c_40, c_46])) (rfl) hP hD hS (Nat.le_refl _) (Nat.le_refl _) dX6_isName_54
        · -- fall 49
          refine lv_iconst (v := 1) hx hb dX6_isName_49 rfl ?_
          refine lv_goto (tgt := 54) hx hb dX6_isName_50 (by decide) ?_
          exact hret 1 () (fx_bt (by rw [isNm_1 (show ¬ uz = 0 by omega)]; simp [c_34, c_40, eq_true c_46])) (rfl) hP hD hS (Nat.le_refl _) (Nat.le_refl _) dX6_isName_54
  · -- fall 7
    have n_4 := fx_eq1 (a := uz) (b := 0) c_4 (by omega) (by omega)
    obtain rfl : uz = 0 := by omega
    refine lv_iload_n hx hb dX6_isName_7 rfl (lv_at hl 1 rfl) ?_
    refine lv_bipush (v := 115) hx hb dX6_isName_8 rfl ?_
    refine lv_icmp_eq (tgt := 25) hx hb dX6_isName_10 (by decide) (fun c_10 => ?_) (fun c_10 => ?_)
    · -- jump 25
      refine lv_iconst (v := 1) hx hb dX6_isName_25 rfl ?_
      refine lv_goto (tgt := 30) hx hb dX6_isName_26 (by decide) ?_
      exact hret 1 () (fx_bt (by rw [isNm_0]; simp [eq_true c_10])) (rfl) hP hD hS (Nat.le_refl _) (Nat.le_refl _) dX6_isName_30
    · -- fall 13
      refine lv_iload_n hx hb dX6_isName_13 rfl (lv_at hl 1 rfl) ?_
      refine lv_bipush (v := 107) hx hb dX6_isName_14 rfl ?_
      refine lv_icmp_eq (tgt := 25) hx hb dX6_isName_16 (by decide) (fun c_16 => ?_) (fun c_16 => ?_)
      · -- jump 25
        refine lv_iconst (v := 1) hx hb dX6_isName_25 rfl ?_
        refine lv_goto (tgt := 30) hx hb dX6_isName_26 (by decide) ?_
        exact hret 1 () (fx_bt (by rw [isNm_0]; simp [c_10, eq_true c_16])) (rfl) hP hD hS (Nat.le_refl _) (Nat.le_refl _) dX6_isName_30
      · -- fall 19
        refine lv_iload_n hx hb dX6_isName_19 rfl (lv_at hl 1 rfl) ?_
        refine lv_bipush (v := 109) hx hb dX6_isName_20 rfl ?_
        refine lv_icmp_ne (tgt := 29) hx hb dX6_isName_22 (by decide) (fun c_22 => ?_) (fun c_22 => ?_)
        · -- jump 29
          refine lv_iconst (v := 0) hx hb dX6_isName_29 rfl ?_
          exact hret 0 () (fx_bf (by rw [isNm_0]; simp [c_10, c_16, c_22])) (rfl) hP hD hS (Nat.le_refl _) (Nat.le_refl _) dX6_isName_30
        · -- fall 25
          refine lv_iconst (v := 1) hx hb dX6_isName_25 rfl ?_
          refine lv_goto (tgt := 30) hx hb dX6_isName_26 (by decide) ?_
          exact hret 1 () (fx_bt (by rw [isNm_0]; simp [c_10, c_16, eq_true c_22])) (rfl) hP hD hS (Nat.le_refl _) (Nat.le_refl _) dX6_isName_30
abbrev rmX6_step1 : Room := { frames := 0, cells := 0, slots := 0, locals := 0 }
set_option maxHeartbeats 400000 in
set_option maxRecDepth 100000 in
theorem mX6_step1 (l : Launch) (E : fx_En) (ad : Nat → Nat) (im : Int32) (bn : Int32) (bm : Int32) (la : Int32) (fo : Int32) (fi : Int32) (lp : Int32) (tr_ : Int32) (sp : Int32) (ip : Int32) (pa : Nat) (on : Nat) (pn : Nat) (uz : Nat) (stp : Nat → Int32) (v1 : Int32) (v2 : Int32) (hpn : pn ≤ 60) : fx_Mv l yX6_step1 cX6_step1 3 rmX6_step1 E [.ref (ad 30), .int v1, .int v2] [(ad 30, .inr (6, [.ref (ad 0), .ref (ad 1), .int im, .ref (ad 3), .int (nI pa), .int (nI on), .int (nI pn), .int (nI uz), .ref (ad 8), .ref (ad 9), .ref (ad 10), .ref (ad 11), .ref (ad 12), .ref (ad 13), .ref (ad 14), .int bn, .int bm, .ref (ad 17), .int la, .int fo, .int fi, .int lp, .ref (ad 22), .int tr_, .int sp, .int ip, .ref (ad 26), .ref (ad 27), .ref (ad 28), .ref (ad 29)])), (ad 8, .inl (E.2 0, 124, .inl stp))] [] (S := Unit) (fun (u : Unit) => [(ad 30, .inr (6, [.ref (ad 0), .ref (ad 1), .int im, .ref (ad 3), .int (nI pa), .int (nI on), .int (nI (pn + 1)), .int (nI uz), .ref (ad 8), .ref (ad 9), .ref (ad 10), .ref (ad 11), .ref (ad 12), .ref (ad 13), .ref (ad 14), .int bn, .int bm, .ref (ad 17), .int la, .int fo, .int fi, .int lp, .ref (ad 22), .int tr_, .int sp, .int ip, .ref (ad 26), .ref (ad 27), .ref (ad 28), .ref (ad 29)])), (ad 8, .inl (E.2 0, 124, .inl (upd (upd stp (2 * pn) v1) (2 * pn + 1) v2)))]) (fun (u : Unit) => True) := by
  refine fx_vW rfl rfl ?_
  intro p e s m args below meth c A ls Q X hnm hE hP hD hR hA hl hret
  have hx := X.1
  have hb := X.2.1
  have hS : va_S A s.heap s.heap [] := va_S.rf
  replace hP : va_P E.1 clA [(ad 30, .inr (6, [.ref (ad 0), .ref (ad 1), .int im, .ref (ad 3), .int (nI pa), .int (nI on), .int (nI pn), .int (nI uz), .ref (ad 8), .ref (ad 9), .ref (ad 10), .ref (ad 11), .ref (ad 12), .ref (ad 13), .ref (ad 14), .int bn, .int bm, .ref (ad 17), .int la, .int fo, .int fi, .int lp, .ref (ad 22), .int tr_, .int sp, .int ip, .ref (ad 26), .ref (ad 27), .ref (ad 28), .ref (ad 29)])), (ad 8, .inl (E.2 0, 124, .inl stp))] _ := hP
  replace hD : va_D A [(ad 30, .inr (6, [.ref (ad 0), .ref (ad 1), .int im, .ref (ad 3), .int (nI pa), .int (nI on), .int (nI pn), .int (nI uz), .ref (ad 8), .ref (ad 9), .ref (ad 10), .ref (ad 11), .ref (ad 12), .ref (ad 13), .ref (ad 14), .int bn, .int bm, .ref (ad 17), .int la, .int fo, .int fi, .int lp, .ref (ad 22), .int tr_, .int sp, .int ip, .ref (ad 26), .ref (ad 27), .ref (ad 28), .ref (ad 29)])), (ad 8, .inl (E.2 0, 124, .inl stp))] := hD
  replace hl : lv_has ls 3 [(0, .ref (ad 30)), (1, .int v1), (2, .int v2)] := hl
  refine lv_aload_n hx hb dX6_step1_0 rfl (lv_at hl 0 rfl) ?_
  refine fx_get X hE hP 0 rfl rfl 8 rfl q1176 rfl rfl dX6_step1_1 ?_
  refine lv_iconst (v := 2) hx hb dX6_step1_4 rfl ?_
  refine lv_aload_n hx hb dX6_step1_5 rfl (lv_at hl 0 rfl) ?_
  refine fx_get X hE hP 0 rfl rfl 6 rfl q1174 rfl rfl dX6_step1_6 ?_
  refine lv_imul hx hb dX6_step1_9 ?_
  refine fx_ti (pk_mul 2 pn) ?_
  refine lv_iload_n hx hb dX6_step1_10 rfl (lv_at hl 1 rfl) ?_
  refine fx_iast (ws' := [(ad 30, .inr (6, [.ref (ad 0), .ref (ad 1), .int im, .ref (ad 3), .int (nI pa), .int (nI on), .int (nI pn), .int (nI uz), .ref (ad 8), .ref (ad 9), .ref (ad 10), .ref (ad 11), .ref (ad 12), .ref (ad 13), .ref (ad 14), .int bn, .int bm, .ref (ad 17), .int la, .int fo, .int fi, .int lp, .ref (ad 22), .int tr_, .int sp, .int ip, .ref (ad 26), .ref (ad 27), .ref (ad 28), .ref (ad 29)])), (ad 8, .inl (E.2 0, 124, .inl (upd stp (2 * pn) v1)))]) X hE hP hD hS 1 rfl (2 * pn) rfl (by omega) rfl rfl dX6_step1_11 (fun H locs hP hD hS => ?_)
  refine lv_aload_n hx hb dX6_step1_12 rfl (lv_at hl 0 rfl) ?_
  refine fx_get X hE hP 0 rfl rfl 8 rfl q1176 rfl rfl dX6_step1_13 ?_
  refine lv_iconst (v := 2) hx hb dX6_step1_16 rfl ?_
  refine lv_aload_n hx hb dX6_step1_17 rfl (lv_at hl 0 rfl) ?_
  refine fx_get X hE hP 0 rfl rfl 6 rfl q1174 rfl rfl dX6_step1_18 ?_
  refine lv_imul hx hb dX6_step1_21 ?_
  refine fx_ti (pk_mul 2 pn) ?_
  refine lv_iconst (v := 1) hx hb dX6_step1_22 rfl ?_
  refine lv_iadd hx hb dX6_step1_23 ?_
  refine fx_ti (nI_add (2 * pn) 1) ?_
  refine lv_iload_n hx hb dX6_step1_24 rfl (lv_at hl 2 rfl) ?_
  refine fx_iast (ws' := [(ad 30, .inr (6, [.ref (ad 0), .ref (ad 1), .int im, .ref (ad 3), .int (nI pa), .int (nI on), .int (nI pn), .int (nI uz), .ref (ad 8), .ref (ad 9), .ref (ad 10), .ref (ad 11), .ref (ad 12), .ref (ad 13), .ref (ad 14), .int bn, .int bm, .ref (ad 17), .int la, .int fo, .int fi, .int lp, .ref (ad 22), .int tr_, .int sp, .int ip, .ref (ad 26), .ref (ad 27), .ref (ad 28), .ref (ad 29)])), (ad 8, .inl (E.2 0, 124, .inl (upd (upd stp (2 * pn) v1) (2 * pn + 1) v2)))]) X hE hP hD hS 1 rfl (2 * pn + 1) rfl (by omega) rfl rfl dX6_step1_25 (fun H locs hP hD hS => ?_)
  refine lv_aload_n hx hb dX6_step1_26 rfl (lv_at hl 0 rfl) ?_
  refine lv_dup hx hb dX6_step1_27 rfl ?_
  refine fx_get X hE hP 0 rfl rfl 6 rfl q1174 rfl rfl dX6_step1_28 ?_
  refine lv_iconst (v := 1) hx hb dX6_step1_31 rfl ?_
  refine lv_iadd hx hb dX6_step1_32 ?_
  refine fx_ti (nI_add pn 1) ?_
  refine fx_put_ (ws' := [(ad 30, .inr (6, [.ref (ad 0), .ref (ad 1), .int im, .ref (ad 3), .int (nI pa), .int (nI on), .int (nI (pn + 1)), .int (nI uz), .ref (ad 8), .ref (ad 9), .ref (ad 10), .ref (ad 11), .ref (ad 12), .ref (ad 13), .ref (ad 14), .int bn, .int bm, .ref (ad 17), .int la, .int fo, .int fi, .int lp, .ref (ad 22), .int tr_, .int sp, .int ip, .ref (ad 26), .ref (ad 27), .ref (ad 28), .ref (ad 29)])), (ad 8, .inl (E.2 0, 124, .inl (upd (upd stp (2 * pn) v1) (2 * pn + 1) v2)))]) X hE hP hD hS 0 rfl rfl tyX6_ok nmX6 6 rfl q1174 rfl rfl rfl rfl rfl rfl dX6_step1_33 (fun H locs hP hD hS => ?_)
  exact hret () (trivial) hP hD hS (Nat.le_refl _) (Nat.le_refl _) dX6_step1_36
abbrev rmX6_opens : Room := { frames := 0, cells := 0, slots := 0, locals := 0 }
set_option maxHeartbeats 400000 in
set_option maxRecDepth 100000 in
theorem mX6_opens (l : Launch) (E : fx_En) (ad : Nat → Nat) (im : Int32) (bn : Int32) (bm : Int32) (la : Int32) (fo : Int32) (fi : Int32) (lp : Int32) (tr_ : Int32) (sp : Int32) (ip : Int32) (pa : Nat) (on : Nat) (pn : Nat) (uz : Nat) (hon : on ≤ 5) : fx_Mi l yX6_opens cX6_opens 1 .boolean rmX6_opens E [.ref (ad 30)] [(ad 30, .inr (6, [.ref (ad 0), .ref (ad 1), .int im, .ref (ad 3), .int (nI pa), .int (nI on), .int (nI pn), .int (nI uz), .ref (ad 8), .ref (ad 9), .ref (ad 10), .ref (ad 11), .ref (ad 12), .ref (ad 13), .ref (ad 14), .int bn, .int bm, .ref (ad 17), .int la, .int fo, .int fi, .int lp, .ref (ad 22), .int tr_, .int sp, .int ip, .ref (ad 26), .ref (ad 27), .ref (ad 28), .ref (ad 29)]))] [] (S := Int32 × Int32) (fun (u : Int32 × Int32) => [(ad 30, .inr (6, [.ref (ad 0), .ref (ad 1), .int im, .ref (ad 3), .int u.1, .int u.2, .int (nI pn), .int (nI uz), .ref (ad 8), .ref (ad 9), .ref (ad 10), .ref (ad 11), .ref (ad 12), .ref (ad 13), .ref (ad 14), .int bn, .int bm, .ref (ad 17), .int la, .int fo, .int fi, .int lp, .ref (ad 22), .int tr_, .int sp, .int ip, .ref (ad 26), .ref (ad 27), .ref (ad 28), .ref (ad 29)]))]) (fun (r : Int32) (u : Int32 × Int32) => r = fx_b (on ≠ 5) ∧ (on ≠ 5 → u.1 = nI (pa + 1) ∧ u.2 = nI (on + 1)) ∧ (on = 5 → u.1 = nI pa ∧ u.2 = nI on)) := by
  refine fx_iW rfl rfl ?_
  intro p e s m args below meth c A ls Q X hE hP hD hR hA hl hret
  have hx := X.1
  have hb := X.2.1
  have hS : va_S A s.heap s.heap [] := va_S.rf
  replace hP : va_P E.1 clA [(ad 30, .inr (6, [.ref (ad 0), .ref (ad 1), .int im, .ref (ad 3), .int (nI pa), .int (nI on), .int (nI pn), .int (nI uz), .ref (ad 8), .ref (ad 9), .ref (ad 10), .ref (ad 11), .ref (ad 12), .ref (ad 13), .ref (ad 14), .int bn, .int bm, .ref (ad 17), .int la, .int fo, .int fi, .int lp, .ref (ad 22), .int tr_, .int sp, .int ip, .ref (ad 26), .ref (ad 27), .ref (ad 28), .ref (ad 29)]))] _ := hP
  replace hD : va_D A [(ad 30, .inr (6, [.ref (ad 0), .ref (ad 1), .int im, .ref (ad 3), .int (nI pa), .int (nI on), .int (nI pn), .int (nI uz), .ref (ad 8), .ref (ad 9), .ref (ad 10), .ref (ad 11), .ref (ad 12), .ref (ad 13), .ref (ad 14), .int bn, .int bm, .ref (ad 17), .int la, .int fo, .int fi, .int lp, .ref (ad 22), .int tr_, .int sp, .int ip, .ref (ad 26), .ref (ad 27), .ref (ad 28), .ref (ad 29)]))] := hD
  replace hl : lv_has ls 1 [(0, .ref (ad 30))] := hl
  refine lv_aload_n hx hb dX6_opens_0 rfl (lv_at hl 0 rfl) ?_
  refine fx_get X hE hP 0 rfl rfl 5 rfl q1173 rfl rfl dX6_opens_1 ?_
  refine lv_iconst (v := 5) hx hb dX6_opens_4 rfl ?_
  refine lv_icmp_ne (tgt := 10) hx hb dX6_opens_5 (by decide) (fun c_5 => ?_) (fun c_5 => ?_)
  · -- jump 10
    have n_5 := fx_eq0 (a := on) (b := 5) c_5 (by omega) (by omega)
    refine lv_aload_n hx hb dX6_opens_10 rfl (lv_at hl 0 rfl) ?_
    refine lv_dup hx hb dX6_opens_11 rfl ?_
    refine fx_get X hE hP 0 rfl rfl 5 rfl q1173 rfl rfl dX6_opens_12 ?_
    refine lv_iconst (v := 1) hx hb dX6_opens_15 rfl ?_
    refine lv_iadd hx hb dX6_opens_16 ?_
    refine fx_ti (nI_add on 1) ?_
    refine fx_put_ (ws' := [(ad 30, .inr (6, [.ref (ad 0), .ref (ad 1), .int im, .ref (ad 3), .int (nI pa), .int (nI (on + 1)), .int (nI pn), .int (nI uz), .ref (ad 8), .ref (ad 9), .ref (ad 10), .ref (ad 11), .ref (ad 12), .ref (ad 13), .ref (ad 14), .int bn, .int bm, .ref (ad 17), .int la, .int fo, .int fi, .int lp, .ref (ad 22), .int tr_, .int sp, .int ip, .ref (ad 26), .ref (ad 27), .ref (ad 28), .ref (ad 29)]))]) X hE hP hD hS 0 rfl rfl tyX6_ok nmX6 5 rfl q1173 rfl rfl rfl rfl rfl rfl dX6_opens_17 (fun H locs hP hD hS => ?_)
    refine lv_aload_n hx hb dX6_opens_20 rfl (lv_at hl 0 rfl) ?_
    refine lv_dup hx hb dX6_opens_21 rfl ?_
    refine fx_get X hE hP 0 rfl rfl 4 rfl q1172 rfl rfl dX6_opens_22 ?_
    refine lv_iconst (v := 1) hx hb dX6_opens_25 rfl ?_
    refine lv_iadd hx hb dX6_opens_26 ?_
    refine fx_ti (nI_add pa 1) ?_
    refine fx_put_ (ws' := [(ad 30, .inr (6, [.ref (ad 0), .ref (ad 1), .int im, .ref (ad 3), .int (nI (pa + 1)), .int (nI (on + 1)), .int (nI pn), .int (nI uz), .ref (ad 8), .ref (ad 9), .ref (ad 10), .ref (ad 11), .ref (ad 12), .ref (ad 13), .ref (ad 14), .int bn, .int bm, .ref (ad 17), .int la, .int fo, .int fi, .int lp, .ref (ad 22), .int tr_, .int sp, .int ip, .ref (ad 26), .ref (ad 27), .ref (ad 28), .ref (ad 29)]))]) X hE hP hD hS 0 rfl rfl tyX6_ok nmX6 4 rfl q1172 rfl rfl rfl rfl rfl rfl dX6_opens_27 (fun H locs hP hD hS => ?_)
    refine lv_iconst (v := 1) hx hb dX6_opens_30 rfl ?_
    exact hret 1 (nI (pa + 1), nI (on + 1)) (⟨fx_bt n_5, fun _ => ⟨rfl, rfl⟩, fun h => absurd h n_5⟩) (rfl) hP hD hS (Nat.le_refl _) (Nat.le_refl _) dX6_opens_31
  · -- fall 8
    have n_5 := fx_eq1 (a := on) (b := 5) c_5 (by omega) (by omega)
    refine lv_iconst (v := 0) hx hb dX6_opens_8 rfl ?_
    exact hret 0 (nI pa, nI on) (⟨fx_bf (fun h => h n_5), fun h => absurd n_5 h, fun _ => ⟨rfl, rfl⟩⟩) (rfl) hP hD hS (Nat.le_refl _) (Nat.le_refl _) dX6_opens_9
abbrev rmX6_product (d : Nat) : Room := { frames := 6 * d + 5, cells := 0, slots := 0, locals := 180 * d + 230 }
set_option maxHeartbeats 400000 in
set_option maxRecDepth 100000 in
theorem mX6_product (l : Launch) (E : fx_En) (ad : Nat → Nat) (im : Int32) (bn : Int32) (bm : Int32) (la : Int32) (fo : Int32) (fi : Int32) (lp : Int32) (tr_ : Int32) (sp : Int32) (ip : Int32) (sa : Nat → Int32) (stp : Nat → Int32) (uz : Nat) (ps : Ps) (d : Nat) (hd : d ≤ 5) (hI : Inv sa) (hu : uz < 2) (hps : Pok (nn (sa 3)) ps) (hMP : MP uz ps stp) (h1 : ∀ (ad : Nat → Nat) (im : Int32) (bn : Int32) (bm : Int32) (la : Int32) (fo : Int32) (fi : Int32) (lp : Int32) (tr_ : Int32) (sp : Int32) (ip : Int32) (sa : Nat → Int32) (stp : Nat → Int32) (uz : Nat) (ps : Ps) (hd : d ≤ 5) (hI : Inv sa) (hu : uz < 2) (hps : Pok (nn (sa 3)) ps) (hMP : MP uz ps stp), fx_Mi l yX6_one cX6_one 4 .boolean (rmX6_one d) E [.ref (ad 30)] [(ad 30, .inr (6, [.ref (ad 0), .ref (ad 1), .int im, .ref (ad 3), .int (nI ps.p), .int (nI (5 - d)), .int (nI ps.n), .int (nI uz), .ref (ad 8), .ref (ad 9), .ref (ad 10), .ref (ad 11), .ref (ad 12), .ref (ad 13), .ref (ad 14), .int bn, .int bm, .ref (ad 17), .int la, .int fo, .int fi, .int lp, .ref (ad 22), .int tr_, .int sp, .int ip, .ref (ad 26), .ref (ad 27), .ref (ad 28), .ref (ad 29)])), (ad 8, .inl (E.2 0, 124, .inl stp))] [(ad 0, .inl (E.2 0, 374, .inl sa))] (S := Nat × Int32 × Int32 × (Nat → Int32)) (fun (u : Nat × Int32 × Int32 × (Nat → Int32)) => [(ad 30, .inr (6, [.ref (ad 0), .ref (ad 1), .int im, .ref (ad 3), .int (nI u.1), .int u.2.1, .int u.2.2.1, .int (nI uz), .ref (ad 8), .ref (ad 9), .ref (ad 10), .ref (ad 11), .ref (ad 12), .ref (ad 13), .ref (ad 14), .int bn, .int bm, .ref (ad 17), .int la, .int fo, .int fi, .int lp, .ref (ad 22), .int tr_, .int sp, .int ip, .ref (ad 26), .ref (ad 27), .ref (ad 28), .ref (ad 29)])), (ad 8, .inl (E.2 0, 124, .inl u.2.2.2))]) (fun (r : Int32) (u : Nat × Int32 × Int32 × (Nat → Int32)) => r = fx_b ((oneF (lkM sa) uz d ps).1 = true) ∧ u.1 = (oneF (lkM sa) uz d ps).2.p ∧ ((oneF (lkM sa) uz d ps).1 = true → u.2.1 = nI (5 - d) ∧ u.2.2.1 = nI (oneF (lkM sa) uz d ps).2.n ∧ MP uz (oneF (lkM sa) uz d ps).2 u.2.2.2))) : fx_Mi l yX6_product cX6_product 2 .boolean (rmX6_product d) E [.ref (ad 30)] [(ad 30, .inr (6, [.ref (ad 0), .ref (ad 1), .int im, .ref (ad 3), .int (nI ps.p), .int (nI (5 - d)), .int (nI ps.n), .int (nI uz), .ref (ad 8), .ref (ad 9), .ref (ad 10), .ref (ad 11), .ref (ad 12), .ref (ad 13), .ref (ad 14), .int bn, .int bm, .ref (ad 17), .int la, .int fo, .int fi, .int lp, .ref (ad 22), .int tr_, .int sp, .int ip, .ref (ad 26), .ref (ad 27), .ref (ad 28), .ref (ad 29)])), (ad 8, .inl (E.2 0, 124, .inl stp))] [(ad 0, .inl (E.2 0, 374, .inl sa))] (S := Nat × Int32 × Int32 × (Nat → Int32)) (fun (u : Nat × Int32 × Int32 × (Nat → Int32)) => [(ad 30, .inr (6, [.ref (ad 0), .ref (ad 1), .int im, .ref (ad 3), .int (nI u.1), .int u.2.1, .int u.2.2.1, .int (nI uz), .ref (ad 8), .ref (ad 9), .ref (ad 10), .ref (ad 11), .ref (ad 12), .ref (ad 13), .ref (ad 14), .int bn, .int bm, .ref (ad 17), .int la, .int fo, .int fi, .int lp, .ref (ad 22), .int tr_, .int sp, .int ip, .ref (ad 26), .ref (ad 27), .ref (ad 28), .ref (ad 29)])), (ad 8, .inl (E.2 0, 124, .inl u.2.2.2))]) (fun (r : Int32) (u : Nat × Int32 × Int32 × (Nat → Int32)) => r = fx_b (((prdF (lkM sa) (oneF (lkM sa) uz d)) ps).1 = true) ∧ u.1 = ((prdF (lkM sa) (oneF (lkM sa) uz d)) ps).2.p ∧ (((prdF (lkM sa) (oneF (lkM sa) uz d)) ps).1 = true → u.2.1 = nI (5 - d) ∧ u.2.2.1 = nI ((prdF (lkM sa) (oneF (lkM sa) uz d)) ps).2.n ∧ MP uz ((prdF (lkM sa) (oneF (lkM sa) uz d)) ps).2 u.2.2.2)) := by
  refine fx_iW rfl rfl ?_
  intro p e s m args below meth c A ls Q X hE hP hD hR hA hl hret
  have hx := X.1
  have hb := X.2.1
  have hS : va_S A s.heap s.heap [] := va_S.rf
  replace hP : va_P E.1 clA [(ad 30, .inr (6, [.ref (ad 0), .ref (ad 1), .int im, .ref (ad 3), .int (nI ps.p), .int (nI (5 - d)), .int (nI ps.n), .int (nI uz), .ref (ad 8), .ref (ad 9), .ref (ad 10), .ref (ad 11), .ref (ad 12), .ref (ad 13), .ref (ad 14), .int bn, .int bm, .ref (ad 17), .int la, .int fo, .int fi, .int lp, .ref (ad 22), .int tr_, .int sp, .int ip, .ref (ad 26), .ref (ad 27), .ref (ad 28), .ref (ad 29)])), (ad 8, .inl (E.2 0, 124, .inl stp))] _ := hP
  replace hD : va_D A [(ad 30, .inr (6, [.ref (ad 0), .ref (ad 1), .int im, .ref (ad 3), .int (nI ps.p), .int (nI (5 - d)), .int (nI ps.n), .int (nI uz), .ref (ad 8), .ref (ad 9), .ref (ad 10), .ref (ad 11), .ref (ad 12), .ref (ad 13), .ref (ad 14), .int bn, .int bm, .ref (ad 17), .int la, .int fo, .int fi, .int lp, .ref (ad 22), .int tr_, .int sp, .int ip, .ref (ad 26), .ref (ad 27), .ref (ad 28), .ref (ad 29)])), (ad 8, .inl (E.2 0, 124, .inl stp))] := hD
  replace hl : lv_has ls 2 [(0, .ref (ad 30))] := hl
  have htp := hI.taped.2
  have hpl := hps.le60 htp
  refine lv_aload_n hx hb dX6_product_0 rfl (lv_at hl 0 rfl) ?_
  refine fx_ci (va_runV (As := []) (rest := []) X (h1 ad im bn bm la fo fi lp tr_ sp ip sa stp uz ps (by first | assumption | omega) (by first | assumption | omega) (by first | assumption | omega) (by first | assumption | omega) (by first | assumption | omega) _) (cwV 0 X.2.2.2.2 (lw_V q1296 q1298 qs38 q75 q1299) rfl rfl rfl ⟨rfl, hdX6_one⟩ ⟨by simp only [rmX6_one, rmX6_product] <;> omega, by simp only [rmX6_one, rmX6_product] <;> omega⟩) (fx_preV (fx_pre hE hP hD hS hR [0, 1] rfl rfl (fx_rcr 0 rfl fx_rc0)) (va_recv hE.1 hP (ci := 6) (q0 := 0) rfl rfl)) rfl rfl hl.1 rfl (lv_room (Nat.le_of_ble_eq_true rfl)) dX6_product_1 ⟨Nat.le_refl _, Nat.le_refl _⟩) hP hD hS hA [0, 1] rfl rfl (fun r_1 u H locs hq_1 hP hD hS => ?_)
  obtain ⟨at2_1, op2_1, st2_1, stp2_1⟩ := u
  replace hP : va_P E.1 clA [(ad 30, .inr (6, [.ref (ad 0), .ref (ad 1), .int im, .ref (ad 3), .int (nI at2_1), .int op2_1, .int st2_1, .int (nI uz), .ref (ad 8), .ref (ad 9), .ref (ad 10), .ref (ad 11), .ref (ad 12), .ref (ad 13), .ref (ad 14), .int bn, .int bm, .ref (ad 17), .int la, .int fo, .int fi, .int lp, .ref (ad 22), .int tr_, .int sp, .int ip, .ref (ad 26), .ref (ad 27), .ref (ad 28), .ref (ad 29)])), (ad 8, .inl (E.2 0, 124, .inl stp2_1))] _ := hP
  replace hD : va_D A [(ad 30, .inr (6, [.ref (ad 0), .ref (ad 1), .int im, .ref (ad 3), .int (nI at2_1), .int op2_1, .int st2_1, .int (nI uz), .ref (ad 8), .ref (ad 9), .ref (ad 10), .ref (ad 11), .ref (ad 12), .ref (ad 13), .ref (ad 14), .int bn, .int bm, .ref (ad 17), .int la, .int fo, .int fi, .int lp, .ref (ad 22), .int tr_, .int sp, .int ip, .ref (ad 26), .ref (ad 27), .ref (ad 28), .ref (ad 29)])), (ad 8, .inl (E.2 0, 124, .inl stp2_1))] := hD
  replace hq_1 : r_1 = fx_b ((oneF (lkM sa) uz d ps).1 = true) ∧ at2_1 = (oneF (lkM sa) uz d ps).2.p ∧ ((oneF (lkM sa) uz d ps).1 = true → op2_1 = nI (5 - d) ∧ st2_1 = nI (oneF (lkM sa) uz d ps).2.n ∧ MP uz (oneF (lkM sa) uz d ps).2 stp2_1) := hq_1
  rcases fx_bc hq_1.1 with ⟨hb_1, hr_1⟩ | ⟨hb_1, hr_1⟩
  · -- True
    subst hr_1
    obtain ⟨ho_1, hs_1, hM_1⟩ := hq_1.2.2 hb_1
    have ha_1 := hq_1.2.1
    subst ho_1 hs_1 ha_1
    refine lv_if_ne (tgt := 9) hx hb dX6_product_4 (by decide) (fun _ => ?_) (fun c => absurd c (by decide))
    have loop_9 : ∀ (n_9 : Nat) (q : Ps) (f : Nat) (stv : Nat → Int32), (f < n_9) → (lpF (lkM sa) sgP (oneF (lkM sa) uz d) f q = lpF (lkM sa) sgP (oneF (lkM sa) uz d) 61 ((oneF (lkM sa) uz d) ps).2) → (nn (sa 3) < q.p + f) → (Pok (nn (sa 3)) q) → (1 ≤ dpT q.tc q.n) → (MP uz q stv) → ∀ (H : Heap) (locs : List Loc), va_P E.1 clA [(ad 30, .inr (6, [.ref (ad 0), .ref (ad 1), .int im, .ref (ad 3), .int (nI q.p), .int (nI (5 - d)), .int (nI q.n), .int (nI uz), .ref (ad 8), .ref (ad 9), .ref (ad 10), .ref (ad 11), .ref (ad 12), .ref (ad 13), .ref (ad 14), .int bn, .int bm, .ref (ad 17), .int la, .int fo, .int fi, .int lp, .ref (ad 22), .int tr_, .int sp, .int ip, .ref (ad 26), .ref (ad 27), .ref (ad 28), .ref (ad 29)])), (ad 8, .inl (E.2 0, 124, .inl stv))] H → va_D A [(ad 30, .inr (6, [.ref (ad 0), .ref (ad 1), .int im, .ref (ad 3), .int (nI q.p), .int (nI (5 - d)), .int (nI q.n), .int (nI uz), .ref (ad 8), .ref (ad 9), .ref (ad 10), .ref (ad 11), .ref (ad 12), .ref (ad 13), .ref (ad 14), .int bn, .int bm, .ref (ad 17), .int la, .int fo, .int fi, .int lp, .ref (ad 22), .int tr_, .int sp, .int ip, .ref (ad 26), .ref (ad 27), .ref (ad 28), .ref (ad 29)])), (ad 8, .inl (E.2 0, 124, .inl stv))] → va_S A s.heap H locs → ∀ (ls : Array Slot), lv_has ls 2 [(0, .ref (ad 30))] → W p l e (rmX6_product d) s m args below meth c H locs 0 0 Q (F0 m 9 ls []) := by
      intro n_9
      induction n_9 with
      | zero => intro q f stv hm_9; exact absurd hm_9 (Nat.not_lt_zero _)
      | succ n_9 ih_9 =>
        intro q f stv hm_9 hf hff hq hdq hMq H locs hP hD hS ls hl
        have hql := hq.le60 htp
        refine lv_aload_n hx hb dX6_product_9 rfl (lv_at hl 0 rfl) ?_
        refine fx_ci (va_runV (As := []) (rest := []) X (mX6_look l E ad im bn bm la fo fi lp tr_ sp ip q.p (5 - d) q.n uz sa (by first | assumption | omega) hql.1 _) (cwV 0 X.2.2.2.2 (lw_V q1300 q1302 qs39 q75 q1303) rfl rfl rfl ⟨rfl, hdX6_look⟩ ⟨by simp only [rmX6_look, rmX6_product] <;> omega, by simp only [rmX6_look, rmX6_product] <;> omega⟩) (fx_preV (fx_pre hE hP hD hS hR [] rfl rfl (fx_rcm 0 rfl (by decide) (fx_rcr 0 rfl fx_rc0))) (va_recv hE.1 hP (ci := 6) (q0 := 0) rfl rfl)) rfl rfl hl.1 rfl (lv_room (Nat.le_of_ble_eq_true rfl)) dX6_product_10 ⟨Nat.le_refl _, Nat.le_refl _⟩) hP hD hS hA [] rfl rfl (fun r_10 u H locs hq_10 hP hD hS => ?_)
        replace hP : va_P E.1 clA [(ad 30, .inr (6, [.ref (ad 0), .ref (ad 1), .int im, .ref (ad 3), .int (nI q.p), .int (nI (5 - d)), .int (nI q.n), .int (nI uz), .ref (ad 8), .ref (ad 9), .ref (ad 10), .ref (ad 11), .ref (ad 12), .ref (ad 13), .ref (ad 14), .int bn, .int bm, .ref (ad 17), .int la, .int fo, .int fi, .int lp, .ref (ad 22), .int tr_, .int sp, .int ip, .ref (ad 26), .ref (ad 27), .ref (ad 28), .ref (ad 29)])), (ad 8, .inl (E.2 0, 124, .inl stv))] _ := hP
        replace hD : va_D A [(ad 30, .inr (6, [.ref (ad 0), .ref (ad 1), .int im, .ref (ad 3), .int (nI q.p), .int (nI (5 - d)), .int (nI q.n), .int (nI uz), .ref (ad 8), .ref (ad 9), .ref (ad 10), .ref (ad 11), .ref (ad 12), .ref (ad 13), .ref (ad 14), .int bn, .int bm, .ref (ad 17), .int la, .int fo, .int fi, .int lp, .ref (ad 22), .int tr_, .int sp, .int ip, .ref (ad 26), .ref (ad 27), .ref (ad 28), .ref (ad 29)])), (ad 8, .inl (E.2 0, 124, .inl stv))] := hD
        replace hq_10 : r_10 = lkM sa q.p := hq_10
        refine fx_ti (show r_10 = (lkM sa q.p) from hq_10) ?_
        refine lv_bipush (v := 42) hx hb dX6_product_13 rfl ?_
        refine lv_icmp_eq (tgt := 36) hx hb dX6_product_15 (by decide) (fun c_15 => ?_) (fun c_15 => ?_)
        · -- jump 36
          have hsg : sgP (lkM sa q.p) = true := by simp [sgP, c_15]
          have hsk := sgP_ok _ hsg
          have hlt := lkM_lt (sgP_ok.nm1 hsg)
          obtain ⟨f1, rfl⟩ : ∃ z, f = z + 1 := ⟨f - 1, by omega⟩
          refine lv_aload_n hx hb dX6_product_36 rfl (lv_at hl 0 rfl) ?_
          refine fx_ci (va_runV (As := []) (rest := []) X (mX6_look l E ad im bn bm la fo fi lp tr_ sp ip q.p (5 - d) q.n uz sa (by first | assumption | omega) hql.1 _) (cwV 0 X.2.2.2.2 (lw_V q1300 q1302 qs39 q75 q1303) rfl rfl rfl ⟨rfl, hdX6_look⟩ ⟨by simp only [rmX6_look, rmX6_product] <;> omega, by simp only [rmX6_look, rmX6_product] <;> omega⟩) (fx_preV (fx_pre hE hP hD hS hR [] rfl rfl (fx_rcm 0 rfl (by decide) (fx_rcr 0 rfl fx_rc0))) (va_recv hE.1 hP (ci := 6) (q0 := 0) rfl rfl)) rfl rfl hl.1 rfl (lv_room (Nat.le_of_ble_eq_true rfl)) dX6_product_37 ⟨Nat.le_refl _, Nat.le_refl _⟩) hP hD hS hA [] rfl rfl (fun r_37 u H locs hq_37 hP hD hS => ?_)
          replace hP : va_P E.1 clA [(ad 30, .inr (6, [.ref (ad 0), .ref (ad 1), .int im, .ref (ad 3), .int (nI q.p), .int (nI (5 - d)), .int (nI q.n), .int (nI uz), .ref (ad 8), .ref (ad 9), .ref (ad 10), .ref (ad 11), .ref (ad 12), .ref (ad 13), .ref (ad 14), .int bn, .int bm, .ref (ad 17), .int la, .int fo, .int fi, .int lp, .ref (ad 22), .int tr_, .int sp, .int ip, .ref (ad 26), .ref (ad 27), .ref (ad 28), .ref (ad 29)])), (ad 8, .inl (E.2 0, 124, .inl stv))] _ := hP
          replace hD : va_D A [(ad 30, .inr (6, [.ref (ad 0), .ref (ad 1), .int im, .ref (ad 3), .int (nI q.p), .int (nI (5 - d)), .int (nI q.n), .int (nI uz), .ref (ad 8), .ref (ad 9), .ref (ad 10), .ref (ad 11), .ref (ad 12), .ref (ad 13), .ref (ad 14), .int bn, .int bm, .ref (ad 17), .int la, .int fo, .int fi, .int lp, .ref (ad 22), .int tr_, .int sp, .int ip, .ref (ad 26), .ref (ad 27), .ref (ad 28), .ref (ad 29)])), (ad 8, .inl (E.2 0, 124, .inl stv))] := hD
          replace hq_37 : r_37 = lkM sa q.p := hq_37
          refine fx_ti (show r_37 = (lkM sa q.p) from hq_37) ?_
          refine lv_istore_n (lv' := [(1, .int (lkM sa q.p)), (0, .ref (ad 30))]) hx hb dX6_product_40 rfl hl (by decide) rfl (fun ls hl => ?_)
          refine lv_aload_n hx hb dX6_product_41 rfl (lv_at hl 1 rfl) ?_
          refine lv_dup hx hb dX6_product_42 rfl ?_
          refine fx_get X hE hP 0 rfl rfl 4 rfl q1172 rfl rfl dX6_product_43 ?_
          refine lv_iconst (v := 1) hx hb dX6_product_46 rfl ?_
          refine lv_iadd hx hb dX6_product_47 ?_
          refine fx_ti (nI_add q.p 1) ?_
          refine fx_put_ (ws' := [(ad 30, .inr (6, [.ref (ad 0), .ref (ad 1), .int im, .ref (ad 3), .int (nI (q.p + 1)), .int (nI (5 - d)), .int (nI q.n), .int (nI uz), .ref (ad 8), .ref (ad 9), .ref (ad 10), .ref (ad 11), .ref (ad 12), .ref (ad 13), .ref (ad 14), .int bn, .int bm, .ref (ad 17), .int la, .int fo, .int fi, .int lp, .ref (ad 22), .int tr_, .int sp, .int ip, .ref (ad 26), .ref (ad 27), .ref (ad 28), .ref (ad 29)])), (ad 8, .inl (E.2 0, 124, .inl stv))]) X hE hP hD hS 0 rfl rfl tyX6_ok nmX6 4 rfl q1172 rfl rfl rfl rfl rfl rfl dX6_product_48 (fun H locs hP hD hS => ?_)
          refine lv_aload_n hx hb dX6_product_51 rfl (lv_at hl 1 rfl) ?_
          refine fx_ci (va_runV (As := []) (rest := []) X (h1 ad im bn bm la fo fi lp tr_ sp ip sa stv uz q.go (by first | assumption | omega) (by first | assumption | omega) (by first | assumption | omega) (go_ok hq hlt) (show MP uz q.go stv from hMq) _) (cwV 0 X.2.2.2.2 (lw_V q1296 q1298 qs38 q75 q1299) rfl rfl rfl ⟨rfl, hdX6_one⟩ ⟨by simp only [rmX6_one, rmX6_product] <;> omega, by simp only [rmX6_one, rmX6_product] <;> omega⟩) (fx_preV (fx_pre hE hP hD hS hR [0, 1] rfl rfl (fx_rcr 0 rfl fx_rc0)) (va_recv hE.1 hP (ci := 6) (q0 := 0) rfl rfl)) rfl rfl hl.1 rfl (lv_room (Nat.le_of_ble_eq_true rfl)) dX6_product_52 ⟨Nat.le_refl _, Nat.le_refl _⟩) hP hD hS hA [0, 1] rfl rfl (fun r_52 u H locs hq_52 hP hD hS => ?_)
          obtain ⟨at2_52, op2_52, st2_52, stp2_52⟩ := u
          replace hP : va_P E.1 clA [(ad 30, .inr (6, [.ref (ad 0), .ref (ad 1), .int im, .ref (ad 3), .int (nI at2_52), .int op2_52, .int st2_52, .int (nI uz), .ref (ad 8), .ref (ad 9), .ref (ad 10), .ref (ad 11), .ref (ad 12), .ref (ad 13), .ref (ad 14), .int bn, .int bm, .ref (ad 17), .int la, .int fo, .int fi, .int lp, .ref (ad 22), .int tr_, .int sp, .int ip, .ref (ad 26), .ref (ad 27), .ref (ad 28), .ref (ad 29)])), (ad 8, .inl (E.2 0, 124, .inl stp2_52))] _ := hP
          replace hD : va_D A [(ad 30, .inr (6, [.ref (ad 0), .ref (ad 1), .int im, .ref (ad 3), .int (nI at2_52), .int op2_52, .int st2_52, .int (nI uz), .ref (ad 8), .ref (ad 9), .ref (ad 10), .ref (ad 11), .ref (ad 12), .ref (ad 13), .ref (ad 14), .int bn, .int bm, .ref (ad 17), .int la, .int fo, .int fi, .int lp, .ref (ad 22), .int tr_, .int sp, .int ip, .ref (ad 26), .ref (ad 27), .ref (ad 28), .ref (ad 29)])), (ad 8, .inl (E.2 0, 124, .inl stp2_52))] := hD
          replace hq_52 : r_52 = fx_b ((oneF (lkM sa) uz d q.go).1 = true) ∧ at2_52 = (oneF (lkM sa) uz d q.go).2.p ∧ ((oneF (lkM sa) uz d q.go).1 = true → op2_52 = nI (5 - d) ∧ st2_52 = nI (oneF (lkM sa) uz d q.go).2.n ∧ MP uz (oneF (lkM sa) uz d q.go).2 stp2_52) := hq_52
          rcases fx_bc hq_52.1 with ⟨hb_52, hr_52⟩ | ⟨hb_52, hr_52⟩
          · -- True
            subst hr_52
            obtain ⟨ho_52, hs_52, hM_52⟩ := hq_52.2.2 hb_52
            have ha_52 := hq_52.2.1
            subst ho_52 hs_52 ha_52
            have hst := lp_step (oneF_pp lkH d) hq hdq hsk.2 hlt hb_52
            have hin := (oneF_pp lkH d q.go (go_ok hq hlt) hb_52).1.le60 htp
            refine lv_if_ne (tgt := 60) hx hb dX6_product_55 (by decide) (fun _ => ?_) (fun c => absurd c (by decide))
            refine lv_aload_n hx hb dX6_product_60 rfl (lv_at hl 1 rfl) ?_
            refine lv_iconst (v := 3) hx hb dX6_product_61 rfl ?_
            refine lv_iload_n hx hb dX6_product_62 rfl (lv_at hl 0 rfl) ?_
            refine fx_cv (va_runV (As := [.int 3, .int (lkM sa q.p)]) (rest := []) X (mX6_step1 l E ad im bn bm la fo fi lp tr_ sp ip (((oneF (lkM sa) uz d) q.go).2.p) (5 - d) (((oneF (lkM sa) uz d) q.go).2.n) uz stp2_52 3 (lkM sa q.p) hin.2 _) (cwV 2 X.2.2.2.2 (lw_V q1308 q1310 qs41 q75 q1311) rfl rfl rfl ⟨rfl, hdX6_step1⟩ ⟨by simp only [rmX6_step1, rmX6_product] <;> omega, by simp only [rmX6_step1, rmX6_product] <;> omega⟩) (fx_preV (fx_pre hE hP hD hS hR [0, 1] rfl rfl fx_rc0) (va_recv hE.1 hP (ci := 6) (q0 := 0) rfl rfl)) rfl rfl hl.1 rfl (lv_room (Nat.le_of_ble_eq_true rfl)) dX6_product_63 ⟨Nat.le_refl _, Nat.le_refl _⟩) hP hD hS hA [0, 1] rfl rfl (fun u H locs hq_63 hP hD hS => ?_)
            replace hP : va_P E.1 clA [(ad 30, .inr (6, [.ref (ad 0), .ref (ad 1), .int im, .ref (ad 3), .int (nI (((oneF (lkM sa) uz d) q.go).2.p)), .int (nI (5 - d)), .int (nI ((((oneF (lkM sa) uz d) q.go).2.n) + 1)), .int (nI uz), .ref (ad 8), .ref (ad 9), .ref (ad 10), .ref (ad 11), .ref (ad 12), .ref (ad 13), .ref (ad 14), .int bn, .int bm, .ref (ad 17), .int la, .int fo, .int fi, .int lp, .ref (ad 22), .int tr_, .int sp, .int ip, .ref (ad 26), .ref (ad 27), .ref (ad 28), .ref (ad 29)])), (ad 8, .inl (E.2 0, 124, .inl (upd (upd stp2_52 (2 * (((oneF (lkM sa) uz d) q.go).2.n)) 3) (2 * (((oneF (lkM sa) uz d) q.go).2.n) + 1) (lkM sa q.p))))] _ := hP
            replace hD : va_D A [(ad 30, .inr (6, [.ref (ad 0), .ref (ad 1), .int im, .ref (ad 3), .int (nI (((oneF (lkM sa) uz d) q.go).2.p)), .int (nI (5 - d)), .int (nI ((((oneF (lkM sa) uz d) q.go).2.n) + 1)), .int (nI uz), .ref (ad 8), .ref (ad 9), .ref (ad 10), .ref (ad 11), .ref (ad 12), .ref (ad 13), .ref (ad 14), .int bn, .int bm, .ref (ad 17), .int la, .int fo, .int fi, .int lp, .ref (ad 22), .int tr_, .int sp, .int ip, .ref (ad 26), .ref (ad 27), .ref (ad 28), .ref (ad 29)])), (ad 8, .inl (E.2 0, 124, .inl (upd (upd stp2_52 (2 * (((oneF (lkM sa) uz d) q.go).2.n)) 3) (2 * (((oneF (lkM sa) uz d) q.go).2.n) + 1) (lkM sa q.p))))] := hD
            replace hq_63 : True := hq_63
            refine lv_goto (tgt := 9) hx hb dX6_product_66 (by decide) ?_
            exact ih_9 (((oneF (lkM sa) uz d) q.go).2.add (nn (lkM sa q.p)) 0) f1 (upd (upd stp2_52 (2 * (((oneF (lkM sa) uz d) q.go).2.n)) 3) (2 * (((oneF (lkM sa) uz d) q.go).2.n) + 1) (lkM sa q.p)) (by omega) ((lpF_t hsg hb_52).symm.trans hf) (by have := hst.2.2.1; omega) hst.1 hst.2.1 (MP_sg hM_52 hsk) _ _ hP hD hS ls (lv_sub hl [1] rfl)
          · -- False
            subst hr_52
            have ha_52 := hq_52.2.1
            subst ha_52
            have hRR : ((prdF (lkM sa) (oneF (lkM sa) uz d)) ps) = (false, ((oneF (lkM sa) uz d) q.go).2) := by show sqF (lkM sa) sgP (oneF (lkM sa) uz d) ps = _; rw [sqF, if_pos hb_1, ← hf, lpF_n hsg hb_52]
            refine lv_if_ne (tgt := 60) hx hb dX6_product_55 (by decide) (fun c => (c (by decide)).elim) (fun _ => ?_)
            refine lv_iconst (v := 0) hx hb dX6_product_58 rfl ?_
            exact hret 0 (((oneF (lkM sa) uz d) q.go).2.p, op2_52, st2_52, stp2_52) (⟨fx_bf (by rw [hRR]; exact Bool.false_ne_true), by rw [hRR], fun h => absurd h (by rw [hRR]; exact Bool.false_ne_true)⟩) (rfl) hP hD hS (Nat.le_refl _) (Nat.le_refl _) dX6_product_59
        · -- fall 18
          refine lv_aload_n hx hb dX6_product_18 rfl (lv_at hl 0 rfl) ?_
          refine fx_ci (va_runV (As := []) (rest := []) X (mX6_look l E ad im bn bm la fo fi lp tr_ sp ip q.p (5 - d) q.n uz sa (by first | assumption | omega) hql.1 _) (cwV 0 X.2.2.2.2 (lw_V q1300 q1302 qs39 q75 q1303) rfl rfl rfl ⟨rfl, hdX6_look⟩ ⟨by simp only [rmX6_look, rmX6_product] <;> omega, by simp only [rmX6_look, rmX6_product] <;> omega⟩) (fx_preV (fx_pre hE hP hD hS hR [] rfl rfl (fx_rcm 0 rfl (by decide) (fx_rcr 0 rfl fx_rc0))) (va_recv hE.1 hP (ci := 6) (q0 := 0) rfl rfl)) rfl rfl hl.1 rfl (lv_room (Nat.le_of_ble_eq_true rfl)) dX6_product_19 ⟨Nat.le_refl _, Nat.le_refl _⟩) hP hD hS hA [] rfl rfl (fun r_19 u H locs hq_19 hP hD hS => ?_)
          replace hP : va_P E.1 clA [(ad 30, .inr (6, [.ref (ad 0), .ref (ad 1), .int im, .ref (ad 3), .int (nI q.p), .int (nI (5 - d)), .int (nI q.n), .int (nI uz), .ref (ad 8), .ref (ad 9), .ref (ad 10), .ref (ad 11), .ref (ad 12), .ref (ad 13), .ref (ad 14), .int bn, .int bm, .ref (ad 17), .int la, .int fo, .int fi, .int lp, .ref (ad 22), .int tr_, .int sp, .int ip, .ref (ad 26), .ref (ad 27), .ref (ad 28), .ref (ad 29)])), (ad 8, .inl (E.2 0, 124, .inl stv))] _ := hP
          replace hD : va_D A [(ad 30, .inr (6, [.ref (ad 0), .ref (ad 1), .int im, .ref (ad 3), .int (nI q.p), .int (nI (5 - d)), .int (nI q.n), .int (nI uz), .ref (ad 8), .ref (ad 9), .ref (ad 10), .ref (ad 11), .ref (ad 12), .ref (ad 13), .ref (ad 14), .int bn, .int bm, .ref (ad 17), .int la, .int fo, .int fi, .int lp, .ref (ad 22), .int tr_, .int sp, .int ip, .ref (ad 26), .ref (ad 27), .ref (ad 28), .ref (ad 29)])), (ad 8, .inl (E.2 0, 124, .inl stv))] := hD
          replace hq_19 : r_19 = lkM sa q.p := hq_19
          refine fx_ti (show r_19 = (lkM sa q.p) from hq_19) ?_
          refine lv_bipush (v := 47) hx hb dX6_product_22 rfl ?_
          refine lv_icmp_eq (tgt := 36) hx hb dX6_product_24 (by decide) (fun c_24 => ?_) (fun c_24 => ?_)
          · -- jump 36
            have hsg : sgP (lkM sa q.p) = true := by simp [sgP, c_24]
            have hsk := sgP_ok _ hsg
            have hlt := lkM_lt (sgP_ok.nm1 hsg)
            obtain ⟨f1, rfl⟩ : ∃ z, f = z + 1 := ⟨f - 1, by omega⟩
            refine lv_aload_n hx hb dX6_product_36 rfl (lv_at hl 0 rfl) ?_
            refine fx_ci (va_runV (As := []) (rest := []) X (mX6_look l E ad im bn bm la fo fi lp tr_ sp ip q.p (5 - d) q.n uz sa (by first | assumption | omega) hql.1 _) (cwV 0 X.2.2.2.2 (lw_V q1300 q1302 qs39 q75 q1303) rfl rfl rfl ⟨rfl, hdX6_look⟩ ⟨by simp only [rmX6_look, rmX6_product] <;> omega, by simp only [rmX6_look, rmX6_product] <;> omega⟩) (fx_preV (fx_pre hE hP hD hS hR [] rfl rfl (fx_rcm 0 rfl (by decide) (fx_rcr 0 rfl fx_rc0))) (va_recv hE.1 hP (ci := 6) (q0 := 0) rfl rfl)) rfl rfl hl.1 rfl (lv_room (Nat.le_of_ble_eq_true rfl)) dX6_product_37 ⟨Nat.le_refl _, Nat.le_refl _⟩) hP hD hS hA [] rfl rfl (fun r_37 u H locs hq_37 hP hD hS => ?_)
            replace hP : va_P E.1 clA [(ad 30, .inr (6, [.ref (ad 0), .ref (ad 1), .int im, .ref (ad 3), .int (nI q.p), .int (nI (5 - d)), .int (nI q.n), .int (nI uz), .ref (ad 8), .ref (ad 9), .ref (ad 10), .ref (ad 11), .ref (ad 12), .ref (ad 13), .ref (ad 14), .int bn, .int bm, .ref (ad 17), .int la, .int fo, .int fi, .int lp, .ref (ad 22), .int tr_, .int sp, .int ip, .ref (ad 26), .ref (ad 27), .ref (ad 28), .ref (ad 29)])), (ad 8, .inl (E.2 0, 124, .inl stv))] _ := hP
            replace hD : va_D A [(ad 30, .inr (6, [.ref (ad 0), .ref (ad 1), .int im, .ref (ad 3), .int (nI q.p), .int (nI (5 - d)), .int (nI q.n), .int (nI uz), .ref (ad 8), .ref (ad 9), .ref (ad 10), .ref (ad 11), .ref (ad 12), .ref (ad 13), .ref (ad 14), .int bn, .int bm, .ref (ad 17), .int la, .int fo, .int fi, .int lp, .ref (ad 22), .int tr_, .int sp, .int ip, .ref (ad 26), .ref (ad 27), .ref (ad 28), .ref (ad 29)])), (ad 8, .inl (E.2 0, 124, .inl stv))] := hD
            replace hq_37 : r_37 = lkM sa q.p := hq_37
            refine fx_ti (show r_37 = (lkM sa q.p) from hq_37) ?_
            refine lv_istore_n (lv' := [(1, .int (lkM sa q.p)), (0, .ref (ad 30))]) hx hb dX6_product_40 rfl hl (by decide) rfl (fun ls hl => ?_)
            refine lv_aload_n hx hb dX6_product_41 rfl (lv_at hl 1 rfl) ?_
            refine lv_dup hx hb dX6_product_42 rfl ?_
            refine fx_get X hE hP 0 rfl rfl 4 rfl q1172 rfl rfl dX6_product_43 ?_
            refine lv_iconst (v := 1) hx hb dX6_product_46 rfl ?_
            refine lv_iadd hx hb dX6_product_47 ?_
            refine fx_ti (nI_add q.p 1) ?_
            refine fx_put_ (ws' := [(ad 30, .inr (6, [.ref (ad 0), .ref (ad 1), .int im, .ref (ad 3), .int (nI (q.p + 1)), .int (nI (5 - d)), .int (nI q.n), .int (nI uz), .ref (ad 8), .ref (ad 9), .ref (ad 10), .ref (ad 11), .ref (ad 12), .ref (ad 13), .ref (ad 14), .int bn, .int bm, .ref (ad 17), .int la, .int fo, .int fi, .int lp, .ref (ad 22), .int tr_, .int sp, .int ip, .ref (ad 26), .ref (ad 27), .ref (ad 28), .ref (ad 29)])), (ad 8, .inl (E.2 0, 124, .inl stv))]) X hE hP hD hS 0 rfl rfl tyX6_ok nmX6 4 rfl q1172 rfl rfl rfl rfl rfl rfl dX6_product_48 (fun H locs hP hD hS => ?_)
            refine lv_aload_n hx hb dX6_product_51 rfl (lv_at hl 1 rfl) ?_
            refine fx_ci (va_runV (As := []) (rest := []) X (h1 ad im bn bm la fo fi lp tr_ sp ip sa stv uz q.go (by first | assumption | omega) (by first | assumption | omega) (by first | assumption | omega) (go_ok hq hlt) (show MP uz q.go stv from hMq) _) (cwV 0 X.2.2.2.2 (lw_V q1296 q1298 qs38 q75 q1299) rfl rfl rfl ⟨rfl, hdX6_one⟩ ⟨by simp only [rmX6_one, rmX6_product] <;> omega, by simp only [rmX6_one, rmX6_product] <;> omega⟩) (fx_preV (fx_pre hE hP hD hS hR [0, 1] rfl rfl (fx_rcr 0 rfl fx_rc0)) (va_recv hE.1 hP (ci := 6) (q0 := 0) rfl rfl)) rfl rfl hl.1 rfl (lv_room (Nat.le_of_ble_eq_true rfl)) dX6_product_52 ⟨Nat.le_refl _, Nat.le_refl _⟩) hP hD hS hA [0, 1] rfl rfl (fun r_52 u H locs hq_52 hP hD hS => ?_)
            obtain ⟨at2_52, op2_52, st2_52, stp2_52⟩ := u
            replace hP : va_P E.1 clA [(ad 30, .inr (6, [.ref (ad 0), .ref (ad 1), .int im, .ref (ad 3), .int (nI at2_52), .int op2_52, .int st2_52, .int (nI uz), .ref (ad 8), .ref (ad 9), .ref (ad 10), .ref (ad 11), .ref (ad 12), .ref (ad 13), .ref (ad 14), .int bn, .int bm, .ref (ad 17), .int la, .int fo, .int fi, .int lp, .ref (ad 22), .int tr_, .int sp, .int ip, .ref (ad 26), .ref (ad 27), .ref (ad 28), .ref (ad 29)])), (ad 8, .inl (E.2 0, 124, .inl stp2_52))] _ := hP
            replace hD : va_D A [(ad 30, .inr (6, [.ref (ad 0), .ref (ad 1), .int im, .ref (ad 3), .int (nI at2_52), .int op2_52, .int st2_52, .int (nI uz), .ref (ad 8), .ref (ad 9), .ref (ad 10), .ref (ad 11), .ref (ad 12), .ref (ad 13), .ref (ad 14), .int bn, .int bm, .ref (ad 17), .int la, .int fo, .int fi, .int lp, .ref (ad 22), .int tr_, .int sp, .int ip, .ref (ad 26), .ref (ad 27), .ref (ad 28), .ref (ad 29)])), (ad 8, .inl (E.2 0, 124, .inl stp2_52))] := hD
            replace hq_52 : r_52 = fx_b ((oneF (lkM sa) uz d q.go).1 = true) ∧ at2_52 = (oneF (lkM sa) uz d q.go).2.p ∧ ((oneF (lkM sa) uz d q.go).1 = true → op2_52 = nI (5 - d) ∧ st2_52 = nI (oneF (lkM sa) uz d q.go).2.n ∧ MP uz (oneF (lkM sa) uz d q.go).2 stp2_52) := hq_52
            rcases fx_bc hq_52.1 with ⟨hb_52, hr_52⟩ | ⟨hb_52, hr_52⟩
            · -- True
              subst hr_52
              obtain ⟨ho_52, hs_52, hM_52⟩ := hq_52.2.2 hb_52
              have ha_52 := hq_52.2.1
              subst ho_52 hs_52 ha_52
              have hst := lp_step (oneF_pp lkH d) hq hdq hsk.2 hlt hb_52
              have hin := (oneF_pp lkH d q.go (go_ok hq hlt) hb_52).1.le60 htp
              refine lv_if_ne (tgt := 60) hx hb dX6_product_55 (by decide) (fun _ => ?_) (fun c => absurd c (by decide))
              refine lv_aload_n hx hb dX6_product_60 rfl (lv_at hl 1 rfl) ?_
              refine lv_iconst (v := 3) hx hb dX6_product_61 rfl ?_
              refine lv_iload_n hx hb dX6_product_62 rfl (lv_at hl 0 rfl) ?_
              refine fx_cv (va_runV (As := [.int 3, .int (lkM sa q.p)]) (rest := []) X (mX6_step1 l E ad im bn bm la fo fi lp tr_ sp ip (((oneF (lkM sa) uz d) q.go).2.p) (5 - d) (((oneF (lkM sa) uz d) q.go).2.n) uz stp2_52 3 (lkM sa q.p) hin.2 _) (cwV 2 X.2.2.2.2 (lw_V q1308 q1310 qs41 q75 q1311) rfl rfl rfl ⟨rfl, hdX6_step1⟩ ⟨by simp only [rmX6_step1, rmX6_product] <;> omega, by simp only [rmX6_step1, rmX6_product] <;> omega⟩) (fx_preV (fx_pre hE hP hD hS hR [0, 1] rfl rfl fx_rc0) (va_recv hE.1 hP (ci := 6) (q0 := 0) rfl rfl)) rfl rfl hl.1 rfl (lv_room (Nat.le_of_ble_eq_true rfl)) dX6_product_63 ⟨Nat.le_refl _, Nat.le_refl _⟩) hP hD hS hA [0, 1] rfl rfl (fun u H locs hq_63 hP hD hS => ?_)
              replace hP : va_P E.1 clA [(ad 30, .inr (6, [.ref (ad 0), .ref (ad 1), .int im, .ref (ad 3), .int (nI (((oneF (lkM sa) uz d) q.go).2.p)), .int (nI (5 - d)), .int (nI ((((oneF (lkM sa) uz d) q.go).2.n) + 1)), .int (nI uz), .ref (ad 8), .ref (ad 9), .ref (ad 10), .ref (ad 11), .ref (ad 12), .ref (ad 13), .ref (ad 14), .int bn, .int bm, .ref (ad 17), .int la, .int fo, .int fi, .int lp, .ref (ad 22), .int tr_, .int sp, .int ip, .ref (ad 26), .ref (ad 27), .ref (ad 28), .ref (ad 29)])), (ad 8, .inl (E.2 0, 124, .inl (upd (upd stp2_52 (2 * (((oneF (lkM sa) uz d) q.go).2.n)) 3) (2 * (((oneF (lkM sa) uz d) q.go).2.n) + 1) (lkM sa q.p))))] _ := hP
              replace hD : va_D A [(ad 30, .inr (6, [.ref (ad 0), .ref (ad 1), .int im, .ref (ad 3), .int (nI (((oneF (lkM sa) uz d) q.go).2.p)), .int (nI (5 - d)), .int (nI ((((oneF (lkM sa) uz d) q.go).2.n) + 1)), .int (nI uz), .ref (ad 8), .ref (ad 9), .ref (ad 10), .ref (ad 11), .ref (ad 12), .ref (ad 13), .ref (ad 14), .int bn, .int bm, .ref (ad 17), .int la, .int fo, .int fi, .int lp, .ref (ad 22), .int tr_, .int sp, .int ip, .ref (ad 26), .ref (ad 27), .ref (ad 28), .ref (ad 29)])), (ad 8, .inl (E.2 0, 124, .inl (upd (upd stp2_52 (2 * (((oneF (lkM sa) uz d) q.go).2.n)) 3) (2 * (((oneF (lkM sa) uz d) q.go).2.n) + 1) (lkM sa q.p))))] := hD
              replace hq_63 : True := hq_63
              refine lv_goto (tgt := 9) hx hb dX6_product_66 (by decide) ?_
              exact ih_9 (((oneF (lkM sa) uz d) q.go).2.add (nn (lkM sa q.p)) 0) f1 (upd (upd stp2_52 (2 * (((oneF (lkM sa) uz d) q.go).2.n)) 3) (2 * (((oneF (lkM sa) uz d) q.go).2.n) + 1) (lkM sa q.p)) (by omega) ((lpF_t hsg hb_52).symm.trans hf) (by have := hst.2.2.1; omega) hst.1 hst.2.1 (MP_sg hM_52 hsk) _ _ hP hD hS ls (lv_sub hl [1] rfl)
            · -- False
              subst hr_52
              have ha_52 := hq_52.2.1
              subst ha_52
              have hRR : ((prdF (lkM sa) (oneF (lkM sa) uz d)) ps) = (false, ((oneF (lkM sa) uz d) q.go).2) := by show sqF (lkM sa) sgP (oneF (lkM sa) uz d) ps = _; rw [sqF, if_pos hb_1, ← hf, lpF_n hsg hb_52]
              refine lv_if_ne (tgt := 60) hx hb dX6_product_55 (by decide) (fun c => (c (by decide)).elim) (fun _ => ?_)
              refine lv_iconst (v := 0) hx hb dX6_product_58 rfl ?_
              exact hret 0 (((oneF (lkM sa) uz d) q.go).2.p, op2_52, st2_52, stp2_52) (⟨fx_bf (by rw [hRR]; exact Bool.false_ne_true), by rw [hRR], fun h => absurd h (by rw [hRR]; exact Bool.false_ne_true)⟩) (rfl) hP hD hS (Nat.le_refl _) (Nat.le_refl _) dX6_product_59
          · -- fall 27
            refine lv_aload_n hx hb dX6_product_27 rfl (lv_at hl 0 rfl) ?_
            refine fx_ci (va_runV (As := []) (rest := []) X (mX6_look l E ad im bn bm la fo fi lp tr_ sp ip q.p (5 - d) q.n uz sa (by first | assumption | omega) hql.1 _) (cwV 0 X.2.2.2.2 (lw_V q1300 q1302 qs39 q75 q1303) rfl rfl rfl ⟨rfl, hdX6_look⟩ ⟨by simp only [rmX6_look, rmX6_product] <;> omega, by simp only [rmX6_look, rmX6_product] <;> omega⟩) (fx_preV (fx_pre hE hP hD hS hR [] rfl rfl (fx_rcm 0 rfl (by decide) (fx_rcr 0 rfl fx_rc0))) (va_recv hE.1 hP (ci := 6) (q0 := 0) rfl rfl)) rfl rfl hl.1 rfl (lv_room (Nat.le_of_ble_eq_true rfl)) dX6_product_28 ⟨Nat.le_refl _, Nat.le_refl _⟩) hP hD hS hA [] rfl rfl (fun r_28 u H locs hq_28 hP hD hS => ?_)
            replace hP : va_P E.1 clA [(ad 30, .inr (6, [.ref (ad 0), .ref (ad 1), .int im, .ref (ad 3), .int (nI q.p), .int (nI (5 - d)), .int (nI q.n), .int (nI uz), .ref (ad 8), .ref (ad 9), .ref (ad 10), .ref (ad 11), .ref (ad 12), .ref (ad 13), .ref (ad 14), .int bn, .int bm, .ref (ad 17), .int la, .int fo, .int fi, .int lp, .ref (ad 22), .int tr_, .int sp, .int ip, .ref (ad 26), .ref (ad 27), .ref (ad 28), .ref (ad 29)])), (ad 8, .inl (E.2 0, 124, .inl stv))] _ := hP
            replace hD : va_D A [(ad 30, .inr (6, [.ref (ad 0), .ref (ad 1), .int im, .ref (ad 3), .int (nI q.p), .int (nI (5 - d)), .int (nI q.n), .int (nI uz), .ref (ad 8), .ref (ad 9), .ref (ad 10), .ref (ad 11), .ref (ad 12), .ref (ad 13), .ref (ad 14), .int bn, .int bm, .ref (ad 17), .int la, .int fo, .int fi, .int lp, .ref (ad 22), .int tr_, .int sp, .int ip, .ref (ad 26), .ref (ad 27), .ref (ad 28), .ref (ad 29)])), (ad 8, .inl (E.2 0, 124, .inl stv))] := hD
            replace hq_28 : r_28 = lkM sa q.p := hq_28
            refine fx_ti (show r_28 = (lkM sa q.p) from hq_28) ?_
            refine lv_bipush (v := 37) hx hb dX6_product_31 rfl ?_
            refine lv_icmp_ne (tgt := 69) hx hb dX6_product_33 (by decide) (fun c_33 => ?_) (fun c_33 => ?_)
            · -- jump 69
              have hsn : sgP (lkM sa q.p) = false := by simp [sgP, c_15, c_24, c_33]
              have hRR : ((prdF (lkM sa) (oneF (lkM sa) uz d)) ps) = (true, q) := by show sqF (lkM sa) sgP (oneF (lkM sa) uz d) ps = _; rw [sqF, if_pos hb_1, ← hf, lpF_f hsn]
              refine lv_iconst (v := 1) hx hb dX6_product_69 rfl ?_
              exact hret 1 (q.p, nI (5 - d), nI q.n, stv) (⟨fx_bt (by rw [hRR]), by rw [hRR], fun _ => ⟨rfl, by rw [hRR], by rw [hRR]; exact hMq⟩⟩) (rfl) hP hD hS (Nat.le_refl _) (Nat.le_refl _) dX6_product_70
            · -- fall 36
              have hsg : sgP (lkM sa q.p) = true := by simp [sgP, c_33]
              have hsk := sgP_ok _ hsg
              have hlt := lkM_lt (sgP_ok.nm1 hsg)
              obtain ⟨f1, rfl⟩ : ∃ z, f = z + 1 := ⟨f - 1, by omega⟩
              refine lv_aload_n hx hb dX6_product_36 rfl (lv_at hl 0 rfl) ?_
              refine fx_ci (va_runV (As := []) (rest := []) X (mX6_look l E ad im bn bm la fo fi lp tr_ sp ip q.p (5 - d) q.n uz sa (by first | assumption | omega) hql.1 _) (cwV 0 X.2.2.2.2 (lw_V q1300 q1302 qs39 q75 q1303) rfl rfl rfl ⟨rfl, hdX6_look⟩ ⟨by simp only [rmX6_look, rmX6_product] <;> omega, by simp only [rmX6_look, rmX6_product] <;> omega⟩) (fx_preV (fx_pre hE hP hD hS hR [] rfl rfl (fx_rcm 0 rfl (by decide) (fx_rcr 0 rfl fx_rc0))) (va_recv hE.1 hP (ci := 6) (q0 := 0) rfl rfl)) rfl rfl hl.1 rfl (lv_room (Nat.le_of_ble_eq_true rfl)) dX6_product_37 ⟨Nat.le_refl _, Nat.le_refl _⟩) hP hD hS hA [] rfl rfl (fun r_37 u H locs hq_37 hP hD hS => ?_)
              replace hP : va_P E.1 clA [(ad 30, .inr (6, [.ref (ad 0), .ref (ad 1), .int im, .ref (ad 3), .int (nI q.p), .int (nI (5 - d)), .int (nI q.n), .int (nI uz), .ref (ad 8), .ref (ad 9), .ref (ad 10), .ref (ad 11), .ref (ad 12), .ref (ad 13), .ref (ad 14), .int bn, .int bm, .ref (ad 17), .int la, .int fo, .int fi, .int lp, .ref (ad 22), .int tr_, .int sp, .int ip, .ref (ad 26), .ref (ad 27), .ref (ad 28), .ref (ad 29)])), (ad 8, .inl (E.2 0, 124, .inl stv))] _ := hP
              replace hD : va_D A [(ad 30, .inr (6, [.ref (ad 0), .ref (ad 1), .int im, .ref (ad 3), .int (nI q.p), .int (nI (5 - d)), .int (nI q.n), .int (nI uz), .ref (ad 8), .ref (ad 9), .ref (ad 10), .ref (ad 11), .ref (ad 12), .ref (ad 13), .ref (ad 14), .int bn, .int bm, .ref (ad 17), .int la, .int fo, .int fi, .int lp, .ref (ad 22), .int tr_, .int sp, .int ip, .ref (ad 26), .ref (ad 27), .ref (ad 28), .ref (ad 29)])), (ad 8, .inl (E.2 0, 124, .inl stv))] := hD
              replace hq_37 : r_37 = lkM sa q.p := hq_37
              refine fx_ti (show r_37 = (lkM sa q.p) from hq_37) ?_
              refine lv_istore_n (lv' := [(1, .int (lkM sa q.p)), (0, .ref (ad 30))]) hx hb dX6_product_40 rfl hl (by decide) rfl (fun ls hl => ?_)
              refine lv_aload_n hx hb dX6_product_41 rfl (lv_at hl 1 rfl) ?_
              refine lv_dup hx hb dX6_product_42 rfl ?_
              refine fx_get X hE hP 0 rfl rfl 4 rfl q1172 rfl rfl dX6_product_43 ?_
              refine lv_iconst (v := 1) hx hb dX6_product_46 rfl ?_
              refine lv_iadd hx hb dX6_product_47 ?_
              refine fx_ti (nI_add q.p 1) ?_
              refine fx_put_ (ws' := [(ad 30, .inr (6, [.ref (ad 0), .ref (ad 1), .int im, .ref (ad 3), .int (nI (q.p + 1)), .int (nI (5 - d)), .int (nI q.n), .int (nI uz), .ref (ad 8), .ref (ad 9), .ref (ad 10), .ref (ad 11), .ref (ad 12), .ref (ad 13), .ref (ad 14), .int bn, .int bm, .ref (ad 17), .int la, .int fo, .int fi, .int lp, .ref (ad 22), .int tr_, .int sp, .int ip, .ref (ad 26), .ref (ad 27), .ref (ad 28), .ref (ad 29)])), (ad 8, .inl (E.2 0, 124, .inl stv))]) X hE hP hD hS 0 rfl rfl tyX6_ok nmX6 4 rfl q1172 rfl rfl rfl rfl rfl rfl dX6_product_48 (fun H locs hP hD hS => ?_)
              refine lv_aload_n hx hb dX6_product_51 rfl (lv_at hl 1 rfl) ?_
              refine fx_ci (va_runV (As := []) (rest := []) X (h1 ad im bn bm la fo fi lp tr_ sp ip sa stv uz q.go (by first | assumption | omega) (by first | assumption | omega) (by first | assumption | omega) (go_ok hq hlt) (show MP uz q.go stv from hMq) _) (cwV 0 X.2.2.2.2 (lw_V q1296 q1298 qs38 q75 q1299) rfl rfl rfl ⟨rfl, hdX6_one⟩ ⟨by simp only [rmX6_one, rmX6_product] <;> omega, by simp only [rmX6_one, rmX6_product] <;> omega⟩) (fx_preV (fx_pre hE hP hD hS hR [0, 1] rfl rfl (fx_rcr 0 rfl fx_rc0)) (va_recv hE.1 hP (ci := 6) (q0 := 0) rfl rfl)) rfl rfl hl.1 rfl (lv_room (Nat.le_of_ble_eq_true rfl)) dX6_product_52 ⟨Nat.le_refl _, Nat.le_refl _⟩) hP hD hS hA [0, 1] rfl rfl (fun r_52 u H locs hq_52 hP hD hS => ?_)
              obtain ⟨at2_52, op2_52, st2_52, stp2_52⟩ := u
              replace hP : va_P E.1 clA [(ad 30, .inr (6, [.ref (ad 0), .ref (ad 1), .int im, .ref (ad 3), .int (nI at2_52), .int op2_52, .int st2_52, .int (nI uz), .ref (ad 8), .ref (ad 9), .ref (ad 10), .ref (ad 11), .ref (ad 12), .ref (ad 13), .ref (ad 14), .int bn, .int bm, .ref (ad 17), .int la, .int fo, .int fi, .int lp, .ref (ad 22), .int tr_, .int sp, .int ip, .ref (ad 26), .ref (ad 27), .ref (ad 28), .ref (ad 29)])), (ad 8, .inl (E.2 0, 124, .inl stp2_52))] _ := hP
              replace hD : va_D A [(ad 30, .inr (6, [.ref (ad 0), .ref (ad 1), .int im, .ref (ad 3), .int (nI at2_52), .int op2_52, .int st2_52, .int (nI uz), .ref (ad 8), .ref (ad 9), .ref (ad 10), .ref (ad 11), .ref (ad 12), .ref (ad 13), .ref (ad 14), .int bn, .int bm, .ref (ad 17), .int la, .int fo, .int fi, .int lp, .ref (ad 22), .int tr_, .int sp, .int ip, .ref (ad 26), .ref (ad 27), .ref (ad 28), .ref (ad 29)])), (ad 8, .inl (E.2 0, 124, .inl stp2_52))] := hD
              replace hq_52 : r_52 = fx_b ((oneF (lkM sa) uz d q.go).1 = true) ∧ at2_52 = (oneF (lkM sa) uz d q.go).2.p ∧ ((oneF (lkM sa) uz d q.go).1 = true → op2_52 = nI (5 - d) ∧ st2_52 = nI (oneF (lkM sa) uz d q.go).2.n ∧ MP uz (oneF (lkM sa) uz d q.go).2 stp2_52) := hq_52
              rcases fx_bc hq_52.1 with ⟨hb_52, hr_52⟩ | ⟨hb_52, hr_52⟩
              · -- True
                subst hr_52
                obtain ⟨ho_52, hs_52, hM_52⟩ := hq_52.2.2 hb_52
                have ha_52 := hq_52.2.1
                subst ho_52 hs_52 ha_52
                have hst := lp_step (oneF_pp lkH d) hq hdq hsk.2 hlt hb_52
                have hin := (oneF_pp lkH d q.go (go_ok hq hlt) hb_52).1.le60 htp
                refine lv_if_ne (tgt := 60) hx hb dX6_product_55 (by decide) (fun _ => ?_) (fun c => absurd c (by decide))
                refine lv_aload_n hx hb dX6_product_60 rfl (lv_at hl 1 rfl) ?_
                refine lv_iconst (v := 3) hx hb dX6_product_61 rfl ?_
                refine lv_iload_n hx hb dX6_product_62 rfl (lv_at hl 0 rfl) ?_
                refine fx_cv (va_runV (As := [.int 3, .int (lkM sa q.p)]) (rest := []) X (mX6_step1 l E ad im bn bm la fo fi lp tr_ sp ip (((oneF (lkM sa) uz d) q.go).2.p) (5 - d) (((oneF (lkM sa) uz d) q.go).2.n) uz stp2_52 3 (lkM sa q.p) hin.2 _) (cwV 2 X.2.2.2.2 (lw_V q1308 q1310 qs41 q75 q1311) rfl rfl rfl ⟨rfl, hdX6_step1⟩ ⟨by simp only [rmX6_step1, rmX6_product] <;> omega, by simp only [rmX6_step1, rmX6_product] <;> omega⟩) (fx_preV (fx_pre hE hP hD hS hR [0, 1] rfl rfl fx_rc0) (va_recv hE.1 hP (ci := 6) (q0 := 0) rfl rfl)) rfl rfl hl.1 rfl (lv_room (Nat.le_of_ble_eq_true rfl)) dX6_product_63 ⟨Nat.le_refl _, Nat.le_refl _⟩) hP hD hS hA [0, 1] rfl rfl (fun u H locs hq_63 hP hD hS => ?_)
                replace hP : va_P E.1 clA [(ad 30, .inr (6, [.ref (ad 0), .ref (ad 1), .int im, .ref (ad 3), .int (nI (((oneF (lkM sa) uz d) q.go).2.p)), .int (nI (5 - d)), .int (nI ((((oneF (lkM sa) uz d) q.go).2.n) + 1)), .int (nI uz), .ref (ad 8), .ref (ad 9), .ref (ad 10), .ref (ad 11), .ref (ad 12), .ref (ad 13), .ref (ad 14), .int bn, .int bm, .ref (ad 17), .int la, .int fo, .int fi, .int lp, .ref (ad 22), .int tr_, .int sp, .int ip, .ref (ad 26), .ref (ad 27), .ref (ad 28), .ref (ad 29)])), (ad 8, .inl (E.2 0, 124, .inl (upd (upd stp2_52 (2 * (((oneF (lkM sa) uz d) q.go).2.n)) 3) (2 * (((oneF (lkM sa) uz d) q.go).2.n) + 1) (lkM sa q.p))))] _ := hP
                replace hD : va_D A [(ad 30, .inr (6, [.ref (ad 0), .ref (ad 1), .int im, .ref (ad 3), .int (nI (((oneF (lkM sa) uz d) q.go).2.p)), .int (nI (5 - d)), .int (nI ((((oneF (lkM sa) uz d) q.go).2.n) + 1)), .int (nI uz), .ref (ad 8), .ref (ad 9), .ref (ad 10), .ref (ad 11), .ref (ad 12), .ref (ad 13), .ref (ad 14), .int bn, .int bm, .ref (ad 17), .int la, .int fo, .int fi, .int lp, .ref (ad 22), .int tr_, .int sp, .int ip, .ref (ad 26), .ref (ad 27), .ref (ad 28), .ref (ad 29)])), (ad 8, .inl (E.2 0, 124, .inl (upd (upd stp2_52 (2 * (((oneF (lkM sa) uz d) q.go).2.n)) 3) (2 * (((oneF (lkM sa) uz d) q.go).2.n) + 1) (lkM sa q.p))))] := hD
                replace hq_63 : True := hq_63
                refine lv_goto (tgt := 9) hx hb dX6_product_66 (by decide) ?_
                exact ih_9 (((oneF (lkM sa) uz d) q.go).2.add (nn (lkM sa q.p)) 0) f1 (upd (upd stp2_52 (2 * (((oneF (lkM sa) uz d) q.go).2.n)) 3) (2 * (((oneF (lkM sa) uz d) q.go).2.n) + 1) (lkM sa q.p)) (by omega) ((lpF_t hsg hb_52).symm.trans hf) (by have := hst.2.2.1; omega) hst.1 hst.2.1 (MP_sg hM_52 hsk) _ _ hP hD hS ls (lv_sub hl [1] rfl)
              · -- False
                subst hr_52
                have ha_52 := hq_52.2.1
                subst ha_52
                have hRR : ((prdF (lkM sa) (oneF (lkM sa) uz d)) ps) = (false, ((oneF (lkM sa) uz d) q.go).2) := by show sqF (lkM sa) sgP (oneF (lkM sa) uz d) ps = _; rw [sqF, if_pos hb_1, ← hf, lpF_n hsg hb_52]
                refine lv_if_ne (tgt := 60) hx hb dX6_product_55 (by decide) (fun c => (c (by decide)).elim) (fun _ => ?_)
                refine lv_iconst (v := 0) hx hb dX6_product_58 rfl ?_
                exact hret 0 (((oneF (lkM sa) uz d) q.go).2.p, op2_52, st2_52, stp2_52) (⟨fx_bf (by rw [hRR]; exact Bool.false_ne_true), by rw [hRR], fun h => absurd h (by rw [hRR]; exact Bool.false_ne_true)⟩) (rfl) hP hD hS (Nat.le_refl _) (Nat.le_refl _) dX6_product_59
    exact loop_9 (61 + 1) (((oneF (lkM sa) uz d) ps).2) 61 stp2_1 (Nat.lt_succ_self _) rfl (by omega) ((oneF_pp lkH d ps hps hb_1).1) (by have := (oneF_pp lkH d ps hps hb_1).2.2.2; omega) hM_1 _ _ hP hD hS ls (lv_sub hl [0] rfl)
  · -- False
    subst hr_1
    have ha_1 := hq_1.2.1
    subst ha_1
    have hRR : ((prdF (lkM sa) (oneF (lkM sa) uz d)) ps) = (false, ((oneF (lkM sa) uz d) ps).2) := by show sqF (lkM sa) sgP (oneF (lkM sa) uz d) ps = _; rw [sqF, if_neg hb_1]
    refine lv_if_ne (tgt := 9) hx hb dX6_product_4 (by decide) (fun c => (c (by decide)).elim) (fun _ => ?_)
    refine lv_iconst (v := 0) hx hb dX6_product_7 rfl ?_
    exact hret 0 (((oneF (lkM sa) uz d) ps).2.p, op2_1, st2_1, stp2_1) (⟨fx_bf (by rw [hRR]; exact Bool.false_ne_true), by rw [hRR], fun h => absurd h (by rw [hRR]; exact Bool.false_ne_true)⟩) (rfl) hP hD hS (Nat.le_refl _) (Nat.le_refl _) dX6_product_8
abbrev rmX6_sum (d : Nat) : Room := { frames := 6 * d + 6, cells := 0, slots := 0, locals := 180 * d + 260 }
set_option maxHeartbeats 400000 in
set_option maxRecDepth 100000 in
theorem mX6_sum (l : Launch) (E : fx_En) (ad : Nat → Nat) (im : Int32) (bn : Int32) (bm : Int32) (la : Int32) (fo : Int32) (fi : Int32) (lp : Int32) (tr_ : Int32) (sp : Int32) (ip : Int32) (sa : Nat → Int32) (stp : Nat → Int32) (uz : Nat) (ps : Ps) (d : Nat) (hd : d ≤ 5) (hI : Inv sa) (hu : uz < 2) (hps : Pok (nn (sa 3)) ps) (hMP : MP uz ps stp) (h1 : ∀ (ad : Nat → Nat) (im : Int32) (bn : Int32) (bm : Int32) (la : Int32) (fo : Int32) (fi : Int32) (lp : Int32) (tr_ : Int32) (sp : Int32) (ip : Int32) (sa : Nat → Int32) (stp : Nat → Int32) (uz : Nat) (ps : Ps) (hd : d ≤ 5) (hI : Inv sa) (hu : uz < 2) (hps : Pok (nn (sa 3)) ps) (hMP : MP uz ps stp), fx_Mi l yX6_one cX6_one 4 .boolean (rmX6_one d) E [.ref (ad 30)] [(ad 30, .inr (6, [.ref (ad 0), .ref (ad 1), .int im, .ref (ad 3), .int (nI ps.p), .int (nI (5 - d)), .int (nI ps.n), .int (nI uz), .ref (ad 8), .ref (ad 9), .ref (ad 10), .ref (ad 11), .ref (ad 12), .ref (ad 13), .ref (ad 14), .int bn, .int bm, .ref (ad 17), .int la, .int fo, .int fi, .int lp, .ref (ad 22), .int tr_, .int sp, .int ip, .ref (ad 26), .ref (ad 27), .ref (ad 28), .ref (ad 29)])), (ad 8, .inl (E.2 0, 124, .inl stp))] [(ad 0, .inl (E.2 0, 374, .inl sa))] (S := Nat × Int32 × Int32 × (Nat → Int32)) (fun (u : Nat × Int32 × Int32 × (Nat → Int32)) => [(ad 30, .inr (6, [.ref (ad 0), .ref (ad 1), .int im, .ref (ad 3), .int (nI u.1), .int u.2.1, .int u.2.2.1, .int (nI uz), .ref (ad 8), .ref (ad 9), .ref (ad 10), .ref (ad 11), .ref (ad 12), .ref (ad 13), .ref (ad 14), .int bn, .int bm, .ref (ad 17), .int la, .int fo, .int fi, .int lp, .ref (ad 22), .int tr_, .int sp, .int ip, .ref (ad 26), .ref (ad 27), .ref (ad 28), .ref (ad 29)])), (ad 8, .inl (E.2 0, 124, .inl u.2.2.2))]) (fun (r : Int32) (u : Nat × Int32 × Int32 × (Nat → Int32)) => r = fx_b ((oneF (lkM sa) uz d ps).1 = true) ∧ u.1 = (oneF (lkM sa) uz d ps).2.p ∧ ((oneF (lkM sa) uz d ps).1 = true → u.2.1 = nI (5 - d) ∧ u.2.2.1 = nI (oneF (lkM sa) uz d ps).2.n ∧ MP uz (oneF (lkM sa) uz d ps).2 u.2.2.2))) : fx_Mi l yX6_sum cX6_sum 2 .boolean (rmX6_sum d) E [.ref (ad 30)] [(ad 30, .inr (6, [.ref (ad 0), .ref (ad 1), .int im, .ref (ad 3), .int (nI ps.p), .int (nI (5 - d)), .int (nI ps.n), .int (nI uz), .ref (ad 8), .ref (ad 9), .ref (ad 10), .ref (ad 11), .ref (ad 12), .ref (ad 13), .ref (ad 14), .int bn, .int bm, .ref (ad 17), .int la, .int fo, .int fi, .int lp, .ref (ad 22), .int tr_, .int sp, .int ip, .ref (ad 26), .ref (ad 27), .ref (ad 28), .ref (ad 29)])), (ad 8, .inl (E.2 0, 124, .inl stp))] [(ad 0, .inl (E.2 0, 374, .inl sa))] (S := Nat × Int32 × Int32 × (Nat → Int32)) (fun (u : Nat × Int32 × Int32 × (Nat → Int32)) => [(ad 30, .inr (6, [.ref (ad 0), .ref (ad 1), .int im, .ref (ad 3), .int (nI u.1), .int u.2.1, .int u.2.2.1, .int (nI uz), .ref (ad 8), .ref (ad 9), .ref (ad 10), .ref (ad 11), .ref (ad 12), .ref (ad 13), .ref (ad 14), .int bn, .int bm, .ref (ad 17), .int la, .int fo, .int fi, .int lp, .ref (ad 22), .int tr_, .int sp, .int ip, .ref (ad 26), .ref (ad 27), .ref (ad 28), .ref (ad 29)])), (ad 8, .inl (E.2 0, 124, .inl u.2.2.2))]) (fun (r : Int32) (u : Nat × Int32 × Int32 × (Nat → Int32)) => r = fx_b (((smmF (lkM sa) (oneF (lkM sa) uz d)) ps).1 = true) ∧ u.1 = ((smmF (lkM sa) (oneF (lkM sa) uz d)) ps).2.p ∧ (((smmF (lkM sa) (oneF (lkM sa) uz d)) ps).1 = true → u.2.1 = nI (5 - d) ∧ u.2.2.1 = nI ((smmF (lkM sa) (oneF (lkM sa) uz d)) ps).2.n ∧ MP uz ((smmF (lkM sa) (oneF (lkM sa) uz d)) ps).2 u.2.2.2)) := by
  refine fx_iW rfl rfl ?_
  intro p e s m args below meth c A ls Q X hE hP hD hR hA hl hret
  have hx := X.1
  have hb := X.2.1
  have hS : va_S A s.heap s.heap [] := va_S.rf
  replace hP : va_P E.1 clA [(ad 30, .inr (6, [.ref (ad 0), .ref (ad 1), .int im, .ref (ad 3), .int (nI ps.p), .int (nI (5 - d)), .int (nI ps.n), .int (nI uz), .ref (ad 8), .ref (ad 9), .ref (ad 10), .ref (ad 11), .ref (ad 12), .ref (ad 13), .ref (ad 14), .int bn, .int bm, .ref (ad 17), .int la, .int fo, .int fi, .int lp, .ref (ad 22), .int tr_, .int sp, .int ip, .ref (ad 26), .ref (ad 27), .ref (ad 28), .ref (ad 29)])), (ad 8, .inl (E.2 0, 124, .inl stp))] _ := hP
  replace hD : va_D A [(ad 30, .inr (6, [.ref (ad 0), .ref (ad 1), .int im, .ref (ad 3), .int (nI ps.p), .int (nI (5 - d)), .int (nI ps.n), .int (nI uz), .ref (ad 8), .ref (ad 9), .ref (ad 10), .ref (ad 11), .ref (ad 12), .ref (ad 13), .ref (ad 14), .int bn, .int bm, .ref (ad 17), .int la, .int fo, .int fi, .int lp, .ref (ad 22), .int tr_, .int sp, .int ip, .ref (ad 26), .ref (ad 27), .ref (ad 28), .ref (ad 29)])), (ad 8, .inl (E.2 0, 124, .inl stp))] := hD
  replace hl : lv_has ls 2 [(0, .ref (ad 30))] := hl
  have htp := hI.taped.2
  have hpl := hps.le60 htp
  refine lv_aload_n hx hb dX6_sum_0 rfl (lv_at hl 0 rfl) ?_
  refine fx_ci (va_runV (As := []) (rest := []) X (mX6_product l E ad im bn bm la fo fi lp tr_ sp ip sa stp uz ps d (by first | assumption | omega) (by first | assumption | omega) (by first | assumption | omega) (by first | assumption | omega) (by first | assumption | omega) (by first | assumption | omega) _) (cwV 0 X.2.2.2.2 (lw_V q1292 q1294 qs37 q75 q1295) rfl rfl rfl ⟨rfl, hdX6_product⟩ ⟨by simp only [rmX6_product, rmX6_sum] <;> omega, by simp only [rmX6_product, rmX6_sum] <;> omega⟩) (fx_preV (fx_pre hE hP hD hS hR [0, 1] rfl rfl (fx_rcr 0 rfl fx_rc0)) (va_recv hE.1 hP (ci := 6) (q0 := 0) rfl rfl)) rfl rfl hl.1 rfl (lv_room (Nat.le_of_ble_eq_true rfl)) dX6_sum_1 ⟨Nat.le_refl _, Nat.le_refl _⟩) hP hD hS hA [0, 1] rfl rfl (fun r_1 u H locs hq_1 hP hD hS => ?_)
  obtain ⟨at2_1, op2_1, st2_1, stp2_1⟩ := u
  replace hP : va_P E.1 clA [(ad 30, .inr (6, [.ref (ad 0), .ref (ad 1), .int im, .ref (ad 3), .int (nI at2_1), .int op2_1, .int st2_1, .int (nI uz), .ref (ad 8), .ref (ad 9), .ref (ad 10), .ref (ad 11), .ref (ad 12), .ref (ad 13), .ref (ad 14), .int bn, .int bm, .ref (ad 17), .int la, .int fo, .int fi, .int lp, .ref (ad 22), .int tr_, .int sp, .int ip, .ref (ad 26), .ref (ad 27), .ref (ad 28), .ref (ad 29)])), (ad 8, .inl (E.2 0, 124, .inl stp2_1))] _ := hP
  replace hD : va_D A [(ad 30, .inr (6, [.ref (ad 0), .ref (ad 1), .int im, .ref (ad 3), .int (nI at2_1), .int op2_1, .int st2_1, .int (nI uz), .ref (ad 8), .ref (ad 9), .ref (ad 10), .ref (ad 11), .ref (ad 12), .ref (ad 13), .ref (ad 14), .int bn, .int bm, .ref (ad 17), .int la, .int fo, .int fi, .int lp, .ref (ad 22), .int tr_, .int sp, .int ip, .ref (ad 26), .ref (ad 27), .ref (ad 28), .ref (ad 29)])), (ad 8, .inl (E.2 0, 124, .inl stp2_1))] := hD
  replace hq_1 : r_1 = fx_b (((prdF (lkM sa) (oneF (lkM sa) uz d)) ps).1 = true) ∧ at2_1 = ((prdF (lkM sa) (oneF (lkM sa) uz d)) ps).2.p ∧ (((prdF (lkM sa) (oneF (lkM sa) uz d)) ps).1 = true → op2_1 = nI (5 - d) ∧ st2_1 = nI ((prdF (lkM sa) (oneF (lkM sa) uz d)) ps).2.n ∧ MP uz ((prdF (lkM sa) (oneF (lkM sa) uz d)) ps).2 stp2_1) := hq_1
  rcases fx_bc hq_1.1 with ⟨hb_1, hr_1⟩ | ⟨hb_1, hr_1⟩
  · -- True
    subst hr_1
    obtain ⟨ho_1, hs_1, hM_1⟩ := hq_1.2.2 hb_1
    have ha_1 := hq_1.2.1
    subst ho_1 hs_1 ha_1
    refine lv_if_ne (tgt := 9) hx hb dX6_sum_4 (by decide) (fun _ => ?_) (fun c => absurd c (by decide))
    have loop_9 : ∀ (n_9 : Nat) (q : Ps) (f : Nat) (stv : Nat → Int32), (f < n_9) → (lpF (lkM sa) sgS (prdF (lkM sa) (oneF (lkM sa) uz d)) f q = lpF (lkM sa) sgS (prdF (lkM sa) (oneF (lkM sa) uz d)) 61 ((prdF (lkM sa) (oneF (lkM sa) uz d)) ps).2) → (nn (sa 3) < q.p + f) → (Pok (nn (sa 3)) q) → (1 ≤ dpT q.tc q.n) → (MP uz q stv) → ∀ (H : Heap) (locs : List Loc), va_P E.1 clA [(ad 30, .inr (6, [.ref (ad 0), .ref (ad 1), .int im, .ref (ad 3), .int (nI q.p), .int (nI (5 - d)), .int (nI q.n), .int (nI uz), .ref (ad 8), .ref (ad 9), .ref (ad 10), .ref (ad 11), .ref (ad 12), .ref (ad 13), .ref (ad 14), .int bn, .int bm, .ref (ad 17), .int la, .int fo, .int fi, .int lp, .ref (ad 22), .int tr_, .int sp, .int ip, .ref (ad 26), .ref (ad 27), .ref (ad 28), .ref (ad 29)])), (ad 8, .inl (E.2 0, 124, .inl stv))] H → va_D A [(ad 30, .inr (6, [.ref (ad 0), .ref (ad 1), .int im, .ref (ad 3), .int (nI q.p), .int (nI (5 - d)), .int (nI q.n), .int (nI uz), .ref (ad 8), .ref (ad 9), .ref (ad 10), .ref (ad 11), .ref (ad 12), .ref (ad 13), .ref (ad 14), .int bn, .int bm, .ref (ad 17), .int la, .int fo, .int fi, .int lp, .ref (ad 22), .int tr_, .int sp, .int ip, .ref (ad 26), .ref (ad 27), .ref (ad 28), .ref (ad 29)])), (ad 8, .inl (E.2 0, 124, .inl stv))] → va_S A s.heap H locs → ∀ (ls : Array Slot), lv_has ls 2 [(0, .ref (ad 30))] → W p l e (rmX6_sum d) s m args below meth c H locs 0 0 Q (F0 m 9 ls []) := by
      intro n_9
      induction n_9 with
      | zero => intro q f stv hm_9; exact absurd hm_9 (Nat.not_lt_zero _)
      | succ n_9 ih_9 =>
        intro q f stv hm_9 hf hff hq hdq hMq H locs hP hD hS ls hl
        have hql := hq.le60 htp
        refine lv_aload_n hx hb dX6_sum_9 rfl (lv_at hl 0 rfl) ?_
        refine fx_ci (va_runV (As := []) (rest := []) X (mX6_look l E ad im bn bm la fo fi lp tr_ sp ip q.p (5 - d) q.n uz sa (by first | assumption | omega) hql.1 _) (cwV 0 X.2.2.2.2 (lw_V q1300 q1302 qs39 q75 q1303) rfl rfl rfl ⟨rfl, hdX6_look⟩ ⟨by simp only [rmX6_look, rmX6_sum] <;> omega, by simp only [rmX6_look, rmX6_sum] <;> omega⟩) (fx_preV (fx_pre hE hP hD hS hR [] rfl rfl (fx_rcm 0 rfl (by decide) (fx_rcr 0 rfl fx_rc0))) (va_recv hE.1 hP (ci := 6) (q0 := 0) rfl rfl)) rfl rfl hl.1 rfl (lv_room (Nat.le_of_ble_eq_true rfl)) dX6_sum_10 ⟨Nat.le_refl _, Nat.le_refl _⟩) hP hD hS hA [] rfl rfl (fun r_10 u H locs hq_10 hP hD hS => ?_)
        replace hP : va_P E.1 clA [(ad 30, .inr (6, [.ref (ad 0), .ref (ad 1), .int im, .ref (ad 3), .int (nI q.p), .int (nI (5 - d)), .int (nI q.n), .int (nI uz), .ref (ad 8), .ref (ad 9), .ref (ad 10), .ref (ad 11), .ref (ad 12), .ref (ad 13), .ref (ad 14), .int bn, .int bm, .ref (ad 17), .int la, .int fo, .int fi, .int lp, .ref (ad 22), .int tr_, .int sp, .int ip, .ref (ad 26), .ref (ad 27), .ref (ad 28), .ref (ad 29)])), (ad 8, .inl (E.2 0, 124, .inl stv))] _ := hP
        replace hD : va_D A [(ad 30, .inr (6, [.ref (ad 0), .ref (ad 1), .int im, .ref (ad 3), .int (nI q.p), .int (nI (5 - d)), .int (nI q.n), .int (nI uz), .ref (ad 8), .ref (ad 9), .ref (ad 10), .ref (ad 11), .ref (ad 12), .ref (ad 13), .ref (ad 14), .int bn, .int bm, .ref (ad 17), .int la, .int fo, .int fi, .int lp, .ref (ad 22), .int tr_, .int sp, .int ip, .ref (ad 26), .ref (ad 27), .ref (ad 28), .ref (ad 29)])), (ad 8, .inl (E.2 0, 124, .inl stv))] := hD
        replace hq_10 : r_10 = lkM sa q.p := hq_10
        refine fx_ti (show r_10 = (lkM sa q.p) from hq_10) ?_
        refine lv_bipush (v := 43) hx hb dX6_sum_13 rfl ?_
        refine lv_icmp_eq (tgt := 27) hx hb dX6_sum_15 (by decide) (fun c_15 => ?_) (fun c_15 => ?_)
        · -- jump 27
          have hsg : sgS (lkM sa q.p) = true := by simp [sgS, c_15]
          have hsk := sgS_ok _ hsg
          have hlt := lkM_lt (sgS_ok.nm1 hsg)
          obtain ⟨f1, rfl⟩ : ∃ z, f = z + 1 := ⟨f - 1, by omega⟩
          refine lv_aload_n hx hb dX6_sum_27 rfl (lv_at hl 0 rfl) ?_
          refine fx_ci (va_runV (As := []) (rest := []) X (mX6_look l E ad im bn bm la fo fi lp tr_ sp ip q.p (5 - d) q.n uz sa (by first | assumption | omega) hql.1 _) (cwV 0 X.2.2.2.2 (lw_V q1300 q1302 qs39 q75 q1303) rfl rfl rfl ⟨rfl, hdX6_look⟩ ⟨by simp only [rmX6_look, rmX6_sum] <;> omega, by simp only [rmX6_look, rmX6_sum] <;> omega⟩) (fx_preV (fx_pre hE hP hD hS hR [] rfl rfl (fx_rcm 0 rfl (by decide) (fx_rcr 0 rfl fx_rc0))) (va_recv hE.1 hP (ci := 6) (q0 := 0) rfl rfl)) rfl rfl hl.1 rfl (lv_room (Nat.le_of_ble_eq_true rfl)) dX6_sum_28 ⟨Nat.le_refl _, Nat.le_refl _⟩) hP hD hS hA [] rfl rfl (fun r_28 u H locs hq_28 hP hD hS => ?_)
          replace hP : va_P E.1 clA [(ad 30, .inr (6, [.ref (ad 0), .ref (ad 1), .int im, .ref (ad 3), .int (nI q.p), .int (nI (5 - d)), .int (nI q.n), .int (nI uz), .ref (ad 8), .ref (ad 9), .ref (ad 10), .ref (ad 11), .ref (ad 12), .ref (ad 13), .ref (ad 14), .int bn, .int bm, .ref (ad 17), .int la, .int fo, .int fi, .int lp, .ref (ad 22), .int tr_, .int sp, .int ip, .ref (ad 26), .ref (ad 27), .ref (ad 28), .ref (ad 29)])), (ad 8, .inl (E.2 0, 124, .inl stv))] _ := hP
          replace hD : va_D A [(ad 30, .inr (6, [.ref (ad 0), .ref (ad 1), .int im, .ref (ad 3), .int (nI q.p), .int (nI (5 - d)), .int (nI q.n), .int (nI uz), .ref (ad 8), .ref (ad 9), .ref (ad 10), .ref (ad 11), .ref (ad 12), .ref (ad 13), .ref (ad 14), .int bn, .int bm, .ref (ad 17), .int la, .int fo, .int fi, .int lp, .ref (ad 22), .int tr_, .int sp, .int ip, .ref (ad 26), .ref (ad 27), .ref (ad 28), .ref (ad 29)])), (ad 8, .inl (E.2 0, 124, .inl stv))] := hD
          replace hq_28 : r_28 = lkM sa q.p := hq_28
          refine fx_ti (show r_28 = (lkM sa q.p) from hq_28) ?_
          refine lv_istore_n (lv' := [(1, .int (lkM sa q.p)), (0, .ref (ad 30))]) hx hb dX6_sum_31 rfl hl (by decide) rfl (fun ls hl => ?_)
          refine lv_aload_n hx hb dX6_sum_32 rfl (lv_at hl 1 rfl) ?_
          refine lv_dup hx hb dX6_sum_33 rfl ?_
          refine fx_get X hE hP 0 rfl rfl 4 rfl q1172 rfl rfl dX6_sum_34 ?_
          refine lv_iconst (v := 1) hx hb dX6_sum_37 rfl ?_
          refine lv_iadd hx hb dX6_sum_38 ?_
          refine fx_ti (nI_add q.p 1) ?_
          refine fx_put_ (ws' := [(ad 30, .inr (6, [.ref (ad 0), .ref (ad 1), .int im, .ref (ad 3), .int (nI (q.p + 1)), .int (nI (5 - d)), .int (nI q.n), .int (nI uz), .ref (ad 8), .ref (ad 9), .ref (ad 10), .ref (ad 11), .ref (ad 12), .ref (ad 13), .ref (ad 14), .int bn, .int bm, .ref (ad 17), .int la, .int fo, .int fi, .int lp, .ref (ad 22), .int tr_, .int sp, .int ip, .ref (ad 26), .ref (ad 27), .ref (ad 28), .ref (ad 29)])), (ad 8, .inl (E.2 0, 124, .inl stv))]) X hE hP hD hS 0 rfl rfl tyX6_ok nmX6 4 rfl q1172 rfl rfl rfl rfl rfl rfl dX6_sum_39 (fun H locs hP hD hS => ?_)
          refine lv_aload_n hx hb dX6_sum_42 rfl (lv_at hl 1 rfl) ?_
          refine fx_ci (va_runV (As := []) (rest := []) X (mX6_product l E ad im bn bm la fo fi lp tr_ sp ip sa stv uz q.go d (by first | assumption | omega) (by first | assumption | omega) (by first | assumption | omega) (go_ok hq hlt) (show MP uz q.go stv from hMq) (by first | assumption | omega) _) (cwV 0 X.2.2.2.2 (lw_V q1292 q1294 qs37 q75 q1295) rfl rfl rfl ⟨rfl, hdX6_product⟩ ⟨by simp only [rmX6_product, rmX6_sum] <;> omega, by simp only [rmX6_product, rmX6_sum] <;> omega⟩) (fx_preV (fx_pre hE hP hD hS hR [0, 1] rfl rfl (fx_rcr 0 rfl fx_rc0)) (va_recv hE.1 hP (ci := 6) (q0 := 0) rfl rfl)) rfl rfl hl.1 rfl (lv_room (Nat.le_of_ble_eq_true rfl)) dX6_sum_43 ⟨Nat.le_refl _, Nat.le_refl _⟩) hP hD hS hA [0, 1] rfl rfl (fun r_43 u H locs hq_43 hP hD hS => ?_)
          obtain ⟨at2_43, op2_43, st2_43, stp2_43⟩ := u
          replace hP : va_P E.1 clA [(ad 30, .inr (6, [.ref (ad 0), .ref (ad 1), .int im, .ref (ad 3), .int (nI at2_43), .int op2_43, .int st2_43, .int (nI uz), .ref (ad 8), .ref (ad 9), .ref (ad 10), .ref (ad 11), .ref (ad 12), .ref (ad 13), .ref (ad 14), .int bn, .int bm, .ref (ad 17), .int la, .int fo, .int fi, .int lp, .ref (ad 22), .int tr_, .int sp, .int ip, .ref (ad 26), .ref (ad 27), .ref (ad 28), .ref (ad 29)])), (ad 8, .inl (E.2 0, 124, .inl stp2_43))] _ := hP
          replace hD : va_D A [(ad 30, .inr (6, [.ref (ad 0), .ref (ad 1), .int im, .ref (ad 3), .int (nI at2_43), .int op2_43, .int st2_43, .int (nI uz), .ref (ad 8), .ref (ad 9), .ref (ad 10), .ref (ad 11), .ref (ad 12), .ref (ad 13), .ref (ad 14), .int bn, .int bm, .ref (ad 17), .int la, .int fo, .int fi, .int lp, .ref (ad 22), .int tr_, .int sp, .int ip, .ref (ad 26), .ref (ad 27), .ref (ad 28), .ref (ad 29)])), (ad 8, .inl (E.2 0, 124, .inl stp2_43))] := hD
          replace hq_43 : r_43 = fx_b (((prdF (lkM sa) (oneF (lkM sa) uz d)) q.go).1 = true) ∧ at2_43 = ((prdF (lkM sa) (oneF (lkM sa) uz d)) q.go).2.p ∧ (((prdF (lkM sa) (oneF (lkM sa) uz d)) q.go).1 = true → op2_43 = nI (5 - d) ∧ st2_43 = nI ((prdF (lkM sa) (oneF (lkM sa) uz d)) q.go).2.n ∧ MP uz ((prdF (lkM sa) (oneF (lkM sa) uz d)) q.go).2 stp2_43) := hq_43
          rcases fx_bc hq_43.1 with ⟨hb_43, hr_43⟩ | ⟨hb_43, hr_43⟩
          · -- True
            subst hr_43
            obtain ⟨ho_43, hs_43, hM_43⟩ := hq_43.2.2 hb_43
            have ha_43 := hq_43.2.1
            subst ho_43 hs_43 ha_43
            have hst := lp_step (prd_pp lkH) hq hdq hsk.2 hlt hb_43
            have hin := (prd_pp lkH q.go (go_ok hq hlt) hb_43).1.le60 htp
            refine lv_if_ne (tgt := 51) hx hb dX6_sum_46 (by decide) (fun _ => ?_) (fun c => absurd c (by decide))
            refine lv_aload_n hx hb dX6_sum_51 rfl (lv_at hl 1 rfl) ?_
            refine lv_iconst (v := 3) hx hb dX6_sum_52 rfl ?_
            refine lv_iload_n hx hb dX6_sum_53 rfl (lv_at hl 0 rfl) ?_
            refine fx_cv (va_runV (As := [.int 3, .int (lkM sa q.p)]) (rest := []) X (mX6_step1 l E ad im bn bm la fo fi lp tr_ sp ip (((prdF (lkM sa) (oneF (lkM sa) uz d)) q.go).2.p) (5 - d) (((prdF (lkM sa) (oneF (lkM sa) uz d)) q.go).2.n) uz stp2_43 3 (lkM sa q.p) hin.2 _) (cwV 2 X.2.2.2.2 (lw_V q1308 q1310 qs41 q75 q1311) rfl rfl rfl ⟨rfl, hdX6_step1⟩ ⟨by simp only [rmX6_step1, rmX6_sum] <;> omega, by simp only [rmX6_step1, rmX6_sum] <;> omega⟩) (fx_preV (fx_pre hE hP hD hS hR [0, 1] rfl rfl fx_rc0) (va_recv hE.1 hP (ci := 6) (q0 := 0) rfl rfl)) rfl rfl hl.1 rfl (lv_room (Nat.le_of_ble_eq_true rfl)) dX6_sum_54 ⟨Nat.le_refl _, Nat.le_refl _⟩) hP hD hS hA [0, 1] rfl rfl (fun u H locs hq_54 hP hD hS => ?_)
            replace hP : va_P E.1 clA [(ad 30, .inr (6, [.ref (ad 0), .ref (ad 1), .int im, .ref (ad 3), .int (nI (((prdF (lkM sa) (oneF (lkM sa) uz d)) q.go).2.p)), .int (nI (5 - d)), .int (nI ((((prdF (lkM sa) (oneF (lkM sa) uz d)) q.go).2.n) + 1)), .int (nI uz), .ref (ad 8), .ref (ad 9), .ref (ad 10), .ref (ad 11), .ref (ad 12), .ref (ad 13), .ref (ad 14), .int bn, .int bm, .ref (ad 17), .int la, .int fo, .int fi, .int lp, .ref (ad 22), .int tr_, .int sp, .int ip, .ref (ad 26), .ref (ad 27), .ref (ad 28), .ref (ad 29)])), (ad 8, .inl (E.2 0, 124, .inl (upd (upd stp2_43 (2 * (((prdF (lkM sa) (oneF (lkM sa) uz d)) q.go).2.n)) 3) (2 * (((prdF (lkM sa) (oneF (lkM sa) uz d)) q.go).2.n) + 1) (lkM sa q.p))))] _ := hP
            replace hD : va_D A [(ad 30, .inr (6, [.ref (ad 0), .ref (ad 1), .int im, .ref (ad 3), .int (nI (((prdF (lkM sa) (oneF (lkM sa) uz d)) q.go).2.p)), .int (nI (5 - d)), .int (nI ((((prdF (lkM sa) (oneF (lkM sa) uz d)) q.go).2.n) + 1)), .int (nI uz), .ref (ad 8), .ref (ad 9), .ref (ad 10), .ref (ad 11), .ref (ad 12), .ref (ad 13), .ref (ad 14), .int bn, .int bm, .ref (ad 17), .int la, .int fo, .int fi, .int lp, .ref (ad 22), .int tr_, .int sp, .int ip, .ref (ad 26), .ref (ad 27), .ref (ad 28), .ref (ad 29)])), (ad 8, .inl (E.2 0, 124, .inl (upd (upd stp2_43 (2 * (((prdF (lkM sa) (oneF (lkM sa) uz d)) q.go).2.n)) 3) (2 * (((prdF (lkM sa) (oneF (lkM sa) uz d)) q.go).2.n) + 1) (lkM sa q.p))))] := hD
            replace hq_54 : True := hq_54
            refine lv_goto (tgt := 9) hx hb dX6_sum_57 (by decide) ?_
            exact ih_9 (((prdF (lkM sa) (oneF (lkM sa) uz d)) q.go).2.add (nn (lkM sa q.p)) 0) f1 (upd (upd stp2_43 (2 * (((prdF (lkM sa) (oneF (lkM sa) uz d)) q.go).2.n)) 3) (2 * (((prdF (lkM sa) (oneF (lkM sa) uz d)) q.go).2.n) + 1) (lkM sa q.p)) (by omega) ((lpF_t hsg hb_43).symm.trans hf) (by have := hst.2.2.1; omega) hst.1 hst.2.1 (MP_sg hM_43 hsk) _ _ hP hD hS ls (lv_sub hl [1] rfl)
          · -- False
            subst hr_43
            have ha_43 := hq_43.2.1
            subst ha_43
            have hRR : ((smmF (lkM sa) (oneF (lkM sa) uz d)) ps) = (false, ((prdF (lkM sa) (oneF (lkM sa) uz d)) q.go).2) := by show sqF (lkM sa) sgS (prdF (lkM sa) (oneF (lkM sa) uz d)) ps = _; rw [sqF, if_pos hb_1, ← hf, lpF_n hsg hb_43]
            refine lv_if_ne (tgt := 51) hx hb dX6_sum_46 (by decide) (fun c => (c (by decide)).elim) (fun _ => ?_)
            refine lv_iconst (v := 0) hx hb dX6_sum_49 rfl ?_
            exact hret 0 (((prdF (lkM sa) (oneF (lkM sa) uz d)) q.go).2.p, op2_43, st2_43, stp2_43) (⟨fx_bf (by rw [hRR]; exact Bool.false_ne_true), by rw [hRR], fun h => absurd h (by rw [hRR]; exact Bool.false_ne_true)⟩) (rfl) hP hD hS (Nat.le_refl _) (Nat.le_refl _) dX6_sum_50
        · -- fall 18
          refine lv_aload_n hx hb dX6_sum_18 rfl (lv_at hl 0 rfl) ?_
          refine fx_ci (va_runV (As := []) (rest := []) X (mX6_look l E ad im bn bm la fo fi lp tr_ sp ip q.p (5 - d) q.n uz sa (by first | assumption | omega) hql.1 _) (cwV 0 X.2.2.2.2 (lw_V q1300 q1302 qs39 q75 q1303) rfl rfl rfl ⟨rfl, hdX6_look⟩ ⟨by simp only [rmX6_look, rmX6_sum] <;> omega, by simp only [rmX6_look, rmX6_sum] <;> omega⟩) (fx_preV (fx_pre hE hP hD hS hR [] rfl rfl (fx_rcm 0 rfl (by decide) (fx_rcr 0 rfl fx_rc0))) (va_recv hE.1 hP (ci := 6) (q0 := 0) rfl rfl)) rfl rfl hl.1 rfl (lv_room (Nat.le_of_ble_eq_true rfl)) dX6_sum_19 ⟨Nat.le_refl _, Nat.le_refl _⟩) hP hD hS hA [] rfl rfl (fun r_19 u H locs hq_19 hP hD hS => ?_)
          replace hP : va_P E.1 clA [(ad 30, .inr (6, [.ref (ad 0), .ref (ad 1), .int im, .ref (ad 3), .int (nI q.p), .int (nI (5 - d)), .int (nI q.n), .int (nI uz), .ref (ad 8), .ref (ad 9), .ref (ad 10), .ref (ad 11), .ref (ad 12), .ref (ad 13), .ref (ad 14), .int bn, .int bm, .ref (ad 17), .int la, .int fo, .int fi, .int lp, .ref (ad 22), .int tr_, .int sp, .int ip, .ref (ad 26), .ref (ad 27), .ref (ad 28), .ref (ad 29)])), (ad 8, .inl (E.2 0, 124, .inl stv))] _ := hP
          replace hD : va_D A [(ad 30, .inr (6, [.ref (ad 0), .ref (ad 1), .int im, .ref (ad 3), .int (nI q.p), .int (nI (5 - d)), .int (nI q.n), .int (nI uz), .ref (ad 8), .ref (ad 9), .ref (ad 10), .ref (ad 11), .ref (ad 12), .ref (ad 13), .ref (ad 14), .int bn, .int bm, .ref (ad 17), .int la, .int fo, .int fi, .int lp, .ref (ad 22), .int tr_, .int sp, .int ip, .ref (ad 26), .ref (ad 27), .ref (ad 28), .ref (ad 29)])), (ad 8, .inl (E.2 0, 124, .inl stv))] := hD
          replace hq_19 : r_19 = lkM sa q.p := hq_19
          refine fx_ti (show r_19 = (lkM sa q.p) from hq_19) ?_
          refine lv_bipush (v := 45) hx hb dX6_sum_22 rfl ?_
          refine lv_icmp_ne (tgt := 60) hx hb dX6_sum_24 (by decide) (fun c_24 => ?_) (fun c_24 => ?_)
          · -- jump 60
            have hsn : sgS (lkM sa q.p) = false := by simp [sgS, c_15, c_24]
            have hRR : ((smmF (lkM sa) (oneF (lkM sa) uz d)) ps) = (true, q) := by show sqF (lkM sa) sgS (prdF (lkM sa) (oneF (lkM sa) uz d)) ps = _; rw [sqF, if_pos hb_1, ← hf, lpF_f hsn]
            refine lv_iconst (v := 1) hx hb dX6_sum_60 rfl ?_
            exact hret 1 (q.p, nI (5 - d), nI q.n, stv) (⟨fx_bt (by rw [hRR]), by rw [hRR], fun _ => ⟨rfl, by rw [hRR], by rw [hRR]; exact hMq⟩⟩) (rfl) hP hD hS (Nat.le_refl _) (Nat.le_refl _) dX6_sum_61
          · -- fall 27
            have hsg : sgS (lkM sa q.p) = true := by simp [sgS, c_24]
            have hsk := sgS_ok _ hsg
            have hlt := lkM_lt (sgS_ok.nm1 hsg)
            obtain ⟨f1, rfl⟩ : ∃ z, f = z + 1 := ⟨f - 1, by omega⟩
            refine lv_aload_n hx hb dX6_sum_27 rfl (lv_at hl 0 rfl) ?_
            refine fx_ci (va_runV (As := []) (rest := []) X (mX6_look l E ad im bn bm la fo fi lp tr_ sp ip q.p (5 - d) q.n uz sa (by first | assumption | omega) hql.1 _) (cwV 0 X.2.2.2.2 (lw_V q1300 q1302 qs39 q75 q1303) rfl rfl rfl ⟨rfl, hdX6_look⟩ ⟨by simp only [rmX6_look, rmX6_sum] <;> omega, by simp only [rmX6_look, rmX6_sum] <;> omega⟩) (fx_preV (fx_pre hE hP hD hS hR [] rfl rfl (fx_rcm 0 rfl (by decide) (fx_rcr 0 rfl fx_rc0))) (va_recv hE.1 hP (ci := 6) (q0 := 0) rfl rfl)) rfl rfl hl.1 rfl (lv_room (Nat.le_of_ble_eq_true rfl)) dX6_sum_28 ⟨Nat.le_refl _, Nat.le_refl _⟩) hP hD hS hA [] rfl rfl (fun r_28 u H locs hq_28 hP hD hS => ?_)
            replace hP : va_P E.1 clA [(ad 30, .inr (6, [.ref (ad 0), .ref (ad 1), .int im, .ref (ad 3), .int (nI q.p), .int (nI (5 - d)), .int (nI q.n), .int (nI uz), .ref (ad 8), .ref (ad 9), .ref (ad 10), .ref (ad 11), .ref (ad 12), .ref (ad 13), .ref (ad 14), .int bn, .int bm, .ref (ad 17), .int la, .int fo, .int fi, .int lp, .ref (ad 22), .int tr_, .int sp, .int ip, .ref (ad 26), .ref (ad 27), .ref (ad 28), .ref (ad 29)])), (ad 8, .inl (E.2 0, 124, .inl stv))] _ := hP
            replace hD : va_D A [(ad 30, .inr (6, [.ref (ad 0), .ref (ad 1), .int im, .ref (ad 3), .int (nI q.p), .int (nI (5 - d)), .int (nI q.n), .int (nI uz), .ref (ad 8), .ref (ad 9), .ref (ad 10), .ref (ad 11), .ref (ad 12), .ref (ad 13), .ref (ad 14), .int bn, .int bm, .ref (ad 17), .int la, .int fo, .int fi, .int lp, .ref (ad 22), .int tr_, .int sp, .int ip, .ref (ad 26), .ref (ad 27), .ref (ad 28), .ref (ad 29)])), (ad 8, .inl (E.2 0, 124, .inl stv))] := hD
            replace hq_28 : r_28 = lkM sa q.p := hq_28
            refine fx_ti (show r_28 = (lkM sa q.p) from hq_28) ?_
            refine lv_istore_n (lv' := [(1, .int (lkM sa q.p)), (0, .ref (ad 30))]) hx hb dX6_sum_31 rfl hl (by decide) rfl (fun ls hl => ?_)
            refine lv_aload_n hx hb dX6_sum_32 rfl (lv_at hl 1 rfl) ?_
            refine lv_dup hx hb dX6_sum_33 rfl ?_
            refine fx_get X hE hP 0 rfl rfl 4 rfl q1172 rfl rfl dX6_sum_34 ?_
            refine lv_iconst (v := 1) hx hb dX6_sum_37 rfl ?_
            refine lv_iadd hx hb dX6_sum_38 ?_
            refine fx_ti (nI_add q.p 1) ?_
            refine fx_put_ (ws' := [(ad 30, .inr (6, [.ref (ad 0), .ref (ad 1), .int im, .ref (ad 3), .int (nI (q.p + 1)), .int (nI (5 - d)), .int (nI q.n), .int (nI uz), .ref (ad 8), .ref (ad 9), .ref (ad 10), .ref (ad 11), .ref (ad 12), .ref (ad 13), .ref (ad 14), .int bn, .int bm, .ref (ad 17), .int la, .int fo, .int fi, .int lp, .ref (ad 22), .int tr_, .int sp, .int ip, .ref (ad 26), .ref (ad 27), .ref (ad 28), .ref (ad 29)])), (ad 8, .inl (E.2 0, 124, .inl stv))]) X hE hP hD hS 0 rfl rfl tyX6_ok nmX6 4 rfl q1172 rfl rfl rfl rfl rfl rfl dX6_sum_39 (fun H locs hP hD hS => ?_)
            refine lv_aload_n hx hb dX6_sum_42 rfl (lv_at hl 1 rfl) ?_
            refine fx_ci (va_runV (As := []) (rest := []) X (mX6_product l E ad im bn bm la fo fi lp tr_ sp ip sa stv uz q.go d (by first | assumption | omega) (by first | assumption | omega) (by first | assumption | omega) (go_ok hq hlt) (show MP uz q.go stv from hMq) (by first | assumption | omega) _) (cwV 0 X.2.2.2.2 (lw_V q1292 q1294 qs37 q75 q1295) rfl rfl rfl ⟨rfl, hdX6_product⟩ ⟨by simp only [rmX6_product, rmX6_sum] <;> omega, by simp only [rmX6_product, rmX6_sum] <;> omega⟩) (fx_preV (fx_pre hE hP hD hS hR [0, 1] rfl rfl (fx_rcr 0 rfl fx_rc0)) (va_recv hE.1 hP (ci := 6) (q0 := 0) rfl rfl)) rfl rfl hl.1 rfl (lv_room (Nat.le_of_ble_eq_true rfl)) dX6_sum_43 ⟨Nat.le_refl _, Nat.le_refl _⟩) hP hD hS hA [0, 1] rfl rfl (fun r_43 u H locs hq_43 hP hD hS => ?_)
            obtain ⟨at2_43, op2_43, st2_43, stp2_43⟩ := u
            replace hP : va_P E.1 clA [(ad 30, .inr (6, [.ref (ad 0), .ref (ad 1), .int im, .ref (ad 3), .int (nI at2_43), .int op2_43, .int st2_43, .int (nI uz), .ref (ad 8), .ref (ad 9), .ref (ad 10), .ref (ad 11), .ref (ad 12), .ref (ad 13), .ref (ad 14), .int bn, .int bm, .ref (ad 17), .int la, .int fo, .int fi, .int lp, .ref (ad 22), .int tr_, .int sp, .int ip, .ref (ad 26), .ref (ad 27), .ref (ad 28), .ref (ad 29)])), (ad 8, .inl (E.2 0, 124, .inl stp2_43))] _ := hP
            replace hD : va_D A [(ad 30, .inr (6, [.ref (ad 0), .ref (ad 1), .int im, .ref (ad 3), .int (nI at2_43), .int op2_43, .int st2_43, .int (nI uz), .ref (ad 8), .ref (ad 9), .ref (ad 10), .ref (ad 11), .ref (ad 12), .ref (ad 13), .ref (ad 14), .int bn, .int bm, .ref (ad 17), .int la, .int fo, .int fi, .int lp, .ref (ad 22), .int tr_, .int sp, .int ip, .ref (ad 26), .ref (ad 27), .ref (ad 28), .ref (ad 29)])), (ad 8, .inl (E.2 0, 124, .inl stp2_43))] := hD
            replace hq_43 : r_43 = fx_b (((prdF (lkM sa) (oneF (lkM sa) uz d)) q.go).1 = true) ∧ at2_43 = ((prdF (lkM sa) (oneF (lkM sa) uz d)) q.go).2.p ∧ (((prdF (lkM sa) (oneF (lkM sa) uz d)) q.go).1 = true → op2_43 = nI (5 - d) ∧ st2_43 = nI ((prdF (lkM sa) (oneF (lkM sa) uz d)) q.go).2.n ∧ MP uz ((prdF (lkM sa) (oneF (lkM sa) uz d)) q.go).2 stp2_43) := hq_43
            rcases fx_bc hq_43.1 with ⟨hb_43, hr_43⟩ | ⟨hb_43, hr_43⟩
            · -- True
              subst hr_43
              obtain ⟨ho_43, hs_43, hM_43⟩ := hq_43.2.2 hb_43
              have ha_43 := hq_43.2.1
              subst ho_43 hs_43 ha_43
              have hst := lp_step (prd_pp lkH) hq hdq hsk.2 hlt hb_43
              have hin := (prd_pp lkH q.go (go_ok hq hlt) hb_43).1.le60 htp
              refine lv_if_ne (tgt := 51) hx hb dX6_sum_46 (by decide) (fun _ => ?_) (fun c => absurd c (by decide))
              refine lv_aload_n hx hb dX6_sum_51 rfl (lv_at hl 1 rfl) ?_
              refine lv_iconst (v := 3) hx hb dX6_sum_52 rfl ?_
              refine lv_iload_n hx hb dX6_sum_53 rfl (lv_at hl 0 rfl) ?_
              refine fx_cv (va_runV (As := [.int 3, .int (lkM sa q.p)]) (rest := []) X (mX6_step1 l E ad im bn bm la fo fi lp tr_ sp ip (((prdF (lkM sa) (oneF (lkM sa) uz d)) q.go).2.p) (5 - d) (((prdF (lkM sa) (oneF (lkM sa) uz d)) q.go).2.n) uz stp2_43 3 (lkM sa q.p) hin.2 _) (cwV 2 X.2.2.2.2 (lw_V q1308 q1310 qs41 q75 q1311) rfl rfl rfl ⟨rfl, hdX6_step1⟩ ⟨by simp only [rmX6_step1, rmX6_sum] <;> omega, by simp only [rmX6_step1, rmX6_sum] <;> omega⟩) (fx_preV (fx_pre hE hP hD hS hR [0, 1] rfl rfl fx_rc0) (va_recv hE.1 hP (ci := 6) (q0 := 0) rfl rfl)) rfl rfl hl.1 rfl (lv_room (Nat.le_of_ble_eq_true rfl)) dX6_sum_54 ⟨Nat.le_refl _, Nat.le_refl _⟩) hP hD hS hA [0, 1] rfl rfl (fun u H locs hq_54 hP hD hS => ?_)
              replace hP : va_P E.1 clA [(ad 30, .inr (6, [.ref (ad 0), .ref (ad 1), .int im, .ref (ad 3), .int (nI (((prdF (lkM sa) (oneF (lkM sa) uz d)) q.go).2.p)), .int (nI (5 - d)), .int (nI ((((prdF (lkM sa) (oneF (lkM sa) uz d)) q.go).2.n) + 1)), .int (nI uz), .ref (ad 8), .ref (ad 9), .ref (ad 10), .ref (ad 11), .ref (ad 12), .ref (ad 13), .ref (ad 14), .int bn, .int bm, .ref (ad 17), .int la, .int fo, .int fi, .int lp, .ref (ad 22), .int tr_, .int sp, .int ip, .ref (ad 26), .ref (ad 27), .ref (ad 28), .ref (ad 29)])), (ad 8, .inl (E.2 0, 124, .inl (upd (upd stp2_43 (2 * (((prdF (lkM sa) (oneF (lkM sa) uz d)) q.go).2.n)) 3) (2 * (((prdF (lkM sa) (oneF (lkM sa) uz d)) q.go).2.n) + 1) (lkM sa q.p))))] _ := hP
              replace hD : va_D A [(ad 30, .inr (6, [.ref (ad 0), .ref (ad 1), .int im, .ref (ad 3), .int (nI (((prdF (lkM sa) (oneF (lkM sa) uz d)) q.go).2.p)), .int (nI (5 - d)), .int (nI ((((prdF (lkM sa) (oneF (lkM sa) uz d)) q.go).2.n) + 1)), .int (nI uz), .ref (ad 8), .ref (ad 9), .ref (ad 10), .ref (ad 11), .ref (ad 12), .ref (ad 13), .ref (ad 14), .int bn, .int bm, .ref (ad 17), .int la, .int fo, .int fi, .int lp, .ref (ad 22), .int tr_, .int sp, .int ip, .ref (ad 26), .ref (ad 27), .ref (ad 28), .ref (ad 29)])), (ad 8, .inl (E.2 0, 124, .inl (upd (upd stp2_43 (2 * (((prdF (lkM sa) (oneF (lkM sa) uz d)) q.go).2.n)) 3) (2 * (((prdF (lkM sa) (oneF (lkM sa) uz d)) q.go).2.n) + 1) (lkM sa q.p))))] := hD
              replace hq_54 : True := hq_54
              refine lv_goto (tgt := 9) hx hb dX6_sum_57 (by decide) ?_
              exact ih_9 (((prdF (lkM sa) (oneF (lkM sa) uz d)) q.go).2.add (nn (lkM sa q.p)) 0) f1 (upd (upd stp2_43 (2 * (((prdF (lkM sa) (oneF (lkM sa) uz d)) q.go).2.n)) 3) (2 * (((prdF (lkM sa) (oneF (lkM sa) uz d)) q.go).2.n) + 1) (lkM sa q.p)) (by omega) ((lpF_t hsg hb_43).symm.trans hf) (by have := hst.2.2.1; omega) hst.1 hst.2.1 (MP_sg hM_43 hsk) _ _ hP hD hS ls (lv_sub hl [1] rfl)
            · -- False
              subst hr_43
              have ha_43 := hq_43.2.1
              subst ha_43
              have hRR : ((smmF (lkM sa) (oneF (lkM sa) uz d)) ps) = (false, ((prdF (lkM sa) (oneF (lkM sa) uz d)) q.go).2) := by show sqF (lkM sa) sgS (prdF (lkM sa) (oneF (lkM sa) uz d)) ps = _; rw [sqF, if_pos hb_1, ← hf, lpF_n hsg hb_43]
              refine lv_if_ne (tgt := 51) hx hb dX6_sum_46 (by decide) (fun c => (c (by decide)).elim) (fun _ => ?_)
              refine lv_iconst (v := 0) hx hb dX6_sum_49 rfl ?_
              exact hret 0 (((prdF (lkM sa) (oneF (lkM sa) uz d)) q.go).2.p, op2_43, st2_43, stp2_43) (⟨fx_bf (by rw [hRR]; exact Bool.false_ne_true), by rw [hRR], fun h => absurd h (by rw [hRR]; exact Bool.false_ne_true)⟩) (rfl) hP hD hS (Nat.le_refl _) (Nat.le_refl _) dX6_sum_50
    exact loop_9 (61 + 1) (((prdF (lkM sa) (oneF (lkM sa) uz d)) ps).2) 61 stp2_1 (Nat.lt_succ_self _) rfl (by omega) ((prd_pp lkH ps hps hb_1).1) (by have := (prd_pp lkH ps hps hb_1).2.2.2; omega) hM_1 _ _ hP hD hS ls (lv_sub hl [0] rfl)
  · -- False
    subst hr_1
    have ha_1 := hq_1.2.1
    subst ha_1
    have hRR : ((smmF (lkM sa) (oneF (lkM sa) uz d)) ps) = (false, ((prdF (lkM sa) (oneF (lkM sa) uz d)) ps).2) := by show sqF (lkM sa) sgS (prdF (lkM sa) (oneF (lkM sa) uz d)) ps = _; rw [sqF, if_neg hb_1]
    refine lv_if_ne (tgt := 9) hx hb dX6_sum_4 (by decide) (fun c => (c (by decide)).elim) (fun _ => ?_)
    refine lv_iconst (v := 0) hx hb dX6_sum_7 rfl ?_
    exact hret 0 (((prdF (lkM sa) (oneF (lkM sa) uz d)) ps).2.p, op2_1, st2_1, stp2_1) (⟨fx_bf (by rw [hRR]; exact Bool.false_ne_true), by rw [hRR], fun h => absurd h (by rw [hRR]; exact Bool.false_ne_true)⟩) (rfl) hP hD hS (Nat.le_refl _) (Nat.le_refl _) dX6_sum_8
abbrev rmX6_compared (d : Nat) : Room := { frames := 6 * d + 7, cells := 0, slots := 0, locals := 180 * d + 290 }
set_option maxHeartbeats 400000 in
set_option maxRecDepth 100000 in
theorem mX6_compared (l : Launch) (E : fx_En) (ad : Nat → Nat) (im : Int32) (bn : Int32) (bm : Int32) (la : Int32) (fo : Int32) (fi : Int32) (lp : Int32) (tr_ : Int32) (sp : Int32) (ip : Int32) (sa : Nat → Int32) (stp : Nat → Int32) (uz : Nat) (ps : Ps) (d : Nat) (hd : d ≤ 5) (hI : Inv sa) (hu : uz < 2) (hps : Pok (nn (sa 3)) ps) (hMP : MP uz ps stp) (h1 : ∀ (ad : Nat → Nat) (im : Int32) (bn : Int32) (bm : Int32) (la : Int32) (fo : Int32) (fi : Int32) (lp : Int32) (tr_ : Int32) (sp : Int32) (ip : Int32) (sa : Nat → Int32) (stp : Nat → Int32) (uz : Nat) (ps : Ps) (hd : d ≤ 5) (hI : Inv sa) (hu : uz < 2) (hps : Pok (nn (sa 3)) ps) (hMP : MP uz ps stp), fx_Mi l yX6_one cX6_one 4 .boolean (rmX6_one d) E [.ref (ad 30)] [(ad 30, .inr (6, [.ref (ad 0), .ref (ad 1), .int im, .ref (ad 3), .int (nI ps.p), .int (nI (5 - d)), .int (nI ps.n), .int (nI uz), .ref (ad 8), .ref (ad 9), .ref (ad 10), .ref (ad 11), .ref (ad 12), .ref (ad 13), .ref (ad 14), .int bn, .int bm, .ref (ad 17), .int la, .int fo, .int fi, .int lp, .ref (ad 22), .int tr_, .int sp, .int ip, .ref (ad 26), .ref (ad 27), .ref (ad 28), .ref (ad 29)])), (ad 8, .inl (E.2 0, 124, .inl stp))] [(ad 0, .inl (E.2 0, 374, .inl sa))] (S := Nat × Int32 × Int32 × (Nat → Int32)) (fun (u : Nat × Int32 × Int32 × (Nat → Int32)) => [(ad 30, .inr (6, [.ref (ad 0), .ref (ad 1), .int im, .ref (ad 3), .int (nI u.1), .int u.2.1, .int u.2.2.1, .int (nI uz), .ref (ad 8), .ref (ad 9), .ref (ad 10), .ref (ad 11), .ref (ad 12), .ref (ad 13), .ref (ad 14), .int bn, .int bm, .ref (ad 17), .int la, .int fo, .int fi, .int lp, .ref (ad 22), .int tr_, .int sp, .int ip, .ref (ad 26), .ref (ad 27), .ref (ad 28), .ref (ad 29)])), (ad 8, .inl (E.2 0, 124, .inl u.2.2.2))]) (fun (r : Int32) (u : Nat × Int32 × Int32 × (Nat → Int32)) => r = fx_b ((oneF (lkM sa) uz d ps).1 = true) ∧ u.1 = (oneF (lkM sa) uz d ps).2.p ∧ ((oneF (lkM sa) uz d ps).1 = true → u.2.1 = nI (5 - d) ∧ u.2.2.1 = nI (oneF (lkM sa) uz d ps).2.n ∧ MP uz (oneF (lkM sa) uz d ps).2 u.2.2.2))) : fx_Mi l yX6_compared cX6_compared 2 .boolean (rmX6_compared d) E [.ref (ad 30)] [(ad 30, .inr (6, [.ref (ad 0), .ref (ad 1), .int im, .ref (ad 3), .int (nI ps.p), .int (nI (5 - d)), .int (nI ps.n), .int (nI uz), .ref (ad 8), .ref (ad 9), .ref (ad 10), .ref (ad 11), .ref (ad 12), .ref (ad 13), .ref (ad 14), .int bn, .int bm, .ref (ad 17), .int la, .int fo, .int fi, .int lp, .ref (ad 22), .int tr_, .int sp, .int ip, .ref (ad 26), .ref (ad 27), .ref (ad 28), .ref (ad 29)])), (ad 8, .inl (E.2 0, 124, .inl stp))] [(ad 0, .inl (E.2 0, 374, .inl sa))] (S := Nat × Int32 × Int32 × (Nat → Int32)) (fun (u : Nat × Int32 × Int32 × (Nat → Int32)) => [(ad 30, .inr (6, [.ref (ad 0), .ref (ad 1), .int im, .ref (ad 3), .int (nI u.1), .int u.2.1, .int u.2.2.1, .int (nI uz), .ref (ad 8), .ref (ad 9), .ref (ad 10), .ref (ad 11), .ref (ad 12), .ref (ad 13), .ref (ad 14), .int bn, .int bm, .ref (ad 17), .int la, .int fo, .int fi, .int lp, .ref (ad 22), .int tr_, .int sp, .int ip, .ref (ad 26), .ref (ad 27), .ref (ad 28), .ref (ad 29)])), (ad 8, .inl (E.2 0, 124, .inl u.2.2.2))]) (fun (r : Int32) (u : Nat × Int32 × Int32 × (Nat → Int32)) => r = fx_b (((cmpF (lkM sa) (oneF (lkM sa) uz d)) ps).1 = true) ∧ u.1 = ((cmpF (lkM sa) (oneF (lkM sa) uz d)) ps).2.p ∧ (((cmpF (lkM sa) (oneF (lkM sa) uz d)) ps).1 = true → u.2.1 = nI (5 - d) ∧ u.2.2.1 = nI ((cmpF (lkM sa) (oneF (lkM sa) uz d)) ps).2.n ∧ MP uz ((cmpF (lkM sa) (oneF (lkM sa) uz d)) ps).2 u.2.2.2)) := by
  refine fx_iW rfl rfl ?_
  intro p e s m args below meth c A ls Q X hE hP hD hR hA hl hret
  have hx := X.1
  have hb := X.2.1
  have hS : va_S A s.heap s.heap [] := va_S.rf
  replace hP : va_P E.1 clA [(ad 30, .inr (6, [.ref (ad 0), .ref (ad 1), .int im, .ref (ad 3), .int (nI ps.p), .int (nI (5 - d)), .int (nI ps.n), .int (nI uz), .ref (ad 8), .ref (ad 9), .ref (ad 10), .ref (ad 11), .ref (ad 12), .ref (ad 13), .ref (ad 14), .int bn, .int bm, .ref (ad 17), .int la, .int fo, .int fi, .int lp, .ref (ad 22), .int tr_, .int sp, .int ip, .ref (ad 26), .ref (ad 27), .ref (ad 28), .ref (ad 29)])), (ad 8, .inl (E.2 0, 124, .inl stp))] _ := hP
  replace hD : va_D A [(ad 30, .inr (6, [.ref (ad 0), .ref (ad 1), .int im, .ref (ad 3), .int (nI ps.p), .int (nI (5 - d)), .int (nI ps.n), .int (nI uz), .ref (ad 8), .ref (ad 9), .ref (ad 10), .ref (ad 11), .ref (ad 12), .ref (ad 13), .ref (ad 14), .int bn, .int bm, .ref (ad 17), .int la, .int fo, .int fi, .int lp, .ref (ad 22), .int tr_, .int sp, .int ip, .ref (ad 26), .ref (ad 27), .ref (ad 28), .ref (ad 29)])), (ad 8, .inl (E.2 0, 124, .inl stp))] := hD
  replace hl : lv_has ls 2 [(0, .ref (ad 30))] := hl
  have htp := hI.taped.2
  have hpl := hps.le60 htp
  refine lv_aload_n hx hb dX6_compared_0 rfl (lv_at hl 0 rfl) ?_
  refine fx_ci (va_runV (As := []) (rest := []) X (mX6_sum l E ad im bn bm la fo fi lp tr_ sp ip sa stp uz ps d (by first | assumption | omega) (by first | assumption | omega) (by first | assumption | omega) (by first | assumption | omega) (by first | assumption | omega) (by first | assumption | omega) _) (cwV 0 X.2.2.2.2 (lw_V q1288 q1290 qs36 q75 q1291) rfl rfl rfl ⟨rfl, hdX6_sum⟩ ⟨by simp only [rmX6_sum, rmX6_compared] <;> omega, by simp only [rmX6_sum, rmX6_compared] <;> omega⟩) (fx_preV (fx_pre hE hP hD hS hR [0, 1] rfl rfl (fx_rcr 0 rfl fx_rc0)) (va_recv hE.1 hP (ci := 6) (q0 := 0) rfl rfl)) rfl rfl hl.1 rfl (lv_room (Nat.le_of_ble_eq_true rfl)) dX6_compared_1 ⟨Nat.le_refl _, Nat.le_refl _⟩) hP hD hS hA [0, 1] rfl rfl (fun r_1 u H locs hq_1 hP hD hS => ?_)
  obtain ⟨at2_1, op2_1, st2_1, stp2_1⟩ := u
  replace hP : va_P E.1 clA [(ad 30, .inr (6, [.ref (ad 0), .ref (ad 1), .int im, .ref (ad 3), .int (nI at2_1), .int op2_1, .int st2_1, .int (nI uz), .ref (ad 8), .ref (ad 9), .ref (ad 10), .ref (ad 11), .ref (ad 12), .ref (ad 13), .ref (ad 14), .int bn, .int bm, .ref (ad 17), .int la, .int fo, .int fi, .int lp, .ref (ad 22), .int tr_, .int sp, .int ip, .ref (ad 26), .ref (ad 27), .ref (ad 28), .ref (ad 29)])), (ad 8, .inl (E.2 0, 124, .inl stp2_1))] _ := hP
  replace hD : va_D A [(ad 30, .inr (6, [.ref (ad 0), .ref (ad 1), .int im, .ref (ad 3), .int (nI at2_1), .int op2_1, .int st2_1, .int (nI uz), .ref (ad 8), .ref (ad 9), .ref (ad 10), .ref (ad 11), .ref (ad 12), .ref (ad 13), .ref (ad 14), .int bn, .int bm, .ref (ad 17), .int la, .int fo, .int fi, .int lp, .ref (ad 22), .int tr_, .int sp, .int ip, .ref (ad 26), .ref (ad 27), .ref (ad 28), .ref (ad 29)])), (ad 8, .inl (E.2 0, 124, .inl stp2_1))] := hD
  replace hq_1 : r_1 = fx_b (((smmF (lkM sa) (oneF (lkM sa) uz d)) ps).1 = true) ∧ at2_1 = ((smmF (lkM sa) (oneF (lkM sa) uz d)) ps).2.p ∧ (((smmF (lkM sa) (oneF (lkM sa) uz d)) ps).1 = true → op2_1 = nI (5 - d) ∧ st2_1 = nI ((smmF (lkM sa) (oneF (lkM sa) uz d)) ps).2.n ∧ MP uz ((smmF (lkM sa) (oneF (lkM sa) uz d)) ps).2 stp2_1) := hq_1
  rcases fx_bc hq_1.1 with ⟨hb_1, hr_1⟩ | ⟨hb_1, hr_1⟩
  · -- True
    subst hr_1
    obtain ⟨ho_1, hs_1, hM_1⟩ := hq_1.2.2 hb_1
    have ha_1 := hq_1.2.1
    subst ho_1 hs_1 ha_1
    have hpk := smm_pp lkH ps hps hb_1
    have hpl1 := hpk.1.le60 htp
    refine lv_if_ne (tgt := 9) hx hb dX6_compared_4 (by decide) (fun _ => ?_) (fun c => absurd c (by decide))
    refine lv_aload_n hx hb dX6_compared_9 rfl (lv_at hl 0 rfl) ?_
    refine fx_ci (va_runV (As := []) (rest := []) X (mX6_look l E ad im bn bm la fo fi lp tr_ sp ip (((smmF (lkM sa) (oneF (lkM sa) uz d)) ps).2.p) (5 - d) (((smmF (lkM sa) (oneF (lkM sa) uz d)) ps).2.n) uz sa (by first | assumption | omega) hpl1.1 _) (cwV 0 X.2.2.2.2 (lw_V q1300 q1302 qs39 q75 q1303) rfl rfl rfl ⟨rfl, hdX6_look⟩ ⟨by simp only [rmX6_look, rmX6_compared] <;> omega, by simp only [rmX6_look, rmX6_compared] <;> omega⟩) (fx_preV (fx_pre hE hP hD hS hR [] rfl rfl (fx_rcm 0 rfl (by decide) (fx_rcr 0 rfl fx_rc0))) (va_recv hE.1 hP (ci := 6) (q0 := 0) rfl rfl)) rfl rfl hl.1 rfl (lv_room (Nat.le_of_ble_eq_true rfl)) dX6_compared_10 ⟨Nat.le_refl _, Nat.le_refl _⟩) hP hD hS hA [] rfl rfl (fun r_10 u H locs hq_10 hP hD hS => ?_)
    replace hP : va_P E.1 clA [(ad 30, .inr (6, [.ref (ad 0), .ref (ad 1), .int im, .ref (ad 3), .int (nI (((smmF (lkM sa) (oneF (lkM sa) uz d)) ps).2.p)), .int (nI (5 - d)), .int (nI (((smmF (lkM sa) (oneF (lkM sa) uz d)) ps).2.n)), .int (nI uz), .ref (ad 8), .ref (ad 9), .ref (ad 10), .ref (ad 11), .ref (ad 12), .ref (ad 13), .ref (ad 14), .int bn, .int bm, .ref (ad 17), .int la, .int fo, .int fi, .int lp, .ref (ad 22), .int tr_, .int sp, .int ip, .ref (ad 26), .ref (ad 27), .ref (ad 28), .ref (ad 29)])), (ad 8, .inl (E.2 0, 124, .inl stp2_1))] _ := hP
    replace hD : va_D A [(ad 30, .inr (6, [.ref (ad 0), .ref (ad 1), .int im, .ref (ad 3), .int (nI (((smmF (lkM sa) (oneF (lkM sa) uz d)) ps).2.p)), .int (nI (5 - d)), .int (nI (((smmF (lkM sa) (oneF (lkM sa) uz d)) ps).2.n)), .int (nI uz), .ref (ad 8), .ref (ad 9), .ref (ad 10), .ref (ad 11), .ref (ad 12), .ref (ad 13), .ref (ad 14), .int bn, .int bm, .ref (ad 17), .int la, .int fo, .int fi, .int lp, .ref (ad 22), .int tr_, .int sp, .int ip, .ref (ad 26), .ref (ad 27), .ref (ad 28), .ref (ad 29)])), (ad 8, .inl (E.2 0, 124, .inl stp2_1))] := hD
    replace hq_10 : r_10 = lkM sa (((smmF (lkM sa) (oneF (lkM sa) uz d)) ps).2.p) := hq_10
    refine fx_ti (show r_10 = (lkM sa ((smmF (lkM sa) (oneF (lkM sa) uz d)) ps).2.p) from hq_10) ?_
    refine lv_istore_n (lv' := [(1, .int (lkM sa ((smmF (lkM sa) (oneF (lkM sa) uz d)) ps).2.p)), (0, .ref (ad 30))]) hx hb dX6_compared_13 rfl hl (by decide) rfl (fun ls hl => ?_)
    refine lv_iload_n hx hb dX6_compared_14 rfl (lv_at hl 0 rfl) ?_
    refine lv_bipush (v := 60) hx hb dX6_compared_15 rfl ?_
    refine lv_icmp_eq (tgt := 34) hx hb dX6_compared_17 (by decide) (fun c_17 => ?_) (fun c_17 => ?_)
    · -- jump 34
      have hsg : sgC (lkM sa ((smmF (lkM sa) (oneF (lkM sa) uz d)) ps).2.p) = true := by simp [sgC, c_17]
      have hsk := sgC_ok _ hsg
      have hlt := lkM_lt (sgC_ok.nm1 hsg)
      refine lv_aload_n hx hb dX6_compared_34 rfl (lv_at hl 1 rfl) ?_
      refine lv_dup hx hb dX6_compared_35 rfl ?_
      refine fx_get X hE hP 0 rfl rfl 4 rfl q1172 rfl rfl dX6_compared_36 ?_
      refine lv_iconst (v := 1) hx hb dX6_compared_39 rfl ?_
      refine lv_iadd hx hb dX6_compared_40 ?_
      refine fx_ti (nI_add (((smmF (lkM sa) (oneF (lkM sa) uz d)) ps).2.p) 1) ?_
      refine fx_put_ (ws' := [(ad 30, .inr (6, [.ref (ad 0), .ref (ad 1), .int im, .ref (ad 3), .int (nI (((smmF (lkM sa) (oneF (lkM sa) uz d)) ps).2.p + 1)), .int (nI (5 - d)), .int (nI (((smmF (lkM sa) (oneF (lkM sa) uz d)) ps).2.n)), .int (nI uz), .ref (ad 8), .ref (ad 9), .ref (ad 10), .ref (ad 11), .ref (ad 12), .ref (ad 13), .ref (ad 14), .int bn, .int bm, .ref (ad 17), .int la, .int fo, .int fi, .int lp, .ref (ad 22), .int tr_, .int sp, .int ip, .ref (ad 26), .ref (ad 27), .ref (ad 28), .ref (ad 29)])), (ad 8, .inl (E.2 0, 124, .inl stp2_1))]) X hE hP hD hS 0 rfl rfl tyX6_ok nmX6 4 rfl q1172 rfl rfl rfl rfl rfl rfl dX6_compared_41 (fun H locs hP hD hS => ?_)
      refine lv_aload_n hx hb dX6_compared_44 rfl (lv_at hl 1 rfl) ?_
      refine fx_ci (va_runV (As := []) (rest := []) X (mX6_sum l E ad im bn bm la fo fi lp tr_ sp ip sa stp2_1 uz (((smmF (lkM sa) (oneF (lkM sa) uz d)) ps).2.go) d (by first | assumption | omega) (by first | assumption | omega) (by first | assumption | omega) (go_ok hpk.1 hlt) (show MP uz ((smmF (lkM sa) (oneF (lkM sa) uz d)) ps).2.go stp2_1 from hM_1) (by first | assumption | omega) _) (cwV 0 X.2.2.2.2 (lw_V q1288 q1290 qs36 q75 q1291) rfl rfl rfl ⟨rfl, hdX6_sum⟩ ⟨by simp only [rmX6_sum, rmX6_compared] <;> omega, by simp only [rmX6_sum, rmX6_compared] <;> omega⟩) (fx_preV (fx_pre hE hP hD hS hR [0, 1] rfl rfl (fx_rcr 0 rfl fx_rc0)) (va_recv hE.1 hP (ci := 6) (q0 := 0) rfl rfl)) rfl rfl hl.1 rfl (lv_room (Nat.le_of_ble_eq_true rfl)) dX6_compared_45 ⟨Nat.le_refl _, Nat.le_refl _⟩) hP hD hS hA [0, 1] rfl rfl (fun r_45 u H locs hq_45 hP hD hS => ?_)
      obtain ⟨at2_45, op2_45, st2_45, stp2_45⟩ := u
      replace hP : va_P E.1 clA [(ad 30, .inr (6, [.ref (ad 0), .ref (ad 1), .int im, .ref (ad 3), .int (nI at2_45), .int op2_45, .int st2_45, .int (nI uz), .ref (ad 8), .ref (ad 9), .ref (ad 10), .ref (ad 11), .ref (ad 12), .ref (ad 13), .ref (ad 14), .int bn, .int bm, .ref (ad 17), .int la, .int fo, .int fi, .int lp, .ref (ad 22), .int tr_, .int sp, .int ip, .ref (ad 26), .ref (ad 27), .ref (ad 28), .ref (ad 29)])), (ad 8, .inl (E.2 0, 124, .inl stp2_45))] _ := hP
      replace hD : va_D A [(ad 30, .inr (6, [.ref (ad 0), .ref (ad 1), .int im, .ref (ad 3), .int (nI at2_45), .int op2_45, .int st2_45, .int (nI uz), .ref (ad 8), .ref (ad 9), .ref (ad 10), .ref (ad 11), .ref (ad 12), .ref (ad 13), .ref (ad 14), .int bn, .int bm, .ref (ad 17), .int la, .int fo, .int fi, .int lp, .ref (ad 22), .int tr_, .int sp, .int ip, .ref (ad 26), .ref (ad 27), .ref (ad 28), .ref (ad 29)])), (ad 8, .inl (E.2 0, 124, .inl stp2_45))] := hD
      replace hq_45 : r_45 = fx_b (((smmF (lkM sa) (oneF (lkM sa) uz d)) (((smmF (lkM sa) (oneF (lkM sa) uz d)) ps).2.go)).1 = true) ∧ at2_45 = ((smmF (lkM sa) (oneF (lkM sa) uz d)) (((smmF (lkM sa) (oneF (lkM sa) uz d)) ps).2.go)).2.p ∧ (((smmF (lkM sa) (oneF (lkM sa) uz d)) (((smmF (lkM sa) (oneF (lkM sa) uz d)) ps).2.go)).1 = true → op2_45 = nI (5 - d) ∧ st2_45 = nI ((smmF (lkM sa) (oneF (lkM sa) uz d)) (((smmF (lkM sa) (oneF (lkM sa) uz d)) ps).2.go)).2.n ∧ MP uz ((smmF (lkM sa) (oneF (lkM sa) uz d)) (((smmF (lkM sa) (oneF (lkM sa) uz d)) ps).2.go)).2 stp2_45) := hq_45
      rcases fx_bc hq_45.1 with ⟨hb_45, hr_45⟩ | ⟨hb_45, hr_45⟩
      · -- True
        subst hr_45
        obtain ⟨ho_45, hs_45, hM_45⟩ := hq_45.2.2 hb_45
        have ha_45 := hq_45.2.1
        subst ho_45 hs_45 ha_45
        have hst := lp_step (smm_pp lkH) hpk.1 (by have := hpk.2.2.2; omega) hsk.2 hlt hb_45
        have hin := (smm_pp lkH ((smmF (lkM sa) (oneF (lkM sa) uz d)) ps).2.go (go_ok hpk.1 hlt) hb_45).1.le60 htp
        have hRR : ((cmpF (lkM sa) (oneF (lkM sa) uz d)) ps) = (true, ((smmF (lkM sa) (oneF (lkM sa) uz d)) ((smmF (lkM sa) (oneF (lkM sa) uz d)) ps).2.go).2.add (nn (lkM sa ((smmF (lkM sa) (oneF (lkM sa) uz d)) ps).2.p)) 0) := by rw [cmpF, if_pos hb_1, if_pos hsg, if_pos hb_45]
        refine lv_if_ne (tgt := 53) hx hb dX6_compared_48 (by decide) (fun _ => ?_) (fun c => absurd c (by decide))
        refine lv_aload_n hx hb dX6_compared_53 rfl (lv_at hl 1 rfl) ?_
        refine lv_iconst (v := 3) hx hb dX6_compared_54 rfl ?_
        refine lv_iload_n hx hb dX6_compared_55 rfl (lv_at hl 0 rfl) ?_
        refine fx_cv (va_runV (As := [.int 3, .int (lkM sa ((smmF (lkM sa) (oneF (lkM sa) uz d)) ps).2.p)]) (rest := []) X (mX6_step1 l E ad im bn bm la fo fi lp tr_ sp ip (((smmF (lkM sa) (oneF (lkM sa) uz d)) ((smmF (lkM sa) (oneF (lkM sa) uz d)) ps).2.go).2.p) (5 - d) (((smmF (lkM sa) (oneF (lkM sa) uz d)) ((smmF (lkM sa) (oneF (lkM sa) uz d)) ps).2.go).2.n) uz stp2_45 3 (lkM sa ((smmF (lkM sa) (oneF (lkM sa) uz d)) ps).2.p) hin.2 _) (cwV 2 X.2.2.2.2 (lw_V q1308 q1310 qs41 q75 q1311) rfl rfl rfl ⟨rfl, hdX6_step1⟩ ⟨by simp only [rmX6_step1, rmX6_compared] <;> omega, by simp only [rmX6_step1, rmX6_compared] <;> omega⟩) (fx_preV (fx_pre hE hP hD hS hR [0, 1] rfl rfl fx_rc0) (va_recv hE.1 hP (ci := 6) (q0 := 0) rfl rfl)) rfl rfl hl.1 rfl (lv_room (Nat.le_of_ble_eq_true rfl)) dX6_compared_56 ⟨Nat.le_refl _, Nat.le_refl _⟩) hP hD hS hA [0, 1] rfl rfl (fun u H locs hq_56 hP hD hS => ?_)
        replace hP : va_P E.1 clA [(ad 30, .inr (6, [.ref (ad 0), .ref (ad 1), .int im, .ref (ad 3), .int (nI (((smmF (lkM sa) (oneF (lkM sa) uz d)) ((smmF (lkM sa) (oneF (lkM sa) uz d)) ps).2.go).2.p)), .int (nI (5 - d)), .int (nI ((((smmF (lkM sa) (oneF (lkM sa) uz d)) ((smmF (lkM sa) (oneF (lkM sa) uz d)) ps).2.go).2.n) + 1)), .int (nI uz), .ref (ad 8), .ref (ad 9), .ref (ad 10), .ref (ad 11), .ref (ad 12), .ref (ad 13), .ref (ad 14), .int bn, .int bm, .ref (ad 17), .int la, .int fo, .int fi, .int lp, .ref (ad 22), .int tr_, .int sp, .int ip, .ref (ad 26), .ref (ad 27), .ref (ad 28), .ref (ad 29)])), (ad 8, .inl (E.2 0, 124, .inl (upd (upd stp2_45 (2 * (((smmF (lkM sa) (oneF (lkM sa) uz d)) ((smmF (lkM sa) (oneF (lkM sa) uz d)) ps).2.go).2.n)) 3) (2 * (((smmF (lkM sa) (oneF (lkM sa) uz d)) ((smmF (lkM sa) (oneF (lkM sa) uz d)) ps).2.go).2.n) + 1) (lkM sa ((smmF (lkM sa) (oneF (lkM sa) uz d)) ps).2.p))))] _ := hP
        replace hD : va_D A [(ad 30, .inr (6, [.ref (ad 0), .ref (ad 1), .int im, .ref (ad 3), .int (nI (((smmF (lkM sa) (oneF (lkM sa) uz d)) ((smmF (lkM sa) (oneF (lkM sa) uz d)) ps).2.go).2.p)), .int (nI (5 - d)), .int (nI ((((smmF (lkM sa) (oneF (lkM sa) uz d)) ((smmF (lkM sa) (oneF (lkM sa) uz d)) ps).2.go).2.n) + 1)), .int (nI uz), .ref (ad 8), .ref (ad 9), .ref (ad 10), .ref (ad 11), .ref (ad 12), .ref (ad 13), .ref (ad 14), .int bn, .int bm, .ref (ad 17), .int la, .int fo, .int fi, .int lp, .ref (ad 22), .int tr_, .int sp, .int ip, .ref (ad 26), .ref (ad 27), .ref (ad 28), .ref (ad 29)])), (ad 8, .inl (E.2 0, 124, .inl (upd (upd stp2_45 (2 * (((smmF (lkM sa) (oneF (lkM sa) uz d)) ((smmF (lkM sa) (oneF (lkM sa) uz d)) ps).2.go).2.n)) 3) (2 * (((smmF (lkM sa) (oneF (lkM sa) uz d)) ((smmF (lkM sa) (oneF (lkM sa) uz d)) ps).2.go).2.n) + 1) (lkM sa ((smmF (lkM sa) (oneF (lkM sa) uz d)) ps).2.p))))] := hD
        replace hq_56 : True := hq_56
        refine lv_iconst (v := 1) hx hb dX6_compared_59 rfl ?_
        exact hret 1 ((((smmF (lkM sa) (oneF (lkM sa) uz d)) ((smmF (lkM sa) (oneF (lkM sa) uz d)) ps).2.go).2.p), nI (5 - d), nI ((((smmF (lkM sa) (oneF (lkM sa) uz d)) ((smmF (lkM sa) (oneF (lkM sa) uz d)) ps).2.go).2.n) + 1), (upd (upd stp2_45 (2 * (((smmF (lkM sa) (oneF (lkM sa) uz d)) ((smmF (lkM sa) (oneF (lkM sa) uz d)) ps).2.go).2.n)) 3) (2 * (((smmF (lkM sa) (oneF (lkM sa) uz d)) ((smmF (lkM sa) (oneF (lkM sa) uz d)) ps).2.go).2.n) + 1) (lkM sa ((smmF (lkM sa) (oneF (lkM sa) uz d)) ps).2.p))) (⟨fx_bt (by rw [hRR]), by rw [hRR]; rfl, fun _ => ⟨rfl, by rw [hRR]; rfl, by rw [hRR]; exact MP_sg hM_45 hsk⟩⟩) (rfl) hP hD hS (Nat.le_refl _) (Nat.le_refl _) dX6_compared_60
      · -- False
        subst hr_45
        have ha_45 := hq_45.2.1
        subst ha_45
        have hRR : ((cmpF (lkM sa) (oneF (lkM sa) uz d)) ps) = (false, ((smmF (lkM sa) (oneF (lkM sa) uz d)) ((smmF (lkM sa) (oneF (lkM sa) uz d)) ps).2.go).2) := by rw [cmpF, if_pos hb_1, if_pos hsg, if_neg hb_45]
        refine lv_if_ne (tgt := 53) hx hb dX6_compared_48 (by decide) (fun c => (c (by decide)).elim) (fun _ => ?_)
        refine lv_iconst (v := 0) hx hb dX6_compared_51 rfl ?_
        exact hret 0 (((smmF (lkM sa) (oneF (lkM sa) uz d)) ((smmF (lkM sa) (oneF (lkM sa) uz d)) ps).2.go).2.p, op2_45, st2_45, stp2_45) (⟨fx_bf (by rw [hRR]; exact Bool.false_ne_true), by rw [hRR], fun h => absurd h (by rw [hRR]; exact Bool.false_ne_true)⟩) (rfl) hP hD hS (Nat.le_refl _) (Nat.le_refl _) dX6_compared_52
    · -- fall 20
      refine lv_iload_n hx hb dX6_compared_20 rfl (lv_at hl 0 rfl) ?_
      refine lv_bipush (v := 61) hx hb dX6_compared_21 rfl ?_
      refine lv_icmp_eq (tgt := 34) hx hb dX6_compared_23 (by decide) (fun c_23 => ?_) (fun c_23 => ?_)
      · -- jump 34
        have hsg : sgC (lkM sa ((smmF (lkM sa) (oneF (lkM sa) uz d)) ps).2.p) = true := by simp [sgC, c_23]
        have hsk := sgC_ok _ hsg
        have hlt := lkM_lt (sgC_ok.nm1 hsg)
        refine lv_aload_n hx hb dX6_compared_34 rfl (lv_at hl 1 rfl) ?_
        refine lv_dup hx hb dX6_compared_35 rfl ?_
        refine fx_get X hE hP 0 rfl rfl 4 rfl q1172 rfl rfl dX6_compared_36 ?_
        refine lv_iconst (v := 1) hx hb dX6_compared_39 rfl ?_
        refine lv_iadd hx hb dX6_compared_40 ?_
        refine fx_ti (nI_add (((smmF (lkM sa) (oneF (lkM sa) uz d)) ps).2.p) 1) ?_
        refine fx_put_ (ws' := [(ad 30, .inr (6, [.ref (ad 0), .ref (ad 1), .int im, .ref (ad 3), .int (nI (((smmF (lkM sa) (oneF (lkM sa) uz d)) ps).2.p + 1)), .int (nI (5 - d)), .int (nI (((smmF (lkM sa) (oneF (lkM sa) uz d)) ps).2.n)), .int (nI uz), .ref (ad 8), .ref (ad 9), .ref (ad 10), .ref (ad 11), .ref (ad 12), .ref (ad 13), .ref (ad 14), .int bn, .int bm, .ref (ad 17), .int la, .int fo, .int fi, .int lp, .ref (ad 22), .int tr_, .int sp, .int ip, .ref (ad 26), .ref (ad 27), .ref (ad 28), .ref (ad 29)])), (ad 8, .inl (E.2 0, 124, .inl stp2_1))]) X hE hP hD hS 0 rfl rfl tyX6_ok nmX6 4 rfl q1172 rfl rfl rfl rfl rfl rfl dX6_compared_41 (fun H locs hP hD hS => ?_)
        refine lv_aload_n hx hb dX6_compared_44 rfl (lv_at hl 1 rfl) ?_
        refine fx_ci (va_runV (As := []) (rest := []) X (mX6_sum l E ad im bn bm la fo fi lp tr_ sp ip sa stp2_1 uz (((smmF (lkM sa) (oneF (lkM sa) uz d)) ps).2.go) d (by first | assumption | omega) (by first | assumption | omega) (by first | assumption | omega) (go_ok hpk.1 hlt) (show MP uz ((smmF (lkM sa) (oneF (lkM sa) uz d)) ps).2.go stp2_1 from hM_1) (by first | assumption | omega) _) (cwV 0 X.2.2.2.2 (lw_V q1288 q1290 qs36 q75 q1291) rfl rfl rfl ⟨rfl, hdX6_sum⟩ ⟨by simp only [rmX6_sum, rmX6_compared] <;> omega, by simp only [rmX6_sum, rmX6_compared] <;> omega⟩) (fx_preV (fx_pre hE hP hD hS hR [0, 1] rfl rfl (fx_rcr 0 rfl fx_rc0)) (va_recv hE.1 hP (ci := 6) (q0 := 0) rfl rfl)) rfl rfl hl.1 rfl (lv_room (Nat.le_of_ble_eq_true rfl)) dX6_compared_45 ⟨Nat.le_refl _, Nat.le_refl _⟩) hP hD hS hA [0, 1] rfl rfl (fun r_45 u H locs hq_45 hP hD hS => ?_)
        obtain ⟨at2_45, op2_45, st2_45, stp2_45⟩ := u
        replace hP : va_P E.1 clA [(ad 30, .inr (6, [.ref (ad 0), .ref (ad 1), .int im, .ref (ad 3), .int (nI at2_45), .int op2_45, .int st2_45, .int (nI uz), .ref (ad 8), .ref (ad 9), .ref (ad 10), .ref (ad 11), .ref (ad 12), .ref (ad 13), .ref (ad 14), .int bn, .int bm, .ref (ad 17), .int la, .int fo, .int fi, .int lp, .ref (ad 22), .int tr_, .int sp, .int ip, .ref (ad 26), .ref (ad 27), .ref (ad 28), .ref (ad 29)])), (ad 8, .inl (E.2 0, 124, .inl stp2_45))] _ := hP
        replace hD : va_D A [(ad 30, .inr (6, [.ref (ad 0), .ref (ad 1), .int im, .ref (ad 3), .int (nI at2_45), .int op2_45, .int st2_45, .int (nI uz), .ref (ad 8), .ref (ad 9), .ref (ad 10), .ref (ad 11), .ref (ad 12), .ref (ad 13), .ref (ad 14), .int bn, .int bm, .ref (ad 17), .int la, .int fo, .int fi, .int lp, .ref (ad 22), .int tr_, .int sp, .int ip, .ref (ad 26), .ref (ad 27), .ref (ad 28), .ref (ad 29)])), (ad 8, .inl (E.2 0, 124, .inl stp2_45))] := hD
        replace hq_45 : r_45 = fx_b (((smmF (lkM sa) (oneF (lkM sa) uz d)) (((smmF (lkM sa) (oneF (lkM sa) uz d)) ps).2.go)).1 = true) ∧ at2_45 = ((smmF (lkM sa) (oneF (lkM sa) uz d)) (((smmF (lkM sa) (oneF (lkM sa) uz d)) ps).2.go)).2.p ∧ (((smmF (lkM sa) (oneF (lkM sa) uz d)) (((smmF (lkM sa) (oneF (lkM sa) uz d)) ps).2.go)).1 = true → op2_45 = nI (5 - d) ∧ st2_45 = nI ((smmF (lkM sa) (oneF (lkM sa) uz d)) (((smmF (lkM sa) (oneF (lkM sa) uz d)) ps).2.go)).2.n ∧ MP uz ((smmF (lkM sa) (oneF (lkM sa) uz d)) (((smmF (lkM sa) (oneF (lkM sa) uz d)) ps).2.go)).2 stp2_45) := hq_45
        rcases fx_bc hq_45.1 with ⟨hb_45, hr_45⟩ | ⟨hb_45, hr_45⟩
        · -- True
          subst hr_45
          obtain ⟨ho_45, hs_45, hM_45⟩ := hq_45.2.2 hb_45
          have ha_45 := hq_45.2.1
          subst ho_45 hs_45 ha_45
          have hst := lp_step (smm_pp lkH) hpk.1 (by have := hpk.2.2.2; omega) hsk.2 hlt hb_45
          have hin := (smm_pp lkH ((smmF (lkM sa) (oneF (lkM sa) uz d)) ps).2.go (go_ok hpk.1 hlt) hb_45).1.le60 htp
          have hRR : ((cmpF (lkM sa) (oneF (lkM sa) uz d)) ps) = (true, ((smmF (lkM sa) (oneF (lkM sa) uz d)) ((smmF (lkM sa) (oneF (lkM sa) uz d)) ps).2.go).2.add (nn (lkM sa ((smmF (lkM sa) (oneF (lkM sa) uz d)) ps).2.p)) 0) := by rw [cmpF, if_pos hb_1, if_pos hsg, if_pos hb_45]
          refine lv_if_ne (tgt := 53) hx hb dX6_compared_48 (by decide) (fun _ => ?_) (fun c => absurd c (by decide))
          refine lv_aload_n hx hb dX6_compared_53 rfl (lv_at hl 1 rfl) ?_
          refine lv_iconst (v := 3) hx hb dX6_compared_54 rfl ?_
          refine lv_iload_n hx hb dX6_compared_55 rfl (lv_at hl 0 rfl) ?_
          refine fx_cv (va_runV (As := [.int 3, .int (lkM sa ((smmF (lkM sa) (oneF (lkM sa) uz d)) ps).2.p)]) (rest := []) X (mX6_step1 l E ad im bn bm la fo fi lp tr_ sp ip (((smmF (lkM sa) (oneF (lkM sa) uz d)) ((smmF (lkM sa) (oneF (lkM sa) uz d)) ps).2.go).2.p) (5 - d) (((smmF (lkM sa) (oneF (lkM sa) uz d)) ((smmF (lkM sa) (oneF (lkM sa) uz d)) ps).2.go).2.n) uz stp2_45 3 (lkM sa ((smmF (lkM sa) (oneF (lkM sa) uz d)) ps).2.p) hin.2 _) (cwV 2 X.2.2.2.2 (lw_V q1308 q1310 qs41 q75 q1311) rfl rfl rfl ⟨rfl, hdX6_step1⟩ ⟨by simp only [rmX6_step1, rmX6_compared] <;> omega, by simp only [rmX6_step1, rmX6_compared] <;> omega⟩) (fx_preV (fx_pre hE hP hD hS hR [0, 1] rfl rfl fx_rc0) (va_recv hE.1 hP (ci := 6) (q0 := 0) rfl rfl)) rfl rfl hl.1 rfl (lv_room (Nat.le_of_ble_eq_true rfl)) dX6_compared_56 ⟨Nat.le_refl _, Nat.le_refl _⟩) hP hD hS hA [0, 1] rfl rfl (fun u H locs hq_56 hP hD hS => ?_)
          replace hP : va_P E.1 clA [(ad 30, .inr (6, [.ref (ad 0), .ref (ad 1), .int im, .ref (ad 3), .int (nI (((smmF (lkM sa) (oneF (lkM sa) uz d)) ((smmF (lkM sa) (oneF (lkM sa) uz d)) ps).2.go).2.p)), .int (nI (5 - d)), .int (nI ((((smmF (lkM sa) (oneF (lkM sa) uz d)) ((smmF (lkM sa) (oneF (lkM sa) uz d)) ps).2.go).2.n) + 1)), .int (nI uz), .ref (ad 8), .ref (ad 9), .ref (ad 10), .ref (ad 11), .ref (ad 12), .ref (ad 13), .ref (ad 14), .int bn, .int bm, .ref (ad 17), .int la, .int fo, .int fi, .int lp, .ref (ad 22), .int tr_, .int sp, .int ip, .ref (ad 26), .ref (ad 27), .ref (ad 28), .ref (ad 29)])), (ad 8, .inl (E.2 0, 124, .inl (upd (upd stp2_45 (2 * (((smmF (lkM sa) (oneF (lkM sa) uz d)) ((smmF (lkM sa) (oneF (lkM sa) uz d)) ps).2.go).2.n)) 3) (2 * (((smmF (lkM sa) (oneF (lkM sa) uz d)) ((smmF (lkM sa) (oneF (lkM sa) uz d)) ps).2.go).2.n) + 1) (lkM sa ((smmF (lkM sa) (oneF (lkM sa) uz d)) ps).2.p))))] _ := hP
          replace hD : va_D A [(ad 30, .inr (6, [.ref (ad 0), .ref (ad 1), .int im, .ref (ad 3), .int (nI (((smmF (lkM sa) (oneF (lkM sa) uz d)) ((smmF (lkM sa) (oneF (lkM sa) uz d)) ps).2.go).2.p)), .int (nI (5 - d)), .int (nI ((((smmF (lkM sa) (oneF (lkM sa) uz d)) ((smmF (lkM sa) (oneF (lkM sa) uz d)) ps).2.go).2.n) + 1)), .int (nI uz), .ref (ad 8), .ref (ad 9), .ref (ad 10), .ref (ad 11), .ref (ad 12), .ref (ad 13), .ref (ad 14), .int bn, .int bm, .ref (ad 17), .int la, .int fo, .int fi, .int lp, .ref (ad 22), .int tr_, .int sp, .int ip, .ref (ad 26), .ref (ad 27), .ref (ad 28), .ref (ad 29)])), (ad 8, .inl (E.2 0, 124, .inl (upd (upd stp2_45 (2 * (((smmF (lkM sa) (oneF (lkM sa) uz d)) ((smmF (lkM sa) (oneF (lkM sa) uz d)) ps).2.go).2.n)) 3) (2 * (((smmF (lkM sa) (oneF (lkM sa) uz d)) ((smmF (lkM sa) (oneF (lkM sa) uz d)) ps).2.go).2.n) + 1) (lkM sa ((smmF (lkM sa) (oneF (lkM sa) uz d)) ps).2.p))))] := hD
          replace hq_56 : True := hq_56
          refine lv_iconst (v := 1) hx hb dX6_compared_59 rfl ?_
          exact hret 1 ((((smmF (lkM sa) (oneF (lkM sa) uz d)) ((smmF (lkM sa) (oneF (lkM sa) uz d)) ps).2.go).2.p), nI (5 - d), nI ((((smmF (lkM sa) (oneF (lkM sa) uz d)) ((smmF (lkM sa) (oneF (lkM sa) uz d)) ps).2.go).2.n) + 1), (upd (upd stp2_45 (2 * (((smmF (lkM sa) (oneF (lkM sa) uz d)) ((smmF (lkM sa) (oneF (lkM sa) uz d)) ps).2.go).2.n)) 3) (2 * (((smmF (lkM sa) (oneF (lkM sa) uz d)) ((smmF (lkM sa) (oneF (lkM sa) uz d)) ps).2.go).2.n) + 1) (lkM sa ((smmF (lkM sa) (oneF (lkM sa) uz d)) ps).2.p))) (⟨fx_bt (by rw [hRR]), by rw [hRR]; rfl, fun _ => ⟨rfl, by rw [hRR]; rfl, by rw [hRR]; exact MP_sg hM_45 hsk⟩⟩) (rfl) hP hD hS (Nat.le_refl _) (Nat.le_refl _) dX6_compared_60
        · -- False
          subst hr_45
          have ha_45 := hq_45.2.1
          subst ha_45
          have hRR : ((cmpF (lkM sa) (oneF (lkM sa) uz d)) ps) = (false, ((smmF (lkM sa) (oneF (lkM sa) uz d)) ((smmF (lkM sa) (oneF (lkM sa) uz d)) ps).2.go).2) := by rw [cmpF, if_pos hb_1, if_pos hsg, if_neg hb_45]
          refine lv_if_ne (tgt := 53) hx hb dX6_compared_48 (by decide) (fun c => (c (by decide)).elim) (fun _ => ?_)
          refine lv_iconst (v := 0) hx hb dX6_compared_51 rfl ?_
          exact hret 0 (((smmF (lkM sa) (oneF (lkM sa) uz d)) ((smmF (lkM sa) (oneF (lkM sa) uz d)) ps).2.go).2.p, op2_45, st2_45, stp2_45) (⟨fx_bf (by rw [hRR]; exact Bool.false_ne_true), by rw [hRR], fun h => absurd h (by rw [hRR]; exact Bool.false_ne_true)⟩) (rfl) hP hD hS (Nat.le_refl _) (Nat.le_refl _) dX6_compared_52
      · -- fall 26
        refine lv_iload_n hx hb dX6_compared_26 rfl (lv_at hl 0 rfl) ?_
        refine lv_bipush (v := 62) hx hb dX6_compared_27 rfl ?_
        refine lv_icmp_eq (tgt := 34) hx hb dX6_compared_29 (by decide) (fun c_29 => ?_) (fun c_29 => ?_)
        · -- jump 34
          have hsg : sgC (lkM sa ((smmF (lkM sa) (oneF (lkM sa) uz d)) ps).2.p) = true := by simp [sgC, c_29]
          have hsk := sgC_ok _ hsg
          have hlt := lkM_lt (sgC_ok.nm1 hsg)
          refine lv_aload_n hx hb dX6_compared_34 rfl (lv_at hl 1 rfl) ?_
          refine lv_dup hx hb dX6_compared_35 rfl ?_
          refine fx_get X hE hP 0 rfl rfl 4 rfl q1172 rfl rfl dX6_compared_36 ?_
          refine lv_iconst (v := 1) hx hb dX6_compared_39 rfl ?_
          refine lv_iadd hx hb dX6_compared_40 ?_
          refine fx_ti (nI_add (((smmF (lkM sa) (oneF (lkM sa) uz d)) ps).2.p) 1) ?_
          refine fx_put_ (ws' := [(ad 30, .inr (6, [.ref (ad 0), .ref (ad 1), .int im, .ref (ad 3), .int (nI (((smmF (lkM sa) (oneF (lkM sa) uz d)) ps).2.p + 1)), .int (nI (5 - d)), .int (nI (((smmF (lkM sa) (oneF (lkM sa) uz d)) ps).2.n)), .int (nI uz), .ref (ad 8), .ref (ad 9), .ref (ad 10), .ref (ad 11), .ref (ad 12), .ref (ad 13), .ref (ad 14), .int bn, .int bm, .ref (ad 17), .int la, .int fo, .int fi, .int lp, .ref (ad 22), .int tr_, .int sp, .int ip, .ref (ad 26), .ref (ad 27), .ref (ad 28), .ref (ad 29)])), (ad 8, .inl (E.2 0, 124, .inl stp2_1))]) X hE hP hD hS 0 rfl rfl tyX6_ok nmX6 4 rfl q1172 rfl rfl rfl rfl rfl rfl dX6_compared_41 (fun H locs hP hD hS => ?_)
          refine lv_aload_n hx hb dX6_compared_44 rfl (lv_at hl 1 rfl) ?_
          refine fx_ci (va_runV (As := []) (rest := []) X (mX6_sum l E ad im bn bm la fo fi lp tr_ sp ip sa stp2_1 uz (((smmF (lkM sa) (oneF (lkM sa) uz d)) ps).2.go) d (by first | assumption | omega) (by first | assumption | omega) (by first | assumption | omega) (go_ok hpk.1 hlt) (show MP uz ((smmF (lkM sa) (oneF (lkM sa) uz d)) ps).2.go stp2_1 from hM_1) (by first | assumption | omega) _) (cwV 0 X.2.2.2.2 (lw_V q1288 q1290 qs36 q75 q1291) rfl rfl rfl ⟨rfl, hdX6_sum⟩ ⟨by simp only [rmX6_sum, rmX6_compared] <;> omega, by simp only [rmX6_sum, rmX6_compared] <;> omega⟩) (fx_preV (fx_pre hE hP hD hS hR [0, 1] rfl rfl (fx_rcr 0 rfl fx_rc0)) (va_recv hE.1 hP (ci := 6) (q0 := 0) rfl rfl)) rfl rfl hl.1 rfl (lv_room (Nat.le_of_ble_eq_true rfl)) dX6_compared_45 ⟨Nat.le_refl _, Nat.le_refl _⟩) hP hD hS hA [0, 1] rfl rfl (fun r_45 u H locs hq_45 hP hD hS => ?_)
          obtain ⟨at2_45, op2_45, st2_45, stp2_45⟩ := u
          replace hP : va_P E.1 clA [(ad 30, .inr (6, [.ref (ad 0), .ref (ad 1), .int im, .ref (ad 3), .int (nI at2_45), .int op2_45, .int st2_45, .int (nI uz), .ref (ad 8), .ref (ad 9), .ref (ad 10), .ref (ad 11), .ref (ad 12), .ref (ad 13), .ref (ad 14), .int bn, .int bm, .ref (ad 17), .int la, .int fo, .int fi, .int lp, .ref (ad 22), .int tr_, .int sp, .int ip, .ref (ad 26), .ref (ad 27), .ref (ad 28), .ref (ad 29)])), (ad 8, .inl (E.2 0, 124, .inl stp2_45))] _ := hP
          replace hD : va_D A [(ad 30, .inr (6, [.ref (ad 0), .ref (ad 1), .int im, .ref (ad 3), .int (nI at2_45), .int op2_45, .int st2_45, .int (nI uz), .ref (ad 8), .ref (ad 9), .ref (ad 10), .ref (ad 11), .ref (ad 12), .ref (ad 13), .ref (ad 14), .int bn, .int bm, .ref (ad 17), .int la, .int fo, .int fi, .int lp, .ref (ad 22), .int tr_, .int sp, .int ip, .ref (ad 26), .ref (ad 27), .ref (ad 28), .ref (ad 29)])), (ad 8, .inl (E.2 0, 124, .inl stp2_45))] := hD
          replace hq_45 : r_45 = fx_b (((smmF (lkM sa) (oneF (lkM sa) uz d)) (((smmF (lkM sa) (oneF (lkM sa) uz d)) ps).2.go)).1 = true) ∧ at2_45 = ((smmF (lkM sa) (oneF (lkM sa) uz d)) (((smmF (lkM sa) (oneF (lkM sa) uz d)) ps).2.go)).2.p ∧ (((smmF (lkM sa) (oneF (lkM sa) uz d)) (((smmF (lkM sa) (oneF (lkM sa) uz d)) ps).2.go)).1 = true → op2_45 = nI (5 - d) ∧ st2_45 = nI ((smmF (lkM sa) (oneF (lkM sa) uz d)) (((smmF (lkM sa) (oneF (lkM sa) uz d)) ps).2.go)).2.n ∧ MP uz ((smmF (lkM sa) (oneF (lkM sa) uz d)) (((smmF (lkM sa) (oneF (lkM sa) uz d)) ps).2.go)).2 stp2_45) := hq_45
          rcases fx_bc hq_45.1 with ⟨hb_45, hr_45⟩ | ⟨hb_45, hr_45⟩
          · -- True
            subst hr_45
            obtain ⟨ho_45, hs_45, hM_45⟩ := hq_45.2.2 hb_45
            have ha_45 := hq_45.2.1
            subst ho_45 hs_45 ha_45
            have hst := lp_step (smm_pp lkH) hpk.1 (by have := hpk.2.2.2; omega) hsk.2 hlt hb_45
            have hin := (smm_pp lkH ((smmF (lkM sa) (oneF (lkM sa) uz d)) ps).2.go (go_ok hpk.1 hlt) hb_45).1.le60 htp
            have hRR : ((cmpF (lkM sa) (oneF (lkM sa) uz d)) ps) = (true, ((smmF (lkM sa) (oneF (lkM sa) uz d)) ((smmF (lkM sa) (oneF (lkM sa) uz d)) ps).2.go).2.add (nn (lkM sa ((smmF (lkM sa) (oneF (lkM sa) uz d)) ps).2.p)) 0) := by rw [cmpF, if_pos hb_1, if_pos hsg, if_pos hb_45]
            refine lv_if_ne (tgt := 53) hx hb dX6_compared_48 (by decide) (fun _ => ?_) (fun c => absurd c (by decide))
            refine lv_aload_n hx hb dX6_compared_53 rfl (lv_at hl 1 rfl) ?_
            refine lv_iconst (v := 3) hx hb dX6_compared_54 rfl ?_
            refine lv_iload_n hx hb dX6_compared_55 rfl (lv_at hl 0 rfl) ?_
            refine fx_cv (va_runV (As := [.int 3, .int (lkM sa ((smmF (lkM sa) (oneF (lkM sa) uz d)) ps).2.p)]) (rest := []) X (mX6_step1 l E ad im bn bm la fo fi lp tr_ sp ip (((smmF (lkM sa) (oneF (lkM sa) uz d)) ((smmF (lkM sa) (oneF (lkM sa) uz d)) ps).2.go).2.p) (5 - d) (((smmF (lkM sa) (oneF (lkM sa) uz d)) ((smmF (lkM sa) (oneF (lkM sa) uz d)) ps).2.go).2.n) uz stp2_45 3 (lkM sa ((smmF (lkM sa) (oneF (lkM sa) uz d)) ps).2.p) hin.2 _) (cwV 2 X.2.2.2.2 (lw_V q1308 q1310 qs41 q75 q1311) rfl rfl rfl ⟨rfl, hdX6_step1⟩ ⟨by simp only [rmX6_step1, rmX6_compared] <;> omega, by simp only [rmX6_step1, rmX6_compared] <;> omega⟩) (fx_preV (fx_pre hE hP hD hS hR [0, 1] rfl rfl fx_rc0) (va_recv hE.1 hP (ci := 6) (q0 := 0) rfl rfl)) rfl rfl hl.1 rfl (lv_room (Nat.le_of_ble_eq_true rfl)) dX6_compared_56 ⟨Nat.le_refl _, Nat.le_refl _⟩) hP hD hS hA [0, 1] rfl rfl (fun u H locs hq_56 hP hD hS => ?_)
            replace hP : va_P E.1 clA [(ad 30, .inr (6, [.ref (ad 0), .ref (ad 1), .int im, .ref (ad 3), .int (nI (((smmF (lkM sa) (oneF (lkM sa) uz d)) ((smmF (lkM sa) (oneF (lkM sa) uz d)) ps).2.go).2.p)), .int (nI (5 - d)), .int (nI ((((smmF (lkM sa) (oneF (lkM sa) uz d)) ((smmF (lkM sa) (oneF (lkM sa) uz d)) ps).2.go).2.n) + 1)), .int (nI uz), .ref (ad 8), .ref (ad 9), .ref (ad 10), .ref (ad 11), .ref (ad 12), .ref (ad 13), .ref (ad 14), .int bn, .int bm, .ref (ad 17), .int la, .int fo, .int fi, .int lp, .ref (ad 22), .int tr_, .int sp, .int ip, .ref (ad 26), .ref (ad 27), .ref (ad 28), .ref (ad 29)])), (ad 8, .inl (E.2 0, 124, .inl (upd (upd stp2_45 (2 * (((smmF (lkM sa) (oneF (lkM sa) uz d)) ((smmF (lkM sa) (oneF (lkM sa) uz d)) ps).2.go).2.n)) 3) (2 * (((smmF (lkM sa) (oneF (lkM sa) uz d)) ((smmF (lkM sa) (oneF (lkM sa) uz d)) ps).2.go).2.n) + 1) (lkM sa ((smmF (lkM sa) (oneF (lkM sa) uz d)) ps).2.p))))] _ := hP
            replace hD : va_D A [(ad 30, .inr (6, [.ref (ad 0), .ref (ad 1), .int im, .ref (ad 3), .int (nI (((smmF (lkM sa) (oneF (lkM sa) uz d)) ((smmF (lkM sa) (oneF (lkM sa) uz d)) ps).2.go).2.p)), .int (nI (5 - d)), .int (nI ((((smmF (lkM sa) (oneF (lkM sa) uz d)) ((smmF (lkM sa) (oneF (lkM sa) uz d)) ps).2.go).2.n) + 1)), .int (nI uz), .ref (ad 8), .ref (ad 9), .ref (ad 10), .ref (ad 11), .ref (ad 12), .ref (ad 13), .ref (ad 14), .int bn, .int bm, .ref (ad 17), .int la, .int fo, .int fi, .int lp, .ref (ad 22), .int tr_, .int sp, .int ip, .ref (ad 26), .ref (ad 27), .ref (ad 28), .ref (ad 29)])), (ad 8, .inl (E.2 0, 124, .inl (upd (upd stp2_45 (2 * (((smmF (lkM sa) (oneF (lkM sa) uz d)) ((smmF (lkM sa) (oneF (lkM sa) uz d)) ps).2.go).2.n)) 3) (2 * (((smmF (lkM sa) (oneF (lkM sa) uz d)) ((smmF (lkM sa) (oneF (lkM sa) uz d)) ps).2.go).2.n) + 1) (lkM sa ((smmF (lkM sa) (oneF (lkM sa) uz d)) ps).2.p))))] := hD
            replace hq_56 : True := hq_56
            refine lv_iconst (v := 1) hx hb dX6_compared_59 rfl ?_
            exact hret 1 ((((smmF (lkM sa) (oneF (lkM sa) uz d)) ((smmF (lkM sa) (oneF (lkM sa) uz d)) ps).2.go).2.p), nI (5 - d), nI ((((smmF (lkM sa) (oneF (lkM sa) uz d)) ((smmF (lkM sa) (oneF (lkM sa) uz d)) ps).2.go).2.n) + 1), (upd (upd stp2_45 (2 * (((smmF (lkM sa) (oneF (lkM sa) uz d)) ((smmF (lkM sa) (oneF (lkM sa) uz d)) ps).2.go).2.n)) 3) (2 * (((smmF (lkM sa) (oneF (lkM sa) uz d)) ((smmF (lkM sa) (oneF (lkM sa) uz d)) ps).2.go).2.n) + 1) (lkM sa ((smmF (lkM sa) (oneF (lkM sa) uz d)) ps).2.p))) (⟨fx_bt (by rw [hRR]), by rw [hRR]; rfl, fun _ => ⟨rfl, by rw [hRR]; rfl, by rw [hRR]; exact MP_sg hM_45 hsk⟩⟩) (rfl) hP hD hS (Nat.le_refl _) (Nat.le_refl _) dX6_compared_60
          · -- False
            subst hr_45
            have ha_45 := hq_45.2.1
            subst ha_45
            have hRR : ((cmpF (lkM sa) (oneF (lkM sa) uz d)) ps) = (false, ((smmF (lkM sa) (oneF (lkM sa) uz d)) ((smmF (lkM sa) (oneF (lkM sa) uz d)) ps).2.go).2) := by rw [cmpF, if_pos hb_1, if_pos hsg, if_neg hb_45]
            refine lv_if_ne (tgt := 53) hx hb dX6_compared_48 (by decide) (fun c => (c (by decide)).elim) (fun _ => ?_)
            refine lv_iconst (v := 0) hx hb dX6_compared_51 rfl ?_
            exact hret 0 (((smmF (lkM sa) (oneF (lkM sa) uz d)) ((smmF (lkM sa) (oneF (lkM sa) uz d)) ps).2.go).2.p, op2_45, st2_45, stp2_45) (⟨fx_bf (by rw [hRR]; exact Bool.false_ne_true), by rw [hRR], fun h => absurd h (by rw [hRR]; exact Bool.false_ne_true)⟩) (rfl) hP hD hS (Nat.le_refl _) (Nat.le_refl _) dX6_compared_52
        · -- fall 32
          have hsn : sgC (lkM sa ((smmF (lkM sa) (oneF (lkM sa) uz d)) ps).2.p) = false := by simp [sgC, c_17, c_23, c_29]
          have hRR : ((cmpF (lkM sa) (oneF (lkM sa) uz d)) ps) = (true, ((smmF (lkM sa) (oneF (lkM sa) uz d)) ps).2) := by rw [cmpF, if_pos hb_1, if_neg (by rw [hsn]; exact Bool.false_ne_true)]
          refine lv_iconst (v := 1) hx hb dX6_compared_32 rfl ?_
          exact hret 1 (((smmF (lkM sa) (oneF (lkM sa) uz d)) ps).2.p, nI (5 - d), nI (((smmF (lkM sa) (oneF (lkM sa) uz d)) ps).2.n), stp2_1) (⟨fx_bt (by rw [hRR]), by rw [hRR], fun _ => ⟨rfl, by rw [hRR], by rw [hRR]; exact hM_1⟩⟩) (rfl) hP hD hS (Nat.le_refl _) (Nat.le_refl _) dX6_compared_33
  · -- False
    subst hr_1
    have ha_1 := hq_1.2.1
    subst ha_1
    have hRR : ((cmpF (lkM sa) (oneF (lkM sa) uz d)) ps) = (false, ((smmF (lkM sa) (oneF (lkM sa) uz d)) ps).2) := by rw [cmpF, if_neg hb_1]
    refine lv_if_ne (tgt := 9) hx hb dX6_compared_4 (by decide) (fun c => (c (by decide)).elim) (fun _ => ?_)
    refine lv_iconst (v := 0) hx hb dX6_compared_7 rfl ?_
    exact hret 0 (((smmF (lkM sa) (oneF (lkM sa) uz d)) ps).2.p, op2_1, st2_1, stp2_1) (⟨fx_bf (by rw [hRR]; exact Bool.false_ne_true), by rw [hRR], fun h => absurd h (by rw [hRR]; exact Bool.false_ne_true)⟩) (rfl) hP hD hS (Nat.le_refl _) (Nat.le_refl _) dX6_compared_8
abbrev rmX6_both (d : Nat) : Room := { frames := 6 * d + 8, cells := 0, slots := 0, locals := 180 * d + 320 }
set_option maxHeartbeats 400000 in
set_option maxRecDepth 100000 in
theorem mX6_both (l : Launch) (E : fx_En) (ad : Nat → Nat) (im : Int32) (bn : Int32) (bm : Int32) (la : Int32) (fo : Int32) (fi : Int32) (lp : Int32) (tr_ : Int32) (sp : Int32) (ip : Int32) (sa : Nat → Int32) (stp : Nat → Int32) (uz : Nat) (ps : Ps) (d : Nat) (hd : d ≤ 5) (hI : Inv sa) (hu : uz < 2) (hps : Pok (nn (sa 3)) ps) (hMP : MP uz ps stp) (h1 : ∀ (ad : Nat → Nat) (im : Int32) (bn : Int32) (bm : Int32) (la : Int32) (fo : Int32) (fi : Int32) (lp : Int32) (tr_ : Int32) (sp : Int32) (ip : Int32) (sa : Nat → Int32) (stp : Nat → Int32) (uz : Nat) (ps : Ps) (hd : d ≤ 5) (hI : Inv sa) (hu : uz < 2) (hps : Pok (nn (sa 3)) ps) (hMP : MP uz ps stp), fx_Mi l yX6_one cX6_one 4 .boolean (rmX6_one d) E [.ref (ad 30)] [(ad 30, .inr (6, [.ref (ad 0), .ref (ad 1), .int im, .ref (ad 3), .int (nI ps.p), .int (nI (5 - d)), .int (nI ps.n), .int (nI uz), .ref (ad 8), .ref (ad 9), .ref (ad 10), .ref (ad 11), .ref (ad 12), .ref (ad 13), .ref (ad 14), .int bn, .int bm, .ref (ad 17), .int la, .int fo, .int fi, .int lp, .ref (ad 22), .int tr_, .int sp, .int ip, .ref (ad 26), .ref (ad 27), .ref (ad 28), .ref (ad 29)])), (ad 8, .inl (E.2 0, 124, .inl stp))] [(ad 0, .inl (E.2 0, 374, .inl sa))] (S := Nat × Int32 × Int32 × (Nat → Int32)) (fun (u : Nat × Int32 × Int32 × (Nat → Int32)) => [(ad 30, .inr (6, [.ref (ad 0), .ref (ad 1), .int im, .ref (ad 3), .int (nI u.1), .int u.2.1, .int u.2.2.1, .int (nI uz), .ref (ad 8), .ref (ad 9), .ref (ad 10), .ref (ad 11), .ref (ad 12), .ref (ad 13), .ref (ad 14), .int bn, .int bm, .ref (ad 17), .int la, .int fo, .int fi, .int lp, .ref (ad 22), .int tr_, .int sp, .int ip, .ref (ad 26), .ref (ad 27), .ref (ad 28), .ref (ad 29)])), (ad 8, .inl (E.2 0, 124, .inl u.2.2.2))]) (fun (r : Int32) (u : Nat × Int32 × Int32 × (Nat → Int32)) => r = fx_b ((oneF (lkM sa) uz d ps).1 = true) ∧ u.1 = (oneF (lkM sa) uz d ps).2.p ∧ ((oneF (lkM sa) uz d ps).1 = true → u.2.1 = nI (5 - d) ∧ u.2.2.1 = nI (oneF (lkM sa) uz d ps).2.n ∧ MP uz (oneF (lkM sa) uz d ps).2 u.2.2.2))) : fx_Mi l yX6_both cX6_both 1 .boolean (rmX6_both d) E [.ref (ad 30)] [(ad 30, .inr (6, [.ref (ad 0), .ref (ad 1), .int im, .ref (ad 3), .int (nI ps.p), .int (nI (5 - d)), .int (nI ps.n), .int (nI uz), .ref (ad 8), .ref (ad 9), .ref (ad 10), .ref (ad 11), .ref (ad 12), .ref (ad 13), .ref (ad 14), .int bn, .int bm, .ref (ad 17), .int la, .int fo, .int fi, .int lp, .ref (ad 22), .int tr_, .int sp, .int ip, .ref (ad 26), .ref (ad 27), .ref (ad 28), .ref (ad 29)])), (ad 8, .inl (E.2 0, 124, .inl stp))] [(ad 0, .inl (E.2 0, 374, .inl sa))] (S := Nat × Int32 × Int32 × (Nat → Int32)) (fun (u : Nat × Int32 × Int32 × (Nat → Int32)) => [(ad 30, .inr (6, [.ref (ad 0), .ref (ad 1), .int im, .ref (ad 3), .int (nI u.1), .int u.2.1, .int u.2.2.1, .int (nI uz), .ref (ad 8), .ref (ad 9), .ref (ad 10), .ref (ad 11), .ref (ad 12), .ref (ad 13), .ref (ad 14), .int bn, .int bm, .ref (ad 17), .int la, .int fo, .int fi, .int lp, .ref (ad 22), .int tr_, .int sp, .int ip, .ref (ad 26), .ref (ad 27), .ref (ad 28), .ref (ad 29)])), (ad 8, .inl (E.2 0, 124, .inl u.2.2.2))]) (fun (r : Int32) (u : Nat × Int32 × Int32 × (Nat → Int32)) => r = fx_b (((bthF (lkM sa) (oneF (lkM sa) uz d)) ps).1 = true) ∧ u.1 = ((bthF (lkM sa) (oneF (lkM sa) uz d)) ps).2.p ∧ (((bthF (lkM sa) (oneF (lkM sa) uz d)) ps).1 = true → u.2.1 = nI (5 - d) ∧ u.2.2.1 = nI ((bthF (lkM sa) (oneF (lkM sa) uz d)) ps).2.n ∧ MP uz ((bthF (lkM sa) (oneF (lkM sa) uz d)) ps).2 u.2.2.2)) := by
  refine fx_iW rfl rfl ?_
  intro p e s m args below meth c A ls Q X hE hP hD hR hA hl hret
  have hx := X.1
  have hb := X.2.1
  have hS : va_S A s.heap s.heap [] := va_S.rf
  replace hP : va_P E.1 clA [(ad 30, .inr (6, [.ref (ad 0), .ref (ad 1), .int im, .ref (ad 3), .int (nI ps.p), .int (nI (5 - d)), .int (nI ps.n), .int (nI uz), .ref (ad 8), .ref (ad 9), .ref (ad 10), .ref (ad 11), .ref (ad 12), .ref (ad 13), .ref (ad 14), .int bn, .int bm, .ref (ad 17), .int la, .int fo, .int fi, .int lp, .ref (ad 22), .int tr_, .int sp, .int ip, .ref (ad 26), .ref (ad 27), .ref (ad 28), .ref (ad 29)])), (ad 8, .inl (E.2 0, 124, .inl stp))] _ := hP
  replace hD : va_D A [(ad 30, .inr (6, [.ref (ad 0), .ref (ad 1), .int im, .ref (ad 3), .int (nI ps.p), .int (nI (5 - d)), .int (nI ps.n), .int (nI uz), .ref (ad 8), .ref (ad 9), .ref (ad 10), .ref (ad 11), .ref (ad 12), .ref (ad 13), .ref (ad 14), .int bn, .int bm, .ref (ad 17), .int la, .int fo, .int fi, .int lp, .ref (ad 22), .int tr_, .int sp, .int ip, .ref (ad 26), .ref (ad 27), .ref (ad 28), .ref (ad 29)])), (ad 8, .inl (E.2 0, 124, .inl stp))] := hD
  replace hl : lv_has ls 1 [(0, .ref (ad 30))] := hl
  have htp := hI.taped.2
  have hpl := hps.le60 htp
  refine lv_aload_n hx hb dX6_both_0 rfl (lv_at hl 0 rfl) ?_
  refine fx_ci (va_runV (As := []) (rest := []) X (mX6_compared l E ad im bn bm la fo fi lp tr_ sp ip sa stp uz ps d (by first | assumption | omega) (by first | assumption | omega) (by first | assumption | omega) (by first | assumption | omega) (by first | assumption | omega) (by first | assumption | omega) _) (cwV 0 X.2.2.2.2 (lw_V q1284 q1286 qs35 q75 q1287) rfl rfl rfl ⟨rfl, hdX6_compared⟩ ⟨by simp only [rmX6_compared, rmX6_both] <;> omega, by simp only [rmX6_compared, rmX6_both] <;> omega⟩) (fx_preV (fx_pre hE hP hD hS hR [0, 1] rfl rfl (fx_rcr 0 rfl fx_rc0)) (va_recv hE.1 hP (ci := 6) (q0 := 0) rfl rfl)) rfl rfl hl.1 rfl (lv_room (Nat.le_of_ble_eq_true rfl)) dX6_both_1 ⟨Nat.le_refl _, Nat.le_refl _⟩) hP hD hS hA [0, 1] rfl rfl (fun r_1 u H locs hq_1 hP hD hS => ?_)
  obtain ⟨at2_1, op2_1, st2_1, stp2_1⟩ := u
  replace hP : va_P E.1 clA [(ad 30, .inr (6, [.ref (ad 0), .ref (ad 1), .int im, .ref (ad 3), .int (nI at2_1), .int op2_1, .int st2_1, .int (nI uz), .ref (ad 8), .ref (ad 9), .ref (ad 10), .ref (ad 11), .ref (ad 12), .ref (ad 13), .ref (ad 14), .int bn, .int bm, .ref (ad 17), .int la, .int fo, .int fi, .int lp, .ref (ad 22), .int tr_, .int sp, .int ip, .ref (ad 26), .ref (ad 27), .ref (ad 28), .ref (ad 29)])), (ad 8, .inl (E.2 0, 124, .inl stp2_1))] _ := hP
  replace hD : va_D A [(ad 30, .inr (6, [.ref (ad 0), .ref (ad 1), .int im, .ref (ad 3), .int (nI at2_1), .int op2_1, .int st2_1, .int (nI uz), .ref (ad 8), .ref (ad 9), .ref (ad 10), .ref (ad 11), .ref (ad 12), .ref (ad 13), .ref (ad 14), .int bn, .int bm, .ref (ad 17), .int la, .int fo, .int fi, .int lp, .ref (ad 22), .int tr_, .int sp, .int ip, .ref (ad 26), .ref (ad 27), .ref (ad 28), .ref (ad 29)])), (ad 8, .inl (E.2 0, 124, .inl stp2_1))] := hD
  replace hq_1 : r_1 = fx_b (((cmpF (lkM sa) (oneF (lkM sa) uz d)) ps).1 = true) ∧ at2_1 = ((cmpF (lkM sa) (oneF (lkM sa) uz d)) ps).2.p ∧ (((cmpF (lkM sa) (oneF (lkM sa) uz d)) ps).1 = true → op2_1 = nI (5 - d) ∧ st2_1 = nI ((cmpF (lkM sa) (oneF (lkM sa) uz d)) ps).2.n ∧ MP uz ((cmpF (lkM sa) (oneF (lkM sa) uz d)) ps).2 stp2_1) := hq_1
  rcases fx_bc hq_1.1 with ⟨hb_1, hr_1⟩ | ⟨hb_1, hr_1⟩
  · -- True
    subst hr_1
    obtain ⟨ho_1, hs_1, hM_1⟩ := hq_1.2.2 hb_1
    have ha_1 := hq_1.2.1
    subst ho_1 hs_1 ha_1
    refine lv_if_ne (tgt := 9) hx hb dX6_both_4 (by decide) (fun _ => ?_) (fun c => absurd c (by decide))
    have loop_9 : ∀ (n_9 : Nat) (q : Ps) (f : Nat) (stv : Nat → Int32), (f < n_9) → (lpF (lkM sa) sgB (cmpF (lkM sa) (oneF (lkM sa) uz d)) f q = lpF (lkM sa) sgB (cmpF (lkM sa) (oneF (lkM sa) uz d)) 61 ((cmpF (lkM sa) (oneF (lkM sa) uz d)) ps).2) → (nn (sa 3) < q.p + f) → (Pok (nn (sa 3)) q) → (1 ≤ dpT q.tc q.n) → (MP uz q stv) → ∀ (H : Heap) (locs : List Loc), va_P E.1 clA [(ad 30, .inr (6, [.ref (ad 0), .ref (ad 1), .int im, .ref (ad 3), .int (nI q.p), .int (nI (5 - d)), .int (nI q.n), .int (nI uz), .ref (ad 8), .ref (ad 9), .ref (ad 10), .ref (ad 11), .ref (ad 12), .ref (ad 13), .ref (ad 14), .int bn, .int bm, .ref (ad 17), .int la, .int fo, .int fi, .int lp, .ref (ad 22), .int tr_, .int sp, .int ip, .ref (ad 26), .ref (ad 27), .ref (ad 28), .ref (ad 29)])), (ad 8, .inl (E.2 0, 124, .inl stv))] H → va_D A [(ad 30, .inr (6, [.ref (ad 0), .ref (ad 1), .int im, .ref (ad 3), .int (nI q.p), .int (nI (5 - d)), .int (nI q.n), .int (nI uz), .ref (ad 8), .ref (ad 9), .ref (ad 10), .ref (ad 11), .ref (ad 12), .ref (ad 13), .ref (ad 14), .int bn, .int bm, .ref (ad 17), .int la, .int fo, .int fi, .int lp, .ref (ad 22), .int tr_, .int sp, .int ip, .ref (ad 26), .ref (ad 27), .ref (ad 28), .ref (ad 29)])), (ad 8, .inl (E.2 0, 124, .inl stv))] → va_S A s.heap H locs → ∀ (ls : Array Slot), lv_has ls 1 [(0, .ref (ad 30))] → W p l e (rmX6_both d) s m args below meth c H locs 0 0 Q (F0 m 9 ls []) := by
      intro n_9
      induction n_9 with
      | zero => intro q f stv hm_9; exact absurd hm_9 (Nat.not_lt_zero _)
      | succ n_9 ih_9 =>
        intro q f stv hm_9 hf hff hq hdq hMq H locs hP hD hS ls hl
        have hql := hq.le60 htp
        refine lv_aload_n hx hb dX6_both_9 rfl (lv_at hl 0 rfl) ?_
        refine fx_ci (va_runV (As := []) (rest := []) X (mX6_look l E ad im bn bm la fo fi lp tr_ sp ip q.p (5 - d) q.n uz sa (by first | assumption | omega) hql.1 _) (cwV 0 X.2.2.2.2 (lw_V q1300 q1302 qs39 q75 q1303) rfl rfl rfl ⟨rfl, hdX6_look⟩ ⟨by simp only [rmX6_look, rmX6_both] <;> omega, by simp only [rmX6_look, rmX6_both] <;> omega⟩) (fx_preV (fx_pre hE hP hD hS hR [] rfl rfl (fx_rcm 0 rfl (by decide) (fx_rcr 0 rfl fx_rc0))) (va_recv hE.1 hP (ci := 6) (q0 := 0) rfl rfl)) rfl rfl hl.1 rfl (lv_room (Nat.le_of_ble_eq_true rfl)) dX6_both_10 ⟨Nat.le_refl _, Nat.le_refl _⟩) hP hD hS hA [] rfl rfl (fun r_10 u H locs hq_10 hP hD hS => ?_)
        replace hP : va_P E.1 clA [(ad 30, .inr (6, [.ref (ad 0), .ref (ad 1), .int im, .ref (ad 3), .int (nI q.p), .int (nI (5 - d)), .int (nI q.n), .int (nI uz), .ref (ad 8), .ref (ad 9), .ref (ad 10), .ref (ad 11), .ref (ad 12), .ref (ad 13), .ref (ad 14), .int bn, .int bm, .ref (ad 17), .int la, .int fo, .int fi, .int lp, .ref (ad 22), .int tr_, .int sp, .int ip, .ref (ad 26), .ref (ad 27), .ref (ad 28), .ref (ad 29)])), (ad 8, .inl (E.2 0, 124, .inl stv))] _ := hP
        replace hD : va_D A [(ad 30, .inr (6, [.ref (ad 0), .ref (ad 1), .int im, .ref (ad 3), .int (nI q.p), .int (nI (5 - d)), .int (nI q.n), .int (nI uz), .ref (ad 8), .ref (ad 9), .ref (ad 10), .ref (ad 11), .ref (ad 12), .ref (ad 13), .ref (ad 14), .int bn, .int bm, .ref (ad 17), .int la, .int fo, .int fi, .int lp, .ref (ad 22), .int tr_, .int sp, .int ip, .ref (ad 26), .ref (ad 27), .ref (ad 28), .ref (ad 29)])), (ad 8, .inl (E.2 0, 124, .inl stv))] := hD
        replace hq_10 : r_10 = lkM sa q.p := hq_10
        refine fx_ti (show r_10 = (lkM sa q.p) from hq_10) ?_
        refine lv_bipush (v := 38) hx hb dX6_both_13 rfl ?_
        refine lv_icmp_ne (tgt := 47) hx hb dX6_both_15 (by decide) (fun c_15 => ?_) (fun c_15 => ?_)
        · -- jump 47
          have hsn : sgB (lkM sa q.p) = false := by simp [sgB, c_15]
          have hRR : ((bthF (lkM sa) (oneF (lkM sa) uz d)) ps) = (true, q) := by show sqF (lkM sa) sgB (cmpF (lkM sa) (oneF (lkM sa) uz d)) ps = _; rw [sqF, if_pos hb_1, ← hf, lpF_f hsn]
          refine lv_iconst (v := 1) hx hb dX6_both_47 rfl ?_
          exact hret 1 (q.p, nI (5 - d), nI q.n, stv) (⟨fx_bt (by rw [hRR]), by rw [hRR], fun _ => ⟨rfl, by rw [hRR], by rw [hRR]; exact hMq⟩⟩) (rfl) hP hD hS (Nat.le_refl _) (Nat.le_refl _) dX6_both_48
        · -- fall 18
          have hsg : sgB (lkM sa q.p) = true := by simp [sgB, c_15]
          have hsk := sgB_ok _ hsg
          have hlt := lkM_lt (sgB_ok.nm1 hsg)
          obtain ⟨f1, rfl⟩ : ∃ z, f = z + 1 := ⟨f - 1, by omega⟩
          refine lv_aload_n hx hb dX6_both_18 rfl (lv_at hl 0 rfl) ?_
          refine lv_dup hx hb dX6_both_19 rfl ?_
          refine fx_get X hE hP 0 rfl rfl 4 rfl q1172 rfl rfl dX6_both_20 ?_
          refine lv_iconst (v := 1) hx hb dX6_both_23 rfl ?_
          refine lv_iadd hx hb dX6_both_24 ?_
          refine fx_ti (nI_add q.p 1) ?_
          refine fx_put_ (ws' := [(ad 30, .inr (6, [.ref (ad 0), .ref (ad 1), .int im, .ref (ad 3), .int (nI (q.p + 1)), .int (nI (5 - d)), .int (nI q.n), .int (nI uz), .ref (ad 8), .ref (ad 9), .ref (ad 10), .ref (ad 11), .ref (ad 12), .ref (ad 13), .ref (ad 14), .int bn, .int bm, .ref (ad 17), .int la, .int fo, .int fi, .int lp, .ref (ad 22), .int tr_, .int sp, .int ip, .ref (ad 26), .ref (ad 27), .ref (ad 28), .ref (ad 29)])), (ad 8, .inl (E.2 0, 124, .inl stv))]) X hE hP hD hS 0 rfl rfl tyX6_ok nmX6 4 rfl q1172 rfl rfl rfl rfl rfl rfl dX6_both_25 (fun H locs hP hD hS => ?_)
          refine lv_aload_n hx hb dX6_both_28 rfl (lv_at hl 0 rfl) ?_
          refine fx_ci (va_runV (As := []) (rest := []) X (mX6_compared l E ad im bn bm la fo fi lp tr_ sp ip sa stv uz q.go d (by first | assumption | omega) (by first | assumption | omega) (by first | assumption | omega) (go_ok hq hlt) (show MP uz q.go stv from hMq) (by first | assumption | omega) _) (cwV 0 X.2.2.2.2 (lw_V q1284 q1286 qs35 q75 q1287) rfl rfl rfl ⟨rfl, hdX6_compared⟩ ⟨by simp only [rmX6_compared, rmX6_both] <;> omega, by simp only [rmX6_compared, rmX6_both] <;> omega⟩) (fx_preV (fx_pre hE hP hD hS hR [0, 1] rfl rfl (fx_rcr 0 rfl fx_rc0)) (va_recv hE.1 hP (ci := 6) (q0 := 0) rfl rfl)) rfl rfl hl.1 rfl (lv_room (Nat.le_of_ble_eq_true rfl)) dX6_both_29 ⟨Nat.le_refl _, Nat.le_refl _⟩) hP hD hS hA [0, 1] rfl rfl (fun r_29 u H locs hq_29 hP hD hS => ?_)
          obtain ⟨at2_29, op2_29, st2_29, stp2_29⟩ := u
          replace hP : va_P E.1 clA [(ad 30, .inr (6, [.ref (ad 0), .ref (ad 1), .int im, .ref (ad 3), .int (nI at2_29), .int op2_29, .int st2_29, .int (nI uz), .ref (ad 8), .ref (ad 9), .ref (ad 10), .ref (ad 11), .ref (ad 12), .ref (ad 13), .ref (ad 14), .int bn, .int bm, .ref (ad 17), .int la, .int fo, .int fi, .int lp, .ref (ad 22), .int tr_, .int sp, .int ip, .ref (ad 26), .ref (ad 27), .ref (ad 28), .ref (ad 29)])), (ad 8, .inl (E.2 0, 124, .inl stp2_29))] _ := hP
          replace hD : va_D A [(ad 30, .inr (6, [.ref (ad 0), .ref (ad 1), .int im, .ref (ad 3), .int (nI at2_29), .int op2_29, .int st2_29, .int (nI uz), .ref (ad 8), .ref (ad 9), .ref (ad 10), .ref (ad 11), .ref (ad 12), .ref (ad 13), .ref (ad 14), .int bn, .int bm, .ref (ad 17), .int la, .int fo, .int fi, .int lp, .ref (ad 22), .int tr_, .int sp, .int ip, .ref (ad 26), .ref (ad 27), .ref (ad 28), .ref (ad 29)])), (ad 8, .inl (E.2 0, 124, .inl stp2_29))] := hD
          replace hq_29 : r_29 = fx_b (((cmpF (lkM sa) (oneF (lkM sa) uz d)) q.go).1 = true) ∧ at2_29 = ((cmpF (lkM sa) (oneF (lkM sa) uz d)) q.go).2.p ∧ (((cmpF (lkM sa) (oneF (lkM sa) uz d)) q.go).1 = true → op2_29 = nI (5 - d) ∧ st2_29 = nI ((cmpF (lkM sa) (oneF (lkM sa) uz d)) q.go).2.n ∧ MP uz ((cmpF (lkM sa) (oneF (lkM sa) uz d)) q.go).2 stp2_29) := hq_29
          rcases fx_bc hq_29.1 with ⟨hb_29, hr_29⟩ | ⟨hb_29, hr_29⟩
          · -- True
            subst hr_29
            obtain ⟨ho_29, hs_29, hM_29⟩ := hq_29.2.2 hb_29
            have ha_29 := hq_29.2.1
            subst ho_29 hs_29 ha_29
            have hst := lp_step (cmp_pp lkH) hq hdq hsk.2 hlt hb_29
            have hin := (cmp_pp lkH q.go (go_ok hq hlt) hb_29).1.le60 htp
            refine lv_if_ne (tgt := 37) hx hb dX6_both_32 (by decide) (fun _ => ?_) (fun c => absurd c (by decide))
            refine lv_aload_n hx hb dX6_both_37 rfl (lv_at hl 0 rfl) ?_
            refine lv_iconst (v := 3) hx hb dX6_both_38 rfl ?_
            refine lv_bipush (v := 38) hx hb dX6_both_39 rfl ?_
            refine fx_ti (show 38 = (lkM sa q.p) from c_15.symm) ?_
            refine fx_cv (va_runV (As := [.int 3, .int (lkM sa q.p)]) (rest := []) X (mX6_step1 l E ad im bn bm la fo fi lp tr_ sp ip (((cmpF (lkM sa) (oneF (lkM sa) uz d)) q.go).2.p) (5 - d) (((cmpF (lkM sa) (oneF (lkM sa) uz d)) q.go).2.n) uz stp2_29 3 (lkM sa q.p) hin.2 _) (cwV 2 X.2.2.2.2 (lw_V q1308 q1310 qs41 q75 q1311) rfl rfl rfl ⟨rfl, hdX6_step1⟩ ⟨by simp only [rmX6_step1, rmX6_both] <;> omega, by simp only [rmX6_step1, rmX6_both] <;> omega⟩) (fx_preV (fx_pre hE hP hD hS hR [0, 1] rfl rfl fx_rc0) (va_recv hE.1 hP (ci := 6) (q0 := 0) rfl rfl)) rfl rfl hl.1 rfl (lv_room (Nat.le_of_ble_eq_true rfl)) dX6_both_41 ⟨Nat.le_refl _, Nat.le_refl _⟩) hP hD hS hA [0, 1] rfl rfl (fun u H locs hq_41 hP hD hS => ?_)
            replace hP : va_P E.1 clA [(ad 30, .inr (6, [.ref (ad 0), .ref (ad 1), .int im, .ref (ad 3), .int (nI (((cmpF (lkM sa) (oneF (lkM sa) uz d)) q.go).2.p)), .int (nI (5 - d)), .int (nI ((((cmpF (lkM sa) (oneF (lkM sa) uz d)) q.go).2.n) + 1)), .int (nI uz), .ref (ad 8), .ref (ad 9), .ref (ad 10), .ref (ad 11), .ref (ad 12), .ref (ad 13), .ref (ad 14), .int bn, .int bm, .ref (ad 17), .int la, .int fo, .int fi, .int lp, .ref (ad 22), .int tr_, .int sp, .int ip, .ref (ad 26), .ref (ad 27), .ref (ad 28), .ref (ad 29)])), (ad 8, .inl (E.2 0, 124, .inl (upd (upd stp2_29 (2 * (((cmpF (lkM sa) (oneF (lkM sa) uz d)) q.go).2.n)) 3) (2 * (((cmpF (lkM sa) (oneF (lkM sa) uz d)) q.go).2.n) + 1) (lkM sa q.p))))] _ := hP
            replace hD : va_D A [(ad 30, .inr (6, [.ref (ad 0), .ref (ad 1), .int im, .ref (ad 3), .int (nI (((cmpF (lkM sa) (oneF (lkM sa) uz d)) q.go).2.p)), .int (nI (5 - d)), .int (nI ((((cmpF (lkM sa) (oneF (lkM sa) uz d)) q.go).2.n) + 1)), .int (nI uz), .ref (ad 8), .ref (ad 9), .ref (ad 10), .ref (ad 11), .ref (ad 12), .ref (ad 13), .ref (ad 14), .int bn, .int bm, .ref (ad 17), .int la, .int fo, .int fi, .int lp, .ref (ad 22), .int tr_, .int sp, .int ip, .ref (ad 26), .ref (ad 27), .ref (ad 28), .ref (ad 29)])), (ad 8, .inl (E.2 0, 124, .inl (upd (upd stp2_29 (2 * (((cmpF (lkM sa) (oneF (lkM sa) uz d)) q.go).2.n)) 3) (2 * (((cmpF (lkM sa) (oneF (lkM sa) uz d)) q.go).2.n) + 1) (lkM sa q.p))))] := hD
            replace hq_41 : True := hq_41
            refine lv_goto (tgt := 9) hx hb dX6_both_44 (by decide) ?_
            exact ih_9 (((cmpF (lkM sa) (oneF (lkM sa) uz d)) q.go).2.add (nn (lkM sa q.p)) 0) f1 (upd (upd stp2_29 (2 * (((cmpF (lkM sa) (oneF (lkM sa) uz d)) q.go).2.n)) 3) (2 * (((cmpF (lkM sa) (oneF (lkM sa) uz d)) q.go).2.n) + 1) (lkM sa q.p)) (by omega) ((lpF_t hsg hb_29).symm.trans hf) (by have := hst.2.2.1; omega) hst.1 hst.2.1 (MP_sg hM_29 hsk) _ _ hP hD hS ls (lv_sub hl [0] rfl)
          · -- False
            subst hr_29
            have ha_29 := hq_29.2.1
            subst ha_29
            have hRR : ((bthF (lkM sa) (oneF (lkM sa) uz d)) ps) = (false, ((cmpF (lkM sa) (oneF (lkM sa) uz d)) q.go).2) := by show sqF (lkM sa) sgB (cmpF (lkM sa) (oneF (lkM sa) uz d)) ps = _; rw [sqF, if_pos hb_1, ← hf, lpF_n hsg hb_29]
            refine lv_if_ne (tgt := 37) hx hb dX6_both_32 (by decide) (fun c => (c (by decide)).elim) (fun _ => ?_)
            refine lv_iconst (v := 0) hx hb dX6_both_35 rfl ?_
            exact hret 0 (((cmpF (lkM sa) (oneF (lkM sa) uz d)) q.go).2.p, op2_29, st2_29, stp2_29) (⟨fx_bf (by rw [hRR]; exact Bool.false_ne_true), by rw [hRR], fun h => absurd h (by rw [hRR]; exact Bool.false_ne_true)⟩) (rfl) hP hD hS (Nat.le_refl _) (Nat.le_refl _) dX6_both_36
    exact loop_9 (61 + 1) (((cmpF (lkM sa) (oneF (lkM sa) uz d)) ps).2) 61 stp2_1 (Nat.lt_succ_self _) rfl (by omega) ((cmp_pp lkH ps hps hb_1).1) (by have := (cmp_pp lkH ps hps hb_1).2.2.2; omega) hM_1 _ _ hP hD hS ls (lv_sub hl [0] rfl)
  · -- False
    subst hr_1
    have ha_1 := hq_1.2.1
    subst ha_1
    have hRR : ((bthF (lkM sa) (oneF (lkM sa) uz d)) ps) = (false, ((cmpF (lkM sa) (oneF (lkM sa) uz d)) ps).2) := by show sqF (lkM sa) sgB (cmpF (lkM sa) (oneF (lkM sa) uz d)) ps = _; rw [sqF, if_neg hb_1]
    refine lv_if_ne (tgt := 9) hx hb dX6_both_4 (by decide) (fun c => (c (by decide)).elim) (fun _ => ?_)
    refine lv_iconst (v := 0) hx hb dX6_both_7 rfl ?_
    exact hret 0 (((cmpF (lkM sa) (oneF (lkM sa) uz d)) ps).2.p, op2_1, st2_1, stp2_1) (⟨fx_bf (by rw [hRR]; exact Bool.false_ne_true), by rw [hRR], fun h => absurd h (by rw [hRR]; exact Bool.false_ne_true)⟩) (rfl) hP hD hS (Nat.le_refl _) (Nat.le_refl _) dX6_both_8
abbrev rmX6_whole (d : Nat) : Room := { frames := 6 * d + 9, cells := 0, slots := 0, locals := 180 * d + 350 }
set_option maxHeartbeats 400000 in
set_option maxRecDepth 100000 in
theorem mX6_whole (l : Launch) (E : fx_En) (ad : Nat → Nat) (im : Int32) (bn : Int32) (bm : Int32) (la : Int32) (fo : Int32) (fi : Int32) (lp : Int32) (tr_ : Int32) (sp : Int32) (ip : Int32) (sa : Nat → Int32) (stp : Nat → Int32) (uz : Nat) (ps : Ps) (d : Nat) (hd : d ≤ 5) (hI : Inv sa) (hu : uz < 2) (hps : Pok (nn (sa 3)) ps) (hMP : MP uz ps stp) (h1 : ∀ (ad : Nat → Nat) (im : Int32) (bn : Int32) (bm : Int32) (la : Int32) (fo : Int32) (fi : Int32) (lp : Int32) (tr_ : Int32) (sp : Int32) (ip : Int32) (sa : Nat → Int32) (stp : Nat → Int32) (uz : Nat) (ps : Ps) (hd : d ≤ 5) (hI : Inv sa) (hu : uz < 2) (hps : Pok (nn (sa 3)) ps) (hMP : MP uz ps stp), fx_Mi l yX6_one cX6_one 4 .boolean (rmX6_one d) E [.ref (ad 30)] [(ad 30, .inr (6, [.ref (ad 0), .ref (ad 1), .int im, .ref (ad 3), .int (nI ps.p), .int (nI (5 - d)), .int (nI ps.n), .int (nI uz), .ref (ad 8), .ref (ad 9), .ref (ad 10), .ref (ad 11), .ref (ad 12), .ref (ad 13), .ref (ad 14), .int bn, .int bm, .ref (ad 17), .int la, .int fo, .int fi, .int lp, .ref (ad 22), .int tr_, .int sp, .int ip, .ref (ad 26), .ref (ad 27), .ref (ad 28), .ref (ad 29)])), (ad 8, .inl (E.2 0, 124, .inl stp))] [(ad 0, .inl (E.2 0, 374, .inl sa))] (S := Nat × Int32 × Int32 × (Nat → Int32)) (fun (u : Nat × Int32 × Int32 × (Nat → Int32)) => [(ad 30, .inr (6, [.ref (ad 0), .ref (ad 1), .int im, .ref (ad 3), .int (nI u.1), .int u.2.1, .int u.2.2.1, .int (nI uz), .ref (ad 8), .ref (ad 9), .ref (ad 10), .ref (ad 11), .ref (ad 12), .ref (ad 13), .ref (ad 14), .int bn, .int bm, .ref (ad 17), .int la, .int fo, .int fi, .int lp, .ref (ad 22), .int tr_, .int sp, .int ip, .ref (ad 26), .ref (ad 27), .ref (ad 28), .ref (ad 29)])), (ad 8, .inl (E.2 0, 124, .inl u.2.2.2))]) (fun (r : Int32) (u : Nat × Int32 × Int32 × (Nat → Int32)) => r = fx_b ((oneF (lkM sa) uz d ps).1 = true) ∧ u.1 = (oneF (lkM sa) uz d ps).2.p ∧ ((oneF (lkM sa) uz d ps).1 = true → u.2.1 = nI (5 - d) ∧ u.2.2.1 = nI (oneF (lkM sa) uz d ps).2.n ∧ MP uz (oneF (lkM sa) uz d ps).2 u.2.2.2))) : fx_Mi l yX6_whole cX6_whole 1 .boolean (rmX6_whole d) E [.ref (ad 30)] [(ad 30, .inr (6, [.ref (ad 0), .ref (ad 1), .int im, .ref (ad 3), .int (nI ps.p), .int (nI (5 - d)), .int (nI ps.n), .int (nI uz), .ref (ad 8), .ref (ad 9), .ref (ad 10), .ref (ad 11), .ref (ad 12), .ref (ad 13), .ref (ad 14), .int bn, .int bm, .ref (ad 17), .int la, .int fo, .int fi, .int lp, .ref (ad 22), .int tr_, .int sp, .int ip, .ref (ad 26), .ref (ad 27), .ref (ad 28), .ref (ad 29)])), (ad 8, .inl (E.2 0, 124, .inl stp))] [(ad 0, .inl (E.2 0, 374, .inl sa))] (S := Nat × Int32 × Int32 × (Nat → Int32)) (fun (u : Nat × Int32 × Int32 × (Nat → Int32)) => [(ad 30, .inr (6, [.ref (ad 0), .ref (ad 1), .int im, .ref (ad 3), .int (nI u.1), .int u.2.1, .int u.2.2.1, .int (nI uz), .ref (ad 8), .ref (ad 9), .ref (ad 10), .ref (ad 11), .ref (ad 12), .ref (ad 13), .ref (ad 14), .int bn, .int bm, .ref (ad 17), .int la, .int fo, .int fi, .int lp, .ref (ad 22), .int tr_, .int sp, .int ip, .ref (ad 26), .ref (ad 27), .ref (ad 28), .ref (ad 29)])), (ad 8, .inl (E.2 0, 124, .inl u.2.2.2))]) (fun (r : Int32) (u : Nat × Int32 × Int32 × (Nat → Int32)) => r = fx_b (((whlF (lkM sa) (oneF (lkM sa) uz d)) ps).1 = true) ∧ u.1 = ((whlF (lkM sa) (oneF (lkM sa) uz d)) ps).2.p ∧ (((whlF (lkM sa) (oneF (lkM sa) uz d)) ps).1 = true → u.2.1 = nI (5 - d) ∧ u.2.2.1 = nI ((whlF (lkM sa) (oneF (lkM sa) uz d)) ps).2.n ∧ MP uz ((whlF (lkM sa) (oneF (lkM sa) uz d)) ps).2 u.2.2.2)) := by
  refine fx_iW rfl rfl ?_
  intro p e s m args below meth c A ls Q X hE hP hD hR hA hl hret
  have hx := X.1
  have hb := X.2.1
  have hS : va_S A s.heap s.heap [] := va_S.rf
  replace hP : va_P E.1 clA [(ad 30, .inr (6, [.ref (ad 0), .ref (ad 1), .int im, .ref (ad 3), .int (nI ps.p), .int (nI (5 - d)), .int (nI ps.n), .int (nI uz), .ref (ad 8), .ref (ad 9), .ref (ad 10), .ref (ad 11), .ref (ad 12), .ref (ad 13), .ref (ad 14), .int bn, .int bm, .ref (ad 17), .int la, .int fo, .int fi, .int lp, .ref (ad 22), .int tr_, .int sp, .int ip, .ref (ad 26), .ref (ad 27), .ref (ad 28), .ref (ad 29)])), (ad 8, .inl (E.2 0, 124, .inl stp))] _ := hP
  replace hD : va_D A [(ad 30, .inr (6, [.ref (ad 0), .ref (ad 1), .int im, .ref (ad 3), .int (nI ps.p), .int (nI (5 - d)), .int (nI ps.n), .int (nI uz), .ref (ad 8), .ref (ad 9), .ref (ad 10), .ref (ad 11), .ref (ad 12), .ref (ad 13), .ref (ad 14), .int bn, .int bm, .ref (ad 17), .int la, .int fo, .int fi, .int lp, .ref (ad 22), .int tr_, .int sp, .int ip, .ref (ad 26), .ref (ad 27), .ref (ad 28), .ref (ad 29)])), (ad 8, .inl (E.2 0, 124, .inl stp))] := hD
  replace hl : lv_has ls 1 [(0, .ref (ad 30))] := hl
  have htp := hI.taped.2
  have hpl := hps.le60 htp
  refine lv_aload_n hx hb dX6_whole_0 rfl (lv_at hl 0 rfl) ?_
  refine fx_ci (va_runV (As := []) (rest := []) X (mX6_both l E ad im bn bm la fo fi lp tr_ sp ip sa stp uz ps d (by first | assumption | omega) (by first | assumption | omega) (by first | assumption | omega) (by first | assumption | omega) (by first | assumption | omega) (by first | assumption | omega) _) (cwV 0 X.2.2.2.2 (lw_V q1280 q1282 qs34 q75 q1283) rfl rfl rfl ⟨rfl, hdX6_both⟩ ⟨by simp only [rmX6_both, rmX6_whole] <;> omega, by simp only [rmX6_both, rmX6_whole] <;> omega⟩) (fx_preV (fx_pre hE hP hD hS hR [0, 1] rfl rfl (fx_rcr 0 rfl fx_rc0)) (va_recv hE.1 hP (ci := 6) (q0 := 0) rfl rfl)) rfl rfl hl.1 rfl (lv_room (Nat.le_of_ble_eq_true rfl)) dX6_whole_1 ⟨Nat.le_refl _, Nat.le_refl _⟩) hP hD hS hA [0, 1] rfl rfl (fun r_1 u H locs hq_1 hP hD hS => ?_)
  obtain ⟨at2_1, op2_1, st2_1, stp2_1⟩ := u
  replace hP : va_P E.1 clA [(ad 30, .inr (6, [.ref (ad 0), .ref (ad 1), .int im, .ref (ad 3), .int (nI at2_1), .int op2_1, .int st2_1, .int (nI uz), .ref (ad 8), .ref (ad 9), .ref (ad 10), .ref (ad 11), .ref (ad 12), .ref (ad 13), .ref (ad 14), .int bn, .int bm, .ref (ad 17), .int la, .int fo, .int fi, .int lp, .ref (ad 22), .int tr_, .int sp, .int ip, .ref (ad 26), .ref (ad 27), .ref (ad 28), .ref (ad 29)])), (ad 8, .inl (E.2 0, 124, .inl stp2_1))] _ := hP
  replace hD : va_D A [(ad 30, .inr (6, [.ref (ad 0), .ref (ad 1), .int im, .ref (ad 3), .int (nI at2_1), .int op2_1, .int st2_1, .int (nI uz), .ref (ad 8), .ref (ad 9), .ref (ad 10), .ref (ad 11), .ref (ad 12), .ref (ad 13), .ref (ad 14), .int bn, .int bm, .ref (ad 17), .int la, .int fo, .int fi, .int lp, .ref (ad 22), .int tr_, .int sp, .int ip, .ref (ad 26), .ref (ad 27), .ref (ad 28), .ref (ad 29)])), (ad 8, .inl (E.2 0, 124, .inl stp2_1))] := hD
  replace hq_1 : r_1 = fx_b (((bthF (lkM sa) (oneF (lkM sa) uz d)) ps).1 = true) ∧ at2_1 = ((bthF (lkM sa) (oneF (lkM sa) uz d)) ps).2.p ∧ (((bthF (lkM sa) (oneF (lkM sa) uz d)) ps).1 = true → op2_1 = nI (5 - d) ∧ st2_1 = nI ((bthF (lkM sa) (oneF (lkM sa) uz d)) ps).2.n ∧ MP uz ((bthF (lkM sa) (oneF (lkM sa) uz d)) ps).2 stp2_1) := hq_1
  rcases fx_bc hq_1.1 with ⟨hb_1, hr_1⟩ | ⟨hb_1, hr_1⟩
  · -- True
    subst hr_1
    obtain ⟨ho_1, hs_1, hM_1⟩ := hq_1.2.2 hb_1
    have ha_1 := hq_1.2.1
    subst ho_1 hs_1 ha_1
    refine lv_if_ne (tgt := 9) hx hb dX6_whole_4 (by decide) (fun _ => ?_) (fun c => absurd c (by decide))
    have loop_9 : ∀ (n_9 : Nat) (q : Ps) (f : Nat) (stv : Nat → Int32), (f < n_9) → (lpF (lkM sa) sgW (bthF (lkM sa) (oneF (lkM sa) uz d)) f q = lpF (lkM sa) sgW (bthF (lkM sa) (oneF (lkM sa) uz d)) 61 ((bthF (lkM sa) (oneF (lkM sa) uz d)) ps).2) → (nn (sa 3) < q.p + f) → (Pok (nn (sa 3)) q) → (1 ≤ dpT q.tc q.n) → (MP uz q stv) → ∀ (H : Heap) (locs : List Loc), va_P E.1 clA [(ad 30, .inr (6, [.ref (ad 0), .ref (ad 1), .int im, .ref (ad 3), .int (nI q.p), .int (nI (5 - d)), .int (nI q.n), .int (nI uz), .ref (ad 8), .ref (ad 9), .ref (ad 10), .ref (ad 11), .ref (ad 12), .ref (ad 13), .ref (ad 14), .int bn, .int bm, .ref (ad 17), .int la, .int fo, .int fi, .int lp, .ref (ad 22), .int tr_, .int sp, .int ip, .ref (ad 26), .ref (ad 27), .ref (ad 28), .ref (ad 29)])), (ad 8, .inl (E.2 0, 124, .inl stv))] H → va_D A [(ad 30, .inr (6, [.ref (ad 0), .ref (ad 1), .int im, .ref (ad 3), .int (nI q.p), .int (nI (5 - d)), .int (nI q.n), .int (nI uz), .ref (ad 8), .ref (ad 9), .ref (ad 10), .ref (ad 11), .ref (ad 12), .ref (ad 13), .ref (ad 14), .int bn, .int bm, .ref (ad 17), .int la, .int fo, .int fi, .int lp, .ref (ad 22), .int tr_, .int sp, .int ip, .ref (ad 26), .ref (ad 27), .ref (ad 28), .ref (ad 29)])), (ad 8, .inl (E.2 0, 124, .inl stv))] → va_S A s.heap H locs → ∀ (ls : Array Slot), lv_has ls 1 [(0, .ref (ad 30))] → W p l e (rmX6_whole d) s m args below meth c H locs 0 0 Q (F0 m 9 ls []) := by
      intro n_9
      induction n_9 with
      | zero => intro q f stv hm_9; exact absurd hm_9 (Nat.not_lt_zero _)
      | succ n_9 ih_9 =>
        intro q f stv hm_9 hf hff hq hdq hMq H locs hP hD hS ls hl
        have hql := hq.le60 htp
        refine lv_aload_n hx hb dX6_whole_9 rfl (lv_at hl 0 rfl) ?_
        refine fx_ci (va_runV (As := []) (rest := []) X (mX6_look l E ad im bn bm la fo fi lp tr_ sp ip q.p (5 - d) q.n uz sa (by first | assumption | omega) hql.1 _) (cwV 0 X.2.2.2.2 (lw_V q1300 q1302 qs39 q75 q1303) rfl rfl rfl ⟨rfl, hdX6_look⟩ ⟨by simp only [rmX6_look, rmX6_whole] <;> omega, by simp only [rmX6_look, rmX6_whole] <;> omega⟩) (fx_preV (fx_pre hE hP hD hS hR [] rfl rfl (fx_rcm 0 rfl (by decide) (fx_rcr 0 rfl fx_rc0))) (va_recv hE.1 hP (ci := 6) (q0 := 0) rfl rfl)) rfl rfl hl.1 rfl (lv_room (Nat.le_of_ble_eq_true rfl)) dX6_whole_10 ⟨Nat.le_refl _, Nat.le_refl _⟩) hP hD hS hA [] rfl rfl (fun r_10 u H locs hq_10 hP hD hS => ?_)
        replace hP : va_P E.1 clA [(ad 30, .inr (6, [.ref (ad 0), .ref (ad 1), .int im, .ref (ad 3), .int (nI q.p), .int (nI (5 - d)), .int (nI q.n), .int (nI uz), .ref (ad 8), .ref (ad 9), .ref (ad 10), .ref (ad 11), .ref (ad 12), .ref (ad 13), .ref (ad 14), .int bn, .int bm, .ref (ad 17), .int la, .int fo, .int fi, .int lp, .ref (ad 22), .int tr_, .int sp, .int ip, .ref (ad 26), .ref (ad 27), .ref (ad 28), .ref (ad 29)])), (ad 8, .inl (E.2 0, 124, .inl stv))] _ := hP
        replace hD : va_D A [(ad 30, .inr (6, [.ref (ad 0), .ref (ad 1), .int im, .ref (ad 3), .int (nI q.p), .int (nI (5 - d)), .int (nI q.n), .int (nI uz), .ref (ad 8), .ref (ad 9), .ref (ad 10), .ref (ad 11), .ref (ad 12), .ref (ad 13), .ref (ad 14), .int bn, .int bm, .ref (ad 17), .int la, .int fo, .int fi, .int lp, .ref (ad 22), .int tr_, .int sp, .int ip, .ref (ad 26), .ref (ad 27), .ref (ad 28), .ref (ad 29)])), (ad 8, .inl (E.2 0, 124, .inl stv))] := hD
        replace hq_10 : r_10 = lkM sa q.p := hq_10
        refine fx_ti (show r_10 = (lkM sa q.p) from hq_10) ?_
        refine lv_bipush (v := 124) hx hb dX6_whole_13 rfl ?_
        refine lv_icmp_ne (tgt := 47) hx hb dX6_whole_15 (by decide) (fun c_15 => ?_) (fun c_15 => ?_)
        · -- jump 47
          have hsn : sgW (lkM sa q.p) = false := by simp [sgW, c_15]
          have hRR : ((whlF (lkM sa) (oneF (lkM sa) uz d)) ps) = (true, q) := by show sqF (lkM sa) sgW (bthF (lkM sa) (oneF (lkM sa) uz d)) ps = _; rw [sqF, if_pos hb_1, ← hf, lpF_f hsn]
          refine lv_iconst (v := 1) hx hb dX6_whole_47 rfl ?_
          exact hret 1 (q.p, nI (5 - d), nI q.n, stv) (⟨fx_bt (by rw [hRR]), by rw [hRR], fun _ => ⟨rfl, by rw [hRR], by rw [hRR]; exact hMq⟩⟩) (rfl) hP hD hS (Nat.le_refl _) (Nat.le_refl _) dX6_whole_48
        · -- fall 18
          have hsg : sgW (lkM sa q.p) = true := by simp [sgW, c_15]
          have hsk := sgW_ok _ hsg
          have hlt := lkM_lt (sgW_ok.nm1 hsg)
          obtain ⟨f1, rfl⟩ : ∃ z, f = z + 1 := ⟨f - 1, by omega⟩
          refine lv_aload_n hx hb dX6_whole_18 rfl (lv_at hl 0 rfl) ?_
          refine lv_dup hx hb dX6_whole_19 rfl ?_
          refine fx_get X hE hP 0 rfl rfl 4 rfl q1172 rfl rfl dX6_whole_20 ?_
          refine lv_iconst (v := 1) hx hb dX6_whole_23 rfl ?_
          refine lv_iadd hx hb dX6_whole_24 ?_
          refine fx_ti (nI_add q.p 1) ?_
          refine fx_put_ (ws' := [(ad 30, .inr (6, [.ref (ad 0), .ref (ad 1), .int im, .ref (ad 3), .int (nI (q.p + 1)), .int (nI (5 - d)), .int (nI q.n), .int (nI uz), .ref (ad 8), .ref (ad 9), .ref (ad 10), .ref (ad 11), .ref (ad 12), .ref (ad 13), .ref (ad 14), .int bn, .int bm, .ref (ad 17), .int la, .int fo, .int fi, .int lp, .ref (ad 22), .int tr_, .int sp, .int ip, .ref (ad 26), .ref (ad 27), .ref (ad 28), .ref (ad 29)])), (ad 8, .inl (E.2 0, 124, .inl stv))]) X hE hP hD hS 0 rfl rfl tyX6_ok nmX6 4 rfl q1172 rfl rfl rfl rfl rfl rfl dX6_whole_25 (fun H locs hP hD hS => ?_)
          refine lv_aload_n hx hb dX6_whole_28 rfl (lv_at hl 0 rfl) ?_
          refine fx_ci (va_runV (As := []) (rest := []) X (mX6_both l E ad im bn bm la fo fi lp tr_ sp ip sa stv uz q.go d (by first | assumption | omega) (by first | assumption | omega) (by first | assumption | omega) (go_ok hq hlt) (show MP uz q.go stv from hMq) (by first | assumption | omega) _) (cwV 0 X.2.2.2.2 (lw_V q1280 q1282 qs34 q75 q1283) rfl rfl rfl ⟨rfl, hdX6_both⟩ ⟨by simp only [rmX6_both, rmX6_whole] <;> omega, by simp only [rmX6_both, rmX6_whole] <;> omega⟩) (fx_preV (fx_pre hE hP hD hS hR [0, 1] rfl rfl (fx_rcr 0 rfl fx_rc0)) (va_recv hE.1 hP (ci := 6) (q0 := 0) rfl rfl)) rfl rfl hl.1 rfl (lv_room (Nat.le_of_ble_eq_true rfl)) dX6_whole_29 ⟨Nat.le_refl _, Nat.le_refl _⟩) hP hD hS hA [0, 1] rfl rfl (fun r_29 u H locs hq_29 hP hD hS => ?_)
          obtain ⟨at2_29, op2_29, st2_29, stp2_29⟩ := u
          replace hP : va_P E.1 clA [(ad 30, .inr (6, [.ref (ad 0), .ref (ad 1), .int im, .ref (ad 3), .int (nI at2_29), .int op2_29, .int st2_29, .int (nI uz), .ref (ad 8), .ref (ad 9), .ref (ad 10), .ref (ad 11), .ref (ad 12), .ref (ad 13), .ref (ad 14), .int bn, .int bm, .ref (ad 17), .int la, .int fo, .int fi, .int lp, .ref (ad 22), .int tr_, .int sp, .int ip, .ref (ad 26), .ref (ad 27), .ref (ad 28), .ref (ad 29)])), (ad 8, .inl (E.2 0, 124, .inl stp2_29))] _ := hP
          replace hD : va_D A [(ad 30, .inr (6, [.ref (ad 0), .ref (ad 1), .int im, .ref (ad 3), .int (nI at2_29), .int op2_29, .int st2_29, .int (nI uz), .ref (ad 8), .ref (ad 9), .ref (ad 10), .ref (ad 11), .ref (ad 12), .ref (ad 13), .ref (ad 14), .int bn, .int bm, .ref (ad 17), .int la, .int fo, .int fi, .int lp, .ref (ad 22), .int tr_, .int sp, .int ip, .ref (ad 26), .ref (ad 27), .ref (ad 28), .ref (ad 29)])), (ad 8, .inl (E.2 0, 124, .inl stp2_29))] := hD
          replace hq_29 : r_29 = fx_b (((bthF (lkM sa) (oneF (lkM sa) uz d)) q.go).1 = true) ∧ at2_29 = ((bthF (lkM sa) (oneF (lkM sa) uz d)) q.go).2.p ∧ (((bthF (lkM sa) (oneF (lkM sa) uz d)) q.go).1 = true → op2_29 = nI (5 - d) ∧ st2_29 = nI ((bthF (lkM sa) (oneF (lkM sa) uz d)) q.go).2.n ∧ MP uz ((bthF (lkM sa) (oneF (lkM sa) uz d)) q.go).2 stp2_29) := hq_29
          rcases fx_bc hq_29.1 with ⟨hb_29, hr_29⟩ | ⟨hb_29, hr_29⟩
          · -- True
            subst hr_29
            obtain ⟨ho_29, hs_29, hM_29⟩ := hq_29.2.2 hb_29
            have ha_29 := hq_29.2.1
            subst ho_29 hs_29 ha_29
            have hst := lp_step (bth_pp lkH) hq hdq hsk.2 hlt hb_29
            have hin := (bth_pp lkH q.go (go_ok hq hlt) hb_29).1.le60 htp
            refine lv_if_ne (tgt := 37) hx hb dX6_whole_32 (by decide) (fun _ => ?_) (fun c => absurd c (by decide))
            refine lv_aload_n hx hb dX6_whole_37 rfl (lv_at hl 0 rfl) ?_
            refine lv_iconst (v := 3) hx hb dX6_whole_38 rfl ?_
            refine lv_bipush (v := 124) hx hb dX6_whole_39 rfl ?_
            refine fx_ti (show 124 = (lkM sa q.p) from c_15.symm) ?_
            refine fx_cv (va_runV (As := [.int 3, .int (lkM sa q.p)]) (rest := []) X (mX6_step1 l E ad im bn bm la fo fi lp tr_ sp ip (((bthF (lkM sa) (oneF (lkM sa) uz d)) q.go).2.p) (5 - d) (((bthF (lkM sa) (oneF (lkM sa) uz d)) q.go).2.n) uz stp2_29 3 (lkM sa q.p) hin.2 _) (cwV 2 X.2.2.2.2 (lw_V q1308 q1310 qs41 q75 q1311) rfl rfl rfl ⟨rfl, hdX6_step1⟩ ⟨by simp only [rmX6_step1, rmX6_whole] <;> omega, by simp only [rmX6_step1, rmX6_whole] <;> omega⟩) (fx_preV (fx_pre hE hP hD hS hR [0, 1] rfl rfl fx_rc0) (va_recv hE.1 hP (ci := 6) (q0 := 0) rfl rfl)) rfl rfl hl.1 rfl (lv_room (Nat.le_of_ble_eq_true rfl)) dX6_whole_41 ⟨Nat.le_refl _, Nat.le_refl _⟩) hP hD hS hA [0, 1] rfl rfl (fun u H locs hq_41 hP hD hS => ?_)
            replace hP : va_P E.1 clA [(ad 30, .inr (6, [.ref (ad 0), .ref (ad 1), .int im, .ref (ad 3), .int (nI (((bthF (lkM sa) (oneF (lkM sa) uz d)) q.go).2.p)), .int (nI (5 - d)), .int (nI ((((bthF (lkM sa) (oneF (lkM sa) uz d)) q.go).2.n) + 1)), .int (nI uz), .ref (ad 8), .ref (ad 9), .ref (ad 10), .ref (ad 11), .ref (ad 12), .ref (ad 13), .ref (ad 14), .int bn, .int bm, .ref (ad 17), .int la, .int fo, .int fi, .int lp, .ref (ad 22), .int tr_, .int sp, .int ip, .ref (ad 26), .ref (ad 27), .ref (ad 28), .ref (ad 29)])), (ad 8, .inl (E.2 0, 124, .inl (upd (upd stp2_29 (2 * (((bthF (lkM sa) (oneF (lkM sa) uz d)) q.go).2.n)) 3) (2 * (((bthF (lkM sa) (oneF (lkM sa) uz d)) q.go).2.n) + 1) (lkM sa q.p))))] _ := hP
            replace hD : va_D A [(ad 30, .inr (6, [.ref (ad 0), .ref (ad 1), .int im, .ref (ad 3), .int (nI (((bthF (lkM sa) (oneF (lkM sa) uz d)) q.go).2.p)), .int (nI (5 - d)), .int (nI ((((bthF (lkM sa) (oneF (lkM sa) uz d)) q.go).2.n) + 1)), .int (nI uz), .ref (ad 8), .ref (ad 9), .ref (ad 10), .ref (ad 11), .ref (ad 12), .ref (ad 13), .ref (ad 14), .int bn, .int bm, .ref (ad 17), .int la, .int fo, .int fi, .int lp, .ref (ad 22), .int tr_, .int sp, .int ip, .ref (ad 26), .ref (ad 27), .ref (ad 28), .ref (ad 29)])), (ad 8, .inl (E.2 0, 124, .inl (upd (upd stp2_29 (2 * (((bthF (lkM sa) (oneF (lkM sa) uz d)) q.go).2.n)) 3) (2 * (((bthF (lkM sa) (oneF (lkM sa) uz d)) q.go).2.n) + 1) (lkM sa q.p))))] := hD
            replace hq_41 : True := hq_41
            refine lv_goto (tgt := 9) hx hb dX6_whole_44 (by decide) ?_
            exact ih_9 (((bthF (lkM sa) (oneF (lkM sa) uz d)) q.go).2.add (nn (lkM sa q.p)) 0) f1 (upd (upd stp2_29 (2 * (((bthF (lkM sa) (oneF (lkM sa) uz d)) q.go).2.n)) 3) (2 * (((bthF (lkM sa) (oneF (lkM sa) uz d)) q.go).2.n) + 1) (lkM sa q.p)) (by omega) ((lpF_t hsg hb_29).symm.trans hf) (by have := hst.2.2.1; omega) hst.1 hst.2.1 (MP_sg hM_29 hsk) _ _ hP hD hS ls (lv_sub hl [0] rfl)
          · -- False
            subst hr_29
            have ha_29 := hq_29.2.1
            subst ha_29
            have hRR : ((whlF (lkM sa) (oneF (lkM sa) uz d)) ps) = (false, ((bthF (lkM sa) (oneF (lkM sa) uz d)) q.go).2) := by show sqF (lkM sa) sgW (bthF (lkM sa) (oneF (lkM sa) uz d)) ps = _; rw [sqF, if_pos hb_1, ← hf, lpF_n hsg hb_29]
            refine lv_if_ne (tgt := 37) hx hb dX6_whole_32 (by decide) (fun c => (c (by decide)).elim) (fun _ => ?_)
            refine lv_iconst (v := 0) hx hb dX6_whole_35 rfl ?_
            exact hret 0 (((bthF (lkM sa) (oneF (lkM sa) uz d)) q.go).2.p, op2_29, st2_29, stp2_29) (⟨fx_bf (by rw [hRR]; exact Bool.false_ne_true), by rw [hRR], fun h => absurd h (by rw [hRR]; exact Bool.false_ne_true)⟩) (rfl) hP hD hS (Nat.le_refl _) (Nat.le_refl _) dX6_whole_36
    exact loop_9 (61 + 1) (((bthF (lkM sa) (oneF (lkM sa) uz d)) ps).2) 61 stp2_1 (Nat.lt_succ_self _) rfl (by omega) ((bth_pp lkH ps hps hb_1).1) (by have := (bth_pp lkH ps hps hb_1).2.2.2; omega) hM_1 _ _ hP hD hS ls (lv_sub hl [0] rfl)
  · -- False
    subst hr_1
    have ha_1 := hq_1.2.1
    subst ha_1
    have hRR : ((whlF (lkM sa) (oneF (lkM sa) uz d)) ps) = (false, ((bthF (lkM sa) (oneF (lkM sa) uz d)) ps).2) := by show sqF (lkM sa) sgW (bthF (lkM sa) (oneF (lkM sa) uz d)) ps = _; rw [sqF, if_neg hb_1]
    refine lv_if_ne (tgt := 9) hx hb dX6_whole_4 (by decide) (fun c => (c (by decide)).elim) (fun _ => ?_)
    refine lv_iconst (v := 0) hx hb dX6_whole_7 rfl ?_
    exact hret 0 (((bthF (lkM sa) (oneF (lkM sa) uz d)) ps).2.p, op2_1, st2_1, stp2_1) (⟨fx_bf (by rw [hRR]; exact Bool.false_ne_true), by rw [hRR], fun h => absurd h (by rw [hRR]; exact Bool.false_ne_true)⟩) (rfl) hP hD hS (Nat.le_refl _) (Nat.le_refl _) dX6_whole_8
set_option maxHeartbeats 1000000 in
set_option maxRecDepth 100000 in
theorem mX6_one (l : Launch) (E : fx_En) : ∀ (d : Nat) (ad : Nat → Nat) (im : Int32) (bn : Int32) (bm : Int32) (la : Int32) (fo : Int32) (fi : Int32) (lp : Int32) (tr_ : Int32) (sp : Int32) (ip : Int32) (sa : Nat → Int32) (stp : Nat → Int32) (uz : Nat) (ps : Ps) (hd : d ≤ 5) (hI : Inv sa) (hu : uz < 2) (hps : Pok (nn (sa 3)) ps) (hMP : MP uz ps stp), fx_Mi l yX6_one cX6_one 4 .boolean (rmX6_one d) E [.ref (ad 30)] [(ad 30, .inr (6, [.ref (ad 0), .ref (ad 1), .int im, .ref (ad 3), .int (nI ps.p), .int (nI (5 - d)), .int (nI ps.n), .int (nI uz), .ref (ad 8), .ref (ad 9), .ref (ad 10), .ref (ad 11), .ref (ad 12), .ref (ad 13), .ref (ad 14), .int bn, .int bm, .ref (ad 17), .int la, .int fo, .int fi, .int lp, .ref (ad 22), .int tr_, .int sp, .int ip, .ref (ad 26), .ref (ad 27), .ref (ad 28), .ref (ad 29)])), (ad 8, .inl (E.2 0, 124, .inl stp))] [(ad 0, .inl (E.2 0, 374, .inl sa))] (S := Nat × Int32 × Int32 × (Nat → Int32)) (fun (u : Nat × Int32 × Int32 × (Nat → Int32)) => [(ad 30, .inr (6, [.ref (ad 0), .ref (ad 1), .int im, .ref (ad 3), .int (nI u.1), .int u.2.1, .int u.2.2.1, .int (nI uz), .ref (ad 8), .ref (ad 9), .ref (ad 10), .ref (ad 11), .ref (ad 12), .ref (ad 13), .ref (ad 14), .int bn, .int bm, .ref (ad 17), .int la, .int fo, .int fi, .int lp, .ref (ad 22), .int tr_, .int sp, .int ip, .ref (ad 26), .ref (ad 27), .ref (ad 28), .ref (ad 29)])), (ad 8, .inl (E.2 0, 124, .inl u.2.2.2))]) (fun (r : Int32) (u : Nat × Int32 × Int32 × (Nat → Int32)) => r = fx_b ((oneF (lkM sa) uz d ps).1 = true) ∧ u.1 = (oneF (lkM sa) uz d ps).2.p ∧ ((oneF (lkM sa) uz d ps).1 = true → u.2.1 = nI (5 - d) ∧ u.2.2.1 = nI (oneF (lkM sa) uz d ps).2.n ∧ MP uz (oneF (lkM sa) uz d ps).2 u.2.2.2)) := by
  intro d
  induction d with
  | zero =>
    intro ad im bn bm la fo fi lp tr_ sp ip sa stp uz ps hd hI hu hps hMP
    refine fx_iW rfl rfl ?_
    intro p e s m args below meth c A ls Q X hE hP hD hR hA hl hret
    have hx := X.1
    have hb := X.2.1
    have hS : va_S A s.heap s.heap [] := va_S.rf
    replace hP : va_P E.1 clA [(ad 30, .inr (6, [.ref (ad 0), .ref (ad 1), .int im, .ref (ad 3), .int (nI ps.p), .int (nI (5 - 0)), .int (nI ps.n), .int (nI uz), .ref (ad 8), .ref (ad 9), .ref (ad 10), .ref (ad 11), .ref (ad 12), .ref (ad 13), .ref (ad 14), .int bn, .int bm, .ref (ad 17), .int la, .int fo, .int fi, .int lp, .ref (ad 22), .int tr_, .int sp, .int ip, .ref (ad 26), .ref (ad 27), .ref (ad 28), .ref (ad 29)])), (ad 8, .inl (E.2 0, 124, .inl stp))] _ := hP
    replace hD : va_D A [(ad 30, .inr (6, [.ref (ad 0), .ref (ad 1), .int im, .ref (ad 3), .int (nI ps.p), .int (nI (5 - 0)), .int (nI ps.n), .int (nI uz), .ref (ad 8), .ref (ad 9), .ref (ad 10), .ref (ad 11), .ref (ad 12), .ref (ad 13), .ref (ad 14), .int bn, .int bm, .ref (ad 17), .int la, .int fo, .int fi, .int lp, .ref (ad 22), .int tr_, .int sp, .int ip, .ref (ad 26), .ref (ad 27), .ref (ad 28), .ref (ad 29)])), (ad 8, .inl (E.2 0, 124, .inl stp))] := hD
    replace hl : lv_has ls 4 [(0, .ref (ad 30))] := hl
    have htp := hI.taped.2
    have hpl := hps.le60 htp
    refine lv_aload_n hx hb dX6_one_0 rfl (lv_at hl 0 rfl) ?_
    refine fx_ci (va_runV (As := []) (rest := []) X (mX6_look l E ad im bn bm la fo fi lp tr_ sp ip ps.p (5 - 0) ps.n uz sa (by first | assumption | omega) hpl.1 _) (cwV 0 X.2.2.2.2 (lw_V q1300 q1302 qs39 q75 q1303) rfl rfl rfl ⟨rfl, hdX6_look⟩ ⟨Nat.le_of_ble_eq_true rfl, Nat.le_of_ble_eq_true rfl⟩) (fx_preV (fx_pre hE hP hD hS hR [] rfl rfl (fx_rcm 0 rfl (by decide) (fx_rcr 0 rfl fx_rc0))) (va_recv hE.1 hP (ci := 6) (q0 := 0) rfl rfl)) rfl rfl hl.1 rfl (lv_room (Nat.le_of_ble_eq_true rfl)) dX6_one_1 ⟨Nat.le_refl _, Nat.le_refl _⟩) hP hD hS hA [] rfl rfl (fun r_1 u H locs hq_1 hP hD hS => ?_)
    replace hP : va_P E.1 clA [(ad 30, .inr (6, [.ref (ad 0), .ref (ad 1), .int im, .ref (ad 3), .int (nI ps.p), .int (nI (5 - 0)), .int (nI ps.n), .int (nI uz), .ref (ad 8), .ref (ad 9), .ref (ad 10), .ref (ad 11), .ref (ad 12), .ref (ad 13), .ref (ad 14), .int bn, .int bm, .ref (ad 17), .int la, .int fo, .int fi, .int lp, .ref (ad 22), .int tr_, .int sp, .int ip, .ref (ad 26), .ref (ad 27), .ref (ad 28), .ref (ad 29)])), (ad 8, .inl (E.2 0, 124, .inl stp))] _ := hP
    replace hD : va_D A [(ad 30, .inr (6, [.ref (ad 0), .ref (ad 1), .int im, .ref (ad 3), .int (nI ps.p), .int (nI (5 - 0)), .int (nI ps.n), .int (nI uz), .ref (ad 8), .ref (ad 9), .ref (ad 10), .ref (ad 11), .ref (ad 12), .ref (ad 13), .ref (ad 14), .int bn, .int bm, .ref (ad 17), .int la, .int fo, .int fi, .int lp, .ref (ad 22), .int tr_, .int sp, .int ip, .ref (ad 26), .ref (ad 27), .ref (ad 28), .ref (ad 29)])), (ad 8, .inl (E.2 0, 124, .inl stp))] := hD
    replace hq_1 : r_1 = lkM sa ps.p := hq_1
    refine fx_ti (show r_1 = (lkM sa ps.p) from hq_1) ?_
    refine lv_istore_n (lv' := [(1, .int (lkM sa ps.p)), (0, .ref (ad 30))]) hx hb dX6_one_4 rfl hl (by decide) rfl (fun ls hl => ?_)
    refine lv_aload_n hx hb dX6_one_5 rfl (lv_at hl 1 rfl) ?_
    refine lv_iload_n hx hb dX6_one_6 rfl (lv_at hl 0 rfl) ?_
    refine fx_ci (va_runV (As := [.int (lkM sa ps.p)]) (rest := []) X (mX6_isName l E ad im bn bm la fo fi lp tr_ sp ip ps.p (5 - 0) ps.n uz (lkM sa ps.p) (by first | assumption | omega) _) (cwV 1 X.2.2.2.2 (lw_V q1304 q1306 qs40 q75 q1307) rfl rfl rfl ⟨rfl, hdX6_isName⟩ ⟨Nat.le_of_ble_eq_true rfl, Nat.le_of_ble_eq_true rfl⟩) (fx_preV (fx_pre hE hP hD hS hR [] rfl rfl (fx_rcm 0 rfl (by decide) fx_rc0)) (va_recv hE.1 hP (ci := 6) (q0 := 0) rfl rfl)) rfl rfl hl.1 rfl (lv_room (Nat.le_of_ble_eq_true rfl)) dX6_one_7 ⟨Nat.le_refl _, Nat.le_refl _⟩) hP hD hS hA [] rfl rfl (fun r_7 u H locs hq_7 hP hD hS => ?_)
    replace hP : va_P E.1 clA [(ad 30, .inr (6, [.ref (ad 0), .ref (ad 1), .int im, .ref (ad 3), .int (nI ps.p), .int (nI (5 - 0)), .int (nI ps.n), .int (nI uz), .ref (ad 8), .ref (ad 9), .ref (ad 10), .ref (ad 11), .ref (ad 12), .ref (ad 13), .ref (ad 14), .int bn, .int bm, .ref (ad 17), .int la, .int fo, .int fi, .int lp, .ref (ad 22), .int tr_, .int sp, .int ip, .ref (ad 26), .ref (ad 27), .ref (ad 28), .ref (ad 29)])), (ad 8, .inl (E.2 0, 124, .inl stp))] _ := hP
    replace hD : va_D A [(ad 30, .inr (6, [.ref (ad 0), .ref (ad 1), .int im, .ref (ad 3), .int (nI ps.p), .int (nI (5 - 0)), .int (nI ps.n), .int (nI uz), .ref (ad 8), .ref (ad 9), .ref (ad 10), .ref (ad 11), .ref (ad 12), .ref (ad 13), .ref (ad 14), .int bn, .int bm, .ref (ad 17), .int la, .int fo, .int fi, .int lp, .ref (ad 22), .int tr_, .int sp, .int ip, .ref (ad 26), .ref (ad 27), .ref (ad 28), .ref (ad 29)])), (ad 8, .inl (E.2 0, 124, .inl stp))] := hD
    replace hq_7 : r_7 = fx_b (isNm uz (lkM sa ps.p) = true) := hq_7
    rcases fx_bc hq_7 with ⟨hb_7, hr_7⟩ | ⟨hb_7, hr_7⟩
    · -- True
      subst hr_7
      have hlt := lkM_lt (isNm_nm1 hb_7)
      have hRR : oneF (lkM sa) uz 0 ps = (true, ps.go.add 2 (nmX uz (lkM sa ps.p))) := by rw [oneF, if_pos hb_7]
      refine lv_if_eq (tgt := 31) hx hb dX6_one_10 (by decide) (fun c => absurd c (by decide)) (fun _ => ?_)
      refine lv_aload_n hx hb dX6_one_13 rfl (lv_at hl 1 rfl) ?_
      refine lv_dup hx hb dX6_one_14 rfl ?_
      refine fx_get X hE hP 0 rfl rfl 4 rfl q1172 rfl rfl dX6_one_15 ?_
      refine lv_iconst (v := 1) hx hb dX6_one_18 rfl ?_
      refine lv_iadd hx hb dX6_one_19 ?_
      refine fx_ti (nI_add ps.p 1) ?_
      refine fx_put_ (ws' := [(ad 30, .inr (6, [.ref (ad 0), .ref (ad 1), .int im, .ref (ad 3), .int (nI (ps.p + 1)), .int (nI (5 - 0)), .int (nI ps.n), .int (nI uz), .ref (ad 8), .ref (ad 9), .ref (ad 10), .ref (ad 11), .ref (ad 12), .ref (ad 13), .ref (ad 14), .int bn, .int bm, .ref (ad 17), .int la, .int fo, .int fi, .int lp, .ref (ad 22), .int tr_, .int sp, .int ip, .ref (ad 26), .ref (ad 27), .ref (ad 28), .ref (ad 29)])), (ad 8, .inl (E.2 0, 124, .inl stp))]) X hE hP hD hS 0 rfl rfl tyX6_ok nmX6 4 rfl q1172 rfl rfl rfl rfl rfl rfl dX6_one_20 (fun H locs hP hD hS => ?_)
      refine lv_aload_n hx hb dX6_one_23 rfl (lv_at hl 1 rfl) ?_
      refine lv_iconst (v := 1) hx hb dX6_one_24 rfl ?_
      refine lv_iload_n hx hb dX6_one_25 rfl (lv_at hl 0 rfl) ?_
      refine fx_cv (va_runV (As := [.int 1, .int (lkM sa ps.p)]) (rest := []) X (mX6_step1 l E ad im bn bm la fo fi lp tr_ sp ip (ps.p + 1) (5 - 0) ps.n uz stp 1 (lkM sa ps.p) hpl.2 _) (cwV 2 X.2.2.2.2 (lw_V q1308 q1310 qs41 q75 q1311) rfl rfl rfl ⟨rfl, hdX6_step1⟩ ⟨Nat.le_of_ble_eq_true rfl, Nat.le_of_ble_eq_true rfl⟩) (fx_preV (fx_pre hE hP hD hS hR [0, 1] rfl rfl fx_rc0) (va_recv hE.1 hP (ci := 6) (q0 := 0) rfl rfl)) rfl rfl hl.1 rfl (lv_room (Nat.le_of_ble_eq_true rfl)) dX6_one_26 ⟨Nat.le_refl _, Nat.le_refl _⟩) hP hD hS hA [0, 1] rfl rfl (fun u H locs hq_26 hP hD hS => ?_)
      replace hP : va_P E.1 clA [(ad 30, .inr (6, [.ref (ad 0), .ref (ad 1), .int im, .ref (ad 3), .int (nI (ps.p + 1)), .int (nI (5 - 0)), .int (nI (ps.n + 1)), .int (nI uz), .ref (ad 8), .ref (ad 9), .ref (ad 10), .ref (ad 11), .ref (ad 12), .ref (ad 13), .ref (ad 14), .int bn, .int bm, .ref (ad 17), .int la, .int fo, .int fi, .int lp, .ref (ad 22), .int tr_, .int sp, .int ip, .ref (ad 26), .ref (ad 27), .ref (ad 28), .ref (ad 29)])), (ad 8, .inl (E.2 0, 124, .inl (upd (upd stp (2 * ps.n) 1) (2 * ps.n + 1) (lkM sa ps.p))))] _ := hP
      replace hD : va_D A [(ad 30, .inr (6, [.ref (ad 0), .ref (ad 1), .int im, .ref (ad 3), .int (nI (ps.p + 1)), .int (nI (5 - 0)), .int (nI (ps.n + 1)), .int (nI uz), .ref (ad 8), .ref (ad 9), .ref (ad 10), .ref (ad 11), .ref (ad 12), .ref (ad 13), .ref (ad 14), .int bn, .int bm, .ref (ad 17), .int la, .int fo, .int fi, .int lp, .ref (ad 22), .int tr_, .int sp, .int ip, .ref (ad 26), .ref (ad 27), .ref (ad 28), .ref (ad 29)])), (ad 8, .inl (E.2 0, 124, .inl (upd (upd stp (2 * ps.n) 1) (2 * ps.n + 1) (lkM sa ps.p))))] := hD
      replace hq_26 : True := hq_26
      refine lv_iconst (v := 1) hx hb dX6_one_29 rfl ?_
      exact hret 1 ((ps.p + 1), nI (5 - 0), nI (ps.n + 1), (upd (upd stp (2 * ps.n) 1) (2 * ps.n + 1) (lkM sa ps.p))) (⟨fx_bt (by rw [hRR]), by rw [hRR]; rfl, fun _ => ⟨rfl, by rw [hRR]; rfl, by rw [hRR]; exact MP_add hMP rfl (by simp only [mxv]; rw [if_neg (by decide), if_pos (by decide)]; exact isNm_c hb_7)⟩⟩) (rfl) hP hD hS (Nat.le_refl _) (Nat.le_refl _) dX6_one_30
    · -- False
      subst hr_7
      refine lv_if_eq (tgt := 31) hx hb dX6_one_10 (by decide) (fun _ => ?_) (fun c => (c (by decide)).elim)
      refine lv_iload_n hx hb dX6_one_31 rfl (lv_at hl 0 rfl) ?_
      refine lv_bipush (v := 48) hx hb dX6_one_32 rfl ?_
      refine lv_bipush (v := 57) hx hb dX6_one_34 rfl ?_
      refine fx_ci (va_runS (As := [.int (lkM sa ps.p), .int 48, .int 57]) (rest := []) X (mX6_in l E (lkM sa ps.p) 48 57 _) (va_cwS 3 X.2.2.2.2 (lw_S q1263 q1264 q75 q1265) rfl rfl rfl hdX6_in ⟨Nat.le_of_ble_eq_true rfl, Nat.le_of_ble_eq_true rfl⟩) (fx_pre hE hP hD hS hR [] rfl rfl fx_rc0) rfl rfl hl.1 rfl (lv_room (Nat.le_of_ble_eq_true rfl)) dX6_one_36 ⟨Nat.le_refl _, Nat.le_refl _⟩) hP hD hS hA [] rfl rfl (fun r_36 u H locs hq_36 hP hD hS => ?_)
      replace hP : va_P E.1 clA [(ad 30, .inr (6, [.ref (ad 0), .ref (ad 1), .int im, .ref (ad 3), .int (nI ps.p), .int (nI (5 - 0)), .int (nI ps.n), .int (nI uz), .ref (ad 8), .ref (ad 9), .ref (ad 10), .ref (ad 11), .ref (ad 12), .ref (ad 13), .ref (ad 14), .int bn, .int bm, .ref (ad 17), .int la, .int fo, .int fi, .int lp, .ref (ad 22), .int tr_, .int sp, .int ip, .ref (ad 26), .ref (ad 27), .ref (ad 28), .ref (ad 29)])), (ad 8, .inl (E.2 0, 124, .inl stp))] _ := hP
      replace hD : va_D A [(ad 30, .inr (6, [.ref (ad 0), .ref (ad 1), .int im, .ref (ad 3), .int (nI ps.p), .int (nI (5 - 0)), .int (nI ps.n), .int (nI uz), .ref (ad 8), .ref (ad 9), .ref (ad 10), .ref (ad 11), .ref (ad 12), .ref (ad 13), .ref (ad 14), .int bn, .int bm, .ref (ad 17), .int la, .int fo, .int fi, .int lp, .ref (ad 22), .int tr_, .int sp, .int ip, .ref (ad 26), .ref (ad 27), .ref (ad 28), .ref (ad 29)])), (ad 8, .inl (E.2 0, 124, .inl stp))] := hD
      replace hq_36 : r_36 = fx_b (inB (lkM sa ps.p) 48 57 = true) := hq_36
      rcases fx_bc hq_36 with ⟨hb_36, hr_36⟩ | ⟨hb_36, hr_36⟩
      · -- True
        subst hr_36
        refine lv_if_eq (tgt := 102) hx hb dX6_one_39 (by decide) (fun c => absurd c (by decide)) (fun _ => ?_)
        refine lv_iconst (v := 0) hx hb dX6_one_42 rfl ?_
        refine lv_istore_n (lv' := [(2, .int 0), (1, .int (lkM sa ps.p)), (0, .ref (ad 30))]) hx hb dX6_one_43 rfl hl (by decide) rfl (fun ls hl => ?_)
        refine lv_iconst (v := 0) hx hb dX6_one_44 rfl ?_
        refine lv_istore_n (lv' := [(3, .int 0), (2, .int 0), (1, .int (lkM sa ps.p)), (0, .ref (ad 30))]) hx hb dX6_one_45 rfl hl (by decide) rfl (fun ls hl => ?_)
        have loop_46 : ∀ (n_46 : Nat) (vv : Nat) (kk : Nat) (pq : Nat), (4 - kk < n_46) → (kk ≤ 4) → (numF (lkM sa) (4 - kk) vv pq = (numF (lkM sa) 4 0 ps.p)) → (pq ≤ nn (sa 3)) → ∀ (H : Heap) (locs : List Loc), va_P E.1 clA [(ad 30, .inr (6, [.ref (ad 0), .ref (ad 1), .int im, .ref (ad 3), .int (nI pq), .int (nI (5 - 0)), .int (nI ps.n), .int (nI uz), .ref (ad 8), .ref (ad 9), .ref (ad 10), .ref (ad 11), .ref (ad 12), .ref (ad 13), .ref (ad 14), .int bn, .int bm, .ref (ad 17), .int la, .int fo, .int fi, .int lp, .ref (ad 22), .int tr_, .int sp, .int ip, .ref (ad 26), .ref (ad 27), .ref (ad 28), .ref (ad 29)])), (ad 8, .inl (E.2 0, 124, .inl stp))] H → va_D A [(ad 30, .inr (6, [.ref (ad 0), .ref (ad 1), .int im, .ref (ad 3), .int (nI pq), .int (nI (5 - 0)), .int (nI ps.n), .int (nI uz), .ref (ad 8), .ref (ad 9), .ref (ad 10), .ref (ad 11), .ref (ad 12), .ref (ad 13), .ref (ad 14), .int bn, .int bm, .ref (ad 17), .int la, .int fo, .int fi, .int lp, .ref (ad 22), .int tr_, .int sp, .int ip, .ref (ad 26), .ref (ad 27), .ref (ad 28), .ref (ad 29)])), (ad 8, .inl (E.2 0, 124, .inl stp))] → va_S A s.heap H locs → ∀ (ls : Array Slot), lv_has ls 4 [(3, .int (nI kk)), (2, .int (nI vv)), (1, .int (lkM sa ps.p)), (0, .ref (ad 30))] → W p l e (rmX6_one 0) s m args below meth c H locs 0 0 Q (F0 m 46 ls []) := by
          intro n_46
          induction n_46 with
          | zero => intro vv kk pq hm_46; exact absurd hm_46 (Nat.not_lt_zero _)
          | succ n_46 ih_46 =>
            intro vv kk pq hm_46 hkk hN hpq H locs hP hD hS ls hl
            refine lv_iload_n hx hb dX6_one_46 rfl (lv_at hl 0 rfl) ?_
            refine lv_iconst (v := 4) hx hb dX6_one_47 rfl ?_
            refine lv_icmp_ge (tgt := 94) hx hb dX6_one_48 (by decide) (fun c_48 => ?_) (fun c_48 => ?_)
            · -- jump 94
              have n_48 := fx_le1 (a := 4) (b := kk) c_48 (by omega) (by omega)
              have hEE : (numF (lkM sa) 4 0 ps.p) = (vv, pq) := by rw [← hN]; exact numF_e (Or.inl (by omega))
              have hRR : oneF (lkM sa) uz 0 ps = (true, (ps.to pq).add 1 vv) := by rw [oneF, if_neg hb_7, if_pos (show isDg (lkM sa ps.p) = true from hb_36), hEE]
              refine lv_aload_n hx hb dX6_one_94 rfl (lv_at hl 3 rfl) ?_
              refine lv_iconst (v := 0) hx hb dX6_one_95 rfl ?_
              refine lv_iload_n hx hb dX6_one_96 rfl (lv_at hl 1 rfl) ?_
              refine fx_cv (va_runV (As := [.int 0, .int (nI vv)]) (rest := []) X (mX6_step1 l E ad im bn bm la fo fi lp tr_ sp ip pq (5 - 0) ps.n uz stp 0 (nI vv) hpl.2 _) (cwV 2 X.2.2.2.2 (lw_V q1308 q1310 qs41 q75 q1311) rfl rfl rfl ⟨rfl, hdX6_step1⟩ ⟨Nat.le_of_ble_eq_true rfl, Nat.le_of_ble_eq_true rfl⟩) (fx_preV (fx_pre hE hP hD hS hR [0, 1] rfl rfl fx_rc0) (va_recv hE.1 hP (ci := 6) (q0 := 0) rfl rfl)) rfl rfl hl.1 rfl (lv_room (Nat.le_of_ble_eq_true rfl)) dX6_one_97 ⟨Nat.le_refl _, Nat.le_refl _⟩) hP hD hS hA [0, 1] rfl rfl (fun u H locs hq_97 hP hD hS => ?_)
              replace hP : va_P E.1 clA [(ad 30, .inr (6, [.ref (ad 0), .ref (ad 1), .int im, .ref (ad 3), .int (nI pq), .int (nI (5 - 0)), .int (nI (ps.n + 1)), .int (nI uz), .ref (ad 8), .ref (ad 9), .ref (ad 10), .ref (ad 11), .ref (ad 12), .ref (ad 13), .ref (ad 14), .int bn, .int bm, .ref (ad 17), .int la, .int fo, .int fi, .int lp, .ref (ad 22), .int tr_, .int sp, .int ip, .ref (ad 26), .ref (ad 27), .ref (ad 28), .ref (ad 29)])), (ad 8, .inl (E.2 0, 124, .inl (upd (upd stp (2 * ps.n) 0) (2 * ps.n + 1) (nI vv))))] _ := hP
              replace hD : va_D A [(ad 30, .inr (6, [.ref (ad 0), .ref (ad 1), .int im, .ref (ad 3), .int (nI pq), .int (nI (5 - 0)), .int (nI (ps.n + 1)), .int (nI uz), .ref (ad 8), .ref (ad 9), .ref (ad 10), .ref (ad 11), .ref (ad 12), .ref (ad 13), .ref (ad 14), .int bn, .int bm, .ref (ad 17), .int la, .int fo, .int fi, .int lp, .ref (ad 22), .int tr_, .int sp, .int ip, .ref (ad 26), .ref (ad 27), .ref (ad 28), .ref (ad 29)])), (ad 8, .inl (E.2 0, 124, .inl (upd (upd stp (2 * ps.n) 0) (2 * ps.n + 1) (nI vv))))] := hD
              replace hq_97 : True := hq_97
              refine lv_iconst (v := 1) hx hb dX6_one_100 rfl ?_
              exact hret 1 (pq, nI (5 - 0), nI (ps.n + 1), (upd (upd stp (2 * ps.n) 0) (2 * ps.n + 1) (nI vv))) (⟨fx_bt (by rw [hRR]), by rw [hRR]; rfl, fun _ => ⟨rfl, by rw [hRR]; rfl, by rw [hRR]; exact MP_add (s := ps.to pq) hMP rfl rfl⟩⟩) (rfl) hP hD hS (Nat.le_refl _) (Nat.le_refl _) dX6_one_101
            · -- fall 51
              have n_48 := fx_le0 (a := 4) (b := kk) c_48 (by omega) (by omega)
              refine lv_aload_n hx hb dX6_one_51 rfl (lv_at hl 3 rfl) ?_
              refine fx_ci (va_runV (As := []) (rest := []) X (mX6_look l E ad im bn bm la fo fi lp tr_ sp ip pq (5 - 0) ps.n uz sa (by first | assumption | omega) (by omega) _) (cwV 0 X.2.2.2.2 (lw_V q1300 q1302 qs39 q75 q1303) rfl rfl rfl ⟨rfl, hdX6_look⟩ ⟨Nat.le_of_ble_eq_true rfl, Nat.le_of_ble_eq_true rfl⟩) (fx_preV (fx_pre hE hP hD hS hR [] rfl rfl (fx_rcm 0 rfl (by decide) (fx_rcr 0 rfl fx_rc0))) (va_recv hE.1 hP (ci := 6) (q0 := 0) rfl rfl)) rfl rfl hl.1 rfl (lv_room (Nat.le_of_ble_eq_true rfl)) dX6_one_52 ⟨Nat.le_refl _, Nat.le_refl _⟩) hP hD hS hA [] rfl rfl (fun r_52 u H locs hq_52 hP hD hS => ?_)
              replace hP : va_P E.1 clA [(ad 30, .inr (6, [.ref (ad 0), .ref (ad 1), .int im, .ref (ad 3), .int (nI pq), .int (nI (5 - 0)), .int (nI ps.n), .int (nI uz), .ref (ad 8), .ref (ad 9), .ref (ad 10), .ref (ad 11), .ref (ad 12), .ref (ad 13), .ref (ad 14), .int bn, .int bm, .ref (ad 17), .int la, .int fo, .int fi, .int lp, .ref (ad 22), .int tr_, .int sp, .int ip, .ref (ad 26), .ref (ad 27), .ref (ad 28), .ref (ad 29)])), (ad 8, .inl (E.2 0, 124, .inl stp))] _ := hP
              replace hD : va_D A [(ad 30, .inr (6, [.ref (ad 0), .ref (ad 1), .int im, .ref (ad 3), .int (nI pq), .int (nI (5 - 0)), .int (nI ps.n), .int (nI uz), .ref (ad 8), .ref (ad 9), .ref (ad 10), .ref (ad 11), .ref (ad 12), .ref (ad 13), .ref (ad 14), .int bn, .int bm, .ref (ad 17), .int la, .int fo, .int fi, .int lp, .ref (ad 22), .int tr_, .int sp, .int ip, .ref (ad 26), .ref (ad 27), .ref (ad 28), .ref (ad 29)])), (ad 8, .inl (E.2 0, 124, .inl stp))] := hD
              replace hq_52 : r_52 = lkM sa pq := hq_52
              refine fx_ti (show r_52 = (lkM sa pq) from hq_52) ?_
              refine lv_bipush (v := 48) hx hb dX6_one_55 rfl ?_
              refine lv_bipush (v := 57) hx hb dX6_one_57 rfl ?_
              refine fx_ci (va_runS (As := [.int (lkM sa pq), .int 48, .int 57]) (rest := []) X (mX6_in l E (lkM sa pq) 48 57 _) (va_cwS 3 X.2.2.2.2 (lw_S q1263 q1264 q75 q1265) rfl rfl rfl hdX6_in ⟨Nat.le_of_ble_eq_true rfl, Nat.le_of_ble_eq_true rfl⟩) (fx_pre hE hP hD hS hR [] rfl rfl fx_rc0) rfl rfl hl.1 rfl (lv_room (Nat.le_of_ble_eq_true rfl)) dX6_one_59 ⟨Nat.le_refl _, Nat.le_refl _⟩) hP hD hS hA [] rfl rfl (fun r_59 u H locs hq_59 hP hD hS => ?_)
              replace hP : va_P E.1 clA [(ad 30, .inr (6, [.ref (ad 0), .ref (ad 1), .int im, .ref (ad 3), .int (nI pq), .int (nI (5 - 0)), .int (nI ps.n), .int (nI uz), .ref (ad 8), .ref (ad 9), .ref (ad 10), .ref (ad 11), .ref (ad 12), .ref (ad 13), .ref (ad 14), .int bn, .int bm, .ref (ad 17), .int la, .int fo, .int fi, .int lp, .ref (ad 22), .int tr_, .int sp, .int ip, .ref (ad 26), .ref (ad 27), .ref (ad 28), .ref (ad 29)])), (ad 8, .inl (E.2 0, 124, .inl stp))] _ := hP
              replace hD : va_D A [(ad 30, .inr (6, [.ref (ad 0), .ref (ad 1), .int im, .ref (ad 3), .int (nI pq), .int (nI (5 - 0)), .int (nI ps.n), .int (nI uz), .ref (ad 8), .ref (ad 9), .ref (ad 10), .ref (ad 11), .ref (ad 12), .ref (ad 13), .ref (ad 14), .int bn, .int bm, .ref (ad 17), .int la, .int fo, .int fi, .int lp, .ref (ad 22), .int tr_, .int sp, .int ip, .ref (ad 26), .ref (ad 27), .ref (ad 28), .ref (ad 29)])), (ad 8, .inl (E.2 0, 124, .inl stp))] := hD
              replace hq_59 : r_59 = fx_b (inB (lkM sa pq) 48 57 = true) := hq_59
              rcases fx_bc hq_59 with ⟨hb_59, hr_59⟩ | ⟨hb_59, hr_59⟩
              · -- True
                subst hr_59
                have hdg : isDg (lkM sa pq) = true := hb_59
                have hlt := lkM_lt (dg_nm1 hdg)
                have hdn := dg_nat hdg
                have hdn2 := hdn.2
                refine lv_if_eq (tgt := 94) hx hb dX6_one_62 (by decide) (fun c => absurd c (by decide)) (fun _ => ?_)
                refine lv_bipush (v := 10) hx hb dX6_one_65 rfl ?_
                refine lv_iload_n hx hb dX6_one_67 rfl (lv_at hl 1 rfl) ?_
                refine lv_imul hx hb dX6_one_68 ?_
                refine fx_ti (pk_mul 10 vv) ?_
                refine lv_aload_n hx hb dX6_one_69 rfl (lv_at hl 3 rfl) ?_
                refine fx_ci (va_runV (As := []) (rest := [.int (nI (10 * vv))]) X (mX6_look l E ad im bn bm la fo fi lp tr_ sp ip pq (5 - 0) ps.n uz sa (by first | assumption | omega) (by omega) _) (cwV 0 X.2.2.2.2 (lw_V q1300 q1302 qs39 q75 q1303) rfl rfl rfl ⟨rfl, hdX6_look⟩ ⟨Nat.le_of_ble_eq_true rfl, Nat.le_of_ble_eq_true rfl⟩) (fx_preV (fx_pre hE hP hD hS hR [] rfl rfl (fx_rcm 0 rfl (by decide) (fx_rcr 0 rfl fx_rc0))) (va_recv hE.1 hP (ci := 6) (q0 := 0) rfl rfl)) rfl rfl hl.1 rfl (lv_room (Nat.le_of_ble_eq_true rfl)) dX6_one_70 ⟨Nat.le_refl _, Nat.le_refl _⟩) hP hD hS hA [] rfl rfl (fun r_70 u H locs hq_70 hP hD hS => ?_)
                replace hP : va_P E.1 clA [(ad 30, .inr (6, [.ref (ad 0), .ref (ad 1), .int im, .ref (ad 3), .int (nI pq), .int (nI (5 - 0)), .int (nI ps.n), .int (nI uz), .ref (ad 8), .ref (ad 9), .ref (ad 10), .ref (ad 11), .ref (ad 12), .ref (ad 13), .ref (ad 14), .int bn, .int bm, .ref (ad 17), .int la, .int fo, .int fi, .int lp, .ref (ad 22), .int tr_, .int sp, .int ip, .ref (ad 26), .ref (ad 27), .ref (ad 28), .ref (ad 29)])), (ad 8, .inl (E.2 0, 124, .inl stp))] _ := hP
                replace hD : va_D A [(ad 30, .inr (6, [.ref (ad 0), .ref (ad 1), .int im, .ref (ad 3), .int (nI pq), .int (nI (5 - 0)), .int (nI ps.n), .int (nI uz), .ref (ad 8), .ref (ad 9), .ref (ad 10), .ref (ad 11), .ref (ad 12), .ref (ad 13), .ref (ad 14), .int bn, .int bm, .ref (ad 17), .int la, .int fo, .int fi, .int lp, .ref (ad 22), .int tr_, .int sp, .int ip, .ref (ad 26), .ref (ad 27), .ref (ad 28), .ref (ad 29)])), (ad 8, .inl (E.2 0, 124, .inl stp))] := hD
                replace hq_70 : r_70 = lkM sa pq := hq_70
                refine fx_ti (show r_70 = nI (nn (lkM sa pq)) from hq_70.trans hdn.1) ?_
                refine lv_iadd hx hb dX6_one_73 ?_
                refine fx_ti (nI_add (10 * vv) (nn (lkM sa pq))) ?_
                refine lv_bipush (v := 48) hx hb dX6_one_74 rfl ?_
                refine lv_isub hx hb dX6_one_76 ?_
                refine fx_ti (pk_sub (a := 10 * vv + nn (lkM sa pq)) (b := 48) (by omega)) ?_
                refine lv_istore_n (lv' := [(2, .int (nI (10 * vv + nn (lkM sa pq) - 48))), (3, .int (nI kk)), (1, .int (lkM sa ps.p)), (0, .ref (ad 30))]) hx hb dX6_one_77 rfl hl (by decide) rfl (fun ls hl => ?_)
                refine lv_aload_n hx hb dX6_one_78 rfl (lv_at hl 3 rfl) ?_
                refine lv_dup hx hb dX6_one_79 rfl ?_
                refine fx_get X hE hP 0 rfl rfl 4 rfl q1172 rfl rfl dX6_one_80 ?_
                refine lv_iconst (v := 1) hx hb dX6_one_83 rfl ?_
                refine lv_iadd hx hb dX6_one_84 ?_
                refine fx_ti (nI_add pq 1) ?_
                refine fx_put_ (ws' := [(ad 30, .inr (6, [.ref (ad 0), .ref (ad 1), .int im, .ref (ad 3), .int (nI (pq + 1)), .int (nI (5 - 0)), .int (nI ps.n), .int (nI uz), .ref (ad 8), .ref (ad 9), .ref (ad 10), .ref (ad 11), .ref (ad 12), .ref (ad 13), .ref (ad 14), .int bn, .int bm, .ref (ad 17), .int la, .int fo, .int fi, .int lp, .ref (ad 22), .int tr_, .int sp, .int ip, .ref (ad 26), .ref (ad 27), .ref (ad 28), .ref (ad 29)])), (ad 8, .inl (E.2 0, 124, .inl stp))]) X hE hP hD hS 0 rfl rfl tyX6_ok nmX6 4 rfl q1172 rfl rfl rfl rfl rfl rfl dX6_one_85 (fun H locs hP hD hS => ?_)
                refine lv_iinc (v := nI (kk + 1)) (lv' := [(3, .int (nI (kk + 1))), (2, .int (nI (10 * vv + nn (lkM sa pq) - 48))), (1, .int (lkM sa ps.p)), (0, .ref (ad 30))]) hx hb dX6_one_88 hl (k := 1) rfl (fx_inc _) (by decide) rfl (fun ls hl => ?_)
                refine lv_goto (tgt := 46) hx hb dX6_one_91 (by decide) ?_
                exact ih_46 (10 * vv + nn (lkM sa pq) - 48) (kk + 1) (pq + 1) (by omega) (by omega) (by rw [← hN, numF_s hdg (by omega), show 10 * vv + nn (lkM sa pq) - 48 = 10 * vv + (nn (lkM sa pq) - 48) by omega]) hlt _ _ hP hD hS ls (lv_sub hl [0, 1, 2, 3] rfl)
              · -- False
                subst hr_59
                have hEE : (numF (lkM sa) 4 0 ps.p) = (vv, pq) := by rw [← hN]; exact numF_e (Or.inr hb_59)
                refine lv_if_eq (tgt := 94) hx hb dX6_one_62 (by decide) (fun _ => ?_) (fun c => (c (by decide)).elim)
                have hRR : oneF (lkM sa) uz 0 ps = (true, (ps.to pq).add 1 vv) := by rw [oneF, if_neg hb_7, if_pos (show isDg (lkM sa ps.p) = true from hb_36), hEE]
                refine lv_aload_n hx hb dX6_one_94 rfl (lv_at hl 3 rfl) ?_
                refine lv_iconst (v := 0) hx hb dX6_one_95 rfl ?_
                refine lv_iload_n hx hb dX6_one_96 rfl (lv_at hl 1 rfl) ?_
                refine fx_cv (va_runV (As := [.int 0, .int (nI vv)]) (rest := []) X (mX6_step1 l E ad im bn bm la fo fi lp tr_ sp ip pq (5 - 0) ps.n uz stp 0 (nI vv) hpl.2 _) (cwV 2 X.2.2.2.2 (lw_V q1308 q1310 qs41 q75 q1311) rfl rfl rfl ⟨rfl, hdX6_step1⟩ ⟨Nat.le_of_ble_eq_true rfl, Nat.le_of_ble_eq_true rfl⟩) (fx_preV (fx_pre hE hP hD hS hR [0, 1] rfl rfl fx_rc0) (va_recv hE.1 hP (ci := 6) (q0 := 0) rfl rfl)) rfl rfl hl.1 rfl (lv_room (Nat.le_of_ble_eq_true rfl)) dX6_one_97 ⟨Nat.le_refl _, Nat.le_refl _⟩) hP hD hS hA [0, 1] rfl rfl (fun u H locs hq_97 hP hD hS => ?_)
                replace hP : va_P E.1 clA [(ad 30, .inr (6, [.ref (ad 0), .ref (ad 1), .int im, .ref (ad 3), .int (nI pq), .int (nI (5 - 0)), .int (nI (ps.n + 1)), .int (nI uz), .ref (ad 8), .ref (ad 9), .ref (ad 10), .ref (ad 11), .ref (ad 12), .ref (ad 13), .ref (ad 14), .int bn, .int bm, .ref (ad 17), .int la, .int fo, .int fi, .int lp, .ref (ad 22), .int tr_, .int sp, .int ip, .ref (ad 26), .ref (ad 27), .ref (ad 28), .ref (ad 29)])), (ad 8, .inl (E.2 0, 124, .inl (upd (upd stp (2 * ps.n) 0) (2 * ps.n + 1) (nI vv))))] _ := hP
                replace hD : va_D A [(ad 30, .inr (6, [.ref (ad 0), .ref (ad 1), .int im, .ref (ad 3), .int (nI pq), .int (nI (5 - 0)), .int (nI (ps.n + 1)), .int (nI uz), .ref (ad 8), .ref (ad 9), .ref (ad 10), .ref (ad 11), .ref (ad 12), .ref (ad 13), .ref (ad 14), .int bn, .int bm, .ref (ad 17), .int la, .int fo, .int fi, .int lp, .ref (ad 22), .int tr_, .int sp, .int ip, .ref (ad 26), .ref (ad 27), .ref (ad 28), .ref (ad 29)])), (ad 8, .inl (E.2 0, 124, .inl (upd (upd stp (2 * ps.n) 0) (2 * ps.n + 1) (nI vv))))] := hD
                replace hq_97 : True := hq_97
                refine lv_iconst (v := 1) hx hb dX6_one_100 rfl ?_
                exact hret 1 (pq, nI (5 - 0), nI (ps.n + 1), (upd (upd stp (2 * ps.n) 0) (2 * ps.n + 1) (nI vv))) (⟨fx_bt (by rw [hRR]), by rw [hRR]; rfl, fun _ => ⟨rfl, by rw [hRR]; rfl, by rw [hRR]; exact MP_add (s := ps.to pq) hMP rfl rfl⟩⟩) (rfl) hP hD hS (Nat.le_refl _) (Nat.le_refl _) dX6_one_101
        exact loop_46 ((4 - 0) + 1) 0 0 ps.p (Nat.lt_succ_self _) (by omega) rfl hps.2.1 _ _ hP hD hS ls (lv_sub hl [0, 1, 2, 3] rfl)
      · -- False
        subst hr_36
        refine lv_if_eq (tgt := 102) hx hb dX6_one_39 (by decide) (fun _ => ?_) (fun c => (c (by decide)).elim)
        refine lv_iload_n hx hb dX6_one_102 rfl (lv_at hl 0 rfl) ?_
        refine lv_bipush (v := 33) hx hb dX6_one_103 rfl ?_
        refine lv_icmp_ne (tgt := 142) hx hb dX6_one_105 (by decide) (fun c_105 => ?_) (fun c_105 => ?_)
        · -- jump 142
          refine lv_iload_n hx hb dX6_one_142 rfl (lv_at hl 0 rfl) ?_
          refine lv_bipush (v := 40) hx hb dX6_one_143 rfl ?_
          refine lv_icmp_ne (tgt := 171) hx hb dX6_one_145 (by decide) (fun c_145 => ?_) (fun c_145 => ?_)
          · -- jump 171
            have hRR : oneF (lkM sa) uz 0 ps = (false, ps) := by rw [oneF, if_neg hb_7, if_neg (show ¬ isDg (lkM sa ps.p) = true from hb_36)]
            refine lv_iconst (v := 0) hx hb dX6_one_171 rfl ?_
            exact hret 0 (ps.p, nI (5 - 0), nI ps.n, stp) (⟨fx_bf (by rw [hRR]; exact Bool.false_ne_true), by rw [hRR], fun h => absurd h (by rw [hRR]; exact Bool.false_ne_true)⟩) (rfl) hP hD hS (Nat.le_refl _) (Nat.le_refl _) dX6_one_172
          · -- fall 148
            have hlt := lkM_lt (i := ps.p) (by rw [c_145]; decide)
            refine lv_aload_n hx hb dX6_one_148 rfl (lv_at hl 1 rfl) ?_
            refine fx_ci (va_runV (As := []) (rest := []) X (mX6_opens l E ad im bn bm la fo fi lp tr_ sp ip ps.p (5 - 0) ps.n uz (by omega) _) (cwV 0 X.2.2.2.2 (lw_V q1312 q1314 qs42 q75 q1315) rfl rfl rfl ⟨rfl, hdX6_opens⟩ ⟨Nat.le_of_ble_eq_true rfl, Nat.le_of_ble_eq_true rfl⟩) (fx_preV (fx_pre hE hP hD hS hR [0] rfl rfl fx_rc0) (va_recv hE.1 hP (ci := 6) (q0 := 0) rfl rfl)) rfl rfl hl.1 rfl (lv_room (Nat.le_of_ble_eq_true rfl)) dX6_one_149 ⟨Nat.le_refl _, Nat.le_refl _⟩) hP hD hS hA [0] rfl rfl (fun r_149 u H locs hq_149 hP hD hS => ?_)
            obtain ⟨at2_149, op2_149⟩ := u
            replace hP : va_P E.1 clA [(ad 30, .inr (6, [.ref (ad 0), .ref (ad 1), .int im, .ref (ad 3), .int at2_149, .int op2_149, .int (nI ps.n), .int (nI uz), .ref (ad 8), .ref (ad 9), .ref (ad 10), .ref (ad 11), .ref (ad 12), .ref (ad 13), .ref (ad 14), .int bn, .int bm, .ref (ad 17), .int la, .int fo, .int fi, .int lp, .ref (ad 22), .int tr_, .int sp, .int ip, .ref (ad 26), .ref (ad 27), .ref (ad 28), .ref (ad 29)])), (ad 8, .inl (E.2 0, 124, .inl stp))] _ := hP
            replace hD : va_D A [(ad 30, .inr (6, [.ref (ad 0), .ref (ad 1), .int im, .ref (ad 3), .int at2_149, .int op2_149, .int (nI ps.n), .int (nI uz), .ref (ad 8), .ref (ad 9), .ref (ad 10), .ref (ad 11), .ref (ad 12), .ref (ad 13), .ref (ad 14), .int bn, .int bm, .ref (ad 17), .int la, .int fo, .int fi, .int lp, .ref (ad 22), .int tr_, .int sp, .int ip, .ref (ad 26), .ref (ad 27), .ref (ad 28), .ref (ad 29)])), (ad 8, .inl (E.2 0, 124, .inl stp))] := hD
            replace hq_149 : r_149 = fx_b ((5 - 0) ≠ 5) ∧ ((5 - 0) ≠ 5 → at2_149 = nI (ps.p + 1) ∧ op2_149 = nI ((5 - 0) + 1)) ∧ ((5 - 0) = 5 → at2_149 = nI ps.p ∧ op2_149 = nI (5 - 0)) := hq_149
            rcases fx_bc hq_149.1 with ⟨hb_149, hr_149⟩ | ⟨hb_149, hr_149⟩
            · -- True
              subst hr_149
              exact absurd rfl hb_149
            · -- False
              subst hr_149
              obtain ⟨ha_149, ho_149⟩ := hq_149.2.2 rfl
              subst ha_149 ho_149
              refine lv_if_eq (tgt := 171) hx hb dX6_one_152 (by decide) (fun _ => ?_) (fun c => (c (by decide)).elim)
              have hRR : oneF (lkM sa) uz 0 ps = (false, ps) := by rw [oneF, if_neg hb_7, if_neg (show ¬ isDg (lkM sa ps.p) = true from hb_36)]
              refine lv_iconst (v := 0) hx hb dX6_one_171 rfl ?_
              exact hret 0 (ps.p, nI (5 - 0), nI ps.n, stp) (⟨fx_bf (by rw [hRR]; exact Bool.false_ne_true), by rw [hRR], fun h => absurd h (by rw [hRR]; exact Bool.false_ne_true)⟩) (rfl) hP hD hS (Nat.le_refl _) (Nat.le_refl _) dX6_one_172
        · -- fall 108
          have hlt := lkM_lt (i := ps.p) (by rw [c_105]; decide)
          refine lv_aload_n hx hb dX6_one_108 rfl (lv_at hl 1 rfl) ?_
          refine fx_ci (va_runV (As := []) (rest := []) X (mX6_opens l E ad im bn bm la fo fi lp tr_ sp ip ps.p (5 - 0) ps.n uz (by omega) _) (cwV 0 X.2.2.2.2 (lw_V q1312 q1314 qs42 q75 q1315) rfl rfl rfl ⟨rfl, hdX6_opens⟩ ⟨Nat.le_of_ble_eq_true rfl, Nat.le_of_ble_eq_true rfl⟩) (fx_preV (fx_pre hE hP hD hS hR [0] rfl rfl fx_rc0) (va_recv hE.1 hP (ci := 6) (q0 := 0) rfl rfl)) rfl rfl hl.1 rfl (lv_room (Nat.le_of_ble_eq_true rfl)) dX6_one_109 ⟨Nat.le_refl _, Nat.le_refl _⟩) hP hD hS hA [0] rfl rfl (fun r_109 u H locs hq_109 hP hD hS => ?_)
          obtain ⟨at2_109, op2_109⟩ := u
          replace hP : va_P E.1 clA [(ad 30, .inr (6, [.ref (ad 0), .ref (ad 1), .int im, .ref (ad 3), .int at2_109, .int op2_109, .int (nI ps.n), .int (nI uz), .ref (ad 8), .ref (ad 9), .ref (ad 10), .ref (ad 11), .ref (ad 12), .ref (ad 13), .ref (ad 14), .int bn, .int bm, .ref (ad 17), .int la, .int fo, .int fi, .int lp, .ref (ad 22), .int tr_, .int sp, .int ip, .ref (ad 26), .ref (ad 27), .ref (ad 28), .ref (ad 29)])), (ad 8, .inl (E.2 0, 124, .inl stp))] _ := hP
          replace hD : va_D A [(ad 30, .inr (6, [.ref (ad 0), .ref (ad 1), .int im, .ref (ad 3), .int at2_109, .int op2_109, .int (nI ps.n), .int (nI uz), .ref (ad 8), .ref (ad 9), .ref (ad 10), .ref (ad 11), .ref (ad 12), .ref (ad 13), .ref (ad 14), .int bn, .int bm, .ref (ad 17), .int la, .int fo, .int fi, .int lp, .ref (ad 22), .int tr_, .int sp, .int ip, .ref (ad 26), .ref (ad 27), .ref (ad 28), .ref (ad 29)])), (ad 8, .inl (E.2 0, 124, .inl stp))] := hD
          replace hq_109 : r_109 = fx_b ((5 - 0) ≠ 5) ∧ ((5 - 0) ≠ 5 → at2_109 = nI (ps.p + 1) ∧ op2_109 = nI ((5 - 0) + 1)) ∧ ((5 - 0) = 5 → at2_109 = nI ps.p ∧ op2_109 = nI (5 - 0)) := hq_109
          rcases fx_bc hq_109.1 with ⟨hb_109, hr_109⟩ | ⟨hb_109, hr_109⟩
          · -- True
            subst hr_109
            exact absurd rfl hb_109
          · -- False
            subst hr_109
            obtain ⟨ha_109, ho_109⟩ := hq_109.2.2 rfl
            subst ha_109 ho_109
            refine lv_if_eq (tgt := 122) hx hb dX6_one_112 (by decide) (fun _ => ?_) (fun c => (c (by decide)).elim)
            have hRR : oneF (lkM sa) uz 0 ps = (false, ps) := by rw [oneF, if_neg hb_7, if_neg (show ¬ isDg (lkM sa ps.p) = true from hb_36)]
            refine lv_iconst (v := 0) hx hb dX6_one_122 rfl ?_
            exact hret 0 (ps.p, nI (5 - 0), nI ps.n, stp) (⟨fx_bf (by rw [hRR]; exact Bool.false_ne_true), by rw [hRR], fun h => absurd h (by rw [hRR]; exact Bool.false_ne_true)⟩) (rfl) hP hD hS (Nat.le_refl _) (Nat.le_refl _) dX6_one_123
  | succ d ih =>
    intro ad im bn bm la fo fi lp tr_ sp ip sa stp uz ps hd hI hu hps hMP
    refine fx_iW rfl rfl ?_
    intro p e s m args below meth c A ls Q X hE hP hD hR hA hl hret
    have hx := X.1
    have hb := X.2.1
    have hS : va_S A s.heap s.heap [] := va_S.rf
    replace hP : va_P E.1 clA [(ad 30, .inr (6, [.ref (ad 0), .ref (ad 1), .int im, .ref (ad 3), .int (nI ps.p), .int (nI (5 - (d + 1))), .int (nI ps.n), .int (nI uz), .ref (ad 8), .ref (ad 9), .ref (ad 10), .ref (ad 11), .ref (ad 12), .ref (ad 13), .ref (ad 14), .int bn, .int bm, .ref (ad 17), .int la, .int fo, .int fi, .int lp, .ref (ad 22), .int tr_, .int sp, .int ip, .ref (ad 26), .ref (ad 27), .ref (ad 28), .ref (ad 29)])), (ad 8, .inl (E.2 0, 124, .inl stp))] _ := hP
    replace hD : va_D A [(ad 30, .inr (6, [.ref (ad 0), .ref (ad 1), .int im, .ref (ad 3), .int (nI ps.p), .int (nI (5 - (d + 1))), .int (nI ps.n), .int (nI uz), .ref (ad 8), .ref (ad 9), .ref (ad 10), .ref (ad 11), .ref (ad 12), .ref (ad 13), .ref (ad 14), .int bn, .int bm, .ref (ad 17), .int la, .int fo, .int fi, .int lp, .ref (ad 22), .int tr_, .int sp, .int ip, .ref (ad 26), .ref (ad 27), .ref (ad 28), .ref (ad 29)])), (ad 8, .inl (E.2 0, 124, .inl stp))] := hD
    replace hl : lv_has ls 4 [(0, .ref (ad 30))] := hl
    have htp := hI.taped.2
    have hpl := hps.le60 htp
    refine lv_aload_n hx hb dX6_one_0 rfl (lv_at hl 0 rfl) ?_
    refine fx_ci (va_runV (As := []) (rest := []) X (mX6_look l E ad im bn bm la fo fi lp tr_ sp ip ps.p (5 - (d + 1)) ps.n uz sa (by first | assumption | omega) hpl.1 _) (cwV 0 X.2.2.2.2 (lw_V q1300 q1302 qs39 q75 q1303) rfl rfl rfl ⟨rfl, hdX6_look⟩ ⟨by simp only [rmX6_look, rmX6_one] <;> omega, by simp only [rmX6_look, rmX6_one] <;> omega⟩) (fx_preV (fx_pre hE hP hD hS hR [] rfl rfl (fx_rcm 0 rfl (by decide) (fx_rcr 0 rfl fx_rc0))) (va_recv hE.1 hP (ci := 6) (q0 := 0) rfl rfl)) rfl rfl hl.1 rfl (lv_room (Nat.le_of_ble_eq_true rfl)) dX6_one_1 ⟨Nat.le_refl _, Nat.le_refl _⟩) hP hD hS hA [] rfl rfl (fun r_1 u H locs hq_1 hP hD hS => ?_)
    replace hP : va_P E.1 clA [(ad 30, .inr (6, [.ref (ad 0), .ref (ad 1), .int im, .ref (ad 3), .int (nI ps.p), .int (nI (5 - (d + 1))), .int (nI ps.n), .int (nI uz), .ref (ad 8), .ref (ad 9), .ref (ad 10), .ref (ad 11), .ref (ad 12), .ref (ad 13), .ref (ad 14), .int bn, .int bm, .ref (ad 17), .int la, .int fo, .int fi, .int lp, .ref (ad 22), .int tr_, .int sp, .int ip, .ref (ad 26), .ref (ad 27), .ref (ad 28), .ref (ad 29)])), (ad 8, .inl (E.2 0, 124, .inl stp))] _ := hP
    replace hD : va_D A [(ad 30, .inr (6, [.ref (ad 0), .ref (ad 1), .int im, .ref (ad 3), .int (nI ps.p), .int (nI (5 - (d + 1))), .int (nI ps.n), .int (nI uz), .ref (ad 8), .ref (ad 9), .ref (ad 10), .ref (ad 11), .ref (ad 12), .ref (ad 13), .ref (ad 14), .int bn, .int bm, .ref (ad 17), .int la, .int fo, .int fi, .int lp, .ref (ad 22), .int tr_, .int sp, .int ip, .ref (ad 26), .ref (ad 27), .ref (ad 28), .ref (ad 29)])), (ad 8, .inl (E.2 0, 124, .inl stp))] := hD
    replace hq_1 : r_1 = lkM sa ps.p := hq_1
    refine fx_ti (show r_1 = (lkM sa ps.p) from hq_1) ?_
    refine lv_istore_n (lv' := [(1, .int (lkM sa ps.p)), (0, .ref (ad 30))]) hx hb dX6_one_4 rfl hl (by decide) rfl (fun ls hl => ?_)
    refine lv_aload_n hx hb dX6_one_5 rfl (lv_at hl 1 rfl) ?_
    refine lv_iload_n hx hb dX6_one_6 rfl (lv_at hl 0 rfl) ?_
    refine fx_ci (va_runV (As := [.int (lkM sa ps.p)]) (rest := []) X (mX6_isName l E ad im bn bm la fo fi lp tr_ sp ip ps.p (5 - (d + 1)) ps.n uz (lkM sa ps.p) (by first | assumption | omega) _) (cwV 1 X.2.2.2.2 (lw_V q1304 q1306 qs40 q75 q1307) rfl rfl rfl ⟨rfl, hdX6_isName⟩ ⟨by simp only [rmX6_isName, rmX6_one] <;> omega, by simp only [rmX6_isName, rmX6_one] <;> omega⟩) (fx_preV (fx_pre hE hP hD hS hR [] rfl rfl (fx_rcm 0 rfl (by decide) fx_rc0)) (va_recv hE.1 hP (ci := 6) (q0 := 0) rfl rfl)) rfl rfl hl.1 rfl (lv_room (Nat.le_of_ble_eq_true rfl)) dX6_one_7 ⟨Nat.le_refl _, Nat.le_refl _⟩) hP hD hS hA [] rfl rfl (fun r_7 u H locs hq_7 hP hD hS => ?_)
    replace hP : va_P E.1 clA [(ad 30, .inr (6, [.ref (ad 0), .ref (ad 1), .int im, .ref (ad 3), .int (nI ps.p), .int (nI (5 - (d + 1))), .int (nI ps.n), .int (nI uz), .ref (ad 8), .ref (ad 9), .ref (ad 10), .ref (ad 11), .ref (ad 12), .ref (ad 13), .ref (ad 14), .int bn, .int bm, .ref (ad 17), .int la, .int fo, .int fi, .int lp, .ref (ad 22), .int tr_, .int sp, .int ip, .ref (ad 26), .ref (ad 27), .ref (ad 28), .ref (ad 29)])), (ad 8, .inl (E.2 0, 124, .inl stp))] _ := hP
    replace hD : va_D A [(ad 30, .inr (6, [.ref (ad 0), .ref (ad 1), .int im, .ref (ad 3), .int (nI ps.p), .int (nI (5 - (d + 1))), .int (nI ps.n), .int (nI uz), .ref (ad 8), .ref (ad 9), .ref (ad 10), .ref (ad 11), .ref (ad 12), .ref (ad 13), .ref (ad 14), .int bn, .int bm, .ref (ad 17), .int la, .int fo, .int fi, .int lp, .ref (ad 22), .int tr_, .int sp, .int ip, .ref (ad 26), .ref (ad 27), .ref (ad 28), .ref (ad 29)])), (ad 8, .inl (E.2 0, 124, .inl stp))] := hD
    replace hq_7 : r_7 = fx_b (isNm uz (lkM sa ps.p) = true) := hq_7
    rcases fx_bc hq_7 with ⟨hb_7, hr_7⟩ | ⟨hb_7, hr_7⟩
    · -- True
      subst hr_7
      have hlt := lkM_lt (isNm_nm1 hb_7)
      have hRR : oneF (lkM sa) uz (d + 1) ps = (true, ps.go.add 2 (nmX uz (lkM sa ps.p))) := by rw [oneF, if_pos hb_7]
      refine lv_if_eq (tgt := 31) hx hb dX6_one_10 (by decide) (fun c => absurd c (by decide)) (fun _ => ?_)
      refine lv_aload_n hx hb dX6_one_13 rfl (lv_at hl 1 rfl) ?_
      refine lv_dup hx hb dX6_one_14 rfl ?_
      refine fx_get X hE hP 0 rfl rfl 4 rfl q1172 rfl rfl dX6_one_15 ?_
      refine lv_iconst (v := 1) hx hb dX6_one_18 rfl ?_
      refine lv_iadd hx hb dX6_one_19 ?_
      refine fx_ti (nI_add ps.p 1) ?_
      refine fx_put_ (ws' := [(ad 30, .inr (6, [.ref (ad 0), .ref (ad 1), .int im, .ref (ad 3), .int (nI (ps.p + 1)), .int (nI (5 - (d + 1))), .int (nI ps.n), .int (nI uz), .ref (ad 8), .ref (ad 9), .ref (ad 10), .ref (ad 11), .ref (ad 12), .ref (ad 13), .ref (ad 14), .int bn, .int bm, .ref (ad 17), .int la, .int fo, .int fi, .int lp, .ref (ad 22), .int tr_, .int sp, .int ip, .ref (ad 26), .ref (ad 27), .ref (ad 28), .ref (ad 29)])), (ad 8, .inl (E.2 0, 124, .inl stp))]) X hE hP hD hS 0 rfl rfl tyX6_ok nmX6 4 rfl q1172 rfl rfl rfl rfl rfl rfl dX6_one_20 (fun H locs hP hD hS => ?_)
      refine lv_aload_n hx hb dX6_one_23 rfl (lv_at hl 1 rfl) ?_
      refine lv_iconst (v := 1) hx hb dX6_one_24 rfl ?_
      refine lv_iload_n hx hb dX6_one_25 rfl (lv_at hl 0 rfl) ?_
      refine fx_cv (va_runV (As := [.int 1, .int (lkM sa ps.p)]) (rest := []) X (mX6_step1 l E ad im bn bm la fo fi lp tr_ sp ip (ps.p + 1) (5 - (d + 1)) ps.n uz stp 1 (lkM sa ps.p) hpl.2 _) (cwV 2 X.2.2.2.2 (lw_V q1308 q1310 qs41 q75 q1311) rfl rfl rfl ⟨rfl, hdX6_step1⟩ ⟨by simp only [rmX6_step1, rmX6_one] <;> omega, by simp only [rmX6_step1, rmX6_one] <;> omega⟩) (fx_preV (fx_pre hE hP hD hS hR [0, 1] rfl rfl fx_rc0) (va_recv hE.1 hP (ci := 6) (q0 := 0) rfl rfl)) rfl rfl hl.1 rfl (lv_room (Nat.le_of_ble_eq_true rfl)) dX6_one_26 ⟨Nat.le_refl _, Nat.le_refl _⟩) hP hD hS hA [0, 1] rfl rfl (fun u H locs hq_26 hP hD hS => ?_)
      replace hP : va_P E.1 clA [(ad 30, .inr (6, [.ref (ad 0), .ref (ad 1), .int im, .ref (ad 3), .int (nI (ps.p + 1)), .int (nI (5 - (d + 1))), .int (nI (ps.n + 1)), .int (nI uz), .ref (ad 8), .ref (ad 9), .ref (ad 10), .ref (ad 11), .ref (ad 12), .ref (ad 13), .ref (ad 14), .int bn, .int bm, .ref (ad 17), .int la, .int fo, .int fi, .int lp, .ref (ad 22), .int tr_, .int sp, .int ip, .ref (ad 26), .ref (ad 27), .ref (ad 28), .ref (ad 29)])), (ad 8, .inl (E.2 0, 124, .inl (upd (upd stp (2 * ps.n) 1) (2 * ps.n + 1) (lkM sa ps.p))))] _ := hP
      replace hD : va_D A [(ad 30, .inr (6, [.ref (ad 0), .ref (ad 1), .int im, .ref (ad 3), .int (nI (ps.p + 1)), .int (nI (5 - (d + 1))), .int (nI (ps.n + 1)), .int (nI uz), .ref (ad 8), .ref (ad 9), .ref (ad 10), .ref (ad 11), .ref (ad 12), .ref (ad 13), .ref (ad 14), .int bn, .int bm, .ref (ad 17), .int la, .int fo, .int fi, .int lp, .ref (ad 22), .int tr_, .int sp, .int ip, .ref (ad 26), .ref (ad 27), .ref (ad 28), .ref (ad 29)])), (ad 8, .inl (E.2 0, 124, .inl (upd (upd stp (2 * ps.n) 1) (2 * ps.n + 1) (lkM sa ps.p))))] := hD
      replace hq_26 : True := hq_26
      refine lv_iconst (v := 1) hx hb dX6_one_29 rfl ?_
      exact hret 1 ((ps.p + 1), nI (5 - (d + 1)), nI (ps.n + 1), (upd (upd stp (2 * ps.n) 1) (2 * ps.n + 1) (lkM sa ps.p))) (⟨fx_bt (by rw [hRR]), by rw [hRR]; rfl, fun _ => ⟨rfl, by rw [hRR]; rfl, by rw [hRR]; exact MP_add hMP rfl (by simp only [mxv]; rw [if_neg (by decide), if_pos (by decide)]; exact isNm_c hb_7)⟩⟩) (rfl) hP hD hS (Nat.le_refl _) (Nat.le_refl _) dX6_one_30
    · -- False
      subst hr_7
      refine lv_if_eq (tgt := 31) hx hb dX6_one_10 (by decide) (fun _ => ?_) (fun c => (c (by decide)).elim)
      refine lv_iload_n hx hb dX6_one_31 rfl (lv_at hl 0 rfl) ?_
      refine lv_bipush (v := 48) hx hb dX6_one_32 rfl ?_
      refine lv_bipush (v := 57) hx hb dX6_one_34 rfl ?_
      refine fx_ci (va_runS (As := [.int (lkM sa ps.p), .int 48, .int 57]) (rest := []) X (mX6_in l E (lkM sa ps.p) 48 57 _) (va_cwS 3 X.2.2.2.2 (lw_S q1263 q1264 q75 q1265) rfl rfl rfl hdX6_in ⟨by simp only [rmX6_in, rmX6_one] <;> omega, by simp only [rmX6_in, rmX6_one] <;> omega⟩) (fx_pre hE hP hD hS hR [] rfl rfl fx_rc0) rfl rfl hl.1 rfl (lv_room (Nat.le_of_ble_eq_true rfl)) dX6_one_36 ⟨Nat.le_refl _, Nat.le_refl _⟩) hP hD hS hA [] rfl rfl (fun r_36 u H locs hq_36 hP hD hS => ?_)
      replace hP : va_P E.1 clA [(ad 30, .inr (6, [.ref (ad 0), .ref (ad 1), .int im, .ref (ad 3), .int (nI ps.p), .int (nI (5 - (d + 1))), .int (nI ps.n), .int (nI uz), .ref (ad 8), .ref (ad 9), .ref (ad 10), .ref (ad 11), .ref (ad 12), .ref (ad 13), .ref (ad 14), .int bn, .int bm, .ref (ad 17), .int la, .int fo, .int fi, .int lp, .ref (ad 22), .int tr_, .int sp, .int ip, .ref (ad 26), .ref (ad 27), .ref (ad 28), .ref (ad 29)])), (ad 8, .inl (E.2 0, 124, .inl stp))] _ := hP
      replace hD : va_D A [(ad 30, .inr (6, [.ref (ad 0), .ref (ad 1), .int im, .ref (ad 3), .int (nI ps.p), .int (nI (5 - (d + 1))), .int (nI ps.n), .int (nI uz), .ref (ad 8), .ref (ad 9), .ref (ad 10), .ref (ad 11), .ref (ad 12), .ref (ad 13), .ref (ad 14), .int bn, .int bm, .ref (ad 17), .int la, .int fo, .int fi, .int lp, .ref (ad 22), .int tr_, .int sp, .int ip, .ref (ad 26), .ref (ad 27), .ref (ad 28), .ref (ad 29)])), (ad 8, .inl (E.2 0, 124, .inl stp))] := hD
      replace hq_36 : r_36 = fx_b (inB (lkM sa ps.p) 48 57 = true) := hq_36
      rcases fx_bc hq_36 with ⟨hb_36, hr_36⟩ | ⟨hb_36, hr_36⟩
      · -- True
        subst hr_36
        refine lv_if_eq (tgt := 102) hx hb dX6_one_39 (by decide) (fun c => absurd c (by decide)) (fun _ => ?_)
        refine lv_iconst (v := 0) hx hb dX6_one_42 rfl ?_
        refine lv_istore_n (lv' := [(2, .int 0), (1, .int (lkM sa ps.p)), (0, .ref (ad 30))]) hx hb dX6_one_43 rfl hl (by decide) rfl (fun ls hl => ?_)
        refine lv_iconst (v := 0) hx hb dX6_one_44 rfl ?_
        refine lv_istore_n (lv' := [(3, .int 0), (2, .int 0), (1, .int (lkM sa ps.p)), (0, .ref (ad 30))]) hx hb dX6_one_45 rfl hl (by decide) rfl (fun ls hl => ?_)
        have loop_46 : ∀ (n_46 : Nat) (vv : Nat) (kk : Nat) (pq : Nat), (4 - kk < n_46) → (kk ≤ 4) → (numF (lkM sa) (4 - kk) vv pq = (numF (lkM sa) 4 0 ps.p)) → (pq ≤ nn (sa 3)) → ∀ (H : Heap) (locs : List Loc), va_P E.1 clA [(ad 30, .inr (6, [.ref (ad 0), .ref (ad 1), .int im, .ref (ad 3), .int (nI pq), .int (nI (5 - (d + 1))), .int (nI ps.n), .int (nI uz), .ref (ad 8), .ref (ad 9), .ref (ad 10), .ref (ad 11), .ref (ad 12), .ref (ad 13), .ref (ad 14), .int bn, .int bm, .ref (ad 17), .int la, .int fo, .int fi, .int lp, .ref (ad 22), .int tr_, .int sp, .int ip, .ref (ad 26), .ref (ad 27), .ref (ad 28), .ref (ad 29)])), (ad 8, .inl (E.2 0, 124, .inl stp))] H → va_D A [(ad 30, .inr (6, [.ref (ad 0), .ref (ad 1), .int im, .ref (ad 3), .int (nI pq), .int (nI (5 - (d + 1))), .int (nI ps.n), .int (nI uz), .ref (ad 8), .ref (ad 9), .ref (ad 10), .ref (ad 11), .ref (ad 12), .ref (ad 13), .ref (ad 14), .int bn, .int bm, .ref (ad 17), .int la, .int fo, .int fi, .int lp, .ref (ad 22), .int tr_, .int sp, .int ip, .ref (ad 26), .ref (ad 27), .ref (ad 28), .ref (ad 29)])), (ad 8, .inl (E.2 0, 124, .inl stp))] → va_S A s.heap H locs → ∀ (ls : Array Slot), lv_has ls 4 [(3, .int (nI kk)), (2, .int (nI vv)), (1, .int (lkM sa ps.p)), (0, .ref (ad 30))] → W p l e (rmX6_one (d + 1)) s m args below meth c H locs 0 0 Q (F0 m 46 ls []) := by
          intro n_46
          induction n_46 with
          | zero => intro vv kk pq hm_46; exact absurd hm_46 (Nat.not_lt_zero _)
          | succ n_46 ih_46 =>
            intro vv kk pq hm_46 hkk hN hpq H locs hP hD hS ls hl
            refine lv_iload_n hx hb dX6_one_46 rfl (lv_at hl 0 rfl) ?_
            refine lv_iconst (v := 4) hx hb dX6_one_47 rfl ?_
            refine lv_icmp_ge (tgt := 94) hx hb dX6_one_48 (by decide) (fun c_48 => ?_) (fun c_48 => ?_)
            · -- jump 94
              have n_48 := fx_le1 (a := 4) (b := kk) c_48 (by omega) (by omega)
              have hEE : (numF (lkM sa) 4 0 ps.p) = (vv, pq) := by rw [← hN]; exact numF_e (Or.inl (by omega))
              have hRR : oneF (lkM sa) uz (d + 1) ps = (true, (ps.to pq).add 1 vv) := by rw [oneF, if_neg hb_7, if_pos (show isDg (lkM sa ps.p) = true from hb_36), hEE]
              refine lv_aload_n hx hb dX6_one_94 rfl (lv_at hl 3 rfl) ?_
              refine lv_iconst (v := 0) hx hb dX6_one_95 rfl ?_
              refine lv_iload_n hx hb dX6_one_96 rfl (lv_at hl 1 rfl) ?_
              refine fx_cv (va_runV (As := [.int 0, .int (nI vv)]) (rest := []) X (mX6_step1 l E ad im bn bm la fo fi lp tr_ sp ip pq (5 - (d + 1)) ps.n uz stp 0 (nI vv) hpl.2 _) (cwV 2 X.2.2.2.2 (lw_V q1308 q1310 qs41 q75 q1311) rfl rfl rfl ⟨rfl, hdX6_step1⟩ ⟨by simp only [rmX6_step1, rmX6_one] <;> omega, by simp only [rmX6_step1, rmX6_one] <;> omega⟩) (fx_preV (fx_pre hE hP hD hS hR [0, 1] rfl rfl fx_rc0) (va_recv hE.1 hP (ci := 6) (q0 := 0) rfl rfl)) rfl rfl hl.1 rfl (lv_room (Nat.le_of_ble_eq_true rfl)) dX6_one_97 ⟨Nat.le_refl _, Nat.le_refl _⟩) hP hD hS hA [0, 1] rfl rfl (fun u H locs hq_97 hP hD hS => ?_)
              replace hP : va_P E.1 clA [(ad 30, .inr (6, [.ref (ad 0), .ref (ad 1), .int im, .ref (ad 3), .int (nI pq), .int (nI (5 - (d + 1))), .int (nI (ps.n + 1)), .int (nI uz), .ref (ad 8), .ref (ad 9), .ref (ad 10), .ref (ad 11), .ref (ad 12), .ref (ad 13), .ref (ad 14), .int bn, .int bm, .ref (ad 17), .int la, .int fo, .int fi, .int lp, .ref (ad 22), .int tr_, .int sp, .int ip, .ref (ad 26), .ref (ad 27), .ref (ad 28), .ref (ad 29)])), (ad 8, .inl (E.2 0, 124, .inl (upd (upd stp (2 * ps.n) 0) (2 * ps.n + 1) (nI vv))))] _ := hP
              replace hD : va_D A [(ad 30, .inr (6, [.ref (ad 0), .ref (ad 1), .int im, .ref (ad 3), .int (nI pq), .int (nI (5 - (d + 1))), .int (nI (ps.n + 1)), .int (nI uz), .ref (ad 8), .ref (ad 9), .ref (ad 10), .ref (ad 11), .ref (ad 12), .ref (ad 13), .ref (ad 14), .int bn, .int bm, .ref (ad 17), .int la, .int fo, .int fi, .int lp, .ref (ad 22), .int tr_, .int sp, .int ip, .ref (ad 26), .ref (ad 27), .ref (ad 28), .ref (ad 29)])), (ad 8, .inl (E.2 0, 124, .inl (upd (upd stp (2 * ps.n) 0) (2 * ps.n + 1) (nI vv))))] := hD
              replace hq_97 : True := hq_97
              refine lv_iconst (v := 1) hx hb dX6_one_100 rfl ?_
              exact hret 1 (pq, nI (5 - (d + 1)), nI (ps.n + 1), (upd (upd stp (2 * ps.n) 0) (2 * ps.n + 1) (nI vv))) (⟨fx_bt (by rw [hRR]), by rw [hRR]; rfl, fun _ => ⟨rfl, by rw [hRR]; rfl, by rw [hRR]; exact MP_add (s := ps.to pq) hMP rfl rfl⟩⟩) (rfl) hP hD hS (Nat.le_refl _) (Nat.le_refl _) dX6_one_101
            · -- fall 51
              have n_48 := fx_le0 (a := 4) (b := kk) c_48 (by omega) (by omega)
              refine lv_aload_n hx hb dX6_one_51 rfl (lv_at hl 3 rfl) ?_
              refine fx_ci (va_runV (As := []) (rest := []) X (mX6_look l E ad im bn bm la fo fi lp tr_ sp ip pq (5 - (d + 1)) ps.n uz sa (by first | assumption | omega) (by omega) _) (cwV 0 X.2.2.2.2 (lw_V q1300 q1302 qs39 q75 q1303) rfl rfl rfl ⟨rfl, hdX6_look⟩ ⟨by simp only [rmX6_look, rmX6_one] <;> omega, by simp only [rmX6_look, rmX6_one] <;> omega⟩) (fx_preV (fx_pre hE hP hD hS hR [] rfl rfl (fx_rcm 0 rfl (by decide) (fx_rcr 0 rfl fx_rc0))) (va_recv hE.1 hP (ci := 6) (q0 := 0) rfl rfl)) rfl rfl hl.1 rfl (lv_room (Nat.le_of_ble_eq_true rfl)) dX6_one_52 ⟨Nat.le_refl _, Nat.le_refl _⟩) hP hD hS hA [] rfl rfl (fun r_52 u H locs hq_52 hP hD hS => ?_)
              replace hP : va_P E.1 clA [(ad 30, .inr (6, [.ref (ad 0), .ref (ad 1), .int im, .ref (ad 3), .int (nI pq), .int (nI (5 - (d + 1))), .int (nI ps.n), .int (nI uz), .ref (ad 8), .ref (ad 9), .ref (ad 10), .ref (ad 11), .ref (ad 12), .ref (ad 13), .ref (ad 14), .int bn, .int bm, .ref (ad 17), .int la, .int fo, .int fi, .int lp, .ref (ad 22), .int tr_, .int sp, .int ip, .ref (ad 26), .ref (ad 27), .ref (ad 28), .ref (ad 29)])), (ad 8, .inl (E.2 0, 124, .inl stp))] _ := hP
              replace hD : va_D A [(ad 30, .inr (6, [.ref (ad 0), .ref (ad 1), .int im, .ref (ad 3), .int (nI pq), .int (nI (5 - (d + 1))), .int (nI ps.n), .int (nI uz), .ref (ad 8), .ref (ad 9), .ref (ad 10), .ref (ad 11), .ref (ad 12), .ref (ad 13), .ref (ad 14), .int bn, .int bm, .ref (ad 17), .int la, .int fo, .int fi, .int lp, .ref (ad 22), .int tr_, .int sp, .int ip, .ref (ad 26), .ref (ad 27), .ref (ad 28), .ref (ad 29)])), (ad 8, .inl (E.2 0, 124, .inl stp))] := hD
              replace hq_52 : r_52 = lkM sa pq := hq_52
              refine fx_ti (show r_52 = (lkM sa pq) from hq_52) ?_
              refine lv_bipush (v := 48) hx hb dX6_one_55 rfl ?_
              refine lv_bipush (v := 57) hx hb dX6_one_57 rfl ?_
              refine fx_ci (va_runS (As := [.int (lkM sa pq), .int 48, .int 57]) (rest := []) X (mX6_in l E (lkM sa pq) 48 57 _) (va_cwS 3 X.2.2.2.2 (lw_S q1263 q1264 q75 q1265) rfl rfl rfl hdX6_in ⟨by simp only [rmX6_in, rmX6_one] <;> omega, by simp only [rmX6_in, rmX6_one] <;> omega⟩) (fx_pre hE hP hD hS hR [] rfl rfl fx_rc0) rfl rfl hl.1 rfl (lv_room (Nat.le_of_ble_eq_true rfl)) dX6_one_59 ⟨Nat.le_refl _, Nat.le_refl _⟩) hP hD hS hA [] rfl rfl (fun r_59 u H locs hq_59 hP hD hS => ?_)
              replace hP : va_P E.1 clA [(ad 30, .inr (6, [.ref (ad 0), .ref (ad 1), .int im, .ref (ad 3), .int (nI pq), .int (nI (5 - (d + 1))), .int (nI ps.n), .int (nI uz), .ref (ad 8), .ref (ad 9), .ref (ad 10), .ref (ad 11), .ref (ad 12), .ref (ad 13), .ref (ad 14), .int bn, .int bm, .ref (ad 17), .int la, .int fo, .int fi, .int lp, .ref (ad 22), .int tr_, .int sp, .int ip, .ref (ad 26), .ref (ad 27), .ref (ad 28), .ref (ad 29)])), (ad 8, .inl (E.2 0, 124, .inl stp))] _ := hP
              replace hD : va_D A [(ad 30, .inr (6, [.ref (ad 0), .ref (ad 1), .int im, .ref (ad 3), .int (nI pq), .int (nI (5 - (d + 1))), .int (nI ps.n), .int (nI uz), .ref (ad 8), .ref (ad 9), .ref (ad 10), .ref (ad 11), .ref (ad 12), .ref (ad 13), .ref (ad 14), .int bn, .int bm, .ref (ad 17), .int la, .int fo, .int fi, .int lp, .ref (ad 22), .int tr_, .int sp, .int ip, .ref (ad 26), .ref (ad 27), .ref (ad 28), .ref (ad 29)])), (ad 8, .inl (E.2 0, 124, .inl stp))] := hD
              replace hq_59 : r_59 = fx_b (inB (lkM sa pq) 48 57 = true) := hq_59
              rcases fx_bc hq_59 with ⟨hb_59, hr_59⟩ | ⟨hb_59, hr_59⟩
              · -- True
                subst hr_59
                have hdg : isDg (lkM sa pq) = true := hb_59
                have hlt := lkM_lt (dg_nm1 hdg)
                have hdn := dg_nat hdg
                have hdn2 := hdn.2
                refine lv_if_eq (tgt := 94) hx hb dX6_one_62 (by decide) (fun c => absurd c (by decide)) (fun _ => ?_)
                refine lv_bipush (v := 10) hx hb dX6_one_65 rfl ?_
                refine lv_iload_n hx hb dX6_one_67 rfl (lv_at hl 1 rfl) ?_
                refine lv_imul hx hb dX6_one_68 ?_
                refine fx_ti (pk_mul 10 vv) ?_
                refine lv_aload_n hx hb dX6_one_69 rfl (lv_at hl 3 rfl) ?_
                refine fx_ci (va_runV (As := []) (rest := [.int (nI (10 * vv))]) X (mX6_look l E ad im bn bm la fo fi lp tr_ sp ip pq (5 - (d + 1)) ps.n uz sa (by first | assumption | omega) (by omega) _) (cwV 0 X.2.2.2.2 (lw_V q1300 q1302 qs39 q75 q1303) rfl rfl rfl ⟨rfl, hdX6_look⟩ ⟨by simp only [rmX6_look, rmX6_one] <;> omega, by simp only [rmX6_look, rmX6_one] <;> omega⟩) (fx_preV (fx_pre hE hP hD hS hR [] rfl rfl (fx_rcm 0 rfl (by decide) (fx_rcr 0 rfl fx_rc0))) (va_recv hE.1 hP (ci := 6) (q0 := 0) rfl rfl)) rfl rfl hl.1 rfl (lv_room (Nat.le_of_ble_eq_true rfl)) dX6_one_70 ⟨Nat.le_refl _, Nat.le_refl _⟩) hP hD hS hA [] rfl rfl (fun r_70 u H locs hq_70 hP hD hS => ?_)
                replace hP : va_P E.1 clA [(ad 30, .inr (6, [.ref (ad 0), .ref (ad 1), .int im, .ref (ad 3), .int (nI pq), .int (nI (5 - (d + 1))), .int (nI ps.n), .int (nI uz), .ref (ad 8), .ref (ad 9), .ref (ad 10), .ref (ad 11), .ref (ad 12), .ref (ad 13), .ref (ad 14), .int bn, .int bm, .ref (ad 17), .int la, .int fo, .int fi, .int lp, .ref (ad 22), .int tr_, .int sp, .int ip, .ref (ad 26), .ref (ad 27), .ref (ad 28), .ref (ad 29)])), (ad 8, .inl (E.2 0, 124, .inl stp))] _ := hP
                replace hD : va_D A [(ad 30, .inr (6, [.ref (ad 0), .ref (ad 1), .int im, .ref (ad 3), .int (nI pq), .int (nI (5 - (d + 1))), .int (nI ps.n), .int (nI uz), .ref (ad 8), .ref (ad 9), .ref (ad 10), .ref (ad 11), .ref (ad 12), .ref (ad 13), .ref (ad 14), .int bn, .int bm, .ref (ad 17), .int la, .int fo, .int fi, .int lp, .ref (ad 22), .int tr_, .int sp, .int ip, .ref (ad 26), .ref (ad 27), .ref (ad 28), .ref (ad 29)])), (ad 8, .inl (E.2 0, 124, .inl stp))] := hD
                replace hq_70 : r_70 = lkM sa pq := hq_70
                refine fx_ti (show r_70 = nI (nn (lkM sa pq)) from hq_70.trans hdn.1) ?_
                refine lv_iadd hx hb dX6_one_73 ?_
                refine fx_ti (nI_add (10 * vv) (nn (lkM sa pq))) ?_
                refine lv_bipush (v := 48) hx hb dX6_one_74 rfl ?_
                refine lv_isub hx hb dX6_one_76 ?_
                refine fx_ti (pk_sub (a := 10 * vv + nn (lkM sa pq)) (b := 48) (by omega)) ?_
                refine lv_istore_n (lv' := [(2, .int (nI (10 * vv + nn (lkM sa pq) - 48))), (3, .int (nI kk)), (1, .int (lkM sa ps.p)), (0, .ref (ad 30))]) hx hb dX6_one_77 rfl hl (by decide) rfl (fun ls hl => ?_)
                refine lv_aload_n hx hb dX6_one_78 rfl (lv_at hl 3 rfl) ?_
                refine lv_dup hx hb dX6_one_79 rfl ?_
                refine fx_get X hE hP 0 rfl rfl 4 rfl q1172 rfl rfl dX6_one_80 ?_
                refine lv_iconst (v := 1) hx hb dX6_one_83 rfl ?_
                refine lv_iadd hx hb dX6_one_84 ?_
                refine fx_ti (nI_add pq 1) ?_
                refine fx_put_ (ws' := [(ad 30, .inr (6, [.ref (ad 0), .ref (ad 1), .int im, .ref (ad 3), .int (nI (pq + 1)), .int (nI (5 - (d + 1))), .int (nI ps.n), .int (nI uz), .ref (ad 8), .ref (ad 9), .ref (ad 10), .ref (ad 11), .ref (ad 12), .ref (ad 13), .ref (ad 14), .int bn, .int bm, .ref (ad 17), .int la, .int fo, .int fi, .int lp, .ref (ad 22), .int tr_, .int sp, .int ip, .ref (ad 26), .ref (ad 27), .ref (ad 28), .ref (ad 29)])), (ad 8, .inl (E.2 0, 124, .inl stp))]) X hE hP hD hS 0 rfl rfl tyX6_ok nmX6 4 rfl q1172 rfl rfl rfl rfl rfl rfl dX6_one_85 (fun H locs hP hD hS => ?_)
                refine lv_iinc (v := nI (kk + 1)) (lv' := [(3, .int (nI (kk + 1))), (2, .int (nI (10 * vv + nn (lkM sa pq) - 48))), (1, .int (lkM sa ps.p)), (0, .ref (ad 30))]) hx hb dX6_one_88 hl (k := 1) rfl (fx_inc _) (by decide) rfl (fun ls hl => ?_)
                refine lv_goto (tgt := 46) hx hb dX6_one_91 (by decide) ?_
                exact ih_46 (10 * vv + nn (lkM sa pq) - 48) (kk + 1) (pq + 1) (by omega) (by omega) (by rw [← hN, numF_s hdg (by omega), show 10 * vv + nn (lkM sa pq) - 48 = 10 * vv + (nn (lkM sa pq) - 48) by omega]) hlt _ _ hP hD hS ls (lv_sub hl [0, 1, 2, 3] rfl)
              · -- False
                subst hr_59
                have hEE : (numF (lkM sa) 4 0 ps.p) = (vv, pq) := by rw [← hN]; exact numF_e (Or.inr hb_59)
                refine lv_if_eq (tgt := 94) hx hb dX6_one_62 (by decide) (fun _ => ?_) (fun c => (c (by decide)).elim)
                have hRR : oneF (lkM sa) uz (d + 1) ps = (true, (ps.to pq).add 1 vv) := by rw [oneF, if_neg hb_7, if_pos (show isDg (lkM sa ps.p) = true from hb_36), hEE]
                refine lv_aload_n hx hb dX6_one_94 rfl (lv_at hl 3 rfl) ?_
                refine lv_iconst (v := 0) hx hb dX6_one_95 rfl ?_
                refine lv_iload_n hx hb dX6_one_96 rfl (lv_at hl 1 rfl) ?_
                refine fx_cv (va_runV (As := [.int 0, .int (nI vv)]) (rest := []) X (mX6_step1 l E ad im bn bm la fo fi lp tr_ sp ip pq (5 - (d + 1)) ps.n uz stp 0 (nI vv) hpl.2 _) (cwV 2 X.2.2.2.2 (lw_V q1308 q1310 qs41 q75 q1311) rfl rfl rfl ⟨rfl, hdX6_step1⟩ ⟨by simp only [rmX6_step1, rmX6_one] <;> omega, by simp only [rmX6_step1, rmX6_one] <;> omega⟩) (fx_preV (fx_pre hE hP hD hS hR [0, 1] rfl rfl fx_rc0) (va_recv hE.1 hP (ci := 6) (q0 := 0) rfl rfl)) rfl rfl hl.1 rfl (lv_room (Nat.le_of_ble_eq_true rfl)) dX6_one_97 ⟨Nat.le_refl _, Nat.le_refl _⟩) hP hD hS hA [0, 1] rfl rfl (fun u H locs hq_97 hP hD hS => ?_)
                replace hP : va_P E.1 clA [(ad 30, .inr (6, [.ref (ad 0), .ref (ad 1), .int im, .ref (ad 3), .int (nI pq), .int (nI (5 - (d + 1))), .int (nI (ps.n + 1)), .int (nI uz), .ref (ad 8), .ref (ad 9), .ref (ad 10), .ref (ad 11), .ref (ad 12), .ref (ad 13), .ref (ad 14), .int bn, .int bm, .ref (ad 17), .int la, .int fo, .int fi, .int lp, .ref (ad 22), .int tr_, .int sp, .int ip, .ref (ad 26), .ref (ad 27), .ref (ad 28), .ref (ad 29)])), (ad 8, .inl (E.2 0, 124, .inl (upd (upd stp (2 * ps.n) 0) (2 * ps.n + 1) (nI vv))))] _ := hP
                replace hD : va_D A [(ad 30, .inr (6, [.ref (ad 0), .ref (ad 1), .int im, .ref (ad 3), .int (nI pq), .int (nI (5 - (d + 1))), .int (nI (ps.n + 1)), .int (nI uz), .ref (ad 8), .ref (ad 9), .ref (ad 10), .ref (ad 11), .ref (ad 12), .ref (ad 13), .ref (ad 14), .int bn, .int bm, .ref (ad 17), .int la, .int fo, .int fi, .int lp, .ref (ad 22), .int tr_, .int sp, .int ip, .ref (ad 26), .ref (ad 27), .ref (ad 28), .ref (ad 29)])), (ad 8, .inl (E.2 0, 124, .inl (upd (upd stp (2 * ps.n) 0) (2 * ps.n + 1) (nI vv))))] := hD
                replace hq_97 : True := hq_97
                refine lv_iconst (v := 1) hx hb dX6_one_100 rfl ?_
                exact hret 1 (pq, nI (5 - (d + 1)), nI (ps.n + 1), (upd (upd stp (2 * ps.n) 0) (2 * ps.n + 1) (nI vv))) (⟨fx_bt (by rw [hRR]), by rw [hRR]; rfl, fun _ => ⟨rfl, by rw [hRR]; rfl, by rw [hRR]; exact MP_add (s := ps.to pq) hMP rfl rfl⟩⟩) (rfl) hP hD hS (Nat.le_refl _) (Nat.le_refl _) dX6_one_101
        exact loop_46 ((4 - 0) + 1) 0 0 ps.p (Nat.lt_succ_self _) (by omega) rfl hps.2.1 _ _ hP hD hS ls (lv_sub hl [0, 1, 2, 3] rfl)
      · -- False
        subst hr_36
        refine lv_if_eq (tgt := 102) hx hb dX6_one_39 (by decide) (fun _ => ?_) (fun c => (c (by decide)).elim)
        refine lv_iload_n hx hb dX6_one_102 rfl (lv_at hl 0 rfl) ?_
        refine lv_bipush (v := 33) hx hb dX6_one_103 rfl ?_
        refine lv_icmp_ne (tgt := 142) hx hb dX6_one_105 (by decide) (fun c_105 => ?_) (fun c_105 => ?_)
        · -- jump 142
          refine lv_iload_n hx hb dX6_one_142 rfl (lv_at hl 0 rfl) ?_
          refine lv_bipush (v := 40) hx hb dX6_one_143 rfl ?_
          refine lv_icmp_ne (tgt := 171) hx hb dX6_one_145 (by decide) (fun c_145 => ?_) (fun c_145 => ?_)
          · -- jump 171
            have hRR : oneF (lkM sa) uz (d + 1) ps = (false, ps) := by rw [oneF, if_neg hb_7, if_neg (show ¬ isDg (lkM sa ps.p) = true from hb_36), if_neg c_105, if_neg c_145]
            refine lv_iconst (v := 0) hx hb dX6_one_171 rfl ?_
            exact hret 0 (ps.p, nI (5 - (d + 1)), nI ps.n, stp) (⟨fx_bf (by rw [hRR]; exact Bool.false_ne_true), by rw [hRR], fun h => absurd h (by rw [hRR]; exact Bool.false_ne_true)⟩) (rfl) hP hD hS (Nat.le_refl _) (Nat.le_refl _) dX6_one_172
          · -- fall 148
            have hlt := lkM_lt (i := ps.p) (by rw [c_145]; decide)
            refine lv_aload_n hx hb dX6_one_148 rfl (lv_at hl 1 rfl) ?_
            refine fx_ci (va_runV (As := []) (rest := []) X (mX6_opens l E ad im bn bm la fo fi lp tr_ sp ip ps.p (5 - (d + 1)) ps.n uz (by omega) _) (cwV 0 X.2.2.2.2 (lw_V q1312 q1314 qs42 q75 q1315) rfl rfl rfl ⟨rfl, hdX6_opens⟩ ⟨by simp only [rmX6_opens, rmX6_one] <;> omega, by simp only [rmX6_opens, rmX6_one] <;> omega⟩) (fx_preV (fx_pre hE hP hD hS hR [0] rfl rfl fx_rc0) (va_recv hE.1 hP (ci := 6) (q0 := 0) rfl rfl)) rfl rfl hl.1 rfl (lv_room (Nat.le_of_ble_eq_true rfl)) dX6_one_149 ⟨Nat.le_refl _, Nat.le_refl _⟩) hP hD hS hA [0] rfl rfl (fun r_149 u H locs hq_149 hP hD hS => ?_)
            obtain ⟨at2_149, op2_149⟩ := u
            replace hP : va_P E.1 clA [(ad 30, .inr (6, [.ref (ad 0), .ref (ad 1), .int im, .ref (ad 3), .int at2_149, .int op2_149, .int (nI ps.n), .int (nI uz), .ref (ad 8), .ref (ad 9), .ref (ad 10), .ref (ad 11), .ref (ad 12), .ref (ad 13), .ref (ad 14), .int bn, .int bm, .ref (ad 17), .int la, .int fo, .int fi, .int lp, .ref (ad 22), .int tr_, .int sp, .int ip, .ref (ad 26), .ref (ad 27), .ref (ad 28), .ref (ad 29)])), (ad 8, .inl (E.2 0, 124, .inl stp))] _ := hP
            replace hD : va_D A [(ad 30, .inr (6, [.ref (ad 0), .ref (ad 1), .int im, .ref (ad 3), .int at2_149, .int op2_149, .int (nI ps.n), .int (nI uz), .ref (ad 8), .ref (ad 9), .ref (ad 10), .ref (ad 11), .ref (ad 12), .ref (ad 13), .ref (ad 14), .int bn, .int bm, .ref (ad 17), .int la, .int fo, .int fi, .int lp, .ref (ad 22), .int tr_, .int sp, .int ip, .ref (ad 26), .ref (ad 27), .ref (ad 28), .ref (ad 29)])), (ad 8, .inl (E.2 0, 124, .inl stp))] := hD
            replace hq_149 : r_149 = fx_b ((5 - (d + 1)) ≠ 5) ∧ ((5 - (d + 1)) ≠ 5 → at2_149 = nI (ps.p + 1) ∧ op2_149 = nI ((5 - (d + 1)) + 1)) ∧ ((5 - (d + 1)) = 5 → at2_149 = nI ps.p ∧ op2_149 = nI (5 - (d + 1))) := hq_149
            rcases fx_bc hq_149.1 with ⟨hb_149, hr_149⟩ | ⟨hb_149, hr_149⟩
            · -- True
              subst hr_149
              obtain ⟨ha_149, ho_149⟩ := hq_149.2.1 hb_149
              replace ho_149 : op2_149 = nI (5 - d) := ho_149.trans (congrArg nI (by omega))
              subst ha_149 ho_149
              refine lv_if_eq (tgt := 171) hx hb dX6_one_152 (by decide) (fun c => absurd c (by decide)) (fun _ => ?_)
              refine lv_aload_n hx hb dX6_one_155 rfl (lv_at hl 1 rfl) ?_
              refine fx_ci (va_runV (As := []) (rest := []) X (mX6_whole l E ad im bn bm la fo fi lp tr_ sp ip sa stp uz ps.go d (by omega) (by first | assumption | omega) (by first | assumption | omega) (go_ok hps hlt) (show MP uz ps.go stp from hMP) ih _) (cwV 0 X.2.2.2.2 (lw_V q1276 q1278 qs33 q75 q1279) rfl rfl rfl ⟨rfl, hdX6_whole⟩ ⟨by simp only [rmX6_whole, rmX6_one] <;> omega, by simp only [rmX6_whole, rmX6_one] <;> omega⟩) (fx_preV (fx_pre hE hP hD hS hR [0, 1] rfl rfl (fx_rcr 0 rfl fx_rc0)) (va_recv hE.1 hP (ci := 6) (q0 := 0) rfl rfl)) rfl rfl hl.1 rfl (lv_room (Nat.le_of_ble_eq_true rfl)) dX6_one_156 ⟨Nat.le_refl _, Nat.le_refl _⟩) hP hD hS hA [0, 1] rfl rfl (fun r_156 u H locs hq_156 hP hD hS => ?_)
              obtain ⟨at2_156, op2_156, st2_156, stp2_156⟩ := u
              replace hP : va_P E.1 clA [(ad 30, .inr (6, [.ref (ad 0), .ref (ad 1), .int im, .ref (ad 3), .int (nI at2_156), .int op2_156, .int st2_156, .int (nI uz), .ref (ad 8), .ref (ad 9), .ref (ad 10), .ref (ad 11), .ref (ad 12), .ref (ad 13), .ref (ad 14), .int bn, .int bm, .ref (ad 17), .int la, .int fo, .int fi, .int lp, .ref (ad 22), .int tr_, .int sp, .int ip, .ref (ad 26), .ref (ad 27), .ref (ad 28), .ref (ad 29)])), (ad 8, .inl (E.2 0, 124, .inl stp2_156))] _ := hP
              replace hD : va_D A [(ad 30, .inr (6, [.ref (ad 0), .ref (ad 1), .int im, .ref (ad 3), .int (nI at2_156), .int op2_156, .int st2_156, .int (nI uz), .ref (ad 8), .ref (ad 9), .ref (ad 10), .ref (ad 11), .ref (ad 12), .ref (ad 13), .ref (ad 14), .int bn, .int bm, .ref (ad 17), .int la, .int fo, .int fi, .int lp, .ref (ad 22), .int tr_, .int sp, .int ip, .ref (ad 26), .ref (ad 27), .ref (ad 28), .ref (ad 29)])), (ad 8, .inl (E.2 0, 124, .inl stp2_156))] := hD
              replace hq_156 : r_156 = fx_b (((whlF (lkM sa) (oneF (lkM sa) uz d)) ps.go).1 = true) ∧ at2_156 = ((whlF (lkM sa) (oneF (lkM sa) uz d)) ps.go).2.p ∧ (((whlF (lkM sa) (oneF (lkM sa) uz d)) ps.go).1 = true → op2_156 = nI (5 - d) ∧ st2_156 = nI ((whlF (lkM sa) (oneF (lkM sa) uz d)) ps.go).2.n ∧ MP uz ((whlF (lkM sa) (oneF (lkM sa) uz d)) ps.go).2 stp2_156) := hq_156
              rcases fx_bc hq_156.1 with ⟨hb_156, hr_156⟩ | ⟨hb_156, hr_156⟩
              · -- True
                subst hr_156
                obtain ⟨ho_156, hs_156, hM_156⟩ := hq_156.2.2 hb_156
                have ha_156 := hq_156.2.1
                subst ho_156 hs_156 ha_156
                have hin := (whl_pp lkH ps.go (go_ok hps hlt) hb_156).1.le60 htp
                refine lv_if_eq (tgt := 171) hx hb dX6_one_159 (by decide) (fun c => absurd c (by decide)) (fun _ => ?_)
                refine lv_aload_n hx hb dX6_one_162 rfl (lv_at hl 1 rfl) ?_
                refine fx_ci (va_runV (As := []) (rest := []) X (mX6_look l E ad im bn bm la fo fi lp tr_ sp ip (((whlF (lkM sa) (oneF (lkM sa) uz d)) ps.go).2.p) (5 - d) (((whlF (lkM sa) (oneF (lkM sa) uz d)) ps.go).2.n) uz sa (by first | assumption | omega) hin.1 _) (cwV 0 X.2.2.2.2 (lw_V q1300 q1302 qs39 q75 q1303) rfl rfl rfl ⟨rfl, hdX6_look⟩ ⟨by simp only [rmX6_look, rmX6_one] <;> omega, by simp only [rmX6_look, rmX6_one] <;> omega⟩) (fx_preV (fx_pre hE hP hD hS hR [] rfl rfl (fx_rcm 0 rfl (by decide) (fx_rcr 0 rfl fx_rc0))) (va_recv hE.1 hP (ci := 6) (q0 := 0) rfl rfl)) rfl rfl hl.1 rfl (lv_room (Nat.le_of_ble_eq_true rfl)) dX6_one_163 ⟨Nat.le_refl _, Nat.le_refl _⟩) hP hD hS hA [] rfl rfl (fun r_163 u H locs hq_163 hP hD hS => ?_)
                replace hP : va_P E.1 clA [(ad 30, .inr (6, [.ref (ad 0), .ref (ad 1), .int im, .ref (ad 3), .int (nI (((whlF (lkM sa) (oneF (lkM sa) uz d)) ps.go).2.p)), .int (nI (5 - d)), .int (nI (((whlF (lkM sa) (oneF (lkM sa) uz d)) ps.go).2.n)), .int (nI uz), .ref (ad 8), .ref (ad 9), .ref (ad 10), .ref (ad 11), .ref (ad 12), .ref (ad 13), .ref (ad 14), .int bn, .int bm, .ref (ad 17), .int la, .int fo, .int fi, .int lp, .ref (ad 22), .int tr_, .int sp, .int ip, .ref (ad 26), .ref (ad 27), .ref (ad 28), .ref (ad 29)])), (ad 8, .inl (E.2 0, 124, .inl stp2_156))] _ := hP
                replace hD : va_D A [(ad 30, .inr (6, [.ref (ad 0), .ref (ad 1), .int im, .ref (ad 3), .int (nI (((whlF (lkM sa) (oneF (lkM sa) uz d)) ps.go).2.p)), .int (nI (5 - d)), .int (nI (((whlF (lkM sa) (oneF (lkM sa) uz d)) ps.go).2.n)), .int (nI uz), .ref (ad 8), .ref (ad 9), .ref (ad 10), .ref (ad 11), .ref (ad 12), .ref (ad 13), .ref (ad 14), .int bn, .int bm, .ref (ad 17), .int la, .int fo, .int fi, .int lp, .ref (ad 22), .int tr_, .int sp, .int ip, .ref (ad 26), .ref (ad 27), .ref (ad 28), .ref (ad 29)])), (ad 8, .inl (E.2 0, 124, .inl stp2_156))] := hD
                replace hq_163 : r_163 = lkM sa (((whlF (lkM sa) (oneF (lkM sa) uz d)) ps.go).2.p) := hq_163
                refine fx_ti (show r_163 = (lkM sa ((whlF (lkM sa) (oneF (lkM sa) uz d)) ps.go).2.p) from hq_163) ?_
                refine lv_bipush (v := 41) hx hb dX6_one_166 rfl ?_
                refine lv_icmp_eq (tgt := 173) hx hb dX6_one_168 (by decide) (fun c_168 => ?_) (fun c_168 => ?_)
                · -- jump 173
                  have hRR : oneF (lkM sa) uz (d + 1) ps = (true, ((whlF (lkM sa) (oneF (lkM sa) uz d)) ps.go).2.go) := by rw [oneF, if_neg hb_7, if_neg (show ¬ isDg (lkM sa ps.p) = true from hb_36), if_neg c_105, if_pos c_145, if_pos hb_156, if_pos c_168]
                  refine lv_aload_n hx hb dX6_one_173 rfl (lv_at hl 1 rfl) ?_
                  refine lv_dup hx hb dX6_one_174 rfl ?_
                  refine fx_get X hE hP 0 rfl rfl 4 rfl q1172 rfl rfl dX6_one_175 ?_
                  refine lv_iconst (v := 1) hx hb dX6_one_178 rfl ?_
                  refine lv_iadd hx hb dX6_one_179 ?_
                  refine fx_ti (nI_add (((whlF (lkM sa) (oneF (lkM sa) uz d)) ps.go).2.p) 1) ?_
                  refine fx_put_ (ws' := [(ad 30, .inr (6, [.ref (ad 0), .ref (ad 1), .int im, .ref (ad 3), .int (nI (((whlF (lkM sa) (oneF (lkM sa) uz d)) ps.go).2.p + 1)), .int (nI (5 - d)), .int (nI (((whlF (lkM sa) (oneF (lkM sa) uz d)) ps.go).2.n)), .int (nI uz), .ref (ad 8), .ref (ad 9), .ref (ad 10), .ref (ad 11), .ref (ad 12), .ref (ad 13), .ref (ad 14), .int bn, .int bm, .ref (ad 17), .int la, .int fo, .int fi, .int lp, .ref (ad 22), .int tr_, .int sp, .int ip, .ref (ad 26), .ref (ad 27), .ref (ad 28), .ref (ad 29)])), (ad 8, .inl (E.2 0, 124, .inl stp2_156))]) X hE hP hD hS 0 rfl rfl tyX6_ok nmX6 4 rfl q1172 rfl rfl rfl rfl rfl rfl dX6_one_180 (fun H locs hP hD hS => ?_)
                  refine lv_aload_n hx hb dX6_one_183 rfl (lv_at hl 1 rfl) ?_
                  refine lv_dup hx hb dX6_one_184 rfl ?_
                  refine fx_get X hE hP 0 rfl rfl 5 rfl q1173 rfl rfl dX6_one_185 ?_
                  refine lv_iconst (v := 1) hx hb dX6_one_188 rfl ?_
                  refine lv_isub hx hb dX6_one_189 ?_
                  refine fx_ti (pk_sub (a := 5 - d) (b := 1) (by omega)) ?_
                  refine fx_put_ (ws' := [(ad 30, .inr (6, [.ref (ad 0), .ref (ad 1), .int im, .ref (ad 3), .int (nI (((whlF (lkM sa) (oneF (lkM sa) uz d)) ps.go).2.p + 1)), .int (nI (5 - d - 1)), .int (nI (((whlF (lkM sa) (oneF (lkM sa) uz d)) ps.go).2.n)), .int (nI uz), .ref (ad 8), .ref (ad 9), .ref (ad 10), .ref (ad 11), .ref (ad 12), .ref (ad 13), .ref (ad 14), .int bn, .int bm, .ref (ad 17), .int la, .int fo, .int fi, .int lp, .ref (ad 22), .int tr_, .int sp, .int ip, .ref (ad 26), .ref (ad 27), .ref (ad 28), .ref (ad 29)])), (ad 8, .inl (E.2 0, 124, .inl stp2_156))]) X hE hP hD hS 0 rfl rfl tyX6_ok nmX6 5 rfl q1173 rfl rfl rfl rfl rfl rfl dX6_one_190 (fun H locs hP hD hS => ?_)
                  refine lv_iconst (v := 1) hx hb dX6_one_193 rfl ?_
                  exact hret 1 (((whlF (lkM sa) (oneF (lkM sa) uz d)) ps.go).2.p + 1, nI (5 - d - 1), nI (((whlF (lkM sa) (oneF (lkM sa) uz d)) ps.go).2.n), stp2_156) (⟨fx_bt (by rw [hRR]), by rw [hRR]; rfl, fun _ => ⟨congrArg nI (by omega), by rw [hRR]; rfl, by rw [hRR]; exact hM_156⟩⟩) (rfl) hP hD hS (Nat.le_refl _) (Nat.le_refl _) dX6_one_194
                · -- fall 171
                  have hRR : oneF (lkM sa) uz (d + 1) ps = (false, ((whlF (lkM sa) (oneF (lkM sa) uz d)) ps.go).2) := by rw [oneF, if_neg hb_7, if_neg (show ¬ isDg (lkM sa ps.p) = true from hb_36), if_neg c_105, if_pos c_145, if_pos hb_156, if_neg c_168]
                  refine lv_iconst (v := 0) hx hb dX6_one_171 rfl ?_
                  exact hret 0 (((whlF (lkM sa) (oneF (lkM sa) uz d)) ps.go).2.p, nI (5 - d), nI (((whlF (lkM sa) (oneF (lkM sa) uz d)) ps.go).2.n), stp2_156) (⟨fx_bf (by rw [hRR]; exact Bool.false_ne_true), by rw [hRR], fun h => absurd h (by rw [hRR]; exact Bool.false_ne_true)⟩) (rfl) hP hD hS (Nat.le_refl _) (Nat.le_refl _) dX6_one_172
              · -- False
                subst hr_156
                have ha_156 := hq_156.2.1
                subst ha_156
                have hRR : oneF (lkM sa) uz (d + 1) ps = (false, ((whlF (lkM sa) (oneF (lkM sa) uz d)) ps.go).2) := by rw [oneF, if_neg hb_7, if_neg (show ¬ isDg (lkM sa ps.p) = true from hb_36), if_neg c_105, if_pos c_145, if_neg hb_156]
                refine lv_if_eq (tgt := 171) hx hb dX6_one_159 (by decide) (fun _ => ?_) (fun c => (c (by decide)).elim)
                refine lv_iconst (v := 0) hx hb dX6_one_171 rfl ?_
                exact hret 0 (((whlF (lkM sa) (oneF (lkM sa) uz d)) ps.go).2.p, op2_156, st2_156, stp2_156) (⟨fx_bf (by rw [hRR]; exact Bool.false_ne_true), by rw [hRR], fun h => absurd h (by rw [hRR]; exact Bool.false_ne_true)⟩) (rfl) hP hD hS (Nat.le_refl _) (Nat.le_refl _) dX6_one_172
            · -- False
              subst hr_149
              exact absurd (show 5 - (d + 1) ≠ 5 by omega) hb_149
        · -- fall 108
          have hlt := lkM_lt (i := ps.p) (by rw [c_105]; decide)
          refine lv_aload_n hx hb dX6_one_108 rfl (lv_at hl 1 rfl) ?_
          refine fx_ci (va_runV (As := []) (rest := []) X (mX6_opens l E ad im bn bm la fo fi lp tr_ sp ip ps.p (5 - (d + 1)) ps.n uz (by omega) _) (cwV 0 X.2.2.2.2 (lw_V q1312 q1314 qs42 q75 q1315) rfl rfl rfl ⟨rfl, hdX6_opens⟩ ⟨by simp only [rmX6_opens, rmX6_one] <;> omega, by simp only [rmX6_opens, rmX6_one] <;> omega⟩) (fx_preV (fx_pre hE hP hD hS hR [0] rfl rfl fx_rc0) (va_recv hE.1 hP (ci := 6) (q0 := 0) rfl rfl)) rfl rfl hl.1 rfl (lv_room (Nat.le_of_ble_eq_true rfl)) dX6_one_109 ⟨Nat.le_refl _, Nat.le_refl _⟩) hP hD hS hA [0] rfl rfl (fun r_109 u H locs hq_109 hP hD hS => ?_)
          obtain ⟨at2_109, op2_109⟩ := u
          replace hP : va_P E.1 clA [(ad 30, .inr (6, [.ref (ad 0), .ref (ad 1), .int im, .ref (ad 3), .int at2_109, .int op2_109, .int (nI ps.n), .int (nI uz), .ref (ad 8), .ref (ad 9), .ref (ad 10), .ref (ad 11), .ref (ad 12), .ref (ad 13), .ref (ad 14), .int bn, .int bm, .ref (ad 17), .int la, .int fo, .int fi, .int lp, .ref (ad 22), .int tr_, .int sp, .int ip, .ref (ad 26), .ref (ad 27), .ref (ad 28), .ref (ad 29)])), (ad 8, .inl (E.2 0, 124, .inl stp))] _ := hP
          replace hD : va_D A [(ad 30, .inr (6, [.ref (ad 0), .ref (ad 1), .int im, .ref (ad 3), .int at2_109, .int op2_109, .int (nI ps.n), .int (nI uz), .ref (ad 8), .ref (ad 9), .ref (ad 10), .ref (ad 11), .ref (ad 12), .ref (ad 13), .ref (ad 14), .int bn, .int bm, .ref (ad 17), .int la, .int fo, .int fi, .int lp, .ref (ad 22), .int tr_, .int sp, .int ip, .ref (ad 26), .ref (ad 27), .ref (ad 28), .ref (ad 29)])), (ad 8, .inl (E.2 0, 124, .inl stp))] := hD
          replace hq_109 : r_109 = fx_b ((5 - (d + 1)) ≠ 5) ∧ ((5 - (d + 1)) ≠ 5 → at2_109 = nI (ps.p + 1) ∧ op2_109 = nI ((5 - (d + 1)) + 1)) ∧ ((5 - (d + 1)) = 5 → at2_109 = nI ps.p ∧ op2_109 = nI (5 - (d + 1))) := hq_109
          rcases fx_bc hq_109.1 with ⟨hb_109, hr_109⟩ | ⟨hb_109, hr_109⟩
          · -- True
            subst hr_109
            obtain ⟨ha_109, ho_109⟩ := hq_109.2.1 hb_109
            replace ho_109 : op2_109 = nI (5 - d) := ho_109.trans (congrArg nI (by omega))
            subst ha_109 ho_109
            refine lv_if_eq (tgt := 122) hx hb dX6_one_112 (by decide) (fun c => absurd c (by decide)) (fun _ => ?_)
            refine lv_aload_n hx hb dX6_one_115 rfl (lv_at hl 1 rfl) ?_
            refine fx_ci (va_runV (As := []) (rest := []) X (ih ad im bn bm la fo fi lp tr_ sp ip sa stp uz ps.go (by omega) (by first | assumption | omega) (by first | assumption | omega) (go_ok hps hlt) (show MP uz ps.go stp from hMP) _) (cwV 0 X.2.2.2.2 (lw_V q1296 q1298 qs38 q75 q1299) rfl rfl rfl ⟨rfl, hdX6_one⟩ ⟨by simp only [rmX6_one]; omega, by simp only [rmX6_one]; omega⟩) (fx_preV (fx_pre hE hP hD hS hR [0, 1] rfl rfl (fx_rcr 0 rfl fx_rc0)) (va_recv hE.1 hP (ci := 6) (q0 := 0) rfl rfl)) rfl rfl hl.1 rfl (lv_room (Nat.le_of_ble_eq_true rfl)) dX6_one_116 ⟨Nat.le_refl _, Nat.le_refl _⟩) hP hD hS hA [0, 1] rfl rfl (fun r_116 u H locs hq_116 hP hD hS => ?_)
            obtain ⟨at2_116, op2_116, st2_116, stp2_116⟩ := u
            replace hP : va_P E.1 clA [(ad 30, .inr (6, [.ref (ad 0), .ref (ad 1), .int im, .ref (ad 3), .int (nI at2_116), .int op2_116, .int st2_116, .int (nI uz), .ref (ad 8), .ref (ad 9), .ref (ad 10), .ref (ad 11), .ref (ad 12), .ref (ad 13), .ref (ad 14), .int bn, .int bm, .ref (ad 17), .int la, .int fo, .int fi, .int lp, .ref (ad 22), .int tr_, .int sp, .int ip, .ref (ad 26), .ref (ad 27), .ref (ad 28), .ref (ad 29)])), (ad 8, .inl (E.2 0, 124, .inl stp2_116))] _ := hP
            replace hD : va_D A [(ad 30, .inr (6, [.ref (ad 0), .ref (ad 1), .int im, .ref (ad 3), .int (nI at2_116), .int op2_116, .int st2_116, .int (nI uz), .ref (ad 8), .ref (ad 9), .ref (ad 10), .ref (ad 11), .ref (ad 12), .ref (ad 13), .ref (ad 14), .int bn, .int bm, .ref (ad 17), .int la, .int fo, .int fi, .int lp, .ref (ad 22), .int tr_, .int sp, .int ip, .ref (ad 26), .ref (ad 27), .ref (ad 28), .ref (ad 29)])), (ad 8, .inl (E.2 0, 124, .inl stp2_116))] := hD
            replace hq_116 : r_116 = fx_b ((oneF (lkM sa) uz d ps.go).1 = true) ∧ at2_116 = (oneF (lkM sa) uz d ps.go).2.p ∧ ((oneF (lkM sa) uz d ps.go).1 = true → op2_116 = nI (5 - d) ∧ st2_116 = nI (oneF (lkM sa) uz d ps.go).2.n ∧ MP uz (oneF (lkM sa) uz d ps.go).2 stp2_116) := hq_116
            rcases fx_bc hq_116.1 with ⟨hb_116, hr_116⟩ | ⟨hb_116, hr_116⟩
            · -- True
              subst hr_116
              obtain ⟨ho_116, hs_116, hM_116⟩ := hq_116.2.2 hb_116
              have ha_116 := hq_116.2.1
              subst ho_116 hs_116 ha_116
              have hin := (oneF_pp lkH d ps.go (go_ok hps hlt) hb_116).1.le60 htp
              have hRR : oneF (lkM sa) uz (d + 1) ps = (true, ((oneF (lkM sa) uz d) ps.go).2.add 3 0) := by rw [oneF, if_neg hb_7, if_neg (show ¬ isDg (lkM sa ps.p) = true from hb_36), if_pos c_105, if_pos hb_116]
              refine lv_if_ne (tgt := 124) hx hb dX6_one_119 (by decide) (fun _ => ?_) (fun c => absurd c (by decide))
              refine lv_aload_n hx hb dX6_one_124 rfl (lv_at hl 1 rfl) ?_
              refine lv_dup hx hb dX6_one_125 rfl ?_
              refine fx_get X hE hP 0 rfl rfl 5 rfl q1173 rfl rfl dX6_one_126 ?_
              refine lv_iconst (v := 1) hx hb dX6_one_129 rfl ?_
              refine lv_isub hx hb dX6_one_130 ?_
              refine fx_ti (pk_sub (a := 5 - d) (b := 1) (by omega)) ?_
              refine fx_put_ (ws' := [(ad 30, .inr (6, [.ref (ad 0), .ref (ad 1), .int im, .ref (ad 3), .int (nI (((oneF (lkM sa) uz d) ps.go).2.p)), .int (nI (5 - d - 1)), .int (nI (((oneF (lkM sa) uz d) ps.go).2.n)), .int (nI uz), .ref (ad 8), .ref (ad 9), .ref (ad 10), .ref (ad 11), .ref (ad 12), .ref (ad 13), .ref (ad 14), .int bn, .int bm, .ref (ad 17), .int la, .int fo, .int fi, .int lp, .ref (ad 22), .int tr_, .int sp, .int ip, .ref (ad 26), .ref (ad 27), .ref (ad 28), .ref (ad 29)])), (ad 8, .inl (E.2 0, 124, .inl stp2_116))]) X hE hP hD hS 0 rfl rfl tyX6_ok nmX6 5 rfl q1173 rfl rfl rfl rfl rfl rfl dX6_one_131 (fun H locs hP hD hS => ?_)
              refine lv_aload_n hx hb dX6_one_134 rfl (lv_at hl 1 rfl) ?_
              refine lv_iconst (v := 2) hx hb dX6_one_135 rfl ?_
              refine lv_iconst (v := 0) hx hb dX6_one_136 rfl ?_
              refine fx_cv (va_runV (As := [.int 2, .int 0]) (rest := []) X (mX6_step1 l E ad im bn bm la fo fi lp tr_ sp ip (((oneF (lkM sa) uz d) ps.go).2.p) (5 - d - 1) (((oneF (lkM sa) uz d) ps.go).2.n) uz stp2_116 2 0 hin.2 _) (cwV 2 X.2.2.2.2 (lw_V q1308 q1310 qs41 q75 q1311) rfl rfl rfl ⟨rfl, hdX6_step1⟩ ⟨by simp only [rmX6_step1, rmX6_one] <;> omega, by simp only [rmX6_step1, rmX6_one] <;> omega⟩) (fx_preV (fx_pre hE hP hD hS hR [0, 1] rfl rfl fx_rc0) (va_recv hE.1 hP (ci := 6) (q0 := 0) rfl rfl)) rfl rfl hl.1 rfl (lv_room (Nat.le_of_ble_eq_true rfl)) dX6_one_137 ⟨Nat.le_refl _, Nat.le_refl _⟩) hP hD hS hA [0, 1] rfl rfl (fun u H locs hq_137 hP hD hS => ?_)
              replace hP : va_P E.1 clA [(ad 30, .inr (6, [.ref (ad 0), .ref (ad 1), .int im, .ref (ad 3), .int (nI (((oneF (lkM sa) uz d) ps.go).2.p)), .int (nI (5 - d - 1)), .int (nI ((((oneF (lkM sa) uz d) ps.go).2.n) + 1)), .int (nI uz), .ref (ad 8), .ref (ad 9), .ref (ad 10), .ref (ad 11), .ref (ad 12), .ref (ad 13), .ref (ad 14), .int bn, .int bm, .ref (ad 17), .int la, .int fo, .int fi, .int lp, .ref (ad 22), .int tr_, .int sp, .int ip, .ref (ad 26), .ref (ad 27), .ref (ad 28), .ref (ad 29)])), (ad 8, .inl (E.2 0, 124, .inl (upd (upd stp2_116 (2 * (((oneF (lkM sa) uz d) ps.go).2.n)) 2) (2 * (((oneF (lkM sa) uz d) ps.go).2.n) + 1) 0)))] _ := hP
              replace hD : va_D A [(ad 30, .inr (6, [.ref (ad 0), .ref (ad 1), .int im, .ref (ad 3), .int (nI (((oneF (lkM sa) uz d) ps.go).2.p)), .int (nI (5 - d - 1)), .int (nI ((((oneF (lkM sa) uz d) ps.go).2.n) + 1)), .int (nI uz), .ref (ad 8), .ref (ad 9), .ref (ad 10), .ref (ad 11), .ref (ad 12), .ref (ad 13), .ref (ad 14), .int bn, .int bm, .ref (ad 17), .int la, .int fo, .int fi, .int lp, .ref (ad 22), .int tr_, .int sp, .int ip, .ref (ad 26), .ref (ad 27), .ref (ad 28), .ref (ad 29)])), (ad 8, .inl (E.2 0, 124, .inl (upd (upd stp2_116 (2 * (((oneF (lkM sa) uz d) ps.go).2.n)) 2) (2 * (((oneF (lkM sa) uz d) ps.go).2.n) + 1) 0)))] := hD
              replace hq_137 : True := hq_137
              refine lv_iconst (v := 1) hx hb dX6_one_140 rfl ?_
              exact hret 1 ((((oneF (lkM sa) uz d) ps.go).2.p), nI (5 - d - 1), nI ((((oneF (lkM sa) uz d) ps.go).2.n) + 1), (upd (upd stp2_116 (2 * (((oneF (lkM sa) uz d) ps.go).2.n)) 2) (2 * (((oneF (lkM sa) uz d) ps.go).2.n) + 1) 0)) (⟨fx_bt (by rw [hRR]), by rw [hRR]; rfl, fun _ => ⟨congrArg nI (by omega), by rw [hRR]; rfl, by rw [hRR]; exact MP_add hM_116 rfl rfl⟩⟩) (rfl) hP hD hS (Nat.le_refl _) (Nat.le_refl _) dX6_one_141
            · -- False
              subst hr_116
              have ha_116 := hq_116.2.1
              subst ha_116
              have hRR : oneF (lkM sa) uz (d + 1) ps = (false, ((oneF (lkM sa) uz d) ps.go).2) := by rw [oneF, if_neg hb_7, if_neg (show ¬ isDg (lkM sa ps.p) = true from hb_36), if_pos c_105, if_neg hb_116]
              refine lv_if_ne (tgt := 124) hx hb dX6_one_119 (by decide) (fun c => (c (by decide)).elim) (fun _ => ?_)
              refine lv_iconst (v := 0) hx hb dX6_one_122 rfl ?_
              exact hret 0 (((oneF (lkM sa) uz d) ps.go).2.p, op2_116, st2_116, stp2_116) (⟨fx_bf (by rw [hRR]; exact Bool.false_ne_true), by rw [hRR], fun h => absurd h (by rw [hRR]; exact Bool.false_ne_true)⟩) (rfl) hP hD hS (Nat.le_refl _) (Nat.le_refl _) dX6_one_123
          · -- False
            subst hr_109
            exact absurd (show 5 - (d + 1) ≠ 5 by omega) hb_109
