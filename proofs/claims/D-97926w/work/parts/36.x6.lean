set_option maxRecDepth 100000
theorem hdX0_thing : yX0_thing.cls ≠ "java/lang/invoke/MethodHandle" ∧ yX0_thing.cls ≠ "java/lang/invoke/VarHandle" ∧ (parseMethodDescriptor yX0_thing.desc).map (fun d => d.parameters.length) = some 3 := by decide +kernel
theorem hdX0_thingIs : yX0_thingIs.cls ≠ "java/lang/invoke/MethodHandle" ∧ yX0_thingIs.cls ≠ "java/lang/invoke/VarHandle" ∧ (parseMethodDescriptor yX0_thingIs.desc).map (fun d => d.parameters.length) = some 2 := by decide +kernel
abbrev rxX0_thing : Room := { frames := 2, cells := 0, slots := 0, locals := 42 }
set_option maxHeartbeats 400000 in
set_option maxRecDepth 100000 in
theorem xX0_thing (l : Launch) (E : fx_En) (ax : Nat → Nat) (im : Int32) (bn : Int32) (bm : Int32) (fm : Int32) (ff : Int32) (fl : Int32) (tk : Int32) (cs : Int32) (gs : Int32) (zz : Int32) (tp : Int32) (wg : Int32) (er : Nat → Int32) (sa : Nat → Int32) (pr : Nat → Int32) (co : Nat → Int32) (st0 : Nat → Int32) (th : Int32) (wh : Int32) (v : Int32) (hpr : rl pr sa 8 8) (hco : rl co sa 16 8) (hst : rl st0 sa 24 8) : fx_Mi l yX0_thing cX0_thing 6 .int rxX0_thing E [.ref (ax 19), .int th, .int wh, .int v] [(ax 5, .inl (E.2 0, 7, .inl er)), (ax 20, .inl (E.2 0, 8, .inl pr)), (ax 21, .inl (E.2 0, 8, .inl co)), (ax 22, .inl (E.2 0, 8, .inl st0))] [(ax 19, .inr (0, [.ref (ax 0), .ref (ax 1), .ref (ax 35), .ref (ax 55), .ref (ax 4), .ref (ax 5), .ref (ax 6), .ref (ax 7), .int im, .ref (ax 9), .ref (ax 10), .ref (ax 11), .ref (ax 12), .ref (ax 13), .int bn, .int bm, .int fm, .int ff, .int fl])), (ax 35, .inr (1, [.ref (ax 20), .ref (ax 21), .ref (ax 22), .int tk, .int cs, .int gs, .int zz, .int tp, .int wg, .ref (ax 29), .ref (ax 30), .ref (ax 31), .ref (ax 32)]))] (S := (Nat → Int32) × (Nat → Int32) × (Nat → Int32) × (Nat → Int32)) (fun (u : (Nat → Int32) × (Nat → Int32) × (Nat → Int32) × (Nat → Int32)) => [(ax 5, .inl (E.2 0, 7, .inl u.1)), (ax 20, .inl (E.2 0, 8, .inl u.2.1)), (ax 21, .inl (E.2 0, 8, .inl u.2.2.1)), (ax 22, .inl (E.2 0, 8, .inl u.2.2.2))]) (fun (r : Int32) (u : (Nat → Int32) × (Nat → Int32) × (Nat → Int32) × (Nat → Int32)) => r = (thing_ sa er th wh v).1 ∧ u.1 = (thing_ sa er th wh v).2.2 ∧ rl u.2.1 (thing_ sa er th wh v).2.1 8 8 ∧ rl u.2.2.1 (thing_ sa er th wh v).2.1 16 8 ∧ rl u.2.2.2 (thing_ sa er th wh v).2.1 24 8) := by
  refine fx_iW rfl rfl ?_
  intro p e s m args below meth c A ls Q X hE hP hD hR hA hl hret
  have hx := X.1
  have hb := X.2.1
  have hS : va_S A s.heap s.heap [] := va_S.rf
  replace hP : va_P E.1 clA [(ax 5, .inl (E.2 0, 7, .inl er)), (ax 20, .inl (E.2 0, 8, .inl pr)), (ax 21, .inl (E.2 0, 8, .inl co)), (ax 22, .inl (E.2 0, 8, .inl st0))] _ := hP
  replace hD : va_D A [(ax 5, .inl (E.2 0, 7, .inl er)), (ax 20, .inl (E.2 0, 8, .inl pr)), (ax 21, .inl (E.2 0, 8, .inl co)), (ax 22, .inl (E.2 0, 8, .inl st0))] := hD
  replace hl : lv_has ls 6 [(0, .ref (ax 19)), (1, .int th), (2, .int wh), (3, .int v)] := hl
  refine lv_iload_n hx hb dX0_thing_0 rfl (lv_at hl 1 rfl) ?_
  refine fx_ci (va_runS (As := [.int th]) (rest := []) X (xX0_isThing l E th _) (va_cwS 1 X.2.2.2.2 (lw_S q297 q298 q69 q299) rfl rfl rfl hdX0_isThing ⟨Nat.le_of_ble_eq_true rfl, Nat.le_of_ble_eq_true rfl⟩) (fx_pre hE hP hD hS hR [] rfl rfl fx_rc0) rfl rfl hl.1 rfl (lv_room (Nat.le_of_ble_eq_true rfl)) dX0_thing_1 ⟨Nat.le_refl _, Nat.le_refl _⟩) hP hD hS hA [] rfl rfl (fun r_1 u H locs hq_1 hP hD hS => ?_)
  replace hP : va_P E.1 clA [(ax 5, .inl (E.2 0, 7, .inl er)), (ax 20, .inl (E.2 0, 8, .inl pr)), (ax 21, .inl (E.2 0, 8, .inl co)), (ax 22, .inl (E.2 0, 8, .inl st0))] _ := hP
  replace hD : va_D A [(ax 5, .inl (E.2 0, 7, .inl er)), (ax 20, .inl (E.2 0, 8, .inl pr)), (ax 21, .inl (E.2 0, 8, .inl co)), (ax 22, .inl (E.2 0, 8, .inl st0))] := hD
  replace hq_1 : r_1 = fx_b (inB th 0 7 = true) := hq_1
  rcases fx_bc hq_1 with ⟨hb_1, hr_1⟩ | ⟨hb_1, hr_1⟩
  · -- True
    subst hr_1
    refine lv_if_eq (tgt := 45) hx hb dX0_thing_4 (by decide) (fun c => absurd c (by decide)) (fun _ => ?_)
    refine lv_iload_n hx hb dX0_thing_7 rfl (lv_at hl 2 rfl) ?_
    refine lv_iconst (v := 0) hx hb dX0_thing_8 rfl ?_
    refine lv_iconst (v := 2) hx hb dX0_thing_9 rfl ?_
    refine fx_ci (va_runS (As := [.int wh, .int 0, .int 2]) (rest := []) X (xX0_isIn l E wh 0 2 _) (va_cwS 3 X.2.2.2.2 (lw_S q300 q301 q69 q302) rfl rfl rfl hdX0_isIn ⟨Nat.le_of_ble_eq_true rfl, Nat.le_of_ble_eq_true rfl⟩) (fx_pre hE hP hD hS hR [] rfl rfl fx_rc0) rfl rfl hl.1 rfl (lv_room (Nat.le_of_ble_eq_true rfl)) dX0_thing_10 ⟨Nat.le_refl _, Nat.le_refl _⟩) hP hD hS hA [] rfl rfl (fun r_10 u H locs hq_10 hP hD hS => ?_)
    replace hP : va_P E.1 clA [(ax 5, .inl (E.2 0, 7, .inl er)), (ax 20, .inl (E.2 0, 8, .inl pr)), (ax 21, .inl (E.2 0, 8, .inl co)), (ax 22, .inl (E.2 0, 8, .inl st0))] _ := hP
    replace hD : va_D A [(ax 5, .inl (E.2 0, 7, .inl er)), (ax 20, .inl (E.2 0, 8, .inl pr)), (ax 21, .inl (E.2 0, 8, .inl co)), (ax 22, .inl (E.2 0, 8, .inl st0))] := hD
    replace hq_10 : r_10 = fx_b (inB wh 0 2 = true) := hq_10
    rcases fx_bc hq_10 with ⟨hb_10, hr_10⟩ | ⟨hb_10, hr_10⟩
    · -- True
      subst hr_10
      refine lv_if_eq (tgt := 45) hx hb dX0_thing_13 (by decide) (fun c => absurd c (by decide)) (fun _ => ?_)
      refine lv_iload_n hx hb dX0_thing_16 rfl (lv_at hl 3 rfl) ?_
      refine lv_iload_n hx hb dX0_thing_17 rfl (lv_at hl 2 rfl) ?_
      refine lv_if_ne (tgt := 25) hx hb dX0_thing_18 (by decide) (fun c_18 => ?_) (fun c_18 => ?_)
      · -- jump 25
        refine lv_iconst (v := 0) hx hb dX0_thing_25 rfl ?_
        refine lv_iload_n hx hb dX0_thing_26 rfl (lv_at hl 2 rfl) ?_
        refine lv_iconst (v := 2) hx hb dX0_thing_27 rfl ?_
        refine lv_icmp_ne (tgt := 36) hx hb dX0_thing_28 (by decide) (fun c_28 => ?_) (fun c_28 => ?_)
        · -- jump 36
          obtain rfl : wh = 1 := by have h2 := inB_nn (n := 2) hb_10 (by omega); have h3 : nn wh ≠ 0 := fun h => c_18 (by rw [h2.1, h]; rfl); have h4 : nn wh ≠ 2 := fun h => c_28 (by rw [h2.1, h]; rfl); rw [h2.1, show nn wh = 1 by omega]; rfl
          refine lv_sipush (v := 9999) hx hb dX0_thing_36 rfl ?_
          refine fx_ci (va_runS (As := [.int v, .int 0, .int 9999]) (rest := []) X (xX0_isIn l E v 0 9999 _) (va_cwS 3 X.2.2.2.2 (lw_S q300 q301 q69 q302) rfl rfl rfl hdX0_isIn ⟨Nat.le_of_ble_eq_true rfl, Nat.le_of_ble_eq_true rfl⟩) (fx_pre hE hP hD hS hR [] rfl rfl fx_rc0) rfl rfl hl.1 rfl (lv_room (Nat.le_of_ble_eq_true rfl)) dX0_thing_39 ⟨Nat.le_refl _, Nat.le_refl _⟩) hP hD hS hA [] rfl rfl (fun r_39 u H locs hq_39 hP hD hS => ?_)
          replace hP : va_P E.1 clA [(ax 5, .inl (E.2 0, 7, .inl er)), (ax 20, .inl (E.2 0, 8, .inl pr)), (ax 21, .inl (E.2 0, 8, .inl co)), (ax 22, .inl (E.2 0, 8, .inl st0))] _ := hP
          replace hD : va_D A [(ax 5, .inl (E.2 0, 7, .inl er)), (ax 20, .inl (E.2 0, 8, .inl pr)), (ax 21, .inl (E.2 0, 8, .inl co)), (ax 22, .inl (E.2 0, 8, .inl st0))] := hD
          replace hq_39 : r_39 = fx_b (inB v 0 9999 = true) := hq_39
          rcases fx_bc hq_39 with ⟨hb_39, hr_39⟩ | ⟨hb_39, hr_39⟩
          · -- True
            subst hr_39
            refine lv_if_ne (tgt := 51) hx hb dX0_thing_42 (by decide) (fun _ => ?_) (fun c => absurd c (by decide))
            have hTh : thing_ sa er th 1 v = (sa (8 + 8 * nn 1 + nn th), upd sa (8 + 8 * nn 1 + nn th) v, er) := by rw [thing_, if_pos (by simp [hb_1, hb_39, hb_10])]
            have hnw : nn (1 : Int32) = 1 := by decide
            have gn := inB_nn (n := 7) hb_1 (by omega)
            have g1 := gn.2
            refine lv_iload_n hx hb dX0_thing_51 rfl (lv_at hl 2 rfl) ?_
            refine lv_if_ne (tgt := 65) hx hb dX0_thing_52 (by decide) (fun _ => ?_) (fun c => absurd c (by decide))
            refine lv_iload_n hx hb dX0_thing_65 rfl (lv_at hl 2 rfl) ?_
            refine lv_iconst (v := 1) hx hb dX0_thing_66 rfl ?_
            refine lv_icmp_ne (tgt := 80) hx hb dX0_thing_67 (by decide) (fun c => (c (by decide)).elim) (fun _ => ?_)
            refine lv_aload_n hx hb dX0_thing_70 rfl (lv_at hl 0 rfl) ?_
            refine fx_get X hE (hR.at hS) 0 rfl rfl 2 rfl q237 rfl rfl dX0_thing_71 ?_
            refine fx_getN X hE (hR.at hS) 1 rfl rfl 1 rfl 4 rfl rfl rfl dX0_thing_74 ?_
            refine lv_goto (tgt := 87) hx hb dX0_thing_77 (by decide) ?_
            refine lv_astore (lv' := [(4, .ref (ax 21)), (0, .ref (ax 19)), (1, .int th), (2, .int 1), (3, .int v)]) hx hb dX0_thing_87 hl (by decide) rfl (fun ls hl => ?_)
            refine lv_aload hx hb dX0_thing_89 (lv_at hl 0 rfl) ?_
            refine lv_iload_n hx hb dX0_thing_91 rfl (lv_at hl 2 rfl) ?_
            refine fx_ti (show th = nI (nn th) from gn.1) ?_
            refine fx_iald X hE hP 2 rfl (nn th) rfl (by omega) rfl dX0_thing_92 ?_
            refine lv_istore (lv' := [(5, .int (co (nn th))), (4, .ref (ax 21)), (0, .ref (ax 19)), (1, .int th), (2, .int 1), (3, .int v)]) hx hb dX0_thing_93 hl (by decide) rfl (fun ls hl => ?_)
            refine lv_aload hx hb dX0_thing_95 (lv_at hl 1 rfl) ?_
            refine lv_iload_n hx hb dX0_thing_97 rfl (lv_at hl 3 rfl) ?_
            refine fx_ti (show th = nI (nn th) from gn.1) ?_
            refine lv_iload_n hx hb dX0_thing_98 rfl (lv_at hl 5 rfl) ?_
            refine fx_iast (ws' := [(ax 5, .inl (E.2 0, 7, .inl er)), (ax 20, .inl (E.2 0, 8, .inl pr)), (ax 21, .inl (E.2 0, 8, .inl (upd co (nn th) v))), (ax 22, .inl (E.2 0, 8, .inl st0))]) X hE hP hD hS 2 rfl (nn th) rfl (by omega) rfl rfl dX0_thing_99 (fun H locs hP hD hS => ?_)
            refine lv_iload hx hb dX0_thing_100 (lv_at hl 0 rfl) ?_
            exact hret (co (nn th)) (er, pr, (upd co (nn th) v), st0) (⟨(by rw [hTh]; show _ = sa (8 + 8 * nn 1 + nn th); rw [hnw]; exact (hco _ (by omega)).trans (congrArg sa (by omega))), by rw [hTh], by rw [hTh]; show rl _ (upd sa (8 + 8 * nn 1 + nn th) v) _ _; rw [hnw]; exact rl_n hpr (by omega), by rw [hTh]; show rl _ (upd sa (8 + 8 * nn 1 + nn th) v) _ _; rw [hnw]; exact rl_s hco (by omega), by rw [hTh]; show rl _ (upd sa (8 + 8 * nn 1 + nn th) v) _ _; rw [hnw]; exact rl_n hst (by omega)⟩) (rfl) hP hD hS (Nat.le_refl _) (Nat.le_refl _) dX0_thing_102
          · -- False
            subst hr_39
            refine lv_if_ne (tgt := 51) hx hb dX0_thing_42 (by decide) (fun c => (c (by decide)).elim) (fun _ => ?_)
            refine lv_aload_n hx hb dX0_thing_45 rfl (lv_at hl 0 rfl) ?_
            refine lv_iconst (v := 1) hx hb dX0_thing_46 rfl ?_
            refine fx_ci (va_runV (As := [.int 1]) (rest := []) X (xX0_finds l E ax im bn bm fm ff fl er 1 (by decide) _) (cwV 1 X.2.2.2.2 (lw_V q303 q305 qs0 q69 q306) rfl rfl rfl ⟨rfl, hdX0_finds⟩ ⟨Nat.le_of_ble_eq_true rfl, Nat.le_of_ble_eq_true rfl⟩) (fx_preV (fx_pre hE hP hD hS hR [0] rfl rfl (fx_rcr 0 rfl fx_rc0)) (va_recv hE.1 (hR.at hS) (ci := 0) (q0 := 0) rfl rfl)) rfl rfl hl.1 rfl (lv_room (Nat.le_of_ble_eq_true rfl)) dX0_thing_47 ⟨Nat.le_refl _, Nat.le_refl _⟩) hP hD hS hA [0] rfl rfl (fun r_47 u H locs hq_47 hP hD hS => ?_)
            replace hP : va_P E.1 clA [(ax 5, .inl (E.2 0, 7, .inl (upd er 1 (er 1 + 1)))), (ax 20, .inl (E.2 0, 8, .inl pr)), (ax 21, .inl (E.2 0, 8, .inl co)), (ax 22, .inl (E.2 0, 8, .inl st0))] _ := hP
            replace hD : va_D A [(ax 5, .inl (E.2 0, 7, .inl (upd er 1 (er 1 + 1)))), (ax 20, .inl (E.2 0, 8, .inl pr)), (ax 21, .inl (E.2 0, 8, .inl co)), (ax 22, .inl (E.2 0, 8, .inl st0))] := hD
            replace hq_47 : r_47 = erv 1 := hq_47
            exact hret r_47 ((upd er 1 (er 1 + 1)), pr, co, st0) (⟨by rw [hq_47]; simp [thing_, erI, hb_1, hb_10, hb_39], by simp [thing_, erI, hb_1, hb_10, hb_39], by simp [thing_, hb_1, hb_10, hb_39]; exact hpr, by simp [thing_, hb_1, hb_10, hb_39]; exact hco, by simp [thing_, hb_1, hb_10, hb_39]; exact hst⟩) (rfl) hP hD hS (Nat.le_refl _) (Nat.le_refl _) dX0_thing_50
        · -- fall 31
          subst c_28
          refine lv_bipush (v := 99) hx hb dX0_thing_31 rfl ?_
          refine lv_goto (tgt := 39) hx hb dX0_thing_33 (by decide) ?_
          refine fx_ci (va_runS (As := [.int v, .int 0, .int 99]) (rest := []) X (xX0_isIn l E v 0 99 _) (va_cwS 3 X.2.2.2.2 (lw_S q300 q301 q69 q302) rfl rfl rfl hdX0_isIn ⟨Nat.le_of_ble_eq_true rfl, Nat.le_of_ble_eq_true rfl⟩) (fx_pre hE hP hD hS hR [] rfl rfl fx_rc0) rfl rfl hl.1 rfl (lv_room (Nat.le_of_ble_eq_true rfl)) dX0_thing_39 ⟨Nat.le_refl _, Nat.le_refl _⟩) hP hD hS hA [] rfl rfl (fun r_39 u H locs hq_39 hP hD hS => ?_)
          replace hP : va_P E.1 clA [(ax 5, .inl (E.2 0, 7, .inl er)), (ax 20, .inl (E.2 0, 8, .inl pr)), (ax 21, .inl (E.2 0, 8, .inl co)), (ax 22, .inl (E.2 0, 8, .inl st0))] _ := hP
          replace hD : va_D A [(ax 5, .inl (E.2 0, 7, .inl er)), (ax 20, .inl (E.2 0, 8, .inl pr)), (ax 21, .inl (E.2 0, 8, .inl co)), (ax 22, .inl (E.2 0, 8, .inl st0))] := hD
          replace hq_39 : r_39 = fx_b (inB v 0 99 = true) := hq_39
          rcases fx_bc hq_39 with ⟨hb_39, hr_39⟩ | ⟨hb_39, hr_39⟩
          · -- True
            subst hr_39
            refine lv_if_ne (tgt := 51) hx hb dX0_thing_42 (by decide) (fun _ => ?_) (fun c => absurd c (by decide))
            have hTh : thing_ sa er th 2 v = (sa (8 + 8 * nn 2 + nn th), upd sa (8 + 8 * nn 2 + nn th) v, er) := by rw [thing_, if_pos (by simp [hb_1, hb_39, hb_10])]
            have hnw : nn (2 : Int32) = 2 := by decide
            have gn := inB_nn (n := 7) hb_1 (by omega)
            have g1 := gn.2
            refine lv_iload_n hx hb dX0_thing_51 rfl (lv_at hl 2 rfl) ?_
            refine lv_if_ne (tgt := 65) hx hb dX0_thing_52 (by decide) (fun _ => ?_) (fun c => absurd c (by decide))
            refine lv_iload_n hx hb dX0_thing_65 rfl (lv_at hl 2 rfl) ?_
            refine lv_iconst (v := 1) hx hb dX0_thing_66 rfl ?_
            refine lv_icmp_ne (tgt := 80) hx hb dX0_thing_67 (by decide) (fun _ => ?_) (fun c => absurd c (by decide))
            refine lv_aload_n hx hb dX0_thing_80 rfl (lv_at hl 0 rfl) ?_
            refine fx_get X hE (hR.at hS) 0 rfl rfl 2 rfl q237 rfl rfl dX0_thing_81 ?_
            refine fx_getN X hE (hR.at hS) 1 rfl rfl 2 rfl 5 rfl rfl rfl dX0_thing_84 ?_
            refine lv_astore (lv' := [(4, .ref (ax 22)), (0, .ref (ax 19)), (1, .int th), (2, .int 2), (3, .int v)]) hx hb dX0_thing_87 hl (by decide) rfl (fun ls hl => ?_)
            refine lv_aload hx hb dX0_thing_89 (lv_at hl 0 rfl) ?_
            refine lv_iload_n hx hb dX0_thing_91 rfl (lv_at hl 2 rfl) ?_
            refine fx_ti (show th = nI (nn th) from gn.1) ?_
            refine fx_iald X hE hP 3 rfl (nn th) rfl (by omega) rfl dX0_thing_92 ?_
            refine lv_istore (lv' := [(5, .int (st0 (nn th))), (4, .ref (ax 22)), (0, .ref (ax 19)), (1, .int th), (2, .int 2), (3, .int v)]) hx hb dX0_thing_93 hl (by decide) rfl (fun ls hl => ?_)
            refine lv_aload hx hb dX0_thing_95 (lv_at hl 1 rfl) ?_
            refine lv_iload_n hx hb dX0_thing_97 rfl (lv_at hl 3 rfl) ?_
            refine fx_ti (show th = nI (nn th) from gn.1) ?_
            refine lv_iload_n hx hb dX0_thing_98 rfl (lv_at hl 5 rfl) ?_
            refine fx_iast (ws' := [(ax 5, .inl (E.2 0, 7, .inl er)), (ax 20, .inl (E.2 0, 8, .inl pr)), (ax 21, .inl (E.2 0, 8, .inl co)), (ax 22, .inl (E.2 0, 8, .inl (upd st0 (nn th) v)))]) X hE hP hD hS 3 rfl (nn th) rfl (by omega) rfl rfl dX0_thing_99 (fun H locs hP hD hS => ?_)
            refine lv_iload hx hb dX0_thing_100 (lv_at hl 0 rfl) ?_
            exact hret (st0 (nn th)) (er, pr, co, (upd st0 (nn th) v)) (⟨(by rw [hTh]; show _ = sa (8 + 8 * nn 2 + nn th); rw [hnw]; exact (hst _ (by omega)).trans (congrArg sa (by omega))), by rw [hTh], by rw [hTh]; show rl _ (upd sa (8 + 8 * nn 2 + nn th) v) _ _; rw [hnw]; exact rl_n hpr (by omega), by rw [hTh]; show rl _ (upd sa (8 + 8 * nn 2 + nn th) v) _ _; rw [hnw]; exact rl_n hco (by omega), by rw [hTh]; show rl _ (upd sa (8 + 8 * nn 2 + nn th) v) _ _; rw [hnw]; exact rl_s hst (by omega)⟩) (rfl) hP hD hS (Nat.le_refl _) (Nat.le_refl _) dX0_thing_102
          · -- False
            subst hr_39
            refine lv_if_ne (tgt := 51) hx hb dX0_thing_42 (by decide) (fun c => (c (by decide)).elim) (fun _ => ?_)
            refine lv_aload_n hx hb dX0_thing_45 rfl (lv_at hl 0 rfl) ?_
            refine lv_iconst (v := 1) hx hb dX0_thing_46 rfl ?_
            refine fx_ci (va_runV (As := [.int 1]) (rest := []) X (xX0_finds l E ax im bn bm fm ff fl er 1 (by decide) _) (cwV 1 X.2.2.2.2 (lw_V q303 q305 qs0 q69 q306) rfl rfl rfl ⟨rfl, hdX0_finds⟩ ⟨Nat.le_of_ble_eq_true rfl, Nat.le_of_ble_eq_true rfl⟩) (fx_preV (fx_pre hE hP hD hS hR [0] rfl rfl (fx_rcr 0 rfl fx_rc0)) (va_recv hE.1 (hR.at hS) (ci := 0) (q0 := 0) rfl rfl)) rfl rfl hl.1 rfl (lv_room (Nat.le_of_ble_eq_true rfl)) dX0_thing_47 ⟨Nat.le_refl _, Nat.le_refl _⟩) hP hD hS hA [0] rfl rfl (fun r_47 u H locs hq_47 hP hD hS => ?_)
            replace hP : va_P E.1 clA [(ax 5, .inl (E.2 0, 7, .inl (upd er 1 (er 1 + 1)))), (ax 20, .inl (E.2 0, 8, .inl pr)), (ax 21, .inl (E.2 0, 8, .inl co)), (ax 22, .inl (E.2 0, 8, .inl st0))] _ := hP
            replace hD : va_D A [(ax 5, .inl (E.2 0, 7, .inl (upd er 1 (er 1 + 1)))), (ax 20, .inl (E.2 0, 8, .inl pr)), (ax 21, .inl (E.2 0, 8, .inl co)), (ax 22, .inl (E.2 0, 8, .inl st0))] := hD
            replace hq_47 : r_47 = erv 1 := hq_47
            exact hret r_47 ((upd er 1 (er 1 + 1)), pr, co, st0) (⟨by rw [hq_47]; simp [thing_, erI, hb_1, hb_10, hb_39], by simp [thing_, erI, hb_1, hb_10, hb_39], by simp [thing_, hb_1, hb_10, hb_39]; exact hpr, by simp [thing_, hb_1, hb_10, hb_39]; exact hco, by simp [thing_, hb_1, hb_10, hb_39]; exact hst⟩) (rfl) hP hD hS (Nat.le_refl _) (Nat.le_refl _) dX0_thing_50
      · -- fall 21
        subst c_18
        refine lv_iconst (v := 1) hx hb dX0_thing_21 rfl ?_
        refine lv_goto (tgt := 26) hx hb dX0_thing_22 (by decide) ?_
        refine lv_iload_n hx hb dX0_thing_26 rfl (lv_at hl 2 rfl) ?_
        refine lv_iconst (v := 2) hx hb dX0_thing_27 rfl ?_
        refine lv_icmp_ne (tgt := 36) hx hb dX0_thing_28 (by decide) (fun _ => ?_) (fun c => absurd c (by decide))
        refine lv_sipush (v := 9999) hx hb dX0_thing_36 rfl ?_
        refine fx_ci (va_runS (As := [.int v, .int 1, .int 9999]) (rest := []) X (xX0_isIn l E v 1 9999 _) (va_cwS 3 X.2.2.2.2 (lw_S q300 q301 q69 q302) rfl rfl rfl hdX0_isIn ⟨Nat.le_of_ble_eq_true rfl, Nat.le_of_ble_eq_true rfl⟩) (fx_pre hE hP hD hS hR [] rfl rfl fx_rc0) rfl rfl hl.1 rfl (lv_room (Nat.le_of_ble_eq_true rfl)) dX0_thing_39 ⟨Nat.le_refl _, Nat.le_refl _⟩) hP hD hS hA [] rfl rfl (fun r_39 u H locs hq_39 hP hD hS => ?_)
        replace hP : va_P E.1 clA [(ax 5, .inl (E.2 0, 7, .inl er)), (ax 20, .inl (E.2 0, 8, .inl pr)), (ax 21, .inl (E.2 0, 8, .inl co)), (ax 22, .inl (E.2 0, 8, .inl st0))] _ := hP
        replace hD : va_D A [(ax 5, .inl (E.2 0, 7, .inl er)), (ax 20, .inl (E.2 0, 8, .inl pr)), (ax 21, .inl (E.2 0, 8, .inl co)), (ax 22, .inl (E.2 0, 8, .inl st0))] := hD
        replace hq_39 : r_39 = fx_b (inB v 1 9999 = true) := hq_39
        rcases fx_bc hq_39 with ⟨hb_39, hr_39⟩ | ⟨hb_39, hr_39⟩
        · -- True
          subst hr_39
          refine lv_if_ne (tgt := 51) hx hb dX0_thing_42 (by decide) (fun _ => ?_) (fun c => absurd c (by decide))
          have hTh : thing_ sa er th 0 v = (sa (8 + 8 * nn 0 + nn th), upd sa (8 + 8 * nn 0 + nn th) v, er) := by rw [thing_, if_pos (by simp [hb_1, hb_39, hb_10])]
          have hnw : nn (0 : Int32) = 0 := by decide
          have gn := inB_nn (n := 7) hb_1 (by omega)
          have g1 := gn.2
          refine lv_iload_n hx hb dX0_thing_51 rfl (lv_at hl 2 rfl) ?_
          refine lv_if_ne (tgt := 65) hx hb dX0_thing_52 (by decide) (fun c => (c (by decide)).elim) (fun _ => ?_)
          refine lv_aload_n hx hb dX0_thing_55 rfl (lv_at hl 0 rfl) ?_
          refine fx_get X hE (hR.at hS) 0 rfl rfl 2 rfl q237 rfl rfl dX0_thing_56 ?_
          refine fx_getN X hE (hR.at hS) 1 rfl rfl 0 rfl 3 rfl rfl rfl dX0_thing_59 ?_
          refine lv_goto (tgt := 87) hx hb dX0_thing_62 (by decide) ?_
          refine lv_astore (lv' := [(4, .ref (ax 20)), (0, .ref (ax 19)), (1, .int th), (2, .int 0), (3, .int v)]) hx hb dX0_thing_87 hl (by decide) rfl (fun ls hl => ?_)
          refine lv_aload hx hb dX0_thing_89 (lv_at hl 0 rfl) ?_
          refine lv_iload_n hx hb dX0_thing_91 rfl (lv_at hl 2 rfl) ?_
          refine fx_ti (show th = nI (nn th) from gn.1) ?_
          refine fx_iald X hE hP 1 rfl (nn th) rfl (by omega) rfl dX0_thing_92 ?_
          refine lv_istore (lv' := [(5, .int (pr (nn th))), (4, .ref (ax 20)), (0, .ref (ax 19)), (1, .int th), (2, .int 0), (3, .int v)]) hx hb dX0_thing_93 hl (by decide) rfl (fun ls hl => ?_)
          refine lv_aload hx hb dX0_thing_95 (lv_at hl 1 rfl) ?_
          refine lv_iload_n hx hb dX0_thing_97 rfl (lv_at hl 3 rfl) ?_
          refine fx_ti (show th = nI (nn th) from gn.1) ?_
          refine lv_iload_n hx hb dX0_thing_98 rfl (lv_at hl 5 rfl) ?_
          refine fx_iast (ws' := [(ax 5, .inl (E.2 0, 7, .inl er)), (ax 20, .inl (E.2 0, 8, .inl (upd pr (nn th) v))), (ax 21, .inl (E.2 0, 8, .inl co)), (ax 22, .inl (E.2 0, 8, .inl st0))]) X hE hP hD hS 1 rfl (nn th) rfl (by omega) rfl rfl dX0_thing_99 (fun H locs hP hD hS => ?_)
          refine lv_iload hx hb dX0_thing_100 (lv_at hl 0 rfl) ?_
          exact hret (pr (nn th)) (er, (upd pr (nn th) v), co, st0) (⟨(by rw [hTh]; show _ = sa (8 + 8 * nn 0 + nn th); rw [hnw]; exact (hpr _ (by omega)).trans (congrArg sa (by omega))), by rw [hTh], by rw [hTh]; show rl _ (upd sa (8 + 8 * nn 0 + nn th) v) _ _; rw [hnw]; exact rl_s hpr (by omega), by rw [hTh]; show rl _ (upd sa (8 + 8 * nn 0 + nn th) v) _ _; rw [hnw]; exact rl_n hco (by omega), by rw [hTh]; show rl _ (upd sa (8 + 8 * nn 0 + nn th) v) _ _; rw [hnw]; exact rl_n hst (by omega)⟩) (rfl) hP hD hS (Nat.le_refl _) (Nat.le_refl _) dX0_thing_102
        · -- False
          subst hr_39
          refine lv_if_ne (tgt := 51) hx hb dX0_thing_42 (by decide) (fun c => (c (by decide)).elim) (fun _ => ?_)
          refine lv_aload_n hx hb dX0_thing_45 rfl (lv_at hl 0 rfl) ?_
          refine lv_iconst (v := 1) hx hb dX0_thing_46 rfl ?_
          refine fx_ci (va_runV (As := [.int 1]) (rest := []) X (xX0_finds l E ax im bn bm fm ff fl er 1 (by decide) _) (cwV 1 X.2.2.2.2 (lw_V q303 q305 qs0 q69 q306) rfl rfl rfl ⟨rfl, hdX0_finds⟩ ⟨Nat.le_of_ble_eq_true rfl, Nat.le_of_ble_eq_true rfl⟩) (fx_preV (fx_pre hE hP hD hS hR [0] rfl rfl (fx_rcr 0 rfl fx_rc0)) (va_recv hE.1 (hR.at hS) (ci := 0) (q0 := 0) rfl rfl)) rfl rfl hl.1 rfl (lv_room (Nat.le_of_ble_eq_true rfl)) dX0_thing_47 ⟨Nat.le_refl _, Nat.le_refl _⟩) hP hD hS hA [0] rfl rfl (fun r_47 u H locs hq_47 hP hD hS => ?_)
          replace hP : va_P E.1 clA [(ax 5, .inl (E.2 0, 7, .inl (upd er 1 (er 1 + 1)))), (ax 20, .inl (E.2 0, 8, .inl pr)), (ax 21, .inl (E.2 0, 8, .inl co)), (ax 22, .inl (E.2 0, 8, .inl st0))] _ := hP
          replace hD : va_D A [(ax 5, .inl (E.2 0, 7, .inl (upd er 1 (er 1 + 1)))), (ax 20, .inl (E.2 0, 8, .inl pr)), (ax 21, .inl (E.2 0, 8, .inl co)), (ax 22, .inl (E.2 0, 8, .inl st0))] := hD
          replace hq_47 : r_47 = erv 1 := hq_47
          exact hret r_47 ((upd er 1 (er 1 + 1)), pr, co, st0) (⟨by rw [hq_47]; simp [thing_, erI, hb_1, hb_10, hb_39], by simp [thing_, erI, hb_1, hb_10, hb_39], by simp [thing_, hb_1, hb_10, hb_39]; exact hpr, by simp [thing_, hb_1, hb_10, hb_39]; exact hco, by simp [thing_, hb_1, hb_10, hb_39]; exact hst⟩) (rfl) hP hD hS (Nat.le_refl _) (Nat.le_refl _) dX0_thing_50
    · -- False
      subst hr_10
      refine lv_if_eq (tgt := 45) hx hb dX0_thing_13 (by decide) (fun _ => ?_) (fun c => (c (by decide)).elim)
      refine lv_aload_n hx hb dX0_thing_45 rfl (lv_at hl 0 rfl) ?_
      refine lv_iconst (v := 1) hx hb dX0_thing_46 rfl ?_
      refine fx_ci (va_runV (As := [.int 1]) (rest := []) X (xX0_finds l E ax im bn bm fm ff fl er 1 (by decide) _) (cwV 1 X.2.2.2.2 (lw_V q303 q305 qs0 q69 q306) rfl rfl rfl ⟨rfl, hdX0_finds⟩ ⟨Nat.le_of_ble_eq_true rfl, Nat.le_of_ble_eq_true rfl⟩) (fx_preV (fx_pre hE hP hD hS hR [0] rfl rfl (fx_rcr 0 rfl fx_rc0)) (va_recv hE.1 (hR.at hS) (ci := 0) (q0 := 0) rfl rfl)) rfl rfl hl.1 rfl (lv_room (Nat.le_of_ble_eq_true rfl)) dX0_thing_47 ⟨Nat.le_refl _, Nat.le_refl _⟩) hP hD hS hA [0] rfl rfl (fun r_47 u H locs hq_47 hP hD hS => ?_)
      replace hP : va_P E.1 clA [(ax 5, .inl (E.2 0, 7, .inl (upd er 1 (er 1 + 1)))), (ax 20, .inl (E.2 0, 8, .inl pr)), (ax 21, .inl (E.2 0, 8, .inl co)), (ax 22, .inl (E.2 0, 8, .inl st0))] _ := hP
      replace hD : va_D A [(ax 5, .inl (E.2 0, 7, .inl (upd er 1 (er 1 + 1)))), (ax 20, .inl (E.2 0, 8, .inl pr)), (ax 21, .inl (E.2 0, 8, .inl co)), (ax 22, .inl (E.2 0, 8, .inl st0))] := hD
      replace hq_47 : r_47 = erv 1 := hq_47
      exact hret r_47 ((upd er 1 (er 1 + 1)), pr, co, st0) (⟨by rw [hq_47]; simp [thing_, erI, hb_1, hb_10], by simp [thing_, erI, hb_1, hb_10], by simp [thing_, hb_1, hb_10]; exact hpr, by simp [thing_, hb_1, hb_10]; exact hco, by simp [thing_, hb_1, hb_10]; exact hst⟩) (rfl) hP hD hS (Nat.le_refl _) (Nat.le_refl _) dX0_thing_50
  · -- False
    subst hr_1
    refine lv_if_eq (tgt := 45) hx hb dX0_thing_4 (by decide) (fun _ => ?_) (fun c => (c (by decide)).elim)
    refine lv_aload_n hx hb dX0_thing_45 rfl (lv_at hl 0 rfl) ?_
    refine lv_iconst (v := 1) hx hb dX0_thing_46 rfl ?_
    refine fx_ci (va_runV (As := [.int 1]) (rest := []) X (xX0_finds l E ax im bn bm fm ff fl er 1 (by decide) _) (cwV 1 X.2.2.2.2 (lw_V q303 q305 qs0 q69 q306) rfl rfl rfl ⟨rfl, hdX0_finds⟩ ⟨Nat.le_of_ble_eq_true rfl, Nat.le_of_ble_eq_true rfl⟩) (fx_preV (fx_pre hE hP hD hS hR [0] rfl rfl (fx_rcr 0 rfl fx_rc0)) (va_recv hE.1 (hR.at hS) (ci := 0) (q0 := 0) rfl rfl)) rfl rfl hl.1 rfl (lv_room (Nat.le_of_ble_eq_true rfl)) dX0_thing_47 ⟨Nat.le_refl _, Nat.le_refl _⟩) hP hD hS hA [0] rfl rfl (fun r_47 u H locs hq_47 hP hD hS => ?_)
    replace hP : va_P E.1 clA [(ax 5, .inl (E.2 0, 7, .inl (upd er 1 (er 1 + 1)))), (ax 20, .inl (E.2 0, 8, .inl pr)), (ax 21, .inl (E.2 0, 8, .inl co)), (ax 22, .inl (E.2 0, 8, .inl st0))] _ := hP
    replace hD : va_D A [(ax 5, .inl (E.2 0, 7, .inl (upd er 1 (er 1 + 1)))), (ax 20, .inl (E.2 0, 8, .inl pr)), (ax 21, .inl (E.2 0, 8, .inl co)), (ax 22, .inl (E.2 0, 8, .inl st0))] := hD
    replace hq_47 : r_47 = erv 1 := hq_47
    exact hret r_47 ((upd er 1 (er 1 + 1)), pr, co, st0) (⟨by rw [hq_47]; simp [thing_, erI, hb_1], by simp [thing_, erI, hb_1], by simp [thing_, hb_1]; exact hpr, by simp [thing_, hb_1]; exact hco, by simp [thing_, hb_1]; exact hst⟩) (rfl) hP hD hS (Nat.le_refl _) (Nat.le_refl _) dX0_thing_50
abbrev rxX0_thingIs : Room := { frames := 3, cells := 0, slots := 0, locals := 83 }
set_option maxHeartbeats 400000 in
set_option maxRecDepth 100000 in
theorem xX0_thingIs (l : Launch) (E : fx_En) (ax : Nat → Nat) (im : Int32) (bn : Int32) (bm : Int32) (fm : Int32) (ff : Int32) (fl : Int32) (tk : Int32) (cs : Int32) (gs : Int32) (zz : Int32) (tp : Int32) (wg : Int32) (er : Nat → Int32) (nmd : Nat → Int32) (pl : Nat → Int32) (sa : Nat → Int32) (pr : Nat → Int32) (co : Nat → Int32) (st0 : Nat → Int32) (tx : Nat → Option Nat) (T : Tx) (PL : va_W) (th : Int32) (wh : Int32) (hpr : rl pr sa 8 8) (hco : rl co sa 16 8) (hst : rl st0 sa 24 8) (hT : TXs E PL (tx 1) T) (hTo : TOk T) : fx_Mi l yX0_thingIs cX0_thingIs 3 .int rxX0_thingIs E [.ref (ax 19), .int th, .int wh] [(ax 5, .inl (E.2 0, 7, .inl er)), (ax 1, .inl (E.2 0, 3, .inl nmd)), (ax 0, .inl (E.2 0, 60, .inl pl))] ([(ax 19, .inr (0, [.ref (ax 0), .ref (ax 1), .ref (ax 35), .ref (ax 55), .ref (ax 4), .ref (ax 5), .ref (ax 6), .ref (ax 7), .int im, .ref (ax 9), .ref (ax 10), .ref (ax 11), .ref (ax 12), .ref (ax 13), .int bn, .int bm, .int fm, .int ff, .int fl])), (ax 35, .inr (1, [.ref (ax 20), .ref (ax 21), .ref (ax 22), .int tk, .int cs, .int gs, .int zz, .int tp, .int wg, .ref (ax 29), .ref (ax 30), .ref (ax 31), .ref (ax 32)])), (ax 30, .inl (E.2 4, 2, .inr (.inr (.inr (.inr tx))))), (ax 20, .inl (E.2 0, 8, .inl pr)), (ax 21, .inl (E.2 0, 8, .inl co)), (ax 22, .inl (E.2 0, 8, .inl st0))] ++ PL) (S := (Nat → Int32) × (Nat → Int32) × (Nat → Int32)) (fun (u : (Nat → Int32) × (Nat → Int32) × (Nat → Int32)) => [(ax 5, .inl (E.2 0, 7, .inl u.1)), (ax 1, .inl (E.2 0, 3, .inl u.2.1)), (ax 0, .inl (E.2 0, 60, .inl u.2.2))]) (fun (r : Int32) (u : (Nat → Int32) × (Nat → Int32) × (Nat → Int32)) => (r, u.1) = thingIs_ sa er T th wh) := by
  refine fx_iW rfl rfl ?_
  intro p e s m args below meth c A ls Q X hE hP hD hR hA hl hret
  have hx := X.1
  have hb := X.2.1
  have hS : va_S A s.heap s.heap [] := va_S.rf
  replace hP : va_P E.1 clA [(ax 5, .inl (E.2 0, 7, .inl er)), (ax 1, .inl (E.2 0, 3, .inl nmd)), (ax 0, .inl (E.2 0, 60, .inl pl))] _ := hP
  replace hD : va_D A [(ax 5, .inl (E.2 0, 7, .inl er)), (ax 1, .inl (E.2 0, 3, .inl nmd)), (ax 0, .inl (E.2 0, 60, .inl pl))] := hD
  replace hl : lv_has ls 3 [(0, .ref (ax 19)), (1, .int th), (2, .int wh)] := hl
  refine lv_iload_n hx hb dX0_thingIs_0 rfl (lv_at hl 1 rfl) ?_
  refine fx_ci (va_runS (As := [.int th]) (rest := []) X (xX0_isThing l E th _) (va_cwS 1 X.2.2.2.2 (lw_S q297 q298 q69 q299) rfl rfl rfl hdX0_isThing ⟨Nat.le_of_ble_eq_true rfl, Nat.le_of_ble_eq_true rfl⟩) (fx_pre hE hP hD hS hR [] rfl rfl fx_rc0) rfl rfl hl.1 rfl (lv_room (Nat.le_of_ble_eq_true rfl)) dX0_thingIs_1 ⟨Nat.le_refl _, Nat.le_refl _⟩) hP hD hS hA [] rfl rfl (fun r_1 u H locs hq_1 hP hD hS => ?_)
  replace hP : va_P E.1 clA [(ax 5, .inl (E.2 0, 7, .inl er)), (ax 1, .inl (E.2 0, 3, .inl nmd)), (ax 0, .inl (E.2 0, 60, .inl pl))] _ := hP
  replace hD : va_D A [(ax 5, .inl (E.2 0, 7, .inl er)), (ax 1, .inl (E.2 0, 3, .inl nmd)), (ax 0, .inl (E.2 0, 60, .inl pl))] := hD
  replace hq_1 : r_1 = fx_b (inB th 0 7 = true) := hq_1
  rcases fx_bc hq_1 with ⟨hb_1, hr_1⟩ | ⟨hb_1, hr_1⟩
  · -- True
    subst hr_1
    refine lv_if_eq (tgt := 16) hx hb dX0_thingIs_4 (by decide) (fun c => absurd c (by decide)) (fun _ => ?_)
    refine lv_iload_n hx hb dX0_thingIs_7 rfl (lv_at hl 2 rfl) ?_
    refine lv_iconst (v := 0) hx hb dX0_thingIs_8 rfl ?_
    refine lv_iconst (v := 3) hx hb dX0_thingIs_9 rfl ?_
    refine fx_ci (va_runS (As := [.int wh, .int 0, .int 3]) (rest := []) X (xX0_isIn l E wh 0 3 _) (va_cwS 3 X.2.2.2.2 (lw_S q300 q301 q69 q302) rfl rfl rfl hdX0_isIn ⟨Nat.le_of_ble_eq_true rfl, Nat.le_of_ble_eq_true rfl⟩) (fx_pre hE hP hD hS hR [] rfl rfl fx_rc0) rfl rfl hl.1 rfl (lv_room (Nat.le_of_ble_eq_true rfl)) dX0_thingIs_10 ⟨Nat.le_refl _, Nat.le_refl _⟩) hP hD hS hA [] rfl rfl (fun r_10 u H locs hq_10 hP hD hS => ?_)
    replace hP : va_P E.1 clA [(ax 5, .inl (E.2 0, 7, .inl er)), (ax 1, .inl (E.2 0, 3, .inl nmd)), (ax 0, .inl (E.2 0, 60, .inl pl))] _ := hP
    replace hD : va_D A [(ax 5, .inl (E.2 0, 7, .inl er)), (ax 1, .inl (E.2 0, 3, .inl nmd)), (ax 0, .inl (E.2 0, 60, .inl pl))] := hD
    replace hq_10 : r_10 = fx_b (inB wh 0 3 = true) := hq_10
    rcases fx_bc hq_10 with ⟨hb_10, hr_10⟩ | ⟨hb_10, hr_10⟩
    · -- True
      subst hr_10
      refine lv_if_ne (tgt := 22) hx hb dX0_thingIs_13 (by decide) (fun _ => ?_) (fun c => absurd c (by decide))
      have gn := inB_nn (n := 7) hb_1 (by omega)
      have g1 := gn.2
      refine lv_iload_n hx hb dX0_thingIs_22 rfl (lv_at hl 2 rfl) ?_
      refine lv_if_ne (tgt := 38) hx hb dX0_thingIs_23 (by decide) (fun c_23 => ?_) (fun c_23 => ?_)
      · -- jump 38
        refine lv_iload_n hx hb dX0_thingIs_38 rfl (lv_at hl 2 rfl) ?_
        refine lv_iconst (v := 1) hx hb dX0_thingIs_39 rfl ?_
        refine lv_icmp_ne (tgt := 55) hx hb dX0_thingIs_40 (by decide) (fun c_40 => ?_) (fun c_40 => ?_)
        · -- jump 55
          refine lv_iload_n hx hb dX0_thingIs_55 rfl (lv_at hl 2 rfl) ?_
          refine lv_iconst (v := 2) hx hb dX0_thingIs_56 rfl ?_
          refine lv_icmp_ne (tgt := 72) hx hb dX0_thingIs_57 (by decide) (fun c_57 => ?_) (fun c_57 => ?_)
          · -- jump 72
            obtain rfl : wh = 3 := by have h2 := inB_nn (n := 3) hb_10 (by omega); have h3 : nn wh ≠ 0 := fun h => c_23 (by rw [h2.1, h]; rfl); have h4 : nn wh ≠ 1 := fun h => c_40 (by rw [h2.1, h]; rfl); have h5 : nn wh ≠ 2 := fun h => c_57 (by rw [h2.1, h]; rfl); rw [h2.1, show nn wh = 3 by omega]; rfl
            refine lv_aload_n hx hb dX0_thingIs_72 rfl (lv_at hl 0 rfl) ?_
            refine lv_iload_n hx hb dX0_thingIs_73 rfl (lv_at hl 1 rfl) ?_
            refine fx_ti (show th = nI (nn th) from gn.1) ?_
            refine fx_ci (va_runV (As := [.int (nI (nn th))]) (rest := []) X (xX0_valueOf l E ax im bn bm fm ff fl tk cs gs zz tp wg nmd pl pr co (nn th) tx T PL (by omega) (by first | assumption | omega) (by first | assumption | omega) _) (cwV 1 X.2.2.2.2 (lw_V q312 q314 qs1 q69 q315) rfl rfl rfl ⟨rfl, hdX0_valueOf⟩ ⟨Nat.le_of_ble_eq_true rfl, Nat.le_of_ble_eq_true rfl⟩) (fx_preV (fx_pre hE hP hD hS hR [1, 2] rfl rfl (fx_rcr 0 rfl (fx_rcr 1 rfl (fx_rcr 2 rfl (fx_rcr 3 rfl (fx_rcr 4 rfl (fx_rct (fun q hq => List.mem_append_right _ hq)))))))) (va_recv hE.1 (hR.at hS) (ci := 0) (q0 := 0) rfl rfl)) rfl rfl hl.1 rfl (lv_room (Nat.le_of_ble_eq_true rfl)) dX0_thingIs_74 ⟨Nat.le_refl _, Nat.le_refl _⟩) hP hD hS hA [1, 2] rfl rfl (fun r_74 u H locs hq_74 hP hD hS => ?_)
            obtain ⟨nm2_74, pl2_74⟩ := u
            replace hP : va_P E.1 clA [(ax 5, .inl (E.2 0, 7, .inl er)), (ax 1, .inl (E.2 0, 3, .inl nm2_74)), (ax 0, .inl (E.2 0, 60, .inl pl2_74))] _ := hP
            replace hD : va_D A [(ax 5, .inl (E.2 0, 7, .inl er)), (ax 1, .inl (E.2 0, 3, .inl nm2_74)), (ax 0, .inl (E.2 0, 60, .inl pl2_74))] := hD
            replace hq_74 : r_74 = valF T (nn th) (pr (nn th)) (co (nn th)) := hq_74
            exact hret r_74 (er, nm2_74, pl2_74) (by rw [hq_74, thingIs_, if_pos (by simp [hb_1, hb_10]), if_pos (Eq.refl 3), hpr _ (by omega), hco _ (by omega)]) (rfl) hP hD hS (Nat.le_refl _) (Nat.le_refl _) dX0_thingIs_77
          · -- fall 60
            subst c_57
            refine lv_aload_n hx hb dX0_thingIs_60 rfl (lv_at hl 0 rfl) ?_
            refine fx_get X hE (hR.at hS) 0 rfl rfl 2 rfl q237 rfl rfl dX0_thingIs_61 ?_
            refine fx_getN X hE (hR.at hS) 1 rfl rfl 2 rfl 5 rfl rfl rfl dX0_thingIs_64 ?_
            refine lv_iload_n hx hb dX0_thingIs_67 rfl (lv_at hl 1 rfl) ?_
            refine fx_ti (show th = nI (nn th) from gn.1) ?_
            refine fx_iald X hE (hR.at hS) 5 rfl (nn th) rfl (by omega) rfl dX0_thingIs_68 ?_
            refine lv_goto (tgt := 77) hx hb dX0_thingIs_69 (by decide) ?_
            exact hret (st0 (nn th)) (er, nmd, pl) (by rw [thingIs_, if_pos (by simp [hb_1, hb_10]), if_neg (by decide)]; show (_, er) = (sa (8 + 8 * nn 2 + nn th), er); rw [show nn (2 : Int32) = 2 by decide]; exact congrArg (fun x => (x, er)) ((hst _ (by omega)).trans (congrArg sa (by omega)))) (rfl) hP hD hS (Nat.le_refl _) (Nat.le_refl _) dX0_thingIs_77
        · -- fall 43
          subst c_40
          refine lv_aload_n hx hb dX0_thingIs_43 rfl (lv_at hl 0 rfl) ?_
          refine fx_get X hE (hR.at hS) 0 rfl rfl 2 rfl q237 rfl rfl dX0_thingIs_44 ?_
          refine fx_getN X hE (hR.at hS) 1 rfl rfl 1 rfl 4 rfl rfl rfl dX0_thingIs_47 ?_
          refine lv_iload_n hx hb dX0_thingIs_50 rfl (lv_at hl 1 rfl) ?_
          refine fx_ti (show th = nI (nn th) from gn.1) ?_
          refine fx_iald X hE (hR.at hS) 4 rfl (nn th) rfl (by omega) rfl dX0_thingIs_51 ?_
          refine lv_goto (tgt := 77) hx hb dX0_thingIs_52 (by decide) ?_
          exact hret (co (nn th)) (er, nmd, pl) (by rw [thingIs_, if_pos (by simp [hb_1, hb_10]), if_neg (by decide)]; show (_, er) = (sa (8 + 8 * nn 1 + nn th), er); rw [show nn (1 : Int32) = 1 by decide]; exact congrArg (fun x => (x, er)) ((hco _ (by omega)).trans (congrArg sa (by omega)))) (rfl) hP hD hS (Nat.le_refl _) (Nat.le_refl _) dX0_thingIs_77
      · -- fall 26
        subst c_23
        refine lv_aload_n hx hb dX0_thingIs_26 rfl (lv_at hl 0 rfl) ?_
        refine fx_get X hE (hR.at hS) 0 rfl rfl 2 rfl q237 rfl rfl dX0_thingIs_27 ?_
        refine fx_getN X hE (hR.at hS) 1 rfl rfl 0 rfl 3 rfl rfl rfl dX0_thingIs_30 ?_
        refine lv_iload_n hx hb dX0_thingIs_33 rfl (lv_at hl 1 rfl) ?_
        refine fx_ti (show th = nI (nn th) from gn.1) ?_
        refine fx_iald X hE (hR.at hS) 3 rfl (nn th) rfl (by omega) rfl dX0_thingIs_34 ?_
        refine lv_goto (tgt := 77) hx hb dX0_thingIs_35 (by decide) ?_
        exact hret (pr (nn th)) (er, nmd, pl) (by rw [thingIs_, if_pos (by simp [hb_1, hb_10]), if_neg (by decide)]; show (_, er) = (sa (8 + 8 * nn 0 + nn th), er); rw [show nn (0 : Int32) = 0 by decide]; exact congrArg (fun x => (x, er)) ((hpr _ (by omega)).trans (congrArg sa (by omega)))) (rfl) hP hD hS (Nat.le_refl _) (Nat.le_refl _) dX0_thingIs_77
    · -- False
      subst hr_10
      refine lv_if_ne (tgt := 22) hx hb dX0_thingIs_13 (by decide) (fun c => (c (by decide)).elim) (fun _ => ?_)
      refine lv_aload_n hx hb dX0_thingIs_16 rfl (lv_at hl 0 rfl) ?_
      refine lv_iconst (v := 1) hx hb dX0_thingIs_17 rfl ?_
      refine fx_ci (va_runV (As := [.int 1]) (rest := []) X (xX0_finds l E ax im bn bm fm ff fl er 1 (by decide) _) (cwV 1 X.2.2.2.2 (lw_V q303 q305 qs0 q69 q306) rfl rfl rfl ⟨rfl, hdX0_finds⟩ ⟨Nat.le_of_ble_eq_true rfl, Nat.le_of_ble_eq_true rfl⟩) (fx_preV (fx_pre hE hP hD hS hR [0] rfl rfl (fx_rcr 0 rfl fx_rc0)) (va_recv hE.1 (hR.at hS) (ci := 0) (q0 := 0) rfl rfl)) rfl rfl hl.1 rfl (lv_room (Nat.le_of_ble_eq_true rfl)) dX0_thingIs_18 ⟨Nat.le_refl _, Nat.le_refl _⟩) hP hD hS hA [0] rfl rfl (fun r_18 u H locs hq_18 hP hD hS => ?_)
      replace hP : va_P E.1 clA [(ax 5, .inl (E.2 0, 7, .inl (upd er 1 (er 1 + 1)))), (ax 1, .inl (E.2 0, 3, .inl nmd)), (ax 0, .inl (E.2 0, 60, .inl pl))] _ := hP
      replace hD : va_D A [(ax 5, .inl (E.2 0, 7, .inl (upd er 1 (er 1 + 1)))), (ax 1, .inl (E.2 0, 3, .inl nmd)), (ax 0, .inl (E.2 0, 60, .inl pl))] := hD
      replace hq_18 : r_18 = erv 1 := hq_18
      exact hret r_18 ((upd er 1 (er 1 + 1)), nmd, pl) (by simp [thingIs_, erI, hq_18, hb_1, hb_10]) (rfl) hP hD hS (Nat.le_refl _) (Nat.le_refl _) dX0_thingIs_21
  · -- False
    subst hr_1
    refine lv_if_eq (tgt := 16) hx hb dX0_thingIs_4 (by decide) (fun _ => ?_) (fun c => (c (by decide)).elim)
    refine lv_aload_n hx hb dX0_thingIs_16 rfl (lv_at hl 0 rfl) ?_
    refine lv_iconst (v := 1) hx hb dX0_thingIs_17 rfl ?_
    refine fx_ci (va_runV (As := [.int 1]) (rest := []) X (xX0_finds l E ax im bn bm fm ff fl er 1 (by decide) _) (cwV 1 X.2.2.2.2 (lw_V q303 q305 qs0 q69 q306) rfl rfl rfl ⟨rfl, hdX0_finds⟩ ⟨Nat.le_of_ble_eq_true rfl, Nat.le_of_ble_eq_true rfl⟩) (fx_preV (fx_pre hE hP hD hS hR [0] rfl rfl (fx_rcr 0 rfl fx_rc0)) (va_recv hE.1 (hR.at hS) (ci := 0) (q0 := 0) rfl rfl)) rfl rfl hl.1 rfl (lv_room (Nat.le_of_ble_eq_true rfl)) dX0_thingIs_18 ⟨Nat.le_refl _, Nat.le_refl _⟩) hP hD hS hA [0] rfl rfl (fun r_18 u H locs hq_18 hP hD hS => ?_)
    replace hP : va_P E.1 clA [(ax 5, .inl (E.2 0, 7, .inl (upd er 1 (er 1 + 1)))), (ax 1, .inl (E.2 0, 3, .inl nmd)), (ax 0, .inl (E.2 0, 60, .inl pl))] _ := hP
    replace hD : va_D A [(ax 5, .inl (E.2 0, 7, .inl (upd er 1 (er 1 + 1)))), (ax 1, .inl (E.2 0, 3, .inl nmd)), (ax 0, .inl (E.2 0, 60, .inl pl))] := hD
    replace hq_18 : r_18 = erv 1 := hq_18
    exact hret r_18 ((upd er 1 (er 1 + 1)), nmd, pl) (by simp [thingIs_, erI, hq_18, hb_1]) (rfl) hP hD hS (Nat.le_refl _) (Nat.le_refl _) dX0_thingIs_21
