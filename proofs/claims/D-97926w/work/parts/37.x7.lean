set_option maxRecDepth 100000
theorem hdX0_basket : yX0_basket.cls ≠ "java/lang/invoke/MethodHandle" ∧ yX0_basket.cls ≠ "java/lang/invoke/VarHandle" ∧ (parseMethodDescriptor yX0_basket.desc).map (fun d => d.parameters.length) = some 2 := by decide +kernel
theorem hdX0_pays : yX0_pays.cls ≠ "java/lang/invoke/MethodHandle" ∧ yX0_pays.cls ≠ "java/lang/invoke/VarHandle" ∧ (parseMethodDescriptor yX0_pays.desc).map (fun d => d.parameters.length) = some 2 := by decide +kernel
theorem hdX0_isThere : yX0_isThere.cls ≠ "java/lang/invoke/MethodHandle" ∧ yX0_isThere.cls ≠ "java/lang/invoke/VarHandle" ∧ (parseMethodDescriptor yX0_isThere.desc).map (fun d => d.parameters.length) = some 0 := by decide +kernel
theorem hdX1_drawn : yX1_drawn.cls ≠ "java/lang/invoke/MethodHandle" ∧ yX1_drawn.cls ≠ "java/lang/invoke/VarHandle" ∧ (parseMethodDescriptor yX1_drawn.desc).map (fun d => d.parameters.length) = some 0 := by decide +kernel
abbrev rxX0_basket : Room := { frames := 2, cells := 0, slots := 0, locals := 48 }
set_option maxHeartbeats 400000 in
set_option maxRecDepth 100000 in
theorem xX0_basket (l : Launch) (E : fx_En) (ax : Nat → Nat) (im : Int32) (bn : Int32) (bm : Int32) (fm : Int32) (ff : Int32) (fl : Int32) (tk : Int32) (cs : Int32) (gs : Int32) (zz : Int32) (tp : Int32) (wg : Int32) (er : Nat → Int32) (sa : Nat → Int32) (pr : Nat → Int32) (co : Nat → Int32) (bk : Nat → Int32) (bt : Nat → Int32) (sz : Nat → Int32) (nu : Nat → Int32) (sh : Nat → Option Nat) (PL : va_W) (sheet : Int32) (wh : Int32) (hI : Inv sa) (hpr : rl pr sa 8 8) (hco : rl co sa 16 8) (hIS : InvS bt sz) (hSH : SHS E PL bt sz nu sh) : fx_Mi l yX0_basket cX0_basket 4 .int rxX0_basket E [.ref (ax 19), .int sheet, .int wh] [(ax 5, .inl (E.2 0, 7, .inl er)), (ax 9, .inl (E.2 1, 8, .inl bk))] ([(ax 19, .inr (0, [.ref (ax 0), .ref (ax 1), .ref (ax 35), .ref (ax 55), .ref (ax 4), .ref (ax 5), .ref (ax 6), .ref (ax 7), .int im, .ref (ax 9), .ref (ax 10), .ref (ax 11), .ref (ax 12), .ref (ax 13), .int bn, .int bm, .int fm, .int ff, .int fl])), (ax 35, .inr (1, [.ref (ax 20), .ref (ax 21), .ref (ax 22), .int tk, .int cs, .int gs, .int zz, .int tp, .int wg, .ref (ax 29), .ref (ax 30), .ref (ax 31), .ref (ax 32)])), (ax 20, .inl (E.2 0, 8, .inl pr)), (ax 21, .inl (E.2 0, 8, .inl co)), (ax 6, .inl (E.2 3, 4, .inr (.inr (.inr (.inr (fun i_ => some (ax (64 + i_)))))))), (ax 64, .inr (2, [va_rf (sh 0)])), (ax 65, .inr (2, [va_rf (sh 1)])), (ax 66, .inr (2, [va_rf (sh 2)])), (ax 67, .inr (2, [va_rf (sh 3)]))] ++ PL) (S := (Nat → Int32) × (Nat → Int32)) (fun (u : (Nat → Int32) × (Nat → Int32)) => [(ax 5, .inl (E.2 0, 7, .inl u.1)), (ax 9, .inl (E.2 1, 8, .inl u.2))]) (fun (r : Int32) (u : (Nat → Int32) × (Nat → Int32)) => (r, u.1) = basket_ sa er bt sz nu sheet wh) := by
  refine fx_iW rfl rfl ?_
  intro p e s m args below meth c A ls Q X hE hP hD hR hA hl hret
  have hx := X.1
  have hb := X.2.1
  have hS : va_S A s.heap s.heap [] := va_S.rf
  replace hP : va_P E.1 clA [(ax 5, .inl (E.2 0, 7, .inl er)), (ax 9, .inl (E.2 1, 8, .inl bk))] _ := hP
  replace hD : va_D A [(ax 5, .inl (E.2 0, 7, .inl er)), (ax 9, .inl (E.2 1, 8, .inl bk))] := hD
  replace hl : lv_has ls 4 [(0, .ref (ax 19)), (1, .int sheet), (2, .int wh)] := hl
  refine lv_iload_n hx hb dX0_basket_0 rfl (lv_at hl 1 rfl) ?_
  refine fx_ci (va_runS (As := [.int sheet]) (rest := []) X (xX0_isSheet l E sheet _) (va_cwS 1 X.2.2.2.2 (lw_S q806 q807 q69 q808) rfl rfl rfl hdX0_isSheet ⟨Nat.le_of_ble_eq_true rfl, Nat.le_of_ble_eq_true rfl⟩) (fx_pre hE hP hD hS hR [] rfl rfl fx_rc0) rfl rfl hl.1 rfl (lv_room (Nat.le_of_ble_eq_true rfl)) dX0_basket_1 ⟨Nat.le_refl _, Nat.le_refl _⟩) hP hD hS hA [] rfl rfl (fun r_1 u H locs hq_1 hP hD hS => ?_)
  replace hP : va_P E.1 clA [(ax 5, .inl (E.2 0, 7, .inl er)), (ax 9, .inl (E.2 1, 8, .inl bk))] _ := hP
  replace hD : va_D A [(ax 5, .inl (E.2 0, 7, .inl er)), (ax 9, .inl (E.2 1, 8, .inl bk))] := hD
  replace hq_1 : r_1 = fx_b (inB sheet 0 3 = true) := hq_1
  rcases fx_bc hq_1 with ⟨hb_1, hr_1⟩ | ⟨hb_1, hr_1⟩
  · -- True
    subst hr_1
    refine lv_if_eq (tgt := 16) hx hb dX0_basket_4 (by decide) (fun c => absurd c (by decide)) (fun _ => ?_)
    refine lv_iload_n hx hb dX0_basket_7 rfl (lv_at hl 2 rfl) ?_
    refine lv_iconst (v := 0) hx hb dX0_basket_8 rfl ?_
    refine lv_iconst (v := 2) hx hb dX0_basket_9 rfl ?_
    refine fx_ci (va_runS (As := [.int wh, .int 0, .int 2]) (rest := []) X (xX0_isIn l E wh 0 2 _) (va_cwS 3 X.2.2.2.2 (lw_S q300 q301 q69 q302) rfl rfl rfl hdX0_isIn ⟨Nat.le_of_ble_eq_true rfl, Nat.le_of_ble_eq_true rfl⟩) (fx_pre hE hP hD hS hR [] rfl rfl fx_rc0) rfl rfl hl.1 rfl (lv_room (Nat.le_of_ble_eq_true rfl)) dX0_basket_10 ⟨Nat.le_refl _, Nat.le_refl _⟩) hP hD hS hA [] rfl rfl (fun r_10 u H locs hq_10 hP hD hS => ?_)
    replace hP : va_P E.1 clA [(ax 5, .inl (E.2 0, 7, .inl er)), (ax 9, .inl (E.2 1, 8, .inl bk))] _ := hP
    replace hD : va_D A [(ax 5, .inl (E.2 0, 7, .inl er)), (ax 9, .inl (E.2 1, 8, .inl bk))] := hD
    replace hq_10 : r_10 = fx_b (inB wh 0 2 = true) := hq_10
    rcases fx_bc hq_10 with ⟨hb_10, hr_10⟩ | ⟨hb_10, hr_10⟩
    · -- True
      subst hr_10
      have gsh := inB_nn (n := 3) hb_1 (by omega)
      have gs1 : nn sheet < 4 := by omega
      have hbc : basketC bt sz nu sheet wh = tellC bt sz nu (nn sheet) 30 := by rw [basketC, hb_10]; exact lack_ok hb_1 (by decide)
      refine lv_if_ne (tgt := 22) hx hb dX0_basket_13 (by decide) (fun _ => ?_) (fun c => absurd c (by decide))
      refine lv_aload_n hx hb dX0_basket_22 rfl (lv_at hl 0 rfl) ?_
      refine lv_iload_n hx hb dX0_basket_23 rfl (lv_at hl 1 rfl) ?_
      refine fx_ti (show sheet = nI (nn sheet) from gsh.1) ?_
      refine lv_aload_n hx hb dX0_basket_24 rfl (lv_at hl 0 rfl) ?_
      refine fx_get X hE (hR.at hS) 0 rfl rfl 9 rfl q244 rfl rfl dX0_basket_25 ?_
      refine lv_bipush (v := 30) hx hb dX0_basket_28 rfl ?_
      refine fx_ci (va_runV (As := [.int (nI (nn sheet)), .ref (ax 9), .int 30]) (rest := []) X (xX0_faultOf l E ax im bn bm fm ff fl bt sz nu sh (ax 9) bk (nn sheet) 30 PL gs1 (by first | assumption | omega) (by first | assumption | omega) (by decide) _) (cwV 3 X.2.2.2.2 (lw_V q809 q811 qs17 q69 q812) rfl rfl rfl ⟨rfl, hdX0_faultOf⟩ ⟨Nat.le_of_ble_eq_true rfl, Nat.le_of_ble_eq_true rfl⟩) (fx_preV (fx_pre hE hP hD hS hR [1] rfl rfl (fx_rcr 0 rfl (fx_rcr 4 rfl (fx_rcr 5 rfl (fx_rcr 6 rfl (fx_rcr 7 rfl (fx_rcr 8 rfl (fx_rct (fun q hq => List.mem_append_right _ hq))))))))) (va_recv hE.1 (hR.at hS) (ci := 0) (q0 := 0) rfl rfl)) rfl rfl hl.1 rfl (lv_room (Nat.le_of_ble_eq_true rfl)) dX0_basket_30 ⟨Nat.le_refl _, Nat.le_refl _⟩) hP hD hS hA [1] rfl rfl (fun r_30 u H locs hq_30 hP hD hS => ?_)
      obtain ⟨row2_30, rfl⟩ : ∃ z, z = u := ⟨_, rfl⟩
      replace hP : va_P E.1 clA [(ax 5, .inl (E.2 0, 7, .inl er)), (ax 9, .inl (E.2 1, 8, .inl row2_30))] _ := hP
      replace hD : va_D A [(ax 5, .inl (E.2 0, 7, .inl er)), (ax 9, .inl (E.2 1, 8, .inl row2_30))] := hD
      replace hq_30 : r_30 = nI (tellC bt sz nu (nn sheet) 30) ∧ (tellC bt sz nu (nn sheet) 30 = 0 → ∀ t, t < 8 → row2_30 t = shG sz nu (nn sheet) t) := hq_30
      refine fx_ti (show r_30 = nI (tellC bt sz nu (nn sheet) 30) from hq_30.1) ?_
      have hcl : tellC bt sz nu (nn sheet) 30 ≤ 4 := tellC_le
      refine lv_istore_n (lv' := [(3, .int (nI (tellC bt sz nu (nn sheet) 30))), (0, .ref (ax 19)), (1, .int sheet), (2, .int wh)]) hx hb dX0_basket_33 rfl hl (by decide) rfl (fun ls hl => ?_)
      refine lv_iload_n hx hb dX0_basket_34 rfl (lv_at hl 0 rfl) ?_
      refine lv_if_le (tgt := 44) hx hb dX0_basket_35 (by decide) (fun c_35 => ?_) (fun c_35 => ?_)
      · -- jump 44
        have n_35 := fx_le1 (a := (tellC bt sz nu (nn sheet) 30)) (b := 0) c_35 (by omega) (by omega)
        have h0 : tellC bt sz nu (nn sheet) 30 = 0 := by omega
        obtain ⟨hrow, hr9, hm30⟩ := tell_row h0 (hq_30.2 h0)
        refine lv_iload_n hx hb dX0_basket_44 rfl (lv_at hl 3 rfl) ?_
        refine lv_if_ne (tgt := 58) hx hb dX0_basket_45 (by decide) (fun c_45 => ?_) (fun c_45 => ?_)
        · -- jump 58
          refine lv_aload_n hx hb dX0_basket_58 rfl (lv_at hl 1 rfl) ?_
          refine lv_aload_n hx hb dX0_basket_59 rfl (lv_at hl 1 rfl) ?_
          refine fx_get X hE (hR.at hS) 0 rfl rfl 9 rfl q244 rfl rfl dX0_basket_60 ?_
          refine lv_iload_n hx hb dX0_basket_63 rfl (lv_at hl 3 rfl) ?_
          refine lv_iconst (v := 1) hx hb dX0_basket_64 rfl ?_
          refine lv_icmp_ne (tgt := 78) hx hb dX0_basket_65 (by decide) (fun c_65 => ?_) (fun c_65 => ?_)
          · -- jump 78
            refine lv_aload_n hx hb dX0_basket_78 rfl (lv_at hl 1 rfl) ?_
            refine fx_get X hE (hR.at hS) 0 rfl rfl 2 rfl q237 rfl rfl dX0_basket_79 ?_
            refine fx_getN X hE (hR.at hS) 1 rfl rfl 1 rfl 4 rfl rfl rfl dX0_basket_82 ?_
            refine fx_ci (va_runV (As := [.ref (ax 9), .ref (ax 21)]) (rest := []) X (xX0_sumOf l E ax im bn bm fm ff fl (ax 9) row2_30 (ax 21) co _) (cwV 2 X.2.2.2.2 (lw_V q825 q827 qs18 q69 q828) rfl rfl rfl ⟨rfl, hdX0_sumOf⟩ ⟨Nat.le_of_ble_eq_true rfl, Nat.le_of_ble_eq_true rfl⟩) (fx_preV (fx_pre hE hP hD hS hR [] rfl rfl (fx_rcr 0 rfl (fx_rcm 1 rfl (by decide) (fx_rcr 3 rfl fx_rc0)))) (va_recv hE.1 (hR.at hS) (ci := 0) (q0 := 0) rfl rfl)) rfl rfl hl.1 rfl (lv_room (Nat.le_of_ble_eq_true rfl)) dX0_basket_85 ⟨Nat.le_refl _, Nat.le_refl _⟩) hP hD hS hA [] rfl rfl (fun r_85 u H locs hq_85 hP hD hS => ?_)
            replace hP : va_P E.1 clA [(ax 5, .inl (E.2 0, 7, .inl er)), (ax 9, .inl (E.2 1, 8, .inl row2_30))] _ := hP
            replace hD : va_D A [(ax 5, .inl (E.2 0, 7, .inl er)), (ax 9, .inl (E.2 1, 8, .inl row2_30))] := hD
            replace hq_85 : r_85 = l_sum (fun i_ => row2_30 i_ * co i_) 8 := hq_85
            refine fx_ti (show r_85 = (nI (sumN (rnG sz nu (nn sheet)) (fun t => nn (sa (16 + t))) 8)) from hq_85.trans (sumN_I (pc := co) 8 (fun t ht => (hrow t ht).1) (fun t ht => (hco t ht).trans (hI.co t ht).1))) ?_
            exact hret (nI (sumN (rnG sz nu (nn sheet)) (fun t => nn (sa (16 + t))) 8)) (er, row2_30) (by simp only [basket_, hbc, h0, eR_0, eE_0, basketR]; rw [if_neg c_45, if_neg c_65]) (rfl) hP hD hS (Nat.le_refl _) (Nat.le_refl _) dX0_basket_88
          · -- fall 68
            subst c_65
            refine lv_aload_n hx hb dX0_basket_68 rfl (lv_at hl 1 rfl) ?_
            refine fx_get X hE (hR.at hS) 0 rfl rfl 2 rfl q237 rfl rfl dX0_basket_69 ?_
            refine fx_getN X hE (hR.at hS) 1 rfl rfl 0 rfl 3 rfl rfl rfl dX0_basket_72 ?_
            refine lv_goto (tgt := 85) hx hb dX0_basket_75 (by decide) ?_
            refine fx_ci (va_runV (As := [.ref (ax 9), .ref (ax 20)]) (rest := []) X (xX0_sumOf l E ax im bn bm fm ff fl (ax 9) row2_30 (ax 20) pr _) (cwV 2 X.2.2.2.2 (lw_V q825 q827 qs18 q69 q828) rfl rfl rfl ⟨rfl, hdX0_sumOf⟩ ⟨Nat.le_of_ble_eq_true rfl, Nat.le_of_ble_eq_true rfl⟩) (fx_preV (fx_pre hE hP hD hS hR [] rfl rfl (fx_rcr 0 rfl (fx_rcm 1 rfl (by decide) (fx_rcr 2 rfl fx_rc0)))) (va_recv hE.1 (hR.at hS) (ci := 0) (q0 := 0) rfl rfl)) rfl rfl hl.1 rfl (lv_room (Nat.le_of_ble_eq_true rfl)) dX0_basket_85 ⟨Nat.le_refl _, Nat.le_refl _⟩) hP hD hS hA [] rfl rfl (fun r_85 u H locs hq_85 hP hD hS => ?_)
            replace hP : va_P E.1 clA [(ax 5, .inl (E.2 0, 7, .inl er)), (ax 9, .inl (E.2 1, 8, .inl row2_30))] _ := hP
            replace hD : va_D A [(ax 5, .inl (E.2 0, 7, .inl er)), (ax 9, .inl (E.2 1, 8, .inl row2_30))] := hD
            replace hq_85 : r_85 = l_sum (fun i_ => row2_30 i_ * pr i_) 8 := hq_85
            refine fx_ti (show r_85 = (nI (sumN (rnG sz nu (nn sheet)) (fun t => nn (sa (8 + t))) 8)) from hq_85.trans (sumN_I (pc := pr) 8 (fun t ht => (hrow t ht).1) (fun t ht => (hpr t ht).trans (hI.pr t ht).1))) ?_
            exact hret (nI (sumN (rnG sz nu (nn sheet)) (fun t => nn (sa (8 + t))) 8)) (er, row2_30) (by simp only [basket_, hbc, h0, eR_0, eE_0, basketR]; rw [if_neg (by decide), if_pos trivial]) (rfl) hP hD hS (Nat.le_refl _) (Nat.le_refl _) dX0_basket_88
        · -- fall 48
          subst c_45
          refine lv_aload_n hx hb dX0_basket_48 rfl (lv_at hl 1 rfl) ?_
          refine fx_get X hE (hR.at hS) 0 rfl rfl 9 rfl q244 rfl rfl dX0_basket_49 ?_
          refine fx_ci (va_runS (As := [.ref (ax 9)]) (rest := []) X (xX0_manyIn l E (ax 9) row2_30 _) (va_cwS 1 X.2.2.2.2 (lw_S q822 q823 q69 q824) rfl rfl rfl hdX0_manyIn ⟨Nat.le_of_ble_eq_true rfl, Nat.le_of_ble_eq_true rfl⟩) (fx_pre hE hP hD hS hR [] rfl rfl (fx_rcm 1 rfl (by decide) fx_rc0)) rfl rfl hl.1 rfl (lv_room (Nat.le_of_ble_eq_true rfl)) dX0_basket_52 ⟨Nat.le_refl _, Nat.le_refl _⟩) hP hD hS hA [] rfl rfl (fun r_52 u H locs hq_52 hP hD hS => ?_)
          replace hP : va_P E.1 clA [(ax 5, .inl (E.2 0, 7, .inl er)), (ax 9, .inl (E.2 1, 8, .inl row2_30))] _ := hP
          replace hD : va_D A [(ax 5, .inl (E.2 0, 7, .inl er)), (ax 9, .inl (E.2 1, 8, .inl row2_30))] := hD
          replace hq_52 : r_52 = l_sum row2_30 8 := hq_52
          refine fx_ti (show r_52 = (nI (manyN (rnG sz nu (nn sheet)) 8)) from hq_52.trans (manyN_I 8 (fun t ht => (hrow t ht).1))) ?_
          refine lv_goto (tgt := 88) hx hb dX0_basket_55 (by decide) ?_
          exact hret (nI (manyN (rnG sz nu (nn sheet)) 8)) (er, row2_30) (by simp only [basket_, hbc, h0, eR_0, eE_0, basketR]; rw [if_pos trivial]) (rfl) hP hD hS (Nat.le_refl _) (Nat.le_refl _) dX0_basket_88
      · -- fall 38
        have n_35 := fx_le0 (a := (tellC bt sz nu (nn sheet) 30)) (b := 0) c_35 (by omega) (by omega)
        refine lv_aload_n hx hb dX0_basket_38 rfl (lv_at hl 1 rfl) ?_
        refine lv_iload_n hx hb dX0_basket_39 rfl (lv_at hl 0 rfl) ?_
        refine fx_ci (va_runV (As := [.int (nI (tellC bt sz nu (nn sheet) 30))]) (rest := []) X (xX0_finds l E ax im bn bm fm ff fl er (tellC bt sz nu (nn sheet) 30) (by omega) _) (cwV 1 X.2.2.2.2 (lw_V q303 q305 qs0 q69 q306) rfl rfl rfl ⟨rfl, hdX0_finds⟩ ⟨Nat.le_of_ble_eq_true rfl, Nat.le_of_ble_eq_true rfl⟩) (fx_preV (fx_pre hE hP hD hS hR [0] rfl rfl (fx_rcr 0 rfl fx_rc0)) (va_recv hE.1 (hR.at hS) (ci := 0) (q0 := 0) rfl rfl)) rfl rfl hl.1 rfl (lv_room (Nat.le_of_ble_eq_true rfl)) dX0_basket_40 ⟨Nat.le_refl _, Nat.le_refl _⟩) hP hD hS hA [0] rfl rfl (fun r_40 u H locs hq_40 hP hD hS => ?_)
        replace hP : va_P E.1 clA [(ax 5, .inl (E.2 0, 7, .inl (upd er (tellC bt sz nu (nn sheet) 30) (er (tellC bt sz nu (nn sheet) 30) + 1)))), (ax 9, .inl (E.2 1, 8, .inl row2_30))] _ := hP
        replace hD : va_D A [(ax 5, .inl (E.2 0, 7, .inl (upd er (tellC bt sz nu (nn sheet) 30) (er (tellC bt sz nu (nn sheet) 30) + 1)))), (ax 9, .inl (E.2 1, 8, .inl row2_30))] := hD
        replace hq_40 : r_40 = erv (tellC bt sz nu (nn sheet) 30) := hq_40
        exact hret r_40 ((upd er (tellC bt sz nu (nn sheet) 30) (er (tellC bt sz nu (nn sheet) 30) + 1)), row2_30) (by rw [hq_40]; simp only [basket_, hbc, eR_p n_35, eE_p n_35, erI]) (rfl) hP hD hS (Nat.le_refl _) (Nat.le_refl _) dX0_basket_43
    · -- False
      subst hr_10
      have hbc : basketC bt sz nu sheet wh = 1 := lack_no (Or.inr (Or.inr hb_10))
      refine lv_if_ne (tgt := 22) hx hb dX0_basket_13 (by decide) (fun c => (c (by decide)).elim) (fun _ => ?_)
      refine lv_aload_n hx hb dX0_basket_16 rfl (lv_at hl 0 rfl) ?_
      refine lv_iconst (v := 1) hx hb dX0_basket_17 rfl ?_
      refine fx_ci (va_runV (As := [.int 1]) (rest := []) X (xX0_finds l E ax im bn bm fm ff fl er 1 (by decide) _) (cwV 1 X.2.2.2.2 (lw_V q303 q305 qs0 q69 q306) rfl rfl rfl ⟨rfl, hdX0_finds⟩ ⟨Nat.le_of_ble_eq_true rfl, Nat.le_of_ble_eq_true rfl⟩) (fx_preV (fx_pre hE hP hD hS hR [0] rfl rfl (fx_rcr 0 rfl fx_rc0)) (va_recv hE.1 (hR.at hS) (ci := 0) (q0 := 0) rfl rfl)) rfl rfl hl.1 rfl (lv_room (Nat.le_of_ble_eq_true rfl)) dX0_basket_18 ⟨Nat.le_refl _, Nat.le_refl _⟩) hP hD hS hA [0] rfl rfl (fun r_18 u H locs hq_18 hP hD hS => ?_)
      replace hP : va_P E.1 clA [(ax 5, .inl (E.2 0, 7, .inl (upd er 1 (er 1 + 1)))), (ax 9, .inl (E.2 1, 8, .inl bk))] _ := hP
      replace hD : va_D A [(ax 5, .inl (E.2 0, 7, .inl (upd er 1 (er 1 + 1)))), (ax 9, .inl (E.2 1, 8, .inl bk))] := hD
      replace hq_18 : r_18 = erv 1 := hq_18
      exact hret r_18 ((upd er 1 (er 1 + 1)), bk) (by rw [hq_18]; simp only [basket_, hbc]; rfl) (rfl) hP hD hS (Nat.le_refl _) (Nat.le_refl _) dX0_basket_21
  · -- False
    subst hr_1
    have hbc : basketC bt sz nu sheet wh = 1 := lack_no (Or.inl hb_1)
    refine lv_if_eq (tgt := 16) hx hb dX0_basket_4 (by decide) (fun _ => ?_) (fun c => (c (by decide)).elim)
    refine lv_aload_n hx hb dX0_basket_16 rfl (lv_at hl 0 rfl) ?_
    refine lv_iconst (v := 1) hx hb dX0_basket_17 rfl ?_
    refine fx_ci (va_runV (As := [.int 1]) (rest := []) X (xX0_finds l E ax im bn bm fm ff fl er 1 (by decide) _) (cwV 1 X.2.2.2.2 (lw_V q303 q305 qs0 q69 q306) rfl rfl rfl ⟨rfl, hdX0_finds⟩ ⟨Nat.le_of_ble_eq_true rfl, Nat.le_of_ble_eq_true rfl⟩) (fx_preV (fx_pre hE hP hD hS hR [0] rfl rfl (fx_rcr 0 rfl fx_rc0)) (va_recv hE.1 (hR.at hS) (ci := 0) (q0 := 0) rfl rfl)) rfl rfl hl.1 rfl (lv_room (Nat.le_of_ble_eq_true rfl)) dX0_basket_18 ⟨Nat.le_refl _, Nat.le_refl _⟩) hP hD hS hA [0] rfl rfl (fun r_18 u H locs hq_18 hP hD hS => ?_)
    replace hP : va_P E.1 clA [(ax 5, .inl (E.2 0, 7, .inl (upd er 1 (er 1 + 1)))), (ax 9, .inl (E.2 1, 8, .inl bk))] _ := hP
    replace hD : va_D A [(ax 5, .inl (E.2 0, 7, .inl (upd er 1 (er 1 + 1)))), (ax 9, .inl (E.2 1, 8, .inl bk))] := hD
    replace hq_18 : r_18 = erv 1 := hq_18
    exact hret r_18 ((upd er 1 (er 1 + 1)), bk) (by rw [hq_18]; simp only [basket_, hbc]; rfl) (rfl) hP hD hS (Nat.le_refl _) (Nat.le_refl _) dX0_basket_21
abbrev rxX0_pays : Room := { frames := 6, cells := 0, slots := 0, locals := 139 }
set_option maxHeartbeats 400000 in
set_option maxRecDepth 100000 in
theorem xX0_pays (l : Launch) (E : fx_En) (ax : Nat → Nat) (im : Int32) (bn : Int32) (bm : Int32) (fm : Int32) (ff : Int32) (fl : Int32) (tk : Int32) (cs : Int32) (gs : Int32) (zz : Int32) (tp : Int32) (wg : Int32) (er : Nat → Int32) (nmd : Nat → Int32) (pl : Nat → Int32) (sa : Nat → Int32) (tl : Nat → Nat) (pr : Nat → Int32) (bk : Nat → Int32) (bt : Nat → Int32) (sz : Nat → Int32) (nu : Nat → Int32) (sh : Nat → Option Nat) (tx : Nat → Option Nat) (T : Tx) (PL : va_W) (sheet : Int32) (til : Int32) (hI : Inv sa) (hTL : TLS PL sa tl) (hT : TXs E PL (tx 0) T) (hTo : TOk T) (hpr : rl pr sa 8 8) (hIS : InvS bt sz) (hSH : SHS E PL bt sz nu sh) : fx_Mi l yX0_pays cX0_pays 4 .int rxX0_pays E [.ref (ax 19), .int sheet, .int til] [(ax 5, .inl (E.2 0, 7, .inl er)), (ax 9, .inl (E.2 1, 8, .inl bk)), (ax 1, .inl (E.2 0, 3, .inl nmd)), (ax 0, .inl (E.2 0, 60, .inl pl))] ([(ax 19, .inr (0, [.ref (ax 0), .ref (ax 1), .ref (ax 35), .ref (ax 55), .ref (ax 4), .ref (ax 5), .ref (ax 6), .ref (ax 7), .int im, .ref (ax 9), .ref (ax 10), .ref (ax 11), .ref (ax 12), .ref (ax 13), .int bn, .int bm, .int fm, .int ff, .int fl])), (ax 35, .inr (1, [.ref (ax 20), .ref (ax 21), .ref (ax 22), .int tk, .int cs, .int gs, .int zz, .int tp, .int wg, .ref (ax 29), .ref (ax 30), .ref (ax 31), .ref (ax 32)])), (ax 29, .inl (E.2 3, 4, .inr (.inr (.inr (.inr (fun i_ => some (ax (36 + i_)))))))), (ax 36, .inr (2, [.ref (tl 0)])), (ax 37, .inr (2, [.ref (tl 1)])), (ax 38, .inr (2, [.ref (tl 2)])), (ax 39, .inr (2, [.ref (tl 3)])), (ax 7, .inr (5, [.ref (ax 19)])), (ax 30, .inl (E.2 4, 2, .inr (.inr (.inr (.inr tx))))), (ax 20, .inl (E.2 0, 8, .inl pr)), (ax 6, .inl (E.2 3, 4, .inr (.inr (.inr (.inr (fun i_ => some (ax (64 + i_)))))))), (ax 64, .inr (2, [va_rf (sh 0)])), (ax 65, .inr (2, [va_rf (sh 1)])), (ax 66, .inr (2, [va_rf (sh 2)])), (ax 67, .inr (2, [va_rf (sh 3)]))] ++ PL) (S := (Nat → Int32) × (Nat → Int32) × (Nat → Int32) × (Nat → Int32)) (fun (u : (Nat → Int32) × (Nat → Int32) × (Nat → Int32) × (Nat → Int32)) => [(ax 5, .inl (E.2 0, 7, .inl u.1)), (ax 9, .inl (E.2 1, 8, .inl u.2.1)), (ax 1, .inl (E.2 0, 3, .inl u.2.2.1)), (ax 0, .inl (E.2 0, 60, .inl u.2.2.2))]) (fun (r : Int32) (u : (Nat → Int32) × (Nat → Int32) × (Nat → Int32) × (Nat → Int32)) => (r, u.1) = pays_ sa er bt sz nu T sheet til) := by
  refine fx_iW rfl rfl ?_
  intro p e s m args below meth c A ls Q X hE hP hD hR hA hl hret
  have hx := X.1
  have hb := X.2.1
  have hS : va_S A s.heap s.heap [] := va_S.rf
  replace hP : va_P E.1 clA [(ax 5, .inl (E.2 0, 7, .inl er)), (ax 9, .inl (E.2 1, 8, .inl bk)), (ax 1, .inl (E.2 0, 3, .inl nmd)), (ax 0, .inl (E.2 0, 60, .inl pl))] _ := hP
  replace hD : va_D A [(ax 5, .inl (E.2 0, 7, .inl er)), (ax 9, .inl (E.2 1, 8, .inl bk)), (ax 1, .inl (E.2 0, 3, .inl nmd)), (ax 0, .inl (E.2 0, 60, .inl pl))] := hD
  replace hl : lv_has ls 4 [(0, .ref (ax 19)), (1, .int sheet), (2, .int til)] := hl
  refine lv_iload_n hx hb dX0_pays_0 rfl (lv_at hl 1 rfl) ?_
  refine fx_ci (va_runS (As := [.int sheet]) (rest := []) X (xX0_isSheet l E sheet _) (va_cwS 1 X.2.2.2.2 (lw_S q806 q807 q69 q808) rfl rfl rfl hdX0_isSheet ⟨Nat.le_of_ble_eq_true rfl, Nat.le_of_ble_eq_true rfl⟩) (fx_pre hE hP hD hS hR [] rfl rfl fx_rc0) rfl rfl hl.1 rfl (lv_room (Nat.le_of_ble_eq_true rfl)) dX0_pays_1 ⟨Nat.le_refl _, Nat.le_refl _⟩) hP hD hS hA [] rfl rfl (fun r_1 u H locs hq_1 hP hD hS => ?_)
  replace hP : va_P E.1 clA [(ax 5, .inl (E.2 0, 7, .inl er)), (ax 9, .inl (E.2 1, 8, .inl bk)), (ax 1, .inl (E.2 0, 3, .inl nmd)), (ax 0, .inl (E.2 0, 60, .inl pl))] _ := hP
  replace hD : va_D A [(ax 5, .inl (E.2 0, 7, .inl er)), (ax 9, .inl (E.2 1, 8, .inl bk)), (ax 1, .inl (E.2 0, 3, .inl nmd)), (ax 0, .inl (E.2 0, 60, .inl pl))] := hD
  replace hq_1 : r_1 = fx_b (inB sheet 0 3 = true) := hq_1
  rcases fx_bc hq_1 with ⟨hb_1, hr_1⟩ | ⟨hb_1, hr_1⟩
  · -- True
    subst hr_1
    refine lv_if_eq (tgt := 14) hx hb dX0_pays_4 (by decide) (fun c => absurd c (by decide)) (fun _ => ?_)
    refine lv_iload_n hx hb dX0_pays_7 rfl (lv_at hl 2 rfl) ?_
    refine fx_ci (va_runS (As := [.int til]) (rest := []) X (xX0_isTill l E til _) (va_cwS 1 X.2.2.2.2 (lw_S q336 q337 q69 q338) rfl rfl rfl hdX0_isTill ⟨Nat.le_of_ble_eq_true rfl, Nat.le_of_ble_eq_true rfl⟩) (fx_pre hE hP hD hS hR [] rfl rfl fx_rc0) rfl rfl hl.1 rfl (lv_room (Nat.le_of_ble_eq_true rfl)) dX0_pays_8 ⟨Nat.le_refl _, Nat.le_refl _⟩) hP hD hS hA [] rfl rfl (fun r_8 u H locs hq_8 hP hD hS => ?_)
    replace hP : va_P E.1 clA [(ax 5, .inl (E.2 0, 7, .inl er)), (ax 9, .inl (E.2 1, 8, .inl bk)), (ax 1, .inl (E.2 0, 3, .inl nmd)), (ax 0, .inl (E.2 0, 60, .inl pl))] _ := hP
    replace hD : va_D A [(ax 5, .inl (E.2 0, 7, .inl er)), (ax 9, .inl (E.2 1, 8, .inl bk)), (ax 1, .inl (E.2 0, 3, .inl nmd)), (ax 0, .inl (E.2 0, 60, .inl pl))] := hD
    replace hq_8 : r_8 = fx_b (inB til 0 3 = true) := hq_8
    rcases fx_bc hq_8 with ⟨hb_8, hr_8⟩ | ⟨hb_8, hr_8⟩
    · -- True
      subst hr_8
      have gsh := inB_nn (n := 3) hb_1 (by omega)
      have gs1 : nn sheet < 4 := by omega
      have gn := inB_nn (n := 3) hb_8 (by omega)
      have g1 : nn til < 4 := by omega
      have hbc : lackF bt sz nu sheet til true 30 = tellC bt sz nu (nn sheet) 30 := lack_ok hb_1 hb_8
      refine lv_if_ne (tgt := 20) hx hb dX0_pays_11 (by decide) (fun _ => ?_) (fun c => absurd c (by decide))
      refine lv_aload_n hx hb dX0_pays_20 rfl (lv_at hl 0 rfl) ?_
      refine lv_iload_n hx hb dX0_pays_21 rfl (lv_at hl 1 rfl) ?_
      refine fx_ti (show sheet = nI (nn sheet) from gsh.1) ?_
      refine lv_aload_n hx hb dX0_pays_22 rfl (lv_at hl 0 rfl) ?_
      refine fx_get X hE (hR.at hS) 0 rfl rfl 9 rfl q244 rfl rfl dX0_pays_23 ?_
      refine lv_bipush (v := 30) hx hb dX0_pays_26 rfl ?_
      refine fx_ci (va_runV (As := [.int (nI (nn sheet)), .ref (ax 9), .int 30]) (rest := []) X (xX0_faultOf l E ax im bn bm fm ff fl bt sz nu sh (ax 9) bk (nn sheet) 30 PL gs1 (by first | assumption | omega) (by first | assumption | omega) (by decide) _) (cwV 3 X.2.2.2.2 (lw_V q809 q811 qs17 q69 q812) rfl rfl rfl ⟨rfl, hdX0_faultOf⟩ ⟨Nat.le_of_ble_eq_true rfl, Nat.le_of_ble_eq_true rfl⟩) (fx_preV (fx_pre hE hP hD hS hR [1] rfl rfl (fx_rcr 0 rfl (fx_rcr 10 rfl (fx_rcr 11 rfl (fx_rcr 12 rfl (fx_rcr 13 rfl (fx_rcr 14 rfl (fx_rct (fun q hq => List.mem_append_right _ hq))))))))) (va_recv hE.1 (hR.at hS) (ci := 0) (q0 := 0) rfl rfl)) rfl rfl hl.1 rfl (lv_room (Nat.le_of_ble_eq_true rfl)) dX0_pays_28 ⟨Nat.le_refl _, Nat.le_refl _⟩) hP hD hS hA [1] rfl rfl (fun r_28 u H locs hq_28 hP hD hS => ?_)
      obtain ⟨row2_28, rfl⟩ : ∃ z, z = u := ⟨_, rfl⟩
      replace hP : va_P E.1 clA [(ax 5, .inl (E.2 0, 7, .inl er)), (ax 9, .inl (E.2 1, 8, .inl row2_28)), (ax 1, .inl (E.2 0, 3, .inl nmd)), (ax 0, .inl (E.2 0, 60, .inl pl))] _ := hP
      replace hD : va_D A [(ax 5, .inl (E.2 0, 7, .inl er)), (ax 9, .inl (E.2 1, 8, .inl row2_28)), (ax 1, .inl (E.2 0, 3, .inl nmd)), (ax 0, .inl (E.2 0, 60, .inl pl))] := hD
      replace hq_28 : r_28 = nI (tellC bt sz nu (nn sheet) 30) ∧ (tellC bt sz nu (nn sheet) 30 = 0 → ∀ t, t < 8 → row2_28 t = shG sz nu (nn sheet) t) := hq_28
      refine fx_ti (show r_28 = nI (tellC bt sz nu (nn sheet) 30) from hq_28.1) ?_
      have hcl : tellC bt sz nu (nn sheet) 30 ≤ 4 := tellC_le
      refine lv_istore_n (lv' := [(3, .int (nI (tellC bt sz nu (nn sheet) 30))), (0, .ref (ax 19)), (1, .int sheet), (2, .int til)]) hx hb dX0_pays_31 rfl hl (by decide) rfl (fun ls hl => ?_)
      refine lv_iload_n hx hb dX0_pays_32 rfl (lv_at hl 0 rfl) ?_
      refine lv_if_le (tgt := 44) hx hb dX0_pays_33 (by decide) (fun c_33 => ?_) (fun c_33 => ?_)
      · -- jump 44
        have n_33 := fx_le1 (a := (tellC bt sz nu (nn sheet) 30)) (b := 0) c_33 (by omega) (by omega)
        have h0 : tellC bt sz nu (nn sheet) 30 = 0 := by omega
        obtain ⟨hrow, hr9, hm30⟩ := tell_row h0 (hq_28.2 h0)
        refine lv_aload_n hx hb dX0_pays_44 rfl (lv_at hl 1 rfl) ?_
        refine lv_aload_n hx hb dX0_pays_45 rfl (lv_at hl 1 rfl) ?_
        refine fx_get X hE (hR.at hS) 0 rfl rfl 9 rfl q244 rfl rfl dX0_pays_46 ?_
        refine lv_iload_n hx hb dX0_pays_49 rfl (lv_at hl 3 rfl) ?_
        refine fx_ti (show til = nI (nn til) from gn.1) ?_
        refine fx_ci (va_runV (As := [.ref (ax 9), .int (nI (nn til))]) (rest := []) X (xX0_paysOf l E ax im bn bm fm ff fl tk cs gs zz tp wg nmd pl sa tl tx T PL pr (ax 9) row2_28 (rnG sz nu (nn sheet)) (nn til) g1 (by first | assumption | omega) (by first | assumption | omega) (by first | assumption | omega) (by first | assumption | omega) (by first | assumption | omega) (by first | assumption | omega) _) (cwV 2 X.2.2.2.2 (lw_V q833 q835 qs19 q69 q836) rfl rfl rfl ⟨rfl, hdX0_paysOf⟩ ⟨Nat.le_of_ble_eq_true rfl, Nat.le_of_ble_eq_true rfl⟩) (fx_preV (fx_pre hE hP hD hS hR [2, 3] rfl rfl (fx_rcr 0 rfl (fx_rcr 1 rfl (fx_rcr 2 rfl (fx_rcr 3 rfl (fx_rcr 4 rfl (fx_rcr 5 rfl (fx_rcr 6 rfl (fx_rcr 7 rfl (fx_rcr 8 rfl (fx_rcr 9 rfl (fx_rcm 1 rfl (by decide) (fx_rct (fun q hq => List.mem_append_right _ hq)))))))))))))) (va_recv hE.1 (hR.at hS) (ci := 0) (q0 := 0) rfl rfl)) rfl rfl hl.1 rfl (lv_room (Nat.le_of_ble_eq_true rfl)) dX0_pays_50 ⟨Nat.le_refl _, Nat.le_refl _⟩) hP hD hS hA [2, 3] rfl rfl (fun r_50 u H locs hq_50 hP hD hS => ?_)
        obtain ⟨nm2_50, pl2_50⟩ := u
        replace hP : va_P E.1 clA [(ax 5, .inl (E.2 0, 7, .inl er)), (ax 9, .inl (E.2 1, 8, .inl row2_28)), (ax 1, .inl (E.2 0, 3, .inl nm2_50)), (ax 0, .inl (E.2 0, 60, .inl pl2_50))] _ := hP
        replace hD : va_D A [(ax 5, .inl (E.2 0, 7, .inl er)), (ax 9, .inl (E.2 1, 8, .inl row2_28)), (ax 1, .inl (E.2 0, 3, .inl nm2_50)), (ax 0, .inl (E.2 0, 60, .inl pl2_50))] := hD
        replace hq_50 : r_50 = paysF sa T (rnG sz nu (nn sheet)) (nn til) := hq_50
        exact hret r_50 (er, row2_28, nm2_50, pl2_50) (by rw [hq_50]; simp only [pays_, hbc, h0, eR_0, eE_0]) (rfl) hP hD hS (Nat.le_refl _) (Nat.le_refl _) dX0_pays_53
      · -- fall 36
        have n_33 := fx_le0 (a := (tellC bt sz nu (nn sheet) 30)) (b := 0) c_33 (by omega) (by omega)
        refine lv_aload_n hx hb dX0_pays_36 rfl (lv_at hl 1 rfl) ?_
        refine lv_iload_n hx hb dX0_pays_37 rfl (lv_at hl 0 rfl) ?_
        refine fx_ci (va_runV (As := [.int (nI (tellC bt sz nu (nn sheet) 30))]) (rest := []) X (xX0_finds l E ax im bn bm fm ff fl er (tellC bt sz nu (nn sheet) 30) (by omega) _) (cwV 1 X.2.2.2.2 (lw_V q303 q305 qs0 q69 q306) rfl rfl rfl ⟨rfl, hdX0_finds⟩ ⟨Nat.le_of_ble_eq_true rfl, Nat.le_of_ble_eq_true rfl⟩) (fx_preV (fx_pre hE hP hD hS hR [0] rfl rfl (fx_rcr 0 rfl fx_rc0)) (va_recv hE.1 (hR.at hS) (ci := 0) (q0 := 0) rfl rfl)) rfl rfl hl.1 rfl (lv_room (Nat.le_of_ble_eq_true rfl)) dX0_pays_38 ⟨Nat.le_refl _, Nat.le_refl _⟩) hP hD hS hA [0] rfl rfl (fun r_38 u H locs hq_38 hP hD hS => ?_)
        replace hP : va_P E.1 clA [(ax 5, .inl (E.2 0, 7, .inl (upd er (tellC bt sz nu (nn sheet) 30) (er (tellC bt sz nu (nn sheet) 30) + 1)))), (ax 9, .inl (E.2 1, 8, .inl row2_28)), (ax 1, .inl (E.2 0, 3, .inl nmd)), (ax 0, .inl (E.2 0, 60, .inl pl))] _ := hP
        replace hD : va_D A [(ax 5, .inl (E.2 0, 7, .inl (upd er (tellC bt sz nu (nn sheet) 30) (er (tellC bt sz nu (nn sheet) 30) + 1)))), (ax 9, .inl (E.2 1, 8, .inl row2_28)), (ax 1, .inl (E.2 0, 3, .inl nmd)), (ax 0, .inl (E.2 0, 60, .inl pl))] := hD
        replace hq_38 : r_38 = erv (tellC bt sz nu (nn sheet) 30) := hq_38
        refine lv_goto (tgt := 53) hx hb dX0_pays_41 (by decide) ?_
        exact hret r_38 ((upd er (tellC bt sz nu (nn sheet) 30) (er (tellC bt sz nu (nn sheet) 30) + 1)), row2_28, nmd, pl) (by rw [hq_38]; simp only [pays_, hbc, eR_p n_33, eE_p n_33, erI]) (rfl) hP hD hS (Nat.le_refl _) (Nat.le_refl _) dX0_pays_53
    · -- False
      subst hr_8
      have hbc : lackF bt sz nu sheet til true 30 = 1 := lack_no (Or.inr (Or.inl hb_8))
      refine lv_if_ne (tgt := 20) hx hb dX0_pays_11 (by decide) (fun c => (c (by decide)).elim) (fun _ => ?_)
      refine lv_aload_n hx hb dX0_pays_14 rfl (lv_at hl 0 rfl) ?_
      refine lv_iconst (v := 1) hx hb dX0_pays_15 rfl ?_
      refine fx_ci (va_runV (As := [.int 1]) (rest := []) X (xX0_finds l E ax im bn bm fm ff fl er 1 (by decide) _) (cwV 1 X.2.2.2.2 (lw_V q303 q305 qs0 q69 q306) rfl rfl rfl ⟨rfl, hdX0_finds⟩ ⟨Nat.le_of_ble_eq_true rfl, Nat.le_of_ble_eq_true rfl⟩) (fx_preV (fx_pre hE hP hD hS hR [0] rfl rfl (fx_rcr 0 rfl fx_rc0)) (va_recv hE.1 (hR.at hS) (ci := 0) (q0 := 0) rfl rfl)) rfl rfl hl.1 rfl (lv_room (Nat.le_of_ble_eq_true rfl)) dX0_pays_16 ⟨Nat.le_refl _, Nat.le_refl _⟩) hP hD hS hA [0] rfl rfl (fun r_16 u H locs hq_16 hP hD hS => ?_)
      replace hP : va_P E.1 clA [(ax 5, .inl (E.2 0, 7, .inl (upd er 1 (er 1 + 1)))), (ax 9, .inl (E.2 1, 8, .inl bk)), (ax 1, .inl (E.2 0, 3, .inl nmd)), (ax 0, .inl (E.2 0, 60, .inl pl))] _ := hP
      replace hD : va_D A [(ax 5, .inl (E.2 0, 7, .inl (upd er 1 (er 1 + 1)))), (ax 9, .inl (E.2 1, 8, .inl bk)), (ax 1, .inl (E.2 0, 3, .inl nmd)), (ax 0, .inl (E.2 0, 60, .inl pl))] := hD
      replace hq_16 : r_16 = erv 1 := hq_16
      exact hret r_16 ((upd er 1 (er 1 + 1)), bk, nmd, pl) (by rw [hq_16]; simp only [pays_, hbc]; rfl) (rfl) hP hD hS (Nat.le_refl _) (Nat.le_refl _) dX0_pays_19
  · -- False
    subst hr_1
    have hbc : lackF bt sz nu sheet til true 30 = 1 := lack_no (Or.inl hb_1)
    refine lv_if_eq (tgt := 14) hx hb dX0_pays_4 (by decide) (fun _ => ?_) (fun c => (c (by decide)).elim)
    refine lv_aload_n hx hb dX0_pays_14 rfl (lv_at hl 0 rfl) ?_
    refine lv_iconst (v := 1) hx hb dX0_pays_15 rfl ?_
    refine fx_ci (va_runV (As := [.int 1]) (rest := []) X (xX0_finds l E ax im bn bm fm ff fl er 1 (by decide) _) (cwV 1 X.2.2.2.2 (lw_V q303 q305 qs0 q69 q306) rfl rfl rfl ⟨rfl, hdX0_finds⟩ ⟨Nat.le_of_ble_eq_true rfl, Nat.le_of_ble_eq_true rfl⟩) (fx_preV (fx_pre hE hP hD hS hR [0] rfl rfl (fx_rcr 0 rfl fx_rc0)) (va_recv hE.1 (hR.at hS) (ci := 0) (q0 := 0) rfl rfl)) rfl rfl hl.1 rfl (lv_room (Nat.le_of_ble_eq_true rfl)) dX0_pays_16 ⟨Nat.le_refl _, Nat.le_refl _⟩) hP hD hS hA [0] rfl rfl (fun r_16 u H locs hq_16 hP hD hS => ?_)
    replace hP : va_P E.1 clA [(ax 5, .inl (E.2 0, 7, .inl (upd er 1 (er 1 + 1)))), (ax 9, .inl (E.2 1, 8, .inl bk)), (ax 1, .inl (E.2 0, 3, .inl nmd)), (ax 0, .inl (E.2 0, 60, .inl pl))] _ := hP
    replace hD : va_D A [(ax 5, .inl (E.2 0, 7, .inl (upd er 1 (er 1 + 1)))), (ax 9, .inl (E.2 1, 8, .inl bk)), (ax 1, .inl (E.2 0, 3, .inl nmd)), (ax 0, .inl (E.2 0, 60, .inl pl))] := hD
    replace hq_16 : r_16 = erv 1 := hq_16
    exact hret r_16 ((upd er 1 (er 1 + 1)), bk, nmd, pl) (by rw [hq_16]; simp only [pays_, hbc]; rfl) (rfl) hP hD hS (Nat.le_refl _) (Nat.le_refl _) dX0_pays_19
abbrev rxX0_isThere : Room := { frames := 0, cells := 0, slots := 0, locals := 0 }
set_option maxHeartbeats 400000 in
set_option maxRecDepth 100000 in
theorem xX0_isThere (l : Launch) (E : fx_En) (ax : Nat → Nat) (im : Int32) (bn : Int32) (bm : Int32) (fm : Int32) (ff : Int32) (fl : Int32) (tk : Int32) (cs : Int32) (gs : Int32) (zz : Int32) (tp : Int32) (wg : Int32) (bk : Nat → Int32) (st0 : Nat → Int32) : fx_Mi l yX0_isThere cX0_isThere 3 .boolean rxX0_isThere E [.ref (ax 19)] [] [(ax 19, .inr (0, [.ref (ax 0), .ref (ax 1), .ref (ax 35), .ref (ax 55), .ref (ax 4), .ref (ax 5), .ref (ax 6), .ref (ax 7), .int im, .ref (ax 9), .ref (ax 10), .ref (ax 11), .ref (ax 12), .ref (ax 13), .int bn, .int bm, .int fm, .int ff, .int fl])), (ax 35, .inr (1, [.ref (ax 20), .ref (ax 21), .ref (ax 22), .int tk, .int cs, .int gs, .int zz, .int tp, .int wg, .ref (ax 29), .ref (ax 30), .ref (ax 31), .ref (ax 32)])), (ax 9, .inl (E.2 1, 8, .inl bk)), (ax 22, .inl (E.2 0, 8, .inl st0))] (S := Unit) (fun (u : Unit) => []) (fun (r : Int32) (u : Unit) => r = fx_b (allB (fun i_ => decide (bk i_ ≤ st0 i_)) 8 = true)) := by
  refine fx_iW rfl rfl ?_
  intro p e s m args below meth c A ls Q X hE hP hD hR hA hl hret
  have hx := X.1
  have hb := X.2.1
  have hS : va_S A s.heap s.heap [] := va_S.rf
  replace hl : lv_has ls 3 [(0, .ref (ax 19))] := hl
  refine lv_iconst (v := 1) hx hb dX0_isThere_0 rfl ?_
  refine lv_istore_n (lv' := [(1, .int 1), (0, .ref (ax 19))]) hx hb dX0_isThere_1 rfl hl (by decide) rfl (fun ls hl => ?_)
  refine lv_iconst (v := 0) hx hb dX0_isThere_2 rfl ?_
  refine lv_istore_n (lv' := [(2, .int 0), (1, .int 1), (0, .ref (ax 19))]) hx hb dX0_isThere_3 rfl hl (by decide) rfl (fun ls hl => ?_)
  have loop_4 : ∀ (n_4 : Nat) (t : Nat) (bz : Int32), (8 - t < n_4) → (t ≤ 8) → (bz = fx_b (allB (fun i_ => decide (bk i_ ≤ st0 i_)) t = true)) → ∀ (H : Heap) (locs : List Loc), va_P E.1 clA [] H → va_D A [] → va_S A s.heap H locs → ∀ (ls : Array Slot), lv_has ls 3 [(2, .int (nI t)), (1, .int bz), (0, .ref (ax 19))] → W p l e rxX0_isThere s m args below meth c H locs 0 0 Q (F0 m 4 ls []) := by
    intro n_4
    induction n_4 with
    | zero => intro t bz hm_4; exact absurd hm_4 (Nat.not_lt_zero _)
    | succ n_4 ih_4 =>
      intro t bz hm_4 ht hbz H locs hP hD hS ls hl
      refine lv_iload_n hx hb dX0_isThere_4 rfl (lv_at hl 0 rfl) ?_
      refine lv_bipush (v := 8) hx hb dX0_isThere_5 rfl ?_
      refine lv_icmp_ge (tgt := 42) hx hb dX0_isThere_7 (by decide) (fun c_7 => ?_) (fun c_7 => ?_)
      · -- jump 42
        have n_7 := fx_le1 (a := 8) (b := t) c_7 (by omega) (by omega)
        obtain rfl : t = 8 := by omega
        subst hbz
        refine lv_iload_n hx hb dX0_isThere_42 rfl (lv_at hl 1 rfl) ?_
        exact hret (fx_b (allB (fun i_ => decide (bk i_ ≤ st0 i_)) 8 = true)) () (rfl) (nar_b) hP hD hS (Nat.le_refl _) (Nat.le_refl _) dX0_isThere_43
      · -- fall 10
        have n_7 := fx_le0 (a := 8) (b := t) c_7 (by omega) (by omega)
        refine lv_iload_n hx hb dX0_isThere_10 rfl (lv_at hl 1 rfl) ?_
        refine lv_aload_n hx hb dX0_isThere_11 rfl (lv_at hl 2 rfl) ?_
        refine fx_get X hE (hR.at hS) 0 rfl rfl 9 rfl q244 rfl rfl dX0_isThere_12 ?_
        refine lv_iload_n hx hb dX0_isThere_15 rfl (lv_at hl 0 rfl) ?_
        refine fx_bald X hE (hR.at hS) 2 rfl t rfl (by omega) rfl dX0_isThere_16 ?_
        refine lv_aload_n hx hb dX0_isThere_17 rfl (lv_at hl 2 rfl) ?_
        refine fx_get X hE (hR.at hS) 0 rfl rfl 2 rfl q237 rfl rfl dX0_isThere_18 ?_
        refine fx_getN X hE (hR.at hS) 1 rfl rfl 2 rfl 5 rfl rfl rfl dX0_isThere_21 ?_
        refine lv_iload_n hx hb dX0_isThere_24 rfl (lv_at hl 0 rfl) ?_
        refine fx_iald X hE (hR.at hS) 3 rfl t rfl (by omega) rfl dX0_isThere_25 ?_
        refine lv_icmp_gt (tgt := 33) hx hb dX0_isThere_26 (by decide) (fun c_26 => ?_) (fun c_26 => ?_)
        · -- jump 33
          refine lv_iconst (v := 0) hx hb dX0_isThere_33 rfl ?_
          refine lv_iand hx hb dX0_isThere_34 ?_
          refine lv_istore_n (lv' := [(1, .int (bz &&& 0)), (2, .int (nI t)), (0, .ref (ax 19))]) hx hb dX0_isThere_35 rfl hl (by decide) rfl (fun ls hl => ?_)
          refine lv_iinc (v := nI (t + 1)) (lv' := [(2, .int (nI (t + 1))), (1, .int (bz &&& 0)), (0, .ref (ax 19))]) hx hb dX0_isThere_36 hl (k := 1) rfl (fx_inc _) (by decide) rfl (fun ls hl => ?_)
          refine lv_goto (tgt := 4) hx hb dX0_isThere_39 (by decide) ?_
          exact ih_4 (t + 1) (bz &&& 0) (by omega) (by omega) (and_f hbz (Int32.not_le.2 c_26)) _ _ hP hD hS ls (lv_sub hl [0, 1, 2] rfl)
        · -- fall 29
          refine lv_iconst (v := 1) hx hb dX0_isThere_29 rfl ?_
          refine lv_goto (tgt := 34) hx hb dX0_isThere_30 (by decide) ?_
          refine lv_iand hx hb dX0_isThere_34 ?_
          refine lv_istore_n (lv' := [(1, .int (bz &&& 1)), (2, .int (nI t)), (0, .ref (ax 19))]) hx hb dX0_isThere_35 rfl hl (by decide) rfl (fun ls hl => ?_)
          refine lv_iinc (v := nI (t + 1)) (lv' := [(2, .int (nI (t + 1))), (1, .int (bz &&& 1)), (0, .ref (ax 19))]) hx hb dX0_isThere_36 hl (k := 1) rfl (fx_inc _) (by decide) rfl (fun ls hl => ?_)
          refine lv_goto (tgt := 4) hx hb dX0_isThere_39 (by decide) ?_
          exact ih_4 (t + 1) (bz &&& 1) (by omega) (by omega) (and_t hbz (Int32.not_lt.1 c_26)) _ _ hP hD hS ls (lv_sub hl [0, 1, 2] rfl)
  exact loop_4 ((8 - 0) + 1) 0 1 (Nat.lt_succ_self _) (by omega) (fx_bt rfl) _ _ hP hD hS ls (lv_sub hl [0, 1, 2] rfl)
abbrev rxX1_drawn : Room := { frames := 0, cells := 0, slots := 0, locals := 0 }
set_option maxHeartbeats 400000 in
set_option maxRecDepth 100000 in
theorem xX1_drawn (l : Launch) (E : fx_En) (ax : Nat → Nat) (tk : Int32) (cs : Int32) (gs : Int32) (zz : Int32) (tp : Int32) (wg : Int32) : fx_Mi l yX1_drawn cX1_drawn 1 .int rxX1_drawn E [.ref (ax 35)] [(ax 35, .inr (1, [.ref (ax 20), .ref (ax 21), .ref (ax 22), .int tk, .int cs, .int gs, .int zz, .int tp, .int wg, .ref (ax 29), .ref (ax 30), .ref (ax 31), .ref (ax 32)]))] [] (S := Unit) (fun (u : Unit) => [(ax 35, .inr (1, [.ref (ax 20), .ref (ax 21), .ref (ax 22), .int tk, .int cs, .int gs, .int (zN zz), .int tp, .int wg, .ref (ax 29), .ref (ax 30), .ref (ax 31), .ref (ax 32)]))]) (fun (r : Int32) (u : Unit) => r = zD (zN zz)) := by
  refine fx_iW rfl rfl ?_
  intro p e s m args below meth c A ls Q X hE hP hD hR hA hl hret
  have hx := X.1
  have hb := X.2.1
  have hS : va_S A s.heap s.heap [] := va_S.rf
  replace hP : va_P E.1 clA [(ax 35, .inr (1, [.ref (ax 20), .ref (ax 21), .ref (ax 22), .int tk, .int cs, .int gs, .int zz, .int tp, .int wg, .ref (ax 29), .ref (ax 30), .ref (ax 31), .ref (ax 32)]))] _ := hP
  replace hD : va_D A [(ax 35, .inr (1, [.ref (ax 20), .ref (ax 21), .ref (ax 22), .int tk, .int cs, .int gs, .int zz, .int tp, .int wg, .ref (ax 29), .ref (ax 30), .ref (ax 31), .ref (ax 32)]))] := hD
  replace hl : lv_has ls 1 [(0, .ref (ax 35))] := hl
  refine lv_aload_n hx hb dX1_drawn_0 rfl (lv_at hl 0 rfl) ?_
  refine lv_aload_n hx hb dX1_drawn_1 rfl (lv_at hl 0 rfl) ?_
  refine fx_get X hE hP 0 rfl rfl 6 rfl q164 rfl rfl dX1_drawn_2 ?_
  refine lv_ldc (v := 1103515245) hx hb X.2.2.2.1 (X.2.2.2.2 _ q862) dX1_drawn_5 ?_
  refine lv_imul hx hb dX1_drawn_7 ?_
  refine lv_sipush (v := 12345) hx hb dX1_drawn_8 rfl ?_
  refine lv_iadd hx hb dX1_drawn_11 ?_
  refine fx_put_ (ws' := [(ax 35, .inr (1, [.ref (ax 20), .ref (ax 21), .ref (ax 22), .int tk, .int cs, .int gs, .int ((zz * 1103515245) + 12345), .int tp, .int wg, .ref (ax 29), .ref (ax 30), .ref (ax 31), .ref (ax 32)]))]) X hE hP hD hS 0 rfl rfl tyX1_ok nmX1 6 rfl q164 rfl rfl rfl rfl rfl rfl dX1_drawn_12 (fun H locs hP hD hS => ?_)
  refine lv_aload_n hx hb dX1_drawn_15 rfl (lv_at hl 0 rfl) ?_
  refine fx_get X hE hP 0 rfl rfl 6 rfl q164 rfl rfl dX1_drawn_16 ?_
  refine lv_bipush (v := 8) hx hb dX1_drawn_19 rfl ?_
  refine lv_iushr (v := (((zz * 1103515245) + 12345).toUInt32 >>> ((8 : Int32).toUInt32 &&& Int32.toUInt32 31)).toInt32) hx hb dX1_drawn_21 rfl ?_
  exact hret ((((zz * 1103515245) + 12345).toUInt32 >>> ((8 : Int32).toUInt32 &&& Int32.toUInt32 31)).toInt32) () (rfl) (rfl) hP hD hS (Nat.le_refl _) (Nat.le_refl _) dX1_drawn_22
