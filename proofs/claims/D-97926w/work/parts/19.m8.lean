set_option maxRecDepth 100000
theorem hdX6_together : yX6_together.cls ≠ "java/lang/invoke/MethodHandle" ∧ yX6_together.cls ≠ "java/lang/invoke/VarHandle" ∧ (parseMethodDescriptor yX6_together.desc).map (fun d => d.parameters.length) = some 3 := by decide +kernel
theorem hdX6_small : yX6_small.cls ≠ "java/lang/invoke/MethodHandle" ∧ yX6_small.cls ≠ "java/lang/invoke/VarHandle" ∧ (parseMethodDescriptor yX6_small.desc).map (fun d => d.parameters.length) = some 4 := by decide +kernel
theorem hdX6_allSmall : yX6_allSmall.cls ≠ "java/lang/invoke/MethodHandle" ∧ yX6_allSmall.cls ≠ "java/lang/invoke/VarHandle" ∧ (parseMethodDescriptor yX6_allSmall.desc).map (fun d => d.parameters.length) = some 2 := by decide +kernel
theorem hdX6_nines : yX6_nines.cls ≠ "java/lang/invoke/MethodHandle" ∧ yX6_nines.cls ≠ "java/lang/invoke/VarHandle" ∧ (parseMethodDescriptor yX6_nines.desc).map (fun d => d.parameters.length) = some 1 := by decide +kernel
theorem hdX6_wasIn : yX6_wasIn.cls ≠ "java/lang/invoke/MethodHandle" ∧ yX6_wasIn.cls ≠ "java/lang/invoke/VarHandle" ∧ (parseMethodDescriptor yX6_wasIn.desc).map (fun d => d.parameters.length) = some 3 := by decide +kernel
theorem hdX6_divisor : yX6_divisor.cls ≠ "java/lang/invoke/MethodHandle" ∧ yX6_divisor.cls ≠ "java/lang/invoke/VarHandle" ∧ (parseMethodDescriptor yX6_divisor.desc).map (fun d => d.parameters.length) = some 2 := by decide +kernel
theorem hdX6_erring : yX6_erring.cls ≠ "java/lang/invoke/MethodHandle" ∧ yX6_erring.cls ≠ "java/lang/invoke/VarHandle" ∧ (parseMethodDescriptor yX6_erring.desc).map (fun d => d.parameters.length) = some 4 := by decide +kernel
theorem hdX6_dearer : yX6_dearer.cls ≠ "java/lang/invoke/MethodHandle" ∧ yX6_dearer.cls ≠ "java/lang/invoke/VarHandle" ∧ (parseMethodDescriptor yX6_dearer.desc).map (fun d => d.parameters.length) = some 3 := by decide +kernel
theorem hdX6_move : yX6_move.cls ≠ "java/lang/invoke/MethodHandle" ∧ yX6_move.cls ≠ "java/lang/invoke/VarHandle" ∧ (parseMethodDescriptor yX6_move.desc).map (fun d => d.parameters.length) = some 5 := by decide +kernel
abbrev rmX6_together : Room := { frames := 4, cells := 0, slots := 0, locals := 95 }
set_option maxHeartbeats 400000 in
set_option maxRecDepth 100000 in
theorem mX6_together (l : Launch) (E : fx_En) (ad : Nat → Nat) (im : Int32) (at_ : Int32) (op : Int32) (st_ : Int32) (us : Int32) (bn : Int32) (bm : Int32) (la : Int32) (fo : Int32) (fi : Int32) (lp : Int32) (tr_ : Int32) (sp : Int32) (ip : Int32) (sa : Nat → Int32) (bt : Nat → Int32) (sz : Nat → Int32) (nu : Nat → Int32) (er : Nat → Int32) (nmd : Nat → Int32) (pl : Nat → Int32) (td : Nat → Int32) (bs : Nat → Int32) (rw_ : Nat → Int32) (sheet : Int32) (other : Int32) (til : Int32) (T : Tx) (hI : Inv sa) (hIS : InvS bt sz) (hT : TM sa 0 T) (hTo : TOk T) : fx_Mi l yX6_together cX6_together 6 .int rmX6_together E [.ref (ad 30), .int sheet, .int other, .int til] [(ad 3, .inl (E.2 0, 7, .inl er)), (ad 9, .inl (E.2 0, 128, .inl nmd)), (ad 10, .inl (E.2 0, 64, .inl pl)), (ad 11, .inl (E.2 0, 8, .inl td)), (ad 12, .inl (E.2 0, 8, .inl bs)), (ad 13, .inl (E.2 0, 8, .inl rw_))] [(ad 30, .inr (6, [.ref (ad 0), .ref (ad 1), .int im, .ref (ad 3), .int at_, .int op, .int st_, .int us, .ref (ad 8), .ref (ad 9), .ref (ad 10), .ref (ad 11), .ref (ad 12), .ref (ad 13), .ref (ad 14), .int bn, .int bm, .ref (ad 17), .int la, .int fo, .int fi, .int lp, .ref (ad 22), .int tr_, .int sp, .int ip, .ref (ad 26), .ref (ad 27), .ref (ad 28), .ref (ad 29)])), (ad 0, .inl (E.2 0, 374, .inl sa)), (ad 26, .inl (E.2 0, 4, .inl bt)), (ad 27, .inl (E.2 0, 4, .inl sz)), (ad 28, .inl (E.2 0, 96, .inl nu))] (S := (Nat → Int32) × (Nat → Int32) × (Nat → Int32) × (Nat → Int32) × (Nat → Int32) × (Nat → Int32)) (fun (u : (Nat → Int32) × (Nat → Int32) × (Nat → Int32) × (Nat → Int32) × (Nat → Int32) × (Nat → Int32)) => [(ad 3, .inl (E.2 0, 7, .inl u.1)), (ad 9, .inl (E.2 0, 128, .inl u.2.1)), (ad 10, .inl (E.2 0, 64, .inl u.2.2.1)), (ad 11, .inl (E.2 0, 8, .inl u.2.2.2.1)), (ad 12, .inl (E.2 0, 8, .inl u.2.2.2.2.1)), (ad 13, .inl (E.2 0, 8, .inl u.2.2.2.2.2))]) (fun (r : Int32) (u : (Nat → Int32) × (Nat → Int32) × (Nat → Int32) × (Nat → Int32) × (Nat → Int32) × (Nat → Int32)) => (r, u.1) = together_ sa er bt sz nu T sheet other til) := by
  refine fx_iW rfl rfl ?_
  intro p e s m args below meth c A ls Q X hE hP hD hR hA hl hret
  have hx := X.1
  have hb := X.2.1
  have hS : va_S A s.heap s.heap [] := va_S.rf
  replace hP : va_P E.1 clA [(ad 3, .inl (E.2 0, 7, .inl er)), (ad 9, .inl (E.2 0, 128, .inl nmd)), (ad 10, .inl (E.2 0, 64, .inl pl)), (ad 11, .inl (E.2 0, 8, .inl td)), (ad 12, .inl (E.2 0, 8, .inl bs)), (ad 13, .inl (E.2 0, 8, .inl rw_))] _ := hP
  replace hD : va_D A [(ad 3, .inl (E.2 0, 7, .inl er)), (ad 9, .inl (E.2 0, 128, .inl nmd)), (ad 10, .inl (E.2 0, 64, .inl pl)), (ad 11, .inl (E.2 0, 8, .inl td)), (ad 12, .inl (E.2 0, 8, .inl bs)), (ad 13, .inl (E.2 0, 8, .inl rw_))] := hD
  replace hl : lv_has ls 6 [(0, .ref (ad 30)), (1, .int sheet), (2, .int other), (3, .int til)] := hl
  refine lv_aload_n hx hb dX6_together_0 rfl (lv_at hl 0 rfl) ?_
  refine lv_iload_n hx hb dX6_together_1 rfl (lv_at hl 1 rfl) ?_
  refine lv_iload_n hx hb dX6_together_2 rfl (lv_at hl 3 rfl) ?_
  refine lv_iload_n hx hb dX6_together_3 rfl (lv_at hl 2 rfl) ?_
  refine fx_ci (va_runS (As := [.int other]) (rest := [.int til, .int sheet, .ref (ad 30)]) X (mX6_isSheet l E other _) (va_cwS 1 X.2.2.2.2 (lw_S q1406 q1407 q75 q1408) rfl rfl rfl hdX6_isSheet ⟨Nat.le_of_ble_eq_true rfl, Nat.le_of_ble_eq_true rfl⟩) (fx_pre hE hP hD hS hR [] rfl rfl fx_rc0) rfl rfl hl.1 rfl (lv_room (Nat.le_of_ble_eq_true rfl)) dX6_together_4 ⟨Nat.le_refl _, Nat.le_refl _⟩) hP hD hS hA [] rfl rfl (fun r_4 u H locs hq_4 hP hD hS => ?_)
  replace hP : va_P E.1 clA [(ad 3, .inl (E.2 0, 7, .inl er)), (ad 9, .inl (E.2 0, 128, .inl nmd)), (ad 10, .inl (E.2 0, 64, .inl pl)), (ad 11, .inl (E.2 0, 8, .inl td)), (ad 12, .inl (E.2 0, 8, .inl bs)), (ad 13, .inl (E.2 0, 8, .inl rw_))] _ := hP
  replace hD : va_D A [(ad 3, .inl (E.2 0, 7, .inl er)), (ad 9, .inl (E.2 0, 128, .inl nmd)), (ad 10, .inl (E.2 0, 64, .inl pl)), (ad 11, .inl (E.2 0, 8, .inl td)), (ad 12, .inl (E.2 0, 8, .inl bs)), (ad 13, .inl (E.2 0, 8, .inl rw_))] := hD
  replace hq_4 : r_4 = fx_b (inB other 0 3 = true) := hq_4
  rcases fx_bc hq_4 with ⟨hb_4, hr_4⟩ | ⟨hb_4, hr_4⟩
  · -- True
    subst hr_4
    have hwc : lackF bt sz nu sheet til (inB other 0 3) 99 = lackF bt sz nu sheet til true 99 := by rw [hb_4]
    refine lv_bipush (v := 99) hx hb dX6_together_7 rfl ?_
    refine fx_ci (va_runV (As := [.int sheet, .int til, .int 1, .int 99]) (rest := []) X (mX6_lacks l E ad im at_ op st_ us bn bm la fo fi lp tr_ sp ip bt sz nu td sheet til 1 99 (by first | assumption | omega) (by decide) _) (cwV 4 X.2.2.2.2 (lw_V q1402 q1404 qs50 q75 q1405) rfl rfl rfl ⟨rfl, hdX6_lacks⟩ ⟨Nat.le_of_ble_eq_true rfl, Nat.le_of_ble_eq_true rfl⟩) (fx_preV (fx_pre hE hP hD hS hR [3] rfl rfl (fx_rcr 0 rfl (fx_rcr 2 rfl (fx_rcr 3 rfl (fx_rcr 4 rfl fx_rc0))))) (va_recv hE.1 (hR.at hS) (ci := 6) (q0 := 0) rfl rfl)) rfl rfl hl.1 rfl (lv_room (Nat.le_of_ble_eq_true rfl)) dX6_together_9 ⟨Nat.le_refl _, Nat.le_refl _⟩) hP hD hS hA [3] rfl rfl (fun r_9 u H locs hq_9 hP hD hS => ?_)
    obtain ⟨td2_9, rfl⟩ : ∃ z, z = u := ⟨_, rfl⟩
    replace hP : va_P E.1 clA [(ad 3, .inl (E.2 0, 7, .inl er)), (ad 9, .inl (E.2 0, 128, .inl nmd)), (ad 10, .inl (E.2 0, 64, .inl pl)), (ad 11, .inl (E.2 0, 8, .inl td2_9)), (ad 12, .inl (E.2 0, 8, .inl bs)), (ad 13, .inl (E.2 0, 8, .inl rw_))] _ := hP
    replace hD : va_D A [(ad 3, .inl (E.2 0, 7, .inl er)), (ad 9, .inl (E.2 0, 128, .inl nmd)), (ad 10, .inl (E.2 0, 64, .inl pl)), (ad 11, .inl (E.2 0, 8, .inl td2_9)), (ad 12, .inl (E.2 0, 8, .inl bs)), (ad 13, .inl (E.2 0, 8, .inl rw_))] := hD
    replace hq_9 : r_9 = nI (lackF bt sz nu sheet til (decide (1 ≠ 0)) 99) ∧ (lackF bt sz nu sheet til (decide (1 ≠ 0)) 99 = 0 → ∀ t, t < 8 → td2_9 t = shG sz nu (nn sheet) t) := hq_9
    refine fx_ti (show r_9 = nI (lackF bt sz nu sheet til (inB other 0 3) 99) from hq_9.1.trans (congrArg nI hwc.symm)) ?_
    have hcl0 : lackF bt sz nu sheet til (inB other 0 3) 99 ≤ 4 := lackF_le
    refine lv_istore (lv' := [(4, .int (nI (lackF bt sz nu sheet til (inB other 0 3) 99))), (0, .ref (ad 30)), (1, .int sheet), (2, .int other), (3, .int til)]) hx hb dX6_together_12 hl (by decide) rfl (fun ls hl => ?_)
    refine lv_iload hx hb dX6_together_14 (lv_at hl 0 rfl) ?_
    refine lv_if_eq (tgt := 46) hx hb dX6_together_16 (by decide) (fun c_16 => ?_) (fun c_16 => ?_)
    · -- jump 46
      have n_16 := fx_eq1 (a := (lackF bt sz nu sheet til (inB other 0 3) 99)) (b := 0) c_16 (by omega) (by omega)
      obtain ⟨hrow, hr9, hm99, hsh, htl⟩ := lack_row (hwc.symm.trans n_16) (hq_9.2 (hwc.symm.trans n_16))
      have go := inB_nn (n := 3) hb_4 (by omega)
      refine lv_aload_n hx hb dX6_together_46 rfl (lv_at hl 1 rfl) ?_
      refine lv_iload_n hx hb dX6_together_47 rfl (lv_at hl 3 rfl) ?_
      refine fx_ti (show other = nI (nn other) from go.1) ?_
      have go2 := go.2
      refine lv_aload_n hx hb dX6_together_48 rfl (lv_at hl 1 rfl) ?_
      refine fx_get X hE (hR.at hS) 0 rfl rfl 12 rfl q1180 rfl rfl dX6_together_49 ?_
      refine lv_bipush (v := 99) hx hb dX6_together_52 rfl ?_
      refine fx_ci (va_runV (As := [.int (nI (nn other)), .ref (ad 12), .int 99]) (rest := []) X (mX6_tells l E ad im at_ op st_ us bn bm la fo fi lp tr_ sp ip bt sz nu (ad 12) bs (nn other) 99 (by omega) (by first | assumption | omega) (by decide) _) (cwV 3 X.2.2.2.2 (lw_V q1409 q1411 qs51 q75 q1412) rfl rfl rfl ⟨rfl, hdX6_tells⟩ ⟨Nat.le_of_ble_eq_true rfl, Nat.le_of_ble_eq_true rfl⟩) (fx_preV (fx_pre hE hP hD hS hR [4] rfl rfl (fx_rcr 0 rfl (fx_rcr 2 rfl (fx_rcr 3 rfl (fx_rcr 4 rfl fx_rc0))))) (va_recv hE.1 (hR.at hS) (ci := 6) (q0 := 0) rfl rfl)) rfl rfl hl.1 rfl (lv_room (Nat.le_of_ble_eq_true rfl)) dX6_together_54 ⟨Nat.le_refl _, Nat.le_refl _⟩) hP hD hS hA [4] rfl rfl (fun r_54 u H locs hq_54 hP hD hS => ?_)
      obtain ⟨row2_54, rfl⟩ : ∃ z, z = u := ⟨_, rfl⟩
      replace hP : va_P E.1 clA [(ad 3, .inl (E.2 0, 7, .inl er)), (ad 9, .inl (E.2 0, 128, .inl nmd)), (ad 10, .inl (E.2 0, 64, .inl pl)), (ad 11, .inl (E.2 0, 8, .inl td2_9)), (ad 12, .inl (E.2 0, 8, .inl row2_54)), (ad 13, .inl (E.2 0, 8, .inl rw_))] _ := hP
      replace hD : va_D A [(ad 3, .inl (E.2 0, 7, .inl er)), (ad 9, .inl (E.2 0, 128, .inl nmd)), (ad 10, .inl (E.2 0, 64, .inl pl)), (ad 11, .inl (E.2 0, 8, .inl td2_9)), (ad 12, .inl (E.2 0, 8, .inl row2_54)), (ad 13, .inl (E.2 0, 8, .inl rw_))] := hD
      replace hq_54 : r_54 = nI (tellC bt sz nu (nn other) 99) ∧ (tellC bt sz nu (nn other) 99 = 0 → ∀ t, t < 8 → row2_54 t = shG sz nu (nn other) t) := hq_54
      refine fx_ti (show r_54 = nI (tellC bt sz nu (nn other) 99) from hq_54.1) ?_
      have htc : tellC bt sz nu (nn other) 99 ≤ 4 := tellC_le
      refine lv_istore (lv' := [(5, .int (nI (tellC bt sz nu (nn other) 99))), (4, .int (nI (lackF bt sz nu sheet til (inB other 0 3) 99))), (0, .ref (ad 30)), (1, .int sheet), (2, .int other), (3, .int til)]) hx hb dX6_together_57 hl (by decide) rfl (fun ls hl => ?_)
      refine lv_iload hx hb dX6_together_59 (lv_at hl 0 rfl) ?_
      refine lv_iconst (v := 2) hx hb dX6_together_61 rfl ?_
      refine lv_icmp_eq (tgt := 70) hx hb dX6_together_62 (by decide) (fun c_62 => ?_) (fun c_62 => ?_)
      · -- jump 70
        have n_62 := fx_eq1 (a := (tellC bt sz nu (nn other) 99)) (b := 2) c_62 (by omega) (by omega)
        refine lv_iload hx hb dX6_together_70 (lv_at hl 0 rfl) ?_
        refine lv_goto (tgt := 77) hx hb dX6_together_72 (by decide) ?_
        refine lv_istore (lv' := [(4, .int (nI (tellC bt sz nu (nn other) 99))), (5, .int (nI (tellC bt sz nu (nn other) 99))), (0, .ref (ad 30)), (1, .int sheet), (2, .int other), (3, .int til)]) hx hb dX6_together_77 hl (by decide) rfl (fun ls hl => ?_)
        have hTA : togA bt sz nu sheet other til = tellC bt sz nu (nn other) 99 := by unfold togA; rw [if_pos (Or.inl n_16), if_pos (Or.inr n_16)]
        refine lv_iload hx hb dX6_together_79 (lv_at hl 0 rfl) ?_
        refine fx_ti (show nI (tellC bt sz nu (nn other) 99) = nI (togA bt sz nu sheet other til) from congrArg nI hTA.symm) ?_
        have hta : togA bt sz nu sheet other til ≤ 4 := by rw [hTA]; first | exact tellC_le | exact lackF_le
        refine lv_if_ne (tgt := 107) hx hb dX6_together_81 (by decide) (fun c_81 => ?_) (fun c_81 => ?_)
        · -- jump 107
          have n_81 := fx_eq0 (a := (togA bt sz nu sheet other til)) (b := 0) c_81 (by omega) (by omega)
          have hC : togC bt sz nu sheet other til = togA bt sz nu sheet other til := by unfold togC; rw [if_neg (fun h => n_81 h.1)]
          have hcl : togC bt sz nu sheet other til ≤ 4 := togC_le
          refine lv_iload hx hb dX6_together_107 (lv_at hl 0 rfl) ?_
          refine fx_ti (show nI (tellC bt sz nu (nn other) 99) = nI (togC bt sz nu sheet other til) from congrArg nI (hTA.symm.trans hC.symm)) ?_
          refine lv_if_le (tgt := 119) hx hb dX6_together_109 (by decide) (fun c_109 => ?_) (fun c_109 => ?_)
          · -- jump 119
            have n_109 := fx_le1 (a := (togC bt sz nu sheet other til)) (b := 0) c_109 (by omega) (by omega)
            have h0 : togC bt sz nu sheet other til = 0 := by omega
            exact absurd (hC.symm.trans h0) n_81
          · -- fall 112
            have n_109 := fx_le0 (a := (togC bt sz nu sheet other til)) (b := 0) c_109 (by omega) (by omega)
            refine lv_aload_n hx hb dX6_together_112 rfl (lv_at hl 2 rfl) ?_
            refine lv_iload hx hb dX6_together_113 (lv_at hl 0 rfl) ?_
            refine fx_ti (show nI (tellC bt sz nu (nn other) 99) = nI (togC bt sz nu sheet other til) from congrArg nI (hTA.symm.trans hC.symm)) ?_
            refine fx_ci (va_runV (As := [.int (nI (togC bt sz nu sheet other til))]) (rest := []) X (mX6_error l E ad im at_ op st_ us bn bm la fo fi lp tr_ sp ip er (togC bt sz nu sheet other til) (by omega) _) (cwV 1 X.2.2.2.2 (lw_V q1266 q1268 qs32 q75 q1269) rfl rfl rfl ⟨rfl, hdX6_error⟩ ⟨Nat.le_of_ble_eq_true rfl, Nat.le_of_ble_eq_true rfl⟩) (fx_preV (fx_pre hE hP hD hS hR [0] rfl rfl (fx_rcr 0 rfl fx_rc0)) (va_recv hE.1 (hR.at hS) (ci := 6) (q0 := 0) rfl rfl)) rfl rfl hl.1 rfl (lv_room (Nat.le_of_ble_eq_true rfl)) dX6_together_115 ⟨Nat.le_refl _, Nat.le_refl _⟩) hP hD hS hA [0] rfl rfl (fun r_115 u H locs hq_115 hP hD hS => ?_)
            replace hP : va_P E.1 clA [(ad 3, .inl (E.2 0, 7, .inl (upd er (togC bt sz nu sheet other til) (er (togC bt sz nu sheet other til) + 1)))), (ad 9, .inl (E.2 0, 128, .inl nmd)), (ad 10, .inl (E.2 0, 64, .inl pl)), (ad 11, .inl (E.2 0, 8, .inl td2_9)), (ad 12, .inl (E.2 0, 8, .inl row2_54)), (ad 13, .inl (E.2 0, 8, .inl rw_))] _ := hP
            replace hD : va_D A [(ad 3, .inl (E.2 0, 7, .inl (upd er (togC bt sz nu sheet other til) (er (togC bt sz nu sheet other til) + 1)))), (ad 9, .inl (E.2 0, 128, .inl nmd)), (ad 10, .inl (E.2 0, 64, .inl pl)), (ad 11, .inl (E.2 0, 8, .inl td2_9)), (ad 12, .inl (E.2 0, 8, .inl row2_54)), (ad 13, .inl (E.2 0, 8, .inl rw_))] := hD
            replace hq_115 : r_115 = erv (togC bt sz nu sheet other til) := hq_115
            exact hret r_115 ((upd er (togC bt sz nu sheet other til) (er (togC bt sz nu sheet other til) + 1)), nmd, pl, td2_9, row2_54, rw_) (by rw [hq_115]; simp only [together_, eR_p n_109, eE_p n_109, erI]) (rfl) hP hD hS (Nat.le_refl _) (Nat.le_refl _) dX6_together_118
        · -- fall 84
          have n_81 := fx_eq1 (a := (togA bt sz nu sheet other til)) (b := 0) c_81 (by omega) (by omega)
          have ht0 : tellC bt sz nu (nn other) 99 = 0 := hTA.symm.trans n_81
          obtain ⟨-, hrow2, hm2⟩ := tellC_0 ht0
          have hr2 := hq_54.2 ht0
          refine lv_aload_n hx hb dX6_together_84 rfl (lv_at hl 2 rfl) ?_
          refine fx_get X hE (hR.at hS) 0 rfl rfl 11 rfl q1179 rfl rfl dX6_together_85 ?_
          refine fx_ci (va_runS (As := [.ref (ad 11)]) (rest := []) X (mX6_many l E (ad 11) td2_9 _) (va_cwS 1 X.2.2.2.2 (lw_S q1413 q1414 q75 q1415) rfl rfl rfl hdX6_many ⟨Nat.le_of_ble_eq_true rfl, Nat.le_of_ble_eq_true rfl⟩) (fx_pre hE hP hD hS hR [] rfl rfl (fx_rcm 3 rfl (by decide) fx_rc0)) rfl rfl hl.1 rfl (lv_room (Nat.le_of_ble_eq_true rfl)) dX6_together_88 ⟨Nat.le_refl _, Nat.le_refl _⟩) hP hD hS hA [] rfl rfl (fun r_88 u H locs hq_88 hP hD hS => ?_)
          replace hP : va_P E.1 clA [(ad 3, .inl (E.2 0, 7, .inl er)), (ad 9, .inl (E.2 0, 128, .inl nmd)), (ad 10, .inl (E.2 0, 64, .inl pl)), (ad 11, .inl (E.2 0, 8, .inl td2_9)), (ad 12, .inl (E.2 0, 8, .inl row2_54)), (ad 13, .inl (E.2 0, 8, .inl rw_))] _ := hP
          replace hD : va_D A [(ad 3, .inl (E.2 0, 7, .inl er)), (ad 9, .inl (E.2 0, 128, .inl nmd)), (ad 10, .inl (E.2 0, 64, .inl pl)), (ad 11, .inl (E.2 0, 8, .inl td2_9)), (ad 12, .inl (E.2 0, 8, .inl row2_54)), (ad 13, .inl (E.2 0, 8, .inl rw_))] := hD
          replace hq_88 : r_88 = l_sum td2_9 8 := hq_88
          refine fx_ti (show r_88 = nI (manyN (rnG sz nu (nn sheet)) 8) from hq_88.trans (manyN_I 8 (fun t ht => (hrow t ht).1))) ?_
          refine lv_aload_n hx hb dX6_together_91 rfl (lv_at hl 2 rfl) ?_
          refine fx_get X hE (hR.at hS) 0 rfl rfl 12 rfl q1180 rfl rfl dX6_together_92 ?_
          refine fx_ci (va_runS (As := [.ref (ad 12)]) (rest := [.int (nI (manyN (rnG sz nu (nn sheet)) 8))]) X (mX6_many l E (ad 12) row2_54 _) (va_cwS 1 X.2.2.2.2 (lw_S q1413 q1414 q75 q1415) rfl rfl rfl hdX6_many ⟨Nat.le_of_ble_eq_true rfl, Nat.le_of_ble_eq_true rfl⟩) (fx_pre hE hP hD hS hR [] rfl rfl (fx_rcm 4 rfl (by decide) fx_rc0)) rfl rfl hl.1 rfl (lv_room (Nat.le_of_ble_eq_true rfl)) dX6_together_95 ⟨Nat.le_refl _, Nat.le_refl _⟩) hP hD hS hA [] rfl rfl (fun r_95 u H locs hq_95 hP hD hS => ?_)
          replace hP : va_P E.1 clA [(ad 3, .inl (E.2 0, 7, .inl er)), (ad 9, .inl (E.2 0, 128, .inl nmd)), (ad 10, .inl (E.2 0, 64, .inl pl)), (ad 11, .inl (E.2 0, 8, .inl td2_9)), (ad 12, .inl (E.2 0, 8, .inl row2_54)), (ad 13, .inl (E.2 0, 8, .inl rw_))] _ := hP
          replace hD : va_D A [(ad 3, .inl (E.2 0, 7, .inl er)), (ad 9, .inl (E.2 0, 128, .inl nmd)), (ad 10, .inl (E.2 0, 64, .inl pl)), (ad 11, .inl (E.2 0, 8, .inl td2_9)), (ad 12, .inl (E.2 0, 8, .inl row2_54)), (ad 13, .inl (E.2 0, 8, .inl rw_))] := hD
          replace hq_95 : r_95 = l_sum row2_54 8 := hq_95
          refine fx_ti (show r_95 = nI (manyN (rnG sz nu (nn other)) 8) from hq_95.trans (manyN_I 8 (fun t ht => (hr2 t ht).trans (hrow2 t ht).1))) ?_
          refine lv_iadd hx hb dX6_together_98 ?_
          refine fx_ti (nI_add (manyN (rnG sz nu (nn sheet)) 8) (manyN (rnG sz nu (nn other)) 8)) ?_
          refine lv_bipush (v := 30) hx hb dX6_together_99 rfl ?_
          refine lv_icmp_le (tgt := 107) hx hb dX6_together_101 (by decide) (fun c_101 => ?_) (fun c_101 => ?_)
          · -- jump 107
            have n_101 := fx_le1 (a := (manyN (rnG sz nu (nn sheet)) 8 + manyN (rnG sz nu (nn other)) 8)) (b := 30) c_101 (by omega) (by omega)
            have hC : togC bt sz nu sheet other til = togA bt sz nu sheet other til := by unfold togC; rw [if_neg (fun h => absurd h.2 (by omega))]
            have hcl : togC bt sz nu sheet other til ≤ 4 := togC_le
            refine lv_iload hx hb dX6_together_107 (lv_at hl 0 rfl) ?_
            refine fx_ti (show nI (tellC bt sz nu (nn other) 99) = nI (togC bt sz nu sheet other til) from congrArg nI (hTA.symm.trans hC.symm)) ?_
            refine lv_if_le (tgt := 119) hx hb dX6_together_109 (by decide) (fun c_109 => ?_) (fun c_109 => ?_)
            · -- jump 119
              have n_109 := fx_le1 (a := (togC bt sz nu sheet other til)) (b := 0) c_109 (by omega) (by omega)
              have h0 : togC bt sz nu sheet other til = 0 := by omega
              refine lv_iconst (v := 0) hx hb dX6_together_119 rfl ?_
              refine lv_istore (lv' := [(5, .int 0), (4, .int (nI (tellC bt sz nu (nn other) 99))), (0, .ref (ad 30)), (1, .int sheet), (2, .int other), (3, .int til)]) hx hb dX6_together_120 hl (by decide) rfl (fun ls hl => ?_)
              have loop_122 : ∀ (n_122 : Nat) (t : Nat) (rwv : Nat → Int32), (8 - t < n_122) → (t ≤ 8) → (∀ i, i < t → rwv i = nI (rnG sz nu (nn sheet) i + rnG sz nu (nn other) i)) → ∀ (H : Heap) (locs : List Loc), va_P E.1 clA [(ad 3, .inl (E.2 0, 7, .inl er)), (ad 9, .inl (E.2 0, 128, .inl nmd)), (ad 10, .inl (E.2 0, 64, .inl pl)), (ad 11, .inl (E.2 0, 8, .inl td2_9)), (ad 12, .inl (E.2 0, 8, .inl row2_54)), (ad 13, .inl (E.2 0, 8, .inl rwv))] H → va_D A [(ad 3, .inl (E.2 0, 7, .inl er)), (ad 9, .inl (E.2 0, 128, .inl nmd)), (ad 10, .inl (E.2 0, 64, .inl pl)), (ad 11, .inl (E.2 0, 8, .inl td2_9)), (ad 12, .inl (E.2 0, 8, .inl row2_54)), (ad 13, .inl (E.2 0, 8, .inl rwv))] → va_S A s.heap H locs → ∀ (ls : Array Slot), lv_has ls 6 [(5, .int (nI t)), (4, .int (nI (tellC bt sz nu (nn other) 99))), (0, .ref (ad 30)), (1, .int sheet), (2, .int other), (3, .int til)] → W p l e rmX6_together s m args below meth c H locs 0 0 Q (F0 m 122 ls []) := by
                intro n_122
                induction n_122 with
                | zero => intro t rwv hm_122; exact absurd hm_122 (Nat.not_lt_zero _)
                | succ n_122 ih_122 =>
                  intro t rwv hm_122 ht hrw H locs hP hD hS ls hl
                  refine lv_iload hx hb dX6_together_122 (lv_at hl 0 rfl) ?_
                  refine lv_bipush (v := 8) hx hb dX6_together_124 rfl ?_
                  refine lv_icmp_ge (tgt := 157) hx hb dX6_together_126 (by decide) (fun c_126 => ?_) (fun c_126 => ?_)
                  · -- jump 157
                    have n_126 := fx_le1 (a := 8) (b := t) c_126 (by omega) (by omega)
                    obtain rfl : t = 8 := by omega
                    refine lv_aload_n hx hb dX6_together_157 rfl (lv_at hl 2 rfl) ?_
                    refine lv_iload_n hx hb dX6_together_158 rfl (lv_at hl 5 rfl) ?_
                    refine fx_ti (show til = nI (nn til) from htl.1) ?_
                    refine lv_aload_n hx hb dX6_together_159 rfl (lv_at hl 2 rfl) ?_
                    refine fx_get X hE (hR.at hS) 0 rfl rfl 11 rfl q1179 rfl rfl dX6_together_160 ?_
                    refine fx_ci (va_runV (As := [.int (nI (nn til)), .ref (ad 11)]) (rest := []) X (mX6_paidI l E ad im at_ op st_ us bn bm la fo fi lp tr_ sp ip sa nmd pl (ad 11) td2_9 (nn til) T (rnG sz nu (nn sheet)) htl.2 (by first | assumption | omega) (by first | assumption | omega) (by first | assumption | omega) hrow _) (cwV 2 X.2.2.2.2 (lw_V q1428 q1430 qs54 q75 q1431) rfl rfl rfl ⟨rfl, hdX6_paid⟩ ⟨Nat.le_of_ble_eq_true rfl, Nat.le_of_ble_eq_true rfl⟩) (fx_preV (fx_pre hE hP hD hS hR [1, 2] rfl rfl (fx_rcr 0 rfl (fx_rcr 1 rfl (fx_rcm 3 rfl (by decide) fx_rc0)))) (va_recv hE.1 (hR.at hS) (ci := 6) (q0 := 0) rfl rfl)) rfl rfl hl.1 rfl (lv_room (Nat.le_of_ble_eq_true rfl)) dX6_together_163 ⟨Nat.le_refl _, Nat.le_refl _⟩) hP hD hS hA [1, 2] rfl rfl (fun r_163 u H locs hq_163 hP hD hS => ?_)
                    obtain ⟨nm2_163, pl2_163⟩ := u
                    replace hP : va_P E.1 clA [(ad 3, .inl (E.2 0, 7, .inl er)), (ad 9, .inl (E.2 0, 128, .inl nm2_163)), (ad 10, .inl (E.2 0, 64, .inl pl2_163)), (ad 11, .inl (E.2 0, 8, .inl td2_9)), (ad 12, .inl (E.2 0, 8, .inl row2_54)), (ad 13, .inl (E.2 0, 8, .inl rwv))] _ := hP
                    replace hD : va_D A [(ad 3, .inl (E.2 0, 7, .inl er)), (ad 9, .inl (E.2 0, 128, .inl nm2_163)), (ad 10, .inl (E.2 0, 64, .inl pl2_163)), (ad 11, .inl (E.2 0, 8, .inl td2_9)), (ad 12, .inl (E.2 0, 8, .inl row2_54)), (ad 13, .inl (E.2 0, 8, .inl rwv))] := hD
                    replace hq_163 : r_163 = paysF sa T (rnG sz nu (nn sheet)) (nn til) := hq_163
                    refine lv_aload_n hx hb dX6_together_166 rfl (lv_at hl 2 rfl) ?_
                    refine lv_iload_n hx hb dX6_together_167 rfl (lv_at hl 5 rfl) ?_
                    refine fx_ti (show til = nI (nn til) from htl.1) ?_
                    refine lv_aload_n hx hb dX6_together_168 rfl (lv_at hl 2 rfl) ?_
                    refine fx_get X hE (hR.at hS) 0 rfl rfl 12 rfl q1180 rfl rfl dX6_together_169 ?_
                    refine fx_ci (va_runV (As := [.int (nI (nn til)), .ref (ad 12)]) (rest := [.int r_163]) X (mX6_paidI l E ad im at_ op st_ us bn bm la fo fi lp tr_ sp ip sa nm2_163 pl2_163 (ad 12) row2_54 (nn til) T (rnG sz nu (nn other)) htl.2 (by first | assumption | omega) (by first | assumption | omega) (by first | assumption | omega) (fun t ht => ⟨(hr2 t ht).trans (hrow2 t ht).1, by have := (hrow2 t ht).2; omega⟩) _) (cwV 2 X.2.2.2.2 (lw_V q1428 q1430 qs54 q75 q1431) rfl rfl rfl ⟨rfl, hdX6_paid⟩ ⟨Nat.le_of_ble_eq_true rfl, Nat.le_of_ble_eq_true rfl⟩) (fx_preV (fx_pre hE hP hD hS hR [1, 2] rfl rfl (fx_rcr 0 rfl (fx_rcr 1 rfl (fx_rcm 4 rfl (by decide) fx_rc0)))) (va_recv hE.1 (hR.at hS) (ci := 6) (q0 := 0) rfl rfl)) rfl rfl hl.1 rfl (lv_room (Nat.le_of_ble_eq_true rfl)) dX6_together_172 ⟨Nat.le_refl _, Nat.le_refl _⟩) hP hD hS hA [1, 2] rfl rfl (fun r_172 u H locs hq_172 hP hD hS => ?_)
                    obtain ⟨nm2_172, pl2_172⟩ := u
                    replace hP : va_P E.1 clA [(ad 3, .inl (E.2 0, 7, .inl er)), (ad 9, .inl (E.2 0, 128, .inl nm2_172)), (ad 10, .inl (E.2 0, 64, .inl pl2_172)), (ad 11, .inl (E.2 0, 8, .inl td2_9)), (ad 12, .inl (E.2 0, 8, .inl row2_54)), (ad 13, .inl (E.2 0, 8, .inl rwv))] _ := hP
                    replace hD : va_D A [(ad 3, .inl (E.2 0, 7, .inl er)), (ad 9, .inl (E.2 0, 128, .inl nm2_172)), (ad 10, .inl (E.2 0, 64, .inl pl2_172)), (ad 11, .inl (E.2 0, 8, .inl td2_9)), (ad 12, .inl (E.2 0, 8, .inl row2_54)), (ad 13, .inl (E.2 0, 8, .inl rwv))] := hD
                    replace hq_172 : r_172 = paysF sa T (rnG sz nu (nn other)) (nn til) := hq_172
                    refine lv_iadd hx hb dX6_together_175 ?_
                    refine lv_aload_n hx hb dX6_together_176 rfl (lv_at hl 2 rfl) ?_
                    refine lv_iload_n hx hb dX6_together_177 rfl (lv_at hl 5 rfl) ?_
                    refine fx_ti (show til = nI (nn til) from htl.1) ?_
                    refine lv_aload_n hx hb dX6_together_178 rfl (lv_at hl 2 rfl) ?_
                    refine fx_get X hE (hR.at hS) 0 rfl rfl 13 rfl q1181 rfl rfl dX6_together_179 ?_
                    refine fx_ci (va_runV (As := [.int (nI (nn til)), .ref (ad 13)]) (rest := [.int (r_163 + r_172)]) X (mX6_paidI l E ad im at_ op st_ us bn bm la fo fi lp tr_ sp ip sa nm2_172 pl2_172 (ad 13) rwv (nn til) T (fun t => rnG sz nu (nn sheet) t + rnG sz nu (nn other) t) htl.2 (by first | assumption | omega) (by first | assumption | omega) (by first | assumption | omega) (fun t ht => ⟨hrw t ht, by have := hr9 t ht; have := (hrow2 t ht).2; omega⟩) _) (cwV 2 X.2.2.2.2 (lw_V q1428 q1430 qs54 q75 q1431) rfl rfl rfl ⟨rfl, hdX6_paid⟩ ⟨Nat.le_of_ble_eq_true rfl, Nat.le_of_ble_eq_true rfl⟩) (fx_preV (fx_pre hE hP hD hS hR [1, 2] rfl rfl (fx_rcr 0 rfl (fx_rcr 1 rfl (fx_rcm 5 rfl (by decide) fx_rc0)))) (va_recv hE.1 (hR.at hS) (ci := 6) (q0 := 0) rfl rfl)) rfl rfl hl.1 rfl (lv_room (Nat.le_of_ble_eq_true rfl)) dX6_together_182 ⟨Nat.le_refl _, Nat.le_refl _⟩) hP hD hS hA [1, 2] rfl rfl (fun r_182 u H locs hq_182 hP hD hS => ?_)
                    obtain ⟨nm2_182, pl2_182⟩ := u
                    replace hP : va_P E.1 clA [(ad 3, .inl (E.2 0, 7, .inl er)), (ad 9, .inl (E.2 0, 128, .inl nm2_182)), (ad 10, .inl (E.2 0, 64, .inl pl2_182)), (ad 11, .inl (E.2 0, 8, .inl td2_9)), (ad 12, .inl (E.2 0, 8, .inl row2_54)), (ad 13, .inl (E.2 0, 8, .inl rwv))] _ := hP
                    replace hD : va_D A [(ad 3, .inl (E.2 0, 7, .inl er)), (ad 9, .inl (E.2 0, 128, .inl nm2_182)), (ad 10, .inl (E.2 0, 64, .inl pl2_182)), (ad 11, .inl (E.2 0, 8, .inl td2_9)), (ad 12, .inl (E.2 0, 8, .inl row2_54)), (ad 13, .inl (E.2 0, 8, .inl rwv))] := hD
                    replace hq_182 : r_182 = paysF sa T (fun t => rnG sz nu (nn sheet) t + rnG sz nu (nn other) t) (nn til) := hq_182
                    refine lv_isub hx hb dX6_together_185 ?_
                    exact hret ((r_163 + r_172) - r_182) (er, nm2_182, pl2_182, td2_9, row2_54, rwv) (by rw [hq_163, hq_172, hq_182]; simp only [together_, h0, eR_0, eE_0, togR]) (rfl) hP hD hS (Nat.le_refl _) (Nat.le_refl _) dX6_together_186
                  · -- fall 129
                    have n_126 := fx_le0 (a := 8) (b := t) c_126 (by omega) (by omega)
                    refine lv_aload_n hx hb dX6_together_129 rfl (lv_at hl 2 rfl) ?_
                    refine fx_get X hE (hR.at hS) 0 rfl rfl 13 rfl q1181 rfl rfl dX6_together_130 ?_
                    refine lv_iload hx hb dX6_together_133 (lv_at hl 0 rfl) ?_
                    refine lv_aload_n hx hb dX6_together_135 rfl (lv_at hl 2 rfl) ?_
                    refine fx_get X hE (hR.at hS) 0 rfl rfl 11 rfl q1179 rfl rfl dX6_together_136 ?_
                    refine lv_iload hx hb dX6_together_139 (lv_at hl 0 rfl) ?_
                    refine fx_iald X hE hP 3 rfl t rfl (by omega) rfl dX6_together_141 ?_
                    refine fx_ti (show (td2_9 t) = nI (rnG sz nu (nn sheet) t) from (hrow t (by omega)).1) ?_
                    refine lv_aload_n hx hb dX6_together_142 rfl (lv_at hl 2 rfl) ?_
                    refine fx_get X hE (hR.at hS) 0 rfl rfl 12 rfl q1180 rfl rfl dX6_together_143 ?_
                    refine lv_iload hx hb dX6_together_146 (lv_at hl 0 rfl) ?_
                    refine fx_iald X hE hP 4 rfl t rfl (by omega) rfl dX6_together_148 ?_
                    refine fx_ti (show (row2_54 t) = nI (rnG sz nu (nn other) t) from (hr2 t (by omega)).trans (hrow2 t (by omega)).1) ?_
                    refine lv_iadd hx hb dX6_together_149 ?_
                    refine fx_ti (nI_add (rnG sz nu (nn sheet) t) (rnG sz nu (nn other) t)) ?_
                    refine fx_iast (ws' := [(ad 3, .inl (E.2 0, 7, .inl er)), (ad 9, .inl (E.2 0, 128, .inl nmd)), (ad 10, .inl (E.2 0, 64, .inl pl)), (ad 11, .inl (E.2 0, 8, .inl td2_9)), (ad 12, .inl (E.2 0, 8, .inl row2_54)), (ad 13, .inl (E.2 0, 8, .inl (upd rwv t (nI (rnG sz nu (nn sheet) t + rnG sz nu (nn other) t)))))]) X hE hP hD hS 5 rfl t rfl (by omega) rfl rfl dX6_together_150 (fun H locs hP hD hS => ?_)
                    refine lv_iinc (v := nI (t + 1)) (lv' := [(5, .int (nI (t + 1))), (4, .int (nI (tellC bt sz nu (nn other) 99))), (0, .ref (ad 30)), (1, .int sheet), (2, .int other), (3, .int til)]) hx hb dX6_together_151 hl (k := 0) rfl (fx_inc _) (by decide) rfl (fun ls hl => ?_)
                    refine lv_goto (tgt := 122) hx hb dX6_together_154 (by decide) ?_
                    exact ih_122 (t + 1) (upd rwv t (nI (rnG sz nu (nn sheet) t + rnG sz nu (nn other) t))) (by omega) (by omega) (ext_s (f := fun i => nI (rnG sz nu (nn sheet) i + rnG sz nu (nn other) i)) hrw rfl) _ _ hP hD hS ls (lv_sub hl [0, 1, 2, 3, 4, 5] rfl)
              exact loop_122 ((8 - 0) + 1) 0 rw_ (Nat.lt_succ_self _) (by omega) (fun i hi => absurd hi (Nat.not_lt_zero _)) _ _ hP hD hS ls (lv_sub hl [0, 1, 2, 3, 4, 5] rfl)
            · -- fall 112
              have n_109 := fx_le0 (a := (togC bt sz nu sheet other til)) (b := 0) c_109 (by omega) (by omega)
              exact absurd n_109 (by omega)
          · -- fall 104
            have n_101 := fx_le0 (a := (manyN (rnG sz nu (nn sheet)) 8 + manyN (rnG sz nu (nn other)) 8)) (b := 30) c_101 (by omega) (by omega)
            refine lv_iconst (v := 4) hx hb dX6_together_104 rfl ?_
            refine lv_istore (lv' := [(4, .int 4), (5, .int (nI (tellC bt sz nu (nn other) 99))), (0, .ref (ad 30)), (1, .int sheet), (2, .int other), (3, .int til)]) hx hb dX6_together_105 hl (by decide) rfl (fun ls hl => ?_)
            have hC : togC bt sz nu sheet other til = 4 := by unfold togC; rw [if_pos ⟨n_81, by omega⟩]
            have hcl : togC bt sz nu sheet other til ≤ 4 := togC_le
            refine lv_iload hx hb dX6_together_107 (lv_at hl 0 rfl) ?_
            refine fx_ti (show 4 = nI (togC bt sz nu sheet other til) from congrArg nI hC.symm) ?_
            refine lv_if_le (tgt := 119) hx hb dX6_together_109 (by decide) (fun c_109 => ?_) (fun c_109 => ?_)
            · -- jump 119
              have n_109 := fx_le1 (a := (togC bt sz nu sheet other til)) (b := 0) c_109 (by omega) (by omega)
              have h0 : togC bt sz nu sheet other til = 0 := by omega
              exact absurd (hC.symm.trans h0) (by omega)
            · -- fall 112
              have n_109 := fx_le0 (a := (togC bt sz nu sheet other til)) (b := 0) c_109 (by omega) (by omega)
              refine lv_aload_n hx hb dX6_together_112 rfl (lv_at hl 2 rfl) ?_
              refine lv_iload hx hb dX6_together_113 (lv_at hl 0 rfl) ?_
              refine fx_ti (show 4 = nI (togC bt sz nu sheet other til) from congrArg nI hC.symm) ?_
              refine fx_ci (va_runV (As := [.int (nI (togC bt sz nu sheet other til))]) (rest := []) X (mX6_error l E ad im at_ op st_ us bn bm la fo fi lp tr_ sp ip er (togC bt sz nu sheet other til) (by omega) _) (cwV 1 X.2.2.2.2 (lw_V q1266 q1268 qs32 q75 q1269) rfl rfl rfl ⟨rfl, hdX6_error⟩ ⟨Nat.le_of_ble_eq_true rfl, Nat.le_of_ble_eq_true rfl⟩) (fx_preV (fx_pre hE hP hD hS hR [0] rfl rfl (fx_rcr 0 rfl fx_rc0)) (va_recv hE.1 (hR.at hS) (ci := 6) (q0 := 0) rfl rfl)) rfl rfl hl.1 rfl (lv_room (Nat.le_of_ble_eq_true rfl)) dX6_together_115 ⟨Nat.le_refl _, Nat.le_refl _⟩) hP hD hS hA [0] rfl rfl (fun r_115 u H locs hq_115 hP hD hS => ?_)
              replace hP : va_P E.1 clA [(ad 3, .inl (E.2 0, 7, .inl (upd er (togC bt sz nu sheet other til) (er (togC bt sz nu sheet other til) + 1)))), (ad 9, .inl (E.2 0, 128, .inl nmd)), (ad 10, .inl (E.2 0, 64, .inl pl)), (ad 11, .inl (E.2 0, 8, .inl td2_9)), (ad 12, .inl (E.2 0, 8, .inl row2_54)), (ad 13, .inl (E.2 0, 8, .inl rw_))] _ := hP
              replace hD : va_D A [(ad 3, .inl (E.2 0, 7, .inl (upd er (togC bt sz nu sheet other til) (er (togC bt sz nu sheet other til) + 1)))), (ad 9, .inl (E.2 0, 128, .inl nmd)), (ad 10, .inl (E.2 0, 64, .inl pl)), (ad 11, .inl (E.2 0, 8, .inl td2_9)), (ad 12, .inl (E.2 0, 8, .inl row2_54)), (ad 13, .inl (E.2 0, 8, .inl rw_))] := hD
              replace hq_115 : r_115 = erv (togC bt sz nu sheet other til) := hq_115
              exact hret r_115 ((upd er (togC bt sz nu sheet other til) (er (togC bt sz nu sheet other til) + 1)), nmd, pl, td2_9, row2_54, rw_) (by rw [hq_115]; simp only [together_, eR_p n_109, eE_p n_109, erI]) (rfl) hP hD hS (Nat.le_refl _) (Nat.le_refl _) dX6_together_118
      · -- fall 65
        have n_62 := fx_eq0 (a := (tellC bt sz nu (nn other) 99)) (b := 2) c_62 (by omega) (by omega)
        refine lv_iload hx hb dX6_together_65 (lv_at hl 1 rfl) ?_
        refine lv_if_ne (tgt := 75) hx hb dX6_together_67 (by decide) (fun c_67 => (c_67 (congrArg nI n_16)).elim) (fun c_67 => ?_)
        have n_67 := fx_eq1 (a := (lackF bt sz nu sheet til (inB other 0 3) 99)) (b := 0) c_67 (by omega) (by omega)
        refine lv_iload hx hb dX6_together_70 (lv_at hl 0 rfl) ?_
        refine lv_goto (tgt := 77) hx hb dX6_together_72 (by decide) ?_
        refine lv_istore (lv' := [(4, .int (nI (tellC bt sz nu (nn other) 99))), (5, .int (nI (tellC bt sz nu (nn other) 99))), (0, .ref (ad 30)), (1, .int sheet), (2, .int other), (3, .int til)]) hx hb dX6_together_77 hl (by decide) rfl (fun ls hl => ?_)
        have hTA : togA bt sz nu sheet other til = tellC bt sz nu (nn other) 99 := by unfold togA; rw [if_pos (Or.inl n_16), if_pos (Or.inr n_16)]
        refine lv_iload hx hb dX6_together_79 (lv_at hl 0 rfl) ?_
        refine fx_ti (show nI (tellC bt sz nu (nn other) 99) = nI (togA bt sz nu sheet other til) from congrArg nI hTA.symm) ?_
        have hta : togA bt sz nu sheet other til ≤ 4 := by rw [hTA]; first | exact tellC_le | exact lackF_le
        refine lv_if_ne (tgt := 107) hx hb dX6_together_81 (by decide) (fun c_81 => ?_) (fun c_81 => ?_)
        · -- jump 107
          have n_81 := fx_eq0 (a := (togA bt sz nu sheet other til)) (b := 0) c_81 (by omega) (by omega)
          have hC : togC bt sz nu sheet other til = togA bt sz nu sheet other til := by unfold togC; rw [if_neg (fun h => n_81 h.1)]
          have hcl : togC bt sz nu sheet other til ≤ 4 := togC_le
          refine lv_iload hx hb dX6_together_107 (lv_at hl 0 rfl) ?_
          refine fx_ti (show nI (tellC bt sz nu (nn other) 99) = nI (togC bt sz nu sheet other til) from congrArg nI (hTA.symm.trans hC.symm)) ?_
          refine lv_if_le (tgt := 119) hx hb dX6_together_109 (by decide) (fun c_109 => ?_) (fun c_109 => ?_)
          · -- jump 119
            have n_109 := fx_le1 (a := (togC bt sz nu sheet other til)) (b := 0) c_109 (by omega) (by omega)
            have h0 : togC bt sz nu sheet other til = 0 := by omega
            exact absurd (hC.symm.trans h0) n_81
          · -- fall 112
            have n_109 := fx_le0 (a := (togC bt sz nu sheet other til)) (b := 0) c_109 (by omega) (by omega)
            refine lv_aload_n hx hb dX6_together_112 rfl (lv_at hl 2 rfl) ?_
            refine lv_iload hx hb dX6_together_113 (lv_at hl 0 rfl) ?_
            refine fx_ti (show nI (tellC bt sz nu (nn other) 99) = nI (togC bt sz nu sheet other til) from congrArg nI (hTA.symm.trans hC.symm)) ?_
            refine fx_ci (va_runV (As := [.int (nI (togC bt sz nu sheet other til))]) (rest := []) X (mX6_error l E ad im at_ op st_ us bn bm la fo fi lp tr_ sp ip er (togC bt sz nu sheet other til) (by omega) _) (cwV 1 X.2.2.2.2 (lw_V q1266 q1268 qs32 q75 q1269) rfl rfl rfl ⟨rfl, hdX6_error⟩ ⟨Nat.le_of_ble_eq_true rfl, Nat.le_of_ble_eq_true rfl⟩) (fx_preV (fx_pre hE hP hD hS hR [0] rfl rfl (fx_rcr 0 rfl fx_rc0)) (va_recv hE.1 (hR.at hS) (ci := 6) (q0 := 0) rfl rfl)) rfl rfl hl.1 rfl (lv_room (Nat.le_of_ble_eq_true rfl)) dX6_together_115 ⟨Nat.le_refl _, Nat.le_refl _⟩) hP hD hS hA [0] rfl rfl (fun r_115 u H locs hq_115 hP hD hS => ?_)
            replace hP : va_P E.1 clA [(ad 3, .inl (E.2 0, 7, .inl (upd er (togC bt sz nu sheet other til) (er (togC bt sz nu sheet other til) + 1)))), (ad 9, .inl (E.2 0, 128, .inl nmd)), (ad 10, .inl (E.2 0, 64, .inl pl)), (ad 11, .inl (E.2 0, 8, .inl td2_9)), (ad 12, .inl (E.2 0, 8, .inl row2_54)), (ad 13, .inl (E.2 0, 8, .inl rw_))] _ := hP
            replace hD : va_D A [(ad 3, .inl (E.2 0, 7, .inl (upd er (togC bt sz nu sheet other til) (er (togC bt sz nu sheet other til) + 1)))), (ad 9, .inl (E.2 0, 128, .inl nmd)), (ad 10, .inl (E.2 0, 64, .inl pl)), (ad 11, .inl (E.2 0, 8, .inl td2_9)), (ad 12, .inl (E.2 0, 8, .inl row2_54)), (ad 13, .inl (E.2 0, 8, .inl rw_))] := hD
            replace hq_115 : r_115 = erv (togC bt sz nu sheet other til) := hq_115
            exact hret r_115 ((upd er (togC bt sz nu sheet other til) (er (togC bt sz nu sheet other til) + 1)), nmd, pl, td2_9, row2_54, rw_) (by rw [hq_115]; simp only [together_, eR_p n_109, eE_p n_109, erI]) (rfl) hP hD hS (Nat.le_refl _) (Nat.le_refl _) dX6_together_118
        · -- fall 84
          have n_81 := fx_eq1 (a := (togA bt sz nu sheet other til)) (b := 0) c_81 (by omega) (by omega)
          have ht0 : tellC bt sz nu (nn other) 99 = 0 := hTA.symm.trans n_81
          obtain ⟨-, hrow2, hm2⟩ := tellC_0 ht0
          have hr2 := hq_54.2 ht0
          refine lv_aload_n hx hb dX6_together_84 rfl (lv_at hl 2 rfl) ?_
          refine fx_get X hE (hR.at hS) 0 rfl rfl 11 rfl q1179 rfl rfl dX6_together_85 ?_
          refine fx_ci (va_runS (As := [.ref (ad 11)]) (rest := []) X (mX6_many l E (ad 11) td2_9 _) (va_cwS 1 X.2.2.2.2 (lw_S q1413 q1414 q75 q1415) rfl rfl rfl hdX6_many ⟨Nat.le_of_ble_eq_true rfl, Nat.le_of_ble_eq_true rfl⟩) (fx_pre hE hP hD hS hR [] rfl rfl (fx_rcm 3 rfl (by decide) fx_rc0)) rfl rfl hl.1 rfl (lv_room (Nat.le_of_ble_eq_true rfl)) dX6_together_88 ⟨Nat.le_refl _, Nat.le_refl _⟩) hP hD hS hA [] rfl rfl (fun r_88 u H locs hq_88 hP hD hS => ?_)
          replace hP : va_P E.1 clA [(ad 3, .inl (E.2 0, 7, .inl er)), (ad 9, .inl (E.2 0, 128, .inl nmd)), (ad 10, .inl (E.2 0, 64, .inl pl)), (ad 11, .inl (E.2 0, 8, .inl td2_9)), (ad 12, .inl (E.2 0, 8, .inl row2_54)), (ad 13, .inl (E.2 0, 8, .inl rw_))] _ := hP
          replace hD : va_D A [(ad 3, .inl (E.2 0, 7, .inl er)), (ad 9, .inl (E.2 0, 128, .inl nmd)), (ad 10, .inl (E.2 0, 64, .inl pl)), (ad 11, .inl (E.2 0, 8, .inl td2_9)), (ad 12, .inl (E.2 0, 8, .inl row2_54)), (ad 13, .inl (E.2 0, 8, .inl rw_))] := hD
          replace hq_88 : r_88 = l_sum td2_9 8 := hq_88
          refine fx_ti (show r_88 = nI (manyN (rnG sz nu (nn sheet)) 8) from hq_88.trans (manyN_I 8 (fun t ht => (hrow t ht).1))) ?_
          refine lv_aload_n hx hb dX6_together_91 rfl (lv_at hl 2 rfl) ?_
          refine fx_get X hE (hR.at hS) 0 rfl rfl 12 rfl q1180 rfl rfl dX6_together_92 ?_
          refine fx_ci (va_runS (As := [.ref (ad 12)]) (rest := [.int (nI (manyN (rnG sz nu (nn sheet)) 8))]) X (mX6_many l E (ad 12) row2_54 _) (va_cwS 1 X.2.2.2.2 (lw_S q1413 q1414 q75 q1415) rfl rfl rfl hdX6_many ⟨Nat.le_of_ble_eq_true rfl, Nat.le_of_ble_eq_true rfl⟩) (fx_pre hE hP hD hS hR [] rfl rfl (fx_rcm 4 rfl (by decide) fx_rc0)) rfl rfl hl.1 rfl (lv_room (Nat.le_of_ble_eq_true rfl)) dX6_together_95 ⟨Nat.le_refl _, Nat.le_refl _⟩) hP hD hS hA [] rfl rfl (fun r_95 u H locs hq_95 hP hD hS => ?_)
          replace hP : va_P E.1 clA [(ad 3, .inl (E.2 0, 7, .inl er)), (ad 9, .inl (E.2 0, 128, .inl nmd)), (ad 10, .inl (E.2 0, 64, .inl pl)), (ad 11, .inl (E.2 0, 8, .inl td2_9)), (ad 12, .inl (E.2 0, 8, .inl row2_54)), (ad 13, .inl (E.2 0, 8, .inl rw_))] _ := hP
          replace hD : va_D A [(ad 3, .inl (E.2 0, 7, .inl er)), (ad 9, .inl (E.2 0, 128, .inl nmd)), (ad 10, .inl (E.2 0, 64, .inl pl)), (ad 11, .inl (E.2 0, 8, .inl td2_9)), (ad 12, .inl (E.2 0, 8, .inl row2_54)), (ad 13, .inl (E.2 0, 8, .inl rw_))] := hD
          replace hq_95 : r_95 = l_sum row2_54 8 := hq_95
          refine fx_ti (show r_95 = nI (manyN (rnG sz nu (nn other)) 8) from hq_95.trans (manyN_I 8 (fun t ht => (hr2 t ht).trans (hrow2 t ht).1))) ?_
          refine lv_iadd hx hb dX6_together_98 ?_
          refine fx_ti (nI_add (manyN (rnG sz nu (nn sheet)) 8) (manyN (rnG sz nu (nn other)) 8)) ?_
          refine lv_bipush (v := 30) hx hb dX6_together_99 rfl ?_
          refine lv_icmp_le (tgt := 107) hx hb dX6_together_101 (by decide) (fun c_101 => ?_) (fun c_101 => ?_)
          · -- jump 107
            have n_101 := fx_le1 (a := (manyN (rnG sz nu (nn sheet)) 8 + manyN (rnG sz nu (nn other)) 8)) (b := 30) c_101 (by omega) (by omega)
            have hC : togC bt sz nu sheet other til = togA bt sz nu sheet other til := by unfold togC; rw [if_neg (fun h => absurd h.2 (by omega))]
            have hcl : togC bt sz nu sheet other til ≤ 4 := togC_le
            refine lv_iload hx hb dX6_together_107 (lv_at hl 0 rfl) ?_
            refine fx_ti (show nI (tellC bt sz nu (nn other) 99) = nI (togC bt sz nu sheet other til) from congrArg nI (hTA.symm.trans hC.symm)) ?_
            refine lv_if_le (tgt := 119) hx hb dX6_together_109 (by decide) (fun c_109 => ?_) (fun c_109 => ?_)
            · -- jump 119
              have n_109 := fx_le1 (a := (togC bt sz nu sheet other til)) (b := 0) c_109 (by omega) (by omega)
              have h0 : togC bt sz nu sheet other til = 0 := by omega
              refine lv_iconst (v := 0) hx hb dX6_together_119 rfl ?_
              refine lv_istore (lv' := [(5, .int 0), (4, .int (nI (tellC bt sz nu (nn other) 99))), (0, .ref (ad 30)), (1, .int sheet), (2, .int other), (3, .int til)]) hx hb dX6_together_120 hl (by decide) rfl (fun ls hl => ?_)
              have loop_122 : ∀ (n_122 : Nat) (t : Nat) (rwv : Nat → Int32), (8 - t < n_122) → (t ≤ 8) → (∀ i, i < t → rwv i = nI (rnG sz nu (nn sheet) i + rnG sz nu (nn other) i)) → ∀ (H : Heap) (locs : List Loc), va_P E.1 clA [(ad 3, .inl (E.2 0, 7, .inl er)), (ad 9, .inl (E.2 0, 128, .inl nmd)), (ad 10, .inl (E.2 0, 64, .inl pl)), (ad 11, .inl (E.2 0, 8, .inl td2_9)), (ad 12, .inl (E.2 0, 8, .inl row2_54)), (ad 13, .inl (E.2 0, 8, .inl rwv))] H → va_D A [(ad 3, .inl (E.2 0, 7, .inl er)), (ad 9, .inl (E.2 0, 128, .inl nmd)), (ad 10, .inl (E.2 0, 64, .inl pl)), (ad 11, .inl (E.2 0, 8, .inl td2_9)), (ad 12, .inl (E.2 0, 8, .inl row2_54)), (ad 13, .inl (E.2 0, 8, .inl rwv))] → va_S A s.heap H locs → ∀ (ls : Array Slot), lv_has ls 6 [(5, .int (nI t)), (4, .int (nI (tellC bt sz nu (nn other) 99))), (0, .ref (ad 30)), (1, .int sheet), (2, .int other), (3, .int til)] → W p l e rmX6_together s m args below meth c H locs 0 0 Q (F0 m 122 ls []) := by
                intro n_122
                induction n_122 with
                | zero => intro t rwv hm_122; exact absurd hm_122 (Nat.not_lt_zero _)
                | succ n_122 ih_122 =>
                  intro t rwv hm_122 ht hrw H locs hP hD hS ls hl
                  refine lv_iload hx hb dX6_together_122 (lv_at hl 0 rfl) ?_
                  refine lv_bipush (v := 8) hx hb dX6_together_124 rfl ?_
                  refine lv_icmp_ge (tgt := 157) hx hb dX6_together_126 (by decide) (fun c_126 => ?_) (fun c_126 => ?_)
                  · -- jump 157
                    have n_126 := fx_le1 (a := 8) (b := t) c_126 (by omega) (by omega)
                    obtain rfl : t = 8 := by omega
                    refine lv_aload_n hx hb dX6_together_157 rfl (lv_at hl 2 rfl) ?_
                    refine lv_iload_n hx hb dX6_together_158 rfl (lv_at hl 5 rfl) ?_
                    refine fx_ti (show til = nI (nn til) from htl.1) ?_
                    refine lv_aload_n hx hb dX6_together_159 rfl (lv_at hl 2 rfl) ?_
                    refine fx_get X hE (hR.at hS) 0 rfl rfl 11 rfl q1179 rfl rfl dX6_together_160 ?_
                    refine fx_ci (va_runV (As := [.int (nI (nn til)), .ref (ad 11)]) (rest := []) X (mX6_paidI l E ad im at_ op st_ us bn bm la fo fi lp tr_ sp ip sa nmd pl (ad 11) td2_9 (nn til) T (rnG sz nu (nn sheet)) htl.2 (by first | assumption | omega) (by first | assumption | omega) (by first | assumption | omega) hrow _) (cwV 2 X.2.2.2.2 (lw_V q1428 q1430 qs54 q75 q1431) rfl rfl rfl ⟨rfl, hdX6_paid⟩ ⟨Nat.le_of_ble_eq_true rfl, Nat.le_of_ble_eq_true rfl⟩) (fx_preV (fx_pre hE hP hD hS hR [1, 2] rfl rfl (fx_rcr 0 rfl (fx_rcr 1 rfl (fx_rcm 3 rfl (by decide) fx_rc0)))) (va_recv hE.1 (hR.at hS) (ci := 6) (q0 := 0) rfl rfl)) rfl rfl hl.1 rfl (lv_room (Nat.le_of_ble_eq_true rfl)) dX6_together_163 ⟨Nat.le_refl _, Nat.le_refl _⟩) hP hD hS hA [1, 2] rfl rfl (fun r_163 u H locs hq_163 hP hD hS => ?_)
                    obtain ⟨nm2_163, pl2_163⟩ := u
                    replace hP : va_P E.1 clA [(ad 3, .inl (E.2 0, 7, .inl er)), (ad 9, .inl (E.2 0, 128, .inl nm2_163)), (ad 10, .inl (E.2 0, 64, .inl pl2_163)), (ad 11, .inl (E.2 0, 8, .inl td2_9)), (ad 12, .inl (E.2 0, 8, .inl row2_54)), (ad 13, .inl (E.2 0, 8, .inl rwv))] _ := hP
                    replace hD : va_D A [(ad 3, .inl (E.2 0, 7, .inl er)), (ad 9, .inl (E.2 0, 128, .inl nm2_163)), (ad 10, .inl (E.2 0, 64, .inl pl2_163)), (ad 11, .inl (E.2 0, 8, .inl td2_9)), (ad 12, .inl (E.2 0, 8, .inl row2_54)), (ad 13, .inl (E.2 0, 8, .inl rwv))] := hD
                    replace hq_163 : r_163 = paysF sa T (rnG sz nu (nn sheet)) (nn til) := hq_163
                    refine lv_aload_n hx hb dX6_together_166 rfl (lv_at hl 2 rfl) ?_
                    refine lv_iload_n hx hb dX6_together_167 rfl (lv_at hl 5 rfl) ?_
                    refine fx_ti (show til = nI (nn til) from htl.1) ?_
                    refine lv_aload_n hx hb dX6_together_168 rfl (lv_at hl 2 rfl) ?_
                    refine fx_get X hE (hR.at hS) 0 rfl rfl 12 rfl q1180 rfl rfl dX6_together_169 ?_
                    refine fx_ci (va_runV (As := [.int (nI (nn til)), .ref (ad 12)]) (rest := [.int r_163]) X (mX6_paidI l E ad im at_ op st_ us bn bm la fo fi lp tr_ sp ip sa nm2_163 pl2_163 (ad 12) row2_54 (nn til) T (rnG sz nu (nn other)) htl.2 (by first | assumption | omega) (by first | assumption | omega) (by first | assumption | omega) (fun t ht => ⟨(hr2 t ht).trans (hrow2 t ht).1, by have := (hrow2 t ht).2; omega⟩) _) (cwV 2 X.2.2.2.2 (lw_V q1428 q1430 qs54 q75 q1431) rfl rfl rfl ⟨rfl, hdX6_paid⟩ ⟨Nat.le_of_ble_eq_true rfl, Nat.le_of_ble_eq_true rfl⟩) (fx_preV (fx_pre hE hP hD hS hR [1, 2] rfl rfl (fx_rcr 0 rfl (fx_rcr 1 rfl (fx_rcm 4 rfl (by decide) fx_rc0)))) (va_recv hE.1 (hR.at hS) (ci := 6) (q0 := 0) rfl rfl)) rfl rfl hl.1 rfl (lv_room (Nat.le_of_ble_eq_true rfl)) dX6_together_172 ⟨Nat.le_refl _, Nat.le_refl _⟩) hP hD hS hA [1, 2] rfl rfl (fun r_172 u H locs hq_172 hP hD hS => ?_)
                    obtain ⟨nm2_172, pl2_172⟩ := u
                    replace hP : va_P E.1 clA [(ad 3, .inl (E.2 0, 7, .inl er)), (ad 9, .inl (E.2 0, 128, .inl nm2_172)), (ad 10, .inl (E.2 0, 64, .inl pl2_172)), (ad 11, .inl (E.2 0, 8, .inl td2_9)), (ad 12, .inl (E.2 0, 8, .inl row2_54)), (ad 13, .inl (E.2 0, 8, .inl rwv))] _ := hP
                    replace hD : va_D A [(ad 3, .inl (E.2 0, 7, .inl er)), (ad 9, .inl (E.2 0, 128, .inl nm2_172)), (ad 10, .inl (E.2 0, 64, .inl pl2_172)), (ad 11, .inl (E.2 0, 8, .inl td2_9)), (ad 12, .inl (E.2 0, 8, .inl row2_54)), (ad 13, .inl (E.2 0, 8, .inl rwv))] := hD
                    replace hq_172 : r_172 = paysF sa T (rnG sz nu (nn other)) (nn til) := hq_172
                    refine lv_iadd hx hb dX6_together_175 ?_
                    refine lv_aload_n hx hb dX6_together_176 rfl (lv_at hl 2 rfl) ?_
                    refine lv_iload_n hx hb dX6_together_177 rfl (lv_at hl 5 rfl) ?_
                    refine fx_ti (show til = nI (nn til) from htl.1) ?_
                    refine lv_aload_n hx hb dX6_together_178 rfl (lv_at hl 2 rfl) ?_
                    refine fx_get X hE (hR.at hS) 0 rfl rfl 13 rfl q1181 rfl rfl dX6_together_179 ?_
                    refine fx_ci (va_runV (As := [.int (nI (nn til)), .ref (ad 13)]) (rest := [.int (r_163 + r_172)]) X (mX6_paidI l E ad im at_ op st_ us bn bm la fo fi lp tr_ sp ip sa nm2_172 pl2_172 (ad 13) rwv (nn til) T (fun t => rnG sz nu (nn sheet) t + rnG sz nu (nn other) t) htl.2 (by first | assumption | omega) (by first | assumption | omega) (by first | assumption | omega) (fun t ht => ⟨hrw t ht, by have := hr9 t ht; have := (hrow2 t ht).2; omega⟩) _) (cwV 2 X.2.2.2.2 (lw_V q1428 q1430 qs54 q75 q1431) rfl rfl rfl ⟨rfl, hdX6_paid⟩ ⟨Nat.le_of_ble_eq_true rfl, Nat.le_of_ble_eq_true rfl⟩) (fx_preV (fx_pre hE hP hD hS hR [1, 2] rfl rfl (fx_rcr 0 rfl (fx_rcr 1 rfl (fx_rcm 5 rfl (by decide) fx_rc0)))) (va_recv hE.1 (hR.at hS) (ci := 6) (q0 := 0) rfl rfl)) rfl rfl hl.1 rfl (lv_room (Nat.le_of_ble_eq_true rfl)) dX6_together_182 ⟨Nat.le_refl _, Nat.le_refl _⟩) hP hD hS hA [1, 2] rfl rfl (fun r_182 u H locs hq_182 hP hD hS => ?_)
                    obtain ⟨nm2_182, pl2_182⟩ := u
                    replace hP : va_P E.1 clA [(ad 3, .inl (E.2 0, 7, .inl er)), (ad 9, .inl (E.2 0, 128, .inl nm2_182)), (ad 10, .inl (E.2 0, 64, .inl pl2_182)), (ad 11, .inl (E.2 0, 8, .inl td2_9)), (ad 12, .inl (E.2 0, 8, .inl row2_54)), (ad 13, .inl (E.2 0, 8, .inl rwv))] _ := hP
                    replace hD : va_D A [(ad 3, .inl (E.2 0, 7, .inl er)), (ad 9, .inl (E.2 0, 128, .inl nm2_182)), (ad 10, .inl (E.2 0, 64, .inl pl2_182)), (ad 11, .inl (E.2 0, 8, .inl td2_9)), (ad 12, .inl (E.2 0, 8, .inl row2_54)), (ad 13, .inl (E.2 0, 8, .inl rwv))] := hD
                    replace hq_182 : r_182 = paysF sa T (fun t => rnG sz nu (nn sheet) t + rnG sz nu (nn other) t) (nn til) := hq_182
                    refine lv_isub hx hb dX6_together_185 ?_
                    exact hret ((r_163 + r_172) - r_182) (er, nm2_182, pl2_182, td2_9, row2_54, rwv) (by rw [hq_163, hq_172, hq_182]; simp only [together_, h0, eR_0, eE_0, togR]) (rfl) hP hD hS (Nat.le_refl _) (Nat.le_refl _) dX6_together_186
                  · -- fall 129
                    have n_126 := fx_le0 (a := 8) (b := t) c_126 (by omega) (by omega)
                    refine lv_aload_n hx hb dX6_together_129 rfl (lv_at hl 2 rfl) ?_
                    refine fx_get X hE (hR.at hS) 0 rfl rfl 13 rfl q1181 rfl rfl dX6_together_130 ?_
                    refine lv_iload hx hb dX6_together_133 (lv_at hl 0 rfl) ?_
                    refine lv_aload_n hx hb dX6_together_135 rfl (lv_at hl 2 rfl) ?_
                    refine fx_get X hE (hR.at hS) 0 rfl rfl 11 rfl q1179 rfl rfl dX6_together_136 ?_
                    refine lv_iload hx hb dX6_together_139 (lv_at hl 0 rfl) ?_
                    refine fx_iald X hE hP 3 rfl t rfl (by omega) rfl dX6_together_141 ?_
                    refine fx_ti (show (td2_9 t) = nI (rnG sz nu (nn sheet) t) from (hrow t (by omega)).1) ?_
                    refine lv_aload_n hx hb dX6_together_142 rfl (lv_at hl 2 rfl) ?_
                    refine fx_get X hE (hR.at hS) 0 rfl rfl 12 rfl q1180 rfl rfl dX6_together_143 ?_
                    refine lv_iload hx hb dX6_together_146 (lv_at hl 0 rfl) ?_
                    refine fx_iald X hE hP 4 rfl t rfl (by omega) rfl dX6_together_148 ?_
                    refine fx_ti (show (row2_54 t) = nI (rnG sz nu (nn other) t) from (hr2 t (by omega)).trans (hrow2 t (by omega)).1) ?_
                    refine lv_iadd hx hb dX6_together_149 ?_
                    refine fx_ti (nI_add (rnG sz nu (nn sheet) t) (rnG sz nu (nn other) t)) ?_
                    refine fx_iast (ws' := [(ad 3, .inl (E.2 0, 7, .inl er)), (ad 9, .inl (E.2 0, 128, .inl nmd)), (ad 10, .inl (E.2 0, 64, .inl pl)), (ad 11, .inl (E.2 0, 8, .inl td2_9)), (ad 12, .inl (E.2 0, 8, .inl row2_54)), (ad 13, .inl (E.2 0, 8, .inl (upd rwv t (nI (rnG sz nu (nn sheet) t + rnG sz nu (nn other) t)))))]) X hE hP hD hS 5 rfl t rfl (by omega) rfl rfl dX6_together_150 (fun H locs hP hD hS => ?_)
                    refine lv_iinc (v := nI (t + 1)) (lv' := [(5, .int (nI (t + 1))), (4, .int (nI (tellC bt sz nu (nn other) 99))), (0, .ref (ad 30)), (1, .int sheet), (2, .int other), (3, .int til)]) hx hb dX6_together_151 hl (k := 0) rfl (fx_inc _) (by decide) rfl (fun ls hl => ?_)
                    refine lv_goto (tgt := 122) hx hb dX6_together_154 (by decide) ?_
                    exact ih_122 (t + 1) (upd rwv t (nI (rnG sz nu (nn sheet) t + rnG sz nu (nn other) t))) (by omega) (by omega) (ext_s (f := fun i => nI (rnG sz nu (nn sheet) i + rnG sz nu (nn other) i)) hrw rfl) _ _ hP hD hS ls (lv_sub hl [0, 1, 2, 3, 4, 5] rfl)
              exact loop_122 ((8 - 0) + 1) 0 rw_ (Nat.lt_succ_self _) (by omega) (fun i hi => absurd hi (Nat.not_lt_zero _)) _ _ hP hD hS ls (lv_sub hl [0, 1, 2, 3, 4, 5] rfl)
            · -- fall 112
              have n_109 := fx_le0 (a := (togC bt sz nu sheet other til)) (b := 0) c_109 (by omega) (by omega)
              exact absurd n_109 (by omega)
          · -- fall 104
            have n_101 := fx_le0 (a := (manyN (rnG sz nu (nn sheet)) 8 + manyN (rnG sz nu (nn other)) 8)) (b := 30) c_101 (by omega) (by omega)
            refine lv_iconst (v := 4) hx hb dX6_together_104 rfl ?_
            refine lv_istore (lv' := [(4, .int 4), (5, .int (nI (tellC bt sz nu (nn other) 99))), (0, .ref (ad 30)), (1, .int sheet), (2, .int other), (3, .int til)]) hx hb dX6_together_105 hl (by decide) rfl (fun ls hl => ?_)
            have hC : togC bt sz nu sheet other til = 4 := by unfold togC; rw [if_pos ⟨n_81, by omega⟩]
            have hcl : togC bt sz nu sheet other til ≤ 4 := togC_le
            refine lv_iload hx hb dX6_together_107 (lv_at hl 0 rfl) ?_
            refine fx_ti (show 4 = nI (togC bt sz nu sheet other til) from congrArg nI hC.symm) ?_
            refine lv_if_le (tgt := 119) hx hb dX6_together_109 (by decide) (fun c_109 => ?_) (fun c_109 => ?_)
            · -- jump 119
              have n_109 := fx_le1 (a := (togC bt sz nu sheet other til)) (b := 0) c_109 (by omega) (by omega)
              have h0 : togC bt sz nu sheet other til = 0 := by omega
              exact absurd (hC.symm.trans h0) (by omega)
            · -- fall 112
              have n_109 := fx_le0 (a := (togC bt sz nu sheet other til)) (b := 0) c_109 (by omega) (by omega)
              refine lv_aload_n hx hb dX6_together_112 rfl (lv_at hl 2 rfl) ?_
              refine lv_iload hx hb dX6_together_113 (lv_at hl 0 rfl) ?_
              refine fx_ti (show 4 = nI (togC bt sz nu sheet other til) from congrArg nI hC.symm) ?_
              refine fx_ci (va_runV (As := [.int (nI (togC bt sz nu sheet other til))]) (rest := []) X (mX6_error l E ad im at_ op st_ us bn bm la fo fi lp tr_ sp ip er (togC bt sz nu sheet other til) (by omega) _) (cwV 1 X.2.2.2.2 (lw_V q1266 q1268 qs32 q75 q1269) rfl rfl rfl ⟨rfl, hdX6_error⟩ ⟨Nat.le_of_ble_eq_true rfl, Nat.le_of_ble_eq_true rfl⟩) (fx_preV (fx_pre hE hP hD hS hR [0] rfl rfl (fx_rcr 0 rfl fx_rc0)) (va_recv hE.1 (hR.at hS) (ci := 6) (q0 := 0) rfl rfl)) rfl rfl hl.1 rfl (lv_room (Nat.le_of_ble_eq_true rfl)) dX6_together_115 ⟨Nat.le_refl _, Nat.le_refl _⟩) hP hD hS hA [0] rfl rfl (fun r_115 u H locs hq_115 hP hD hS => ?_)
              replace hP : va_P E.1 clA [(ad 3, .inl (E.2 0, 7, .inl (upd er (togC bt sz nu sheet other til) (er (togC bt sz nu sheet other til) + 1)))), (ad 9, .inl (E.2 0, 128, .inl nmd)), (ad 10, .inl (E.2 0, 64, .inl pl)), (ad 11, .inl (E.2 0, 8, .inl td2_9)), (ad 12, .inl (E.2 0, 8, .inl row2_54)), (ad 13, .inl (E.2 0, 8, .inl rw_))] _ := hP
              replace hD : va_D A [(ad 3, .inl (E.2 0, 7, .inl (upd er (togC bt sz nu sheet other til) (er (togC bt sz nu sheet other til) + 1)))), (ad 9, .inl (E.2 0, 128, .inl nmd)), (ad 10, .inl (E.2 0, 64, .inl pl)), (ad 11, .inl (E.2 0, 8, .inl td2_9)), (ad 12, .inl (E.2 0, 8, .inl row2_54)), (ad 13, .inl (E.2 0, 8, .inl rw_))] := hD
              replace hq_115 : r_115 = erv (togC bt sz nu sheet other til) := hq_115
              exact hret r_115 ((upd er (togC bt sz nu sheet other til) (er (togC bt sz nu sheet other til) + 1)), nmd, pl, td2_9, row2_54, rw_) (by rw [hq_115]; simp only [together_, eR_p n_109, eE_p n_109, erI]) (rfl) hP hD hS (Nat.le_refl _) (Nat.le_refl _) dX6_together_118
    · -- fall 19
      have n_16 := fx_eq0 (a := (lackF bt sz nu sheet til (inB other 0 3) 99)) (b := 0) c_16 (by omega) (by omega)
      refine lv_iload hx hb dX6_together_19 (lv_at hl 0 rfl) ?_
      refine lv_iconst (v := 1) hx hb dX6_together_21 rfl ?_
      refine lv_icmp_ne (tgt := 79) hx hb dX6_together_22 (by decide) (fun c_22 => ?_) (fun c_22 => ?_)
      · -- jump 79
        have n_22 := fx_eq0 (a := (lackF bt sz nu sheet til (inB other 0 3) 99)) (b := 1) c_22 (by omega) (by omega)
        have hTA : togA bt sz nu sheet other til = lackF bt sz nu sheet til (inB other 0 3) 99 := by unfold togA; rw [if_neg (fun h => h.elim n_16 (fun h => n_22 h.1))]
        refine lv_iload hx hb dX6_together_79 (lv_at hl 0 rfl) ?_
        refine fx_ti (show nI (lackF bt sz nu sheet til (inB other 0 3) 99) = nI (togA bt sz nu sheet other til) from congrArg nI hTA.symm) ?_
        have hta : togA bt sz nu sheet other til ≤ 4 := by rw [hTA]; first | exact tellC_le | exact lackF_le
        refine lv_if_ne (tgt := 107) hx hb dX6_together_81 (by decide) (fun c_81 => ?_) (fun c_81 => ?_)
        · -- jump 107
          have n_81 := fx_eq0 (a := (togA bt sz nu sheet other til)) (b := 0) c_81 (by omega) (by omega)
          have hC : togC bt sz nu sheet other til = togA bt sz nu sheet other til := by unfold togC; rw [if_neg (fun h => n_81 h.1)]
          have hcl : togC bt sz nu sheet other til ≤ 4 := togC_le
          refine lv_iload hx hb dX6_together_107 (lv_at hl 0 rfl) ?_
          refine fx_ti (show nI (lackF bt sz nu sheet til (inB other 0 3) 99) = nI (togC bt sz nu sheet other til) from congrArg nI (hTA.symm.trans hC.symm)) ?_
          refine lv_if_le (tgt := 119) hx hb dX6_together_109 (by decide) (fun c_109 => ?_) (fun c_109 => ?_)
          · -- jump 119
            have n_109 := fx_le1 (a := (togC bt sz nu sheet other til)) (b := 0) c_109 (by omega) (by omega)
            have h0 : togC bt sz nu sheet other til = 0 := by omega
            exact absurd (hC.symm.trans h0) n_81
          · -- fall 112
            have n_109 := fx_le0 (a := (togC bt sz nu sheet other til)) (b := 0) c_109 (by omega) (by omega)
            refine lv_aload_n hx hb dX6_together_112 rfl (lv_at hl 1 rfl) ?_
            refine lv_iload hx hb dX6_together_113 (lv_at hl 0 rfl) ?_
            refine fx_ti (show nI (lackF bt sz nu sheet til (inB other 0 3) 99) = nI (togC bt sz nu sheet other til) from congrArg nI (hTA.symm.trans hC.symm)) ?_
            refine fx_ci (va_runV (As := [.int (nI (togC bt sz nu sheet other til))]) (rest := []) X (mX6_error l E ad im at_ op st_ us bn bm la fo fi lp tr_ sp ip er (togC bt sz nu sheet other til) (by omega) _) (cwV 1 X.2.2.2.2 (lw_V q1266 q1268 qs32 q75 q1269) rfl rfl rfl ⟨rfl, hdX6_error⟩ ⟨Nat.le_of_ble_eq_true rfl, Nat.le_of_ble_eq_true rfl⟩) (fx_preV (fx_pre hE hP hD hS hR [0] rfl rfl (fx_rcr 0 rfl fx_rc0)) (va_recv hE.1 (hR.at hS) (ci := 6) (q0 := 0) rfl rfl)) rfl rfl hl.1 rfl (lv_room (Nat.le_of_ble_eq_true rfl)) dX6_together_115 ⟨Nat.le_refl _, Nat.le_refl _⟩) hP hD hS hA [0] rfl rfl (fun r_115 u H locs hq_115 hP hD hS => ?_)
            replace hP : va_P E.1 clA [(ad 3, .inl (E.2 0, 7, .inl (upd er (togC bt sz nu sheet other til) (er (togC bt sz nu sheet other til) + 1)))), (ad 9, .inl (E.2 0, 128, .inl nmd)), (ad 10, .inl (E.2 0, 64, .inl pl)), (ad 11, .inl (E.2 0, 8, .inl td2_9)), (ad 12, .inl (E.2 0, 8, .inl bs)), (ad 13, .inl (E.2 0, 8, .inl rw_))] _ := hP
            replace hD : va_D A [(ad 3, .inl (E.2 0, 7, .inl (upd er (togC bt sz nu sheet other til) (er (togC bt sz nu sheet other til) + 1)))), (ad 9, .inl (E.2 0, 128, .inl nmd)), (ad 10, .inl (E.2 0, 64, .inl pl)), (ad 11, .inl (E.2 0, 8, .inl td2_9)), (ad 12, .inl (E.2 0, 8, .inl bs)), (ad 13, .inl (E.2 0, 8, .inl rw_))] := hD
            replace hq_115 : r_115 = erv (togC bt sz nu sheet other til) := hq_115
            exact hret r_115 ((upd er (togC bt sz nu sheet other til) (er (togC bt sz nu sheet other til) + 1)), nmd, pl, td2_9, bs, rw_) (by rw [hq_115]; simp only [together_, eR_p n_109, eE_p n_109, erI]) (rfl) hP hD hS (Nat.le_refl _) (Nat.le_refl _) dX6_together_118
        · -- fall 84
          have n_81 := fx_eq1 (a := (togA bt sz nu sheet other til)) (b := 0) c_81 (by omega) (by omega)
          exact absurd n_81 (by omega)
      · -- fall 25
        have n_22 := fx_eq1 (a := (lackF bt sz nu sheet til (inB other 0 3) 99)) (b := 1) c_22 (by omega) (by omega)
        refine lv_iload_n hx hb dX6_together_25 rfl (lv_at hl 2 rfl) ?_
        refine fx_ci (va_runS (As := [.int sheet]) (rest := []) X (mX6_isSheet l E sheet _) (va_cwS 1 X.2.2.2.2 (lw_S q1406 q1407 q75 q1408) rfl rfl rfl hdX6_isSheet ⟨Nat.le_of_ble_eq_true rfl, Nat.le_of_ble_eq_true rfl⟩) (fx_pre hE hP hD hS hR [] rfl rfl fx_rc0) rfl rfl hl.1 rfl (lv_room (Nat.le_of_ble_eq_true rfl)) dX6_together_26 ⟨Nat.le_refl _, Nat.le_refl _⟩) hP hD hS hA [] rfl rfl (fun r_26 u H locs hq_26 hP hD hS => ?_)
        replace hP : va_P E.1 clA [(ad 3, .inl (E.2 0, 7, .inl er)), (ad 9, .inl (E.2 0, 128, .inl nmd)), (ad 10, .inl (E.2 0, 64, .inl pl)), (ad 11, .inl (E.2 0, 8, .inl td2_9)), (ad 12, .inl (E.2 0, 8, .inl bs)), (ad 13, .inl (E.2 0, 8, .inl rw_))] _ := hP
        replace hD : va_D A [(ad 3, .inl (E.2 0, 7, .inl er)), (ad 9, .inl (E.2 0, 128, .inl nmd)), (ad 10, .inl (E.2 0, 64, .inl pl)), (ad 11, .inl (E.2 0, 8, .inl td2_9)), (ad 12, .inl (E.2 0, 8, .inl bs)), (ad 13, .inl (E.2 0, 8, .inl rw_))] := hD
        replace hq_26 : r_26 = fx_b (inB sheet 0 3 = true) := hq_26
        rcases fx_bc hq_26 with ⟨hb_26, hr_26⟩ | ⟨hb_26, hr_26⟩
        · -- True
          subst hr_26
          refine lv_if_eq (tgt := 79) hx hb dX6_together_29 (by decide) (fun c => absurd c (by decide)) (fun _ => ?_)
          refine lv_iload_n hx hb dX6_together_32 rfl (lv_at hl 3 rfl) ?_
          refine fx_ci (va_runS (As := [.int other]) (rest := []) X (mX6_isSheet l E other _) (va_cwS 1 X.2.2.2.2 (lw_S q1406 q1407 q75 q1408) rfl rfl rfl hdX6_isSheet ⟨Nat.le_of_ble_eq_true rfl, Nat.le_of_ble_eq_true rfl⟩) (fx_pre hE hP hD hS hR [] rfl rfl fx_rc0) rfl rfl hl.1 rfl (lv_room (Nat.le_of_ble_eq_true rfl)) dX6_together_33 ⟨Nat.le_refl _, Nat.le_refl _⟩) hP hD hS hA [] rfl rfl (fun r_33 u H locs hq_33 hP hD hS => ?_)
          replace hP : va_P E.1 clA [(ad 3, .inl (E.2 0, 7, .inl er)), (ad 9, .inl (E.2 0, 128, .inl nmd)), (ad 10, .inl (E.2 0, 64, .inl pl)), (ad 11, .inl (E.2 0, 8, .inl td2_9)), (ad 12, .inl (E.2 0, 8, .inl bs)), (ad 13, .inl (E.2 0, 8, .inl rw_))] _ := hP
          replace hD : va_D A [(ad 3, .inl (E.2 0, 7, .inl er)), (ad 9, .inl (E.2 0, 128, .inl nmd)), (ad 10, .inl (E.2 0, 64, .inl pl)), (ad 11, .inl (E.2 0, 8, .inl td2_9)), (ad 12, .inl (E.2 0, 8, .inl bs)), (ad 13, .inl (E.2 0, 8, .inl rw_))] := hD
          replace hq_33 : r_33 = fx_b (inB other 0 3 = true) := hq_33
          rcases fx_bc hq_33 with ⟨hb_33, hr_33⟩ | ⟨hb_33, hr_33⟩
          · -- True
            subst hr_33
            refine lv_if_eq (tgt := 79) hx hb dX6_together_36 (by decide) (fun c => absurd c (by decide)) (fun _ => ?_)
            refine lv_iload_n hx hb dX6_together_39 rfl (lv_at hl 4 rfl) ?_
            refine fx_ci (va_runS (As := [.int til]) (rest := []) X (mX6_isTill l E til _) (va_cwS 1 X.2.2.2.2 (lw_S q1357 q1358 q75 q1359) rfl rfl rfl hdX6_isTill ⟨Nat.le_of_ble_eq_true rfl, Nat.le_of_ble_eq_true rfl⟩) (fx_pre hE hP hD hS hR [] rfl rfl fx_rc0) rfl rfl hl.1 rfl (lv_room (Nat.le_of_ble_eq_true rfl)) dX6_together_40 ⟨Nat.le_refl _, Nat.le_refl _⟩) hP hD hS hA [] rfl rfl (fun r_40 u H locs hq_40 hP hD hS => ?_)
            replace hP : va_P E.1 clA [(ad 3, .inl (E.2 0, 7, .inl er)), (ad 9, .inl (E.2 0, 128, .inl nmd)), (ad 10, .inl (E.2 0, 64, .inl pl)), (ad 11, .inl (E.2 0, 8, .inl td2_9)), (ad 12, .inl (E.2 0, 8, .inl bs)), (ad 13, .inl (E.2 0, 8, .inl rw_))] _ := hP
            replace hD : va_D A [(ad 3, .inl (E.2 0, 7, .inl er)), (ad 9, .inl (E.2 0, 128, .inl nmd)), (ad 10, .inl (E.2 0, 64, .inl pl)), (ad 11, .inl (E.2 0, 8, .inl td2_9)), (ad 12, .inl (E.2 0, 8, .inl bs)), (ad 13, .inl (E.2 0, 8, .inl rw_))] := hD
            replace hq_40 : r_40 = fx_b (inB til 0 3 = true) := hq_40
            rcases fx_bc hq_40 with ⟨hb_40, hr_40⟩ | ⟨hb_40, hr_40⟩
            · -- True
              subst hr_40
              have go := inB_nn (n := 3) hb_33 (by omega)
              refine lv_if_eq (tgt := 79) hx hb dX6_together_43 (by decide) (fun c => absurd c (by decide)) (fun _ => ?_)
              refine lv_aload_n hx hb dX6_together_46 rfl (lv_at hl 1 rfl) ?_
              refine lv_iload_n hx hb dX6_together_47 rfl (lv_at hl 3 rfl) ?_
              refine fx_ti (show other = nI (nn other) from go.1) ?_
              have go2 := go.2
              refine lv_aload_n hx hb dX6_together_48 rfl (lv_at hl 1 rfl) ?_
              refine fx_get X hE (hR.at hS) 0 rfl rfl 12 rfl q1180 rfl rfl dX6_together_49 ?_
              refine lv_bipush (v := 99) hx hb dX6_together_52 rfl ?_
              refine fx_ci (va_runV (As := [.int (nI (nn other)), .ref (ad 12), .int 99]) (rest := []) X (mX6_tells l E ad im at_ op st_ us bn bm la fo fi lp tr_ sp ip bt sz nu (ad 12) bs (nn other) 99 (by omega) (by first | assumption | omega) (by decide) _) (cwV 3 X.2.2.2.2 (lw_V q1409 q1411 qs51 q75 q1412) rfl rfl rfl ⟨rfl, hdX6_tells⟩ ⟨Nat.le_of_ble_eq_true rfl, Nat.le_of_ble_eq_true rfl⟩) (fx_preV (fx_pre hE hP hD hS hR [4] rfl rfl (fx_rcr 0 rfl (fx_rcr 2 rfl (fx_rcr 3 rfl (fx_rcr 4 rfl fx_rc0))))) (va_recv hE.1 (hR.at hS) (ci := 6) (q0 := 0) rfl rfl)) rfl rfl hl.1 rfl (lv_room (Nat.le_of_ble_eq_true rfl)) dX6_together_54 ⟨Nat.le_refl _, Nat.le_refl _⟩) hP hD hS hA [4] rfl rfl (fun r_54 u H locs hq_54 hP hD hS => ?_)
              obtain ⟨row2_54, rfl⟩ : ∃ z, z = u := ⟨_, rfl⟩
              replace hP : va_P E.1 clA [(ad 3, .inl (E.2 0, 7, .inl er)), (ad 9, .inl (E.2 0, 128, .inl nmd)), (ad 10, .inl (E.2 0, 64, .inl pl)), (ad 11, .inl (E.2 0, 8, .inl td2_9)), (ad 12, .inl (E.2 0, 8, .inl row2_54)), (ad 13, .inl (E.2 0, 8, .inl rw_))] _ := hP
              replace hD : va_D A [(ad 3, .inl (E.2 0, 7, .inl er)), (ad 9, .inl (E.2 0, 128, .inl nmd)), (ad 10, .inl (E.2 0, 64, .inl pl)), (ad 11, .inl (E.2 0, 8, .inl td2_9)), (ad 12, .inl (E.2 0, 8, .inl row2_54)), (ad 13, .inl (E.2 0, 8, .inl rw_))] := hD
              replace hq_54 : r_54 = nI (tellC bt sz nu (nn other) 99) ∧ (tellC bt sz nu (nn other) 99 = 0 → ∀ t, t < 8 → row2_54 t = shG sz nu (nn other) t) := hq_54
              refine fx_ti (show r_54 = nI (tellC bt sz nu (nn other) 99) from hq_54.1) ?_
              have htc : tellC bt sz nu (nn other) 99 ≤ 4 := tellC_le
              refine lv_istore (lv' := [(5, .int (nI (tellC bt sz nu (nn other) 99))), (4, .int (nI (lackF bt sz nu sheet til (inB other 0 3) 99))), (0, .ref (ad 30)), (1, .int sheet), (2, .int other), (3, .int til)]) hx hb dX6_together_57 hl (by decide) rfl (fun ls hl => ?_)
              refine lv_iload hx hb dX6_together_59 (lv_at hl 0 rfl) ?_
              refine lv_iconst (v := 2) hx hb dX6_together_61 rfl ?_
              refine lv_icmp_eq (tgt := 70) hx hb dX6_together_62 (by decide) (fun c_62 => ?_) (fun c_62 => ?_)
              · -- jump 70
                have n_62 := fx_eq1 (a := (tellC bt sz nu (nn other) 99)) (b := 2) c_62 (by omega) (by omega)
                refine lv_iload hx hb dX6_together_70 (lv_at hl 0 rfl) ?_
                refine lv_goto (tgt := 77) hx hb dX6_together_72 (by decide) ?_
                refine lv_istore (lv' := [(4, .int (nI (tellC bt sz nu (nn other) 99))), (5, .int (nI (tellC bt sz nu (nn other) 99))), (0, .ref (ad 30)), (1, .int sheet), (2, .int other), (3, .int til)]) hx hb dX6_together_77 hl (by decide) rfl (fun ls hl => ?_)
                have hTA : togA bt sz nu sheet other til = tellC bt sz nu (nn other) 99 := by unfold togA; rw [if_pos (Or.inr ⟨n_22, hb_26, hb_33, hb_40⟩), if_pos (Or.inl n_62)]
                refine lv_iload hx hb dX6_together_79 (lv_at hl 0 rfl) ?_
                refine fx_ti (show nI (tellC bt sz nu (nn other) 99) = nI (togA bt sz nu sheet other til) from congrArg nI hTA.symm) ?_
                have hta : togA bt sz nu sheet other til ≤ 4 := by rw [hTA]; first | exact tellC_le | exact lackF_le
                refine lv_if_ne (tgt := 107) hx hb dX6_together_81 (by decide) (fun c_81 => ?_) (fun c_81 => ?_)
                · -- jump 107
                  have n_81 := fx_eq0 (a := (togA bt sz nu sheet other til)) (b := 0) c_81 (by omega) (by omega)
                  have hC : togC bt sz nu sheet other til = togA bt sz nu sheet other til := by unfold togC; rw [if_neg (fun h => n_81 h.1)]
                  have hcl : togC bt sz nu sheet other til ≤ 4 := togC_le
                  refine lv_iload hx hb dX6_together_107 (lv_at hl 0 rfl) ?_
                  refine fx_ti (show nI (tellC bt sz nu (nn other) 99) = nI (togC bt sz nu sheet other til) from congrArg nI (hTA.symm.trans hC.symm)) ?_
                  refine lv_if_le (tgt := 119) hx hb dX6_together_109 (by decide) (fun c_109 => ?_) (fun c_109 => ?_)
                  · -- jump 119
                    have n_109 := fx_le1 (a := (togC bt sz nu sheet other til)) (b := 0) c_109 (by omega) (by omega)
                    have h0 : togC bt sz nu sheet other til = 0 := by omega
                    exact absurd (hC.symm.trans h0) n_81
                  · -- fall 112
                    have n_109 := fx_le0 (a := (togC bt sz nu sheet other til)) (b := 0) c_109 (by omega) (by omega)
                    refine lv_aload_n hx hb dX6_together_112 rfl (lv_at hl 2 rfl) ?_
                    refine lv_iload hx hb dX6_together_113 (lv_at hl 0 rfl) ?_
                    refine fx_ti (show nI (tellC bt sz nu (nn other) 99) = nI (togC bt sz nu sheet other til) from congrArg nI (hTA.symm.trans hC.symm)) ?_
                    refine fx_ci (va_runV (As := [.int (nI (togC bt sz nu sheet other til))]) (rest := []) X (mX6_error l E ad im at_ op st_ us bn bm la fo fi lp tr_ sp ip er (togC bt sz nu sheet other til) (by omega) _) (cwV 1 X.2.2.2.2 (lw_V q1266 q1268 qs32 q75 q1269) rfl rfl rfl ⟨rfl, hdX6_error⟩ ⟨Nat.le_of_ble_eq_true rfl, Nat.le_of_ble_eq_true rfl⟩) (fx_preV (fx_pre hE hP hD hS hR [0] rfl rfl (fx_rcr 0 rfl fx_rc0)) (va_recv hE.1 (hR.at hS) (ci := 6) (q0 := 0) rfl rfl)) rfl rfl hl.1 rfl (lv_room (Nat.le_of_ble_eq_true rfl)) dX6_together_115 ⟨Nat.le_refl _, Nat.le_refl _⟩) hP hD hS hA [0] rfl rfl (fun r_115 u H locs hq_115 hP hD hS => ?_)
                    replace hP : va_P E.1 clA [(ad 3, .inl (E.2 0, 7, .inl (upd er (togC bt sz nu sheet other til) (er (togC bt sz nu sheet other til) + 1)))), (ad 9, .inl (E.2 0, 128, .inl nmd)), (ad 10, .inl (E.2 0, 64, .inl pl)), (ad 11, .inl (E.2 0, 8, .inl td2_9)), (ad 12, .inl (E.2 0, 8, .inl row2_54)), (ad 13, .inl (E.2 0, 8, .inl rw_))] _ := hP
                    replace hD : va_D A [(ad 3, .inl (E.2 0, 7, .inl (upd er (togC bt sz nu sheet other til) (er (togC bt sz nu sheet other til) + 1)))), (ad 9, .inl (E.2 0, 128, .inl nmd)), (ad 10, .inl (E.2 0, 64, .inl pl)), (ad 11, .inl (E.2 0, 8, .inl td2_9)), (ad 12, .inl (E.2 0, 8, .inl row2_54)), (ad 13, .inl (E.2 0, 8, .inl rw_))] := hD
                    replace hq_115 : r_115 = erv (togC bt sz nu sheet other til) := hq_115
                    exact hret r_115 ((upd er (togC bt sz nu sheet other til) (er (togC bt sz nu sheet other til) + 1)), nmd, pl, td2_9, row2_54, rw_) (by rw [hq_115]; simp only [together_, eR_p n_109, eE_p n_109, erI]) (rfl) hP hD hS (Nat.le_refl _) (Nat.le_refl _) dX6_together_118
                · -- fall 84
                  have n_81 := fx_eq1 (a := (togA bt sz nu sheet other til)) (b := 0) c_81 (by omega) (by omega)
                  exact absurd n_81 (by omega)
              · -- fall 65
                have n_62 := fx_eq0 (a := (tellC bt sz nu (nn other) 99)) (b := 2) c_62 (by omega) (by omega)
                refine lv_iload hx hb dX6_together_65 (lv_at hl 1 rfl) ?_
                refine lv_if_ne (tgt := 75) hx hb dX6_together_67 (by decide) (fun c_67 => ?_) (fun c_67 => absurd ((congrArg nI n_22).symm.trans c_67) (by decide))
                have n_67 := fx_eq0 (a := (lackF bt sz nu sheet til (inB other 0 3) 99)) (b := 0) c_67 (by omega) (by omega)
                refine lv_iload hx hb dX6_together_75 (lv_at hl 1 rfl) ?_
                refine lv_istore (lv' := [(4, .int (nI (lackF bt sz nu sheet til (inB other 0 3) 99))), (5, .int (nI (tellC bt sz nu (nn other) 99))), (0, .ref (ad 30)), (1, .int sheet), (2, .int other), (3, .int til)]) hx hb dX6_together_77 hl (by decide) rfl (fun ls hl => ?_)
                have hTA : togA bt sz nu sheet other til = lackF bt sz nu sheet til (inB other 0 3) 99 := by unfold togA; rw [if_pos (Or.inr ⟨n_22, hb_26, hb_33, hb_40⟩), if_neg (fun h => h.elim n_62 n_16)]
                refine lv_iload hx hb dX6_together_79 (lv_at hl 0 rfl) ?_
                refine fx_ti (show nI (lackF bt sz nu sheet til (inB other 0 3) 99) = nI (togA bt sz nu sheet other til) from congrArg nI hTA.symm) ?_
                have hta : togA bt sz nu sheet other til ≤ 4 := by rw [hTA]; first | exact tellC_le | exact lackF_le
                refine lv_if_ne (tgt := 107) hx hb dX6_together_81 (by decide) (fun c_81 => ?_) (fun c_81 => ?_)
                · -- jump 107
                  have n_81 := fx_eq0 (a := (togA bt sz nu sheet other til)) (b := 0) c_81 (by omega) (by omega)
                  have hC : togC bt sz nu sheet other til = togA bt sz nu sheet other til := by unfold togC; rw [if_neg (fun h => n_81 h.1)]
                  have hcl : togC bt sz nu sheet other til ≤ 4 := togC_le
                  refine lv_iload hx hb dX6_together_107 (lv_at hl 0 rfl) ?_
                  refine fx_ti (show nI (lackF bt sz nu sheet til (inB other 0 3) 99) = nI (togC bt sz nu sheet other til) from congrArg nI (hTA.symm.trans hC.symm)) ?_
                  refine lv_if_le (tgt := 119) hx hb dX6_together_109 (by decide) (fun c_109 => ?_) (fun c_109 => ?_)
                  · -- jump 119
                    have n_109 := fx_le1 (a := (togC bt sz nu sheet other til)) (b := 0) c_109 (by omega) (by omega)
                    have h0 : togC bt sz nu sheet other til = 0 := by omega
                    exact absurd (hC.symm.trans h0) n_81
                  · -- fall 112
                    have n_109 := fx_le0 (a := (togC bt sz nu sheet other til)) (b := 0) c_109 (by omega) (by omega)
                    refine lv_aload_n hx hb dX6_together_112 rfl (lv_at hl 2 rfl) ?_
                    refine lv_iload hx hb dX6_together_113 (lv_at hl 0 rfl) ?_
                    refine fx_ti (show nI (lackF bt sz nu sheet til (inB other 0 3) 99) = nI (togC bt sz nu sheet other til) from congrArg nI (hTA.symm.trans hC.symm)) ?_
                    refine fx_ci (va_runV (As := [.int (nI (togC bt sz nu sheet other til))]) (rest := []) X (mX6_error l E ad im at_ op st_ us bn bm la fo fi lp tr_ sp ip er (togC bt sz nu sheet other til) (by omega) _) (cwV 1 X.2.2.2.2 (lw_V q1266 q1268 qs32 q75 q1269) rfl rfl rfl ⟨rfl, hdX6_error⟩ ⟨Nat.le_of_ble_eq_true rfl, Nat.le_of_ble_eq_true rfl⟩) (fx_preV (fx_pre hE hP hD hS hR [0] rfl rfl (fx_rcr 0 rfl fx_rc0)) (va_recv hE.1 (hR.at hS) (ci := 6) (q0 := 0) rfl rfl)) rfl rfl hl.1 rfl (lv_room (Nat.le_of_ble_eq_true rfl)) dX6_together_115 ⟨Nat.le_refl _, Nat.le_refl _⟩) hP hD hS hA [0] rfl rfl (fun r_115 u H locs hq_115 hP hD hS => ?_)
                    replace hP : va_P E.1 clA [(ad 3, .inl (E.2 0, 7, .inl (upd er (togC bt sz nu sheet other til) (er (togC bt sz nu sheet other til) + 1)))), (ad 9, .inl (E.2 0, 128, .inl nmd)), (ad 10, .inl (E.2 0, 64, .inl pl)), (ad 11, .inl (E.2 0, 8, .inl td2_9)), (ad 12, .inl (E.2 0, 8, .inl row2_54)), (ad 13, .inl (E.2 0, 8, .inl rw_))] _ := hP
                    replace hD : va_D A [(ad 3, .inl (E.2 0, 7, .inl (upd er (togC bt sz nu sheet other til) (er (togC bt sz nu sheet other til) + 1)))), (ad 9, .inl (E.2 0, 128, .inl nmd)), (ad 10, .inl (E.2 0, 64, .inl pl)), (ad 11, .inl (E.2 0, 8, .inl td2_9)), (ad 12, .inl (E.2 0, 8, .inl row2_54)), (ad 13, .inl (E.2 0, 8, .inl rw_))] := hD
                    replace hq_115 : r_115 = erv (togC bt sz nu sheet other til) := hq_115
                    exact hret r_115 ((upd er (togC bt sz nu sheet other til) (er (togC bt sz nu sheet other til) + 1)), nmd, pl, td2_9, row2_54, rw_) (by rw [hq_115]; simp only [together_, eR_p n_109, eE_p n_109, erI]) (rfl) hP hD hS (Nat.le_refl _) (Nat.le_refl _) dX6_together_118
                · -- fall 84
                  have n_81 := fx_eq1 (a := (togA bt sz nu sheet other til)) (b := 0) c_81 (by omega) (by omega)
                  exact absurd n_81 (by omega)
            · -- False
              subst hr_40
              refine lv_if_eq (tgt := 79) hx hb dX6_together_43 (by decide) (fun _ => ?_) (fun c => (c (by decide)).elim)
              have hTA : togA bt sz nu sheet other til = lackF bt sz nu sheet til (inB other 0 3) 99 := by unfold togA; rw [if_neg (fun h => h.elim n_16 (fun h => hb_40 h.2.2.2))]
              refine lv_iload hx hb dX6_together_79 (lv_at hl 0 rfl) ?_
              refine fx_ti (show nI (lackF bt sz nu sheet til (inB other 0 3) 99) = nI (togA bt sz nu sheet other til) from congrArg nI hTA.symm) ?_
              have hta : togA bt sz nu sheet other til ≤ 4 := by rw [hTA]; first | exact tellC_le | exact lackF_le
              refine lv_if_ne (tgt := 107) hx hb dX6_together_81 (by decide) (fun c_81 => ?_) (fun c_81 => ?_)
              · -- jump 107
                have n_81 := fx_eq0 (a := (togA bt sz nu sheet other til)) (b := 0) c_81 (by omega) (by omega)
                have hC : togC bt sz nu sheet other til = togA bt sz nu sheet other til := by unfold togC; rw [if_neg (fun h => n_81 h.1)]
                have hcl : togC bt sz nu sheet other til ≤ 4 := togC_le
                refine lv_iload hx hb dX6_together_107 (lv_at hl 0 rfl) ?_
                refine fx_ti (show nI (lackF bt sz nu sheet til (inB other 0 3) 99) = nI (togC bt sz nu sheet other til) from congrArg nI (hTA.symm.trans hC.symm)) ?_
                refine lv_if_le (tgt := 119) hx hb dX6_together_109 (by decide) (fun c_109 => ?_) (fun c_109 => ?_)
                · -- jump 119
                  have n_109 := fx_le1 (a := (togC bt sz nu sheet other til)) (b := 0) c_109 (by omega) (by omega)
                  have h0 : togC bt sz nu sheet other til = 0 := by omega
                  exact absurd (hC.symm.trans h0) n_81
                · -- fall 112
                  have n_109 := fx_le0 (a := (togC bt sz nu sheet other til)) (b := 0) c_109 (by omega) (by omega)
                  refine lv_aload_n hx hb dX6_together_112 rfl (lv_at hl 1 rfl) ?_
                  refine lv_iload hx hb dX6_together_113 (lv_at hl 0 rfl) ?_
                  refine fx_ti (show nI (lackF bt sz nu sheet til (inB other 0 3) 99) = nI (togC bt sz nu sheet other til) from congrArg nI (hTA.symm.trans hC.symm)) ?_
                  refine fx_ci (va_runV (As := [.int (nI (togC bt sz nu sheet other til))]) (rest := []) X (mX6_error l E ad im at_ op st_ us bn bm la fo fi lp tr_ sp ip er (togC bt sz nu sheet other til) (by omega) _) (cwV 1 X.2.2.2.2 (lw_V q1266 q1268 qs32 q75 q1269) rfl rfl rfl ⟨rfl, hdX6_error⟩ ⟨Nat.le_of_ble_eq_true rfl, Nat.le_of_ble_eq_true rfl⟩) (fx_preV (fx_pre hE hP hD hS hR [0] rfl rfl (fx_rcr 0 rfl fx_rc0)) (va_recv hE.1 (hR.at hS) (ci := 6) (q0 := 0) rfl rfl)) rfl rfl hl.1 rfl (lv_room (Nat.le_of_ble_eq_true rfl)) dX6_together_115 ⟨Nat.le_refl _, Nat.le_refl _⟩) hP hD hS hA [0] rfl rfl (fun r_115 u H locs hq_115 hP hD hS => ?_)
                  replace hP : va_P E.1 clA [(ad 3, .inl (E.2 0, 7, .inl (upd er (togC bt sz nu sheet other til) (er (togC bt sz nu sheet other til) + 1)))), (ad 9, .inl (E.2 0, 128, .inl nmd)), (ad 10, .inl (E.2 0, 64, .inl pl)), (ad 11, .inl (E.2 0, 8, .inl td2_9)), (ad 12, .inl (E.2 0, 8, .inl bs)), (ad 13, .inl (E.2 0, 8, .inl rw_))] _ := hP
                  replace hD : va_D A [(ad 3, .inl (E.2 0, 7, .inl (upd er (togC bt sz nu sheet other til) (er (togC bt sz nu sheet other til) + 1)))), (ad 9, .inl (E.2 0, 128, .inl nmd)), (ad 10, .inl (E.2 0, 64, .inl pl)), (ad 11, .inl (E.2 0, 8, .inl td2_9)), (ad 12, .inl (E.2 0, 8, .inl bs)), (ad 13, .inl (E.2 0, 8, .inl rw_))] := hD
                  replace hq_115 : r_115 = erv (togC bt sz nu sheet other til) := hq_115
                  exact hret r_115 ((upd er (togC bt sz nu sheet other til) (er (togC bt sz nu sheet other til) + 1)), nmd, pl, td2_9, bs, rw_) (by rw [hq_115]; simp only [together_, eR_p n_109, eE_p n_109, erI]) (rfl) hP hD hS (Nat.le_refl _) (Nat.le_refl _) dX6_together_118
              · -- fall 84
                have n_81 := fx_eq1 (a := (togA bt sz nu sheet other til)) (b := 0) c_81 (by omega) (by omega)
                exact absurd n_81 (by omega)
          · -- False
            subst hr_33
            refine lv_if_eq (tgt := 79) hx hb dX6_together_36 (by decide) (fun _ => ?_) (fun c => (c (by decide)).elim)
            have hTA : togA bt sz nu sheet other til = lackF bt sz nu sheet til (inB other 0 3) 99 := by unfold togA; rw [if_neg (fun h => h.elim n_16 (fun h => hb_33 h.2.2.1))]
            refine lv_iload hx hb dX6_together_79 (lv_at hl 0 rfl) ?_
            refine fx_ti (show nI (lackF bt sz nu sheet til (inB other 0 3) 99) = nI (togA bt sz nu sheet other til) from congrArg nI hTA.symm) ?_
            have hta : togA bt sz nu sheet other til ≤ 4 := by rw [hTA]; first | exact tellC_le | exact lackF_le
            refine lv_if_ne (tgt := 107) hx hb dX6_together_81 (by decide) (fun c_81 => ?_) (fun c_81 => ?_)
            · -- jump 107
              have n_81 := fx_eq0 (a := (togA bt sz nu sheet other til)) (b := 0) c_81 (by omega) (by omega)
              have hC : togC bt sz nu sheet other til = togA bt sz nu sheet other til := by unfold togC; rw [if_neg (fun h => n_81 h.1)]
              have hcl : togC bt sz nu sheet other til ≤ 4 := togC_le
              refine lv_iload hx hb dX6_together_107 (lv_at hl 0 rfl) ?_
              refine fx_ti (show nI (lackF bt sz nu sheet til (inB other 0 3) 99) = nI (togC bt sz nu sheet other til) from congrArg nI (hTA.symm.trans hC.symm)) ?_
              refine lv_if_le (tgt := 119) hx hb dX6_together_109 (by decide) (fun c_109 => ?_) (fun c_109 => ?_)
              · -- jump 119
                have n_109 := fx_le1 (a := (togC bt sz nu sheet other til)) (b := 0) c_109 (by omega) (by omega)
                have h0 : togC bt sz nu sheet other til = 0 := by omega
                exact absurd (hC.symm.trans h0) n_81
              · -- fall 112
                have n_109 := fx_le0 (a := (togC bt sz nu sheet other til)) (b := 0) c_109 (by omega) (by omega)
                refine lv_aload_n hx hb dX6_together_112 rfl (lv_at hl 1 rfl) ?_
                refine lv_iload hx hb dX6_together_113 (lv_at hl 0 rfl) ?_
                refine fx_ti (show nI (lackF bt sz nu sheet til (inB other 0 3) 99) = nI (togC bt sz nu sheet other til) from congrArg nI (hTA.symm.trans hC.symm)) ?_
                refine fx_ci (va_runV (As := [.int (nI (togC bt sz nu sheet other til))]) (rest := []) X (mX6_error l E ad im at_ op st_ us bn bm la fo fi lp tr_ sp ip er (togC bt sz nu sheet other til) (by omega) _) (cwV 1 X.2.2.2.2 (lw_V q1266 q1268 qs32 q75 q1269) rfl rfl rfl ⟨rfl, hdX6_error⟩ ⟨Nat.le_of_ble_eq_true rfl, Nat.le_of_ble_eq_true rfl⟩) (fx_preV (fx_pre hE hP hD hS hR [0] rfl rfl (fx_rcr 0 rfl fx_rc0)) (va_recv hE.1 (hR.at hS) (ci := 6) (q0 := 0) rfl rfl)) rfl rfl hl.1 rfl (lv_room (Nat.le_of_ble_eq_true rfl)) dX6_together_115 ⟨Nat.le_refl _, Nat.le_refl _⟩) hP hD hS hA [0] rfl rfl (fun r_115 u H locs hq_115 hP hD hS => ?_)
                replace hP : va_P E.1 clA [(ad 3, .inl (E.2 0, 7, .inl (upd er (togC bt sz nu sheet other til) (er (togC bt sz nu sheet other til) + 1)))), (ad 9, .inl (E.2 0, 128, .inl nmd)), (ad 10, .inl (E.2 0, 64, .inl pl)), (ad 11, .inl (E.2 0, 8, .inl td2_9)), (ad 12, .inl (E.2 0, 8, .inl bs)), (ad 13, .inl (E.2 0, 8, .inl rw_))] _ := hP
                replace hD : va_D A [(ad 3, .inl (E.2 0, 7, .inl (upd er (togC bt sz nu sheet other til) (er (togC bt sz nu sheet other til) + 1)))), (ad 9, .inl (E.2 0, 128, .inl nmd)), (ad 10, .inl (E.2 0, 64, .inl pl)), (ad 11, .inl (E.2 0, 8, .inl td2_9)), (ad 12, .inl (E.2 0, 8, .inl bs)), (ad 13, .inl (E.2 0, 8, .inl rw_))] := hD
                replace hq_115 : r_115 = erv (togC bt sz nu sheet other til) := hq_115
                exact hret r_115 ((upd er (togC bt sz nu sheet other til) (er (togC bt sz nu sheet other til) + 1)), nmd, pl, td2_9, bs, rw_) (by rw [hq_115]; simp only [together_, eR_p n_109, eE_p n_109, erI]) (rfl) hP hD hS (Nat.le_refl _) (Nat.le_refl _) dX6_together_118
            · -- fall 84
              have n_81 := fx_eq1 (a := (togA bt sz nu sheet other til)) (b := 0) c_81 (by omega) (by omega)
              exact absurd n_81 (by omega)
        · -- False
          subst hr_26
          refine lv_if_eq (tgt := 79) hx hb dX6_together_29 (by decide) (fun _ => ?_) (fun c => (c (by decide)).elim)
          have hTA : togA bt sz nu sheet other til = lackF bt sz nu sheet til (inB other 0 3) 99 := by unfold togA; rw [if_neg (fun h => h.elim n_16 (fun h => hb_26 h.2.1))]
          refine lv_iload hx hb dX6_together_79 (lv_at hl 0 rfl) ?_
          refine fx_ti (show nI (lackF bt sz nu sheet til (inB other 0 3) 99) = nI (togA bt sz nu sheet other til) from congrArg nI hTA.symm) ?_
          have hta : togA bt sz nu sheet other til ≤ 4 := by rw [hTA]; first | exact tellC_le | exact lackF_le
          refine lv_if_ne (tgt := 107) hx hb dX6_together_81 (by decide) (fun c_81 => ?_) (fun c_81 => ?_)
          · -- jump 107
            have n_81 := fx_eq0 (a := (togA bt sz nu sheet other til)) (b := 0) c_81 (by omega) (by omega)
            have hC : togC bt sz nu sheet other til = togA bt sz nu sheet other til := by unfold togC; rw [if_neg (fun h => n_81 h.1)]
            have hcl : togC bt sz nu sheet other til ≤ 4 := togC_le
            refine lv_iload hx hb dX6_together_107 (lv_at hl 0 rfl) ?_
            refine fx_ti (show nI (lackF bt sz nu sheet til (inB other 0 3) 99) = nI (togC bt sz nu sheet other til) from congrArg nI (hTA.symm.trans hC.symm)) ?_
            refine lv_if_le (tgt := 119) hx hb dX6_together_109 (by decide) (fun c_109 => ?_) (fun c_109 => ?_)
            · -- jump 119
              have n_109 := fx_le1 (a := (togC bt sz nu sheet other til)) (b := 0) c_109 (by omega) (by omega)
              have h0 : togC bt sz nu sheet other til = 0 := by omega
              exact absurd (hC.symm.trans h0) n_81
            · -- fall 112
              have n_109 := fx_le0 (a := (togC bt sz nu sheet other til)) (b := 0) c_109 (by omega) (by omega)
              refine lv_aload_n hx hb dX6_together_112 rfl (lv_at hl 1 rfl) ?_
              refine lv_iload hx hb dX6_together_113 (lv_at hl 0 rfl) ?_
              refine fx_ti (show nI (lackF bt sz nu sheet til (inB other 0 3) 99) = nI (togC bt sz nu sheet other til) from congrArg nI (hTA.symm.trans hC.symm)) ?_
              refine fx_ci (va_runV (As := [.int (nI (togC bt sz nu sheet other til))]) (rest := []) X (mX6_error l E ad im at_ op st_ us bn bm la fo fi lp tr_ sp ip er (togC bt sz nu sheet other til) (by omega) _) (cwV 1 X.2.2.2.2 (lw_V q1266 q1268 qs32 q75 q1269) rfl rfl rfl ⟨rfl, hdX6_error⟩ ⟨Nat.le_of_ble_eq_true rfl, Nat.le_of_ble_eq_true rfl⟩) (fx_preV (fx_pre hE hP hD hS hR [0] rfl rfl (fx_rcr 0 rfl fx_rc0)) (va_recv hE.1 (hR.at hS) (ci := 6) (q0 := 0) rfl rfl)) rfl rfl hl.1 rfl (lv_room (Nat.le_of_ble_eq_true rfl)) dX6_together_115 ⟨Nat.le_refl _, Nat.le_refl _⟩) hP hD hS hA [0] rfl rfl (fun r_115 u H locs hq_115 hP hD hS => ?_)
              replace hP : va_P E.1 clA [(ad 3, .inl (E.2 0, 7, .inl (upd er (togC bt sz nu sheet other til) (er (togC bt sz nu sheet other til) + 1)))), (ad 9, .inl (E.2 0, 128, .inl nmd)), (ad 10, .inl (E.2 0, 64, .inl pl)), (ad 11, .inl (E.2 0, 8, .inl td2_9)), (ad 12, .inl (E.2 0, 8, .inl bs)), (ad 13, .inl (E.2 0, 8, .inl rw_))] _ := hP
              replace hD : va_D A [(ad 3, .inl (E.2 0, 7, .inl (upd er (togC bt sz nu sheet other til) (er (togC bt sz nu sheet other til) + 1)))), (ad 9, .inl (E.2 0, 128, .inl nmd)), (ad 10, .inl (E.2 0, 64, .inl pl)), (ad 11, .inl (E.2 0, 8, .inl td2_9)), (ad 12, .inl (E.2 0, 8, .inl bs)), (ad 13, .inl (E.2 0, 8, .inl rw_))] := hD
              replace hq_115 : r_115 = erv (togC bt sz nu sheet other til) := hq_115
              exact hret r_115 ((upd er (togC bt sz nu sheet other til) (er (togC bt sz nu sheet other til) + 1)), nmd, pl, td2_9, bs, rw_) (by rw [hq_115]; simp only [together_, eR_p n_109, eE_p n_109, erI]) (rfl) hP hD hS (Nat.le_refl _) (Nat.le_refl _) dX6_together_118
          · -- fall 84
            have n_81 := fx_eq1 (a := (togA bt sz nu sheet other til)) (b := 0) c_81 (by omega) (by omega)
            exact absurd n_81 (by omega)
  · -- False
    subst hr_4
    have hwc : lackF bt sz nu sheet til (inB other 0 3) 99 = lackF bt sz nu sheet til false 99 := by rw [Bool.eq_false_iff.2 hb_4]
    refine lv_bipush (v := 99) hx hb dX6_together_7 rfl ?_
    refine fx_ci (va_runV (As := [.int sheet, .int til, .int 0, .int 99]) (rest := []) X (mX6_lacks l E ad im at_ op st_ us bn bm la fo fi lp tr_ sp ip bt sz nu td sheet til 0 99 (by first | assumption | omega) (by decide) _) (cwV 4 X.2.2.2.2 (lw_V q1402 q1404 qs50 q75 q1405) rfl rfl rfl ⟨rfl, hdX6_lacks⟩ ⟨Nat.le_of_ble_eq_true rfl, Nat.le_of_ble_eq_true rfl⟩) (fx_preV (fx_pre hE hP hD hS hR [3] rfl rfl (fx_rcr 0 rfl (fx_rcr 2 rfl (fx_rcr 3 rfl (fx_rcr 4 rfl fx_rc0))))) (va_recv hE.1 (hR.at hS) (ci := 6) (q0 := 0) rfl rfl)) rfl rfl hl.1 rfl (lv_room (Nat.le_of_ble_eq_true rfl)) dX6_together_9 ⟨Nat.le_refl _, Nat.le_refl _⟩) hP hD hS hA [3] rfl rfl (fun r_9 u H locs hq_9 hP hD hS => ?_)
    obtain ⟨td2_9, rfl⟩ : ∃ z, z = u := ⟨_, rfl⟩
    replace hP : va_P E.1 clA [(ad 3, .inl (E.2 0, 7, .inl er)), (ad 9, .inl (E.2 0, 128, .inl nmd)), (ad 10, .inl (E.2 0, 64, .inl pl)), (ad 11, .inl (E.2 0, 8, .inl td2_9)), (ad 12, .inl (E.2 0, 8, .inl bs)), (ad 13, .inl (E.2 0, 8, .inl rw_))] _ := hP
    replace hD : va_D A [(ad 3, .inl (E.2 0, 7, .inl er)), (ad 9, .inl (E.2 0, 128, .inl nmd)), (ad 10, .inl (E.2 0, 64, .inl pl)), (ad 11, .inl (E.2 0, 8, .inl td2_9)), (ad 12, .inl (E.2 0, 8, .inl bs)), (ad 13, .inl (E.2 0, 8, .inl rw_))] := hD
    replace hq_9 : r_9 = nI (lackF bt sz nu sheet til (decide (0 ≠ 0)) 99) ∧ (lackF bt sz nu sheet til (decide (0 ≠ 0)) 99 = 0 → ∀ t, t < 8 → td2_9 t = shG sz nu (nn sheet) t) := hq_9
    refine fx_ti (show r_9 = nI (lackF bt sz nu sheet til (inB other 0 3) 99) from hq_9.1.trans (congrArg nI hwc.symm)) ?_
    have hcl0 : lackF bt sz nu sheet til (inB other 0 3) 99 ≤ 4 := lackF_le
    refine lv_istore (lv' := [(4, .int (nI (lackF bt sz nu sheet til (inB other 0 3) 99))), (0, .ref (ad 30)), (1, .int sheet), (2, .int other), (3, .int til)]) hx hb dX6_together_12 hl (by decide) rfl (fun ls hl => ?_)
    refine lv_iload hx hb dX6_together_14 (lv_at hl 0 rfl) ?_
    refine lv_if_eq (tgt := 46) hx hb dX6_together_16 (by decide) (fun c_16 => ?_) (fun c_16 => ?_)
    · -- jump 46
      have n_16 := fx_eq1 (a := (lackF bt sz nu sheet til (inB other 0 3) 99)) (b := 0) c_16 (by omega) (by omega)
      exact absurd n_16 (by rw [hwc]; simp [lackF])
    · -- fall 19
      have n_16 := fx_eq0 (a := (lackF bt sz nu sheet til (inB other 0 3) 99)) (b := 0) c_16 (by omega) (by omega)
      refine lv_iload hx hb dX6_together_19 (lv_at hl 0 rfl) ?_
      refine lv_iconst (v := 1) hx hb dX6_together_21 rfl ?_
      refine lv_icmp_ne (tgt := 79) hx hb dX6_together_22 (by decide) (fun c_22 => ?_) (fun c_22 => ?_)
      · -- jump 79
        have n_22 := fx_eq0 (a := (lackF bt sz nu sheet til (inB other 0 3) 99)) (b := 1) c_22 (by omega) (by omega)
        have hTA : togA bt sz nu sheet other til = lackF bt sz nu sheet til (inB other 0 3) 99 := by unfold togA; rw [if_neg (fun h => h.elim n_16 (fun h => n_22 h.1))]
        refine lv_iload hx hb dX6_together_79 (lv_at hl 0 rfl) ?_
        refine fx_ti (show nI (lackF bt sz nu sheet til (inB other 0 3) 99) = nI (togA bt sz nu sheet other til) from congrArg nI hTA.symm) ?_
        have hta : togA bt sz nu sheet other til ≤ 4 := by rw [hTA]; first | exact tellC_le | exact lackF_le
        refine lv_if_ne (tgt := 107) hx hb dX6_together_81 (by decide) (fun c_81 => ?_) (fun c_81 => ?_)
        · -- jump 107
          have n_81 := fx_eq0 (a := (togA bt sz nu sheet other til)) (b := 0) c_81 (by omega) (by omega)
          have hC : togC bt sz nu sheet other til = togA bt sz nu sheet other til := by unfold togC; rw [if_neg (fun h => n_81 h.1)]
          have hcl : togC bt sz nu sheet other til ≤ 4 := togC_le
          refine lv_iload hx hb dX6_together_107 (lv_at hl 0 rfl) ?_
          refine fx_ti (show nI (lackF bt sz nu sheet til (inB other 0 3) 99) = nI (togC bt sz nu sheet other til) from congrArg nI (hTA.symm.trans hC.symm)) ?_
          refine lv_if_le (tgt := 119) hx hb dX6_together_109 (by decide) (fun c_109 => ?_) (fun c_109 => ?_)
          · -- jump 119
            have n_109 := fx_le1 (a := (togC bt sz nu sheet other til)) (b := 0) c_109 (by omega) (by omega)
            have h0 : togC bt sz nu sheet other til = 0 := by omega
            exact absurd (hC.symm.trans h0) n_81
          · -- fall 112
            have n_109 := fx_le0 (a := (togC bt sz nu sheet other til)) (b := 0) c_109 (by omega) (by omega)
            refine lv_aload_n hx hb dX6_together_112 rfl (lv_at hl 1 rfl) ?_
            refine lv_iload hx hb dX6_together_113 (lv_at hl 0 rfl) ?_
            refine fx_ti (show nI (lackF bt sz nu sheet til (inB other 0 3) 99) = nI (togC bt sz nu sheet other til) from congrArg nI (hTA.symm.trans hC.symm)) ?_
            refine fx_ci (va_runV (As := [.int (nI (togC bt sz nu sheet other til))]) (rest := []) X (mX6_error l E ad im at_ op st_ us bn bm la fo fi lp tr_ sp ip er (togC bt sz nu sheet other til) (by omega) _) (cwV 1 X.2.2.2.2 (lw_V q1266 q1268 qs32 q75 q1269) rfl rfl rfl ⟨rfl, hdX6_error⟩ ⟨Nat.le_of_ble_eq_true rfl, Nat.le_of_ble_eq_true rfl⟩) (fx_preV (fx_pre hE hP hD hS hR [0] rfl rfl (fx_rcr 0 rfl fx_rc0)) (va_recv hE.1 (hR.at hS) (ci := 6) (q0 := 0) rfl rfl)) rfl rfl hl.1 rfl (lv_room (Nat.le_of_ble_eq_true rfl)) dX6_together_115 ⟨Nat.le_refl _, Nat.le_refl _⟩) hP hD hS hA [0] rfl rfl (fun r_115 u H locs hq_115 hP hD hS => ?_)
            replace hP : va_P E.1 clA [(ad 3, .inl (E.2 0, 7, .inl (upd er (togC bt sz nu sheet other til) (er (togC bt sz nu sheet other til) + 1)))), (ad 9, .inl (E.2 0, 128, .inl nmd)), (ad 10, .inl (E.2 0, 64, .inl pl)), (ad 11, .inl (E.2 0, 8, .inl td2_9)), (ad 12, .inl (E.2 0, 8, .inl bs)), (ad 13, .inl (E.2 0, 8, .inl rw_))] _ := hP
            replace hD : va_D A [(ad 3, .inl (E.2 0, 7, .inl (upd er (togC bt sz nu sheet other til) (er (togC bt sz nu sheet other til) + 1)))), (ad 9, .inl (E.2 0, 128, .inl nmd)), (ad 10, .inl (E.2 0, 64, .inl pl)), (ad 11, .inl (E.2 0, 8, .inl td2_9)), (ad 12, .inl (E.2 0, 8, .inl bs)), (ad 13, .inl (E.2 0, 8, .inl rw_))] := hD
            replace hq_115 : r_115 = erv (togC bt sz nu sheet other til) := hq_115
            exact hret r_115 ((upd er (togC bt sz nu sheet other til) (er (togC bt sz nu sheet other til) + 1)), nmd, pl, td2_9, bs, rw_) (by rw [hq_115]; simp only [together_, eR_p n_109, eE_p n_109, erI]) (rfl) hP hD hS (Nat.le_refl _) (Nat.le_refl _) dX6_together_118
        · -- fall 84
          have n_81 := fx_eq1 (a := (togA bt sz nu sheet other til)) (b := 0) c_81 (by omega) (by omega)
          exact absurd n_81 (by omega)
      · -- fall 25
        have n_22 := fx_eq1 (a := (lackF bt sz nu sheet til (inB other 0 3) 99)) (b := 1) c_22 (by omega) (by omega)
        refine lv_iload_n hx hb dX6_together_25 rfl (lv_at hl 2 rfl) ?_
        refine fx_ci (va_runS (As := [.int sheet]) (rest := []) X (mX6_isSheet l E sheet _) (va_cwS 1 X.2.2.2.2 (lw_S q1406 q1407 q75 q1408) rfl rfl rfl hdX6_isSheet ⟨Nat.le_of_ble_eq_true rfl, Nat.le_of_ble_eq_true rfl⟩) (fx_pre hE hP hD hS hR [] rfl rfl fx_rc0) rfl rfl hl.1 rfl (lv_room (Nat.le_of_ble_eq_true rfl)) dX6_together_26 ⟨Nat.le_refl _, Nat.le_refl _⟩) hP hD hS hA [] rfl rfl (fun r_26 u H locs hq_26 hP hD hS => ?_)
        replace hP : va_P E.1 clA [(ad 3, .inl (E.2 0, 7, .inl er)), (ad 9, .inl (E.2 0, 128, .inl nmd)), (ad 10, .inl (E.2 0, 64, .inl pl)), (ad 11, .inl (E.2 0, 8, .inl td2_9)), (ad 12, .inl (E.2 0, 8, .inl bs)), (ad 13, .inl (E.2 0, 8, .inl rw_))] _ := hP
        replace hD : va_D A [(ad 3, .inl (E.2 0, 7, .inl er)), (ad 9, .inl (E.2 0, 128, .inl nmd)), (ad 10, .inl (E.2 0, 64, .inl pl)), (ad 11, .inl (E.2 0, 8, .inl td2_9)), (ad 12, .inl (E.2 0, 8, .inl bs)), (ad 13, .inl (E.2 0, 8, .inl rw_))] := hD
        replace hq_26 : r_26 = fx_b (inB sheet 0 3 = true) := hq_26
        rcases fx_bc hq_26 with ⟨hb_26, hr_26⟩ | ⟨hb_26, hr_26⟩
        · -- True
          subst hr_26
          refine lv_if_eq (tgt := 79) hx hb dX6_together_29 (by decide) (fun c => absurd c (by decide)) (fun _ => ?_)
          refine lv_iload_n hx hb dX6_together_32 rfl (lv_at hl 3 rfl) ?_
          refine fx_ci (va_runS (As := [.int other]) (rest := []) X (mX6_isSheet l E other _) (va_cwS 1 X.2.2.2.2 (lw_S q1406 q1407 q75 q1408) rfl rfl rfl hdX6_isSheet ⟨Nat.le_of_ble_eq_true rfl, Nat.le_of_ble_eq_true rfl⟩) (fx_pre hE hP hD hS hR [] rfl rfl fx_rc0) rfl rfl hl.1 rfl (lv_room (Nat.le_of_ble_eq_true rfl)) dX6_together_33 ⟨Nat.le_refl _, Nat.le_refl _⟩) hP hD hS hA [] rfl rfl (fun r_33 u H locs hq_33 hP hD hS => ?_)
          replace hP : va_P E.1 clA [(ad 3, .inl (E.2 0, 7, .inl er)), (ad 9, .inl (E.2 0, 128, .inl nmd)), (ad 10, .inl (E.2 0, 64, .inl pl)), (ad 11, .inl (E.2 0, 8, .inl td2_9)), (ad 12, .inl (E.2 0, 8, .inl bs)), (ad 13, .inl (E.2 0, 8, .inl rw_))] _ := hP
          replace hD : va_D A [(ad 3, .inl (E.2 0, 7, .inl er)), (ad 9, .inl (E.2 0, 128, .inl nmd)), (ad 10, .inl (E.2 0, 64, .inl pl)), (ad 11, .inl (E.2 0, 8, .inl td2_9)), (ad 12, .inl (E.2 0, 8, .inl bs)), (ad 13, .inl (E.2 0, 8, .inl rw_))] := hD
          replace hq_33 : r_33 = fx_b (inB other 0 3 = true) := hq_33
          rcases fx_bc hq_33 with ⟨hb_33, hr_33⟩ | ⟨hb_33, hr_33⟩
          · -- True
            subst hr_33
            refine lv_if_eq (tgt := 79) hx hb dX6_together_36 (by decide) (fun c => absurd c (by decide)) (fun _ => ?_)
            refine lv_iload_n hx hb dX6_together_39 rfl (lv_at hl 4 rfl) ?_
            refine fx_ci (va_runS (As := [.int til]) (rest := []) X (mX6_isTill l E til _) (va_cwS 1 X.2.2.2.2 (lw_S q1357 q1358 q75 q1359) rfl rfl rfl hdX6_isTill ⟨Nat.le_of_ble_eq_true rfl, Nat.le_of_ble_eq_true rfl⟩) (fx_pre hE hP hD hS hR [] rfl rfl fx_rc0) rfl rfl hl.1 rfl (lv_room (Nat.le_of_ble_eq_true rfl)) dX6_together_40 ⟨Nat.le_refl _, Nat.le_refl _⟩) hP hD hS hA [] rfl rfl (fun r_40 u H locs hq_40 hP hD hS => ?_)
            replace hP : va_P E.1 clA [(ad 3, .inl (E.2 0, 7, .inl er)), (ad 9, .inl (E.2 0, 128, .inl nmd)), (ad 10, .inl (E.2 0, 64, .inl pl)), (ad 11, .inl (E.2 0, 8, .inl td2_9)), (ad 12, .inl (E.2 0, 8, .inl bs)), (ad 13, .inl (E.2 0, 8, .inl rw_))] _ := hP
            replace hD : va_D A [(ad 3, .inl (E.2 0, 7, .inl er)), (ad 9, .inl (E.2 0, 128, .inl nmd)), (ad 10, .inl (E.2 0, 64, .inl pl)), (ad 11, .inl (E.2 0, 8, .inl td2_9)), (ad 12, .inl (E.2 0, 8, .inl bs)), (ad 13, .inl (E.2 0, 8, .inl rw_))] := hD
            replace hq_40 : r_40 = fx_b (inB til 0 3 = true) := hq_40
            rcases fx_bc hq_40 with ⟨hb_40, hr_40⟩ | ⟨hb_40, hr_40⟩
            · -- True
              subst hr_40
              have go := inB_nn (n := 3) hb_33 (by omega)
              refine lv_if_eq (tgt := 79) hx hb dX6_together_43 (by decide) (fun c => absurd c (by decide)) (fun _ => ?_)
              refine lv_aload_n hx hb dX6_together_46 rfl (lv_at hl 1 rfl) ?_
              refine lv_iload_n hx hb dX6_together_47 rfl (lv_at hl 3 rfl) ?_
              refine fx_ti (show other = nI (nn other) from go.1) ?_
              have go2 := go.2
              refine lv_aload_n hx hb dX6_together_48 rfl (lv_at hl 1 rfl) ?_
              refine fx_get X hE (hR.at hS) 0 rfl rfl 12 rfl q1180 rfl rfl dX6_together_49 ?_
              refine lv_bipush (v := 99) hx hb dX6_together_52 rfl ?_
              refine fx_ci (va_runV (As := [.int (nI (nn other)), .ref (ad 12), .int 99]) (rest := []) X (mX6_tells l E ad im at_ op st_ us bn bm la fo fi lp tr_ sp ip bt sz nu (ad 12) bs (nn other) 99 (by omega) (by first | assumption | omega) (by decide) _) (cwV 3 X.2.2.2.2 (lw_V q1409 q1411 qs51 q75 q1412) rfl rfl rfl ⟨rfl, hdX6_tells⟩ ⟨Nat.le_of_ble_eq_true rfl, Nat.le_of_ble_eq_true rfl⟩) (fx_preV (fx_pre hE hP hD hS hR [4] rfl rfl (fx_rcr 0 rfl (fx_rcr 2 rfl (fx_rcr 3 rfl (fx_rcr 4 rfl fx_rc0))))) (va_recv hE.1 (hR.at hS) (ci := 6) (q0 := 0) rfl rfl)) rfl rfl hl.1 rfl (lv_room (Nat.le_of_ble_eq_true rfl)) dX6_together_54 ⟨Nat.le_refl _, Nat.le_refl _⟩) hP hD hS hA [4] rfl rfl (fun r_54 u H locs hq_54 hP hD hS => ?_)
              obtain ⟨row2_54, rfl⟩ : ∃ z, z = u := ⟨_, rfl⟩
              replace hP : va_P E.1 clA [(ad 3, .inl (E.2 0, 7, .inl er)), (ad 9, .inl (E.2 0, 128, .inl nmd)), (ad 10, .inl (E.2 0, 64, .inl pl)), (ad 11, .inl (E.2 0, 8, .inl td2_9)), (ad 12, .inl (E.2 0, 8, .inl row2_54)), (ad 13, .inl (E.2 0, 8, .inl rw_))] _ := hP
              replace hD : va_D A [(ad 3, .inl (E.2 0, 7, .inl er)), (ad 9, .inl (E.2 0, 128, .inl nmd)), (ad 10, .inl (E.2 0, 64, .inl pl)), (ad 11, .inl (E.2 0, 8, .inl td2_9)), (ad 12, .inl (E.2 0, 8, .inl row2_54)), (ad 13, .inl (E.2 0, 8, .inl rw_))] := hD
              replace hq_54 : r_54 = nI (tellC bt sz nu (nn other) 99) ∧ (tellC bt sz nu (nn other) 99 = 0 → ∀ t, t < 8 → row2_54 t = shG sz nu (nn other) t) := hq_54
              refine fx_ti (show r_54 = nI (tellC bt sz nu (nn other) 99) from hq_54.1) ?_
              have htc : tellC bt sz nu (nn other) 99 ≤ 4 := tellC_le
              refine lv_istore (lv' := [(5, .int (nI (tellC bt sz nu (nn other) 99))), (4, .int (nI (lackF bt sz nu sheet til (inB other 0 3) 99))), (0, .ref (ad 30)), (1, .int sheet), (2, .int other), (3, .int til)]) hx hb dX6_together_57 hl (by decide) rfl (fun ls hl => ?_)
              refine lv_iload hx hb dX6_together_59 (lv_at hl 0 rfl) ?_
              refine lv_iconst (v := 2) hx hb dX6_together_61 rfl ?_
              refine lv_icmp_eq (tgt := 70) hx hb dX6_together_62 (by decide) (fun c_62 => ?_) (fun c_62 => ?_)
              · -- jump 70
                have n_62 := fx_eq1 (a := (tellC bt sz nu (nn other) 99)) (b := 2) c_62 (by omega) (by omega)
                refine lv_iload hx hb dX6_together_70 (lv_at hl 0 rfl) ?_
                refine lv_goto (tgt := 77) hx hb dX6_together_72 (by decide) ?_
                refine lv_istore (lv' := [(4, .int (nI (tellC bt sz nu (nn other) 99))), (5, .int (nI (tellC bt sz nu (nn other) 99))), (0, .ref (ad 30)), (1, .int sheet), (2, .int other), (3, .int til)]) hx hb dX6_together_77 hl (by decide) rfl (fun ls hl => ?_)
                have hTA : togA bt sz nu sheet other til = tellC bt sz nu (nn other) 99 := by unfold togA; rw [if_pos (Or.inr ⟨n_22, hb_26, hb_33, hb_40⟩), if_pos (Or.inl n_62)]
                refine lv_iload hx hb dX6_together_79 (lv_at hl 0 rfl) ?_
                refine fx_ti (show nI (tellC bt sz nu (nn other) 99) = nI (togA bt sz nu sheet other til) from congrArg nI hTA.symm) ?_
                have hta : togA bt sz nu sheet other til ≤ 4 := by rw [hTA]; first | exact tellC_le | exact lackF_le
                refine lv_if_ne (tgt := 107) hx hb dX6_together_81 (by decide) (fun c_81 => ?_) (fun c_81 => ?_)
                · -- jump 107
                  have n_81 := fx_eq0 (a := (togA bt sz nu sheet other til)) (b := 0) c_81 (by omega) (by omega)
                  have hC : togC bt sz nu sheet other til = togA bt sz nu sheet other til := by unfold togC; rw [if_neg (fun h => n_81 h.1)]
                  have hcl : togC bt sz nu sheet other til ≤ 4 := togC_le
                  refine lv_iload hx hb dX6_together_107 (lv_at hl 0 rfl) ?_
                  refine fx_ti (show nI (tellC bt sz nu (nn other) 99) = nI (togC bt sz nu sheet other til) from congrArg nI (hTA.symm.trans hC.symm)) ?_
                  refine lv_if_le (tgt := 119) hx hb dX6_together_109 (by decide) (fun c_109 => ?_) (fun c_109 => ?_)
                  · -- jump 119
                    have n_109 := fx_le1 (a := (togC bt sz nu sheet other til)) (b := 0) c_109 (by omega) (by omega)
                    have h0 : togC bt sz nu sheet other til = 0 := by omega
                    exact absurd (hC.symm.trans h0) n_81
                  · -- fall 112
                    have n_109 := fx_le0 (a := (togC bt sz nu sheet other til)) (b := 0) c_109 (by omega) (by omega)
                    refine lv_aload_n hx hb dX6_together_112 rfl (lv_at hl 2 rfl) ?_
                    refine lv_iload hx hb dX6_together_113 (lv_at hl 0 rfl) ?_
                    refine fx_ti (show nI (tellC bt sz nu (nn other) 99) = nI (togC bt sz nu sheet other til) from congrArg nI (hTA.symm.trans hC.symm)) ?_
                    refine fx_ci (va_runV (As := [.int (nI (togC bt sz nu sheet other til))]) (rest := []) X (mX6_error l E ad im at_ op st_ us bn bm la fo fi lp tr_ sp ip er (togC bt sz nu sheet other til) (by omega) _) (cwV 1 X.2.2.2.2 (lw_V q1266 q1268 qs32 q75 q1269) rfl rfl rfl ⟨rfl, hdX6_error⟩ ⟨Nat.le_of_ble_eq_true rfl, Nat.le_of_ble_eq_true rfl⟩) (fx_preV (fx_pre hE hP hD hS hR [0] rfl rfl (fx_rcr 0 rfl fx_rc0)) (va_recv hE.1 (hR.at hS) (ci := 6) (q0 := 0) rfl rfl)) rfl rfl hl.1 rfl (lv_room (Nat.le_of_ble_eq_true rfl)) dX6_together_115 ⟨Nat.le_refl _, Nat.le_refl _⟩) hP hD hS hA [0] rfl rfl (fun r_115 u H locs hq_115 hP hD hS => ?_)
                    replace hP : va_P E.1 clA [(ad 3, .inl (E.2 0, 7, .inl (upd er (togC bt sz nu sheet other til) (er (togC bt sz nu sheet other til) + 1)))), (ad 9, .inl (E.2 0, 128, .inl nmd)), (ad 10, .inl (E.2 0, 64, .inl pl)), (ad 11, .inl (E.2 0, 8, .inl td2_9)), (ad 12, .inl (E.2 0, 8, .inl row2_54)), (ad 13, .inl (E.2 0, 8, .inl rw_))] _ := hP
                    replace hD : va_D A [(ad 3, .inl (E.2 0, 7, .inl (upd er (togC bt sz nu sheet other til) (er (togC bt sz nu sheet other til) + 1)))), (ad 9, .inl (E.2 0, 128, .inl nmd)), (ad 10, .inl (E.2 0, 64, .inl pl)), (ad 11, .inl (E.2 0, 8, .inl td2_9)), (ad 12, .inl (E.2 0, 8, .inl row2_54)), (ad 13, .inl (E.2 0, 8, .inl rw_))] := hD
                    replace hq_115 : r_115 = erv (togC bt sz nu sheet other til) := hq_115
                    exact hret r_115 ((upd er (togC bt sz nu sheet other til) (er (togC bt sz nu sheet other til) + 1)), nmd, pl, td2_9, row2_54, rw_) (by rw [hq_115]; simp only [together_, eR_p n_109, eE_p n_109, erI]) (rfl) hP hD hS (Nat.le_refl _) (Nat.le_refl _) dX6_together_118
                · -- fall 84
                  have n_81 := fx_eq1 (a := (togA bt sz nu sheet other til)) (b := 0) c_81 (by omega) (by omega)
                  exact absurd n_81 (by omega)
              · -- fall 65
                have n_62 := fx_eq0 (a := (tellC bt sz nu (nn other) 99)) (b := 2) c_62 (by omega) (by omega)
                refine lv_iload hx hb dX6_together_65 (lv_at hl 1 rfl) ?_
                refine lv_if_ne (tgt := 75) hx hb dX6_together_67 (by decide) (fun c_67 => ?_) (fun c_67 => absurd ((congrArg nI n_22).symm.trans c_67) (by decide))
                have n_67 := fx_eq0 (a := (lackF bt sz nu sheet til (inB other 0 3) 99)) (b := 0) c_67 (by omega) (by omega)
                refine lv_iload hx hb dX6_together_75 (lv_at hl 1 rfl) ?_
                refine lv_istore (lv' := [(4, .int (nI (lackF bt sz nu sheet til (inB other 0 3) 99))), (5, .int (nI (tellC bt sz nu (nn other) 99))), (0, .ref (ad 30)), (1, .int sheet), (2, .int other), (3, .int til)]) hx hb dX6_together_77 hl (by decide) rfl (fun ls hl => ?_)
                have hTA : togA bt sz nu sheet other til = lackF bt sz nu sheet til (inB other 0 3) 99 := by unfold togA; rw [if_pos (Or.inr ⟨n_22, hb_26, hb_33, hb_40⟩), if_neg (fun h => h.elim n_62 n_16)]
                refine lv_iload hx hb dX6_together_79 (lv_at hl 0 rfl) ?_
                refine fx_ti (show nI (lackF bt sz nu sheet til (inB other 0 3) 99) = nI (togA bt sz nu sheet other til) from congrArg nI hTA.symm) ?_
                have hta : togA bt sz nu sheet other til ≤ 4 := by rw [hTA]; first | exact tellC_le | exact lackF_le
                refine lv_if_ne (tgt := 107) hx hb dX6_together_81 (by decide) (fun c_81 => ?_) (fun c_81 => ?_)
                · -- jump 107
                  have n_81 := fx_eq0 (a := (togA bt sz nu sheet other til)) (b := 0) c_81 (by omega) (by omega)
                  have hC : togC bt sz nu sheet other til = togA bt sz nu sheet other til := by unfold togC; rw [if_neg (fun h => n_81 h.1)]
                  have hcl : togC bt sz nu sheet other til ≤ 4 := togC_le
                  refine lv_iload hx hb dX6_together_107 (lv_at hl 0 rfl) ?_
                  refine fx_ti (show nI (lackF bt sz nu sheet til (inB other 0 3) 99) = nI (togC bt sz nu sheet other til) from congrArg nI (hTA.symm.trans hC.symm)) ?_
                  refine lv_if_le (tgt := 119) hx hb dX6_together_109 (by decide) (fun c_109 => ?_) (fun c_109 => ?_)
                  · -- jump 119
                    have n_109 := fx_le1 (a := (togC bt sz nu sheet other til)) (b := 0) c_109 (by omega) (by omega)
                    have h0 : togC bt sz nu sheet other til = 0 := by omega
                    exact absurd (hC.symm.trans h0) n_81
                  · -- fall 112
                    have n_109 := fx_le0 (a := (togC bt sz nu sheet other til)) (b := 0) c_109 (by omega) (by omega)
                    refine lv_aload_n hx hb dX6_together_112 rfl (lv_at hl 2 rfl) ?_
                    refine lv_iload hx hb dX6_together_113 (lv_at hl 0 rfl) ?_
                    refine fx_ti (show nI (lackF bt sz nu sheet til (inB other 0 3) 99) = nI (togC bt sz nu sheet other til) from congrArg nI (hTA.symm.trans hC.symm)) ?_
                    refine fx_ci (va_runV (As := [.int (nI (togC bt sz nu sheet other til))]) (rest := []) X (mX6_error l E ad im at_ op st_ us bn bm la fo fi lp tr_ sp ip er (togC bt sz nu sheet other til) (by omega) _) (cwV 1 X.2.2.2.2 (lw_V q1266 q1268 qs32 q75 q1269) rfl rfl rfl ⟨rfl, hdX6_error⟩ ⟨Nat.le_of_ble_eq_true rfl, Nat.le_of_ble_eq_true rfl⟩) (fx_preV (fx_pre hE hP hD hS hR [0] rfl rfl (fx_rcr 0 rfl fx_rc0)) (va_recv hE.1 (hR.at hS) (ci := 6) (q0 := 0) rfl rfl)) rfl rfl hl.1 rfl (lv_room (Nat.le_of_ble_eq_true rfl)) dX6_together_115 ⟨Nat.le_refl _, Nat.le_refl _⟩) hP hD hS hA [0] rfl rfl (fun r_115 u H locs hq_115 hP hD hS => ?_)
                    replace hP : va_P E.1 clA [(ad 3, .inl (E.2 0, 7, .inl (upd er (togC bt sz nu sheet other til) (er (togC bt sz nu sheet other til) + 1)))), (ad 9, .inl (E.2 0, 128, .inl nmd)), (ad 10, .inl (E.2 0, 64, .inl pl)), (ad 11, .inl (E.2 0, 8, .inl td2_9)), (ad 12, .inl (E.2 0, 8, .inl row2_54)), (ad 13, .inl (E.2 0, 8, .inl rw_))] _ := hP
                    replace hD : va_D A [(ad 3, .inl (E.2 0, 7, .inl (upd er (togC bt sz nu sheet other til) (er (togC bt sz nu sheet other til) + 1)))), (ad 9, .inl (E.2 0, 128, .inl nmd)), (ad 10, .inl (E.2 0, 64, .inl pl)), (ad 11, .inl (E.2 0, 8, .inl td2_9)), (ad 12, .inl (E.2 0, 8, .inl row2_54)), (ad 13, .inl (E.2 0, 8, .inl rw_))] := hD
                    replace hq_115 : r_115 = erv (togC bt sz nu sheet other til) := hq_115
                    exact hret r_115 ((upd er (togC bt sz nu sheet other til) (er (togC bt sz nu sheet other til) + 1)), nmd, pl, td2_9, row2_54, rw_) (by rw [hq_115]; simp only [together_, eR_p n_109, eE_p n_109, erI]) (rfl) hP hD hS (Nat.le_refl _) (Nat.le_refl _) dX6_together_118
                · -- fall 84
                  have n_81 := fx_eq1 (a := (togA bt sz nu sheet other til)) (b := 0) c_81 (by omega) (by omega)
                  exact absurd n_81 (by omega)
            · -- False
              subst hr_40
              refine lv_if_eq (tgt := 79) hx hb dX6_together_43 (by decide) (fun _ => ?_) (fun c => (c (by decide)).elim)
              have hTA : togA bt sz nu sheet other til = lackF bt sz nu sheet til (inB other 0 3) 99 := by unfold togA; rw [if_neg (fun h => h.elim n_16 (fun h => hb_40 h.2.2.2))]
              refine lv_iload hx hb dX6_together_79 (lv_at hl 0 rfl) ?_
              refine fx_ti (show nI (lackF bt sz nu sheet til (inB other 0 3) 99) = nI (togA bt sz nu sheet other til) from congrArg nI hTA.symm) ?_
              have hta : togA bt sz nu sheet other til ≤ 4 := by rw [hTA]; first | exact tellC_le | exact lackF_le
              refine lv_if_ne (tgt := 107) hx hb dX6_together_81 (by decide) (fun c_81 => ?_) (fun c_81 => ?_)
              · -- jump 107
                have n_81 := fx_eq0 (a := (togA bt sz nu sheet other til)) (b := 0) c_81 (by omega) (by omega)
                have hC : togC bt sz nu sheet other til = togA bt sz nu sheet other til := by unfold togC; rw [if_neg (fun h => n_81 h.1)]
                have hcl : togC bt sz nu sheet other til ≤ 4 := togC_le
                refine lv_iload hx hb dX6_together_107 (lv_at hl 0 rfl) ?_
                refine fx_ti (show nI (lackF bt sz nu sheet til (inB other 0 3) 99) = nI (togC bt sz nu sheet other til) from congrArg nI (hTA.symm.trans hC.symm)) ?_
                refine lv_if_le (tgt := 119) hx hb dX6_together_109 (by decide) (fun c_109 => ?_) (fun c_109 => ?_)
                · -- jump 119
                  have n_109 := fx_le1 (a := (togC bt sz nu sheet other til)) (b := 0) c_109 (by omega) (by omega)
                  have h0 : togC bt sz nu sheet other til = 0 := by omega
                  exact absurd (hC.symm.trans h0) n_81
                · -- fall 112
                  have n_109 := fx_le0 (a := (togC bt sz nu sheet other til)) (b := 0) c_109 (by omega) (by omega)
                  refine lv_aload_n hx hb dX6_together_112 rfl (lv_at hl 1 rfl) ?_
                  refine lv_iload hx hb dX6_together_113 (lv_at hl 0 rfl) ?_
                  refine fx_ti (show nI (lackF bt sz nu sheet til (inB other 0 3) 99) = nI (togC bt sz nu sheet other til) from congrArg nI (hTA.symm.trans hC.symm)) ?_
                  refine fx_ci (va_runV (As := [.int (nI (togC bt sz nu sheet other til))]) (rest := []) X (mX6_error l E ad im at_ op st_ us bn bm la fo fi lp tr_ sp ip er (togC bt sz nu sheet other til) (by omega) _) (cwV 1 X.2.2.2.2 (lw_V q1266 q1268 qs32 q75 q1269) rfl rfl rfl ⟨rfl, hdX6_error⟩ ⟨Nat.le_of_ble_eq_true rfl, Nat.le_of_ble_eq_true rfl⟩) (fx_preV (fx_pre hE hP hD hS hR [0] rfl rfl (fx_rcr 0 rfl fx_rc0)) (va_recv hE.1 (hR.at hS) (ci := 6) (q0 := 0) rfl rfl)) rfl rfl hl.1 rfl (lv_room (Nat.le_of_ble_eq_true rfl)) dX6_together_115 ⟨Nat.le_refl _, Nat.le_refl _⟩) hP hD hS hA [0] rfl rfl (fun r_115 u H locs hq_115 hP hD hS => ?_)
                  replace hP : va_P E.1 clA [(ad 3, .inl (E.2 0, 7, .inl (upd er (togC bt sz nu sheet other til) (er (togC bt sz nu sheet other til) + 1)))), (ad 9, .inl (E.2 0, 128, .inl nmd)), (ad 10, .inl (E.2 0, 64, .inl pl)), (ad 11, .inl (E.2 0, 8, .inl td2_9)), (ad 12, .inl (E.2 0, 8, .inl bs)), (ad 13, .inl (E.2 0, 8, .inl rw_))] _ := hP
                  replace hD : va_D A [(ad 3, .inl (E.2 0, 7, .inl (upd er (togC bt sz nu sheet other til) (er (togC bt sz nu sheet other til) + 1)))), (ad 9, .inl (E.2 0, 128, .inl nmd)), (ad 10, .inl (E.2 0, 64, .inl pl)), (ad 11, .inl (E.2 0, 8, .inl td2_9)), (ad 12, .inl (E.2 0, 8, .inl bs)), (ad 13, .inl (E.2 0, 8, .inl rw_))] := hD
                  replace hq_115 : r_115 = erv (togC bt sz nu sheet other til) := hq_115
                  exact hret r_115 ((upd er (togC bt sz nu sheet other til) (er (togC bt sz nu sheet other til) + 1)), nmd, pl, td2_9, bs, rw_) (by rw [hq_115]; simp only [together_, eR_p n_109, eE_p n_109, erI]) (rfl) hP hD hS (Nat.le_refl _) (Nat.le_refl _) dX6_together_118
              · -- fall 84
                have n_81 := fx_eq1 (a := (togA bt sz nu sheet other til)) (b := 0) c_81 (by omega) (by omega)
                exact absurd n_81 (by omega)
          · -- False
            subst hr_33
            refine lv_if_eq (tgt := 79) hx hb dX6_together_36 (by decide) (fun _ => ?_) (fun c => (c (by decide)).elim)
            have hTA : togA bt sz nu sheet other til = lackF bt sz nu sheet til (inB other 0 3) 99 := by unfold togA; rw [if_neg (fun h => h.elim n_16 (fun h => hb_33 h.2.2.1))]
            refine lv_iload hx hb dX6_together_79 (lv_at hl 0 rfl) ?_
            refine fx_ti (show nI (lackF bt sz nu sheet til (inB other 0 3) 99) = nI (togA bt sz nu sheet other til) from congrArg nI hTA.symm) ?_
            have hta : togA bt sz nu sheet other til ≤ 4 := by rw [hTA]; first | exact tellC_le | exact lackF_le
            refine lv_if_ne (tgt := 107) hx hb dX6_together_81 (by decide) (fun c_81 => ?_) (fun c_81 => ?_)
            · -- jump 107
              have n_81 := fx_eq0 (a := (togA bt sz nu sheet other til)) (b := 0) c_81 (by omega) (by omega)
              have hC : togC bt sz nu sheet other til = togA bt sz nu sheet other til := by unfold togC; rw [if_neg (fun h => n_81 h.1)]
              have hcl : togC bt sz nu sheet other til ≤ 4 := togC_le
              refine lv_iload hx hb dX6_together_107 (lv_at hl 0 rfl) ?_
              refine fx_ti (show nI (lackF bt sz nu sheet til (inB other 0 3) 99) = nI (togC bt sz nu sheet other til) from congrArg nI (hTA.symm.trans hC.symm)) ?_
              refine lv_if_le (tgt := 119) hx hb dX6_together_109 (by decide) (fun c_109 => ?_) (fun c_109 => ?_)
              · -- jump 119
                have n_109 := fx_le1 (a := (togC bt sz nu sheet other til)) (b := 0) c_109 (by omega) (by omega)
                have h0 : togC bt sz nu sheet other til = 0 := by omega
                exact absurd (hC.symm.trans h0) n_81
              · -- fall 112
                have n_109 := fx_le0 (a := (togC bt sz nu sheet other til)) (b := 0) c_109 (by omega) (by omega)
                refine lv_aload_n hx hb dX6_together_112 rfl (lv_at hl 1 rfl) ?_
                refine lv_iload hx hb dX6_together_113 (lv_at hl 0 rfl) ?_
                refine fx_ti (show nI (lackF bt sz nu sheet til (inB other 0 3) 99) = nI (togC bt sz nu sheet other til) from congrArg nI (hTA.symm.trans hC.symm)) ?_
                refine fx_ci (va_runV (As := [.int (nI (togC bt sz nu sheet other til))]) (rest := []) X (mX6_error l E ad im at_ op st_ us bn bm la fo fi lp tr_ sp ip er (togC bt sz nu sheet other til) (by omega) _) (cwV 1 X.2.2.2.2 (lw_V q1266 q1268 qs32 q75 q1269) rfl rfl rfl ⟨rfl, hdX6_error⟩ ⟨Nat.le_of_ble_eq_true rfl, Nat.le_of_ble_eq_true rfl⟩) (fx_preV (fx_pre hE hP hD hS hR [0] rfl rfl (fx_rcr 0 rfl fx_rc0)) (va_recv hE.1 (hR.at hS) (ci := 6) (q0 := 0) rfl rfl)) rfl rfl hl.1 rfl (lv_room (Nat.le_of_ble_eq_true rfl)) dX6_together_115 ⟨Nat.le_refl _, Nat.le_refl _⟩) hP hD hS hA [0] rfl rfl (fun r_115 u H locs hq_115 hP hD hS => ?_)
                replace hP : va_P E.1 clA [(ad 3, .inl (E.2 0, 7, .inl (upd er (togC bt sz nu sheet other til) (er (togC bt sz nu sheet other til) + 1)))), (ad 9, .inl (E.2 0, 128, .inl nmd)), (ad 10, .inl (E.2 0, 64, .inl pl)), (ad 11, .inl (E.2 0, 8, .inl td2_9)), (ad 12, .inl (E.2 0, 8, .inl bs)), (ad 13, .inl (E.2 0, 8, .inl rw_))] _ := hP
                replace hD : va_D A [(ad 3, .inl (E.2 0, 7, .inl (upd er (togC bt sz nu sheet other til) (er (togC bt sz nu sheet other til) + 1)))), (ad 9, .inl (E.2 0, 128, .inl nmd)), (ad 10, .inl (E.2 0, 64, .inl pl)), (ad 11, .inl (E.2 0, 8, .inl td2_9)), (ad 12, .inl (E.2 0, 8, .inl bs)), (ad 13, .inl (E.2 0, 8, .inl rw_))] := hD
                replace hq_115 : r_115 = erv (togC bt sz nu sheet other til) := hq_115
                exact hret r_115 ((upd er (togC bt sz nu sheet other til) (er (togC bt sz nu sheet other til) + 1)), nmd, pl, td2_9, bs, rw_) (by rw [hq_115]; simp only [together_, eR_p n_109, eE_p n_109, erI]) (rfl) hP hD hS (Nat.le_refl _) (Nat.le_refl _) dX6_together_118
            · -- fall 84
              have n_81 := fx_eq1 (a := (togA bt sz nu sheet other til)) (b := 0) c_81 (by omega) (by omega)
              exact absurd n_81 (by omega)
        · -- False
          subst hr_26
          refine lv_if_eq (tgt := 79) hx hb dX6_together_29 (by decide) (fun _ => ?_) (fun c => (c (by decide)).elim)
          have hTA : togA bt sz nu sheet other til = lackF bt sz nu sheet til (inB other 0 3) 99 := by unfold togA; rw [if_neg (fun h => h.elim n_16 (fun h => hb_26 h.2.1))]
          refine lv_iload hx hb dX6_together_79 (lv_at hl 0 rfl) ?_
          refine fx_ti (show nI (lackF bt sz nu sheet til (inB other 0 3) 99) = nI (togA bt sz nu sheet other til) from congrArg nI hTA.symm) ?_
          have hta : togA bt sz nu sheet other til ≤ 4 := by rw [hTA]; first | exact tellC_le | exact lackF_le
          refine lv_if_ne (tgt := 107) hx hb dX6_together_81 (by decide) (fun c_81 => ?_) (fun c_81 => ?_)
          · -- jump 107
            have n_81 := fx_eq0 (a := (togA bt sz nu sheet other til)) (b := 0) c_81 (by omega) (by omega)
            have hC : togC bt sz nu sheet other til = togA bt sz nu sheet other til := by unfold togC; rw [if_neg (fun h => n_81 h.1)]
            have hcl : togC bt sz nu sheet other til ≤ 4 := togC_le
            refine lv_iload hx hb dX6_together_107 (lv_at hl 0 rfl) ?_
            refine fx_ti (show nI (lackF bt sz nu sheet til (inB other 0 3) 99) = nI (togC bt sz nu sheet other til) from congrArg nI (hTA.symm.trans hC.symm)) ?_
            refine lv_if_le (tgt := 119) hx hb dX6_together_109 (by decide) (fun c_109 => ?_) (fun c_109 => ?_)
            · -- jump 119
              have n_109 := fx_le1 (a := (togC bt sz nu sheet other til)) (b := 0) c_109 (by omega) (by omega)
              have h0 : togC bt sz nu sheet other til = 0 := by omega
              exact absurd (hC.symm.trans h0) n_81
            · -- fall 112
              have n_109 := fx_le0 (a := (togC bt sz nu sheet other til)) (b := 0) c_109 (by omega) (by omega)
              refine lv_aload_n hx hb dX6_together_112 rfl (lv_at hl 1 rfl) ?_
              refine lv_iload hx hb dX6_together_113 (lv_at hl 0 rfl) ?_
              refine fx_ti (show nI (lackF bt sz nu sheet til (inB other 0 3) 99) = nI (togC bt sz nu sheet other til) from congrArg nI (hTA.symm.trans hC.symm)) ?_
              refine fx_ci (va_runV (As := [.int (nI (togC bt sz nu sheet other til))]) (rest := []) X (mX6_error l E ad im at_ op st_ us bn bm la fo fi lp tr_ sp ip er (togC bt sz nu sheet other til) (by omega) _) (cwV 1 X.2.2.2.2 (lw_V q1266 q1268 qs32 q75 q1269) rfl rfl rfl ⟨rfl, hdX6_error⟩ ⟨Nat.le_of_ble_eq_true rfl, Nat.le_of_ble_eq_true rfl⟩) (fx_preV (fx_pre hE hP hD hS hR [0] rfl rfl (fx_rcr 0 rfl fx_rc0)) (va_recv hE.1 (hR.at hS) (ci := 6) (q0 := 0) rfl rfl)) rfl rfl hl.1 rfl (lv_room (Nat.le_of_ble_eq_true rfl)) dX6_together_115 ⟨Nat.le_refl _, Nat.le_refl _⟩) hP hD hS hA [0] rfl rfl (fun r_115 u H locs hq_115 hP hD hS => ?_)
              replace hP : va_P E.1 clA [(ad 3, .inl (E.2 0, 7, .inl (upd er (togC bt sz nu sheet other til) (er (togC bt sz nu sheet other til) + 1)))), (ad 9, .inl (E.2 0, 128, .inl nmd)), (ad 10, .inl (E.2 0, 64, .inl pl)), (ad 11, .inl (E.2 0, 8, .inl td2_9)), (ad 12, .inl (E.2 0, 8, .inl bs)), (ad 13, .inl (E.2 0, 8, .inl rw_))] _ := hP
              replace hD : va_D A [(ad 3, .inl (E.2 0, 7, .inl (upd er (togC bt sz nu sheet other til) (er (togC bt sz nu sheet other til) + 1)))), (ad 9, .inl (E.2 0, 128, .inl nmd)), (ad 10, .inl (E.2 0, 64, .inl pl)), (ad 11, .inl (E.2 0, 8, .inl td2_9)), (ad 12, .inl (E.2 0, 8, .inl bs)), (ad 13, .inl (E.2 0, 8, .inl rw_))] := hD
              replace hq_115 : r_115 = erv (togC bt sz nu sheet other til) := hq_115
              exact hret r_115 ((upd er (togC bt sz nu sheet other til) (er (togC bt sz nu sheet other til) + 1)), nmd, pl, td2_9, bs, rw_) (by rw [hq_115]; simp only [together_, eR_p n_109, eE_p n_109, erI]) (rfl) hP hD hS (Nat.le_refl _) (Nat.le_refl _) dX6_together_118
          · -- fall 84
            have n_81 := fx_eq1 (a := (togA bt sz nu sheet other til)) (b := 0) c_81 (by omega) (by omega)
            exact absurd n_81 (by omega)
abbrev rmX6_small (d : Nat) : Room := { frames := d + 10, cells := 0, slots := 0, locals := 27 * d + 400 }
set_option maxHeartbeats 1000000 in
set_option maxRecDepth 100000 in
theorem mX6_small (l : Launch) (E : fx_En) : ∀ (d : Nat) (ad : Nat → Nat) (im : Int32) (at_ : Int32) (op : Int32) (st_ : Int32) (us : Int32) (bn : Int32) (bm : Int32) (la : Int32) (fo : Int32) (fi : Int32) (lp : Int32) (tr_ : Int32) (sp : Int32) (ip : Int32) (sa : Nat → Int32) (nmd : Nat → Int32) (pl : Nat → Int32) (rw_ : Nat → Int32) (k : Nat) (wa : Int32) (T : Tx) (ex : Nat → Nat) (le : Nat) (mo : Nat) (hd : d ≤ 8) (hk : k < 4) (hI : Inv sa) (hT : TM sa 0 T) (hTo : TOk T) (hrw : ∀ i, i < 8 - d → rw_ i = nI (ex i) ∧ ex i ≤ 9) (hle : le ≤ 9), fx_Mv l yX6_small cX6_small 8 (rmX6_small d) E [.ref (ad 30), .int (nI k), .int (nI (8 - d)), .int (nI le), .int wa] [(ad 30, .inr (6, [.ref (ad 0), .ref (ad 1), .int im, .ref (ad 3), .int at_, .int op, .int st_, .int us, .ref (ad 8), .ref (ad 9), .ref (ad 10), .ref (ad 11), .ref (ad 12), .ref (ad 13), .ref (ad 14), .int bn, .int bm, .ref (ad 17), .int la, .int fo, .int fi, .int lp, .ref (ad 22), .int tr_, .int sp, .int ip, .ref (ad 26), .ref (ad 27), .ref (ad 28), .ref (ad 29)])), (ad 9, .inl (E.2 0, 128, .inl nmd)), (ad 10, .inl (E.2 0, 64, .inl pl)), (ad 13, .inl (E.2 0, 8, .inl rw_))] [(ad 0, .inl (E.2 0, 374, .inl sa))] (S := Int32 × Int32 × Int32 × (Nat → Int32) × (Nat → Int32) × (Nat → Int32)) (fun (u : Int32 × Int32 × Int32 × (Nat → Int32) × (Nat → Int32) × (Nat → Int32)) => [(ad 30, .inr (6, [.ref (ad 0), .ref (ad 1), .int im, .ref (ad 3), .int at_, .int op, .int st_, .int us, .ref (ad 8), .ref (ad 9), .ref (ad 10), .ref (ad 11), .ref (ad 12), .ref (ad 13), .ref (ad 14), .int bn, .int bm, .ref (ad 17), .int la, .int u.1, .int u.2.1, .int u.2.2.1, .ref (ad 22), .int tr_, .int sp, .int ip, .ref (ad 26), .ref (ad 27), .ref (ad 28), .ref (ad 29)])), (ad 9, .inl (E.2 0, 128, .inl u.2.2.2.1)), (ad 10, .inl (E.2 0, 64, .inl u.2.2.2.2.1)), (ad 13, .inl (E.2 0, 8, .inl u.2.2.2.2.2))]) (fun (u : Int32 × Int32 × Int32 × (Nat → Int32) × (Nat → Int32) × (Nat → Int32)) => (u.1, u.2.1, u.2.2.1) = (enL (fun _ q_ => q_) (lfS (fun e_ => paysF sa T e_ k) wa) d ex le mo (fo, fi, lp)) ∧ (∀ i, i < 8 - d → u.2.2.2.2.2 i = rw_ i)) := by
  intro d
  induction d with
  | zero =>
    intro ad im at_ op st_ us bn bm la fo fi lp tr_ sp ip sa nmd pl rw_ k wa T ex le mo hd hk hI hT hTo hrw hle
    refine fx_vW rfl rfl ?_
    intro p e s m args below meth c A ls Q X hnm hE hP hD hR hA hl hret
    have hx := X.1
    have hb := X.2.1
    have hS : va_S A s.heap s.heap [] := va_S.rf
    replace hP : va_P E.1 clA [(ad 30, .inr (6, [.ref (ad 0), .ref (ad 1), .int im, .ref (ad 3), .int at_, .int op, .int st_, .int us, .ref (ad 8), .ref (ad 9), .ref (ad 10), .ref (ad 11), .ref (ad 12), .ref (ad 13), .ref (ad 14), .int bn, .int bm, .ref (ad 17), .int la, .int fo, .int fi, .int lp, .ref (ad 22), .int tr_, .int sp, .int ip, .ref (ad 26), .ref (ad 27), .ref (ad 28), .ref (ad 29)])), (ad 9, .inl (E.2 0, 128, .inl nmd)), (ad 10, .inl (E.2 0, 64, .inl pl)), (ad 13, .inl (E.2 0, 8, .inl rw_))] _ := hP
    replace hD : va_D A [(ad 30, .inr (6, [.ref (ad 0), .ref (ad 1), .int im, .ref (ad 3), .int at_, .int op, .int st_, .int us, .ref (ad 8), .ref (ad 9), .ref (ad 10), .ref (ad 11), .ref (ad 12), .ref (ad 13), .ref (ad 14), .int bn, .int bm, .ref (ad 17), .int la, .int fo, .int fi, .int lp, .ref (ad 22), .int tr_, .int sp, .int ip, .ref (ad 26), .ref (ad 27), .ref (ad 28), .ref (ad 29)])), (ad 9, .inl (E.2 0, 128, .inl nmd)), (ad 10, .inl (E.2 0, 64, .inl pl)), (ad 13, .inl (E.2 0, 8, .inl rw_))] := hD
    replace hl : lv_has ls 8 [(0, .ref (ad 30)), (1, .int (nI k)), (2, .int (nI (8 - 0))), (3, .int (nI le)), (4, .int wa)] := hl
    refine lv_iload_n hx hb dX6_small_0 rfl (lv_at hl 2 rfl) ?_
    refine lv_bipush (v := 8) hx hb dX6_small_1 rfl ?_
    refine lv_icmp_ne (tgt := 139) hx hb dX6_small_3 (by decide) (fun c_3 => (c_3 rfl).elim) (fun c_3 => ?_)
    have n_3 := fx_eq1 (a := (8 - 0)) (b := 8) c_3 (by omega) (by omega)
    have hml := manyN_le (rn := ex) (a := 9) 8 (fun t ht => (hrw t ht).2)
    refine lv_aload_n hx hb dX6_small_6 rfl (lv_at hl 0 rfl) ?_
    refine fx_get X hE hP 0 rfl rfl 13 rfl q1181 rfl rfl dX6_small_7 ?_
    refine fx_ci (va_runS (As := [.ref (ad 13)]) (rest := []) X (mX6_many l E (ad 13) rw_ _) (va_cwS 1 X.2.2.2.2 (lw_S q1413 q1414 q75 q1415) rfl rfl rfl hdX6_many ⟨Nat.le_of_ble_eq_true rfl, Nat.le_of_ble_eq_true rfl⟩) (fx_pre hE hP hD hS hR [] rfl rfl (fx_rcm 3 rfl (by decide) fx_rc0)) rfl rfl hl.1 rfl (lv_room (Nat.le_of_ble_eq_true rfl)) dX6_small_10 ⟨Nat.le_refl _, Nat.le_refl _⟩) hP hD hS hA [] rfl rfl (fun r_10 u H locs hq_10 hP hD hS => ?_)
    replace hP : va_P E.1 clA [(ad 30, .inr (6, [.ref (ad 0), .ref (ad 1), .int im, .ref (ad 3), .int at_, .int op, .int st_, .int us, .ref (ad 8), .ref (ad 9), .ref (ad 10), .ref (ad 11), .ref (ad 12), .ref (ad 13), .ref (ad 14), .int bn, .int bm, .ref (ad 17), .int la, .int fo, .int fi, .int lp, .ref (ad 22), .int tr_, .int sp, .int ip, .ref (ad 26), .ref (ad 27), .ref (ad 28), .ref (ad 29)])), (ad 9, .inl (E.2 0, 128, .inl nmd)), (ad 10, .inl (E.2 0, 64, .inl pl)), (ad 13, .inl (E.2 0, 8, .inl rw_))] _ := hP
    replace hD : va_D A [(ad 30, .inr (6, [.ref (ad 0), .ref (ad 1), .int im, .ref (ad 3), .int at_, .int op, .int st_, .int us, .ref (ad 8), .ref (ad 9), .ref (ad 10), .ref (ad 11), .ref (ad 12), .ref (ad 13), .ref (ad 14), .int bn, .int bm, .ref (ad 17), .int la, .int fo, .int fi, .int lp, .ref (ad 22), .int tr_, .int sp, .int ip, .ref (ad 26), .ref (ad 27), .ref (ad 28), .ref (ad 29)])), (ad 9, .inl (E.2 0, 128, .inl nmd)), (ad 10, .inl (E.2 0, 64, .inl pl)), (ad 13, .inl (E.2 0, 8, .inl rw_))] := hD
    replace hq_10 : r_10 = l_sum rw_ 8 := hq_10
    refine fx_ti (show r_10 = nI (manyN ex 8) from hq_10.trans (manyN_I 8 (fun t ht => (hrw t ht).1))) ?_
    refine lv_if_le (tgt := 138) hx hb dX6_small_13 (by decide) (fun c_13 => ?_) (fun c_13 => ?_)
    · -- jump 138
      have n_13 := fx_le1 (a := (manyN ex 8)) (b := 0) c_13 (by omega) (by omega)
      exact hret (fo, fi, lp, nmd, pl, rw_) (⟨by rw [enL, lfS, if_pos (by omega)], fun i hi => rfl⟩) hP hD hS (Nat.le_refl _) (Nat.le_refl _) dX6_small_138
    · -- fall 16
      have n_13 := fx_le0 (a := (manyN ex 8)) (b := 0) c_13 (by omega) (by omega)
      refine lv_aload_n hx hb dX6_small_16 rfl (lv_at hl 0 rfl) ?_
      refine lv_iload_n hx hb dX6_small_17 rfl (lv_at hl 1 rfl) ?_
      refine lv_aload_n hx hb dX6_small_18 rfl (lv_at hl 0 rfl) ?_
      refine fx_get X hE hP 0 rfl rfl 13 rfl q1181 rfl rfl dX6_small_19 ?_
      refine fx_ci (va_runV (As := [.int (nI k), .ref (ad 13)]) (rest := []) X (mX6_paidI l E ad im at_ op st_ us bn bm la fo fi lp tr_ sp ip sa nmd pl (ad 13) rw_ k T ex (by first | assumption | omega) (by first | assumption | omega) (by first | assumption | omega) (by first | assumption | omega) (fun t ht => ⟨(hrw t ht).1, by have := (hrw t ht).2; omega⟩) _) (cwV 2 X.2.2.2.2 (lw_V q1428 q1430 qs54 q75 q1431) rfl rfl rfl ⟨rfl, hdX6_paid⟩ ⟨Nat.le_of_ble_eq_true rfl, Nat.le_of_ble_eq_true rfl⟩) (fx_preV (fx_pre hE hP hD hS hR [1, 2] rfl rfl (fx_rcm 0 rfl (by decide) (fx_rcr 0 rfl (fx_rcm 3 rfl (by decide) fx_rc0)))) (va_recv hE.1 hP (ci := 6) (q0 := 0) rfl rfl)) rfl rfl hl.1 rfl (lv_room (Nat.le_of_ble_eq_true rfl)) dX6_small_22 ⟨Nat.le_refl _, Nat.le_refl _⟩) hP hD hS hA [1, 2] rfl rfl (fun r_22 u H locs hq_22 hP hD hS => ?_)
      obtain ⟨nm2_22, pl2_22⟩ := u
      replace hP : va_P E.1 clA [(ad 30, .inr (6, [.ref (ad 0), .ref (ad 1), .int im, .ref (ad 3), .int at_, .int op, .int st_, .int us, .ref (ad 8), .ref (ad 9), .ref (ad 10), .ref (ad 11), .ref (ad 12), .ref (ad 13), .ref (ad 14), .int bn, .int bm, .ref (ad 17), .int la, .int fo, .int fi, .int lp, .ref (ad 22), .int tr_, .int sp, .int ip, .ref (ad 26), .ref (ad 27), .ref (ad 28), .ref (ad 29)])), (ad 9, .inl (E.2 0, 128, .inl nm2_22)), (ad 10, .inl (E.2 0, 64, .inl pl2_22)), (ad 13, .inl (E.2 0, 8, .inl rw_))] _ := hP
      replace hD : va_D A [(ad 30, .inr (6, [.ref (ad 0), .ref (ad 1), .int im, .ref (ad 3), .int at_, .int op, .int st_, .int us, .ref (ad 8), .ref (ad 9), .ref (ad 10), .ref (ad 11), .ref (ad 12), .ref (ad 13), .ref (ad 14), .int bn, .int bm, .ref (ad 17), .int la, .int fo, .int fi, .int lp, .ref (ad 22), .int tr_, .int sp, .int ip, .ref (ad 26), .ref (ad 27), .ref (ad 28), .ref (ad 29)])), (ad 9, .inl (E.2 0, 128, .inl nm2_22)), (ad 10, .inl (E.2 0, 64, .inl pl2_22)), (ad 13, .inl (E.2 0, 8, .inl rw_))] := hD
      replace hq_22 : r_22 = paysF sa T ex k := hq_22
      refine fx_ti (show r_22 = (paysF sa T ex k) from hq_22) ?_
      refine lv_istore (lv' := [(5, .int (paysF sa T ex k)), (0, .ref (ad 30)), (1, .int (nI k)), (2, .int (nI (8 - 0))), (3, .int (nI le)), (4, .int wa)]) hx hb dX6_small_25 hl (by decide) rfl (fun ls hl => ?_)
      refine lv_aload_n hx hb dX6_small_27 rfl (lv_at hl 1 rfl) ?_
      refine lv_aload_n hx hb dX6_small_28 rfl (lv_at hl 1 rfl) ?_
      refine fx_get X hE hP 0 rfl rfl 21 rfl q1189 rfl rfl dX6_small_29 ?_
      refine lv_iconst (v := (-1)) hx hb dX6_small_32 rfl ?_
      refine lv_icmp_eq (tgt := 45) hx hb dX6_small_33 (by decide) (fun c_33 => ?_) (fun c_33 => ?_)
      · -- jump 45
        refine lv_iload hx hb dX6_small_45 (lv_at hl 0 rfl) ?_
        refine lv_goto (tgt := 54) hx hb dX6_small_47 (by decide) ?_
        refine fx_put_ (ws' := [(ad 30, .inr (6, [.ref (ad 0), .ref (ad 1), .int im, .ref (ad 3), .int at_, .int op, .int st_, .int us, .ref (ad 8), .ref (ad 9), .ref (ad 10), .ref (ad 11), .ref (ad 12), .ref (ad 13), .ref (ad 14), .int bn, .int bm, .ref (ad 17), .int la, .int fo, .int fi, .int (paysF sa T ex k), .ref (ad 22), .int tr_, .int sp, .int ip, .ref (ad 26), .ref (ad 27), .ref (ad 28), .ref (ad 29)])), (ad 9, .inl (E.2 0, 128, .inl nm2_22)), (ad 10, .inl (E.2 0, 64, .inl pl2_22)), (ad 13, .inl (E.2 0, 8, .inl rw_))]) X hE hP hD hS 0 rfl rfl tyX6_ok nmX6 21 rfl q1189 rfl rfl rfl rfl rfl rfl dX6_small_54 (fun H locs hP hD hS => ?_)
        refine lv_iload hx hb dX6_small_57 (lv_at hl 0 rfl) ?_
        refine lv_iload hx hb dX6_small_59 (lv_at hl 5 rfl) ?_
        refine lv_icmp_ne (tgt := 138) hx hb dX6_small_61 (by decide) (fun c_61 => ?_) (fun c_61 => ?_)
        · -- jump 138
          exact hret (fo, fi, (paysF sa T ex k), nm2_22, pl2_22, rw_) (⟨by rw [enL, lfS, if_neg (show ¬ manyN ex 8 = 0 by omega)]; simp [eq_true n_3, c_13, Int32.not_le.1 c_13, eq_true c_33, c_61], fun i hi => rfl⟩) hP hD hS (Nat.le_refl _) (Nat.le_refl _) dX6_small_138
        · -- fall 64
          refine lv_iconst (v := 0) hx hb dX6_small_64 rfl ?_
          refine lv_istore (lv' := [(6, .int 0), (5, .int (paysF sa T ex k)), (0, .ref (ad 30)), (1, .int (nI k)), (2, .int (nI (8 - 0))), (3, .int (nI le)), (4, .int wa)]) hx hb dX6_small_65 hl (by decide) rfl (fun ls hl => ?_)
          refine lv_iconst (v := 0) hx hb dX6_small_67 rfl ?_
          refine lv_istore (lv' := [(7, .int 0), (6, .int 0), (5, .int (paysF sa T ex k)), (0, .ref (ad 30)), (1, .int (nI k)), (2, .int (nI (8 - 0))), (3, .int (nI le)), (4, .int wa)]) hx hb dX6_small_68 hl (by decide) rfl (fun ls hl => ?_)
          have loop_70 : ∀ (n_70 : Nat) (j : Nat) (acc : Nat), (8 - j < n_70) → (j ≤ 8) → (acc = codN ex j) → ∀ (H : Heap) (locs : List Loc), va_P E.1 clA [(ad 30, .inr (6, [.ref (ad 0), .ref (ad 1), .int im, .ref (ad 3), .int at_, .int op, .int st_, .int us, .ref (ad 8), .ref (ad 9), .ref (ad 10), .ref (ad 11), .ref (ad 12), .ref (ad 13), .ref (ad 14), .int bn, .int bm, .ref (ad 17), .int la, .int fo, .int fi, .int (paysF sa T ex k), .ref (ad 22), .int tr_, .int sp, .int ip, .ref (ad 26), .ref (ad 27), .ref (ad 28), .ref (ad 29)])), (ad 9, .inl (E.2 0, 128, .inl nm2_22)), (ad 10, .inl (E.2 0, 64, .inl pl2_22)), (ad 13, .inl (E.2 0, 8, .inl rw_))] H → va_D A [(ad 30, .inr (6, [.ref (ad 0), .ref (ad 1), .int im, .ref (ad 3), .int at_, .int op, .int st_, .int us, .ref (ad 8), .ref (ad 9), .ref (ad 10), .ref (ad 11), .ref (ad 12), .ref (ad 13), .ref (ad 14), .int bn, .int bm, .ref (ad 17), .int la, .int fo, .int fi, .int (paysF sa T ex k), .ref (ad 22), .int tr_, .int sp, .int ip, .ref (ad 26), .ref (ad 27), .ref (ad 28), .ref (ad 29)])), (ad 9, .inl (E.2 0, 128, .inl nm2_22)), (ad 10, .inl (E.2 0, 64, .inl pl2_22)), (ad 13, .inl (E.2 0, 8, .inl rw_))] → va_S A s.heap H locs → ∀ (ls : Array Slot), lv_has ls 8 [(7, .int (nI j)), (6, .int (nI acc)), (5, .int (paysF sa T ex k)), (0, .ref (ad 30)), (1, .int (nI k)), (2, .int (nI (8 - 0))), (3, .int (nI le)), (4, .int wa)] → W p l e (rmX6_small 0) s m args below meth c H locs 0 0 Q (F0 m 70 ls []) := by
            intro n_70
            induction n_70 with
            | zero => intro j acc hm_70; exact absurd hm_70 (Nat.not_lt_zero _)
            | succ n_70 ih_70 =>
              intro j acc hm_70 hj hacc H locs hP hD hS ls hl
              refine lv_iload hx hb dX6_small_70 (lv_at hl 0 rfl) ?_
              refine lv_bipush (v := 8) hx hb dX6_small_72 rfl ?_
              refine lv_icmp_ge (tgt := 98) hx hb dX6_small_74 (by decide) (fun c_74 => ?_) (fun c_74 => ?_)
              · -- jump 98
                have n_74 := fx_le1 (a := 8) (b := j) c_74 (by omega) (by omega)
                obtain rfl : j = 8 := by omega
                subst hacc
                refine lv_aload_n hx hb dX6_small_98 rfl (lv_at hl 3 rfl) ?_
                refine lv_dup hx hb dX6_small_99 rfl ?_
                refine fx_get X hE hP 0 rfl rfl 19 rfl q1187 rfl rfl dX6_small_100 ?_
                refine lv_iconst (v := 1) hx hb dX6_small_103 rfl ?_
                refine lv_iadd hx hb dX6_small_104 ?_
                refine fx_put_ (ws' := [(ad 30, .inr (6, [.ref (ad 0), .ref (ad 1), .int im, .ref (ad 3), .int at_, .int op, .int st_, .int us, .ref (ad 8), .ref (ad 9), .ref (ad 10), .ref (ad 11), .ref (ad 12), .ref (ad 13), .ref (ad 14), .int bn, .int bm, .ref (ad 17), .int la, .int (fo + 1), .int fi, .int (paysF sa T ex k), .ref (ad 22), .int tr_, .int sp, .int ip, .ref (ad 26), .ref (ad 27), .ref (ad 28), .ref (ad 29)])), (ad 9, .inl (E.2 0, 128, .inl nm2_22)), (ad 10, .inl (E.2 0, 64, .inl pl2_22)), (ad 13, .inl (E.2 0, 8, .inl rw_))]) X hE hP hD hS 0 rfl rfl tyX6_ok nmX6 19 rfl q1187 rfl rfl rfl rfl rfl rfl dX6_small_105 (fun H locs hP hD hS => ?_)
                refine lv_aload_n hx hb dX6_small_108 rfl (lv_at hl 3 rfl) ?_
                refine lv_aload_n hx hb dX6_small_109 rfl (lv_at hl 3 rfl) ?_
                refine fx_get X hE hP 0 rfl rfl 20 rfl q1188 rfl rfl dX6_small_110 ?_
                refine lv_iconst (v := (-1)) hx hb dX6_small_113 rfl ?_
                refine lv_icmp_eq (tgt := 126) hx hb dX6_small_114 (by decide) (fun c_114 => ?_) (fun c_114 => ?_)
                · -- jump 126
                  refine lv_iload hx hb dX6_small_126 (lv_at hl 1 rfl) ?_
                  refine lv_goto (tgt := 135) hx hb dX6_small_128 (by decide) ?_
                  refine fx_put_ (ws' := [(ad 30, .inr (6, [.ref (ad 0), .ref (ad 1), .int im, .ref (ad 3), .int at_, .int op, .int st_, .int us, .ref (ad 8), .ref (ad 9), .ref (ad 10), .ref (ad 11), .ref (ad 12), .ref (ad 13), .ref (ad 14), .int bn, .int bm, .ref (ad 17), .int la, .int (fo + 1), .int (nI (codN ex 8)), .int (paysF sa T ex k), .ref (ad 22), .int tr_, .int sp, .int ip, .ref (ad 26), .ref (ad 27), .ref (ad 28), .ref (ad 29)])), (ad 9, .inl (E.2 0, 128, .inl nm2_22)), (ad 10, .inl (E.2 0, 64, .inl pl2_22)), (ad 13, .inl (E.2 0, 8, .inl rw_))]) X hE hP hD hS 0 rfl rfl tyX6_ok nmX6 20 rfl q1188 rfl rfl rfl rfl rfl rfl dX6_small_135 (fun H locs hP hD hS => ?_)
                  exact hret ((fo + 1), nI (codN ex 8), (paysF sa T ex k), nm2_22, pl2_22, rw_) (⟨by rw [enL, lfS, if_neg (show ¬ manyN ex 8 = 0 by omega)]; simp [eq_true n_3, c_13, Int32.not_le.1 c_13, eq_true c_33, eq_true c_61, c_74, Int32.not_lt.2 c_74, eq_true c_114], fun i hi => rfl⟩) hP hD hS (Nat.le_refl _) (Nat.le_refl _) dX6_small_138
                · -- fall 117
                  refine lv_iload hx hb dX6_small_117 (lv_at hl 1 rfl) ?_
                  refine lv_aload_n hx hb dX6_small_119 rfl (lv_at hl 3 rfl) ?_
                  refine fx_get X hE hP 0 rfl rfl 20 rfl q1188 rfl rfl dX6_small_120 ?_
                  refine lv_icmp_ge (tgt := 131) hx hb dX6_small_123 (by decide) (fun c_123 => ?_) (fun c_123 => ?_)
                  · -- jump 131
                    refine lv_aload_n hx hb dX6_small_131 rfl (lv_at hl 3 rfl) ?_
                    refine fx_get X hE hP 0 rfl rfl 20 rfl q1188 rfl rfl dX6_small_132 ?_
                    refine fx_put_ (ws' := [(ad 30, .inr (6, [.ref (ad 0), .ref (ad 1), .int im, .ref (ad 3), .int at_, .int op, .int st_, .int us, .ref (ad 8), .ref (ad 9), .ref (ad 10), .ref (ad 11), .ref (ad 12), .ref (ad 13), .ref (ad 14), .int bn, .int bm, .ref (ad 17), .int la, .int (fo + 1), .int fi, .int (paysF sa T ex k), .ref (ad 22), .int tr_, .int sp, .int ip, .ref (ad 26), .ref (ad 27), .ref (ad 28), .ref (ad 29)])), (ad 9, .inl (E.2 0, 128, .inl nm2_22)), (ad 10, .inl (E.2 0, 64, .inl pl2_22)), (ad 13, .inl (E.2 0, 8, .inl rw_))]) X hE hP hD hS 0 rfl rfl tyX6_ok nmX6 20 rfl q1188 rfl rfl rfl rfl rfl rfl dX6_small_135 (fun H locs hP hD hS => ?_)
                    exact hret ((fo + 1), fi, (paysF sa T ex k), nm2_22, pl2_22, rw_) (⟨by rw [enL, lfS, if_neg (show ¬ manyN ex 8 = 0 by omega)]; simp [eq_true n_3, c_13, Int32.not_le.1 c_13, eq_true c_33, eq_true c_61, c_74, Int32.not_lt.2 c_74, c_114, c_123, Int32.not_lt.2 c_123], fun i hi => rfl⟩) hP hD hS (Nat.le_refl _) (Nat.le_refl _) dX6_small_138
                  · -- fall 126
                    refine lv_iload hx hb dX6_small_126 (lv_at hl 1 rfl) ?_
                    refine lv_goto (tgt := 135) hx hb dX6_small_128 (by decide) ?_
                    refine fx_put_ (ws' := [(ad 30, .inr (6, [.ref (ad 0), .ref (ad 1), .int im, .ref (ad 3), .int at_, .int op, .int st_, .int us, .ref (ad 8), .ref (ad 9), .ref (ad 10), .ref (ad 11), .ref (ad 12), .ref (ad 13), .ref (ad 14), .int bn, .int bm, .ref (ad 17), .int la, .int (fo + 1), .int (nI (codN ex 8)), .int (paysF sa T ex k), .ref (ad 22), .int tr_, .int sp, .int ip, .ref (ad 26), .ref (ad 27), .ref (ad 28), .ref (ad 29)])), (ad 9, .inl (E.2 0, 128, .inl nm2_22)), (ad 10, .inl (E.2 0, 64, .inl pl2_22)), (ad 13, .inl (E.2 0, 8, .inl rw_))]) X hE hP hD hS 0 rfl rfl tyX6_ok nmX6 20 rfl q1188 rfl rfl rfl rfl rfl rfl dX6_small_135 (fun H locs hP hD hS => ?_)
                    exact hret ((fo + 1), nI (codN ex 8), (paysF sa T ex k), nm2_22, pl2_22, rw_) (⟨by rw [enL, lfS, if_neg (show ¬ manyN ex 8 = 0 by omega)]; simp [eq_true n_3, c_13, Int32.not_le.1 c_13, eq_true c_33, eq_true c_61, c_74, Int32.not_lt.2 c_74, c_114, c_123, Int32.not_le.1 c_123], fun i hi => rfl⟩) hP hD hS (Nat.le_refl _) (Nat.le_refl _) dX6_small_138
              · -- fall 77
                have n_74 := fx_le0 (a := 8) (b := j) c_74 (by omega) (by omega)
                refine lv_bipush (v := 10) hx hb dX6_small_77 rfl ?_
                refine lv_iload hx hb dX6_small_79 (lv_at hl 1 rfl) ?_
                refine lv_imul hx hb dX6_small_81 ?_
                refine fx_ti (pk_mul 10 acc) ?_
                refine lv_aload_n hx hb dX6_small_82 rfl (lv_at hl 3 rfl) ?_
                refine fx_get X hE hP 0 rfl rfl 13 rfl q1181 rfl rfl dX6_small_83 ?_
                refine lv_iload hx hb dX6_small_86 (lv_at hl 0 rfl) ?_
                refine fx_iald X hE hP 3 rfl j rfl (by omega) rfl dX6_small_88 ?_
                refine fx_ti (show (rw_ j) = nI (ex j) from (hrw j (by omega)).1) ?_
                refine lv_iadd hx hb dX6_small_89 ?_
                refine fx_ti (nI_add (10 * acc) (ex j)) ?_
                refine lv_istore (lv' := [(6, .int (nI (10 * acc + ex j))), (7, .int (nI j)), (5, .int (paysF sa T ex k)), (0, .ref (ad 30)), (1, .int (nI k)), (2, .int (nI (8 - 0))), (3, .int (nI le)), (4, .int wa)]) hx hb dX6_small_90 hl (by decide) rfl (fun ls hl => ?_)
                refine lv_iinc (v := nI (j + 1)) (lv' := [(7, .int (nI (j + 1))), (6, .int (nI (10 * acc + ex j))), (5, .int (paysF sa T ex k)), (0, .ref (ad 30)), (1, .int (nI k)), (2, .int (nI (8 - 0))), (3, .int (nI le)), (4, .int wa)]) hx hb dX6_small_92 hl (k := 1) rfl (fx_inc _) (by decide) rfl (fun ls hl => ?_)
                refine lv_goto (tgt := 70) hx hb dX6_small_95 (by decide) ?_
                exact ih_70 (j + 1) (10 * acc + ex j) (by omega) (by omega) (by rw [hacc]; rfl) _ _ hP hD hS ls (lv_sub hl [0, 1, 2, 3, 4, 5, 6, 7] rfl)
          exact loop_70 ((8 - 0) + 1) 0 0 (Nat.lt_succ_self _) (by omega) rfl _ _ hP hD hS ls (lv_sub hl [0, 1, 2, 3, 4, 5, 6, 7] rfl)
      · -- fall 36
        refine lv_iload hx hb dX6_small_36 (lv_at hl 0 rfl) ?_
        refine lv_aload_n hx hb dX6_small_38 rfl (lv_at hl 1 rfl) ?_
        refine fx_get X hE hP 0 rfl rfl 21 rfl q1189 rfl rfl dX6_small_39 ?_
        refine lv_icmp_ge (tgt := 50) hx hb dX6_small_42 (by decide) (fun c_42 => ?_) (fun c_42 => ?_)
        · -- jump 50
          refine lv_aload_n hx hb dX6_small_50 rfl (lv_at hl 1 rfl) ?_
          refine fx_get X hE hP 0 rfl rfl 21 rfl q1189 rfl rfl dX6_small_51 ?_
          refine fx_put_ (ws' := [(ad 30, .inr (6, [.ref (ad 0), .ref (ad 1), .int im, .ref (ad 3), .int at_, .int op, .int st_, .int us, .ref (ad 8), .ref (ad 9), .ref (ad 10), .ref (ad 11), .ref (ad 12), .ref (ad 13), .ref (ad 14), .int bn, .int bm, .ref (ad 17), .int la, .int fo, .int fi, .int lp, .ref (ad 22), .int tr_, .int sp, .int ip, .ref (ad 26), .ref (ad 27), .ref (ad 28), .ref (ad 29)])), (ad 9, .inl (E.2 0, 128, .inl nm2_22)), (ad 10, .inl (E.2 0, 64, .inl pl2_22)), (ad 13, .inl (E.2 0, 8, .inl rw_))]) X hE hP hD hS 0 rfl rfl tyX6_ok nmX6 21 rfl q1189 rfl rfl rfl rfl rfl rfl dX6_small_54 (fun H locs hP hD hS => ?_)
          refine lv_iload hx hb dX6_small_57 (lv_at hl 0 rfl) ?_
          refine lv_iload hx hb dX6_small_59 (lv_at hl 5 rfl) ?_
          refine lv_icmp_ne (tgt := 138) hx hb dX6_small_61 (by decide) (fun c_61 => ?_) (fun c_61 => ?_)
          · -- jump 138
            exact hret (fo, fi, lp, nm2_22, pl2_22, rw_) (⟨by rw [enL, lfS, if_neg (show ¬ manyN ex 8 = 0 by omega)]; simp [eq_true n_3, c_13, Int32.not_le.1 c_13, c_33, c_42, Int32.not_lt.2 c_42, c_61], fun i hi => rfl⟩) hP hD hS (Nat.le_refl _) (Nat.le_refl _) dX6_small_138
          · -- fall 64
            refine lv_iconst (v := 0) hx hb dX6_small_64 rfl ?_
            refine lv_istore (lv' := [(6, .int 0), (5, .int (paysF sa T ex k)), (0, .ref (ad 30)), (1, .int (nI k)), (2, .int (nI (8 - 0))), (3, .int (nI le)), (4, .int wa)]) hx hb dX6_small_65 hl (by decide) rfl (fun ls hl => ?_)
            refine lv_iconst (v := 0) hx hb dX6_small_67 rfl ?_
            refine lv_istore (lv' := [(7, .int 0), (6, .int 0), (5, .int (paysF sa T ex k)), (0, .ref (ad 30)), (1, .int (nI k)), (2, .int (nI (8 - 0))), (3, .int (nI le)), (4, .int wa)]) hx hb dX6_small_68 hl (by decide) rfl (fun ls hl => ?_)
            have loop_70 : ∀ (n_70 : Nat) (j : Nat) (acc : Nat), (8 - j < n_70) → (j ≤ 8) → (acc = codN ex j) → ∀ (H : Heap) (locs : List Loc), va_P E.1 clA [(ad 30, .inr (6, [.ref (ad 0), .ref (ad 1), .int im, .ref (ad 3), .int at_, .int op, .int st_, .int us, .ref (ad 8), .ref (ad 9), .ref (ad 10), .ref (ad 11), .ref (ad 12), .ref (ad 13), .ref (ad 14), .int bn, .int bm, .ref (ad 17), .int la, .int fo, .int fi, .int lp, .ref (ad 22), .int tr_, .int sp, .int ip, .ref (ad 26), .ref (ad 27), .ref (ad 28), .ref (ad 29)])), (ad 9, .inl (E.2 0, 128, .inl nm2_22)), (ad 10, .inl (E.2 0, 64, .inl pl2_22)), (ad 13, .inl (E.2 0, 8, .inl rw_))] H → va_D A [(ad 30, .inr (6, [.ref (ad 0), .ref (ad 1), .int im, .ref (ad 3), .int at_, .int op, .int st_, .int us, .ref (ad 8), .ref (ad 9), .ref (ad 10), .ref (ad 11), .ref (ad 12), .ref (ad 13), .ref (ad 14), .int bn, .int bm, .ref (ad 17), .int la, .int fo, .int fi, .int lp, .ref (ad 22), .int tr_, .int sp, .int ip, .ref (ad 26), .ref (ad 27), .ref (ad 28), .ref (ad 29)])), (ad 9, .inl (E.2 0, 128, .inl nm2_22)), (ad 10, .inl (E.2 0, 64, .inl pl2_22)), (ad 13, .inl (E.2 0, 8, .inl rw_))] → va_S A s.heap H locs → ∀ (ls : Array Slot), lv_has ls 8 [(7, .int (nI j)), (6, .int (nI acc)), (5, .int (paysF sa T ex k)), (0, .ref (ad 30)), (1, .int (nI k)), (2, .int (nI (8 - 0))), (3, .int (nI le)), (4, .int wa)] → W p l e (rmX6_small 0) s m args below meth c H locs 0 0 Q (F0 m 70 ls []) := by
              intro n_70
              induction n_70 with
              | zero => intro j acc hm_70; exact absurd hm_70 (Nat.not_lt_zero _)
              | succ n_70 ih_70 =>
                intro j acc hm_70 hj hacc H locs hP hD hS ls hl
                refine lv_iload hx hb dX6_small_70 (lv_at hl 0 rfl) ?_
                refine lv_bipush (v := 8) hx hb dX6_small_72 rfl ?_
                refine lv_icmp_ge (tgt := 98) hx hb dX6_small_74 (by decide) (fun c_74 => ?_) (fun c_74 => ?_)
                · -- jump 98
                  have n_74 := fx_le1 (a := 8) (b := j) c_74 (by omega) (by omega)
                  obtain rfl : j = 8 := by omega
                  subst hacc
                  refine lv_aload_n hx hb dX6_small_98 rfl (lv_at hl 3 rfl) ?_
                  refine lv_dup hx hb dX6_small_99 rfl ?_
                  refine fx_get X hE hP 0 rfl rfl 19 rfl q1187 rfl rfl dX6_small_100 ?_
                  refine lv_iconst (v := 1) hx hb dX6_small_103 rfl ?_
                  refine lv_iadd hx hb dX6_small_104 ?_
                  refine fx_put_ (ws' := [(ad 30, .inr (6, [.ref (ad 0), .ref (ad 1), .int im, .ref (ad 3), .int at_, .int op, .int st_, .int us, .ref (ad 8), .ref (ad 9), .ref (ad 10), .ref (ad 11), .ref (ad 12), .ref (ad 13), .ref (ad 14), .int bn, .int bm, .ref (ad 17), .int la, .int (fo + 1), .int fi, .int lp, .ref (ad 22), .int tr_, .int sp, .int ip, .ref (ad 26), .ref (ad 27), .ref (ad 28), .ref (ad 29)])), (ad 9, .inl (E.2 0, 128, .inl nm2_22)), (ad 10, .inl (E.2 0, 64, .inl pl2_22)), (ad 13, .inl (E.2 0, 8, .inl rw_))]) X hE hP hD hS 0 rfl rfl tyX6_ok nmX6 19 rfl q1187 rfl rfl rfl rfl rfl rfl dX6_small_105 (fun H locs hP hD hS => ?_)
                  refine lv_aload_n hx hb dX6_small_108 rfl (lv_at hl 3 rfl) ?_
                  refine lv_aload_n hx hb dX6_small_109 rfl (lv_at hl 3 rfl) ?_
                  refine fx_get X hE hP 0 rfl rfl 20 rfl q1188 rfl rfl dX6_small_110 ?_
                  refine lv_iconst (v := (-1)) hx hb dX6_small_113 rfl ?_
                  refine lv_icmp_eq (tgt := 126) hx hb dX6_small_114 (by decide) (fun c_114 => ?_) (fun c_114 => ?_)
                  · -- jump 126
                    refine lv_iload hx hb dX6_small_126 (lv_at hl 1 rfl) ?_
                    refine lv_goto (tgt := 135) hx hb dX6_small_128 (by decide) ?_
                    refine fx_put_ (ws' := [(ad 30, .inr (6, [.ref (ad 0), .ref (ad 1), .int im, .ref (ad 3), .int at_, .int op, .int st_, .int us, .ref (ad 8), .ref (ad 9), .ref (ad 10), .ref (ad 11), .ref (ad 12), .ref (ad 13), .ref (ad 14), .int bn, .int bm, .ref (ad 17), .int la, .int (fo + 1), .int (nI (codN ex 8)), .int lp, .ref (ad 22), .int tr_, .int sp, .int ip, .ref (ad 26), .ref (ad 27), .ref (ad 28), .ref (ad 29)])), (ad 9, .inl (E.2 0, 128, .inl nm2_22)), (ad 10, .inl (E.2 0, 64, .inl pl2_22)), (ad 13, .inl (E.2 0, 8, .inl rw_))]) X hE hP hD hS 0 rfl rfl tyX6_ok nmX6 20 rfl q1188 rfl rfl rfl rfl rfl rfl dX6_small_135 (fun H locs hP hD hS => ?_)
                    exact hret ((fo + 1), nI (codN ex 8), lp, nm2_22, pl2_22, rw_) (⟨by rw [enL, lfS, if_neg (show ¬ manyN ex 8 = 0 by omega)]; simp [eq_true n_3, c_13, Int32.not_le.1 c_13, c_33, c_42, Int32.not_lt.2 c_42, eq_true c_61, c_74, Int32.not_lt.2 c_74, eq_true c_114], fun i hi => rfl⟩) hP hD hS (Nat.le_refl _) (Nat.le_refl _) dX6_small_138
                  · -- fall 117
                    refine lv_iload hx hb dX6_small_117 (lv_at hl 1 rfl) ?_
                    refine lv_aload_n hx hb dX6_small_119 rfl (lv_at hl 3 rfl) ?_
                    refine fx_get X hE hP 0 rfl rfl 20 rfl q1188 rfl rfl dX6_small_120 ?_
                    refine lv_icmp_ge (tgt := 131) hx hb dX6_small_123 (by decide) (fun c_123 => ?_) (fun c_123 => ?_)
                    · -- jump 131
                      refine lv_aload_n hx hb dX6_small_131 rfl (lv_at hl 3 rfl) ?_
                      refine fx_get X hE hP 0 rfl rfl 20 rfl q1188 rfl rfl dX6_small_132 ?_
                      refine fx_put_ (ws' := [(ad 30, .inr (6, [.ref (ad 0), .ref (ad 1), .int im, .ref (ad 3), .int at_, .int op, .int st_, .int us, .ref (ad 8), .ref (ad 9), .ref (ad 10), .ref (ad 11), .ref (ad 12), .ref (ad 13), .ref (ad 14), .int bn, .int bm, .ref (ad 17), .int la, .int (fo + 1), .int fi, .int lp, .ref (ad 22), .int tr_, .int sp, .int ip, .ref (ad 26), .ref (ad 27), .ref (ad 28), .ref (ad 29)])), (ad 9, .inl (E.2 0, 128, .inl nm2_22)), (ad 10, .inl (E.2 0, 64, .inl pl2_22)), (ad 13, .inl (E.2 0, 8, .inl rw_))]) X hE hP hD hS 0 rfl rfl tyX6_ok nmX6 20 rfl q1188 rfl rfl rfl rfl rfl rfl dX6_small_135 (fun H locs hP hD hS => ?_)
                      exact hret ((fo + 1), fi, lp, nm2_22, pl2_22, rw_) (⟨by rw [enL, lfS, if_neg (show ¬ manyN ex 8 = 0 by omega)]; simp [eq_true n_3, c_13, Int32.not_le.1 c_13, c_33, c_42, Int32.not_lt.2 c_42, eq_true c_61, c_74, Int32.not_lt.2 c_74, c_114, c_123, Int32.not_lt.2 c_123], fun i hi => rfl⟩) hP hD hS (Nat.le_refl _) (Nat.le_refl _) dX6_small_138
                    · -- fall 126
                      refine lv_iload hx hb dX6_small_126 (lv_at hl 1 rfl) ?_
                      refine lv_goto (tgt := 135) hx hb dX6_small_128 (by decide) ?_
                      refine fx_put_ (ws' := [(ad 30, .inr (6, [.ref (ad 0), .ref (ad 1), .int im, .ref (ad 3), .int at_, .int op, .int st_, .int us, .ref (ad 8), .ref (ad 9), .ref (ad 10), .ref (ad 11), .ref (ad 12), .ref (ad 13), .ref (ad 14), .int bn, .int bm, .ref (ad 17), .int la, .int (fo + 1), .int (nI (codN ex 8)), .int lp, .ref (ad 22), .int tr_, .int sp, .int ip, .ref (ad 26), .ref (ad 27), .ref (ad 28), .ref (ad 29)])), (ad 9, .inl (E.2 0, 128, .inl nm2_22)), (ad 10, .inl (E.2 0, 64, .inl pl2_22)), (ad 13, .inl (E.2 0, 8, .inl rw_))]) X hE hP hD hS 0 rfl rfl tyX6_ok nmX6 20 rfl q1188 rfl rfl rfl rfl rfl rfl dX6_small_135 (fun H locs hP hD hS => ?_)
                      exact hret ((fo + 1), nI (codN ex 8), lp, nm2_22, pl2_22, rw_) (⟨by rw [enL, lfS, if_neg (show ¬ manyN ex 8 = 0 by omega)]; simp [eq_true n_3, c_13, Int32.not_le.1 c_13, c_33, c_42, Int32.not_lt.2 c_42, eq_true c_61, c_74, Int32.not_lt.2 c_74, c_114, c_123, Int32.not_le.1 c_123], fun i hi => rfl⟩) hP hD hS (Nat.le_refl _) (Nat.le_refl _) dX6_small_138
                · -- fall 77
                  have n_74 := fx_le0 (a := 8) (b := j) c_74 (by omega) (by omega)
                  refine lv_bipush (v := 10) hx hb dX6_small_77 rfl ?_
                  refine lv_iload hx hb dX6_small_79 (lv_at hl 1 rfl) ?_
                  refine lv_imul hx hb dX6_small_81 ?_
                  refine fx_ti (pk_mul 10 acc) ?_
                  refine lv_aload_n hx hb dX6_small_82 rfl (lv_at hl 3 rfl) ?_
                  refine fx_get X hE hP 0 rfl rfl 13 rfl q1181 rfl rfl dX6_small_83 ?_
                  refine lv_iload hx hb dX6_small_86 (lv_at hl 0 rfl) ?_
                  refine fx_iald X hE hP 3 rfl j rfl (by omega) rfl dX6_small_88 ?_
                  refine fx_ti (show (rw_ j) = nI (ex j) from (hrw j (by omega)).1) ?_
                  refine lv_iadd hx hb dX6_small_89 ?_
                  refine fx_ti (nI_add (10 * acc) (ex j)) ?_
                  refine lv_istore (lv' := [(6, .int (nI (10 * acc + ex j))), (7, .int (nI j)), (5, .int (paysF sa T ex k)), (0, .ref (ad 30)), (1, .int (nI k)), (2, .int (nI (8 - 0))), (3, .int (nI le)), (4, .int wa)]) hx hb dX6_small_90 hl (by decide) rfl (fun ls hl => ?_)
                  refine lv_iinc (v := nI (j + 1)) (lv' := [(7, .int (nI (j + 1))), (6, .int (nI (10 * acc + ex j))), (5, .int (paysF sa T ex k)), (0, .ref (ad 30)), (1, .int (nI k)), (2, .int (nI (8 - 0))), (3, .int (nI le)), (4, .int wa)]) hx hb dX6_small_92 hl (k := 1) rfl (fx_inc _) (by decide) rfl (fun ls hl => ?_)
                  refine lv_goto (tgt := 70) hx hb dX6_small_95 (by decide) ?_
                  exact ih_70 (j + 1) (10 * acc + ex j) (by omega) (by omega) (by rw [hacc]; rfl) _ _ hP hD hS ls (lv_sub hl [0, 1, 2, 3, 4, 5, 6, 7] rfl)
            exact loop_70 ((8 - 0) + 1) 0 0 (Nat.lt_succ_self _) (by omega) rfl _ _ hP hD hS ls (lv_sub hl [0, 1, 2, 3, 4, 5, 6, 7] rfl)
        · -- fall 45
          refine lv_iload hx hb dX6_small_45 (lv_at hl 0 rfl) ?_
          refine lv_goto (tgt := 54) hx hb dX6_small_47 (by decide) ?_
          refine fx_put_ (ws' := [(ad 30, .inr (6, [.ref (ad 0), .ref (ad 1), .int im, .ref (ad 3), .int at_, .int op, .int st_, .int us, .ref (ad 8), .ref (ad 9), .ref (ad 10), .ref (ad 11), .ref (ad 12), .ref (ad 13), .ref (ad 14), .int bn, .int bm, .ref (ad 17), .int la, .int fo, .int fi, .int (paysF sa T ex k), .ref (ad 22), .int tr_, .int sp, .int ip, .ref (ad 26), .ref (ad 27), .ref (ad 28), .ref (ad 29)])), (ad 9, .inl (E.2 0, 128, .inl nm2_22)), (ad 10, .inl (E.2 0, 64, .inl pl2_22)), (ad 13, .inl (E.2 0, 8, .inl rw_))]) X hE hP hD hS 0 rfl rfl tyX6_ok nmX6 21 rfl q1189 rfl rfl rfl rfl rfl rfl dX6_small_54 (fun H locs hP hD hS => ?_)
          refine lv_iload hx hb dX6_small_57 (lv_at hl 0 rfl) ?_
          refine lv_iload hx hb dX6_small_59 (lv_at hl 5 rfl) ?_
          refine lv_icmp_ne (tgt := 138) hx hb dX6_small_61 (by decide) (fun c_61 => ?_) (fun c_61 => ?_)
          · -- jump 138
            exact hret (fo, fi, (paysF sa T ex k), nm2_22, pl2_22, rw_) (⟨by rw [enL, lfS, if_neg (show ¬ manyN ex 8 = 0 by omega)]; simp [eq_true n_3, c_13, Int32.not_le.1 c_13, c_33, c_42, Int32.not_le.1 c_42, c_61], fun i hi => rfl⟩) hP hD hS (Nat.le_refl _) (Nat.le_refl _) dX6_small_138
          · -- fall 64
            refine lv_iconst (v := 0) hx hb dX6_small_64 rfl ?_
            refine lv_istore (lv' := [(6, .int 0), (5, .int (paysF sa T ex k)), (0, .ref (ad 30)), (1, .int (nI k)), (2, .int (nI (8 - 0))), (3, .int (nI le)), (4, .int wa)]) hx hb dX6_small_65 hl (by decide) rfl (fun ls hl => ?_)
            refine lv_iconst (v := 0) hx hb dX6_small_67 rfl ?_
            refine lv_istore (lv' := [(7, .int 0), (6, .int 0), (5, .int (paysF sa T ex k)), (0, .ref (ad 30)), (1, .int (nI k)), (2, .int (nI (8 - 0))), (3, .int (nI le)), (4, .int wa)]) hx hb dX6_small_68 hl (by decide) rfl (fun ls hl => ?_)
            have loop_70 : ∀ (n_70 : Nat) (j : Nat) (acc : Nat), (8 - j < n_70) → (j ≤ 8) → (acc = codN ex j) → ∀ (H : Heap) (locs : List Loc), va_P E.1 clA [(ad 30, .inr (6, [.ref (ad 0), .ref (ad 1), .int im, .ref (ad 3), .int at_, .int op, .int st_, .int us, .ref (ad 8), .ref (ad 9), .ref (ad 10), .ref (ad 11), .ref (ad 12), .ref (ad 13), .ref (ad 14), .int bn, .int bm, .ref (ad 17), .int la, .int fo, .int fi, .int (paysF sa T ex k), .ref (ad 22), .int tr_, .int sp, .int ip, .ref (ad 26), .ref (ad 27), .ref (ad 28), .ref (ad 29)])), (ad 9, .inl (E.2 0, 128, .inl nm2_22)), (ad 10, .inl (E.2 0, 64, .inl pl2_22)), (ad 13, .inl (E.2 0, 8, .inl rw_))] H → va_D A [(ad 30, .inr (6, [.ref (ad 0), .ref (ad 1), .int im, .ref (ad 3), .int at_, .int op, .int st_, .int us, .ref (ad 8), .ref (ad 9), .ref (ad 10), .ref (ad 11), .ref (ad 12), .ref (ad 13), .ref (ad 14), .int bn, .int bm, .ref (ad 17), .int la, .int fo, .int fi, .int (paysF sa T ex k), .ref (ad 22), .int tr_, .int sp, .int ip, .ref (ad 26), .ref (ad 27), .ref (ad 28), .ref (ad 29)])), (ad 9, .inl (E.2 0, 128, .inl nm2_22)), (ad 10, .inl (E.2 0, 64, .inl pl2_22)), (ad 13, .inl (E.2 0, 8, .inl rw_))] → va_S A s.heap H locs → ∀ (ls : Array Slot), lv_has ls 8 [(7, .int (nI j)), (6, .int (nI acc)), (5, .int (paysF sa T ex k)), (0, .ref (ad 30)), (1, .int (nI k)), (2, .int (nI (8 - 0))), (3, .int (nI le)), (4, .int wa)] → W p l e (rmX6_small 0) s m args below meth c H locs 0 0 Q (F0 m 70 ls []) := by
              intro n_70
              induction n_70 with
              | zero => intro j acc hm_70; exact absurd hm_70 (Nat.not_lt_zero _)
              | succ n_70 ih_70 =>
                intro j acc hm_70 hj hacc H locs hP hD hS ls hl
                refine lv_iload hx hb dX6_small_70 (lv_at hl 0 rfl) ?_
                refine lv_bipush (v := 8) hx hb dX6_small_72 rfl ?_
                refine lv_icmp_ge (tgt := 98) hx hb dX6_small_74 (by decide) (fun c_74 => ?_) (fun c_74 => ?_)
                · -- jump 98
                  have n_74 := fx_le1 (a := 8) (b := j) c_74 (by omega) (by omega)
                  obtain rfl : j = 8 := by omega
                  subst hacc
                  refine lv_aload_n hx hb dX6_small_98 rfl (lv_at hl 3 rfl) ?_
                  refine lv_dup hx hb dX6_small_99 rfl ?_
                  refine fx_get X hE hP 0 rfl rfl 19 rfl q1187 rfl rfl dX6_small_100 ?_
                  refine lv_iconst (v := 1) hx hb dX6_small_103 rfl ?_
                  refine lv_iadd hx hb dX6_small_104 ?_
                  refine fx_put_ (ws' := [(ad 30, .inr (6, [.ref (ad 0), .ref (ad 1), .int im, .ref (ad 3), .int at_, .int op, .int st_, .int us, .ref (ad 8), .ref (ad 9), .ref (ad 10), .ref (ad 11), .ref (ad 12), .ref (ad 13), .ref (ad 14), .int bn, .int bm, .ref (ad 17), .int la, .int (fo + 1), .int fi, .int (paysF sa T ex k), .ref (ad 22), .int tr_, .int sp, .int ip, .ref (ad 26), .ref (ad 27), .ref (ad 28), .ref (ad 29)])), (ad 9, .inl (E.2 0, 128, .inl nm2_22)), (ad 10, .inl (E.2 0, 64, .inl pl2_22)), (ad 13, .inl (E.2 0, 8, .inl rw_))]) X hE hP hD hS 0 rfl rfl tyX6_ok nmX6 19 rfl q1187 rfl rfl rfl rfl rfl rfl dX6_small_105 (fun H locs hP hD hS => ?_)
                  refine lv_aload_n hx hb dX6_small_108 rfl (lv_at hl 3 rfl) ?_
                  refine lv_aload_n hx hb dX6_small_109 rfl (lv_at hl 3 rfl) ?_
                  refine fx_get X hE hP 0 rfl rfl 20 rfl q1188 rfl rfl dX6_small_110 ?_
                  refine lv_iconst (v := (-1)) hx hb dX6_small_113 rfl ?_
                  refine lv_icmp_eq (tgt := 126) hx hb dX6_small_114 (by decide) (fun c_114 => ?_) (fun c_114 => ?_)
                  · -- jump 126
                    refine lv_iload hx hb dX6_small_126 (lv_at hl 1 rfl) ?_
                    refine lv_goto (tgt := 135) hx hb dX6_small_128 (by decide) ?_
                    refine fx_put_ (ws' := [(ad 30, .inr (6, [.ref (ad 0), .ref (ad 1), .int im, .ref (ad 3), .int at_, .int op, .int st_, .int us, .ref (ad 8), .ref (ad 9), .ref (ad 10), .ref (ad 11), .ref (ad 12), .ref (ad 13), .ref (ad 14), .int bn, .int bm, .ref (ad 17), .int la, .int (fo + 1), .int (nI (codN ex 8)), .int (paysF sa T ex k), .ref (ad 22), .int tr_, .int sp, .int ip, .ref (ad 26), .ref (ad 27), .ref (ad 28), .ref (ad 29)])), (ad 9, .inl (E.2 0, 128, .inl nm2_22)), (ad 10, .inl (E.2 0, 64, .inl pl2_22)), (ad 13, .inl (E.2 0, 8, .inl rw_))]) X hE hP hD hS 0 rfl rfl tyX6_ok nmX6 20 rfl q1188 rfl rfl rfl rfl rfl rfl dX6_small_135 (fun H locs hP hD hS => ?_)
                    exact hret ((fo + 1), nI (codN ex 8), (paysF sa T ex k), nm2_22, pl2_22, rw_) (⟨by rw [enL, lfS, if_neg (show ¬ manyN ex 8 = 0 by omega)]; simp [eq_true n_3, c_13, Int32.not_le.1 c_13, c_33, c_42, Int32.not_le.1 c_42, eq_true c_61, c_74, Int32.not_lt.2 c_74, eq_true c_114], fun i hi => rfl⟩) hP hD hS (Nat.le_refl _) (Nat.le_refl _) dX6_small_138
                  · -- fall 117
                    refine lv_iload hx hb dX6_small_117 (lv_at hl 1 rfl) ?_
                    refine lv_aload_n hx hb dX6_small_119 rfl (lv_at hl 3 rfl) ?_
                    refine fx_get X hE hP 0 rfl rfl 20 rfl q1188 rfl rfl dX6_small_120 ?_
                    refine lv_icmp_ge (tgt := 131) hx hb dX6_small_123 (by decide) (fun c_123 => ?_) (fun c_123 => ?_)
                    · -- jump 131
                      refine lv_aload_n hx hb dX6_small_131 rfl (lv_at hl 3 rfl) ?_
                      refine fx_get X hE hP 0 rfl rfl 20 rfl q1188 rfl rfl dX6_small_132 ?_
                      refine fx_put_ (ws' := [(ad 30, .inr (6, [.ref (ad 0), .ref (ad 1), .int im, .ref (ad 3), .int at_, .int op, .int st_, .int us, .ref (ad 8), .ref (ad 9), .ref (ad 10), .ref (ad 11), .ref (ad 12), .ref (ad 13), .ref (ad 14), .int bn, .int bm, .ref (ad 17), .int la, .int (fo + 1), .int fi, .int (paysF sa T ex k), .ref (ad 22), .int tr_, .int sp, .int ip, .ref (ad 26), .ref (ad 27), .ref (ad 28), .ref (ad 29)])), (ad 9, .inl (E.2 0, 128, .inl nm2_22)), (ad 10, .inl (E.2 0, 64, .inl pl2_22)), (ad 13, .inl (E.2 0, 8, .inl rw_))]) X hE hP hD hS 0 rfl rfl tyX6_ok nmX6 20 rfl q1188 rfl rfl rfl rfl rfl rfl dX6_small_135 (fun H locs hP hD hS => ?_)
                      exact hret ((fo + 1), fi, (paysF sa T ex k), nm2_22, pl2_22, rw_) (⟨by rw [enL, lfS, if_neg (show ¬ manyN ex 8 = 0 by omega)]; simp [eq_true n_3, c_13, Int32.not_le.1 c_13, c_33, c_42, Int32.not_le.1 c_42, eq_true c_61, c_74, Int32.not_lt.2 c_74, c_114, c_123, Int32.not_lt.2 c_123], fun i hi => rfl⟩) hP hD hS (Nat.le_refl _) (Nat.le_refl _) dX6_small_138
                    · -- fall 126
                      refine lv_iload hx hb dX6_small_126 (lv_at hl 1 rfl) ?_
                      refine lv_goto (tgt := 135) hx hb dX6_small_128 (by decide) ?_
                      refine fx_put_ (ws' := [(ad 30, .inr (6, [.ref (ad 0), .ref (ad 1), .int im, .ref (ad 3), .int at_, .int op, .int st_, .int us, .ref (ad 8), .ref (ad 9), .ref (ad 10), .ref (ad 11), .ref (ad 12), .ref (ad 13), .ref (ad 14), .int bn, .int bm, .ref (ad 17), .int la, .int (fo + 1), .int (nI (codN ex 8)), .int (paysF sa T ex k), .ref (ad 22), .int tr_, .int sp, .int ip, .ref (ad 26), .ref (ad 27), .ref (ad 28), .ref (ad 29)])), (ad 9, .inl (E.2 0, 128, .inl nm2_22)), (ad 10, .inl (E.2 0, 64, .inl pl2_22)), (ad 13, .inl (E.2 0, 8, .inl rw_))]) X hE hP hD hS 0 rfl rfl tyX6_ok nmX6 20 rfl q1188 rfl rfl rfl rfl rfl rfl dX6_small_135 (fun H locs hP hD hS => ?_)
                      exact hret ((fo + 1), nI (codN ex 8), (paysF sa T ex k), nm2_22, pl2_22, rw_) (⟨by rw [enL, lfS, if_neg (show ¬ manyN ex 8 = 0 by omega)]; simp [eq_true n_3, c_13, Int32.not_le.1 c_13, c_33, c_42, Int32.not_le.1 c_42, eq_true c_61, c_74, Int32.not_lt.2 c_74, c_114, c_123, Int32.not_le.1 c_123], fun i hi => rfl⟩) hP hD hS (Nat.le_refl _) (Nat.le_refl _) dX6_small_138
                · -- fall 77
                  have n_74 := fx_le0 (a := 8) (b := j) c_74 (by omega) (by omega)
                  refine lv_bipush (v := 10) hx hb dX6_small_77 rfl ?_
                  refine lv_iload hx hb dX6_small_79 (lv_at hl 1 rfl) ?_
                  refine lv_imul hx hb dX6_small_81 ?_
                  refine fx_ti (pk_mul 10 acc) ?_
                  refine lv_aload_n hx hb dX6_small_82 rfl (lv_at hl 3 rfl) ?_
                  refine fx_get X hE hP 0 rfl rfl 13 rfl q1181 rfl rfl dX6_small_83 ?_
                  refine lv_iload hx hb dX6_small_86 (lv_at hl 0 rfl) ?_
                  refine fx_iald X hE hP 3 rfl j rfl (by omega) rfl dX6_small_88 ?_
                  refine fx_ti (show (rw_ j) = nI (ex j) from (hrw j (by omega)).1) ?_
                  refine lv_iadd hx hb dX6_small_89 ?_
                  refine fx_ti (nI_add (10 * acc) (ex j)) ?_
                  refine lv_istore (lv' := [(6, .int (nI (10 * acc + ex j))), (7, .int (nI j)), (5, .int (paysF sa T ex k)), (0, .ref (ad 30)), (1, .int (nI k)), (2, .int (nI (8 - 0))), (3, .int (nI le)), (4, .int wa)]) hx hb dX6_small_90 hl (by decide) rfl (fun ls hl => ?_)
                  refine lv_iinc (v := nI (j + 1)) (lv' := [(7, .int (nI (j + 1))), (6, .int (nI (10 * acc + ex j))), (5, .int (paysF sa T ex k)), (0, .ref (ad 30)), (1, .int (nI k)), (2, .int (nI (8 - 0))), (3, .int (nI le)), (4, .int wa)]) hx hb dX6_small_92 hl (k := 1) rfl (fx_inc _) (by decide) rfl (fun ls hl => ?_)
                  refine lv_goto (tgt := 70) hx hb dX6_small_95 (by decide) ?_
                  exact ih_70 (j + 1) (10 * acc + ex j) (by omega) (by omega) (by rw [hacc]; rfl) _ _ hP hD hS ls (lv_sub hl [0, 1, 2, 3, 4, 5, 6, 7] rfl)
            exact loop_70 ((8 - 0) + 1) 0 0 (Nat.lt_succ_self _) (by omega) rfl _ _ hP hD hS ls (lv_sub hl [0, 1, 2, 3, 4, 5, 6, 7] rfl)
  | succ d ih =>
    intro ad im at_ op st_ us bn bm la fo fi lp tr_ sp ip sa nmd pl rw_ k wa T ex le mo hd hk hI hT hTo hrw hle
    refine fx_vW rfl rfl ?_
    intro p e s m args below meth c A ls Q X hnm hE hP hD hR hA hl hret
    have hx := X.1
    have hb := X.2.1
    have hS : va_S A s.heap s.heap [] := va_S.rf
    replace hP : va_P E.1 clA [(ad 30, .inr (6, [.ref (ad 0), .ref (ad 1), .int im, .ref (ad 3), .int at_, .int op, .int st_, .int us, .ref (ad 8), .ref (ad 9), .ref (ad 10), .ref (ad 11), .ref (ad 12), .ref (ad 13), .ref (ad 14), .int bn, .int bm, .ref (ad 17), .int la, .int fo, .int fi, .int lp, .ref (ad 22), .int tr_, .int sp, .int ip, .ref (ad 26), .ref (ad 27), .ref (ad 28), .ref (ad 29)])), (ad 9, .inl (E.2 0, 128, .inl nmd)), (ad 10, .inl (E.2 0, 64, .inl pl)), (ad 13, .inl (E.2 0, 8, .inl rw_))] _ := hP
    replace hD : va_D A [(ad 30, .inr (6, [.ref (ad 0), .ref (ad 1), .int im, .ref (ad 3), .int at_, .int op, .int st_, .int us, .ref (ad 8), .ref (ad 9), .ref (ad 10), .ref (ad 11), .ref (ad 12), .ref (ad 13), .ref (ad 14), .int bn, .int bm, .ref (ad 17), .int la, .int fo, .int fi, .int lp, .ref (ad 22), .int tr_, .int sp, .int ip, .ref (ad 26), .ref (ad 27), .ref (ad 28), .ref (ad 29)])), (ad 9, .inl (E.2 0, 128, .inl nmd)), (ad 10, .inl (E.2 0, 64, .inl pl)), (ad 13, .inl (E.2 0, 8, .inl rw_))] := hD
    replace hl : lv_has ls 8 [(0, .ref (ad 30)), (1, .int (nI k)), (2, .int (nI (8 - (d + 1)))), (3, .int (nI le)), (4, .int wa)] := hl
    refine lv_iload_n hx hb dX6_small_0 rfl (lv_at hl 2 rfl) ?_
    refine lv_bipush (v := 8) hx hb dX6_small_1 rfl ?_
    refine lv_icmp_ne (tgt := 139) hx hb dX6_small_3 (by decide) (fun c_3 => ?_) (fun c_3 => absurd (fx_eq1 (a := 8 - (d + 1)) (b := 8) c_3 (by omega) (by omega)) (by omega))
    have n_3 := fx_eq0 (a := (8 - (d + 1))) (b := 8) c_3 (by omega) (by omega)
    refine lv_iconst (v := 0) hx hb dX6_small_139 rfl ?_
    refine lv_istore (lv' := [(5, .int 0), (0, .ref (ad 30)), (1, .int (nI k)), (2, .int (nI (8 - (d + 1)))), (3, .int (nI le)), (4, .int wa)]) hx hb dX6_small_140 hl (by decide) rfl (fun ls hl => ?_)
    have loop_142 : ∀ (n_142 : Nat) (n : Nat) (fov : Int32) (fiv : Int32) (lpv : Int32) (nmv : Nat → Int32) (plv : Nat → Int32) (rwv : Nat → Int32), (le + 1 - n < n_142) → (n ≤ le + 1) → ((fov, fiv, lpv) = (itr (fun n b => enL (fun _ q_ => q_) (lfS (fun e_ => paysF sa T e_ k) wa) d (upN ex (8 - (d + 1)) n) (le - n) (mo + n) b) n (fo, fi, lp))) → (∀ i, i < (8 - (d + 1)) → rwv i = rw_ i) → ∀ (H : Heap) (locs : List Loc), va_P E.1 clA [(ad 30, .inr (6, [.ref (ad 0), .ref (ad 1), .int im, .ref (ad 3), .int at_, .int op, .int st_, .int us, .ref (ad 8), .ref (ad 9), .ref (ad 10), .ref (ad 11), .ref (ad 12), .ref (ad 13), .ref (ad 14), .int bn, .int bm, .ref (ad 17), .int la, .int fov, .int fiv, .int lpv, .ref (ad 22), .int tr_, .int sp, .int ip, .ref (ad 26), .ref (ad 27), .ref (ad 28), .ref (ad 29)])), (ad 9, .inl (E.2 0, 128, .inl nmv)), (ad 10, .inl (E.2 0, 64, .inl plv)), (ad 13, .inl (E.2 0, 8, .inl rwv))] H → va_D A [(ad 30, .inr (6, [.ref (ad 0), .ref (ad 1), .int im, .ref (ad 3), .int at_, .int op, .int st_, .int us, .ref (ad 8), .ref (ad 9), .ref (ad 10), .ref (ad 11), .ref (ad 12), .ref (ad 13), .ref (ad 14), .int bn, .int bm, .ref (ad 17), .int la, .int fov, .int fiv, .int lpv, .ref (ad 22), .int tr_, .int sp, .int ip, .ref (ad 26), .ref (ad 27), .ref (ad 28), .ref (ad 29)])), (ad 9, .inl (E.2 0, 128, .inl nmv)), (ad 10, .inl (E.2 0, 64, .inl plv)), (ad 13, .inl (E.2 0, 8, .inl rwv))] → va_S A s.heap H locs → ∀ (ls : Array Slot), lv_has ls 8 [(5, .int (nI n)), (0, .ref (ad 30)), (1, .int (nI k)), (2, .int (nI (8 - (d + 1)))), (3, .int (nI le)), (4, .int wa)] → W p l e (rmX6_small (d + 1)) s m args below meth c H locs 0 0 Q (F0 m 142 ls []) := by
      intro n_142
      induction n_142 with
      | zero => intro n fov fiv lpv nmv plv rwv hm_142; exact absurd hm_142 (Nat.not_lt_zero _)
      | succ n_142 ih_142 =>
        intro n fov fiv lpv nmv plv rwv hm_142 hn hB hr3 H locs hP hD hS ls hl
        refine lv_iload hx hb dX6_small_142 (lv_at hl 0 rfl) ?_
        refine lv_iload_n hx hb dX6_small_144 rfl (lv_at hl 4 rfl) ?_
        refine lv_icmp_gt (tgt := 176) hx hb dX6_small_145 (by decide) (fun c_145 => ?_) (fun c_145 => ?_)
        · -- jump 176
          have n_145 := fx_lt1 (a := le) (b := n) c_145 (by omega) (by omega)
          have hne : n = le + 1 := by omega
          refine lv_aload_n hx hb dX6_small_176 rfl (lv_at hl 1 rfl) ?_
          refine fx_get X hE hP 0 rfl rfl 13 rfl q1181 rfl rfl dX6_small_177 ?_
          refine lv_iload_n hx hb dX6_small_180 rfl (lv_at hl 3 rfl) ?_
          refine lv_iconst (v := 0) hx hb dX6_small_181 rfl ?_
          refine fx_iast (ws' := [(ad 30, .inr (6, [.ref (ad 0), .ref (ad 1), .int im, .ref (ad 3), .int at_, .int op, .int st_, .int us, .ref (ad 8), .ref (ad 9), .ref (ad 10), .ref (ad 11), .ref (ad 12), .ref (ad 13), .ref (ad 14), .int bn, .int bm, .ref (ad 17), .int la, .int fov, .int fiv, .int lpv, .ref (ad 22), .int tr_, .int sp, .int ip, .ref (ad 26), .ref (ad 27), .ref (ad 28), .ref (ad 29)])), (ad 9, .inl (E.2 0, 128, .inl nmv)), (ad 10, .inl (E.2 0, 64, .inl plv)), (ad 13, .inl (E.2 0, 8, .inl (upd rwv (8 - (d + 1)) 0)))]) X hE hP hD hS 3 rfl (8 - (d + 1)) rfl (by omega) rfl rfl dX6_small_182 (fun H locs hP hD hS => ?_)
          exact hret (fov, fiv, lpv, nmv, plv, (upd rwv (8 - (d + 1)) 0)) (⟨by rw [enL]; exact hne ▸ hB, fun i hi => (upd_n _ _ (by omega)).trans (hr3 i hi)⟩) hP hD hS (Nat.le_refl _) (Nat.le_refl _) dX6_small_183
        · -- fall 148
          have n_145 := fx_lt0 (a := le) (b := n) c_145 (by omega) (by omega)
          refine lv_aload_n hx hb dX6_small_148 rfl (lv_at hl 1 rfl) ?_
          refine fx_get X hE hP 0 rfl rfl 13 rfl q1181 rfl rfl dX6_small_149 ?_
          refine lv_iload_n hx hb dX6_small_152 rfl (lv_at hl 3 rfl) ?_
          refine lv_iload hx hb dX6_small_153 (lv_at hl 0 rfl) ?_
          refine fx_iast (ws' := [(ad 30, .inr (6, [.ref (ad 0), .ref (ad 1), .int im, .ref (ad 3), .int at_, .int op, .int st_, .int us, .ref (ad 8), .ref (ad 9), .ref (ad 10), .ref (ad 11), .ref (ad 12), .ref (ad 13), .ref (ad 14), .int bn, .int bm, .ref (ad 17), .int la, .int fov, .int fiv, .int lpv, .ref (ad 22), .int tr_, .int sp, .int ip, .ref (ad 26), .ref (ad 27), .ref (ad 28), .ref (ad 29)])), (ad 9, .inl (E.2 0, 128, .inl nmv)), (ad 10, .inl (E.2 0, 64, .inl plv)), (ad 13, .inl (E.2 0, 8, .inl (upd rwv (8 - (d + 1)) (nI n))))]) X hE hP hD hS 3 rfl (8 - (d + 1)) rfl (by omega) rfl rfl dX6_small_155 (fun H locs hP hD hS => ?_)
          refine lv_aload_n hx hb dX6_small_156 rfl (lv_at hl 1 rfl) ?_
          refine lv_iload_n hx hb dX6_small_157 rfl (lv_at hl 2 rfl) ?_
          refine lv_iload_n hx hb dX6_small_158 rfl (lv_at hl 3 rfl) ?_
          refine lv_iconst (v := 1) hx hb dX6_small_159 rfl ?_
          refine lv_iadd hx hb dX6_small_160 ?_
          refine fx_ti (nI_add (8 - (d + 1)) 1) ?_
          refine fx_ti (show nI (8 - (d + 1) + 1) = nI (8 - d) from congrArg nI (by omega)) ?_
          refine lv_iload_n hx hb dX6_small_161 rfl (lv_at hl 4 rfl) ?_
          refine lv_iload hx hb dX6_small_162 (lv_at hl 0 rfl) ?_
          refine lv_isub hx hb dX6_small_164 ?_
          refine fx_ti (pk_sub (a := le) (b := n) (by omega)) ?_
          refine lv_iload hx hb dX6_small_165 (lv_at hl 5 rfl) ?_
          refine fx_cv (va_runV (As := [.int (nI k), .int (nI (8 - d)), .int (nI (le - n)), .int wa]) (rest := []) X (ih ad im at_ op st_ us bn bm la fov fiv lpv tr_ sp ip sa nmv plv (upd rwv (8 - (d + 1)) (nI n)) k wa T (upN ex (8 - (d + 1)) n) (le - n) (mo + n) (by omega) (by first | assumption | omega) (by first | assumption | omega) (by first | assumption | omega) (by first | assumption | omega) (by rw [show 8 - d = 8 - (d + 1) + 1 by omega]; exact rowq_s (fun i hi => ⟨(hr3 i hi).trans (hrw i hi).1, (hrw i hi).2⟩) (by omega)) (by omega) _) (cwV 4 X.2.2.2.2 (lw_V q1498 q1500 qs62 q75 q1501) rfl rfl rfl ⟨rfl, hdX6_small⟩ ⟨by simp only [rmX6_small]; omega, by simp only [rmX6_small]; omega⟩) (fx_preV (fx_pre hE hP hD hS hR [0, 1, 2, 3] rfl rfl (fx_rcr 0 rfl fx_rc0)) (va_recv hE.1 hP (ci := 6) (q0 := 0) rfl rfl)) rfl rfl hl.1 rfl (lv_room (Nat.le_of_ble_eq_true rfl)) dX6_small_167 ⟨Nat.le_refl _, Nat.le_refl _⟩) hP hD hS hA [0, 1, 2, 3] rfl rfl (fun u H locs hq_167 hP hD hS => ?_)
          obtain ⟨fo2_167, fi2_167, lp2_167, nm2_167, pl2_167, rw2_167⟩ := u
          replace hP : va_P E.1 clA [(ad 30, .inr (6, [.ref (ad 0), .ref (ad 1), .int im, .ref (ad 3), .int at_, .int op, .int st_, .int us, .ref (ad 8), .ref (ad 9), .ref (ad 10), .ref (ad 11), .ref (ad 12), .ref (ad 13), .ref (ad 14), .int bn, .int bm, .ref (ad 17), .int la, .int fo2_167, .int fi2_167, .int lp2_167, .ref (ad 22), .int tr_, .int sp, .int ip, .ref (ad 26), .ref (ad 27), .ref (ad 28), .ref (ad 29)])), (ad 9, .inl (E.2 0, 128, .inl nm2_167)), (ad 10, .inl (E.2 0, 64, .inl pl2_167)), (ad 13, .inl (E.2 0, 8, .inl rw2_167))] _ := hP
          replace hD : va_D A [(ad 30, .inr (6, [.ref (ad 0), .ref (ad 1), .int im, .ref (ad 3), .int at_, .int op, .int st_, .int us, .ref (ad 8), .ref (ad 9), .ref (ad 10), .ref (ad 11), .ref (ad 12), .ref (ad 13), .ref (ad 14), .int bn, .int bm, .ref (ad 17), .int la, .int fo2_167, .int fi2_167, .int lp2_167, .ref (ad 22), .int tr_, .int sp, .int ip, .ref (ad 26), .ref (ad 27), .ref (ad 28), .ref (ad 29)])), (ad 9, .inl (E.2 0, 128, .inl nm2_167)), (ad 10, .inl (E.2 0, 64, .inl pl2_167)), (ad 13, .inl (E.2 0, 8, .inl rw2_167))] := hD
          replace hq_167 : (fo2_167, fi2_167, lp2_167) = (enL (fun _ q_ => q_) (lfS (fun e_ => paysF sa T e_ k) wa) d (upN ex (8 - (d + 1)) n) (le - n) (mo + n) (fov, fiv, lpv)) ∧ (∀ i, i < 8 - d → rw2_167 i = (upd rwv (8 - (d + 1)) (nI n)) i) := hq_167
          refine lv_iinc (v := nI (n + 1)) (lv' := [(5, .int (nI (n + 1))), (0, .ref (ad 30)), (1, .int (nI k)), (2, .int (nI (8 - (d + 1)))), (3, .int (nI le)), (4, .int wa)]) hx hb dX6_small_170 hl (k := 0) rfl (fx_inc _) (by decide) rfl (fun ls hl => ?_)
          refine lv_goto (tgt := 142) hx hb dX6_small_173 (by decide) ?_
          exact ih_142 (n + 1) fo2_167 fi2_167 lp2_167 nm2_167 pl2_167 rw2_167 (by omega) (by omega) (by rw [itr_s, ← hB]; exact hq_167.1) (fun i hi => by rw [hq_167.2 i (by omega), upd_n _ _ (by omega), hr3 i hi]) _ _ hP hD hS ls (lv_sub hl [0, 1, 2, 3, 4, 5] rfl)
    exact loop_142 ((le + 1 - 0) + 1) 0 fo fi lp nmd pl rw_ (Nat.lt_succ_self _) (Nat.zero_le _) rfl (fun i hi => rfl) _ _ hP hD hS ls (lv_sub hl [0, 1, 2, 3, 4, 5] rfl)
abbrev rmX6_allSmall : Room := { frames := 19, cells := 0, slots := 0, locals := 643 }
set_option maxHeartbeats 400000 in
set_option maxRecDepth 100000 in
theorem mX6_allSmall (l : Launch) (E : fx_En) (ad : Nat → Nat) (im : Int32) (at_ : Int32) (op : Int32) (st_ : Int32) (us : Int32) (bn : Int32) (bm : Int32) (la : Int32) (fo : Int32) (fi : Int32) (lp : Int32) (tr_ : Int32) (sp : Int32) (ip : Int32) (sa : Nat → Int32) (nmd : Nat → Int32) (pl : Nat → Int32) (rw_ : Nat → Int32) (k : Nat) (wa : Int32) (T : Tx) (hk : k < 4) (hI : Inv sa) (hT : TM sa 0 T) (hTo : TOk T) : fx_Mv l yX6_allSmall cX6_allSmall 3 rmX6_allSmall E [.ref (ad 30), .int (nI k), .int wa] [(ad 30, .inr (6, [.ref (ad 0), .ref (ad 1), .int im, .ref (ad 3), .int at_, .int op, .int st_, .int us, .ref (ad 8), .ref (ad 9), .ref (ad 10), .ref (ad 11), .ref (ad 12), .ref (ad 13), .ref (ad 14), .int bn, .int bm, .ref (ad 17), .int la, .int fo, .int fi, .int lp, .ref (ad 22), .int tr_, .int sp, .int ip, .ref (ad 26), .ref (ad 27), .ref (ad 28), .ref (ad 29)])), (ad 9, .inl (E.2 0, 128, .inl nmd)), (ad 10, .inl (E.2 0, 64, .inl pl)), (ad 13, .inl (E.2 0, 8, .inl rw_))] [(ad 0, .inl (E.2 0, 374, .inl sa))] (S := Int32 × Int32 × Int32 × (Nat → Int32) × (Nat → Int32) × (Nat → Int32)) (fun (u : Int32 × Int32 × Int32 × (Nat → Int32) × (Nat → Int32) × (Nat → Int32)) => [(ad 30, .inr (6, [.ref (ad 0), .ref (ad 1), .int im, .ref (ad 3), .int at_, .int op, .int st_, .int us, .ref (ad 8), .ref (ad 9), .ref (ad 10), .ref (ad 11), .ref (ad 12), .ref (ad 13), .ref (ad 14), .int bn, .int bm, .ref (ad 17), .int la, .int u.1, .int u.2.1, .int u.2.2.1, .ref (ad 22), .int tr_, .int sp, .int ip, .ref (ad 26), .ref (ad 27), .ref (ad 28), .ref (ad 29)])), (ad 9, .inl (E.2 0, 128, .inl u.2.2.2.1)), (ad 10, .inl (E.2 0, 64, .inl u.2.2.2.2.1)), (ad 13, .inl (E.2 0, 8, .inl u.2.2.2.2.2))]) (fun (u : Int32 × Int32 × Int32 × (Nat → Int32) × (Nat → Int32) × (Nat → Int32)) => (u.1, u.2.1, u.2.2.1) = smF sa T k wa) := by
  refine fx_vW rfl rfl ?_
  intro p e s m args below meth c A ls Q X hnm hE hP hD hR hA hl hret
  have hx := X.1
  have hb := X.2.1
  have hS : va_S A s.heap s.heap [] := va_S.rf
  replace hP : va_P E.1 clA [(ad 30, .inr (6, [.ref (ad 0), .ref (ad 1), .int im, .ref (ad 3), .int at_, .int op, .int st_, .int us, .ref (ad 8), .ref (ad 9), .ref (ad 10), .ref (ad 11), .ref (ad 12), .ref (ad 13), .ref (ad 14), .int bn, .int bm, .ref (ad 17), .int la, .int fo, .int fi, .int lp, .ref (ad 22), .int tr_, .int sp, .int ip, .ref (ad 26), .ref (ad 27), .ref (ad 28), .ref (ad 29)])), (ad 9, .inl (E.2 0, 128, .inl nmd)), (ad 10, .inl (E.2 0, 64, .inl pl)), (ad 13, .inl (E.2 0, 8, .inl rw_))] _ := hP
  replace hD : va_D A [(ad 30, .inr (6, [.ref (ad 0), .ref (ad 1), .int im, .ref (ad 3), .int at_, .int op, .int st_, .int us, .ref (ad 8), .ref (ad 9), .ref (ad 10), .ref (ad 11), .ref (ad 12), .ref (ad 13), .ref (ad 14), .int bn, .int bm, .ref (ad 17), .int la, .int fo, .int fi, .int lp, .ref (ad 22), .int tr_, .int sp, .int ip, .ref (ad 26), .ref (ad 27), .ref (ad 28), .ref (ad 29)])), (ad 9, .inl (E.2 0, 128, .inl nmd)), (ad 10, .inl (E.2 0, 64, .inl pl)), (ad 13, .inl (E.2 0, 8, .inl rw_))] := hD
  replace hl : lv_has ls 3 [(0, .ref (ad 30)), (1, .int (nI k)), (2, .int wa)] := hl
  refine lv_aload_n hx hb dX6_allSmall_0 rfl (lv_at hl 0 rfl) ?_
  refine lv_iconst (v := 0) hx hb dX6_allSmall_1 rfl ?_
  refine fx_put_ (ws' := [(ad 30, .inr (6, [.ref (ad 0), .ref (ad 1), .int im, .ref (ad 3), .int at_, .int op, .int st_, .int us, .ref (ad 8), .ref (ad 9), .ref (ad 10), .ref (ad 11), .ref (ad 12), .ref (ad 13), .ref (ad 14), .int bn, .int bm, .ref (ad 17), .int la, .int 0, .int fi, .int lp, .ref (ad 22), .int tr_, .int sp, .int ip, .ref (ad 26), .ref (ad 27), .ref (ad 28), .ref (ad 29)])), (ad 9, .inl (E.2 0, 128, .inl nmd)), (ad 10, .inl (E.2 0, 64, .inl pl)), (ad 13, .inl (E.2 0, 8, .inl rw_))]) X hE hP hD hS 0 rfl rfl tyX6_ok nmX6 19 rfl q1187 rfl rfl rfl rfl rfl rfl dX6_allSmall_2 (fun H locs hP hD hS => ?_)
  refine lv_aload_n hx hb dX6_allSmall_5 rfl (lv_at hl 0 rfl) ?_
  refine lv_iconst (v := (-1)) hx hb dX6_allSmall_6 rfl ?_
  refine fx_put_ (ws' := [(ad 30, .inr (6, [.ref (ad 0), .ref (ad 1), .int im, .ref (ad 3), .int at_, .int op, .int st_, .int us, .ref (ad 8), .ref (ad 9), .ref (ad 10), .ref (ad 11), .ref (ad 12), .ref (ad 13), .ref (ad 14), .int bn, .int bm, .ref (ad 17), .int la, .int 0, .int (-1), .int lp, .ref (ad 22), .int tr_, .int sp, .int ip, .ref (ad 26), .ref (ad 27), .ref (ad 28), .ref (ad 29)])), (ad 9, .inl (E.2 0, 128, .inl nmd)), (ad 10, .inl (E.2 0, 64, .inl pl)), (ad 13, .inl (E.2 0, 8, .inl rw_))]) X hE hP hD hS 0 rfl rfl tyX6_ok nmX6 20 rfl q1188 rfl rfl rfl rfl rfl rfl dX6_allSmall_7 (fun H locs hP hD hS => ?_)
  refine lv_aload_n hx hb dX6_allSmall_10 rfl (lv_at hl 0 rfl) ?_
  refine lv_iconst (v := (-1)) hx hb dX6_allSmall_11 rfl ?_
  refine fx_put_ (ws' := [(ad 30, .inr (6, [.ref (ad 0), .ref (ad 1), .int im, .ref (ad 3), .int at_, .int op, .int st_, .int us, .ref (ad 8), .ref (ad 9), .ref (ad 10), .ref (ad 11), .ref (ad 12), .ref (ad 13), .ref (ad 14), .int bn, .int bm, .ref (ad 17), .int la, .int 0, .int (-1), .int (-1), .ref (ad 22), .int tr_, .int sp, .int ip, .ref (ad 26), .ref (ad 27), .ref (ad 28), .ref (ad 29)])), (ad 9, .inl (E.2 0, 128, .inl nmd)), (ad 10, .inl (E.2 0, 64, .inl pl)), (ad 13, .inl (E.2 0, 8, .inl rw_))]) X hE hP hD hS 0 rfl rfl tyX6_ok nmX6 21 rfl q1189 rfl rfl rfl rfl rfl rfl dX6_allSmall_12 (fun H locs hP hD hS => ?_)
  refine lv_aload_n hx hb dX6_allSmall_15 rfl (lv_at hl 0 rfl) ?_
  refine lv_iload_n hx hb dX6_allSmall_16 rfl (lv_at hl 1 rfl) ?_
  refine lv_iconst (v := 0) hx hb dX6_allSmall_17 rfl ?_
  refine lv_iconst (v := 3) hx hb dX6_allSmall_18 rfl ?_
  refine lv_iload_n hx hb dX6_allSmall_19 rfl (lv_at hl 2 rfl) ?_
  refine fx_cv (va_runV (As := [.int (nI k), .int 0, .int 3, .int wa]) (rest := []) X (mX6_small l E 8 ad im at_ op st_ us bn bm la 0 (-1) (-1) tr_ sp ip sa nmd pl rw_ k wa T (fun _ => 0) 3 0 (Nat.le_refl 8) (by first | assumption | omega) (by first | assumption | omega) (by first | assumption | omega) (by first | assumption | omega) (fun i hi => absurd hi (by omega)) (by omega) _) (cwV 4 X.2.2.2.2 (lw_V q1498 q1500 qs62 q75 q1501) rfl rfl rfl ⟨rfl, hdX6_small⟩ ⟨by simp only [rmX6_small, rmX6_allSmall] <;> omega, by simp only [rmX6_small, rmX6_allSmall] <;> omega⟩) (fx_preV (fx_pre hE hP hD hS hR [0, 1, 2, 3] rfl rfl (fx_rcr 0 rfl fx_rc0)) (va_recv hE.1 hP (ci := 6) (q0 := 0) rfl rfl)) rfl rfl hl.1 rfl (lv_room (Nat.le_of_ble_eq_true rfl)) dX6_allSmall_20 ⟨Nat.le_refl _, Nat.le_refl _⟩) hP hD hS hA [0, 1, 2, 3] rfl rfl (fun u H locs hq_20 hP hD hS => ?_)
  obtain ⟨fo2_20, fi2_20, lp2_20, nm2_20, pl2_20, rw2_20⟩ := u
  replace hP : va_P E.1 clA [(ad 30, .inr (6, [.ref (ad 0), .ref (ad 1), .int im, .ref (ad 3), .int at_, .int op, .int st_, .int us, .ref (ad 8), .ref (ad 9), .ref (ad 10), .ref (ad 11), .ref (ad 12), .ref (ad 13), .ref (ad 14), .int bn, .int bm, .ref (ad 17), .int la, .int fo2_20, .int fi2_20, .int lp2_20, .ref (ad 22), .int tr_, .int sp, .int ip, .ref (ad 26), .ref (ad 27), .ref (ad 28), .ref (ad 29)])), (ad 9, .inl (E.2 0, 128, .inl nm2_20)), (ad 10, .inl (E.2 0, 64, .inl pl2_20)), (ad 13, .inl (E.2 0, 8, .inl rw2_20))] _ := hP
  replace hD : va_D A [(ad 30, .inr (6, [.ref (ad 0), .ref (ad 1), .int im, .ref (ad 3), .int at_, .int op, .int st_, .int us, .ref (ad 8), .ref (ad 9), .ref (ad 10), .ref (ad 11), .ref (ad 12), .ref (ad 13), .ref (ad 14), .int bn, .int bm, .ref (ad 17), .int la, .int fo2_20, .int fi2_20, .int lp2_20, .ref (ad 22), .int tr_, .int sp, .int ip, .ref (ad 26), .ref (ad 27), .ref (ad 28), .ref (ad 29)])), (ad 9, .inl (E.2 0, 128, .inl nm2_20)), (ad 10, .inl (E.2 0, 64, .inl pl2_20)), (ad 13, .inl (E.2 0, 8, .inl rw2_20))] := hD
  replace hq_20 : (fo2_20, fi2_20, lp2_20) = (enL (fun _ q_ => q_) (lfS (fun e_ => paysF sa T e_ k) wa) 8 (fun _ => 0) 3 0 (0, (-1), (-1))) ∧ (∀ i, i < 8 - 8 → rw2_20 i = rw_ i) := hq_20
  exact hret (fo2_20, fi2_20, lp2_20, nm2_20, pl2_20, rw2_20) (by rw [smF]; exact hq_20.1) hP hD hS (Nat.le_refl _) (Nat.le_refl _) dX6_allSmall_23
abbrev rmX6_nines : Room := { frames := 20, cells := 0, slots := 0, locals := 665 }
set_option maxHeartbeats 400000 in
set_option maxRecDepth 100000 in
theorem mX6_nines (l : Launch) (E : fx_En) (ad : Nat → Nat) (im : Int32) (at_ : Int32) (op : Int32) (st_ : Int32) (us : Int32) (bn : Int32) (bm : Int32) (la : Int32) (fo : Int32) (fi : Int32) (lp : Int32) (tr_ : Int32) (sp : Int32) (ip : Int32) (sa : Nat → Int32) (er : Nat → Int32) (nmd : Nat → Int32) (pl : Nat → Int32) (rw_ : Nat → Int32) (til : Int32) (T : Tx) (hI : Inv sa) (hT : TM sa 0 T) (hTo : TOk T) : fx_Mi l yX6_nines cX6_nines 4 .int rmX6_nines E [.ref (ad 30), .int til] [(ad 30, .inr (6, [.ref (ad 0), .ref (ad 1), .int im, .ref (ad 3), .int at_, .int op, .int st_, .int us, .ref (ad 8), .ref (ad 9), .ref (ad 10), .ref (ad 11), .ref (ad 12), .ref (ad 13), .ref (ad 14), .int bn, .int bm, .ref (ad 17), .int la, .int fo, .int fi, .int lp, .ref (ad 22), .int tr_, .int sp, .int ip, .ref (ad 26), .ref (ad 27), .ref (ad 28), .ref (ad 29)])), (ad 3, .inl (E.2 0, 7, .inl er)), (ad 9, .inl (E.2 0, 128, .inl nmd)), (ad 10, .inl (E.2 0, 64, .inl pl)), (ad 13, .inl (E.2 0, 8, .inl rw_))] [(ad 0, .inl (E.2 0, 374, .inl sa))] (S := Int32 × Int32 × Int32 × (Nat → Int32) × (Nat → Int32) × (Nat → Int32) × (Nat → Int32)) (fun (u : Int32 × Int32 × Int32 × (Nat → Int32) × (Nat → Int32) × (Nat → Int32) × (Nat → Int32)) => [(ad 30, .inr (6, [.ref (ad 0), .ref (ad 1), .int im, .ref (ad 3), .int at_, .int op, .int st_, .int us, .ref (ad 8), .ref (ad 9), .ref (ad 10), .ref (ad 11), .ref (ad 12), .ref (ad 13), .ref (ad 14), .int bn, .int bm, .ref (ad 17), .int la, .int u.1, .int u.2.1, .int u.2.2.1, .ref (ad 22), .int tr_, .int sp, .int ip, .ref (ad 26), .ref (ad 27), .ref (ad 28), .ref (ad 29)])), (ad 3, .inl (E.2 0, 7, .inl u.2.2.2.1)), (ad 9, .inl (E.2 0, 128, .inl u.2.2.2.2.1)), (ad 10, .inl (E.2 0, 64, .inl u.2.2.2.2.2.1)), (ad 13, .inl (E.2 0, 8, .inl u.2.2.2.2.2.2))]) (fun (r : Int32) (u : Int32 × Int32 × Int32 × (Nat → Int32) × (Nat → Int32) × (Nat → Int32) × (Nat → Int32)) => (r, u.2.2.2.1) = nines_ sa er T til) := by
  refine fx_iW rfl rfl ?_
  intro p e s m args below meth c A ls Q X hE hP hD hR hA hl hret
  have hx := X.1
  have hb := X.2.1
  have hS : va_S A s.heap s.heap [] := va_S.rf
  replace hP : va_P E.1 clA [(ad 30, .inr (6, [.ref (ad 0), .ref (ad 1), .int im, .ref (ad 3), .int at_, .int op, .int st_, .int us, .ref (ad 8), .ref (ad 9), .ref (ad 10), .ref (ad 11), .ref (ad 12), .ref (ad 13), .ref (ad 14), .int bn, .int bm, .ref (ad 17), .int la, .int fo, .int fi, .int lp, .ref (ad 22), .int tr_, .int sp, .int ip, .ref (ad 26), .ref (ad 27), .ref (ad 28), .ref (ad 29)])), (ad 3, .inl (E.2 0, 7, .inl er)), (ad 9, .inl (E.2 0, 128, .inl nmd)), (ad 10, .inl (E.2 0, 64, .inl pl)), (ad 13, .inl (E.2 0, 8, .inl rw_))] _ := hP
  replace hD : va_D A [(ad 30, .inr (6, [.ref (ad 0), .ref (ad 1), .int im, .ref (ad 3), .int at_, .int op, .int st_, .int us, .ref (ad 8), .ref (ad 9), .ref (ad 10), .ref (ad 11), .ref (ad 12), .ref (ad 13), .ref (ad 14), .int bn, .int bm, .ref (ad 17), .int la, .int fo, .int fi, .int lp, .ref (ad 22), .int tr_, .int sp, .int ip, .ref (ad 26), .ref (ad 27), .ref (ad 28), .ref (ad 29)])), (ad 3, .inl (E.2 0, 7, .inl er)), (ad 9, .inl (E.2 0, 128, .inl nmd)), (ad 10, .inl (E.2 0, 64, .inl pl)), (ad 13, .inl (E.2 0, 8, .inl rw_))] := hD
  replace hl : lv_has ls 4 [(0, .ref (ad 30)), (1, .int til)] := hl
  refine lv_iload_n hx hb dX6_nines_0 rfl (lv_at hl 1 rfl) ?_
  refine lv_iconst (v := (-1)) hx hb dX6_nines_1 rfl ?_
  refine lv_iconst (v := 3) hx hb dX6_nines_2 rfl ?_
  refine fx_ci (va_runS (As := [.int til, .int (-1), .int 3]) (rest := []) X (mX6_in l E til (-1) 3 _) (va_cwS 3 X.2.2.2.2 (lw_S q1263 q1264 q75 q1265) rfl rfl rfl hdX6_in ⟨Nat.le_of_ble_eq_true rfl, Nat.le_of_ble_eq_true rfl⟩) (fx_pre hE hP hD hS hR [] rfl rfl fx_rc0) rfl rfl hl.1 rfl (lv_room (Nat.le_of_ble_eq_true rfl)) dX6_nines_3 ⟨Nat.le_refl _, Nat.le_refl _⟩) hP hD hS hA [] rfl rfl (fun r_3 u H locs hq_3 hP hD hS => ?_)
  replace hP : va_P E.1 clA [(ad 30, .inr (6, [.ref (ad 0), .ref (ad 1), .int im, .ref (ad 3), .int at_, .int op, .int st_, .int us, .ref (ad 8), .ref (ad 9), .ref (ad 10), .ref (ad 11), .ref (ad 12), .ref (ad 13), .ref (ad 14), .int bn, .int bm, .ref (ad 17), .int la, .int fo, .int fi, .int lp, .ref (ad 22), .int tr_, .int sp, .int ip, .ref (ad 26), .ref (ad 27), .ref (ad 28), .ref (ad 29)])), (ad 3, .inl (E.2 0, 7, .inl er)), (ad 9, .inl (E.2 0, 128, .inl nmd)), (ad 10, .inl (E.2 0, 64, .inl pl)), (ad 13, .inl (E.2 0, 8, .inl rw_))] _ := hP
  replace hD : va_D A [(ad 30, .inr (6, [.ref (ad 0), .ref (ad 1), .int im, .ref (ad 3), .int at_, .int op, .int st_, .int us, .ref (ad 8), .ref (ad 9), .ref (ad 10), .ref (ad 11), .ref (ad 12), .ref (ad 13), .ref (ad 14), .int bn, .int bm, .ref (ad 17), .int la, .int fo, .int fi, .int lp, .ref (ad 22), .int tr_, .int sp, .int ip, .ref (ad 26), .ref (ad 27), .ref (ad 28), .ref (ad 29)])), (ad 3, .inl (E.2 0, 7, .inl er)), (ad 9, .inl (E.2 0, 128, .inl nmd)), (ad 10, .inl (E.2 0, 64, .inl pl)), (ad 13, .inl (E.2 0, 8, .inl rw_))] := hD
  replace hq_3 : r_3 = fx_b (inB til (-1) 3 = true) := hq_3
  rcases fx_bc hq_3 with ⟨hb_3, hr_3⟩ | ⟨hb_3, hr_3⟩
  · -- True
    subst hr_3
    refine lv_if_ne (tgt := 15) hx hb dX6_nines_6 (by decide) (fun _ => ?_) (fun c => absurd c (by decide))
    refine lv_iload_n hx hb dX6_nines_15 rfl (lv_at hl 1 rfl) ?_
    refine lv_iconst (v := (-1)) hx hb dX6_nines_16 rfl ?_
    refine lv_icmp_ne (tgt := 71) hx hb dX6_nines_17 (by decide) (fun c_17 => ?_) (fun c_17 => ?_)
    · -- jump 71
      refine lv_aload_n hx hb dX6_nines_71 rfl (lv_at hl 0 rfl) ?_
      refine lv_iload_n hx hb dX6_nines_72 rfl (lv_at hl 1 rfl) ?_
      refine fx_ti (show til = nI (nn til) from (til_nat hb_3 c_17).1) ?_
      refine lv_iconst (v := (-1)) hx hb dX6_nines_73 rfl ?_
      refine fx_cv (va_runV (As := [.int (nI (nn til)), .int (-1)]) (rest := []) X (mX6_allSmall l E ad im at_ op st_ us bn bm la fo fi lp tr_ sp ip sa nmd pl rw_ (nn til) (-1) T (by have := (til_nat hb_3 c_17).2; omega) (by first | assumption | omega) (by first | assumption | omega) (by first | assumption | omega) _) (cwV 2 X.2.2.2.2 (lw_V q1494 q1496 qs61 q75 q1497) rfl rfl rfl ⟨rfl, hdX6_allSmall⟩ ⟨Nat.le_of_ble_eq_true rfl, Nat.le_of_ble_eq_true rfl⟩) (fx_preV (fx_pre hE hP hD hS hR [0, 2, 3, 4] rfl rfl (fx_rcr 0 rfl fx_rc0)) (va_recv hE.1 hP (ci := 6) (q0 := 0) rfl rfl)) rfl rfl hl.1 rfl (lv_room (Nat.le_of_ble_eq_true rfl)) dX6_nines_74 ⟨Nat.le_refl _, Nat.le_refl _⟩) hP hD hS hA [0, 2, 3, 4] rfl rfl (fun u H locs hq_74 hP hD hS => ?_)
      obtain ⟨fo2_74, fi2_74, lp2_74, nm2_74, pl2_74, rw2_74⟩ := u
      replace hP : va_P E.1 clA [(ad 30, .inr (6, [.ref (ad 0), .ref (ad 1), .int im, .ref (ad 3), .int at_, .int op, .int st_, .int us, .ref (ad 8), .ref (ad 9), .ref (ad 10), .ref (ad 11), .ref (ad 12), .ref (ad 13), .ref (ad 14), .int bn, .int bm, .ref (ad 17), .int la, .int fo2_74, .int fi2_74, .int lp2_74, .ref (ad 22), .int tr_, .int sp, .int ip, .ref (ad 26), .ref (ad 27), .ref (ad 28), .ref (ad 29)])), (ad 3, .inl (E.2 0, 7, .inl er)), (ad 9, .inl (E.2 0, 128, .inl nm2_74)), (ad 10, .inl (E.2 0, 64, .inl pl2_74)), (ad 13, .inl (E.2 0, 8, .inl rw2_74))] _ := hP
      replace hD : va_D A [(ad 30, .inr (6, [.ref (ad 0), .ref (ad 1), .int im, .ref (ad 3), .int at_, .int op, .int st_, .int us, .ref (ad 8), .ref (ad 9), .ref (ad 10), .ref (ad 11), .ref (ad 12), .ref (ad 13), .ref (ad 14), .int bn, .int bm, .ref (ad 17), .int la, .int fo2_74, .int fi2_74, .int lp2_74, .ref (ad 22), .int tr_, .int sp, .int ip, .ref (ad 26), .ref (ad 27), .ref (ad 28), .ref (ad 29)])), (ad 3, .inl (E.2 0, 7, .inl er)), (ad 9, .inl (E.2 0, 128, .inl nm2_74)), (ad 10, .inl (E.2 0, 64, .inl pl2_74)), (ad 13, .inl (E.2 0, 8, .inl rw2_74))] := hD
      replace hq_74 : (fo2_74, fi2_74, lp2_74) = smF sa T (nn til) (-1) := hq_74
      refine lv_aload_n hx hb dX6_nines_77 rfl (lv_at hl 0 rfl) ?_
      refine fx_get X hE hP 0 rfl rfl 21 rfl q1189 rfl rfl dX6_nines_78 ?_
      exact hret lp2_74 (fo2_74, fi2_74, lp2_74, er, nm2_74, pl2_74, rw2_74) (by rw [nines_, if_pos hb_3, if_neg c_17, ← hq_74]) (rfl) hP hD hS (Nat.le_refl _) (Nat.le_refl _) dX6_nines_81
    · -- fall 20
      refine lv_iconst (v := 1) hx hb dX6_nines_20 rfl ?_
      refine lv_istore_n (lv' := [(2, .int 1), (0, .ref (ad 30)), (1, .int til)]) hx hb dX6_nines_21 rfl hl (by decide) rfl (fun ls hl => ?_)
      refine lv_iconst (v := 0) hx hb dX6_nines_22 rfl ?_
      refine lv_istore_n (lv' := [(3, .int 0), (2, .int 1), (0, .ref (ad 30)), (1, .int til)]) hx hb dX6_nines_23 rfl hl (by decide) rfl (fun ls hl => ?_)
      have loop_24 : ∀ (n_24 : Nat) (t : Nat) (bz : Int32), (8 - t < n_24) → (t ≤ 8) → (bz = fx_b (allB (fun i_ => decide (nn (sa (8 + i_)) % 9 = 0)) t = true)) → ∀ (H : Heap) (locs : List Loc), va_P E.1 clA [(ad 30, .inr (6, [.ref (ad 0), .ref (ad 1), .int im, .ref (ad 3), .int at_, .int op, .int st_, .int us, .ref (ad 8), .ref (ad 9), .ref (ad 10), .ref (ad 11), .ref (ad 12), .ref (ad 13), .ref (ad 14), .int bn, .int bm, .ref (ad 17), .int la, .int fo, .int fi, .int lp, .ref (ad 22), .int tr_, .int sp, .int ip, .ref (ad 26), .ref (ad 27), .ref (ad 28), .ref (ad 29)])), (ad 3, .inl (E.2 0, 7, .inl er)), (ad 9, .inl (E.2 0, 128, .inl nmd)), (ad 10, .inl (E.2 0, 64, .inl pl)), (ad 13, .inl (E.2 0, 8, .inl rw_))] H → va_D A [(ad 30, .inr (6, [.ref (ad 0), .ref (ad 1), .int im, .ref (ad 3), .int at_, .int op, .int st_, .int us, .ref (ad 8), .ref (ad 9), .ref (ad 10), .ref (ad 11), .ref (ad 12), .ref (ad 13), .ref (ad 14), .int bn, .int bm, .ref (ad 17), .int la, .int fo, .int fi, .int lp, .ref (ad 22), .int tr_, .int sp, .int ip, .ref (ad 26), .ref (ad 27), .ref (ad 28), .ref (ad 29)])), (ad 3, .inl (E.2 0, 7, .inl er)), (ad 9, .inl (E.2 0, 128, .inl nmd)), (ad 10, .inl (E.2 0, 64, .inl pl)), (ad 13, .inl (E.2 0, 8, .inl rw_))] → va_S A s.heap H locs → ∀ (ls : Array Slot), lv_has ls 4 [(3, .int (nI t)), (2, .int bz), (0, .ref (ad 30)), (1, .int til)] → W p l e rmX6_nines s m args below meth c H locs 0 0 Q (F0 m 24 ls []) := by
        intro n_24
        induction n_24 with
        | zero => intro t bz hm_24; exact absurd hm_24 (Nat.not_lt_zero _)
        | succ n_24 ih_24 =>
          intro t bz hm_24 ht hbz H locs hP hD hS ls hl
          refine lv_iload_n hx hb dX6_nines_24 rfl (lv_at hl 0 rfl) ?_
          refine lv_bipush (v := 8) hx hb dX6_nines_25 rfl ?_
          refine lv_icmp_ge (tgt := 61) hx hb dX6_nines_27 (by decide) (fun c_27 => ?_) (fun c_27 => ?_)
          · -- jump 61
            have n_27 := fx_le1 (a := 8) (b := t) c_27 (by omega) (by omega)
            obtain rfl : t = 8 := by omega
            refine lv_iload_n hx hb dX6_nines_61 rfl (lv_at hl 1 rfl) ?_
            refine lv_if_eq (tgt := 69) hx hb dX6_nines_62 (by decide) (fun c_62 => ?_) (fun c_62 => ?_)
            · -- jump 69
              refine lv_iconst (v := 0) hx hb dX6_nines_69 rfl ?_
              exact hret 0 (fo, fi, lp, er, nmd, pl, rw_) (by rw [nines_, if_pos hb_3, if_pos c_17]; exact congrArg (fun x => (x, er)) (fx_b0 hbz c_62)) (rfl) hP hD hS (Nat.le_refl _) (Nat.le_refl _) dX6_nines_70
            · -- fall 65
              refine lv_iconst (v := 1) hx hb dX6_nines_65 rfl ?_
              refine lv_goto (tgt := 70) hx hb dX6_nines_66 (by decide) ?_
              exact hret 1 (fo, fi, lp, er, nmd, pl, rw_) (by rw [nines_, if_pos hb_3, if_pos c_17]; exact congrArg (fun x => (x, er)) (fx_b1 hbz c_62)) (rfl) hP hD hS (Nat.le_refl _) (Nat.le_refl _) dX6_nines_70
          · -- fall 30
            have n_27 := fx_le0 (a := 8) (b := t) c_27 (by omega) (by omega)
            refine lv_iload_n hx hb dX6_nines_30 rfl (lv_at hl 1 rfl) ?_
            refine lv_if_eq (tgt := 53) hx hb dX6_nines_31 (by decide) (fun c_31 => ?_) (fun c_31 => ?_)
            · -- jump 53
              refine lv_iconst (v := 0) hx hb dX6_nines_53 rfl ?_
              refine lv_istore_n (lv' := [(2, .int 0), (3, .int (nI t)), (0, .ref (ad 30)), (1, .int til)]) hx hb dX6_nines_54 rfl hl (by decide) rfl (fun ls hl => ?_)
              refine lv_iinc (v := nI (t + 1)) (lv' := [(3, .int (nI (t + 1))), (2, .int 0), (0, .ref (ad 30)), (1, .int til)]) hx hb dX6_nines_55 hl (k := 1) rfl (fx_inc _) (by decide) rfl (fun ls hl => ?_)
              refine lv_goto (tgt := 24) hx hb dX6_nines_58 (by decide) ?_
              exact ih_24 (t + 1) 0 (by omega) (by omega) (stk_f1 hbz c_31) _ _ hP hD hS ls (lv_sub hl [0, 1, 2, 3] rfl)
            · -- fall 34
              refine lv_aload_n hx hb dX6_nines_34 rfl (lv_at hl 2 rfl) ?_
              refine fx_get X hE hP 0 rfl rfl 0 rfl q1168 rfl rfl dX6_nines_35 ?_
              refine lv_bipush (v := 8) hx hb dX6_nines_38 rfl ?_
              refine lv_iload_n hx hb dX6_nines_40 rfl (lv_at hl 0 rfl) ?_
              refine lv_iadd hx hb dX6_nines_41 ?_
              refine fx_ti (nI_add 8 t) ?_
              refine fx_iald X hE (hR.at hS) 0 rfl (8 + t) rfl (by omega) rfl dX6_nines_42 ?_
              refine fx_ti (show (sa (8 + t)) = nI (nn (sa (8 + t))) from (hI.pr t (by omega)).1) ?_
              have hp2 := (hI.pr t (by omega)).2
              refine lv_bipush (v := 9) hx hb dX6_nines_43 rfl ?_
              refine lv_irem hx hb dX6_nines_45 (by decide) ?_
              refine fx_ti (pk_rem (a := nn (sa (8 + t))) (d := 9) (by omega) (by omega) (by omega)) ?_
              refine lv_if_ne (tgt := 53) hx hb dX6_nines_46 (by decide) (fun c_46 => ?_) (fun c_46 => ?_)
              · -- jump 53
                have n_46 := fx_eq0 (a := ((nn (sa (8 + t))) % 9)) (b := 0) c_46 (by omega) (by omega)
                refine lv_iconst (v := 0) hx hb dX6_nines_53 rfl ?_
                refine lv_istore_n (lv' := [(2, .int 0), (3, .int (nI t)), (0, .ref (ad 30)), (1, .int til)]) hx hb dX6_nines_54 rfl hl (by decide) rfl (fun ls hl => ?_)
                refine lv_iinc (v := nI (t + 1)) (lv' := [(3, .int (nI (t + 1))), (2, .int 0), (0, .ref (ad 30)), (1, .int til)]) hx hb dX6_nines_55 hl (k := 1) rfl (fx_inc _) (by decide) rfl (fun ls hl => ?_)
                refine lv_goto (tgt := 24) hx hb dX6_nines_58 (by decide) ?_
                exact ih_24 (t + 1) 0 (by omega) (by omega) (stk_f2 (fun hh => n_46 (of_decide_eq_true hh))) _ _ hP hD hS ls (lv_sub hl [0, 1, 2, 3] rfl)
              · -- fall 49
                have n_46 := fx_eq1 (a := ((nn (sa (8 + t))) % 9)) (b := 0) c_46 (by omega) (by omega)
                refine lv_iconst (v := 1) hx hb dX6_nines_49 rfl ?_
                refine lv_goto (tgt := 54) hx hb dX6_nines_50 (by decide) ?_
                refine lv_istore_n (lv' := [(2, .int 1), (3, .int (nI t)), (0, .ref (ad 30)), (1, .int til)]) hx hb dX6_nines_54 rfl hl (by decide) rfl (fun ls hl => ?_)
                refine lv_iinc (v := nI (t + 1)) (lv' := [(3, .int (nI (t + 1))), (2, .int 1), (0, .ref (ad 30)), (1, .int til)]) hx hb dX6_nines_55 hl (k := 1) rfl (fx_inc _) (by decide) rfl (fun ls hl => ?_)
                refine lv_goto (tgt := 24) hx hb dX6_nines_58 (by decide) ?_
                exact ih_24 (t + 1) 1 (by omega) (by omega) (stk_t hbz c_31 (decide_eq_true n_46)) _ _ hP hD hS ls (lv_sub hl [0, 1, 2, 3] rfl)
      exact loop_24 ((8 - 0) + 1) 0 1 (Nat.lt_succ_self _) (by omega) (fx_bt rfl) _ _ hP hD hS ls (lv_sub hl [0, 1, 2, 3] rfl)
  · -- False
    subst hr_3
    refine lv_if_ne (tgt := 15) hx hb dX6_nines_6 (by decide) (fun c => (c (by decide)).elim) (fun _ => ?_)
    refine lv_aload_n hx hb dX6_nines_9 rfl (lv_at hl 0 rfl) ?_
    refine lv_iconst (v := 1) hx hb dX6_nines_10 rfl ?_
    refine fx_ci (va_runV (As := [.int 1]) (rest := []) X (mX6_error l E ad im at_ op st_ us bn bm la fo fi lp tr_ sp ip er 1 (by decide) _) (cwV 1 X.2.2.2.2 (lw_V q1266 q1268 qs32 q75 q1269) rfl rfl rfl ⟨rfl, hdX6_error⟩ ⟨Nat.le_of_ble_eq_true rfl, Nat.le_of_ble_eq_true rfl⟩) (fx_preV (fx_pre hE hP hD hS hR [1] rfl rfl (fx_rcm 0 rfl (by decide) fx_rc0)) (va_recv hE.1 hP (ci := 6) (q0 := 0) rfl rfl)) rfl rfl hl.1 rfl (lv_room (Nat.le_of_ble_eq_true rfl)) dX6_nines_11 ⟨Nat.le_refl _, Nat.le_refl _⟩) hP hD hS hA [1] rfl rfl (fun r_11 u H locs hq_11 hP hD hS => ?_)
    replace hP : va_P E.1 clA [(ad 30, .inr (6, [.ref (ad 0), .ref (ad 1), .int im, .ref (ad 3), .int at_, .int op, .int st_, .int us, .ref (ad 8), .ref (ad 9), .ref (ad 10), .ref (ad 11), .ref (ad 12), .ref (ad 13), .ref (ad 14), .int bn, .int bm, .ref (ad 17), .int la, .int fo, .int fi, .int lp, .ref (ad 22), .int tr_, .int sp, .int ip, .ref (ad 26), .ref (ad 27), .ref (ad 28), .ref (ad 29)])), (ad 3, .inl (E.2 0, 7, .inl (upd er 1 (er 1 + 1)))), (ad 9, .inl (E.2 0, 128, .inl nmd)), (ad 10, .inl (E.2 0, 64, .inl pl)), (ad 13, .inl (E.2 0, 8, .inl rw_))] _ := hP
    replace hD : va_D A [(ad 30, .inr (6, [.ref (ad 0), .ref (ad 1), .int im, .ref (ad 3), .int at_, .int op, .int st_, .int us, .ref (ad 8), .ref (ad 9), .ref (ad 10), .ref (ad 11), .ref (ad 12), .ref (ad 13), .ref (ad 14), .int bn, .int bm, .ref (ad 17), .int la, .int fo, .int fi, .int lp, .ref (ad 22), .int tr_, .int sp, .int ip, .ref (ad 26), .ref (ad 27), .ref (ad 28), .ref (ad 29)])), (ad 3, .inl (E.2 0, 7, .inl (upd er 1 (er 1 + 1)))), (ad 9, .inl (E.2 0, 128, .inl nmd)), (ad 10, .inl (E.2 0, 64, .inl pl)), (ad 13, .inl (E.2 0, 8, .inl rw_))] := hD
    replace hq_11 : r_11 = erv 1 := hq_11
    exact hret r_11 (fo, fi, lp, (upd er 1 (er 1 + 1)), nmd, pl, rw_) (by rw [hq_11]; simp [nines_, hb_3, erI]) (rfl) hP hD hS (Nat.le_refl _) (Nat.le_refl _) dX6_nines_14
abbrev rmX6_wasIn : Room := { frames := 20, cells := 0, slots := 0, locals := 665 }
set_option maxHeartbeats 400000 in
set_option maxRecDepth 100000 in
theorem mX6_wasIn (l : Launch) (E : fx_En) (ad : Nat → Nat) (im : Int32) (at_ : Int32) (op : Int32) (st_ : Int32) (us : Int32) (bn : Int32) (bm : Int32) (la : Int32) (fo : Int32) (fi : Int32) (lp : Int32) (tr_ : Int32) (sp : Int32) (ip : Int32) (sa : Nat → Int32) (er : Nat → Int32) (nmd : Nat → Int32) (pl : Nat → Int32) (rw_ : Nat → Int32) (til : Int32) (pd : Int32) (wh : Int32) (T : Tx) (hI : Inv sa) (hT : TM sa 0 T) (hTo : TOk T) : fx_Mi l yX6_wasIn cX6_wasIn 4 .int rmX6_wasIn E [.ref (ad 30), .int til, .int pd, .int wh] [(ad 30, .inr (6, [.ref (ad 0), .ref (ad 1), .int im, .ref (ad 3), .int at_, .int op, .int st_, .int us, .ref (ad 8), .ref (ad 9), .ref (ad 10), .ref (ad 11), .ref (ad 12), .ref (ad 13), .ref (ad 14), .int bn, .int bm, .ref (ad 17), .int la, .int fo, .int fi, .int lp, .ref (ad 22), .int tr_, .int sp, .int ip, .ref (ad 26), .ref (ad 27), .ref (ad 28), .ref (ad 29)])), (ad 3, .inl (E.2 0, 7, .inl er)), (ad 9, .inl (E.2 0, 128, .inl nmd)), (ad 10, .inl (E.2 0, 64, .inl pl)), (ad 13, .inl (E.2 0, 8, .inl rw_))] [(ad 0, .inl (E.2 0, 374, .inl sa))] (S := Int32 × Int32 × Int32 × (Nat → Int32) × (Nat → Int32) × (Nat → Int32) × (Nat → Int32)) (fun (u : Int32 × Int32 × Int32 × (Nat → Int32) × (Nat → Int32) × (Nat → Int32) × (Nat → Int32)) => [(ad 30, .inr (6, [.ref (ad 0), .ref (ad 1), .int im, .ref (ad 3), .int at_, .int op, .int st_, .int us, .ref (ad 8), .ref (ad 9), .ref (ad 10), .ref (ad 11), .ref (ad 12), .ref (ad 13), .ref (ad 14), .int bn, .int bm, .ref (ad 17), .int la, .int u.1, .int u.2.1, .int u.2.2.1, .ref (ad 22), .int tr_, .int sp, .int ip, .ref (ad 26), .ref (ad 27), .ref (ad 28), .ref (ad 29)])), (ad 3, .inl (E.2 0, 7, .inl u.2.2.2.1)), (ad 9, .inl (E.2 0, 128, .inl u.2.2.2.2.1)), (ad 10, .inl (E.2 0, 64, .inl u.2.2.2.2.2.1)), (ad 13, .inl (E.2 0, 8, .inl u.2.2.2.2.2.2))]) (fun (r : Int32) (u : Int32 × Int32 × Int32 × (Nat → Int32) × (Nat → Int32) × (Nat → Int32) × (Nat → Int32)) => (r, u.2.2.2.1) = wasIn_ sa er T til pd wh) := by
  refine fx_iW rfl rfl ?_
  intro p e s m args below meth c A ls Q X hE hP hD hR hA hl hret
  have hx := X.1
  have hb := X.2.1
  have hS : va_S A s.heap s.heap [] := va_S.rf
  replace hP : va_P E.1 clA [(ad 30, .inr (6, [.ref (ad 0), .ref (ad 1), .int im, .ref (ad 3), .int at_, .int op, .int st_, .int us, .ref (ad 8), .ref (ad 9), .ref (ad 10), .ref (ad 11), .ref (ad 12), .ref (ad 13), .ref (ad 14), .int bn, .int bm, .ref (ad 17), .int la, .int fo, .int fi, .int lp, .ref (ad 22), .int tr_, .int sp, .int ip, .ref (ad 26), .ref (ad 27), .ref (ad 28), .ref (ad 29)])), (ad 3, .inl (E.2 0, 7, .inl er)), (ad 9, .inl (E.2 0, 128, .inl nmd)), (ad 10, .inl (E.2 0, 64, .inl pl)), (ad 13, .inl (E.2 0, 8, .inl rw_))] _ := hP
  replace hD : va_D A [(ad 30, .inr (6, [.ref (ad 0), .ref (ad 1), .int im, .ref (ad 3), .int at_, .int op, .int st_, .int us, .ref (ad 8), .ref (ad 9), .ref (ad 10), .ref (ad 11), .ref (ad 12), .ref (ad 13), .ref (ad 14), .int bn, .int bm, .ref (ad 17), .int la, .int fo, .int fi, .int lp, .ref (ad 22), .int tr_, .int sp, .int ip, .ref (ad 26), .ref (ad 27), .ref (ad 28), .ref (ad 29)])), (ad 3, .inl (E.2 0, 7, .inl er)), (ad 9, .inl (E.2 0, 128, .inl nmd)), (ad 10, .inl (E.2 0, 64, .inl pl)), (ad 13, .inl (E.2 0, 8, .inl rw_))] := hD
  replace hl : lv_has ls 4 [(0, .ref (ad 30)), (1, .int til), (2, .int pd), (3, .int wh)] := hl
  refine lv_iload_n hx hb dX6_wasIn_0 rfl (lv_at hl 1 rfl) ?_
  refine fx_ci (va_runS (As := [.int til]) (rest := []) X (mX6_isTill l E til _) (va_cwS 1 X.2.2.2.2 (lw_S q1357 q1358 q75 q1359) rfl rfl rfl hdX6_isTill ⟨Nat.le_of_ble_eq_true rfl, Nat.le_of_ble_eq_true rfl⟩) (fx_pre hE hP hD hS hR [] rfl rfl fx_rc0) rfl rfl hl.1 rfl (lv_room (Nat.le_of_ble_eq_true rfl)) dX6_wasIn_1 ⟨Nat.le_refl _, Nat.le_refl _⟩) hP hD hS hA [] rfl rfl (fun r_1 u H locs hq_1 hP hD hS => ?_)
  replace hP : va_P E.1 clA [(ad 30, .inr (6, [.ref (ad 0), .ref (ad 1), .int im, .ref (ad 3), .int at_, .int op, .int st_, .int us, .ref (ad 8), .ref (ad 9), .ref (ad 10), .ref (ad 11), .ref (ad 12), .ref (ad 13), .ref (ad 14), .int bn, .int bm, .ref (ad 17), .int la, .int fo, .int fi, .int lp, .ref (ad 22), .int tr_, .int sp, .int ip, .ref (ad 26), .ref (ad 27), .ref (ad 28), .ref (ad 29)])), (ad 3, .inl (E.2 0, 7, .inl er)), (ad 9, .inl (E.2 0, 128, .inl nmd)), (ad 10, .inl (E.2 0, 64, .inl pl)), (ad 13, .inl (E.2 0, 8, .inl rw_))] _ := hP
  replace hD : va_D A [(ad 30, .inr (6, [.ref (ad 0), .ref (ad 1), .int im, .ref (ad 3), .int at_, .int op, .int st_, .int us, .ref (ad 8), .ref (ad 9), .ref (ad 10), .ref (ad 11), .ref (ad 12), .ref (ad 13), .ref (ad 14), .int bn, .int bm, .ref (ad 17), .int la, .int fo, .int fi, .int lp, .ref (ad 22), .int tr_, .int sp, .int ip, .ref (ad 26), .ref (ad 27), .ref (ad 28), .ref (ad 29)])), (ad 3, .inl (E.2 0, 7, .inl er)), (ad 9, .inl (E.2 0, 128, .inl nmd)), (ad 10, .inl (E.2 0, 64, .inl pl)), (ad 13, .inl (E.2 0, 8, .inl rw_))] := hD
  replace hq_1 : r_1 = fx_b (inB til 0 3 = true) := hq_1
  rcases fx_bc hq_1 with ⟨hb_1, hr_1⟩ | ⟨hb_1, hr_1⟩
  · -- True
    subst hr_1
    refine lv_if_eq (tgt := 27) hx hb dX6_wasIn_4 (by decide) (fun c => absurd c (by decide)) (fun _ => ?_)
    refine lv_iload_n hx hb dX6_wasIn_7 rfl (lv_at hl 2 rfl) ?_
    refine lv_iconst (v := 0) hx hb dX6_wasIn_8 rfl ?_
    refine lv_sipush (v := 9999) hx hb dX6_wasIn_9 rfl ?_
    refine fx_ci (va_runS (As := [.int pd, .int 0, .int 9999]) (rest := []) X (mX6_in l E pd 0 9999 _) (va_cwS 3 X.2.2.2.2 (lw_S q1263 q1264 q75 q1265) rfl rfl rfl hdX6_in ⟨Nat.le_of_ble_eq_true rfl, Nat.le_of_ble_eq_true rfl⟩) (fx_pre hE hP hD hS hR [] rfl rfl fx_rc0) rfl rfl hl.1 rfl (lv_room (Nat.le_of_ble_eq_true rfl)) dX6_wasIn_12 ⟨Nat.le_refl _, Nat.le_refl _⟩) hP hD hS hA [] rfl rfl (fun r_12 u H locs hq_12 hP hD hS => ?_)
    replace hP : va_P E.1 clA [(ad 30, .inr (6, [.ref (ad 0), .ref (ad 1), .int im, .ref (ad 3), .int at_, .int op, .int st_, .int us, .ref (ad 8), .ref (ad 9), .ref (ad 10), .ref (ad 11), .ref (ad 12), .ref (ad 13), .ref (ad 14), .int bn, .int bm, .ref (ad 17), .int la, .int fo, .int fi, .int lp, .ref (ad 22), .int tr_, .int sp, .int ip, .ref (ad 26), .ref (ad 27), .ref (ad 28), .ref (ad 29)])), (ad 3, .inl (E.2 0, 7, .inl er)), (ad 9, .inl (E.2 0, 128, .inl nmd)), (ad 10, .inl (E.2 0, 64, .inl pl)), (ad 13, .inl (E.2 0, 8, .inl rw_))] _ := hP
    replace hD : va_D A [(ad 30, .inr (6, [.ref (ad 0), .ref (ad 1), .int im, .ref (ad 3), .int at_, .int op, .int st_, .int us, .ref (ad 8), .ref (ad 9), .ref (ad 10), .ref (ad 11), .ref (ad 12), .ref (ad 13), .ref (ad 14), .int bn, .int bm, .ref (ad 17), .int la, .int fo, .int fi, .int lp, .ref (ad 22), .int tr_, .int sp, .int ip, .ref (ad 26), .ref (ad 27), .ref (ad 28), .ref (ad 29)])), (ad 3, .inl (E.2 0, 7, .inl er)), (ad 9, .inl (E.2 0, 128, .inl nmd)), (ad 10, .inl (E.2 0, 64, .inl pl)), (ad 13, .inl (E.2 0, 8, .inl rw_))] := hD
    replace hq_12 : r_12 = fx_b (inB pd 0 9999 = true) := hq_12
    rcases fx_bc hq_12 with ⟨hb_12, hr_12⟩ | ⟨hb_12, hr_12⟩
    · -- True
      subst hr_12
      refine lv_if_eq (tgt := 27) hx hb dX6_wasIn_15 (by decide) (fun c => absurd c (by decide)) (fun _ => ?_)
      refine lv_iload_n hx hb dX6_wasIn_18 rfl (lv_at hl 3 rfl) ?_
      refine lv_iconst (v := 0) hx hb dX6_wasIn_19 rfl ?_
      refine lv_iconst (v := 1) hx hb dX6_wasIn_20 rfl ?_
      refine fx_ci (va_runS (As := [.int wh, .int 0, .int 1]) (rest := []) X (mX6_in l E wh 0 1 _) (va_cwS 3 X.2.2.2.2 (lw_S q1263 q1264 q75 q1265) rfl rfl rfl hdX6_in ⟨Nat.le_of_ble_eq_true rfl, Nat.le_of_ble_eq_true rfl⟩) (fx_pre hE hP hD hS hR [] rfl rfl fx_rc0) rfl rfl hl.1 rfl (lv_room (Nat.le_of_ble_eq_true rfl)) dX6_wasIn_21 ⟨Nat.le_refl _, Nat.le_refl _⟩) hP hD hS hA [] rfl rfl (fun r_21 u H locs hq_21 hP hD hS => ?_)
      replace hP : va_P E.1 clA [(ad 30, .inr (6, [.ref (ad 0), .ref (ad 1), .int im, .ref (ad 3), .int at_, .int op, .int st_, .int us, .ref (ad 8), .ref (ad 9), .ref (ad 10), .ref (ad 11), .ref (ad 12), .ref (ad 13), .ref (ad 14), .int bn, .int bm, .ref (ad 17), .int la, .int fo, .int fi, .int lp, .ref (ad 22), .int tr_, .int sp, .int ip, .ref (ad 26), .ref (ad 27), .ref (ad 28), .ref (ad 29)])), (ad 3, .inl (E.2 0, 7, .inl er)), (ad 9, .inl (E.2 0, 128, .inl nmd)), (ad 10, .inl (E.2 0, 64, .inl pl)), (ad 13, .inl (E.2 0, 8, .inl rw_))] _ := hP
      replace hD : va_D A [(ad 30, .inr (6, [.ref (ad 0), .ref (ad 1), .int im, .ref (ad 3), .int at_, .int op, .int st_, .int us, .ref (ad 8), .ref (ad 9), .ref (ad 10), .ref (ad 11), .ref (ad 12), .ref (ad 13), .ref (ad 14), .int bn, .int bm, .ref (ad 17), .int la, .int fo, .int fi, .int lp, .ref (ad 22), .int tr_, .int sp, .int ip, .ref (ad 26), .ref (ad 27), .ref (ad 28), .ref (ad 29)])), (ad 3, .inl (E.2 0, 7, .inl er)), (ad 9, .inl (E.2 0, 128, .inl nmd)), (ad 10, .inl (E.2 0, 64, .inl pl)), (ad 13, .inl (E.2 0, 8, .inl rw_))] := hD
      replace hq_21 : r_21 = fx_b (inB wh 0 1 = true) := hq_21
      rcases fx_bc hq_21 with ⟨hb_21, hr_21⟩ | ⟨hb_21, hr_21⟩
      · -- True
        subst hr_21
        refine lv_if_ne (tgt := 33) hx hb dX6_wasIn_24 (by decide) (fun _ => ?_) (fun c => absurd c (by decide))
        refine lv_aload_n hx hb dX6_wasIn_33 rfl (lv_at hl 0 rfl) ?_
        refine lv_iload_n hx hb dX6_wasIn_34 rfl (lv_at hl 1 rfl) ?_
        refine fx_ti (show til = nI (nn til) from (inB_nn (n := 3) hb_1 (by omega)).1) ?_
        refine lv_iload_n hx hb dX6_wasIn_35 rfl (lv_at hl 2 rfl) ?_
        refine fx_cv (va_runV (As := [.int (nI (nn til)), .int pd]) (rest := []) X (mX6_allSmall l E ad im at_ op st_ us bn bm la fo fi lp tr_ sp ip sa nmd pl rw_ (nn til) pd T (by have := (inB_nn (n := 3) hb_1 (by omega)).2; omega) (by first | assumption | omega) (by first | assumption | omega) (by first | assumption | omega) _) (cwV 2 X.2.2.2.2 (lw_V q1494 q1496 qs61 q75 q1497) rfl rfl rfl ⟨rfl, hdX6_allSmall⟩ ⟨Nat.le_of_ble_eq_true rfl, Nat.le_of_ble_eq_true rfl⟩) (fx_preV (fx_pre hE hP hD hS hR [0, 2, 3, 4] rfl rfl (fx_rcr 0 rfl fx_rc0)) (va_recv hE.1 hP (ci := 6) (q0 := 0) rfl rfl)) rfl rfl hl.1 rfl (lv_room (Nat.le_of_ble_eq_true rfl)) dX6_wasIn_36 ⟨Nat.le_refl _, Nat.le_refl _⟩) hP hD hS hA [0, 2, 3, 4] rfl rfl (fun u H locs hq_36 hP hD hS => ?_)
        obtain ⟨fo2_36, fi2_36, lp2_36, nm2_36, pl2_36, rw2_36⟩ := u
        replace hP : va_P E.1 clA [(ad 30, .inr (6, [.ref (ad 0), .ref (ad 1), .int im, .ref (ad 3), .int at_, .int op, .int st_, .int us, .ref (ad 8), .ref (ad 9), .ref (ad 10), .ref (ad 11), .ref (ad 12), .ref (ad 13), .ref (ad 14), .int bn, .int bm, .ref (ad 17), .int la, .int fo2_36, .int fi2_36, .int lp2_36, .ref (ad 22), .int tr_, .int sp, .int ip, .ref (ad 26), .ref (ad 27), .ref (ad 28), .ref (ad 29)])), (ad 3, .inl (E.2 0, 7, .inl er)), (ad 9, .inl (E.2 0, 128, .inl nm2_36)), (ad 10, .inl (E.2 0, 64, .inl pl2_36)), (ad 13, .inl (E.2 0, 8, .inl rw2_36))] _ := hP
        replace hD : va_D A [(ad 30, .inr (6, [.ref (ad 0), .ref (ad 1), .int im, .ref (ad 3), .int at_, .int op, .int st_, .int us, .ref (ad 8), .ref (ad 9), .ref (ad 10), .ref (ad 11), .ref (ad 12), .ref (ad 13), .ref (ad 14), .int bn, .int bm, .ref (ad 17), .int la, .int fo2_36, .int fi2_36, .int lp2_36, .ref (ad 22), .int tr_, .int sp, .int ip, .ref (ad 26), .ref (ad 27), .ref (ad 28), .ref (ad 29)])), (ad 3, .inl (E.2 0, 7, .inl er)), (ad 9, .inl (E.2 0, 128, .inl nm2_36)), (ad 10, .inl (E.2 0, 64, .inl pl2_36)), (ad 13, .inl (E.2 0, 8, .inl rw2_36))] := hD
        replace hq_36 : (fo2_36, fi2_36, lp2_36) = smF sa T (nn til) pd := hq_36
        refine lv_iload_n hx hb dX6_wasIn_39 rfl (lv_at hl 3 rfl) ?_
        refine lv_if_ne (tgt := 50) hx hb dX6_wasIn_40 (by decide) (fun c_40 => ?_) (fun c_40 => ?_)
        · -- jump 50
          refine lv_aload_n hx hb dX6_wasIn_50 rfl (lv_at hl 0 rfl) ?_
          refine fx_get X hE hP 0 rfl rfl 20 rfl q1188 rfl rfl dX6_wasIn_51 ?_
          refine lv_iconst (v := (-1)) hx hb dX6_wasIn_54 rfl ?_
          refine lv_icmp_ne (tgt := 66) hx hb dX6_wasIn_55 (by decide) (fun c_55 => ?_) (fun c_55 => ?_)
          · -- jump 66
            refine lv_aload_n hx hb dX6_wasIn_66 rfl (lv_at hl 0 rfl) ?_
            refine fx_get X hE hP 0 rfl rfl 20 rfl q1188 rfl rfl dX6_wasIn_67 ?_
            exact hret fi2_36 (fo2_36, fi2_36, lp2_36, er, nm2_36, pl2_36, rw2_36) (by rw [wasIn_, if_pos (by simp [hb_1, hb_12, hb_21]), ← hq_36]; rw [if_neg c_40, if_neg c_55]) (rfl) hP hD hS (Nat.le_refl _) (Nat.le_refl _) dX6_wasIn_70
          · -- fall 58
            refine lv_aload_n hx hb dX6_wasIn_58 rfl (lv_at hl 0 rfl) ?_
            refine lv_iconst (v := 2) hx hb dX6_wasIn_59 rfl ?_
            refine fx_ci (va_runV (As := [.int 2]) (rest := []) X (mX6_error l E ad im at_ op st_ us bn bm la fo2_36 fi2_36 lp2_36 tr_ sp ip er 2 (by decide) _) (cwV 1 X.2.2.2.2 (lw_V q1266 q1268 qs32 q75 q1269) rfl rfl rfl ⟨rfl, hdX6_error⟩ ⟨Nat.le_of_ble_eq_true rfl, Nat.le_of_ble_eq_true rfl⟩) (fx_preV (fx_pre hE hP hD hS hR [1] rfl rfl (fx_rcm 0 rfl (by decide) fx_rc0)) (va_recv hE.1 hP (ci := 6) (q0 := 0) rfl rfl)) rfl rfl hl.1 rfl (lv_room (Nat.le_of_ble_eq_true rfl)) dX6_wasIn_60 ⟨Nat.le_refl _, Nat.le_refl _⟩) hP hD hS hA [1] rfl rfl (fun r_60 u H locs hq_60 hP hD hS => ?_)
            replace hP : va_P E.1 clA [(ad 30, .inr (6, [.ref (ad 0), .ref (ad 1), .int im, .ref (ad 3), .int at_, .int op, .int st_, .int us, .ref (ad 8), .ref (ad 9), .ref (ad 10), .ref (ad 11), .ref (ad 12), .ref (ad 13), .ref (ad 14), .int bn, .int bm, .ref (ad 17), .int la, .int fo2_36, .int fi2_36, .int lp2_36, .ref (ad 22), .int tr_, .int sp, .int ip, .ref (ad 26), .ref (ad 27), .ref (ad 28), .ref (ad 29)])), (ad 3, .inl (E.2 0, 7, .inl (upd er 2 (er 2 + 1)))), (ad 9, .inl (E.2 0, 128, .inl nm2_36)), (ad 10, .inl (E.2 0, 64, .inl pl2_36)), (ad 13, .inl (E.2 0, 8, .inl rw2_36))] _ := hP
            replace hD : va_D A [(ad 30, .inr (6, [.ref (ad 0), .ref (ad 1), .int im, .ref (ad 3), .int at_, .int op, .int st_, .int us, .ref (ad 8), .ref (ad 9), .ref (ad 10), .ref (ad 11), .ref (ad 12), .ref (ad 13), .ref (ad 14), .int bn, .int bm, .ref (ad 17), .int la, .int fo2_36, .int fi2_36, .int lp2_36, .ref (ad 22), .int tr_, .int sp, .int ip, .ref (ad 26), .ref (ad 27), .ref (ad 28), .ref (ad 29)])), (ad 3, .inl (E.2 0, 7, .inl (upd er 2 (er 2 + 1)))), (ad 9, .inl (E.2 0, 128, .inl nm2_36)), (ad 10, .inl (E.2 0, 64, .inl pl2_36)), (ad 13, .inl (E.2 0, 8, .inl rw2_36))] := hD
            replace hq_60 : r_60 = erv 2 := hq_60
            refine lv_goto (tgt := 70) hx hb dX6_wasIn_63 (by decide) ?_
            exact hret r_60 (fo2_36, fi2_36, lp2_36, (upd er 2 (er 2 + 1)), nm2_36, pl2_36, rw2_36) (by rw [wasIn_, if_pos (by simp [hb_1, hb_12, hb_21]), ← hq_36]; rw [if_neg c_40, if_pos c_55, hq_60]; rfl) (rfl) hP hD hS (Nat.le_refl _) (Nat.le_refl _) dX6_wasIn_70
        · -- fall 43
          refine lv_aload_n hx hb dX6_wasIn_43 rfl (lv_at hl 0 rfl) ?_
          refine fx_get X hE hP 0 rfl rfl 19 rfl q1187 rfl rfl dX6_wasIn_44 ?_
          refine lv_goto (tgt := 70) hx hb dX6_wasIn_47 (by decide) ?_
          exact hret fo2_36 (fo2_36, fi2_36, lp2_36, er, nm2_36, pl2_36, rw2_36) (by rw [wasIn_, if_pos (by simp [hb_1, hb_12, hb_21]), ← hq_36]; rw [if_pos c_40]) (rfl) hP hD hS (Nat.le_refl _) (Nat.le_refl _) dX6_wasIn_70
      · -- False
        subst hr_21
        refine lv_if_ne (tgt := 33) hx hb dX6_wasIn_24 (by decide) (fun c => (c (by decide)).elim) (fun _ => ?_)
        refine lv_aload_n hx hb dX6_wasIn_27 rfl (lv_at hl 0 rfl) ?_
        refine lv_iconst (v := 1) hx hb dX6_wasIn_28 rfl ?_
        refine fx_ci (va_runV (As := [.int 1]) (rest := []) X (mX6_error l E ad im at_ op st_ us bn bm la fo fi lp tr_ sp ip er 1 (by decide) _) (cwV 1 X.2.2.2.2 (lw_V q1266 q1268 qs32 q75 q1269) rfl rfl rfl ⟨rfl, hdX6_error⟩ ⟨Nat.le_of_ble_eq_true rfl, Nat.le_of_ble_eq_true rfl⟩) (fx_preV (fx_pre hE hP hD hS hR [1] rfl rfl (fx_rcm 0 rfl (by decide) fx_rc0)) (va_recv hE.1 hP (ci := 6) (q0 := 0) rfl rfl)) rfl rfl hl.1 rfl (lv_room (Nat.le_of_ble_eq_true rfl)) dX6_wasIn_29 ⟨Nat.le_refl _, Nat.le_refl _⟩) hP hD hS hA [1] rfl rfl (fun r_29 u H locs hq_29 hP hD hS => ?_)
        replace hP : va_P E.1 clA [(ad 30, .inr (6, [.ref (ad 0), .ref (ad 1), .int im, .ref (ad 3), .int at_, .int op, .int st_, .int us, .ref (ad 8), .ref (ad 9), .ref (ad 10), .ref (ad 11), .ref (ad 12), .ref (ad 13), .ref (ad 14), .int bn, .int bm, .ref (ad 17), .int la, .int fo, .int fi, .int lp, .ref (ad 22), .int tr_, .int sp, .int ip, .ref (ad 26), .ref (ad 27), .ref (ad 28), .ref (ad 29)])), (ad 3, .inl (E.2 0, 7, .inl (upd er 1 (er 1 + 1)))), (ad 9, .inl (E.2 0, 128, .inl nmd)), (ad 10, .inl (E.2 0, 64, .inl pl)), (ad 13, .inl (E.2 0, 8, .inl rw_))] _ := hP
        replace hD : va_D A [(ad 30, .inr (6, [.ref (ad 0), .ref (ad 1), .int im, .ref (ad 3), .int at_, .int op, .int st_, .int us, .ref (ad 8), .ref (ad 9), .ref (ad 10), .ref (ad 11), .ref (ad 12), .ref (ad 13), .ref (ad 14), .int bn, .int bm, .ref (ad 17), .int la, .int fo, .int fi, .int lp, .ref (ad 22), .int tr_, .int sp, .int ip, .ref (ad 26), .ref (ad 27), .ref (ad 28), .ref (ad 29)])), (ad 3, .inl (E.2 0, 7, .inl (upd er 1 (er 1 + 1)))), (ad 9, .inl (E.2 0, 128, .inl nmd)), (ad 10, .inl (E.2 0, 64, .inl pl)), (ad 13, .inl (E.2 0, 8, .inl rw_))] := hD
        replace hq_29 : r_29 = erv 1 := hq_29
        exact hret r_29 (fo, fi, lp, (upd er 1 (er 1 + 1)), nmd, pl, rw_) (by rw [hq_29]; simp [wasIn_, erI, hb_1, hb_12, hb_21]) (rfl) hP hD hS (Nat.le_refl _) (Nat.le_refl _) dX6_wasIn_32
    · -- False
      subst hr_12
      refine lv_if_eq (tgt := 27) hx hb dX6_wasIn_15 (by decide) (fun _ => ?_) (fun c => (c (by decide)).elim)
      refine lv_aload_n hx hb dX6_wasIn_27 rfl (lv_at hl 0 rfl) ?_
      refine lv_iconst (v := 1) hx hb dX6_wasIn_28 rfl ?_
      refine fx_ci (va_runV (As := [.int 1]) (rest := []) X (mX6_error l E ad im at_ op st_ us bn bm la fo fi lp tr_ sp ip er 1 (by decide) _) (cwV 1 X.2.2.2.2 (lw_V q1266 q1268 qs32 q75 q1269) rfl rfl rfl ⟨rfl, hdX6_error⟩ ⟨Nat.le_of_ble_eq_true rfl, Nat.le_of_ble_eq_true rfl⟩) (fx_preV (fx_pre hE hP hD hS hR [1] rfl rfl (fx_rcm 0 rfl (by decide) fx_rc0)) (va_recv hE.1 hP (ci := 6) (q0 := 0) rfl rfl)) rfl rfl hl.1 rfl (lv_room (Nat.le_of_ble_eq_true rfl)) dX6_wasIn_29 ⟨Nat.le_refl _, Nat.le_refl _⟩) hP hD hS hA [1] rfl rfl (fun r_29 u H locs hq_29 hP hD hS => ?_)
      replace hP : va_P E.1 clA [(ad 30, .inr (6, [.ref (ad 0), .ref (ad 1), .int im, .ref (ad 3), .int at_, .int op, .int st_, .int us, .ref (ad 8), .ref (ad 9), .ref (ad 10), .ref (ad 11), .ref (ad 12), .ref (ad 13), .ref (ad 14), .int bn, .int bm, .ref (ad 17), .int la, .int fo, .int fi, .int lp, .ref (ad 22), .int tr_, .int sp, .int ip, .ref (ad 26), .ref (ad 27), .ref (ad 28), .ref (ad 29)])), (ad 3, .inl (E.2 0, 7, .inl (upd er 1 (er 1 + 1)))), (ad 9, .inl (E.2 0, 128, .inl nmd)), (ad 10, .inl (E.2 0, 64, .inl pl)), (ad 13, .inl (E.2 0, 8, .inl rw_))] _ := hP
      replace hD : va_D A [(ad 30, .inr (6, [.ref (ad 0), .ref (ad 1), .int im, .ref (ad 3), .int at_, .int op, .int st_, .int us, .ref (ad 8), .ref (ad 9), .ref (ad 10), .ref (ad 11), .ref (ad 12), .ref (ad 13), .ref (ad 14), .int bn, .int bm, .ref (ad 17), .int la, .int fo, .int fi, .int lp, .ref (ad 22), .int tr_, .int sp, .int ip, .ref (ad 26), .ref (ad 27), .ref (ad 28), .ref (ad 29)])), (ad 3, .inl (E.2 0, 7, .inl (upd er 1 (er 1 + 1)))), (ad 9, .inl (E.2 0, 128, .inl nmd)), (ad 10, .inl (E.2 0, 64, .inl pl)), (ad 13, .inl (E.2 0, 8, .inl rw_))] := hD
      replace hq_29 : r_29 = erv 1 := hq_29
      exact hret r_29 (fo, fi, lp, (upd er 1 (er 1 + 1)), nmd, pl, rw_) (by rw [hq_29]; simp [wasIn_, erI, hb_1, hb_12]) (rfl) hP hD hS (Nat.le_refl _) (Nat.le_refl _) dX6_wasIn_32
  · -- False
    subst hr_1
    refine lv_if_eq (tgt := 27) hx hb dX6_wasIn_4 (by decide) (fun _ => ?_) (fun c => (c (by decide)).elim)
    refine lv_aload_n hx hb dX6_wasIn_27 rfl (lv_at hl 0 rfl) ?_
    refine lv_iconst (v := 1) hx hb dX6_wasIn_28 rfl ?_
    refine fx_ci (va_runV (As := [.int 1]) (rest := []) X (mX6_error l E ad im at_ op st_ us bn bm la fo fi lp tr_ sp ip er 1 (by decide) _) (cwV 1 X.2.2.2.2 (lw_V q1266 q1268 qs32 q75 q1269) rfl rfl rfl ⟨rfl, hdX6_error⟩ ⟨Nat.le_of_ble_eq_true rfl, Nat.le_of_ble_eq_true rfl⟩) (fx_preV (fx_pre hE hP hD hS hR [1] rfl rfl (fx_rcm 0 rfl (by decide) fx_rc0)) (va_recv hE.1 hP (ci := 6) (q0 := 0) rfl rfl)) rfl rfl hl.1 rfl (lv_room (Nat.le_of_ble_eq_true rfl)) dX6_wasIn_29 ⟨Nat.le_refl _, Nat.le_refl _⟩) hP hD hS hA [1] rfl rfl (fun r_29 u H locs hq_29 hP hD hS => ?_)
    replace hP : va_P E.1 clA [(ad 30, .inr (6, [.ref (ad 0), .ref (ad 1), .int im, .ref (ad 3), .int at_, .int op, .int st_, .int us, .ref (ad 8), .ref (ad 9), .ref (ad 10), .ref (ad 11), .ref (ad 12), .ref (ad 13), .ref (ad 14), .int bn, .int bm, .ref (ad 17), .int la, .int fo, .int fi, .int lp, .ref (ad 22), .int tr_, .int sp, .int ip, .ref (ad 26), .ref (ad 27), .ref (ad 28), .ref (ad 29)])), (ad 3, .inl (E.2 0, 7, .inl (upd er 1 (er 1 + 1)))), (ad 9, .inl (E.2 0, 128, .inl nmd)), (ad 10, .inl (E.2 0, 64, .inl pl)), (ad 13, .inl (E.2 0, 8, .inl rw_))] _ := hP
    replace hD : va_D A [(ad 30, .inr (6, [.ref (ad 0), .ref (ad 1), .int im, .ref (ad 3), .int at_, .int op, .int st_, .int us, .ref (ad 8), .ref (ad 9), .ref (ad 10), .ref (ad 11), .ref (ad 12), .ref (ad 13), .ref (ad 14), .int bn, .int bm, .ref (ad 17), .int la, .int fo, .int fi, .int lp, .ref (ad 22), .int tr_, .int sp, .int ip, .ref (ad 26), .ref (ad 27), .ref (ad 28), .ref (ad 29)])), (ad 3, .inl (E.2 0, 7, .inl (upd er 1 (er 1 + 1)))), (ad 9, .inl (E.2 0, 128, .inl nmd)), (ad 10, .inl (E.2 0, 64, .inl pl)), (ad 13, .inl (E.2 0, 8, .inl rw_))] := hD
    replace hq_29 : r_29 = erv 1 := hq_29
    exact hret r_29 (fo, fi, lp, (upd er 1 (er 1 + 1)), nmd, pl, rw_) (by rw [hq_29]; simp [wasIn_, erI, hb_1]) (rfl) hP hD hS (Nat.le_refl _) (Nat.le_refl _) dX6_wasIn_32
abbrev rmX6_divisor : Room := { frames := 0, cells := 0, slots := 0, locals := 0 }
set_option maxHeartbeats 400000 in
set_option maxRecDepth 100000 in
theorem mX6_divisor (l : Launch) (E : fx_En) (a : Nat) (b : Nat) (ha : a < 2147483648) (hb2 : b < 2147483648) : fx_Mi l yX6_divisor cX6_divisor 5 .int rmX6_divisor E [.int (nI a), .int (nI b)] [] [] (S := Unit) (fun (u : Unit) => []) (fun (r : Int32) (u : Unit) => r = nI (Nat.gcd a b)) := by
  refine fx_iW rfl rfl ?_
  intro p e s m args below meth c A ls Q X hE hP hD hR hA hl hret
  have hx := X.1
  have hb := X.2.1
  have hS : va_S A s.heap s.heap [] := va_S.rf
  replace hl : lv_has ls 5 [(0, .int (nI a)), (1, .int (nI b))] := hl
  refine lv_iload_n hx hb dX6_divisor_0 rfl (lv_at hl 0 rfl) ?_
  refine lv_istore_n (lv' := [(2, .int (nI a)), (0, .int (nI a)), (1, .int (nI b))]) hx hb dX6_divisor_1 rfl hl (by decide) rfl (fun ls hl => ?_)
  refine lv_iload_n hx hb dX6_divisor_2 rfl (lv_at hl 2 rfl) ?_
  refine lv_istore_n (lv' := [(3, .int (nI b)), (2, .int (nI a)), (0, .int (nI a)), (1, .int (nI b))]) hx hb dX6_divisor_3 rfl hl (by decide) rfl (fun ls hl => ?_)
  have loop_4 : ∀ (n_4 : Nat) (x : Nat) (y : Nat), (y < n_4) → (Nat.gcd x y = Nat.gcd a b) → (x < 2147483648) → (y < 2147483648) → ∀ (H : Heap) (locs : List Loc), va_P E.1 clA [] H → va_D A [] → va_S A s.heap H locs → ∀ (ls : Array Slot), lv_has ls 5 [(3, .int (nI y)), (2, .int (nI x)), (0, .int (nI a)), (1, .int (nI b))] → W p l e rmX6_divisor s m args below meth c H locs 0 0 Q (F0 m 4 ls []) := by
    intro n_4
    induction n_4 with
    | zero => intro x y hm_4; exact absurd hm_4 (Nat.not_lt_zero _)
    | succ n_4 ih_4 =>
      intro x y hm_4 hg hx2 hy2 H locs hP hD hS ls hl
      refine lv_iload_n hx hb dX6_divisor_4 rfl (lv_at hl 0 rfl) ?_
      refine lv_if_eq (tgt := 21) hx hb dX6_divisor_5 (by decide) (fun c_5 => ?_) (fun c_5 => ?_)
      · -- jump 21
        have n_5 := fx_eq1 (a := y) (b := 0) c_5 (by omega) (by omega)
        obtain rfl : y = 0 := n_5
        refine lv_iload_n hx hb dX6_divisor_21 rfl (lv_at hl 1 rfl) ?_
        exact hret (nI x) () (congrArg nI (by rw [← hg, Nat.gcd_zero_right])) (rfl) hP hD hS (Nat.le_refl _) (Nat.le_refl _) dX6_divisor_22
      · -- fall 8
        have n_5 := fx_eq0 (a := y) (b := 0) c_5 (by omega) (by omega)
        refine lv_iload_n hx hb dX6_divisor_8 rfl (lv_at hl 1 rfl) ?_
        refine lv_iload_n hx hb dX6_divisor_9 rfl (lv_at hl 0 rfl) ?_
        refine lv_irem hx hb dX6_divisor_10 (nI_ne0 (by omega) (by omega)) ?_
        refine fx_ti (pk_rem (a := x) (d := y) (by omega) (by omega) (by omega)) ?_
        refine lv_istore (lv' := [(4, .int (nI (x % y))), (3, .int (nI y)), (2, .int (nI x)), (0, .int (nI a)), (1, .int (nI b))]) hx hb dX6_divisor_11 hl (by decide) rfl (fun ls hl => ?_)
        refine lv_iload_n hx hb dX6_divisor_13 rfl (lv_at hl 1 rfl) ?_
        refine lv_istore_n (lv' := [(2, .int (nI y)), (4, .int (nI (x % y))), (3, .int (nI y)), (0, .int (nI a)), (1, .int (nI b))]) hx hb dX6_divisor_14 rfl hl (by decide) rfl (fun ls hl => ?_)
        refine lv_iload hx hb dX6_divisor_15 (lv_at hl 1 rfl) ?_
        refine lv_istore_n (lv' := [(3, .int (nI (x % y))), (2, .int (nI y)), (4, .int (nI (x % y))), (0, .int (nI a)), (1, .int (nI b))]) hx hb dX6_divisor_17 rfl hl (by decide) rfl (fun ls hl => ?_)
        refine lv_goto (tgt := 4) hx hb dX6_divisor_18 (by decide) ?_
        exact ih_4 y (x % y) (by have := Nat.mod_lt x (show 0 < y by omega); omega) (gcd_s.trans hg) (by omega) (Nat.lt_trans (Nat.mod_lt _ (by omega)) hy2) _ _ hP hD hS ls (lv_sub hl [0, 1, 3, 4] rfl)
  exact loop_4 (b + 1) a b (Nat.lt_succ_self _) rfl (by omega) (by omega) _ _ hP hD hS ls (lv_sub hl [0, 1, 2, 3] rfl)
abbrev rmX6_erring : Room := { frames := 4, cells := 0, slots := 0, locals := 95 }
set_option maxHeartbeats 400000 in
set_option maxRecDepth 100000 in
theorem mX6_erring (l : Launch) (E : fx_En) (ad : Nat → Nat) (im : Int32) (at_ : Int32) (op : Int32) (st_ : Int32) (us : Int32) (bn : Int32) (bm : Int32) (la : Int32) (fo : Int32) (fi : Int32) (lp : Int32) (tr_ : Int32) (sp : Int32) (ip : Int32) (sa : Nat → Int32) (bt : Nat → Int32) (sz : Nat → Int32) (nu : Nat → Int32) (er : Nat → Int32) (nmd : Nat → Int32) (pl : Nat → Int32) (td : Nat → Int32) (sheet : Int32) (til : Int32) (od : Int32) (pa : Int32) (T : Tx) (hI : Inv sa) (hIS : InvS bt sz) (hT : TM sa 0 T) (hTo : TOk T) : fx_Ml l yX6_erring cX6_erring 10 rmX6_erring E [.ref (ad 30), .int sheet, .int til, .int od, .int pa] [(ad 3, .inl (E.2 0, 7, .inl er)), (ad 9, .inl (E.2 0, 128, .inl nmd)), (ad 10, .inl (E.2 0, 64, .inl pl)), (ad 11, .inl (E.2 0, 8, .inl td))] [(ad 30, .inr (6, [.ref (ad 0), .ref (ad 1), .int im, .ref (ad 3), .int at_, .int op, .int st_, .int us, .ref (ad 8), .ref (ad 9), .ref (ad 10), .ref (ad 11), .ref (ad 12), .ref (ad 13), .ref (ad 14), .int bn, .int bm, .ref (ad 17), .int la, .int fo, .int fi, .int lp, .ref (ad 22), .int tr_, .int sp, .int ip, .ref (ad 26), .ref (ad 27), .ref (ad 28), .ref (ad 29)])), (ad 0, .inl (E.2 0, 374, .inl sa)), (ad 26, .inl (E.2 0, 4, .inl bt)), (ad 27, .inl (E.2 0, 4, .inl sz)), (ad 28, .inl (E.2 0, 96, .inl nu))] (S := (Nat → Int32) × (Nat → Int32) × (Nat → Int32) × (Nat → Int32)) (fun (u : (Nat → Int32) × (Nat → Int32) × (Nat → Int32) × (Nat → Int32)) => [(ad 3, .inl (E.2 0, 7, .inl u.1)), (ad 9, .inl (E.2 0, 128, .inl u.2.1)), (ad 10, .inl (E.2 0, 64, .inl u.2.2.1)), (ad 11, .inl (E.2 0, 8, .inl u.2.2.2))]) (fun (r : Int64) (u : (Nat → Int32) × (Nat → Int32) × (Nat → Int32) × (Nat → Int32)) => (r, u.1) = erring_ sa er bt sz nu T sheet til od pa) := by
  refine fx_lW rfl rfl ?_
  intro p e s m args below meth c A ls Q X hE hP hD hR hA hl hret
  have hx := X.1
  have hb := X.2.1
  have hS : va_S A s.heap s.heap [] := va_S.rf
  replace hP : va_P E.1 clA [(ad 3, .inl (E.2 0, 7, .inl er)), (ad 9, .inl (E.2 0, 128, .inl nmd)), (ad 10, .inl (E.2 0, 64, .inl pl)), (ad 11, .inl (E.2 0, 8, .inl td))] _ := hP
  replace hD : va_D A [(ad 3, .inl (E.2 0, 7, .inl er)), (ad 9, .inl (E.2 0, 128, .inl nmd)), (ad 10, .inl (E.2 0, 64, .inl pl)), (ad 11, .inl (E.2 0, 8, .inl td))] := hD
  replace hl : lv_has ls 10 [(0, .ref (ad 30)), (1, .int sheet), (2, .int til), (3, .int od), (4, .int pa)] := hl
  refine lv_iload_n hx hb dX6_erring_0 rfl (lv_at hl 3 rfl) ?_
  refine lv_if_lt (tgt := 41) hx hb dX6_erring_1 (by decide) (fun c_1 => ?_) (fun c_1 => ?_)
  · -- jump 41
    refine lv_iconst (v := 0) hx hb dX6_erring_41 rfl ?_
    have hgd : (ogF od && inB pa 0 1) = false := by rw [ogF, decide_eq_false (Int32.not_le.2 c_1)]; rfl
    have hwc : errC bt sz nu sheet til od pa = lackF bt sz nu sheet til false 30 := by rw [errC, hgd]
    refine lv_istore (lv' := [(5, .int 0), (0, .ref (ad 30)), (1, .int sheet), (2, .int til), (3, .int od), (4, .int pa)]) hx hb dX6_erring_42 hl (by decide) rfl (fun ls hl => ?_)
    refine lv_aload_n hx hb dX6_erring_44 rfl (lv_at hl 1 rfl) ?_
    refine lv_iload_n hx hb dX6_erring_45 rfl (lv_at hl 2 rfl) ?_
    refine lv_iload_n hx hb dX6_erring_46 rfl (lv_at hl 3 rfl) ?_
    refine lv_iload hx hb dX6_erring_47 (lv_at hl 0 rfl) ?_
    refine lv_bipush (v := 30) hx hb dX6_erring_49 rfl ?_
    refine fx_ci (va_runV (As := [.int sheet, .int til, .int 0, .int 30]) (rest := []) X (mX6_lacks l E ad im at_ op st_ us bn bm la fo fi lp tr_ sp ip bt sz nu td sheet til 0 30 (by first | assumption | omega) (by decide) _) (cwV 4 X.2.2.2.2 (lw_V q1402 q1404 qs50 q75 q1405) rfl rfl rfl ⟨rfl, hdX6_lacks⟩ ⟨Nat.le_of_ble_eq_true rfl, Nat.le_of_ble_eq_true rfl⟩) (fx_preV (fx_pre hE hP hD hS hR [3] rfl rfl (fx_rcr 0 rfl (fx_rcr 2 rfl (fx_rcr 3 rfl (fx_rcr 4 rfl fx_rc0))))) (va_recv hE.1 (hR.at hS) (ci := 6) (q0 := 0) rfl rfl)) rfl rfl hl.1 rfl (lv_room (Nat.le_of_ble_eq_true rfl)) dX6_erring_51 ⟨Nat.le_refl _, Nat.le_refl _⟩) hP hD hS hA [3] rfl rfl (fun r_51 u H locs hq_51 hP hD hS => ?_)
    obtain ⟨td2_51, rfl⟩ : ∃ z, z = u := ⟨_, rfl⟩
    replace hP : va_P E.1 clA [(ad 3, .inl (E.2 0, 7, .inl er)), (ad 9, .inl (E.2 0, 128, .inl nmd)), (ad 10, .inl (E.2 0, 64, .inl pl)), (ad 11, .inl (E.2 0, 8, .inl td2_51))] _ := hP
    replace hD : va_D A [(ad 3, .inl (E.2 0, 7, .inl er)), (ad 9, .inl (E.2 0, 128, .inl nmd)), (ad 10, .inl (E.2 0, 64, .inl pl)), (ad 11, .inl (E.2 0, 8, .inl td2_51))] := hD
    replace hq_51 : r_51 = nI (lackF bt sz nu sheet til (decide (0 ≠ 0)) 30) ∧ (lackF bt sz nu sheet til (decide (0 ≠ 0)) 30 = 0 → ∀ t, t < 8 → td2_51 t = shG sz nu (nn sheet) t) := hq_51
    refine fx_ti (show r_51 = nI (errC bt sz nu sheet til od pa) from hq_51.1.trans (congrArg nI hwc.symm)) ?_
    have hcl : errC bt sz nu sheet til od pa ≤ 4 := lackF_le
    refine lv_istore (lv' := [(6, .int (nI (errC bt sz nu sheet til od pa))), (5, .int 0), (0, .ref (ad 30)), (1, .int sheet), (2, .int til), (3, .int od), (4, .int pa)]) hx hb dX6_erring_54 hl (by decide) rfl (fun ls hl => ?_)
    refine lv_iload hx hb dX6_erring_56 (lv_at hl 0 rfl) ?_
    refine lv_if_le (tgt := 69) hx hb dX6_erring_58 (by decide) (fun c_58 => ?_) (fun c_58 => ?_)
    · -- jump 69
      have n_58 := fx_le1 (a := (errC bt sz nu sheet til od pa)) (b := 0) c_58 (by omega) (by omega)
      have h0 : errC bt sz nu sheet til od pa = 0 := by omega
      exact absurd h0 (by rw [hwc]; simp [lackF])
    · -- fall 61
      have n_58 := fx_le0 (a := (errC bt sz nu sheet til od pa)) (b := 0) c_58 (by omega) (by omega)
      refine lv_aload_n hx hb dX6_erring_61 rfl (lv_at hl 2 rfl) ?_
      refine lv_iload hx hb dX6_erring_62 (lv_at hl 0 rfl) ?_
      refine fx_ci (va_runV (As := [.int (nI (errC bt sz nu sheet til od pa))]) (rest := []) X (mX6_error l E ad im at_ op st_ us bn bm la fo fi lp tr_ sp ip er (errC bt sz nu sheet til od pa) (by omega) _) (cwV 1 X.2.2.2.2 (lw_V q1266 q1268 qs32 q75 q1269) rfl rfl rfl ⟨rfl, hdX6_error⟩ ⟨Nat.le_of_ble_eq_true rfl, Nat.le_of_ble_eq_true rfl⟩) (fx_preV (fx_pre hE hP hD hS hR [0] rfl rfl (fx_rcr 0 rfl fx_rc0)) (va_recv hE.1 (hR.at hS) (ci := 6) (q0 := 0) rfl rfl)) rfl rfl hl.1 rfl (lv_room (Nat.le_of_ble_eq_true rfl)) dX6_erring_64 ⟨Nat.le_refl _, Nat.le_refl _⟩) hP hD hS hA [0] rfl rfl (fun r_64 u H locs hq_64 hP hD hS => ?_)
      replace hP : va_P E.1 clA [(ad 3, .inl (E.2 0, 7, .inl (upd er (errC bt sz nu sheet til od pa) (er (errC bt sz nu sheet til od pa) + 1)))), (ad 9, .inl (E.2 0, 128, .inl nmd)), (ad 10, .inl (E.2 0, 64, .inl pl)), (ad 11, .inl (E.2 0, 8, .inl td2_51))] _ := hP
      replace hD : va_D A [(ad 3, .inl (E.2 0, 7, .inl (upd er (errC bt sz nu sheet til od pa) (er (errC bt sz nu sheet til od pa) + 1)))), (ad 9, .inl (E.2 0, 128, .inl nmd)), (ad 10, .inl (E.2 0, 64, .inl pl)), (ad 11, .inl (E.2 0, 8, .inl td2_51))] := hD
      replace hq_64 : r_64 = erv (errC bt sz nu sheet til od pa) := hq_64
      refine lv_i2l (v := r_64.toInt64) hx hb dX6_erring_67 rfl ?_
      exact hret r_64.toInt64 ((upd er (errC bt sz nu sheet til od pa) (er (errC bt sz nu sheet til od pa) + 1)), nmd, pl, td2_51) (by rw [hq_64]; simp only [erring_, if_neg (show ¬ errC bt sz nu sheet til od pa = 0 by omega), eE_p n_58, erI]) hP hD hS (Nat.le_refl _) (Nat.le_refl _) dX6_erring_68
  · -- fall 4
    have ho := (nn_pos (Int32.not_lt.1 c_1)).2
    refine lv_iload_n hx hb dX6_erring_4 rfl (lv_at hl 3 rfl) ?_
    refine fx_ti (show od = nI (nn od) from (nn_pos (Int32.not_lt.1 c_1)).1) ?_
    refine lv_bipush (v := 17) hx hb dX6_erring_5 rfl ?_
    refine lv_idiv hx hb dX6_erring_7 (by decide) ?_
    refine fx_ti (pk_div (a := nn od) (d := 17) (by omega) (by omega) (by omega)) ?_
    refine lv_bipush (v := 16) hx hb dX6_erring_8 rfl ?_
    refine lv_icmp_gt (tgt := 41) hx hb dX6_erring_10 (by decide) (fun c_10 => ?_) (fun c_10 => ?_)
    · -- jump 41
      have n_10 := fx_lt1 (a := 16) (b := ((nn od) / 17)) c_10 (by omega) (by omega)
      refine lv_iconst (v := 0) hx hb dX6_erring_41 rfl ?_
      have hgd : (ogF od && inB pa 0 1) = false := by rw [ogF, decide_eq_false (show ¬ nn od / 17 ≤ 16 by omega)]; simp
      have hwc : errC bt sz nu sheet til od pa = lackF bt sz nu sheet til false 30 := by rw [errC, hgd]
      refine lv_istore (lv' := [(5, .int 0), (0, .ref (ad 30)), (1, .int sheet), (2, .int til), (3, .int od), (4, .int pa)]) hx hb dX6_erring_42 hl (by decide) rfl (fun ls hl => ?_)
      refine lv_aload_n hx hb dX6_erring_44 rfl (lv_at hl 1 rfl) ?_
      refine lv_iload_n hx hb dX6_erring_45 rfl (lv_at hl 2 rfl) ?_
      refine lv_iload_n hx hb dX6_erring_46 rfl (lv_at hl 3 rfl) ?_
      refine lv_iload hx hb dX6_erring_47 (lv_at hl 0 rfl) ?_
      refine lv_bipush (v := 30) hx hb dX6_erring_49 rfl ?_
      refine fx_ci (va_runV (As := [.int sheet, .int til, .int 0, .int 30]) (rest := []) X (mX6_lacks l E ad im at_ op st_ us bn bm la fo fi lp tr_ sp ip bt sz nu td sheet til 0 30 (by first | assumption | omega) (by decide) _) (cwV 4 X.2.2.2.2 (lw_V q1402 q1404 qs50 q75 q1405) rfl rfl rfl ⟨rfl, hdX6_lacks⟩ ⟨Nat.le_of_ble_eq_true rfl, Nat.le_of_ble_eq_true rfl⟩) (fx_preV (fx_pre hE hP hD hS hR [3] rfl rfl (fx_rcr 0 rfl (fx_rcr 2 rfl (fx_rcr 3 rfl (fx_rcr 4 rfl fx_rc0))))) (va_recv hE.1 (hR.at hS) (ci := 6) (q0 := 0) rfl rfl)) rfl rfl hl.1 rfl (lv_room (Nat.le_of_ble_eq_true rfl)) dX6_erring_51 ⟨Nat.le_refl _, Nat.le_refl _⟩) hP hD hS hA [3] rfl rfl (fun r_51 u H locs hq_51 hP hD hS => ?_)
      obtain ⟨td2_51, rfl⟩ : ∃ z, z = u := ⟨_, rfl⟩
      replace hP : va_P E.1 clA [(ad 3, .inl (E.2 0, 7, .inl er)), (ad 9, .inl (E.2 0, 128, .inl nmd)), (ad 10, .inl (E.2 0, 64, .inl pl)), (ad 11, .inl (E.2 0, 8, .inl td2_51))] _ := hP
      replace hD : va_D A [(ad 3, .inl (E.2 0, 7, .inl er)), (ad 9, .inl (E.2 0, 128, .inl nmd)), (ad 10, .inl (E.2 0, 64, .inl pl)), (ad 11, .inl (E.2 0, 8, .inl td2_51))] := hD
      replace hq_51 : r_51 = nI (lackF bt sz nu sheet til (decide (0 ≠ 0)) 30) ∧ (lackF bt sz nu sheet til (decide (0 ≠ 0)) 30 = 0 → ∀ t, t < 8 → td2_51 t = shG sz nu (nn sheet) t) := hq_51
      refine fx_ti (show r_51 = nI (errC bt sz nu sheet til od pa) from hq_51.1.trans (congrArg nI hwc.symm)) ?_
      have hcl : errC bt sz nu sheet til od pa ≤ 4 := lackF_le
      refine lv_istore (lv' := [(6, .int (nI (errC bt sz nu sheet til od pa))), (5, .int 0), (0, .ref (ad 30)), (1, .int sheet), (2, .int til), (3, .int od), (4, .int pa)]) hx hb dX6_erring_54 hl (by decide) rfl (fun ls hl => ?_)
      refine lv_iload hx hb dX6_erring_56 (lv_at hl 0 rfl) ?_
      refine lv_if_le (tgt := 69) hx hb dX6_erring_58 (by decide) (fun c_58 => ?_) (fun c_58 => ?_)
      · -- jump 69
        have n_58 := fx_le1 (a := (errC bt sz nu sheet til od pa)) (b := 0) c_58 (by omega) (by omega)
        have h0 : errC bt sz nu sheet til od pa = 0 := by omega
        exact absurd h0 (by rw [hwc]; simp [lackF])
      · -- fall 61
        have n_58 := fx_le0 (a := (errC bt sz nu sheet til od pa)) (b := 0) c_58 (by omega) (by omega)
        refine lv_aload_n hx hb dX6_erring_61 rfl (lv_at hl 2 rfl) ?_
        refine lv_iload hx hb dX6_erring_62 (lv_at hl 0 rfl) ?_
        refine fx_ci (va_runV (As := [.int (nI (errC bt sz nu sheet til od pa))]) (rest := []) X (mX6_error l E ad im at_ op st_ us bn bm la fo fi lp tr_ sp ip er (errC bt sz nu sheet til od pa) (by omega) _) (cwV 1 X.2.2.2.2 (lw_V q1266 q1268 qs32 q75 q1269) rfl rfl rfl ⟨rfl, hdX6_error⟩ ⟨Nat.le_of_ble_eq_true rfl, Nat.le_of_ble_eq_true rfl⟩) (fx_preV (fx_pre hE hP hD hS hR [0] rfl rfl (fx_rcr 0 rfl fx_rc0)) (va_recv hE.1 (hR.at hS) (ci := 6) (q0 := 0) rfl rfl)) rfl rfl hl.1 rfl (lv_room (Nat.le_of_ble_eq_true rfl)) dX6_erring_64 ⟨Nat.le_refl _, Nat.le_refl _⟩) hP hD hS hA [0] rfl rfl (fun r_64 u H locs hq_64 hP hD hS => ?_)
        replace hP : va_P E.1 clA [(ad 3, .inl (E.2 0, 7, .inl (upd er (errC bt sz nu sheet til od pa) (er (errC bt sz nu sheet til od pa) + 1)))), (ad 9, .inl (E.2 0, 128, .inl nmd)), (ad 10, .inl (E.2 0, 64, .inl pl)), (ad 11, .inl (E.2 0, 8, .inl td2_51))] _ := hP
        replace hD : va_D A [(ad 3, .inl (E.2 0, 7, .inl (upd er (errC bt sz nu sheet til od pa) (er (errC bt sz nu sheet til od pa) + 1)))), (ad 9, .inl (E.2 0, 128, .inl nmd)), (ad 10, .inl (E.2 0, 64, .inl pl)), (ad 11, .inl (E.2 0, 8, .inl td2_51))] := hD
        replace hq_64 : r_64 = erv (errC bt sz nu sheet til od pa) := hq_64
        refine lv_i2l (v := r_64.toInt64) hx hb dX6_erring_67 rfl ?_
        exact hret r_64.toInt64 ((upd er (errC bt sz nu sheet til od pa) (er (errC bt sz nu sheet til od pa) + 1)), nmd, pl, td2_51) (by rw [hq_64]; simp only [erring_, if_neg (show ¬ errC bt sz nu sheet til od pa = 0 by omega), eE_p n_58, erI]) hP hD hS (Nat.le_refl _) (Nat.le_refl _) dX6_erring_68
    · -- fall 13
      have n_10 := fx_lt0 (a := 16) (b := ((nn od) / 17)) c_10 (by omega) (by omega)
      refine lv_iload_n hx hb dX6_erring_13 rfl (lv_at hl 3 rfl) ?_
      refine fx_ti (show od = nI (nn od) from (nn_pos (Int32.not_lt.1 c_1)).1) ?_
      refine lv_bipush (v := 17) hx hb dX6_erring_14 rfl ?_
      refine lv_idiv hx hb dX6_erring_16 (by decide) ?_
      refine fx_ti (pk_div (a := nn od) (d := 17) (by omega) (by omega) (by omega)) ?_
      refine lv_iload_n hx hb dX6_erring_17 rfl (lv_at hl 3 rfl) ?_
      refine fx_ti (show od = nI (nn od) from (nn_pos (Int32.not_lt.1 c_1)).1) ?_
      refine lv_bipush (v := 17) hx hb dX6_erring_18 rfl ?_
      refine lv_irem hx hb dX6_erring_20 (by decide) ?_
      refine fx_ti (pk_rem (a := nn od) (d := 17) (by omega) (by omega) (by omega)) ?_
      refine lv_iadd hx hb dX6_erring_21 ?_
      refine fx_ti (nI_add ((nn od) / 17) ((nn od) % 17)) ?_
      refine lv_bipush (v := 16) hx hb dX6_erring_22 rfl ?_
      refine lv_icmp_gt (tgt := 41) hx hb dX6_erring_24 (by decide) (fun c_24 => ?_) (fun c_24 => ?_)
      · -- jump 41
        have n_24 := fx_lt1 (a := 16) (b := ((nn od) / 17 + (nn od) % 17)) c_24 (by omega) (by omega)
        refine lv_iconst (v := 0) hx hb dX6_erring_41 rfl ?_
        have hgd : (ogF od && inB pa 0 1) = false := by rw [ogF, decide_eq_false (show ¬ nn od / 17 + nn od % 17 ≤ 16 by omega)]; simp
        have hwc : errC bt sz nu sheet til od pa = lackF bt sz nu sheet til false 30 := by rw [errC, hgd]
        refine lv_istore (lv' := [(5, .int 0), (0, .ref (ad 30)), (1, .int sheet), (2, .int til), (3, .int od), (4, .int pa)]) hx hb dX6_erring_42 hl (by decide) rfl (fun ls hl => ?_)
        refine lv_aload_n hx hb dX6_erring_44 rfl (lv_at hl 1 rfl) ?_
        refine lv_iload_n hx hb dX6_erring_45 rfl (lv_at hl 2 rfl) ?_
        refine lv_iload_n hx hb dX6_erring_46 rfl (lv_at hl 3 rfl) ?_
        refine lv_iload hx hb dX6_erring_47 (lv_at hl 0 rfl) ?_
        refine lv_bipush (v := 30) hx hb dX6_erring_49 rfl ?_
        refine fx_ci (va_runV (As := [.int sheet, .int til, .int 0, .int 30]) (rest := []) X (mX6_lacks l E ad im at_ op st_ us bn bm la fo fi lp tr_ sp ip bt sz nu td sheet til 0 30 (by first | assumption | omega) (by decide) _) (cwV 4 X.2.2.2.2 (lw_V q1402 q1404 qs50 q75 q1405) rfl rfl rfl ⟨rfl, hdX6_lacks⟩ ⟨Nat.le_of_ble_eq_true rfl, Nat.le_of_ble_eq_true rfl⟩) (fx_preV (fx_pre hE hP hD hS hR [3] rfl rfl (fx_rcr 0 rfl (fx_rcr 2 rfl (fx_rcr 3 rfl (fx_rcr 4 rfl fx_rc0))))) (va_recv hE.1 (hR.at hS) (ci := 6) (q0 := 0) rfl rfl)) rfl rfl hl.1 rfl (lv_room (Nat.le_of_ble_eq_true rfl)) dX6_erring_51 ⟨Nat.le_refl _, Nat.le_refl _⟩) hP hD hS hA [3] rfl rfl (fun r_51 u H locs hq_51 hP hD hS => ?_)
        obtain ⟨td2_51, rfl⟩ : ∃ z, z = u := ⟨_, rfl⟩
        replace hP : va_P E.1 clA [(ad 3, .inl (E.2 0, 7, .inl er)), (ad 9, .inl (E.2 0, 128, .inl nmd)), (ad 10, .inl (E.2 0, 64, .inl pl)), (ad 11, .inl (E.2 0, 8, .inl td2_51))] _ := hP
        replace hD : va_D A [(ad 3, .inl (E.2 0, 7, .inl er)), (ad 9, .inl (E.2 0, 128, .inl nmd)), (ad 10, .inl (E.2 0, 64, .inl pl)), (ad 11, .inl (E.2 0, 8, .inl td2_51))] := hD
        replace hq_51 : r_51 = nI (lackF bt sz nu sheet til (decide (0 ≠ 0)) 30) ∧ (lackF bt sz nu sheet til (decide (0 ≠ 0)) 30 = 0 → ∀ t, t < 8 → td2_51 t = shG sz nu (nn sheet) t) := hq_51
        refine fx_ti (show r_51 = nI (errC bt sz nu sheet til od pa) from hq_51.1.trans (congrArg nI hwc.symm)) ?_
        have hcl : errC bt sz nu sheet til od pa ≤ 4 := lackF_le
        refine lv_istore (lv' := [(6, .int (nI (errC bt sz nu sheet til od pa))), (5, .int 0), (0, .ref (ad 30)), (1, .int sheet), (2, .int til), (3, .int od), (4, .int pa)]) hx hb dX6_erring_54 hl (by decide) rfl (fun ls hl => ?_)
        refine lv_iload hx hb dX6_erring_56 (lv_at hl 0 rfl) ?_
        refine lv_if_le (tgt := 69) hx hb dX6_erring_58 (by decide) (fun c_58 => ?_) (fun c_58 => ?_)
        · -- jump 69
          have n_58 := fx_le1 (a := (errC bt sz nu sheet til od pa)) (b := 0) c_58 (by omega) (by omega)
          have h0 : errC bt sz nu sheet til od pa = 0 := by omega
          exact absurd h0 (by rw [hwc]; simp [lackF])
        · -- fall 61
          have n_58 := fx_le0 (a := (errC bt sz nu sheet til od pa)) (b := 0) c_58 (by omega) (by omega)
          refine lv_aload_n hx hb dX6_erring_61 rfl (lv_at hl 2 rfl) ?_
          refine lv_iload hx hb dX6_erring_62 (lv_at hl 0 rfl) ?_
          refine fx_ci (va_runV (As := [.int (nI (errC bt sz nu sheet til od pa))]) (rest := []) X (mX6_error l E ad im at_ op st_ us bn bm la fo fi lp tr_ sp ip er (errC bt sz nu sheet til od pa) (by omega) _) (cwV 1 X.2.2.2.2 (lw_V q1266 q1268 qs32 q75 q1269) rfl rfl rfl ⟨rfl, hdX6_error⟩ ⟨Nat.le_of_ble_eq_true rfl, Nat.le_of_ble_eq_true rfl⟩) (fx_preV (fx_pre hE hP hD hS hR [0] rfl rfl (fx_rcr 0 rfl fx_rc0)) (va_recv hE.1 (hR.at hS) (ci := 6) (q0 := 0) rfl rfl)) rfl rfl hl.1 rfl (lv_room (Nat.le_of_ble_eq_true rfl)) dX6_erring_64 ⟨Nat.le_refl _, Nat.le_refl _⟩) hP hD hS hA [0] rfl rfl (fun r_64 u H locs hq_64 hP hD hS => ?_)
          replace hP : va_P E.1 clA [(ad 3, .inl (E.2 0, 7, .inl (upd er (errC bt sz nu sheet til od pa) (er (errC bt sz nu sheet til od pa) + 1)))), (ad 9, .inl (E.2 0, 128, .inl nmd)), (ad 10, .inl (E.2 0, 64, .inl pl)), (ad 11, .inl (E.2 0, 8, .inl td2_51))] _ := hP
          replace hD : va_D A [(ad 3, .inl (E.2 0, 7, .inl (upd er (errC bt sz nu sheet til od pa) (er (errC bt sz nu sheet til od pa) + 1)))), (ad 9, .inl (E.2 0, 128, .inl nmd)), (ad 10, .inl (E.2 0, 64, .inl pl)), (ad 11, .inl (E.2 0, 8, .inl td2_51))] := hD
          replace hq_64 : r_64 = erv (errC bt sz nu sheet til od pa) := hq_64
          refine lv_i2l (v := r_64.toInt64) hx hb dX6_erring_67 rfl ?_
          exact hret r_64.toInt64 ((upd er (errC bt sz nu sheet til od pa) (er (errC bt sz nu sheet til od pa) + 1)), nmd, pl, td2_51) (by rw [hq_64]; simp only [erring_, if_neg (show ¬ errC bt sz nu sheet til od pa = 0 by omega), eE_p n_58, erI]) hP hD hS (Nat.le_refl _) (Nat.le_refl _) dX6_erring_68
      · -- fall 27
        have n_24 := fx_lt0 (a := 16) (b := ((nn od) / 17 + (nn od) % 17)) c_24 (by omega) (by omega)
        refine lv_iload hx hb dX6_erring_27 (lv_at hl 4 rfl) ?_
        refine lv_iconst (v := 0) hx hb dX6_erring_29 rfl ?_
        refine lv_iconst (v := 1) hx hb dX6_erring_30 rfl ?_
        refine fx_ci (va_runS (As := [.int pa, .int 0, .int 1]) (rest := []) X (mX6_in l E pa 0 1 _) (va_cwS 3 X.2.2.2.2 (lw_S q1263 q1264 q75 q1265) rfl rfl rfl hdX6_in ⟨Nat.le_of_ble_eq_true rfl, Nat.le_of_ble_eq_true rfl⟩) (fx_pre hE hP hD hS hR [] rfl rfl fx_rc0) rfl rfl hl.1 rfl (lv_room (Nat.le_of_ble_eq_true rfl)) dX6_erring_31 ⟨Nat.le_refl _, Nat.le_refl _⟩) hP hD hS hA [] rfl rfl (fun r_31 u H locs hq_31 hP hD hS => ?_)
        replace hP : va_P E.1 clA [(ad 3, .inl (E.2 0, 7, .inl er)), (ad 9, .inl (E.2 0, 128, .inl nmd)), (ad 10, .inl (E.2 0, 64, .inl pl)), (ad 11, .inl (E.2 0, 8, .inl td))] _ := hP
        replace hD : va_D A [(ad 3, .inl (E.2 0, 7, .inl er)), (ad 9, .inl (E.2 0, 128, .inl nmd)), (ad 10, .inl (E.2 0, 64, .inl pl)), (ad 11, .inl (E.2 0, 8, .inl td))] := hD
        replace hq_31 : r_31 = fx_b (inB pa 0 1 = true) := hq_31
        rcases fx_bc hq_31 with ⟨hb_31, hr_31⟩ | ⟨hb_31, hr_31⟩
        · -- True
          subst hr_31
          refine lv_if_eq (tgt := 41) hx hb dX6_erring_34 (by decide) (fun c => absurd c (by decide)) (fun _ => ?_)
          refine lv_iconst (v := 1) hx hb dX6_erring_37 rfl ?_
          refine lv_goto (tgt := 42) hx hb dX6_erring_38 (by decide) ?_
          have hgd : (ogF od && inB pa 0 1) = true := by rw [ogF, decide_eq_true (Int32.not_lt.1 c_1), decide_eq_true n_10, decide_eq_true n_24, hb_31]; rfl
          have hwc : errC bt sz nu sheet til od pa = lackF bt sz nu sheet til true 30 := by rw [errC, hgd]
          refine lv_istore (lv' := [(5, .int 1), (0, .ref (ad 30)), (1, .int sheet), (2, .int til), (3, .int od), (4, .int pa)]) hx hb dX6_erring_42 hl (by decide) rfl (fun ls hl => ?_)
          refine lv_aload_n hx hb dX6_erring_44 rfl (lv_at hl 1 rfl) ?_
          refine lv_iload_n hx hb dX6_erring_45 rfl (lv_at hl 2 rfl) ?_
          refine lv_iload_n hx hb dX6_erring_46 rfl (lv_at hl 3 rfl) ?_
          refine lv_iload hx hb dX6_erring_47 (lv_at hl 0 rfl) ?_
          refine lv_bipush (v := 30) hx hb dX6_erring_49 rfl ?_
          refine fx_ci (va_runV (As := [.int sheet, .int til, .int 1, .int 30]) (rest := []) X (mX6_lacks l E ad im at_ op st_ us bn bm la fo fi lp tr_ sp ip bt sz nu td sheet til 1 30 (by first | assumption | omega) (by decide) _) (cwV 4 X.2.2.2.2 (lw_V q1402 q1404 qs50 q75 q1405) rfl rfl rfl ⟨rfl, hdX6_lacks⟩ ⟨Nat.le_of_ble_eq_true rfl, Nat.le_of_ble_eq_true rfl⟩) (fx_preV (fx_pre hE hP hD hS hR [3] rfl rfl (fx_rcr 0 rfl (fx_rcr 2 rfl (fx_rcr 3 rfl (fx_rcr 4 rfl fx_rc0))))) (va_recv hE.1 (hR.at hS) (ci := 6) (q0 := 0) rfl rfl)) rfl rfl hl.1 rfl (lv_room (Nat.le_of_ble_eq_true rfl)) dX6_erring_51 ⟨Nat.le_refl _, Nat.le_refl _⟩) hP hD hS hA [3] rfl rfl (fun r_51 u H locs hq_51 hP hD hS => ?_)
          obtain ⟨td2_51, rfl⟩ : ∃ z, z = u := ⟨_, rfl⟩
          replace hP : va_P E.1 clA [(ad 3, .inl (E.2 0, 7, .inl er)), (ad 9, .inl (E.2 0, 128, .inl nmd)), (ad 10, .inl (E.2 0, 64, .inl pl)), (ad 11, .inl (E.2 0, 8, .inl td2_51))] _ := hP
          replace hD : va_D A [(ad 3, .inl (E.2 0, 7, .inl er)), (ad 9, .inl (E.2 0, 128, .inl nmd)), (ad 10, .inl (E.2 0, 64, .inl pl)), (ad 11, .inl (E.2 0, 8, .inl td2_51))] := hD
          replace hq_51 : r_51 = nI (lackF bt sz nu sheet til (decide (1 ≠ 0)) 30) ∧ (lackF bt sz nu sheet til (decide (1 ≠ 0)) 30 = 0 → ∀ t, t < 8 → td2_51 t = shG sz nu (nn sheet) t) := hq_51
          refine fx_ti (show r_51 = nI (errC bt sz nu sheet til od pa) from hq_51.1.trans (congrArg nI hwc.symm)) ?_
          have hcl : errC bt sz nu sheet til od pa ≤ 4 := lackF_le
          refine lv_istore (lv' := [(6, .int (nI (errC bt sz nu sheet til od pa))), (5, .int 1), (0, .ref (ad 30)), (1, .int sheet), (2, .int til), (3, .int od), (4, .int pa)]) hx hb dX6_erring_54 hl (by decide) rfl (fun ls hl => ?_)
          refine lv_iload hx hb dX6_erring_56 (lv_at hl 0 rfl) ?_
          refine lv_if_le (tgt := 69) hx hb dX6_erring_58 (by decide) (fun c_58 => ?_) (fun c_58 => ?_)
          · -- jump 69
            have n_58 := fx_le1 (a := (errC bt sz nu sheet til od pa)) (b := 0) c_58 (by omega) (by omega)
            have h0 : errC bt sz nu sheet til od pa = 0 := by omega
            obtain ⟨hrow, hr9, hm30, hsh, htl⟩ := lack_row (hwc.symm.trans h0) (hq_51.2 (hwc.symm.trans h0))
            refine lv_aload_n hx hb dX6_erring_69 rfl (lv_at hl 2 rfl) ?_
            refine lv_iload_n hx hb dX6_erring_70 rfl (lv_at hl 4 rfl) ?_
            refine fx_ti (show til = nI (nn til) from htl.1) ?_
            refine lv_aload_n hx hb dX6_erring_71 rfl (lv_at hl 2 rfl) ?_
            refine fx_get X hE (hR.at hS) 0 rfl rfl 11 rfl q1179 rfl rfl dX6_erring_72 ?_
            refine fx_ci (va_runV (As := [.int (nI (nn til)), .ref (ad 11)]) (rest := []) X (mX6_paidI l E ad im at_ op st_ us bn bm la fo fi lp tr_ sp ip sa nmd pl (ad 11) td2_51 (nn til) T (rnG sz nu (nn sheet)) htl.2 (by first | assumption | omega) (by first | assumption | omega) (by first | assumption | omega) (by first | assumption | omega) _) (cwV 2 X.2.2.2.2 (lw_V q1428 q1430 qs54 q75 q1431) rfl rfl rfl ⟨rfl, hdX6_paid⟩ ⟨Nat.le_of_ble_eq_true rfl, Nat.le_of_ble_eq_true rfl⟩) (fx_preV (fx_pre hE hP hD hS hR [1, 2] rfl rfl (fx_rcr 0 rfl (fx_rcr 1 rfl (fx_rcm 3 rfl (by decide) fx_rc0)))) (va_recv hE.1 (hR.at hS) (ci := 6) (q0 := 0) rfl rfl)) rfl rfl hl.1 rfl (lv_room (Nat.le_of_ble_eq_true rfl)) dX6_erring_75 ⟨Nat.le_refl _, Nat.le_refl _⟩) hP hD hS hA [1, 2] rfl rfl (fun r_75 u H locs hq_75 hP hD hS => ?_)
            obtain ⟨nm2_75, pl2_75⟩ := u
            replace hP : va_P E.1 clA [(ad 3, .inl (E.2 0, 7, .inl er)), (ad 9, .inl (E.2 0, 128, .inl nm2_75)), (ad 10, .inl (E.2 0, 64, .inl pl2_75)), (ad 11, .inl (E.2 0, 8, .inl td2_51))] _ := hP
            replace hD : va_D A [(ad 3, .inl (E.2 0, 7, .inl er)), (ad 9, .inl (E.2 0, 128, .inl nm2_75)), (ad 10, .inl (E.2 0, 64, .inl pl2_75)), (ad 11, .inl (E.2 0, 8, .inl td2_51))] := hD
            replace hq_75 : r_75 = paysF sa T (rnG sz nu (nn sheet)) (nn til) := hq_75
            refine fx_ti (show r_75 = nI (nn (paysF sa T (rnG sz nu (nn sheet)) (nn til))) from hq_75.trans (paysF_nat _ _ _ _).1) ?_
            have hpn := (paysF_nat sa T (rnG sz nu (nn sheet)) (nn til)).2
            refine lv_istore (lv' := [(7, .int (nI (nn (paysF sa T (rnG sz nu (nn sheet)) (nn til))))), (6, .int (nI (errC bt sz nu sheet til od pa))), (5, .int 1), (0, .ref (ad 30)), (1, .int sheet), (2, .int til), (3, .int od), (4, .int pa)]) hx hb dX6_erring_78 hl (by decide) rfl (fun ls hl => ?_)
            refine lv_aload_n hx hb dX6_erring_80 rfl (lv_at hl 3 rfl) ?_
            refine fx_get X hE (hR.at hS) 0 rfl rfl 11 rfl q1179 rfl rfl dX6_erring_81 ?_
            refine fx_ci (va_runS (As := [.ref (ad 11)]) (rest := []) X (mX6_many l E (ad 11) td2_51 _) (va_cwS 1 X.2.2.2.2 (lw_S q1413 q1414 q75 q1415) rfl rfl rfl hdX6_many ⟨Nat.le_of_ble_eq_true rfl, Nat.le_of_ble_eq_true rfl⟩) (fx_pre hE hP hD hS hR [] rfl rfl (fx_rcm 3 rfl (by decide) fx_rc0)) rfl rfl hl.1 rfl (lv_room (Nat.le_of_ble_eq_true rfl)) dX6_erring_84 ⟨Nat.le_refl _, Nat.le_refl _⟩) hP hD hS hA [] rfl rfl (fun r_84 u H locs hq_84 hP hD hS => ?_)
            replace hP : va_P E.1 clA [(ad 3, .inl (E.2 0, 7, .inl er)), (ad 9, .inl (E.2 0, 128, .inl nm2_75)), (ad 10, .inl (E.2 0, 64, .inl pl2_75)), (ad 11, .inl (E.2 0, 8, .inl td2_51))] _ := hP
            replace hD : va_D A [(ad 3, .inl (E.2 0, 7, .inl er)), (ad 9, .inl (E.2 0, 128, .inl nm2_75)), (ad 10, .inl (E.2 0, 64, .inl pl2_75)), (ad 11, .inl (E.2 0, 8, .inl td2_51))] := hD
            replace hq_84 : r_84 = l_sum td2_51 8 := hq_84
            refine fx_ti (show r_84 = nI (manyN (rnG sz nu (nn sheet)) 8) from hq_84.trans (manyN_I 8 (fun t ht => (hrow t ht).1))) ?_
            refine lv_if_ne (tgt := 94) hx hb dX6_erring_87 (by decide) (fun c_87 => ?_) (fun c_87 => ?_)
            · -- jump 94
              have n_87 := fx_eq0 (a := (manyN (rnG sz nu (nn sheet)) 8)) (b := 0) c_87 (by omega) (by omega)
              refine lv_bipush (v := 16) hx hb dX6_erring_94 rfl ?_
              refine lv_iload hx hb dX6_erring_96 (lv_at hl 0 rfl) ?_
              refine lv_imul hx hb dX6_erring_98 ?_
              refine fx_ti (pk_mul 16 (nn (paysF sa T (rnG sz nu (nn sheet)) (nn til)))) ?_
              refine lv_iload_n hx hb dX6_erring_99 rfl (lv_at hl 6 rfl) ?_
              refine fx_ti (show od = nI (nn od) from (nn_pos (Int32.not_lt.1 c_1)).1) ?_
              refine lv_bipush (v := 17) hx hb dX6_erring_100 rfl ?_
              refine lv_idiv hx hb dX6_erring_102 (by decide) ?_
              refine fx_ti (pk_div (a := nn od) (d := 17) (by omega) (by omega) (by omega)) ?_
              refine lv_iadd hx hb dX6_erring_103 ?_
              refine fx_ti (nI_add (16 * (nn (paysF sa T (rnG sz nu (nn sheet)) (nn til)))) ((nn od) / 17)) ?_
              refine lv_iload hx hb dX6_erring_104 (lv_at hl 0 rfl) ?_
              refine lv_if_le (tgt := 116) hx hb dX6_erring_106 (by decide) (fun c_106 => ?_) (fun c_106 => ?_)
              · -- jump 116
                have n_106 := fx_le1 (a := (nn (paysF sa T (rnG sz nu (nn sheet)) (nn til)))) (b := 0) c_106 (by omega) (by omega)
                refine lv_iconst (v := 0) hx hb dX6_erring_116 rfl ?_
                refine lv_isub hx hb dX6_erring_117 ?_
                refine fx_ti (pk_sub (a := 16 * (nn (paysF sa T (rnG sz nu (nn sheet)) (nn til))) + (nn od) / 17) (b := 0) (by omega)) ?_
                have hab : (abvN sa T (rnG sz nu (nn sheet)) (nn til) (nn od)) = 16 * (nn (paysF sa T (rnG sz nu (nn sheet)) (nn til))) + (nn od) / 17 - 0 := by rw [abvN, if_neg n_87, if_neg (show ¬ 0 < nn (paysF sa T (rnG sz nu (nn sheet)) (nn til)) by omega)]
                refine fx_ti (show nI (16 * (nn (paysF sa T (rnG sz nu (nn sheet)) (nn til))) + (nn od) / 17 - 0) = nI (abvN sa T (rnG sz nu (nn sheet)) (nn til) (nn od)) from congrArg nI hab.symm) ?_
                have hal : (abvN sa T (rnG sz nu (nn sheet)) (nn til) (nn od)) ≤ 200000 := by omega
                refine lv_istore (lv' := [(8, .int (nI (abvN sa T (rnG sz nu (nn sheet)) (nn til) (nn od)))), (7, .int (nI (nn (paysF sa T (rnG sz nu (nn sheet)) (nn til))))), (6, .int (nI (errC bt sz nu sheet til od pa))), (5, .int 1), (0, .ref (ad 30)), (1, .int sheet), (2, .int til), (3, .int od), (4, .int pa)]) hx hb dX6_erring_118 hl (by decide) rfl (fun ls hl => ?_)
                refine lv_iload hx hb dX6_erring_120 (lv_at hl 0 rfl) ?_
                refine lv_bipush (v := 16) hx hb dX6_erring_122 rfl ?_
                refine fx_ci (va_runS (As := [.int (nI (abvN sa T (rnG sz nu (nn sheet)) (nn til) (nn od))), .int 16]) (rest := []) X (mX6_divisor l E (abvN sa T (rnG sz nu (nn sheet)) (nn til) (nn od)) 16 (by omega) (by decide) _) (va_cwS 2 X.2.2.2.2 (lw_S q1506 q1507 q75 q1508) rfl rfl rfl hdX6_divisor ⟨Nat.le_of_ble_eq_true rfl, Nat.le_of_ble_eq_true rfl⟩) (fx_pre hE hP hD hS hR [] rfl rfl fx_rc0) rfl rfl hl.1 rfl (lv_room (Nat.le_of_ble_eq_true rfl)) dX6_erring_124 ⟨Nat.le_refl _, Nat.le_refl _⟩) hP hD hS hA [] rfl rfl (fun r_124 u H locs hq_124 hP hD hS => ?_)
                replace hP : va_P E.1 clA [(ad 3, .inl (E.2 0, 7, .inl er)), (ad 9, .inl (E.2 0, 128, .inl nm2_75)), (ad 10, .inl (E.2 0, 64, .inl pl2_75)), (ad 11, .inl (E.2 0, 8, .inl td2_51))] _ := hP
                replace hD : va_D A [(ad 3, .inl (E.2 0, 7, .inl er)), (ad 9, .inl (E.2 0, 128, .inl nm2_75)), (ad 10, .inl (E.2 0, 64, .inl pl2_75)), (ad 11, .inl (E.2 0, 8, .inl td2_51))] := hD
                replace hq_124 : r_124 = nI (Nat.gcd (abvN sa T (rnG sz nu (nn sheet)) (nn til) (nn od)) 16) := hq_124
                refine fx_ti (show r_124 = nI (Nat.gcd (abvN sa T (rnG sz nu (nn sheet)) (nn til) (nn od)) 16) from hq_124) ?_
                have hgp : 0 < (Nat.gcd (abvN sa T (rnG sz nu (nn sheet)) (nn til) (nn od)) 16) := Nat.gcd_pos_of_pos_right _ (by decide)
                have hgl : (Nat.gcd (abvN sa T (rnG sz nu (nn sheet)) (nn til) (nn od)) 16) ≤ 16 := Nat.gcd_le_right _ (by decide)
                refine lv_istore (lv' := [(9, .int (nI (Nat.gcd (abvN sa T (rnG sz nu (nn sheet)) (nn til) (nn od)) 16))), (8, .int (nI (abvN sa T (rnG sz nu (nn sheet)) (nn til) (nn od)))), (7, .int (nI (nn (paysF sa T (rnG sz nu (nn sheet)) (nn til))))), (6, .int (nI (errC bt sz nu sheet til od pa))), (5, .int 1), (0, .ref (ad 30)), (1, .int sheet), (2, .int til), (3, .int od), (4, .int pa)]) hx hb dX6_erring_127 hl (by decide) rfl (fun ls hl => ?_)
                refine lv_iload hx hb dX6_erring_129 (lv_at hl 9 rfl) ?_
                refine lv_if_ne (tgt := 143) hx hb dX6_erring_131 (by decide) (fun c_131 => ?_) (fun c_131 => ?_)
                · -- jump 143
                  refine lv_bipush (v := 16) hx hb dX6_erring_143 rfl ?_
                  refine lv_iload hx hb dX6_erring_145 (lv_at hl 0 rfl) ?_
                  refine lv_idiv hx hb dX6_erring_147 (nI_ne0 (by omega) (by omega)) ?_
                  refine fx_ti (pk_div (a := 16) (d := (Nat.gcd (abvN sa T (rnG sz nu (nn sheet)) (nn til) (nn od)) 16)) (by omega) (by omega) (by omega)) ?_
                  have hdl := Nat.div_le_self 16 (Nat.gcd (abvN sa T (rnG sz nu (nn sheet)) (nn til) (nn od)) 16)
                  refine lv_i2l (v := (nI (16 / (Nat.gcd (abvN sa T (rnG sz nu (nn sheet)) (nn til) (nn od)) 16))).toInt64) hx hb dX6_erring_148 rfl ?_
                  exact hret ((nI (16 / (Nat.gcd (abvN sa T (rnG sz nu (nn sheet)) (nn til) (nn od)) 16))).toInt64) (er, nm2_75, pl2_75, td2_51) (by rw [nI_l (by omega)]; simp only [erring_, h0, eE_0, errN]; rw [if_pos trivial, if_neg c_131]) hP hD hS (Nat.le_refl _) (Nat.le_refl _) dX6_erring_149
                · -- fall 134
                  refine lv_iload hx hb dX6_erring_134 (lv_at hl 1 rfl) ?_
                  refine lv_iload hx hb dX6_erring_136 (lv_at hl 0 rfl) ?_
                  refine lv_idiv hx hb dX6_erring_138 (nI_ne0 (by omega) (by omega)) ?_
                  refine fx_ti (pk_div (a := (abvN sa T (rnG sz nu (nn sheet)) (nn til) (nn od))) (d := (Nat.gcd (abvN sa T (rnG sz nu (nn sheet)) (nn til) (nn od)) 16)) (by omega) (by omega) (by omega)) ?_
                  have hdl := Nat.div_le_self (abvN sa T (rnG sz nu (nn sheet)) (nn til) (nn od)) (Nat.gcd (abvN sa T (rnG sz nu (nn sheet)) (nn til) (nn od)) 16)
                  refine lv_i2l (v := (nI ((abvN sa T (rnG sz nu (nn sheet)) (nn til) (nn od)) / (Nat.gcd (abvN sa T (rnG sz nu (nn sheet)) (nn til) (nn od)) 16))).toInt64) hx hb dX6_erring_139 rfl ?_
                  refine lv_goto (tgt := 149) hx hb dX6_erring_140 (by decide) ?_
                  exact hret ((nI ((abvN sa T (rnG sz nu (nn sheet)) (nn til) (nn od)) / (Nat.gcd (abvN sa T (rnG sz nu (nn sheet)) (nn til) (nn od)) 16))).toInt64) (er, nm2_75, pl2_75, td2_51) (by rw [nI_l (by omega)]; simp only [erring_, h0, eE_0, errN]; rw [if_pos trivial, if_pos c_131]) hP hD hS (Nat.le_refl _) (Nat.le_refl _) dX6_erring_149
              · -- fall 109
                have n_106 := fx_le0 (a := (nn (paysF sa T (rnG sz nu (nn sheet)) (nn til)))) (b := 0) c_106 (by omega) (by omega)
                refine lv_iload_n hx hb dX6_erring_109 rfl (lv_at hl 6 rfl) ?_
                refine fx_ti (show od = nI (nn od) from (nn_pos (Int32.not_lt.1 c_1)).1) ?_
                refine lv_bipush (v := 17) hx hb dX6_erring_110 rfl ?_
                refine lv_irem hx hb dX6_erring_112 (by decide) ?_
                refine fx_ti (pk_rem (a := nn od) (d := 17) (by omega) (by omega) (by omega)) ?_
                refine lv_goto (tgt := 117) hx hb dX6_erring_113 (by decide) ?_
                refine lv_isub hx hb dX6_erring_117 ?_
                refine fx_ti (pk_sub (a := 16 * (nn (paysF sa T (rnG sz nu (nn sheet)) (nn til))) + (nn od) / 17) (b := (nn od) % 17) (by omega)) ?_
                have hab : (abvN sa T (rnG sz nu (nn sheet)) (nn til) (nn od)) = 16 * (nn (paysF sa T (rnG sz nu (nn sheet)) (nn til))) + (nn od) / 17 - ((nn od) % 17) := by rw [abvN, if_neg n_87, if_pos n_106]
                refine fx_ti (show nI (16 * (nn (paysF sa T (rnG sz nu (nn sheet)) (nn til))) + (nn od) / 17 - ((nn od) % 17)) = nI (abvN sa T (rnG sz nu (nn sheet)) (nn til) (nn od)) from congrArg nI hab.symm) ?_
                have hal : (abvN sa T (rnG sz nu (nn sheet)) (nn til) (nn od)) ≤ 200000 := by omega
                refine lv_istore (lv' := [(8, .int (nI (abvN sa T (rnG sz nu (nn sheet)) (nn til) (nn od)))), (7, .int (nI (nn (paysF sa T (rnG sz nu (nn sheet)) (nn til))))), (6, .int (nI (errC bt sz nu sheet til od pa))), (5, .int 1), (0, .ref (ad 30)), (1, .int sheet), (2, .int til), (3, .int od), (4, .int pa)]) hx hb dX6_erring_118 hl (by decide) rfl (fun ls hl => ?_)
                refine lv_iload hx hb dX6_erring_120 (lv_at hl 0 rfl) ?_
                refine lv_bipush (v := 16) hx hb dX6_erring_122 rfl ?_
                refine fx_ci (va_runS (As := [.int (nI (abvN sa T (rnG sz nu (nn sheet)) (nn til) (nn od))), .int 16]) (rest := []) X (mX6_divisor l E (abvN sa T (rnG sz nu (nn sheet)) (nn til) (nn od)) 16 (by omega) (by decide) _) (va_cwS 2 X.2.2.2.2 (lw_S q1506 q1507 q75 q1508) rfl rfl rfl hdX6_divisor ⟨Nat.le_of_ble_eq_true rfl, Nat.le_of_ble_eq_true rfl⟩) (fx_pre hE hP hD hS hR [] rfl rfl fx_rc0) rfl rfl hl.1 rfl (lv_room (Nat.le_of_ble_eq_true rfl)) dX6_erring_124 ⟨Nat.le_refl _, Nat.le_refl _⟩) hP hD hS hA [] rfl rfl (fun r_124 u H locs hq_124 hP hD hS => ?_)
                replace hP : va_P E.1 clA [(ad 3, .inl (E.2 0, 7, .inl er)), (ad 9, .inl (E.2 0, 128, .inl nm2_75)), (ad 10, .inl (E.2 0, 64, .inl pl2_75)), (ad 11, .inl (E.2 0, 8, .inl td2_51))] _ := hP
                replace hD : va_D A [(ad 3, .inl (E.2 0, 7, .inl er)), (ad 9, .inl (E.2 0, 128, .inl nm2_75)), (ad 10, .inl (E.2 0, 64, .inl pl2_75)), (ad 11, .inl (E.2 0, 8, .inl td2_51))] := hD
                replace hq_124 : r_124 = nI (Nat.gcd (abvN sa T (rnG sz nu (nn sheet)) (nn til) (nn od)) 16) := hq_124
                refine fx_ti (show r_124 = nI (Nat.gcd (abvN sa T (rnG sz nu (nn sheet)) (nn til) (nn od)) 16) from hq_124) ?_
                have hgp : 0 < (Nat.gcd (abvN sa T (rnG sz nu (nn sheet)) (nn til) (nn od)) 16) := Nat.gcd_pos_of_pos_right _ (by decide)
                have hgl : (Nat.gcd (abvN sa T (rnG sz nu (nn sheet)) (nn til) (nn od)) 16) ≤ 16 := Nat.gcd_le_right _ (by decide)
                refine lv_istore (lv' := [(9, .int (nI (Nat.gcd (abvN sa T (rnG sz nu (nn sheet)) (nn til) (nn od)) 16))), (8, .int (nI (abvN sa T (rnG sz nu (nn sheet)) (nn til) (nn od)))), (7, .int (nI (nn (paysF sa T (rnG sz nu (nn sheet)) (nn til))))), (6, .int (nI (errC bt sz nu sheet til od pa))), (5, .int 1), (0, .ref (ad 30)), (1, .int sheet), (2, .int til), (3, .int od), (4, .int pa)]) hx hb dX6_erring_127 hl (by decide) rfl (fun ls hl => ?_)
                refine lv_iload hx hb dX6_erring_129 (lv_at hl 9 rfl) ?_
                refine lv_if_ne (tgt := 143) hx hb dX6_erring_131 (by decide) (fun c_131 => ?_) (fun c_131 => ?_)
                · -- jump 143
                  refine lv_bipush (v := 16) hx hb dX6_erring_143 rfl ?_
                  refine lv_iload hx hb dX6_erring_145 (lv_at hl 0 rfl) ?_
                  refine lv_idiv hx hb dX6_erring_147 (nI_ne0 (by omega) (by omega)) ?_
                  refine fx_ti (pk_div (a := 16) (d := (Nat.gcd (abvN sa T (rnG sz nu (nn sheet)) (nn til) (nn od)) 16)) (by omega) (by omega) (by omega)) ?_
                  have hdl := Nat.div_le_self 16 (Nat.gcd (abvN sa T (rnG sz nu (nn sheet)) (nn til) (nn od)) 16)
                  refine lv_i2l (v := (nI (16 / (Nat.gcd (abvN sa T (rnG sz nu (nn sheet)) (nn til) (nn od)) 16))).toInt64) hx hb dX6_erring_148 rfl ?_
                  exact hret ((nI (16 / (Nat.gcd (abvN sa T (rnG sz nu (nn sheet)) (nn til) (nn od)) 16))).toInt64) (er, nm2_75, pl2_75, td2_51) (by rw [nI_l (by omega)]; simp only [erring_, h0, eE_0, errN]; rw [if_pos trivial, if_neg c_131]) hP hD hS (Nat.le_refl _) (Nat.le_refl _) dX6_erring_149
                · -- fall 134
                  refine lv_iload hx hb dX6_erring_134 (lv_at hl 1 rfl) ?_
                  refine lv_iload hx hb dX6_erring_136 (lv_at hl 0 rfl) ?_
                  refine lv_idiv hx hb dX6_erring_138 (nI_ne0 (by omega) (by omega)) ?_
                  refine fx_ti (pk_div (a := (abvN sa T (rnG sz nu (nn sheet)) (nn til) (nn od))) (d := (Nat.gcd (abvN sa T (rnG sz nu (nn sheet)) (nn til) (nn od)) 16)) (by omega) (by omega) (by omega)) ?_
                  have hdl := Nat.div_le_self (abvN sa T (rnG sz nu (nn sheet)) (nn til) (nn od)) (Nat.gcd (abvN sa T (rnG sz nu (nn sheet)) (nn til) (nn od)) 16)
                  refine lv_i2l (v := (nI ((abvN sa T (rnG sz nu (nn sheet)) (nn til) (nn od)) / (Nat.gcd (abvN sa T (rnG sz nu (nn sheet)) (nn til) (nn od)) 16))).toInt64) hx hb dX6_erring_139 rfl ?_
                  refine lv_goto (tgt := 149) hx hb dX6_erring_140 (by decide) ?_
                  exact hret ((nI ((abvN sa T (rnG sz nu (nn sheet)) (nn til) (nn od)) / (Nat.gcd (abvN sa T (rnG sz nu (nn sheet)) (nn til) (nn od)) 16))).toInt64) (er, nm2_75, pl2_75, td2_51) (by rw [nI_l (by omega)]; simp only [erring_, h0, eE_0, errN]; rw [if_pos trivial, if_pos c_131]) hP hD hS (Nat.le_refl _) (Nat.le_refl _) dX6_erring_149
            · -- fall 90
              have n_87 := fx_eq1 (a := (manyN (rnG sz nu (nn sheet)) 8)) (b := 0) c_87 (by omega) (by omega)
              refine lv_iconst (v := 0) hx hb dX6_erring_90 rfl ?_
              refine lv_goto (tgt := 118) hx hb dX6_erring_91 (by decide) ?_
              have hab : (abvN sa T (rnG sz nu (nn sheet)) (nn til) (nn od)) = 0 := by rw [abvN, if_pos n_87]
              refine fx_ti (show 0 = nI (abvN sa T (rnG sz nu (nn sheet)) (nn til) (nn od)) from congrArg nI hab.symm) ?_
              have hal : (abvN sa T (rnG sz nu (nn sheet)) (nn til) (nn od)) ≤ 200000 := by omega
              refine lv_istore (lv' := [(8, .int (nI (abvN sa T (rnG sz nu (nn sheet)) (nn til) (nn od)))), (7, .int (nI (nn (paysF sa T (rnG sz nu (nn sheet)) (nn til))))), (6, .int (nI (errC bt sz nu sheet til od pa))), (5, .int 1), (0, .ref (ad 30)), (1, .int sheet), (2, .int til), (3, .int od), (4, .int pa)]) hx hb dX6_erring_118 hl (by decide) rfl (fun ls hl => ?_)
              refine lv_iload hx hb dX6_erring_120 (lv_at hl 0 rfl) ?_
              refine lv_bipush (v := 16) hx hb dX6_erring_122 rfl ?_
              refine fx_ci (va_runS (As := [.int (nI (abvN sa T (rnG sz nu (nn sheet)) (nn til) (nn od))), .int 16]) (rest := []) X (mX6_divisor l E (abvN sa T (rnG sz nu (nn sheet)) (nn til) (nn od)) 16 (by omega) (by decide) _) (va_cwS 2 X.2.2.2.2 (lw_S q1506 q1507 q75 q1508) rfl rfl rfl hdX6_divisor ⟨Nat.le_of_ble_eq_true rfl, Nat.le_of_ble_eq_true rfl⟩) (fx_pre hE hP hD hS hR [] rfl rfl fx_rc0) rfl rfl hl.1 rfl (lv_room (Nat.le_of_ble_eq_true rfl)) dX6_erring_124 ⟨Nat.le_refl _, Nat.le_refl _⟩) hP hD hS hA [] rfl rfl (fun r_124 u H locs hq_124 hP hD hS => ?_)
              replace hP : va_P E.1 clA [(ad 3, .inl (E.2 0, 7, .inl er)), (ad 9, .inl (E.2 0, 128, .inl nm2_75)), (ad 10, .inl (E.2 0, 64, .inl pl2_75)), (ad 11, .inl (E.2 0, 8, .inl td2_51))] _ := hP
              replace hD : va_D A [(ad 3, .inl (E.2 0, 7, .inl er)), (ad 9, .inl (E.2 0, 128, .inl nm2_75)), (ad 10, .inl (E.2 0, 64, .inl pl2_75)), (ad 11, .inl (E.2 0, 8, .inl td2_51))] := hD
              replace hq_124 : r_124 = nI (Nat.gcd (abvN sa T (rnG sz nu (nn sheet)) (nn til) (nn od)) 16) := hq_124
              refine fx_ti (show r_124 = nI (Nat.gcd (abvN sa T (rnG sz nu (nn sheet)) (nn til) (nn od)) 16) from hq_124) ?_
              have hgp : 0 < (Nat.gcd (abvN sa T (rnG sz nu (nn sheet)) (nn til) (nn od)) 16) := Nat.gcd_pos_of_pos_right _ (by decide)
              have hgl : (Nat.gcd (abvN sa T (rnG sz nu (nn sheet)) (nn til) (nn od)) 16) ≤ 16 := Nat.gcd_le_right _ (by decide)
              refine lv_istore (lv' := [(9, .int (nI (Nat.gcd (abvN sa T (rnG sz nu (nn sheet)) (nn til) (nn od)) 16))), (8, .int (nI (abvN sa T (rnG sz nu (nn sheet)) (nn til) (nn od)))), (7, .int (nI (nn (paysF sa T (rnG sz nu (nn sheet)) (nn til))))), (6, .int (nI (errC bt sz nu sheet til od pa))), (5, .int 1), (0, .ref (ad 30)), (1, .int sheet), (2, .int til), (3, .int od), (4, .int pa)]) hx hb dX6_erring_127 hl (by decide) rfl (fun ls hl => ?_)
              refine lv_iload hx hb dX6_erring_129 (lv_at hl 9 rfl) ?_
              refine lv_if_ne (tgt := 143) hx hb dX6_erring_131 (by decide) (fun c_131 => ?_) (fun c_131 => ?_)
              · -- jump 143
                refine lv_bipush (v := 16) hx hb dX6_erring_143 rfl ?_
                refine lv_iload hx hb dX6_erring_145 (lv_at hl 0 rfl) ?_
                refine lv_idiv hx hb dX6_erring_147 (nI_ne0 (by omega) (by omega)) ?_
                refine fx_ti (pk_div (a := 16) (d := (Nat.gcd (abvN sa T (rnG sz nu (nn sheet)) (nn til) (nn od)) 16)) (by omega) (by omega) (by omega)) ?_
                have hdl := Nat.div_le_self 16 (Nat.gcd (abvN sa T (rnG sz nu (nn sheet)) (nn til) (nn od)) 16)
                refine lv_i2l (v := (nI (16 / (Nat.gcd (abvN sa T (rnG sz nu (nn sheet)) (nn til) (nn od)) 16))).toInt64) hx hb dX6_erring_148 rfl ?_
                exact hret ((nI (16 / (Nat.gcd (abvN sa T (rnG sz nu (nn sheet)) (nn til) (nn od)) 16))).toInt64) (er, nm2_75, pl2_75, td2_51) (by rw [nI_l (by omega)]; simp only [erring_, h0, eE_0, errN]; rw [if_pos trivial, if_neg c_131]) hP hD hS (Nat.le_refl _) (Nat.le_refl _) dX6_erring_149
              · -- fall 134
                refine lv_iload hx hb dX6_erring_134 (lv_at hl 1 rfl) ?_
                refine lv_iload hx hb dX6_erring_136 (lv_at hl 0 rfl) ?_
                refine lv_idiv hx hb dX6_erring_138 (nI_ne0 (by omega) (by omega)) ?_
                refine fx_ti (pk_div (a := (abvN sa T (rnG sz nu (nn sheet)) (nn til) (nn od))) (d := (Nat.gcd (abvN sa T (rnG sz nu (nn sheet)) (nn til) (nn od)) 16)) (by omega) (by omega) (by omega)) ?_
                have hdl := Nat.div_le_self (abvN sa T (rnG sz nu (nn sheet)) (nn til) (nn od)) (Nat.gcd (abvN sa T (rnG sz nu (nn sheet)) (nn til) (nn od)) 16)
                refine lv_i2l (v := (nI ((abvN sa T (rnG sz nu (nn sheet)) (nn til) (nn od)) / (Nat.gcd (abvN sa T (rnG sz nu (nn sheet)) (nn til) (nn od)) 16))).toInt64) hx hb dX6_erring_139 rfl ?_
                refine lv_goto (tgt := 149) hx hb dX6_erring_140 (by decide) ?_
                exact hret ((nI ((abvN sa T (rnG sz nu (nn sheet)) (nn til) (nn od)) / (Nat.gcd (abvN sa T (rnG sz nu (nn sheet)) (nn til) (nn od)) 16))).toInt64) (er, nm2_75, pl2_75, td2_51) (by rw [nI_l (by omega)]; simp only [erring_, h0, eE_0, errN]; rw [if_pos trivial, if_pos c_131]) hP hD hS (Nat.le_refl _) (Nat.le_refl _) dX6_erring_149
          · -- fall 61
            have n_58 := fx_le0 (a := (errC bt sz nu sheet til od pa)) (b := 0) c_58 (by omega) (by omega)
            refine lv_aload_n hx hb dX6_erring_61 rfl (lv_at hl 2 rfl) ?_
            refine lv_iload hx hb dX6_erring_62 (lv_at hl 0 rfl) ?_
            refine fx_ci (va_runV (As := [.int (nI (errC bt sz nu sheet til od pa))]) (rest := []) X (mX6_error l E ad im at_ op st_ us bn bm la fo fi lp tr_ sp ip er (errC bt sz nu sheet til od pa) (by omega) _) (cwV 1 X.2.2.2.2 (lw_V q1266 q1268 qs32 q75 q1269) rfl rfl rfl ⟨rfl, hdX6_error⟩ ⟨Nat.le_of_ble_eq_true rfl, Nat.le_of_ble_eq_true rfl⟩) (fx_preV (fx_pre hE hP hD hS hR [0] rfl rfl (fx_rcr 0 rfl fx_rc0)) (va_recv hE.1 (hR.at hS) (ci := 6) (q0 := 0) rfl rfl)) rfl rfl hl.1 rfl (lv_room (Nat.le_of_ble_eq_true rfl)) dX6_erring_64 ⟨Nat.le_refl _, Nat.le_refl _⟩) hP hD hS hA [0] rfl rfl (fun r_64 u H locs hq_64 hP hD hS => ?_)
            replace hP : va_P E.1 clA [(ad 3, .inl (E.2 0, 7, .inl (upd er (errC bt sz nu sheet til od pa) (er (errC bt sz nu sheet til od pa) + 1)))), (ad 9, .inl (E.2 0, 128, .inl nmd)), (ad 10, .inl (E.2 0, 64, .inl pl)), (ad 11, .inl (E.2 0, 8, .inl td2_51))] _ := hP
            replace hD : va_D A [(ad 3, .inl (E.2 0, 7, .inl (upd er (errC bt sz nu sheet til od pa) (er (errC bt sz nu sheet til od pa) + 1)))), (ad 9, .inl (E.2 0, 128, .inl nmd)), (ad 10, .inl (E.2 0, 64, .inl pl)), (ad 11, .inl (E.2 0, 8, .inl td2_51))] := hD
            replace hq_64 : r_64 = erv (errC bt sz nu sheet til od pa) := hq_64
            refine lv_i2l (v := r_64.toInt64) hx hb dX6_erring_67 rfl ?_
            exact hret r_64.toInt64 ((upd er (errC bt sz nu sheet til od pa) (er (errC bt sz nu sheet til od pa) + 1)), nmd, pl, td2_51) (by rw [hq_64]; simp only [erring_, if_neg (show ¬ errC bt sz nu sheet til od pa = 0 by omega), eE_p n_58, erI]) hP hD hS (Nat.le_refl _) (Nat.le_refl _) dX6_erring_68
        · -- False
          subst hr_31
          refine lv_if_eq (tgt := 41) hx hb dX6_erring_34 (by decide) (fun _ => ?_) (fun c => (c (by decide)).elim)
          refine lv_iconst (v := 0) hx hb dX6_erring_41 rfl ?_
          have hgd : (ogF od && inB pa 0 1) = false := by rw [Bool.eq_false_iff.2 hb_31, Bool.and_false]
          have hwc : errC bt sz nu sheet til od pa = lackF bt sz nu sheet til false 30 := by rw [errC, hgd]
          refine lv_istore (lv' := [(5, .int 0), (0, .ref (ad 30)), (1, .int sheet), (2, .int til), (3, .int od), (4, .int pa)]) hx hb dX6_erring_42 hl (by decide) rfl (fun ls hl => ?_)
          refine lv_aload_n hx hb dX6_erring_44 rfl (lv_at hl 1 rfl) ?_
          refine lv_iload_n hx hb dX6_erring_45 rfl (lv_at hl 2 rfl) ?_
          refine lv_iload_n hx hb dX6_erring_46 rfl (lv_at hl 3 rfl) ?_
          refine lv_iload hx hb dX6_erring_47 (lv_at hl 0 rfl) ?_
          refine lv_bipush (v := 30) hx hb dX6_erring_49 rfl ?_
          refine fx_ci (va_runV (As := [.int sheet, .int til, .int 0, .int 30]) (rest := []) X (mX6_lacks l E ad im at_ op st_ us bn bm la fo fi lp tr_ sp ip bt sz nu td sheet til 0 30 (by first | assumption | omega) (by decide) _) (cwV 4 X.2.2.2.2 (lw_V q1402 q1404 qs50 q75 q1405) rfl rfl rfl ⟨rfl, hdX6_lacks⟩ ⟨Nat.le_of_ble_eq_true rfl, Nat.le_of_ble_eq_true rfl⟩) (fx_preV (fx_pre hE hP hD hS hR [3] rfl rfl (fx_rcr 0 rfl (fx_rcr 2 rfl (fx_rcr 3 rfl (fx_rcr 4 rfl fx_rc0))))) (va_recv hE.1 (hR.at hS) (ci := 6) (q0 := 0) rfl rfl)) rfl rfl hl.1 rfl (lv_room (Nat.le_of_ble_eq_true rfl)) dX6_erring_51 ⟨Nat.le_refl _, Nat.le_refl _⟩) hP hD hS hA [3] rfl rfl (fun r_51 u H locs hq_51 hP hD hS => ?_)
          obtain ⟨td2_51, rfl⟩ : ∃ z, z = u := ⟨_, rfl⟩
          replace hP : va_P E.1 clA [(ad 3, .inl (E.2 0, 7, .inl er)), (ad 9, .inl (E.2 0, 128, .inl nmd)), (ad 10, .inl (E.2 0, 64, .inl pl)), (ad 11, .inl (E.2 0, 8, .inl td2_51))] _ := hP
          replace hD : va_D A [(ad 3, .inl (E.2 0, 7, .inl er)), (ad 9, .inl (E.2 0, 128, .inl nmd)), (ad 10, .inl (E.2 0, 64, .inl pl)), (ad 11, .inl (E.2 0, 8, .inl td2_51))] := hD
          replace hq_51 : r_51 = nI (lackF bt sz nu sheet til (decide (0 ≠ 0)) 30) ∧ (lackF bt sz nu sheet til (decide (0 ≠ 0)) 30 = 0 → ∀ t, t < 8 → td2_51 t = shG sz nu (nn sheet) t) := hq_51
          refine fx_ti (show r_51 = nI (errC bt sz nu sheet til od pa) from hq_51.1.trans (congrArg nI hwc.symm)) ?_
          have hcl : errC bt sz nu sheet til od pa ≤ 4 := lackF_le
          refine lv_istore (lv' := [(6, .int (nI (errC bt sz nu sheet til od pa))), (5, .int 0), (0, .ref (ad 30)), (1, .int sheet), (2, .int til), (3, .int od), (4, .int pa)]) hx hb dX6_erring_54 hl (by decide) rfl (fun ls hl => ?_)
          refine lv_iload hx hb dX6_erring_56 (lv_at hl 0 rfl) ?_
          refine lv_if_le (tgt := 69) hx hb dX6_erring_58 (by decide) (fun c_58 => ?_) (fun c_58 => ?_)
          · -- jump 69
            have n_58 := fx_le1 (a := (errC bt sz nu sheet til od pa)) (b := 0) c_58 (by omega) (by omega)
            have h0 : errC bt sz nu sheet til od pa = 0 := by omega
            exact absurd h0 (by rw [hwc]; simp [lackF])
          · -- fall 61
            have n_58 := fx_le0 (a := (errC bt sz nu sheet til od pa)) (b := 0) c_58 (by omega) (by omega)
            refine lv_aload_n hx hb dX6_erring_61 rfl (lv_at hl 2 rfl) ?_
            refine lv_iload hx hb dX6_erring_62 (lv_at hl 0 rfl) ?_
            refine fx_ci (va_runV (As := [.int (nI (errC bt sz nu sheet til od pa))]) (rest := []) X (mX6_error l E ad im at_ op st_ us bn bm la fo fi lp tr_ sp ip er (errC bt sz nu sheet til od pa) (by omega) _) (cwV 1 X.2.2.2.2 (lw_V q1266 q1268 qs32 q75 q1269) rfl rfl rfl ⟨rfl, hdX6_error⟩ ⟨Nat.le_of_ble_eq_true rfl, Nat.le_of_ble_eq_true rfl⟩) (fx_preV (fx_pre hE hP hD hS hR [0] rfl rfl (fx_rcr 0 rfl fx_rc0)) (va_recv hE.1 (hR.at hS) (ci := 6) (q0 := 0) rfl rfl)) rfl rfl hl.1 rfl (lv_room (Nat.le_of_ble_eq_true rfl)) dX6_erring_64 ⟨Nat.le_refl _, Nat.le_refl _⟩) hP hD hS hA [0] rfl rfl (fun r_64 u H locs hq_64 hP hD hS => ?_)
            replace hP : va_P E.1 clA [(ad 3, .inl (E.2 0, 7, .inl (upd er (errC bt sz nu sheet til od pa) (er (errC bt sz nu sheet til od pa) + 1)))), (ad 9, .inl (E.2 0, 128, .inl nmd)), (ad 10, .inl (E.2 0, 64, .inl pl)), (ad 11, .inl (E.2 0, 8, .inl td2_51))] _ := hP
            replace hD : va_D A [(ad 3, .inl (E.2 0, 7, .inl (upd er (errC bt sz nu sheet til od pa) (er (errC bt sz nu sheet til od pa) + 1)))), (ad 9, .inl (E.2 0, 128, .inl nmd)), (ad 10, .inl (E.2 0, 64, .inl pl)), (ad 11, .inl (E.2 0, 8, .inl td2_51))] := hD
            replace hq_64 : r_64 = erv (errC bt sz nu sheet til od pa) := hq_64
            refine lv_i2l (v := r_64.toInt64) hx hb dX6_erring_67 rfl ?_
            exact hret r_64.toInt64 ((upd er (errC bt sz nu sheet til od pa) (er (errC bt sz nu sheet til od pa) + 1)), nmd, pl, td2_51) (by rw [hq_64]; simp only [erring_, if_neg (show ¬ errC bt sz nu sheet til od pa = 0 by omega), eE_p n_58, erI]) hP hD hS (Nat.le_refl _) (Nat.le_refl _) dX6_erring_68
abbrev rmX6_dearer : Room := { frames := 20, cells := 0, slots := 0, locals := 667 }
set_option maxHeartbeats 400000 in
set_option maxRecDepth 100000 in
theorem mX6_dearer (l : Launch) (E : fx_En) (ad : Nat → Nat) (im : Int32) (at_ : Int32) (op : Int32) (st_ : Int32) (us : Int32) (bn : Int32) (bm : Int32) (la : Int32) (fo : Int32) (fi : Int32) (lp : Int32) (tr_ : Int32) (sp : Int32) (ip : Int32) (sa : Nat → Int32) (bt : Nat → Int32) (sz : Nat → Int32) (nu : Nat → Int32) (er : Nat → Int32) (nmd : Nat → Int32) (pl : Nat → Int32) (td : Nat → Int32) (rw_ : Nat → Int32) (be : Nat → Int32) (wo : Nat → Int32) (sheet : Int32) (til : Int32) (ee : Int32) (T : Tx) (T1 : Tx) (hI : Inv sa) (hIS : InvS bt sz) (hT : TM sa 0 T) (hTo : TOk T) (hT1 : TM sa 1 T1) (hTo1 : TOk T1) : fx_Mi l yX6_dearer cX6_dearer 11 .int rmX6_dearer E [.ref (ad 30), .int sheet, .int til, .int ee] [(ad 30, .inr (6, [.ref (ad 0), .ref (ad 1), .int im, .ref (ad 3), .int at_, .int op, .int st_, .int us, .ref (ad 8), .ref (ad 9), .ref (ad 10), .ref (ad 11), .ref (ad 12), .ref (ad 13), .ref (ad 14), .int bn, .int bm, .ref (ad 17), .int la, .int fo, .int fi, .int lp, .ref (ad 22), .int tr_, .int sp, .int ip, .ref (ad 26), .ref (ad 27), .ref (ad 28), .ref (ad 29)])), (ad 0, .inl (E.2 0, 374, .inl sa)), (ad 3, .inl (E.2 0, 7, .inl er)), (ad 9, .inl (E.2 0, 128, .inl nmd)), (ad 10, .inl (E.2 0, 64, .inl pl)), (ad 11, .inl (E.2 0, 8, .inl td)), (ad 13, .inl (E.2 0, 8, .inl rw_)), (ad 14, .inl (E.2 0, 8, .inl be)), (ad 17, .inl (E.2 0, 8, .inl wo))] [(ad 26, .inl (E.2 0, 4, .inl bt)), (ad 27, .inl (E.2 0, 4, .inl sz)), (ad 28, .inl (E.2 0, 96, .inl nu))] (S := Int32 × Int32 × (Nat → Int32) × (Nat → Int32) × (Nat → Int32) × (Nat → Int32) × (Nat → Int32) × (Nat → Int32) × (Nat → Int32)) (fun (u : Int32 × Int32 × (Nat → Int32) × (Nat → Int32) × (Nat → Int32) × (Nat → Int32) × (Nat → Int32) × (Nat → Int32) × (Nat → Int32)) => [(ad 30, .inr (6, [.ref (ad 0), .ref (ad 1), .int im, .ref (ad 3), .int at_, .int op, .int st_, .int us, .ref (ad 8), .ref (ad 9), .ref (ad 10), .ref (ad 11), .ref (ad 12), .ref (ad 13), .ref (ad 14), .int u.1, .int u.2.1, .ref (ad 17), .int la, .int fo, .int fi, .int lp, .ref (ad 22), .int tr_, .int sp, .int ip, .ref (ad 26), .ref (ad 27), .ref (ad 28), .ref (ad 29)])), (ad 0, .inl (E.2 0, 374, .inl sa)), (ad 3, .inl (E.2 0, 7, .inl u.2.2.1)), (ad 9, .inl (E.2 0, 128, .inl u.2.2.2.1)), (ad 10, .inl (E.2 0, 64, .inl u.2.2.2.2.1)), (ad 11, .inl (E.2 0, 8, .inl u.2.2.2.2.2.1)), (ad 13, .inl (E.2 0, 8, .inl u.2.2.2.2.2.2.1)), (ad 14, .inl (E.2 0, 8, .inl u.2.2.2.2.2.2.2.1)), (ad 17, .inl (E.2 0, 8, .inl u.2.2.2.2.2.2.2.2))]) (fun (r : Int32) (u : Int32 × Int32 × (Nat → Int32) × (Nat → Int32) × (Nat → Int32) × (Nat → Int32) × (Nat → Int32) × (Nat → Int32) × (Nat → Int32)) => (r, u.2.2.1) = dearer_ sa er bt sz nu T T1 sheet til ee) := by
  refine fx_iW rfl rfl ?_
  intro p e s m args below meth c A ls Q X hE hP hD hR hA hl hret
  have hx := X.1
  have hb := X.2.1
  have hS : va_S A s.heap s.heap [] := va_S.rf
  replace hP : va_P E.1 clA [(ad 30, .inr (6, [.ref (ad 0), .ref (ad 1), .int im, .ref (ad 3), .int at_, .int op, .int st_, .int us, .ref (ad 8), .ref (ad 9), .ref (ad 10), .ref (ad 11), .ref (ad 12), .ref (ad 13), .ref (ad 14), .int bn, .int bm, .ref (ad 17), .int la, .int fo, .int fi, .int lp, .ref (ad 22), .int tr_, .int sp, .int ip, .ref (ad 26), .ref (ad 27), .ref (ad 28), .ref (ad 29)])), (ad 0, .inl (E.2 0, 374, .inl sa)), (ad 3, .inl (E.2 0, 7, .inl er)), (ad 9, .inl (E.2 0, 128, .inl nmd)), (ad 10, .inl (E.2 0, 64, .inl pl)), (ad 11, .inl (E.2 0, 8, .inl td)), (ad 13, .inl (E.2 0, 8, .inl rw_)), (ad 14, .inl (E.2 0, 8, .inl be)), (ad 17, .inl (E.2 0, 8, .inl wo))] _ := hP
  replace hD : va_D A [(ad 30, .inr (6, [.ref (ad 0), .ref (ad 1), .int im, .ref (ad 3), .int at_, .int op, .int st_, .int us, .ref (ad 8), .ref (ad 9), .ref (ad 10), .ref (ad 11), .ref (ad 12), .ref (ad 13), .ref (ad 14), .int bn, .int bm, .ref (ad 17), .int la, .int fo, .int fi, .int lp, .ref (ad 22), .int tr_, .int sp, .int ip, .ref (ad 26), .ref (ad 27), .ref (ad 28), .ref (ad 29)])), (ad 0, .inl (E.2 0, 374, .inl sa)), (ad 3, .inl (E.2 0, 7, .inl er)), (ad 9, .inl (E.2 0, 128, .inl nmd)), (ad 10, .inl (E.2 0, 64, .inl pl)), (ad 11, .inl (E.2 0, 8, .inl td)), (ad 13, .inl (E.2 0, 8, .inl rw_)), (ad 14, .inl (E.2 0, 8, .inl be)), (ad 17, .inl (E.2 0, 8, .inl wo))] := hD
  replace hl : lv_has ls 11 [(0, .ref (ad 30)), (1, .int sheet), (2, .int til), (3, .int ee)] := hl
  refine lv_aload_n hx hb dX6_dearer_0 rfl (lv_at hl 0 rfl) ?_
  refine lv_iload_n hx hb dX6_dearer_1 rfl (lv_at hl 1 rfl) ?_
  refine lv_iload_n hx hb dX6_dearer_2 rfl (lv_at hl 2 rfl) ?_
  refine lv_iload_n hx hb dX6_dearer_3 rfl (lv_at hl 3 rfl) ?_
  refine lv_iconst (v := 0) hx hb dX6_dearer_4 rfl ?_
  refine lv_iconst (v := 2) hx hb dX6_dearer_5 rfl ?_
  refine fx_ci (va_runS (As := [.int ee, .int 0, .int 2]) (rest := [.int til, .int sheet, .ref (ad 30)]) X (mX6_in l E ee 0 2 _) (va_cwS 3 X.2.2.2.2 (lw_S q1263 q1264 q75 q1265) rfl rfl rfl hdX6_in ⟨Nat.le_of_ble_eq_true rfl, Nat.le_of_ble_eq_true rfl⟩) (fx_pre hE hP hD hS hR [] rfl rfl fx_rc0) rfl rfl hl.1 rfl (lv_room (Nat.le_of_ble_eq_true rfl)) dX6_dearer_6 ⟨Nat.le_refl _, Nat.le_refl _⟩) hP hD hS hA [] rfl rfl (fun r_6 u H locs hq_6 hP hD hS => ?_)
  replace hP : va_P E.1 clA [(ad 30, .inr (6, [.ref (ad 0), .ref (ad 1), .int im, .ref (ad 3), .int at_, .int op, .int st_, .int us, .ref (ad 8), .ref (ad 9), .ref (ad 10), .ref (ad 11), .ref (ad 12), .ref (ad 13), .ref (ad 14), .int bn, .int bm, .ref (ad 17), .int la, .int fo, .int fi, .int lp, .ref (ad 22), .int tr_, .int sp, .int ip, .ref (ad 26), .ref (ad 27), .ref (ad 28), .ref (ad 29)])), (ad 0, .inl (E.2 0, 374, .inl sa)), (ad 3, .inl (E.2 0, 7, .inl er)), (ad 9, .inl (E.2 0, 128, .inl nmd)), (ad 10, .inl (E.2 0, 64, .inl pl)), (ad 11, .inl (E.2 0, 8, .inl td)), (ad 13, .inl (E.2 0, 8, .inl rw_)), (ad 14, .inl (E.2 0, 8, .inl be)), (ad 17, .inl (E.2 0, 8, .inl wo))] _ := hP
  replace hD : va_D A [(ad 30, .inr (6, [.ref (ad 0), .ref (ad 1), .int im, .ref (ad 3), .int at_, .int op, .int st_, .int us, .ref (ad 8), .ref (ad 9), .ref (ad 10), .ref (ad 11), .ref (ad 12), .ref (ad 13), .ref (ad 14), .int bn, .int bm, .ref (ad 17), .int la, .int fo, .int fi, .int lp, .ref (ad 22), .int tr_, .int sp, .int ip, .ref (ad 26), .ref (ad 27), .ref (ad 28), .ref (ad 29)])), (ad 0, .inl (E.2 0, 374, .inl sa)), (ad 3, .inl (E.2 0, 7, .inl er)), (ad 9, .inl (E.2 0, 128, .inl nmd)), (ad 10, .inl (E.2 0, 64, .inl pl)), (ad 11, .inl (E.2 0, 8, .inl td)), (ad 13, .inl (E.2 0, 8, .inl rw_)), (ad 14, .inl (E.2 0, 8, .inl be)), (ad 17, .inl (E.2 0, 8, .inl wo))] := hD
  replace hq_6 : r_6 = fx_b (inB ee 0 2 = true) := hq_6
  rcases fx_bc hq_6 with ⟨hb_6, hr_6⟩ | ⟨hb_6, hr_6⟩
  · -- True
    subst hr_6
    have hwc : dearC bt sz nu sheet til ee = lackF bt sz nu sheet til true 30 := by rw [dearC, hb_6]
    refine lv_bipush (v := 30) hx hb dX6_dearer_9 rfl ?_
    refine fx_ci (va_runV (As := [.int sheet, .int til, .int 1, .int 30]) (rest := []) X (mX6_lacks l E ad im at_ op st_ us bn bm la fo fi lp tr_ sp ip bt sz nu td sheet til 1 30 (by first | assumption | omega) (by decide) _) (cwV 4 X.2.2.2.2 (lw_V q1402 q1404 qs50 q75 q1405) rfl rfl rfl ⟨rfl, hdX6_lacks⟩ ⟨Nat.le_of_ble_eq_true rfl, Nat.le_of_ble_eq_true rfl⟩) (fx_preV (fx_pre hE hP hD hS hR [5] rfl rfl (fx_rcm 0 rfl (by decide) (fx_rcr 0 rfl (fx_rcr 1 rfl (fx_rcr 2 rfl fx_rc0))))) (va_recv hE.1 hP (ci := 6) (q0 := 0) rfl rfl)) rfl rfl hl.1 rfl (lv_room (Nat.le_of_ble_eq_true rfl)) dX6_dearer_11 ⟨Nat.le_refl _, Nat.le_refl _⟩) hP hD hS hA [5] rfl rfl (fun r_11 u H locs hq_11 hP hD hS => ?_)
    obtain ⟨td2_11, rfl⟩ : ∃ z, z = u := ⟨_, rfl⟩
    replace hP : va_P E.1 clA [(ad 30, .inr (6, [.ref (ad 0), .ref (ad 1), .int im, .ref (ad 3), .int at_, .int op, .int st_, .int us, .ref (ad 8), .ref (ad 9), .ref (ad 10), .ref (ad 11), .ref (ad 12), .ref (ad 13), .ref (ad 14), .int bn, .int bm, .ref (ad 17), .int la, .int fo, .int fi, .int lp, .ref (ad 22), .int tr_, .int sp, .int ip, .ref (ad 26), .ref (ad 27), .ref (ad 28), .ref (ad 29)])), (ad 0, .inl (E.2 0, 374, .inl sa)), (ad 3, .inl (E.2 0, 7, .inl er)), (ad 9, .inl (E.2 0, 128, .inl nmd)), (ad 10, .inl (E.2 0, 64, .inl pl)), (ad 11, .inl (E.2 0, 8, .inl td2_11)), (ad 13, .inl (E.2 0, 8, .inl rw_)), (ad 14, .inl (E.2 0, 8, .inl be)), (ad 17, .inl (E.2 0, 8, .inl wo))] _ := hP
    replace hD : va_D A [(ad 30, .inr (6, [.ref (ad 0), .ref (ad 1), .int im, .ref (ad 3), .int at_, .int op, .int st_, .int us, .ref (ad 8), .ref (ad 9), .ref (ad 10), .ref (ad 11), .ref (ad 12), .ref (ad 13), .ref (ad 14), .int bn, .int bm, .ref (ad 17), .int la, .int fo, .int fi, .int lp, .ref (ad 22), .int tr_, .int sp, .int ip, .ref (ad 26), .ref (ad 27), .ref (ad 28), .ref (ad 29)])), (ad 0, .inl (E.2 0, 374, .inl sa)), (ad 3, .inl (E.2 0, 7, .inl er)), (ad 9, .inl (E.2 0, 128, .inl nmd)), (ad 10, .inl (E.2 0, 64, .inl pl)), (ad 11, .inl (E.2 0, 8, .inl td2_11)), (ad 13, .inl (E.2 0, 8, .inl rw_)), (ad 14, .inl (E.2 0, 8, .inl be)), (ad 17, .inl (E.2 0, 8, .inl wo))] := hD
    replace hq_11 : r_11 = nI (lackF bt sz nu sheet til (decide (1 ≠ 0)) 30) ∧ (lackF bt sz nu sheet til (decide (1 ≠ 0)) 30 = 0 → ∀ t, t < 8 → td2_11 t = shG sz nu (nn sheet) t) := hq_11
    refine fx_ti (show r_11 = nI (dearC bt sz nu sheet til ee) from hq_11.1.trans (congrArg nI hwc.symm)) ?_
    have hcl : dearC bt sz nu sheet til ee ≤ 4 := lackF_le
    refine lv_istore (lv' := [(4, .int (nI (dearC bt sz nu sheet til ee))), (0, .ref (ad 30)), (1, .int sheet), (2, .int til), (3, .int ee)]) hx hb dX6_dearer_14 hl (by decide) rfl (fun ls hl => ?_)
    refine lv_iload hx hb dX6_dearer_16 (lv_at hl 0 rfl) ?_
    refine lv_if_le (tgt := 28) hx hb dX6_dearer_18 (by decide) (fun c_18 => ?_) (fun c_18 => ?_)
    · -- jump 28
      have n_18 := fx_le1 (a := (dearC bt sz nu sheet til ee)) (b := 0) c_18 (by omega) (by omega)
      have h0 : dearC bt sz nu sheet til ee = 0 := by omega
      obtain ⟨hrow, hr9, hm30, hsh, htl⟩ := lack_row (hwc.symm.trans h0) (hq_11.2 (hwc.symm.trans h0))
      have ge := inB_nn (n := 2) hb_6 (by omega)
      have ge2 := ge.2
      refine lv_iconst (v := (-1)) hx hb dX6_dearer_28 rfl ?_
      refine lv_istore (lv' := [(5, .int (-1)), (4, .int (nI (dearC bt sz nu sheet til ee))), (0, .ref (ad 30)), (1, .int sheet), (2, .int til), (3, .int ee)]) hx hb dX6_dearer_29 hl (by decide) rfl (fun ls hl => ?_)
      refine lv_iconst (v := 0) hx hb dX6_dearer_31 rfl ?_
      refine lv_istore (lv' := [(6, .int 0), (5, .int (-1)), (4, .int (nI (dearC bt sz nu sheet til ee))), (0, .ref (ad 30)), (1, .int sheet), (2, .int til), (3, .int ee)]) hx hb dX6_dearer_32 hl (by decide) rfl (fun ls hl => ?_)
      refine lv_iconst (v := 0) hx hb dX6_dearer_34 rfl ?_
      refine lv_istore (lv' := [(7, .int 0), (6, .int 0), (5, .int (-1)), (4, .int (nI (dearC bt sz nu sheet til ee))), (0, .ref (ad 30)), (1, .int sheet), (2, .int til), (3, .int ee)]) hx hb dX6_dearer_35 hl (by decide) rfl (fun ls hl => ?_)
      have loop_37 : ∀ (n_37 : Nat) (t : Nat) (wb : Int32) (ms : Int32) (bnv : Int32) (bmv : Int32) (nmv : Nat → Int32) (plv : Nat → Int32) (rwv : Nat → Int32) (bev : Nat → Int32) (wov : Nat → Int32), (8 - t < n_37) → (t ≤ 8) → ((wb, ms) = (itr (fun t b => dearB sa T T1 (nn til) (rnG sz nu (nn sheet)) (nn ee) t b) t (-1, 0))) → ∀ (H : Heap) (locs : List Loc), va_P E.1 clA [(ad 30, .inr (6, [.ref (ad 0), .ref (ad 1), .int im, .ref (ad 3), .int at_, .int op, .int st_, .int us, .ref (ad 8), .ref (ad 9), .ref (ad 10), .ref (ad 11), .ref (ad 12), .ref (ad 13), .ref (ad 14), .int bnv, .int bmv, .ref (ad 17), .int la, .int fo, .int fi, .int lp, .ref (ad 22), .int tr_, .int sp, .int ip, .ref (ad 26), .ref (ad 27), .ref (ad 28), .ref (ad 29)])), (ad 0, .inl (E.2 0, 374, .inl sa)), (ad 3, .inl (E.2 0, 7, .inl er)), (ad 9, .inl (E.2 0, 128, .inl nmv)), (ad 10, .inl (E.2 0, 64, .inl plv)), (ad 11, .inl (E.2 0, 8, .inl td2_11)), (ad 13, .inl (E.2 0, 8, .inl rwv)), (ad 14, .inl (E.2 0, 8, .inl bev)), (ad 17, .inl (E.2 0, 8, .inl wov))] H → va_D A [(ad 30, .inr (6, [.ref (ad 0), .ref (ad 1), .int im, .ref (ad 3), .int at_, .int op, .int st_, .int us, .ref (ad 8), .ref (ad 9), .ref (ad 10), .ref (ad 11), .ref (ad 12), .ref (ad 13), .ref (ad 14), .int bnv, .int bmv, .ref (ad 17), .int la, .int fo, .int fi, .int lp, .ref (ad 22), .int tr_, .int sp, .int ip, .ref (ad 26), .ref (ad 27), .ref (ad 28), .ref (ad 29)])), (ad 0, .inl (E.2 0, 374, .inl sa)), (ad 3, .inl (E.2 0, 7, .inl er)), (ad 9, .inl (E.2 0, 128, .inl nmv)), (ad 10, .inl (E.2 0, 64, .inl plv)), (ad 11, .inl (E.2 0, 8, .inl td2_11)), (ad 13, .inl (E.2 0, 8, .inl rwv)), (ad 14, .inl (E.2 0, 8, .inl bev)), (ad 17, .inl (E.2 0, 8, .inl wov))] → va_S A s.heap H locs → ∀ (ls : Array Slot), lv_has ls 11 [(7, .int (nI t)), (6, .int ms), (5, .int wb), (4, .int (nI (dearC bt sz nu sheet til ee))), (0, .ref (ad 30)), (1, .int sheet), (2, .int til), (3, .int ee)] → W p l e rmX6_dearer s m args below meth c H locs 0 0 Q (F0 m 37 ls []) := by
        intro n_37
        induction n_37 with
        | zero => intro t wb ms bnv bmv nmv plv rwv bev wov hm_37; exact absurd hm_37 (Nat.not_lt_zero _)
        | succ n_37 ih_37 =>
          intro t wb ms bnv bmv nmv plv rwv bev wov hm_37 ht hO H locs hP hD hS ls hl
          refine lv_iload hx hb dX6_dearer_37 (lv_at hl 0 rfl) ?_
          refine lv_bipush (v := 8) hx hb dX6_dearer_39 rfl ?_
          refine lv_icmp_ge (tgt := 160) hx hb dX6_dearer_41 (by decide) (fun c_41 => ?_) (fun c_41 => ?_)
          · -- jump 160
            have n_41 := fx_le1 (a := 8) (b := t) c_41 (by omega) (by omega)
            obtain rfl : t = 8 := by omega
            refine lv_iload hx hb dX6_dearer_160 (lv_at hl 2 rfl) ?_
            exact hret wb (bnv, bmv, er, nmv, plv, td2_11, rwv, bev, wov) (by simp only [dearer_, h0, eR_0, eE_0]; rw [dearF, ← hO]) (rfl) hP hD hS (Nat.le_refl _) (Nat.le_refl _) dX6_dearer_162
          · -- fall 44
            have n_41 := fx_le0 (a := 8) (b := t) c_41 (by omega) (by omega)
            refine lv_aload_n hx hb dX6_dearer_44 rfl (lv_at hl 4 rfl) ?_
            refine fx_get X hE hP 0 rfl rfl 0 rfl q1168 rfl rfl dX6_dearer_45 ?_
            refine lv_bipush (v := 8) hx hb dX6_dearer_48 rfl ?_
            refine lv_iload hx hb dX6_dearer_50 (lv_at hl 0 rfl) ?_
            refine lv_iadd hx hb dX6_dearer_52 ?_
            refine fx_ti (nI_add 8 t) ?_
            refine fx_iald X hE hP 1 rfl (8 + t) rfl (by omega) rfl dX6_dearer_53 ?_
            refine fx_ti (show (sa (8 + t)) = nI (nn (sa (8 + t))) from (hI.pr t (by omega)).1) ?_
            have hp1 := hI.pr1 (t := t) (by omega)
            have hp2 := (hI.pr t (by omega)).2
            refine lv_istore (lv' := [(8, .int (nI (nn (sa (8 + t))))), (7, .int (nI t)), (6, .int ms), (5, .int wb), (4, .int (nI (dearC bt sz nu sheet til ee))), (0, .ref (ad 30)), (1, .int sheet), (2, .int til), (3, .int ee)]) hx hb dX6_dearer_54 hl (by decide) rfl (fun ls hl => ?_)
            refine lv_iconst (v := 0) hx hb dX6_dearer_56 rfl ?_
            refine lv_istore (lv' := [(9, .int 0), (8, .int (nI (nn (sa (8 + t))))), (7, .int (nI t)), (6, .int ms), (5, .int wb), (4, .int (nI (dearC bt sz nu sheet til ee))), (0, .ref (ad 30)), (1, .int sheet), (2, .int til), (3, .int ee)]) hx hb dX6_dearer_57 hl (by decide) rfl (fun ls hl => ?_)
            have loop_59 : ∀ (n_59 : Nat) (bb : Nat) (wb1 : Int32) (ms1 : Int32) (sv : Nat → Int32) (bnv1 : Int32) (bmv1 : Int32) (nmv1 : Nat → Int32) (plv1 : Nat → Int32) (rwv1 : Nat → Int32) (bev1 : Nat → Int32) (wov1 : Nat → Int32), (10 - bb < n_59) → (bb ≤ min 10 (10000 - nn (sa (8 + t)))) → ((wb1, ms1) = (itr (fun u b => dearS (dearV sa T T1 (nn til) (rnG sz nu (nn sheet)) (nn ee) t u) (10 * t + u) b) bb (wb, ms))) → (∀ x, upd sv (8 + t) x = upd sa (8 + t) x) → ∀ (H : Heap) (locs : List Loc), va_P E.1 clA [(ad 30, .inr (6, [.ref (ad 0), .ref (ad 1), .int im, .ref (ad 3), .int at_, .int op, .int st_, .int us, .ref (ad 8), .ref (ad 9), .ref (ad 10), .ref (ad 11), .ref (ad 12), .ref (ad 13), .ref (ad 14), .int bnv1, .int bmv1, .ref (ad 17), .int la, .int fo, .int fi, .int lp, .ref (ad 22), .int tr_, .int sp, .int ip, .ref (ad 26), .ref (ad 27), .ref (ad 28), .ref (ad 29)])), (ad 0, .inl (E.2 0, 374, .inl sv)), (ad 3, .inl (E.2 0, 7, .inl er)), (ad 9, .inl (E.2 0, 128, .inl nmv1)), (ad 10, .inl (E.2 0, 64, .inl plv1)), (ad 11, .inl (E.2 0, 8, .inl td2_11)), (ad 13, .inl (E.2 0, 8, .inl rwv1)), (ad 14, .inl (E.2 0, 8, .inl bev1)), (ad 17, .inl (E.2 0, 8, .inl wov1))] H → va_D A [(ad 30, .inr (6, [.ref (ad 0), .ref (ad 1), .int im, .ref (ad 3), .int at_, .int op, .int st_, .int us, .ref (ad 8), .ref (ad 9), .ref (ad 10), .ref (ad 11), .ref (ad 12), .ref (ad 13), .ref (ad 14), .int bnv1, .int bmv1, .ref (ad 17), .int la, .int fo, .int fi, .int lp, .ref (ad 22), .int tr_, .int sp, .int ip, .ref (ad 26), .ref (ad 27), .ref (ad 28), .ref (ad 29)])), (ad 0, .inl (E.2 0, 374, .inl sv)), (ad 3, .inl (E.2 0, 7, .inl er)), (ad 9, .inl (E.2 0, 128, .inl nmv1)), (ad 10, .inl (E.2 0, 64, .inl plv1)), (ad 11, .inl (E.2 0, 8, .inl td2_11)), (ad 13, .inl (E.2 0, 8, .inl rwv1)), (ad 14, .inl (E.2 0, 8, .inl bev1)), (ad 17, .inl (E.2 0, 8, .inl wov1))] → va_S A s.heap H locs → ∀ (ls : Array Slot), lv_has ls 11 [(9, .int (nI bb)), (8, .int (nI (nn (sa (8 + t))))), (7, .int (nI t)), (6, .int ms1), (5, .int wb1), (4, .int (nI (dearC bt sz nu sheet til ee))), (0, .ref (ad 30)), (1, .int sheet), (2, .int til), (3, .int ee)] → W p l e rmX6_dearer s m args below meth c H locs 0 0 Q (F0 m 59 ls []) := by
              intro n_59
              induction n_59 with
              | zero => intro bb wb1 ms1 sv bnv1 bmv1 nmv1 plv1 rwv1 bev1 wov1 hm_59; exact absurd hm_59 (Nat.not_lt_zero _)
              | succ n_59 ih_59 =>
                intro bb wb1 ms1 sv bnv1 bmv1 nmv1 plv1 rwv1 bev1 wov1 hm_59 hbb hBB hsv H locs hP hD hS ls hl
                refine lv_iload hx hb dX6_dearer_59 (lv_at hl 0 rfl) ?_
                refine lv_bipush (v := 10) hx hb dX6_dearer_61 rfl ?_
                refine lv_icmp_ge (tgt := 142) hx hb dX6_dearer_63 (by decide) (fun c_63 => ?_) (fun c_63 => ?_)
                · -- jump 142
                  have n_63 := fx_le1 (a := 10) (b := bb) c_63 (by omega) (by omega)
                  have hne : bb = min 10 (10000 - nn (sa (8 + t))) := by omega
                  refine lv_aload_n hx hb dX6_dearer_142 rfl (lv_at hl 6 rfl) ?_
                  refine fx_get X hE hP 0 rfl rfl 0 rfl q1168 rfl rfl dX6_dearer_143 ?_
                  refine lv_bipush (v := 8) hx hb dX6_dearer_146 rfl ?_
                  refine lv_iload hx hb dX6_dearer_148 (lv_at hl 2 rfl) ?_
                  refine lv_iadd hx hb dX6_dearer_150 ?_
                  refine fx_ti (nI_add 8 t) ?_
                  refine lv_iload hx hb dX6_dearer_151 (lv_at hl 1 rfl) ?_
                  refine fx_iast (ws' := [(ad 30, .inr (6, [.ref (ad 0), .ref (ad 1), .int im, .ref (ad 3), .int at_, .int op, .int st_, .int us, .ref (ad 8), .ref (ad 9), .ref (ad 10), .ref (ad 11), .ref (ad 12), .ref (ad 13), .ref (ad 14), .int bnv1, .int bmv1, .ref (ad 17), .int la, .int fo, .int fi, .int lp, .ref (ad 22), .int tr_, .int sp, .int ip, .ref (ad 26), .ref (ad 27), .ref (ad 28), .ref (ad 29)])), (ad 0, .inl (E.2 0, 374, .inl (upd sv (8 + t) (nI (nn (sa (8 + t))))))), (ad 3, .inl (E.2 0, 7, .inl er)), (ad 9, .inl (E.2 0, 128, .inl nmv1)), (ad 10, .inl (E.2 0, 64, .inl plv1)), (ad 11, .inl (E.2 0, 8, .inl td2_11)), (ad 13, .inl (E.2 0, 8, .inl rwv1)), (ad 14, .inl (E.2 0, 8, .inl bev1)), (ad 17, .inl (E.2 0, 8, .inl wov1))]) X hE hP hD hS 1 rfl (8 + t) rfl (by omega) rfl rfl dX6_dearer_153 (fun H locs hP hD hS => ?_)
                  have eW1 : (upd sv (8 + t) (nI (nn (sa (8 + t))))) = sa := (hsv _).trans (upd_pr hI (by omega))
                  rw [eW1] at hP hD
                  refine lv_iinc (v := nI (t + 1)) (lv' := [(7, .int (nI (t + 1))), (9, .int (nI bb)), (8, .int (nI (nn (sa (8 + t))))), (6, .int ms1), (5, .int wb1), (4, .int (nI (dearC bt sz nu sheet til ee))), (0, .ref (ad 30)), (1, .int sheet), (2, .int til), (3, .int ee)]) hx hb dX6_dearer_154 hl (k := 2) rfl (fx_inc _) (by decide) rfl (fun ls hl => ?_)
                  refine lv_goto (tgt := 37) hx hb dX6_dearer_157 (by decide) ?_
                  exact ih_37 (t + 1) wb1 ms1 bnv1 bmv1 nmv1 plv1 rwv1 bev1 wov1 (by omega) (by omega) (by rw [itr_s, ← hO, dearB]; exact hne ▸ hBB) _ _ hP hD hS ls (lv_sub hl [0, 3, 4, 5, 6, 7, 8, 9] rfl)
                · -- fall 66
                  have n_63 := fx_le0 (a := 10) (b := bb) c_63 (by omega) (by omega)
                  refine lv_iload hx hb dX6_dearer_66 (lv_at hl 1 rfl) ?_
                  refine lv_iload hx hb dX6_dearer_68 (lv_at hl 0 rfl) ?_
                  refine lv_iadd hx hb dX6_dearer_70 ?_
                  refine fx_ti (nI_add (nn (sa (8 + t))) bb) ?_
                  refine lv_sipush (v := 9999) hx hb dX6_dearer_71 rfl ?_
                  refine lv_icmp_gt (tgt := 142) hx hb dX6_dearer_74 (by decide) (fun c_74 => ?_) (fun c_74 => ?_)
                  · -- jump 142
                    have n_74 := fx_lt1 (a := 9999) (b := (nn (sa (8 + t)) + bb)) c_74 (by omega) (by omega)
                    have hne : bb = min 10 (10000 - nn (sa (8 + t))) := by omega
                    refine lv_aload_n hx hb dX6_dearer_142 rfl (lv_at hl 6 rfl) ?_
                    refine fx_get X hE hP 0 rfl rfl 0 rfl q1168 rfl rfl dX6_dearer_143 ?_
                    refine lv_bipush (v := 8) hx hb dX6_dearer_146 rfl ?_
                    refine lv_iload hx hb dX6_dearer_148 (lv_at hl 2 rfl) ?_
                    refine lv_iadd hx hb dX6_dearer_150 ?_
                    refine fx_ti (nI_add 8 t) ?_
                    refine lv_iload hx hb dX6_dearer_151 (lv_at hl 1 rfl) ?_
                    refine fx_iast (ws' := [(ad 30, .inr (6, [.ref (ad 0), .ref (ad 1), .int im, .ref (ad 3), .int at_, .int op, .int st_, .int us, .ref (ad 8), .ref (ad 9), .ref (ad 10), .ref (ad 11), .ref (ad 12), .ref (ad 13), .ref (ad 14), .int bnv1, .int bmv1, .ref (ad 17), .int la, .int fo, .int fi, .int lp, .ref (ad 22), .int tr_, .int sp, .int ip, .ref (ad 26), .ref (ad 27), .ref (ad 28), .ref (ad 29)])), (ad 0, .inl (E.2 0, 374, .inl (upd sv (8 + t) (nI (nn (sa (8 + t))))))), (ad 3, .inl (E.2 0, 7, .inl er)), (ad 9, .inl (E.2 0, 128, .inl nmv1)), (ad 10, .inl (E.2 0, 64, .inl plv1)), (ad 11, .inl (E.2 0, 8, .inl td2_11)), (ad 13, .inl (E.2 0, 8, .inl rwv1)), (ad 14, .inl (E.2 0, 8, .inl bev1)), (ad 17, .inl (E.2 0, 8, .inl wov1))]) X hE hP hD hS 1 rfl (8 + t) rfl (by omega) rfl rfl dX6_dearer_153 (fun H locs hP hD hS => ?_)
                    have eW2 : (upd sv (8 + t) (nI (nn (sa (8 + t))))) = sa := (hsv _).trans (upd_pr hI (by omega))
                    rw [eW2] at hP hD
                    refine lv_iinc (v := nI (t + 1)) (lv' := [(7, .int (nI (t + 1))), (9, .int (nI bb)), (8, .int (nI (nn (sa (8 + t))))), (6, .int ms1), (5, .int wb1), (4, .int (nI (dearC bt sz nu sheet til ee))), (0, .ref (ad 30)), (1, .int sheet), (2, .int til), (3, .int ee)]) hx hb dX6_dearer_154 hl (k := 2) rfl (fx_inc _) (by decide) rfl (fun ls hl => ?_)
                    refine lv_goto (tgt := 37) hx hb dX6_dearer_157 (by decide) ?_
                    exact ih_37 (t + 1) wb1 ms1 bnv1 bmv1 nmv1 plv1 rwv1 bev1 wov1 (by omega) (by omega) (by rw [itr_s, ← hO, dearB]; exact hne ▸ hBB) _ _ hP hD hS ls (lv_sub hl [0, 3, 4, 5, 6, 7, 8, 9] rfl)
                  · -- fall 77
                    have n_74 := fx_lt0 (a := 9999) (b := (nn (sa (8 + t)) + bb)) c_74 (by omega) (by omega)
                    refine lv_aload_n hx hb dX6_dearer_77 rfl (lv_at hl 6 rfl) ?_
                    refine fx_get X hE hP 0 rfl rfl 0 rfl q1168 rfl rfl dX6_dearer_78 ?_
                    refine lv_bipush (v := 8) hx hb dX6_dearer_81 rfl ?_
                    refine lv_iload hx hb dX6_dearer_83 (lv_at hl 2 rfl) ?_
                    refine lv_iadd hx hb dX6_dearer_85 ?_
                    refine fx_ti (nI_add 8 t) ?_
                    refine lv_iload hx hb dX6_dearer_86 (lv_at hl 1 rfl) ?_
                    refine lv_iload hx hb dX6_dearer_88 (lv_at hl 0 rfl) ?_
                    refine lv_iadd hx hb dX6_dearer_90 ?_
                    refine fx_ti (nI_add (nn (sa (8 + t))) bb) ?_
                    refine fx_iast (ws' := [(ad 30, .inr (6, [.ref (ad 0), .ref (ad 1), .int im, .ref (ad 3), .int at_, .int op, .int st_, .int us, .ref (ad 8), .ref (ad 9), .ref (ad 10), .ref (ad 11), .ref (ad 12), .ref (ad 13), .ref (ad 14), .int bnv1, .int bmv1, .ref (ad 17), .int la, .int fo, .int fi, .int lp, .ref (ad 22), .int tr_, .int sp, .int ip, .ref (ad 26), .ref (ad 27), .ref (ad 28), .ref (ad 29)])), (ad 0, .inl (E.2 0, 374, .inl (upd sv (8 + t) (nI (nn (sa (8 + t)) + bb))))), (ad 3, .inl (E.2 0, 7, .inl er)), (ad 9, .inl (E.2 0, 128, .inl nmv1)), (ad 10, .inl (E.2 0, 64, .inl plv1)), (ad 11, .inl (E.2 0, 8, .inl td2_11)), (ad 13, .inl (E.2 0, 8, .inl rwv1)), (ad 14, .inl (E.2 0, 8, .inl bev1)), (ad 17, .inl (E.2 0, 8, .inl wov1))]) X hE hP hD hS 1 rfl (8 + t) rfl (by omega) rfl rfl dX6_dearer_91 (fun H locs hP hD hS => ?_)
                    have eW3 : (upd sv (8 + t) (nI (nn (sa (8 + t)) + bb))) = (upd sa (8 + t) (nI (nn (sa (8 + t)) + bb))) := hsv _
                    rw [eW3] at hP hD
                    have hI2 : Inv (upd sa (8 + t) (nI (nn (sa (8 + t)) + bb))) := Inv_price hI (by omega) (by omega) (by omega)
                    have hT2 : TM (upd sa (8 + t) (nI (nn (sa (8 + t)) + bb))) 0 T := TM_upd (by omega) (by omega) hTo hT
                    have hT12 : TM (upd sa (8 + t) (nI (nn (sa (8 + t)) + bb))) 1 T1 := TM_upd (by omega) (by omega) hTo1 hT1
                    refine lv_aload_n hx hb dX6_dearer_92 rfl (lv_at hl 6 rfl) ?_
                    refine lv_iload_n hx hb dX6_dearer_93 rfl (lv_at hl 8 rfl) ?_
                    refine fx_ti (show til = nI (nn til) from htl.1) ?_
                    refine lv_iload_n hx hb dX6_dearer_94 rfl (lv_at hl 9 rfl) ?_
                    refine fx_ti (show ee = nI (nn ee) from ge.1) ?_
                    refine fx_cv (va_runV (As := [.int (nI (nn til)), .int (nI (nn ee))]) (rest := []) X (mX6_seeks l E ad im at_ op st_ us bnv1 bmv1 la fo fi lp tr_ sp ip (upd sa (8 + t) (nI (nn (sa (8 + t)) + bb))) nmv1 plv1 td2_11 rwv1 bev1 wov1 (nn til) (nn ee) T T1 (rnG sz nu (nn sheet)) htl.2 hI2 hT2 (by first | assumption | omega) (fun i hi => ⟨(hrow i hi).1, hr9 i hi⟩) hT12 (by first | assumption | omega) (by first | assumption | omega) (by omega) _) (cwV 2 X.2.2.2.2 (lw_V q1462 q1464 qs58 q75 q1465) rfl rfl rfl ⟨rfl, hdX6_seeks⟩ ⟨Nat.le_of_ble_eq_true rfl, Nat.le_of_ble_eq_true rfl⟩) (fx_preV (fx_pre hE hP hD hS hR [0, 3, 4, 6, 7, 8] rfl rfl (fx_rcm 1 rfl (by decide) (fx_rcm 5 rfl (by decide) fx_rc0))) (va_recv hE.1 hP (ci := 6) (q0 := 0) rfl rfl)) rfl rfl hl.1 rfl (lv_room (Nat.le_of_ble_eq_true rfl)) dX6_dearer_95 ⟨Nat.le_refl _, Nat.le_refl _⟩) hP hD hS hA [0, 3, 4, 6, 7, 8] rfl rfl (fun u H locs hq_95 hP hD hS => ?_)
                    obtain ⟨bn2_95, bm2_95, nm2_95, pl2_95, rw2_95, be2_95, wo2_95⟩ := u
                    replace hP : va_P E.1 clA [(ad 30, .inr (6, [.ref (ad 0), .ref (ad 1), .int im, .ref (ad 3), .int at_, .int op, .int st_, .int us, .ref (ad 8), .ref (ad 9), .ref (ad 10), .ref (ad 11), .ref (ad 12), .ref (ad 13), .ref (ad 14), .int bn2_95, .int bm2_95, .ref (ad 17), .int la, .int fo, .int fi, .int lp, .ref (ad 22), .int tr_, .int sp, .int ip, .ref (ad 26), .ref (ad 27), .ref (ad 28), .ref (ad 29)])), (ad 0, .inl (E.2 0, 374, .inl (upd sa (8 + t) (nI (nn (sa (8 + t)) + bb))))), (ad 3, .inl (E.2 0, 7, .inl er)), (ad 9, .inl (E.2 0, 128, .inl nm2_95)), (ad 10, .inl (E.2 0, 64, .inl pl2_95)), (ad 11, .inl (E.2 0, 8, .inl td2_11)), (ad 13, .inl (E.2 0, 8, .inl rw2_95)), (ad 14, .inl (E.2 0, 8, .inl be2_95)), (ad 17, .inl (E.2 0, 8, .inl wo2_95))] _ := hP
                    replace hD : va_D A [(ad 30, .inr (6, [.ref (ad 0), .ref (ad 1), .int im, .ref (ad 3), .int at_, .int op, .int st_, .int us, .ref (ad 8), .ref (ad 9), .ref (ad 10), .ref (ad 11), .ref (ad 12), .ref (ad 13), .ref (ad 14), .int bn2_95, .int bm2_95, .ref (ad 17), .int la, .int fo, .int fi, .int lp, .ref (ad 22), .int tr_, .int sp, .int ip, .ref (ad 26), .ref (ad 27), .ref (ad 28), .ref (ad 29)])), (ad 0, .inl (E.2 0, 374, .inl (upd sa (8 + t) (nI (nn (sa (8 + t)) + bb))))), (ad 3, .inl (E.2 0, 7, .inl er)), (ad 9, .inl (E.2 0, 128, .inl nm2_95)), (ad 10, .inl (E.2 0, 64, .inl pl2_95)), (ad 11, .inl (E.2 0, 8, .inl td2_11)), (ad 13, .inl (E.2 0, 8, .inl rw2_95)), (ad 14, .inl (E.2 0, 8, .inl be2_95)), (ad 17, .inl (E.2 0, 8, .inl wo2_95))] := hD
                    replace hq_95 : bn2_95 = (seekF (upd sa (8 + t) (nI (nn (sa (8 + t)) + bb))) T T1 (nn til) (rnG sz nu (nn sheet)) (nn ee)).2.1 ∧ (∀ i, i < 8 → be2_95 i = nI ((rnG sz nu (nn sheet)) i + (seekF (upd sa (8 + t) (nI (nn (sa (8 + t)) + bb))) T T1 (nn til) (rnG sz nu (nn sheet)) (nn ee)).2.2 i)) := hq_95
                    refine lv_aload_n hx hb dX6_dearer_98 rfl (lv_at hl 6 rfl) ?_
                    refine lv_iload_n hx hb dX6_dearer_99 rfl (lv_at hl 8 rfl) ?_
                    refine fx_ti (show til = nI (nn til) from htl.1) ?_
                    refine lv_aload_n hx hb dX6_dearer_100 rfl (lv_at hl 6 rfl) ?_
                    refine fx_get X hE hP 0 rfl rfl 14 rfl q1182 rfl rfl dX6_dearer_101 ?_
                    refine fx_ci (va_runV (As := [.int (nI (nn til)), .ref (ad 14)]) (rest := []) X (mX6_paidI l E ad im at_ op st_ us bn2_95 bm2_95 la fo fi lp tr_ sp ip (upd sa (8 + t) (nI (nn (sa (8 + t)) + bb))) nm2_95 pl2_95 (ad 14) be2_95 (nn til) T (fun i => rnG sz nu (nn sheet) i + (seekF (upd sa (8 + t) (nI (nn (sa (8 + t)) + bb))) T T1 (nn til) (rnG sz nu (nn sheet)) (nn ee)).2.2 i) htl.2 hI2 hT2 (by first | assumption | omega) (fun i hi => ⟨hq_95.2 i hi, by have := hr9 i hi; have := seekF_le (sa := (upd sa (8 + t) (nI (nn (sa (8 + t)) + bb)))) (T := T) (T1 := T1) (k := nn til) (e := nn ee) (rn := rnG sz nu (nn sheet)) i; omega⟩) _) (cwV 2 X.2.2.2.2 (lw_V q1428 q1430 qs54 q75 q1431) rfl rfl rfl ⟨rfl, hdX6_paid⟩ ⟨Nat.le_of_ble_eq_true rfl, Nat.le_of_ble_eq_true rfl⟩) (fx_preV (fx_pre hE hP hD hS hR [3, 4] rfl rfl (fx_rcm 0 rfl (by decide) (fx_rcm 1 rfl (by decide) (fx_rcm 7 rfl (by decide) fx_rc0)))) (va_recv hE.1 hP (ci := 6) (q0 := 0) rfl rfl)) rfl rfl hl.1 rfl (lv_room (Nat.le_of_ble_eq_true rfl)) dX6_dearer_104 ⟨Nat.le_refl _, Nat.le_refl _⟩) hP hD hS hA [3, 4] rfl rfl (fun r_104 u H locs hq_104 hP hD hS => ?_)
                    obtain ⟨nm2_104, pl2_104⟩ := u
                    replace hP : va_P E.1 clA [(ad 30, .inr (6, [.ref (ad 0), .ref (ad 1), .int im, .ref (ad 3), .int at_, .int op, .int st_, .int us, .ref (ad 8), .ref (ad 9), .ref (ad 10), .ref (ad 11), .ref (ad 12), .ref (ad 13), .ref (ad 14), .int bn2_95, .int bm2_95, .ref (ad 17), .int la, .int fo, .int fi, .int lp, .ref (ad 22), .int tr_, .int sp, .int ip, .ref (ad 26), .ref (ad 27), .ref (ad 28), .ref (ad 29)])), (ad 0, .inl (E.2 0, 374, .inl (upd sa (8 + t) (nI (nn (sa (8 + t)) + bb))))), (ad 3, .inl (E.2 0, 7, .inl er)), (ad 9, .inl (E.2 0, 128, .inl nm2_104)), (ad 10, .inl (E.2 0, 64, .inl pl2_104)), (ad 11, .inl (E.2 0, 8, .inl td2_11)), (ad 13, .inl (E.2 0, 8, .inl rw2_95)), (ad 14, .inl (E.2 0, 8, .inl be2_95)), (ad 17, .inl (E.2 0, 8, .inl wo2_95))] _ := hP
                    replace hD : va_D A [(ad 30, .inr (6, [.ref (ad 0), .ref (ad 1), .int im, .ref (ad 3), .int at_, .int op, .int st_, .int us, .ref (ad 8), .ref (ad 9), .ref (ad 10), .ref (ad 11), .ref (ad 12), .ref (ad 13), .ref (ad 14), .int bn2_95, .int bm2_95, .ref (ad 17), .int la, .int fo, .int fi, .int lp, .ref (ad 22), .int tr_, .int sp, .int ip, .ref (ad 26), .ref (ad 27), .ref (ad 28), .ref (ad 29)])), (ad 0, .inl (E.2 0, 374, .inl (upd sa (8 + t) (nI (nn (sa (8 + t)) + bb))))), (ad 3, .inl (E.2 0, 7, .inl er)), (ad 9, .inl (E.2 0, 128, .inl nm2_104)), (ad 10, .inl (E.2 0, 64, .inl pl2_104)), (ad 11, .inl (E.2 0, 8, .inl td2_11)), (ad 13, .inl (E.2 0, 8, .inl rw2_95)), (ad 14, .inl (E.2 0, 8, .inl be2_95)), (ad 17, .inl (E.2 0, 8, .inl wo2_95))] := hD
                    replace hq_104 : r_104 = paysF (upd sa (8 + t) (nI (nn (sa (8 + t)) + bb))) T (fun i => rnG sz nu (nn sheet) i + (seekF (upd sa (8 + t) (nI (nn (sa (8 + t)) + bb))) T T1 (nn til) (rnG sz nu (nn sheet)) (nn ee)).2.2 i) (nn til) := hq_104
                    refine fx_ti (show r_104 = (dearV sa T T1 (nn til) (rnG sz nu (nn sheet)) (nn ee) t bb) from hq_104) ?_
                    refine lv_istore (lv' := [(10, .int (dearV sa T T1 (nn til) (rnG sz nu (nn sheet)) (nn ee) t bb)), (9, .int (nI bb)), (8, .int (nI (nn (sa (8 + t))))), (7, .int (nI t)), (6, .int ms1), (5, .int wb1), (4, .int (nI (dearC bt sz nu sheet til ee))), (0, .ref (ad 30)), (1, .int sheet), (2, .int til), (3, .int ee)]) hx hb dX6_dearer_107 hl (by decide) rfl (fun ls hl => ?_)
                    refine lv_iload hx hb dX6_dearer_109 (lv_at hl 5 rfl) ?_
                    refine lv_iconst (v := (-1)) hx hb dX6_dearer_111 rfl ?_
                    refine lv_icmp_eq (tgt := 122) hx hb dX6_dearer_112 (by decide) (fun c_112 => ?_) (fun c_112 => ?_)
                    · -- jump 122
                      refine lv_bipush (v := 10) hx hb dX6_dearer_122 rfl ?_
                      refine lv_iload hx hb dX6_dearer_124 (lv_at hl 3 rfl) ?_
                      refine lv_imul hx hb dX6_dearer_126 ?_
                      refine fx_ti (pk_mul 10 t) ?_
                      refine lv_iload hx hb dX6_dearer_127 (lv_at hl 1 rfl) ?_
                      refine lv_iadd hx hb dX6_dearer_129 ?_
                      refine fx_ti (nI_add (10 * t) bb) ?_
                      refine lv_istore (lv' := [(5, .int (nI (10 * t + bb))), (10, .int (dearV sa T T1 (nn til) (rnG sz nu (nn sheet)) (nn ee) t bb)), (9, .int (nI bb)), (8, .int (nI (nn (sa (8 + t))))), (7, .int (nI t)), (6, .int ms1), (4, .int (nI (dearC bt sz nu sheet til ee))), (0, .ref (ad 30)), (1, .int sheet), (2, .int til), (3, .int ee)]) hx hb dX6_dearer_130 hl (by decide) rfl (fun ls hl => ?_)
                      refine lv_iload hx hb dX6_dearer_132 (lv_at hl 1 rfl) ?_
                      refine lv_istore (lv' := [(6, .int (dearV sa T T1 (nn til) (rnG sz nu (nn sheet)) (nn ee) t bb)), (5, .int (nI (10 * t + bb))), (10, .int (dearV sa T T1 (nn til) (rnG sz nu (nn sheet)) (nn ee) t bb)), (9, .int (nI bb)), (8, .int (nI (nn (sa (8 + t))))), (7, .int (nI t)), (4, .int (nI (dearC bt sz nu sheet til ee))), (0, .ref (ad 30)), (1, .int sheet), (2, .int til), (3, .int ee)]) hx hb dX6_dearer_134 hl (by decide) rfl (fun ls hl => ?_)
                      refine lv_iinc (v := nI (bb + 1)) (lv' := [(9, .int (nI (bb + 1))), (6, .int (dearV sa T T1 (nn til) (rnG sz nu (nn sheet)) (nn ee) t bb)), (5, .int (nI (10 * t + bb))), (10, .int (dearV sa T T1 (nn til) (rnG sz nu (nn sheet)) (nn ee) t bb)), (8, .int (nI (nn (sa (8 + t))))), (7, .int (nI t)), (4, .int (nI (dearC bt sz nu sheet til ee))), (0, .ref (ad 30)), (1, .int sheet), (2, .int til), (3, .int ee)]) hx hb dX6_dearer_136 hl (k := 3) rfl (fx_inc _) (by decide) rfl (fun ls hl => ?_)
                      refine lv_goto (tgt := 59) hx hb dX6_dearer_139 (by decide) ?_
                      exact ih_59 (bb + 1) (nI (10 * t + bb)) (dearV sa T T1 (nn til) (rnG sz nu (nn sheet)) (nn ee) t bb) (upd sa (8 + t) (nI (nn (sa (8 + t)) + bb))) bn2_95 bm2_95 nm2_104 pl2_104 rw2_95 be2_95 wo2_95 (by omega) (by omega) (by rw [itr_s, ← hBB, dearS, if_pos (Or.inl c_112)]) (fun x => upd_twice) _ _ hP hD hS ls (lv_sub hl [0, 4, 5, 1, 2, 6, 7, 8, 9, 10] rfl)
                    · -- fall 115
                      refine lv_iload hx hb dX6_dearer_115 (lv_at hl 0 rfl) ?_
                      refine lv_iload hx hb dX6_dearer_117 (lv_at hl 4 rfl) ?_
                      refine lv_icmp_le (tgt := 136) hx hb dX6_dearer_119 (by decide) (fun c_119 => ?_) (fun c_119 => ?_)
                      · -- jump 136
                        refine lv_iinc (v := nI (bb + 1)) (lv' := [(9, .int (nI (bb + 1))), (10, .int (dearV sa T T1 (nn til) (rnG sz nu (nn sheet)) (nn ee) t bb)), (8, .int (nI (nn (sa (8 + t))))), (7, .int (nI t)), (6, .int ms1), (5, .int wb1), (4, .int (nI (dearC bt sz nu sheet til ee))), (0, .ref (ad 30)), (1, .int sheet), (2, .int til), (3, .int ee)]) hx hb dX6_dearer_136 hl (k := 1) rfl (fx_inc _) (by decide) rfl (fun ls hl => ?_)
                        refine lv_goto (tgt := 59) hx hb dX6_dearer_139 (by decide) ?_
                        exact ih_59 (bb + 1) wb1 ms1 (upd sa (8 + t) (nI (nn (sa (8 + t)) + bb))) bn2_95 bm2_95 nm2_104 pl2_104 rw2_95 be2_95 wo2_95 (by omega) (by omega) (by rw [itr_s, ← hBB, dearS, if_neg (fun h => h.elim c_112 (fun h => absurd h (Int32.not_lt.2 c_119)))]) (fun x => upd_twice) _ _ hP hD hS ls (lv_sub hl [0, 2, 3, 4, 5, 6, 7, 8, 9, 10] rfl)
                      · -- fall 122
                        refine lv_bipush (v := 10) hx hb dX6_dearer_122 rfl ?_
                        refine lv_iload hx hb dX6_dearer_124 (lv_at hl 3 rfl) ?_
                        refine lv_imul hx hb dX6_dearer_126 ?_
                        refine fx_ti (pk_mul 10 t) ?_
                        refine lv_iload hx hb dX6_dearer_127 (lv_at hl 1 rfl) ?_
                        refine lv_iadd hx hb dX6_dearer_129 ?_
                        refine fx_ti (nI_add (10 * t) bb) ?_
                        refine lv_istore (lv' := [(5, .int (nI (10 * t + bb))), (10, .int (dearV sa T T1 (nn til) (rnG sz nu (nn sheet)) (nn ee) t bb)), (9, .int (nI bb)), (8, .int (nI (nn (sa (8 + t))))), (7, .int (nI t)), (6, .int ms1), (4, .int (nI (dearC bt sz nu sheet til ee))), (0, .ref (ad 30)), (1, .int sheet), (2, .int til), (3, .int ee)]) hx hb dX6_dearer_130 hl (by decide) rfl (fun ls hl => ?_)
                        refine lv_iload hx hb dX6_dearer_132 (lv_at hl 1 rfl) ?_
                        refine lv_istore (lv' := [(6, .int (dearV sa T T1 (nn til) (rnG sz nu (nn sheet)) (nn ee) t bb)), (5, .int (nI (10 * t + bb))), (10, .int (dearV sa T T1 (nn til) (rnG sz nu (nn sheet)) (nn ee) t bb)), (9, .int (nI bb)), (8, .int (nI (nn (sa (8 + t))))), (7, .int (nI t)), (4, .int (nI (dearC bt sz nu sheet til ee))), (0, .ref (ad 30)), (1, .int sheet), (2, .int til), (3, .int ee)]) hx hb dX6_dearer_134 hl (by decide) rfl (fun ls hl => ?_)
                        refine lv_iinc (v := nI (bb + 1)) (lv' := [(9, .int (nI (bb + 1))), (6, .int (dearV sa T T1 (nn til) (rnG sz nu (nn sheet)) (nn ee) t bb)), (5, .int (nI (10 * t + bb))), (10, .int (dearV sa T T1 (nn til) (rnG sz nu (nn sheet)) (nn ee) t bb)), (8, .int (nI (nn (sa (8 + t))))), (7, .int (nI t)), (4, .int (nI (dearC bt sz nu sheet til ee))), (0, .ref (ad 30)), (1, .int sheet), (2, .int til), (3, .int ee)]) hx hb dX6_dearer_136 hl (k := 3) rfl (fx_inc _) (by decide) rfl (fun ls hl => ?_)
                        refine lv_goto (tgt := 59) hx hb dX6_dearer_139 (by decide) ?_
                        exact ih_59 (bb + 1) (nI (10 * t + bb)) (dearV sa T T1 (nn til) (rnG sz nu (nn sheet)) (nn ee) t bb) (upd sa (8 + t) (nI (nn (sa (8 + t)) + bb))) bn2_95 bm2_95 nm2_104 pl2_104 rw2_95 be2_95 wo2_95 (by omega) (by omega) (by rw [itr_s, ← hBB, dearS, if_pos (Or.inr (Int32.not_le.1 c_119))]) (fun x => upd_twice) _ _ hP hD hS ls (lv_sub hl [0, 4, 5, 1, 2, 6, 7, 8, 9, 10] rfl)
            exact loop_59 ((10 - 0) + 1) 0 wb ms sa bnv bmv nmv plv rwv bev wov (Nat.lt_succ_self _) (by omega) rfl (fun _ => rfl) _ _ hP hD hS ls (lv_sub hl [0, 1, 2, 3, 4, 5, 6, 7, 8, 9] rfl)
      exact loop_37 ((8 - 0) + 1) 0 (-1) 0 bn bm nmd pl rw_ be wo (Nat.lt_succ_self _) (by omega) rfl _ _ hP hD hS ls (lv_sub hl [0, 1, 2, 3, 4, 5, 6, 7] rfl)
    · -- fall 21
      have n_18 := fx_le0 (a := (dearC bt sz nu sheet til ee)) (b := 0) c_18 (by omega) (by omega)
      refine lv_aload_n hx hb dX6_dearer_21 rfl (lv_at hl 1 rfl) ?_
      refine lv_iload hx hb dX6_dearer_22 (lv_at hl 0 rfl) ?_
      refine fx_ci (va_runV (As := [.int (nI (dearC bt sz nu sheet til ee))]) (rest := []) X (mX6_error l E ad im at_ op st_ us bn bm la fo fi lp tr_ sp ip er (dearC bt sz nu sheet til ee) (by omega) _) (cwV 1 X.2.2.2.2 (lw_V q1266 q1268 qs32 q75 q1269) rfl rfl rfl ⟨rfl, hdX6_error⟩ ⟨Nat.le_of_ble_eq_true rfl, Nat.le_of_ble_eq_true rfl⟩) (fx_preV (fx_pre hE hP hD hS hR [2] rfl rfl (fx_rcm 0 rfl (by decide) fx_rc0)) (va_recv hE.1 hP (ci := 6) (q0 := 0) rfl rfl)) rfl rfl hl.1 rfl (lv_room (Nat.le_of_ble_eq_true rfl)) dX6_dearer_24 ⟨Nat.le_refl _, Nat.le_refl _⟩) hP hD hS hA [2] rfl rfl (fun r_24 u H locs hq_24 hP hD hS => ?_)
      replace hP : va_P E.1 clA [(ad 30, .inr (6, [.ref (ad 0), .ref (ad 1), .int im, .ref (ad 3), .int at_, .int op, .int st_, .int us, .ref (ad 8), .ref (ad 9), .ref (ad 10), .ref (ad 11), .ref (ad 12), .ref (ad 13), .ref (ad 14), .int bn, .int bm, .ref (ad 17), .int la, .int fo, .int fi, .int lp, .ref (ad 22), .int tr_, .int sp, .int ip, .ref (ad 26), .ref (ad 27), .ref (ad 28), .ref (ad 29)])), (ad 0, .inl (E.2 0, 374, .inl sa)), (ad 3, .inl (E.2 0, 7, .inl (upd er (dearC bt sz nu sheet til ee) (er (dearC bt sz nu sheet til ee) + 1)))), (ad 9, .inl (E.2 0, 128, .inl nmd)), (ad 10, .inl (E.2 0, 64, .inl pl)), (ad 11, .inl (E.2 0, 8, .inl td2_11)), (ad 13, .inl (E.2 0, 8, .inl rw_)), (ad 14, .inl (E.2 0, 8, .inl be)), (ad 17, .inl (E.2 0, 8, .inl wo))] _ := hP
      replace hD : va_D A [(ad 30, .inr (6, [.ref (ad 0), .ref (ad 1), .int im, .ref (ad 3), .int at_, .int op, .int st_, .int us, .ref (ad 8), .ref (ad 9), .ref (ad 10), .ref (ad 11), .ref (ad 12), .ref (ad 13), .ref (ad 14), .int bn, .int bm, .ref (ad 17), .int la, .int fo, .int fi, .int lp, .ref (ad 22), .int tr_, .int sp, .int ip, .ref (ad 26), .ref (ad 27), .ref (ad 28), .ref (ad 29)])), (ad 0, .inl (E.2 0, 374, .inl sa)), (ad 3, .inl (E.2 0, 7, .inl (upd er (dearC bt sz nu sheet til ee) (er (dearC bt sz nu sheet til ee) + 1)))), (ad 9, .inl (E.2 0, 128, .inl nmd)), (ad 10, .inl (E.2 0, 64, .inl pl)), (ad 11, .inl (E.2 0, 8, .inl td2_11)), (ad 13, .inl (E.2 0, 8, .inl rw_)), (ad 14, .inl (E.2 0, 8, .inl be)), (ad 17, .inl (E.2 0, 8, .inl wo))] := hD
      replace hq_24 : r_24 = erv (dearC bt sz nu sheet til ee) := hq_24
      exact hret r_24 (bn, bm, (upd er (dearC bt sz nu sheet til ee) (er (dearC bt sz nu sheet til ee) + 1)), nmd, pl, td2_11, rw_, be, wo) (by rw [hq_24]; simp only [dearer_, eR_p n_18, eE_p n_18, erI]) (rfl) hP hD hS (Nat.le_refl _) (Nat.le_refl _) dX6_dearer_27
  · -- False
    subst hr_6
    have hwc : dearC bt sz nu sheet til ee = lackF bt sz nu sheet til false 30 := by rw [dearC, Bool.eq_false_iff.2 hb_6]
    refine lv_bipush (v := 30) hx hb dX6_dearer_9 rfl ?_
    refine fx_ci (va_runV (As := [.int sheet, .int til, .int 0, .int 30]) (rest := []) X (mX6_lacks l E ad im at_ op st_ us bn bm la fo fi lp tr_ sp ip bt sz nu td sheet til 0 30 (by first | assumption | omega) (by decide) _) (cwV 4 X.2.2.2.2 (lw_V q1402 q1404 qs50 q75 q1405) rfl rfl rfl ⟨rfl, hdX6_lacks⟩ ⟨Nat.le_of_ble_eq_true rfl, Nat.le_of_ble_eq_true rfl⟩) (fx_preV (fx_pre hE hP hD hS hR [5] rfl rfl (fx_rcm 0 rfl (by decide) (fx_rcr 0 rfl (fx_rcr 1 rfl (fx_rcr 2 rfl fx_rc0))))) (va_recv hE.1 hP (ci := 6) (q0 := 0) rfl rfl)) rfl rfl hl.1 rfl (lv_room (Nat.le_of_ble_eq_true rfl)) dX6_dearer_11 ⟨Nat.le_refl _, Nat.le_refl _⟩) hP hD hS hA [5] rfl rfl (fun r_11 u H locs hq_11 hP hD hS => ?_)
    obtain ⟨td2_11, rfl⟩ : ∃ z, z = u := ⟨_, rfl⟩
    replace hP : va_P E.1 clA [(ad 30, .inr (6, [.ref (ad 0), .ref (ad 1), .int im, .ref (ad 3), .int at_, .int op, .int st_, .int us, .ref (ad 8), .ref (ad 9), .ref (ad 10), .ref (ad 11), .ref (ad 12), .ref (ad 13), .ref (ad 14), .int bn, .int bm, .ref (ad 17), .int la, .int fo, .int fi, .int lp, .ref (ad 22), .int tr_, .int sp, .int ip, .ref (ad 26), .ref (ad 27), .ref (ad 28), .ref (ad 29)])), (ad 0, .inl (E.2 0, 374, .inl sa)), (ad 3, .inl (E.2 0, 7, .inl er)), (ad 9, .inl (E.2 0, 128, .inl nmd)), (ad 10, .inl (E.2 0, 64, .inl pl)), (ad 11, .inl (E.2 0, 8, .inl td2_11)), (ad 13, .inl (E.2 0, 8, .inl rw_)), (ad 14, .inl (E.2 0, 8, .inl be)), (ad 17, .inl (E.2 0, 8, .inl wo))] _ := hP
    replace hD : va_D A [(ad 30, .inr (6, [.ref (ad 0), .ref (ad 1), .int im, .ref (ad 3), .int at_, .int op, .int st_, .int us, .ref (ad 8), .ref (ad 9), .ref (ad 10), .ref (ad 11), .ref (ad 12), .ref (ad 13), .ref (ad 14), .int bn, .int bm, .ref (ad 17), .int la, .int fo, .int fi, .int lp, .ref (ad 22), .int tr_, .int sp, .int ip, .ref (ad 26), .ref (ad 27), .ref (ad 28), .ref (ad 29)])), (ad 0, .inl (E.2 0, 374, .inl sa)), (ad 3, .inl (E.2 0, 7, .inl er)), (ad 9, .inl (E.2 0, 128, .inl nmd)), (ad 10, .inl (E.2 0, 64, .inl pl)), (ad 11, .inl (E.2 0, 8, .inl td2_11)), (ad 13, .inl (E.2 0, 8, .inl rw_)), (ad 14, .inl (E.2 0, 8, .inl be)), (ad 17, .inl (E.2 0, 8, .inl wo))] := hD
    replace hq_11 : r_11 = nI (lackF bt sz nu sheet til (decide (0 ≠ 0)) 30) ∧ (lackF bt sz nu sheet til (decide (0 ≠ 0)) 30 = 0 → ∀ t, t < 8 → td2_11 t = shG sz nu (nn sheet) t) := hq_11
    refine fx_ti (show r_11 = nI (dearC bt sz nu sheet til ee) from hq_11.1.trans (congrArg nI hwc.symm)) ?_
    have hcl : dearC bt sz nu sheet til ee ≤ 4 := lackF_le
    refine lv_istore (lv' := [(4, .int (nI (dearC bt sz nu sheet til ee))), (0, .ref (ad 30)), (1, .int sheet), (2, .int til), (3, .int ee)]) hx hb dX6_dearer_14 hl (by decide) rfl (fun ls hl => ?_)
    refine lv_iload hx hb dX6_dearer_16 (lv_at hl 0 rfl) ?_
    refine lv_if_le (tgt := 28) hx hb dX6_dearer_18 (by decide) (fun c_18 => ?_) (fun c_18 => ?_)
    · -- jump 28
      have n_18 := fx_le1 (a := (dearC bt sz nu sheet til ee)) (b := 0) c_18 (by omega) (by omega)
      have h0 : dearC bt sz nu sheet til ee = 0 := by omega
      exact absurd h0 (by rw [hwc]; simp [lackF])
    · -- fall 21
      have n_18 := fx_le0 (a := (dearC bt sz nu sheet til ee)) (b := 0) c_18 (by omega) (by omega)
      refine lv_aload_n hx hb dX6_dearer_21 rfl (lv_at hl 1 rfl) ?_
      refine lv_iload hx hb dX6_dearer_22 (lv_at hl 0 rfl) ?_
      refine fx_ci (va_runV (As := [.int (nI (dearC bt sz nu sheet til ee))]) (rest := []) X (mX6_error l E ad im at_ op st_ us bn bm la fo fi lp tr_ sp ip er (dearC bt sz nu sheet til ee) (by omega) _) (cwV 1 X.2.2.2.2 (lw_V q1266 q1268 qs32 q75 q1269) rfl rfl rfl ⟨rfl, hdX6_error⟩ ⟨Nat.le_of_ble_eq_true rfl, Nat.le_of_ble_eq_true rfl⟩) (fx_preV (fx_pre hE hP hD hS hR [2] rfl rfl (fx_rcm 0 rfl (by decide) fx_rc0)) (va_recv hE.1 hP (ci := 6) (q0 := 0) rfl rfl)) rfl rfl hl.1 rfl (lv_room (Nat.le_of_ble_eq_true rfl)) dX6_dearer_24 ⟨Nat.le_refl _, Nat.le_refl _⟩) hP hD hS hA [2] rfl rfl (fun r_24 u H locs hq_24 hP hD hS => ?_)
      replace hP : va_P E.1 clA [(ad 30, .inr (6, [.ref (ad 0), .ref (ad 1), .int im, .ref (ad 3), .int at_, .int op, .int st_, .int us, .ref (ad 8), .ref (ad 9), .ref (ad 10), .ref (ad 11), .ref (ad 12), .ref (ad 13), .ref (ad 14), .int bn, .int bm, .ref (ad 17), .int la, .int fo, .int fi, .int lp, .ref (ad 22), .int tr_, .int sp, .int ip, .ref (ad 26), .ref (ad 27), .ref (ad 28), .ref (ad 29)])), (ad 0, .inl (E.2 0, 374, .inl sa)), (ad 3, .inl (E.2 0, 7, .inl (upd er (dearC bt sz nu sheet til ee) (er (dearC bt sz nu sheet til ee) + 1)))), (ad 9, .inl (E.2 0, 128, .inl nmd)), (ad 10, .inl (E.2 0, 64, .inl pl)), (ad 11, .inl (E.2 0, 8, .inl td2_11)), (ad 13, .inl (E.2 0, 8, .inl rw_)), (ad 14, .inl (E.2 0, 8, .inl be)), (ad 17, .inl (E.2 0, 8, .inl wo))] _ := hP
      replace hD : va_D A [(ad 30, .inr (6, [.ref (ad 0), .ref (ad 1), .int im, .ref (ad 3), .int at_, .int op, .int st_, .int us, .ref (ad 8), .ref (ad 9), .ref (ad 10), .ref (ad 11), .ref (ad 12), .ref (ad 13), .ref (ad 14), .int bn, .int bm, .ref (ad 17), .int la, .int fo, .int fi, .int lp, .ref (ad 22), .int tr_, .int sp, .int ip, .ref (ad 26), .ref (ad 27), .ref (ad 28), .ref (ad 29)])), (ad 0, .inl (E.2 0, 374, .inl sa)), (ad 3, .inl (E.2 0, 7, .inl (upd er (dearC bt sz nu sheet til ee) (er (dearC bt sz nu sheet til ee) + 1)))), (ad 9, .inl (E.2 0, 128, .inl nmd)), (ad 10, .inl (E.2 0, 64, .inl pl)), (ad 11, .inl (E.2 0, 8, .inl td2_11)), (ad 13, .inl (E.2 0, 8, .inl rw_)), (ad 14, .inl (E.2 0, 8, .inl be)), (ad 17, .inl (E.2 0, 8, .inl wo))] := hD
      replace hq_24 : r_24 = erv (dearC bt sz nu sheet til ee) := hq_24
      exact hret r_24 (bn, bm, (upd er (dearC bt sz nu sheet til ee) (er (dearC bt sz nu sheet til ee) + 1)), nmd, pl, td2_11, rw_, be, wo) (by rw [hq_24]; simp only [dearer_, eR_p n_18, eE_p n_18, erI]) (rfl) hP hD hS (Nat.le_refl _) (Nat.le_refl _) dX6_dearer_27
abbrev rmX6_move : Room := { frames := 2, cells := 0, slots := 0, locals := 42 }
set_option maxHeartbeats 400000 in
set_option maxRecDepth 100000 in
theorem mX6_move (l : Launch) (E : fx_En) (ad : Nat → Nat) (im : Int32) (at_ : Int32) (op : Int32) (st_ : Int32) (us : Int32) (bn : Int32) (bm : Int32) (la : Int32) (fo : Int32) (fi : Int32) (lp : Int32) (tr_ : Int32) (sp : Int32) (ip : Int32) (bt : Nat → Int32) (sz : Nat → Int32) (nu : Nat → Int32) (er : Nat → Int32) (asd : Nat → Int32) (sheet : Int32) (i : Int32) (other : Int32) (j : Int32) (n_ : Int32) (hIS : InvS bt sz) : fx_Mi l yX6_move cX6_move 7 .int rmX6_move E [.ref (ad 30), .int sheet, .int i, .int other, .int j, .int n_] [(ad 3, .inl (E.2 0, 7, .inl er)), (ad 28, .inl (E.2 0, 96, .inl nu)), (ad 29, .inl (E.2 0, 24, .inl asd))] [(ad 30, .inr (6, [.ref (ad 0), .ref (ad 1), .int im, .ref (ad 3), .int at_, .int op, .int st_, .int us, .ref (ad 8), .ref (ad 9), .ref (ad 10), .ref (ad 11), .ref (ad 12), .ref (ad 13), .ref (ad 14), .int bn, .int bm, .ref (ad 17), .int la, .int fo, .int fi, .int lp, .ref (ad 22), .int tr_, .int sp, .int ip, .ref (ad 26), .ref (ad 27), .ref (ad 28), .ref (ad 29)])), (ad 26, .inl (E.2 0, 4, .inl bt)), (ad 27, .inl (E.2 0, 4, .inl sz))] (S := (Nat → Int32) × (Nat → Int32) × (Nat → Int32)) (fun (u : (Nat → Int32) × (Nat → Int32) × (Nat → Int32)) => [(ad 3, .inl (E.2 0, 7, .inl u.1)), (ad 28, .inl (E.2 0, 96, .inl u.2.1)), (ad 29, .inl (E.2 0, 24, .inl u.2.2))]) (fun (r : Int32) (u : (Nat → Int32) × (Nat → Int32) × (Nat → Int32)) => (r, u.2.1, u.1) = move_ bt sz nu er sheet i other j n_) := by
  refine fx_iW rfl rfl ?_
  intro p e s m args below meth c A ls Q X hE hP hD hR hA hl hret
  have hx := X.1
  have hb := X.2.1
  have hS : va_S A s.heap s.heap [] := va_S.rf
  replace hP : va_P E.1 clA [(ad 3, .inl (E.2 0, 7, .inl er)), (ad 28, .inl (E.2 0, 96, .inl nu)), (ad 29, .inl (E.2 0, 24, .inl asd))] _ := hP
  replace hD : va_D A [(ad 3, .inl (E.2 0, 7, .inl er)), (ad 28, .inl (E.2 0, 96, .inl nu)), (ad 29, .inl (E.2 0, 24, .inl asd))] := hD
  replace hl : lv_has ls 7 [(0, .ref (ad 30)), (1, .int sheet), (2, .int i), (3, .int other), (4, .int j), (5, .int n_)] := hl
  refine lv_iload_n hx hb dX6_move_0 rfl (lv_at hl 1 rfl) ?_
  refine fx_ci (va_runS (As := [.int sheet]) (rest := []) X (mX6_isSheet l E sheet _) (va_cwS 1 X.2.2.2.2 (lw_S q1406 q1407 q75 q1408) rfl rfl rfl hdX6_isSheet ⟨Nat.le_of_ble_eq_true rfl, Nat.le_of_ble_eq_true rfl⟩) (fx_pre hE hP hD hS hR [] rfl rfl fx_rc0) rfl rfl hl.1 rfl (lv_room (Nat.le_of_ble_eq_true rfl)) dX6_move_1 ⟨Nat.le_refl _, Nat.le_refl _⟩) hP hD hS hA [] rfl rfl (fun r_1 u H locs hq_1 hP hD hS => ?_)
  replace hP : va_P E.1 clA [(ad 3, .inl (E.2 0, 7, .inl er)), (ad 28, .inl (E.2 0, 96, .inl nu)), (ad 29, .inl (E.2 0, 24, .inl asd))] _ := hP
  replace hD : va_D A [(ad 3, .inl (E.2 0, 7, .inl er)), (ad 28, .inl (E.2 0, 96, .inl nu)), (ad 29, .inl (E.2 0, 24, .inl asd))] := hD
  replace hq_1 : r_1 = fx_b (inB sheet 0 3 = true) := hq_1
  rcases fx_bc hq_1 with ⟨hb_1, hr_1⟩ | ⟨hb_1, hr_1⟩
  · -- True
    subst hr_1
    refine lv_if_eq (tgt := 14) hx hb dX6_move_4 (by decide) (fun c => absurd c (by decide)) (fun _ => ?_)
    refine lv_iload_n hx hb dX6_move_7 rfl (lv_at hl 3 rfl) ?_
    refine fx_ci (va_runS (As := [.int other]) (rest := []) X (mX6_isSheet l E other _) (va_cwS 1 X.2.2.2.2 (lw_S q1406 q1407 q75 q1408) rfl rfl rfl hdX6_isSheet ⟨Nat.le_of_ble_eq_true rfl, Nat.le_of_ble_eq_true rfl⟩) (fx_pre hE hP hD hS hR [] rfl rfl fx_rc0) rfl rfl hl.1 rfl (lv_room (Nat.le_of_ble_eq_true rfl)) dX6_move_8 ⟨Nat.le_refl _, Nat.le_refl _⟩) hP hD hS hA [] rfl rfl (fun r_8 u H locs hq_8 hP hD hS => ?_)
    replace hP : va_P E.1 clA [(ad 3, .inl (E.2 0, 7, .inl er)), (ad 28, .inl (E.2 0, 96, .inl nu)), (ad 29, .inl (E.2 0, 24, .inl asd))] _ := hP
    replace hD : va_D A [(ad 3, .inl (E.2 0, 7, .inl er)), (ad 28, .inl (E.2 0, 96, .inl nu)), (ad 29, .inl (E.2 0, 24, .inl asd))] := hD
    replace hq_8 : r_8 = fx_b (inB other 0 3 = true) := hq_8
    rcases fx_bc hq_8 with ⟨hb_8, hr_8⟩ | ⟨hb_8, hr_8⟩
    · -- True
      subst hr_8
      refine lv_if_ne (tgt := 20) hx hb dX6_move_11 (by decide) (fun _ => ?_) (fun c => absurd c (by decide))
      have g1 := (inB_nn (n := 3) hb_1 (by omega)).2
      have g2 := (inB_nn (n := 3) hb_8 (by omega)).2
      refine lv_aload_n hx hb dX6_move_20 rfl (lv_at hl 0 rfl) ?_
      refine fx_get X hE (hR.at hS) 0 rfl rfl 26 rfl q1194 rfl rfl dX6_move_21 ?_
      refine lv_iload_n hx hb dX6_move_24 rfl (lv_at hl 1 rfl) ?_
      refine fx_ti (show sheet = nI (nn sheet) from (inB_nn (n := 3) hb_1 (by omega)).1) ?_
      refine fx_iald X hE (hR.at hS) 1 rfl (nn sheet) rfl (by omega) rfl dX6_move_25 ?_
      refine lv_if_eq (tgt := 38) hx hb dX6_move_26 (by decide) (fun c_26 => ?_) (fun c_26 => ?_)
      · -- jump 38
        refine lv_aload_n hx hb dX6_move_38 rfl (lv_at hl 0 rfl) ?_
        refine lv_iconst (v := 2) hx hb dX6_move_39 rfl ?_
        refine fx_ci (va_runV (As := [.int 2]) (rest := []) X (mX6_error l E ad im at_ op st_ us bn bm la fo fi lp tr_ sp ip er 2 (by decide) _) (cwV 1 X.2.2.2.2 (lw_V q1266 q1268 qs32 q75 q1269) rfl rfl rfl ⟨rfl, hdX6_error⟩ ⟨Nat.le_of_ble_eq_true rfl, Nat.le_of_ble_eq_true rfl⟩) (fx_preV (fx_pre hE hP hD hS hR [0] rfl rfl (fx_rcr 0 rfl fx_rc0)) (va_recv hE.1 (hR.at hS) (ci := 6) (q0 := 0) rfl rfl)) rfl rfl hl.1 rfl (lv_room (Nat.le_of_ble_eq_true rfl)) dX6_move_40 ⟨Nat.le_refl _, Nat.le_refl _⟩) hP hD hS hA [0] rfl rfl (fun r_40 u H locs hq_40 hP hD hS => ?_)
        replace hP : va_P E.1 clA [(ad 3, .inl (E.2 0, 7, .inl (upd er 2 (er 2 + 1)))), (ad 28, .inl (E.2 0, 96, .inl nu)), (ad 29, .inl (E.2 0, 24, .inl asd))] _ := hP
        replace hD : va_D A [(ad 3, .inl (E.2 0, 7, .inl (upd er 2 (er 2 + 1)))), (ad 28, .inl (E.2 0, 96, .inl nu)), (ad 29, .inl (E.2 0, 24, .inl asd))] := hD
        replace hq_40 : r_40 = erv 2 := hq_40
        exact hret r_40 ((upd er 2 (er 2 + 1)), nu, asd) (by simp [move_, erI, hq_40, mvBad, hb_1, hb_8, eq_true c_26]) (rfl) hP hD hS (Nat.le_refl _) (Nat.le_refl _) dX6_move_43
      · -- fall 29
        refine lv_aload_n hx hb dX6_move_29 rfl (lv_at hl 0 rfl) ?_
        refine fx_get X hE (hR.at hS) 0 rfl rfl 26 rfl q1194 rfl rfl dX6_move_30 ?_
        refine lv_iload_n hx hb dX6_move_33 rfl (lv_at hl 3 rfl) ?_
        refine fx_ti (show other = nI (nn other) from (inB_nn (n := 3) hb_8 (by omega)).1) ?_
        refine fx_iald X hE (hR.at hS) 1 rfl (nn other) rfl (by omega) rfl dX6_move_34 ?_
        refine lv_if_ne (tgt := 44) hx hb dX6_move_35 (by decide) (fun c_35 => ?_) (fun c_35 => ?_)
        · -- jump 44
          refine lv_aload_n hx hb dX6_move_44 rfl (lv_at hl 0 rfl) ?_
          refine fx_get X hE (hR.at hS) 0 rfl rfl 26 rfl q1194 rfl rfl dX6_move_45 ?_
          refine lv_iload_n hx hb dX6_move_48 rfl (lv_at hl 1 rfl) ?_
          refine fx_ti (show sheet = nI (nn sheet) from (inB_nn (n := 3) hb_1 (by omega)).1) ?_
          refine fx_iald X hE (hR.at hS) 1 rfl (nn sheet) rfl (by omega) rfl dX6_move_49 ?_
          refine lv_aload_n hx hb dX6_move_50 rfl (lv_at hl 0 rfl) ?_
          refine fx_get X hE (hR.at hS) 0 rfl rfl 26 rfl q1194 rfl rfl dX6_move_51 ?_
          refine lv_iload_n hx hb dX6_move_54 rfl (lv_at hl 3 rfl) ?_
          refine fx_ti (show other = nI (nn other) from (inB_nn (n := 3) hb_8 (by omega)).1) ?_
          refine fx_iald X hE (hR.at hS) 1 rfl (nn other) rfl (by omega) rfl dX6_move_55 ?_
          refine lv_icmp_eq (tgt := 65) hx hb dX6_move_56 (by decide) (fun c_56 => ?_) (fun c_56 => ?_)
          · -- jump 65
            refine lv_iload hx hb dX6_move_65 (lv_at hl 5 rfl) ?_
            refine lv_if_lt (tgt := 106) hx hb dX6_move_67 (by decide) (fun c_67 => ?_) (fun c_67 => ?_)
            · -- jump 106
              refine lv_aload_n hx hb dX6_move_106 rfl (lv_at hl 0 rfl) ?_
              refine lv_iconst (v := 1) hx hb dX6_move_107 rfl ?_
              refine fx_ci (va_runV (As := [.int 1]) (rest := []) X (mX6_error l E ad im at_ op st_ us bn bm la fo fi lp tr_ sp ip er 1 (by decide) _) (cwV 1 X.2.2.2.2 (lw_V q1266 q1268 qs32 q75 q1269) rfl rfl rfl ⟨rfl, hdX6_error⟩ ⟨Nat.le_of_ble_eq_true rfl, Nat.le_of_ble_eq_true rfl⟩) (fx_preV (fx_pre hE hP hD hS hR [0] rfl rfl (fx_rcr 0 rfl fx_rc0)) (va_recv hE.1 (hR.at hS) (ci := 6) (q0 := 0) rfl rfl)) rfl rfl hl.1 rfl (lv_room (Nat.le_of_ble_eq_true rfl)) dX6_move_108 ⟨Nat.le_refl _, Nat.le_refl _⟩) hP hD hS hA [0] rfl rfl (fun r_108 u H locs hq_108 hP hD hS => ?_)
              replace hP : va_P E.1 clA [(ad 3, .inl (E.2 0, 7, .inl (upd er 1 (er 1 + 1)))), (ad 28, .inl (E.2 0, 96, .inl nu)), (ad 29, .inl (E.2 0, 24, .inl asd))] _ := hP
              replace hD : va_D A [(ad 3, .inl (E.2 0, 7, .inl (upd er 1 (er 1 + 1)))), (ad 28, .inl (E.2 0, 96, .inl nu)), (ad 29, .inl (E.2 0, 24, .inl asd))] := hD
              replace hq_108 : r_108 = erv 1 := hq_108
              exact hret r_108 ((upd er 1 (er 1 + 1)), nu, asd) (by simp [move_, erI, hq_108, mvBad, hb_1, hb_8, c_26, c_35, eq_true c_56, c_67, Int32.not_le.2 c_67]) (rfl) hP hD hS (Nat.le_refl _) (Nat.le_refl _) dX6_move_111
            · -- fall 70
              refine lv_iload_n hx hb dX6_move_70 rfl (lv_at hl 2 rfl) ?_
              refine lv_if_lt (tgt := 106) hx hb dX6_move_71 (by decide) (fun c_71 => ?_) (fun c_71 => ?_)
              · -- jump 106
                refine lv_aload_n hx hb dX6_move_106 rfl (lv_at hl 0 rfl) ?_
                refine lv_iconst (v := 1) hx hb dX6_move_107 rfl ?_
                refine fx_ci (va_runV (As := [.int 1]) (rest := []) X (mX6_error l E ad im at_ op st_ us bn bm la fo fi lp tr_ sp ip er 1 (by decide) _) (cwV 1 X.2.2.2.2 (lw_V q1266 q1268 qs32 q75 q1269) rfl rfl rfl ⟨rfl, hdX6_error⟩ ⟨Nat.le_of_ble_eq_true rfl, Nat.le_of_ble_eq_true rfl⟩) (fx_preV (fx_pre hE hP hD hS hR [0] rfl rfl (fx_rcr 0 rfl fx_rc0)) (va_recv hE.1 (hR.at hS) (ci := 6) (q0 := 0) rfl rfl)) rfl rfl hl.1 rfl (lv_room (Nat.le_of_ble_eq_true rfl)) dX6_move_108 ⟨Nat.le_refl _, Nat.le_refl _⟩) hP hD hS hA [0] rfl rfl (fun r_108 u H locs hq_108 hP hD hS => ?_)
                replace hP : va_P E.1 clA [(ad 3, .inl (E.2 0, 7, .inl (upd er 1 (er 1 + 1)))), (ad 28, .inl (E.2 0, 96, .inl nu)), (ad 29, .inl (E.2 0, 24, .inl asd))] _ := hP
                replace hD : va_D A [(ad 3, .inl (E.2 0, 7, .inl (upd er 1 (er 1 + 1)))), (ad 28, .inl (E.2 0, 96, .inl nu)), (ad 29, .inl (E.2 0, 24, .inl asd))] := hD
                replace hq_108 : r_108 = erv 1 := hq_108
                exact hret r_108 ((upd er 1 (er 1 + 1)), nu, asd) (by simp [move_, erI, hq_108, mvBad, hb_1, hb_8, c_26, c_35, eq_true c_56, c_67, Int32.not_lt.1 c_67, c_71, Int32.not_le.2 c_71]) (rfl) hP hD hS (Nat.le_refl _) (Nat.le_refl _) dX6_move_111
              · -- fall 74
                refine lv_iload hx hb dX6_move_74 (lv_at hl 4 rfl) ?_
                refine lv_if_lt (tgt := 106) hx hb dX6_move_76 (by decide) (fun c_76 => ?_) (fun c_76 => ?_)
                · -- jump 106
                  refine lv_aload_n hx hb dX6_move_106 rfl (lv_at hl 0 rfl) ?_
                  refine lv_iconst (v := 1) hx hb dX6_move_107 rfl ?_
                  refine fx_ci (va_runV (As := [.int 1]) (rest := []) X (mX6_error l E ad im at_ op st_ us bn bm la fo fi lp tr_ sp ip er 1 (by decide) _) (cwV 1 X.2.2.2.2 (lw_V q1266 q1268 qs32 q75 q1269) rfl rfl rfl ⟨rfl, hdX6_error⟩ ⟨Nat.le_of_ble_eq_true rfl, Nat.le_of_ble_eq_true rfl⟩) (fx_preV (fx_pre hE hP hD hS hR [0] rfl rfl (fx_rcr 0 rfl fx_rc0)) (va_recv hE.1 (hR.at hS) (ci := 6) (q0 := 0) rfl rfl)) rfl rfl hl.1 rfl (lv_room (Nat.le_of_ble_eq_true rfl)) dX6_move_108 ⟨Nat.le_refl _, Nat.le_refl _⟩) hP hD hS hA [0] rfl rfl (fun r_108 u H locs hq_108 hP hD hS => ?_)
                  replace hP : va_P E.1 clA [(ad 3, .inl (E.2 0, 7, .inl (upd er 1 (er 1 + 1)))), (ad 28, .inl (E.2 0, 96, .inl nu)), (ad 29, .inl (E.2 0, 24, .inl asd))] _ := hP
                  replace hD : va_D A [(ad 3, .inl (E.2 0, 7, .inl (upd er 1 (er 1 + 1)))), (ad 28, .inl (E.2 0, 96, .inl nu)), (ad 29, .inl (E.2 0, 24, .inl asd))] := hD
                  replace hq_108 : r_108 = erv 1 := hq_108
                  exact hret r_108 ((upd er 1 (er 1 + 1)), nu, asd) (by simp [move_, erI, hq_108, mvBad, hb_1, hb_8, c_26, c_35, eq_true c_56, c_67, Int32.not_lt.1 c_67, c_71, Int32.not_lt.1 c_71, c_76, Int32.not_le.2 c_76]) (rfl) hP hD hS (Nat.le_refl _) (Nat.le_refl _) dX6_move_111
                · -- fall 79
                  refine lv_iload_n hx hb dX6_move_79 rfl (lv_at hl 2 rfl) ?_
                  refine lv_aload_n hx hb dX6_move_80 rfl (lv_at hl 0 rfl) ?_
                  refine fx_get X hE (hR.at hS) 0 rfl rfl 27 rfl q1195 rfl rfl dX6_move_81 ?_
                  refine lv_iload_n hx hb dX6_move_84 rfl (lv_at hl 1 rfl) ?_
                  refine fx_ti (show sheet = nI (nn sheet) from (inB_nn (n := 3) hb_1 (by omega)).1) ?_
                  refine fx_iald X hE (hR.at hS) 2 rfl (nn sheet) rfl (by omega) rfl dX6_move_85 ?_
                  refine lv_iload hx hb dX6_move_86 (lv_at hl 5 rfl) ?_
                  refine lv_isub hx hb dX6_move_88 ?_
                  refine lv_icmp_gt (tgt := 106) hx hb dX6_move_89 (by decide) (fun c_89 => ?_) (fun c_89 => ?_)
                  · -- jump 106
                    refine lv_aload_n hx hb dX6_move_106 rfl (lv_at hl 0 rfl) ?_
                    refine lv_iconst (v := 1) hx hb dX6_move_107 rfl ?_
                    refine fx_ci (va_runV (As := [.int 1]) (rest := []) X (mX6_error l E ad im at_ op st_ us bn bm la fo fi lp tr_ sp ip er 1 (by decide) _) (cwV 1 X.2.2.2.2 (lw_V q1266 q1268 qs32 q75 q1269) rfl rfl rfl ⟨rfl, hdX6_error⟩ ⟨Nat.le_of_ble_eq_true rfl, Nat.le_of_ble_eq_true rfl⟩) (fx_preV (fx_pre hE hP hD hS hR [0] rfl rfl (fx_rcr 0 rfl fx_rc0)) (va_recv hE.1 (hR.at hS) (ci := 6) (q0 := 0) rfl rfl)) rfl rfl hl.1 rfl (lv_room (Nat.le_of_ble_eq_true rfl)) dX6_move_108 ⟨Nat.le_refl _, Nat.le_refl _⟩) hP hD hS hA [0] rfl rfl (fun r_108 u H locs hq_108 hP hD hS => ?_)
                    replace hP : va_P E.1 clA [(ad 3, .inl (E.2 0, 7, .inl (upd er 1 (er 1 + 1)))), (ad 28, .inl (E.2 0, 96, .inl nu)), (ad 29, .inl (E.2 0, 24, .inl asd))] _ := hP
                    replace hD : va_D A [(ad 3, .inl (E.2 0, 7, .inl (upd er 1 (er 1 + 1)))), (ad 28, .inl (E.2 0, 96, .inl nu)), (ad 29, .inl (E.2 0, 24, .inl asd))] := hD
                    replace hq_108 : r_108 = erv 1 := hq_108
                    exact hret r_108 ((upd er 1 (er 1 + 1)), nu, asd) (by simp [move_, erI, hq_108, mvBad, hb_1, hb_8, c_26, c_35, eq_true c_56, c_67, Int32.not_lt.1 c_67, c_71, Int32.not_lt.1 c_71, c_76, Int32.not_lt.1 c_76, c_89, Int32.not_le.2 c_89]) (rfl) hP hD hS (Nat.le_refl _) (Nat.le_refl _) dX6_move_111
                  · -- fall 92
                    refine lv_iload hx hb dX6_move_92 (lv_at hl 4 rfl) ?_
                    refine lv_aload_n hx hb dX6_move_94 rfl (lv_at hl 0 rfl) ?_
                    refine fx_get X hE (hR.at hS) 0 rfl rfl 27 rfl q1195 rfl rfl dX6_move_95 ?_
                    refine lv_iload_n hx hb dX6_move_98 rfl (lv_at hl 3 rfl) ?_
                    refine fx_ti (show other = nI (nn other) from (inB_nn (n := 3) hb_8 (by omega)).1) ?_
                    refine fx_iald X hE (hR.at hS) 2 rfl (nn other) rfl (by omega) rfl dX6_move_99 ?_
                    refine lv_iload hx hb dX6_move_100 (lv_at hl 5 rfl) ?_
                    refine lv_isub hx hb dX6_move_102 ?_
                    refine lv_icmp_le (tgt := 112) hx hb dX6_move_103 (by decide) (fun c_103 => ?_) (fun c_103 => ?_)
                    · -- jump 112
                      have gs := hIS.sz (k := nn sheet) (by omega)
                      have gs2 := gs.2
                      have go := hIS.sz (k := nn other) (by omega)
                      have go2 := go.2
                      have gi := mv_le gs.1 gs.2 c_67 c_71 (Int32.not_lt.1 c_89)
                      have gj := mv_le go.1 go.2 c_67 c_76 c_103
                      refine lv_iconst (v := 0) hx hb dX6_move_112 rfl ?_
                      refine lv_istore (lv' := [(6, .int 0), (0, .ref (ad 30)), (1, .int sheet), (2, .int i), (3, .int other), (4, .int j), (5, .int n_)]) hx hb dX6_move_113 hl (by decide) rfl (fun ls hl => ?_)
                      have loop_115 : ∀ (n_115 : Nat) (t : Nat) (asv : Nat → Int32), (nn n_ - t < n_115) → (t ≤ nn n_) → (∀ x, x < t → asv x = nu (24 * nn sheet + nn i + x)) → ∀ (H : Heap) (locs : List Loc), va_P E.1 clA [(ad 3, .inl (E.2 0, 7, .inl er)), (ad 28, .inl (E.2 0, 96, .inl nu)), (ad 29, .inl (E.2 0, 24, .inl asv))] H → va_D A [(ad 3, .inl (E.2 0, 7, .inl er)), (ad 28, .inl (E.2 0, 96, .inl nu)), (ad 29, .inl (E.2 0, 24, .inl asv))] → va_S A s.heap H locs → ∀ (ls : Array Slot), lv_has ls 7 [(6, .int (nI t)), (0, .ref (ad 30)), (1, .int sheet), (2, .int i), (3, .int other), (4, .int j), (5, .int n_)] → W p l e rmX6_move s m args below meth c H locs 0 0 Q (F0 m 115 ls []) := by
                        intro n_115
                        induction n_115 with
                        | zero => intro t asv hm_115; exact absurd hm_115 (Nat.not_lt_zero _)
                        | succ n_115 ih_115 =>
                          intro t asv hm_115 ht has H locs hP hD hS ls hl
                          refine lv_iload hx hb dX6_move_115 (lv_at hl 0 rfl) ?_
                          refine lv_iload hx hb dX6_move_117 (lv_at hl 6 rfl) ?_
                          refine fx_ti (show n_ = nI (nn n_) from (nn_pos (Int32.not_lt.1 c_67)).1) ?_
                          refine lv_icmp_ge (tgt := 149) hx hb dX6_move_119 (by decide) (fun c_119 => ?_) (fun c_119 => ?_)
                          · -- jump 149
                            have n_119 := fx_le1 (a := (nn n_)) (b := t) c_119 (by omega) (by omega)
                            obtain rfl : t = nn n_ := by omega
                            refine lv_iconst (v := 0) hx hb dX6_move_149 rfl ?_
                            refine lv_istore (lv' := [(6, .int 0), (0, .ref (ad 30)), (1, .int sheet), (2, .int i), (3, .int other), (4, .int j), (5, .int n_)]) hx hb dX6_move_150 hl (by decide) rfl (fun ls hl => ?_)
                            have loop_152 : ∀ (n_152 : Nat) (t2 : Nat) (nuv : Nat → Int32), (nn n_ - t2 < n_152) → (t2 ≤ nn n_) → (nuv = mvN nu (24 * nn other + nn j) (24 * nn sheet + nn i) t2) → ∀ (H : Heap) (locs : List Loc), va_P E.1 clA [(ad 3, .inl (E.2 0, 7, .inl er)), (ad 28, .inl (E.2 0, 96, .inl nuv)), (ad 29, .inl (E.2 0, 24, .inl asv))] H → va_D A [(ad 3, .inl (E.2 0, 7, .inl er)), (ad 28, .inl (E.2 0, 96, .inl nuv)), (ad 29, .inl (E.2 0, 24, .inl asv))] → va_S A s.heap H locs → ∀ (ls : Array Slot), lv_has ls 7 [(6, .int (nI t2)), (0, .ref (ad 30)), (1, .int sheet), (2, .int i), (3, .int other), (4, .int j), (5, .int n_)] → W p l e rmX6_move s m args below meth c H locs 0 0 Q (F0 m 152 ls []) := by
                              intro n_152
                              induction n_152 with
                              | zero => intro t2 nuv hm_152; exact absurd hm_152 (Nat.not_lt_zero _)
                              | succ n_152 ih_152 =>
                                intro t2 nuv hm_152 ht2 hnu H locs hP hD hS ls hl
                                refine lv_iload hx hb dX6_move_152 (lv_at hl 0 rfl) ?_
                                refine lv_iload hx hb dX6_move_154 (lv_at hl 6 rfl) ?_
                                refine fx_ti (show n_ = nI (nn n_) from (nn_pos (Int32.not_lt.1 c_67)).1) ?_
                                refine lv_icmp_ge (tgt := 187) hx hb dX6_move_156 (by decide) (fun c_156 => ?_) (fun c_156 => ?_)
                                · -- jump 187
                                  have n_156 := fx_le1 (a := (nn n_)) (b := t2) c_156 (by omega) (by omega)
                                  obtain rfl : t2 = nn n_ := by omega
                                  subst hnu
                                  refine lv_iload hx hb dX6_move_187 (lv_at hl 6 rfl) ?_
                                  exact hret n_ (er, (mvN nu (24 * nn other + nn j) (24 * nn sheet + nn i) (nn n_)), asv) (by rw [move_, if_pos (by simp [hb_1, hb_8]), if_neg (fun h => h.elim c_26 c_35), if_neg (not_not_intro c_56), if_neg (by simp [mvBad, c_67, c_71, c_76, Int32.not_lt.1 c_89, c_103, Int32.not_lt.1 c_67, Int32.not_lt.1 c_71, Int32.not_lt.1 c_76])]) (rfl) hP hD hS (Nat.le_refl _) (Nat.le_refl _) dX6_move_189
                                · -- fall 159
                                  have n_156 := fx_le0 (a := (nn n_)) (b := t2) c_156 (by omega) (by omega)
                                  refine lv_aload_n hx hb dX6_move_159 rfl (lv_at hl 1 rfl) ?_
                                  refine fx_get X hE (hR.at hS) 0 rfl rfl 28 rfl q1196 rfl rfl dX6_move_160 ?_
                                  refine lv_bipush (v := 24) hx hb dX6_move_163 rfl ?_
                                  refine lv_iload_n hx hb dX6_move_165 rfl (lv_at hl 4 rfl) ?_
                                  refine fx_ti (show other = nI (nn other) from (inB_nn (n := 3) hb_8 (by omega)).1) ?_
                                  refine lv_imul hx hb dX6_move_166 ?_
                                  refine fx_ti (pk_mul 24 (nn other)) ?_
                                  refine lv_iload hx hb dX6_move_167 (lv_at hl 5 rfl) ?_
                                  refine fx_ti (show j = nI (nn j) from (nn_pos (Int32.not_lt.1 c_76)).1) ?_
                                  refine lv_iadd hx hb dX6_move_169 ?_
                                  refine fx_ti (nI_add (24 * (nn other)) (nn j)) ?_
                                  refine lv_iload hx hb dX6_move_170 (lv_at hl 0 rfl) ?_
                                  refine lv_iadd hx hb dX6_move_172 ?_
                                  refine fx_ti (nI_add (24 * (nn other) + nn j) t2) ?_
                                  refine lv_aload_n hx hb dX6_move_173 rfl (lv_at hl 1 rfl) ?_
                                  refine fx_get X hE (hR.at hS) 0 rfl rfl 29 rfl q1197 rfl rfl dX6_move_174 ?_
                                  refine lv_iload hx hb dX6_move_177 (lv_at hl 0 rfl) ?_
                                  refine fx_iald X hE hP 2 rfl t2 rfl (by omega) rfl dX6_move_179 ?_
                                  refine fx_iast (ws' := [(ad 3, .inl (E.2 0, 7, .inl er)), (ad 28, .inl (E.2 0, 96, .inl (upd nuv (24 * (nn other) + nn j + t2) (asv t2)))), (ad 29, .inl (E.2 0, 24, .inl asv))]) X hE hP hD hS 1 rfl (24 * (nn other) + nn j + t2) rfl (by omega) rfl rfl dX6_move_180 (fun H locs hP hD hS => ?_)
                                  refine lv_iinc (v := nI (t2 + 1)) (lv' := [(6, .int (nI (t2 + 1))), (0, .ref (ad 30)), (1, .int sheet), (2, .int i), (3, .int other), (4, .int j), (5, .int n_)]) hx hb dX6_move_181 hl (k := 0) rfl (fx_inc _) (by decide) rfl (fun ls hl => ?_)
                                  refine lv_goto (tgt := 152) hx hb dX6_move_184 (by decide) ?_
                                  exact ih_152 (t2 + 1) (upd nuv (24 * (nn other) + nn j + t2) (asv t2)) (by omega) (by omega) (mvN_s hnu (has t2 (by omega))) _ _ hP hD hS ls (lv_sub hl [0, 1, 2, 3, 4, 5, 6] rfl)
                            exact loop_152 ((nn n_ - 0) + 1) 0 nu (Nat.lt_succ_self _) (Nat.zero_le _) (mvN_0 _ _ _) _ _ hP hD hS ls (lv_sub hl [0, 1, 2, 3, 4, 5, 6] rfl)
                          · -- fall 122
                            have n_119 := fx_le0 (a := (nn n_)) (b := t) c_119 (by omega) (by omega)
                            refine lv_aload_n hx hb dX6_move_122 rfl (lv_at hl 1 rfl) ?_
                            refine fx_get X hE (hR.at hS) 0 rfl rfl 29 rfl q1197 rfl rfl dX6_move_123 ?_
                            refine lv_iload hx hb dX6_move_126 (lv_at hl 0 rfl) ?_
                            refine lv_aload_n hx hb dX6_move_128 rfl (lv_at hl 1 rfl) ?_
                            refine fx_get X hE (hR.at hS) 0 rfl rfl 28 rfl q1196 rfl rfl dX6_move_129 ?_
                            refine lv_bipush (v := 24) hx hb dX6_move_132 rfl ?_
                            refine lv_iload_n hx hb dX6_move_134 rfl (lv_at hl 2 rfl) ?_
                            refine fx_ti (show sheet = nI (nn sheet) from (inB_nn (n := 3) hb_1 (by omega)).1) ?_
                            refine lv_imul hx hb dX6_move_135 ?_
                            refine fx_ti (pk_mul 24 (nn sheet)) ?_
                            refine lv_iload_n hx hb dX6_move_136 rfl (lv_at hl 3 rfl) ?_
                            refine fx_ti (show i = nI (nn i) from (nn_pos (Int32.not_lt.1 c_71)).1) ?_
                            refine lv_iadd hx hb dX6_move_137 ?_
                            refine fx_ti (nI_add (24 * (nn sheet)) (nn i)) ?_
                            refine lv_iload hx hb dX6_move_138 (lv_at hl 0 rfl) ?_
                            refine lv_iadd hx hb dX6_move_140 ?_
                            refine fx_ti (nI_add (24 * (nn sheet) + nn i) t) ?_
                            refine fx_iald X hE hP 1 rfl (24 * (nn sheet) + nn i + t) rfl (by omega) rfl dX6_move_141 ?_
                            refine fx_iast (ws' := [(ad 3, .inl (E.2 0, 7, .inl er)), (ad 28, .inl (E.2 0, 96, .inl nu)), (ad 29, .inl (E.2 0, 24, .inl (upd asv t (nu (24 * (nn sheet) + nn i + t)))))]) X hE hP hD hS 2 rfl t rfl (by omega) rfl rfl dX6_move_142 (fun H locs hP hD hS => ?_)
                            refine lv_iinc (v := nI (t + 1)) (lv' := [(6, .int (nI (t + 1))), (0, .ref (ad 30)), (1, .int sheet), (2, .int i), (3, .int other), (4, .int j), (5, .int n_)]) hx hb dX6_move_143 hl (k := 0) rfl (fx_inc _) (by decide) rfl (fun ls hl => ?_)
                            refine lv_goto (tgt := 115) hx hb dX6_move_146 (by decide) ?_
                            exact ih_115 (t + 1) (upd asv t (nu (24 * (nn sheet) + nn i + t))) (by omega) (by omega) (ext_s (f := fun x => nu (24 * nn sheet + nn i + x)) has rfl) _ _ hP hD hS ls (lv_sub hl [0, 1, 2, 3, 4, 5, 6] rfl)
                      exact loop_115 ((nn n_ - 0) + 1) 0 asd (Nat.lt_succ_self _) (Nat.zero_le _) (fun i hi => absurd hi (Nat.not_lt_zero _)) _ _ hP hD hS ls (lv_sub hl [0, 1, 2, 3, 4, 5, 6] rfl)
                    · -- fall 106
                      refine lv_aload_n hx hb dX6_move_106 rfl (lv_at hl 0 rfl) ?_
                      refine lv_iconst (v := 1) hx hb dX6_move_107 rfl ?_
                      refine fx_ci (va_runV (As := [.int 1]) (rest := []) X (mX6_error l E ad im at_ op st_ us bn bm la fo fi lp tr_ sp ip er 1 (by decide) _) (cwV 1 X.2.2.2.2 (lw_V q1266 q1268 qs32 q75 q1269) rfl rfl rfl ⟨rfl, hdX6_error⟩ ⟨Nat.le_of_ble_eq_true rfl, Nat.le_of_ble_eq_true rfl⟩) (fx_preV (fx_pre hE hP hD hS hR [0] rfl rfl (fx_rcr 0 rfl fx_rc0)) (va_recv hE.1 (hR.at hS) (ci := 6) (q0 := 0) rfl rfl)) rfl rfl hl.1 rfl (lv_room (Nat.le_of_ble_eq_true rfl)) dX6_move_108 ⟨Nat.le_refl _, Nat.le_refl _⟩) hP hD hS hA [0] rfl rfl (fun r_108 u H locs hq_108 hP hD hS => ?_)
                      replace hP : va_P E.1 clA [(ad 3, .inl (E.2 0, 7, .inl (upd er 1 (er 1 + 1)))), (ad 28, .inl (E.2 0, 96, .inl nu)), (ad 29, .inl (E.2 0, 24, .inl asd))] _ := hP
                      replace hD : va_D A [(ad 3, .inl (E.2 0, 7, .inl (upd er 1 (er 1 + 1)))), (ad 28, .inl (E.2 0, 96, .inl nu)), (ad 29, .inl (E.2 0, 24, .inl asd))] := hD
                      replace hq_108 : r_108 = erv 1 := hq_108
                      exact hret r_108 ((upd er 1 (er 1 + 1)), nu, asd) (by simp [move_, erI, hq_108, mvBad, hb_1, hb_8, c_26, c_35, eq_true c_56, c_67, Int32.not_lt.1 c_67, c_71, Int32.not_lt.1 c_71, c_76, Int32.not_lt.1 c_76, c_89, Int32.not_lt.1 c_89, c_103, Int32.not_le.1 c_103]) (rfl) hP hD hS (Nat.le_refl _) (Nat.le_refl _) dX6_move_111
          · -- fall 59
            refine lv_aload_n hx hb dX6_move_59 rfl (lv_at hl 0 rfl) ?_
            refine lv_iconst (v := 5) hx hb dX6_move_60 rfl ?_
            refine fx_ci (va_runV (As := [.int 5]) (rest := []) X (mX6_error l E ad im at_ op st_ us bn bm la fo fi lp tr_ sp ip er 5 (by decide) _) (cwV 1 X.2.2.2.2 (lw_V q1266 q1268 qs32 q75 q1269) rfl rfl rfl ⟨rfl, hdX6_error⟩ ⟨Nat.le_of_ble_eq_true rfl, Nat.le_of_ble_eq_true rfl⟩) (fx_preV (fx_pre hE hP hD hS hR [0] rfl rfl (fx_rcr 0 rfl fx_rc0)) (va_recv hE.1 (hR.at hS) (ci := 6) (q0 := 0) rfl rfl)) rfl rfl hl.1 rfl (lv_room (Nat.le_of_ble_eq_true rfl)) dX6_move_61 ⟨Nat.le_refl _, Nat.le_refl _⟩) hP hD hS hA [0] rfl rfl (fun r_61 u H locs hq_61 hP hD hS => ?_)
            replace hP : va_P E.1 clA [(ad 3, .inl (E.2 0, 7, .inl (upd er 5 (er 5 + 1)))), (ad 28, .inl (E.2 0, 96, .inl nu)), (ad 29, .inl (E.2 0, 24, .inl asd))] _ := hP
            replace hD : va_D A [(ad 3, .inl (E.2 0, 7, .inl (upd er 5 (er 5 + 1)))), (ad 28, .inl (E.2 0, 96, .inl nu)), (ad 29, .inl (E.2 0, 24, .inl asd))] := hD
            replace hq_61 : r_61 = erv 5 := hq_61
            exact hret r_61 ((upd er 5 (er 5 + 1)), nu, asd) (by simp [move_, erI, hq_61, mvBad, hb_1, hb_8, c_26, c_35, c_56]) (rfl) hP hD hS (Nat.le_refl _) (Nat.le_refl _) dX6_move_64
        · -- fall 38
          refine lv_aload_n hx hb dX6_move_38 rfl (lv_at hl 0 rfl) ?_
          refine lv_iconst (v := 2) hx hb dX6_move_39 rfl ?_
          refine fx_ci (va_runV (As := [.int 2]) (rest := []) X (mX6_error l E ad im at_ op st_ us bn bm la fo fi lp tr_ sp ip er 2 (by decide) _) (cwV 1 X.2.2.2.2 (lw_V q1266 q1268 qs32 q75 q1269) rfl rfl rfl ⟨rfl, hdX6_error⟩ ⟨Nat.le_of_ble_eq_true rfl, Nat.le_of_ble_eq_true rfl⟩) (fx_preV (fx_pre hE hP hD hS hR [0] rfl rfl (fx_rcr 0 rfl fx_rc0)) (va_recv hE.1 (hR.at hS) (ci := 6) (q0 := 0) rfl rfl)) rfl rfl hl.1 rfl (lv_room (Nat.le_of_ble_eq_true rfl)) dX6_move_40 ⟨Nat.le_refl _, Nat.le_refl _⟩) hP hD hS hA [0] rfl rfl (fun r_40 u H locs hq_40 hP hD hS => ?_)
          replace hP : va_P E.1 clA [(ad 3, .inl (E.2 0, 7, .inl (upd er 2 (er 2 + 1)))), (ad 28, .inl (E.2 0, 96, .inl nu)), (ad 29, .inl (E.2 0, 24, .inl asd))] _ := hP
          replace hD : va_D A [(ad 3, .inl (E.2 0, 7, .inl (upd er 2 (er 2 + 1)))), (ad 28, .inl (E.2 0, 96, .inl nu)), (ad 29, .inl (E.2 0, 24, .inl asd))] := hD
          replace hq_40 : r_40 = erv 2 := hq_40
          exact hret r_40 ((upd er 2 (er 2 + 1)), nu, asd) (by simp [move_, erI, hq_40, mvBad, hb_1, hb_8, c_26, eq_true c_35]) (rfl) hP hD hS (Nat.le_refl _) (Nat.le_refl _) dX6_move_43
    · -- False
      subst hr_8
      refine lv_if_ne (tgt := 20) hx hb dX6_move_11 (by decide) (fun c => (c (by decide)).elim) (fun _ => ?_)
      refine lv_aload_n hx hb dX6_move_14 rfl (lv_at hl 0 rfl) ?_
      refine lv_iconst (v := 1) hx hb dX6_move_15 rfl ?_
      refine fx_ci (va_runV (As := [.int 1]) (rest := []) X (mX6_error l E ad im at_ op st_ us bn bm la fo fi lp tr_ sp ip er 1 (by decide) _) (cwV 1 X.2.2.2.2 (lw_V q1266 q1268 qs32 q75 q1269) rfl rfl rfl ⟨rfl, hdX6_error⟩ ⟨Nat.le_of_ble_eq_true rfl, Nat.le_of_ble_eq_true rfl⟩) (fx_preV (fx_pre hE hP hD hS hR [0] rfl rfl (fx_rcr 0 rfl fx_rc0)) (va_recv hE.1 (hR.at hS) (ci := 6) (q0 := 0) rfl rfl)) rfl rfl hl.1 rfl (lv_room (Nat.le_of_ble_eq_true rfl)) dX6_move_16 ⟨Nat.le_refl _, Nat.le_refl _⟩) hP hD hS hA [0] rfl rfl (fun r_16 u H locs hq_16 hP hD hS => ?_)
      replace hP : va_P E.1 clA [(ad 3, .inl (E.2 0, 7, .inl (upd er 1 (er 1 + 1)))), (ad 28, .inl (E.2 0, 96, .inl nu)), (ad 29, .inl (E.2 0, 24, .inl asd))] _ := hP
      replace hD : va_D A [(ad 3, .inl (E.2 0, 7, .inl (upd er 1 (er 1 + 1)))), (ad 28, .inl (E.2 0, 96, .inl nu)), (ad 29, .inl (E.2 0, 24, .inl asd))] := hD
      replace hq_16 : r_16 = erv 1 := hq_16
      exact hret r_16 ((upd er 1 (er 1 + 1)), nu, asd) (by simp [move_, erI, hq_16, mvBad, hb_1, hb_8]) (rfl) hP hD hS (Nat.le_refl _) (Nat.le_refl _) dX6_move_19
  · -- False
    subst hr_1
    refine lv_if_eq (tgt := 14) hx hb dX6_move_4 (by decide) (fun _ => ?_) (fun c => (c (by decide)).elim)
    refine lv_aload_n hx hb dX6_move_14 rfl (lv_at hl 0 rfl) ?_
    refine lv_iconst (v := 1) hx hb dX6_move_15 rfl ?_
    refine fx_ci (va_runV (As := [.int 1]) (rest := []) X (mX6_error l E ad im at_ op st_ us bn bm la fo fi lp tr_ sp ip er 1 (by decide) _) (cwV 1 X.2.2.2.2 (lw_V q1266 q1268 qs32 q75 q1269) rfl rfl rfl ⟨rfl, hdX6_error⟩ ⟨Nat.le_of_ble_eq_true rfl, Nat.le_of_ble_eq_true rfl⟩) (fx_preV (fx_pre hE hP hD hS hR [0] rfl rfl (fx_rcr 0 rfl fx_rc0)) (va_recv hE.1 (hR.at hS) (ci := 6) (q0 := 0) rfl rfl)) rfl rfl hl.1 rfl (lv_room (Nat.le_of_ble_eq_true rfl)) dX6_move_16 ⟨Nat.le_refl _, Nat.le_refl _⟩) hP hD hS hA [0] rfl rfl (fun r_16 u H locs hq_16 hP hD hS => ?_)
    replace hP : va_P E.1 clA [(ad 3, .inl (E.2 0, 7, .inl (upd er 1 (er 1 + 1)))), (ad 28, .inl (E.2 0, 96, .inl nu)), (ad 29, .inl (E.2 0, 24, .inl asd))] _ := hP
    replace hD : va_D A [(ad 3, .inl (E.2 0, 7, .inl (upd er 1 (er 1 + 1)))), (ad 28, .inl (E.2 0, 96, .inl nu)), (ad 29, .inl (E.2 0, 24, .inl asd))] := hD
    replace hq_16 : r_16 = erv 1 := hq_16
    exact hret r_16 ((upd er 1 (er 1 + 1)), nu, asd) (by simp [move_, erI, hq_16, mvBad, hb_1]) (rfl) hP hD hS (Nat.le_refl _) (Nat.le_refl _) dX6_move_19
