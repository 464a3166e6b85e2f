set_option maxRecDepth 100000
theorem hdX0_sheet : yX0_sheet.cls ≠ "java/lang/invoke/MethodHandle" ∧ yX0_sheet.cls ≠ "java/lang/invoke/VarHandle" ∧ (parseMethodDescriptor yX0_sheet.desc).map (fun d => d.parameters.length) = some 3 := by decide +kernel
theorem hdX0_put : yX0_put.cls ≠ "java/lang/invoke/MethodHandle" ∧ yX0_put.cls ≠ "java/lang/invoke/VarHandle" ∧ (parseMethodDescriptor yX0_put.desc).map (fun d => d.parameters.length) = some 3 := by decide +kernel
theorem hdX0_move : yX0_move.cls ≠ "java/lang/invoke/MethodHandle" ∧ yX0_move.cls ≠ "java/lang/invoke/VarHandle" ∧ (parseMethodDescriptor yX0_move.desc).map (fun d => d.parameters.length) = some 5 := by decide +kernel
theorem pvF8 {v : Int32} : pvF 8 v = v.toInt8.toInt32 := by simp [pvF]
theorem pvF16 {v : Int32} : pvF 16 v = v.toInt16.toInt32 := by simp [pvF]
theorem pvF32 {v : Int32} : pvF 32 v = v := by simp [pvF]
abbrev rxX0_sheet : Room := { frames := 10, cells := 3, slots := 54, locals := 10400 }
set_option maxHeartbeats 4000000 in
set_option maxRecDepth 100000 in
theorem xX0_sheet (l : Launch) (E : fx_En) (ks : fz_Ks) (ax : Nat → Nat) (im : Int32) (bn : Int32) (bm : Int32) (fm : Int32) (ff : Int32) (fl : Int32) (er : Nat → Int32) (bt : Nat → Int32) (sz : Nat → Int32) (nu : Nat → Int32) (sh : Nat → Option Nat) (sheet : Int32) (its : Int32) (n_ : Int32) (hst : l.stackTraces = false) : fz_Hi l yX0_sheet cX0_sheet 5 [((51 : Nat), (96 : Nat), (97 : Nat), (352 : Nat))] .int rxX0_sheet E ks [.ref (ax 19), .int sheet, .int its, .int n_] [(ax 5, .inl (E.2 0, 7, .inl er)), (ax 64, .inr (2, [va_rf (sh 0)])), (ax 65, .inr (2, [va_rf (sh 1)])), (ax 66, .inr (2, [va_rf (sh 2)])), (ax 67, .inr (2, [va_rf (sh 3)]))] [(ax 19, .inr (0, [.ref (ax 0), .ref (ax 1), .ref (ax 35), .ref (ax 55), .ref (ax 4), .ref (ax 5), .ref (ax 6), .ref (ax 7), .int im, .ref (ax 9), .ref (ax 10), .ref (ax 11), .ref (ax 12), .ref (ax 13), .int bn, .int bm, .int fm, .int ff, .int fl])), (ax 6, .inl (E.2 3, 4, .inr (.inr (.inr (.inr (fun i_ => some (ax (64 + i_))))))))] (S := (Nat → Option Nat) × (Nat → Int32) × va_W) (fun (u : (Nat → Option Nat) × (Nat → Int32) × va_W) => ([(ax 5, .inl (E.2 0, 7, .inl u.2.1)), (ax 64, .inr (2, [va_rf (u.1 0)])), (ax 65, .inr (2, [va_rf (u.1 1)])), (ax 66, .inr (2, [va_rf (u.1 2)])), (ax 67, .inr (2, [va_rf (u.1 3)]))] ++ u.2.2)) (fun (r : Int32) (u : (Nat → Option Nat) × (Nat → Int32) × va_W) => r = (sheet_ bt sz nu er sheet its n_).1 ∧ u.2.1 = (sheet_ bt sz nu er sheet its n_).2.2.2.2 ∧ ShN E bt sz nu sh u.1 u.2.2 (sheet_ bt sz nu er sheet its n_) (nn sheet)) := by
  refine fz_hW rfl rfl ?_
  intro p e s m args below meth c A ls Q X htab hlocks hE hP hD hR hZ hA hl hret
  have hx := X.1
  have hb := X.2.1
  have hS : va_S A s.heap s.heap [] := va_S.rf
  replace hP : va_P E.1 clA [(ax 5, .inl (E.2 0, 7, .inl er)), (ax 64, .inr (2, [va_rf (sh 0)])), (ax 65, .inr (2, [va_rf (sh 1)])), (ax 66, .inr (2, [va_rf (sh 2)])), (ax 67, .inr (2, [va_rf (sh 3)]))] _ := hP
  replace hD : va_D A [(ax 5, .inl (E.2 0, 7, .inl er)), (ax 64, .inr (2, [va_rf (sh 0)])), (ax 65, .inr (2, [va_rf (sh 1)])), (ax 66, .inr (2, [va_rf (sh 2)])), (ax 67, .inr (2, [va_rf (sh 3)]))] := hD
  replace hl : lv_has ls 5 [(0, .ref (ax 19)), (1, .int sheet), (2, .int its), (3, .int n_)] := hl
  have hrs : rxX0_sheet.slots = 54 := rfl
  refine lv_iload_n hx hb dX0_sheet_0 rfl (lv_at hl 1 rfl) ?_
  refine fx_ci (va_runS (As := [.int sheet]) (rest := []) X (xX0_isSheet l E sheet _) (va_cwS 1 X.2.2.2.2 (lw_S q806 q807 q69 q808) rfl rfl rfl hdX0_isSheet ⟨Nat.le_of_ble_eq_true rfl, Nat.le_of_ble_eq_true rfl⟩) (fx_pre hE hP hD hS hR [] rfl rfl fx_rc0) rfl rfl hl.1 rfl (lv_room (Nat.le_of_ble_eq_true rfl)) dX0_sheet_1 ⟨Nat.le_of_ble_eq_true rfl, Nat.le_of_ble_eq_true rfl⟩) hP hD hS hA [] rfl rfl (fun r_1 u H locs hq_1 hP hD hS => ?_)
  replace hP : va_P E.1 clA [(ax 5, .inl (E.2 0, 7, .inl er)), (ax 64, .inr (2, [va_rf (sh 0)])), (ax 65, .inr (2, [va_rf (sh 1)])), (ax 66, .inr (2, [va_rf (sh 2)])), (ax 67, .inr (2, [va_rf (sh 3)]))] _ := hP
  replace hD : va_D A [(ax 5, .inl (E.2 0, 7, .inl er)), (ax 64, .inr (2, [va_rf (sh 0)])), (ax 65, .inr (2, [va_rf (sh 1)])), (ax 66, .inr (2, [va_rf (sh 2)])), (ax 67, .inr (2, [va_rf (sh 3)]))] := hD
  replace hq_1 : r_1 = fx_b (inB sheet 0 3 = true) := hq_1
  rcases fx_bc hq_1 with ⟨hb_1, hr_1⟩ | ⟨hb_1, hr_1⟩
  · -- True
    subst hr_1
    refine lv_if_eq (tgt := 29) hx hb dX0_sheet_4 (by decide) (fun c => absurd c (by decide)) (fun _ => ?_)
    rcases itsC its with rfl | rfl | rfl | rfl | hno
    ·
      refine lv_iload_n hx hb dX0_sheet_7 rfl (lv_at hl 2 rfl) ?_
      refine lv_if_eq (tgt := 35) hx hb dX0_sheet_8 (by decide) (fun _ => ?_) (fun c => (c (by decide)).elim)
      refine lv_iload_n hx hb dX0_sheet_35 rfl (lv_at hl 2 rfl) ?_
      refine lv_if_eq (tgt := 51) hx hb dX0_sheet_36 (by decide) (fun _ => ?_) (fun c => (c (by decide)).elim)
      refine W.widen (k := 0) (n := 0) (Nat.le_of_ble_eq_true rfl) (Nat.le_of_ble_eq_true rfl) ?_
      have gs := inB_nn (n := 3) hb_1 (by omega)
      have gs1 : nn sheet < 4 := by omega
      rcases (show nn sheet = 0 ∨ nn sheet = 1 ∨ nn sheet = 2 ∨ nn sheet = 3 by omega) with hk | hk | hk | hk
      ·
        refine lv_aload_n hx hb dX0_sheet_51 rfl (lv_at hl 0 rfl) ?_
        refine fx_get X hE (hR.at hS) 0 rfl rfl 6 rfl q241 rfl rfl dX0_sheet_52 ?_
        refine lv_iload_n hx hb dX0_sheet_55 rfl (lv_at hl 1 rfl) ?_
        refine fx_ti (show sheet = nI 0 from gs.1.trans (congrArg nI hk)) ?_
        refine fx_aald X hE (hR.at hS) 1 3 rfl rfl 0 rfl (by decide) rfl (r := some (ax 64)) (rfl) dX0_sheet_56 ?_
        refine lv_iload_n hx hb dX0_sheet_57 rfl (lv_at hl 2 rfl) ?_
        refine lv_if_ne (tgt := 65) hx hb dX0_sheet_58 (by decide) (fun c => (c (by decide)).elim) (fun _ => ?_)
        refine lv_null hx hb dX0_sheet_61 ?_
        refine lv_goto (tgt := 92) hx hb dX0_sheet_62 (by decide) ?_
        refine fx_putN (ws' := [(ax 5, .inl (E.2 0, 7, .inl er)), (ax 64, .inr (2, [.null])), (ax 65, .inr (2, [va_rf (sh 1)])), (ax 66, .inr (2, [va_rf (sh 2)])), (ax 67, .inr (2, [va_rf (sh 3)]))]) X hE hP hD hS 1 rfl rfl tyX2_ok nmX2 0 rfl 2 rfl rfl rfl rfl rfl rfl rfl dX0_sheet_92 (fun H locs hP hD hS => ?_)
        refine lv_iconst (v := 1) hx hb dX0_sheet_95 rfl ?_
        exact hret 1 (va_up sh 0 none, er, []) (by rw [sheet_z hb_1]; exact ⟨rfl, rfl, Or.inr (Or.inl ⟨gs1, rfl, rfl, rfl, by rw [hk], rfl⟩)⟩) (rfl) hP hD hS (Nat.le_of_ble_eq_true rfl) (Nat.le_of_ble_eq_true rfl) dX0_sheet_96
      ·
        refine lv_aload_n hx hb dX0_sheet_51 rfl (lv_at hl 0 rfl) ?_
        refine fx_get X hE (hR.at hS) 0 rfl rfl 6 rfl q241 rfl rfl dX0_sheet_52 ?_
        refine lv_iload_n hx hb dX0_sheet_55 rfl (lv_at hl 1 rfl) ?_
        refine fx_ti (show sheet = nI 1 from gs.1.trans (congrArg nI hk)) ?_
        refine fx_aald X hE (hR.at hS) 1 3 rfl rfl 1 rfl (by decide) rfl (r := some (ax 65)) (rfl) dX0_sheet_56 ?_
        refine lv_iload_n hx hb dX0_sheet_57 rfl (lv_at hl 2 rfl) ?_
        refine lv_if_ne (tgt := 65) hx hb dX0_sheet_58 (by decide) (fun c => (c (by decide)).elim) (fun _ => ?_)
        refine lv_null hx hb dX0_sheet_61 ?_
        refine lv_goto (tgt := 92) hx hb dX0_sheet_62 (by decide) ?_
        refine fx_putN (ws' := [(ax 5, .inl (E.2 0, 7, .inl er)), (ax 64, .inr (2, [va_rf (sh 0)])), (ax 65, .inr (2, [.null])), (ax 66, .inr (2, [va_rf (sh 2)])), (ax 67, .inr (2, [va_rf (sh 3)]))]) X hE hP hD hS 2 rfl rfl tyX2_ok nmX2 0 rfl 2 rfl rfl rfl rfl rfl rfl rfl dX0_sheet_92 (fun H locs hP hD hS => ?_)
        refine lv_iconst (v := 1) hx hb dX0_sheet_95 rfl ?_
        exact hret 1 (va_up sh 1 none, er, []) (by rw [sheet_z hb_1]; exact ⟨rfl, rfl, Or.inr (Or.inl ⟨gs1, rfl, rfl, rfl, by rw [hk], rfl⟩)⟩) (rfl) hP hD hS (Nat.le_of_ble_eq_true rfl) (Nat.le_of_ble_eq_true rfl) dX0_sheet_96
      ·
        refine lv_aload_n hx hb dX0_sheet_51 rfl (lv_at hl 0 rfl) ?_
        refine fx_get X hE (hR.at hS) 0 rfl rfl 6 rfl q241 rfl rfl dX0_sheet_52 ?_
        refine lv_iload_n hx hb dX0_sheet_55 rfl (lv_at hl 1 rfl) ?_
        refine fx_ti (show sheet = nI 2 from gs.1.trans (congrArg nI hk)) ?_
        refine fx_aald X hE (hR.at hS) 1 3 rfl rfl 2 rfl (by decide) rfl (r := some (ax 66)) (rfl) dX0_sheet_56 ?_
        refine lv_iload_n hx hb dX0_sheet_57 rfl (lv_at hl 2 rfl) ?_
        refine lv_if_ne (tgt := 65) hx hb dX0_sheet_58 (by decide) (fun c => (c (by decide)).elim) (fun _ => ?_)
        refine lv_null hx hb dX0_sheet_61 ?_
        refine lv_goto (tgt := 92) hx hb dX0_sheet_62 (by decide) ?_
        refine fx_putN (ws' := [(ax 5, .inl (E.2 0, 7, .inl er)), (ax 64, .inr (2, [va_rf (sh 0)])), (ax 65, .inr (2, [va_rf (sh 1)])), (ax 66, .inr (2, [.null])), (ax 67, .inr (2, [va_rf (sh 3)]))]) X hE hP hD hS 3 rfl rfl tyX2_ok nmX2 0 rfl 2 rfl rfl rfl rfl rfl rfl rfl dX0_sheet_92 (fun H locs hP hD hS => ?_)
        refine lv_iconst (v := 1) hx hb dX0_sheet_95 rfl ?_
        exact hret 1 (va_up sh 2 none, er, []) (by rw [sheet_z hb_1]; exact ⟨rfl, rfl, Or.inr (Or.inl ⟨gs1, rfl, rfl, rfl, by rw [hk], rfl⟩)⟩) (rfl) hP hD hS (Nat.le_of_ble_eq_true rfl) (Nat.le_of_ble_eq_true rfl) dX0_sheet_96
      ·
        refine lv_aload_n hx hb dX0_sheet_51 rfl (lv_at hl 0 rfl) ?_
        refine fx_get X hE (hR.at hS) 0 rfl rfl 6 rfl q241 rfl rfl dX0_sheet_52 ?_
        refine lv_iload_n hx hb dX0_sheet_55 rfl (lv_at hl 1 rfl) ?_
        refine fx_ti (show sheet = nI 3 from gs.1.trans (congrArg nI hk)) ?_
        refine fx_aald X hE (hR.at hS) 1 3 rfl rfl 3 rfl (by decide) rfl (r := some (ax 67)) (rfl) dX0_sheet_56 ?_
        refine lv_iload_n hx hb dX0_sheet_57 rfl (lv_at hl 2 rfl) ?_
        refine lv_if_ne (tgt := 65) hx hb dX0_sheet_58 (by decide) (fun c => (c (by decide)).elim) (fun _ => ?_)
        refine lv_null hx hb dX0_sheet_61 ?_
        refine lv_goto (tgt := 92) hx hb dX0_sheet_62 (by decide) ?_
        refine fx_putN (ws' := [(ax 5, .inl (E.2 0, 7, .inl er)), (ax 64, .inr (2, [va_rf (sh 0)])), (ax 65, .inr (2, [va_rf (sh 1)])), (ax 66, .inr (2, [va_rf (sh 2)])), (ax 67, .inr (2, [.null]))]) X hE hP hD hS 4 rfl rfl tyX2_ok nmX2 0 rfl 2 rfl rfl rfl rfl rfl rfl rfl dX0_sheet_92 (fun H locs hP hD hS => ?_)
        refine lv_iconst (v := 1) hx hb dX0_sheet_95 rfl ?_
        exact hret 1 (va_up sh 3 none, er, []) (by rw [sheet_z hb_1]; exact ⟨rfl, rfl, Or.inr (Or.inl ⟨gs1, rfl, rfl, rfl, by rw [hk], rfl⟩)⟩) (rfl) hP hD hS (Nat.le_of_ble_eq_true rfl) (Nat.le_of_ble_eq_true rfl) dX0_sheet_96
    ·
      refine lv_iload_n hx hb dX0_sheet_7 rfl (lv_at hl 2 rfl) ?_
      refine lv_if_eq (tgt := 35) hx hb dX0_sheet_8 (by decide) (fun c => absurd c (by decide)) (fun _ => ?_)
      refine lv_iload_n hx hb dX0_sheet_11 rfl (lv_at hl 2 rfl) ?_
      refine lv_bipush (v := 8) hx hb dX0_sheet_12 rfl ?_
      refine lv_icmp_eq (tgt := 35) hx hb dX0_sheet_14 (by decide) (fun _ => ?_) (fun c => (c (by decide)).elim)
      refine lv_iload_n hx hb dX0_sheet_35 rfl (lv_at hl 2 rfl) ?_
      refine lv_if_eq (tgt := 51) hx hb dX0_sheet_36 (by decide) (fun c => absurd c (by decide)) (fun _ => ?_)
      refine lv_iload_n hx hb dX0_sheet_39 rfl (lv_at hl 3 rfl) ?_
      refine lv_bipush (v := 24) hx hb dX0_sheet_40 rfl ?_
      refine lv_icmp_le (tgt := 51) hx hb dX0_sheet_42 (by decide) (fun c_42 => ?_) (fun c_42 => ?_)
      · -- jump 51
        refine W.widen (k := 0) (n := 0) (Nat.le_of_ble_eq_true rfl) (Nat.le_of_ble_eq_true rfl) ?_
        have gs := inB_nn (n := 3) hb_1 (by omega)
        have gs1 : nn sheet < 4 := by omega
        rcases (show nn sheet = 0 ∨ nn sheet = 1 ∨ nn sheet = 2 ∨ nn sheet = 3 by omega) with hk | hk | hk | hk
        ·
          refine lv_aload_n hx hb dX0_sheet_51 rfl (lv_at hl 0 rfl) ?_
          refine fx_get X hE (hR.at hS) 0 rfl rfl 6 rfl q241 rfl rfl dX0_sheet_52 ?_
          refine lv_iload_n hx hb dX0_sheet_55 rfl (lv_at hl 1 rfl) ?_
          refine fx_ti (show sheet = nI 0 from gs.1.trans (congrArg nI hk)) ?_
          refine fx_aald X hE (hR.at hS) 1 3 rfl rfl 0 rfl (by decide) rfl (r := some (ax 64)) (rfl) dX0_sheet_56 ?_
          refine lv_iload_n hx hb dX0_sheet_57 rfl (lv_at hl 2 rfl) ?_
          refine lv_if_ne (tgt := 65) hx hb dX0_sheet_58 (by decide) (fun _ => ?_) (fun c => absurd c (by decide))
          refine lv_iload_n hx hb dX0_sheet_65 rfl (lv_at hl 2 rfl) ?_
          refine lv_bipush (v := 8) hx hb dX0_sheet_66 rfl ?_
          refine lv_icmp_ne (tgt := 77) hx hb dX0_sheet_68 (by decide) (fun c => (c (by decide)).elim) (fun _ => ?_)
          refine lv_iload_n hx hb dX0_sheet_71 rfl (lv_at hl 3 rfl) ?_
          by_cases hz : n_ < 0
          ·
            refine vx_newarrayZ X.1 X.2.1 hz dX0_sheet_72 (fun tx htx => ?_)
            subst htx
            refine fe_vm X hst hlocks hZ hP hS hl.1 (feN_w X hE) feN_g ⟨by decide +kernel, rfl, rfl⟩ (nb := 44) (fe_txt n_).1 (fe_txt n_).2 (by decide) (Nat.le_of_ble_eq_true rfl) (Nat.le_of_ble_eq_true rfl) (Nat.le_of_ble_eq_true rfl) (Nat.le_of_ble_eq_true rfl) (fun H1 q9 ce hP hS hce hcv hcl => ?_)
            refine vx_catch X.2.2.2.1 [] ⟨51, 96, 97, 352⟩ _ (htab.trans rfl) (fun _ h => nomatch h) rfl (by decide) (X.2.2.2.2 _ q1089) (va_tabs rfl rfl (hE.2.1 _ (List.mem_of_getElem? (i := 50) rfl))) hce hcv hcl ?_
            refine lv_astore (lv' := [(4, .ref q9), (0, .ref (ax 19)), (1, .int sheet), (2, .int 8), (3, .int n_)]) hx hb dX0_sheet_97 hl (by decide) rfl (fun ls hl => ?_)
            refine lv_aload_n hx hb dX0_sheet_99 rfl (lv_at hl 1 rfl) ?_
            refine lv_iconst (v := 3) hx hb dX0_sheet_100 rfl ?_
            refine fx_ci (va_runV (As := [.int 3]) (rest := []) X (xX0_finds l E ax im bn bm fm ff fl er 3 (by decide) _) (cwV 1 X.2.2.2.2 (lw_V q303 q305 qs0 q69 q306) rfl rfl rfl ⟨rfl, hdX0_finds⟩ ⟨Nat.le_of_ble_eq_true rfl, Nat.le_of_ble_eq_true rfl⟩) (fx_preV (fx_pre hE hP hD hS hR [0] rfl rfl (fx_rcr 0 rfl fx_rc0)) (va_recv hE.1 (hR.at hS) (ci := 0) (q0 := 0) rfl rfl)) rfl rfl hl.1 rfl (lv_room (Nat.le_of_ble_eq_true rfl)) dX0_sheet_101 ⟨Nat.le_refl _, Nat.le_refl _⟩) hP hD hS hA [0] rfl rfl (fun r_101 u H locs hq_101 hP hD hS => ?_)
            replace hP : va_P E.1 clA [(ax 5, .inl (E.2 0, 7, .inl (upd er 3 (er 3 + 1)))), (ax 64, .inr (2, [va_rf (sh 0)])), (ax 65, .inr (2, [va_rf (sh 1)])), (ax 66, .inr (2, [va_rf (sh 2)])), (ax 67, .inr (2, [va_rf (sh 3)]))] _ := hP
            replace hD : va_D A [(ax 5, .inl (E.2 0, 7, .inl (upd er 3 (er 3 + 1)))), (ax 64, .inr (2, [va_rf (sh 0)])), (ax 65, .inr (2, [va_rf (sh 1)])), (ax 66, .inr (2, [va_rf (sh 2)])), (ax 67, .inr (2, [va_rf (sh 3)]))] := hD
            replace hq_101 : r_101 = erv 3 := hq_101
            exact hret r_101 (sh, (upd er 3 (er 3 + 1)), []) (by rw [sheet_g hb_1 (by decide) (by decide) hz]; exact ⟨hq_101, rfl, Or.inl ⟨rfl, rfl, rfl, rfl, rfl⟩⟩) (rfl) hP hD hS (Nat.le_refl _) (Nat.le_refl _) dX0_sheet_104
          ·
            have hN := nn_pos (Int32.not_lt.1 hz)
            have hN24 : nn n_ ≤ 24 := le_nn (N := 24) (by decide) c_42 hz
            refine fx_ti (show n_ = nI (nn n_) from hN.1) ?_
            refine fx_newa1 X hE hP hD hS hA q127 (N := (nn n_)) rfl (by rw [Nat.blt_eq]; omega) (Nat.le_of_ble_eq_true rfl) (by omega) dX0_sheet_72 (fun q72 H hP hD hS => ?_)
            replace hP : va_P E.1 clA [(ax 5, .inl (E.2 0, 7, .inl er)), (ax 64, .inr (2, [va_rf (sh 0)])), (ax 65, .inr (2, [va_rf (sh 1)])), (ax 66, .inr (2, [va_rf (sh 2)])), (ax 67, .inr (2, [va_rf (sh 3)])), (q72, .inl (E.2 1, (nn n_), .inl (fun _ => 0)))] _ := hP
            replace hD : va_D A [(ax 5, .inl (E.2 0, 7, .inl er)), (ax 64, .inr (2, [va_rf (sh 0)])), (ax 65, .inr (2, [va_rf (sh 1)])), (ax 66, .inr (2, [va_rf (sh 2)])), (ax 67, .inr (2, [va_rf (sh 3)])), (q72, .inl (E.2 1, (nn n_), .inl (fun _ => 0)))] := hD
            refine W.widen (k := 1) (n := 0 + (nn n_)) (by first | omega | exact Nat.le_of_ble_eq_true rfl) (by first | omega | exact Nat.le_of_ble_eq_true rfl) ?_
            refine lv_goto (tgt := 92) hx hb dX0_sheet_74 (by decide) ?_
            refine fx_putN (ws' := [(ax 5, .inl (E.2 0, 7, .inl er)), (ax 64, .inr (2, [.ref q72])), (ax 65, .inr (2, [va_rf (sh 1)])), (ax 66, .inr (2, [va_rf (sh 2)])), (ax 67, .inr (2, [va_rf (sh 3)])), (q72, .inl (E.2 1, (nn n_), .inl (fun _ => 0)))]) X hE hP hD hS 1 rfl rfl tyX2_ok nmX2 0 rfl 2 rfl rfl rfl rfl rfl rfl rfl dX0_sheet_92 (fun H locs hP hD hS => ?_)
            refine lv_iconst (v := 1) hx hb dX0_sheet_95 rfl ?_
            exact hret 1 (va_up sh 0 (some q72), er, [(q72, .inl (E.2 1, (nn n_), .inl (fun _ => 0)))]) (by rw [sheet_s hb_1 (by decide) (by decide) hz c_42]; exact ⟨rfl, rfl, Or.inr (Or.inr ⟨gs1, nn n_, q72, 1, 8, hN24, Or.inl ⟨rfl, rfl⟩, rfl, congrArg (upd sz (nn sheet)) hN.1, rfl, by rw [hk], rfl⟩)⟩) (rfl) hP hD hS (Nat.le_of_ble_eq_true rfl) (by omega) dX0_sheet_96
        ·
          refine lv_aload_n hx hb dX0_sheet_51 rfl (lv_at hl 0 rfl) ?_
          refine fx_get X hE (hR.at hS) 0 rfl rfl 6 rfl q241 rfl rfl dX0_sheet_52 ?_
          refine lv_iload_n hx hb dX0_sheet_55 rfl (lv_at hl 1 rfl) ?_
          refine fx_ti (show sheet = nI 1 from gs.1.trans (congrArg nI hk)) ?_
          refine fx_aald X hE (hR.at hS) 1 3 rfl rfl 1 rfl (by decide) rfl (r := some (ax 65)) (rfl) dX0_sheet_56 ?_
          refine lv_iload_n hx hb dX0_sheet_57 rfl (lv_at hl 2 rfl) ?_
          refine lv_if_ne (tgt := 65) hx hb dX0_sheet_58 (by decide) (fun _ => ?_) (fun c => absurd c (by decide))
          refine lv_iload_n hx hb dX0_sheet_65 rfl (lv_at hl 2 rfl) ?_
          refine lv_bipush (v := 8) hx hb dX0_sheet_66 rfl ?_
          refine lv_icmp_ne (tgt := 77) hx hb dX0_sheet_68 (by decide) (fun c => (c (by decide)).elim) (fun _ => ?_)
          refine lv_iload_n hx hb dX0_sheet_71 rfl (lv_at hl 3 rfl) ?_
          by_cases hz : n_ < 0
          ·
            refine vx_newarrayZ X.1 X.2.1 hz dX0_sheet_72 (fun tx htx => ?_)
            subst htx
            refine fe_vm X hst hlocks hZ hP hS hl.1 (feN_w X hE) feN_g ⟨by decide +kernel, rfl, rfl⟩ (nb := 44) (fe_txt n_).1 (fe_txt n_).2 (by decide) (Nat.le_of_ble_eq_true rfl) (Nat.le_of_ble_eq_true rfl) (Nat.le_of_ble_eq_true rfl) (Nat.le_of_ble_eq_true rfl) (fun H1 q9 ce hP hS hce hcv hcl => ?_)
            refine vx_catch X.2.2.2.1 [] ⟨51, 96, 97, 352⟩ _ (htab.trans rfl) (fun _ h => nomatch h) rfl (by decide) (X.2.2.2.2 _ q1089) (va_tabs rfl rfl (hE.2.1 _ (List.mem_of_getElem? (i := 50) rfl))) hce hcv hcl ?_
            refine lv_astore (lv' := [(4, .ref q9), (0, .ref (ax 19)), (1, .int sheet), (2, .int 8), (3, .int n_)]) hx hb dX0_sheet_97 hl (by decide) rfl (fun ls hl => ?_)
            refine lv_aload_n hx hb dX0_sheet_99 rfl (lv_at hl 1 rfl) ?_
            refine lv_iconst (v := 3) hx hb dX0_sheet_100 rfl ?_
            refine fx_ci (va_runV (As := [.int 3]) (rest := []) X (xX0_finds l E ax im bn bm fm ff fl er 3 (by decide) _) (cwV 1 X.2.2.2.2 (lw_V q303 q305 qs0 q69 q306) rfl rfl rfl ⟨rfl, hdX0_finds⟩ ⟨Nat.le_of_ble_eq_true rfl, Nat.le_of_ble_eq_true rfl⟩) (fx_preV (fx_pre hE hP hD hS hR [0] rfl rfl (fx_rcr 0 rfl fx_rc0)) (va_recv hE.1 (hR.at hS) (ci := 0) (q0 := 0) rfl rfl)) rfl rfl hl.1 rfl (lv_room (Nat.le_of_ble_eq_true rfl)) dX0_sheet_101 ⟨Nat.le_refl _, Nat.le_refl _⟩) hP hD hS hA [0] rfl rfl (fun r_101 u H locs hq_101 hP hD hS => ?_)
            replace hP : va_P E.1 clA [(ax 5, .inl (E.2 0, 7, .inl (upd er 3 (er 3 + 1)))), (ax 64, .inr (2, [va_rf (sh 0)])), (ax 65, .inr (2, [va_rf (sh 1)])), (ax 66, .inr (2, [va_rf (sh 2)])), (ax 67, .inr (2, [va_rf (sh 3)]))] _ := hP
            replace hD : va_D A [(ax 5, .inl (E.2 0, 7, .inl (upd er 3 (er 3 + 1)))), (ax 64, .inr (2, [va_rf (sh 0)])), (ax 65, .inr (2, [va_rf (sh 1)])), (ax 66, .inr (2, [va_rf (sh 2)])), (ax 67, .inr (2, [va_rf (sh 3)]))] := hD
            replace hq_101 : r_101 = erv 3 := hq_101
            exact hret r_101 (sh, (upd er 3 (er 3 + 1)), []) (by rw [sheet_g hb_1 (by decide) (by decide) hz]; exact ⟨hq_101, rfl, Or.inl ⟨rfl, rfl, rfl, rfl, rfl⟩⟩) (rfl) hP hD hS (Nat.le_refl _) (Nat.le_refl _) dX0_sheet_104
          ·
            have hN := nn_pos (Int32.not_lt.1 hz)
            have hN24 : nn n_ ≤ 24 := le_nn (N := 24) (by decide) c_42 hz
            refine fx_ti (show n_ = nI (nn n_) from hN.1) ?_
            refine fx_newa1 X hE hP hD hS hA q127 (N := (nn n_)) rfl (by rw [Nat.blt_eq]; omega) (Nat.le_of_ble_eq_true rfl) (by omega) dX0_sheet_72 (fun q72 H hP hD hS => ?_)
            replace hP : va_P E.1 clA [(ax 5, .inl (E.2 0, 7, .inl er)), (ax 64, .inr (2, [va_rf (sh 0)])), (ax 65, .inr (2, [va_rf (sh 1)])), (ax 66, .inr (2, [va_rf (sh 2)])), (ax 67, .inr (2, [va_rf (sh 3)])), (q72, .inl (E.2 1, (nn n_), .inl (fun _ => 0)))] _ := hP
            replace hD : va_D A [(ax 5, .inl (E.2 0, 7, .inl er)), (ax 64, .inr (2, [va_rf (sh 0)])), (ax 65, .inr (2, [va_rf (sh 1)])), (ax 66, .inr (2, [va_rf (sh 2)])), (ax 67, .inr (2, [va_rf (sh 3)])), (q72, .inl (E.2 1, (nn n_), .inl (fun _ => 0)))] := hD
            refine W.widen (k := 1) (n := 0 + (nn n_)) (by first | omega | exact Nat.le_of_ble_eq_true rfl) (by first | omega | exact Nat.le_of_ble_eq_true rfl) ?_
            refine lv_goto (tgt := 92) hx hb dX0_sheet_74 (by decide) ?_
            refine fx_putN (ws' := [(ax 5, .inl (E.2 0, 7, .inl er)), (ax 64, .inr (2, [va_rf (sh 0)])), (ax 65, .inr (2, [.ref q72])), (ax 66, .inr (2, [va_rf (sh 2)])), (ax 67, .inr (2, [va_rf (sh 3)])), (q72, .inl (E.2 1, (nn n_), .inl (fun _ => 0)))]) X hE hP hD hS 2 rfl rfl tyX2_ok nmX2 0 rfl 2 rfl rfl rfl rfl rfl rfl rfl dX0_sheet_92 (fun H locs hP hD hS => ?_)
            refine lv_iconst (v := 1) hx hb dX0_sheet_95 rfl ?_
            exact hret 1 (va_up sh 1 (some q72), er, [(q72, .inl (E.2 1, (nn n_), .inl (fun _ => 0)))]) (by rw [sheet_s hb_1 (by decide) (by decide) hz c_42]; exact ⟨rfl, rfl, Or.inr (Or.inr ⟨gs1, nn n_, q72, 1, 8, hN24, Or.inl ⟨rfl, rfl⟩, rfl, congrArg (upd sz (nn sheet)) hN.1, rfl, by rw [hk], rfl⟩)⟩) (rfl) hP hD hS (Nat.le_of_ble_eq_true rfl) (by omega) dX0_sheet_96
        ·
          refine lv_aload_n hx hb dX0_sheet_51 rfl (lv_at hl 0 rfl) ?_
          refine fx_get X hE (hR.at hS) 0 rfl rfl 6 rfl q241 rfl rfl dX0_sheet_52 ?_
          refine lv_iload_n hx hb dX0_sheet_55 rfl (lv_at hl 1 rfl) ?_
          refine fx_ti (show sheet = nI 2 from gs.1.trans (congrArg nI hk)) ?_
          refine fx_aald X hE (hR.at hS) 1 3 rfl rfl 2 rfl (by decide) rfl (r := some (ax 66)) (rfl) dX0_sheet_56 ?_
          refine lv_iload_n hx hb dX0_sheet_57 rfl (lv_at hl 2 rfl) ?_
          refine lv_if_ne (tgt := 65) hx hb dX0_sheet_58 (by decide) (fun _ => ?_) (fun c => absurd c (by decide))
          refine lv_iload_n hx hb dX0_sheet_65 rfl (lv_at hl 2 rfl) ?_
          refine lv_bipush (v := 8) hx hb dX0_sheet_66 rfl ?_
          refine lv_icmp_ne (tgt := 77) hx hb dX0_sheet_68 (by decide) (fun c => (c (by decide)).elim) (fun _ => ?_)
          refine lv_iload_n hx hb dX0_sheet_71 rfl (lv_at hl 3 rfl) ?_
          by_cases hz : n_ < 0
          ·
            refine vx_newarrayZ X.1 X.2.1 hz dX0_sheet_72 (fun tx htx => ?_)
            subst htx
            refine fe_vm X hst hlocks hZ hP hS hl.1 (feN_w X hE) feN_g ⟨by decide +kernel, rfl, rfl⟩ (nb := 44) (fe_txt n_).1 (fe_txt n_).2 (by decide) (Nat.le_of_ble_eq_true rfl) (Nat.le_of_ble_eq_true rfl) (Nat.le_of_ble_eq_true rfl) (Nat.le_of_ble_eq_true rfl) (fun H1 q9 ce hP hS hce hcv hcl => ?_)
            refine vx_catch X.2.2.2.1 [] ⟨51, 96, 97, 352⟩ _ (htab.trans rfl) (fun _ h => nomatch h) rfl (by decide) (X.2.2.2.2 _ q1089) (va_tabs rfl rfl (hE.2.1 _ (List.mem_of_getElem? (i := 50) rfl))) hce hcv hcl ?_
            refine lv_astore (lv' := [(4, .ref q9), (0, .ref (ax 19)), (1, .int sheet), (2, .int 8), (3, .int n_)]) hx hb dX0_sheet_97 hl (by decide) rfl (fun ls hl => ?_)
            refine lv_aload_n hx hb dX0_sheet_99 rfl (lv_at hl 1 rfl) ?_
            refine lv_iconst (v := 3) hx hb dX0_sheet_100 rfl ?_
            refine fx_ci (va_runV (As := [.int 3]) (rest := []) X (xX0_finds l E ax im bn bm fm ff fl er 3 (by decide) _) (cwV 1 X.2.2.2.2 (lw_V q303 q305 qs0 q69 q306) rfl rfl rfl ⟨rfl, hdX0_finds⟩ ⟨Nat.le_of_ble_eq_true rfl, Nat.le_of_ble_eq_true rfl⟩) (fx_preV (fx_pre hE hP hD hS hR [0] rfl rfl (fx_rcr 0 rfl fx_rc0)) (va_recv hE.1 (hR.at hS) (ci := 0) (q0 := 0) rfl rfl)) rfl rfl hl.1 rfl (lv_room (Nat.le_of_ble_eq_true rfl)) dX0_sheet_101 ⟨Nat.le_refl _, Nat.le_refl _⟩) hP hD hS hA [0] rfl rfl (fun r_101 u H locs hq_101 hP hD hS => ?_)
            replace hP : va_P E.1 clA [(ax 5, .inl (E.2 0, 7, .inl (upd er 3 (er 3 + 1)))), (ax 64, .inr (2, [va_rf (sh 0)])), (ax 65, .inr (2, [va_rf (sh 1)])), (ax 66, .inr (2, [va_rf (sh 2)])), (ax 67, .inr (2, [va_rf (sh 3)]))] _ := hP
            replace hD : va_D A [(ax 5, .inl (E.2 0, 7, .inl (upd er 3 (er 3 + 1)))), (ax 64, .inr (2, [va_rf (sh 0)])), (ax 65, .inr (2, [va_rf (sh 1)])), (ax 66, .inr (2, [va_rf (sh 2)])), (ax 67, .inr (2, [va_rf (sh 3)]))] := hD
            replace hq_101 : r_101 = erv 3 := hq_101
            exact hret r_101 (sh, (upd er 3 (er 3 + 1)), []) (by rw [sheet_g hb_1 (by decide) (by decide) hz]; exact ⟨hq_101, rfl, Or.inl ⟨rfl, rfl, rfl, rfl, rfl⟩⟩) (rfl) hP hD hS (Nat.le_refl _) (Nat.le_refl _) dX0_sheet_104
          ·
            have hN := nn_pos (Int32.not_lt.1 hz)
            have hN24 : nn n_ ≤ 24 := le_nn (N := 24) (by decide) c_42 hz
            refine fx_ti (show n_ = nI (nn n_) from hN.1) ?_
            refine fx_newa1 X hE hP hD hS hA q127 (N := (nn n_)) rfl (by rw [Nat.blt_eq]; omega) (Nat.le_of_ble_eq_true rfl) (by omega) dX0_sheet_72 (fun q72 H hP hD hS => ?_)
            replace hP : va_P E.1 clA [(ax 5, .inl (E.2 0, 7, .inl er)), (ax 64, .inr (2, [va_rf (sh 0)])), (ax 65, .inr (2, [va_rf (sh 1)])), (ax 66, .inr (2, [va_rf (sh 2)])), (ax 67, .inr (2, [va_rf (sh 3)])), (q72, .inl (E.2 1, (nn n_), .inl (fun _ => 0)))] _ := hP
            replace hD : va_D A [(ax 5, .inl (E.2 0, 7, .inl er)), (ax 64, .inr (2, [va_rf (sh 0)])), (ax 65, .inr (2, [va_rf (sh 1)])), (ax 66, .inr (2, [va_rf (sh 2)])), (ax 67, .inr (2, [va_rf (sh 3)])), (q72, .inl (E.2 1, (nn n_), .inl (fun _ => 0)))] := hD
            refine W.widen (k := 1) (n := 0 + (nn n_)) (by first | omega | exact Nat.le_of_ble_eq_true rfl) (by first | omega | exact Nat.le_of_ble_eq_true rfl) ?_
            refine lv_goto (tgt := 92) hx hb dX0_sheet_74 (by decide) ?_
            refine fx_putN (ws' := [(ax 5, .inl (E.2 0, 7, .inl er)), (ax 64, .inr (2, [va_rf (sh 0)])), (ax 65, .inr (2, [va_rf (sh 1)])), (ax 66, .inr (2, [.ref q72])), (ax 67, .inr (2, [va_rf (sh 3)])), (q72, .inl (E.2 1, (nn n_), .inl (fun _ => 0)))]) X hE hP hD hS 3 rfl rfl tyX2_ok nmX2 0 rfl 2 rfl rfl rfl rfl rfl rfl rfl dX0_sheet_92 (fun H locs hP hD hS => ?_)
            refine lv_iconst (v := 1) hx hb dX0_sheet_95 rfl ?_
            exact hret 1 (va_up sh 2 (some q72), er, [(q72, .inl (E.2 1, (nn n_), .inl (fun _ => 0)))]) (by rw [sheet_s hb_1 (by decide) (by decide) hz c_42]; exact ⟨rfl, rfl, Or.inr (Or.inr ⟨gs1, nn n_, q72, 1, 8, hN24, Or.inl ⟨rfl, rfl⟩, rfl, congrArg (upd sz (nn sheet)) hN.1, rfl, by rw [hk], rfl⟩)⟩) (rfl) hP hD hS (Nat.le_of_ble_eq_true rfl) (by omega) dX0_sheet_96
        ·
          refine lv_aload_n hx hb dX0_sheet_51 rfl (lv_at hl 0 rfl) ?_
          refine fx_get X hE (hR.at hS) 0 rfl rfl 6 rfl q241 rfl rfl dX0_sheet_52 ?_
          refine lv_iload_n hx hb dX0_sheet_55 rfl (lv_at hl 1 rfl) ?_
          refine fx_ti (show sheet = nI 3 from gs.1.trans (congrArg nI hk)) ?_
          refine fx_aald X hE (hR.at hS) 1 3 rfl rfl 3 rfl (by decide) rfl (r := some (ax 67)) (rfl) dX0_sheet_56 ?_
          refine lv_iload_n hx hb dX0_sheet_57 rfl (lv_at hl 2 rfl) ?_
          refine lv_if_ne (tgt := 65) hx hb dX0_sheet_58 (by decide) (fun _ => ?_) (fun c => absurd c (by decide))
          refine lv_iload_n hx hb dX0_sheet_65 rfl (lv_at hl 2 rfl) ?_
          refine lv_bipush (v := 8) hx hb dX0_sheet_66 rfl ?_
          refine lv_icmp_ne (tgt := 77) hx hb dX0_sheet_68 (by decide) (fun c => (c (by decide)).elim) (fun _ => ?_)
          refine lv_iload_n hx hb dX0_sheet_71 rfl (lv_at hl 3 rfl) ?_
          by_cases hz : n_ < 0
          ·
            refine vx_newarrayZ X.1 X.2.1 hz dX0_sheet_72 (fun tx htx => ?_)
            subst htx
            refine fe_vm X hst hlocks hZ hP hS hl.1 (feN_w X hE) feN_g ⟨by decide +kernel, rfl, rfl⟩ (nb := 44) (fe_txt n_).1 (fe_txt n_).2 (by decide) (Nat.le_of_ble_eq_true rfl) (Nat.le_of_ble_eq_true rfl) (Nat.le_of_ble_eq_true rfl) (Nat.le_of_ble_eq_true rfl) (fun H1 q9 ce hP hS hce hcv hcl => ?_)
            refine vx_catch X.2.2.2.1 [] ⟨51, 96, 97, 352⟩ _ (htab.trans rfl) (fun _ h => nomatch h) rfl (by decide) (X.2.2.2.2 _ q1089) (va_tabs rfl rfl (hE.2.1 _ (List.mem_of_getElem? (i := 50) rfl))) hce hcv hcl ?_
            refine lv_astore (lv' := [(4, .ref q9), (0, .ref (ax 19)), (1, .int sheet), (2, .int 8), (3, .int n_)]) hx hb dX0_sheet_97 hl (by decide) rfl (fun ls hl => ?_)
            refine lv_aload_n hx hb dX0_sheet_99 rfl (lv_at hl 1 rfl) ?_
            refine lv_iconst (v := 3) hx hb dX0_sheet_100 rfl ?_
            refine fx_ci (va_runV (As := [.int 3]) (rest := []) X (xX0_finds l E ax im bn bm fm ff fl er 3 (by decide) _) (cwV 1 X.2.2.2.2 (lw_V q303 q305 qs0 q69 q306) rfl rfl rfl ⟨rfl, hdX0_finds⟩ ⟨Nat.le_of_ble_eq_true rfl, Nat.le_of_ble_eq_true rfl⟩) (fx_preV (fx_pre hE hP hD hS hR [0] rfl rfl (fx_rcr 0 rfl fx_rc0)) (va_recv hE.1 (hR.at hS) (ci := 0) (q0 := 0) rfl rfl)) rfl rfl hl.1 rfl (lv_room (Nat.le_of_ble_eq_true rfl)) dX0_sheet_101 ⟨Nat.le_refl _, Nat.le_refl _⟩) hP hD hS hA [0] rfl rfl (fun r_101 u H locs hq_101 hP hD hS => ?_)
            replace hP : va_P E.1 clA [(ax 5, .inl (E.2 0, 7, .inl (upd er 3 (er 3 + 1)))), (ax 64, .inr (2, [va_rf (sh 0)])), (ax 65, .inr (2, [va_rf (sh 1)])), (ax 66, .inr (2, [va_rf (sh 2)])), (ax 67, .inr (2, [va_rf (sh 3)]))] _ := hP
            replace hD : va_D A [(ax 5, .inl (E.2 0, 7, .inl (upd er 3 (er 3 + 1)))), (ax 64, .inr (2, [va_rf (sh 0)])), (ax 65, .inr (2, [va_rf (sh 1)])), (ax 66, .inr (2, [va_rf (sh 2)])), (ax 67, .inr (2, [va_rf (sh 3)]))] := hD
            replace hq_101 : r_101 = erv 3 := hq_101
            exact hret r_101 (sh, (upd er 3 (er 3 + 1)), []) (by rw [sheet_g hb_1 (by decide) (by decide) hz]; exact ⟨hq_101, rfl, Or.inl ⟨rfl, rfl, rfl, rfl, rfl⟩⟩) (rfl) hP hD hS (Nat.le_refl _) (Nat.le_refl _) dX0_sheet_104
          ·
            have hN := nn_pos (Int32.not_lt.1 hz)
            have hN24 : nn n_ ≤ 24 := le_nn (N := 24) (by decide) c_42 hz
            refine fx_ti (show n_ = nI (nn n_) from hN.1) ?_
            refine fx_newa1 X hE hP hD hS hA q127 (N := (nn n_)) rfl (by rw [Nat.blt_eq]; omega) (Nat.le_of_ble_eq_true rfl) (by omega) dX0_sheet_72 (fun q72 H hP hD hS => ?_)
            replace hP : va_P E.1 clA [(ax 5, .inl (E.2 0, 7, .inl er)), (ax 64, .inr (2, [va_rf (sh 0)])), (ax 65, .inr (2, [va_rf (sh 1)])), (ax 66, .inr (2, [va_rf (sh 2)])), (ax 67, .inr (2, [va_rf (sh 3)])), (q72, .inl (E.2 1, (nn n_), .inl (fun _ => 0)))] _ := hP
            replace hD : va_D A [(ax 5, .inl (E.2 0, 7, .inl er)), (ax 64, .inr (2, [va_rf (sh 0)])), (ax 65, .inr (2, [va_rf (sh 1)])), (ax 66, .inr (2, [va_rf (sh 2)])), (ax 67, .inr (2, [va_rf (sh 3)])), (q72, .inl (E.2 1, (nn n_), .inl (fun _ => 0)))] := hD
            refine W.widen (k := 1) (n := 0 + (nn n_)) (by first | omega | exact Nat.le_of_ble_eq_true rfl) (by first | omega | exact Nat.le_of_ble_eq_true rfl) ?_
            refine lv_goto (tgt := 92) hx hb dX0_sheet_74 (by decide) ?_
            refine fx_putN (ws' := [(ax 5, .inl (E.2 0, 7, .inl er)), (ax 64, .inr (2, [va_rf (sh 0)])), (ax 65, .inr (2, [va_rf (sh 1)])), (ax 66, .inr (2, [va_rf (sh 2)])), (ax 67, .inr (2, [.ref q72])), (q72, .inl (E.2 1, (nn n_), .inl (fun _ => 0)))]) X hE hP hD hS 4 rfl rfl tyX2_ok nmX2 0 rfl 2 rfl rfl rfl rfl rfl rfl rfl dX0_sheet_92 (fun H locs hP hD hS => ?_)
            refine lv_iconst (v := 1) hx hb dX0_sheet_95 rfl ?_
            exact hret 1 (va_up sh 3 (some q72), er, [(q72, .inl (E.2 1, (nn n_), .inl (fun _ => 0)))]) (by rw [sheet_s hb_1 (by decide) (by decide) hz c_42]; exact ⟨rfl, rfl, Or.inr (Or.inr ⟨gs1, nn n_, q72, 1, 8, hN24, Or.inl ⟨rfl, rfl⟩, rfl, congrArg (upd sz (nn sheet)) hN.1, rfl, by rw [hk], rfl⟩)⟩) (rfl) hP hD hS (Nat.le_of_ble_eq_true rfl) (by omega) dX0_sheet_96
      · -- fall 45
        refine lv_aload_n hx hb dX0_sheet_45 rfl (lv_at hl 0 rfl) ?_
        refine lv_iconst (v := 1) hx hb dX0_sheet_46 rfl ?_
        refine fx_ci (va_runV (As := [.int 1]) (rest := []) X (xX0_finds l E ax im bn bm fm ff fl er 1 (by decide) _) (cwV 1 X.2.2.2.2 (lw_V q303 q305 qs0 q69 q306) rfl rfl rfl ⟨rfl, hdX0_finds⟩ ⟨Nat.le_of_ble_eq_true rfl, Nat.le_of_ble_eq_true rfl⟩) (fx_preV (fx_pre hE hP hD hS hR [0] rfl rfl (fx_rcr 0 rfl fx_rc0)) (va_recv hE.1 (hR.at hS) (ci := 0) (q0 := 0) rfl rfl)) rfl rfl hl.1 rfl (lv_room (Nat.le_of_ble_eq_true rfl)) dX0_sheet_47 ⟨Nat.le_of_ble_eq_true rfl, Nat.le_of_ble_eq_true rfl⟩) hP hD hS hA [0] rfl rfl (fun r_47 u H locs hq_47 hP hD hS => ?_)
        replace hP : va_P E.1 clA [(ax 5, .inl (E.2 0, 7, .inl (upd er 1 (er 1 + 1)))), (ax 64, .inr (2, [va_rf (sh 0)])), (ax 65, .inr (2, [va_rf (sh 1)])), (ax 66, .inr (2, [va_rf (sh 2)])), (ax 67, .inr (2, [va_rf (sh 3)]))] _ := hP
        replace hD : va_D A [(ax 5, .inl (E.2 0, 7, .inl (upd er 1 (er 1 + 1)))), (ax 64, .inr (2, [va_rf (sh 0)])), (ax 65, .inr (2, [va_rf (sh 1)])), (ax 66, .inr (2, [va_rf (sh 2)])), (ax 67, .inr (2, [va_rf (sh 3)]))] := hD
        replace hq_47 : r_47 = erv 1 := hq_47
        exact hret r_47 (sh, (upd er 1 (er 1 + 1)), []) (by rw [sheet_b hb_1 (by decide) (by decide) c_42]; exact ⟨hq_47, rfl, Or.inl ⟨rfl, rfl, rfl, rfl, rfl⟩⟩) (rfl) hP hD hS (Nat.le_of_ble_eq_true rfl) (Nat.le_of_ble_eq_true rfl) dX0_sheet_50
    ·
      refine lv_iload_n hx hb dX0_sheet_7 rfl (lv_at hl 2 rfl) ?_
      refine lv_if_eq (tgt := 35) hx hb dX0_sheet_8 (by decide) (fun c => absurd c (by decide)) (fun _ => ?_)
      refine lv_iload_n hx hb dX0_sheet_11 rfl (lv_at hl 2 rfl) ?_
      refine lv_bipush (v := 8) hx hb dX0_sheet_12 rfl ?_
      refine lv_icmp_eq (tgt := 35) hx hb dX0_sheet_14 (by decide) (fun c => absurd c (by decide)) (fun _ => ?_)
      refine lv_iload_n hx hb dX0_sheet_17 rfl (lv_at hl 2 rfl) ?_
      refine lv_bipush (v := 16) hx hb dX0_sheet_18 rfl ?_
      refine lv_icmp_eq (tgt := 35) hx hb dX0_sheet_20 (by decide) (fun _ => ?_) (fun c => (c (by decide)).elim)
      refine lv_iload_n hx hb dX0_sheet_35 rfl (lv_at hl 2 rfl) ?_
      refine lv_if_eq (tgt := 51) hx hb dX0_sheet_36 (by decide) (fun c => absurd c (by decide)) (fun _ => ?_)
      refine lv_iload_n hx hb dX0_sheet_39 rfl (lv_at hl 3 rfl) ?_
      refine lv_bipush (v := 24) hx hb dX0_sheet_40 rfl ?_
      refine lv_icmp_le (tgt := 51) hx hb dX0_sheet_42 (by decide) (fun c_42 => ?_) (fun c_42 => ?_)
      · -- jump 51
        refine W.widen (k := 0) (n := 0) (Nat.le_of_ble_eq_true rfl) (Nat.le_of_ble_eq_true rfl) ?_
        have gs := inB_nn (n := 3) hb_1 (by omega)
        have gs1 : nn sheet < 4 := by omega
        rcases (show nn sheet = 0 ∨ nn sheet = 1 ∨ nn sheet = 2 ∨ nn sheet = 3 by omega) with hk | hk | hk | hk
        ·
          refine lv_aload_n hx hb dX0_sheet_51 rfl (lv_at hl 0 rfl) ?_
          refine fx_get X hE (hR.at hS) 0 rfl rfl 6 rfl q241 rfl rfl dX0_sheet_52 ?_
          refine lv_iload_n hx hb dX0_sheet_55 rfl (lv_at hl 1 rfl) ?_
          refine fx_ti (show sheet = nI 0 from gs.1.trans (congrArg nI hk)) ?_
          refine fx_aald X hE (hR.at hS) 1 3 rfl rfl 0 rfl (by decide) rfl (r := some (ax 64)) (rfl) dX0_sheet_56 ?_
          refine lv_iload_n hx hb dX0_sheet_57 rfl (lv_at hl 2 rfl) ?_
          refine lv_if_ne (tgt := 65) hx hb dX0_sheet_58 (by decide) (fun _ => ?_) (fun c => absurd c (by decide))
          refine lv_iload_n hx hb dX0_sheet_65 rfl (lv_at hl 2 rfl) ?_
          refine lv_bipush (v := 8) hx hb dX0_sheet_66 rfl ?_
          refine lv_icmp_ne (tgt := 77) hx hb dX0_sheet_68 (by decide) (fun _ => ?_) (fun c => absurd c (by decide))
          refine lv_iload_n hx hb dX0_sheet_77 rfl (lv_at hl 2 rfl) ?_
          refine lv_bipush (v := 16) hx hb dX0_sheet_78 rfl ?_
          refine lv_icmp_ne (tgt := 89) hx hb dX0_sheet_80 (by decide) (fun c => (c (by decide)).elim) (fun _ => ?_)
          refine lv_iload_n hx hb dX0_sheet_83 rfl (lv_at hl 3 rfl) ?_
          by_cases hz : n_ < 0
          ·
            refine vx_newarrayZ X.1 X.2.1 hz dX0_sheet_84 (fun tx htx => ?_)
            subst htx
            refine fe_vm X hst hlocks hZ hP hS hl.1 (feN_w X hE) feN_g ⟨by decide +kernel, rfl, rfl⟩ (nb := 44) (fe_txt n_).1 (fe_txt n_).2 (by decide) (Nat.le_of_ble_eq_true rfl) (Nat.le_of_ble_eq_true rfl) (Nat.le_of_ble_eq_true rfl) (Nat.le_of_ble_eq_true rfl) (fun H1 q9 ce hP hS hce hcv hcl => ?_)
            refine vx_catch X.2.2.2.1 [] ⟨51, 96, 97, 352⟩ _ (htab.trans rfl) (fun _ h => nomatch h) rfl (by decide) (X.2.2.2.2 _ q1089) (va_tabs rfl rfl (hE.2.1 _ (List.mem_of_getElem? (i := 50) rfl))) hce hcv hcl ?_
            refine lv_astore (lv' := [(4, .ref q9), (0, .ref (ax 19)), (1, .int sheet), (2, .int 16), (3, .int n_)]) hx hb dX0_sheet_97 hl (by decide) rfl (fun ls hl => ?_)
            refine lv_aload_n hx hb dX0_sheet_99 rfl (lv_at hl 1 rfl) ?_
            refine lv_iconst (v := 3) hx hb dX0_sheet_100 rfl ?_
            refine fx_ci (va_runV (As := [.int 3]) (rest := []) X (xX0_finds l E ax im bn bm fm ff fl er 3 (by decide) _) (cwV 1 X.2.2.2.2 (lw_V q303 q305 qs0 q69 q306) rfl rfl rfl ⟨rfl, hdX0_finds⟩ ⟨Nat.le_of_ble_eq_true rfl, Nat.le_of_ble_eq_true rfl⟩) (fx_preV (fx_pre hE hP hD hS hR [0] rfl rfl (fx_rcr 0 rfl fx_rc0)) (va_recv hE.1 (hR.at hS) (ci := 0) (q0 := 0) rfl rfl)) rfl rfl hl.1 rfl (lv_room (Nat.le_of_ble_eq_true rfl)) dX0_sheet_101 ⟨Nat.le_refl _, Nat.le_refl _⟩) hP hD hS hA [0] rfl rfl (fun r_101 u H locs hq_101 hP hD hS => ?_)
            replace hP : va_P E.1 clA [(ax 5, .inl (E.2 0, 7, .inl (upd er 3 (er 3 + 1)))), (ax 64, .inr (2, [va_rf (sh 0)])), (ax 65, .inr (2, [va_rf (sh 1)])), (ax 66, .inr (2, [va_rf (sh 2)])), (ax 67, .inr (2, [va_rf (sh 3)]))] _ := hP
            replace hD : va_D A [(ax 5, .inl (E.2 0, 7, .inl (upd er 3 (er 3 + 1)))), (ax 64, .inr (2, [va_rf (sh 0)])), (ax 65, .inr (2, [va_rf (sh 1)])), (ax 66, .inr (2, [va_rf (sh 2)])), (ax 67, .inr (2, [va_rf (sh 3)]))] := hD
            replace hq_101 : r_101 = erv 3 := hq_101
            exact hret r_101 (sh, (upd er 3 (er 3 + 1)), []) (by rw [sheet_g hb_1 (by decide) (by decide) hz]; exact ⟨hq_101, rfl, Or.inl ⟨rfl, rfl, rfl, rfl, rfl⟩⟩) (rfl) hP hD hS (Nat.le_refl _) (Nat.le_refl _) dX0_sheet_104
          ·
            have hN := nn_pos (Int32.not_lt.1 hz)
            have hN24 : nn n_ ≤ 24 := le_nn (N := 24) (by decide) c_42 hz
            refine fx_ti (show n_ = nI (nn n_) from hN.1) ?_
            refine fx_newa2 X hE hP hD hS hA q570 (N := (nn n_)) rfl (by rw [Nat.blt_eq]; omega) (Nat.le_of_ble_eq_true rfl) (by omega) dX0_sheet_84 (fun q84 H hP hD hS => ?_)
            replace hP : va_P E.1 clA [(ax 5, .inl (E.2 0, 7, .inl er)), (ax 64, .inr (2, [va_rf (sh 0)])), (ax 65, .inr (2, [va_rf (sh 1)])), (ax 66, .inr (2, [va_rf (sh 2)])), (ax 67, .inr (2, [va_rf (sh 3)])), (q84, .inl (E.2 2, (nn n_), .inl (fun _ => 0)))] _ := hP
            replace hD : va_D A [(ax 5, .inl (E.2 0, 7, .inl er)), (ax 64, .inr (2, [va_rf (sh 0)])), (ax 65, .inr (2, [va_rf (sh 1)])), (ax 66, .inr (2, [va_rf (sh 2)])), (ax 67, .inr (2, [va_rf (sh 3)])), (q84, .inl (E.2 2, (nn n_), .inl (fun _ => 0)))] := hD
            refine W.widen (k := 1) (n := 0 + (nn n_)) (by first | omega | exact Nat.le_of_ble_eq_true rfl) (by first | omega | exact Nat.le_of_ble_eq_true rfl) ?_
            refine lv_goto (tgt := 92) hx hb dX0_sheet_86 (by decide) ?_
            refine fx_putN (ws' := [(ax 5, .inl (E.2 0, 7, .inl er)), (ax 64, .inr (2, [.ref q84])), (ax 65, .inr (2, [va_rf (sh 1)])), (ax 66, .inr (2, [va_rf (sh 2)])), (ax 67, .inr (2, [va_rf (sh 3)])), (q84, .inl (E.2 2, (nn n_), .inl (fun _ => 0)))]) X hE hP hD hS 1 rfl rfl tyX2_ok nmX2 0 rfl 2 rfl rfl rfl rfl rfl rfl rfl dX0_sheet_92 (fun H locs hP hD hS => ?_)
            refine lv_iconst (v := 1) hx hb dX0_sheet_95 rfl ?_
            exact hret 1 (va_up sh 0 (some q84), er, [(q84, .inl (E.2 2, (nn n_), .inl (fun _ => 0)))]) (by rw [sheet_s hb_1 (by decide) (by decide) hz c_42]; exact ⟨rfl, rfl, Or.inr (Or.inr ⟨gs1, nn n_, q84, 2, 16, hN24, Or.inr (Or.inl ⟨rfl, rfl⟩), rfl, congrArg (upd sz (nn sheet)) hN.1, rfl, by rw [hk], rfl⟩)⟩) (rfl) hP hD hS (Nat.le_of_ble_eq_true rfl) (by omega) dX0_sheet_96
        ·
          refine lv_aload_n hx hb dX0_sheet_51 rfl (lv_at hl 0 rfl) ?_
          refine fx_get X hE (hR.at hS) 0 rfl rfl 6 rfl q241 rfl rfl dX0_sheet_52 ?_
          refine lv_iload_n hx hb dX0_sheet_55 rfl (lv_at hl 1 rfl) ?_
          refine fx_ti (show sheet = nI 1 from gs.1.trans (congrArg nI hk)) ?_
          refine fx_aald X hE (hR.at hS) 1 3 rfl rfl 1 rfl (by decide) rfl (r := some (ax 65)) (rfl) dX0_sheet_56 ?_
          refine lv_iload_n hx hb dX0_sheet_57 rfl (lv_at hl 2 rfl) ?_
          refine lv_if_ne (tgt := 65) hx hb dX0_sheet_58 (by decide) (fun _ => ?_) (fun c => absurd c (by decide))
          refine lv_iload_n hx hb dX0_sheet_65 rfl (lv_at hl 2 rfl) ?_
          refine lv_bipush (v := 8) hx hb dX0_sheet_66 rfl ?_
          refine lv_icmp_ne (tgt := 77) hx hb dX0_sheet_68 (by decide) (fun _ => ?_) (fun c => absurd c (by decide))
          refine lv_iload_n hx hb dX0_sheet_77 rfl (lv_at hl 2 rfl) ?_
          refine lv_bipush (v := 16) hx hb dX0_sheet_78 rfl ?_
          refine lv_icmp_ne (tgt := 89) hx hb dX0_sheet_80 (by decide) (fun c => (c (by decide)).elim) (fun _ => ?_)
          refine lv_iload_n hx hb dX0_sheet_83 rfl (lv_at hl 3 rfl) ?_
          by_cases hz : n_ < 0
          ·
            refine vx_newarrayZ X.1 X.2.1 hz dX0_sheet_84 (fun tx htx => ?_)
            subst htx
            refine fe_vm X hst hlocks hZ hP hS hl.1 (feN_w X hE) feN_g ⟨by decide +kernel, rfl, rfl⟩ (nb := 44) (fe_txt n_).1 (fe_txt n_).2 (by decide) (Nat.le_of_ble_eq_true rfl) (Nat.le_of_ble_eq_true rfl) (Nat.le_of_ble_eq_true rfl) (Nat.le_of_ble_eq_true rfl) (fun H1 q9 ce hP hS hce hcv hcl => ?_)
            refine vx_catch X.2.2.2.1 [] ⟨51, 96, 97, 352⟩ _ (htab.trans rfl) (fun _ h => nomatch h) rfl (by decide) (X.2.2.2.2 _ q1089) (va_tabs rfl rfl (hE.2.1 _ (List.mem_of_getElem? (i := 50) rfl))) hce hcv hcl ?_
            refine lv_astore (lv' := [(4, .ref q9), (0, .ref (ax 19)), (1, .int sheet), (2, .int 16), (3, .int n_)]) hx hb dX0_sheet_97 hl (by decide) rfl (fun ls hl => ?_)
            refine lv_aload_n hx hb dX0_sheet_99 rfl (lv_at hl 1 rfl) ?_
            refine lv_iconst (v := 3) hx hb dX0_sheet_100 rfl ?_
            refine fx_ci (va_runV (As := [.int 3]) (rest := []) X (xX0_finds l E ax im bn bm fm ff fl er 3 (by decide) _) (cwV 1 X.2.2.2.2 (lw_V q303 q305 qs0 q69 q306) rfl rfl rfl ⟨rfl, hdX0_finds⟩ ⟨Nat.le_of_ble_eq_true rfl, Nat.le_of_ble_eq_true rfl⟩) (fx_preV (fx_pre hE hP hD hS hR [0] rfl rfl (fx_rcr 0 rfl fx_rc0)) (va_recv hE.1 (hR.at hS) (ci := 0) (q0 := 0) rfl rfl)) rfl rfl hl.1 rfl (lv_room (Nat.le_of_ble_eq_true rfl)) dX0_sheet_101 ⟨Nat.le_refl _, Nat.le_refl _⟩) hP hD hS hA [0] rfl rfl (fun r_101 u H locs hq_101 hP hD hS => ?_)
            replace hP : va_P E.1 clA [(ax 5, .inl (E.2 0, 7, .inl (upd er 3 (er 3 + 1)))), (ax 64, .inr (2, [va_rf (sh 0)])), (ax 65, .inr (2, [va_rf (sh 1)])), (ax 66, .inr (2, [va_rf (sh 2)])), (ax 67, .inr (2, [va_rf (sh 3)]))] _ := hP
            replace hD : va_D A [(ax 5, .inl (E.2 0, 7, .inl (upd er 3 (er 3 + 1)))), (ax 64, .inr (2, [va_rf (sh 0)])), (ax 65, .inr (2, [va_rf (sh 1)])), (ax 66, .inr (2, [va_rf (sh 2)])), (ax 67, .inr (2, [va_rf (sh 3)]))] := hD
            replace hq_101 : r_101 = erv 3 := hq_101
            exact hret r_101 (sh, (upd er 3 (er 3 + 1)), []) (by rw [sheet_g hb_1 (by decide) (by decide) hz]; exact ⟨hq_101, rfl, Or.inl ⟨rfl, rfl, rfl, rfl, rfl⟩⟩) (rfl) hP hD hS (Nat.le_refl _) (Nat.le_refl _) dX0_sheet_104
          ·
            have hN := nn_pos (Int32.not_lt.1 hz)
            have hN24 : nn n_ ≤ 24 := le_nn (N := 24) (by decide) c_42 hz
            refine fx_ti (show n_ = nI (nn n_) from hN.1) ?_
            refine fx_newa2 X hE hP hD hS hA q570 (N := (nn n_)) rfl (by rw [Nat.blt_eq]; omega) (Nat.le_of_ble_eq_true rfl) (by omega) dX0_sheet_84 (fun q84 H hP hD hS => ?_)
            replace hP : va_P E.1 clA [(ax 5, .inl (E.2 0, 7, .inl er)), (ax 64, .inr (2, [va_rf (sh 0)])), (ax 65, .inr (2, [va_rf (sh 1)])), (ax 66, .inr (2, [va_rf (sh 2)])), (ax 67, .inr (2, [va_rf (sh 3)])), (q84, .inl (E.2 2, (nn n_), .inl (fun _ => 0)))] _ := hP
            replace hD : va_D A [(ax 5, .inl (E.2 0, 7, .inl er)), (ax 64, .inr (2, [va_rf (sh 0)])), (ax 65, .inr (2, [va_rf (sh 1)])), (ax 66, .inr (2, [va_rf (sh 2)])), (ax 67, .inr (2, [va_rf (sh 3)])), (q84, .inl (E.2 2, (nn n_), .inl (fun _ => 0)))] := hD
            refine W.widen (k := 1) (n := 0 + (nn n_)) (by first | omega | exact Nat.le_of_ble_eq_true rfl) (by first | omega | exact Nat.le_of_ble_eq_true rfl) ?_
            refine lv_goto (tgt := 92) hx hb dX0_sheet_86 (by decide) ?_
            refine fx_putN (ws' := [(ax 5, .inl (E.2 0, 7, .inl er)), (ax 64, .inr (2, [va_rf (sh 0)])), (ax 65, .inr (2, [.ref q84])), (ax 66, .inr (2, [va_rf (sh 2)])), (ax 67, .inr (2, [va_rf (sh 3)])), (q84, .inl (E.2 2, (nn n_), .inl (fun _ => 0)))]) X hE hP hD hS 2 rfl rfl tyX2_ok nmX2 0 rfl 2 rfl rfl rfl rfl rfl rfl rfl dX0_sheet_92 (fun H locs hP hD hS => ?_)
            refine lv_iconst (v := 1) hx hb dX0_sheet_95 rfl ?_
            exact hret 1 (va_up sh 1 (some q84), er, [(q84, .inl (E.2 2, (nn n_), .inl (fun _ => 0)))]) (by rw [sheet_s hb_1 (by decide) (by decide) hz c_42]; exact ⟨rfl, rfl, Or.inr (Or.inr ⟨gs1, nn n_, q84, 2, 16, hN24, Or.inr (Or.inl ⟨rfl, rfl⟩), rfl, congrArg (upd sz (nn sheet)) hN.1, rfl, by rw [hk], rfl⟩)⟩) (rfl) hP hD hS (Nat.le_of_ble_eq_true rfl) (by omega) dX0_sheet_96
        ·
          refine lv_aload_n hx hb dX0_sheet_51 rfl (lv_at hl 0 rfl) ?_
          refine fx_get X hE (hR.at hS) 0 rfl rfl 6 rfl q241 rfl rfl dX0_sheet_52 ?_
          refine lv_iload_n hx hb dX0_sheet_55 rfl (lv_at hl 1 rfl) ?_
          refine fx_ti (show sheet = nI 2 from gs.1.trans (congrArg nI hk)) ?_
          refine fx_aald X hE (hR.at hS) 1 3 rfl rfl 2 rfl (by decide) rfl (r := some (ax 66)) (rfl) dX0_sheet_56 ?_
          refine lv_iload_n hx hb dX0_sheet_57 rfl (lv_at hl 2 rfl) ?_
          refine lv_if_ne (tgt := 65) hx hb dX0_sheet_58 (by decide) (fun _ => ?_) (fun c => absurd c (by decide))
          refine lv_iload_n hx hb dX0_sheet_65 rfl (lv_at hl 2 rfl) ?_
          refine lv_bipush (v := 8) hx hb dX0_sheet_66 rfl ?_
          refine lv_icmp_ne (tgt := 77) hx hb dX0_sheet_68 (by decide) (fun _ => ?_) (fun c => absurd c (by decide))
          refine lv_iload_n hx hb dX0_sheet_77 rfl (lv_at hl 2 rfl) ?_
          refine lv_bipush (v := 16) hx hb dX0_sheet_78 rfl ?_
          refine lv_icmp_ne (tgt := 89) hx hb dX0_sheet_80 (by decide) (fun c => (c (by decide)).elim) (fun _ => ?_)
          refine lv_iload_n hx hb dX0_sheet_83 rfl (lv_at hl 3 rfl) ?_
          by_cases hz : n_ < 0
          ·
            refine vx_newarrayZ X.1 X.2.1 hz dX0_sheet_84 (fun tx htx => ?_)
            subst htx
            refine fe_vm X hst hlocks hZ hP hS hl.1 (feN_w X hE) feN_g ⟨by decide +kernel, rfl, rfl⟩ (nb := 44) (fe_txt n_).1 (fe_txt n_).2 (by decide) (Nat.le_of_ble_eq_true rfl) (Nat.le_of_ble_eq_true rfl) (Nat.le_of_ble_eq_true rfl) (Nat.le_of_ble_eq_true rfl) (fun H1 q9 ce hP hS hce hcv hcl => ?_)
            refine vx_catch X.2.2.2.1 [] ⟨51, 96, 97, 352⟩ _ (htab.trans rfl) (fun _ h => nomatch h) rfl (by decide) (X.2.2.2.2 _ q1089) (va_tabs rfl rfl (hE.2.1 _ (List.mem_of_getElem? (i := 50) rfl))) hce hcv hcl ?_
            refine lv_astore (lv' := [(4, .ref q9), (0, .ref (ax 19)), (1, .int sheet), (2, .int 16), (3, .int n_)]) hx hb dX0_sheet_97 hl (by decide) rfl (fun ls hl => ?_)
            refine lv_aload_n hx hb dX0_sheet_99 rfl (lv_at hl 1 rfl) ?_
            refine lv_iconst (v := 3) hx hb dX0_sheet_100 rfl ?_
            refine fx_ci (va_runV (As := [.int 3]) (rest := []) X (xX0_finds l E ax im bn bm fm ff fl er 3 (by decide) _) (cwV 1 X.2.2.2.2 (lw_V q303 q305 qs0 q69 q306) rfl rfl rfl ⟨rfl, hdX0_finds⟩ ⟨Nat.le_of_ble_eq_true rfl, Nat.le_of_ble_eq_true rfl⟩) (fx_preV (fx_pre hE hP hD hS hR [0] rfl rfl (fx_rcr 0 rfl fx_rc0)) (va_recv hE.1 (hR.at hS) (ci := 0) (q0 := 0) rfl rfl)) rfl rfl hl.1 rfl (lv_room (Nat.le_of_ble_eq_true rfl)) dX0_sheet_101 ⟨Nat.le_refl _, Nat.le_refl _⟩) hP hD hS hA [0] rfl rfl (fun r_101 u H locs hq_101 hP hD hS => ?_)
            replace hP : va_P E.1 clA [(ax 5, .inl (E.2 0, 7, .inl (upd er 3 (er 3 + 1)))), (ax 64, .inr (2, [va_rf (sh 0)])), (ax 65, .inr (2, [va_rf (sh 1)])), (ax 66, .inr (2, [va_rf (sh 2)])), (ax 67, .inr (2, [va_rf (sh 3)]))] _ := hP
            replace hD : va_D A [(ax 5, .inl (E.2 0, 7, .inl (upd er 3 (er 3 + 1)))), (ax 64, .inr (2, [va_rf (sh 0)])), (ax 65, .inr (2, [va_rf (sh 1)])), (ax 66, .inr (2, [va_rf (sh 2)])), (ax 67, .inr (2, [va_rf (sh 3)]))] := hD
            replace hq_101 : r_101 = erv 3 := hq_101
            exact hret r_101 (sh, (upd er 3 (er 3 + 1)), []) (by rw [sheet_g hb_1 (by decide) (by decide) hz]; exact ⟨hq_101, rfl, Or.inl ⟨rfl, rfl, rfl, rfl, rfl⟩⟩) (rfl) hP hD hS (Nat.le_refl _) (Nat.le_refl _) dX0_sheet_104
          ·
            have hN := nn_pos (Int32.not_lt.1 hz)
            have hN24 : nn n_ ≤ 24 := le_nn (N := 24) (by decide) c_42 hz
            refine fx_ti (show n_ = nI (nn n_) from hN.1) ?_
            refine fx_newa2 X hE hP hD hS hA q570 (N := (nn n_)) rfl (by rw [Nat.blt_eq]; omega) (Nat.le_of_ble_eq_true rfl) (by omega) dX0_sheet_84 (fun q84 H hP hD hS => ?_)
            replace hP : va_P E.1 clA [(ax 5, .inl (E.2 0, 7, .inl er)), (ax 64, .inr (2, [va_rf (sh 0)])), (ax 65, .inr (2, [va_rf (sh 1)])), (ax 66, .inr (2, [va_rf (sh 2)])), (ax 67, .inr (2, [va_rf (sh 3)])), (q84, .inl (E.2 2, (nn n_), .inl (fun _ => 0)))] _ := hP
            replace hD : va_D A [(ax 5, .inl (E.2 0, 7, .inl er)), (ax 64, .inr (2, [va_rf (sh 0)])), (ax 65, .inr (2, [va_rf (sh 1)])), (ax 66, .inr (2, [va_rf (sh 2)])), (ax 67, .inr (2, [va_rf (sh 3)])), (q84, .inl (E.2 2, (nn n_), .inl (fun _ => 0)))] := hD
            refine W.widen (k := 1) (n := 0 + (nn n_)) (by first | omega | exact Nat.le_of_ble_eq_true rfl) (by first | omega | exact Nat.le_of_ble_eq_true rfl) ?_
            refine lv_goto (tgt := 92) hx hb dX0_sheet_86 (by decide) ?_
            refine fx_putN (ws' := [(ax 5, .inl (E.2 0, 7, .inl er)), (ax 64, .inr (2, [va_rf (sh 0)])), (ax 65, .inr (2, [va_rf (sh 1)])), (ax 66, .inr (2, [.ref q84])), (ax 67, .inr (2, [va_rf (sh 3)])), (q84, .inl (E.2 2, (nn n_), .inl (fun _ => 0)))]) X hE hP hD hS 3 rfl rfl tyX2_ok nmX2 0 rfl 2 rfl rfl rfl rfl rfl rfl rfl dX0_sheet_92 (fun H locs hP hD hS => ?_)
            refine lv_iconst (v := 1) hx hb dX0_sheet_95 rfl ?_
            exact hret 1 (va_up sh 2 (some q84), er, [(q84, .inl (E.2 2, (nn n_), .inl (fun _ => 0)))]) (by rw [sheet_s hb_1 (by decide) (by decide) hz c_42]; exact ⟨rfl, rfl, Or.inr (Or.inr ⟨gs1, nn n_, q84, 2, 16, hN24, Or.inr (Or.inl ⟨rfl, rfl⟩), rfl, congrArg (upd sz (nn sheet)) hN.1, rfl, by rw [hk], rfl⟩)⟩) (rfl) hP hD hS (Nat.le_of_ble_eq_true rfl) (by omega) dX0_sheet_96
        ·
          refine lv_aload_n hx hb dX0_sheet_51 rfl (lv_at hl 0 rfl) ?_
          refine fx_get X hE (hR.at hS) 0 rfl rfl 6 rfl q241 rfl rfl dX0_sheet_52 ?_
          refine lv_iload_n hx hb dX0_sheet_55 rfl (lv_at hl 1 rfl) ?_
          refine fx_ti (show sheet = nI 3 from gs.1.trans (congrArg nI hk)) ?_
          refine fx_aald X hE (hR.at hS) 1 3 rfl rfl 3 rfl (by decide) rfl (r := some (ax 67)) (rfl) dX0_sheet_56 ?_
          refine lv_iload_n hx hb dX0_sheet_57 rfl (lv_at hl 2 rfl) ?_
          refine lv_if_ne (tgt := 65) hx hb dX0_sheet_58 (by decide) (fun _ => ?_) (fun c => absurd c (by decide))
          refine lv_iload_n hx hb dX0_sheet_65 rfl (lv_at hl 2 rfl) ?_
          refine lv_bipush (v := 8) hx hb dX0_sheet_66 rfl ?_
          refine lv_icmp_ne (tgt := 77) hx hb dX0_sheet_68 (by decide) (fun _ => ?_) (fun c => absurd c (by decide))
          refine lv_iload_n hx hb dX0_sheet_77 rfl (lv_at hl 2 rfl) ?_
          refine lv_bipush (v := 16) hx hb dX0_sheet_78 rfl ?_
          refine lv_icmp_ne (tgt := 89) hx hb dX0_sheet_80 (by decide) (fun c => (c (by decide)).elim) (fun _ => ?_)
          refine lv_iload_n hx hb dX0_sheet_83 rfl (lv_at hl 3 rfl) ?_
          by_cases hz : n_ < 0
          ·
            refine vx_newarrayZ X.1 X.2.1 hz dX0_sheet_84 (fun tx htx => ?_)
            subst htx
            refine fe_vm X hst hlocks hZ hP hS hl.1 (feN_w X hE) feN_g ⟨by decide +kernel, rfl, rfl⟩ (nb := 44) (fe_txt n_).1 (fe_txt n_).2 (by decide) (Nat.le_of_ble_eq_true rfl) (Nat.le_of_ble_eq_true rfl) (Nat.le_of_ble_eq_true rfl) (Nat.le_of_ble_eq_true rfl) (fun H1 q9 ce hP hS hce hcv hcl => ?_)
            refine vx_catch X.2.2.2.1 [] ⟨51, 96, 97, 352⟩ _ (htab.trans rfl) (fun _ h => nomatch h) rfl (by decide) (X.2.2.2.2 _ q1089) (va_tabs rfl rfl (hE.2.1 _ (List.mem_of_getElem? (i := 50) rfl))) hce hcv hcl ?_
            refine lv_astore (lv' := [(4, .ref q9), (0, .ref (ax 19)), (1, .int sheet), (2, .int 16), (3, .int n_)]) hx hb dX0_sheet_97 hl (by decide) rfl (fun ls hl => ?_)
            refine lv_aload_n hx hb dX0_sheet_99 rfl (lv_at hl 1 rfl) ?_
            refine lv_iconst (v := 3) hx hb dX0_sheet_100 rfl ?_
            refine fx_ci (va_runV (As := [.int 3]) (rest := []) X (xX0_finds l E ax im bn bm fm ff fl er 3 (by decide) _) (cwV 1 X.2.2.2.2 (lw_V q303 q305 qs0 q69 q306) rfl rfl rfl ⟨rfl, hdX0_finds⟩ ⟨Nat.le_of_ble_eq_true rfl, Nat.le_of_ble_eq_true rfl⟩) (fx_preV (fx_pre hE hP hD hS hR [0] rfl rfl (fx_rcr 0 rfl fx_rc0)) (va_recv hE.1 (hR.at hS) (ci := 0) (q0 := 0) rfl rfl)) rfl rfl hl.1 rfl (lv_room (Nat.le_of_ble_eq_true rfl)) dX0_sheet_101 ⟨Nat.le_refl _, Nat.le_refl _⟩) hP hD hS hA [0] rfl rfl (fun r_101 u H locs hq_101 hP hD hS => ?_)
            replace hP : va_P E.1 clA [(ax 5, .inl (E.2 0, 7, .inl (upd er 3 (er 3 + 1)))), (ax 64, .inr (2, [va_rf (sh 0)])), (ax 65, .inr (2, [va_rf (sh 1)])), (ax 66, .inr (2, [va_rf (sh 2)])), (ax 67, .inr (2, [va_rf (sh 3)]))] _ := hP
            replace hD : va_D A [(ax 5, .inl (E.2 0, 7, .inl (upd er 3 (er 3 + 1)))), (ax 64, .inr (2, [va_rf (sh 0)])), (ax 65, .inr (2, [va_rf (sh 1)])), (ax 66, .inr (2, [va_rf (sh 2)])), (ax 67, .inr (2, [va_rf (sh 3)]))] := hD
            replace hq_101 : r_101 = erv 3 := hq_101
            exact hret r_101 (sh, (upd er 3 (er 3 + 1)), []) (by rw [sheet_g hb_1 (by decide) (by decide) hz]; exact ⟨hq_101, rfl, Or.inl ⟨rfl, rfl, rfl, rfl, rfl⟩⟩) (rfl) hP hD hS (Nat.le_refl _) (Nat.le_refl _) dX0_sheet_104
          ·
            have hN := nn_pos (Int32.not_lt.1 hz)
            have hN24 : nn n_ ≤ 24 := le_nn (N := 24) (by decide) c_42 hz
            refine fx_ti (show n_ = nI (nn n_) from hN.1) ?_
            refine fx_newa2 X hE hP hD hS hA q570 (N := (nn n_)) rfl (by rw [Nat.blt_eq]; omega) (Nat.le_of_ble_eq_true rfl) (by omega) dX0_sheet_84 (fun q84 H hP hD hS => ?_)
            replace hP : va_P E.1 clA [(ax 5, .inl (E.2 0, 7, .inl er)), (ax 64, .inr (2, [va_rf (sh 0)])), (ax 65, .inr (2, [va_rf (sh 1)])), (ax 66, .inr (2, [va_rf (sh 2)])), (ax 67, .inr (2, [va_rf (sh 3)])), (q84, .inl (E.2 2, (nn n_), .inl (fun _ => 0)))] _ := hP
            replace hD : va_D A [(ax 5, .inl (E.2 0, 7, .inl er)), (ax 64, .inr (2, [va_rf (sh 0)])), (ax 65, .inr (2, [va_rf (sh 1)])), (ax 66, .inr (2, [va_rf (sh 2)])), (ax 67, .inr (2, [va_rf (sh 3)])), (q84, .inl (E.2 2, (nn n_), .inl (fun _ => 0)))] := hD
            refine W.widen (k := 1) (n := 0 + (nn n_)) (by first | omega | exact Nat.le_of_ble_eq_true rfl) (by first | omega | exact Nat.le_of_ble_eq_true rfl) ?_
            refine lv_goto (tgt := 92) hx hb dX0_sheet_86 (by decide) ?_
            refine fx_putN (ws' := [(ax 5, .inl (E.2 0, 7, .inl er)), (ax 64, .inr (2, [va_rf (sh 0)])), (ax 65, .inr (2, [va_rf (sh 1)])), (ax 66, .inr (2, [va_rf (sh 2)])), (ax 67, .inr (2, [.ref q84])), (q84, .inl (E.2 2, (nn n_), .inl (fun _ => 0)))]) X hE hP hD hS 4 rfl rfl tyX2_ok nmX2 0 rfl 2 rfl rfl rfl rfl rfl rfl rfl dX0_sheet_92 (fun H locs hP hD hS => ?_)
            refine lv_iconst (v := 1) hx hb dX0_sheet_95 rfl ?_
            exact hret 1 (va_up sh 3 (some q84), er, [(q84, .inl (E.2 2, (nn n_), .inl (fun _ => 0)))]) (by rw [sheet_s hb_1 (by decide) (by decide) hz c_42]; exact ⟨rfl, rfl, Or.inr (Or.inr ⟨gs1, nn n_, q84, 2, 16, hN24, Or.inr (Or.inl ⟨rfl, rfl⟩), rfl, congrArg (upd sz (nn sheet)) hN.1, rfl, by rw [hk], rfl⟩)⟩) (rfl) hP hD hS (Nat.le_of_ble_eq_true rfl) (by omega) dX0_sheet_96
      · -- fall 45
        refine lv_aload_n hx hb dX0_sheet_45 rfl (lv_at hl 0 rfl) ?_
        refine lv_iconst (v := 1) hx hb dX0_sheet_46 rfl ?_
        refine fx_ci (va_runV (As := [.int 1]) (rest := []) X (xX0_finds l E ax im bn bm fm ff fl er 1 (by decide) _) (cwV 1 X.2.2.2.2 (lw_V q303 q305 qs0 q69 q306) rfl rfl rfl ⟨rfl, hdX0_finds⟩ ⟨Nat.le_of_ble_eq_true rfl, Nat.le_of_ble_eq_true rfl⟩) (fx_preV (fx_pre hE hP hD hS hR [0] rfl rfl (fx_rcr 0 rfl fx_rc0)) (va_recv hE.1 (hR.at hS) (ci := 0) (q0 := 0) rfl rfl)) rfl rfl hl.1 rfl (lv_room (Nat.le_of_ble_eq_true rfl)) dX0_sheet_47 ⟨Nat.le_of_ble_eq_true rfl, Nat.le_of_ble_eq_true rfl⟩) hP hD hS hA [0] rfl rfl (fun r_47 u H locs hq_47 hP hD hS => ?_)
        replace hP : va_P E.1 clA [(ax 5, .inl (E.2 0, 7, .inl (upd er 1 (er 1 + 1)))), (ax 64, .inr (2, [va_rf (sh 0)])), (ax 65, .inr (2, [va_rf (sh 1)])), (ax 66, .inr (2, [va_rf (sh 2)])), (ax 67, .inr (2, [va_rf (sh 3)]))] _ := hP
        replace hD : va_D A [(ax 5, .inl (E.2 0, 7, .inl (upd er 1 (er 1 + 1)))), (ax 64, .inr (2, [va_rf (sh 0)])), (ax 65, .inr (2, [va_rf (sh 1)])), (ax 66, .inr (2, [va_rf (sh 2)])), (ax 67, .inr (2, [va_rf (sh 3)]))] := hD
        replace hq_47 : r_47 = erv 1 := hq_47
        exact hret r_47 (sh, (upd er 1 (er 1 + 1)), []) (by rw [sheet_b hb_1 (by decide) (by decide) c_42]; exact ⟨hq_47, rfl, Or.inl ⟨rfl, rfl, rfl, rfl, rfl⟩⟩) (rfl) hP hD hS (Nat.le_of_ble_eq_true rfl) (Nat.le_of_ble_eq_true rfl) dX0_sheet_50
    ·
      refine lv_iload_n hx hb dX0_sheet_7 rfl (lv_at hl 2 rfl) ?_
      refine lv_if_eq (tgt := 35) hx hb dX0_sheet_8 (by decide) (fun c => absurd c (by decide)) (fun _ => ?_)
      refine lv_iload_n hx hb dX0_sheet_11 rfl (lv_at hl 2 rfl) ?_
      refine lv_bipush (v := 8) hx hb dX0_sheet_12 rfl ?_
      refine lv_icmp_eq (tgt := 35) hx hb dX0_sheet_14 (by decide) (fun c => absurd c (by decide)) (fun _ => ?_)
      refine lv_iload_n hx hb dX0_sheet_17 rfl (lv_at hl 2 rfl) ?_
      refine lv_bipush (v := 16) hx hb dX0_sheet_18 rfl ?_
      refine lv_icmp_eq (tgt := 35) hx hb dX0_sheet_20 (by decide) (fun c => absurd c (by decide)) (fun _ => ?_)
      refine lv_iload_n hx hb dX0_sheet_23 rfl (lv_at hl 2 rfl) ?_
      refine lv_bipush (v := 32) hx hb dX0_sheet_24 rfl ?_
      refine lv_icmp_eq (tgt := 35) hx hb dX0_sheet_26 (by decide) (fun _ => ?_) (fun c => (c (by decide)).elim)
      refine lv_iload_n hx hb dX0_sheet_35 rfl (lv_at hl 2 rfl) ?_
      refine lv_if_eq (tgt := 51) hx hb dX0_sheet_36 (by decide) (fun c => absurd c (by decide)) (fun _ => ?_)
      refine lv_iload_n hx hb dX0_sheet_39 rfl (lv_at hl 3 rfl) ?_
      refine lv_bipush (v := 24) hx hb dX0_sheet_40 rfl ?_
      refine lv_icmp_le (tgt := 51) hx hb dX0_sheet_42 (by decide) (fun c_42 => ?_) (fun c_42 => ?_)
      · -- jump 51
        refine W.widen (k := 0) (n := 0) (Nat.le_of_ble_eq_true rfl) (Nat.le_of_ble_eq_true rfl) ?_
        have gs := inB_nn (n := 3) hb_1 (by omega)
        have gs1 : nn sheet < 4 := by omega
        rcases (show nn sheet = 0 ∨ nn sheet = 1 ∨ nn sheet = 2 ∨ nn sheet = 3 by omega) with hk | hk | hk | hk
        ·
          refine lv_aload_n hx hb dX0_sheet_51 rfl (lv_at hl 0 rfl) ?_
          refine fx_get X hE (hR.at hS) 0 rfl rfl 6 rfl q241 rfl rfl dX0_sheet_52 ?_
          refine lv_iload_n hx hb dX0_sheet_55 rfl (lv_at hl 1 rfl) ?_
          refine fx_ti (show sheet = nI 0 from gs.1.trans (congrArg nI hk)) ?_
          refine fx_aald X hE (hR.at hS) 1 3 rfl rfl 0 rfl (by decide) rfl (r := some (ax 64)) (rfl) dX0_sheet_56 ?_
          refine lv_iload_n hx hb dX0_sheet_57 rfl (lv_at hl 2 rfl) ?_
          refine lv_if_ne (tgt := 65) hx hb dX0_sheet_58 (by decide) (fun _ => ?_) (fun c => absurd c (by decide))
          refine lv_iload_n hx hb dX0_sheet_65 rfl (lv_at hl 2 rfl) ?_
          refine lv_bipush (v := 8) hx hb dX0_sheet_66 rfl ?_
          refine lv_icmp_ne (tgt := 77) hx hb dX0_sheet_68 (by decide) (fun _ => ?_) (fun c => absurd c (by decide))
          refine lv_iload_n hx hb dX0_sheet_77 rfl (lv_at hl 2 rfl) ?_
          refine lv_bipush (v := 16) hx hb dX0_sheet_78 rfl ?_
          refine lv_icmp_ne (tgt := 89) hx hb dX0_sheet_80 (by decide) (fun _ => ?_) (fun c => absurd c (by decide))
          refine lv_iload_n hx hb dX0_sheet_89 rfl (lv_at hl 3 rfl) ?_
          by_cases hz : n_ < 0
          ·
            refine vx_newarrayZ X.1 X.2.1 hz dX0_sheet_90 (fun tx htx => ?_)
            subst htx
            refine fe_vm X hst hlocks hZ hP hS hl.1 (feN_w X hE) feN_g ⟨by decide +kernel, rfl, rfl⟩ (nb := 44) (fe_txt n_).1 (fe_txt n_).2 (by decide) (Nat.le_of_ble_eq_true rfl) (Nat.le_of_ble_eq_true rfl) (Nat.le_of_ble_eq_true rfl) (Nat.le_of_ble_eq_true rfl) (fun H1 q9 ce hP hS hce hcv hcl => ?_)
            refine vx_catch X.2.2.2.1 [] ⟨51, 96, 97, 352⟩ _ (htab.trans rfl) (fun _ h => nomatch h) rfl (by decide) (X.2.2.2.2 _ q1089) (va_tabs rfl rfl (hE.2.1 _ (List.mem_of_getElem? (i := 50) rfl))) hce hcv hcl ?_
            refine lv_astore (lv' := [(4, .ref q9), (0, .ref (ax 19)), (1, .int sheet), (2, .int 32), (3, .int n_)]) hx hb dX0_sheet_97 hl (by decide) rfl (fun ls hl => ?_)
            refine lv_aload_n hx hb dX0_sheet_99 rfl (lv_at hl 1 rfl) ?_
            refine lv_iconst (v := 3) hx hb dX0_sheet_100 rfl ?_
            refine fx_ci (va_runV (As := [.int 3]) (rest := []) X (xX0_finds l E ax im bn bm fm ff fl er 3 (by decide) _) (cwV 1 X.2.2.2.2 (lw_V q303 q305 qs0 q69 q306) rfl rfl rfl ⟨rfl, hdX0_finds⟩ ⟨Nat.le_of_ble_eq_true rfl, Nat.le_of_ble_eq_true rfl⟩) (fx_preV (fx_pre hE hP hD hS hR [0] rfl rfl (fx_rcr 0 rfl fx_rc0)) (va_recv hE.1 (hR.at hS) (ci := 0) (q0 := 0) rfl rfl)) rfl rfl hl.1 rfl (lv_room (Nat.le_of_ble_eq_true rfl)) dX0_sheet_101 ⟨Nat.le_refl _, Nat.le_refl _⟩) hP hD hS hA [0] rfl rfl (fun r_101 u H locs hq_101 hP hD hS => ?_)
            replace hP : va_P E.1 clA [(ax 5, .inl (E.2 0, 7, .inl (upd er 3 (er 3 + 1)))), (ax 64, .inr (2, [va_rf (sh 0)])), (ax 65, .inr (2, [va_rf (sh 1)])), (ax 66, .inr (2, [va_rf (sh 2)])), (ax 67, .inr (2, [va_rf (sh 3)]))] _ := hP
            replace hD : va_D A [(ax 5, .inl (E.2 0, 7, .inl (upd er 3 (er 3 + 1)))), (ax 64, .inr (2, [va_rf (sh 0)])), (ax 65, .inr (2, [va_rf (sh 1)])), (ax 66, .inr (2, [va_rf (sh 2)])), (ax 67, .inr (2, [va_rf (sh 3)]))] := hD
            replace hq_101 : r_101 = erv 3 := hq_101
            exact hret r_101 (sh, (upd er 3 (er 3 + 1)), []) (by rw [sheet_g hb_1 (by decide) (by decide) hz]; exact ⟨hq_101, rfl, Or.inl ⟨rfl, rfl, rfl, rfl, rfl⟩⟩) (rfl) hP hD hS (Nat.le_refl _) (Nat.le_refl _) dX0_sheet_104
          ·
            have hN := nn_pos (Int32.not_lt.1 hz)
            have hN24 : nn n_ ≤ 24 := le_nn (N := 24) (by decide) c_42 hz
            refine fx_ti (show n_ = nI (nn n_) from hN.1) ?_
            refine fx_newa0 X hE hP hD hS hA q126 (N := (nn n_)) rfl (by rw [Nat.blt_eq]; omega) (Nat.le_of_ble_eq_true rfl) (by omega) dX0_sheet_90 (fun q90 H hP hD hS => ?_)
            replace hP : va_P E.1 clA [(ax 5, .inl (E.2 0, 7, .inl er)), (ax 64, .inr (2, [va_rf (sh 0)])), (ax 65, .inr (2, [va_rf (sh 1)])), (ax 66, .inr (2, [va_rf (sh 2)])), (ax 67, .inr (2, [va_rf (sh 3)])), (q90, .inl (E.2 0, (nn n_), .inl (fun _ => 0)))] _ := hP
            replace hD : va_D A [(ax 5, .inl (E.2 0, 7, .inl er)), (ax 64, .inr (2, [va_rf (sh 0)])), (ax 65, .inr (2, [va_rf (sh 1)])), (ax 66, .inr (2, [va_rf (sh 2)])), (ax 67, .inr (2, [va_rf (sh 3)])), (q90, .inl (E.2 0, (nn n_), .inl (fun _ => 0)))] := hD
            refine W.widen (k := 1) (n := 0 + (nn n_)) (by first | omega | exact Nat.le_of_ble_eq_true rfl) (by first | omega | exact Nat.le_of_ble_eq_true rfl) ?_
            refine fx_putN (ws' := [(ax 5, .inl (E.2 0, 7, .inl er)), (ax 64, .inr (2, [.ref q90])), (ax 65, .inr (2, [va_rf (sh 1)])), (ax 66, .inr (2, [va_rf (sh 2)])), (ax 67, .inr (2, [va_rf (sh 3)])), (q90, .inl (E.2 0, (nn n_), .inl (fun _ => 0)))]) X hE hP hD hS 1 rfl rfl tyX2_ok nmX2 0 rfl 2 rfl rfl rfl rfl rfl rfl rfl dX0_sheet_92 (fun H locs hP hD hS => ?_)
            refine lv_iconst (v := 1) hx hb dX0_sheet_95 rfl ?_
            exact hret 1 (va_up sh 0 (some q90), er, [(q90, .inl (E.2 0, (nn n_), .inl (fun _ => 0)))]) (by rw [sheet_s hb_1 (by decide) (by decide) hz c_42]; exact ⟨rfl, rfl, Or.inr (Or.inr ⟨gs1, nn n_, q90, 0, 32, hN24, Or.inr (Or.inr ⟨rfl, rfl⟩), rfl, congrArg (upd sz (nn sheet)) hN.1, rfl, by rw [hk], rfl⟩)⟩) (rfl) hP hD hS (Nat.le_of_ble_eq_true rfl) (by omega) dX0_sheet_96
        ·
          refine lv_aload_n hx hb dX0_sheet_51 rfl (lv_at hl 0 rfl) ?_
          refine fx_get X hE (hR.at hS) 0 rfl rfl 6 rfl q241 rfl rfl dX0_sheet_52 ?_
          refine lv_iload_n hx hb dX0_sheet_55 rfl (lv_at hl 1 rfl) ?_
          refine fx_ti (show sheet = nI 1 from gs.1.trans (congrArg nI hk)) ?_
          refine fx_aald X hE (hR.at hS) 1 3 rfl rfl 1 rfl (by decide) rfl (r := some (ax 65)) (rfl) dX0_sheet_56 ?_
          refine lv_iload_n hx hb dX0_sheet_57 rfl (lv_at hl 2 rfl) ?_
          refine lv_if_ne (tgt := 65) hx hb dX0_sheet_58 (by decide) (fun _ => ?_) (fun c => absurd c (by decide))
          refine lv_iload_n hx hb dX0_sheet_65 rfl (lv_at hl 2 rfl) ?_
          refine lv_bipush (v := 8) hx hb dX0_sheet_66 rfl ?_
          refine lv_icmp_ne (tgt := 77) hx hb dX0_sheet_68 (by decide) (fun _ => ?_) (fun c => absurd c (by decide))
          refine lv_iload_n hx hb dX0_sheet_77 rfl (lv_at hl 2 rfl) ?_
          refine lv_bipush (v := 16) hx hb dX0_sheet_78 rfl ?_
          refine lv_icmp_ne (tgt := 89) hx hb dX0_sheet_80 (by decide) (fun _ => ?_) (fun c => absurd c (by decide))
          refine lv_iload_n hx hb dX0_sheet_89 rfl (lv_at hl 3 rfl) ?_
          by_cases hz : n_ < 0
          ·
            refine vx_newarrayZ X.1 X.2.1 hz dX0_sheet_90 (fun tx htx => ?_)
            subst htx
            refine fe_vm X hst hlocks hZ hP hS hl.1 (feN_w X hE) feN_g ⟨by decide +kernel, rfl, rfl⟩ (nb := 44) (fe_txt n_).1 (fe_txt n_).2 (by decide) (Nat.le_of_ble_eq_true rfl) (Nat.le_of_ble_eq_true rfl) (Nat.le_of_ble_eq_true rfl) (Nat.le_of_ble_eq_true rfl) (fun H1 q9 ce hP hS hce hcv hcl => ?_)
            refine vx_catch X.2.2.2.1 [] ⟨51, 96, 97, 352⟩ _ (htab.trans rfl) (fun _ h => nomatch h) rfl (by decide) (X.2.2.2.2 _ q1089) (va_tabs rfl rfl (hE.2.1 _ (List.mem_of_getElem? (i := 50) rfl))) hce hcv hcl ?_
            refine lv_astore (lv' := [(4, .ref q9), (0, .ref (ax 19)), (1, .int sheet), (2, .int 32), (3, .int n_)]) hx hb dX0_sheet_97 hl (by decide) rfl (fun ls hl => ?_)
            refine lv_aload_n hx hb dX0_sheet_99 rfl (lv_at hl 1 rfl) ?_
            refine lv_iconst (v := 3) hx hb dX0_sheet_100 rfl ?_
            refine fx_ci (va_runV (As := [.int 3]) (rest := []) X (xX0_finds l E ax im bn bm fm ff fl er 3 (by decide) _) (cwV 1 X.2.2.2.2 (lw_V q303 q305 qs0 q69 q306) rfl rfl rfl ⟨rfl, hdX0_finds⟩ ⟨Nat.le_of_ble_eq_true rfl, Nat.le_of_ble_eq_true rfl⟩) (fx_preV (fx_pre hE hP hD hS hR [0] rfl rfl (fx_rcr 0 rfl fx_rc0)) (va_recv hE.1 (hR.at hS) (ci := 0) (q0 := 0) rfl rfl)) rfl rfl hl.1 rfl (lv_room (Nat.le_of_ble_eq_true rfl)) dX0_sheet_101 ⟨Nat.le_refl _, Nat.le_refl _⟩) hP hD hS hA [0] rfl rfl (fun r_101 u H locs hq_101 hP hD hS => ?_)
            replace hP : va_P E.1 clA [(ax 5, .inl (E.2 0, 7, .inl (upd er 3 (er 3 + 1)))), (ax 64, .inr (2, [va_rf (sh 0)])), (ax 65, .inr (2, [va_rf (sh 1)])), (ax 66, .inr (2, [va_rf (sh 2)])), (ax 67, .inr (2, [va_rf (sh 3)]))] _ := hP
            replace hD : va_D A [(ax 5, .inl (E.2 0, 7, .inl (upd er 3 (er 3 + 1)))), (ax 64, .inr (2, [va_rf (sh 0)])), (ax 65, .inr (2, [va_rf (sh 1)])), (ax 66, .inr (2, [va_rf (sh 2)])), (ax 67, .inr (2, [va_rf (sh 3)]))] := hD
            replace hq_101 : r_101 = erv 3 := hq_101
            exact hret r_101 (sh, (upd er 3 (er 3 + 1)), []) (by rw [sheet_g hb_1 (by decide) (by decide) hz]; exact ⟨hq_101, rfl, Or.inl ⟨rfl, rfl, rfl, rfl, rfl⟩⟩) (rfl) hP hD hS (Nat.le_refl _) (Nat.le_refl _) dX0_sheet_104
          ·
            have hN := nn_pos (Int32.not_lt.1 hz)
            have hN24 : nn n_ ≤ 24 := le_nn (N := 24) (by decide) c_42 hz
            refine fx_ti (show n_ = nI (nn n_) from hN.1) ?_
            refine fx_newa0 X hE hP hD hS hA q126 (N := (nn n_)) rfl (by rw [Nat.blt_eq]; omega) (Nat.le_of_ble_eq_true rfl) (by omega) dX0_sheet_90 (fun q90 H hP hD hS => ?_)
            replace hP : va_P E.1 clA [(ax 5, .inl (E.2 0, 7, .inl er)), (ax 64, .inr (2, [va_rf (sh 0)])), (ax 65, .inr (2, [va_rf (sh 1)])), (ax 66, .inr (2, [va_rf (sh 2)])), (ax 67, .inr (2, [va_rf (sh 3)])), (q90, .inl (E.2 0, (nn n_), .inl (fun _ => 0)))] _ := hP
            replace hD : va_D A [(ax 5, .inl (E.2 0, 7, .inl er)), (ax 64, .inr (2, [va_rf (sh 0)])), (ax 65, .inr (2, [va_rf (sh 1)])), (ax 66, .inr (2, [va_rf (sh 2)])), (ax 67, .inr (2, [va_rf (sh 3)])), (q90, .inl (E.2 0, (nn n_), .inl (fun _ => 0)))] := hD
            refine W.widen (k := 1) (n := 0 + (nn n_)) (by first | omega | exact Nat.le_of_ble_eq_true rfl) (by first | omega | exact Nat.le_of_ble_eq_true rfl) ?_
            refine fx_putN (ws' := [(ax 5, .inl (E.2 0, 7, .inl er)), (ax 64, .inr (2, [va_rf (sh 0)])), (ax 65, .inr (2, [.ref q90])), (ax 66, .inr (2, [va_rf (sh 2)])), (ax 67, .inr (2, [va_rf (sh 3)])), (q90, .inl (E.2 0, (nn n_), .inl (fun _ => 0)))]) X hE hP hD hS 2 rfl rfl tyX2_ok nmX2 0 rfl 2 rfl rfl rfl rfl rfl rfl rfl dX0_sheet_92 (fun H locs hP hD hS => ?_)
            refine lv_iconst (v := 1) hx hb dX0_sheet_95 rfl ?_
            exact hret 1 (va_up sh 1 (some q90), er, [(q90, .inl (E.2 0, (nn n_), .inl (fun _ => 0)))]) (by rw [sheet_s hb_1 (by decide) (by decide) hz c_42]; exact ⟨rfl, rfl, Or.inr (Or.inr ⟨gs1, nn n_, q90, 0, 32, hN24, Or.inr (Or.inr ⟨rfl, rfl⟩), rfl, congrArg (upd sz (nn sheet)) hN.1, rfl, by rw [hk], rfl⟩)⟩) (rfl) hP hD hS (Nat.le_of_ble_eq_true rfl) (by omega) dX0_sheet_96
        ·
          refine lv_aload_n hx hb dX0_sheet_51 rfl (lv_at hl 0 rfl) ?_
          refine fx_get X hE (hR.at hS) 0 rfl rfl 6 rfl q241 rfl rfl dX0_sheet_52 ?_
          refine lv_iload_n hx hb dX0_sheet_55 rfl (lv_at hl 1 rfl) ?_
          refine fx_ti (show sheet = nI 2 from gs.1.trans (congrArg nI hk)) ?_
          refine fx_aald X hE (hR.at hS) 1 3 rfl rfl 2 rfl (by decide) rfl (r := some (ax 66)) (rfl) dX0_sheet_56 ?_
          refine lv_iload_n hx hb dX0_sheet_57 rfl (lv_at hl 2 rfl) ?_
          refine lv_if_ne (tgt := 65) hx hb dX0_sheet_58 (by decide) (fun _ => ?_) (fun c => absurd c (by decide))
          refine lv_iload_n hx hb dX0_sheet_65 rfl (lv_at hl 2 rfl) ?_
          refine lv_bipush (v := 8) hx hb dX0_sheet_66 rfl ?_
          refine lv_icmp_ne (tgt := 77) hx hb dX0_sheet_68 (by decide) (fun _ => ?_) (fun c => absurd c (by decide))
          refine lv_iload_n hx hb dX0_sheet_77 rfl (lv_at hl 2 rfl) ?_
          refine lv_bipush (v := 16) hx hb dX0_sheet_78 rfl ?_
          refine lv_icmp_ne (tgt := 89) hx hb dX0_sheet_80 (by decide) (fun _ => ?_) (fun c => absurd c (by decide))
          refine lv_iload_n hx hb dX0_sheet_89 rfl (lv_at hl 3 rfl) ?_
          by_cases hz : n_ < 0
          ·
            refine vx_newarrayZ X.1 X.2.1 hz dX0_sheet_90 (fun tx htx => ?_)
            subst htx
            refine fe_vm X hst hlocks hZ hP hS hl.1 (feN_w X hE) feN_g ⟨by decide +kernel, rfl, rfl⟩ (nb := 44) (fe_txt n_).1 (fe_txt n_).2 (by decide) (Nat.le_of_ble_eq_true rfl) (Nat.le_of_ble_eq_true rfl) (Nat.le_of_ble_eq_true rfl) (Nat.le_of_ble_eq_true rfl) (fun H1 q9 ce hP hS hce hcv hcl => ?_)
            refine vx_catch X.2.2.2.1 [] ⟨51, 96, 97, 352⟩ _ (htab.trans rfl) (fun _ h => nomatch h) rfl (by decide) (X.2.2.2.2 _ q1089) (va_tabs rfl rfl (hE.2.1 _ (List.mem_of_getElem? (i := 50) rfl))) hce hcv hcl ?_
            refine lv_astore (lv' := [(4, .ref q9), (0, .ref (ax 19)), (1, .int sheet), (2, .int 32), (3, .int n_)]) hx hb dX0_sheet_97 hl (by decide) rfl (fun ls hl => ?_)
            refine lv_aload_n hx hb dX0_sheet_99 rfl (lv_at hl 1 rfl) ?_
            refine lv_iconst (v := 3) hx hb dX0_sheet_100 rfl ?_
            refine fx_ci (va_runV (As := [.int 3]) (rest := []) X (xX0_finds l E ax im bn bm fm ff fl er 3 (by decide) _) (cwV 1 X.2.2.2.2 (lw_V q303 q305 qs0 q69 q306) rfl rfl rfl ⟨rfl, hdX0_finds⟩ ⟨Nat.le_of_ble_eq_true rfl, Nat.le_of_ble_eq_true rfl⟩) (fx_preV (fx_pre hE hP hD hS hR [0] rfl rfl (fx_rcr 0 rfl fx_rc0)) (va_recv hE.1 (hR.at hS) (ci := 0) (q0 := 0) rfl rfl)) rfl rfl hl.1 rfl (lv_room (Nat.le_of_ble_eq_true rfl)) dX0_sheet_101 ⟨Nat.le_refl _, Nat.le_refl _⟩) hP hD hS hA [0] rfl rfl (fun r_101 u H locs hq_101 hP hD hS => ?_)
            replace hP : va_P E.1 clA [(ax 5, .inl (E.2 0, 7, .inl (upd er 3 (er 3 + 1)))), (ax 64, .inr (2, [va_rf (sh 0)])), (ax 65, .inr (2, [va_rf (sh 1)])), (ax 66, .inr (2, [va_rf (sh 2)])), (ax 67, .inr (2, [va_rf (sh 3)]))] _ := hP
            replace hD : va_D A [(ax 5, .inl (E.2 0, 7, .inl (upd er 3 (er 3 + 1)))), (ax 64, .inr (2, [va_rf (sh 0)])), (ax 65, .inr (2, [va_rf (sh 1)])), (ax 66, .inr (2, [va_rf (sh 2)])), (ax 67, .inr (2, [va_rf (sh 3)]))] := hD
            replace hq_101 : r_101 = erv 3 := hq_101
            exact hret r_101 (sh, (upd er 3 (er 3 + 1)), []) (by rw [sheet_g hb_1 (by decide) (by decide) hz]; exact ⟨hq_101, rfl, Or.inl ⟨rfl, rfl, rfl, rfl, rfl⟩⟩) (rfl) hP hD hS (Nat.le_refl _) (Nat.le_refl _) dX0_sheet_104
          ·
            have hN := nn_pos (Int32.not_lt.1 hz)
            have hN24 : nn n_ ≤ 24 := le_nn (N := 24) (by decide) c_42 hz
            refine fx_ti (show n_ = nI (nn n_) from hN.1) ?_
            refine fx_newa0 X hE hP hD hS hA q126 (N := (nn n_)) rfl (by rw [Nat.blt_eq]; omega) (Nat.le_of_ble_eq_true rfl) (by omega) dX0_sheet_90 (fun q90 H hP hD hS => ?_)
            replace hP : va_P E.1 clA [(ax 5, .inl (E.2 0, 7, .inl er)), (ax 64, .inr (2, [va_rf (sh 0)])), (ax 65, .inr (2, [va_rf (sh 1)])), (ax 66, .inr (2, [va_rf (sh 2)])), (ax 67, .inr (2, [va_rf (sh 3)])), (q90, .inl (E.2 0, (nn n_), .inl (fun _ => 0)))] _ := hP
            replace hD : va_D A [(ax 5, .inl (E.2 0, 7, .inl er)), (ax 64, .inr (2, [va_rf (sh 0)])), (ax 65, .inr (2, [va_rf (sh 1)])), (ax 66, .inr (2, [va_rf (sh 2)])), (ax 67, .inr (2, [va_rf (sh 3)])), (q90, .inl (E.2 0, (nn n_), .inl (fun _ => 0)))] := hD
            refine W.widen (k := 1) (n := 0 + (nn n_)) (by first | omega | exact Nat.le_of_ble_eq_true rfl) (by first | omega | exact Nat.le_of_ble_eq_true rfl) ?_
            refine fx_putN (ws' := [(ax 5, .inl (E.2 0, 7, .inl er)), (ax 64, .inr (2, [va_rf (sh 0)])), (ax 65, .inr (2, [va_rf (sh 1)])), (ax 66, .inr (2, [.ref q90])), (ax 67, .inr (2, [va_rf (sh 3)])), (q90, .inl (E.2 0, (nn n_), .inl (fun _ => 0)))]) X hE hP hD hS 3 rfl rfl tyX2_ok nmX2 0 rfl 2 rfl rfl rfl rfl rfl rfl rfl dX0_sheet_92 (fun H locs hP hD hS => ?_)
            refine lv_iconst (v := 1) hx hb dX0_sheet_95 rfl ?_
            exact hret 1 (va_up sh 2 (some q90), er, [(q90, .inl (E.2 0, (nn n_), .inl (fun _ => 0)))]) (by rw [sheet_s hb_1 (by decide) (by decide) hz c_42]; exact ⟨rfl, rfl, Or.inr (Or.inr ⟨gs1, nn n_, q90, 0, 32, hN24, Or.inr (Or.inr ⟨rfl, rfl⟩), rfl, congrArg (upd sz (nn sheet)) hN.1, rfl, by rw [hk], rfl⟩)⟩) (rfl) hP hD hS (Nat.le_of_ble_eq_true rfl) (by omega) dX0_sheet_96
        ·
          refine lv_aload_n hx hb dX0_sheet_51 rfl (lv_at hl 0 rfl) ?_
          refine fx_get X hE (hR.at hS) 0 rfl rfl 6 rfl q241 rfl rfl dX0_sheet_52 ?_
          refine lv_iload_n hx hb dX0_sheet_55 rfl (lv_at hl 1 rfl) ?_
          refine fx_ti (show sheet = nI 3 from gs.1.trans (congrArg nI hk)) ?_
          refine fx_aald X hE (hR.at hS) 1 3 rfl rfl 3 rfl (by decide) rfl (r := some (ax 67)) (rfl) dX0_sheet_56 ?_
          refine lv_iload_n hx hb dX0_sheet_57 rfl (lv_at hl 2 rfl) ?_
          refine lv_if_ne (tgt := 65) hx hb dX0_sheet_58 (by decide) (fun _ => ?_) (fun c => absurd c (by decide))
          refine lv_iload_n hx hb dX0_sheet_65 rfl (lv_at hl 2 rfl) ?_
          refine lv_bipush (v := 8) hx hb dX0_sheet_66 rfl ?_
          refine lv_icmp_ne (tgt := 77) hx hb dX0_sheet_68 (by decide) (fun _ => ?_) (fun c => absurd c (by decide))
          refine lv_iload_n hx hb dX0_sheet_77 rfl (lv_at hl 2 rfl) ?_
          refine lv_bipush (v := 16) hx hb dX0_sheet_78 rfl ?_
          refine lv_icmp_ne (tgt := 89) hx hb dX0_sheet_80 (by decide) (fun _ => ?_) (fun c => absurd c (by decide))
          refine lv_iload_n hx hb dX0_sheet_89 rfl (lv_at hl 3 rfl) ?_
          by_cases hz : n_ < 0
          ·
            refine vx_newarrayZ X.1 X.2.1 hz dX0_sheet_90 (fun tx htx => ?_)
            subst htx
            refine fe_vm X hst hlocks hZ hP hS hl.1 (feN_w X hE) feN_g ⟨by decide +kernel, rfl, rfl⟩ (nb := 44) (fe_txt n_).1 (fe_txt n_).2 (by decide) (Nat.le_of_ble_eq_true rfl) (Nat.le_of_ble_eq_true rfl) (Nat.le_of_ble_eq_true rfl) (Nat.le_of_ble_eq_true rfl) (fun H1 q9 ce hP hS hce hcv hcl => ?_)
            refine vx_catch X.2.2.2.1 [] ⟨51, 96, 97, 352⟩ _ (htab.trans rfl) (fun _ h => nomatch h) rfl (by decide) (X.2.2.2.2 _ q1089) (va_tabs rfl rfl (hE.2.1 _ (List.mem_of_getElem? (i := 50) rfl))) hce hcv hcl ?_
            refine lv_astore (lv' := [(4, .ref q9), (0, .ref (ax 19)), (1, .int sheet), (2, .int 32), (3, .int n_)]) hx hb dX0_sheet_97 hl (by decide) rfl (fun ls hl => ?_)
            refine lv_aload_n hx hb dX0_sheet_99 rfl (lv_at hl 1 rfl) ?_
            refine lv_iconst (v := 3) hx hb dX0_sheet_100 rfl ?_
            refine fx_ci (va_runV (As := [.int 3]) (rest := []) X (xX0_finds l E ax im bn bm fm ff fl er 3 (by decide) _) (cwV 1 X.2.2.2.2 (lw_V q303 q305 qs0 q69 q306) rfl rfl rfl ⟨rfl, hdX0_finds⟩ ⟨Nat.le_of_ble_eq_true rfl, Nat.le_of_ble_eq_true rfl⟩) (fx_preV (fx_pre hE hP hD hS hR [0] rfl rfl (fx_rcr 0 rfl fx_rc0)) (va_recv hE.1 (hR.at hS) (ci := 0) (q0 := 0) rfl rfl)) rfl rfl hl.1 rfl (lv_room (Nat.le_of_ble_eq_true rfl)) dX0_sheet_101 ⟨Nat.le_refl _, Nat.le_refl _⟩) hP hD hS hA [0] rfl rfl (fun r_101 u H locs hq_101 hP hD hS => ?_)
            replace hP : va_P E.1 clA [(ax 5, .inl (E.2 0, 7, .inl (upd er 3 (er 3 + 1)))), (ax 64, .inr (2, [va_rf (sh 0)])), (ax 65, .inr (2, [va_rf (sh 1)])), (ax 66, .inr (2, [va_rf (sh 2)])), (ax 67, .inr (2, [va_rf (sh 3)]))] _ := hP
            replace hD : va_D A [(ax 5, .inl (E.2 0, 7, .inl (upd er 3 (er 3 + 1)))), (ax 64, .inr (2, [va_rf (sh 0)])), (ax 65, .inr (2, [va_rf (sh 1)])), (ax 66, .inr (2, [va_rf (sh 2)])), (ax 67, .inr (2, [va_rf (sh 3)]))] := hD
            replace hq_101 : r_101 = erv 3 := hq_101
            exact hret r_101 (sh, (upd er 3 (er 3 + 1)), []) (by rw [sheet_g hb_1 (by decide) (by decide) hz]; exact ⟨hq_101, rfl, Or.inl ⟨rfl, rfl, rfl, rfl, rfl⟩⟩) (rfl) hP hD hS (Nat.le_refl _) (Nat.le_refl _) dX0_sheet_104
          ·
            have hN := nn_pos (Int32.not_lt.1 hz)
            have hN24 : nn n_ ≤ 24 := le_nn (N := 24) (by decide) c_42 hz
            refine fx_ti (show n_ = nI (nn n_) from hN.1) ?_
            refine fx_newa0 X hE hP hD hS hA q126 (N := (nn n_)) rfl (by rw [Nat.blt_eq]; omega) (Nat.le_of_ble_eq_true rfl) (by omega) dX0_sheet_90 (fun q90 H hP hD hS => ?_)
            replace hP : va_P E.1 clA [(ax 5, .inl (E.2 0, 7, .inl er)), (ax 64, .inr (2, [va_rf (sh 0)])), (ax 65, .inr (2, [va_rf (sh 1)])), (ax 66, .inr (2, [va_rf (sh 2)])), (ax 67, .inr (2, [va_rf (sh 3)])), (q90, .inl (E.2 0, (nn n_), .inl (fun _ => 0)))] _ := hP
            replace hD : va_D A [(ax 5, .inl (E.2 0, 7, .inl er)), (ax 64, .inr (2, [va_rf (sh 0)])), (ax 65, .inr (2, [va_rf (sh 1)])), (ax 66, .inr (2, [va_rf (sh 2)])), (ax 67, .inr (2, [va_rf (sh 3)])), (q90, .inl (E.2 0, (nn n_), .inl (fun _ => 0)))] := hD
            refine W.widen (k := 1) (n := 0 + (nn n_)) (by first | omega | exact Nat.le_of_ble_eq_true rfl) (by first | omega | exact Nat.le_of_ble_eq_true rfl) ?_
            refine fx_putN (ws' := [(ax 5, .inl (E.2 0, 7, .inl er)), (ax 64, .inr (2, [va_rf (sh 0)])), (ax 65, .inr (2, [va_rf (sh 1)])), (ax 66, .inr (2, [va_rf (sh 2)])), (ax 67, .inr (2, [.ref q90])), (q90, .inl (E.2 0, (nn n_), .inl (fun _ => 0)))]) X hE hP hD hS 4 rfl rfl tyX2_ok nmX2 0 rfl 2 rfl rfl rfl rfl rfl rfl rfl dX0_sheet_92 (fun H locs hP hD hS => ?_)
            refine lv_iconst (v := 1) hx hb dX0_sheet_95 rfl ?_
            exact hret 1 (va_up sh 3 (some q90), er, [(q90, .inl (E.2 0, (nn n_), .inl (fun _ => 0)))]) (by rw [sheet_s hb_1 (by decide) (by decide) hz c_42]; exact ⟨rfl, rfl, Or.inr (Or.inr ⟨gs1, nn n_, q90, 0, 32, hN24, Or.inr (Or.inr ⟨rfl, rfl⟩), rfl, congrArg (upd sz (nn sheet)) hN.1, rfl, by rw [hk], rfl⟩)⟩) (rfl) hP hD hS (Nat.le_of_ble_eq_true rfl) (by omega) dX0_sheet_96
      · -- fall 45
        refine lv_aload_n hx hb dX0_sheet_45 rfl (lv_at hl 0 rfl) ?_
        refine lv_iconst (v := 1) hx hb dX0_sheet_46 rfl ?_
        refine fx_ci (va_runV (As := [.int 1]) (rest := []) X (xX0_finds l E ax im bn bm fm ff fl er 1 (by decide) _) (cwV 1 X.2.2.2.2 (lw_V q303 q305 qs0 q69 q306) rfl rfl rfl ⟨rfl, hdX0_finds⟩ ⟨Nat.le_of_ble_eq_true rfl, Nat.le_of_ble_eq_true rfl⟩) (fx_preV (fx_pre hE hP hD hS hR [0] rfl rfl (fx_rcr 0 rfl fx_rc0)) (va_recv hE.1 (hR.at hS) (ci := 0) (q0 := 0) rfl rfl)) rfl rfl hl.1 rfl (lv_room (Nat.le_of_ble_eq_true rfl)) dX0_sheet_47 ⟨Nat.le_of_ble_eq_true rfl, Nat.le_of_ble_eq_true rfl⟩) hP hD hS hA [0] rfl rfl (fun r_47 u H locs hq_47 hP hD hS => ?_)
        replace hP : va_P E.1 clA [(ax 5, .inl (E.2 0, 7, .inl (upd er 1 (er 1 + 1)))), (ax 64, .inr (2, [va_rf (sh 0)])), (ax 65, .inr (2, [va_rf (sh 1)])), (ax 66, .inr (2, [va_rf (sh 2)])), (ax 67, .inr (2, [va_rf (sh 3)]))] _ := hP
        replace hD : va_D A [(ax 5, .inl (E.2 0, 7, .inl (upd er 1 (er 1 + 1)))), (ax 64, .inr (2, [va_rf (sh 0)])), (ax 65, .inr (2, [va_rf (sh 1)])), (ax 66, .inr (2, [va_rf (sh 2)])), (ax 67, .inr (2, [va_rf (sh 3)]))] := hD
        replace hq_47 : r_47 = erv 1 := hq_47
        exact hret r_47 (sh, (upd er 1 (er 1 + 1)), []) (by rw [sheet_b hb_1 (by decide) (by decide) c_42]; exact ⟨hq_47, rfl, Or.inl ⟨rfl, rfl, rfl, rfl, rfl⟩⟩) (rfl) hP hD hS (Nat.le_of_ble_eq_true rfl) (Nat.le_of_ble_eq_true rfl) dX0_sheet_50
    ·
      refine lv_iload_n hx hb dX0_sheet_7 rfl (lv_at hl 2 rfl) ?_
      refine lv_if_eq (tgt := 35) hx hb dX0_sheet_8 (by decide) (fun c_8 => absurd c_8 hno.1) (fun c_8 => ?_)
      refine lv_iload_n hx hb dX0_sheet_11 rfl (lv_at hl 2 rfl) ?_
      refine lv_bipush (v := 8) hx hb dX0_sheet_12 rfl ?_
      refine lv_icmp_eq (tgt := 35) hx hb dX0_sheet_14 (by decide) (fun c_14 => absurd c_14 hno.2.1) (fun c_14 => ?_)
      refine lv_iload_n hx hb dX0_sheet_17 rfl (lv_at hl 2 rfl) ?_
      refine lv_bipush (v := 16) hx hb dX0_sheet_18 rfl ?_
      refine lv_icmp_eq (tgt := 35) hx hb dX0_sheet_20 (by decide) (fun c_20 => absurd c_20 hno.2.2.1) (fun c_20 => ?_)
      refine lv_iload_n hx hb dX0_sheet_23 rfl (lv_at hl 2 rfl) ?_
      refine lv_bipush (v := 32) hx hb dX0_sheet_24 rfl ?_
      refine lv_icmp_eq (tgt := 35) hx hb dX0_sheet_26 (by decide) (fun c_26 => absurd c_26 hno.2.2.2) (fun c_26 => ?_)
      refine lv_aload_n hx hb dX0_sheet_29 rfl (lv_at hl 0 rfl) ?_
      refine lv_iconst (v := 1) hx hb dX0_sheet_30 rfl ?_
      refine fx_ci (va_runV (As := [.int 1]) (rest := []) X (xX0_finds l E ax im bn bm fm ff fl er 1 (by decide) _) (cwV 1 X.2.2.2.2 (lw_V q303 q305 qs0 q69 q306) rfl rfl rfl ⟨rfl, hdX0_finds⟩ ⟨Nat.le_of_ble_eq_true rfl, Nat.le_of_ble_eq_true rfl⟩) (fx_preV (fx_pre hE hP hD hS hR [0] rfl rfl (fx_rcr 0 rfl fx_rc0)) (va_recv hE.1 (hR.at hS) (ci := 0) (q0 := 0) rfl rfl)) rfl rfl hl.1 rfl (lv_room (Nat.le_of_ble_eq_true rfl)) dX0_sheet_31 ⟨Nat.le_of_ble_eq_true rfl, Nat.le_of_ble_eq_true rfl⟩) hP hD hS hA [0] rfl rfl (fun r_31 u H locs hq_31 hP hD hS => ?_)
      replace hP : va_P E.1 clA [(ax 5, .inl (E.2 0, 7, .inl (upd er 1 (er 1 + 1)))), (ax 64, .inr (2, [va_rf (sh 0)])), (ax 65, .inr (2, [va_rf (sh 1)])), (ax 66, .inr (2, [va_rf (sh 2)])), (ax 67, .inr (2, [va_rf (sh 3)]))] _ := hP
      replace hD : va_D A [(ax 5, .inl (E.2 0, 7, .inl (upd er 1 (er 1 + 1)))), (ax 64, .inr (2, [va_rf (sh 0)])), (ax 65, .inr (2, [va_rf (sh 1)])), (ax 66, .inr (2, [va_rf (sh 2)])), (ax 67, .inr (2, [va_rf (sh 3)]))] := hD
      replace hq_31 : r_31 = erv 1 := hq_31
      exact hret r_31 (sh, (upd er 1 (er 1 + 1)), []) (by rw [sheet_r (by simp [isB, hno])]; exact ⟨hq_31, rfl, Or.inl ⟨rfl, rfl, rfl, rfl, rfl⟩⟩) (rfl) hP hD hS (Nat.le_of_ble_eq_true rfl) (Nat.le_of_ble_eq_true rfl) dX0_sheet_34
  · -- False
    subst hr_1
    refine lv_if_eq (tgt := 29) hx hb dX0_sheet_4 (by decide) (fun _ => ?_) (fun c => (c (by decide)).elim)
    refine lv_aload_n hx hb dX0_sheet_29 rfl (lv_at hl 0 rfl) ?_
    refine lv_iconst (v := 1) hx hb dX0_sheet_30 rfl ?_
    refine fx_ci (va_runV (As := [.int 1]) (rest := []) X (xX0_finds l E ax im bn bm fm ff fl er 1 (by decide) _) (cwV 1 X.2.2.2.2 (lw_V q303 q305 qs0 q69 q306) rfl rfl rfl ⟨rfl, hdX0_finds⟩ ⟨Nat.le_of_ble_eq_true rfl, Nat.le_of_ble_eq_true rfl⟩) (fx_preV (fx_pre hE hP hD hS hR [0] rfl rfl (fx_rcr 0 rfl fx_rc0)) (va_recv hE.1 (hR.at hS) (ci := 0) (q0 := 0) rfl rfl)) rfl rfl hl.1 rfl (lv_room (Nat.le_of_ble_eq_true rfl)) dX0_sheet_31 ⟨Nat.le_of_ble_eq_true rfl, Nat.le_of_ble_eq_true rfl⟩) hP hD hS hA [0] rfl rfl (fun r_31 u H locs hq_31 hP hD hS => ?_)
    replace hP : va_P E.1 clA [(ax 5, .inl (E.2 0, 7, .inl (upd er 1 (er 1 + 1)))), (ax 64, .inr (2, [va_rf (sh 0)])), (ax 65, .inr (2, [va_rf (sh 1)])), (ax 66, .inr (2, [va_rf (sh 2)])), (ax 67, .inr (2, [va_rf (sh 3)]))] _ := hP
    replace hD : va_D A [(ax 5, .inl (E.2 0, 7, .inl (upd er 1 (er 1 + 1)))), (ax 64, .inr (2, [va_rf (sh 0)])), (ax 65, .inr (2, [va_rf (sh 1)])), (ax 66, .inr (2, [va_rf (sh 2)])), (ax 67, .inr (2, [va_rf (sh 3)]))] := hD
    replace hq_31 : r_31 = erv 1 := hq_31
    exact hret r_31 (sh, (upd er 1 (er 1 + 1)), []) (by rw [sheet_r (by simp [hb_1])]; exact ⟨hq_31, rfl, Or.inl ⟨rfl, rfl, rfl, rfl, rfl⟩⟩) (rfl) hP hD hS (Nat.le_of_ble_eq_true rfl) (Nat.le_of_ble_eq_true rfl) dX0_sheet_34
abbrev rxX0_put_N : Room := { frames := 2, cells := 0, slots := 0, locals := 42 }
set_option maxHeartbeats 400000 in
set_option maxRecDepth 100000 in
theorem xX0_put_N (l : Launch) (E : fx_En) (ax : Nat → Nat) (im : Int32) (bn : Int32) (bm : Int32) (fm : Int32) (ff : Int32) (fl : Int32) (er : Nat → Int32) (bt : Nat → Int32) (sz : Nat → Int32) (nu : Nat → Int32) (sh : Nat → Option Nat) (PL : va_W) (sheet : Int32) (i_ : Int32) (v_ : Int32) (hIS : InvS bt sz) (hSH : SHS E PL bt sz nu sh) (hno : ¬ (inB sheet 0 3 = true ∧ ¬ bt (nn sheet) = 0)) : fx_Mi l yX0_put cX0_put 5 .int rxX0_put_N E [.ref (ax 19), .int sheet, .int i_, .int v_] [(ax 5, .inl (E.2 0, 7, .inl er))] ([(ax 19, .inr (0, [.ref (ax 0), .ref (ax 1), .ref (ax 35), .ref (ax 55), .ref (ax 4), .ref (ax 5), .ref (ax 6), .ref (ax 7), .int im, .ref (ax 9), .ref (ax 10), .ref (ax 11), .ref (ax 12), .ref (ax 13), .int bn, .int bm, .int fm, .int ff, .int fl])), (ax 6, .inl (E.2 3, 4, .inr (.inr (.inr (.inr (fun i_ => some (ax (64 + i_)))))))), (ax 64, .inr (2, [va_rf (sh 0)])), (ax 65, .inr (2, [va_rf (sh 1)])), (ax 66, .inr (2, [va_rf (sh 2)])), (ax 67, .inr (2, [va_rf (sh 3)]))] ++ PL) (S := (Nat → Int32)) (fun (u : (Nat → Int32)) => [(ax 5, .inl (E.2 0, 7, .inl u))]) (fun (r : Int32) (u : (Nat → Int32)) => r = (put_ bt sz nu er sheet i_ v_).1 ∧ (put_ bt sz nu er sheet i_ v_).2.1 = nu ∧ u = (put_ bt sz nu er sheet i_ v_).2.2) := by
  refine fx_iW rfl rfl ?_
  intro p e s m args below meth c A ls Q X hE hP hD hR hA hl hret
  have hx := X.1
  have hb := X.2.1
  have hS : va_S A s.heap s.heap [] := va_S.rf
  replace hP : va_P E.1 clA [(ax 5, .inl (E.2 0, 7, .inl er))] _ := hP
  replace hD : va_D A [(ax 5, .inl (E.2 0, 7, .inl er))] := hD
  replace hl : lv_has ls 5 [(0, .ref (ax 19)), (1, .int sheet), (2, .int i_), (3, .int v_)] := hl
  refine lv_iload_n hx hb dX0_put_0 rfl (lv_at hl 1 rfl) ?_
  refine fx_ci (va_runS (As := [.int sheet]) (rest := []) X (xX0_isSheet l E sheet _) (va_cwS 1 X.2.2.2.2 (lw_S q806 q807 q69 q808) rfl rfl rfl hdX0_isSheet ⟨Nat.le_of_ble_eq_true rfl, Nat.le_of_ble_eq_true rfl⟩) (fx_pre hE hP hD hS hR [] rfl rfl fx_rc0) rfl rfl hl.1 rfl (lv_room (Nat.le_of_ble_eq_true rfl)) dX0_put_1 ⟨Nat.le_refl _, Nat.le_refl _⟩) hP hD hS hA [] rfl rfl (fun r_1 u H locs hq_1 hP hD hS => ?_)
  replace hP : va_P E.1 clA [(ax 5, .inl (E.2 0, 7, .inl er))] _ := hP
  replace hD : va_D A [(ax 5, .inl (E.2 0, 7, .inl er))] := hD
  replace hq_1 : r_1 = fx_b (inB sheet 0 3 = true) := hq_1
  rcases fx_bc hq_1 with ⟨hb_1, hr_1⟩ | ⟨hb_1, hr_1⟩
  · -- True
    subst hr_1
    refine lv_if_ne (tgt := 13) hx hb dX0_put_4 (by decide) (fun _ => ?_) (fun c => absurd c (by decide))
    have gs := inB_nn (n := 3) hb_1 (by omega)
    have gs1 : nn sheet < 4 := by omega
    have hsh : ((ax (64 + nn sheet), .inr (2, [va_rf (sh (nn sheet))])) : Nat × va_E) ∈ ([(ax 19, .inr (0, [.ref (ax 0), .ref (ax 1), .ref (ax 35), .ref (ax 55), .ref (ax 4), .ref (ax 5), .ref (ax 6), .ref (ax 7), .int im, .ref (ax 9), .ref (ax 10), .ref (ax 11), .ref (ax 12), .ref (ax 13), .int bn, .int bm, .int fm, .int ff, .int fl])), (ax 6, .inl (E.2 3, 4, .inr (.inr (.inr (.inr (fun i_ => some (ax (64 + i_)))))))), (ax 64, .inr (2, [va_rf (sh 0)])), (ax 65, .inr (2, [va_rf (sh 1)])), (ax 66, .inr (2, [va_rf (sh 2)])), (ax 67, .inr (2, [va_rf (sh 3)]))] ++ PL) := by rcases (show nn sheet = 0 ∨ nn sheet = 1 ∨ nn sheet = 2 ∨ nn sheet = 3 by omega) with h | h | h | h <;> rw [h] <;> first | exact List.mem_of_getElem? (i := 2) rfl | exact List.mem_of_getElem? (i := 3) rfl | exact List.mem_of_getElem? (i := 4) rfl | exact List.mem_of_getElem? (i := 5) rfl
    refine lv_aload_n hx hb dX0_put_13 rfl (lv_at hl 0 rfl) ?_
    refine fx_get X hE (hR.at hS) 0 rfl rfl 6 rfl q241 rfl rfl dX0_put_14 ?_
    refine lv_iload_n hx hb dX0_put_17 rfl (lv_at hl 1 rfl) ?_
    refine fx_ti (show sheet = nI (nn sheet) from gs.1) ?_
    refine fx_aald X hE (hR.at hS) 1 3 rfl rfl (nn sheet) rfl (by omega) rfl (r := some (ax (64 + nn sheet))) (rfl) dX0_put_18 ?_
    refine fx_getN X hE (fx_one (hR.at hS) hsh) 0 rfl rfl 0 rfl 2 rfl rfl rfl dX0_put_19 ?_
    rcases hSH (nn sheet) gs1 with ⟨hs0, hb0⟩ | ⟨ra, rf, hs0, hf, ⟨hb0, hrc⟩ | ⟨hb0, hrc⟩ | ⟨hb0, hrc⟩⟩
    ·
      rw [hs0]
      refine lv_astoreN (lv' := [(4, .null), (0, .ref (ax 19)), (1, .int sheet), (2, .int i_), (3, .int v_)]) hx hb dX0_put_22 hl (by decide) rfl (fun ls hl => ?_)
      refine lv_aloadN hx hb dX0_put_24 (lv_at hl 0 rfl) ?_
      refine lv_ifnonnullN hx hb dX0_put_26 ?_
      refine lv_aload_n hx hb dX0_put_29 rfl (lv_at hl 1 rfl) ?_
      refine lv_iconst (v := 2) hx hb dX0_put_30 rfl ?_
      refine fx_ci (va_runV (As := [.int 2]) (rest := []) X (xX0_finds l E ax im bn bm fm ff fl er 2 (by decide) _) (cwV 1 X.2.2.2.2 (lw_V q303 q305 qs0 q69 q306) rfl rfl rfl ⟨rfl, hdX0_finds⟩ ⟨Nat.le_of_ble_eq_true rfl, Nat.le_of_ble_eq_true rfl⟩) (fx_preV (fx_pre hE hP hD hS hR [0] rfl rfl (fx_rcr 0 rfl fx_rc0)) (va_recv hE.1 (hR.at hS) (ci := 0) (q0 := 0) rfl rfl)) rfl rfl hl.1 rfl (lv_room (Nat.le_of_ble_eq_true rfl)) dX0_put_31 ⟨Nat.le_refl _, Nat.le_refl _⟩) hP hD hS hA [0] rfl rfl (fun r_31 u H locs hq_31 hP hD hS => ?_)
      replace hP : va_P E.1 clA [(ax 5, .inl (E.2 0, 7, .inl (upd er 2 (er 2 + 1))))] _ := hP
      replace hD : va_D A [(ax 5, .inl (E.2 0, 7, .inl (upd er 2 (er 2 + 1))))] := hD
      replace hq_31 : r_31 = erv 2 := hq_31
      exact hret r_31 ((upd er 2 (er 2 + 1))) (by rw [put_0 hb_1 hb0]; exact ⟨hq_31, rfl, rfl⟩) (rfl) hP hD hS (Nat.le_refl _) (Nat.le_refl _) dX0_put_34
    ·
      exact absurd ⟨hb_1, by rw [hb0]; decide⟩ hno
    ·
      exact absurd ⟨hb_1, by rw [hb0]; decide⟩ hno
    ·
      exact absurd ⟨hb_1, by rw [hb0]; decide⟩ hno
  · -- False
    subst hr_1
    refine lv_if_ne (tgt := 13) hx hb dX0_put_4 (by decide) (fun c => (c (by decide)).elim) (fun _ => ?_)
    refine lv_aload_n hx hb dX0_put_7 rfl (lv_at hl 0 rfl) ?_
    refine lv_iconst (v := 1) hx hb dX0_put_8 rfl ?_
    refine fx_ci (va_runV (As := [.int 1]) (rest := []) X (xX0_finds l E ax im bn bm fm ff fl er 1 (by decide) _) (cwV 1 X.2.2.2.2 (lw_V q303 q305 qs0 q69 q306) rfl rfl rfl ⟨rfl, hdX0_finds⟩ ⟨Nat.le_of_ble_eq_true rfl, Nat.le_of_ble_eq_true rfl⟩) (fx_preV (fx_pre hE hP hD hS hR [0] rfl rfl (fx_rcr 0 rfl fx_rc0)) (va_recv hE.1 (hR.at hS) (ci := 0) (q0 := 0) rfl rfl)) rfl rfl hl.1 rfl (lv_room (Nat.le_of_ble_eq_true rfl)) dX0_put_9 ⟨Nat.le_refl _, Nat.le_refl _⟩) hP hD hS hA [0] rfl rfl (fun r_9 u H locs hq_9 hP hD hS => ?_)
    replace hP : va_P E.1 clA [(ax 5, .inl (E.2 0, 7, .inl (upd er 1 (er 1 + 1))))] _ := hP
    replace hD : va_D A [(ax 5, .inl (E.2 0, 7, .inl (upd er 1 (er 1 + 1))))] := hD
    replace hq_9 : r_9 = erv 1 := hq_9
    exact hret r_9 ((upd er 1 (er 1 + 1))) (by rw [put_N hb_1]; exact ⟨hq_9, rfl, rfl⟩) (rfl) hP hD hS (Nat.le_refl _) (Nat.le_refl _) dX0_put_12
abbrev rxX0_put_B : Room := { frames := 2, cells := 0, slots := 0, locals := 42 }
set_option maxHeartbeats 400000 in
set_option maxRecDepth 100000 in
theorem xX0_put_B (l : Launch) (E : fx_En) (ax : Nat → Nat) (im : Int32) (bn : Int32) (bm : Int32) (fm : Int32) (ff : Int32) (fl : Int32) (er : Nat → Int32) (bt : Nat → Int32) (sz : Nat → Int32) (nu : Nat → Int32) (sh : Nat → Option Nat) (PL : va_W) (sheet : Int32) (i_ : Int32) (v_ : Int32) (ra : Nat) (rf : Nat → Int32) (hIS : InvS bt sz) (hin : inB sheet 0 3 = true) (hs0 : sh (nn sheet) = some ra) (hb0 : bt (nn sheet) = 8) (hf : ∀ t, t < nn (sz (nn sheet)) → rf t = nu (24 * nn sheet + t)) : fx_Mi l yX0_put cX0_put 5 .int rxX0_put_B E [.ref (ax 19), .int sheet, .int i_, .int v_] [(ax 5, .inl (E.2 0, 7, .inl er)), (ra, .inl (E.2 1, (nn (sz (nn sheet))), .inl rf))] ([(ax 19, .inr (0, [.ref (ax 0), .ref (ax 1), .ref (ax 35), .ref (ax 55), .ref (ax 4), .ref (ax 5), .ref (ax 6), .ref (ax 7), .int im, .ref (ax 9), .ref (ax 10), .ref (ax 11), .ref (ax 12), .ref (ax 13), .int bn, .int bm, .int fm, .int ff, .int fl])), (ax 6, .inl (E.2 3, 4, .inr (.inr (.inr (.inr (fun i_ => some (ax (64 + i_)))))))), (ax 64, .inr (2, [va_rf (sh 0)])), (ax 65, .inr (2, [va_rf (sh 1)])), (ax 66, .inr (2, [va_rf (sh 2)])), (ax 67, .inr (2, [va_rf (sh 3)]))] ++ PL) (S := (Nat → Int32) × (Nat → Int32)) (fun (u : (Nat → Int32) × (Nat → Int32)) => [(ax 5, .inl (E.2 0, 7, .inl u.1)), (ra, .inl (E.2 1, (nn (sz (nn sheet))), .inl u.2))]) (fun (r : Int32) (u : (Nat → Int32) × (Nat → Int32)) => r = (put_ bt sz nu er sheet i_ v_).1 ∧ u.1 = (put_ bt sz nu er sheet i_ v_).2.2 ∧ ∀ t, t < nn (sz (nn sheet)) → u.2 t = (put_ bt sz nu er sheet i_ v_).2.1 (24 * nn sheet + t)) := by
  refine fx_iW rfl rfl ?_
  intro p e s m args below meth c A ls Q X hE hP hD hR hA hl hret
  have hx := X.1
  have hb := X.2.1
  have hS : va_S A s.heap s.heap [] := va_S.rf
  replace hP : va_P E.1 clA [(ax 5, .inl (E.2 0, 7, .inl er)), (ra, .inl (E.2 1, (nn (sz (nn sheet))), .inl rf))] _ := hP
  replace hD : va_D A [(ax 5, .inl (E.2 0, 7, .inl er)), (ra, .inl (E.2 1, (nn (sz (nn sheet))), .inl rf))] := hD
  replace hl : lv_has ls 5 [(0, .ref (ax 19)), (1, .int sheet), (2, .int i_), (3, .int v_)] := hl
  have hbt : ¬ bt (nn sheet) = 0 := by rw [hb0]; decide
  refine lv_iload_n hx hb dX0_put_0 rfl (lv_at hl 1 rfl) ?_
  refine fx_ci (va_runS (As := [.int sheet]) (rest := []) X (xX0_isSheet l E sheet _) (va_cwS 1 X.2.2.2.2 (lw_S q806 q807 q69 q808) rfl rfl rfl hdX0_isSheet ⟨Nat.le_of_ble_eq_true rfl, Nat.le_of_ble_eq_true rfl⟩) (fx_pre hE hP hD hS hR [] rfl rfl fx_rc0) rfl rfl hl.1 rfl (lv_room (Nat.le_of_ble_eq_true rfl)) dX0_put_1 ⟨Nat.le_refl _, Nat.le_refl _⟩) hP hD hS hA [] rfl rfl (fun r_1 u H locs hq_1 hP hD hS => ?_)
  replace hP : va_P E.1 clA [(ax 5, .inl (E.2 0, 7, .inl er)), (ra, .inl (E.2 1, (nn (sz (nn sheet))), .inl rf))] _ := hP
  replace hD : va_D A [(ax 5, .inl (E.2 0, 7, .inl er)), (ra, .inl (E.2 1, (nn (sz (nn sheet))), .inl rf))] := hD
  replace hq_1 : r_1 = fx_b (inB sheet 0 3 = true) := hq_1
  rcases fx_bc hq_1 with ⟨hb_1, hr_1⟩ | ⟨hb_1, hr_1⟩
  · -- True
    subst hr_1
    refine lv_if_ne (tgt := 13) hx hb dX0_put_4 (by decide) (fun _ => ?_) (fun c => absurd c (by decide))
    have gs := inB_nn (n := 3) hb_1 (by omega)
    have gs1 : nn sheet < 4 := by omega
    have hsh : ((ax (64 + nn sheet), .inr (2, [va_rf (sh (nn sheet))])) : Nat × va_E) ∈ ([(ax 19, .inr (0, [.ref (ax 0), .ref (ax 1), .ref (ax 35), .ref (ax 55), .ref (ax 4), .ref (ax 5), .ref (ax 6), .ref (ax 7), .int im, .ref (ax 9), .ref (ax 10), .ref (ax 11), .ref (ax 12), .ref (ax 13), .int bn, .int bm, .int fm, .int ff, .int fl])), (ax 6, .inl (E.2 3, 4, .inr (.inr (.inr (.inr (fun i_ => some (ax (64 + i_)))))))), (ax 64, .inr (2, [va_rf (sh 0)])), (ax 65, .inr (2, [va_rf (sh 1)])), (ax 66, .inr (2, [va_rf (sh 2)])), (ax 67, .inr (2, [va_rf (sh 3)]))] ++ PL) := by rcases (show nn sheet = 0 ∨ nn sheet = 1 ∨ nn sheet = 2 ∨ nn sheet = 3 by omega) with h | h | h | h <;> rw [h] <;> first | exact List.mem_of_getElem? (i := 2) rfl | exact List.mem_of_getElem? (i := 3) rfl | exact List.mem_of_getElem? (i := 4) rfl | exact List.mem_of_getElem? (i := 5) rfl
    have hsz := hIS.sz gs1
    have hsz2 := hsz.2
    refine lv_aload_n hx hb dX0_put_13 rfl (lv_at hl 0 rfl) ?_
    refine fx_get X hE (hR.at hS) 0 rfl rfl 6 rfl q241 rfl rfl dX0_put_14 ?_
    refine lv_iload_n hx hb dX0_put_17 rfl (lv_at hl 1 rfl) ?_
    refine fx_ti (show sheet = nI (nn sheet) from gs.1) ?_
    refine fx_aald X hE (hR.at hS) 1 3 rfl rfl (nn sheet) rfl (by omega) rfl (r := some (ax (64 + nn sheet))) (rfl) dX0_put_18 ?_
    refine fx_getN X hE (fx_one (hR.at hS) hsh) 0 rfl rfl 0 rfl 2 rfl rfl rfl dX0_put_19 ?_
    rw [hs0]
    refine lv_astore (lv' := [(4, .ref ra), (0, .ref (ax 19)), (1, .int sheet), (2, .int i_), (3, .int v_)]) hx hb dX0_put_22 hl (by decide) rfl (fun ls hl => ?_)
    refine lv_aload hx hb dX0_put_24 (lv_at hl 0 rfl) ?_
    refine lv_ifnonnull (tgt := 35) hx hb dX0_put_26 (by decide) ?_
    refine lv_iload_n hx hb dX0_put_35 rfl (lv_at hl 3 rfl) ?_
    refine lv_iconst (v := 0) hx hb dX0_put_36 rfl ?_
    refine lv_aload hx hb dX0_put_37 (lv_at hl 0 rfl) ?_
    refine fx_ci (va_runS (As := [.ref ra]) (rest := [.int 0, .int i_]) X (xX0_sizeOfB l E ra (nn (sz (nn sheet))) rf _) (va_cwS 1 X.2.2.2.2 (lw_S q813 q814 q69 q815) rfl rfl rfl hdX0_sizeOf ⟨Nat.le_of_ble_eq_true rfl, Nat.le_of_ble_eq_true rfl⟩) (fx_pre hE hP hD hS hR [] rfl rfl (fx_rcm 1 rfl (by decide) fx_rc0)) rfl rfl hl.1 rfl (lv_room (Nat.le_of_ble_eq_true rfl)) dX0_put_39 ⟨Nat.le_refl _, Nat.le_refl _⟩) hP hD hS hA [] rfl rfl (fun r_39 u H locs hq_39 hP hD hS => ?_)
    replace hP : va_P E.1 clA [(ax 5, .inl (E.2 0, 7, .inl er)), (ra, .inl (E.2 1, (nn (sz (nn sheet))), .inl rf))] _ := hP
    replace hD : va_D A [(ax 5, .inl (E.2 0, 7, .inl er)), (ra, .inl (E.2 1, (nn (sz (nn sheet))), .inl rf))] := hD
    replace hq_39 : r_39 = nI (nn (sz (nn sheet))) := hq_39
    refine fx_ti (show r_39 = nI (nn (sz (nn sheet))) from hq_39) ?_
    refine lv_iconst (v := 1) hx hb dX0_put_42 rfl ?_
    refine lv_isub hx hb dX0_put_43 ?_
    refine fx_ci (va_runS (As := [.int i_, .int 0, .int ((nI (nn (sz (nn sheet)))) - 1)]) (rest := []) X (xX0_isIn l E i_ 0 ((nI (nn (sz (nn sheet)))) - 1) _) (va_cwS 3 X.2.2.2.2 (lw_S q300 q301 q69 q302) rfl rfl rfl hdX0_isIn ⟨Nat.le_of_ble_eq_true rfl, Nat.le_of_ble_eq_true rfl⟩) (fx_pre hE hP hD hS hR [] rfl rfl fx_rc0) rfl rfl hl.1 rfl (lv_room (Nat.le_of_ble_eq_true rfl)) dX0_put_44 ⟨Nat.le_refl _, Nat.le_refl _⟩) hP hD hS hA [] rfl rfl (fun r_44 u H locs hq_44 hP hD hS => ?_)
    replace hP : va_P E.1 clA [(ax 5, .inl (E.2 0, 7, .inl er)), (ra, .inl (E.2 1, (nn (sz (nn sheet))), .inl rf))] _ := hP
    replace hD : va_D A [(ax 5, .inl (E.2 0, 7, .inl er)), (ra, .inl (E.2 1, (nn (sz (nn sheet))), .inl rf))] := hD
    replace hq_44 : r_44 = fx_b (inB i_ 0 ((nI (nn (sz (nn sheet)))) - 1) = true) := hq_44
    rcases fx_bc hq_44 with ⟨hb_44, hr_44⟩ | ⟨hb_44, hr_44⟩
    · -- True
      subst hr_44
      have gi := inB_pre hb_44 (by omega)
      have gi2 := gi.2
      have hb9 : inB i_ 0 (sz (nn sheet) - 1) = true := by rw [hsz.1]; exact hb_44
      refine lv_if_ne (tgt := 56) hx hb dX0_put_47 (by decide) (fun _ => ?_) (fun c => absurd c (by decide))
      refine lv_aload hx hb dX0_put_56 (lv_at hl 0 rfl) ?_
      refine fx_instAY X hP 1 rfl (fx_nmB hE) q816 dX0_put_58 ?_
      refine lv_if_eq (tgt := 76) hx hb dX0_put_61 (by decide) (fun c => absurd c (by decide)) (fun _ => ?_)
      refine lv_aload hx hb dX0_put_64 (lv_at hl 0 rfl) ?_
      refine fx_castA X hE hP 1 rfl (fx_nmB hE) q816 dX0_put_66 ?_
      refine lv_iload_n hx hb dX0_put_69 rfl (lv_at hl 3 rfl) ?_
      refine fx_ti (show i_ = nI (nn i_) from gi.1) ?_
      refine lv_iload_n hx hb dX0_put_70 rfl (lv_at hl 4 rfl) ?_
      refine lv_i2b (v := v_.toInt8.toInt32) hx hb dX0_put_71 rfl ?_
      refine fx_bast (ws' := [(ax 5, .inl (E.2 0, 7, .inl er)), (ra, .inl (E.2 1, (nn (sz (nn sheet))), .inl (upd rf (nn i_) v_.toInt8.toInt32)))]) X hE hP hD hS 1 rfl (nn i_) rfl (by omega) (by rw [Nat.blt_eq]; omega) (pk_bidem _) rfl dX0_put_72 (fun H locs hP hD hS => ?_)
      refine lv_goto (tgt := 104) hx hb dX0_put_73 (by decide) ?_
      refine lv_iconst (v := 1) hx hb dX0_put_104 rfl ?_
      exact hret 1 (er, (upd rf (nn i_) v_.toInt8.toInt32)) (by rw [put_s hin hbt hb9, hb0, pvF8]; exact ⟨rfl, rfl, row_u hf⟩) (rfl) hP hD hS (Nat.le_refl _) (Nat.le_refl _) dX0_put_105
    · -- False
      subst hr_44
      have hb9 : ¬ inB i_ 0 (sz (nn sheet) - 1) = true := by rw [hsz.1]; exact hb_44
      refine lv_if_ne (tgt := 56) hx hb dX0_put_47 (by decide) (fun c => (c (by decide)).elim) (fun _ => ?_)
      refine lv_aload_n hx hb dX0_put_50 rfl (lv_at hl 1 rfl) ?_
      refine lv_iconst (v := 1) hx hb dX0_put_51 rfl ?_
      refine fx_ci (va_runV (As := [.int 1]) (rest := []) X (xX0_finds l E ax im bn bm fm ff fl er 1 (by decide) _) (cwV 1 X.2.2.2.2 (lw_V q303 q305 qs0 q69 q306) rfl rfl rfl ⟨rfl, hdX0_finds⟩ ⟨Nat.le_of_ble_eq_true rfl, Nat.le_of_ble_eq_true rfl⟩) (fx_preV (fx_pre hE hP hD hS hR [0] rfl rfl (fx_rcr 0 rfl fx_rc0)) (va_recv hE.1 (hR.at hS) (ci := 0) (q0 := 0) rfl rfl)) rfl rfl hl.1 rfl (lv_room (Nat.le_of_ble_eq_true rfl)) dX0_put_52 ⟨Nat.le_refl _, Nat.le_refl _⟩) hP hD hS hA [0] rfl rfl (fun r_52 u H locs hq_52 hP hD hS => ?_)
      replace hP : va_P E.1 clA [(ax 5, .inl (E.2 0, 7, .inl (upd er 1 (er 1 + 1)))), (ra, .inl (E.2 1, (nn (sz (nn sheet))), .inl rf))] _ := hP
      replace hD : va_D A [(ax 5, .inl (E.2 0, 7, .inl (upd er 1 (er 1 + 1)))), (ra, .inl (E.2 1, (nn (sz (nn sheet))), .inl rf))] := hD
      replace hq_52 : r_52 = erv 1 := hq_52
      exact hret r_52 ((upd er 1 (er 1 + 1)), rf) (by rw [put_b hin hbt hb9]; exact ⟨hq_52, rfl, hf⟩) (rfl) hP hD hS (Nat.le_refl _) (Nat.le_refl _) dX0_put_55
  · -- False
    subst hr_1
    exact absurd hin hb_1
abbrev rxX0_put_S : Room := { frames := 2, cells := 0, slots := 0, locals := 42 }
set_option maxHeartbeats 400000 in
set_option maxRecDepth 100000 in
theorem xX0_put_S (l : Launch) (E : fx_En) (ax : Nat → Nat) (im : Int32) (bn : Int32) (bm : Int32) (fm : Int32) (ff : Int32) (fl : Int32) (er : Nat → Int32) (bt : Nat → Int32) (sz : Nat → Int32) (nu : Nat → Int32) (sh : Nat → Option Nat) (PL : va_W) (sheet : Int32) (i_ : Int32) (v_ : Int32) (ra : Nat) (rf : Nat → Int32) (hIS : InvS bt sz) (hin : inB sheet 0 3 = true) (hs0 : sh (nn sheet) = some ra) (hb0 : bt (nn sheet) = 16) (hf : ∀ t, t < nn (sz (nn sheet)) → rf t = nu (24 * nn sheet + t)) : fx_Mi l yX0_put cX0_put 5 .int rxX0_put_S E [.ref (ax 19), .int sheet, .int i_, .int v_] [(ax 5, .inl (E.2 0, 7, .inl er)), (ra, .inl (E.2 2, (nn (sz (nn sheet))), .inl rf))] ([(ax 19, .inr (0, [.ref (ax 0), .ref (ax 1), .ref (ax 35), .ref (ax 55), .ref (ax 4), .ref (ax 5), .ref (ax 6), .ref (ax 7), .int im, .ref (ax 9), .ref (ax 10), .ref (ax 11), .ref (ax 12), .ref (ax 13), .int bn, .int bm, .int fm, .int ff, .int fl])), (ax 6, .inl (E.2 3, 4, .inr (.inr (.inr (.inr (fun i_ => some (ax (64 + i_)))))))), (ax 64, .inr (2, [va_rf (sh 0)])), (ax 65, .inr (2, [va_rf (sh 1)])), (ax 66, .inr (2, [va_rf (sh 2)])), (ax 67, .inr (2, [va_rf (sh 3)]))] ++ PL) (S := (Nat → Int32) × (Nat → Int32)) (fun (u : (Nat → Int32) × (Nat → Int32)) => [(ax 5, .inl (E.2 0, 7, .inl u.1)), (ra, .inl (E.2 2, (nn (sz (nn sheet))), .inl u.2))]) (fun (r : Int32) (u : (Nat → Int32) × (Nat → Int32)) => r = (put_ bt sz nu er sheet i_ v_).1 ∧ u.1 = (put_ bt sz nu er sheet i_ v_).2.2 ∧ ∀ t, t < nn (sz (nn sheet)) → u.2 t = (put_ bt sz nu er sheet i_ v_).2.1 (24 * nn sheet + t)) := by
  refine fx_iW rfl rfl ?_
  intro p e s m args below meth c A ls Q X hE hP hD hR hA hl hret
  have hx := X.1
  have hb := X.2.1
  have hS : va_S A s.heap s.heap [] := va_S.rf
  replace hP : va_P E.1 clA [(ax 5, .inl (E.2 0, 7, .inl er)), (ra, .inl (E.2 2, (nn (sz (nn sheet))), .inl rf))] _ := hP
  replace hD : va_D A [(ax 5, .inl (E.2 0, 7, .inl er)), (ra, .inl (E.2 2, (nn (sz (nn sheet))), .inl rf))] := hD
  replace hl : lv_has ls 5 [(0, .ref (ax 19)), (1, .int sheet), (2, .int i_), (3, .int v_)] := hl
  have hbt : ¬ bt (nn sheet) = 0 := by rw [hb0]; decide
  refine lv_iload_n hx hb dX0_put_0 rfl (lv_at hl 1 rfl) ?_
  refine fx_ci (va_runS (As := [.int sheet]) (rest := []) X (xX0_isSheet l E sheet _) (va_cwS 1 X.2.2.2.2 (lw_S q806 q807 q69 q808) rfl rfl rfl hdX0_isSheet ⟨Nat.le_of_ble_eq_true rfl, Nat.le_of_ble_eq_true rfl⟩) (fx_pre hE hP hD hS hR [] rfl rfl fx_rc0) rfl rfl hl.1 rfl (lv_room (Nat.le_of_ble_eq_true rfl)) dX0_put_1 ⟨Nat.le_refl _, Nat.le_refl _⟩) hP hD hS hA [] rfl rfl (fun r_1 u H locs hq_1 hP hD hS => ?_)
  replace hP : va_P E.1 clA [(ax 5, .inl (E.2 0, 7, .inl er)), (ra, .inl (E.2 2, (nn (sz (nn sheet))), .inl rf))] _ := hP
  replace hD : va_D A [(ax 5, .inl (E.2 0, 7, .inl er)), (ra, .inl (E.2 2, (nn (sz (nn sheet))), .inl rf))] := hD
  replace hq_1 : r_1 = fx_b (inB sheet 0 3 = true) := hq_1
  rcases fx_bc hq_1 with ⟨hb_1, hr_1⟩ | ⟨hb_1, hr_1⟩
  · -- True
    subst hr_1
    refine lv_if_ne (tgt := 13) hx hb dX0_put_4 (by decide) (fun _ => ?_) (fun c => absurd c (by decide))
    have gs := inB_nn (n := 3) hb_1 (by omega)
    have gs1 : nn sheet < 4 := by omega
    have hsh : ((ax (64 + nn sheet), .inr (2, [va_rf (sh (nn sheet))])) : Nat × va_E) ∈ ([(ax 19, .inr (0, [.ref (ax 0), .ref (ax 1), .ref (ax 35), .ref (ax 55), .ref (ax 4), .ref (ax 5), .ref (ax 6), .ref (ax 7), .int im, .ref (ax 9), .ref (ax 10), .ref (ax 11), .ref (ax 12), .ref (ax 13), .int bn, .int bm, .int fm, .int ff, .int fl])), (ax 6, .inl (E.2 3, 4, .inr (.inr (.inr (.inr (fun i_ => some (ax (64 + i_)))))))), (ax 64, .inr (2, [va_rf (sh 0)])), (ax 65, .inr (2, [va_rf (sh 1)])), (ax 66, .inr (2, [va_rf (sh 2)])), (ax 67, .inr (2, [va_rf (sh 3)]))] ++ PL) := by rcases (show nn sheet = 0 ∨ nn sheet = 1 ∨ nn sheet = 2 ∨ nn sheet = 3 by omega) with h | h | h | h <;> rw [h] <;> first | exact List.mem_of_getElem? (i := 2) rfl | exact List.mem_of_getElem? (i := 3) rfl | exact List.mem_of_getElem? (i := 4) rfl | exact List.mem_of_getElem? (i := 5) rfl
    have hsz := hIS.sz gs1
    have hsz2 := hsz.2
    refine lv_aload_n hx hb dX0_put_13 rfl (lv_at hl 0 rfl) ?_
    refine fx_get X hE (hR.at hS) 0 rfl rfl 6 rfl q241 rfl rfl dX0_put_14 ?_
    refine lv_iload_n hx hb dX0_put_17 rfl (lv_at hl 1 rfl) ?_
    refine fx_ti (show sheet = nI (nn sheet) from gs.1) ?_
    refine fx_aald X hE (hR.at hS) 1 3 rfl rfl (nn sheet) rfl (by omega) rfl (r := some (ax (64 + nn sheet))) (rfl) dX0_put_18 ?_
    refine fx_getN X hE (fx_one (hR.at hS) hsh) 0 rfl rfl 0 rfl 2 rfl rfl rfl dX0_put_19 ?_
    rw [hs0]
    refine lv_astore (lv' := [(4, .ref ra), (0, .ref (ax 19)), (1, .int sheet), (2, .int i_), (3, .int v_)]) hx hb dX0_put_22 hl (by decide) rfl (fun ls hl => ?_)
    refine lv_aload hx hb dX0_put_24 (lv_at hl 0 rfl) ?_
    refine lv_ifnonnull (tgt := 35) hx hb dX0_put_26 (by decide) ?_
    refine lv_iload_n hx hb dX0_put_35 rfl (lv_at hl 3 rfl) ?_
    refine lv_iconst (v := 0) hx hb dX0_put_36 rfl ?_
    refine lv_aload hx hb dX0_put_37 (lv_at hl 0 rfl) ?_
    refine fx_ci (va_runS (As := [.ref ra]) (rest := [.int 0, .int i_]) X (xX0_sizeOfS l E ra (nn (sz (nn sheet))) rf _) (va_cwS 1 X.2.2.2.2 (lw_S q813 q814 q69 q815) rfl rfl rfl hdX0_sizeOf ⟨Nat.le_of_ble_eq_true rfl, Nat.le_of_ble_eq_true rfl⟩) (fx_pre hE hP hD hS hR [] rfl rfl (fx_rcm 1 rfl (by decide) fx_rc0)) rfl rfl hl.1 rfl (lv_room (Nat.le_of_ble_eq_true rfl)) dX0_put_39 ⟨Nat.le_refl _, Nat.le_refl _⟩) hP hD hS hA [] rfl rfl (fun r_39 u H locs hq_39 hP hD hS => ?_)
    replace hP : va_P E.1 clA [(ax 5, .inl (E.2 0, 7, .inl er)), (ra, .inl (E.2 2, (nn (sz (nn sheet))), .inl rf))] _ := hP
    replace hD : va_D A [(ax 5, .inl (E.2 0, 7, .inl er)), (ra, .inl (E.2 2, (nn (sz (nn sheet))), .inl rf))] := hD
    replace hq_39 : r_39 = nI (nn (sz (nn sheet))) := hq_39
    refine fx_ti (show r_39 = nI (nn (sz (nn sheet))) from hq_39) ?_
    refine lv_iconst (v := 1) hx hb dX0_put_42 rfl ?_
    refine lv_isub hx hb dX0_put_43 ?_
    refine fx_ci (va_runS (As := [.int i_, .int 0, .int ((nI (nn (sz (nn sheet)))) - 1)]) (rest := []) X (xX0_isIn l E i_ 0 ((nI (nn (sz (nn sheet)))) - 1) _) (va_cwS 3 X.2.2.2.2 (lw_S q300 q301 q69 q302) rfl rfl rfl hdX0_isIn ⟨Nat.le_of_ble_eq_true rfl, Nat.le_of_ble_eq_true rfl⟩) (fx_pre hE hP hD hS hR [] rfl rfl fx_rc0) rfl rfl hl.1 rfl (lv_room (Nat.le_of_ble_eq_true rfl)) dX0_put_44 ⟨Nat.le_refl _, Nat.le_refl _⟩) hP hD hS hA [] rfl rfl (fun r_44 u H locs hq_44 hP hD hS => ?_)
    replace hP : va_P E.1 clA [(ax 5, .inl (E.2 0, 7, .inl er)), (ra, .inl (E.2 2, (nn (sz (nn sheet))), .inl rf))] _ := hP
    replace hD : va_D A [(ax 5, .inl (E.2 0, 7, .inl er)), (ra, .inl (E.2 2, (nn (sz (nn sheet))), .inl rf))] := hD
    replace hq_44 : r_44 = fx_b (inB i_ 0 ((nI (nn (sz (nn sheet)))) - 1) = true) := hq_44
    rcases fx_bc hq_44 with ⟨hb_44, hr_44⟩ | ⟨hb_44, hr_44⟩
    · -- True
      subst hr_44
      have gi := inB_pre hb_44 (by omega)
      have gi2 := gi.2
      have hb9 : inB i_ 0 (sz (nn sheet) - 1) = true := by rw [hsz.1]; exact hb_44
      refine lv_if_ne (tgt := 56) hx hb dX0_put_47 (by decide) (fun _ => ?_) (fun c => absurd c (by decide))
      refine lv_aload hx hb dX0_put_56 (lv_at hl 0 rfl) ?_
      refine fx_instAN X hE hP 1 rfl (fx_nmS hE) q816 35 rfl dX0_put_58 ?_
      refine lv_if_eq (tgt := 76) hx hb dX0_put_61 (by decide) (fun _ => ?_) (fun c => (c (by decide)).elim)
      refine lv_aload hx hb dX0_put_76 (lv_at hl 0 rfl) ?_
      refine fx_instAY X hP 1 rfl (fx_nmS hE) q817 dX0_put_78 ?_
      refine lv_if_eq (tgt := 96) hx hb dX0_put_81 (by decide) (fun c => absurd c (by decide)) (fun _ => ?_)
      refine lv_aload hx hb dX0_put_84 (lv_at hl 0 rfl) ?_
      refine fx_castA X hE hP 1 rfl (fx_nmS hE) q817 dX0_put_86 ?_
      refine lv_iload_n hx hb dX0_put_89 rfl (lv_at hl 3 rfl) ?_
      refine fx_ti (show i_ = nI (nn i_) from gi.1) ?_
      refine lv_iload_n hx hb dX0_put_90 rfl (lv_at hl 4 rfl) ?_
      refine lv_i2s (v := v_.toInt16.toInt32) hx hb dX0_put_91 rfl ?_
      refine fx_sast (ws' := [(ax 5, .inl (E.2 0, 7, .inl er)), (ra, .inl (E.2 2, (nn (sz (nn sheet))), .inl (upd rf (nn i_) v_.toInt16.toInt32)))]) X hE hP hD hS 1 rfl (nn i_) rfl (by omega) (by rw [Nat.blt_eq]; omega) (pk_sidem _) rfl dX0_put_92 (fun H locs hP hD hS => ?_)
      refine lv_goto (tgt := 104) hx hb dX0_put_93 (by decide) ?_
      refine lv_iconst (v := 1) hx hb dX0_put_104 rfl ?_
      exact hret 1 (er, (upd rf (nn i_) v_.toInt16.toInt32)) (by rw [put_s hin hbt hb9, hb0, pvF16]; exact ⟨rfl, rfl, row_u hf⟩) (rfl) hP hD hS (Nat.le_refl _) (Nat.le_refl _) dX0_put_105
    · -- False
      subst hr_44
      have hb9 : ¬ inB i_ 0 (sz (nn sheet) - 1) = true := by rw [hsz.1]; exact hb_44
      refine lv_if_ne (tgt := 56) hx hb dX0_put_47 (by decide) (fun c => (c (by decide)).elim) (fun _ => ?_)
      refine lv_aload_n hx hb dX0_put_50 rfl (lv_at hl 1 rfl) ?_
      refine lv_iconst (v := 1) hx hb dX0_put_51 rfl ?_
      refine fx_ci (va_runV (As := [.int 1]) (rest := []) X (xX0_finds l E ax im bn bm fm ff fl er 1 (by decide) _) (cwV 1 X.2.2.2.2 (lw_V q303 q305 qs0 q69 q306) rfl rfl rfl ⟨rfl, hdX0_finds⟩ ⟨Nat.le_of_ble_eq_true rfl, Nat.le_of_ble_eq_true rfl⟩) (fx_preV (fx_pre hE hP hD hS hR [0] rfl rfl (fx_rcr 0 rfl fx_rc0)) (va_recv hE.1 (hR.at hS) (ci := 0) (q0 := 0) rfl rfl)) rfl rfl hl.1 rfl (lv_room (Nat.le_of_ble_eq_true rfl)) dX0_put_52 ⟨Nat.le_refl _, Nat.le_refl _⟩) hP hD hS hA [0] rfl rfl (fun r_52 u H locs hq_52 hP hD hS => ?_)
      replace hP : va_P E.1 clA [(ax 5, .inl (E.2 0, 7, .inl (upd er 1 (er 1 + 1)))), (ra, .inl (E.2 2, (nn (sz (nn sheet))), .inl rf))] _ := hP
      replace hD : va_D A [(ax 5, .inl (E.2 0, 7, .inl (upd er 1 (er 1 + 1)))), (ra, .inl (E.2 2, (nn (sz (nn sheet))), .inl rf))] := hD
      replace hq_52 : r_52 = erv 1 := hq_52
      exact hret r_52 ((upd er 1 (er 1 + 1)), rf) (by rw [put_b hin hbt hb9]; exact ⟨hq_52, rfl, hf⟩) (rfl) hP hD hS (Nat.le_refl _) (Nat.le_refl _) dX0_put_55
  · -- False
    subst hr_1
    exact absurd hin hb_1
abbrev rxX0_put_I : Room := { frames := 2, cells := 0, slots := 0, locals := 42 }
set_option maxHeartbeats 400000 in
set_option maxRecDepth 100000 in
theorem xX0_put_I (l : Launch) (E : fx_En) (ax : Nat → Nat) (im : Int32) (bn : Int32) (bm : Int32) (fm : Int32) (ff : Int32) (fl : Int32) (er : Nat → Int32) (bt : Nat → Int32) (sz : Nat → Int32) (nu : Nat → Int32) (sh : Nat → Option Nat) (PL : va_W) (sheet : Int32) (i_ : Int32) (v_ : Int32) (ra : Nat) (rf : Nat → Int32) (hIS : InvS bt sz) (hin : inB sheet 0 3 = true) (hs0 : sh (nn sheet) = some ra) (hb0 : bt (nn sheet) = 32) (hf : ∀ t, t < nn (sz (nn sheet)) → rf t = nu (24 * nn sheet + t)) : fx_Mi l yX0_put cX0_put 5 .int rxX0_put_I E [.ref (ax 19), .int sheet, .int i_, .int v_] [(ax 5, .inl (E.2 0, 7, .inl er)), (ra, .inl (E.2 0, (nn (sz (nn sheet))), .inl rf))] ([(ax 19, .inr (0, [.ref (ax 0), .ref (ax 1), .ref (ax 35), .ref (ax 55), .ref (ax 4), .ref (ax 5), .ref (ax 6), .ref (ax 7), .int im, .ref (ax 9), .ref (ax 10), .ref (ax 11), .ref (ax 12), .ref (ax 13), .int bn, .int bm, .int fm, .int ff, .int fl])), (ax 6, .inl (E.2 3, 4, .inr (.inr (.inr (.inr (fun i_ => some (ax (64 + i_)))))))), (ax 64, .inr (2, [va_rf (sh 0)])), (ax 65, .inr (2, [va_rf (sh 1)])), (ax 66, .inr (2, [va_rf (sh 2)])), (ax 67, .inr (2, [va_rf (sh 3)]))] ++ PL) (S := (Nat → Int32) × (Nat → Int32)) (fun (u : (Nat → Int32) × (Nat → Int32)) => [(ax 5, .inl (E.2 0, 7, .inl u.1)), (ra, .inl (E.2 0, (nn (sz (nn sheet))), .inl u.2))]) (fun (r : Int32) (u : (Nat → Int32) × (Nat → Int32)) => r = (put_ bt sz nu er sheet i_ v_).1 ∧ u.1 = (put_ bt sz nu er sheet i_ v_).2.2 ∧ ∀ t, t < nn (sz (nn sheet)) → u.2 t = (put_ bt sz nu er sheet i_ v_).2.1 (24 * nn sheet + t)) := by
  refine fx_iW rfl rfl ?_
  intro p e s m args below meth c A ls Q X hE hP hD hR hA hl hret
  have hx := X.1
  have hb := X.2.1
  have hS : va_S A s.heap s.heap [] := va_S.rf
  replace hP : va_P E.1 clA [(ax 5, .inl (E.2 0, 7, .inl er)), (ra, .inl (E.2 0, (nn (sz (nn sheet))), .inl rf))] _ := hP
  replace hD : va_D A [(ax 5, .inl (E.2 0, 7, .inl er)), (ra, .inl (E.2 0, (nn (sz (nn sheet))), .inl rf))] := hD
  replace hl : lv_has ls 5 [(0, .ref (ax 19)), (1, .int sheet), (2, .int i_), (3, .int v_)] := hl
  have hbt : ¬ bt (nn sheet) = 0 := by rw [hb0]; decide
  refine lv_iload_n hx hb dX0_put_0 rfl (lv_at hl 1 rfl) ?_
  refine fx_ci (va_runS (As := [.int sheet]) (rest := []) X (xX0_isSheet l E sheet _) (va_cwS 1 X.2.2.2.2 (lw_S q806 q807 q69 q808) rfl rfl rfl hdX0_isSheet ⟨Nat.le_of_ble_eq_true rfl, Nat.le_of_ble_eq_true rfl⟩) (fx_pre hE hP hD hS hR [] rfl rfl fx_rc0) rfl rfl hl.1 rfl (lv_room (Nat.le_of_ble_eq_true rfl)) dX0_put_1 ⟨Nat.le_refl _, Nat.le_refl _⟩) hP hD hS hA [] rfl rfl (fun r_1 u H locs hq_1 hP hD hS => ?_)
  replace hP : va_P E.1 clA [(ax 5, .inl (E.2 0, 7, .inl er)), (ra, .inl (E.2 0, (nn (sz (nn sheet))), .inl rf))] _ := hP
  replace hD : va_D A [(ax 5, .inl (E.2 0, 7, .inl er)), (ra, .inl (E.2 0, (nn (sz (nn sheet))), .inl rf))] := hD
  replace hq_1 : r_1 = fx_b (inB sheet 0 3 = true) := hq_1
  rcases fx_bc hq_1 with ⟨hb_1, hr_1⟩ | ⟨hb_1, hr_1⟩
  · -- True
    subst hr_1
    refine lv_if_ne (tgt := 13) hx hb dX0_put_4 (by decide) (fun _ => ?_) (fun c => absurd c (by decide))
    have gs := inB_nn (n := 3) hb_1 (by omega)
    have gs1 : nn sheet < 4 := by omega
    have hsh : ((ax (64 + nn sheet), .inr (2, [va_rf (sh (nn sheet))])) : Nat × va_E) ∈ ([(ax 19, .inr (0, [.ref (ax 0), .ref (ax 1), .ref (ax 35), .ref (ax 55), .ref (ax 4), .ref (ax 5), .ref (ax 6), .ref (ax 7), .int im, .ref (ax 9), .ref (ax 10), .ref (ax 11), .ref (ax 12), .ref (ax 13), .int bn, .int bm, .int fm, .int ff, .int fl])), (ax 6, .inl (E.2 3, 4, .inr (.inr (.inr (.inr (fun i_ => some (ax (64 + i_)))))))), (ax 64, .inr (2, [va_rf (sh 0)])), (ax 65, .inr (2, [va_rf (sh 1)])), (ax 66, .inr (2, [va_rf (sh 2)])), (ax 67, .inr (2, [va_rf (sh 3)]))] ++ PL) := by rcases (show nn sheet = 0 ∨ nn sheet = 1 ∨ nn sheet = 2 ∨ nn sheet = 3 by omega) with h | h | h | h <;> rw [h] <;> first | exact List.mem_of_getElem? (i := 2) rfl | exact List.mem_of_getElem? (i := 3) rfl | exact List.mem_of_getElem? (i := 4) rfl | exact List.mem_of_getElem? (i := 5) rfl
    have hsz := hIS.sz gs1
    have hsz2 := hsz.2
    refine lv_aload_n hx hb dX0_put_13 rfl (lv_at hl 0 rfl) ?_
    refine fx_get X hE (hR.at hS) 0 rfl rfl 6 rfl q241 rfl rfl dX0_put_14 ?_
    refine lv_iload_n hx hb dX0_put_17 rfl (lv_at hl 1 rfl) ?_
    refine fx_ti (show sheet = nI (nn sheet) from gs.1) ?_
    refine fx_aald X hE (hR.at hS) 1 3 rfl rfl (nn sheet) rfl (by omega) rfl (r := some (ax (64 + nn sheet))) (rfl) dX0_put_18 ?_
    refine fx_getN X hE (fx_one (hR.at hS) hsh) 0 rfl rfl 0 rfl 2 rfl rfl rfl dX0_put_19 ?_
    rw [hs0]
    refine lv_astore (lv' := [(4, .ref ra), (0, .ref (ax 19)), (1, .int sheet), (2, .int i_), (3, .int v_)]) hx hb dX0_put_22 hl (by decide) rfl (fun ls hl => ?_)
    refine lv_aload hx hb dX0_put_24 (lv_at hl 0 rfl) ?_
    refine lv_ifnonnull (tgt := 35) hx hb dX0_put_26 (by decide) ?_
    refine lv_iload_n hx hb dX0_put_35 rfl (lv_at hl 3 rfl) ?_
    refine lv_iconst (v := 0) hx hb dX0_put_36 rfl ?_
    refine lv_aload hx hb dX0_put_37 (lv_at hl 0 rfl) ?_
    refine fx_ci (va_runS (As := [.ref ra]) (rest := [.int 0, .int i_]) X (xX0_sizeOfI l E ra (nn (sz (nn sheet))) rf _) (va_cwS 1 X.2.2.2.2 (lw_S q813 q814 q69 q815) rfl rfl rfl hdX0_sizeOf ⟨Nat.le_of_ble_eq_true rfl, Nat.le_of_ble_eq_true rfl⟩) (fx_pre hE hP hD hS hR [] rfl rfl (fx_rcm 1 rfl (by decide) fx_rc0)) rfl rfl hl.1 rfl (lv_room (Nat.le_of_ble_eq_true rfl)) dX0_put_39 ⟨Nat.le_refl _, Nat.le_refl _⟩) hP hD hS hA [] rfl rfl (fun r_39 u H locs hq_39 hP hD hS => ?_)
    replace hP : va_P E.1 clA [(ax 5, .inl (E.2 0, 7, .inl er)), (ra, .inl (E.2 0, (nn (sz (nn sheet))), .inl rf))] _ := hP
    replace hD : va_D A [(ax 5, .inl (E.2 0, 7, .inl er)), (ra, .inl (E.2 0, (nn (sz (nn sheet))), .inl rf))] := hD
    replace hq_39 : r_39 = nI (nn (sz (nn sheet))) := hq_39
    refine fx_ti (show r_39 = nI (nn (sz (nn sheet))) from hq_39) ?_
    refine lv_iconst (v := 1) hx hb dX0_put_42 rfl ?_
    refine lv_isub hx hb dX0_put_43 ?_
    refine fx_ci (va_runS (As := [.int i_, .int 0, .int ((nI (nn (sz (nn sheet)))) - 1)]) (rest := []) X (xX0_isIn l E i_ 0 ((nI (nn (sz (nn sheet)))) - 1) _) (va_cwS 3 X.2.2.2.2 (lw_S q300 q301 q69 q302) rfl rfl rfl hdX0_isIn ⟨Nat.le_of_ble_eq_true rfl, Nat.le_of_ble_eq_true rfl⟩) (fx_pre hE hP hD hS hR [] rfl rfl fx_rc0) rfl rfl hl.1 rfl (lv_room (Nat.le_of_ble_eq_true rfl)) dX0_put_44 ⟨Nat.le_refl _, Nat.le_refl _⟩) hP hD hS hA [] rfl rfl (fun r_44 u H locs hq_44 hP hD hS => ?_)
    replace hP : va_P E.1 clA [(ax 5, .inl (E.2 0, 7, .inl er)), (ra, .inl (E.2 0, (nn (sz (nn sheet))), .inl rf))] _ := hP
    replace hD : va_D A [(ax 5, .inl (E.2 0, 7, .inl er)), (ra, .inl (E.2 0, (nn (sz (nn sheet))), .inl rf))] := hD
    replace hq_44 : r_44 = fx_b (inB i_ 0 ((nI (nn (sz (nn sheet)))) - 1) = true) := hq_44
    rcases fx_bc hq_44 with ⟨hb_44, hr_44⟩ | ⟨hb_44, hr_44⟩
    · -- True
      subst hr_44
      have gi := inB_pre hb_44 (by omega)
      have gi2 := gi.2
      have hb9 : inB i_ 0 (sz (nn sheet) - 1) = true := by rw [hsz.1]; exact hb_44
      refine lv_if_ne (tgt := 56) hx hb dX0_put_47 (by decide) (fun _ => ?_) (fun c => absurd c (by decide))
      refine lv_aload hx hb dX0_put_56 (lv_at hl 0 rfl) ?_
      refine fx_instAN X hE hP 1 rfl (fx_nmI hE) q816 34 rfl dX0_put_58 ?_
      refine lv_if_eq (tgt := 76) hx hb dX0_put_61 (by decide) (fun _ => ?_) (fun c => (c (by decide)).elim)
      refine lv_aload hx hb dX0_put_76 (lv_at hl 0 rfl) ?_
      refine fx_instAN X hE hP 1 rfl (fx_nmI hE) q817 36 rfl dX0_put_78 ?_
      refine lv_if_eq (tgt := 96) hx hb dX0_put_81 (by decide) (fun _ => ?_) (fun c => (c (by decide)).elim)
      refine lv_aload hx hb dX0_put_96 (lv_at hl 0 rfl) ?_
      refine fx_castA X hE hP 1 rfl (fx_nmI hE) q818 dX0_put_98 ?_
      refine lv_iload_n hx hb dX0_put_101 rfl (lv_at hl 3 rfl) ?_
      refine fx_ti (show i_ = nI (nn i_) from gi.1) ?_
      refine lv_iload_n hx hb dX0_put_102 rfl (lv_at hl 4 rfl) ?_
      refine fx_iast (ws' := [(ax 5, .inl (E.2 0, 7, .inl er)), (ra, .inl (E.2 0, (nn (sz (nn sheet))), .inl (upd rf (nn i_) v_)))]) X hE hP hD hS 1 rfl (nn i_) rfl (by omega) (by rw [Nat.blt_eq]; omega) rfl dX0_put_103 (fun H locs hP hD hS => ?_)
      refine lv_iconst (v := 1) hx hb dX0_put_104 rfl ?_
      exact hret 1 (er, (upd rf (nn i_) v_)) (by rw [put_s hin hbt hb9, hb0, pvF32]; exact ⟨rfl, rfl, row_u hf⟩) (rfl) hP hD hS (Nat.le_refl _) (Nat.le_refl _) dX0_put_105
    · -- False
      subst hr_44
      have hb9 : ¬ inB i_ 0 (sz (nn sheet) - 1) = true := by rw [hsz.1]; exact hb_44
      refine lv_if_ne (tgt := 56) hx hb dX0_put_47 (by decide) (fun c => (c (by decide)).elim) (fun _ => ?_)
      refine lv_aload_n hx hb dX0_put_50 rfl (lv_at hl 1 rfl) ?_
      refine lv_iconst (v := 1) hx hb dX0_put_51 rfl ?_
      refine fx_ci (va_runV (As := [.int 1]) (rest := []) X (xX0_finds l E ax im bn bm fm ff fl er 1 (by decide) _) (cwV 1 X.2.2.2.2 (lw_V q303 q305 qs0 q69 q306) rfl rfl rfl ⟨rfl, hdX0_finds⟩ ⟨Nat.le_of_ble_eq_true rfl, Nat.le_of_ble_eq_true rfl⟩) (fx_preV (fx_pre hE hP hD hS hR [0] rfl rfl (fx_rcr 0 rfl fx_rc0)) (va_recv hE.1 (hR.at hS) (ci := 0) (q0 := 0) rfl rfl)) rfl rfl hl.1 rfl (lv_room (Nat.le_of_ble_eq_true rfl)) dX0_put_52 ⟨Nat.le_refl _, Nat.le_refl _⟩) hP hD hS hA [0] rfl rfl (fun r_52 u H locs hq_52 hP hD hS => ?_)
      replace hP : va_P E.1 clA [(ax 5, .inl (E.2 0, 7, .inl (upd er 1 (er 1 + 1)))), (ra, .inl (E.2 0, (nn (sz (nn sheet))), .inl rf))] _ := hP
      replace hD : va_D A [(ax 5, .inl (E.2 0, 7, .inl (upd er 1 (er 1 + 1)))), (ra, .inl (E.2 0, (nn (sz (nn sheet))), .inl rf))] := hD
      replace hq_52 : r_52 = erv 1 := hq_52
      exact hret r_52 ((upd er 1 (er 1 + 1)), rf) (by rw [put_b hin hbt hb9]; exact ⟨hq_52, rfl, hf⟩) (rfl) hP hD hS (Nat.le_refl _) (Nat.le_refl _) dX0_put_55
  · -- False
    subst hr_1
    exact absurd hin hb_1
abbrev rxX0_move_N : Room := { frames := 10, cells := 3, slots := 80, locals := 10400 }
set_option maxHeartbeats 400000 in
set_option maxRecDepth 100000 in
theorem xX0_move_N (l : Launch) (E : fx_En) (ks : fz_Ks) (ax : Nat → Nat) (im : Int32) (bn : Int32) (bm : Int32) (fm : Int32) (ff : Int32) (fl : Int32) (er : Nat → Int32) (bt : Nat → Int32) (sz : Nat → Int32) (nu : Nat → Int32) (sh : Nat → Option Nat) (PL : va_W) (sheet : Int32) (i_ : Int32) (other : Int32) (j_ : Int32) (n_ : Int32) (hIS : InvS bt sz) (hSH : SHS E PL bt sz nu sh) (hno : ¬ (inB sheet 0 3 = true ∧ inB other 0 3 = true ∧ ¬ bt (nn sheet) = 0 ∧ ¬ bt (nn other) = 0)) : fz_Hi l yX0_move cX0_move 9 [((58 : Nat), (68 : Nat), (71 : Nat), (354 : Nat))] .int rxX0_move_N E ks [.ref (ax 19), .int sheet, .int i_, .int other, .int j_, .int n_] [(ax 5, .inl (E.2 0, 7, .inl er))] ([(ax 19, .inr (0, [.ref (ax 0), .ref (ax 1), .ref (ax 35), .ref (ax 55), .ref (ax 4), .ref (ax 5), .ref (ax 6), .ref (ax 7), .int im, .ref (ax 9), .ref (ax 10), .ref (ax 11), .ref (ax 12), .ref (ax 13), .int bn, .int bm, .int fm, .int ff, .int fl])), (ax 6, .inl (E.2 3, 4, .inr (.inr (.inr (.inr (fun i_ => some (ax (64 + i_)))))))), (ax 64, .inr (2, [va_rf (sh 0)])), (ax 65, .inr (2, [va_rf (sh 1)])), (ax 66, .inr (2, [va_rf (sh 2)])), (ax 67, .inr (2, [va_rf (sh 3)]))] ++ PL) (S := (Nat → Int32)) (fun (u : (Nat → Int32)) => [(ax 5, .inl (E.2 0, 7, .inl u))]) (fun (r : Int32) (u : (Nat → Int32)) => r = (move_ bt sz nu er sheet i_ other j_ n_).1 ∧ (move_ bt sz nu er sheet i_ other j_ n_).2.1 = nu ∧ u = (move_ bt sz nu er sheet i_ other j_ n_).2.2) := by
  refine fz_hW rfl rfl ?_
  intro p e s m args below meth c A ls Q X htab hlocks hE hP hD hR hZ hA hl hret
  have hx := X.1
  have hb := X.2.1
  have hS : va_S A s.heap s.heap [] := va_S.rf
  replace hP : va_P E.1 clA [(ax 5, .inl (E.2 0, 7, .inl er))] _ := hP
  replace hD : va_D A [(ax 5, .inl (E.2 0, 7, .inl er))] := hD
  replace hl : lv_has ls 9 [(0, .ref (ax 19)), (1, .int sheet), (2, .int i_), (3, .int other), (4, .int j_), (5, .int n_)] := hl
  refine lv_iload_n hx hb dX0_move_0 rfl (lv_at hl 1 rfl) ?_
  refine fx_ci (va_runS (As := [.int sheet]) (rest := []) X (xX0_isSheet l E sheet _) (va_cwS 1 X.2.2.2.2 (lw_S q806 q807 q69 q808) rfl rfl rfl hdX0_isSheet ⟨Nat.le_of_ble_eq_true rfl, Nat.le_of_ble_eq_true rfl⟩) (fx_pre hE hP hD hS hR [] rfl rfl fx_rc0) rfl rfl hl.1 rfl (lv_room (Nat.le_of_ble_eq_true rfl)) dX0_move_1 ⟨Nat.le_of_ble_eq_true rfl, Nat.le_of_ble_eq_true rfl⟩) hP hD hS hA [] rfl rfl (fun r_1 u H locs hq_1 hP hD hS => ?_)
  replace hP : va_P E.1 clA [(ax 5, .inl (E.2 0, 7, .inl er))] _ := hP
  replace hD : va_D A [(ax 5, .inl (E.2 0, 7, .inl er))] := hD
  replace hq_1 : r_1 = fx_b (inB sheet 0 3 = true) := hq_1
  rcases fx_bc hq_1 with ⟨hb_1, hr_1⟩ | ⟨hb_1, hr_1⟩
  · -- True
    subst hr_1
    refine lv_if_eq (tgt := 14) hx hb dX0_move_4 (by decide) (fun c => absurd c (by decide)) (fun _ => ?_)
    refine lv_iload_n hx hb dX0_move_7 rfl (lv_at hl 3 rfl) ?_
    refine fx_ci (va_runS (As := [.int other]) (rest := []) X (xX0_isSheet l E other _) (va_cwS 1 X.2.2.2.2 (lw_S q806 q807 q69 q808) rfl rfl rfl hdX0_isSheet ⟨Nat.le_of_ble_eq_true rfl, Nat.le_of_ble_eq_true rfl⟩) (fx_pre hE hP hD hS hR [] rfl rfl fx_rc0) rfl rfl hl.1 rfl (lv_room (Nat.le_of_ble_eq_true rfl)) dX0_move_8 ⟨Nat.le_of_ble_eq_true rfl, Nat.le_of_ble_eq_true rfl⟩) hP hD hS hA [] rfl rfl (fun r_8 u H locs hq_8 hP hD hS => ?_)
    replace hP : va_P E.1 clA [(ax 5, .inl (E.2 0, 7, .inl er))] _ := hP
    replace hD : va_D A [(ax 5, .inl (E.2 0, 7, .inl er))] := hD
    replace hq_8 : r_8 = fx_b (inB other 0 3 = true) := hq_8
    rcases fx_bc hq_8 with ⟨hb_8, hr_8⟩ | ⟨hb_8, hr_8⟩
    · -- True
      subst hr_8
      refine lv_if_ne (tgt := 20) hx hb dX0_move_11 (by decide) (fun _ => ?_) (fun c => absurd c (by decide))
      have gs := inB_nn (n := 3) hb_1 (by omega)
      have gs1 : nn sheet < 4 := by omega
      have go := inB_nn (n := 3) hb_8 (by omega)
      have go1 : nn other < 4 := by omega
      have hsh : ((ax (64 + nn sheet), .inr (2, [va_rf (sh (nn sheet))])) : Nat × va_E) ∈ ([(ax 19, .inr (0, [.ref (ax 0), .ref (ax 1), .ref (ax 35), .ref (ax 55), .ref (ax 4), .ref (ax 5), .ref (ax 6), .ref (ax 7), .int im, .ref (ax 9), .ref (ax 10), .ref (ax 11), .ref (ax 12), .ref (ax 13), .int bn, .int bm, .int fm, .int ff, .int fl])), (ax 6, .inl (E.2 3, 4, .inr (.inr (.inr (.inr (fun i_ => some (ax (64 + i_)))))))), (ax 64, .inr (2, [va_rf (sh 0)])), (ax 65, .inr (2, [va_rf (sh 1)])), (ax 66, .inr (2, [va_rf (sh 2)])), (ax 67, .inr (2, [va_rf (sh 3)]))] ++ PL) := by rcases (show nn sheet = 0 ∨ nn sheet = 1 ∨ nn sheet = 2 ∨ nn sheet = 3 by omega) with h | h | h | h <;> rw [h] <;> first | exact List.mem_of_getElem? (i := 2) rfl | exact List.mem_of_getElem? (i := 3) rfl | exact List.mem_of_getElem? (i := 4) rfl | exact List.mem_of_getElem? (i := 5) rfl
      have hso_ : ((ax (64 + nn other), .inr (2, [va_rf (sh (nn other))])) : Nat × va_E) ∈ ([(ax 19, .inr (0, [.ref (ax 0), .ref (ax 1), .ref (ax 35), .ref (ax 55), .ref (ax 4), .ref (ax 5), .ref (ax 6), .ref (ax 7), .int im, .ref (ax 9), .ref (ax 10), .ref (ax 11), .ref (ax 12), .ref (ax 13), .int bn, .int bm, .int fm, .int ff, .int fl])), (ax 6, .inl (E.2 3, 4, .inr (.inr (.inr (.inr (fun i_ => some (ax (64 + i_)))))))), (ax 64, .inr (2, [va_rf (sh 0)])), (ax 65, .inr (2, [va_rf (sh 1)])), (ax 66, .inr (2, [va_rf (sh 2)])), (ax 67, .inr (2, [va_rf (sh 3)]))] ++ PL) := by rcases (show nn other = 0 ∨ nn other = 1 ∨ nn other = 2 ∨ nn other = 3 by omega) with h | h | h | h <;> rw [h] <;> first | exact List.mem_of_getElem? (i := 2) rfl | exact List.mem_of_getElem? (i := 3) rfl | exact List.mem_of_getElem? (i := 4) rfl | exact List.mem_of_getElem? (i := 5) rfl
      refine lv_aload_n hx hb dX0_move_20 rfl (lv_at hl 0 rfl) ?_
      refine fx_get X hE (hR.at hS) 0 rfl rfl 6 rfl q241 rfl rfl dX0_move_21 ?_
      refine lv_iload_n hx hb dX0_move_24 rfl (lv_at hl 1 rfl) ?_
      refine fx_ti (show sheet = nI (nn sheet) from gs.1) ?_
      refine fx_aald X hE (hR.at hS) 1 3 rfl rfl (nn sheet) rfl (by omega) rfl (r := some (ax (64 + nn sheet))) (rfl) dX0_move_25 ?_
      refine fx_getN X hE (fx_one (hR.at hS) hsh) 0 rfl rfl 0 rfl 2 rfl rfl rfl dX0_move_26 ?_
      rcases hSH (nn sheet) gs1 with ⟨hs0, hb0⟩ | ⟨ra0, rf0, hs0, hf0, hrc0⟩
      ·
        rw [hs0]
        refine lv_astoreN (lv' := [(6, .null), (0, .ref (ax 19)), (1, .int sheet), (2, .int i_), (3, .int other), (4, .int j_), (5, .int n_)]) hx hb dX0_move_29 hl (by decide) rfl (fun ls hl => ?_)
        refine lv_aload_n hx hb dX0_move_31 rfl (lv_at hl 1 rfl) ?_
        refine fx_get X hE (hR.at hS) 0 rfl rfl 6 rfl q241 rfl rfl dX0_move_32 ?_
        refine lv_iload_n hx hb dX0_move_35 rfl (lv_at hl 4 rfl) ?_
        refine fx_ti (show other = nI (nn other) from go.1) ?_
        refine fx_aald X hE (hR.at hS) 1 3 rfl rfl (nn other) rfl (by omega) rfl (r := some (ax (64 + nn other))) (rfl) dX0_move_36 ?_
        refine fx_getN X hE (fx_one (hR.at hS) hso_) 0 rfl rfl 0 rfl 2 rfl rfl rfl dX0_move_37 ?_
        rcases hSH (nn other) go1 with ⟨hs1, hb1⟩ | ⟨ra1, rf1, hs1, hf1, hrc1⟩
        ·
          rw [hs1]
          refine lv_astoreN (lv' := [(7, .null), (6, .null), (0, .ref (ax 19)), (1, .int sheet), (2, .int i_), (3, .int other), (4, .int j_), (5, .int n_)]) hx hb dX0_move_40 hl (by decide) rfl (fun ls hl => ?_)
          refine lv_aloadN hx hb dX0_move_42 (lv_at hl 1 rfl) ?_
          refine lv_ifnullN (tgt := 52) hx hb dX0_move_44 (by decide) ?_
          refine lv_aload_n hx hb dX0_move_52 rfl (lv_at hl 2 rfl) ?_
          refine lv_iconst (v := 2) hx hb dX0_move_53 rfl ?_
          refine fx_ci (va_runV (As := [.int 2]) (rest := []) X (xX0_finds l E ax im bn bm fm ff fl er 2 (by decide) _) (cwV 1 X.2.2.2.2 (lw_V q303 q305 qs0 q69 q306) rfl rfl rfl ⟨rfl, hdX0_finds⟩ ⟨Nat.le_of_ble_eq_true rfl, Nat.le_of_ble_eq_true rfl⟩) (fx_preV (fx_pre hE hP hD hS hR [0] rfl rfl (fx_rcr 0 rfl fx_rc0)) (va_recv hE.1 (hR.at hS) (ci := 0) (q0 := 0) rfl rfl)) rfl rfl hl.1 rfl (lv_room (Nat.le_of_ble_eq_true rfl)) dX0_move_54 ⟨Nat.le_of_ble_eq_true rfl, Nat.le_of_ble_eq_true rfl⟩) hP hD hS hA [0] rfl rfl (fun r_54 u H locs hq_54 hP hD hS => ?_)
          replace hP : va_P E.1 clA [(ax 5, .inl (E.2 0, 7, .inl (upd er 2 (er 2 + 1))))] _ := hP
          replace hD : va_D A [(ax 5, .inl (E.2 0, 7, .inl (upd er 2 (er 2 + 1))))] := hD
          replace hq_54 : r_54 = erv 2 := hq_54
          exact hret r_54 ((upd er 2 (er 2 + 1))) (by rw [move_0 hb_1 hb_8 (Or.inl hb0)]; exact ⟨hq_54, rfl, rfl⟩) (rfl) hP hD hS (Nat.le_of_ble_eq_true rfl) (Nat.le_of_ble_eq_true rfl) dX0_move_57
        ·
          rw [hs1]
          have hz1 : ¬ bt (nn other) = 0 := by rcases hrc1 with ⟨h, -⟩ | ⟨h, -⟩ | ⟨h, -⟩ <;> rw [h] <;> decide
          refine lv_astore (lv' := [(7, .ref ra1), (6, .null), (0, .ref (ax 19)), (1, .int sheet), (2, .int i_), (3, .int other), (4, .int j_), (5, .int n_)]) hx hb dX0_move_40 hl (by decide) rfl (fun ls hl => ?_)
          refine lv_aloadN hx hb dX0_move_42 (lv_at hl 1 rfl) ?_
          refine lv_ifnullN (tgt := 52) hx hb dX0_move_44 (by decide) ?_
          refine lv_aload_n hx hb dX0_move_52 rfl (lv_at hl 2 rfl) ?_
          refine lv_iconst (v := 2) hx hb dX0_move_53 rfl ?_
          refine fx_ci (va_runV (As := [.int 2]) (rest := []) X (xX0_finds l E ax im bn bm fm ff fl er 2 (by decide) _) (cwV 1 X.2.2.2.2 (lw_V q303 q305 qs0 q69 q306) rfl rfl rfl ⟨rfl, hdX0_finds⟩ ⟨Nat.le_of_ble_eq_true rfl, Nat.le_of_ble_eq_true rfl⟩) (fx_preV (fx_pre hE hP hD hS hR [0] rfl rfl (fx_rcr 0 rfl fx_rc0)) (va_recv hE.1 (hR.at hS) (ci := 0) (q0 := 0) rfl rfl)) rfl rfl hl.1 rfl (lv_room (Nat.le_of_ble_eq_true rfl)) dX0_move_54 ⟨Nat.le_of_ble_eq_true rfl, Nat.le_of_ble_eq_true rfl⟩) hP hD hS hA [0] rfl rfl (fun r_54 u H locs hq_54 hP hD hS => ?_)
          replace hP : va_P E.1 clA [(ax 5, .inl (E.2 0, 7, .inl (upd er 2 (er 2 + 1))))] _ := hP
          replace hD : va_D A [(ax 5, .inl (E.2 0, 7, .inl (upd er 2 (er 2 + 1))))] := hD
          replace hq_54 : r_54 = erv 2 := hq_54
          exact hret r_54 ((upd er 2 (er 2 + 1))) (by rw [move_0 hb_1 hb_8 (Or.inl hb0)]; exact ⟨hq_54, rfl, rfl⟩) (rfl) hP hD hS (Nat.le_of_ble_eq_true rfl) (Nat.le_of_ble_eq_true rfl) dX0_move_57
      ·
        rw [hs0]
        have hz0 : ¬ bt (nn sheet) = 0 := by rcases hrc0 with ⟨h, -⟩ | ⟨h, -⟩ | ⟨h, -⟩ <;> rw [h] <;> decide
        refine lv_astore (lv' := [(6, .ref ra0), (0, .ref (ax 19)), (1, .int sheet), (2, .int i_), (3, .int other), (4, .int j_), (5, .int n_)]) hx hb dX0_move_29 hl (by decide) rfl (fun ls hl => ?_)
        refine lv_aload_n hx hb dX0_move_31 rfl (lv_at hl 1 rfl) ?_
        refine fx_get X hE (hR.at hS) 0 rfl rfl 6 rfl q241 rfl rfl dX0_move_32 ?_
        refine lv_iload_n hx hb dX0_move_35 rfl (lv_at hl 4 rfl) ?_
        refine fx_ti (show other = nI (nn other) from go.1) ?_
        refine fx_aald X hE (hR.at hS) 1 3 rfl rfl (nn other) rfl (by omega) rfl (r := some (ax (64 + nn other))) (rfl) dX0_move_36 ?_
        refine fx_getN X hE (fx_one (hR.at hS) hso_) 0 rfl rfl 0 rfl 2 rfl rfl rfl dX0_move_37 ?_
        rcases hSH (nn other) go1 with ⟨hs1, hb1⟩ | ⟨ra1, rf1, hs1, hf1, hrc1⟩
        ·
          rw [hs1]
          refine lv_astoreN (lv' := [(7, .null), (6, .ref ra0), (0, .ref (ax 19)), (1, .int sheet), (2, .int i_), (3, .int other), (4, .int j_), (5, .int n_)]) hx hb dX0_move_40 hl (by decide) rfl (fun ls hl => ?_)
          refine lv_aload hx hb dX0_move_42 (lv_at hl 1 rfl) ?_
          refine lv_ifnull hx hb dX0_move_44 ?_
          refine lv_aloadN hx hb dX0_move_47 (lv_at hl 0 rfl) ?_
          refine lv_ifnonnullN hx hb dX0_move_49 ?_
          refine lv_aload_n hx hb dX0_move_52 rfl (lv_at hl 2 rfl) ?_
          refine lv_iconst (v := 2) hx hb dX0_move_53 rfl ?_
          refine fx_ci (va_runV (As := [.int 2]) (rest := []) X (xX0_finds l E ax im bn bm fm ff fl er 2 (by decide) _) (cwV 1 X.2.2.2.2 (lw_V q303 q305 qs0 q69 q306) rfl rfl rfl ⟨rfl, hdX0_finds⟩ ⟨Nat.le_of_ble_eq_true rfl, Nat.le_of_ble_eq_true rfl⟩) (fx_preV (fx_pre hE hP hD hS hR [0] rfl rfl (fx_rcr 0 rfl fx_rc0)) (va_recv hE.1 (hR.at hS) (ci := 0) (q0 := 0) rfl rfl)) rfl rfl hl.1 rfl (lv_room (Nat.le_of_ble_eq_true rfl)) dX0_move_54 ⟨Nat.le_of_ble_eq_true rfl, Nat.le_of_ble_eq_true rfl⟩) hP hD hS hA [0] rfl rfl (fun r_54 u H locs hq_54 hP hD hS => ?_)
          replace hP : va_P E.1 clA [(ax 5, .inl (E.2 0, 7, .inl (upd er 2 (er 2 + 1))))] _ := hP
          replace hD : va_D A [(ax 5, .inl (E.2 0, 7, .inl (upd er 2 (er 2 + 1))))] := hD
          replace hq_54 : r_54 = erv 2 := hq_54
          exact hret r_54 ((upd er 2 (er 2 + 1))) (by rw [move_0 hb_1 hb_8 (Or.inr hb1)]; exact ⟨hq_54, rfl, rfl⟩) (rfl) hP hD hS (Nat.le_of_ble_eq_true rfl) (Nat.le_of_ble_eq_true rfl) dX0_move_57
        ·
          rw [hs1]
          have hz1 : ¬ bt (nn other) = 0 := by rcases hrc1 with ⟨h, -⟩ | ⟨h, -⟩ | ⟨h, -⟩ <;> rw [h] <;> decide
          refine lv_astore (lv' := [(7, .ref ra1), (6, .ref ra0), (0, .ref (ax 19)), (1, .int sheet), (2, .int i_), (3, .int other), (4, .int j_), (5, .int n_)]) hx hb dX0_move_40 hl (by decide) rfl (fun ls hl => ?_)
          refine lv_aload hx hb dX0_move_42 (lv_at hl 1 rfl) ?_
          refine lv_ifnull hx hb dX0_move_44 ?_
          refine lv_aload hx hb dX0_move_47 (lv_at hl 0 rfl) ?_
          refine lv_ifnonnull (tgt := 58) hx hb dX0_move_49 (by decide) ?_
          exact absurd ⟨hb_1, hb_8, hz0, hz1⟩ hno
    · -- False
      subst hr_8
      refine lv_if_ne (tgt := 20) hx hb dX0_move_11 (by decide) (fun c => (c (by decide)).elim) (fun _ => ?_)
      refine lv_aload_n hx hb dX0_move_14 rfl (lv_at hl 0 rfl) ?_
      refine lv_iconst (v := 1) hx hb dX0_move_15 rfl ?_
      refine fx_ci (va_runV (As := [.int 1]) (rest := []) X (xX0_finds l E ax im bn bm fm ff fl er 1 (by decide) _) (cwV 1 X.2.2.2.2 (lw_V q303 q305 qs0 q69 q306) rfl rfl rfl ⟨rfl, hdX0_finds⟩ ⟨Nat.le_of_ble_eq_true rfl, Nat.le_of_ble_eq_true rfl⟩) (fx_preV (fx_pre hE hP hD hS hR [0] rfl rfl (fx_rcr 0 rfl fx_rc0)) (va_recv hE.1 (hR.at hS) (ci := 0) (q0 := 0) rfl rfl)) rfl rfl hl.1 rfl (lv_room (Nat.le_of_ble_eq_true rfl)) dX0_move_16 ⟨Nat.le_of_ble_eq_true rfl, Nat.le_of_ble_eq_true rfl⟩) hP hD hS hA [0] rfl rfl (fun r_16 u H locs hq_16 hP hD hS => ?_)
      replace hP : va_P E.1 clA [(ax 5, .inl (E.2 0, 7, .inl (upd er 1 (er 1 + 1))))] _ := hP
      replace hD : va_D A [(ax 5, .inl (E.2 0, 7, .inl (upd er 1 (er 1 + 1))))] := hD
      replace hq_16 : r_16 = erv 1 := hq_16
      exact hret r_16 ((upd er 1 (er 1 + 1))) (by rw [move_N (by simp [hb_1, hb_8])]; exact ⟨hq_16, rfl, rfl⟩) (rfl) hP hD hS (Nat.le_of_ble_eq_true rfl) (Nat.le_of_ble_eq_true rfl) dX0_move_19
  · -- False
    subst hr_1
    refine lv_if_eq (tgt := 14) hx hb dX0_move_4 (by decide) (fun _ => ?_) (fun c => (c (by decide)).elim)
    refine lv_aload_n hx hb dX0_move_14 rfl (lv_at hl 0 rfl) ?_
    refine lv_iconst (v := 1) hx hb dX0_move_15 rfl ?_
    refine fx_ci (va_runV (As := [.int 1]) (rest := []) X (xX0_finds l E ax im bn bm fm ff fl er 1 (by decide) _) (cwV 1 X.2.2.2.2 (lw_V q303 q305 qs0 q69 q306) rfl rfl rfl ⟨rfl, hdX0_finds⟩ ⟨Nat.le_of_ble_eq_true rfl, Nat.le_of_ble_eq_true rfl⟩) (fx_preV (fx_pre hE hP hD hS hR [0] rfl rfl (fx_rcr 0 rfl fx_rc0)) (va_recv hE.1 (hR.at hS) (ci := 0) (q0 := 0) rfl rfl)) rfl rfl hl.1 rfl (lv_room (Nat.le_of_ble_eq_true rfl)) dX0_move_16 ⟨Nat.le_of_ble_eq_true rfl, Nat.le_of_ble_eq_true rfl⟩) hP hD hS hA [0] rfl rfl (fun r_16 u H locs hq_16 hP hD hS => ?_)
    replace hP : va_P E.1 clA [(ax 5, .inl (E.2 0, 7, .inl (upd er 1 (er 1 + 1))))] _ := hP
    replace hD : va_D A [(ax 5, .inl (E.2 0, 7, .inl (upd er 1 (er 1 + 1))))] := hD
    replace hq_16 : r_16 = erv 1 := hq_16
    exact hret r_16 ((upd er 1 (er 1 + 1))) (by rw [move_N (by simp [hb_1])]; exact ⟨hq_16, rfl, rfl⟩) (rfl) hP hD hS (Nat.le_of_ble_eq_true rfl) (Nat.le_of_ble_eq_true rfl) dX0_move_19
abbrev rxX0_move_BB : Room := { frames := 10, cells := 3, slots := 80, locals := 10400 }
set_option maxHeartbeats 400000 in
set_option maxRecDepth 100000 in
theorem xX0_move_BB (l : Launch) (E : fx_En) (ks : fz_Ks) (ax : Nat → Nat) (im : Int32) (bn : Int32) (bm : Int32) (fm : Int32) (ff : Int32) (fl : Int32) (er : Nat → Int32) (bt : Nat → Int32) (sz : Nat → Int32) (nu : Nat → Int32) (sh : Nat → Option Nat) (PL : va_W) (sheet : Int32) (i_ : Int32) (other : Int32) (j_ : Int32) (n_ : Int32) (ra : Nat) (rf : Nat → Int32) (rb : Nat) (rg : Nat → Int32) (hst : l.stackTraces = false) (hIS : InvS bt sz) (hin : inB sheet 0 3 = true) (hin2 : inB other 0 3 = true) (hs0 : sh (nn sheet) = some ra) (hs1 : sh (nn other) = some rb) (hb0 : bt (nn sheet) = 8) (hb1 : bt (nn other) = 8) (hf : ∀ t, t < nn (sz (nn sheet)) → rf t = nu (24 * nn sheet + t)) (hg : ∀ t, t < nn (sz (nn other)) → rg t = nu (24 * nn other + t)) (hft : ∀ t, t < nn (sz (nn sheet)) → fits .byte (.int (rf t)) = true) : fz_Hi l yX0_move cX0_move 9 [((58 : Nat), (68 : Nat), (71 : Nat), (354 : Nat))] .int rxX0_move_BB E ks [.ref (ax 19), .int sheet, .int i_, .int other, .int j_, .int n_] [(ax 5, .inl (E.2 0, 7, .inl er)), (ra, .inl (E.2 1, (nn (sz (nn sheet))), .inl rf)), (rb, .inl (E.2 1, (nn (sz (nn other))), .inl rg))] ([(ax 19, .inr (0, [.ref (ax 0), .ref (ax 1), .ref (ax 35), .ref (ax 55), .ref (ax 4), .ref (ax 5), .ref (ax 6), .ref (ax 7), .int im, .ref (ax 9), .ref (ax 10), .ref (ax 11), .ref (ax 12), .ref (ax 13), .int bn, .int bm, .int fm, .int ff, .int fl])), (ax 6, .inl (E.2 3, 4, .inr (.inr (.inr (.inr (fun i_ => some (ax (64 + i_)))))))), (ax 64, .inr (2, [va_rf (sh 0)])), (ax 65, .inr (2, [va_rf (sh 1)])), (ax 66, .inr (2, [va_rf (sh 2)])), (ax 67, .inr (2, [va_rf (sh 3)]))] ++ PL) (S := (Nat → Int32) × (Nat → Int32)) (fun (u : (Nat → Int32) × (Nat → Int32)) => [(ax 5, .inl (E.2 0, 7, .inl u.1)), (ra, .inl (E.2 1, (nn (sz (nn sheet))), .inl rf)), (rb, .inl (E.2 1, (nn (sz (nn other))), .inl u.2))]) (fun (r : Int32) (u : (Nat → Int32) × (Nat → Int32)) => r = (move_ bt sz nu er sheet i_ other j_ n_).1 ∧ u.1 = (move_ bt sz nu er sheet i_ other j_ n_).2.2 ∧ ∀ t, t < nn (sz (nn other)) → u.2 t = (move_ bt sz nu er sheet i_ other j_ n_).2.1 (24 * nn other + t)) := by
  refine fz_hW rfl rfl ?_
  intro p e s m args below meth c A ls Q X htab hlocks hE hP hD hR hZ hA hl hret
  have hx := X.1
  have hb := X.2.1
  have hS : va_S A s.heap s.heap [] := va_S.rf
  replace hP : va_P E.1 clA [(ax 5, .inl (E.2 0, 7, .inl er)), (ra, .inl (E.2 1, (nn (sz (nn sheet))), .inl rf)), (rb, .inl (E.2 1, (nn (sz (nn other))), .inl rg))] _ := hP
  replace hD : va_D A [(ax 5, .inl (E.2 0, 7, .inl er)), (ra, .inl (E.2 1, (nn (sz (nn sheet))), .inl rf)), (rb, .inl (E.2 1, (nn (sz (nn other))), .inl rg))] := hD
  replace hl : lv_has ls 9 [(0, .ref (ax 19)), (1, .int sheet), (2, .int i_), (3, .int other), (4, .int j_), (5, .int n_)] := hl
  have hnz : ¬ (bt (nn sheet) = 0 ∨ bt (nn other) = 0) := by rw [hb0, hb1]; decide
  have hkk : bt (nn sheet) = bt (nn other) := by rw [hb0, hb1]
  refine lv_iload_n hx hb dX0_move_0 rfl (lv_at hl 1 rfl) ?_
  refine fx_ci (va_runS (As := [.int sheet]) (rest := []) X (xX0_isSheet l E sheet _) (va_cwS 1 X.2.2.2.2 (lw_S q806 q807 q69 q808) rfl rfl rfl hdX0_isSheet ⟨Nat.le_of_ble_eq_true rfl, Nat.le_of_ble_eq_true rfl⟩) (fx_pre hE hP hD hS hR [] rfl rfl fx_rc0) rfl rfl hl.1 rfl (lv_room (Nat.le_of_ble_eq_true rfl)) dX0_move_1 ⟨Nat.le_of_ble_eq_true rfl, Nat.le_of_ble_eq_true rfl⟩) hP hD hS hA [] rfl rfl (fun r_1 u H locs hq_1 hP hD hS => ?_)
  replace hP : va_P E.1 clA [(ax 5, .inl (E.2 0, 7, .inl er)), (ra, .inl (E.2 1, (nn (sz (nn sheet))), .inl rf)), (rb, .inl (E.2 1, (nn (sz (nn other))), .inl rg))] _ := hP
  replace hD : va_D A [(ax 5, .inl (E.2 0, 7, .inl er)), (ra, .inl (E.2 1, (nn (sz (nn sheet))), .inl rf)), (rb, .inl (E.2 1, (nn (sz (nn other))), .inl rg))] := hD
  replace hq_1 : r_1 = fx_b (inB sheet 0 3 = true) := hq_1
  rcases fx_bc hq_1 with ⟨hb_1, hr_1⟩ | ⟨hb_1, hr_1⟩
  · -- True
    subst hr_1
    refine lv_if_eq (tgt := 14) hx hb dX0_move_4 (by decide) (fun c => absurd c (by decide)) (fun _ => ?_)
    refine lv_iload_n hx hb dX0_move_7 rfl (lv_at hl 3 rfl) ?_
    refine fx_ci (va_runS (As := [.int other]) (rest := []) X (xX0_isSheet l E other _) (va_cwS 1 X.2.2.2.2 (lw_S q806 q807 q69 q808) rfl rfl rfl hdX0_isSheet ⟨Nat.le_of_ble_eq_true rfl, Nat.le_of_ble_eq_true rfl⟩) (fx_pre hE hP hD hS hR [] rfl rfl fx_rc0) rfl rfl hl.1 rfl (lv_room (Nat.le_of_ble_eq_true rfl)) dX0_move_8 ⟨Nat.le_of_ble_eq_true rfl, Nat.le_of_ble_eq_true rfl⟩) hP hD hS hA [] rfl rfl (fun r_8 u H locs hq_8 hP hD hS => ?_)
    replace hP : va_P E.1 clA [(ax 5, .inl (E.2 0, 7, .inl er)), (ra, .inl (E.2 1, (nn (sz (nn sheet))), .inl rf)), (rb, .inl (E.2 1, (nn (sz (nn other))), .inl rg))] _ := hP
    replace hD : va_D A [(ax 5, .inl (E.2 0, 7, .inl er)), (ra, .inl (E.2 1, (nn (sz (nn sheet))), .inl rf)), (rb, .inl (E.2 1, (nn (sz (nn other))), .inl rg))] := hD
    replace hq_8 : r_8 = fx_b (inB other 0 3 = true) := hq_8
    rcases fx_bc hq_8 with ⟨hb_8, hr_8⟩ | ⟨hb_8, hr_8⟩
    · -- True
      subst hr_8
      refine lv_if_ne (tgt := 20) hx hb dX0_move_11 (by decide) (fun _ => ?_) (fun c => absurd c (by decide))
      have gs := inB_nn (n := 3) hin (by omega)
      have gs1 : nn sheet < 4 := by omega
      have go := inB_nn (n := 3) hin2 (by omega)
      have go1 : nn other < 4 := by omega
      have hsh : ((ax (64 + nn sheet), .inr (2, [va_rf (sh (nn sheet))])) : Nat × va_E) ∈ ([(ax 19, .inr (0, [.ref (ax 0), .ref (ax 1), .ref (ax 35), .ref (ax 55), .ref (ax 4), .ref (ax 5), .ref (ax 6), .ref (ax 7), .int im, .ref (ax 9), .ref (ax 10), .ref (ax 11), .ref (ax 12), .ref (ax 13), .int bn, .int bm, .int fm, .int ff, .int fl])), (ax 6, .inl (E.2 3, 4, .inr (.inr (.inr (.inr (fun i_ => some (ax (64 + i_)))))))), (ax 64, .inr (2, [va_rf (sh 0)])), (ax 65, .inr (2, [va_rf (sh 1)])), (ax 66, .inr (2, [va_rf (sh 2)])), (ax 67, .inr (2, [va_rf (sh 3)]))] ++ PL) := by rcases (show nn sheet = 0 ∨ nn sheet = 1 ∨ nn sheet = 2 ∨ nn sheet = 3 by omega) with h | h | h | h <;> rw [h] <;> first | exact List.mem_of_getElem? (i := 2) rfl | exact List.mem_of_getElem? (i := 3) rfl | exact List.mem_of_getElem? (i := 4) rfl | exact List.mem_of_getElem? (i := 5) rfl
      have hso_ : ((ax (64 + nn other), .inr (2, [va_rf (sh (nn other))])) : Nat × va_E) ∈ ([(ax 19, .inr (0, [.ref (ax 0), .ref (ax 1), .ref (ax 35), .ref (ax 55), .ref (ax 4), .ref (ax 5), .ref (ax 6), .ref (ax 7), .int im, .ref (ax 9), .ref (ax 10), .ref (ax 11), .ref (ax 12), .ref (ax 13), .int bn, .int bm, .int fm, .int ff, .int fl])), (ax 6, .inl (E.2 3, 4, .inr (.inr (.inr (.inr (fun i_ => some (ax (64 + i_)))))))), (ax 64, .inr (2, [va_rf (sh 0)])), (ax 65, .inr (2, [va_rf (sh 1)])), (ax 66, .inr (2, [va_rf (sh 2)])), (ax 67, .inr (2, [va_rf (sh 3)]))] ++ PL) := by rcases (show nn other = 0 ∨ nn other = 1 ∨ nn other = 2 ∨ nn other = 3 by omega) with h | h | h | h <;> rw [h] <;> first | exact List.mem_of_getElem? (i := 2) rfl | exact List.mem_of_getElem? (i := 3) rfl | exact List.mem_of_getElem? (i := 4) rfl | exact List.mem_of_getElem? (i := 5) rfl
      have hsz := hIS.sz gs1
      have hsz2 := hsz.2
      have hso := hIS.sz go1
      have hso2 := hso.2
      refine lv_aload_n hx hb dX0_move_20 rfl (lv_at hl 0 rfl) ?_
      refine fx_get X hE (hR.at hS) 0 rfl rfl 6 rfl q241 rfl rfl dX0_move_21 ?_
      refine lv_iload_n hx hb dX0_move_24 rfl (lv_at hl 1 rfl) ?_
      refine fx_ti (show sheet = nI (nn sheet) from gs.1) ?_
      refine fx_aald X hE (hR.at hS) 1 3 rfl rfl (nn sheet) rfl (by omega) rfl (r := some (ax (64 + nn sheet))) (rfl) dX0_move_25 ?_
      refine fx_getN X hE (fx_one (hR.at hS) hsh) 0 rfl rfl 0 rfl 2 rfl rfl rfl dX0_move_26 ?_
      rw [hs0]
      refine lv_astore (lv' := [(6, .ref ra), (0, .ref (ax 19)), (1, .int sheet), (2, .int i_), (3, .int other), (4, .int j_), (5, .int n_)]) hx hb dX0_move_29 hl (by decide) rfl (fun ls hl => ?_)
      refine lv_aload_n hx hb dX0_move_31 rfl (lv_at hl 1 rfl) ?_
      refine fx_get X hE (hR.at hS) 0 rfl rfl 6 rfl q241 rfl rfl dX0_move_32 ?_
      refine lv_iload_n hx hb dX0_move_35 rfl (lv_at hl 4 rfl) ?_
      refine fx_ti (show other = nI (nn other) from go.1) ?_
      refine fx_aald X hE (hR.at hS) 1 3 rfl rfl (nn other) rfl (by omega) rfl (r := some (ax (64 + nn other))) (rfl) dX0_move_36 ?_
      refine fx_getN X hE (fx_one (hR.at hS) hso_) 0 rfl rfl 0 rfl 2 rfl rfl rfl dX0_move_37 ?_
      rw [hs1]
      refine lv_astore (lv' := [(7, .ref rb), (6, .ref ra), (0, .ref (ax 19)), (1, .int sheet), (2, .int i_), (3, .int other), (4, .int j_), (5, .int n_)]) hx hb dX0_move_40 hl (by decide) rfl (fun ls hl => ?_)
      refine lv_aload hx hb dX0_move_42 (lv_at hl 1 rfl) ?_
      refine lv_ifnull hx hb dX0_move_44 ?_
      refine lv_aload hx hb dX0_move_47 (lv_at hl 0 rfl) ?_
      refine lv_ifnonnull (tgt := 58) hx hb dX0_move_49 (by decide) ?_
      refine lv_aload hx hb dX0_move_58 (lv_at hl 1 rfl) ?_
      refine lv_iconst (v := 0) hx hb dX0_move_60 rfl ?_
      refine lv_aload hx hb dX0_move_61 (lv_at hl 0 rfl) ?_
      refine lv_iconst (v := 0) hx hb dX0_move_63 rfl ?_
      refine lv_iconst (v := 0) hx hb dX0_move_64 rfl ?_
      refine fx_acpy (ws' := [(ax 5, .inl (E.2 0, 7, .inl er)), (ra, .inl (E.2 1, (nn (sz (nn sheet))), .inl rf)), (rb, .inl (E.2 1, (nn (sz (nn other))), .inl (va_cpy rf rg 0 0 0)))]) X hE hl.1 hP hD hS q887 q889 q888 q93 1 2 1 rfl rfl rfl rfl 0 0 0 rfl rfl rfl (by omega) (by omega) (by omega) (by omega) (fun i hi => absurd hi (Nat.not_lt_zero _)) ⟨Nat.le_of_ble_eq_true rfl, Nat.le_of_ble_eq_true rfl⟩ rfl dX0_move_65 (fun H locs hP hD hS => ?_)
      have eW1 : (va_cpy rf rg 0 0 0) = rg := cpy_0 _ _ _ _
      rw [eW1] at hP hD
      refine lv_goto (tgt := 79) hx hb dX0_move_68 (by decide) ?_
      refine lv_iload hx hb dX0_move_79 (lv_at hl 7 rfl) ?_
      refine lv_if_lt (tgt := 118) hx hb dX0_move_81 (by decide) (fun c_81 => ?_) (fun c_81 => ?_)
      · -- jump 118
        have hbad : mvBad sz (nn sheet) (nn other) i_ j_ n_ = true := mvB1 c_81
        refine lv_aload_n hx hb dX0_move_118 rfl (lv_at hl 2 rfl) ?_
        refine lv_iconst (v := 1) hx hb dX0_move_119 rfl ?_
        refine fx_ci (va_runV (As := [.int 1]) (rest := []) X (xX0_finds l E ax im bn bm fm ff fl er 1 (by decide) _) (cwV 1 X.2.2.2.2 (lw_V q303 q305 qs0 q69 q306) rfl rfl rfl ⟨rfl, hdX0_finds⟩ ⟨Nat.le_of_ble_eq_true rfl, Nat.le_of_ble_eq_true rfl⟩) (fx_preV (fx_pre hE hP hD hS hR [0] rfl rfl (fx_rcr 0 rfl fx_rc0)) (va_recv hE.1 (hR.at hS) (ci := 0) (q0 := 0) rfl rfl)) rfl rfl hl.1 rfl (lv_room (Nat.le_of_ble_eq_true rfl)) dX0_move_120 ⟨Nat.le_of_ble_eq_true rfl, Nat.le_of_ble_eq_true rfl⟩) hP hD hS hA [0] rfl rfl (fun r_120 u H locs hq_120 hP hD hS => ?_)
        replace hP : va_P E.1 clA [(ax 5, .inl (E.2 0, 7, .inl (upd er 1 (er 1 + 1)))), (ra, .inl (E.2 1, (nn (sz (nn sheet))), .inl rf)), (rb, .inl (E.2 1, (nn (sz (nn other))), .inl rg))] _ := hP
        replace hD : va_D A [(ax 5, .inl (E.2 0, 7, .inl (upd er 1 (er 1 + 1)))), (ra, .inl (E.2 1, (nn (sz (nn sheet))), .inl rf)), (rb, .inl (E.2 1, (nn (sz (nn other))), .inl rg))] := hD
        replace hq_120 : r_120 = erv 1 := hq_120
        exact hret r_120 ((upd er 1 (er 1 + 1)), rg) (by rw [move_b hin hin2 hnz hkk hbad]; exact ⟨hq_120, rfl, hg⟩) (rfl) hP hD hS (Nat.le_of_ble_eq_true rfl) (Nat.le_of_ble_eq_true rfl) dX0_move_123
      · -- fall 84
        refine lv_iload_n hx hb dX0_move_84 rfl (lv_at hl 4 rfl) ?_
        refine lv_if_lt (tgt := 118) hx hb dX0_move_85 (by decide) (fun c_85 => ?_) (fun c_85 => ?_)
        · -- jump 118
          have hbad : mvBad sz (nn sheet) (nn other) i_ j_ n_ = true := mvB2 c_85
          refine lv_aload_n hx hb dX0_move_118 rfl (lv_at hl 2 rfl) ?_
          refine lv_iconst (v := 1) hx hb dX0_move_119 rfl ?_
          refine fx_ci (va_runV (As := [.int 1]) (rest := []) X (xX0_finds l E ax im bn bm fm ff fl er 1 (by decide) _) (cwV 1 X.2.2.2.2 (lw_V q303 q305 qs0 q69 q306) rfl rfl rfl ⟨rfl, hdX0_finds⟩ ⟨Nat.le_of_ble_eq_true rfl, Nat.le_of_ble_eq_true rfl⟩) (fx_preV (fx_pre hE hP hD hS hR [0] rfl rfl (fx_rcr 0 rfl fx_rc0)) (va_recv hE.1 (hR.at hS) (ci := 0) (q0 := 0) rfl rfl)) rfl rfl hl.1 rfl (lv_room (Nat.le_of_ble_eq_true rfl)) dX0_move_120 ⟨Nat.le_of_ble_eq_true rfl, Nat.le_of_ble_eq_true rfl⟩) hP hD hS hA [0] rfl rfl (fun r_120 u H locs hq_120 hP hD hS => ?_)
          replace hP : va_P E.1 clA [(ax 5, .inl (E.2 0, 7, .inl (upd er 1 (er 1 + 1)))), (ra, .inl (E.2 1, (nn (sz (nn sheet))), .inl rf)), (rb, .inl (E.2 1, (nn (sz (nn other))), .inl rg))] _ := hP
          replace hD : va_D A [(ax 5, .inl (E.2 0, 7, .inl (upd er 1 (er 1 + 1)))), (ra, .inl (E.2 1, (nn (sz (nn sheet))), .inl rf)), (rb, .inl (E.2 1, (nn (sz (nn other))), .inl rg))] := hD
          replace hq_120 : r_120 = erv 1 := hq_120
          exact hret r_120 ((upd er 1 (er 1 + 1)), rg) (by rw [move_b hin hin2 hnz hkk hbad]; exact ⟨hq_120, rfl, hg⟩) (rfl) hP hD hS (Nat.le_of_ble_eq_true rfl) (Nat.le_of_ble_eq_true rfl) dX0_move_123
        · -- fall 88
          refine lv_iload hx hb dX0_move_88 (lv_at hl 6 rfl) ?_
          refine lv_if_lt (tgt := 118) hx hb dX0_move_90 (by decide) (fun c_90 => ?_) (fun c_90 => ?_)
          · -- jump 118
            have hbad : mvBad sz (nn sheet) (nn other) i_ j_ n_ = true := mvB3 c_90
            refine lv_aload_n hx hb dX0_move_118 rfl (lv_at hl 2 rfl) ?_
            refine lv_iconst (v := 1) hx hb dX0_move_119 rfl ?_
            refine fx_ci (va_runV (As := [.int 1]) (rest := []) X (xX0_finds l E ax im bn bm fm ff fl er 1 (by decide) _) (cwV 1 X.2.2.2.2 (lw_V q303 q305 qs0 q69 q306) rfl rfl rfl ⟨rfl, hdX0_finds⟩ ⟨Nat.le_of_ble_eq_true rfl, Nat.le_of_ble_eq_true rfl⟩) (fx_preV (fx_pre hE hP hD hS hR [0] rfl rfl (fx_rcr 0 rfl fx_rc0)) (va_recv hE.1 (hR.at hS) (ci := 0) (q0 := 0) rfl rfl)) rfl rfl hl.1 rfl (lv_room (Nat.le_of_ble_eq_true rfl)) dX0_move_120 ⟨Nat.le_of_ble_eq_true rfl, Nat.le_of_ble_eq_true rfl⟩) hP hD hS hA [0] rfl rfl (fun r_120 u H locs hq_120 hP hD hS => ?_)
            replace hP : va_P E.1 clA [(ax 5, .inl (E.2 0, 7, .inl (upd er 1 (er 1 + 1)))), (ra, .inl (E.2 1, (nn (sz (nn sheet))), .inl rf)), (rb, .inl (E.2 1, (nn (sz (nn other))), .inl rg))] _ := hP
            replace hD : va_D A [(ax 5, .inl (E.2 0, 7, .inl (upd er 1 (er 1 + 1)))), (ra, .inl (E.2 1, (nn (sz (nn sheet))), .inl rf)), (rb, .inl (E.2 1, (nn (sz (nn other))), .inl rg))] := hD
            replace hq_120 : r_120 = erv 1 := hq_120
            exact hret r_120 ((upd er 1 (er 1 + 1)), rg) (by rw [move_b hin hin2 hnz hkk hbad]; exact ⟨hq_120, rfl, hg⟩) (rfl) hP hD hS (Nat.le_of_ble_eq_true rfl) (Nat.le_of_ble_eq_true rfl) dX0_move_123
          · -- fall 93
            refine lv_iload hx hb dX0_move_93 (lv_at hl 7 rfl) ?_
            refine lv_aload hx hb dX0_move_95 (lv_at hl 1 rfl) ?_
            refine fx_ci (va_runS (As := [.ref ra]) (rest := [.int n_]) X (xX0_sizeOfB l E ra (nn (sz (nn sheet))) rf _) (va_cwS 1 X.2.2.2.2 (lw_S q813 q814 q69 q815) rfl rfl rfl hdX0_sizeOf ⟨Nat.le_of_ble_eq_true rfl, Nat.le_of_ble_eq_true rfl⟩) (fx_pre hE hP hD hS hR [] rfl rfl (fx_rcm 1 rfl (by decide) fx_rc0)) rfl rfl hl.1 rfl (lv_room (Nat.le_of_ble_eq_true rfl)) dX0_move_97 ⟨Nat.le_of_ble_eq_true rfl, Nat.le_of_ble_eq_true rfl⟩) hP hD hS hA [] rfl rfl (fun r_97 u H locs hq_97 hP hD hS => ?_)
            replace hP : va_P E.1 clA [(ax 5, .inl (E.2 0, 7, .inl er)), (ra, .inl (E.2 1, (nn (sz (nn sheet))), .inl rf)), (rb, .inl (E.2 1, (nn (sz (nn other))), .inl rg))] _ := hP
            replace hD : va_D A [(ax 5, .inl (E.2 0, 7, .inl er)), (ra, .inl (E.2 1, (nn (sz (nn sheet))), .inl rf)), (rb, .inl (E.2 1, (nn (sz (nn other))), .inl rg))] := hD
            replace hq_97 : r_97 = nI (nn (sz (nn sheet))) := hq_97
            refine fx_ti (show r_97 = nI (nn (sz (nn sheet))) from hq_97) ?_
            refine lv_iload_n hx hb dX0_move_100 rfl (lv_at hl 4 rfl) ?_
            refine lv_isub hx hb dX0_move_101 ?_
            refine lv_icmp_gt (tgt := 118) hx hb dX0_move_102 (by decide) (fun c_102 => ?_) (fun c_102 => ?_)
            · -- jump 118
              have hbad : mvBad sz (nn sheet) (nn other) i_ j_ n_ = true := mvB4 hsz.1 hsz2 c_81 c_85 c_102
              refine lv_aload_n hx hb dX0_move_118 rfl (lv_at hl 2 rfl) ?_
              refine lv_iconst (v := 1) hx hb dX0_move_119 rfl ?_
              refine fx_ci (va_runV (As := [.int 1]) (rest := []) X (xX0_finds l E ax im bn bm fm ff fl er 1 (by decide) _) (cwV 1 X.2.2.2.2 (lw_V q303 q305 qs0 q69 q306) rfl rfl rfl ⟨rfl, hdX0_finds⟩ ⟨Nat.le_of_ble_eq_true rfl, Nat.le_of_ble_eq_true rfl⟩) (fx_preV (fx_pre hE hP hD hS hR [0] rfl rfl (fx_rcr 0 rfl fx_rc0)) (va_recv hE.1 (hR.at hS) (ci := 0) (q0 := 0) rfl rfl)) rfl rfl hl.1 rfl (lv_room (Nat.le_of_ble_eq_true rfl)) dX0_move_120 ⟨Nat.le_of_ble_eq_true rfl, Nat.le_of_ble_eq_true rfl⟩) hP hD hS hA [0] rfl rfl (fun r_120 u H locs hq_120 hP hD hS => ?_)
              replace hP : va_P E.1 clA [(ax 5, .inl (E.2 0, 7, .inl (upd er 1 (er 1 + 1)))), (ra, .inl (E.2 1, (nn (sz (nn sheet))), .inl rf)), (rb, .inl (E.2 1, (nn (sz (nn other))), .inl rg))] _ := hP
              replace hD : va_D A [(ax 5, .inl (E.2 0, 7, .inl (upd er 1 (er 1 + 1)))), (ra, .inl (E.2 1, (nn (sz (nn sheet))), .inl rf)), (rb, .inl (E.2 1, (nn (sz (nn other))), .inl rg))] := hD
              replace hq_120 : r_120 = erv 1 := hq_120
              exact hret r_120 ((upd er 1 (er 1 + 1)), rg) (by rw [move_b hin hin2 hnz hkk hbad]; exact ⟨hq_120, rfl, hg⟩) (rfl) hP hD hS (Nat.le_of_ble_eq_true rfl) (Nat.le_of_ble_eq_true rfl) dX0_move_123
            · -- fall 105
              refine lv_iload hx hb dX0_move_105 (lv_at hl 7 rfl) ?_
              refine lv_aload hx hb dX0_move_107 (lv_at hl 0 rfl) ?_
              refine fx_ci (va_runS (As := [.ref rb]) (rest := [.int n_]) X (xX0_sizeOfB l E rb (nn (sz (nn other))) rg _) (va_cwS 1 X.2.2.2.2 (lw_S q813 q814 q69 q815) rfl rfl rfl hdX0_sizeOf ⟨Nat.le_of_ble_eq_true rfl, Nat.le_of_ble_eq_true rfl⟩) (fx_pre hE hP hD hS hR [] rfl rfl (fx_rcm 2 rfl (by decide) fx_rc0)) rfl rfl hl.1 rfl (lv_room (Nat.le_of_ble_eq_true rfl)) dX0_move_109 ⟨Nat.le_of_ble_eq_true rfl, Nat.le_of_ble_eq_true rfl⟩) hP hD hS hA [] rfl rfl (fun r_109 u H locs hq_109 hP hD hS => ?_)
              replace hP : va_P E.1 clA [(ax 5, .inl (E.2 0, 7, .inl er)), (ra, .inl (E.2 1, (nn (sz (nn sheet))), .inl rf)), (rb, .inl (E.2 1, (nn (sz (nn other))), .inl rg))] _ := hP
              replace hD : va_D A [(ax 5, .inl (E.2 0, 7, .inl er)), (ra, .inl (E.2 1, (nn (sz (nn sheet))), .inl rf)), (rb, .inl (E.2 1, (nn (sz (nn other))), .inl rg))] := hD
              replace hq_109 : r_109 = nI (nn (sz (nn other))) := hq_109
              refine fx_ti (show r_109 = nI (nn (sz (nn other))) from hq_109) ?_
              refine lv_iload hx hb dX0_move_112 (lv_at hl 6 rfl) ?_
              refine lv_isub hx hb dX0_move_114 ?_
              refine lv_icmp_le (tgt := 124) hx hb dX0_move_115 (by decide) (fun c_115 => ?_) (fun c_115 => ?_)
              · -- jump 124
                obtain ⟨hok, gm1, gm2⟩ := mvB0 hsz.1 hsz2 hso.1 hso2 c_81 c_85 c_90 (Int32.not_lt.1 c_102) c_115
                have pn := nn_pos (Int32.not_lt.1 c_81)
                have pi := nn_pos (Int32.not_lt.1 c_85)
                have pj := nn_pos (Int32.not_lt.1 c_90)
                refine lv_aload hx hb dX0_move_124 (lv_at hl 1 rfl) ?_
                refine lv_iload_n hx hb dX0_move_126 rfl (lv_at hl 4 rfl) ?_
                refine fx_ti (show i_ = nI (nn i_) from pi.1) ?_
                refine lv_aload hx hb dX0_move_127 (lv_at hl 0 rfl) ?_
                refine lv_iload hx hb dX0_move_129 (lv_at hl 6 rfl) ?_
                refine fx_ti (show j_ = nI (nn j_) from pj.1) ?_
                refine lv_iload hx hb dX0_move_131 (lv_at hl 7 rfl) ?_
                refine fx_ti (show n_ = nI (nn n_) from pn.1) ?_
                refine fx_acpy (ws' := [(ax 5, .inl (E.2 0, 7, .inl er)), (ra, .inl (E.2 1, (nn (sz (nn sheet))), .inl rf)), (rb, .inl (E.2 1, (nn (sz (nn other))), .inl (va_cpy rf rg (nn i_) (nn j_) (nn n_))))]) X hE hl.1 hP hD hS q887 q889 q888 q93 1 2 1 rfl rfl rfl rfl (nn i_) (nn j_) (nn n_) rfl rfl rfl (by omega) (by omega) (by omega) (by omega) (fun i hi => hft _ (by omega)) ⟨Nat.le_of_ble_eq_true rfl, Nat.le_of_ble_eq_true rfl⟩ rfl dX0_move_133 (fun H locs hP hD hS => ?_)
                refine lv_iload hx hb dX0_move_136 (lv_at hl 7 rfl) ?_
                exact hret n_ (er, (va_cpy rf rg (nn i_) (nn j_) (nn n_))) (by rw [move_s hin hin2 hnz hkk hok]; exact ⟨rfl, rfl, row_c hf hg gm1 gm2⟩) (rfl) hP hD hS (Nat.le_of_ble_eq_true rfl) (Nat.le_of_ble_eq_true rfl) dX0_move_138
              · -- fall 118
                have hbad : mvBad sz (nn sheet) (nn other) i_ j_ n_ = true := mvB5 hso.1 hso2 c_81 c_90 (Int32.not_le.1 c_115)
                refine lv_aload_n hx hb dX0_move_118 rfl (lv_at hl 2 rfl) ?_
                refine lv_iconst (v := 1) hx hb dX0_move_119 rfl ?_
                refine fx_ci (va_runV (As := [.int 1]) (rest := []) X (xX0_finds l E ax im bn bm fm ff fl er 1 (by decide) _) (cwV 1 X.2.2.2.2 (lw_V q303 q305 qs0 q69 q306) rfl rfl rfl ⟨rfl, hdX0_finds⟩ ⟨Nat.le_of_ble_eq_true rfl, Nat.le_of_ble_eq_true rfl⟩) (fx_preV (fx_pre hE hP hD hS hR [0] rfl rfl (fx_rcr 0 rfl fx_rc0)) (va_recv hE.1 (hR.at hS) (ci := 0) (q0 := 0) rfl rfl)) rfl rfl hl.1 rfl (lv_room (Nat.le_of_ble_eq_true rfl)) dX0_move_120 ⟨Nat.le_of_ble_eq_true rfl, Nat.le_of_ble_eq_true rfl⟩) hP hD hS hA [0] rfl rfl (fun r_120 u H locs hq_120 hP hD hS => ?_)
                replace hP : va_P E.1 clA [(ax 5, .inl (E.2 0, 7, .inl (upd er 1 (er 1 + 1)))), (ra, .inl (E.2 1, (nn (sz (nn sheet))), .inl rf)), (rb, .inl (E.2 1, (nn (sz (nn other))), .inl rg))] _ := hP
                replace hD : va_D A [(ax 5, .inl (E.2 0, 7, .inl (upd er 1 (er 1 + 1)))), (ra, .inl (E.2 1, (nn (sz (nn sheet))), .inl rf)), (rb, .inl (E.2 1, (nn (sz (nn other))), .inl rg))] := hD
                replace hq_120 : r_120 = erv 1 := hq_120
                exact hret r_120 ((upd er 1 (er 1 + 1)), rg) (by rw [move_b hin hin2 hnz hkk hbad]; exact ⟨hq_120, rfl, hg⟩) (rfl) hP hD hS (Nat.le_of_ble_eq_true rfl) (Nat.le_of_ble_eq_true rfl) dX0_move_123
    · -- False
      subst hr_8
      exact absurd hin2 hb_8
  · -- False
    subst hr_1
    exact absurd hin hb_1
abbrev rxX0_move_BS : Room := { frames := 10, cells := 3, slots := 80, locals := 10400 }
set_option maxHeartbeats 400000 in
set_option maxRecDepth 100000 in
theorem xX0_move_BS (l : Launch) (E : fx_En) (ks : fz_Ks) (ax : Nat → Nat) (im : Int32) (bn : Int32) (bm : Int32) (fm : Int32) (ff : Int32) (fl : Int32) (er : Nat → Int32) (bt : Nat → Int32) (sz : Nat → Int32) (nu : Nat → Int32) (sh : Nat → Option Nat) (PL : va_W) (sheet : Int32) (i_ : Int32) (other : Int32) (j_ : Int32) (n_ : Int32) (ra : Nat) (rf : Nat → Int32) (rb : Nat) (rg : Nat → Int32) (hst : l.stackTraces = false) (hIS : InvS bt sz) (hin : inB sheet 0 3 = true) (hin2 : inB other 0 3 = true) (hs0 : sh (nn sheet) = some ra) (hs1 : sh (nn other) = some rb) (hb0 : bt (nn sheet) = 8) (hb1 : bt (nn other) = 16) (hf : ∀ t, t < nn (sz (nn sheet)) → rf t = nu (24 * nn sheet + t)) (hg : ∀ t, t < nn (sz (nn other)) → rg t = nu (24 * nn other + t)) : fz_Hi l yX0_move cX0_move 9 [((58 : Nat), (68 : Nat), (71 : Nat), (354 : Nat))] .int rxX0_move_BS E ks [.ref (ax 19), .int sheet, .int i_, .int other, .int j_, .int n_] [(ax 5, .inl (E.2 0, 7, .inl er)), (ra, .inl (E.2 1, (nn (sz (nn sheet))), .inl rf)), (rb, .inl (E.2 2, (nn (sz (nn other))), .inl rg))] ([(ax 19, .inr (0, [.ref (ax 0), .ref (ax 1), .ref (ax 35), .ref (ax 55), .ref (ax 4), .ref (ax 5), .ref (ax 6), .ref (ax 7), .int im, .ref (ax 9), .ref (ax 10), .ref (ax 11), .ref (ax 12), .ref (ax 13), .int bn, .int bm, .int fm, .int ff, .int fl])), (ax 6, .inl (E.2 3, 4, .inr (.inr (.inr (.inr (fun i_ => some (ax (64 + i_)))))))), (ax 64, .inr (2, [va_rf (sh 0)])), (ax 65, .inr (2, [va_rf (sh 1)])), (ax 66, .inr (2, [va_rf (sh 2)])), (ax 67, .inr (2, [va_rf (sh 3)]))] ++ PL) (S := (Nat → Int32) × (Nat → Int32)) (fun (u : (Nat → Int32) × (Nat → Int32)) => [(ax 5, .inl (E.2 0, 7, .inl u.1)), (ra, .inl (E.2 1, (nn (sz (nn sheet))), .inl rf)), (rb, .inl (E.2 2, (nn (sz (nn other))), .inl u.2))]) (fun (r : Int32) (u : (Nat → Int32) × (Nat → Int32)) => r = (move_ bt sz nu er sheet i_ other j_ n_).1 ∧ u.1 = (move_ bt sz nu er sheet i_ other j_ n_).2.2 ∧ ∀ t, t < nn (sz (nn other)) → u.2 t = (move_ bt sz nu er sheet i_ other j_ n_).2.1 (24 * nn other + t)) := by
  refine fz_hW rfl rfl ?_
  intro p e s m args below meth c A ls Q X htab hlocks hE hP hD hR hZ hA hl hret
  have hx := X.1
  have hb := X.2.1
  have hS : va_S A s.heap s.heap [] := va_S.rf
  replace hP : va_P E.1 clA [(ax 5, .inl (E.2 0, 7, .inl er)), (ra, .inl (E.2 1, (nn (sz (nn sheet))), .inl rf)), (rb, .inl (E.2 2, (nn (sz (nn other))), .inl rg))] _ := hP
  replace hD : va_D A [(ax 5, .inl (E.2 0, 7, .inl er)), (ra, .inl (E.2 1, (nn (sz (nn sheet))), .inl rf)), (rb, .inl (E.2 2, (nn (sz (nn other))), .inl rg))] := hD
  replace hl : lv_has ls 9 [(0, .ref (ax 19)), (1, .int sheet), (2, .int i_), (3, .int other), (4, .int j_), (5, .int n_)] := hl
  have hnz : ¬ (bt (nn sheet) = 0 ∨ bt (nn other) = 0) := by rw [hb0, hb1]; decide
  have hkk : ¬ bt (nn sheet) = bt (nn other) := by rw [hb0, hb1]; decide
  refine lv_iload_n hx hb dX0_move_0 rfl (lv_at hl 1 rfl) ?_
  refine fx_ci (va_runS (As := [.int sheet]) (rest := []) X (xX0_isSheet l E sheet _) (va_cwS 1 X.2.2.2.2 (lw_S q806 q807 q69 q808) rfl rfl rfl hdX0_isSheet ⟨Nat.le_of_ble_eq_true rfl, Nat.le_of_ble_eq_true rfl⟩) (fx_pre hE hP hD hS hR [] rfl rfl fx_rc0) rfl rfl hl.1 rfl (lv_room (Nat.le_of_ble_eq_true rfl)) dX0_move_1 ⟨Nat.le_of_ble_eq_true rfl, Nat.le_of_ble_eq_true rfl⟩) hP hD hS hA [] rfl rfl (fun r_1 u H locs hq_1 hP hD hS => ?_)
  replace hP : va_P E.1 clA [(ax 5, .inl (E.2 0, 7, .inl er)), (ra, .inl (E.2 1, (nn (sz (nn sheet))), .inl rf)), (rb, .inl (E.2 2, (nn (sz (nn other))), .inl rg))] _ := hP
  replace hD : va_D A [(ax 5, .inl (E.2 0, 7, .inl er)), (ra, .inl (E.2 1, (nn (sz (nn sheet))), .inl rf)), (rb, .inl (E.2 2, (nn (sz (nn other))), .inl rg))] := hD
  replace hq_1 : r_1 = fx_b (inB sheet 0 3 = true) := hq_1
  rcases fx_bc hq_1 with ⟨hb_1, hr_1⟩ | ⟨hb_1, hr_1⟩
  · -- True
    subst hr_1
    refine lv_if_eq (tgt := 14) hx hb dX0_move_4 (by decide) (fun c => absurd c (by decide)) (fun _ => ?_)
    refine lv_iload_n hx hb dX0_move_7 rfl (lv_at hl 3 rfl) ?_
    refine fx_ci (va_runS (As := [.int other]) (rest := []) X (xX0_isSheet l E other _) (va_cwS 1 X.2.2.2.2 (lw_S q806 q807 q69 q808) rfl rfl rfl hdX0_isSheet ⟨Nat.le_of_ble_eq_true rfl, Nat.le_of_ble_eq_true rfl⟩) (fx_pre hE hP hD hS hR [] rfl rfl fx_rc0) rfl rfl hl.1 rfl (lv_room (Nat.le_of_ble_eq_true rfl)) dX0_move_8 ⟨Nat.le_of_ble_eq_true rfl, Nat.le_of_ble_eq_true rfl⟩) hP hD hS hA [] rfl rfl (fun r_8 u H locs hq_8 hP hD hS => ?_)
    replace hP : va_P E.1 clA [(ax 5, .inl (E.2 0, 7, .inl er)), (ra, .inl (E.2 1, (nn (sz (nn sheet))), .inl rf)), (rb, .inl (E.2 2, (nn (sz (nn other))), .inl rg))] _ := hP
    replace hD : va_D A [(ax 5, .inl (E.2 0, 7, .inl er)), (ra, .inl (E.2 1, (nn (sz (nn sheet))), .inl rf)), (rb, .inl (E.2 2, (nn (sz (nn other))), .inl rg))] := hD
    replace hq_8 : r_8 = fx_b (inB other 0 3 = true) := hq_8
    rcases fx_bc hq_8 with ⟨hb_8, hr_8⟩ | ⟨hb_8, hr_8⟩
    · -- True
      subst hr_8
      refine lv_if_ne (tgt := 20) hx hb dX0_move_11 (by decide) (fun _ => ?_) (fun c => absurd c (by decide))
      have gs := inB_nn (n := 3) hin (by omega)
      have gs1 : nn sheet < 4 := by omega
      have go := inB_nn (n := 3) hin2 (by omega)
      have go1 : nn other < 4 := by omega
      have hsh : ((ax (64 + nn sheet), .inr (2, [va_rf (sh (nn sheet))])) : Nat × va_E) ∈ ([(ax 19, .inr (0, [.ref (ax 0), .ref (ax 1), .ref (ax 35), .ref (ax 55), .ref (ax 4), .ref (ax 5), .ref (ax 6), .ref (ax 7), .int im, .ref (ax 9), .ref (ax 10), .ref (ax 11), .ref (ax 12), .ref (ax 13), .int bn, .int bm, .int fm, .int ff, .int fl])), (ax 6, .inl (E.2 3, 4, .inr (.inr (.inr (.inr (fun i_ => some (ax (64 + i_)))))))), (ax 64, .inr (2, [va_rf (sh 0)])), (ax 65, .inr (2, [va_rf (sh 1)])), (ax 66, .inr (2, [va_rf (sh 2)])), (ax 67, .inr (2, [va_rf (sh 3)]))] ++ PL) := by rcases (show nn sheet = 0 ∨ nn sheet = 1 ∨ nn sheet = 2 ∨ nn sheet = 3 by omega) with h | h | h | h <;> rw [h] <;> first | exact List.mem_of_getElem? (i := 2) rfl | exact List.mem_of_getElem? (i := 3) rfl | exact List.mem_of_getElem? (i := 4) rfl | exact List.mem_of_getElem? (i := 5) rfl
      have hso_ : ((ax (64 + nn other), .inr (2, [va_rf (sh (nn other))])) : Nat × va_E) ∈ ([(ax 19, .inr (0, [.ref (ax 0), .ref (ax 1), .ref (ax 35), .ref (ax 55), .ref (ax 4), .ref (ax 5), .ref (ax 6), .ref (ax 7), .int im, .ref (ax 9), .ref (ax 10), .ref (ax 11), .ref (ax 12), .ref (ax 13), .int bn, .int bm, .int fm, .int ff, .int fl])), (ax 6, .inl (E.2 3, 4, .inr (.inr (.inr (.inr (fun i_ => some (ax (64 + i_)))))))), (ax 64, .inr (2, [va_rf (sh 0)])), (ax 65, .inr (2, [va_rf (sh 1)])), (ax 66, .inr (2, [va_rf (sh 2)])), (ax 67, .inr (2, [va_rf (sh 3)]))] ++ PL) := by rcases (show nn other = 0 ∨ nn other = 1 ∨ nn other = 2 ∨ nn other = 3 by omega) with h | h | h | h <;> rw [h] <;> first | exact List.mem_of_getElem? (i := 2) rfl | exact List.mem_of_getElem? (i := 3) rfl | exact List.mem_of_getElem? (i := 4) rfl | exact List.mem_of_getElem? (i := 5) rfl
      have hsz := hIS.sz gs1
      have hsz2 := hsz.2
      have hso := hIS.sz go1
      have hso2 := hso.2
      refine lv_aload_n hx hb dX0_move_20 rfl (lv_at hl 0 rfl) ?_
      refine fx_get X hE (hR.at hS) 0 rfl rfl 6 rfl q241 rfl rfl dX0_move_21 ?_
      refine lv_iload_n hx hb dX0_move_24 rfl (lv_at hl 1 rfl) ?_
      refine fx_ti (show sheet = nI (nn sheet) from gs.1) ?_
      refine fx_aald X hE (hR.at hS) 1 3 rfl rfl (nn sheet) rfl (by omega) rfl (r := some (ax (64 + nn sheet))) (rfl) dX0_move_25 ?_
      refine fx_getN X hE (fx_one (hR.at hS) hsh) 0 rfl rfl 0 rfl 2 rfl rfl rfl dX0_move_26 ?_
      rw [hs0]
      refine lv_astore (lv' := [(6, .ref ra), (0, .ref (ax 19)), (1, .int sheet), (2, .int i_), (3, .int other), (4, .int j_), (5, .int n_)]) hx hb dX0_move_29 hl (by decide) rfl (fun ls hl => ?_)
      refine lv_aload_n hx hb dX0_move_31 rfl (lv_at hl 1 rfl) ?_
      refine fx_get X hE (hR.at hS) 0 rfl rfl 6 rfl q241 rfl rfl dX0_move_32 ?_
      refine lv_iload_n hx hb dX0_move_35 rfl (lv_at hl 4 rfl) ?_
      refine fx_ti (show other = nI (nn other) from go.1) ?_
      refine fx_aald X hE (hR.at hS) 1 3 rfl rfl (nn other) rfl (by omega) rfl (r := some (ax (64 + nn other))) (rfl) dX0_move_36 ?_
      refine fx_getN X hE (fx_one (hR.at hS) hso_) 0 rfl rfl 0 rfl 2 rfl rfl rfl dX0_move_37 ?_
      rw [hs1]
      refine lv_astore (lv' := [(7, .ref rb), (6, .ref ra), (0, .ref (ax 19)), (1, .int sheet), (2, .int i_), (3, .int other), (4, .int j_), (5, .int n_)]) hx hb dX0_move_40 hl (by decide) rfl (fun ls hl => ?_)
      refine lv_aload hx hb dX0_move_42 (lv_at hl 1 rfl) ?_
      refine lv_ifnull hx hb dX0_move_44 ?_
      refine lv_aload hx hb dX0_move_47 (lv_at hl 0 rfl) ?_
      refine lv_ifnonnull (tgt := 58) hx hb dX0_move_49 (by decide) ?_
      refine lv_aload hx hb dX0_move_58 (lv_at hl 1 rfl) ?_
      refine lv_iconst (v := 0) hx hb dX0_move_60 rfl ?_
      refine lv_aload hx hb dX0_move_61 (lv_at hl 0 rfl) ?_
      refine lv_iconst (v := 0) hx hb dX0_move_63 rfl ?_
      refine lv_iconst (v := 0) hx hb dX0_move_64 rfl ?_
      refine fn_acpyZ X hE hst hZ hP hS hl.1 q887 q889 q888 q93 1 2 1 2 rfl rfl rfl rfl rfl (text := "arraycopy: type mismatch: can not copy byte[] into short[]") (by decide +kernel) (nb := 70) (by decide +kernel) (by decide +kernel) (by decide) (Nat.le_of_ble_eq_true rfl) (Nat.le_of_ble_eq_true rfl) (Nat.le_of_ble_eq_true rfl) (Nat.le_of_ble_eq_true rfl) dX0_move_65 (fun H1 q9 ce hP hS hce hcv hcl => ?_)
      refine vx_catch X.2.2.2.1 [] ⟨58, 68, 71, 354⟩ _ (htab.trans rfl) (fun _ h => nomatch h) rfl (by decide) (X.2.2.2.2 _ q1111) (va_tabs rfl rfl (hE.2.1 _ (List.mem_of_getElem? (i := 51) rfl))) hce hcv hcl ?_
      refine lv_astore (lv' := [(8, .ref q9), (7, .ref rb), (6, .ref ra), (0, .ref (ax 19)), (1, .int sheet), (2, .int i_), (3, .int other), (4, .int j_), (5, .int n_)]) hx hb dX0_move_71 hl (by decide) rfl (fun ls hl => ?_)
      refine lv_aload_n hx hb dX0_move_73 rfl (lv_at hl 3 rfl) ?_
      refine lv_iconst (v := 5) hx hb dX0_move_74 rfl ?_
      refine fx_ci (va_runV (As := [.int 5]) (rest := []) X (xX0_finds l E ax im bn bm fm ff fl er 5 (by decide) _) (cwV 1 X.2.2.2.2 (lw_V q303 q305 qs0 q69 q306) rfl rfl rfl ⟨rfl, hdX0_finds⟩ ⟨Nat.le_of_ble_eq_true rfl, Nat.le_of_ble_eq_true rfl⟩) (fx_preV (fx_pre hE hP hD hS hR [0] rfl rfl (fx_rcr 0 rfl fx_rc0)) (va_recv hE.1 (hR.at hS) (ci := 0) (q0 := 0) rfl rfl)) rfl rfl hl.1 rfl (lv_room (Nat.le_of_ble_eq_true rfl)) dX0_move_75 ⟨Nat.le_refl _, Nat.le_refl _⟩) hP hD hS hA [0] rfl rfl (fun r_75 u H locs hq_75 hP hD hS => ?_)
      replace hP : va_P E.1 clA [(ax 5, .inl (E.2 0, 7, .inl (upd er 5 (er 5 + 1)))), (ra, .inl (E.2 1, (nn (sz (nn sheet))), .inl rf)), (rb, .inl (E.2 2, (nn (sz (nn other))), .inl rg))] _ := hP
      replace hD : va_D A [(ax 5, .inl (E.2 0, 7, .inl (upd er 5 (er 5 + 1)))), (ra, .inl (E.2 1, (nn (sz (nn sheet))), .inl rf)), (rb, .inl (E.2 2, (nn (sz (nn other))), .inl rg))] := hD
      replace hq_75 : r_75 = erv 5 := hq_75
      exact hret r_75 ((upd er 5 (er 5 + 1)), rg) (by rw [move_k hin hin2 hnz hkk]; exact ⟨hq_75, rfl, hg⟩) (rfl) hP hD hS (Nat.le_refl _) (Nat.le_refl _) dX0_move_78
    · -- False
      subst hr_8
      exact absurd hin2 hb_8
  · -- False
    subst hr_1
    exact absurd hin hb_1
abbrev rxX0_move_BI : Room := { frames := 10, cells := 3, slots := 80, locals := 10400 }
set_option maxHeartbeats 400000 in
set_option maxRecDepth 100000 in
theorem xX0_move_BI (l : Launch) (E : fx_En) (ks : fz_Ks) (ax : Nat → Nat) (im : Int32) (bn : Int32) (bm : Int32) (fm : Int32) (ff : Int32) (fl : Int32) (er : Nat → Int32) (bt : Nat → Int32) (sz : Nat → Int32) (nu : Nat → Int32) (sh : Nat → Option Nat) (PL : va_W) (sheet : Int32) (i_ : Int32) (other : Int32) (j_ : Int32) (n_ : Int32) (ra : Nat) (rf : Nat → Int32) (rb : Nat) (rg : Nat → Int32) (hst : l.stackTraces = false) (hIS : InvS bt sz) (hin : inB sheet 0 3 = true) (hin2 : inB other 0 3 = true) (hs0 : sh (nn sheet) = some ra) (hs1 : sh (nn other) = some rb) (hb0 : bt (nn sheet) = 8) (hb1 : bt (nn other) = 32) (hf : ∀ t, t < nn (sz (nn sheet)) → rf t = nu (24 * nn sheet + t)) (hg : ∀ t, t < nn (sz (nn other)) → rg t = nu (24 * nn other + t)) : fz_Hi l yX0_move cX0_move 9 [((58 : Nat), (68 : Nat), (71 : Nat), (354 : Nat))] .int rxX0_move_BI E ks [.ref (ax 19), .int sheet, .int i_, .int other, .int j_, .int n_] [(ax 5, .inl (E.2 0, 7, .inl er)), (ra, .inl (E.2 1, (nn (sz (nn sheet))), .inl rf)), (rb, .inl (E.2 0, (nn (sz (nn other))), .inl rg))] ([(ax 19, .inr (0, [.ref (ax 0), .ref (ax 1), .ref (ax 35), .ref (ax 55), .ref (ax 4), .ref (ax 5), .ref (ax 6), .ref (ax 7), .int im, .ref (ax 9), .ref (ax 10), .ref (ax 11), .ref (ax 12), .ref (ax 13), .int bn, .int bm, .int fm, .int ff, .int fl])), (ax 6, .inl (E.2 3, 4, .inr (.inr (.inr (.inr (fun i_ => some (ax (64 + i_)))))))), (ax 64, .inr (2, [va_rf (sh 0)])), (ax 65, .inr (2, [va_rf (sh 1)])), (ax 66, .inr (2, [va_rf (sh 2)])), (ax 67, .inr (2, [va_rf (sh 3)]))] ++ PL) (S := (Nat → Int32) × (Nat → Int32)) (fun (u : (Nat → Int32) × (Nat → Int32)) => [(ax 5, .inl (E.2 0, 7, .inl u.1)), (ra, .inl (E.2 1, (nn (sz (nn sheet))), .inl rf)), (rb, .inl (E.2 0, (nn (sz (nn other))), .inl u.2))]) (fun (r : Int32) (u : (Nat → Int32) × (Nat → Int32)) => r = (move_ bt sz nu er sheet i_ other j_ n_).1 ∧ u.1 = (move_ bt sz nu er sheet i_ other j_ n_).2.2 ∧ ∀ t, t < nn (sz (nn other)) → u.2 t = (move_ bt sz nu er sheet i_ other j_ n_).2.1 (24 * nn other + t)) := by
  refine fz_hW rfl rfl ?_
  intro p e s m args below meth c A ls Q X htab hlocks hE hP hD hR hZ hA hl hret
  have hx := X.1
  have hb := X.2.1
  have hS : va_S A s.heap s.heap [] := va_S.rf
  replace hP : va_P E.1 clA [(ax 5, .inl (E.2 0, 7, .inl er)), (ra, .inl (E.2 1, (nn (sz (nn sheet))), .inl rf)), (rb, .inl (E.2 0, (nn (sz (nn other))), .inl rg))] _ := hP
  replace hD : va_D A [(ax 5, .inl (E.2 0, 7, .inl er)), (ra, .inl (E.2 1, (nn (sz (nn sheet))), .inl rf)), (rb, .inl (E.2 0, (nn (sz (nn other))), .inl rg))] := hD
  replace hl : lv_has ls 9 [(0, .ref (ax 19)), (1, .int sheet), (2, .int i_), (3, .int other), (4, .int j_), (5, .int n_)] := hl
  have hnz : ¬ (bt (nn sheet) = 0 ∨ bt (nn other) = 0) := by rw [hb0, hb1]; decide
  have hkk : ¬ bt (nn sheet) = bt (nn other) := by rw [hb0, hb1]; decide
  refine lv_iload_n hx hb dX0_move_0 rfl (lv_at hl 1 rfl) ?_
  refine fx_ci (va_runS (As := [.int sheet]) (rest := []) X (xX0_isSheet l E sheet _) (va_cwS 1 X.2.2.2.2 (lw_S q806 q807 q69 q808) rfl rfl rfl hdX0_isSheet ⟨Nat.le_of_ble_eq_true rfl, Nat.le_of_ble_eq_true rfl⟩) (fx_pre hE hP hD hS hR [] rfl rfl fx_rc0) rfl rfl hl.1 rfl (lv_room (Nat.le_of_ble_eq_true rfl)) dX0_move_1 ⟨Nat.le_of_ble_eq_true rfl, Nat.le_of_ble_eq_true rfl⟩) hP hD hS hA [] rfl rfl (fun r_1 u H locs hq_1 hP hD hS => ?_)
  replace hP : va_P E.1 clA [(ax 5, .inl (E.2 0, 7, .inl er)), (ra, .inl (E.2 1, (nn (sz (nn sheet))), .inl rf)), (rb, .inl (E.2 0, (nn (sz (nn other))), .inl rg))] _ := hP
  replace hD : va_D A [(ax 5, .inl (E.2 0, 7, .inl er)), (ra, .inl (E.2 1, (nn (sz (nn sheet))), .inl rf)), (rb, .inl (E.2 0, (nn (sz (nn other))), .inl rg))] := hD
  replace hq_1 : r_1 = fx_b (inB sheet 0 3 = true) := hq_1
  rcases fx_bc hq_1 with ⟨hb_1, hr_1⟩ | ⟨hb_1, hr_1⟩
  · -- True
    subst hr_1
    refine lv_if_eq (tgt := 14) hx hb dX0_move_4 (by decide) (fun c => absurd c (by decide)) (fun _ => ?_)
    refine lv_iload_n hx hb dX0_move_7 rfl (lv_at hl 3 rfl) ?_
    refine fx_ci (va_runS (As := [.int other]) (rest := []) X (xX0_isSheet l E other _) (va_cwS 1 X.2.2.2.2 (lw_S q806 q807 q69 q808) rfl rfl rfl hdX0_isSheet ⟨Nat.le_of_ble_eq_true rfl, Nat.le_of_ble_eq_true rfl⟩) (fx_pre hE hP hD hS hR [] rfl rfl fx_rc0) rfl rfl hl.1 rfl (lv_room (Nat.le_of_ble_eq_true rfl)) dX0_move_8 ⟨Nat.le_of_ble_eq_true rfl, Nat.le_of_ble_eq_true rfl⟩) hP hD hS hA [] rfl rfl (fun r_8 u H locs hq_8 hP hD hS => ?_)
    replace hP : va_P E.1 clA [(ax 5, .inl (E.2 0, 7, .inl er)), (ra, .inl (E.2 1, (nn (sz (nn sheet))), .inl rf)), (rb, .inl (E.2 0, (nn (sz (nn other))), .inl rg))] _ := hP
    replace hD : va_D A [(ax 5, .inl (E.2 0, 7, .inl er)), (ra, .inl (E.2 1, (nn (sz (nn sheet))), .inl rf)), (rb, .inl (E.2 0, (nn (sz (nn other))), .inl rg))] := hD
    replace hq_8 : r_8 = fx_b (inB other 0 3 = true) := hq_8
    rcases fx_bc hq_8 with ⟨hb_8, hr_8⟩ | ⟨hb_8, hr_8⟩
    · -- True
      subst hr_8
      refine lv_if_ne (tgt := 20) hx hb dX0_move_11 (by decide) (fun _ => ?_) (fun c => absurd c (by decide))
      have gs := inB_nn (n := 3) hin (by omega)
      have gs1 : nn sheet < 4 := by omega
      have go := inB_nn (n := 3) hin2 (by omega)
      have go1 : nn other < 4 := by omega
      have hsh : ((ax (64 + nn sheet), .inr (2, [va_rf (sh (nn sheet))])) : Nat × va_E) ∈ ([(ax 19, .inr (0, [.ref (ax 0), .ref (ax 1), .ref (ax 35), .ref (ax 55), .ref (ax 4), .ref (ax 5), .ref (ax 6), .ref (ax 7), .int im, .ref (ax 9), .ref (ax 10), .ref (ax 11), .ref (ax 12), .ref (ax 13), .int bn, .int bm, .int fm, .int ff, .int fl])), (ax 6, .inl (E.2 3, 4, .inr (.inr (.inr (.inr (fun i_ => some (ax (64 + i_)))))))), (ax 64, .inr (2, [va_rf (sh 0)])), (ax 65, .inr (2, [va_rf (sh 1)])), (ax 66, .inr (2, [va_rf (sh 2)])), (ax 67, .inr (2, [va_rf (sh 3)]))] ++ PL) := by rcases (show nn sheet = 0 ∨ nn sheet = 1 ∨ nn sheet = 2 ∨ nn sheet = 3 by omega) with h | h | h | h <;> rw [h] <;> first | exact List.mem_of_getElem? (i := 2) rfl | exact List.mem_of_getElem? (i := 3) rfl | exact List.mem_of_getElem? (i := 4) rfl | exact List.mem_of_getElem? (i := 5) rfl
      have hso_ : ((ax (64 + nn other), .inr (2, [va_rf (sh (nn other))])) : Nat × va_E) ∈ ([(ax 19, .inr (0, [.ref (ax 0), .ref (ax 1), .ref (ax 35), .ref (ax 55), .ref (ax 4), .ref (ax 5), .ref (ax 6), .ref (ax 7), .int im, .ref (ax 9), .ref (ax 10), .ref (ax 11), .ref (ax 12), .ref (ax 13), .int bn, .int bm, .int fm, .int ff, .int fl])), (ax 6, .inl (E.2 3, 4, .inr (.inr (.inr (.inr (fun i_ => some (ax (64 + i_)))))))), (ax 64, .inr (2, [va_rf (sh 0)])), (ax 65, .inr (2, [va_rf (sh 1)])), (ax 66, .inr (2, [va_rf (sh 2)])), (ax 67, .inr (2, [va_rf (sh 3)]))] ++ PL) := by rcases (show nn other = 0 ∨ nn other = 1 ∨ nn other = 2 ∨ nn other = 3 by omega) with h | h | h | h <;> rw [h] <;> first | exact List.mem_of_getElem? (i := 2) rfl | exact List.mem_of_getElem? (i := 3) rfl | exact List.mem_of_getElem? (i := 4) rfl | exact List.mem_of_getElem? (i := 5) rfl
      have hsz := hIS.sz gs1
      have hsz2 := hsz.2
      have hso := hIS.sz go1
      have hso2 := hso.2
      refine lv_aload_n hx hb dX0_move_20 rfl (lv_at hl 0 rfl) ?_
      refine fx_get X hE (hR.at hS) 0 rfl rfl 6 rfl q241 rfl rfl dX0_move_21 ?_
      refine lv_iload_n hx hb dX0_move_24 rfl (lv_at hl 1 rfl) ?_
      refine fx_ti (show sheet = nI (nn sheet) from gs.1) ?_
      refine fx_aald X hE (hR.at hS) 1 3 rfl rfl (nn sheet) rfl (by omega) rfl (r := some (ax (64 + nn sheet))) (rfl) dX0_move_25 ?_
      refine fx_getN X hE (fx_one (hR.at hS) hsh) 0 rfl rfl 0 rfl 2 rfl rfl rfl dX0_move_26 ?_
      rw [hs0]
      refine lv_astore (lv' := [(6, .ref ra), (0, .ref (ax 19)), (1, .int sheet), (2, .int i_), (3, .int other), (4, .int j_), (5, .int n_)]) hx hb dX0_move_29 hl (by decide) rfl (fun ls hl => ?_)
      refine lv_aload_n hx hb dX0_move_31 rfl (lv_at hl 1 rfl) ?_
      refine fx_get X hE (hR.at hS) 0 rfl rfl 6 rfl q241 rfl rfl dX0_move_32 ?_
      refine lv_iload_n hx hb dX0_move_35 rfl (lv_at hl 4 rfl) ?_
      refine fx_ti (show other = nI (nn other) from go.1) ?_
      refine fx_aald X hE (hR.at hS) 1 3 rfl rfl (nn other) rfl (by omega) rfl (r := some (ax (64 + nn other))) (rfl) dX0_move_36 ?_
      refine fx_getN X hE (fx_one (hR.at hS) hso_) 0 rfl rfl 0 rfl 2 rfl rfl rfl dX0_move_37 ?_
      rw [hs1]
      refine lv_astore (lv' := [(7, .ref rb), (6, .ref ra), (0, .ref (ax 19)), (1, .int sheet), (2, .int i_), (3, .int other), (4, .int j_), (5, .int n_)]) hx hb dX0_move_40 hl (by decide) rfl (fun ls hl => ?_)
      refine lv_aload hx hb dX0_move_42 (lv_at hl 1 rfl) ?_
      refine lv_ifnull hx hb dX0_move_44 ?_
      refine lv_aload hx hb dX0_move_47 (lv_at hl 0 rfl) ?_
      refine lv_ifnonnull (tgt := 58) hx hb dX0_move_49 (by decide) ?_
      refine lv_aload hx hb dX0_move_58 (lv_at hl 1 rfl) ?_
      refine lv_iconst (v := 0) hx hb dX0_move_60 rfl ?_
      refine lv_aload hx hb dX0_move_61 (lv_at hl 0 rfl) ?_
      refine lv_iconst (v := 0) hx hb dX0_move_63 rfl ?_
      refine lv_iconst (v := 0) hx hb dX0_move_64 rfl ?_
      refine fn_acpyZ X hE hst hZ hP hS hl.1 q887 q889 q888 q93 1 2 1 0 rfl rfl rfl rfl rfl (text := "arraycopy: type mismatch: can not copy byte[] into int[]") (by decide +kernel) (nb := 70) (by decide +kernel) (by decide +kernel) (by decide) (Nat.le_of_ble_eq_true rfl) (Nat.le_of_ble_eq_true rfl) (Nat.le_of_ble_eq_true rfl) (Nat.le_of_ble_eq_true rfl) dX0_move_65 (fun H1 q9 ce hP hS hce hcv hcl => ?_)
      refine vx_catch X.2.2.2.1 [] ⟨58, 68, 71, 354⟩ _ (htab.trans rfl) (fun _ h => nomatch h) rfl (by decide) (X.2.2.2.2 _ q1111) (va_tabs rfl rfl (hE.2.1 _ (List.mem_of_getElem? (i := 51) rfl))) hce hcv hcl ?_
      refine lv_astore (lv' := [(8, .ref q9), (7, .ref rb), (6, .ref ra), (0, .ref (ax 19)), (1, .int sheet), (2, .int i_), (3, .int other), (4, .int j_), (5, .int n_)]) hx hb dX0_move_71 hl (by decide) rfl (fun ls hl => ?_)
      refine lv_aload_n hx hb dX0_move_73 rfl (lv_at hl 3 rfl) ?_
      refine lv_iconst (v := 5) hx hb dX0_move_74 rfl ?_
      refine fx_ci (va_runV (As := [.int 5]) (rest := []) X (xX0_finds l E ax im bn bm fm ff fl er 5 (by decide) _) (cwV 1 X.2.2.2.2 (lw_V q303 q305 qs0 q69 q306) rfl rfl rfl ⟨rfl, hdX0_finds⟩ ⟨Nat.le_of_ble_eq_true rfl, Nat.le_of_ble_eq_true rfl⟩) (fx_preV (fx_pre hE hP hD hS hR [0] rfl rfl (fx_rcr 0 rfl fx_rc0)) (va_recv hE.1 (hR.at hS) (ci := 0) (q0 := 0) rfl rfl)) rfl rfl hl.1 rfl (lv_room (Nat.le_of_ble_eq_true rfl)) dX0_move_75 ⟨Nat.le_refl _, Nat.le_refl _⟩) hP hD hS hA [0] rfl rfl (fun r_75 u H locs hq_75 hP hD hS => ?_)
      replace hP : va_P E.1 clA [(ax 5, .inl (E.2 0, 7, .inl (upd er 5 (er 5 + 1)))), (ra, .inl (E.2 1, (nn (sz (nn sheet))), .inl rf)), (rb, .inl (E.2 0, (nn (sz (nn other))), .inl rg))] _ := hP
      replace hD : va_D A [(ax 5, .inl (E.2 0, 7, .inl (upd er 5 (er 5 + 1)))), (ra, .inl (E.2 1, (nn (sz (nn sheet))), .inl rf)), (rb, .inl (E.2 0, (nn (sz (nn other))), .inl rg))] := hD
      replace hq_75 : r_75 = erv 5 := hq_75
      exact hret r_75 ((upd er 5 (er 5 + 1)), rg) (by rw [move_k hin hin2 hnz hkk]; exact ⟨hq_75, rfl, hg⟩) (rfl) hP hD hS (Nat.le_refl _) (Nat.le_refl _) dX0_move_78
    · -- False
      subst hr_8
      exact absurd hin2 hb_8
  · -- False
    subst hr_1
    exact absurd hin hb_1
abbrev rxX0_move_BX : Room := { frames := 10, cells := 3, slots := 80, locals := 10400 }
set_option maxHeartbeats 400000 in
set_option maxRecDepth 100000 in
theorem xX0_move_BX (l : Launch) (E : fx_En) (ks : fz_Ks) (ax : Nat → Nat) (im : Int32) (bn : Int32) (bm : Int32) (fm : Int32) (ff : Int32) (fl : Int32) (er : Nat → Int32) (bt : Nat → Int32) (sz : Nat → Int32) (nu : Nat → Int32) (sh : Nat → Option Nat) (PL : va_W) (sheet : Int32) (i_ : Int32) (other : Int32) (j_ : Int32) (n_ : Int32) (ra : Nat) (rf : Nat → Int32) (hst : l.stackTraces = false) (hIS : InvS bt sz) (hin : inB sheet 0 3 = true) (hin2 : inB other 0 3 = true) (hs0 : sh (nn sheet) = some ra) (hs1 : sh (nn other) = some ra) (hb0 : bt (nn sheet) = 8) (hb1 : bt (nn other) = 8) (hf : ∀ t, t < nn (sz (nn sheet)) → rf t = nu (24 * nn sheet + t)) (hg : ∀ t, t < nn (sz (nn sheet)) → rf t = nu (24 * nn other + t)) (hns : nn (sz (nn other)) = nn (sz (nn sheet))) (hft : ∀ t, t < nn (sz (nn sheet)) → fits .byte (.int (rf t)) = true) : fz_Hi l yX0_move cX0_move 9 [((58 : Nat), (68 : Nat), (71 : Nat), (354 : Nat))] .int rxX0_move_BX E ks [.ref (ax 19), .int sheet, .int i_, .int other, .int j_, .int n_] [(ax 5, .inl (E.2 0, 7, .inl er)), (ra, .inl (E.2 1, (nn (sz (nn sheet))), .inl rf))] ([(ax 19, .inr (0, [.ref (ax 0), .ref (ax 1), .ref (ax 35), .ref (ax 55), .ref (ax 4), .ref (ax 5), .ref (ax 6), .ref (ax 7), .int im, .ref (ax 9), .ref (ax 10), .ref (ax 11), .ref (ax 12), .ref (ax 13), .int bn, .int bm, .int fm, .int ff, .int fl])), (ax 6, .inl (E.2 3, 4, .inr (.inr (.inr (.inr (fun i_ => some (ax (64 + i_)))))))), (ax 64, .inr (2, [va_rf (sh 0)])), (ax 65, .inr (2, [va_rf (sh 1)])), (ax 66, .inr (2, [va_rf (sh 2)])), (ax 67, .inr (2, [va_rf (sh 3)]))] ++ PL) (S := (Nat → Int32) × (Nat → Int32)) (fun (u : (Nat → Int32) × (Nat → Int32)) => [(ax 5, .inl (E.2 0, 7, .inl u.1)), (ra, .inl (E.2 1, (nn (sz (nn sheet))), .inl u.2))]) (fun (r : Int32) (u : (Nat → Int32) × (Nat → Int32)) => r = (move_ bt sz nu er sheet i_ other j_ n_).1 ∧ u.1 = (move_ bt sz nu er sheet i_ other j_ n_).2.2 ∧ ∀ t, t < nn (sz (nn sheet)) → u.2 t = (move_ bt sz nu er sheet i_ other j_ n_).2.1 (24 * nn other + t)) := by
  refine fz_hW rfl rfl ?_
  intro p e s m args below meth c A ls Q X htab hlocks hE hP hD hR hZ hA hl hret
  have hx := X.1
  have hb := X.2.1
  have hS : va_S A s.heap s.heap [] := va_S.rf
  replace hP : va_P E.1 clA [(ax 5, .inl (E.2 0, 7, .inl er)), (ra, .inl (E.2 1, (nn (sz (nn sheet))), .inl rf))] _ := hP
  replace hD : va_D A [(ax 5, .inl (E.2 0, 7, .inl er)), (ra, .inl (E.2 1, (nn (sz (nn sheet))), .inl rf))] := hD
  replace hl : lv_has ls 9 [(0, .ref (ax 19)), (1, .int sheet), (2, .int i_), (3, .int other), (4, .int j_), (5, .int n_)] := hl
  have hnz : ¬ (bt (nn sheet) = 0 ∨ bt (nn other) = 0) := by rw [hb0, hb1]; decide
  have hkk : bt (nn sheet) = bt (nn other) := by rw [hb0, hb1]
  refine lv_iload_n hx hb dX0_move_0 rfl (lv_at hl 1 rfl) ?_
  refine fx_ci (va_runS (As := [.int sheet]) (rest := []) X (xX0_isSheet l E sheet _) (va_cwS 1 X.2.2.2.2 (lw_S q806 q807 q69 q808) rfl rfl rfl hdX0_isSheet ⟨Nat.le_of_ble_eq_true rfl, Nat.le_of_ble_eq_true rfl⟩) (fx_pre hE hP hD hS hR [] rfl rfl fx_rc0) rfl rfl hl.1 rfl (lv_room (Nat.le_of_ble_eq_true rfl)) dX0_move_1 ⟨Nat.le_of_ble_eq_true rfl, Nat.le_of_ble_eq_true rfl⟩) hP hD hS hA [] rfl rfl (fun r_1 u H locs hq_1 hP hD hS => ?_)
  replace hP : va_P E.1 clA [(ax 5, .inl (E.2 0, 7, .inl er)), (ra, .inl (E.2 1, (nn (sz (nn sheet))), .inl rf))] _ := hP
  replace hD : va_D A [(ax 5, .inl (E.2 0, 7, .inl er)), (ra, .inl (E.2 1, (nn (sz (nn sheet))), .inl rf))] := hD
  replace hq_1 : r_1 = fx_b (inB sheet 0 3 = true) := hq_1
  rcases fx_bc hq_1 with ⟨hb_1, hr_1⟩ | ⟨hb_1, hr_1⟩
  · -- True
    subst hr_1
    refine lv_if_eq (tgt := 14) hx hb dX0_move_4 (by decide) (fun c => absurd c (by decide)) (fun _ => ?_)
    refine lv_iload_n hx hb dX0_move_7 rfl (lv_at hl 3 rfl) ?_
    refine fx_ci (va_runS (As := [.int other]) (rest := []) X (xX0_isSheet l E other _) (va_cwS 1 X.2.2.2.2 (lw_S q806 q807 q69 q808) rfl rfl rfl hdX0_isSheet ⟨Nat.le_of_ble_eq_true rfl, Nat.le_of_ble_eq_true rfl⟩) (fx_pre hE hP hD hS hR [] rfl rfl fx_rc0) rfl rfl hl.1 rfl (lv_room (Nat.le_of_ble_eq_true rfl)) dX0_move_8 ⟨Nat.le_of_ble_eq_true rfl, Nat.le_of_ble_eq_true rfl⟩) hP hD hS hA [] rfl rfl (fun r_8 u H locs hq_8 hP hD hS => ?_)
    replace hP : va_P E.1 clA [(ax 5, .inl (E.2 0, 7, .inl er)), (ra, .inl (E.2 1, (nn (sz (nn sheet))), .inl rf))] _ := hP
    replace hD : va_D A [(ax 5, .inl (E.2 0, 7, .inl er)), (ra, .inl (E.2 1, (nn (sz (nn sheet))), .inl rf))] := hD
    replace hq_8 : r_8 = fx_b (inB other 0 3 = true) := hq_8
    rcases fx_bc hq_8 with ⟨hb_8, hr_8⟩ | ⟨hb_8, hr_8⟩
    · -- True
      subst hr_8
      refine lv_if_ne (tgt := 20) hx hb dX0_move_11 (by decide) (fun _ => ?_) (fun c => absurd c (by decide))
      have gs := inB_nn (n := 3) hin (by omega)
      have gs1 : nn sheet < 4 := by omega
      have go := inB_nn (n := 3) hin2 (by omega)
      have go1 : nn other < 4 := by omega
      have hsh : ((ax (64 + nn sheet), .inr (2, [va_rf (sh (nn sheet))])) : Nat × va_E) ∈ ([(ax 19, .inr (0, [.ref (ax 0), .ref (ax 1), .ref (ax 35), .ref (ax 55), .ref (ax 4), .ref (ax 5), .ref (ax 6), .ref (ax 7), .int im, .ref (ax 9), .ref (ax 10), .ref (ax 11), .ref (ax 12), .ref (ax 13), .int bn, .int bm, .int fm, .int ff, .int fl])), (ax 6, .inl (E.2 3, 4, .inr (.inr (.inr (.inr (fun i_ => some (ax (64 + i_)))))))), (ax 64, .inr (2, [va_rf (sh 0)])), (ax 65, .inr (2, [va_rf (sh 1)])), (ax 66, .inr (2, [va_rf (sh 2)])), (ax 67, .inr (2, [va_rf (sh 3)]))] ++ PL) := by rcases (show nn sheet = 0 ∨ nn sheet = 1 ∨ nn sheet = 2 ∨ nn sheet = 3 by omega) with h | h | h | h <;> rw [h] <;> first | exact List.mem_of_getElem? (i := 2) rfl | exact List.mem_of_getElem? (i := 3) rfl | exact List.mem_of_getElem? (i := 4) rfl | exact List.mem_of_getElem? (i := 5) rfl
      have hso_ : ((ax (64 + nn other), .inr (2, [va_rf (sh (nn other))])) : Nat × va_E) ∈ ([(ax 19, .inr (0, [.ref (ax 0), .ref (ax 1), .ref (ax 35), .ref (ax 55), .ref (ax 4), .ref (ax 5), .ref (ax 6), .ref (ax 7), .int im, .ref (ax 9), .ref (ax 10), .ref (ax 11), .ref (ax 12), .ref (ax 13), .int bn, .int bm, .int fm, .int ff, .int fl])), (ax 6, .inl (E.2 3, 4, .inr (.inr (.inr (.inr (fun i_ => some (ax (64 + i_)))))))), (ax 64, .inr (2, [va_rf (sh 0)])), (ax 65, .inr (2, [va_rf (sh 1)])), (ax 66, .inr (2, [va_rf (sh 2)])), (ax 67, .inr (2, [va_rf (sh 3)]))] ++ PL) := by rcases (show nn other = 0 ∨ nn other = 1 ∨ nn other = 2 ∨ nn other = 3 by omega) with h | h | h | h <;> rw [h] <;> first | exact List.mem_of_getElem? (i := 2) rfl | exact List.mem_of_getElem? (i := 3) rfl | exact List.mem_of_getElem? (i := 4) rfl | exact List.mem_of_getElem? (i := 5) rfl
      have hsz := hIS.sz gs1
      have hsz2 := hsz.2
      have hso : sz (nn other) = nI (nn (sz (nn sheet))) ∧ nn (sz (nn sheet)) ≤ 24 := ⟨(hIS.sz go1).1.trans (congrArg nI hns), hsz2⟩
      have hso2 := hso.2
      refine lv_aload_n hx hb dX0_move_20 rfl (lv_at hl 0 rfl) ?_
      refine fx_get X hE (hR.at hS) 0 rfl rfl 6 rfl q241 rfl rfl dX0_move_21 ?_
      refine lv_iload_n hx hb dX0_move_24 rfl (lv_at hl 1 rfl) ?_
      refine fx_ti (show sheet = nI (nn sheet) from gs.1) ?_
      refine fx_aald X hE (hR.at hS) 1 3 rfl rfl (nn sheet) rfl (by omega) rfl (r := some (ax (64 + nn sheet))) (rfl) dX0_move_25 ?_
      refine fx_getN X hE (fx_one (hR.at hS) hsh) 0 rfl rfl 0 rfl 2 rfl rfl rfl dX0_move_26 ?_
      rw [hs0]
      refine lv_astore (lv' := [(6, .ref ra), (0, .ref (ax 19)), (1, .int sheet), (2, .int i_), (3, .int other), (4, .int j_), (5, .int n_)]) hx hb dX0_move_29 hl (by decide) rfl (fun ls hl => ?_)
      refine lv_aload_n hx hb dX0_move_31 rfl (lv_at hl 1 rfl) ?_
      refine fx_get X hE (hR.at hS) 0 rfl rfl 6 rfl q241 rfl rfl dX0_move_32 ?_
      refine lv_iload_n hx hb dX0_move_35 rfl (lv_at hl 4 rfl) ?_
      refine fx_ti (show other = nI (nn other) from go.1) ?_
      refine fx_aald X hE (hR.at hS) 1 3 rfl rfl (nn other) rfl (by omega) rfl (r := some (ax (64 + nn other))) (rfl) dX0_move_36 ?_
      refine fx_getN X hE (fx_one (hR.at hS) hso_) 0 rfl rfl 0 rfl 2 rfl rfl rfl dX0_move_37 ?_
      rw [hs1]
      refine lv_astore (lv' := [(7, .ref ra), (6, .ref ra), (0, .ref (ax 19)), (1, .int sheet), (2, .int i_), (3, .int other), (4, .int j_), (5, .int n_)]) hx hb dX0_move_40 hl (by decide) rfl (fun ls hl => ?_)
      refine lv_aload hx hb dX0_move_42 (lv_at hl 1 rfl) ?_
      refine lv_ifnull hx hb dX0_move_44 ?_
      refine lv_aload hx hb dX0_move_47 (lv_at hl 0 rfl) ?_
      refine lv_ifnonnull (tgt := 58) hx hb dX0_move_49 (by decide) ?_
      refine lv_aload hx hb dX0_move_58 (lv_at hl 1 rfl) ?_
      refine lv_iconst (v := 0) hx hb dX0_move_60 rfl ?_
      refine lv_aload hx hb dX0_move_61 (lv_at hl 0 rfl) ?_
      refine lv_iconst (v := 0) hx hb dX0_move_63 rfl ?_
      refine lv_iconst (v := 0) hx hb dX0_move_64 rfl ?_
      refine fx_acpy (ws' := [(ax 5, .inl (E.2 0, 7, .inl er)), (ra, .inl (E.2 1, (nn (sz (nn sheet))), .inl (va_cpy rf rf 0 0 0)))]) X hE hl.1 hP hD hS q887 q889 q888 q93 1 1 1 rfl rfl rfl rfl 0 0 0 rfl rfl rfl (by omega) (by omega) (by omega) (by omega) (fun i hi => absurd hi (Nat.not_lt_zero _)) ⟨Nat.le_of_ble_eq_true rfl, Nat.le_of_ble_eq_true rfl⟩ rfl dX0_move_65 (fun H locs hP hD hS => ?_)
      have eW1 : (va_cpy rf rf 0 0 0) = rf := cpy_0 _ _ _ _
      rw [eW1] at hP hD
      refine lv_goto (tgt := 79) hx hb dX0_move_68 (by decide) ?_
      refine lv_iload hx hb dX0_move_79 (lv_at hl 7 rfl) ?_
      refine lv_if_lt (tgt := 118) hx hb dX0_move_81 (by decide) (fun c_81 => ?_) (fun c_81 => ?_)
      · -- jump 118
        have hbad : mvBad sz (nn sheet) (nn other) i_ j_ n_ = true := mvB1 c_81
        refine lv_aload_n hx hb dX0_move_118 rfl (lv_at hl 2 rfl) ?_
        refine lv_iconst (v := 1) hx hb dX0_move_119 rfl ?_
        refine fx_ci (va_runV (As := [.int 1]) (rest := []) X (xX0_finds l E ax im bn bm fm ff fl er 1 (by decide) _) (cwV 1 X.2.2.2.2 (lw_V q303 q305 qs0 q69 q306) rfl rfl rfl ⟨rfl, hdX0_finds⟩ ⟨Nat.le_of_ble_eq_true rfl, Nat.le_of_ble_eq_true rfl⟩) (fx_preV (fx_pre hE hP hD hS hR [0] rfl rfl (fx_rcr 0 rfl fx_rc0)) (va_recv hE.1 (hR.at hS) (ci := 0) (q0 := 0) rfl rfl)) rfl rfl hl.1 rfl (lv_room (Nat.le_of_ble_eq_true rfl)) dX0_move_120 ⟨Nat.le_of_ble_eq_true rfl, Nat.le_of_ble_eq_true rfl⟩) hP hD hS hA [0] rfl rfl (fun r_120 u H locs hq_120 hP hD hS => ?_)
        replace hP : va_P E.1 clA [(ax 5, .inl (E.2 0, 7, .inl (upd er 1 (er 1 + 1)))), (ra, .inl (E.2 1, (nn (sz (nn sheet))), .inl rf))] _ := hP
        replace hD : va_D A [(ax 5, .inl (E.2 0, 7, .inl (upd er 1 (er 1 + 1)))), (ra, .inl (E.2 1, (nn (sz (nn sheet))), .inl rf))] := hD
        replace hq_120 : r_120 = erv 1 := hq_120
        exact hret r_120 ((upd er 1 (er 1 + 1)), rf) (by rw [move_b hin hin2 hnz hkk hbad]; exact ⟨hq_120, rfl, hg⟩) (rfl) hP hD hS (Nat.le_of_ble_eq_true rfl) (Nat.le_of_ble_eq_true rfl) dX0_move_123
      · -- fall 84
        refine lv_iload_n hx hb dX0_move_84 rfl (lv_at hl 4 rfl) ?_
        refine lv_if_lt (tgt := 118) hx hb dX0_move_85 (by decide) (fun c_85 => ?_) (fun c_85 => ?_)
        · -- jump 118
          have hbad : mvBad sz (nn sheet) (nn other) i_ j_ n_ = true := mvB2 c_85
          refine lv_aload_n hx hb dX0_move_118 rfl (lv_at hl 2 rfl) ?_
          refine lv_iconst (v := 1) hx hb dX0_move_119 rfl ?_
          refine fx_ci (va_runV (As := [.int 1]) (rest := []) X (xX0_finds l E ax im bn bm fm ff fl er 1 (by decide) _) (cwV 1 X.2.2.2.2 (lw_V q303 q305 qs0 q69 q306) rfl rfl rfl ⟨rfl, hdX0_finds⟩ ⟨Nat.le_of_ble_eq_true rfl, Nat.le_of_ble_eq_true rfl⟩) (fx_preV (fx_pre hE hP hD hS hR [0] rfl rfl (fx_rcr 0 rfl fx_rc0)) (va_recv hE.1 (hR.at hS) (ci := 0) (q0 := 0) rfl rfl)) rfl rfl hl.1 rfl (lv_room (Nat.le_of_ble_eq_true rfl)) dX0_move_120 ⟨Nat.le_of_ble_eq_true rfl, Nat.le_of_ble_eq_true rfl⟩) hP hD hS hA [0] rfl rfl (fun r_120 u H locs hq_120 hP hD hS => ?_)
          replace hP : va_P E.1 clA [(ax 5, .inl (E.2 0, 7, .inl (upd er 1 (er 1 + 1)))), (ra, .inl (E.2 1, (nn (sz (nn sheet))), .inl rf))] _ := hP
          replace hD : va_D A [(ax 5, .inl (E.2 0, 7, .inl (upd er 1 (er 1 + 1)))), (ra, .inl (E.2 1, (nn (sz (nn sheet))), .inl rf))] := hD
          replace hq_120 : r_120 = erv 1 := hq_120
          exact hret r_120 ((upd er 1 (er 1 + 1)), rf) (by rw [move_b hin hin2 hnz hkk hbad]; exact ⟨hq_120, rfl, hg⟩) (rfl) hP hD hS (Nat.le_of_ble_eq_true rfl) (Nat.le_of_ble_eq_true rfl) dX0_move_123
        · -- fall 88
          refine lv_iload hx hb dX0_move_88 (lv_at hl 6 rfl) ?_
          refine lv_if_lt (tgt := 118) hx hb dX0_move_90 (by decide) (fun c_90 => ?_) (fun c_90 => ?_)
          · -- jump 118
            have hbad : mvBad sz (nn sheet) (nn other) i_ j_ n_ = true := mvB3 c_90
            refine lv_aload_n hx hb dX0_move_118 rfl (lv_at hl 2 rfl) ?_
            refine lv_iconst (v := 1) hx hb dX0_move_119 rfl ?_
            refine fx_ci (va_runV (As := [.int 1]) (rest := []) X (xX0_finds l E ax im bn bm fm ff fl er 1 (by decide) _) (cwV 1 X.2.2.2.2 (lw_V q303 q305 qs0 q69 q306) rfl rfl rfl ⟨rfl, hdX0_finds⟩ ⟨Nat.le_of_ble_eq_true rfl, Nat.le_of_ble_eq_true rfl⟩) (fx_preV (fx_pre hE hP hD hS hR [0] rfl rfl (fx_rcr 0 rfl fx_rc0)) (va_recv hE.1 (hR.at hS) (ci := 0) (q0 := 0) rfl rfl)) rfl rfl hl.1 rfl (lv_room (Nat.le_of_ble_eq_true rfl)) dX0_move_120 ⟨Nat.le_of_ble_eq_true rfl, Nat.le_of_ble_eq_true rfl⟩) hP hD hS hA [0] rfl rfl (fun r_120 u H locs hq_120 hP hD hS => ?_)
            replace hP : va_P E.1 clA [(ax 5, .inl (E.2 0, 7, .inl (upd er 1 (er 1 + 1)))), (ra, .inl (E.2 1, (nn (sz (nn sheet))), .inl rf))] _ := hP
            replace hD : va_D A [(ax 5, .inl (E.2 0, 7, .inl (upd er 1 (er 1 + 1)))), (ra, .inl (E.2 1, (nn (sz (nn sheet))), .inl rf))] := hD
            replace hq_120 : r_120 = erv 1 := hq_120
            exact hret r_120 ((upd er 1 (er 1 + 1)), rf) (by rw [move_b hin hin2 hnz hkk hbad]; exact ⟨hq_120, rfl, hg⟩) (rfl) hP hD hS (Nat.le_of_ble_eq_true rfl) (Nat.le_of_ble_eq_true rfl) dX0_move_123
          · -- fall 93
            refine lv_iload hx hb dX0_move_93 (lv_at hl 7 rfl) ?_
            refine lv_aload hx hb dX0_move_95 (lv_at hl 1 rfl) ?_
            refine fx_ci (va_runS (As := [.ref ra]) (rest := [.int n_]) X (xX0_sizeOfB l E ra (nn (sz (nn sheet))) rf _) (va_cwS 1 X.2.2.2.2 (lw_S q813 q814 q69 q815) rfl rfl rfl hdX0_sizeOf ⟨Nat.le_of_ble_eq_true rfl, Nat.le_of_ble_eq_true rfl⟩) (fx_pre hE hP hD hS hR [] rfl rfl (fx_rcm 1 rfl (by decide) fx_rc0)) rfl rfl hl.1 rfl (lv_room (Nat.le_of_ble_eq_true rfl)) dX0_move_97 ⟨Nat.le_of_ble_eq_true rfl, Nat.le_of_ble_eq_true rfl⟩) hP hD hS hA [] rfl rfl (fun r_97 u H locs hq_97 hP hD hS => ?_)
            replace hP : va_P E.1 clA [(ax 5, .inl (E.2 0, 7, .inl er)), (ra, .inl (E.2 1, (nn (sz (nn sheet))), .inl rf))] _ := hP
            replace hD : va_D A [(ax 5, .inl (E.2 0, 7, .inl er)), (ra, .inl (E.2 1, (nn (sz (nn sheet))), .inl rf))] := hD
            replace hq_97 : r_97 = nI (nn (sz (nn sheet))) := hq_97
            refine fx_ti (show r_97 = nI (nn (sz (nn sheet))) from hq_97) ?_
            refine lv_iload_n hx hb dX0_move_100 rfl (lv_at hl 4 rfl) ?_
            refine lv_isub hx hb dX0_move_101 ?_
            refine lv_icmp_gt (tgt := 118) hx hb dX0_move_102 (by decide) (fun c_102 => ?_) (fun c_102 => ?_)
            · -- jump 118
              have hbad : mvBad sz (nn sheet) (nn other) i_ j_ n_ = true := mvB4 hsz.1 hsz2 c_81 c_85 c_102
              refine lv_aload_n hx hb dX0_move_118 rfl (lv_at hl 2 rfl) ?_
              refine lv_iconst (v := 1) hx hb dX0_move_119 rfl ?_
              refine fx_ci (va_runV (As := [.int 1]) (rest := []) X (xX0_finds l E ax im bn bm fm ff fl er 1 (by decide) _) (cwV 1 X.2.2.2.2 (lw_V q303 q305 qs0 q69 q306) rfl rfl rfl ⟨rfl, hdX0_finds⟩ ⟨Nat.le_of_ble_eq_true rfl, Nat.le_of_ble_eq_true rfl⟩) (fx_preV (fx_pre hE hP hD hS hR [0] rfl rfl (fx_rcr 0 rfl fx_rc0)) (va_recv hE.1 (hR.at hS) (ci := 0) (q0 := 0) rfl rfl)) rfl rfl hl.1 rfl (lv_room (Nat.le_of_ble_eq_true rfl)) dX0_move_120 ⟨Nat.le_of_ble_eq_true rfl, Nat.le_of_ble_eq_true rfl⟩) hP hD hS hA [0] rfl rfl (fun r_120 u H locs hq_120 hP hD hS => ?_)
              replace hP : va_P E.1 clA [(ax 5, .inl (E.2 0, 7, .inl (upd er 1 (er 1 + 1)))), (ra, .inl (E.2 1, (nn (sz (nn sheet))), .inl rf))] _ := hP
              replace hD : va_D A [(ax 5, .inl (E.2 0, 7, .inl (upd er 1 (er 1 + 1)))), (ra, .inl (E.2 1, (nn (sz (nn sheet))), .inl rf))] := hD
              replace hq_120 : r_120 = erv 1 := hq_120
              exact hret r_120 ((upd er 1 (er 1 + 1)), rf) (by rw [move_b hin hin2 hnz hkk hbad]; exact ⟨hq_120, rfl, hg⟩) (rfl) hP hD hS (Nat.le_of_ble_eq_true rfl) (Nat.le_of_ble_eq_true rfl) dX0_move_123
            · -- fall 105
              refine lv_iload hx hb dX0_move_105 (lv_at hl 7 rfl) ?_
              refine lv_aload hx hb dX0_move_107 (lv_at hl 0 rfl) ?_
              refine fx_ci (va_runS (As := [.ref ra]) (rest := [.int n_]) X (xX0_sizeOfB l E ra (nn (sz (nn sheet))) rf _) (va_cwS 1 X.2.2.2.2 (lw_S q813 q814 q69 q815) rfl rfl rfl hdX0_sizeOf ⟨Nat.le_of_ble_eq_true rfl, Nat.le_of_ble_eq_true rfl⟩) (fx_pre hE hP hD hS hR [] rfl rfl (fx_rcm 1 rfl (by decide) fx_rc0)) rfl rfl hl.1 rfl (lv_room (Nat.le_of_ble_eq_true rfl)) dX0_move_109 ⟨Nat.le_of_ble_eq_true rfl, Nat.le_of_ble_eq_true rfl⟩) hP hD hS hA [] rfl rfl (fun r_109 u H locs hq_109 hP hD hS => ?_)
              replace hP : va_P E.1 clA [(ax 5, .inl (E.2 0, 7, .inl er)), (ra, .inl (E.2 1, (nn (sz (nn sheet))), .inl rf))] _ := hP
              replace hD : va_D A [(ax 5, .inl (E.2 0, 7, .inl er)), (ra, .inl (E.2 1, (nn (sz (nn sheet))), .inl rf))] := hD
              replace hq_109 : r_109 = nI (nn (sz (nn sheet))) := hq_109
              refine fx_ti (show r_109 = nI (nn (sz (nn sheet))) from hq_109) ?_
              refine lv_iload hx hb dX0_move_112 (lv_at hl 6 rfl) ?_
              refine lv_isub hx hb dX0_move_114 ?_
              refine lv_icmp_le (tgt := 124) hx hb dX0_move_115 (by decide) (fun c_115 => ?_) (fun c_115 => ?_)
              · -- jump 124
                obtain ⟨hok, gm1, gm2⟩ := mvB0 hsz.1 hsz2 hso.1 hso2 c_81 c_85 c_90 (Int32.not_lt.1 c_102) c_115
                have pn := nn_pos (Int32.not_lt.1 c_81)
                have pi := nn_pos (Int32.not_lt.1 c_85)
                have pj := nn_pos (Int32.not_lt.1 c_90)
                refine lv_aload hx hb dX0_move_124 (lv_at hl 1 rfl) ?_
                refine lv_iload_n hx hb dX0_move_126 rfl (lv_at hl 4 rfl) ?_
                refine fx_ti (show i_ = nI (nn i_) from pi.1) ?_
                refine lv_aload hx hb dX0_move_127 (lv_at hl 0 rfl) ?_
                refine lv_iload hx hb dX0_move_129 (lv_at hl 6 rfl) ?_
                refine fx_ti (show j_ = nI (nn j_) from pj.1) ?_
                refine lv_iload hx hb dX0_move_131 (lv_at hl 7 rfl) ?_
                refine fx_ti (show n_ = nI (nn n_) from pn.1) ?_
                refine fx_acpy (ws' := [(ax 5, .inl (E.2 0, 7, .inl er)), (ra, .inl (E.2 1, (nn (sz (nn sheet))), .inl (va_cpy rf rf (nn i_) (nn j_) (nn n_))))]) X hE hl.1 hP hD hS q887 q889 q888 q93 1 1 1 rfl rfl rfl rfl (nn i_) (nn j_) (nn n_) rfl rfl rfl (by omega) (by omega) (by omega) (by omega) (fun i hi => hft _ (by omega)) ⟨Nat.le_of_ble_eq_true rfl, Nat.le_of_ble_eq_true rfl⟩ rfl dX0_move_133 (fun H locs hP hD hS => ?_)
                refine lv_iload hx hb dX0_move_136 (lv_at hl 7 rfl) ?_
                exact hret n_ (er, (va_cpy rf rf (nn i_) (nn j_) (nn n_))) (by rw [move_s hin hin2 hnz hkk hok]; exact ⟨rfl, rfl, row_c hf hg gm1 gm2⟩) (rfl) hP hD hS (Nat.le_of_ble_eq_true rfl) (Nat.le_of_ble_eq_true rfl) dX0_move_138
              · -- fall 118
                have hbad : mvBad sz (nn sheet) (nn other) i_ j_ n_ = true := mvB5 hso.1 hso2 c_81 c_90 (Int32.not_le.1 c_115)
                refine lv_aload_n hx hb dX0_move_118 rfl (lv_at hl 2 rfl) ?_
                refine lv_iconst (v := 1) hx hb dX0_move_119 rfl ?_
                refine fx_ci (va_runV (As := [.int 1]) (rest := []) X (xX0_finds l E ax im bn bm fm ff fl er 1 (by decide) _) (cwV 1 X.2.2.2.2 (lw_V q303 q305 qs0 q69 q306) rfl rfl rfl ⟨rfl, hdX0_finds⟩ ⟨Nat.le_of_ble_eq_true rfl, Nat.le_of_ble_eq_true rfl⟩) (fx_preV (fx_pre hE hP hD hS hR [0] rfl rfl (fx_rcr 0 rfl fx_rc0)) (va_recv hE.1 (hR.at hS) (ci := 0) (q0 := 0) rfl rfl)) rfl rfl hl.1 rfl (lv_room (Nat.le_of_ble_eq_true rfl)) dX0_move_120 ⟨Nat.le_of_ble_eq_true rfl, Nat.le_of_ble_eq_true rfl⟩) hP hD hS hA [0] rfl rfl (fun r_120 u H locs hq_120 hP hD hS => ?_)
                replace hP : va_P E.1 clA [(ax 5, .inl (E.2 0, 7, .inl (upd er 1 (er 1 + 1)))), (ra, .inl (E.2 1, (nn (sz (nn sheet))), .inl rf))] _ := hP
                replace hD : va_D A [(ax 5, .inl (E.2 0, 7, .inl (upd er 1 (er 1 + 1)))), (ra, .inl (E.2 1, (nn (sz (nn sheet))), .inl rf))] := hD
                replace hq_120 : r_120 = erv 1 := hq_120
                exact hret r_120 ((upd er 1 (er 1 + 1)), rf) (by rw [move_b hin hin2 hnz hkk hbad]; exact ⟨hq_120, rfl, hg⟩) (rfl) hP hD hS (Nat.le_of_ble_eq_true rfl) (Nat.le_of_ble_eq_true rfl) dX0_move_123
    · -- False
      subst hr_8
      exact absurd hin2 hb_8
  · -- False
    subst hr_1
    exact absurd hin hb_1
abbrev rxX0_move_SB : Room := { frames := 10, cells := 3, slots := 80, locals := 10400 }
set_option maxHeartbeats 400000 in
set_option maxRecDepth 100000 in
theorem xX0_move_SB (l : Launch) (E : fx_En) (ks : fz_Ks) (ax : Nat → Nat) (im : Int32) (bn : Int32) (bm : Int32) (fm : Int32) (ff : Int32) (fl : Int32) (er : Nat → Int32) (bt : Nat → Int32) (sz : Nat → Int32) (nu : Nat → Int32) (sh : Nat → Option Nat) (PL : va_W) (sheet : Int32) (i_ : Int32) (other : Int32) (j_ : Int32) (n_ : Int32) (ra : Nat) (rf : Nat → Int32) (rb : Nat) (rg : Nat → Int32) (hst : l.stackTraces = false) (hIS : InvS bt sz) (hin : inB sheet 0 3 = true) (hin2 : inB other 0 3 = true) (hs0 : sh (nn sheet) = some ra) (hs1 : sh (nn other) = some rb) (hb0 : bt (nn sheet) = 16) (hb1 : bt (nn other) = 8) (hf : ∀ t, t < nn (sz (nn sheet)) → rf t = nu (24 * nn sheet + t)) (hg : ∀ t, t < nn (sz (nn other)) → rg t = nu (24 * nn other + t)) : fz_Hi l yX0_move cX0_move 9 [((58 : Nat), (68 : Nat), (71 : Nat), (354 : Nat))] .int rxX0_move_SB E ks [.ref (ax 19), .int sheet, .int i_, .int other, .int j_, .int n_] [(ax 5, .inl (E.2 0, 7, .inl er)), (ra, .inl (E.2 2, (nn (sz (nn sheet))), .inl rf)), (rb, .inl (E.2 1, (nn (sz (nn other))), .inl rg))] ([(ax 19, .inr (0, [.ref (ax 0), .ref (ax 1), .ref (ax 35), .ref (ax 55), .ref (ax 4), .ref (ax 5), .ref (ax 6), .ref (ax 7), .int im, .ref (ax 9), .ref (ax 10), .ref (ax 11), .ref (ax 12), .ref (ax 13), .int bn, .int bm, .int fm, .int ff, .int fl])), (ax 6, .inl (E.2 3, 4, .inr (.inr (.inr (.inr (fun i_ => some (ax (64 + i_)))))))), (ax 64, .inr (2, [va_rf (sh 0)])), (ax 65, .inr (2, [va_rf (sh 1)])), (ax 66, .inr (2, [va_rf (sh 2)])), (ax 67, .inr (2, [va_rf (sh 3)]))] ++ PL) (S := (Nat → Int32) × (Nat → Int32)) (fun (u : (Nat → Int32) × (Nat → Int32)) => [(ax 5, .inl (E.2 0, 7, .inl u.1)), (ra, .inl (E.2 2, (nn (sz (nn sheet))), .inl rf)), (rb, .inl (E.2 1, (nn (sz (nn other))), .inl u.2))]) (fun (r : Int32) (u : (Nat → Int32) × (Nat → Int32)) => r = (move_ bt sz nu er sheet i_ other j_ n_).1 ∧ u.1 = (move_ bt sz nu er sheet i_ other j_ n_).2.2 ∧ ∀ t, t < nn (sz (nn other)) → u.2 t = (move_ bt sz nu er sheet i_ other j_ n_).2.1 (24 * nn other + t)) := by
  refine fz_hW rfl rfl ?_
  intro p e s m args below meth c A ls Q X htab hlocks hE hP hD hR hZ hA hl hret
  have hx := X.1
  have hb := X.2.1
  have hS : va_S A s.heap s.heap [] := va_S.rf
  replace hP : va_P E.1 clA [(ax 5, .inl (E.2 0, 7, .inl er)), (ra, .inl (E.2 2, (nn (sz (nn sheet))), .inl rf)), (rb, .inl (E.2 1, (nn (sz (nn other))), .inl rg))] _ := hP
  replace hD : va_D A [(ax 5, .inl (E.2 0, 7, .inl er)), (ra, .inl (E.2 2, (nn (sz (nn sheet))), .inl rf)), (rb, .inl (E.2 1, (nn (sz (nn other))), .inl rg))] := hD
  replace hl : lv_has ls 9 [(0, .ref (ax 19)), (1, .int sheet), (2, .int i_), (3, .int other), (4, .int j_), (5, .int n_)] := hl
  have hnz : ¬ (bt (nn sheet) = 0 ∨ bt (nn other) = 0) := by rw [hb0, hb1]; decide
  have hkk : ¬ bt (nn sheet) = bt (nn other) := by rw [hb0, hb1]; decide
  refine lv_iload_n hx hb dX0_move_0 rfl (lv_at hl 1 rfl) ?_
  refine fx_ci (va_runS (As := [.int sheet]) (rest := []) X (xX0_isSheet l E sheet _) (va_cwS 1 X.2.2.2.2 (lw_S q806 q807 q69 q808) rfl rfl rfl hdX0_isSheet ⟨Nat.le_of_ble_eq_true rfl, Nat.le_of_ble_eq_true rfl⟩) (fx_pre hE hP hD hS hR [] rfl rfl fx_rc0) rfl rfl hl.1 rfl (lv_room (Nat.le_of_ble_eq_true rfl)) dX0_move_1 ⟨Nat.le_of_ble_eq_true rfl, Nat.le_of_ble_eq_true rfl⟩) hP hD hS hA [] rfl rfl (fun r_1 u H locs hq_1 hP hD hS => ?_)
  replace hP : va_P E.1 clA [(ax 5, .inl (E.2 0, 7, .inl er)), (ra, .inl (E.2 2, (nn (sz (nn sheet))), .inl rf)), (rb, .inl (E.2 1, (nn (sz (nn other))), .inl rg))] _ := hP
  replace hD : va_D A [(ax 5, .inl (E.2 0, 7, .inl er)), (ra, .inl (E.2 2, (nn (sz (nn sheet))), .inl rf)), (rb, .inl (E.2 1, (nn (sz (nn other))), .inl rg))] := hD
  replace hq_1 : r_1 = fx_b (inB sheet 0 3 = true) := hq_1
  rcases fx_bc hq_1 with ⟨hb_1, hr_1⟩ | ⟨hb_1, hr_1⟩
  · -- True
    subst hr_1
    refine lv_if_eq (tgt := 14) hx hb dX0_move_4 (by decide) (fun c => absurd c (by decide)) (fun _ => ?_)
    refine lv_iload_n hx hb dX0_move_7 rfl (lv_at hl 3 rfl) ?_
    refine fx_ci (va_runS (As := [.int other]) (rest := []) X (xX0_isSheet l E other _) (va_cwS 1 X.2.2.2.2 (lw_S q806 q807 q69 q808) rfl rfl rfl hdX0_isSheet ⟨Nat.le_of_ble_eq_true rfl, Nat.le_of_ble_eq_true rfl⟩) (fx_pre hE hP hD hS hR [] rfl rfl fx_rc0) rfl rfl hl.1 rfl (lv_room (Nat.le_of_ble_eq_true rfl)) dX0_move_8 ⟨Nat.le_of_ble_eq_true rfl, Nat.le_of_ble_eq_true rfl⟩) hP hD hS hA [] rfl rfl (fun r_8 u H locs hq_8 hP hD hS => ?_)
    replace hP : va_P E.1 clA [(ax 5, .inl (E.2 0, 7, .inl er)), (ra, .inl (E.2 2, (nn (sz (nn sheet))), .inl rf)), (rb, .inl (E.2 1, (nn (sz (nn other))), .inl rg))] _ := hP
    replace hD : va_D A [(ax 5, .inl (E.2 0, 7, .inl er)), (ra, .inl (E.2 2, (nn (sz (nn sheet))), .inl rf)), (rb, .inl (E.2 1, (nn (sz (nn other))), .inl rg))] := hD
    replace hq_8 : r_8 = fx_b (inB other 0 3 = true) := hq_8
    rcases fx_bc hq_8 with ⟨hb_8, hr_8⟩ | ⟨hb_8, hr_8⟩
    · -- True
      subst hr_8
      refine lv_if_ne (tgt := 20) hx hb dX0_move_11 (by decide) (fun _ => ?_) (fun c => absurd c (by decide))
      have gs := inB_nn (n := 3) hin (by omega)
      have gs1 : nn sheet < 4 := by omega
      have go := inB_nn (n := 3) hin2 (by omega)
      have go1 : nn other < 4 := by omega
      have hsh : ((ax (64 + nn sheet), .inr (2, [va_rf (sh (nn sheet))])) : Nat × va_E) ∈ ([(ax 19, .inr (0, [.ref (ax 0), .ref (ax 1), .ref (ax 35), .ref (ax 55), .ref (ax 4), .ref (ax 5), .ref (ax 6), .ref (ax 7), .int im, .ref (ax 9), .ref (ax 10), .ref (ax 11), .ref (ax 12), .ref (ax 13), .int bn, .int bm, .int fm, .int ff, .int fl])), (ax 6, .inl (E.2 3, 4, .inr (.inr (.inr (.inr (fun i_ => some (ax (64 + i_)))))))), (ax 64, .inr (2, [va_rf (sh 0)])), (ax 65, .inr (2, [va_rf (sh 1)])), (ax 66, .inr (2, [va_rf (sh 2)])), (ax 67, .inr (2, [va_rf (sh 3)]))] ++ PL) := by rcases (show nn sheet = 0 ∨ nn sheet = 1 ∨ nn sheet = 2 ∨ nn sheet = 3 by omega) with h | h | h | h <;> rw [h] <;> first | exact List.mem_of_getElem? (i := 2) rfl | exact List.mem_of_getElem? (i := 3) rfl | exact List.mem_of_getElem? (i := 4) rfl | exact List.mem_of_getElem? (i := 5) rfl
      have hso_ : ((ax (64 + nn other), .inr (2, [va_rf (sh (nn other))])) : Nat × va_E) ∈ ([(ax 19, .inr (0, [.ref (ax 0), .ref (ax 1), .ref (ax 35), .ref (ax 55), .ref (ax 4), .ref (ax 5), .ref (ax 6), .ref (ax 7), .int im, .ref (ax 9), .ref (ax 10), .ref (ax 11), .ref (ax 12), .ref (ax 13), .int bn, .int bm, .int fm, .int ff, .int fl])), (ax 6, .inl (E.2 3, 4, .inr (.inr (.inr (.inr (fun i_ => some (ax (64 + i_)))))))), (ax 64, .inr (2, [va_rf (sh 0)])), (ax 65, .inr (2, [va_rf (sh 1)])), (ax 66, .inr (2, [va_rf (sh 2)])), (ax 67, .inr (2, [va_rf (sh 3)]))] ++ PL) := by rcases (show nn other = 0 ∨ nn other = 1 ∨ nn other = 2 ∨ nn other = 3 by omega) with h | h | h | h <;> rw [h] <;> first | exact List.mem_of_getElem? (i := 2) rfl | exact List.mem_of_getElem? (i := 3) rfl | exact List.mem_of_getElem? (i := 4) rfl | exact List.mem_of_getElem? (i := 5) rfl
      have hsz := hIS.sz gs1
      have hsz2 := hsz.2
      have hso := hIS.sz go1
      have hso2 := hso.2
      refine lv_aload_n hx hb dX0_move_20 rfl (lv_at hl 0 rfl) ?_
      refine fx_get X hE (hR.at hS) 0 rfl rfl 6 rfl q241 rfl rfl dX0_move_21 ?_
      refine lv_iload_n hx hb dX0_move_24 rfl (lv_at hl 1 rfl) ?_
      refine fx_ti (show sheet = nI (nn sheet) from gs.1) ?_
      refine fx_aald X hE (hR.at hS) 1 3 rfl rfl (nn sheet) rfl (by omega) rfl (r := some (ax (64 + nn sheet))) (rfl) dX0_move_25 ?_
      refine fx_getN X hE (fx_one (hR.at hS) hsh) 0 rfl rfl 0 rfl 2 rfl rfl rfl dX0_move_26 ?_
      rw [hs0]
      refine lv_astore (lv' := [(6, .ref ra), (0, .ref (ax 19)), (1, .int sheet), (2, .int i_), (3, .int other), (4, .int j_), (5, .int n_)]) hx hb dX0_move_29 hl (by decide) rfl (fun ls hl => ?_)
      refine lv_aload_n hx hb dX0_move_31 rfl (lv_at hl 1 rfl) ?_
      refine fx_get X hE (hR.at hS) 0 rfl rfl 6 rfl q241 rfl rfl dX0_move_32 ?_
      refine lv_iload_n hx hb dX0_move_35 rfl (lv_at hl 4 rfl) ?_
      refine fx_ti (show other = nI (nn other) from go.1) ?_
      refine fx_aald X hE (hR.at hS) 1 3 rfl rfl (nn other) rfl (by omega) rfl (r := some (ax (64 + nn other))) (rfl) dX0_move_36 ?_
      refine fx_getN X hE (fx_one (hR.at hS) hso_) 0 rfl rfl 0 rfl 2 rfl rfl rfl dX0_move_37 ?_
      rw [hs1]
      refine lv_astore (lv' := [(7, .ref rb), (6, .ref ra), (0, .ref (ax 19)), (1, .int sheet), (2, .int i_), (3, .int other), (4, .int j_), (5, .int n_)]) hx hb dX0_move_40 hl (by decide) rfl (fun ls hl => ?_)
      refine lv_aload hx hb dX0_move_42 (lv_at hl 1 rfl) ?_
      refine lv_ifnull hx hb dX0_move_44 ?_
      refine lv_aload hx hb dX0_move_47 (lv_at hl 0 rfl) ?_
      refine lv_ifnonnull (tgt := 58) hx hb dX0_move_49 (by decide) ?_
      refine lv_aload hx hb dX0_move_58 (lv_at hl 1 rfl) ?_
      refine lv_iconst (v := 0) hx hb dX0_move_60 rfl ?_
      refine lv_aload hx hb dX0_move_61 (lv_at hl 0 rfl) ?_
      refine lv_iconst (v := 0) hx hb dX0_move_63 rfl ?_
      refine lv_iconst (v := 0) hx hb dX0_move_64 rfl ?_
      refine fn_acpyZ X hE hst hZ hP hS hl.1 q887 q889 q888 q93 1 2 2 1 rfl rfl rfl rfl rfl (text := "arraycopy: type mismatch: can not copy short[] into byte[]") (by decide +kernel) (nb := 70) (by decide +kernel) (by decide +kernel) (by decide) (Nat.le_of_ble_eq_true rfl) (Nat.le_of_ble_eq_true rfl) (Nat.le_of_ble_eq_true rfl) (Nat.le_of_ble_eq_true rfl) dX0_move_65 (fun H1 q9 ce hP hS hce hcv hcl => ?_)
      refine vx_catch X.2.2.2.1 [] ⟨58, 68, 71, 354⟩ _ (htab.trans rfl) (fun _ h => nomatch h) rfl (by decide) (X.2.2.2.2 _ q1111) (va_tabs rfl rfl (hE.2.1 _ (List.mem_of_getElem? (i := 51) rfl))) hce hcv hcl ?_
      refine lv_astore (lv' := [(8, .ref q9), (7, .ref rb), (6, .ref ra), (0, .ref (ax 19)), (1, .int sheet), (2, .int i_), (3, .int other), (4, .int j_), (5, .int n_)]) hx hb dX0_move_71 hl (by decide) rfl (fun ls hl => ?_)
      refine lv_aload_n hx hb dX0_move_73 rfl (lv_at hl 3 rfl) ?_
      refine lv_iconst (v := 5) hx hb dX0_move_74 rfl ?_
      refine fx_ci (va_runV (As := [.int 5]) (rest := []) X (xX0_finds l E ax im bn bm fm ff fl er 5 (by decide) _) (cwV 1 X.2.2.2.2 (lw_V q303 q305 qs0 q69 q306) rfl rfl rfl ⟨rfl, hdX0_finds⟩ ⟨Nat.le_of_ble_eq_true rfl, Nat.le_of_ble_eq_true rfl⟩) (fx_preV (fx_pre hE hP hD hS hR [0] rfl rfl (fx_rcr 0 rfl fx_rc0)) (va_recv hE.1 (hR.at hS) (ci := 0) (q0 := 0) rfl rfl)) rfl rfl hl.1 rfl (lv_room (Nat.le_of_ble_eq_true rfl)) dX0_move_75 ⟨Nat.le_refl _, Nat.le_refl _⟩) hP hD hS hA [0] rfl rfl (fun r_75 u H locs hq_75 hP hD hS => ?_)
      replace hP : va_P E.1 clA [(ax 5, .inl (E.2 0, 7, .inl (upd er 5 (er 5 + 1)))), (ra, .inl (E.2 2, (nn (sz (nn sheet))), .inl rf)), (rb, .inl (E.2 1, (nn (sz (nn other))), .inl rg))] _ := hP
      replace hD : va_D A [(ax 5, .inl (E.2 0, 7, .inl (upd er 5 (er 5 + 1)))), (ra, .inl (E.2 2, (nn (sz (nn sheet))), .inl rf)), (rb, .inl (E.2 1, (nn (sz (nn other))), .inl rg))] := hD
      replace hq_75 : r_75 = erv 5 := hq_75
      exact hret r_75 ((upd er 5 (er 5 + 1)), rg) (by rw [move_k hin hin2 hnz hkk]; exact ⟨hq_75, rfl, hg⟩) (rfl) hP hD hS (Nat.le_refl _) (Nat.le_refl _) dX0_move_78
    · -- False
      subst hr_8
      exact absurd hin2 hb_8
  · -- False
    subst hr_1
    exact absurd hin hb_1
abbrev rxX0_move_SS : Room := { frames := 10, cells := 3, slots := 80, locals := 10400 }
set_option maxHeartbeats 400000 in
set_option maxRecDepth 100000 in
theorem xX0_move_SS (l : Launch) (E : fx_En) (ks : fz_Ks) (ax : Nat → Nat) (im : Int32) (bn : Int32) (bm : Int32) (fm : Int32) (ff : Int32) (fl : Int32) (er : Nat → Int32) (bt : Nat → Int32) (sz : Nat → Int32) (nu : Nat → Int32) (sh : Nat → Option Nat) (PL : va_W) (sheet : Int32) (i_ : Int32) (other : Int32) (j_ : Int32) (n_ : Int32) (ra : Nat) (rf : Nat → Int32) (rb : Nat) (rg : Nat → Int32) (hst : l.stackTraces = false) (hIS : InvS bt sz) (hin : inB sheet 0 3 = true) (hin2 : inB other 0 3 = true) (hs0 : sh (nn sheet) = some ra) (hs1 : sh (nn other) = some rb) (hb0 : bt (nn sheet) = 16) (hb1 : bt (nn other) = 16) (hf : ∀ t, t < nn (sz (nn sheet)) → rf t = nu (24 * nn sheet + t)) (hg : ∀ t, t < nn (sz (nn other)) → rg t = nu (24 * nn other + t)) (hft : ∀ t, t < nn (sz (nn sheet)) → fits .short (.int (rf t)) = true) : fz_Hi l yX0_move cX0_move 9 [((58 : Nat), (68 : Nat), (71 : Nat), (354 : Nat))] .int rxX0_move_SS E ks [.ref (ax 19), .int sheet, .int i_, .int other, .int j_, .int n_] [(ax 5, .inl (E.2 0, 7, .inl er)), (ra, .inl (E.2 2, (nn (sz (nn sheet))), .inl rf)), (rb, .inl (E.2 2, (nn (sz (nn other))), .inl rg))] ([(ax 19, .inr (0, [.ref (ax 0), .ref (ax 1), .ref (ax 35), .ref (ax 55), .ref (ax 4), .ref (ax 5), .ref (ax 6), .ref (ax 7), .int im, .ref (ax 9), .ref (ax 10), .ref (ax 11), .ref (ax 12), .ref (ax 13), .int bn, .int bm, .int fm, .int ff, .int fl])), (ax 6, .inl (E.2 3, 4, .inr (.inr (.inr (.inr (fun i_ => some (ax (64 + i_)))))))), (ax 64, .inr (2, [va_rf (sh 0)])), (ax 65, .inr (2, [va_rf (sh 1)])), (ax 66, .inr (2, [va_rf (sh 2)])), (ax 67, .inr (2, [va_rf (sh 3)]))] ++ PL) (S := (Nat → Int32) × (Nat → Int32)) (fun (u : (Nat → Int32) × (Nat → Int32)) => [(ax 5, .inl (E.2 0, 7, .inl u.1)), (ra, .inl (E.2 2, (nn (sz (nn sheet))), .inl rf)), (rb, .inl (E.2 2, (nn (sz (nn other))), .inl u.2))]) (fun (r : Int32) (u : (Nat → Int32) × (Nat → Int32)) => r = (move_ bt sz nu er sheet i_ other j_ n_).1 ∧ u.1 = (move_ bt sz nu er sheet i_ other j_ n_).2.2 ∧ ∀ t, t < nn (sz (nn other)) → u.2 t = (move_ bt sz nu er sheet i_ other j_ n_).2.1 (24 * nn other + t)) := by
  refine fz_hW rfl rfl ?_
  intro p e s m args below meth c A ls Q X htab hlocks hE hP hD hR hZ hA hl hret
  have hx := X.1
  have hb := X.2.1
  have hS : va_S A s.heap s.heap [] := va_S.rf
  replace hP : va_P E.1 clA [(ax 5, .inl (E.2 0, 7, .inl er)), (ra, .inl (E.2 2, (nn (sz (nn sheet))), .inl rf)), (rb, .inl (E.2 2, (nn (sz (nn other))), .inl rg))] _ := hP
  replace hD : va_D A [(ax 5, .inl (E.2 0, 7, .inl er)), (ra, .inl (E.2 2, (nn (sz (nn sheet))), .inl rf)), (rb, .inl (E.2 2, (nn (sz (nn other))), .inl rg))] := hD
  replace hl : lv_has ls 9 [(0, .ref (ax 19)), (1, .int sheet), (2, .int i_), (3, .int other), (4, .int j_), (5, .int n_)] := hl
  have hnz : ¬ (bt (nn sheet) = 0 ∨ bt (nn other) = 0) := by rw [hb0, hb1]; decide
  have hkk : bt (nn sheet) = bt (nn other) := by rw [hb0, hb1]
  refine lv_iload_n hx hb dX0_move_0 rfl (lv_at hl 1 rfl) ?_
  refine fx_ci (va_runS (As := [.int sheet]) (rest := []) X (xX0_isSheet l E sheet _) (va_cwS 1 X.2.2.2.2 (lw_S q806 q807 q69 q808) rfl rfl rfl hdX0_isSheet ⟨Nat.le_of_ble_eq_true rfl, Nat.le_of_ble_eq_true rfl⟩) (fx_pre hE hP hD hS hR [] rfl rfl fx_rc0) rfl rfl hl.1 rfl (lv_room (Nat.le_of_ble_eq_true rfl)) dX0_move_1 ⟨Nat.le_of_ble_eq_true rfl, Nat.le_of_ble_eq_true rfl⟩) hP hD hS hA [] rfl rfl (fun r_1 u H locs hq_1 hP hD hS => ?_)
  replace hP : va_P E.1 clA [(ax 5, .inl (E.2 0, 7, .inl er)), (ra, .inl (E.2 2, (nn (sz (nn sheet))), .inl rf)), (rb, .inl (E.2 2, (nn (sz (nn other))), .inl rg))] _ := hP
  replace hD : va_D A [(ax 5, .inl (E.2 0, 7, .inl er)), (ra, .inl (E.2 2, (nn (sz (nn sheet))), .inl rf)), (rb, .inl (E.2 2, (nn (sz (nn other))), .inl rg))] := hD
  replace hq_1 : r_1 = fx_b (inB sheet 0 3 = true) := hq_1
  rcases fx_bc hq_1 with ⟨hb_1, hr_1⟩ | ⟨hb_1, hr_1⟩
  · -- True
    subst hr_1
    refine lv_if_eq (tgt := 14) hx hb dX0_move_4 (by decide) (fun c => absurd c (by decide)) (fun _ => ?_)
    refine lv_iload_n hx hb dX0_move_7 rfl (lv_at hl 3 rfl) ?_
    refine fx_ci (va_runS (As := [.int other]) (rest := []) X (xX0_isSheet l E other _) (va_cwS 1 X.2.2.2.2 (lw_S q806 q807 q69 q808) rfl rfl rfl hdX0_isSheet ⟨Nat.le_of_ble_eq_true rfl, Nat.le_of_ble_eq_true rfl⟩) (fx_pre hE hP hD hS hR [] rfl rfl fx_rc0) rfl rfl hl.1 rfl (lv_room (Nat.le_of_ble_eq_true rfl)) dX0_move_8 ⟨Nat.le_of_ble_eq_true rfl, Nat.le_of_ble_eq_true rfl⟩) hP hD hS hA [] rfl rfl (fun r_8 u H locs hq_8 hP hD hS => ?_)
    replace hP : va_P E.1 clA [(ax 5, .inl (E.2 0, 7, .inl er)), (ra, .inl (E.2 2, (nn (sz (nn sheet))), .inl rf)), (rb, .inl (E.2 2, (nn (sz (nn other))), .inl rg))] _ := hP
    replace hD : va_D A [(ax 5, .inl (E.2 0, 7, .inl er)), (ra, .inl (E.2 2, (nn (sz (nn sheet))), .inl rf)), (rb, .inl (E.2 2, (nn (sz (nn other))), .inl rg))] := hD
    replace hq_8 : r_8 = fx_b (inB other 0 3 = true) := hq_8
    rcases fx_bc hq_8 with ⟨hb_8, hr_8⟩ | ⟨hb_8, hr_8⟩
    · -- True
      subst hr_8
      refine lv_if_ne (tgt := 20) hx hb dX0_move_11 (by decide) (fun _ => ?_) (fun c => absurd c (by decide))
      have gs := inB_nn (n := 3) hin (by omega)
      have gs1 : nn sheet < 4 := by omega
      have go := inB_nn (n := 3) hin2 (by omega)
      have go1 : nn other < 4 := by omega
      have hsh : ((ax (64 + nn sheet), .inr (2, [va_rf (sh (nn sheet))])) : Nat × va_E) ∈ ([(ax 19, .inr (0, [.ref (ax 0), .ref (ax 1), .ref (ax 35), .ref (ax 55), .ref (ax 4), .ref (ax 5), .ref (ax 6), .ref (ax 7), .int im, .ref (ax 9), .ref (ax 10), .ref (ax 11), .ref (ax 12), .ref (ax 13), .int bn, .int bm, .int fm, .int ff, .int fl])), (ax 6, .inl (E.2 3, 4, .inr (.inr (.inr (.inr (fun i_ => some (ax (64 + i_)))))))), (ax 64, .inr (2, [va_rf (sh 0)])), (ax 65, .inr (2, [va_rf (sh 1)])), (ax 66, .inr (2, [va_rf (sh 2)])), (ax 67, .inr (2, [va_rf (sh 3)]))] ++ PL) := by rcases (show nn sheet = 0 ∨ nn sheet = 1 ∨ nn sheet = 2 ∨ nn sheet = 3 by omega) with h | h | h | h <;> rw [h] <;> first | exact List.mem_of_getElem? (i := 2) rfl | exact List.mem_of_getElem? (i := 3) rfl | exact List.mem_of_getElem? (i := 4) rfl | exact List.mem_of_getElem? (i := 5) rfl
      have hso_ : ((ax (64 + nn other), .inr (2, [va_rf (sh (nn other))])) : Nat × va_E) ∈ ([(ax 19, .inr (0, [.ref (ax 0), .ref (ax 1), .ref (ax 35), .ref (ax 55), .ref (ax 4), .ref (ax 5), .ref (ax 6), .ref (ax 7), .int im, .ref (ax 9), .ref (ax 10), .ref (ax 11), .ref (ax 12), .ref (ax 13), .int bn, .int bm, .int fm, .int ff, .int fl])), (ax 6, .inl (E.2 3, 4, .inr (.inr (.inr (.inr (fun i_ => some (ax (64 + i_)))))))), (ax 64, .inr (2, [va_rf (sh 0)])), (ax 65, .inr (2, [va_rf (sh 1)])), (ax 66, .inr (2, [va_rf (sh 2)])), (ax 67, .inr (2, [va_rf (sh 3)]))] ++ PL) := by rcases (show nn other = 0 ∨ nn other = 1 ∨ nn other = 2 ∨ nn other = 3 by omega) with h | h | h | h <;> rw [h] <;> first | exact List.mem_of_getElem? (i := 2) rfl | exact List.mem_of_getElem? (i := 3) rfl | exact List.mem_of_getElem? (i := 4) rfl | exact List.mem_of_getElem? (i := 5) rfl
      have hsz := hIS.sz gs1
      have hsz2 := hsz.2
      have hso := hIS.sz go1
      have hso2 := hso.2
      refine lv_aload_n hx hb dX0_move_20 rfl (lv_at hl 0 rfl) ?_
      refine fx_get X hE (hR.at hS) 0 rfl rfl 6 rfl q241 rfl rfl dX0_move_21 ?_
      refine lv_iload_n hx hb dX0_move_24 rfl (lv_at hl 1 rfl) ?_
      refine fx_ti (show sheet = nI (nn sheet) from gs.1) ?_
      refine fx_aald X hE (hR.at hS) 1 3 rfl rfl (nn sheet) rfl (by omega) rfl (r := some (ax (64 + nn sheet))) (rfl) dX0_move_25 ?_
      refine fx_getN X hE (fx_one (hR.at hS) hsh) 0 rfl rfl 0 rfl 2 rfl rfl rfl dX0_move_26 ?_
      rw [hs0]
      refine lv_astore (lv' := [(6, .ref ra), (0, .ref (ax 19)), (1, .int sheet), (2, .int i_), (3, .int other), (4, .int j_), (5, .int n_)]) hx hb dX0_move_29 hl (by decide) rfl (fun ls hl => ?_)
      refine lv_aload_n hx hb dX0_move_31 rfl (lv_at hl 1 rfl) ?_
      refine fx_get X hE (hR.at hS) 0 rfl rfl 6 rfl q241 rfl rfl dX0_move_32 ?_
      refine lv_iload_n hx hb dX0_move_35 rfl (lv_at hl 4 rfl) ?_
      refine fx_ti (show other = nI (nn other) from go.1) ?_
      refine fx_aald X hE (hR.at hS) 1 3 rfl rfl (nn other) rfl (by omega) rfl (r := some (ax (64 + nn other))) (rfl) dX0_move_36 ?_
      refine fx_getN X hE (fx_one (hR.at hS) hso_) 0 rfl rfl 0 rfl 2 rfl rfl rfl dX0_move_37 ?_
      rw [hs1]
      refine lv_astore (lv' := [(7, .ref rb), (6, .ref ra), (0, .ref (ax 19)), (1, .int sheet), (2, .int i_), (3, .int other), (4, .int j_), (5, .int n_)]) hx hb dX0_move_40 hl (by decide) rfl (fun ls hl => ?_)
      refine lv_aload hx hb dX0_move_42 (lv_at hl 1 rfl) ?_
      refine lv_ifnull hx hb dX0_move_44 ?_
      refine lv_aload hx hb dX0_move_47 (lv_at hl 0 rfl) ?_
      refine lv_ifnonnull (tgt := 58) hx hb dX0_move_49 (by decide) ?_
      refine lv_aload hx hb dX0_move_58 (lv_at hl 1 rfl) ?_
      refine lv_iconst (v := 0) hx hb dX0_move_60 rfl ?_
      refine lv_aload hx hb dX0_move_61 (lv_at hl 0 rfl) ?_
      refine lv_iconst (v := 0) hx hb dX0_move_63 rfl ?_
      refine lv_iconst (v := 0) hx hb dX0_move_64 rfl ?_
      refine fx_acpy (ws' := [(ax 5, .inl (E.2 0, 7, .inl er)), (ra, .inl (E.2 2, (nn (sz (nn sheet))), .inl rf)), (rb, .inl (E.2 2, (nn (sz (nn other))), .inl (va_cpy rf rg 0 0 0)))]) X hE hl.1 hP hD hS q887 q889 q888 q93 1 2 2 rfl rfl rfl rfl 0 0 0 rfl rfl rfl (by omega) (by omega) (by omega) (by omega) (fun i hi => absurd hi (Nat.not_lt_zero _)) ⟨Nat.le_of_ble_eq_true rfl, Nat.le_of_ble_eq_true rfl⟩ rfl dX0_move_65 (fun H locs hP hD hS => ?_)
      have eW1 : (va_cpy rf rg 0 0 0) = rg := cpy_0 _ _ _ _
      rw [eW1] at hP hD
      refine lv_goto (tgt := 79) hx hb dX0_move_68 (by decide) ?_
      refine lv_iload hx hb dX0_move_79 (lv_at hl 7 rfl) ?_
      refine lv_if_lt (tgt := 118) hx hb dX0_move_81 (by decide) (fun c_81 => ?_) (fun c_81 => ?_)
      · -- jump 118
        have hbad : mvBad sz (nn sheet) (nn other) i_ j_ n_ = true := mvB1 c_81
        refine lv_aload_n hx hb dX0_move_118 rfl (lv_at hl 2 rfl) ?_
        refine lv_iconst (v := 1) hx hb dX0_move_119 rfl ?_
        refine fx_ci (va_runV (As := [.int 1]) (rest := []) X (xX0_finds l E ax im bn bm fm ff fl er 1 (by decide) _) (cwV 1 X.2.2.2.2 (lw_V q303 q305 qs0 q69 q306) rfl rfl rfl ⟨rfl, hdX0_finds⟩ ⟨Nat.le_of_ble_eq_true rfl, Nat.le_of_ble_eq_true rfl⟩) (fx_preV (fx_pre hE hP hD hS hR [0] rfl rfl (fx_rcr 0 rfl fx_rc0)) (va_recv hE.1 (hR.at hS) (ci := 0) (q0 := 0) rfl rfl)) rfl rfl hl.1 rfl (lv_room (Nat.le_of_ble_eq_true rfl)) dX0_move_120 ⟨Nat.le_of_ble_eq_true rfl, Nat.le_of_ble_eq_true rfl⟩) hP hD hS hA [0] rfl rfl (fun r_120 u H locs hq_120 hP hD hS => ?_)
        replace hP : va_P E.1 clA [(ax 5, .inl (E.2 0, 7, .inl (upd er 1 (er 1 + 1)))), (ra, .inl (E.2 2, (nn (sz (nn sheet))), .inl rf)), (rb, .inl (E.2 2, (nn (sz (nn other))), .inl rg))] _ := hP
        replace hD : va_D A [(ax 5, .inl (E.2 0, 7, .inl (upd er 1 (er 1 + 1)))), (ra, .inl (E.2 2, (nn (sz (nn sheet))), .inl rf)), (rb, .inl (E.2 2, (nn (sz (nn other))), .inl rg))] := hD
        replace hq_120 : r_120 = erv 1 := hq_120
        exact hret r_120 ((upd er 1 (er 1 + 1)), rg) (by rw [move_b hin hin2 hnz hkk hbad]; exact ⟨hq_120, rfl, hg⟩) (rfl) hP hD hS (Nat.le_of_ble_eq_true rfl) (Nat.le_of_ble_eq_true rfl) dX0_move_123
      · -- fall 84
        refine lv_iload_n hx hb dX0_move_84 rfl (lv_at hl 4 rfl) ?_
        refine lv_if_lt (tgt := 118) hx hb dX0_move_85 (by decide) (fun c_85 => ?_) (fun c_85 => ?_)
        · -- jump 118
          have hbad : mvBad sz (nn sheet) (nn other) i_ j_ n_ = true := mvB2 c_85
          refine lv_aload_n hx hb dX0_move_118 rfl (lv_at hl 2 rfl) ?_
          refine lv_iconst (v := 1) hx hb dX0_move_119 rfl ?_
          refine fx_ci (va_runV (As := [.int 1]) (rest := []) X (xX0_finds l E ax im bn bm fm ff fl er 1 (by decide) _) (cwV 1 X.2.2.2.2 (lw_V q303 q305 qs0 q69 q306) rfl rfl rfl ⟨rfl, hdX0_finds⟩ ⟨Nat.le_of_ble_eq_true rfl, Nat.le_of_ble_eq_true rfl⟩) (fx_preV (fx_pre hE hP hD hS hR [0] rfl rfl (fx_rcr 0 rfl fx_rc0)) (va_recv hE.1 (hR.at hS) (ci := 0) (q0 := 0) rfl rfl)) rfl rfl hl.1 rfl (lv_room (Nat.le_of_ble_eq_true rfl)) dX0_move_120 ⟨Nat.le_of_ble_eq_true rfl, Nat.le_of_ble_eq_true rfl⟩) hP hD hS hA [0] rfl rfl (fun r_120 u H locs hq_120 hP hD hS => ?_)
          replace hP : va_P E.1 clA [(ax 5, .inl (E.2 0, 7, .inl (upd er 1 (er 1 + 1)))), (ra, .inl (E.2 2, (nn (sz (nn sheet))), .inl rf)), (rb, .inl (E.2 2, (nn (sz (nn other))), .inl rg))] _ := hP
          replace hD : va_D A [(ax 5, .inl (E.2 0, 7, .inl (upd er 1 (er 1 + 1)))), (ra, .inl (E.2 2, (nn (sz (nn sheet))), .inl rf)), (rb, .inl (E.2 2, (nn (sz (nn other))), .inl rg))] := hD
          replace hq_120 : r_120 = erv 1 := hq_120
          exact hret r_120 ((upd er 1 (er 1 + 1)), rg) (by rw [move_b hin hin2 hnz hkk hbad]; exact ⟨hq_120, rfl, hg⟩) (rfl) hP hD hS (Nat.le_of_ble_eq_true rfl) (Nat.le_of_ble_eq_true rfl) dX0_move_123
        · -- fall 88
          refine lv_iload hx hb dX0_move_88 (lv_at hl 6 rfl) ?_
          refine lv_if_lt (tgt := 118) hx hb dX0_move_90 (by decide) (fun c_90 => ?_) (fun c_90 => ?_)
          · -- jump 118
            have hbad : mvBad sz (nn sheet) (nn other) i_ j_ n_ = true := mvB3 c_90
            refine lv_aload_n hx hb dX0_move_118 rfl (lv_at hl 2 rfl) ?_
            refine lv_iconst (v := 1) hx hb dX0_move_119 rfl ?_
            refine fx_ci (va_runV (As := [.int 1]) (rest := []) X (xX0_finds l E ax im bn bm fm ff fl er 1 (by decide) _) (cwV 1 X.2.2.2.2 (lw_V q303 q305 qs0 q69 q306) rfl rfl rfl ⟨rfl, hdX0_finds⟩ ⟨Nat.le_of_ble_eq_true rfl, Nat.le_of_ble_eq_true rfl⟩) (fx_preV (fx_pre hE hP hD hS hR [0] rfl rfl (fx_rcr 0 rfl fx_rc0)) (va_recv hE.1 (hR.at hS) (ci := 0) (q0 := 0) rfl rfl)) rfl rfl hl.1 rfl (lv_room (Nat.le_of_ble_eq_true rfl)) dX0_move_120 ⟨Nat.le_of_ble_eq_true rfl, Nat.le_of_ble_eq_true rfl⟩) hP hD hS hA [0] rfl rfl (fun r_120 u H locs hq_120 hP hD hS => ?_)
            replace hP : va_P E.1 clA [(ax 5, .inl (E.2 0, 7, .inl (upd er 1 (er 1 + 1)))), (ra, .inl (E.2 2, (nn (sz (nn sheet))), .inl rf)), (rb, .inl (E.2 2, (nn (sz (nn other))), .inl rg))] _ := hP
            replace hD : va_D A [(ax 5, .inl (E.2 0, 7, .inl (upd er 1 (er 1 + 1)))), (ra, .inl (E.2 2, (nn (sz (nn sheet))), .inl rf)), (rb, .inl (E.2 2, (nn (sz (nn other))), .inl rg))] := hD
            replace hq_120 : r_120 = erv 1 := hq_120
            exact hret r_120 ((upd er 1 (er 1 + 1)), rg) (by rw [move_b hin hin2 hnz hkk hbad]; exact ⟨hq_120, rfl, hg⟩) (rfl) hP hD hS (Nat.le_of_ble_eq_true rfl) (Nat.le_of_ble_eq_true rfl) dX0_move_123
          · -- fall 93
            refine lv_iload hx hb dX0_move_93 (lv_at hl 7 rfl) ?_
            refine lv_aload hx hb dX0_move_95 (lv_at hl 1 rfl) ?_
            refine fx_ci (va_runS (As := [.ref ra]) (rest := [.int n_]) X (xX0_sizeOfS l E ra (nn (sz (nn sheet))) rf _) (va_cwS 1 X.2.2.2.2 (lw_S q813 q814 q69 q815) rfl rfl rfl hdX0_sizeOf ⟨Nat.le_of_ble_eq_true rfl, Nat.le_of_ble_eq_true rfl⟩) (fx_pre hE hP hD hS hR [] rfl rfl (fx_rcm 1 rfl (by decide) fx_rc0)) rfl rfl hl.1 rfl (lv_room (Nat.le_of_ble_eq_true rfl)) dX0_move_97 ⟨Nat.le_of_ble_eq_true rfl, Nat.le_of_ble_eq_true rfl⟩) hP hD hS hA [] rfl rfl (fun r_97 u H locs hq_97 hP hD hS => ?_)
            replace hP : va_P E.1 clA [(ax 5, .inl (E.2 0, 7, .inl er)), (ra, .inl (E.2 2, (nn (sz (nn sheet))), .inl rf)), (rb, .inl (E.2 2, (nn (sz (nn other))), .inl rg))] _ := hP
            replace hD : va_D A [(ax 5, .inl (E.2 0, 7, .inl er)), (ra, .inl (E.2 2, (nn (sz (nn sheet))), .inl rf)), (rb, .inl (E.2 2, (nn (sz (nn other))), .inl rg))] := hD
            replace hq_97 : r_97 = nI (nn (sz (nn sheet))) := hq_97
            refine fx_ti (show r_97 = nI (nn (sz (nn sheet))) from hq_97) ?_
            refine lv_iload_n hx hb dX0_move_100 rfl (lv_at hl 4 rfl) ?_
            refine lv_isub hx hb dX0_move_101 ?_
            refine lv_icmp_gt (tgt := 118) hx hb dX0_move_102 (by decide) (fun c_102 => ?_) (fun c_102 => ?_)
            · -- jump 118
              have hbad : mvBad sz (nn sheet) (nn other) i_ j_ n_ = true := mvB4 hsz.1 hsz2 c_81 c_85 c_102
              refine lv_aload_n hx hb dX0_move_118 rfl (lv_at hl 2 rfl) ?_
              refine lv_iconst (v := 1) hx hb dX0_move_119 rfl ?_
              refine fx_ci (va_runV (As := [.int 1]) (rest := []) X (xX0_finds l E ax im bn bm fm ff fl er 1 (by decide) _) (cwV 1 X.2.2.2.2 (lw_V q303 q305 qs0 q69 q306) rfl rfl rfl ⟨rfl, hdX0_finds⟩ ⟨Nat.le_of_ble_eq_true rfl, Nat.le_of_ble_eq_true rfl⟩) (fx_preV (fx_pre hE hP hD hS hR [0] rfl rfl (fx_rcr 0 rfl fx_rc0)) (va_recv hE.1 (hR.at hS) (ci := 0) (q0 := 0) rfl rfl)) rfl rfl hl.1 rfl (lv_room (Nat.le_of_ble_eq_true rfl)) dX0_move_120 ⟨Nat.le_of_ble_eq_true rfl, Nat.le_of_ble_eq_true rfl⟩) hP hD hS hA [0] rfl rfl (fun r_120 u H locs hq_120 hP hD hS => ?_)
              replace hP : va_P E.1 clA [(ax 5, .inl (E.2 0, 7, .inl (upd er 1 (er 1 + 1)))), (ra, .inl (E.2 2, (nn (sz (nn sheet))), .inl rf)), (rb, .inl (E.2 2, (nn (sz (nn other))), .inl rg))] _ := hP
              replace hD : va_D A [(ax 5, .inl (E.2 0, 7, .inl (upd er 1 (er 1 + 1)))), (ra, .inl (E.2 2, (nn (sz (nn sheet))), .inl rf)), (rb, .inl (E.2 2, (nn (sz (nn other))), .inl rg))] := hD
              replace hq_120 : r_120 = erv 1 := hq_120
              exact hret r_120 ((upd er 1 (er 1 + 1)), rg) (by rw [move_b hin hin2 hnz hkk hbad]; exact ⟨hq_120, rfl, hg⟩) (rfl) hP hD hS (Nat.le_of_ble_eq_true rfl) (Nat.le_of_ble_eq_true rfl) dX0_move_123
            · -- fall 105
              refine lv_iload hx hb dX0_move_105 (lv_at hl 7 rfl) ?_
              refine lv_aload hx hb dX0_move_107 (lv_at hl 0 rfl) ?_
              refine fx_ci (va_runS (As := [.ref rb]) (rest := [.int n_]) X (xX0_sizeOfS l E rb (nn (sz (nn other))) rg _) (va_cwS 1 X.2.2.2.2 (lw_S q813 q814 q69 q815) rfl rfl rfl hdX0_sizeOf ⟨Nat.le_of_ble_eq_true rfl, Nat.le_of_ble_eq_true rfl⟩) (fx_pre hE hP hD hS hR [] rfl rfl (fx_rcm 2 rfl (by decide) fx_rc0)) rfl rfl hl.1 rfl (lv_room (Nat.le_of_ble_eq_true rfl)) dX0_move_109 ⟨Nat.le_of_ble_eq_true rfl, Nat.le_of_ble_eq_true rfl⟩) hP hD hS hA [] rfl rfl (fun r_109 u H locs hq_109 hP hD hS => ?_)
              replace hP : va_P E.1 clA [(ax 5, .inl (E.2 0, 7, .inl er)), (ra, .inl (E.2 2, (nn (sz (nn sheet))), .inl rf)), (rb, .inl (E.2 2, (nn (sz (nn other))), .inl rg))] _ := hP
              replace hD : va_D A [(ax 5, .inl (E.2 0, 7, .inl er)), (ra, .inl (E.2 2, (nn (sz (nn sheet))), .inl rf)), (rb, .inl (E.2 2, (nn (sz (nn other))), .inl rg))] := hD
              replace hq_109 : r_109 = nI (nn (sz (nn other))) := hq_109
              refine fx_ti (show r_109 = nI (nn (sz (nn other))) from hq_109) ?_
              refine lv_iload hx hb dX0_move_112 (lv_at hl 6 rfl) ?_
              refine lv_isub hx hb dX0_move_114 ?_
              refine lv_icmp_le (tgt := 124) hx hb dX0_move_115 (by decide) (fun c_115 => ?_) (fun c_115 => ?_)
              · -- jump 124
                obtain ⟨hok, gm1, gm2⟩ := mvB0 hsz.1 hsz2 hso.1 hso2 c_81 c_85 c_90 (Int32.not_lt.1 c_102) c_115
                have pn := nn_pos (Int32.not_lt.1 c_81)
                have pi := nn_pos (Int32.not_lt.1 c_85)
                have pj := nn_pos (Int32.not_lt.1 c_90)
                refine lv_aload hx hb dX0_move_124 (lv_at hl 1 rfl) ?_
                refine lv_iload_n hx hb dX0_move_126 rfl (lv_at hl 4 rfl) ?_
                refine fx_ti (show i_ = nI (nn i_) from pi.1) ?_
                refine lv_aload hx hb dX0_move_127 (lv_at hl 0 rfl) ?_
                refine lv_iload hx hb dX0_move_129 (lv_at hl 6 rfl) ?_
                refine fx_ti (show j_ = nI (nn j_) from pj.1) ?_
                refine lv_iload hx hb dX0_move_131 (lv_at hl 7 rfl) ?_
                refine fx_ti (show n_ = nI (nn n_) from pn.1) ?_
                refine fx_acpy (ws' := [(ax 5, .inl (E.2 0, 7, .inl er)), (ra, .inl (E.2 2, (nn (sz (nn sheet))), .inl rf)), (rb, .inl (E.2 2, (nn (sz (nn other))), .inl (va_cpy rf rg (nn i_) (nn j_) (nn n_))))]) X hE hl.1 hP hD hS q887 q889 q888 q93 1 2 2 rfl rfl rfl rfl (nn i_) (nn j_) (nn n_) rfl rfl rfl (by omega) (by omega) (by omega) (by omega) (fun i hi => hft _ (by omega)) ⟨Nat.le_of_ble_eq_true rfl, Nat.le_of_ble_eq_true rfl⟩ rfl dX0_move_133 (fun H locs hP hD hS => ?_)
                refine lv_iload hx hb dX0_move_136 (lv_at hl 7 rfl) ?_
                exact hret n_ (er, (va_cpy rf rg (nn i_) (nn j_) (nn n_))) (by rw [move_s hin hin2 hnz hkk hok]; exact ⟨rfl, rfl, row_c hf hg gm1 gm2⟩) (rfl) hP hD hS (Nat.le_of_ble_eq_true rfl) (Nat.le_of_ble_eq_true rfl) dX0_move_138
              · -- fall 118
                have hbad : mvBad sz (nn sheet) (nn other) i_ j_ n_ = true := mvB5 hso.1 hso2 c_81 c_90 (Int32.not_le.1 c_115)
                refine lv_aload_n hx hb dX0_move_118 rfl (lv_at hl 2 rfl) ?_
                refine lv_iconst (v := 1) hx hb dX0_move_119 rfl ?_
                refine fx_ci (va_runV (As := [.int 1]) (rest := []) X (xX0_finds l E ax im bn bm fm ff fl er 1 (by decide) _) (cwV 1 X.2.2.2.2 (lw_V q303 q305 qs0 q69 q306) rfl rfl rfl ⟨rfl, hdX0_finds⟩ ⟨Nat.le_of_ble_eq_true rfl, Nat.le_of_ble_eq_true rfl⟩) (fx_preV (fx_pre hE hP hD hS hR [0] rfl rfl (fx_rcr 0 rfl fx_rc0)) (va_recv hE.1 (hR.at hS) (ci := 0) (q0 := 0) rfl rfl)) rfl rfl hl.1 rfl (lv_room (Nat.le_of_ble_eq_true rfl)) dX0_move_120 ⟨Nat.le_of_ble_eq_true rfl, Nat.le_of_ble_eq_true rfl⟩) hP hD hS hA [0] rfl rfl (fun r_120 u H locs hq_120 hP hD hS => ?_)
                replace hP : va_P E.1 clA [(ax 5, .inl (E.2 0, 7, .inl (upd er 1 (er 1 + 1)))), (ra, .inl (E.2 2, (nn (sz (nn sheet))), .inl rf)), (rb, .inl (E.2 2, (nn (sz (nn other))), .inl rg))] _ := hP
                replace hD : va_D A [(ax 5, .inl (E.2 0, 7, .inl (upd er 1 (er 1 + 1)))), (ra, .inl (E.2 2, (nn (sz (nn sheet))), .inl rf)), (rb, .inl (E.2 2, (nn (sz (nn other))), .inl rg))] := hD
                replace hq_120 : r_120 = erv 1 := hq_120
                exact hret r_120 ((upd er 1 (er 1 + 1)), rg) (by rw [move_b hin hin2 hnz hkk hbad]; exact ⟨hq_120, rfl, hg⟩) (rfl) hP hD hS (Nat.le_of_ble_eq_true rfl) (Nat.le_of_ble_eq_true rfl) dX0_move_123
    · -- False
      subst hr_8
      exact absurd hin2 hb_8
  · -- False
    subst hr_1
    exact absurd hin hb_1
abbrev rxX0_move_SI : Room := { frames := 10, cells := 3, slots := 80, locals := 10400 }
set_option maxHeartbeats 400000 in
set_option maxRecDepth 100000 in
theorem xX0_move_SI (l : Launch) (E : fx_En) (ks : fz_Ks) (ax : Nat → Nat) (im : Int32) (bn : Int32) (bm : Int32) (fm : Int32) (ff : Int32) (fl : Int32) (er : Nat → Int32) (bt : Nat → Int32) (sz : Nat → Int32) (nu : Nat → Int32) (sh : Nat → Option Nat) (PL : va_W) (sheet : Int32) (i_ : Int32) (other : Int32) (j_ : Int32) (n_ : Int32) (ra : Nat) (rf : Nat → Int32) (rb : Nat) (rg : Nat → Int32) (hst : l.stackTraces = false) (hIS : InvS bt sz) (hin : inB sheet 0 3 = true) (hin2 : inB other 0 3 = true) (hs0 : sh (nn sheet) = some ra) (hs1 : sh (nn other) = some rb) (hb0 : bt (nn sheet) = 16) (hb1 : bt (nn other) = 32) (hf : ∀ t, t < nn (sz (nn sheet)) → rf t = nu (24 * nn sheet + t)) (hg : ∀ t, t < nn (sz (nn other)) → rg t = nu (24 * nn other + t)) : fz_Hi l yX0_move cX0_move 9 [((58 : Nat), (68 : Nat), (71 : Nat), (354 : Nat))] .int rxX0_move_SI E ks [.ref (ax 19), .int sheet, .int i_, .int other, .int j_, .int n_] [(ax 5, .inl (E.2 0, 7, .inl er)), (ra, .inl (E.2 2, (nn (sz (nn sheet))), .inl rf)), (rb, .inl (E.2 0, (nn (sz (nn other))), .inl rg))] ([(ax 19, .inr (0, [.ref (ax 0), .ref (ax 1), .ref (ax 35), .ref (ax 55), .ref (ax 4), .ref (ax 5), .ref (ax 6), .ref (ax 7), .int im, .ref (ax 9), .ref (ax 10), .ref (ax 11), .ref (ax 12), .ref (ax 13), .int bn, .int bm, .int fm, .int ff, .int fl])), (ax 6, .inl (E.2 3, 4, .inr (.inr (.inr (.inr (fun i_ => some (ax (64 + i_)))))))), (ax 64, .inr (2, [va_rf (sh 0)])), (ax 65, .inr (2, [va_rf (sh 1)])), (ax 66, .inr (2, [va_rf (sh 2)])), (ax 67, .inr (2, [va_rf (sh 3)]))] ++ PL) (S := (Nat → Int32) × (Nat → Int32)) (fun (u : (Nat → Int32) × (Nat → Int32)) => [(ax 5, .inl (E.2 0, 7, .inl u.1)), (ra, .inl (E.2 2, (nn (sz (nn sheet))), .inl rf)), (rb, .inl (E.2 0, (nn (sz (nn other))), .inl u.2))]) (fun (r : Int32) (u : (Nat → Int32) × (Nat → Int32)) => r = (move_ bt sz nu er sheet i_ other j_ n_).1 ∧ u.1 = (move_ bt sz nu er sheet i_ other j_ n_).2.2 ∧ ∀ t, t < nn (sz (nn other)) → u.2 t = (move_ bt sz nu er sheet i_ other j_ n_).2.1 (24 * nn other + t)) := by
  refine fz_hW rfl rfl ?_
  intro p e s m args below meth c A ls Q X htab hlocks hE hP hD hR hZ hA hl hret
  have hx := X.1
  have hb := X.2.1
  have hS : va_S A s.heap s.heap [] := va_S.rf
  replace hP : va_P E.1 clA [(ax 5, .inl (E.2 0, 7, .inl er)), (ra, .inl (E.2 2, (nn (sz (nn sheet))), .inl rf)), (rb, .inl (E.2 0, (nn (sz (nn other))), .inl rg))] _ := hP
  replace hD : va_D A [(ax 5, .inl (E.2 0, 7, .inl er)), (ra, .inl (E.2 2, (nn (sz (nn sheet))), .inl rf)), (rb, .inl (E.2 0, (nn (sz (nn other))), .inl rg))] := hD
  replace hl : lv_has ls 9 [(0, .ref (ax 19)), (1, .int sheet), (2, .int i_), (3, .int other), (4, .int j_), (5, .int n_)] := hl
  have hnz : ¬ (bt (nn sheet) = 0 ∨ bt (nn other) = 0) := by rw [hb0, hb1]; decide
  have hkk : ¬ bt (nn sheet) = bt (nn other) := by rw [hb0, hb1]; decide
  refine lv_iload_n hx hb dX0_move_0 rfl (lv_at hl 1 rfl) ?_
  refine fx_ci (va_runS (As := [.int sheet]) (rest := []) X (xX0_isSheet l E sheet _) (va_cwS 1 X.2.2.2.2 (lw_S q806 q807 q69 q808) rfl rfl rfl hdX0_isSheet ⟨Nat.le_of_ble_eq_true rfl, Nat.le_of_ble_eq_true rfl⟩) (fx_pre hE hP hD hS hR [] rfl rfl fx_rc0) rfl rfl hl.1 rfl (lv_room (Nat.le_of_ble_eq_true rfl)) dX0_move_1 ⟨Nat.le_of_ble_eq_true rfl, Nat.le_of_ble_eq_true rfl⟩) hP hD hS hA [] rfl rfl (fun r_1 u H locs hq_1 hP hD hS => ?_)
  replace hP : va_P E.1 clA [(ax 5, .inl (E.2 0, 7, .inl er)), (ra, .inl (E.2 2, (nn (sz (nn sheet))), .inl rf)), (rb, .inl (E.2 0, (nn (sz (nn other))), .inl rg))] _ := hP
  replace hD : va_D A [(ax 5, .inl (E.2 0, 7, .inl er)), (ra, .inl (E.2 2, (nn (sz (nn sheet))), .inl rf)), (rb, .inl (E.2 0, (nn (sz (nn other))), .inl rg))] := hD
  replace hq_1 : r_1 = fx_b (inB sheet 0 3 = true) := hq_1
  rcases fx_bc hq_1 with ⟨hb_1, hr_1⟩ | ⟨hb_1, hr_1⟩
  · -- True
    subst hr_1
    refine lv_if_eq (tgt := 14) hx hb dX0_move_4 (by decide) (fun c => absurd c (by decide)) (fun _ => ?_)
    refine lv_iload_n hx hb dX0_move_7 rfl (lv_at hl 3 rfl) ?_
    refine fx_ci (va_runS (As := [.int other]) (rest := []) X (xX0_isSheet l E other _) (va_cwS 1 X.2.2.2.2 (lw_S q806 q807 q69 q808) rfl rfl rfl hdX0_isSheet ⟨Nat.le_of_ble_eq_true rfl, Nat.le_of_ble_eq_true rfl⟩) (fx_pre hE hP hD hS hR [] rfl rfl fx_rc0) rfl rfl hl.1 rfl (lv_room (Nat.le_of_ble_eq_true rfl)) dX0_move_8 ⟨Nat.le_of_ble_eq_true rfl, Nat.le_of_ble_eq_true rfl⟩) hP hD hS hA [] rfl rfl (fun r_8 u H locs hq_8 hP hD hS => ?_)
    replace hP : va_P E.1 clA [(ax 5, .inl (E.2 0, 7, .inl er)), (ra, .inl (E.2 2, (nn (sz (nn sheet))), .inl rf)), (rb, .inl (E.2 0, (nn (sz (nn other))), .inl rg))] _ := hP
    replace hD : va_D A [(ax 5, .inl (E.2 0, 7, .inl er)), (ra, .inl (E.2 2, (nn (sz (nn sheet))), .inl rf)), (rb, .inl (E.2 0, (nn (sz (nn other))), .inl rg))] := hD
    replace hq_8 : r_8 = fx_b (inB other 0 3 = true) := hq_8
    rcases fx_bc hq_8 with ⟨hb_8, hr_8⟩ | ⟨hb_8, hr_8⟩
    · -- True
      subst hr_8
      refine lv_if_ne (tgt := 20) hx hb dX0_move_11 (by decide) (fun _ => ?_) (fun c => absurd c (by decide))
      have gs := inB_nn (n := 3) hin (by omega)
      have gs1 : nn sheet < 4 := by omega
      have go := inB_nn (n := 3) hin2 (by omega)
      have go1 : nn other < 4 := by omega
      have hsh : ((ax (64 + nn sheet), .inr (2, [va_rf (sh (nn sheet))])) : Nat × va_E) ∈ ([(ax 19, .inr (0, [.ref (ax 0), .ref (ax 1), .ref (ax 35), .ref (ax 55), .ref (ax 4), .ref (ax 5), .ref (ax 6), .ref (ax 7), .int im, .ref (ax 9), .ref (ax 10), .ref (ax 11), .ref (ax 12), .ref (ax 13), .int bn, .int bm, .int fm, .int ff, .int fl])), (ax 6, .inl (E.2 3, 4, .inr (.inr (.inr (.inr (fun i_ => some (ax (64 + i_)))))))), (ax 64, .inr (2, [va_rf (sh 0)])), (ax 65, .inr (2, [va_rf (sh 1)])), (ax 66, .inr (2, [va_rf (sh 2)])), (ax 67, .inr (2, [va_rf (sh 3)]))] ++ PL) := by rcases (show nn sheet = 0 ∨ nn sheet = 1 ∨ nn sheet = 2 ∨ nn sheet = 3 by omega) with h | h | h | h <;> rw [h] <;> first | exact List.mem_of_getElem? (i := 2) rfl | exact List.mem_of_getElem? (i := 3) rfl | exact List.mem_of_getElem? (i := 4) rfl | exact List.mem_of_getElem? (i := 5) rfl
      have hso_ : ((ax (64 + nn other), .inr (2, [va_rf (sh (nn other))])) : Nat × va_E) ∈ ([(ax 19, .inr (0, [.ref (ax 0), .ref (ax 1), .ref (ax 35), .ref (ax 55), .ref (ax 4), .ref (ax 5), .ref (ax 6), .ref (ax 7), .int im, .ref (ax 9), .ref (ax 10), .ref (ax 11), .ref (ax 12), .ref (ax 13), .int bn, .int bm, .int fm, .int ff, .int fl])), (ax 6, .inl (E.2 3, 4, .inr (.inr (.inr (.inr (fun i_ => some (ax (64 + i_)))))))), (ax 64, .inr (2, [va_rf (sh 0)])), (ax 65, .inr (2, [va_rf (sh 1)])), (ax 66, .inr (2, [va_rf (sh 2)])), (ax 67, .inr (2, [va_rf (sh 3)]))] ++ PL) := by rcases (show nn other = 0 ∨ nn other = 1 ∨ nn other = 2 ∨ nn other = 3 by omega) with h | h | h | h <;> rw [h] <;> first | exact List.mem_of_getElem? (i := 2) rfl | exact List.mem_of_getElem? (i := 3) rfl | exact List.mem_of_getElem? (i := 4) rfl | exact List.mem_of_getElem? (i := 5) rfl
      have hsz := hIS.sz gs1
      have hsz2 := hsz.2
      have hso := hIS.sz go1
      have hso2 := hso.2
      refine lv_aload_n hx hb dX0_move_20 rfl (lv_at hl 0 rfl) ?_
      refine fx_get X hE (hR.at hS) 0 rfl rfl 6 rfl q241 rfl rfl dX0_move_21 ?_
      refine lv_iload_n hx hb dX0_move_24 rfl (lv_at hl 1 rfl) ?_
      refine fx_ti (show sheet = nI (nn sheet) from gs.1) ?_
      refine fx_aald X hE (hR.at hS) 1 3 rfl rfl (nn sheet) rfl (by omega) rfl (r := some (ax (64 + nn sheet))) (rfl) dX0_move_25 ?_
      refine fx_getN X hE (fx_one (hR.at hS) hsh) 0 rfl rfl 0 rfl 2 rfl rfl rfl dX0_move_26 ?_
      rw [hs0]
      refine lv_astore (lv' := [(6, .ref ra), (0, .ref (ax 19)), (1, .int sheet), (2, .int i_), (3, .int other), (4, .int j_), (5, .int n_)]) hx hb dX0_move_29 hl (by decide) rfl (fun ls hl => ?_)
      refine lv_aload_n hx hb dX0_move_31 rfl (lv_at hl 1 rfl) ?_
      refine fx_get X hE (hR.at hS) 0 rfl rfl 6 rfl q241 rfl rfl dX0_move_32 ?_
      refine lv_iload_n hx hb dX0_move_35 rfl (lv_at hl 4 rfl) ?_
      refine fx_ti (show other = nI (nn other) from go.1) ?_
      refine fx_aald X hE (hR.at hS) 1 3 rfl rfl (nn other) rfl (by omega) rfl (r := some (ax (64 + nn other))) (rfl) dX0_move_36 ?_
      refine fx_getN X hE (fx_one (hR.at hS) hso_) 0 rfl rfl 0 rfl 2 rfl rfl rfl dX0_move_37 ?_
      rw [hs1]
      refine lv_astore (lv' := [(7, .ref rb), (6, .ref ra), (0, .ref (ax 19)), (1, .int sheet), (2, .int i_), (3, .int other), (4, .int j_), (5, .int n_)]) hx hb dX0_move_40 hl (by decide) rfl (fun ls hl => ?_)
      refine lv_aload hx hb dX0_move_42 (lv_at hl 1 rfl) ?_
      refine lv_ifnull hx hb dX0_move_44 ?_
      refine lv_aload hx hb dX0_move_47 (lv_at hl 0 rfl) ?_
      refine lv_ifnonnull (tgt := 58) hx hb dX0_move_49 (by decide) ?_
      refine lv_aload hx hb dX0_move_58 (lv_at hl 1 rfl) ?_
      refine lv_iconst (v := 0) hx hb dX0_move_60 rfl ?_
      refine lv_aload hx hb dX0_move_61 (lv_at hl 0 rfl) ?_
      refine lv_iconst (v := 0) hx hb dX0_move_63 rfl ?_
      refine lv_iconst (v := 0) hx hb dX0_move_64 rfl ?_
      refine fn_acpyZ X hE hst hZ hP hS hl.1 q887 q889 q888 q93 1 2 2 0 rfl rfl rfl rfl rfl (text := "arraycopy: type mismatch: can not copy short[] into int[]") (by decide +kernel) (nb := 70) (by decide +kernel) (by decide +kernel) (by decide) (Nat.le_of_ble_eq_true rfl) (Nat.le_of_ble_eq_true rfl) (Nat.le_of_ble_eq_true rfl) (Nat.le_of_ble_eq_true rfl) dX0_move_65 (fun H1 q9 ce hP hS hce hcv hcl => ?_)
      refine vx_catch X.2.2.2.1 [] ⟨58, 68, 71, 354⟩ _ (htab.trans rfl) (fun _ h => nomatch h) rfl (by decide) (X.2.2.2.2 _ q1111) (va_tabs rfl rfl (hE.2.1 _ (List.mem_of_getElem? (i := 51) rfl))) hce hcv hcl ?_
      refine lv_astore (lv' := [(8, .ref q9), (7, .ref rb), (6, .ref ra), (0, .ref (ax 19)), (1, .int sheet), (2, .int i_), (3, .int other), (4, .int j_), (5, .int n_)]) hx hb dX0_move_71 hl (by decide) rfl (fun ls hl => ?_)
      refine lv_aload_n hx hb dX0_move_73 rfl (lv_at hl 3 rfl) ?_
      refine lv_iconst (v := 5) hx hb dX0_move_74 rfl ?_
      refine fx_ci (va_runV (As := [.int 5]) (rest := []) X (xX0_finds l E ax im bn bm fm ff fl er 5 (by decide) _) (cwV 1 X.2.2.2.2 (lw_V q303 q305 qs0 q69 q306) rfl rfl rfl ⟨rfl, hdX0_finds⟩ ⟨Nat.le_of_ble_eq_true rfl, Nat.le_of_ble_eq_true rfl⟩) (fx_preV (fx_pre hE hP hD hS hR [0] rfl rfl (fx_rcr 0 rfl fx_rc0)) (va_recv hE.1 (hR.at hS) (ci := 0) (q0 := 0) rfl rfl)) rfl rfl hl.1 rfl (lv_room (Nat.le_of_ble_eq_true rfl)) dX0_move_75 ⟨Nat.le_refl _, Nat.le_refl _⟩) hP hD hS hA [0] rfl rfl (fun r_75 u H locs hq_75 hP hD hS => ?_)
      replace hP : va_P E.1 clA [(ax 5, .inl (E.2 0, 7, .inl (upd er 5 (er 5 + 1)))), (ra, .inl (E.2 2, (nn (sz (nn sheet))), .inl rf)), (rb, .inl (E.2 0, (nn (sz (nn other))), .inl rg))] _ := hP
      replace hD : va_D A [(ax 5, .inl (E.2 0, 7, .inl (upd er 5 (er 5 + 1)))), (ra, .inl (E.2 2, (nn (sz (nn sheet))), .inl rf)), (rb, .inl (E.2 0, (nn (sz (nn other))), .inl rg))] := hD
      replace hq_75 : r_75 = erv 5 := hq_75
      exact hret r_75 ((upd er 5 (er 5 + 1)), rg) (by rw [move_k hin hin2 hnz hkk]; exact ⟨hq_75, rfl, hg⟩) (rfl) hP hD hS (Nat.le_refl _) (Nat.le_refl _) dX0_move_78
    · -- False
      subst hr_8
      exact absurd hin2 hb_8
  · -- False
    subst hr_1
    exact absurd hin hb_1
abbrev rxX0_move_SX : Room := { frames := 10, cells := 3, slots := 80, locals := 10400 }
set_option maxHeartbeats 400000 in
set_option maxRecDepth 100000 in
theorem xX0_move_SX (l : Launch) (E : fx_En) (ks : fz_Ks) (ax : Nat → Nat) (im : Int32) (bn : Int32) (bm : Int32) (fm : Int32) (ff : Int32) (fl : Int32) (er : Nat → Int32) (bt : Nat → Int32) (sz : Nat → Int32) (nu : Nat → Int32) (sh : Nat → Option Nat) (PL : va_W) (sheet : Int32) (i_ : Int32) (other : Int32) (j_ : Int32) (n_ : Int32) (ra : Nat) (rf : Nat → Int32) (hst : l.stackTraces = false) (hIS : InvS bt sz) (hin : inB sheet 0 3 = true) (hin2 : inB other 0 3 = true) (hs0 : sh (nn sheet) = some ra) (hs1 : sh (nn other) = some ra) (hb0 : bt (nn sheet) = 16) (hb1 : bt (nn other) = 16) (hf : ∀ t, t < nn (sz (nn sheet)) → rf t = nu (24 * nn sheet + t)) (hg : ∀ t, t < nn (sz (nn sheet)) → rf t = nu (24 * nn other + t)) (hns : nn (sz (nn other)) = nn (sz (nn sheet))) (hft : ∀ t, t < nn (sz (nn sheet)) → fits .short (.int (rf t)) = true) : fz_Hi l yX0_move cX0_move 9 [((58 : Nat), (68 : Nat), (71 : Nat), (354 : Nat))] .int rxX0_move_SX E ks [.ref (ax 19), .int sheet, .int i_, .int other, .int j_, .int n_] [(ax 5, .inl (E.2 0, 7, .inl er)), (ra, .inl (E.2 2, (nn (sz (nn sheet))), .inl rf))] ([(ax 19, .inr (0, [.ref (ax 0), .ref (ax 1), .ref (ax 35), .ref (ax 55), .ref (ax 4), .ref (ax 5), .ref (ax 6), .ref (ax 7), .int im, .ref (ax 9), .ref (ax 10), .ref (ax 11), .ref (ax 12), .ref (ax 13), .int bn, .int bm, .int fm, .int ff, .int fl])), (ax 6, .inl (E.2 3, 4, .inr (.inr (.inr (.inr (fun i_ => some (ax (64 + i_)))))))), (ax 64, .inr (2, [va_rf (sh 0)])), (ax 65, .inr (2, [va_rf (sh 1)])), (ax 66, .inr (2, [va_rf (sh 2)])), (ax 67, .inr (2, [va_rf (sh 3)]))] ++ PL) (S := (Nat → Int32) × (Nat → Int32)) (fun (u : (Nat → Int32) × (Nat → Int32)) => [(ax 5, .inl (E.2 0, 7, .inl u.1)), (ra, .inl (E.2 2, (nn (sz (nn sheet))), .inl u.2))]) (fun (r : Int32) (u : (Nat → Int32) × (Nat → Int32)) => r = (move_ bt sz nu er sheet i_ other j_ n_).1 ∧ u.1 = (move_ bt sz nu er sheet i_ other j_ n_).2.2 ∧ ∀ t, t < nn (sz (nn sheet)) → u.2 t = (move_ bt sz nu er sheet i_ other j_ n_).2.1 (24 * nn other + t)) := by
  refine fz_hW rfl rfl ?_
  intro p e s m args below meth c A ls Q X htab hlocks hE hP hD hR hZ hA hl hret
  have hx := X.1
  have hb := X.2.1
  have hS : va_S A s.heap s.heap [] := va_S.rf
  replace hP : va_P E.1 clA [(ax 5, .inl (E.2 0, 7, .inl er)), (ra, .inl (E.2 2, (nn (sz (nn sheet))), .inl rf))] _ := hP
  replace hD : va_D A [(ax 5, .inl (E.2 0, 7, .inl er)), (ra, .inl (E.2 2, (nn (sz (nn sheet))), .inl rf))] := hD
  replace hl : lv_has ls 9 [(0, .ref (ax 19)), (1, .int sheet), (2, .int i_), (3, .int other), (4, .int j_), (5, .int n_)] := hl
  have hnz : ¬ (bt (nn sheet) = 0 ∨ bt (nn other) = 0) := by rw [hb0, hb1]; decide
  have hkk : bt (nn sheet) = bt (nn other) := by rw [hb0, hb1]
  refine lv_iload_n hx hb dX0_move_0 rfl (lv_at hl 1 rfl) ?_
  refine fx_ci (va_runS (As := [.int sheet]) (rest := []) X (xX0_isSheet l E sheet _) (va_cwS 1 X.2.2.2.2 (lw_S q806 q807 q69 q808) rfl rfl rfl hdX0_isSheet ⟨Nat.le_of_ble_eq_true rfl, Nat.le_of_ble_eq_true rfl⟩) (fx_pre hE hP hD hS hR [] rfl rfl fx_rc0) rfl rfl hl.1 rfl (lv_room (Nat.le_of_ble_eq_true rfl)) dX0_move_1 ⟨Nat.le_of_ble_eq_true rfl, Nat.le_of_ble_eq_true rfl⟩) hP hD hS hA [] rfl rfl (fun r_1 u H locs hq_1 hP hD hS => ?_)
  replace hP : va_P E.1 clA [(ax 5, .inl (E.2 0, 7, .inl er)), (ra, .inl (E.2 2, (nn (sz (nn sheet))), .inl rf))] _ := hP
  replace hD : va_D A [(ax 5, .inl (E.2 0, 7, .inl er)), (ra, .inl (E.2 2, (nn (sz (nn sheet))), .inl rf))] := hD
  replace hq_1 : r_1 = fx_b (inB sheet 0 3 = true) := hq_1
  rcases fx_bc hq_1 with ⟨hb_1, hr_1⟩ | ⟨hb_1, hr_1⟩
  · -- True
    subst hr_1
    refine lv_if_eq (tgt := 14) hx hb dX0_move_4 (by decide) (fun c => absurd c (by decide)) (fun _ => ?_)
    refine lv_iload_n hx hb dX0_move_7 rfl (lv_at hl 3 rfl) ?_
    refine fx_ci (va_runS (As := [.int other]) (rest := []) X (xX0_isSheet l E other _) (va_cwS 1 X.2.2.2.2 (lw_S q806 q807 q69 q808) rfl rfl rfl hdX0_isSheet ⟨Nat.le_of_ble_eq_true rfl, Nat.le_of_ble_eq_true rfl⟩) (fx_pre hE hP hD hS hR [] rfl rfl fx_rc0) rfl rfl hl.1 rfl (lv_room (Nat.le_of_ble_eq_true rfl)) dX0_move_8 ⟨Nat.le_of_ble_eq_true rfl, Nat.le_of_ble_eq_true rfl⟩) hP hD hS hA [] rfl rfl (fun r_8 u H locs hq_8 hP hD hS => ?_)
    replace hP : va_P E.1 clA [(ax 5, .inl (E.2 0, 7, .inl er)), (ra, .inl (E.2 2, (nn (sz (nn sheet))), .inl rf))] _ := hP
    replace hD : va_D A [(ax 5, .inl (E.2 0, 7, .inl er)), (ra, .inl (E.2 2, (nn (sz (nn sheet))), .inl rf))] := hD
    replace hq_8 : r_8 = fx_b (inB other 0 3 = true) := hq_8
    rcases fx_bc hq_8 with ⟨hb_8, hr_8⟩ | ⟨hb_8, hr_8⟩
    · -- True
      subst hr_8
      refine lv_if_ne (tgt := 20) hx hb dX0_move_11 (by decide) (fun _ => ?_) (fun c => absurd c (by decide))
      have gs := inB_nn (n := 3) hin (by omega)
      have gs1 : nn sheet < 4 := by omega
      have go := inB_nn (n := 3) hin2 (by omega)
      have go1 : nn other < 4 := by omega
      have hsh : ((ax (64 + nn sheet), .inr (2, [va_rf (sh (nn sheet))])) : Nat × va_E) ∈ ([(ax 19, .inr (0, [.ref (ax 0), .ref (ax 1), .ref (ax 35), .ref (ax 55), .ref (ax 4), .ref (ax 5), .ref (ax 6), .ref (ax 7), .int im, .ref (ax 9), .ref (ax 10), .ref (ax 11), .ref (ax 12), .ref (ax 13), .int bn, .int bm, .int fm, .int ff, .int fl])), (ax 6, .inl (E.2 3, 4, .inr (.inr (.inr (.inr (fun i_ => some (ax (64 + i_)))))))), (ax 64, .inr (2, [va_rf (sh 0)])), (ax 65, .inr (2, [va_rf (sh 1)])), (ax 66, .inr (2, [va_rf (sh 2)])), (ax 67, .inr (2, [va_rf (sh 3)]))] ++ PL) := by rcases (show nn sheet = 0 ∨ nn sheet = 1 ∨ nn sheet = 2 ∨ nn sheet = 3 by omega) with h | h | h | h <;> rw [h] <;> first | exact List.mem_of_getElem? (i := 2) rfl | exact List.mem_of_getElem? (i := 3) rfl | exact List.mem_of_getElem? (i := 4) rfl | exact List.mem_of_getElem? (i := 5) rfl
      have hso_ : ((ax (64 + nn other), .inr (2, [va_rf (sh (nn other))])) : Nat × va_E) ∈ ([(ax 19, .inr (0, [.ref (ax 0), .ref (ax 1), .ref (ax 35), .ref (ax 55), .ref (ax 4), .ref (ax 5), .ref (ax 6), .ref (ax 7), .int im, .ref (ax 9), .ref (ax 10), .ref (ax 11), .ref (ax 12), .ref (ax 13), .int bn, .int bm, .int fm, .int ff, .int fl])), (ax 6, .inl (E.2 3, 4, .inr (.inr (.inr (.inr (fun i_ => some (ax (64 + i_)))))))), (ax 64, .inr (2, [va_rf (sh 0)])), (ax 65, .inr (2, [va_rf (sh 1)])), (ax 66, .inr (2, [va_rf (sh 2)])), (ax 67, .inr (2, [va_rf (sh 3)]))] ++ PL) := by rcases (show nn other = 0 ∨ nn other = 1 ∨ nn other = 2 ∨ nn other = 3 by omega) with h | h | h | h <;> rw [h] <;> first | exact List.mem_of_getElem? (i := 2) rfl | exact List.mem_of_getElem? (i := 3) rfl | exact List.mem_of_getElem? (i := 4) rfl | exact List.mem_of_getElem? (i := 5) rfl
      have hsz := hIS.sz gs1
      have hsz2 := hsz.2
      have hso : sz (nn other) = nI (nn (sz (nn sheet))) ∧ nn (sz (nn sheet)) ≤ 24 := ⟨(hIS.sz go1).1.trans (congrArg nI hns), hsz2⟩
      have hso2 := hso.2
      refine lv_aload_n hx hb dX0_move_20 rfl (lv_at hl 0 rfl) ?_
      refine fx_get X hE (hR.at hS) 0 rfl rfl 6 rfl q241 rfl rfl dX0_move_21 ?_
      refine lv_iload_n hx hb dX0_move_24 rfl (lv_at hl 1 rfl) ?_
      refine fx_ti (show sheet = nI (nn sheet) from gs.1) ?_
      refine fx_aald X hE (hR.at hS) 1 3 rfl rfl (nn sheet) rfl (by omega) rfl (r := some (ax (64 + nn sheet))) (rfl) dX0_move_25 ?_
      refine fx_getN X hE (fx_one (hR.at hS) hsh) 0 rfl rfl 0 rfl 2 rfl rfl rfl dX0_move_26 ?_
      rw [hs0]
      refine lv_astore (lv' := [(6, .ref ra), (0, .ref (ax 19)), (1, .int sheet), (2, .int i_), (3, .int other), (4, .int j_), (5, .int n_)]) hx hb dX0_move_29 hl (by decide) rfl (fun ls hl => ?_)
      refine lv_aload_n hx hb dX0_move_31 rfl (lv_at hl 1 rfl) ?_
      refine fx_get X hE (hR.at hS) 0 rfl rfl 6 rfl q241 rfl rfl dX0_move_32 ?_
      refine lv_iload_n hx hb dX0_move_35 rfl (lv_at hl 4 rfl) ?_
      refine fx_ti (show other = nI (nn other) from go.1) ?_
      refine fx_aald X hE (hR.at hS) 1 3 rfl rfl (nn other) rfl (by omega) rfl (r := some (ax (64 + nn other))) (rfl) dX0_move_36 ?_
      refine fx_getN X hE (fx_one (hR.at hS) hso_) 0 rfl rfl 0 rfl 2 rfl rfl rfl dX0_move_37 ?_
      rw [hs1]
      refine lv_astore (lv' := [(7, .ref ra), (6, .ref ra), (0, .ref (ax 19)), (1, .int sheet), (2, .int i_), (3, .int other), (4, .int j_), (5, .int n_)]) hx hb dX0_move_40 hl (by decide) rfl (fun ls hl => ?_)
      refine lv_aload hx hb dX0_move_42 (lv_at hl 1 rfl) ?_
      refine lv_ifnull hx hb dX0_move_44 ?_
      refine lv_aload hx hb dX0_move_47 (lv_at hl 0 rfl) ?_
      refine lv_ifnonnull (tgt := 58) hx hb dX0_move_49 (by decide) ?_
      refine lv_aload hx hb dX0_move_58 (lv_at hl 1 rfl) ?_
      refine lv_iconst (v := 0) hx hb dX0_move_60 rfl ?_
      refine lv_aload hx hb dX0_move_61 (lv_at hl 0 rfl) ?_
      refine lv_iconst (v := 0) hx hb dX0_move_63 rfl ?_
      refine lv_iconst (v := 0) hx hb dX0_move_64 rfl ?_
      refine fx_acpy (ws' := [(ax 5, .inl (E.2 0, 7, .inl er)), (ra, .inl (E.2 2, (nn (sz (nn sheet))), .inl (va_cpy rf rf 0 0 0)))]) X hE hl.1 hP hD hS q887 q889 q888 q93 1 1 2 rfl rfl rfl rfl 0 0 0 rfl rfl rfl (by omega) (by omega) (by omega) (by omega) (fun i hi => absurd hi (Nat.not_lt_zero _)) ⟨Nat.le_of_ble_eq_true rfl, Nat.le_of_ble_eq_true rfl⟩ rfl dX0_move_65 (fun H locs hP hD hS => ?_)
      have eW1 : (va_cpy rf rf 0 0 0) = rf := cpy_0 _ _ _ _
      rw [eW1] at hP hD
      refine lv_goto (tgt := 79) hx hb dX0_move_68 (by decide) ?_
      refine lv_iload hx hb dX0_move_79 (lv_at hl 7 rfl) ?_
      refine lv_if_lt (tgt := 118) hx hb dX0_move_81 (by decide) (fun c_81 => ?_) (fun c_81 => ?_)
      · -- jump 118
        have hbad : mvBad sz (nn sheet) (nn other) i_ j_ n_ = true := mvB1 c_81
        refine lv_aload_n hx hb dX0_move_118 rfl (lv_at hl 2 rfl) ?_
        refine lv_iconst (v := 1) hx hb dX0_move_119 rfl ?_
        refine fx_ci (va_runV (As := [.int 1]) (rest := []) X (xX0_finds l E ax im bn bm fm ff fl er 1 (by decide) _) (cwV 1 X.2.2.2.2 (lw_V q303 q305 qs0 q69 q306) rfl rfl rfl ⟨rfl, hdX0_finds⟩ ⟨Nat.le_of_ble_eq_true rfl, Nat.le_of_ble_eq_true rfl⟩) (fx_preV (fx_pre hE hP hD hS hR [0] rfl rfl (fx_rcr 0 rfl fx_rc0)) (va_recv hE.1 (hR.at hS) (ci := 0) (q0 := 0) rfl rfl)) rfl rfl hl.1 rfl (lv_room (Nat.le_of_ble_eq_true rfl)) dX0_move_120 ⟨Nat.le_of_ble_eq_true rfl, Nat.le_of_ble_eq_true rfl⟩) hP hD hS hA [0] rfl rfl (fun r_120 u H locs hq_120 hP hD hS => ?_)
        replace hP : va_P E.1 clA [(ax 5, .inl (E.2 0, 7, .inl (upd er 1 (er 1 + 1)))), (ra, .inl (E.2 2, (nn (sz (nn sheet))), .inl rf))] _ := hP
        replace hD : va_D A [(ax 5, .inl (E.2 0, 7, .inl (upd er 1 (er 1 + 1)))), (ra, .inl (E.2 2, (nn (sz (nn sheet))), .inl rf))] := hD
        replace hq_120 : r_120 = erv 1 := hq_120
        exact hret r_120 ((upd er 1 (er 1 + 1)), rf) (by rw [move_b hin hin2 hnz hkk hbad]; exact ⟨hq_120, rfl, hg⟩) (rfl) hP hD hS (Nat.le_of_ble_eq_true rfl) (Nat.le_of_ble_eq_true rfl) dX0_move_123
      · -- fall 84
        refine lv_iload_n hx hb dX0_move_84 rfl (lv_at hl 4 rfl) ?_
        refine lv_if_lt (tgt := 118) hx hb dX0_move_85 (by decide) (fun c_85 => ?_) (fun c_85 => ?_)
        · -- jump 118
          have hbad : mvBad sz (nn sheet) (nn other) i_ j_ n_ = true := mvB2 c_85
          refine lv_aload_n hx hb dX0_move_118 rfl (lv_at hl 2 rfl) ?_
          refine lv_iconst (v := 1) hx hb dX0_move_119 rfl ?_
          refine fx_ci (va_runV (As := [.int 1]) (rest := []) X (xX0_finds l E ax im bn bm fm ff fl er 1 (by decide) _) (cwV 1 X.2.2.2.2 (lw_V q303 q305 qs0 q69 q306) rfl rfl rfl ⟨rfl, hdX0_finds⟩ ⟨Nat.le_of_ble_eq_true rfl, Nat.le_of_ble_eq_true rfl⟩) (fx_preV (fx_pre hE hP hD hS hR [0] rfl rfl (fx_rcr 0 rfl fx_rc0)) (va_recv hE.1 (hR.at hS) (ci := 0) (q0 := 0) rfl rfl)) rfl rfl hl.1 rfl (lv_room (Nat.le_of_ble_eq_true rfl)) dX0_move_120 ⟨Nat.le_of_ble_eq_true rfl, Nat.le_of_ble_eq_true rfl⟩) hP hD hS hA [0] rfl rfl (fun r_120 u H locs hq_120 hP hD hS => ?_)
          replace hP : va_P E.1 clA [(ax 5, .inl (E.2 0, 7, .inl (upd er 1 (er 1 + 1)))), (ra, .inl (E.2 2, (nn (sz (nn sheet))), .inl rf))] _ := hP
          replace hD : va_D A [(ax 5, .inl (E.2 0, 7, .inl (upd er 1 (er 1 + 1)))), (ra, .inl (E.2 2, (nn (sz (nn sheet))), .inl rf))] := hD
          replace hq_120 : r_120 = erv 1 := hq_120
          exact hret r_120 ((upd er 1 (er 1 + 1)), rf) (by rw [move_b hin hin2 hnz hkk hbad]; exact ⟨hq_120, rfl, hg⟩) (rfl) hP hD hS (Nat.le_of_ble_eq_true rfl) (Nat.le_of_ble_eq_true rfl) dX0_move_123
        · -- fall 88
          refine lv_iload hx hb dX0_move_88 (lv_at hl 6 rfl) ?_
          refine lv_if_lt (tgt := 118) hx hb dX0_move_90 (by decide) (fun c_90 => ?_) (fun c_90 => ?_)
          · -- jump 118
            have hbad : mvBad sz (nn sheet) (nn other) i_ j_ n_ = true := mvB3 c_90
            refine lv_aload_n hx hb dX0_move_118 rfl (lv_at hl 2 rfl) ?_
            refine lv_iconst (v := 1) hx hb dX0_move_119 rfl ?_
            refine fx_ci (va_runV (As := [.int 1]) (rest := []) X (xX0_finds l E ax im bn bm fm ff fl er 1 (by decide) _) (cwV 1 X.2.2.2.2 (lw_V q303 q305 qs0 q69 q306) rfl rfl rfl ⟨rfl, hdX0_finds⟩ ⟨Nat.le_of_ble_eq_true rfl, Nat.le_of_ble_eq_true rfl⟩) (fx_preV (fx_pre hE hP hD hS hR [0] rfl rfl (fx_rcr 0 rfl fx_rc0)) (va_recv hE.1 (hR.at hS) (ci := 0) (q0 := 0) rfl rfl)) rfl rfl hl.1 rfl (lv_room (Nat.le_of_ble_eq_true rfl)) dX0_move_120 ⟨Nat.le_of_ble_eq_true rfl, Nat.le_of_ble_eq_true rfl⟩) hP hD hS hA [0] rfl rfl (fun r_120 u H locs hq_120 hP hD hS => ?_)
            replace hP : va_P E.1 clA [(ax 5, .inl (E.2 0, 7, .inl (upd er 1 (er 1 + 1)))), (ra, .inl (E.2 2, (nn (sz (nn sheet))), .inl rf))] _ := hP
            replace hD : va_D A [(ax 5, .inl (E.2 0, 7, .inl (upd er 1 (er 1 + 1)))), (ra, .inl (E.2 2, (nn (sz (nn sheet))), .inl rf))] := hD
            replace hq_120 : r_120 = erv 1 := hq_120
            exact hret r_120 ((upd er 1 (er 1 + 1)), rf) (by rw [move_b hin hin2 hnz hkk hbad]; exact ⟨hq_120, rfl, hg⟩) (rfl) hP hD hS (Nat.le_of_ble_eq_true rfl) (Nat.le_of_ble_eq_true rfl) dX0_move_123
          · -- fall 93
            refine lv_iload hx hb dX0_move_93 (lv_at hl 7 rfl) ?_
            refine lv_aload hx hb dX0_move_95 (lv_at hl 1 rfl) ?_
            refine fx_ci (va_runS (As := [.ref ra]) (rest := [.int n_]) X (xX0_sizeOfS l E ra (nn (sz (nn sheet))) rf _) (va_cwS 1 X.2.2.2.2 (lw_S q813 q814 q69 q815) rfl rfl rfl hdX0_sizeOf ⟨Nat.le_of_ble_eq_true rfl, Nat.le_of_ble_eq_true rfl⟩) (fx_pre hE hP hD hS hR [] rfl rfl (fx_rcm 1 rfl (by decide) fx_rc0)) rfl rfl hl.1 rfl (lv_room (Nat.le_of_ble_eq_true rfl)) dX0_move_97 ⟨Nat.le_of_ble_eq_true rfl, Nat.le_of_ble_eq_true rfl⟩) hP hD hS hA [] rfl rfl (fun r_97 u H locs hq_97 hP hD hS => ?_)
            replace hP : va_P E.1 clA [(ax 5, .inl (E.2 0, 7, .inl er)), (ra, .inl (E.2 2, (nn (sz (nn sheet))), .inl rf))] _ := hP
            replace hD : va_D A [(ax 5, .inl (E.2 0, 7, .inl er)), (ra, .inl (E.2 2, (nn (sz (nn sheet))), .inl rf))] := hD
            replace hq_97 : r_97 = nI (nn (sz (nn sheet))) := hq_97
            refine fx_ti (show r_97 = nI (nn (sz (nn sheet))) from hq_97) ?_
            refine lv_iload_n hx hb dX0_move_100 rfl (lv_at hl 4 rfl) ?_
            refine lv_isub hx hb dX0_move_101 ?_
            refine lv_icmp_gt (tgt := 118) hx hb dX0_move_102 (by decide) (fun c_102 => ?_) (fun c_102 => ?_)
            · -- jump 118
              have hbad : mvBad sz (nn sheet) (nn other) i_ j_ n_ = true := mvB4 hsz.1 hsz2 c_81 c_85 c_102
              refine lv_aload_n hx hb dX0_move_118 rfl (lv_at hl 2 rfl) ?_
              refine lv_iconst (v := 1) hx hb dX0_move_119 rfl ?_
              refine fx_ci (va_runV (As := [.int 1]) (rest := []) X (xX0_finds l E ax im bn bm fm ff fl er 1 (by decide) _) (cwV 1 X.2.2.2.2 (lw_V q303 q305 qs0 q69 q306) rfl rfl rfl ⟨rfl, hdX0_finds⟩ ⟨Nat.le_of_ble_eq_true rfl, Nat.le_of_ble_eq_true rfl⟩) (fx_preV (fx_pre hE hP hD hS hR [0] rfl rfl (fx_rcr 0 rfl fx_rc0)) (va_recv hE.1 (hR.at hS) (ci := 0) (q0 := 0) rfl rfl)) rfl rfl hl.1 rfl (lv_room (Nat.le_of_ble_eq_true rfl)) dX0_move_120 ⟨Nat.le_of_ble_eq_true rfl, Nat.le_of_ble_eq_true rfl⟩) hP hD hS hA [0] rfl rfl (fun r_120 u H locs hq_120 hP hD hS => ?_)
              replace hP : va_P E.1 clA [(ax 5, .inl (E.2 0, 7, .inl (upd er 1 (er 1 + 1)))), (ra, .inl (E.2 2, (nn (sz (nn sheet))), .inl rf))] _ := hP
              replace hD : va_D A [(ax 5, .inl (E.2 0, 7, .inl (upd er 1 (er 1 + 1)))), (ra, .inl (E.2 2, (nn (sz (nn sheet))), .inl rf))] := hD
              replace hq_120 : r_120 = erv 1 := hq_120
              exact hret r_120 ((upd er 1 (er 1 + 1)), rf) (by rw [move_b hin hin2 hnz hkk hbad]; exact ⟨hq_120, rfl, hg⟩) (rfl) hP hD hS (Nat.le_of_ble_eq_true rfl) (Nat.le_of_ble_eq_true rfl) dX0_move_123
            · -- fall 105
              refine lv_iload hx hb dX0_move_105 (lv_at hl 7 rfl) ?_
              refine lv_aload hx hb dX0_move_107 (lv_at hl 0 rfl) ?_
              refine fx_ci (va_runS (As := [.ref ra]) (rest := [.int n_]) X (xX0_sizeOfS l E ra (nn (sz (nn sheet))) rf _) (va_cwS 1 X.2.2.2.2 (lw_S q813 q814 q69 q815) rfl rfl rfl hdX0_sizeOf ⟨Nat.le_of_ble_eq_true rfl, Nat.le_of_ble_eq_true rfl⟩) (fx_pre hE hP hD hS hR [] rfl rfl (fx_rcm 1 rfl (by decide) fx_rc0)) rfl rfl hl.1 rfl (lv_room (Nat.le_of_ble_eq_true rfl)) dX0_move_109 ⟨Nat.le_of_ble_eq_true rfl, Nat.le_of_ble_eq_true rfl⟩) hP hD hS hA [] rfl rfl (fun r_109 u H locs hq_109 hP hD hS => ?_)
              replace hP : va_P E.1 clA [(ax 5, .inl (E.2 0, 7, .inl er)), (ra, .inl (E.2 2, (nn (sz (nn sheet))), .inl rf))] _ := hP
              replace hD : va_D A [(ax 5, .inl (E.2 0, 7, .inl er)), (ra, .inl (E.2 2, (nn (sz (nn sheet))), .inl rf))] := hD
              replace hq_109 : r_109 = nI (nn (sz (nn sheet))) := hq_109
              refine fx_ti (show r_109 = nI (nn (sz (nn sheet))) from hq_109) ?_
              refine lv_iload hx hb dX0_move_112 (lv_at hl 6 rfl) ?_
              refine lv_isub hx hb dX0_move_114 ?_
              refine lv_icmp_le (tgt := 124) hx hb dX0_move_115 (by decide) (fun c_115 => ?_) (fun c_115 => ?_)
              · -- jump 124
                obtain ⟨hok, gm1, gm2⟩ := mvB0 hsz.1 hsz2 hso.1 hso2 c_81 c_85 c_90 (Int32.not_lt.1 c_102) c_115
                have pn := nn_pos (Int32.not_lt.1 c_81)
                have pi := nn_pos (Int32.not_lt.1 c_85)
                have pj := nn_pos (Int32.not_lt.1 c_90)
                refine lv_aload hx hb dX0_move_124 (lv_at hl 1 rfl) ?_
                refine lv_iload_n hx hb dX0_move_126 rfl (lv_at hl 4 rfl) ?_
                refine fx_ti (show i_ = nI (nn i_) from pi.1) ?_
                refine lv_aload hx hb dX0_move_127 (lv_at hl 0 rfl) ?_
                refine lv_iload hx hb dX0_move_129 (lv_at hl 6 rfl) ?_
                refine fx_ti (show j_ = nI (nn j_) from pj.1) ?_
                refine lv_iload hx hb dX0_move_131 (lv_at hl 7 rfl) ?_
                refine fx_ti (show n_ = nI (nn n_) from pn.1) ?_
                refine fx_acpy (ws' := [(ax 5, .inl (E.2 0, 7, .inl er)), (ra, .inl (E.2 2, (nn (sz (nn sheet))), .inl (va_cpy rf rf (nn i_) (nn j_) (nn n_))))]) X hE hl.1 hP hD hS q887 q889 q888 q93 1 1 2 rfl rfl rfl rfl (nn i_) (nn j_) (nn n_) rfl rfl rfl (by omega) (by omega) (by omega) (by omega) (fun i hi => hft _ (by omega)) ⟨Nat.le_of_ble_eq_true rfl, Nat.le_of_ble_eq_true rfl⟩ rfl dX0_move_133 (fun H locs hP hD hS => ?_)
                refine lv_iload hx hb dX0_move_136 (lv_at hl 7 rfl) ?_
                exact hret n_ (er, (va_cpy rf rf (nn i_) (nn j_) (nn n_))) (by rw [move_s hin hin2 hnz hkk hok]; exact ⟨rfl, rfl, row_c hf hg gm1 gm2⟩) (rfl) hP hD hS (Nat.le_of_ble_eq_true rfl) (Nat.le_of_ble_eq_true rfl) dX0_move_138
              · -- fall 118
                have hbad : mvBad sz (nn sheet) (nn other) i_ j_ n_ = true := mvB5 hso.1 hso2 c_81 c_90 (Int32.not_le.1 c_115)
                refine lv_aload_n hx hb dX0_move_118 rfl (lv_at hl 2 rfl) ?_
                refine lv_iconst (v := 1) hx hb dX0_move_119 rfl ?_
                refine fx_ci (va_runV (As := [.int 1]) (rest := []) X (xX0_finds l E ax im bn bm fm ff fl er 1 (by decide) _) (cwV 1 X.2.2.2.2 (lw_V q303 q305 qs0 q69 q306) rfl rfl rfl ⟨rfl, hdX0_finds⟩ ⟨Nat.le_of_ble_eq_true rfl, Nat.le_of_ble_eq_true rfl⟩) (fx_preV (fx_pre hE hP hD hS hR [0] rfl rfl (fx_rcr 0 rfl fx_rc0)) (va_recv hE.1 (hR.at hS) (ci := 0) (q0 := 0) rfl rfl)) rfl rfl hl.1 rfl (lv_room (Nat.le_of_ble_eq_true rfl)) dX0_move_120 ⟨Nat.le_of_ble_eq_true rfl, Nat.le_of_ble_eq_true rfl⟩) hP hD hS hA [0] rfl rfl (fun r_120 u H locs hq_120 hP hD hS => ?_)
                replace hP : va_P E.1 clA [(ax 5, .inl (E.2 0, 7, .inl (upd er 1 (er 1 + 1)))), (ra, .inl (E.2 2, (nn (sz (nn sheet))), .inl rf))] _ := hP
                replace hD : va_D A [(ax 5, .inl (E.2 0, 7, .inl (upd er 1 (er 1 + 1)))), (ra, .inl (E.2 2, (nn (sz (nn sheet))), .inl rf))] := hD
                replace hq_120 : r_120 = erv 1 := hq_120
                exact hret r_120 ((upd er 1 (er 1 + 1)), rf) (by rw [move_b hin hin2 hnz hkk hbad]; exact ⟨hq_120, rfl, hg⟩) (rfl) hP hD hS (Nat.le_of_ble_eq_true rfl) (Nat.le_of_ble_eq_true rfl) dX0_move_123
    · -- False
      subst hr_8
      exact absurd hin2 hb_8
  · -- False
    subst hr_1
    exact absurd hin hb_1
abbrev rxX0_move_IB : Room := { frames := 10, cells := 3, slots := 80, locals := 10400 }
set_option maxHeartbeats 400000 in
set_option maxRecDepth 100000 in
theorem xX0_move_IB (l : Launch) (E : fx_En) (ks : fz_Ks) (ax : Nat → Nat) (im : Int32) (bn : Int32) (bm : Int32) (fm : Int32) (ff : Int32) (fl : Int32) (er : Nat → Int32) (bt : Nat → Int32) (sz : Nat → Int32) (nu : Nat → Int32) (sh : Nat → Option Nat) (PL : va_W) (sheet : Int32) (i_ : Int32) (other : Int32) (j_ : Int32) (n_ : Int32) (ra : Nat) (rf : Nat → Int32) (rb : Nat) (rg : Nat → Int32) (hst : l.stackTraces = false) (hIS : InvS bt sz) (hin : inB sheet 0 3 = true) (hin2 : inB other 0 3 = true) (hs0 : sh (nn sheet) = some ra) (hs1 : sh (nn other) = some rb) (hb0 : bt (nn sheet) = 32) (hb1 : bt (nn other) = 8) (hf : ∀ t, t < nn (sz (nn sheet)) → rf t = nu (24 * nn sheet + t)) (hg : ∀ t, t < nn (sz (nn other)) → rg t = nu (24 * nn other + t)) : fz_Hi l yX0_move cX0_move 9 [((58 : Nat), (68 : Nat), (71 : Nat), (354 : Nat))] .int rxX0_move_IB E ks [.ref (ax 19), .int sheet, .int i_, .int other, .int j_, .int n_] [(ax 5, .inl (E.2 0, 7, .inl er)), (ra, .inl (E.2 0, (nn (sz (nn sheet))), .inl rf)), (rb, .inl (E.2 1, (nn (sz (nn other))), .inl rg))] ([(ax 19, .inr (0, [.ref (ax 0), .ref (ax 1), .ref (ax 35), .ref (ax 55), .ref (ax 4), .ref (ax 5), .ref (ax 6), .ref (ax 7), .int im, .ref (ax 9), .ref (ax 10), .ref (ax 11), .ref (ax 12), .ref (ax 13), .int bn, .int bm, .int fm, .int ff, .int fl])), (ax 6, .inl (E.2 3, 4, .inr (.inr (.inr (.inr (fun i_ => some (ax (64 + i_)))))))), (ax 64, .inr (2, [va_rf (sh 0)])), (ax 65, .inr (2, [va_rf (sh 1)])), (ax 66, .inr (2, [va_rf (sh 2)])), (ax 67, .inr (2, [va_rf (sh 3)]))] ++ PL) (S := (Nat → Int32) × (Nat → Int32)) (fun (u : (Nat → Int32) × (Nat → Int32)) => [(ax 5, .inl (E.2 0, 7, .inl u.1)), (ra, .inl (E.2 0, (nn (sz (nn sheet))), .inl rf)), (rb, .inl (E.2 1, (nn (sz (nn other))), .inl u.2))]) (fun (r : Int32) (u : (Nat → Int32) × (Nat → Int32)) => r = (move_ bt sz nu er sheet i_ other j_ n_).1 ∧ u.1 = (move_ bt sz nu er sheet i_ other j_ n_).2.2 ∧ ∀ t, t < nn (sz (nn other)) → u.2 t = (move_ bt sz nu er sheet i_ other j_ n_).2.1 (24 * nn other + t)) := by
  refine fz_hW rfl rfl ?_
  intro p e s m args below meth c A ls Q X htab hlocks hE hP hD hR hZ hA hl hret
  have hx := X.1
  have hb := X.2.1
  have hS : va_S A s.heap s.heap [] := va_S.rf
  replace hP : va_P E.1 clA [(ax 5, .inl (E.2 0, 7, .inl er)), (ra, .inl (E.2 0, (nn (sz (nn sheet))), .inl rf)), (rb, .inl (E.2 1, (nn (sz (nn other))), .inl rg))] _ := hP
  replace hD : va_D A [(ax 5, .inl (E.2 0, 7, .inl er)), (ra, .inl (E.2 0, (nn (sz (nn sheet))), .inl rf)), (rb, .inl (E.2 1, (nn (sz (nn other))), .inl rg))] := hD
  replace hl : lv_has ls 9 [(0, .ref (ax 19)), (1, .int sheet), (2, .int i_), (3, .int other), (4, .int j_), (5, .int n_)] := hl
  have hnz : ¬ (bt (nn sheet) = 0 ∨ bt (nn other) = 0) := by rw [hb0, hb1]; decide
  have hkk : ¬ bt (nn sheet) = bt (nn other) := by rw [hb0, hb1]; decide
  refine lv_iload_n hx hb dX0_move_0 rfl (lv_at hl 1 rfl) ?_
  refine fx_ci (va_runS (As := [.int sheet]) (rest := []) X (xX0_isSheet l E sheet _) (va_cwS 1 X.2.2.2.2 (lw_S q806 q807 q69 q808) rfl rfl rfl hdX0_isSheet ⟨Nat.le_of_ble_eq_true rfl, Nat.le_of_ble_eq_true rfl⟩) (fx_pre hE hP hD hS hR [] rfl rfl fx_rc0) rfl rfl hl.1 rfl (lv_room (Nat.le_of_ble_eq_true rfl)) dX0_move_1 ⟨Nat.le_of_ble_eq_true rfl, Nat.le_of_ble_eq_true rfl⟩) hP hD hS hA [] rfl rfl (fun r_1 u H locs hq_1 hP hD hS => ?_)
  replace hP : va_P E.1 clA [(ax 5, .inl (E.2 0, 7, .inl er)), (ra, .inl (E.2 0, (nn (sz (nn sheet))), .inl rf)), (rb, .inl (E.2 1, (nn (sz (nn other))), .inl rg))] _ := hP
  replace hD : va_D A [(ax 5, .inl (E.2 0, 7, .inl er)), (ra, .inl (E.2 0, (nn (sz (nn sheet))), .inl rf)), (rb, .inl (E.2 1, (nn (sz (nn other))), .inl rg))] := hD
  replace hq_1 : r_1 = fx_b (inB sheet 0 3 = true) := hq_1
  rcases fx_bc hq_1 with ⟨hb_1, hr_1⟩ | ⟨hb_1, hr_1⟩
  · -- True
    subst hr_1
    refine lv_if_eq (tgt := 14) hx hb dX0_move_4 (by decide) (fun c => absurd c (by decide)) (fun _ => ?_)
    refine lv_iload_n hx hb dX0_move_7 rfl (lv_at hl 3 rfl) ?_
    refine fx_ci (va_runS (As := [.int other]) (rest := []) X (xX0_isSheet l E other _) (va_cwS 1 X.2.2.2.2 (lw_S q806 q807 q69 q808) rfl rfl rfl hdX0_isSheet ⟨Nat.le_of_ble_eq_true rfl, Nat.le_of_ble_eq_true rfl⟩) (fx_pre hE hP hD hS hR [] rfl rfl fx_rc0) rfl rfl hl.1 rfl (lv_room (Nat.le_of_ble_eq_true rfl)) dX0_move_8 ⟨Nat.le_of_ble_eq_true rfl, Nat.le_of_ble_eq_true rfl⟩) hP hD hS hA [] rfl rfl (fun r_8 u H locs hq_8 hP hD hS => ?_)
    replace hP : va_P E.1 clA [(ax 5, .inl (E.2 0, 7, .inl er)), (ra, .inl (E.2 0, (nn (sz (nn sheet))), .inl rf)), (rb, .inl (E.2 1, (nn (sz (nn other))), .inl rg))] _ := hP
    replace hD : va_D A [(ax 5, .inl (E.2 0, 7, .inl er)), (ra, .inl (E.2 0, (nn (sz (nn sheet))), .inl rf)), (rb, .inl (E.2 1, (nn (sz (nn other))), .inl rg))] := hD
    replace hq_8 : r_8 = fx_b (inB other 0 3 = true) := hq_8
    rcases fx_bc hq_8 with ⟨hb_8, hr_8⟩ | ⟨hb_8, hr_8⟩
    · -- True
      subst hr_8
      refine lv_if_ne (tgt := 20) hx hb dX0_move_11 (by decide) (fun _ => ?_) (fun c => absurd c (by decide))
      have gs := inB_nn (n := 3) hin (by omega)
      have gs1 : nn sheet < 4 := by omega
      have go := inB_nn (n := 3) hin2 (by omega)
      have go1 : nn other < 4 := by omega
      have hsh : ((ax (64 + nn sheet), .inr (2, [va_rf (sh (nn sheet))])) : Nat × va_E) ∈ ([(ax 19, .inr (0, [.ref (ax 0), .ref (ax 1), .ref (ax 35), .ref (ax 55), .ref (ax 4), .ref (ax 5), .ref (ax 6), .ref (ax 7), .int im, .ref (ax 9), .ref (ax 10), .ref (ax 11), .ref (ax 12), .ref (ax 13), .int bn, .int bm, .int fm, .int ff, .int fl])), (ax 6, .inl (E.2 3, 4, .inr (.inr (.inr (.inr (fun i_ => some (ax (64 + i_)))))))), (ax 64, .inr (2, [va_rf (sh 0)])), (ax 65, .inr (2, [va_rf (sh 1)])), (ax 66, .inr (2, [va_rf (sh 2)])), (ax 67, .inr (2, [va_rf (sh 3)]))] ++ PL) := by rcases (show nn sheet = 0 ∨ nn sheet = 1 ∨ nn sheet = 2 ∨ nn sheet = 3 by omega) with h | h | h | h <;> rw [h] <;> first | exact List.mem_of_getElem? (i := 2) rfl | exact List.mem_of_getElem? (i := 3) rfl | exact List.mem_of_getElem? (i := 4) rfl | exact List.mem_of_getElem? (i := 5) rfl
      have hso_ : ((ax (64 + nn other), .inr (2, [va_rf (sh (nn other))])) : Nat × va_E) ∈ ([(ax 19, .inr (0, [.ref (ax 0), .ref (ax 1), .ref (ax 35), .ref (ax 55), .ref (ax 4), .ref (ax 5), .ref (ax 6), .ref (ax 7), .int im, .ref (ax 9), .ref (ax 10), .ref (ax 11), .ref (ax 12), .ref (ax 13), .int bn, .int bm, .int fm, .int ff, .int fl])), (ax 6, .inl (E.2 3, 4, .inr (.inr (.inr (.inr (fun i_ => some (ax (64 + i_)))))))), (ax 64, .inr (2, [va_rf (sh 0)])), (ax 65, .inr (2, [va_rf (sh 1)])), (ax 66, .inr (2, [va_rf (sh 2)])), (ax 67, .inr (2, [va_rf (sh 3)]))] ++ PL) := by rcases (show nn other = 0 ∨ nn other = 1 ∨ nn other = 2 ∨ nn other = 3 by omega) with h | h | h | h <;> rw [h] <;> first | exact List.mem_of_getElem? (i := 2) rfl | exact List.mem_of_getElem? (i := 3) rfl | exact List.mem_of_getElem? (i := 4) rfl | exact List.mem_of_getElem? (i := 5) rfl
      have hsz := hIS.sz gs1
      have hsz2 := hsz.2
      have hso := hIS.sz go1
      have hso2 := hso.2
      refine lv_aload_n hx hb dX0_move_20 rfl (lv_at hl 0 rfl) ?_
      refine fx_get X hE (hR.at hS) 0 rfl rfl 6 rfl q241 rfl rfl dX0_move_21 ?_
      refine lv_iload_n hx hb dX0_move_24 rfl (lv_at hl 1 rfl) ?_
      refine fx_ti (show sheet = nI (nn sheet) from gs.1) ?_
      refine fx_aald X hE (hR.at hS) 1 3 rfl rfl (nn sheet) rfl (by omega) rfl (r := some (ax (64 + nn sheet))) (rfl) dX0_move_25 ?_
      refine fx_getN X hE (fx_one (hR.at hS) hsh) 0 rfl rfl 0 rfl 2 rfl rfl rfl dX0_move_26 ?_
      rw [hs0]
      refine lv_astore (lv' := [(6, .ref ra), (0, .ref (ax 19)), (1, .int sheet), (2, .int i_), (3, .int other), (4, .int j_), (5, .int n_)]) hx hb dX0_move_29 hl (by decide) rfl (fun ls hl => ?_)
      refine lv_aload_n hx hb dX0_move_31 rfl (lv_at hl 1 rfl) ?_
      refine fx_get X hE (hR.at hS) 0 rfl rfl 6 rfl q241 rfl rfl dX0_move_32 ?_
      refine lv_iload_n hx hb dX0_move_35 rfl (lv_at hl 4 rfl) ?_
      refine fx_ti (show other = nI (nn other) from go.1) ?_
      refine fx_aald X hE (hR.at hS) 1 3 rfl rfl (nn other) rfl (by omega) rfl (r := some (ax (64 + nn other))) (rfl) dX0_move_36 ?_
      refine fx_getN X hE (fx_one (hR.at hS) hso_) 0 rfl rfl 0 rfl 2 rfl rfl rfl dX0_move_37 ?_
      rw [hs1]
      refine lv_astore (lv' := [(7, .ref rb), (6, .ref ra), (0, .ref (ax 19)), (1, .int sheet), (2, .int i_), (3, .int other), (4, .int j_), (5, .int n_)]) hx hb dX0_move_40 hl (by decide) rfl (fun ls hl => ?_)
      refine lv_aload hx hb dX0_move_42 (lv_at hl 1 rfl) ?_
      refine lv_ifnull hx hb dX0_move_44 ?_
      refine lv_aload hx hb dX0_move_47 (lv_at hl 0 rfl) ?_
      refine lv_ifnonnull (tgt := 58) hx hb dX0_move_49 (by decide) ?_
      refine lv_aload hx hb dX0_move_58 (lv_at hl 1 rfl) ?_
      refine lv_iconst (v := 0) hx hb dX0_move_60 rfl ?_
      refine lv_aload hx hb dX0_move_61 (lv_at hl 0 rfl) ?_
      refine lv_iconst (v := 0) hx hb dX0_move_63 rfl ?_
      refine lv_iconst (v := 0) hx hb dX0_move_64 rfl ?_
      refine fn_acpyZ X hE hst hZ hP hS hl.1 q887 q889 q888 q93 1 2 0 1 rfl rfl rfl rfl rfl (text := "arraycopy: type mismatch: can not copy int[] into byte[]") (by decide +kernel) (nb := 70) (by decide +kernel) (by decide +kernel) (by decide) (Nat.le_of_ble_eq_true rfl) (Nat.le_of_ble_eq_true rfl) (Nat.le_of_ble_eq_true rfl) (Nat.le_of_ble_eq_true rfl) dX0_move_65 (fun H1 q9 ce hP hS hce hcv hcl => ?_)
      refine vx_catch X.2.2.2.1 [] ⟨58, 68, 71, 354⟩ _ (htab.trans rfl) (fun _ h => nomatch h) rfl (by decide) (X.2.2.2.2 _ q1111) (va_tabs rfl rfl (hE.2.1 _ (List.mem_of_getElem? (i := 51) rfl))) hce hcv hcl ?_
      refine lv_astore (lv' := [(8, .ref q9), (7, .ref rb), (6, .ref ra), (0, .ref (ax 19)), (1, .int sheet), (2, .int i_), (3, .int other), (4, .int j_), (5, .int n_)]) hx hb dX0_move_71 hl (by decide) rfl (fun ls hl => ?_)
      refine lv_aload_n hx hb dX0_move_73 rfl (lv_at hl 3 rfl) ?_
      refine lv_iconst (v := 5) hx hb dX0_move_74 rfl ?_
      refine fx_ci (va_runV (As := [.int 5]) (rest := []) X (xX0_finds l E ax im bn bm fm ff fl er 5 (by decide) _) (cwV 1 X.2.2.2.2 (lw_V q303 q305 qs0 q69 q306) rfl rfl rfl ⟨rfl, hdX0_finds⟩ ⟨Nat.le_of_ble_eq_true rfl, Nat.le_of_ble_eq_true rfl⟩) (fx_preV (fx_pre hE hP hD hS hR [0] rfl rfl (fx_rcr 0 rfl fx_rc0)) (va_recv hE.1 (hR.at hS) (ci := 0) (q0 := 0) rfl rfl)) rfl rfl hl.1 rfl (lv_room (Nat.le_of_ble_eq_true rfl)) dX0_move_75 ⟨Nat.le_refl _, Nat.le_refl _⟩) hP hD hS hA [0] rfl rfl (fun r_75 u H locs hq_75 hP hD hS => ?_)
      replace hP : va_P E.1 clA [(ax 5, .inl (E.2 0, 7, .inl (upd er 5 (er 5 + 1)))), (ra, .inl (E.2 0, (nn (sz (nn sheet))), .inl rf)), (rb, .inl (E.2 1, (nn (sz (nn other))), .inl rg))] _ := hP
      replace hD : va_D A [(ax 5, .inl (E.2 0, 7, .inl (upd er 5 (er 5 + 1)))), (ra, .inl (E.2 0, (nn (sz (nn sheet))), .inl rf)), (rb, .inl (E.2 1, (nn (sz (nn other))), .inl rg))] := hD
      replace hq_75 : r_75 = erv 5 := hq_75
      exact hret r_75 ((upd er 5 (er 5 + 1)), rg) (by rw [move_k hin hin2 hnz hkk]; exact ⟨hq_75, rfl, hg⟩) (rfl) hP hD hS (Nat.le_refl _) (Nat.le_refl _) dX0_move_78
    · -- False
      subst hr_8
      exact absurd hin2 hb_8
  · -- False
    subst hr_1
    exact absurd hin hb_1
abbrev rxX0_move_IS : Room := { frames := 10, cells := 3, slots := 80, locals := 10400 }
set_option maxHeartbeats 400000 in
set_option maxRecDepth 100000 in
theorem xX0_move_IS (l : Launch) (E : fx_En) (ks : fz_Ks) (ax : Nat → Nat) (im : Int32) (bn : Int32) (bm : Int32) (fm : Int32) (ff : Int32) (fl : Int32) (er : Nat → Int32) (bt : Nat → Int32) (sz : Nat → Int32) (nu : Nat → Int32) (sh : Nat → Option Nat) (PL : va_W) (sheet : Int32) (i_ : Int32) (other : Int32) (j_ : Int32) (n_ : Int32) (ra : Nat) (rf : Nat → Int32) (rb : Nat) (rg : Nat → Int32) (hst : l.stackTraces = false) (hIS : InvS bt sz) (hin : inB sheet 0 3 = true) (hin2 : inB other 0 3 = true) (hs0 : sh (nn sheet) = some ra) (hs1 : sh (nn other) = some rb) (hb0 : bt (nn sheet) = 32) (hb1 : bt (nn other) = 16) (hf : ∀ t, t < nn (sz (nn sheet)) → rf t = nu (24 * nn sheet + t)) (hg : ∀ t, t < nn (sz (nn other)) → rg t = nu (24 * nn other + t)) : fz_Hi l yX0_move cX0_move 9 [((58 : Nat), (68 : Nat), (71 : Nat), (354 : Nat))] .int rxX0_move_IS E ks [.ref (ax 19), .int sheet, .int i_, .int other, .int j_, .int n_] [(ax 5, .inl (E.2 0, 7, .inl er)), (ra, .inl (E.2 0, (nn (sz (nn sheet))), .inl rf)), (rb, .inl (E.2 2, (nn (sz (nn other))), .inl rg))] ([(ax 19, .inr (0, [.ref (ax 0), .ref (ax 1), .ref (ax 35), .ref (ax 55), .ref (ax 4), .ref (ax 5), .ref (ax 6), .ref (ax 7), .int im, .ref (ax 9), .ref (ax 10), .ref (ax 11), .ref (ax 12), .ref (ax 13), .int bn, .int bm, .int fm, .int ff, .int fl])), (ax 6, .inl (E.2 3, 4, .inr (.inr (.inr (.inr (fun i_ => some (ax (64 + i_)))))))), (ax 64, .inr (2, [va_rf (sh 0)])), (ax 65, .inr (2, [va_rf (sh 1)])), (ax 66, .inr (2, [va_rf (sh 2)])), (ax 67, .inr (2, [va_rf (sh 3)]))] ++ PL) (S := (Nat → Int32) × (Nat → Int32)) (fun (u : (Nat → Int32) × (Nat → Int32)) => [(ax 5, .inl (E.2 0, 7, .inl u.1)), (ra, .inl (E.2 0, (nn (sz (nn sheet))), .inl rf)), (rb, .inl (E.2 2, (nn (sz (nn other))), .inl u.2))]) (fun (r : Int32) (u : (Nat → Int32) × (Nat → Int32)) => r = (move_ bt sz nu er sheet i_ other j_ n_).1 ∧ u.1 = (move_ bt sz nu er sheet i_ other j_ n_).2.2 ∧ ∀ t, t < nn (sz (nn other)) → u.2 t = (move_ bt sz nu er sheet i_ other j_ n_).2.1 (24 * nn other + t)) := by
  refine fz_hW rfl rfl ?_
  intro p e s m args below meth c A ls Q X htab hlocks hE hP hD hR hZ hA hl hret
  have hx := X.1
  have hb := X.2.1
  have hS : va_S A s.heap s.heap [] := va_S.rf
  replace hP : va_P E.1 clA [(ax 5, .inl (E.2 0, 7, .inl er)), (ra, .inl (E.2 0, (nn (sz (nn sheet))), .inl rf)), (rb, .inl (E.2 2, (nn (sz (nn other))), .inl rg))] _ := hP
  replace hD : va_D A [(ax 5, .inl (E.2 0, 7, .inl er)), (ra, .inl (E.2 0, (nn (sz (nn sheet))), .inl rf)), (rb, .inl (E.2 2, (nn (sz (nn other))), .inl rg))] := hD
  replace hl : lv_has ls 9 [(0, .ref (ax 19)), (1, .int sheet), (2, .int i_), (3, .int other), (4, .int j_), (5, .int n_)] := hl
  have hnz : ¬ (bt (nn sheet) = 0 ∨ bt (nn other) = 0) := by rw [hb0, hb1]; decide
  have hkk : ¬ bt (nn sheet) = bt (nn other) := by rw [hb0, hb1]; decide
  refine lv_iload_n hx hb dX0_move_0 rfl (lv_at hl 1 rfl) ?_
  refine fx_ci (va_runS (As := [.int sheet]) (rest := []) X (xX0_isSheet l E sheet _) (va_cwS 1 X.2.2.2.2 (lw_S q806 q807 q69 q808) rfl rfl rfl hdX0_isSheet ⟨Nat.le_of_ble_eq_true rfl, Nat.le_of_ble_eq_true rfl⟩) (fx_pre hE hP hD hS hR [] rfl rfl fx_rc0) rfl rfl hl.1 rfl (lv_room (Nat.le_of_ble_eq_true rfl)) dX0_move_1 ⟨Nat.le_of_ble_eq_true rfl, Nat.le_of_ble_eq_true rfl⟩) hP hD hS hA [] rfl rfl (fun r_1 u H locs hq_1 hP hD hS => ?_)
  replace hP : va_P E.1 clA [(ax 5, .inl (E.2 0, 7, .inl er)), (ra, .inl (E.2 0, (nn (sz (nn sheet))), .inl rf)), (rb, .inl (E.2 2, (nn (sz (nn other))), .inl rg))] _ := hP
  replace hD : va_D A [(ax 5, .inl (E.2 0, 7, .inl er)), (ra, .inl (E.2 0, (nn (sz (nn sheet))), .inl rf)), (rb, .inl (E.2 2, (nn (sz (nn other))), .inl rg))] := hD
  replace hq_1 : r_1 = fx_b (inB sheet 0 3 = true) := hq_1
  rcases fx_bc hq_1 with ⟨hb_1, hr_1⟩ | ⟨hb_1, hr_1⟩
  · -- True
    subst hr_1
    refine lv_if_eq (tgt := 14) hx hb dX0_move_4 (by decide) (fun c => absurd c (by decide)) (fun _ => ?_)
    refine lv_iload_n hx hb dX0_move_7 rfl (lv_at hl 3 rfl) ?_
    refine fx_ci (va_runS (As := [.int other]) (rest := []) X (xX0_isSheet l E other _) (va_cwS 1 X.2.2.2.2 (lw_S q806 q807 q69 q808) rfl rfl rfl hdX0_isSheet ⟨Nat.le_of_ble_eq_true rfl, Nat.le_of_ble_eq_true rfl⟩) (fx_pre hE hP hD hS hR [] rfl rfl fx_rc0) rfl rfl hl.1 rfl (lv_room (Nat.le_of_ble_eq_true rfl)) dX0_move_8 ⟨Nat.le_of_ble_eq_true rfl, Nat.le_of_ble_eq_true rfl⟩) hP hD hS hA [] rfl rfl (fun r_8 u H locs hq_8 hP hD hS => ?_)
    replace hP : va_P E.1 clA [(ax 5, .inl (E.2 0, 7, .inl er)), (ra, .inl (E.2 0, (nn (sz (nn sheet))), .inl rf)), (rb, .inl (E.2 2, (nn (sz (nn other))), .inl rg))] _ := hP
    replace hD : va_D A [(ax 5, .inl (E.2 0, 7, .inl er)), (ra, .inl (E.2 0, (nn (sz (nn sheet))), .inl rf)), (rb, .inl (E.2 2, (nn (sz (nn other))), .inl rg))] := hD
    replace hq_8 : r_8 = fx_b (inB other 0 3 = true) := hq_8
    rcases fx_bc hq_8 with ⟨hb_8, hr_8⟩ | ⟨hb_8, hr_8⟩
    · -- True
      subst hr_8
      refine lv_if_ne (tgt := 20) hx hb dX0_move_11 (by decide) (fun _ => ?_) (fun c => absurd c (by decide))
      have gs := inB_nn (n := 3) hin (by omega)
      have gs1 : nn sheet < 4 := by omega
      have go := inB_nn (n := 3) hin2 (by omega)
      have go1 : nn other < 4 := by omega
      have hsh : ((ax (64 + nn sheet), .inr (2, [va_rf (sh (nn sheet))])) : Nat × va_E) ∈ ([(ax 19, .inr (0, [.ref (ax 0), .ref (ax 1), .ref (ax 35), .ref (ax 55), .ref (ax 4), .ref (ax 5), .ref (ax 6), .ref (ax 7), .int im, .ref (ax 9), .ref (ax 10), .ref (ax 11), .ref (ax 12), .ref (ax 13), .int bn, .int bm, .int fm, .int ff, .int fl])), (ax 6, .inl (E.2 3, 4, .inr (.inr (.inr (.inr (fun i_ => some (ax (64 + i_)))))))), (ax 64, .inr (2, [va_rf (sh 0)])), (ax 65, .inr (2, [va_rf (sh 1)])), (ax 66, .inr (2, [va_rf (sh 2)])), (ax 67, .inr (2, [va_rf (sh 3)]))] ++ PL) := by rcases (show nn sheet = 0 ∨ nn sheet = 1 ∨ nn sheet = 2 ∨ nn sheet = 3 by omega) with h | h | h | h <;> rw [h] <;> first | exact List.mem_of_getElem? (i := 2) rfl | exact List.mem_of_getElem? (i := 3) rfl | exact List.mem_of_getElem? (i := 4) rfl | exact List.mem_of_getElem? (i := 5) rfl
      have hso_ : ((ax (64 + nn other), .inr (2, [va_rf (sh (nn other))])) : Nat × va_E) ∈ ([(ax 19, .inr (0, [.ref (ax 0), .ref (ax 1), .ref (ax 35), .ref (ax 55), .ref (ax 4), .ref (ax 5), .ref (ax 6), .ref (ax 7), .int im, .ref (ax 9), .ref (ax 10), .ref (ax 11), .ref (ax 12), .ref (ax 13), .int bn, .int bm, .int fm, .int ff, .int fl])), (ax 6, .inl (E.2 3, 4, .inr (.inr (.inr (.inr (fun i_ => some (ax (64 + i_)))))))), (ax 64, .inr (2, [va_rf (sh 0)])), (ax 65, .inr (2, [va_rf (sh 1)])), (ax 66, .inr (2, [va_rf (sh 2)])), (ax 67, .inr (2, [va_rf (sh 3)]))] ++ PL) := by rcases (show nn other = 0 ∨ nn other = 1 ∨ nn other = 2 ∨ nn other = 3 by omega) with h | h | h | h <;> rw [h] <;> first | exact List.mem_of_getElem? (i := 2) rfl | exact List.mem_of_getElem? (i := 3) rfl | exact List.mem_of_getElem? (i := 4) rfl | exact List.mem_of_getElem? (i := 5) rfl
      have hsz := hIS.sz gs1
      have hsz2 := hsz.2
      have hso := hIS.sz go1
      have hso2 := hso.2
      refine lv_aload_n hx hb dX0_move_20 rfl (lv_at hl 0 rfl) ?_
      refine fx_get X hE (hR.at hS) 0 rfl rfl 6 rfl q241 rfl rfl dX0_move_21 ?_
      refine lv_iload_n hx hb dX0_move_24 rfl (lv_at hl 1 rfl) ?_
      refine fx_ti (show sheet = nI (nn sheet) from gs.1) ?_
      refine fx_aald X hE (hR.at hS) 1 3 rfl rfl (nn sheet) rfl (by omega) rfl (r := some (ax (64 + nn sheet))) (rfl) dX0_move_25 ?_
      refine fx_getN X hE (fx_one (hR.at hS) hsh) 0 rfl rfl 0 rfl 2 rfl rfl rfl dX0_move_26 ?_
      rw [hs0]
      refine lv_astore (lv' := [(6, .ref ra), (0, .ref (ax 19)), (1, .int sheet), (2, .int i_), (3, .int other), (4, .int j_), (5, .int n_)]) hx hb dX0_move_29 hl (by decide) rfl (fun ls hl => ?_)
      refine lv_aload_n hx hb dX0_move_31 rfl (lv_at hl 1 rfl) ?_
      refine fx_get X hE (hR.at hS) 0 rfl rfl 6 rfl q241 rfl rfl dX0_move_32 ?_
      refine lv_iload_n hx hb dX0_move_35 rfl (lv_at hl 4 rfl) ?_
      refine fx_ti (show other = nI (nn other) from go.1) ?_
      refine fx_aald X hE (hR.at hS) 1 3 rfl rfl (nn other) rfl (by omega) rfl (r := some (ax (64 + nn other))) (rfl) dX0_move_36 ?_
      refine fx_getN X hE (fx_one (hR.at hS) hso_) 0 rfl rfl 0 rfl 2 rfl rfl rfl dX0_move_37 ?_
      rw [hs1]
      refine lv_astore (lv' := [(7, .ref rb), (6, .ref ra), (0, .ref (ax 19)), (1, .int sheet), (2, .int i_), (3, .int other), (4, .int j_), (5, .int n_)]) hx hb dX0_move_40 hl (by decide) rfl (fun ls hl => ?_)
      refine lv_aload hx hb dX0_move_42 (lv_at hl 1 rfl) ?_
      refine lv_ifnull hx hb dX0_move_44 ?_
      refine lv_aload hx hb dX0_move_47 (lv_at hl 0 rfl) ?_
      refine lv_ifnonnull (tgt := 58) hx hb dX0_move_49 (by decide) ?_
      refine lv_aload hx hb dX0_move_58 (lv_at hl 1 rfl) ?_
      refine lv_iconst (v := 0) hx hb dX0_move_60 rfl ?_
      refine lv_aload hx hb dX0_move_61 (lv_at hl 0 rfl) ?_
      refine lv_iconst (v := 0) hx hb dX0_move_63 rfl ?_
      refine lv_iconst (v := 0) hx hb dX0_move_64 rfl ?_
      refine fn_acpyZ X hE hst hZ hP hS hl.1 q887 q889 q888 q93 1 2 0 2 rfl rfl rfl rfl rfl (text := "arraycopy: type mismatch: can not copy int[] into short[]") (by decide +kernel) (nb := 70) (by decide +kernel) (by decide +kernel) (by decide) (Nat.le_of_ble_eq_true rfl) (Nat.le_of_ble_eq_true rfl) (Nat.le_of_ble_eq_true rfl) (Nat.le_of_ble_eq_true rfl) dX0_move_65 (fun H1 q9 ce hP hS hce hcv hcl => ?_)
      refine vx_catch X.2.2.2.1 [] ⟨58, 68, 71, 354⟩ _ (htab.trans rfl) (fun _ h => nomatch h) rfl (by decide) (X.2.2.2.2 _ q1111) (va_tabs rfl rfl (hE.2.1 _ (List.mem_of_getElem? (i := 51) rfl))) hce hcv hcl ?_
      refine lv_astore (lv' := [(8, .ref q9), (7, .ref rb), (6, .ref ra), (0, .ref (ax 19)), (1, .int sheet), (2, .int i_), (3, .int other), (4, .int j_), (5, .int n_)]) hx hb dX0_move_71 hl (by decide) rfl (fun ls hl => ?_)
      refine lv_aload_n hx hb dX0_move_73 rfl (lv_at hl 3 rfl) ?_
      refine lv_iconst (v := 5) hx hb dX0_move_74 rfl ?_
      refine fx_ci (va_runV (As := [.int 5]) (rest := []) X (xX0_finds l E ax im bn bm fm ff fl er 5 (by decide) _) (cwV 1 X.2.2.2.2 (lw_V q303 q305 qs0 q69 q306) rfl rfl rfl ⟨rfl, hdX0_finds⟩ ⟨Nat.le_of_ble_eq_true rfl, Nat.le_of_ble_eq_true rfl⟩) (fx_preV (fx_pre hE hP hD hS hR [0] rfl rfl (fx_rcr 0 rfl fx_rc0)) (va_recv hE.1 (hR.at hS) (ci := 0) (q0 := 0) rfl rfl)) rfl rfl hl.1 rfl (lv_room (Nat.le_of_ble_eq_true rfl)) dX0_move_75 ⟨Nat.le_refl _, Nat.le_refl _⟩) hP hD hS hA [0] rfl rfl (fun r_75 u H locs hq_75 hP hD hS => ?_)
      replace hP : va_P E.1 clA [(ax 5, .inl (E.2 0, 7, .inl (upd er 5 (er 5 + 1)))), (ra, .inl (E.2 0, (nn (sz (nn sheet))), .inl rf)), (rb, .inl (E.2 2, (nn (sz (nn other))), .inl rg))] _ := hP
      replace hD : va_D A [(ax 5, .inl (E.2 0, 7, .inl (upd er 5 (er 5 + 1)))), (ra, .inl (E.2 0, (nn (sz (nn sheet))), .inl rf)), (rb, .inl (E.2 2, (nn (sz (nn other))), .inl rg))] := hD
      replace hq_75 : r_75 = erv 5 := hq_75
      exact hret r_75 ((upd er 5 (er 5 + 1)), rg) (by rw [move_k hin hin2 hnz hkk]; exact ⟨hq_75, rfl, hg⟩) (rfl) hP hD hS (Nat.le_refl _) (Nat.le_refl _) dX0_move_78
    · -- False
      subst hr_8
      exact absurd hin2 hb_8
  · -- False
    subst hr_1
    exact absurd hin hb_1
abbrev rxX0_move_II : Room := { frames := 10, cells := 3, slots := 80, locals := 10400 }
set_option maxHeartbeats 400000 in
set_option maxRecDepth 100000 in
theorem xX0_move_II (l : Launch) (E : fx_En) (ks : fz_Ks) (ax : Nat → Nat) (im : Int32) (bn : Int32) (bm : Int32) (fm : Int32) (ff : Int32) (fl : Int32) (er : Nat → Int32) (bt : Nat → Int32) (sz : Nat → Int32) (nu : Nat → Int32) (sh : Nat → Option Nat) (PL : va_W) (sheet : Int32) (i_ : Int32) (other : Int32) (j_ : Int32) (n_ : Int32) (ra : Nat) (rf : Nat → Int32) (rb : Nat) (rg : Nat → Int32) (hst : l.stackTraces = false) (hIS : InvS bt sz) (hin : inB sheet 0 3 = true) (hin2 : inB other 0 3 = true) (hs0 : sh (nn sheet) = some ra) (hs1 : sh (nn other) = some rb) (hb0 : bt (nn sheet) = 32) (hb1 : bt (nn other) = 32) (hf : ∀ t, t < nn (sz (nn sheet)) → rf t = nu (24 * nn sheet + t)) (hg : ∀ t, t < nn (sz (nn other)) → rg t = nu (24 * nn other + t)) : fz_Hi l yX0_move cX0_move 9 [((58 : Nat), (68 : Nat), (71 : Nat), (354 : Nat))] .int rxX0_move_II E ks [.ref (ax 19), .int sheet, .int i_, .int other, .int j_, .int n_] [(ax 5, .inl (E.2 0, 7, .inl er)), (ra, .inl (E.2 0, (nn (sz (nn sheet))), .inl rf)), (rb, .inl (E.2 0, (nn (sz (nn other))), .inl rg))] ([(ax 19, .inr (0, [.ref (ax 0), .ref (ax 1), .ref (ax 35), .ref (ax 55), .ref (ax 4), .ref (ax 5), .ref (ax 6), .ref (ax 7), .int im, .ref (ax 9), .ref (ax 10), .ref (ax 11), .ref (ax 12), .ref (ax 13), .int bn, .int bm, .int fm, .int ff, .int fl])), (ax 6, .inl (E.2 3, 4, .inr (.inr (.inr (.inr (fun i_ => some (ax (64 + i_)))))))), (ax 64, .inr (2, [va_rf (sh 0)])), (ax 65, .inr (2, [va_rf (sh 1)])), (ax 66, .inr (2, [va_rf (sh 2)])), (ax 67, .inr (2, [va_rf (sh 3)]))] ++ PL) (S := (Nat → Int32) × (Nat → Int32)) (fun (u : (Nat → Int32) × (Nat → Int32)) => [(ax 5, .inl (E.2 0, 7, .inl u.1)), (ra, .inl (E.2 0, (nn (sz (nn sheet))), .inl rf)), (rb, .inl (E.2 0, (nn (sz (nn other))), .inl u.2))]) (fun (r : Int32) (u : (Nat → Int32) × (Nat → Int32)) => r = (move_ bt sz nu er sheet i_ other j_ n_).1 ∧ u.1 = (move_ bt sz nu er sheet i_ other j_ n_).2.2 ∧ ∀ t, t < nn (sz (nn other)) → u.2 t = (move_ bt sz nu er sheet i_ other j_ n_).2.1 (24 * nn other + t)) := by
  refine fz_hW rfl rfl ?_
  intro p e s m args below meth c A ls Q X htab hlocks hE hP hD hR hZ hA hl hret
  have hx := X.1
  have hb := X.2.1
  have hS : va_S A s.heap s.heap [] := va_S.rf
  replace hP : va_P E.1 clA [(ax 5, .inl (E.2 0, 7, .inl er)), (ra, .inl (E.2 0, (nn (sz (nn sheet))), .inl rf)), (rb, .inl (E.2 0, (nn (sz (nn other))), .inl rg))] _ := hP
  replace hD : va_D A [(ax 5, .inl (E.2 0, 7, .inl er)), (ra, .inl (E.2 0, (nn (sz (nn sheet))), .inl rf)), (rb, .inl (E.2 0, (nn (sz (nn other))), .inl rg))] := hD
  replace hl : lv_has ls 9 [(0, .ref (ax 19)), (1, .int sheet), (2, .int i_), (3, .int other), (4, .int j_), (5, .int n_)] := hl
  have hnz : ¬ (bt (nn sheet) = 0 ∨ bt (nn other) = 0) := by rw [hb0, hb1]; decide
  have hkk : bt (nn sheet) = bt (nn other) := by rw [hb0, hb1]
  refine lv_iload_n hx hb dX0_move_0 rfl (lv_at hl 1 rfl) ?_
  refine fx_ci (va_runS (As := [.int sheet]) (rest := []) X (xX0_isSheet l E sheet _) (va_cwS 1 X.2.2.2.2 (lw_S q806 q807 q69 q808) rfl rfl rfl hdX0_isSheet ⟨Nat.le_of_ble_eq_true rfl, Nat.le_of_ble_eq_true rfl⟩) (fx_pre hE hP hD hS hR [] rfl rfl fx_rc0) rfl rfl hl.1 rfl (lv_room (Nat.le_of_ble_eq_true rfl)) dX0_move_1 ⟨Nat.le_of_ble_eq_true rfl, Nat.le_of_ble_eq_true rfl⟩) hP hD hS hA [] rfl rfl (fun r_1 u H locs hq_1 hP hD hS => ?_)
  replace hP : va_P E.1 clA [(ax 5, .inl (E.2 0, 7, .inl er)), (ra, .inl (E.2 0, (nn (sz (nn sheet))), .inl rf)), (rb, .inl (E.2 0, (nn (sz (nn other))), .inl rg))] _ := hP
  replace hD : va_D A [(ax 5, .inl (E.2 0, 7, .inl er)), (ra, .inl (E.2 0, (nn (sz (nn sheet))), .inl rf)), (rb, .inl (E.2 0, (nn (sz (nn other))), .inl rg))] := hD
  replace hq_1 : r_1 = fx_b (inB sheet 0 3 = true) := hq_1
  rcases fx_bc hq_1 with ⟨hb_1, hr_1⟩ | ⟨hb_1, hr_1⟩
  · -- True
    subst hr_1
    refine lv_if_eq (tgt := 14) hx hb dX0_move_4 (by decide) (fun c => absurd c (by decide)) (fun _ => ?_)
    refine lv_iload_n hx hb dX0_move_7 rfl (lv_at hl 3 rfl) ?_
    refine fx_ci (va_runS (As := [.int other]) (rest := []) X (xX0_isSheet l E other _) (va_cwS 1 X.2.2.2.2 (lw_S q806 q807 q69 q808) rfl rfl rfl hdX0_isSheet ⟨Nat.le_of_ble_eq_true rfl, Nat.le_of_ble_eq_true rfl⟩) (fx_pre hE hP hD hS hR [] rfl rfl fx_rc0) rfl rfl hl.1 rfl (lv_room (Nat.le_of_ble_eq_true rfl)) dX0_move_8 ⟨Nat.le_of_ble_eq_true rfl, Nat.le_of_ble_eq_true rfl⟩) hP hD hS hA [] rfl rfl (fun r_8 u H locs hq_8 hP hD hS => ?_)
    replace hP : va_P E.1 clA [(ax 5, .inl (E.2 0, 7, .inl er)), (ra, .inl (E.2 0, (nn (sz (nn sheet))), .inl rf)), (rb, .inl (E.2 0, (nn (sz (nn other))), .inl rg))] _ := hP
    replace hD : va_D A [(ax 5, .inl (E.2 0, 7, .inl er)), (ra, .inl (E.2 0, (nn (sz (nn sheet))), .inl rf)), (rb, .inl (E.2 0, (nn (sz (nn other))), .inl rg))] := hD
    replace hq_8 : r_8 = fx_b (inB other 0 3 = true) := hq_8
    rcases fx_bc hq_8 with ⟨hb_8, hr_8⟩ | ⟨hb_8, hr_8⟩
    · -- True
      subst hr_8
      refine lv_if_ne (tgt := 20) hx hb dX0_move_11 (by decide) (fun _ => ?_) (fun c => absurd c (by decide))
      have gs := inB_nn (n := 3) hin (by omega)
      have gs1 : nn sheet < 4 := by omega
      have go := inB_nn (n := 3) hin2 (by omega)
      have go1 : nn other < 4 := by omega
      have hsh : ((ax (64 + nn sheet), .inr (2, [va_rf (sh (nn sheet))])) : Nat × va_E) ∈ ([(ax 19, .inr (0, [.ref (ax 0), .ref (ax 1), .ref (ax 35), .ref (ax 55), .ref (ax 4), .ref (ax 5), .ref (ax 6), .ref (ax 7), .int im, .ref (ax 9), .ref (ax 10), .ref (ax 11), .ref (ax 12), .ref (ax 13), .int bn, .int bm, .int fm, .int ff, .int fl])), (ax 6, .inl (E.2 3, 4, .inr (.inr (.inr (.inr (fun i_ => some (ax (64 + i_)))))))), (ax 64, .inr (2, [va_rf (sh 0)])), (ax 65, .inr (2, [va_rf (sh 1)])), (ax 66, .inr (2, [va_rf (sh 2)])), (ax 67, .inr (2, [va_rf (sh 3)]))] ++ PL) := by rcases (show nn sheet = 0 ∨ nn sheet = 1 ∨ nn sheet = 2 ∨ nn sheet = 3 by omega) with h | h | h | h <;> rw [h] <;> first | exact List.mem_of_getElem? (i := 2) rfl | exact List.mem_of_getElem? (i := 3) rfl | exact List.mem_of_getElem? (i := 4) rfl | exact List.mem_of_getElem? (i := 5) rfl
      have hso_ : ((ax (64 + nn other), .inr (2, [va_rf (sh (nn other))])) : Nat × va_E) ∈ ([(ax 19, .inr (0, [.ref (ax 0), .ref (ax 1), .ref (ax 35), .ref (ax 55), .ref (ax 4), .ref (ax 5), .ref (ax 6), .ref (ax 7), .int im, .ref (ax 9), .ref (ax 10), .ref (ax 11), .ref (ax 12), .ref (ax 13), .int bn, .int bm, .int fm, .int ff, .int fl])), (ax 6, .inl (E.2 3, 4, .inr (.inr (.inr (.inr (fun i_ => some (ax (64 + i_)))))))), (ax 64, .inr (2, [va_rf (sh 0)])), (ax 65, .inr (2, [va_rf (sh 1)])), (ax 66, .inr (2, [va_rf (sh 2)])), (ax 67, .inr (2, [va_rf (sh 3)]))] ++ PL) := by rcases (show nn other = 0 ∨ nn other = 1 ∨ nn other = 2 ∨ nn other = 3 by omega) with h | h | h | h <;> rw [h] <;> first | exact List.mem_of_getElem? (i := 2) rfl | exact List.mem_of_getElem? (i := 3) rfl | exact List.mem_of_getElem? (i := 4) rfl | exact List.mem_of_getElem? (i := 5) rfl
      have hsz := hIS.sz gs1
      have hsz2 := hsz.2
      have hso := hIS.sz go1
      have hso2 := hso.2
      refine lv_aload_n hx hb dX0_move_20 rfl (lv_at hl 0 rfl) ?_
      refine fx_get X hE (hR.at hS) 0 rfl rfl 6 rfl q241 rfl rfl dX0_move_21 ?_
      refine lv_iload_n hx hb dX0_move_24 rfl (lv_at hl 1 rfl) ?_
      refine fx_ti (show sheet = nI (nn sheet) from gs.1) ?_
      refine fx_aald X hE (hR.at hS) 1 3 rfl rfl (nn sheet) rfl (by omega) rfl (r := some (ax (64 + nn sheet))) (rfl) dX0_move_25 ?_
      refine fx_getN X hE (fx_one (hR.at hS) hsh) 0 rfl rfl 0 rfl 2 rfl rfl rfl dX0_move_26 ?_
      rw [hs0]
      refine lv_astore (lv' := [(6, .ref ra), (0, .ref (ax 19)), (1, .int sheet), (2, .int i_), (3, .int other), (4, .int j_), (5, .int n_)]) hx hb dX0_move_29 hl (by decide) rfl (fun ls hl => ?_)
      refine lv_aload_n hx hb dX0_move_31 rfl (lv_at hl 1 rfl) ?_
      refine fx_get X hE (hR.at hS) 0 rfl rfl 6 rfl q241 rfl rfl dX0_move_32 ?_
      refine lv_iload_n hx hb dX0_move_35 rfl (lv_at hl 4 rfl) ?_
      refine fx_ti (show other = nI (nn other) from go.1) ?_
      refine fx_aald X hE (hR.at hS) 1 3 rfl rfl (nn other) rfl (by omega) rfl (r := some (ax (64 + nn other))) (rfl) dX0_move_36 ?_
      refine fx_getN X hE (fx_one (hR.at hS) hso_) 0 rfl rfl 0 rfl 2 rfl rfl rfl dX0_move_37 ?_
      rw [hs1]
      refine lv_astore (lv' := [(7, .ref rb), (6, .ref ra), (0, .ref (ax 19)), (1, .int sheet), (2, .int i_), (3, .int other), (4, .int j_), (5, .int n_)]) hx hb dX0_move_40 hl (by decide) rfl (fun ls hl => ?_)
      refine lv_aload hx hb dX0_move_42 (lv_at hl 1 rfl) ?_
      refine lv_ifnull hx hb dX0_move_44 ?_
      refine lv_aload hx hb dX0_move_47 (lv_at hl 0 rfl) ?_
      refine lv_ifnonnull (tgt := 58) hx hb dX0_move_49 (by decide) ?_
      refine lv_aload hx hb dX0_move_58 (lv_at hl 1 rfl) ?_
      refine lv_iconst (v := 0) hx hb dX0_move_60 rfl ?_
      refine lv_aload hx hb dX0_move_61 (lv_at hl 0 rfl) ?_
      refine lv_iconst (v := 0) hx hb dX0_move_63 rfl ?_
      refine lv_iconst (v := 0) hx hb dX0_move_64 rfl ?_
      refine fx_acpy (ws' := [(ax 5, .inl (E.2 0, 7, .inl er)), (ra, .inl (E.2 0, (nn (sz (nn sheet))), .inl rf)), (rb, .inl (E.2 0, (nn (sz (nn other))), .inl (va_cpy rf rg 0 0 0)))]) X hE hl.1 hP hD hS q887 q889 q888 q93 1 2 0 rfl rfl rfl rfl 0 0 0 rfl rfl rfl (by omega) (by omega) (by omega) (by omega) (fun i hi => absurd hi (Nat.not_lt_zero _)) ⟨Nat.le_of_ble_eq_true rfl, Nat.le_of_ble_eq_true rfl⟩ rfl dX0_move_65 (fun H locs hP hD hS => ?_)
      have eW1 : (va_cpy rf rg 0 0 0) = rg := cpy_0 _ _ _ _
      rw [eW1] at hP hD
      refine lv_goto (tgt := 79) hx hb dX0_move_68 (by decide) ?_
      refine lv_iload hx hb dX0_move_79 (lv_at hl 7 rfl) ?_
      refine lv_if_lt (tgt := 118) hx hb dX0_move_81 (by decide) (fun c_81 => ?_) (fun c_81 => ?_)
      · -- jump 118
        have hbad : mvBad sz (nn sheet) (nn other) i_ j_ n_ = true := mvB1 c_81
        refine lv_aload_n hx hb dX0_move_118 rfl (lv_at hl 2 rfl) ?_
        refine lv_iconst (v := 1) hx hb dX0_move_119 rfl ?_
        refine fx_ci (va_runV (As := [.int 1]) (rest := []) X (xX0_finds l E ax im bn bm fm ff fl er 1 (by decide) _) (cwV 1 X.2.2.2.2 (lw_V q303 q305 qs0 q69 q306) rfl rfl rfl ⟨rfl, hdX0_finds⟩ ⟨Nat.le_of_ble_eq_true rfl, Nat.le_of_ble_eq_true rfl⟩) (fx_preV (fx_pre hE hP hD hS hR [0] rfl rfl (fx_rcr 0 rfl fx_rc0)) (va_recv hE.1 (hR.at hS) (ci := 0) (q0 := 0) rfl rfl)) rfl rfl hl.1 rfl (lv_room (Nat.le_of_ble_eq_true rfl)) dX0_move_120 ⟨Nat.le_of_ble_eq_true rfl, Nat.le_of_ble_eq_true rfl⟩) hP hD hS hA [0] rfl rfl (fun r_120 u H locs hq_120 hP hD hS => ?_)
        replace hP : va_P E.1 clA [(ax 5, .inl (E.2 0, 7, .inl (upd er 1 (er 1 + 1)))), (ra, .inl (E.2 0, (nn (sz (nn sheet))), .inl rf)), (rb, .inl (E.2 0, (nn (sz (nn other))), .inl rg))] _ := hP
        replace hD : va_D A [(ax 5, .inl (E.2 0, 7, .inl (upd er 1 (er 1 + 1)))), (ra, .inl (E.2 0, (nn (sz (nn sheet))), .inl rf)), (rb, .inl (E.2 0, (nn (sz (nn other))), .inl rg))] := hD
        replace hq_120 : r_120 = erv 1 := hq_120
        exact hret r_120 ((upd er 1 (er 1 + 1)), rg) (by rw [move_b hin hin2 hnz hkk hbad]; exact ⟨hq_120, rfl, hg⟩) (rfl) hP hD hS (Nat.le_of_ble_eq_true rfl) (Nat.le_of_ble_eq_true rfl) dX0_move_123
      · -- fall 84
        refine lv_iload_n hx hb dX0_move_84 rfl (lv_at hl 4 rfl) ?_
        refine lv_if_lt (tgt := 118) hx hb dX0_move_85 (by decide) (fun c_85 => ?_) (fun c_85 => ?_)
        · -- jump 118
          have hbad : mvBad sz (nn sheet) (nn other) i_ j_ n_ = true := mvB2 c_85
          refine lv_aload_n hx hb dX0_move_118 rfl (lv_at hl 2 rfl) ?_
          refine lv_iconst (v := 1) hx hb dX0_move_119 rfl ?_
          refine fx_ci (va_runV (As := [.int 1]) (rest := []) X (xX0_finds l E ax im bn bm fm ff fl er 1 (by decide) _) (cwV 1 X.2.2.2.2 (lw_V q303 q305 qs0 q69 q306) rfl rfl rfl ⟨rfl, hdX0_finds⟩ ⟨Nat.le_of_ble_eq_true rfl, Nat.le_of_ble_eq_true rfl⟩) (fx_preV (fx_pre hE hP hD hS hR [0] rfl rfl (fx_rcr 0 rfl fx_rc0)) (va_recv hE.1 (hR.at hS) (ci := 0) (q0 := 0) rfl rfl)) rfl rfl hl.1 rfl (lv_room (Nat.le_of_ble_eq_true rfl)) dX0_move_120 ⟨Nat.le_of_ble_eq_true rfl, Nat.le_of_ble_eq_true rfl⟩) hP hD hS hA [0] rfl rfl (fun r_120 u H locs hq_120 hP hD hS => ?_)
          replace hP : va_P E.1 clA [(ax 5, .inl (E.2 0, 7, .inl (upd er 1 (er 1 + 1)))), (ra, .inl (E.2 0, (nn (sz (nn sheet))), .inl rf)), (rb, .inl (E.2 0, (nn (sz (nn other))), .inl rg))] _ := hP
          replace hD : va_D A [(ax 5, .inl (E.2 0, 7, .inl (upd er 1 (er 1 + 1)))), (ra, .inl (E.2 0, (nn (sz (nn sheet))), .inl rf)), (rb, .inl (E.2 0, (nn (sz (nn other))), .inl rg))] := hD
          replace hq_120 : r_120 = erv 1 := hq_120
          exact hret r_120 ((upd er 1 (er 1 + 1)), rg) (by rw [move_b hin hin2 hnz hkk hbad]; exact ⟨hq_120, rfl, hg⟩) (rfl) hP hD hS (Nat.le_of_ble_eq_true rfl) (Nat.le_of_ble_eq_true rfl) dX0_move_123
        · -- fall 88
          refine lv_iload hx hb dX0_move_88 (lv_at hl 6 rfl) ?_
          refine lv_if_lt (tgt := 118) hx hb dX0_move_90 (by decide) (fun c_90 => ?_) (fun c_90 => ?_)
          · -- jump 118
            have hbad : mvBad sz (nn sheet) (nn other) i_ j_ n_ = true := mvB3 c_90
            refine lv_aload_n hx hb dX0_move_118 rfl (lv_at hl 2 rfl) ?_
            refine lv_iconst (v := 1) hx hb dX0_move_119 rfl ?_
            refine fx_ci (va_runV (As := [.int 1]) (rest := []) X (xX0_finds l E ax im bn bm fm ff fl er 1 (by decide) _) (cwV 1 X.2.2.2.2 (lw_V q303 q305 qs0 q69 q306) rfl rfl rfl ⟨rfl, hdX0_finds⟩ ⟨Nat.le_of_ble_eq_true rfl, Nat.le_of_ble_eq_true rfl⟩) (fx_preV (fx_pre hE hP hD hS hR [0] rfl rfl (fx_rcr 0 rfl fx_rc0)) (va_recv hE.1 (hR.at hS) (ci := 0) (q0 := 0) rfl rfl)) rfl rfl hl.1 rfl (lv_room (Nat.le_of_ble_eq_true rfl)) dX0_move_120 ⟨Nat.le_of_ble_eq_true rfl, Nat.le_of_ble_eq_true rfl⟩) hP hD hS hA [0] rfl rfl (fun r_120 u H locs hq_120 hP hD hS => ?_)
            replace hP : va_P E.1 clA [(ax 5, .inl (E.2 0, 7, .inl (upd er 1 (er 1 + 1)))), (ra, .inl (E.2 0, (nn (sz (nn sheet))), .inl rf)), (rb, .inl (E.2 0, (nn (sz (nn other))), .inl rg))] _ := hP
            replace hD : va_D A [(ax 5, .inl (E.2 0, 7, .inl (upd er 1 (er 1 + 1)))), (ra, .inl (E.2 0, (nn (sz (nn sheet))), .inl rf)), (rb, .inl (E.2 0, (nn (sz (nn other))), .inl rg))] := hD
            replace hq_120 : r_120 = erv 1 := hq_120
            exact hret r_120 ((upd er 1 (er 1 + 1)), rg) (by rw [move_b hin hin2 hnz hkk hbad]; exact ⟨hq_120, rfl, hg⟩) (rfl) hP hD hS (Nat.le_of_ble_eq_true rfl) (Nat.le_of_ble_eq_true rfl) dX0_move_123
          · -- fall 93
            refine lv_iload hx hb dX0_move_93 (lv_at hl 7 rfl) ?_
            refine lv_aload hx hb dX0_move_95 (lv_at hl 1 rfl) ?_
            refine fx_ci (va_runS (As := [.ref ra]) (rest := [.int n_]) X (xX0_sizeOfI l E ra (nn (sz (nn sheet))) rf _) (va_cwS 1 X.2.2.2.2 (lw_S q813 q814 q69 q815) rfl rfl rfl hdX0_sizeOf ⟨Nat.le_of_ble_eq_true rfl, Nat.le_of_ble_eq_true rfl⟩) (fx_pre hE hP hD hS hR [] rfl rfl (fx_rcm 1 rfl (by decide) fx_rc0)) rfl rfl hl.1 rfl (lv_room (Nat.le_of_ble_eq_true rfl)) dX0_move_97 ⟨Nat.le_of_ble_eq_true rfl, Nat.le_of_ble_eq_true rfl⟩) hP hD hS hA [] rfl rfl (fun r_97 u H locs hq_97 hP hD hS => ?_)
            replace hP : va_P E.1 clA [(ax 5, .inl (E.2 0, 7, .inl er)), (ra, .inl (E.2 0, (nn (sz (nn sheet))), .inl rf)), (rb, .inl (E.2 0, (nn (sz (nn other))), .inl rg))] _ := hP
            replace hD : va_D A [(ax 5, .inl (E.2 0, 7, .inl er)), (ra, .inl (E.2 0, (nn (sz (nn sheet))), .inl rf)), (rb, .inl (E.2 0, (nn (sz (nn other))), .inl rg))] := hD
            replace hq_97 : r_97 = nI (nn (sz (nn sheet))) := hq_97
            refine fx_ti (show r_97 = nI (nn (sz (nn sheet))) from hq_97) ?_
            refine lv_iload_n hx hb dX0_move_100 rfl (lv_at hl 4 rfl) ?_
            refine lv_isub hx hb dX0_move_101 ?_
            refine lv_icmp_gt (tgt := 118) hx hb dX0_move_102 (by decide) (fun c_102 => ?_) (fun c_102 => ?_)
            · -- jump 118
              have hbad : mvBad sz (nn sheet) (nn other) i_ j_ n_ = true := mvB4 hsz.1 hsz2 c_81 c_85 c_102
              refine lv_aload_n hx hb dX0_move_118 rfl (lv_at hl 2 rfl) ?_
              refine lv_iconst (v := 1) hx hb dX0_move_119 rfl ?_
              refine fx_ci (va_runV (As := [.int 1]) (rest := []) X (xX0_finds l E ax im bn bm fm ff fl er 1 (by decide) _) (cwV 1 X.2.2.2.2 (lw_V q303 q305 qs0 q69 q306) rfl rfl rfl ⟨rfl, hdX0_finds⟩ ⟨Nat.le_of_ble_eq_true rfl, Nat.le_of_ble_eq_true rfl⟩) (fx_preV (fx_pre hE hP hD hS hR [0] rfl rfl (fx_rcr 0 rfl fx_rc0)) (va_recv hE.1 (hR.at hS) (ci := 0) (q0 := 0) rfl rfl)) rfl rfl hl.1 rfl (lv_room (Nat.le_of_ble_eq_true rfl)) dX0_move_120 ⟨Nat.le_of_ble_eq_true rfl, Nat.le_of_ble_eq_true rfl⟩) hP hD hS hA [0] rfl rfl (fun r_120 u H locs hq_120 hP hD hS => ?_)
              replace hP : va_P E.1 clA [(ax 5, .inl (E.2 0, 7, .inl (upd er 1 (er 1 + 1)))), (ra, .inl (E.2 0, (nn (sz (nn sheet))), .inl rf)), (rb, .inl (E.2 0, (nn (sz (nn other))), .inl rg))] _ := hP
              replace hD : va_D A [(ax 5, .inl (E.2 0, 7, .inl (upd er 1 (er 1 + 1)))), (ra, .inl (E.2 0, (nn (sz (nn sheet))), .inl rf)), (rb, .inl (E.2 0, (nn (sz (nn other))), .inl rg))] := hD
              replace hq_120 : r_120 = erv 1 := hq_120
              exact hret r_120 ((upd er 1 (er 1 + 1)), rg) (by rw [move_b hin hin2 hnz hkk hbad]; exact ⟨hq_120, rfl, hg⟩) (rfl) hP hD hS (Nat.le_of_ble_eq_true rfl) (Nat.le_of_ble_eq_true rfl) dX0_move_123
            · -- fall 105
              refine lv_iload hx hb dX0_move_105 (lv_at hl 7 rfl) ?_
              refine lv_aload hx hb dX0_move_107 (lv_at hl 0 rfl) ?_
              refine fx_ci (va_runS (As := [.ref rb]) (rest := [.int n_]) X (xX0_sizeOfI l E rb (nn (sz (nn other))) rg _) (va_cwS 1 X.2.2.2.2 (lw_S q813 q814 q69 q815) rfl rfl rfl hdX0_sizeOf ⟨Nat.le_of_ble_eq_true rfl, Nat.le_of_ble_eq_true rfl⟩) (fx_pre hE hP hD hS hR [] rfl rfl (fx_rcm 2 rfl (by decide) fx_rc0)) rfl rfl hl.1 rfl (lv_room (Nat.le_of_ble_eq_true rfl)) dX0_move_109 ⟨Nat.le_of_ble_eq_true rfl, Nat.le_of_ble_eq_true rfl⟩) hP hD hS hA [] rfl rfl (fun r_109 u H locs hq_109 hP hD hS => ?_)
              replace hP : va_P E.1 clA [(ax 5, .inl (E.2 0, 7, .inl er)), (ra, .inl (E.2 0, (nn (sz (nn sheet))), .inl rf)), (rb, .inl (E.2 0, (nn (sz (nn other))), .inl rg))] _ := hP
              replace hD : va_D A [(ax 5, .inl (E.2 0, 7, .inl er)), (ra, .inl (E.2 0, (nn (sz (nn sheet))), .inl rf)), (rb, .inl (E.2 0, (nn (sz (nn other))), .inl rg))] := hD
              replace hq_109 : r_109 = nI (nn (sz (nn other))) := hq_109
              refine fx_ti (show r_109 = nI (nn (sz (nn other))) from hq_109) ?_
              refine lv_iload hx hb dX0_move_112 (lv_at hl 6 rfl) ?_
              refine lv_isub hx hb dX0_move_114 ?_
              refine lv_icmp_le (tgt := 124) hx hb dX0_move_115 (by decide) (fun c_115 => ?_) (fun c_115 => ?_)
              · -- jump 124
                obtain ⟨hok, gm1, gm2⟩ := mvB0 hsz.1 hsz2 hso.1 hso2 c_81 c_85 c_90 (Int32.not_lt.1 c_102) c_115
                have pn := nn_pos (Int32.not_lt.1 c_81)
                have pi := nn_pos (Int32.not_lt.1 c_85)
                have pj := nn_pos (Int32.not_lt.1 c_90)
                refine lv_aload hx hb dX0_move_124 (lv_at hl 1 rfl) ?_
                refine lv_iload_n hx hb dX0_move_126 rfl (lv_at hl 4 rfl) ?_
                refine fx_ti (show i_ = nI (nn i_) from pi.1) ?_
                refine lv_aload hx hb dX0_move_127 (lv_at hl 0 rfl) ?_
                refine lv_iload hx hb dX0_move_129 (lv_at hl 6 rfl) ?_
                refine fx_ti (show j_ = nI (nn j_) from pj.1) ?_
                refine lv_iload hx hb dX0_move_131 (lv_at hl 7 rfl) ?_
                refine fx_ti (show n_ = nI (nn n_) from pn.1) ?_
                refine fx_acpy (ws' := [(ax 5, .inl (E.2 0, 7, .inl er)), (ra, .inl (E.2 0, (nn (sz (nn sheet))), .inl rf)), (rb, .inl (E.2 0, (nn (sz (nn other))), .inl (va_cpy rf rg (nn i_) (nn j_) (nn n_))))]) X hE hl.1 hP hD hS q887 q889 q888 q93 1 2 0 rfl rfl rfl rfl (nn i_) (nn j_) (nn n_) rfl rfl rfl (by omega) (by omega) (by omega) (by omega) (fun i hi => rfl) ⟨Nat.le_of_ble_eq_true rfl, Nat.le_of_ble_eq_true rfl⟩ rfl dX0_move_133 (fun H locs hP hD hS => ?_)
                refine lv_iload hx hb dX0_move_136 (lv_at hl 7 rfl) ?_
                exact hret n_ (er, (va_cpy rf rg (nn i_) (nn j_) (nn n_))) (by rw [move_s hin hin2 hnz hkk hok]; exact ⟨rfl, rfl, row_c hf hg gm1 gm2⟩) (rfl) hP hD hS (Nat.le_of_ble_eq_true rfl) (Nat.le_of_ble_eq_true rfl) dX0_move_138
              · -- fall 118
                have hbad : mvBad sz (nn sheet) (nn other) i_ j_ n_ = true := mvB5 hso.1 hso2 c_81 c_90 (Int32.not_le.1 c_115)
                refine lv_aload_n hx hb dX0_move_118 rfl (lv_at hl 2 rfl) ?_
                refine lv_iconst (v := 1) hx hb dX0_move_119 rfl ?_
                refine fx_ci (va_runV (As := [.int 1]) (rest := []) X (xX0_finds l E ax im bn bm fm ff fl er 1 (by decide) _) (cwV 1 X.2.2.2.2 (lw_V q303 q305 qs0 q69 q306) rfl rfl rfl ⟨rfl, hdX0_finds⟩ ⟨Nat.le_of_ble_eq_true rfl, Nat.le_of_ble_eq_true rfl⟩) (fx_preV (fx_pre hE hP hD hS hR [0] rfl rfl (fx_rcr 0 rfl fx_rc0)) (va_recv hE.1 (hR.at hS) (ci := 0) (q0 := 0) rfl rfl)) rfl rfl hl.1 rfl (lv_room (Nat.le_of_ble_eq_true rfl)) dX0_move_120 ⟨Nat.le_of_ble_eq_true rfl, Nat.le_of_ble_eq_true rfl⟩) hP hD hS hA [0] rfl rfl (fun r_120 u H locs hq_120 hP hD hS => ?_)
                replace hP : va_P E.1 clA [(ax 5, .inl (E.2 0, 7, .inl (upd er 1 (er 1 + 1)))), (ra, .inl (E.2 0, (nn (sz (nn sheet))), .inl rf)), (rb, .inl (E.2 0, (nn (sz (nn other))), .inl rg))] _ := hP
                replace hD : va_D A [(ax 5, .inl (E.2 0, 7, .inl (upd er 1 (er 1 + 1)))), (ra, .inl (E.2 0, (nn (sz (nn sheet))), .inl rf)), (rb, .inl (E.2 0, (nn (sz (nn other))), .inl rg))] := hD
                replace hq_120 : r_120 = erv 1 := hq_120
                exact hret r_120 ((upd er 1 (er 1 + 1)), rg) (by rw [move_b hin hin2 hnz hkk hbad]; exact ⟨hq_120, rfl, hg⟩) (rfl) hP hD hS (Nat.le_of_ble_eq_true rfl) (Nat.le_of_ble_eq_true rfl) dX0_move_123
    · -- False
      subst hr_8
      exact absurd hin2 hb_8
  · -- False
    subst hr_1
    exact absurd hin hb_1
abbrev rxX0_move_IX : Room := { frames := 10, cells := 3, slots := 80, locals := 10400 }
set_option maxHeartbeats 400000 in
set_option maxRecDepth 100000 in
theorem xX0_move_IX (l : Launch) (E : fx_En) (ks : fz_Ks) (ax : Nat → Nat) (im : Int32) (bn : Int32) (bm : Int32) (fm : Int32) (ff : Int32) (fl : Int32) (er : Nat → Int32) (bt : Nat → Int32) (sz : Nat → Int32) (nu : Nat → Int32) (sh : Nat → Option Nat) (PL : va_W) (sheet : Int32) (i_ : Int32) (other : Int32) (j_ : Int32) (n_ : Int32) (ra : Nat) (rf : Nat → Int32) (hst : l.stackTraces = false) (hIS : InvS bt sz) (hin : inB sheet 0 3 = true) (hin2 : inB other 0 3 = true) (hs0 : sh (nn sheet) = some ra) (hs1 : sh (nn other) = some ra) (hb0 : bt (nn sheet) = 32) (hb1 : bt (nn other) = 32) (hf : ∀ t, t < nn (sz (nn sheet)) → rf t = nu (24 * nn sheet + t)) (hg : ∀ t, t < nn (sz (nn sheet)) → rf t = nu (24 * nn other + t)) (hns : nn (sz (nn other)) = nn (sz (nn sheet))) : fz_Hi l yX0_move cX0_move 9 [((58 : Nat), (68 : Nat), (71 : Nat), (354 : Nat))] .int rxX0_move_IX E ks [.ref (ax 19), .int sheet, .int i_, .int other, .int j_, .int n_] [(ax 5, .inl (E.2 0, 7, .inl er)), (ra, .inl (E.2 0, (nn (sz (nn sheet))), .inl rf))] ([(ax 19, .inr (0, [.ref (ax 0), .ref (ax 1), .ref (ax 35), .ref (ax 55), .ref (ax 4), .ref (ax 5), .ref (ax 6), .ref (ax 7), .int im, .ref (ax 9), .ref (ax 10), .ref (ax 11), .ref (ax 12), .ref (ax 13), .int bn, .int bm, .int fm, .int ff, .int fl])), (ax 6, .inl (E.2 3, 4, .inr (.inr (.inr (.inr (fun i_ => some (ax (64 + i_)))))))), (ax 64, .inr (2, [va_rf (sh 0)])), (ax 65, .inr (2, [va_rf (sh 1)])), (ax 66, .inr (2, [va_rf (sh 2)])), (ax 67, .inr (2, [va_rf (sh 3)]))] ++ PL) (S := (Nat → Int32) × (Nat → Int32)) (fun (u : (Nat → Int32) × (Nat → Int32)) => [(ax 5, .inl (E.2 0, 7, .inl u.1)), (ra, .inl (E.2 0, (nn (sz (nn sheet))), .inl u.2))]) (fun (r : Int32) (u : (Nat → Int32) × (Nat → Int32)) => r = (move_ bt sz nu er sheet i_ other j_ n_).1 ∧ u.1 = (move_ bt sz nu er sheet i_ other j_ n_).2.2 ∧ ∀ t, t < nn (sz (nn sheet)) → u.2 t = (move_ bt sz nu er sheet i_ other j_ n_).2.1 (24 * nn other + t)) := by
  refine fz_hW rfl rfl ?_
  intro p e s m args below meth c A ls Q X htab hlocks hE hP hD hR hZ hA hl hret
  have hx := X.1
  have hb := X.2.1
  have hS : va_S A s.heap s.heap [] := va_S.rf
  replace hP : va_P E.1 clA [(ax 5, .inl (E.2 0, 7, .inl er)), (ra, .inl (E.2 0, (nn (sz (nn sheet))), .inl rf))] _ := hP
  replace hD : va_D A [(ax 5, .inl (E.2 0, 7, .inl er)), (ra, .inl (E.2 0, (nn (sz (nn sheet))), .inl rf))] := hD
  replace hl : lv_has ls 9 [(0, .ref (ax 19)), (1, .int sheet), (2, .int i_), (3, .int other), (4, .int j_), (5, .int n_)] := hl
  have hnz : ¬ (bt (nn sheet) = 0 ∨ bt (nn other) = 0) := by rw [hb0, hb1]; decide
  have hkk : bt (nn sheet) = bt (nn other) := by rw [hb0, hb1]
  refine lv_iload_n hx hb dX0_move_0 rfl (lv_at hl 1 rfl) ?_
  refine fx_ci (va_runS (As := [.int sheet]) (rest := []) X (xX0_isSheet l E sheet _) (va_cwS 1 X.2.2.2.2 (lw_S q806 q807 q69 q808) rfl rfl rfl hdX0_isSheet ⟨Nat.le_of_ble_eq_true rfl, Nat.le_of_ble_eq_true rfl⟩) (fx_pre hE hP hD hS hR [] rfl rfl fx_rc0) rfl rfl hl.1 rfl (lv_room (Nat.le_of_ble_eq_true rfl)) dX0_move_1 ⟨Nat.le_of_ble_eq_true rfl, Nat.le_of_ble_eq_true rfl⟩) hP hD hS hA [] rfl rfl (fun r_1 u H locs hq_1 hP hD hS => ?_)
  replace hP : va_P E.1 clA [(ax 5, .inl (E.2 0, 7, .inl er)), (ra, .inl (E.2 0, (nn (sz (nn sheet))), .inl rf))] _ := hP
  replace hD : va_D A [(ax 5, .inl (E.2 0, 7, .inl er)), (ra, .inl (E.2 0, (nn (sz (nn sheet))), .inl rf))] := hD
  replace hq_1 : r_1 = fx_b (inB sheet 0 3 = true) := hq_1
  rcases fx_bc hq_1 with ⟨hb_1, hr_1⟩ | ⟨hb_1, hr_1⟩
  · -- True
    subst hr_1
    refine lv_if_eq (tgt := 14) hx hb dX0_move_4 (by decide) (fun c => absurd c (by decide)) (fun _ => ?_)
    refine lv_iload_n hx hb dX0_move_7 rfl (lv_at hl 3 rfl) ?_
    refine fx_ci (va_runS (As := [.int other]) (rest := []) X (xX0_isSheet l E other _) (va_cwS 1 X.2.2.2.2 (lw_S q806 q807 q69 q808) rfl rfl rfl hdX0_isSheet ⟨Nat.le_of_ble_eq_true rfl, Nat.le_of_ble_eq_true rfl⟩) (fx_pre hE hP hD hS hR [] rfl rfl fx_rc0) rfl rfl hl.1 rfl (lv_room (Nat.le_of_ble_eq_true rfl)) dX0_move_8 ⟨Nat.le_of_ble_eq_true rfl, Nat.le_of_ble_eq_true rfl⟩) hP hD hS hA [] rfl rfl (fun r_8 u H locs hq_8 hP hD hS => ?_)
    replace hP : va_P E.1 clA [(ax 5, .inl (E.2 0, 7, .inl er)), (ra, .inl (E.2 0, (nn (sz (nn sheet))), .inl rf))] _ := hP
    replace hD : va_D A [(ax 5, .inl (E.2 0, 7, .inl er)), (ra, .inl (E.2 0, (nn (sz (nn sheet))), .inl rf))] := hD
    replace hq_8 : r_8 = fx_b (inB other 0 3 = true) := hq_8
    rcases fx_bc hq_8 with ⟨hb_8, hr_8⟩ | ⟨hb_8, hr_8⟩
    · -- True
      subst hr_8
      refine lv_if_ne (tgt := 20) hx hb dX0_move_11 (by decide) (fun _ => ?_) (fun c => absurd c (by decide))
      have gs := inB_nn (n := 3) hin (by omega)
      have gs1 : nn sheet < 4 := by omega
      have go := inB_nn (n := 3) hin2 (by omega)
      have go1 : nn other < 4 := by omega
      have hsh : ((ax (64 + nn sheet), .inr (2, [va_rf (sh (nn sheet))])) : Nat × va_E) ∈ ([(ax 19, .inr (0, [.ref (ax 0), .ref (ax 1), .ref (ax 35), .ref (ax 55), .ref (ax 4), .ref (ax 5), .ref (ax 6), .ref (ax 7), .int im, .ref (ax 9), .ref (ax 10), .ref (ax 11), .ref (ax 12), .ref (ax 13), .int bn, .int bm, .int fm, .int ff, .int fl])), (ax 6, .inl (E.2 3, 4, .inr (.inr (.inr (.inr (fun i_ => some (ax (64 + i_)))))))), (ax 64, .inr (2, [va_rf (sh 0)])), (ax 65, .inr (2, [va_rf (sh 1)])), (ax 66, .inr (2, [va_rf (sh 2)])), (ax 67, .inr (2, [va_rf (sh 3)]))] ++ PL) := by rcases (show nn sheet = 0 ∨ nn sheet = 1 ∨ nn sheet = 2 ∨ nn sheet = 3 by omega) with h | h | h | h <;> rw [h] <;> first | exact List.mem_of_getElem? (i := 2) rfl | exact List.mem_of_getElem? (i := 3) rfl | exact List.mem_of_getElem? (i := 4) rfl | exact List.mem_of_getElem? (i := 5) rfl
      have hso_ : ((ax (64 + nn other), .inr (2, [va_rf (sh (nn other))])) : Nat × va_E) ∈ ([(ax 19, .inr (0, [.ref (ax 0), .ref (ax 1), .ref (ax 35), .ref (ax 55), .ref (ax 4), .ref (ax 5), .ref (ax 6), .ref (ax 7), .int im, .ref (ax 9), .ref (ax 10), .ref (ax 11), .ref (ax 12), .ref (ax 13), .int bn, .int bm, .int fm, .int ff, .int fl])), (ax 6, .inl (E.2 3, 4, .inr (.inr (.inr (.inr (fun i_ => some (ax (64 + i_)))))))), (ax 64, .inr (2, [va_rf (sh 0)])), (ax 65, .inr (2, [va_rf (sh 1)])), (ax 66, .inr (2, [va_rf (sh 2)])), (ax 67, .inr (2, [va_rf (sh 3)]))] ++ PL) := by rcases (show nn other = 0 ∨ nn other = 1 ∨ nn other = 2 ∨ nn other = 3 by omega) with h | h | h | h <;> rw [h] <;> first | exact List.mem_of_getElem? (i := 2) rfl | exact List.mem_of_getElem? (i := 3) rfl | exact List.mem_of_getElem? (i := 4) rfl | exact List.mem_of_getElem? (i := 5) rfl
      have hsz := hIS.sz gs1
      have hsz2 := hsz.2
      have hso : sz (nn other) = nI (nn (sz (nn sheet))) ∧ nn (sz (nn sheet)) ≤ 24 := ⟨(hIS.sz go1).1.trans (congrArg nI hns), hsz2⟩
      have hso2 := hso.2
      refine lv_aload_n hx hb dX0_move_20 rfl (lv_at hl 0 rfl) ?_
      refine fx_get X hE (hR.at hS) 0 rfl rfl 6 rfl q241 rfl rfl dX0_move_21 ?_
      refine lv_iload_n hx hb dX0_move_24 rfl (lv_at hl 1 rfl) ?_
      refine fx_ti (show sheet = nI (nn sheet) from gs.1) ?_
      refine fx_aald X hE (hR.at hS) 1 3 rfl rfl (nn sheet) rfl (by omega) rfl (r := some (ax (64 + nn sheet))) (rfl) dX0_move_25 ?_
      refine fx_getN X hE (fx_one (hR.at hS) hsh) 0 rfl rfl 0 rfl 2 rfl rfl rfl dX0_move_26 ?_
      rw [hs0]
      refine lv_astore (lv' := [(6, .ref ra), (0, .ref (ax 19)), (1, .int sheet), (2, .int i_), (3, .int other), (4, .int j_), (5, .int n_)]) hx hb dX0_move_29 hl (by decide) rfl (fun ls hl => ?_)
      refine lv_aload_n hx hb dX0_move_31 rfl (lv_at hl 1 rfl) ?_
      refine fx_get X hE (hR.at hS) 0 rfl rfl 6 rfl q241 rfl rfl dX0_move_32 ?_
      refine lv_iload_n hx hb dX0_move_35 rfl (lv_at hl 4 rfl) ?_
      refine fx_ti (show other = nI (nn other) from go.1) ?_
      refine fx_aald X hE (hR.at hS) 1 3 rfl rfl (nn other) rfl (by omega) rfl (r := some (ax (64 + nn other))) (rfl) dX0_move_36 ?_
      refine fx_getN X hE (fx_one (hR.at hS) hso_) 0 rfl rfl 0 rfl 2 rfl rfl rfl dX0_move_37 ?_
      rw [hs1]
      refine lv_astore (lv' := [(7, .ref ra), (6, .ref ra), (0, .ref (ax 19)), (1, .int sheet), (2, .int i_), (3, .int other), (4, .int j_), (5, .int n_)]) hx hb dX0_move_40 hl (by decide) rfl (fun ls hl => ?_)
      refine lv_aload hx hb dX0_move_42 (lv_at hl 1 rfl) ?_
      refine lv_ifnull hx hb dX0_move_44 ?_
      refine lv_aload hx hb dX0_move_47 (lv_at hl 0 rfl) ?_
      refine lv_ifnonnull (tgt := 58) hx hb dX0_move_49 (by decide) ?_
      refine lv_aload hx hb dX0_move_58 (lv_at hl 1 rfl) ?_
      refine lv_iconst (v := 0) hx hb dX0_move_60 rfl ?_
      refine lv_aload hx hb dX0_move_61 (lv_at hl 0 rfl) ?_
      refine lv_iconst (v := 0) hx hb dX0_move_63 rfl ?_
      refine lv_iconst (v := 0) hx hb dX0_move_64 rfl ?_
      refine fx_acpy (ws' := [(ax 5, .inl (E.2 0, 7, .inl er)), (ra, .inl (E.2 0, (nn (sz (nn sheet))), .inl (va_cpy rf rf 0 0 0)))]) X hE hl.1 hP hD hS q887 q889 q888 q93 1 1 0 rfl rfl rfl rfl 0 0 0 rfl rfl rfl (by omega) (by omega) (by omega) (by omega) (fun i hi => absurd hi (Nat.not_lt_zero _)) ⟨Nat.le_of_ble_eq_true rfl, Nat.le_of_ble_eq_true rfl⟩ rfl dX0_move_65 (fun H locs hP hD hS => ?_)
      have eW1 : (va_cpy rf rf 0 0 0) = rf := cpy_0 _ _ _ _
      rw [eW1] at hP hD
      refine lv_goto (tgt := 79) hx hb dX0_move_68 (by decide) ?_
      refine lv_iload hx hb dX0_move_79 (lv_at hl 7 rfl) ?_
      refine lv_if_lt (tgt := 118) hx hb dX0_move_81 (by decide) (fun c_81 => ?_) (fun c_81 => ?_)
      · -- jump 118
        have hbad : mvBad sz (nn sheet) (nn other) i_ j_ n_ = true := mvB1 c_81
        refine lv_aload_n hx hb dX0_move_118 rfl (lv_at hl 2 rfl) ?_
        refine lv_iconst (v := 1) hx hb dX0_move_119 rfl ?_
        refine fx_ci (va_runV (As := [.int 1]) (rest := []) X (xX0_finds l E ax im bn bm fm ff fl er 1 (by decide) _) (cwV 1 X.2.2.2.2 (lw_V q303 q305 qs0 q69 q306) rfl rfl rfl ⟨rfl, hdX0_finds⟩ ⟨Nat.le_of_ble_eq_true rfl, Nat.le_of_ble_eq_true rfl⟩) (fx_preV (fx_pre hE hP hD hS hR [0] rfl rfl (fx_rcr 0 rfl fx_rc0)) (va_recv hE.1 (hR.at hS) (ci := 0) (q0 := 0) rfl rfl)) rfl rfl hl.1 rfl (lv_room (Nat.le_of_ble_eq_true rfl)) dX0_move_120 ⟨Nat.le_of_ble_eq_true rfl, Nat.le_of_ble_eq_true rfl⟩) hP hD hS hA [0] rfl rfl (fun r_120 u H locs hq_120 hP hD hS => ?_)
        replace hP : va_P E.1 clA [(ax 5, .inl (E.2 0, 7, .inl (upd er 1 (er 1 + 1)))), (ra, .inl (E.2 0, (nn (sz (nn sheet))), .inl rf))] _ := hP
        replace hD : va_D A [(ax 5, .inl (E.2 0, 7, .inl (upd er 1 (er 1 + 1)))), (ra, .inl (E.2 0, (nn (sz (nn sheet))), .inl rf))] := hD
        replace hq_120 : r_120 = erv 1 := hq_120
        exact hret r_120 ((upd er 1 (er 1 + 1)), rf) (by rw [move_b hin hin2 hnz hkk hbad]; exact ⟨hq_120, rfl, hg⟩) (rfl) hP hD hS (Nat.le_of_ble_eq_true rfl) (Nat.le_of_ble_eq_true rfl) dX0_move_123
      · -- fall 84
        refine lv_iload_n hx hb dX0_move_84 rfl (lv_at hl 4 rfl) ?_
        refine lv_if_lt (tgt := 118) hx hb dX0_move_85 (by decide) (fun c_85 => ?_) (fun c_85 => ?_)
        · -- jump 118
          have hbad : mvBad sz (nn sheet) (nn other) i_ j_ n_ = true := mvB2 c_85
          refine lv_aload_n hx hb dX0_move_118 rfl (lv_at hl 2 rfl) ?_
          refine lv_iconst (v := 1) hx hb dX0_move_119 rfl ?_
          refine fx_ci (va_runV (As := [.int 1]) (rest := []) X (xX0_finds l E ax im bn bm fm ff fl er 1 (by decide) _) (cwV 1 X.2.2.2.2 (lw_V q303 q305 qs0 q69 q306) rfl rfl rfl ⟨rfl, hdX0_finds⟩ ⟨Nat.le_of_ble_eq_true rfl, Nat.le_of_ble_eq_true rfl⟩) (fx_preV (fx_pre hE hP hD hS hR [0] rfl rfl (fx_rcr 0 rfl fx_rc0)) (va_recv hE.1 (hR.at hS) (ci := 0) (q0 := 0) rfl rfl)) rfl rfl hl.1 rfl (lv_room (Nat.le_of_ble_eq_true rfl)) dX0_move_120 ⟨Nat.le_of_ble_eq_true rfl, Nat.le_of_ble_eq_true rfl⟩) hP hD hS hA [0] rfl rfl (fun r_120 u H locs hq_120 hP hD hS => ?_)
          replace hP : va_P E.1 clA [(ax 5, .inl (E.2 0, 7, .inl (upd er 1 (er 1 + 1)))), (ra, .inl (E.2 0, (nn (sz (nn sheet))), .inl rf))] _ := hP
          replace hD : va_D A [(ax 5, .inl (E.2 0, 7, .inl (upd er 1 (er 1 + 1)))), (ra, .inl (E.2 0, (nn (sz (nn sheet))), .inl rf))] := hD
          replace hq_120 : r_120 = erv 1 := hq_120
          exact hret r_120 ((upd er 1 (er 1 + 1)), rf) (by rw [move_b hin hin2 hnz hkk hbad]; exact ⟨hq_120, rfl, hg⟩) (rfl) hP hD hS (Nat.le_of_ble_eq_true rfl) (Nat.le_of_ble_eq_true rfl) dX0_move_123
        · -- fall 88
          refine lv_iload hx hb dX0_move_88 (lv_at hl 6 rfl) ?_
          refine lv_if_lt (tgt := 118) hx hb dX0_move_90 (by decide) (fun c_90 => ?_) (fun c_90 => ?_)
          · -- jump 118
            have hbad : mvBad sz (nn sheet) (nn other) i_ j_ n_ = true := mvB3 c_90
            refine lv_aload_n hx hb dX0_move_118 rfl (lv_at hl 2 rfl) ?_
            refine lv_iconst (v := 1) hx hb dX0_move_119 rfl ?_
            refine fx_ci (va_runV (As := [.int 1]) (rest := []) X (xX0_finds l E ax im bn bm fm ff fl er 1 (by decide) _) (cwV 1 X.2.2.2.2 (lw_V q303 q305 qs0 q69 q306) rfl rfl rfl ⟨rfl, hdX0_finds⟩ ⟨Nat.le_of_ble_eq_true rfl, Nat.le_of_ble_eq_true rfl⟩) (fx_preV (fx_pre hE hP hD hS hR [0] rfl rfl (fx_rcr 0 rfl fx_rc0)) (va_recv hE.1 (hR.at hS) (ci := 0) (q0 := 0) rfl rfl)) rfl rfl hl.1 rfl (lv_room (Nat.le_of_ble_eq_true rfl)) dX0_move_120 ⟨Nat.le_of_ble_eq_true rfl, Nat.le_of_ble_eq_true rfl⟩) hP hD hS hA [0] rfl rfl (fun r_120 u H locs hq_120 hP hD hS => ?_)
            replace hP : va_P E.1 clA [(ax 5, .inl (E.2 0, 7, .inl (upd er 1 (er 1 + 1)))), (ra, .inl (E.2 0, (nn (sz (nn sheet))), .inl rf))] _ := hP
            replace hD : va_D A [(ax 5, .inl (E.2 0, 7, .inl (upd er 1 (er 1 + 1)))), (ra, .inl (E.2 0, (nn (sz (nn sheet))), .inl rf))] := hD
            replace hq_120 : r_120 = erv 1 := hq_120
            exact hret r_120 ((upd er 1 (er 1 + 1)), rf) (by rw [move_b hin hin2 hnz hkk hbad]; exact ⟨hq_120, rfl, hg⟩) (rfl) hP hD hS (Nat.le_of_ble_eq_true rfl) (Nat.le_of_ble_eq_true rfl) dX0_move_123
          · -- fall 93
            refine lv_iload hx hb dX0_move_93 (lv_at hl 7 rfl) ?_
            refine lv_aload hx hb dX0_move_95 (lv_at hl 1 rfl) ?_
            refine fx_ci (va_runS (As := [.ref ra]) (rest := [.int n_]) X (xX0_sizeOfI l E ra (nn (sz (nn sheet))) rf _) (va_cwS 1 X.2.2.2.2 (lw_S q813 q814 q69 q815) rfl rfl rfl hdX0_sizeOf ⟨Nat.le_of_ble_eq_true rfl, Nat.le_of_ble_eq_true rfl⟩) (fx_pre hE hP hD hS hR [] rfl rfl (fx_rcm 1 rfl (by decide) fx_rc0)) rfl rfl hl.1 rfl (lv_room (Nat.le_of_ble_eq_true rfl)) dX0_move_97 ⟨Nat.le_of_ble_eq_true rfl, Nat.le_of_ble_eq_true rfl⟩) hP hD hS hA [] rfl rfl (fun r_97 u H locs hq_97 hP hD hS => ?_)
            replace hP : va_P E.1 clA [(ax 5, .inl (E.2 0, 7, .inl er)), (ra, .inl (E.2 0, (nn (sz (nn sheet))), .inl rf))] _ := hP
            replace hD : va_D A [(ax 5, .inl (E.2 0, 7, .inl er)), (ra, .inl (E.2 0, (nn (sz (nn sheet))), .inl rf))] := hD
            replace hq_97 : r_97 = nI (nn (sz (nn sheet))) := hq_97
            refine fx_ti (show r_97 = nI (nn (sz (nn sheet))) from hq_97) ?_
            refine lv_iload_n hx hb dX0_move_100 rfl (lv_at hl 4 rfl) ?_
            refine lv_isub hx hb dX0_move_101 ?_
            refine lv_icmp_gt (tgt := 118) hx hb dX0_move_102 (by decide) (fun c_102 => ?_) (fun c_102 => ?_)
            · -- jump 118
              have hbad : mvBad sz (nn sheet) (nn other) i_ j_ n_ = true := mvB4 hsz.1 hsz2 c_81 c_85 c_102
              refine lv_aload_n hx hb dX0_move_118 rfl (lv_at hl 2 rfl) ?_
              refine lv_iconst (v := 1) hx hb dX0_move_119 rfl ?_
              refine fx_ci (va_runV (As := [.int 1]) (rest := []) X (xX0_finds l E ax im bn bm fm ff fl er 1 (by decide) _) (cwV 1 X.2.2.2.2 (lw_V q303 q305 qs0 q69 q306) rfl rfl rfl ⟨rfl, hdX0_finds⟩ ⟨Nat.le_of_ble_eq_true rfl, Nat.le_of_ble_eq_true rfl⟩) (fx_preV (fx_pre hE hP hD hS hR [0] rfl rfl (fx_rcr 0 rfl fx_rc0)) (va_recv hE.1 (hR.at hS) (ci := 0) (q0 := 0) rfl rfl)) rfl rfl hl.1 rfl (lv_room (Nat.le_of_ble_eq_true rfl)) dX0_move_120 ⟨Nat.le_of_ble_eq_true rfl, Nat.le_of_ble_eq_true rfl⟩) hP hD hS hA [0] rfl rfl (fun r_120 u H locs hq_120 hP hD hS => ?_)
              replace hP : va_P E.1 clA [(ax 5, .inl (E.2 0, 7, .inl (upd er 1 (er 1 + 1)))), (ra, .inl (E.2 0, (nn (sz (nn sheet))), .inl rf))] _ := hP
              replace hD : va_D A [(ax 5, .inl (E.2 0, 7, .inl (upd er 1 (er 1 + 1)))), (ra, .inl (E.2 0, (nn (sz (nn sheet))), .inl rf))] := hD
              replace hq_120 : r_120 = erv 1 := hq_120
              exact hret r_120 ((upd er 1 (er 1 + 1)), rf) (by rw [move_b hin hin2 hnz hkk hbad]; exact ⟨hq_120, rfl, hg⟩) (rfl) hP hD hS (Nat.le_of_ble_eq_true rfl) (Nat.le_of_ble_eq_true rfl) dX0_move_123
            · -- fall 105
              refine lv_iload hx hb dX0_move_105 (lv_at hl 7 rfl) ?_
              refine lv_aload hx hb dX0_move_107 (lv_at hl 0 rfl) ?_
              refine fx_ci (va_runS (As := [.ref ra]) (rest := [.int n_]) X (xX0_sizeOfI l E ra (nn (sz (nn sheet))) rf _) (va_cwS 1 X.2.2.2.2 (lw_S q813 q814 q69 q815) rfl rfl rfl hdX0_sizeOf ⟨Nat.le_of_ble_eq_true rfl, Nat.le_of_ble_eq_true rfl⟩) (fx_pre hE hP hD hS hR [] rfl rfl (fx_rcm 1 rfl (by decide) fx_rc0)) rfl rfl hl.1 rfl (lv_room (Nat.le_of_ble_eq_true rfl)) dX0_move_109 ⟨Nat.le_of_ble_eq_true rfl, Nat.le_of_ble_eq_true rfl⟩) hP hD hS hA [] rfl rfl (fun r_109 u H locs hq_109 hP hD hS => ?_)
              replace hP : va_P E.1 clA [(ax 5, .inl (E.2 0, 7, .inl er)), (ra, .inl (E.2 0, (nn (sz (nn sheet))), .inl rf))] _ := hP
              replace hD : va_D A [(ax 5, .inl (E.2 0, 7, .inl er)), (ra, .inl (E.2 0, (nn (sz (nn sheet))), .inl rf))] := hD
              replace hq_109 : r_109 = nI (nn (sz (nn sheet))) := hq_109
              refine fx_ti (show r_109 = nI (nn (sz (nn sheet))) from hq_109) ?_
              refine lv_iload hx hb dX0_move_112 (lv_at hl 6 rfl) ?_
              refine lv_isub hx hb dX0_move_114 ?_
              refine lv_icmp_le (tgt := 124) hx hb dX0_move_115 (by decide) (fun c_115 => ?_) (fun c_115 => ?_)
              · -- jump 124
                obtain ⟨hok, gm1, gm2⟩ := mvB0 hsz.1 hsz2 hso.1 hso2 c_81 c_85 c_90 (Int32.not_lt.1 c_102) c_115
                have pn := nn_pos (Int32.not_lt.1 c_81)
                have pi := nn_pos (Int32.not_lt.1 c_85)
                have pj := nn_pos (Int32.not_lt.1 c_90)
                refine lv_aload hx hb dX0_move_124 (lv_at hl 1 rfl) ?_
                refine lv_iload_n hx hb dX0_move_126 rfl (lv_at hl 4 rfl) ?_
                refine fx_ti (show i_ = nI (nn i_) from pi.1) ?_
                refine lv_aload hx hb dX0_move_127 (lv_at hl 0 rfl) ?_
                refine lv_iload hx hb dX0_move_129 (lv_at hl 6 rfl) ?_
                refine fx_ti (show j_ = nI (nn j_) from pj.1) ?_
                refine lv_iload hx hb dX0_move_131 (lv_at hl 7 rfl) ?_
                refine fx_ti (show n_ = nI (nn n_) from pn.1) ?_
                refine fx_acpy (ws' := [(ax 5, .inl (E.2 0, 7, .inl er)), (ra, .inl (E.2 0, (nn (sz (nn sheet))), .inl (va_cpy rf rf (nn i_) (nn j_) (nn n_))))]) X hE hl.1 hP hD hS q887 q889 q888 q93 1 1 0 rfl rfl rfl rfl (nn i_) (nn j_) (nn n_) rfl rfl rfl (by omega) (by omega) (by omega) (by omega) (fun i hi => rfl) ⟨Nat.le_of_ble_eq_true rfl, Nat.le_of_ble_eq_true rfl⟩ rfl dX0_move_133 (fun H locs hP hD hS => ?_)
                refine lv_iload hx hb dX0_move_136 (lv_at hl 7 rfl) ?_
                exact hret n_ (er, (va_cpy rf rf (nn i_) (nn j_) (nn n_))) (by rw [move_s hin hin2 hnz hkk hok]; exact ⟨rfl, rfl, row_c hf hg gm1 gm2⟩) (rfl) hP hD hS (Nat.le_of_ble_eq_true rfl) (Nat.le_of_ble_eq_true rfl) dX0_move_138
              · -- fall 118
                have hbad : mvBad sz (nn sheet) (nn other) i_ j_ n_ = true := mvB5 hso.1 hso2 c_81 c_90 (Int32.not_le.1 c_115)
                refine lv_aload_n hx hb dX0_move_118 rfl (lv_at hl 2 rfl) ?_
                refine lv_iconst (v := 1) hx hb dX0_move_119 rfl ?_
                refine fx_ci (va_runV (As := [.int 1]) (rest := []) X (xX0_finds l E ax im bn bm fm ff fl er 1 (by decide) _) (cwV 1 X.2.2.2.2 (lw_V q303 q305 qs0 q69 q306) rfl rfl rfl ⟨rfl, hdX0_finds⟩ ⟨Nat.le_of_ble_eq_true rfl, Nat.le_of_ble_eq_true rfl⟩) (fx_preV (fx_pre hE hP hD hS hR [0] rfl rfl (fx_rcr 0 rfl fx_rc0)) (va_recv hE.1 (hR.at hS) (ci := 0) (q0 := 0) rfl rfl)) rfl rfl hl.1 rfl (lv_room (Nat.le_of_ble_eq_true rfl)) dX0_move_120 ⟨Nat.le_of_ble_eq_true rfl, Nat.le_of_ble_eq_true rfl⟩) hP hD hS hA [0] rfl rfl (fun r_120 u H locs hq_120 hP hD hS => ?_)
                replace hP : va_P E.1 clA [(ax 5, .inl (E.2 0, 7, .inl (upd er 1 (er 1 + 1)))), (ra, .inl (E.2 0, (nn (sz (nn sheet))), .inl rf))] _ := hP
                replace hD : va_D A [(ax 5, .inl (E.2 0, 7, .inl (upd er 1 (er 1 + 1)))), (ra, .inl (E.2 0, (nn (sz (nn sheet))), .inl rf))] := hD
                replace hq_120 : r_120 = erv 1 := hq_120
                exact hret r_120 ((upd er 1 (er 1 + 1)), rf) (by rw [move_b hin hin2 hnz hkk hbad]; exact ⟨hq_120, rfl, hg⟩) (rfl) hP hD hS (Nat.le_of_ble_eq_true rfl) (Nat.le_of_ble_eq_true rfl) dX0_move_123
    · -- False
      subst hr_8
      exact absurd hin2 hb_8
  · -- False
    subst hr_1
    exact absurd hin hb_1
