set_option maxRecDepth 100000
theorem hdX0_worth : yX0_worth.cls ≠ "java/lang/invoke/MethodHandle" ∧ yX0_worth.cls ≠ "java/lang/invoke/VarHandle" ∧ (parseMethodDescriptor yX0_worth.desc).map (fun d => d.parameters.length) = some 3 := by decide +kernel
abbrev rxX0_worth : Room := { frames := 6, cells := 0, slots := 0, locals := 139 }
set_option maxHeartbeats 400000 in
set_option maxRecDepth 100000 in
theorem xX0_worth (l : Launch) (E : fx_En) (ax : Nat → Nat) (im : Int32) (bn : Int32) (bm : Int32) (fm : Int32) (ff : Int32) (fl : Int32) (tk : Int32) (cs : Int32) (gs : Int32) (zz : Int32) (tp : Int32) (wg : Int32) (er : Nat → Int32) (nmd : Nat → Int32) (pl : Nat → Int32) (sa : Nat → Int32) (tl : Nat → Nat) (pr : Nat → Int32) (bk : Nat → Int32) (bt : Nat → Int32) (sz : Nat → Int32) (nu : Nat → Int32) (sh : Nat → Option Nat) (tx : Nat → Option Nat) (T : Tx) (PL : va_W) (sheet : Int32) (til : Int32) (tg : Int32) (hI : Inv sa) (hTL : TLS PL sa tl) (hT : TXs E PL (tx 0) T) (hTo : TOk T) (hpr : rl pr sa 8 8) (hIS : InvS bt sz) (hSH : SHS E PL bt sz nu sh) : fx_Mi l yX0_worth cX0_worth 6 .int rxX0_worth E [.ref (ax 19), .int sheet, .int til, .int tg] [(ax 5, .inl (E.2 0, 7, .inl er)), (ax 9, .inl (E.2 1, 8, .inl bk)), (ax 1, .inl (E.2 0, 3, .inl nmd)), (ax 0, .inl (E.2 0, 60, .inl pl))] ([(ax 19, .inr (0, [.ref (ax 0), .ref (ax 1), .ref (ax 35), .ref (ax 55), .ref (ax 4), .ref (ax 5), .ref (ax 6), .ref (ax 7), .int im, .ref (ax 9), .ref (ax 10), .ref (ax 11), .ref (ax 12), .ref (ax 13), .int bn, .int bm, .int fm, .int ff, .int fl])), (ax 35, .inr (1, [.ref (ax 20), .ref (ax 21), .ref (ax 22), .int tk, .int cs, .int gs, .int zz, .int tp, .int wg, .ref (ax 29), .ref (ax 30), .ref (ax 31), .ref (ax 32)])), (ax 29, .inl (E.2 3, 4, .inr (.inr (.inr (.inr (fun i_ => some (ax (36 + i_)))))))), (ax 36, .inr (2, [.ref (tl 0)])), (ax 37, .inr (2, [.ref (tl 1)])), (ax 38, .inr (2, [.ref (tl 2)])), (ax 39, .inr (2, [.ref (tl 3)])), (ax 7, .inr (5, [.ref (ax 19)])), (ax 30, .inl (E.2 4, 2, .inr (.inr (.inr (.inr tx))))), (ax 20, .inl (E.2 0, 8, .inl pr)), (ax 6, .inl (E.2 3, 4, .inr (.inr (.inr (.inr (fun i_ => some (ax (64 + i_)))))))), (ax 64, .inr (2, [va_rf (sh 0)])), (ax 65, .inr (2, [va_rf (sh 1)])), (ax 66, .inr (2, [va_rf (sh 2)])), (ax 67, .inr (2, [va_rf (sh 3)]))] ++ PL) (S := (Nat → Int32) × (Nat → Int32) × (Nat → Int32) × (Nat → Int32)) (fun (u : (Nat → Int32) × (Nat → Int32) × (Nat → Int32) × (Nat → Int32)) => [(ax 5, .inl (E.2 0, 7, .inl u.1)), (ax 9, .inl (E.2 1, 8, .inl u.2.1)), (ax 1, .inl (E.2 0, 3, .inl u.2.2.1)), (ax 0, .inl (E.2 0, 60, .inl u.2.2.2))]) (fun (r : Int32) (u : (Nat → Int32) × (Nat → Int32) × (Nat → Int32) × (Nat → Int32)) => (r, u.1) = worth_ sa er bt sz nu T sheet til tg) := by
  refine fx_iW rfl rfl ?_
  intro p e s m args below meth c A ls Q X hE hP hD hR hA hl hret
  have hx := X.1
  have hb := X.2.1
  have hS : va_S A s.heap s.heap [] := va_S.rf
  replace hP : va_P E.1 clA [(ax 5, .inl (E.2 0, 7, .inl er)), (ax 9, .inl (E.2 1, 8, .inl bk)), (ax 1, .inl (E.2 0, 3, .inl nmd)), (ax 0, .inl (E.2 0, 60, .inl pl))] _ := hP
  replace hD : va_D A [(ax 5, .inl (E.2 0, 7, .inl er)), (ax 9, .inl (E.2 1, 8, .inl bk)), (ax 1, .inl (E.2 0, 3, .inl nmd)), (ax 0, .inl (E.2 0, 60, .inl pl))] := hD
  replace hl : lv_has ls 6 [(0, .ref (ax 19)), (1, .int sheet), (2, .int til), (3, .int tg)] := hl
  refine lv_iload_n hx hb dX0_worth_0 rfl (lv_at hl 1 rfl) ?_
  refine fx_ci (va_runS (As := [.int sheet]) (rest := []) X (xX0_isSheet l E sheet _) (va_cwS 1 X.2.2.2.2 (lw_S q806 q807 q69 q808) rfl rfl rfl hdX0_isSheet ⟨Nat.le_of_ble_eq_true rfl, Nat.le_of_ble_eq_true rfl⟩) (fx_pre hE hP hD hS hR [] rfl rfl fx_rc0) rfl rfl hl.1 rfl (lv_room (Nat.le_of_ble_eq_true rfl)) dX0_worth_1 ⟨Nat.le_refl _, Nat.le_refl _⟩) hP hD hS hA [] rfl rfl (fun r_1 u H locs hq_1 hP hD hS => ?_)
  replace hP : va_P E.1 clA [(ax 5, .inl (E.2 0, 7, .inl er)), (ax 9, .inl (E.2 1, 8, .inl bk)), (ax 1, .inl (E.2 0, 3, .inl nmd)), (ax 0, .inl (E.2 0, 60, .inl pl))] _ := hP
  replace hD : va_D A [(ax 5, .inl (E.2 0, 7, .inl er)), (ax 9, .inl (E.2 1, 8, .inl bk)), (ax 1, .inl (E.2 0, 3, .inl nmd)), (ax 0, .inl (E.2 0, 60, .inl pl))] := hD
  replace hq_1 : r_1 = fx_b (inB sheet 0 3 = true) := hq_1
  rcases fx_bc hq_1 with ⟨hb_1, hr_1⟩ | ⟨hb_1, hr_1⟩
  · -- True
    subst hr_1
    refine lv_if_eq (tgt := 21) hx hb dX0_worth_4 (by decide) (fun c => absurd c (by decide)) (fun _ => ?_)
    refine lv_iload_n hx hb dX0_worth_7 rfl (lv_at hl 2 rfl) ?_
    refine fx_ci (va_runS (As := [.int til]) (rest := []) X (xX0_isTill l E til _) (va_cwS 1 X.2.2.2.2 (lw_S q336 q337 q69 q338) rfl rfl rfl hdX0_isTill ⟨Nat.le_of_ble_eq_true rfl, Nat.le_of_ble_eq_true rfl⟩) (fx_pre hE hP hD hS hR [] rfl rfl fx_rc0) rfl rfl hl.1 rfl (lv_room (Nat.le_of_ble_eq_true rfl)) dX0_worth_8 ⟨Nat.le_refl _, Nat.le_refl _⟩) hP hD hS hA [] rfl rfl (fun r_8 u H locs hq_8 hP hD hS => ?_)
    replace hP : va_P E.1 clA [(ax 5, .inl (E.2 0, 7, .inl er)), (ax 9, .inl (E.2 1, 8, .inl bk)), (ax 1, .inl (E.2 0, 3, .inl nmd)), (ax 0, .inl (E.2 0, 60, .inl pl))] _ := hP
    replace hD : va_D A [(ax 5, .inl (E.2 0, 7, .inl er)), (ax 9, .inl (E.2 1, 8, .inl bk)), (ax 1, .inl (E.2 0, 3, .inl nmd)), (ax 0, .inl (E.2 0, 60, .inl pl))] := hD
    replace hq_8 : r_8 = fx_b (inB til 0 3 = true) := hq_8
    rcases fx_bc hq_8 with ⟨hb_8, hr_8⟩ | ⟨hb_8, hr_8⟩
    · -- True
      subst hr_8
      refine lv_if_eq (tgt := 21) hx hb dX0_worth_11 (by decide) (fun c => absurd c (by decide)) (fun _ => ?_)
      refine lv_iload_n hx hb dX0_worth_14 rfl (lv_at hl 3 rfl) ?_
      refine fx_ci (va_runS (As := [.int tg]) (rest := []) X (xX0_isThing l E tg _) (va_cwS 1 X.2.2.2.2 (lw_S q297 q298 q69 q299) rfl rfl rfl hdX0_isThing ⟨Nat.le_of_ble_eq_true rfl, Nat.le_of_ble_eq_true rfl⟩) (fx_pre hE hP hD hS hR [] rfl rfl fx_rc0) rfl rfl hl.1 rfl (lv_room (Nat.le_of_ble_eq_true rfl)) dX0_worth_15 ⟨Nat.le_refl _, Nat.le_refl _⟩) hP hD hS hA [] rfl rfl (fun r_15 u H locs hq_15 hP hD hS => ?_)
      replace hP : va_P E.1 clA [(ax 5, .inl (E.2 0, 7, .inl er)), (ax 9, .inl (E.2 1, 8, .inl bk)), (ax 1, .inl (E.2 0, 3, .inl nmd)), (ax 0, .inl (E.2 0, 60, .inl pl))] _ := hP
      replace hD : va_D A [(ax 5, .inl (E.2 0, 7, .inl er)), (ax 9, .inl (E.2 1, 8, .inl bk)), (ax 1, .inl (E.2 0, 3, .inl nmd)), (ax 0, .inl (E.2 0, 60, .inl pl))] := hD
      replace hq_15 : r_15 = fx_b (inB tg 0 7 = true) := hq_15
      rcases fx_bc hq_15 with ⟨hb_15, hr_15⟩ | ⟨hb_15, hr_15⟩
      · -- True
        subst hr_15
        have gsh := inB_nn (n := 3) hb_1 (by omega)
        have gs1 : nn sheet < 4 := by omega
        have gn := inB_nn (n := 3) hb_8 (by omega)
        have g1 : nn til < 4 := by omega
        have gt := inB_nn (n := 7) hb_15 (by omega)
        have gt2 := gt.2
        have hbc : lackF bt sz nu sheet til (inB tg 0 7) 29 = tellC bt sz nu (nn sheet) 29 := by rw [hb_15]; exact lack_ok hb_1 hb_8
        refine lv_if_ne (tgt := 27) hx hb dX0_worth_18 (by decide) (fun _ => ?_) (fun c => absurd c (by decide))
        refine lv_aload_n hx hb dX0_worth_27 rfl (lv_at hl 0 rfl) ?_
        refine lv_iload_n hx hb dX0_worth_28 rfl (lv_at hl 1 rfl) ?_
        refine fx_ti (show sheet = nI (nn sheet) from gsh.1) ?_
        refine lv_aload_n hx hb dX0_worth_29 rfl (lv_at hl 0 rfl) ?_
        refine fx_get X hE (hR.at hS) 0 rfl rfl 9 rfl q244 rfl rfl dX0_worth_30 ?_
        refine lv_bipush (v := 29) hx hb dX0_worth_33 rfl ?_
        refine fx_ci (va_runV (As := [.int (nI (nn sheet)), .ref (ax 9), .int 29]) (rest := []) X (xX0_faultOf l E ax im bn bm fm ff fl bt sz nu sh (ax 9) bk (nn sheet) 29 PL gs1 (by first | assumption | omega) (by first | assumption | omega) (by decide) _) (cwV 3 X.2.2.2.2 (lw_V q809 q811 qs17 q69 q812) rfl rfl rfl ⟨rfl, hdX0_faultOf⟩ ⟨Nat.le_of_ble_eq_true rfl, Nat.le_of_ble_eq_true rfl⟩) (fx_preV (fx_pre hE hP hD hS hR [1] rfl rfl (fx_rcr 0 rfl (fx_rcr 10 rfl (fx_rcr 11 rfl (fx_rcr 12 rfl (fx_rcr 13 rfl (fx_rcr 14 rfl (fx_rct (fun q hq => List.mem_append_right _ hq))))))))) (va_recv hE.1 (hR.at hS) (ci := 0) (q0 := 0) rfl rfl)) rfl rfl hl.1 rfl (lv_room (Nat.le_of_ble_eq_true rfl)) dX0_worth_35 ⟨Nat.le_refl _, Nat.le_refl _⟩) hP hD hS hA [1] rfl rfl (fun r_35 u H locs hq_35 hP hD hS => ?_)
        obtain ⟨row2_35, rfl⟩ : ∃ z, z = u := ⟨_, rfl⟩
        replace hP : va_P E.1 clA [(ax 5, .inl (E.2 0, 7, .inl er)), (ax 9, .inl (E.2 1, 8, .inl row2_35)), (ax 1, .inl (E.2 0, 3, .inl nmd)), (ax 0, .inl (E.2 0, 60, .inl pl))] _ := hP
        replace hD : va_D A [(ax 5, .inl (E.2 0, 7, .inl er)), (ax 9, .inl (E.2 1, 8, .inl row2_35)), (ax 1, .inl (E.2 0, 3, .inl nmd)), (ax 0, .inl (E.2 0, 60, .inl pl))] := hD
        replace hq_35 : r_35 = nI (tellC bt sz nu (nn sheet) 29) ∧ (tellC bt sz nu (nn sheet) 29 = 0 → ∀ t, t < 8 → row2_35 t = shG sz nu (nn sheet) t) := hq_35
        refine fx_ti (show r_35 = nI (tellC bt sz nu (nn sheet) 29) from hq_35.1) ?_
        have hcl : tellC bt sz nu (nn sheet) 29 ≤ 4 := tellC_le
        refine lv_istore (lv' := [(4, .int (nI (tellC bt sz nu (nn sheet) 29))), (0, .ref (ax 19)), (1, .int sheet), (2, .int til), (3, .int tg)]) hx hb dX0_worth_38 hl (by decide) rfl (fun ls hl => ?_)
        refine lv_iload hx hb dX0_worth_40 (lv_at hl 0 rfl) ?_
        refine lv_if_le (tgt := 52) hx hb dX0_worth_42 (by decide) (fun c_42 => ?_) (fun c_42 => ?_)
        · -- jump 52
          have n_42 := fx_le1 (a := (tellC bt sz nu (nn sheet) 29)) (b := 0) c_42 (by omega) (by omega)
          have h0 : tellC bt sz nu (nn sheet) 29 = 0 := by omega
          obtain ⟨hrow, hr9, hm30⟩ := tell_row h0 (hq_35.2 h0)
          refine lv_aload_n hx hb dX0_worth_52 rfl (lv_at hl 1 rfl) ?_
          refine lv_aload_n hx hb dX0_worth_53 rfl (lv_at hl 1 rfl) ?_
          refine fx_get X hE (hR.at hS) 0 rfl rfl 9 rfl q244 rfl rfl dX0_worth_54 ?_
          refine lv_iload_n hx hb dX0_worth_57 rfl (lv_at hl 3 rfl) ?_
          refine fx_ti (show til = nI (nn til) from gn.1) ?_
          refine fx_ci (va_runV (As := [.ref (ax 9), .int (nI (nn til))]) (rest := []) X (xX0_paysOf l E ax im bn bm fm ff fl tk cs gs zz tp wg nmd pl sa tl tx T PL pr (ax 9) row2_35 (rnG sz nu (nn sheet)) (nn til) g1 (by first | assumption | omega) (by first | assumption | omega) (by first | assumption | omega) (by first | assumption | omega) (by first | assumption | omega) (by first | assumption | omega) _) (cwV 2 X.2.2.2.2 (lw_V q833 q835 qs19 q69 q836) rfl rfl rfl ⟨rfl, hdX0_paysOf⟩ ⟨Nat.le_of_ble_eq_true rfl, Nat.le_of_ble_eq_true rfl⟩) (fx_preV (fx_pre hE hP hD hS hR [2, 3] rfl rfl (fx_rcr 0 rfl (fx_rcr 1 rfl (fx_rcr 2 rfl (fx_rcr 3 rfl (fx_rcr 4 rfl (fx_rcr 5 rfl (fx_rcr 6 rfl (fx_rcr 7 rfl (fx_rcr 8 rfl (fx_rcr 9 rfl (fx_rcm 1 rfl (by decide) (fx_rct (fun q hq => List.mem_append_right _ hq)))))))))))))) (va_recv hE.1 (hR.at hS) (ci := 0) (q0 := 0) rfl rfl)) rfl rfl hl.1 rfl (lv_room (Nat.le_of_ble_eq_true rfl)) dX0_worth_58 ⟨Nat.le_refl _, Nat.le_refl _⟩) hP hD hS hA [2, 3] rfl rfl (fun r_58 u H locs hq_58 hP hD hS => ?_)
          obtain ⟨nm2_58, pl2_58⟩ := u
          replace hP : va_P E.1 clA [(ax 5, .inl (E.2 0, 7, .inl er)), (ax 9, .inl (E.2 1, 8, .inl row2_35)), (ax 1, .inl (E.2 0, 3, .inl nm2_58)), (ax 0, .inl (E.2 0, 60, .inl pl2_58))] _ := hP
          replace hD : va_D A [(ax 5, .inl (E.2 0, 7, .inl er)), (ax 9, .inl (E.2 1, 8, .inl row2_35)), (ax 1, .inl (E.2 0, 3, .inl nm2_58)), (ax 0, .inl (E.2 0, 60, .inl pl2_58))] := hD
          replace hq_58 : r_58 = paysF sa T (rnG sz nu (nn sheet)) (nn til) := hq_58
          refine lv_istore (lv' := [(5, .int r_58), (4, .int (nI (tellC bt sz nu (nn sheet) 29))), (0, .ref (ax 19)), (1, .int sheet), (2, .int til), (3, .int tg)]) hx hb dX0_worth_61 hl (by decide) rfl (fun ls hl => ?_)
          refine lv_aload_n hx hb dX0_worth_63 rfl (lv_at hl 2 rfl) ?_
          refine fx_get X hE (hR.at hS) 0 rfl rfl 9 rfl q244 rfl rfl dX0_worth_64 ?_
          refine lv_iload_n hx hb dX0_worth_67 rfl (lv_at hl 5 rfl) ?_
          refine fx_ti (show tg = nI (nn tg) from gt.1) ?_
          refine lv_dup2_11 hx hb dX0_worth_68 rfl rfl ?_
          refine fx_bald X hE hP 1 rfl (nn tg) rfl (by omega) rfl dX0_worth_69 ?_
          refine fx_ti (show (row2_35 (nn tg)) = nI (rnG sz nu (nn sheet) (nn tg)) from (hrow _ (by omega)).1) ?_
          have h9t := hr9 (nn tg) (by omega)
          refine lv_iconst (v := 1) hx hb dX0_worth_70 rfl ?_
          refine lv_iadd hx hb dX0_worth_71 ?_
          refine fx_ti (nI_add (rnG sz nu (nn sheet) (nn tg)) 1) ?_
          refine lv_i2b (v := (nI (rnG sz nu (nn sheet) (nn tg) + 1)).toInt8.toInt32) hx hb dX0_worth_72 rfl ?_
          refine fx_bast (ws' := [(ax 5, .inl (E.2 0, 7, .inl er)), (ax 9, .inl (E.2 1, 8, .inl (upd row2_35 (nn tg) (nI (rnG sz nu (nn sheet) (nn tg) + 1))))), (ax 1, .inl (E.2 0, 3, .inl nm2_58)), (ax 0, .inl (E.2 0, 60, .inl pl2_58))]) X hE hP hD hS 1 rfl (nn tg) rfl (by omega) rfl (by rw [pk_bidem]; exact fit8 rfl (by omega)) rfl dX0_worth_73 (fun H locs hP hD hS => ?_)
          refine lv_iload hx hb dX0_worth_74 (lv_at hl 0 rfl) ?_
          refine lv_aload_n hx hb dX0_worth_76 rfl (lv_at hl 2 rfl) ?_
          refine lv_aload_n hx hb dX0_worth_77 rfl (lv_at hl 2 rfl) ?_
          refine fx_get X hE (hR.at hS) 0 rfl rfl 9 rfl q244 rfl rfl dX0_worth_78 ?_
          refine lv_iload_n hx hb dX0_worth_81 rfl (lv_at hl 4 rfl) ?_
          refine fx_ti (show til = nI (nn til) from gn.1) ?_
          refine fx_ci (va_runV (As := [.ref (ax 9), .int (nI (nn til))]) (rest := [.int r_58]) X (xX0_paysOf l E ax im bn bm fm ff fl tk cs gs zz tp wg nm2_58 pl2_58 sa tl tx T PL pr (ax 9) (upd row2_35 (nn tg) (nI (rnG sz nu (nn sheet) (nn tg) + 1))) (upN (rnG sz nu (nn sheet)) (nn tg) (rnG sz nu (nn sheet) (nn tg) + 1)) (nn til) g1 (by first | assumption | omega) (by first | assumption | omega) (by first | assumption | omega) (by first | assumption | omega) (rowu_s hrow hr9 (by omega)) (by first | assumption | omega) _) (cwV 2 X.2.2.2.2 (lw_V q833 q835 qs19 q69 q836) rfl rfl rfl ⟨rfl, hdX0_paysOf⟩ ⟨Nat.le_of_ble_eq_true rfl, Nat.le_of_ble_eq_true rfl⟩) (fx_preV (fx_pre hE hP hD hS hR [2, 3] rfl rfl (fx_rcr 0 rfl (fx_rcr 1 rfl (fx_rcr 2 rfl (fx_rcr 3 rfl (fx_rcr 4 rfl (fx_rcr 5 rfl (fx_rcr 6 rfl (fx_rcr 7 rfl (fx_rcr 8 rfl (fx_rcr 9 rfl (fx_rcm 1 rfl (by decide) (fx_rct (fun q hq => List.mem_append_right _ hq)))))))))))))) (va_recv hE.1 (hR.at hS) (ci := 0) (q0 := 0) rfl rfl)) rfl rfl hl.1 rfl (lv_room (Nat.le_of_ble_eq_true rfl)) dX0_worth_82 ⟨Nat.le_refl _, Nat.le_refl _⟩) hP hD hS hA [2, 3] rfl rfl (fun r_82 u H locs hq_82 hP hD hS => ?_)
          obtain ⟨nm2_82, pl2_82⟩ := u
          replace hP : va_P E.1 clA [(ax 5, .inl (E.2 0, 7, .inl er)), (ax 9, .inl (E.2 1, 8, .inl (upd row2_35 (nn tg) (nI (rnG sz nu (nn sheet) (nn tg) + 1))))), (ax 1, .inl (E.2 0, 3, .inl nm2_82)), (ax 0, .inl (E.2 0, 60, .inl pl2_82))] _ := hP
          replace hD : va_D A [(ax 5, .inl (E.2 0, 7, .inl er)), (ax 9, .inl (E.2 1, 8, .inl (upd row2_35 (nn tg) (nI (rnG sz nu (nn sheet) (nn tg) + 1))))), (ax 1, .inl (E.2 0, 3, .inl nm2_82)), (ax 0, .inl (E.2 0, 60, .inl pl2_82))] := hD
          replace hq_82 : r_82 = paysF sa T (upN (rnG sz nu (nn sheet)) (nn tg) (rnG sz nu (nn sheet) (nn tg) + 1)) (nn til) := hq_82
          refine lv_isub hx hb dX0_worth_85 ?_
          exact hret (r_58 - r_82) (er, (upd row2_35 (nn tg) (nI (rnG sz nu (nn sheet) (nn tg) + 1))), nm2_82, pl2_82) (by rw [hq_58, hq_82]; simp only [worth_, hbc, h0, eR_0, eE_0]) (rfl) hP hD hS (Nat.le_refl _) (Nat.le_refl _) dX0_worth_86
        · -- fall 45
          have n_42 := fx_le0 (a := (tellC bt sz nu (nn sheet) 29)) (b := 0) c_42 (by omega) (by omega)
          refine lv_aload_n hx hb dX0_worth_45 rfl (lv_at hl 1 rfl) ?_
          refine lv_iload hx hb dX0_worth_46 (lv_at hl 0 rfl) ?_
          refine fx_ci (va_runV (As := [.int (nI (tellC bt sz nu (nn sheet) 29))]) (rest := []) X (xX0_finds l E ax im bn bm fm ff fl er (tellC bt sz nu (nn sheet) 29) (by omega) _) (cwV 1 X.2.2.2.2 (lw_V q303 q305 qs0 q69 q306) rfl rfl rfl ⟨rfl, hdX0_finds⟩ ⟨Nat.le_of_ble_eq_true rfl, Nat.le_of_ble_eq_true rfl⟩) (fx_preV (fx_pre hE hP hD hS hR [0] rfl rfl (fx_rcr 0 rfl fx_rc0)) (va_recv hE.1 (hR.at hS) (ci := 0) (q0 := 0) rfl rfl)) rfl rfl hl.1 rfl (lv_room (Nat.le_of_ble_eq_true rfl)) dX0_worth_48 ⟨Nat.le_refl _, Nat.le_refl _⟩) hP hD hS hA [0] rfl rfl (fun r_48 u H locs hq_48 hP hD hS => ?_)
          replace hP : va_P E.1 clA [(ax 5, .inl (E.2 0, 7, .inl (upd er (tellC bt sz nu (nn sheet) 29) (er (tellC bt sz nu (nn sheet) 29) + 1)))), (ax 9, .inl (E.2 1, 8, .inl row2_35)), (ax 1, .inl (E.2 0, 3, .inl nmd)), (ax 0, .inl (E.2 0, 60, .inl pl))] _ := hP
          replace hD : va_D A [(ax 5, .inl (E.2 0, 7, .inl (upd er (tellC bt sz nu (nn sheet) 29) (er (tellC bt sz nu (nn sheet) 29) + 1)))), (ax 9, .inl (E.2 1, 8, .inl row2_35)), (ax 1, .inl (E.2 0, 3, .inl nmd)), (ax 0, .inl (E.2 0, 60, .inl pl))] := hD
          replace hq_48 : r_48 = erv (tellC bt sz nu (nn sheet) 29) := hq_48
          exact hret r_48 ((upd er (tellC bt sz nu (nn sheet) 29) (er (tellC bt sz nu (nn sheet) 29) + 1)), row2_35, nmd, pl) (by rw [hq_48]; simp only [worth_, hbc, eR_p n_42, eE_p n_42, erI]) (rfl) hP hD hS (Nat.le_refl _) (Nat.le_refl _) dX0_worth_51
      · -- False
        subst hr_15
        have hbc : lackF bt sz nu sheet til (inB tg 0 7) 29 = 1 := lack_no (Or.inr (Or.inr hb_15))
        refine lv_if_ne (tgt := 27) hx hb dX0_worth_18 (by decide) (fun c => (c (by decide)).elim) (fun _ => ?_)
        refine lv_aload_n hx hb dX0_worth_21 rfl (lv_at hl 0 rfl) ?_
        refine lv_iconst (v := 1) hx hb dX0_worth_22 rfl ?_
        refine fx_ci (va_runV (As := [.int 1]) (rest := []) X (xX0_finds l E ax im bn bm fm ff fl er 1 (by decide) _) (cwV 1 X.2.2.2.2 (lw_V q303 q305 qs0 q69 q306) rfl rfl rfl ⟨rfl, hdX0_finds⟩ ⟨Nat.le_of_ble_eq_true rfl, Nat.le_of_ble_eq_true rfl⟩) (fx_preV (fx_pre hE hP hD hS hR [0] rfl rfl (fx_rcr 0 rfl fx_rc0)) (va_recv hE.1 (hR.at hS) (ci := 0) (q0 := 0) rfl rfl)) rfl rfl hl.1 rfl (lv_room (Nat.le_of_ble_eq_true rfl)) dX0_worth_23 ⟨Nat.le_refl _, Nat.le_refl _⟩) hP hD hS hA [0] rfl rfl (fun r_23 u H locs hq_23 hP hD hS => ?_)
        replace hP : va_P E.1 clA [(ax 5, .inl (E.2 0, 7, .inl (upd er 1 (er 1 + 1)))), (ax 9, .inl (E.2 1, 8, .inl bk)), (ax 1, .inl (E.2 0, 3, .inl nmd)), (ax 0, .inl (E.2 0, 60, .inl pl))] _ := hP
        replace hD : va_D A [(ax 5, .inl (E.2 0, 7, .inl (upd er 1 (er 1 + 1)))), (ax 9, .inl (E.2 1, 8, .inl bk)), (ax 1, .inl (E.2 0, 3, .inl nmd)), (ax 0, .inl (E.2 0, 60, .inl pl))] := hD
        replace hq_23 : r_23 = erv 1 := hq_23
        exact hret r_23 ((upd er 1 (er 1 + 1)), bk, nmd, pl) (by rw [hq_23]; simp only [worth_, hbc]; rfl) (rfl) hP hD hS (Nat.le_refl _) (Nat.le_refl _) dX0_worth_26
    · -- False
      subst hr_8
      have hbc : lackF bt sz nu sheet til (inB tg 0 7) 29 = 1 := lack_no (Or.inr (Or.inl hb_8))
      refine lv_if_eq (tgt := 21) hx hb dX0_worth_11 (by decide) (fun _ => ?_) (fun c => (c (by decide)).elim)
      refine lv_aload_n hx hb dX0_worth_21 rfl (lv_at hl 0 rfl) ?_
      refine lv_iconst (v := 1) hx hb dX0_worth_22 rfl ?_
      refine fx_ci (va_runV (As := [.int 1]) (rest := []) X (xX0_finds l E ax im bn bm fm ff fl er 1 (by decide) _) (cwV 1 X.2.2.2.2 (lw_V q303 q305 qs0 q69 q306) rfl rfl rfl ⟨rfl, hdX0_finds⟩ ⟨Nat.le_of_ble_eq_true rfl, Nat.le_of_ble_eq_true rfl⟩) (fx_preV (fx_pre hE hP hD hS hR [0] rfl rfl (fx_rcr 0 rfl fx_rc0)) (va_recv hE.1 (hR.at hS) (ci := 0) (q0 := 0) rfl rfl)) rfl rfl hl.1 rfl (lv_room (Nat.le_of_ble_eq_true rfl)) dX0_worth_23 ⟨Nat.le_refl _, Nat.le_refl _⟩) hP hD hS hA [0] rfl rfl (fun r_23 u H locs hq_23 hP hD hS => ?_)
      replace hP : va_P E.1 clA [(ax 5, .inl (E.2 0, 7, .inl (upd er 1 (er 1 + 1)))), (ax 9, .inl (E.2 1, 8, .inl bk)), (ax 1, .inl (E.2 0, 3, .inl nmd)), (ax 0, .inl (E.2 0, 60, .inl pl))] _ := hP
      replace hD : va_D A [(ax 5, .inl (E.2 0, 7, .inl (upd er 1 (er 1 + 1)))), (ax 9, .inl (E.2 1, 8, .inl bk)), (ax 1, .inl (E.2 0, 3, .inl nmd)), (ax 0, .inl (E.2 0, 60, .inl pl))] := hD
      replace hq_23 : r_23 = erv 1 := hq_23
      exact hret r_23 ((upd er 1 (er 1 + 1)), bk, nmd, pl) (by rw [hq_23]; simp only [worth_, hbc]; rfl) (rfl) hP hD hS (Nat.le_refl _) (Nat.le_refl _) dX0_worth_26
  · -- False
    subst hr_1
    have hbc : lackF bt sz nu sheet til (inB tg 0 7) 29 = 1 := lack_no (Or.inl hb_1)
    refine lv_if_eq (tgt := 21) hx hb dX0_worth_4 (by decide) (fun _ => ?_) (fun c => (c (by decide)).elim)
    refine lv_aload_n hx hb dX0_worth_21 rfl (lv_at hl 0 rfl) ?_
    refine lv_iconst (v := 1) hx hb dX0_worth_22 rfl ?_
    refine fx_ci (va_runV (As := [.int 1]) (rest := []) X (xX0_finds l E ax im bn bm fm ff fl er 1 (by decide) _) (cwV 1 X.2.2.2.2 (lw_V q303 q305 qs0 q69 q306) rfl rfl rfl ⟨rfl, hdX0_finds⟩ ⟨Nat.le_of_ble_eq_true rfl, Nat.le_of_ble_eq_true rfl⟩) (fx_preV (fx_pre hE hP hD hS hR [0] rfl rfl (fx_rcr 0 rfl fx_rc0)) (va_recv hE.1 (hR.at hS) (ci := 0) (q0 := 0) rfl rfl)) rfl rfl hl.1 rfl (lv_room (Nat.le_of_ble_eq_true rfl)) dX0_worth_23 ⟨Nat.le_refl _, Nat.le_refl _⟩) hP hD hS hA [0] rfl rfl (fun r_23 u H locs hq_23 hP hD hS => ?_)
    replace hP : va_P E.1 clA [(ax 5, .inl (E.2 0, 7, .inl (upd er 1 (er 1 + 1)))), (ax 9, .inl (E.2 1, 8, .inl bk)), (ax 1, .inl (E.2 0, 3, .inl nmd)), (ax 0, .inl (E.2 0, 60, .inl pl))] _ := hP
    replace hD : va_D A [(ax 5, .inl (E.2 0, 7, .inl (upd er 1 (er 1 + 1)))), (ax 9, .inl (E.2 1, 8, .inl bk)), (ax 1, .inl (E.2 0, 3, .inl nmd)), (ax 0, .inl (E.2 0, 60, .inl pl))] := hD
    replace hq_23 : r_23 = erv 1 := hq_23
    exact hret r_23 ((upd er 1 (er 1 + 1)), bk, nmd, pl) (by rw [hq_23]; simp only [worth_, hbc]; rfl) (rfl) hP hD hS (Nat.le_refl _) (Nat.le_refl _) dX0_worth_26
