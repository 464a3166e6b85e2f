set_option maxRecDepth 100000
theorem hdX0_together : yX0_together.cls ≠ "java/lang/invoke/MethodHandle" ∧ yX0_together.cls ≠ "java/lang/invoke/VarHandle" ∧ (parseMethodDescriptor yX0_together.desc).map (fun d => d.parameters.length) = some 3 := by decide +kernel
abbrev rxX0_together : Room := { frames := 6, cells := 0, slots := 0, locals := 139 }
set_option maxHeartbeats 400000 in
set_option maxRecDepth 100000 in
theorem xX0_together (l : Launch) (E : fx_En) (ax : Nat → Nat) (im : Int32) (bn : Int32) (bm : Int32) (fm : Int32) (ff : Int32) (fl : Int32) (tk : Int32) (cs : Int32) (gs : Int32) (zz : Int32) (tp : Int32) (wg : Int32) (er : Nat → Int32) (nmd : Nat → Int32) (pl : Nat → Int32) (sa : Nat → Int32) (tl : Nat → Nat) (pr : Nat → Int32) (bk : Nat → Int32) (bt : Nat → Int32) (sz : Nat → Int32) (nu : Nat → Int32) (sh : Nat → Option Nat) (se : Nat → Int32) (al : Nat → Int32) (tx : Nat → Option Nat) (T : Tx) (PL : va_W) (sheet : Int32) (other : Int32) (til : Int32) (hI : Inv sa) (hTL : TLS PL sa tl) (hT : TXs E PL (tx 0) T) (hTo : TOk T) (hpr : rl pr sa 8 8) (hIS : InvS bt sz) (hSH : SHS E PL bt sz nu sh) : fx_Mi l yX0_together cX0_together 7 .int rxX0_together E [.ref (ax 19), .int sheet, .int other, .int til] [(ax 5, .inl (E.2 0, 7, .inl er)), (ax 9, .inl (E.2 1, 8, .inl bk)), (ax 10, .inl (E.2 1, 8, .inl se)), (ax 13, .inl (E.2 1, 8, .inl al)), (ax 1, .inl (E.2 0, 3, .inl nmd)), (ax 0, .inl (E.2 0, 60, .inl pl))] ([(ax 19, .inr (0, [.ref (ax 0), .ref (ax 1), .ref (ax 35), .ref (ax 55), .ref (ax 4), .ref (ax 5), .ref (ax 6), .ref (ax 7), .int im, .ref (ax 9), .ref (ax 10), .ref (ax 11), .ref (ax 12), .ref (ax 13), .int bn, .int bm, .int fm, .int ff, .int fl])), (ax 35, .inr (1, [.ref (ax 20), .ref (ax 21), .ref (ax 22), .int tk, .int cs, .int gs, .int zz, .int tp, .int wg, .ref (ax 29), .ref (ax 30), .ref (ax 31), .ref (ax 32)])), (ax 29, .inl (E.2 3, 4, .inr (.inr (.inr (.inr (fun i_ => some (ax (36 + i_)))))))), (ax 36, .inr (2, [.ref (tl 0)])), (ax 37, .inr (2, [.ref (tl 1)])), (ax 38, .inr (2, [.ref (tl 2)])), (ax 39, .inr (2, [.ref (tl 3)])), (ax 7, .inr (5, [.ref (ax 19)])), (ax 30, .inl (E.2 4, 2, .inr (.inr (.inr (.inr tx))))), (ax 20, .inl (E.2 0, 8, .inl pr)), (ax 6, .inl (E.2 3, 4, .inr (.inr (.inr (.inr (fun i_ => some (ax (64 + i_)))))))), (ax 64, .inr (2, [va_rf (sh 0)])), (ax 65, .inr (2, [va_rf (sh 1)])), (ax 66, .inr (2, [va_rf (sh 2)])), (ax 67, .inr (2, [va_rf (sh 3)]))] ++ PL) (S := (Nat → Int32) × (Nat → Int32) × (Nat → Int32) × (Nat → Int32) × (Nat → Int32) × (Nat → Int32)) (fun (u : (Nat → Int32) × (Nat → Int32) × (Nat → Int32) × (Nat → Int32) × (Nat → Int32) × (Nat → Int32)) => [(ax 5, .inl (E.2 0, 7, .inl u.1)), (ax 9, .inl (E.2 1, 8, .inl u.2.1)), (ax 10, .inl (E.2 1, 8, .inl u.2.2.1)), (ax 13, .inl (E.2 1, 8, .inl u.2.2.2.1)), (ax 1, .inl (E.2 0, 3, .inl u.2.2.2.2.1)), (ax 0, .inl (E.2 0, 60, .inl u.2.2.2.2.2))]) (fun (r : Int32) (u : (Nat → Int32) × (Nat → Int32) × (Nat → Int32) × (Nat → Int32) × (Nat → Int32) × (Nat → Int32)) => (r, u.1) = together_ sa er bt sz nu T sheet other til) := by
  refine fx_iW rfl rfl ?_
  intro p e s m args below meth c A ls Q X hE hP hD hR hA hl hret
  have hx := X.1
  have hb := X.2.1
  have hS : va_S A s.heap s.heap [] := va_S.rf
  replace hP : va_P E.1 clA [(ax 5, .inl (E.2 0, 7, .inl er)), (ax 9, .inl (E.2 1, 8, .inl bk)), (ax 10, .inl (E.2 1, 8, .inl se)), (ax 13, .inl (E.2 1, 8, .inl al)), (ax 1, .inl (E.2 0, 3, .inl nmd)), (ax 0, .inl (E.2 0, 60, .inl pl))] _ := hP
  replace hD : va_D A [(ax 5, .inl (E.2 0, 7, .inl er)), (ax 9, .inl (E.2 1, 8, .inl bk)), (ax 10, .inl (E.2 1, 8, .inl se)), (ax 13, .inl (E.2 1, 8, .inl al)), (ax 1, .inl (E.2 0, 3, .inl nmd)), (ax 0, .inl (E.2 0, 60, .inl pl))] := hD
  replace hl : lv_has ls 7 [(0, .ref (ax 19)), (1, .int sheet), (2, .int other), (3, .int til)] := hl
  refine lv_iload_n hx hb dX0_together_0 rfl (lv_at hl 1 rfl) ?_
  refine fx_ci (va_runS (As := [.int sheet]) (rest := []) X (xX0_isSheet l E sheet _) (va_cwS 1 X.2.2.2.2 (lw_S q806 q807 q69 q808) rfl rfl rfl hdX0_isSheet ⟨Nat.le_of_ble_eq_true rfl, Nat.le_of_ble_eq_true rfl⟩) (fx_pre hE hP hD hS hR [] rfl rfl fx_rc0) rfl rfl hl.1 rfl (lv_room (Nat.le_of_ble_eq_true rfl)) dX0_together_1 ⟨Nat.le_refl _, Nat.le_refl _⟩) hP hD hS hA [] rfl rfl (fun r_1 u H locs hq_1 hP hD hS => ?_)
  replace hP : va_P E.1 clA [(ax 5, .inl (E.2 0, 7, .inl er)), (ax 9, .inl (E.2 1, 8, .inl bk)), (ax 10, .inl (E.2 1, 8, .inl se)), (ax 13, .inl (E.2 1, 8, .inl al)), (ax 1, .inl (E.2 0, 3, .inl nmd)), (ax 0, .inl (E.2 0, 60, .inl pl))] _ := hP
  replace hD : va_D A [(ax 5, .inl (E.2 0, 7, .inl er)), (ax 9, .inl (E.2 1, 8, .inl bk)), (ax 10, .inl (E.2 1, 8, .inl se)), (ax 13, .inl (E.2 1, 8, .inl al)), (ax 1, .inl (E.2 0, 3, .inl nmd)), (ax 0, .inl (E.2 0, 60, .inl pl))] := hD
  replace hq_1 : r_1 = fx_b (inB sheet 0 3 = true) := hq_1
  rcases fx_bc hq_1 with ⟨hb_1, hr_1⟩ | ⟨hb_1, hr_1⟩
  · -- True
    subst hr_1
    refine lv_if_eq (tgt := 21) hx hb dX0_together_4 (by decide) (fun c => absurd c (by decide)) (fun _ => ?_)
    refine lv_iload_n hx hb dX0_together_7 rfl (lv_at hl 2 rfl) ?_
    refine fx_ci (va_runS (As := [.int other]) (rest := []) X (xX0_isSheet l E other _) (va_cwS 1 X.2.2.2.2 (lw_S q806 q807 q69 q808) rfl rfl rfl hdX0_isSheet ⟨Nat.le_of_ble_eq_true rfl, Nat.le_of_ble_eq_true rfl⟩) (fx_pre hE hP hD hS hR [] rfl rfl fx_rc0) rfl rfl hl.1 rfl (lv_room (Nat.le_of_ble_eq_true rfl)) dX0_together_8 ⟨Nat.le_refl _, Nat.le_refl _⟩) hP hD hS hA [] rfl rfl (fun r_8 u H locs hq_8 hP hD hS => ?_)
    replace hP : va_P E.1 clA [(ax 5, .inl (E.2 0, 7, .inl er)), (ax 9, .inl (E.2 1, 8, .inl bk)), (ax 10, .inl (E.2 1, 8, .inl se)), (ax 13, .inl (E.2 1, 8, .inl al)), (ax 1, .inl (E.2 0, 3, .inl nmd)), (ax 0, .inl (E.2 0, 60, .inl pl))] _ := hP
    replace hD : va_D A [(ax 5, .inl (E.2 0, 7, .inl er)), (ax 9, .inl (E.2 1, 8, .inl bk)), (ax 10, .inl (E.2 1, 8, .inl se)), (ax 13, .inl (E.2 1, 8, .inl al)), (ax 1, .inl (E.2 0, 3, .inl nmd)), (ax 0, .inl (E.2 0, 60, .inl pl))] := hD
    replace hq_8 : r_8 = fx_b (inB other 0 3 = true) := hq_8
    rcases fx_bc hq_8 with ⟨hb_8, hr_8⟩ | ⟨hb_8, hr_8⟩
    · -- True
      subst hr_8
      refine lv_if_eq (tgt := 21) hx hb dX0_together_11 (by decide) (fun c => absurd c (by decide)) (fun _ => ?_)
      refine lv_iload_n hx hb dX0_together_14 rfl (lv_at hl 3 rfl) ?_
      refine fx_ci (va_runS (As := [.int til]) (rest := []) X (xX0_isTill l E til _) (va_cwS 1 X.2.2.2.2 (lw_S q336 q337 q69 q338) rfl rfl rfl hdX0_isTill ⟨Nat.le_of_ble_eq_true rfl, Nat.le_of_ble_eq_true rfl⟩) (fx_pre hE hP hD hS hR [] rfl rfl fx_rc0) rfl rfl hl.1 rfl (lv_room (Nat.le_of_ble_eq_true rfl)) dX0_together_15 ⟨Nat.le_refl _, Nat.le_refl _⟩) hP hD hS hA [] rfl rfl (fun r_15 u H locs hq_15 hP hD hS => ?_)
      replace hP : va_P E.1 clA [(ax 5, .inl (E.2 0, 7, .inl er)), (ax 9, .inl (E.2 1, 8, .inl bk)), (ax 10, .inl (E.2 1, 8, .inl se)), (ax 13, .inl (E.2 1, 8, .inl al)), (ax 1, .inl (E.2 0, 3, .inl nmd)), (ax 0, .inl (E.2 0, 60, .inl pl))] _ := hP
      replace hD : va_D A [(ax 5, .inl (E.2 0, 7, .inl er)), (ax 9, .inl (E.2 1, 8, .inl bk)), (ax 10, .inl (E.2 1, 8, .inl se)), (ax 13, .inl (E.2 1, 8, .inl al)), (ax 1, .inl (E.2 0, 3, .inl nmd)), (ax 0, .inl (E.2 0, 60, .inl pl))] := hD
      replace hq_15 : r_15 = fx_b (inB til 0 3 = true) := hq_15
      rcases fx_bc hq_15 with ⟨hb_15, hr_15⟩ | ⟨hb_15, hr_15⟩
      · -- True
        subst hr_15
        have gsh := inB_nn (n := 3) hb_1 (by omega)
        have gs1 : nn sheet < 4 := by omega
        have go := inB_nn (n := 3) hb_8 (by omega)
        have go1 : nn other < 4 := by omega
        have gn := inB_nn (n := 3) hb_15 (by omega)
        have g1 : nn til < 4 := by omega
        refine lv_if_ne (tgt := 27) hx hb dX0_together_18 (by decide) (fun _ => ?_) (fun c => absurd c (by decide))
        refine lv_aload_n hx hb dX0_together_27 rfl (lv_at hl 0 rfl) ?_
        refine lv_iload_n hx hb dX0_together_28 rfl (lv_at hl 1 rfl) ?_
        refine fx_ti (show sheet = nI (nn sheet) from gsh.1) ?_
        refine lv_aload_n hx hb dX0_together_29 rfl (lv_at hl 0 rfl) ?_
        refine fx_get X hE (hR.at hS) 0 rfl rfl 9 rfl q244 rfl rfl dX0_together_30 ?_
        refine lv_bipush (v := 30) hx hb dX0_together_33 rfl ?_
        refine fx_ci (va_runV (As := [.int (nI (nn sheet)), .ref (ax 9), .int 30]) (rest := []) X (xX0_faultOf l E ax im bn bm fm ff fl bt sz nu sh (ax 9) bk (nn sheet) 30 PL gs1 (by first | assumption | omega) (by first | assumption | omega) (by decide) _) (cwV 3 X.2.2.2.2 (lw_V q809 q811 qs17 q69 q812) rfl rfl rfl ⟨rfl, hdX0_faultOf⟩ ⟨Nat.le_of_ble_eq_true rfl, Nat.le_of_ble_eq_true rfl⟩) (fx_preV (fx_pre hE hP hD hS hR [1] rfl rfl (fx_rcr 0 rfl (fx_rcr 10 rfl (fx_rcr 11 rfl (fx_rcr 12 rfl (fx_rcr 13 rfl (fx_rcr 14 rfl (fx_rct (fun q hq => List.mem_append_right _ hq))))))))) (va_recv hE.1 (hR.at hS) (ci := 0) (q0 := 0) rfl rfl)) rfl rfl hl.1 rfl (lv_room (Nat.le_of_ble_eq_true rfl)) dX0_together_35 ⟨Nat.le_refl _, Nat.le_refl _⟩) hP hD hS hA [1] rfl rfl (fun r_35 u H locs hq_35 hP hD hS => ?_)
        obtain ⟨row2_35, rfl⟩ : ∃ z, z = u := ⟨_, rfl⟩
        replace hP : va_P E.1 clA [(ax 5, .inl (E.2 0, 7, .inl er)), (ax 9, .inl (E.2 1, 8, .inl row2_35)), (ax 10, .inl (E.2 1, 8, .inl se)), (ax 13, .inl (E.2 1, 8, .inl al)), (ax 1, .inl (E.2 0, 3, .inl nmd)), (ax 0, .inl (E.2 0, 60, .inl pl))] _ := hP
        replace hD : va_D A [(ax 5, .inl (E.2 0, 7, .inl er)), (ax 9, .inl (E.2 1, 8, .inl row2_35)), (ax 10, .inl (E.2 1, 8, .inl se)), (ax 13, .inl (E.2 1, 8, .inl al)), (ax 1, .inl (E.2 0, 3, .inl nmd)), (ax 0, .inl (E.2 0, 60, .inl pl))] := hD
        replace hq_35 : r_35 = nI (tellC bt sz nu (nn sheet) 30) ∧ (tellC bt sz nu (nn sheet) 30 = 0 → ∀ t, t < 8 → row2_35 t = shG sz nu (nn sheet) t) := hq_35
        refine fx_ti (show r_35 = nI (tellC bt sz nu (nn sheet) 30) from hq_35.1) ?_
        have hcl : tellC bt sz nu (nn sheet) 30 ≤ 4 := tellC_le
        refine lv_istore (lv' := [(4, .int (nI (tellC bt sz nu (nn sheet) 30))), (0, .ref (ax 19)), (1, .int sheet), (2, .int other), (3, .int til)]) hx hb dX0_together_38 hl (by decide) rfl (fun ls hl => ?_)
        refine lv_aload_n hx hb dX0_together_40 rfl (lv_at hl 1 rfl) ?_
        refine lv_iload_n hx hb dX0_together_41 rfl (lv_at hl 3 rfl) ?_
        refine fx_ti (show other = nI (nn other) from go.1) ?_
        refine lv_aload_n hx hb dX0_together_42 rfl (lv_at hl 1 rfl) ?_
        refine fx_get X hE (hR.at hS) 0 rfl rfl 10 rfl q245 rfl rfl dX0_together_43 ?_
        refine lv_bipush (v := 30) hx hb dX0_together_46 rfl ?_
        refine fx_ci (va_runV (As := [.int (nI (nn other)), .ref (ax 10), .int 30]) (rest := []) X (xX0_faultOf l E ax im bn bm fm ff fl bt sz nu sh (ax 10) se (nn other) 30 PL go1 (by first | assumption | omega) (by first | assumption | omega) (by decide) _) (cwV 3 X.2.2.2.2 (lw_V q809 q811 qs17 q69 q812) rfl rfl rfl ⟨rfl, hdX0_faultOf⟩ ⟨Nat.le_of_ble_eq_true rfl, Nat.le_of_ble_eq_true rfl⟩) (fx_preV (fx_pre hE hP hD hS hR [2] rfl rfl (fx_rcr 0 rfl (fx_rcr 10 rfl (fx_rcr 11 rfl (fx_rcr 12 rfl (fx_rcr 13 rfl (fx_rcr 14 rfl (fx_rct (fun q hq => List.mem_append_right _ hq))))))))) (va_recv hE.1 (hR.at hS) (ci := 0) (q0 := 0) rfl rfl)) rfl rfl hl.1 rfl (lv_room (Nat.le_of_ble_eq_true rfl)) dX0_together_48 ⟨Nat.le_refl _, Nat.le_refl _⟩) hP hD hS hA [2] rfl rfl (fun r_48 u H locs hq_48 hP hD hS => ?_)
        obtain ⟨row2_48, rfl⟩ : ∃ z, z = u := ⟨_, rfl⟩
        replace hP : va_P E.1 clA [(ax 5, .inl (E.2 0, 7, .inl er)), (ax 9, .inl (E.2 1, 8, .inl row2_35)), (ax 10, .inl (E.2 1, 8, .inl row2_48)), (ax 13, .inl (E.2 1, 8, .inl al)), (ax 1, .inl (E.2 0, 3, .inl nmd)), (ax 0, .inl (E.2 0, 60, .inl pl))] _ := hP
        replace hD : va_D A [(ax 5, .inl (E.2 0, 7, .inl er)), (ax 9, .inl (E.2 1, 8, .inl row2_35)), (ax 10, .inl (E.2 1, 8, .inl row2_48)), (ax 13, .inl (E.2 1, 8, .inl al)), (ax 1, .inl (E.2 0, 3, .inl nmd)), (ax 0, .inl (E.2 0, 60, .inl pl))] := hD
        replace hq_48 : r_48 = nI (tellC bt sz nu (nn other) 30) ∧ (tellC bt sz nu (nn other) 30 = 0 → ∀ t, t < 8 → row2_48 t = shG sz nu (nn other) t) := hq_48
        refine fx_ti (show r_48 = nI (tellC bt sz nu (nn other) 30) from hq_48.1) ?_
        have hcl2 : tellC bt sz nu (nn other) 30 ≤ 4 := tellC_le
        refine lv_istore (lv' := [(5, .int (nI (tellC bt sz nu (nn other) 30))), (4, .int (nI (tellC bt sz nu (nn sheet) 30))), (0, .ref (ax 19)), (1, .int sheet), (2, .int other), (3, .int til)]) hx hb dX0_together_51 hl (by decide) rfl (fun ls hl => ?_)
        refine lv_iload hx hb dX0_together_53 (lv_at hl 1 rfl) ?_
        refine lv_iconst (v := 2) hx hb dX0_together_55 rfl ?_
        refine lv_icmp_eq (tgt := 65) hx hb dX0_together_56 (by decide) (fun c_56 => ?_) (fun c_56 => ?_)
        · -- jump 65
          have n_56 := fx_eq1 (a := (tellC bt sz nu (nn sheet) 30)) (b := 2) c_56 (by omega) (by omega)
          have hC : togC bt sz nu sheet other til = 2 := by rw [tog_x hb_1 hb_8 hb_15, if_pos (Or.inl n_56)]
          refine lv_aload_n hx hb dX0_together_65 rfl (lv_at hl 2 rfl) ?_
          refine lv_iconst (v := 2) hx hb dX0_together_66 rfl ?_
          refine fx_ci (va_runV (As := [.int 2]) (rest := []) X (xX0_finds l E ax im bn bm fm ff fl er 2 (by decide) _) (cwV 1 X.2.2.2.2 (lw_V q303 q305 qs0 q69 q306) rfl rfl rfl ⟨rfl, hdX0_finds⟩ ⟨Nat.le_of_ble_eq_true rfl, Nat.le_of_ble_eq_true rfl⟩) (fx_preV (fx_pre hE hP hD hS hR [0] rfl rfl (fx_rcr 0 rfl fx_rc0)) (va_recv hE.1 (hR.at hS) (ci := 0) (q0 := 0) rfl rfl)) rfl rfl hl.1 rfl (lv_room (Nat.le_of_ble_eq_true rfl)) dX0_together_67 ⟨Nat.le_refl _, Nat.le_refl _⟩) hP hD hS hA [0] rfl rfl (fun r_67 u H locs hq_67 hP hD hS => ?_)
          replace hP : va_P E.1 clA [(ax 5, .inl (E.2 0, 7, .inl (upd er 2 (er 2 + 1)))), (ax 9, .inl (E.2 1, 8, .inl row2_35)), (ax 10, .inl (E.2 1, 8, .inl row2_48)), (ax 13, .inl (E.2 1, 8, .inl al)), (ax 1, .inl (E.2 0, 3, .inl nmd)), (ax 0, .inl (E.2 0, 60, .inl pl))] _ := hP
          replace hD : va_D A [(ax 5, .inl (E.2 0, 7, .inl (upd er 2 (er 2 + 1)))), (ax 9, .inl (E.2 1, 8, .inl row2_35)), (ax 10, .inl (E.2 1, 8, .inl row2_48)), (ax 13, .inl (E.2 1, 8, .inl al)), (ax 1, .inl (E.2 0, 3, .inl nmd)), (ax 0, .inl (E.2 0, 60, .inl pl))] := hD
          replace hq_67 : r_67 = erv 2 := hq_67
          exact hret r_67 ((upd er 2 (er 2 + 1)), row2_35, row2_48, al, nmd, pl) (by rw [hq_67]; simp only [together_, hC]; rfl) (rfl) hP hD hS (Nat.le_refl _) (Nat.le_refl _) dX0_together_70
        · -- fall 59
          have n_56 := fx_eq0 (a := (tellC bt sz nu (nn sheet) 30)) (b := 2) c_56 (by omega) (by omega)
          refine lv_iload hx hb dX0_together_59 (lv_at hl 0 rfl) ?_
          refine lv_iconst (v := 2) hx hb dX0_together_61 rfl ?_
          refine lv_icmp_ne (tgt := 71) hx hb dX0_together_62 (by decide) (fun c_62 => ?_) (fun c_62 => ?_)
          · -- jump 71
            have n_62 := fx_eq0 (a := (tellC bt sz nu (nn other) 30)) (b := 2) c_62 (by omega) (by omega)
            refine lv_iload hx hb dX0_together_71 (lv_at hl 1 rfl) ?_
            refine lv_iconst (v := 1) hx hb dX0_together_73 rfl ?_
            refine lv_icmp_eq (tgt := 83) hx hb dX0_together_74 (by decide) (fun c_74 => ?_) (fun c_74 => ?_)
            · -- jump 83
              have n_74 := fx_eq1 (a := (tellC bt sz nu (nn sheet) 30)) (b := 1) c_74 (by omega) (by omega)
              have hC : togC bt sz nu sheet other til = 1 := by rw [tog_x hb_1 hb_8 hb_15, if_neg (fun h => h.elim n_56 n_62), if_pos (Or.inl n_74)]
              refine lv_aload_n hx hb dX0_together_83 rfl (lv_at hl 2 rfl) ?_
              refine lv_iconst (v := 1) hx hb dX0_together_84 rfl ?_
              refine fx_ci (va_runV (As := [.int 1]) (rest := []) X (xX0_finds l E ax im bn bm fm ff fl er 1 (by decide) _) (cwV 1 X.2.2.2.2 (lw_V q303 q305 qs0 q69 q306) rfl rfl rfl ⟨rfl, hdX0_finds⟩ ⟨Nat.le_of_ble_eq_true rfl, Nat.le_of_ble_eq_true rfl⟩) (fx_preV (fx_pre hE hP hD hS hR [0] rfl rfl (fx_rcr 0 rfl fx_rc0)) (va_recv hE.1 (hR.at hS) (ci := 0) (q0 := 0) rfl rfl)) rfl rfl hl.1 rfl (lv_room (Nat.le_of_ble_eq_true rfl)) dX0_together_85 ⟨Nat.le_refl _, Nat.le_refl _⟩) hP hD hS hA [0] rfl rfl (fun r_85 u H locs hq_85 hP hD hS => ?_)
              replace hP : va_P E.1 clA [(ax 5, .inl (E.2 0, 7, .inl (upd er 1 (er 1 + 1)))), (ax 9, .inl (E.2 1, 8, .inl row2_35)), (ax 10, .inl (E.2 1, 8, .inl row2_48)), (ax 13, .inl (E.2 1, 8, .inl al)), (ax 1, .inl (E.2 0, 3, .inl nmd)), (ax 0, .inl (E.2 0, 60, .inl pl))] _ := hP
              replace hD : va_D A [(ax 5, .inl (E.2 0, 7, .inl (upd er 1 (er 1 + 1)))), (ax 9, .inl (E.2 1, 8, .inl row2_35)), (ax 10, .inl (E.2 1, 8, .inl row2_48)), (ax 13, .inl (E.2 1, 8, .inl al)), (ax 1, .inl (E.2 0, 3, .inl nmd)), (ax 0, .inl (E.2 0, 60, .inl pl))] := hD
              replace hq_85 : r_85 = erv 1 := hq_85
              exact hret r_85 ((upd er 1 (er 1 + 1)), row2_35, row2_48, al, nmd, pl) (by rw [hq_85]; simp only [together_, hC]; rfl) (rfl) hP hD hS (Nat.le_refl _) (Nat.le_refl _) dX0_together_88
            · -- fall 77
              have n_74 := fx_eq0 (a := (tellC bt sz nu (nn sheet) 30)) (b := 1) c_74 (by omega) (by omega)
              refine lv_iload hx hb dX0_together_77 (lv_at hl 0 rfl) ?_
              refine lv_iconst (v := 1) hx hb dX0_together_79 rfl ?_
              refine lv_icmp_ne (tgt := 89) hx hb dX0_together_80 (by decide) (fun c_80 => ?_) (fun c_80 => ?_)
              · -- jump 89
                have n_80 := fx_eq0 (a := (tellC bt sz nu (nn other) 30)) (b := 1) c_80 (by omega) (by omega)
                refine lv_iload hx hb dX0_together_89 (lv_at hl 1 rfl) ?_
                refine lv_if_gt (tgt := 119) hx hb dX0_together_91 (by decide) (fun c_91 => ?_) (fun c_91 => ?_)
                · -- jump 119
                  have n_91 := fx_lt1 (a := 0) (b := (tellC bt sz nu (nn sheet) 30)) c_91 (by omega) (by omega)
                  have hC : togC bt sz nu sheet other til = 4 := by rw [tog_x hb_1 hb_8 hb_15, if_neg (fun h => h.elim n_56 n_62), if_neg (fun h => h.elim n_74 n_80), if_pos (Or.inl n_91)]
                  refine lv_aload_n hx hb dX0_together_119 rfl (lv_at hl 2 rfl) ?_
                  refine lv_iconst (v := 4) hx hb dX0_together_120 rfl ?_
                  refine fx_ci (va_runV (As := [.int 4]) (rest := []) X (xX0_finds l E ax im bn bm fm ff fl er 4 (by decide) _) (cwV 1 X.2.2.2.2 (lw_V q303 q305 qs0 q69 q306) rfl rfl rfl ⟨rfl, hdX0_finds⟩ ⟨Nat.le_of_ble_eq_true rfl, Nat.le_of_ble_eq_true rfl⟩) (fx_preV (fx_pre hE hP hD hS hR [0] rfl rfl (fx_rcr 0 rfl fx_rc0)) (va_recv hE.1 (hR.at hS) (ci := 0) (q0 := 0) rfl rfl)) rfl rfl hl.1 rfl (lv_room (Nat.le_of_ble_eq_true rfl)) dX0_together_121 ⟨Nat.le_refl _, Nat.le_refl _⟩) hP hD hS hA [0] rfl rfl (fun r_121 u H locs hq_121 hP hD hS => ?_)
                  replace hP : va_P E.1 clA [(ax 5, .inl (E.2 0, 7, .inl (upd er 4 (er 4 + 1)))), (ax 9, .inl (E.2 1, 8, .inl row2_35)), (ax 10, .inl (E.2 1, 8, .inl row2_48)), (ax 13, .inl (E.2 1, 8, .inl al)), (ax 1, .inl (E.2 0, 3, .inl nmd)), (ax 0, .inl (E.2 0, 60, .inl pl))] _ := hP
                  replace hD : va_D A [(ax 5, .inl (E.2 0, 7, .inl (upd er 4 (er 4 + 1)))), (ax 9, .inl (E.2 1, 8, .inl row2_35)), (ax 10, .inl (E.2 1, 8, .inl row2_48)), (ax 13, .inl (E.2 1, 8, .inl al)), (ax 1, .inl (E.2 0, 3, .inl nmd)), (ax 0, .inl (E.2 0, 60, .inl pl))] := hD
                  replace hq_121 : r_121 = erv 4 := hq_121
                  exact hret r_121 ((upd er 4 (er 4 + 1)), row2_35, row2_48, al, nmd, pl) (by rw [hq_121]; simp only [together_, hC]; rfl) (rfl) hP hD hS (Nat.le_refl _) (Nat.le_refl _) dX0_together_124
                · -- fall 94
                  have n_91 := fx_lt0 (a := 0) (b := (tellC bt sz nu (nn sheet) 30)) c_91 (by omega) (by omega)
                  refine lv_iload hx hb dX0_together_94 (lv_at hl 0 rfl) ?_
                  refine lv_if_gt (tgt := 119) hx hb dX0_together_96 (by decide) (fun c_96 => ?_) (fun c_96 => ?_)
                  · -- jump 119
                    have n_96 := fx_lt1 (a := 0) (b := (tellC bt sz nu (nn other) 30)) c_96 (by omega) (by omega)
                    have hC : togC bt sz nu sheet other til = 4 := by rw [tog_x hb_1 hb_8 hb_15, if_neg (fun h => h.elim n_56 n_62), if_neg (fun h => h.elim n_74 n_80), if_pos (Or.inr (Or.inl n_96))]
                    refine lv_aload_n hx hb dX0_together_119 rfl (lv_at hl 2 rfl) ?_
                    refine lv_iconst (v := 4) hx hb dX0_together_120 rfl ?_
                    refine fx_ci (va_runV (As := [.int 4]) (rest := []) X (xX0_finds l E ax im bn bm fm ff fl er 4 (by decide) _) (cwV 1 X.2.2.2.2 (lw_V q303 q305 qs0 q69 q306) rfl rfl rfl ⟨rfl, hdX0_finds⟩ ⟨Nat.le_of_ble_eq_true rfl, Nat.le_of_ble_eq_true rfl⟩) (fx_preV (fx_pre hE hP hD hS hR [0] rfl rfl (fx_rcr 0 rfl fx_rc0)) (va_recv hE.1 (hR.at hS) (ci := 0) (q0 := 0) rfl rfl)) rfl rfl hl.1 rfl (lv_room (Nat.le_of_ble_eq_true rfl)) dX0_together_121 ⟨Nat.le_refl _, Nat.le_refl _⟩) hP hD hS hA [0] rfl rfl (fun r_121 u H locs hq_121 hP hD hS => ?_)
                    replace hP : va_P E.1 clA [(ax 5, .inl (E.2 0, 7, .inl (upd er 4 (er 4 + 1)))), (ax 9, .inl (E.2 1, 8, .inl row2_35)), (ax 10, .inl (E.2 1, 8, .inl row2_48)), (ax 13, .inl (E.2 1, 8, .inl al)), (ax 1, .inl (E.2 0, 3, .inl nmd)), (ax 0, .inl (E.2 0, 60, .inl pl))] _ := hP
                    replace hD : va_D A [(ax 5, .inl (E.2 0, 7, .inl (upd er 4 (er 4 + 1)))), (ax 9, .inl (E.2 1, 8, .inl row2_35)), (ax 10, .inl (E.2 1, 8, .inl row2_48)), (ax 13, .inl (E.2 1, 8, .inl al)), (ax 1, .inl (E.2 0, 3, .inl nmd)), (ax 0, .inl (E.2 0, 60, .inl pl))] := hD
                    replace hq_121 : r_121 = erv 4 := hq_121
                    exact hret r_121 ((upd er 4 (er 4 + 1)), row2_35, row2_48, al, nmd, pl) (by rw [hq_121]; simp only [together_, hC]; rfl) (rfl) hP hD hS (Nat.le_refl _) (Nat.le_refl _) dX0_together_124
                  · -- fall 99
                    have n_96 := fx_lt0 (a := 0) (b := (tellC bt sz nu (nn other) 30)) c_96 (by omega) (by omega)
                    have h0 : tellC bt sz nu (nn sheet) 30 = 0 := by omega
                    obtain ⟨hrow, hr9, hm30⟩ := tell_row h0 (hq_35.2 h0)
                    have h02 : tellC bt sz nu (nn other) 30 = 0 := by omega
                    obtain ⟨hrow2, hr92, hm302⟩ := tell_row h02 (hq_48.2 h02)
                    refine lv_aload_n hx hb dX0_together_99 rfl (lv_at hl 2 rfl) ?_
                    refine fx_get X hE (hR.at hS) 0 rfl rfl 9 rfl q244 rfl rfl dX0_together_100 ?_
                    refine fx_ci (va_runS (As := [.ref (ax 9)]) (rest := []) X (xX0_manyIn l E (ax 9) row2_35 _) (va_cwS 1 X.2.2.2.2 (lw_S q822 q823 q69 q824) rfl rfl rfl hdX0_manyIn ⟨Nat.le_of_ble_eq_true rfl, Nat.le_of_ble_eq_true rfl⟩) (fx_pre hE hP hD hS hR [] rfl rfl (fx_rcm 1 rfl (by decide) fx_rc0)) rfl rfl hl.1 rfl (lv_room (Nat.le_of_ble_eq_true rfl)) dX0_together_103 ⟨Nat.le_refl _, Nat.le_refl _⟩) hP hD hS hA [] rfl rfl (fun r_103 u H locs hq_103 hP hD hS => ?_)
                    replace hP : va_P E.1 clA [(ax 5, .inl (E.2 0, 7, .inl er)), (ax 9, .inl (E.2 1, 8, .inl row2_35)), (ax 10, .inl (E.2 1, 8, .inl row2_48)), (ax 13, .inl (E.2 1, 8, .inl al)), (ax 1, .inl (E.2 0, 3, .inl nmd)), (ax 0, .inl (E.2 0, 60, .inl pl))] _ := hP
                    replace hD : va_D A [(ax 5, .inl (E.2 0, 7, .inl er)), (ax 9, .inl (E.2 1, 8, .inl row2_35)), (ax 10, .inl (E.2 1, 8, .inl row2_48)), (ax 13, .inl (E.2 1, 8, .inl al)), (ax 1, .inl (E.2 0, 3, .inl nmd)), (ax 0, .inl (E.2 0, 60, .inl pl))] := hD
                    replace hq_103 : r_103 = l_sum row2_35 8 := hq_103
                    refine fx_ti (show r_103 = nI (manyN (rnG sz nu (nn sheet)) 8) from hq_103.trans (manyN_I 8 (fun t ht => (hrow t ht).1))) ?_
                    refine lv_aload_n hx hb dX0_together_106 rfl (lv_at hl 2 rfl) ?_
                    refine fx_get X hE (hR.at hS) 0 rfl rfl 10 rfl q245 rfl rfl dX0_together_107 ?_
                    refine fx_ci (va_runS (As := [.ref (ax 10)]) (rest := [.int (nI (manyN (rnG sz nu (nn sheet)) 8))]) X (xX0_manyIn l E (ax 10) row2_48 _) (va_cwS 1 X.2.2.2.2 (lw_S q822 q823 q69 q824) rfl rfl rfl hdX0_manyIn ⟨Nat.le_of_ble_eq_true rfl, Nat.le_of_ble_eq_true rfl⟩) (fx_pre hE hP hD hS hR [] rfl rfl (fx_rcm 2 rfl (by decide) fx_rc0)) rfl rfl hl.1 rfl (lv_room (Nat.le_of_ble_eq_true rfl)) dX0_together_110 ⟨Nat.le_refl _, Nat.le_refl _⟩) hP hD hS hA [] rfl rfl (fun r_110 u H locs hq_110 hP hD hS => ?_)
                    replace hP : va_P E.1 clA [(ax 5, .inl (E.2 0, 7, .inl er)), (ax 9, .inl (E.2 1, 8, .inl row2_35)), (ax 10, .inl (E.2 1, 8, .inl row2_48)), (ax 13, .inl (E.2 1, 8, .inl al)), (ax 1, .inl (E.2 0, 3, .inl nmd)), (ax 0, .inl (E.2 0, 60, .inl pl))] _ := hP
                    replace hD : va_D A [(ax 5, .inl (E.2 0, 7, .inl er)), (ax 9, .inl (E.2 1, 8, .inl row2_35)), (ax 10, .inl (E.2 1, 8, .inl row2_48)), (ax 13, .inl (E.2 1, 8, .inl al)), (ax 1, .inl (E.2 0, 3, .inl nmd)), (ax 0, .inl (E.2 0, 60, .inl pl))] := hD
                    replace hq_110 : r_110 = l_sum row2_48 8 := hq_110
                    refine fx_ti (show r_110 = nI (manyN (rnG sz nu (nn other)) 8) from hq_110.trans (manyN_I 8 (fun t ht => (hrow2 t ht).1))) ?_
                    refine lv_iadd hx hb dX0_together_113 ?_
                    refine fx_ti (nI_add (manyN (rnG sz nu (nn sheet)) 8) (manyN (rnG sz nu (nn other)) 8)) ?_
                    refine lv_bipush (v := 30) hx hb dX0_together_114 rfl ?_
                    refine lv_icmp_le (tgt := 125) hx hb dX0_together_116 (by decide) (fun c_116 => ?_) (fun c_116 => ?_)
                    · -- jump 125
                      have n_116 := fx_le1 (a := (manyN (rnG sz nu (nn sheet)) 8 + manyN (rnG sz nu (nn other)) 8)) (b := 30) c_116 (by omega) (by omega)
                      have hC : togC bt sz nu sheet other til = 0 := by rw [tog_x hb_1 hb_8 hb_15, if_neg (fun h => h.elim n_56 n_62), if_neg (fun h => h.elim n_74 n_80), if_neg (by omega)]
                      refine lv_iconst (v := 0) hx hb dX0_together_125 rfl ?_
                      refine lv_istore (lv' := [(6, .int 0), (5, .int (nI (tellC bt sz nu (nn other) 30))), (4, .int (nI (tellC bt sz nu (nn sheet) 30))), (0, .ref (ax 19)), (1, .int sheet), (2, .int other), (3, .int til)]) hx hb dX0_together_126 hl (by decide) rfl (fun ls hl => ?_)
                      have loop_128 : ∀ (n_128 : Nat) (t : Nat) (alv : Nat → Int32), (8 - t < n_128) → (t ≤ 8) → (∀ i, i < t → alv i = nI (rnG sz nu (nn sheet) i + rnG sz nu (nn other) i)) → ∀ (H : Heap) (locs : List Loc), va_P E.1 clA [(ax 5, .inl (E.2 0, 7, .inl er)), (ax 9, .inl (E.2 1, 8, .inl row2_35)), (ax 10, .inl (E.2 1, 8, .inl row2_48)), (ax 13, .inl (E.2 1, 8, .inl alv)), (ax 1, .inl (E.2 0, 3, .inl nmd)), (ax 0, .inl (E.2 0, 60, .inl pl))] H → va_D A [(ax 5, .inl (E.2 0, 7, .inl er)), (ax 9, .inl (E.2 1, 8, .inl row2_35)), (ax 10, .inl (E.2 1, 8, .inl row2_48)), (ax 13, .inl (E.2 1, 8, .inl alv)), (ax 1, .inl (E.2 0, 3, .inl nmd)), (ax 0, .inl (E.2 0, 60, .inl pl))] → va_S A s.heap H locs → ∀ (ls : Array Slot), lv_has ls 7 [(6, .int (nI t)), (5, .int (nI (tellC bt sz nu (nn other) 30))), (4, .int (nI (tellC bt sz nu (nn sheet) 30))), (0, .ref (ax 19)), (1, .int sheet), (2, .int other), (3, .int til)] → W p l e rxX0_together s m args below meth c H locs 0 0 Q (F0 m 128 ls []) := by
                        intro n_128
                        induction n_128 with
                        | zero => intro t alv hm_128; exact absurd hm_128 (Nat.not_lt_zero _)
                        | succ n_128 ih_128 =>
                          intro t alv hm_128 ht hal H locs hP hD hS ls hl
                          refine lv_iload hx hb dX0_together_128 (lv_at hl 0 rfl) ?_
                          refine lv_bipush (v := 8) hx hb dX0_together_130 rfl ?_
                          refine lv_icmp_ge (tgt := 164) hx hb dX0_together_132 (by decide) (fun c_132 => ?_) (fun c_132 => ?_)
                          · -- jump 164
                            have n_132 := fx_le1 (a := 8) (b := t) c_132 (by omega) (by omega)
                            obtain rfl : t = 8 := by omega
                            refine lv_aload_n hx hb dX0_together_164 rfl (lv_at hl 3 rfl) ?_
                            refine lv_aload_n hx hb dX0_together_165 rfl (lv_at hl 3 rfl) ?_
                            refine fx_get X hE (hR.at hS) 0 rfl rfl 9 rfl q244 rfl rfl dX0_together_166 ?_
                            refine lv_iload_n hx hb dX0_together_169 rfl (lv_at hl 6 rfl) ?_
                            refine fx_ti (show til = nI (nn til) from gn.1) ?_
                            refine fx_ci (va_runV (As := [.ref (ax 9), .int (nI (nn til))]) (rest := []) X (xX0_paysOf l E ax im bn bm fm ff fl tk cs gs zz tp wg nmd pl sa tl tx T PL pr (ax 9) row2_35 (rnG sz nu (nn sheet)) (nn til) g1 (by first | assumption | omega) (by first | assumption | omega) (by first | assumption | omega) (by first | assumption | omega) hrow (by first | assumption | omega) _) (cwV 2 X.2.2.2.2 (lw_V q833 q835 qs19 q69 q836) rfl rfl rfl ⟨rfl, hdX0_paysOf⟩ ⟨Nat.le_of_ble_eq_true rfl, Nat.le_of_ble_eq_true rfl⟩) (fx_preV (fx_pre hE hP hD hS hR [4, 5] rfl rfl (fx_rcr 0 rfl (fx_rcr 1 rfl (fx_rcr 2 rfl (fx_rcr 3 rfl (fx_rcr 4 rfl (fx_rcr 5 rfl (fx_rcr 6 rfl (fx_rcr 7 rfl (fx_rcr 8 rfl (fx_rcr 9 rfl (fx_rcm 1 rfl (by decide) (fx_rct (fun q hq => List.mem_append_right _ hq)))))))))))))) (va_recv hE.1 (hR.at hS) (ci := 0) (q0 := 0) rfl rfl)) rfl rfl hl.1 rfl (lv_room (Nat.le_of_ble_eq_true rfl)) dX0_together_170 ⟨Nat.le_refl _, Nat.le_refl _⟩) hP hD hS hA [4, 5] rfl rfl (fun r_170 u H locs hq_170 hP hD hS => ?_)
                            obtain ⟨nm2_170, pl2_170⟩ := u
                            replace hP : va_P E.1 clA [(ax 5, .inl (E.2 0, 7, .inl er)), (ax 9, .inl (E.2 1, 8, .inl row2_35)), (ax 10, .inl (E.2 1, 8, .inl row2_48)), (ax 13, .inl (E.2 1, 8, .inl alv)), (ax 1, .inl (E.2 0, 3, .inl nm2_170)), (ax 0, .inl (E.2 0, 60, .inl pl2_170))] _ := hP
                            replace hD : va_D A [(ax 5, .inl (E.2 0, 7, .inl er)), (ax 9, .inl (E.2 1, 8, .inl row2_35)), (ax 10, .inl (E.2 1, 8, .inl row2_48)), (ax 13, .inl (E.2 1, 8, .inl alv)), (ax 1, .inl (E.2 0, 3, .inl nm2_170)), (ax 0, .inl (E.2 0, 60, .inl pl2_170))] := hD
                            replace hq_170 : r_170 = paysF sa T (rnG sz nu (nn sheet)) (nn til) := hq_170
                            refine lv_aload_n hx hb dX0_together_173 rfl (lv_at hl 3 rfl) ?_
                            refine lv_aload_n hx hb dX0_together_174 rfl (lv_at hl 3 rfl) ?_
                            refine fx_get X hE (hR.at hS) 0 rfl rfl 10 rfl q245 rfl rfl dX0_together_175 ?_
                            refine lv_iload_n hx hb dX0_together_178 rfl (lv_at hl 6 rfl) ?_
                            refine fx_ti (show til = nI (nn til) from gn.1) ?_
                            refine fx_ci (va_runV (As := [.ref (ax 10), .int (nI (nn til))]) (rest := [.int r_170]) X (xX0_paysOf l E ax im bn bm fm ff fl tk cs gs zz tp wg nm2_170 pl2_170 sa tl tx T PL pr (ax 10) row2_48 (rnG sz nu (nn other)) (nn til) g1 (by first | assumption | omega) (by first | assumption | omega) (by first | assumption | omega) (by first | assumption | omega) hrow2 (by first | assumption | omega) _) (cwV 2 X.2.2.2.2 (lw_V q833 q835 qs19 q69 q836) rfl rfl rfl ⟨rfl, hdX0_paysOf⟩ ⟨Nat.le_of_ble_eq_true rfl, Nat.le_of_ble_eq_true rfl⟩) (fx_preV (fx_pre hE hP hD hS hR [4, 5] rfl rfl (fx_rcr 0 rfl (fx_rcr 1 rfl (fx_rcr 2 rfl (fx_rcr 3 rfl (fx_rcr 4 rfl (fx_rcr 5 rfl (fx_rcr 6 rfl (fx_rcr 7 rfl (fx_rcr 8 rfl (fx_rcr 9 rfl (fx_rcm 2 rfl (by decide) (fx_rct (fun q hq => List.mem_append_right _ hq)))))))))))))) (va_recv hE.1 (hR.at hS) (ci := 0) (q0 := 0) rfl rfl)) rfl rfl hl.1 rfl (lv_room (Nat.le_of_ble_eq_true rfl)) dX0_together_179 ⟨Nat.le_refl _, Nat.le_refl _⟩) hP hD hS hA [4, 5] rfl rfl (fun r_179 u H locs hq_179 hP hD hS => ?_)
                            obtain ⟨nm2_179, pl2_179⟩ := u
                            replace hP : va_P E.1 clA [(ax 5, .inl (E.2 0, 7, .inl er)), (ax 9, .inl (E.2 1, 8, .inl row2_35)), (ax 10, .inl (E.2 1, 8, .inl row2_48)), (ax 13, .inl (E.2 1, 8, .inl alv)), (ax 1, .inl (E.2 0, 3, .inl nm2_179)), (ax 0, .inl (E.2 0, 60, .inl pl2_179))] _ := hP
                            replace hD : va_D A [(ax 5, .inl (E.2 0, 7, .inl er)), (ax 9, .inl (E.2 1, 8, .inl row2_35)), (ax 10, .inl (E.2 1, 8, .inl row2_48)), (ax 13, .inl (E.2 1, 8, .inl alv)), (ax 1, .inl (E.2 0, 3, .inl nm2_179)), (ax 0, .inl (E.2 0, 60, .inl pl2_179))] := hD
                            replace hq_179 : r_179 = paysF sa T (rnG sz nu (nn other)) (nn til) := hq_179
                            refine lv_iadd hx hb dX0_together_182 ?_
                            refine lv_aload_n hx hb dX0_together_183 rfl (lv_at hl 3 rfl) ?_
                            refine lv_aload_n hx hb dX0_together_184 rfl (lv_at hl 3 rfl) ?_
                            refine fx_get X hE (hR.at hS) 0 rfl rfl 13 rfl q248 rfl rfl dX0_together_185 ?_
                            refine lv_iload_n hx hb dX0_together_188 rfl (lv_at hl 6 rfl) ?_
                            refine fx_ti (show til = nI (nn til) from gn.1) ?_
                            refine fx_ci (va_runV (As := [.ref (ax 13), .int (nI (nn til))]) (rest := [.int (r_170 + r_179)]) X (xX0_paysOf l E ax im bn bm fm ff fl tk cs gs zz tp wg nm2_179 pl2_179 sa tl tx T PL pr (ax 13) alv (fun t => rnG sz nu (nn sheet) t + rnG sz nu (nn other) t) (nn til) g1 (by first | assumption | omega) (by first | assumption | omega) (by first | assumption | omega) (by first | assumption | omega) (fun t ht => ⟨hal t ht, by have := hr9 t ht; have := hr92 t ht; omega⟩) (by first | assumption | omega) _) (cwV 2 X.2.2.2.2 (lw_V q833 q835 qs19 q69 q836) rfl rfl rfl ⟨rfl, hdX0_paysOf⟩ ⟨Nat.le_of_ble_eq_true rfl, Nat.le_of_ble_eq_true rfl⟩) (fx_preV (fx_pre hE hP hD hS hR [4, 5] rfl rfl (fx_rcr 0 rfl (fx_rcr 1 rfl (fx_rcr 2 rfl (fx_rcr 3 rfl (fx_rcr 4 rfl (fx_rcr 5 rfl (fx_rcr 6 rfl (fx_rcr 7 rfl (fx_rcr 8 rfl (fx_rcr 9 rfl (fx_rcm 3 rfl (by decide) (fx_rct (fun q hq => List.mem_append_right _ hq)))))))))))))) (va_recv hE.1 (hR.at hS) (ci := 0) (q0 := 0) rfl rfl)) rfl rfl hl.1 rfl (lv_room (Nat.le_of_ble_eq_true rfl)) dX0_together_189 ⟨Nat.le_refl _, Nat.le_refl _⟩) hP hD hS hA [4, 5] rfl rfl (fun r_189 u H locs hq_189 hP hD hS => ?_)
                            obtain ⟨nm2_189, pl2_189⟩ := u
                            replace hP : va_P E.1 clA [(ax 5, .inl (E.2 0, 7, .inl er)), (ax 9, .inl (E.2 1, 8, .inl row2_35)), (ax 10, .inl (E.2 1, 8, .inl row2_48)), (ax 13, .inl (E.2 1, 8, .inl alv)), (ax 1, .inl (E.2 0, 3, .inl nm2_189)), (ax 0, .inl (E.2 0, 60, .inl pl2_189))] _ := hP
                            replace hD : va_D A [(ax 5, .inl (E.2 0, 7, .inl er)), (ax 9, .inl (E.2 1, 8, .inl row2_35)), (ax 10, .inl (E.2 1, 8, .inl row2_48)), (ax 13, .inl (E.2 1, 8, .inl alv)), (ax 1, .inl (E.2 0, 3, .inl nm2_189)), (ax 0, .inl (E.2 0, 60, .inl pl2_189))] := hD
                            replace hq_189 : r_189 = paysF sa T (fun t => rnG sz nu (nn sheet) t + rnG sz nu (nn other) t) (nn til) := hq_189
                            refine lv_isub hx hb dX0_together_192 ?_
                            exact hret ((r_170 + r_179) - r_189) (er, row2_35, row2_48, alv, nm2_189, pl2_189) (by rw [hq_170, hq_179, hq_189]; simp only [together_, hC, eR_0, eE_0, togR]) (rfl) hP hD hS (Nat.le_refl _) (Nat.le_refl _) dX0_together_193
                          · -- fall 135
                            have n_132 := fx_le0 (a := 8) (b := t) c_132 (by omega) (by omega)
                            have ha9 := hr9 t (by omega)
                            have hb9 := hr92 t (by omega)
                            refine lv_aload_n hx hb dX0_together_135 rfl (lv_at hl 3 rfl) ?_
                            refine fx_get X hE (hR.at hS) 0 rfl rfl 13 rfl q248 rfl rfl dX0_together_136 ?_
                            refine lv_iload hx hb dX0_together_139 (lv_at hl 0 rfl) ?_
                            refine lv_aload_n hx hb dX0_together_141 rfl (lv_at hl 3 rfl) ?_
                            refine fx_get X hE (hR.at hS) 0 rfl rfl 9 rfl q244 rfl rfl dX0_together_142 ?_
                            refine lv_iload hx hb dX0_together_145 (lv_at hl 0 rfl) ?_
                            refine fx_bald X hE hP 1 rfl t rfl (by omega) rfl dX0_together_147 ?_
                            refine fx_ti (show (row2_35 t) = nI (rnG sz nu (nn sheet) t) from (hrow t (by omega)).1) ?_
                            refine lv_aload_n hx hb dX0_together_148 rfl (lv_at hl 3 rfl) ?_
                            refine fx_get X hE (hR.at hS) 0 rfl rfl 10 rfl q245 rfl rfl dX0_together_149 ?_
                            refine lv_iload hx hb dX0_together_152 (lv_at hl 0 rfl) ?_
                            refine fx_bald X hE hP 2 rfl t rfl (by omega) rfl dX0_together_154 ?_
                            refine fx_ti (show (row2_48 t) = nI (rnG sz nu (nn other) t) from (hrow2 t (by omega)).1) ?_
                            refine lv_iadd hx hb dX0_together_155 ?_
                            refine fx_ti (nI_add (rnG sz nu (nn sheet) t) (rnG sz nu (nn other) t)) ?_
                            refine lv_i2b (v := (nI (rnG sz nu (nn sheet) t + rnG sz nu (nn other) t)).toInt8.toInt32) hx hb dX0_together_156 rfl ?_
                            refine fx_bast (ws' := [(ax 5, .inl (E.2 0, 7, .inl er)), (ax 9, .inl (E.2 1, 8, .inl row2_35)), (ax 10, .inl (E.2 1, 8, .inl row2_48)), (ax 13, .inl (E.2 1, 8, .inl (upd alv t (nI (rnG sz nu (nn sheet) t + rnG sz nu (nn other) t))))), (ax 1, .inl (E.2 0, 3, .inl nmd)), (ax 0, .inl (E.2 0, 60, .inl pl))]) X hE hP hD hS 3 rfl t rfl (by omega) rfl (by rw [pk_bidem]; exact fit8 rfl (by omega)) rfl dX0_together_157 (fun H locs hP hD hS => ?_)
                            refine lv_iinc (v := nI (t + 1)) (lv' := [(6, .int (nI (t + 1))), (5, .int (nI (tellC bt sz nu (nn other) 30))), (4, .int (nI (tellC bt sz nu (nn sheet) 30))), (0, .ref (ax 19)), (1, .int sheet), (2, .int other), (3, .int til)]) hx hb dX0_together_158 hl (k := 0) rfl (fx_inc _) (by decide) rfl (fun ls hl => ?_)
                            refine lv_goto (tgt := 128) hx hb dX0_together_161 (by decide) ?_
                            exact ih_128 (t + 1) (upd alv t (nI (rnG sz nu (nn sheet) t + rnG sz nu (nn other) t))) (by omega) (by omega) (ext_s (f := fun i => nI (rnG sz nu (nn sheet) i + rnG sz nu (nn other) i)) hal rfl) _ _ hP hD hS ls (lv_sub hl [0, 1, 2, 3, 4, 5, 6] rfl)
                      exact loop_128 ((8 - 0) + 1) 0 al (Nat.lt_succ_self _) (by omega) (fun i hi => absurd hi (Nat.not_lt_zero _)) _ _ hP hD hS ls (lv_sub hl [0, 1, 2, 3, 4, 5, 6] rfl)
                    · -- fall 119
                      have n_116 := fx_le0 (a := (manyN (rnG sz nu (nn sheet)) 8 + manyN (rnG sz nu (nn other)) 8)) (b := 30) c_116 (by omega) (by omega)
                      have hC : togC bt sz nu sheet other til = 4 := by rw [tog_x hb_1 hb_8 hb_15, if_neg (fun h => h.elim n_56 n_62), if_neg (fun h => h.elim n_74 n_80), if_pos (Or.inr (Or.inr (by omega)))]
                      refine lv_aload_n hx hb dX0_together_119 rfl (lv_at hl 2 rfl) ?_
                      refine lv_iconst (v := 4) hx hb dX0_together_120 rfl ?_
                      refine fx_ci (va_runV (As := [.int 4]) (rest := []) X (xX0_finds l E ax im bn bm fm ff fl er 4 (by decide) _) (cwV 1 X.2.2.2.2 (lw_V q303 q305 qs0 q69 q306) rfl rfl rfl ⟨rfl, hdX0_finds⟩ ⟨Nat.le_of_ble_eq_true rfl, Nat.le_of_ble_eq_true rfl⟩) (fx_preV (fx_pre hE hP hD hS hR [0] rfl rfl (fx_rcr 0 rfl fx_rc0)) (va_recv hE.1 (hR.at hS) (ci := 0) (q0 := 0) rfl rfl)) rfl rfl hl.1 rfl (lv_room (Nat.le_of_ble_eq_true rfl)) dX0_together_121 ⟨Nat.le_refl _, Nat.le_refl _⟩) hP hD hS hA [0] rfl rfl (fun r_121 u H locs hq_121 hP hD hS => ?_)
                      replace hP : va_P E.1 clA [(ax 5, .inl (E.2 0, 7, .inl (upd er 4 (er 4 + 1)))), (ax 9, .inl (E.2 1, 8, .inl row2_35)), (ax 10, .inl (E.2 1, 8, .inl row2_48)), (ax 13, .inl (E.2 1, 8, .inl al)), (ax 1, .inl (E.2 0, 3, .inl nmd)), (ax 0, .inl (E.2 0, 60, .inl pl))] _ := hP
                      replace hD : va_D A [(ax 5, .inl (E.2 0, 7, .inl (upd er 4 (er 4 + 1)))), (ax 9, .inl (E.2 1, 8, .inl row2_35)), (ax 10, .inl (E.2 1, 8, .inl row2_48)), (ax 13, .inl (E.2 1, 8, .inl al)), (ax 1, .inl (E.2 0, 3, .inl nmd)), (ax 0, .inl (E.2 0, 60, .inl pl))] := hD
                      replace hq_121 : r_121 = erv 4 := hq_121
                      exact hret r_121 ((upd er 4 (er 4 + 1)), row2_35, row2_48, al, nmd, pl) (by rw [hq_121]; simp only [together_, hC]; rfl) (rfl) hP hD hS (Nat.le_refl _) (Nat.le_refl _) dX0_together_124
              · -- fall 83
                have n_80 := fx_eq1 (a := (tellC bt sz nu (nn other) 30)) (b := 1) c_80 (by omega) (by omega)
                have hC : togC bt sz nu sheet other til = 1 := by rw [tog_x hb_1 hb_8 hb_15, if_neg (fun h => h.elim n_56 n_62), if_pos (Or.inr n_80)]
                refine lv_aload_n hx hb dX0_together_83 rfl (lv_at hl 2 rfl) ?_
                refine lv_iconst (v := 1) hx hb dX0_together_84 rfl ?_
                refine fx_ci (va_runV (As := [.int 1]) (rest := []) X (xX0_finds l E ax im bn bm fm ff fl er 1 (by decide) _) (cwV 1 X.2.2.2.2 (lw_V q303 q305 qs0 q69 q306) rfl rfl rfl ⟨rfl, hdX0_finds⟩ ⟨Nat.le_of_ble_eq_true rfl, Nat.le_of_ble_eq_true rfl⟩) (fx_preV (fx_pre hE hP hD hS hR [0] rfl rfl (fx_rcr 0 rfl fx_rc0)) (va_recv hE.1 (hR.at hS) (ci := 0) (q0 := 0) rfl rfl)) rfl rfl hl.1 rfl (lv_room (Nat.le_of_ble_eq_true rfl)) dX0_together_85 ⟨Nat.le_refl _, Nat.le_refl _⟩) hP hD hS hA [0] rfl rfl (fun r_85 u H locs hq_85 hP hD hS => ?_)
                replace hP : va_P E.1 clA [(ax 5, .inl (E.2 0, 7, .inl (upd er 1 (er 1 + 1)))), (ax 9, .inl (E.2 1, 8, .inl row2_35)), (ax 10, .inl (E.2 1, 8, .inl row2_48)), (ax 13, .inl (E.2 1, 8, .inl al)), (ax 1, .inl (E.2 0, 3, .inl nmd)), (ax 0, .inl (E.2 0, 60, .inl pl))] _ := hP
                replace hD : va_D A [(ax 5, .inl (E.2 0, 7, .inl (upd er 1 (er 1 + 1)))), (ax 9, .inl (E.2 1, 8, .inl row2_35)), (ax 10, .inl (E.2 1, 8, .inl row2_48)), (ax 13, .inl (E.2 1, 8, .inl al)), (ax 1, .inl (E.2 0, 3, .inl nmd)), (ax 0, .inl (E.2 0, 60, .inl pl))] := hD
                replace hq_85 : r_85 = erv 1 := hq_85
                exact hret r_85 ((upd er 1 (er 1 + 1)), row2_35, row2_48, al, nmd, pl) (by rw [hq_85]; simp only [together_, hC]; rfl) (rfl) hP hD hS (Nat.le_refl _) (Nat.le_refl _) dX0_together_88
          · -- fall 65
            have n_62 := fx_eq1 (a := (tellC bt sz nu (nn other) 30)) (b := 2) c_62 (by omega) (by omega)
            have hC : togC bt sz nu sheet other til = 2 := by rw [tog_x hb_1 hb_8 hb_15, if_pos (Or.inr n_62)]
            refine lv_aload_n hx hb dX0_together_65 rfl (lv_at hl 2 rfl) ?_
            refine lv_iconst (v := 2) hx hb dX0_together_66 rfl ?_
            refine fx_ci (va_runV (As := [.int 2]) (rest := []) X (xX0_finds l E ax im bn bm fm ff fl er 2 (by decide) _) (cwV 1 X.2.2.2.2 (lw_V q303 q305 qs0 q69 q306) rfl rfl rfl ⟨rfl, hdX0_finds⟩ ⟨Nat.le_of_ble_eq_true rfl, Nat.le_of_ble_eq_true rfl⟩) (fx_preV (fx_pre hE hP hD hS hR [0] rfl rfl (fx_rcr 0 rfl fx_rc0)) (va_recv hE.1 (hR.at hS) (ci := 0) (q0 := 0) rfl rfl)) rfl rfl hl.1 rfl (lv_room (Nat.le_of_ble_eq_true rfl)) dX0_together_67 ⟨Nat.le_refl _, Nat.le_refl _⟩) hP hD hS hA [0] rfl rfl (fun r_67 u H locs hq_67 hP hD hS => ?_)
            replace hP : va_P E.1 clA [(ax 5, .inl (E.2 0, 7, .inl (upd er 2 (er 2 + 1)))), (ax 9, .inl (E.2 1, 8, .inl row2_35)), (ax 10, .inl (E.2 1, 8, .inl row2_48)), (ax 13, .inl (E.2 1, 8, .inl al)), (ax 1, .inl (E.2 0, 3, .inl nmd)), (ax 0, .inl (E.2 0, 60, .inl pl))] _ := hP
            replace hD : va_D A [(ax 5, .inl (E.2 0, 7, .inl (upd er 2 (er 2 + 1)))), (ax 9, .inl (E.2 1, 8, .inl row2_35)), (ax 10, .inl (E.2 1, 8, .inl row2_48)), (ax 13, .inl (E.2 1, 8, .inl al)), (ax 1, .inl (E.2 0, 3, .inl nmd)), (ax 0, .inl (E.2 0, 60, .inl pl))] := hD
            replace hq_67 : r_67 = erv 2 := hq_67
            exact hret r_67 ((upd er 2 (er 2 + 1)), row2_35, row2_48, al, nmd, pl) (by rw [hq_67]; simp only [together_, hC]; rfl) (rfl) hP hD hS (Nat.le_refl _) (Nat.le_refl _) dX0_together_70
      · -- False
        subst hr_15
        have hC : togC bt sz nu sheet other til = 1 := tog_no (Or.inr (Or.inr hb_15))
        refine lv_if_ne (tgt := 27) hx hb dX0_together_18 (by decide) (fun c => (c (by decide)).elim) (fun _ => ?_)
        refine lv_aload_n hx hb dX0_together_21 rfl (lv_at hl 0 rfl) ?_
        refine lv_iconst (v := 1) hx hb dX0_together_22 rfl ?_
        refine fx_ci (va_runV (As := [.int 1]) (rest := []) X (xX0_finds l E ax im bn bm fm ff fl er 1 (by decide) _) (cwV 1 X.2.2.2.2 (lw_V q303 q305 qs0 q69 q306) rfl rfl rfl ⟨rfl, hdX0_finds⟩ ⟨Nat.le_of_ble_eq_true rfl, Nat.le_of_ble_eq_true rfl⟩) (fx_preV (fx_pre hE hP hD hS hR [0] rfl rfl (fx_rcr 0 rfl fx_rc0)) (va_recv hE.1 (hR.at hS) (ci := 0) (q0 := 0) rfl rfl)) rfl rfl hl.1 rfl (lv_room (Nat.le_of_ble_eq_true rfl)) dX0_together_23 ⟨Nat.le_refl _, Nat.le_refl _⟩) hP hD hS hA [0] rfl rfl (fun r_23 u H locs hq_23 hP hD hS => ?_)
        replace hP : va_P E.1 clA [(ax 5, .inl (E.2 0, 7, .inl (upd er 1 (er 1 + 1)))), (ax 9, .inl (E.2 1, 8, .inl bk)), (ax 10, .inl (E.2 1, 8, .inl se)), (ax 13, .inl (E.2 1, 8, .inl al)), (ax 1, .inl (E.2 0, 3, .inl nmd)), (ax 0, .inl (E.2 0, 60, .inl pl))] _ := hP
        replace hD : va_D A [(ax 5, .inl (E.2 0, 7, .inl (upd er 1 (er 1 + 1)))), (ax 9, .inl (E.2 1, 8, .inl bk)), (ax 10, .inl (E.2 1, 8, .inl se)), (ax 13, .inl (E.2 1, 8, .inl al)), (ax 1, .inl (E.2 0, 3, .inl nmd)), (ax 0, .inl (E.2 0, 60, .inl pl))] := hD
        replace hq_23 : r_23 = erv 1 := hq_23
        exact hret r_23 ((upd er 1 (er 1 + 1)), bk, se, al, nmd, pl) (by rw [hq_23]; simp only [together_, hC]; rfl) (rfl) hP hD hS (Nat.le_refl _) (Nat.le_refl _) dX0_together_26
    · -- False
      subst hr_8
      have hC : togC bt sz nu sheet other til = 1 := tog_no (Or.inr (Or.inl hb_8))
      refine lv_if_eq (tgt := 21) hx hb dX0_together_11 (by decide) (fun _ => ?_) (fun c => (c (by decide)).elim)
      refine lv_aload_n hx hb dX0_together_21 rfl (lv_at hl 0 rfl) ?_
      refine lv_iconst (v := 1) hx hb dX0_together_22 rfl ?_
      refine fx_ci (va_runV (As := [.int 1]) (rest := []) X (xX0_finds l E ax im bn bm fm ff fl er 1 (by decide) _) (cwV 1 X.2.2.2.2 (lw_V q303 q305 qs0 q69 q306) rfl rfl rfl ⟨rfl, hdX0_finds⟩ ⟨Nat.le_of_ble_eq_true rfl, Nat.le_of_ble_eq_true rfl⟩) (fx_preV (fx_pre hE hP hD hS hR [0] rfl rfl (fx_rcr 0 rfl fx_rc0)) (va_recv hE.1 (hR.at hS) (ci := 0) (q0 := 0) rfl rfl)) rfl rfl hl.1 rfl (lv_room (Nat.le_of_ble_eq_true rfl)) dX0_together_23 ⟨Nat.le_refl _, Nat.le_refl _⟩) hP hD hS hA [0] rfl rfl (fun r_23 u H locs hq_23 hP hD hS => ?_)
      replace hP : va_P E.1 clA [(ax 5, .inl (E.2 0, 7, .inl (upd er 1 (er 1 + 1)))), (ax 9, .inl (E.2 1, 8, .inl bk)), (ax 10, .inl (E.2 1, 8, .inl se)), (ax 13, .inl (E.2 1, 8, .inl al)), (ax 1, .inl (E.2 0, 3, .inl nmd)), (ax 0, .inl (E.2 0, 60, .inl pl))] _ := hP
      replace hD : va_D A [(ax 5, .inl (E.2 0, 7, .inl (upd er 1 (er 1 + 1)))), (ax 9, .inl (E.2 1, 8, .inl bk)), (ax 10, .inl (E.2 1, 8, .inl se)), (ax 13, .inl (E.2 1, 8, .inl al)), (ax 1, .inl (E.2 0, 3, .inl nmd)), (ax 0, .inl (E.2 0, 60, .inl pl))] := hD
      replace hq_23 : r_23 = erv 1 := hq_23
      exact hret r_23 ((upd er 1 (er 1 + 1)), bk, se, al, nmd, pl) (by rw [hq_23]; simp only [together_, hC]; rfl) (rfl) hP hD hS (Nat.le_refl _) (Nat.le_refl _) dX0_together_26
  · -- False
    subst hr_1
    have hC : togC bt sz nu sheet other til = 1 := tog_no (Or.inl hb_1)
    refine lv_if_eq (tgt := 21) hx hb dX0_together_4 (by decide) (fun _ => ?_) (fun c => (c (by decide)).elim)
    refine lv_aload_n hx hb dX0_together_21 rfl (lv_at hl 0 rfl) ?_
    refine lv_iconst (v := 1) hx hb dX0_together_22 rfl ?_
    refine fx_ci (va_runV (As := [.int 1]) (rest := []) X (xX0_finds l E ax im bn bm fm ff fl er 1 (by decide) _) (cwV 1 X.2.2.2.2 (lw_V q303 q305 qs0 q69 q306) rfl rfl rfl ⟨rfl, hdX0_finds⟩ ⟨Nat.le_of_ble_eq_true rfl, Nat.le_of_ble_eq_true rfl⟩) (fx_preV (fx_pre hE hP hD hS hR [0] rfl rfl (fx_rcr 0 rfl fx_rc0)) (va_recv hE.1 (hR.at hS) (ci := 0) (q0 := 0) rfl rfl)) rfl rfl hl.1 rfl (lv_room (Nat.le_of_ble_eq_true rfl)) dX0_together_23 ⟨Nat.le_refl _, Nat.le_refl _⟩) hP hD hS hA [0] rfl rfl (fun r_23 u H locs hq_23 hP hD hS => ?_)
    replace hP : va_P E.1 clA [(ax 5, .inl (E.2 0, 7, .inl (upd er 1 (er 1 + 1)))), (ax 9, .inl (E.2 1, 8, .inl bk)), (ax 10, .inl (E.2 1, 8, .inl se)), (ax 13, .inl (E.2 1, 8, .inl al)), (ax 1, .inl (E.2 0, 3, .inl nmd)), (ax 0, .inl (E.2 0, 60, .inl pl))] _ := hP
    replace hD : va_D A [(ax 5, .inl (E.2 0, 7, .inl (upd er 1 (er 1 + 1)))), (ax 9, .inl (E.2 1, 8, .inl bk)), (ax 10, .inl (E.2 1, 8, .inl se)), (ax 13, .inl (E.2 1, 8, .inl al)), (ax 1, .inl (E.2 0, 3, .inl nmd)), (ax 0, .inl (E.2 0, 60, .inl pl))] := hD
    replace hq_23 : r_23 = erv 1 := hq_23
    exact hret r_23 ((upd er 1 (er 1 + 1)), bk, se, al, nmd, pl) (by rw [hq_23]; simp only [together_, hC]; rfl) (rfl) hP hD hS (Nat.le_refl _) (Nat.le_refl _) dX0_together_26
