set_option maxRecDepth 100000
theorem hdX0_inTwo : yX0_inTwo.cls ≠ "java/lang/invoke/MethodHandle" ∧ yX0_inTwo.cls ≠ "java/lang/invoke/VarHandle" ∧ (parseMethodDescriptor yX0_inTwo.desc).map (fun d => d.parameters.length) = some 2 := by decide +kernel
abbrev rxX0_inTwo : Room := { frames := 24, cells := 0, slots := 0, locals := 1000 }
set_option maxHeartbeats 400000 in
set_option maxRecDepth 100000 in
theorem xX0_inTwo (l : Launch) (E : fx_En) (ax : Nat → Nat) (im : Int32) (bn : Int32) (bm : Int32) (fm : Int32) (ff : Int32) (fl : Int32) (tk : Int32) (cs : Int32) (gs : Int32) (zz : Int32) (tp : Int32) (wg : Int32) (er : Nat → Int32) (nmd : Nat → Int32) (pl : Nat → Int32) (sa : Nat → Int32) (tl : Nat → Nat) (pr : Nat → Int32) (bk : Nat → Int32) (ek : Nat → Int32) (al : Nat → Int32) (bt : Nat → Int32) (sz : Nat → Int32) (nu : Nat → Int32) (sh : Nat → Option Nat) (tx : Nat → Option Nat) (T : Tx) (PL : va_W) (sheet : Int32) (til : Int32) (hI : Inv sa) (hTL : TLS PL sa tl) (hT : TXs E PL (tx 0) T) (hTo : TOk T) (hpr : rl pr sa 8 8) (hIS : InvS bt sz) (hSH : SHS E PL bt sz nu sh) : fx_Mi l yX0_inTwo cX0_inTwo 4 .int rxX0_inTwo E [.ref (ax 19), .int sheet, .int til] [(ax 1, .inl (E.2 0, 3, .inl nmd)), (ax 0, .inl (E.2 0, 60, .inl pl)), (ax 13, .inl (E.2 1, 8, .inl al)), (ax 11, .inl (E.2 1, 8, .inl ek)), (ax 5, .inl (E.2 0, 7, .inl er)), (ax 9, .inl (E.2 1, 8, .inl bk))] ([(ax 19, .inr (0, [.ref (ax 0), .ref (ax 1), .ref (ax 35), .ref (ax 55), .ref (ax 4), .ref (ax 5), .ref (ax 6), .ref (ax 7), .int im, .ref (ax 9), .ref (ax 10), .ref (ax 11), .ref (ax 12), .ref (ax 13), .int bn, .int bm, .int fm, .int ff, .int fl])), (ax 35, .inr (1, [.ref (ax 20), .ref (ax 21), .ref (ax 22), .int tk, .int cs, .int gs, .int zz, .int tp, .int wg, .ref (ax 29), .ref (ax 30), .ref (ax 31), .ref (ax 32)])), (ax 29, .inl (E.2 3, 4, .inr (.inr (.inr (.inr (fun i_ => some (ax (36 + i_)))))))), (ax 36, .inr (2, [.ref (tl 0)])), (ax 37, .inr (2, [.ref (tl 1)])), (ax 38, .inr (2, [.ref (tl 2)])), (ax 39, .inr (2, [.ref (tl 3)])), (ax 7, .inr (5, [.ref (ax 19)])), (ax 30, .inl (E.2 4, 2, .inr (.inr (.inr (.inr tx))))), (ax 20, .inl (E.2 0, 8, .inl pr)), (ax 6, .inl (E.2 3, 4, .inr (.inr (.inr (.inr (fun i_ => some (ax (64 + i_)))))))), (ax 64, .inr (2, [va_rf (sh 0)])), (ax 65, .inr (2, [va_rf (sh 1)])), (ax 66, .inr (2, [va_rf (sh 2)])), (ax 67, .inr (2, [va_rf (sh 3)]))] ++ PL) (S := (Nat → Int32) × (Nat → Int32) × (Nat → Int32) × (Nat → Int32) × (Nat → Int32) × (Nat → Int32)) (fun (u : (Nat → Int32) × (Nat → Int32) × (Nat → Int32) × (Nat → Int32) × (Nat → Int32) × (Nat → Int32)) => [(ax 1, .inl (E.2 0, 3, .inl u.1)), (ax 0, .inl (E.2 0, 60, .inl u.2.1)), (ax 13, .inl (E.2 1, 8, .inl u.2.2.1)), (ax 11, .inl (E.2 1, 8, .inl u.2.2.2.1)), (ax 5, .inl (E.2 0, 7, .inl u.2.2.2.2.1)), (ax 9, .inl (E.2 1, 8, .inl u.2.2.2.2.2))]) (fun (r : Int32) (u : (Nat → Int32) × (Nat → Int32) × (Nat → Int32) × (Nat → Int32) × (Nat → Int32) × (Nat → Int32)) => (r, u.2.2.2.2.1) = inTwo_ sa er bt sz nu T sheet til) := by
  refine fx_iW rfl rfl ?_
  intro p e s m args below meth c A ls Q X hE hP hD hR hA hl hret
  have hx := X.1
  have hb := X.2.1
  have hS : va_S A s.heap s.heap [] := va_S.rf
  replace hP : va_P E.1 clA [(ax 1, .inl (E.2 0, 3, .inl nmd)), (ax 0, .inl (E.2 0, 60, .inl pl)), (ax 13, .inl (E.2 1, 8, .inl al)), (ax 11, .inl (E.2 1, 8, .inl ek)), (ax 5, .inl (E.2 0, 7, .inl er)), (ax 9, .inl (E.2 1, 8, .inl bk))] _ := hP
  replace hD : va_D A [(ax 1, .inl (E.2 0, 3, .inl nmd)), (ax 0, .inl (E.2 0, 60, .inl pl)), (ax 13, .inl (E.2 1, 8, .inl al)), (ax 11, .inl (E.2 1, 8, .inl ek)), (ax 5, .inl (E.2 0, 7, .inl er)), (ax 9, .inl (E.2 1, 8, .inl bk))] := hD
  replace hl : lv_has ls 4 [(0, .ref (ax 19)), (1, .int sheet), (2, .int til)] := hl
  refine lv_iload_n hx hb dX0_inTwo_0 rfl (lv_at hl 1 rfl) ?_
  refine fx_ci (va_runS (As := [.int sheet]) (rest := []) X (xX0_isSheet l E sheet _) (va_cwS 1 X.2.2.2.2 (lw_S q806 q807 q69 q808) rfl rfl rfl hdX0_isSheet ⟨Nat.le_of_ble_eq_true rfl, Nat.le_of_ble_eq_true rfl⟩) (fx_pre hE hP hD hS hR [] rfl rfl fx_rc0) rfl rfl hl.1 rfl (lv_room (Nat.le_of_ble_eq_true rfl)) dX0_inTwo_1 ⟨Nat.le_refl _, Nat.le_refl _⟩) hP hD hS hA [] rfl rfl (fun r_1 u H locs hq_1 hP hD hS => ?_)
  replace hP : va_P E.1 clA [(ax 1, .inl (E.2 0, 3, .inl nmd)), (ax 0, .inl (E.2 0, 60, .inl pl)), (ax 13, .inl (E.2 1, 8, .inl al)), (ax 11, .inl (E.2 1, 8, .inl ek)), (ax 5, .inl (E.2 0, 7, .inl er)), (ax 9, .inl (E.2 1, 8, .inl bk))] _ := hP
  replace hD : va_D A [(ax 1, .inl (E.2 0, 3, .inl nmd)), (ax 0, .inl (E.2 0, 60, .inl pl)), (ax 13, .inl (E.2 1, 8, .inl al)), (ax 11, .inl (E.2 1, 8, .inl ek)), (ax 5, .inl (E.2 0, 7, .inl er)), (ax 9, .inl (E.2 1, 8, .inl bk))] := hD
  replace hq_1 : r_1 = fx_b (inB sheet 0 3 = true) := hq_1
  rcases fx_bc hq_1 with ⟨hb_1, hr_1⟩ | ⟨hb_1, hr_1⟩
  · -- True
    subst hr_1
    refine lv_if_eq (tgt := 14) hx hb dX0_inTwo_4 (by decide) (fun c => absurd c (by decide)) (fun _ => ?_)
    refine lv_iload_n hx hb dX0_inTwo_7 rfl (lv_at hl 2 rfl) ?_
    refine fx_ci (va_runS (As := [.int til]) (rest := []) X (xX0_isTill l E til _) (va_cwS 1 X.2.2.2.2 (lw_S q336 q337 q69 q338) rfl rfl rfl hdX0_isTill ⟨Nat.le_of_ble_eq_true rfl, Nat.le_of_ble_eq_true rfl⟩) (fx_pre hE hP hD hS hR [] rfl rfl fx_rc0) rfl rfl hl.1 rfl (lv_room (Nat.le_of_ble_eq_true rfl)) dX0_inTwo_8 ⟨Nat.le_refl _, Nat.le_refl _⟩) hP hD hS hA [] rfl rfl (fun r_8 u H locs hq_8 hP hD hS => ?_)
    replace hP : va_P E.1 clA [(ax 1, .inl (E.2 0, 3, .inl nmd)), (ax 0, .inl (E.2 0, 60, .inl pl)), (ax 13, .inl (E.2 1, 8, .inl al)), (ax 11, .inl (E.2 1, 8, .inl ek)), (ax 5, .inl (E.2 0, 7, .inl er)), (ax 9, .inl (E.2 1, 8, .inl bk))] _ := hP
    replace hD : va_D A [(ax 1, .inl (E.2 0, 3, .inl nmd)), (ax 0, .inl (E.2 0, 60, .inl pl)), (ax 13, .inl (E.2 1, 8, .inl al)), (ax 11, .inl (E.2 1, 8, .inl ek)), (ax 5, .inl (E.2 0, 7, .inl er)), (ax 9, .inl (E.2 1, 8, .inl bk))] := hD
    replace hq_8 : r_8 = fx_b (inB til 0 3 = true) := hq_8
    rcases fx_bc hq_8 with ⟨hb_8, hr_8⟩ | ⟨hb_8, hr_8⟩
    · -- True
      subst hr_8
      have gsh := inB_nn (n := 3) hb_1 (by omega)
      have gs1 : nn sheet < 4 := by omega
      have gn := inB_nn (n := 3) hb_8 (by omega)
      have g1 : nn til < 4 := by omega
      have hbc : lackF bt sz nu sheet til true 12 = tellC bt sz nu (nn sheet) 12 := lack_ok hb_1 hb_8
      refine lv_if_ne (tgt := 20) hx hb dX0_inTwo_11 (by decide) (fun _ => ?_) (fun c => absurd c (by decide))
      refine lv_aload_n hx hb dX0_inTwo_20 rfl (lv_at hl 0 rfl) ?_
      refine lv_iload_n hx hb dX0_inTwo_21 rfl (lv_at hl 1 rfl) ?_
      refine fx_ti (show sheet = nI (nn sheet) from gsh.1) ?_
      refine lv_aload_n hx hb dX0_inTwo_22 rfl (lv_at hl 0 rfl) ?_
      refine fx_get X hE (hR.at hS) 0 rfl rfl 9 rfl q244 rfl rfl dX0_inTwo_23 ?_
      refine lv_bipush (v := 12) hx hb dX0_inTwo_26 rfl ?_
      refine fx_ci (va_runV (As := [.int (nI (nn sheet)), .ref (ax 9), .int 12]) (rest := []) X (xX0_faultOf l E ax im bn bm fm ff fl bt sz nu sh (ax 9) bk (nn sheet) 12 PL gs1 (by first | assumption | omega) (by first | assumption | omega) (by decide) _) (cwV 3 X.2.2.2.2 (lw_V q809 q811 qs17 q69 q812) rfl rfl rfl ⟨rfl, hdX0_faultOf⟩ ⟨Nat.le_of_ble_eq_true rfl, Nat.le_of_ble_eq_true rfl⟩) (fx_preV (fx_pre hE hP hD hS hR [5] rfl rfl (fx_rcr 0 rfl (fx_rcr 10 rfl (fx_rcr 11 rfl (fx_rcr 12 rfl (fx_rcr 13 rfl (fx_rcr 14 rfl (fx_rct (fun q hq => List.mem_append_right _ hq))))))))) (va_recv hE.1 (hR.at hS) (ci := 0) (q0 := 0) rfl rfl)) rfl rfl hl.1 rfl (lv_room (Nat.le_of_ble_eq_true rfl)) dX0_inTwo_28 ⟨Nat.le_refl _, Nat.le_refl _⟩) hP hD hS hA [5] rfl rfl (fun r_28 u H locs hq_28 hP hD hS => ?_)
      obtain ⟨row2_28, rfl⟩ : ∃ z, z = u := ⟨_, rfl⟩
      replace hP : va_P E.1 clA [(ax 1, .inl (E.2 0, 3, .inl nmd)), (ax 0, .inl (E.2 0, 60, .inl pl)), (ax 13, .inl (E.2 1, 8, .inl al)), (ax 11, .inl (E.2 1, 8, .inl ek)), (ax 5, .inl (E.2 0, 7, .inl er)), (ax 9, .inl (E.2 1, 8, .inl row2_28))] _ := hP
      replace hD : va_D A [(ax 1, .inl (E.2 0, 3, .inl nmd)), (ax 0, .inl (E.2 0, 60, .inl pl)), (ax 13, .inl (E.2 1, 8, .inl al)), (ax 11, .inl (E.2 1, 8, .inl ek)), (ax 5, .inl (E.2 0, 7, .inl er)), (ax 9, .inl (E.2 1, 8, .inl row2_28))] := hD
      replace hq_28 : r_28 = nI (tellC bt sz nu (nn sheet) 12) ∧ (tellC bt sz nu (nn sheet) 12 = 0 → ∀ t, t < 8 → row2_28 t = shG sz nu (nn sheet) t) := hq_28
      refine fx_ti (show r_28 = nI (tellC bt sz nu (nn sheet) 12) from hq_28.1) ?_
      have hcl : tellC bt sz nu (nn sheet) 12 ≤ 4 := tellC_le
      refine lv_istore_n (lv' := [(3, .int (nI (tellC bt sz nu (nn sheet) 12))), (0, .ref (ax 19)), (1, .int sheet), (2, .int til)]) hx hb dX0_inTwo_31 rfl hl (by decide) rfl (fun ls hl => ?_)
      refine lv_iload_n hx hb dX0_inTwo_32 rfl (lv_at hl 0 rfl) ?_
      refine lv_if_le (tgt := 44) hx hb dX0_inTwo_33 (by decide) (fun c_33 => ?_) (fun c_33 => ?_)
      · -- jump 44
        have n_33 := fx_le1 (a := (tellC bt sz nu (nn sheet) 12)) (b := 0) c_33 (by omega) (by omega)
        have h0 : tellC bt sz nu (nn sheet) 12 = 0 := by omega
        obtain ⟨hrow, hr9, hm30⟩ := tell_row h0 (hq_28.2 h0)
        refine lv_aload_n hx hb dX0_inTwo_44 rfl (lv_at hl 1 rfl) ?_
        refine lv_iconst (v := 0) hx hb dX0_inTwo_45 rfl ?_
        refine lv_iload_n hx hb dX0_inTwo_46 rfl (lv_at hl 3 rfl) ?_
        refine fx_ti (show til = nI (nn til) from gn.1) ?_
        refine lv_iconst (v := (-1)) hx hb dX0_inTwo_47 rfl ?_
        refine fx_ci (va_runV (As := [.int 0, .int (nI (nn til)), .int (-1)]) (rest := []) X (xX0_leastInTwo l E 8 ax im bn bm fm ff fl tk cs gs zz tp wg nmd pl sa tl pr row2_28 ek al (rnG sz nu (nn sheet)) (fun _ => 0) tx T PL (nn til) 0 0 (-1) (Nat.le_refl 8) g1 (by first | assumption | omega) (by first | assumption | omega) (by first | assumption | omega) (by first | assumption | omega) (by first | assumption | omega) (fun i hi => ⟨(hrow i hi).1, hr9 i hi⟩) (fun i hi => absurd hi (by omega)) (Or.inl rfl) _) (cwV 3 X.2.2.2.2 (lw_V q894 q896 qs27 q69 q897) rfl rfl rfl ⟨rfl, hdX0_leastInTwo⟩ ⟨Nat.le_of_ble_eq_true rfl, Nat.le_of_ble_eq_true rfl⟩) (fx_preV (fx_pre hE hP hD hS hR [0, 1, 2, 3] rfl rfl (fx_rcr 0 rfl (fx_rcr 1 rfl (fx_rcr 2 rfl (fx_rcr 3 rfl (fx_rcr 4 rfl (fx_rcr 5 rfl (fx_rcr 6 rfl (fx_rcr 7 rfl (fx_rcr 8 rfl (fx_rcr 9 rfl (fx_rcm 5 rfl (by decide) (fx_rct (fun q hq => List.mem_append_right _ hq)))))))))))))) (va_recv hE.1 (hR.at hS) (ci := 0) (q0 := 0) rfl rfl)) rfl rfl hl.1 rfl (lv_room (Nat.le_of_ble_eq_true rfl)) dX0_inTwo_48 ⟨Nat.le_refl _, Nat.le_refl _⟩) hP hD hS hA [0, 1, 2, 3] rfl rfl (fun r_48 u H locs hq_48 hP hD hS => ?_)
        obtain ⟨nm2_48, pl2_48, al2_48, ek2_48⟩ := u
        replace hP : va_P E.1 clA [(ax 1, .inl (E.2 0, 3, .inl nm2_48)), (ax 0, .inl (E.2 0, 60, .inl pl2_48)), (ax 13, .inl (E.2 1, 8, .inl al2_48)), (ax 11, .inl (E.2 1, 8, .inl ek2_48)), (ax 5, .inl (E.2 0, 7, .inl er)), (ax 9, .inl (E.2 1, 8, .inl row2_28))] _ := hP
        replace hD : va_D A [(ax 1, .inl (E.2 0, 3, .inl nm2_48)), (ax 0, .inl (E.2 0, 60, .inl pl2_48)), (ax 13, .inl (E.2 1, 8, .inl al2_48)), (ax 11, .inl (E.2 1, 8, .inl ek2_48)), (ax 5, .inl (E.2 0, 7, .inl er)), (ax 9, .inl (E.2 1, 8, .inl row2_28))] := hD
        replace hq_48 : r_48 = (enL (fun t _ => (rnG sz nu (nn sheet)) t) (lfP (partF sa T (nn til) (rnG sz nu (nn sheet)))) 8 (fun _ => 0) 0 0 (-1)) ∧ 0 ≤ r_48 ∧ (∀ i, i < 8 - 8 → ek2_48 i = ek i) := hq_48
        exact hret r_48 (nm2_48, pl2_48, al2_48, ek2_48, er, row2_28) (by rw [hq_48.1]; simp only [inTwo_, hbc, h0, eR_0, eE_0]; rw [twoF]) (rfl) hP hD hS (Nat.le_refl _) (Nat.le_refl _) dX0_inTwo_51
      · -- fall 36
        have n_33 := fx_le0 (a := (tellC bt sz nu (nn sheet) 12)) (b := 0) c_33 (by omega) (by omega)
        refine lv_aload_n hx hb dX0_inTwo_36 rfl (lv_at hl 1 rfl) ?_
        refine lv_iload_n hx hb dX0_inTwo_37 rfl (lv_at hl 0 rfl) ?_
        refine fx_ci (va_runV (As := [.int (nI (tellC bt sz nu (nn sheet) 12))]) (rest := []) X (xX0_finds l E ax im bn bm fm ff fl er (tellC bt sz nu (nn sheet) 12) (by omega) _) (cwV 1 X.2.2.2.2 (lw_V q303 q305 qs0 q69 q306) rfl rfl rfl ⟨rfl, hdX0_finds⟩ ⟨Nat.le_of_ble_eq_true rfl, Nat.le_of_ble_eq_true rfl⟩) (fx_preV (fx_pre hE hP hD hS hR [4] rfl rfl (fx_rcr 0 rfl fx_rc0)) (va_recv hE.1 (hR.at hS) (ci := 0) (q0 := 0) rfl rfl)) rfl rfl hl.1 rfl (lv_room (Nat.le_of_ble_eq_true rfl)) dX0_inTwo_38 ⟨Nat.le_refl _, Nat.le_refl _⟩) hP hD hS hA [4] rfl rfl (fun r_38 u H locs hq_38 hP hD hS => ?_)
        replace hP : va_P E.1 clA [(ax 1, .inl (E.2 0, 3, .inl nmd)), (ax 0, .inl (E.2 0, 60, .inl pl)), (ax 13, .inl (E.2 1, 8, .inl al)), (ax 11, .inl (E.2 1, 8, .inl ek)), (ax 5, .inl (E.2 0, 7, .inl (upd er (tellC bt sz nu (nn sheet) 12) (er (tellC bt sz nu (nn sheet) 12) + 1)))), (ax 9, .inl (E.2 1, 8, .inl row2_28))] _ := hP
        replace hD : va_D A [(ax 1, .inl (E.2 0, 3, .inl nmd)), (ax 0, .inl (E.2 0, 60, .inl pl)), (ax 13, .inl (E.2 1, 8, .inl al)), (ax 11, .inl (E.2 1, 8, .inl ek)), (ax 5, .inl (E.2 0, 7, .inl (upd er (tellC bt sz nu (nn sheet) 12) (er (tellC bt sz nu (nn sheet) 12) + 1)))), (ax 9, .inl (E.2 1, 8, .inl row2_28))] := hD
        replace hq_38 : r_38 = erv (tellC bt sz nu (nn sheet) 12) := hq_38
        refine lv_goto (tgt := 51) hx hb dX0_inTwo_41 (by decide) ?_
        exact hret r_38 (nmd, pl, al, ek, (upd er (tellC bt sz nu (nn sheet) 12) (er (tellC bt sz nu (nn sheet) 12) + 1)), row2_28) (by rw [hq_38]; simp only [inTwo_, hbc, eR_p n_33, eE_p n_33, erI]) (rfl) hP hD hS (Nat.le_refl _) (Nat.le_refl _) dX0_inTwo_51
    · -- False
      subst hr_8
      have hbc : lackF bt sz nu sheet til true 12 = 1 := lack_no (Or.inr (Or.inl hb_8))
      refine lv_if_ne (tgt := 20) hx hb dX0_inTwo_11 (by decide) (fun c => (c (by decide)).elim) (fun _ => ?_)
      refine lv_aload_n hx hb dX0_inTwo_14 rfl (lv_at hl 0 rfl) ?_
      refine lv_iconst (v := 1) hx hb dX0_inTwo_15 rfl ?_
      refine fx_ci (va_runV (As := [.int 1]) (rest := []) X (xX0_finds l E ax im bn bm fm ff fl er 1 (by decide) _) (cwV 1 X.2.2.2.2 (lw_V q303 q305 qs0 q69 q306) rfl rfl rfl ⟨rfl, hdX0_finds⟩ ⟨Nat.le_of_ble_eq_true rfl, Nat.le_of_ble_eq_true rfl⟩) (fx_preV (fx_pre hE hP hD hS hR [4] rfl rfl (fx_rcr 0 rfl fx_rc0)) (va_recv hE.1 (hR.at hS) (ci := 0) (q0 := 0) rfl rfl)) rfl rfl hl.1 rfl (lv_room (Nat.le_of_ble_eq_true rfl)) dX0_inTwo_16 ⟨Nat.le_refl _, Nat.le_refl _⟩) hP hD hS hA [4] rfl rfl (fun r_16 u H locs hq_16 hP hD hS => ?_)
      replace hP : va_P E.1 clA [(ax 1, .inl (E.2 0, 3, .inl nmd)), (ax 0, .inl (E.2 0, 60, .inl pl)), (ax 13, .inl (E.2 1, 8, .inl al)), (ax 11, .inl (E.2 1, 8, .inl ek)), (ax 5, .inl (E.2 0, 7, .inl (upd er 1 (er 1 + 1)))), (ax 9, .inl (E.2 1, 8, .inl bk))] _ := hP
      replace hD : va_D A [(ax 1, .inl (E.2 0, 3, .inl nmd)), (ax 0, .inl (E.2 0, 60, .inl pl)), (ax 13, .inl (E.2 1, 8, .inl al)), (ax 11, .inl (E.2 1, 8, .inl ek)), (ax 5, .inl (E.2 0, 7, .inl (upd er 1 (er 1 + 1)))), (ax 9, .inl (E.2 1, 8, .inl bk))] := hD
      replace hq_16 : r_16 = erv 1 := hq_16
      exact hret r_16 (nmd, pl, al, ek, (upd er 1 (er 1 + 1)), bk) (by rw [hq_16]; simp only [inTwo_, hbc]; rfl) (rfl) hP hD hS (Nat.le_refl _) (Nat.le_refl _) dX0_inTwo_19
  · -- False
    subst hr_1
    have hbc : lackF bt sz nu sheet til true 12 = 1 := lack_no (Or.inl hb_1)
    refine lv_if_eq (tgt := 14) hx hb dX0_inTwo_4 (by decide) (fun _ => ?_) (fun c => (c (by decide)).elim)
    refine lv_aload_n hx hb dX0_inTwo_14 rfl (lv_at hl 0 rfl) ?_
    refine lv_iconst (v := 1) hx hb dX0_inTwo_15 rfl ?_
    refine fx_ci (va_runV (As := [.int 1]) (rest := []) X (xX0_finds l E ax im bn bm fm ff fl er 1 (by decide) _) (cwV 1 X.2.2.2.2 (lw_V q303 q305 qs0 q69 q306) rfl rfl rfl ⟨rfl, hdX0_finds⟩ ⟨Nat.le_of_ble_eq_true rfl, Nat.le_of_ble_eq_true rfl⟩) (fx_preV (fx_pre hE hP hD hS hR [4] rfl rfl (fx_rcr 0 rfl fx_rc0)) (va_recv hE.1 (hR.at hS) (ci := 0) (q0 := 0) rfl rfl)) rfl rfl hl.1 rfl (lv_room (Nat.le_of_ble_eq_true rfl)) dX0_inTwo_16 ⟨Nat.le_refl _, Nat.le_refl _⟩) hP hD hS hA [4] rfl rfl (fun r_16 u H locs hq_16 hP hD hS => ?_)
    replace hP : va_P E.1 clA [(ax 1, .inl (E.2 0, 3, .inl nmd)), (ax 0, .inl (E.2 0, 60, .inl pl)), (ax 13, .inl (E.2 1, 8, .inl al)), (ax 11, .inl (E.2 1, 8, .inl ek)), (ax 5, .inl (E.2 0, 7, .inl (upd er 1 (er 1 + 1)))), (ax 9, .inl (E.2 1, 8, .inl bk))] _ := hP
    replace hD : va_D A [(ax 1, .inl (E.2 0, 3, .inl nmd)), (ax 0, .inl (E.2 0, 60, .inl pl)), (ax 13, .inl (E.2 1, 8, .inl al)), (ax 11, .inl (E.2 1, 8, .inl ek)), (ax 5, .inl (E.2 0, 7, .inl (upd er 1 (er 1 + 1)))), (ax 9, .inl (E.2 1, 8, .inl bk))] := hD
    replace hq_16 : r_16 = erv 1 := hq_16
    exact hret r_16 (nmd, pl, al, ek, (upd er 1 (er 1 + 1)), bk) (by rw [hq_16]; simp only [inTwo_, hbc]; rfl) (rfl) hP hD hS (Nat.le_refl _) (Nat.le_refl _) dX0_inTwo_19
