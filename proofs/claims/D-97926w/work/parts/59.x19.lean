set_option maxRecDepth 100000
theorem hdX0_common : yX0_common.cls ≠ "java/lang/invoke/MethodHandle" ∧ yX0_common.cls ≠ "java/lang/invoke/VarHandle" ∧ (parseMethodDescriptor yX0_common.desc).map (fun d => d.parameters.length) = some 2 := by decide +kernel
theorem hdX0_erring : yX0_erring.cls ≠ "java/lang/invoke/MethodHandle" ∧ yX0_erring.cls ≠ "java/lang/invoke/VarHandle" ∧ (parseMethodDescriptor yX0_erring.desc).map (fun d => d.parameters.length) = some 4 := by decide +kernel
abbrev rxX0_common : Room := { frames := 0, cells := 0, slots := 0, locals := 0 }
set_option maxHeartbeats 400000 in
set_option maxRecDepth 100000 in
theorem xX0_common (l : Launch) (E : fx_En) (a : Nat) (b : Nat) (ha : a < 2147483648) (hbb : b < 2147483648) : fx_Ml l yX0_common cX0_common 10 rxX0_common E [.long (lN a), .long (lN b)] [] [] (S := Unit) (fun (u : Unit) => []) (fun (r : Int64) (u : Unit) => r = lN (Nat.gcd a b)) := by
  refine fx_lW rfl rfl ?_
  intro p e s m args below meth c A ls Q X hE hP hD hR hA hl hret
  have hx := X.1
  have hb := X.2.1
  have hS : va_S A s.heap s.heap [] := va_S.rf
  replace hl : lv_has ls 10 [(0, .long (lN a)), (2, .long (lN b))] := hl
  refine lv_lload_n hx hb dX0_common_0 rfl (lv_at hl 0 rfl) ?_
  refine lv_lstore (lv' := [(4, .long (lN a)), (0, .long (lN a)), (2, .long (lN b))]) hx hb dX0_common_1 hl (by decide) rfl (fun ls hl => ?_)
  refine lv_lload_n hx hb dX0_common_3 rfl (lv_at hl 2 rfl) ?_
  refine lv_lstore (lv' := [(6, .long (lN b)), (4, .long (lN a)), (0, .long (lN a)), (2, .long (lN b))]) hx hb dX0_common_4 hl (by decide) rfl (fun ls hl => ?_)
  have loop_6 : ∀ (n_6 : Nat) (x : Nat) (y : Nat), (y < n_6) → (Nat.gcd x y = Nat.gcd a b) → (x < 2147483648) → (y < 2147483648) → ∀ (H : Heap) (locs : List Loc), va_P E.1 clA [] H → va_D A [] → va_S A s.heap H locs → ∀ (ls : Array Slot), lv_has ls 10 [(6, .long (lN y)), (4, .long (lN x)), (0, .long (lN a)), (2, .long (lN b))] → W p l e rxX0_common s m args below meth c H locs 0 0 Q (F0 m 6 ls []) := by
    intro n_6
    induction n_6 with
    | zero => intro x y hm_6; exact absurd hm_6 (Nat.not_lt_zero _)
    | succ n_6 ih_6 =>
      intro x y hm_6 hg hx2 hy2 H locs hP hD hS ls hl
      refine lv_lload hx hb dX0_common_6 (lv_at hl 0 rfl) ?_
      refine lv_lconst (v := 0) hx hb dX0_common_8 rfl ?_
      refine W.lcmp hx hb dX0_common_9 ?_
      refine lv_if_eq (tgt := 31) hx hb dX0_common_10 (by decide) (fun c_10 => ?_) (fun c_10 => ?_)
      · -- jump 31
        have hy0 : y = 0 := lcmp_1 hy2 c_10
        refine lv_lload hx hb dX0_common_31 (lv_at hl 1 rfl) ?_
        exact hret (lN x) () (congrArg lN (by rw [← hg, hy0, Nat.gcd_zero_right])) hP hD hS (Nat.le_refl _) (Nat.le_refl _) dX0_common_33
      · -- fall 13
        have hy0 : ¬ y = 0 := lcmp_0 c_10
        refine lv_lload hx hb dX0_common_13 (lv_at hl 1 rfl) ?_
        refine lv_lload hx hb dX0_common_15 (lv_at hl 0 rfl) ?_
        refine lv_lrem hx hb dX0_common_17 (lN_ne0 hy2 (by omega)) ?_
        refine fx_tl (show ((lN x) - (lN x) / (lN y) * (lN y)) = (lN (x % y)) from lN_rems hx2 hy2 (by omega)) ?_
        refine lv_lstore (lv' := [(8, .long (lN (x % y))), (6, .long (lN y)), (4, .long (lN x)), (0, .long (lN a)), (2, .long (lN b))]) hx hb dX0_common_18 hl (by decide) rfl (fun ls hl => ?_)
        refine lv_lload hx hb dX0_common_20 (lv_at hl 1 rfl) ?_
        refine lv_lstore (lv' := [(4, .long (lN y)), (8, .long (lN (x % y))), (6, .long (lN y)), (0, .long (lN a)), (2, .long (lN b))]) hx hb dX0_common_22 hl (by decide) rfl (fun ls hl => ?_)
        refine lv_lload hx hb dX0_common_24 (lv_at hl 1 rfl) ?_
        refine lv_lstore (lv' := [(6, .long (lN (x % y))), (4, .long (lN y)), (8, .long (lN (x % y))), (0, .long (lN a)), (2, .long (lN b))]) hx hb dX0_common_26 hl (by decide) rfl (fun ls hl => ?_)
        refine lv_goto (tgt := 6) hx hb dX0_common_28 (by decide) ?_
        exact ih_6 y (x % y) (by have := Nat.mod_lt x (show 0 < y by omega); omega) (gcd_s.trans hg) (by omega) (Nat.lt_trans (Nat.mod_lt _ (by omega)) hy2) _ _ hP hD hS ls (lv_sub hl [0, 1, 3, 4] rfl)
  exact loop_6 (b + 1) a b (Nat.lt_succ_self _) rfl (by omega) (by omega) _ _ hP hD hS ls (lv_sub hl [0, 1, 2, 3] rfl)
abbrev rxX0_erring : Room := { frames := 5, cells := 0, slots := 0, locals := 117 }
set_option maxHeartbeats 400000 in
set_option maxRecDepth 100000 in
theorem xX0_erring (l : Launch) (E : fx_En) (ax : Nat → Nat) (im : Int32) (bn : Int32) (bm : Int32) (fm : Int32) (ff : Int32) (fl : Int32) (tk : Int32) (cs : Int32) (gs : Int32) (zz : Int32) (tp : Int32) (wg : Int32) (er : Nat → Int32) (nmd : Nat → Int32) (pl : Nat → Int32) (sa : Nat → Int32) (tl : Nat → Nat) (pr : Nat → Int32) (bk : Nat → Int32) (bt : Nat → Int32) (sz : Nat → Int32) (nu : Nat → Int32) (sh : Nat → Option Nat) (tx : Nat → Option Nat) (T : Tx) (PL : va_W) (sheet : Int32) (til : Int32) (od : Int32) (pa : Int32) (hI : Inv sa) (hTL : TLS PL sa tl) (hT : TXs E PL (tx 0) T) (hTo : TOk T) (hpr : rl pr sa 8 8) (hIS : InvS bt sz) (hSH : SHS E PL bt sz nu sh) : fx_Ml l yX0_erring cX0_erring 13 rxX0_erring E [.ref (ax 19), .int sheet, .int til, .int od, .int pa] [(ax 5, .inl (E.2 0, 7, .inl er)), (ax 9, .inl (E.2 1, 8, .inl bk)), (ax 1, .inl (E.2 0, 3, .inl nmd)), (ax 0, .inl (E.2 0, 60, .inl pl))] ([(ax 19, .inr (0, [.ref (ax 0), .ref (ax 1), .ref (ax 35), .ref (ax 55), .ref (ax 4), .ref (ax 5), .ref (ax 6), .ref (ax 7), .int im, .ref (ax 9), .ref (ax 10), .ref (ax 11), .ref (ax 12), .ref (ax 13), .int bn, .int bm, .int fm, .int ff, .int fl])), (ax 35, .inr (1, [.ref (ax 20), .ref (ax 21), .ref (ax 22), .int tk, .int cs, .int gs, .int zz, .int tp, .int wg, .ref (ax 29), .ref (ax 30), .ref (ax 31), .ref (ax 32)])), (ax 29, .inl (E.2 3, 4, .inr (.inr (.inr (.inr (fun i_ => some (ax (36 + i_)))))))), (ax 36, .inr (2, [.ref (tl 0)])), (ax 37, .inr (2, [.ref (tl 1)])), (ax 38, .inr (2, [.ref (tl 2)])), (ax 39, .inr (2, [.ref (tl 3)])), (ax 7, .inr (5, [.ref (ax 19)])), (ax 30, .inl (E.2 4, 2, .inr (.inr (.inr (.inr tx))))), (ax 20, .inl (E.2 0, 8, .inl pr)), (ax 6, .inl (E.2 3, 4, .inr (.inr (.inr (.inr (fun i_ => some (ax (64 + i_)))))))), (ax 64, .inr (2, [va_rf (sh 0)])), (ax 65, .inr (2, [va_rf (sh 1)])), (ax 66, .inr (2, [va_rf (sh 2)])), (ax 67, .inr (2, [va_rf (sh 3)]))] ++ PL) (S := (Nat → Int32) × (Nat → Int32) × (Nat → Int32) × (Nat → Int32)) (fun (u : (Nat → Int32) × (Nat → Int32) × (Nat → Int32) × (Nat → Int32)) => [(ax 5, .inl (E.2 0, 7, .inl u.1)), (ax 9, .inl (E.2 1, 8, .inl u.2.1)), (ax 1, .inl (E.2 0, 3, .inl u.2.2.1)), (ax 0, .inl (E.2 0, 60, .inl u.2.2.2))]) (fun (r : Int64) (u : (Nat → Int32) × (Nat → Int32) × (Nat → Int32) × (Nat → Int32)) => (r, u.1) = erring_ sa er bt sz nu T sheet til od pa) := by
  refine fx_lW rfl rfl ?_
  intro p e s m args below meth c A ls Q X hE hP hD hR hA hl hret
  have hx := X.1
  have hb := X.2.1
  have hS : va_S A s.heap s.heap [] := va_S.rf
  replace hP : va_P E.1 clA [(ax 5, .inl (E.2 0, 7, .inl er)), (ax 9, .inl (E.2 1, 8, .inl bk)), (ax 1, .inl (E.2 0, 3, .inl nmd)), (ax 0, .inl (E.2 0, 60, .inl pl))] _ := hP
  replace hD : va_D A [(ax 5, .inl (E.2 0, 7, .inl er)), (ax 9, .inl (E.2 1, 8, .inl bk)), (ax 1, .inl (E.2 0, 3, .inl nmd)), (ax 0, .inl (E.2 0, 60, .inl pl))] := hD
  replace hl : lv_has ls 13 [(0, .ref (ax 19)), (1, .int sheet), (2, .int til), (3, .int od), (4, .int pa)] := hl
  refine lv_iload_n hx hb dX0_erring_0 rfl (lv_at hl 3 rfl) ?_
  refine lv_bipush (v := 17) hx hb dX0_erring_1 rfl ?_
  refine lv_idiv hx hb dX0_erring_3 (by decide) ?_
  refine lv_istore (lv' := [(5, .int (od / 17)), (0, .ref (ax 19)), (1, .int sheet), (2, .int til), (3, .int od), (4, .int pa)]) hx hb dX0_erring_4 hl (by decide) rfl (fun ls hl => ?_)
  refine lv_iload_n hx hb dX0_erring_6 rfl (lv_at hl 4 rfl) ?_
  refine lv_bipush (v := 17) hx hb dX0_erring_7 rfl ?_
  refine lv_irem hx hb dX0_erring_9 (by decide) ?_
  refine lv_istore (lv' := [(6, .int (od - od / 17 * 17)), (5, .int (od / 17)), (0, .ref (ax 19)), (1, .int sheet), (2, .int til), (3, .int od), (4, .int pa)]) hx hb dX0_erring_10 hl (by decide) rfl (fun ls hl => ?_)
  refine lv_iload_n hx hb dX0_erring_12 rfl (lv_at hl 3 rfl) ?_
  refine fx_ci (va_runS (As := [.int sheet]) (rest := []) X (xX0_isSheet l E sheet _) (va_cwS 1 X.2.2.2.2 (lw_S q806 q807 q69 q808) rfl rfl rfl hdX0_isSheet ⟨Nat.le_of_ble_eq_true rfl, Nat.le_of_ble_eq_true rfl⟩) (fx_pre hE hP hD hS hR [] rfl rfl fx_rc0) rfl rfl hl.1 rfl (lv_room (Nat.le_of_ble_eq_true rfl)) dX0_erring_13 ⟨Nat.le_refl _, Nat.le_refl _⟩) hP hD hS hA [] rfl rfl (fun r_13 u H locs hq_13 hP hD hS => ?_)
  replace hP : va_P E.1 clA [(ax 5, .inl (E.2 0, 7, .inl er)), (ax 9, .inl (E.2 1, 8, .inl bk)), (ax 1, .inl (E.2 0, 3, .inl nmd)), (ax 0, .inl (E.2 0, 60, .inl pl))] _ := hP
  replace hD : va_D A [(ax 5, .inl (E.2 0, 7, .inl er)), (ax 9, .inl (E.2 1, 8, .inl bk)), (ax 1, .inl (E.2 0, 3, .inl nmd)), (ax 0, .inl (E.2 0, 60, .inl pl))] := hD
  replace hq_13 : r_13 = fx_b (inB sheet 0 3 = true) := hq_13
  rcases fx_bc hq_13 with ⟨hb_13, hr_13⟩ | ⟨hb_13, hr_13⟩
  · -- True
    subst hr_13
    refine lv_if_eq (tgt := 50) hx hb dX0_erring_16 (by decide) (fun c => absurd c (by decide)) (fun _ => ?_)
    refine lv_iload_n hx hb dX0_erring_19 rfl (lv_at hl 4 rfl) ?_
    refine fx_ci (va_runS (As := [.int til]) (rest := []) X (xX0_isTill l E til _) (va_cwS 1 X.2.2.2.2 (lw_S q336 q337 q69 q338) rfl rfl rfl hdX0_isTill ⟨Nat.le_of_ble_eq_true rfl, Nat.le_of_ble_eq_true rfl⟩) (fx_pre hE hP hD hS hR [] rfl rfl fx_rc0) rfl rfl hl.1 rfl (lv_room (Nat.le_of_ble_eq_true rfl)) dX0_erring_20 ⟨Nat.le_refl _, Nat.le_refl _⟩) hP hD hS hA [] rfl rfl (fun r_20 u H locs hq_20 hP hD hS => ?_)
    replace hP : va_P E.1 clA [(ax 5, .inl (E.2 0, 7, .inl er)), (ax 9, .inl (E.2 1, 8, .inl bk)), (ax 1, .inl (E.2 0, 3, .inl nmd)), (ax 0, .inl (E.2 0, 60, .inl pl))] _ := hP
    replace hD : va_D A [(ax 5, .inl (E.2 0, 7, .inl er)), (ax 9, .inl (E.2 1, 8, .inl bk)), (ax 1, .inl (E.2 0, 3, .inl nmd)), (ax 0, .inl (E.2 0, 60, .inl pl))] := hD
    replace hq_20 : r_20 = fx_b (inB til 0 3 = true) := hq_20
    rcases fx_bc hq_20 with ⟨hb_20, hr_20⟩ | ⟨hb_20, hr_20⟩
    · -- True
      subst hr_20
      refine lv_if_eq (tgt := 50) hx hb dX0_erring_23 (by decide) (fun c => absurd c (by decide)) (fun _ => ?_)
      refine lv_iload_n hx hb dX0_erring_26 rfl (lv_at hl 5 rfl) ?_
      refine lv_if_lt (tgt := 50) hx hb dX0_erring_27 (by decide) (fun c_27 => ?_) (fun c_27 => ?_)
      · -- jump 50
        have hbc : errC bt sz nu sheet til od pa = 1 := (by rw [errC]; exact lack_no (Or.inr (Or.inr (by rw [ogF, decide_eq_false (Int32.not_le.2 c_27), Bool.false_and, Bool.false_and]; exact Bool.false_ne_true))))
        refine lv_aload_n hx hb dX0_erring_50 rfl (lv_at hl 2 rfl) ?_
        refine lv_iconst (v := 1) hx hb dX0_erring_51 rfl ?_
        refine fx_ci (va_runV (As := [.int 1]) (rest := []) X (xX0_finds l E ax im bn bm fm ff fl er 1 (by decide) _) (cwV 1 X.2.2.2.2 (lw_V q303 q305 qs0 q69 q306) rfl rfl rfl ⟨rfl, hdX0_finds⟩ ⟨Nat.le_of_ble_eq_true rfl, Nat.le_of_ble_eq_true rfl⟩) (fx_preV (fx_pre hE hP hD hS hR [0] rfl rfl (fx_rcr 0 rfl fx_rc0)) (va_recv hE.1 (hR.at hS) (ci := 0) (q0 := 0) rfl rfl)) rfl rfl hl.1 rfl (lv_room (Nat.le_of_ble_eq_true rfl)) dX0_erring_52 ⟨Nat.le_refl _, Nat.le_refl _⟩) hP hD hS hA [0] rfl rfl (fun r_52 u H locs hq_52 hP hD hS => ?_)
        replace hP : va_P E.1 clA [(ax 5, .inl (E.2 0, 7, .inl (upd er 1 (er 1 + 1)))), (ax 9, .inl (E.2 1, 8, .inl bk)), (ax 1, .inl (E.2 0, 3, .inl nmd)), (ax 0, .inl (E.2 0, 60, .inl pl))] _ := hP
        replace hD : va_D A [(ax 5, .inl (E.2 0, 7, .inl (upd er 1 (er 1 + 1)))), (ax 9, .inl (E.2 1, 8, .inl bk)), (ax 1, .inl (E.2 0, 3, .inl nmd)), (ax 0, .inl (E.2 0, 60, .inl pl))] := hD
        replace hq_52 : r_52 = erv 1 := hq_52
        refine lv_i2l (v := r_52.toInt64) hx hb dX0_erring_55 rfl ?_
        exact hret r_52.toInt64 ((upd er 1 (er 1 + 1)), bk, nmd, pl) (by rw [hq_52]; simp only [erring_, hbc]; rfl) hP hD hS (Nat.le_refl _) (Nat.le_refl _) dX0_erring_56
      · -- fall 30
        have hod := (nn_pos (Int32.not_lt.1 c_27)).2
        refine lv_iload hx hb dX0_erring_30 (lv_at hl 1 rfl) ?_
        refine fx_ti (show (od / 17) = nI (nn od / 17) from og_up c_27) ?_
        refine lv_iload hx hb dX0_erring_32 (lv_at hl 0 rfl) ?_
        refine fx_ti (show (od - od / 17 * 17) = nI (nn od % 17) from og_dn c_27) ?_
        refine lv_iadd hx hb dX0_erring_34 ?_
        refine fx_ti (nI_add (nn od / 17) (nn od % 17)) ?_
        refine lv_bipush (v := 16) hx hb dX0_erring_35 rfl ?_
        refine lv_icmp_gt (tgt := 50) hx hb dX0_erring_37 (by decide) (fun c_37 => ?_) (fun c_37 => ?_)
        · -- jump 50
          have n_37 := fx_lt1 (a := 16) (b := (nn od / 17 + nn od % 17)) c_37 (by omega) (by omega)
          have hbc : errC bt sz nu sheet til od pa = 1 := (by rw [errC]; exact lack_no (Or.inr (Or.inr (by rw [ogF, decide_eq_false (show ¬ nn od / 17 + nn od % 17 ≤ 16 by omega), Bool.and_false, Bool.and_false, Bool.false_and]; exact Bool.false_ne_true))))
          refine lv_aload_n hx hb dX0_erring_50 rfl (lv_at hl 2 rfl) ?_
          refine lv_iconst (v := 1) hx hb dX0_erring_51 rfl ?_
          refine fx_ci (va_runV (As := [.int 1]) (rest := []) X (xX0_finds l E ax im bn bm fm ff fl er 1 (by decide) _) (cwV 1 X.2.2.2.2 (lw_V q303 q305 qs0 q69 q306) rfl rfl rfl ⟨rfl, hdX0_finds⟩ ⟨Nat.le_of_ble_eq_true rfl, Nat.le_of_ble_eq_true rfl⟩) (fx_preV (fx_pre hE hP hD hS hR [0] rfl rfl (fx_rcr 0 rfl fx_rc0)) (va_recv hE.1 (hR.at hS) (ci := 0) (q0 := 0) rfl rfl)) rfl rfl hl.1 rfl (lv_room (Nat.le_of_ble_eq_true rfl)) dX0_erring_52 ⟨Nat.le_refl _, Nat.le_refl _⟩) hP hD hS hA [0] rfl rfl (fun r_52 u H locs hq_52 hP hD hS => ?_)
          replace hP : va_P E.1 clA [(ax 5, .inl (E.2 0, 7, .inl (upd er 1 (er 1 + 1)))), (ax 9, .inl (E.2 1, 8, .inl bk)), (ax 1, .inl (E.2 0, 3, .inl nmd)), (ax 0, .inl (E.2 0, 60, .inl pl))] _ := hP
          replace hD : va_D A [(ax 5, .inl (E.2 0, 7, .inl (upd er 1 (er 1 + 1)))), (ax 9, .inl (E.2 1, 8, .inl bk)), (ax 1, .inl (E.2 0, 3, .inl nmd)), (ax 0, .inl (E.2 0, 60, .inl pl))] := hD
          replace hq_52 : r_52 = erv 1 := hq_52
          refine lv_i2l (v := r_52.toInt64) hx hb dX0_erring_55 rfl ?_
          exact hret r_52.toInt64 ((upd er 1 (er 1 + 1)), bk, nmd, pl) (by rw [hq_52]; simp only [erring_, hbc]; rfl) hP hD hS (Nat.le_refl _) (Nat.le_refl _) dX0_erring_56
        · -- fall 40
          have n_37 := fx_lt0 (a := 16) (b := (nn od / 17 + nn od % 17)) c_37 (by omega) (by omega)
          refine lv_iload hx hb dX0_erring_40 (lv_at hl 6 rfl) ?_
          refine lv_iconst (v := 0) hx hb dX0_erring_42 rfl ?_
          refine lv_iconst (v := 1) hx hb dX0_erring_43 rfl ?_
          refine fx_ci (va_runS (As := [.int pa, .int 0, .int 1]) (rest := []) X (xX0_isIn l E pa 0 1 _) (va_cwS 3 X.2.2.2.2 (lw_S q300 q301 q69 q302) rfl rfl rfl hdX0_isIn ⟨Nat.le_of_ble_eq_true rfl, Nat.le_of_ble_eq_true rfl⟩) (fx_pre hE hP hD hS hR [] rfl rfl fx_rc0) rfl rfl hl.1 rfl (lv_room (Nat.le_of_ble_eq_true rfl)) dX0_erring_44 ⟨Nat.le_refl _, Nat.le_refl _⟩) hP hD hS hA [] rfl rfl (fun r_44 u H locs hq_44 hP hD hS => ?_)
          replace hP : va_P E.1 clA [(ax 5, .inl (E.2 0, 7, .inl er)), (ax 9, .inl (E.2 1, 8, .inl bk)), (ax 1, .inl (E.2 0, 3, .inl nmd)), (ax 0, .inl (E.2 0, 60, .inl pl))] _ := hP
          replace hD : va_D A [(ax 5, .inl (E.2 0, 7, .inl er)), (ax 9, .inl (E.2 1, 8, .inl bk)), (ax 1, .inl (E.2 0, 3, .inl nmd)), (ax 0, .inl (E.2 0, 60, .inl pl))] := hD
          replace hq_44 : r_44 = fx_b (inB pa 0 1 = true) := hq_44
          rcases fx_bc hq_44 with ⟨hb_44, hr_44⟩ | ⟨hb_44, hr_44⟩
          · -- True
            subst hr_44
            have gsh := inB_nn (n := 3) hb_13 (by omega)
            have gs1 : nn sheet < 4 := by omega
            have gn := inB_nn (n := 3) hb_20 (by omega)
            have g1 : nn til < 4 := by omega
            have hog : (ogF od && inB pa 0 1) = true := by rw [ogF, decide_eq_true (Int32.not_lt.1 c_27), decide_eq_true (show nn od / 17 ≤ 16 by omega), decide_eq_true (show nn od / 17 + nn od % 17 ≤ 16 by omega), hb_44]; rfl
            have hbc : errC bt sz nu sheet til od pa = tellC bt sz nu (nn sheet) 30 := by rw [errC, hog]; exact lack_ok hb_13 hb_20
            refine lv_if_ne (tgt := 57) hx hb dX0_erring_47 (by decide) (fun _ => ?_) (fun c => absurd c (by decide))
            refine lv_aload_n hx hb dX0_erring_57 rfl (lv_at hl 2 rfl) ?_
            refine lv_iload_n hx hb dX0_erring_58 rfl (lv_at hl 3 rfl) ?_
            refine fx_ti (show sheet = nI (nn sheet) from gsh.1) ?_
            refine lv_aload_n hx hb dX0_erring_59 rfl (lv_at hl 2 rfl) ?_
            refine fx_get X hE (hR.at hS) 0 rfl rfl 9 rfl q244 rfl rfl dX0_erring_60 ?_
            refine lv_bipush (v := 30) hx hb dX0_erring_63 rfl ?_
            refine fx_ci (va_runV (As := [.int (nI (nn sheet)), .ref (ax 9), .int 30]) (rest := []) X (xX0_faultOf l E ax im bn bm fm ff fl bt sz nu sh (ax 9) bk (nn sheet) 30 PL gs1 (by first | assumption | omega) (by first | assumption | omega) (by decide) _) (cwV 3 X.2.2.2.2 (lw_V q809 q811 qs17 q69 q812) rfl rfl rfl ⟨rfl, hdX0_faultOf⟩ ⟨Nat.le_of_ble_eq_true rfl, Nat.le_of_ble_eq_true rfl⟩) (fx_preV (fx_pre hE hP hD hS hR [1] rfl rfl (fx_rcr 0 rfl (fx_rcr 10 rfl (fx_rcr 11 rfl (fx_rcr 12 rfl (fx_rcr 13 rfl (fx_rcr 14 rfl (fx_rct (fun q hq => List.mem_append_right _ hq))))))))) (va_recv hE.1 (hR.at hS) (ci := 0) (q0 := 0) rfl rfl)) rfl rfl hl.1 rfl (lv_room (Nat.le_of_ble_eq_true rfl)) dX0_erring_65 ⟨Nat.le_refl _, Nat.le_refl _⟩) hP hD hS hA [1] rfl rfl (fun r_65 u H locs hq_65 hP hD hS => ?_)
            obtain ⟨row2_65, rfl⟩ : ∃ z, z = u := ⟨_, rfl⟩
            replace hP : va_P E.1 clA [(ax 5, .inl (E.2 0, 7, .inl er)), (ax 9, .inl (E.2 1, 8, .inl row2_65)), (ax 1, .inl (E.2 0, 3, .inl nmd)), (ax 0, .inl (E.2 0, 60, .inl pl))] _ := hP
            replace hD : va_D A [(ax 5, .inl (E.2 0, 7, .inl er)), (ax 9, .inl (E.2 1, 8, .inl row2_65)), (ax 1, .inl (E.2 0, 3, .inl nmd)), (ax 0, .inl (E.2 0, 60, .inl pl))] := hD
            replace hq_65 : r_65 = nI (tellC bt sz nu (nn sheet) 30) ∧ (tellC bt sz nu (nn sheet) 30 = 0 → ∀ t, t < 8 → row2_65 t = shG sz nu (nn sheet) t) := hq_65
            refine fx_ti (show r_65 = nI (tellC bt sz nu (nn sheet) 30) from hq_65.1) ?_
            have hcl : tellC bt sz nu (nn sheet) 30 ≤ 4 := tellC_le
            refine lv_istore (lv' := [(7, .int (nI (tellC bt sz nu (nn sheet) 30))), (6, .int (od - od / 17 * 17)), (5, .int (od / 17)), (0, .ref (ax 19)), (1, .int sheet), (2, .int til), (3, .int od), (4, .int pa)]) hx hb dX0_erring_68 hl (by decide) rfl (fun ls hl => ?_)
            refine lv_iload hx hb dX0_erring_70 (lv_at hl 0 rfl) ?_
            refine lv_if_le (tgt := 83) hx hb dX0_erring_72 (by decide) (fun c_72 => ?_) (fun c_72 => ?_)
            · -- jump 83
              have n_72 := fx_le1 (a := (tellC bt sz nu (nn sheet) 30)) (b := 0) c_72 (by omega) (by omega)
              have h0 : tellC bt sz nu (nn sheet) 30 = 0 := by omega
              obtain ⟨hrow, hr9, hm30⟩ := tell_row h0 (hq_65.2 h0)
              have hsl := sumN_le (rn := rnG sz nu (nn sheet)) (pr := fun t => nn (sa (8 + t))) (a := 99) (b := 9999) 8 (fun t ht => (hrow t ht).2) (fun t ht => (hI.pr t ht).2)
              refine lv_aload_n hx hb dX0_erring_83 rfl (lv_at hl 3 rfl) ?_
              refine lv_aload_n hx hb dX0_erring_84 rfl (lv_at hl 3 rfl) ?_
              refine fx_get X hE (hR.at hS) 0 rfl rfl 9 rfl q244 rfl rfl dX0_erring_85 ?_
              refine lv_aload_n hx hb dX0_erring_88 rfl (lv_at hl 3 rfl) ?_
              refine fx_get X hE (hR.at hS) 0 rfl rfl 2 rfl q237 rfl rfl dX0_erring_89 ?_
              refine fx_getN X hE (hR.at hS) 1 rfl rfl 0 rfl 3 rfl rfl rfl dX0_erring_92 ?_
              refine fx_ci (va_runV (As := [.ref (ax 9), .ref (ax 20)]) (rest := []) X (xX0_sumOf l E ax im bn bm fm ff fl (ax 9) row2_65 (ax 20) pr _) (cwV 2 X.2.2.2.2 (lw_V q825 q827 qs18 q69 q828) rfl rfl rfl ⟨rfl, hdX0_sumOf⟩ ⟨Nat.le_of_ble_eq_true rfl, Nat.le_of_ble_eq_true rfl⟩) (fx_preV (fx_pre hE hP hD hS hR [] rfl rfl (fx_rcr 0 rfl (fx_rcm 1 rfl (by decide) (fx_rcr 9 rfl fx_rc0)))) (va_recv hE.1 (hR.at hS) (ci := 0) (q0 := 0) rfl rfl)) rfl rfl hl.1 rfl (lv_room (Nat.le_of_ble_eq_true rfl)) dX0_erring_95 ⟨Nat.le_refl _, Nat.le_refl _⟩) hP hD hS hA [] rfl rfl (fun r_95 u H locs hq_95 hP hD hS => ?_)
              replace hP : va_P E.1 clA [(ax 5, .inl (E.2 0, 7, .inl er)), (ax 9, .inl (E.2 1, 8, .inl row2_65)), (ax 1, .inl (E.2 0, 3, .inl nmd)), (ax 0, .inl (E.2 0, 60, .inl pl))] _ := hP
              replace hD : va_D A [(ax 5, .inl (E.2 0, 7, .inl er)), (ax 9, .inl (E.2 1, 8, .inl row2_65)), (ax 1, .inl (E.2 0, 3, .inl nmd)), (ax 0, .inl (E.2 0, 60, .inl pl))] := hD
              replace hq_95 : r_95 = l_sum (fun i_ => row2_65 i_ * pr i_) 8 := hq_95
              refine fx_ti (show r_95 = nI (sumN (rnG sz nu (nn sheet)) (fun t => nn (sa (8 + t))) 8) from hq_95.trans (sumN_I (pc := pr) 8 (fun t ht => (hrow t ht).1) (fun t ht => (hpr t ht).trans (hI.pr t ht).1))) ?_
              refine lv_istore (lv' := [(8, .int (nI (sumN (rnG sz nu (nn sheet)) (fun t => nn (sa (8 + t))) 8))), (7, .int (nI (tellC bt sz nu (nn sheet) 30))), (6, .int (od - od / 17 * 17)), (5, .int (od / 17)), (0, .ref (ax 19)), (1, .int sheet), (2, .int til), (3, .int od), (4, .int pa)]) hx hb dX0_erring_98 hl (by decide) rfl (fun ls hl => ?_)
              refine lv_aload_n hx hb dX0_erring_100 rfl (lv_at hl 4 rfl) ?_
              refine fx_get X hE (hR.at hS) 0 rfl rfl 9 rfl q244 rfl rfl dX0_erring_101 ?_
              refine fx_ci (va_runS (As := [.ref (ax 9)]) (rest := []) X (xX0_manyIn l E (ax 9) row2_65 _) (va_cwS 1 X.2.2.2.2 (lw_S q822 q823 q69 q824) rfl rfl rfl hdX0_manyIn ⟨Nat.le_of_ble_eq_true rfl, Nat.le_of_ble_eq_true rfl⟩) (fx_pre hE hP hD hS hR [] rfl rfl (fx_rcm 1 rfl (by decide) fx_rc0)) rfl rfl hl.1 rfl (lv_room (Nat.le_of_ble_eq_true rfl)) dX0_erring_104 ⟨Nat.le_refl _, Nat.le_refl _⟩) hP hD hS hA [] rfl rfl (fun r_104 u H locs hq_104 hP hD hS => ?_)
              replace hP : va_P E.1 clA [(ax 5, .inl (E.2 0, 7, .inl er)), (ax 9, .inl (E.2 1, 8, .inl row2_65)), (ax 1, .inl (E.2 0, 3, .inl nmd)), (ax 0, .inl (E.2 0, 60, .inl pl))] _ := hP
              replace hD : va_D A [(ax 5, .inl (E.2 0, 7, .inl er)), (ax 9, .inl (E.2 1, 8, .inl row2_65)), (ax 1, .inl (E.2 0, 3, .inl nmd)), (ax 0, .inl (E.2 0, 60, .inl pl))] := hD
              replace hq_104 : r_104 = l_sum row2_65 8 := hq_104
              refine fx_ti (show r_104 = nI (manyN (rnG sz nu (nn sheet)) 8) from hq_104.trans (manyN_I 8 (fun t ht => (hrow t ht).1))) ?_
              refine lv_istore (lv' := [(9, .int (nI (manyN (rnG sz nu (nn sheet)) 8))), (8, .int (nI (sumN (rnG sz nu (nn sheet)) (fun t => nn (sa (8 + t))) 8))), (7, .int (nI (tellC bt sz nu (nn sheet) 30))), (6, .int (od - od / 17 * 17)), (5, .int (od / 17)), (0, .ref (ax 19)), (1, .int sheet), (2, .int til), (3, .int od), (4, .int pa)]) hx hb dX0_erring_107 hl (by decide) rfl (fun ls hl => ?_)
              refine lv_aload_n hx hb dX0_erring_109 rfl (lv_at hl 5 rfl) ?_
              refine lv_iload_n hx hb dX0_erring_110 rfl (lv_at hl 7 rfl) ?_
              refine fx_ti (show til = nI (nn til) from gn.1) ?_
              refine lv_iload hx hb dX0_erring_111 (lv_at hl 1 rfl) ?_
              refine lv_iload hx hb dX0_erring_113 (lv_at hl 0 rfl) ?_
              refine fx_ci (va_runV (As := [.int (nI (nn til)), .int (nI (sumN (rnG sz nu (nn sheet)) (fun t => nn (sa (8 + t))) 8)), .int (nI (manyN (rnG sz nu (nn sheet)) 8))]) (rest := []) X (xX0_asked l E ax im bn bm fm ff fl tk cs gs zz tp wg nmd pl sa tl tx T PL (nn til) (sumN (rnG sz nu (nn sheet)) (fun t => nn (sa (8 + t))) 8) (manyN (rnG sz nu (nn sheet)) 8) g1 (by first | assumption | omega) (by first | assumption | omega) (by first | assumption | omega) (by first | assumption | omega) (by omega) (by omega) _) (cwV 3 X.2.2.2.2 (lw_V q454 q456 qs3 q69 q457) rfl rfl rfl ⟨rfl, hdX0_asked⟩ ⟨Nat.le_of_ble_eq_true rfl, Nat.le_of_ble_eq_true rfl⟩) (fx_preV (fx_pre hE hP hD hS hR [2, 3] rfl rfl (fx_rcr 0 rfl (fx_rcr 1 rfl (fx_rcr 2 rfl (fx_rcr 3 rfl (fx_rcr 4 rfl (fx_rcr 5 rfl (fx_rcr 6 rfl (fx_rcr 7 rfl (fx_rcr 8 rfl (fx_rct (fun q hq => List.mem_append_right _ hq)))))))))))) (va_recv hE.1 (hR.at hS) (ci := 0) (q0 := 0) rfl rfl)) rfl rfl hl.1 rfl (lv_room (Nat.le_of_ble_eq_true rfl)) dX0_erring_115 ⟨Nat.le_refl _, Nat.le_refl _⟩) hP hD hS hA [2, 3] rfl rfl (fun r_115 u H locs hq_115 hP hD hS => ?_)
              obtain ⟨nm2_115, pl2_115⟩ := u
              replace hP : va_P E.1 clA [(ax 5, .inl (E.2 0, 7, .inl er)), (ax 9, .inl (E.2 1, 8, .inl row2_65)), (ax 1, .inl (E.2 0, 3, .inl nm2_115)), (ax 0, .inl (E.2 0, 60, .inl pl2_115))] _ := hP
              replace hD : va_D A [(ax 5, .inl (E.2 0, 7, .inl er)), (ax 9, .inl (E.2 1, 8, .inl row2_65)), (ax 1, .inl (E.2 0, 3, .inl nm2_115)), (ax 0, .inl (E.2 0, 60, .inl pl2_115))] := hD
              replace hq_115 : r_115 = askT sa T (nn til) (sumN (rnG sz nu (nn sheet)) (fun t => nn (sa (8 + t))) 8) (manyN (rnG sz nu (nn sheet)) 8) := hq_115
              refine fx_ti (show r_115 = nI (nn (paysF sa T (rnG sz nu (nn sheet)) (nn til))) from hq_115.trans (paysF_nat sa T _ _).1) ?_
              have hpn := (paysF_nat sa T (rnG sz nu (nn sheet)) (nn til)).2
              refine lv_istore (lv' := [(10, .int (nI (nn (paysF sa T (rnG sz nu (nn sheet)) (nn til))))), (9, .int (nI (manyN (rnG sz nu (nn sheet)) 8))), (8, .int (nI (sumN (rnG sz nu (nn sheet)) (fun t => nn (sa (8 + t))) 8))), (7, .int (nI (tellC bt sz nu (nn sheet) 30))), (6, .int (od - od / 17 * 17)), (5, .int (od / 17)), (0, .ref (ax 19)), (1, .int sheet), (2, .int til), (3, .int od), (4, .int pa)]) hx hb dX0_erring_118 hl (by decide) rfl (fun ls hl => ?_)
              refine lv_iload hx hb dX0_erring_120 (lv_at hl 1 rfl) ?_
              refine lv_if_ne (tgt := 129) hx hb dX0_erring_122 (by decide) (fun c_122 => ?_) (fun c_122 => ?_)
              · -- jump 129
                have n_122 := fx_eq0 (a := (manyN (rnG sz nu (nn sheet)) 8)) (b := 0) c_122 (by omega) (by omega)
                refine lv_ldc2 (v := 16) hx hb X.2.2.2.1 (X.2.2.2.2 _ q934) dX0_erring_129 ?_
                refine lv_iload hx hb dX0_erring_132 (lv_at hl 0 rfl) ?_
                refine lv_i2l (v := (nI (nn (paysF sa T (rnG sz nu (nn sheet)) (nn til)))).toInt64) hx hb dX0_erring_134 rfl ?_
                refine lv_lmul hx hb dX0_erring_135 ?_
                refine lv_iload hx hb dX0_erring_136 (lv_at hl 5 rfl) ?_
                refine fx_ti (show (od / 17) = nI (nn od / 17) from og_up c_27) ?_
                refine lv_i2l (v := (nI (nn od / 17)).toInt64) hx hb dX0_erring_138 rfl ?_
                refine lv_ladd hx hb dX0_erring_139 ?_
                refine lv_iload hx hb dX0_erring_140 (lv_at hl 0 rfl) ?_
                refine lv_if_le (tgt := 150) hx hb dX0_erring_142 (by decide) (fun c_142 => ?_) (fun c_142 => ?_)
                · -- jump 150
                  have n_142 := fx_le1 (a := (nn (paysF sa T (rnG sz nu (nn sheet)) (nn til)))) (b := 0) c_142 (by omega) (by omega)
                  refine lv_iconst (v := 0) hx hb dX0_erring_150 rfl ?_
                  refine lv_i2l (v := (0 : Int32).toInt64) hx hb dX0_erring_151 rfl ?_
                  refine lv_lsub hx hb dX0_erring_152 ?_
                  refine fx_tl (show (((16 * ((nI (nn (paysF sa T (rnG sz nu (nn sheet)) (nn til)))).toInt64)) + ((nI (nn od / 17)).toInt64)) - ((0 : Int32).toInt64)) = (lN (abvN sa T (rnG sz nu (nn sheet)) (nn til) (nn od))) from by rw [abvN, if_neg n_122, if_neg (show ¬ 0 < nn (paysF sa T (rnG sz nu (nn sheet)) (nn til)) by omega)]; exact abv_0 (by omega) (by omega)) ?_
                  have hal : (abvN sa T (rnG sz nu (nn sheet)) (nn til) (nn od)) ≤ 200000 := by rw [abvN, if_neg n_122]; omega
                  refine lv_lstore (lv' := [(11, .long (lN (abvN sa T (rnG sz nu (nn sheet)) (nn til) (nn od)))), (10, .int (nI (nn (paysF sa T (rnG sz nu (nn sheet)) (nn til))))), (9, .int (nI (manyN (rnG sz nu (nn sheet)) 8))), (8, .int (nI (sumN (rnG sz nu (nn sheet)) (fun t => nn (sa (8 + t))) 8))), (7, .int (nI (tellC bt sz nu (nn sheet) 30))), (6, .int (od - od / 17 * 17)), (5, .int (od / 17)), (0, .ref (ax 19)), (1, .int sheet), (2, .int til), (3, .int od), (4, .int pa)]) hx hb dX0_erring_153 hl (by decide) rfl (fun ls hl => ?_)
                  refine lv_iload hx hb dX0_erring_155 (lv_at hl 11 rfl) ?_
                  refine lv_if_ne (tgt := 165) hx hb dX0_erring_157 (by decide) (fun c_157 => ?_) (fun c_157 => ?_)
                  · -- jump 165
                    refine lv_ldc2 (v := 16) hx hb X.2.2.2.1 (X.2.2.2.2 _ q934) dX0_erring_165 ?_
                    refine fx_tl (show (16 : Int64) = (lN 16) from rfl) ?_
                    refine lv_lload hx hb dX0_erring_168 (lv_at hl 0 rfl) ?_
                    refine lv_ldc2 (v := 16) hx hb X.2.2.2.1 (X.2.2.2.2 _ q934) dX0_erring_170 ?_
                    refine fx_tl (show (16 : Int64) = (lN 16) from rfl) ?_
                    refine fx_cl (va_runS (As := [.long (lN (abvN sa T (rnG sz nu (nn sheet)) (nn til) (nn od))), .long (lN 16)]) (rest := [.long (lN 16)]) X (xX0_common l E (abvN sa T (rnG sz nu (nn sheet)) (nn til) (nn od)) 16 (by omega) (by decide) _) (va_cwS 2 X.2.2.2.2 (lw_S q935 q936 q69 q937) rfl rfl rfl hdX0_common ⟨Nat.le_of_ble_eq_true rfl, Nat.le_of_ble_eq_true rfl⟩) (fx_pre hE hP hD hS hR [] rfl rfl fx_rc0) rfl rfl hl.1 rfl (lv_room (Nat.le_of_ble_eq_true rfl)) dX0_erring_173 ⟨Nat.le_refl _, Nat.le_refl _⟩) hP hD hS hA [] rfl rfl (fun r_173 u H locs hq_173 hP hD hS => ?_)
                    replace hP : va_P E.1 clA [(ax 5, .inl (E.2 0, 7, .inl er)), (ax 9, .inl (E.2 1, 8, .inl row2_65)), (ax 1, .inl (E.2 0, 3, .inl nm2_115)), (ax 0, .inl (E.2 0, 60, .inl pl2_115))] _ := hP
                    replace hD : va_D A [(ax 5, .inl (E.2 0, 7, .inl er)), (ax 9, .inl (E.2 1, 8, .inl row2_65)), (ax 1, .inl (E.2 0, 3, .inl nm2_115)), (ax 0, .inl (E.2 0, 60, .inl pl2_115))] := hD
                    replace hq_173 : r_173 = lN (Nat.gcd (abvN sa T (rnG sz nu (nn sheet)) (nn til) (nn od)) 16) := hq_173
                    refine fx_tl (show r_173 = (lN (Nat.gcd (abvN sa T (rnG sz nu (nn sheet)) (nn til) (nn od)) 16)) from hq_173) ?_
                    have hgp : 0 < (Nat.gcd (abvN sa T (rnG sz nu (nn sheet)) (nn til) (nn od)) 16) := Nat.gcd_pos_of_pos_right _ (by decide)
                    have hgl : (Nat.gcd (abvN sa T (rnG sz nu (nn sheet)) (nn til) (nn od)) 16) ≤ 16 := Nat.gcd_le_right _ (by decide)
                    refine lv_ldiv hx hb dX0_erring_176 (lN_ne0 (by omega) hgp) ?_
                    exact hret ((lN 16) / (lN (Nat.gcd (abvN sa T (rnG sz nu (nn sheet)) (nn til) (nn od)) 16))) (er, row2_65, nm2_115, pl2_115) (by rw [lN_divs (by omega) (by omega) hgp]; simp only [erring_, hbc, h0, eE_0, errN]; rw [if_pos trivial, if_neg c_157]) hP hD hS (Nat.le_refl _) (Nat.le_refl _) dX0_erring_177
                  · -- fall 160
                    refine lv_lload hx hb dX0_erring_160 (lv_at hl 0 rfl) ?_
                    refine lv_goto (tgt := 168) hx hb dX0_erring_162 (by decide) ?_
                    refine lv_lload hx hb dX0_erring_168 (lv_at hl 0 rfl) ?_
                    refine lv_ldc2 (v := 16) hx hb X.2.2.2.1 (X.2.2.2.2 _ q934) dX0_erring_170 ?_
                    refine fx_tl (show (16 : Int64) = (lN 16) from rfl) ?_
                    refine fx_cl (va_runS (As := [.long (lN (abvN sa T (rnG sz nu (nn sheet)) (nn til) (nn od))), .long (lN 16)]) (rest := [.long (lN (abvN sa T (rnG sz nu (nn sheet)) (nn til) (nn od)))]) X (xX0_common l E (abvN sa T (rnG sz nu (nn sheet)) (nn til) (nn od)) 16 (by omega) (by decide) _) (va_cwS 2 X.2.2.2.2 (lw_S q935 q936 q69 q937) rfl rfl rfl hdX0_common ⟨Nat.le_of_ble_eq_true rfl, Nat.le_of_ble_eq_true rfl⟩) (fx_pre hE hP hD hS hR [] rfl rfl fx_rc0) rfl rfl hl.1 rfl (lv_room (Nat.le_of_ble_eq_true rfl)) dX0_erring_173 ⟨Nat.le_refl _, Nat.le_refl _⟩) hP hD hS hA [] rfl rfl (fun r_173 u H locs hq_173 hP hD hS => ?_)
                    replace hP : va_P E.1 clA [(ax 5, .inl (E.2 0, 7, .inl er)), (ax 9, .inl (E.2 1, 8, .inl row2_65)), (ax 1, .inl (E.2 0, 3, .inl nm2_115)), (ax 0, .inl (E.2 0, 60, .inl pl2_115))] _ := hP
                    replace hD : va_D A [(ax 5, .inl (E.2 0, 7, .inl er)), (ax 9, .inl (E.2 1, 8, .inl row2_65)), (ax 1, .inl (E.2 0, 3, .inl nm2_115)), (ax 0, .inl (E.2 0, 60, .inl pl2_115))] := hD
                    replace hq_173 : r_173 = lN (Nat.gcd (abvN sa T (rnG sz nu (nn sheet)) (nn til) (nn od)) 16) := hq_173
                    refine fx_tl (show r_173 = (lN (Nat.gcd (abvN sa T (rnG sz nu (nn sheet)) (nn til) (nn od)) 16)) from hq_173) ?_
                    have hgp : 0 < (Nat.gcd (abvN sa T (rnG sz nu (nn sheet)) (nn til) (nn od)) 16) := Nat.gcd_pos_of_pos_right _ (by decide)
                    have hgl : (Nat.gcd (abvN sa T (rnG sz nu (nn sheet)) (nn til) (nn od)) 16) ≤ 16 := Nat.gcd_le_right _ (by decide)
                    refine lv_ldiv hx hb dX0_erring_176 (lN_ne0 (by omega) hgp) ?_
                    exact hret ((lN (abvN sa T (rnG sz nu (nn sheet)) (nn til) (nn od))) / (lN (Nat.gcd (abvN sa T (rnG sz nu (nn sheet)) (nn til) (nn od)) 16))) (er, row2_65, nm2_115, pl2_115) (by rw [lN_divs (by omega) (by omega) hgp]; simp only [erring_, hbc, h0, eE_0, errN]; rw [if_pos trivial, if_pos c_157]) hP hD hS (Nat.le_refl _) (Nat.le_refl _) dX0_erring_177
                · -- fall 145
                  have n_142 := fx_le0 (a := (nn (paysF sa T (rnG sz nu (nn sheet)) (nn til)))) (b := 0) c_142 (by omega) (by omega)
                  refine lv_iload hx hb dX0_erring_145 (lv_at hl 4 rfl) ?_
                  refine fx_ti (show (od - od / 17 * 17) = nI (nn od % 17) from og_dn c_27) ?_
                  refine lv_goto (tgt := 151) hx hb dX0_erring_147 (by decide) ?_
                  refine lv_i2l (v := (nI (nn od % 17)).toInt64) hx hb dX0_erring_151 rfl ?_
                  refine lv_lsub hx hb dX0_erring_152 ?_
                  refine fx_tl (show (((16 * ((nI (nn (paysF sa T (rnG sz nu (nn sheet)) (nn til)))).toInt64)) + ((nI (nn od / 17)).toInt64)) - ((nI (nn od % 17)).toInt64)) = (lN (abvN sa T (rnG sz nu (nn sheet)) (nn til) (nn od))) from by rw [abvN, if_neg n_122, if_pos n_142]; exact abv_x (by omega) (by omega) (by omega) (by omega)) ?_
                  have hal : (abvN sa T (rnG sz nu (nn sheet)) (nn til) (nn od)) ≤ 200000 := by rw [abvN, if_neg n_122]; omega
                  refine lv_lstore (lv' := [(11, .long (lN (abvN sa T (rnG sz nu (nn sheet)) (nn til) (nn od)))), (10, .int (nI (nn (paysF sa T (rnG sz nu (nn sheet)) (nn til))))), (9, .int (nI (manyN (rnG sz nu (nn sheet)) 8))), (8, .int (nI (sumN (rnG sz nu (nn sheet)) (fun t => nn (sa (8 + t))) 8))), (7, .int (nI (tellC bt sz nu (nn sheet) 30))), (6, .int (od - od / 17 * 17)), (5, .int (od / 17)), (0, .ref (ax 19)), (1, .int sheet), (2, .int til), (3, .int od), (4, .int pa)]) hx hb dX0_erring_153 hl (by decide) rfl (fun ls hl => ?_)
                  refine lv_iload hx hb dX0_erring_155 (lv_at hl 11 rfl) ?_
                  refine lv_if_ne (tgt := 165) hx hb dX0_erring_157 (by decide) (fun c_157 => ?_) (fun c_157 => ?_)
                  · -- jump 165
                    refine lv_ldc2 (v := 16) hx hb X.2.2.2.1 (X.2.2.2.2 _ q934) dX0_erring_165 ?_
                    refine fx_tl (show (16 : Int64) = (lN 16) from rfl) ?_
                    refine lv_lload hx hb dX0_erring_168 (lv_at hl 0 rfl) ?_
                    refine lv_ldc2 (v := 16) hx hb X.2.2.2.1 (X.2.2.2.2 _ q934) dX0_erring_170 ?_
                    refine fx_tl (show (16 : Int64) = (lN 16) from rfl) ?_
                    refine fx_cl (va_runS (As := [.long (lN (abvN sa T (rnG sz nu (nn sheet)) (nn til) (nn od))), .long (lN 16)]) (rest := [.long (lN 16)]) X (xX0_common l E (abvN sa T (rnG sz nu (nn sheet)) (nn til) (nn od)) 16 (by omega) (by decide) _) (va_cwS 2 X.2.2.2.2 (lw_S q935 q936 q69 q937) rfl rfl rfl hdX0_common ⟨Nat.le_of_ble_eq_true rfl, Nat.le_of_ble_eq_true rfl⟩) (fx_pre hE hP hD hS hR [] rfl rfl fx_rc0) rfl rfl hl.1 rfl (lv_room (Nat.le_of_ble_eq_true rfl)) dX0_erring_173 ⟨Nat.le_refl _, Nat.le_refl _⟩) hP hD hS hA [] rfl rfl (fun r_173 u H locs hq_173 hP hD hS => ?_)
                    replace hP : va_P E.1 clA [(ax 5, .inl (E.2 0, 7, .inl er)), (ax 9, .inl (E.2 1, 8, .inl row2_65)), (ax 1, .inl (E.2 0, 3, .inl nm2_115)), (ax 0, .inl (E.2 0, 60, .inl pl2_115))] _ := hP
                    replace hD : va_D A [(ax 5, .inl (E.2 0, 7, .inl er)), (ax 9, .inl (E.2 1, 8, .inl row2_65)), (ax 1, .inl (E.2 0, 3, .inl nm2_115)), (ax 0, .inl (E.2 0, 60, .inl pl2_115))] := hD
                    replace hq_173 : r_173 = lN (Nat.gcd (abvN sa T (rnG sz nu (nn sheet)) (nn til) (nn od)) 16) := hq_173
                    refine fx_tl (show r_173 = (lN (Nat.gcd (abvN sa T (rnG sz nu (nn sheet)) (nn til) (nn od)) 16)) from hq_173) ?_
                    have hgp : 0 < (Nat.gcd (abvN sa T (rnG sz nu (nn sheet)) (nn til) (nn od)) 16) := Nat.gcd_pos_of_pos_right _ (by decide)
                    have hgl : (Nat.gcd (abvN sa T (rnG sz nu (nn sheet)) (nn til) (nn od)) 16) ≤ 16 := Nat.gcd_le_right _ (by decide)
                    refine lv_ldiv hx hb dX0_erring_176 (lN_ne0 (by omega) hgp) ?_
                    exact hret ((lN 16) / (lN (Nat.gcd (abvN sa T (rnG sz nu (nn sheet)) (nn til) (nn od)) 16))) (er, row2_65, nm2_115, pl2_115) (by rw [lN_divs (by omega) (by omega) hgp]; simp only [erring_, hbc, h0, eE_0, errN]; rw [if_pos trivial, if_neg c_157]) hP hD hS (Nat.le_refl _) (Nat.le_refl _) dX0_erring_177
                  · -- fall 160
                    refine lv_lload hx hb dX0_erring_160 (lv_at hl 0 rfl) ?_
                    refine lv_goto (tgt := 168) hx hb dX0_erring_162 (by decide) ?_
                    refine lv_lload hx hb dX0_erring_168 (lv_at hl 0 rfl) ?_
                    refine lv_ldc2 (v := 16) hx hb X.2.2.2.1 (X.2.2.2.2 _ q934) dX0_erring_170 ?_
                    refine fx_tl (show (16 : Int64) = (lN 16) from rfl) ?_
                    refine fx_cl (va_runS (As := [.long (lN (abvN sa T (rnG sz nu (nn sheet)) (nn til) (nn od))), .long (lN 16)]) (rest := [.long (lN (abvN sa T (rnG sz nu (nn sheet)) (nn til) (nn od)))]) X (xX0_common l E (abvN sa T (rnG sz nu (nn sheet)) (nn til) (nn od)) 16 (by omega) (by decide) _) (va_cwS 2 X.2.2.2.2 (lw_S q935 q936 q69 q937) rfl rfl rfl hdX0_common ⟨Nat.le_of_ble_eq_true rfl, Nat.le_of_ble_eq_true rfl⟩) (fx_pre hE hP hD hS hR [] rfl rfl fx_rc0) rfl rfl hl.1 rfl (lv_room (Nat.le_of_ble_eq_true rfl)) dX0_erring_173 ⟨Nat.le_refl _, Nat.le_refl _⟩) hP hD hS hA [] rfl rfl (fun r_173 u H locs hq_173 hP hD hS => ?_)
                    replace hP : va_P E.1 clA [(ax 5, .inl (E.2 0, 7, .inl er)), (ax 9, .inl (E.2 1, 8, .inl row2_65)), (ax 1, .inl (E.2 0, 3, .inl nm2_115)), (ax 0, .inl (E.2 0, 60, .inl pl2_115))] _ := hP
                    replace hD : va_D A [(ax 5, .inl (E.2 0, 7, .inl er)), (ax 9, .inl (E.2 1, 8, .inl row2_65)), (ax 1, .inl (E.2 0, 3, .inl nm2_115)), (ax 0, .inl (E.2 0, 60, .inl pl2_115))] := hD
                    replace hq_173 : r_173 = lN (Nat.gcd (abvN sa T (rnG sz nu (nn sheet)) (nn til) (nn od)) 16) := hq_173
                    refine fx_tl (show r_173 = (lN (Nat.gcd (abvN sa T (rnG sz nu (nn sheet)) (nn til) (nn od)) 16)) from hq_173) ?_
                    have hgp : 0 < (Nat.gcd (abvN sa T (rnG sz nu (nn sheet)) (nn til) (nn od)) 16) := Nat.gcd_pos_of_pos_right _ (by decide)
                    have hgl : (Nat.gcd (abvN sa T (rnG sz nu (nn sheet)) (nn til) (nn od)) 16) ≤ 16 := Nat.gcd_le_right _ (by decide)
                    refine lv_ldiv hx hb dX0_erring_176 (lN_ne0 (by omega) hgp) ?_
                    exact hret ((lN (abvN sa T (rnG sz nu (nn sheet)) (nn til) (nn od))) / (lN (Nat.gcd (abvN sa T (rnG sz nu (nn sheet)) (nn til) (nn od)) 16))) (er, row2_65, nm2_115, pl2_115) (by rw [lN_divs (by omega) (by omega) hgp]; simp only [erring_, hbc, h0, eE_0, errN]; rw [if_pos trivial, if_pos c_157]) hP hD hS (Nat.le_refl _) (Nat.le_refl _) dX0_erring_177
              · -- fall 125
                have n_122 := fx_eq1 (a := (manyN (rnG sz nu (nn sheet)) 8)) (b := 0) c_122 (by omega) (by omega)
                refine lv_lconst (v := 0) hx hb dX0_erring_125 rfl ?_
                refine lv_goto (tgt := 153) hx hb dX0_erring_126 (by decide) ?_
                refine fx_tl (show (0 : Int64) = (lN (abvN sa T (rnG sz nu (nn sheet)) (nn til) (nn od))) from by rw [abvN, if_pos n_122]; rfl) ?_
                have hal : (abvN sa T (rnG sz nu (nn sheet)) (nn til) (nn od)) ≤ 200000 := by rw [abvN, if_pos n_122]; omega
                refine lv_lstore (lv' := [(11, .long (lN (abvN sa T (rnG sz nu (nn sheet)) (nn til) (nn od)))), (10, .int (nI (nn (paysF sa T (rnG sz nu (nn sheet)) (nn til))))), (9, .int (nI (manyN (rnG sz nu (nn sheet)) 8))), (8, .int (nI (sumN (rnG sz nu (nn sheet)) (fun t => nn (sa (8 + t))) 8))), (7, .int (nI (tellC bt sz nu (nn sheet) 30))), (6, .int (od - od / 17 * 17)), (5, .int (od / 17)), (0, .ref (ax 19)), (1, .int sheet), (2, .int til), (3, .int od), (4, .int pa)]) hx hb dX0_erring_153 hl (by decide) rfl (fun ls hl => ?_)
                refine lv_iload hx hb dX0_erring_155 (lv_at hl 11 rfl) ?_
                refine lv_if_ne (tgt := 165) hx hb dX0_erring_157 (by decide) (fun c_157 => ?_) (fun c_157 => ?_)
                · -- jump 165
                  refine lv_ldc2 (v := 16) hx hb X.2.2.2.1 (X.2.2.2.2 _ q934) dX0_erring_165 ?_
                  refine fx_tl (show (16 : Int64) = (lN 16) from rfl) ?_
                  refine lv_lload hx hb dX0_erring_168 (lv_at hl 0 rfl) ?_
                  refine lv_ldc2 (v := 16) hx hb X.2.2.2.1 (X.2.2.2.2 _ q934) dX0_erring_170 ?_
                  refine fx_tl (show (16 : Int64) = (lN 16) from rfl) ?_
                  refine fx_cl (va_runS (As := [.long (lN (abvN sa T (rnG sz nu (nn sheet)) (nn til) (nn od))), .long (lN 16)]) (rest := [.long (lN 16)]) X (xX0_common l E (abvN sa T (rnG sz nu (nn sheet)) (nn til) (nn od)) 16 (by omega) (by decide) _) (va_cwS 2 X.2.2.2.2 (lw_S q935 q936 q69 q937) rfl rfl rfl hdX0_common ⟨Nat.le_of_ble_eq_true rfl, Nat.le_of_ble_eq_true rfl⟩) (fx_pre hE hP hD hS hR [] rfl rfl fx_rc0) rfl rfl hl.1 rfl (lv_room (Nat.le_of_ble_eq_true rfl)) dX0_erring_173 ⟨Nat.le_refl _, Nat.le_refl _⟩) hP hD hS hA [] rfl rfl (fun r_173 u H locs hq_173 hP hD hS => ?_)
                  replace hP : va_P E.1 clA [(ax 5, .inl (E.2 0, 7, .inl er)), (ax 9, .inl (E.2 1, 8, .inl row2_65)), (ax 1, .inl (E.2 0, 3, .inl nm2_115)), (ax 0, .inl (E.2 0, 60, .inl pl2_115))] _ := hP
                  replace hD : va_D A [(ax 5, .inl (E.2 0, 7, .inl er)), (ax 9, .inl (E.2 1, 8, .inl row2_65)), (ax 1, .inl (E.2 0, 3, .inl nm2_115)), (ax 0, .inl (E.2 0, 60, .inl pl2_115))] := hD
                  replace hq_173 : r_173 = lN (Nat.gcd (abvN sa T (rnG sz nu (nn sheet)) (nn til) (nn od)) 16) := hq_173
                  refine fx_tl (show r_173 = (lN (Nat.gcd (abvN sa T (rnG sz nu (nn sheet)) (nn til) (nn od)) 16)) from hq_173) ?_
                  have hgp : 0 < (Nat.gcd (abvN sa T (rnG sz nu (nn sheet)) (nn til) (nn od)) 16) := Nat.gcd_pos_of_pos_right _ (by decide)
                  have hgl : (Nat.gcd (abvN sa T (rnG sz nu (nn sheet)) (nn til) (nn od)) 16) ≤ 16 := Nat.gcd_le_right _ (by decide)
                  refine lv_ldiv hx hb dX0_erring_176 (lN_ne0 (by omega) hgp) ?_
                  exact hret ((lN 16) / (lN (Nat.gcd (abvN sa T (rnG sz nu (nn sheet)) (nn til) (nn od)) 16))) (er, row2_65, nm2_115, pl2_115) (by rw [lN_divs (by omega) (by omega) hgp]; simp only [erring_, hbc, h0, eE_0, errN]; rw [if_pos trivial, if_neg c_157]) hP hD hS (Nat.le_refl _) (Nat.le_refl _) dX0_erring_177
                · -- fall 160
                  refine lv_lload hx hb dX0_erring_160 (lv_at hl 0 rfl) ?_
                  refine lv_goto (tgt := 168) hx hb dX0_erring_162 (by decide) ?_
                  refine lv_lload hx hb dX0_erring_168 (lv_at hl 0 rfl) ?_
                  refine lv_ldc2 (v := 16) hx hb X.2.2.2.1 (X.2.2.2.2 _ q934) dX0_erring_170 ?_
                  refine fx_tl (show (16 : Int64) = (lN 16) from rfl) ?_
                  refine fx_cl (va_runS (As := [.long (lN (abvN sa T (rnG sz nu (nn sheet)) (nn til) (nn od))), .long (lN 16)]) (rest := [.long (lN (abvN sa T (rnG sz nu (nn sheet)) (nn til) (nn od)))]) X (xX0_common l E (abvN sa T (rnG sz nu (nn sheet)) (nn til) (nn od)) 16 (by omega) (by decide) _) (va_cwS 2 X.2.2.2.2 (lw_S q935 q936 q69 q937) rfl rfl rfl hdX0_common ⟨Nat.le_of_ble_eq_true rfl, Nat.le_of_ble_eq_true rfl⟩) (fx_pre hE hP hD hS hR [] rfl rfl fx_rc0) rfl rfl hl.1 rfl (lv_room (Nat.le_of_ble_eq_true rfl)) dX0_erring_173 ⟨Nat.le_refl _, Nat.le_refl _⟩) hP hD hS hA [] rfl rfl (fun r_173 u H locs hq_173 hP hD hS => ?_)
                  replace hP : va_P E.1 clA [(ax 5, .inl (E.2 0, 7, .inl er)), (ax 9, .inl (E.2 1, 8, .inl row2_65)), (ax 1, .inl (E.2 0, 3, .inl nm2_115)), (ax 0, .inl (E.2 0, 60, .inl pl2_115))] _ := hP
                  replace hD : va_D A [(ax 5, .inl (E.2 0, 7, .inl er)), (ax 9, .inl (E.2 1, 8, .inl row2_65)), (ax 1, .inl (E.2 0, 3, .inl nm2_115)), (ax 0, .inl (E.2 0, 60, .inl pl2_115))] := hD
                  replace hq_173 : r_173 = lN (Nat.gcd (abvN sa T (rnG sz nu (nn sheet)) (nn til) (nn od)) 16) := hq_173
                  refine fx_tl (show r_173 = (lN (Nat.gcd (abvN sa T (rnG sz nu (nn sheet)) (nn til) (nn od)) 16)) from hq_173) ?_
                  have hgp : 0 < (Nat.gcd (abvN sa T (rnG sz nu (nn sheet)) (nn til) (nn od)) 16) := Nat.gcd_pos_of_pos_right _ (by decide)
                  have hgl : (Nat.gcd (abvN sa T (rnG sz nu (nn sheet)) (nn til) (nn od)) 16) ≤ 16 := Nat.gcd_le_right _ (by decide)
                  refine lv_ldiv hx hb dX0_erring_176 (lN_ne0 (by omega) hgp) ?_
                  exact hret ((lN (abvN sa T (rnG sz nu (nn sheet)) (nn til) (nn od))) / (lN (Nat.gcd (abvN sa T (rnG sz nu (nn sheet)) (nn til) (nn od)) 16))) (er, row2_65, nm2_115, pl2_115) (by rw [lN_divs (by omega) (by omega) hgp]; simp only [erring_, hbc, h0, eE_0, errN]; rw [if_pos trivial, if_pos c_157]) hP hD hS (Nat.le_refl _) (Nat.le_refl _) dX0_erring_177
            · -- fall 75
              have n_72 := fx_le0 (a := (tellC bt sz nu (nn sheet) 30)) (b := 0) c_72 (by omega) (by omega)
              refine lv_aload_n hx hb dX0_erring_75 rfl (lv_at hl 3 rfl) ?_
              refine lv_iload hx hb dX0_erring_76 (lv_at hl 0 rfl) ?_
              refine fx_ci (va_runV (As := [.int (nI (tellC bt sz nu (nn sheet) 30))]) (rest := []) X (xX0_finds l E ax im bn bm fm ff fl er (tellC bt sz nu (nn sheet) 30) (by omega) _) (cwV 1 X.2.2.2.2 (lw_V q303 q305 qs0 q69 q306) rfl rfl rfl ⟨rfl, hdX0_finds⟩ ⟨Nat.le_of_ble_eq_true rfl, Nat.le_of_ble_eq_true rfl⟩) (fx_preV (fx_pre hE hP hD hS hR [0] rfl rfl (fx_rcr 0 rfl fx_rc0)) (va_recv hE.1 (hR.at hS) (ci := 0) (q0 := 0) rfl rfl)) rfl rfl hl.1 rfl (lv_room (Nat.le_of_ble_eq_true rfl)) dX0_erring_78 ⟨Nat.le_refl _, Nat.le_refl _⟩) hP hD hS hA [0] rfl rfl (fun r_78 u H locs hq_78 hP hD hS => ?_)
              replace hP : va_P E.1 clA [(ax 5, .inl (E.2 0, 7, .inl (upd er (tellC bt sz nu (nn sheet) 30) (er (tellC bt sz nu (nn sheet) 30) + 1)))), (ax 9, .inl (E.2 1, 8, .inl row2_65)), (ax 1, .inl (E.2 0, 3, .inl nmd)), (ax 0, .inl (E.2 0, 60, .inl pl))] _ := hP
              replace hD : va_D A [(ax 5, .inl (E.2 0, 7, .inl (upd er (tellC bt sz nu (nn sheet) 30) (er (tellC bt sz nu (nn sheet) 30) + 1)))), (ax 9, .inl (E.2 1, 8, .inl row2_65)), (ax 1, .inl (E.2 0, 3, .inl nmd)), (ax 0, .inl (E.2 0, 60, .inl pl))] := hD
              replace hq_78 : r_78 = erv (tellC bt sz nu (nn sheet) 30) := hq_78
              refine lv_i2l (v := r_78.toInt64) hx hb dX0_erring_81 rfl ?_
              exact hret r_78.toInt64 ((upd er (tellC bt sz nu (nn sheet) 30) (er (tellC bt sz nu (nn sheet) 30) + 1)), row2_65, nmd, pl) (by rw [hq_78]; simp only [erring_, hbc, eE_p n_72, erI]; rw [if_neg (by omega)]) hP hD hS (Nat.le_refl _) (Nat.le_refl _) dX0_erring_82
          · -- False
            subst hr_44
            have hbc : errC bt sz nu sheet til od pa = 1 := (by rw [errC]; exact lack_no (Or.inr (Or.inr (by rw [Bool.eq_false_iff.2 hb_44, Bool.and_false]; exact Bool.false_ne_true))))
            refine lv_if_ne (tgt := 57) hx hb dX0_erring_47 (by decide) (fun c => (c (by decide)).elim) (fun _ => ?_)
            refine lv_aload_n hx hb dX0_erring_50 rfl (lv_at hl 2 rfl) ?_
            refine lv_iconst (v := 1) hx hb dX0_erring_51 rfl ?_
            refine fx_ci (va_runV (As := [.int 1]) (rest := []) X (xX0_finds l E ax im bn bm fm ff fl er 1 (by decide) _) (cwV 1 X.2.2.2.2 (lw_V q303 q305 qs0 q69 q306) rfl rfl rfl ⟨rfl, hdX0_finds⟩ ⟨Nat.le_of_ble_eq_true rfl, Nat.le_of_ble_eq_true rfl⟩) (fx_preV (fx_pre hE hP hD hS hR [0] rfl rfl (fx_rcr 0 rfl fx_rc0)) (va_recv hE.1 (hR.at hS) (ci := 0) (q0 := 0) rfl rfl)) rfl rfl hl.1 rfl (lv_room (Nat.le_of_ble_eq_true rfl)) dX0_erring_52 ⟨Nat.le_refl _, Nat.le_refl _⟩) hP hD hS hA [0] rfl rfl (fun r_52 u H locs hq_52 hP hD hS => ?_)
            replace hP : va_P E.1 clA [(ax 5, .inl (E.2 0, 7, .inl (upd er 1 (er 1 + 1)))), (ax 9, .inl (E.2 1, 8, .inl bk)), (ax 1, .inl (E.2 0, 3, .inl nmd)), (ax 0, .inl (E.2 0, 60, .inl pl))] _ := hP
            replace hD : va_D A [(ax 5, .inl (E.2 0, 7, .inl (upd er 1 (er 1 + 1)))), (ax 9, .inl (E.2 1, 8, .inl bk)), (ax 1, .inl (E.2 0, 3, .inl nmd)), (ax 0, .inl (E.2 0, 60, .inl pl))] := hD
            replace hq_52 : r_52 = erv 1 := hq_52
            refine lv_i2l (v := r_52.toInt64) hx hb dX0_erring_55 rfl ?_
            exact hret r_52.toInt64 ((upd er 1 (er 1 + 1)), bk, nmd, pl) (by rw [hq_52]; simp only [erring_, hbc]; rfl) hP hD hS (Nat.le_refl _) (Nat.le_refl _) dX0_erring_56
    · -- False
      subst hr_20
      have hbc : errC bt sz nu sheet til od pa = 1 := lack_no (Or.inr (Or.inl hb_20))
      refine lv_if_eq (tgt := 50) hx hb dX0_erring_23 (by decide) (fun _ => ?_) (fun c => (c (by decide)).elim)
      refine lv_aload_n hx hb dX0_erring_50 rfl (lv_at hl 2 rfl) ?_
      refine lv_iconst (v := 1) hx hb dX0_erring_51 rfl ?_
      refine fx_ci (va_runV (As := [.int 1]) (rest := []) X (xX0_finds l E ax im bn bm fm ff fl er 1 (by decide) _) (cwV 1 X.2.2.2.2 (lw_V q303 q305 qs0 q69 q306) rfl rfl rfl ⟨rfl, hdX0_finds⟩ ⟨Nat.le_of_ble_eq_true rfl, Nat.le_of_ble_eq_true rfl⟩) (fx_preV (fx_pre hE hP hD hS hR [0] rfl rfl (fx_rcr 0 rfl fx_rc0)) (va_recv hE.1 (hR.at hS) (ci := 0) (q0 := 0) rfl rfl)) rfl rfl hl.1 rfl (lv_room (Nat.le_of_ble_eq_true rfl)) dX0_erring_52 ⟨Nat.le_refl _, Nat.le_refl _⟩) hP hD hS hA [0] rfl rfl (fun r_52 u H locs hq_52 hP hD hS => ?_)
      replace hP : va_P E.1 clA [(ax 5, .inl (E.2 0, 7, .inl (upd er 1 (er 1 + 1)))), (ax 9, .inl (E.2 1, 8, .inl bk)), (ax 1, .inl (E.2 0, 3, .inl nmd)), (ax 0, .inl (E.2 0, 60, .inl pl))] _ := hP
      replace hD : va_D A [(ax 5, .inl (E.2 0, 7, .inl (upd er 1 (er 1 + 1)))), (ax 9, .inl (E.2 1, 8, .inl bk)), (ax 1, .inl (E.2 0, 3, .inl nmd)), (ax 0, .inl (E.2 0, 60, .inl pl))] := hD
      replace hq_52 : r_52 = erv 1 := hq_52
      refine lv_i2l (v := r_52.toInt64) hx hb dX0_erring_55 rfl ?_
      exact hret r_52.toInt64 ((upd er 1 (er 1 + 1)), bk, nmd, pl) (by rw [hq_52]; simp only [erring_, hbc]; rfl) hP hD hS (Nat.le_refl _) (Nat.le_refl _) dX0_erring_56
  · -- False
    subst hr_13
    have hbc : errC bt sz nu sheet til od pa = 1 := lack_no (Or.inl hb_13)
    refine lv_if_eq (tgt := 50) hx hb dX0_erring_16 (by decide) (fun _ => ?_) (fun c => (c (by decide)).elim)
    refine lv_aload_n hx hb dX0_erring_50 rfl (lv_at hl 2 rfl) ?_
    refine lv_iconst (v := 1) hx hb dX0_erring_51 rfl ?_
    refine fx_ci (va_runV (As := [.int 1]) (rest := []) X (xX0_finds l E ax im bn bm fm ff fl er 1 (by decide) _) (cwV 1 X.2.2.2.2 (lw_V q303 q305 qs0 q69 q306) rfl rfl rfl ⟨rfl, hdX0_finds⟩ ⟨Nat.le_of_ble_eq_true rfl, Nat.le_of_ble_eq_true rfl⟩) (fx_preV (fx_pre hE hP hD hS hR [0] rfl rfl (fx_rcr 0 rfl fx_rc0)) (va_recv hE.1 (hR.at hS) (ci := 0) (q0 := 0) rfl rfl)) rfl rfl hl.1 rfl (lv_room (Nat.le_of_ble_eq_true rfl)) dX0_erring_52 ⟨Nat.le_refl _, Nat.le_refl _⟩) hP hD hS hA [0] rfl rfl (fun r_52 u H locs hq_52 hP hD hS => ?_)
    replace hP : va_P E.1 clA [(ax 5, .inl (E.2 0, 7, .inl (upd er 1 (er 1 + 1)))), (ax 9, .inl (E.2 1, 8, .inl bk)), (ax 1, .inl (E.2 0, 3, .inl nmd)), (ax 0, .inl (E.2 0, 60, .inl pl))] _ := hP
    replace hD : va_D A [(ax 5, .inl (E.2 0, 7, .inl (upd er 1 (er 1 + 1)))), (ax 9, .inl (E.2 1, 8, .inl bk)), (ax 1, .inl (E.2 0, 3, .inl nmd)), (ax 0, .inl (E.2 0, 60, .inl pl))] := hD
    replace hq_52 : r_52 = erv 1 := hq_52
    refine lv_i2l (v := r_52.toInt64) hx hb dX0_erring_55 rfl ?_
    exact hret r_52.toInt64 ((upd er 1 (er 1 + 1)), bk, nmd, pl) (by rw [hq_52]; simp only [erring_, hbc]; rfl) hP hD hS (Nat.le_refl _) (Nat.le_refl _) dX0_erring_56
