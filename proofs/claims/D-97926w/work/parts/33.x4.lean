set_option maxRecDepth 100000
theorem hdX0_faultOf : yX0_faultOf.cls ≠ "java/lang/invoke/MethodHandle" ∧ yX0_faultOf.cls ≠ "java/lang/invoke/VarHandle" ∧ (parseMethodDescriptor yX0_faultOf.desc).map (fun d => d.parameters.length) = some 3 := by decide +kernel
theorem hdX0_paysOf : yX0_paysOf.cls ≠ "java/lang/invoke/MethodHandle" ∧ yX0_paysOf.cls ≠ "java/lang/invoke/VarHandle" ∧ (parseMethodDescriptor yX0_paysOf.desc).map (fun d => d.parameters.length) = some 2 := by decide +kernel
abbrev rxX0_faultOf : Room := { frames := 1, cells := 0, slots := 0, locals := 22 }
set_option maxHeartbeats 1000000 in
set_option maxRecDepth 100000 in
theorem xX0_faultOf (l : Launch) (E : fx_En) (ax : Nat → Nat) (im : Int32) (bn : Int32) (bm : Int32) (fm : Int32) (ff : Int32) (fl : Int32) (bt : Nat → Int32) (sz : Nat → Int32) (nu : Nat → Int32) (sh : Nat → Option Nat) (h : Nat) (row : Nat → Int32) (k : Nat) (mo : Nat) (PL : va_W) (hk : k < 4) (hIS : InvS bt sz) (hSH : SHS E PL bt sz nu sh) (hmo : mo < 2147483648) : fx_Mi l yX0_faultOf cX0_faultOf 7 .int rxX0_faultOf E [.ref (ax 19), .int (nI k), .ref h, .int (nI mo)] [(h, .inl (E.2 1, 8, .inl row))] ([(ax 19, .inr (0, [.ref (ax 0), .ref (ax 1), .ref (ax 35), .ref (ax 55), .ref (ax 4), .ref (ax 5), .ref (ax 6), .ref (ax 7), .int im, .ref (ax 9), .ref (ax 10), .ref (ax 11), .ref (ax 12), .ref (ax 13), .int bn, .int bm, .int fm, .int ff, .int fl])), (ax 6, .inl (E.2 3, 4, .inr (.inr (.inr (.inr (fun i_ => some (ax (64 + i_)))))))), (ax 64, .inr (2, [va_rf (sh 0)])), (ax 65, .inr (2, [va_rf (sh 1)])), (ax 66, .inr (2, [va_rf (sh 2)])), (ax 67, .inr (2, [va_rf (sh 3)]))] ++ PL) (S := (Nat → Int32)) (fun (u : (Nat → Int32)) => [(h, .inl (E.2 1, 8, .inl u))]) (fun (r : Int32) (u : (Nat → Int32)) => r = nI (tellC bt sz nu k mo) ∧ (tellC bt sz nu k mo = 0 → ∀ t, t < 8 → u t = shG sz nu k t)) := by
  refine fx_iW rfl rfl ?_
  intro p e s m args below meth c A ls Q X hE hP hD hR hA hl hret
  have hx := X.1
  have hb := X.2.1
  have hS : va_S A s.heap s.heap [] := va_S.rf
  replace hP : va_P E.1 clA [(h, .inl (E.2 1, 8, .inl row))] _ := hP
  replace hD : va_D A [(h, .inl (E.2 1, 8, .inl row))] := hD
  replace hl : lv_has ls 7 [(0, .ref (ax 19)), (1, .int (nI k)), (2, .ref h), (3, .int (nI mo))] := hl
  have hsh : ((ax (64 + k), .inr (2, [va_rf (sh k)])) : Nat × va_E) ∈ ([(ax 19, .inr (0, [.ref (ax 0), .ref (ax 1), .ref (ax 35), .ref (ax 55), .ref (ax 4), .ref (ax 5), .ref (ax 6), .ref (ax 7), .int im, .ref (ax 9), .ref (ax 10), .ref (ax 11), .ref (ax 12), .ref (ax 13), .int bn, .int bm, .int fm, .int ff, .int fl])), (ax 6, .inl (E.2 3, 4, .inr (.inr (.inr (.inr (fun i_ => some (ax (64 + i_)))))))), (ax 64, .inr (2, [va_rf (sh 0)])), (ax 65, .inr (2, [va_rf (sh 1)])), (ax 66, .inr (2, [va_rf (sh 2)])), (ax 67, .inr (2, [va_rf (sh 3)]))] ++ PL) := by rcases (show k = 0 ∨ k = 1 ∨ k = 2 ∨ k = 3 by omega) with h | h | h | h <;> rw [h] <;> first | exact List.mem_of_getElem? (i := 2) rfl | exact List.mem_of_getElem? (i := 3) rfl | exact List.mem_of_getElem? (i := 4) rfl | exact List.mem_of_getElem? (i := 5) rfl
  have hsz := hIS.sz hk
  have hsz2 := hsz.2
  refine lv_aload_n hx hb dX0_faultOf_0 rfl (lv_at hl 0 rfl) ?_
  refine fx_get X hE (hR.at hS) 0 rfl rfl 6 rfl q241 rfl rfl dX0_faultOf_1 ?_
  refine lv_iload_n hx hb dX0_faultOf_4 rfl (lv_at hl 1 rfl) ?_
  refine fx_aald X hE (hR.at hS) 1 3 rfl rfl k rfl (by omega) rfl (r := some (ax (64 + k))) (rfl) dX0_faultOf_5 ?_
  refine fx_getN X hE (fx_one (hR.at hS) hsh) 0 rfl rfl 0 rfl 2 rfl rfl rfl dX0_faultOf_6 ?_
  rcases hSH k hk with ⟨hs0, hb0⟩ | ⟨ra, rf, hs0, hf, ⟨hb0, hrc⟩ | ⟨hb0, hrc⟩ | ⟨hb0, hrc⟩⟩
  ·
    rw [hs0]
    refine lv_astoreN (lv' := [(4, .null), (0, .ref (ax 19)), (1, .int (nI k)), (2, .ref h), (3, .int (nI mo))]) hx hb dX0_faultOf_9 hl (by decide) rfl (fun ls hl => ?_)
    refine lv_aloadN hx hb dX0_faultOf_11 (lv_at hl 0 rfl) ?_
    refine lv_ifnonnullN hx hb dX0_faultOf_13 ?_
    refine lv_iconst (v := 2) hx hb dX0_faultOf_16 rfl ?_
    exact hret 2 (row) (⟨by rw [tellC_2 hb0]; rfl, fun hh => by rw [tellC_2 hb0] at hh; omega⟩) (rfl) hP hD hS (Nat.le_refl _) (Nat.le_refl _) dX0_faultOf_17
  ·
    rw [hs0]
    refine lv_astore (lv' := [(4, .ref ra), (0, .ref (ax 19)), (1, .int (nI k)), (2, .ref h), (3, .int (nI mo))]) hx hb dX0_faultOf_9 hl (by decide) rfl (fun ls hl => ?_)
    refine lv_aload hx hb dX0_faultOf_11 (lv_at hl 0 rfl) ?_
    refine lv_ifnonnull (tgt := 18) hx hb dX0_faultOf_13 (by decide) ?_
    have hbt : ¬ bt k = 0 := by rw [hb0]; decide
    refine lv_iconst (v := 0) hx hb dX0_faultOf_18 rfl ?_
    refine lv_istore (lv' := [(5, .int 0), (4, .ref ra), (0, .ref (ax 19)), (1, .int (nI k)), (2, .ref h), (3, .int (nI mo))]) hx hb dX0_faultOf_19 hl (by decide) rfl (fun ls hl => ?_)
    have loop_21 : ∀ (n_21 : Nat) (t : Nat) (gz : Nat → Int32), (8 - t < n_21) → (t ≤ 8) → (∀ i, i < t → gz i = shG sz nu k i) → (∀ i, i < t → inB (shG sz nu k i) 0 9 = true) → ∀ (H : Heap) (locs : List Loc), va_P E.1 clA [(h, .inl (E.2 1, 8, .inl gz))] H → va_D A [(h, .inl (E.2 1, 8, .inl gz))] → va_S A s.heap H locs → ∀ (ls : Array Slot), lv_has ls 7 [(5, .int (nI t)), (4, .ref ra), (0, .ref (ax 19)), (1, .int (nI k)), (2, .ref h), (3, .int (nI mo))] → W p l e rxX0_faultOf s m args below meth c H locs 0 0 Q (F0 m 21 ls []) := by
      intro n_21
      induction n_21 with
      | zero => intro t gz hm_21; exact absurd hm_21 (Nat.not_lt_zero _)
      | succ n_21 ih_21 =>
        intro t gz hm_21 ht hg hall H locs hP hD hS ls hl
        refine lv_iload hx hb dX0_faultOf_21 (lv_at hl 0 rfl) ?_
        refine lv_bipush (v := 8) hx hb dX0_faultOf_23 rfl ?_
        refine lv_icmp_ge (tgt := 77) hx hb dX0_faultOf_25 (by decide) (fun c_25 => ?_) (fun c_25 => ?_)
        · -- jump 77
          have n_25 := fx_le1 (a := 8) (b := t) c_25 (by omega) (by omega)
          obtain rfl : t = 8 := by omega
          have hrn := rn_of hg hall
          have hml := manyN_le (rn := rnG sz nu k) (a := 9) 8 (fun t ht => (hrn t ht).2)
          refine lv_aload_n hx hb dX0_faultOf_77 rfl (lv_at hl 4 rfl) ?_
          refine fx_ci (va_runS (As := [.ref h]) (rest := []) X (xX0_manyIn l E h gz _) (va_cwS 1 X.2.2.2.2 (lw_S q822 q823 q69 q824) rfl rfl rfl hdX0_manyIn ⟨Nat.le_of_ble_eq_true rfl, Nat.le_of_ble_eq_true rfl⟩) (fx_pre hE hP hD hS hR [] rfl rfl (fx_rcm 0 rfl (by decide) fx_rc0)) rfl rfl hl.1 rfl (lv_room (Nat.le_of_ble_eq_true rfl)) dX0_faultOf_78 ⟨Nat.le_refl _, Nat.le_refl _⟩) hP hD hS hA [] rfl rfl (fun r_78 u H locs hq_78 hP hD hS => ?_)
          replace hP : va_P E.1 clA [(h, .inl (E.2 1, 8, .inl gz))] _ := hP
          replace hD : va_D A [(h, .inl (E.2 1, 8, .inl gz))] := hD
          replace hq_78 : r_78 = l_sum gz 8 := hq_78
          refine fx_ti (show r_78 = nI (manyN (rnG sz nu k) 8) from hq_78.trans (manyN_I 8 (fun t ht => (hrn t ht).1))) ?_
          refine lv_iload_n hx hb dX0_faultOf_81 rfl (lv_at hl 5 rfl) ?_
          refine lv_icmp_le (tgt := 89) hx hb dX0_faultOf_82 (by decide) (fun c_82 => ?_) (fun c_82 => ?_)
          · -- jump 89
            have n_82 := fx_le1 (a := (manyN (rnG sz nu k) 8)) (b := mo) c_82 (by omega) (by omega)
            refine lv_iconst (v := 0) hx hb dX0_faultOf_89 rfl ?_
            exact hret 0 (gz) (⟨by rw [tellC_all hbt hall, if_neg (show ¬ mo < manyN (rnG sz nu k) 8 by omega)]; rfl, fun _ => hg⟩) (rfl) hP hD hS (Nat.le_refl _) (Nat.le_refl _) dX0_faultOf_90
          · -- fall 85
            have n_82 := fx_le0 (a := (manyN (rnG sz nu k) 8)) (b := mo) c_82 (by omega) (by omega)
            refine lv_iconst (v := 4) hx hb dX0_faultOf_85 rfl ?_
            refine lv_goto (tgt := 90) hx hb dX0_faultOf_86 (by decide) ?_
            exact hret 4 (gz) (⟨by rw [tellC_all hbt hall, if_pos n_82]; rfl, fun hh => absurd hh (by rw [tellC_all hbt hall, if_pos n_82]; decide)⟩) (rfl) hP hD hS (Nat.le_refl _) (Nat.le_refl _) dX0_faultOf_90
        · -- fall 28
          have n_25 := fx_le0 (a := 8) (b := t) c_25 (by omega) (by omega)
          refine lv_iload hx hb dX0_faultOf_28 (lv_at hl 0 rfl) ?_
          refine lv_aload hx hb dX0_faultOf_30 (lv_at hl 1 rfl) ?_
          refine fx_ci (va_runS (As := [.ref ra]) (rest := [.int (nI t)]) X (xX0_sizeOfB l E ra (nn (sz k)) rf _) (va_cwS 1 X.2.2.2.2 (lw_S q813 q814 q69 q815) rfl rfl rfl hdX0_sizeOf ⟨Nat.le_of_ble_eq_true rfl, Nat.le_of_ble_eq_true rfl⟩) (fx_pre hE hP hD hS hR [] rfl rfl (fx_rcx ((List.mem_append_right _ hrc)) fx_rc0)) rfl rfl hl.1 rfl (lv_room (Nat.le_of_ble_eq_true rfl)) dX0_faultOf_32 ⟨Nat.le_refl _, Nat.le_refl _⟩) hP hD hS hA [] rfl rfl (fun r_32 u H locs hq_32 hP hD hS => ?_)
          replace hP : va_P E.1 clA [(h, .inl (E.2 1, 8, .inl gz))] _ := hP
          replace hD : va_D A [(h, .inl (E.2 1, 8, .inl gz))] := hD
          replace hq_32 : r_32 = nI (nn (sz k)) := hq_32
          refine fx_ti (show r_32 = nI (nn (sz k)) from hq_32) ?_
          refine lv_icmp_ge (tgt := 48) hx hb dX0_faultOf_35 (by decide) (fun c_35 => ?_) (fun c_35 => ?_)
          · -- jump 48
            have n_35 := fx_le1 (a := (nn (sz k))) (b := t) c_35 (by omega) (by omega)
            refine lv_iconst (v := 0) hx hb dX0_faultOf_48 rfl ?_
            refine fx_ti (show 0 = (shG sz nu k t) from by simp only [shG]; rw [if_neg (by omega)]) ?_
            refine lv_istore (lv' := [(6, .int (shG sz nu k t)), (5, .int (nI t)), (4, .ref ra), (0, .ref (ax 19)), (1, .int (nI k)), (2, .ref h), (3, .int (nI mo))]) hx hb dX0_faultOf_49 hl (by decide) rfl (fun ls hl => ?_)
            refine lv_iload hx hb dX0_faultOf_51 (lv_at hl 0 rfl) ?_
            refine lv_iconst (v := 0) hx hb dX0_faultOf_53 rfl ?_
            refine lv_bipush (v := 9) hx hb dX0_faultOf_54 rfl ?_
            refine fx_ci (va_runS (As := [.int (shG sz nu k t), .int 0, .int 9]) (rest := []) X (xX0_isIn l E (shG sz nu k t) 0 9 _) (va_cwS 3 X.2.2.2.2 (lw_S q300 q301 q69 q302) rfl rfl rfl hdX0_isIn ⟨Nat.le_of_ble_eq_true rfl, Nat.le_of_ble_eq_true rfl⟩) (fx_pre hE hP hD hS hR [] rfl rfl fx_rc0) rfl rfl hl.1 rfl (lv_room (Nat.le_of_ble_eq_true rfl)) dX0_faultOf_56 ⟨Nat.le_refl _, Nat.le_refl _⟩) hP hD hS hA [] rfl rfl (fun r_56 u H locs hq_56 hP hD hS => ?_)
            replace hP : va_P E.1 clA [(h, .inl (E.2 1, 8, .inl gz))] _ := hP
            replace hD : va_D A [(h, .inl (E.2 1, 8, .inl gz))] := hD
            replace hq_56 : r_56 = fx_b (inB (shG sz nu k t) 0 9 = true) := hq_56
            rcases fx_bc hq_56 with ⟨hb_56, hr_56⟩ | ⟨hb_56, hr_56⟩
            · -- True
              subst hr_56
              refine lv_if_ne (tgt := 64) hx hb dX0_faultOf_59 (by decide) (fun _ => ?_) (fun c => absurd c (by decide))
              refine lv_aload_n hx hb dX0_faultOf_64 rfl (lv_at hl 5 rfl) ?_
              refine lv_iload hx hb dX0_faultOf_65 (lv_at hl 1 rfl) ?_
              refine lv_iload hx hb dX0_faultOf_67 (lv_at hl 0 rfl) ?_
              refine lv_i2b (v := (shG sz nu k t).toInt8.toInt32) hx hb dX0_faultOf_69 rfl ?_
              refine fx_bast (ws' := [(h, .inl (E.2 1, 8, .inl (upd gz t (shG sz nu k t))))]) X hE hP hD hS 0 rfl t rfl (by omega) rfl (by rw [pk_bidem]; exact nar8 hb_56) rfl dX0_faultOf_70 (fun H locs hP hD hS => ?_)
              refine lv_iinc (v := nI (t + 1)) (lv' := [(5, .int (nI (t + 1))), (6, .int (shG sz nu k t)), (4, .ref ra), (0, .ref (ax 19)), (1, .int (nI k)), (2, .ref h), (3, .int (nI mo))]) hx hb dX0_faultOf_71 hl (k := 1) rfl (fx_inc _) (by decide) rfl (fun ls hl => ?_)
              refine lv_goto (tgt := 21) hx hb dX0_faultOf_74 (by decide) ?_
              exact ih_21 (t + 1) (upd gz t (shG sz nu k t)) (by omega) (by omega) (ext_s hg rfl) (fun i hi => by rcases Nat.lt_or_ge i t with q | q; exact hall i q; rw [show i = t by omega]; exact hb_56) _ _ hP hD hS ls (lv_sub hl [0, 2, 3, 4, 5, 6] rfl)
            · -- False
              subst hr_56
              refine lv_if_ne (tgt := 64) hx hb dX0_faultOf_59 (by decide) (fun c => (c (by decide)).elim) (fun _ => ?_)
              refine lv_iconst (v := 1) hx hb dX0_faultOf_62 rfl ?_
              exact hret 1 (gz) (⟨by rw [tellC_1 hbt n_25 hb_56]; rfl, fun hh => by rw [tellC_1 hbt n_25 hb_56] at hh; omega⟩) (rfl) hP hD hS (Nat.le_refl _) (Nat.le_refl _) dX0_faultOf_63
          · -- fall 38
            have n_35 := fx_le0 (a := (nn (sz k))) (b := t) c_35 (by omega) (by omega)
            refine lv_aload hx hb dX0_faultOf_38 (lv_at hl 1 rfl) ?_
            refine lv_iload hx hb dX0_faultOf_40 (lv_at hl 0 rfl) ?_
            refine fx_ci (va_runS (As := [.ref ra, .int (nI t)]) (rest := []) X (xX0_numberOfB l E ra (nn (sz k)) rf t n_35 hsz2 _) (va_cwS 2 X.2.2.2.2 (lw_S q819 q820 q69 q821) rfl rfl rfl hdX0_numberOf ⟨Nat.le_of_ble_eq_true rfl, Nat.le_of_ble_eq_true rfl⟩) (fx_pre hE hP hD hS hR [] rfl rfl (fx_rcx ((List.mem_append_right _ hrc)) fx_rc0)) rfl rfl hl.1 rfl (lv_room (Nat.le_of_ble_eq_true rfl)) dX0_faultOf_42 ⟨Nat.le_refl _, Nat.le_refl _⟩) hP hD hS hA [] rfl rfl (fun r_42 u H locs hq_42 hP hD hS => ?_)
            replace hP : va_P E.1 clA [(h, .inl (E.2 1, 8, .inl gz))] _ := hP
            replace hD : va_D A [(h, .inl (E.2 1, 8, .inl gz))] := hD
            replace hq_42 : r_42 = rf t := hq_42
            refine lv_goto (tgt := 49) hx hb dX0_faultOf_45 (by decide) ?_
            refine fx_ti (show r_42 = (shG sz nu k t) from hq_42.trans ((hf t n_35).trans (by simp only [shG]; rw [if_pos n_35]))) ?_
            refine lv_istore (lv' := [(6, .int (shG sz nu k t)), (5, .int (nI t)), (4, .ref ra), (0, .ref (ax 19)), (1, .int (nI k)), (2, .ref h), (3, .int (nI mo))]) hx hb dX0_faultOf_49 hl (by decide) rfl (fun ls hl => ?_)
            refine lv_iload hx hb dX0_faultOf_51 (lv_at hl 0 rfl) ?_
            refine lv_iconst (v := 0) hx hb dX0_faultOf_53 rfl ?_
            refine lv_bipush (v := 9) hx hb dX0_faultOf_54 rfl ?_
            refine fx_ci (va_runS (As := [.int (shG sz nu k t), .int 0, .int 9]) (rest := []) X (xX0_isIn l E (shG sz nu k t) 0 9 _) (va_cwS 3 X.2.2.2.2 (lw_S q300 q301 q69 q302) rfl rfl rfl hdX0_isIn ⟨Nat.le_of_ble_eq_true rfl, Nat.le_of_ble_eq_true rfl⟩) (fx_pre hE hP hD hS hR [] rfl rfl fx_rc0) rfl rfl hl.1 rfl (lv_room (Nat.le_of_ble_eq_true rfl)) dX0_faultOf_56 ⟨Nat.le_refl _, Nat.le_refl _⟩) hP hD hS hA [] rfl rfl (fun r_56 u H locs hq_56 hP hD hS => ?_)
            replace hP : va_P E.1 clA [(h, .inl (E.2 1, 8, .inl gz))] _ := hP
            replace hD : va_D A [(h, .inl (E.2 1, 8, .inl gz))] := hD
            replace hq_56 : r_56 = fx_b (inB (shG sz nu k t) 0 9 = true) := hq_56
            rcases fx_bc hq_56 with ⟨hb_56, hr_56⟩ | ⟨hb_56, hr_56⟩
            · -- True
              subst hr_56
              refine lv_if_ne (tgt := 64) hx hb dX0_faultOf_59 (by decide) (fun _ => ?_) (fun c => absurd c (by decide))
              refine lv_aload_n hx hb dX0_faultOf_64 rfl (lv_at hl 5 rfl) ?_
              refine lv_iload hx hb dX0_faultOf_65 (lv_at hl 1 rfl) ?_
              refine lv_iload hx hb dX0_faultOf_67 (lv_at hl 0 rfl) ?_
              refine lv_i2b (v := (shG sz nu k t).toInt8.toInt32) hx hb dX0_faultOf_69 rfl ?_
              refine fx_bast (ws' := [(h, .inl (E.2 1, 8, .inl (upd gz t (shG sz nu k t))))]) X hE hP hD hS 0 rfl t rfl (by omega) rfl (by rw [pk_bidem]; exact nar8 hb_56) rfl dX0_faultOf_70 (fun H locs hP hD hS => ?_)
              refine lv_iinc (v := nI (t + 1)) (lv' := [(5, .int (nI (t + 1))), (6, .int (shG sz nu k t)), (4, .ref ra), (0, .ref (ax 19)), (1, .int (nI k)), (2, .ref h), (3, .int (nI mo))]) hx hb dX0_faultOf_71 hl (k := 1) rfl (fx_inc _) (by decide) rfl (fun ls hl => ?_)
              refine lv_goto (tgt := 21) hx hb dX0_faultOf_74 (by decide) ?_
              exact ih_21 (t + 1) (upd gz t (shG sz nu k t)) (by omega) (by omega) (ext_s hg rfl) (fun i hi => by rcases Nat.lt_or_ge i t with q | q; exact hall i q; rw [show i = t by omega]; exact hb_56) _ _ hP hD hS ls (lv_sub hl [0, 2, 3, 4, 5, 6] rfl)
            · -- False
              subst hr_56
              refine lv_if_ne (tgt := 64) hx hb dX0_faultOf_59 (by decide) (fun c => (c (by decide)).elim) (fun _ => ?_)
              refine lv_iconst (v := 1) hx hb dX0_faultOf_62 rfl ?_
              exact hret 1 (gz) (⟨by rw [tellC_1 hbt n_25 hb_56]; rfl, fun hh => by rw [tellC_1 hbt n_25 hb_56] at hh; omega⟩) (rfl) hP hD hS (Nat.le_refl _) (Nat.le_refl _) dX0_faultOf_63
    exact loop_21 ((8 - 0) + 1) 0 row (Nat.lt_succ_self _) (by omega) (fun i hi => absurd hi (Nat.not_lt_zero _)) (fun i hi => absurd hi (Nat.not_lt_zero _)) _ _ hP hD hS ls (lv_sub hl [0, 1, 2, 3, 4, 5] rfl)
  ·
    rw [hs0]
    refine lv_astore (lv' := [(4, .ref ra), (0, .ref (ax 19)), (1, .int (nI k)), (2, .ref h), (3, .int (nI mo))]) hx hb dX0_faultOf_9 hl (by decide) rfl (fun ls hl => ?_)
    refine lv_aload hx hb dX0_faultOf_11 (lv_at hl 0 rfl) ?_
    refine lv_ifnonnull (tgt := 18) hx hb dX0_faultOf_13 (by decide) ?_
    have hbt : ¬ bt k = 0 := by rw [hb0]; decide
    refine lv_iconst (v := 0) hx hb dX0_faultOf_18 rfl ?_
    refine lv_istore (lv' := [(5, .int 0), (4, .ref ra), (0, .ref (ax 19)), (1, .int (nI k)), (2, .ref h), (3, .int (nI mo))]) hx hb dX0_faultOf_19 hl (by decide) rfl (fun ls hl => ?_)
    have loop_21 : ∀ (n_21 : Nat) (t : Nat) (gz : Nat → Int32), (8 - t < n_21) → (t ≤ 8) → (∀ i, i < t → gz i = shG sz nu k i) → (∀ i, i < t → inB (shG sz nu k i) 0 9 = true) → ∀ (H : Heap) (locs : List Loc), va_P E.1 clA [(h, .inl (E.2 1, 8, .inl gz))] H → va_D A [(h, .inl (E.2 1, 8, .inl gz))] → va_S A s.heap H locs → ∀ (ls : Array Slot), lv_has ls 7 [(5, .int (nI t)), (4, .ref ra), (0, .ref (ax 19)), (1, .int (nI k)), (2, .ref h), (3, .int (nI mo))] → W p l e rxX0_faultOf s m args below meth c H locs 0 0 Q (F0 m 21 ls []) := by
      intro n_21
      induction n_21 with
      | zero => intro t gz hm_21; exact absurd hm_21 (Nat.not_lt_zero _)
      | succ n_21 ih_21 =>
        intro t gz hm_21 ht hg hall H locs hP hD hS ls hl
        refine lv_iload hx hb dX0_faultOf_21 (lv_at hl 0 rfl) ?_
        refine lv_bipush (v := 8) hx hb dX0_faultOf_23 rfl ?_
        refine lv_icmp_ge (tgt := 77) hx hb dX0_faultOf_25 (by decide) (fun c_25 => ?_) (fun c_25 => ?_)
        · -- jump 77
          have n_25 := fx_le1 (a := 8) (b := t) c_25 (by omega) (by omega)
          obtain rfl : t = 8 := by omega
          have hrn := rn_of hg hall
          have hml := manyN_le (rn := rnG sz nu k) (a := 9) 8 (fun t ht => (hrn t ht).2)
          refine lv_aload_n hx hb dX0_faultOf_77 rfl (lv_at hl 4 rfl) ?_
          refine fx_ci (va_runS (As := [.ref h]) (rest := []) X (xX0_manyIn l E h gz _) (va_cwS 1 X.2.2.2.2 (lw_S q822 q823 q69 q824) rfl rfl rfl hdX0_manyIn ⟨Nat.le_of_ble_eq_true rfl, Nat.le_of_ble_eq_true rfl⟩) (fx_pre hE hP hD hS hR [] rfl rfl (fx_rcm 0 rfl (by decide) fx_rc0)) rfl rfl hl.1 rfl (lv_room (Nat.le_of_ble_eq_true rfl)) dX0_faultOf_78 ⟨Nat.le_refl _, Nat.le_refl _⟩) hP hD hS hA [] rfl rfl (fun r_78 u H locs hq_78 hP hD hS => ?_)
          replace hP : va_P E.1 clA [(h, .inl (E.2 1, 8, .inl gz))] _ := hP
          replace hD : va_D A [(h, .inl (E.2 1, 8, .inl gz))] := hD
          replace hq_78 : r_78 = l_sum gz 8 := hq_78
          refine fx_ti (show r_78 = nI (manyN (rnG sz nu k) 8) from hq_78.trans (manyN_I 8 (fun t ht => (hrn t ht).1))) ?_
          refine lv_iload_n hx hb dX0_faultOf_81 rfl (lv_at hl 5 rfl) ?_
          refine lv_icmp_le (tgt := 89) hx hb dX0_faultOf_82 (by decide) (fun c_82 => ?_) (fun c_82 => ?_)
          · -- jump 89
            have n_82 := fx_le1 (a := (manyN (rnG sz nu k) 8)) (b := mo) c_82 (by omega) (by omega)
            refine lv_iconst (v := 0) hx hb dX0_faultOf_89 rfl ?_
            exact hret 0 (gz) (⟨by rw [tellC_all hbt hall, if_neg (show ¬ mo < manyN (rnG sz nu k) 8 by omega)]; rfl, fun _ => hg⟩) (rfl) hP hD hS (Nat.le_refl _) (Nat.le_refl _) dX0_faultOf_90
          · -- fall 85
            have n_82 := fx_le0 (a := (manyN (rnG sz nu k) 8)) (b := mo) c_82 (by omega) (by omega)
            refine lv_iconst (v := 4) hx hb dX0_faultOf_85 rfl ?_
            refine lv_goto (tgt := 90) hx hb dX0_faultOf_86 (by decide) ?_
            exact hret 4 (gz) (⟨by rw [tellC_all hbt hall, if_pos n_82]; rfl, fun hh => absurd hh (by rw [tellC_all hbt hall, if_pos n_82]; decide)⟩) (rfl) hP hD hS (Nat.le_refl _) (Nat.le_refl _) dX0_faultOf_90
        · -- fall 28
          have n_25 := fx_le0 (a := 8) (b := t) c_25 (by omega) (by omega)
          refine lv_iload hx hb dX0_faultOf_28 (lv_at hl 0 rfl) ?_
          refine lv_aload hx hb dX0_faultOf_30 (lv_at hl 1 rfl) ?_
          refine fx_ci (va_runS (As := [.ref ra]) (rest := [.int (nI t)]) X (xX0_sizeOfS l E ra (nn (sz k)) rf _) (va_cwS 1 X.2.2.2.2 (lw_S q813 q814 q69 q815) rfl rfl rfl hdX0_sizeOf ⟨Nat.le_of_ble_eq_true rfl, Nat.le_of_ble_eq_true rfl⟩) (fx_pre hE hP hD hS hR [] rfl rfl (fx_rcx ((List.mem_append_right _ hrc)) fx_rc0)) rfl rfl hl.1 rfl (lv_room (Nat.le_of_ble_eq_true rfl)) dX0_faultOf_32 ⟨Nat.le_refl _, Nat.le_refl _⟩) hP hD hS hA [] rfl rfl (fun r_32 u H locs hq_32 hP hD hS => ?_)
          replace hP : va_P E.1 clA [(h, .inl (E.2 1, 8, .inl gz))] _ := hP
          replace hD : va_D A [(h, .inl (E.2 1, 8, .inl gz))] := hD
          replace hq_32 : r_32 = nI (nn (sz k)) := hq_32
          refine fx_ti (show r_32 = nI (nn (sz k)) from hq_32) ?_
          refine lv_icmp_ge (tgt := 48) hx hb dX0_faultOf_35 (by decide) (fun c_35 => ?_) (fun c_35 => ?_)
          · -- jump 48
            have n_35 := fx_le1 (a := (nn (sz k))) (b := t) c_35 (by omega) (by omega)
            refine lv_iconst (v := 0) hx hb dX0_faultOf_48 rfl ?_
            refine fx_ti (show 0 = (shG sz nu k t) from by simp only [shG]; rw [if_neg (by omega)]) ?_
            refine lv_istore (lv' := [(6, .int (shG sz nu k t)), (5, .int (nI t)), (4, .ref ra), (0, .ref (ax 19)), (1, .int (nI k)), (2, .ref h), (3, .int (nI mo))]) hx hb dX0_faultOf_49 hl (by decide) rfl (fun ls hl => ?_)
            refine lv_iload hx hb dX0_faultOf_51 (lv_at hl 0 rfl) ?_
            refine lv_iconst (v := 0) hx hb dX0_faultOf_53 rfl ?_
            refine lv_bipush (v := 9) hx hb dX0_faultOf_54 rfl ?_
            refine fx_ci (va_runS (As := [.int (shG sz nu k t), .int 0, .int 9]) (rest := []) X (xX0_isIn l E (shG sz nu k t) 0 9 _) (va_cwS 3 X.2.2.2.2 (lw_S q300 q301 q69 q302) rfl rfl rfl hdX0_isIn ⟨Nat.le_of_ble_eq_true rfl, Nat.le_of_ble_eq_true rfl⟩) (fx_pre hE hP hD hS hR [] rfl rfl fx_rc0) rfl rfl hl.1 rfl (lv_room (Nat.le_of_ble_eq_true rfl)) dX0_faultOf_56 ⟨Nat.le_refl _, Nat.le_refl _⟩) hP hD hS hA [] rfl rfl (fun r_56 u H locs hq_56 hP hD hS => ?_)
            replace hP : va_P E.1 clA [(h, .inl (E.2 1, 8, .inl gz))] _ := hP
            replace hD : va_D A [(h, .inl (E.2 1, 8, .inl gz))] := hD
            replace hq_56 : r_56 = fx_b (inB (shG sz nu k t) 0 9 = true) := hq_56
            rcases fx_bc hq_56 with ⟨hb_56, hr_56⟩ | ⟨hb_56, hr_56⟩
            · -- True
              subst hr_56
              refine lv_if_ne (tgt := 64) hx hb dX0_faultOf_59 (by decide) (fun _ => ?_) (fun c => absurd c (by decide))
              refine lv_aload_n hx hb dX0_faultOf_64 rfl (lv_at hl 5 rfl) ?_
              refine lv_iload hx hb dX0_faultOf_65 (lv_at hl 1 rfl) ?_
              refine lv_iload hx hb dX0_faultOf_67 (lv_at hl 0 rfl) ?_
              refine lv_i2b (v := (shG sz nu k t).toInt8.toInt32) hx hb dX0_faultOf_69 rfl ?_
              refine fx_bast (ws' := [(h, .inl (E.2 1, 8, .inl (upd gz t (shG sz nu k t))))]) X hE hP hD hS 0 rfl t rfl (by omega) rfl (by rw [pk_bidem]; exact nar8 hb_56) rfl dX0_faultOf_70 (fun H locs hP hD hS => ?_)
              refine lv_iinc (v := nI (t + 1)) (lv' := [(5, .int (nI (t + 1))), (6, .int (shG sz nu k t)), (4, .ref ra), (0, .ref (ax 19)), (1, .int (nI k)), (2, .ref h), (3, .int (nI mo))]) hx hb dX0_faultOf_71 hl (k := 1) rfl (fx_inc _) (by decide) rfl (fun ls hl => ?_)
              refine lv_goto (tgt := 21) hx hb dX0_faultOf_74 (by decide) ?_
              exact ih_21 (t + 1) (upd gz t (shG sz nu k t)) (by omega) (by omega) (ext_s hg rfl) (fun i hi => by rcases Nat.lt_or_ge i t with q | q; exact hall i q; rw [show i = t by omega]; exact hb_56) _ _ hP hD hS ls (lv_sub hl [0, 2, 3, 4, 5, 6] rfl)
            · -- False
              subst hr_56
              refine lv_if_ne (tgt := 64) hx hb dX0_faultOf_59 (by decide) (fun c => (c (by decide)).elim) (fun _ => ?_)
              refine lv_iconst (v := 1) hx hb dX0_faultOf_62 rfl ?_
              exact hret 1 (gz) (⟨by rw [tellC_1 hbt n_25 hb_56]; rfl, fun hh => by rw [tellC_1 hbt n_25 hb_56] at hh; omega⟩) (rfl) hP hD hS (Nat.le_refl _) (Nat.le_refl _) dX0_faultOf_63
          · -- fall 38
            have n_35 := fx_le0 (a := (nn (sz k))) (b := t) c_35 (by omega) (by omega)
            refine lv_aload hx hb dX0_faultOf_38 (lv_at hl 1 rfl) ?_
            refine lv_iload hx hb dX0_faultOf_40 (lv_at hl 0 rfl) ?_
            refine fx_ci (va_runS (As := [.ref ra, .int (nI t)]) (rest := []) X (xX0_numberOfS l E ra (nn (sz k)) rf t n_35 hsz2 _) (va_cwS 2 X.2.2.2.2 (lw_S q819 q820 q69 q821) rfl rfl rfl hdX0_numberOf ⟨Nat.le_of_ble_eq_true rfl, Nat.le_of_ble_eq_true rfl⟩) (fx_pre hE hP hD hS hR [] rfl rfl (fx_rcx ((List.mem_append_right _ hrc)) fx_rc0)) rfl rfl hl.1 rfl (lv_room (Nat.le_of_ble_eq_true rfl)) dX0_faultOf_42 ⟨Nat.le_refl _, Nat.le_refl _⟩) hP hD hS hA [] rfl rfl (fun r_42 u H locs hq_42 hP hD hS => ?_)
            replace hP : va_P E.1 clA [(h, .inl (E.2 1, 8, .inl gz))] _ := hP
            replace hD : va_D A [(h, .inl (E.2 1, 8, .inl gz))] := hD
            replace hq_42 : r_42 = rf t := hq_42
            refine lv_goto (tgt := 49) hx hb dX0_faultOf_45 (by decide) ?_
            refine fx_ti (show r_42 = (shG sz nu k t) from hq_42.trans ((hf t n_35).trans (by simp only [shG]; rw [if_pos n_35]))) ?_
            refine lv_istore (lv' := [(6, .int (shG sz nu k t)), (5, .int (nI t)), (4, .ref ra), (0, .ref (ax 19)), (1, .int (nI k)), (2, .ref h), (3, .int (nI mo))]) hx hb dX0_faultOf_49 hl (by decide) rfl (fun ls hl => ?_)
            refine lv_iload hx hb dX0_faultOf_51 (lv_at hl 0 rfl) ?_
            refine lv_iconst (v := 0) hx hb dX0_faultOf_53 rfl ?_
            refine lv_bipush (v := 9) hx hb dX0_faultOf_54 rfl ?_
            refine fx_ci (va_runS (As := [.int (shG sz nu k t), .int 0, .int 9]) (rest := []) X (xX0_isIn l E (shG sz nu k t) 0 9 _) (va_cwS 3 X.2.2.2.2 (lw_S q300 q301 q69 q302) rfl rfl rfl hdX0_isIn ⟨Nat.le_of_ble_eq_true rfl, Nat.le_of_ble_eq_true rfl⟩) (fx_pre hE hP hD hS hR [] rfl rfl fx_rc0) rfl rfl hl.1 rfl (lv_room (Nat.le_of_ble_eq_true rfl)) dX0_faultOf_56 ⟨Nat.le_refl _, Nat.le_refl _⟩) hP hD hS hA [] rfl rfl (fun r_56 u H locs hq_56 hP hD hS => ?_)
            replace hP : va_P E.1 clA [(h, .inl (E.2 1, 8, .inl gz))] _ := hP
            replace hD : va_D A [(h, .inl (E.2 1, 8, .inl gz))] := hD
            replace hq_56 : r_56 = fx_b (inB (shG sz nu k t) 0 9 = true) := hq_56
            rcases fx_bc hq_56 with ⟨hb_56, hr_56⟩ | ⟨hb_56, hr_56⟩
            · -- True
              subst hr_56
              refine lv_if_ne (tgt := 64) hx hb dX0_faultOf_59 (by decide) (fun _ => ?_) (fun c => absurd c (by decide))
              refine lv_aload_n hx hb dX0_faultOf_64 rfl (lv_at hl 5 rfl) ?_
              refine lv_iload hx hb dX0_faultOf_65 (lv_at hl 1 rfl) ?_
              refine lv_iload hx hb dX0_faultOf_67 (lv_at hl 0 rfl) ?_
              refine lv_i2b (v := (shG sz nu k t).toInt8.toInt32) hx hb dX0_faultOf_69 rfl ?_
              refine fx_bast (ws' := [(h, .inl (E.2 1, 8, .inl (upd gz t (shG sz nu k t))))]) X hE hP hD hS 0 rfl t rfl (by omega) rfl (by rw [pk_bidem]; exact nar8 hb_56) rfl dX0_faultOf_70 (fun H locs hP hD hS => ?_)
              refine lv_iinc (v := nI (t + 1)) (lv' := [(5, .int (nI (t + 1))), (6, .int (shG sz nu k t)), (4, .ref ra), (0, .ref (ax 19)), (1, .int (nI k)), (2, .ref h), (3, .int (nI mo))]) hx hb dX0_faultOf_71 hl (k := 1) rfl (fx_inc _) (by decide) rfl (fun ls hl => ?_)
              refine lv_goto (tgt := 21) hx hb dX0_faultOf_74 (by decide) ?_
              exact ih_21 (t + 1) (upd gz t (shG sz nu k t)) (by omega) (by omega) (ext_s hg rfl) (fun i hi => by rcases Nat.lt_or_ge i t with q | q; exact hall i q; rw [show i = t by omega]; exact hb_56) _ _ hP hD hS ls (lv_sub hl [0, 2, 3, 4, 5, 6] rfl)
            · -- False
              subst hr_56
              refine lv_if_ne (tgt := 64) hx hb dX0_faultOf_59 (by decide) (fun c => (c (by decide)).elim) (fun _ => ?_)
              refine lv_iconst (v := 1) hx hb dX0_faultOf_62 rfl ?_
              exact hret 1 (gz) (⟨by rw [tellC_1 hbt n_25 hb_56]; rfl, fun hh => by rw [tellC_1 hbt n_25 hb_56] at hh; omega⟩) (rfl) hP hD hS (Nat.le_refl _) (Nat.le_refl _) dX0_faultOf_63
    exact loop_21 ((8 - 0) + 1) 0 row (Nat.lt_succ_self _) (by omega) (fun i hi => absurd hi (Nat.not_lt_zero _)) (fun i hi => absurd hi (Nat.not_lt_zero _)) _ _ hP hD hS ls (lv_sub hl [0, 1, 2, 3, 4, 5] rfl)
  ·
    rw [hs0]
    refine lv_astore (lv' := [(4, .ref ra), (0, .ref (ax 19)), (1, .int (nI k)), (2, .ref h), (3, .int (nI mo))]) hx hb dX0_faultOf_9 hl (by decide) rfl (fun ls hl => ?_)
    refine lv_aload hx hb dX0_faultOf_11 (lv_at hl 0 rfl) ?_
    refine lv_ifnonnull (tgt := 18) hx hb dX0_faultOf_13 (by decide) ?_
    have hbt : ¬ bt k = 0 := by rw [hb0]; decide
    refine lv_iconst (v := 0) hx hb dX0_faultOf_18 rfl ?_
    refine lv_istore (lv' := [(5, .int 0), (4, .ref ra), (0, .ref (ax 19)), (1, .int (nI k)), (2, .ref h), (3, .int (nI mo))]) hx hb dX0_faultOf_19 hl (by decide) rfl (fun ls hl => ?_)
    have loop_21 : ∀ (n_21 : Nat) (t : Nat) (gz : Nat → Int32), (8 - t < n_21) → (t ≤ 8) → (∀ i, i < t → gz i = shG sz nu k i) → (∀ i, i < t → inB (shG sz nu k i) 0 9 = true) → ∀ (H : Heap) (locs : List Loc), va_P E.1 clA [(h, .inl (E.2 1, 8, .inl gz))] H → va_D A [(h, .inl (E.2 1, 8, .inl gz))] → va_S A s.heap H locs → ∀ (ls : Array Slot), lv_has ls 7 [(5, .int (nI t)), (4, .ref ra), (0, .ref (ax 19)), (1, .int (nI k)), (2, .ref h), (3, .int (nI mo))] → W p l e rxX0_faultOf s m args below meth c H locs 0 0 Q (F0 m 21 ls []) := by
      intro n_21
      induction n_21 with
      | zero => intro t gz hm_21; exact absurd hm_21 (Nat.not_lt_zero _)
      | succ n_21 ih_21 =>
        intro t gz hm_21 ht hg hall H locs hP hD hS ls hl
        refine lv_iload hx hb dX0_faultOf_21 (lv_at hl 0 rfl) ?_
        refine lv_bipush (v := 8) hx hb dX0_faultOf_23 rfl ?_
        refine lv_icmp_ge (tgt := 77) hx hb dX0_faultOf_25 (by decide) (fun c_25 => ?_) (fun c_25 => ?_)
        · -- jump 77
          have n_25 := fx_le1 (a := 8) (b := t) c_25 (by omega) (by omega)
          obtain rfl : t = 8 := by omega
          have hrn := rn_of hg hall
          have hml := manyN_le (rn := rnG sz nu k) (a := 9) 8 (fun t ht => (hrn t ht).2)
          refine lv_aload_n hx hb dX0_faultOf_77 rfl (lv_at hl 4 rfl) ?_
          refine fx_ci (va_runS (As := [.ref h]) (rest := []) X (xX0_manyIn l E h gz _) (va_cwS 1 X.2.2.2.2 (lw_S q822 q823 q69 q824) rfl rfl rfl hdX0_manyIn ⟨Nat.le_of_ble_eq_true rfl, Nat.le_of_ble_eq_true rfl⟩) (fx_pre hE hP hD hS hR [] rfl rfl (fx_rcm 0 rfl (by decide) fx_rc0)) rfl rfl hl.1 rfl (lv_room (Nat.le_of_ble_eq_true rfl)) dX0_faultOf_78 ⟨Nat.le_refl _, Nat.le_refl _⟩) hP hD hS hA [] rfl rfl (fun r_78 u H locs hq_78 hP hD hS => ?_)
          replace hP : va_P E.1 clA [(h, .inl (E.2 1, 8, .inl gz))] _ := hP
          replace hD : va_D A [(h, .inl (E.2 1, 8, .inl gz))] := hD
          replace hq_78 : r_78 = l_sum gz 8 := hq_78
          refine fx_ti (show r_78 = nI (manyN (rnG sz nu k) 8) from hq_78.trans (manyN_I 8 (fun t ht => (hrn t ht).1))) ?_
          refine lv_iload_n hx hb dX0_faultOf_81 rfl (lv_at hl 5 rfl) ?_
          refine lv_icmp_le (tgt := 89) hx hb dX0_faultOf_82 (by decide) (fun c_82 => ?_) (fun c_82 => ?_)
          · -- jump 89
            have n_82 := fx_le1 (a := (manyN (rnG sz nu k) 8)) (b := mo) c_82 (by omega) (by omega)
            refine lv_iconst (v := 0) hx hb dX0_faultOf_89 rfl ?_
            exact hret 0 (gz) (⟨by rw [tellC_all hbt hall, if_neg (show ¬ mo < manyN (rnG sz nu k) 8 by omega)]; rfl, fun _ => hg⟩) (rfl) hP hD hS (Nat.le_refl _) (Nat.le_refl _) dX0_faultOf_90
          · -- fall 85
            have n_82 := fx_le0 (a := (manyN (rnG sz nu k) 8)) (b := mo) c_82 (by omega) (by omega)
            refine lv_iconst (v := 4) hx hb dX0_faultOf_85 rfl ?_
            refine lv_goto (tgt := 90) hx hb dX0_faultOf_86 (by decide) ?_
            exact hret 4 (gz) (⟨by rw [tellC_all hbt hall, if_pos n_82]; rfl, fun hh => absurd hh (by rw [tellC_all hbt hall, if_pos n_82]; decide)⟩) (rfl) hP hD hS (Nat.le_refl _) (Nat.le_refl _) dX0_faultOf_90
        · -- fall 28
          have n_25 := fx_le0 (a := 8) (b := t) c_25 (by omega) (by omega)
          refine lv_iload hx hb dX0_faultOf_28 (lv_at hl 0 rfl) ?_
          refine lv_aload hx hb dX0_faultOf_30 (lv_at hl 1 rfl) ?_
          refine fx_ci (va_runS (As := [.ref ra]) (rest := [.int (nI t)]) X (xX0_sizeOfI l E ra (nn (sz k)) rf _) (va_cwS 1 X.2.2.2.2 (lw_S q813 q814 q69 q815) rfl rfl rfl hdX0_sizeOf ⟨Nat.le_of_ble_eq_true rfl, Nat.le_of_ble_eq_true rfl⟩) (fx_pre hE hP hD hS hR [] rfl rfl (fx_rcx ((List.mem_append_right _ hrc)) fx_rc0)) rfl rfl hl.1 rfl (lv_room (Nat.le_of_ble_eq_true rfl)) dX0_faultOf_32 ⟨Nat.le_refl _, Nat.le_refl _⟩) hP hD hS hA [] rfl rfl (fun r_32 u H locs hq_32 hP hD hS => ?_)
          replace hP : va_P E.1 clA [(h, .inl (E.2 1, 8, .inl gz))] _ := hP
          replace hD : va_D A [(h, .inl (E.2 1, 8, .inl gz))] := hD
          replace hq_32 : r_32 = nI (nn (sz k)) := hq_32
          refine fx_ti (show r_32 = nI (nn (sz k)) from hq_32) ?_
          refine lv_icmp_ge (tgt := 48) hx hb dX0_faultOf_35 (by decide) (fun c_35 => ?_) (fun c_35 => ?_)
          · -- jump 48
            have n_35 := fx_le1 (a := (nn (sz k))) (b := t) c_35 (by omega) (by omega)
            refine lv_iconst (v := 0) hx hb dX0_faultOf_48 rfl ?_
            refine fx_ti (show 0 = (shG sz nu k t) from by simp only [shG]; rw [if_neg (by omega)]) ?_
            refine lv_istore (lv' := [(6, .int (shG sz nu k t)), (5, .int (nI t)), (4, .ref ra), (0, .ref (ax 19)), (1, .int (nI k)), (2, .ref h), (3, .int (nI mo))]) hx hb dX0_faultOf_49 hl (by decide) rfl (fun ls hl => ?_)
            refine lv_iload hx hb dX0_faultOf_51 (lv_at hl 0 rfl) ?_
            refine lv_iconst (v := 0) hx hb dX0_faultOf_53 rfl ?_
            refine lv_bipush (v := 9) hx hb dX0_faultOf_54 rfl ?_
            refine fx_ci (va_runS (As := [.int (shG sz nu k t), .int 0, .int 9]) (rest := []) X (xX0_isIn l E (shG sz nu k t) 0 9 _) (va_cwS 3 X.2.2.2.2 (lw_S q300 q301 q69 q302) rfl rfl rfl hdX0_isIn ⟨Nat.le_of_ble_eq_true rfl, Nat.le_of_ble_eq_true rfl⟩) (fx_pre hE hP hD hS hR [] rfl rfl fx_rc0) rfl rfl hl.1 rfl (lv_room (Nat.le_of_ble_eq_true rfl)) dX0_faultOf_56 ⟨Nat.le_refl _, Nat.le_refl _⟩) hP hD hS hA [] rfl rfl (fun r_56 u H locs hq_56 hP hD hS => ?_)
            replace hP : va_P E.1 clA [(h, .inl (E.2 1, 8, .inl gz))] _ := hP
            replace hD : va_D A [(h, .inl (E.2 1, 8, .inl gz))] := hD
            replace hq_56 : r_56 = fx_b (inB (shG sz nu k t) 0 9 = true) := hq_56
            rcases fx_bc hq_56 with ⟨hb_56, hr_56⟩ | ⟨hb_56, hr_56⟩
            · -- True
              subst hr_56
              refine lv_if_ne (tgt := 64) hx hb dX0_faultOf_59 (by decide) (fun _ => ?_) (fun c => absurd c (by decide))
              refine lv_aload_n hx hb dX0_faultOf_64 rfl (lv_at hl 5 rfl) ?_
              refine lv_iload hx hb dX0_faultOf_65 (lv_at hl 1 rfl) ?_
              refine lv_iload hx hb dX0_faultOf_67 (lv_at hl 0 rfl) ?_
              refine lv_i2b (v := (shG sz nu k t).toInt8.toInt32) hx hb dX0_faultOf_69 rfl ?_
              refine fx_bast (ws' := [(h, .inl (E.2 1, 8, .inl (upd gz t (shG sz nu k t))))]) X hE hP hD hS 0 rfl t rfl (by omega) rfl (by rw [pk_bidem]; exact nar8 hb_56) rfl dX0_faultOf_70 (fun H locs hP hD hS => ?_)
              refine lv_iinc (v := nI (t + 1)) (lv' := [(5, .int (nI (t + 1))), (6, .int (shG sz nu k t)), (4, .ref ra), (0, .ref (ax 19)), (1, .int (nI k)), (2, .ref h), (3, .int (nI mo))]) hx hb dX0_faultOf_71 hl (k := 1) rfl (fx_inc _) (by decide) rfl (fun ls hl => ?_)
              refine lv_goto (tgt := 21) hx hb dX0_faultOf_74 (by decide) ?_
              exact ih_21 (t + 1) (upd gz t (shG sz nu k t)) (by omega) (by omega) (ext_s hg rfl) (fun i hi => by rcases Nat.lt_or_ge i t with q | q; exact hall i q; rw [show i = t by omega]; exact hb_56) _ _ hP hD hS ls (lv_sub hl [0, 2, 3, 4, 5, 6] rfl)
            · -- False
              subst hr_56
              refine lv_if_ne (tgt := 64) hx hb dX0_faultOf_59 (by decide) (fun c => (c (by decide)).elim) (fun _ => ?_)
              refine lv_iconst (v := 1) hx hb dX0_faultOf_62 rfl ?_
              exact hret 1 (gz) (⟨by rw [tellC_1 hbt n_25 hb_56]; rfl, fun hh => by rw [tellC_1 hbt n_25 hb_56] at hh; omega⟩) (rfl) hP hD hS (Nat.le_refl _) (Nat.le_refl _) dX0_faultOf_63
          · -- fall 38
            have n_35 := fx_le0 (a := (nn (sz k))) (b := t) c_35 (by omega) (by omega)
            refine lv_aload hx hb dX0_faultOf_38 (lv_at hl 1 rfl) ?_
            refine lv_iload hx hb dX0_faultOf_40 (lv_at hl 0 rfl) ?_
            refine fx_ci (va_runS (As := [.ref ra, .int (nI t)]) (rest := []) X (xX0_numberOfI l E ra (nn (sz k)) rf t n_35 hsz2 _) (va_cwS 2 X.2.2.2.2 (lw_S q819 q820 q69 q821) rfl rfl rfl hdX0_numberOf ⟨Nat.le_of_ble_eq_true rfl, Nat.le_of_ble_eq_true rfl⟩) (fx_pre hE hP hD hS hR [] rfl rfl (fx_rcx ((List.mem_append_right _ hrc)) fx_rc0)) rfl rfl hl.1 rfl (lv_room (Nat.le_of_ble_eq_true rfl)) dX0_faultOf_42 ⟨Nat.le_refl _, Nat.le_refl _⟩) hP hD hS hA [] rfl rfl (fun r_42 u H locs hq_42 hP hD hS => ?_)
            replace hP : va_P E.1 clA [(h, .inl (E.2 1, 8, .inl gz))] _ := hP
            replace hD : va_D A [(h, .inl (E.2 1, 8, .inl gz))] := hD
            replace hq_42 : r_42 = rf t := hq_42
            refine lv_goto (tgt := 49) hx hb dX0_faultOf_45 (by decide) ?_
            refine fx_ti (show r_42 = (shG sz nu k t) from hq_42.trans ((hf t n_35).trans (by simp only [shG]; rw [if_pos n_35]))) ?_
            refine lv_istore (lv' := [(6, .int (shG sz nu k t)), (5, .int (nI t)), (4, .ref ra), (0, .ref (ax 19)), (1, .int (nI k)), (2, .ref h), (3, .int (nI mo))]) hx hb dX0_faultOf_49 hl (by decide) rfl (fun ls hl => ?_)
            refine lv_iload hx hb dX0_faultOf_51 (lv_at hl 0 rfl) ?_
            refine lv_iconst (v := 0) hx hb dX0_faultOf_53 rfl ?_
            refine lv_bipush (v := 9) hx hb dX0_faultOf_54 rfl ?_
            refine fx_ci (va_runS (As := [.int (shG sz nu k t), .int 0, .int 9]) (rest := []) X (xX0_isIn l E (shG sz nu k t) 0 9 _) (va_cwS 3 X.2.2.2.2 (lw_S q300 q301 q69 q302) rfl rfl rfl hdX0_isIn ⟨Nat.le_of_ble_eq_true rfl, Nat.le_of_ble_eq_true rfl⟩) (fx_pre hE hP hD hS hR [] rfl rfl fx_rc0) rfl rfl hl.1 rfl (lv_room (Nat.le_of_ble_eq_true rfl)) dX0_faultOf_56 ⟨Nat.le_refl _, Nat.le_refl _⟩) hP hD hS hA [] rfl rfl (fun r_56 u H locs hq_56 hP hD hS => ?_)
            replace hP : va_P E.1 clA [(h, .inl (E.2 1, 8, .inl gz))] _ := hP
            replace hD : va_D A [(h, .inl (E.2 1, 8, .inl gz))] := hD
            replace hq_56 : r_56 = fx_b (inB (shG sz nu k t) 0 9 = true) := hq_56
            rcases fx_bc hq_56 with ⟨hb_56, hr_56⟩ | ⟨hb_56, hr_56⟩
            · -- True
              subst hr_56
              refine lv_if_ne (tgt := 64) hx hb dX0_faultOf_59 (by decide) (fun _ => ?_) (fun c => absurd c (by decide))
              refine lv_aload_n hx hb dX0_faultOf_64 rfl (lv_at hl 5 rfl) ?_
              refine lv_iload hx hb dX0_faultOf_65 (lv_at hl 1 rfl) ?_
              refine lv_iload hx hb dX0_faultOf_67 (lv_at hl 0 rfl) ?_
              refine lv_i2b (v := (shG sz nu k t).toInt8.toInt32) hx hb dX0_faultOf_69 rfl ?_
              refine fx_bast (ws' := [(h, .inl (E.2 1, 8, .inl (upd gz t (shG sz nu k t))))]) X hE hP hD hS 0 rfl t rfl (by omega) rfl (by rw [pk_bidem]; exact nar8 hb_56) rfl dX0_faultOf_70 (fun H locs hP hD hS => ?_)
              refine lv_iinc (v := nI (t + 1)) (lv' := [(5, .int (nI (t + 1))), (6, .int (shG sz nu k t)), (4, .ref ra), (0, .ref (ax 19)), (1, .int (nI k)), (2, .ref h), (3, .int (nI mo))]) hx hb dX0_faultOf_71 hl (k := 1) rfl (fx_inc _) (by decide) rfl (fun ls hl => ?_)
              refine lv_goto (tgt := 21) hx hb dX0_faultOf_74 (by decide) ?_
              exact ih_21 (t + 1) (upd gz t (shG sz nu k t)) (by omega) (by omega) (ext_s hg rfl) (fun i hi => by rcases Nat.lt_or_ge i t with q | q; exact hall i q; rw [show i = t by omega]; exact hb_56) _ _ hP hD hS ls (lv_sub hl [0, 2, 3, 4, 5, 6] rfl)
            · -- False
              subst hr_56
              refine lv_if_ne (tgt := 64) hx hb dX0_faultOf_59 (by decide) (fun c => (c (by decide)).elim) (fun _ => ?_)
              refine lv_iconst (v := 1) hx hb dX0_faultOf_62 rfl ?_
              exact hret 1 (gz) (⟨by rw [tellC_1 hbt n_25 hb_56]; rfl, fun hh => by rw [tellC_1 hbt n_25 hb_56] at hh; omega⟩) (rfl) hP hD hS (Nat.le_refl _) (Nat.le_refl _) dX0_faultOf_63
    exact loop_21 ((8 - 0) + 1) 0 row (Nat.lt_succ_self _) (by omega) (fun i hi => absurd hi (Nat.not_lt_zero _)) (fun i hi => absurd hi (Nat.not_lt_zero _)) _ _ hP hD hS ls (lv_sub hl [0, 1, 2, 3, 4, 5] rfl)
abbrev rxX0_paysOf : Room := { frames := 5, cells := 0, slots := 0, locals := 117 }
set_option maxHeartbeats 400000 in
set_option maxRecDepth 100000 in
theorem xX0_paysOf (l : Launch) (E : fx_En) (ax : Nat → Nat) (im : Int32) (bn : Int32) (bm : Int32) (fm : Int32) (ff : Int32) (fl : Int32) (tk : Int32) (cs : Int32) (gs : Int32) (zz : Int32) (tp : Int32) (wg : Int32) (nmd : Nat → Int32) (pl : Nat → Int32) (sa : Nat → Int32) (tl : Nat → Nat) (tx : Nat → Option Nat) (T : Tx) (PL : va_W) (pr : Nat → Int32) (h : Nat) (row : Nat → Int32) (rn : Nat → Nat) (k : Nat) (hk : k < 4) (hI : Inv sa) (hTL : TLS PL sa tl) (hT : TXs E PL (tx 0) T) (hTo : TOk T) (hrow : ∀ t, t < 8 → row t = nI (rn t) ∧ rn t ≤ 99) (hpr : ∀ t, t < 8 → pr t = sa (8 + t)) : fx_Mi l yX0_paysOf cX0_paysOf 3 .int rxX0_paysOf E [.ref (ax 19), .ref h, .int (nI k)] [(ax 1, .inl (E.2 0, 3, .inl nmd)), (ax 0, .inl (E.2 0, 60, .inl pl))] ([(ax 19, .inr (0, [.ref (ax 0), .ref (ax 1), .ref (ax 35), .ref (ax 55), .ref (ax 4), .ref (ax 5), .ref (ax 6), .ref (ax 7), .int im, .ref (ax 9), .ref (ax 10), .ref (ax 11), .ref (ax 12), .ref (ax 13), .int bn, .int bm, .int fm, .int ff, .int fl])), (ax 35, .inr (1, [.ref (ax 20), .ref (ax 21), .ref (ax 22), .int tk, .int cs, .int gs, .int zz, .int tp, .int wg, .ref (ax 29), .ref (ax 30), .ref (ax 31), .ref (ax 32)])), (ax 29, .inl (E.2 3, 4, .inr (.inr (.inr (.inr (fun i_ => some (ax (36 + i_)))))))), (ax 36, .inr (2, [.ref (tl 0)])), (ax 37, .inr (2, [.ref (tl 1)])), (ax 38, .inr (2, [.ref (tl 2)])), (ax 39, .inr (2, [.ref (tl 3)])), (ax 7, .inr (5, [.ref (ax 19)])), (ax 30, .inl (E.2 4, 2, .inr (.inr (.inr (.inr tx))))), (ax 20, .inl (E.2 0, 8, .inl pr)), (h, .inl (E.2 1, 8, .inl row))] ++ PL) (S := (Nat → Int32) × (Nat → Int32)) (fun (u : (Nat → Int32) × (Nat → Int32)) => [(ax 1, .inl (E.2 0, 3, .inl u.1)), (ax 0, .inl (E.2 0, 60, .inl u.2))]) (fun (r : Int32) (u : (Nat → Int32) × (Nat → Int32)) => r = paysF sa T rn k) := by
  refine fx_iW rfl rfl ?_
  intro p e s m args below meth c A ls Q X hE hP hD hR hA hl hret
  have hx := X.1
  have hb := X.2.1
  have hS : va_S A s.heap s.heap [] := va_S.rf
  replace hP : va_P E.1 clA [(ax 1, .inl (E.2 0, 3, .inl nmd)), (ax 0, .inl (E.2 0, 60, .inl pl))] _ := hP
  replace hD : va_D A [(ax 1, .inl (E.2 0, 3, .inl nmd)), (ax 0, .inl (E.2 0, 60, .inl pl))] := hD
  replace hl : lv_has ls 3 [(0, .ref (ax 19)), (1, .ref h), (2, .int (nI k))] := hl
  have hsl := sumN_le (rn := rn) (pr := fun t => nn (sa (8 + t))) (a := 99) (b := 9999) 8 (fun t ht => (hrow t ht).2) (fun t ht => (hI.pr t ht).2)
  have hml := manyN_le (rn := rn) (a := 99) 8 (fun t ht => (hrow t ht).2)
  refine lv_aload_n hx hb dX0_paysOf_0 rfl (lv_at hl 0 rfl) ?_
  refine lv_iload_n hx hb dX0_paysOf_1 rfl (lv_at hl 2 rfl) ?_
  refine lv_aload_n hx hb dX0_paysOf_2 rfl (lv_at hl 0 rfl) ?_
  refine lv_aload_n hx hb dX0_paysOf_3 rfl (lv_at hl 1 rfl) ?_
  refine lv_aload_n hx hb dX0_paysOf_4 rfl (lv_at hl 0 rfl) ?_
  refine fx_get X hE (hR.at hS) 0 rfl rfl 2 rfl q237 rfl rfl dX0_paysOf_5 ?_
  refine fx_getN X hE (hR.at hS) 1 rfl rfl 0 rfl 3 rfl rfl rfl dX0_paysOf_8 ?_
  refine fx_ci (va_runV (As := [.ref h, .ref (ax 20)]) (rest := [.int (nI k), .ref (ax 19)]) X (xX0_sumOf l E ax im bn bm fm ff fl h row (ax 20) pr _) (cwV 2 X.2.2.2.2 (lw_V q825 q827 qs18 q69 q828) rfl rfl rfl ⟨rfl, hdX0_sumOf⟩ ⟨Nat.le_of_ble_eq_true rfl, Nat.le_of_ble_eq_true rfl⟩) (fx_preV (fx_pre hE hP hD hS hR [] rfl rfl (fx_rcr 0 rfl (fx_rcr 10 rfl (fx_rcr 9 rfl fx_rc0)))) (va_recv hE.1 (hR.at hS) (ci := 0) (q0 := 0) rfl rfl)) rfl rfl hl.1 rfl (lv_room (Nat.le_of_ble_eq_true rfl)) dX0_paysOf_11 ⟨Nat.le_refl _, Nat.le_refl _⟩) hP hD hS hA [] rfl rfl (fun r_11 u H locs hq_11 hP hD hS => ?_)
  replace hP : va_P E.1 clA [(ax 1, .inl (E.2 0, 3, .inl nmd)), (ax 0, .inl (E.2 0, 60, .inl pl))] _ := hP
  replace hD : va_D A [(ax 1, .inl (E.2 0, 3, .inl nmd)), (ax 0, .inl (E.2 0, 60, .inl pl))] := hD
  replace hq_11 : r_11 = l_sum (fun i_ => row i_ * pr i_) 8 := hq_11
  refine fx_ti (show r_11 = nI (sumN rn (fun t => nn (sa (8 + t))) 8) from hq_11.trans (sumN_I (pc := pr) 8 (fun t ht => (hrow t ht).1) (fun t ht => (hpr t ht).trans (hI.pr t ht).1))) ?_
  refine lv_aload_n hx hb dX0_paysOf_14 rfl (lv_at hl 1 rfl) ?_
  refine fx_ci (va_runS (As := [.ref h]) (rest := [.int (nI (sumN rn (fun t => nn (sa (8 + t))) 8)), .int (nI k), .ref (ax 19)]) X (xX0_manyIn l E h row _) (va_cwS 1 X.2.2.2.2 (lw_S q822 q823 q69 q824) rfl rfl rfl hdX0_manyIn ⟨Nat.le_of_ble_eq_true rfl, Nat.le_of_ble_eq_true rfl⟩) (fx_pre hE hP hD hS hR [] rfl rfl (fx_rcr 10 rfl fx_rc0)) rfl rfl hl.1 rfl (lv_room (Nat.le_of_ble_eq_true rfl)) dX0_paysOf_15 ⟨Nat.le_refl _, Nat.le_refl _⟩) hP hD hS hA [] rfl rfl (fun r_15 u H locs hq_15 hP hD hS => ?_)
  replace hP : va_P E.1 clA [(ax 1, .inl (E.2 0, 3, .inl nmd)), (ax 0, .inl (E.2 0, 60, .inl pl))] _ := hP
  replace hD : va_D A [(ax 1, .inl (E.2 0, 3, .inl nmd)), (ax 0, .inl (E.2 0, 60, .inl pl))] := hD
  replace hq_15 : r_15 = l_sum row 8 := hq_15
  refine fx_ti (show r_15 = nI (manyN rn 8) from hq_15.trans (manyN_I 8 (fun t ht => (hrow t ht).1))) ?_
  refine fx_ci (va_runV (As := [.int (nI k), .int (nI (sumN rn (fun t => nn (sa (8 + t))) 8)), .int (nI (manyN rn 8))]) (rest := []) X (xX0_asked l E ax im bn bm fm ff fl tk cs gs zz tp wg nmd pl sa tl tx T PL k (sumN rn (fun t => nn (sa (8 + t))) 8) (manyN rn 8) (by first | assumption | omega) (by first | assumption | omega) (by first | assumption | omega) (by first | assumption | omega) (by first | assumption | omega) (by omega) (by omega) _) (cwV 3 X.2.2.2.2 (lw_V q454 q456 qs3 q69 q457) rfl rfl rfl ⟨rfl, hdX0_asked⟩ ⟨Nat.le_of_ble_eq_true rfl, Nat.le_of_ble_eq_true rfl⟩) (fx_preV (fx_pre hE hP hD hS hR [0, 1] rfl rfl (fx_rcr 0 rfl (fx_rcr 1 rfl (fx_rcr 2 rfl (fx_rcr 3 rfl (fx_rcr 4 rfl (fx_rcr 5 rfl (fx_rcr 6 rfl (fx_rcr 7 rfl (fx_rcr 8 rfl (fx_rct (fun q hq => List.mem_append_right _ hq)))))))))))) (va_recv hE.1 (hR.at hS) (ci := 0) (q0 := 0) rfl rfl)) rfl rfl hl.1 rfl (lv_room (Nat.le_of_ble_eq_true rfl)) dX0_paysOf_18 ⟨Nat.le_refl _, Nat.le_refl _⟩) hP hD hS hA [0, 1] rfl rfl (fun r_18 u H locs hq_18 hP hD hS => ?_)
  obtain ⟨nm2_18, pl2_18⟩ := u
  replace hP : va_P E.1 clA [(ax 1, .inl (E.2 0, 3, .inl nm2_18)), (ax 0, .inl (E.2 0, 60, .inl pl2_18))] _ := hP
  replace hD : va_D A [(ax 1, .inl (E.2 0, 3, .inl nm2_18)), (ax 0, .inl (E.2 0, 60, .inl pl2_18))] := hD
  replace hq_18 : r_18 = askT sa T k (sumN rn (fun t => nn (sa (8 + t))) 8) (manyN rn 8) := hq_18
  exact hret r_18 (nm2_18, pl2_18) (hq_18) (rfl) hP hD hS (Nat.le_refl _) (Nat.le_refl _) dX0_paysOf_21
