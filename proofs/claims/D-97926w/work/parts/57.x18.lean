set_option maxRecDepth 100000
theorem hdX0_tryFew : yX0_tryFew.cls ≠ "java/lang/invoke/MethodHandle" ∧ yX0_tryFew.cls ≠ "java/lang/invoke/VarHandle" ∧ (parseMethodDescriptor yX0_tryFew.desc).map (fun d => d.parameters.length) = some 5 := by decide +kernel
theorem hdX0_findFew : yX0_findFew.cls ≠ "java/lang/invoke/MethodHandle" ∧ yX0_findFew.cls ≠ "java/lang/invoke/VarHandle" ∧ (parseMethodDescriptor yX0_findFew.desc).map (fun d => d.parameters.length) = some 2 := by decide +kernel
theorem hdX0_areNines : yX0_areNines.cls ≠ "java/lang/invoke/MethodHandle" ∧ yX0_areNines.cls ≠ "java/lang/invoke/VarHandle" ∧ (parseMethodDescriptor yX0_areNines.desc).map (fun d => d.parameters.length) = some 0 := by decide +kernel
theorem hdX0_nines : yX0_nines.cls ≠ "java/lang/invoke/MethodHandle" ∧ yX0_nines.cls ≠ "java/lang/invoke/VarHandle" ∧ (parseMethodDescriptor yX0_nines.desc).map (fun d => d.parameters.length) = some 1 := by decide +kernel
theorem hdX0_wasIn : yX0_wasIn.cls ≠ "java/lang/invoke/MethodHandle" ∧ yX0_wasIn.cls ≠ "java/lang/invoke/VarHandle" ∧ (parseMethodDescriptor yX0_wasIn.desc).map (fun d => d.parameters.length) = some 3 := by decide +kernel
abbrev rxX0_tryFew (d : Nat) : Room := { frames := d + 14, cells := 0, slots := 0, locals := 30 * d + 700 }
set_option maxHeartbeats 1000000 in
set_option maxRecDepth 100000 in
theorem xX0_tryFew (l : Launch) (E : fx_En) : ∀ (d : Nat) (ax : Nat → Nat) (im : Int32) (bn : Int32) (bm : Int32) (fm : Int32) (ff : Int32) (fl : Int32) (tk : Int32) (cs : Int32) (gs : Int32) (zz : Int32) (tp : Int32) (wg : Int32) (nmd : Nat → Int32) (pl : Nat → Int32) (sa : Nat → Int32) (tl : Nat → Nat) (pr : Nat → Int32) (ek : Nat → Int32) (ex : Nat → Nat) (bb : Sst) (tx : Nat → Option Nat) (T : Tx) (PL : va_W) (k : Nat) (le : Nat) (mo : Nat) (cd : Nat) (wa : Int32) (hd : d ≤ 8) (hk : k < 4) (hI : Inv sa) (hTL : TLS PL sa tl) (hT : TXs E PL (tx 0) T) (hTo : TOk T) (hpr : rl pr sa 8 8) (hek : ∀ i, i < 8 - d → ek i = nI (ex i) ∧ ex i ≤ 9) (hmn : le + manyN ex (8 - d) = 3) (hcd : cd = codN ex (8 - d)) (hSR : SR fm ff fl bb (cd * 10 ^ d)), fx_Mv l yX0_tryFew cX0_tryFew 7 (rxX0_tryFew d) E [.ref (ax 19), .int (nI (8 - d)), .int (nI le), .int (nI cd), .int (nI k), .int wa] [(ax 19, .inr (0, [.ref (ax 0), .ref (ax 1), .ref (ax 35), .ref (ax 55), .ref (ax 4), .ref (ax 5), .ref (ax 6), .ref (ax 7), .int im, .ref (ax 9), .ref (ax 10), .ref (ax 11), .ref (ax 12), .ref (ax 13), .int bn, .int bm, .int fm, .int ff, .int fl])), (ax 1, .inl (E.2 0, 3, .inl nmd)), (ax 0, .inl (E.2 0, 60, .inl pl)), (ax 11, .inl (E.2 1, 8, .inl ek))] ([(ax 35, .inr (1, [.ref (ax 20), .ref (ax 21), .ref (ax 22), .int tk, .int cs, .int gs, .int zz, .int tp, .int wg, .ref (ax 29), .ref (ax 30), .ref (ax 31), .ref (ax 32)])), (ax 29, .inl (E.2 3, 4, .inr (.inr (.inr (.inr (fun i_ => some (ax (36 + i_)))))))), (ax 36, .inr (2, [.ref (tl 0)])), (ax 37, .inr (2, [.ref (tl 1)])), (ax 38, .inr (2, [.ref (tl 2)])), (ax 39, .inr (2, [.ref (tl 3)])), (ax 7, .inr (5, [.ref (ax 19)])), (ax 30, .inl (E.2 4, 2, .inr (.inr (.inr (.inr tx))))), (ax 20, .inl (E.2 0, 8, .inl pr))] ++ PL) (S := Int32 × Int32 × Int32 × (Nat → Int32) × (Nat → Int32) × (Nat → Int32)) (fun (u : Int32 × Int32 × Int32 × (Nat → Int32) × (Nat → Int32) × (Nat → Int32)) => [(ax 19, .inr (0, [.ref (ax 0), .ref (ax 1), .ref (ax 35), .ref (ax 55), .ref (ax 4), .ref (ax 5), .ref (ax 6), .ref (ax 7), .int im, .ref (ax 9), .ref (ax 10), .ref (ax 11), .ref (ax 12), .ref (ax 13), .int bn, .int bm, .int u.1, .int u.2.1, .int u.2.2.1])), (ax 1, .inl (E.2 0, 3, .inl u.2.2.2.1)), (ax 0, .inl (E.2 0, 60, .inl u.2.2.2.2.1)), (ax 11, .inl (E.2 1, 8, .inl u.2.2.2.2.2))]) (fun (u : Int32 × Int32 × Int32 × (Nat → Int32) × (Nat → Int32) × (Nat → Int32)) => SR u.1 u.2.1 u.2.2.1 (enL (fun _ q_ => q_) (lfS (fun e_ => paysF sa T e_ k) wa) d ex le mo bb) ((cd + 1) * 10 ^ d) ∧ (∀ i, i < 8 - d → u.2.2.2.2.2 i = ek i)) := by
  intro d
  induction d with
  | zero =>
    intro ax im bn bm fm ff fl tk cs gs zz tp wg nmd pl sa tl pr ek ex bb tx T PL k le mo cd wa hd hk hI hTL hT hTo hpr hek hmn hcd hSR
    refine fx_vW rfl rfl ?_
    intro p e s m args below meth c A ls Q X hnm hE hP hD hR hA hl hret
    have hx := X.1
    have hb := X.2.1
    have hS : va_S A s.heap s.heap [] := va_S.rf
    replace hP : va_P E.1 clA [(ax 19, .inr (0, [.ref (ax 0), .ref (ax 1), .ref (ax 35), .ref (ax 55), .ref (ax 4), .ref (ax 5), .ref (ax 6), .ref (ax 7), .int im, .ref (ax 9), .ref (ax 10), .ref (ax 11), .ref (ax 12), .ref (ax 13), .int bn, .int bm, .int fm, .int ff, .int fl])), (ax 1, .inl (E.2 0, 3, .inl nmd)), (ax 0, .inl (E.2 0, 60, .inl pl)), (ax 11, .inl (E.2 1, 8, .inl ek))] _ := hP
    replace hD : va_D A [(ax 19, .inr (0, [.ref (ax 0), .ref (ax 1), .ref (ax 35), .ref (ax 55), .ref (ax 4), .ref (ax 5), .ref (ax 6), .ref (ax 7), .int im, .ref (ax 9), .ref (ax 10), .ref (ax 11), .ref (ax 12), .ref (ax 13), .int bn, .int bm, .int fm, .int ff, .int fl])), (ax 1, .inl (E.2 0, 3, .inl nmd)), (ax 0, .inl (E.2 0, 60, .inl pl)), (ax 11, .inl (E.2 1, 8, .inl ek))] := hD
    replace hl : lv_has ls 7 [(0, .ref (ax 19)), (1, .int (nI (8 - 0))), (2, .int (nI le)), (3, .int (nI cd)), (4, .int (nI k)), (5, .int wa)] := hl
    replace hmn : le + manyN ex 8 = 3 := hmn
    replace hcd : cd = codN ex 8 := hcd
    have hcl : cd < 100000000 := hcd ▸ codN_8 (Nat.le_refl 8) (fun i hi => (hek i hi).2)
    have hSR1 : SR fm ff fl bb cd := by rw [Nat.pow_zero, Nat.mul_one] at hSR; exact hSR
    have hpn : 0 ≤ paysF sa T ex k := by rw [(paysF_nat sa T ex k).1]; exact nI_pos' (by have := (paysF_nat sa T ex k).2; omega)
    refine lv_iload_n hx hb dX0_tryFew_0 rfl (lv_at hl 1 rfl) ?_
    refine lv_bipush (v := 8) hx hb dX0_tryFew_1 rfl ?_
    refine lv_icmp_ne (tgt := 87) hx hb dX0_tryFew_3 (by decide) (fun c_3 => (c_3 rfl).elim) (fun c_3 => ?_)
    have n_3 := fx_eq1 (a := (8 - 0)) (b := 8) c_3 (by omega) (by omega)
    refine lv_iload_n hx hb dX0_tryFew_6 rfl (lv_at hl 2 rfl) ?_
    refine lv_iconst (v := 3) hx hb dX0_tryFew_7 rfl ?_
    refine lv_icmp_ne (tgt := 12) hx hb dX0_tryFew_8 (by decide) (fun c_8 => ?_) (fun c_8 => ?_)
    · -- jump 12
      have n_8 := fx_eq0 (a := le) (b := 3) c_8 (by omega) (by omega)
      refine lv_aload_n hx hb dX0_tryFew_12 rfl (lv_at hl 0 rfl) ?_
      refine lv_aload_n hx hb dX0_tryFew_13 rfl (lv_at hl 0 rfl) ?_
      refine fx_get X hE hP 0 rfl rfl 11 rfl q246 rfl rfl dX0_tryFew_14 ?_
      refine lv_iload hx hb dX0_tryFew_17 (lv_at hl 4 rfl) ?_
      refine fx_ci (va_runV (As := [.ref (ax 11), .int (nI k)]) (rest := []) X (xX0_paysOf l E ax im bn bm fm ff fl tk cs gs zz tp wg nmd pl sa tl tx T PL pr (ax 11) ek ex k (by first | assumption | omega) (by first | assumption | omega) (by first | assumption | omega) (by first | assumption | omega) (by first | assumption | omega) (fun t ht => ⟨(hek t ht).1, by have := (hek t ht).2; omega⟩) (by first | assumption | omega) _) (cwV 2 X.2.2.2.2 (lw_V q833 q835 qs19 q69 q836) rfl rfl rfl ⟨rfl, hdX0_paysOf⟩ ⟨Nat.le_of_ble_eq_true rfl, Nat.le_of_ble_eq_true rfl⟩) (fx_preV (fx_pre hE hP hD hS hR [1, 2] rfl rfl (fx_rcm 0 rfl (by decide) (fx_rcr 0 rfl (fx_rcr 1 rfl (fx_rcr 2 rfl (fx_rcr 3 rfl (fx_rcr 4 rfl (fx_rcr 5 rfl (fx_rcr 6 rfl (fx_rcr 7 rfl (fx_rcr 8 rfl (fx_rcm 3 rfl (by decide) (fx_rct (fun q hq => List.mem_append_right _ hq)))))))))))))) (va_recv hE.1 hP (ci := 0) (q0 := 0) rfl rfl)) rfl rfl hl.1 rfl (lv_room (Nat.le_of_ble_eq_true rfl)) dX0_tryFew_19 ⟨Nat.le_refl _, Nat.le_refl _⟩) hP hD hS hA [1, 2] rfl rfl (fun r_19 u H locs hq_19 hP hD hS => ?_)
      obtain ⟨nm2_19, pl2_19⟩ := u
      replace hP : va_P E.1 clA [(ax 19, .inr (0, [.ref (ax 0), .ref (ax 1), .ref (ax 35), .ref (ax 55), .ref (ax 4), .ref (ax 5), .ref (ax 6), .ref (ax 7), .int im, .ref (ax 9), .ref (ax 10), .ref (ax 11), .ref (ax 12), .ref (ax 13), .int bn, .int bm, .int fm, .int ff, .int fl])), (ax 1, .inl (E.2 0, 3, .inl nm2_19)), (ax 0, .inl (E.2 0, 60, .inl pl2_19)), (ax 11, .inl (E.2 1, 8, .inl ek))] _ := hP
      replace hD : va_D A [(ax 19, .inr (0, [.ref (ax 0), .ref (ax 1), .ref (ax 35), .ref (ax 55), .ref (ax 4), .ref (ax 5), .ref (ax 6), .ref (ax 7), .int im, .ref (ax 9), .ref (ax 10), .ref (ax 11), .ref (ax 12), .ref (ax 13), .int bn, .int bm, .int fm, .int ff, .int fl])), (ax 1, .inl (E.2 0, 3, .inl nm2_19)), (ax 0, .inl (E.2 0, 60, .inl pl2_19)), (ax 11, .inl (E.2 1, 8, .inl ek))] := hD
      replace hq_19 : r_19 = paysF sa T ex k := hq_19
      refine fx_ti (show r_19 = (paysF sa T ex k) from hq_19) ?_
      refine lv_istore (lv' := [(6, .int (paysF sa T ex k)), (0, .ref (ax 19)), (1, .int (nI (8 - 0))), (2, .int (nI le)), (3, .int (nI cd)), (4, .int (nI k)), (5, .int wa)]) hx hb dX0_tryFew_22 hl (by decide) rfl (fun ls hl => ?_)
      refine lv_aload_n hx hb dX0_tryFew_24 rfl (lv_at hl 1 rfl) ?_
      refine lv_aload_n hx hb dX0_tryFew_25 rfl (lv_at hl 1 rfl) ?_
      refine fx_get X hE hP 0 rfl rfl 18 rfl q253 rfl rfl dX0_tryFew_26 ?_
      refine lv_if_ge (tgt := 37) hx hb dX0_tryFew_29 (by decide) (fun c_29 => ?_) (fun c_29 => ?_)
      · -- jump 37
        refine lv_aload_n hx hb dX0_tryFew_37 rfl (lv_at hl 1 rfl) ?_
        refine fx_get X hE hP 0 rfl rfl 18 rfl q253 rfl rfl dX0_tryFew_38 ?_
        refine lv_iload hx hb dX0_tryFew_41 (lv_at hl 0 rfl) ?_
        refine fx_min X hl.1 q326 ⟨Nat.le_of_ble_eq_true rfl, Nat.le_of_ble_eq_true rfl⟩ (Nat.le_refl _) (Nat.le_refl _) dX0_tryFew_43 ?_
        refine fx_put_ (ws' := [(ax 19, .inr (0, [.ref (ax 0), .ref (ax 1), .ref (ax 35), .ref (ax 55), .ref (ax 4), .ref (ax 5), .ref (ax 6), .ref (ax 7), .int im, .ref (ax 9), .ref (ax 10), .ref (ax 11), .ref (ax 12), .ref (ax 13), .int bn, .int bm, .int fm, .int ff, .int (mn_i fl (paysF sa T ex k))])), (ax 1, .inl (E.2 0, 3, .inl nm2_19)), (ax 0, .inl (E.2 0, 60, .inl pl2_19)), (ax 11, .inl (E.2 1, 8, .inl ek))]) X hE hP hD hS 0 rfl rfl tyX0_ok nmX0 18 rfl q253 rfl rfl rfl rfl rfl rfl dX0_tryFew_46 (fun H locs hP hD hS => ?_)
        refine lv_iload hx hb dX0_tryFew_49 (lv_at hl 0 rfl) ?_
        refine lv_iload hx hb dX0_tryFew_51 (lv_at hl 6 rfl) ?_
        refine lv_icmp_eq (tgt := 57) hx hb dX0_tryFew_53 (by decide) (fun c_53 => ?_) (fun c_53 => ?_)
        · -- jump 57
          refine lv_aload_n hx hb dX0_tryFew_57 rfl (lv_at hl 1 rfl) ?_
          refine lv_aload_n hx hb dX0_tryFew_58 rfl (lv_at hl 1 rfl) ?_
          refine fx_get X hE hP 0 rfl rfl 16 rfl q251 rfl rfl dX0_tryFew_59 ?_
          refine lv_if_ne (tgt := 69) hx hb dX0_tryFew_62 (by decide) (fun c_62 => ?_) (fun c_62 => ?_)
          · -- jump 69
            refine lv_aload_n hx hb dX0_tryFew_69 rfl (lv_at hl 1 rfl) ?_
            refine fx_get X hE hP 0 rfl rfl 17 rfl q252 rfl rfl dX0_tryFew_70 ?_
            refine fx_put_ (ws' := [(ax 19, .inr (0, [.ref (ax 0), .ref (ax 1), .ref (ax 35), .ref (ax 55), .ref (ax 4), .ref (ax 5), .ref (ax 6), .ref (ax 7), .int im, .ref (ax 9), .ref (ax 10), .ref (ax 11), .ref (ax 12), .ref (ax 13), .int bn, .int bm, .int fm, .int ff, .int (mn_i fl (paysF sa T ex k))])), (ax 1, .inl (E.2 0, 3, .inl nm2_19)), (ax 0, .inl (E.2 0, 60, .inl pl2_19)), (ax 11, .inl (E.2 1, 8, .inl ek))]) X hE hP hD hS 0 rfl rfl tyX0_ok nmX0 17 rfl q252 rfl rfl rfl rfl rfl rfl dX0_tryFew_73 (fun H locs hP hD hS => ?_)
            refine lv_aload_n hx hb dX0_tryFew_76 rfl (lv_at hl 1 rfl) ?_
            refine lv_dup hx hb dX0_tryFew_77 rfl ?_
            refine fx_get X hE hP 0 rfl rfl 16 rfl q251 rfl rfl dX0_tryFew_78 ?_
            refine lv_iconst (v := 1) hx hb dX0_tryFew_81 rfl ?_
            refine lv_iadd hx hb dX0_tryFew_82 ?_
            refine fx_put_ (ws' := [(ax 19, .inr (0, [.ref (ax 0), .ref (ax 1), .ref (ax 35), .ref (ax 55), .ref (ax 4), .ref (ax 5), .ref (ax 6), .ref (ax 7), .int im, .ref (ax 9), .ref (ax 10), .ref (ax 11), .ref (ax 12), .ref (ax 13), .int bn, .int bm, .int (fm + 1), .int ff, .int (mn_i fl (paysF sa T ex k))])), (ax 1, .inl (E.2 0, 3, .inl nm2_19)), (ax 0, .inl (E.2 0, 60, .inl pl2_19)), (ax 11, .inl (E.2 1, 8, .inl ek))]) X hE hP hD hS 0 rfl rfl tyX0_ok nmX0 16 rfl q251 rfl rfl rfl rfl rfl rfl dX0_tryFew_83 (fun H locs hP hD hS => ?_)
            exact hret ((fm + 1), ff, (mn_i fl (paysF sa T ex k)), nm2_19, pl2_19, ek) (⟨by show SR _ _ _ (lfS (fun e_ => paysF sa T e_ k) wa ex le mo bb) _; rw [Nat.pow_zero, Nat.mul_one]; exact (show lpX (paysF sa T ex k) fl = _ from if_neg (Int32.not_lt.2 c_29)) ▸ SR_hit1 (pay := fun e_ => paysF sa T e_ k) hSR1 hcd hcl (by omega) hpn c_53 c_62, fun i hi => rfl⟩) hP hD hS (Nat.le_refl _) (Nat.le_refl _) dX0_tryFew_86
          · -- fall 65
            refine lv_iload_n hx hb dX0_tryFew_65 rfl (lv_at hl 4 rfl) ?_
            refine lv_goto (tgt := 73) hx hb dX0_tryFew_66 (by decide) ?_
            refine fx_put_ (ws' := [(ax 19, .inr (0, [.ref (ax 0), .ref (ax 1), .ref (ax 35), .ref (ax 55), .ref (ax 4), .ref (ax 5), .ref (ax 6), .ref (ax 7), .int im, .ref (ax 9), .ref (ax 10), .ref (ax 11), .ref (ax 12), .ref (ax 13), .int bn, .int bm, .int fm, .int (nI cd), .int (mn_i fl (paysF sa T ex k))])), (ax 1, .inl (E.2 0, 3, .inl nm2_19)), (ax 0, .inl (E.2 0, 60, .inl pl2_19)), (ax 11, .inl (E.2 1, 8, .inl ek))]) X hE hP hD hS 0 rfl rfl tyX0_ok nmX0 17 rfl q252 rfl rfl rfl rfl rfl rfl dX0_tryFew_73 (fun H locs hP hD hS => ?_)
            refine lv_aload_n hx hb dX0_tryFew_76 rfl (lv_at hl 1 rfl) ?_
            refine lv_dup hx hb dX0_tryFew_77 rfl ?_
            refine fx_get X hE hP 0 rfl rfl 16 rfl q251 rfl rfl dX0_tryFew_78 ?_
            refine lv_iconst (v := 1) hx hb dX0_tryFew_81 rfl ?_
            refine lv_iadd hx hb dX0_tryFew_82 ?_
            refine fx_put_ (ws' := [(ax 19, .inr (0, [.ref (ax 0), .ref (ax 1), .ref (ax 35), .ref (ax 55), .ref (ax 4), .ref (ax 5), .ref (ax 6), .ref (ax 7), .int im, .ref (ax 9), .ref (ax 10), .ref (ax 11), .ref (ax 12), .ref (ax 13), .int bn, .int bm, .int (fm + 1), .int (nI cd), .int (mn_i fl (paysF sa T ex k))])), (ax 1, .inl (E.2 0, 3, .inl nm2_19)), (ax 0, .inl (E.2 0, 60, .inl pl2_19)), (ax 11, .inl (E.2 1, 8, .inl ek))]) X hE hP hD hS 0 rfl rfl tyX0_ok nmX0 16 rfl q251 rfl rfl rfl rfl rfl rfl dX0_tryFew_83 (fun H locs hP hD hS => ?_)
            exact hret ((fm + 1), nI cd, (mn_i fl (paysF sa T ex k)), nm2_19, pl2_19, ek) (⟨by show SR _ _ _ (lfS (fun e_ => paysF sa T e_ k) wa ex le mo bb) _; rw [Nat.pow_zero, Nat.mul_one]; exact (show lpX (paysF sa T ex k) fl = _ from if_neg (Int32.not_lt.2 c_29)) ▸ SR_hit0 (pay := fun e_ => paysF sa T e_ k) hSR1 hcd hcl (by omega) hpn c_53 c_62, fun i hi => rfl⟩) hP hD hS (Nat.le_refl _) (Nat.le_refl _) dX0_tryFew_86
        · -- fall 56
          exact hret (fm, ff, (mn_i fl (paysF sa T ex k)), nm2_19, pl2_19, ek) (⟨by show SR _ _ _ (lfS (fun e_ => paysF sa T e_ k) wa ex le mo bb) _; rw [Nat.pow_zero, Nat.mul_one]; exact (show lpX (paysF sa T ex k) fl = _ from if_neg (Int32.not_lt.2 c_29)) ▸ SR_no (pay := fun e_ => paysF sa T e_ k) hSR1 (by omega) hpn c_53, fun i hi => rfl⟩) hP hD hS (Nat.le_refl _) (Nat.le_refl _) dX0_tryFew_56
      · -- fall 32
        refine lv_iload hx hb dX0_tryFew_32 (lv_at hl 0 rfl) ?_
        refine lv_goto (tgt := 46) hx hb dX0_tryFew_34 (by decide) ?_
        refine fx_put_ (ws' := [(ax 19, .inr (0, [.ref (ax 0), .ref (ax 1), .ref (ax 35), .ref (ax 55), .ref (ax 4), .ref (ax 5), .ref (ax 6), .ref (ax 7), .int im, .ref (ax 9), .ref (ax 10), .ref (ax 11), .ref (ax 12), .ref (ax 13), .int bn, .int bm, .int fm, .int ff, .int (paysF sa T ex k)])), (ax 1, .inl (E.2 0, 3, .inl nm2_19)), (ax 0, .inl (E.2 0, 60, .inl pl2_19)), (ax 11, .inl (E.2 1, 8, .inl ek))]) X hE hP hD hS 0 rfl rfl tyX0_ok nmX0 18 rfl q253 rfl rfl rfl rfl rfl rfl dX0_tryFew_46 (fun H locs hP hD hS => ?_)
        refine lv_iload hx hb dX0_tryFew_49 (lv_at hl 0 rfl) ?_
        refine lv_iload hx hb dX0_tryFew_51 (lv_at hl 6 rfl) ?_
        refine lv_icmp_eq (tgt := 57) hx hb dX0_tryFew_53 (by decide) (fun c_53 => ?_) (fun c_53 => ?_)
        · -- jump 57
          refine lv_aload_n hx hb dX0_tryFew_57 rfl (lv_at hl 1 rfl) ?_
          refine lv_aload_n hx hb dX0_tryFew_58 rfl (lv_at hl 1 rfl) ?_
          refine fx_get X hE hP 0 rfl rfl 16 rfl q251 rfl rfl dX0_tryFew_59 ?_
          refine lv_if_ne (tgt := 69) hx hb dX0_tryFew_62 (by decide) (fun c_62 => ?_) (fun c_62 => ?_)
          · -- jump 69
            refine lv_aload_n hx hb dX0_tryFew_69 rfl (lv_at hl 1 rfl) ?_
            refine fx_get X hE hP 0 rfl rfl 17 rfl q252 rfl rfl dX0_tryFew_70 ?_
            refine fx_put_ (ws' := [(ax 19, .inr (0, [.ref (ax 0), .ref (ax 1), .ref (ax 35), .ref (ax 55), .ref (ax 4), .ref (ax 5), .ref (ax 6), .ref (ax 7), .int im, .ref (ax 9), .ref (ax 10), .ref (ax 11), .ref (ax 12), .ref (ax 13), .int bn, .int bm, .int fm, .int ff, .int (paysF sa T ex k)])), (ax 1, .inl (E.2 0, 3, .inl nm2_19)), (ax 0, .inl (E.2 0, 60, .inl pl2_19)), (ax 11, .inl (E.2 1, 8, .inl ek))]) X hE hP hD hS 0 rfl rfl tyX0_ok nmX0 17 rfl q252 rfl rfl rfl rfl rfl rfl dX0_tryFew_73 (fun H locs hP hD hS => ?_)
            refine lv_aload_n hx hb dX0_tryFew_76 rfl (lv_at hl 1 rfl) ?_
            refine lv_dup hx hb dX0_tryFew_77 rfl ?_
            refine fx_get X hE hP 0 rfl rfl 16 rfl q251 rfl rfl dX0_tryFew_78 ?_
            refine lv_iconst (v := 1) hx hb dX0_tryFew_81 rfl ?_
            refine lv_iadd hx hb dX0_tryFew_82 ?_
            refine fx_put_ (ws' := [(ax 19, .inr (0, [.ref (ax 0), .ref (ax 1), .ref (ax 35), .ref (ax 55), .ref (ax 4), .ref (ax 5), .ref (ax 6), .ref (ax 7), .int im, .ref (ax 9), .ref (ax 10), .ref (ax 11), .ref (ax 12), .ref (ax 13), .int bn, .int bm, .int (fm + 1), .int ff, .int (paysF sa T ex k)])), (ax 1, .inl (E.2 0, 3, .inl nm2_19)), (ax 0, .inl (E.2 0, 60, .inl pl2_19)), (ax 11, .inl (E.2 1, 8, .inl ek))]) X hE hP hD hS 0 rfl rfl tyX0_ok nmX0 16 rfl q251 rfl rfl rfl rfl rfl rfl dX0_tryFew_83 (fun H locs hP hD hS => ?_)
            exact hret ((fm + 1), ff, (paysF sa T ex k), nm2_19, pl2_19, ek) (⟨by show SR _ _ _ (lfS (fun e_ => paysF sa T e_ k) wa ex le mo bb) _; rw [Nat.pow_zero, Nat.mul_one]; exact (show lpX (paysF sa T ex k) fl = _ from if_pos (Int32.not_le.1 c_29)) ▸ SR_hit1 (pay := fun e_ => paysF sa T e_ k) hSR1 hcd hcl (by omega) hpn c_53 c_62, fun i hi => rfl⟩) hP hD hS (Nat.le_refl _) (Nat.le_refl _) dX0_tryFew_86
          · -- fall 65
            refine lv_iload_n hx hb dX0_tryFew_65 rfl (lv_at hl 4 rfl) ?_
            refine lv_goto (tgt := 73) hx hb dX0_tryFew_66 (by decide) ?_
            refine fx_put_ (ws' := [(ax 19, .inr (0, [.ref (ax 0), .ref (ax 1), .ref (ax 35), .ref (ax 55), .ref (ax 4), .ref (ax 5), .ref (ax 6), .ref (ax 7), .int im, .ref (ax 9), .ref (ax 10), .ref (ax 11), .ref (ax 12), .ref (ax 13), .int bn, .int bm, .int fm, .int (nI cd), .int (paysF sa T ex k)])), (ax 1, .inl (E.2 0, 3, .inl nm2_19)), (ax 0, .inl (E.2 0, 60, .inl pl2_19)), (ax 11, .inl (E.2 1, 8, .inl ek))]) X hE hP hD hS 0 rfl rfl tyX0_ok nmX0 17 rfl q252 rfl rfl rfl rfl rfl rfl dX0_tryFew_73 (fun H locs hP hD hS => ?_)
            refine lv_aload_n hx hb dX0_tryFew_76 rfl (lv_at hl 1 rfl) ?_
            refine lv_dup hx hb dX0_tryFew_77 rfl ?_
            refine fx_get X hE hP 0 rfl rfl 16 rfl q251 rfl rfl dX0_tryFew_78 ?_
            refine lv_iconst (v := 1) hx hb dX0_tryFew_81 rfl ?_
            refine lv_iadd hx hb dX0_tryFew_82 ?_
            refine fx_put_ (ws' := [(ax 19, .inr (0, [.ref (ax 0), .ref (ax 1), .ref (ax 35), .ref (ax 55), .ref (ax 4), .ref (ax 5), .ref (ax 6), .ref (ax 7), .int im, .ref (ax 9), .ref (ax 10), .ref (ax 11), .ref (ax 12), .ref (ax 13), .int bn, .int bm, .int (fm + 1), .int (nI cd), .int (paysF sa T ex k)])), (ax 1, .inl (E.2 0, 3, .inl nm2_19)), (ax 0, .inl (E.2 0, 60, .inl pl2_19)), (ax 11, .inl (E.2 1, 8, .inl ek))]) X hE hP hD hS 0 rfl rfl tyX0_ok nmX0 16 rfl q251 rfl rfl rfl rfl rfl rfl dX0_tryFew_83 (fun H locs hP hD hS => ?_)
            exact hret ((fm + 1), nI cd, (paysF sa T ex k), nm2_19, pl2_19, ek) (⟨by show SR _ _ _ (lfS (fun e_ => paysF sa T e_ k) wa ex le mo bb) _; rw [Nat.pow_zero, Nat.mul_one]; exact (show lpX (paysF sa T ex k) fl = _ from if_pos (Int32.not_le.1 c_29)) ▸ SR_hit0 (pay := fun e_ => paysF sa T e_ k) hSR1 hcd hcl (by omega) hpn c_53 c_62, fun i hi => rfl⟩) hP hD hS (Nat.le_refl _) (Nat.le_refl _) dX0_tryFew_86
        · -- fall 56
          exact hret (fm, ff, (paysF sa T ex k), nm2_19, pl2_19, ek) (⟨by show SR _ _ _ (lfS (fun e_ => paysF sa T e_ k) wa ex le mo bb) _; rw [Nat.pow_zero, Nat.mul_one]; exact (show lpX (paysF sa T ex k) fl = _ from if_pos (Int32.not_le.1 c_29)) ▸ SR_no (pay := fun e_ => paysF sa T e_ k) hSR1 (by omega) hpn c_53, fun i hi => rfl⟩) hP hD hS (Nat.le_refl _) (Nat.le_refl _) dX0_tryFew_56
    · -- fall 11
      have n_8 := fx_eq1 (a := le) (b := 3) c_8 (by omega) (by omega)
      exact hret (fm, ff, fl, nmd, pl, ek) (⟨by show SR _ _ _ (lfS (fun e_ => paysF sa T e_ k) wa ex le mo bb) _; rw [Nat.pow_zero, Nat.mul_one]; exact SR_skip hSR1 (by omega), fun i hi => rfl⟩) hP hD hS (Nat.le_refl _) (Nat.le_refl _) dX0_tryFew_11
  | succ d ih =>
    intro ax im bn bm fm ff fl tk cs gs zz tp wg nmd pl sa tl pr ek ex bb tx T PL k le mo cd wa hd hk hI hTL hT hTo hpr hek hmn hcd hSR
    refine fx_vW rfl rfl ?_
    intro p e s m args below meth c A ls Q X hnm hE hP hD hR hA hl hret
    have hx := X.1
    have hb := X.2.1
    have hS : va_S A s.heap s.heap [] := va_S.rf
    replace hP : va_P E.1 clA [(ax 19, .inr (0, [.ref (ax 0), .ref (ax 1), .ref (ax 35), .ref (ax 55), .ref (ax 4), .ref (ax 5), .ref (ax 6), .ref (ax 7), .int im, .ref (ax 9), .ref (ax 10), .ref (ax 11), .ref (ax 12), .ref (ax 13), .int bn, .int bm, .int fm, .int ff, .int fl])), (ax 1, .inl (E.2 0, 3, .inl nmd)), (ax 0, .inl (E.2 0, 60, .inl pl)), (ax 11, .inl (E.2 1, 8, .inl ek))] _ := hP
    replace hD : va_D A [(ax 19, .inr (0, [.ref (ax 0), .ref (ax 1), .ref (ax 35), .ref (ax 55), .ref (ax 4), .ref (ax 5), .ref (ax 6), .ref (ax 7), .int im, .ref (ax 9), .ref (ax 10), .ref (ax 11), .ref (ax 12), .ref (ax 13), .int bn, .int bm, .int fm, .int ff, .int fl])), (ax 1, .inl (E.2 0, 3, .inl nmd)), (ax 0, .inl (E.2 0, 60, .inl pl)), (ax 11, .inl (E.2 1, 8, .inl ek))] := hD
    replace hl : lv_has ls 7 [(0, .ref (ax 19)), (1, .int (nI (8 - (d + 1)))), (2, .int (nI le)), (3, .int (nI cd)), (4, .int (nI k)), (5, .int wa)] := hl
    have hcl : cd < 10000000 := hcd ▸ codN_7 (by omega) (fun i hi => (hek i hi).2)
    refine lv_iload_n hx hb dX0_tryFew_0 rfl (lv_at hl 1 rfl) ?_
    refine lv_bipush (v := 8) hx hb dX0_tryFew_1 rfl ?_
    refine lv_icmp_ne (tgt := 87) hx hb dX0_tryFew_3 (by decide) (fun c_3 => ?_) (fun c_3 => absurd (fx_eq1 (a := 8 - (d + 1)) (b := 8) c_3 (by omega) (by omega)) (by omega))
    have n_3 := fx_eq0 (a := (8 - (d + 1))) (b := 8) c_3 (by omega) (by omega)
    refine lv_iconst (v := 0) hx hb dX0_tryFew_87 rfl ?_
    refine lv_istore (lv' := [(6, .int 0), (0, .ref (ax 19)), (1, .int (nI (8 - (d + 1)))), (2, .int (nI le)), (3, .int (nI cd)), (4, .int (nI k)), (5, .int wa)]) hx hb dX0_tryFew_88 hl (by decide) rfl (fun ls hl => ?_)
    have loop_90 : ∀ (n_90 : Nat) (n : Nat) (fmv : Int32) (ffv : Int32) (flv : Int32) (nmv : Nat → Int32) (plv : Nat → Int32) (ekv : Nat → Int32), (le + 1 - n < n_90) → (n ≤ le + 1) → (SR fmv ffv flv (itr (fun n_ b => enL (fun _ q_ => q_) (lfS (fun e_ => paysF sa T e_ k) wa) d (upN ex (8 - (d + 1)) n_) (le - n_) (mo + n_) b) n bb) ((10 * cd + n) * 10 ^ d)) → (∀ i, i < (8 - (d + 1)) → ekv i = ek i) → ∀ (H : Heap) (locs : List Loc), va_P E.1 clA [(ax 19, .inr (0, [.ref (ax 0), .ref (ax 1), .ref (ax 35), .ref (ax 55), .ref (ax 4), .ref (ax 5), .ref (ax 6), .ref (ax 7), .int im, .ref (ax 9), .ref (ax 10), .ref (ax 11), .ref (ax 12), .ref (ax 13), .int bn, .int bm, .int fmv, .int ffv, .int flv])), (ax 1, .inl (E.2 0, 3, .inl nmv)), (ax 0, .inl (E.2 0, 60, .inl plv)), (ax 11, .inl (E.2 1, 8, .inl ekv))] H → va_D A [(ax 19, .inr (0, [.ref (ax 0), .ref (ax 1), .ref (ax 35), .ref (ax 55), .ref (ax 4), .ref (ax 5), .ref (ax 6), .ref (ax 7), .int im, .ref (ax 9), .ref (ax 10), .ref (ax 11), .ref (ax 12), .ref (ax 13), .int bn, .int bm, .int fmv, .int ffv, .int flv])), (ax 1, .inl (E.2 0, 3, .inl nmv)), (ax 0, .inl (E.2 0, 60, .inl plv)), (ax 11, .inl (E.2 1, 8, .inl ekv))] → va_S A s.heap H locs → ∀ (ls : Array Slot), lv_has ls 7 [(6, .int (nI n)), (0, .ref (ax 19)), (1, .int (nI (8 - (d + 1)))), (2, .int (nI le)), (3, .int (nI cd)), (4, .int (nI k)), (5, .int wa)] → W p l e (rxX0_tryFew (d + 1)) s m args below meth c H locs 0 0 Q (F0 m 90 ls []) := by
      intro n_90
      induction n_90 with
      | zero => intro n fmv ffv flv nmv plv ekv hm_90; exact absurd hm_90 (Nat.not_lt_zero _)
      | succ n_90 ih_90 =>
        intro n fmv ffv flv nmv plv ekv hm_90 hn hB hr3 H locs hP hD hS ls hl
        refine lv_iload hx hb dX0_tryFew_90 (lv_at hl 0 rfl) ?_
        refine lv_iload_n hx hb dX0_tryFew_92 rfl (lv_at hl 3 rfl) ?_
        refine lv_icmp_gt (tgt := 133) hx hb dX0_tryFew_93 (by decide) (fun c_93 => ?_) (fun c_93 => ?_)
        · -- jump 133
          have n_93 := fx_lt1 (a := le) (b := n) c_93 (by omega) (by omega)
          have hne : n = le + 1 := by omega
          refine lv_aload_n hx hb dX0_tryFew_133 rfl (lv_at hl 1 rfl) ?_
          refine fx_get X hE hP 0 rfl rfl 11 rfl q246 rfl rfl dX0_tryFew_134 ?_
          refine lv_iload_n hx hb dX0_tryFew_137 rfl (lv_at hl 2 rfl) ?_
          refine lv_iconst (v := 0) hx hb dX0_tryFew_138 rfl ?_
          refine fx_bast (ws' := [(ax 19, .inr (0, [.ref (ax 0), .ref (ax 1), .ref (ax 35), .ref (ax 55), .ref (ax 4), .ref (ax 5), .ref (ax 6), .ref (ax 7), .int im, .ref (ax 9), .ref (ax 10), .ref (ax 11), .ref (ax 12), .ref (ax 13), .int bn, .int bm, .int fmv, .int ffv, .int flv])), (ax 1, .inl (E.2 0, 3, .inl nmv)), (ax 0, .inl (E.2 0, 60, .inl plv)), (ax 11, .inl (E.2 1, 8, .inl (upd ekv (8 - (d + 1)) 0)))]) X hE hP hD hS 3 rfl (8 - (d + 1)) rfl (by omega) rfl (by decide) rfl dX0_tryFew_139 (fun H locs hP hD hS => ?_)
          exact hret (fmv, ffv, flv, nmv, plv, (upd ekv (8 - (d + 1)) 0)) (⟨by rw [enL]; exact SR_le (hne ▸ hB) (pw_out (by omega)), fun i hi => (upd_n _ _ (by omega)).trans (hr3 i hi)⟩) hP hD hS (Nat.le_refl _) (Nat.le_refl _) dX0_tryFew_140
        · -- fall 96
          have n_93 := fx_lt0 (a := le) (b := n) c_93 (by omega) (by omega)
          refine lv_aload_n hx hb dX0_tryFew_96 rfl (lv_at hl 1 rfl) ?_
          refine fx_get X hE hP 0 rfl rfl 11 rfl q246 rfl rfl dX0_tryFew_97 ?_
          refine lv_iload_n hx hb dX0_tryFew_100 rfl (lv_at hl 2 rfl) ?_
          refine lv_iload hx hb dX0_tryFew_101 (lv_at hl 0 rfl) ?_
          refine lv_i2b (v := (nI n).toInt8.toInt32) hx hb dX0_tryFew_103 rfl ?_
          refine fx_bast (ws' := [(ax 19, .inr (0, [.ref (ax 0), .ref (ax 1), .ref (ax 35), .ref (ax 55), .ref (ax 4), .ref (ax 5), .ref (ax 6), .ref (ax 7), .int im, .ref (ax 9), .ref (ax 10), .ref (ax 11), .ref (ax 12), .ref (ax 13), .int bn, .int bm, .int fmv, .int ffv, .int flv])), (ax 1, .inl (E.2 0, 3, .inl nmv)), (ax 0, .inl (E.2 0, 60, .inl plv)), (ax 11, .inl (E.2 1, 8, .inl (upd ekv (8 - (d + 1)) (nI n))))]) X hE hP hD hS 3 rfl (8 - (d + 1)) rfl (by omega) rfl (by rw [pk_bidem]; exact fit8 rfl (by omega)) rfl dX0_tryFew_104 (fun H locs hP hD hS => ?_)
          refine lv_aload_n hx hb dX0_tryFew_105 rfl (lv_at hl 1 rfl) ?_
          refine lv_iload_n hx hb dX0_tryFew_106 rfl (lv_at hl 2 rfl) ?_
          refine lv_iconst (v := 1) hx hb dX0_tryFew_107 rfl ?_
          refine lv_iadd hx hb dX0_tryFew_108 ?_
          refine fx_ti (nI_add (8 - (d + 1)) 1) ?_
          refine fx_ti (show nI (8 - (d + 1) + 1) = nI (8 - d) from congrArg nI (by omega)) ?_
          refine lv_iload_n hx hb dX0_tryFew_109 rfl (lv_at hl 3 rfl) ?_
          refine lv_iload hx hb dX0_tryFew_110 (lv_at hl 0 rfl) ?_
          refine lv_isub hx hb dX0_tryFew_112 ?_
          refine fx_ti (pk_sub (a := le) (b := n) (by omega)) ?_
          refine lv_bipush (v := 10) hx hb dX0_tryFew_113 rfl ?_
          refine lv_iload_n hx hb dX0_tryFew_115 rfl (lv_at hl 4 rfl) ?_
          refine lv_imul hx hb dX0_tryFew_116 ?_
          refine fx_ti (pk_mul 10 cd) ?_
          refine lv_iload hx hb dX0_tryFew_117 (lv_at hl 0 rfl) ?_
          refine lv_iadd hx hb dX0_tryFew_119 ?_
          refine fx_ti (nI_add (10 * cd) n) ?_
          refine lv_iload hx hb dX0_tryFew_120 (lv_at hl 5 rfl) ?_
          refine lv_iload hx hb dX0_tryFew_122 (lv_at hl 6 rfl) ?_
          refine fx_cv (va_runV (As := [.int (nI (8 - d)), .int (nI (le - n)), .int (nI (10 * cd + n)), .int (nI k), .int wa]) (rest := []) X (ih ax im bn bm fmv ffv flv tk cs gs zz tp wg nmv plv sa tl pr (upd ekv (8 - (d + 1)) (nI n)) (upN ex (8 - (d + 1)) n) (itr (fun n_ b => enL (fun _ q_ => q_) (lfS (fun e_ => paysF sa T e_ k) wa) d (upN ex (8 - (d + 1)) n_) (le - n_) (mo + n_) b) n bb) tx T PL k (le - n) (mo + n) (10 * cd + n) wa (by omega) (by first | assumption | omega) (by first | assumption | omega) (by first | assumption | omega) (by first | assumption | omega) (by first | assumption | omega) (by first | assumption | omega) (by rw [show 8 - d = 8 - (d + 1) + 1 by omega]; exact rowq_s (fun i hi => ⟨(hr3 i hi).trans (hek i hi).1, (hek i hi).2⟩) (by omega)) (by rw [show 8 - d = 8 - (d + 1) + 1 by omega, manyN_nx]; omega) (by rw [show 8 - d = 8 - (d + 1) + 1 by omega, codN_nx, hcd]) hB _) (cwV 5 X.2.2.2.2 (lw_V q922 q924 qs30 q69 q925) rfl rfl rfl ⟨rfl, hdX0_tryFew⟩ ⟨by simp only [rxX0_tryFew]; omega, by simp only [rxX0_tryFew]; omega⟩) (fx_preV (fx_pre hE hP hD hS hR [0, 1, 2, 3] rfl rfl (fx_rcr 0 rfl (fx_rcr 1 rfl (fx_rcr 2 rfl (fx_rcr 3 rfl (fx_rcr 4 rfl (fx_rcr 5 rfl (fx_rcr 6 rfl (fx_rcr 7 rfl (fx_rcr 8 rfl (fx_rct (fun q hq => List.mem_append_right _ hq)))))))))))) (va_recv hE.1 hP (ci := 0) (q0 := 0) rfl rfl)) rfl rfl hl.1 rfl (lv_room (Nat.le_of_ble_eq_true rfl)) dX0_tryFew_124 ⟨Nat.le_refl _, Nat.le_refl _⟩) hP hD hS hA [0, 1, 2, 3] rfl rfl (fun u H locs hq_124 hP hD hS => ?_)
          obtain ⟨fm2_124, ff2_124, fl2_124, nm2_124, pl2_124, ek2_124⟩ := u
          replace hP : va_P E.1 clA [(ax 19, .inr (0, [.ref (ax 0), .ref (ax 1), .ref (ax 35), .ref (ax 55), .ref (ax 4), .ref (ax 5), .ref (ax 6), .ref (ax 7), .int im, .ref (ax 9), .ref (ax 10), .ref (ax 11), .ref (ax 12), .ref (ax 13), .int bn, .int bm, .int fm2_124, .int ff2_124, .int fl2_124])), (ax 1, .inl (E.2 0, 3, .inl nm2_124)), (ax 0, .inl (E.2 0, 60, .inl pl2_124)), (ax 11, .inl (E.2 1, 8, .inl ek2_124))] _ := hP
          replace hD : va_D A [(ax 19, .inr (0, [.ref (ax 0), .ref (ax 1), .ref (ax 35), .ref (ax 55), .ref (ax 4), .ref (ax 5), .ref (ax 6), .ref (ax 7), .int im, .ref (ax 9), .ref (ax 10), .ref (ax 11), .ref (ax 12), .ref (ax 13), .int bn, .int bm, .int fm2_124, .int ff2_124, .int fl2_124])), (ax 1, .inl (E.2 0, 3, .inl nm2_124)), (ax 0, .inl (E.2 0, 60, .inl pl2_124)), (ax 11, .inl (E.2 1, 8, .inl ek2_124))] := hD
          replace hq_124 : SR fm2_124 ff2_124 fl2_124 (enL (fun _ q_ => q_) (lfS (fun e_ => paysF sa T e_ k) wa) d (upN ex (8 - (d + 1)) n) (le - n) (mo + n) (itr (fun n_ b => enL (fun _ q_ => q_) (lfS (fun e_ => paysF sa T e_ k) wa) d (upN ex (8 - (d + 1)) n_) (le - n_) (mo + n_) b) n bb)) (((10 * cd + n) + 1) * 10 ^ d) ∧ (∀ i, i < 8 - d → ek2_124 i = (upd ekv (8 - (d + 1)) (nI n)) i) := hq_124
          refine lv_iinc (v := nI (n + 1)) (lv' := [(6, .int (nI (n + 1))), (0, .ref (ax 19)), (1, .int (nI (8 - (d + 1)))), (2, .int (nI le)), (3, .int (nI cd)), (4, .int (nI k)), (5, .int wa)]) hx hb dX0_tryFew_127 hl (k := 0) rfl (fx_inc _) (by decide) rfl (fun ls hl => ?_)
          refine lv_goto (tgt := 90) hx hb dX0_tryFew_130 (by decide) ?_
          exact ih_90 (n + 1) fm2_124 ff2_124 fl2_124 nm2_124 pl2_124 ek2_124 (by omega) (by omega) hq_124.1 (fun i hi => by rw [hq_124.2 i (by omega), upd_n _ _ (by omega), hr3 i hi]) _ _ hP hD hS ls (lv_sub hl [0, 1, 2, 3, 4, 5, 6] rfl)
    exact loop_90 ((le + 1 - 0) + 1) 0 fm ff fl nmd pl ek (Nat.lt_succ_self _) (Nat.zero_le _) (SR_le hSR pw_in) (fun i hi => rfl) _ _ hP hD hS ls (lv_sub hl [0, 1, 2, 3, 4, 5, 6] rfl)
abbrev rxX0_findFew : Room := { frames := 24, cells := 0, slots := 0, locals := 1000 }
set_option maxHeartbeats 400000 in
set_option maxRecDepth 100000 in
theorem xX0_findFew (l : Launch) (E : fx_En) (ax : Nat → Nat) (im : Int32) (bn : Int32) (bm : Int32) (fm : Int32) (ff : Int32) (fl : Int32) (tk : Int32) (cs : Int32) (gs : Int32) (zz : Int32) (tp : Int32) (wg : Int32) (nmd : Nat → Int32) (pl : Nat → Int32) (sa : Nat → Int32) (tl : Nat → Nat) (pr : Nat → Int32) (ek : Nat → Int32) (tx : Nat → Option Nat) (T : Tx) (PL : va_W) (k : Nat) (wa : Int32) (hk : k < 4) (hI : Inv sa) (hTL : TLS PL sa tl) (hT : TXs E PL (tx 0) T) (hTo : TOk T) (hpr : rl pr sa 8 8) : fx_Mv l yX0_findFew cX0_findFew 3 rxX0_findFew E [.ref (ax 19), .int (nI k), .int wa] [(ax 19, .inr (0, [.ref (ax 0), .ref (ax 1), .ref (ax 35), .ref (ax 55), .ref (ax 4), .ref (ax 5), .ref (ax 6), .ref (ax 7), .int im, .ref (ax 9), .ref (ax 10), .ref (ax 11), .ref (ax 12), .ref (ax 13), .int bn, .int bm, .int fm, .int ff, .int fl])), (ax 1, .inl (E.2 0, 3, .inl nmd)), (ax 0, .inl (E.2 0, 60, .inl pl)), (ax 11, .inl (E.2 1, 8, .inl ek))] ([(ax 35, .inr (1, [.ref (ax 20), .ref (ax 21), .ref (ax 22), .int tk, .int cs, .int gs, .int zz, .int tp, .int wg, .ref (ax 29), .ref (ax 30), .ref (ax 31), .ref (ax 32)])), (ax 29, .inl (E.2 3, 4, .inr (.inr (.inr (.inr (fun i_ => some (ax (36 + i_)))))))), (ax 36, .inr (2, [.ref (tl 0)])), (ax 37, .inr (2, [.ref (tl 1)])), (ax 38, .inr (2, [.ref (tl 2)])), (ax 39, .inr (2, [.ref (tl 3)])), (ax 7, .inr (5, [.ref (ax 19)])), (ax 30, .inl (E.2 4, 2, .inr (.inr (.inr (.inr tx))))), (ax 20, .inl (E.2 0, 8, .inl pr))] ++ PL) (S := Int32 × Int32 × Int32 × (Nat → Int32) × (Nat → Int32) × (Nat → Int32)) (fun (u : Int32 × Int32 × Int32 × (Nat → Int32) × (Nat → Int32) × (Nat → Int32)) => [(ax 19, .inr (0, [.ref (ax 0), .ref (ax 1), .ref (ax 35), .ref (ax 55), .ref (ax 4), .ref (ax 5), .ref (ax 6), .ref (ax 7), .int im, .ref (ax 9), .ref (ax 10), .ref (ax 11), .ref (ax 12), .ref (ax 13), .int bn, .int bm, .int u.1, .int u.2.1, .int u.2.2.1])), (ax 1, .inl (E.2 0, 3, .inl u.2.2.2.1)), (ax 0, .inl (E.2 0, 60, .inl u.2.2.2.2.1)), (ax 11, .inl (E.2 1, 8, .inl u.2.2.2.2.2))]) (fun (u : Int32 × Int32 × Int32 × (Nat → Int32) × (Nat → Int32) × (Nat → Int32)) => u.1 = (smF sa T k wa).1 ∧ u.2.2.1 = (smF sa T k wa).2.2 ∧ (u.1 = 0 → (smF sa T k wa).2.1 = -1) ∧ (¬ u.1 = 0 → (smF sa T k wa).2.1 = u.2.1 ∧ ¬ (smF sa T k wa).2.1 = -1)) := by
  refine fx_vW rfl rfl ?_
  intro p e s m args below meth c A ls Q X hnm hE hP hD hR hA hl hret
  have hx := X.1
  have hb := X.2.1
  have hS : va_S A s.heap s.heap [] := va_S.rf
  replace hP : va_P E.1 clA [(ax 19, .inr (0, [.ref (ax 0), .ref (ax 1), .ref (ax 35), .ref (ax 55), .ref (ax 4), .ref (ax 5), .ref (ax 6), .ref (ax 7), .int im, .ref (ax 9), .ref (ax 10), .ref (ax 11), .ref (ax 12), .ref (ax 13), .int bn, .int bm, .int fm, .int ff, .int fl])), (ax 1, .inl (E.2 0, 3, .inl nmd)), (ax 0, .inl (E.2 0, 60, .inl pl)), (ax 11, .inl (E.2 1, 8, .inl ek))] _ := hP
  replace hD : va_D A [(ax 19, .inr (0, [.ref (ax 0), .ref (ax 1), .ref (ax 35), .ref (ax 55), .ref (ax 4), .ref (ax 5), .ref (ax 6), .ref (ax 7), .int im, .ref (ax 9), .ref (ax 10), .ref (ax 11), .ref (ax 12), .ref (ax 13), .int bn, .int bm, .int fm, .int ff, .int fl])), (ax 1, .inl (E.2 0, 3, .inl nmd)), (ax 0, .inl (E.2 0, 60, .inl pl)), (ax 11, .inl (E.2 1, 8, .inl ek))] := hD
  replace hl : lv_has ls 3 [(0, .ref (ax 19)), (1, .int (nI k)), (2, .int wa)] := hl
  refine lv_aload_n hx hb dX0_findFew_0 rfl (lv_at hl 0 rfl) ?_
  refine lv_iconst (v := 0) hx hb dX0_findFew_1 rfl ?_
  refine fx_put_ (ws' := [(ax 19, .inr (0, [.ref (ax 0), .ref (ax 1), .ref (ax 35), .ref (ax 55), .ref (ax 4), .ref (ax 5), .ref (ax 6), .ref (ax 7), .int im, .ref (ax 9), .ref (ax 10), .ref (ax 11), .ref (ax 12), .ref (ax 13), .int bn, .int bm, .int 0, .int ff, .int fl])), (ax 1, .inl (E.2 0, 3, .inl nmd)), (ax 0, .inl (E.2 0, 60, .inl pl)), (ax 11, .inl (E.2 1, 8, .inl ek))]) X hE hP hD hS 0 rfl rfl tyX0_ok nmX0 16 rfl q251 rfl rfl rfl rfl rfl rfl dX0_findFew_2 (fun H locs hP hD hS => ?_)
  refine lv_aload_n hx hb dX0_findFew_5 rfl (lv_at hl 0 rfl) ?_
  refine lv_iconst (v := (-1)) hx hb dX0_findFew_6 rfl ?_
  refine fx_put_ (ws' := [(ax 19, .inr (0, [.ref (ax 0), .ref (ax 1), .ref (ax 35), .ref (ax 55), .ref (ax 4), .ref (ax 5), .ref (ax 6), .ref (ax 7), .int im, .ref (ax 9), .ref (ax 10), .ref (ax 11), .ref (ax 12), .ref (ax 13), .int bn, .int bm, .int 0, .int ff, .int (-1)])), (ax 1, .inl (E.2 0, 3, .inl nmd)), (ax 0, .inl (E.2 0, 60, .inl pl)), (ax 11, .inl (E.2 1, 8, .inl ek))]) X hE hP hD hS 0 rfl rfl tyX0_ok nmX0 18 rfl q253 rfl rfl rfl rfl rfl rfl dX0_findFew_7 (fun H locs hP hD hS => ?_)
  refine lv_aload_n hx hb dX0_findFew_10 rfl (lv_at hl 0 rfl) ?_
  refine lv_iconst (v := 0) hx hb dX0_findFew_11 rfl ?_
  refine lv_iconst (v := 3) hx hb dX0_findFew_12 rfl ?_
  refine lv_iconst (v := 0) hx hb dX0_findFew_13 rfl ?_
  refine lv_iload_n hx hb dX0_findFew_14 rfl (lv_at hl 1 rfl) ?_
  refine lv_iload_n hx hb dX0_findFew_15 rfl (lv_at hl 2 rfl) ?_
  refine fx_cv (va_runV (As := [.int 0, .int 3, .int 0, .int (nI k), .int wa]) (rest := []) X (xX0_tryFew l E 8 ax im bn bm 0 ff (-1) tk cs gs zz tp wg nmd pl sa tl pr ek (fun _ => 0) ((0, -1, -1) : Sst) tx T PL k 3 0 0 wa (Nat.le_refl 8) (by first | assumption | omega) (by first | assumption | omega) (by first | assumption | omega) (by first | assumption | omega) (by first | assumption | omega) (by first | assumption | omega) (fun i hi => absurd hi (by omega)) rfl rfl SR_0 _) (cwV 5 X.2.2.2.2 (lw_V q922 q924 qs30 q69 q925) rfl rfl rfl ⟨rfl, hdX0_tryFew⟩ ⟨Nat.le_of_ble_eq_true rfl, Nat.le_of_ble_eq_true rfl⟩) (fx_preV (fx_pre hE hP hD hS hR [0, 1, 2, 3] rfl rfl (fx_rcr 0 rfl (fx_rcr 1 rfl (fx_rcr 2 rfl (fx_rcr 3 rfl (fx_rcr 4 rfl (fx_rcr 5 rfl (fx_rcr 6 rfl (fx_rcr 7 rfl (fx_rcr 8 rfl (fx_rct (fun q hq => List.mem_append_right _ hq)))))))))))) (va_recv hE.1 hP (ci := 0) (q0 := 0) rfl rfl)) rfl rfl hl.1 rfl (lv_room (Nat.le_of_ble_eq_true rfl)) dX0_findFew_16 ⟨Nat.le_refl _, Nat.le_refl _⟩) hP hD hS hA [0, 1, 2, 3] rfl rfl (fun u H locs hq_16 hP hD hS => ?_)
  obtain ⟨fm2_16, ff2_16, fl2_16, nm2_16, pl2_16, ek2_16⟩ := u
  replace hP : va_P E.1 clA [(ax 19, .inr (0, [.ref (ax 0), .ref (ax 1), .ref (ax 35), .ref (ax 55), .ref (ax 4), .ref (ax 5), .ref (ax 6), .ref (ax 7), .int im, .ref (ax 9), .ref (ax 10), .ref (ax 11), .ref (ax 12), .ref (ax 13), .int bn, .int bm, .int fm2_16, .int ff2_16, .int fl2_16])), (ax 1, .inl (E.2 0, 3, .inl nm2_16)), (ax 0, .inl (E.2 0, 60, .inl pl2_16)), (ax 11, .inl (E.2 1, 8, .inl ek2_16))] _ := hP
  replace hD : va_D A [(ax 19, .inr (0, [.ref (ax 0), .ref (ax 1), .ref (ax 35), .ref (ax 55), .ref (ax 4), .ref (ax 5), .ref (ax 6), .ref (ax 7), .int im, .ref (ax 9), .ref (ax 10), .ref (ax 11), .ref (ax 12), .ref (ax 13), .int bn, .int bm, .int fm2_16, .int ff2_16, .int fl2_16])), (ax 1, .inl (E.2 0, 3, .inl nm2_16)), (ax 0, .inl (E.2 0, 60, .inl pl2_16)), (ax 11, .inl (E.2 1, 8, .inl ek2_16))] := hD
  replace hq_16 : SR fm2_16 ff2_16 fl2_16 (enL (fun _ q_ => q_) (lfS (fun e_ => paysF sa T e_ k) wa) 8 (fun _ => 0) 3 0 ((0, -1, -1) : Sst)) ((0 + 1) * 10 ^ 8) ∧ (∀ i, i < 8 - 8 → ek2_16 i = ek i) := hq_16
  have hsr : SR fm2_16 ff2_16 fl2_16 (smF sa T k wa) ((0 + 1) * 10 ^ 8) := hq_16.1
  exact hret (fm2_16, ff2_16, fl2_16, nm2_16, pl2_16, ek2_16) (⟨hsr.1.1, hsr.1.2.1, fun h => SR_fi hsr (by decide) h, fun h => SR_ff hsr (by decide) h⟩) hP hD hS (Nat.le_refl _) (Nat.le_refl _) dX0_findFew_19
abbrev rxX0_areNines : Room := { frames := 0, cells := 0, slots := 0, locals := 0 }
set_option maxHeartbeats 400000 in
set_option maxRecDepth 100000 in
theorem xX0_areNines (l : Launch) (E : fx_En) (ax : Nat → Nat) (im : Int32) (bn : Int32) (bm : Int32) (fm : Int32) (ff : Int32) (fl : Int32) (tk : Int32) (cs : Int32) (gs : Int32) (zz : Int32) (tp : Int32) (wg : Int32) (sa : Nat → Int32) (pr : Nat → Int32) (hI : Inv sa) (hpr : rl pr sa 8 8) : fx_Mi l yX0_areNines cX0_areNines 2 .int rxX0_areNines E [.ref (ax 19)] [] [(ax 19, .inr (0, [.ref (ax 0), .ref (ax 1), .ref (ax 35), .ref (ax 55), .ref (ax 4), .ref (ax 5), .ref (ax 6), .ref (ax 7), .int im, .ref (ax 9), .ref (ax 10), .ref (ax 11), .ref (ax 12), .ref (ax 13), .int bn, .int bm, .int fm, .int ff, .int fl])), (ax 35, .inr (1, [.ref (ax 20), .ref (ax 21), .ref (ax 22), .int tk, .int cs, .int gs, .int zz, .int tp, .int wg, .ref (ax 29), .ref (ax 30), .ref (ax 31), .ref (ax 32)])), (ax 20, .inl (E.2 0, 8, .inl pr))] (S := Unit) (fun (u : Unit) => []) (fun (r : Int32) (u : Unit) => r = fx_b (nin9 sa = true)) := by
  refine fx_iW rfl rfl ?_
  intro p e s m args below meth c A ls Q X hE hP hD hR hA hl hret
  have hx := X.1
  have hb := X.2.1
  have hS : va_S A s.heap s.heap [] := va_S.rf
  replace hl : lv_has ls 2 [(0, .ref (ax 19))] := hl
  refine lv_iconst (v := 0) hx hb dX0_areNines_0 rfl ?_
  refine lv_istore_n (lv' := [(1, .int 0), (0, .ref (ax 19))]) hx hb dX0_areNines_1 rfl hl (by decide) rfl (fun ls hl => ?_)
  have loop_2 : ∀ (n_2 : Nat) (t : Nat), (8 - t < n_2) → (t ≤ 8) → (∀ i, i < t → (fun i_ => decide (nn (sa (8 + i_)) % 9 = 0)) i = true) → ∀ (H : Heap) (locs : List Loc), va_P E.1 clA [] H → va_D A [] → va_S A s.heap H locs → ∀ (ls : Array Slot), lv_has ls 2 [(1, .int (nI t)), (0, .ref (ax 19))] → W p l e rxX0_areNines s m args below meth c H locs 0 0 Q (F0 m 2 ls []) := by
    intro n_2
    induction n_2 with
    | zero => intro t hm_2; exact absurd hm_2 (Nat.not_lt_zero _)
    | succ n_2 ih_2 =>
      intro t hm_2 ht hall H locs hP hD hS ls hl
      refine lv_iload_n hx hb dX0_areNines_2 rfl (lv_at hl 0 rfl) ?_
      refine lv_bipush (v := 8) hx hb dX0_areNines_3 rfl ?_
      refine lv_icmp_ge (tgt := 31) hx hb dX0_areNines_5 (by decide) (fun c_5 => ?_) (fun c_5 => ?_)
      · -- jump 31
        have n_5 := fx_le1 (a := 8) (b := t) c_5 (by omega) (by omega)
        obtain rfl : t = 8 := by omega
        refine lv_iconst (v := 1) hx hb dX0_areNines_31 rfl ?_
        exact hret 1 () (fx_bt (allB_iff.2 hall)) (rfl) hP hD hS (Nat.le_refl _) (Nat.le_refl _) dX0_areNines_32
      · -- fall 8
        have n_5 := fx_le0 (a := 8) (b := t) c_5 (by omega) (by omega)
        refine lv_aload_n hx hb dX0_areNines_8 rfl (lv_at hl 1 rfl) ?_
        refine fx_get X hE (hR.at hS) 0 rfl rfl 2 rfl q237 rfl rfl dX0_areNines_9 ?_
        refine fx_getN X hE (hR.at hS) 1 rfl rfl 0 rfl 3 rfl rfl rfl dX0_areNines_12 ?_
        refine lv_iload_n hx hb dX0_areNines_15 rfl (lv_at hl 0 rfl) ?_
        refine fx_iald X hE (hR.at hS) 2 rfl t rfl (by omega) rfl dX0_areNines_16 ?_
        refine fx_ti (show (pr t) = nI (nn (sa (8 + t))) from (hpr t (by omega)).trans (hI.pr t (by omega)).1) ?_
        have hp2 := (hI.pr t (by omega)).2
        refine lv_bipush (v := 9) hx hb dX0_areNines_17 rfl ?_
        refine lv_irem hx hb dX0_areNines_19 (by decide) ?_
        refine fx_ti (pk_rem (a := nn (sa (8 + t))) (d := 9) (by omega) (by omega) (by omega)) ?_
        refine lv_if_eq (tgt := 25) hx hb dX0_areNines_20 (by decide) (fun c_20 => ?_) (fun c_20 => ?_)
        · -- jump 25
          have n_20 := fx_eq1 (a := ((nn (sa (8 + t))) % 9)) (b := 0) c_20 (by omega) (by omega)
          refine lv_iinc (v := nI (t + 1)) (lv' := [(1, .int (nI (t + 1))), (0, .ref (ax 19))]) hx hb dX0_areNines_25 hl (k := 0) rfl (fx_inc _) (by decide) rfl (fun ls hl => ?_)
          refine lv_goto (tgt := 2) hx hb dX0_areNines_28 (by decide) ?_
          exact ih_2 (t + 1) (by omega) (by omega) (fun i hi => by rcases Nat.lt_or_ge i t with q | q; exact hall i q; rw [show i = t by omega]; exact decide_eq_true n_20) _ _ hP hD hS ls (lv_sub hl [0, 1] rfl)
        · -- fall 23
          have n_20 := fx_eq0 (a := ((nn (sa (8 + t))) % 9)) (b := 0) c_20 (by omega) (by omega)
          refine lv_iconst (v := 0) hx hb dX0_areNines_23 rfl ?_
          exact hret 0 () (fx_bf (fun h => n_20 (of_decide_eq_true (allB_iff.1 h t n_5)))) (rfl) hP hD hS (Nat.le_refl _) (Nat.le_refl _) dX0_areNines_24
  exact loop_2 ((8 - 0) + 1) 0 (Nat.lt_succ_self _) (by omega) (fun i hi => absurd hi (Nat.not_lt_zero _)) _ _ hP hD hS ls (lv_sub hl [0, 1] rfl)
abbrev rxX0_nines : Room := { frames := 25, cells := 0, slots := 0, locals := 1050 }
set_option maxHeartbeats 400000 in
set_option maxRecDepth 100000 in
theorem xX0_nines (l : Launch) (E : fx_En) (ax : Nat → Nat) (im : Int32) (bn : Int32) (bm : Int32) (fm : Int32) (ff : Int32) (fl : Int32) (tk : Int32) (cs : Int32) (gs : Int32) (zz : Int32) (tp : Int32) (wg : Int32) (er : Nat → Int32) (nmd : Nat → Int32) (pl : Nat → Int32) (sa : Nat → Int32) (tl : Nat → Nat) (pr : Nat → Int32) (ek : Nat → Int32) (tx : Nat → Option Nat) (T : Tx) (PL : va_W) (til : Int32) (hI : Inv sa) (hTL : TLS PL sa tl) (hT : TXs E PL (tx 0) T) (hTo : TOk T) (hpr : rl pr sa 8 8) : fx_Mi l yX0_nines cX0_nines 2 .int rxX0_nines E [.ref (ax 19), .int til] [(ax 19, .inr (0, [.ref (ax 0), .ref (ax 1), .ref (ax 35), .ref (ax 55), .ref (ax 4), .ref (ax 5), .ref (ax 6), .ref (ax 7), .int im, .ref (ax 9), .ref (ax 10), .ref (ax 11), .ref (ax 12), .ref (ax 13), .int bn, .int bm, .int fm, .int ff, .int fl])), (ax 5, .inl (E.2 0, 7, .inl er)), (ax 1, .inl (E.2 0, 3, .inl nmd)), (ax 0, .inl (E.2 0, 60, .inl pl)), (ax 11, .inl (E.2 1, 8, .inl ek))] ([(ax 35, .inr (1, [.ref (ax 20), .ref (ax 21), .ref (ax 22), .int tk, .int cs, .int gs, .int zz, .int tp, .int wg, .ref (ax 29), .ref (ax 30), .ref (ax 31), .ref (ax 32)])), (ax 29, .inl (E.2 3, 4, .inr (.inr (.inr (.inr (fun i_ => some (ax (36 + i_)))))))), (ax 36, .inr (2, [.ref (tl 0)])), (ax 37, .inr (2, [.ref (tl 1)])), (ax 38, .inr (2, [.ref (tl 2)])), (ax 39, .inr (2, [.ref (tl 3)])), (ax 7, .inr (5, [.ref (ax 19)])), (ax 30, .inl (E.2 4, 2, .inr (.inr (.inr (.inr tx))))), (ax 20, .inl (E.2 0, 8, .inl pr))] ++ PL) (S := Int32 × Int32 × Int32 × (Nat → Int32) × (Nat → Int32) × (Nat → Int32) × (Nat → Int32)) (fun (u : Int32 × Int32 × Int32 × (Nat → Int32) × (Nat → Int32) × (Nat → Int32) × (Nat → Int32)) => [(ax 19, .inr (0, [.ref (ax 0), .ref (ax 1), .ref (ax 35), .ref (ax 55), .ref (ax 4), .ref (ax 5), .ref (ax 6), .ref (ax 7), .int im, .ref (ax 9), .ref (ax 10), .ref (ax 11), .ref (ax 12), .ref (ax 13), .int bn, .int bm, .int u.1, .int u.2.1, .int u.2.2.1])), (ax 5, .inl (E.2 0, 7, .inl u.2.2.2.1)), (ax 1, .inl (E.2 0, 3, .inl u.2.2.2.2.1)), (ax 0, .inl (E.2 0, 60, .inl u.2.2.2.2.2.1)), (ax 11, .inl (E.2 1, 8, .inl u.2.2.2.2.2.2))]) (fun (r : Int32) (u : Int32 × Int32 × Int32 × (Nat → Int32) × (Nat → Int32) × (Nat → Int32) × (Nat → Int32)) => (r, u.2.2.2.1) = nines_ sa er T til) := by
  refine fx_iW rfl rfl ?_
  intro p e s m args below meth c A ls Q X hE hP hD hR hA hl hret
  have hx := X.1
  have hb := X.2.1
  have hS : va_S A s.heap s.heap [] := va_S.rf
  replace hP : va_P E.1 clA [(ax 19, .inr (0, [.ref (ax 0), .ref (ax 1), .ref (ax 35), .ref (ax 55), .ref (ax 4), .ref (ax 5), .ref (ax 6), .ref (ax 7), .int im, .ref (ax 9), .ref (ax 10), .ref (ax 11), .ref (ax 12), .ref (ax 13), .int bn, .int bm, .int fm, .int ff, .int fl])), (ax 5, .inl (E.2 0, 7, .inl er)), (ax 1, .inl (E.2 0, 3, .inl nmd)), (ax 0, .inl (E.2 0, 60, .inl pl)), (ax 11, .inl (E.2 1, 8, .inl ek))] _ := hP
  replace hD : va_D A [(ax 19, .inr (0, [.ref (ax 0), .ref (ax 1), .ref (ax 35), .ref (ax 55), .ref (ax 4), .ref (ax 5), .ref (ax 6), .ref (ax 7), .int im, .ref (ax 9), .ref (ax 10), .ref (ax 11), .ref (ax 12), .ref (ax 13), .int bn, .int bm, .int fm, .int ff, .int fl])), (ax 5, .inl (E.2 0, 7, .inl er)), (ax 1, .inl (E.2 0, 3, .inl nmd)), (ax 0, .inl (E.2 0, 60, .inl pl)), (ax 11, .inl (E.2 1, 8, .inl ek))] := hD
  replace hl : lv_has ls 2 [(0, .ref (ax 19)), (1, .int til)] := hl
  refine lv_iload_n hx hb dX0_nines_0 rfl (lv_at hl 1 rfl) ?_
  refine lv_iconst (v := (-1)) hx hb dX0_nines_1 rfl ?_
  refine lv_iconst (v := 3) hx hb dX0_nines_2 rfl ?_
  refine fx_ci (va_runS (As := [.int til, .int (-1), .int 3]) (rest := []) X (xX0_isIn l E til (-1) 3 _) (va_cwS 3 X.2.2.2.2 (lw_S q300 q301 q69 q302) rfl rfl rfl hdX0_isIn ⟨Nat.le_of_ble_eq_true rfl, Nat.le_of_ble_eq_true rfl⟩) (fx_pre hE hP hD hS hR [] rfl rfl fx_rc0) rfl rfl hl.1 rfl (lv_room (Nat.le_of_ble_eq_true rfl)) dX0_nines_3 ⟨Nat.le_refl _, Nat.le_refl _⟩) hP hD hS hA [] rfl rfl (fun r_3 u H locs hq_3 hP hD hS => ?_)
  replace hP : va_P E.1 clA [(ax 19, .inr (0, [.ref (ax 0), .ref (ax 1), .ref (ax 35), .ref (ax 55), .ref (ax 4), .ref (ax 5), .ref (ax 6), .ref (ax 7), .int im, .ref (ax 9), .ref (ax 10), .ref (ax 11), .ref (ax 12), .ref (ax 13), .int bn, .int bm, .int fm, .int ff, .int fl])), (ax 5, .inl (E.2 0, 7, .inl er)), (ax 1, .inl (E.2 0, 3, .inl nmd)), (ax 0, .inl (E.2 0, 60, .inl pl)), (ax 11, .inl (E.2 1, 8, .inl ek))] _ := hP
  replace hD : va_D A [(ax 19, .inr (0, [.ref (ax 0), .ref (ax 1), .ref (ax 35), .ref (ax 55), .ref (ax 4), .ref (ax 5), .ref (ax 6), .ref (ax 7), .int im, .ref (ax 9), .ref (ax 10), .ref (ax 11), .ref (ax 12), .ref (ax 13), .int bn, .int bm, .int fm, .int ff, .int fl])), (ax 5, .inl (E.2 0, 7, .inl er)), (ax 1, .inl (E.2 0, 3, .inl nmd)), (ax 0, .inl (E.2 0, 60, .inl pl)), (ax 11, .inl (E.2 1, 8, .inl ek))] := hD
  replace hq_3 : r_3 = fx_b (inB til (-1) 3 = true) := hq_3
  rcases fx_bc hq_3 with ⟨hb_3, hr_3⟩ | ⟨hb_3, hr_3⟩
  · -- True
    subst hr_3
    refine lv_if_ne (tgt := 15) hx hb dX0_nines_6 (by decide) (fun _ => ?_) (fun c => absurd c (by decide))
    refine lv_iload_n hx hb dX0_nines_15 rfl (lv_at hl 1 rfl) ?_
    refine lv_if_ge (tgt := 24) hx hb dX0_nines_16 (by decide) (fun c_16 => ?_) (fun c_16 => ?_)
    · -- jump 24
      have htn : ¬ til = -1 := fun e => absurd c_16 (by rw [e]; decide)
      refine lv_aload_n hx hb dX0_nines_24 rfl (lv_at hl 0 rfl) ?_
      refine lv_iload_n hx hb dX0_nines_25 rfl (lv_at hl 1 rfl) ?_
      refine fx_ti (show til = nI (nn til) from (til_nat hb_3 htn).1) ?_
      refine lv_iconst (v := (-1)) hx hb dX0_nines_26 rfl ?_
      refine fx_cv (va_runV (As := [.int (nI (nn til)), .int (-1)]) (rest := []) X (xX0_findFew l E ax im bn bm fm ff fl tk cs gs zz tp wg nmd pl sa tl pr ek tx T PL (nn til) (-1) (by have := (til_nat hb_3 htn).2; omega) (by first | assumption | omega) (by first | assumption | omega) (by first | assumption | omega) (by first | assumption | omega) (by first | assumption | omega) _) (cwV 2 X.2.2.2.2 (lw_V q918 q920 qs29 q69 q921) rfl rfl rfl ⟨rfl, hdX0_findFew⟩ ⟨Nat.le_of_ble_eq_true rfl, Nat.le_of_ble_eq_true rfl⟩) (fx_preV (fx_pre hE hP hD hS hR [0, 2, 3, 4] rfl rfl (fx_rcr 0 rfl (fx_rcr 1 rfl (fx_rcr 2 rfl (fx_rcr 3 rfl (fx_rcr 4 rfl (fx_rcr 5 rfl (fx_rcr 6 rfl (fx_rcr 7 rfl (fx_rcr 8 rfl (fx_rct (fun q hq => List.mem_append_right _ hq)))))))))))) (va_recv hE.1 hP (ci := 0) (q0 := 0) rfl rfl)) rfl rfl hl.1 rfl (lv_room (Nat.le_of_ble_eq_true rfl)) dX0_nines_27 ⟨Nat.le_refl _, Nat.le_refl _⟩) hP hD hS hA [0, 2, 3, 4] rfl rfl (fun u H locs hq_27 hP hD hS => ?_)
      obtain ⟨fm2_27, ff2_27, fl2_27, nm2_27, pl2_27, ek2_27⟩ := u
      replace hP : va_P E.1 clA [(ax 19, .inr (0, [.ref (ax 0), .ref (ax 1), .ref (ax 35), .ref (ax 55), .ref (ax 4), .ref (ax 5), .ref (ax 6), .ref (ax 7), .int im, .ref (ax 9), .ref (ax 10), .ref (ax 11), .ref (ax 12), .ref (ax 13), .int bn, .int bm, .int fm2_27, .int ff2_27, .int fl2_27])), (ax 5, .inl (E.2 0, 7, .inl er)), (ax 1, .inl (E.2 0, 3, .inl nm2_27)), (ax 0, .inl (E.2 0, 60, .inl pl2_27)), (ax 11, .inl (E.2 1, 8, .inl ek2_27))] _ := hP
      replace hD : va_D A [(ax 19, .inr (0, [.ref (ax 0), .ref (ax 1), .ref (ax 35), .ref (ax 55), .ref (ax 4), .ref (ax 5), .ref (ax 6), .ref (ax 7), .int im, .ref (ax 9), .ref (ax 10), .ref (ax 11), .ref (ax 12), .ref (ax 13), .int bn, .int bm, .int fm2_27, .int ff2_27, .int fl2_27])), (ax 5, .inl (E.2 0, 7, .inl er)), (ax 1, .inl (E.2 0, 3, .inl nm2_27)), (ax 0, .inl (E.2 0, 60, .inl pl2_27)), (ax 11, .inl (E.2 1, 8, .inl ek2_27))] := hD
      replace hq_27 : fm2_27 = (smF sa T (nn til) (-1)).1 ∧ fl2_27 = (smF sa T (nn til) (-1)).2.2 ∧ (fm2_27 = 0 → (smF sa T (nn til) (-1)).2.1 = -1) ∧ (¬ fm2_27 = 0 → (smF sa T (nn til) (-1)).2.1 = ff2_27 ∧ ¬ (smF sa T (nn til) (-1)).2.1 = -1) := hq_27
      refine lv_aload_n hx hb dX0_nines_30 rfl (lv_at hl 0 rfl) ?_
      refine fx_get X hE hP 0 rfl rfl 18 rfl q253 rfl rfl dX0_nines_31 ?_
      exact hret fl2_27 (fm2_27, ff2_27, fl2_27, er, nm2_27, pl2_27, ek2_27) (by rw [nines_, if_pos hb_3, if_neg htn, hq_27.2.1]) (rfl) hP hD hS (Nat.le_refl _) (Nat.le_refl _) dX0_nines_34
    · -- fall 19
      have htm : til = -1 := til_m1 hb_3 (Int32.not_le.1 c_16)
      refine lv_aload_n hx hb dX0_nines_19 rfl (lv_at hl 0 rfl) ?_
      refine fx_ci (va_runV (As := []) (rest := []) X (xX0_areNines l E ax im bn bm fm ff fl tk cs gs zz tp wg sa pr (by first | assumption | omega) (by first | assumption | omega) _) (cwV 0 X.2.2.2.2 (lw_V q914 q916 qs28 q69 q917) rfl rfl rfl ⟨rfl, hdX0_areNines⟩ ⟨Nat.le_of_ble_eq_true rfl, Nat.le_of_ble_eq_true rfl⟩) (fx_preV (fx_pre hE hP hD hS hR [] rfl rfl (fx_rcm 0 rfl (by decide) (fx_rcr 0 rfl (fx_rcr 8 rfl fx_rc0)))) (va_recv hE.1 hP (ci := 0) (q0 := 0) rfl rfl)) rfl rfl hl.1 rfl (lv_room (Nat.le_of_ble_eq_true rfl)) dX0_nines_20 ⟨Nat.le_refl _, Nat.le_refl _⟩) hP hD hS hA [] rfl rfl (fun r_20 u H locs hq_20 hP hD hS => ?_)
      replace hP : va_P E.1 clA [(ax 19, .inr (0, [.ref (ax 0), .ref (ax 1), .ref (ax 35), .ref (ax 55), .ref (ax 4), .ref (ax 5), .ref (ax 6), .ref (ax 7), .int im, .ref (ax 9), .ref (ax 10), .ref (ax 11), .ref (ax 12), .ref (ax 13), .int bn, .int bm, .int fm, .int ff, .int fl])), (ax 5, .inl (E.2 0, 7, .inl er)), (ax 1, .inl (E.2 0, 3, .inl nmd)), (ax 0, .inl (E.2 0, 60, .inl pl)), (ax 11, .inl (E.2 1, 8, .inl ek))] _ := hP
      replace hD : va_D A [(ax 19, .inr (0, [.ref (ax 0), .ref (ax 1), .ref (ax 35), .ref (ax 55), .ref (ax 4), .ref (ax 5), .ref (ax 6), .ref (ax 7), .int im, .ref (ax 9), .ref (ax 10), .ref (ax 11), .ref (ax 12), .ref (ax 13), .int bn, .int bm, .int fm, .int ff, .int fl])), (ax 5, .inl (E.2 0, 7, .inl er)), (ax 1, .inl (E.2 0, 3, .inl nmd)), (ax 0, .inl (E.2 0, 60, .inl pl)), (ax 11, .inl (E.2 1, 8, .inl ek))] := hD
      replace hq_20 : r_20 = fx_b (nin9 sa = true) := hq_20
      exact hret r_20 (fm, ff, fl, er, nmd, pl, ek) (by rw [hq_20, nines_, if_pos hb_3, if_pos htm]) (rfl) hP hD hS (Nat.le_refl _) (Nat.le_refl _) dX0_nines_23
  · -- False
    subst hr_3
    refine lv_if_ne (tgt := 15) hx hb dX0_nines_6 (by decide) (fun c => (c (by decide)).elim) (fun _ => ?_)
    refine lv_aload_n hx hb dX0_nines_9 rfl (lv_at hl 0 rfl) ?_
    refine lv_iconst (v := 1) hx hb dX0_nines_10 rfl ?_
    refine fx_ci (va_runV (As := [.int 1]) (rest := []) X (xX0_finds l E ax im bn bm fm ff fl er 1 (by decide) _) (cwV 1 X.2.2.2.2 (lw_V q303 q305 qs0 q69 q306) rfl rfl rfl ⟨rfl, hdX0_finds⟩ ⟨Nat.le_of_ble_eq_true rfl, Nat.le_of_ble_eq_true rfl⟩) (fx_preV (fx_pre hE hP hD hS hR [1] rfl rfl (fx_rcm 0 rfl (by decide) fx_rc0)) (va_recv hE.1 hP (ci := 0) (q0 := 0) rfl rfl)) rfl rfl hl.1 rfl (lv_room (Nat.le_of_ble_eq_true rfl)) dX0_nines_11 ⟨Nat.le_refl _, Nat.le_refl _⟩) hP hD hS hA [1] rfl rfl (fun r_11 u H locs hq_11 hP hD hS => ?_)
    replace hP : va_P E.1 clA [(ax 19, .inr (0, [.ref (ax 0), .ref (ax 1), .ref (ax 35), .ref (ax 55), .ref (ax 4), .ref (ax 5), .ref (ax 6), .ref (ax 7), .int im, .ref (ax 9), .ref (ax 10), .ref (ax 11), .ref (ax 12), .ref (ax 13), .int bn, .int bm, .int fm, .int ff, .int fl])), (ax 5, .inl (E.2 0, 7, .inl (upd er 1 (er 1 + 1)))), (ax 1, .inl (E.2 0, 3, .inl nmd)), (ax 0, .inl (E.2 0, 60, .inl pl)), (ax 11, .inl (E.2 1, 8, .inl ek))] _ := hP
    replace hD : va_D A [(ax 19, .inr (0, [.ref (ax 0), .ref (ax 1), .ref (ax 35), .ref (ax 55), .ref (ax 4), .ref (ax 5), .ref (ax 6), .ref (ax 7), .int im, .ref (ax 9), .ref (ax 10), .ref (ax 11), .ref (ax 12), .ref (ax 13), .int bn, .int bm, .int fm, .int ff, .int fl])), (ax 5, .inl (E.2 0, 7, .inl (upd er 1 (er 1 + 1)))), (ax 1, .inl (E.2 0, 3, .inl nmd)), (ax 0, .inl (E.2 0, 60, .inl pl)), (ax 11, .inl (E.2 1, 8, .inl ek))] := hD
    replace hq_11 : r_11 = erv 1 := hq_11
    exact hret r_11 (fm, ff, fl, (upd er 1 (er 1 + 1)), nmd, pl, ek) (by rw [hq_11]; simp [nines_, hb_3, erI]) (rfl) hP hD hS (Nat.le_refl _) (Nat.le_refl _) dX0_nines_14
abbrev rxX0_wasIn : Room := { frames := 25, cells := 0, slots := 0, locals := 1050 }
set_option maxHeartbeats 400000 in
set_option maxRecDepth 100000 in
theorem xX0_wasIn (l : Launch) (E : fx_En) (ax : Nat → Nat) (im : Int32) (bn : Int32) (bm : Int32) (fm : Int32) (ff : Int32) (fl : Int32) (tk : Int32) (cs : Int32) (gs : Int32) (zz : Int32) (tp : Int32) (wg : Int32) (er : Nat → Int32) (nmd : Nat → Int32) (pl : Nat → Int32) (sa : Nat → Int32) (tl : Nat → Nat) (pr : Nat → Int32) (ek : Nat → Int32) (tx : Nat → Option Nat) (T : Tx) (PL : va_W) (til : Int32) (pd : Int32) (wh : Int32) (hI : Inv sa) (hTL : TLS PL sa tl) (hT : TXs E PL (tx 0) T) (hTo : TOk T) (hpr : rl pr sa 8 8) : fx_Mi l yX0_wasIn cX0_wasIn 4 .int rxX0_wasIn E [.ref (ax 19), .int til, .int pd, .int wh] [(ax 19, .inr (0, [.ref (ax 0), .ref (ax 1), .ref (ax 35), .ref (ax 55), .ref (ax 4), .ref (ax 5), .ref (ax 6), .ref (ax 7), .int im, .ref (ax 9), .ref (ax 10), .ref (ax 11), .ref (ax 12), .ref (ax 13), .int bn, .int bm, .int fm, .int ff, .int fl])), (ax 5, .inl (E.2 0, 7, .inl er)), (ax 1, .inl (E.2 0, 3, .inl nmd)), (ax 0, .inl (E.2 0, 60, .inl pl)), (ax 11, .inl (E.2 1, 8, .inl ek))] ([(ax 35, .inr (1, [.ref (ax 20), .ref (ax 21), .ref (ax 22), .int tk, .int cs, .int gs, .int zz, .int tp, .int wg, .ref (ax 29), .ref (ax 30), .ref (ax 31), .ref (ax 32)])), (ax 29, .inl (E.2 3, 4, .inr (.inr (.inr (.inr (fun i_ => some (ax (36 + i_)))))))), (ax 36, .inr (2, [.ref (tl 0)])), (ax 37, .inr (2, [.ref (tl 1)])), (ax 38, .inr (2, [.ref (tl 2)])), (ax 39, .inr (2, [.ref (tl 3)])), (ax 7, .inr (5, [.ref (ax 19)])), (ax 30, .inl (E.2 4, 2, .inr (.inr (.inr (.inr tx))))), (ax 20, .inl (E.2 0, 8, .inl pr))] ++ PL) (S := Int32 × Int32 × Int32 × (Nat → Int32) × (Nat → Int32) × (Nat → Int32) × (Nat → Int32)) (fun (u : Int32 × Int32 × Int32 × (Nat → Int32) × (Nat → Int32) × (Nat → Int32) × (Nat → Int32)) => [(ax 19, .inr (0, [.ref (ax 0), .ref (ax 1), .ref (ax 35), .ref (ax 55), .ref (ax 4), .ref (ax 5), .ref (ax 6), .ref (ax 7), .int im, .ref (ax 9), .ref (ax 10), .ref (ax 11), .ref (ax 12), .ref (ax 13), .int bn, .int bm, .int u.1, .int u.2.1, .int u.2.2.1])), (ax 5, .inl (E.2 0, 7, .inl u.2.2.2.1)), (ax 1, .inl (E.2 0, 3, .inl u.2.2.2.2.1)), (ax 0, .inl (E.2 0, 60, .inl u.2.2.2.2.2.1)), (ax 11, .inl (E.2 1, 8, .inl u.2.2.2.2.2.2))]) (fun (r : Int32) (u : Int32 × Int32 × Int32 × (Nat → Int32) × (Nat → Int32) × (Nat → Int32) × (Nat → Int32)) => (r, u.2.2.2.1) = wasIn_ sa er T til pd wh) := by
  refine fx_iW rfl rfl ?_
  intro p e s m args below meth c A ls Q X hE hP hD hR hA hl hret
  have hx := X.1
  have hb := X.2.1
  have hS : va_S A s.heap s.heap [] := va_S.rf
  replace hP : va_P E.1 clA [(ax 19, .inr (0, [.ref (ax 0), .ref (ax 1), .ref (ax 35), .ref (ax 55), .ref (ax 4), .ref (ax 5), .ref (ax 6), .ref (ax 7), .int im, .ref (ax 9), .ref (ax 10), .ref (ax 11), .ref (ax 12), .ref (ax 13), .int bn, .int bm, .int fm, .int ff, .int fl])), (ax 5, .inl (E.2 0, 7, .inl er)), (ax 1, .inl (E.2 0, 3, .inl nmd)), (ax 0, .inl (E.2 0, 60, .inl pl)), (ax 11, .inl (E.2 1, 8, .inl ek))] _ := hP
  replace hD : va_D A [(ax 19, .inr (0, [.ref (ax 0), .ref (ax 1), .ref (ax 35), .ref (ax 55), .ref (ax 4), .ref (ax 5), .ref (ax 6), .ref (ax 7), .int im, .ref (ax 9), .ref (ax 10), .ref (ax 11), .ref (ax 12), .ref (ax 13), .int bn, .int bm, .int fm, .int ff, .int fl])), (ax 5, .inl (E.2 0, 7, .inl er)), (ax 1, .inl (E.2 0, 3, .inl nmd)), (ax 0, .inl (E.2 0, 60, .inl pl)), (ax 11, .inl (E.2 1, 8, .inl ek))] := hD
  replace hl : lv_has ls 4 [(0, .ref (ax 19)), (1, .int til), (2, .int pd), (3, .int wh)] := hl
  refine lv_iload_n hx hb dX0_wasIn_0 rfl (lv_at hl 1 rfl) ?_
  refine fx_ci (va_runS (As := [.int til]) (rest := []) X (xX0_isTill l E til _) (va_cwS 1 X.2.2.2.2 (lw_S q336 q337 q69 q338) rfl rfl rfl hdX0_isTill ⟨Nat.le_of_ble_eq_true rfl, Nat.le_of_ble_eq_true rfl⟩) (fx_pre hE hP hD hS hR [] rfl rfl fx_rc0) rfl rfl hl.1 rfl (lv_room (Nat.le_of_ble_eq_true rfl)) dX0_wasIn_1 ⟨Nat.le_refl _, Nat.le_refl _⟩) hP hD hS hA [] rfl rfl (fun r_1 u H locs hq_1 hP hD hS => ?_)
  replace hP : va_P E.1 clA [(ax 19, .inr (0, [.ref (ax 0), .ref (ax 1), .ref (ax 35), .ref (ax 55), .ref (ax 4), .ref (ax 5), .ref (ax 6), .ref (ax 7), .int im, .ref (ax 9), .ref (ax 10), .ref (ax 11), .ref (ax 12), .ref (ax 13), .int bn, .int bm, .int fm, .int ff, .int fl])), (ax 5, .inl (E.2 0, 7, .inl er)), (ax 1, .inl (E.2 0, 3, .inl nmd)), (ax 0, .inl (E.2 0, 60, .inl pl)), (ax 11, .inl (E.2 1, 8, .inl ek))] _ := hP
  replace hD : va_D A [(ax 19, .inr (0, [.ref (ax 0), .ref (ax 1), .ref (ax 35), .ref (ax 55), .ref (ax 4), .ref (ax 5), .ref (ax 6), .ref (ax 7), .int im, .ref (ax 9), .ref (ax 10), .ref (ax 11), .ref (ax 12), .ref (ax 13), .int bn, .int bm, .int fm, .int ff, .int fl])), (ax 5, .inl (E.2 0, 7, .inl er)), (ax 1, .inl (E.2 0, 3, .inl nmd)), (ax 0, .inl (E.2 0, 60, .inl pl)), (ax 11, .inl (E.2 1, 8, .inl ek))] := hD
  replace hq_1 : r_1 = fx_b (inB til 0 3 = true) := hq_1
  rcases fx_bc hq_1 with ⟨hb_1, hr_1⟩ | ⟨hb_1, hr_1⟩
  · -- True
    subst hr_1
    refine lv_if_eq (tgt := 27) hx hb dX0_wasIn_4 (by decide) (fun c => absurd c (by decide)) (fun _ => ?_)
    refine lv_iload_n hx hb dX0_wasIn_7 rfl (lv_at hl 2 rfl) ?_
    refine lv_iconst (v := 0) hx hb dX0_wasIn_8 rfl ?_
    refine lv_sipush (v := 9999) hx hb dX0_wasIn_9 rfl ?_
    refine fx_ci (va_runS (As := [.int pd, .int 0, .int 9999]) (rest := []) X (xX0_isIn l E pd 0 9999 _) (va_cwS 3 X.2.2.2.2 (lw_S q300 q301 q69 q302) rfl rfl rfl hdX0_isIn ⟨Nat.le_of_ble_eq_true rfl, Nat.le_of_ble_eq_true rfl⟩) (fx_pre hE hP hD hS hR [] rfl rfl fx_rc0) rfl rfl hl.1 rfl (lv_room (Nat.le_of_ble_eq_true rfl)) dX0_wasIn_12 ⟨Nat.le_refl _, Nat.le_refl _⟩) hP hD hS hA [] rfl rfl (fun r_12 u H locs hq_12 hP hD hS => ?_)
    replace hP : va_P E.1 clA [(ax 19, .inr (0, [.ref (ax 0), .ref (ax 1), .ref (ax 35), .ref (ax 55), .ref (ax 4), .ref (ax 5), .ref (ax 6), .ref (ax 7), .int im, .ref (ax 9), .ref (ax 10), .ref (ax 11), .ref (ax 12), .ref (ax 13), .int bn, .int bm, .int fm, .int ff, .int fl])), (ax 5, .inl (E.2 0, 7, .inl er)), (ax 1, .inl (E.2 0, 3, .inl nmd)), (ax 0, .inl (E.2 0, 60, .inl pl)), (ax 11, .inl (E.2 1, 8, .inl ek))] _ := hP
    replace hD : va_D A [(ax 19, .inr (0, [.ref (ax 0), .ref (ax 1), .ref (ax 35), .ref (ax 55), .ref (ax 4), .ref (ax 5), .ref (ax 6), .ref (ax 7), .int im, .ref (ax 9), .ref (ax 10), .ref (ax 11), .ref (ax 12), .ref (ax 13), .int bn, .int bm, .int fm, .int ff, .int fl])), (ax 5, .inl (E.2 0, 7, .inl er)), (ax 1, .inl (E.2 0, 3, .inl nmd)), (ax 0, .inl (E.2 0, 60, .inl pl)), (ax 11, .inl (E.2 1, 8, .inl ek))] := hD
    replace hq_12 : r_12 = fx_b (inB pd 0 9999 = true) := hq_12
    rcases fx_bc hq_12 with ⟨hb_12, hr_12⟩ | ⟨hb_12, hr_12⟩
    · -- True
      subst hr_12
      refine lv_if_eq (tgt := 27) hx hb dX0_wasIn_15 (by decide) (fun c => absurd c (by decide)) (fun _ => ?_)
      refine lv_iload_n hx hb dX0_wasIn_18 rfl (lv_at hl 3 rfl) ?_
      refine lv_iconst (v := 0) hx hb dX0_wasIn_19 rfl ?_
      refine lv_iconst (v := 1) hx hb dX0_wasIn_20 rfl ?_
      refine fx_ci (va_runS (As := [.int wh, .int 0, .int 1]) (rest := []) X (xX0_isIn l E wh 0 1 _) (va_cwS 3 X.2.2.2.2 (lw_S q300 q301 q69 q302) rfl rfl rfl hdX0_isIn ⟨Nat.le_of_ble_eq_true rfl, Nat.le_of_ble_eq_true rfl⟩) (fx_pre hE hP hD hS hR [] rfl rfl fx_rc0) rfl rfl hl.1 rfl (lv_room (Nat.le_of_ble_eq_true rfl)) dX0_wasIn_21 ⟨Nat.le_refl _, Nat.le_refl _⟩) hP hD hS hA [] rfl rfl (fun r_21 u H locs hq_21 hP hD hS => ?_)
      replace hP : va_P E.1 clA [(ax 19, .inr (0, [.ref (ax 0), .ref (ax 1), .ref (ax 35), .ref (ax 55), .ref (ax 4), .ref (ax 5), .ref (ax 6), .ref (ax 7), .int im, .ref (ax 9), .ref (ax 10), .ref (ax 11), .ref (ax 12), .ref (ax 13), .int bn, .int bm, .int fm, .int ff, .int fl])), (ax 5, .inl (E.2 0, 7, .inl er)), (ax 1, .inl (E.2 0, 3, .inl nmd)), (ax 0, .inl (E.2 0, 60, .inl pl)), (ax 11, .inl (E.2 1, 8, .inl ek))] _ := hP
      replace hD : va_D A [(ax 19, .inr (0, [.ref (ax 0), .ref (ax 1), .ref (ax 35), .ref (ax 55), .ref (ax 4), .ref (ax 5), .ref (ax 6), .ref (ax 7), .int im, .ref (ax 9), .ref (ax 10), .ref (ax 11), .ref (ax 12), .ref (ax 13), .int bn, .int bm, .int fm, .int ff, .int fl])), (ax 5, .inl (E.2 0, 7, .inl er)), (ax 1, .inl (E.2 0, 3, .inl nmd)), (ax 0, .inl (E.2 0, 60, .inl pl)), (ax 11, .inl (E.2 1, 8, .inl ek))] := hD
      replace hq_21 : r_21 = fx_b (inB wh 0 1 = true) := hq_21
      rcases fx_bc hq_21 with ⟨hb_21, hr_21⟩ | ⟨hb_21, hr_21⟩
      · -- True
        subst hr_21
        refine lv_if_ne (tgt := 33) hx hb dX0_wasIn_24 (by decide) (fun _ => ?_) (fun c => absurd c (by decide))
        refine lv_aload_n hx hb dX0_wasIn_33 rfl (lv_at hl 0 rfl) ?_
        refine lv_iload_n hx hb dX0_wasIn_34 rfl (lv_at hl 1 rfl) ?_
        refine fx_ti (show til = nI (nn til) from (inB_nn (n := 3) hb_1 (by omega)).1) ?_
        refine lv_iload_n hx hb dX0_wasIn_35 rfl (lv_at hl 2 rfl) ?_
        refine fx_cv (va_runV (As := [.int (nI (nn til)), .int pd]) (rest := []) X (xX0_findFew l E ax im bn bm fm ff fl tk cs gs zz tp wg nmd pl sa tl pr ek tx T PL (nn til) pd (by have := (inB_nn (n := 3) hb_1 (by omega)).2; omega) (by first | assumption | omega) (by first | assumption | omega) (by first | assumption | omega) (by first | assumption | omega) (by first | assumption | omega) _) (cwV 2 X.2.2.2.2 (lw_V q918 q920 qs29 q69 q921) rfl rfl rfl ⟨rfl, hdX0_findFew⟩ ⟨Nat.le_of_ble_eq_true rfl, Nat.le_of_ble_eq_true rfl⟩) (fx_preV (fx_pre hE hP hD hS hR [0, 2, 3, 4] rfl rfl (fx_rcr 0 rfl (fx_rcr 1 rfl (fx_rcr 2 rfl (fx_rcr 3 rfl (fx_rcr 4 rfl (fx_rcr 5 rfl (fx_rcr 6 rfl (fx_rcr 7 rfl (fx_rcr 8 rfl (fx_rct (fun q hq => List.mem_append_right _ hq)))))))))))) (va_recv hE.1 hP (ci := 0) (q0 := 0) rfl rfl)) rfl rfl hl.1 rfl (lv_room (Nat.le_of_ble_eq_true rfl)) dX0_wasIn_36 ⟨Nat.le_refl _, Nat.le_refl _⟩) hP hD hS hA [0, 2, 3, 4] rfl rfl (fun u H locs hq_36 hP hD hS => ?_)
        obtain ⟨fm2_36, ff2_36, fl2_36, nm2_36, pl2_36, ek2_36⟩ := u
        replace hP : va_P E.1 clA [(ax 19, .inr (0, [.ref (ax 0), .ref (ax 1), .ref (ax 35), .ref (ax 55), .ref (ax 4), .ref (ax 5), .ref (ax 6), .ref (ax 7), .int im, .ref (ax 9), .ref (ax 10), .ref (ax 11), .ref (ax 12), .ref (ax 13), .int bn, .int bm, .int fm2_36, .int ff2_36, .int fl2_36])), (ax 5, .inl (E.2 0, 7, .inl er)), (ax 1, .inl (E.2 0, 3, .inl nm2_36)), (ax 0, .inl (E.2 0, 60, .inl pl2_36)), (ax 11, .inl (E.2 1, 8, .inl ek2_36))] _ := hP
        replace hD : va_D A [(ax 19, .inr (0, [.ref (ax 0), .ref (ax 1), .ref (ax 35), .ref (ax 55), .ref (ax 4), .ref (ax 5), .ref (ax 6), .ref (ax 7), .int im, .ref (ax 9), .ref (ax 10), .ref (ax 11), .ref (ax 12), .ref (ax 13), .int bn, .int bm, .int fm2_36, .int ff2_36, .int fl2_36])), (ax 5, .inl (E.2 0, 7, .inl er)), (ax 1, .inl (E.2 0, 3, .inl nm2_36)), (ax 0, .inl (E.2 0, 60, .inl pl2_36)), (ax 11, .inl (E.2 1, 8, .inl ek2_36))] := hD
        replace hq_36 : fm2_36 = (smF sa T (nn til) pd).1 ∧ fl2_36 = (smF sa T (nn til) pd).2.2 ∧ (fm2_36 = 0 → (smF sa T (nn til) pd).2.1 = -1) ∧ (¬ fm2_36 = 0 → (smF sa T (nn til) pd).2.1 = ff2_36 ∧ ¬ (smF sa T (nn til) pd).2.1 = -1) := hq_36
        refine lv_iload_n hx hb dX0_wasIn_39 rfl (lv_at hl 3 rfl) ?_
        refine lv_if_ne (tgt := 50) hx hb dX0_wasIn_40 (by decide) (fun c_40 => ?_) (fun c_40 => ?_)
        · -- jump 50
          refine lv_aload_n hx hb dX0_wasIn_50 rfl (lv_at hl 0 rfl) ?_
          refine fx_get X hE hP 0 rfl rfl 16 rfl q251 rfl rfl dX0_wasIn_51 ?_
          refine lv_if_ne (tgt := 65) hx hb dX0_wasIn_54 (by decide) (fun c_54 => ?_) (fun c_54 => ?_)
          · -- jump 65
            refine lv_aload_n hx hb dX0_wasIn_65 rfl (lv_at hl 0 rfl) ?_
            refine fx_get X hE hP 0 rfl rfl 17 rfl q252 rfl rfl dX0_wasIn_66 ?_
            exact hret ff2_36 (fm2_36, ff2_36, fl2_36, er, nm2_36, pl2_36, ek2_36) (by rw [wasIn_, if_pos (by simp [hb_1, hb_12, hb_21])]; rw [if_neg c_40, if_neg (hq_36.2.2.2 c_54).2, (hq_36.2.2.2 c_54).1]) (rfl) hP hD hS (Nat.le_refl _) (Nat.le_refl _) dX0_wasIn_69
          · -- fall 57
            refine lv_aload_n hx hb dX0_wasIn_57 rfl (lv_at hl 0 rfl) ?_
            refine lv_iconst (v := 2) hx hb dX0_wasIn_58 rfl ?_
            refine fx_ci (va_runV (As := [.int 2]) (rest := []) X (xX0_finds l E ax im bn bm fm2_36 ff2_36 fl2_36 er 2 (by decide) _) (cwV 1 X.2.2.2.2 (lw_V q303 q305 qs0 q69 q306) rfl rfl rfl ⟨rfl, hdX0_finds⟩ ⟨Nat.le_of_ble_eq_true rfl, Nat.le_of_ble_eq_true rfl⟩) (fx_preV (fx_pre hE hP hD hS hR [1] rfl rfl (fx_rcm 0 rfl (by decide) fx_rc0)) (va_recv hE.1 hP (ci := 0) (q0 := 0) rfl rfl)) rfl rfl hl.1 rfl (lv_room (Nat.le_of_ble_eq_true rfl)) dX0_wasIn_59 ⟨Nat.le_refl _, Nat.le_refl _⟩) hP hD hS hA [1] rfl rfl (fun r_59 u H locs hq_59 hP hD hS => ?_)
            replace hP : va_P E.1 clA [(ax 19, .inr (0, [.ref (ax 0), .ref (ax 1), .ref (ax 35), .ref (ax 55), .ref (ax 4), .ref (ax 5), .ref (ax 6), .ref (ax 7), .int im, .ref (ax 9), .ref (ax 10), .ref (ax 11), .ref (ax 12), .ref (ax 13), .int bn, .int bm, .int fm2_36, .int ff2_36, .int fl2_36])), (ax 5, .inl (E.2 0, 7, .inl (upd er 2 (er 2 + 1)))), (ax 1, .inl (E.2 0, 3, .inl nm2_36)), (ax 0, .inl (E.2 0, 60, .inl pl2_36)), (ax 11, .inl (E.2 1, 8, .inl ek2_36))] _ := hP
            replace hD : va_D A [(ax 19, .inr (0, [.ref (ax 0), .ref (ax 1), .ref (ax 35), .ref (ax 55), .ref (ax 4), .ref (ax 5), .ref (ax 6), .ref (ax 7), .int im, .ref (ax 9), .ref (ax 10), .ref (ax 11), .ref (ax 12), .ref (ax 13), .int bn, .int bm, .int fm2_36, .int ff2_36, .int fl2_36])), (ax 5, .inl (E.2 0, 7, .inl (upd er 2 (er 2 + 1)))), (ax 1, .inl (E.2 0, 3, .inl nm2_36)), (ax 0, .inl (E.2 0, 60, .inl pl2_36)), (ax 11, .inl (E.2 1, 8, .inl ek2_36))] := hD
            replace hq_59 : r_59 = erv 2 := hq_59
            refine lv_goto (tgt := 69) hx hb dX0_wasIn_62 (by decide) ?_
            exact hret r_59 (fm2_36, ff2_36, fl2_36, (upd er 2 (er 2 + 1)), nm2_36, pl2_36, ek2_36) (by rw [wasIn_, if_pos (by simp [hb_1, hb_12, hb_21])]; rw [if_neg c_40, if_pos (hq_36.2.2.1 c_54), hq_59]; rfl) (rfl) hP hD hS (Nat.le_refl _) (Nat.le_refl _) dX0_wasIn_69
        · -- fall 43
          refine lv_aload_n hx hb dX0_wasIn_43 rfl (lv_at hl 0 rfl) ?_
          refine fx_get X hE hP 0 rfl rfl 16 rfl q251 rfl rfl dX0_wasIn_44 ?_
          refine lv_goto (tgt := 69) hx hb dX0_wasIn_47 (by decide) ?_
          exact hret fm2_36 (fm2_36, ff2_36, fl2_36, er, nm2_36, pl2_36, ek2_36) (by rw [wasIn_, if_pos (by simp [hb_1, hb_12, hb_21])]; rw [if_pos c_40, ← hq_36.1]) (rfl) hP hD hS (Nat.le_refl _) (Nat.le_refl _) dX0_wasIn_69
      · -- False
        subst hr_21
        refine lv_if_ne (tgt := 33) hx hb dX0_wasIn_24 (by decide) (fun c => (c (by decide)).elim) (fun _ => ?_)
        refine lv_aload_n hx hb dX0_wasIn_27 rfl (lv_at hl 0 rfl) ?_
        refine lv_iconst (v := 1) hx hb dX0_wasIn_28 rfl ?_
        refine fx_ci (va_runV (As := [.int 1]) (rest := []) X (xX0_finds l E ax im bn bm fm ff fl er 1 (by decide) _) (cwV 1 X.2.2.2.2 (lw_V q303 q305 qs0 q69 q306) rfl rfl rfl ⟨rfl, hdX0_finds⟩ ⟨Nat.le_of_ble_eq_true rfl, Nat.le_of_ble_eq_true rfl⟩) (fx_preV (fx_pre hE hP hD hS hR [1] rfl rfl (fx_rcm 0 rfl (by decide) fx_rc0)) (va_recv hE.1 hP (ci := 0) (q0 := 0) rfl rfl)) rfl rfl hl.1 rfl (lv_room (Nat.le_of_ble_eq_true rfl)) dX0_wasIn_29 ⟨Nat.le_refl _, Nat.le_refl _⟩) hP hD hS hA [1] rfl rfl (fun r_29 u H locs hq_29 hP hD hS => ?_)
        replace hP : va_P E.1 clA [(ax 19, .inr (0, [.ref (ax 0), .ref (ax 1), .ref (ax 35), .ref (ax 55), .ref (ax 4), .ref (ax 5), .ref (ax 6), .ref (ax 7), .int im, .ref (ax 9), .ref (ax 10), .ref (ax 11), .ref (ax 12), .ref (ax 13), .int bn, .int bm, .int fm, .int ff, .int fl])), (ax 5, .inl (E.2 0, 7, .inl (upd er 1 (er 1 + 1)))), (ax 1, .inl (E.2 0, 3, .inl nmd)), (ax 0, .inl (E.2 0, 60, .inl pl)), (ax 11, .inl (E.2 1, 8, .inl ek))] _ := hP
        replace hD : va_D A [(ax 19, .inr (0, [.ref (ax 0), .ref (ax 1), .ref (ax 35), .ref (ax 55), .ref (ax 4), .ref (ax 5), .ref (ax 6), .ref (ax 7), .int im, .ref (ax 9), .ref (ax 10), .ref (ax 11), .ref (ax 12), .ref (ax 13), .int bn, .int bm, .int fm, .int ff, .int fl])), (ax 5, .inl (E.2 0, 7, .inl (upd er 1 (er 1 + 1)))), (ax 1, .inl (E.2 0, 3, .inl nmd)), (ax 0, .inl (E.2 0, 60, .inl pl)), (ax 11, .inl (E.2 1, 8, .inl ek))] := hD
        replace hq_29 : r_29 = erv 1 := hq_29
        exact hret r_29 (fm, ff, fl, (upd er 1 (er 1 + 1)), nmd, pl, ek) (by rw [hq_29]; simp [wasIn_, erI, hb_1, hb_12, hb_21]) (rfl) hP hD hS (Nat.le_refl _) (Nat.le_refl _) dX0_wasIn_32
    · -- False
      subst hr_12
      refine lv_if_eq (tgt := 27) hx hb dX0_wasIn_15 (by decide) (fun _ => ?_) (fun c => (c (by decide)).elim)
      refine lv_aload_n hx hb dX0_wasIn_27 rfl (lv_at hl 0 rfl) ?_
      refine lv_iconst (v := 1) hx hb dX0_wasIn_28 rfl ?_
      refine fx_ci (va_runV (As := [.int 1]) (rest := []) X (xX0_finds l E ax im bn bm fm ff fl er 1 (by decide) _) (cwV 1 X.2.2.2.2 (lw_V q303 q305 qs0 q69 q306) rfl rfl rfl ⟨rfl, hdX0_finds⟩ ⟨Nat.le_of_ble_eq_true rfl, Nat.le_of_ble_eq_true rfl⟩) (fx_preV (fx_pre hE hP hD hS hR [1] rfl rfl (fx_rcm 0 rfl (by decide) fx_rc0)) (va_recv hE.1 hP (ci := 0) (q0 := 0) rfl rfl)) rfl rfl hl.1 rfl (lv_room (Nat.le_of_ble_eq_true rfl)) dX0_wasIn_29 ⟨Nat.le_refl _, Nat.le_refl _⟩) hP hD hS hA [1] rfl rfl (fun r_29 u H locs hq_29 hP hD hS => ?_)
      replace hP : va_P E.1 clA [(ax 19, .inr (0, [.ref (ax 0), .ref (ax 1), .ref (ax 35), .ref (ax 55), .ref (ax 4), .ref (ax 5), .ref (ax 6), .ref (ax 7), .int im, .ref (ax 9), .ref (ax 10), .ref (ax 11), .ref (ax 12), .ref (ax 13), .int bn, .int bm, .int fm, .int ff, .int fl])), (ax 5, .inl (E.2 0, 7, .inl (upd er 1 (er 1 + 1)))), (ax 1, .inl (E.2 0, 3, .inl nmd)), (ax 0, .inl (E.2 0, 60, .inl pl)), (ax 11, .inl (E.2 1, 8, .inl ek))] _ := hP
      replace hD : va_D A [(ax 19, .inr (0, [.ref (ax 0), .ref (ax 1), .ref (ax 35), .ref (ax 55), .ref (ax 4), .ref (ax 5), .ref (ax 6), .ref (ax 7), .int im, .ref (ax 9), .ref (ax 10), .ref (ax 11), .ref (ax 12), .ref (ax 13), .int bn, .int bm, .int fm, .int ff, .int fl])), (ax 5, .inl (E.2 0, 7, .inl (upd er 1 (er 1 + 1)))), (ax 1, .inl (E.2 0, 3, .inl nmd)), (ax 0, .inl (E.2 0, 60, .inl pl)), (ax 11, .inl (E.2 1, 8, .inl ek))] := hD
      replace hq_29 : r_29 = erv 1 := hq_29
      exact hret r_29 (fm, ff, fl, (upd er 1 (er 1 + 1)), nmd, pl, ek) (by rw [hq_29]; simp [wasIn_, erI, hb_1, hb_12]) (rfl) hP hD hS (Nat.le_refl _) (Nat.le_refl _) dX0_wasIn_32
  · -- False
    subst hr_1
    refine lv_if_eq (tgt := 27) hx hb dX0_wasIn_4 (by decide) (fun _ => ?_) (fun c => (c (by decide)).elim)
    refine lv_aload_n hx hb dX0_wasIn_27 rfl (lv_at hl 0 rfl) ?_
    refine lv_iconst (v := 1) hx hb dX0_wasIn_28 rfl ?_
    refine fx_ci (va_runV (As := [.int 1]) (rest := []) X (xX0_finds l E ax im bn bm fm ff fl er 1 (by decide) _) (cwV 1 X.2.2.2.2 (lw_V q303 q305 qs0 q69 q306) rfl rfl rfl ⟨rfl, hdX0_finds⟩ ⟨Nat.le_of_ble_eq_true rfl, Nat.le_of_ble_eq_true rfl⟩) (fx_preV (fx_pre hE hP hD hS hR [1] rfl rfl (fx_rcm 0 rfl (by decide) fx_rc0)) (va_recv hE.1 hP (ci := 0) (q0 := 0) rfl rfl)) rfl rfl hl.1 rfl (lv_room (Nat.le_of_ble_eq_true rfl)) dX0_wasIn_29 ⟨Nat.le_refl _, Nat.le_refl _⟩) hP hD hS hA [1] rfl rfl (fun r_29 u H locs hq_29 hP hD hS => ?_)
    replace hP : va_P E.1 clA [(ax 19, .inr (0, [.ref (ax 0), .ref (ax 1), .ref (ax 35), .ref (ax 55), .ref (ax 4), .ref (ax 5), .ref (ax 6), .ref (ax 7), .int im, .ref (ax 9), .ref (ax 10), .ref (ax 11), .ref (ax 12), .ref (ax 13), .int bn, .int bm, .int fm, .int ff, .int fl])), (ax 5, .inl (E.2 0, 7, .inl (upd er 1 (er 1 + 1)))), (ax 1, .inl (E.2 0, 3, .inl nmd)), (ax 0, .inl (E.2 0, 60, .inl pl)), (ax 11, .inl (E.2 1, 8, .inl ek))] _ := hP
    replace hD : va_D A [(ax 19, .inr (0, [.ref (ax 0), .ref (ax 1), .ref (ax 35), .ref (ax 55), .ref (ax 4), .ref (ax 5), .ref (ax 6), .ref (ax 7), .int im, .ref (ax 9), .ref (ax 10), .ref (ax 11), .ref (ax 12), .ref (ax 13), .int bn, .int bm, .int fm, .int ff, .int fl])), (ax 5, .inl (E.2 0, 7, .inl (upd er 1 (er 1 + 1)))), (ax 1, .inl (E.2 0, 3, .inl nmd)), (ax 0, .inl (E.2 0, 60, .inl pl)), (ax 11, .inl (E.2 1, 8, .inl ek))] := hD
    replace hq_29 : r_29 = erv 1 := hq_29
    exact hret r_29 (fm, ff, fl, (upd er 1 (er 1 + 1)), nmd, pl, ek) (by rw [hq_29]; simp [wasIn_, erI, hb_1]) (rfl) hP hD hS (Nat.le_refl _) (Nat.le_refl _) dX0_wasIn_32
