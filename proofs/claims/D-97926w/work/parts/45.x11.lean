set_option maxRecDepth 100000
theorem hdX0_tryExtra : yX0_tryExtra.cls ≠ "java/lang/invoke/MethodHandle" ∧ yX0_tryExtra.cls ≠ "java/lang/invoke/VarHandle" ∧ (parseMethodDescriptor yX0_tryExtra.desc).map (fun d => d.parameters.length) = some 4 := by decide +kernel
abbrev rxX0_tryExtra (d : Nat) : Room := { frames := d + 14, cells := 0, slots := 0, locals := 30 * d + 700 }
set_option maxHeartbeats 1000000 in
set_option maxRecDepth 100000 in
theorem xX0_tryExtra (l : Launch) (E : fx_En) : ∀ (d : Nat) (ax : Nat → Nat) (im : Int32) (bn : Int32) (bm : Int32) (fm : Int32) (ff : Int32) (fl : Int32) (tk : Int32) (cs : Int32) (gs : Int32) (zz : Int32) (tp : Int32) (wg : Int32) (nmd : Nat → Int32) (pl : Nat → Int32) (sa : Nat → Int32) (tl : Nat → Nat) (pr : Nat → Int32) (co : Nat → Int32) (bk : Nat → Int32) (ek : Nat → Int32) (al : Nat → Int32) (be : Nat → Int32) (rn : Nat → Nat) (ex : Nat → Nat) (bx : Nat → Nat) (tx : Nat → Option Nat) (T : Tx) (T1 : Tx) (PL : va_W) (k : Nat) (le : Nat) (mo : Nat) (hd : d ≤ 8) (hk : k < 4) (hI : Inv sa) (hTL : TLS PL sa tl) (hT : TXs E PL (tx 0) T) (hTo : TOk T) (hT1 : TXs E PL (tx 1) T1) (hTo1 : TOk T1) (hpr : rl pr sa 8 8) (hco : rl co sa 16 8) (hbk : ∀ i, i < 8 → bk i = nI (rn i) ∧ rn i ≤ 9) (hek : ∀ i, i < 8 - d → ek i = nI (ex i) ∧ ex i ≤ 9) (hle : le ≤ 9) (hmo : mo + le ≤ 99) (hbe : bm = -1 ∨ ((∀ i, i < 8 → be i = nI (bx i) ∧ bx i ≤ 9) ∧ LX bx ex (8 - d))), fx_Mv l yX0_tryExtra cX0_tryExtra 7 (rxX0_tryExtra d) E [.ref (ax 19), .int (nI (8 - d)), .int (nI le), .int (nI mo), .int (nI k)] [(ax 19, .inr (0, [.ref (ax 0), .ref (ax 1), .ref (ax 35), .ref (ax 55), .ref (ax 4), .ref (ax 5), .ref (ax 6), .ref (ax 7), .int im, .ref (ax 9), .ref (ax 10), .ref (ax 11), .ref (ax 12), .ref (ax 13), .int bn, .int bm, .int fm, .int ff, .int fl])), (ax 1, .inl (E.2 0, 3, .inl nmd)), (ax 0, .inl (E.2 0, 60, .inl pl)), (ax 13, .inl (E.2 1, 8, .inl al)), (ax 11, .inl (E.2 1, 8, .inl ek)), (ax 12, .inl (E.2 1, 8, .inl be))] ([(ax 35, .inr (1, [.ref (ax 20), .ref (ax 21), .ref (ax 22), .int tk, .int cs, .int gs, .int zz, .int tp, .int wg, .ref (ax 29), .ref (ax 30), .ref (ax 31), .ref (ax 32)])), (ax 29, .inl (E.2 3, 4, .inr (.inr (.inr (.inr (fun i_ => some (ax (36 + i_)))))))), (ax 36, .inr (2, [.ref (tl 0)])), (ax 37, .inr (2, [.ref (tl 1)])), (ax 38, .inr (2, [.ref (tl 2)])), (ax 39, .inr (2, [.ref (tl 3)])), (ax 7, .inr (5, [.ref (ax 19)])), (ax 30, .inl (E.2 4, 2, .inr (.inr (.inr (.inr tx))))), (ax 20, .inl (E.2 0, 8, .inl pr)), (ax 21, .inl (E.2 0, 8, .inl co)), (ax 9, .inl (E.2 1, 8, .inl bk))] ++ PL) (S := Int32 × Int32 × (Nat → Int32) × (Nat → Int32) × (Nat → Int32) × (Nat → Int32) × (Nat → Int32)) (fun (u : Int32 × Int32 × (Nat → Int32) × (Nat → Int32) × (Nat → Int32) × (Nat → Int32) × (Nat → Int32)) => [(ax 19, .inr (0, [.ref (ax 0), .ref (ax 1), .ref (ax 35), .ref (ax 55), .ref (ax 4), .ref (ax 5), .ref (ax 6), .ref (ax 7), .int im, .ref (ax 9), .ref (ax 10), .ref (ax 11), .ref (ax 12), .ref (ax 13), .int u.1, .int u.2.1, .int fm, .int ff, .int fl])), (ax 1, .inl (E.2 0, 3, .inl u.2.2.1)), (ax 0, .inl (E.2 0, 60, .inl u.2.2.2.1)), (ax 13, .inl (E.2 1, 8, .inl u.2.2.2.2.1)), (ax 11, .inl (E.2 1, 8, .inl u.2.2.2.2.2.1)), (ax 12, .inl (E.2 1, 8, .inl u.2.2.2.2.2.2))]) (fun (u : Int32 × Int32 × (Nat → Int32) × (Nat → Int32) × (Nat → Int32) × (Nat → Int32) × (Nat → Int32)) => (u.2.1 = (enL (bdT rn) (lfT (netF sa T k rn (vlF sa T1))) d ex le mo (bm, bn, bx)).1 ∧ u.1 = (enL (bdT rn) (lfT (netF sa T k rn (vlF sa T1))) d ex le mo (bm, bn, bx)).2.1) ∧ u.2.1 ≠ -1 ∧ (∀ i, i < 8 → u.2.2.2.2.2.2 i = nI ((enL (bdT rn) (lfT (netF sa T k rn (vlF sa T1))) d ex le mo (bm, bn, bx)).2.2 i) ∧ (enL (bdT rn) (lfT (netF sa T k rn (vlF sa T1))) d ex le mo (bm, bn, bx)).2.2 i ≤ 9) ∧ (∀ i, i < 8 - d → u.2.2.2.2.2.1 i = ek i) ∧ (LX (enL (bdT rn) (lfT (netF sa T k rn (vlF sa T1))) d ex le mo (bm, bn, bx)).2.2 ex (8 - d) ∨ AG (enL (bdT rn) (lfT (netF sa T k rn (vlF sa T1))) d ex le mo (bm, bn, bx)).2.2 ex (8 - d))) := by
  intro d
  induction d with
  | zero =>
    intro ax im bn bm fm ff fl tk cs gs zz tp wg nmd pl sa tl pr co bk ek al be rn ex bx tx T T1 PL k le mo hd hk hI hTL hT hTo hT1 hTo1 hpr hco hbk hek hle hmo hbe
    refine fx_vW rfl rfl ?_
    intro p e s m args below meth c A ls Q X hnm hE hP hD hR hA hl hret
    have hx := X.1
    have hb := X.2.1
    have hS : va_S A s.heap s.heap [] := va_S.rf
    replace hP : va_P E.1 clA [(ax 19, .inr (0, [.ref (ax 0), .ref (ax 1), .ref (ax 35), .ref (ax 55), .ref (ax 4), .ref (ax 5), .ref (ax 6), .ref (ax 7), .int im, .ref (ax 9), .ref (ax 10), .ref (ax 11), .ref (ax 12), .ref (ax 13), .int bn, .int bm, .int fm, .int ff, .int fl])), (ax 1, .inl (E.2 0, 3, .inl nmd)), (ax 0, .inl (E.2 0, 60, .inl pl)), (ax 13, .inl (E.2 1, 8, .inl al)), (ax 11, .inl (E.2 1, 8, .inl ek)), (ax 12, .inl (E.2 1, 8, .inl be))] _ := hP
    replace hD : va_D A [(ax 19, .inr (0, [.ref (ax 0), .ref (ax 1), .ref (ax 35), .ref (ax 55), .ref (ax 4), .ref (ax 5), .ref (ax 6), .ref (ax 7), .int im, .ref (ax 9), .ref (ax 10), .ref (ax 11), .ref (ax 12), .ref (ax 13), .int bn, .int bm, .int fm, .int ff, .int fl])), (ax 1, .inl (E.2 0, 3, .inl nmd)), (ax 0, .inl (E.2 0, 60, .inl pl)), (ax 13, .inl (E.2 1, 8, .inl al)), (ax 11, .inl (E.2 1, 8, .inl ek)), (ax 12, .inl (E.2 1, 8, .inl be))] := hD
    replace hl : lv_has ls 7 [(0, .ref (ax 19)), (1, .int (nI (8 - 0))), (2, .int (nI le)), (3, .int (nI mo)), (4, .int (nI k))] := hl
    refine lv_iload_n hx hb dX0_tryExtra_0 rfl (lv_at hl 1 rfl) ?_
    refine lv_bipush (v := 8) hx hb dX0_tryExtra_1 rfl ?_
    refine lv_icmp_ne (tgt := 103) hx hb dX0_tryExtra_3 (by decide) (fun c_3 => (c_3 rfl).elim) (fun c_3 => ?_)
    have n_3 := fx_eq1 (a := (8 - 0)) (b := 8) c_3 (by omega) (by omega)
    refine lv_aload_n hx hb dX0_tryExtra_6 rfl (lv_at hl 0 rfl) ?_
    refine lv_iload hx hb dX0_tryExtra_7 (lv_at hl 4 rfl) ?_
    refine fx_ci (va_runV (As := [.int (nI k)]) (rest := []) X (xX0_netOf l E ax im bn bm fm ff fl tk cs gs zz tp wg nmd pl sa tl pr co bk ek al rn ex tx T T1 PL k (by first | assumption | omega) (by first | assumption | omega) (by first | assumption | omega) (by first | assumption | omega) (by first | assumption | omega) (by first | assumption | omega) (by first | assumption | omega) (by first | assumption | omega) (by first | assumption | omega) (by first | assumption | omega) hek _) (cwV 1 X.2.2.2.2 (lw_V q879 q881 qs25 q69 q882) rfl rfl rfl ⟨rfl, hdX0_netOf⟩ ⟨Nat.le_of_ble_eq_true rfl, Nat.le_of_ble_eq_true rfl⟩) (fx_preV (fx_pre hE hP hD hS hR [1, 2, 3] rfl rfl (fx_rcm 0 rfl (by decide) (fx_rcr 0 rfl (fx_rcr 1 rfl (fx_rcr 2 rfl (fx_rcr 3 rfl (fx_rcr 4 rfl (fx_rcr 5 rfl (fx_rcr 6 rfl (fx_rcr 7 rfl (fx_rcr 8 rfl (fx_rcr 9 rfl (fx_rcr 10 rfl (fx_rcm 4 rfl (by decide) (fx_rct (fun q hq => List.mem_append_right _ hq)))))))))))))))) (va_recv hE.1 hP (ci := 0) (q0 := 0) rfl rfl)) rfl rfl hl.1 rfl (lv_room (Nat.le_of_ble_eq_true rfl)) dX0_tryExtra_9 ⟨Nat.le_refl _, Nat.le_refl _⟩) hP hD hS hA [1, 2, 3] rfl rfl (fun r_9 u H locs hq_9 hP hD hS => ?_)
    obtain ⟨nm2_9, pl2_9, al2_9⟩ := u
    replace hP : va_P E.1 clA [(ax 19, .inr (0, [.ref (ax 0), .ref (ax 1), .ref (ax 35), .ref (ax 55), .ref (ax 4), .ref (ax 5), .ref (ax 6), .ref (ax 7), .int im, .ref (ax 9), .ref (ax 10), .ref (ax 11), .ref (ax 12), .ref (ax 13), .int bn, .int bm, .int fm, .int ff, .int fl])), (ax 1, .inl (E.2 0, 3, .inl nm2_9)), (ax 0, .inl (E.2 0, 60, .inl pl2_9)), (ax 13, .inl (E.2 1, 8, .inl al2_9)), (ax 11, .inl (E.2 1, 8, .inl ek)), (ax 12, .inl (E.2 1, 8, .inl be))] _ := hP
    replace hD : va_D A [(ax 19, .inr (0, [.ref (ax 0), .ref (ax 1), .ref (ax 35), .ref (ax 55), .ref (ax 4), .ref (ax 5), .ref (ax 6), .ref (ax 7), .int im, .ref (ax 9), .ref (ax 10), .ref (ax 11), .ref (ax 12), .ref (ax 13), .int bn, .int bm, .int fm, .int ff, .int fl])), (ax 1, .inl (E.2 0, 3, .inl nm2_9)), (ax 0, .inl (E.2 0, 60, .inl pl2_9)), (ax 13, .inl (E.2 1, 8, .inl al2_9)), (ax 11, .inl (E.2 1, 8, .inl ek)), (ax 12, .inl (E.2 1, 8, .inl be))] := hD
    replace hq_9 : r_9 = netF sa T k rn (vlF sa T1) ex := hq_9
    refine fx_ti (show r_9 = (netF sa T k rn (vlF sa T1) ex) from hq_9) ?_
    refine lv_istore (lv' := [(5, .int (netF sa T k rn (vlF sa T1) ex)), (0, .ref (ax 19)), (1, .int (nI (8 - 0))), (2, .int (nI le)), (3, .int (nI mo)), (4, .int (nI k))]) hx hb dX0_tryExtra_12 hl (by decide) rfl (fun ls hl => ?_)
    refine lv_aload_n hx hb dX0_tryExtra_14 rfl (lv_at hl 1 rfl) ?_
    refine fx_get X hE hP 0 rfl rfl 15 rfl q250 rfl rfl dX0_tryExtra_15 ?_
    refine lv_iconst (v := (-1)) hx hb dX0_tryExtra_18 rfl ?_
    refine lv_icmp_eq (tgt := 63) hx hb dX0_tryExtra_19 (by decide) (fun c_19 => ?_) (fun c_19 => ?_)
    · -- jump 63
      have hbet : ((bm, bn, bx) : Bst).1 = -1 ∨ netF sa T k rn (vlF sa T1) ex < ((bm, bn, bx) : Bst).2.1 ∨ (netF sa T k rn (vlF sa T1) ex = ((bm, bn, bx) : Bst).2.1 ∧ nI mo < ((bm, bn, bx) : Bst).1) := Or.inl c_19
      refine lv_iconst (v := 1) hx hb dX0_tryExtra_63 rfl ?_
      refine lv_goto (tgt := 68) hx hb dX0_tryExtra_64 (by decide) ?_
      refine lv_istore (lv' := [(6, .int 1), (5, .int (netF sa T k rn (vlF sa T1) ex)), (0, .ref (ax 19)), (1, .int (nI (8 - 0))), (2, .int (nI le)), (3, .int (nI mo)), (4, .int (nI k))]) hx hb dX0_tryExtra_68 hl (by decide) rfl (fun ls hl => ?_)
      refine lv_iload hx hb dX0_tryExtra_70 (lv_at hl 0 rfl) ?_
      refine lv_if_ne (tgt := 76) hx hb dX0_tryExtra_72 (by decide) (fun _ => ?_) (fun c => absurd c (by decide))
      refine lv_aload_n hx hb dX0_tryExtra_76 rfl (lv_at hl 2 rfl) ?_
      refine lv_iload hx hb dX0_tryExtra_77 (lv_at hl 1 rfl) ?_
      refine fx_put_ (ws' := [(ax 19, .inr (0, [.ref (ax 0), .ref (ax 1), .ref (ax 35), .ref (ax 55), .ref (ax 4), .ref (ax 5), .ref (ax 6), .ref (ax 7), .int im, .ref (ax 9), .ref (ax 10), .ref (ax 11), .ref (ax 12), .ref (ax 13), .int (netF sa T k rn (vlF sa T1) ex), .int bm, .int fm, .int ff, .int fl])), (ax 1, .inl (E.2 0, 3, .inl nm2_9)), (ax 0, .inl (E.2 0, 60, .inl pl2_9)), (ax 13, .inl (E.2 1, 8, .inl al2_9)), (ax 11, .inl (E.2 1, 8, .inl ek)), (ax 12, .inl (E.2 1, 8, .inl be))]) X hE hP hD hS 0 rfl rfl tyX0_ok nmX0 14 rfl q249 rfl rfl rfl rfl rfl rfl dX0_tryExtra_79 (fun H locs hP hD hS => ?_)
      refine lv_aload_n hx hb dX0_tryExtra_82 rfl (lv_at hl 2 rfl) ?_
      refine lv_iload_n hx hb dX0_tryExtra_83 rfl (lv_at hl 5 rfl) ?_
      refine fx_put_ (ws' := [(ax 19, .inr (0, [.ref (ax 0), .ref (ax 1), .ref (ax 35), .ref (ax 55), .ref (ax 4), .ref (ax 5), .ref (ax 6), .ref (ax 7), .int im, .ref (ax 9), .ref (ax 10), .ref (ax 11), .ref (ax 12), .ref (ax 13), .int (netF sa T k rn (vlF sa T1) ex), .int (nI mo), .int fm, .int ff, .int fl])), (ax 1, .inl (E.2 0, 3, .inl nm2_9)), (ax 0, .inl (E.2 0, 60, .inl pl2_9)), (ax 13, .inl (E.2 1, 8, .inl al2_9)), (ax 11, .inl (E.2 1, 8, .inl ek)), (ax 12, .inl (E.2 1, 8, .inl be))]) X hE hP hD hS 0 rfl rfl tyX0_ok nmX0 15 rfl q250 rfl rfl rfl rfl rfl rfl dX0_tryExtra_84 (fun H locs hP hD hS => ?_)
      refine lv_aload_n hx hb dX0_tryExtra_87 rfl (lv_at hl 2 rfl) ?_
      refine fx_get X hE hP 0 rfl rfl 11 rfl q246 rfl rfl dX0_tryExtra_88 ?_
      refine lv_iconst (v := 0) hx hb dX0_tryExtra_91 rfl ?_
      refine lv_aload_n hx hb dX0_tryExtra_92 rfl (lv_at hl 2 rfl) ?_
      refine fx_get X hE hP 0 rfl rfl 12 rfl q247 rfl rfl dX0_tryExtra_93 ?_
      refine lv_iconst (v := 0) hx hb dX0_tryExtra_96 rfl ?_
      refine lv_bipush (v := 8) hx hb dX0_tryExtra_97 rfl ?_
      refine fx_acpy (ws' := [(ax 19, .inr (0, [.ref (ax 0), .ref (ax 1), .ref (ax 35), .ref (ax 55), .ref (ax 4), .ref (ax 5), .ref (ax 6), .ref (ax 7), .int im, .ref (ax 9), .ref (ax 10), .ref (ax 11), .ref (ax 12), .ref (ax 13), .int (netF sa T k rn (vlF sa T1) ex), .int (nI mo), .int fm, .int ff, .int fl])), (ax 1, .inl (E.2 0, 3, .inl nm2_9)), (ax 0, .inl (E.2 0, 60, .inl pl2_9)), (ax 13, .inl (E.2 1, 8, .inl al2_9)), (ax 11, .inl (E.2 1, 8, .inl ek)), (ax 12, .inl (E.2 1, 8, .inl (va_cpy ek be 0 0 8)))]) X hE hl.1 hP hD hS q887 q889 q888 q93 4 5 1 rfl rfl rfl rfl 0 0 8 rfl rfl rfl (by decide) (by decide) (by decide) (by decide) (fun i hi => fits_byte (hek (0 + i) (by omega)).1 (by have := (hek (0 + i) (by omega)).2; omega)) ⟨Nat.le_of_ble_eq_true rfl, Nat.le_of_ble_eq_true rfl⟩ rfl dX0_tryExtra_99 (fun H locs hP hD hS => ?_)
      exact hret ((netF sa T k rn (vlF sa T1) ex), nI mo, nm2_9, pl2_9, al2_9, ek, (va_cpy ek be 0 0 8)) (⟨by rw [enL, lfT_t hbet]; exact ⟨rfl, rfl⟩, nI_ne_m1 (by omega), by rw [enL, lfT_t hbet]; exact fun i hi => ⟨(cpy8 hi).trans (hek i hi).1, (hek i hi).2⟩, fun i hi => rfl, by rw [enL, lfT_t hbet]; exact Or.inr (fun i hi => rfl)⟩) hP hD hS (Nat.le_refl _) (Nat.le_refl _) dX0_tryExtra_102
    · -- fall 22
      refine lv_iload hx hb dX0_tryExtra_22 (lv_at hl 0 rfl) ?_
      refine lv_aload_n hx hb dX0_tryExtra_24 rfl (lv_at hl 1 rfl) ?_
      refine fx_get X hE hP 0 rfl rfl 14 rfl q249 rfl rfl dX0_tryExtra_25 ?_
      refine lv_icmp_lt (tgt := 63) hx hb dX0_tryExtra_28 (by decide) (fun c_28 => ?_) (fun c_28 => ?_)
      · -- jump 63
        have hbet : ((bm, bn, bx) : Bst).1 = -1 ∨ netF sa T k rn (vlF sa T1) ex < ((bm, bn, bx) : Bst).2.1 ∨ (netF sa T k rn (vlF sa T1) ex = ((bm, bn, bx) : Bst).2.1 ∧ nI mo < ((bm, bn, bx) : Bst).1) := Or.inr (Or.inl c_28)
        refine lv_iconst (v := 1) hx hb dX0_tryExtra_63 rfl ?_
        refine lv_goto (tgt := 68) hx hb dX0_tryExtra_64 (by decide) ?_
        refine lv_istore (lv' := [(6, .int 1), (5, .int (netF sa T k rn (vlF sa T1) ex)), (0, .ref (ax 19)), (1, .int (nI (8 - 0))), (2, .int (nI le)), (3, .int (nI mo)), (4, .int (nI k))]) hx hb dX0_tryExtra_68 hl (by decide) rfl (fun ls hl => ?_)
        refine lv_iload hx hb dX0_tryExtra_70 (lv_at hl 0 rfl) ?_
        refine lv_if_ne (tgt := 76) hx hb dX0_tryExtra_72 (by decide) (fun _ => ?_) (fun c => absurd c (by decide))
        refine lv_aload_n hx hb dX0_tryExtra_76 rfl (lv_at hl 2 rfl) ?_
        refine lv_iload hx hb dX0_tryExtra_77 (lv_at hl 1 rfl) ?_
        refine fx_put_ (ws' := [(ax 19, .inr (0, [.ref (ax 0), .ref (ax 1), .ref (ax 35), .ref (ax 55), .ref (ax 4), .ref (ax 5), .ref (ax 6), .ref (ax 7), .int im, .ref (ax 9), .ref (ax 10), .ref (ax 11), .ref (ax 12), .ref (ax 13), .int (netF sa T k rn (vlF sa T1) ex), .int bm, .int fm, .int ff, .int fl])), (ax 1, .inl (E.2 0, 3, .inl nm2_9)), (ax 0, .inl (E.2 0, 60, .inl pl2_9)), (ax 13, .inl (E.2 1, 8, .inl al2_9)), (ax 11, .inl (E.2 1, 8, .inl ek)), (ax 12, .inl (E.2 1, 8, .inl be))]) X hE hP hD hS 0 rfl rfl tyX0_ok nmX0 14 rfl q249 rfl rfl rfl rfl rfl rfl dX0_tryExtra_79 (fun H locs hP hD hS => ?_)
        refine lv_aload_n hx hb dX0_tryExtra_82 rfl (lv_at hl 2 rfl) ?_
        refine lv_iload_n hx hb dX0_tryExtra_83 rfl (lv_at hl 5 rfl) ?_
        refine fx_put_ (ws' := [(ax 19, .inr (0, [.ref (ax 0), .ref (ax 1), .ref (ax 35), .ref (ax 55), .ref (ax 4), .ref (ax 5), .ref (ax 6), .ref (ax 7), .int im, .ref (ax 9), .ref (ax 10), .ref (ax 11), .ref (ax 12), .ref (ax 13), .int (netF sa T k rn (vlF sa T1) ex), .int (nI mo), .int fm, .int ff, .int fl])), (ax 1, .inl (E.2 0, 3, .inl nm2_9)), (ax 0, .inl (E.2 0, 60, .inl pl2_9)), (ax 13, .inl (E.2 1, 8, .inl al2_9)), (ax 11, .inl (E.2 1, 8, .inl ek)), (ax 12, .inl (E.2 1, 8, .inl be))]) X hE hP hD hS 0 rfl rfl tyX0_ok nmX0 15 rfl q250 rfl rfl rfl rfl rfl rfl dX0_tryExtra_84 (fun H locs hP hD hS => ?_)
        refine lv_aload_n hx hb dX0_tryExtra_87 rfl (lv_at hl 2 rfl) ?_
        refine fx_get X hE hP 0 rfl rfl 11 rfl q246 rfl rfl dX0_tryExtra_88 ?_
        refine lv_iconst (v := 0) hx hb dX0_tryExtra_91 rfl ?_
        refine lv_aload_n hx hb dX0_tryExtra_92 rfl (lv_at hl 2 rfl) ?_
        refine fx_get X hE hP 0 rfl rfl 12 rfl q247 rfl rfl dX0_tryExtra_93 ?_
        refine lv_iconst (v := 0) hx hb dX0_tryExtra_96 rfl ?_
        refine lv_bipush (v := 8) hx hb dX0_tryExtra_97 rfl ?_
        refine fx_acpy (ws' := [(ax 19, .inr (0, [.ref (ax 0), .ref (ax 1), .ref (ax 35), .ref (ax 55), .ref (ax 4), .ref (ax 5), .ref (ax 6), .ref (ax 7), .int im, .ref (ax 9), .ref (ax 10), .ref (ax 11), .ref (ax 12), .ref (ax 13), .int (netF sa T k rn (vlF sa T1) ex), .int (nI mo), .int fm, .int ff, .int fl])), (ax 1, .inl (E.2 0, 3, .inl nm2_9)), (ax 0, .inl (E.2 0, 60, .inl pl2_9)), (ax 13, .inl (E.2 1, 8, .inl al2_9)), (ax 11, .inl (E.2 1, 8, .inl ek)), (ax 12, .inl (E.2 1, 8, .inl (va_cpy ek be 0 0 8)))]) X hE hl.1 hP hD hS q887 q889 q888 q93 4 5 1 rfl rfl rfl rfl 0 0 8 rfl rfl rfl (by decide) (by decide) (by decide) (by decide) (fun i hi => fits_byte (hek (0 + i) (by omega)).1 (by have := (hek (0 + i) (by omega)).2; omega)) ⟨Nat.le_of_ble_eq_true rfl, Nat.le_of_ble_eq_true rfl⟩ rfl dX0_tryExtra_99 (fun H locs hP hD hS => ?_)
        exact hret ((netF sa T k rn (vlF sa T1) ex), nI mo, nm2_9, pl2_9, al2_9, ek, (va_cpy ek be 0 0 8)) (⟨by rw [enL, lfT_t hbet]; exact ⟨rfl, rfl⟩, nI_ne_m1 (by omega), by rw [enL, lfT_t hbet]; exact fun i hi => ⟨(cpy8 hi).trans (hek i hi).1, (hek i hi).2⟩, fun i hi => rfl, by rw [enL, lfT_t hbet]; exact Or.inr (fun i hi => rfl)⟩) hP hD hS (Nat.le_refl _) (Nat.le_refl _) dX0_tryExtra_102
      · -- fall 31
        refine lv_iload hx hb dX0_tryExtra_31 (lv_at hl 0 rfl) ?_
        refine lv_aload_n hx hb dX0_tryExtra_33 rfl (lv_at hl 1 rfl) ?_
        refine fx_get X hE hP 0 rfl rfl 14 rfl q249 rfl rfl dX0_tryExtra_34 ?_
        refine lv_icmp_ne (tgt := 67) hx hb dX0_tryExtra_37 (by decide) (fun c_37 => ?_) (fun c_37 => ?_)
        · -- jump 67
          have hwor : ¬ (((bm, bn, bx) : Bst).1 = -1 ∨ netF sa T k rn (vlF sa T1) ex < ((bm, bn, bx) : Bst).2.1 ∨ (netF sa T k rn (vlF sa T1) ex = ((bm, bn, bx) : Bst).2.1 ∧ nI mo < ((bm, bn, bx) : Bst).1)) := by rintro (h | h | h); exact c_19 h; exact c_28 h; exact c_37 h.1
          refine lv_iconst (v := 0) hx hb dX0_tryExtra_67 rfl ?_
          refine lv_istore (lv' := [(6, .int 0), (5, .int (netF sa T k rn (vlF sa T1) ex)), (0, .ref (ax 19)), (1, .int (nI (8 - 0))), (2, .int (nI le)), (3, .int (nI mo)), (4, .int (nI k))]) hx hb dX0_tryExtra_68 hl (by decide) rfl (fun ls hl => ?_)
          refine lv_iload hx hb dX0_tryExtra_70 (lv_at hl 0 rfl) ?_
          refine lv_if_ne (tgt := 76) hx hb dX0_tryExtra_72 (by decide) (fun c => (c (by decide)).elim) (fun _ => ?_)
          exact hret (bn, bm, nm2_9, pl2_9, al2_9, ek, be) (⟨by rw [enL, lfT_f hwor]; exact ⟨rfl, rfl⟩, c_19, by rw [enL, lfT_f hwor]; exact (hbe.resolve_left c_19).1, fun i hi => rfl, by rw [enL, lfT_f hwor]; exact Or.inl (hbe.resolve_left c_19).2⟩) hP hD hS (Nat.le_refl _) (Nat.le_refl _) dX0_tryExtra_75
        · -- fall 40
          refine lv_iload_n hx hb dX0_tryExtra_40 rfl (lv_at hl 4 rfl) ?_
          refine lv_aload_n hx hb dX0_tryExtra_41 rfl (lv_at hl 1 rfl) ?_
          refine fx_get X hE hP 0 rfl rfl 15 rfl q250 rfl rfl dX0_tryExtra_42 ?_
          refine lv_icmp_lt (tgt := 63) hx hb dX0_tryExtra_45 (by decide) (fun c_45 => ?_) (fun c_45 => ?_)
          · -- jump 63
            have hbet : ((bm, bn, bx) : Bst).1 = -1 ∨ netF sa T k rn (vlF sa T1) ex < ((bm, bn, bx) : Bst).2.1 ∨ (netF sa T k rn (vlF sa T1) ex = ((bm, bn, bx) : Bst).2.1 ∧ nI mo < ((bm, bn, bx) : Bst).1) := Or.inr (Or.inr ⟨c_37, c_45⟩)
            refine lv_iconst (v := 1) hx hb dX0_tryExtra_63 rfl ?_
            refine lv_goto (tgt := 68) hx hb dX0_tryExtra_64 (by decide) ?_
            refine lv_istore (lv' := [(6, .int 1), (5, .int (netF sa T k rn (vlF sa T1) ex)), (0, .ref (ax 19)), (1, .int (nI (8 - 0))), (2, .int (nI le)), (3, .int (nI mo)), (4, .int (nI k))]) hx hb dX0_tryExtra_68 hl (by decide) rfl (fun ls hl => ?_)
            refine lv_iload hx hb dX0_tryExtra_70 (lv_at hl 0 rfl) ?_
            refine lv_if_ne (tgt := 76) hx hb dX0_tryExtra_72 (by decide) (fun _ => ?_) (fun c => absurd c (by decide))
            refine lv_aload_n hx hb dX0_tryExtra_76 rfl (lv_at hl 2 rfl) ?_
            refine lv_iload hx hb dX0_tryExtra_77 (lv_at hl 1 rfl) ?_
            refine fx_put_ (ws' := [(ax 19, .inr (0, [.ref (ax 0), .ref (ax 1), .ref (ax 35), .ref (ax 55), .ref (ax 4), .ref (ax 5), .ref (ax 6), .ref (ax 7), .int im, .ref (ax 9), .ref (ax 10), .ref (ax 11), .ref (ax 12), .ref (ax 13), .int (netF sa T k rn (vlF sa T1) ex), .int bm, .int fm, .int ff, .int fl])), (ax 1, .inl (E.2 0, 3, .inl nm2_9)), (ax 0, .inl (E.2 0, 60, .inl pl2_9)), (ax 13, .inl (E.2 1, 8, .inl al2_9)), (ax 11, .inl (E.2 1, 8, .inl ek)), (ax 12, .inl (E.2 1, 8, .inl be))]) X hE hP hD hS 0 rfl rfl tyX0_ok nmX0 14 rfl q249 rfl rfl rfl rfl rfl rfl dX0_tryExtra_79 (fun H locs hP hD hS => ?_)
            refine lv_aload_n hx hb dX0_tryExtra_82 rfl (lv_at hl 2 rfl) ?_
            refine lv_iload_n hx hb dX0_tryExtra_83 rfl (lv_at hl 5 rfl) ?_
            refine fx_put_ (ws' := [(ax 19, .inr (0, [.ref (ax 0), .ref (ax 1), .ref (ax 35), .ref (ax 55), .ref (ax 4), .ref (ax 5), .ref (ax 6), .ref (ax 7), .int im, .ref (ax 9), .ref (ax 10), .ref (ax 11), .ref (ax 12), .ref (ax 13), .int (netF sa T k rn (vlF sa T1) ex), .int (nI mo), .int fm, .int ff, .int fl])), (ax 1, .inl (E.2 0, 3, .inl nm2_9)), (ax 0, .inl (E.2 0, 60, .inl pl2_9)), (ax 13, .inl (E.2 1, 8, .inl al2_9)), (ax 11, .inl (E.2 1, 8, .inl ek)), (ax 12, .inl (E.2 1, 8, .inl be))]) X hE hP hD hS 0 rfl rfl tyX0_ok nmX0 15 rfl q250 rfl rfl rfl rfl rfl rfl dX0_tryExtra_84 (fun H locs hP hD hS => ?_)
            refine lv_aload_n hx hb dX0_tryExtra_87 rfl (lv_at hl 2 rfl) ?_
            refine fx_get X hE hP 0 rfl rfl 11 rfl q246 rfl rfl dX0_tryExtra_88 ?_
            refine lv_iconst (v := 0) hx hb dX0_tryExtra_91 rfl ?_
            refine lv_aload_n hx hb dX0_tryExtra_92 rfl (lv_at hl 2 rfl) ?_
            refine fx_get X hE hP 0 rfl rfl 12 rfl q247 rfl rfl dX0_tryExtra_93 ?_
            refine lv_iconst (v := 0) hx hb dX0_tryExtra_96 rfl ?_
            refine lv_bipush (v := 8) hx hb dX0_tryExtra_97 rfl ?_
            refine fx_acpy (ws' := [(ax 19, .inr (0, [.ref (ax 0), .ref (ax 1), .ref (ax 35), .ref (ax 55), .ref (ax 4), .ref (ax 5), .ref (ax 6), .ref (ax 7), .int im, .ref (ax 9), .ref (ax 10), .ref (ax 11), .ref (ax 12), .ref (ax 13), .int (netF sa T k rn (vlF sa T1) ex), .int (nI mo), .int fm, .int ff, .int fl])), (ax 1, .inl (E.2 0, 3, .inl nm2_9)), (ax 0, .inl (E.2 0, 60, .inl pl2_9)), (ax 13, .inl (E.2 1, 8, .inl al2_9)), (ax 11, .inl (E.2 1, 8, .inl ek)), (ax 12, .inl (E.2 1, 8, .inl (va_cpy ek be 0 0 8)))]) X hE hl.1 hP hD hS q887 q889 q888 q93 4 5 1 rfl rfl rfl rfl 0 0 8 rfl rfl rfl (by decide) (by decide) (by decide) (by decide) (fun i hi => fits_byte (hek (0 + i) (by omega)).1 (by have := (hek (0 + i) (by omega)).2; omega)) ⟨Nat.le_of_ble_eq_true rfl, Nat.le_of_ble_eq_true rfl⟩ rfl dX0_tryExtra_99 (fun H locs hP hD hS => ?_)
            exact hret ((netF sa T k rn (vlF sa T1) ex), nI mo, nm2_9, pl2_9, al2_9, ek, (va_cpy ek be 0 0 8)) (⟨by rw [enL, lfT_t hbet]; exact ⟨rfl, rfl⟩, nI_ne_m1 (by omega), by rw [enL, lfT_t hbet]; exact fun i hi => ⟨(cpy8 hi).trans (hek i hi).1, (hek i hi).2⟩, fun i hi => rfl, by rw [enL, lfT_t hbet]; exact Or.inr (fun i hi => rfl)⟩) hP hD hS (Nat.le_refl _) (Nat.le_refl _) dX0_tryExtra_102
          · -- fall 48
            have hwor : ¬ (((bm, bn, bx) : Bst).1 = -1 ∨ netF sa T k rn (vlF sa T1) ex < ((bm, bn, bx) : Bst).2.1 ∨ (netF sa T k rn (vlF sa T1) ex = ((bm, bn, bx) : Bst).2.1 ∧ nI mo < ((bm, bn, bx) : Bst).1)) := by rintro (h | h | h); exact c_19 h; exact c_28 h; exact c_45 h.2
            refine lv_iload_n hx hb dX0_tryExtra_48 rfl (lv_at hl 4 rfl) ?_
            refine lv_aload_n hx hb dX0_tryExtra_49 rfl (lv_at hl 1 rfl) ?_
            refine fx_get X hE hP 0 rfl rfl 15 rfl q250 rfl rfl dX0_tryExtra_50 ?_
            refine lv_icmp_ne (tgt := 67) hx hb dX0_tryExtra_53 (by decide) (fun c_53 => ?_) (fun c_53 => ?_)
            · -- jump 67
              refine lv_iconst (v := 0) hx hb dX0_tryExtra_67 rfl ?_
              refine lv_istore (lv' := [(6, .int 0), (5, .int (netF sa T k rn (vlF sa T1) ex)), (0, .ref (ax 19)), (1, .int (nI (8 - 0))), (2, .int (nI le)), (3, .int (nI mo)), (4, .int (nI k))]) hx hb dX0_tryExtra_68 hl (by decide) rfl (fun ls hl => ?_)
              refine lv_iload hx hb dX0_tryExtra_70 (lv_at hl 0 rfl) ?_
              refine lv_if_ne (tgt := 76) hx hb dX0_tryExtra_72 (by decide) (fun c => (c (by decide)).elim) (fun _ => ?_)
              exact hret (bn, bm, nm2_9, pl2_9, al2_9, ek, be) (⟨by rw [enL, lfT_f hwor]; exact ⟨rfl, rfl⟩, c_19, by rw [enL, lfT_f hwor]; exact (hbe.resolve_left c_19).1, fun i hi => rfl, by rw [enL, lfT_f hwor]; exact Or.inl (hbe.resolve_left c_19).2⟩) hP hD hS (Nat.le_refl _) (Nat.le_refl _) dX0_tryExtra_75
            · -- fall 56
              refine lv_aload_n hx hb dX0_tryExtra_56 rfl (lv_at hl 1 rfl) ?_
              refine fx_ci (va_runV (As := []) (rest := []) X (xX0_isLess l E ax im bn bm fm ff fl ek be ex bx hek ((hbe.resolve_left c_19).1) ((hbe.resolve_left c_19).2) _) (cwV 0 X.2.2.2.2 (lw_V q883 q885 qs26 q69 q886) rfl rfl rfl ⟨rfl, hdX0_isLess⟩ ⟨Nat.le_of_ble_eq_true rfl, Nat.le_of_ble_eq_true rfl⟩) (fx_preV (fx_pre hE hP hD hS hR [] rfl rfl (fx_rcm 0 rfl (by decide) (fx_rcm 4 rfl (by decide) (fx_rcm 5 rfl (by decide) fx_rc0)))) (va_recv hE.1 hP (ci := 0) (q0 := 0) rfl rfl)) rfl rfl hl.1 rfl (lv_room (Nat.le_of_ble_eq_true rfl)) dX0_tryExtra_57 ⟨Nat.le_refl _, Nat.le_refl _⟩) hP hD hS hA [] rfl rfl (fun r_57 u H locs hq_57 hP hD hS => ?_)
              replace hP : va_P E.1 clA [(ax 19, .inr (0, [.ref (ax 0), .ref (ax 1), .ref (ax 35), .ref (ax 55), .ref (ax 4), .ref (ax 5), .ref (ax 6), .ref (ax 7), .int im, .ref (ax 9), .ref (ax 10), .ref (ax 11), .ref (ax 12), .ref (ax 13), .int bn, .int bm, .int fm, .int ff, .int fl])), (ax 1, .inl (E.2 0, 3, .inl nm2_9)), (ax 0, .inl (E.2 0, 60, .inl pl2_9)), (ax 13, .inl (E.2 1, 8, .inl al2_9)), (ax 11, .inl (E.2 1, 8, .inl ek)), (ax 12, .inl (E.2 1, 8, .inl be))] _ := hP
              replace hD : va_D A [(ax 19, .inr (0, [.ref (ax 0), .ref (ax 1), .ref (ax 35), .ref (ax 55), .ref (ax 4), .ref (ax 5), .ref (ax 6), .ref (ax 7), .int im, .ref (ax 9), .ref (ax 10), .ref (ax 11), .ref (ax 12), .ref (ax 13), .int bn, .int bm, .int fm, .int ff, .int fl])), (ax 1, .inl (E.2 0, 3, .inl nm2_9)), (ax 0, .inl (E.2 0, 60, .inl pl2_9)), (ax 13, .inl (E.2 1, 8, .inl al2_9)), (ax 11, .inl (E.2 1, 8, .inl ek)), (ax 12, .inl (E.2 1, 8, .inl be))] := hD
              replace hq_57 : r_57 = fx_b (False) := hq_57
              rcases fx_bc hq_57 with ⟨hb_57, hr_57⟩ | ⟨hb_57, hr_57⟩
              · -- True
                subst hr_57
                exact hb_57.elim
              · -- False
                subst hr_57
                refine lv_if_eq (tgt := 67) hx hb dX0_tryExtra_60 (by decide) (fun _ => ?_) (fun c => (c (by decide)).elim)
                refine lv_iconst (v := 0) hx hb dX0_tryExtra_67 rfl ?_
                refine lv_istore (lv' := [(6, .int 0), (5, .int (netF sa T k rn (vlF sa T1) ex)), (0, .ref (ax 19)), (1, .int (nI (8 - 0))), (2, .int (nI le)), (3, .int (nI mo)), (4, .int (nI k))]) hx hb dX0_tryExtra_68 hl (by decide) rfl (fun ls hl => ?_)
                refine lv_iload hx hb dX0_tryExtra_70 (lv_at hl 0 rfl) ?_
                refine lv_if_ne (tgt := 76) hx hb dX0_tryExtra_72 (by decide) (fun c => (c (by decide)).elim) (fun _ => ?_)
                exact hret (bn, bm, nm2_9, pl2_9, al2_9, ek, be) (⟨by rw [enL, lfT_f hwor]; exact ⟨rfl, rfl⟩, c_19, by rw [enL, lfT_f hwor]; exact (hbe.resolve_left c_19).1, fun i hi => rfl, by rw [enL, lfT_f hwor]; exact Or.inl (hbe.resolve_left c_19).2⟩) hP hD hS (Nat.le_refl _) (Nat.le_refl _) dX0_tryExtra_75
  | succ d ih =>
    intro ax im bn bm fm ff fl tk cs gs zz tp wg nmd pl sa tl pr co bk ek al be rn ex bx tx T T1 PL k le mo hd hk hI hTL hT hTo hT1 hTo1 hpr hco hbk hek hle hmo hbe
    refine fx_vW rfl rfl ?_
    intro p e s m args below meth c A ls Q X hnm hE hP hD hR hA hl hret
    have hx := X.1
    have hb := X.2.1
    have hS : va_S A s.heap s.heap [] := va_S.rf
    replace hP : va_P E.1 clA [(ax 19, .inr (0, [.ref (ax 0), .ref (ax 1), .ref (ax 35), .ref (ax 55), .ref (ax 4), .ref (ax 5), .ref (ax 6), .ref (ax 7), .int im, .ref (ax 9), .ref (ax 10), .ref (ax 11), .ref (ax 12), .ref (ax 13), .int bn, .int bm, .int fm, .int ff, .int fl])), (ax 1, .inl (E.2 0, 3, .inl nmd)), (ax 0, .inl (E.2 0, 60, .inl pl)), (ax 13, .inl (E.2 1, 8, .inl al)), (ax 11, .inl (E.2 1, 8, .inl ek)), (ax 12, .inl (E.2 1, 8, .inl be))] _ := hP
    replace hD : va_D A [(ax 19, .inr (0, [.ref (ax 0), .ref (ax 1), .ref (ax 35), .ref (ax 55), .ref (ax 4), .ref (ax 5), .ref (ax 6), .ref (ax 7), .int im, .ref (ax 9), .ref (ax 10), .ref (ax 11), .ref (ax 12), .ref (ax 13), .int bn, .int bm, .int fm, .int ff, .int fl])), (ax 1, .inl (E.2 0, 3, .inl nmd)), (ax 0, .inl (E.2 0, 60, .inl pl)), (ax 13, .inl (E.2 1, 8, .inl al)), (ax 11, .inl (E.2 1, 8, .inl ek)), (ax 12, .inl (E.2 1, 8, .inl be))] := hD
    replace hl : lv_has ls 7 [(0, .ref (ax 19)), (1, .int (nI (8 - (d + 1)))), (2, .int (nI le)), (3, .int (nI mo)), (4, .int (nI k))] := hl
    refine lv_iload_n hx hb dX0_tryExtra_0 rfl (lv_at hl 1 rfl) ?_
    refine lv_bipush (v := 8) hx hb dX0_tryExtra_1 rfl ?_
    refine lv_icmp_ne (tgt := 103) hx hb dX0_tryExtra_3 (by decide) (fun c_3 => ?_) (fun c_3 => absurd (fx_eq1 (a := 8 - (d + 1)) (b := 8) c_3 (by omega) (by omega)) (by omega))
    have n_3 := fx_eq0 (a := (8 - (d + 1))) (b := 8) c_3 (by omega) (by omega)
    have htt := hbk (8 - (d + 1)) (by omega)
    have htt2 := htt.2
    refine lv_iconst (v := 0) hx hb dX0_tryExtra_103 rfl ?_
    refine lv_istore (lv' := [(5, .int 0), (0, .ref (ax 19)), (1, .int (nI (8 - (d + 1)))), (2, .int (nI le)), (3, .int (nI mo)), (4, .int (nI k))]) hx hb dX0_tryExtra_104 hl (by decide) rfl (fun ls hl => ?_)
    have loop_106 : ∀ (n_106 : Nat) (n : Nat) (bmv : Int32) (bnv : Int32) (nmv : Nat → Int32) (plv : Nat → Int32) (alv : Nat → Int32) (ekv : Nat → Int32) (bev : Nat → Int32), (min le (9 - rn (8 - (d + 1))) + 1 - n < n_106) → (n ≤ min le (9 - rn (8 - (d + 1))) + 1) → (bmv = (itr (fun n_ b => enL (bdT rn) (lfT (netF sa T k rn (vlF sa T1))) d (upN ex (8 - (d + 1)) n_) (le - n_) (mo + n_) b) n (bm, bn, bx)).1 ∧ bnv = (itr (fun n_ b => enL (bdT rn) (lfT (netF sa T k rn (vlF sa T1))) d (upN ex (8 - (d + 1)) n_) (le - n_) (mo + n_) b) n (bm, bn, bx)).2.1) → (bmv ≠ -1 ∨ n = 0) → (bmv = -1 ∨ ((∀ i, i < 8 → bev i = nI ((itr (fun n_ b => enL (bdT rn) (lfT (netF sa T k rn (vlF sa T1))) d (upN ex (8 - (d + 1)) n_) (le - n_) (mo + n_) b) n (bm, bn, bx)).2.2 i) ∧ (itr (fun n_ b => enL (bdT rn) (lfT (netF sa T k rn (vlF sa T1))) d (upN ex (8 - (d + 1)) n_) (le - n_) (mo + n_) b) n (bm, bn, bx)).2.2 i ≤ 9) ∧ (LX (itr (fun n_ b => enL (bdT rn) (lfT (netF sa T k rn (vlF sa T1))) d (upN ex (8 - (d + 1)) n_) (le - n_) (mo + n_) b) n (bm, bn, bx)).2.2 ex (8 - (d + 1)) ∨ (AG (itr (fun n_ b => enL (bdT rn) (lfT (netF sa T k rn (vlF sa T1))) d (upN ex (8 - (d + 1)) n_) (le - n_) (mo + n_) b) n (bm, bn, bx)).2.2 ex (8 - (d + 1)) ∧ (itr (fun n_ b => enL (bdT rn) (lfT (netF sa T k rn (vlF sa T1))) d (upN ex (8 - (d + 1)) n_) (le - n_) (mo + n_) b) n (bm, bn, bx)).2.2 (8 - (d + 1)) < n)))) → (∀ i, i < (8 - (d + 1)) → ekv i = ek i) → ∀ (H : Heap) (locs : List Loc), va_P E.1 clA [(ax 19, .inr (0, [.ref (ax 0), .ref (ax 1), .ref (ax 35), .ref (ax 55), .ref (ax 4), .ref (ax 5), .ref (ax 6), .ref (ax 7), .int im, .ref (ax 9), .ref (ax 10), .ref (ax 11), .ref (ax 12), .ref (ax 13), .int bnv, .int bmv, .int fm, .int ff, .int fl])), (ax 1, .inl (E.2 0, 3, .inl nmv)), (ax 0, .inl (E.2 0, 60, .inl plv)), (ax 13, .inl (E.2 1, 8, .inl alv)), (ax 11, .inl (E.2 1, 8, .inl ekv)), (ax 12, .inl (E.2 1, 8, .inl bev))] H → va_D A [(ax 19, .inr (0, [.ref (ax 0), .ref (ax 1), .ref (ax 35), .ref (ax 55), .ref (ax 4), .ref (ax 5), .ref (ax 6), .ref (ax 7), .int im, .ref (ax 9), .ref (ax 10), .ref (ax 11), .ref (ax 12), .ref (ax 13), .int bnv, .int bmv, .int fm, .int ff, .int fl])), (ax 1, .inl (E.2 0, 3, .inl nmv)), (ax 0, .inl (E.2 0, 60, .inl plv)), (ax 13, .inl (E.2 1, 8, .inl alv)), (ax 11, .inl (E.2 1, 8, .inl ekv)), (ax 12, .inl (E.2 1, 8, .inl bev))] → va_S A s.heap H locs → ∀ (ls : Array Slot), lv_has ls 7 [(5, .int (nI n)), (0, .ref (ax 19)), (1, .int (nI (8 - (d + 1)))), (2, .int (nI le)), (3, .int (nI mo)), (4, .int (nI k))] → W p l e (rxX0_tryExtra (d + 1)) s m args below meth c H locs 0 0 Q (F0 m 106 ls []) := by
      intro n_106
      induction n_106 with
      | zero => intro n bmv bnv nmv plv alv ekv bev hm_106; exact absurd hm_106 (Nat.not_lt_zero _)
      | succ n_106 ih_106 =>
        intro n bmv bnv nmv plv alv ekv bev hm_106 hn hB hm1 hbe3 hr3 H locs hP hD hS ls hl
        refine lv_iload hx hb dX0_tryExtra_106 (lv_at hl 0 rfl) ?_
        refine lv_iload_n hx hb dX0_tryExtra_108 rfl (lv_at hl 3 rfl) ?_
        refine lv_icmp_gt (tgt := 158) hx hb dX0_tryExtra_109 (by decide) (fun c_109 => ?_) (fun c_109 => ?_)
        · -- jump 158
          have n_109 := fx_lt1 (a := le) (b := n) c_109 (by omega) (by omega)
          have hne : n = min le (9 - rn (8 - (d + 1))) + 1 := by omega
          refine lv_aload_n hx hb dX0_tryExtra_158 rfl (lv_at hl 1 rfl) ?_
          refine fx_get X hE hP 0 rfl rfl 11 rfl q246 rfl rfl dX0_tryExtra_159 ?_
          refine lv_iload_n hx hb dX0_tryExtra_162 rfl (lv_at hl 2 rfl) ?_
          refine lv_iconst (v := 0) hx hb dX0_tryExtra_163 rfl ?_
          refine fx_bast (ws' := [(ax 19, .inr (0, [.ref (ax 0), .ref (ax 1), .ref (ax 35), .ref (ax 55), .ref (ax 4), .ref (ax 5), .ref (ax 6), .ref (ax 7), .int im, .ref (ax 9), .ref (ax 10), .ref (ax 11), .ref (ax 12), .ref (ax 13), .int bnv, .int bmv, .int fm, .int ff, .int fl])), (ax 1, .inl (E.2 0, 3, .inl nmv)), (ax 0, .inl (E.2 0, 60, .inl plv)), (ax 13, .inl (E.2 1, 8, .inl alv)), (ax 11, .inl (E.2 1, 8, .inl (upd ekv (8 - (d + 1)) 0))), (ax 12, .inl (E.2 1, 8, .inl bev))]) X hE hP hD hS 4 rfl (8 - (d + 1)) rfl (by omega) rfl (by decide) rfl dX0_tryExtra_164 (fun H locs hP hD hS => ?_)
          exact hret (bnv, bmv, nmv, plv, alv, (upd ekv (8 - (d + 1)) 0), bev) (⟨by rw [enL, bdT]; exact hne ▸ hB, hm1.resolve_right (by omega), by rw [enL, bdT]; exact hne ▸ (hbe3.resolve_left (hm1.resolve_right (by omega))).1, fun i hi => (upd_n _ _ (by omega)).trans (hr3 i hi), by rw [enL, bdT]; exact hne ▸ ((hbe3.resolve_left (hm1.resolve_right (by omega))).2.imp id (fun h => h.1))⟩) hP hD hS (Nat.le_refl _) (Nat.le_refl _) dX0_tryExtra_165
        · -- fall 112
          have n_109 := fx_lt0 (a := le) (b := n) c_109 (by omega) (by omega)
          refine lv_aload_n hx hb dX0_tryExtra_112 rfl (lv_at hl 1 rfl) ?_
          refine fx_get X hE hP 0 rfl rfl 9 rfl q244 rfl rfl dX0_tryExtra_113 ?_
          refine lv_iload_n hx hb dX0_tryExtra_116 rfl (lv_at hl 2 rfl) ?_
          refine fx_bald X hE (hR.at hS) 10 rfl (8 - (d + 1)) rfl (by omega) rfl dX0_tryExtra_117 ?_
          refine fx_ti (show (bk (8 - (d + 1))) = nI (rn (8 - (d + 1))) from htt.1) ?_
          refine lv_iload hx hb dX0_tryExtra_118 (lv_at hl 0 rfl) ?_
          refine lv_iadd hx hb dX0_tryExtra_120 ?_
          refine fx_ti (nI_add (rn (8 - (d + 1))) n) ?_
          refine lv_bipush (v := 9) hx hb dX0_tryExtra_121 rfl ?_
          refine lv_icmp_gt (tgt := 158) hx hb dX0_tryExtra_123 (by decide) (fun c_123 => ?_) (fun c_123 => ?_)
          · -- jump 158
            have n_123 := fx_lt1 (a := 9) (b := (rn (8 - (d + 1)) + n)) c_123 (by omega) (by omega)
            have hne : n = min le (9 - rn (8 - (d + 1))) + 1 := by omega
            refine lv_aload_n hx hb dX0_tryExtra_158 rfl (lv_at hl 1 rfl) ?_
            refine fx_get X hE hP 0 rfl rfl 11 rfl q246 rfl rfl dX0_tryExtra_159 ?_
            refine lv_iload_n hx hb dX0_tryExtra_162 rfl (lv_at hl 2 rfl) ?_
            refine lv_iconst (v := 0) hx hb dX0_tryExtra_163 rfl ?_
            refine fx_bast (ws' := [(ax 19, .inr (0, [.ref (ax 0), .ref (ax 1), .ref (ax 35), .ref (ax 55), .ref (ax 4), .ref (ax 5), .ref (ax 6), .ref (ax 7), .int im, .ref (ax 9), .ref (ax 10), .ref (ax 11), .ref (ax 12), .ref (ax 13), .int bnv, .int bmv, .int fm, .int ff, .int fl])), (ax 1, .inl (E.2 0, 3, .inl nmv)), (ax 0, .inl (E.2 0, 60, .inl plv)), (ax 13, .inl (E.2 1, 8, .inl alv)), (ax 11, .inl (E.2 1, 8, .inl (upd ekv (8 - (d + 1)) 0))), (ax 12, .inl (E.2 1, 8, .inl bev))]) X hE hP hD hS 4 rfl (8 - (d + 1)) rfl (by omega) rfl (by decide) rfl dX0_tryExtra_164 (fun H locs hP hD hS => ?_)
            exact hret (bnv, bmv, nmv, plv, alv, (upd ekv (8 - (d + 1)) 0), bev) (⟨by rw [enL, bdT]; exact hne ▸ hB, hm1.resolve_right (by omega), by rw [enL, bdT]; exact hne ▸ (hbe3.resolve_left (hm1.resolve_right (by omega))).1, fun i hi => (upd_n _ _ (by omega)).trans (hr3 i hi), by rw [enL, bdT]; exact hne ▸ ((hbe3.resolve_left (hm1.resolve_right (by omega))).2.imp id (fun h => h.1))⟩) hP hD hS (Nat.le_refl _) (Nat.le_refl _) dX0_tryExtra_165
          · -- fall 126
            have n_123 := fx_lt0 (a := 9) (b := (rn (8 - (d + 1)) + n)) c_123 (by omega) (by omega)
            refine lv_aload_n hx hb dX0_tryExtra_126 rfl (lv_at hl 1 rfl) ?_
            refine fx_get X hE hP 0 rfl rfl 11 rfl q246 rfl rfl dX0_tryExtra_127 ?_
            refine lv_iload_n hx hb dX0_tryExtra_130 rfl (lv_at hl 2 rfl) ?_
            refine lv_iload hx hb dX0_tryExtra_131 (lv_at hl 0 rfl) ?_
            refine lv_i2b (v := (nI n).toInt8.toInt32) hx hb dX0_tryExtra_133 rfl ?_
            refine fx_bast (ws' := [(ax 19, .inr (0, [.ref (ax 0), .ref (ax 1), .ref (ax 35), .ref (ax 55), .ref (ax 4), .ref (ax 5), .ref (ax 6), .ref (ax 7), .int im, .ref (ax 9), .ref (ax 10), .ref (ax 11), .ref (ax 12), .ref (ax 13), .int bnv, .int bmv, .int fm, .int ff, .int fl])), (ax 1, .inl (E.2 0, 3, .inl nmv)), (ax 0, .inl (E.2 0, 60, .inl plv)), (ax 13, .inl (E.2 1, 8, .inl alv)), (ax 11, .inl (E.2 1, 8, .inl (upd ekv (8 - (d + 1)) (nI n)))), (ax 12, .inl (E.2 1, 8, .inl bev))]) X hE hP hD hS 4 rfl (8 - (d + 1)) rfl (by omega) rfl (by rw [pk_bidem]; exact fit8 rfl (by omega)) rfl dX0_tryExtra_134 (fun H locs hP hD hS => ?_)
            refine lv_aload_n hx hb dX0_tryExtra_135 rfl (lv_at hl 1 rfl) ?_
            refine lv_iload_n hx hb dX0_tryExtra_136 rfl (lv_at hl 2 rfl) ?_
            refine lv_iconst (v := 1) hx hb dX0_tryExtra_137 rfl ?_
            refine lv_iadd hx hb dX0_tryExtra_138 ?_
            refine fx_ti (nI_add (8 - (d + 1)) 1) ?_
            refine fx_ti (show nI (8 - (d + 1) + 1) = nI (8 - d) from congrArg nI (by omega)) ?_
            refine lv_iload_n hx hb dX0_tryExtra_139 rfl (lv_at hl 3 rfl) ?_
            refine lv_iload hx hb dX0_tryExtra_140 (lv_at hl 0 rfl) ?_
            refine lv_isub hx hb dX0_tryExtra_142 ?_
            refine fx_ti (pk_sub (a := le) (b := n) (by omega)) ?_
            refine lv_iload_n hx hb dX0_tryExtra_143 rfl (lv_at hl 4 rfl) ?_
            refine lv_iload hx hb dX0_tryExtra_144 (lv_at hl 0 rfl) ?_
            refine lv_iadd hx hb dX0_tryExtra_146 ?_
            refine fx_ti (nI_add mo n) ?_
            refine lv_iload hx hb dX0_tryExtra_147 (lv_at hl 5 rfl) ?_
            refine fx_cv (va_runV (As := [.int (nI (8 - d)), .int (nI (le - n)), .int (nI (mo + n)), .int (nI k)]) (rest := []) X (ih ax im bnv bmv fm ff fl tk cs gs zz tp wg nmv plv sa tl pr co bk (upd ekv (8 - (d + 1)) (nI n)) alv bev rn (upN ex (8 - (d + 1)) n) ((itr (fun n_ b => enL (bdT rn) (lfT (netF sa T k rn (vlF sa T1))) d (upN ex (8 - (d + 1)) n_) (le - n_) (mo + n_) b) n (bm, bn, bx)).2.2) tx T T1 PL k (le - n) (mo + n) (by omega) (by first | assumption | omega) (by first | assumption | omega) (by first | assumption | omega) (by first | assumption | omega) (by first | assumption | omega) (by first | assumption | omega) (by first | assumption | omega) (by first | assumption | omega) (by first | assumption | omega) (by first | assumption | omega) (by rw [show 8 - d = 8 - (d + 1) + 1 by omega]; exact rowq_s (fun i hi => ⟨(hr3 i hi).trans (hek i hi).1, (hek i hi).2⟩) (by omega)) (by omega) (by omega) (hbe3.imp id (fun h => ⟨h.1, by rw [show 8 - d = 8 - (d + 1) + 1 by omega]; exact LX_nx h.2⟩)) _) (cwV 4 X.2.2.2.2 (lw_V q875 q877 qs24 q69 q878) rfl rfl rfl ⟨rfl, hdX0_tryExtra⟩ ⟨by simp only [rxX0_tryExtra]; omega, by simp only [rxX0_tryExtra]; omega⟩) (fx_preV (fx_pre hE hP hD hS hR [0, 1, 2, 3, 4, 5] rfl rfl (fx_rcr 0 rfl (fx_rcr 1 rfl (fx_rcr 2 rfl (fx_rcr 3 rfl (fx_rcr 4 rfl (fx_rcr 5 rfl (fx_rcr 6 rfl (fx_rcr 7 rfl (fx_rcr 8 rfl (fx_rcr 9 rfl (fx_rcr 10 rfl (fx_rct (fun q hq => List.mem_append_right _ hq)))))))))))))) (va_recv hE.1 hP (ci := 0) (q0 := 0) rfl rfl)) rfl rfl hl.1 rfl (lv_room (Nat.le_of_ble_eq_true rfl)) dX0_tryExtra_149 ⟨Nat.le_refl _, Nat.le_refl _⟩) hP hD hS hA [0, 1, 2, 3, 4, 5] rfl rfl (fun u H locs hq_149 hP hD hS => ?_)
            obtain ⟨bn2_149, bm2_149, nm2_149, pl2_149, al2_149, ek2_149, be2_149⟩ := u
            replace hP : va_P E.1 clA [(ax 19, .inr (0, [.ref (ax 0), .ref (ax 1), .ref (ax 35), .ref (ax 55), .ref (ax 4), .ref (ax 5), .ref (ax 6), .ref (ax 7), .int im, .ref (ax 9), .ref (ax 10), .ref (ax 11), .ref (ax 12), .ref (ax 13), .int bn2_149, .int bm2_149, .int fm, .int ff, .int fl])), (ax 1, .inl (E.2 0, 3, .inl nm2_149)), (ax 0, .inl (E.2 0, 60, .inl pl2_149)), (ax 13, .inl (E.2 1, 8, .inl al2_149)), (ax 11, .inl (E.2 1, 8, .inl ek2_149)), (ax 12, .inl (E.2 1, 8, .inl be2_149))] _ := hP
            replace hD : va_D A [(ax 19, .inr (0, [.ref (ax 0), .ref (ax 1), .ref (ax 35), .ref (ax 55), .ref (ax 4), .ref (ax 5), .ref (ax 6), .ref (ax 7), .int im, .ref (ax 9), .ref (ax 10), .ref (ax 11), .ref (ax 12), .ref (ax 13), .int bn2_149, .int bm2_149, .int fm, .int ff, .int fl])), (ax 1, .inl (E.2 0, 3, .inl nm2_149)), (ax 0, .inl (E.2 0, 60, .inl pl2_149)), (ax 13, .inl (E.2 1, 8, .inl al2_149)), (ax 11, .inl (E.2 1, 8, .inl ek2_149)), (ax 12, .inl (E.2 1, 8, .inl be2_149))] := hD
            replace hq_149 : (bm2_149 = (enL (bdT rn) (lfT (netF sa T k rn (vlF sa T1))) d (upN ex (8 - (d + 1)) n) (le - n) (mo + n) (bmv, bnv, ((itr (fun n_ b => enL (bdT rn) (lfT (netF sa T k rn (vlF sa T1))) d (upN ex (8 - (d + 1)) n_) (le - n_) (mo + n_) b) n (bm, bn, bx)).2.2))).1 ∧ bn2_149 = (enL (bdT rn) (lfT (netF sa T k rn (vlF sa T1))) d (upN ex (8 - (d + 1)) n) (le - n) (mo + n) (bmv, bnv, ((itr (fun n_ b => enL (bdT rn) (lfT (netF sa T k rn (vlF sa T1))) d (upN ex (8 - (d + 1)) n_) (le - n_) (mo + n_) b) n (bm, bn, bx)).2.2))).2.1) ∧ bm2_149 ≠ -1 ∧ (∀ i, i < 8 → be2_149 i = nI ((enL (bdT rn) (lfT (netF sa T k rn (vlF sa T1))) d (upN ex (8 - (d + 1)) n) (le - n) (mo + n) (bmv, bnv, ((itr (fun n_ b => enL (bdT rn) (lfT (netF sa T k rn (vlF sa T1))) d (upN ex (8 - (d + 1)) n_) (le - n_) (mo + n_) b) n (bm, bn, bx)).2.2))).2.2 i) ∧ (enL (bdT rn) (lfT (netF sa T k rn (vlF sa T1))) d (upN ex (8 - (d + 1)) n) (le - n) (mo + n) (bmv, bnv, ((itr (fun n_ b => enL (bdT rn) (lfT (netF sa T k rn (vlF sa T1))) d (upN ex (8 - (d + 1)) n_) (le - n_) (mo + n_) b) n (bm, bn, bx)).2.2))).2.2 i ≤ 9) ∧ (∀ i, i < 8 - d → ek2_149 i = (upd ekv (8 - (d + 1)) (nI n)) i) ∧ (LX (enL (bdT rn) (lfT (netF sa T k rn (vlF sa T1))) d (upN ex (8 - (d + 1)) n) (le - n) (mo + n) (bmv, bnv, ((itr (fun n_ b => enL (bdT rn) (lfT (netF sa T k rn (vlF sa T1))) d (upN ex (8 - (d + 1)) n_) (le - n_) (mo + n_) b) n (bm, bn, bx)).2.2))).2.2 (upN ex (8 - (d + 1)) n) (8 - d) ∨ AG (enL (bdT rn) (lfT (netF sa T k rn (vlF sa T1))) d (upN ex (8 - (d + 1)) n) (le - n) (mo + n) (bmv, bnv, ((itr (fun n_ b => enL (bdT rn) (lfT (netF sa T k rn (vlF sa T1))) d (upN ex (8 - (d + 1)) n_) (le - n_) (mo + n_) b) n (bm, bn, bx)).2.2))).2.2 (upN ex (8 - (d + 1)) n) (8 - d)) := hq_149
            refine lv_iinc (v := nI (n + 1)) (lv' := [(5, .int (nI (n + 1))), (0, .ref (ax 19)), (1, .int (nI (8 - (d + 1)))), (2, .int (nI le)), (3, .int (nI mo)), (4, .int (nI k))]) hx hb dX0_tryExtra_152 hl (k := 0) rfl (fx_inc _) (by decide) rfl (fun ls hl => ?_)
            refine lv_goto (tgt := 106) hx hb dX0_tryExtra_155 (by decide) ?_
            exact ih_106 (n + 1) bm2_149 bn2_149 nm2_149 pl2_149 al2_149 ek2_149 be2_149 (by omega) (by omega) (by have h1 := hq_149.1; rw [bst_eta hB.1 hB.2] at h1; exact h1) (Or.inl hq_149.2.1) (Or.inr (by have h1 := hq_149.2.2.1; have h2 := hq_149.2.2.2.2; rw [bst_eta hB.1 hB.2] at h1 h2; rw [show 8 - d = 8 - (d + 1) + 1 by omega] at h2; exact ⟨h1, (LX_dn h2).imp id (fun h => ⟨h.1, Nat.lt_succ_of_le h.2⟩)⟩)) (fun i hi => by rw [hq_149.2.2.2.1 i (by omega), upd_n _ _ (by omega), hr3 i hi]) _ _ hP hD hS ls (lv_sub hl [0, 1, 2, 3, 4, 5] rfl)
    exact loop_106 ((min le (9 - rn (8 - (d + 1))) + 1 - 0) + 1) 0 bm bn nmd pl al ek be (Nat.lt_succ_self _) (Nat.zero_le _) (⟨rfl, rfl⟩) (Or.inr rfl) (hbe.imp id (fun h => ⟨h.1, Or.inl h.2⟩)) (fun i hi => rfl) _ _ hP hD hS ls (lv_sub hl [0, 1, 2, 3, 4, 5] rfl)
