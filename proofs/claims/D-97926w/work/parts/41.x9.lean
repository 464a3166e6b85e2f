set_option maxRecDepth 100000
theorem hdX0_buys : yX0_buys.cls ≠ "java/lang/invoke/MethodHandle" ∧ yX0_buys.cls ≠ "java/lang/invoke/VarHandle" ∧ (parseMethodDescriptor yX0_buys.desc).map (fun d => d.parameters.length) = some 0 := by decide +kernel
theorem hdX0_draws : yX0_draws.cls ≠ "java/lang/invoke/MethodHandle" ∧ yX0_draws.cls ≠ "java/lang/invoke/VarHandle" ∧ (parseMethodDescriptor yX0_draws.desc).map (fun d => d.parameters.length) = some 1 := by decide +kernel
abbrev rxX0_buys : Room := { frames := 7, cells := 0, slots := 0, locals := 162 }
set_option maxHeartbeats 400000 in
set_option maxRecDepth 100000 in
theorem xX0_buys (l : Launch) (E : fx_En) (ax : Nat → Nat) (im : Int32) (bn : Int32) (bm : Int32) (fm : Int32) (ff : Int32) (fl : Int32) (tk : Int32) (cs : Int32) (gs : Int32) (zz : Int32) (tp : Int32) (wg : Int32) (nmd : Nat → Int32) (pl : Nat → Int32) (sa : Nat → Int32) (tl : Nat → Nat) (pr : Nat → Int32) (co : Nat → Int32) (st0 : Nat → Int32) (bk : Nat → Int32) (tx : Nat → Option Nat) (T : Tx) (PL : va_W) (hI : Inv sa) (hTL : TLS PL sa tl) (hT : TXs E PL (tx 0) T) (hTo : TOk T) (hpr : rl pr sa 8 8) (hco : rl co sa 16 8) (hst : rl st0 sa 24 8) (hN : HN sa tk cs gs zz tp wg) : fx_Mi l yX0_buys cX0_buys 5 .boolean rxX0_buys E [.ref (ax 19)] [(ax 35, .inr (1, [.ref (ax 20), .ref (ax 21), .ref (ax 22), .int tk, .int cs, .int gs, .int zz, .int tp, .int wg, .ref (ax 29), .ref (ax 30), .ref (ax 31), .ref (ax 32)])), (ax 22, .inl (E.2 0, 8, .inl st0)), (ax 1, .inl (E.2 0, 3, .inl nmd)), (ax 0, .inl (E.2 0, 60, .inl pl)), (ax 9, .inl (E.2 1, 8, .inl bk))] ([(ax 19, .inr (0, [.ref (ax 0), .ref (ax 1), .ref (ax 35), .ref (ax 55), .ref (ax 4), .ref (ax 5), .ref (ax 6), .ref (ax 7), .int im, .ref (ax 9), .ref (ax 10), .ref (ax 11), .ref (ax 12), .ref (ax 13), .int bn, .int bm, .int fm, .int ff, .int fl])), (ax 29, .inl (E.2 3, 4, .inr (.inr (.inr (.inr (fun i_ => some (ax (36 + i_)))))))), (ax 36, .inr (2, [.ref (tl 0)])), (ax 37, .inr (2, [.ref (tl 1)])), (ax 38, .inr (2, [.ref (tl 2)])), (ax 39, .inr (2, [.ref (tl 3)])), (ax 7, .inr (5, [.ref (ax 19)])), (ax 30, .inl (E.2 4, 2, .inr (.inr (.inr (.inr tx))))), (ax 20, .inl (E.2 0, 8, .inl pr)), (ax 21, .inl (E.2 0, 8, .inl co))] ++ PL) (S := Int32 × Int32 × Int32 × Int32 × (Nat → Int32) × (Nat → Int32) × (Nat → Int32) × (Nat → Int32)) (fun (u : Int32 × Int32 × Int32 × Int32 × (Nat → Int32) × (Nat → Int32) × (Nat → Int32) × (Nat → Int32)) => [(ax 35, .inr (1, [.ref (ax 20), .ref (ax 21), .ref (ax 22), .int u.1, .int u.2.1, .int u.2.2.1, .int u.2.2.2.1, .int tp, .int wg, .ref (ax 29), .ref (ax 30), .ref (ax 31), .ref (ax 32)])), (ax 22, .inl (E.2 0, 8, .inl u.2.2.2.2.1)), (ax 1, .inl (E.2 0, 3, .inl u.2.2.2.2.2.1)), (ax 0, .inl (E.2 0, 60, .inl u.2.2.2.2.2.2.1)), (ax 9, .inl (E.2 1, 8, .inl u.2.2.2.2.2.2.2))]) (fun (r : Int32) (u : Int32 × Int32 × Int32 × Int32 × (Nat → Int32) × (Nat → Int32) × (Nat → Int32) × (Nat → Int32)) => r = fx_b (buyS sa = true) ∧ HN (buyA sa T) u.1 u.2.1 u.2.2.1 u.2.2.2.1 tp wg ∧ rl u.2.2.2.2.1 (buyA sa T) 24 8) := by
  refine fx_iW rfl rfl ?_
  intro p e s m args below meth c A ls Q X hE hP hD hR hA hl hret
  have hx := X.1
  have hb := X.2.1
  have hS : va_S A s.heap s.heap [] := va_S.rf
  replace hP : va_P E.1 clA [(ax 35, .inr (1, [.ref (ax 20), .ref (ax 21), .ref (ax 22), .int tk, .int cs, .int gs, .int zz, .int tp, .int wg, .ref (ax 29), .ref (ax 30), .ref (ax 31), .ref (ax 32)])), (ax 22, .inl (E.2 0, 8, .inl st0)), (ax 1, .inl (E.2 0, 3, .inl nmd)), (ax 0, .inl (E.2 0, 60, .inl pl)), (ax 9, .inl (E.2 1, 8, .inl bk))] _ := hP
  replace hD : va_D A [(ax 35, .inr (1, [.ref (ax 20), .ref (ax 21), .ref (ax 22), .int tk, .int cs, .int gs, .int zz, .int tp, .int wg, .ref (ax 29), .ref (ax 30), .ref (ax 31), .ref (ax 32)])), (ax 22, .inl (E.2 0, 8, .inl st0)), (ax 1, .inl (E.2 0, 3, .inl nmd)), (ax 0, .inl (E.2 0, 60, .inl pl)), (ax 9, .inl (E.2 1, 8, .inl bk))] := hD
  replace hl : lv_has ls 5 [(0, .ref (ax 19))] := hl
  have hz := hN.2.2.2.1
  subst hz
  refine lv_iconst (v := 0) hx hb dX0_buys_0 rfl ?_
  refine lv_istore_n (lv' := [(1, .int 0), (0, .ref (ax 19))]) hx hb dX0_buys_1 rfl hl (by decide) rfl (fun ls hl => ?_)
  have loop_2 : ∀ (n_2 : Nat) (t : Nat) (bv : Nat → Int32), (8 - t < n_2) → (t ≤ 8) → (∀ i, i < t → bv i = 0) → ∀ (H : Heap) (locs : List Loc), va_P E.1 clA [(ax 35, .inr (1, [.ref (ax 20), .ref (ax 21), .ref (ax 22), .int tk, .int cs, .int gs, .int (sa 5), .int tp, .int wg, .ref (ax 29), .ref (ax 30), .ref (ax 31), .ref (ax 32)])), (ax 22, .inl (E.2 0, 8, .inl st0)), (ax 1, .inl (E.2 0, 3, .inl nmd)), (ax 0, .inl (E.2 0, 60, .inl pl)), (ax 9, .inl (E.2 1, 8, .inl bv))] H → va_D A [(ax 35, .inr (1, [.ref (ax 20), .ref (ax 21), .ref (ax 22), .int tk, .int cs, .int gs, .int (sa 5), .int tp, .int wg, .ref (ax 29), .ref (ax 30), .ref (ax 31), .ref (ax 32)])), (ax 22, .inl (E.2 0, 8, .inl st0)), (ax 1, .inl (E.2 0, 3, .inl nmd)), (ax 0, .inl (E.2 0, 60, .inl pl)), (ax 9, .inl (E.2 1, 8, .inl bv))] → va_S A s.heap H locs → ∀ (ls : Array Slot), lv_has ls 5 [(1, .int (nI t)), (0, .ref (ax 19))] → W p l e rxX0_buys s m args below meth c H locs 0 0 Q (F0 m 2 ls []) := by
    intro n_2
    induction n_2 with
    | zero => intro t bv hm_2; exact absurd hm_2 (Nat.not_lt_zero _)
    | succ n_2 ih_2 =>
      intro t bv hm_2 ht hbv H locs hP hD hS ls hl
      refine lv_iload_n hx hb dX0_buys_2 rfl (lv_at hl 0 rfl) ?_
      refine lv_bipush (v := 8) hx hb dX0_buys_3 rfl ?_
      refine lv_icmp_ge (tgt := 21) hx hb dX0_buys_5 (by decide) (fun c_5 => ?_) (fun c_5 => ?_)
      · -- jump 21
        have n_5 := fx_le1 (a := 8) (b := t) c_5 (by omega) (by omega)
        obtain rfl : t = 8 := by omega
        refine lv_aload_n hx hb dX0_buys_21 rfl (lv_at hl 1 rfl) ?_
        refine fx_get X hE (hR.at hS) 0 rfl rfl 2 rfl q237 rfl rfl dX0_buys_22 ?_
        refine fx_ci (va_runV (As := []) (rest := []) X (xX1_drawn l E ax tk cs gs (sa 5) tp wg _) (cwV 0 X.2.2.2.2 (lw_V q858 q859 q860 q70 q861) rfl rfl rfl ⟨rfl, hdX1_drawn⟩ ⟨Nat.le_of_ble_eq_true rfl, Nat.le_of_ble_eq_true rfl⟩) (fx_preV (fx_pre hE hP hD hS hR [0] rfl rfl fx_rc0) (va_recv hE.1 hP (ci := 1) (q0 := 0) rfl rfl)) rfl rfl hl.1 rfl (lv_room (Nat.le_of_ble_eq_true rfl)) dX0_buys_25 ⟨Nat.le_refl _, Nat.le_refl _⟩) hP hD hS hA [0] rfl rfl (fun r_25 u H locs hq_25 hP hD hS => ?_)
        replace hP : va_P E.1 clA [(ax 35, .inr (1, [.ref (ax 20), .ref (ax 21), .ref (ax 22), .int tk, .int cs, .int gs, .int (zN (sa 5)), .int tp, .int wg, .ref (ax 29), .ref (ax 30), .ref (ax 31), .ref (ax 32)])), (ax 22, .inl (E.2 0, 8, .inl st0)), (ax 1, .inl (E.2 0, 3, .inl nmd)), (ax 0, .inl (E.2 0, 60, .inl pl)), (ax 9, .inl (E.2 1, 8, .inl bv))] _ := hP
        replace hD : va_D A [(ax 35, .inr (1, [.ref (ax 20), .ref (ax 21), .ref (ax 22), .int tk, .int cs, .int gs, .int (zN (sa 5)), .int tp, .int wg, .ref (ax 29), .ref (ax 30), .ref (ax 31), .ref (ax 32)])), (ax 22, .inl (E.2 0, 8, .inl st0)), (ax 1, .inl (E.2 0, 3, .inl nmd)), (ax 0, .inl (E.2 0, 60, .inl pl)), (ax 9, .inl (E.2 1, 8, .inl bv))] := hD
        replace hq_25 : r_25 = zD (zN (sa 5)) := hq_25
        refine fx_ti (show r_25 = nI (zT (zN (sa 5))) from hq_25.trans (zT_I _).1) ?_
        have hz1 := (zT_I (zN (sa 5))).2
        refine lv_bipush (v := 8) hx hb dX0_buys_28 rfl ?_
        refine lv_irem hx hb dX0_buys_30 (by decide) ?_
        refine fx_ti (pk_rem (a := zT (zN (sa 5))) (d := 8) (by omega) (by omega) (by omega)) ?_
        refine fx_ti (show nI ((zT (zN (sa 5))) % 8) = nI (byT (sa 5)) from rfl) ?_
        have hbt := byT_lt (sa 5)
        refine lv_istore_n (lv' := [(1, .int (nI (byT (sa 5)))), (0, .ref (ax 19))]) hx hb dX0_buys_31 rfl hl (by decide) rfl (fun ls hl => ?_)
        refine lv_aload_n hx hb dX0_buys_32 rfl (lv_at hl 1 rfl) ?_
        refine fx_get X hE (hR.at hS) 0 rfl rfl 9 rfl q244 rfl rfl dX0_buys_33 ?_
        refine lv_iload_n hx hb dX0_buys_36 rfl (lv_at hl 0 rfl) ?_
        refine lv_iconst (v := 1) hx hb dX0_buys_37 rfl ?_
        refine lv_aload_n hx hb dX0_buys_38 rfl (lv_at hl 1 rfl) ?_
        refine fx_get X hE (hR.at hS) 0 rfl rfl 2 rfl q237 rfl rfl dX0_buys_39 ?_
        refine fx_ci (va_runV (As := []) (rest := [.int 1, .int (nI (byT (sa 5))), .ref (ax 9)]) X (xX1_drawn l E ax tk cs gs (zN (sa 5)) tp wg _) (cwV 0 X.2.2.2.2 (lw_V q858 q859 q860 q70 q861) rfl rfl rfl ⟨rfl, hdX1_drawn⟩ ⟨Nat.le_of_ble_eq_true rfl, Nat.le_of_ble_eq_true rfl⟩) (fx_preV (fx_pre hE hP hD hS hR [0] rfl rfl fx_rc0) (va_recv hE.1 hP (ci := 1) (q0 := 0) rfl rfl)) rfl rfl hl.1 rfl (lv_room (Nat.le_of_ble_eq_true rfl)) dX0_buys_42 ⟨Nat.le_refl _, Nat.le_refl _⟩) hP hD hS hA [0] rfl rfl (fun r_42 u H locs hq_42 hP hD hS => ?_)
        replace hP : va_P E.1 clA [(ax 35, .inr (1, [.ref (ax 20), .ref (ax 21), .ref (ax 22), .int tk, .int cs, .int gs, .int (zN (zN (sa 5))), .int tp, .int wg, .ref (ax 29), .ref (ax 30), .ref (ax 31), .ref (ax 32)])), (ax 22, .inl (E.2 0, 8, .inl st0)), (ax 1, .inl (E.2 0, 3, .inl nmd)), (ax 0, .inl (E.2 0, 60, .inl pl)), (ax 9, .inl (E.2 1, 8, .inl bv))] _ := hP
        replace hD : va_D A [(ax 35, .inr (1, [.ref (ax 20), .ref (ax 21), .ref (ax 22), .int tk, .int cs, .int gs, .int (zN (zN (sa 5))), .int tp, .int wg, .ref (ax 29), .ref (ax 30), .ref (ax 31), .ref (ax 32)])), (ax 22, .inl (E.2 0, 8, .inl st0)), (ax 1, .inl (E.2 0, 3, .inl nmd)), (ax 0, .inl (E.2 0, 60, .inl pl)), (ax 9, .inl (E.2 1, 8, .inl bv))] := hD
        replace hq_42 : r_42 = zD (zN (zN (sa 5))) := hq_42
        refine fx_ti (show r_42 = nI (zT (zN (zN (sa 5)))) from hq_42.trans (zT_I _).1) ?_
        have hz2 := (zT_I (zN (zN (sa 5)))).2
        refine lv_iconst (v := 4) hx hb dX0_buys_45 rfl ?_
        refine lv_irem hx hb dX0_buys_46 (by decide) ?_
        refine fx_ti (pk_rem (a := zT (zN (zN (sa 5)))) (d := 4) (by omega) (by omega) (by omega)) ?_
        refine lv_iadd hx hb dX0_buys_47 ?_
        refine fx_ti (nI_add 1 ((zT (zN (zN (sa 5)))) % 4)) ?_
        refine fx_ti (show nI (1 + (zT (zN (zN (sa 5)))) % 4) = nI (byN (sa 5)) from congrArg nI (Nat.add_comm _ _)) ?_
        have hbn := byN_le (sa 5)
        refine lv_i2b (v := (nI (byN (sa 5))).toInt8.toInt32) hx hb dX0_buys_48 rfl ?_
        refine fx_bast (ws' := [(ax 35, .inr (1, [.ref (ax 20), .ref (ax 21), .ref (ax 22), .int tk, .int cs, .int gs, .int (zN (zN (sa 5))), .int tp, .int wg, .ref (ax 29), .ref (ax 30), .ref (ax 31), .ref (ax 32)])), (ax 22, .inl (E.2 0, 8, .inl st0)), (ax 1, .inl (E.2 0, 3, .inl nmd)), (ax 0, .inl (E.2 0, 60, .inl pl)), (ax 9, .inl (E.2 1, 8, .inl (upd bv (byT (sa 5)) (nI (byN (sa 5))))))]) X hE hP hD hS 4 rfl (byT (sa 5)) rfl (by omega) rfl (by rw [pk_bidem]; exact fit8 rfl (by omega)) rfl dX0_buys_49 (fun H locs hP hD hS => ?_)
        have hbr := byR_row (z := sa 5) hbv
        refine lv_aload_n hx hb dX0_buys_50 rfl (lv_at hl 1 rfl) ?_
        refine fx_get X hE (hR.at hS) 0 rfl rfl 2 rfl q237 rfl rfl dX0_buys_51 ?_
        refine fx_ci (va_runV (As := []) (rest := []) X (xX1_drawn l E ax tk cs gs (zN (zN (sa 5))) tp wg _) (cwV 0 X.2.2.2.2 (lw_V q858 q859 q860 q70 q861) rfl rfl rfl ⟨rfl, hdX1_drawn⟩ ⟨Nat.le_of_ble_eq_true rfl, Nat.le_of_ble_eq_true rfl⟩) (fx_preV (fx_pre hE hP hD hS hR [0] rfl rfl fx_rc0) (va_recv hE.1 hP (ci := 1) (q0 := 0) rfl rfl)) rfl rfl hl.1 rfl (lv_room (Nat.le_of_ble_eq_true rfl)) dX0_buys_54 ⟨Nat.le_refl _, Nat.le_refl _⟩) hP hD hS hA [0] rfl rfl (fun r_54 u H locs hq_54 hP hD hS => ?_)
        replace hP : va_P E.1 clA [(ax 35, .inr (1, [.ref (ax 20), .ref (ax 21), .ref (ax 22), .int tk, .int cs, .int gs, .int (zN (zN (zN (sa 5)))), .int tp, .int wg, .ref (ax 29), .ref (ax 30), .ref (ax 31), .ref (ax 32)])), (ax 22, .inl (E.2 0, 8, .inl st0)), (ax 1, .inl (E.2 0, 3, .inl nmd)), (ax 0, .inl (E.2 0, 60, .inl pl)), (ax 9, .inl (E.2 1, 8, .inl (upd bv (byT (sa 5)) (nI (byN (sa 5))))))] _ := hP
        replace hD : va_D A [(ax 35, .inr (1, [.ref (ax 20), .ref (ax 21), .ref (ax 22), .int tk, .int cs, .int gs, .int (zN (zN (zN (sa 5)))), .int tp, .int wg, .ref (ax 29), .ref (ax 30), .ref (ax 31), .ref (ax 32)])), (ax 22, .inl (E.2 0, 8, .inl st0)), (ax 1, .inl (E.2 0, 3, .inl nmd)), (ax 0, .inl (E.2 0, 60, .inl pl)), (ax 9, .inl (E.2 1, 8, .inl (upd bv (byT (sa 5)) (nI (byN (sa 5))))))] := hD
        replace hq_54 : r_54 = zD (zN (zN (zN (sa 5)))) := hq_54
        refine fx_ti (show r_54 = nI (zT (zN (zN (zN (sa 5))))) from hq_54.trans (zT_I _).1) ?_
        have hz3 := (zT_I (zN (zN (zN (sa 5))))).2
        refine lv_iconst (v := 4) hx hb dX0_buys_57 rfl ?_
        refine lv_irem hx hb dX0_buys_58 (by decide) ?_
        refine fx_ti (pk_rem (a := zT (zN (zN (zN (sa 5))))) (d := 4) (by omega) (by omega) (by omega)) ?_
        refine fx_ti (show nI ((zT (zN (zN (zN (sa 5))))) % 4) = nI (byK (sa 5)) from rfl) ?_
        have hbk := byK_lt (sa 5)
        refine lv_istore_n (lv' := [(2, .int (nI (byK (sa 5)))), (1, .int (nI (byT (sa 5)))), (0, .ref (ax 19))]) hx hb dX0_buys_59 rfl hl (by decide) rfl (fun ls hl => ?_)
        refine lv_aload_n hx hb dX0_buys_60 rfl (lv_at hl 2 rfl) ?_
        refine fx_ci (va_runV (As := []) (rest := []) X (xX0_isThere l E ax im bn bm fm ff fl tk cs gs (zN (zN (zN (sa 5)))) tp wg (upd bv (byT (sa 5)) (nI (byN (sa 5)))) st0 _) (cwV 0 X.2.2.2.2 (lw_V q841 q843 qs20 q69 q844) rfl rfl rfl ⟨rfl, hdX0_isThere⟩ ⟨Nat.le_of_ble_eq_true rfl, Nat.le_of_ble_eq_true rfl⟩) (fx_preV (fx_pre hE hP hD hS hR [] rfl rfl (fx_rcr 0 rfl (fx_rcm 0 rfl (by decide) (fx_rcm 4 rfl (by decide) (fx_rcm 1 rfl (by decide) fx_rc0))))) (va_recv hE.1 (hR.at hS) (ci := 0) (q0 := 0) rfl rfl)) rfl rfl hl.1 rfl (lv_room (Nat.le_of_ble_eq_true rfl)) dX0_buys_61 ⟨Nat.le_refl _, Nat.le_refl _⟩) hP hD hS hA [] rfl rfl (fun r_61 u H locs hq_61 hP hD hS => ?_)
        replace hP : va_P E.1 clA [(ax 35, .inr (1, [.ref (ax 20), .ref (ax 21), .ref (ax 22), .int tk, .int cs, .int gs, .int (zN (zN (zN (sa 5)))), .int tp, .int wg, .ref (ax 29), .ref (ax 30), .ref (ax 31), .ref (ax 32)])), (ax 22, .inl (E.2 0, 8, .inl st0)), (ax 1, .inl (E.2 0, 3, .inl nmd)), (ax 0, .inl (E.2 0, 60, .inl pl)), (ax 9, .inl (E.2 1, 8, .inl (upd bv (byT (sa 5)) (nI (byN (sa 5))))))] _ := hP
        replace hD : va_D A [(ax 35, .inr (1, [.ref (ax 20), .ref (ax 21), .ref (ax 22), .int tk, .int cs, .int gs, .int (zN (zN (zN (sa 5)))), .int tp, .int wg, .ref (ax 29), .ref (ax 30), .ref (ax 31), .ref (ax 32)])), (ax 22, .inl (E.2 0, 8, .inl st0)), (ax 1, .inl (E.2 0, 3, .inl nmd)), (ax 0, .inl (E.2 0, 60, .inl pl)), (ax 9, .inl (E.2 1, 8, .inl (upd bv (byT (sa 5)) (nI (byN (sa 5))))))] := hD
        replace hq_61 : r_61 = fx_b (allB (fun i_ => decide ((upd bv (byT (sa 5)) (nI (byN (sa 5)))) i_ ≤ st0 i_)) 8 = true) := hq_61
        rcases fx_bc hq_61 with ⟨hb_61, hr_61⟩ | ⟨hb_61, hr_61⟩
        · -- True
          subst hr_61
          have hS2 : buyS sa = true := by rw [← buyS_of hst hbr]; exact hb_61
          refine lv_istore_n (lv' := [(3, .int 1), (2, .int (nI (byK (sa 5)))), (1, .int (nI (byT (sa 5)))), (0, .ref (ax 19))]) hx hb dX0_buys_64 rfl hl (by decide) rfl (fun ls hl => ?_)
          refine lv_iload_n hx hb dX0_buys_65 rfl (lv_at hl 0 rfl) ?_
          refine lv_if_eq (tgt := 76) hx hb dX0_buys_66 (by decide) (fun c => absurd c (by decide)) (fun _ => ?_)
          refine lv_aload_n hx hb dX0_buys_69 rfl (lv_at hl 3 rfl) ?_
          refine lv_iload_n hx hb dX0_buys_70 rfl (lv_at hl 1 rfl) ?_
          refine fx_ci (va_runV (As := [.int (nI (byK (sa 5)))]) (rest := []) X (xX0_goes l E ax im bn bm fm ff fl tk cs gs (zN (zN (zN (sa 5)))) tp wg nmd pl (upd sa 5 (byZ (sa 5))) tl pr co st0 (upd bv (byT (sa 5)) (nI (byN (sa 5)))) (byR (sa 5)) tx T PL (byK (sa 5)) hbk (Inv_z hI) (TLS_c (fun j h1 h2 => upd_n _ _ (by omega)) hTL) (by first | assumption | omega) (by first | assumption | omega) (rl_n hpr (by omega)) (rl_n hco (by omega)) (rl_n hst (by omega)) (HN_z hN) (fun t ht => ⟨hbr t ht, byR_le _ t ht⟩) _) (cwV 1 X.2.2.2.2 (lw_V q845 q847 qs21 q69 q848) rfl rfl rfl ⟨rfl, hdX0_goes⟩ ⟨Nat.le_of_ble_eq_true rfl, Nat.le_of_ble_eq_true rfl⟩) (fx_preV (fx_pre hE hP hD hS hR [0, 1, 2, 3] rfl rfl (fx_rcr 0 rfl (fx_rcr 1 rfl (fx_rcr 2 rfl (fx_rcr 3 rfl (fx_rcr 4 rfl (fx_rcr 5 rfl (fx_rcr 6 rfl (fx_rcr 7 rfl (fx_rcr 8 rfl (fx_rcr 9 rfl (fx_rcm 4 rfl (by decide) (fx_rct (fun q hq => List.mem_append_right _ hq)))))))))))))) (va_recv hE.1 (hR.at hS) (ci := 0) (q0 := 0) rfl rfl)) rfl rfl hl.1 rfl (lv_room (Nat.le_of_ble_eq_true rfl)) dX0_buys_71 ⟨Nat.le_refl _, Nat.le_refl _⟩) hP hD hS hA [0, 1, 2, 3] rfl rfl (fun r_71 u H locs hq_71 hP hD hS => ?_)
          obtain ⟨tk2_71, cs2_71, gs2_71, st2_71, nm2_71, pl2_71⟩ := u
          replace hP : va_P E.1 clA [(ax 35, .inr (1, [.ref (ax 20), .ref (ax 21), .ref (ax 22), .int tk2_71, .int cs2_71, .int gs2_71, .int (zN (zN (zN (sa 5)))), .int tp, .int wg, .ref (ax 29), .ref (ax 30), .ref (ax 31), .ref (ax 32)])), (ax 22, .inl (E.2 0, 8, .inl st2_71)), (ax 1, .inl (E.2 0, 3, .inl nm2_71)), (ax 0, .inl (E.2 0, 60, .inl pl2_71)), (ax 9, .inl (E.2 1, 8, .inl (upd bv (byT (sa 5)) (nI (byN (sa 5))))))] _ := hP
          replace hD : va_D A [(ax 35, .inr (1, [.ref (ax 20), .ref (ax 21), .ref (ax 22), .int tk2_71, .int cs2_71, .int gs2_71, .int (zN (zN (zN (sa 5)))), .int tp, .int wg, .ref (ax 29), .ref (ax 30), .ref (ax 31), .ref (ax 32)])), (ax 22, .inl (E.2 0, 8, .inl st2_71)), (ax 1, .inl (E.2 0, 3, .inl nm2_71)), (ax 0, .inl (E.2 0, 60, .inl pl2_71)), (ax 9, .inl (E.2 1, 8, .inl (upd bv (byT (sa 5)) (nI (byN (sa 5))))))] := hD
          replace hq_71 : r_71 = paysF (upd sa 5 (byZ (sa 5))) T (byR (sa 5)) (byK (sa 5)) ∧ HN (goesA (upd sa 5 (byZ (sa 5))) T (upd bv (byT (sa 5)) (nI (byN (sa 5)))) (byR (sa 5)) (byK (sa 5))) tk2_71 cs2_71 gs2_71 (zN (zN (zN (sa 5)))) tp wg ∧ rl st2_71 (goesA (upd sa 5 (byZ (sa 5))) T (upd bv (byT (sa 5)) (nI (byN (sa 5)))) (byR (sa 5)) (byK (sa 5))) 24 8 := hq_71
          refine lv_istore (lv' := [(4, .int r_71), (3, .int 1), (2, .int (nI (byK (sa 5)))), (1, .int (nI (byT (sa 5)))), (0, .ref (ax 19))]) hx hb dX0_buys_74 hl (by decide) rfl (fun ls hl => ?_)
          refine lv_iload_n hx hb dX0_buys_76 rfl (lv_at hl 1 rfl) ?_
          exact hret 1 (tk2_71, cs2_71, gs2_71, (zN (zN (zN (sa 5)))), st2_71, nm2_71, pl2_71, (upd bv (byT (sa 5)) (nI (byN (sa 5))))) (⟨fx_bt hS2, by rw [← buyA_t hS2 hbr]; exact hq_71.2.1, by rw [← buyA_t hS2 hbr]; exact hq_71.2.2⟩) (rfl) hP hD hS (Nat.le_refl _) (Nat.le_refl _) dX0_buys_77
        · -- False
          subst hr_61
          have hS2 : ¬ buyS sa = true := by rw [← buyS_of hst hbr]; exact hb_61
          refine lv_istore_n (lv' := [(3, .int 0), (2, .int (nI (byK (sa 5)))), (1, .int (nI (byT (sa 5)))), (0, .ref (ax 19))]) hx hb dX0_buys_64 rfl hl (by decide) rfl (fun ls hl => ?_)
          refine lv_iload_n hx hb dX0_buys_65 rfl (lv_at hl 0 rfl) ?_
          refine lv_if_eq (tgt := 76) hx hb dX0_buys_66 (by decide) (fun _ => ?_) (fun c => (c (by decide)).elim)
          refine lv_iload_n hx hb dX0_buys_76 rfl (lv_at hl 0 rfl) ?_
          exact hret 0 (tk, cs, gs, (zN (zN (zN (sa 5)))), st0, nmd, pl, (upd bv (byT (sa 5)) (nI (byN (sa 5))))) (⟨fx_bf hS2, by rw [← buyA_f hS2]; exact HN_z hN, by rw [← buyA_f hS2]; exact rl_n hst (by omega)⟩) (rfl) hP hD hS (Nat.le_refl _) (Nat.le_refl _) dX0_buys_77
      · -- fall 8
        have n_5 := fx_le0 (a := 8) (b := t) c_5 (by omega) (by omega)
        refine lv_aload_n hx hb dX0_buys_8 rfl (lv_at hl 1 rfl) ?_
        refine fx_get X hE (hR.at hS) 0 rfl rfl 9 rfl q244 rfl rfl dX0_buys_9 ?_
        refine lv_iload_n hx hb dX0_buys_12 rfl (lv_at hl 0 rfl) ?_
        refine lv_iconst (v := 0) hx hb dX0_buys_13 rfl ?_
        refine fx_bast (ws' := [(ax 35, .inr (1, [.ref (ax 20), .ref (ax 21), .ref (ax 22), .int tk, .int cs, .int gs, .int (sa 5), .int tp, .int wg, .ref (ax 29), .ref (ax 30), .ref (ax 31), .ref (ax 32)])), (ax 22, .inl (E.2 0, 8, .inl st0)), (ax 1, .inl (E.2 0, 3, .inl nmd)), (ax 0, .inl (E.2 0, 60, .inl pl)), (ax 9, .inl (E.2 1, 8, .inl (upd bv t 0)))]) X hE hP hD hS 4 rfl t rfl (by omega) rfl (by decide) rfl dX0_buys_14 (fun H locs hP hD hS => ?_)
        refine lv_iinc (v := nI (t + 1)) (lv' := [(1, .int (nI (t + 1))), (0, .ref (ax 19))]) hx hb dX0_buys_15 hl (k := 0) rfl (fx_inc _) (by decide) rfl (fun ls hl => ?_)
        refine lv_goto (tgt := 2) hx hb dX0_buys_18 (by decide) ?_
        exact ih_2 (t + 1) (upd bv t 0) (by omega) (by omega) (ext_s (f := fun _ => 0) hbv rfl) _ _ hP hD hS ls (lv_sub hl [0, 1] rfl)
  exact loop_2 ((8 - 0) + 1) 0 bk (Nat.lt_succ_self _) (by omega) (fun i hi => absurd hi (Nat.not_lt_zero _)) _ _ hP hD hS ls (lv_sub hl [0, 1] rfl)
abbrev rxX0_draws : Room := { frames := 8, cells := 0, slots := 0, locals := 186 }
set_option maxHeartbeats 400000 in
set_option maxRecDepth 100000 in
theorem xX0_draws (l : Launch) (E : fx_En) (ax : Nat → Nat) (im : Int32) (bn : Int32) (bm : Int32) (fm : Int32) (ff : Int32) (fl : Int32) (tk : Int32) (cs : Int32) (gs : Int32) (zz : Int32) (tp : Int32) (wg : Int32) (er : Nat → Int32) (nmd : Nat → Int32) (pl : Nat → Int32) (sa : Nat → Int32) (tl : Nat → Nat) (pr : Nat → Int32) (co : Nat → Int32) (st0 : Nat → Int32) (bk : Nat → Int32) (tx : Nat → Option Nat) (T : Tx) (PL : va_W) (n_ : Int32) (hI : Inv sa) (hTL : TLS PL sa tl) (hT : TXs E PL (tx 0) T) (hTo : TOk T) (hpr : rl pr sa 8 8) (hco : rl co sa 16 8) (hst : rl st0 sa 24 8) (hN : HN sa tk cs gs zz tp wg) : fx_Mi l yX0_draws cX0_draws 4 .int rxX0_draws E [.ref (ax 19), .int n_] [(ax 35, .inr (1, [.ref (ax 20), .ref (ax 21), .ref (ax 22), .int tk, .int cs, .int gs, .int zz, .int tp, .int wg, .ref (ax 29), .ref (ax 30), .ref (ax 31), .ref (ax 32)])), (ax 22, .inl (E.2 0, 8, .inl st0)), (ax 1, .inl (E.2 0, 3, .inl nmd)), (ax 0, .inl (E.2 0, 60, .inl pl)), (ax 9, .inl (E.2 1, 8, .inl bk)), (ax 5, .inl (E.2 0, 7, .inl er))] ([(ax 19, .inr (0, [.ref (ax 0), .ref (ax 1), .ref (ax 35), .ref (ax 55), .ref (ax 4), .ref (ax 5), .ref (ax 6), .ref (ax 7), .int im, .ref (ax 9), .ref (ax 10), .ref (ax 11), .ref (ax 12), .ref (ax 13), .int bn, .int bm, .int fm, .int ff, .int fl])), (ax 29, .inl (E.2 3, 4, .inr (.inr (.inr (.inr (fun i_ => some (ax (36 + i_)))))))), (ax 36, .inr (2, [.ref (tl 0)])), (ax 37, .inr (2, [.ref (tl 1)])), (ax 38, .inr (2, [.ref (tl 2)])), (ax 39, .inr (2, [.ref (tl 3)])), (ax 7, .inr (5, [.ref (ax 19)])), (ax 30, .inl (E.2 4, 2, .inr (.inr (.inr (.inr tx))))), (ax 20, .inl (E.2 0, 8, .inl pr)), (ax 21, .inl (E.2 0, 8, .inl co))] ++ PL) (S := Int32 × Int32 × Int32 × Int32 × (Nat → Int32) × (Nat → Int32) × (Nat → Int32) × (Nat → Int32) × (Nat → Int32)) (fun (u : Int32 × Int32 × Int32 × Int32 × (Nat → Int32) × (Nat → Int32) × (Nat → Int32) × (Nat → Int32) × (Nat → Int32)) => [(ax 35, .inr (1, [.ref (ax 20), .ref (ax 21), .ref (ax 22), .int u.1, .int u.2.1, .int u.2.2.1, .int u.2.2.2.1, .int tp, .int wg, .ref (ax 29), .ref (ax 30), .ref (ax 31), .ref (ax 32)])), (ax 22, .inl (E.2 0, 8, .inl u.2.2.2.2.1)), (ax 1, .inl (E.2 0, 3, .inl u.2.2.2.2.2.1)), (ax 0, .inl (E.2 0, 60, .inl u.2.2.2.2.2.2.1)), (ax 9, .inl (E.2 1, 8, .inl u.2.2.2.2.2.2.2.1)), (ax 5, .inl (E.2 0, 7, .inl u.2.2.2.2.2.2.2.2))]) (fun (r : Int32) (u : Int32 × Int32 × Int32 × Int32 × (Nat → Int32) × (Nat → Int32) × (Nat → Int32) × (Nat → Int32) × (Nat → Int32)) => r = (draws_ sa er T n_).1 ∧ u.2.2.2.2.2.2.2.2 = (draws_ sa er T n_).2.2 ∧ HN (draws_ sa er T n_).2.1 u.1 u.2.1 u.2.2.1 u.2.2.2.1 tp wg ∧ rl u.2.2.2.2.1 (draws_ sa er T n_).2.1 24 8) := by
  refine fx_iW rfl rfl ?_
  intro p e s m args below meth c A ls Q X hE hP hD hR hA hl hret
  have hx := X.1
  have hb := X.2.1
  have hS : va_S A s.heap s.heap [] := va_S.rf
  replace hP : va_P E.1 clA [(ax 35, .inr (1, [.ref (ax 20), .ref (ax 21), .ref (ax 22), .int tk, .int cs, .int gs, .int zz, .int tp, .int wg, .ref (ax 29), .ref (ax 30), .ref (ax 31), .ref (ax 32)])), (ax 22, .inl (E.2 0, 8, .inl st0)), (ax 1, .inl (E.2 0, 3, .inl nmd)), (ax 0, .inl (E.2 0, 60, .inl pl)), (ax 9, .inl (E.2 1, 8, .inl bk)), (ax 5, .inl (E.2 0, 7, .inl er))] _ := hP
  replace hD : va_D A [(ax 35, .inr (1, [.ref (ax 20), .ref (ax 21), .ref (ax 22), .int tk, .int cs, .int gs, .int zz, .int tp, .int wg, .ref (ax 29), .ref (ax 30), .ref (ax 31), .ref (ax 32)])), (ax 22, .inl (E.2 0, 8, .inl st0)), (ax 1, .inl (E.2 0, 3, .inl nmd)), (ax 0, .inl (E.2 0, 60, .inl pl)), (ax 9, .inl (E.2 1, 8, .inl bk)), (ax 5, .inl (E.2 0, 7, .inl er))] := hD
  replace hl : lv_has ls 4 [(0, .ref (ax 19)), (1, .int n_)] := hl
  refine lv_iload_n hx hb dX0_draws_0 rfl (lv_at hl 1 rfl) ?_
  refine lv_iconst (v := 1) hx hb dX0_draws_1 rfl ?_
  refine lv_bipush (v := 60) hx hb dX0_draws_2 rfl ?_
  refine fx_ci (va_runS (As := [.int n_, .int 1, .int 60]) (rest := []) X (xX0_isIn l E n_ 1 60 _) (va_cwS 3 X.2.2.2.2 (lw_S q300 q301 q69 q302) rfl rfl rfl hdX0_isIn ⟨Nat.le_of_ble_eq_true rfl, Nat.le_of_ble_eq_true rfl⟩) (fx_pre hE hP hD hS hR [] rfl rfl fx_rc0) rfl rfl hl.1 rfl (lv_room (Nat.le_of_ble_eq_true rfl)) dX0_draws_4 ⟨Nat.le_refl _, Nat.le_refl _⟩) hP hD hS hA [] rfl rfl (fun r_4 u H locs hq_4 hP hD hS => ?_)
  replace hP : va_P E.1 clA [(ax 35, .inr (1, [.ref (ax 20), .ref (ax 21), .ref (ax 22), .int tk, .int cs, .int gs, .int zz, .int tp, .int wg, .ref (ax 29), .ref (ax 30), .ref (ax 31), .ref (ax 32)])), (ax 22, .inl (E.2 0, 8, .inl st0)), (ax 1, .inl (E.2 0, 3, .inl nmd)), (ax 0, .inl (E.2 0, 60, .inl pl)), (ax 9, .inl (E.2 1, 8, .inl bk)), (ax 5, .inl (E.2 0, 7, .inl er))] _ := hP
  replace hD : va_D A [(ax 35, .inr (1, [.ref (ax 20), .ref (ax 21), .ref (ax 22), .int tk, .int cs, .int gs, .int zz, .int tp, .int wg, .ref (ax 29), .ref (ax 30), .ref (ax 31), .ref (ax 32)])), (ax 22, .inl (E.2 0, 8, .inl st0)), (ax 1, .inl (E.2 0, 3, .inl nmd)), (ax 0, .inl (E.2 0, 60, .inl pl)), (ax 9, .inl (E.2 1, 8, .inl bk)), (ax 5, .inl (E.2 0, 7, .inl er))] := hD
  replace hq_4 : r_4 = fx_b (inB n_ 1 60 = true) := hq_4
  rcases fx_bc hq_4 with ⟨hb_4, hr_4⟩ | ⟨hb_4, hr_4⟩
  · -- True
    subst hr_4
    refine lv_if_ne (tgt := 16) hx hb dX0_draws_7 (by decide) (fun _ => ?_) (fun c => absurd c (by decide))
    have gn := inB_nn1 (n := 60) hb_4 (by decide) (by omega)
    have gn2 := gn.2
    refine lv_iconst (v := 0) hx hb dX0_draws_16 rfl ?_
    refine lv_istore_n (lv' := [(2, .int 0), (0, .ref (ax 19)), (1, .int n_)]) hx hb dX0_draws_17 rfl hl (by decide) rfl (fun ls hl => ?_)
    refine lv_iconst (v := 0) hx hb dX0_draws_18 rfl ?_
    refine lv_istore_n (lv' := [(3, .int 0), (2, .int 0), (0, .ref (ax 19)), (1, .int n_)]) hx hb dX0_draws_19 rfl hl (by decide) rfl (fun ls hl => ?_)
    have loop_20 : ∀ (n_20 : Nat) (i : Nat) (mv : Nat) (tkv : Int32) (csv : Int32) (gsv : Int32) (zzv : Int32) (stv : Nat → Int32) (nmv : Nat → Int32) (plv : Nat → Int32) (bkv : Nat → Int32), (nn n_ - i < n_20) → (i ≤ nn n_) → (mv = (drawN T i sa).2) → (HN (drawN T i sa).1 tkv csv gsv zzv tp wg) → (rl stv (drawN T i sa).1 24 8) → ∀ (H : Heap) (locs : List Loc), va_P E.1 clA [(ax 35, .inr (1, [.ref (ax 20), .ref (ax 21), .ref (ax 22), .int tkv, .int csv, .int gsv, .int zzv, .int tp, .int wg, .ref (ax 29), .ref (ax 30), .ref (ax 31), .ref (ax 32)])), (ax 22, .inl (E.2 0, 8, .inl stv)), (ax 1, .inl (E.2 0, 3, .inl nmv)), (ax 0, .inl (E.2 0, 60, .inl plv)), (ax 9, .inl (E.2 1, 8, .inl bkv)), (ax 5, .inl (E.2 0, 7, .inl er))] H → va_D A [(ax 35, .inr (1, [.ref (ax 20), .ref (ax 21), .ref (ax 22), .int tkv, .int csv, .int gsv, .int zzv, .int tp, .int wg, .ref (ax 29), .ref (ax 30), .ref (ax 31), .ref (ax 32)])), (ax 22, .inl (E.2 0, 8, .inl stv)), (ax 1, .inl (E.2 0, 3, .inl nmv)), (ax 0, .inl (E.2 0, 60, .inl plv)), (ax 9, .inl (E.2 1, 8, .inl bkv)), (ax 5, .inl (E.2 0, 7, .inl er))] → va_S A s.heap H locs → ∀ (ls : Array Slot), lv_has ls 4 [(3, .int (nI i)), (2, .int (nI mv)), (0, .ref (ax 19)), (1, .int n_)] → W p l e rxX0_draws s m args below meth c H locs 0 0 Q (F0 m 20 ls []) := by
      intro n_20
      induction n_20 with
      | zero => intro i mv tkv csv gsv zzv stv nmv plv bkv hm_20; exact absurd hm_20 (Nat.not_lt_zero _)
      | succ n_20 ih_20 =>
        intro i mv tkv csv gsv zzv stv nmv plv bkv hm_20 hi hmv hN2 hst2 H locs hP hD hS ls hl
        refine lv_iload_n hx hb dX0_draws_20 rfl (lv_at hl 0 rfl) ?_
        refine lv_iload_n hx hb dX0_draws_21 rfl (lv_at hl 3 rfl) ?_
        refine fx_ti (show n_ = nI (nn n_) from gn.1) ?_
        refine lv_icmp_ge (tgt := 46) hx hb dX0_draws_22 (by decide) (fun c_22 => ?_) (fun c_22 => ?_)
        · -- jump 46
          have n_22 := fx_le1 (a := (nn n_)) (b := i) c_22 (by omega) (by omega)
          obtain rfl : i = nn n_ := by omega
          have hDR : draws_ sa er T n_ = (nI (drawN T (nn n_) sa).2, (drawN T (nn n_) sa).1, er) := by rw [draws_, if_pos hb_4]
          refine lv_iload_n hx hb dX0_draws_46 rfl (lv_at hl 1 rfl) ?_
          exact hret (nI mv) (tkv, csv, gsv, zzv, stv, nmv, plv, bkv, er) (by rw [hDR]; exact ⟨congrArg nI hmv, rfl, hN2, hst2⟩) (rfl) hP hD hS (Nat.le_refl _) (Nat.le_refl _) dX0_draws_47
        · -- fall 25
          have n_22 := fx_le0 (a := (nn n_)) (b := i) c_22 (by omega) (by omega)
          refine lv_iload_n hx hb dX0_draws_25 rfl (lv_at hl 1 rfl) ?_
          refine lv_aload_n hx hb dX0_draws_26 rfl (lv_at hl 2 rfl) ?_
          refine fx_ci (va_runV (As := []) (rest := [.int (nI mv)]) X (xX0_buys l E ax im bn bm fm ff fl tkv csv gsv zzv tp wg nmv plv ((drawN T i sa).1) tl pr co stv bkv tx T PL (Inv_draw hI i) (TLS_c (fun j h1 h2 => drawN_at (by omega) (by omega) (by omega) i) hTL) (by first | assumption | omega) (by first | assumption | omega) (rl_c (fun j h1 h2 => drawN_at (by omega) (by omega) (by omega) i) hpr) (rl_c (fun j h1 h2 => drawN_at (by omega) (by omega) (by omega) i) hco) hst2 hN2 _) (cwV 0 X.2.2.2.2 (lw_V q854 q856 qs22 q69 q857) rfl rfl rfl ⟨rfl, hdX0_buys⟩ ⟨Nat.le_of_ble_eq_true rfl, Nat.le_of_ble_eq_true rfl⟩) (fx_preV (fx_pre hE hP hD hS hR [0, 1, 2, 3, 4] rfl rfl (fx_rcr 0 rfl (fx_rcr 1 rfl (fx_rcr 2 rfl (fx_rcr 3 rfl (fx_rcr 4 rfl (fx_rcr 5 rfl (fx_rcr 6 rfl (fx_rcr 7 rfl (fx_rcr 8 rfl (fx_rcr 9 rfl (fx_rct (fun q hq => List.mem_append_right _ hq))))))))))))) (va_recv hE.1 (hR.at hS) (ci := 0) (q0 := 0) rfl rfl)) rfl rfl hl.1 rfl (lv_room (Nat.le_of_ble_eq_true rfl)) dX0_draws_27 ⟨Nat.le_refl _, Nat.le_refl _⟩) hP hD hS hA [0, 1, 2, 3, 4] rfl rfl (fun r_27 u H locs hq_27 hP hD hS => ?_)
          obtain ⟨tk2_27, cs2_27, gs2_27, zz2_27, st2_27, nm2_27, pl2_27, bk2_27⟩ := u
          replace hP : va_P E.1 clA [(ax 35, .inr (1, [.ref (ax 20), .ref (ax 21), .ref (ax 22), .int tk2_27, .int cs2_27, .int gs2_27, .int zz2_27, .int tp, .int wg, .ref (ax 29), .ref (ax 30), .ref (ax 31), .ref (ax 32)])), (ax 22, .inl (E.2 0, 8, .inl st2_27)), (ax 1, .inl (E.2 0, 3, .inl nm2_27)), (ax 0, .inl (E.2 0, 60, .inl pl2_27)), (ax 9, .inl (E.2 1, 8, .inl bk2_27)), (ax 5, .inl (E.2 0, 7, .inl er))] _ := hP
          replace hD : va_D A [(ax 35, .inr (1, [.ref (ax 20), .ref (ax 21), .ref (ax 22), .int tk2_27, .int cs2_27, .int gs2_27, .int zz2_27, .int tp, .int wg, .ref (ax 29), .ref (ax 30), .ref (ax 31), .ref (ax 32)])), (ax 22, .inl (E.2 0, 8, .inl st2_27)), (ax 1, .inl (E.2 0, 3, .inl nm2_27)), (ax 0, .inl (E.2 0, 60, .inl pl2_27)), (ax 9, .inl (E.2 1, 8, .inl bk2_27)), (ax 5, .inl (E.2 0, 7, .inl er))] := hD
          replace hq_27 : r_27 = fx_b (buyS ((drawN T i sa).1) = true) ∧ HN (buyA ((drawN T i sa).1) T) tk2_27 cs2_27 gs2_27 zz2_27 tp wg ∧ rl st2_27 (buyA ((drawN T i sa).1) T) 24 8 := hq_27
          rcases fx_bc hq_27.1 with ⟨hb_27, hr_27⟩ | ⟨hb_27, hr_27⟩
          · -- True
            subst hr_27
            refine lv_if_eq (tgt := 37) hx hb dX0_draws_30 (by decide) (fun c => absurd c (by decide)) (fun _ => ?_)
            refine lv_iconst (v := 1) hx hb dX0_draws_33 rfl ?_
            refine lv_goto (tgt := 38) hx hb dX0_draws_34 (by decide) ?_
            refine lv_iadd hx hb dX0_draws_38 ?_
            refine fx_ti (nI_add mv 1) ?_
            refine lv_istore_n (lv' := [(2, .int (nI (mv + 1))), (3, .int (nI i)), (0, .ref (ax 19)), (1, .int n_)]) hx hb dX0_draws_39 rfl hl (by decide) rfl (fun ls hl => ?_)
            refine lv_iinc (v := nI (i + 1)) (lv' := [(3, .int (nI (i + 1))), (2, .int (nI (mv + 1))), (0, .ref (ax 19)), (1, .int n_)]) hx hb dX0_draws_40 hl (k := 1) rfl (fx_inc _) (by decide) rfl (fun ls hl => ?_)
            refine lv_goto (tgt := 20) hx hb dX0_draws_43 (by decide) ?_
            exact ih_20 (i + 1) (mv + 1) tk2_27 cs2_27 gs2_27 zz2_27 st2_27 nm2_27 pl2_27 bk2_27 (by omega) (by omega) (by rw [hmv, drawN, if_pos hb_27]) hq_27.2.1 hq_27.2.2 _ _ hP hD hS ls (lv_sub hl [0, 1, 2, 3] rfl)
          · -- False
            subst hr_27
            refine lv_if_eq (tgt := 37) hx hb dX0_draws_30 (by decide) (fun _ => ?_) (fun c => (c (by decide)).elim)
            refine lv_iconst (v := 0) hx hb dX0_draws_37 rfl ?_
            refine lv_iadd hx hb dX0_draws_38 ?_
            refine fx_ti (nI_add mv 0) ?_
            refine lv_istore_n (lv' := [(2, .int (nI (mv + 0))), (3, .int (nI i)), (0, .ref (ax 19)), (1, .int n_)]) hx hb dX0_draws_39 rfl hl (by decide) rfl (fun ls hl => ?_)
            refine lv_iinc (v := nI (i + 1)) (lv' := [(3, .int (nI (i + 1))), (2, .int (nI (mv + 0))), (0, .ref (ax 19)), (1, .int n_)]) hx hb dX0_draws_40 hl (k := 1) rfl (fx_inc _) (by decide) rfl (fun ls hl => ?_)
            refine lv_goto (tgt := 20) hx hb dX0_draws_43 (by decide) ?_
            exact ih_20 (i + 1) (mv + 0) tk2_27 cs2_27 gs2_27 zz2_27 st2_27 nm2_27 pl2_27 bk2_27 (by omega) (by omega) (by rw [hmv, drawN, if_neg hb_27]) hq_27.2.1 hq_27.2.2 _ _ hP hD hS ls (lv_sub hl [0, 1, 2, 3] rfl)
    exact loop_20 ((nn n_ - 0) + 1) 0 0 tk cs gs zz st0 nmd pl bk (Nat.lt_succ_self _) (Nat.zero_le _) rfl hN hst _ _ hP hD hS ls (lv_sub hl [0, 1, 2, 3] rfl)
  · -- False
    subst hr_4
    refine lv_if_ne (tgt := 16) hx hb dX0_draws_7 (by decide) (fun c => (c (by decide)).elim) (fun _ => ?_)
    refine lv_aload_n hx hb dX0_draws_10 rfl (lv_at hl 0 rfl) ?_
    refine lv_iconst (v := 1) hx hb dX0_draws_11 rfl ?_
    refine fx_ci (va_runV (As := [.int 1]) (rest := []) X (xX0_finds l E ax im bn bm fm ff fl er 1 (by decide) _) (cwV 1 X.2.2.2.2 (lw_V q303 q305 qs0 q69 q306) rfl rfl rfl ⟨rfl, hdX0_finds⟩ ⟨Nat.le_of_ble_eq_true rfl, Nat.le_of_ble_eq_true rfl⟩) (fx_preV (fx_pre hE hP hD hS hR [5] rfl rfl (fx_rcr 0 rfl fx_rc0)) (va_recv hE.1 (hR.at hS) (ci := 0) (q0 := 0) rfl rfl)) rfl rfl hl.1 rfl (lv_room (Nat.le_of_ble_eq_true rfl)) dX0_draws_12 ⟨Nat.le_refl _, Nat.le_refl _⟩) hP hD hS hA [5] rfl rfl (fun r_12 u H locs hq_12 hP hD hS => ?_)
    replace hP : va_P E.1 clA [(ax 35, .inr (1, [.ref (ax 20), .ref (ax 21), .ref (ax 22), .int tk, .int cs, .int gs, .int zz, .int tp, .int wg, .ref (ax 29), .ref (ax 30), .ref (ax 31), .ref (ax 32)])), (ax 22, .inl (E.2 0, 8, .inl st0)), (ax 1, .inl (E.2 0, 3, .inl nmd)), (ax 0, .inl (E.2 0, 60, .inl pl)), (ax 9, .inl (E.2 1, 8, .inl bk)), (ax 5, .inl (E.2 0, 7, .inl (upd er 1 (er 1 + 1))))] _ := hP
    replace hD : va_D A [(ax 35, .inr (1, [.ref (ax 20), .ref (ax 21), .ref (ax 22), .int tk, .int cs, .int gs, .int zz, .int tp, .int wg, .ref (ax 29), .ref (ax 30), .ref (ax 31), .ref (ax 32)])), (ax 22, .inl (E.2 0, 8, .inl st0)), (ax 1, .inl (E.2 0, 3, .inl nmd)), (ax 0, .inl (E.2 0, 60, .inl pl)), (ax 9, .inl (E.2 1, 8, .inl bk)), (ax 5, .inl (E.2 0, 7, .inl (upd er 1 (er 1 + 1))))] := hD
    replace hq_12 : r_12 = erv 1 := hq_12
    exact hret r_12 (tk, cs, gs, zz, st0, nmd, pl, bk, (upd er 1 (er 1 + 1))) (by have hDR : draws_ sa er T n_ = (erv 1, sa, erI er 1) := (by rw [draws_, if_neg hb_4]); rw [hDR]; exact ⟨hq_12, rfl, hN, hst⟩) (rfl) hP hD hS (Nat.le_refl _) (Nat.le_refl _) dX0_draws_15
