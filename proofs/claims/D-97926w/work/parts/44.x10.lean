set_option maxRecDepth 100000
theorem hdX0_netOf : yX0_netOf.cls ≠ "java/lang/invoke/MethodHandle" ∧ yX0_netOf.cls ≠ "java/lang/invoke/VarHandle" ∧ (parseMethodDescriptor yX0_netOf.desc).map (fun d => d.parameters.length) = some 1 := by decide +kernel
theorem hdX0_isLess : yX0_isLess.cls ≠ "java/lang/invoke/MethodHandle" ∧ yX0_isLess.cls ≠ "java/lang/invoke/VarHandle" ∧ (parseMethodDescriptor yX0_isLess.desc).map (fun d => d.parameters.length) = some 0 := by decide +kernel
abbrev rxX0_netOf : Room := { frames := 6, cells := 0, slots := 0, locals := 139 }
set_option maxHeartbeats 400000 in
set_option maxRecDepth 100000 in
theorem xX0_netOf (l : Launch) (E : fx_En) (ax : Nat → Nat) (im : Int32) (bn : Int32) (bm : Int32) (fm : Int32) (ff : Int32) (fl : Int32) (tk : Int32) (cs : Int32) (gs : Int32) (zz : Int32) (tp : Int32) (wg : Int32) (nmd : Nat → Int32) (pl : Nat → Int32) (sa : Nat → Int32) (tl : Nat → Nat) (pr : Nat → Int32) (co : Nat → Int32) (bk : Nat → Int32) (ek : Nat → Int32) (al : Nat → Int32) (rn : Nat → Nat) (ex : Nat → Nat) (tx : Nat → Option Nat) (T : Tx) (T1 : Tx) (PL : va_W) (k : Nat) (hk : k < 4) (hI : Inv sa) (hTL : TLS PL sa tl) (hT : TXs E PL (tx 0) T) (hTo : TOk T) (hT1 : TXs E PL (tx 1) T1) (hTo1 : TOk T1) (hpr : rl pr sa 8 8) (hco : rl co sa 16 8) (hbk : ∀ i, i < 8 → bk i = nI (rn i) ∧ rn i ≤ 9) (hek : ∀ i, i < 8 → ek i = nI (ex i) ∧ ex i ≤ 9) : fx_Mi l yX0_netOf cX0_netOf 4 .int rxX0_netOf E [.ref (ax 19), .int (nI k)] [(ax 1, .inl (E.2 0, 3, .inl nmd)), (ax 0, .inl (E.2 0, 60, .inl pl)), (ax 13, .inl (E.2 1, 8, .inl al))] ([(ax 19, .inr (0, [.ref (ax 0), .ref (ax 1), .ref (ax 35), .ref (ax 55), .ref (ax 4), .ref (ax 5), .ref (ax 6), .ref (ax 7), .int im, .ref (ax 9), .ref (ax 10), .ref (ax 11), .ref (ax 12), .ref (ax 13), .int bn, .int bm, .int fm, .int ff, .int fl])), (ax 35, .inr (1, [.ref (ax 20), .ref (ax 21), .ref (ax 22), .int tk, .int cs, .int gs, .int zz, .int tp, .int wg, .ref (ax 29), .ref (ax 30), .ref (ax 31), .ref (ax 32)])), (ax 29, .inl (E.2 3, 4, .inr (.inr (.inr (.inr (fun i_ => some (ax (36 + i_)))))))), (ax 36, .inr (2, [.ref (tl 0)])), (ax 37, .inr (2, [.ref (tl 1)])), (ax 38, .inr (2, [.ref (tl 2)])), (ax 39, .inr (2, [.ref (tl 3)])), (ax 7, .inr (5, [.ref (ax 19)])), (ax 30, .inl (E.2 4, 2, .inr (.inr (.inr (.inr tx))))), (ax 20, .inl (E.2 0, 8, .inl pr)), (ax 21, .inl (E.2 0, 8, .inl co)), (ax 9, .inl (E.2 1, 8, .inl bk)), (ax 11, .inl (E.2 1, 8, .inl ek))] ++ PL) (S := (Nat → Int32) × (Nat → Int32) × (Nat → Int32)) (fun (u : (Nat → Int32) × (Nat → Int32) × (Nat → Int32)) => [(ax 1, .inl (E.2 0, 3, .inl u.1)), (ax 0, .inl (E.2 0, 60, .inl u.2.1)), (ax 13, .inl (E.2 1, 8, .inl u.2.2))]) (fun (r : Int32) (u : (Nat → Int32) × (Nat → Int32) × (Nat → Int32)) => r = netF sa T k rn (vlF sa T1) ex) := by
  refine fx_iW rfl rfl ?_
  intro p e s m args below meth c A ls Q X hE hP hD hR hA hl hret
  have hx := X.1
  have hb := X.2.1
  have hS : va_S A s.heap s.heap [] := va_S.rf
  replace hP : va_P E.1 clA [(ax 1, .inl (E.2 0, 3, .inl nmd)), (ax 0, .inl (E.2 0, 60, .inl pl)), (ax 13, .inl (E.2 1, 8, .inl al))] _ := hP
  replace hD : va_D A [(ax 1, .inl (E.2 0, 3, .inl nmd)), (ax 0, .inl (E.2 0, 60, .inl pl)), (ax 13, .inl (E.2 1, 8, .inl al))] := hD
  replace hl : lv_has ls 4 [(0, .ref (ax 19)), (1, .int (nI k))] := hl
  refine lv_iconst (v := 0) hx hb dX0_netOf_0 rfl ?_
  refine lv_istore_n (lv' := [(2, .int 0), (0, .ref (ax 19)), (1, .int (nI k))]) hx hb dX0_netOf_1 rfl hl (by decide) rfl (fun ls hl => ?_)
  refine lv_iconst (v := 0) hx hb dX0_netOf_2 rfl ?_
  refine lv_istore_n (lv' := [(3, .int 0), (2, .int 0), (0, .ref (ax 19)), (1, .int (nI k))]) hx hb dX0_netOf_3 rfl hl (by decide) rfl (fun ls hl => ?_)
  have loop_4 : ∀ (n_4 : Nat) (t : Nat) (x2 : Int32) (alv : Nat → Int32) (nmv : Nat → Int32) (plv : Nat → Int32), (8 - t < n_4) → (t ≤ 8) → (x2 = 0 - l_sum (fun i_ => nI (ex i_) * vlF sa T1 i_) t) → (∀ i, i < t → alv i = nI (rn i + ex i)) → ∀ (H : Heap) (locs : List Loc), va_P E.1 clA [(ax 1, .inl (E.2 0, 3, .inl nmv)), (ax 0, .inl (E.2 0, 60, .inl plv)), (ax 13, .inl (E.2 1, 8, .inl alv))] H → va_D A [(ax 1, .inl (E.2 0, 3, .inl nmv)), (ax 0, .inl (E.2 0, 60, .inl plv)), (ax 13, .inl (E.2 1, 8, .inl alv))] → va_S A s.heap H locs → ∀ (ls : Array Slot), lv_has ls 4 [(3, .int (nI t)), (2, .int x2), (0, .ref (ax 19)), (1, .int (nI k))] → W p l e rxX0_netOf s m args below meth c H locs 0 0 Q (F0 m 4 ls []) := by
    intro n_4
    induction n_4 with
    | zero => intro t x2 alv nmv plv hm_4; exact absurd hm_4 (Nat.not_lt_zero _)
    | succ n_4 ih_4 =>
      intro t x2 alv nmv plv hm_4 ht hx2 hal H locs hP hD hS ls hl
      refine lv_iload_n hx hb dX0_netOf_4 rfl (lv_at hl 0 rfl) ?_
      refine lv_bipush (v := 8) hx hb dX0_netOf_5 rfl ?_
      refine lv_icmp_ge (tgt := 64) hx hb dX0_netOf_7 (by decide) (fun c_7 => ?_) (fun c_7 => ?_)
      · -- jump 64
        have n_7 := fx_le1 (a := 8) (b := t) c_7 (by omega) (by omega)
        obtain rfl : t = 8 := by omega
        refine lv_iload_n hx hb dX0_netOf_64 rfl (lv_at hl 1 rfl) ?_
        refine lv_aload_n hx hb dX0_netOf_65 rfl (lv_at hl 2 rfl) ?_
        refine lv_aload_n hx hb dX0_netOf_66 rfl (lv_at hl 2 rfl) ?_
        refine fx_get X hE (hR.at hS) 0 rfl rfl 13 rfl q248 rfl rfl dX0_netOf_67 ?_
        refine lv_iload_n hx hb dX0_netOf_70 rfl (lv_at hl 3 rfl) ?_
        refine fx_ci (va_runV (As := [.ref (ax 13), .int (nI k)]) (rest := [.int x2]) X (xX0_paysOf l E ax im bn bm fm ff fl tk cs gs zz tp wg nmv plv sa tl tx T PL pr (ax 13) alv (fun t => rn t + ex t) k (by first | assumption | omega) (by first | assumption | omega) (by first | assumption | omega) (by first | assumption | omega) (by first | assumption | omega) (fun t ht => ⟨hal t ht, by have := (hbk t ht).2; have := (hek t ht).2; omega⟩) (by first | assumption | omega) _) (cwV 2 X.2.2.2.2 (lw_V q833 q835 qs19 q69 q836) rfl rfl rfl ⟨rfl, hdX0_paysOf⟩ ⟨Nat.le_of_ble_eq_true rfl, Nat.le_of_ble_eq_true rfl⟩) (fx_preV (fx_pre hE hP hD hS hR [0, 1] rfl rfl (fx_rcr 0 rfl (fx_rcr 1 rfl (fx_rcr 2 rfl (fx_rcr 3 rfl (fx_rcr 4 rfl (fx_rcr 5 rfl (fx_rcr 6 rfl (fx_rcr 7 rfl (fx_rcr 8 rfl (fx_rcr 9 rfl (fx_rcm 2 rfl (by decide) (fx_rct (fun q hq => List.mem_append_right _ hq)))))))))))))) (va_recv hE.1 (hR.at hS) (ci := 0) (q0 := 0) rfl rfl)) rfl rfl hl.1 rfl (lv_room (Nat.le_of_ble_eq_true rfl)) dX0_netOf_71 ⟨Nat.le_refl _, Nat.le_refl _⟩) hP hD hS hA [0, 1] rfl rfl (fun r_71 u H locs hq_71 hP hD hS => ?_)
        obtain ⟨nm2_71, pl2_71⟩ := u
        replace hP : va_P E.1 clA [(ax 1, .inl (E.2 0, 3, .inl nm2_71)), (ax 0, .inl (E.2 0, 60, .inl pl2_71)), (ax 13, .inl (E.2 1, 8, .inl alv))] _ := hP
        replace hD : va_D A [(ax 1, .inl (E.2 0, 3, .inl nm2_71)), (ax 0, .inl (E.2 0, 60, .inl pl2_71)), (ax 13, .inl (E.2 1, 8, .inl alv))] := hD
        replace hq_71 : r_71 = paysF sa T (fun t => rn t + ex t) k := hq_71
        refine lv_iadd hx hb dX0_netOf_74 ?_
        exact hret (x2 + r_71) (nm2_71, pl2_71, alv) (by rw [hx2, hq_71, netF]; exact i_0sub _ _) (rfl) hP hD hS (Nat.le_refl _) (Nat.le_refl _) dX0_netOf_75
      · -- fall 10
        have n_7 := fx_le0 (a := 8) (b := t) c_7 (by omega) (by omega)
        have hb9 := hbk t (by omega)
        have he9 := hek t (by omega)
        have hb92 := hb9.2
        have he92 := he9.2
        refine lv_aload_n hx hb dX0_netOf_10 rfl (lv_at hl 2 rfl) ?_
        refine fx_get X hE (hR.at hS) 0 rfl rfl 13 rfl q248 rfl rfl dX0_netOf_11 ?_
        refine lv_iload_n hx hb dX0_netOf_14 rfl (lv_at hl 0 rfl) ?_
        refine lv_aload_n hx hb dX0_netOf_15 rfl (lv_at hl 2 rfl) ?_
        refine fx_get X hE (hR.at hS) 0 rfl rfl 9 rfl q244 rfl rfl dX0_netOf_16 ?_
        refine lv_iload_n hx hb dX0_netOf_19 rfl (lv_at hl 0 rfl) ?_
        refine fx_bald X hE (hR.at hS) 11 rfl t rfl (by omega) rfl dX0_netOf_20 ?_
        refine fx_ti (show (bk t) = nI (rn t) from hb9.1) ?_
        refine lv_aload_n hx hb dX0_netOf_21 rfl (lv_at hl 2 rfl) ?_
        refine fx_get X hE (hR.at hS) 0 rfl rfl 11 rfl q246 rfl rfl dX0_netOf_22 ?_
        refine lv_iload_n hx hb dX0_netOf_25 rfl (lv_at hl 0 rfl) ?_
        refine fx_bald X hE (hR.at hS) 12 rfl t rfl (by omega) rfl dX0_netOf_26 ?_
        refine fx_ti (show (ek t) = nI (ex t) from he9.1) ?_
        refine lv_iadd hx hb dX0_netOf_27 ?_
        refine fx_ti (nI_add (rn t) (ex t)) ?_
        refine lv_i2b (v := (nI (rn t + ex t)).toInt8.toInt32) hx hb dX0_netOf_28 rfl ?_
        refine fx_bast (ws' := [(ax 1, .inl (E.2 0, 3, .inl nmv)), (ax 0, .inl (E.2 0, 60, .inl plv)), (ax 13, .inl (E.2 1, 8, .inl (upd alv t (nI (rn t + ex t)))))]) X hE hP hD hS 2 rfl t rfl (by omega) rfl (by rw [pk_bidem]; exact fit8 rfl (by omega)) rfl dX0_netOf_29 (fun H locs hP hD hS => ?_)
        refine lv_iload_n hx hb dX0_netOf_30 rfl (lv_at hl 1 rfl) ?_
        refine lv_aload_n hx hb dX0_netOf_31 rfl (lv_at hl 2 rfl) ?_
        refine fx_get X hE (hR.at hS) 0 rfl rfl 11 rfl q246 rfl rfl dX0_netOf_32 ?_
        refine lv_iload_n hx hb dX0_netOf_35 rfl (lv_at hl 0 rfl) ?_
        refine fx_bald X hE (hR.at hS) 12 rfl t rfl (by omega) rfl dX0_netOf_36 ?_
        refine fx_ti (show (ek t) = nI (ex t) from he9.1) ?_
        refine lv_if_ne (tgt := 44) hx hb dX0_netOf_37 (by decide) (fun c_37 => ?_) (fun c_37 => ?_)
        · -- jump 44
          have n_37 := fx_eq0 (a := (ex t)) (b := 0) c_37 (by omega) (by omega)
          refine lv_aload_n hx hb dX0_netOf_44 rfl (lv_at hl 2 rfl) ?_
          refine fx_get X hE (hR.at hS) 0 rfl rfl 11 rfl q246 rfl rfl dX0_netOf_45 ?_
          refine lv_iload_n hx hb dX0_netOf_48 rfl (lv_at hl 0 rfl) ?_
          refine fx_bald X hE (hR.at hS) 12 rfl t rfl (by omega) rfl dX0_netOf_49 ?_
          refine fx_ti (show (ek t) = nI (ex t) from he9.1) ?_
          refine lv_aload_n hx hb dX0_netOf_50 rfl (lv_at hl 2 rfl) ?_
          refine lv_iload_n hx hb dX0_netOf_51 rfl (lv_at hl 0 rfl) ?_
          refine fx_ci (va_runV (As := [.int (nI t)]) (rest := [.int (nI (ex t)), .int x2]) X (xX0_valueOf l E ax im bn bm fm ff fl tk cs gs zz tp wg nmv plv pr co t tx T1 PL (by omega) hT1 hTo1 _) (cwV 1 X.2.2.2.2 (lw_V q312 q314 qs1 q69 q315) rfl rfl rfl ⟨rfl, hdX0_valueOf⟩ ⟨Nat.le_of_ble_eq_true rfl, Nat.le_of_ble_eq_true rfl⟩) (fx_preV (fx_pre hE hP hD hS hR [0, 1] rfl rfl (fx_rcr 0 rfl (fx_rcr 1 rfl (fx_rcr 8 rfl (fx_rcr 9 rfl (fx_rcr 10 rfl (fx_rct (fun q hq => List.mem_append_right _ hq)))))))) (va_recv hE.1 (hR.at hS) (ci := 0) (q0 := 0) rfl rfl)) rfl rfl hl.1 rfl (lv_room (Nat.le_of_ble_eq_true rfl)) dX0_netOf_52 ⟨Nat.le_refl _, Nat.le_refl _⟩) hP hD hS hA [0, 1] rfl rfl (fun r_52 u H locs hq_52 hP hD hS => ?_)
          obtain ⟨nm2_52, pl2_52⟩ := u
          replace hP : va_P E.1 clA [(ax 1, .inl (E.2 0, 3, .inl nm2_52)), (ax 0, .inl (E.2 0, 60, .inl pl2_52)), (ax 13, .inl (E.2 1, 8, .inl (upd alv t (nI (rn t + ex t)))))] _ := hP
          replace hD : va_D A [(ax 1, .inl (E.2 0, 3, .inl nm2_52)), (ax 0, .inl (E.2 0, 60, .inl pl2_52)), (ax 13, .inl (E.2 1, 8, .inl (upd alv t (nI (rn t + ex t)))))] := hD
          replace hq_52 : r_52 = valF T1 t (pr t) (co t) := hq_52
          refine fx_ti (show r_52 = (vlF sa T1 t) from hq_52.trans (by rw [hpr t (by omega), hco t (by omega)]; rfl)) ?_
          refine lv_imul hx hb dX0_netOf_55 ?_
          refine lv_isub hx hb dX0_netOf_56 ?_
          refine lv_istore_n (lv' := [(2, .int (x2 - ((nI (ex t)) * (vlF sa T1 t)))), (3, .int (nI t)), (0, .ref (ax 19)), (1, .int (nI k))]) hx hb dX0_netOf_57 rfl hl (by decide) rfl (fun ls hl => ?_)
          refine lv_iinc (v := nI (t + 1)) (lv' := [(3, .int (nI (t + 1))), (2, .int (x2 - ((nI (ex t)) * (vlF sa T1 t)))), (0, .ref (ax 19)), (1, .int (nI k))]) hx hb dX0_netOf_58 hl (k := 1) rfl (fx_inc _) (by decide) rfl (fun ls hl => ?_)
          refine lv_goto (tgt := 4) hx hb dX0_netOf_61 (by decide) ?_
          exact ih_4 (t + 1) (x2 - ((nI (ex t)) * (vlF sa T1 t))) (upd alv t (nI (rn t + ex t))) nm2_52 pl2_52 (by omega) (by omega) (by rw [hx2]; show _ = 0 - (l_sum (fun i_ => nI (ex i_) * vlF sa T1 i_) t + nI (ex t) * vlF sa T1 t); rw [i_subsub]) (ext_s (f := fun i => nI (rn i + ex i)) hal rfl) _ _ hP hD hS ls (lv_sub hl [0, 1, 2, 3] rfl)
        · -- fall 40
          have n_37 := fx_eq1 (a := (ex t)) (b := 0) c_37 (by omega) (by omega)
          refine lv_iconst (v := 0) hx hb dX0_netOf_40 rfl ?_
          refine lv_goto (tgt := 56) hx hb dX0_netOf_41 (by decide) ?_
          refine lv_isub hx hb dX0_netOf_56 ?_
          refine lv_istore_n (lv' := [(2, .int (x2 - 0)), (3, .int (nI t)), (0, .ref (ax 19)), (1, .int (nI k))]) hx hb dX0_netOf_57 rfl hl (by decide) rfl (fun ls hl => ?_)
          refine lv_iinc (v := nI (t + 1)) (lv' := [(3, .int (nI (t + 1))), (2, .int (x2 - 0)), (0, .ref (ax 19)), (1, .int (nI k))]) hx hb dX0_netOf_58 hl (k := 1) rfl (fx_inc _) (by decide) rfl (fun ls hl => ?_)
          refine lv_goto (tgt := 4) hx hb dX0_netOf_61 (by decide) ?_
          exact ih_4 (t + 1) (x2 - 0) (upd alv t (nI (rn t + ex t))) nmv plv (by omega) (by omega) (by rw [hx2]; show _ = 0 - (l_sum (fun i_ => nI (ex i_) * vlF sa T1 i_) t + nI (ex t) * vlF sa T1 t); rw [show ex t = 0 from n_37, i_subsub]; congr 1; congr 1; rw [show nI 0 = 0 from rfl, Int32.zero_mul]) (ext_s (f := fun i => nI (rn i + ex i)) hal rfl) _ _ hP hD hS ls (lv_sub hl [0, 1, 2, 3] rfl)
  exact loop_4 ((8 - 0) + 1) 0 0 al nmd pl (Nat.lt_succ_self _) (by omega) (by simp [l_sum]) (fun i hi => absurd hi (Nat.not_lt_zero _)) _ _ hP hD hS ls (lv_sub hl [0, 1, 2, 3] rfl)
abbrev rxX0_isLess : Room := { frames := 0, cells := 0, slots := 0, locals := 0 }
set_option maxHeartbeats 400000 in
set_option maxRecDepth 100000 in
theorem xX0_isLess (l : Launch) (E : fx_En) (ax : Nat → Nat) (im : Int32) (bn : Int32) (bm : Int32) (fm : Int32) (ff : Int32) (fl : Int32) (ek : Nat → Int32) (be : Nat → Int32) (ex : Nat → Nat) (bx : Nat → Nat) (hek : ∀ i, i < 8 → ek i = nI (ex i) ∧ ex i ≤ 9) (hbe : ∀ i, i < 8 → be i = nI (bx i) ∧ bx i ≤ 9) (hlx : LX bx ex 8) : fx_Mi l yX0_isLess cX0_isLess 2 .boolean rxX0_isLess E [.ref (ax 19)] [] [(ax 19, .inr (0, [.ref (ax 0), .ref (ax 1), .ref (ax 35), .ref (ax 55), .ref (ax 4), .ref (ax 5), .ref (ax 6), .ref (ax 7), .int im, .ref (ax 9), .ref (ax 10), .ref (ax 11), .ref (ax 12), .ref (ax 13), .int bn, .int bm, .int fm, .int ff, .int fl])), (ax 11, .inl (E.2 1, 8, .inl ek)), (ax 12, .inl (E.2 1, 8, .inl be))] (S := Unit) (fun (u : Unit) => []) (fun (r : Int32) (u : Unit) => r = fx_b (False)) := by
  refine fx_iW rfl rfl ?_
  intro p e s m args below meth c A ls Q X hE hP hD hR hA hl hret
  have hx := X.1
  have hb := X.2.1
  have hS : va_S A s.heap s.heap [] := va_S.rf
  replace hl : lv_has ls 2 [(0, .ref (ax 19))] := hl
  obtain ⟨j, hj, hj1, hj2⟩ := hlx
  refine lv_iconst (v := 0) hx hb dX0_isLess_0 rfl ?_
  refine lv_istore_n (lv' := [(1, .int 0), (0, .ref (ax 19))]) hx hb dX0_isLess_1 rfl hl (by decide) rfl (fun ls hl => ?_)
  have loop_2 : ∀ (n_2 : Nat) (t : Nat), (8 - t < n_2) → (t ≤ j) → ∀ (H : Heap) (locs : List Loc), va_P E.1 clA [] H → va_D A [] → va_S A s.heap H locs → ∀ (ls : Array Slot), lv_has ls 2 [(1, .int (nI t)), (0, .ref (ax 19))] → W p l e rxX0_isLess s m args below meth c H locs 0 0 Q (F0 m 2 ls []) := by
    intro n_2
    induction n_2 with
    | zero => intro t hm_2; exact absurd hm_2 (Nat.not_lt_zero _)
    | succ n_2 ih_2 =>
      intro t hm_2 ht H locs hP hD hS ls hl
      refine lv_iload_n hx hb dX0_isLess_2 rfl (lv_at hl 0 rfl) ?_
      refine lv_bipush (v := 8) hx hb dX0_isLess_3 rfl ?_
      refine lv_icmp_ge (tgt := 50) hx hb dX0_isLess_5 (by decide) (fun c_5 => ?_) (fun c_5 => ?_)
      · -- jump 50
        have n_5 := fx_le1 (a := 8) (b := t) c_5 (by omega) (by omega)
        exact absurd n_5 (by omega)
      · -- fall 8
        have n_5 := fx_le0 (a := 8) (b := t) c_5 (by omega) (by omega)
        have hb9 := hbe t (by omega)
        have he9 := hek t (by omega)
        have hb92 := hb9.2
        have he92 := he9.2
        refine lv_aload_n hx hb dX0_isLess_8 rfl (lv_at hl 1 rfl) ?_
        refine fx_get X hE (hR.at hS) 0 rfl rfl 11 rfl q246 rfl rfl dX0_isLess_9 ?_
        refine lv_iload_n hx hb dX0_isLess_12 rfl (lv_at hl 0 rfl) ?_
        refine fx_bald X hE (hR.at hS) 1 rfl t rfl (by omega) rfl dX0_isLess_13 ?_
        refine fx_ti (show (ek t) = nI (ex t) from he9.1) ?_
        refine lv_aload_n hx hb dX0_isLess_14 rfl (lv_at hl 1 rfl) ?_
        refine fx_get X hE (hR.at hS) 0 rfl rfl 12 rfl q247 rfl rfl dX0_isLess_15 ?_
        refine lv_iload_n hx hb dX0_isLess_18 rfl (lv_at hl 0 rfl) ?_
        refine fx_bald X hE (hR.at hS) 2 rfl t rfl (by omega) rfl dX0_isLess_19 ?_
        refine fx_ti (show (be t) = nI (bx t) from hb9.1) ?_
        refine lv_icmp_eq (tgt := 44) hx hb dX0_isLess_20 (by decide) (fun c_20 => ?_) (fun c_20 => ?_)
        · -- jump 44
          have n_20 := fx_eq1 (a := (ex t)) (b := (bx t)) c_20 (by omega) (by omega)
          refine lv_iinc (v := nI (t + 1)) (lv' := [(1, .int (nI (t + 1))), (0, .ref (ax 19))]) hx hb dX0_isLess_44 hl (k := 0) rfl (fx_inc _) (by decide) rfl (fun ls hl => ?_)
          refine lv_goto (tgt := 2) hx hb dX0_isLess_47 (by decide) ?_
          exact ih_2 (t + 1) (by omega) (by rcases Nat.lt_or_ge t j with q | q; exact q; exact absurd n_20 (by rw [show t = j by omega]; omega)) _ _ hP hD hS ls (lv_sub hl [0, 1] rfl)
        · -- fall 23
          have n_20 := fx_eq0 (a := (ex t)) (b := (bx t)) c_20 (by omega) (by omega)
          have htj : t = j := by rcases Nat.lt_or_ge t j with q | q; exact absurd (hj1 t q).symm n_20; omega
          subst htj
          refine lv_aload_n hx hb dX0_isLess_23 rfl (lv_at hl 1 rfl) ?_
          refine fx_get X hE (hR.at hS) 0 rfl rfl 11 rfl q246 rfl rfl dX0_isLess_24 ?_
          refine lv_iload_n hx hb dX0_isLess_27 rfl (lv_at hl 0 rfl) ?_
          refine fx_bald X hE (hR.at hS) 1 rfl t rfl (by omega) rfl dX0_isLess_28 ?_
          refine fx_ti (show (ek t) = nI (ex t) from he9.1) ?_
          refine lv_aload_n hx hb dX0_isLess_29 rfl (lv_at hl 1 rfl) ?_
          refine fx_get X hE (hR.at hS) 0 rfl rfl 12 rfl q247 rfl rfl dX0_isLess_30 ?_
          refine lv_iload_n hx hb dX0_isLess_33 rfl (lv_at hl 0 rfl) ?_
          refine fx_bald X hE (hR.at hS) 2 rfl t rfl (by omega) rfl dX0_isLess_34 ?_
          refine fx_ti (show (be t) = nI (bx t) from hb9.1) ?_
          refine lv_icmp_ge (tgt := 42) hx hb dX0_isLess_35 (by decide) (fun c_35 => ?_) (fun c_35 => ?_)
          · -- jump 42
            have n_35 := fx_le1 (a := (bx t)) (b := (ex t)) c_35 (by omega) (by omega)
            refine lv_iconst (v := 0) hx hb dX0_isLess_42 rfl ?_
            exact hret 0 () (fx_bf id) (rfl) hP hD hS (Nat.le_refl _) (Nat.le_refl _) dX0_isLess_43
          · -- fall 38
            have n_35 := fx_le0 (a := (bx t)) (b := (ex t)) c_35 (by omega) (by omega)
            exact absurd n_35 (by omega)
  exact loop_2 ((8 - 0) + 1) 0 (Nat.lt_succ_self _) (Nat.zero_le _) _ _ hP hD hS ls (lv_sub hl [0, 1] rfl)
