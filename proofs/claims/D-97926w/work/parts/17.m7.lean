set_option maxRecDepth 100000
theorem hdX6_seeks : yX6_seeks.cls ≠ "java/lang/invoke/MethodHandle" ∧ yX6_seeks.cls ≠ "java/lang/invoke/VarHandle" ∧ (parseMethodDescriptor yX6_seeks.desc).map (fun d => d.parameters.length) = some 2 := by decide +kernel
theorem hdX6_more : yX6_more.cls ≠ "java/lang/invoke/MethodHandle" ∧ yX6_more.cls ≠ "java/lang/invoke/VarHandle" ∧ (parseMethodDescriptor yX6_more.desc).map (fun d => d.parameters.length) = some 4 := by decide +kernel
theorem hdX6_parts : yX6_parts.cls ≠ "java/lang/invoke/MethodHandle" ∧ yX6_parts.cls ≠ "java/lang/invoke/VarHandle" ∧ (parseMethodDescriptor yX6_parts.desc).map (fun d => d.parameters.length) = some 2 := by decide +kernel
theorem hdX6_inTwo : yX6_inTwo.cls ≠ "java/lang/invoke/MethodHandle" ∧ yX6_inTwo.cls ≠ "java/lang/invoke/VarHandle" ∧ (parseMethodDescriptor yX6_inTwo.desc).map (fun d => d.parameters.length) = some 2 := by decide +kernel
theorem hdX6_worth : yX6_worth.cls ≠ "java/lang/invoke/MethodHandle" ∧ yX6_worth.cls ≠ "java/lang/invoke/VarHandle" ∧ (parseMethodDescriptor yX6_worth.desc).map (fun d => d.parameters.length) = some 3 := by decide +kernel
abbrev rmX6_seeks : Room := { frames := 19, cells := 0, slots := 0, locals := 643 }
set_option maxHeartbeats 400000 in
set_option maxRecDepth 100000 in
theorem mX6_seeks (l : Launch) (E : fx_En) (ad : Nat → Nat) (im : Int32) (at_ : Int32) (op : Int32) (st_ : Int32) (us : Int32) (bn : Int32) (bm : Int32) (la : Int32) (fo : Int32) (fi : Int32) (lp : Int32) (tr_ : Int32) (sp : Int32) (ip : Int32) (sa : Nat → Int32) (nmd : Nat → Int32) (pl : Nat → Int32) (td : Nat → Int32) (rw_ : Nat → Int32) (be : Nat → Int32) (wo : Nat → Int32) (k : Nat) (e_ : Nat) (T : Tx) (T1 : Tx) (rn : Nat → Nat) (hk : k < 4) (hI : Inv sa) (hT : TM sa 0 T) (hTo : TOk T) (htd : ∀ i, i < 8 → td i = nI (rn i) ∧ rn i ≤ 9) (hT1 : TM sa 1 T1) (hTo1 : TOk T1) (hm30 : manyN rn 8 ≤ 30) (he : e_ ≤ 9) : fx_Mv l yX6_seeks cX6_seeks 5 rmX6_seeks E [.ref (ad 30), .int (nI k), .int (nI e_)] [(ad 30, .inr (6, [.ref (ad 0), .ref (ad 1), .int im, .ref (ad 3), .int at_, .int op, .int st_, .int us, .ref (ad 8), .ref (ad 9), .ref (ad 10), .ref (ad 11), .ref (ad 12), .ref (ad 13), .ref (ad 14), .int bn, .int bm, .ref (ad 17), .int la, .int fo, .int fi, .int lp, .ref (ad 22), .int tr_, .int sp, .int ip, .ref (ad 26), .ref (ad 27), .ref (ad 28), .ref (ad 29)])), (ad 9, .inl (E.2 0, 128, .inl nmd)), (ad 10, .inl (E.2 0, 64, .inl pl)), (ad 13, .inl (E.2 0, 8, .inl rw_)), (ad 14, .inl (E.2 0, 8, .inl be)), (ad 17, .inl (E.2 0, 8, .inl wo))] [(ad 0, .inl (E.2 0, 374, .inl sa)), (ad 11, .inl (E.2 0, 8, .inl td))] (S := Int32 × Int32 × (Nat → Int32) × (Nat → Int32) × (Nat → Int32) × (Nat → Int32) × (Nat → Int32)) (fun (u : Int32 × Int32 × (Nat → Int32) × (Nat → Int32) × (Nat → Int32) × (Nat → Int32) × (Nat → Int32)) => [(ad 30, .inr (6, [.ref (ad 0), .ref (ad 1), .int im, .ref (ad 3), .int at_, .int op, .int st_, .int us, .ref (ad 8), .ref (ad 9), .ref (ad 10), .ref (ad 11), .ref (ad 12), .ref (ad 13), .ref (ad 14), .int u.1, .int u.2.1, .ref (ad 17), .int la, .int fo, .int fi, .int lp, .ref (ad 22), .int tr_, .int sp, .int ip, .ref (ad 26), .ref (ad 27), .ref (ad 28), .ref (ad 29)])), (ad 9, .inl (E.2 0, 128, .inl u.2.2.1)), (ad 10, .inl (E.2 0, 64, .inl u.2.2.2.1)), (ad 13, .inl (E.2 0, 8, .inl u.2.2.2.2.1)), (ad 14, .inl (E.2 0, 8, .inl u.2.2.2.2.2.1)), (ad 17, .inl (E.2 0, 8, .inl u.2.2.2.2.2.2))]) (fun (u : Int32 × Int32 × (Nat → Int32) × (Nat → Int32) × (Nat → Int32) × (Nat → Int32) × (Nat → Int32)) => u.1 = (seekF sa T T1 k rn e_).2.1 ∧ (∀ i, i < 8 → u.2.2.2.2.2.1 i = nI (rn i + (seekF sa T T1 k rn e_).2.2 i))) := by
  refine fx_vW rfl rfl ?_
  intro p e s m args below meth c A ls Q X hnm hE hP hD hR hA hl hret
  have hx := X.1
  have hb := X.2.1
  have hS : va_S A s.heap s.heap [] := va_S.rf
  replace hP : va_P E.1 clA [(ad 30, .inr (6, [.ref (ad 0), .ref (ad 1), .int im, .ref (ad 3), .int at_, .int op, .int st_, .int us, .ref (ad 8), .ref (ad 9), .ref (ad 10), .ref (ad 11), .ref (ad 12), .ref (ad 13), .ref (ad 14), .int bn, .int bm, .ref (ad 17), .int la, .int fo, .int fi, .int lp, .ref (ad 22), .int tr_, .int sp, .int ip, .ref (ad 26), .ref (ad 27), .ref (ad 28), .ref (ad 29)])), (ad 9, .inl (E.2 0, 128, .inl nmd)), (ad 10, .inl (E.2 0, 64, .inl pl)), (ad 13, .inl (E.2 0, 8, .inl rw_)), (ad 14, .inl (E.2 0, 8, .inl be)), (ad 17, .inl (E.2 0, 8, .inl wo))] _ := hP
  replace hD : va_D A [(ad 30, .inr (6, [.ref (ad 0), .ref (ad 1), .int im, .ref (ad 3), .int at_, .int op, .int st_, .int us, .ref (ad 8), .ref (ad 9), .ref (ad 10), .ref (ad 11), .ref (ad 12), .ref (ad 13), .ref (ad 14), .int bn, .int bm, .ref (ad 17), .int la, .int fo, .int fi, .int lp, .ref (ad 22), .int tr_, .int sp, .int ip, .ref (ad 26), .ref (ad 27), .ref (ad 28), .ref (ad 29)])), (ad 9, .inl (E.2 0, 128, .inl nmd)), (ad 10, .inl (E.2 0, 64, .inl pl)), (ad 13, .inl (E.2 0, 8, .inl rw_)), (ad 14, .inl (E.2 0, 8, .inl be)), (ad 17, .inl (E.2 0, 8, .inl wo))] := hD
  replace hl : lv_has ls 5 [(0, .ref (ad 30)), (1, .int (nI k)), (2, .int (nI e_))] := hl
  refine lv_bipush (v := 30) hx hb dX6_seeks_0 rfl ?_
  refine lv_aload_n hx hb dX6_seeks_2 rfl (lv_at hl 0 rfl) ?_
  refine fx_get X hE hP 0 rfl rfl 11 rfl q1179 rfl rfl dX6_seeks_3 ?_
  refine fx_ci (va_runS (As := [.ref (ad 11)]) (rest := [.int 30]) X (mX6_many l E (ad 11) td _) (va_cwS 1 X.2.2.2.2 (lw_S q1413 q1414 q75 q1415) rfl rfl rfl hdX6_many ⟨Nat.le_of_ble_eq_true rfl, Nat.le_of_ble_eq_true rfl⟩) (fx_pre hE hP hD hS hR [] rfl rfl (fx_rcr 1 rfl fx_rc0)) rfl rfl hl.1 rfl (lv_room (Nat.le_of_ble_eq_true rfl)) dX6_seeks_6 ⟨Nat.le_refl _, Nat.le_refl _⟩) hP hD hS hA [] rfl rfl (fun r_6 u H locs hq_6 hP hD hS => ?_)
  replace hP : va_P E.1 clA [(ad 30, .inr (6, [.ref (ad 0), .ref (ad 1), .int im, .ref (ad 3), .int at_, .int op, .int st_, .int us, .ref (ad 8), .ref (ad 9), .ref (ad 10), .ref (ad 11), .ref (ad 12), .ref (ad 13), .ref (ad 14), .int bn, .int bm, .ref (ad 17), .int la, .int fo, .int fi, .int lp, .ref (ad 22), .int tr_, .int sp, .int ip, .ref (ad 26), .ref (ad 27), .ref (ad 28), .ref (ad 29)])), (ad 9, .inl (E.2 0, 128, .inl nmd)), (ad 10, .inl (E.2 0, 64, .inl pl)), (ad 13, .inl (E.2 0, 8, .inl rw_)), (ad 14, .inl (E.2 0, 8, .inl be)), (ad 17, .inl (E.2 0, 8, .inl wo))] _ := hP
  replace hD : va_D A [(ad 30, .inr (6, [.ref (ad 0), .ref (ad 1), .int im, .ref (ad 3), .int at_, .int op, .int st_, .int us, .ref (ad 8), .ref (ad 9), .ref (ad 10), .ref (ad 11), .ref (ad 12), .ref (ad 13), .ref (ad 14), .int bn, .int bm, .ref (ad 17), .int la, .int fo, .int fi, .int lp, .ref (ad 22), .int tr_, .int sp, .int ip, .ref (ad 26), .ref (ad 27), .ref (ad 28), .ref (ad 29)])), (ad 9, .inl (E.2 0, 128, .inl nmd)), (ad 10, .inl (E.2 0, 64, .inl pl)), (ad 13, .inl (E.2 0, 8, .inl rw_)), (ad 14, .inl (E.2 0, 8, .inl be)), (ad 17, .inl (E.2 0, 8, .inl wo))] := hD
  replace hq_6 : r_6 = l_sum td 8 := hq_6
  refine fx_ti (show r_6 = nI (manyN rn 8) from hq_6.trans (manyN_I 8 (fun t ht => (htd t ht).1))) ?_
  refine lv_isub hx hb dX6_seeks_9 ?_
  refine fx_ti (pk_sub (a := 30) (b := manyN rn 8) (by omega)) ?_
  refine lv_istore_n (lv' := [(3, .int (nI (30 - (manyN rn 8)))), (0, .ref (ad 30)), (1, .int (nI k)), (2, .int (nI e_))]) hx hb dX6_seeks_10 rfl hl (by decide) rfl (fun ls hl => ?_)
  refine lv_iconst (v := 0) hx hb dX6_seeks_11 rfl ?_
  refine lv_istore (lv' := [(4, .int 0), (3, .int (nI (30 - (manyN rn 8)))), (0, .ref (ad 30)), (1, .int (nI k)), (2, .int (nI e_))]) hx hb dX6_seeks_12 hl (by decide) rfl (fun ls hl => ?_)
  have loop_14 : ∀ (n_14 : Nat) (t : Nat) (wv : Nat → Int32) (nv : Nat → Int32) (pv : Nat → Int32), (8 - t < n_14) → (t ≤ 8) → (∀ i, i < t → wv i = vlF sa T1 i) → ∀ (H : Heap) (locs : List Loc), va_P E.1 clA [(ad 30, .inr (6, [.ref (ad 0), .ref (ad 1), .int im, .ref (ad 3), .int at_, .int op, .int st_, .int us, .ref (ad 8), .ref (ad 9), .ref (ad 10), .ref (ad 11), .ref (ad 12), .ref (ad 13), .ref (ad 14), .int bn, .int bm, .ref (ad 17), .int la, .int fo, .int fi, .int lp, .ref (ad 22), .int tr_, .int sp, .int ip, .ref (ad 26), .ref (ad 27), .ref (ad 28), .ref (ad 29)])), (ad 9, .inl (E.2 0, 128, .inl nv)), (ad 10, .inl (E.2 0, 64, .inl pv)), (ad 13, .inl (E.2 0, 8, .inl rw_)), (ad 14, .inl (E.2 0, 8, .inl be)), (ad 17, .inl (E.2 0, 8, .inl wv))] H → va_D A [(ad 30, .inr (6, [.ref (ad 0), .ref (ad 1), .int im, .ref (ad 3), .int at_, .int op, .int st_, .int us, .ref (ad 8), .ref (ad 9), .ref (ad 10), .ref (ad 11), .ref (ad 12), .ref (ad 13), .ref (ad 14), .int bn, .int bm, .ref (ad 17), .int la, .int fo, .int fi, .int lp, .ref (ad 22), .int tr_, .int sp, .int ip, .ref (ad 26), .ref (ad 27), .ref (ad 28), .ref (ad 29)])), (ad 9, .inl (E.2 0, 128, .inl nv)), (ad 10, .inl (E.2 0, 64, .inl pv)), (ad 13, .inl (E.2 0, 8, .inl rw_)), (ad 14, .inl (E.2 0, 8, .inl be)), (ad 17, .inl (E.2 0, 8, .inl wv))] → va_S A s.heap H locs → ∀ (ls : Array Slot), lv_has ls 5 [(4, .int (nI t)), (3, .int (nI (30 - (manyN rn 8)))), (0, .ref (ad 30)), (1, .int (nI k)), (2, .int (nI e_))] → W p l e rmX6_seeks s m args below meth c H locs 0 0 Q (F0 m 14 ls []) := by
    intro n_14
    induction n_14 with
    | zero => intro t wv nv pv hm_14; exact absurd hm_14 (Nat.not_lt_zero _)
    | succ n_14 ih_14 =>
      intro t wv nv pv hm_14 ht hwv H locs hP hD hS ls hl
      refine lv_iload hx hb dX6_seeks_14 (lv_at hl 0 rfl) ?_
      refine lv_bipush (v := 8) hx hb dX6_seeks_16 rfl ?_
      refine lv_icmp_ge (tgt := 40) hx hb dX6_seeks_18 (by decide) (fun c_18 => ?_) (fun c_18 => ?_)
      · -- jump 40
        have n_18 := fx_le1 (a := 8) (b := t) c_18 (by omega) (by omega)
        obtain rfl : t = 8 := by omega
        refine lv_aload_n hx hb dX6_seeks_40 rfl (lv_at hl 2 rfl) ?_
        refine lv_iconst (v := (-1)) hx hb dX6_seeks_41 rfl ?_
        refine fx_put_ (ws' := [(ad 30, .inr (6, [.ref (ad 0), .ref (ad 1), .int im, .ref (ad 3), .int at_, .int op, .int st_, .int us, .ref (ad 8), .ref (ad 9), .ref (ad 10), .ref (ad 11), .ref (ad 12), .ref (ad 13), .ref (ad 14), .int bn, .int (-1), .ref (ad 17), .int la, .int fo, .int fi, .int lp, .ref (ad 22), .int tr_, .int sp, .int ip, .ref (ad 26), .ref (ad 27), .ref (ad 28), .ref (ad 29)])), (ad 9, .inl (E.2 0, 128, .inl nv)), (ad 10, .inl (E.2 0, 64, .inl pv)), (ad 13, .inl (E.2 0, 8, .inl rw_)), (ad 14, .inl (E.2 0, 8, .inl be)), (ad 17, .inl (E.2 0, 8, .inl wv))]) X hE hP hD hS 0 rfl rfl tyX6_ok nmX6 16 rfl q1184 rfl rfl rfl rfl rfl rfl dX6_seeks_42 (fun H locs hP hD hS => ?_)
        refine lv_aload_n hx hb dX6_seeks_45 rfl (lv_at hl 2 rfl) ?_
        refine lv_iload_n hx hb dX6_seeks_46 rfl (lv_at hl 3 rfl) ?_
        refine lv_iconst (v := 0) hx hb dX6_seeks_47 rfl ?_
        refine lv_iload_n hx hb dX6_seeks_48 rfl (lv_at hl 4 rfl) ?_
        refine lv_iload_n hx hb dX6_seeks_49 rfl (lv_at hl 1 rfl) ?_
        refine lv_icmp_ge (tgt := 57) hx hb dX6_seeks_50 (by decide) (fun c_50 => ?_) (fun c_50 => ?_)
        · -- jump 57
          have n_50 := fx_le1 (a := (30 - (manyN rn 8))) (b := e_) c_50 (by omega) (by omega)
          refine lv_iload_n hx hb dX6_seeks_57 rfl (lv_at hl 1 rfl) ?_
          refine lv_iconst (v := 0) hx hb dX6_seeks_58 rfl ?_
          refine fx_cv (va_runV (As := [.int (nI k), .int 0, .int (nI (30 - (manyN rn 8))), .int 0]) (rest := []) X (mX6_tries l E 8 ad im at_ op st_ us bn (-1) la fo fi lp tr_ sp ip sa nv pv td rw_ be wv k T rn (fun _ => 0) (fun _ => 0) (30 - (manyN rn 8)) 0 (Nat.le_refl 8) (by first | assumption | omega) (by first | assumption | omega) (by first | assumption | omega) (by first | assumption | omega) (by first | assumption | omega) (fun i hi => absurd hi (by omega)) (by omega) (by omega) (Or.inl rfl) _) (cwV 4 X.2.2.2.2 (lw_V q1466 q1468 qs59 q75 q1469) rfl rfl rfl ⟨rfl, hdX6_tries⟩ ⟨by simp only [rmX6_tries, rmX6_seeks] <;> omega, by simp only [rmX6_tries, rmX6_seeks] <;> omega⟩) (fx_preV (fx_pre hE hP hD hS hR [0, 1, 2, 3, 4] rfl rfl (fx_rcr 0 rfl (fx_rcr 1 rfl (fx_rcm 5 rfl (by decide) fx_rc0)))) (va_recv hE.1 hP (ci := 6) (q0 := 0) rfl rfl)) rfl rfl hl.1 rfl (lv_room (Nat.le_of_ble_eq_true rfl)) dX6_seeks_59 ⟨Nat.le_refl _, Nat.le_refl _⟩) hP hD hS hA [0, 1, 2, 3, 4] rfl rfl (fun u H locs hq_59 hP hD hS => ?_)
          obtain ⟨bn2_59, bm2_59, nm2_59, pl2_59, rw2_59, be2__59⟩ := u
          replace hP : va_P E.1 clA [(ad 30, .inr (6, [.ref (ad 0), .ref (ad 1), .int im, .ref (ad 3), .int at_, .int op, .int st_, .int us, .ref (ad 8), .ref (ad 9), .ref (ad 10), .ref (ad 11), .ref (ad 12), .ref (ad 13), .ref (ad 14), .int bn2_59, .int bm2_59, .ref (ad 17), .int la, .int fo, .int fi, .int lp, .ref (ad 22), .int tr_, .int sp, .int ip, .ref (ad 26), .ref (ad 27), .ref (ad 28), .ref (ad 29)])), (ad 9, .inl (E.2 0, 128, .inl nm2_59)), (ad 10, .inl (E.2 0, 64, .inl pl2_59)), (ad 13, .inl (E.2 0, 8, .inl rw2_59)), (ad 14, .inl (E.2 0, 8, .inl be2__59)), (ad 17, .inl (E.2 0, 8, .inl wv))] _ := hP
          replace hD : va_D A [(ad 30, .inr (6, [.ref (ad 0), .ref (ad 1), .int im, .ref (ad 3), .int at_, .int op, .int st_, .int us, .ref (ad 8), .ref (ad 9), .ref (ad 10), .ref (ad 11), .ref (ad 12), .ref (ad 13), .ref (ad 14), .int bn2_59, .int bm2_59, .ref (ad 17), .int la, .int fo, .int fi, .int lp, .ref (ad 22), .int tr_, .int sp, .int ip, .ref (ad 26), .ref (ad 27), .ref (ad 28), .ref (ad 29)])), (ad 9, .inl (E.2 0, 128, .inl nm2_59)), (ad 10, .inl (E.2 0, 64, .inl pl2_59)), (ad 13, .inl (E.2 0, 8, .inl rw2_59)), (ad 14, .inl (E.2 0, 8, .inl be2__59)), (ad 17, .inl (E.2 0, 8, .inl wv))] := hD
          replace hq_59 : (bm2_59 = (enL (bdT rn) (lfT (netF sa T k rn wv)) 8 (fun _ => 0) (30 - (manyN rn 8)) 0 ((-1), bn, (fun _ => 0))).1 ∧ bn2_59 = (enL (bdT rn) (lfT (netF sa T k rn wv)) 8 (fun _ => 0) (30 - (manyN rn 8)) 0 ((-1), bn, (fun _ => 0))).2.1) ∧ bm2_59 ≠ -1 ∧ (∀ i, i < 8 → be2__59 i = nI (rn i + (enL (bdT rn) (lfT (netF sa T k rn wv)) 8 (fun _ => 0) (30 - (manyN rn 8)) 0 ((-1), bn, (fun _ => 0))).2.2 i)) ∧ (∀ i, i < 8 - 8 → rw2_59 i = rw_ i) := hq_59
          exact hret (bn2_59, bm2_59, nm2_59, pl2_59, rw2_59, be2__59, wv) (have hs := seek_of (T := T) (T1 := T1) (k := k) (e := e_) (rn := rn) (bn := bn) hwv (show 30 - manyN rn 8 = min e_ (30 - manyN rn 8) by omega); ⟨by rw [← hs]; exact hq_59.1.2, by rw [← hs]; exact hq_59.2.2.1⟩) hP hD hS (Nat.le_refl _) (Nat.le_refl _) dX6_seeks_62
        · -- fall 53
          have n_50 := fx_le0 (a := (30 - (manyN rn 8))) (b := e_) c_50 (by omega) (by omega)
          refine lv_iload_n hx hb dX6_seeks_53 rfl (lv_at hl 4 rfl) ?_
          refine lv_goto (tgt := 58) hx hb dX6_seeks_54 (by decide) ?_
          refine lv_iconst (v := 0) hx hb dX6_seeks_58 rfl ?_
          refine fx_cv (va_runV (As := [.int (nI k), .int 0, .int (nI e_), .int 0]) (rest := []) X (mX6_tries l E 8 ad im at_ op st_ us bn (-1) la fo fi lp tr_ sp ip sa nv pv td rw_ be wv k T rn (fun _ => 0) (fun _ => 0) e_ 0 (Nat.le_refl 8) (by first | assumption | omega) (by first | assumption | omega) (by first | assumption | omega) (by first | assumption | omega) (by first | assumption | omega) (fun i hi => absurd hi (by omega)) (by omega) (by omega) (Or.inl rfl) _) (cwV 4 X.2.2.2.2 (lw_V q1466 q1468 qs59 q75 q1469) rfl rfl rfl ⟨rfl, hdX6_tries⟩ ⟨by simp only [rmX6_tries, rmX6_seeks] <;> omega, by simp only [rmX6_tries, rmX6_seeks] <;> omega⟩) (fx_preV (fx_pre hE hP hD hS hR [0, 1, 2, 3, 4] rfl rfl (fx_rcr 0 rfl (fx_rcr 1 rfl (fx_rcm 5 rfl (by decide) fx_rc0)))) (va_recv hE.1 hP (ci := 6) (q0 := 0) rfl rfl)) rfl rfl hl.1 rfl (lv_room (Nat.le_of_ble_eq_true rfl)) dX6_seeks_59 ⟨Nat.le_refl _, Nat.le_refl _⟩) hP hD hS hA [0, 1, 2, 3, 4] rfl rfl (fun u H locs hq_59 hP hD hS => ?_)
          obtain ⟨bn2_59, bm2_59, nm2_59, pl2_59, rw2_59, be2__59⟩ := u
          replace hP : va_P E.1 clA [(ad 30, .inr (6, [.ref (ad 0), .ref (ad 1), .int im, .ref (ad 3), .int at_, .int op, .int st_, .int us, .ref (ad 8), .ref (ad 9), .ref (ad 10), .ref (ad 11), .ref (ad 12), .ref (ad 13), .ref (ad 14), .int bn2_59, .int bm2_59, .ref (ad 17), .int la, .int fo, .int fi, .int lp, .ref (ad 22), .int tr_, .int sp, .int ip, .ref (ad 26), .ref (ad 27), .ref (ad 28), .ref (ad 29)])), (ad 9, .inl (E.2 0, 128, .inl nm2_59)), (ad 10, .inl (E.2 0, 64, .inl pl2_59)), (ad 13, .inl (E.2 0, 8, .inl rw2_59)), (ad 14, .inl (E.2 0, 8, .inl be2__59)), (ad 17, .inl (E.2 0, 8, .inl wv))] _ := hP
          replace hD : va_D A [(ad 30, .inr (6, [.ref (ad 0), .ref (ad 1), .int im, .ref (ad 3), .int at_, .int op, .int st_, .int us, .ref (ad 8), .ref (ad 9), .ref (ad 10), .ref (ad 11), .ref (ad 12), .ref (ad 13), .ref (ad 14), .int bn2_59, .int bm2_59, .ref (ad 17), .int la, .int fo, .int fi, .int lp, .ref (ad 22), .int tr_, .int sp, .int ip, .ref (ad 26), .ref (ad 27), .ref (ad 28), .ref (ad 29)])), (ad 9, .inl (E.2 0, 128, .inl nm2_59)), (ad 10, .inl (E.2 0, 64, .inl pl2_59)), (ad 13, .inl (E.2 0, 8, .inl rw2_59)), (ad 14, .inl (E.2 0, 8, .inl be2__59)), (ad 17, .inl (E.2 0, 8, .inl wv))] := hD
          replace hq_59 : (bm2_59 = (enL (bdT rn) (lfT (netF sa T k rn wv)) 8 (fun _ => 0) e_ 0 ((-1), bn, (fun _ => 0))).1 ∧ bn2_59 = (enL (bdT rn) (lfT (netF sa T k rn wv)) 8 (fun _ => 0) e_ 0 ((-1), bn, (fun _ => 0))).2.1) ∧ bm2_59 ≠ -1 ∧ (∀ i, i < 8 → be2__59 i = nI (rn i + (enL (bdT rn) (lfT (netF sa T k rn wv)) 8 (fun _ => 0) e_ 0 ((-1), bn, (fun _ => 0))).2.2 i)) ∧ (∀ i, i < 8 - 8 → rw2_59 i = rw_ i) := hq_59
          exact hret (bn2_59, bm2_59, nm2_59, pl2_59, rw2_59, be2__59, wv) (have hs := seek_of (T := T) (T1 := T1) (k := k) (e := e_) (rn := rn) (bn := bn) hwv (show e_ = min e_ (30 - manyN rn 8) by omega); ⟨by rw [← hs]; exact hq_59.1.2, by rw [← hs]; exact hq_59.2.2.1⟩) hP hD hS (Nat.le_refl _) (Nat.le_refl _) dX6_seeks_62
      · -- fall 21
        have n_18 := fx_le0 (a := 8) (b := t) c_18 (by omega) (by omega)
        refine lv_aload_n hx hb dX6_seeks_21 rfl (lv_at hl 2 rfl) ?_
        refine fx_get X hE hP 0 rfl rfl 17 rfl q1185 rfl rfl dX6_seeks_22 ?_
        refine lv_iload hx hb dX6_seeks_25 (lv_at hl 0 rfl) ?_
        refine lv_aload_n hx hb dX6_seeks_27 rfl (lv_at hl 2 rfl) ?_
        refine lv_iload hx hb dX6_seeks_28 (lv_at hl 0 rfl) ?_
        refine fx_ci (va_runV (As := [.int (nI t)]) (rest := [.int (nI t), .ref (ad 17)]) X (mX6_values l E ad im at_ op st_ us bn bm la fo fi lp tr_ sp ip sa nv pv t T1 (by omega) hT1 hTo1 _) (cwV 1 X.2.2.2.2 (lw_V q1339 q1341 qs45 q75 q1342) rfl rfl rfl ⟨rfl, hdX6_values⟩ ⟨Nat.le_of_ble_eq_true rfl, Nat.le_of_ble_eq_true rfl⟩) (fx_preV (fx_pre hE hP hD hS hR [1, 2] rfl rfl (fx_rcm 0 rfl (by decide) (fx_rcr 0 rfl fx_rc0))) (va_recv hE.1 hP (ci := 6) (q0 := 0) rfl rfl)) rfl rfl hl.1 rfl (lv_room (Nat.le_of_ble_eq_true rfl)) dX6_seeks_30 ⟨Nat.le_refl _, Nat.le_refl _⟩) hP hD hS hA [1, 2] rfl rfl (fun r_30 u H locs hq_30 hP hD hS => ?_)
        obtain ⟨nm2_30, pl2_30⟩ := u
        replace hP : va_P E.1 clA [(ad 30, .inr (6, [.ref (ad 0), .ref (ad 1), .int im, .ref (ad 3), .int at_, .int op, .int st_, .int us, .ref (ad 8), .ref (ad 9), .ref (ad 10), .ref (ad 11), .ref (ad 12), .ref (ad 13), .ref (ad 14), .int bn, .int bm, .ref (ad 17), .int la, .int fo, .int fi, .int lp, .ref (ad 22), .int tr_, .int sp, .int ip, .ref (ad 26), .ref (ad 27), .ref (ad 28), .ref (ad 29)])), (ad 9, .inl (E.2 0, 128, .inl nm2_30)), (ad 10, .inl (E.2 0, 64, .inl pl2_30)), (ad 13, .inl (E.2 0, 8, .inl rw_)), (ad 14, .inl (E.2 0, 8, .inl be)), (ad 17, .inl (E.2 0, 8, .inl wv))] _ := hP
        replace hD : va_D A [(ad 30, .inr (6, [.ref (ad 0), .ref (ad 1), .int im, .ref (ad 3), .int at_, .int op, .int st_, .int us, .ref (ad 8), .ref (ad 9), .ref (ad 10), .ref (ad 11), .ref (ad 12), .ref (ad 13), .ref (ad 14), .int bn, .int bm, .ref (ad 17), .int la, .int fo, .int fi, .int lp, .ref (ad 22), .int tr_, .int sp, .int ip, .ref (ad 26), .ref (ad 27), .ref (ad 28), .ref (ad 29)])), (ad 9, .inl (E.2 0, 128, .inl nm2_30)), (ad 10, .inl (E.2 0, 64, .inl pl2_30)), (ad 13, .inl (E.2 0, 8, .inl rw_)), (ad 14, .inl (E.2 0, 8, .inl be)), (ad 17, .inl (E.2 0, 8, .inl wv))] := hD
        replace hq_30 : r_30 = valF T1 t (sa (8 + t)) (sa (16 + t)) := hq_30
        refine fx_iast (ws' := [(ad 30, .inr (6, [.ref (ad 0), .ref (ad 1), .int im, .ref (ad 3), .int at_, .int op, .int st_, .int us, .ref (ad 8), .ref (ad 9), .ref (ad 10), .ref (ad 11), .ref (ad 12), .ref (ad 13), .ref (ad 14), .int bn, .int bm, .ref (ad 17), .int la, .int fo, .int fi, .int lp, .ref (ad 22), .int tr_, .int sp, .int ip, .ref (ad 26), .ref (ad 27), .ref (ad 28), .ref (ad 29)])), (ad 9, .inl (E.2 0, 128, .inl nm2_30)), (ad 10, .inl (E.2 0, 64, .inl pl2_30)), (ad 13, .inl (E.2 0, 8, .inl rw_)), (ad 14, .inl (E.2 0, 8, .inl be)), (ad 17, .inl (E.2 0, 8, .inl (upd wv t r_30)))]) X hE hP hD hS 5 rfl t rfl (by omega) rfl rfl dX6_seeks_33 (fun H locs hP hD hS => ?_)
        refine lv_iinc (v := nI (t + 1)) (lv' := [(4, .int (nI (t + 1))), (3, .int (nI (30 - (manyN rn 8)))), (0, .ref (ad 30)), (1, .int (nI k)), (2, .int (nI e_))]) hx hb dX6_seeks_34 hl (k := 0) rfl (fx_inc _) (by decide) rfl (fun ls hl => ?_)
        refine lv_goto (tgt := 14) hx hb dX6_seeks_37 (by decide) ?_
        exact ih_14 (t + 1) (upd wv t r_30) nm2_30 pl2_30 (by omega) (by omega) (ext_s (f := vlF sa T1) hwv hq_30) _ _ hP hD hS ls (lv_sub hl [0, 1, 2, 3, 4] rfl)
  exact loop_14 ((8 - 0) + 1) 0 wo nmd pl (Nat.lt_succ_self _) (by omega) (fun i hi => absurd hi (Nat.not_lt_zero _)) _ _ hP hD hS ls (lv_sub hl [0, 1, 2, 3, 4] rfl)
abbrev rmX6_more : Room := { frames := 20, cells := 0, slots := 0, locals := 667 }
set_option maxHeartbeats 400000 in
set_option maxRecDepth 100000 in
theorem mX6_more (l : Launch) (E : fx_En) (ad : Nat → Nat) (im : Int32) (at_ : Int32) (op : Int32) (st_ : Int32) (us : Int32) (bn : Int32) (bm : Int32) (la : Int32) (fo : Int32) (fi : Int32) (lp : Int32) (tr_ : Int32) (sp : Int32) (ip : Int32) (sa : Nat → Int32) (bt : Nat → Int32) (sz : Nat → Int32) (nu : Nat → Int32) (er : Nat → Int32) (nmd : Nat → Int32) (pl : Nat → Int32) (td : Nat → Int32) (rw_ : Nat → Int32) (be : Nat → Int32) (wo : Nat → Int32) (sheet : Int32) (til : Int32) (ee : Int32) (wh : Int32) (T : Tx) (T1 : Tx) (hI : Inv sa) (hIS : InvS bt sz) (hT : TM sa 0 T) (hTo : TOk T) (hT1 : TM sa 1 T1) (hTo1 : TOk T1) : fx_Mi l yX6_more cX6_more 6 .int rmX6_more E [.ref (ad 30), .int sheet, .int til, .int ee, .int wh] [(ad 30, .inr (6, [.ref (ad 0), .ref (ad 1), .int im, .ref (ad 3), .int at_, .int op, .int st_, .int us, .ref (ad 8), .ref (ad 9), .ref (ad 10), .ref (ad 11), .ref (ad 12), .ref (ad 13), .ref (ad 14), .int bn, .int bm, .ref (ad 17), .int la, .int fo, .int fi, .int lp, .ref (ad 22), .int tr_, .int sp, .int ip, .ref (ad 26), .ref (ad 27), .ref (ad 28), .ref (ad 29)])), (ad 3, .inl (E.2 0, 7, .inl er)), (ad 9, .inl (E.2 0, 128, .inl nmd)), (ad 10, .inl (E.2 0, 64, .inl pl)), (ad 11, .inl (E.2 0, 8, .inl td)), (ad 13, .inl (E.2 0, 8, .inl rw_)), (ad 14, .inl (E.2 0, 8, .inl be)), (ad 17, .inl (E.2 0, 8, .inl wo))] [(ad 0, .inl (E.2 0, 374, .inl sa)), (ad 26, .inl (E.2 0, 4, .inl bt)), (ad 27, .inl (E.2 0, 4, .inl sz)), (ad 28, .inl (E.2 0, 96, .inl nu))] (S := Int32 × Int32 × (Nat → Int32) × (Nat → Int32) × (Nat → Int32) × (Nat → Int32) × (Nat → Int32) × (Nat → Int32) × (Nat → Int32)) (fun (u : Int32 × Int32 × (Nat → Int32) × (Nat → Int32) × (Nat → Int32) × (Nat → Int32) × (Nat → Int32) × (Nat → Int32) × (Nat → Int32)) => [(ad 30, .inr (6, [.ref (ad 0), .ref (ad 1), .int im, .ref (ad 3), .int at_, .int op, .int st_, .int us, .ref (ad 8), .ref (ad 9), .ref (ad 10), .ref (ad 11), .ref (ad 12), .ref (ad 13), .ref (ad 14), .int u.1, .int u.2.1, .ref (ad 17), .int la, .int fo, .int fi, .int lp, .ref (ad 22), .int tr_, .int sp, .int ip, .ref (ad 26), .ref (ad 27), .ref (ad 28), .ref (ad 29)])), (ad 3, .inl (E.2 0, 7, .inl u.2.2.1)), (ad 9, .inl (E.2 0, 128, .inl u.2.2.2.1)), (ad 10, .inl (E.2 0, 64, .inl u.2.2.2.2.1)), (ad 11, .inl (E.2 0, 8, .inl u.2.2.2.2.2.1)), (ad 13, .inl (E.2 0, 8, .inl u.2.2.2.2.2.2.1)), (ad 14, .inl (E.2 0, 8, .inl u.2.2.2.2.2.2.2.1)), (ad 17, .inl (E.2 0, 8, .inl u.2.2.2.2.2.2.2.2))]) (fun (r : Int32) (u : Int32 × Int32 × (Nat → Int32) × (Nat → Int32) × (Nat → Int32) × (Nat → Int32) × (Nat → Int32) × (Nat → Int32) × (Nat → Int32)) => (r, u.2.2.1) = more_ sa er bt sz nu T T1 sheet til ee wh) := by
  refine fx_iW rfl rfl ?_
  intro p e s m args below meth c A ls Q X hE hP hD hR hA hl hret
  have hx := X.1
  have hb := X.2.1
  have hS : va_S A s.heap s.heap [] := va_S.rf
  replace hP : va_P E.1 clA [(ad 30, .inr (6, [.ref (ad 0), .ref (ad 1), .int im, .ref (ad 3), .int at_, .int op, .int st_, .int us, .ref (ad 8), .ref (ad 9), .ref (ad 10), .ref (ad 11), .ref (ad 12), .ref (ad 13), .ref (ad 14), .int bn, .int bm, .ref (ad 17), .int la, .int fo, .int fi, .int lp, .ref (ad 22), .int tr_, .int sp, .int ip, .ref (ad 26), .ref (ad 27), .ref (ad 28), .ref (ad 29)])), (ad 3, .inl (E.2 0, 7, .inl er)), (ad 9, .inl (E.2 0, 128, .inl nmd)), (ad 10, .inl (E.2 0, 64, .inl pl)), (ad 11, .inl (E.2 0, 8, .inl td)), (ad 13, .inl (E.2 0, 8, .inl rw_)), (ad 14, .inl (E.2 0, 8, .inl be)), (ad 17, .inl (E.2 0, 8, .inl wo))] _ := hP
  replace hD : va_D A [(ad 30, .inr (6, [.ref (ad 0), .ref (ad 1), .int im, .ref (ad 3), .int at_, .int op, .int st_, .int us, .ref (ad 8), .ref (ad 9), .ref (ad 10), .ref (ad 11), .ref (ad 12), .ref (ad 13), .ref (ad 14), .int bn, .int bm, .ref (ad 17), .int la, .int fo, .int fi, .int lp, .ref (ad 22), .int tr_, .int sp, .int ip, .ref (ad 26), .ref (ad 27), .ref (ad 28), .ref (ad 29)])), (ad 3, .inl (E.2 0, 7, .inl er)), (ad 9, .inl (E.2 0, 128, .inl nmd)), (ad 10, .inl (E.2 0, 64, .inl pl)), (ad 11, .inl (E.2 0, 8, .inl td)), (ad 13, .inl (E.2 0, 8, .inl rw_)), (ad 14, .inl (E.2 0, 8, .inl be)), (ad 17, .inl (E.2 0, 8, .inl wo))] := hD
  replace hl : lv_has ls 6 [(0, .ref (ad 30)), (1, .int sheet), (2, .int til), (3, .int ee), (4, .int wh)] := hl
  refine lv_aload_n hx hb dX6_more_0 rfl (lv_at hl 0 rfl) ?_
  refine lv_iload_n hx hb dX6_more_1 rfl (lv_at hl 1 rfl) ?_
  refine lv_iload_n hx hb dX6_more_2 rfl (lv_at hl 2 rfl) ?_
  refine lv_iload_n hx hb dX6_more_3 rfl (lv_at hl 3 rfl) ?_
  refine lv_iconst (v := 0) hx hb dX6_more_4 rfl ?_
  refine lv_iconst (v := 4) hx hb dX6_more_5 rfl ?_
  refine fx_ci (va_runS (As := [.int ee, .int 0, .int 4]) (rest := [.int til, .int sheet, .ref (ad 30)]) X (mX6_in l E ee 0 4 _) (va_cwS 3 X.2.2.2.2 (lw_S q1263 q1264 q75 q1265) rfl rfl rfl hdX6_in ⟨Nat.le_of_ble_eq_true rfl, Nat.le_of_ble_eq_true rfl⟩) (fx_pre hE hP hD hS hR [] rfl rfl fx_rc0) rfl rfl hl.1 rfl (lv_room (Nat.le_of_ble_eq_true rfl)) dX6_more_6 ⟨Nat.le_refl _, Nat.le_refl _⟩) hP hD hS hA [] rfl rfl (fun r_6 u H locs hq_6 hP hD hS => ?_)
  replace hP : va_P E.1 clA [(ad 30, .inr (6, [.ref (ad 0), .ref (ad 1), .int im, .ref (ad 3), .int at_, .int op, .int st_, .int us, .ref (ad 8), .ref (ad 9), .ref (ad 10), .ref (ad 11), .ref (ad 12), .ref (ad 13), .ref (ad 14), .int bn, .int bm, .ref (ad 17), .int la, .int fo, .int fi, .int lp, .ref (ad 22), .int tr_, .int sp, .int ip, .ref (ad 26), .ref (ad 27), .ref (ad 28), .ref (ad 29)])), (ad 3, .inl (E.2 0, 7, .inl er)), (ad 9, .inl (E.2 0, 128, .inl nmd)), (ad 10, .inl (E.2 0, 64, .inl pl)), (ad 11, .inl (E.2 0, 8, .inl td)), (ad 13, .inl (E.2 0, 8, .inl rw_)), (ad 14, .inl (E.2 0, 8, .inl be)), (ad 17, .inl (E.2 0, 8, .inl wo))] _ := hP
  replace hD : va_D A [(ad 30, .inr (6, [.ref (ad 0), .ref (ad 1), .int im, .ref (ad 3), .int at_, .int op, .int st_, .int us, .ref (ad 8), .ref (ad 9), .ref (ad 10), .ref (ad 11), .ref (ad 12), .ref (ad 13), .ref (ad 14), .int bn, .int bm, .ref (ad 17), .int la, .int fo, .int fi, .int lp, .ref (ad 22), .int tr_, .int sp, .int ip, .ref (ad 26), .ref (ad 27), .ref (ad 28), .ref (ad 29)])), (ad 3, .inl (E.2 0, 7, .inl er)), (ad 9, .inl (E.2 0, 128, .inl nmd)), (ad 10, .inl (E.2 0, 64, .inl pl)), (ad 11, .inl (E.2 0, 8, .inl td)), (ad 13, .inl (E.2 0, 8, .inl rw_)), (ad 14, .inl (E.2 0, 8, .inl be)), (ad 17, .inl (E.2 0, 8, .inl wo))] := hD
  replace hq_6 : r_6 = fx_b (inB ee 0 4 = true) := hq_6
  rcases fx_bc hq_6 with ⟨hb_6, hr_6⟩ | ⟨hb_6, hr_6⟩
  · -- True
    subst hr_6
    refine lv_if_eq (tgt := 28) hx hb dX6_more_9 (by decide) (fun c => absurd c (by decide)) (fun _ => ?_)
    refine lv_iload hx hb dX6_more_12 (lv_at hl 4 rfl) ?_
    refine lv_bipush (v := (-2)) hx hb dX6_more_14 rfl ?_
    refine lv_bipush (v := 7) hx hb dX6_more_16 rfl ?_
    refine fx_ci (va_runS (As := [.int wh, .int (-2), .int 7]) (rest := [.int til, .int sheet, .ref (ad 30)]) X (mX6_in l E wh (-2) 7 _) (va_cwS 3 X.2.2.2.2 (lw_S q1263 q1264 q75 q1265) rfl rfl rfl hdX6_in ⟨Nat.le_of_ble_eq_true rfl, Nat.le_of_ble_eq_true rfl⟩) (fx_pre hE hP hD hS hR [] rfl rfl fx_rc0) rfl rfl hl.1 rfl (lv_room (Nat.le_of_ble_eq_true rfl)) dX6_more_18 ⟨Nat.le_refl _, Nat.le_refl _⟩) hP hD hS hA [] rfl rfl (fun r_18 u H locs hq_18 hP hD hS => ?_)
    replace hP : va_P E.1 clA [(ad 30, .inr (6, [.ref (ad 0), .ref (ad 1), .int im, .ref (ad 3), .int at_, .int op, .int st_, .int us, .ref (ad 8), .ref (ad 9), .ref (ad 10), .ref (ad 11), .ref (ad 12), .ref (ad 13), .ref (ad 14), .int bn, .int bm, .ref (ad 17), .int la, .int fo, .int fi, .int lp, .ref (ad 22), .int tr_, .int sp, .int ip, .ref (ad 26), .ref (ad 27), .ref (ad 28), .ref (ad 29)])), (ad 3, .inl (E.2 0, 7, .inl er)), (ad 9, .inl (E.2 0, 128, .inl nmd)), (ad 10, .inl (E.2 0, 64, .inl pl)), (ad 11, .inl (E.2 0, 8, .inl td)), (ad 13, .inl (E.2 0, 8, .inl rw_)), (ad 14, .inl (E.2 0, 8, .inl be)), (ad 17, .inl (E.2 0, 8, .inl wo))] _ := hP
    replace hD : va_D A [(ad 30, .inr (6, [.ref (ad 0), .ref (ad 1), .int im, .ref (ad 3), .int at_, .int op, .int st_, .int us, .ref (ad 8), .ref (ad 9), .ref (ad 10), .ref (ad 11), .ref (ad 12), .ref (ad 13), .ref (ad 14), .int bn, .int bm, .ref (ad 17), .int la, .int fo, .int fi, .int lp, .ref (ad 22), .int tr_, .int sp, .int ip, .ref (ad 26), .ref (ad 27), .ref (ad 28), .ref (ad 29)])), (ad 3, .inl (E.2 0, 7, .inl er)), (ad 9, .inl (E.2 0, 128, .inl nmd)), (ad 10, .inl (E.2 0, 64, .inl pl)), (ad 11, .inl (E.2 0, 8, .inl td)), (ad 13, .inl (E.2 0, 8, .inl rw_)), (ad 14, .inl (E.2 0, 8, .inl be)), (ad 17, .inl (E.2 0, 8, .inl wo))] := hD
    replace hq_18 : r_18 = fx_b (inB wh (-2) 7 = true) := hq_18
    rcases fx_bc hq_18 with ⟨hb_18, hr_18⟩ | ⟨hb_18, hr_18⟩
    · -- True
      subst hr_18
      have hmc : moreC bt sz nu sheet til ee wh = lackF bt sz nu sheet til true 30 := by rw [moreC, hb_6, hb_18]; rfl
      refine lv_if_eq (tgt := 28) hx hb dX6_more_21 (by decide) (fun c => absurd c (by decide)) (fun _ => ?_)
      refine lv_iconst (v := 1) hx hb dX6_more_24 rfl ?_
      refine lv_goto (tgt := 29) hx hb dX6_more_25 (by decide) ?_
      refine lv_bipush (v := 30) hx hb dX6_more_29 rfl ?_
      refine fx_ci (va_runV (As := [.int sheet, .int til, .int 1, .int 30]) (rest := []) X (mX6_lacks l E ad im at_ op st_ us bn bm la fo fi lp tr_ sp ip bt sz nu td sheet til 1 30 (by first | assumption | omega) (by decide) _) (cwV 4 X.2.2.2.2 (lw_V q1402 q1404 qs50 q75 q1405) rfl rfl rfl ⟨rfl, hdX6_lacks⟩ ⟨Nat.le_of_ble_eq_true rfl, Nat.le_of_ble_eq_true rfl⟩) (fx_preV (fx_pre hE hP hD hS hR [4] rfl rfl (fx_rcm 0 rfl (by decide) (fx_rcr 1 rfl (fx_rcr 2 rfl (fx_rcr 3 rfl fx_rc0))))) (va_recv hE.1 hP (ci := 6) (q0 := 0) rfl rfl)) rfl rfl hl.1 rfl (lv_room (Nat.le_of_ble_eq_true rfl)) dX6_more_31 ⟨Nat.le_refl _, Nat.le_refl _⟩) hP hD hS hA [4] rfl rfl (fun r_31 u H locs hq_31 hP hD hS => ?_)
      obtain ⟨td2_31, rfl⟩ : ∃ z, z = u := ⟨_, rfl⟩
      replace hP : va_P E.1 clA [(ad 30, .inr (6, [.ref (ad 0), .ref (ad 1), .int im, .ref (ad 3), .int at_, .int op, .int st_, .int us, .ref (ad 8), .ref (ad 9), .ref (ad 10), .ref (ad 11), .ref (ad 12), .ref (ad 13), .ref (ad 14), .int bn, .int bm, .ref (ad 17), .int la, .int fo, .int fi, .int lp, .ref (ad 22), .int tr_, .int sp, .int ip, .ref (ad 26), .ref (ad 27), .ref (ad 28), .ref (ad 29)])), (ad 3, .inl (E.2 0, 7, .inl er)), (ad 9, .inl (E.2 0, 128, .inl nmd)), (ad 10, .inl (E.2 0, 64, .inl pl)), (ad 11, .inl (E.2 0, 8, .inl td2_31)), (ad 13, .inl (E.2 0, 8, .inl rw_)), (ad 14, .inl (E.2 0, 8, .inl be)), (ad 17, .inl (E.2 0, 8, .inl wo))] _ := hP
      replace hD : va_D A [(ad 30, .inr (6, [.ref (ad 0), .ref (ad 1), .int im, .ref (ad 3), .int at_, .int op, .int st_, .int us, .ref (ad 8), .ref (ad 9), .ref (ad 10), .ref (ad 11), .ref (ad 12), .ref (ad 13), .ref (ad 14), .int bn, .int bm, .ref (ad 17), .int la, .int fo, .int fi, .int lp, .ref (ad 22), .int tr_, .int sp, .int ip, .ref (ad 26), .ref (ad 27), .ref (ad 28), .ref (ad 29)])), (ad 3, .inl (E.2 0, 7, .inl er)), (ad 9, .inl (E.2 0, 128, .inl nmd)), (ad 10, .inl (E.2 0, 64, .inl pl)), (ad 11, .inl (E.2 0, 8, .inl td2_31)), (ad 13, .inl (E.2 0, 8, .inl rw_)), (ad 14, .inl (E.2 0, 8, .inl be)), (ad 17, .inl (E.2 0, 8, .inl wo))] := hD
      replace hq_31 : r_31 = nI (lackF bt sz nu sheet til (decide (1 ≠ 0)) 30) ∧ (lackF bt sz nu sheet til (decide (1 ≠ 0)) 30 = 0 → ∀ t, t < 8 → td2_31 t = shG sz nu (nn sheet) t) := hq_31
      refine fx_ti (show r_31 = nI (moreC bt sz nu sheet til ee wh) from hq_31.1.trans (congrArg nI hmc.symm)) ?_
      have hcl : moreC bt sz nu sheet til ee wh ≤ 4 := lackF_le
      refine lv_istore (lv' := [(5, .int (nI (moreC bt sz nu sheet til ee wh))), (0, .ref (ad 30)), (1, .int sheet), (2, .int til), (3, .int ee), (4, .int wh)]) hx hb dX6_more_34 hl (by decide) rfl (fun ls hl => ?_)
      refine lv_iload hx hb dX6_more_36 (lv_at hl 0 rfl) ?_
      refine lv_if_le (tgt := 48) hx hb dX6_more_38 (by decide) (fun c_38 => ?_) (fun c_38 => ?_)
      · -- jump 48
        have n_38 := fx_le1 (a := (moreC bt sz nu sheet til ee wh)) (b := 0) c_38 (by omega) (by omega)
        have h0 : moreC bt sz nu sheet til ee wh = 0 := by omega
        obtain ⟨hrow, hr9, hm30, hsh, htl⟩ := lack_row (hmc.symm.trans h0) (hq_31.2 (hmc.symm.trans h0))
        have ge := (inB_nn (n := 4) hb_6 (by omega)).2
        refine lv_aload_n hx hb dX6_more_48 rfl (lv_at hl 1 rfl) ?_
        refine lv_iload_n hx hb dX6_more_49 rfl (lv_at hl 3 rfl) ?_
        refine fx_ti (show til = nI (nn til) from htl.1) ?_
        refine lv_iload_n hx hb dX6_more_50 rfl (lv_at hl 4 rfl) ?_
        refine fx_ti (show ee = nI (nn ee) from (inB_nn (n := 4) hb_6 (by omega)).1) ?_
        refine fx_cv (va_runV (As := [.int (nI (nn til)), .int (nI (nn ee))]) (rest := []) X (mX6_seeks l E ad im at_ op st_ us bn bm la fo fi lp tr_ sp ip sa nmd pl td2_31 rw_ be wo (nn til) (nn ee) T T1 (rnG sz nu (nn sheet)) htl.2 (by first | assumption | omega) (by first | assumption | omega) (by first | assumption | omega) (fun i hi => ⟨(hrow i hi).1, hr9 i hi⟩) (by first | assumption | omega) (by first | assumption | omega) (by first | assumption | omega) (by omega) _) (cwV 2 X.2.2.2.2 (lw_V q1462 q1464 qs58 q75 q1465) rfl rfl rfl ⟨rfl, hdX6_seeks⟩ ⟨Nat.le_of_ble_eq_true rfl, Nat.le_of_ble_eq_true rfl⟩) (fx_preV (fx_pre hE hP hD hS hR [0, 2, 3, 5, 6, 7] rfl rfl (fx_rcr 0 rfl (fx_rcm 4 rfl (by decide) fx_rc0))) (va_recv hE.1 hP (ci := 6) (q0 := 0) rfl rfl)) rfl rfl hl.1 rfl (lv_room (Nat.le_of_ble_eq_true rfl)) dX6_more_51 ⟨Nat.le_refl _, Nat.le_refl _⟩) hP hD hS hA [0, 2, 3, 5, 6, 7] rfl rfl (fun u H locs hq_51 hP hD hS => ?_)
        obtain ⟨bn2_51, bm2_51, nm2_51, pl2_51, rw2_51, be2_51, wo2_51⟩ := u
        replace hP : va_P E.1 clA [(ad 30, .inr (6, [.ref (ad 0), .ref (ad 1), .int im, .ref (ad 3), .int at_, .int op, .int st_, .int us, .ref (ad 8), .ref (ad 9), .ref (ad 10), .ref (ad 11), .ref (ad 12), .ref (ad 13), .ref (ad 14), .int bn2_51, .int bm2_51, .ref (ad 17), .int la, .int fo, .int fi, .int lp, .ref (ad 22), .int tr_, .int sp, .int ip, .ref (ad 26), .ref (ad 27), .ref (ad 28), .ref (ad 29)])), (ad 3, .inl (E.2 0, 7, .inl er)), (ad 9, .inl (E.2 0, 128, .inl nm2_51)), (ad 10, .inl (E.2 0, 64, .inl pl2_51)), (ad 11, .inl (E.2 0, 8, .inl td2_31)), (ad 13, .inl (E.2 0, 8, .inl rw2_51)), (ad 14, .inl (E.2 0, 8, .inl be2_51)), (ad 17, .inl (E.2 0, 8, .inl wo2_51))] _ := hP
        replace hD : va_D A [(ad 30, .inr (6, [.ref (ad 0), .ref (ad 1), .int im, .ref (ad 3), .int at_, .int op, .int st_, .int us, .ref (ad 8), .ref (ad 9), .ref (ad 10), .ref (ad 11), .ref (ad 12), .ref (ad 13), .ref (ad 14), .int bn2_51, .int bm2_51, .ref (ad 17), .int la, .int fo, .int fi, .int lp, .ref (ad 22), .int tr_, .int sp, .int ip, .ref (ad 26), .ref (ad 27), .ref (ad 28), .ref (ad 29)])), (ad 3, .inl (E.2 0, 7, .inl er)), (ad 9, .inl (E.2 0, 128, .inl nm2_51)), (ad 10, .inl (E.2 0, 64, .inl pl2_51)), (ad 11, .inl (E.2 0, 8, .inl td2_31)), (ad 13, .inl (E.2 0, 8, .inl rw2_51)), (ad 14, .inl (E.2 0, 8, .inl be2_51)), (ad 17, .inl (E.2 0, 8, .inl wo2_51))] := hD
        replace hq_51 : bn2_51 = (seekF sa T T1 (nn til) (rnG sz nu (nn sheet)) (nn ee)).2.1 ∧ (∀ i, i < 8 → be2_51 i = nI ((rnG sz nu (nn sheet)) i + (seekF sa T T1 (nn til) (rnG sz nu (nn sheet)) (nn ee)).2.2 i)) := hq_51
        refine lv_iload hx hb dX6_more_54 (lv_at hl 5 rfl) ?_
        refine lv_bipush (v := (-2)) hx hb dX6_more_56 rfl ?_
        refine lv_icmp_ne (tgt := 68) hx hb dX6_more_58 (by decide) (fun c_58 => ?_) (fun c_58 => ?_)
        · -- jump 68
          refine lv_iload hx hb dX6_more_68 (lv_at hl 5 rfl) ?_
          refine lv_iconst (v := (-1)) hx hb dX6_more_70 rfl ?_
          refine lv_icmp_ne (tgt := 86) hx hb dX6_more_71 (by decide) (fun c_71 => ?_) (fun c_71 => ?_)
          · -- jump 86
            refine lv_aload_n hx hb dX6_more_86 rfl (lv_at hl 1 rfl) ?_
            refine fx_get X hE hP 0 rfl rfl 14 rfl q1182 rfl rfl dX6_more_87 ?_
            have gw := wh_nat hb_18 c_58 c_71
            refine lv_iload hx hb dX6_more_90 (lv_at hl 5 rfl) ?_
            refine fx_ti (show wh = nI (nn wh) from gw.1) ?_
            have gw2 := gw.2
            refine fx_iald X hE hP 6 rfl (nn wh) rfl (by omega) rfl dX6_more_92 ?_
            refine fx_ti (show (be2_51 (nn wh)) = nI (rnG sz nu (nn sheet) (nn wh) + (seekF sa T T1 (nn til) (rnG sz nu (nn sheet)) (nn ee)).2.2 (nn wh)) from hq_51.2 _ (by omega)) ?_
            refine lv_aload_n hx hb dX6_more_93 rfl (lv_at hl 1 rfl) ?_
            refine fx_get X hE hP 0 rfl rfl 11 rfl q1179 rfl rfl dX6_more_94 ?_
            refine lv_iload hx hb dX6_more_97 (lv_at hl 5 rfl) ?_
            refine fx_ti (show wh = nI (nn wh) from gw.1) ?_
            refine fx_iald X hE hP 4 rfl (nn wh) rfl (by omega) rfl dX6_more_99 ?_
            refine fx_ti (show (td2_31 (nn wh)) = nI (rnG sz nu (nn sheet) (nn wh)) from (hrow _ (by omega)).1) ?_
            refine lv_isub hx hb dX6_more_100 ?_
            refine fx_ti (pk_sub (a := rnG sz nu (nn sheet) (nn wh) + (seekF sa T T1 (nn til) (rnG sz nu (nn sheet)) (nn ee)).2.2 (nn wh)) (b := rnG sz nu (nn sheet) (nn wh)) (by omega)) ?_
            exact hret (nI (rnG sz nu (nn sheet) (nn wh) + (seekF sa T T1 (nn til) (rnG sz nu (nn sheet)) (nn ee)).2.2 (nn wh) - (rnG sz nu (nn sheet) (nn wh)))) (bn2_51, bm2_51, er, nm2_51, pl2_51, td2_31, rw2_51, be2_51, wo2_51) (by simp only [more_, h0, eR_0, eE_0, moreR, if_neg c_58, if_neg c_71]; rw [Nat.add_sub_cancel_left]) (rfl) hP hD hS (Nat.le_refl _) (Nat.le_refl _) dX6_more_101
          · -- fall 74
            refine lv_aload_n hx hb dX6_more_74 rfl (lv_at hl 1 rfl) ?_
            refine lv_iload_n hx hb dX6_more_75 rfl (lv_at hl 3 rfl) ?_
            refine fx_ti (show til = nI (nn til) from htl.1) ?_
            refine lv_aload_n hx hb dX6_more_76 rfl (lv_at hl 1 rfl) ?_
            refine fx_get X hE hP 0 rfl rfl 14 rfl q1182 rfl rfl dX6_more_77 ?_
            refine fx_ci (va_runV (As := [.int (nI (nn til)), .ref (ad 14)]) (rest := []) X (mX6_paidI l E ad im at_ op st_ us bn2_51 bm2_51 la fo fi lp tr_ sp ip sa nm2_51 pl2_51 (ad 14) be2_51 (nn til) T (fun i => rnG sz nu (nn sheet) i + (seekF sa T T1 (nn til) (rnG sz nu (nn sheet)) (nn ee)).2.2 i) htl.2 (by first | assumption | omega) (by first | assumption | omega) (by first | assumption | omega) (fun i hi => ⟨hq_51.2 i hi, by have := hr9 i hi; have := seekF_le (sa := sa) (T := T) (T1 := T1) (k := nn til) (e := nn ee) (rn := rnG sz nu (nn sheet)) i; omega⟩) _) (cwV 2 X.2.2.2.2 (lw_V q1428 q1430 qs54 q75 q1431) rfl rfl rfl ⟨rfl, hdX6_paid⟩ ⟨Nat.le_of_ble_eq_true rfl, Nat.le_of_ble_eq_true rfl⟩) (fx_preV (fx_pre hE hP hD hS hR [2, 3] rfl rfl (fx_rcm 0 rfl (by decide) (fx_rcr 0 rfl (fx_rcm 6 rfl (by decide) fx_rc0)))) (va_recv hE.1 hP (ci := 6) (q0 := 0) rfl rfl)) rfl rfl hl.1 rfl (lv_room (Nat.le_of_ble_eq_true rfl)) dX6_more_80 ⟨Nat.le_refl _, Nat.le_refl _⟩) hP hD hS hA [2, 3] rfl rfl (fun r_80 u H locs hq_80 hP hD hS => ?_)
            obtain ⟨nm2_80, pl2_80⟩ := u
            replace hP : va_P E.1 clA [(ad 30, .inr (6, [.ref (ad 0), .ref (ad 1), .int im, .ref (ad 3), .int at_, .int op, .int st_, .int us, .ref (ad 8), .ref (ad 9), .ref (ad 10), .ref (ad 11), .ref (ad 12), .ref (ad 13), .ref (ad 14), .int bn2_51, .int bm2_51, .ref (ad 17), .int la, .int fo, .int fi, .int lp, .ref (ad 22), .int tr_, .int sp, .int ip, .ref (ad 26), .ref (ad 27), .ref (ad 28), .ref (ad 29)])), (ad 3, .inl (E.2 0, 7, .inl er)), (ad 9, .inl (E.2 0, 128, .inl nm2_80)), (ad 10, .inl (E.2 0, 64, .inl pl2_80)), (ad 11, .inl (E.2 0, 8, .inl td2_31)), (ad 13, .inl (E.2 0, 8, .inl rw2_51)), (ad 14, .inl (E.2 0, 8, .inl be2_51)), (ad 17, .inl (E.2 0, 8, .inl wo2_51))] _ := hP
            replace hD : va_D A [(ad 30, .inr (6, [.ref (ad 0), .ref (ad 1), .int im, .ref (ad 3), .int at_, .int op, .int st_, .int us, .ref (ad 8), .ref (ad 9), .ref (ad 10), .ref (ad 11), .ref (ad 12), .ref (ad 13), .ref (ad 14), .int bn2_51, .int bm2_51, .ref (ad 17), .int la, .int fo, .int fi, .int lp, .ref (ad 22), .int tr_, .int sp, .int ip, .ref (ad 26), .ref (ad 27), .ref (ad 28), .ref (ad 29)])), (ad 3, .inl (E.2 0, 7, .inl er)), (ad 9, .inl (E.2 0, 128, .inl nm2_80)), (ad 10, .inl (E.2 0, 64, .inl pl2_80)), (ad 11, .inl (E.2 0, 8, .inl td2_31)), (ad 13, .inl (E.2 0, 8, .inl rw2_51)), (ad 14, .inl (E.2 0, 8, .inl be2_51)), (ad 17, .inl (E.2 0, 8, .inl wo2_51))] := hD
            replace hq_80 : r_80 = paysF sa T (fun i => rnG sz nu (nn sheet) i + (seekF sa T T1 (nn til) (rnG sz nu (nn sheet)) (nn ee)).2.2 i) (nn til) := hq_80
            refine lv_goto (tgt := 101) hx hb dX6_more_83 (by decide) ?_
            exact hret r_80 (bn2_51, bm2_51, er, nm2_80, pl2_80, td2_31, rw2_51, be2_51, wo2_51) (by simp only [more_, h0, eR_0, eE_0, moreR, if_neg c_58, if_pos c_71]; rw [hq_80]) (rfl) hP hD hS (Nat.le_refl _) (Nat.le_refl _) dX6_more_101
        · -- fall 61
          refine lv_aload_n hx hb dX6_more_61 rfl (lv_at hl 1 rfl) ?_
          refine fx_get X hE hP 0 rfl rfl 15 rfl q1183 rfl rfl dX6_more_62 ?_
          refine lv_goto (tgt := 101) hx hb dX6_more_65 (by decide) ?_
          exact hret bn2_51 (bn2_51, bm2_51, er, nm2_51, pl2_51, td2_31, rw2_51, be2_51, wo2_51) (by simp only [more_, h0, eR_0, eE_0, moreR, if_pos c_58]; rw [hq_51.1]) (rfl) hP hD hS (Nat.le_refl _) (Nat.le_refl _) dX6_more_101
      · -- fall 41
        have n_38 := fx_le0 (a := (moreC bt sz nu sheet til ee wh)) (b := 0) c_38 (by omega) (by omega)
        refine lv_aload_n hx hb dX6_more_41 rfl (lv_at hl 1 rfl) ?_
        refine lv_iload hx hb dX6_more_42 (lv_at hl 0 rfl) ?_
        refine fx_ci (va_runV (As := [.int (nI (moreC bt sz nu sheet til ee wh))]) (rest := []) X (mX6_error l E ad im at_ op st_ us bn bm la fo fi lp tr_ sp ip er (moreC bt sz nu sheet til ee wh) (by omega) _) (cwV 1 X.2.2.2.2 (lw_V q1266 q1268 qs32 q75 q1269) rfl rfl rfl ⟨rfl, hdX6_error⟩ ⟨Nat.le_of_ble_eq_true rfl, Nat.le_of_ble_eq_true rfl⟩) (fx_preV (fx_pre hE hP hD hS hR [1] rfl rfl (fx_rcm 0 rfl (by decide) fx_rc0)) (va_recv hE.1 hP (ci := 6) (q0 := 0) rfl rfl)) rfl rfl hl.1 rfl (lv_room (Nat.le_of_ble_eq_true rfl)) dX6_more_44 ⟨Nat.le_refl _, Nat.le_refl _⟩) hP hD hS hA [1] rfl rfl (fun r_44 u H locs hq_44 hP hD hS => ?_)
        replace hP : va_P E.1 clA [(ad 30, .inr (6, [.ref (ad 0), .ref (ad 1), .int im, .ref (ad 3), .int at_, .int op, .int st_, .int us, .ref (ad 8), .ref (ad 9), .ref (ad 10), .ref (ad 11), .ref (ad 12), .ref (ad 13), .ref (ad 14), .int bn, .int bm, .ref (ad 17), .int la, .int fo, .int fi, .int lp, .ref (ad 22), .int tr_, .int sp, .int ip, .ref (ad 26), .ref (ad 27), .ref (ad 28), .ref (ad 29)])), (ad 3, .inl (E.2 0, 7, .inl (upd er (moreC bt sz nu sheet til ee wh) (er (moreC bt sz nu sheet til ee wh) + 1)))), (ad 9, .inl (E.2 0, 128, .inl nmd)), (ad 10, .inl (E.2 0, 64, .inl pl)), (ad 11, .inl (E.2 0, 8, .inl td2_31)), (ad 13, .inl (E.2 0, 8, .inl rw_)), (ad 14, .inl (E.2 0, 8, .inl be)), (ad 17, .inl (E.2 0, 8, .inl wo))] _ := hP
        replace hD : va_D A [(ad 30, .inr (6, [.ref (ad 0), .ref (ad 1), .int im, .ref (ad 3), .int at_, .int op, .int st_, .int us, .ref (ad 8), .ref (ad 9), .ref (ad 10), .ref (ad 11), .ref (ad 12), .ref (ad 13), .ref (ad 14), .int bn, .int bm, .ref (ad 17), .int la, .int fo, .int fi, .int lp, .ref (ad 22), .int tr_, .int sp, .int ip, .ref (ad 26), .ref (ad 27), .ref (ad 28), .ref (ad 29)])), (ad 3, .inl (E.2 0, 7, .inl (upd er (moreC bt sz nu sheet til ee wh) (er (moreC bt sz nu sheet til ee wh) + 1)))), (ad 9, .inl (E.2 0, 128, .inl nmd)), (ad 10, .inl (E.2 0, 64, .inl pl)), (ad 11, .inl (E.2 0, 8, .inl td2_31)), (ad 13, .inl (E.2 0, 8, .inl rw_)), (ad 14, .inl (E.2 0, 8, .inl be)), (ad 17, .inl (E.2 0, 8, .inl wo))] := hD
        replace hq_44 : r_44 = erv (moreC bt sz nu sheet til ee wh) := hq_44
        exact hret r_44 (bn, bm, (upd er (moreC bt sz nu sheet til ee wh) (er (moreC bt sz nu sheet til ee wh) + 1)), nmd, pl, td2_31, rw_, be, wo) (by rw [hq_44]; simp [more_, eR_p n_38, eE_p n_38, erI]) (rfl) hP hD hS (Nat.le_refl _) (Nat.le_refl _) dX6_more_47
    · -- False
      subst hr_18
      have hmc : moreC bt sz nu sheet til ee wh = lackF bt sz nu sheet til false 30 := by rw [moreC, Bool.eq_false_iff.2 hb_18, Bool.and_false]
      refine lv_if_eq (tgt := 28) hx hb dX6_more_21 (by decide) (fun _ => ?_) (fun c => (c (by decide)).elim)
      refine lv_iconst (v := 0) hx hb dX6_more_28 rfl ?_
      refine lv_bipush (v := 30) hx hb dX6_more_29 rfl ?_
      refine fx_ci (va_runV (As := [.int sheet, .int til, .int 0, .int 30]) (rest := []) X (mX6_lacks l E ad im at_ op st_ us bn bm la fo fi lp tr_ sp ip bt sz nu td sheet til 0 30 (by first | assumption | omega) (by decide) _) (cwV 4 X.2.2.2.2 (lw_V q1402 q1404 qs50 q75 q1405) rfl rfl rfl ⟨rfl, hdX6_lacks⟩ ⟨Nat.le_of_ble_eq_true rfl, Nat.le_of_ble_eq_true rfl⟩) (fx_preV (fx_pre hE hP hD hS hR [4] rfl rfl (fx_rcm 0 rfl (by decide) (fx_rcr 1 rfl (fx_rcr 2 rfl (fx_rcr 3 rfl fx_rc0))))) (va_recv hE.1 hP (ci := 6) (q0 := 0) rfl rfl)) rfl rfl hl.1 rfl (lv_room (Nat.le_of_ble_eq_true rfl)) dX6_more_31 ⟨Nat.le_refl _, Nat.le_refl _⟩) hP hD hS hA [4] rfl rfl (fun r_31 u H locs hq_31 hP hD hS => ?_)
      obtain ⟨td2_31, rfl⟩ : ∃ z, z = u := ⟨_, rfl⟩
      replace hP : va_P E.1 clA [(ad 30, .inr (6, [.ref (ad 0), .ref (ad 1), .int im, .ref (ad 3), .int at_, .int op, .int st_, .int us, .ref (ad 8), .ref (ad 9), .ref (ad 10), .ref (ad 11), .ref (ad 12), .ref (ad 13), .ref (ad 14), .int bn, .int bm, .ref (ad 17), .int la, .int fo, .int fi, .int lp, .ref (ad 22), .int tr_, .int sp, .int ip, .ref (ad 26), .ref (ad 27), .ref (ad 28), .ref (ad 29)])), (ad 3, .inl (E.2 0, 7, .inl er)), (ad 9, .inl (E.2 0, 128, .inl nmd)), (ad 10, .inl (E.2 0, 64, .inl pl)), (ad 11, .inl (E.2 0, 8, .inl td2_31)), (ad 13, .inl (E.2 0, 8, .inl rw_)), (ad 14, .inl (E.2 0, 8, .inl be)), (ad 17, .inl (E.2 0, 8, .inl wo))] _ := hP
      replace hD : va_D A [(ad 30, .inr (6, [.ref (ad 0), .ref (ad 1), .int im, .ref (ad 3), .int at_, .int op, .int st_, .int us, .ref (ad 8), .ref (ad 9), .ref (ad 10), .ref (ad 11), .ref (ad 12), .ref (ad 13), .ref (ad 14), .int bn, .int bm, .ref (ad 17), .int la, .int fo, .int fi, .int lp, .ref (ad 22), .int tr_, .int sp, .int ip, .ref (ad 26), .ref (ad 27), .ref (ad 28), .ref (ad 29)])), (ad 3, .inl (E.2 0, 7, .inl er)), (ad 9, .inl (E.2 0, 128, .inl nmd)), (ad 10, .inl (E.2 0, 64, .inl pl)), (ad 11, .inl (E.2 0, 8, .inl td2_31)), (ad 13, .inl (E.2 0, 8, .inl rw_)), (ad 14, .inl (E.2 0, 8, .inl be)), (ad 17, .inl (E.2 0, 8, .inl wo))] := hD
      replace hq_31 : r_31 = nI (lackF bt sz nu sheet til (decide (0 ≠ 0)) 30) ∧ (lackF bt sz nu sheet til (decide (0 ≠ 0)) 30 = 0 → ∀ t, t < 8 → td2_31 t = shG sz nu (nn sheet) t) := hq_31
      refine fx_ti (show r_31 = nI (moreC bt sz nu sheet til ee wh) from hq_31.1.trans (congrArg nI hmc.symm)) ?_
      have hcl : moreC bt sz nu sheet til ee wh ≤ 4 := lackF_le
      refine lv_istore (lv' := [(5, .int (nI (moreC bt sz nu sheet til ee wh))), (0, .ref (ad 30)), (1, .int sheet), (2, .int til), (3, .int ee), (4, .int wh)]) hx hb dX6_more_34 hl (by decide) rfl (fun ls hl => ?_)
      refine lv_iload hx hb dX6_more_36 (lv_at hl 0 rfl) ?_
      refine lv_if_le (tgt := 48) hx hb dX6_more_38 (by decide) (fun c_38 => ?_) (fun c_38 => ?_)
      · -- jump 48
        have n_38 := fx_le1 (a := (moreC bt sz nu sheet til ee wh)) (b := 0) c_38 (by omega) (by omega)
        have h0 : moreC bt sz nu sheet til ee wh = 0 := by omega
        exact absurd h0 (by rw [hmc]; simp [lackF])
      · -- fall 41
        have n_38 := fx_le0 (a := (moreC bt sz nu sheet til ee wh)) (b := 0) c_38 (by omega) (by omega)
        refine lv_aload_n hx hb dX6_more_41 rfl (lv_at hl 1 rfl) ?_
        refine lv_iload hx hb dX6_more_42 (lv_at hl 0 rfl) ?_
        refine fx_ci (va_runV (As := [.int (nI (moreC bt sz nu sheet til ee wh))]) (rest := []) X (mX6_error l E ad im at_ op st_ us bn bm la fo fi lp tr_ sp ip er (moreC bt sz nu sheet til ee wh) (by omega) _) (cwV 1 X.2.2.2.2 (lw_V q1266 q1268 qs32 q75 q1269) rfl rfl rfl ⟨rfl, hdX6_error⟩ ⟨Nat.le_of_ble_eq_true rfl, Nat.le_of_ble_eq_true rfl⟩) (fx_preV (fx_pre hE hP hD hS hR [1] rfl rfl (fx_rcm 0 rfl (by decide) fx_rc0)) (va_recv hE.1 hP (ci := 6) (q0 := 0) rfl rfl)) rfl rfl hl.1 rfl (lv_room (Nat.le_of_ble_eq_true rfl)) dX6_more_44 ⟨Nat.le_refl _, Nat.le_refl _⟩) hP hD hS hA [1] rfl rfl (fun r_44 u H locs hq_44 hP hD hS => ?_)
        replace hP : va_P E.1 clA [(ad 30, .inr (6, [.ref (ad 0), .ref (ad 1), .int im, .ref (ad 3), .int at_, .int op, .int st_, .int us, .ref (ad 8), .ref (ad 9), .ref (ad 10), .ref (ad 11), .ref (ad 12), .ref (ad 13), .ref (ad 14), .int bn, .int bm, .ref (ad 17), .int la, .int fo, .int fi, .int lp, .ref (ad 22), .int tr_, .int sp, .int ip, .ref (ad 26), .ref (ad 27), .ref (ad 28), .ref (ad 29)])), (ad 3, .inl (E.2 0, 7, .inl (upd er (moreC bt sz nu sheet til ee wh) (er (moreC bt sz nu sheet til ee wh) + 1)))), (ad 9, .inl (E.2 0, 128, .inl nmd)), (ad 10, .inl (E.2 0, 64, .inl pl)), (ad 11, .inl (E.2 0, 8, .inl td2_31)), (ad 13, .inl (E.2 0, 8, .inl rw_)), (ad 14, .inl (E.2 0, 8, .inl be)), (ad 17, .inl (E.2 0, 8, .inl wo))] _ := hP
        replace hD : va_D A [(ad 30, .inr (6, [.ref (ad 0), .ref (ad 1), .int im, .ref (ad 3), .int at_, .int op, .int st_, .int us, .ref (ad 8), .ref (ad 9), .ref (ad 10), .ref (ad 11), .ref (ad 12), .ref (ad 13), .ref (ad 14), .int bn, .int bm, .ref (ad 17), .int la, .int fo, .int fi, .int lp, .ref (ad 22), .int tr_, .int sp, .int ip, .ref (ad 26), .ref (ad 27), .ref (ad 28), .ref (ad 29)])), (ad 3, .inl (E.2 0, 7, .inl (upd er (moreC bt sz nu sheet til ee wh) (er (moreC bt sz nu sheet til ee wh) + 1)))), (ad 9, .inl (E.2 0, 128, .inl nmd)), (ad 10, .inl (E.2 0, 64, .inl pl)), (ad 11, .inl (E.2 0, 8, .inl td2_31)), (ad 13, .inl (E.2 0, 8, .inl rw_)), (ad 14, .inl (E.2 0, 8, .inl be)), (ad 17, .inl (E.2 0, 8, .inl wo))] := hD
        replace hq_44 : r_44 = erv (moreC bt sz nu sheet til ee wh) := hq_44
        exact hret r_44 (bn, bm, (upd er (moreC bt sz nu sheet til ee wh) (er (moreC bt sz nu sheet til ee wh) + 1)), nmd, pl, td2_31, rw_, be, wo) (by rw [hq_44]; simp [more_, eR_p n_38, eE_p n_38, erI]) (rfl) hP hD hS (Nat.le_refl _) (Nat.le_refl _) dX6_more_47
  · -- False
    subst hr_6
    have hmc : moreC bt sz nu sheet til ee wh = lackF bt sz nu sheet til false 30 := by rw [moreC, Bool.eq_false_iff.2 hb_6, Bool.false_and]
    refine lv_if_eq (tgt := 28) hx hb dX6_more_9 (by decide) (fun _ => ?_) (fun c => (c (by decide)).elim)
    refine lv_iconst (v := 0) hx hb dX6_more_28 rfl ?_
    refine lv_bipush (v := 30) hx hb dX6_more_29 rfl ?_
    refine fx_ci (va_runV (As := [.int sheet, .int til, .int 0, .int 30]) (rest := []) X (mX6_lacks l E ad im at_ op st_ us bn bm la fo fi lp tr_ sp ip bt sz nu td sheet til 0 30 (by first | assumption | omega) (by decide) _) (cwV 4 X.2.2.2.2 (lw_V q1402 q1404 qs50 q75 q1405) rfl rfl rfl ⟨rfl, hdX6_lacks⟩ ⟨Nat.le_of_ble_eq_true rfl, Nat.le_of_ble_eq_true rfl⟩) (fx_preV (fx_pre hE hP hD hS hR [4] rfl rfl (fx_rcm 0 rfl (by decide) (fx_rcr 1 rfl (fx_rcr 2 rfl (fx_rcr 3 rfl fx_rc0))))) (va_recv hE.1 hP (ci := 6) (q0 := 0) rfl rfl)) rfl rfl hl.1 rfl (lv_room (Nat.le_of_ble_eq_true rfl)) dX6_more_31 ⟨Nat.le_refl _, Nat.le_refl _⟩) hP hD hS hA [4] rfl rfl (fun r_31 u H locs hq_31 hP hD hS => ?_)
    obtain ⟨td2_31, rfl⟩ : ∃ z, z = u := ⟨_, rfl⟩
    replace hP : va_P E.1 clA [(ad 30, .inr (6, [.ref (ad 0), .ref (ad 1), .int im, .ref (ad 3), .int at_, .int op, .int st_, .int us, .ref (ad 8), .ref (ad 9), .ref (ad 10), .ref (ad 11), .ref (ad 12), .ref (ad 13), .ref (ad 14), .int bn, .int bm, .ref (ad 17), .int la, .int fo, .int fi, .int lp, .ref (ad 22), .int tr_, .int sp, .int ip, .ref (ad 26), .ref (ad 27), .ref (ad 28), .ref (ad 29)])), (ad 3, .inl (E.2 0, 7, .inl er)), (ad 9, .inl (E.2 0, 128, .inl nmd)), (ad 10, .inl (E.2 0, 64, .inl pl)), (ad 11, .inl (E.2 0, 8, .inl td2_31)), (ad 13, .inl (E.2 0, 8, .inl rw_)), (ad 14, .inl (E.2 0, 8, .inl be)), (ad 17, .inl (E.2 0, 8, .inl wo))] _ := hP
    replace hD : va_D A [(ad 30, .inr (6, [.ref (ad 0), .ref (ad 1), .int im, .ref (ad 3), .int at_, .int op, .int st_, .int us, .ref (ad 8), .ref (ad 9), .ref (ad 10), .ref (ad 11), .ref (ad 12), .ref (ad 13), .ref (ad 14), .int bn, .int bm, .ref (ad 17), .int la, .int fo, .int fi, .int lp, .ref (ad 22), .int tr_, .int sp, .int ip, .ref (ad 26), .ref (ad 27), .ref (ad 28), .ref (ad 29)])), (ad 3, .inl (E.2 0, 7, .inl er)), (ad 9, .inl (E.2 0, 128, .inl nmd)), (ad 10, .inl (E.2 0, 64, .inl pl)), (ad 11, .inl (E.2 0, 8, .inl td2_31)), (ad 13, .inl (E.2 0, 8, .inl rw_)), (ad 14, .inl (E.2 0, 8, .inl be)), (ad 17, .inl (E.2 0, 8, .inl wo))] := hD
    replace hq_31 : r_31 = nI (lackF bt sz nu sheet til (decide (0 ≠ 0)) 30) ∧ (lackF bt sz nu sheet til (decide (0 ≠ 0)) 30 = 0 → ∀ t, t < 8 → td2_31 t = shG sz nu (nn sheet) t) := hq_31
    refine fx_ti (show r_31 = nI (moreC bt sz nu sheet til ee wh) from hq_31.1.trans (congrArg nI hmc.symm)) ?_
    have hcl : moreC bt sz nu sheet til ee wh ≤ 4 := lackF_le
    refine lv_istore (lv' := [(5, .int (nI (moreC bt sz nu sheet til ee wh))), (0, .ref (ad 30)), (1, .int sheet), (2, .int til), (3, .int ee), (4, .int wh)]) hx hb dX6_more_34 hl (by decide) rfl (fun ls hl => ?_)
    refine lv_iload hx hb dX6_more_36 (lv_at hl 0 rfl) ?_
    refine lv_if_le (tgt := 48) hx hb dX6_more_38 (by decide) (fun c_38 => ?_) (fun c_38 => ?_)
    · -- jump 48
      have n_38 := fx_le1 (a := (moreC bt sz nu sheet til ee wh)) (b := 0) c_38 (by omega) (by omega)
      have h0 : moreC bt sz nu sheet til ee wh = 0 := by omega
      exact absurd h0 (by rw [hmc]; simp [lackF])
    · -- fall 41
      have n_38 := fx_le0 (a := (moreC bt sz nu sheet til ee wh)) (b := 0) c_38 (by omega) (by omega)
      refine lv_aload_n hx hb dX6_more_41 rfl (lv_at hl 1 rfl) ?_
      refine lv_iload hx hb dX6_more_42 (lv_at hl 0 rfl) ?_
      refine fx_ci (va_runV (As := [.int (nI (moreC bt sz nu sheet til ee wh))]) (rest := []) X (mX6_error l E ad im at_ op st_ us bn bm la fo fi lp tr_ sp ip er (moreC bt sz nu sheet til ee wh) (by omega) _) (cwV 1 X.2.2.2.2 (lw_V q1266 q1268 qs32 q75 q1269) rfl rfl rfl ⟨rfl, hdX6_error⟩ ⟨Nat.le_of_ble_eq_true rfl, Nat.le_of_ble_eq_true rfl⟩) (fx_preV (fx_pre hE hP hD hS hR [1] rfl rfl (fx_rcm 0 rfl (by decide) fx_rc0)) (va_recv hE.1 hP (ci := 6) (q0 := 0) rfl rfl)) rfl rfl hl.1 rfl (lv_room (Nat.le_of_ble_eq_true rfl)) dX6_more_44 ⟨Nat.le_refl _, Nat.le_refl _⟩) hP hD hS hA [1] rfl rfl (fun r_44 u H locs hq_44 hP hD hS => ?_)
      replace hP : va_P E.1 clA [(ad 30, .inr (6, [.ref (ad 0), .ref (ad 1), .int im, .ref (ad 3), .int at_, .int op, .int st_, .int us, .ref (ad 8), .ref (ad 9), .ref (ad 10), .ref (ad 11), .ref (ad 12), .ref (ad 13), .ref (ad 14), .int bn, .int bm, .ref (ad 17), .int la, .int fo, .int fi, .int lp, .ref (ad 22), .int tr_, .int sp, .int ip, .ref (ad 26), .ref (ad 27), .ref (ad 28), .ref (ad 29)])), (ad 3, .inl (E.2 0, 7, .inl (upd er (moreC bt sz nu sheet til ee wh) (er (moreC bt sz nu sheet til ee wh) + 1)))), (ad 9, .inl (E.2 0, 128, .inl nmd)), (ad 10, .inl (E.2 0, 64, .inl pl)), (ad 11, .inl (E.2 0, 8, .inl td2_31)), (ad 13, .inl (E.2 0, 8, .inl rw_)), (ad 14, .inl (E.2 0, 8, .inl be)), (ad 17, .inl (E.2 0, 8, .inl wo))] _ := hP
      replace hD : va_D A [(ad 30, .inr (6, [.ref (ad 0), .ref (ad 1), .int im, .ref (ad 3), .int at_, .int op, .int st_, .int us, .ref (ad 8), .ref (ad 9), .ref (ad 10), .ref (ad 11), .ref (ad 12), .ref (ad 13), .ref (ad 14), .int bn, .int bm, .ref (ad 17), .int la, .int fo, .int fi, .int lp, .ref (ad 22), .int tr_, .int sp, .int ip, .ref (ad 26), .ref (ad 27), .ref (ad 28), .ref (ad 29)])), (ad 3, .inl (E.2 0, 7, .inl (upd er (moreC bt sz nu sheet til ee wh) (er (moreC bt sz nu sheet til ee wh) + 1)))), (ad 9, .inl (E.2 0, 128, .inl nmd)), (ad 10, .inl (E.2 0, 64, .inl pl)), (ad 11, .inl (E.2 0, 8, .inl td2_31)), (ad 13, .inl (E.2 0, 8, .inl rw_)), (ad 14, .inl (E.2 0, 8, .inl be)), (ad 17, .inl (E.2 0, 8, .inl wo))] := hD
      replace hq_44 : r_44 = erv (moreC bt sz nu sheet til ee wh) := hq_44
      exact hret r_44 (bn, bm, (upd er (moreC bt sz nu sheet til ee wh) (er (moreC bt sz nu sheet til ee wh) + 1)), nmd, pl, td2_31, rw_, be, wo) (by rw [hq_44]; simp [more_, eR_p n_38, eE_p n_38, erI]) (rfl) hP hD hS (Nat.le_refl _) (Nat.le_refl _) dX6_more_47
abbrev rmX6_parts (d : Nat) : Room := { frames := d + 10, cells := 0, slots := 0, locals := 23 * d + 400 }
set_option maxHeartbeats 1000000 in
set_option maxRecDepth 100000 in
theorem mX6_parts (l : Launch) (E : fx_En) : ∀ (d : Nat) (ad : Nat → Nat) (im : Int32) (at_ : Int32) (op : Int32) (st_ : Int32) (us : Int32) (bn : Int32) (bm : Int32) (la : Int32) (fo : Int32) (fi : Int32) (lp : Int32) (tr_ : Int32) (sp : Int32) (ip : Int32) (sa : Nat → Int32) (nmd : Nat → Int32) (pl : Nat → Int32) (td : Nat → Int32) (rw_ : Nat → Int32) (bs : Nat → Int32) (k : Nat) (T : Tx) (rn : Nat → Nat) (ex : Nat → Nat) (le : Nat) (mo : Nat) (hd : d ≤ 8) (hk : k < 4) (hI : Inv sa) (hT : TM sa 0 T) (hTo : TOk T) (htd : ∀ i, i < 8 → td i = nI (rn i) ∧ rn i ≤ 9) (hrw : ∀ i, i < 8 - d → rw_ i = nI (ex i) ∧ bs i = nI (rn i - ex i) ∧ ex i ≤ rn i), fx_Mv l yX6_parts cX6_parts 4 (rmX6_parts d) E [.ref (ad 30), .int (nI k), .int (nI (8 - d))] [(ad 30, .inr (6, [.ref (ad 0), .ref (ad 1), .int im, .ref (ad 3), .int at_, .int op, .int st_, .int us, .ref (ad 8), .ref (ad 9), .ref (ad 10), .ref (ad 11), .ref (ad 12), .ref (ad 13), .ref (ad 14), .int bn, .int bm, .ref (ad 17), .int la, .int fo, .int fi, .int lp, .ref (ad 22), .int tr_, .int sp, .int ip, .ref (ad 26), .ref (ad 27), .ref (ad 28), .ref (ad 29)])), (ad 9, .inl (E.2 0, 128, .inl nmd)), (ad 10, .inl (E.2 0, 64, .inl pl)), (ad 12, .inl (E.2 0, 8, .inl bs)), (ad 13, .inl (E.2 0, 8, .inl rw_))] [(ad 0, .inl (E.2 0, 374, .inl sa)), (ad 11, .inl (E.2 0, 8, .inl td))] (S := Int32 × (Nat → Int32) × (Nat → Int32) × (Nat → Int32) × (Nat → Int32)) (fun (u : Int32 × (Nat → Int32) × (Nat → Int32) × (Nat → Int32) × (Nat → Int32)) => [(ad 30, .inr (6, [.ref (ad 0), .ref (ad 1), .int im, .ref (ad 3), .int at_, .int op, .int st_, .int us, .ref (ad 8), .ref (ad 9), .ref (ad 10), .ref (ad 11), .ref (ad 12), .ref (ad 13), .ref (ad 14), .int bn, .int bm, .ref (ad 17), .int u.1, .int fo, .int fi, .int lp, .ref (ad 22), .int tr_, .int sp, .int ip, .ref (ad 26), .ref (ad 27), .ref (ad 28), .ref (ad 29)])), (ad 9, .inl (E.2 0, 128, .inl u.2.1)), (ad 10, .inl (E.2 0, 64, .inl u.2.2.1)), (ad 12, .inl (E.2 0, 8, .inl u.2.2.2.1)), (ad 13, .inl (E.2 0, 8, .inl u.2.2.2.2))]) (fun (u : Int32 × (Nat → Int32) × (Nat → Int32) × (Nat → Int32) × (Nat → Int32)) => u.1 = (enL (fun t _ => rn t) (lfP (partF sa T k rn)) d ex le mo la) ∧ (∀ i, i < 8 - d → u.2.2.2.2 i = rw_ i ∧ u.2.2.2.1 i = bs i)) := by
  intro d
  induction d with
  | zero =>
    intro ad im at_ op st_ us bn bm la fo fi lp tr_ sp ip sa nmd pl td rw_ bs k T rn ex le mo hd hk hI hT hTo htd hrw
    refine fx_vW rfl rfl ?_
    intro p e s m args below meth c A ls Q X hnm hE hP hD hR hA hl hret
    have hx := X.1
    have hb := X.2.1
    have hS : va_S A s.heap s.heap [] := va_S.rf
    replace hP : va_P E.1 clA [(ad 30, .inr (6, [.ref (ad 0), .ref (ad 1), .int im, .ref (ad 3), .int at_, .int op, .int st_, .int us, .ref (ad 8), .ref (ad 9), .ref (ad 10), .ref (ad 11), .ref (ad 12), .ref (ad 13), .ref (ad 14), .int bn, .int bm, .ref (ad 17), .int la, .int fo, .int fi, .int lp, .ref (ad 22), .int tr_, .int sp, .int ip, .ref (ad 26), .ref (ad 27), .ref (ad 28), .ref (ad 29)])), (ad 9, .inl (E.2 0, 128, .inl nmd)), (ad 10, .inl (E.2 0, 64, .inl pl)), (ad 12, .inl (E.2 0, 8, .inl bs)), (ad 13, .inl (E.2 0, 8, .inl rw_))] _ := hP
    replace hD : va_D A [(ad 30, .inr (6, [.ref (ad 0), .ref (ad 1), .int im, .ref (ad 3), .int at_, .int op, .int st_, .int us, .ref (ad 8), .ref (ad 9), .ref (ad 10), .ref (ad 11), .ref (ad 12), .ref (ad 13), .ref (ad 14), .int bn, .int bm, .ref (ad 17), .int la, .int fo, .int fi, .int lp, .ref (ad 22), .int tr_, .int sp, .int ip, .ref (ad 26), .ref (ad 27), .ref (ad 28), .ref (ad 29)])), (ad 9, .inl (E.2 0, 128, .inl nmd)), (ad 10, .inl (E.2 0, 64, .inl pl)), (ad 12, .inl (E.2 0, 8, .inl bs)), (ad 13, .inl (E.2 0, 8, .inl rw_))] := hD
    replace hl : lv_has ls 4 [(0, .ref (ad 30)), (1, .int (nI k)), (2, .int (nI (8 - 0)))] := hl
    refine lv_iload_n hx hb dX6_parts_0 rfl (lv_at hl 2 rfl) ?_
    refine lv_bipush (v := 8) hx hb dX6_parts_1 rfl ?_
    refine lv_icmp_ne (tgt := 55) hx hb dX6_parts_3 (by decide) (fun c_3 => (c_3 rfl).elim) (fun c_3 => ?_)
    have n_3 := fx_eq1 (a := (8 - 0)) (b := 8) c_3 (by omega) (by omega)
    refine lv_aload_n hx hb dX6_parts_6 rfl (lv_at hl 0 rfl) ?_
    refine lv_iload_n hx hb dX6_parts_7 rfl (lv_at hl 1 rfl) ?_
    refine lv_aload_n hx hb dX6_parts_8 rfl (lv_at hl 0 rfl) ?_
    refine fx_get X hE hP 0 rfl rfl 13 rfl q1181 rfl rfl dX6_parts_9 ?_
    refine fx_ci (va_runV (As := [.int (nI k), .ref (ad 13)]) (rest := []) X (mX6_paidI l E ad im at_ op st_ us bn bm la fo fi lp tr_ sp ip sa nmd pl (ad 13) rw_ k T ex (by first | assumption | omega) (by first | assumption | omega) (by first | assumption | omega) (by first | assumption | omega) (fun i hi => ⟨(hrw i hi).1, by have := (hrw i hi).2.2; have := (htd i hi).2; omega⟩) _) (cwV 2 X.2.2.2.2 (lw_V q1428 q1430 qs54 q75 q1431) rfl rfl rfl ⟨rfl, hdX6_paid⟩ ⟨Nat.le_of_ble_eq_true rfl, Nat.le_of_ble_eq_true rfl⟩) (fx_preV (fx_pre hE hP hD hS hR [1, 2] rfl rfl (fx_rcm 0 rfl (by decide) (fx_rcr 0 rfl (fx_rcm 4 rfl (by decide) fx_rc0)))) (va_recv hE.1 hP (ci := 6) (q0 := 0) rfl rfl)) rfl rfl hl.1 rfl (lv_room (Nat.le_of_ble_eq_true rfl)) dX6_parts_12 ⟨Nat.le_refl _, Nat.le_refl _⟩) hP hD hS hA [1, 2] rfl rfl (fun r_12 u H locs hq_12 hP hD hS => ?_)
    obtain ⟨nm2_12, pl2_12⟩ := u
    replace hP : va_P E.1 clA [(ad 30, .inr (6, [.ref (ad 0), .ref (ad 1), .int im, .ref (ad 3), .int at_, .int op, .int st_, .int us, .ref (ad 8), .ref (ad 9), .ref (ad 10), .ref (ad 11), .ref (ad 12), .ref (ad 13), .ref (ad 14), .int bn, .int bm, .ref (ad 17), .int la, .int fo, .int fi, .int lp, .ref (ad 22), .int tr_, .int sp, .int ip, .ref (ad 26), .ref (ad 27), .ref (ad 28), .ref (ad 29)])), (ad 9, .inl (E.2 0, 128, .inl nm2_12)), (ad 10, .inl (E.2 0, 64, .inl pl2_12)), (ad 12, .inl (E.2 0, 8, .inl bs)), (ad 13, .inl (E.2 0, 8, .inl rw_))] _ := hP
    replace hD : va_D A [(ad 30, .inr (6, [.ref (ad 0), .ref (ad 1), .int im, .ref (ad 3), .int at_, .int op, .int st_, .int us, .ref (ad 8), .ref (ad 9), .ref (ad 10), .ref (ad 11), .ref (ad 12), .ref (ad 13), .ref (ad 14), .int bn, .int bm, .ref (ad 17), .int la, .int fo, .int fi, .int lp, .ref (ad 22), .int tr_, .int sp, .int ip, .ref (ad 26), .ref (ad 27), .ref (ad 28), .ref (ad 29)])), (ad 9, .inl (E.2 0, 128, .inl nm2_12)), (ad 10, .inl (E.2 0, 64, .inl pl2_12)), (ad 12, .inl (E.2 0, 8, .inl bs)), (ad 13, .inl (E.2 0, 8, .inl rw_))] := hD
    replace hq_12 : r_12 = paysF sa T ex k := hq_12
    refine lv_aload_n hx hb dX6_parts_15 rfl (lv_at hl 0 rfl) ?_
    refine lv_iload_n hx hb dX6_parts_16 rfl (lv_at hl 1 rfl) ?_
    refine lv_aload_n hx hb dX6_parts_17 rfl (lv_at hl 0 rfl) ?_
    refine fx_get X hE hP 0 rfl rfl 12 rfl q1180 rfl rfl dX6_parts_18 ?_
    refine fx_ci (va_runV (As := [.int (nI k), .ref (ad 12)]) (rest := [.int r_12]) X (mX6_paidI l E ad im at_ op st_ us bn bm la fo fi lp tr_ sp ip sa nm2_12 pl2_12 (ad 12) bs k T (fun t => rn t - ex t) (by first | assumption | omega) (by first | assumption | omega) (by first | assumption | omega) (by first | assumption | omega) (fun i hi => ⟨(hrw i hi).2.1, by have := (htd i hi).2; omega⟩) _) (cwV 2 X.2.2.2.2 (lw_V q1428 q1430 qs54 q75 q1431) rfl rfl rfl ⟨rfl, hdX6_paid⟩ ⟨Nat.le_of_ble_eq_true rfl, Nat.le_of_ble_eq_true rfl⟩) (fx_preV (fx_pre hE hP hD hS hR [1, 2] rfl rfl (fx_rcm 0 rfl (by decide) (fx_rcr 0 rfl (fx_rcm 3 rfl (by decide) fx_rc0)))) (va_recv hE.1 hP (ci := 6) (q0 := 0) rfl rfl)) rfl rfl hl.1 rfl (lv_room (Nat.le_of_ble_eq_true rfl)) dX6_parts_21 ⟨Nat.le_refl _, Nat.le_refl _⟩) hP hD hS hA [1, 2] rfl rfl (fun r_21 u H locs hq_21 hP hD hS => ?_)
    obtain ⟨nm2_21, pl2_21⟩ := u
    replace hP : va_P E.1 clA [(ad 30, .inr (6, [.ref (ad 0), .ref (ad 1), .int im, .ref (ad 3), .int at_, .int op, .int st_, .int us, .ref (ad 8), .ref (ad 9), .ref (ad 10), .ref (ad 11), .ref (ad 12), .ref (ad 13), .ref (ad 14), .int bn, .int bm, .ref (ad 17), .int la, .int fo, .int fi, .int lp, .ref (ad 22), .int tr_, .int sp, .int ip, .ref (ad 26), .ref (ad 27), .ref (ad 28), .ref (ad 29)])), (ad 9, .inl (E.2 0, 128, .inl nm2_21)), (ad 10, .inl (E.2 0, 64, .inl pl2_21)), (ad 12, .inl (E.2 0, 8, .inl bs)), (ad 13, .inl (E.2 0, 8, .inl rw_))] _ := hP
    replace hD : va_D A [(ad 30, .inr (6, [.ref (ad 0), .ref (ad 1), .int im, .ref (ad 3), .int at_, .int op, .int st_, .int us, .ref (ad 8), .ref (ad 9), .ref (ad 10), .ref (ad 11), .ref (ad 12), .ref (ad 13), .ref (ad 14), .int bn, .int bm, .ref (ad 17), .int la, .int fo, .int fi, .int lp, .ref (ad 22), .int tr_, .int sp, .int ip, .ref (ad 26), .ref (ad 27), .ref (ad 28), .ref (ad 29)])), (ad 9, .inl (E.2 0, 128, .inl nm2_21)), (ad 10, .inl (E.2 0, 64, .inl pl2_21)), (ad 12, .inl (E.2 0, 8, .inl bs)), (ad 13, .inl (E.2 0, 8, .inl rw_))] := hD
    replace hq_21 : r_21 = paysF sa T (fun t => rn t - ex t) k := hq_21
    refine lv_iadd hx hb dX6_parts_24 ?_
    refine fx_ti (show (r_12 + r_21) = (partF sa T k rn ex) from by rw [hq_12, hq_21]; rfl) ?_
    refine lv_istore_n (lv' := [(3, .int (partF sa T k rn ex)), (0, .ref (ad 30)), (1, .int (nI k)), (2, .int (nI (8 - 0)))]) hx hb dX6_parts_25 rfl hl (by decide) rfl (fun ls hl => ?_)
    refine lv_aload_n hx hb dX6_parts_26 rfl (lv_at hl 1 rfl) ?_
    refine lv_aload_n hx hb dX6_parts_27 rfl (lv_at hl 1 rfl) ?_
    refine fx_get X hE hP 0 rfl rfl 18 rfl q1186 rfl rfl dX6_parts_28 ?_
    refine lv_iconst (v := (-1)) hx hb dX6_parts_31 rfl ?_
    refine lv_icmp_eq (tgt := 43) hx hb dX6_parts_32 (by decide) (fun c_32 => ?_) (fun c_32 => ?_)
    · -- jump 43
      refine lv_iload_n hx hb dX6_parts_43 rfl (lv_at hl 0 rfl) ?_
      refine lv_goto (tgt := 51) hx hb dX6_parts_44 (by decide) ?_
      refine fx_put_ (ws' := [(ad 30, .inr (6, [.ref (ad 0), .ref (ad 1), .int im, .ref (ad 3), .int at_, .int op, .int st_, .int us, .ref (ad 8), .ref (ad 9), .ref (ad 10), .ref (ad 11), .ref (ad 12), .ref (ad 13), .ref (ad 14), .int bn, .int bm, .ref (ad 17), .int (partF sa T k rn ex), .int fo, .int fi, .int lp, .ref (ad 22), .int tr_, .int sp, .int ip, .ref (ad 26), .ref (ad 27), .ref (ad 28), .ref (ad 29)])), (ad 9, .inl (E.2 0, 128, .inl nm2_21)), (ad 10, .inl (E.2 0, 64, .inl pl2_21)), (ad 12, .inl (E.2 0, 8, .inl bs)), (ad 13, .inl (E.2 0, 8, .inl rw_))]) X hE hP hD hS 0 rfl rfl tyX6_ok nmX6 18 rfl q1186 rfl rfl rfl rfl rfl rfl dX6_parts_51 (fun H locs hP hD hS => ?_)
      exact hret ((partF sa T k rn ex), nm2_21, pl2_21, bs, rw_) (⟨by rw [enL, lfP, if_pos (Or.inl c_32)], fun i hi => ⟨rfl, rfl⟩⟩) hP hD hS (Nat.le_refl _) (Nat.le_refl _) dX6_parts_54
    · -- fall 35
      refine lv_iload_n hx hb dX6_parts_35 rfl (lv_at hl 0 rfl) ?_
      refine lv_aload_n hx hb dX6_parts_36 rfl (lv_at hl 1 rfl) ?_
      refine fx_get X hE hP 0 rfl rfl 18 rfl q1186 rfl rfl dX6_parts_37 ?_
      refine lv_icmp_ge (tgt := 47) hx hb dX6_parts_40 (by decide) (fun c_40 => ?_) (fun c_40 => ?_)
      · -- jump 47
        refine lv_aload_n hx hb dX6_parts_47 rfl (lv_at hl 1 rfl) ?_
        refine fx_get X hE hP 0 rfl rfl 18 rfl q1186 rfl rfl dX6_parts_48 ?_
        refine fx_put_ (ws' := [(ad 30, .inr (6, [.ref (ad 0), .ref (ad 1), .int im, .ref (ad 3), .int at_, .int op, .int st_, .int us, .ref (ad 8), .ref (ad 9), .ref (ad 10), .ref (ad 11), .ref (ad 12), .ref (ad 13), .ref (ad 14), .int bn, .int bm, .ref (ad 17), .int la, .int fo, .int fi, .int lp, .ref (ad 22), .int tr_, .int sp, .int ip, .ref (ad 26), .ref (ad 27), .ref (ad 28), .ref (ad 29)])), (ad 9, .inl (E.2 0, 128, .inl nm2_21)), (ad 10, .inl (E.2 0, 64, .inl pl2_21)), (ad 12, .inl (E.2 0, 8, .inl bs)), (ad 13, .inl (E.2 0, 8, .inl rw_))]) X hE hP hD hS 0 rfl rfl tyX6_ok nmX6 18 rfl q1186 rfl rfl rfl rfl rfl rfl dX6_parts_51 (fun H locs hP hD hS => ?_)
        exact hret (la, nm2_21, pl2_21, bs, rw_) (⟨by rw [enL, lfP, if_neg (fun h => h.elim c_32 (fun h => absurd h (Int32.not_lt.2 c_40)))], fun i hi => ⟨rfl, rfl⟩⟩) hP hD hS (Nat.le_refl _) (Nat.le_refl _) dX6_parts_54
      · -- fall 43
        refine lv_iload_n hx hb dX6_parts_43 rfl (lv_at hl 0 rfl) ?_
        refine lv_goto (tgt := 51) hx hb dX6_parts_44 (by decide) ?_
        refine fx_put_ (ws' := [(ad 30, .inr (6, [.ref (ad 0), .ref (ad 1), .int im, .ref (ad 3), .int at_, .int op, .int st_, .int us, .ref (ad 8), .ref (ad 9), .ref (ad 10), .ref (ad 11), .ref (ad 12), .ref (ad 13), .ref (ad 14), .int bn, .int bm, .ref (ad 17), .int (partF sa T k rn ex), .int fo, .int fi, .int lp, .ref (ad 22), .int tr_, .int sp, .int ip, .ref (ad 26), .ref (ad 27), .ref (ad 28), .ref (ad 29)])), (ad 9, .inl (E.2 0, 128, .inl nm2_21)), (ad 10, .inl (E.2 0, 64, .inl pl2_21)), (ad 12, .inl (E.2 0, 8, .inl bs)), (ad 13, .inl (E.2 0, 8, .inl rw_))]) X hE hP hD hS 0 rfl rfl tyX6_ok nmX6 18 rfl q1186 rfl rfl rfl rfl rfl rfl dX6_parts_51 (fun H locs hP hD hS => ?_)
        exact hret ((partF sa T k rn ex), nm2_21, pl2_21, bs, rw_) (⟨by rw [enL, lfP, if_pos (Or.inr (Int32.not_le.1 c_40))], fun i hi => ⟨rfl, rfl⟩⟩) hP hD hS (Nat.le_refl _) (Nat.le_refl _) dX6_parts_54
  | succ d ih =>
    intro ad im at_ op st_ us bn bm la fo fi lp tr_ sp ip sa nmd pl td rw_ bs k T rn ex le mo hd hk hI hT hTo htd hrw
    refine fx_vW rfl rfl ?_
    intro p e s m args below meth c A ls Q X hnm hE hP hD hR hA hl hret
    have hx := X.1
    have hb := X.2.1
    have hS : va_S A s.heap s.heap [] := va_S.rf
    replace hP : va_P E.1 clA [(ad 30, .inr (6, [.ref (ad 0), .ref (ad 1), .int im, .ref (ad 3), .int at_, .int op, .int st_, .int us, .ref (ad 8), .ref (ad 9), .ref (ad 10), .ref (ad 11), .ref (ad 12), .ref (ad 13), .ref (ad 14), .int bn, .int bm, .ref (ad 17), .int la, .int fo, .int fi, .int lp, .ref (ad 22), .int tr_, .int sp, .int ip, .ref (ad 26), .ref (ad 27), .ref (ad 28), .ref (ad 29)])), (ad 9, .inl (E.2 0, 128, .inl nmd)), (ad 10, .inl (E.2 0, 64, .inl pl)), (ad 12, .inl (E.2 0, 8, .inl bs)), (ad 13, .inl (E.2 0, 8, .inl rw_))] _ := hP
    replace hD : va_D A [(ad 30, .inr (6, [.ref (ad 0), .ref (ad 1), .int im, .ref (ad 3), .int at_, .int op, .int st_, .int us, .ref (ad 8), .ref (ad 9), .ref (ad 10), .ref (ad 11), .ref (ad 12), .ref (ad 13), .ref (ad 14), .int bn, .int bm, .ref (ad 17), .int la, .int fo, .int fi, .int lp, .ref (ad 22), .int tr_, .int sp, .int ip, .ref (ad 26), .ref (ad 27), .ref (ad 28), .ref (ad 29)])), (ad 9, .inl (E.2 0, 128, .inl nmd)), (ad 10, .inl (E.2 0, 64, .inl pl)), (ad 12, .inl (E.2 0, 8, .inl bs)), (ad 13, .inl (E.2 0, 8, .inl rw_))] := hD
    replace hl : lv_has ls 4 [(0, .ref (ad 30)), (1, .int (nI k)), (2, .int (nI (8 - (d + 1))))] := hl
    refine lv_iload_n hx hb dX6_parts_0 rfl (lv_at hl 2 rfl) ?_
    refine lv_bipush (v := 8) hx hb dX6_parts_1 rfl ?_
    refine lv_icmp_ne (tgt := 55) hx hb dX6_parts_3 (by decide) (fun c_3 => ?_) (fun c_3 => absurd (fx_eq1 (a := 8 - (d + 1)) (b := 8) c_3 (by omega) (by omega)) (by omega))
    have n_3 := fx_eq0 (a := (8 - (d + 1))) (b := 8) c_3 (by omega) (by omega)
    have htt := htd (8 - (d + 1)) (by omega)
    have htt2 := htt.2
    refine lv_iconst (v := 0) hx hb dX6_parts_55 rfl ?_
    refine lv_istore_n (lv' := [(3, .int 0), (0, .ref (ad 30)), (1, .int (nI k)), (2, .int (nI (8 - (d + 1))))]) hx hb dX6_parts_56 rfl hl (by decide) rfl (fun ls hl => ?_)
    have loop_57 : ∀ (n_57 : Nat) (n : Nat) (lav : Int32) (nmv : Nat → Int32) (plv : Nat → Int32) (bsv : Nat → Int32) (rwv : Nat → Int32), (rn (8 - (d + 1)) + 1 - n < n_57) → (n ≤ rn (8 - (d + 1)) + 1) → (lav = (itr (fun n b => enL (fun t _ => rn t) (lfP (partF sa T k rn)) d (upN ex (8 - (d + 1)) n) (le - n) (mo + n) b) n la)) → (∀ i, i < (8 - (d + 1)) → rwv i = rw_ i ∧ bsv i = bs i) → ∀ (H : Heap) (locs : List Loc), va_P E.1 clA [(ad 30, .inr (6, [.ref (ad 0), .ref (ad 1), .int im, .ref (ad 3), .int at_, .int op, .int st_, .int us, .ref (ad 8), .ref (ad 9), .ref (ad 10), .ref (ad 11), .ref (ad 12), .ref (ad 13), .ref (ad 14), .int bn, .int bm, .ref (ad 17), .int lav, .int fo, .int fi, .int lp, .ref (ad 22), .int tr_, .int sp, .int ip, .ref (ad 26), .ref (ad 27), .ref (ad 28), .ref (ad 29)])), (ad 9, .inl (E.2 0, 128, .inl nmv)), (ad 10, .inl (E.2 0, 64, .inl plv)), (ad 12, .inl (E.2 0, 8, .inl bsv)), (ad 13, .inl (E.2 0, 8, .inl rwv))] H → va_D A [(ad 30, .inr (6, [.ref (ad 0), .ref (ad 1), .int im, .ref (ad 3), .int at_, .int op, .int st_, .int us, .ref (ad 8), .ref (ad 9), .ref (ad 10), .ref (ad 11), .ref (ad 12), .ref (ad 13), .ref (ad 14), .int bn, .int bm, .ref (ad 17), .int lav, .int fo, .int fi, .int lp, .ref (ad 22), .int tr_, .int sp, .int ip, .ref (ad 26), .ref (ad 27), .ref (ad 28), .ref (ad 29)])), (ad 9, .inl (E.2 0, 128, .inl nmv)), (ad 10, .inl (E.2 0, 64, .inl plv)), (ad 12, .inl (E.2 0, 8, .inl bsv)), (ad 13, .inl (E.2 0, 8, .inl rwv))] → va_S A s.heap H locs → ∀ (ls : Array Slot), lv_has ls 4 [(3, .int (nI n)), (0, .ref (ad 30)), (1, .int (nI k)), (2, .int (nI (8 - (d + 1))))] → W p l e (rmX6_parts (d + 1)) s m args below meth c H locs 0 0 Q (F0 m 57 ls []) := by
      intro n_57
      induction n_57 with
      | zero => intro n lav nmv plv bsv rwv hm_57; exact absurd hm_57 (Nat.not_lt_zero _)
      | succ n_57 ih_57 =>
        intro n lav nmv plv bsv rwv hm_57 hn hB hr3 H locs hP hD hS ls hl
        refine lv_iload_n hx hb dX6_parts_57 rfl (lv_at hl 0 rfl) ?_
        refine lv_aload_n hx hb dX6_parts_58 rfl (lv_at hl 1 rfl) ?_
        refine fx_get X hE hP 0 rfl rfl 11 rfl q1179 rfl rfl dX6_parts_59 ?_
        refine lv_iload_n hx hb dX6_parts_62 rfl (lv_at hl 3 rfl) ?_
        refine fx_iald X hE (hR.at hS) 1 rfl (8 - (d + 1)) rfl (by omega) rfl dX6_parts_63 ?_
        refine fx_ti (show (td (8 - (d + 1))) = nI (rn (8 - (d + 1))) from htt.1) ?_
        refine lv_icmp_gt (tgt := 102) hx hb dX6_parts_64 (by decide) (fun c_64 => ?_) (fun c_64 => ?_)
        · -- jump 102
          have n_64 := fx_lt1 (a := (rn (8 - (d + 1)))) (b := n) c_64 (by omega) (by omega)
          have hne : n = rn (8 - (d + 1)) + 1 := by omega
          exact hret (lav, nmv, plv, bsv, rwv) (⟨by rw [enL]; exact hne ▸ hB, hr3⟩) hP hD hS (Nat.le_refl _) (Nat.le_refl _) dX6_parts_102
        · -- fall 67
          have n_64 := fx_lt0 (a := (rn (8 - (d + 1)))) (b := n) c_64 (by omega) (by omega)
          refine lv_aload_n hx hb dX6_parts_67 rfl (lv_at hl 1 rfl) ?_
          refine fx_get X hE hP 0 rfl rfl 13 rfl q1181 rfl rfl dX6_parts_68 ?_
          refine lv_iload_n hx hb dX6_parts_71 rfl (lv_at hl 3 rfl) ?_
          refine lv_iload_n hx hb dX6_parts_72 rfl (lv_at hl 0 rfl) ?_
          refine fx_iast (ws' := [(ad 30, .inr (6, [.ref (ad 0), .ref (ad 1), .int im, .ref (ad 3), .int at_, .int op, .int st_, .int us, .ref (ad 8), .ref (ad 9), .ref (ad 10), .ref (ad 11), .ref (ad 12), .ref (ad 13), .ref (ad 14), .int bn, .int bm, .ref (ad 17), .int lav, .int fo, .int fi, .int lp, .ref (ad 22), .int tr_, .int sp, .int ip, .ref (ad 26), .ref (ad 27), .ref (ad 28), .ref (ad 29)])), (ad 9, .inl (E.2 0, 128, .inl nmv)), (ad 10, .inl (E.2 0, 64, .inl plv)), (ad 12, .inl (E.2 0, 8, .inl bsv)), (ad 13, .inl (E.2 0, 8, .inl (upd rwv (8 - (d + 1)) (nI n))))]) X hE hP hD hS 4 rfl (8 - (d + 1)) rfl (by omega) rfl rfl dX6_parts_73 (fun H locs hP hD hS => ?_)
          refine lv_aload_n hx hb dX6_parts_74 rfl (lv_at hl 1 rfl) ?_
          refine fx_get X hE hP 0 rfl rfl 12 rfl q1180 rfl rfl dX6_parts_75 ?_
          refine lv_iload_n hx hb dX6_parts_78 rfl (lv_at hl 3 rfl) ?_
          refine lv_aload_n hx hb dX6_parts_79 rfl (lv_at hl 1 rfl) ?_
          refine fx_get X hE hP 0 rfl rfl 11 rfl q1179 rfl rfl dX6_parts_80 ?_
          refine lv_iload_n hx hb dX6_parts_83 rfl (lv_at hl 3 rfl) ?_
          refine fx_iald X hE (hR.at hS) 1 rfl (8 - (d + 1)) rfl (by omega) rfl dX6_parts_84 ?_
          refine fx_ti (show (td (8 - (d + 1))) = nI (rn (8 - (d + 1))) from htt.1) ?_
          refine lv_iload_n hx hb dX6_parts_85 rfl (lv_at hl 0 rfl) ?_
          refine lv_isub hx hb dX6_parts_86 ?_
          refine fx_ti (pk_sub (a := rn (8 - (d + 1))) (b := n) (by omega)) ?_
          refine fx_iast (ws' := [(ad 30, .inr (6, [.ref (ad 0), .ref (ad 1), .int im, .ref (ad 3), .int at_, .int op, .int st_, .int us, .ref (ad 8), .ref (ad 9), .ref (ad 10), .ref (ad 11), .ref (ad 12), .ref (ad 13), .ref (ad 14), .int bn, .int bm, .ref (ad 17), .int lav, .int fo, .int fi, .int lp, .ref (ad 22), .int tr_, .int sp, .int ip, .ref (ad 26), .ref (ad 27), .ref (ad 28), .ref (ad 29)])), (ad 9, .inl (E.2 0, 128, .inl nmv)), (ad 10, .inl (E.2 0, 64, .inl plv)), (ad 12, .inl (E.2 0, 8, .inl (upd bsv (8 - (d + 1)) (nI (rn (8 - (d + 1)) - n))))), (ad 13, .inl (E.2 0, 8, .inl (upd rwv (8 - (d + 1)) (nI n))))]) X hE hP hD hS 3 rfl (8 - (d + 1)) rfl (by omega) rfl rfl dX6_parts_87 (fun H locs hP hD hS => ?_)
          refine lv_aload_n hx hb dX6_parts_88 rfl (lv_at hl 1 rfl) ?_
          refine lv_iload_n hx hb dX6_parts_89 rfl (lv_at hl 2 rfl) ?_
          refine lv_iload_n hx hb dX6_parts_90 rfl (lv_at hl 3 rfl) ?_
          refine lv_iconst (v := 1) hx hb dX6_parts_91 rfl ?_
          refine lv_iadd hx hb dX6_parts_92 ?_
          refine fx_ti (nI_add (8 - (d + 1)) 1) ?_
          refine fx_ti (show nI (8 - (d + 1) + 1) = nI (8 - d) from congrArg nI (by omega)) ?_
          refine fx_cv (va_runV (As := [.int (nI k), .int (nI (8 - d))]) (rest := []) X (ih ad im at_ op st_ us bn bm lav fo fi lp tr_ sp ip sa nmv plv td (upd rwv (8 - (d + 1)) (nI n)) (upd bsv (8 - (d + 1)) (nI (rn (8 - (d + 1)) - n))) k T rn (upN ex (8 - (d + 1)) n) (le - n) (mo + n) (by omega) (by first | assumption | omega) (by first | assumption | omega) (by first | assumption | omega) (by first | assumption | omega) (by first | assumption | omega) (by rw [show 8 - d = 8 - (d + 1) + 1 by omega]; exact rowp_s (fun i hi => ⟨(hr3 i hi).1.trans (hrw i hi).1, (hr3 i hi).2.trans (hrw i hi).2.1, (hrw i hi).2.2⟩) (by omega)) _) (cwV 2 X.2.2.2.2 (lw_V q1474 q1476 qs60 q75 q1477) rfl rfl rfl ⟨rfl, hdX6_parts⟩ ⟨by simp only [rmX6_parts]; omega, by simp only [rmX6_parts]; omega⟩) (fx_preV (fx_pre hE hP hD hS hR [0, 1, 2, 3, 4] rfl rfl (fx_rcr 0 rfl (fx_rcr 1 rfl fx_rc0))) (va_recv hE.1 hP (ci := 6) (q0 := 0) rfl rfl)) rfl rfl hl.1 rfl (lv_room (Nat.le_of_ble_eq_true rfl)) dX6_parts_93 ⟨Nat.le_refl _, Nat.le_refl _⟩) hP hD hS hA [0, 1, 2, 3, 4] rfl rfl (fun u H locs hq_93 hP hD hS => ?_)
          obtain ⟨la2_93, nm2_93, pl2_93, bs2_93, rw2_93⟩ := u
          replace hP : va_P E.1 clA [(ad 30, .inr (6, [.ref (ad 0), .ref (ad 1), .int im, .ref (ad 3), .int at_, .int op, .int st_, .int us, .ref (ad 8), .ref (ad 9), .ref (ad 10), .ref (ad 11), .ref (ad 12), .ref (ad 13), .ref (ad 14), .int bn, .int bm, .ref (ad 17), .int la2_93, .int fo, .int fi, .int lp, .ref (ad 22), .int tr_, .int sp, .int ip, .ref (ad 26), .ref (ad 27), .ref (ad 28), .ref (ad 29)])), (ad 9, .inl (E.2 0, 128, .inl nm2_93)), (ad 10, .inl (E.2 0, 64, .inl pl2_93)), (ad 12, .inl (E.2 0, 8, .inl bs2_93)), (ad 13, .inl (E.2 0, 8, .inl rw2_93))] _ := hP
          replace hD : va_D A [(ad 30, .inr (6, [.ref (ad 0), .ref (ad 1), .int im, .ref (ad 3), .int at_, .int op, .int st_, .int us, .ref (ad 8), .ref (ad 9), .ref (ad 10), .ref (ad 11), .ref (ad 12), .ref (ad 13), .ref (ad 14), .int bn, .int bm, .ref (ad 17), .int la2_93, .int fo, .int fi, .int lp, .ref (ad 22), .int tr_, .int sp, .int ip, .ref (ad 26), .ref (ad 27), .ref (ad 28), .ref (ad 29)])), (ad 9, .inl (E.2 0, 128, .inl nm2_93)), (ad 10, .inl (E.2 0, 64, .inl pl2_93)), (ad 12, .inl (E.2 0, 8, .inl bs2_93)), (ad 13, .inl (E.2 0, 8, .inl rw2_93))] := hD
          replace hq_93 : la2_93 = (enL (fun t _ => rn t) (lfP (partF sa T k rn)) d (upN ex (8 - (d + 1)) n) (le - n) (mo + n) lav) ∧ (∀ i, i < 8 - d → rw2_93 i = (upd rwv (8 - (d + 1)) (nI n)) i ∧ bs2_93 i = (upd bsv (8 - (d + 1)) (nI (rn (8 - (d + 1)) - n))) i) := hq_93
          refine lv_iinc (v := nI (n + 1)) (lv' := [(3, .int (nI (n + 1))), (0, .ref (ad 30)), (1, .int (nI k)), (2, .int (nI (8 - (d + 1))))]) hx hb dX6_parts_96 hl (k := 0) rfl (fx_inc _) (by decide) rfl (fun ls hl => ?_)
          refine lv_goto (tgt := 57) hx hb dX6_parts_99 (by decide) ?_
          exact ih_57 (n + 1) la2_93 nm2_93 pl2_93 bs2_93 rw2_93 (by omega) (by omega) (by rw [hq_93.1, hB]; rfl) (fun i hi => ⟨by rw [(hq_93.2 i (by omega)).1, upd_n _ _ (by omega), (hr3 i hi).1], by rw [(hq_93.2 i (by omega)).2, upd_n _ _ (by omega), (hr3 i hi).2]⟩) _ _ hP hD hS ls (lv_sub hl [0, 1, 2, 3] rfl)
    exact loop_57 ((rn (8 - (d + 1)) + 1 - 0) + 1) 0 la nmd pl bs rw_ (Nat.lt_succ_self _) (Nat.zero_le _) rfl (fun i hi => ⟨rfl, rfl⟩) _ _ hP hD hS ls (lv_sub hl [0, 1, 2, 3] rfl)
abbrev rmX6_inTwo : Room := { frames := 19, cells := 0, slots := 0, locals := 607 }
set_option maxHeartbeats 400000 in
set_option maxRecDepth 100000 in
theorem mX6_inTwo (l : Launch) (E : fx_En) (ad : Nat → Nat) (im : Int32) (at_ : Int32) (op : Int32) (st_ : Int32) (us : Int32) (bn : Int32) (bm : Int32) (la : Int32) (fo : Int32) (fi : Int32) (lp : Int32) (tr_ : Int32) (sp : Int32) (ip : Int32) (sa : Nat → Int32) (bt : Nat → Int32) (sz : Nat → Int32) (nu : Nat → Int32) (er : Nat → Int32) (nmd : Nat → Int32) (pl : Nat → Int32) (td : Nat → Int32) (bs : Nat → Int32) (rw_ : Nat → Int32) (sheet : Int32) (til : Int32) (T : Tx) (hI : Inv sa) (hIS : InvS bt sz) (hT : TM sa 0 T) (hTo : TOk T) : fx_Mi l yX6_inTwo cX6_inTwo 4 .int rmX6_inTwo E [.ref (ad 30), .int sheet, .int til] [(ad 30, .inr (6, [.ref (ad 0), .ref (ad 1), .int im, .ref (ad 3), .int at_, .int op, .int st_, .int us, .ref (ad 8), .ref (ad 9), .ref (ad 10), .ref (ad 11), .ref (ad 12), .ref (ad 13), .ref (ad 14), .int bn, .int bm, .ref (ad 17), .int la, .int fo, .int fi, .int lp, .ref (ad 22), .int tr_, .int sp, .int ip, .ref (ad 26), .ref (ad 27), .ref (ad 28), .ref (ad 29)])), (ad 3, .inl (E.2 0, 7, .inl er)), (ad 9, .inl (E.2 0, 128, .inl nmd)), (ad 10, .inl (E.2 0, 64, .inl pl)), (ad 11, .inl (E.2 0, 8, .inl td)), (ad 12, .inl (E.2 0, 8, .inl bs)), (ad 13, .inl (E.2 0, 8, .inl rw_))] [(ad 0, .inl (E.2 0, 374, .inl sa)), (ad 26, .inl (E.2 0, 4, .inl bt)), (ad 27, .inl (E.2 0, 4, .inl sz)), (ad 28, .inl (E.2 0, 96, .inl nu))] (S := Int32 × (Nat → Int32) × (Nat → Int32) × (Nat → Int32) × (Nat → Int32) × (Nat → Int32) × (Nat → Int32)) (fun (u : Int32 × (Nat → Int32) × (Nat → Int32) × (Nat → Int32) × (Nat → Int32) × (Nat → Int32) × (Nat → Int32)) => [(ad 30, .inr (6, [.ref (ad 0), .ref (ad 1), .int im, .ref (ad 3), .int at_, .int op, .int st_, .int us, .ref (ad 8), .ref (ad 9), .ref (ad 10), .ref (ad 11), .ref (ad 12), .ref (ad 13), .ref (ad 14), .int bn, .int bm, .ref (ad 17), .int u.1, .int fo, .int fi, .int lp, .ref (ad 22), .int tr_, .int sp, .int ip, .ref (ad 26), .ref (ad 27), .ref (ad 28), .ref (ad 29)])), (ad 3, .inl (E.2 0, 7, .inl u.2.1)), (ad 9, .inl (E.2 0, 128, .inl u.2.2.1)), (ad 10, .inl (E.2 0, 64, .inl u.2.2.2.1)), (ad 11, .inl (E.2 0, 8, .inl u.2.2.2.2.1)), (ad 12, .inl (E.2 0, 8, .inl u.2.2.2.2.2.1)), (ad 13, .inl (E.2 0, 8, .inl u.2.2.2.2.2.2))]) (fun (r : Int32) (u : Int32 × (Nat → Int32) × (Nat → Int32) × (Nat → Int32) × (Nat → Int32) × (Nat → Int32) × (Nat → Int32)) => (r, u.2.1) = inTwo_ sa er bt sz nu T sheet til) := by
  refine fx_iW rfl rfl ?_
  intro p e s m args below meth c A ls Q X hE hP hD hR hA hl hret
  have hx := X.1
  have hb := X.2.1
  have hS : va_S A s.heap s.heap [] := va_S.rf
  replace hP : va_P E.1 clA [(ad 30, .inr (6, [.ref (ad 0), .ref (ad 1), .int im, .ref (ad 3), .int at_, .int op, .int st_, .int us, .ref (ad 8), .ref (ad 9), .ref (ad 10), .ref (ad 11), .ref (ad 12), .ref (ad 13), .ref (ad 14), .int bn, .int bm, .ref (ad 17), .int la, .int fo, .int fi, .int lp, .ref (ad 22), .int tr_, .int sp, .int ip, .ref (ad 26), .ref (ad 27), .ref (ad 28), .ref (ad 29)])), (ad 3, .inl (E.2 0, 7, .inl er)), (ad 9, .inl (E.2 0, 128, .inl nmd)), (ad 10, .inl (E.2 0, 64, .inl pl)), (ad 11, .inl (E.2 0, 8, .inl td)), (ad 12, .inl (E.2 0, 8, .inl bs)), (ad 13, .inl (E.2 0, 8, .inl rw_))] _ := hP
  replace hD : va_D A [(ad 30, .inr (6, [.ref (ad 0), .ref (ad 1), .int im, .ref (ad 3), .int at_, .int op, .int st_, .int us, .ref (ad 8), .ref (ad 9), .ref (ad 10), .ref (ad 11), .ref (ad 12), .ref (ad 13), .ref (ad 14), .int bn, .int bm, .ref (ad 17), .int la, .int fo, .int fi, .int lp, .ref (ad 22), .int tr_, .int sp, .int ip, .ref (ad 26), .ref (ad 27), .ref (ad 28), .ref (ad 29)])), (ad 3, .inl (E.2 0, 7, .inl er)), (ad 9, .inl (E.2 0, 128, .inl nmd)), (ad 10, .inl (E.2 0, 64, .inl pl)), (ad 11, .inl (E.2 0, 8, .inl td)), (ad 12, .inl (E.2 0, 8, .inl bs)), (ad 13, .inl (E.2 0, 8, .inl rw_))] := hD
  replace hl : lv_has ls 4 [(0, .ref (ad 30)), (1, .int sheet), (2, .int til)] := hl
  refine lv_aload_n hx hb dX6_inTwo_0 rfl (lv_at hl 0 rfl) ?_
  refine lv_iload_n hx hb dX6_inTwo_1 rfl (lv_at hl 1 rfl) ?_
  refine lv_iload_n hx hb dX6_inTwo_2 rfl (lv_at hl 2 rfl) ?_
  refine lv_iconst (v := 1) hx hb dX6_inTwo_3 rfl ?_
  refine lv_bipush (v := 12) hx hb dX6_inTwo_4 rfl ?_
  refine fx_ci (va_runV (As := [.int sheet, .int til, .int 1, .int 12]) (rest := []) X (mX6_lacks l E ad im at_ op st_ us bn bm la fo fi lp tr_ sp ip bt sz nu td sheet til 1 12 (by first | assumption | omega) (by decide) _) (cwV 4 X.2.2.2.2 (lw_V q1402 q1404 qs50 q75 q1405) rfl rfl rfl ⟨rfl, hdX6_lacks⟩ ⟨Nat.le_of_ble_eq_true rfl, Nat.le_of_ble_eq_true rfl⟩) (fx_preV (fx_pre hE hP hD hS hR [4] rfl rfl (fx_rcm 0 rfl (by decide) (fx_rcr 1 rfl (fx_rcr 2 rfl (fx_rcr 3 rfl fx_rc0))))) (va_recv hE.1 hP (ci := 6) (q0 := 0) rfl rfl)) rfl rfl hl.1 rfl (lv_room (Nat.le_of_ble_eq_true rfl)) dX6_inTwo_6 ⟨Nat.le_refl _, Nat.le_refl _⟩) hP hD hS hA [4] rfl rfl (fun r_6 u H locs hq_6 hP hD hS => ?_)
  obtain ⟨td2_6, rfl⟩ : ∃ z, z = u := ⟨_, rfl⟩
  replace hP : va_P E.1 clA [(ad 30, .inr (6, [.ref (ad 0), .ref (ad 1), .int im, .ref (ad 3), .int at_, .int op, .int st_, .int us, .ref (ad 8), .ref (ad 9), .ref (ad 10), .ref (ad 11), .ref (ad 12), .ref (ad 13), .ref (ad 14), .int bn, .int bm, .ref (ad 17), .int la, .int fo, .int fi, .int lp, .ref (ad 22), .int tr_, .int sp, .int ip, .ref (ad 26), .ref (ad 27), .ref (ad 28), .ref (ad 29)])), (ad 3, .inl (E.2 0, 7, .inl er)), (ad 9, .inl (E.2 0, 128, .inl nmd)), (ad 10, .inl (E.2 0, 64, .inl pl)), (ad 11, .inl (E.2 0, 8, .inl td2_6)), (ad 12, .inl (E.2 0, 8, .inl bs)), (ad 13, .inl (E.2 0, 8, .inl rw_))] _ := hP
  replace hD : va_D A [(ad 30, .inr (6, [.ref (ad 0), .ref (ad 1), .int im, .ref (ad 3), .int at_, .int op, .int st_, .int us, .ref (ad 8), .ref (ad 9), .ref (ad 10), .ref (ad 11), .ref (ad 12), .ref (ad 13), .ref (ad 14), .int bn, .int bm, .ref (ad 17), .int la, .int fo, .int fi, .int lp, .ref (ad 22), .int tr_, .int sp, .int ip, .ref (ad 26), .ref (ad 27), .ref (ad 28), .ref (ad 29)])), (ad 3, .inl (E.2 0, 7, .inl er)), (ad 9, .inl (E.2 0, 128, .inl nmd)), (ad 10, .inl (E.2 0, 64, .inl pl)), (ad 11, .inl (E.2 0, 8, .inl td2_6)), (ad 12, .inl (E.2 0, 8, .inl bs)), (ad 13, .inl (E.2 0, 8, .inl rw_))] := hD
  replace hq_6 : r_6 = nI (lackF bt sz nu sheet til (decide (1 ≠ 0)) 12) ∧ (lackF bt sz nu sheet til (decide (1 ≠ 0)) 12 = 0 → ∀ t, t < 8 → td2_6 t = shG sz nu (nn sheet) t) := hq_6
  refine fx_ti (show r_6 = nI (lackF bt sz nu sheet til true 12) from hq_6.1) ?_
  have hcl : lackF bt sz nu sheet til true 12 ≤ 4 := lackF_le
  refine lv_istore_n (lv' := [(3, .int (nI (lackF bt sz nu sheet til true 12))), (0, .ref (ad 30)), (1, .int sheet), (2, .int til)]) hx hb dX6_inTwo_9 rfl hl (by decide) rfl (fun ls hl => ?_)
  refine lv_iload_n hx hb dX6_inTwo_10 rfl (lv_at hl 0 rfl) ?_
  refine lv_if_le (tgt := 20) hx hb dX6_inTwo_11 (by decide) (fun c_11 => ?_) (fun c_11 => ?_)
  · -- jump 20
    have n_11 := fx_le1 (a := (lackF bt sz nu sheet til true 12)) (b := 0) c_11 (by omega) (by omega)
    have h0 : lackF bt sz nu sheet til true 12 = 0 := by omega
    obtain ⟨hrow, hr9, hm30, hsh, htl⟩ := lack_row h0 (hq_6.2 h0)
    refine lv_aload_n hx hb dX6_inTwo_20 rfl (lv_at hl 1 rfl) ?_
    refine lv_iconst (v := (-1)) hx hb dX6_inTwo_21 rfl ?_
    refine fx_put_ (ws' := [(ad 30, .inr (6, [.ref (ad 0), .ref (ad 1), .int im, .ref (ad 3), .int at_, .int op, .int st_, .int us, .ref (ad 8), .ref (ad 9), .ref (ad 10), .ref (ad 11), .ref (ad 12), .ref (ad 13), .ref (ad 14), .int bn, .int bm, .ref (ad 17), .int (-1), .int fo, .int fi, .int lp, .ref (ad 22), .int tr_, .int sp, .int ip, .ref (ad 26), .ref (ad 27), .ref (ad 28), .ref (ad 29)])), (ad 3, .inl (E.2 0, 7, .inl er)), (ad 9, .inl (E.2 0, 128, .inl nmd)), (ad 10, .inl (E.2 0, 64, .inl pl)), (ad 11, .inl (E.2 0, 8, .inl td2_6)), (ad 12, .inl (E.2 0, 8, .inl bs)), (ad 13, .inl (E.2 0, 8, .inl rw_))]) X hE hP hD hS 0 rfl rfl tyX6_ok nmX6 18 rfl q1186 rfl rfl rfl rfl rfl rfl dX6_inTwo_22 (fun H locs hP hD hS => ?_)
    refine lv_aload_n hx hb dX6_inTwo_25 rfl (lv_at hl 1 rfl) ?_
    refine lv_iload_n hx hb dX6_inTwo_26 rfl (lv_at hl 3 rfl) ?_
    refine fx_ti (show til = nI (nn til) from htl.1) ?_
    refine lv_iconst (v := 0) hx hb dX6_inTwo_27 rfl ?_
    refine fx_cv (va_runV (As := [.int (nI (nn til)), .int 0]) (rest := []) X (mX6_parts l E 8 ad im at_ op st_ us bn bm (-1) fo fi lp tr_ sp ip sa nmd pl td2_6 rw_ bs (nn til) T (rnG sz nu (nn sheet)) (fun _ => 0) 0 0 (Nat.le_refl 8) htl.2 (by first | assumption | omega) (by first | assumption | omega) (by first | assumption | omega) (fun i hi => ⟨(hrow i hi).1, hr9 i hi⟩) (fun i hi => absurd hi (by omega)) _) (cwV 2 X.2.2.2.2 (lw_V q1474 q1476 qs60 q75 q1477) rfl rfl rfl ⟨rfl, hdX6_parts⟩ ⟨by simp only [rmX6_parts, rmX6_inTwo] <;> omega, by simp only [rmX6_parts, rmX6_inTwo] <;> omega⟩) (fx_preV (fx_pre hE hP hD hS hR [0, 2, 3, 5, 6] rfl rfl (fx_rcr 0 rfl (fx_rcm 4 rfl (by decide) fx_rc0))) (va_recv hE.1 hP (ci := 6) (q0 := 0) rfl rfl)) rfl rfl hl.1 rfl (lv_room (Nat.le_of_ble_eq_true rfl)) dX6_inTwo_28 ⟨Nat.le_refl _, Nat.le_refl _⟩) hP hD hS hA [0, 2, 3, 5, 6] rfl rfl (fun u H locs hq_28 hP hD hS => ?_)
    obtain ⟨la2_28, nm2_28, pl2_28, bs2_28, rw2_28⟩ := u
    replace hP : va_P E.1 clA [(ad 30, .inr (6, [.ref (ad 0), .ref (ad 1), .int im, .ref (ad 3), .int at_, .int op, .int st_, .int us, .ref (ad 8), .ref (ad 9), .ref (ad 10), .ref (ad 11), .ref (ad 12), .ref (ad 13), .ref (ad 14), .int bn, .int bm, .ref (ad 17), .int la2_28, .int fo, .int fi, .int lp, .ref (ad 22), .int tr_, .int sp, .int ip, .ref (ad 26), .ref (ad 27), .ref (ad 28), .ref (ad 29)])), (ad 3, .inl (E.2 0, 7, .inl er)), (ad 9, .inl (E.2 0, 128, .inl nm2_28)), (ad 10, .inl (E.2 0, 64, .inl pl2_28)), (ad 11, .inl (E.2 0, 8, .inl td2_6)), (ad 12, .inl (E.2 0, 8, .inl bs2_28)), (ad 13, .inl (E.2 0, 8, .inl rw2_28))] _ := hP
    replace hD : va_D A [(ad 30, .inr (6, [.ref (ad 0), .ref (ad 1), .int im, .ref (ad 3), .int at_, .int op, .int st_, .int us, .ref (ad 8), .ref (ad 9), .ref (ad 10), .ref (ad 11), .ref (ad 12), .ref (ad 13), .ref (ad 14), .int bn, .int bm, .ref (ad 17), .int la2_28, .int fo, .int fi, .int lp, .ref (ad 22), .int tr_, .int sp, .int ip, .ref (ad 26), .ref (ad 27), .ref (ad 28), .ref (ad 29)])), (ad 3, .inl (E.2 0, 7, .inl er)), (ad 9, .inl (E.2 0, 128, .inl nm2_28)), (ad 10, .inl (E.2 0, 64, .inl pl2_28)), (ad 11, .inl (E.2 0, 8, .inl td2_6)), (ad 12, .inl (E.2 0, 8, .inl bs2_28)), (ad 13, .inl (E.2 0, 8, .inl rw2_28))] := hD
    replace hq_28 : la2_28 = (enL (fun t _ => (rnG sz nu (nn sheet)) t) (lfP (partF sa T (nn til) (rnG sz nu (nn sheet)))) 8 (fun _ => 0) 0 0 (-1)) ∧ (∀ i, i < 8 - 8 → rw2_28 i = rw_ i ∧ bs2_28 i = bs i) := hq_28
    refine lv_aload_n hx hb dX6_inTwo_31 rfl (lv_at hl 1 rfl) ?_
    refine fx_get X hE hP 0 rfl rfl 18 rfl q1186 rfl rfl dX6_inTwo_32 ?_
    exact hret la2_28 (la2_28, er, nm2_28, pl2_28, td2_6, bs2_28, rw2_28) (by simp only [inTwo_, h0, eR_0, eE_0]; rw [twoF, hq_28.1]) (rfl) hP hD hS (Nat.le_refl _) (Nat.le_refl _) dX6_inTwo_35
  · -- fall 14
    have n_11 := fx_le0 (a := (lackF bt sz nu sheet til true 12)) (b := 0) c_11 (by omega) (by omega)
    refine lv_aload_n hx hb dX6_inTwo_14 rfl (lv_at hl 1 rfl) ?_
    refine lv_iload_n hx hb dX6_inTwo_15 rfl (lv_at hl 0 rfl) ?_
    refine fx_ci (va_runV (As := [.int (nI (lackF bt sz nu sheet til true 12))]) (rest := []) X (mX6_error l E ad im at_ op st_ us bn bm la fo fi lp tr_ sp ip er (lackF bt sz nu sheet til true 12) (by omega) _) (cwV 1 X.2.2.2.2 (lw_V q1266 q1268 qs32 q75 q1269) rfl rfl rfl ⟨rfl, hdX6_error⟩ ⟨Nat.le_of_ble_eq_true rfl, Nat.le_of_ble_eq_true rfl⟩) (fx_preV (fx_pre hE hP hD hS hR [1] rfl rfl (fx_rcm 0 rfl (by decide) fx_rc0)) (va_recv hE.1 hP (ci := 6) (q0 := 0) rfl rfl)) rfl rfl hl.1 rfl (lv_room (Nat.le_of_ble_eq_true rfl)) dX6_inTwo_16 ⟨Nat.le_refl _, Nat.le_refl _⟩) hP hD hS hA [1] rfl rfl (fun r_16 u H locs hq_16 hP hD hS => ?_)
    replace hP : va_P E.1 clA [(ad 30, .inr (6, [.ref (ad 0), .ref (ad 1), .int im, .ref (ad 3), .int at_, .int op, .int st_, .int us, .ref (ad 8), .ref (ad 9), .ref (ad 10), .ref (ad 11), .ref (ad 12), .ref (ad 13), .ref (ad 14), .int bn, .int bm, .ref (ad 17), .int la, .int fo, .int fi, .int lp, .ref (ad 22), .int tr_, .int sp, .int ip, .ref (ad 26), .ref (ad 27), .ref (ad 28), .ref (ad 29)])), (ad 3, .inl (E.2 0, 7, .inl (upd er (lackF bt sz nu sheet til true 12) (er (lackF bt sz nu sheet til true 12) + 1)))), (ad 9, .inl (E.2 0, 128, .inl nmd)), (ad 10, .inl (E.2 0, 64, .inl pl)), (ad 11, .inl (E.2 0, 8, .inl td2_6)), (ad 12, .inl (E.2 0, 8, .inl bs)), (ad 13, .inl (E.2 0, 8, .inl rw_))] _ := hP
    replace hD : va_D A [(ad 30, .inr (6, [.ref (ad 0), .ref (ad 1), .int im, .ref (ad 3), .int at_, .int op, .int st_, .int us, .ref (ad 8), .ref (ad 9), .ref (ad 10), .ref (ad 11), .ref (ad 12), .ref (ad 13), .ref (ad 14), .int bn, .int bm, .ref (ad 17), .int la, .int fo, .int fi, .int lp, .ref (ad 22), .int tr_, .int sp, .int ip, .ref (ad 26), .ref (ad 27), .ref (ad 28), .ref (ad 29)])), (ad 3, .inl (E.2 0, 7, .inl (upd er (lackF bt sz nu sheet til true 12) (er (lackF bt sz nu sheet til true 12) + 1)))), (ad 9, .inl (E.2 0, 128, .inl nmd)), (ad 10, .inl (E.2 0, 64, .inl pl)), (ad 11, .inl (E.2 0, 8, .inl td2_6)), (ad 12, .inl (E.2 0, 8, .inl bs)), (ad 13, .inl (E.2 0, 8, .inl rw_))] := hD
    replace hq_16 : r_16 = erv (lackF bt sz nu sheet til true 12) := hq_16
    exact hret r_16 (la, (upd er (lackF bt sz nu sheet til true 12) (er (lackF bt sz nu sheet til true 12) + 1)), nmd, pl, td2_6, bs, rw_) (by rw [hq_16]; simp [inTwo_, eR_p n_11, eE_p n_11, erI]) (rfl) hP hD hS (Nat.le_refl _) (Nat.le_refl _) dX6_inTwo_19
abbrev rmX6_worth : Room := { frames := 4, cells := 0, slots := 0, locals := 95 }
set_option maxHeartbeats 400000 in
set_option maxRecDepth 100000 in
theorem mX6_worth (l : Launch) (E : fx_En) (ad : Nat → Nat) (im : Int32) (at_ : Int32) (op : Int32) (st_ : Int32) (us : Int32) (bn : Int32) (bm : Int32) (la : Int32) (fo : Int32) (fi : Int32) (lp : Int32) (tr_ : Int32) (sp : Int32) (ip : Int32) (sa : Nat → Int32) (bt : Nat → Int32) (sz : Nat → Int32) (nu : Nat → Int32) (er : Nat → Int32) (nmd : Nat → Int32) (pl : Nat → Int32) (td : Nat → Int32) (sheet : Int32) (til : Int32) (tg : Int32) (T : Tx) (hI : Inv sa) (hIS : InvS bt sz) (hT : TM sa 0 T) (hTo : TOk T) : fx_Mi l yX6_worth cX6_worth 6 .int rmX6_worth E [.ref (ad 30), .int sheet, .int til, .int tg] [(ad 3, .inl (E.2 0, 7, .inl er)), (ad 9, .inl (E.2 0, 128, .inl nmd)), (ad 10, .inl (E.2 0, 64, .inl pl)), (ad 11, .inl (E.2 0, 8, .inl td))] [(ad 30, .inr (6, [.ref (ad 0), .ref (ad 1), .int im, .ref (ad 3), .int at_, .int op, .int st_, .int us, .ref (ad 8), .ref (ad 9), .ref (ad 10), .ref (ad 11), .ref (ad 12), .ref (ad 13), .ref (ad 14), .int bn, .int bm, .ref (ad 17), .int la, .int fo, .int fi, .int lp, .ref (ad 22), .int tr_, .int sp, .int ip, .ref (ad 26), .ref (ad 27), .ref (ad 28), .ref (ad 29)])), (ad 0, .inl (E.2 0, 374, .inl sa)), (ad 26, .inl (E.2 0, 4, .inl bt)), (ad 27, .inl (E.2 0, 4, .inl sz)), (ad 28, .inl (E.2 0, 96, .inl nu))] (S := (Nat → Int32) × (Nat → Int32) × (Nat → Int32) × (Nat → Int32)) (fun (u : (Nat → Int32) × (Nat → Int32) × (Nat → Int32) × (Nat → Int32)) => [(ad 3, .inl (E.2 0, 7, .inl u.1)), (ad 9, .inl (E.2 0, 128, .inl u.2.1)), (ad 10, .inl (E.2 0, 64, .inl u.2.2.1)), (ad 11, .inl (E.2 0, 8, .inl u.2.2.2))]) (fun (r : Int32) (u : (Nat → Int32) × (Nat → Int32) × (Nat → Int32) × (Nat → Int32)) => (r, u.1) = worth_ sa er bt sz nu T sheet til tg) := by
  refine fx_iW rfl rfl ?_
  intro p e s m args below meth c A ls Q X hE hP hD hR hA hl hret
  have hx := X.1
  have hb := X.2.1
  have hS : va_S A s.heap s.heap [] := va_S.rf
  replace hP : va_P E.1 clA [(ad 3, .inl (E.2 0, 7, .inl er)), (ad 9, .inl (E.2 0, 128, .inl nmd)), (ad 10, .inl (E.2 0, 64, .inl pl)), (ad 11, .inl (E.2 0, 8, .inl td))] _ := hP
  replace hD : va_D A [(ad 3, .inl (E.2 0, 7, .inl er)), (ad 9, .inl (E.2 0, 128, .inl nmd)), (ad 10, .inl (E.2 0, 64, .inl pl)), (ad 11, .inl (E.2 0, 8, .inl td))] := hD
  replace hl : lv_has ls 6 [(0, .ref (ad 30)), (1, .int sheet), (2, .int til), (3, .int tg)] := hl
  refine lv_aload_n hx hb dX6_worth_0 rfl (lv_at hl 0 rfl) ?_
  refine lv_iload_n hx hb dX6_worth_1 rfl (lv_at hl 1 rfl) ?_
  refine lv_iload_n hx hb dX6_worth_2 rfl (lv_at hl 2 rfl) ?_
  refine lv_iload_n hx hb dX6_worth_3 rfl (lv_at hl 3 rfl) ?_
  refine fx_ci (va_runS (As := [.int tg]) (rest := [.int til, .int sheet, .ref (ad 30)]) X (mX6_isThing l E tg _) (va_cwS 1 X.2.2.2.2 (lw_S q1328 q1329 q75 q1330) rfl rfl rfl hdX6_isThing ⟨Nat.le_of_ble_eq_true rfl, Nat.le_of_ble_eq_true rfl⟩) (fx_pre hE hP hD hS hR [] rfl rfl fx_rc0) rfl rfl hl.1 rfl (lv_room (Nat.le_of_ble_eq_true rfl)) dX6_worth_4 ⟨Nat.le_refl _, Nat.le_refl _⟩) hP hD hS hA [] rfl rfl (fun r_4 u H locs hq_4 hP hD hS => ?_)
  replace hP : va_P E.1 clA [(ad 3, .inl (E.2 0, 7, .inl er)), (ad 9, .inl (E.2 0, 128, .inl nmd)), (ad 10, .inl (E.2 0, 64, .inl pl)), (ad 11, .inl (E.2 0, 8, .inl td))] _ := hP
  replace hD : va_D A [(ad 3, .inl (E.2 0, 7, .inl er)), (ad 9, .inl (E.2 0, 128, .inl nmd)), (ad 10, .inl (E.2 0, 64, .inl pl)), (ad 11, .inl (E.2 0, 8, .inl td))] := hD
  replace hq_4 : r_4 = fx_b (inB tg 0 7 = true) := hq_4
  rcases fx_bc hq_4 with ⟨hb_4, hr_4⟩ | ⟨hb_4, hr_4⟩
  · -- True
    subst hr_4
    have hwc : lackF bt sz nu sheet til (inB tg 0 7) 29 = lackF bt sz nu sheet til true 29 := by rw [hb_4]
    refine lv_bipush (v := 29) hx hb dX6_worth_7 rfl ?_
    refine fx_ci (va_runV (As := [.int sheet, .int til, .int 1, .int 29]) (rest := []) X (mX6_lacks l E ad im at_ op st_ us bn bm la fo fi lp tr_ sp ip bt sz nu td sheet til 1 29 (by first | assumption | omega) (by decide) _) (cwV 4 X.2.2.2.2 (lw_V q1402 q1404 qs50 q75 q1405) rfl rfl rfl ⟨rfl, hdX6_lacks⟩ ⟨Nat.le_of_ble_eq_true rfl, Nat.le_of_ble_eq_true rfl⟩) (fx_preV (fx_pre hE hP hD hS hR [3] rfl rfl (fx_rcr 0 rfl (fx_rcr 2 rfl (fx_rcr 3 rfl (fx_rcr 4 rfl fx_rc0))))) (va_recv hE.1 (hR.at hS) (ci := 6) (q0 := 0) rfl rfl)) rfl rfl hl.1 rfl (lv_room (Nat.le_of_ble_eq_true rfl)) dX6_worth_9 ⟨Nat.le_refl _, Nat.le_refl _⟩) hP hD hS hA [3] rfl rfl (fun r_9 u H locs hq_9 hP hD hS => ?_)
    obtain ⟨td2_9, rfl⟩ : ∃ z, z = u := ⟨_, rfl⟩
    replace hP : va_P E.1 clA [(ad 3, .inl (E.2 0, 7, .inl er)), (ad 9, .inl (E.2 0, 128, .inl nmd)), (ad 10, .inl (E.2 0, 64, .inl pl)), (ad 11, .inl (E.2 0, 8, .inl td2_9))] _ := hP
    replace hD : va_D A [(ad 3, .inl (E.2 0, 7, .inl er)), (ad 9, .inl (E.2 0, 128, .inl nmd)), (ad 10, .inl (E.2 0, 64, .inl pl)), (ad 11, .inl (E.2 0, 8, .inl td2_9))] := hD
    replace hq_9 : r_9 = nI (lackF bt sz nu sheet til (decide (1 ≠ 0)) 29) ∧ (lackF bt sz nu sheet til (decide (1 ≠ 0)) 29 = 0 → ∀ t, t < 8 → td2_9 t = shG sz nu (nn sheet) t) := hq_9
    refine fx_ti (show r_9 = nI (lackF bt sz nu sheet til (inB tg 0 7) 29) from hq_9.1.trans (congrArg nI hwc.symm)) ?_
    have hcl : lackF bt sz nu sheet til (inB tg 0 7) 29 ≤ 4 := lackF_le
    refine lv_istore (lv' := [(4, .int (nI (lackF bt sz nu sheet til (inB tg 0 7) 29))), (0, .ref (ad 30)), (1, .int sheet), (2, .int til), (3, .int tg)]) hx hb dX6_worth_12 hl (by decide) rfl (fun ls hl => ?_)
    refine lv_iload hx hb dX6_worth_14 (lv_at hl 0 rfl) ?_
    refine lv_if_le (tgt := 26) hx hb dX6_worth_16 (by decide) (fun c_16 => ?_) (fun c_16 => ?_)
    · -- jump 26
      have n_16 := fx_le1 (a := (lackF bt sz nu sheet til (inB tg 0 7) 29)) (b := 0) c_16 (by omega) (by omega)
      have h0 : lackF bt sz nu sheet til (inB tg 0 7) 29 = 0 := by omega
      obtain ⟨hrow, hr9, hm30, hsh, htl⟩ := lack_row (hwc.symm.trans h0) (hq_9.2 (hwc.symm.trans h0))
      have gt := inB_nn (n := 7) hb_4 (by omega)
      refine lv_aload_n hx hb dX6_worth_26 rfl (lv_at hl 1 rfl) ?_
      refine lv_iload_n hx hb dX6_worth_27 rfl (lv_at hl 3 rfl) ?_
      refine fx_ti (show til = nI (nn til) from htl.1) ?_
      refine lv_aload_n hx hb dX6_worth_28 rfl (lv_at hl 1 rfl) ?_
      refine fx_get X hE (hR.at hS) 0 rfl rfl 11 rfl q1179 rfl rfl dX6_worth_29 ?_
      refine fx_ci (va_runV (As := [.int (nI (nn til)), .ref (ad 11)]) (rest := []) X (mX6_paidI l E ad im at_ op st_ us bn bm la fo fi lp tr_ sp ip sa nmd pl (ad 11) td2_9 (nn til) T (rnG sz nu (nn sheet)) htl.2 (by first | assumption | omega) (by first | assumption | omega) (by first | assumption | omega) (by first | assumption | omega) _) (cwV 2 X.2.2.2.2 (lw_V q1428 q1430 qs54 q75 q1431) rfl rfl rfl ⟨rfl, hdX6_paid⟩ ⟨Nat.le_of_ble_eq_true rfl, Nat.le_of_ble_eq_true rfl⟩) (fx_preV (fx_pre hE hP hD hS hR [1, 2] rfl rfl (fx_rcr 0 rfl (fx_rcr 1 rfl (fx_rcm 3 rfl (by decide) fx_rc0)))) (va_recv hE.1 (hR.at hS) (ci := 6) (q0 := 0) rfl rfl)) rfl rfl hl.1 rfl (lv_room (Nat.le_of_ble_eq_true rfl)) dX6_worth_32 ⟨Nat.le_refl _, Nat.le_refl _⟩) hP hD hS hA [1, 2] rfl rfl (fun r_32 u H locs hq_32 hP hD hS => ?_)
      obtain ⟨nm2_32, pl2_32⟩ := u
      replace hP : va_P E.1 clA [(ad 3, .inl (E.2 0, 7, .inl er)), (ad 9, .inl (E.2 0, 128, .inl nm2_32)), (ad 10, .inl (E.2 0, 64, .inl pl2_32)), (ad 11, .inl (E.2 0, 8, .inl td2_9))] _ := hP
      replace hD : va_D A [(ad 3, .inl (E.2 0, 7, .inl er)), (ad 9, .inl (E.2 0, 128, .inl nm2_32)), (ad 10, .inl (E.2 0, 64, .inl pl2_32)), (ad 11, .inl (E.2 0, 8, .inl td2_9))] := hD
      replace hq_32 : r_32 = paysF sa T (rnG sz nu (nn sheet)) (nn til) := hq_32
      refine lv_istore (lv' := [(5, .int r_32), (4, .int (nI (lackF bt sz nu sheet til (inB tg 0 7) 29))), (0, .ref (ad 30)), (1, .int sheet), (2, .int til), (3, .int tg)]) hx hb dX6_worth_35 hl (by decide) rfl (fun ls hl => ?_)
      refine lv_aload_n hx hb dX6_worth_37 rfl (lv_at hl 2 rfl) ?_
      refine fx_get X hE (hR.at hS) 0 rfl rfl 11 rfl q1179 rfl rfl dX6_worth_38 ?_
      refine lv_iload_n hx hb dX6_worth_41 rfl (lv_at hl 5 rfl) ?_
      refine fx_ti (show tg = nI (nn tg) from gt.1) ?_
      have gt2 := gt.2
      refine lv_dup2_11 hx hb dX6_worth_42 rfl rfl ?_
      refine fx_iald X hE hP 3 rfl (nn tg) rfl (by omega) rfl dX6_worth_43 ?_
      refine fx_ti (show (td2_9 (nn tg)) = nI (rnG sz nu (nn sheet) (nn tg)) from (hrow _ (by omega)).1) ?_
      refine lv_iconst (v := 1) hx hb dX6_worth_44 rfl ?_
      refine lv_iadd hx hb dX6_worth_45 ?_
      refine fx_ti (nI_add (rnG sz nu (nn sheet) (nn tg)) 1) ?_
      refine fx_iast (ws' := [(ad 3, .inl (E.2 0, 7, .inl er)), (ad 9, .inl (E.2 0, 128, .inl nm2_32)), (ad 10, .inl (E.2 0, 64, .inl pl2_32)), (ad 11, .inl (E.2 0, 8, .inl (upd td2_9 (nn tg) (nI (rnG sz nu (nn sheet) (nn tg) + 1)))))]) X hE hP hD hS 3 rfl (nn tg) rfl (by omega) rfl rfl dX6_worth_46 (fun H locs hP hD hS => ?_)
      refine lv_iload hx hb dX6_worth_47 (lv_at hl 0 rfl) ?_
      refine lv_aload_n hx hb dX6_worth_49 rfl (lv_at hl 2 rfl) ?_
      refine lv_iload_n hx hb dX6_worth_50 rfl (lv_at hl 4 rfl) ?_
      refine fx_ti (show til = nI (nn til) from htl.1) ?_
      refine lv_aload_n hx hb dX6_worth_51 rfl (lv_at hl 2 rfl) ?_
      refine fx_get X hE (hR.at hS) 0 rfl rfl 11 rfl q1179 rfl rfl dX6_worth_52 ?_
      refine fx_ci (va_runV (As := [.int (nI (nn til)), .ref (ad 11)]) (rest := [.int r_32]) X (mX6_paidI l E ad im at_ op st_ us bn bm la fo fi lp tr_ sp ip sa nm2_32 pl2_32 (ad 11) (upd td2_9 (nn tg) (nI (rnG sz nu (nn sheet) (nn tg) + 1))) (nn til) T (upN (rnG sz nu (nn sheet)) (nn tg) (rnG sz nu (nn sheet) (nn tg) + 1)) htl.2 (by first | assumption | omega) (by first | assumption | omega) (by first | assumption | omega) (rowu_s hrow (fun i hi => hr9 i hi) (by omega)) _) (cwV 2 X.2.2.2.2 (lw_V q1428 q1430 qs54 q75 q1431) rfl rfl rfl ⟨rfl, hdX6_paid⟩ ⟨Nat.le_of_ble_eq_true rfl, Nat.le_of_ble_eq_true rfl⟩) (fx_preV (fx_pre hE hP hD hS hR [1, 2] rfl rfl (fx_rcr 0 rfl (fx_rcr 1 rfl (fx_rcm 3 rfl (by decide) fx_rc0)))) (va_recv hE.1 (hR.at hS) (ci := 6) (q0 := 0) rfl rfl)) rfl rfl hl.1 rfl (lv_room (Nat.le_of_ble_eq_true rfl)) dX6_worth_55 ⟨Nat.le_refl _, Nat.le_refl _⟩) hP hD hS hA [1, 2] rfl rfl (fun r_55 u H locs hq_55 hP hD hS => ?_)
      obtain ⟨nm2_55, pl2_55⟩ := u
      replace hP : va_P E.1 clA [(ad 3, .inl (E.2 0, 7, .inl er)), (ad 9, .inl (E.2 0, 128, .inl nm2_55)), (ad 10, .inl (E.2 0, 64, .inl pl2_55)), (ad 11, .inl (E.2 0, 8, .inl (upd td2_9 (nn tg) (nI (rnG sz nu (nn sheet) (nn tg) + 1)))))] _ := hP
      replace hD : va_D A [(ad 3, .inl (E.2 0, 7, .inl er)), (ad 9, .inl (E.2 0, 128, .inl nm2_55)), (ad 10, .inl (E.2 0, 64, .inl pl2_55)), (ad 11, .inl (E.2 0, 8, .inl (upd td2_9 (nn tg) (nI (rnG sz nu (nn sheet) (nn tg) + 1)))))] := hD
      replace hq_55 : r_55 = paysF sa T (upN (rnG sz nu (nn sheet)) (nn tg) (rnG sz nu (nn sheet) (nn tg) + 1)) (nn til) := hq_55
      refine lv_isub hx hb dX6_worth_58 ?_
      exact hret (r_32 - r_55) (er, nm2_55, pl2_55, (upd td2_9 (nn tg) (nI (rnG sz nu (nn sheet) (nn tg) + 1)))) (by rw [hq_32, hq_55]; simp only [worth_, h0, eR_0, eE_0]) (rfl) hP hD hS (Nat.le_refl _) (Nat.le_refl _) dX6_worth_59
    · -- fall 19
      have n_16 := fx_le0 (a := (lackF bt sz nu sheet til (inB tg 0 7) 29)) (b := 0) c_16 (by omega) (by omega)
      refine lv_aload_n hx hb dX6_worth_19 rfl (lv_at hl 1 rfl) ?_
      refine lv_iload hx hb dX6_worth_20 (lv_at hl 0 rfl) ?_
      refine fx_ci (va_runV (As := [.int (nI (lackF bt sz nu sheet til (inB tg 0 7) 29))]) (rest := []) X (mX6_error l E ad im at_ op st_ us bn bm la fo fi lp tr_ sp ip er (lackF bt sz nu sheet til (inB tg 0 7) 29) (by omega) _) (cwV 1 X.2.2.2.2 (lw_V q1266 q1268 qs32 q75 q1269) rfl rfl rfl ⟨rfl, hdX6_error⟩ ⟨Nat.le_of_ble_eq_true rfl, Nat.le_of_ble_eq_true rfl⟩) (fx_preV (fx_pre hE hP hD hS hR [0] rfl rfl (fx_rcr 0 rfl fx_rc0)) (va_recv hE.1 (hR.at hS) (ci := 6) (q0 := 0) rfl rfl)) rfl rfl hl.1 rfl (lv_room (Nat.le_of_ble_eq_true rfl)) dX6_worth_22 ⟨Nat.le_refl _, Nat.le_refl _⟩) hP hD hS hA [0] rfl rfl (fun r_22 u H locs hq_22 hP hD hS => ?_)
      replace hP : va_P E.1 clA [(ad 3, .inl (E.2 0, 7, .inl (upd er (lackF bt sz nu sheet til (inB tg 0 7) 29) (er (lackF bt sz nu sheet til (inB tg 0 7) 29) + 1)))), (ad 9, .inl (E.2 0, 128, .inl nmd)), (ad 10, .inl (E.2 0, 64, .inl pl)), (ad 11, .inl (E.2 0, 8, .inl td2_9))] _ := hP
      replace hD : va_D A [(ad 3, .inl (E.2 0, 7, .inl (upd er (lackF bt sz nu sheet til (inB tg 0 7) 29) (er (lackF bt sz nu sheet til (inB tg 0 7) 29) + 1)))), (ad 9, .inl (E.2 0, 128, .inl nmd)), (ad 10, .inl (E.2 0, 64, .inl pl)), (ad 11, .inl (E.2 0, 8, .inl td2_9))] := hD
      replace hq_22 : r_22 = erv (lackF bt sz nu sheet til (inB tg 0 7) 29) := hq_22
      exact hret r_22 ((upd er (lackF bt sz nu sheet til (inB tg 0 7) 29) (er (lackF bt sz nu sheet til (inB tg 0 7) 29) + 1)), nmd, pl, td2_9) (by rw [hq_22]; simp only [worth_, eR_p n_16, eE_p n_16, erI]) (rfl) hP hD hS (Nat.le_refl _) (Nat.le_refl _) dX6_worth_25
  · -- False
    subst hr_4
    have hwc : lackF bt sz nu sheet til (inB tg 0 7) 29 = lackF bt sz nu sheet til false 29 := by rw [Bool.eq_false_iff.2 hb_4]
    refine lv_bipush (v := 29) hx hb dX6_worth_7 rfl ?_
    refine fx_ci (va_runV (As := [.int sheet, .int til, .int 0, .int 29]) (rest := []) X (mX6_lacks l E ad im at_ op st_ us bn bm la fo fi lp tr_ sp ip bt sz nu td sheet til 0 29 (by first | assumption | omega) (by decide) _) (cwV 4 X.2.2.2.2 (lw_V q1402 q1404 qs50 q75 q1405) rfl rfl rfl ⟨rfl, hdX6_lacks⟩ ⟨Nat.le_of_ble_eq_true rfl, Nat.le_of_ble_eq_true rfl⟩) (fx_preV (fx_pre hE hP hD hS hR [3] rfl rfl (fx_rcr 0 rfl (fx_rcr 2 rfl (fx_rcr 3 rfl (fx_rcr 4 rfl fx_rc0))))) (va_recv hE.1 (hR.at hS) (ci := 6) (q0 := 0) rfl rfl)) rfl rfl hl.1 rfl (lv_room (Nat.le_of_ble_eq_true rfl)) dX6_worth_9 ⟨Nat.le_refl _, Nat.le_refl _⟩) hP hD hS hA [3] rfl rfl (fun r_9 u H locs hq_9 hP hD hS => ?_)
    obtain ⟨td2_9, rfl⟩ : ∃ z, z = u := ⟨_, rfl⟩
    replace hP : va_P E.1 clA [(ad 3, .inl (E.2 0, 7, .inl er)), (ad 9, .inl (E.2 0, 128, .inl nmd)), (ad 10, .inl (E.2 0, 64, .inl pl)), (ad 11, .inl (E.2 0, 8, .inl td2_9))] _ := hP
    replace hD : va_D A [(ad 3, .inl (E.2 0, 7, .inl er)), (ad 9, .inl (E.2 0, 128, .inl nmd)), (ad 10, .inl (E.2 0, 64, .inl pl)), (ad 11, .inl (E.2 0, 8, .inl td2_9))] := hD
    replace hq_9 : r_9 = nI (lackF bt sz nu sheet til (decide (0 ≠ 0)) 29) ∧ (lackF bt sz nu sheet til (decide (0 ≠ 0)) 29 = 0 → ∀ t, t < 8 → td2_9 t = shG sz nu (nn sheet) t) := hq_9
    refine fx_ti (show r_9 = nI (lackF bt sz nu sheet til (inB tg 0 7) 29) from hq_9.1.trans (congrArg nI hwc.symm)) ?_
    have hcl : lackF bt sz nu sheet til (inB tg 0 7) 29 ≤ 4 := lackF_le
    refine lv_istore (lv' := [(4, .int (nI (lackF bt sz nu sheet til (inB tg 0 7) 29))), (0, .ref (ad 30)), (1, .int sheet), (2, .int til), (3, .int tg)]) hx hb dX6_worth_12 hl (by decide) rfl (fun ls hl => ?_)
    refine lv_iload hx hb dX6_worth_14 (lv_at hl 0 rfl) ?_
    refine lv_if_le (tgt := 26) hx hb dX6_worth_16 (by decide) (fun c_16 => ?_) (fun c_16 => ?_)
    · -- jump 26
      have n_16 := fx_le1 (a := (lackF bt sz nu sheet til (inB tg 0 7) 29)) (b := 0) c_16 (by omega) (by omega)
      have h0 : lackF bt sz nu sheet til (inB tg 0 7) 29 = 0 := by omega
      exact absurd h0 (by rw [hwc]; simp [lackF])
    · -- fall 19
      have n_16 := fx_le0 (a := (lackF bt sz nu sheet til (inB tg 0 7) 29)) (b := 0) c_16 (by omega) (by omega)
      refine lv_aload_n hx hb dX6_worth_19 rfl (lv_at hl 1 rfl) ?_
      refine lv_iload hx hb dX6_worth_20 (lv_at hl 0 rfl) ?_
      refine fx_ci (va_runV (As := [.int (nI (lackF bt sz nu sheet til (inB tg 0 7) 29))]) (rest := []) X (mX6_error l E ad im at_ op st_ us bn bm la fo fi lp tr_ sp ip er (lackF bt sz nu sheet til (inB tg 0 7) 29) (by omega) _) (cwV 1 X.2.2.2.2 (lw_V q1266 q1268 qs32 q75 q1269) rfl rfl rfl ⟨rfl, hdX6_error⟩ ⟨Nat.le_of_ble_eq_true rfl, Nat.le_of_ble_eq_true rfl⟩) (fx_preV (fx_pre hE hP hD hS hR [0] rfl rfl (fx_rcr 0 rfl fx_rc0)) (va_recv hE.1 (hR.at hS) (ci := 6) (q0 := 0) rfl rfl)) rfl rfl hl.1 rfl (lv_room (Nat.le_of_ble_eq_true rfl)) dX6_worth_22 ⟨Nat.le_refl _, Nat.le_refl _⟩) hP hD hS hA [0] rfl rfl (fun r_22 u H locs hq_22 hP hD hS => ?_)
      replace hP : va_P E.1 clA [(ad 3, .inl (E.2 0, 7, .inl (upd er (lackF bt sz nu sheet til (inB tg 0 7) 29) (er (lackF bt sz nu sheet til (inB tg 0 7) 29) + 1)))), (ad 9, .inl (E.2 0, 128, .inl nmd)), (ad 10, .inl (E.2 0, 64, .inl pl)), (ad 11, .inl (E.2 0, 8, .inl td2_9))] _ := hP
      replace hD : va_D A [(ad 3, .inl (E.2 0, 7, .inl (upd er (lackF bt sz nu sheet til (inB tg 0 7) 29) (er (lackF bt sz nu sheet til (inB tg 0 7) 29) + 1)))), (ad 9, .inl (E.2 0, 128, .inl nmd)), (ad 10, .inl (E.2 0, 64, .inl pl)), (ad 11, .inl (E.2 0, 8, .inl td2_9))] := hD
      replace hq_22 : r_22 = erv (lackF bt sz nu sheet til (inB tg 0 7) 29) := hq_22
      exact hret r_22 ((upd er (lackF bt sz nu sheet til (inB tg 0 7) 29) (er (lackF bt sz nu sheet til (inB tg 0 7) 29) + 1)), nmd, pl, td2_9) (by rw [hq_22]; simp only [worth_, eR_p n_16, eE_p n_16, erI]) (rfl) hP hD hS (Nat.le_refl _) (Nat.le_refl _) dX6_worth_25
