set_option maxRecDepth 100000
theorem hdX6_text : yX6_text.cls ≠ "java/lang/invoke/MethodHandle" ∧ yX6_text.cls ≠ "java/lang/invoke/VarHandle" ∧ (parseMethodDescriptor yX6_text.desc).map (fun d => d.parameters.length) = some 1 := by decide +kernel
theorem hdX6_untell : yX6_untell.cls ≠ "java/lang/invoke/MethodHandle" ∧ yX6_untell.cls ≠ "java/lang/invoke/VarHandle" ∧ (parseMethodDescriptor yX6_untell.desc).map (fun d => d.parameters.length) = some 1 := by decide +kernel
theorem hdX6_feed : yX6_feed.cls ≠ "java/lang/invoke/MethodHandle" ∧ yX6_feed.cls ≠ "java/lang/invoke/VarHandle" ∧ (parseMethodDescriptor yX6_feed.desc).map (fun d => d.parameters.length) = some 2 := by decide +kernel
abbrev rmX6_text : Room := { frames := 45, cells := 0, slots := 0, locals := 1400 }
set_option maxHeartbeats 400000 in
set_option maxRecDepth 100000 in
theorem mX6_text (l : Launch) (E : fx_En) (ad : Nat → Nat) (im : Int32) (at_ : Int32) (op : Int32) (st_ : Int32) (us : Int32) (bn : Int32) (bm : Int32) (la : Int32) (fo : Int32) (fi : Int32) (lp : Int32) (tr_ : Int32) (sp : Int32) (ip : Int32) (sa : Nat → Int32) (er : Nat → Int32) (stp : Nat → Int32) (u_ : Int32) (hI : Inv sa) : fx_Mi l yX6_text cX6_text 5 .int rmX6_text E [.ref (ad 30), .int u_] [(ad 30, .inr (6, [.ref (ad 0), .ref (ad 1), .int im, .ref (ad 3), .int at_, .int op, .int st_, .int us, .ref (ad 8), .ref (ad 9), .ref (ad 10), .ref (ad 11), .ref (ad 12), .ref (ad 13), .ref (ad 14), .int bn, .int bm, .ref (ad 17), .int la, .int fo, .int fi, .int lp, .ref (ad 22), .int tr_, .int sp, .int ip, .ref (ad 26), .ref (ad 27), .ref (ad 28), .ref (ad 29)])), (ad 0, .inl (E.2 0, 374, .inl sa)), (ad 3, .inl (E.2 0, 7, .inl er)), (ad 8, .inl (E.2 0, 124, .inl stp))] [] (S := Int32 × Int32 × Int32 × Int32 × (Nat → Int32) × (Nat → Int32) × (Nat → Int32)) (fun (u : Int32 × Int32 × Int32 × Int32 × (Nat → Int32) × (Nat → Int32) × (Nat → Int32)) => [(ad 30, .inr (6, [.ref (ad 0), .ref (ad 1), .int im, .ref (ad 3), .int u.1, .int u.2.1, .int u.2.2.1, .int u.2.2.2.1, .ref (ad 8), .ref (ad 9), .ref (ad 10), .ref (ad 11), .ref (ad 12), .ref (ad 13), .ref (ad 14), .int bn, .int bm, .ref (ad 17), .int la, .int fo, .int fi, .int lp, .ref (ad 22), .int tr_, .int sp, .int ip, .ref (ad 26), .ref (ad 27), .ref (ad 28), .ref (ad 29)])), (ad 0, .inl (E.2 0, 374, .inl u.2.2.2.2.1)), (ad 3, .inl (E.2 0, 7, .inl u.2.2.2.2.2.1)), (ad 8, .inl (E.2 0, 124, .inl u.2.2.2.2.2.2))]) (fun (r : Int32) (u : Int32 × Int32 × Int32 × Int32 × (Nat → Int32) × (Nat → Int32) × (Nat → Int32)) => (r, u.2.2.2.2.1, u.2.2.2.2.2.1) = text_ sa er u_) := by
  refine fx_iW rfl rfl ?_
  intro p e s m args below meth c A ls Q X hE hP hD hR hA hl hret
  have hx := X.1
  have hb := X.2.1
  have hS : va_S A s.heap s.heap [] := va_S.rf
  replace hP : va_P E.1 clA [(ad 30, .inr (6, [.ref (ad 0), .ref (ad 1), .int im, .ref (ad 3), .int at_, .int op, .int st_, .int us, .ref (ad 8), .ref (ad 9), .ref (ad 10), .ref (ad 11), .ref (ad 12), .ref (ad 13), .ref (ad 14), .int bn, .int bm, .ref (ad 17), .int la, .int fo, .int fi, .int lp, .ref (ad 22), .int tr_, .int sp, .int ip, .ref (ad 26), .ref (ad 27), .ref (ad 28), .ref (ad 29)])), (ad 0, .inl (E.2 0, 374, .inl sa)), (ad 3, .inl (E.2 0, 7, .inl er)), (ad 8, .inl (E.2 0, 124, .inl stp))] _ := hP
  replace hD : va_D A [(ad 30, .inr (6, [.ref (ad 0), .ref (ad 1), .int im, .ref (ad 3), .int at_, .int op, .int st_, .int us, .ref (ad 8), .ref (ad 9), .ref (ad 10), .ref (ad 11), .ref (ad 12), .ref (ad 13), .ref (ad 14), .int bn, .int bm, .ref (ad 17), .int la, .int fo, .int fi, .int lp, .ref (ad 22), .int tr_, .int sp, .int ip, .ref (ad 26), .ref (ad 27), .ref (ad 28), .ref (ad 29)])), (ad 0, .inl (E.2 0, 374, .inl sa)), (ad 3, .inl (E.2 0, 7, .inl er)), (ad 8, .inl (E.2 0, 124, .inl stp))] := hD
  replace hl : lv_has ls 5 [(0, .ref (ad 30)), (1, .int u_)] := hl
  have htp := hI.taped.2
  refine lv_iload_n hx hb dX6_text_0 rfl (lv_at hl 1 rfl) ?_
  refine lv_iconst (v := 0) hx hb dX6_text_1 rfl ?_
  refine lv_iconst (v := 1) hx hb dX6_text_2 rfl ?_
  refine fx_ci (va_runS (As := [.int u_, .int 0, .int 1]) (rest := []) X (mX6_in l E u_ 0 1 _) (va_cwS 3 X.2.2.2.2 (lw_S q1263 q1264 q75 q1265) rfl rfl rfl hdX6_in ⟨Nat.le_of_ble_eq_true rfl, Nat.le_of_ble_eq_true rfl⟩) (fx_pre hE hP hD hS hR [] rfl rfl fx_rc0) rfl rfl hl.1 rfl (lv_room (Nat.le_of_ble_eq_true rfl)) dX6_text_3 ⟨Nat.le_refl _, Nat.le_refl _⟩) hP hD hS hA [] rfl rfl (fun r_3 u H locs hq_3 hP hD hS => ?_)
  replace hP : va_P E.1 clA [(ad 30, .inr (6, [.ref (ad 0), .ref (ad 1), .int im, .ref (ad 3), .int at_, .int op, .int st_, .int us, .ref (ad 8), .ref (ad 9), .ref (ad 10), .ref (ad 11), .ref (ad 12), .ref (ad 13), .ref (ad 14), .int bn, .int bm, .ref (ad 17), .int la, .int fo, .int fi, .int lp, .ref (ad 22), .int tr_, .int sp, .int ip, .ref (ad 26), .ref (ad 27), .ref (ad 28), .ref (ad 29)])), (ad 0, .inl (E.2 0, 374, .inl sa)), (ad 3, .inl (E.2 0, 7, .inl er)), (ad 8, .inl (E.2 0, 124, .inl stp))] _ := hP
  replace hD : va_D A [(ad 30, .inr (6, [.ref (ad 0), .ref (ad 1), .int im, .ref (ad 3), .int at_, .int op, .int st_, .int us, .ref (ad 8), .ref (ad 9), .ref (ad 10), .ref (ad 11), .ref (ad 12), .ref (ad 13), .ref (ad 14), .int bn, .int bm, .ref (ad 17), .int la, .int fo, .int fi, .int lp, .ref (ad 22), .int tr_, .int sp, .int ip, .ref (ad 26), .ref (ad 27), .ref (ad 28), .ref (ad 29)])), (ad 0, .inl (E.2 0, 374, .inl sa)), (ad 3, .inl (E.2 0, 7, .inl er)), (ad 8, .inl (E.2 0, 124, .inl stp))] := hD
  replace hq_3 : r_3 = fx_b (inB u_ 0 1 = true) := hq_3
  rcases fx_bc hq_3 with ⟨hb_3, hr_3⟩ | ⟨hb_3, hr_3⟩
  · -- True
    subst hr_3
    refine lv_if_ne (tgt := 15) hx hb dX6_text_6 (by decide) (fun _ => ?_) (fun c => absurd c (by decide))
    refine lv_aload_n hx hb dX6_text_15 rfl (lv_at hl 0 rfl) ?_
    refine lv_iload_n hx hb dX6_text_16 rfl (lv_at hl 1 rfl) ?_
    refine fx_ti (show u_ = nI (nn u_) from (inB_nn (n := 1) hb_3 (by omega)).1) ?_
    have hu2 := (inB_nn (n := 1) hb_3 (by omega)).2
    refine fx_put_ (ws' := [(ad 30, .inr (6, [.ref (ad 0), .ref (ad 1), .int im, .ref (ad 3), .int at_, .int op, .int st_, .int (nI (nn u_)), .ref (ad 8), .ref (ad 9), .ref (ad 10), .ref (ad 11), .ref (ad 12), .ref (ad 13), .ref (ad 14), .int bn, .int bm, .ref (ad 17), .int la, .int fo, .int fi, .int lp, .ref (ad 22), .int tr_, .int sp, .int ip, .ref (ad 26), .ref (ad 27), .ref (ad 28), .ref (ad 29)])), (ad 0, .inl (E.2 0, 374, .inl sa)), (ad 3, .inl (E.2 0, 7, .inl er)), (ad 8, .inl (E.2 0, 124, .inl stp))]) X hE hP hD hS 0 rfl rfl tyX6_ok nmX6 7 rfl q1175 rfl rfl rfl rfl rfl rfl dX6_text_17 (fun H locs hP hD hS => ?_)
    refine lv_aload_n hx hb dX6_text_20 rfl (lv_at hl 0 rfl) ?_
    refine lv_iconst (v := 0) hx hb dX6_text_21 rfl ?_
    refine fx_put_ (ws' := [(ad 30, .inr (6, [.ref (ad 0), .ref (ad 1), .int im, .ref (ad 3), .int 0, .int op, .int st_, .int (nI (nn u_)), .ref (ad 8), .ref (ad 9), .ref (ad 10), .ref (ad 11), .ref (ad 12), .ref (ad 13), .ref (ad 14), .int bn, .int bm, .ref (ad 17), .int la, .int fo, .int fi, .int lp, .ref (ad 22), .int tr_, .int sp, .int ip, .ref (ad 26), .ref (ad 27), .ref (ad 28), .ref (ad 29)])), (ad 0, .inl (E.2 0, 374, .inl sa)), (ad 3, .inl (E.2 0, 7, .inl er)), (ad 8, .inl (E.2 0, 124, .inl stp))]) X hE hP hD hS 0 rfl rfl tyX6_ok nmX6 4 rfl q1172 rfl rfl rfl rfl rfl rfl dX6_text_22 (fun H locs hP hD hS => ?_)
    refine lv_aload_n hx hb dX6_text_25 rfl (lv_at hl 0 rfl) ?_
    refine lv_iconst (v := 0) hx hb dX6_text_26 rfl ?_
    refine fx_put_ (ws' := [(ad 30, .inr (6, [.ref (ad 0), .ref (ad 1), .int im, .ref (ad 3), .int 0, .int 0, .int st_, .int (nI (nn u_)), .ref (ad 8), .ref (ad 9), .ref (ad 10), .ref (ad 11), .ref (ad 12), .ref (ad 13), .ref (ad 14), .int bn, .int bm, .ref (ad 17), .int la, .int fo, .int fi, .int lp, .ref (ad 22), .int tr_, .int sp, .int ip, .ref (ad 26), .ref (ad 27), .ref (ad 28), .ref (ad 29)])), (ad 0, .inl (E.2 0, 374, .inl sa)), (ad 3, .inl (E.2 0, 7, .inl er)), (ad 8, .inl (E.2 0, 124, .inl stp))]) X hE hP hD hS 0 rfl rfl tyX6_ok nmX6 5 rfl q1173 rfl rfl rfl rfl rfl rfl dX6_text_27 (fun H locs hP hD hS => ?_)
    refine lv_aload_n hx hb dX6_text_30 rfl (lv_at hl 0 rfl) ?_
    refine lv_iconst (v := 0) hx hb dX6_text_31 rfl ?_
    refine fx_put_ (ws' := [(ad 30, .inr (6, [.ref (ad 0), .ref (ad 1), .int im, .ref (ad 3), .int 0, .int 0, .int 0, .int (nI (nn u_)), .ref (ad 8), .ref (ad 9), .ref (ad 10), .ref (ad 11), .ref (ad 12), .ref (ad 13), .ref (ad 14), .int bn, .int bm, .ref (ad 17), .int la, .int fo, .int fi, .int lp, .ref (ad 22), .int tr_, .int sp, .int ip, .ref (ad 26), .ref (ad 27), .ref (ad 28), .ref (ad 29)])), (ad 0, .inl (E.2 0, 374, .inl sa)), (ad 3, .inl (E.2 0, 7, .inl er)), (ad 8, .inl (E.2 0, 124, .inl stp))]) X hE hP hD hS 0 rfl rfl tyX6_ok nmX6 6 rfl q1174 rfl rfl rfl rfl rfl rfl dX6_text_32 (fun H locs hP hD hS => ?_)
    refine lv_aload_n hx hb dX6_text_35 rfl (lv_at hl 0 rfl) ?_
    refine fx_ci (va_runV (As := []) (rest := []) X (mX6_whole l E ad im bn bm la fo fi lp tr_ sp ip sa stp (nn u_) Ps0 5 (Nat.le_refl 5) (by first | assumption | omega) (by omega) (Ps0_ok _) (Ps0_MP _ _) (mX6_one l E 5) _) (cwV 0 X.2.2.2.2 (lw_V q1276 q1278 qs33 q75 q1279) rfl rfl rfl ⟨rfl, hdX6_whole⟩ ⟨Nat.le_of_ble_eq_true rfl, Nat.le_of_ble_eq_true rfl⟩) (fx_preV (fx_pre hE hP hD hS hR [0, 3] rfl rfl (fx_rcm 1 rfl (by decide) fx_rc0)) (va_recv hE.1 hP (ci := 6) (q0 := 0) rfl rfl)) rfl rfl hl.1 rfl (lv_room (Nat.le_of_ble_eq_true rfl)) dX6_text_36 ⟨Nat.le_refl _, Nat.le_refl _⟩) hP hD hS hA [0, 3] rfl rfl (fun r_36 u H locs hq_36 hP hD hS => ?_)
    obtain ⟨at2_36, op2_36, st2_36, stp2_36⟩ := u
    replace hP : va_P E.1 clA [(ad 30, .inr (6, [.ref (ad 0), .ref (ad 1), .int im, .ref (ad 3), .int (nI at2_36), .int op2_36, .int st2_36, .int (nI (nn u_)), .ref (ad 8), .ref (ad 9), .ref (ad 10), .ref (ad 11), .ref (ad 12), .ref (ad 13), .ref (ad 14), .int bn, .int bm, .ref (ad 17), .int la, .int fo, .int fi, .int lp, .ref (ad 22), .int tr_, .int sp, .int ip, .ref (ad 26), .ref (ad 27), .ref (ad 28), .ref (ad 29)])), (ad 0, .inl (E.2 0, 374, .inl sa)), (ad 3, .inl (E.2 0, 7, .inl er)), (ad 8, .inl (E.2 0, 124, .inl stp2_36))] _ := hP
    replace hD : va_D A [(ad 30, .inr (6, [.ref (ad 0), .ref (ad 1), .int im, .ref (ad 3), .int (nI at2_36), .int op2_36, .int st2_36, .int (nI (nn u_)), .ref (ad 8), .ref (ad 9), .ref (ad 10), .ref (ad 11), .ref (ad 12), .ref (ad 13), .ref (ad 14), .int bn, .int bm, .ref (ad 17), .int la, .int fo, .int fi, .int lp, .ref (ad 22), .int tr_, .int sp, .int ip, .ref (ad 26), .ref (ad 27), .ref (ad 28), .ref (ad 29)])), (ad 0, .inl (E.2 0, 374, .inl sa)), (ad 3, .inl (E.2 0, 7, .inl er)), (ad 8, .inl (E.2 0, 124, .inl stp2_36))] := hD
    replace hq_36 : r_36 = fx_b (((whlF (lkM sa) (oneF (lkM sa) (nn u_) 5)) Ps0).1 = true) ∧ at2_36 = ((whlF (lkM sa) (oneF (lkM sa) (nn u_) 5)) Ps0).2.p ∧ (((whlF (lkM sa) (oneF (lkM sa) (nn u_) 5)) Ps0).1 = true → op2_36 = nI (5 - 5) ∧ st2_36 = nI ((whlF (lkM sa) (oneF (lkM sa) (nn u_) 5)) Ps0).2.n ∧ MP (nn u_) ((whlF (lkM sa) (oneF (lkM sa) (nn u_) 5)) Ps0).2 stp2_36) := hq_36
    rcases fx_bc hq_36.1 with ⟨hb_36, hr_36⟩ | ⟨hb_36, hr_36⟩
    · -- True
      subst hr_36
      have ha_36 : at2_36 = (rdF sa (nn u_)).2.p := hq_36.2.1
      obtain ⟨ho_36, hs_36, hM_36⟩ := hq_36.2.2 hb_36
      replace hs_36 : st2_36 = nI (rdF sa (nn u_)).2.n := hs_36
      replace hM_36 : MP (nn u_) (rdF sa (nn u_)).2 stp2_36 := hM_36
      replace hb_36 : (rdF sa (nn u_)).1 = true := hb_36
      subst ha_36 ho_36 hs_36
      have hpk : (rdF sa (nn u_)).2.p ≤ 60 ∧ (rdF sa (nn u_)).2.n ≤ 60 := (whl_pp lkH Ps0 (Ps0_ok _) hb_36).1.le60 htp
      refine lv_if_eq (tgt := 59) hx hb dX6_text_39 (by decide) (fun c => absurd c (by decide)) (fun _ => ?_)
      refine lv_aload_n hx hb dX6_text_42 rfl (lv_at hl 0 rfl) ?_
      refine fx_get X hE hP 0 rfl rfl 4 rfl q1172 rfl rfl dX6_text_43 ?_
      refine lv_aload_n hx hb dX6_text_46 rfl (lv_at hl 0 rfl) ?_
      refine fx_get X hE hP 0 rfl rfl 0 rfl q1168 rfl rfl dX6_text_47 ?_
      refine lv_iconst (v := 3) hx hb dX6_text_50 rfl ?_
      refine fx_iald X hE hP 1 rfl 3 rfl (by decide) rfl dX6_text_51 ?_
      refine fx_ti (show (sa 3) = nI (nn (sa 3)) from hI.taped.1) ?_
      refine lv_icmp_ne (tgt := 59) hx hb dX6_text_52 (by decide) (fun c_52 => ?_) (fun c_52 => ?_)
      · -- jump 59
        have n_52 := fx_eq0 (a := ((rdF sa (nn u_)).2.p)) (b := (nn (sa 3))) c_52 (by omega) (by omega)
        have hG : rdG sa (nn u_) = false := by rw [rdG, decide_eq_false n_52, Bool.and_false]
        refine lv_iconst (v := 0) hx hb dX6_text_59 rfl ?_
        refine lv_istore_n (lv' := [(2, .int 0), (0, .ref (ad 30)), (1, .int u_)]) hx hb dX6_text_60 rfl hl (by decide) rfl (fun ls hl => ?_)
        refine lv_aload_n hx hb dX6_text_61 rfl (lv_at hl 1 rfl) ?_
        refine fx_get X hE hP 0 rfl rfl 0 rfl q1168 rfl rfl dX6_text_62 ?_
        refine lv_iconst (v := 3) hx hb dX6_text_65 rfl ?_
        refine lv_iconst (v := 0) hx hb dX6_text_66 rfl ?_
        refine fx_iast (ws' := [(ad 30, .inr (6, [.ref (ad 0), .ref (ad 1), .int im, .ref (ad 3), .int (nI ((rdF sa (nn u_)).2.p)), .int (nI (5 - 5)), .int (nI ((rdF sa (nn u_)).2.n)), .int (nI (nn u_)), .ref (ad 8), .ref (ad 9), .ref (ad 10), .ref (ad 11), .ref (ad 12), .ref (ad 13), .ref (ad 14), .int bn, .int bm, .ref (ad 17), .int la, .int fo, .int fi, .int lp, .ref (ad 22), .int tr_, .int sp, .int ip, .ref (ad 26), .ref (ad 27), .ref (ad 28), .ref (ad 29)])), (ad 0, .inl (E.2 0, 374, .inl (upd sa 3 0))), (ad 3, .inl (E.2 0, 7, .inl er)), (ad 8, .inl (E.2 0, 124, .inl stp2_36))]) X hE hP hD hS 1 rfl 3 rfl (by decide) rfl rfl dX6_text_67 (fun H locs hP hD hS => ?_)
        refine lv_iload_n hx hb dX6_text_68 rfl (lv_at hl 0 rfl) ?_
        refine lv_if_ne (tgt := 80) hx hb dX6_text_69 (by decide) (fun c => (c (by decide)).elim) (fun _ => ?_)
        refine lv_bipush (v := (-10)) hx hb dX6_text_72 rfl ?_
        refine lv_aload_n hx hb dX6_text_74 rfl (lv_at hl 1 rfl) ?_
        refine fx_get X hE hP 0 rfl rfl 4 rfl q1172 rfl rfl dX6_text_75 ?_
        refine lv_isub hx hb dX6_text_78 ?_
        exact hret ((-10) - (nI ((rdF sa (nn u_)).2.p))) (nI ((rdF sa (nn u_)).2.p), nI (5 - 5), nI ((rdF sa (nn u_)).2.n), nI (nn u_), (upd sa 3 0), er, stp2_36) (by rw [text_, if_pos hb_3, if_neg (by rw [hG]; exact Bool.false_ne_true)]) (rfl) hP hD hS (Nat.le_refl _) (Nat.le_refl _) dX6_text_79
      · -- fall 55
        have n_52 := fx_eq1 (a := ((rdF sa (nn u_)).2.p)) (b := (nn (sa 3))) c_52 (by omega) (by omega)
        have hG : rdG sa (nn u_) = true := by rw [rdG, hb_36, decide_eq_true n_52]; rfl
        refine lv_iconst (v := 1) hx hb dX6_text_55 rfl ?_
        refine lv_goto (tgt := 60) hx hb dX6_text_56 (by decide) ?_
        refine lv_istore_n (lv' := [(2, .int 1), (0, .ref (ad 30)), (1, .int u_)]) hx hb dX6_text_60 rfl hl (by decide) rfl (fun ls hl => ?_)
        refine lv_aload_n hx hb dX6_text_61 rfl (lv_at hl 1 rfl) ?_
        refine fx_get X hE hP 0 rfl rfl 0 rfl q1168 rfl rfl dX6_text_62 ?_
        refine lv_iconst (v := 3) hx hb dX6_text_65 rfl ?_
        refine lv_iconst (v := 0) hx hb dX6_text_66 rfl ?_
        refine fx_iast (ws' := [(ad 30, .inr (6, [.ref (ad 0), .ref (ad 1), .int im, .ref (ad 3), .int (nI ((rdF sa (nn u_)).2.p)), .int (nI (5 - 5)), .int (nI ((rdF sa (nn u_)).2.n)), .int (nI (nn u_)), .ref (ad 8), .ref (ad 9), .ref (ad 10), .ref (ad 11), .ref (ad 12), .ref (ad 13), .ref (ad 14), .int bn, .int bm, .ref (ad 17), .int la, .int fo, .int fi, .int lp, .ref (ad 22), .int tr_, .int sp, .int ip, .ref (ad 26), .ref (ad 27), .ref (ad 28), .ref (ad 29)])), (ad 0, .inl (E.2 0, 374, .inl (upd sa 3 0))), (ad 3, .inl (E.2 0, 7, .inl er)), (ad 8, .inl (E.2 0, 124, .inl stp2_36))]) X hE hP hD hS 1 rfl 3 rfl (by decide) rfl rfl dX6_text_67 (fun H locs hP hD hS => ?_)
        refine lv_iload_n hx hb dX6_text_68 rfl (lv_at hl 0 rfl) ?_
        refine lv_if_ne (tgt := 80) hx hb dX6_text_69 (by decide) (fun _ => ?_) (fun c => absurd c (by decide))
        refine lv_bipush (v := 40) hx hb dX6_text_80 rfl ?_
        refine lv_bipush (v := 125) hx hb dX6_text_82 rfl ?_
        refine lv_iload_n hx hb dX6_text_84 rfl (lv_at hl 2 rfl) ?_
        refine fx_ti (show u_ = nI (nn u_) from (inB_nn (n := 1) hb_3 (by omega)).1) ?_
        refine lv_imul hx hb dX6_text_85 ?_
        refine fx_ti (pk_mul 125 (nn u_)) ?_
        refine lv_iadd hx hb dX6_text_86 ?_
        refine fx_ti (nI_add 40 (125 * (nn u_))) ?_
        refine lv_istore_n (lv' := [(3, .int (nI (40 + 125 * (nn u_)))), (2, .int 1), (0, .ref (ad 30)), (1, .int u_)]) hx hb dX6_text_87 rfl hl (by decide) rfl (fun ls hl => ?_)
        refine lv_aload_n hx hb dX6_text_88 rfl (lv_at hl 2 rfl) ?_
        refine fx_get X hE hP 0 rfl rfl 0 rfl q1168 rfl rfl dX6_text_89 ?_
        refine lv_iload_n hx hb dX6_text_92 rfl (lv_at hl 0 rfl) ?_
        refine lv_aload_n hx hb dX6_text_93 rfl (lv_at hl 2 rfl) ?_
        refine fx_get X hE hP 0 rfl rfl 6 rfl q1174 rfl rfl dX6_text_94 ?_
        refine fx_iast (ws' := [(ad 30, .inr (6, [.ref (ad 0), .ref (ad 1), .int im, .ref (ad 3), .int (nI ((rdF sa (nn u_)).2.p)), .int (nI (5 - 5)), .int (nI ((rdF sa (nn u_)).2.n)), .int (nI (nn u_)), .ref (ad 8), .ref (ad 9), .ref (ad 10), .ref (ad 11), .ref (ad 12), .ref (ad 13), .ref (ad 14), .int bn, .int bm, .ref (ad 17), .int la, .int fo, .int fi, .int lp, .ref (ad 22), .int tr_, .int sp, .int ip, .ref (ad 26), .ref (ad 27), .ref (ad 28), .ref (ad 29)])), (ad 0, .inl (E.2 0, 374, .inl (upd (upd sa 3 0) (40 + 125 * (nn u_)) (nI ((rdF sa (nn u_)).2.n))))), (ad 3, .inl (E.2 0, 7, .inl er)), (ad 8, .inl (E.2 0, 124, .inl stp2_36))]) X hE hP hD hS 1 rfl (40 + 125 * (nn u_)) rfl (by omega) rfl rfl dX6_text_97 (fun H locs hP hD hS => ?_)
        refine lv_iconst (v := 0) hx hb dX6_text_98 rfl ?_
        refine lv_istore (lv' := [(4, .int 0), (3, .int (nI (40 + 125 * (nn u_)))), (2, .int 1), (0, .ref (ad 30)), (1, .int u_)]) hx hb dX6_text_99 hl (by decide) rfl (fun ls hl => ?_)
        have loop_101 : ∀ (n_101 : Nat) (t : Nat) (sv : Nat → Int32), (2 * (rdF sa (nn u_)).2.n - t < n_101) → (t ≤ 2 * (rdF sa (nn u_)).2.n) → (sv = cpT stp2_36 (40 + 125 * nn u_ + 1) t (upd (upd sa 3 0) (40 + 125 * nn u_) (nI (rdF sa (nn u_)).2.n))) → ∀ (H : Heap) (locs : List Loc), va_P E.1 clA [(ad 30, .inr (6, [.ref (ad 0), .ref (ad 1), .int im, .ref (ad 3), .int (nI ((rdF sa (nn u_)).2.p)), .int (nI (5 - 5)), .int (nI ((rdF sa (nn u_)).2.n)), .int (nI (nn u_)), .ref (ad 8), .ref (ad 9), .ref (ad 10), .ref (ad 11), .ref (ad 12), .ref (ad 13), .ref (ad 14), .int bn, .int bm, .ref (ad 17), .int la, .int fo, .int fi, .int lp, .ref (ad 22), .int tr_, .int sp, .int ip, .ref (ad 26), .ref (ad 27), .ref (ad 28), .ref (ad 29)])), (ad 0, .inl (E.2 0, 374, .inl sv)), (ad 3, .inl (E.2 0, 7, .inl er)), (ad 8, .inl (E.2 0, 124, .inl stp2_36))] H → va_D A [(ad 30, .inr (6, [.ref (ad 0), .ref (ad 1), .int im, .ref (ad 3), .int (nI ((rdF sa (nn u_)).2.p)), .int (nI (5 - 5)), .int (nI ((rdF sa (nn u_)).2.n)), .int (nI (nn u_)), .ref (ad 8), .ref (ad 9), .ref (ad 10), .ref (ad 11), .ref (ad 12), .ref (ad 13), .ref (ad 14), .int bn, .int bm, .ref (ad 17), .int la, .int fo, .int fi, .int lp, .ref (ad 22), .int tr_, .int sp, .int ip, .ref (ad 26), .ref (ad 27), .ref (ad 28), .ref (ad 29)])), (ad 0, .inl (E.2 0, 374, .inl sv)), (ad 3, .inl (E.2 0, 7, .inl er)), (ad 8, .inl (E.2 0, 124, .inl stp2_36))] → va_S A s.heap H locs → ∀ (ls : Array Slot), lv_has ls 5 [(4, .int (nI t)), (3, .int (nI (40 + 125 * (nn u_)))), (2, .int 1), (0, .ref (ad 30)), (1, .int u_)] → W p l e rmX6_text s m args below meth c H locs 0 0 Q (F0 m 101 ls []) := by
          intro n_101
          induction n_101 with
          | zero => intro t sv hm_101; exact absurd hm_101 (Nat.not_lt_zero _)
          | succ n_101 ih_101 =>
            intro t sv hm_101 ht hsv H locs hP hD hS ls hl
            refine lv_iload hx hb dX6_text_101 (lv_at hl 0 rfl) ?_
            refine lv_iconst (v := 2) hx hb dX6_text_103 rfl ?_
            refine lv_aload_n hx hb dX6_text_104 rfl (lv_at hl 3 rfl) ?_
            refine fx_get X hE hP 0 rfl rfl 6 rfl q1174 rfl rfl dX6_text_105 ?_
            refine lv_imul hx hb dX6_text_108 ?_
            refine fx_ti (pk_mul 2 ((rdF sa (nn u_)).2.n)) ?_
            refine lv_icmp_ge (tgt := 136) hx hb dX6_text_109 (by decide) (fun c_109 => ?_) (fun c_109 => ?_)
            · -- jump 136
              have n_109 := fx_le1 (a := (2 * ((rdF sa (nn u_)).2.n))) (b := t) c_109 (by omega) (by omega)
              obtain rfl : t = 2 * (rdF sa (nn u_)).2.n := by omega
              have hsx : sv = txA sa (nn u_) (rdF sa (nn u_)).2 := txA_of hM_36 hsv
              subst hsx
              refine lv_iconst (v := 1) hx hb dX6_text_136 rfl ?_
              exact hret 1 (nI ((rdF sa (nn u_)).2.p), nI (5 - 5), nI ((rdF sa (nn u_)).2.n), nI (nn u_), (txA sa (nn u_) (rdF sa (nn u_)).2), er, stp2_36) (by rw [text_, if_pos hb_3, if_pos hG]) (rfl) hP hD hS (Nat.le_refl _) (Nat.le_refl _) dX6_text_137
            · -- fall 112
              have n_109 := fx_le0 (a := (2 * ((rdF sa (nn u_)).2.n))) (b := t) c_109 (by omega) (by omega)
              refine lv_aload_n hx hb dX6_text_112 rfl (lv_at hl 3 rfl) ?_
              refine fx_get X hE hP 0 rfl rfl 0 rfl q1168 rfl rfl dX6_text_113 ?_
              refine lv_iload_n hx hb dX6_text_116 rfl (lv_at hl 1 rfl) ?_
              refine lv_iconst (v := 1) hx hb dX6_text_117 rfl ?_
              refine lv_iadd hx hb dX6_text_118 ?_
              refine fx_ti (nI_add (40 + 125 * (nn u_)) 1) ?_
              refine lv_iload hx hb dX6_text_119 (lv_at hl 0 rfl) ?_
              refine lv_iadd hx hb dX6_text_121 ?_
              refine fx_ti (nI_add (40 + 125 * (nn u_) + 1) t) ?_
              refine lv_aload_n hx hb dX6_text_122 rfl (lv_at hl 3 rfl) ?_
              refine fx_get X hE hP 0 rfl rfl 8 rfl q1176 rfl rfl dX6_text_123 ?_
              refine lv_iload hx hb dX6_text_126 (lv_at hl 0 rfl) ?_
              refine fx_iald X hE hP 3 rfl t rfl (by omega) rfl dX6_text_128 ?_
              refine fx_iast (ws' := [(ad 30, .inr (6, [.ref (ad 0), .ref (ad 1), .int im, .ref (ad 3), .int (nI ((rdF sa (nn u_)).2.p)), .int (nI (5 - 5)), .int (nI ((rdF sa (nn u_)).2.n)), .int (nI (nn u_)), .ref (ad 8), .ref (ad 9), .ref (ad 10), .ref (ad 11), .ref (ad 12), .ref (ad 13), .ref (ad 14), .int bn, .int bm, .ref (ad 17), .int la, .int fo, .int fi, .int lp, .ref (ad 22), .int tr_, .int sp, .int ip, .ref (ad 26), .ref (ad 27), .ref (ad 28), .ref (ad 29)])), (ad 0, .inl (E.2 0, 374, .inl (upd sv (40 + 125 * (nn u_) + 1 + t) (stp2_36 t)))), (ad 3, .inl (E.2 0, 7, .inl er)), (ad 8, .inl (E.2 0, 124, .inl stp2_36))]) X hE hP hD hS 1 rfl (40 + 125 * (nn u_) + 1 + t) rfl (by omega) rfl rfl dX6_text_129 (fun H locs hP hD hS => ?_)
              refine lv_iinc (v := nI (t + 1)) (lv' := [(4, .int (nI (t + 1))), (3, .int (nI (40 + 125 * (nn u_)))), (2, .int 1), (0, .ref (ad 30)), (1, .int u_)]) hx hb dX6_text_130 hl (k := 0) rfl (fx_inc _) (by decide) rfl (fun ls hl => ?_)
              refine lv_goto (tgt := 101) hx hb dX6_text_133 (by decide) ?_
              exact ih_101 (t + 1) (upd sv (40 + 125 * (nn u_) + 1 + t) (stp2_36 t)) (by omega) (by omega) (cpT_s hsv) _ _ hP hD hS ls (lv_sub hl [0, 1, 2, 3, 4] rfl)
        exact loop_101 ((2 * (rdF sa (nn u_)).2.n - 0) + 1) 0 (upd (upd sa 3 0) (40 + 125 * (nn u_)) (nI ((rdF sa (nn u_)).2.n))) (Nat.lt_succ_self _) (Nat.zero_le _) (cpT_0 _ _ _) _ _ hP hD hS ls (lv_sub hl [0, 1, 2, 3, 4] rfl)
    · -- False
      subst hr_36
      have ha_36 : at2_36 = (rdF sa (nn u_)).2.p := hq_36.2.1
      replace hb_36 : ¬ (rdF sa (nn u_)).1 = true := hb_36
      subst ha_36
      have hG : rdG sa (nn u_) = false := by rw [rdG, Bool.eq_false_iff.2 hb_36, Bool.false_and]
      refine lv_if_eq (tgt := 59) hx hb dX6_text_39 (by decide) (fun _ => ?_) (fun c => (c (by decide)).elim)
      refine lv_iconst (v := 0) hx hb dX6_text_59 rfl ?_
      refine lv_istore_n (lv' := [(2, .int 0), (0, .ref (ad 30)), (1, .int u_)]) hx hb dX6_text_60 rfl hl (by decide) rfl (fun ls hl => ?_)
      refine lv_aload_n hx hb dX6_text_61 rfl (lv_at hl 1 rfl) ?_
      refine fx_get X hE hP 0 rfl rfl 0 rfl q1168 rfl rfl dX6_text_62 ?_
      refine lv_iconst (v := 3) hx hb dX6_text_65 rfl ?_
      refine lv_iconst (v := 0) hx hb dX6_text_66 rfl ?_
      refine fx_iast (ws' := [(ad 30, .inr (6, [.ref (ad 0), .ref (ad 1), .int im, .ref (ad 3), .int (nI ((rdF sa (nn u_)).2.p)), .int op2_36, .int st2_36, .int (nI (nn u_)), .ref (ad 8), .ref (ad 9), .ref (ad 10), .ref (ad 11), .ref (ad 12), .ref (ad 13), .ref (ad 14), .int bn, .int bm, .ref (ad 17), .int la, .int fo, .int fi, .int lp, .ref (ad 22), .int tr_, .int sp, .int ip, .ref (ad 26), .ref (ad 27), .ref (ad 28), .ref (ad 29)])), (ad 0, .inl (E.2 0, 374, .inl (upd sa 3 0))), (ad 3, .inl (E.2 0, 7, .inl er)), (ad 8, .inl (E.2 0, 124, .inl stp2_36))]) X hE hP hD hS 1 rfl 3 rfl (by decide) rfl rfl dX6_text_67 (fun H locs hP hD hS => ?_)
      refine lv_iload_n hx hb dX6_text_68 rfl (lv_at hl 0 rfl) ?_
      refine lv_if_ne (tgt := 80) hx hb dX6_text_69 (by decide) (fun c => (c (by decide)).elim) (fun _ => ?_)
      refine lv_bipush (v := (-10)) hx hb dX6_text_72 rfl ?_
      refine lv_aload_n hx hb dX6_text_74 rfl (lv_at hl 1 rfl) ?_
      refine fx_get X hE hP 0 rfl rfl 4 rfl q1172 rfl rfl dX6_text_75 ?_
      refine lv_isub hx hb dX6_text_78 ?_
      exact hret ((-10) - (nI ((rdF sa (nn u_)).2.p))) (nI ((rdF sa (nn u_)).2.p), op2_36, st2_36, nI (nn u_), (upd sa 3 0), er, stp2_36) (by rw [text_, if_pos hb_3, if_neg (by rw [hG]; exact Bool.false_ne_true)]) (rfl) hP hD hS (Nat.le_refl _) (Nat.le_refl _) dX6_text_79
  · -- False
    subst hr_3
    refine lv_if_ne (tgt := 15) hx hb dX6_text_6 (by decide) (fun c => (c (by decide)).elim) (fun _ => ?_)
    refine lv_aload_n hx hb dX6_text_9 rfl (lv_at hl 0 rfl) ?_
    refine lv_iconst (v := 1) hx hb dX6_text_10 rfl ?_
    refine fx_ci (va_runV (As := [.int 1]) (rest := []) X (mX6_error l E ad im at_ op st_ us bn bm la fo fi lp tr_ sp ip er 1 (by decide) _) (cwV 1 X.2.2.2.2 (lw_V q1266 q1268 qs32 q75 q1269) rfl rfl rfl ⟨rfl, hdX6_error⟩ ⟨Nat.le_of_ble_eq_true rfl, Nat.le_of_ble_eq_true rfl⟩) (fx_preV (fx_pre hE hP hD hS hR [2] rfl rfl (fx_rcm 0 rfl (by decide) fx_rc0)) (va_recv hE.1 hP (ci := 6) (q0 := 0) rfl rfl)) rfl rfl hl.1 rfl (lv_room (Nat.le_of_ble_eq_true rfl)) dX6_text_11 ⟨Nat.le_refl _, Nat.le_refl _⟩) hP hD hS hA [2] rfl rfl (fun r_11 u H locs hq_11 hP hD hS => ?_)
    replace hP : va_P E.1 clA [(ad 30, .inr (6, [.ref (ad 0), .ref (ad 1), .int im, .ref (ad 3), .int at_, .int op, .int st_, .int us, .ref (ad 8), .ref (ad 9), .ref (ad 10), .ref (ad 11), .ref (ad 12), .ref (ad 13), .ref (ad 14), .int bn, .int bm, .ref (ad 17), .int la, .int fo, .int fi, .int lp, .ref (ad 22), .int tr_, .int sp, .int ip, .ref (ad 26), .ref (ad 27), .ref (ad 28), .ref (ad 29)])), (ad 0, .inl (E.2 0, 374, .inl sa)), (ad 3, .inl (E.2 0, 7, .inl (upd er 1 (er 1 + 1)))), (ad 8, .inl (E.2 0, 124, .inl stp))] _ := hP
    replace hD : va_D A [(ad 30, .inr (6, [.ref (ad 0), .ref (ad 1), .int im, .ref (ad 3), .int at_, .int op, .int st_, .int us, .ref (ad 8), .ref (ad 9), .ref (ad 10), .ref (ad 11), .ref (ad 12), .ref (ad 13), .ref (ad 14), .int bn, .int bm, .ref (ad 17), .int la, .int fo, .int fi, .int lp, .ref (ad 22), .int tr_, .int sp, .int ip, .ref (ad 26), .ref (ad 27), .ref (ad 28), .ref (ad 29)])), (ad 0, .inl (E.2 0, 374, .inl sa)), (ad 3, .inl (E.2 0, 7, .inl (upd er 1 (er 1 + 1)))), (ad 8, .inl (E.2 0, 124, .inl stp))] := hD
    replace hq_11 : r_11 = erv 1 := hq_11
    exact hret r_11 (at_, op, st_, us, sa, (upd er 1 (er 1 + 1)), stp) (by rw [hq_11]; simp [text_, hb_3, erI]) (rfl) hP hD hS (Nat.le_refl _) (Nat.le_refl _) dX6_text_14
abbrev rmX6_untell : Room := { frames := 1, cells := 0, slots := 0, locals := 22 }
set_option maxHeartbeats 400000 in
set_option maxRecDepth 100000 in
theorem mX6_untell (l : Launch) (E : fx_En) (ad : Nat → Nat) (im : Int32) (at_ : Int32) (op : Int32) (st_ : Int32) (us : Int32) (bn : Int32) (bm : Int32) (la : Int32) (fo : Int32) (fi : Int32) (lp : Int32) (tr_ : Int32) (sp : Int32) (ip : Int32) (sa : Nat → Int32) (er : Nat → Int32) (u_ : Int32) (T : Tx) (T1 : Tx) (hT : TM sa 0 T) (hTo : TOk T) (hT1 : TM sa 1 T1) (hTo1 : TOk T1) : fx_Mi l yX6_untell cX6_untell 3 .int rmX6_untell E [.ref (ad 30), .int u_] [(ad 0, .inl (E.2 0, 374, .inl sa)), (ad 3, .inl (E.2 0, 7, .inl er))] [(ad 30, .inr (6, [.ref (ad 0), .ref (ad 1), .int im, .ref (ad 3), .int at_, .int op, .int st_, .int us, .ref (ad 8), .ref (ad 9), .ref (ad 10), .ref (ad 11), .ref (ad 12), .ref (ad 13), .ref (ad 14), .int bn, .int bm, .ref (ad 17), .int la, .int fo, .int fi, .int lp, .ref (ad 22), .int tr_, .int sp, .int ip, .ref (ad 26), .ref (ad 27), .ref (ad 28), .ref (ad 29)]))] (S := (Nat → Int32) × (Nat → Int32)) (fun (u : (Nat → Int32) × (Nat → Int32)) => [(ad 0, .inl (E.2 0, 374, .inl u.1)), (ad 3, .inl (E.2 0, 7, .inl u.2))]) (fun (r : Int32) (u : (Nat → Int32) × (Nat → Int32)) => (r, u.1, u.2) = untell_ sa er u_) := by
  refine fx_iW rfl rfl ?_
  intro p e s m args below meth c A ls Q X hE hP hD hR hA hl hret
  have hx := X.1
  have hb := X.2.1
  have hS : va_S A s.heap s.heap [] := va_S.rf
  replace hP : va_P E.1 clA [(ad 0, .inl (E.2 0, 374, .inl sa)), (ad 3, .inl (E.2 0, 7, .inl er))] _ := hP
  replace hD : va_D A [(ad 0, .inl (E.2 0, 374, .inl sa)), (ad 3, .inl (E.2 0, 7, .inl er))] := hD
  replace hl : lv_has ls 3 [(0, .ref (ad 30)), (1, .int u_)] := hl
  refine lv_iload_n hx hb dX6_untell_0 rfl (lv_at hl 1 rfl) ?_
  refine lv_iconst (v := 0) hx hb dX6_untell_1 rfl ?_
  refine lv_iconst (v := 1) hx hb dX6_untell_2 rfl ?_
  refine fx_ci (va_runS (As := [.int u_, .int 0, .int 1]) (rest := []) X (mX6_in l E u_ 0 1 _) (va_cwS 3 X.2.2.2.2 (lw_S q1263 q1264 q75 q1265) rfl rfl rfl hdX6_in ⟨Nat.le_of_ble_eq_true rfl, Nat.le_of_ble_eq_true rfl⟩) (fx_pre hE hP hD hS hR [] rfl rfl fx_rc0) rfl rfl hl.1 rfl (lv_room (Nat.le_of_ble_eq_true rfl)) dX6_untell_3 ⟨Nat.le_refl _, Nat.le_refl _⟩) hP hD hS hA [] rfl rfl (fun r_3 u H locs hq_3 hP hD hS => ?_)
  replace hP : va_P E.1 clA [(ad 0, .inl (E.2 0, 374, .inl sa)), (ad 3, .inl (E.2 0, 7, .inl er))] _ := hP
  replace hD : va_D A [(ad 0, .inl (E.2 0, 374, .inl sa)), (ad 3, .inl (E.2 0, 7, .inl er))] := hD
  replace hq_3 : r_3 = fx_b (inB u_ 0 1 = true) := hq_3
  rcases fx_bc hq_3 with ⟨hb_3, hr_3⟩ | ⟨hb_3, hr_3⟩
  · -- True
    subst hr_3
    refine lv_if_ne (tgt := 15) hx hb dX6_untell_6 (by decide) (fun _ => ?_) (fun c => absurd c (by decide))
    have gn := inB_nn (n := 1) hb_3 (by omega)
    have hu2 := gn.2
    have hTT := TM_TT hT hT1 (k := nn u_) (by omega)
    have hTTo := TOk_TT (k := nn u_) hTo hTo1
    have hle := hTTo.le
    refine lv_aload_n hx hb dX6_untell_15 rfl (lv_at hl 0 rfl) ?_
    refine lv_iload_n hx hb dX6_untell_16 rfl (lv_at hl 1 rfl) ?_
    refine fx_ti (show u_ = nI (nn u_) from gn.1) ?_
    refine fx_ci (va_runV (As := [.int (nI (nn u_))]) (rest := []) X (mX6_hasText l E ad im at_ op st_ us bn bm la fo fi lp tr_ sp ip sa (nn u_) (TTx T T1 (nn u_)) (by omega) hTT hTTo _) (cwV 1 X.2.2.2.2 (lw_V q1320 q1322 qs43 q75 q1323) rfl rfl rfl ⟨rfl, hdX6_hasText⟩ ⟨Nat.le_of_ble_eq_true rfl, Nat.le_of_ble_eq_true rfl⟩) (fx_preV (fx_pre hE hP hD hS hR [] rfl rfl (fx_rcr 0 rfl (fx_rcm 0 rfl (by decide) fx_rc0))) (va_recv hE.1 (hR.at hS) (ci := 6) (q0 := 0) rfl rfl)) rfl rfl hl.1 rfl (lv_room (Nat.le_of_ble_eq_true rfl)) dX6_untell_17 ⟨Nat.le_refl _, Nat.le_refl _⟩) hP hD hS hA [] rfl rfl (fun r_17 u H locs hq_17 hP hD hS => ?_)
    replace hP : va_P E.1 clA [(ad 0, .inl (E.2 0, 374, .inl sa)), (ad 3, .inl (E.2 0, 7, .inl er))] _ := hP
    replace hD : va_D A [(ad 0, .inl (E.2 0, 374, .inl sa)), (ad 3, .inl (E.2 0, 7, .inl er))] := hD
    replace hq_17 : r_17 = fx_b ((TTx T T1 (nn u_)).1 ≠ 0) := hq_17
    rcases fx_bc hq_17 with ⟨hb_17, hr_17⟩ | ⟨hb_17, hr_17⟩
    · -- True
      subst hr_17
      refine lv_if_eq (tgt := 27) hx hb dX6_untell_20 (by decide) (fun c => absurd c (by decide)) (fun _ => ?_)
      refine lv_iconst (v := 1) hx hb dX6_untell_23 rfl ?_
      refine lv_goto (tgt := 28) hx hb dX6_untell_24 (by decide) ?_
      refine lv_istore_n (lv' := [(2, .int 1), (0, .ref (ad 30)), (1, .int u_)]) hx hb dX6_untell_28 rfl hl (by decide) rfl (fun ls hl => ?_)
      refine lv_aload_n hx hb dX6_untell_29 rfl (lv_at hl 1 rfl) ?_
      refine fx_get X hE (hR.at hS) 0 rfl rfl 0 rfl q1168 rfl rfl dX6_untell_30 ?_
      refine lv_bipush (v := 40) hx hb dX6_untell_33 rfl ?_
      refine lv_bipush (v := 125) hx hb dX6_untell_35 rfl ?_
      refine lv_iload_n hx hb dX6_untell_37 rfl (lv_at hl 2 rfl) ?_
      refine fx_ti (show u_ = nI (nn u_) from gn.1) ?_
      refine lv_imul hx hb dX6_untell_38 ?_
      refine fx_ti (pk_mul 125 (nn u_)) ?_
      refine lv_iadd hx hb dX6_untell_39 ?_
      refine fx_ti (nI_add 40 (125 * (nn u_))) ?_
      refine lv_iconst (v := 0) hx hb dX6_untell_40 rfl ?_
      refine fx_iast (ws' := [(ad 0, .inl (E.2 0, 374, .inl (upd sa (40 + 125 * (nn u_)) 0))), (ad 3, .inl (E.2 0, 7, .inl er))]) X hE hP hD hS 0 rfl (40 + 125 * (nn u_)) rfl (by omega) rfl rfl dX6_untell_41 (fun H locs hP hD hS => ?_)
      refine lv_iload_n hx hb dX6_untell_42 rfl (lv_at hl 0 rfl) ?_
      exact hret 1 ((upd sa (40 + 125 * (nn u_)) 0), er) (by rw [untell_, if_pos hb_3]; exact congrArg (fun x => (x, _, er)) (fx_bt (by rw [hTT.1]; exact nI_ne0 (by omega) (by omega)))) (rfl) hP hD hS (Nat.le_refl _) (Nat.le_refl _) dX6_untell_43
    · -- False
      subst hr_17
      refine lv_if_eq (tgt := 27) hx hb dX6_untell_20 (by decide) (fun _ => ?_) (fun c => (c (by decide)).elim)
      refine lv_iconst (v := 0) hx hb dX6_untell_27 rfl ?_
      refine lv_istore_n (lv' := [(2, .int 0), (0, .ref (ad 30)), (1, .int u_)]) hx hb dX6_untell_28 rfl hl (by decide) rfl (fun ls hl => ?_)
      refine lv_aload_n hx hb dX6_untell_29 rfl (lv_at hl 1 rfl) ?_
      refine fx_get X hE (hR.at hS) 0 rfl rfl 0 rfl q1168 rfl rfl dX6_untell_30 ?_
      refine lv_bipush (v := 40) hx hb dX6_untell_33 rfl ?_
      refine lv_bipush (v := 125) hx hb dX6_untell_35 rfl ?_
      refine lv_iload_n hx hb dX6_untell_37 rfl (lv_at hl 2 rfl) ?_
      refine fx_ti (show u_ = nI (nn u_) from gn.1) ?_
      refine lv_imul hx hb dX6_untell_38 ?_
      refine fx_ti (pk_mul 125 (nn u_)) ?_
      refine lv_iadd hx hb dX6_untell_39 ?_
      refine fx_ti (nI_add 40 (125 * (nn u_))) ?_
      refine lv_iconst (v := 0) hx hb dX6_untell_40 rfl ?_
      refine fx_iast (ws' := [(ad 0, .inl (E.2 0, 374, .inl (upd sa (40 + 125 * (nn u_)) 0))), (ad 3, .inl (E.2 0, 7, .inl er))]) X hE hP hD hS 0 rfl (40 + 125 * (nn u_)) rfl (by omega) rfl rfl dX6_untell_41 (fun H locs hP hD hS => ?_)
      refine lv_iload_n hx hb dX6_untell_42 rfl (lv_at hl 0 rfl) ?_
      exact hret 0 ((upd sa (40 + 125 * (nn u_)) 0), er) (by rw [untell_, if_pos hb_3]; exact congrArg (fun x => (x, _, er)) (fx_bf (fun h => h (by rw [hTT.1, show (TTx T T1 (nn u_)).1 = 0 by omega]; rfl)))) (rfl) hP hD hS (Nat.le_refl _) (Nat.le_refl _) dX6_untell_43
  · -- False
    subst hr_3
    refine lv_if_ne (tgt := 15) hx hb dX6_untell_6 (by decide) (fun c => (c (by decide)).elim) (fun _ => ?_)
    refine lv_aload_n hx hb dX6_untell_9 rfl (lv_at hl 0 rfl) ?_
    refine lv_iconst (v := 1) hx hb dX6_untell_10 rfl ?_
    refine fx_ci (va_runV (As := [.int 1]) (rest := []) X (mX6_error l E ad im at_ op st_ us bn bm la fo fi lp tr_ sp ip er 1 (by decide) _) (cwV 1 X.2.2.2.2 (lw_V q1266 q1268 qs32 q75 q1269) rfl rfl rfl ⟨rfl, hdX6_error⟩ ⟨Nat.le_of_ble_eq_true rfl, Nat.le_of_ble_eq_true rfl⟩) (fx_preV (fx_pre hE hP hD hS hR [1] rfl rfl (fx_rcr 0 rfl fx_rc0)) (va_recv hE.1 (hR.at hS) (ci := 6) (q0 := 0) rfl rfl)) rfl rfl hl.1 rfl (lv_room (Nat.le_of_ble_eq_true rfl)) dX6_untell_11 ⟨Nat.le_refl _, Nat.le_refl _⟩) hP hD hS hA [1] rfl rfl (fun r_11 u H locs hq_11 hP hD hS => ?_)
    replace hP : va_P E.1 clA [(ad 0, .inl (E.2 0, 374, .inl sa)), (ad 3, .inl (E.2 0, 7, .inl (upd er 1 (er 1 + 1))))] _ := hP
    replace hD : va_D A [(ad 0, .inl (E.2 0, 374, .inl sa)), (ad 3, .inl (E.2 0, 7, .inl (upd er 1 (er 1 + 1))))] := hD
    replace hq_11 : r_11 = erv 1 := hq_11
    exact hret r_11 (sa, (upd er 1 (er 1 + 1))) (by rw [hq_11]; simp [untell_, hb_3, erI]) (rfl) hP hD hS (Nat.le_refl _) (Nat.le_refl _) dX6_untell_14
abbrev rmX6_feed : Room := { frames := 1, cells := 0, slots := 0, locals := 22 }
set_option maxHeartbeats 400000 in
set_option maxRecDepth 100000 in
theorem mX6_feed (l : Launch) (E : fx_En) (ad : Nat → Nat) (im : Int32) (at_ : Int32) (op : Int32) (st_ : Int32) (us : Int32) (bn : Int32) (bm : Int32) (la : Int32) (fo : Int32) (fi : Int32) (lp : Int32) (tr_ : Int32) (sp : Int32) (ip : Int32) (sa : Nat → Int32) (er : Nat → Int32) (wd : Int64) (n_ : Int32) (hI : Inv sa) : fx_Mi l yX6_feed cX6_feed 5 .int rmX6_feed E [.ref (ad 30), .long wd, .int n_] [(ad 0, .inl (E.2 0, 374, .inl sa)), (ad 3, .inl (E.2 0, 7, .inl er))] [(ad 30, .inr (6, [.ref (ad 0), .ref (ad 1), .int im, .ref (ad 3), .int at_, .int op, .int st_, .int us, .ref (ad 8), .ref (ad 9), .ref (ad 10), .ref (ad 11), .ref (ad 12), .ref (ad 13), .ref (ad 14), .int bn, .int bm, .ref (ad 17), .int la, .int fo, .int fi, .int lp, .ref (ad 22), .int tr_, .int sp, .int ip, .ref (ad 26), .ref (ad 27), .ref (ad 28), .ref (ad 29)]))] (S := (Nat → Int32) × (Nat → Int32)) (fun (u : (Nat → Int32) × (Nat → Int32)) => [(ad 0, .inl (E.2 0, 374, .inl u.1)), (ad 3, .inl (E.2 0, 7, .inl u.2))]) (fun (r : Int32) (u : (Nat → Int32) × (Nat → Int32)) => (r, u.1, u.2) = feed_ sa er wd n_) := by
  refine fx_iW rfl rfl ?_
  intro p e s m args below meth c A ls Q X hE hP hD hR hA hl hret
  have hx := X.1
  have hb := X.2.1
  have hS : va_S A s.heap s.heap [] := va_S.rf
  replace hP : va_P E.1 clA [(ad 0, .inl (E.2 0, 374, .inl sa)), (ad 3, .inl (E.2 0, 7, .inl er))] _ := hP
  replace hD : va_D A [(ad 0, .inl (E.2 0, 374, .inl sa)), (ad 3, .inl (E.2 0, 7, .inl er))] := hD
  replace hl : lv_has ls 5 [(0, .ref (ad 30)), (1, .long wd), (3, .int n_)] := hl
  have htp := hI.taped.2
  refine lv_iload_n hx hb dX6_feed_0 rfl (lv_at hl 2 rfl) ?_
  refine lv_iconst (v := 1) hx hb dX6_feed_1 rfl ?_
  refine lv_bipush (v := 8) hx hb dX6_feed_2 rfl ?_
  refine fx_ci (va_runS (As := [.int n_, .int 1, .int 8]) (rest := []) X (mX6_in l E n_ 1 8 _) (va_cwS 3 X.2.2.2.2 (lw_S q1263 q1264 q75 q1265) rfl rfl rfl hdX6_in ⟨Nat.le_of_ble_eq_true rfl, Nat.le_of_ble_eq_true rfl⟩) (fx_pre hE hP hD hS hR [] rfl rfl fx_rc0) rfl rfl hl.1 rfl (lv_room (Nat.le_of_ble_eq_true rfl)) dX6_feed_4 ⟨Nat.le_refl _, Nat.le_refl _⟩) hP hD hS hA [] rfl rfl (fun r_4 u H locs hq_4 hP hD hS => ?_)
  replace hP : va_P E.1 clA [(ad 0, .inl (E.2 0, 374, .inl sa)), (ad 3, .inl (E.2 0, 7, .inl er))] _ := hP
  replace hD : va_D A [(ad 0, .inl (E.2 0, 374, .inl sa)), (ad 3, .inl (E.2 0, 7, .inl er))] := hD
  replace hq_4 : r_4 = fx_b (inB n_ 1 8 = true) := hq_4
  rcases fx_bc hq_4 with ⟨hb_4, hr_4⟩ | ⟨hb_4, hr_4⟩
  · -- True
    subst hr_4
    refine lv_if_ne (tgt := 16) hx hb dX6_feed_7 (by decide) (fun _ => ?_) (fun c => absurd c (by decide))
    have gn := inB_nn1 (n := 8) hb_4 (by decide) (by omega)
    have gn2 := gn.2
    refine lv_aload_n hx hb dX6_feed_16 rfl (lv_at hl 0 rfl) ?_
    refine fx_get X hE (hR.at hS) 0 rfl rfl 0 rfl q1168 rfl rfl dX6_feed_17 ?_
    refine lv_iconst (v := 3) hx hb dX6_feed_20 rfl ?_
    refine fx_iald X hE hP 0 rfl 3 rfl (by decide) rfl dX6_feed_21 ?_
    refine fx_ti (show (sa 3) = nI (nn (sa 3)) from hI.taped.1) ?_
    refine lv_iload_n hx hb dX6_feed_22 rfl (lv_at hl 2 rfl) ?_
    refine fx_ti (show n_ = nI (nn n_) from gn.1) ?_
    refine lv_iadd hx hb dX6_feed_23 ?_
    refine fx_ti (nI_add (nn (sa 3)) (nn n_)) ?_
    refine lv_bipush (v := 60) hx hb dX6_feed_24 rfl ?_
    refine lv_icmp_le (tgt := 35) hx hb dX6_feed_26 (by decide) (fun c_26 => ?_) (fun c_26 => ?_)
    · -- jump 35
      have n_26 := fx_le1 (a := (nn (sa 3) + nn n_)) (b := 60) c_26 (by omega) (by omega)
      refine lv_iconst (v := 0) hx hb dX6_feed_35 rfl ?_
      refine lv_istore (lv' := [(4, .int 0), (0, .ref (ad 30)), (1, .long wd), (3, .int n_)]) hx hb dX6_feed_36 hl (by decide) rfl (fun ls hl => ?_)
      have loop_38 : ∀ (n_38 : Nat) (t : Nat) (sv : Nat → Int32), (nn n_ - t < n_38) → (t ≤ nn n_) → (sv = fdA sa wd t) → ∀ (H : Heap) (locs : List Loc), va_P E.1 clA [(ad 0, .inl (E.2 0, 374, .inl sv)), (ad 3, .inl (E.2 0, 7, .inl er))] H → va_D A [(ad 0, .inl (E.2 0, 374, .inl sv)), (ad 3, .inl (E.2 0, 7, .inl er))] → va_S A s.heap H locs → ∀ (ls : Array Slot), lv_has ls 5 [(4, .int (nI t)), (0, .ref (ad 30)), (1, .long wd), (3, .int n_)] → W p l e rmX6_feed s m args below meth c H locs 0 0 Q (F0 m 38 ls []) := by
        intro n_38
        induction n_38 with
        | zero => intro t sv hm_38; exact absurd hm_38 (Nat.not_lt_zero _)
        | succ n_38 ih_38 =>
          intro t sv hm_38 ht hsv H locs hP hD hS ls hl
          refine lv_iload hx hb dX6_feed_38 (lv_at hl 0 rfl) ?_
          refine lv_iload_n hx hb dX6_feed_40 rfl (lv_at hl 3 rfl) ?_
          refine fx_ti (show n_ = nI (nn n_) from gn.1) ?_
          refine lv_icmp_ge (tgt := 87) hx hb dX6_feed_41 (by decide) (fun c_41 => ?_) (fun c_41 => ?_)
          · -- jump 87
            have n_41 := fx_le1 (a := (nn n_)) (b := t) c_41 (by omega) (by omega)
            obtain rfl : t = nn n_ := by omega
            subst hsv
            refine lv_aload_n hx hb dX6_feed_87 rfl (lv_at hl 1 rfl) ?_
            refine fx_get X hE (hR.at hS) 0 rfl rfl 0 rfl q1168 rfl rfl dX6_feed_88 ?_
            refine lv_iconst (v := 3) hx hb dX6_feed_91 rfl ?_
            refine fx_iald X hE hP 0 rfl 3 rfl (by decide) rfl dX6_feed_92 ?_
            refine fx_ti (show ((fdA sa wd (nn n_)) 3) = nI (nn (sa 3) + nn n_) from fdA_3 hI.taped.1 _) ?_
            exact hret (nI (nn (sa 3) + nn n_)) ((fdA sa wd (nn n_)), er) (by rw [feed_, if_pos hb_4, if_neg (show ¬ 60 < nn (sa 3) + nn n_ by omega)]) (rfl) hP hD hS (Nat.le_refl _) (Nat.le_refl _) dX6_feed_93
          · -- fall 44
            have n_41 := fx_le0 (a := (nn n_)) (b := t) c_41 (by omega) (by omega)
            refine lv_aload_n hx hb dX6_feed_44 rfl (lv_at hl 1 rfl) ?_
            refine fx_get X hE (hR.at hS) 0 rfl rfl 0 rfl q1168 rfl rfl dX6_feed_45 ?_
            refine lv_sipush (v := 290) hx hb dX6_feed_48 rfl ?_
            refine lv_aload_n hx hb dX6_feed_51 rfl (lv_at hl 1 rfl) ?_
            refine fx_get X hE (hR.at hS) 0 rfl rfl 0 rfl q1168 rfl rfl dX6_feed_52 ?_
            refine lv_iconst (v := 3) hx hb dX6_feed_55 rfl ?_
            refine fx_iald X hE hP 0 rfl 3 rfl (by decide) rfl dX6_feed_56 ?_
            refine fx_ti (show (sv 3) = nI (nn (sa 3) + t) from by rw [hsv]; exact fdA_3 hI.taped.1 t) ?_
            refine lv_iadd hx hb dX6_feed_57 ?_
            refine fx_ti (nI_add 290 (nn (sa 3) + t)) ?_
            refine lv_lload_n hx hb dX6_feed_58 rfl (lv_at hl 2 rfl) ?_
            refine lv_bipush (v := 8) hx hb dX6_feed_59 rfl ?_
            refine lv_iload hx hb dX6_feed_61 (lv_at hl 0 rfl) ?_
            refine lv_imul hx hb dX6_feed_63 ?_
            refine fx_ti (pk_mul 8 t) ?_
            refine lv_lshr (v := (wd >>> ((nI (8 * t) : Int32).toInt64 &&& 63))) hx hb dX6_feed_64 rfl ?_
            refine lv_ldc2 (v := 255) hx hb X.2.2.2.1 (X.2.2.2.2 _ q1271) dX6_feed_65 ?_
            refine lv_land hx hb dX6_feed_68 ?_
            refine lv_l2i (v := ((wd >>> ((nI (8 * t) : Int32).toInt64 &&& 63)) &&& 255).toInt32) hx hb dX6_feed_69 rfl ?_
            refine fx_iast (ws' := [(ad 0, .inl (E.2 0, 374, .inl (upd sv (290 + (nn (sa 3) + t)) (((wd >>> ((nI (8 * t) : Int32).toInt64 &&& 63)) &&& 255).toInt32)))), (ad 3, .inl (E.2 0, 7, .inl er))]) X hE hP hD hS 0 rfl (290 + (nn (sa 3) + t)) rfl (by omega) rfl rfl dX6_feed_70 (fun H locs hP hD hS => ?_)
            refine lv_aload_n hx hb dX6_feed_71 rfl (lv_at hl 1 rfl) ?_
            refine fx_get X hE (hR.at hS) 0 rfl rfl 0 rfl q1168 rfl rfl dX6_feed_72 ?_
            refine lv_iconst (v := 3) hx hb dX6_feed_75 rfl ?_
            refine lv_dup2_11 hx hb dX6_feed_76 rfl rfl ?_
            refine fx_iald X hE hP 0 rfl 3 rfl (by decide) rfl dX6_feed_77 ?_
            refine fx_ti (show ((upd sv (290 + (nn (sa 3) + t)) (((wd >>> ((nI (8 * t) : Int32).toInt64 &&& 63)) &&& 255).toInt32)) 3) = nI (nn (sa 3) + t) from by rw [upd_n _ _ (by omega), hsv]; exact fdA_3 hI.taped.1 t) ?_
            refine lv_iconst (v := 1) hx hb dX6_feed_78 rfl ?_
            refine lv_iadd hx hb dX6_feed_79 ?_
            refine fx_ti (nI_add (nn (sa 3) + t) 1) ?_
            refine fx_iast (ws' := [(ad 0, .inl (E.2 0, 374, .inl (upd (upd sv (290 + (nn (sa 3) + t)) (((wd >>> ((nI (8 * t) : Int32).toInt64 &&& 63)) &&& 255).toInt32)) 3 (nI (nn (sa 3) + t + 1))))), (ad 3, .inl (E.2 0, 7, .inl er))]) X hE hP hD hS 0 rfl 3 rfl (by decide) rfl rfl dX6_feed_80 (fun H locs hP hD hS => ?_)
            refine lv_iinc (v := nI (t + 1)) (lv' := [(4, .int (nI (t + 1))), (0, .ref (ad 30)), (1, .long wd), (3, .int n_)]) hx hb dX6_feed_81 hl (k := 0) rfl (fx_inc _) (by decide) rfl (fun ls hl => ?_)
            refine lv_goto (tgt := 38) hx hb dX6_feed_84 (by decide) ?_
            exact ih_38 (t + 1) (upd (upd sv (290 + (nn (sa 3) + t)) (((wd >>> ((nI (8 * t) : Int32).toInt64 &&& 63)) &&& 255).toInt32)) 3 (nI (nn (sa 3) + t + 1))) (by omega) (by omega) (by rw [hsv]; rfl) _ _ hP hD hS ls (lv_sub hl [0, 1, 2, 3] rfl)
      exact loop_38 ((nn n_ - 0) + 1) 0 sa (Nat.lt_succ_self _) (Nat.zero_le _) rfl _ _ hP hD hS ls (lv_sub hl [0, 1, 2, 3] rfl)
    · -- fall 29
      have n_26 := fx_le0 (a := (nn (sa 3) + nn n_)) (b := 60) c_26 (by omega) (by omega)
      refine lv_aload_n hx hb dX6_feed_29 rfl (lv_at hl 0 rfl) ?_
      refine lv_iconst (v := 4) hx hb dX6_feed_30 rfl ?_
      refine fx_ci (va_runV (As := [.int 4]) (rest := []) X (mX6_error l E ad im at_ op st_ us bn bm la fo fi lp tr_ sp ip er 4 (by decide) _) (cwV 1 X.2.2.2.2 (lw_V q1266 q1268 qs32 q75 q1269) rfl rfl rfl ⟨rfl, hdX6_error⟩ ⟨Nat.le_of_ble_eq_true rfl, Nat.le_of_ble_eq_true rfl⟩) (fx_preV (fx_pre hE hP hD hS hR [1] rfl rfl (fx_rcr 0 rfl fx_rc0)) (va_recv hE.1 (hR.at hS) (ci := 6) (q0 := 0) rfl rfl)) rfl rfl hl.1 rfl (lv_room (Nat.le_of_ble_eq_true rfl)) dX6_feed_31 ⟨Nat.le_refl _, Nat.le_refl _⟩) hP hD hS hA [1] rfl rfl (fun r_31 u H locs hq_31 hP hD hS => ?_)
      replace hP : va_P E.1 clA [(ad 0, .inl (E.2 0, 374, .inl sa)), (ad 3, .inl (E.2 0, 7, .inl (upd er 4 (er 4 + 1))))] _ := hP
      replace hD : va_D A [(ad 0, .inl (E.2 0, 374, .inl sa)), (ad 3, .inl (E.2 0, 7, .inl (upd er 4 (er 4 + 1))))] := hD
      replace hq_31 : r_31 = erv 4 := hq_31
      exact hret r_31 (sa, (upd er 4 (er 4 + 1))) (by rw [hq_31, feed_, if_pos hb_4, if_pos (show 60 < nn (sa 3) + nn n_ by omega)]; rfl) (rfl) hP hD hS (Nat.le_refl _) (Nat.le_refl _) dX6_feed_34
  · -- False
    subst hr_4
    refine lv_if_ne (tgt := 16) hx hb dX6_feed_7 (by decide) (fun c => (c (by decide)).elim) (fun _ => ?_)
    refine lv_aload_n hx hb dX6_feed_10 rfl (lv_at hl 0 rfl) ?_
    refine lv_iconst (v := 1) hx hb dX6_feed_11 rfl ?_
    refine fx_ci (va_runV (As := [.int 1]) (rest := []) X (mX6_error l E ad im at_ op st_ us bn bm la fo fi lp tr_ sp ip er 1 (by decide) _) (cwV 1 X.2.2.2.2 (lw_V q1266 q1268 qs32 q75 q1269) rfl rfl rfl ⟨rfl, hdX6_error⟩ ⟨Nat.le_of_ble_eq_true rfl, Nat.le_of_ble_eq_true rfl⟩) (fx_preV (fx_pre hE hP hD hS hR [1] rfl rfl (fx_rcr 0 rfl fx_rc0)) (va_recv hE.1 (hR.at hS) (ci := 6) (q0 := 0) rfl rfl)) rfl rfl hl.1 rfl (lv_room (Nat.le_of_ble_eq_true rfl)) dX6_feed_12 ⟨Nat.le_refl _, Nat.le_refl _⟩) hP hD hS hA [1] rfl rfl (fun r_12 u H locs hq_12 hP hD hS => ?_)
    replace hP : va_P E.1 clA [(ad 0, .inl (E.2 0, 374, .inl sa)), (ad 3, .inl (E.2 0, 7, .inl (upd er 1 (er 1 + 1))))] _ := hP
    replace hD : va_D A [(ad 0, .inl (E.2 0, 374, .inl sa)), (ad 3, .inl (E.2 0, 7, .inl (upd er 1 (er 1 + 1))))] := hD
    replace hq_12 : r_12 = erv 1 := hq_12
    exact hret r_12 (sa, (upd er 1 (er 1 + 1))) (by rw [hq_12]; simp [feed_, hb_4, erI]) (rfl) hP hD hS (Nat.le_refl _) (Nat.le_refl _) dX6_feed_15
