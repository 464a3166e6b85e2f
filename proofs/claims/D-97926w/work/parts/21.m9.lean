set_option maxRecDepth 100000
theorem hdX6_begins : yX6_begins.cls ≠ "java/lang/invoke/MethodHandle" ∧ yX6_begins.cls ≠ "java/lang/invoke/VarHandle" ∧ (parseMethodDescriptor yX6_begins.desc).map (fun d => d.parameters.length) = some 1 := by decide +kernel
theorem hdX6_above : yX6_above.cls ≠ "java/lang/invoke/MethodHandle" ∧ yX6_above.cls ≠ "java/lang/invoke/VarHandle" ∧ (parseMethodDescriptor yX6_above.desc).map (fun d => d.parameters.length) = some 1 := by decide +kernel
theorem hdX6_addsAs : yX6_addsAs.cls ≠ "java/lang/invoke/MethodHandle" ∧ yX6_addsAs.cls ≠ "java/lang/invoke/VarHandle" ∧ (parseMethodDescriptor yX6_addsAs.desc).map (fun d => d.parameters.length) = some 2 := by decide +kernel
theorem hdX6_comesAs : yX6_comesAs.cls ≠ "java/lang/invoke/MethodHandle" ∧ yX6_comesAs.cls ≠ "java/lang/invoke/VarHandle" ∧ (parseMethodDescriptor yX6_comesAs.desc).map (fun d => d.parameters.length) = some 2 := by decide +kernel
theorem hdX6_givesAs : yX6_givesAs.cls ≠ "java/lang/invoke/MethodHandle" ∧ yX6_givesAs.cls ≠ "java/lang/invoke/VarHandle" ∧ (parseMethodDescriptor yX6_givesAs.desc).map (fun d => d.parameters.length) = some 2 := by decide +kernel
theorem hdX6_partsAs : yX6_partsAs.cls ≠ "java/lang/invoke/MethodHandle" ∧ yX6_partsAs.cls ≠ "java/lang/invoke/VarHandle" ∧ (parseMethodDescriptor yX6_partsAs.desc).map (fun d => d.parameters.length) = some 2 := by decide +kernel
theorem hdX6_voice : yX6_voice.cls ≠ "java/lang/invoke/MethodHandle" ∧ yX6_voice.cls ≠ "java/lang/invoke/VarHandle" ∧ (parseMethodDescriptor yX6_voice.desc).map (fun d => d.parameters.length) = some 3 := by decide +kernel
abbrev rmX6_begins : Room := { frames := 0, cells := 0, slots := 0, locals := 0 }
set_option maxHeartbeats 400000 in
set_option maxRecDepth 100000 in
theorem mX6_begins (l : Launch) (E : fx_En) (ad : Nat → Nat) (im : Int32) (at_ : Int32) (op : Int32) (st_ : Int32) (us : Int32) (bn : Int32) (bm : Int32) (la : Int32) (fo : Int32) (fi : Int32) (lp : Int32) (ip : Int32) (tn : Nat) (sk : Nat) (tr : Nat → Int32) (b : Int32) (htn : tn ≤ 30) : fx_Mv l yX6_begins cX6_begins 2 rmX6_begins E [.ref (ad 30), .int b] [(ad 30, .inr (6, [.ref (ad 0), .ref (ad 1), .int im, .ref (ad 3), .int at_, .int op, .int st_, .int us, .ref (ad 8), .ref (ad 9), .ref (ad 10), .ref (ad 11), .ref (ad 12), .ref (ad 13), .ref (ad 14), .int bn, .int bm, .ref (ad 17), .int la, .int fo, .int fi, .int lp, .ref (ad 22), .int (nI tn), .int (nI sk), .int ip, .ref (ad 26), .ref (ad 27), .ref (ad 28), .ref (ad 29)])), (ad 22, .inl (E.2 0, 30, .inl tr))] [] (S := (Nat → Int32) × Nat) (fun (u : (Nat → Int32) × Nat) => [(ad 30, .inr (6, [.ref (ad 0), .ref (ad 1), .int im, .ref (ad 3), .int at_, .int op, .int st_, .int us, .ref (ad 8), .ref (ad 9), .ref (ad 10), .ref (ad 11), .ref (ad 12), .ref (ad 13), .ref (ad 14), .int bn, .int bm, .ref (ad 17), .int la, .int fo, .int fi, .int lp, .ref (ad 22), .int (nI u.2), .int (nI sk), .int ip, .ref (ad 26), .ref (ad 27), .ref (ad 28), .ref (ad 29)])), (ad 22, .inl (E.2 0, 30, .inl u.1))]) (fun (u : (Nat → Int32) × Nat) => (u.1, u.2) = bg (tr, tn) b ∧ u.2 ≤ 30) := by
  refine fx_vW rfl rfl ?_
  intro p e s m args below meth c A ls Q X hnm hE hP hD hR hA hl hret
  have hx := X.1
  have hb := X.2.1
  have hS : va_S A s.heap s.heap [] := va_S.rf
  replace hP : va_P E.1 clA [(ad 30, .inr (6, [.ref (ad 0), .ref (ad 1), .int im, .ref (ad 3), .int at_, .int op, .int st_, .int us, .ref (ad 8), .ref (ad 9), .ref (ad 10), .ref (ad 11), .ref (ad 12), .ref (ad 13), .ref (ad 14), .int bn, .int bm, .ref (ad 17), .int la, .int fo, .int fi, .int lp, .ref (ad 22), .int (nI tn), .int (nI sk), .int ip, .ref (ad 26), .ref (ad 27), .ref (ad 28), .ref (ad 29)])), (ad 22, .inl (E.2 0, 30, .inl tr))] _ := hP
  replace hD : va_D A [(ad 30, .inr (6, [.ref (ad 0), .ref (ad 1), .int im, .ref (ad 3), .int at_, .int op, .int st_, .int us, .ref (ad 8), .ref (ad 9), .ref (ad 10), .ref (ad 11), .ref (ad 12), .ref (ad 13), .ref (ad 14), .int bn, .int bm, .ref (ad 17), .int la, .int fo, .int fi, .int lp, .ref (ad 22), .int (nI tn), .int (nI sk), .int ip, .ref (ad 26), .ref (ad 27), .ref (ad 28), .ref (ad 29)])), (ad 22, .inl (E.2 0, 30, .inl tr))] := hD
  replace hl : lv_has ls 2 [(0, .ref (ad 30)), (1, .int b)] := hl
  refine lv_aload_n hx hb dX6_begins_0 rfl (lv_at hl 0 rfl) ?_
  refine fx_get X hE hP 0 rfl rfl 23 rfl q1191 rfl rfl dX6_begins_1 ?_
  refine lv_bipush (v := 30) hx hb dX6_begins_4 rfl ?_
  refine lv_icmp_ge (tgt := 29) hx hb dX6_begins_6 (by decide) (fun c_6 => ?_) (fun c_6 => ?_)
  · -- jump 29
    have n_6 := fx_le1 (a := 30) (b := tn) c_6 (by omega) (by omega)
    exact hret (tr, tn) (⟨by rw [bg, if_neg (show ¬ tn < 30 by omega)], by omega⟩) hP hD hS (Nat.le_refl _) (Nat.le_refl _) dX6_begins_29
  · -- fall 9
    have n_6 := fx_le0 (a := 30) (b := tn) c_6 (by omega) (by omega)
    refine lv_aload_n hx hb dX6_begins_9 rfl (lv_at hl 0 rfl) ?_
    refine fx_get X hE hP 0 rfl rfl 22 rfl q1190 rfl rfl dX6_begins_10 ?_
    refine lv_aload_n hx hb dX6_begins_13 rfl (lv_at hl 0 rfl) ?_
    refine fx_get X hE hP 0 rfl rfl 23 rfl q1191 rfl rfl dX6_begins_14 ?_
    refine lv_iload_n hx hb dX6_begins_17 rfl (lv_at hl 1 rfl) ?_
    refine fx_iast (ws' := [(ad 30, .inr (6, [.ref (ad 0), .ref (ad 1), .int im, .ref (ad 3), .int at_, .int op, .int st_, .int us, .ref (ad 8), .ref (ad 9), .ref (ad 10), .ref (ad 11), .ref (ad 12), .ref (ad 13), .ref (ad 14), .int bn, .int bm, .ref (ad 17), .int la, .int fo, .int fi, .int lp, .ref (ad 22), .int (nI tn), .int (nI sk), .int ip, .ref (ad 26), .ref (ad 27), .ref (ad 28), .ref (ad 29)])), (ad 22, .inl (E.2 0, 30, .inl (upd tr tn b)))]) X hE hP hD hS 1 rfl tn rfl (by omega) rfl rfl dX6_begins_18 (fun H locs hP hD hS => ?_)
    refine lv_aload_n hx hb dX6_begins_19 rfl (lv_at hl 0 rfl) ?_
    refine lv_dup hx hb dX6_begins_20 rfl ?_
    refine fx_get X hE hP 0 rfl rfl 23 rfl q1191 rfl rfl dX6_begins_21 ?_
    refine lv_iconst (v := 1) hx hb dX6_begins_24 rfl ?_
    refine lv_iadd hx hb dX6_begins_25 ?_
    refine fx_ti (nI_add tn 1) ?_
    refine fx_put_ (ws' := [(ad 30, .inr (6, [.ref (ad 0), .ref (ad 1), .int im, .ref (ad 3), .int at_, .int op, .int st_, .int us, .ref (ad 8), .ref (ad 9), .ref (ad 10), .ref (ad 11), .ref (ad 12), .ref (ad 13), .ref (ad 14), .int bn, .int bm, .ref (ad 17), .int la, .int fo, .int fi, .int lp, .ref (ad 22), .int (nI (tn + 1)), .int (nI sk), .int ip, .ref (ad 26), .ref (ad 27), .ref (ad 28), .ref (ad 29)])), (ad 22, .inl (E.2 0, 30, .inl (upd tr tn b)))]) X hE hP hD hS 0 rfl rfl tyX6_ok nmX6 23 rfl q1191 rfl rfl rfl rfl rfl rfl dX6_begins_26 (fun H locs hP hD hS => ?_)
    exact hret ((upd tr tn b), tn + 1) (⟨by rw [bg, if_pos (show tn < 30 by omega)], by omega⟩) hP hD hS (Nat.le_refl _) (Nat.le_refl _) dX6_begins_29
abbrev rmX6_above : Room := { frames := 0, cells := 0, slots := 0, locals := 0 }
set_option maxHeartbeats 400000 in
set_option maxRecDepth 100000 in
theorem mX6_above (l : Launch) (E : fx_En) (k : Nat) (hk : k ≤ 6) : fx_Mi l yX6_above cX6_above 1 .int rmX6_above E [.int (nI k)] [] [] (S := Unit) (fun (u : Unit) => []) (fun (r : Int32) (u : Unit) => r = nI (abvK k)) := by
  refine fx_iW rfl rfl ?_
  intro p e s m args below meth c A ls Q X hE hP hD hR hA hl hret
  have hx := X.1
  have hb := X.2.1
  have hS : va_S A s.heap s.heap [] := va_S.rf
  replace hl : lv_has ls 1 [(0, .int (nI k))] := hl
  refine lv_iload_n hx hb dX6_above_0 rfl (lv_at hl 0 rfl) ?_
  refine lv_iconst (v := 5) hx hb dX6_above_1 rfl ?_
  refine lv_icmp_ne (tgt := 9) hx hb dX6_above_2 (by decide) (fun c_2 => ?_) (fun c_2 => ?_)
  · -- jump 9
    have n_2 := fx_eq0 (a := k) (b := 5) c_2 (by omega) (by omega)
    refine lv_iload_n hx hb dX6_above_9 rfl (lv_at hl 0 rfl) ?_
    refine lv_iconst (v := 4) hx hb dX6_above_10 rfl ?_
    refine lv_icmp_ne (tgt := 18) hx hb dX6_above_11 (by decide) (fun c_11 => ?_) (fun c_11 => ?_)
    · -- jump 18
      have n_11 := fx_eq0 (a := k) (b := 4) c_11 (by omega) (by omega)
      refine lv_iconst (v := 0) hx hb dX6_above_18 rfl ?_
      exact hret 0 () (by simp [abvK, n_2, n_11]; rfl) (rfl) hP hD hS (Nat.le_refl _) (Nat.le_refl _) dX6_above_19
    · -- fall 14
      have n_11 := fx_eq1 (a := k) (b := 4) c_11 (by omega) (by omega)
      refine lv_iconst (v := 2) hx hb dX6_above_14 rfl ?_
      refine lv_goto (tgt := 19) hx hb dX6_above_15 (by decide) ?_
      exact hret 2 () (by simp [abvK, n_2, eq_true n_11]; rfl) (rfl) hP hD hS (Nat.le_refl _) (Nat.le_refl _) dX6_above_19
  · -- fall 5
    have n_2 := fx_eq1 (a := k) (b := 5) c_2 (by omega) (by omega)
    refine lv_iconst (v := 1) hx hb dX6_above_5 rfl ?_
    refine lv_goto (tgt := 19) hx hb dX6_above_6 (by decide) ?_
    exact hret 1 () (by simp [abvK, eq_true n_2]; rfl) (rfl) hP hD hS (Nat.le_refl _) (Nat.le_refl _) dX6_above_19
abbrev rmX6_addsAs0 : Room := { frames := 1, cells := 0, slots := 0, locals := 21 }
set_option maxHeartbeats 400000 in
set_option maxRecDepth 100000 in
theorem mX6_addsAs0 (l : Launch) (E : fx_En) (ad : Nat → Nat) (im : Int32) (at_ : Int32) (op : Int32) (st_ : Int32) (us : Int32) (bn : Int32) (bm : Int32) (la : Int32) (fo : Int32) (fi : Int32) (lp : Int32) (ip : Int32) (tn : Nat) (sk : Nat) (tr : Nat → Int32) (x : Int32) (htn : tn ≤ 30) : fx_Mi l yX6_addsAs cX6_addsAs 3 .int rmX6_addsAs0 E [.ref (ad 30), .int 0, .int x] [(ad 30, .inr (6, [.ref (ad 0), .ref (ad 1), .int im, .ref (ad 3), .int at_, .int op, .int st_, .int us, .ref (ad 8), .ref (ad 9), .ref (ad 10), .ref (ad 11), .ref (ad 12), .ref (ad 13), .ref (ad 14), .int bn, .int bm, .ref (ad 17), .int la, .int fo, .int fi, .int lp, .ref (ad 22), .int (nI tn), .int (nI sk), .int ip, .ref (ad 26), .ref (ad 27), .ref (ad 28), .ref (ad 29)])), (ad 22, .inl (E.2 0, 30, .inl tr))] [] (S := (Nat → Int32) × Nat) (fun (u : (Nat → Int32) × Nat) => [(ad 30, .inr (6, [.ref (ad 0), .ref (ad 1), .int im, .ref (ad 3), .int at_, .int op, .int st_, .int us, .ref (ad 8), .ref (ad 9), .ref (ad 10), .ref (ad 11), .ref (ad 12), .ref (ad 13), .ref (ad 14), .int bn, .int bm, .ref (ad 17), .int la, .int fo, .int fi, .int lp, .ref (ad 22), .int (nI u.2), .int (nI sk), .int ip, .ref (ad 26), .ref (ad 27), .ref (ad 28), .ref (ad 29)])), (ad 22, .inl (E.2 0, 30, .inl u.1))]) (fun (r : Int32) (u : (Nat → Int32) × Nat) => r = addsV 0 (nI sk) x ∧ (u.1, u.2) = bgL (tr, tn) (addsB 0) ∧ u.2 ≤ 30) := by
  refine fx_iW rfl rfl ?_
  intro p e s m args below meth c A ls Q X hE hP hD hR hA hl hret
  have hx := X.1
  have hb := X.2.1
  have hS : va_S A s.heap s.heap [] := va_S.rf
  replace hP : va_P E.1 clA [(ad 30, .inr (6, [.ref (ad 0), .ref (ad 1), .int im, .ref (ad 3), .int at_, .int op, .int st_, .int us, .ref (ad 8), .ref (ad 9), .ref (ad 10), .ref (ad 11), .ref (ad 12), .ref (ad 13), .ref (ad 14), .int bn, .int bm, .ref (ad 17), .int la, .int fo, .int fi, .int lp, .ref (ad 22), .int (nI tn), .int (nI sk), .int ip, .ref (ad 26), .ref (ad 27), .ref (ad 28), .ref (ad 29)])), (ad 22, .inl (E.2 0, 30, .inl tr))] _ := hP
  replace hD : va_D A [(ad 30, .inr (6, [.ref (ad 0), .ref (ad 1), .int im, .ref (ad 3), .int at_, .int op, .int st_, .int us, .ref (ad 8), .ref (ad 9), .ref (ad 10), .ref (ad 11), .ref (ad 12), .ref (ad 13), .ref (ad 14), .int bn, .int bm, .ref (ad 17), .int la, .int fo, .int fi, .int lp, .ref (ad 22), .int (nI tn), .int (nI sk), .int ip, .ref (ad 26), .ref (ad 27), .ref (ad 28), .ref (ad 29)])), (ad 22, .inl (E.2 0, 30, .inl tr))] := hD
  replace hl : lv_has ls 3 [(0, .ref (ad 30)), (1, .int 0), (2, .int x)] := hl
  refine lv_iload_n hx hb dX6_addsAs_0 rfl (lv_at hl 1 rfl) ?_
  refine lv_tableIn (tgt := 44) (off := 43) hx hb dX6_addsAs_1 (by decide) (by decide) rfl (by decide) ?_
  refine lv_aload_n hx hb dX6_addsAs_44 rfl (lv_at hl 0 rfl) ?_
  refine lv_bipush (v := 10) hx hb dX6_addsAs_45 rfl ?_
  refine fx_cv (va_runV (As := [.int 10]) (rest := []) X (mX6_begins l E ad im at_ op st_ us bn bm la fo fi lp ip tn sk tr 10 (by first | assumption | omega) _) (cwV 1 X.2.2.2.2 (lw_V q1521 q1523 qs64 q75 q1524) rfl rfl rfl ⟨rfl, hdX6_begins⟩ ⟨Nat.le_of_ble_eq_true rfl, Nat.le_of_ble_eq_true rfl⟩) (fx_preV (fx_pre hE hP hD hS hR [0, 1] rfl rfl fx_rc0) (va_recv hE.1 hP (ci := 6) (q0 := 0) rfl rfl)) rfl rfl hl.1 rfl (lv_room (Nat.le_of_ble_eq_true rfl)) dX6_addsAs_47 ⟨Nat.le_refl _, Nat.le_refl _⟩) hP hD hS hA [0, 1] rfl rfl (fun u H locs hq_47 hP hD hS => ?_)
  obtain ⟨tr2_47, tn2_47⟩ := u
  replace hP : va_P E.1 clA [(ad 30, .inr (6, [.ref (ad 0), .ref (ad 1), .int im, .ref (ad 3), .int at_, .int op, .int st_, .int us, .ref (ad 8), .ref (ad 9), .ref (ad 10), .ref (ad 11), .ref (ad 12), .ref (ad 13), .ref (ad 14), .int bn, .int bm, .ref (ad 17), .int la, .int fo, .int fi, .int lp, .ref (ad 22), .int (nI tn2_47), .int (nI sk), .int ip, .ref (ad 26), .ref (ad 27), .ref (ad 28), .ref (ad 29)])), (ad 22, .inl (E.2 0, 30, .inl tr2_47))] _ := hP
  replace hD : va_D A [(ad 30, .inr (6, [.ref (ad 0), .ref (ad 1), .int im, .ref (ad 3), .int at_, .int op, .int st_, .int us, .ref (ad 8), .ref (ad 9), .ref (ad 10), .ref (ad 11), .ref (ad 12), .ref (ad 13), .ref (ad 14), .int bn, .int bm, .ref (ad 17), .int la, .int fo, .int fi, .int lp, .ref (ad 22), .int (nI tn2_47), .int (nI sk), .int ip, .ref (ad 26), .ref (ad 27), .ref (ad 28), .ref (ad 29)])), (ad 22, .inl (E.2 0, 30, .inl tr2_47))] := hD
  replace hq_47 : (tr2_47, tn2_47) = bg (tr, tn) 10 ∧ tn2_47 ≤ 30 := hq_47
  refine lv_iload_n hx hb dX6_addsAs_50 rfl (lv_at hl 2 rfl) ?_
  refine lv_aload_n hx hb dX6_addsAs_51 rfl (lv_at hl 0 rfl) ?_
  refine fx_get X hE hP 0 rfl rfl 24 rfl q1192 rfl rfl dX6_addsAs_52 ?_
  refine lv_iadd hx hb dX6_addsAs_55 ?_
  exact hret (x + (nI sk)) (tr2_47, tn2_47) (⟨rfl, hq_47.1, hq_47.2⟩) (rfl) hP hD hS (Nat.le_refl _) (Nat.le_refl _) dX6_addsAs_56
abbrev rmX6_addsAs1 : Room := { frames := 2, cells := 0, slots := 0, locals := 43 }
set_option maxHeartbeats 400000 in
set_option maxRecDepth 100000 in
theorem mX6_addsAs1 (l : Launch) (E : fx_En) (ad : Nat → Nat) (im : Int32) (at_ : Int32) (op : Int32) (st_ : Int32) (us : Int32) (bn : Int32) (bm : Int32) (la : Int32) (fo : Int32) (fi : Int32) (lp : Int32) (ip : Int32) (tn : Nat) (sk : Nat) (tr : Nat → Int32) (x : Int32) (htn : tn ≤ 30) : fx_Mi l yX6_addsAs cX6_addsAs 3 .int rmX6_addsAs1 E [.ref (ad 30), .int 1, .int x] [(ad 30, .inr (6, [.ref (ad 0), .ref (ad 1), .int im, .ref (ad 3), .int at_, .int op, .int st_, .int us, .ref (ad 8), .ref (ad 9), .ref (ad 10), .ref (ad 11), .ref (ad 12), .ref (ad 13), .ref (ad 14), .int bn, .int bm, .ref (ad 17), .int la, .int fo, .int fi, .int lp, .ref (ad 22), .int (nI tn), .int (nI sk), .int ip, .ref (ad 26), .ref (ad 27), .ref (ad 28), .ref (ad 29)])), (ad 22, .inl (E.2 0, 30, .inl tr))] [] (S := (Nat → Int32) × Nat) (fun (u : (Nat → Int32) × Nat) => [(ad 30, .inr (6, [.ref (ad 0), .ref (ad 1), .int im, .ref (ad 3), .int at_, .int op, .int st_, .int us, .ref (ad 8), .ref (ad 9), .ref (ad 10), .ref (ad 11), .ref (ad 12), .ref (ad 13), .ref (ad 14), .int bn, .int bm, .ref (ad 17), .int la, .int fo, .int fi, .int lp, .ref (ad 22), .int (nI u.2), .int (nI sk), .int ip, .ref (ad 26), .ref (ad 27), .ref (ad 28), .ref (ad 29)])), (ad 22, .inl (E.2 0, 30, .inl u.1))]) (fun (r : Int32) (u : (Nat → Int32) × Nat) => r = addsV 1 (nI sk) x ∧ (u.1, u.2) = bgL (tr, tn) (addsB 1) ∧ u.2 ≤ 30) := by
  refine fx_iW rfl rfl ?_
  intro p e s m args below meth c A ls Q X hE hP hD hR hA hl hret
  have hx := X.1
  have hb := X.2.1
  have hS : va_S A s.heap s.heap [] := va_S.rf
  replace hP : va_P E.1 clA [(ad 30, .inr (6, [.ref (ad 0), .ref (ad 1), .int im, .ref (ad 3), .int at_, .int op, .int st_, .int us, .ref (ad 8), .ref (ad 9), .ref (ad 10), .ref (ad 11), .ref (ad 12), .ref (ad 13), .ref (ad 14), .int bn, .int bm, .ref (ad 17), .int la, .int fo, .int fi, .int lp, .ref (ad 22), .int (nI tn), .int (nI sk), .int ip, .ref (ad 26), .ref (ad 27), .ref (ad 28), .ref (ad 29)])), (ad 22, .inl (E.2 0, 30, .inl tr))] _ := hP
  replace hD : va_D A [(ad 30, .inr (6, [.ref (ad 0), .ref (ad 1), .int im, .ref (ad 3), .int at_, .int op, .int st_, .int us, .ref (ad 8), .ref (ad 9), .ref (ad 10), .ref (ad 11), .ref (ad 12), .ref (ad 13), .ref (ad 14), .int bn, .int bm, .ref (ad 17), .int la, .int fo, .int fi, .int lp, .ref (ad 22), .int (nI tn), .int (nI sk), .int ip, .ref (ad 26), .ref (ad 27), .ref (ad 28), .ref (ad 29)])), (ad 22, .inl (E.2 0, 30, .inl tr))] := hD
  replace hl : lv_has ls 3 [(0, .ref (ad 30)), (1, .int 1), (2, .int x)] := hl
  refine lv_iload_n hx hb dX6_addsAs_0 rfl (lv_at hl 1 rfl) ?_
  refine lv_tableIn (tgt := 57) (off := 56) hx hb dX6_addsAs_1 (by decide) (by decide) rfl (by decide) ?_
  refine lv_aload_n hx hb dX6_addsAs_57 rfl (lv_at hl 0 rfl) ?_
  refine lv_bipush (v := 20) hx hb dX6_addsAs_58 rfl ?_
  refine fx_cv (va_runV (As := [.int 20]) (rest := []) X (mX6_begins l E ad im at_ op st_ us bn bm la fo fi lp ip tn sk tr 20 (by first | assumption | omega) _) (cwV 1 X.2.2.2.2 (lw_V q1521 q1523 qs64 q75 q1524) rfl rfl rfl ⟨rfl, hdX6_begins⟩ ⟨Nat.le_of_ble_eq_true rfl, Nat.le_of_ble_eq_true rfl⟩) (fx_preV (fx_pre hE hP hD hS hR [0, 1] rfl rfl fx_rc0) (va_recv hE.1 hP (ci := 6) (q0 := 0) rfl rfl)) rfl rfl hl.1 rfl (lv_room (Nat.le_of_ble_eq_true rfl)) dX6_addsAs_60 ⟨Nat.le_refl _, Nat.le_refl _⟩) hP hD hS hA [0, 1] rfl rfl (fun u H locs hq_60 hP hD hS => ?_)
  obtain ⟨tr2_60, tn2_60⟩ := u
  replace hP : va_P E.1 clA [(ad 30, .inr (6, [.ref (ad 0), .ref (ad 1), .int im, .ref (ad 3), .int at_, .int op, .int st_, .int us, .ref (ad 8), .ref (ad 9), .ref (ad 10), .ref (ad 11), .ref (ad 12), .ref (ad 13), .ref (ad 14), .int bn, .int bm, .ref (ad 17), .int la, .int fo, .int fi, .int lp, .ref (ad 22), .int (nI tn2_60), .int (nI sk), .int ip, .ref (ad 26), .ref (ad 27), .ref (ad 28), .ref (ad 29)])), (ad 22, .inl (E.2 0, 30, .inl tr2_60))] _ := hP
  replace hD : va_D A [(ad 30, .inr (6, [.ref (ad 0), .ref (ad 1), .int im, .ref (ad 3), .int at_, .int op, .int st_, .int us, .ref (ad 8), .ref (ad 9), .ref (ad 10), .ref (ad 11), .ref (ad 12), .ref (ad 13), .ref (ad 14), .int bn, .int bm, .ref (ad 17), .int la, .int fo, .int fi, .int lp, .ref (ad 22), .int (nI tn2_60), .int (nI sk), .int ip, .ref (ad 26), .ref (ad 27), .ref (ad 28), .ref (ad 29)])), (ad 22, .inl (E.2 0, 30, .inl tr2_60))] := hD
  replace hq_60 : (tr2_60, tn2_60) = bg (tr, tn) 20 ∧ tn2_60 ≤ 30 := hq_60
  refine lv_aload_n hx hb dX6_addsAs_63 rfl (lv_at hl 0 rfl) ?_
  refine lv_iconst (v := 1) hx hb dX6_addsAs_64 rfl ?_
  refine fx_ci (va_runS (As := [.int 1]) (rest := [.ref (ad 30)]) X (mX6_above l E 1 (by decide) _) (va_cwS 1 X.2.2.2.2 (lw_S q1525 q1526 q75 q1527) rfl rfl rfl hdX6_above ⟨Nat.le_of_ble_eq_true rfl, Nat.le_of_ble_eq_true rfl⟩) (fx_pre hE hP hD hS hR [] rfl rfl fx_rc0) rfl rfl hl.1 rfl (lv_room (Nat.le_of_ble_eq_true rfl)) dX6_addsAs_65 ⟨Nat.le_refl _, Nat.le_refl _⟩) hP hD hS hA [] rfl rfl (fun r_65 u H locs hq_65 hP hD hS => ?_)
  replace hP : va_P E.1 clA [(ad 30, .inr (6, [.ref (ad 0), .ref (ad 1), .int im, .ref (ad 3), .int at_, .int op, .int st_, .int us, .ref (ad 8), .ref (ad 9), .ref (ad 10), .ref (ad 11), .ref (ad 12), .ref (ad 13), .ref (ad 14), .int bn, .int bm, .ref (ad 17), .int la, .int fo, .int fi, .int lp, .ref (ad 22), .int (nI tn2_60), .int (nI sk), .int ip, .ref (ad 26), .ref (ad 27), .ref (ad 28), .ref (ad 29)])), (ad 22, .inl (E.2 0, 30, .inl tr2_60))] _ := hP
  replace hD : va_D A [(ad 30, .inr (6, [.ref (ad 0), .ref (ad 1), .int im, .ref (ad 3), .int at_, .int op, .int st_, .int us, .ref (ad 8), .ref (ad 9), .ref (ad 10), .ref (ad 11), .ref (ad 12), .ref (ad 13), .ref (ad 14), .int bn, .int bm, .ref (ad 17), .int la, .int fo, .int fi, .int lp, .ref (ad 22), .int (nI tn2_60), .int (nI sk), .int ip, .ref (ad 26), .ref (ad 27), .ref (ad 28), .ref (ad 29)])), (ad 22, .inl (E.2 0, 30, .inl tr2_60))] := hD
  replace hq_65 : r_65 = nI (abvK 1) := hq_65
  refine fx_ti (show r_65 = 0 from hq_65.trans (by decide)) ?_
  refine lv_iload_n hx hb dX6_addsAs_68 rfl (lv_at hl 2 rfl) ?_
  refine fx_ci (va_runV (As := [.int 0, .int x]) (rest := []) X (mX6_addsAs0 l E ad im at_ op st_ us bn bm la fo fi lp ip tn2_60 sk tr2_60 x (by first | assumption | omega) _) (cwV 2 X.2.2.2.2 (lw_V q1517 q1519 qs63 q75 q1520) rfl rfl rfl ⟨rfl, hdX6_addsAs⟩ ⟨Nat.le_of_ble_eq_true rfl, Nat.le_of_ble_eq_true rfl⟩) (fx_preV (fx_pre hE hP hD hS hR [0, 1] rfl rfl fx_rc0) (va_recv hE.1 hP (ci := 6) (q0 := 0) rfl rfl)) rfl rfl hl.1 rfl (lv_room (Nat.le_of_ble_eq_true rfl)) dX6_addsAs_69 ⟨Nat.le_refl _, Nat.le_refl _⟩) hP hD hS hA [0, 1] rfl rfl (fun r_69 u H locs hq_69 hP hD hS => ?_)
  obtain ⟨tr2_69, tn2_69⟩ := u
  replace hP : va_P E.1 clA [(ad 30, .inr (6, [.ref (ad 0), .ref (ad 1), .int im, .ref (ad 3), .int at_, .int op, .int st_, .int us, .ref (ad 8), .ref (ad 9), .ref (ad 10), .ref (ad 11), .ref (ad 12), .ref (ad 13), .ref (ad 14), .int bn, .int bm, .ref (ad 17), .int la, .int fo, .int fi, .int lp, .ref (ad 22), .int (nI tn2_69), .int (nI sk), .int ip, .ref (ad 26), .ref (ad 27), .ref (ad 28), .ref (ad 29)])), (ad 22, .inl (E.2 0, 30, .inl tr2_69))] _ := hP
  replace hD : va_D A [(ad 30, .inr (6, [.ref (ad 0), .ref (ad 1), .int im, .ref (ad 3), .int at_, .int op, .int st_, .int us, .ref (ad 8), .ref (ad 9), .ref (ad 10), .ref (ad 11), .ref (ad 12), .ref (ad 13), .ref (ad 14), .int bn, .int bm, .ref (ad 17), .int la, .int fo, .int fi, .int lp, .ref (ad 22), .int (nI tn2_69), .int (nI sk), .int ip, .ref (ad 26), .ref (ad 27), .ref (ad 28), .ref (ad 29)])), (ad 22, .inl (E.2 0, 30, .inl tr2_69))] := hD
  replace hq_69 : r_69 = addsV 0 (nI sk) x ∧ (tr2_69, tn2_69) = bgL (tr2_60, tn2_60) (addsB 0) ∧ tn2_69 ≤ 30 := hq_69
  refine lv_bipush (v := 9) hx hb dX6_addsAs_72 rfl ?_
  refine lv_isub hx hb dX6_addsAs_74 ?_
  exact hret (r_69 - 9) (tr2_69, tn2_69) (⟨by rw [hq_69.1]; rfl, by rw [hq_69.2.1, hq_60.1]; rfl, hq_69.2.2⟩) (rfl) hP hD hS (Nat.le_refl _) (Nat.le_refl _) dX6_addsAs_75
abbrev rmX6_addsAs2 : Room := { frames := 2, cells := 0, slots := 0, locals := 43 }
set_option maxHeartbeats 400000 in
set_option maxRecDepth 100000 in
theorem mX6_addsAs2 (l : Launch) (E : fx_En) (ad : Nat → Nat) (im : Int32) (at_ : Int32) (op : Int32) (st_ : Int32) (us : Int32) (bn : Int32) (bm : Int32) (la : Int32) (fo : Int32) (fi : Int32) (lp : Int32) (ip : Int32) (tn : Nat) (sk : Nat) (tr : Nat → Int32) (x : Int32) (htn : tn ≤ 30) : fx_Mi l yX6_addsAs cX6_addsAs 3 .int rmX6_addsAs2 E [.ref (ad 30), .int 2, .int x] [(ad 30, .inr (6, [.ref (ad 0), .ref (ad 1), .int im, .ref (ad 3), .int at_, .int op, .int st_, .int us, .ref (ad 8), .ref (ad 9), .ref (ad 10), .ref (ad 11), .ref (ad 12), .ref (ad 13), .ref (ad 14), .int bn, .int bm, .ref (ad 17), .int la, .int fo, .int fi, .int lp, .ref (ad 22), .int (nI tn), .int (nI sk), .int ip, .ref (ad 26), .ref (ad 27), .ref (ad 28), .ref (ad 29)])), (ad 22, .inl (E.2 0, 30, .inl tr))] [] (S := (Nat → Int32) × Nat) (fun (u : (Nat → Int32) × Nat) => [(ad 30, .inr (6, [.ref (ad 0), .ref (ad 1), .int im, .ref (ad 3), .int at_, .int op, .int st_, .int us, .ref (ad 8), .ref (ad 9), .ref (ad 10), .ref (ad 11), .ref (ad 12), .ref (ad 13), .ref (ad 14), .int bn, .int bm, .ref (ad 17), .int la, .int fo, .int fi, .int lp, .ref (ad 22), .int (nI u.2), .int (nI sk), .int ip, .ref (ad 26), .ref (ad 27), .ref (ad 28), .ref (ad 29)])), (ad 22, .inl (E.2 0, 30, .inl u.1))]) (fun (r : Int32) (u : (Nat → Int32) × Nat) => r = addsV 2 (nI sk) x ∧ (u.1, u.2) = bgL (tr, tn) (addsB 2) ∧ u.2 ≤ 30) := by
  refine fx_iW rfl rfl ?_
  intro p e s m args below meth c A ls Q X hE hP hD hR hA hl hret
  have hx := X.1
  have hb := X.2.1
  have hS : va_S A s.heap s.heap [] := va_S.rf
  replace hP : va_P E.1 clA [(ad 30, .inr (6, [.ref (ad 0), .ref (ad 1), .int im, .ref (ad 3), .int at_, .int op, .int st_, .int us, .ref (ad 8), .ref (ad 9), .ref (ad 10), .ref (ad 11), .ref (ad 12), .ref (ad 13), .ref (ad 14), .int bn, .int bm, .ref (ad 17), .int la, .int fo, .int fi, .int lp, .ref (ad 22), .int (nI tn), .int (nI sk), .int ip, .ref (ad 26), .ref (ad 27), .ref (ad 28), .ref (ad 29)])), (ad 22, .inl (E.2 0, 30, .inl tr))] _ := hP
  replace hD : va_D A [(ad 30, .inr (6, [.ref (ad 0), .ref (ad 1), .int im, .ref (ad 3), .int at_, .int op, .int st_, .int us, .ref (ad 8), .ref (ad 9), .ref (ad 10), .ref (ad 11), .ref (ad 12), .ref (ad 13), .ref (ad 14), .int bn, .int bm, .ref (ad 17), .int la, .int fo, .int fi, .int lp, .ref (ad 22), .int (nI tn), .int (nI sk), .int ip, .ref (ad 26), .ref (ad 27), .ref (ad 28), .ref (ad 29)])), (ad 22, .inl (E.2 0, 30, .inl tr))] := hD
  replace hl : lv_has ls 3 [(0, .ref (ad 30)), (1, .int 2), (2, .int x)] := hl
  refine lv_iload_n hx hb dX6_addsAs_0 rfl (lv_at hl 1 rfl) ?_
  refine lv_tableIn (tgt := 103) (off := 102) hx hb dX6_addsAs_1 (by decide) (by decide) rfl (by decide) ?_
  refine lv_aload_n hx hb dX6_addsAs_103 rfl (lv_at hl 0 rfl) ?_
  refine lv_iload_n hx hb dX6_addsAs_104 rfl (lv_at hl 1 rfl) ?_
  refine fx_ci (va_runS (As := [.int 2]) (rest := [.ref (ad 30)]) X (mX6_above l E 2 (by decide) _) (va_cwS 1 X.2.2.2.2 (lw_S q1525 q1526 q75 q1527) rfl rfl rfl hdX6_above ⟨Nat.le_of_ble_eq_true rfl, Nat.le_of_ble_eq_true rfl⟩) (fx_pre hE hP hD hS hR [] rfl rfl fx_rc0) rfl rfl hl.1 rfl (lv_room (Nat.le_of_ble_eq_true rfl)) dX6_addsAs_105 ⟨Nat.le_refl _, Nat.le_refl _⟩) hP hD hS hA [] rfl rfl (fun r_105 u H locs hq_105 hP hD hS => ?_)
  replace hP : va_P E.1 clA [(ad 30, .inr (6, [.ref (ad 0), .ref (ad 1), .int im, .ref (ad 3), .int at_, .int op, .int st_, .int us, .ref (ad 8), .ref (ad 9), .ref (ad 10), .ref (ad 11), .ref (ad 12), .ref (ad 13), .ref (ad 14), .int bn, .int bm, .ref (ad 17), .int la, .int fo, .int fi, .int lp, .ref (ad 22), .int (nI tn), .int (nI sk), .int ip, .ref (ad 26), .ref (ad 27), .ref (ad 28), .ref (ad 29)])), (ad 22, .inl (E.2 0, 30, .inl tr))] _ := hP
  replace hD : va_D A [(ad 30, .inr (6, [.ref (ad 0), .ref (ad 1), .int im, .ref (ad 3), .int at_, .int op, .int st_, .int us, .ref (ad 8), .ref (ad 9), .ref (ad 10), .ref (ad 11), .ref (ad 12), .ref (ad 13), .ref (ad 14), .int bn, .int bm, .ref (ad 17), .int la, .int fo, .int fi, .int lp, .ref (ad 22), .int (nI tn), .int (nI sk), .int ip, .ref (ad 26), .ref (ad 27), .ref (ad 28), .ref (ad 29)])), (ad 22, .inl (E.2 0, 30, .inl tr))] := hD
  replace hq_105 : r_105 = nI (abvK 2) := hq_105
  refine fx_ti (show r_105 = 0 from hq_105.trans (by decide)) ?_
  refine lv_iload_n hx hb dX6_addsAs_108 rfl (lv_at hl 2 rfl) ?_
  refine fx_ci (va_runV (As := [.int 0, .int x]) (rest := []) X (mX6_addsAs0 l E ad im at_ op st_ us bn bm la fo fi lp ip tn sk tr x (by first | assumption | omega) _) (cwV 2 X.2.2.2.2 (lw_V q1517 q1519 qs63 q75 q1520) rfl rfl rfl ⟨rfl, hdX6_addsAs⟩ ⟨Nat.le_of_ble_eq_true rfl, Nat.le_of_ble_eq_true rfl⟩) (fx_preV (fx_pre hE hP hD hS hR [0, 1] rfl rfl fx_rc0) (va_recv hE.1 hP (ci := 6) (q0 := 0) rfl rfl)) rfl rfl hl.1 rfl (lv_room (Nat.le_of_ble_eq_true rfl)) dX6_addsAs_109 ⟨Nat.le_refl _, Nat.le_refl _⟩) hP hD hS hA [0, 1] rfl rfl (fun r_109 u H locs hq_109 hP hD hS => ?_)
  obtain ⟨tr2_109, tn2_109⟩ := u
  replace hP : va_P E.1 clA [(ad 30, .inr (6, [.ref (ad 0), .ref (ad 1), .int im, .ref (ad 3), .int at_, .int op, .int st_, .int us, .ref (ad 8), .ref (ad 9), .ref (ad 10), .ref (ad 11), .ref (ad 12), .ref (ad 13), .ref (ad 14), .int bn, .int bm, .ref (ad 17), .int la, .int fo, .int fi, .int lp, .ref (ad 22), .int (nI tn2_109), .int (nI sk), .int ip, .ref (ad 26), .ref (ad 27), .ref (ad 28), .ref (ad 29)])), (ad 22, .inl (E.2 0, 30, .inl tr2_109))] _ := hP
  replace hD : va_D A [(ad 30, .inr (6, [.ref (ad 0), .ref (ad 1), .int im, .ref (ad 3), .int at_, .int op, .int st_, .int us, .ref (ad 8), .ref (ad 9), .ref (ad 10), .ref (ad 11), .ref (ad 12), .ref (ad 13), .ref (ad 14), .int bn, .int bm, .ref (ad 17), .int la, .int fo, .int fi, .int lp, .ref (ad 22), .int (nI tn2_109), .int (nI sk), .int ip, .ref (ad 26), .ref (ad 27), .ref (ad 28), .ref (ad 29)])), (ad 22, .inl (E.2 0, 30, .inl tr2_109))] := hD
  replace hq_109 : r_109 = addsV 0 (nI sk) x ∧ (tr2_109, tn2_109) = bgL (tr, tn) (addsB 0) ∧ tn2_109 ≤ 30 := hq_109
  exact hret r_109 (tr2_109, tn2_109) (⟨by rw [hq_109.1]; rfl, by rw [hq_109.2.1]; rfl, hq_109.2.2⟩) (rfl) hP hD hS (Nat.le_refl _) (Nat.le_refl _) dX6_addsAs_112
abbrev rmX6_addsAs3 : Room := { frames := 2, cells := 0, slots := 0, locals := 43 }
set_option maxHeartbeats 400000 in
set_option maxRecDepth 100000 in
theorem mX6_addsAs3 (l : Launch) (E : fx_En) (ad : Nat → Nat) (im : Int32) (at_ : Int32) (op : Int32) (st_ : Int32) (us : Int32) (bn : Int32) (bm : Int32) (la : Int32) (fo : Int32) (fi : Int32) (lp : Int32) (ip : Int32) (tn : Nat) (sk : Nat) (tr : Nat → Int32) (x : Int32) (htn : tn ≤ 30) : fx_Mi l yX6_addsAs cX6_addsAs 3 .int rmX6_addsAs3 E [.ref (ad 30), .int 3, .int x] [(ad 30, .inr (6, [.ref (ad 0), .ref (ad 1), .int im, .ref (ad 3), .int at_, .int op, .int st_, .int us, .ref (ad 8), .ref (ad 9), .ref (ad 10), .ref (ad 11), .ref (ad 12), .ref (ad 13), .ref (ad 14), .int bn, .int bm, .ref (ad 17), .int la, .int fo, .int fi, .int lp, .ref (ad 22), .int (nI tn), .int (nI sk), .int ip, .ref (ad 26), .ref (ad 27), .ref (ad 28), .ref (ad 29)])), (ad 22, .inl (E.2 0, 30, .inl tr))] [] (S := (Nat → Int32) × Nat) (fun (u : (Nat → Int32) × Nat) => [(ad 30, .inr (6, [.ref (ad 0), .ref (ad 1), .int im, .ref (ad 3), .int at_, .int op, .int st_, .int us, .ref (ad 8), .ref (ad 9), .ref (ad 10), .ref (ad 11), .ref (ad 12), .ref (ad 13), .ref (ad 14), .int bn, .int bm, .ref (ad 17), .int la, .int fo, .int fi, .int lp, .ref (ad 22), .int (nI u.2), .int (nI sk), .int ip, .ref (ad 26), .ref (ad 27), .ref (ad 28), .ref (ad 29)])), (ad 22, .inl (E.2 0, 30, .inl u.1))]) (fun (r : Int32) (u : (Nat → Int32) × Nat) => r = addsV 3 (nI sk) x ∧ (u.1, u.2) = bgL (tr, tn) (addsB 3) ∧ u.2 ≤ 30) := by
  refine fx_iW rfl rfl ?_
  intro p e s m args below meth c A ls Q X hE hP hD hR hA hl hret
  have hx := X.1
  have hb := X.2.1
  have hS : va_S A s.heap s.heap [] := va_S.rf
  replace hP : va_P E.1 clA [(ad 30, .inr (6, [.ref (ad 0), .ref (ad 1), .int im, .ref (ad 3), .int at_, .int op, .int st_, .int us, .ref (ad 8), .ref (ad 9), .ref (ad 10), .ref (ad 11), .ref (ad 12), .ref (ad 13), .ref (ad 14), .int bn, .int bm, .ref (ad 17), .int la, .int fo, .int fi, .int lp, .ref (ad 22), .int (nI tn), .int (nI sk), .int ip, .ref (ad 26), .ref (ad 27), .ref (ad 28), .ref (ad 29)])), (ad 22, .inl (E.2 0, 30, .inl tr))] _ := hP
  replace hD : va_D A [(ad 30, .inr (6, [.ref (ad 0), .ref (ad 1), .int im, .ref (ad 3), .int at_, .int op, .int st_, .int us, .ref (ad 8), .ref (ad 9), .ref (ad 10), .ref (ad 11), .ref (ad 12), .ref (ad 13), .ref (ad 14), .int bn, .int bm, .ref (ad 17), .int la, .int fo, .int fi, .int lp, .ref (ad 22), .int (nI tn), .int (nI sk), .int ip, .ref (ad 26), .ref (ad 27), .ref (ad 28), .ref (ad 29)])), (ad 22, .inl (E.2 0, 30, .inl tr))] := hD
  replace hl : lv_has ls 3 [(0, .ref (ad 30)), (1, .int 3), (2, .int x)] := hl
  refine lv_iload_n hx hb dX6_addsAs_0 rfl (lv_at hl 1 rfl) ?_
  refine lv_tableIn (tgt := 103) (off := 102) hx hb dX6_addsAs_1 (by decide) (by decide) rfl (by decide) ?_
  refine lv_aload_n hx hb dX6_addsAs_103 rfl (lv_at hl 0 rfl) ?_
  refine lv_iload_n hx hb dX6_addsAs_104 rfl (lv_at hl 1 rfl) ?_
  refine fx_ci (va_runS (As := [.int 3]) (rest := [.ref (ad 30)]) X (mX6_above l E 3 (by decide) _) (va_cwS 1 X.2.2.2.2 (lw_S q1525 q1526 q75 q1527) rfl rfl rfl hdX6_above ⟨Nat.le_of_ble_eq_true rfl, Nat.le_of_ble_eq_true rfl⟩) (fx_pre hE hP hD hS hR [] rfl rfl fx_rc0) rfl rfl hl.1 rfl (lv_room (Nat.le_of_ble_eq_true rfl)) dX6_addsAs_105 ⟨Nat.le_refl _, Nat.le_refl _⟩) hP hD hS hA [] rfl rfl (fun r_105 u H locs hq_105 hP hD hS => ?_)
  replace hP : va_P E.1 clA [(ad 30, .inr (6, [.ref (ad 0), .ref (ad 1), .int im, .ref (ad 3), .int at_, .int op, .int st_, .int us, .ref (ad 8), .ref (ad 9), .ref (ad 10), .ref (ad 11), .ref (ad 12), .ref (ad 13), .ref (ad 14), .int bn, .int bm, .ref (ad 17), .int la, .int fo, .int fi, .int lp, .ref (ad 22), .int (nI tn), .int (nI sk), .int ip, .ref (ad 26), .ref (ad 27), .ref (ad 28), .ref (ad 29)])), (ad 22, .inl (E.2 0, 30, .inl tr))] _ := hP
  replace hD : va_D A [(ad 30, .inr (6, [.ref (ad 0), .ref (ad 1), .int im, .ref (ad 3), .int at_, .int op, .int st_, .int us, .ref (ad 8), .ref (ad 9), .ref (ad 10), .ref (ad 11), .ref (ad 12), .ref (ad 13), .ref (ad 14), .int bn, .int bm, .ref (ad 17), .int la, .int fo, .int fi, .int lp, .ref (ad 22), .int (nI tn), .int (nI sk), .int ip, .ref (ad 26), .ref (ad 27), .ref (ad 28), .ref (ad 29)])), (ad 22, .inl (E.2 0, 30, .inl tr))] := hD
  replace hq_105 : r_105 = nI (abvK 3) := hq_105
  refine fx_ti (show r_105 = 0 from hq_105.trans (by decide)) ?_
  refine lv_iload_n hx hb dX6_addsAs_108 rfl (lv_at hl 2 rfl) ?_
  refine fx_ci (va_runV (As := [.int 0, .int x]) (rest := []) X (mX6_addsAs0 l E ad im at_ op st_ us bn bm la fo fi lp ip tn sk tr x (by first | assumption | omega) _) (cwV 2 X.2.2.2.2 (lw_V q1517 q1519 qs63 q75 q1520) rfl rfl rfl ⟨rfl, hdX6_addsAs⟩ ⟨Nat.le_of_ble_eq_true rfl, Nat.le_of_ble_eq_true rfl⟩) (fx_preV (fx_pre hE hP hD hS hR [0, 1] rfl rfl fx_rc0) (va_recv hE.1 hP (ci := 6) (q0 := 0) rfl rfl)) rfl rfl hl.1 rfl (lv_room (Nat.le_of_ble_eq_true rfl)) dX6_addsAs_109 ⟨Nat.le_refl _, Nat.le_refl _⟩) hP hD hS hA [0, 1] rfl rfl (fun r_109 u H locs hq_109 hP hD hS => ?_)
  obtain ⟨tr2_109, tn2_109⟩ := u
  replace hP : va_P E.1 clA [(ad 30, .inr (6, [.ref (ad 0), .ref (ad 1), .int im, .ref (ad 3), .int at_, .int op, .int st_, .int us, .ref (ad 8), .ref (ad 9), .ref (ad 10), .ref (ad 11), .ref (ad 12), .ref (ad 13), .ref (ad 14), .int bn, .int bm, .ref (ad 17), .int la, .int fo, .int fi, .int lp, .ref (ad 22), .int (nI tn2_109), .int (nI sk), .int ip, .ref (ad 26), .ref (ad 27), .ref (ad 28), .ref (ad 29)])), (ad 22, .inl (E.2 0, 30, .inl tr2_109))] _ := hP
  replace hD : va_D A [(ad 30, .inr (6, [.ref (ad 0), .ref (ad 1), .int im, .ref (ad 3), .int at_, .int op, .int st_, .int us, .ref (ad 8), .ref (ad 9), .ref (ad 10), .ref (ad 11), .ref (ad 12), .ref (ad 13), .ref (ad 14), .int bn, .int bm, .ref (ad 17), .int la, .int fo, .int fi, .int lp, .ref (ad 22), .int (nI tn2_109), .int (nI sk), .int ip, .ref (ad 26), .ref (ad 27), .ref (ad 28), .ref (ad 29)])), (ad 22, .inl (E.2 0, 30, .inl tr2_109))] := hD
  replace hq_109 : r_109 = addsV 0 (nI sk) x ∧ (tr2_109, tn2_109) = bgL (tr, tn) (addsB 0) ∧ tn2_109 ≤ 30 := hq_109
  exact hret r_109 (tr2_109, tn2_109) (⟨by rw [hq_109.1]; rfl, by rw [hq_109.2.1]; rfl, hq_109.2.2⟩) (rfl) hP hD hS (Nat.le_refl _) (Nat.le_refl _) dX6_addsAs_112
abbrev rmX6_addsAs4 : Room := { frames := 3, cells := 0, slots := 0, locals := 65 }
set_option maxHeartbeats 400000 in
set_option maxRecDepth 100000 in
theorem mX6_addsAs4 (l : Launch) (E : fx_En) (ad : Nat → Nat) (im : Int32) (at_ : Int32) (op : Int32) (st_ : Int32) (us : Int32) (bn : Int32) (bm : Int32) (la : Int32) (fo : Int32) (fi : Int32) (lp : Int32) (ip : Int32) (tn : Nat) (sk : Nat) (tr : Nat → Int32) (x : Int32) (htn : tn ≤ 30) : fx_Mi l yX6_addsAs cX6_addsAs 3 .int rmX6_addsAs4 E [.ref (ad 30), .int 4, .int x] [(ad 30, .inr (6, [.ref (ad 0), .ref (ad 1), .int im, .ref (ad 3), .int at_, .int op, .int st_, .int us, .ref (ad 8), .ref (ad 9), .ref (ad 10), .ref (ad 11), .ref (ad 12), .ref (ad 13), .ref (ad 14), .int bn, .int bm, .ref (ad 17), .int la, .int fo, .int fi, .int lp, .ref (ad 22), .int (nI tn), .int (nI sk), .int ip, .ref (ad 26), .ref (ad 27), .ref (ad 28), .ref (ad 29)])), (ad 22, .inl (E.2 0, 30, .inl tr))] [] (S := (Nat → Int32) × Nat) (fun (u : (Nat → Int32) × Nat) => [(ad 30, .inr (6, [.ref (ad 0), .ref (ad 1), .int im, .ref (ad 3), .int at_, .int op, .int st_, .int us, .ref (ad 8), .ref (ad 9), .ref (ad 10), .ref (ad 11), .ref (ad 12), .ref (ad 13), .ref (ad 14), .int bn, .int bm, .ref (ad 17), .int la, .int fo, .int fi, .int lp, .ref (ad 22), .int (nI u.2), .int (nI sk), .int ip, .ref (ad 26), .ref (ad 27), .ref (ad 28), .ref (ad 29)])), (ad 22, .inl (E.2 0, 30, .inl u.1))]) (fun (r : Int32) (u : (Nat → Int32) × Nat) => r = addsV 4 (nI sk) x ∧ (u.1, u.2) = bgL (tr, tn) (addsB 4) ∧ u.2 ≤ 30) := by
  refine fx_iW rfl rfl ?_
  intro p e s m args below meth c A ls Q X hE hP hD hR hA hl hret
  have hx := X.1
  have hb := X.2.1
  have hS : va_S A s.heap s.heap [] := va_S.rf
  replace hP : va_P E.1 clA [(ad 30, .inr (6, [.ref (ad 0), .ref (ad 1), .int im, .ref (ad 3), .int at_, .int op, .int st_, .int us, .ref (ad 8), .ref (ad 9), .ref (ad 10), .ref (ad 11), .ref (ad 12), .ref (ad 13), .ref (ad 14), .int bn, .int bm, .ref (ad 17), .int la, .int fo, .int fi, .int lp, .ref (ad 22), .int (nI tn), .int (nI sk), .int ip, .ref (ad 26), .ref (ad 27), .ref (ad 28), .ref (ad 29)])), (ad 22, .inl (E.2 0, 30, .inl tr))] _ := hP
  replace hD : va_D A [(ad 30, .inr (6, [.ref (ad 0), .ref (ad 1), .int im, .ref (ad 3), .int at_, .int op, .int st_, .int us, .ref (ad 8), .ref (ad 9), .ref (ad 10), .ref (ad 11), .ref (ad 12), .ref (ad 13), .ref (ad 14), .int bn, .int bm, .ref (ad 17), .int la, .int fo, .int fi, .int lp, .ref (ad 22), .int (nI tn), .int (nI sk), .int ip, .ref (ad 26), .ref (ad 27), .ref (ad 28), .ref (ad 29)])), (ad 22, .inl (E.2 0, 30, .inl tr))] := hD
  replace hl : lv_has ls 3 [(0, .ref (ad 30)), (1, .int 4), (2, .int x)] := hl
  refine lv_iload_n hx hb dX6_addsAs_0 rfl (lv_at hl 1 rfl) ?_
  refine lv_tableIn (tgt := 103) (off := 102) hx hb dX6_addsAs_1 (by decide) (by decide) rfl (by decide) ?_
  refine lv_aload_n hx hb dX6_addsAs_103 rfl (lv_at hl 0 rfl) ?_
  refine lv_iload_n hx hb dX6_addsAs_104 rfl (lv_at hl 1 rfl) ?_
  refine fx_ci (va_runS (As := [.int 4]) (rest := [.ref (ad 30)]) X (mX6_above l E 4 (by decide) _) (va_cwS 1 X.2.2.2.2 (lw_S q1525 q1526 q75 q1527) rfl rfl rfl hdX6_above ⟨Nat.le_of_ble_eq_true rfl, Nat.le_of_ble_eq_true rfl⟩) (fx_pre hE hP hD hS hR [] rfl rfl fx_rc0) rfl rfl hl.1 rfl (lv_room (Nat.le_of_ble_eq_true rfl)) dX6_addsAs_105 ⟨Nat.le_refl _, Nat.le_refl _⟩) hP hD hS hA [] rfl rfl (fun r_105 u H locs hq_105 hP hD hS => ?_)
  replace hP : va_P E.1 clA [(ad 30, .inr (6, [.ref (ad 0), .ref (ad 1), .int im, .ref (ad 3), .int at_, .int op, .int st_, .int us, .ref (ad 8), .ref (ad 9), .ref (ad 10), .ref (ad 11), .ref (ad 12), .ref (ad 13), .ref (ad 14), .int bn, .int bm, .ref (ad 17), .int la, .int fo, .int fi, .int lp, .ref (ad 22), .int (nI tn), .int (nI sk), .int ip, .ref (ad 26), .ref (ad 27), .ref (ad 28), .ref (ad 29)])), (ad 22, .inl (E.2 0, 30, .inl tr))] _ := hP
  replace hD : va_D A [(ad 30, .inr (6, [.ref (ad 0), .ref (ad 1), .int im, .ref (ad 3), .int at_, .int op, .int st_, .int us, .ref (ad 8), .ref (ad 9), .ref (ad 10), .ref (ad 11), .ref (ad 12), .ref (ad 13), .ref (ad 14), .int bn, .int bm, .ref (ad 17), .int la, .int fo, .int fi, .int lp, .ref (ad 22), .int (nI tn), .int (nI sk), .int ip, .ref (ad 26), .ref (ad 27), .ref (ad 28), .ref (ad 29)])), (ad 22, .inl (E.2 0, 30, .inl tr))] := hD
  replace hq_105 : r_105 = nI (abvK 4) := hq_105
  refine fx_ti (show r_105 = 2 from hq_105.trans (by decide)) ?_
  refine lv_iload_n hx hb dX6_addsAs_108 rfl (lv_at hl 2 rfl) ?_
  refine fx_ci (va_runV (As := [.int 2, .int x]) (rest := []) X (mX6_addsAs2 l E ad im at_ op st_ us bn bm la fo fi lp ip tn sk tr x (by first | assumption | omega) _) (cwV 2 X.2.2.2.2 (lw_V q1517 q1519 qs63 q75 q1520) rfl rfl rfl ⟨rfl, hdX6_addsAs⟩ ⟨Nat.le_of_ble_eq_true rfl, Nat.le_of_ble_eq_true rfl⟩) (fx_preV (fx_pre hE hP hD hS hR [0, 1] rfl rfl fx_rc0) (va_recv hE.1 hP (ci := 6) (q0 := 0) rfl rfl)) rfl rfl hl.1 rfl (lv_room (Nat.le_of_ble_eq_true rfl)) dX6_addsAs_109 ⟨Nat.le_refl _, Nat.le_refl _⟩) hP hD hS hA [0, 1] rfl rfl (fun r_109 u H locs hq_109 hP hD hS => ?_)
  obtain ⟨tr2_109, tn2_109⟩ := u
  replace hP : va_P E.1 clA [(ad 30, .inr (6, [.ref (ad 0), .ref (ad 1), .int im, .ref (ad 3), .int at_, .int op, .int st_, .int us, .ref (ad 8), .ref (ad 9), .ref (ad 10), .ref (ad 11), .ref (ad 12), .ref (ad 13), .ref (ad 14), .int bn, .int bm, .ref (ad 17), .int la, .int fo, .int fi, .int lp, .ref (ad 22), .int (nI tn2_109), .int (nI sk), .int ip, .ref (ad 26), .ref (ad 27), .ref (ad 28), .ref (ad 29)])), (ad 22, .inl (E.2 0, 30, .inl tr2_109))] _ := hP
  replace hD : va_D A [(ad 30, .inr (6, [.ref (ad 0), .ref (ad 1), .int im, .ref (ad 3), .int at_, .int op, .int st_, .int us, .ref (ad 8), .ref (ad 9), .ref (ad 10), .ref (ad 11), .ref (ad 12), .ref (ad 13), .ref (ad 14), .int bn, .int bm, .ref (ad 17), .int la, .int fo, .int fi, .int lp, .ref (ad 22), .int (nI tn2_109), .int (nI sk), .int ip, .ref (ad 26), .ref (ad 27), .ref (ad 28), .ref (ad 29)])), (ad 22, .inl (E.2 0, 30, .inl tr2_109))] := hD
  replace hq_109 : r_109 = addsV 2 (nI sk) x ∧ (tr2_109, tn2_109) = bgL (tr, tn) (addsB 2) ∧ tn2_109 ≤ 30 := hq_109
  exact hret r_109 (tr2_109, tn2_109) (⟨by rw [hq_109.1]; rfl, by rw [hq_109.2.1]; rfl, hq_109.2.2⟩) (rfl) hP hD hS (Nat.le_refl _) (Nat.le_refl _) dX6_addsAs_112
abbrev rmX6_addsAs5 : Room := { frames := 3, cells := 0, slots := 0, locals := 65 }
set_option maxHeartbeats 400000 in
set_option maxRecDepth 100000 in
theorem mX6_addsAs5 (l : Launch) (E : fx_En) (ad : Nat → Nat) (im : Int32) (at_ : Int32) (op : Int32) (st_ : Int32) (us : Int32) (bn : Int32) (bm : Int32) (la : Int32) (fo : Int32) (fi : Int32) (lp : Int32) (ip : Int32) (tn : Nat) (sk : Nat) (tr : Nat → Int32) (x : Int32) (htn : tn ≤ 30) : fx_Mi l yX6_addsAs cX6_addsAs 3 .int rmX6_addsAs5 E [.ref (ad 30), .int 5, .int x] [(ad 30, .inr (6, [.ref (ad 0), .ref (ad 1), .int im, .ref (ad 3), .int at_, .int op, .int st_, .int us, .ref (ad 8), .ref (ad 9), .ref (ad 10), .ref (ad 11), .ref (ad 12), .ref (ad 13), .ref (ad 14), .int bn, .int bm, .ref (ad 17), .int la, .int fo, .int fi, .int lp, .ref (ad 22), .int (nI tn), .int (nI sk), .int ip, .ref (ad 26), .ref (ad 27), .ref (ad 28), .ref (ad 29)])), (ad 22, .inl (E.2 0, 30, .inl tr))] [] (S := (Nat → Int32) × Nat) (fun (u : (Nat → Int32) × Nat) => [(ad 30, .inr (6, [.ref (ad 0), .ref (ad 1), .int im, .ref (ad 3), .int at_, .int op, .int st_, .int us, .ref (ad 8), .ref (ad 9), .ref (ad 10), .ref (ad 11), .ref (ad 12), .ref (ad 13), .ref (ad 14), .int bn, .int bm, .ref (ad 17), .int la, .int fo, .int fi, .int lp, .ref (ad 22), .int (nI u.2), .int (nI sk), .int ip, .ref (ad 26), .ref (ad 27), .ref (ad 28), .ref (ad 29)])), (ad 22, .inl (E.2 0, 30, .inl u.1))]) (fun (r : Int32) (u : (Nat → Int32) × Nat) => r = addsV 5 (nI sk) x ∧ (u.1, u.2) = bgL (tr, tn) (addsB 5) ∧ u.2 ≤ 30) := by
  refine fx_iW rfl rfl ?_
  intro p e s m args below meth c A ls Q X hE hP hD hR hA hl hret
  have hx := X.1
  have hb := X.2.1
  have hS : va_S A s.heap s.heap [] := va_S.rf
  replace hP : va_P E.1 clA [(ad 30, .inr (6, [.ref (ad 0), .ref (ad 1), .int im, .ref (ad 3), .int at_, .int op, .int st_, .int us, .ref (ad 8), .ref (ad 9), .ref (ad 10), .ref (ad 11), .ref (ad 12), .ref (ad 13), .ref (ad 14), .int bn, .int bm, .ref (ad 17), .int la, .int fo, .int fi, .int lp, .ref (ad 22), .int (nI tn), .int (nI sk), .int ip, .ref (ad 26), .ref (ad 27), .ref (ad 28), .ref (ad 29)])), (ad 22, .inl (E.2 0, 30, .inl tr))] _ := hP
  replace hD : va_D A [(ad 30, .inr (6, [.ref (ad 0), .ref (ad 1), .int im, .ref (ad 3), .int at_, .int op, .int st_, .int us, .ref (ad 8), .ref (ad 9), .ref (ad 10), .ref (ad 11), .ref (ad 12), .ref (ad 13), .ref (ad 14), .int bn, .int bm, .ref (ad 17), .int la, .int fo, .int fi, .int lp, .ref (ad 22), .int (nI tn), .int (nI sk), .int ip, .ref (ad 26), .ref (ad 27), .ref (ad 28), .ref (ad 29)])), (ad 22, .inl (E.2 0, 30, .inl tr))] := hD
  replace hl : lv_has ls 3 [(0, .ref (ad 30)), (1, .int 5), (2, .int x)] := hl
  refine lv_iload_n hx hb dX6_addsAs_0 rfl (lv_at hl 1 rfl) ?_
  refine lv_tableIn (tgt := 76) (off := 75) hx hb dX6_addsAs_1 (by decide) (by decide) rfl (by decide) ?_
  refine lv_aload_n hx hb dX6_addsAs_76 rfl (lv_at hl 0 rfl) ?_
  refine lv_bipush (v := 50) hx hb dX6_addsAs_77 rfl ?_
  refine fx_cv (va_runV (As := [.int 50]) (rest := []) X (mX6_begins l E ad im at_ op st_ us bn bm la fo fi lp ip tn sk tr 50 (by first | assumption | omega) _) (cwV 1 X.2.2.2.2 (lw_V q1521 q1523 qs64 q75 q1524) rfl rfl rfl ⟨rfl, hdX6_begins⟩ ⟨Nat.le_of_ble_eq_true rfl, Nat.le_of_ble_eq_true rfl⟩) (fx_preV (fx_pre hE hP hD hS hR [0, 1] rfl rfl fx_rc0) (va_recv hE.1 hP (ci := 6) (q0 := 0) rfl rfl)) rfl rfl hl.1 rfl (lv_room (Nat.le_of_ble_eq_true rfl)) dX6_addsAs_79 ⟨Nat.le_refl _, Nat.le_refl _⟩) hP hD hS hA [0, 1] rfl rfl (fun u H locs hq_79 hP hD hS => ?_)
  obtain ⟨tr2_79, tn2_79⟩ := u
  replace hP : va_P E.1 clA [(ad 30, .inr (6, [.ref (ad 0), .ref (ad 1), .int im, .ref (ad 3), .int at_, .int op, .int st_, .int us, .ref (ad 8), .ref (ad 9), .ref (ad 10), .ref (ad 11), .ref (ad 12), .ref (ad 13), .ref (ad 14), .int bn, .int bm, .ref (ad 17), .int la, .int fo, .int fi, .int lp, .ref (ad 22), .int (nI tn2_79), .int (nI sk), .int ip, .ref (ad 26), .ref (ad 27), .ref (ad 28), .ref (ad 29)])), (ad 22, .inl (E.2 0, 30, .inl tr2_79))] _ := hP
  replace hD : va_D A [(ad 30, .inr (6, [.ref (ad 0), .ref (ad 1), .int im, .ref (ad 3), .int at_, .int op, .int st_, .int us, .ref (ad 8), .ref (ad 9), .ref (ad 10), .ref (ad 11), .ref (ad 12), .ref (ad 13), .ref (ad 14), .int bn, .int bm, .ref (ad 17), .int la, .int fo, .int fi, .int lp, .ref (ad 22), .int (nI tn2_79), .int (nI sk), .int ip, .ref (ad 26), .ref (ad 27), .ref (ad 28), .ref (ad 29)])), (ad 22, .inl (E.2 0, 30, .inl tr2_79))] := hD
  replace hq_79 : (tr2_79, tn2_79) = bg (tr, tn) 50 ∧ tn2_79 ≤ 30 := hq_79
  refine lv_aload_n hx hb dX6_addsAs_82 rfl (lv_at hl 0 rfl) ?_
  refine lv_iconst (v := 5) hx hb dX6_addsAs_83 rfl ?_
  refine fx_ci (va_runS (As := [.int 5]) (rest := [.ref (ad 30)]) X (mX6_above l E 5 (by decide) _) (va_cwS 1 X.2.2.2.2 (lw_S q1525 q1526 q75 q1527) rfl rfl rfl hdX6_above ⟨Nat.le_of_ble_eq_true rfl, Nat.le_of_ble_eq_true rfl⟩) (fx_pre hE hP hD hS hR [] rfl rfl fx_rc0) rfl rfl hl.1 rfl (lv_room (Nat.le_of_ble_eq_true rfl)) dX6_addsAs_84 ⟨Nat.le_refl _, Nat.le_refl _⟩) hP hD hS hA [] rfl rfl (fun r_84 u H locs hq_84 hP hD hS => ?_)
  replace hP : va_P E.1 clA [(ad 30, .inr (6, [.ref (ad 0), .ref (ad 1), .int im, .ref (ad 3), .int at_, .int op, .int st_, .int us, .ref (ad 8), .ref (ad 9), .ref (ad 10), .ref (ad 11), .ref (ad 12), .ref (ad 13), .ref (ad 14), .int bn, .int bm, .ref (ad 17), .int la, .int fo, .int fi, .int lp, .ref (ad 22), .int (nI tn2_79), .int (nI sk), .int ip, .ref (ad 26), .ref (ad 27), .ref (ad 28), .ref (ad 29)])), (ad 22, .inl (E.2 0, 30, .inl tr2_79))] _ := hP
  replace hD : va_D A [(ad 30, .inr (6, [.ref (ad 0), .ref (ad 1), .int im, .ref (ad 3), .int at_, .int op, .int st_, .int us, .ref (ad 8), .ref (ad 9), .ref (ad 10), .ref (ad 11), .ref (ad 12), .ref (ad 13), .ref (ad 14), .int bn, .int bm, .ref (ad 17), .int la, .int fo, .int fi, .int lp, .ref (ad 22), .int (nI tn2_79), .int (nI sk), .int ip, .ref (ad 26), .ref (ad 27), .ref (ad 28), .ref (ad 29)])), (ad 22, .inl (E.2 0, 30, .inl tr2_79))] := hD
  replace hq_84 : r_84 = nI (abvK 5) := hq_84
  refine fx_ti (show r_84 = 1 from hq_84.trans (by decide)) ?_
  refine lv_iload_n hx hb dX6_addsAs_87 rfl (lv_at hl 2 rfl) ?_
  refine fx_ci (va_runV (As := [.int 1, .int x]) (rest := []) X (mX6_addsAs1 l E ad im at_ op st_ us bn bm la fo fi lp ip tn2_79 sk tr2_79 x (by first | assumption | omega) _) (cwV 2 X.2.2.2.2 (lw_V q1517 q1519 qs63 q75 q1520) rfl rfl rfl ⟨rfl, hdX6_addsAs⟩ ⟨Nat.le_of_ble_eq_true rfl, Nat.le_of_ble_eq_true rfl⟩) (fx_preV (fx_pre hE hP hD hS hR [0, 1] rfl rfl fx_rc0) (va_recv hE.1 hP (ci := 6) (q0 := 0) rfl rfl)) rfl rfl hl.1 rfl (lv_room (Nat.le_of_ble_eq_true rfl)) dX6_addsAs_88 ⟨Nat.le_refl _, Nat.le_refl _⟩) hP hD hS hA [0, 1] rfl rfl (fun r_88 u H locs hq_88 hP hD hS => ?_)
  obtain ⟨tr2_88, tn2_88⟩ := u
  replace hP : va_P E.1 clA [(ad 30, .inr (6, [.ref (ad 0), .ref (ad 1), .int im, .ref (ad 3), .int at_, .int op, .int st_, .int us, .ref (ad 8), .ref (ad 9), .ref (ad 10), .ref (ad 11), .ref (ad 12), .ref (ad 13), .ref (ad 14), .int bn, .int bm, .ref (ad 17), .int la, .int fo, .int fi, .int lp, .ref (ad 22), .int (nI tn2_88), .int (nI sk), .int ip, .ref (ad 26), .ref (ad 27), .ref (ad 28), .ref (ad 29)])), (ad 22, .inl (E.2 0, 30, .inl tr2_88))] _ := hP
  replace hD : va_D A [(ad 30, .inr (6, [.ref (ad 0), .ref (ad 1), .int im, .ref (ad 3), .int at_, .int op, .int st_, .int us, .ref (ad 8), .ref (ad 9), .ref (ad 10), .ref (ad 11), .ref (ad 12), .ref (ad 13), .ref (ad 14), .int bn, .int bm, .ref (ad 17), .int la, .int fo, .int fi, .int lp, .ref (ad 22), .int (nI tn2_88), .int (nI sk), .int ip, .ref (ad 26), .ref (ad 27), .ref (ad 28), .ref (ad 29)])), (ad 22, .inl (E.2 0, 30, .inl tr2_88))] := hD
  replace hq_88 : r_88 = addsV 1 (nI sk) x ∧ (tr2_88, tn2_88) = bgL (tr2_79, tn2_79) (addsB 1) ∧ tn2_88 ≤ 30 := hq_88
  refine lv_iconst (v := 3) hx hb dX6_addsAs_91 rfl ?_
  refine lv_imul hx hb dX6_addsAs_92 ?_
  exact hret (r_88 * 3) (tr2_88, tn2_88) (⟨by rw [hq_88.1]; rfl, by rw [hq_88.2.1, hq_79.1]; rfl, hq_88.2.2⟩) (rfl) hP hD hS (Nat.le_refl _) (Nat.le_refl _) dX6_addsAs_93
abbrev rmX6_addsAs6 : Room := { frames := 1, cells := 0, slots := 0, locals := 21 }
set_option maxHeartbeats 400000 in
set_option maxRecDepth 100000 in
theorem mX6_addsAs6 (l : Launch) (E : fx_En) (ad : Nat → Nat) (im : Int32) (at_ : Int32) (op : Int32) (st_ : Int32) (us : Int32) (bn : Int32) (bm : Int32) (la : Int32) (fo : Int32) (fi : Int32) (lp : Int32) (ip : Int32) (tn : Nat) (sk : Nat) (tr : Nat → Int32) (x : Int32) (htn : tn ≤ 30) : fx_Mi l yX6_addsAs cX6_addsAs 3 .int rmX6_addsAs6 E [.ref (ad 30), .int 6, .int x] [(ad 30, .inr (6, [.ref (ad 0), .ref (ad 1), .int im, .ref (ad 3), .int at_, .int op, .int st_, .int us, .ref (ad 8), .ref (ad 9), .ref (ad 10), .ref (ad 11), .ref (ad 12), .ref (ad 13), .ref (ad 14), .int bn, .int bm, .ref (ad 17), .int la, .int fo, .int fi, .int lp, .ref (ad 22), .int (nI tn), .int (nI sk), .int ip, .ref (ad 26), .ref (ad 27), .ref (ad 28), .ref (ad 29)])), (ad 22, .inl (E.2 0, 30, .inl tr))] [] (S := (Nat → Int32) × Nat) (fun (u : (Nat → Int32) × Nat) => [(ad 30, .inr (6, [.ref (ad 0), .ref (ad 1), .int im, .ref (ad 3), .int at_, .int op, .int st_, .int us, .ref (ad 8), .ref (ad 9), .ref (ad 10), .ref (ad 11), .ref (ad 12), .ref (ad 13), .ref (ad 14), .int bn, .int bm, .ref (ad 17), .int la, .int fo, .int fi, .int lp, .ref (ad 22), .int (nI u.2), .int (nI sk), .int ip, .ref (ad 26), .ref (ad 27), .ref (ad 28), .ref (ad 29)])), (ad 22, .inl (E.2 0, 30, .inl u.1))]) (fun (r : Int32) (u : (Nat → Int32) × Nat) => r = addsV 6 (nI sk) x ∧ (u.1, u.2) = bgL (tr, tn) (addsB 6) ∧ u.2 ≤ 30) := by
  refine fx_iW rfl rfl ?_
  intro p e s m args below meth c A ls Q X hE hP hD hR hA hl hret
  have hx := X.1
  have hb := X.2.1
  have hS : va_S A s.heap s.heap [] := va_S.rf
  replace hP : va_P E.1 clA [(ad 30, .inr (6, [.ref (ad 0), .ref (ad 1), .int im, .ref (ad 3), .int at_, .int op, .int st_, .int us, .ref (ad 8), .ref (ad 9), .ref (ad 10), .ref (ad 11), .ref (ad 12), .ref (ad 13), .ref (ad 14), .int bn, .int bm, .ref (ad 17), .int la, .int fo, .int fi, .int lp, .ref (ad 22), .int (nI tn), .int (nI sk), .int ip, .ref (ad 26), .ref (ad 27), .ref (ad 28), .ref (ad 29)])), (ad 22, .inl (E.2 0, 30, .inl tr))] _ := hP
  replace hD : va_D A [(ad 30, .inr (6, [.ref (ad 0), .ref (ad 1), .int im, .ref (ad 3), .int at_, .int op, .int st_, .int us, .ref (ad 8), .ref (ad 9), .ref (ad 10), .ref (ad 11), .ref (ad 12), .ref (ad 13), .ref (ad 14), .int bn, .int bm, .ref (ad 17), .int la, .int fo, .int fi, .int lp, .ref (ad 22), .int (nI tn), .int (nI sk), .int ip, .ref (ad 26), .ref (ad 27), .ref (ad 28), .ref (ad 29)])), (ad 22, .inl (E.2 0, 30, .inl tr))] := hD
  replace hl : lv_has ls 3 [(0, .ref (ad 30)), (1, .int 6), (2, .int x)] := hl
  refine lv_iload_n hx hb dX6_addsAs_0 rfl (lv_at hl 1 rfl) ?_
  refine lv_tableIn (tgt := 94) (off := 93) hx hb dX6_addsAs_1 (by decide) (by decide) rfl (by decide) ?_
  refine lv_aload_n hx hb dX6_addsAs_94 rfl (lv_at hl 0 rfl) ?_
  refine lv_bipush (v := 70) hx hb dX6_addsAs_95 rfl ?_
  refine fx_cv (va_runV (As := [.int 70]) (rest := []) X (mX6_begins l E ad im at_ op st_ us bn bm la fo fi lp ip tn sk tr 70 (by first | assumption | omega) _) (cwV 1 X.2.2.2.2 (lw_V q1521 q1523 qs64 q75 q1524) rfl rfl rfl ⟨rfl, hdX6_begins⟩ ⟨Nat.le_of_ble_eq_true rfl, Nat.le_of_ble_eq_true rfl⟩) (fx_preV (fx_pre hE hP hD hS hR [0, 1] rfl rfl fx_rc0) (va_recv hE.1 hP (ci := 6) (q0 := 0) rfl rfl)) rfl rfl hl.1 rfl (lv_room (Nat.le_of_ble_eq_true rfl)) dX6_addsAs_97 ⟨Nat.le_refl _, Nat.le_refl _⟩) hP hD hS hA [0, 1] rfl rfl (fun u H locs hq_97 hP hD hS => ?_)
  obtain ⟨tr2_97, tn2_97⟩ := u
  replace hP : va_P E.1 clA [(ad 30, .inr (6, [.ref (ad 0), .ref (ad 1), .int im, .ref (ad 3), .int at_, .int op, .int st_, .int us, .ref (ad 8), .ref (ad 9), .ref (ad 10), .ref (ad 11), .ref (ad 12), .ref (ad 13), .ref (ad 14), .int bn, .int bm, .ref (ad 17), .int la, .int fo, .int fi, .int lp, .ref (ad 22), .int (nI tn2_97), .int (nI sk), .int ip, .ref (ad 26), .ref (ad 27), .ref (ad 28), .ref (ad 29)])), (ad 22, .inl (E.2 0, 30, .inl tr2_97))] _ := hP
  replace hD : va_D A [(ad 30, .inr (6, [.ref (ad 0), .ref (ad 1), .int im, .ref (ad 3), .int at_, .int op, .int st_, .int us, .ref (ad 8), .ref (ad 9), .ref (ad 10), .ref (ad 11), .ref (ad 12), .ref (ad 13), .ref (ad 14), .int bn, .int bm, .ref (ad 17), .int la, .int fo, .int fi, .int lp, .ref (ad 22), .int (nI tn2_97), .int (nI sk), .int ip, .ref (ad 26), .ref (ad 27), .ref (ad 28), .ref (ad 29)])), (ad 22, .inl (E.2 0, 30, .inl tr2_97))] := hD
  replace hq_97 : (tr2_97, tn2_97) = bg (tr, tn) 70 ∧ tn2_97 ≤ 30 := hq_97
  refine lv_bipush (v := 9) hx hb dX6_addsAs_100 rfl ?_
  exact hret 9 (tr2_97, tn2_97) (⟨rfl, hq_97.1, hq_97.2⟩) (rfl) hP hD hS (Nat.le_refl _) (Nat.le_refl _) dX6_addsAs_102
abbrev rmX6_comesAs0 : Room := { frames := 4, cells := 0, slots := 0, locals := 87 }
set_option maxHeartbeats 400000 in
set_option maxRecDepth 100000 in
theorem mX6_comesAs0 (l : Launch) (E : fx_En) (ad : Nat → Nat) (im : Int32) (at_ : Int32) (op : Int32) (st_ : Int32) (us : Int32) (bn : Int32) (bm : Int32) (la : Int32) (fo : Int32) (fi : Int32) (lp : Int32) (ip : Int32) (tn : Nat) (sk : Nat) (sa : Nat → Int32) (tr : Nat → Int32) (ow : Nat) (mm : Int32) (x : Int32) (htn : tn ≤ 30) (hsk : sk < 4) (hkd : sa (32 + 2 * sk) = nI ow) (hkd2 : ow ≤ 6) (hm : sa (32 + 2 * sk + 1) = mm) : fx_Mi l yX6_comesAs cX6_comesAs 3 .int rmX6_comesAs0 E [.ref (ad 30), .int 0, .int x] [(ad 30, .inr (6, [.ref (ad 0), .ref (ad 1), .int im, .ref (ad 3), .int at_, .int op, .int st_, .int us, .ref (ad 8), .ref (ad 9), .ref (ad 10), .ref (ad 11), .ref (ad 12), .ref (ad 13), .ref (ad 14), .int bn, .int bm, .ref (ad 17), .int la, .int fo, .int fi, .int lp, .ref (ad 22), .int (nI tn), .int (nI sk), .int ip, .ref (ad 26), .ref (ad 27), .ref (ad 28), .ref (ad 29)])), (ad 22, .inl (E.2 0, 30, .inl tr))] [(ad 0, .inl (E.2 0, 374, .inl sa))] (S := (Nat → Int32) × Nat) (fun (u : (Nat → Int32) × Nat) => [(ad 30, .inr (6, [.ref (ad 0), .ref (ad 1), .int im, .ref (ad 3), .int at_, .int op, .int st_, .int us, .ref (ad 8), .ref (ad 9), .ref (ad 10), .ref (ad 11), .ref (ad 12), .ref (ad 13), .ref (ad 14), .int bn, .int bm, .ref (ad 17), .int la, .int fo, .int fi, .int lp, .ref (ad 22), .int (nI u.2), .int (nI sk), .int ip, .ref (ad 26), .ref (ad 27), .ref (ad 28), .ref (ad 29)])), (ad 22, .inl (E.2 0, 30, .inl u.1))]) (fun (r : Int32) (u : (Nat → Int32) × Nat) => r = comesV 0 ow (nI sk) mm x ∧ (u.1, u.2) = bgL (tr, tn) (comesB 0 ow) ∧ u.2 ≤ 30) := by
  refine fx_iW rfl rfl ?_
  intro p e s m args below meth c A ls Q X hE hP hD hR hA hl hret
  have hx := X.1
  have hb := X.2.1
  have hS : va_S A s.heap s.heap [] := va_S.rf
  replace hP : va_P E.1 clA [(ad 30, .inr (6, [.ref (ad 0), .ref (ad 1), .int im, .ref (ad 3), .int at_, .int op, .int st_, .int us, .ref (ad 8), .ref (ad 9), .ref (ad 10), .ref (ad 11), .ref (ad 12), .ref (ad 13), .ref (ad 14), .int bn, .int bm, .ref (ad 17), .int la, .int fo, .int fi, .int lp, .ref (ad 22), .int (nI tn), .int (nI sk), .int ip, .ref (ad 26), .ref (ad 27), .ref (ad 28), .ref (ad 29)])), (ad 22, .inl (E.2 0, 30, .inl tr))] _ := hP
  replace hD : va_D A [(ad 30, .inr (6, [.ref (ad 0), .ref (ad 1), .int im, .ref (ad 3), .int at_, .int op, .int st_, .int us, .ref (ad 8), .ref (ad 9), .ref (ad 10), .ref (ad 11), .ref (ad 12), .ref (ad 13), .ref (ad 14), .int bn, .int bm, .ref (ad 17), .int la, .int fo, .int fi, .int lp, .ref (ad 22), .int (nI tn), .int (nI sk), .int ip, .ref (ad 26), .ref (ad 27), .ref (ad 28), .ref (ad 29)])), (ad 22, .inl (E.2 0, 30, .inl tr))] := hD
  replace hl : lv_has ls 3 [(0, .ref (ad 30)), (1, .int 0), (2, .int x)] := hl
  refine lv_iload_n hx hb dX6_comesAs_0 rfl (lv_at hl 1 rfl) ?_
  refine lv_tableIn (tgt := 44) (off := 43) hx hb dX6_comesAs_1 (by decide) (by decide) rfl (by decide) ?_
  refine lv_aload_n hx hb dX6_comesAs_44 rfl (lv_at hl 0 rfl) ?_
  refine lv_bipush (v := 11) hx hb dX6_comesAs_45 rfl ?_
  refine fx_cv (va_runV (As := [.int 11]) (rest := []) X (mX6_begins l E ad im at_ op st_ us bn bm la fo fi lp ip tn sk tr 11 (by first | assumption | omega) _) (cwV 1 X.2.2.2.2 (lw_V q1521 q1523 qs64 q75 q1524) rfl rfl rfl ⟨rfl, hdX6_begins⟩ ⟨Nat.le_of_ble_eq_true rfl, Nat.le_of_ble_eq_true rfl⟩) (fx_preV (fx_pre hE hP hD hS hR [0, 1] rfl rfl fx_rc0) (va_recv hE.1 hP (ci := 6) (q0 := 0) rfl rfl)) rfl rfl hl.1 rfl (lv_room (Nat.le_of_ble_eq_true rfl)) dX6_comesAs_47 ⟨Nat.le_refl _, Nat.le_refl _⟩) hP hD hS hA [0, 1] rfl rfl (fun u H locs hq_47 hP hD hS => ?_)
  obtain ⟨tr2_47, tn2_47⟩ := u
  replace hP : va_P E.1 clA [(ad 30, .inr (6, [.ref (ad 0), .ref (ad 1), .int im, .ref (ad 3), .int at_, .int op, .int st_, .int us, .ref (ad 8), .ref (ad 9), .ref (ad 10), .ref (ad 11), .ref (ad 12), .ref (ad 13), .ref (ad 14), .int bn, .int bm, .ref (ad 17), .int la, .int fo, .int fi, .int lp, .ref (ad 22), .int (nI tn2_47), .int (nI sk), .int ip, .ref (ad 26), .ref (ad 27), .ref (ad 28), .ref (ad 29)])), (ad 22, .inl (E.2 0, 30, .inl tr2_47))] _ := hP
  replace hD : va_D A [(ad 30, .inr (6, [.ref (ad 0), .ref (ad 1), .int im, .ref (ad 3), .int at_, .int op, .int st_, .int us, .ref (ad 8), .ref (ad 9), .ref (ad 10), .ref (ad 11), .ref (ad 12), .ref (ad 13), .ref (ad 14), .int bn, .int bm, .ref (ad 17), .int la, .int fo, .int fi, .int lp, .ref (ad 22), .int (nI tn2_47), .int (nI sk), .int ip, .ref (ad 26), .ref (ad 27), .ref (ad 28), .ref (ad 29)])), (ad 22, .inl (E.2 0, 30, .inl tr2_47))] := hD
  replace hq_47 : (tr2_47, tn2_47) = bg (tr, tn) 11 ∧ tn2_47 ≤ 30 := hq_47
  refine lv_aload_n hx hb dX6_comesAs_50 rfl (lv_at hl 0 rfl) ?_
  refine lv_aload_n hx hb dX6_comesAs_51 rfl (lv_at hl 0 rfl) ?_
  refine lv_aload_n hx hb dX6_comesAs_52 rfl (lv_at hl 0 rfl) ?_
  refine fx_get X hE hP 0 rfl rfl 24 rfl q1192 rfl rfl dX6_comesAs_53 ?_
  refine fx_ci (va_runV (As := [.int (nI sk)]) (rest := [.ref (ad 30)]) X (mX6_kindOf l E ad im at_ op st_ us bn bm la fo fi lp (nI tn2_47) (nI sk) ip sa sk hsk _) (cwV 1 X.2.2.2.2 (lw_V q1360 q1362 qs47 q75 q1363) rfl rfl rfl ⟨rfl, hdX6_kindOf⟩ ⟨Nat.le_of_ble_eq_true rfl, Nat.le_of_ble_eq_true rfl⟩) (fx_preV (fx_pre hE hP hD hS hR [] rfl rfl (fx_rcm 0 rfl (by decide) (fx_rcr 0 rfl fx_rc0))) (va_recv hE.1 hP (ci := 6) (q0 := 0) rfl rfl)) rfl rfl hl.1 rfl (lv_room (Nat.le_of_ble_eq_true rfl)) dX6_comesAs_56 ⟨Nat.le_refl _, Nat.le_refl _⟩) hP hD hS hA [] rfl rfl (fun r_56 u H locs hq_56 hP hD hS => ?_)
  replace hP : va_P E.1 clA [(ad 30, .inr (6, [.ref (ad 0), .ref (ad 1), .int im, .ref (ad 3), .int at_, .int op, .int st_, .int us, .ref (ad 8), .ref (ad 9), .ref (ad 10), .ref (ad 11), .ref (ad 12), .ref (ad 13), .ref (ad 14), .int bn, .int bm, .ref (ad 17), .int la, .int fo, .int fi, .int lp, .ref (ad 22), .int (nI tn2_47), .int (nI sk), .int ip, .ref (ad 26), .ref (ad 27), .ref (ad 28), .ref (ad 29)])), (ad 22, .inl (E.2 0, 30, .inl tr2_47))] _ := hP
  replace hD : va_D A [(ad 30, .inr (6, [.ref (ad 0), .ref (ad 1), .int im, .ref (ad 3), .int at_, .int op, .int st_, .int us, .ref (ad 8), .ref (ad 9), .ref (ad 10), .ref (ad 11), .ref (ad 12), .ref (ad 13), .ref (ad 14), .int bn, .int bm, .ref (ad 17), .int la, .int fo, .int fi, .int lp, .ref (ad 22), .int (nI tn2_47), .int (nI sk), .int ip, .ref (ad 26), .ref (ad 27), .ref (ad 28), .ref (ad 29)])), (ad 22, .inl (E.2 0, 30, .inl tr2_47))] := hD
  replace hq_56 : r_56 = sa (32 + 2 * sk) := hq_56
  refine fx_ti (show r_56 = nI ow from hq_56.trans hkd) ?_
  rcases kd7 hkd2 with rfl | rfl | rfl | rfl | rfl | rfl | rfl
  ·
    refine fx_ti (show nI 0 = 0 from rfl) ?_
    refine lv_iload_n hx hb dX6_comesAs_59 rfl (lv_at hl 2 rfl) ?_
    refine fx_ci (va_runV (As := [.int 0, .int x]) (rest := []) X (mX6_addsAs0 l E ad im at_ op st_ us bn bm la fo fi lp ip tn2_47 sk tr2_47 x (by first | assumption | omega) _) (cwV 2 X.2.2.2.2 (lw_V q1517 q1519 qs63 q75 q1520) rfl rfl rfl ⟨rfl, hdX6_addsAs⟩ ⟨Nat.le_of_ble_eq_true rfl, Nat.le_of_ble_eq_true rfl⟩) (fx_preV (fx_pre hE hP hD hS hR [0, 1] rfl rfl fx_rc0) (va_recv hE.1 hP (ci := 6) (q0 := 0) rfl rfl)) rfl rfl hl.1 rfl (lv_room (Nat.le_of_ble_eq_true rfl)) dX6_comesAs_60 ⟨Nat.le_refl _, Nat.le_refl _⟩) hP hD hS hA [0, 1] rfl rfl (fun r_60 u H locs hq_60 hP hD hS => ?_)
    obtain ⟨tr2_60, tn2_60⟩ := u
    replace hP : va_P E.1 clA [(ad 30, .inr (6, [.ref (ad 0), .ref (ad 1), .int im, .ref (ad 3), .int at_, .int op, .int st_, .int us, .ref (ad 8), .ref (ad 9), .ref (ad 10), .ref (ad 11), .ref (ad 12), .ref (ad 13), .ref (ad 14), .int bn, .int bm, .ref (ad 17), .int la, .int fo, .int fi, .int lp, .ref (ad 22), .int (nI tn2_60), .int (nI sk), .int ip, .ref (ad 26), .ref (ad 27), .ref (ad 28), .ref (ad 29)])), (ad 22, .inl (E.2 0, 30, .inl tr2_60))] _ := hP
    replace hD : va_D A [(ad 30, .inr (6, [.ref (ad 0), .ref (ad 1), .int im, .ref (ad 3), .int at_, .int op, .int st_, .int us, .ref (ad 8), .ref (ad 9), .ref (ad 10), .ref (ad 11), .ref (ad 12), .ref (ad 13), .ref (ad 14), .int bn, .int bm, .ref (ad 17), .int la, .int fo, .int fi, .int lp, .ref (ad 22), .int (nI tn2_60), .int (nI sk), .int ip, .ref (ad 26), .ref (ad 27), .ref (ad 28), .ref (ad 29)])), (ad 22, .inl (E.2 0, 30, .inl tr2_60))] := hD
    replace hq_60 : r_60 = addsV 0 (nI sk) x ∧ (tr2_60, tn2_60) = bgL (tr2_47, tn2_47) (addsB 0) ∧ tn2_60 ≤ 30 := hq_60
    refine lv_iconst (v := 2) hx hb dX6_comesAs_63 rfl ?_
    refine lv_imul hx hb dX6_comesAs_64 ?_
    exact hret (r_60 * 2) (tr2_60, tn2_60) (⟨by rw [hq_60.1]; rfl, by rw [hq_60.2.1, hq_47.1]; rfl, hq_60.2.2⟩) (rfl) hP hD hS (Nat.le_refl _) (Nat.le_refl _) dX6_comesAs_65
  ·
    refine fx_ti (show nI 1 = 1 from rfl) ?_
    refine lv_iload_n hx hb dX6_comesAs_59 rfl (lv_at hl 2 rfl) ?_
    refine fx_ci (va_runV (As := [.int 1, .int x]) (rest := []) X (mX6_addsAs1 l E ad im at_ op st_ us bn bm la fo fi lp ip tn2_47 sk tr2_47 x (by first | assumption | omega) _) (cwV 2 X.2.2.2.2 (lw_V q1517 q1519 qs63 q75 q1520) rfl rfl rfl ⟨rfl, hdX6_addsAs⟩ ⟨Nat.le_of_ble_eq_true rfl, Nat.le_of_ble_eq_true rfl⟩) (fx_preV (fx_pre hE hP hD hS hR [0, 1] rfl rfl fx_rc0) (va_recv hE.1 hP (ci := 6) (q0 := 0) rfl rfl)) rfl rfl hl.1 rfl (lv_room (Nat.le_of_ble_eq_true rfl)) dX6_comesAs_60 ⟨Nat.le_refl _, Nat.le_refl _⟩) hP hD hS hA [0, 1] rfl rfl (fun r_60 u H locs hq_60 hP hD hS => ?_)
    obtain ⟨tr2_60, tn2_60⟩ := u
    replace hP : va_P E.1 clA [(ad 30, .inr (6, [.ref (ad 0), .ref (ad 1), .int im, .ref (ad 3), .int at_, .int op, .int st_, .int us, .ref (ad 8), .ref (ad 9), .ref (ad 10), .ref (ad 11), .ref (ad 12), .ref (ad 13), .ref (ad 14), .int bn, .int bm, .ref (ad 17), .int la, .int fo, .int fi, .int lp, .ref (ad 22), .int (nI tn2_60), .int (nI sk), .int ip, .ref (ad 26), .ref (ad 27), .ref (ad 28), .ref (ad 29)])), (ad 22, .inl (E.2 0, 30, .inl tr2_60))] _ := hP
    replace hD : va_D A [(ad 30, .inr (6, [.ref (ad 0), .ref (ad 1), .int im, .ref (ad 3), .int at_, .int op, .int st_, .int us, .ref (ad 8), .ref (ad 9), .ref (ad 10), .ref (ad 11), .ref (ad 12), .ref (ad 13), .ref (ad 14), .int bn, .int bm, .ref (ad 17), .int la, .int fo, .int fi, .int lp, .ref (ad 22), .int (nI tn2_60), .int (nI sk), .int ip, .ref (ad 26), .ref (ad 27), .ref (ad 28), .ref (ad 29)])), (ad 22, .inl (E.2 0, 30, .inl tr2_60))] := hD
    replace hq_60 : r_60 = addsV 1 (nI sk) x ∧ (tr2_60, tn2_60) = bgL (tr2_47, tn2_47) (addsB 1) ∧ tn2_60 ≤ 30 := hq_60
    refine lv_iconst (v := 2) hx hb dX6_comesAs_63 rfl ?_
    refine lv_imul hx hb dX6_comesAs_64 ?_
    exact hret (r_60 * 2) (tr2_60, tn2_60) (⟨by rw [hq_60.1]; rfl, by rw [hq_60.2.1, hq_47.1]; rfl, hq_60.2.2⟩) (rfl) hP hD hS (Nat.le_refl _) (Nat.le_refl _) dX6_comesAs_65
  ·
    refine fx_ti (show nI 2 = 2 from rfl) ?_
    refine lv_iload_n hx hb dX6_comesAs_59 rfl (lv_at hl 2 rfl) ?_
    refine fx_ci (va_runV (As := [.int 2, .int x]) (rest := []) X (mX6_addsAs2 l E ad im at_ op st_ us bn bm la fo fi lp ip tn2_47 sk tr2_47 x (by first | assumption | omega) _) (cwV 2 X.2.2.2.2 (lw_V q1517 q1519 qs63 q75 q1520) rfl rfl rfl ⟨rfl, hdX6_addsAs⟩ ⟨Nat.le_of_ble_eq_true rfl, Nat.le_of_ble_eq_true rfl⟩) (fx_preV (fx_pre hE hP hD hS hR [0, 1] rfl rfl fx_rc0) (va_recv hE.1 hP (ci := 6) (q0 := 0) rfl rfl)) rfl rfl hl.1 rfl (lv_room (Nat.le_of_ble_eq_true rfl)) dX6_comesAs_60 ⟨Nat.le_refl _, Nat.le_refl _⟩) hP hD hS hA [0, 1] rfl rfl (fun r_60 u H locs hq_60 hP hD hS => ?_)
    obtain ⟨tr2_60, tn2_60⟩ := u
    replace hP : va_P E.1 clA [(ad 30, .inr (6, [.ref (ad 0), .ref (ad 1), .int im, .ref (ad 3), .int at_, .int op, .int st_, .int us, .ref (ad 8), .ref (ad 9), .ref (ad 10), .ref (ad 11), .ref (ad 12), .ref (ad 13), .ref (ad 14), .int bn, .int bm, .ref (ad 17), .int la, .int fo, .int fi, .int lp, .ref (ad 22), .int (nI tn2_60), .int (nI sk), .int ip, .ref (ad 26), .ref (ad 27), .ref (ad 28), .ref (ad 29)])), (ad 22, .inl (E.2 0, 30, .inl tr2_60))] _ := hP
    replace hD : va_D A [(ad 30, .inr (6, [.ref (ad 0), .ref (ad 1), .int im, .ref (ad 3), .int at_, .int op, .int st_, .int us, .ref (ad 8), .ref (ad 9), .ref (ad 10), .ref (ad 11), .ref (ad 12), .ref (ad 13), .ref (ad 14), .int bn, .int bm, .ref (ad 17), .int la, .int fo, .int fi, .int lp, .ref (ad 22), .int (nI tn2_60), .int (nI sk), .int ip, .ref (ad 26), .ref (ad 27), .ref (ad 28), .ref (ad 29)])), (ad 22, .inl (E.2 0, 30, .inl tr2_60))] := hD
    replace hq_60 : r_60 = addsV 2 (nI sk) x ∧ (tr2_60, tn2_60) = bgL (tr2_47, tn2_47) (addsB 2) ∧ tn2_60 ≤ 30 := hq_60
    refine lv_iconst (v := 2) hx hb dX6_comesAs_63 rfl ?_
    refine lv_imul hx hb dX6_comesAs_64 ?_
    exact hret (r_60 * 2) (tr2_60, tn2_60) (⟨by rw [hq_60.1]; rfl, by rw [hq_60.2.1, hq_47.1]; rfl, hq_60.2.2⟩) (rfl) hP hD hS (Nat.le_refl _) (Nat.le_refl _) dX6_comesAs_65
  ·
    refine fx_ti (show nI 3 = 3 from rfl) ?_
    refine lv_iload_n hx hb dX6_comesAs_59 rfl (lv_at hl 2 rfl) ?_
    refine fx_ci (va_runV (As := [.int 3, .int x]) (rest := []) X (mX6_addsAs3 l E ad im at_ op st_ us bn bm la fo fi lp ip tn2_47 sk tr2_47 x (by first | assumption | omega) _) (cwV 2 X.2.2.2.2 (lw_V q1517 q1519 qs63 q75 q1520) rfl rfl rfl ⟨rfl, hdX6_addsAs⟩ ⟨Nat.le_of_ble_eq_true rfl, Nat.le_of_ble_eq_true rfl⟩) (fx_preV (fx_pre hE hP hD hS hR [0, 1] rfl rfl fx_rc0) (va_recv hE.1 hP (ci := 6) (q0 := 0) rfl rfl)) rfl rfl hl.1 rfl (lv_room (Nat.le_of_ble_eq_true rfl)) dX6_comesAs_60 ⟨Nat.le_refl _, Nat.le_refl _⟩) hP hD hS hA [0, 1] rfl rfl (fun r_60 u H locs hq_60 hP hD hS => ?_)
    obtain ⟨tr2_60, tn2_60⟩ := u
    replace hP : va_P E.1 clA [(ad 30, .inr (6, [.ref (ad 0), .ref (ad 1), .int im, .ref (ad 3), .int at_, .int op, .int st_, .int us, .ref (ad 8), .ref (ad 9), .ref (ad 10), .ref (ad 11), .ref (ad 12), .ref (ad 13), .ref (ad 14), .int bn, .int bm, .ref (ad 17), .int la, .int fo, .int fi, .int lp, .ref (ad 22), .int (nI tn2_60), .int (nI sk), .int ip, .ref (ad 26), .ref (ad 27), .ref (ad 28), .ref (ad 29)])), (ad 22, .inl (E.2 0, 30, .inl tr2_60))] _ := hP
    replace hD : va_D A [(ad 30, .inr (6, [.ref (ad 0), .ref (ad 1), .int im, .ref (ad 3), .int at_, .int op, .int st_, .int us, .ref (ad 8), .ref (ad 9), .ref (ad 10), .ref (ad 11), .ref (ad 12), .ref (ad 13), .ref (ad 14), .int bn, .int bm, .ref (ad 17), .int la, .int fo, .int fi, .int lp, .ref (ad 22), .int (nI tn2_60), .int (nI sk), .int ip, .ref (ad 26), .ref (ad 27), .ref (ad 28), .ref (ad 29)])), (ad 22, .inl (E.2 0, 30, .inl tr2_60))] := hD
    replace hq_60 : r_60 = addsV 3 (nI sk) x ∧ (tr2_60, tn2_60) = bgL (tr2_47, tn2_47) (addsB 3) ∧ tn2_60 ≤ 30 := hq_60
    refine lv_iconst (v := 2) hx hb dX6_comesAs_63 rfl ?_
    refine lv_imul hx hb dX6_comesAs_64 ?_
    exact hret (r_60 * 2) (tr2_60, tn2_60) (⟨by rw [hq_60.1]; rfl, by rw [hq_60.2.1, hq_47.1]; rfl, hq_60.2.2⟩) (rfl) hP hD hS (Nat.le_refl _) (Nat.le_refl _) dX6_comesAs_65
  ·
    refine fx_ti (show nI 4 = 4 from rfl) ?_
    refine lv_iload_n hx hb dX6_comesAs_59 rfl (lv_at hl 2 rfl) ?_
    refine fx_ci (va_runV (As := [.int 4, .int x]) (rest := []) X (mX6_addsAs4 l E ad im at_ op st_ us bn bm la fo fi lp ip tn2_47 sk tr2_47 x (by first | assumption | omega) _) (cwV 2 X.2.2.2.2 (lw_V q1517 q1519 qs63 q75 q1520) rfl rfl rfl ⟨rfl, hdX6_addsAs⟩ ⟨Nat.le_of_ble_eq_true rfl, Nat.le_of_ble_eq_true rfl⟩) (fx_preV (fx_pre hE hP hD hS hR [0, 1] rfl rfl fx_rc0) (va_recv hE.1 hP (ci := 6) (q0 := 0) rfl rfl)) rfl rfl hl.1 rfl (lv_room (Nat.le_of_ble_eq_true rfl)) dX6_comesAs_60 ⟨Nat.le_refl _, Nat.le_refl _⟩) hP hD hS hA [0, 1] rfl rfl (fun r_60 u H locs hq_60 hP hD hS => ?_)
    obtain ⟨tr2_60, tn2_60⟩ := u
    replace hP : va_P E.1 clA [(ad 30, .inr (6, [.ref (ad 0), .ref (ad 1), .int im, .ref (ad 3), .int at_, .int op, .int st_, .int us, .ref (ad 8), .ref (ad 9), .ref (ad 10), .ref (ad 11), .ref (ad 12), .ref (ad 13), .ref (ad 14), .int bn, .int bm, .ref (ad 17), .int la, .int fo, .int fi, .int lp, .ref (ad 22), .int (nI tn2_60), .int (nI sk), .int ip, .ref (ad 26), .ref (ad 27), .ref (ad 28), .ref (ad 29)])), (ad 22, .inl (E.2 0, 30, .inl tr2_60))] _ := hP
    replace hD : va_D A [(ad 30, .inr (6, [.ref (ad 0), .ref (ad 1), .int im, .ref (ad 3), .int at_, .int op, .int st_, .int us, .ref (ad 8), .ref (ad 9), .ref (ad 10), .ref (ad 11), .ref (ad 12), .ref (ad 13), .ref (ad 14), .int bn, .int bm, .ref (ad 17), .int la, .int fo, .int fi, .int lp, .ref (ad 22), .int (nI tn2_60), .int (nI sk), .int ip, .ref (ad 26), .ref (ad 27), .ref (ad 28), .ref (ad 29)])), (ad 22, .inl (E.2 0, 30, .inl tr2_60))] := hD
    replace hq_60 : r_60 = addsV 4 (nI sk) x ∧ (tr2_60, tn2_60) = bgL (tr2_47, tn2_47) (addsB 4) ∧ tn2_60 ≤ 30 := hq_60
    refine lv_iconst (v := 2) hx hb dX6_comesAs_63 rfl ?_
    refine lv_imul hx hb dX6_comesAs_64 ?_
    exact hret (r_60 * 2) (tr2_60, tn2_60) (⟨by rw [hq_60.1]; rfl, by rw [hq_60.2.1, hq_47.1]; rfl, hq_60.2.2⟩) (rfl) hP hD hS (Nat.le_refl _) (Nat.le_refl _) dX6_comesAs_65
  ·
    refine fx_ti (show nI 5 = 5 from rfl) ?_
    refine lv_iload_n hx hb dX6_comesAs_59 rfl (lv_at hl 2 rfl) ?_
    refine fx_ci (va_runV (As := [.int 5, .int x]) (rest := []) X (mX6_addsAs5 l E ad im at_ op st_ us bn bm la fo fi lp ip tn2_47 sk tr2_47 x (by first | assumption | omega) _) (cwV 2 X.2.2.2.2 (lw_V q1517 q1519 qs63 q75 q1520) rfl rfl rfl ⟨rfl, hdX6_addsAs⟩ ⟨Nat.le_of_ble_eq_true rfl, Nat.le_of_ble_eq_true rfl⟩) (fx_preV (fx_pre hE hP hD hS hR [0, 1] rfl rfl fx_rc0) (va_recv hE.1 hP (ci := 6) (q0 := 0) rfl rfl)) rfl rfl hl.1 rfl (lv_room (Nat.le_of_ble_eq_true rfl)) dX6_comesAs_60 ⟨Nat.le_refl _, Nat.le_refl _⟩) hP hD hS hA [0, 1] rfl rfl (fun r_60 u H locs hq_60 hP hD hS => ?_)
    obtain ⟨tr2_60, tn2_60⟩ := u
    replace hP : va_P E.1 clA [(ad 30, .inr (6, [.ref (ad 0), .ref (ad 1), .int im, .ref (ad 3), .int at_, .int op, .int st_, .int us, .ref (ad 8), .ref (ad 9), .ref (ad 10), .ref (ad 11), .ref (ad 12), .ref (ad 13), .ref (ad 14), .int bn, .int bm, .ref (ad 17), .int la, .int fo, .int fi, .int lp, .ref (ad 22), .int (nI tn2_60), .int (nI sk), .int ip, .ref (ad 26), .ref (ad 27), .ref (ad 28), .ref (ad 29)])), (ad 22, .inl (E.2 0, 30, .inl tr2_60))] _ := hP
    replace hD : va_D A [(ad 30, .inr (6, [.ref (ad 0), .ref (ad 1), .int im, .ref (ad 3), .int at_, .int op, .int st_, .int us, .ref (ad 8), .ref (ad 9), .ref (ad 10), .ref (ad 11), .ref (ad 12), .ref (ad 13), .ref (ad 14), .int bn, .int bm, .ref (ad 17), .int la, .int fo, .int fi, .int lp, .ref (ad 22), .int (nI tn2_60), .int (nI sk), .int ip, .ref (ad 26), .ref (ad 27), .ref (ad 28), .ref (ad 29)])), (ad 22, .inl (E.2 0, 30, .inl tr2_60))] := hD
    replace hq_60 : r_60 = addsV 5 (nI sk) x ∧ (tr2_60, tn2_60) = bgL (tr2_47, tn2_47) (addsB 5) ∧ tn2_60 ≤ 30 := hq_60
    refine lv_iconst (v := 2) hx hb dX6_comesAs_63 rfl ?_
    refine lv_imul hx hb dX6_comesAs_64 ?_
    exact hret (r_60 * 2) (tr2_60, tn2_60) (⟨by rw [hq_60.1]; rfl, by rw [hq_60.2.1, hq_47.1]; rfl, hq_60.2.2⟩) (rfl) hP hD hS (Nat.le_refl _) (Nat.le_refl _) dX6_comesAs_65
  ·
    refine fx_ti (show nI 6 = 6 from rfl) ?_
    refine lv_iload_n hx hb dX6_comesAs_59 rfl (lv_at hl 2 rfl) ?_
    refine fx_ci (va_runV (As := [.int 6, .int x]) (rest := []) X (mX6_addsAs6 l E ad im at_ op st_ us bn bm la fo fi lp ip tn2_47 sk tr2_47 x (by first | assumption | omega) _) (cwV 2 X.2.2.2.2 (lw_V q1517 q1519 qs63 q75 q1520) rfl rfl rfl ⟨rfl, hdX6_addsAs⟩ ⟨Nat.le_of_ble_eq_true rfl, Nat.le_of_ble_eq_true rfl⟩) (fx_preV (fx_pre hE hP hD hS hR [0, 1] rfl rfl fx_rc0) (va_recv hE.1 hP (ci := 6) (q0 := 0) rfl rfl)) rfl rfl hl.1 rfl (lv_room (Nat.le_of_ble_eq_true rfl)) dX6_comesAs_60 ⟨Nat.le_refl _, Nat.le_refl _⟩) hP hD hS hA [0, 1] rfl rfl (fun r_60 u H locs hq_60 hP hD hS => ?_)
    obtain ⟨tr2_60, tn2_60⟩ := u
    replace hP : va_P E.1 clA [(ad 30, .inr (6, [.ref (ad 0), .ref (ad 1), .int im, .ref (ad 3), .int at_, .int op, .int st_, .int us, .ref (ad 8), .ref (ad 9), .ref (ad 10), .ref (ad 11), .ref (ad 12), .ref (ad 13), .ref (ad 14), .int bn, .int bm, .ref (ad 17), .int la, .int fo, .int fi, .int lp, .ref (ad 22), .int (nI tn2_60), .int (nI sk), .int ip, .ref (ad 26), .ref (ad 27), .ref (ad 28), .ref (ad 29)])), (ad 22, .inl (E.2 0, 30, .inl tr2_60))] _ := hP
    replace hD : va_D A [(ad 30, .inr (6, [.ref (ad 0), .ref (ad 1), .int im, .ref (ad 3), .int at_, .int op, .int st_, .int us, .ref (ad 8), .ref (ad 9), .ref (ad 10), .ref (ad 11), .ref (ad 12), .ref (ad 13), .ref (ad 14), .int bn, .int bm, .ref (ad 17), .int la, .int fo, .int fi, .int lp, .ref (ad 22), .int (nI tn2_60), .int (nI sk), .int ip, .ref (ad 26), .ref (ad 27), .ref (ad 28), .ref (ad 29)])), (ad 22, .inl (E.2 0, 30, .inl tr2_60))] := hD
    replace hq_60 : r_60 = addsV 6 (nI sk) x ∧ (tr2_60, tn2_60) = bgL (tr2_47, tn2_47) (addsB 6) ∧ tn2_60 ≤ 30 := hq_60
    refine lv_iconst (v := 2) hx hb dX6_comesAs_63 rfl ?_
    refine lv_imul hx hb dX6_comesAs_64 ?_
    exact hret (r_60 * 2) (tr2_60, tn2_60) (⟨by rw [hq_60.1]; rfl, by rw [hq_60.2.1, hq_47.1]; rfl, hq_60.2.2⟩) (rfl) hP hD hS (Nat.le_refl _) (Nat.le_refl _) dX6_comesAs_65
abbrev rmX6_comesAs1 : Room := { frames := 5, cells := 0, slots := 0, locals := 109 }
set_option maxHeartbeats 400000 in
set_option maxRecDepth 100000 in
theorem mX6_comesAs1 (l : Launch) (E : fx_En) (ad : Nat → Nat) (im : Int32) (at_ : Int32) (op : Int32) (st_ : Int32) (us : Int32) (bn : Int32) (bm : Int32) (la : Int32) (fo : Int32) (fi : Int32) (lp : Int32) (ip : Int32) (tn : Nat) (sk : Nat) (sa : Nat → Int32) (tr : Nat → Int32) (ow : Nat) (mm : Int32) (x : Int32) (htn : tn ≤ 30) (hsk : sk < 4) (hkd : sa (32 + 2 * sk) = nI ow) (hkd2 : ow ≤ 6) (hm : sa (32 + 2 * sk + 1) = mm) : fx_Mi l yX6_comesAs cX6_comesAs 3 .int rmX6_comesAs1 E [.ref (ad 30), .int 1, .int x] [(ad 30, .inr (6, [.ref (ad 0), .ref (ad 1), .int im, .ref (ad 3), .int at_, .int op, .int st_, .int us, .ref (ad 8), .ref (ad 9), .ref (ad 10), .ref (ad 11), .ref (ad 12), .ref (ad 13), .ref (ad 14), .int bn, .int bm, .ref (ad 17), .int la, .int fo, .int fi, .int lp, .ref (ad 22), .int (nI tn), .int (nI sk), .int ip, .ref (ad 26), .ref (ad 27), .ref (ad 28), .ref (ad 29)])), (ad 22, .inl (E.2 0, 30, .inl tr))] [(ad 0, .inl (E.2 0, 374, .inl sa))] (S := (Nat → Int32) × Nat) (fun (u : (Nat → Int32) × Nat) => [(ad 30, .inr (6, [.ref (ad 0), .ref (ad 1), .int im, .ref (ad 3), .int at_, .int op, .int st_, .int us, .ref (ad 8), .ref (ad 9), .ref (ad 10), .ref (ad 11), .ref (ad 12), .ref (ad 13), .ref (ad 14), .int bn, .int bm, .ref (ad 17), .int la, .int fo, .int fi, .int lp, .ref (ad 22), .int (nI u.2), .int (nI sk), .int ip, .ref (ad 26), .ref (ad 27), .ref (ad 28), .ref (ad 29)])), (ad 22, .inl (E.2 0, 30, .inl u.1))]) (fun (r : Int32) (u : (Nat → Int32) × Nat) => r = comesV 1 ow (nI sk) mm x ∧ (u.1, u.2) = bgL (tr, tn) (comesB 1 ow) ∧ u.2 ≤ 30) := by
  refine fx_iW rfl rfl ?_
  intro p e s m args below meth c A ls Q X hE hP hD hR hA hl hret
  have hx := X.1
  have hb := X.2.1
  have hS : va_S A s.heap s.heap [] := va_S.rf
  replace hP : va_P E.1 clA [(ad 30, .inr (6, [.ref (ad 0), .ref (ad 1), .int im, .ref (ad 3), .int at_, .int op, .int st_, .int us, .ref (ad 8), .ref (ad 9), .ref (ad 10), .ref (ad 11), .ref (ad 12), .ref (ad 13), .ref (ad 14), .int bn, .int bm, .ref (ad 17), .int la, .int fo, .int fi, .int lp, .ref (ad 22), .int (nI tn), .int (nI sk), .int ip, .ref (ad 26), .ref (ad 27), .ref (ad 28), .ref (ad 29)])), (ad 22, .inl (E.2 0, 30, .inl tr))] _ := hP
  replace hD : va_D A [(ad 30, .inr (6, [.ref (ad 0), .ref (ad 1), .int im, .ref (ad 3), .int at_, .int op, .int st_, .int us, .ref (ad 8), .ref (ad 9), .ref (ad 10), .ref (ad 11), .ref (ad 12), .ref (ad 13), .ref (ad 14), .int bn, .int bm, .ref (ad 17), .int la, .int fo, .int fi, .int lp, .ref (ad 22), .int (nI tn), .int (nI sk), .int ip, .ref (ad 26), .ref (ad 27), .ref (ad 28), .ref (ad 29)])), (ad 22, .inl (E.2 0, 30, .inl tr))] := hD
  replace hl : lv_has ls 3 [(0, .ref (ad 30)), (1, .int 1), (2, .int x)] := hl
  refine lv_iload_n hx hb dX6_comesAs_0 rfl (lv_at hl 1 rfl) ?_
  refine lv_tableIn (tgt := 128) (off := 127) hx hb dX6_comesAs_1 (by decide) (by decide) rfl (by decide) ?_
  refine lv_aload_n hx hb dX6_comesAs_128 rfl (lv_at hl 0 rfl) ?_
  refine lv_iload_n hx hb dX6_comesAs_129 rfl (lv_at hl 1 rfl) ?_
  refine fx_ci (va_runS (As := [.int 1]) (rest := [.ref (ad 30)]) X (mX6_above l E 1 (by decide) _) (va_cwS 1 X.2.2.2.2 (lw_S q1525 q1526 q75 q1527) rfl rfl rfl hdX6_above ⟨Nat.le_of_ble_eq_true rfl, Nat.le_of_ble_eq_true rfl⟩) (fx_pre hE hP hD hS hR [] rfl rfl fx_rc0) rfl rfl hl.1 rfl (lv_room (Nat.le_of_ble_eq_true rfl)) dX6_comesAs_130 ⟨Nat.le_refl _, Nat.le_refl _⟩) hP hD hS hA [] rfl rfl (fun r_130 u H locs hq_130 hP hD hS => ?_)
  replace hP : va_P E.1 clA [(ad 30, .inr (6, [.ref (ad 0), .ref (ad 1), .int im, .ref (ad 3), .int at_, .int op, .int st_, .int us, .ref (ad 8), .ref (ad 9), .ref (ad 10), .ref (ad 11), .ref (ad 12), .ref (ad 13), .ref (ad 14), .int bn, .int bm, .ref (ad 17), .int la, .int fo, .int fi, .int lp, .ref (ad 22), .int (nI tn), .int (nI sk), .int ip, .ref (ad 26), .ref (ad 27), .ref (ad 28), .ref (ad 29)])), (ad 22, .inl (E.2 0, 30, .inl tr))] _ := hP
  replace hD : va_D A [(ad 30, .inr (6, [.ref (ad 0), .ref (ad 1), .int im, .ref (ad 3), .int at_, .int op, .int st_, .int us, .ref (ad 8), .ref (ad 9), .ref (ad 10), .ref (ad 11), .ref (ad 12), .ref (ad 13), .ref (ad 14), .int bn, .int bm, .ref (ad 17), .int la, .int fo, .int fi, .int lp, .ref (ad 22), .int (nI tn), .int (nI sk), .int ip, .ref (ad 26), .ref (ad 27), .ref (ad 28), .ref (ad 29)])), (ad 22, .inl (E.2 0, 30, .inl tr))] := hD
  replace hq_130 : r_130 = nI (abvK 1) := hq_130
  refine fx_ti (show r_130 = 0 from hq_130.trans (by decide)) ?_
  refine lv_iload_n hx hb dX6_comesAs_133 rfl (lv_at hl 2 rfl) ?_
  refine fx_ci (va_runV (As := [.int 0, .int x]) (rest := []) X (mX6_comesAs0 l E ad im at_ op st_ us bn bm la fo fi lp ip tn sk sa tr ow mm x (by first | assumption | omega) (by first | assumption | omega) (by first | assumption | omega) (by first | assumption | omega) (by first | assumption | omega) _) (cwV 2 X.2.2.2.2 (lw_V q1528 q1530 qs65 q75 q1531) rfl rfl rfl ⟨rfl, hdX6_comesAs⟩ ⟨Nat.le_of_ble_eq_true rfl, Nat.le_of_ble_eq_true rfl⟩) (fx_preV (fx_pre hE hP hD hS hR [0, 1] rfl rfl (fx_rcr 0 rfl fx_rc0)) (va_recv hE.1 hP (ci := 6) (q0 := 0) rfl rfl)) rfl rfl hl.1 rfl (lv_room (Nat.le_of_ble_eq_true rfl)) dX6_comesAs_134 ⟨Nat.le_refl _, Nat.le_refl _⟩) hP hD hS hA [0, 1] rfl rfl (fun r_134 u H locs hq_134 hP hD hS => ?_)
  obtain ⟨tr2_134, tn2_134⟩ := u
  replace hP : va_P E.1 clA [(ad 30, .inr (6, [.ref (ad 0), .ref (ad 1), .int im, .ref (ad 3), .int at_, .int op, .int st_, .int us, .ref (ad 8), .ref (ad 9), .ref (ad 10), .ref (ad 11), .ref (ad 12), .ref (ad 13), .ref (ad 14), .int bn, .int bm, .ref (ad 17), .int la, .int fo, .int fi, .int lp, .ref (ad 22), .int (nI tn2_134), .int (nI sk), .int ip, .ref (ad 26), .ref (ad 27), .ref (ad 28), .ref (ad 29)])), (ad 22, .inl (E.2 0, 30, .inl tr2_134))] _ := hP
  replace hD : va_D A [(ad 30, .inr (6, [.ref (ad 0), .ref (ad 1), .int im, .ref (ad 3), .int at_, .int op, .int st_, .int us, .ref (ad 8), .ref (ad 9), .ref (ad 10), .ref (ad 11), .ref (ad 12), .ref (ad 13), .ref (ad 14), .int bn, .int bm, .ref (ad 17), .int la, .int fo, .int fi, .int lp, .ref (ad 22), .int (nI tn2_134), .int (nI sk), .int ip, .ref (ad 26), .ref (ad 27), .ref (ad 28), .ref (ad 29)])), (ad 22, .inl (E.2 0, 30, .inl tr2_134))] := hD
  replace hq_134 : r_134 = comesV 0 ow (nI sk) mm x ∧ (tr2_134, tn2_134) = bgL (tr, tn) (comesB 0 ow) ∧ tn2_134 ≤ 30 := hq_134
  exact hret r_134 (tr2_134, tn2_134) (⟨by rw [hq_134.1]; rfl, by rw [hq_134.2.1]; rfl, hq_134.2.2⟩) (rfl) hP hD hS (Nat.le_refl _) (Nat.le_refl _) dX6_comesAs_137
abbrev rmX6_comesAs2 : Room := { frames := 5, cells := 0, slots := 0, locals := 109 }
set_option maxHeartbeats 400000 in
set_option maxRecDepth 100000 in
theorem mX6_comesAs2 (l : Launch) (E : fx_En) (ad : Nat → Nat) (im : Int32) (at_ : Int32) (op : Int32) (st_ : Int32) (us : Int32) (bn : Int32) (bm : Int32) (la : Int32) (fo : Int32) (fi : Int32) (lp : Int32) (ip : Int32) (tn : Nat) (sk : Nat) (sa : Nat → Int32) (tr : Nat → Int32) (ow : Nat) (mm : Int32) (x : Int32) (htn : tn ≤ 30) (hsk : sk < 4) (hkd : sa (32 + 2 * sk) = nI ow) (hkd2 : ow ≤ 6) (hm : sa (32 + 2 * sk + 1) = mm) : fx_Mi l yX6_comesAs cX6_comesAs 3 .int rmX6_comesAs2 E [.ref (ad 30), .int 2, .int x] [(ad 30, .inr (6, [.ref (ad 0), .ref (ad 1), .int im, .ref (ad 3), .int at_, .int op, .int st_, .int us, .ref (ad 8), .ref (ad 9), .ref (ad 10), .ref (ad 11), .ref (ad 12), .ref (ad 13), .ref (ad 14), .int bn, .int bm, .ref (ad 17), .int la, .int fo, .int fi, .int lp, .ref (ad 22), .int (nI tn), .int (nI sk), .int ip, .ref (ad 26), .ref (ad 27), .ref (ad 28), .ref (ad 29)])), (ad 22, .inl (E.2 0, 30, .inl tr))] [(ad 0, .inl (E.2 0, 374, .inl sa))] (S := (Nat → Int32) × Nat) (fun (u : (Nat → Int32) × Nat) => [(ad 30, .inr (6, [.ref (ad 0), .ref (ad 1), .int im, .ref (ad 3), .int at_, .int op, .int st_, .int us, .ref (ad 8), .ref (ad 9), .ref (ad 10), .ref (ad 11), .ref (ad 12), .ref (ad 13), .ref (ad 14), .int bn, .int bm, .ref (ad 17), .int la, .int fo, .int fi, .int lp, .ref (ad 22), .int (nI u.2), .int (nI sk), .int ip, .ref (ad 26), .ref (ad 27), .ref (ad 28), .ref (ad 29)])), (ad 22, .inl (E.2 0, 30, .inl u.1))]) (fun (r : Int32) (u : (Nat → Int32) × Nat) => r = comesV 2 ow (nI sk) mm x ∧ (u.1, u.2) = bgL (tr, tn) (comesB 2 ow) ∧ u.2 ≤ 30) := by
  refine fx_iW rfl rfl ?_
  intro p e s m args below meth c A ls Q X hE hP hD hR hA hl hret
  have hx := X.1
  have hb := X.2.1
  have hS : va_S A s.heap s.heap [] := va_S.rf
  replace hP : va_P E.1 clA [(ad 30, .inr (6, [.ref (ad 0), .ref (ad 1), .int im, .ref (ad 3), .int at_, .int op, .int st_, .int us, .ref (ad 8), .ref (ad 9), .ref (ad 10), .ref (ad 11), .ref (ad 12), .ref (ad 13), .ref (ad 14), .int bn, .int bm, .ref (ad 17), .int la, .int fo, .int fi, .int lp, .ref (ad 22), .int (nI tn), .int (nI sk), .int ip, .ref (ad 26), .ref (ad 27), .ref (ad 28), .ref (ad 29)])), (ad 22, .inl (E.2 0, 30, .inl tr))] _ := hP
  replace hD : va_D A [(ad 30, .inr (6, [.ref (ad 0), .ref (ad 1), .int im, .ref (ad 3), .int at_, .int op, .int st_, .int us, .ref (ad 8), .ref (ad 9), .ref (ad 10), .ref (ad 11), .ref (ad 12), .ref (ad 13), .ref (ad 14), .int bn, .int bm, .ref (ad 17), .int la, .int fo, .int fi, .int lp, .ref (ad 22), .int (nI tn), .int (nI sk), .int ip, .ref (ad 26), .ref (ad 27), .ref (ad 28), .ref (ad 29)])), (ad 22, .inl (E.2 0, 30, .inl tr))] := hD
  replace hl : lv_has ls 3 [(0, .ref (ad 30)), (1, .int 2), (2, .int x)] := hl
  refine lv_iload_n hx hb dX6_comesAs_0 rfl (lv_at hl 1 rfl) ?_
  refine lv_tableIn (tgt := 66) (off := 65) hx hb dX6_comesAs_1 (by decide) (by decide) rfl (by decide) ?_
  refine lv_aload_n hx hb dX6_comesAs_66 rfl (lv_at hl 0 rfl) ?_
  refine lv_bipush (v := 30) hx hb dX6_comesAs_67 rfl ?_
  refine fx_cv (va_runV (As := [.int 30]) (rest := []) X (mX6_begins l E ad im at_ op st_ us bn bm la fo fi lp ip tn sk tr 30 (by first | assumption | omega) _) (cwV 1 X.2.2.2.2 (lw_V q1521 q1523 qs64 q75 q1524) rfl rfl rfl ⟨rfl, hdX6_begins⟩ ⟨Nat.le_of_ble_eq_true rfl, Nat.le_of_ble_eq_true rfl⟩) (fx_preV (fx_pre hE hP hD hS hR [0, 1] rfl rfl fx_rc0) (va_recv hE.1 hP (ci := 6) (q0 := 0) rfl rfl)) rfl rfl hl.1 rfl (lv_room (Nat.le_of_ble_eq_true rfl)) dX6_comesAs_69 ⟨Nat.le_refl _, Nat.le_refl _⟩) hP hD hS hA [0, 1] rfl rfl (fun u H locs hq_69 hP hD hS => ?_)
  obtain ⟨tr2_69, tn2_69⟩ := u
  replace hP : va_P E.1 clA [(ad 30, .inr (6, [.ref (ad 0), .ref (ad 1), .int im, .ref (ad 3), .int at_, .int op, .int st_, .int us, .ref (ad 8), .ref (ad 9), .ref (ad 10), .ref (ad 11), .ref (ad 12), .ref (ad 13), .ref (ad 14), .int bn, .int bm, .ref (ad 17), .int la, .int fo, .int fi, .int lp, .ref (ad 22), .int (nI tn2_69), .int (nI sk), .int ip, .ref (ad 26), .ref (ad 27), .ref (ad 28), .ref (ad 29)])), (ad 22, .inl (E.2 0, 30, .inl tr2_69))] _ := hP
  replace hD : va_D A [(ad 30, .inr (6, [.ref (ad 0), .ref (ad 1), .int im, .ref (ad 3), .int at_, .int op, .int st_, .int us, .ref (ad 8), .ref (ad 9), .ref (ad 10), .ref (ad 11), .ref (ad 12), .ref (ad 13), .ref (ad 14), .int bn, .int bm, .ref (ad 17), .int la, .int fo, .int fi, .int lp, .ref (ad 22), .int (nI tn2_69), .int (nI sk), .int ip, .ref (ad 26), .ref (ad 27), .ref (ad 28), .ref (ad 29)])), (ad 22, .inl (E.2 0, 30, .inl tr2_69))] := hD
  replace hq_69 : (tr2_69, tn2_69) = bg (tr, tn) 30 ∧ tn2_69 ≤ 30 := hq_69
  refine lv_iconst (v := 0) hx hb dX6_comesAs_72 rfl ?_
  refine lv_aload_n hx hb dX6_comesAs_73 rfl (lv_at hl 0 rfl) ?_
  refine lv_iconst (v := 2) hx hb dX6_comesAs_74 rfl ?_
  refine fx_ci (va_runS (As := [.int 2]) (rest := [.ref (ad 30), .int 0]) X (mX6_above l E 2 (by decide) _) (va_cwS 1 X.2.2.2.2 (lw_S q1525 q1526 q75 q1527) rfl rfl rfl hdX6_above ⟨Nat.le_of_ble_eq_true rfl, Nat.le_of_ble_eq_true rfl⟩) (fx_pre hE hP hD hS hR [] rfl rfl fx_rc0) rfl rfl hl.1 rfl (lv_room (Nat.le_of_ble_eq_true rfl)) dX6_comesAs_75 ⟨Nat.le_refl _, Nat.le_refl _⟩) hP hD hS hA [] rfl rfl (fun r_75 u H locs hq_75 hP hD hS => ?_)
  replace hP : va_P E.1 clA [(ad 30, .inr (6, [.ref (ad 0), .ref (ad 1), .int im, .ref (ad 3), .int at_, .int op, .int st_, .int us, .ref (ad 8), .ref (ad 9), .ref (ad 10), .ref (ad 11), .ref (ad 12), .ref (ad 13), .ref (ad 14), .int bn, .int bm, .ref (ad 17), .int la, .int fo, .int fi, .int lp, .ref (ad 22), .int (nI tn2_69), .int (nI sk), .int ip, .ref (ad 26), .ref (ad 27), .ref (ad 28), .ref (ad 29)])), (ad 22, .inl (E.2 0, 30, .inl tr2_69))] _ := hP
  replace hD : va_D A [(ad 30, .inr (6, [.ref (ad 0), .ref (ad 1), .int im, .ref (ad 3), .int at_, .int op, .int st_, .int us, .ref (ad 8), .ref (ad 9), .ref (ad 10), .ref (ad 11), .ref (ad 12), .ref (ad 13), .ref (ad 14), .int bn, .int bm, .ref (ad 17), .int la, .int fo, .int fi, .int lp, .ref (ad 22), .int (nI tn2_69), .int (nI sk), .int ip, .ref (ad 26), .ref (ad 27), .ref (ad 28), .ref (ad 29)])), (ad 22, .inl (E.2 0, 30, .inl tr2_69))] := hD
  replace hq_75 : r_75 = nI (abvK 2) := hq_75
  refine fx_ti (show r_75 = 0 from hq_75.trans (by decide)) ?_
  refine lv_iload_n hx hb dX6_comesAs_78 rfl (lv_at hl 2 rfl) ?_
  refine fx_ci (va_runV (As := [.int 0, .int x]) (rest := [.int 0]) X (mX6_comesAs0 l E ad im at_ op st_ us bn bm la fo fi lp ip tn2_69 sk sa tr2_69 ow mm x (by first | assumption | omega) (by first | assumption | omega) (by first | assumption | omega) (by first | assumption | omega) (by first | assumption | omega) _) (cwV 2 X.2.2.2.2 (lw_V q1528 q1530 qs65 q75 q1531) rfl rfl rfl ⟨rfl, hdX6_comesAs⟩ ⟨Nat.le_of_ble_eq_true rfl, Nat.le_of_ble_eq_true rfl⟩) (fx_preV (fx_pre hE hP hD hS hR [0, 1] rfl rfl (fx_rcr 0 rfl fx_rc0)) (va_recv hE.1 hP (ci := 6) (q0 := 0) rfl rfl)) rfl rfl hl.1 rfl (lv_room (Nat.le_of_ble_eq_true rfl)) dX6_comesAs_79 ⟨Nat.le_refl _, Nat.le_refl _⟩) hP hD hS hA [0, 1] rfl rfl (fun r_79 u H locs hq_79 hP hD hS => ?_)
  obtain ⟨tr2_79, tn2_79⟩ := u
  replace hP : va_P E.1 clA [(ad 30, .inr (6, [.ref (ad 0), .ref (ad 1), .int im, .ref (ad 3), .int at_, .int op, .int st_, .int us, .ref (ad 8), .ref (ad 9), .ref (ad 10), .ref (ad 11), .ref (ad 12), .ref (ad 13), .ref (ad 14), .int bn, .int bm, .ref (ad 17), .int la, .int fo, .int fi, .int lp, .ref (ad 22), .int (nI tn2_79), .int (nI sk), .int ip, .ref (ad 26), .ref (ad 27), .ref (ad 28), .ref (ad 29)])), (ad 22, .inl (E.2 0, 30, .inl tr2_79))] _ := hP
  replace hD : va_D A [(ad 30, .inr (6, [.ref (ad 0), .ref (ad 1), .int im, .ref (ad 3), .int at_, .int op, .int st_, .int us, .ref (ad 8), .ref (ad 9), .ref (ad 10), .ref (ad 11), .ref (ad 12), .ref (ad 13), .ref (ad 14), .int bn, .int bm, .ref (ad 17), .int la, .int fo, .int fi, .int lp, .ref (ad 22), .int (nI tn2_79), .int (nI sk), .int ip, .ref (ad 26), .ref (ad 27), .ref (ad 28), .ref (ad 29)])), (ad 22, .inl (E.2 0, 30, .inl tr2_79))] := hD
  replace hq_79 : r_79 = comesV 0 ow (nI sk) mm x ∧ (tr2_79, tn2_79) = bgL (tr2_69, tn2_69) (comesB 0 ow) ∧ tn2_79 ≤ 30 := hq_79
  refine lv_isub hx hb dX6_comesAs_82 ?_
  exact hret (0 - r_79) (tr2_79, tn2_79) (⟨by rw [hq_79.1]; rfl, by rw [hq_79.2.1, hq_69.1]; rfl, hq_79.2.2⟩) (rfl) hP hD hS (Nat.le_refl _) (Nat.le_refl _) dX6_comesAs_83
abbrev rmX6_comesAs3 : Room := { frames := 5, cells := 0, slots := 0, locals := 109 }
set_option maxHeartbeats 400000 in
set_option maxRecDepth 100000 in
theorem mX6_comesAs3 (l : Launch) (E : fx_En) (ad : Nat → Nat) (im : Int32) (at_ : Int32) (op : Int32) (st_ : Int32) (us : Int32) (bn : Int32) (bm : Int32) (la : Int32) (fo : Int32) (fi : Int32) (lp : Int32) (ip : Int32) (tn : Nat) (sk : Nat) (sa : Nat → Int32) (tr : Nat → Int32) (ow : Nat) (mm : Int32) (x : Int32) (htn : tn ≤ 30) (hsk : sk < 4) (hkd : sa (32 + 2 * sk) = nI ow) (hkd2 : ow ≤ 6) (hm : sa (32 + 2 * sk + 1) = mm) : fx_Mi l yX6_comesAs cX6_comesAs 3 .int rmX6_comesAs3 E [.ref (ad 30), .int 3, .int x] [(ad 30, .inr (6, [.ref (ad 0), .ref (ad 1), .int im, .ref (ad 3), .int at_, .int op, .int st_, .int us, .ref (ad 8), .ref (ad 9), .ref (ad 10), .ref (ad 11), .ref (ad 12), .ref (ad 13), .ref (ad 14), .int bn, .int bm, .ref (ad 17), .int la, .int fo, .int fi, .int lp, .ref (ad 22), .int (nI tn), .int (nI sk), .int ip, .ref (ad 26), .ref (ad 27), .ref (ad 28), .ref (ad 29)])), (ad 22, .inl (E.2 0, 30, .inl tr))] [(ad 0, .inl (E.2 0, 374, .inl sa))] (S := (Nat → Int32) × Nat) (fun (u : (Nat → Int32) × Nat) => [(ad 30, .inr (6, [.ref (ad 0), .ref (ad 1), .int im, .ref (ad 3), .int at_, .int op, .int st_, .int us, .ref (ad 8), .ref (ad 9), .ref (ad 10), .ref (ad 11), .ref (ad 12), .ref (ad 13), .ref (ad 14), .int bn, .int bm, .ref (ad 17), .int la, .int fo, .int fi, .int lp, .ref (ad 22), .int (nI u.2), .int (nI sk), .int ip, .ref (ad 26), .ref (ad 27), .ref (ad 28), .ref (ad 29)])), (ad 22, .inl (E.2 0, 30, .inl u.1))]) (fun (r : Int32) (u : (Nat → Int32) × Nat) => r = comesV 3 ow (nI sk) mm x ∧ (u.1, u.2) = bgL (tr, tn) (comesB 3 ow) ∧ u.2 ≤ 30) := by
  refine fx_iW rfl rfl ?_
  intro p e s m args below meth c A ls Q X hE hP hD hR hA hl hret
  have hx := X.1
  have hb := X.2.1
  have hS : va_S A s.heap s.heap [] := va_S.rf
  replace hP : va_P E.1 clA [(ad 30, .inr (6, [.ref (ad 0), .ref (ad 1), .int im, .ref (ad 3), .int at_, .int op, .int st_, .int us, .ref (ad 8), .ref (ad 9), .ref (ad 10), .ref (ad 11), .ref (ad 12), .ref (ad 13), .ref (ad 14), .int bn, .int bm, .ref (ad 17), .int la, .int fo, .int fi, .int lp, .ref (ad 22), .int (nI tn), .int (nI sk), .int ip, .ref (ad 26), .ref (ad 27), .ref (ad 28), .ref (ad 29)])), (ad 22, .inl (E.2 0, 30, .inl tr))] _ := hP
  replace hD : va_D A [(ad 30, .inr (6, [.ref (ad 0), .ref (ad 1), .int im, .ref (ad 3), .int at_, .int op, .int st_, .int us, .ref (ad 8), .ref (ad 9), .ref (ad 10), .ref (ad 11), .ref (ad 12), .ref (ad 13), .ref (ad 14), .int bn, .int bm, .ref (ad 17), .int la, .int fo, .int fi, .int lp, .ref (ad 22), .int (nI tn), .int (nI sk), .int ip, .ref (ad 26), .ref (ad 27), .ref (ad 28), .ref (ad 29)])), (ad 22, .inl (E.2 0, 30, .inl tr))] := hD
  replace hl : lv_has ls 3 [(0, .ref (ad 30)), (1, .int 3), (2, .int x)] := hl
  refine lv_iload_n hx hb dX6_comesAs_0 rfl (lv_at hl 1 rfl) ?_
  refine lv_tableIn (tgt := 128) (off := 127) hx hb dX6_comesAs_1 (by decide) (by decide) rfl (by decide) ?_
  refine lv_aload_n hx hb dX6_comesAs_128 rfl (lv_at hl 0 rfl) ?_
  refine lv_iload_n hx hb dX6_comesAs_129 rfl (lv_at hl 1 rfl) ?_
  refine fx_ci (va_runS (As := [.int 3]) (rest := [.ref (ad 30)]) X (mX6_above l E 3 (by decide) _) (va_cwS 1 X.2.2.2.2 (lw_S q1525 q1526 q75 q1527) rfl rfl rfl hdX6_above ⟨Nat.le_of_ble_eq_true rfl, Nat.le_of_ble_eq_true rfl⟩) (fx_pre hE hP hD hS hR [] rfl rfl fx_rc0) rfl rfl hl.1 rfl (lv_room (Nat.le_of_ble_eq_true rfl)) dX6_comesAs_130 ⟨Nat.le_refl _, Nat.le_refl _⟩) hP hD hS hA [] rfl rfl (fun r_130 u H locs hq_130 hP hD hS => ?_)
  replace hP : va_P E.1 clA [(ad 30, .inr (6, [.ref (ad 0), .ref (ad 1), .int im, .ref (ad 3), .int at_, .int op, .int st_, .int us, .ref (ad 8), .ref (ad 9), .ref (ad 10), .ref (ad 11), .ref (ad 12), .ref (ad 13), .ref (ad 14), .int bn, .int bm, .ref (ad 17), .int la, .int fo, .int fi, .int lp, .ref (ad 22), .int (nI tn), .int (nI sk), .int ip, .ref (ad 26), .ref (ad 27), .ref (ad 28), .ref (ad 29)])), (ad 22, .inl (E.2 0, 30, .inl tr))] _ := hP
  replace hD : va_D A [(ad 30, .inr (6, [.ref (ad 0), .ref (ad 1), .int im, .ref (ad 3), .int at_, .int op, .int st_, .int us, .ref (ad 8), .ref (ad 9), .ref (ad 10), .ref (ad 11), .ref (ad 12), .ref (ad 13), .ref (ad 14), .int bn, .int bm, .ref (ad 17), .int la, .int fo, .int fi, .int lp, .ref (ad 22), .int (nI tn), .int (nI sk), .int ip, .ref (ad 26), .ref (ad 27), .ref (ad 28), .ref (ad 29)])), (ad 22, .inl (E.2 0, 30, .inl tr))] := hD
  replace hq_130 : r_130 = nI (abvK 3) := hq_130
  refine fx_ti (show r_130 = 0 from hq_130.trans (by decide)) ?_
  refine lv_iload_n hx hb dX6_comesAs_133 rfl (lv_at hl 2 rfl) ?_
  refine fx_ci (va_runV (As := [.int 0, .int x]) (rest := []) X (mX6_comesAs0 l E ad im at_ op st_ us bn bm la fo fi lp ip tn sk sa tr ow mm x (by first | assumption | omega) (by first | assumption | omega) (by first | assumption | omega) (by first | assumption | omega) (by first | assumption | omega) _) (cwV 2 X.2.2.2.2 (lw_V q1528 q1530 qs65 q75 q1531) rfl rfl rfl ⟨rfl, hdX6_comesAs⟩ ⟨Nat.le_of_ble_eq_true rfl, Nat.le_of_ble_eq_true rfl⟩) (fx_preV (fx_pre hE hP hD hS hR [0, 1] rfl rfl (fx_rcr 0 rfl fx_rc0)) (va_recv hE.1 hP (ci := 6) (q0 := 0) rfl rfl)) rfl rfl hl.1 rfl (lv_room (Nat.le_of_ble_eq_true rfl)) dX6_comesAs_134 ⟨Nat.le_refl _, Nat.le_refl _⟩) hP hD hS hA [0, 1] rfl rfl (fun r_134 u H locs hq_134 hP hD hS => ?_)
  obtain ⟨tr2_134, tn2_134⟩ := u
  replace hP : va_P E.1 clA [(ad 30, .inr (6, [.ref (ad 0), .ref (ad 1), .int im, .ref (ad 3), .int at_, .int op, .int st_, .int us, .ref (ad 8), .ref (ad 9), .ref (ad 10), .ref (ad 11), .ref (ad 12), .ref (ad 13), .ref (ad 14), .int bn, .int bm, .ref (ad 17), .int la, .int fo, .int fi, .int lp, .ref (ad 22), .int (nI tn2_134), .int (nI sk), .int ip, .ref (ad 26), .ref (ad 27), .ref (ad 28), .ref (ad 29)])), (ad 22, .inl (E.2 0, 30, .inl tr2_134))] _ := hP
  replace hD : va_D A [(ad 30, .inr (6, [.ref (ad 0), .ref (ad 1), .int im, .ref (ad 3), .int at_, .int op, .int st_, .int us, .ref (ad 8), .ref (ad 9), .ref (ad 10), .ref (ad 11), .ref (ad 12), .ref (ad 13), .ref (ad 14), .int bn, .int bm, .ref (ad 17), .int la, .int fo, .int fi, .int lp, .ref (ad 22), .int (nI tn2_134), .int (nI sk), .int ip, .ref (ad 26), .ref (ad 27), .ref (ad 28), .ref (ad 29)])), (ad 22, .inl (E.2 0, 30, .inl tr2_134))] := hD
  replace hq_134 : r_134 = comesV 0 ow (nI sk) mm x ∧ (tr2_134, tn2_134) = bgL (tr, tn) (comesB 0 ow) ∧ tn2_134 ≤ 30 := hq_134
  exact hret r_134 (tr2_134, tn2_134) (⟨by rw [hq_134.1]; rfl, by rw [hq_134.2.1]; rfl, hq_134.2.2⟩) (rfl) hP hD hS (Nat.le_refl _) (Nat.le_refl _) dX6_comesAs_137
abbrev rmX6_comesAs5 : Room := { frames := 6, cells := 0, slots := 0, locals := 131 }
set_option maxHeartbeats 400000 in
set_option maxRecDepth 100000 in
theorem mX6_comesAs5 (l : Launch) (E : fx_En) (ad : Nat → Nat) (im : Int32) (at_ : Int32) (op : Int32) (st_ : Int32) (us : Int32) (bn : Int32) (bm : Int32) (la : Int32) (fo : Int32) (fi : Int32) (lp : Int32) (ip : Int32) (tn : Nat) (sk : Nat) (sa : Nat → Int32) (tr : Nat → Int32) (ow : Nat) (mm : Int32) (x : Int32) (htn : tn ≤ 30) (hsk : sk < 4) (hkd : sa (32 + 2 * sk) = nI ow) (hkd2 : ow ≤ 6) (hm : sa (32 + 2 * sk + 1) = mm) : fx_Mi l yX6_comesAs cX6_comesAs 3 .int rmX6_comesAs5 E [.ref (ad 30), .int 5, .int x] [(ad 30, .inr (6, [.ref (ad 0), .ref (ad 1), .int im, .ref (ad 3), .int at_, .int op, .int st_, .int us, .ref (ad 8), .ref (ad 9), .ref (ad 10), .ref (ad 11), .ref (ad 12), .ref (ad 13), .ref (ad 14), .int bn, .int bm, .ref (ad 17), .int la, .int fo, .int fi, .int lp, .ref (ad 22), .int (nI tn), .int (nI sk), .int ip, .ref (ad 26), .ref (ad 27), .ref (ad 28), .ref (ad 29)])), (ad 22, .inl (E.2 0, 30, .inl tr))] [(ad 0, .inl (E.2 0, 374, .inl sa))] (S := (Nat → Int32) × Nat) (fun (u : (Nat → Int32) × Nat) => [(ad 30, .inr (6, [.ref (ad 0), .ref (ad 1), .int im, .ref (ad 3), .int at_, .int op, .int st_, .int us, .ref (ad 8), .ref (ad 9), .ref (ad 10), .ref (ad 11), .ref (ad 12), .ref (ad 13), .ref (ad 14), .int bn, .int bm, .ref (ad 17), .int la, .int fo, .int fi, .int lp, .ref (ad 22), .int (nI u.2), .int (nI sk), .int ip, .ref (ad 26), .ref (ad 27), .ref (ad 28), .ref (ad 29)])), (ad 22, .inl (E.2 0, 30, .inl u.1))]) (fun (r : Int32) (u : (Nat → Int32) × Nat) => r = comesV 5 ow (nI sk) mm x ∧ (u.1, u.2) = bgL (tr, tn) (comesB 5 ow) ∧ u.2 ≤ 30) := by
  refine fx_iW rfl rfl ?_
  intro p e s m args below meth c A ls Q X hE hP hD hR hA hl hret
  have hx := X.1
  have hb := X.2.1
  have hS : va_S A s.heap s.heap [] := va_S.rf
  replace hP : va_P E.1 clA [(ad 30, .inr (6, [.ref (ad 0), .ref (ad 1), .int im, .ref (ad 3), .int at_, .int op, .int st_, .int us, .ref (ad 8), .ref (ad 9), .ref (ad 10), .ref (ad 11), .ref (ad 12), .ref (ad 13), .ref (ad 14), .int bn, .int bm, .ref (ad 17), .int la, .int fo, .int fi, .int lp, .ref (ad 22), .int (nI tn), .int (nI sk), .int ip, .ref (ad 26), .ref (ad 27), .ref (ad 28), .ref (ad 29)])), (ad 22, .inl (E.2 0, 30, .inl tr))] _ := hP
  replace hD : va_D A [(ad 30, .inr (6, [.ref (ad 0), .ref (ad 1), .int im, .ref (ad 3), .int at_, .int op, .int st_, .int us, .ref (ad 8), .ref (ad 9), .ref (ad 10), .ref (ad 11), .ref (ad 12), .ref (ad 13), .ref (ad 14), .int bn, .int bm, .ref (ad 17), .int la, .int fo, .int fi, .int lp, .ref (ad 22), .int (nI tn), .int (nI sk), .int ip, .ref (ad 26), .ref (ad 27), .ref (ad 28), .ref (ad 29)])), (ad 22, .inl (E.2 0, 30, .inl tr))] := hD
  replace hl : lv_has ls 3 [(0, .ref (ad 30)), (1, .int 5), (2, .int x)] := hl
  refine lv_iload_n hx hb dX6_comesAs_0 rfl (lv_at hl 1 rfl) ?_
  refine lv_tableIn (tgt := 128) (off := 127) hx hb dX6_comesAs_1 (by decide) (by decide) rfl (by decide) ?_
  refine lv_aload_n hx hb dX6_comesAs_128 rfl (lv_at hl 0 rfl) ?_
  refine lv_iload_n hx hb dX6_comesAs_129 rfl (lv_at hl 1 rfl) ?_
  refine fx_ci (va_runS (As := [.int 5]) (rest := [.ref (ad 30)]) X (mX6_above l E 5 (by decide) _) (va_cwS 1 X.2.2.2.2 (lw_S q1525 q1526 q75 q1527) rfl rfl rfl hdX6_above ⟨Nat.le_of_ble_eq_true rfl, Nat.le_of_ble_eq_true rfl⟩) (fx_pre hE hP hD hS hR [] rfl rfl fx_rc0) rfl rfl hl.1 rfl (lv_room (Nat.le_of_ble_eq_true rfl)) dX6_comesAs_130 ⟨Nat.le_refl _, Nat.le_refl _⟩) hP hD hS hA [] rfl rfl (fun r_130 u H locs hq_130 hP hD hS => ?_)
  replace hP : va_P E.1 clA [(ad 30, .inr (6, [.ref (ad 0), .ref (ad 1), .int im, .ref (ad 3), .int at_, .int op, .int st_, .int us, .ref (ad 8), .ref (ad 9), .ref (ad 10), .ref (ad 11), .ref (ad 12), .ref (ad 13), .ref (ad 14), .int bn, .int bm, .ref (ad 17), .int la, .int fo, .int fi, .int lp, .ref (ad 22), .int (nI tn), .int (nI sk), .int ip, .ref (ad 26), .ref (ad 27), .ref (ad 28), .ref (ad 29)])), (ad 22, .inl (E.2 0, 30, .inl tr))] _ := hP
  replace hD : va_D A [(ad 30, .inr (6, [.ref (ad 0), .ref (ad 1), .int im, .ref (ad 3), .int at_, .int op, .int st_, .int us, .ref (ad 8), .ref (ad 9), .ref (ad 10), .ref (ad 11), .ref (ad 12), .ref (ad 13), .ref (ad 14), .int bn, .int bm, .ref (ad 17), .int la, .int fo, .int fi, .int lp, .ref (ad 22), .int (nI tn), .int (nI sk), .int ip, .ref (ad 26), .ref (ad 27), .ref (ad 28), .ref (ad 29)])), (ad 22, .inl (E.2 0, 30, .inl tr))] := hD
  replace hq_130 : r_130 = nI (abvK 5) := hq_130
  refine fx_ti (show r_130 = 1 from hq_130.trans (by decide)) ?_
  refine lv_iload_n hx hb dX6_comesAs_133 rfl (lv_at hl 2 rfl) ?_
  refine fx_ci (va_runV (As := [.int 1, .int x]) (rest := []) X (mX6_comesAs1 l E ad im at_ op st_ us bn bm la fo fi lp ip tn sk sa tr ow mm x (by first | assumption | omega) (by first | assumption | omega) (by first | assumption | omega) (by first | assumption | omega) (by first | assumption | omega) _) (cwV 2 X.2.2.2.2 (lw_V q1528 q1530 qs65 q75 q1531) rfl rfl rfl ⟨rfl, hdX6_comesAs⟩ ⟨Nat.le_of_ble_eq_true rfl, Nat.le_of_ble_eq_true rfl⟩) (fx_preV (fx_pre hE hP hD hS hR [0, 1] rfl rfl (fx_rcr 0 rfl fx_rc0)) (va_recv hE.1 hP (ci := 6) (q0 := 0) rfl rfl)) rfl rfl hl.1 rfl (lv_room (Nat.le_of_ble_eq_true rfl)) dX6_comesAs_134 ⟨Nat.le_refl _, Nat.le_refl _⟩) hP hD hS hA [0, 1] rfl rfl (fun r_134 u H locs hq_134 hP hD hS => ?_)
  obtain ⟨tr2_134, tn2_134⟩ := u
  replace hP : va_P E.1 clA [(ad 30, .inr (6, [.ref (ad 0), .ref (ad 1), .int im, .ref (ad 3), .int at_, .int op, .int st_, .int us, .ref (ad 8), .ref (ad 9), .ref (ad 10), .ref (ad 11), .ref (ad 12), .ref (ad 13), .ref (ad 14), .int bn, .int bm, .ref (ad 17), .int la, .int fo, .int fi, .int lp, .ref (ad 22), .int (nI tn2_134), .int (nI sk), .int ip, .ref (ad 26), .ref (ad 27), .ref (ad 28), .ref (ad 29)])), (ad 22, .inl (E.2 0, 30, .inl tr2_134))] _ := hP
  replace hD : va_D A [(ad 30, .inr (6, [.ref (ad 0), .ref (ad 1), .int im, .ref (ad 3), .int at_, .int op, .int st_, .int us, .ref (ad 8), .ref (ad 9), .ref (ad 10), .ref (ad 11), .ref (ad 12), .ref (ad 13), .ref (ad 14), .int bn, .int bm, .ref (ad 17), .int la, .int fo, .int fi, .int lp, .ref (ad 22), .int (nI tn2_134), .int (nI sk), .int ip, .ref (ad 26), .ref (ad 27), .ref (ad 28), .ref (ad 29)])), (ad 22, .inl (E.2 0, 30, .inl tr2_134))] := hD
  replace hq_134 : r_134 = comesV 1 ow (nI sk) mm x ∧ (tr2_134, tn2_134) = bgL (tr, tn) (comesB 1 ow) ∧ tn2_134 ≤ 30 := hq_134
  exact hret r_134 (tr2_134, tn2_134) (⟨by rw [hq_134.1]; rfl, by rw [hq_134.2.1]; rfl, hq_134.2.2⟩) (rfl) hP hD hS (Nat.le_refl _) (Nat.le_refl _) dX6_comesAs_137
abbrev rmX6_comesAs6 : Room := { frames := 5, cells := 0, slots := 0, locals := 109 }
set_option maxHeartbeats 400000 in
set_option maxRecDepth 100000 in
theorem mX6_comesAs6 (l : Launch) (E : fx_En) (ad : Nat → Nat) (im : Int32) (at_ : Int32) (op : Int32) (st_ : Int32) (us : Int32) (bn : Int32) (bm : Int32) (la : Int32) (fo : Int32) (fi : Int32) (lp : Int32) (ip : Int32) (tn : Nat) (sk : Nat) (sa : Nat → Int32) (tr : Nat → Int32) (ow : Nat) (mm : Int32) (x : Int32) (htn : tn ≤ 30) (hsk : sk < 4) (hkd : sa (32 + 2 * sk) = nI ow) (hkd2 : ow ≤ 6) (hm : sa (32 + 2 * sk + 1) = mm) : fx_Mi l yX6_comesAs cX6_comesAs 3 .int rmX6_comesAs6 E [.ref (ad 30), .int 6, .int x] [(ad 30, .inr (6, [.ref (ad 0), .ref (ad 1), .int im, .ref (ad 3), .int at_, .int op, .int st_, .int us, .ref (ad 8), .ref (ad 9), .ref (ad 10), .ref (ad 11), .ref (ad 12), .ref (ad 13), .ref (ad 14), .int bn, .int bm, .ref (ad 17), .int la, .int fo, .int fi, .int lp, .ref (ad 22), .int (nI tn), .int (nI sk), .int ip, .ref (ad 26), .ref (ad 27), .ref (ad 28), .ref (ad 29)])), (ad 22, .inl (E.2 0, 30, .inl tr))] [(ad 0, .inl (E.2 0, 374, .inl sa))] (S := (Nat → Int32) × Nat) (fun (u : (Nat → Int32) × Nat) => [(ad 30, .inr (6, [.ref (ad 0), .ref (ad 1), .int im, .ref (ad 3), .int at_, .int op, .int st_, .int us, .ref (ad 8), .ref (ad 9), .ref (ad 10), .ref (ad 11), .ref (ad 12), .ref (ad 13), .ref (ad 14), .int bn, .int bm, .ref (ad 17), .int la, .int fo, .int fi, .int lp, .ref (ad 22), .int (nI u.2), .int (nI sk), .int ip, .ref (ad 26), .ref (ad 27), .ref (ad 28), .ref (ad 29)])), (ad 22, .inl (E.2 0, 30, .inl u.1))]) (fun (r : Int32) (u : (Nat → Int32) × Nat) => r = comesV 6 ow (nI sk) mm x ∧ (u.1, u.2) = bgL (tr, tn) (comesB 6 ow) ∧ u.2 ≤ 30) := by
  refine fx_iW rfl rfl ?_
  intro p e s m args below meth c A ls Q X hE hP hD hR hA hl hret
  have hx := X.1
  have hb := X.2.1
  have hS : va_S A s.heap s.heap [] := va_S.rf
  replace hP : va_P E.1 clA [(ad 30, .inr (6, [.ref (ad 0), .ref (ad 1), .int im, .ref (ad 3), .int at_, .int op, .int st_, .int us, .ref (ad 8), .ref (ad 9), .ref (ad 10), .ref (ad 11), .ref (ad 12), .ref (ad 13), .ref (ad 14), .int bn, .int bm, .ref (ad 17), .int la, .int fo, .int fi, .int lp, .ref (ad 22), .int (nI tn), .int (nI sk), .int ip, .ref (ad 26), .ref (ad 27), .ref (ad 28), .ref (ad 29)])), (ad 22, .inl (E.2 0, 30, .inl tr))] _ := hP
  replace hD : va_D A [(ad 30, .inr (6, [.ref (ad 0), .ref (ad 1), .int im, .ref (ad 3), .int at_, .int op, .int st_, .int us, .ref (ad 8), .ref (ad 9), .ref (ad 10), .ref (ad 11), .ref (ad 12), .ref (ad 13), .ref (ad 14), .int bn, .int bm, .ref (ad 17), .int la, .int fo, .int fi, .int lp, .ref (ad 22), .int (nI tn), .int (nI sk), .int ip, .ref (ad 26), .ref (ad 27), .ref (ad 28), .ref (ad 29)])), (ad 22, .inl (E.2 0, 30, .inl tr))] := hD
  replace hl : lv_has ls 3 [(0, .ref (ad 30)), (1, .int 6), (2, .int x)] := hl
  refine lv_iload_n hx hb dX6_comesAs_0 rfl (lv_at hl 1 rfl) ?_
  refine lv_tableIn (tgt := 102) (off := 101) hx hb dX6_comesAs_1 (by decide) (by decide) rfl (by decide) ?_
  refine lv_aload_n hx hb dX6_comesAs_102 rfl (lv_at hl 0 rfl) ?_
  refine lv_bipush (v := 71) hx hb dX6_comesAs_103 rfl ?_
  refine fx_cv (va_runV (As := [.int 71]) (rest := []) X (mX6_begins l E ad im at_ op st_ us bn bm la fo fi lp ip tn sk tr 71 (by first | assumption | omega) _) (cwV 1 X.2.2.2.2 (lw_V q1521 q1523 qs64 q75 q1524) rfl rfl rfl ⟨rfl, hdX6_begins⟩ ⟨Nat.le_of_ble_eq_true rfl, Nat.le_of_ble_eq_true rfl⟩) (fx_preV (fx_pre hE hP hD hS hR [0, 1] rfl rfl fx_rc0) (va_recv hE.1 hP (ci := 6) (q0 := 0) rfl rfl)) rfl rfl hl.1 rfl (lv_room (Nat.le_of_ble_eq_true rfl)) dX6_comesAs_105 ⟨Nat.le_refl _, Nat.le_refl _⟩) hP hD hS hA [0, 1] rfl rfl (fun u H locs hq_105 hP hD hS => ?_)
  obtain ⟨tr2_105, tn2_105⟩ := u
  replace hP : va_P E.1 clA [(ad 30, .inr (6, [.ref (ad 0), .ref (ad 1), .int im, .ref (ad 3), .int at_, .int op, .int st_, .int us, .ref (ad 8), .ref (ad 9), .ref (ad 10), .ref (ad 11), .ref (ad 12), .ref (ad 13), .ref (ad 14), .int bn, .int bm, .ref (ad 17), .int la, .int fo, .int fi, .int lp, .ref (ad 22), .int (nI tn2_105), .int (nI sk), .int ip, .ref (ad 26), .ref (ad 27), .ref (ad 28), .ref (ad 29)])), (ad 22, .inl (E.2 0, 30, .inl tr2_105))] _ := hP
  replace hD : va_D A [(ad 30, .inr (6, [.ref (ad 0), .ref (ad 1), .int im, .ref (ad 3), .int at_, .int op, .int st_, .int us, .ref (ad 8), .ref (ad 9), .ref (ad 10), .ref (ad 11), .ref (ad 12), .ref (ad 13), .ref (ad 14), .int bn, .int bm, .ref (ad 17), .int la, .int fo, .int fi, .int lp, .ref (ad 22), .int (nI tn2_105), .int (nI sk), .int ip, .ref (ad 26), .ref (ad 27), .ref (ad 28), .ref (ad 29)])), (ad 22, .inl (E.2 0, 30, .inl tr2_105))] := hD
  replace hq_105 : (tr2_105, tn2_105) = bg (tr, tn) 71 ∧ tn2_105 ≤ 30 := hq_105
  refine lv_aload_n hx hb dX6_comesAs_108 rfl (lv_at hl 0 rfl) ?_
  refine lv_bipush (v := 6) hx hb dX6_comesAs_109 rfl ?_
  refine fx_ci (va_runS (As := [.int 6]) (rest := [.ref (ad 30)]) X (mX6_above l E 6 (by decide) _) (va_cwS 1 X.2.2.2.2 (lw_S q1525 q1526 q75 q1527) rfl rfl rfl hdX6_above ⟨Nat.le_of_ble_eq_true rfl, Nat.le_of_ble_eq_true rfl⟩) (fx_pre hE hP hD hS hR [] rfl rfl fx_rc0) rfl rfl hl.1 rfl (lv_room (Nat.le_of_ble_eq_true rfl)) dX6_comesAs_111 ⟨Nat.le_refl _, Nat.le_refl _⟩) hP hD hS hA [] rfl rfl (fun r_111 u H locs hq_111 hP hD hS => ?_)
  replace hP : va_P E.1 clA [(ad 30, .inr (6, [.ref (ad 0), .ref (ad 1), .int im, .ref (ad 3), .int at_, .int op, .int st_, .int us, .ref (ad 8), .ref (ad 9), .ref (ad 10), .ref (ad 11), .ref (ad 12), .ref (ad 13), .ref (ad 14), .int bn, .int bm, .ref (ad 17), .int la, .int fo, .int fi, .int lp, .ref (ad 22), .int (nI tn2_105), .int (nI sk), .int ip, .ref (ad 26), .ref (ad 27), .ref (ad 28), .ref (ad 29)])), (ad 22, .inl (E.2 0, 30, .inl tr2_105))] _ := hP
  replace hD : va_D A [(ad 30, .inr (6, [.ref (ad 0), .ref (ad 1), .int im, .ref (ad 3), .int at_, .int op, .int st_, .int us, .ref (ad 8), .ref (ad 9), .ref (ad 10), .ref (ad 11), .ref (ad 12), .ref (ad 13), .ref (ad 14), .int bn, .int bm, .ref (ad 17), .int la, .int fo, .int fi, .int lp, .ref (ad 22), .int (nI tn2_105), .int (nI sk), .int ip, .ref (ad 26), .ref (ad 27), .ref (ad 28), .ref (ad 29)])), (ad 22, .inl (E.2 0, 30, .inl tr2_105))] := hD
  replace hq_111 : r_111 = nI (abvK 6) := hq_111
  refine fx_ti (show r_111 = 0 from hq_111.trans (by decide)) ?_
  refine lv_iload_n hx hb dX6_comesAs_114 rfl (lv_at hl 2 rfl) ?_
  refine fx_ci (va_runV (As := [.int 0, .int x]) (rest := []) X (mX6_comesAs0 l E ad im at_ op st_ us bn bm la fo fi lp ip tn2_105 sk sa tr2_105 ow mm x (by first | assumption | omega) (by first | assumption | omega) (by first | assumption | omega) (by first | assumption | omega) (by first | assumption | omega) _) (cwV 2 X.2.2.2.2 (lw_V q1528 q1530 qs65 q75 q1531) rfl rfl rfl ⟨rfl, hdX6_comesAs⟩ ⟨Nat.le_of_ble_eq_true rfl, Nat.le_of_ble_eq_true rfl⟩) (fx_preV (fx_pre hE hP hD hS hR [0, 1] rfl rfl (fx_rcr 0 rfl fx_rc0)) (va_recv hE.1 hP (ci := 6) (q0 := 0) rfl rfl)) rfl rfl hl.1 rfl (lv_room (Nat.le_of_ble_eq_true rfl)) dX6_comesAs_115 ⟨Nat.le_refl _, Nat.le_refl _⟩) hP hD hS hA [0, 1] rfl rfl (fun r_115 u H locs hq_115 hP hD hS => ?_)
  obtain ⟨tr2_115, tn2_115⟩ := u
  replace hP : va_P E.1 clA [(ad 30, .inr (6, [.ref (ad 0), .ref (ad 1), .int im, .ref (ad 3), .int at_, .int op, .int st_, .int us, .ref (ad 8), .ref (ad 9), .ref (ad 10), .ref (ad 11), .ref (ad 12), .ref (ad 13), .ref (ad 14), .int bn, .int bm, .ref (ad 17), .int la, .int fo, .int fi, .int lp, .ref (ad 22), .int (nI tn2_115), .int (nI sk), .int ip, .ref (ad 26), .ref (ad 27), .ref (ad 28), .ref (ad 29)])), (ad 22, .inl (E.2 0, 30, .inl tr2_115))] _ := hP
  replace hD : va_D A [(ad 30, .inr (6, [.ref (ad 0), .ref (ad 1), .int im, .ref (ad 3), .int at_, .int op, .int st_, .int us, .ref (ad 8), .ref (ad 9), .ref (ad 10), .ref (ad 11), .ref (ad 12), .ref (ad 13), .ref (ad 14), .int bn, .int bm, .ref (ad 17), .int la, .int fo, .int fi, .int lp, .ref (ad 22), .int (nI tn2_115), .int (nI sk), .int ip, .ref (ad 26), .ref (ad 27), .ref (ad 28), .ref (ad 29)])), (ad 22, .inl (E.2 0, 30, .inl tr2_115))] := hD
  replace hq_115 : r_115 = comesV 0 ow (nI sk) mm x ∧ (tr2_115, tn2_115) = bgL (tr2_105, tn2_105) (comesB 0 ow) ∧ tn2_115 ≤ 30 := hq_115
  refine lv_aload_n hx hb dX6_comesAs_118 rfl (lv_at hl 0 rfl) ?_
  refine lv_aload_n hx hb dX6_comesAs_119 rfl (lv_at hl 0 rfl) ?_
  refine fx_get X hE hP 0 rfl rfl 24 rfl q1192 rfl rfl dX6_comesAs_120 ?_
  refine fx_ci (va_runV (As := [.int (nI sk)]) (rest := [.int r_115]) X (mX6_mOf l E ad im at_ op st_ us bn bm la fo fi lp (nI tn2_115) (nI sk) ip sa sk hsk _) (cwV 1 X.2.2.2.2 (lw_V q1364 q1366 qs48 q75 q1367) rfl rfl rfl ⟨rfl, hdX6_mOf⟩ ⟨Nat.le_of_ble_eq_true rfl, Nat.le_of_ble_eq_true rfl⟩) (fx_preV (fx_pre hE hP hD hS hR [] rfl rfl (fx_rcm 0 rfl (by decide) (fx_rcr 0 rfl fx_rc0))) (va_recv hE.1 hP (ci := 6) (q0 := 0) rfl rfl)) rfl rfl hl.1 rfl (lv_room (Nat.le_of_ble_eq_true rfl)) dX6_comesAs_123 ⟨Nat.le_refl _, Nat.le_refl _⟩) hP hD hS hA [] rfl rfl (fun r_123 u H locs hq_123 hP hD hS => ?_)
  replace hP : va_P E.1 clA [(ad 30, .inr (6, [.ref (ad 0), .ref (ad 1), .int im, .ref (ad 3), .int at_, .int op, .int st_, .int us, .ref (ad 8), .ref (ad 9), .ref (ad 10), .ref (ad 11), .ref (ad 12), .ref (ad 13), .ref (ad 14), .int bn, .int bm, .ref (ad 17), .int la, .int fo, .int fi, .int lp, .ref (ad 22), .int (nI tn2_115), .int (nI sk), .int ip, .ref (ad 26), .ref (ad 27), .ref (ad 28), .ref (ad 29)])), (ad 22, .inl (E.2 0, 30, .inl tr2_115))] _ := hP
  replace hD : va_D A [(ad 30, .inr (6, [.ref (ad 0), .ref (ad 1), .int im, .ref (ad 3), .int at_, .int op, .int st_, .int us, .ref (ad 8), .ref (ad 9), .ref (ad 10), .ref (ad 11), .ref (ad 12), .ref (ad 13), .ref (ad 14), .int bn, .int bm, .ref (ad 17), .int la, .int fo, .int fi, .int lp, .ref (ad 22), .int (nI tn2_115), .int (nI sk), .int ip, .ref (ad 26), .ref (ad 27), .ref (ad 28), .ref (ad 29)])), (ad 22, .inl (E.2 0, 30, .inl tr2_115))] := hD
  replace hq_123 : r_123 = sa (32 + 2 * sk + 1) := hq_123
  refine fx_ti (show r_123 = mm from hq_123.trans hm) ?_
  refine lv_iadd hx hb dX6_comesAs_126 ?_
  exact hret (r_115 + mm) (tr2_115, tn2_115) (⟨by rw [hq_115.1]; rfl, by rw [hq_115.2.1, hq_105.1]; rfl, hq_115.2.2⟩) (rfl) hP hD hS (Nat.le_refl _) (Nat.le_refl _) dX6_comesAs_127
abbrev rmX6_comesAs4 : Room := { frames := 6, cells := 0, slots := 0, locals := 131 }
set_option maxHeartbeats 400000 in
set_option maxRecDepth 100000 in
theorem mX6_comesAs4 (l : Launch) (E : fx_En) (ad : Nat → Nat) (im : Int32) (at_ : Int32) (op : Int32) (st_ : Int32) (us : Int32) (bn : Int32) (bm : Int32) (la : Int32) (fo : Int32) (fi : Int32) (lp : Int32) (ip : Int32) (tn : Nat) (sk : Nat) (sa : Nat → Int32) (tr : Nat → Int32) (ow : Nat) (mm : Int32) (x : Int32) (htn : tn ≤ 30) (hsk : sk < 4) (hkd : sa (32 + 2 * sk) = nI ow) (hkd2 : ow ≤ 6) (hm : sa (32 + 2 * sk + 1) = mm) : fx_Mi l yX6_comesAs cX6_comesAs 3 .int rmX6_comesAs4 E [.ref (ad 30), .int 4, .int x] [(ad 30, .inr (6, [.ref (ad 0), .ref (ad 1), .int im, .ref (ad 3), .int at_, .int op, .int st_, .int us, .ref (ad 8), .ref (ad 9), .ref (ad 10), .ref (ad 11), .ref (ad 12), .ref (ad 13), .ref (ad 14), .int bn, .int bm, .ref (ad 17), .int la, .int fo, .int fi, .int lp, .ref (ad 22), .int (nI tn), .int (nI sk), .int ip, .ref (ad 26), .ref (ad 27), .ref (ad 28), .ref (ad 29)])), (ad 22, .inl (E.2 0, 30, .inl tr))] [(ad 0, .inl (E.2 0, 374, .inl sa))] (S := (Nat → Int32) × Nat) (fun (u : (Nat → Int32) × Nat) => [(ad 30, .inr (6, [.ref (ad 0), .ref (ad 1), .int im, .ref (ad 3), .int at_, .int op, .int st_, .int us, .ref (ad 8), .ref (ad 9), .ref (ad 10), .ref (ad 11), .ref (ad 12), .ref (ad 13), .ref (ad 14), .int bn, .int bm, .ref (ad 17), .int la, .int fo, .int fi, .int lp, .ref (ad 22), .int (nI u.2), .int (nI sk), .int ip, .ref (ad 26), .ref (ad 27), .ref (ad 28), .ref (ad 29)])), (ad 22, .inl (E.2 0, 30, .inl u.1))]) (fun (r : Int32) (u : (Nat → Int32) × Nat) => r = comesV 4 ow (nI sk) mm x ∧ (u.1, u.2) = bgL (tr, tn) (comesB 4 ow) ∧ u.2 ≤ 30) := by
  refine fx_iW rfl rfl ?_
  intro p e s m args below meth c A ls Q X hE hP hD hR hA hl hret
  have hx := X.1
  have hb := X.2.1
  have hS : va_S A s.heap s.heap [] := va_S.rf
  replace hP : va_P E.1 clA [(ad 30, .inr (6, [.ref (ad 0), .ref (ad 1), .int im, .ref (ad 3), .int at_, .int op, .int st_, .int us, .ref (ad 8), .ref (ad 9), .ref (ad 10), .ref (ad 11), .ref (ad 12), .ref (ad 13), .ref (ad 14), .int bn, .int bm, .ref (ad 17), .int la, .int fo, .int fi, .int lp, .ref (ad 22), .int (nI tn), .int (nI sk), .int ip, .ref (ad 26), .ref (ad 27), .ref (ad 28), .ref (ad 29)])), (ad 22, .inl (E.2 0, 30, .inl tr))] _ := hP
  replace hD : va_D A [(ad 30, .inr (6, [.ref (ad 0), .ref (ad 1), .int im, .ref (ad 3), .int at_, .int op, .int st_, .int us, .ref (ad 8), .ref (ad 9), .ref (ad 10), .ref (ad 11), .ref (ad 12), .ref (ad 13), .ref (ad 14), .int bn, .int bm, .ref (ad 17), .int la, .int fo, .int fi, .int lp, .ref (ad 22), .int (nI tn), .int (nI sk), .int ip, .ref (ad 26), .ref (ad 27), .ref (ad 28), .ref (ad 29)])), (ad 22, .inl (E.2 0, 30, .inl tr))] := hD
  replace hl : lv_has ls 3 [(0, .ref (ad 30)), (1, .int 4), (2, .int x)] := hl
  refine lv_iload_n hx hb dX6_comesAs_0 rfl (lv_at hl 1 rfl) ?_
  refine lv_tableIn (tgt := 84) (off := 83) hx hb dX6_comesAs_1 (by decide) (by decide) rfl (by decide) ?_
  refine lv_aload_n hx hb dX6_comesAs_84 rfl (lv_at hl 0 rfl) ?_
  refine lv_bipush (v := 60) hx hb dX6_comesAs_85 rfl ?_
  refine fx_cv (va_runV (As := [.int 60]) (rest := []) X (mX6_begins l E ad im at_ op st_ us bn bm la fo fi lp ip tn sk tr 60 (by first | assumption | omega) _) (cwV 1 X.2.2.2.2 (lw_V q1521 q1523 qs64 q75 q1524) rfl rfl rfl ⟨rfl, hdX6_begins⟩ ⟨Nat.le_of_ble_eq_true rfl, Nat.le_of_ble_eq_true rfl⟩) (fx_preV (fx_pre hE hP hD hS hR [0, 1] rfl rfl fx_rc0) (va_recv hE.1 hP (ci := 6) (q0 := 0) rfl rfl)) rfl rfl hl.1 rfl (lv_room (Nat.le_of_ble_eq_true rfl)) dX6_comesAs_87 ⟨Nat.le_refl _, Nat.le_refl _⟩) hP hD hS hA [0, 1] rfl rfl (fun u H locs hq_87 hP hD hS => ?_)
  obtain ⟨tr2_87, tn2_87⟩ := u
  replace hP : va_P E.1 clA [(ad 30, .inr (6, [.ref (ad 0), .ref (ad 1), .int im, .ref (ad 3), .int at_, .int op, .int st_, .int us, .ref (ad 8), .ref (ad 9), .ref (ad 10), .ref (ad 11), .ref (ad 12), .ref (ad 13), .ref (ad 14), .int bn, .int bm, .ref (ad 17), .int la, .int fo, .int fi, .int lp, .ref (ad 22), .int (nI tn2_87), .int (nI sk), .int ip, .ref (ad 26), .ref (ad 27), .ref (ad 28), .ref (ad 29)])), (ad 22, .inl (E.2 0, 30, .inl tr2_87))] _ := hP
  replace hD : va_D A [(ad 30, .inr (6, [.ref (ad 0), .ref (ad 1), .int im, .ref (ad 3), .int at_, .int op, .int st_, .int us, .ref (ad 8), .ref (ad 9), .ref (ad 10), .ref (ad 11), .ref (ad 12), .ref (ad 13), .ref (ad 14), .int bn, .int bm, .ref (ad 17), .int la, .int fo, .int fi, .int lp, .ref (ad 22), .int (nI tn2_87), .int (nI sk), .int ip, .ref (ad 26), .ref (ad 27), .ref (ad 28), .ref (ad 29)])), (ad 22, .inl (E.2 0, 30, .inl tr2_87))] := hD
  replace hq_87 : (tr2_87, tn2_87) = bg (tr, tn) 60 ∧ tn2_87 ≤ 30 := hq_87
  refine lv_aload_n hx hb dX6_comesAs_90 rfl (lv_at hl 0 rfl) ?_
  refine lv_iconst (v := 4) hx hb dX6_comesAs_91 rfl ?_
  refine fx_ci (va_runS (As := [.int 4]) (rest := [.ref (ad 30)]) X (mX6_above l E 4 (by decide) _) (va_cwS 1 X.2.2.2.2 (lw_S q1525 q1526 q75 q1527) rfl rfl rfl hdX6_above ⟨Nat.le_of_ble_eq_true rfl, Nat.le_of_ble_eq_true rfl⟩) (fx_pre hE hP hD hS hR [] rfl rfl fx_rc0) rfl rfl hl.1 rfl (lv_room (Nat.le_of_ble_eq_true rfl)) dX6_comesAs_92 ⟨Nat.le_refl _, Nat.le_refl _⟩) hP hD hS hA [] rfl rfl (fun r_92 u H locs hq_92 hP hD hS => ?_)
  replace hP : va_P E.1 clA [(ad 30, .inr (6, [.ref (ad 0), .ref (ad 1), .int im, .ref (ad 3), .int at_, .int op, .int st_, .int us, .ref (ad 8), .ref (ad 9), .ref (ad 10), .ref (ad 11), .ref (ad 12), .ref (ad 13), .ref (ad 14), .int bn, .int bm, .ref (ad 17), .int la, .int fo, .int fi, .int lp, .ref (ad 22), .int (nI tn2_87), .int (nI sk), .int ip, .ref (ad 26), .ref (ad 27), .ref (ad 28), .ref (ad 29)])), (ad 22, .inl (E.2 0, 30, .inl tr2_87))] _ := hP
  replace hD : va_D A [(ad 30, .inr (6, [.ref (ad 0), .ref (ad 1), .int im, .ref (ad 3), .int at_, .int op, .int st_, .int us, .ref (ad 8), .ref (ad 9), .ref (ad 10), .ref (ad 11), .ref (ad 12), .ref (ad 13), .ref (ad 14), .int bn, .int bm, .ref (ad 17), .int la, .int fo, .int fi, .int lp, .ref (ad 22), .int (nI tn2_87), .int (nI sk), .int ip, .ref (ad 26), .ref (ad 27), .ref (ad 28), .ref (ad 29)])), (ad 22, .inl (E.2 0, 30, .inl tr2_87))] := hD
  replace hq_92 : r_92 = nI (abvK 4) := hq_92
  refine fx_ti (show r_92 = 2 from hq_92.trans (by decide)) ?_
  refine lv_iload_n hx hb dX6_comesAs_95 rfl (lv_at hl 2 rfl) ?_
  refine lv_iconst (v := 1) hx hb dX6_comesAs_96 rfl ?_
  refine lv_iadd hx hb dX6_comesAs_97 ?_
  refine fx_ci (va_runV (As := [.int 2, .int (x + 1)]) (rest := []) X (mX6_comesAs2 l E ad im at_ op st_ us bn bm la fo fi lp ip tn2_87 sk sa tr2_87 ow mm (x + 1) (by first | assumption | omega) (by first | assumption | omega) (by first | assumption | omega) (by first | assumption | omega) (by first | assumption | omega) _) (cwV 2 X.2.2.2.2 (lw_V q1528 q1530 qs65 q75 q1531) rfl rfl rfl ⟨rfl, hdX6_comesAs⟩ ⟨Nat.le_of_ble_eq_true rfl, Nat.le_of_ble_eq_true rfl⟩) (fx_preV (fx_pre hE hP hD hS hR [0, 1] rfl rfl (fx_rcr 0 rfl fx_rc0)) (va_recv hE.1 hP (ci := 6) (q0 := 0) rfl rfl)) rfl rfl hl.1 rfl (lv_room (Nat.le_of_ble_eq_true rfl)) dX6_comesAs_98 ⟨Nat.le_refl _, Nat.le_refl _⟩) hP hD hS hA [0, 1] rfl rfl (fun r_98 u H locs hq_98 hP hD hS => ?_)
  obtain ⟨tr2_98, tn2_98⟩ := u
  replace hP : va_P E.1 clA [(ad 30, .inr (6, [.ref (ad 0), .ref (ad 1), .int im, .ref (ad 3), .int at_, .int op, .int st_, .int us, .ref (ad 8), .ref (ad 9), .ref (ad 10), .ref (ad 11), .ref (ad 12), .ref (ad 13), .ref (ad 14), .int bn, .int bm, .ref (ad 17), .int la, .int fo, .int fi, .int lp, .ref (ad 22), .int (nI tn2_98), .int (nI sk), .int ip, .ref (ad 26), .ref (ad 27), .ref (ad 28), .ref (ad 29)])), (ad 22, .inl (E.2 0, 30, .inl tr2_98))] _ := hP
  replace hD : va_D A [(ad 30, .inr (6, [.ref (ad 0), .ref (ad 1), .int im, .ref (ad 3), .int at_, .int op, .int st_, .int us, .ref (ad 8), .ref (ad 9), .ref (ad 10), .ref (ad 11), .ref (ad 12), .ref (ad 13), .ref (ad 14), .int bn, .int bm, .ref (ad 17), .int la, .int fo, .int fi, .int lp, .ref (ad 22), .int (nI tn2_98), .int (nI sk), .int ip, .ref (ad 26), .ref (ad 27), .ref (ad 28), .ref (ad 29)])), (ad 22, .inl (E.2 0, 30, .inl tr2_98))] := hD
  replace hq_98 : r_98 = comesV 2 ow (nI sk) mm (x + 1) ∧ (tr2_98, tn2_98) = bgL (tr2_87, tn2_87) (comesB 2 ow) ∧ tn2_98 ≤ 30 := hq_98
  exact hret r_98 (tr2_98, tn2_98) (⟨by rw [hq_98.1]; rfl, by rw [hq_98.2.1, hq_87.1]; rfl, hq_98.2.2⟩) (rfl) hP hD hS (Nat.le_refl _) (Nat.le_refl _) dX6_comesAs_101
abbrev rmX6_givesAs0 : Room := { frames := 7, cells := 0, slots := 0, locals := 153 }
set_option maxHeartbeats 400000 in
set_option maxRecDepth 100000 in
theorem mX6_givesAs0 (l : Launch) (E : fx_En) (ad : Nat → Nat) (im : Int32) (at_ : Int32) (op : Int32) (st_ : Int32) (us : Int32) (bn : Int32) (bm : Int32) (la : Int32) (fo : Int32) (fi : Int32) (lp : Int32) (ip : Int32) (tn : Nat) (sk : Nat) (sa : Nat → Int32) (tr : Nat → Int32) (ow : Nat) (mm : Int32) (x : Int32) (htn : tn ≤ 30) (hsk : sk < 4) (hkd : sa (32 + 2 * sk) = nI ow) (hkd2 : ow ≤ 6) (hm : sa (32 + 2 * sk + 1) = mm) : fx_Mi l yX6_givesAs cX6_givesAs 3 .int rmX6_givesAs0 E [.ref (ad 30), .int 0, .int x] [(ad 30, .inr (6, [.ref (ad 0), .ref (ad 1), .int im, .ref (ad 3), .int at_, .int op, .int st_, .int us, .ref (ad 8), .ref (ad 9), .ref (ad 10), .ref (ad 11), .ref (ad 12), .ref (ad 13), .ref (ad 14), .int bn, .int bm, .ref (ad 17), .int la, .int fo, .int fi, .int lp, .ref (ad 22), .int (nI tn), .int (nI sk), .int ip, .ref (ad 26), .ref (ad 27), .ref (ad 28), .ref (ad 29)])), (ad 22, .inl (E.2 0, 30, .inl tr))] [(ad 0, .inl (E.2 0, 374, .inl sa))] (S := (Nat → Int32) × Nat) (fun (u : (Nat → Int32) × Nat) => [(ad 30, .inr (6, [.ref (ad 0), .ref (ad 1), .int im, .ref (ad 3), .int at_, .int op, .int st_, .int us, .ref (ad 8), .ref (ad 9), .ref (ad 10), .ref (ad 11), .ref (ad 12), .ref (ad 13), .ref (ad 14), .int bn, .int bm, .ref (ad 17), .int la, .int fo, .int fi, .int lp, .ref (ad 22), .int (nI u.2), .int (nI sk), .int ip, .ref (ad 26), .ref (ad 27), .ref (ad 28), .ref (ad 29)])), (ad 22, .inl (E.2 0, 30, .inl u.1))]) (fun (r : Int32) (u : (Nat → Int32) × Nat) => r = givesV 0 ow (nI sk) mm x ∧ (u.1, u.2) = bgL (tr, tn) (givesB 0 ow) ∧ u.2 ≤ 30) := by
  refine fx_iW rfl rfl ?_
  intro p e s m args below meth c A ls Q X hE hP hD hR hA hl hret
  have hx := X.1
  have hb := X.2.1
  have hS : va_S A s.heap s.heap [] := va_S.rf
  replace hP : va_P E.1 clA [(ad 30, .inr (6, [.ref (ad 0), .ref (ad 1), .int im, .ref (ad 3), .int at_, .int op, .int st_, .int us, .ref (ad 8), .ref (ad 9), .ref (ad 10), .ref (ad 11), .ref (ad 12), .ref (ad 13), .ref (ad 14), .int bn, .int bm, .ref (ad 17), .int la, .int fo, .int fi, .int lp, .ref (ad 22), .int (nI tn), .int (nI sk), .int ip, .ref (ad 26), .ref (ad 27), .ref (ad 28), .ref (ad 29)])), (ad 22, .inl (E.2 0, 30, .inl tr))] _ := hP
  replace hD : va_D A [(ad 30, .inr (6, [.ref (ad 0), .ref (ad 1), .int im, .ref (ad 3), .int at_, .int op, .int st_, .int us, .ref (ad 8), .ref (ad 9), .ref (ad 10), .ref (ad 11), .ref (ad 12), .ref (ad 13), .ref (ad 14), .int bn, .int bm, .ref (ad 17), .int la, .int fo, .int fi, .int lp, .ref (ad 22), .int (nI tn), .int (nI sk), .int ip, .ref (ad 26), .ref (ad 27), .ref (ad 28), .ref (ad 29)])), (ad 22, .inl (E.2 0, 30, .inl tr))] := hD
  replace hl : lv_has ls 3 [(0, .ref (ad 30)), (1, .int 0), (2, .int x)] := hl
  refine lv_iload_n hx hb dX6_givesAs_0 rfl (lv_at hl 1 rfl) ?_
  refine lv_lookup (tgt := 36) (off := 35) hx hb dX6_givesAs_1 (by decide) rfl (by decide) ?_
  refine lv_aload_n hx hb dX6_givesAs_36 rfl (lv_at hl 0 rfl) ?_
  refine lv_bipush (v := 12) hx hb dX6_givesAs_37 rfl ?_
  refine fx_cv (va_runV (As := [.int 12]) (rest := []) X (mX6_begins l E ad im at_ op st_ us bn bm la fo fi lp ip tn sk tr 12 (by first | assumption | omega) _) (cwV 1 X.2.2.2.2 (lw_V q1521 q1523 qs64 q75 q1524) rfl rfl rfl ⟨rfl, hdX6_begins⟩ ⟨Nat.le_of_ble_eq_true rfl, Nat.le_of_ble_eq_true rfl⟩) (fx_preV (fx_pre hE hP hD hS hR [0, 1] rfl rfl fx_rc0) (va_recv hE.1 hP (ci := 6) (q0 := 0) rfl rfl)) rfl rfl hl.1 rfl (lv_room (Nat.le_of_ble_eq_true rfl)) dX6_givesAs_39 ⟨Nat.le_refl _, Nat.le_refl _⟩) hP hD hS hA [0, 1] rfl rfl (fun u H locs hq_39 hP hD hS => ?_)
  obtain ⟨tr2_39, tn2_39⟩ := u
  replace hP : va_P E.1 clA [(ad 30, .inr (6, [.ref (ad 0), .ref (ad 1), .int im, .ref (ad 3), .int at_, .int op, .int st_, .int us, .ref (ad 8), .ref (ad 9), .ref (ad 10), .ref (ad 11), .ref (ad 12), .ref (ad 13), .ref (ad 14), .int bn, .int bm, .ref (ad 17), .int la, .int fo, .int fi, .int lp, .ref (ad 22), .int (nI tn2_39), .int (nI sk), .int ip, .ref (ad 26), .ref (ad 27), .ref (ad 28), .ref (ad 29)])), (ad 22, .inl (E.2 0, 30, .inl tr2_39))] _ := hP
  replace hD : va_D A [(ad 30, .inr (6, [.ref (ad 0), .ref (ad 1), .int im, .ref (ad 3), .int at_, .int op, .int st_, .int us, .ref (ad 8), .ref (ad 9), .ref (ad 10), .ref (ad 11), .ref (ad 12), .ref (ad 13), .ref (ad 14), .int bn, .int bm, .ref (ad 17), .int la, .int fo, .int fi, .int lp, .ref (ad 22), .int (nI tn2_39), .int (nI sk), .int ip, .ref (ad 26), .ref (ad 27), .ref (ad 28), .ref (ad 29)])), (ad 22, .inl (E.2 0, 30, .inl tr2_39))] := hD
  replace hq_39 : (tr2_39, tn2_39) = bg (tr, tn) 12 ∧ tn2_39 ≤ 30 := hq_39
  refine lv_aload_n hx hb dX6_givesAs_42 rfl (lv_at hl 0 rfl) ?_
  refine lv_aload_n hx hb dX6_givesAs_43 rfl (lv_at hl 0 rfl) ?_
  refine lv_aload_n hx hb dX6_givesAs_44 rfl (lv_at hl 0 rfl) ?_
  refine fx_get X hE hP 0 rfl rfl 24 rfl q1192 rfl rfl dX6_givesAs_45 ?_
  refine fx_ci (va_runV (As := [.int (nI sk)]) (rest := [.ref (ad 30)]) X (mX6_kindOf l E ad im at_ op st_ us bn bm la fo fi lp (nI tn2_39) (nI sk) ip sa sk hsk _) (cwV 1 X.2.2.2.2 (lw_V q1360 q1362 qs47 q75 q1363) rfl rfl rfl ⟨rfl, hdX6_kindOf⟩ ⟨Nat.le_of_ble_eq_true rfl, Nat.le_of_ble_eq_true rfl⟩) (fx_preV (fx_pre hE hP hD hS hR [] rfl rfl (fx_rcm 0 rfl (by decide) (fx_rcr 0 rfl fx_rc0))) (va_recv hE.1 hP (ci := 6) (q0 := 0) rfl rfl)) rfl rfl hl.1 rfl (lv_room (Nat.le_of_ble_eq_true rfl)) dX6_givesAs_48 ⟨Nat.le_refl _, Nat.le_refl _⟩) hP hD hS hA [] rfl rfl (fun r_48 u H locs hq_48 hP hD hS => ?_)
  replace hP : va_P E.1 clA [(ad 30, .inr (6, [.ref (ad 0), .ref (ad 1), .int im, .ref (ad 3), .int at_, .int op, .int st_, .int us, .ref (ad 8), .ref (ad 9), .ref (ad 10), .ref (ad 11), .ref (ad 12), .ref (ad 13), .ref (ad 14), .int bn, .int bm, .ref (ad 17), .int la, .int fo, .int fi, .int lp, .ref (ad 22), .int (nI tn2_39), .int (nI sk), .int ip, .ref (ad 26), .ref (ad 27), .ref (ad 28), .ref (ad 29)])), (ad 22, .inl (E.2 0, 30, .inl tr2_39))] _ := hP
  replace hD : va_D A [(ad 30, .inr (6, [.ref (ad 0), .ref (ad 1), .int im, .ref (ad 3), .int at_, .int op, .int st_, .int us, .ref (ad 8), .ref (ad 9), .ref (ad 10), .ref (ad 11), .ref (ad 12), .ref (ad 13), .ref (ad 14), .int bn, .int bm, .ref (ad 17), .int la, .int fo, .int fi, .int lp, .ref (ad 22), .int (nI tn2_39), .int (nI sk), .int ip, .ref (ad 26), .ref (ad 27), .ref (ad 28), .ref (ad 29)])), (ad 22, .inl (E.2 0, 30, .inl tr2_39))] := hD
  replace hq_48 : r_48 = sa (32 + 2 * sk) := hq_48
  refine fx_ti (show r_48 = nI ow from hq_48.trans hkd) ?_
  rcases kd7 hkd2 with rfl | rfl | rfl | rfl | rfl | rfl | rfl
  ·
    refine fx_ti (show nI 0 = 0 from rfl) ?_
    refine lv_iload_n hx hb dX6_givesAs_51 rfl (lv_at hl 2 rfl) ?_
    refine fx_ci (va_runV (As := [.int 0, .int x]) (rest := []) X (mX6_comesAs0 l E ad im at_ op st_ us bn bm la fo fi lp ip tn2_39 sk sa tr2_39 0 mm x (by first | assumption | omega) (by first | assumption | omega) (by first | assumption | omega) (by first | assumption | omega) (by first | assumption | omega) _) (cwV 2 X.2.2.2.2 (lw_V q1528 q1530 qs65 q75 q1531) rfl rfl rfl ⟨rfl, hdX6_comesAs⟩ ⟨Nat.le_of_ble_eq_true rfl, Nat.le_of_ble_eq_true rfl⟩) (fx_preV (fx_pre hE hP hD hS hR [0, 1] rfl rfl (fx_rcr 0 rfl fx_rc0)) (va_recv hE.1 hP (ci := 6) (q0 := 0) rfl rfl)) rfl rfl hl.1 rfl (lv_room (Nat.le_of_ble_eq_true rfl)) dX6_givesAs_52 ⟨Nat.le_refl _, Nat.le_refl _⟩) hP hD hS hA [0, 1] rfl rfl (fun r_52 u H locs hq_52 hP hD hS => ?_)
    obtain ⟨tr2_52, tn2_52⟩ := u
    replace hP : va_P E.1 clA [(ad 30, .inr (6, [.ref (ad 0), .ref (ad 1), .int im, .ref (ad 3), .int at_, .int op, .int st_, .int us, .ref (ad 8), .ref (ad 9), .ref (ad 10), .ref (ad 11), .ref (ad 12), .ref (ad 13), .ref (ad 14), .int bn, .int bm, .ref (ad 17), .int la, .int fo, .int fi, .int lp, .ref (ad 22), .int (nI tn2_52), .int (nI sk), .int ip, .ref (ad 26), .ref (ad 27), .ref (ad 28), .ref (ad 29)])), (ad 22, .inl (E.2 0, 30, .inl tr2_52))] _ := hP
    replace hD : va_D A [(ad 30, .inr (6, [.ref (ad 0), .ref (ad 1), .int im, .ref (ad 3), .int at_, .int op, .int st_, .int us, .ref (ad 8), .ref (ad 9), .ref (ad 10), .ref (ad 11), .ref (ad 12), .ref (ad 13), .ref (ad 14), .int bn, .int bm, .ref (ad 17), .int la, .int fo, .int fi, .int lp, .ref (ad 22), .int (nI tn2_52), .int (nI sk), .int ip, .ref (ad 26), .ref (ad 27), .ref (ad 28), .ref (ad 29)])), (ad 22, .inl (E.2 0, 30, .inl tr2_52))] := hD
    replace hq_52 : r_52 = comesV 0 0 (nI sk) mm x ∧ (tr2_52, tn2_52) = bgL (tr2_39, tn2_39) (comesB 0 0) ∧ tn2_52 ≤ 30 := hq_52
    refine lv_aload_n hx hb dX6_givesAs_55 rfl (lv_at hl 0 rfl) ?_
    refine lv_aload_n hx hb dX6_givesAs_56 rfl (lv_at hl 0 rfl) ?_
    refine fx_get X hE hP 0 rfl rfl 24 rfl q1192 rfl rfl dX6_givesAs_57 ?_
    refine fx_ci (va_runV (As := [.int (nI sk)]) (rest := [.int r_52]) X (mX6_mOf l E ad im at_ op st_ us bn bm la fo fi lp (nI tn2_52) (nI sk) ip sa sk hsk _) (cwV 1 X.2.2.2.2 (lw_V q1364 q1366 qs48 q75 q1367) rfl rfl rfl ⟨rfl, hdX6_mOf⟩ ⟨Nat.le_of_ble_eq_true rfl, Nat.le_of_ble_eq_true rfl⟩) (fx_preV (fx_pre hE hP hD hS hR [] rfl rfl (fx_rcm 0 rfl (by decide) (fx_rcr 0 rfl fx_rc0))) (va_recv hE.1 hP (ci := 6) (q0 := 0) rfl rfl)) rfl rfl hl.1 rfl (lv_room (Nat.le_of_ble_eq_true rfl)) dX6_givesAs_60 ⟨Nat.le_refl _, Nat.le_refl _⟩) hP hD hS hA [] rfl rfl (fun r_60 u H locs hq_60 hP hD hS => ?_)
    replace hP : va_P E.1 clA [(ad 30, .inr (6, [.ref (ad 0), .ref (ad 1), .int im, .ref (ad 3), .int at_, .int op, .int st_, .int us, .ref (ad 8), .ref (ad 9), .ref (ad 10), .ref (ad 11), .ref (ad 12), .ref (ad 13), .ref (ad 14), .int bn, .int bm, .ref (ad 17), .int la, .int fo, .int fi, .int lp, .ref (ad 22), .int (nI tn2_52), .int (nI sk), .int ip, .ref (ad 26), .ref (ad 27), .ref (ad 28), .ref (ad 29)])), (ad 22, .inl (E.2 0, 30, .inl tr2_52))] _ := hP
    replace hD : va_D A [(ad 30, .inr (6, [.ref (ad 0), .ref (ad 1), .int im, .ref (ad 3), .int at_, .int op, .int st_, .int us, .ref (ad 8), .ref (ad 9), .ref (ad 10), .ref (ad 11), .ref (ad 12), .ref (ad 13), .ref (ad 14), .int bn, .int bm, .ref (ad 17), .int la, .int fo, .int fi, .int lp, .ref (ad 22), .int (nI tn2_52), .int (nI sk), .int ip, .ref (ad 26), .ref (ad 27), .ref (ad 28), .ref (ad 29)])), (ad 22, .inl (E.2 0, 30, .inl tr2_52))] := hD
    replace hq_60 : r_60 = sa (32 + 2 * sk + 1) := hq_60
    refine fx_ti (show r_60 = mm from hq_60.trans hm) ?_
    refine lv_isub hx hb dX6_givesAs_63 ?_
    exact hret (r_52 - mm) (tr2_52, tn2_52) (⟨by rw [hq_52.1]; rfl, by rw [hq_52.2.1, hq_39.1]; rfl, hq_52.2.2⟩) (rfl) hP hD hS (Nat.le_refl _) (Nat.le_refl _) dX6_givesAs_64
  ·
    refine fx_ti (show nI 1 = 1 from rfl) ?_
    refine lv_iload_n hx hb dX6_givesAs_51 rfl (lv_at hl 2 rfl) ?_
    refine fx_ci (va_runV (As := [.int 1, .int x]) (rest := []) X (mX6_comesAs1 l E ad im at_ op st_ us bn bm la fo fi lp ip tn2_39 sk sa tr2_39 1 mm x (by first | assumption | omega) (by first | assumption | omega) (by first | assumption | omega) (by first | assumption | omega) (by first | assumption | omega) _) (cwV 2 X.2.2.2.2 (lw_V q1528 q1530 qs65 q75 q1531) rfl rfl rfl ⟨rfl, hdX6_comesAs⟩ ⟨Nat.le_of_ble_eq_true rfl, Nat.le_of_ble_eq_true rfl⟩) (fx_preV (fx_pre hE hP hD hS hR [0, 1] rfl rfl (fx_rcr 0 rfl fx_rc0)) (va_recv hE.1 hP (ci := 6) (q0 := 0) rfl rfl)) rfl rfl hl.1 rfl (lv_room (Nat.le_of_ble_eq_true rfl)) dX6_givesAs_52 ⟨Nat.le_refl _, Nat.le_refl _⟩) hP hD hS hA [0, 1] rfl rfl (fun r_52 u H locs hq_52 hP hD hS => ?_)
    obtain ⟨tr2_52, tn2_52⟩ := u
    replace hP : va_P E.1 clA [(ad 30, .inr (6, [.ref (ad 0), .ref (ad 1), .int im, .ref (ad 3), .int at_, .int op, .int st_, .int us, .ref (ad 8), .ref (ad 9), .ref (ad 10), .ref (ad 11), .ref (ad 12), .ref (ad 13), .ref (ad 14), .int bn, .int bm, .ref (ad 17), .int la, .int fo, .int fi, .int lp, .ref (ad 22), .int (nI tn2_52), .int (nI sk), .int ip, .ref (ad 26), .ref (ad 27), .ref (ad 28), .ref (ad 29)])), (ad 22, .inl (E.2 0, 30, .inl tr2_52))] _ := hP
    replace hD : va_D A [(ad 30, .inr (6, [.ref (ad 0), .ref (ad 1), .int im, .ref (ad 3), .int at_, .int op, .int st_, .int us, .ref (ad 8), .ref (ad 9), .ref (ad 10), .ref (ad 11), .ref (ad 12), .ref (ad 13), .ref (ad 14), .int bn, .int bm, .ref (ad 17), .int la, .int fo, .int fi, .int lp, .ref (ad 22), .int (nI tn2_52), .int (nI sk), .int ip, .ref (ad 26), .ref (ad 27), .ref (ad 28), .ref (ad 29)])), (ad 22, .inl (E.2 0, 30, .inl tr2_52))] := hD
    replace hq_52 : r_52 = comesV 1 1 (nI sk) mm x ∧ (tr2_52, tn2_52) = bgL (tr2_39, tn2_39) (comesB 1 1) ∧ tn2_52 ≤ 30 := hq_52
    refine lv_aload_n hx hb dX6_givesAs_55 rfl (lv_at hl 0 rfl) ?_
    refine lv_aload_n hx hb dX6_givesAs_56 rfl (lv_at hl 0 rfl) ?_
    refine fx_get X hE hP 0 rfl rfl 24 rfl q1192 rfl rfl dX6_givesAs_57 ?_
    refine fx_ci (va_runV (As := [.int (nI sk)]) (rest := [.int r_52]) X (mX6_mOf l E ad im at_ op st_ us bn bm la fo fi lp (nI tn2_52) (nI sk) ip sa sk hsk _) (cwV 1 X.2.2.2.2 (lw_V q1364 q1366 qs48 q75 q1367) rfl rfl rfl ⟨rfl, hdX6_mOf⟩ ⟨Nat.le_of_ble_eq_true rfl, Nat.le_of_ble_eq_true rfl⟩) (fx_preV (fx_pre hE hP hD hS hR [] rfl rfl (fx_rcm 0 rfl (by decide) (fx_rcr 0 rfl fx_rc0))) (va_recv hE.1 hP (ci := 6) (q0 := 0) rfl rfl)) rfl rfl hl.1 rfl (lv_room (Nat.le_of_ble_eq_true rfl)) dX6_givesAs_60 ⟨Nat.le_refl _, Nat.le_refl _⟩) hP hD hS hA [] rfl rfl (fun r_60 u H locs hq_60 hP hD hS => ?_)
    replace hP : va_P E.1 clA [(ad 30, .inr (6, [.ref (ad 0), .ref (ad 1), .int im, .ref (ad 3), .int at_, .int op, .int st_, .int us, .ref (ad 8), .ref (ad 9), .ref (ad 10), .ref (ad 11), .ref (ad 12), .ref (ad 13), .ref (ad 14), .int bn, .int bm, .ref (ad 17), .int la, .int fo, .int fi, .int lp, .ref (ad 22), .int (nI tn2_52), .int (nI sk), .int ip, .ref (ad 26), .ref (ad 27), .ref (ad 28), .ref (ad 29)])), (ad 22, .inl (E.2 0, 30, .inl tr2_52))] _ := hP
    replace hD : va_D A [(ad 30, .inr (6, [.ref (ad 0), .ref (ad 1), .int im, .ref (ad 3), .int at_, .int op, .int st_, .int us, .ref (ad 8), .ref (ad 9), .ref (ad 10), .ref (ad 11), .ref (ad 12), .ref (ad 13), .ref (ad 14), .int bn, .int bm, .ref (ad 17), .int la, .int fo, .int fi, .int lp, .ref (ad 22), .int (nI tn2_52), .int (nI sk), .int ip, .ref (ad 26), .ref (ad 27), .ref (ad 28), .ref (ad 29)])), (ad 22, .inl (E.2 0, 30, .inl tr2_52))] := hD
    replace hq_60 : r_60 = sa (32 + 2 * sk + 1) := hq_60
    refine fx_ti (show r_60 = mm from hq_60.trans hm) ?_
    refine lv_isub hx hb dX6_givesAs_63 ?_
    exact hret (r_52 - mm) (tr2_52, tn2_52) (⟨by rw [hq_52.1]; rfl, by rw [hq_52.2.1, hq_39.1]; rfl, hq_52.2.2⟩) (rfl) hP hD hS (Nat.le_refl _) (Nat.le_refl _) dX6_givesAs_64
  ·
    refine fx_ti (show nI 2 = 2 from rfl) ?_
    refine lv_iload_n hx hb dX6_givesAs_51 rfl (lv_at hl 2 rfl) ?_
    refine fx_ci (va_runV (As := [.int 2, .int x]) (rest := []) X (mX6_comesAs2 l E ad im at_ op st_ us bn bm la fo fi lp ip tn2_39 sk sa tr2_39 2 mm x (by first | assumption | omega) (by first | assumption | omega) (by first | assumption | omega) (by first | assumption | omega) (by first | assumption | omega) _) (cwV 2 X.2.2.2.2 (lw_V q1528 q1530 qs65 q75 q1531) rfl rfl rfl ⟨rfl, hdX6_comesAs⟩ ⟨Nat.le_of_ble_eq_true rfl, Nat.le_of_ble_eq_true rfl⟩) (fx_preV (fx_pre hE hP hD hS hR [0, 1] rfl rfl (fx_rcr 0 rfl fx_rc0)) (va_recv hE.1 hP (ci := 6) (q0 := 0) rfl rfl)) rfl rfl hl.1 rfl (lv_room (Nat.le_of_ble_eq_true rfl)) dX6_givesAs_52 ⟨Nat.le_refl _, Nat.le_refl _⟩) hP hD hS hA [0, 1] rfl rfl (fun r_52 u H locs hq_52 hP hD hS => ?_)
    obtain ⟨tr2_52, tn2_52⟩ := u
    replace hP : va_P E.1 clA [(ad 30, .inr (6, [.ref (ad 0), .ref (ad 1), .int im, .ref (ad 3), .int at_, .int op, .int st_, .int us, .ref (ad 8), .ref (ad 9), .ref (ad 10), .ref (ad 11), .ref (ad 12), .ref (ad 13), .ref (ad 14), .int bn, .int bm, .ref (ad 17), .int la, .int fo, .int fi, .int lp, .ref (ad 22), .int (nI tn2_52), .int (nI sk), .int ip, .ref (ad 26), .ref (ad 27), .ref (ad 28), .ref (ad 29)])), (ad 22, .inl (E.2 0, 30, .inl tr2_52))] _ := hP
    replace hD : va_D A [(ad 30, .inr (6, [.ref (ad 0), .ref (ad 1), .int im, .ref (ad 3), .int at_, .int op, .int st_, .int us, .ref (ad 8), .ref (ad 9), .ref (ad 10), .ref (ad 11), .ref (ad 12), .ref (ad 13), .ref (ad 14), .int bn, .int bm, .ref (ad 17), .int la, .int fo, .int fi, .int lp, .ref (ad 22), .int (nI tn2_52), .int (nI sk), .int ip, .ref (ad 26), .ref (ad 27), .ref (ad 28), .ref (ad 29)])), (ad 22, .inl (E.2 0, 30, .inl tr2_52))] := hD
    replace hq_52 : r_52 = comesV 2 2 (nI sk) mm x ∧ (tr2_52, tn2_52) = bgL (tr2_39, tn2_39) (comesB 2 2) ∧ tn2_52 ≤ 30 := hq_52
    refine lv_aload_n hx hb dX6_givesAs_55 rfl (lv_at hl 0 rfl) ?_
    refine lv_aload_n hx hb dX6_givesAs_56 rfl (lv_at hl 0 rfl) ?_
    refine fx_get X hE hP 0 rfl rfl 24 rfl q1192 rfl rfl dX6_givesAs_57 ?_
    refine fx_ci (va_runV (As := [.int (nI sk)]) (rest := [.int r_52]) X (mX6_mOf l E ad im at_ op st_ us bn bm la fo fi lp (nI tn2_52) (nI sk) ip sa sk hsk _) (cwV 1 X.2.2.2.2 (lw_V q1364 q1366 qs48 q75 q1367) rfl rfl rfl ⟨rfl, hdX6_mOf⟩ ⟨Nat.le_of_ble_eq_true rfl, Nat.le_of_ble_eq_true rfl⟩) (fx_preV (fx_pre hE hP hD hS hR [] rfl rfl (fx_rcm 0 rfl (by decide) (fx_rcr 0 rfl fx_rc0))) (va_recv hE.1 hP (ci := 6) (q0 := 0) rfl rfl)) rfl rfl hl.1 rfl (lv_room (Nat.le_of_ble_eq_true rfl)) dX6_givesAs_60 ⟨Nat.le_refl _, Nat.le_refl _⟩) hP hD hS hA [] rfl rfl (fun r_60 u H locs hq_60 hP hD hS => ?_)
    replace hP : va_P E.1 clA [(ad 30, .inr (6, [.ref (ad 0), .ref (ad 1), .int im, .ref (ad 3), .int at_, .int op, .int st_, .int us, .ref (ad 8), .ref (ad 9), .ref (ad 10), .ref (ad 11), .ref (ad 12), .ref (ad 13), .ref (ad 14), .int bn, .int bm, .ref (ad 17), .int la, .int fo, .int fi, .int lp, .ref (ad 22), .int (nI tn2_52), .int (nI sk), .int ip, .ref (ad 26), .ref (ad 27), .ref (ad 28), .ref (ad 29)])), (ad 22, .inl (E.2 0, 30, .inl tr2_52))] _ := hP
    replace hD : va_D A [(ad 30, .inr (6, [.ref (ad 0), .ref (ad 1), .int im, .ref (ad 3), .int at_, .int op, .int st_, .int us, .ref (ad 8), .ref (ad 9), .ref (ad 10), .ref (ad 11), .ref (ad 12), .ref (ad 13), .ref (ad 14), .int bn, .int bm, .ref (ad 17), .int la, .int fo, .int fi, .int lp, .ref (ad 22), .int (nI tn2_52), .int (nI sk), .int ip, .ref (ad 26), .ref (ad 27), .ref (ad 28), .ref (ad 29)])), (ad 22, .inl (E.2 0, 30, .inl tr2_52))] := hD
    replace hq_60 : r_60 = sa (32 + 2 * sk + 1) := hq_60
    refine fx_ti (show r_60 = mm from hq_60.trans hm) ?_
    refine lv_isub hx hb dX6_givesAs_63 ?_
    exact hret (r_52 - mm) (tr2_52, tn2_52) (⟨by rw [hq_52.1]; rfl, by rw [hq_52.2.1, hq_39.1]; rfl, hq_52.2.2⟩) (rfl) hP hD hS (Nat.le_refl _) (Nat.le_refl _) dX6_givesAs_64
  ·
    refine fx_ti (show nI 3 = 3 from rfl) ?_
    refine lv_iload_n hx hb dX6_givesAs_51 rfl (lv_at hl 2 rfl) ?_
    refine fx_ci (va_runV (As := [.int 3, .int x]) (rest := []) X (mX6_comesAs3 l E ad im at_ op st_ us bn bm la fo fi lp ip tn2_39 sk sa tr2_39 3 mm x (by first | assumption | omega) (by first | assumption | omega) (by first | assumption | omega) (by first | assumption | omega) (by first | assumption | omega) _) (cwV 2 X.2.2.2.2 (lw_V q1528 q1530 qs65 q75 q1531) rfl rfl rfl ⟨rfl, hdX6_comesAs⟩ ⟨Nat.le_of_ble_eq_true rfl, Nat.le_of_ble_eq_true rfl⟩) (fx_preV (fx_pre hE hP hD hS hR [0, 1] rfl rfl (fx_rcr 0 rfl fx_rc0)) (va_recv hE.1 hP (ci := 6) (q0 := 0) rfl rfl)) rfl rfl hl.1 rfl (lv_room (Nat.le_of_ble_eq_true rfl)) dX6_givesAs_52 ⟨Nat.le_refl _, Nat.le_refl _⟩) hP hD hS hA [0, 1] rfl rfl (fun r_52 u H locs hq_52 hP hD hS => ?_)
    obtain ⟨tr2_52, tn2_52⟩ := u
    replace hP : va_P E.1 clA [(ad 30, .inr (6, [.ref (ad 0), .ref (ad 1), .int im, .ref (ad 3), .int at_, .int op, .int st_, .int us, .ref (ad 8), .ref (ad 9), .ref (ad 10), .ref (ad 11), .ref (ad 12), .ref (ad 13), .ref (ad 14), .int bn, .int bm, .ref (ad 17), .int la, .int fo, .int fi, .int lp, .ref (ad 22), .int (nI tn2_52), .int (nI sk), .int ip, .ref (ad 26), .ref (ad 27), .ref (ad 28), .ref (ad 29)])), (ad 22, .inl (E.2 0, 30, .inl tr2_52))] _ := hP
    replace hD : va_D A [(ad 30, .inr (6, [.ref (ad 0), .ref (ad 1), .int im, .ref (ad 3), .int at_, .int op, .int st_, .int us, .ref (ad 8), .ref (ad 9), .ref (ad 10), .ref (ad 11), .ref (ad 12), .ref (ad 13), .ref (ad 14), .int bn, .int bm, .ref (ad 17), .int la, .int fo, .int fi, .int lp, .ref (ad 22), .int (nI tn2_52), .int (nI sk), .int ip, .ref (ad 26), .ref (ad 27), .ref (ad 28), .ref (ad 29)])), (ad 22, .inl (E.2 0, 30, .inl tr2_52))] := hD
    replace hq_52 : r_52 = comesV 3 3 (nI sk) mm x ∧ (tr2_52, tn2_52) = bgL (tr2_39, tn2_39) (comesB 3 3) ∧ tn2_52 ≤ 30 := hq_52
    refine lv_aload_n hx hb dX6_givesAs_55 rfl (lv_at hl 0 rfl) ?_
    refine lv_aload_n hx hb dX6_givesAs_56 rfl (lv_at hl 0 rfl) ?_
    refine fx_get X hE hP 0 rfl rfl 24 rfl q1192 rfl rfl dX6_givesAs_57 ?_
    refine fx_ci (va_runV (As := [.int (nI sk)]) (rest := [.int r_52]) X (mX6_mOf l E ad im at_ op st_ us bn bm la fo fi lp (nI tn2_52) (nI sk) ip sa sk hsk _) (cwV 1 X.2.2.2.2 (lw_V q1364 q1366 qs48 q75 q1367) rfl rfl rfl ⟨rfl, hdX6_mOf⟩ ⟨Nat.le_of_ble_eq_true rfl, Nat.le_of_ble_eq_true rfl⟩) (fx_preV (fx_pre hE hP hD hS hR [] rfl rfl (fx_rcm 0 rfl (by decide) (fx_rcr 0 rfl fx_rc0))) (va_recv hE.1 hP (ci := 6) (q0 := 0) rfl rfl)) rfl rfl hl.1 rfl (lv_room (Nat.le_of_ble_eq_true rfl)) dX6_givesAs_60 ⟨Nat.le_refl _, Nat.le_refl _⟩) hP hD hS hA [] rfl rfl (fun r_60 u H locs hq_60 hP hD hS => ?_)
    replace hP : va_P E.1 clA [(ad 30, .inr (6, [.ref (ad 0), .ref (ad 1), .int im, .ref (ad 3), .int at_, .int op, .int st_, .int us, .ref (ad 8), .ref (ad 9), .ref (ad 10), .ref (ad 11), .ref (ad 12), .ref (ad 13), .ref (ad 14), .int bn, .int bm, .ref (ad 17), .int la, .int fo, .int fi, .int lp, .ref (ad 22), .int (nI tn2_52), .int (nI sk), .int ip, .ref (ad 26), .ref (ad 27), .ref (ad 28), .ref (ad 29)])), (ad 22, .inl (E.2 0, 30, .inl tr2_52))] _ := hP
    replace hD : va_D A [(ad 30, .inr (6, [.ref (ad 0), .ref (ad 1), .int im, .ref (ad 3), .int at_, .int op, .int st_, .int us, .ref (ad 8), .ref (ad 9), .ref (ad 10), .ref (ad 11), .ref (ad 12), .ref (ad 13), .ref (ad 14), .int bn, .int bm, .ref (ad 17), .int la, .int fo, .int fi, .int lp, .ref (ad 22), .int (nI tn2_52), .int (nI sk), .int ip, .ref (ad 26), .ref (ad 27), .ref (ad 28), .ref (ad 29)])), (ad 22, .inl (E.2 0, 30, .inl tr2_52))] := hD
    replace hq_60 : r_60 = sa (32 + 2 * sk + 1) := hq_60
    refine fx_ti (show r_60 = mm from hq_60.trans hm) ?_
    refine lv_isub hx hb dX6_givesAs_63 ?_
    exact hret (r_52 - mm) (tr2_52, tn2_52) (⟨by rw [hq_52.1]; rfl, by rw [hq_52.2.1, hq_39.1]; rfl, hq_52.2.2⟩) (rfl) hP hD hS (Nat.le_refl _) (Nat.le_refl _) dX6_givesAs_64
  ·
    refine fx_ti (show nI 4 = 4 from rfl) ?_
    refine lv_iload_n hx hb dX6_givesAs_51 rfl (lv_at hl 2 rfl) ?_
    refine fx_ci (va_runV (As := [.int 4, .int x]) (rest := []) X (mX6_comesAs4 l E ad im at_ op st_ us bn bm la fo fi lp ip tn2_39 sk sa tr2_39 4 mm x (by first | assumption | omega) (by first | assumption | omega) (by first | assumption | omega) (by first | assumption | omega) (by first | assumption | omega) _) (cwV 2 X.2.2.2.2 (lw_V q1528 q1530 qs65 q75 q1531) rfl rfl rfl ⟨rfl, hdX6_comesAs⟩ ⟨Nat.le_of_ble_eq_true rfl, Nat.le_of_ble_eq_true rfl⟩) (fx_preV (fx_pre hE hP hD hS hR [0, 1] rfl rfl (fx_rcr 0 rfl fx_rc0)) (va_recv hE.1 hP (ci := 6) (q0 := 0) rfl rfl)) rfl rfl hl.1 rfl (lv_room (Nat.le_of_ble_eq_true rfl)) dX6_givesAs_52 ⟨Nat.le_refl _, Nat.le_refl _⟩) hP hD hS hA [0, 1] rfl rfl (fun r_52 u H locs hq_52 hP hD hS => ?_)
    obtain ⟨tr2_52, tn2_52⟩ := u
    replace hP : va_P E.1 clA [(ad 30, .inr (6, [.ref (ad 0), .ref (ad 1), .int im, .ref (ad 3), .int at_, .int op, .int st_, .int us, .ref (ad 8), .ref (ad 9), .ref (ad 10), .ref (ad 11), .ref (ad 12), .ref (ad 13), .ref (ad 14), .int bn, .int bm, .ref (ad 17), .int la, .int fo, .int fi, .int lp, .ref (ad 22), .int (nI tn2_52), .int (nI sk), .int ip, .ref (ad 26), .ref (ad 27), .ref (ad 28), .ref (ad 29)])), (ad 22, .inl (E.2 0, 30, .inl tr2_52))] _ := hP
    replace hD : va_D A [(ad 30, .inr (6, [.ref (ad 0), .ref (ad 1), .int im, .ref (ad 3), .int at_, .int op, .int st_, .int us, .ref (ad 8), .ref (ad 9), .ref (ad 10), .ref (ad 11), .ref (ad 12), .ref (ad 13), .ref (ad 14), .int bn, .int bm, .ref (ad 17), .int la, .int fo, .int fi, .int lp, .ref (ad 22), .int (nI tn2_52), .int (nI sk), .int ip, .ref (ad 26), .ref (ad 27), .ref (ad 28), .ref (ad 29)])), (ad 22, .inl (E.2 0, 30, .inl tr2_52))] := hD
    replace hq_52 : r_52 = comesV 4 4 (nI sk) mm x ∧ (tr2_52, tn2_52) = bgL (tr2_39, tn2_39) (comesB 4 4) ∧ tn2_52 ≤ 30 := hq_52
    refine lv_aload_n hx hb dX6_givesAs_55 rfl (lv_at hl 0 rfl) ?_
    refine lv_aload_n hx hb dX6_givesAs_56 rfl (lv_at hl 0 rfl) ?_
    refine fx_get X hE hP 0 rfl rfl 24 rfl q1192 rfl rfl dX6_givesAs_57 ?_
    refine fx_ci (va_runV (As := [.int (nI sk)]) (rest := [.int r_52]) X (mX6_mOf l E ad im at_ op st_ us bn bm la fo fi lp (nI tn2_52) (nI sk) ip sa sk hsk _) (cwV 1 X.2.2.2.2 (lw_V q1364 q1366 qs48 q75 q1367) rfl rfl rfl ⟨rfl, hdX6_mOf⟩ ⟨Nat.le_of_ble_eq_true rfl, Nat.le_of_ble_eq_true rfl⟩) (fx_preV (fx_pre hE hP hD hS hR [] rfl rfl (fx_rcm 0 rfl (by decide) (fx_rcr 0 rfl fx_rc0))) (va_recv hE.1 hP (ci := 6) (q0 := 0) rfl rfl)) rfl rfl hl.1 rfl (lv_room (Nat.le_of_ble_eq_true rfl)) dX6_givesAs_60 ⟨Nat.le_refl _, Nat.le_refl _⟩) hP hD hS hA [] rfl rfl (fun r_60 u H locs hq_60 hP hD hS => ?_)
    replace hP : va_P E.1 clA [(ad 30, .inr (6, [.ref (ad 0), .ref (ad 1), .int im, .ref (ad 3), .int at_, .int op, .int st_, .int us, .ref (ad 8), .ref (ad 9), .ref (ad 10), .ref (ad 11), .ref (ad 12), .ref (ad 13), .ref (ad 14), .int bn, .int bm, .ref (ad 17), .int la, .int fo, .int fi, .int lp, .ref (ad 22), .int (nI tn2_52), .int (nI sk), .int ip, .ref (ad 26), .ref (ad 27), .ref (ad 28), .ref (ad 29)])), (ad 22, .inl (E.2 0, 30, .inl tr2_52))] _ := hP
    replace hD : va_D A [(ad 30, .inr (6, [.ref (ad 0), .ref (ad 1), .int im, .ref (ad 3), .int at_, .int op, .int st_, .int us, .ref (ad 8), .ref (ad 9), .ref (ad 10), .ref (ad 11), .ref (ad 12), .ref (ad 13), .ref (ad 14), .int bn, .int bm, .ref (ad 17), .int la, .int fo, .int fi, .int lp, .ref (ad 22), .int (nI tn2_52), .int (nI sk), .int ip, .ref (ad 26), .ref (ad 27), .ref (ad 28), .ref (ad 29)])), (ad 22, .inl (E.2 0, 30, .inl tr2_52))] := hD
    replace hq_60 : r_60 = sa (32 + 2 * sk + 1) := hq_60
    refine fx_ti (show r_60 = mm from hq_60.trans hm) ?_
    refine lv_isub hx hb dX6_givesAs_63 ?_
    exact hret (r_52 - mm) (tr2_52, tn2_52) (⟨by rw [hq_52.1]; rfl, by rw [hq_52.2.1, hq_39.1]; rfl, hq_52.2.2⟩) (rfl) hP hD hS (Nat.le_refl _) (Nat.le_refl _) dX6_givesAs_64
  ·
    refine fx_ti (show nI 5 = 5 from rfl) ?_
    refine lv_iload_n hx hb dX6_givesAs_51 rfl (lv_at hl 2 rfl) ?_
    refine fx_ci (va_runV (As := [.int 5, .int x]) (rest := []) X (mX6_comesAs5 l E ad im at_ op st_ us bn bm la fo fi lp ip tn2_39 sk sa tr2_39 5 mm x (by first | assumption | omega) (by first | assumption | omega) (by first | assumption | omega) (by first | assumption | omega) (by first | assumption | omega) _) (cwV 2 X.2.2.2.2 (lw_V q1528 q1530 qs65 q75 q1531) rfl rfl rfl ⟨rfl, hdX6_comesAs⟩ ⟨Nat.le_of_ble_eq_true rfl, Nat.le_of_ble_eq_true rfl⟩) (fx_preV (fx_pre hE hP hD hS hR [0, 1] rfl rfl (fx_rcr 0 rfl fx_rc0)) (va_recv hE.1 hP (ci := 6) (q0 := 0) rfl rfl)) rfl rfl hl.1 rfl (lv_room (Nat.le_of_ble_eq_true rfl)) dX6_givesAs_52 ⟨Nat.le_refl _, Nat.le_refl _⟩) hP hD hS hA [0, 1] rfl rfl (fun r_52 u H locs hq_52 hP hD hS => ?_)
    obtain ⟨tr2_52, tn2_52⟩ := u
    replace hP : va_P E.1 clA [(ad 30, .inr (6, [.ref (ad 0), .ref (ad 1), .int im, .ref (ad 3), .int at_, .int op, .int st_, .int us, .ref (ad 8), .ref (ad 9), .ref (ad 10), .ref (ad 11), .ref (ad 12), .ref (ad 13), .ref (ad 14), .int bn, .int bm, .ref (ad 17), .int la, .int fo, .int fi, .int lp, .ref (ad 22), .int (nI tn2_52), .int (nI sk), .int ip, .ref (ad 26), .ref (ad 27), .ref (ad 28), .ref (ad 29)])), (ad 22, .inl (E.2 0, 30, .inl tr2_52))] _ := hP
    replace hD : va_D A [(ad 30, .inr (6, [.ref (ad 0), .ref (ad 1), .int im, .ref (ad 3), .int at_, .int op, .int st_, .int us, .ref (ad 8), .ref (ad 9), .ref (ad 10), .ref (ad 11), .ref (ad 12), .ref (ad 13), .ref (ad 14), .int bn, .int bm, .ref (ad 17), .int la, .int fo, .int fi, .int lp, .ref (ad 22), .int (nI tn2_52), .int (nI sk), .int ip, .ref (ad 26), .ref (ad 27), .ref (ad 28), .ref (ad 29)])), (ad 22, .inl (E.2 0, 30, .inl tr2_52))] := hD
    replace hq_52 : r_52 = comesV 5 5 (nI sk) mm x ∧ (tr2_52, tn2_52) = bgL (tr2_39, tn2_39) (comesB 5 5) ∧ tn2_52 ≤ 30 := hq_52
    refine lv_aload_n hx hb dX6_givesAs_55 rfl (lv_at hl 0 rfl) ?_
    refine lv_aload_n hx hb dX6_givesAs_56 rfl (lv_at hl 0 rfl) ?_
    refine fx_get X hE hP 0 rfl rfl 24 rfl q1192 rfl rfl dX6_givesAs_57 ?_
    refine fx_ci (va_runV (As := [.int (nI sk)]) (rest := [.int r_52]) X (mX6_mOf l E ad im at_ op st_ us bn bm la fo fi lp (nI tn2_52) (nI sk) ip sa sk hsk _) (cwV 1 X.2.2.2.2 (lw_V q1364 q1366 qs48 q75 q1367) rfl rfl rfl ⟨rfl, hdX6_mOf⟩ ⟨Nat.le_of_ble_eq_true rfl, Nat.le_of_ble_eq_true rfl⟩) (fx_preV (fx_pre hE hP hD hS hR [] rfl rfl (fx_rcm 0 rfl (by decide) (fx_rcr 0 rfl fx_rc0))) (va_recv hE.1 hP (ci := 6) (q0 := 0) rfl rfl)) rfl rfl hl.1 rfl (lv_room (Nat.le_of_ble_eq_true rfl)) dX6_givesAs_60 ⟨Nat.le_refl _, Nat.le_refl _⟩) hP hD hS hA [] rfl rfl (fun r_60 u H locs hq_60 hP hD hS => ?_)
    replace hP : va_P E.1 clA [(ad 30, .inr (6, [.ref (ad 0), .ref (ad 1), .int im, .ref (ad 3), .int at_, .int op, .int st_, .int us, .ref (ad 8), .ref (ad 9), .ref (ad 10), .ref (ad 11), .ref (ad 12), .ref (ad 13), .ref (ad 14), .int bn, .int bm, .ref (ad 17), .int la, .int fo, .int fi, .int lp, .ref (ad 22), .int (nI tn2_52), .int (nI sk), .int ip, .ref (ad 26), .ref (ad 27), .ref (ad 28), .ref (ad 29)])), (ad 22, .inl (E.2 0, 30, .inl tr2_52))] _ := hP
    replace hD : va_D A [(ad 30, .inr (6, [.ref (ad 0), .ref (ad 1), .int im, .ref (ad 3), .int at_, .int op, .int st_, .int us, .ref (ad 8), .ref (ad 9), .ref (ad 10), .ref (ad 11), .ref (ad 12), .ref (ad 13), .ref (ad 14), .int bn, .int bm, .ref (ad 17), .int la, .int fo, .int fi, .int lp, .ref (ad 22), .int (nI tn2_52), .int (nI sk), .int ip, .ref (ad 26), .ref (ad 27), .ref (ad 28), .ref (ad 29)])), (ad 22, .inl (E.2 0, 30, .inl tr2_52))] := hD
    replace hq_60 : r_60 = sa (32 + 2 * sk + 1) := hq_60
    refine fx_ti (show r_60 = mm from hq_60.trans hm) ?_
    refine lv_isub hx hb dX6_givesAs_63 ?_
    exact hret (r_52 - mm) (tr2_52, tn2_52) (⟨by rw [hq_52.1]; rfl, by rw [hq_52.2.1, hq_39.1]; rfl, hq_52.2.2⟩) (rfl) hP hD hS (Nat.le_refl _) (Nat.le_refl _) dX6_givesAs_64
  ·
    refine fx_ti (show nI 6 = 6 from rfl) ?_
    refine lv_iload_n hx hb dX6_givesAs_51 rfl (lv_at hl 2 rfl) ?_
    refine fx_ci (va_runV (As := [.int 6, .int x]) (rest := []) X (mX6_comesAs6 l E ad im at_ op st_ us bn bm la fo fi lp ip tn2_39 sk sa tr2_39 6 mm x (by first | assumption | omega) (by first | assumption | omega) (by first | assumption | omega) (by first | assumption | omega) (by first | assumption | omega) _) (cwV 2 X.2.2.2.2 (lw_V q1528 q1530 qs65 q75 q1531) rfl rfl rfl ⟨rfl, hdX6_comesAs⟩ ⟨Nat.le_of_ble_eq_true rfl, Nat.le_of_ble_eq_true rfl⟩) (fx_preV (fx_pre hE hP hD hS hR [0, 1] rfl rfl (fx_rcr 0 rfl fx_rc0)) (va_recv hE.1 hP (ci := 6) (q0 := 0) rfl rfl)) rfl rfl hl.1 rfl (lv_room (Nat.le_of_ble_eq_true rfl)) dX6_givesAs_52 ⟨Nat.le_refl _, Nat.le_refl _⟩) hP hD hS hA [0, 1] rfl rfl (fun r_52 u H locs hq_52 hP hD hS => ?_)
    obtain ⟨tr2_52, tn2_52⟩ := u
    replace hP : va_P E.1 clA [(ad 30, .inr (6, [.ref (ad 0), .ref (ad 1), .int im, .ref (ad 3), .int at_, .int op, .int st_, .int us, .ref (ad 8), .ref (ad 9), .ref (ad 10), .ref (ad 11), .ref (ad 12), .ref (ad 13), .ref (ad 14), .int bn, .int bm, .ref (ad 17), .int la, .int fo, .int fi, .int lp, .ref (ad 22), .int (nI tn2_52), .int (nI sk), .int ip, .ref (ad 26), .ref (ad 27), .ref (ad 28), .ref (ad 29)])), (ad 22, .inl (E.2 0, 30, .inl tr2_52))] _ := hP
    replace hD : va_D A [(ad 30, .inr (6, [.ref (ad 0), .ref (ad 1), .int im, .ref (ad 3), .int at_, .int op, .int st_, .int us, .ref (ad 8), .ref (ad 9), .ref (ad 10), .ref (ad 11), .ref (ad 12), .ref (ad 13), .ref (ad 14), .int bn, .int bm, .ref (ad 17), .int la, .int fo, .int fi, .int lp, .ref (ad 22), .int (nI tn2_52), .int (nI sk), .int ip, .ref (ad 26), .ref (ad 27), .ref (ad 28), .ref (ad 29)])), (ad 22, .inl (E.2 0, 30, .inl tr2_52))] := hD
    replace hq_52 : r_52 = comesV 6 6 (nI sk) mm x ∧ (tr2_52, tn2_52) = bgL (tr2_39, tn2_39) (comesB 6 6) ∧ tn2_52 ≤ 30 := hq_52
    refine lv_aload_n hx hb dX6_givesAs_55 rfl (lv_at hl 0 rfl) ?_
    refine lv_aload_n hx hb dX6_givesAs_56 rfl (lv_at hl 0 rfl) ?_
    refine fx_get X hE hP 0 rfl rfl 24 rfl q1192 rfl rfl dX6_givesAs_57 ?_
    refine fx_ci (va_runV (As := [.int (nI sk)]) (rest := [.int r_52]) X (mX6_mOf l E ad im at_ op st_ us bn bm la fo fi lp (nI tn2_52) (nI sk) ip sa sk hsk _) (cwV 1 X.2.2.2.2 (lw_V q1364 q1366 qs48 q75 q1367) rfl rfl rfl ⟨rfl, hdX6_mOf⟩ ⟨Nat.le_of_ble_eq_true rfl, Nat.le_of_ble_eq_true rfl⟩) (fx_preV (fx_pre hE hP hD hS hR [] rfl rfl (fx_rcm 0 rfl (by decide) (fx_rcr 0 rfl fx_rc0))) (va_recv hE.1 hP (ci := 6) (q0 := 0) rfl rfl)) rfl rfl hl.1 rfl (lv_room (Nat.le_of_ble_eq_true rfl)) dX6_givesAs_60 ⟨Nat.le_refl _, Nat.le_refl _⟩) hP hD hS hA [] rfl rfl (fun r_60 u H locs hq_60 hP hD hS => ?_)
    replace hP : va_P E.1 clA [(ad 30, .inr (6, [.ref (ad 0), .ref (ad 1), .int im, .ref (ad 3), .int at_, .int op, .int st_, .int us, .ref (ad 8), .ref (ad 9), .ref (ad 10), .ref (ad 11), .ref (ad 12), .ref (ad 13), .ref (ad 14), .int bn, .int bm, .ref (ad 17), .int la, .int fo, .int fi, .int lp, .ref (ad 22), .int (nI tn2_52), .int (nI sk), .int ip, .ref (ad 26), .ref (ad 27), .ref (ad 28), .ref (ad 29)])), (ad 22, .inl (E.2 0, 30, .inl tr2_52))] _ := hP
    replace hD : va_D A [(ad 30, .inr (6, [.ref (ad 0), .ref (ad 1), .int im, .ref (ad 3), .int at_, .int op, .int st_, .int us, .ref (ad 8), .ref (ad 9), .ref (ad 10), .ref (ad 11), .ref (ad 12), .ref (ad 13), .ref (ad 14), .int bn, .int bm, .ref (ad 17), .int la, .int fo, .int fi, .int lp, .ref (ad 22), .int (nI tn2_52), .int (nI sk), .int ip, .ref (ad 26), .ref (ad 27), .ref (ad 28), .ref (ad 29)])), (ad 22, .inl (E.2 0, 30, .inl tr2_52))] := hD
    replace hq_60 : r_60 = sa (32 + 2 * sk + 1) := hq_60
    refine fx_ti (show r_60 = mm from hq_60.trans hm) ?_
    refine lv_isub hx hb dX6_givesAs_63 ?_
    exact hret (r_52 - mm) (tr2_52, tn2_52) (⟨by rw [hq_52.1]; rfl, by rw [hq_52.2.1, hq_39.1]; rfl, hq_52.2.2⟩) (rfl) hP hD hS (Nat.le_refl _) (Nat.le_refl _) dX6_givesAs_64
abbrev rmX6_givesAs1 : Room := { frames := 8, cells := 0, slots := 0, locals := 175 }
set_option maxHeartbeats 400000 in
set_option maxRecDepth 100000 in
theorem mX6_givesAs1 (l : Launch) (E : fx_En) (ad : Nat → Nat) (im : Int32) (at_ : Int32) (op : Int32) (st_ : Int32) (us : Int32) (bn : Int32) (bm : Int32) (la : Int32) (fo : Int32) (fi : Int32) (lp : Int32) (ip : Int32) (tn : Nat) (sk : Nat) (sa : Nat → Int32) (tr : Nat → Int32) (ow : Nat) (mm : Int32) (x : Int32) (htn : tn ≤ 30) (hsk : sk < 4) (hkd : sa (32 + 2 * sk) = nI ow) (hkd2 : ow ≤ 6) (hm : sa (32 + 2 * sk + 1) = mm) : fx_Mi l yX6_givesAs cX6_givesAs 3 .int rmX6_givesAs1 E [.ref (ad 30), .int 1, .int x] [(ad 30, .inr (6, [.ref (ad 0), .ref (ad 1), .int im, .ref (ad 3), .int at_, .int op, .int st_, .int us, .ref (ad 8), .ref (ad 9), .ref (ad 10), .ref (ad 11), .ref (ad 12), .ref (ad 13), .ref (ad 14), .int bn, .int bm, .ref (ad 17), .int la, .int fo, .int fi, .int lp, .ref (ad 22), .int (nI tn), .int (nI sk), .int ip, .ref (ad 26), .ref (ad 27), .ref (ad 28), .ref (ad 29)])), (ad 22, .inl (E.2 0, 30, .inl tr))] [(ad 0, .inl (E.2 0, 374, .inl sa))] (S := (Nat → Int32) × Nat) (fun (u : (Nat → Int32) × Nat) => [(ad 30, .inr (6, [.ref (ad 0), .ref (ad 1), .int im, .ref (ad 3), .int at_, .int op, .int st_, .int us, .ref (ad 8), .ref (ad 9), .ref (ad 10), .ref (ad 11), .ref (ad 12), .ref (ad 13), .ref (ad 14), .int bn, .int bm, .ref (ad 17), .int la, .int fo, .int fi, .int lp, .ref (ad 22), .int (nI u.2), .int (nI sk), .int ip, .ref (ad 26), .ref (ad 27), .ref (ad 28), .ref (ad 29)])), (ad 22, .inl (E.2 0, 30, .inl u.1))]) (fun (r : Int32) (u : (Nat → Int32) × Nat) => r = givesV 1 ow (nI sk) mm x ∧ (u.1, u.2) = bgL (tr, tn) (givesB 1 ow) ∧ u.2 ≤ 30) := by
  refine fx_iW rfl rfl ?_
  intro p e s m args below meth c A ls Q X hE hP hD hR hA hl hret
  have hx := X.1
  have hb := X.2.1
  have hS : va_S A s.heap s.heap [] := va_S.rf
  replace hP : va_P E.1 clA [(ad 30, .inr (6, [.ref (ad 0), .ref (ad 1), .int im, .ref (ad 3), .int at_, .int op, .int st_, .int us, .ref (ad 8), .ref (ad 9), .ref (ad 10), .ref (ad 11), .ref (ad 12), .ref (ad 13), .ref (ad 14), .int bn, .int bm, .ref (ad 17), .int la, .int fo, .int fi, .int lp, .ref (ad 22), .int (nI tn), .int (nI sk), .int ip, .ref (ad 26), .ref (ad 27), .ref (ad 28), .ref (ad 29)])), (ad 22, .inl (E.2 0, 30, .inl tr))] _ := hP
  replace hD : va_D A [(ad 30, .inr (6, [.ref (ad 0), .ref (ad 1), .int im, .ref (ad 3), .int at_, .int op, .int st_, .int us, .ref (ad 8), .ref (ad 9), .ref (ad 10), .ref (ad 11), .ref (ad 12), .ref (ad 13), .ref (ad 14), .int bn, .int bm, .ref (ad 17), .int la, .int fo, .int fi, .int lp, .ref (ad 22), .int (nI tn), .int (nI sk), .int ip, .ref (ad 26), .ref (ad 27), .ref (ad 28), .ref (ad 29)])), (ad 22, .inl (E.2 0, 30, .inl tr))] := hD
  replace hl : lv_has ls 3 [(0, .ref (ad 30)), (1, .int 1), (2, .int x)] := hl
  refine lv_iload_n hx hb dX6_givesAs_0 rfl (lv_at hl 1 rfl) ?_
  refine lv_lookup (tgt := 104) (off := 103) hx hb dX6_givesAs_1 (by decide) rfl (by decide) ?_
  refine lv_aload_n hx hb dX6_givesAs_104 rfl (lv_at hl 0 rfl) ?_
  refine lv_iload_n hx hb dX6_givesAs_105 rfl (lv_at hl 1 rfl) ?_
  refine fx_ci (va_runS (As := [.int 1]) (rest := [.ref (ad 30)]) X (mX6_above l E 1 (by decide) _) (va_cwS 1 X.2.2.2.2 (lw_S q1525 q1526 q75 q1527) rfl rfl rfl hdX6_above ⟨Nat.le_of_ble_eq_true rfl, Nat.le_of_ble_eq_true rfl⟩) (fx_pre hE hP hD hS hR [] rfl rfl fx_rc0) rfl rfl hl.1 rfl (lv_room (Nat.le_of_ble_eq_true rfl)) dX6_givesAs_106 ⟨Nat.le_refl _, Nat.le_refl _⟩) hP hD hS hA [] rfl rfl (fun r_106 u H locs hq_106 hP hD hS => ?_)
  replace hP : va_P E.1 clA [(ad 30, .inr (6, [.ref (ad 0), .ref (ad 1), .int im, .ref (ad 3), .int at_, .int op, .int st_, .int us, .ref (ad 8), .ref (ad 9), .ref (ad 10), .ref (ad 11), .ref (ad 12), .ref (ad 13), .ref (ad 14), .int bn, .int bm, .ref (ad 17), .int la, .int fo, .int fi, .int lp, .ref (ad 22), .int (nI tn), .int (nI sk), .int ip, .ref (ad 26), .ref (ad 27), .ref (ad 28), .ref (ad 29)])), (ad 22, .inl (E.2 0, 30, .inl tr))] _ := hP
  replace hD : va_D A [(ad 30, .inr (6, [.ref (ad 0), .ref (ad 1), .int im, .ref (ad 3), .int at_, .int op, .int st_, .int us, .ref (ad 8), .ref (ad 9), .ref (ad 10), .ref (ad 11), .ref (ad 12), .ref (ad 13), .ref (ad 14), .int bn, .int bm, .ref (ad 17), .int la, .int fo, .int fi, .int lp, .ref (ad 22), .int (nI tn), .int (nI sk), .int ip, .ref (ad 26), .ref (ad 27), .ref (ad 28), .ref (ad 29)])), (ad 22, .inl (E.2 0, 30, .inl tr))] := hD
  replace hq_106 : r_106 = nI (abvK 1) := hq_106
  refine fx_ti (show r_106 = 0 from hq_106.trans (by decide)) ?_
  refine lv_iload_n hx hb dX6_givesAs_109 rfl (lv_at hl 2 rfl) ?_
  refine fx_ci (va_runV (As := [.int 0, .int x]) (rest := []) X (mX6_givesAs0 l E ad im at_ op st_ us bn bm la fo fi lp ip tn sk sa tr ow mm x (by first | assumption | omega) (by first | assumption | omega) (by first | assumption | omega) (by first | assumption | omega) (by first | assumption | omega) _) (cwV 2 X.2.2.2.2 (lw_V q1532 q1534 qs66 q75 q1535) rfl rfl rfl ⟨rfl, hdX6_givesAs⟩ ⟨Nat.le_of_ble_eq_true rfl, Nat.le_of_ble_eq_true rfl⟩) (fx_preV (fx_pre hE hP hD hS hR [0, 1] rfl rfl (fx_rcr 0 rfl fx_rc0)) (va_recv hE.1 hP (ci := 6) (q0 := 0) rfl rfl)) rfl rfl hl.1 rfl (lv_room (Nat.le_of_ble_eq_true rfl)) dX6_givesAs_110 ⟨Nat.le_refl _, Nat.le_refl _⟩) hP hD hS hA [0, 1] rfl rfl (fun r_110 u H locs hq_110 hP hD hS => ?_)
  obtain ⟨tr2_110, tn2_110⟩ := u
  replace hP : va_P E.1 clA [(ad 30, .inr (6, [.ref (ad 0), .ref (ad 1), .int im, .ref (ad 3), .int at_, .int op, .int st_, .int us, .ref (ad 8), .ref (ad 9), .ref (ad 10), .ref (ad 11), .ref (ad 12), .ref (ad 13), .ref (ad 14), .int bn, .int bm, .ref (ad 17), .int la, .int fo, .int fi, .int lp, .ref (ad 22), .int (nI tn2_110), .int (nI sk), .int ip, .ref (ad 26), .ref (ad 27), .ref (ad 28), .ref (ad 29)])), (ad 22, .inl (E.2 0, 30, .inl tr2_110))] _ := hP
  replace hD : va_D A [(ad 30, .inr (6, [.ref (ad 0), .ref (ad 1), .int im, .ref (ad 3), .int at_, .int op, .int st_, .int us, .ref (ad 8), .ref (ad 9), .ref (ad 10), .ref (ad 11), .ref (ad 12), .ref (ad 13), .ref (ad 14), .int bn, .int bm, .ref (ad 17), .int la, .int fo, .int fi, .int lp, .ref (ad 22), .int (nI tn2_110), .int (nI sk), .int ip, .ref (ad 26), .ref (ad 27), .ref (ad 28), .ref (ad 29)])), (ad 22, .inl (E.2 0, 30, .inl tr2_110))] := hD
  replace hq_110 : r_110 = givesV 0 ow (nI sk) mm x ∧ (tr2_110, tn2_110) = bgL (tr, tn) (givesB 0 ow) ∧ tn2_110 ≤ 30 := hq_110
  exact hret r_110 (tr2_110, tn2_110) (⟨by rw [hq_110.1]; rfl, by rw [hq_110.2.1]; rfl, hq_110.2.2⟩) (rfl) hP hD hS (Nat.le_refl _) (Nat.le_refl _) dX6_givesAs_113
abbrev rmX6_givesAs2 : Room := { frames := 8, cells := 0, slots := 0, locals := 175 }
set_option maxHeartbeats 400000 in
set_option maxRecDepth 100000 in
theorem mX6_givesAs2 (l : Launch) (E : fx_En) (ad : Nat → Nat) (im : Int32) (at_ : Int32) (op : Int32) (st_ : Int32) (us : Int32) (bn : Int32) (bm : Int32) (la : Int32) (fo : Int32) (fi : Int32) (lp : Int32) (ip : Int32) (tn : Nat) (sk : Nat) (sa : Nat → Int32) (tr : Nat → Int32) (ow : Nat) (mm : Int32) (x : Int32) (htn : tn ≤ 30) (hsk : sk < 4) (hkd : sa (32 + 2 * sk) = nI ow) (hkd2 : ow ≤ 6) (hm : sa (32 + 2 * sk + 1) = mm) : fx_Mi l yX6_givesAs cX6_givesAs 3 .int rmX6_givesAs2 E [.ref (ad 30), .int 2, .int x] [(ad 30, .inr (6, [.ref (ad 0), .ref (ad 1), .int im, .ref (ad 3), .int at_, .int op, .int st_, .int us, .ref (ad 8), .ref (ad 9), .ref (ad 10), .ref (ad 11), .ref (ad 12), .ref (ad 13), .ref (ad 14), .int bn, .int bm, .ref (ad 17), .int la, .int fo, .int fi, .int lp, .ref (ad 22), .int (nI tn), .int (nI sk), .int ip, .ref (ad 26), .ref (ad 27), .ref (ad 28), .ref (ad 29)])), (ad 22, .inl (E.2 0, 30, .inl tr))] [(ad 0, .inl (E.2 0, 374, .inl sa))] (S := (Nat → Int32) × Nat) (fun (u : (Nat → Int32) × Nat) => [(ad 30, .inr (6, [.ref (ad 0), .ref (ad 1), .int im, .ref (ad 3), .int at_, .int op, .int st_, .int us, .ref (ad 8), .ref (ad 9), .ref (ad 10), .ref (ad 11), .ref (ad 12), .ref (ad 13), .ref (ad 14), .int bn, .int bm, .ref (ad 17), .int la, .int fo, .int fi, .int lp, .ref (ad 22), .int (nI u.2), .int (nI sk), .int ip, .ref (ad 26), .ref (ad 27), .ref (ad 28), .ref (ad 29)])), (ad 22, .inl (E.2 0, 30, .inl u.1))]) (fun (r : Int32) (u : (Nat → Int32) × Nat) => r = givesV 2 ow (nI sk) mm x ∧ (u.1, u.2) = bgL (tr, tn) (givesB 2 ow) ∧ u.2 ≤ 30) := by
  refine fx_iW rfl rfl ?_
  intro p e s m args below meth c A ls Q X hE hP hD hR hA hl hret
  have hx := X.1
  have hb := X.2.1
  have hS : va_S A s.heap s.heap [] := va_S.rf
  replace hP : va_P E.1 clA [(ad 30, .inr (6, [.ref (ad 0), .ref (ad 1), .int im, .ref (ad 3), .int at_, .int op, .int st_, .int us, .ref (ad 8), .ref (ad 9), .ref (ad 10), .ref (ad 11), .ref (ad 12), .ref (ad 13), .ref (ad 14), .int bn, .int bm, .ref (ad 17), .int la, .int fo, .int fi, .int lp, .ref (ad 22), .int (nI tn), .int (nI sk), .int ip, .ref (ad 26), .ref (ad 27), .ref (ad 28), .ref (ad 29)])), (ad 22, .inl (E.2 0, 30, .inl tr))] _ := hP
  replace hD : va_D A [(ad 30, .inr (6, [.ref (ad 0), .ref (ad 1), .int im, .ref (ad 3), .int at_, .int op, .int st_, .int us, .ref (ad 8), .ref (ad 9), .ref (ad 10), .ref (ad 11), .ref (ad 12), .ref (ad 13), .ref (ad 14), .int bn, .int bm, .ref (ad 17), .int la, .int fo, .int fi, .int lp, .ref (ad 22), .int (nI tn), .int (nI sk), .int ip, .ref (ad 26), .ref (ad 27), .ref (ad 28), .ref (ad 29)])), (ad 22, .inl (E.2 0, 30, .inl tr))] := hD
  replace hl : lv_has ls 3 [(0, .ref (ad 30)), (1, .int 2), (2, .int x)] := hl
  refine lv_iload_n hx hb dX6_givesAs_0 rfl (lv_at hl 1 rfl) ?_
  refine lv_lookup (tgt := 104) (off := 103) hx hb dX6_givesAs_1 (by decide) rfl (by decide) ?_
  refine lv_aload_n hx hb dX6_givesAs_104 rfl (lv_at hl 0 rfl) ?_
  refine lv_iload_n hx hb dX6_givesAs_105 rfl (lv_at hl 1 rfl) ?_
  refine fx_ci (va_runS (As := [.int 2]) (rest := [.ref (ad 30)]) X (mX6_above l E 2 (by decide) _) (va_cwS 1 X.2.2.2.2 (lw_S q1525 q1526 q75 q1527) rfl rfl rfl hdX6_above ⟨Nat.le_of_ble_eq_true rfl, Nat.le_of_ble_eq_true rfl⟩) (fx_pre hE hP hD hS hR [] rfl rfl fx_rc0) rfl rfl hl.1 rfl (lv_room (Nat.le_of_ble_eq_true rfl)) dX6_givesAs_106 ⟨Nat.le_refl _, Nat.le_refl _⟩) hP hD hS hA [] rfl rfl (fun r_106 u H locs hq_106 hP hD hS => ?_)
  replace hP : va_P E.1 clA [(ad 30, .inr (6, [.ref (ad 0), .ref (ad 1), .int im, .ref (ad 3), .int at_, .int op, .int st_, .int us, .ref (ad 8), .ref (ad 9), .ref (ad 10), .ref (ad 11), .ref (ad 12), .ref (ad 13), .ref (ad 14), .int bn, .int bm, .ref (ad 17), .int la, .int fo, .int fi, .int lp, .ref (ad 22), .int (nI tn), .int (nI sk), .int ip, .ref (ad 26), .ref (ad 27), .ref (ad 28), .ref (ad 29)])), (ad 22, .inl (E.2 0, 30, .inl tr))] _ := hP
  replace hD : va_D A [(ad 30, .inr (6, [.ref (ad 0), .ref (ad 1), .int im, .ref (ad 3), .int at_, .int op, .int st_, .int us, .ref (ad 8), .ref (ad 9), .ref (ad 10), .ref (ad 11), .ref (ad 12), .ref (ad 13), .ref (ad 14), .int bn, .int bm, .ref (ad 17), .int la, .int fo, .int fi, .int lp, .ref (ad 22), .int (nI tn), .int (nI sk), .int ip, .ref (ad 26), .ref (ad 27), .ref (ad 28), .ref (ad 29)])), (ad 22, .inl (E.2 0, 30, .inl tr))] := hD
  replace hq_106 : r_106 = nI (abvK 2) := hq_106
  refine fx_ti (show r_106 = 0 from hq_106.trans (by decide)) ?_
  refine lv_iload_n hx hb dX6_givesAs_109 rfl (lv_at hl 2 rfl) ?_
  refine fx_ci (va_runV (As := [.int 0, .int x]) (rest := []) X (mX6_givesAs0 l E ad im at_ op st_ us bn bm la fo fi lp ip tn sk sa tr ow mm x (by first | assumption | omega) (by first | assumption | omega) (by first | assumption | omega) (by first | assumption | omega) (by first | assumption | omega) _) (cwV 2 X.2.2.2.2 (lw_V q1532 q1534 qs66 q75 q1535) rfl rfl rfl ⟨rfl, hdX6_givesAs⟩ ⟨Nat.le_of_ble_eq_true rfl, Nat.le_of_ble_eq_true rfl⟩) (fx_preV (fx_pre hE hP hD hS hR [0, 1] rfl rfl (fx_rcr 0 rfl fx_rc0)) (va_recv hE.1 hP (ci := 6) (q0 := 0) rfl rfl)) rfl rfl hl.1 rfl (lv_room (Nat.le_of_ble_eq_true rfl)) dX6_givesAs_110 ⟨Nat.le_refl _, Nat.le_refl _⟩) hP hD hS hA [0, 1] rfl rfl (fun r_110 u H locs hq_110 hP hD hS => ?_)
  obtain ⟨tr2_110, tn2_110⟩ := u
  replace hP : va_P E.1 clA [(ad 30, .inr (6, [.ref (ad 0), .ref (ad 1), .int im, .ref (ad 3), .int at_, .int op, .int st_, .int us, .ref (ad 8), .ref (ad 9), .ref (ad 10), .ref (ad 11), .ref (ad 12), .ref (ad 13), .ref (ad 14), .int bn, .int bm, .ref (ad 17), .int la, .int fo, .int fi, .int lp, .ref (ad 22), .int (nI tn2_110), .int (nI sk), .int ip, .ref (ad 26), .ref (ad 27), .ref (ad 28), .ref (ad 29)])), (ad 22, .inl (E.2 0, 30, .inl tr2_110))] _ := hP
  replace hD : va_D A [(ad 30, .inr (6, [.ref (ad 0), .ref (ad 1), .int im, .ref (ad 3), .int at_, .int op, .int st_, .int us, .ref (ad 8), .ref (ad 9), .ref (ad 10), .ref (ad 11), .ref (ad 12), .ref (ad 13), .ref (ad 14), .int bn, .int bm, .ref (ad 17), .int la, .int fo, .int fi, .int lp, .ref (ad 22), .int (nI tn2_110), .int (nI sk), .int ip, .ref (ad 26), .ref (ad 27), .ref (ad 28), .ref (ad 29)])), (ad 22, .inl (E.2 0, 30, .inl tr2_110))] := hD
  replace hq_110 : r_110 = givesV 0 ow (nI sk) mm x ∧ (tr2_110, tn2_110) = bgL (tr, tn) (givesB 0 ow) ∧ tn2_110 ≤ 30 := hq_110
  exact hret r_110 (tr2_110, tn2_110) (⟨by rw [hq_110.1]; rfl, by rw [hq_110.2.1]; rfl, hq_110.2.2⟩) (rfl) hP hD hS (Nat.le_refl _) (Nat.le_refl _) dX6_givesAs_113
abbrev rmX6_givesAs3 : Room := { frames := 8, cells := 0, slots := 0, locals := 175 }
set_option maxHeartbeats 400000 in
set_option maxRecDepth 100000 in
theorem mX6_givesAs3 (l : Launch) (E : fx_En) (ad : Nat → Nat) (im : Int32) (at_ : Int32) (op : Int32) (st_ : Int32) (us : Int32) (bn : Int32) (bm : Int32) (la : Int32) (fo : Int32) (fi : Int32) (lp : Int32) (ip : Int32) (tn : Nat) (sk : Nat) (sa : Nat → Int32) (tr : Nat → Int32) (ow : Nat) (mm : Int32) (x : Int32) (htn : tn ≤ 30) (hsk : sk < 4) (hkd : sa (32 + 2 * sk) = nI ow) (hkd2 : ow ≤ 6) (hm : sa (32 + 2 * sk + 1) = mm) : fx_Mi l yX6_givesAs cX6_givesAs 3 .int rmX6_givesAs3 E [.ref (ad 30), .int 3, .int x] [(ad 30, .inr (6, [.ref (ad 0), .ref (ad 1), .int im, .ref (ad 3), .int at_, .int op, .int st_, .int us, .ref (ad 8), .ref (ad 9), .ref (ad 10), .ref (ad 11), .ref (ad 12), .ref (ad 13), .ref (ad 14), .int bn, .int bm, .ref (ad 17), .int la, .int fo, .int fi, .int lp, .ref (ad 22), .int (nI tn), .int (nI sk), .int ip, .ref (ad 26), .ref (ad 27), .ref (ad 28), .ref (ad 29)])), (ad 22, .inl (E.2 0, 30, .inl tr))] [(ad 0, .inl (E.2 0, 374, .inl sa))] (S := (Nat → Int32) × Nat) (fun (u : (Nat → Int32) × Nat) => [(ad 30, .inr (6, [.ref (ad 0), .ref (ad 1), .int im, .ref (ad 3), .int at_, .int op, .int st_, .int us, .ref (ad 8), .ref (ad 9), .ref (ad 10), .ref (ad 11), .ref (ad 12), .ref (ad 13), .ref (ad 14), .int bn, .int bm, .ref (ad 17), .int la, .int fo, .int fi, .int lp, .ref (ad 22), .int (nI u.2), .int (nI sk), .int ip, .ref (ad 26), .ref (ad 27), .ref (ad 28), .ref (ad 29)])), (ad 22, .inl (E.2 0, 30, .inl u.1))]) (fun (r : Int32) (u : (Nat → Int32) × Nat) => r = givesV 3 ow (nI sk) mm x ∧ (u.1, u.2) = bgL (tr, tn) (givesB 3 ow) ∧ u.2 ≤ 30) := by
  refine fx_iW rfl rfl ?_
  intro p e s m args below meth c A ls Q X hE hP hD hR hA hl hret
  have hx := X.1
  have hb := X.2.1
  have hS : va_S A s.heap s.heap [] := va_S.rf
  replace hP : va_P E.1 clA [(ad 30, .inr (6, [.ref (ad 0), .ref (ad 1), .int im, .ref (ad 3), .int at_, .int op, .int st_, .int us, .ref (ad 8), .ref (ad 9), .ref (ad 10), .ref (ad 11), .ref (ad 12), .ref (ad 13), .ref (ad 14), .int bn, .int bm, .ref (ad 17), .int la, .int fo, .int fi, .int lp, .ref (ad 22), .int (nI tn), .int (nI sk), .int ip, .ref (ad 26), .ref (ad 27), .ref (ad 28), .ref (ad 29)])), (ad 22, .inl (E.2 0, 30, .inl tr))] _ := hP
  replace hD : va_D A [(ad 30, .inr (6, [.ref (ad 0), .ref (ad 1), .int im, .ref (ad 3), .int at_, .int op, .int st_, .int us, .ref (ad 8), .ref (ad 9), .ref (ad 10), .ref (ad 11), .ref (ad 12), .ref (ad 13), .ref (ad 14), .int bn, .int bm, .ref (ad 17), .int la, .int fo, .int fi, .int lp, .ref (ad 22), .int (nI tn), .int (nI sk), .int ip, .ref (ad 26), .ref (ad 27), .ref (ad 28), .ref (ad 29)])), (ad 22, .inl (E.2 0, 30, .inl tr))] := hD
  replace hl : lv_has ls 3 [(0, .ref (ad 30)), (1, .int 3), (2, .int x)] := hl
  refine lv_iload_n hx hb dX6_givesAs_0 rfl (lv_at hl 1 rfl) ?_
  refine lv_lookup (tgt := 65) (off := 64) hx hb dX6_givesAs_1 (by decide) rfl (by decide) ?_
  refine lv_aload_n hx hb dX6_givesAs_65 rfl (lv_at hl 0 rfl) ?_
  refine lv_bipush (v := 40) hx hb dX6_givesAs_66 rfl ?_
  refine fx_cv (va_runV (As := [.int 40]) (rest := []) X (mX6_begins l E ad im at_ op st_ us bn bm la fo fi lp ip tn sk tr 40 (by first | assumption | omega) _) (cwV 1 X.2.2.2.2 (lw_V q1521 q1523 qs64 q75 q1524) rfl rfl rfl ⟨rfl, hdX6_begins⟩ ⟨Nat.le_of_ble_eq_true rfl, Nat.le_of_ble_eq_true rfl⟩) (fx_preV (fx_pre hE hP hD hS hR [0, 1] rfl rfl fx_rc0) (va_recv hE.1 hP (ci := 6) (q0 := 0) rfl rfl)) rfl rfl hl.1 rfl (lv_room (Nat.le_of_ble_eq_true rfl)) dX6_givesAs_68 ⟨Nat.le_refl _, Nat.le_refl _⟩) hP hD hS hA [0, 1] rfl rfl (fun u H locs hq_68 hP hD hS => ?_)
  obtain ⟨tr2_68, tn2_68⟩ := u
  replace hP : va_P E.1 clA [(ad 30, .inr (6, [.ref (ad 0), .ref (ad 1), .int im, .ref (ad 3), .int at_, .int op, .int st_, .int us, .ref (ad 8), .ref (ad 9), .ref (ad 10), .ref (ad 11), .ref (ad 12), .ref (ad 13), .ref (ad 14), .int bn, .int bm, .ref (ad 17), .int la, .int fo, .int fi, .int lp, .ref (ad 22), .int (nI tn2_68), .int (nI sk), .int ip, .ref (ad 26), .ref (ad 27), .ref (ad 28), .ref (ad 29)])), (ad 22, .inl (E.2 0, 30, .inl tr2_68))] _ := hP
  replace hD : va_D A [(ad 30, .inr (6, [.ref (ad 0), .ref (ad 1), .int im, .ref (ad 3), .int at_, .int op, .int st_, .int us, .ref (ad 8), .ref (ad 9), .ref (ad 10), .ref (ad 11), .ref (ad 12), .ref (ad 13), .ref (ad 14), .int bn, .int bm, .ref (ad 17), .int la, .int fo, .int fi, .int lp, .ref (ad 22), .int (nI tn2_68), .int (nI sk), .int ip, .ref (ad 26), .ref (ad 27), .ref (ad 28), .ref (ad 29)])), (ad 22, .inl (E.2 0, 30, .inl tr2_68))] := hD
  replace hq_68 : (tr2_68, tn2_68) = bg (tr, tn) 40 ∧ tn2_68 ≤ 30 := hq_68
  refine lv_aload_n hx hb dX6_givesAs_71 rfl (lv_at hl 0 rfl) ?_
  refine lv_iconst (v := 3) hx hb dX6_givesAs_72 rfl ?_
  refine fx_ci (va_runS (As := [.int 3]) (rest := [.ref (ad 30)]) X (mX6_above l E 3 (by decide) _) (va_cwS 1 X.2.2.2.2 (lw_S q1525 q1526 q75 q1527) rfl rfl rfl hdX6_above ⟨Nat.le_of_ble_eq_true rfl, Nat.le_of_ble_eq_true rfl⟩) (fx_pre hE hP hD hS hR [] rfl rfl fx_rc0) rfl rfl hl.1 rfl (lv_room (Nat.le_of_ble_eq_true rfl)) dX6_givesAs_73 ⟨Nat.le_refl _, Nat.le_refl _⟩) hP hD hS hA [] rfl rfl (fun r_73 u H locs hq_73 hP hD hS => ?_)
  replace hP : va_P E.1 clA [(ad 30, .inr (6, [.ref (ad 0), .ref (ad 1), .int im, .ref (ad 3), .int at_, .int op, .int st_, .int us, .ref (ad 8), .ref (ad 9), .ref (ad 10), .ref (ad 11), .ref (ad 12), .ref (ad 13), .ref (ad 14), .int bn, .int bm, .ref (ad 17), .int la, .int fo, .int fi, .int lp, .ref (ad 22), .int (nI tn2_68), .int (nI sk), .int ip, .ref (ad 26), .ref (ad 27), .ref (ad 28), .ref (ad 29)])), (ad 22, .inl (E.2 0, 30, .inl tr2_68))] _ := hP
  replace hD : va_D A [(ad 30, .inr (6, [.ref (ad 0), .ref (ad 1), .int im, .ref (ad 3), .int at_, .int op, .int st_, .int us, .ref (ad 8), .ref (ad 9), .ref (ad 10), .ref (ad 11), .ref (ad 12), .ref (ad 13), .ref (ad 14), .int bn, .int bm, .ref (ad 17), .int la, .int fo, .int fi, .int lp, .ref (ad 22), .int (nI tn2_68), .int (nI sk), .int ip, .ref (ad 26), .ref (ad 27), .ref (ad 28), .ref (ad 29)])), (ad 22, .inl (E.2 0, 30, .inl tr2_68))] := hD
  replace hq_73 : r_73 = nI (abvK 3) := hq_73
  refine fx_ti (show r_73 = 0 from hq_73.trans (by decide)) ?_
  refine lv_iload_n hx hb dX6_givesAs_76 rfl (lv_at hl 2 rfl) ?_
  refine lv_iconst (v := 2) hx hb dX6_givesAs_77 rfl ?_
  refine lv_idiv hx hb dX6_givesAs_78 (by decide) ?_
  refine fx_ci (va_runV (As := [.int 0, .int (x / 2)]) (rest := []) X (mX6_givesAs0 l E ad im at_ op st_ us bn bm la fo fi lp ip tn2_68 sk sa tr2_68 ow mm (x / 2) (by first | assumption | omega) (by first | assumption | omega) (by first | assumption | omega) (by first | assumption | omega) (by first | assumption | omega) _) (cwV 2 X.2.2.2.2 (lw_V q1532 q1534 qs66 q75 q1535) rfl rfl rfl ⟨rfl, hdX6_givesAs⟩ ⟨Nat.le_of_ble_eq_true rfl, Nat.le_of_ble_eq_true rfl⟩) (fx_preV (fx_pre hE hP hD hS hR [0, 1] rfl rfl (fx_rcr 0 rfl fx_rc0)) (va_recv hE.1 hP (ci := 6) (q0 := 0) rfl rfl)) rfl rfl hl.1 rfl (lv_room (Nat.le_of_ble_eq_true rfl)) dX6_givesAs_79 ⟨Nat.le_refl _, Nat.le_refl _⟩) hP hD hS hA [0, 1] rfl rfl (fun r_79 u H locs hq_79 hP hD hS => ?_)
  obtain ⟨tr2_79, tn2_79⟩ := u
  replace hP : va_P E.1 clA [(ad 30, .inr (6, [.ref (ad 0), .ref (ad 1), .int im, .ref (ad 3), .int at_, .int op, .int st_, .int us, .ref (ad 8), .ref (ad 9), .ref (ad 10), .ref (ad 11), .ref (ad 12), .ref (ad 13), .ref (ad 14), .int bn, .int bm, .ref (ad 17), .int la, .int fo, .int fi, .int lp, .ref (ad 22), .int (nI tn2_79), .int (nI sk), .int ip, .ref (ad 26), .ref (ad 27), .ref (ad 28), .ref (ad 29)])), (ad 22, .inl (E.2 0, 30, .inl tr2_79))] _ := hP
  replace hD : va_D A [(ad 30, .inr (6, [.ref (ad 0), .ref (ad 1), .int im, .ref (ad 3), .int at_, .int op, .int st_, .int us, .ref (ad 8), .ref (ad 9), .ref (ad 10), .ref (ad 11), .ref (ad 12), .ref (ad 13), .ref (ad 14), .int bn, .int bm, .ref (ad 17), .int la, .int fo, .int fi, .int lp, .ref (ad 22), .int (nI tn2_79), .int (nI sk), .int ip, .ref (ad 26), .ref (ad 27), .ref (ad 28), .ref (ad 29)])), (ad 22, .inl (E.2 0, 30, .inl tr2_79))] := hD
  replace hq_79 : r_79 = givesV 0 ow (nI sk) mm (x / 2) ∧ (tr2_79, tn2_79) = bgL (tr2_68, tn2_68) (givesB 0 ow) ∧ tn2_79 ≤ 30 := hq_79
  exact hret r_79 (tr2_79, tn2_79) (⟨by rw [hq_79.1]; rfl, by rw [hq_79.2.1, hq_68.1]; rfl, hq_79.2.2⟩) (rfl) hP hD hS (Nat.le_refl _) (Nat.le_refl _) dX6_givesAs_82
abbrev rmX6_givesAs5 : Room := { frames := 9, cells := 0, slots := 0, locals := 197 }
set_option maxHeartbeats 400000 in
set_option maxRecDepth 100000 in
theorem mX6_givesAs5 (l : Launch) (E : fx_En) (ad : Nat → Nat) (im : Int32) (at_ : Int32) (op : Int32) (st_ : Int32) (us : Int32) (bn : Int32) (bm : Int32) (la : Int32) (fo : Int32) (fi : Int32) (lp : Int32) (ip : Int32) (tn : Nat) (sk : Nat) (sa : Nat → Int32) (tr : Nat → Int32) (ow : Nat) (mm : Int32) (x : Int32) (htn : tn ≤ 30) (hsk : sk < 4) (hkd : sa (32 + 2 * sk) = nI ow) (hkd2 : ow ≤ 6) (hm : sa (32 + 2 * sk + 1) = mm) : fx_Mi l yX6_givesAs cX6_givesAs 3 .int rmX6_givesAs5 E [.ref (ad 30), .int 5, .int x] [(ad 30, .inr (6, [.ref (ad 0), .ref (ad 1), .int im, .ref (ad 3), .int at_, .int op, .int st_, .int us, .ref (ad 8), .ref (ad 9), .ref (ad 10), .ref (ad 11), .ref (ad 12), .ref (ad 13), .ref (ad 14), .int bn, .int bm, .ref (ad 17), .int la, .int fo, .int fi, .int lp, .ref (ad 22), .int (nI tn), .int (nI sk), .int ip, .ref (ad 26), .ref (ad 27), .ref (ad 28), .ref (ad 29)])), (ad 22, .inl (E.2 0, 30, .inl tr))] [(ad 0, .inl (E.2 0, 374, .inl sa))] (S := (Nat → Int32) × Nat) (fun (u : (Nat → Int32) × Nat) => [(ad 30, .inr (6, [.ref (ad 0), .ref (ad 1), .int im, .ref (ad 3), .int at_, .int op, .int st_, .int us, .ref (ad 8), .ref (ad 9), .ref (ad 10), .ref (ad 11), .ref (ad 12), .ref (ad 13), .ref (ad 14), .int bn, .int bm, .ref (ad 17), .int la, .int fo, .int fi, .int lp, .ref (ad 22), .int (nI u.2), .int (nI sk), .int ip, .ref (ad 26), .ref (ad 27), .ref (ad 28), .ref (ad 29)])), (ad 22, .inl (E.2 0, 30, .inl u.1))]) (fun (r : Int32) (u : (Nat → Int32) × Nat) => r = givesV 5 ow (nI sk) mm x ∧ (u.1, u.2) = bgL (tr, tn) (givesB 5 ow) ∧ u.2 ≤ 30) := by
  refine fx_iW rfl rfl ?_
  intro p e s m args below meth c A ls Q X hE hP hD hR hA hl hret
  have hx := X.1
  have hb := X.2.1
  have hS : va_S A s.heap s.heap [] := va_S.rf
  replace hP : va_P E.1 clA [(ad 30, .inr (6, [.ref (ad 0), .ref (ad 1), .int im, .ref (ad 3), .int at_, .int op, .int st_, .int us, .ref (ad 8), .ref (ad 9), .ref (ad 10), .ref (ad 11), .ref (ad 12), .ref (ad 13), .ref (ad 14), .int bn, .int bm, .ref (ad 17), .int la, .int fo, .int fi, .int lp, .ref (ad 22), .int (nI tn), .int (nI sk), .int ip, .ref (ad 26), .ref (ad 27), .ref (ad 28), .ref (ad 29)])), (ad 22, .inl (E.2 0, 30, .inl tr))] _ := hP
  replace hD : va_D A [(ad 30, .inr (6, [.ref (ad 0), .ref (ad 1), .int im, .ref (ad 3), .int at_, .int op, .int st_, .int us, .ref (ad 8), .ref (ad 9), .ref (ad 10), .ref (ad 11), .ref (ad 12), .ref (ad 13), .ref (ad 14), .int bn, .int bm, .ref (ad 17), .int la, .int fo, .int fi, .int lp, .ref (ad 22), .int (nI tn), .int (nI sk), .int ip, .ref (ad 26), .ref (ad 27), .ref (ad 28), .ref (ad 29)])), (ad 22, .inl (E.2 0, 30, .inl tr))] := hD
  replace hl : lv_has ls 3 [(0, .ref (ad 30)), (1, .int 5), (2, .int x)] := hl
  refine lv_iload_n hx hb dX6_givesAs_0 rfl (lv_at hl 1 rfl) ?_
  refine lv_lookup (tgt := 83) (off := 82) hx hb dX6_givesAs_1 (by decide) rfl (by decide) ?_
  refine lv_aload_n hx hb dX6_givesAs_83 rfl (lv_at hl 0 rfl) ?_
  refine lv_bipush (v := 51) hx hb dX6_givesAs_84 rfl ?_
  refine fx_cv (va_runV (As := [.int 51]) (rest := []) X (mX6_begins l E ad im at_ op st_ us bn bm la fo fi lp ip tn sk tr 51 (by first | assumption | omega) _) (cwV 1 X.2.2.2.2 (lw_V q1521 q1523 qs64 q75 q1524) rfl rfl rfl ⟨rfl, hdX6_begins⟩ ⟨Nat.le_of_ble_eq_true rfl, Nat.le_of_ble_eq_true rfl⟩) (fx_preV (fx_pre hE hP hD hS hR [0, 1] rfl rfl fx_rc0) (va_recv hE.1 hP (ci := 6) (q0 := 0) rfl rfl)) rfl rfl hl.1 rfl (lv_room (Nat.le_of_ble_eq_true rfl)) dX6_givesAs_86 ⟨Nat.le_refl _, Nat.le_refl _⟩) hP hD hS hA [0, 1] rfl rfl (fun u H locs hq_86 hP hD hS => ?_)
  obtain ⟨tr2_86, tn2_86⟩ := u
  replace hP : va_P E.1 clA [(ad 30, .inr (6, [.ref (ad 0), .ref (ad 1), .int im, .ref (ad 3), .int at_, .int op, .int st_, .int us, .ref (ad 8), .ref (ad 9), .ref (ad 10), .ref (ad 11), .ref (ad 12), .ref (ad 13), .ref (ad 14), .int bn, .int bm, .ref (ad 17), .int la, .int fo, .int fi, .int lp, .ref (ad 22), .int (nI tn2_86), .int (nI sk), .int ip, .ref (ad 26), .ref (ad 27), .ref (ad 28), .ref (ad 29)])), (ad 22, .inl (E.2 0, 30, .inl tr2_86))] _ := hP
  replace hD : va_D A [(ad 30, .inr (6, [.ref (ad 0), .ref (ad 1), .int im, .ref (ad 3), .int at_, .int op, .int st_, .int us, .ref (ad 8), .ref (ad 9), .ref (ad 10), .ref (ad 11), .ref (ad 12), .ref (ad 13), .ref (ad 14), .int bn, .int bm, .ref (ad 17), .int la, .int fo, .int fi, .int lp, .ref (ad 22), .int (nI tn2_86), .int (nI sk), .int ip, .ref (ad 26), .ref (ad 27), .ref (ad 28), .ref (ad 29)])), (ad 22, .inl (E.2 0, 30, .inl tr2_86))] := hD
  replace hq_86 : (tr2_86, tn2_86) = bg (tr, tn) 51 ∧ tn2_86 ≤ 30 := hq_86
  refine lv_aload_n hx hb dX6_givesAs_89 rfl (lv_at hl 0 rfl) ?_
  refine lv_iconst (v := 5) hx hb dX6_givesAs_90 rfl ?_
  refine fx_ci (va_runS (As := [.int 5]) (rest := [.ref (ad 30)]) X (mX6_above l E 5 (by decide) _) (va_cwS 1 X.2.2.2.2 (lw_S q1525 q1526 q75 q1527) rfl rfl rfl hdX6_above ⟨Nat.le_of_ble_eq_true rfl, Nat.le_of_ble_eq_true rfl⟩) (fx_pre hE hP hD hS hR [] rfl rfl fx_rc0) rfl rfl hl.1 rfl (lv_room (Nat.le_of_ble_eq_true rfl)) dX6_givesAs_91 ⟨Nat.le_refl _, Nat.le_refl _⟩) hP hD hS hA [] rfl rfl (fun r_91 u H locs hq_91 hP hD hS => ?_)
  replace hP : va_P E.1 clA [(ad 30, .inr (6, [.ref (ad 0), .ref (ad 1), .int im, .ref (ad 3), .int at_, .int op, .int st_, .int us, .ref (ad 8), .ref (ad 9), .ref (ad 10), .ref (ad 11), .ref (ad 12), .ref (ad 13), .ref (ad 14), .int bn, .int bm, .ref (ad 17), .int la, .int fo, .int fi, .int lp, .ref (ad 22), .int (nI tn2_86), .int (nI sk), .int ip, .ref (ad 26), .ref (ad 27), .ref (ad 28), .ref (ad 29)])), (ad 22, .inl (E.2 0, 30, .inl tr2_86))] _ := hP
  replace hD : va_D A [(ad 30, .inr (6, [.ref (ad 0), .ref (ad 1), .int im, .ref (ad 3), .int at_, .int op, .int st_, .int us, .ref (ad 8), .ref (ad 9), .ref (ad 10), .ref (ad 11), .ref (ad 12), .ref (ad 13), .ref (ad 14), .int bn, .int bm, .ref (ad 17), .int la, .int fo, .int fi, .int lp, .ref (ad 22), .int (nI tn2_86), .int (nI sk), .int ip, .ref (ad 26), .ref (ad 27), .ref (ad 28), .ref (ad 29)])), (ad 22, .inl (E.2 0, 30, .inl tr2_86))] := hD
  replace hq_91 : r_91 = nI (abvK 5) := hq_91
  refine fx_ti (show r_91 = 1 from hq_91.trans (by decide)) ?_
  refine lv_iload_n hx hb dX6_givesAs_94 rfl (lv_at hl 2 rfl) ?_
  refine fx_ci (va_runV (As := [.int 1, .int x]) (rest := []) X (mX6_givesAs1 l E ad im at_ op st_ us bn bm la fo fi lp ip tn2_86 sk sa tr2_86 ow mm x (by first | assumption | omega) (by first | assumption | omega) (by first | assumption | omega) (by first | assumption | omega) (by first | assumption | omega) _) (cwV 2 X.2.2.2.2 (lw_V q1532 q1534 qs66 q75 q1535) rfl rfl rfl ⟨rfl, hdX6_givesAs⟩ ⟨Nat.le_of_ble_eq_true rfl, Nat.le_of_ble_eq_true rfl⟩) (fx_preV (fx_pre hE hP hD hS hR [0, 1] rfl rfl (fx_rcr 0 rfl fx_rc0)) (va_recv hE.1 hP (ci := 6) (q0 := 0) rfl rfl)) rfl rfl hl.1 rfl (lv_room (Nat.le_of_ble_eq_true rfl)) dX6_givesAs_95 ⟨Nat.le_refl _, Nat.le_refl _⟩) hP hD hS hA [0, 1] rfl rfl (fun r_95 u H locs hq_95 hP hD hS => ?_)
  obtain ⟨tr2_95, tn2_95⟩ := u
  replace hP : va_P E.1 clA [(ad 30, .inr (6, [.ref (ad 0), .ref (ad 1), .int im, .ref (ad 3), .int at_, .int op, .int st_, .int us, .ref (ad 8), .ref (ad 9), .ref (ad 10), .ref (ad 11), .ref (ad 12), .ref (ad 13), .ref (ad 14), .int bn, .int bm, .ref (ad 17), .int la, .int fo, .int fi, .int lp, .ref (ad 22), .int (nI tn2_95), .int (nI sk), .int ip, .ref (ad 26), .ref (ad 27), .ref (ad 28), .ref (ad 29)])), (ad 22, .inl (E.2 0, 30, .inl tr2_95))] _ := hP
  replace hD : va_D A [(ad 30, .inr (6, [.ref (ad 0), .ref (ad 1), .int im, .ref (ad 3), .int at_, .int op, .int st_, .int us, .ref (ad 8), .ref (ad 9), .ref (ad 10), .ref (ad 11), .ref (ad 12), .ref (ad 13), .ref (ad 14), .int bn, .int bm, .ref (ad 17), .int la, .int fo, .int fi, .int lp, .ref (ad 22), .int (nI tn2_95), .int (nI sk), .int ip, .ref (ad 26), .ref (ad 27), .ref (ad 28), .ref (ad 29)])), (ad 22, .inl (E.2 0, 30, .inl tr2_95))] := hD
  replace hq_95 : r_95 = givesV 1 ow (nI sk) mm x ∧ (tr2_95, tn2_95) = bgL (tr2_86, tn2_86) (givesB 1 ow) ∧ tn2_95 ≤ 30 := hq_95
  refine lv_aload_n hx hb dX6_givesAs_98 rfl (lv_at hl 0 rfl) ?_
  refine fx_get X hE hP 0 rfl rfl 24 rfl q1192 rfl rfl dX6_givesAs_99 ?_
  refine lv_ixor hx hb dX6_givesAs_102 ?_
  exact hret (r_95 ^^^ (nI sk)) (tr2_95, tn2_95) (⟨by rw [hq_95.1]; rfl, by rw [hq_95.2.1, hq_86.1]; rfl, hq_95.2.2⟩) (rfl) hP hD hS (Nat.le_refl _) (Nat.le_refl _) dX6_givesAs_103
abbrev rmX6_givesAs6 : Room := { frames := 8, cells := 0, slots := 0, locals := 175 }
set_option maxHeartbeats 400000 in
set_option maxRecDepth 100000 in
theorem mX6_givesAs6 (l : Launch) (E : fx_En) (ad : Nat → Nat) (im : Int32) (at_ : Int32) (op : Int32) (st_ : Int32) (us : Int32) (bn : Int32) (bm : Int32) (la : Int32) (fo : Int32) (fi : Int32) (lp : Int32) (ip : Int32) (tn : Nat) (sk : Nat) (sa : Nat → Int32) (tr : Nat → Int32) (ow : Nat) (mm : Int32) (x : Int32) (htn : tn ≤ 30) (hsk : sk < 4) (hkd : sa (32 + 2 * sk) = nI ow) (hkd2 : ow ≤ 6) (hm : sa (32 + 2 * sk + 1) = mm) : fx_Mi l yX6_givesAs cX6_givesAs 3 .int rmX6_givesAs6 E [.ref (ad 30), .int 6, .int x] [(ad 30, .inr (6, [.ref (ad 0), .ref (ad 1), .int im, .ref (ad 3), .int at_, .int op, .int st_, .int us, .ref (ad 8), .ref (ad 9), .ref (ad 10), .ref (ad 11), .ref (ad 12), .ref (ad 13), .ref (ad 14), .int bn, .int bm, .ref (ad 17), .int la, .int fo, .int fi, .int lp, .ref (ad 22), .int (nI tn), .int (nI sk), .int ip, .ref (ad 26), .ref (ad 27), .ref (ad 28), .ref (ad 29)])), (ad 22, .inl (E.2 0, 30, .inl tr))] [(ad 0, .inl (E.2 0, 374, .inl sa))] (S := (Nat → Int32) × Nat) (fun (u : (Nat → Int32) × Nat) => [(ad 30, .inr (6, [.ref (ad 0), .ref (ad 1), .int im, .ref (ad 3), .int at_, .int op, .int st_, .int us, .ref (ad 8), .ref (ad 9), .ref (ad 10), .ref (ad 11), .ref (ad 12), .ref (ad 13), .ref (ad 14), .int bn, .int bm, .ref (ad 17), .int la, .int fo, .int fi, .int lp, .ref (ad 22), .int (nI u.2), .int (nI sk), .int ip, .ref (ad 26), .ref (ad 27), .ref (ad 28), .ref (ad 29)])), (ad 22, .inl (E.2 0, 30, .inl u.1))]) (fun (r : Int32) (u : (Nat → Int32) × Nat) => r = givesV 6 ow (nI sk) mm x ∧ (u.1, u.2) = bgL (tr, tn) (givesB 6 ow) ∧ u.2 ≤ 30) := by
  refine fx_iW rfl rfl ?_
  intro p e s m args below meth c A ls Q X hE hP hD hR hA hl hret
  have hx := X.1
  have hb := X.2.1
  have hS : va_S A s.heap s.heap [] := va_S.rf
  replace hP : va_P E.1 clA [(ad 30, .inr (6, [.ref (ad 0), .ref (ad 1), .int im, .ref (ad 3), .int at_, .int op, .int st_, .int us, .ref (ad 8), .ref (ad 9), .ref (ad 10), .ref (ad 11), .ref (ad 12), .ref (ad 13), .ref (ad 14), .int bn, .int bm, .ref (ad 17), .int la, .int fo, .int fi, .int lp, .ref (ad 22), .int (nI tn), .int (nI sk), .int ip, .ref (ad 26), .ref (ad 27), .ref (ad 28), .ref (ad 29)])), (ad 22, .inl (E.2 0, 30, .inl tr))] _ := hP
  replace hD : va_D A [(ad 30, .inr (6, [.ref (ad 0), .ref (ad 1), .int im, .ref (ad 3), .int at_, .int op, .int st_, .int us, .ref (ad 8), .ref (ad 9), .ref (ad 10), .ref (ad 11), .ref (ad 12), .ref (ad 13), .ref (ad 14), .int bn, .int bm, .ref (ad 17), .int la, .int fo, .int fi, .int lp, .ref (ad 22), .int (nI tn), .int (nI sk), .int ip, .ref (ad 26), .ref (ad 27), .ref (ad 28), .ref (ad 29)])), (ad 22, .inl (E.2 0, 30, .inl tr))] := hD
  replace hl : lv_has ls 3 [(0, .ref (ad 30)), (1, .int 6), (2, .int x)] := hl
  refine lv_iload_n hx hb dX6_givesAs_0 rfl (lv_at hl 1 rfl) ?_
  refine lv_lookup (tgt := 104) (off := 103) hx hb dX6_givesAs_1 (by decide) rfl (by decide) ?_
  refine lv_aload_n hx hb dX6_givesAs_104 rfl (lv_at hl 0 rfl) ?_
  refine lv_iload_n hx hb dX6_givesAs_105 rfl (lv_at hl 1 rfl) ?_
  refine fx_ci (va_runS (As := [.int 6]) (rest := [.ref (ad 30)]) X (mX6_above l E 6 (by decide) _) (va_cwS 1 X.2.2.2.2 (lw_S q1525 q1526 q75 q1527) rfl rfl rfl hdX6_above ⟨Nat.le_of_ble_eq_true rfl, Nat.le_of_ble_eq_true rfl⟩) (fx_pre hE hP hD hS hR [] rfl rfl fx_rc0) rfl rfl hl.1 rfl (lv_room (Nat.le_of_ble_eq_true rfl)) dX6_givesAs_106 ⟨Nat.le_refl _, Nat.le_refl _⟩) hP hD hS hA [] rfl rfl (fun r_106 u H locs hq_106 hP hD hS => ?_)
  replace hP : va_P E.1 clA [(ad 30, .inr (6, [.ref (ad 0), .ref (ad 1), .int im, .ref (ad 3), .int at_, .int op, .int st_, .int us, .ref (ad 8), .ref (ad 9), .ref (ad 10), .ref (ad 11), .ref (ad 12), .ref (ad 13), .ref (ad 14), .int bn, .int bm, .ref (ad 17), .int la, .int fo, .int fi, .int lp, .ref (ad 22), .int (nI tn), .int (nI sk), .int ip, .ref (ad 26), .ref (ad 27), .ref (ad 28), .ref (ad 29)])), (ad 22, .inl (E.2 0, 30, .inl tr))] _ := hP
  replace hD : va_D A [(ad 30, .inr (6, [.ref (ad 0), .ref (ad 1), .int im, .ref (ad 3), .int at_, .int op, .int st_, .int us, .ref (ad 8), .ref (ad 9), .ref (ad 10), .ref (ad 11), .ref (ad 12), .ref (ad 13), .ref (ad 14), .int bn, .int bm, .ref (ad 17), .int la, .int fo, .int fi, .int lp, .ref (ad 22), .int (nI tn), .int (nI sk), .int ip, .ref (ad 26), .ref (ad 27), .ref (ad 28), .ref (ad 29)])), (ad 22, .inl (E.2 0, 30, .inl tr))] := hD
  replace hq_106 : r_106 = nI (abvK 6) := hq_106
  refine fx_ti (show r_106 = 0 from hq_106.trans (by decide)) ?_
  refine lv_iload_n hx hb dX6_givesAs_109 rfl (lv_at hl 2 rfl) ?_
  refine fx_ci (va_runV (As := [.int 0, .int x]) (rest := []) X (mX6_givesAs0 l E ad im at_ op st_ us bn bm la fo fi lp ip tn sk sa tr ow mm x (by first | assumption | omega) (by first | assumption | omega) (by first | assumption | omega) (by first | assumption | omega) (by first | assumption | omega) _) (cwV 2 X.2.2.2.2 (lw_V q1532 q1534 qs66 q75 q1535) rfl rfl rfl ⟨rfl, hdX6_givesAs⟩ ⟨Nat.le_of_ble_eq_true rfl, Nat.le_of_ble_eq_true rfl⟩) (fx_preV (fx_pre hE hP hD hS hR [0, 1] rfl rfl (fx_rcr 0 rfl fx_rc0)) (va_recv hE.1 hP (ci := 6) (q0 := 0) rfl rfl)) rfl rfl hl.1 rfl (lv_room (Nat.le_of_ble_eq_true rfl)) dX6_givesAs_110 ⟨Nat.le_refl _, Nat.le_refl _⟩) hP hD hS hA [0, 1] rfl rfl (fun r_110 u H locs hq_110 hP hD hS => ?_)
  obtain ⟨tr2_110, tn2_110⟩ := u
  replace hP : va_P E.1 clA [(ad 30, .inr (6, [.ref (ad 0), .ref (ad 1), .int im, .ref (ad 3), .int at_, .int op, .int st_, .int us, .ref (ad 8), .ref (ad 9), .ref (ad 10), .ref (ad 11), .ref (ad 12), .ref (ad 13), .ref (ad 14), .int bn, .int bm, .ref (ad 17), .int la, .int fo, .int fi, .int lp, .ref (ad 22), .int (nI tn2_110), .int (nI sk), .int ip, .ref (ad 26), .ref (ad 27), .ref (ad 28), .ref (ad 29)])), (ad 22, .inl (E.2 0, 30, .inl tr2_110))] _ := hP
  replace hD : va_D A [(ad 30, .inr (6, [.ref (ad 0), .ref (ad 1), .int im, .ref (ad 3), .int at_, .int op, .int st_, .int us, .ref (ad 8), .ref (ad 9), .ref (ad 10), .ref (ad 11), .ref (ad 12), .ref (ad 13), .ref (ad 14), .int bn, .int bm, .ref (ad 17), .int la, .int fo, .int fi, .int lp, .ref (ad 22), .int (nI tn2_110), .int (nI sk), .int ip, .ref (ad 26), .ref (ad 27), .ref (ad 28), .ref (ad 29)])), (ad 22, .inl (E.2 0, 30, .inl tr2_110))] := hD
  replace hq_110 : r_110 = givesV 0 ow (nI sk) mm x ∧ (tr2_110, tn2_110) = bgL (tr, tn) (givesB 0 ow) ∧ tn2_110 ≤ 30 := hq_110
  exact hret r_110 (tr2_110, tn2_110) (⟨by rw [hq_110.1]; rfl, by rw [hq_110.2.1]; rfl, hq_110.2.2⟩) (rfl) hP hD hS (Nat.le_refl _) (Nat.le_refl _) dX6_givesAs_113
abbrev rmX6_givesAs4 : Room := { frames := 9, cells := 0, slots := 0, locals := 197 }
set_option maxHeartbeats 400000 in
set_option maxRecDepth 100000 in
theorem mX6_givesAs4 (l : Launch) (E : fx_En) (ad : Nat → Nat) (im : Int32) (at_ : Int32) (op : Int32) (st_ : Int32) (us : Int32) (bn : Int32) (bm : Int32) (la : Int32) (fo : Int32) (fi : Int32) (lp : Int32) (ip : Int32) (tn : Nat) (sk : Nat) (sa : Nat → Int32) (tr : Nat → Int32) (ow : Nat) (mm : Int32) (x : Int32) (htn : tn ≤ 30) (hsk : sk < 4) (hkd : sa (32 + 2 * sk) = nI ow) (hkd2 : ow ≤ 6) (hm : sa (32 + 2 * sk + 1) = mm) : fx_Mi l yX6_givesAs cX6_givesAs 3 .int rmX6_givesAs4 E [.ref (ad 30), .int 4, .int x] [(ad 30, .inr (6, [.ref (ad 0), .ref (ad 1), .int im, .ref (ad 3), .int at_, .int op, .int st_, .int us, .ref (ad 8), .ref (ad 9), .ref (ad 10), .ref (ad 11), .ref (ad 12), .ref (ad 13), .ref (ad 14), .int bn, .int bm, .ref (ad 17), .int la, .int fo, .int fi, .int lp, .ref (ad 22), .int (nI tn), .int (nI sk), .int ip, .ref (ad 26), .ref (ad 27), .ref (ad 28), .ref (ad 29)])), (ad 22, .inl (E.2 0, 30, .inl tr))] [(ad 0, .inl (E.2 0, 374, .inl sa))] (S := (Nat → Int32) × Nat) (fun (u : (Nat → Int32) × Nat) => [(ad 30, .inr (6, [.ref (ad 0), .ref (ad 1), .int im, .ref (ad 3), .int at_, .int op, .int st_, .int us, .ref (ad 8), .ref (ad 9), .ref (ad 10), .ref (ad 11), .ref (ad 12), .ref (ad 13), .ref (ad 14), .int bn, .int bm, .ref (ad 17), .int la, .int fo, .int fi, .int lp, .ref (ad 22), .int (nI u.2), .int (nI sk), .int ip, .ref (ad 26), .ref (ad 27), .ref (ad 28), .ref (ad 29)])), (ad 22, .inl (E.2 0, 30, .inl u.1))]) (fun (r : Int32) (u : (Nat → Int32) × Nat) => r = givesV 4 ow (nI sk) mm x ∧ (u.1, u.2) = bgL (tr, tn) (givesB 4 ow) ∧ u.2 ≤ 30) := by
  refine fx_iW rfl rfl ?_
  intro p e s m args below meth c A ls Q X hE hP hD hR hA hl hret
  have hx := X.1
  have hb := X.2.1
  have hS : va_S A s.heap s.heap [] := va_S.rf
  replace hP : va_P E.1 clA [(ad 30, .inr (6, [.ref (ad 0), .ref (ad 1), .int im, .ref (ad 3), .int at_, .int op, .int st_, .int us, .ref (ad 8), .ref (ad 9), .ref (ad 10), .ref (ad 11), .ref (ad 12), .ref (ad 13), .ref (ad 14), .int bn, .int bm, .ref (ad 17), .int la, .int fo, .int fi, .int lp, .ref (ad 22), .int (nI tn), .int (nI sk), .int ip, .ref (ad 26), .ref (ad 27), .ref (ad 28), .ref (ad 29)])), (ad 22, .inl (E.2 0, 30, .inl tr))] _ := hP
  replace hD : va_D A [(ad 30, .inr (6, [.ref (ad 0), .ref (ad 1), .int im, .ref (ad 3), .int at_, .int op, .int st_, .int us, .ref (ad 8), .ref (ad 9), .ref (ad 10), .ref (ad 11), .ref (ad 12), .ref (ad 13), .ref (ad 14), .int bn, .int bm, .ref (ad 17), .int la, .int fo, .int fi, .int lp, .ref (ad 22), .int (nI tn), .int (nI sk), .int ip, .ref (ad 26), .ref (ad 27), .ref (ad 28), .ref (ad 29)])), (ad 22, .inl (E.2 0, 30, .inl tr))] := hD
  replace hl : lv_has ls 3 [(0, .ref (ad 30)), (1, .int 4), (2, .int x)] := hl
  refine lv_iload_n hx hb dX6_givesAs_0 rfl (lv_at hl 1 rfl) ?_
  refine lv_lookup (tgt := 104) (off := 103) hx hb dX6_givesAs_1 (by decide) rfl (by decide) ?_
  refine lv_aload_n hx hb dX6_givesAs_104 rfl (lv_at hl 0 rfl) ?_
  refine lv_iload_n hx hb dX6_givesAs_105 rfl (lv_at hl 1 rfl) ?_
  refine fx_ci (va_runS (As := [.int 4]) (rest := [.ref (ad 30)]) X (mX6_above l E 4 (by decide) _) (va_cwS 1 X.2.2.2.2 (lw_S q1525 q1526 q75 q1527) rfl rfl rfl hdX6_above ⟨Nat.le_of_ble_eq_true rfl, Nat.le_of_ble_eq_true rfl⟩) (fx_pre hE hP hD hS hR [] rfl rfl fx_rc0) rfl rfl hl.1 rfl (lv_room (Nat.le_of_ble_eq_true rfl)) dX6_givesAs_106 ⟨Nat.le_refl _, Nat.le_refl _⟩) hP hD hS hA [] rfl rfl (fun r_106 u H locs hq_106 hP hD hS => ?_)
  replace hP : va_P E.1 clA [(ad 30, .inr (6, [.ref (ad 0), .ref (ad 1), .int im, .ref (ad 3), .int at_, .int op, .int st_, .int us, .ref (ad 8), .ref (ad 9), .ref (ad 10), .ref (ad 11), .ref (ad 12), .ref (ad 13), .ref (ad 14), .int bn, .int bm, .ref (ad 17), .int la, .int fo, .int fi, .int lp, .ref (ad 22), .int (nI tn), .int (nI sk), .int ip, .ref (ad 26), .ref (ad 27), .ref (ad 28), .ref (ad 29)])), (ad 22, .inl (E.2 0, 30, .inl tr))] _ := hP
  replace hD : va_D A [(ad 30, .inr (6, [.ref (ad 0), .ref (ad 1), .int im, .ref (ad 3), .int at_, .int op, .int st_, .int us, .ref (ad 8), .ref (ad 9), .ref (ad 10), .ref (ad 11), .ref (ad 12), .ref (ad 13), .ref (ad 14), .int bn, .int bm, .ref (ad 17), .int la, .int fo, .int fi, .int lp, .ref (ad 22), .int (nI tn), .int (nI sk), .int ip, .ref (ad 26), .ref (ad 27), .ref (ad 28), .ref (ad 29)])), (ad 22, .inl (E.2 0, 30, .inl tr))] := hD
  replace hq_106 : r_106 = nI (abvK 4) := hq_106
  refine fx_ti (show r_106 = 2 from hq_106.trans (by decide)) ?_
  refine lv_iload_n hx hb dX6_givesAs_109 rfl (lv_at hl 2 rfl) ?_
  refine fx_ci (va_runV (As := [.int 2, .int x]) (rest := []) X (mX6_givesAs2 l E ad im at_ op st_ us bn bm la fo fi lp ip tn sk sa tr ow mm x (by first | assumption | omega) (by first | assumption | omega) (by first | assumption | omega) (by first | assumption | omega) (by first | assumption | omega) _) (cwV 2 X.2.2.2.2 (lw_V q1532 q1534 qs66 q75 q1535) rfl rfl rfl ⟨rfl, hdX6_givesAs⟩ ⟨Nat.le_of_ble_eq_true rfl, Nat.le_of_ble_eq_true rfl⟩) (fx_preV (fx_pre hE hP hD hS hR [0, 1] rfl rfl (fx_rcr 0 rfl fx_rc0)) (va_recv hE.1 hP (ci := 6) (q0 := 0) rfl rfl)) rfl rfl hl.1 rfl (lv_room (Nat.le_of_ble_eq_true rfl)) dX6_givesAs_110 ⟨Nat.le_refl _, Nat.le_refl _⟩) hP hD hS hA [0, 1] rfl rfl (fun r_110 u H locs hq_110 hP hD hS => ?_)
  obtain ⟨tr2_110, tn2_110⟩ := u
  replace hP : va_P E.1 clA [(ad 30, .inr (6, [.ref (ad 0), .ref (ad 1), .int im, .ref (ad 3), .int at_, .int op, .int st_, .int us, .ref (ad 8), .ref (ad 9), .ref (ad 10), .ref (ad 11), .ref (ad 12), .ref (ad 13), .ref (ad 14), .int bn, .int bm, .ref (ad 17), .int la, .int fo, .int fi, .int lp, .ref (ad 22), .int (nI tn2_110), .int (nI sk), .int ip, .ref (ad 26), .ref (ad 27), .ref (ad 28), .ref (ad 29)])), (ad 22, .inl (E.2 0, 30, .inl tr2_110))] _ := hP
  replace hD : va_D A [(ad 30, .inr (6, [.ref (ad 0), .ref (ad 1), .int im, .ref (ad 3), .int at_, .int op, .int st_, .int us, .ref (ad 8), .ref (ad 9), .ref (ad 10), .ref (ad 11), .ref (ad 12), .ref (ad 13), .ref (ad 14), .int bn, .int bm, .ref (ad 17), .int la, .int fo, .int fi, .int lp, .ref (ad 22), .int (nI tn2_110), .int (nI sk), .int ip, .ref (ad 26), .ref (ad 27), .ref (ad 28), .ref (ad 29)])), (ad 22, .inl (E.2 0, 30, .inl tr2_110))] := hD
  replace hq_110 : r_110 = givesV 2 ow (nI sk) mm x ∧ (tr2_110, tn2_110) = bgL (tr, tn) (givesB 2 ow) ∧ tn2_110 ≤ 30 := hq_110
  exact hret r_110 (tr2_110, tn2_110) (⟨by rw [hq_110.1]; rfl, by rw [hq_110.2.1]; rfl, hq_110.2.2⟩) (rfl) hP hD hS (Nat.le_refl _) (Nat.le_refl _) dX6_givesAs_113
abbrev rmX6_partsAs0 : Room := { frames := 1, cells := 0, slots := 0, locals := 21 }
set_option maxHeartbeats 400000 in
set_option maxRecDepth 100000 in
theorem mX6_partsAs0 (l : Launch) (E : fx_En) (ad : Nat → Nat) (im : Int32) (at_ : Int32) (op : Int32) (st_ : Int32) (us : Int32) (bn : Int32) (bm : Int32) (la : Int32) (fo : Int32) (fi : Int32) (lp : Int32) (ip : Int32) (tn : Nat) (sk : Nat) (sa : Nat → Int32) (tr : Nat → Int32) (ow : Nat) (mm : Int32) (x : Int32) (htn : tn ≤ 30) (hsk : sk < 4) (hkd : sa (32 + 2 * sk) = nI ow) (hkd2 : ow ≤ 6) (hm : sa (32 + 2 * sk + 1) = mm) : fx_Mi l yX6_partsAs cX6_partsAs 5 .int rmX6_partsAs0 E [.ref (ad 30), .int 0, .int x] [(ad 30, .inr (6, [.ref (ad 0), .ref (ad 1), .int im, .ref (ad 3), .int at_, .int op, .int st_, .int us, .ref (ad 8), .ref (ad 9), .ref (ad 10), .ref (ad 11), .ref (ad 12), .ref (ad 13), .ref (ad 14), .int bn, .int bm, .ref (ad 17), .int la, .int fo, .int fi, .int lp, .ref (ad 22), .int (nI tn), .int (nI sk), .int ip, .ref (ad 26), .ref (ad 27), .ref (ad 28), .ref (ad 29)])), (ad 22, .inl (E.2 0, 30, .inl tr))] [(ad 0, .inl (E.2 0, 374, .inl sa))] (S := (Nat → Int32) × Nat × Int32) (fun (u : (Nat → Int32) × Nat × Int32) => [(ad 30, .inr (6, [.ref (ad 0), .ref (ad 1), .int im, .ref (ad 3), .int at_, .int op, .int st_, .int us, .ref (ad 8), .ref (ad 9), .ref (ad 10), .ref (ad 11), .ref (ad 12), .ref (ad 13), .ref (ad 14), .int bn, .int bm, .ref (ad 17), .int la, .int fo, .int fi, .int lp, .ref (ad 22), .int (nI u.2.1), .int (nI sk), .int u.2.2, .ref (ad 26), .ref (ad 27), .ref (ad 28), .ref (ad 29)])), (ad 22, .inl (E.2 0, 30, .inl u.1))]) (fun (r : Int32) (u : (Nat → Int32) × Nat × Int32) => r = partsV 0 ow (nI sk) mm x ∧ (u.1, u.2.1) = bgL (tr, tn) (partsB 0 ow (nI sk) mm) ∧ u.2.2 = fx_b (mm - nI sk = 0) ∧ u.2.1 ≤ 30) := by
  refine fx_iW rfl rfl ?_
  intro p e s m args below meth c A ls Q X hE hP hD hR hA hl hret
  have hx := X.1
  have hb := X.2.1
  have hS : va_S A s.heap s.heap [] := va_S.rf
  replace hP : va_P E.1 clA [(ad 30, .inr (6, [.ref (ad 0), .ref (ad 1), .int im, .ref (ad 3), .int at_, .int op, .int st_, .int us, .ref (ad 8), .ref (ad 9), .ref (ad 10), .ref (ad 11), .ref (ad 12), .ref (ad 13), .ref (ad 14), .int bn, .int bm, .ref (ad 17), .int la, .int fo, .int fi, .int lp, .ref (ad 22), .int (nI tn), .int (nI sk), .int ip, .ref (ad 26), .ref (ad 27), .ref (ad 28), .ref (ad 29)])), (ad 22, .inl (E.2 0, 30, .inl tr))] _ := hP
  replace hD : va_D A [(ad 30, .inr (6, [.ref (ad 0), .ref (ad 1), .int im, .ref (ad 3), .int at_, .int op, .int st_, .int us, .ref (ad 8), .ref (ad 9), .ref (ad 10), .ref (ad 11), .ref (ad 12), .ref (ad 13), .ref (ad 14), .int bn, .int bm, .ref (ad 17), .int la, .int fo, .int fi, .int lp, .ref (ad 22), .int (nI tn), .int (nI sk), .int ip, .ref (ad 26), .ref (ad 27), .ref (ad 28), .ref (ad 29)])), (ad 22, .inl (E.2 0, 30, .inl tr))] := hD
  replace hl : lv_has ls 5 [(0, .ref (ad 30)), (1, .int 0), (2, .int x)] := hl
  refine lv_iload_n hx hb dX6_partsAs_0 rfl (lv_at hl 1 rfl) ?_
  refine lv_lookup (tgt := 28) (off := 27) hx hb dX6_partsAs_1 (by decide) rfl (by decide) ?_
  refine lv_aload_n hx hb dX6_partsAs_28 rfl (lv_at hl 0 rfl) ?_
  refine lv_bipush (v := 13) hx hb dX6_partsAs_29 rfl ?_
  refine fx_cv (va_runV (As := [.int 13]) (rest := []) X (mX6_begins l E ad im at_ op st_ us bn bm la fo fi lp ip tn sk tr 13 (by first | assumption | omega) _) (cwV 1 X.2.2.2.2 (lw_V q1521 q1523 qs64 q75 q1524) rfl rfl rfl ⟨rfl, hdX6_begins⟩ ⟨Nat.le_of_ble_eq_true rfl, Nat.le_of_ble_eq_true rfl⟩) (fx_preV (fx_pre hE hP hD hS hR [0, 1] rfl rfl fx_rc0) (va_recv hE.1 hP (ci := 6) (q0 := 0) rfl rfl)) rfl rfl hl.1 rfl (lv_room (Nat.le_of_ble_eq_true rfl)) dX6_partsAs_31 ⟨Nat.le_refl _, Nat.le_refl _⟩) hP hD hS hA [0, 1] rfl rfl (fun u H locs hq_31 hP hD hS => ?_)
  obtain ⟨tr2_31, tn2_31⟩ := u
  replace hP : va_P E.1 clA [(ad 30, .inr (6, [.ref (ad 0), .ref (ad 1), .int im, .ref (ad 3), .int at_, .int op, .int st_, .int us, .ref (ad 8), .ref (ad 9), .ref (ad 10), .ref (ad 11), .ref (ad 12), .ref (ad 13), .ref (ad 14), .int bn, .int bm, .ref (ad 17), .int la, .int fo, .int fi, .int lp, .ref (ad 22), .int (nI tn2_31), .int (nI sk), .int ip, .ref (ad 26), .ref (ad 27), .ref (ad 28), .ref (ad 29)])), (ad 22, .inl (E.2 0, 30, .inl tr2_31))] _ := hP
  replace hD : va_D A [(ad 30, .inr (6, [.ref (ad 0), .ref (ad 1), .int im, .ref (ad 3), .int at_, .int op, .int st_, .int us, .ref (ad 8), .ref (ad 9), .ref (ad 10), .ref (ad 11), .ref (ad 12), .ref (ad 13), .ref (ad 14), .int bn, .int bm, .ref (ad 17), .int la, .int fo, .int fi, .int lp, .ref (ad 22), .int (nI tn2_31), .int (nI sk), .int ip, .ref (ad 26), .ref (ad 27), .ref (ad 28), .ref (ad 29)])), (ad 22, .inl (E.2 0, 30, .inl tr2_31))] := hD
  replace hq_31 : (tr2_31, tn2_31) = bg (tr, tn) 13 ∧ tn2_31 ≤ 30 := hq_31
  refine lv_aload_n hx hb dX6_partsAs_34 rfl (lv_at hl 0 rfl) ?_
  refine lv_aload_n hx hb dX6_partsAs_35 rfl (lv_at hl 0 rfl) ?_
  refine fx_get X hE hP 0 rfl rfl 24 rfl q1192 rfl rfl dX6_partsAs_36 ?_
  refine fx_ci (va_runV (As := [.int (nI sk)]) (rest := []) X (mX6_mOf l E ad im at_ op st_ us bn bm la fo fi lp (nI tn2_31) (nI sk) ip sa sk hsk _) (cwV 1 X.2.2.2.2 (lw_V q1364 q1366 qs48 q75 q1367) rfl rfl rfl ⟨rfl, hdX6_mOf⟩ ⟨Nat.le_of_ble_eq_true rfl, Nat.le_of_ble_eq_true rfl⟩) (fx_preV (fx_pre hE hP hD hS hR [] rfl rfl (fx_rcm 0 rfl (by decide) (fx_rcr 0 rfl fx_rc0))) (va_recv hE.1 hP (ci := 6) (q0 := 0) rfl rfl)) rfl rfl hl.1 rfl (lv_room (Nat.le_of_ble_eq_true rfl)) dX6_partsAs_39 ⟨Nat.le_refl _, Nat.le_refl _⟩) hP hD hS hA [] rfl rfl (fun r_39 u H locs hq_39 hP hD hS => ?_)
  replace hP : va_P E.1 clA [(ad 30, .inr (6, [.ref (ad 0), .ref (ad 1), .int im, .ref (ad 3), .int at_, .int op, .int st_, .int us, .ref (ad 8), .ref (ad 9), .ref (ad 10), .ref (ad 11), .ref (ad 12), .ref (ad 13), .ref (ad 14), .int bn, .int bm, .ref (ad 17), .int la, .int fo, .int fi, .int lp, .ref (ad 22), .int (nI tn2_31), .int (nI sk), .int ip, .ref (ad 26), .ref (ad 27), .ref (ad 28), .ref (ad 29)])), (ad 22, .inl (E.2 0, 30, .inl tr2_31))] _ := hP
  replace hD : va_D A [(ad 30, .inr (6, [.ref (ad 0), .ref (ad 1), .int im, .ref (ad 3), .int at_, .int op, .int st_, .int us, .ref (ad 8), .ref (ad 9), .ref (ad 10), .ref (ad 11), .ref (ad 12), .ref (ad 13), .ref (ad 14), .int bn, .int bm, .ref (ad 17), .int la, .int fo, .int fi, .int lp, .ref (ad 22), .int (nI tn2_31), .int (nI sk), .int ip, .ref (ad 26), .ref (ad 27), .ref (ad 28), .ref (ad 29)])), (ad 22, .inl (E.2 0, 30, .inl tr2_31))] := hD
  replace hq_39 : r_39 = sa (32 + 2 * sk + 1) := hq_39
  refine fx_ti (show r_39 = mm from hq_39.trans hm) ?_
  refine lv_aload_n hx hb dX6_partsAs_42 rfl (lv_at hl 0 rfl) ?_
  refine fx_get X hE hP 0 rfl rfl 24 rfl q1192 rfl rfl dX6_partsAs_43 ?_
  refine lv_isub hx hb dX6_partsAs_46 ?_
  refine lv_istore_n (lv' := [(3, .int (mm - (nI sk))), (0, .ref (ad 30)), (1, .int 0), (2, .int x)]) hx hb dX6_partsAs_47 rfl hl (by decide) rfl (fun ls hl => ?_)
  refine lv_aload_n hx hb dX6_partsAs_48 rfl (lv_at hl 1 rfl) ?_
  refine lv_iload_n hx hb dX6_partsAs_49 rfl (lv_at hl 0 rfl) ?_
  refine lv_if_ne (tgt := 57) hx hb dX6_partsAs_50 (by decide) (fun c_50 => ?_) (fun c_50 => ?_)
  · -- jump 57
    refine lv_iconst (v := 0) hx hb dX6_partsAs_57 rfl ?_
    refine fx_put_ (ws' := [(ad 30, .inr (6, [.ref (ad 0), .ref (ad 1), .int im, .ref (ad 3), .int at_, .int op, .int st_, .int us, .ref (ad 8), .ref (ad 9), .ref (ad 10), .ref (ad 11), .ref (ad 12), .ref (ad 13), .ref (ad 14), .int bn, .int bm, .ref (ad 17), .int la, .int fo, .int fi, .int lp, .ref (ad 22), .int (nI tn2_31), .int (nI sk), .int 0, .ref (ad 26), .ref (ad 27), .ref (ad 28), .ref (ad 29)])), (ad 22, .inl (E.2 0, 30, .inl tr2_31))]) X hE hP hD hS 0 rfl rfl tyX6_ok nmX6 25 rfl q1193 rfl rfl rfl rfl rfl rfl dX6_partsAs_58 (fun H locs hP hD hS => ?_)
    refine lv_iload_n hx hb dX6_partsAs_61 rfl (lv_at hl 0 rfl) ?_
    refine lv_if_ne (tgt := 69) hx hb dX6_partsAs_62 (by decide) (fun c_62 => ?_) (fun c_62 => ?_)
    · -- jump 69
      refine lv_iload_n hx hb dX6_partsAs_69 rfl (lv_at hl 0 rfl) ?_
      refine lv_iconst (v := (-1)) hx hb dX6_partsAs_70 rfl ?_
      refine lv_icmp_ne (tgt := 79) hx hb dX6_partsAs_71 (by decide) (fun c_71 => ?_) (fun c_71 => ?_)
      · -- jump 79
        refine lv_iload_n hx hb dX6_partsAs_79 rfl (lv_at hl 3 rfl) ?_
        refine lv_iload_n hx hb dX6_partsAs_80 rfl (lv_at hl 0 rfl) ?_
        refine lv_idiv hx hb dX6_partsAs_81 c_62 ?_
        exact hret (x / (mm - (nI sk))) (tr2_31, tn2_31, 0) (⟨by simp [partsV, c_62], by rw [hq_31.1]; rfl, fx_bf c_50, hq_31.2⟩) (rfl) hP hD hS (Nat.le_refl _) (Nat.le_refl _) dX6_partsAs_82
      · -- fall 74
        refine lv_iload_n hx hb dX6_partsAs_74 rfl (lv_at hl 3 rfl) ?_
        refine lv_ineg hx hb dX6_partsAs_75 ?_
        refine lv_goto (tgt := 82) hx hb dX6_partsAs_76 (by decide) ?_
        exact hret (-x) (tr2_31, tn2_31, 0) (⟨by rw [partsV, if_neg c_62, if_neg (by omega), c_71, dm1], by rw [hq_31.1]; rfl, fx_bf c_50, hq_31.2⟩) (rfl) hP hD hS (Nat.le_refl _) (Nat.le_refl _) dX6_partsAs_82
    · -- fall 65
      refine lv_iconst (v := 0) hx hb dX6_partsAs_65 rfl ?_
      refine lv_goto (tgt := 82) hx hb dX6_partsAs_66 (by decide) ?_
      exact hret 0 (tr2_31, tn2_31, 0) (⟨by simp [partsV, c_62], by rw [hq_31.1]; rfl, fx_bf c_50, hq_31.2⟩) (rfl) hP hD hS (Nat.le_refl _) (Nat.le_refl _) dX6_partsAs_82
  · -- fall 53
    refine lv_iconst (v := 1) hx hb dX6_partsAs_53 rfl ?_
    refine lv_goto (tgt := 58) hx hb dX6_partsAs_54 (by decide) ?_
    refine fx_put_ (ws' := [(ad 30, .inr (6, [.ref (ad 0), .ref (ad 1), .int im, .ref (ad 3), .int at_, .int op, .int st_, .int us, .ref (ad 8), .ref (ad 9), .ref (ad 10), .ref (ad 11), .ref (ad 12), .ref (ad 13), .ref (ad 14), .int bn, .int bm, .ref (ad 17), .int la, .int fo, .int fi, .int lp, .ref (ad 22), .int (nI tn2_31), .int (nI sk), .int 1, .ref (ad 26), .ref (ad 27), .ref (ad 28), .ref (ad 29)])), (ad 22, .inl (E.2 0, 30, .inl tr2_31))]) X hE hP hD hS 0 rfl rfl tyX6_ok nmX6 25 rfl q1193 rfl rfl rfl rfl rfl rfl dX6_partsAs_58 (fun H locs hP hD hS => ?_)
    refine lv_iload_n hx hb dX6_partsAs_61 rfl (lv_at hl 0 rfl) ?_
    refine lv_if_ne (tgt := 69) hx hb dX6_partsAs_62 (by decide) (fun c_62 => ?_) (fun c_62 => ?_)
    · -- jump 69
      refine lv_iload_n hx hb dX6_partsAs_69 rfl (lv_at hl 0 rfl) ?_
      refine lv_iconst (v := (-1)) hx hb dX6_partsAs_70 rfl ?_
      refine lv_icmp_ne (tgt := 79) hx hb dX6_partsAs_71 (by decide) (fun c_71 => ?_) (fun c_71 => ?_)
      · -- jump 79
        refine lv_iload_n hx hb dX6_partsAs_79 rfl (lv_at hl 3 rfl) ?_
        refine lv_iload_n hx hb dX6_partsAs_80 rfl (lv_at hl 0 rfl) ?_
        refine lv_idiv hx hb dX6_partsAs_81 c_62 ?_
        exact hret (x / (mm - (nI sk))) (tr2_31, tn2_31, 1) (⟨by simp [partsV, c_62], by rw [hq_31.1]; rfl, fx_bt c_50, hq_31.2⟩) (rfl) hP hD hS (Nat.le_refl _) (Nat.le_refl _) dX6_partsAs_82
      · -- fall 74
        refine lv_iload_n hx hb dX6_partsAs_74 rfl (lv_at hl 3 rfl) ?_
        refine lv_ineg hx hb dX6_partsAs_75 ?_
        refine lv_goto (tgt := 82) hx hb dX6_partsAs_76 (by decide) ?_
        exact hret (-x) (tr2_31, tn2_31, 1) (⟨by rw [partsV, if_neg c_62, if_neg (by omega), c_71, dm1], by rw [hq_31.1]; rfl, fx_bt c_50, hq_31.2⟩) (rfl) hP hD hS (Nat.le_refl _) (Nat.le_refl _) dX6_partsAs_82
    · -- fall 65
      refine lv_iconst (v := 0) hx hb dX6_partsAs_65 rfl ?_
      refine lv_goto (tgt := 82) hx hb dX6_partsAs_66 (by decide) ?_
      exact hret 0 (tr2_31, tn2_31, 1) (⟨by simp [partsV, c_62], by rw [hq_31.1]; rfl, fx_bt c_50, hq_31.2⟩) (rfl) hP hD hS (Nat.le_refl _) (Nat.le_refl _) dX6_partsAs_82
abbrev rmX6_partsAs1 : Room := { frames := 7, cells := 0, slots := 0, locals := 153 }
set_option maxHeartbeats 400000 in
set_option maxRecDepth 100000 in
theorem mX6_partsAs1 (l : Launch) (E : fx_En) (ad : Nat → Nat) (im : Int32) (at_ : Int32) (op : Int32) (st_ : Int32) (us : Int32) (bn : Int32) (bm : Int32) (la : Int32) (fo : Int32) (fi : Int32) (lp : Int32) (ip : Int32) (tn : Nat) (sk : Nat) (sa : Nat → Int32) (tr : Nat → Int32) (ow : Nat) (mm : Int32) (x : Int32) (htn : tn ≤ 30) (hsk : sk < 4) (hkd : sa (32 + 2 * sk) = nI ow) (hkd2 : ow ≤ 6) (hm : sa (32 + 2 * sk + 1) = mm) : fx_Mi l yX6_partsAs cX6_partsAs 5 .int rmX6_partsAs1 E [.ref (ad 30), .int 1, .int x] [(ad 30, .inr (6, [.ref (ad 0), .ref (ad 1), .int im, .ref (ad 3), .int at_, .int op, .int st_, .int us, .ref (ad 8), .ref (ad 9), .ref (ad 10), .ref (ad 11), .ref (ad 12), .ref (ad 13), .ref (ad 14), .int bn, .int bm, .ref (ad 17), .int la, .int fo, .int fi, .int lp, .ref (ad 22), .int (nI tn), .int (nI sk), .int ip, .ref (ad 26), .ref (ad 27), .ref (ad 28), .ref (ad 29)])), (ad 22, .inl (E.2 0, 30, .inl tr))] [(ad 0, .inl (E.2 0, 374, .inl sa))] (S := (Nat → Int32) × Nat × Int32) (fun (u : (Nat → Int32) × Nat × Int32) => [(ad 30, .inr (6, [.ref (ad 0), .ref (ad 1), .int im, .ref (ad 3), .int at_, .int op, .int st_, .int us, .ref (ad 8), .ref (ad 9), .ref (ad 10), .ref (ad 11), .ref (ad 12), .ref (ad 13), .ref (ad 14), .int bn, .int bm, .ref (ad 17), .int la, .int fo, .int fi, .int lp, .ref (ad 22), .int (nI u.2.1), .int (nI sk), .int u.2.2, .ref (ad 26), .ref (ad 27), .ref (ad 28), .ref (ad 29)])), (ad 22, .inl (E.2 0, 30, .inl u.1))]) (fun (r : Int32) (u : (Nat → Int32) × Nat × Int32) => r = partsV 1 ow (nI sk) mm x ∧ (u.1, u.2.1) = bgL (tr, tn) (partsB 1 ow (nI sk) mm) ∧ u.2.2 = fx_b (mm - nI sk = 0) ∧ u.2.1 ≤ 30) := by
  refine fx_iW rfl rfl ?_
  intro p e s m args below meth c A ls Q X hE hP hD hR hA hl hret
  have hx := X.1
  have hb := X.2.1
  have hS : va_S A s.heap s.heap [] := va_S.rf
  replace hP : va_P E.1 clA [(ad 30, .inr (6, [.ref (ad 0), .ref (ad 1), .int im, .ref (ad 3), .int at_, .int op, .int st_, .int us, .ref (ad 8), .ref (ad 9), .ref (ad 10), .ref (ad 11), .ref (ad 12), .ref (ad 13), .ref (ad 14), .int bn, .int bm, .ref (ad 17), .int la, .int fo, .int fi, .int lp, .ref (ad 22), .int (nI tn), .int (nI sk), .int ip, .ref (ad 26), .ref (ad 27), .ref (ad 28), .ref (ad 29)])), (ad 22, .inl (E.2 0, 30, .inl tr))] _ := hP
  replace hD : va_D A [(ad 30, .inr (6, [.ref (ad 0), .ref (ad 1), .int im, .ref (ad 3), .int at_, .int op, .int st_, .int us, .ref (ad 8), .ref (ad 9), .ref (ad 10), .ref (ad 11), .ref (ad 12), .ref (ad 13), .ref (ad 14), .int bn, .int bm, .ref (ad 17), .int la, .int fo, .int fi, .int lp, .ref (ad 22), .int (nI tn), .int (nI sk), .int ip, .ref (ad 26), .ref (ad 27), .ref (ad 28), .ref (ad 29)])), (ad 22, .inl (E.2 0, 30, .inl tr))] := hD
  replace hl : lv_has ls 5 [(0, .ref (ad 30)), (1, .int 1), (2, .int x)] := hl
  refine lv_iload_n hx hb dX6_partsAs_0 rfl (lv_at hl 1 rfl) ?_
  refine lv_lookup (tgt := 83) (off := 82) hx hb dX6_partsAs_1 (by decide) rfl (by decide) ?_
  refine lv_aload_n hx hb dX6_partsAs_83 rfl (lv_at hl 0 rfl) ?_
  refine lv_bipush (v := 21) hx hb dX6_partsAs_84 rfl ?_
  refine fx_cv (va_runV (As := [.int 21]) (rest := []) X (mX6_begins l E ad im at_ op st_ us bn bm la fo fi lp ip tn sk tr 21 (by first | assumption | omega) _) (cwV 1 X.2.2.2.2 (lw_V q1521 q1523 qs64 q75 q1524) rfl rfl rfl ⟨rfl, hdX6_begins⟩ ⟨Nat.le_of_ble_eq_true rfl, Nat.le_of_ble_eq_true rfl⟩) (fx_preV (fx_pre hE hP hD hS hR [0, 1] rfl rfl fx_rc0) (va_recv hE.1 hP (ci := 6) (q0 := 0) rfl rfl)) rfl rfl hl.1 rfl (lv_room (Nat.le_of_ble_eq_true rfl)) dX6_partsAs_86 ⟨Nat.le_refl _, Nat.le_refl _⟩) hP hD hS hA [0, 1] rfl rfl (fun u H locs hq_86 hP hD hS => ?_)
  obtain ⟨tr2_86, tn2_86⟩ := u
  replace hP : va_P E.1 clA [(ad 30, .inr (6, [.ref (ad 0), .ref (ad 1), .int im, .ref (ad 3), .int at_, .int op, .int st_, .int us, .ref (ad 8), .ref (ad 9), .ref (ad 10), .ref (ad 11), .ref (ad 12), .ref (ad 13), .ref (ad 14), .int bn, .int bm, .ref (ad 17), .int la, .int fo, .int fi, .int lp, .ref (ad 22), .int (nI tn2_86), .int (nI sk), .int ip, .ref (ad 26), .ref (ad 27), .ref (ad 28), .ref (ad 29)])), (ad 22, .inl (E.2 0, 30, .inl tr2_86))] _ := hP
  replace hD : va_D A [(ad 30, .inr (6, [.ref (ad 0), .ref (ad 1), .int im, .ref (ad 3), .int at_, .int op, .int st_, .int us, .ref (ad 8), .ref (ad 9), .ref (ad 10), .ref (ad 11), .ref (ad 12), .ref (ad 13), .ref (ad 14), .int bn, .int bm, .ref (ad 17), .int la, .int fo, .int fi, .int lp, .ref (ad 22), .int (nI tn2_86), .int (nI sk), .int ip, .ref (ad 26), .ref (ad 27), .ref (ad 28), .ref (ad 29)])), (ad 22, .inl (E.2 0, 30, .inl tr2_86))] := hD
  replace hq_86 : (tr2_86, tn2_86) = bg (tr, tn) 21 ∧ tn2_86 ≤ 30 := hq_86
  refine lv_aload_n hx hb dX6_partsAs_89 rfl (lv_at hl 0 rfl) ?_
  refine lv_iconst (v := 1) hx hb dX6_partsAs_90 rfl ?_
  refine fx_ci (va_runS (As := [.int 1]) (rest := [.ref (ad 30)]) X (mX6_above l E 1 (by decide) _) (va_cwS 1 X.2.2.2.2 (lw_S q1525 q1526 q75 q1527) rfl rfl rfl hdX6_above ⟨Nat.le_of_ble_eq_true rfl, Nat.le_of_ble_eq_true rfl⟩) (fx_pre hE hP hD hS hR [] rfl rfl fx_rc0) rfl rfl hl.1 rfl (lv_room (Nat.le_of_ble_eq_true rfl)) dX6_partsAs_91 ⟨Nat.le_refl _, Nat.le_refl _⟩) hP hD hS hA [] rfl rfl (fun r_91 u H locs hq_91 hP hD hS => ?_)
  replace hP : va_P E.1 clA [(ad 30, .inr (6, [.ref (ad 0), .ref (ad 1), .int im, .ref (ad 3), .int at_, .int op, .int st_, .int us, .ref (ad 8), .ref (ad 9), .ref (ad 10), .ref (ad 11), .ref (ad 12), .ref (ad 13), .ref (ad 14), .int bn, .int bm, .ref (ad 17), .int la, .int fo, .int fi, .int lp, .ref (ad 22), .int (nI tn2_86), .int (nI sk), .int ip, .ref (ad 26), .ref (ad 27), .ref (ad 28), .ref (ad 29)])), (ad 22, .inl (E.2 0, 30, .inl tr2_86))] _ := hP
  replace hD : va_D A [(ad 30, .inr (6, [.ref (ad 0), .ref (ad 1), .int im, .ref (ad 3), .int at_, .int op, .int st_, .int us, .ref (ad 8), .ref (ad 9), .ref (ad 10), .ref (ad 11), .ref (ad 12), .ref (ad 13), .ref (ad 14), .int bn, .int bm, .ref (ad 17), .int la, .int fo, .int fi, .int lp, .ref (ad 22), .int (nI tn2_86), .int (nI sk), .int ip, .ref (ad 26), .ref (ad 27), .ref (ad 28), .ref (ad 29)])), (ad 22, .inl (E.2 0, 30, .inl tr2_86))] := hD
  replace hq_91 : r_91 = nI (abvK 1) := hq_91
  refine fx_ti (show r_91 = 0 from hq_91.trans (by decide)) ?_
  refine lv_iload_n hx hb dX6_partsAs_94 rfl (lv_at hl 2 rfl) ?_
  refine fx_ci (va_runV (As := [.int 0, .int x]) (rest := []) X (mX6_partsAs0 l E ad im at_ op st_ us bn bm la fo fi lp ip tn2_86 sk sa tr2_86 ow mm x (by first | assumption | omega) (by first | assumption | omega) (by first | assumption | omega) (by first | assumption | omega) (by first | assumption | omega) _) (cwV 2 X.2.2.2.2 (lw_V q1536 q1538 qs67 q75 q1539) rfl rfl rfl ⟨rfl, hdX6_partsAs⟩ ⟨Nat.le_of_ble_eq_true rfl, Nat.le_of_ble_eq_true rfl⟩) (fx_preV (fx_pre hE hP hD hS hR [0, 1] rfl rfl (fx_rcr 0 rfl fx_rc0)) (va_recv hE.1 hP (ci := 6) (q0 := 0) rfl rfl)) rfl rfl hl.1 rfl (lv_room (Nat.le_of_ble_eq_true rfl)) dX6_partsAs_95 ⟨Nat.le_refl _, Nat.le_refl _⟩) hP hD hS hA [0, 1] rfl rfl (fun r_95 u H locs hq_95 hP hD hS => ?_)
  obtain ⟨tr2_95, tn2_95, ip2_95⟩ := u
  replace hP : va_P E.1 clA [(ad 30, .inr (6, [.ref (ad 0), .ref (ad 1), .int im, .ref (ad 3), .int at_, .int op, .int st_, .int us, .ref (ad 8), .ref (ad 9), .ref (ad 10), .ref (ad 11), .ref (ad 12), .ref (ad 13), .ref (ad 14), .int bn, .int bm, .ref (ad 17), .int la, .int fo, .int fi, .int lp, .ref (ad 22), .int (nI tn2_95), .int (nI sk), .int ip2_95, .ref (ad 26), .ref (ad 27), .ref (ad 28), .ref (ad 29)])), (ad 22, .inl (E.2 0, 30, .inl tr2_95))] _ := hP
  replace hD : va_D A [(ad 30, .inr (6, [.ref (ad 0), .ref (ad 1), .int im, .ref (ad 3), .int at_, .int op, .int st_, .int us, .ref (ad 8), .ref (ad 9), .ref (ad 10), .ref (ad 11), .ref (ad 12), .ref (ad 13), .ref (ad 14), .int bn, .int bm, .ref (ad 17), .int la, .int fo, .int fi, .int lp, .ref (ad 22), .int (nI tn2_95), .int (nI sk), .int ip2_95, .ref (ad 26), .ref (ad 27), .ref (ad 28), .ref (ad 29)])), (ad 22, .inl (E.2 0, 30, .inl tr2_95))] := hD
  replace hq_95 : r_95 = partsV 0 ow (nI sk) mm x ∧ (tr2_95, tn2_95) = bgL (tr2_86, tn2_86) (partsB 0 ow (nI sk) mm) ∧ ip2_95 = fx_b (mm - nI sk = 0) ∧ tn2_95 ≤ 30 := hq_95
  refine lv_istore (lv' := [(4, .int r_95), (0, .ref (ad 30)), (1, .int 1), (2, .int x)]) hx hb dX6_partsAs_98 hl (by decide) rfl (fun ls hl => ?_)
  refine lv_aload_n hx hb dX6_partsAs_100 rfl (lv_at hl 1 rfl) ?_
  refine fx_get X hE hP 0 rfl rfl 25 rfl q1193 rfl rfl dX6_partsAs_101 ?_
  refine lv_if_eq (tgt := 111) hx hb dX6_partsAs_104 (by decide) (fun c_104 => ?_) (fun c_104 => ?_)
  · -- jump 111
    have hnp : ¬ (mm - nI sk = 0) := fun h => by rw [hq_95.2.2.1, fx_b, if_pos h] at c_104; exact absurd c_104 (by decide)
    refine lv_iload hx hb dX6_partsAs_111 (lv_at hl 0 rfl) ?_
    refine lv_aload_n hx hb dX6_partsAs_113 rfl (lv_at hl 1 rfl) ?_
    refine lv_aload_n hx hb dX6_partsAs_114 rfl (lv_at hl 1 rfl) ?_
    refine lv_aload_n hx hb dX6_partsAs_115 rfl (lv_at hl 1 rfl) ?_
    refine fx_get X hE hP 0 rfl rfl 24 rfl q1192 rfl rfl dX6_partsAs_116 ?_
    refine fx_ci (va_runV (As := [.int (nI sk)]) (rest := [.ref (ad 30), .int r_95]) X (mX6_kindOf l E ad im at_ op st_ us bn bm la fo fi lp (nI tn2_95) (nI sk) ip2_95 sa sk hsk _) (cwV 1 X.2.2.2.2 (lw_V q1360 q1362 qs47 q75 q1363) rfl rfl rfl ⟨rfl, hdX6_kindOf⟩ ⟨Nat.le_of_ble_eq_true rfl, Nat.le_of_ble_eq_true rfl⟩) (fx_preV (fx_pre hE hP hD hS hR [] rfl rfl (fx_rcm 0 rfl (by decide) (fx_rcr 0 rfl fx_rc0))) (va_recv hE.1 hP (ci := 6) (q0 := 0) rfl rfl)) rfl rfl hl.1 rfl (lv_room (Nat.le_of_ble_eq_true rfl)) dX6_partsAs_119 ⟨Nat.le_refl _, Nat.le_refl _⟩) hP hD hS hA [] rfl rfl (fun r_119 u H locs hq_119 hP hD hS => ?_)
    replace hP : va_P E.1 clA [(ad 30, .inr (6, [.ref (ad 0), .ref (ad 1), .int im, .ref (ad 3), .int at_, .int op, .int st_, .int us, .ref (ad 8), .ref (ad 9), .ref (ad 10), .ref (ad 11), .ref (ad 12), .ref (ad 13), .ref (ad 14), .int bn, .int bm, .ref (ad 17), .int la, .int fo, .int fi, .int lp, .ref (ad 22), .int (nI tn2_95), .int (nI sk), .int ip2_95, .ref (ad 26), .ref (ad 27), .ref (ad 28), .ref (ad 29)])), (ad 22, .inl (E.2 0, 30, .inl tr2_95))] _ := hP
    replace hD : va_D A [(ad 30, .inr (6, [.ref (ad 0), .ref (ad 1), .int im, .ref (ad 3), .int at_, .int op, .int st_, .int us, .ref (ad 8), .ref (ad 9), .ref (ad 10), .ref (ad 11), .ref (ad 12), .ref (ad 13), .ref (ad 14), .int bn, .int bm, .ref (ad 17), .int la, .int fo, .int fi, .int lp, .ref (ad 22), .int (nI tn2_95), .int (nI sk), .int ip2_95, .ref (ad 26), .ref (ad 27), .ref (ad 28), .ref (ad 29)])), (ad 22, .inl (E.2 0, 30, .inl tr2_95))] := hD
    replace hq_119 : r_119 = sa (32 + 2 * sk) := hq_119
    refine fx_ti (show r_119 = nI ow from hq_119.trans hkd) ?_
    rcases kd7 hkd2 with rfl | rfl | rfl | rfl | rfl | rfl | rfl
    ·
      refine fx_ti (show nI 0 = 0 from rfl) ?_
      refine lv_iconst (v := 1) hx hb dX6_partsAs_122 rfl ?_
      refine fx_ci (va_runV (As := [.int 0, .int 1]) (rest := [.int r_95]) X (mX6_comesAs0 l E ad im at_ op st_ us bn bm la fo fi lp ip2_95 tn2_95 sk sa tr2_95 0 mm 1 (by first | assumption | omega) (by first | assumption | omega) (by first | assumption | omega) (by first | assumption | omega) (by first | assumption | omega) _) (cwV 2 X.2.2.2.2 (lw_V q1528 q1530 qs65 q75 q1531) rfl rfl rfl ⟨rfl, hdX6_comesAs⟩ ⟨Nat.le_of_ble_eq_true rfl, Nat.le_of_ble_eq_true rfl⟩) (fx_preV (fx_pre hE hP hD hS hR [0, 1] rfl rfl (fx_rcr 0 rfl fx_rc0)) (va_recv hE.1 hP (ci := 6) (q0 := 0) rfl rfl)) rfl rfl hl.1 rfl (lv_room (Nat.le_of_ble_eq_true rfl)) dX6_partsAs_123 ⟨Nat.le_refl _, Nat.le_refl _⟩) hP hD hS hA [0, 1] rfl rfl (fun r_123 u H locs hq_123 hP hD hS => ?_)
      obtain ⟨tr2_123, tn2_123⟩ := u
      replace hP : va_P E.1 clA [(ad 30, .inr (6, [.ref (ad 0), .ref (ad 1), .int im, .ref (ad 3), .int at_, .int op, .int st_, .int us, .ref (ad 8), .ref (ad 9), .ref (ad 10), .ref (ad 11), .ref (ad 12), .ref (ad 13), .ref (ad 14), .int bn, .int bm, .ref (ad 17), .int la, .int fo, .int fi, .int lp, .ref (ad 22), .int (nI tn2_123), .int (nI sk), .int ip2_95, .ref (ad 26), .ref (ad 27), .ref (ad 28), .ref (ad 29)])), (ad 22, .inl (E.2 0, 30, .inl tr2_123))] _ := hP
      replace hD : va_D A [(ad 30, .inr (6, [.ref (ad 0), .ref (ad 1), .int im, .ref (ad 3), .int at_, .int op, .int st_, .int us, .ref (ad 8), .ref (ad 9), .ref (ad 10), .ref (ad 11), .ref (ad 12), .ref (ad 13), .ref (ad 14), .int bn, .int bm, .ref (ad 17), .int la, .int fo, .int fi, .int lp, .ref (ad 22), .int (nI tn2_123), .int (nI sk), .int ip2_95, .ref (ad 26), .ref (ad 27), .ref (ad 28), .ref (ad 29)])), (ad 22, .inl (E.2 0, 30, .inl tr2_123))] := hD
      replace hq_123 : r_123 = comesV 0 0 (nI sk) mm 1 ∧ (tr2_123, tn2_123) = bgL (tr2_95, tn2_95) (comesB 0 0) ∧ tn2_123 ≤ 30 := hq_123
      refine lv_iadd hx hb dX6_partsAs_126 ?_
      exact hret (r_95 + r_123) (tr2_123, tn2_123, ip2_95) (⟨by rw [hq_95.1, hq_123.1]; simp [partsV, hnp], by rw [hq_123.2.1, hq_95.2.1, hq_86.1]; simp [partsB, hnp, bgL], hq_95.2.2.1, hq_123.2.2⟩) (rfl) hP hD hS (Nat.le_refl _) (Nat.le_refl _) dX6_partsAs_127
    ·
      refine fx_ti (show nI 1 = 1 from rfl) ?_
      refine lv_iconst (v := 1) hx hb dX6_partsAs_122 rfl ?_
      refine fx_ci (va_runV (As := [.int 1, .int 1]) (rest := [.int r_95]) X (mX6_comesAs1 l E ad im at_ op st_ us bn bm la fo fi lp ip2_95 tn2_95 sk sa tr2_95 1 mm 1 (by first | assumption | omega) (by first | assumption | omega) (by first | assumption | omega) (by first | assumption | omega) (by first | assumption | omega) _) (cwV 2 X.2.2.2.2 (lw_V q1528 q1530 qs65 q75 q1531) rfl rfl rfl ⟨rfl, hdX6_comesAs⟩ ⟨Nat.le_of_ble_eq_true rfl, Nat.le_of_ble_eq_true rfl⟩) (fx_preV (fx_pre hE hP hD hS hR [0, 1] rfl rfl (fx_rcr 0 rfl fx_rc0)) (va_recv hE.1 hP (ci := 6) (q0 := 0) rfl rfl)) rfl rfl hl.1 rfl (lv_room (Nat.le_of_ble_eq_true rfl)) dX6_partsAs_123 ⟨Nat.le_refl _, Nat.le_refl _⟩) hP hD hS hA [0, 1] rfl rfl (fun r_123 u H locs hq_123 hP hD hS => ?_)
      obtain ⟨tr2_123, tn2_123⟩ := u
      replace hP : va_P E.1 clA [(ad 30, .inr (6, [.ref (ad 0), .ref (ad 1), .int im, .ref (ad 3), .int at_, .int op, .int st_, .int us, .ref (ad 8), .ref (ad 9), .ref (ad 10), .ref (ad 11), .ref (ad 12), .ref (ad 13), .ref (ad 14), .int bn, .int bm, .ref (ad 17), .int la, .int fo, .int fi, .int lp, .ref (ad 22), .int (nI tn2_123), .int (nI sk), .int ip2_95, .ref (ad 26), .ref (ad 27), .ref (ad 28), .ref (ad 29)])), (ad 22, .inl (E.2 0, 30, .inl tr2_123))] _ := hP
      replace hD : va_D A [(ad 30, .inr (6, [.ref (ad 0), .ref (ad 1), .int im, .ref (ad 3), .int at_, .int op, .int st_, .int us, .ref (ad 8), .ref (ad 9), .ref (ad 10), .ref (ad 11), .ref (ad 12), .ref (ad 13), .ref (ad 14), .int bn, .int bm, .ref (ad 17), .int la, .int fo, .int fi, .int lp, .ref (ad 22), .int (nI tn2_123), .int (nI sk), .int ip2_95, .ref (ad 26), .ref (ad 27), .ref (ad 28), .ref (ad 29)])), (ad 22, .inl (E.2 0, 30, .inl tr2_123))] := hD
      replace hq_123 : r_123 = comesV 1 1 (nI sk) mm 1 ∧ (tr2_123, tn2_123) = bgL (tr2_95, tn2_95) (comesB 1 1) ∧ tn2_123 ≤ 30 := hq_123
      refine lv_iadd hx hb dX6_partsAs_126 ?_
      exact hret (r_95 + r_123) (tr2_123, tn2_123, ip2_95) (⟨by rw [hq_95.1, hq_123.1]; simp [partsV, hnp], by rw [hq_123.2.1, hq_95.2.1, hq_86.1]; simp [partsB, hnp, bgL], hq_95.2.2.1, hq_123.2.2⟩) (rfl) hP hD hS (Nat.le_refl _) (Nat.le_refl _) dX6_partsAs_127
    ·
      refine fx_ti (show nI 2 = 2 from rfl) ?_
      refine lv_iconst (v := 1) hx hb dX6_partsAs_122 rfl ?_
      refine fx_ci (va_runV (As := [.int 2, .int 1]) (rest := [.int r_95]) X (mX6_comesAs2 l E ad im at_ op st_ us bn bm la fo fi lp ip2_95 tn2_95 sk sa tr2_95 2 mm 1 (by first | assumption | omega) (by first | assumption | omega) (by first | assumption | omega) (by first | assumption | omega) (by first | assumption | omega) _) (cwV 2 X.2.2.2.2 (lw_V q1528 q1530 qs65 q75 q1531) rfl rfl rfl ⟨rfl, hdX6_comesAs⟩ ⟨Nat.le_of_ble_eq_true rfl, Nat.le_of_ble_eq_true rfl⟩) (fx_preV (fx_pre hE hP hD hS hR [0, 1] rfl rfl (fx_rcr 0 rfl fx_rc0)) (va_recv hE.1 hP (ci := 6) (q0 := 0) rfl rfl)) rfl rfl hl.1 rfl (lv_room (Nat.le_of_ble_eq_true rfl)) dX6_partsAs_123 ⟨Nat.le_refl _, Nat.le_refl _⟩) hP hD hS hA [0, 1] rfl rfl (fun r_123 u H locs hq_123 hP hD hS => ?_)
      obtain ⟨tr2_123, tn2_123⟩ := u
      replace hP : va_P E.1 clA [(ad 30, .inr (6, [.ref (ad 0), .ref (ad 1), .int im, .ref (ad 3), .int at_, .int op, .int st_, .int us, .ref (ad 8), .ref (ad 9), .ref (ad 10), .ref (ad 11), .ref (ad 12), .ref (ad 13), .ref (ad 14), .int bn, .int bm, .ref (ad 17), .int la, .int fo, .int fi, .int lp, .ref (ad 22), .int (nI tn2_123), .int (nI sk), .int ip2_95, .ref (ad 26), .ref (ad 27), .ref (ad 28), .ref (ad 29)])), (ad 22, .inl (E.2 0, 30, .inl tr2_123))] _ := hP
      replace hD : va_D A [(ad 30, .inr (6, [.ref (ad 0), .ref (ad 1), .int im, .ref (ad 3), .int at_, .int op, .int st_, .int us, .ref (ad 8), .ref (ad 9), .ref (ad 10), .ref (ad 11), .ref (ad 12), .ref (ad 13), .ref (ad 14), .int bn, .int bm, .ref (ad 17), .int la, .int fo, .int fi, .int lp, .ref (ad 22), .int (nI tn2_123), .int (nI sk), .int ip2_95, .ref (ad 26), .ref (ad 27), .ref (ad 28), .ref (ad 29)])), (ad 22, .inl (E.2 0, 30, .inl tr2_123))] := hD
      replace hq_123 : r_123 = comesV 2 2 (nI sk) mm 1 ∧ (tr2_123, tn2_123) = bgL (tr2_95, tn2_95) (comesB 2 2) ∧ tn2_123 ≤ 30 := hq_123
      refine lv_iadd hx hb dX6_partsAs_126 ?_
      exact hret (r_95 + r_123) (tr2_123, tn2_123, ip2_95) (⟨by rw [hq_95.1, hq_123.1]; simp [partsV, hnp], by rw [hq_123.2.1, hq_95.2.1, hq_86.1]; simp [partsB, hnp, bgL], hq_95.2.2.1, hq_123.2.2⟩) (rfl) hP hD hS (Nat.le_refl _) (Nat.le_refl _) dX6_partsAs_127
    ·
      refine fx_ti (show nI 3 = 3 from rfl) ?_
      refine lv_iconst (v := 1) hx hb dX6_partsAs_122 rfl ?_
      refine fx_ci (va_runV (As := [.int 3, .int 1]) (rest := [.int r_95]) X (mX6_comesAs3 l E ad im at_ op st_ us bn bm la fo fi lp ip2_95 tn2_95 sk sa tr2_95 3 mm 1 (by first | assumption | omega) (by first | assumption | omega) (by first | assumption | omega) (by first | assumption | omega) (by first | assumption | omega) _) (cwV 2 X.2.2.2.2 (lw_V q1528 q1530 qs65 q75 q1531) rfl rfl rfl ⟨rfl, hdX6_comesAs⟩ ⟨Nat.le_of_ble_eq_true rfl, Nat.le_of_ble_eq_true rfl⟩) (fx_preV (fx_pre hE hP hD hS hR [0, 1] rfl rfl (fx_rcr 0 rfl fx_rc0)) (va_recv hE.1 hP (ci := 6) (q0 := 0) rfl rfl)) rfl rfl hl.1 rfl (lv_room (Nat.le_of_ble_eq_true rfl)) dX6_partsAs_123 ⟨Nat.le_refl _, Nat.le_refl _⟩) hP hD hS hA [0, 1] rfl rfl (fun r_123 u H locs hq_123 hP hD hS => ?_)
      obtain ⟨tr2_123, tn2_123⟩ := u
      replace hP : va_P E.1 clA [(ad 30, .inr (6, [.ref (ad 0), .ref (ad 1), .int im, .ref (ad 3), .int at_, .int op, .int st_, .int us, .ref (ad 8), .ref (ad 9), .ref (ad 10), .ref (ad 11), .ref (ad 12), .ref (ad 13), .ref (ad 14), .int bn, .int bm, .ref (ad 17), .int la, .int fo, .int fi, .int lp, .ref (ad 22), .int (nI tn2_123), .int (nI sk), .int ip2_95, .ref (ad 26), .ref (ad 27), .ref (ad 28), .ref (ad 29)])), (ad 22, .inl (E.2 0, 30, .inl tr2_123))] _ := hP
      replace hD : va_D A [(ad 30, .inr (6, [.ref (ad 0), .ref (ad 1), .int im, .ref (ad 3), .int at_, .int op, .int st_, .int us, .ref (ad 8), .ref (ad 9), .ref (ad 10), .ref (ad 11), .ref (ad 12), .ref (ad 13), .ref (ad 14), .int bn, .int bm, .ref (ad 17), .int la, .int fo, .int fi, .int lp, .ref (ad 22), .int (nI tn2_123), .int (nI sk), .int ip2_95, .ref (ad 26), .ref (ad 27), .ref (ad 28), .ref (ad 29)])), (ad 22, .inl (E.2 0, 30, .inl tr2_123))] := hD
      replace hq_123 : r_123 = comesV 3 3 (nI sk) mm 1 ∧ (tr2_123, tn2_123) = bgL (tr2_95, tn2_95) (comesB 3 3) ∧ tn2_123 ≤ 30 := hq_123
      refine lv_iadd hx hb dX6_partsAs_126 ?_
      exact hret (r_95 + r_123) (tr2_123, tn2_123, ip2_95) (⟨by rw [hq_95.1, hq_123.1]; simp [partsV, hnp], by rw [hq_123.2.1, hq_95.2.1, hq_86.1]; simp [partsB, hnp, bgL], hq_95.2.2.1, hq_123.2.2⟩) (rfl) hP hD hS (Nat.le_refl _) (Nat.le_refl _) dX6_partsAs_127
    ·
      refine fx_ti (show nI 4 = 4 from rfl) ?_
      refine lv_iconst (v := 1) hx hb dX6_partsAs_122 rfl ?_
      refine fx_ci (va_runV (As := [.int 4, .int 1]) (rest := [.int r_95]) X (mX6_comesAs4 l E ad im at_ op st_ us bn bm la fo fi lp ip2_95 tn2_95 sk sa tr2_95 4 mm 1 (by first | assumption | omega) (by first | assumption | omega) (by first | assumption | omega) (by first | assumption | omega) (by first | assumption | omega) _) (cwV 2 X.2.2.2.2 (lw_V q1528 q1530 qs65 q75 q1531) rfl rfl rfl ⟨rfl, hdX6_comesAs⟩ ⟨Nat.le_of_ble_eq_true rfl, Nat.le_of_ble_eq_true rfl⟩) (fx_preV (fx_pre hE hP hD hS hR [0, 1] rfl rfl (fx_rcr 0 rfl fx_rc0)) (va_recv hE.1 hP (ci := 6) (q0 := 0) rfl rfl)) rfl rfl hl.1 rfl (lv_room (Nat.le_of_ble_eq_true rfl)) dX6_partsAs_123 ⟨Nat.le_refl _, Nat.le_refl _⟩) hP hD hS hA [0, 1] rfl rfl (fun r_123 u H locs hq_123 hP hD hS => ?_)
      obtain ⟨tr2_123, tn2_123⟩ := u
      replace hP : va_P E.1 clA [(ad 30, .inr (6, [.ref (ad 0), .ref (ad 1), .int im, .ref (ad 3), .int at_, .int op, .int st_, .int us, .ref (ad 8), .ref (ad 9), .ref (ad 10), .ref (ad 11), .ref (ad 12), .ref (ad 13), .ref (ad 14), .int bn, .int bm, .ref (ad 17), .int la, .int fo, .int fi, .int lp, .ref (ad 22), .int (nI tn2_123), .int (nI sk), .int ip2_95, .ref (ad 26), .ref (ad 27), .ref (ad 28), .ref (ad 29)])), (ad 22, .inl (E.2 0, 30, .inl tr2_123))] _ := hP
      replace hD : va_D A [(ad 30, .inr (6, [.ref (ad 0), .ref (ad 1), .int im, .ref (ad 3), .int at_, .int op, .int st_, .int us, .ref (ad 8), .ref (ad 9), .ref (ad 10), .ref (ad 11), .ref (ad 12), .ref (ad 13), .ref (ad 14), .int bn, .int bm, .ref (ad 17), .int la, .int fo, .int fi, .int lp, .ref (ad 22), .int (nI tn2_123), .int (nI sk), .int ip2_95, .ref (ad 26), .ref (ad 27), .ref (ad 28), .ref (ad 29)])), (ad 22, .inl (E.2 0, 30, .inl tr2_123))] := hD
      replace hq_123 : r_123 = comesV 4 4 (nI sk) mm 1 ∧ (tr2_123, tn2_123) = bgL (tr2_95, tn2_95) (comesB 4 4) ∧ tn2_123 ≤ 30 := hq_123
      refine lv_iadd hx hb dX6_partsAs_126 ?_
      exact hret (r_95 + r_123) (tr2_123, tn2_123, ip2_95) (⟨by rw [hq_95.1, hq_123.1]; simp [partsV, hnp], by rw [hq_123.2.1, hq_95.2.1, hq_86.1]; simp [partsB, hnp, bgL], hq_95.2.2.1, hq_123.2.2⟩) (rfl) hP hD hS (Nat.le_refl _) (Nat.le_refl _) dX6_partsAs_127
    ·
      refine fx_ti (show nI 5 = 5 from rfl) ?_
      refine lv_iconst (v := 1) hx hb dX6_partsAs_122 rfl ?_
      refine fx_ci (va_runV (As := [.int 5, .int 1]) (rest := [.int r_95]) X (mX6_comesAs5 l E ad im at_ op st_ us bn bm la fo fi lp ip2_95 tn2_95 sk sa tr2_95 5 mm 1 (by first | assumption | omega) (by first | assumption | omega) (by first | assumption | omega) (by first | assumption | omega) (by first | assumption | omega) _) (cwV 2 X.2.2.2.2 (lw_V q1528 q1530 qs65 q75 q1531) rfl rfl rfl ⟨rfl, hdX6_comesAs⟩ ⟨Nat.le_of_ble_eq_true rfl, Nat.le_of_ble_eq_true rfl⟩) (fx_preV (fx_pre hE hP hD hS hR [0, 1] rfl rfl (fx_rcr 0 rfl fx_rc0)) (va_recv hE.1 hP (ci := 6) (q0 := 0) rfl rfl)) rfl rfl hl.1 rfl (lv_room (Nat.le_of_ble_eq_true rfl)) dX6_partsAs_123 ⟨Nat.le_refl _, Nat.le_refl _⟩) hP hD hS hA [0, 1] rfl rfl (fun r_123 u H locs hq_123 hP hD hS => ?_)
      obtain ⟨tr2_123, tn2_123⟩ := u
      replace hP : va_P E.1 clA [(ad 30, .inr (6, [.ref (ad 0), .ref (ad 1), .int im, .ref (ad 3), .int at_, .int op, .int st_, .int us, .ref (ad 8), .ref (ad 9), .ref (ad 10), .ref (ad 11), .ref (ad 12), .ref (ad 13), .ref (ad 14), .int bn, .int bm, .ref (ad 17), .int la, .int fo, .int fi, .int lp, .ref (ad 22), .int (nI tn2_123), .int (nI sk), .int ip2_95, .ref (ad 26), .ref (ad 27), .ref (ad 28), .ref (ad 29)])), (ad 22, .inl (E.2 0, 30, .inl tr2_123))] _ := hP
      replace hD : va_D A [(ad 30, .inr (6, [.ref (ad 0), .ref (ad 1), .int im, .ref (ad 3), .int at_, .int op, .int st_, .int us, .ref (ad 8), .ref (ad 9), .ref (ad 10), .ref (ad 11), .ref (ad 12), .ref (ad 13), .ref (ad 14), .int bn, .int bm, .ref (ad 17), .int la, .int fo, .int fi, .int lp, .ref (ad 22), .int (nI tn2_123), .int (nI sk), .int ip2_95, .ref (ad 26), .ref (ad 27), .ref (ad 28), .ref (ad 29)])), (ad 22, .inl (E.2 0, 30, .inl tr2_123))] := hD
      replace hq_123 : r_123 = comesV 5 5 (nI sk) mm 1 ∧ (tr2_123, tn2_123) = bgL (tr2_95, tn2_95) (comesB 5 5) ∧ tn2_123 ≤ 30 := hq_123
      refine lv_iadd hx hb dX6_partsAs_126 ?_
      exact hret (r_95 + r_123) (tr2_123, tn2_123, ip2_95) (⟨by rw [hq_95.1, hq_123.1]; simp [partsV, hnp], by rw [hq_123.2.1, hq_95.2.1, hq_86.1]; simp [partsB, hnp, bgL], hq_95.2.2.1, hq_123.2.2⟩) (rfl) hP hD hS (Nat.le_refl _) (Nat.le_refl _) dX6_partsAs_127
    ·
      refine fx_ti (show nI 6 = 6 from rfl) ?_
      refine lv_iconst (v := 1) hx hb dX6_partsAs_122 rfl ?_
      refine fx_ci (va_runV (As := [.int 6, .int 1]) (rest := [.int r_95]) X (mX6_comesAs6 l E ad im at_ op st_ us bn bm la fo fi lp ip2_95 tn2_95 sk sa tr2_95 6 mm 1 (by first | assumption | omega) (by first | assumption | omega) (by first | assumption | omega) (by first | assumption | omega) (by first | assumption | omega) _) (cwV 2 X.2.2.2.2 (lw_V q1528 q1530 qs65 q75 q1531) rfl rfl rfl ⟨rfl, hdX6_comesAs⟩ ⟨Nat.le_of_ble_eq_true rfl, Nat.le_of_ble_eq_true rfl⟩) (fx_preV (fx_pre hE hP hD hS hR [0, 1] rfl rfl (fx_rcr 0 rfl fx_rc0)) (va_recv hE.1 hP (ci := 6) (q0 := 0) rfl rfl)) rfl rfl hl.1 rfl (lv_room (Nat.le_of_ble_eq_true rfl)) dX6_partsAs_123 ⟨Nat.le_refl _, Nat.le_refl _⟩) hP hD hS hA [0, 1] rfl rfl (fun r_123 u H locs hq_123 hP hD hS => ?_)
      obtain ⟨tr2_123, tn2_123⟩ := u
      replace hP : va_P E.1 clA [(ad 30, .inr (6, [.ref (ad 0), .ref (ad 1), .int im, .ref (ad 3), .int at_, .int op, .int st_, .int us, .ref (ad 8), .ref (ad 9), .ref (ad 10), .ref (ad 11), .ref (ad 12), .ref (ad 13), .ref (ad 14), .int bn, .int bm, .ref (ad 17), .int la, .int fo, .int fi, .int lp, .ref (ad 22), .int (nI tn2_123), .int (nI sk), .int ip2_95, .ref (ad 26), .ref (ad 27), .ref (ad 28), .ref (ad 29)])), (ad 22, .inl (E.2 0, 30, .inl tr2_123))] _ := hP
      replace hD : va_D A [(ad 30, .inr (6, [.ref (ad 0), .ref (ad 1), .int im, .ref (ad 3), .int at_, .int op, .int st_, .int us, .ref (ad 8), .ref (ad 9), .ref (ad 10), .ref (ad 11), .ref (ad 12), .ref (ad 13), .ref (ad 14), .int bn, .int bm, .ref (ad 17), .int la, .int fo, .int fi, .int lp, .ref (ad 22), .int (nI tn2_123), .int (nI sk), .int ip2_95, .ref (ad 26), .ref (ad 27), .ref (ad 28), .ref (ad 29)])), (ad 22, .inl (E.2 0, 30, .inl tr2_123))] := hD
      replace hq_123 : r_123 = comesV 6 6 (nI sk) mm 1 ∧ (tr2_123, tn2_123) = bgL (tr2_95, tn2_95) (comesB 6 6) ∧ tn2_123 ≤ 30 := hq_123
      refine lv_iadd hx hb dX6_partsAs_126 ?_
      exact hret (r_95 + r_123) (tr2_123, tn2_123, ip2_95) (⟨by rw [hq_95.1, hq_123.1]; simp [partsV, hnp], by rw [hq_123.2.1, hq_95.2.1, hq_86.1]; simp [partsB, hnp, bgL], hq_95.2.2.1, hq_123.2.2⟩) (rfl) hP hD hS (Nat.le_refl _) (Nat.le_refl _) dX6_partsAs_127
  · -- fall 107
    have hp : mm - nI sk = 0 := by
      rcases fx_bc hq_95.2.2.1 with ⟨h, -⟩ | ⟨-, h⟩
      · exact h
      · exact absurd h c_104
    refine lv_iconst (v := 0) hx hb dX6_partsAs_107 rfl ?_
    refine lv_goto (tgt := 127) hx hb dX6_partsAs_108 (by decide) ?_
    exact hret 0 (tr2_95, tn2_95, ip2_95) (⟨by simp [partsV, hp], by rw [hq_95.2.1, hq_86.1]; simp [partsB, hp, bgL], hq_95.2.2.1, hq_95.2.2.2⟩) (rfl) hP hD hS (Nat.le_refl _) (Nat.le_refl _) dX6_partsAs_127
abbrev rmX6_partsAs2 : Room := { frames := 2, cells := 0, slots := 0, locals := 45 }
set_option maxHeartbeats 400000 in
set_option maxRecDepth 100000 in
theorem mX6_partsAs2 (l : Launch) (E : fx_En) (ad : Nat → Nat) (im : Int32) (at_ : Int32) (op : Int32) (st_ : Int32) (us : Int32) (bn : Int32) (bm : Int32) (la : Int32) (fo : Int32) (fi : Int32) (lp : Int32) (ip : Int32) (tn : Nat) (sk : Nat) (sa : Nat → Int32) (tr : Nat → Int32) (ow : Nat) (mm : Int32) (x : Int32) (htn : tn ≤ 30) (hsk : sk < 4) (hkd : sa (32 + 2 * sk) = nI ow) (hkd2 : ow ≤ 6) (hm : sa (32 + 2 * sk + 1) = mm) : fx_Mi l yX6_partsAs cX6_partsAs 5 .int rmX6_partsAs2 E [.ref (ad 30), .int 2, .int x] [(ad 30, .inr (6, [.ref (ad 0), .ref (ad 1), .int im, .ref (ad 3), .int at_, .int op, .int st_, .int us, .ref (ad 8), .ref (ad 9), .ref (ad 10), .ref (ad 11), .ref (ad 12), .ref (ad 13), .ref (ad 14), .int bn, .int bm, .ref (ad 17), .int la, .int fo, .int fi, .int lp, .ref (ad 22), .int (nI tn), .int (nI sk), .int ip, .ref (ad 26), .ref (ad 27), .ref (ad 28), .ref (ad 29)])), (ad 22, .inl (E.2 0, 30, .inl tr))] [(ad 0, .inl (E.2 0, 374, .inl sa))] (S := (Nat → Int32) × Nat × Int32) (fun (u : (Nat → Int32) × Nat × Int32) => [(ad 30, .inr (6, [.ref (ad 0), .ref (ad 1), .int im, .ref (ad 3), .int at_, .int op, .int st_, .int us, .ref (ad 8), .ref (ad 9), .ref (ad 10), .ref (ad 11), .ref (ad 12), .ref (ad 13), .ref (ad 14), .int bn, .int bm, .ref (ad 17), .int la, .int fo, .int fi, .int lp, .ref (ad 22), .int (nI u.2.1), .int (nI sk), .int u.2.2, .ref (ad 26), .ref (ad 27), .ref (ad 28), .ref (ad 29)])), (ad 22, .inl (E.2 0, 30, .inl u.1))]) (fun (r : Int32) (u : (Nat → Int32) × Nat × Int32) => r = partsV 2 ow (nI sk) mm x ∧ (u.1, u.2.1) = bgL (tr, tn) (partsB 2 ow (nI sk) mm) ∧ u.2.2 = fx_b (mm - nI sk = 0) ∧ u.2.1 ≤ 30) := by
  refine fx_iW rfl rfl ?_
  intro p e s m args below meth c A ls Q X hE hP hD hR hA hl hret
  have hx := X.1
  have hb := X.2.1
  have hS : va_S A s.heap s.heap [] := va_S.rf
  replace hP : va_P E.1 clA [(ad 30, .inr (6, [.ref (ad 0), .ref (ad 1), .int im, .ref (ad 3), .int at_, .int op, .int st_, .int us, .ref (ad 8), .ref (ad 9), .ref (ad 10), .ref (ad 11), .ref (ad 12), .ref (ad 13), .ref (ad 14), .int bn, .int bm, .ref (ad 17), .int la, .int fo, .int fi, .int lp, .ref (ad 22), .int (nI tn), .int (nI sk), .int ip, .ref (ad 26), .ref (ad 27), .ref (ad 28), .ref (ad 29)])), (ad 22, .inl (E.2 0, 30, .inl tr))] _ := hP
  replace hD : va_D A [(ad 30, .inr (6, [.ref (ad 0), .ref (ad 1), .int im, .ref (ad 3), .int at_, .int op, .int st_, .int us, .ref (ad 8), .ref (ad 9), .ref (ad 10), .ref (ad 11), .ref (ad 12), .ref (ad 13), .ref (ad 14), .int bn, .int bm, .ref (ad 17), .int la, .int fo, .int fi, .int lp, .ref (ad 22), .int (nI tn), .int (nI sk), .int ip, .ref (ad 26), .ref (ad 27), .ref (ad 28), .ref (ad 29)])), (ad 22, .inl (E.2 0, 30, .inl tr))] := hD
  replace hl : lv_has ls 5 [(0, .ref (ad 30)), (1, .int 2), (2, .int x)] := hl
  refine lv_iload_n hx hb dX6_partsAs_0 rfl (lv_at hl 1 rfl) ?_
  refine lv_lookup (tgt := 128) (off := 127) hx hb dX6_partsAs_1 (by decide) rfl (by decide) ?_
  refine lv_aload_n hx hb dX6_partsAs_128 rfl (lv_at hl 0 rfl) ?_
  refine lv_iload_n hx hb dX6_partsAs_129 rfl (lv_at hl 1 rfl) ?_
  refine fx_ci (va_runS (As := [.int 2]) (rest := [.ref (ad 30)]) X (mX6_above l E 2 (by decide) _) (va_cwS 1 X.2.2.2.2 (lw_S q1525 q1526 q75 q1527) rfl rfl rfl hdX6_above ⟨Nat.le_of_ble_eq_true rfl, Nat.le_of_ble_eq_true rfl⟩) (fx_pre hE hP hD hS hR [] rfl rfl fx_rc0) rfl rfl hl.1 rfl (lv_room (Nat.le_of_ble_eq_true rfl)) dX6_partsAs_130 ⟨Nat.le_refl _, Nat.le_refl _⟩) hP hD hS hA [] rfl rfl (fun r_130 u H locs hq_130 hP hD hS => ?_)
  replace hP : va_P E.1 clA [(ad 30, .inr (6, [.ref (ad 0), .ref (ad 1), .int im, .ref (ad 3), .int at_, .int op, .int st_, .int us, .ref (ad 8), .ref (ad 9), .ref (ad 10), .ref (ad 11), .ref (ad 12), .ref (ad 13), .ref (ad 14), .int bn, .int bm, .ref (ad 17), .int la, .int fo, .int fi, .int lp, .ref (ad 22), .int (nI tn), .int (nI sk), .int ip, .ref (ad 26), .ref (ad 27), .ref (ad 28), .ref (ad 29)])), (ad 22, .inl (E.2 0, 30, .inl tr))] _ := hP
  replace hD : va_D A [(ad 30, .inr (6, [.ref (ad 0), .ref (ad 1), .int im, .ref (ad 3), .int at_, .int op, .int st_, .int us, .ref (ad 8), .ref (ad 9), .ref (ad 10), .ref (ad 11), .ref (ad 12), .ref (ad 13), .ref (ad 14), .int bn, .int bm, .ref (ad 17), .int la, .int fo, .int fi, .int lp, .ref (ad 22), .int (nI tn), .int (nI sk), .int ip, .ref (ad 26), .ref (ad 27), .ref (ad 28), .ref (ad 29)])), (ad 22, .inl (E.2 0, 30, .inl tr))] := hD
  replace hq_130 : r_130 = nI (abvK 2) := hq_130
  refine fx_ti (show r_130 = 0 from hq_130.trans (by decide)) ?_
  refine lv_iload_n hx hb dX6_partsAs_133 rfl (lv_at hl 2 rfl) ?_
  refine fx_ci (va_runV (As := [.int 0, .int x]) (rest := []) X (mX6_partsAs0 l E ad im at_ op st_ us bn bm la fo fi lp ip tn sk sa tr ow mm x (by first | assumption | omega) (by first | assumption | omega) (by first | assumption | omega) (by first | assumption | omega) (by first | assumption | omega) _) (cwV 2 X.2.2.2.2 (lw_V q1536 q1538 qs67 q75 q1539) rfl rfl rfl ⟨rfl, hdX6_partsAs⟩ ⟨Nat.le_of_ble_eq_true rfl, Nat.le_of_ble_eq_true rfl⟩) (fx_preV (fx_pre hE hP hD hS hR [0, 1] rfl rfl (fx_rcr 0 rfl fx_rc0)) (va_recv hE.1 hP (ci := 6) (q0 := 0) rfl rfl)) rfl rfl hl.1 rfl (lv_room (Nat.le_of_ble_eq_true rfl)) dX6_partsAs_134 ⟨Nat.le_refl _, Nat.le_refl _⟩) hP hD hS hA [0, 1] rfl rfl (fun r_134 u H locs hq_134 hP hD hS => ?_)
  obtain ⟨tr2_134, tn2_134, ip2_134⟩ := u
  replace hP : va_P E.1 clA [(ad 30, .inr (6, [.ref (ad 0), .ref (ad 1), .int im, .ref (ad 3), .int at_, .int op, .int st_, .int us, .ref (ad 8), .ref (ad 9), .ref (ad 10), .ref (ad 11), .ref (ad 12), .ref (ad 13), .ref (ad 14), .int bn, .int bm, .ref (ad 17), .int la, .int fo, .int fi, .int lp, .ref (ad 22), .int (nI tn2_134), .int (nI sk), .int ip2_134, .ref (ad 26), .ref (ad 27), .ref (ad 28), .ref (ad 29)])), (ad 22, .inl (E.2 0, 30, .inl tr2_134))] _ := hP
  replace hD : va_D A [(ad 30, .inr (6, [.ref (ad 0), .ref (ad 1), .int im, .ref (ad 3), .int at_, .int op, .int st_, .int us, .ref (ad 8), .ref (ad 9), .ref (ad 10), .ref (ad 11), .ref (ad 12), .ref (ad 13), .ref (ad 14), .int bn, .int bm, .ref (ad 17), .int la, .int fo, .int fi, .int lp, .ref (ad 22), .int (nI tn2_134), .int (nI sk), .int ip2_134, .ref (ad 26), .ref (ad 27), .ref (ad 28), .ref (ad 29)])), (ad 22, .inl (E.2 0, 30, .inl tr2_134))] := hD
  replace hq_134 : r_134 = partsV 0 ow (nI sk) mm x ∧ (tr2_134, tn2_134) = bgL (tr, tn) (partsB 0 ow (nI sk) mm) ∧ ip2_134 = fx_b (mm - nI sk = 0) ∧ tn2_134 ≤ 30 := hq_134
  exact hret r_134 (tr2_134, tn2_134, ip2_134) (⟨by rw [hq_134.1]; rfl, by rw [hq_134.2.1]; rfl, hq_134.2.2.1, hq_134.2.2.2⟩) (rfl) hP hD hS (Nat.le_refl _) (Nat.le_refl _) dX6_partsAs_137
abbrev rmX6_partsAs3 : Room := { frames := 2, cells := 0, slots := 0, locals := 45 }
set_option maxHeartbeats 400000 in
set_option maxRecDepth 100000 in
theorem mX6_partsAs3 (l : Launch) (E : fx_En) (ad : Nat → Nat) (im : Int32) (at_ : Int32) (op : Int32) (st_ : Int32) (us : Int32) (bn : Int32) (bm : Int32) (la : Int32) (fo : Int32) (fi : Int32) (lp : Int32) (ip : Int32) (tn : Nat) (sk : Nat) (sa : Nat → Int32) (tr : Nat → Int32) (ow : Nat) (mm : Int32) (x : Int32) (htn : tn ≤ 30) (hsk : sk < 4) (hkd : sa (32 + 2 * sk) = nI ow) (hkd2 : ow ≤ 6) (hm : sa (32 + 2 * sk + 1) = mm) : fx_Mi l yX6_partsAs cX6_partsAs 5 .int rmX6_partsAs3 E [.ref (ad 30), .int 3, .int x] [(ad 30, .inr (6, [.ref (ad 0), .ref (ad 1), .int im, .ref (ad 3), .int at_, .int op, .int st_, .int us, .ref (ad 8), .ref (ad 9), .ref (ad 10), .ref (ad 11), .ref (ad 12), .ref (ad 13), .ref (ad 14), .int bn, .int bm, .ref (ad 17), .int la, .int fo, .int fi, .int lp, .ref (ad 22), .int (nI tn), .int (nI sk), .int ip, .ref (ad 26), .ref (ad 27), .ref (ad 28), .ref (ad 29)])), (ad 22, .inl (E.2 0, 30, .inl tr))] [(ad 0, .inl (E.2 0, 374, .inl sa))] (S := (Nat → Int32) × Nat × Int32) (fun (u : (Nat → Int32) × Nat × Int32) => [(ad 30, .inr (6, [.ref (ad 0), .ref (ad 1), .int im, .ref (ad 3), .int at_, .int op, .int st_, .int us, .ref (ad 8), .ref (ad 9), .ref (ad 10), .ref (ad 11), .ref (ad 12), .ref (ad 13), .ref (ad 14), .int bn, .int bm, .ref (ad 17), .int la, .int fo, .int fi, .int lp, .ref (ad 22), .int (nI u.2.1), .int (nI sk), .int u.2.2, .ref (ad 26), .ref (ad 27), .ref (ad 28), .ref (ad 29)])), (ad 22, .inl (E.2 0, 30, .inl u.1))]) (fun (r : Int32) (u : (Nat → Int32) × Nat × Int32) => r = partsV 3 ow (nI sk) mm x ∧ (u.1, u.2.1) = bgL (tr, tn) (partsB 3 ow (nI sk) mm) ∧ u.2.2 = fx_b (mm - nI sk = 0) ∧ u.2.1 ≤ 30) := by
  refine fx_iW rfl rfl ?_
  intro p e s m args below meth c A ls Q X hE hP hD hR hA hl hret
  have hx := X.1
  have hb := X.2.1
  have hS : va_S A s.heap s.heap [] := va_S.rf
  replace hP : va_P E.1 clA [(ad 30, .inr (6, [.ref (ad 0), .ref (ad 1), .int im, .ref (ad 3), .int at_, .int op, .int st_, .int us, .ref (ad 8), .ref (ad 9), .ref (ad 10), .ref (ad 11), .ref (ad 12), .ref (ad 13), .ref (ad 14), .int bn, .int bm, .ref (ad 17), .int la, .int fo, .int fi, .int lp, .ref (ad 22), .int (nI tn), .int (nI sk), .int ip, .ref (ad 26), .ref (ad 27), .ref (ad 28), .ref (ad 29)])), (ad 22, .inl (E.2 0, 30, .inl tr))] _ := hP
  replace hD : va_D A [(ad 30, .inr (6, [.ref (ad 0), .ref (ad 1), .int im, .ref (ad 3), .int at_, .int op, .int st_, .int us, .ref (ad 8), .ref (ad 9), .ref (ad 10), .ref (ad 11), .ref (ad 12), .ref (ad 13), .ref (ad 14), .int bn, .int bm, .ref (ad 17), .int la, .int fo, .int fi, .int lp, .ref (ad 22), .int (nI tn), .int (nI sk), .int ip, .ref (ad 26), .ref (ad 27), .ref (ad 28), .ref (ad 29)])), (ad 22, .inl (E.2 0, 30, .inl tr))] := hD
  replace hl : lv_has ls 5 [(0, .ref (ad 30)), (1, .int 3), (2, .int x)] := hl
  refine lv_iload_n hx hb dX6_partsAs_0 rfl (lv_at hl 1 rfl) ?_
  refine lv_lookup (tgt := 128) (off := 127) hx hb dX6_partsAs_1 (by decide) rfl (by decide) ?_
  refine lv_aload_n hx hb dX6_partsAs_128 rfl (lv_at hl 0 rfl) ?_
  refine lv_iload_n hx hb dX6_partsAs_129 rfl (lv_at hl 1 rfl) ?_
  refine fx_ci (va_runS (As := [.int 3]) (rest := [.ref (ad 30)]) X (mX6_above l E 3 (by decide) _) (va_cwS 1 X.2.2.2.2 (lw_S q1525 q1526 q75 q1527) rfl rfl rfl hdX6_above ⟨Nat.le_of_ble_eq_true rfl, Nat.le_of_ble_eq_true rfl⟩) (fx_pre hE hP hD hS hR [] rfl rfl fx_rc0) rfl rfl hl.1 rfl (lv_room (Nat.le_of_ble_eq_true rfl)) dX6_partsAs_130 ⟨Nat.le_refl _, Nat.le_refl _⟩) hP hD hS hA [] rfl rfl (fun r_130 u H locs hq_130 hP hD hS => ?_)
  replace hP : va_P E.1 clA [(ad 30, .inr (6, [.ref (ad 0), .ref (ad 1), .int im, .ref (ad 3), .int at_, .int op, .int st_, .int us, .ref (ad 8), .ref (ad 9), .ref (ad 10), .ref (ad 11), .ref (ad 12), .ref (ad 13), .ref (ad 14), .int bn, .int bm, .ref (ad 17), .int la, .int fo, .int fi, .int lp, .ref (ad 22), .int (nI tn), .int (nI sk), .int ip, .ref (ad 26), .ref (ad 27), .ref (ad 28), .ref (ad 29)])), (ad 22, .inl (E.2 0, 30, .inl tr))] _ := hP
  replace hD : va_D A [(ad 30, .inr (6, [.ref (ad 0), .ref (ad 1), .int im, .ref (ad 3), .int at_, .int op, .int st_, .int us, .ref (ad 8), .ref (ad 9), .ref (ad 10), .ref (ad 11), .ref (ad 12), .ref (ad 13), .ref (ad 14), .int bn, .int bm, .ref (ad 17), .int la, .int fo, .int fi, .int lp, .ref (ad 22), .int (nI tn), .int (nI sk), .int ip, .ref (ad 26), .ref (ad 27), .ref (ad 28), .ref (ad 29)])), (ad 22, .inl (E.2 0, 30, .inl tr))] := hD
  replace hq_130 : r_130 = nI (abvK 3) := hq_130
  refine fx_ti (show r_130 = 0 from hq_130.trans (by decide)) ?_
  refine lv_iload_n hx hb dX6_partsAs_133 rfl (lv_at hl 2 rfl) ?_
  refine fx_ci (va_runV (As := [.int 0, .int x]) (rest := []) X (mX6_partsAs0 l E ad im at_ op st_ us bn bm la fo fi lp ip tn sk sa tr ow mm x (by first | assumption | omega) (by first | assumption | omega) (by first | assumption | omega) (by first | assumption | omega) (by first | assumption | omega) _) (cwV 2 X.2.2.2.2 (lw_V q1536 q1538 qs67 q75 q1539) rfl rfl rfl ⟨rfl, hdX6_partsAs⟩ ⟨Nat.le_of_ble_eq_true rfl, Nat.le_of_ble_eq_true rfl⟩) (fx_preV (fx_pre hE hP hD hS hR [0, 1] rfl rfl (fx_rcr 0 rfl fx_rc0)) (va_recv hE.1 hP (ci := 6) (q0 := 0) rfl rfl)) rfl rfl hl.1 rfl (lv_room (Nat.le_of_ble_eq_true rfl)) dX6_partsAs_134 ⟨Nat.le_refl _, Nat.le_refl _⟩) hP hD hS hA [0, 1] rfl rfl (fun r_134 u H locs hq_134 hP hD hS => ?_)
  obtain ⟨tr2_134, tn2_134, ip2_134⟩ := u
  replace hP : va_P E.1 clA [(ad 30, .inr (6, [.ref (ad 0), .ref (ad 1), .int im, .ref (ad 3), .int at_, .int op, .int st_, .int us, .ref (ad 8), .ref (ad 9), .ref (ad 10), .ref (ad 11), .ref (ad 12), .ref (ad 13), .ref (ad 14), .int bn, .int bm, .ref (ad 17), .int la, .int fo, .int fi, .int lp, .ref (ad 22), .int (nI tn2_134), .int (nI sk), .int ip2_134, .ref (ad 26), .ref (ad 27), .ref (ad 28), .ref (ad 29)])), (ad 22, .inl (E.2 0, 30, .inl tr2_134))] _ := hP
  replace hD : va_D A [(ad 30, .inr (6, [.ref (ad 0), .ref (ad 1), .int im, .ref (ad 3), .int at_, .int op, .int st_, .int us, .ref (ad 8), .ref (ad 9), .ref (ad 10), .ref (ad 11), .ref (ad 12), .ref (ad 13), .ref (ad 14), .int bn, .int bm, .ref (ad 17), .int la, .int fo, .int fi, .int lp, .ref (ad 22), .int (nI tn2_134), .int (nI sk), .int ip2_134, .ref (ad 26), .ref (ad 27), .ref (ad 28), .ref (ad 29)])), (ad 22, .inl (E.2 0, 30, .inl tr2_134))] := hD
  replace hq_134 : r_134 = partsV 0 ow (nI sk) mm x ∧ (tr2_134, tn2_134) = bgL (tr, tn) (partsB 0 ow (nI sk) mm) ∧ ip2_134 = fx_b (mm - nI sk = 0) ∧ tn2_134 ≤ 30 := hq_134
  exact hret r_134 (tr2_134, tn2_134, ip2_134) (⟨by rw [hq_134.1]; rfl, by rw [hq_134.2.1]; rfl, hq_134.2.2.1, hq_134.2.2.2⟩) (rfl) hP hD hS (Nat.le_refl _) (Nat.le_refl _) dX6_partsAs_137
abbrev rmX6_partsAs5 : Room := { frames := 8, cells := 0, slots := 0, locals := 177 }
set_option maxHeartbeats 400000 in
set_option maxRecDepth 100000 in
theorem mX6_partsAs5 (l : Launch) (E : fx_En) (ad : Nat → Nat) (im : Int32) (at_ : Int32) (op : Int32) (st_ : Int32) (us : Int32) (bn : Int32) (bm : Int32) (la : Int32) (fo : Int32) (fi : Int32) (lp : Int32) (ip : Int32) (tn : Nat) (sk : Nat) (sa : Nat → Int32) (tr : Nat → Int32) (ow : Nat) (mm : Int32) (x : Int32) (htn : tn ≤ 30) (hsk : sk < 4) (hkd : sa (32 + 2 * sk) = nI ow) (hkd2 : ow ≤ 6) (hm : sa (32 + 2 * sk + 1) = mm) : fx_Mi l yX6_partsAs cX6_partsAs 5 .int rmX6_partsAs5 E [.ref (ad 30), .int 5, .int x] [(ad 30, .inr (6, [.ref (ad 0), .ref (ad 1), .int im, .ref (ad 3), .int at_, .int op, .int st_, .int us, .ref (ad 8), .ref (ad 9), .ref (ad 10), .ref (ad 11), .ref (ad 12), .ref (ad 13), .ref (ad 14), .int bn, .int bm, .ref (ad 17), .int la, .int fo, .int fi, .int lp, .ref (ad 22), .int (nI tn), .int (nI sk), .int ip, .ref (ad 26), .ref (ad 27), .ref (ad 28), .ref (ad 29)])), (ad 22, .inl (E.2 0, 30, .inl tr))] [(ad 0, .inl (E.2 0, 374, .inl sa))] (S := (Nat → Int32) × Nat × Int32) (fun (u : (Nat → Int32) × Nat × Int32) => [(ad 30, .inr (6, [.ref (ad 0), .ref (ad 1), .int im, .ref (ad 3), .int at_, .int op, .int st_, .int us, .ref (ad 8), .ref (ad 9), .ref (ad 10), .ref (ad 11), .ref (ad 12), .ref (ad 13), .ref (ad 14), .int bn, .int bm, .ref (ad 17), .int la, .int fo, .int fi, .int lp, .ref (ad 22), .int (nI u.2.1), .int (nI sk), .int u.2.2, .ref (ad 26), .ref (ad 27), .ref (ad 28), .ref (ad 29)])), (ad 22, .inl (E.2 0, 30, .inl u.1))]) (fun (r : Int32) (u : (Nat → Int32) × Nat × Int32) => r = partsV 5 ow (nI sk) mm x ∧ (u.1, u.2.1) = bgL (tr, tn) (partsB 5 ow (nI sk) mm) ∧ u.2.2 = fx_b (mm - nI sk = 0) ∧ u.2.1 ≤ 30) := by
  refine fx_iW rfl rfl ?_
  intro p e s m args below meth c A ls Q X hE hP hD hR hA hl hret
  have hx := X.1
  have hb := X.2.1
  have hS : va_S A s.heap s.heap [] := va_S.rf
  replace hP : va_P E.1 clA [(ad 30, .inr (6, [.ref (ad 0), .ref (ad 1), .int im, .ref (ad 3), .int at_, .int op, .int st_, .int us, .ref (ad 8), .ref (ad 9), .ref (ad 10), .ref (ad 11), .ref (ad 12), .ref (ad 13), .ref (ad 14), .int bn, .int bm, .ref (ad 17), .int la, .int fo, .int fi, .int lp, .ref (ad 22), .int (nI tn), .int (nI sk), .int ip, .ref (ad 26), .ref (ad 27), .ref (ad 28), .ref (ad 29)])), (ad 22, .inl (E.2 0, 30, .inl tr))] _ := hP
  replace hD : va_D A [(ad 30, .inr (6, [.ref (ad 0), .ref (ad 1), .int im, .ref (ad 3), .int at_, .int op, .int st_, .int us, .ref (ad 8), .ref (ad 9), .ref (ad 10), .ref (ad 11), .ref (ad 12), .ref (ad 13), .ref (ad 14), .int bn, .int bm, .ref (ad 17), .int la, .int fo, .int fi, .int lp, .ref (ad 22), .int (nI tn), .int (nI sk), .int ip, .ref (ad 26), .ref (ad 27), .ref (ad 28), .ref (ad 29)])), (ad 22, .inl (E.2 0, 30, .inl tr))] := hD
  replace hl : lv_has ls 5 [(0, .ref (ad 30)), (1, .int 5), (2, .int x)] := hl
  refine lv_iload_n hx hb dX6_partsAs_0 rfl (lv_at hl 1 rfl) ?_
  refine lv_lookup (tgt := 128) (off := 127) hx hb dX6_partsAs_1 (by decide) rfl (by decide) ?_
  refine lv_aload_n hx hb dX6_partsAs_128 rfl (lv_at hl 0 rfl) ?_
  refine lv_iload_n hx hb dX6_partsAs_129 rfl (lv_at hl 1 rfl) ?_
  refine fx_ci (va_runS (As := [.int 5]) (rest := [.ref (ad 30)]) X (mX6_above l E 5 (by decide) _) (va_cwS 1 X.2.2.2.2 (lw_S q1525 q1526 q75 q1527) rfl rfl rfl hdX6_above ⟨Nat.le_of_ble_eq_true rfl, Nat.le_of_ble_eq_true rfl⟩) (fx_pre hE hP hD hS hR [] rfl rfl fx_rc0) rfl rfl hl.1 rfl (lv_room (Nat.le_of_ble_eq_true rfl)) dX6_partsAs_130 ⟨Nat.le_refl _, Nat.le_refl _⟩) hP hD hS hA [] rfl rfl (fun r_130 u H locs hq_130 hP hD hS => ?_)
  replace hP : va_P E.1 clA [(ad 30, .inr (6, [.ref (ad 0), .ref (ad 1), .int im, .ref (ad 3), .int at_, .int op, .int st_, .int us, .ref (ad 8), .ref (ad 9), .ref (ad 10), .ref (ad 11), .ref (ad 12), .ref (ad 13), .ref (ad 14), .int bn, .int bm, .ref (ad 17), .int la, .int fo, .int fi, .int lp, .ref (ad 22), .int (nI tn), .int (nI sk), .int ip, .ref (ad 26), .ref (ad 27), .ref (ad 28), .ref (ad 29)])), (ad 22, .inl (E.2 0, 30, .inl tr))] _ := hP
  replace hD : va_D A [(ad 30, .inr (6, [.ref (ad 0), .ref (ad 1), .int im, .ref (ad 3), .int at_, .int op, .int st_, .int us, .ref (ad 8), .ref (ad 9), .ref (ad 10), .ref (ad 11), .ref (ad 12), .ref (ad 13), .ref (ad 14), .int bn, .int bm, .ref (ad 17), .int la, .int fo, .int fi, .int lp, .ref (ad 22), .int (nI tn), .int (nI sk), .int ip, .ref (ad 26), .ref (ad 27), .ref (ad 28), .ref (ad 29)])), (ad 22, .inl (E.2 0, 30, .inl tr))] := hD
  replace hq_130 : r_130 = nI (abvK 5) := hq_130
  refine fx_ti (show r_130 = 1 from hq_130.trans (by decide)) ?_
  refine lv_iload_n hx hb dX6_partsAs_133 rfl (lv_at hl 2 rfl) ?_
  refine fx_ci (va_runV (As := [.int 1, .int x]) (rest := []) X (mX6_partsAs1 l E ad im at_ op st_ us bn bm la fo fi lp ip tn sk sa tr ow mm x (by first | assumption | omega) (by first | assumption | omega) (by first | assumption | omega) (by first | assumption | omega) (by first | assumption | omega) _) (cwV 2 X.2.2.2.2 (lw_V q1536 q1538 qs67 q75 q1539) rfl rfl rfl ⟨rfl, hdX6_partsAs⟩ ⟨Nat.le_of_ble_eq_true rfl, Nat.le_of_ble_eq_true rfl⟩) (fx_preV (fx_pre hE hP hD hS hR [0, 1] rfl rfl (fx_rcr 0 rfl fx_rc0)) (va_recv hE.1 hP (ci := 6) (q0 := 0) rfl rfl)) rfl rfl hl.1 rfl (lv_room (Nat.le_of_ble_eq_true rfl)) dX6_partsAs_134 ⟨Nat.le_refl _, Nat.le_refl _⟩) hP hD hS hA [0, 1] rfl rfl (fun r_134 u H locs hq_134 hP hD hS => ?_)
  obtain ⟨tr2_134, tn2_134, ip2_134⟩ := u
  replace hP : va_P E.1 clA [(ad 30, .inr (6, [.ref (ad 0), .ref (ad 1), .int im, .ref (ad 3), .int at_, .int op, .int st_, .int us, .ref (ad 8), .ref (ad 9), .ref (ad 10), .ref (ad 11), .ref (ad 12), .ref (ad 13), .ref (ad 14), .int bn, .int bm, .ref (ad 17), .int la, .int fo, .int fi, .int lp, .ref (ad 22), .int (nI tn2_134), .int (nI sk), .int ip2_134, .ref (ad 26), .ref (ad 27), .ref (ad 28), .ref (ad 29)])), (ad 22, .inl (E.2 0, 30, .inl tr2_134))] _ := hP
  replace hD : va_D A [(ad 30, .inr (6, [.ref (ad 0), .ref (ad 1), .int im, .ref (ad 3), .int at_, .int op, .int st_, .int us, .ref (ad 8), .ref (ad 9), .ref (ad 10), .ref (ad 11), .ref (ad 12), .ref (ad 13), .ref (ad 14), .int bn, .int bm, .ref (ad 17), .int la, .int fo, .int fi, .int lp, .ref (ad 22), .int (nI tn2_134), .int (nI sk), .int ip2_134, .ref (ad 26), .ref (ad 27), .ref (ad 28), .ref (ad 29)])), (ad 22, .inl (E.2 0, 30, .inl tr2_134))] := hD
  replace hq_134 : r_134 = partsV 1 ow (nI sk) mm x ∧ (tr2_134, tn2_134) = bgL (tr, tn) (partsB 1 ow (nI sk) mm) ∧ ip2_134 = fx_b (mm - nI sk = 0) ∧ tn2_134 ≤ 30 := hq_134
  exact hret r_134 (tr2_134, tn2_134, ip2_134) (⟨by rw [hq_134.1]; rfl, by rw [hq_134.2.1]; rfl, hq_134.2.2.1, hq_134.2.2.2⟩) (rfl) hP hD hS (Nat.le_refl _) (Nat.le_refl _) dX6_partsAs_137
abbrev rmX6_partsAs6 : Room := { frames := 2, cells := 0, slots := 0, locals := 45 }
set_option maxHeartbeats 400000 in
set_option maxRecDepth 100000 in
theorem mX6_partsAs6 (l : Launch) (E : fx_En) (ad : Nat → Nat) (im : Int32) (at_ : Int32) (op : Int32) (st_ : Int32) (us : Int32) (bn : Int32) (bm : Int32) (la : Int32) (fo : Int32) (fi : Int32) (lp : Int32) (ip : Int32) (tn : Nat) (sk : Nat) (sa : Nat → Int32) (tr : Nat → Int32) (ow : Nat) (mm : Int32) (x : Int32) (htn : tn ≤ 30) (hsk : sk < 4) (hkd : sa (32 + 2 * sk) = nI ow) (hkd2 : ow ≤ 6) (hm : sa (32 + 2 * sk + 1) = mm) : fx_Mi l yX6_partsAs cX6_partsAs 5 .int rmX6_partsAs6 E [.ref (ad 30), .int 6, .int x] [(ad 30, .inr (6, [.ref (ad 0), .ref (ad 1), .int im, .ref (ad 3), .int at_, .int op, .int st_, .int us, .ref (ad 8), .ref (ad 9), .ref (ad 10), .ref (ad 11), .ref (ad 12), .ref (ad 13), .ref (ad 14), .int bn, .int bm, .ref (ad 17), .int la, .int fo, .int fi, .int lp, .ref (ad 22), .int (nI tn), .int (nI sk), .int ip, .ref (ad 26), .ref (ad 27), .ref (ad 28), .ref (ad 29)])), (ad 22, .inl (E.2 0, 30, .inl tr))] [(ad 0, .inl (E.2 0, 374, .inl sa))] (S := (Nat → Int32) × Nat × Int32) (fun (u : (Nat → Int32) × Nat × Int32) => [(ad 30, .inr (6, [.ref (ad 0), .ref (ad 1), .int im, .ref (ad 3), .int at_, .int op, .int st_, .int us, .ref (ad 8), .ref (ad 9), .ref (ad 10), .ref (ad 11), .ref (ad 12), .ref (ad 13), .ref (ad 14), .int bn, .int bm, .ref (ad 17), .int la, .int fo, .int fi, .int lp, .ref (ad 22), .int (nI u.2.1), .int (nI sk), .int u.2.2, .ref (ad 26), .ref (ad 27), .ref (ad 28), .ref (ad 29)])), (ad 22, .inl (E.2 0, 30, .inl u.1))]) (fun (r : Int32) (u : (Nat → Int32) × Nat × Int32) => r = partsV 6 ow (nI sk) mm x ∧ (u.1, u.2.1) = bgL (tr, tn) (partsB 6 ow (nI sk) mm) ∧ u.2.2 = fx_b (mm - nI sk = 0) ∧ u.2.1 ≤ 30) := by
  refine fx_iW rfl rfl ?_
  intro p e s m args below meth c A ls Q X hE hP hD hR hA hl hret
  have hx := X.1
  have hb := X.2.1
  have hS : va_S A s.heap s.heap [] := va_S.rf
  replace hP : va_P E.1 clA [(ad 30, .inr (6, [.ref (ad 0), .ref (ad 1), .int im, .ref (ad 3), .int at_, .int op, .int st_, .int us, .ref (ad 8), .ref (ad 9), .ref (ad 10), .ref (ad 11), .ref (ad 12), .ref (ad 13), .ref (ad 14), .int bn, .int bm, .ref (ad 17), .int la, .int fo, .int fi, .int lp, .ref (ad 22), .int (nI tn), .int (nI sk), .int ip, .ref (ad 26), .ref (ad 27), .ref (ad 28), .ref (ad 29)])), (ad 22, .inl (E.2 0, 30, .inl tr))] _ := hP
  replace hD : va_D A [(ad 30, .inr (6, [.ref (ad 0), .ref (ad 1), .int im, .ref (ad 3), .int at_, .int op, .int st_, .int us, .ref (ad 8), .ref (ad 9), .ref (ad 10), .ref (ad 11), .ref (ad 12), .ref (ad 13), .ref (ad 14), .int bn, .int bm, .ref (ad 17), .int la, .int fo, .int fi, .int lp, .ref (ad 22), .int (nI tn), .int (nI sk), .int ip, .ref (ad 26), .ref (ad 27), .ref (ad 28), .ref (ad 29)])), (ad 22, .inl (E.2 0, 30, .inl tr))] := hD
  replace hl : lv_has ls 5 [(0, .ref (ad 30)), (1, .int 6), (2, .int x)] := hl
  refine lv_iload_n hx hb dX6_partsAs_0 rfl (lv_at hl 1 rfl) ?_
  refine lv_lookup (tgt := 128) (off := 127) hx hb dX6_partsAs_1 (by decide) rfl (by decide) ?_
  refine lv_aload_n hx hb dX6_partsAs_128 rfl (lv_at hl 0 rfl) ?_
  refine lv_iload_n hx hb dX6_partsAs_129 rfl (lv_at hl 1 rfl) ?_
  refine fx_ci (va_runS (As := [.int 6]) (rest := [.ref (ad 30)]) X (mX6_above l E 6 (by decide) _) (va_cwS 1 X.2.2.2.2 (lw_S q1525 q1526 q75 q1527) rfl rfl rfl hdX6_above ⟨Nat.le_of_ble_eq_true rfl, Nat.le_of_ble_eq_true rfl⟩) (fx_pre hE hP hD hS hR [] rfl rfl fx_rc0) rfl rfl hl.1 rfl (lv_room (Nat.le_of_ble_eq_true rfl)) dX6_partsAs_130 ⟨Nat.le_refl _, Nat.le_refl _⟩) hP hD hS hA [] rfl rfl (fun r_130 u H locs hq_130 hP hD hS => ?_)
  replace hP : va_P E.1 clA [(ad 30, .inr (6, [.ref (ad 0), .ref (ad 1), .int im, .ref (ad 3), .int at_, .int op, .int st_, .int us, .ref (ad 8), .ref (ad 9), .ref (ad 10), .ref (ad 11), .ref (ad 12), .ref (ad 13), .ref (ad 14), .int bn, .int bm, .ref (ad 17), .int la, .int fo, .int fi, .int lp, .ref (ad 22), .int (nI tn), .int (nI sk), .int ip, .ref (ad 26), .ref (ad 27), .ref (ad 28), .ref (ad 29)])), (ad 22, .inl (E.2 0, 30, .inl tr))] _ := hP
  replace hD : va_D A [(ad 30, .inr (6, [.ref (ad 0), .ref (ad 1), .int im, .ref (ad 3), .int at_, .int op, .int st_, .int us, .ref (ad 8), .ref (ad 9), .ref (ad 10), .ref (ad 11), .ref (ad 12), .ref (ad 13), .ref (ad 14), .int bn, .int bm, .ref (ad 17), .int la, .int fo, .int fi, .int lp, .ref (ad 22), .int (nI tn), .int (nI sk), .int ip, .ref (ad 26), .ref (ad 27), .ref (ad 28), .ref (ad 29)])), (ad 22, .inl (E.2 0, 30, .inl tr))] := hD
  replace hq_130 : r_130 = nI (abvK 6) := hq_130
  refine fx_ti (show r_130 = 0 from hq_130.trans (by decide)) ?_
  refine lv_iload_n hx hb dX6_partsAs_133 rfl (lv_at hl 2 rfl) ?_
  refine fx_ci (va_runV (As := [.int 0, .int x]) (rest := []) X (mX6_partsAs0 l E ad im at_ op st_ us bn bm la fo fi lp ip tn sk sa tr ow mm x (by first | assumption | omega) (by first | assumption | omega) (by first | assumption | omega) (by first | assumption | omega) (by first | assumption | omega) _) (cwV 2 X.2.2.2.2 (lw_V q1536 q1538 qs67 q75 q1539) rfl rfl rfl ⟨rfl, hdX6_partsAs⟩ ⟨Nat.le_of_ble_eq_true rfl, Nat.le_of_ble_eq_true rfl⟩) (fx_preV (fx_pre hE hP hD hS hR [0, 1] rfl rfl (fx_rcr 0 rfl fx_rc0)) (va_recv hE.1 hP (ci := 6) (q0 := 0) rfl rfl)) rfl rfl hl.1 rfl (lv_room (Nat.le_of_ble_eq_true rfl)) dX6_partsAs_134 ⟨Nat.le_refl _, Nat.le_refl _⟩) hP hD hS hA [0, 1] rfl rfl (fun r_134 u H locs hq_134 hP hD hS => ?_)
  obtain ⟨tr2_134, tn2_134, ip2_134⟩ := u
  replace hP : va_P E.1 clA [(ad 30, .inr (6, [.ref (ad 0), .ref (ad 1), .int im, .ref (ad 3), .int at_, .int op, .int st_, .int us, .ref (ad 8), .ref (ad 9), .ref (ad 10), .ref (ad 11), .ref (ad 12), .ref (ad 13), .ref (ad 14), .int bn, .int bm, .ref (ad 17), .int la, .int fo, .int fi, .int lp, .ref (ad 22), .int (nI tn2_134), .int (nI sk), .int ip2_134, .ref (ad 26), .ref (ad 27), .ref (ad 28), .ref (ad 29)])), (ad 22, .inl (E.2 0, 30, .inl tr2_134))] _ := hP
  replace hD : va_D A [(ad 30, .inr (6, [.ref (ad 0), .ref (ad 1), .int im, .ref (ad 3), .int at_, .int op, .int st_, .int us, .ref (ad 8), .ref (ad 9), .ref (ad 10), .ref (ad 11), .ref (ad 12), .ref (ad 13), .ref (ad 14), .int bn, .int bm, .ref (ad 17), .int la, .int fo, .int fi, .int lp, .ref (ad 22), .int (nI tn2_134), .int (nI sk), .int ip2_134, .ref (ad 26), .ref (ad 27), .ref (ad 28), .ref (ad 29)])), (ad 22, .inl (E.2 0, 30, .inl tr2_134))] := hD
  replace hq_134 : r_134 = partsV 0 ow (nI sk) mm x ∧ (tr2_134, tn2_134) = bgL (tr, tn) (partsB 0 ow (nI sk) mm) ∧ ip2_134 = fx_b (mm - nI sk = 0) ∧ tn2_134 ≤ 30 := hq_134
  exact hret r_134 (tr2_134, tn2_134, ip2_134) (⟨by rw [hq_134.1]; rfl, by rw [hq_134.2.1]; rfl, hq_134.2.2.1, hq_134.2.2.2⟩) (rfl) hP hD hS (Nat.le_refl _) (Nat.le_refl _) dX6_partsAs_137
abbrev rmX6_partsAs4 : Room := { frames := 3, cells := 0, slots := 0, locals := 69 }
set_option maxHeartbeats 400000 in
set_option maxRecDepth 100000 in
theorem mX6_partsAs4 (l : Launch) (E : fx_En) (ad : Nat → Nat) (im : Int32) (at_ : Int32) (op : Int32) (st_ : Int32) (us : Int32) (bn : Int32) (bm : Int32) (la : Int32) (fo : Int32) (fi : Int32) (lp : Int32) (ip : Int32) (tn : Nat) (sk : Nat) (sa : Nat → Int32) (tr : Nat → Int32) (ow : Nat) (mm : Int32) (x : Int32) (htn : tn ≤ 30) (hsk : sk < 4) (hkd : sa (32 + 2 * sk) = nI ow) (hkd2 : ow ≤ 6) (hm : sa (32 + 2 * sk + 1) = mm) : fx_Mi l yX6_partsAs cX6_partsAs 5 .int rmX6_partsAs4 E [.ref (ad 30), .int 4, .int x] [(ad 30, .inr (6, [.ref (ad 0), .ref (ad 1), .int im, .ref (ad 3), .int at_, .int op, .int st_, .int us, .ref (ad 8), .ref (ad 9), .ref (ad 10), .ref (ad 11), .ref (ad 12), .ref (ad 13), .ref (ad 14), .int bn, .int bm, .ref (ad 17), .int la, .int fo, .int fi, .int lp, .ref (ad 22), .int (nI tn), .int (nI sk), .int ip, .ref (ad 26), .ref (ad 27), .ref (ad 28), .ref (ad 29)])), (ad 22, .inl (E.2 0, 30, .inl tr))] [(ad 0, .inl (E.2 0, 374, .inl sa))] (S := (Nat → Int32) × Nat × Int32) (fun (u : (Nat → Int32) × Nat × Int32) => [(ad 30, .inr (6, [.ref (ad 0), .ref (ad 1), .int im, .ref (ad 3), .int at_, .int op, .int st_, .int us, .ref (ad 8), .ref (ad 9), .ref (ad 10), .ref (ad 11), .ref (ad 12), .ref (ad 13), .ref (ad 14), .int bn, .int bm, .ref (ad 17), .int la, .int fo, .int fi, .int lp, .ref (ad 22), .int (nI u.2.1), .int (nI sk), .int u.2.2, .ref (ad 26), .ref (ad 27), .ref (ad 28), .ref (ad 29)])), (ad 22, .inl (E.2 0, 30, .inl u.1))]) (fun (r : Int32) (u : (Nat → Int32) × Nat × Int32) => r = partsV 4 ow (nI sk) mm x ∧ (u.1, u.2.1) = bgL (tr, tn) (partsB 4 ow (nI sk) mm) ∧ u.2.2 = fx_b (mm - nI sk = 0) ∧ u.2.1 ≤ 30) := by
  refine fx_iW rfl rfl ?_
  intro p e s m args below meth c A ls Q X hE hP hD hR hA hl hret
  have hx := X.1
  have hb := X.2.1
  have hS : va_S A s.heap s.heap [] := va_S.rf
  replace hP : va_P E.1 clA [(ad 30, .inr (6, [.ref (ad 0), .ref (ad 1), .int im, .ref (ad 3), .int at_, .int op, .int st_, .int us, .ref (ad 8), .ref (ad 9), .ref (ad 10), .ref (ad 11), .ref (ad 12), .ref (ad 13), .ref (ad 14), .int bn, .int bm, .ref (ad 17), .int la, .int fo, .int fi, .int lp, .ref (ad 22), .int (nI tn), .int (nI sk), .int ip, .ref (ad 26), .ref (ad 27), .ref (ad 28), .ref (ad 29)])), (ad 22, .inl (E.2 0, 30, .inl tr))] _ := hP
  replace hD : va_D A [(ad 30, .inr (6, [.ref (ad 0), .ref (ad 1), .int im, .ref (ad 3), .int at_, .int op, .int st_, .int us, .ref (ad 8), .ref (ad 9), .ref (ad 10), .ref (ad 11), .ref (ad 12), .ref (ad 13), .ref (ad 14), .int bn, .int bm, .ref (ad 17), .int la, .int fo, .int fi, .int lp, .ref (ad 22), .int (nI tn), .int (nI sk), .int ip, .ref (ad 26), .ref (ad 27), .ref (ad 28), .ref (ad 29)])), (ad 22, .inl (E.2 0, 30, .inl tr))] := hD
  replace hl : lv_has ls 5 [(0, .ref (ad 30)), (1, .int 4), (2, .int x)] := hl
  refine lv_iload_n hx hb dX6_partsAs_0 rfl (lv_at hl 1 rfl) ?_
  refine lv_lookup (tgt := 128) (off := 127) hx hb dX6_partsAs_1 (by decide) rfl (by decide) ?_
  refine lv_aload_n hx hb dX6_partsAs_128 rfl (lv_at hl 0 rfl) ?_
  refine lv_iload_n hx hb dX6_partsAs_129 rfl (lv_at hl 1 rfl) ?_
  refine fx_ci (va_runS (As := [.int 4]) (rest := [.ref (ad 30)]) X (mX6_above l E 4 (by decide) _) (va_cwS 1 X.2.2.2.2 (lw_S q1525 q1526 q75 q1527) rfl rfl rfl hdX6_above ⟨Nat.le_of_ble_eq_true rfl, Nat.le_of_ble_eq_true rfl⟩) (fx_pre hE hP hD hS hR [] rfl rfl fx_rc0) rfl rfl hl.1 rfl (lv_room (Nat.le_of_ble_eq_true rfl)) dX6_partsAs_130 ⟨Nat.le_refl _, Nat.le_refl _⟩) hP hD hS hA [] rfl rfl (fun r_130 u H locs hq_130 hP hD hS => ?_)
  replace hP : va_P E.1 clA [(ad 30, .inr (6, [.ref (ad 0), .ref (ad 1), .int im, .ref (ad 3), .int at_, .int op, .int st_, .int us, .ref (ad 8), .ref (ad 9), .ref (ad 10), .ref (ad 11), .ref (ad 12), .ref (ad 13), .ref (ad 14), .int bn, .int bm, .ref (ad 17), .int la, .int fo, .int fi, .int lp, .ref (ad 22), .int (nI tn), .int (nI sk), .int ip, .ref (ad 26), .ref (ad 27), .ref (ad 28), .ref (ad 29)])), (ad 22, .inl (E.2 0, 30, .inl tr))] _ := hP
  replace hD : va_D A [(ad 30, .inr (6, [.ref (ad 0), .ref (ad 1), .int im, .ref (ad 3), .int at_, .int op, .int st_, .int us, .ref (ad 8), .ref (ad 9), .ref (ad 10), .ref (ad 11), .ref (ad 12), .ref (ad 13), .ref (ad 14), .int bn, .int bm, .ref (ad 17), .int la, .int fo, .int fi, .int lp, .ref (ad 22), .int (nI tn), .int (nI sk), .int ip, .ref (ad 26), .ref (ad 27), .ref (ad 28), .ref (ad 29)])), (ad 22, .inl (E.2 0, 30, .inl tr))] := hD
  replace hq_130 : r_130 = nI (abvK 4) := hq_130
  refine fx_ti (show r_130 = 2 from hq_130.trans (by decide)) ?_
  refine lv_iload_n hx hb dX6_partsAs_133 rfl (lv_at hl 2 rfl) ?_
  refine fx_ci (va_runV (As := [.int 2, .int x]) (rest := []) X (mX6_partsAs2 l E ad im at_ op st_ us bn bm la fo fi lp ip tn sk sa tr ow mm x (by first | assumption | omega) (by first | assumption | omega) (by first | assumption | omega) (by first | assumption | omega) (by first | assumption | omega) _) (cwV 2 X.2.2.2.2 (lw_V q1536 q1538 qs67 q75 q1539) rfl rfl rfl ⟨rfl, hdX6_partsAs⟩ ⟨Nat.le_of_ble_eq_true rfl, Nat.le_of_ble_eq_true rfl⟩) (fx_preV (fx_pre hE hP hD hS hR [0, 1] rfl rfl (fx_rcr 0 rfl fx_rc0)) (va_recv hE.1 hP (ci := 6) (q0 := 0) rfl rfl)) rfl rfl hl.1 rfl (lv_room (Nat.le_of_ble_eq_true rfl)) dX6_partsAs_134 ⟨Nat.le_refl _, Nat.le_refl _⟩) hP hD hS hA [0, 1] rfl rfl (fun r_134 u H locs hq_134 hP hD hS => ?_)
  obtain ⟨tr2_134, tn2_134, ip2_134⟩ := u
  replace hP : va_P E.1 clA [(ad 30, .inr (6, [.ref (ad 0), .ref (ad 1), .int im, .ref (ad 3), .int at_, .int op, .int st_, .int us, .ref (ad 8), .ref (ad 9), .ref (ad 10), .ref (ad 11), .ref (ad 12), .ref (ad 13), .ref (ad 14), .int bn, .int bm, .ref (ad 17), .int la, .int fo, .int fi, .int lp, .ref (ad 22), .int (nI tn2_134), .int (nI sk), .int ip2_134, .ref (ad 26), .ref (ad 27), .ref (ad 28), .ref (ad 29)])), (ad 22, .inl (E.2 0, 30, .inl tr2_134))] _ := hP
  replace hD : va_D A [(ad 30, .inr (6, [.ref (ad 0), .ref (ad 1), .int im, .ref (ad 3), .int at_, .int op, .int st_, .int us, .ref (ad 8), .ref (ad 9), .ref (ad 10), .ref (ad 11), .ref (ad 12), .ref (ad 13), .ref (ad 14), .int bn, .int bm, .ref (ad 17), .int la, .int fo, .int fi, .int lp, .ref (ad 22), .int (nI tn2_134), .int (nI sk), .int ip2_134, .ref (ad 26), .ref (ad 27), .ref (ad 28), .ref (ad 29)])), (ad 22, .inl (E.2 0, 30, .inl tr2_134))] := hD
  replace hq_134 : r_134 = partsV 2 ow (nI sk) mm x ∧ (tr2_134, tn2_134) = bgL (tr, tn) (partsB 2 ow (nI sk) mm) ∧ ip2_134 = fx_b (mm - nI sk = 0) ∧ tn2_134 ≤ 30 := hq_134
  exact hret r_134 (tr2_134, tn2_134, ip2_134) (⟨by rw [hq_134.1]; rfl, by rw [hq_134.2.1]; rfl, hq_134.2.2.1, hq_134.2.2.2⟩) (rfl) hP hD hS (Nat.le_refl _) (Nat.le_refl _) dX6_partsAs_137
abbrev rmX6_voice : Room := { frames := 10, cells := 0, slots := 0, locals := 219 }
set_option maxHeartbeats 400000 in
set_option maxRecDepth 100000 in
theorem mX6_voice (l : Launch) (E : fx_En) (ad : Nat → Nat) (im : Int32) (at_ : Int32) (op : Int32) (st_ : Int32) (us : Int32) (bn : Int32) (bm : Int32) (la : Int32) (fo : Int32) (fi : Int32) (lp : Int32) (sp : Int32) (ip : Int32) (tn : Nat) (sa : Nat → Int32) (er : Nat → Int32) (tr : Nat → Int32) (til : Int32) (vo : Int32) (x : Int32) (hI : Inv sa) (htn : tn ≤ 30) : fx_Mi l yX6_voice cX6_voice 6 .int rmX6_voice E [.ref (ad 30), .int til, .int vo, .int x] [(ad 30, .inr (6, [.ref (ad 0), .ref (ad 1), .int im, .ref (ad 3), .int at_, .int op, .int st_, .int us, .ref (ad 8), .ref (ad 9), .ref (ad 10), .ref (ad 11), .ref (ad 12), .ref (ad 13), .ref (ad 14), .int bn, .int bm, .ref (ad 17), .int la, .int fo, .int fi, .int lp, .ref (ad 22), .int (nI tn), .int sp, .int ip, .ref (ad 26), .ref (ad 27), .ref (ad 28), .ref (ad 29)])), (ad 3, .inl (E.2 0, 7, .inl er)), (ad 22, .inl (E.2 0, 30, .inl tr))] [(ad 0, .inl (E.2 0, 374, .inl sa))] (S := (Nat → Int32) × (Nat → Int32) × Nat × Int32 × Int32) (fun (u : (Nat → Int32) × (Nat → Int32) × Nat × Int32 × Int32) => [(ad 30, .inr (6, [.ref (ad 0), .ref (ad 1), .int im, .ref (ad 3), .int at_, .int op, .int st_, .int us, .ref (ad 8), .ref (ad 9), .ref (ad 10), .ref (ad 11), .ref (ad 12), .ref (ad 13), .ref (ad 14), .int bn, .int bm, .ref (ad 17), .int la, .int fo, .int fi, .int lp, .ref (ad 22), .int (nI u.2.2.1), .int u.2.2.2.1, .int u.2.2.2.2, .ref (ad 26), .ref (ad 27), .ref (ad 28), .ref (ad 29)])), (ad 3, .inl (E.2 0, 7, .inl u.1)), (ad 22, .inl (E.2 0, 30, .inl u.2.1))]) (fun (r : Int32) (u : (Nat → Int32) × (Nat → Int32) × Nat × Int32 × Int32) => (r, u.2.1, u.2.2.1, u.1) = voice_ sa er tr tn til vo x ∧ u.2.2.1 ≤ 30) := by
  refine fx_iW rfl rfl ?_
  intro p e s m args below meth c A ls Q X hE hP hD hR hA hl hret
  have hx := X.1
  have hb := X.2.1
  have hS : va_S A s.heap s.heap [] := va_S.rf
  replace hP : va_P E.1 clA [(ad 30, .inr (6, [.ref (ad 0), .ref (ad 1), .int im, .ref (ad 3), .int at_, .int op, .int st_, .int us, .ref (ad 8), .ref (ad 9), .ref (ad 10), .ref (ad 11), .ref (ad 12), .ref (ad 13), .ref (ad 14), .int bn, .int bm, .ref (ad 17), .int la, .int fo, .int fi, .int lp, .ref (ad 22), .int (nI tn), .int sp, .int ip, .ref (ad 26), .ref (ad 27), .ref (ad 28), .ref (ad 29)])), (ad 3, .inl (E.2 0, 7, .inl er)), (ad 22, .inl (E.2 0, 30, .inl tr))] _ := hP
  replace hD : va_D A [(ad 30, .inr (6, [.ref (ad 0), .ref (ad 1), .int im, .ref (ad 3), .int at_, .int op, .int st_, .int us, .ref (ad 8), .ref (ad 9), .ref (ad 10), .ref (ad 11), .ref (ad 12), .ref (ad 13), .ref (ad 14), .int bn, .int bm, .ref (ad 17), .int la, .int fo, .int fi, .int lp, .ref (ad 22), .int (nI tn), .int sp, .int ip, .ref (ad 26), .ref (ad 27), .ref (ad 28), .ref (ad 29)])), (ad 3, .inl (E.2 0, 7, .inl er)), (ad 22, .inl (E.2 0, 30, .inl tr))] := hD
  replace hl : lv_has ls 6 [(0, .ref (ad 30)), (1, .int til), (2, .int vo), (3, .int x)] := hl
  refine lv_iload_n hx hb dX6_voice_0 rfl (lv_at hl 1 rfl) ?_
  refine fx_ci (va_runS (As := [.int til]) (rest := []) X (mX6_isTill l E til _) (va_cwS 1 X.2.2.2.2 (lw_S q1357 q1358 q75 q1359) rfl rfl rfl hdX6_isTill ⟨Nat.le_of_ble_eq_true rfl, Nat.le_of_ble_eq_true rfl⟩) (fx_pre hE hP hD hS hR [] rfl rfl fx_rc0) rfl rfl hl.1 rfl (lv_room (Nat.le_of_ble_eq_true rfl)) dX6_voice_1 ⟨Nat.le_refl _, Nat.le_refl _⟩) hP hD hS hA [] rfl rfl (fun r_1 u H locs hq_1 hP hD hS => ?_)
  replace hP : va_P E.1 clA [(ad 30, .inr (6, [.ref (ad 0), .ref (ad 1), .int im, .ref (ad 3), .int at_, .int op, .int st_, .int us, .ref (ad 8), .ref (ad 9), .ref (ad 10), .ref (ad 11), .ref (ad 12), .ref (ad 13), .ref (ad 14), .int bn, .int bm, .ref (ad 17), .int la, .int fo, .int fi, .int lp, .ref (ad 22), .int (nI tn), .int sp, .int ip, .ref (ad 26), .ref (ad 27), .ref (ad 28), .ref (ad 29)])), (ad 3, .inl (E.2 0, 7, .inl er)), (ad 22, .inl (E.2 0, 30, .inl tr))] _ := hP
  replace hD : va_D A [(ad 30, .inr (6, [.ref (ad 0), .ref (ad 1), .int im, .ref (ad 3), .int at_, .int op, .int st_, .int us, .ref (ad 8), .ref (ad 9), .ref (ad 10), .ref (ad 11), .ref (ad 12), .ref (ad 13), .ref (ad 14), .int bn, .int bm, .ref (ad 17), .int la, .int fo, .int fi, .int lp, .ref (ad 22), .int (nI tn), .int sp, .int ip, .ref (ad 26), .ref (ad 27), .ref (ad 28), .ref (ad 29)])), (ad 3, .inl (E.2 0, 7, .inl er)), (ad 22, .inl (E.2 0, 30, .inl tr))] := hD
  replace hq_1 : r_1 = fx_b (inB til 0 3 = true) := hq_1
  rcases fx_bc hq_1 with ⟨hb_1, hr_1⟩ | ⟨hb_1, hr_1⟩
  · -- True
    subst hr_1
    refine lv_if_eq (tgt := 16) hx hb dX6_voice_4 (by decide) (fun c => absurd c (by decide)) (fun _ => ?_)
    refine lv_iload_n hx hb dX6_voice_7 rfl (lv_at hl 2 rfl) ?_
    refine lv_iconst (v := 0) hx hb dX6_voice_8 rfl ?_
    refine lv_iconst (v := 3) hx hb dX6_voice_9 rfl ?_
    refine fx_ci (va_runS (As := [.int vo, .int 0, .int 3]) (rest := []) X (mX6_in l E vo 0 3 _) (va_cwS 3 X.2.2.2.2 (lw_S q1263 q1264 q75 q1265) rfl rfl rfl hdX6_in ⟨Nat.le_of_ble_eq_true rfl, Nat.le_of_ble_eq_true rfl⟩) (fx_pre hE hP hD hS hR [] rfl rfl fx_rc0) rfl rfl hl.1 rfl (lv_room (Nat.le_of_ble_eq_true rfl)) dX6_voice_10 ⟨Nat.le_refl _, Nat.le_refl _⟩) hP hD hS hA [] rfl rfl (fun r_10 u H locs hq_10 hP hD hS => ?_)
    replace hP : va_P E.1 clA [(ad 30, .inr (6, [.ref (ad 0), .ref (ad 1), .int im, .ref (ad 3), .int at_, .int op, .int st_, .int us, .ref (ad 8), .ref (ad 9), .ref (ad 10), .ref (ad 11), .ref (ad 12), .ref (ad 13), .ref (ad 14), .int bn, .int bm, .ref (ad 17), .int la, .int fo, .int fi, .int lp, .ref (ad 22), .int (nI tn), .int sp, .int ip, .ref (ad 26), .ref (ad 27), .ref (ad 28), .ref (ad 29)])), (ad 3, .inl (E.2 0, 7, .inl er)), (ad 22, .inl (E.2 0, 30, .inl tr))] _ := hP
    replace hD : va_D A [(ad 30, .inr (6, [.ref (ad 0), .ref (ad 1), .int im, .ref (ad 3), .int at_, .int op, .int st_, .int us, .ref (ad 8), .ref (ad 9), .ref (ad 10), .ref (ad 11), .ref (ad 12), .ref (ad 13), .ref (ad 14), .int bn, .int bm, .ref (ad 17), .int la, .int fo, .int fi, .int lp, .ref (ad 22), .int (nI tn), .int sp, .int ip, .ref (ad 26), .ref (ad 27), .ref (ad 28), .ref (ad 29)])), (ad 3, .inl (E.2 0, 7, .inl er)), (ad 22, .inl (E.2 0, 30, .inl tr))] := hD
    replace hq_10 : r_10 = fx_b (inB vo 0 3 = true) := hq_10
    rcases fx_bc hq_10 with ⟨hb_10, hr_10⟩ | ⟨hb_10, hr_10⟩
    · -- True
      subst hr_10
      refine lv_if_ne (tgt := 22) hx hb dX6_voice_13 (by decide) (fun _ => ?_) (fun c => absurd c (by decide))
      have gn := inB_nn (n := 3) hb_1 (by omega)
      have g1 : nn til < 4 := by omega
      refine lv_aload_n hx hb dX6_voice_22 rfl (lv_at hl 0 rfl) ?_
      refine lv_iconst (v := 0) hx hb dX6_voice_23 rfl ?_
      refine fx_put_ (ws' := [(ad 30, .inr (6, [.ref (ad 0), .ref (ad 1), .int im, .ref (ad 3), .int at_, .int op, .int st_, .int us, .ref (ad 8), .ref (ad 9), .ref (ad 10), .ref (ad 11), .ref (ad 12), .ref (ad 13), .ref (ad 14), .int bn, .int bm, .ref (ad 17), .int la, .int fo, .int fi, .int lp, .ref (ad 22), .int 0, .int sp, .int ip, .ref (ad 26), .ref (ad 27), .ref (ad 28), .ref (ad 29)])), (ad 3, .inl (E.2 0, 7, .inl er)), (ad 22, .inl (E.2 0, 30, .inl tr))]) X hE hP hD hS 0 rfl rfl tyX6_ok nmX6 23 rfl q1191 rfl rfl rfl rfl rfl rfl dX6_voice_24 (fun H locs hP hD hS => ?_)
      refine lv_aload_n hx hb dX6_voice_27 rfl (lv_at hl 0 rfl) ?_
      refine lv_iload_n hx hb dX6_voice_28 rfl (lv_at hl 1 rfl) ?_
      refine fx_ti (show til = nI (nn til) from gn.1) ?_
      refine fx_put_ (ws' := [(ad 30, .inr (6, [.ref (ad 0), .ref (ad 1), .int im, .ref (ad 3), .int at_, .int op, .int st_, .int us, .ref (ad 8), .ref (ad 9), .ref (ad 10), .ref (ad 11), .ref (ad 12), .ref (ad 13), .ref (ad 14), .int bn, .int bm, .ref (ad 17), .int la, .int fo, .int fi, .int lp, .ref (ad 22), .int 0, .int (nI (nn til)), .int ip, .ref (ad 26), .ref (ad 27), .ref (ad 28), .ref (ad 29)])), (ad 3, .inl (E.2 0, 7, .inl er)), (ad 22, .inl (E.2 0, 30, .inl tr))]) X hE hP hD hS 0 rfl rfl tyX6_ok nmX6 24 rfl q1192 rfl rfl rfl rfl rfl rfl dX6_voice_29 (fun H locs hP hD hS => ?_)
      refine lv_aload_n hx hb dX6_voice_32 rfl (lv_at hl 0 rfl) ?_
      refine lv_iconst (v := 0) hx hb dX6_voice_33 rfl ?_
      refine fx_put_ (ws' := [(ad 30, .inr (6, [.ref (ad 0), .ref (ad 1), .int im, .ref (ad 3), .int at_, .int op, .int st_, .int us, .ref (ad 8), .ref (ad 9), .ref (ad 10), .ref (ad 11), .ref (ad 12), .ref (ad 13), .ref (ad 14), .int bn, .int bm, .ref (ad 17), .int la, .int fo, .int fi, .int lp, .ref (ad 22), .int 0, .int (nI (nn til)), .int 0, .ref (ad 26), .ref (ad 27), .ref (ad 28), .ref (ad 29)])), (ad 3, .inl (E.2 0, 7, .inl er)), (ad 22, .inl (E.2 0, 30, .inl tr))]) X hE hP hD hS 0 rfl rfl tyX6_ok nmX6 25 rfl q1193 rfl rfl rfl rfl rfl rfl dX6_voice_34 (fun H locs hP hD hS => ?_)
      refine lv_aload_n hx hb dX6_voice_37 rfl (lv_at hl 0 rfl) ?_
      refine lv_iload_n hx hb dX6_voice_38 rfl (lv_at hl 1 rfl) ?_
      refine fx_ti (show til = nI (nn til) from gn.1) ?_
      refine fx_ci (va_runV (As := [.int (nI (nn til))]) (rest := []) X (mX6_kindOf l E ad im at_ op st_ us bn bm la fo fi lp 0 (nI (nn til)) 0 sa (nn til) g1 _) (cwV 1 X.2.2.2.2 (lw_V q1360 q1362 qs47 q75 q1363) rfl rfl rfl ⟨rfl, hdX6_kindOf⟩ ⟨Nat.le_of_ble_eq_true rfl, Nat.le_of_ble_eq_true rfl⟩) (fx_preV (fx_pre hE hP hD hS hR [] rfl rfl (fx_rcm 0 rfl (by decide) (fx_rcr 0 rfl fx_rc0))) (va_recv hE.1 hP (ci := 6) (q0 := 0) rfl rfl)) rfl rfl hl.1 rfl (lv_room (Nat.le_of_ble_eq_true rfl)) dX6_voice_39 ⟨Nat.le_refl _, Nat.le_refl _⟩) hP hD hS hA [] rfl rfl (fun r_39 u H locs hq_39 hP hD hS => ?_)
      replace hP : va_P E.1 clA [(ad 30, .inr (6, [.ref (ad 0), .ref (ad 1), .int im, .ref (ad 3), .int at_, .int op, .int st_, .int us, .ref (ad 8), .ref (ad 9), .ref (ad 10), .ref (ad 11), .ref (ad 12), .ref (ad 13), .ref (ad 14), .int bn, .int bm, .ref (ad 17), .int la, .int fo, .int fi, .int lp, .ref (ad 22), .int 0, .int (nI (nn til)), .int 0, .ref (ad 26), .ref (ad 27), .ref (ad 28), .ref (ad 29)])), (ad 3, .inl (E.2 0, 7, .inl er)), (ad 22, .inl (E.2 0, 30, .inl tr))] _ := hP
      replace hD : va_D A [(ad 30, .inr (6, [.ref (ad 0), .ref (ad 1), .int im, .ref (ad 3), .int at_, .int op, .int st_, .int us, .ref (ad 8), .ref (ad 9), .ref (ad 10), .ref (ad 11), .ref (ad 12), .ref (ad 13), .ref (ad 14), .int bn, .int bm, .ref (ad 17), .int la, .int fo, .int fi, .int lp, .ref (ad 22), .int 0, .int (nI (nn til)), .int 0, .ref (ad 26), .ref (ad 27), .ref (ad 28), .ref (ad 29)])), (ad 3, .inl (E.2 0, 7, .inl er)), (ad 22, .inl (E.2 0, 30, .inl tr))] := hD
      replace hq_39 : r_39 = sa (32 + 2 * (nn til)) := hq_39
      rcases kd7 (hI.kd (k := nn til) g1).2 with hw | hw | hw | hw | hw | hw | hw
      ·
        refine fx_ti (show r_39 = 0 from hq_39.trans ((hI.kd g1).1.trans (congrArg nI hw))) ?_
        refine lv_istore (lv' := [(4, .int 0), (0, .ref (ad 30)), (1, .int til), (2, .int vo), (3, .int x)]) hx hb dX6_voice_42 hl (by decide) rfl (fun ls hl => ?_)
        refine lv_iload_n hx hb dX6_voice_44 rfl (lv_at hl 3 rfl) ?_
        refine lv_if_ne (tgt := 58) hx hb dX6_voice_45 (by decide) (fun c_45 => ?_) (fun c_45 => ?_)
        · -- jump 58
          refine lv_iload_n hx hb dX6_voice_58 rfl (lv_at hl 3 rfl) ?_
          refine lv_iconst (v := 1) hx hb dX6_voice_59 rfl ?_
          refine lv_icmp_ne (tgt := 73) hx hb dX6_voice_60 (by decide) (fun c_60 => ?_) (fun c_60 => ?_)
          · -- jump 73
            refine lv_iload_n hx hb dX6_voice_73 rfl (lv_at hl 3 rfl) ?_
            refine lv_iconst (v := 2) hx hb dX6_voice_74 rfl ?_
            refine lv_icmp_ne (tgt := 88) hx hb dX6_voice_75 (by decide) (fun c_75 => ?_) (fun c_75 => ?_)
            · -- jump 88
              refine lv_aload_n hx hb dX6_voice_88 rfl (lv_at hl 1 rfl) ?_
              refine lv_iload hx hb dX6_voice_89 (lv_at hl 0 rfl) ?_
              refine lv_iload_n hx hb dX6_voice_91 rfl (lv_at hl 4 rfl) ?_
              refine fx_ci (va_runV (As := [.int 0, .int x]) (rest := []) X (mX6_partsAs0 l E ad im at_ op st_ us bn bm la fo fi lp 0 0 (nn til) sa tr 0 (sa (32 + 2 * nn til + 1)) x (Nat.zero_le 30) g1 ((hI.kd g1).1.trans (congrArg nI hw)) (by decide) rfl _) (cwV 2 X.2.2.2.2 (lw_V q1536 q1538 qs67 q75 q1539) rfl rfl rfl ⟨rfl, hdX6_partsAs⟩ ⟨Nat.le_of_ble_eq_true rfl, Nat.le_of_ble_eq_true rfl⟩) (fx_preV (fx_pre hE hP hD hS hR [0, 2] rfl rfl (fx_rcr 0 rfl fx_rc0)) (va_recv hE.1 hP (ci := 6) (q0 := 0) rfl rfl)) rfl rfl hl.1 rfl (lv_room (Nat.le_of_ble_eq_true rfl)) dX6_voice_92 ⟨Nat.le_refl _, Nat.le_refl _⟩) hP hD hS hA [0, 2] rfl rfl (fun r_92 u H locs hq_92 hP hD hS => ?_)
              obtain ⟨tr2_92, tn2_92, ip2_92⟩ := u
              replace hP : va_P E.1 clA [(ad 30, .inr (6, [.ref (ad 0), .ref (ad 1), .int im, .ref (ad 3), .int at_, .int op, .int st_, .int us, .ref (ad 8), .ref (ad 9), .ref (ad 10), .ref (ad 11), .ref (ad 12), .ref (ad 13), .ref (ad 14), .int bn, .int bm, .ref (ad 17), .int la, .int fo, .int fi, .int lp, .ref (ad 22), .int (nI tn2_92), .int (nI (nn til)), .int ip2_92, .ref (ad 26), .ref (ad 27), .ref (ad 28), .ref (ad 29)])), (ad 3, .inl (E.2 0, 7, .inl er)), (ad 22, .inl (E.2 0, 30, .inl tr2_92))] _ := hP
              replace hD : va_D A [(ad 30, .inr (6, [.ref (ad 0), .ref (ad 1), .int im, .ref (ad 3), .int at_, .int op, .int st_, .int us, .ref (ad 8), .ref (ad 9), .ref (ad 10), .ref (ad 11), .ref (ad 12), .ref (ad 13), .ref (ad 14), .int bn, .int bm, .ref (ad 17), .int la, .int fo, .int fi, .int lp, .ref (ad 22), .int (nI tn2_92), .int (nI (nn til)), .int ip2_92, .ref (ad 26), .ref (ad 27), .ref (ad 28), .ref (ad 29)])), (ad 3, .inl (E.2 0, 7, .inl er)), (ad 22, .inl (E.2 0, 30, .inl tr2_92))] := hD
              replace hq_92 : r_92 = partsV 0 0 (nI (nn til)) (sa (32 + 2 * nn til + 1)) x ∧ (tr2_92, tn2_92) = bgL (tr, 0) (partsB 0 0 (nI (nn til)) (sa (32 + 2 * nn til + 1))) ∧ ip2_92 = fx_b ((sa (32 + 2 * nn til + 1)) - nI (nn til) = 0) ∧ tn2_92 ≤ 30 := hq_92
              refine lv_istore (lv' := [(5, .int r_92), (4, .int 0), (0, .ref (ad 30)), (1, .int til), (2, .int vo), (3, .int x)]) hx hb dX6_voice_95 hl (by decide) rfl (fun ls hl => ?_)
              refine lv_aload_n hx hb dX6_voice_97 rfl (lv_at hl 2 rfl) ?_
              refine fx_get X hE hP 0 rfl rfl 25 rfl q1193 rfl rfl dX6_voice_98 ?_
              refine lv_if_eq (tgt := 113) hx hb dX6_voice_101 (by decide) (fun c_101 => ?_) (fun c_101 => ?_)
              · -- jump 113
                have hpz : ¬ (sa (32 + 2 * nn til + 1) - nI (nn til) = 0) := fun h => by rw [hq_92.2.2.1, fx_b, if_pos h] at c_101; exact absurd c_101 (by decide)
                refine lv_iload hx hb dX6_voice_113 (lv_at hl 0 rfl) ?_
                exact hret r_92 (er, tr2_92, tn2_92, nI (nn til), ip2_92) (⟨by rw [voice_, if_pos (by simp [hb_1, hb_10]), hw]; rw [(trc_1 hq_92.2.1).1, (trc_1 hq_92.2.1).2]; rw [hq_92.1]; simp [voP, voV, voB, c_45, c_60, c_75, hpz], hq_92.2.2.2⟩) (rfl) hP hD hS (Nat.le_refl _) (Nat.le_refl _) dX6_voice_115
              · -- fall 104
                have hpz : sa (32 + 2 * nn til + 1) - nI (nn til) = 0 := by
                  rcases fx_bc hq_92.2.2.1 with ⟨h, -⟩ | ⟨-, h⟩
                  · exact h
                  · exact absurd h c_101
                refine lv_aload_n hx hb dX6_voice_104 rfl (lv_at hl 2 rfl) ?_
                refine lv_bipush (v := 6) hx hb dX6_voice_105 rfl ?_
                refine fx_ci (va_runV (As := [.int 6]) (rest := []) X (mX6_error l E ad im at_ op st_ us bn bm la fo fi lp (nI tn2_92) (nI (nn til)) ip2_92 er 6 (by decide) _) (cwV 1 X.2.2.2.2 (lw_V q1266 q1268 qs32 q75 q1269) rfl rfl rfl ⟨rfl, hdX6_error⟩ ⟨Nat.le_of_ble_eq_true rfl, Nat.le_of_ble_eq_true rfl⟩) (fx_preV (fx_pre hE hP hD hS hR [1] rfl rfl (fx_rcm 0 rfl (by decide) fx_rc0)) (va_recv hE.1 hP (ci := 6) (q0 := 0) rfl rfl)) rfl rfl hl.1 rfl (lv_room (Nat.le_of_ble_eq_true rfl)) dX6_voice_107 ⟨Nat.le_refl _, Nat.le_refl _⟩) hP hD hS hA [1] rfl rfl (fun r_107 u H locs hq_107 hP hD hS => ?_)
                replace hP : va_P E.1 clA [(ad 30, .inr (6, [.ref (ad 0), .ref (ad 1), .int im, .ref (ad 3), .int at_, .int op, .int st_, .int us, .ref (ad 8), .ref (ad 9), .ref (ad 10), .ref (ad 11), .ref (ad 12), .ref (ad 13), .ref (ad 14), .int bn, .int bm, .ref (ad 17), .int la, .int fo, .int fi, .int lp, .ref (ad 22), .int (nI tn2_92), .int (nI (nn til)), .int ip2_92, .ref (ad 26), .ref (ad 27), .ref (ad 28), .ref (ad 29)])), (ad 3, .inl (E.2 0, 7, .inl (upd er 6 (er 6 + 1)))), (ad 22, .inl (E.2 0, 30, .inl tr2_92))] _ := hP
                replace hD : va_D A [(ad 30, .inr (6, [.ref (ad 0), .ref (ad 1), .int im, .ref (ad 3), .int at_, .int op, .int st_, .int us, .ref (ad 8), .ref (ad 9), .ref (ad 10), .ref (ad 11), .ref (ad 12), .ref (ad 13), .ref (ad 14), .int bn, .int bm, .ref (ad 17), .int la, .int fo, .int fi, .int lp, .ref (ad 22), .int (nI tn2_92), .int (nI (nn til)), .int ip2_92, .ref (ad 26), .ref (ad 27), .ref (ad 28), .ref (ad 29)])), (ad 3, .inl (E.2 0, 7, .inl (upd er 6 (er 6 + 1)))), (ad 22, .inl (E.2 0, 30, .inl tr2_92))] := hD
                replace hq_107 : r_107 = erv 6 := hq_107
                refine lv_goto (tgt := 115) hx hb dX6_voice_110 (by decide) ?_
                exact hret r_107 ((upd er 6 (er 6 + 1)), tr2_92, tn2_92, nI (nn til), ip2_92) (⟨by rw [voice_, if_pos (by simp [hb_1, hb_10]), hw]; rw [(trc_1 hq_92.2.1).1, (trc_1 hq_92.2.1).2]; rw [hq_107]; simp [voP, voV, voB, c_45, c_60, c_75, hpz, erI], hq_92.2.2.2⟩) (rfl) hP hD hS (Nat.le_refl _) (Nat.le_refl _) dX6_voice_115
            · -- fall 78
              refine lv_aload_n hx hb dX6_voice_78 rfl (lv_at hl 1 rfl) ?_
              refine lv_iload hx hb dX6_voice_79 (lv_at hl 0 rfl) ?_
              refine lv_iload_n hx hb dX6_voice_81 rfl (lv_at hl 4 rfl) ?_
              refine fx_ci (va_runV (As := [.int 0, .int x]) (rest := []) X (mX6_givesAs0 l E ad im at_ op st_ us bn bm la fo fi lp 0 0 (nn til) sa tr 0 (sa (32 + 2 * nn til + 1)) x (Nat.zero_le 30) g1 ((hI.kd g1).1.trans (congrArg nI hw)) (by decide) rfl _) (cwV 2 X.2.2.2.2 (lw_V q1532 q1534 qs66 q75 q1535) rfl rfl rfl ⟨rfl, hdX6_givesAs⟩ ⟨Nat.le_of_ble_eq_true rfl, Nat.le_of_ble_eq_true rfl⟩) (fx_preV (fx_pre hE hP hD hS hR [0, 2] rfl rfl (fx_rcr 0 rfl fx_rc0)) (va_recv hE.1 hP (ci := 6) (q0 := 0) rfl rfl)) rfl rfl hl.1 rfl (lv_room (Nat.le_of_ble_eq_true rfl)) dX6_voice_82 ⟨Nat.le_refl _, Nat.le_refl _⟩) hP hD hS hA [0, 2] rfl rfl (fun r_82 u H locs hq_82 hP hD hS => ?_)
              obtain ⟨tr2_82, tn2_82⟩ := u
              replace hP : va_P E.1 clA [(ad 30, .inr (6, [.ref (ad 0), .ref (ad 1), .int im, .ref (ad 3), .int at_, .int op, .int st_, .int us, .ref (ad 8), .ref (ad 9), .ref (ad 10), .ref (ad 11), .ref (ad 12), .ref (ad 13), .ref (ad 14), .int bn, .int bm, .ref (ad 17), .int la, .int fo, .int fi, .int lp, .ref (ad 22), .int (nI tn2_82), .int (nI (nn til)), .int 0, .ref (ad 26), .ref (ad 27), .ref (ad 28), .ref (ad 29)])), (ad 3, .inl (E.2 0, 7, .inl er)), (ad 22, .inl (E.2 0, 30, .inl tr2_82))] _ := hP
              replace hD : va_D A [(ad 30, .inr (6, [.ref (ad 0), .ref (ad 1), .int im, .ref (ad 3), .int at_, .int op, .int st_, .int us, .ref (ad 8), .ref (ad 9), .ref (ad 10), .ref (ad 11), .ref (ad 12), .ref (ad 13), .ref (ad 14), .int bn, .int bm, .ref (ad 17), .int la, .int fo, .int fi, .int lp, .ref (ad 22), .int (nI tn2_82), .int (nI (nn til)), .int 0, .ref (ad 26), .ref (ad 27), .ref (ad 28), .ref (ad 29)])), (ad 3, .inl (E.2 0, 7, .inl er)), (ad 22, .inl (E.2 0, 30, .inl tr2_82))] := hD
              replace hq_82 : r_82 = givesV 0 0 (nI (nn til)) (sa (32 + 2 * nn til + 1)) x ∧ (tr2_82, tn2_82) = bgL (tr, 0) (givesB 0 0) ∧ tn2_82 ≤ 30 := hq_82
              refine lv_goto (tgt := 95) hx hb dX6_voice_85 (by decide) ?_
              refine lv_istore (lv' := [(5, .int r_82), (4, .int 0), (0, .ref (ad 30)), (1, .int til), (2, .int vo), (3, .int x)]) hx hb dX6_voice_95 hl (by decide) rfl (fun ls hl => ?_)
              refine lv_aload_n hx hb dX6_voice_97 rfl (lv_at hl 2 rfl) ?_
              refine fx_get X hE hP 0 rfl rfl 25 rfl q1193 rfl rfl dX6_voice_98 ?_
              refine lv_if_eq (tgt := 113) hx hb dX6_voice_101 (by decide) (fun _ => ?_) (fun c => (c (by decide)).elim)
              refine lv_iload hx hb dX6_voice_113 (lv_at hl 0 rfl) ?_
              exact hret r_82 (er, tr2_82, tn2_82, nI (nn til), 0) (⟨by rw [voice_, if_pos (by simp [hb_1, hb_10]), hw]; rw [(trc_1 hq_82.2.1).1, (trc_1 hq_82.2.1).2]; rw [hq_82.1]; simp [voP, voV, voB, c_45, c_60, c_75], hq_82.2.2⟩) (rfl) hP hD hS (Nat.le_refl _) (Nat.le_refl _) dX6_voice_115
          · -- fall 63
            refine lv_aload_n hx hb dX6_voice_63 rfl (lv_at hl 1 rfl) ?_
            refine lv_iload hx hb dX6_voice_64 (lv_at hl 0 rfl) ?_
            refine lv_iload_n hx hb dX6_voice_66 rfl (lv_at hl 4 rfl) ?_
            refine fx_ci (va_runV (As := [.int 0, .int x]) (rest := []) X (mX6_comesAs0 l E ad im at_ op st_ us bn bm la fo fi lp 0 0 (nn til) sa tr 0 (sa (32 + 2 * nn til + 1)) x (Nat.zero_le 30) g1 ((hI.kd g1).1.trans (congrArg nI hw)) (by decide) rfl _) (cwV 2 X.2.2.2.2 (lw_V q1528 q1530 qs65 q75 q1531) rfl rfl rfl ⟨rfl, hdX6_comesAs⟩ ⟨Nat.le_of_ble_eq_true rfl, Nat.le_of_ble_eq_true rfl⟩) (fx_preV (fx_pre hE hP hD hS hR [0, 2] rfl rfl (fx_rcr 0 rfl fx_rc0)) (va_recv hE.1 hP (ci := 6) (q0 := 0) rfl rfl)) rfl rfl hl.1 rfl (lv_room (Nat.le_of_ble_eq_true rfl)) dX6_voice_67 ⟨Nat.le_refl _, Nat.le_refl _⟩) hP hD hS hA [0, 2] rfl rfl (fun r_67 u H locs hq_67 hP hD hS => ?_)
            obtain ⟨tr2_67, tn2_67⟩ := u
            replace hP : va_P E.1 clA [(ad 30, .inr (6, [.ref (ad 0), .ref (ad 1), .int im, .ref (ad 3), .int at_, .int op, .int st_, .int us, .ref (ad 8), .ref (ad 9), .ref (ad 10), .ref (ad 11), .ref (ad 12), .ref (ad 13), .ref (ad 14), .int bn, .int bm, .ref (ad 17), .int la, .int fo, .int fi, .int lp, .ref (ad 22), .int (nI tn2_67), .int (nI (nn til)), .int 0, .ref (ad 26), .ref (ad 27), .ref (ad 28), .ref (ad 29)])), (ad 3, .inl (E.2 0, 7, .inl er)), (ad 22, .inl (E.2 0, 30, .inl tr2_67))] _ := hP
            replace hD : va_D A [(ad 30, .inr (6, [.ref (ad 0), .ref (ad 1), .int im, .ref (ad 3), .int at_, .int op, .int st_, .int us, .ref (ad 8), .ref (ad 9), .ref (ad 10), .ref (ad 11), .ref (ad 12), .ref (ad 13), .ref (ad 14), .int bn, .int bm, .ref (ad 17), .int la, .int fo, .int fi, .int lp, .ref (ad 22), .int (nI tn2_67), .int (nI (nn til)), .int 0, .ref (ad 26), .ref (ad 27), .ref (ad 28), .ref (ad 29)])), (ad 3, .inl (E.2 0, 7, .inl er)), (ad 22, .inl (E.2 0, 30, .inl tr2_67))] := hD
            replace hq_67 : r_67 = comesV 0 0 (nI (nn til)) (sa (32 + 2 * nn til + 1)) x ∧ (tr2_67, tn2_67) = bgL (tr, 0) (comesB 0 0) ∧ tn2_67 ≤ 30 := hq_67
            refine lv_goto (tgt := 95) hx hb dX6_voice_70 (by decide) ?_
            refine lv_istore (lv' := [(5, .int r_67), (4, .int 0), (0, .ref (ad 30)), (1, .int til), (2, .int vo), (3, .int x)]) hx hb dX6_voice_95 hl (by decide) rfl (fun ls hl => ?_)
            refine lv_aload_n hx hb dX6_voice_97 rfl (lv_at hl 2 rfl) ?_
            refine fx_get X hE hP 0 rfl rfl 25 rfl q1193 rfl rfl dX6_voice_98 ?_
            refine lv_if_eq (tgt := 113) hx hb dX6_voice_101 (by decide) (fun _ => ?_) (fun c => (c (by decide)).elim)
            refine lv_iload hx hb dX6_voice_113 (lv_at hl 0 rfl) ?_
            exact hret r_67 (er, tr2_67, tn2_67, nI (nn til), 0) (⟨by rw [voice_, if_pos (by simp [hb_1, hb_10]), hw]; rw [(trc_1 hq_67.2.1).1, (trc_1 hq_67.2.1).2]; rw [hq_67.1]; simp [voP, voV, voB, c_45, c_60], hq_67.2.2⟩) (rfl) hP hD hS (Nat.le_refl _) (Nat.le_refl _) dX6_voice_115
        · -- fall 48
          refine lv_aload_n hx hb dX6_voice_48 rfl (lv_at hl 1 rfl) ?_
          refine lv_iload hx hb dX6_voice_49 (lv_at hl 0 rfl) ?_
          refine lv_iload_n hx hb dX6_voice_51 rfl (lv_at hl 4 rfl) ?_
          refine fx_ci (va_runV (As := [.int 0, .int x]) (rest := []) X (mX6_addsAs0 l E ad im at_ op st_ us bn bm la fo fi lp 0 0 (nn til) tr x (Nat.zero_le 30) _) (cwV 2 X.2.2.2.2 (lw_V q1517 q1519 qs63 q75 q1520) rfl rfl rfl ⟨rfl, hdX6_addsAs⟩ ⟨Nat.le_of_ble_eq_true rfl, Nat.le_of_ble_eq_true rfl⟩) (fx_preV (fx_pre hE hP hD hS hR [0, 2] rfl rfl fx_rc0) (va_recv hE.1 hP (ci := 6) (q0 := 0) rfl rfl)) rfl rfl hl.1 rfl (lv_room (Nat.le_of_ble_eq_true rfl)) dX6_voice_52 ⟨Nat.le_refl _, Nat.le_refl _⟩) hP hD hS hA [0, 2] rfl rfl (fun r_52 u H locs hq_52 hP hD hS => ?_)
          obtain ⟨tr2_52, tn2_52⟩ := u
          replace hP : va_P E.1 clA [(ad 30, .inr (6, [.ref (ad 0), .ref (ad 1), .int im, .ref (ad 3), .int at_, .int op, .int st_, .int us, .ref (ad 8), .ref (ad 9), .ref (ad 10), .ref (ad 11), .ref (ad 12), .ref (ad 13), .ref (ad 14), .int bn, .int bm, .ref (ad 17), .int la, .int fo, .int fi, .int lp, .ref (ad 22), .int (nI tn2_52), .int (nI (nn til)), .int 0, .ref (ad 26), .ref (ad 27), .ref (ad 28), .ref (ad 29)])), (ad 3, .inl (E.2 0, 7, .inl er)), (ad 22, .inl (E.2 0, 30, .inl tr2_52))] _ := hP
          replace hD : va_D A [(ad 30, .inr (6, [.ref (ad 0), .ref (ad 1), .int im, .ref (ad 3), .int at_, .int op, .int st_, .int us, .ref (ad 8), .ref (ad 9), .ref (ad 10), .ref (ad 11), .ref (ad 12), .ref (ad 13), .ref (ad 14), .int bn, .int bm, .ref (ad 17), .int la, .int fo, .int fi, .int lp, .ref (ad 22), .int (nI tn2_52), .int (nI (nn til)), .int 0, .ref (ad 26), .ref (ad 27), .ref (ad 28), .ref (ad 29)])), (ad 3, .inl (E.2 0, 7, .inl er)), (ad 22, .inl (E.2 0, 30, .inl tr2_52))] := hD
          replace hq_52 : r_52 = addsV 0 (nI (nn til)) x ∧ (tr2_52, tn2_52) = bgL (tr, 0) (addsB 0) ∧ tn2_52 ≤ 30 := hq_52
          refine lv_goto (tgt := 95) hx hb dX6_voice_55 (by decide) ?_
          refine lv_istore (lv' := [(5, .int r_52), (4, .int 0), (0, .ref (ad 30)), (1, .int til), (2, .int vo), (3, .int x)]) hx hb dX6_voice_95 hl (by decide) rfl (fun ls hl => ?_)
          refine lv_aload_n hx hb dX6_voice_97 rfl (lv_at hl 2 rfl) ?_
          refine fx_get X hE hP 0 rfl rfl 25 rfl q1193 rfl rfl dX6_voice_98 ?_
          refine lv_if_eq (tgt := 113) hx hb dX6_voice_101 (by decide) (fun _ => ?_) (fun c => (c (by decide)).elim)
          refine lv_iload hx hb dX6_voice_113 (lv_at hl 0 rfl) ?_
          exact hret r_52 (er, tr2_52, tn2_52, nI (nn til), 0) (⟨by rw [voice_, if_pos (by simp [hb_1, hb_10]), hw]; rw [(trc_1 hq_52.2.1).1, (trc_1 hq_52.2.1).2]; rw [hq_52.1]; simp [voP, voV, voB, c_45], hq_52.2.2⟩) (rfl) hP hD hS (Nat.le_refl _) (Nat.le_refl _) dX6_voice_115
      ·
        refine fx_ti (show r_39 = 1 from hq_39.trans ((hI.kd g1).1.trans (congrArg nI hw))) ?_
        refine lv_istore (lv' := [(4, .int 1), (0, .ref (ad 30)), (1, .int til), (2, .int vo), (3, .int x)]) hx hb dX6_voice_42 hl (by decide) rfl (fun ls hl => ?_)
        refine lv_iload_n hx hb dX6_voice_44 rfl (lv_at hl 3 rfl) ?_
        refine lv_if_ne (tgt := 58) hx hb dX6_voice_45 (by decide) (fun c_45 => ?_) (fun c_45 => ?_)
        · -- jump 58
          refine lv_iload_n hx hb dX6_voice_58 rfl (lv_at hl 3 rfl) ?_
          refine lv_iconst (v := 1) hx hb dX6_voice_59 rfl ?_
          refine lv_icmp_ne (tgt := 73) hx hb dX6_voice_60 (by decide) (fun c_60 => ?_) (fun c_60 => ?_)
          · -- jump 73
            refine lv_iload_n hx hb dX6_voice_73 rfl (lv_at hl 3 rfl) ?_
            refine lv_iconst (v := 2) hx hb dX6_voice_74 rfl ?_
            refine lv_icmp_ne (tgt := 88) hx hb dX6_voice_75 (by decide) (fun c_75 => ?_) (fun c_75 => ?_)
            · -- jump 88
              refine lv_aload_n hx hb dX6_voice_88 rfl (lv_at hl 1 rfl) ?_
              refine lv_iload hx hb dX6_voice_89 (lv_at hl 0 rfl) ?_
              refine lv_iload_n hx hb dX6_voice_91 rfl (lv_at hl 4 rfl) ?_
              refine fx_ci (va_runV (As := [.int 1, .int x]) (rest := []) X (mX6_partsAs1 l E ad im at_ op st_ us bn bm la fo fi lp 0 0 (nn til) sa tr 1 (sa (32 + 2 * nn til + 1)) x (Nat.zero_le 30) g1 ((hI.kd g1).1.trans (congrArg nI hw)) (by decide) rfl _) (cwV 2 X.2.2.2.2 (lw_V q1536 q1538 qs67 q75 q1539) rfl rfl rfl ⟨rfl, hdX6_partsAs⟩ ⟨Nat.le_of_ble_eq_true rfl, Nat.le_of_ble_eq_true rfl⟩) (fx_preV (fx_pre hE hP hD hS hR [0, 2] rfl rfl (fx_rcr 0 rfl fx_rc0)) (va_recv hE.1 hP (ci := 6) (q0 := 0) rfl rfl)) rfl rfl hl.1 rfl (lv_room (Nat.le_of_ble_eq_true rfl)) dX6_voice_92 ⟨Nat.le_refl _, Nat.le_refl _⟩) hP hD hS hA [0, 2] rfl rfl (fun r_92 u H locs hq_92 hP hD hS => ?_)
              obtain ⟨tr2_92, tn2_92, ip2_92⟩ := u
              replace hP : va_P E.1 clA [(ad 30, .inr (6, [.ref (ad 0), .ref (ad 1), .int im, .ref (ad 3), .int at_, .int op, .int st_, .int us, .ref (ad 8), .ref (ad 9), .ref (ad 10), .ref (ad 11), .ref (ad 12), .ref (ad 13), .ref (ad 14), .int bn, .int bm, .ref (ad 17), .int la, .int fo, .int fi, .int lp, .ref (ad 22), .int (nI tn2_92), .int (nI (nn til)), .int ip2_92, .ref (ad 26), .ref (ad 27), .ref (ad 28), .ref (ad 29)])), (ad 3, .inl (E.2 0, 7, .inl er)), (ad 22, .inl (E.2 0, 30, .inl tr2_92))] _ := hP
              replace hD : va_D A [(ad 30, .inr (6, [.ref (ad 0), .ref (ad 1), .int im, .ref (ad 3), .int at_, .int op, .int st_, .int us, .ref (ad 8), .ref (ad 9), .ref (ad 10), .ref (ad 11), .ref (ad 12), .ref (ad 13), .ref (ad 14), .int bn, .int bm, .ref (ad 17), .int la, .int fo, .int fi, .int lp, .ref (ad 22), .int (nI tn2_92), .int (nI (nn til)), .int ip2_92, .ref (ad 26), .ref (ad 27), .ref (ad 28), .ref (ad 29)])), (ad 3, .inl (E.2 0, 7, .inl er)), (ad 22, .inl (E.2 0, 30, .inl tr2_92))] := hD
              replace hq_92 : r_92 = partsV 1 1 (nI (nn til)) (sa (32 + 2 * nn til + 1)) x ∧ (tr2_92, tn2_92) = bgL (tr, 0) (partsB 1 1 (nI (nn til)) (sa (32 + 2 * nn til + 1))) ∧ ip2_92 = fx_b ((sa (32 + 2 * nn til + 1)) - nI (nn til) = 0) ∧ tn2_92 ≤ 30 := hq_92
              refine lv_istore (lv' := [(5, .int r_92), (4, .int 1), (0, .ref (ad 30)), (1, .int til), (2, .int vo), (3, .int x)]) hx hb dX6_voice_95 hl (by decide) rfl (fun ls hl => ?_)
              refine lv_aload_n hx hb dX6_voice_97 rfl (lv_at hl 2 rfl) ?_
              refine fx_get X hE hP 0 rfl rfl 25 rfl q1193 rfl rfl dX6_voice_98 ?_
              refine lv_if_eq (tgt := 113) hx hb dX6_voice_101 (by decide) (fun c_101 => ?_) (fun c_101 => ?_)
              · -- jump 113
                have hpz : ¬ (sa (32 + 2 * nn til + 1) - nI (nn til) = 0) := fun h => by rw [hq_92.2.2.1, fx_b, if_pos h] at c_101; exact absurd c_101 (by decide)
                refine lv_iload hx hb dX6_voice_113 (lv_at hl 0 rfl) ?_
                exact hret r_92 (er, tr2_92, tn2_92, nI (nn til), ip2_92) (⟨by rw [voice_, if_pos (by simp [hb_1, hb_10]), hw]; rw [(trc_1 hq_92.2.1).1, (trc_1 hq_92.2.1).2]; rw [hq_92.1]; simp [voP, voV, voB, c_45, c_60, c_75, hpz], hq_92.2.2.2⟩) (rfl) hP hD hS (Nat.le_refl _) (Nat.le_refl _) dX6_voice_115
              · -- fall 104
                have hpz : sa (32 + 2 * nn til + 1) - nI (nn til) = 0 := by
                  rcases fx_bc hq_92.2.2.1 with ⟨h, -⟩ | ⟨-, h⟩
                  · exact h
                  · exact absurd h c_101
                refine lv_aload_n hx hb dX6_voice_104 rfl (lv_at hl 2 rfl) ?_
                refine lv_bipush (v := 6) hx hb dX6_voice_105 rfl ?_
                refine fx_ci (va_runV (As := [.int 6]) (rest := []) X (mX6_error l E ad im at_ op st_ us bn bm la fo fi lp (nI tn2_92) (nI (nn til)) ip2_92 er 6 (by decide) _) (cwV 1 X.2.2.2.2 (lw_V q1266 q1268 qs32 q75 q1269) rfl rfl rfl ⟨rfl, hdX6_error⟩ ⟨Nat.le_of_ble_eq_true rfl, Nat.le_of_ble_eq_true rfl⟩) (fx_preV (fx_pre hE hP hD hS hR [1] rfl rfl (fx_rcm 0 rfl (by decide) fx_rc0)) (va_recv hE.1 hP (ci := 6) (q0 := 0) rfl rfl)) rfl rfl hl.1 rfl (lv_room (Nat.le_of_ble_eq_true rfl)) dX6_voice_107 ⟨Nat.le_refl _, Nat.le_refl _⟩) hP hD hS hA [1] rfl rfl (fun r_107 u H locs hq_107 hP hD hS => ?_)
                replace hP : va_P E.1 clA [(ad 30, .inr (6, [.ref (ad 0), .ref (ad 1), .int im, .ref (ad 3), .int at_, .int op, .int st_, .int us, .ref (ad 8), .ref (ad 9), .ref (ad 10), .ref (ad 11), .ref (ad 12), .ref (ad 13), .ref (ad 14), .int bn, .int bm, .ref (ad 17), .int la, .int fo, .int fi, .int lp, .ref (ad 22), .int (nI tn2_92), .int (nI (nn til)), .int ip2_92, .ref (ad 26), .ref (ad 27), .ref (ad 28), .ref (ad 29)])), (ad 3, .inl (E.2 0, 7, .inl (upd er 6 (er 6 + 1)))), (ad 22, .inl (E.2 0, 30, .inl tr2_92))] _ := hP
                replace hD : va_D A [(ad 30, .inr (6, [.ref (ad 0), .ref (ad 1), .int im, .ref (ad 3), .int at_, .int op, .int st_, .int us, .ref (ad 8), .ref (ad 9), .ref (ad 10), .ref (ad 11), .ref (ad 12), .ref (ad 13), .ref (ad 14), .int bn, .int bm, .ref (ad 17), .int la, .int fo, .int fi, .int lp, .ref (ad 22), .int (nI tn2_92), .int (nI (nn til)), .int ip2_92, .ref (ad 26), .ref (ad 27), .ref (ad 28), .ref (ad 29)])), (ad 3, .inl (E.2 0, 7, .inl (upd er 6 (er 6 + 1)))), (ad 22, .inl (E.2 0, 30, .inl tr2_92))] := hD
                replace hq_107 : r_107 = erv 6 := hq_107
                refine lv_goto (tgt := 115) hx hb dX6_voice_110 (by decide) ?_
                exact hret r_107 ((upd er 6 (er 6 + 1)), tr2_92, tn2_92, nI (nn til), ip2_92) (⟨by rw [voice_, if_pos (by simp [hb_1, hb_10]), hw]; rw [(trc_1 hq_92.2.1).1, (trc_1 hq_92.2.1).2]; rw [hq_107]; simp [voP, voV, voB, c_45, c_60, c_75, hpz, erI], hq_92.2.2.2⟩) (rfl) hP hD hS (Nat.le_refl _) (Nat.le_refl _) dX6_voice_115
            · -- fall 78
              refine lv_aload_n hx hb dX6_voice_78 rfl (lv_at hl 1 rfl) ?_
              refine lv_iload hx hb dX6_voice_79 (lv_at hl 0 rfl) ?_
              refine lv_iload_n hx hb dX6_voice_81 rfl (lv_at hl 4 rfl) ?_
              refine fx_ci (va_runV (As := [.int 1, .int x]) (rest := []) X (mX6_givesAs1 l E ad im at_ op st_ us bn bm la fo fi lp 0 0 (nn til) sa tr 1 (sa (32 + 2 * nn til + 1)) x (Nat.zero_le 30) g1 ((hI.kd g1).1.trans (congrArg nI hw)) (by decide) rfl _) (cwV 2 X.2.2.2.2 (lw_V q1532 q1534 qs66 q75 q1535) rfl rfl rfl ⟨rfl, hdX6_givesAs⟩ ⟨Nat.le_of_ble_eq_true rfl, Nat.le_of_ble_eq_true rfl⟩) (fx_preV (fx_pre hE hP hD hS hR [0, 2] rfl rfl (fx_rcr 0 rfl fx_rc0)) (va_recv hE.1 hP (ci := 6) (q0 := 0) rfl rfl)) rfl rfl hl.1 rfl (lv_room (Nat.le_of_ble_eq_true rfl)) dX6_voice_82 ⟨Nat.le_refl _, Nat.le_refl _⟩) hP hD hS hA [0, 2] rfl rfl (fun r_82 u H locs hq_82 hP hD hS => ?_)
              obtain ⟨tr2_82, tn2_82⟩ := u
              replace hP : va_P E.1 clA [(ad 30, .inr (6, [.ref (ad 0), .ref (ad 1), .int im, .ref (ad 3), .int at_, .int op, .int st_, .int us, .ref (ad 8), .ref (ad 9), .ref (ad 10), .ref (ad 11), .ref (ad 12), .ref (ad 13), .ref (ad 14), .int bn, .int bm, .ref (ad 17), .int la, .int fo, .int fi, .int lp, .ref (ad 22), .int (nI tn2_82), .int (nI (nn til)), .int 0, .ref (ad 26), .ref (ad 27), .ref (ad 28), .ref (ad 29)])), (ad 3, .inl (E.2 0, 7, .inl er)), (ad 22, .inl (E.2 0, 30, .inl tr2_82))] _ := hP
              replace hD : va_D A [(ad 30, .inr (6, [.ref (ad 0), .ref (ad 1), .int im, .ref (ad 3), .int at_, .int op, .int st_, .int us, .ref (ad 8), .ref (ad 9), .ref (ad 10), .ref (ad 11), .ref (ad 12), .ref (ad 13), .ref (ad 14), .int bn, .int bm, .ref (ad 17), .int la, .int fo, .int fi, .int lp, .ref (ad 22), .int (nI tn2_82), .int (nI (nn til)), .int 0, .ref (ad 26), .ref (ad 27), .ref (ad 28), .ref (ad 29)])), (ad 3, .inl (E.2 0, 7, .inl er)), (ad 22, .inl (E.2 0, 30, .inl tr2_82))] := hD
              replace hq_82 : r_82 = givesV 1 1 (nI (nn til)) (sa (32 + 2 * nn til + 1)) x ∧ (tr2_82, tn2_82) = bgL (tr, 0) (givesB 1 1) ∧ tn2_82 ≤ 30 := hq_82
              refine lv_goto (tgt := 95) hx hb dX6_voice_85 (by decide) ?_
              refine lv_istore (lv' := [(5, .int r_82), (4, .int 1), (0, .ref (ad 30)), (1, .int til), (2, .int vo), (3, .int x)]) hx hb dX6_voice_95 hl (by decide) rfl (fun ls hl => ?_)
              refine lv_aload_n hx hb dX6_voice_97 rfl (lv_at hl 2 rfl) ?_
              refine fx_get X hE hP 0 rfl rfl 25 rfl q1193 rfl rfl dX6_voice_98 ?_
              refine lv_if_eq (tgt := 113) hx hb dX6_voice_101 (by decide) (fun _ => ?_) (fun c => (c (by decide)).elim)
              refine lv_iload hx hb dX6_voice_113 (lv_at hl 0 rfl) ?_
              exact hret r_82 (er, tr2_82, tn2_82, nI (nn til), 0) (⟨by rw [voice_, if_pos (by simp [hb_1, hb_10]), hw]; rw [(trc_1 hq_82.2.1).1, (trc_1 hq_82.2.1).2]; rw [hq_82.1]; simp [voP, voV, voB, c_45, c_60, c_75], hq_82.2.2⟩) (rfl) hP hD hS (Nat.le_refl _) (Nat.le_refl _) dX6_voice_115
          · -- fall 63
            refine lv_aload_n hx hb dX6_voice_63 rfl (lv_at hl 1 rfl) ?_
            refine lv_iload hx hb dX6_voice_64 (lv_at hl 0 rfl) ?_
            refine lv_iload_n hx hb dX6_voice_66 rfl (lv_at hl 4 rfl) ?_
            refine fx_ci (va_runV (As := [.int 1, .int x]) (rest := []) X (mX6_comesAs1 l E ad im at_ op st_ us bn bm la fo fi lp 0 0 (nn til) sa tr 1 (sa (32 + 2 * nn til + 1)) x (Nat.zero_le 30) g1 ((hI.kd g1).1.trans (congrArg nI hw)) (by decide) rfl _) (cwV 2 X.2.2.2.2 (lw_V q1528 q1530 qs65 q75 q1531) rfl rfl rfl ⟨rfl, hdX6_comesAs⟩ ⟨Nat.le_of_ble_eq_true rfl, Nat.le_of_ble_eq_true rfl⟩) (fx_preV (fx_pre hE hP hD hS hR [0, 2] rfl rfl (fx_rcr 0 rfl fx_rc0)) (va_recv hE.1 hP (ci := 6) (q0 := 0) rfl rfl)) rfl rfl hl.1 rfl (lv_room (Nat.le_of_ble_eq_true rfl)) dX6_voice_67 ⟨Nat.le_refl _, Nat.le_refl _⟩) hP hD hS hA [0, 2] rfl rfl (fun r_67 u H locs hq_67 hP hD hS => ?_)
            obtain ⟨tr2_67, tn2_67⟩ := u
            replace hP : va_P E.1 clA [(ad 30, .inr (6, [.ref (ad 0), .ref (ad 1), .int im, .ref (ad 3), .int at_, .int op, .int st_, .int us, .ref (ad 8), .ref (ad 9), .ref (ad 10), .ref (ad 11), .ref (ad 12), .ref (ad 13), .ref (ad 14), .int bn, .int bm, .ref (ad 17), .int la, .int fo, .int fi, .int lp, .ref (ad 22), .int (nI tn2_67), .int (nI (nn til)), .int 0, .ref (ad 26), .ref (ad 27), .ref (ad 28), .ref (ad 29)])), (ad 3, .inl (E.2 0, 7, .inl er)), (ad 22, .inl (E.2 0, 30, .inl tr2_67))] _ := hP
            replace hD : va_D A [(ad 30, .inr (6, [.ref (ad 0), .ref (ad 1), .int im, .ref (ad 3), .int at_, .int op, .int st_, .int us, .ref (ad 8), .ref (ad 9), .ref (ad 10), .ref (ad 11), .ref (ad 12), .ref (ad 13), .ref (ad 14), .int bn, .int bm, .ref (ad 17), .int la, .int fo, .int fi, .int lp, .ref (ad 22), .int (nI tn2_67), .int (nI (nn til)), .int 0, .ref (ad 26), .ref (ad 27), .ref (ad 28), .ref (ad 29)])), (ad 3, .inl (E.2 0, 7, .inl er)), (ad 22, .inl (E.2 0, 30, .inl tr2_67))] := hD
            replace hq_67 : r_67 = comesV 1 1 (nI (nn til)) (sa (32 + 2 * nn til + 1)) x ∧ (tr2_67, tn2_67) = bgL (tr, 0) (comesB 1 1) ∧ tn2_67 ≤ 30 := hq_67
            refine lv_goto (tgt := 95) hx hb dX6_voice_70 (by decide) ?_
            refine lv_istore (lv' := [(5, .int r_67), (4, .int 1), (0, .ref (ad 30)), (1, .int til), (2, .int vo), (3, .int x)]) hx hb dX6_voice_95 hl (by decide) rfl (fun ls hl => ?_)
            refine lv_aload_n hx hb dX6_voice_97 rfl (lv_at hl 2 rfl) ?_
            refine fx_get X hE hP 0 rfl rfl 25 rfl q1193 rfl rfl dX6_voice_98 ?_
            refine lv_if_eq (tgt := 113) hx hb dX6_voice_101 (by decide) (fun _ => ?_) (fun c => (c (by decide)).elim)
            refine lv_iload hx hb dX6_voice_113 (lv_at hl 0 rfl) ?_
            exact hret r_67 (er, tr2_67, tn2_67, nI (nn til), 0) (⟨by rw [voice_, if_pos (by simp [hb_1, hb_10]), hw]; rw [(trc_1 hq_67.2.1).1, (trc_1 hq_67.2.1).2]; rw [hq_67.1]; simp [voP, voV, voB, c_45, c_60], hq_67.2.2⟩) (rfl) hP hD hS (Nat.le_refl _) (Nat.le_refl _) dX6_voice_115
        · -- fall 48
          refine lv_aload_n hx hb dX6_voice_48 rfl (lv_at hl 1 rfl) ?_
          refine lv_iload hx hb dX6_voice_49 (lv_at hl 0 rfl) ?_
          refine lv_iload_n hx hb dX6_voice_51 rfl (lv_at hl 4 rfl) ?_
          refine fx_ci (va_runV (As := [.int 1, .int x]) (rest := []) X (mX6_addsAs1 l E ad im at_ op st_ us bn bm la fo fi lp 0 0 (nn til) tr x (Nat.zero_le 30) _) (cwV 2 X.2.2.2.2 (lw_V q1517 q1519 qs63 q75 q1520) rfl rfl rfl ⟨rfl, hdX6_addsAs⟩ ⟨Nat.le_of_ble_eq_true rfl, Nat.le_of_ble_eq_true rfl⟩) (fx_preV (fx_pre hE hP hD hS hR [0, 2] rfl rfl fx_rc0) (va_recv hE.1 hP (ci := 6) (q0 := 0) rfl rfl)) rfl rfl hl.1 rfl (lv_room (Nat.le_of_ble_eq_true rfl)) dX6_voice_52 ⟨Nat.le_refl _, Nat.le_refl _⟩) hP hD hS hA [0, 2] rfl rfl (fun r_52 u H locs hq_52 hP hD hS => ?_)
          obtain ⟨tr2_52, tn2_52⟩ := u
          replace hP : va_P E.1 clA [(ad 30, .inr (6, [.ref (ad 0), .ref (ad 1), .int im, .ref (ad 3), .int at_, .int op, .int st_, .int us, .ref (ad 8), .ref (ad 9), .ref (ad 10), .ref (ad 11), .ref (ad 12), .ref (ad 13), .ref (ad 14), .int bn, .int bm, .ref (ad 17), .int la, .int fo, .int fi, .int lp, .ref (ad 22), .int (nI tn2_52), .int (nI (nn til)), .int 0, .ref (ad 26), .ref (ad 27), .ref (ad 28), .ref (ad 29)])), (ad 3, .inl (E.2 0, 7, .inl er)), (ad 22, .inl (E.2 0, 30, .inl tr2_52))] _ := hP
          replace hD : va_D A [(ad 30, .inr (6, [.ref (ad 0), .ref (ad 1), .int im, .ref (ad 3), .int at_, .int op, .int st_, .int us, .ref (ad 8), .ref (ad 9), .ref (ad 10), .ref (ad 11), .ref (ad 12), .ref (ad 13), .ref (ad 14), .int bn, .int bm, .ref (ad 17), .int la, .int fo, .int fi, .int lp, .ref (ad 22), .int (nI tn2_52), .int (nI (nn til)), .int 0, .ref (ad 26), .ref (ad 27), .ref (ad 28), .ref (ad 29)])), (ad 3, .inl (E.2 0, 7, .inl er)), (ad 22, .inl (E.2 0, 30, .inl tr2_52))] := hD
          replace hq_52 : r_52 = addsV 1 (nI (nn til)) x ∧ (tr2_52, tn2_52) = bgL (tr, 0) (addsB 1) ∧ tn2_52 ≤ 30 := hq_52
          refine lv_goto (tgt := 95) hx hb dX6_voice_55 (by decide) ?_
          refine lv_istore (lv' := [(5, .int r_52), (4, .int 1), (0, .ref (ad 30)), (1, .int til), (2, .int vo), (3, .int x)]) hx hb dX6_voice_95 hl (by decide) rfl (fun ls hl => ?_)
          refine lv_aload_n hx hb dX6_voice_97 rfl (lv_at hl 2 rfl) ?_
          refine fx_get X hE hP 0 rfl rfl 25 rfl q1193 rfl rfl dX6_voice_98 ?_
          refine lv_if_eq (tgt := 113) hx hb dX6_voice_101 (by decide) (fun _ => ?_) (fun c => (c (by decide)).elim)
          refine lv_iload hx hb dX6_voice_113 (lv_at hl 0 rfl) ?_
          exact hret r_52 (er, tr2_52, tn2_52, nI (nn til), 0) (⟨by rw [voice_, if_pos (by simp [hb_1, hb_10]), hw]; rw [(trc_1 hq_52.2.1).1, (trc_1 hq_52.2.1).2]; rw [hq_52.1]; simp [voP, voV, voB, c_45], hq_52.2.2⟩) (rfl) hP hD hS (Nat.le_refl _) (Nat.le_refl _) dX6_voice_115
      ·
        refine fx_ti (show r_39 = 2 from hq_39.trans ((hI.kd g1).1.trans (congrArg nI hw))) ?_
        refine lv_istore (lv' := [(4, .int 2), (0, .ref (ad 30)), (1, .int til), (2, .int vo), (3, .int x)]) hx hb dX6_voice_42 hl (by decide) rfl (fun ls hl => ?_)
        refine lv_iload_n hx hb dX6_voice_44 rfl (lv_at hl 3 rfl) ?_
        refine lv_if_ne (tgt := 58) hx hb dX6_voice_45 (by decide) (fun c_45 => ?_) (fun c_45 => ?_)
        · -- jump 58
          refine lv_iload_n hx hb dX6_voice_58 rfl (lv_at hl 3 rfl) ?_
          refine lv_iconst (v := 1) hx hb dX6_voice_59 rfl ?_
          refine lv_icmp_ne (tgt := 73) hx hb dX6_voice_60 (by decide) (fun c_60 => ?_) (fun c_60 => ?_)
          · -- jump 73
            refine lv_iload_n hx hb dX6_voice_73 rfl (lv_at hl 3 rfl) ?_
            refine lv_iconst (v := 2) hx hb dX6_voice_74 rfl ?_
            refine lv_icmp_ne (tgt := 88) hx hb dX6_voice_75 (by decide) (fun c_75 => ?_) (fun c_75 => ?_)
            · -- jump 88
              refine lv_aload_n hx hb dX6_voice_88 rfl (lv_at hl 1 rfl) ?_
              refine lv_iload hx hb dX6_voice_89 (lv_at hl 0 rfl) ?_
              refine lv_iload_n hx hb dX6_voice_91 rfl (lv_at hl 4 rfl) ?_
              refine fx_ci (va_runV (As := [.int 2, .int x]) (rest := []) X (mX6_partsAs2 l E ad im at_ op st_ us bn bm la fo fi lp 0 0 (nn til) sa tr 2 (sa (32 + 2 * nn til + 1)) x (Nat.zero_le 30) g1 ((hI.kd g1).1.trans (congrArg nI hw)) (by decide) rfl _) (cwV 2 X.2.2.2.2 (lw_V q1536 q1538 qs67 q75 q1539) rfl rfl rfl ⟨rfl, hdX6_partsAs⟩ ⟨Nat.le_of_ble_eq_true rfl, Nat.le_of_ble_eq_true rfl⟩) (fx_preV (fx_pre hE hP hD hS hR [0, 2] rfl rfl (fx_rcr 0 rfl fx_rc0)) (va_recv hE.1 hP (ci := 6) (q0 := 0) rfl rfl)) rfl rfl hl.1 rfl (lv_room (Nat.le_of_ble_eq_true rfl)) dX6_voice_92 ⟨Nat.le_refl _, Nat.le_refl _⟩) hP hD hS hA [0, 2] rfl rfl (fun r_92 u H locs hq_92 hP hD hS => ?_)
              obtain ⟨tr2_92, tn2_92, ip2_92⟩ := u
              replace hP : va_P E.1 clA [(ad 30, .inr (6, [.ref (ad 0), .ref (ad 1), .int im, .ref (ad 3), .int at_, .int op, .int st_, .int us, .ref (ad 8), .ref (ad 9), .ref (ad 10), .ref (ad 11), .ref (ad 12), .ref (ad 13), .ref (ad 14), .int bn, .int bm, .ref (ad 17), .int la, .int fo, .int fi, .int lp, .ref (ad 22), .int (nI tn2_92), .int (nI (nn til)), .int ip2_92, .ref (ad 26), .ref (ad 27), .ref (ad 28), .ref (ad 29)])), (ad 3, .inl (E.2 0, 7, .inl er)), (ad 22, .inl (E.2 0, 30, .inl tr2_92))] _ := hP
              replace hD : va_D A [(ad 30, .inr (6, [.ref (ad 0), .ref (ad 1), .int im, .ref (ad 3), .int at_, .int op, .int st_, .int us, .ref (ad 8), .ref (ad 9), .ref (ad 10), .ref (ad 11), .ref (ad 12), .ref (ad 13), .ref (ad 14), .int bn, .int bm, .ref (ad 17), .int la, .int fo, .int fi, .int lp, .ref (ad 22), .int (nI tn2_92), .int (nI (nn til)), .int ip2_92, .ref (ad 26), .ref (ad 27), .ref (ad 28), .ref (ad 29)])), (ad 3, .inl (E.2 0, 7, .inl er)), (ad 22, .inl (E.2 0, 30, .inl tr2_92))] := hD
              replace hq_92 : r_92 = partsV 2 2 (nI (nn til)) (sa (32 + 2 * nn til + 1)) x ∧ (tr2_92, tn2_92) = bgL (tr, 0) (partsB 2 2 (nI (nn til)) (sa (32 + 2 * nn til + 1))) ∧ ip2_92 = fx_b ((sa (32 + 2 * nn til + 1)) - nI (nn til) = 0) ∧ tn2_92 ≤ 30 := hq_92
              refine lv_istore (lv' := [(5, .int r_92), (4, .int 2), (0, .ref (ad 30)), (1, .int til), (2, .int vo), (3, .int x)]) hx hb dX6_voice_95 hl (by decide) rfl (fun ls hl => ?_)
              refine lv_aload_n hx hb dX6_voice_97 rfl (lv_at hl 2 rfl) ?_
              refine fx_get X hE hP 0 rfl rfl 25 rfl q1193 rfl rfl dX6_voice_98 ?_
              refine lv_if_eq (tgt := 113) hx hb dX6_voice_101 (by decide) (fun c_101 => ?_) (fun c_101 => ?_)
              · -- jump 113
                have hpz : ¬ (sa (32 + 2 * nn til + 1) - nI (nn til) = 0) := fun h => by rw [hq_92.2.2.1, fx_b, if_pos h] at c_101; exact absurd c_101 (by decide)
                refine lv_iload hx hb dX6_voice_113 (lv_at hl 0 rfl) ?_
                exact hret r_92 (er, tr2_92, tn2_92, nI (nn til), ip2_92) (⟨by rw [voice_, if_pos (by simp [hb_1, hb_10]), hw]; rw [(trc_1 hq_92.2.1).1, (trc_1 hq_92.2.1).2]; rw [hq_92.1]; simp [voP, voV, voB, c_45, c_60, c_75, hpz], hq_92.2.2.2⟩) (rfl) hP hD hS (Nat.le_refl _) (Nat.le_refl _) dX6_voice_115
              · -- fall 104
                have hpz : sa (32 + 2 * nn til + 1) - nI (nn til) = 0 := by
                  rcases fx_bc hq_92.2.2.1 with ⟨h, -⟩ | ⟨-, h⟩
                  · exact h
                  · exact absurd h c_101
                refine lv_aload_n hx hb dX6_voice_104 rfl (lv_at hl 2 rfl) ?_
                refine lv_bipush (v := 6) hx hb dX6_voice_105 rfl ?_
                refine fx_ci (va_runV (As := [.int 6]) (rest := []) X (mX6_error l E ad im at_ op st_ us bn bm la fo fi lp (nI tn2_92) (nI (nn til)) ip2_92 er 6 (by decide) _) (cwV 1 X.2.2.2.2 (lw_V q1266 q1268 qs32 q75 q1269) rfl rfl rfl ⟨rfl, hdX6_error⟩ ⟨Nat.le_of_ble_eq_true rfl, Nat.le_of_ble_eq_true rfl⟩) (fx_preV (fx_pre hE hP hD hS hR [1] rfl rfl (fx_rcm 0 rfl (by decide) fx_rc0)) (va_recv hE.1 hP (ci := 6) (q0 := 0) rfl rfl)) rfl rfl hl.1 rfl (lv_room (Nat.le_of_ble_eq_true rfl)) dX6_voice_107 ⟨Nat.le_refl _, Nat.le_refl _⟩) hP hD hS hA [1] rfl rfl (fun r_107 u H locs hq_107 hP hD hS => ?_)
                replace hP : va_P E.1 clA [(ad 30, .inr (6, [.ref (ad 0), .ref (ad 1), .int im, .ref (ad 3), .int at_, .int op, .int st_, .int us, .ref (ad 8), .ref (ad 9), .ref (ad 10), .ref (ad 11), .ref (ad 12), .ref (ad 13), .ref (ad 14), .int bn, .int bm, .ref (ad 17), .int la, .int fo, .int fi, .int lp, .ref (ad 22), .int (nI tn2_92), .int (nI (nn til)), .int ip2_92, .ref (ad 26), .ref (ad 27), .ref (ad 28), .ref (ad 29)])), (ad 3, .inl (E.2 0, 7, .inl (upd er 6 (er 6 + 1)))), (ad 22, .inl (E.2 0, 30, .inl tr2_92))] _ := hP
                replace hD : va_D A [(ad 30, .inr (6, [.ref (ad 0), .ref (ad 1), .int im, .ref (ad 3), .int at_, .int op, .int st_, .int us, .ref (ad 8), .ref (ad 9), .ref (ad 10), .ref (ad 11), .ref (ad 12), .ref (ad 13), .ref (ad 14), .int bn, .int bm, .ref (ad 17), .int la, .int fo, .int fi, .int lp, .ref (ad 22), .int (nI tn2_92), .int (nI (nn til)), .int ip2_92, .ref (ad 26), .ref (ad 27), .ref (ad 28), .ref (ad 29)])), (ad 3, .inl (E.2 0, 7, .inl (upd er 6 (er 6 + 1)))), (ad 22, .inl (E.2 0, 30, .inl tr2_92))] := hD
                replace hq_107 : r_107 = erv 6 := hq_107
                refine lv_goto (tgt := 115) hx hb dX6_voice_110 (by decide) ?_
                exact hret r_107 ((upd er 6 (er 6 + 1)), tr2_92, tn2_92, nI (nn til), ip2_92) (⟨by rw [voice_, if_pos (by simp [hb_1, hb_10]), hw]; rw [(trc_1 hq_92.2.1).1, (trc_1 hq_92.2.1).2]; rw [hq_107]; simp [voP, voV, voB, c_45, c_60, c_75, hpz, erI], hq_92.2.2.2⟩) (rfl) hP hD hS (Nat.le_refl _) (Nat.le_refl _) dX6_voice_115
            · -- fall 78
              refine lv_aload_n hx hb dX6_voice_78 rfl (lv_at hl 1 rfl) ?_
              refine lv_iload hx hb dX6_voice_79 (lv_at hl 0 rfl) ?_
              refine lv_iload_n hx hb dX6_voice_81 rfl (lv_at hl 4 rfl) ?_
              refine fx_ci (va_runV (As := [.int 2, .int x]) (rest := []) X (mX6_givesAs2 l E ad im at_ op st_ us bn bm la fo fi lp 0 0 (nn til) sa tr 2 (sa (32 + 2 * nn til + 1)) x (Nat.zero_le 30) g1 ((hI.kd g1).1.trans (congrArg nI hw)) (by decide) rfl _) (cwV 2 X.2.2.2.2 (lw_V q1532 q1534 qs66 q75 q1535) rfl rfl rfl ⟨rfl, hdX6_givesAs⟩ ⟨Nat.le_of_ble_eq_true rfl, Nat.le_of_ble_eq_true rfl⟩) (fx_preV (fx_pre hE hP hD hS hR [0, 2] rfl rfl (fx_rcr 0 rfl fx_rc0)) (va_recv hE.1 hP (ci := 6) (q0 := 0) rfl rfl)) rfl rfl hl.1 rfl (lv_room (Nat.le_of_ble_eq_true rfl)) dX6_voice_82 ⟨Nat.le_refl _, Nat.le_refl _⟩) hP hD hS hA [0, 2] rfl rfl (fun r_82 u H locs hq_82 hP hD hS => ?_)
              obtain ⟨tr2_82, tn2_82⟩ := u
              replace hP : va_P E.1 clA [(ad 30, .inr (6, [.ref (ad 0), .ref (ad 1), .int im, .ref (ad 3), .int at_, .int op, .int st_, .int us, .ref (ad 8), .ref (ad 9), .ref (ad 10), .ref (ad 11), .ref (ad 12), .ref (ad 13), .ref (ad 14), .int bn, .int bm, .ref (ad 17), .int la, .int fo, .int fi, .int lp, .ref (ad 22), .int (nI tn2_82), .int (nI (nn til)), .int 0, .ref (ad 26), .ref (ad 27), .ref (ad 28), .ref (ad 29)])), (ad 3, .inl (E.2 0, 7, .inl er)), (ad 22, .inl (E.2 0, 30, .inl tr2_82))] _ := hP
              replace hD : va_D A [(ad 30, .inr (6, [.ref (ad 0), .ref (ad 1), .int im, .ref (ad 3), .int at_, .int op, .int st_, .int us, .ref (ad 8), .ref (ad 9), .ref (ad 10), .ref (ad 11), .ref (ad 12), .ref (ad 13), .ref (ad 14), .int bn, .int bm, .ref (ad 17), .int la, .int fo, .int fi, .int lp, .ref (ad 22), .int (nI tn2_82), .int (nI (nn til)), .int 0, .ref (ad 26), .ref (ad 27), .ref (ad 28), .ref (ad 29)])), (ad 3, .inl (E.2 0, 7, .inl er)), (ad 22, .inl (E.2 0, 30, .inl tr2_82))] := hD
              replace hq_82 : r_82 = givesV 2 2 (nI (nn til)) (sa (32 + 2 * nn til + 1)) x ∧ (tr2_82, tn2_82) = bgL (tr, 0) (givesB 2 2) ∧ tn2_82 ≤ 30 := hq_82
              refine lv_goto (tgt := 95) hx hb dX6_voice_85 (by decide) ?_
              refine lv_istore (lv' := [(5, .int r_82), (4, .int 2), (0, .ref (ad 30)), (1, .int til), (2, .int vo), (3, .int x)]) hx hb dX6_voice_95 hl (by decide) rfl (fun ls hl => ?_)
              refine lv_aload_n hx hb dX6_voice_97 rfl (lv_at hl 2 rfl) ?_
              refine fx_get X hE hP 0 rfl rfl 25 rfl q1193 rfl rfl dX6_voice_98 ?_
              refine lv_if_eq (tgt := 113) hx hb dX6_voice_101 (by decide) (fun _ => ?_) (fun c => (c (by decide)).elim)
              refine lv_iload hx hb dX6_voice_113 (lv_at hl 0 rfl) ?_
              exact hret r_82 (er, tr2_82, tn2_82, nI (nn til), 0) (⟨by rw [voice_, if_pos (by simp [hb_1, hb_10]), hw]; rw [(trc_1 hq_82.2.1).1, (trc_1 hq_82.2.1).2]; rw [hq_82.1]; simp [voP, voV, voB, c_45, c_60, c_75], hq_82.2.2⟩) (rfl) hP hD hS (Nat.le_refl _) (Nat.le_refl _) dX6_voice_115
          · -- fall 63
            refine lv_aload_n hx hb dX6_voice_63 rfl (lv_at hl 1 rfl) ?_
            refine lv_iload hx hb dX6_voice_64 (lv_at hl 0 rfl) ?_
            refine lv_iload_n hx hb dX6_voice_66 rfl (lv_at hl 4 rfl) ?_
            refine fx_ci (va_runV (As := [.int 2, .int x]) (rest := []) X (mX6_comesAs2 l E ad im at_ op st_ us bn bm la fo fi lp 0 0 (nn til) sa tr 2 (sa (32 + 2 * nn til + 1)) x (Nat.zero_le 30) g1 ((hI.kd g1).1.trans (congrArg nI hw)) (by decide) rfl _) (cwV 2 X.2.2.2.2 (lw_V q1528 q1530 qs65 q75 q1531) rfl rfl rfl ⟨rfl, hdX6_comesAs⟩ ⟨Nat.le_of_ble_eq_true rfl, Nat.le_of_ble_eq_true rfl⟩) (fx_preV (fx_pre hE hP hD hS hR [0, 2] rfl rfl (fx_rcr 0 rfl fx_rc0)) (va_recv hE.1 hP (ci := 6) (q0 := 0) rfl rfl)) rfl rfl hl.1 rfl (lv_room (Nat.le_of_ble_eq_true rfl)) dX6_voice_67 ⟨Nat.le_refl _, Nat.le_refl _⟩) hP hD hS hA [0, 2] rfl rfl (fun r_67 u H locs hq_67 hP hD hS => ?_)
            obtain ⟨tr2_67, tn2_67⟩ := u
            replace hP : va_P E.1 clA [(ad 30, .inr (6, [.ref (ad 0), .ref (ad 1), .int im, .ref (ad 3), .int at_, .int op, .int st_, .int us, .ref (ad 8), .ref (ad 9), .ref (ad 10), .ref (ad 11), .ref (ad 12), .ref (ad 13), .ref (ad 14), .int bn, .int bm, .ref (ad 17), .int la, .int fo, .int fi, .int lp, .ref (ad 22), .int (nI tn2_67), .int (nI (nn til)), .int 0, .ref (ad 26), .ref (ad 27), .ref (ad 28), .ref (ad 29)])), (ad 3, .inl (E.2 0, 7, .inl er)), (ad 22, .inl (E.2 0, 30, .inl tr2_67))] _ := hP
            replace hD : va_D A [(ad 30, .inr (6, [.ref (ad 0), .ref (ad 1), .int im, .ref (ad 3), .int at_, .int op, .int st_, .int us, .ref (ad 8), .ref (ad 9), .ref (ad 10), .ref (ad 11), .ref (ad 12), .ref (ad 13), .ref (ad 14), .int bn, .int bm, .ref (ad 17), .int la, .int fo, .int fi, .int lp, .ref (ad 22), .int (nI tn2_67), .int (nI (nn til)), .int 0, .ref (ad 26), .ref (ad 27), .ref (ad 28), .ref (ad 29)])), (ad 3, .inl (E.2 0, 7, .inl er)), (ad 22, .inl (E.2 0, 30, .inl tr2_67))] := hD
            replace hq_67 : r_67 = comesV 2 2 (nI (nn til)) (sa (32 + 2 * nn til + 1)) x ∧ (tr2_67, tn2_67) = bgL (tr, 0) (comesB 2 2) ∧ tn2_67 ≤ 30 := hq_67
            refine lv_goto (tgt := 95) hx hb dX6_voice_70 (by decide) ?_
            refine lv_istore (lv' := [(5, .int r_67), (4, .int 2), (0, .ref (ad 30)), (1, .int til), (2, .int vo), (3, .int x)]) hx hb dX6_voice_95 hl (by decide) rfl (fun ls hl => ?_)
            refine lv_aload_n hx hb dX6_voice_97 rfl (lv_at hl 2 rfl) ?_
            refine fx_get X hE hP 0 rfl rfl 25 rfl q1193 rfl rfl dX6_voice_98 ?_
            refine lv_if_eq (tgt := 113) hx hb dX6_voice_101 (by decide) (fun _ => ?_) (fun c => (c (by decide)).elim)
            refine lv_iload hx hb dX6_voice_113 (lv_at hl 0 rfl) ?_
            exact hret r_67 (er, tr2_67, tn2_67, nI (nn til), 0) (⟨by rw [voice_, if_pos (by simp [hb_1, hb_10]), hw]; rw [(trc_1 hq_67.2.1).1, (trc_1 hq_67.2.1).2]; rw [hq_67.1]; simp [voP, voV, voB, c_45, c_60], hq_67.2.2⟩) (rfl) hP hD hS (Nat.le_refl _) (Nat.le_refl _) dX6_voice_115
        · -- fall 48
          refine lv_aload_n hx hb dX6_voice_48 rfl (lv_at hl 1 rfl) ?_
          refine lv_iload hx hb dX6_voice_49 (lv_at hl 0 rfl) ?_
          refine lv_iload_n hx hb dX6_voice_51 rfl (lv_at hl 4 rfl) ?_
          refine fx_ci (va_runV (As := [.int 2, .int x]) (rest := []) X (mX6_addsAs2 l E ad im at_ op st_ us bn bm la fo fi lp 0 0 (nn til) tr x (Nat.zero_le 30) _) (cwV 2 X.2.2.2.2 (lw_V q1517 q1519 qs63 q75 q1520) rfl rfl rfl ⟨rfl, hdX6_addsAs⟩ ⟨Nat.le_of_ble_eq_true rfl, Nat.le_of_ble_eq_true rfl⟩) (fx_preV (fx_pre hE hP hD hS hR [0, 2] rfl rfl fx_rc0) (va_recv hE.1 hP (ci := 6) (q0 := 0) rfl rfl)) rfl rfl hl.1 rfl (lv_room (Nat.le_of_ble_eq_true rfl)) dX6_voice_52 ⟨Nat.le_refl _, Nat.le_refl _⟩) hP hD hS hA [0, 2] rfl rfl (fun r_52 u H locs hq_52 hP hD hS => ?_)
          obtain ⟨tr2_52, tn2_52⟩ := u
          replace hP : va_P E.1 clA [(ad 30, .inr (6, [.ref (ad 0), .ref (ad 1), .int im, .ref (ad 3), .int at_, .int op, .int st_, .int us, .ref (ad 8), .ref (ad 9), .ref (ad 10), .ref (ad 11), .ref (ad 12), .ref (ad 13), .ref (ad 14), .int bn, .int bm, .ref (ad 17), .int la, .int fo, .int fi, .int lp, .ref (ad 22), .int (nI tn2_52), .int (nI (nn til)), .int 0, .ref (ad 26), .ref (ad 27), .ref (ad 28), .ref (ad 29)])), (ad 3, .inl (E.2 0, 7, .inl er)), (ad 22, .inl (E.2 0, 30, .inl tr2_52))] _ := hP
          replace hD : va_D A [(ad 30, .inr (6, [.ref (ad 0), .ref (ad 1), .int im, .ref (ad 3), .int at_, .int op, .int st_, .int us, .ref (ad 8), .ref (ad 9), .ref (ad 10), .ref (ad 11), .ref (ad 12), .ref (ad 13), .ref (ad 14), .int bn, .int bm, .ref (ad 17), .int la, .int fo, .int fi, .int lp, .ref (ad 22), .int (nI tn2_52), .int (nI (nn til)), .int 0, .ref (ad 26), .ref (ad 27), .ref (ad 28), .ref (ad 29)])), (ad 3, .inl (E.2 0, 7, .inl er)), (ad 22, .inl (E.2 0, 30, .inl tr2_52))] := hD
          replace hq_52 : r_52 = addsV 2 (nI (nn til)) x ∧ (tr2_52, tn2_52) = bgL (tr, 0) (addsB 2) ∧ tn2_52 ≤ 30 := hq_52
          refine lv_goto (tgt := 95) hx hb dX6_voice_55 (by decide) ?_
          refine lv_istore (lv' := [(5, .int r_52), (4, .int 2), (0, .ref (ad 30)), (1, .int til), (2, .int vo), (3, .int x)]) hx hb dX6_voice_95 hl (by decide) rfl (fun ls hl => ?_)
          refine lv_aload_n hx hb dX6_voice_97 rfl (lv_at hl 2 rfl) ?_
          refine fx_get X hE hP 0 rfl rfl 25 rfl q1193 rfl rfl dX6_voice_98 ?_
          refine lv_if_eq (tgt := 113) hx hb dX6_voice_101 (by decide) (fun _ => ?_) (fun c => (c (by decide)).elim)
          refine lv_iload hx hb dX6_voice_113 (lv_at hl 0 rfl) ?_
          exact hret r_52 (er, tr2_52, tn2_52, nI (nn til), 0) (⟨by rw [voice_, if_pos (by simp [hb_1, hb_10]), hw]; rw [(trc_1 hq_52.2.1).1, (trc_1 hq_52.2.1).2]; rw [hq_52.1]; simp [voP, voV, voB, c_45], hq_52.2.2⟩) (rfl) hP hD hS (Nat.le_refl _) (Nat.le_refl _) dX6_voice_115
      ·
        refine fx_ti (show r_39 = 3 from hq_39.trans ((hI.kd g1).1.trans (congrArg nI hw))) ?_
        refine lv_istore (lv' := [(4, .int 3), (0, .ref (ad 30)), (1, .int til), (2, .int vo), (3, .int x)]) hx hb dX6_voice_42 hl (by decide) rfl (fun ls hl => ?_)
        refine lv_iload_n hx hb dX6_voice_44 rfl (lv_at hl 3 rfl) ?_
        refine lv_if_ne (tgt := 58) hx hb dX6_voice_45 (by decide) (fun c_45 => ?_) (fun c_45 => ?_)
        · -- jump 58
          refine lv_iload_n hx hb dX6_voice_58 rfl (lv_at hl 3 rfl) ?_
          refine lv_iconst (v := 1) hx hb dX6_voice_59 rfl ?_
          refine lv_icmp_ne (tgt := 73) hx hb dX6_voice_60 (by decide) (fun c_60 => ?_) (fun c_60 => ?_)
          · -- jump 73
            refine lv_iload_n hx hb dX6_voice_73 rfl (lv_at hl 3 rfl) ?_
            refine lv_iconst (v := 2) hx hb dX6_voice_74 rfl ?_
            refine lv_icmp_ne (tgt := 88) hx hb dX6_voice_75 (by decide) (fun c_75 => ?_) (fun c_75 => ?_)
            · -- jump 88
              refine lv_aload_n hx hb dX6_voice_88 rfl (lv_at hl 1 rfl) ?_
              refine lv_iload hx hb dX6_voice_89 (lv_at hl 0 rfl) ?_
              refine lv_iload_n hx hb dX6_voice_91 rfl (lv_at hl 4 rfl) ?_
              refine fx_ci (va_runV (As := [.int 3, .int x]) (rest := []) X (mX6_partsAs3 l E ad im at_ op st_ us bn bm la fo fi lp 0 0 (nn til) sa tr 3 (sa (32 + 2 * nn til + 1)) x (Nat.zero_le 30) g1 ((hI.kd g1).1.trans (congrArg nI hw)) (by decide) rfl _) (cwV 2 X.2.2.2.2 (lw_V q1536 q1538 qs67 q75 q1539) rfl rfl rfl ⟨rfl, hdX6_partsAs⟩ ⟨Nat.le_of_ble_eq_true rfl, Nat.le_of_ble_eq_true rfl⟩) (fx_preV (fx_pre hE hP hD hS hR [0, 2] rfl rfl (fx_rcr 0 rfl fx_rc0)) (va_recv hE.1 hP (ci := 6) (q0 := 0) rfl rfl)) rfl rfl hl.1 rfl (lv_room (Nat.le_of_ble_eq_true rfl)) dX6_voice_92 ⟨Nat.le_refl _, Nat.le_refl _⟩) hP hD hS hA [0, 2] rfl rfl (fun r_92 u H locs hq_92 hP hD hS => ?_)
              obtain ⟨tr2_92, tn2_92, ip2_92⟩ := u
              replace hP : va_P E.1 clA [(ad 30, .inr (6, [.ref (ad 0), .ref (ad 1), .int im, .ref (ad 3), .int at_, .int op, .int st_, .int us, .ref (ad 8), .ref (ad 9), .ref (ad 10), .ref (ad 11), .ref (ad 12), .ref (ad 13), .ref (ad 14), .int bn, .int bm, .ref (ad 17), .int la, .int fo, .int fi, .int lp, .ref (ad 22), .int (nI tn2_92), .int (nI (nn til)), .int ip2_92, .ref (ad 26), .ref (ad 27), .ref (ad 28), .ref (ad 29)])), (ad 3, .inl (E.2 0, 7, .inl er)), (ad 22, .inl (E.2 0, 30, .inl tr2_92))] _ := hP
              replace hD : va_D A [(ad 30, .inr (6, [.ref (ad 0), .ref (ad 1), .int im, .ref (ad 3), .int at_, .int op, .int st_, .int us, .ref (ad 8), .ref (ad 9), .ref (ad 10), .ref (ad 11), .ref (ad 12), .ref (ad 13), .ref (ad 14), .int bn, .int bm, .ref (ad 17), .int la, .int fo, .int fi, .int lp, .ref (ad 22), .int (nI tn2_92), .int (nI (nn til)), .int ip2_92, .ref (ad 26), .ref (ad 27), .ref (ad 28), .ref (ad 29)])), (ad 3, .inl (E.2 0, 7, .inl er)), (ad 22, .inl (E.2 0, 30, .inl tr2_92))] := hD
              replace hq_92 : r_92 = partsV 3 3 (nI (nn til)) (sa (32 + 2 * nn til + 1)) x ∧ (tr2_92, tn2_92) = bgL (tr, 0) (partsB 3 3 (nI (nn til)) (sa (32 + 2 * nn til + 1))) ∧ ip2_92 = fx_b ((sa (32 + 2 * nn til + 1)) - nI (nn til) = 0) ∧ tn2_92 ≤ 30 := hq_92
              refine lv_istore (lv' := [(5, .int r_92), (4, .int 3), (0, .ref (ad 30)), (1, .int til), (2, .int vo), (3, .int x)]) hx hb dX6_voice_95 hl (by decide) rfl (fun ls hl => ?_)
              refine lv_aload_n hx hb dX6_voice_97 rfl (lv_at hl 2 rfl) ?_
              refine fx_get X hE hP 0 rfl rfl 25 rfl q1193 rfl rfl dX6_voice_98 ?_
              refine lv_if_eq (tgt := 113) hx hb dX6_voice_101 (by decide) (fun c_101 => ?_) (fun c_101 => ?_)
              · -- jump 113
                have hpz : ¬ (sa (32 + 2 * nn til + 1) - nI (nn til) = 0) := fun h => by rw [hq_92.2.2.1, fx_b, if_pos h] at c_101; exact absurd c_101 (by decide)
                refine lv_iload hx hb dX6_voice_113 (lv_at hl 0 rfl) ?_
                exact hret r_92 (er, tr2_92, tn2_92, nI (nn til), ip2_92) (⟨by rw [voice_, if_pos (by simp [hb_1, hb_10]), hw]; rw [(trc_1 hq_92.2.1).1, (trc_1 hq_92.2.1).2]; rw [hq_92.1]; simp [voP, voV, voB, c_45, c_60, c_75, hpz], hq_92.2.2.2⟩) (rfl) hP hD hS (Nat.le_refl _) (Nat.le_refl _) dX6_voice_115
              · -- fall 104
                have hpz : sa (32 + 2 * nn til + 1) - nI (nn til) = 0 := by
                  rcases fx_bc hq_92.2.2.1 with ⟨h, -⟩ | ⟨-, h⟩
                  · exact h
                  · exact absurd h c_101
                refine lv_aload_n hx hb dX6_voice_104 rfl (lv_at hl 2 rfl) ?_
                refine lv_bipush (v := 6) hx hb dX6_voice_105 rfl ?_
                refine fx_ci (va_runV (As := [.int 6]) (rest := []) X (mX6_error l E ad im at_ op st_ us bn bm la fo fi lp (nI tn2_92) (nI (nn til)) ip2_92 er 6 (by decide) _) (cwV 1 X.2.2.2.2 (lw_V q1266 q1268 qs32 q75 q1269) rfl rfl rfl ⟨rfl, hdX6_error⟩ ⟨Nat.le_of_ble_eq_true rfl, Nat.le_of_ble_eq_true rfl⟩) (fx_preV (fx_pre hE hP hD hS hR [1] rfl rfl (fx_rcm 0 rfl (by decide) fx_rc0)) (va_recv hE.1 hP (ci := 6) (q0 := 0) rfl rfl)) rfl rfl hl.1 rfl (lv_room (Nat.le_of_ble_eq_true rfl)) dX6_voice_107 ⟨Nat.le_refl _, Nat.le_refl _⟩) hP hD hS hA [1] rfl rfl (fun r_107 u H locs hq_107 hP hD hS => ?_)
                replace hP : va_P E.1 clA [(ad 30, .inr (6, [.ref (ad 0), .ref (ad 1), .int im, .ref (ad 3), .int at_, .int op, .int st_, .int us, .ref (ad 8), .ref (ad 9), .ref (ad 10), .ref (ad 11), .ref (ad 12), .ref (ad 13), .ref (ad 14), .int bn, .int bm, .ref (ad 17), .int la, .int fo, .int fi, .int lp, .ref (ad 22), .int (nI tn2_92), .int (nI (nn til)), .int ip2_92, .ref (ad 26), .ref (ad 27), .ref (ad 28), .ref (ad 29)])), (ad 3, .inl (E.2 0, 7, .inl (upd er 6 (er 6 + 1)))), (ad 22, .inl (E.2 0, 30, .inl tr2_92))] _ := hP
                replace hD : va_D A [(ad 30, .inr (6, [.ref (ad 0), .ref (ad 1), .int im, .ref (ad 3), .int at_, .int op, .int st_, .int us, .ref (ad 8), .ref (ad 9), .ref (ad 10), .ref (ad 11), .ref (ad 12), .ref (ad 13), .ref (ad 14), .int bn, .int bm, .ref (ad 17), .int la, .int fo, .int fi, .int lp, .ref (ad 22), .int (nI tn2_92), .int (nI (nn til)), .int ip2_92, .ref (ad 26), .ref (ad 27), .ref (ad 28), .ref (ad 29)])), (ad 3, .inl (E.2 0, 7, .inl (upd er 6 (er 6 + 1)))), (ad 22, .inl (E.2 0, 30, .inl tr2_92))] := hD
                replace hq_107 : r_107 = erv 6 := hq_107
                refine lv_goto (tgt := 115) hx hb dX6_voice_110 (by decide) ?_
                exact hret r_107 ((upd er 6 (er 6 + 1)), tr2_92, tn2_92, nI (nn til), ip2_92) (⟨by rw [voice_, if_pos (by simp [hb_1, hb_10]), hw]; rw [(trc_1 hq_92.2.1).1, (trc_1 hq_92.2.1).2]; rw [hq_107]; simp [voP, voV, voB, c_45, c_60, c_75, hpz, erI], hq_92.2.2.2⟩) (rfl) hP hD hS (Nat.le_refl _) (Nat.le_refl _) dX6_voice_115
            · -- fall 78
              refine lv_aload_n hx hb dX6_voice_78 rfl (lv_at hl 1 rfl) ?_
              refine lv_iload hx hb dX6_voice_79 (lv_at hl 0 rfl) ?_
              refine lv_iload_n hx hb dX6_voice_81 rfl (lv_at hl 4 rfl) ?_
              refine fx_ci (va_runV (As := [.int 3, .int x]) (rest := []) X (mX6_givesAs3 l E ad im at_ op st_ us bn bm la fo fi lp 0 0 (nn til) sa tr 3 (sa (32 + 2 * nn til + 1)) x (Nat.zero_le 30) g1 ((hI.kd g1).1.trans (congrArg nI hw)) (by decide) rfl _) (cwV 2 X.2.2.2.2 (lw_V q1532 q1534 qs66 q75 q1535) rfl rfl rfl ⟨rfl, hdX6_givesAs⟩ ⟨Nat.le_of_ble_eq_true rfl, Nat.le_of_ble_eq_true rfl⟩) (fx_preV (fx_pre hE hP hD hS hR [0, 2] rfl rfl (fx_rcr 0 rfl fx_rc0)) (va_recv hE.1 hP (ci := 6) (q0 := 0) rfl rfl)) rfl rfl hl.1 rfl (lv_room (Nat.le_of_ble_eq_true rfl)) dX6_voice_82 ⟨Nat.le_refl _, Nat.le_refl _⟩) hP hD hS hA [0, 2] rfl rfl (fun r_82 u H locs hq_82 hP hD hS => ?_)
              obtain ⟨tr2_82, tn2_82⟩ := u
              replace hP : va_P E.1 clA [(ad 30, .inr (6, [.ref (ad 0), .ref (ad 1), .int im, .ref (ad 3), .int at_, .int op, .int st_, .int us, .ref (ad 8), .ref (ad 9), .ref (ad 10), .ref (ad 11), .ref (ad 12), .ref (ad 13), .ref (ad 14), .int bn, .int bm, .ref (ad 17), .int la, .int fo, .int fi, .int lp, .ref (ad 22), .int (nI tn2_82), .int (nI (nn til)), .int 0, .ref (ad 26), .ref (ad 27), .ref (ad 28), .ref (ad 29)])), (ad 3, .inl (E.2 0, 7, .inl er)), (ad 22, .inl (E.2 0, 30, .inl tr2_82))] _ := hP
              replace hD : va_D A [(ad 30, .inr (6, [.ref (ad 0), .ref (ad 1), .int im, .ref (ad 3), .int at_, .int op, .int st_, .int us, .ref (ad 8), .ref (ad 9), .ref (ad 10), .ref (ad 11), .ref (ad 12), .ref (ad 13), .ref (ad 14), .int bn, .int bm, .ref (ad 17), .int la, .int fo, .int fi, .int lp, .ref (ad 22), .int (nI tn2_82), .int (nI (nn til)), .int 0, .ref (ad 26), .ref (ad 27), .ref (ad 28), .ref (ad 29)])), (ad 3, .inl (E.2 0, 7, .inl er)), (ad 22, .inl (E.2 0, 30, .inl tr2_82))] := hD
              replace hq_82 : r_82 = givesV 3 3 (nI (nn til)) (sa (32 + 2 * nn til + 1)) x ∧ (tr2_82, tn2_82) = bgL (tr, 0) (givesB 3 3) ∧ tn2_82 ≤ 30 := hq_82
              refine lv_goto (tgt := 95) hx hb dX6_voice_85 (by decide) ?_
              refine lv_istore (lv' := [(5, .int r_82), (4, .int 3), (0, .ref (ad 30)), (1, .int til), (2, .int vo), (3, .int x)]) hx hb dX6_voice_95 hl (by decide) rfl (fun ls hl => ?_)
              refine lv_aload_n hx hb dX6_voice_97 rfl (lv_at hl 2 rfl) ?_
              refine fx_get X hE hP 0 rfl rfl 25 rfl q1193 rfl rfl dX6_voice_98 ?_
              refine lv_if_eq (tgt := 113) hx hb dX6_voice_101 (by decide) (fun _ => ?_) (fun c => (c (by decide)).elim)
              refine lv_iload hx hb dX6_voice_113 (lv_at hl 0 rfl) ?_
              exact hret r_82 (er, tr2_82, tn2_82, nI (nn til), 0) (⟨by rw [voice_, if_pos (by simp [hb_1, hb_10]), hw]; rw [(trc_1 hq_82.2.1).1, (trc_1 hq_82.2.1).2]; rw [hq_82.1]; simp [voP, voV, voB, c_45, c_60, c_75], hq_82.2.2⟩) (rfl) hP hD hS (Nat.le_refl _) (Nat.le_refl _) dX6_voice_115
          · -- fall 63
            refine lv_aload_n hx hb dX6_voice_63 rfl (lv_at hl 1 rfl) ?_
            refine lv_iload hx hb dX6_voice_64 (lv_at hl 0 rfl) ?_
            refine lv_iload_n hx hb dX6_voice_66 rfl (lv_at hl 4 rfl) ?_
            refine fx_ci (va_runV (As := [.int 3, .int x]) (rest := []) X (mX6_comesAs3 l E ad im at_ op st_ us bn bm la fo fi lp 0 0 (nn til) sa tr 3 (sa (32 + 2 * nn til + 1)) x (Nat.zero_le 30) g1 ((hI.kd g1).1.trans (congrArg nI hw)) (by decide) rfl _) (cwV 2 X.2.2.2.2 (lw_V q1528 q1530 qs65 q75 q1531) rfl rfl rfl ⟨rfl, hdX6_comesAs⟩ ⟨Nat.le_of_ble_eq_true rfl, Nat.le_of_ble_eq_true rfl⟩) (fx_preV (fx_pre hE hP hD hS hR [0, 2] rfl rfl (fx_rcr 0 rfl fx_rc0)) (va_recv hE.1 hP (ci := 6) (q0 := 0) rfl rfl)) rfl rfl hl.1 rfl (lv_room (Nat.le_of_ble_eq_true rfl)) dX6_voice_67 ⟨Nat.le_refl _, Nat.le_refl _⟩) hP hD hS hA [0, 2] rfl rfl (fun r_67 u H locs hq_67 hP hD hS => ?_)
            obtain ⟨tr2_67, tn2_67⟩ := u
            replace hP : va_P E.1 clA [(ad 30, .inr (6, [.ref (ad 0), .ref (ad 1), .int im, .ref (ad 3), .int at_, .int op, .int st_, .int us, .ref (ad 8), .ref (ad 9), .ref (ad 10), .ref (ad 11), .ref (ad 12), .ref (ad 13), .ref (ad 14), .int bn, .int bm, .ref (ad 17), .int la, .int fo, .int fi, .int lp, .ref (ad 22), .int (nI tn2_67), .int (nI (nn til)), .int 0, .ref (ad 26), .ref (ad 27), .ref (ad 28), .ref (ad 29)])), (ad 3, .inl (E.2 0, 7, .inl er)), (ad 22, .inl (E.2 0, 30, .inl tr2_67))] _ := hP
            replace hD : va_D A [(ad 30, .inr (6, [.ref (ad 0), .ref (ad 1), .int im, .ref (ad 3), .int at_, .int op, .int st_, .int us, .ref (ad 8), .ref (ad 9), .ref (ad 10), .ref (ad 11), .ref (ad 12), .ref (ad 13), .ref (ad 14), .int bn, .int bm, .ref (ad 17), .int la, .int fo, .int fi, .int lp, .ref (ad 22), .int (nI tn2_67), .int (nI (nn til)), .int 0, .ref (ad 26), .ref (ad 27), .ref (ad 28), .ref (ad 29)])), (ad 3, .inl (E.2 0, 7, .inl er)), (ad 22, .inl (E.2 0, 30, .inl tr2_67))] := hD
            replace hq_67 : r_67 = comesV 3 3 (nI (nn til)) (sa (32 + 2 * nn til + 1)) x ∧ (tr2_67, tn2_67) = bgL (tr, 0) (comesB 3 3) ∧ tn2_67 ≤ 30 := hq_67
            refine lv_goto (tgt := 95) hx hb dX6_voice_70 (by decide) ?_
            refine lv_istore (lv' := [(5, .int r_67), (4, .int 3), (0, .ref (ad 30)), (1, .int til), (2, .int vo), (3, .int x)]) hx hb dX6_voice_95 hl (by decide) rfl (fun ls hl => ?_)
            refine lv_aload_n hx hb dX6_voice_97 rfl (lv_at hl 2 rfl) ?_
            refine fx_get X hE hP 0 rfl rfl 25 rfl q1193 rfl rfl dX6_voice_98 ?_
            refine lv_if_eq (tgt := 113) hx hb dX6_voice_101 (by decide) (fun _ => ?_) (fun c => (c (by decide)).elim)
            refine lv_iload hx hb dX6_voice_113 (lv_at hl 0 rfl) ?_
            exact hret r_67 (er, tr2_67, tn2_67, nI (nn til), 0) (⟨by rw [voice_, if_pos (by simp [hb_1, hb_10]), hw]; rw [(trc_1 hq_67.2.1).1, (trc_1 hq_67.2.1).2]; rw [hq_67.1]; simp [voP, voV, voB, c_45, c_60], hq_67.2.2⟩) (rfl) hP hD hS (Nat.le_refl _) (Nat.le_refl _) dX6_voice_115
        · -- fall 48
          refine lv_aload_n hx hb dX6_voice_48 rfl (lv_at hl 1 rfl) ?_
          refine lv_iload hx hb dX6_voice_49 (lv_at hl 0 rfl) ?_
          refine lv_iload_n hx hb dX6_voice_51 rfl (lv_at hl 4 rfl) ?_
          refine fx_ci (va_runV (As := [.int 3, .int x]) (rest := []) X (mX6_addsAs3 l E ad im at_ op st_ us bn bm la fo fi lp 0 0 (nn til) tr x (Nat.zero_le 30) _) (cwV 2 X.2.2.2.2 (lw_V q1517 q1519 qs63 q75 q1520) rfl rfl rfl ⟨rfl, hdX6_addsAs⟩ ⟨Nat.le_of_ble_eq_true rfl, Nat.le_of_ble_eq_true rfl⟩) (fx_preV (fx_pre hE hP hD hS hR [0, 2] rfl rfl fx_rc0) (va_recv hE.1 hP (ci := 6) (q0 := 0) rfl rfl)) rfl rfl hl.1 rfl (lv_room (Nat.le_of_ble_eq_true rfl)) dX6_voice_52 ⟨Nat.le_refl _, Nat.le_refl _⟩) hP hD hS hA [0, 2] rfl rfl (fun r_52 u H locs hq_52 hP hD hS => ?_)
          obtain ⟨tr2_52, tn2_52⟩ := u
          replace hP : va_P E.1 clA [(ad 30, .inr (6, [.ref (ad 0), .ref (ad 1), .int im, .ref (ad 3), .int at_, .int op, .int st_, .int us, .ref (ad 8), .ref (ad 9), .ref (ad 10), .ref (ad 11), .ref (ad 12), .ref (ad 13), .ref (ad 14), .int bn, .int bm, .ref (ad 17), .int la, .int fo, .int fi, .int lp, .ref (ad 22), .int (nI tn2_52), .int (nI (nn til)), .int 0, .ref (ad 26), .ref (ad 27), .ref (ad 28), .ref (ad 29)])), (ad 3, .inl (E.2 0, 7, .inl er)), (ad 22, .inl (E.2 0, 30, .inl tr2_52))] _ := hP
          replace hD : va_D A [(ad 30, .inr (6, [.ref (ad 0), .ref (ad 1), .int im, .ref (ad 3), .int at_, .int op, .int st_, .int us, .ref (ad 8), .ref (ad 9), .ref (ad 10), .ref (ad 11), .ref (ad 12), .ref (ad 13), .ref (ad 14), .int bn, .int bm, .ref (ad 17), .int la, .int fo, .int fi, .int lp, .ref (ad 22), .int (nI tn2_52), .int (nI (nn til)), .int 0, .ref (ad 26), .ref (ad 27), .ref (ad 28), .ref (ad 29)])), (ad 3, .inl (E.2 0, 7, .inl er)), (ad 22, .inl (E.2 0, 30, .inl tr2_52))] := hD
          replace hq_52 : r_52 = addsV 3 (nI (nn til)) x ∧ (tr2_52, tn2_52) = bgL (tr, 0) (addsB 3) ∧ tn2_52 ≤ 30 := hq_52
          refine lv_goto (tgt := 95) hx hb dX6_voice_55 (by decide) ?_
          refine lv_istore (lv' := [(5, .int r_52), (4, .int 3), (0, .ref (ad 30)), (1, .int til), (2, .int vo), (3, .int x)]) hx hb dX6_voice_95 hl (by decide) rfl (fun ls hl => ?_)
          refine lv_aload_n hx hb dX6_voice_97 rfl (lv_at hl 2 rfl) ?_
          refine fx_get X hE hP 0 rfl rfl 25 rfl q1193 rfl rfl dX6_voice_98 ?_
          refine lv_if_eq (tgt := 113) hx hb dX6_voice_101 (by decide) (fun _ => ?_) (fun c => (c (by decide)).elim)
          refine lv_iload hx hb dX6_voice_113 (lv_at hl 0 rfl) ?_
          exact hret r_52 (er, tr2_52, tn2_52, nI (nn til), 0) (⟨by rw [voice_, if_pos (by simp [hb_1, hb_10]), hw]; rw [(trc_1 hq_52.2.1).1, (trc_1 hq_52.2.1).2]; rw [hq_52.1]; simp [voP, voV, voB, c_45], hq_52.2.2⟩) (rfl) hP hD hS (Nat.le_refl _) (Nat.le_refl _) dX6_voice_115
      ·
        refine fx_ti (show r_39 = 4 from hq_39.trans ((hI.kd g1).1.trans (congrArg nI hw))) ?_
        refine lv_istore (lv' := [(4, .int 4), (0, .ref (ad 30)), (1, .int til), (2, .int vo), (3, .int x)]) hx hb dX6_voice_42 hl (by decide) rfl (fun ls hl => ?_)
        refine lv_iload_n hx hb dX6_voice_44 rfl (lv_at hl 3 rfl) ?_
        refine lv_if_ne (tgt := 58) hx hb dX6_voice_45 (by decide) (fun c_45 => ?_) (fun c_45 => ?_)
        · -- jump 58
          refine lv_iload_n hx hb dX6_voice_58 rfl (lv_at hl 3 rfl) ?_
          refine lv_iconst (v := 1) hx hb dX6_voice_59 rfl ?_
          refine lv_icmp_ne (tgt := 73) hx hb dX6_voice_60 (by decide) (fun c_60 => ?_) (fun c_60 => ?_)
          · -- jump 73
            refine lv_iload_n hx hb dX6_voice_73 rfl (lv_at hl 3 rfl) ?_
            refine lv_iconst (v := 2) hx hb dX6_voice_74 rfl ?_
            refine lv_icmp_ne (tgt := 88) hx hb dX6_voice_75 (by decide) (fun c_75 => ?_) (fun c_75 => ?_)
            · -- jump 88
              refine lv_aload_n hx hb dX6_voice_88 rfl (lv_at hl 1 rfl) ?_
              refine lv_iload hx hb dX6_voice_89 (lv_at hl 0 rfl) ?_
              refine lv_iload_n hx hb dX6_voice_91 rfl (lv_at hl 4 rfl) ?_
              refine fx_ci (va_runV (As := [.int 4, .int x]) (rest := []) X (mX6_partsAs4 l E ad im at_ op st_ us bn bm la fo fi lp 0 0 (nn til) sa tr 4 (sa (32 + 2 * nn til + 1)) x (Nat.zero_le 30) g1 ((hI.kd g1).1.trans (congrArg nI hw)) (by decide) rfl _) (cwV 2 X.2.2.2.2 (lw_V q1536 q1538 qs67 q75 q1539) rfl rfl rfl ⟨rfl, hdX6_partsAs⟩ ⟨Nat.le_of_ble_eq_true rfl, Nat.le_of_ble_eq_true rfl⟩) (fx_preV (fx_pre hE hP hD hS hR [0, 2] rfl rfl (fx_rcr 0 rfl fx_rc0)) (va_recv hE.1 hP (ci := 6) (q0 := 0) rfl rfl)) rfl rfl hl.1 rfl (lv_room (Nat.le_of_ble_eq_true rfl)) dX6_voice_92 ⟨Nat.le_refl _, Nat.le_refl _⟩) hP hD hS hA [0, 2] rfl rfl (fun r_92 u H locs hq_92 hP hD hS => ?_)
              obtain ⟨tr2_92, tn2_92, ip2_92⟩ := u
              replace hP : va_P E.1 clA [(ad 30, .inr (6, [.ref (ad 0), .ref (ad 1), .int im, .ref (ad 3), .int at_, .int op, .int st_, .int us, .ref (ad 8), .ref (ad 9), .ref (ad 10), .ref (ad 11), .ref (ad 12), .ref (ad 13), .ref (ad 14), .int bn, .int bm, .ref (ad 17), .int la, .int fo, .int fi, .int lp, .ref (ad 22), .int (nI tn2_92), .int (nI (nn til)), .int ip2_92, .ref (ad 26), .ref (ad 27), .ref (ad 28), .ref (ad 29)])), (ad 3, .inl (E.2 0, 7, .inl er)), (ad 22, .inl (E.2 0, 30, .inl tr2_92))] _ := hP
              replace hD : va_D A [(ad 30, .inr (6, [.ref (ad 0), .ref (ad 1), .int im, .ref (ad 3), .int at_, .int op, .int st_, .int us, .ref (ad 8), .ref (ad 9), .ref (ad 10), .ref (ad 11), .ref (ad 12), .ref (ad 13), .ref (ad 14), .int bn, .int bm, .ref (ad 17), .int la, .int fo, .int fi, .int lp, .ref (ad 22), .int (nI tn2_92), .int (nI (nn til)), .int ip2_92, .ref (ad 26), .ref (ad 27), .ref (ad 28), .ref (ad 29)])), (ad 3, .inl (E.2 0, 7, .inl er)), (ad 22, .inl (E.2 0, 30, .inl tr2_92))] := hD
              replace hq_92 : r_92 = partsV 4 4 (nI (nn til)) (sa (32 + 2 * nn til + 1)) x ∧ (tr2_92, tn2_92) = bgL (tr, 0) (partsB 4 4 (nI (nn til)) (sa (32 + 2 * nn til + 1))) ∧ ip2_92 = fx_b ((sa (32 + 2 * nn til + 1)) - nI (nn til) = 0) ∧ tn2_92 ≤ 30 := hq_92
              refine lv_istore (lv' := [(5, .int r_92), (4, .int 4), (0, .ref (ad 30)), (1, .int til), (2, .int vo), (3, .int x)]) hx hb dX6_voice_95 hl (by decide) rfl (fun ls hl => ?_)
              refine lv_aload_n hx hb dX6_voice_97 rfl (lv_at hl 2 rfl) ?_
              refine fx_get X hE hP 0 rfl rfl 25 rfl q1193 rfl rfl dX6_voice_98 ?_
              refine lv_if_eq (tgt := 113) hx hb dX6_voice_101 (by decide) (fun c_101 => ?_) (fun c_101 => ?_)
              · -- jump 113
                have hpz : ¬ (sa (32 + 2 * nn til + 1) - nI (nn til) = 0) := fun h => by rw [hq_92.2.2.1, fx_b, if_pos h] at c_101; exact absurd c_101 (by decide)
                refine lv_iload hx hb dX6_voice_113 (lv_at hl 0 rfl) ?_
                exact hret r_92 (er, tr2_92, tn2_92, nI (nn til), ip2_92) (⟨by rw [voice_, if_pos (by simp [hb_1, hb_10]), hw]; rw [(trc_1 hq_92.2.1).1, (trc_1 hq_92.2.1).2]; rw [hq_92.1]; simp [voP, voV, voB, c_45, c_60, c_75, hpz], hq_92.2.2.2⟩) (rfl) hP hD hS (Nat.le_refl _) (Nat.le_refl _) dX6_voice_115
              · -- fall 104
                have hpz : sa (32 + 2 * nn til + 1) - nI (nn til) = 0 := by
                  rcases fx_bc hq_92.2.2.1 with ⟨h, -⟩ | ⟨-, h⟩
                  · exact h
                  · exact absurd h c_101
                refine lv_aload_n hx hb dX6_voice_104 rfl (lv_at hl 2 rfl) ?_
                refine lv_bipush (v := 6) hx hb dX6_voice_105 rfl ?_
                refine fx_ci (va_runV (As := [.int 6]) (rest := []) X (mX6_error l E ad im at_ op st_ us bn bm la fo fi lp (nI tn2_92) (nI (nn til)) ip2_92 er 6 (by decide) _) (cwV 1 X.2.2.2.2 (lw_V q1266 q1268 qs32 q75 q1269) rfl rfl rfl ⟨rfl, hdX6_error⟩ ⟨Nat.le_of_ble_eq_true rfl, Nat.le_of_ble_eq_true rfl⟩) (fx_preV (fx_pre hE hP hD hS hR [1] rfl rfl (fx_rcm 0 rfl (by decide) fx_rc0)) (va_recv hE.1 hP (ci := 6) (q0 := 0) rfl rfl)) rfl rfl hl.1 rfl (lv_room (Nat.le_of_ble_eq_true rfl)) dX6_voice_107 ⟨Nat.le_refl _, Nat.le_refl _⟩) hP hD hS hA [1] rfl rfl (fun r_107 u H locs hq_107 hP hD hS => ?_)
                replace hP : va_P E.1 clA [(ad 30, .inr (6, [.ref (ad 0), .ref (ad 1), .int im, .ref (ad 3), .int at_, .int op, .int st_, .int us, .ref (ad 8), .ref (ad 9), .ref (ad 10), .ref (ad 11), .ref (ad 12), .ref (ad 13), .ref (ad 14), .int bn, .int bm, .ref (ad 17), .int la, .int fo, .int fi, .int lp, .ref (ad 22), .int (nI tn2_92), .int (nI (nn til)), .int ip2_92, .ref (ad 26), .ref (ad 27), .ref (ad 28), .ref (ad 29)])), (ad 3, .inl (E.2 0, 7, .inl (upd er 6 (er 6 + 1)))), (ad 22, .inl (E.2 0, 30, .inl tr2_92))] _ := hP
                replace hD : va_D A [(ad 30, .inr (6, [.ref (ad 0), .ref (ad 1), .int im, .ref (ad 3), .int at_, .int op, .int st_, .int us, .ref (ad 8), .ref (ad 9), .ref (ad 10), .ref (ad 11), .ref (ad 12), .ref (ad 13), .ref (ad 14), .int bn, .int bm, .ref (ad 17), .int la, .int fo, .int fi, .int lp, .ref (ad 22), .int (nI tn2_92), .int (nI (nn til)), .int ip2_92, .ref (ad 26), .ref (ad 27), .ref (ad 28), .ref (ad 29)])), (ad 3, .inl (E.2 0, 7, .inl (upd er 6 (er 6 + 1)))), (ad 22, .inl (E.2 0, 30, .inl tr2_92))] := hD
                replace hq_107 : r_107 = erv 6 := hq_107
                refine lv_goto (tgt := 115) hx hb dX6_voice_110 (by decide) ?_
                exact hret r_107 ((upd er 6 (er 6 + 1)), tr2_92, tn2_92, nI (nn til), ip2_92) (⟨by rw [voice_, if_pos (by simp [hb_1, hb_10]), hw]; rw [(trc_1 hq_92.2.1).1, (trc_1 hq_92.2.1).2]; rw [hq_107]; simp [voP, voV, voB, c_45, c_60, c_75, hpz, erI], hq_92.2.2.2⟩) (rfl) hP hD hS (Nat.le_refl _) (Nat.le_refl _) dX6_voice_115
            · -- fall 78
              refine lv_aload_n hx hb dX6_voice_78 rfl (lv_at hl 1 rfl) ?_
              refine lv_iload hx hb dX6_voice_79 (lv_at hl 0 rfl) ?_
              refine lv_iload_n hx hb dX6_voice_81 rfl (lv_at hl 4 rfl) ?_
              refine fx_ci (va_runV (As := [.int 4, .int x]) (rest := []) X (mX6_givesAs4 l E ad im at_ op st_ us bn bm la fo fi lp 0 0 (nn til) sa tr 4 (sa (32 + 2 * nn til + 1)) x (Nat.zero_le 30) g1 ((hI.kd g1).1.trans (congrArg nI hw)) (by decide) rfl _) (cwV 2 X.2.2.2.2 (lw_V q1532 q1534 qs66 q75 q1535) rfl rfl rfl ⟨rfl, hdX6_givesAs⟩ ⟨Nat.le_of_ble_eq_true rfl, Nat.le_of_ble_eq_true rfl⟩) (fx_preV (fx_pre hE hP hD hS hR [0, 2] rfl rfl (fx_rcr 0 rfl fx_rc0)) (va_recv hE.1 hP (ci := 6) (q0 := 0) rfl rfl)) rfl rfl hl.1 rfl (lv_room (Nat.le_of_ble_eq_true rfl)) dX6_voice_82 ⟨Nat.le_refl _, Nat.le_refl _⟩) hP hD hS hA [0, 2] rfl rfl (fun r_82 u H locs hq_82 hP hD hS => ?_)
              obtain ⟨tr2_82, tn2_82⟩ := u
              replace hP : va_P E.1 clA [(ad 30, .inr (6, [.ref (ad 0), .ref (ad 1), .int im, .ref (ad 3), .int at_, .int op, .int st_, .int us, .ref (ad 8), .ref (ad 9), .ref (ad 10), .ref (ad 11), .ref (ad 12), .ref (ad 13), .ref (ad 14), .int bn, .int bm, .ref (ad 17), .int la, .int fo, .int fi, .int lp, .ref (ad 22), .int (nI tn2_82), .int (nI (nn til)), .int 0, .ref (ad 26), .ref (ad 27), .ref (ad 28), .ref (ad 29)])), (ad 3, .inl (E.2 0, 7, .inl er)), (ad 22, .inl (E.2 0, 30, .inl tr2_82))] _ := hP
              replace hD : va_D A [(ad 30, .inr (6, [.ref (ad 0), .ref (ad 1), .int im, .ref (ad 3), .int at_, .int op, .int st_, .int us, .ref (ad 8), .ref (ad 9), .ref (ad 10), .ref (ad 11), .ref (ad 12), .ref (ad 13), .ref (ad 14), .int bn, .int bm, .ref (ad 17), .int la, .int fo, .int fi, .int lp, .ref (ad 22), .int (nI tn2_82), .int (nI (nn til)), .int 0, .ref (ad 26), .ref (ad 27), .ref (ad 28), .ref (ad 29)])), (ad 3, .inl (E.2 0, 7, .inl er)), (ad 22, .inl (E.2 0, 30, .inl tr2_82))] := hD
              replace hq_82 : r_82 = givesV 4 4 (nI (nn til)) (sa (32 + 2 * nn til + 1)) x ∧ (tr2_82, tn2_82) = bgL (tr, 0) (givesB 4 4) ∧ tn2_82 ≤ 30 := hq_82
              refine lv_goto (tgt := 95) hx hb dX6_voice_85 (by decide) ?_
              refine lv_istore (lv' := [(5, .int r_82), (4, .int 4), (0, .ref (ad 30)), (1, .int til), (2, .int vo), (3, .int x)]) hx hb dX6_voice_95 hl (by decide) rfl (fun ls hl => ?_)
              refine lv_aload_n hx hb dX6_voice_97 rfl (lv_at hl 2 rfl) ?_
              refine fx_get X hE hP 0 rfl rfl 25 rfl q1193 rfl rfl dX6_voice_98 ?_
              refine lv_if_eq (tgt := 113) hx hb dX6_voice_101 (by decide) (fun _ => ?_) (fun c => (c (by decide)).elim)
              refine lv_iload hx hb dX6_voice_113 (lv_at hl 0 rfl) ?_
              exact hret r_82 (er, tr2_82, tn2_82, nI (nn til), 0) (⟨by rw [voice_, if_pos (by simp [hb_1, hb_10]), hw]; rw [(trc_1 hq_82.2.1).1, (trc_1 hq_82.2.1).2]; rw [hq_82.1]; simp [voP, voV, voB, c_45, c_60, c_75], hq_82.2.2⟩) (rfl) hP hD hS (Nat.le_refl _) (Nat.le_refl _) dX6_voice_115
          · -- fall 63
            refine lv_aload_n hx hb dX6_voice_63 rfl (lv_at hl 1 rfl) ?_
            refine lv_iload hx hb dX6_voice_64 (lv_at hl 0 rfl) ?_
            refine lv_iload_n hx hb dX6_voice_66 rfl (lv_at hl 4 rfl) ?_
            refine fx_ci (va_runV (As := [.int 4, .int x]) (rest := []) X (mX6_comesAs4 l E ad im at_ op st_ us bn bm la fo fi lp 0 0 (nn til) sa tr 4 (sa (32 + 2 * nn til + 1)) x (Nat.zero_le 30) g1 ((hI.kd g1).1.trans (congrArg nI hw)) (by decide) rfl _) (cwV 2 X.2.2.2.2 (lw_V q1528 q1530 qs65 q75 q1531) rfl rfl rfl ⟨rfl, hdX6_comesAs⟩ ⟨Nat.le_of_ble_eq_true rfl, Nat.le_of_ble_eq_true rfl⟩) (fx_preV (fx_pre hE hP hD hS hR [0, 2] rfl rfl (fx_rcr 0 rfl fx_rc0)) (va_recv hE.1 hP (ci := 6) (q0 := 0) rfl rfl)) rfl rfl hl.1 rfl (lv_room (Nat.le_of_ble_eq_true rfl)) dX6_voice_67 ⟨Nat.le_refl _, Nat.le_refl _⟩) hP hD hS hA [0, 2] rfl rfl (fun r_67 u H locs hq_67 hP hD hS => ?_)
            obtain ⟨tr2_67, tn2_67⟩ := u
            replace hP : va_P E.1 clA [(ad 30, .inr (6, [.ref (ad 0), .ref (ad 1), .int im, .ref (ad 3), .int at_, .int op, .int st_, .int us, .ref (ad 8), .ref (ad 9), .ref (ad 10), .ref (ad 11), .ref (ad 12), .ref (ad 13), .ref (ad 14), .int bn, .int bm, .ref (ad 17), .int la, .int fo, .int fi, .int lp, .ref (ad 22), .int (nI tn2_67), .int (nI (nn til)), .int 0, .ref (ad 26), .ref (ad 27), .ref (ad 28), .ref (ad 29)])), (ad 3, .inl (E.2 0, 7, .inl er)), (ad 22, .inl (E.2 0, 30, .inl tr2_67))] _ := hP
            replace hD : va_D A [(ad 30, .inr (6, [.ref (ad 0), .ref (ad 1), .int im, .ref (ad 3), .int at_, .int op, .int st_, .int us, .ref (ad 8), .ref (ad 9), .ref (ad 10), .ref (ad 11), .ref (ad 12), .ref (ad 13), .ref (ad 14), .int bn, .int bm, .ref (ad 17), .int la, .int fo, .int fi, .int lp, .ref (ad 22), .int (nI tn2_67), .int (nI (nn til)), .int 0, .ref (ad 26), .ref (ad 27), .ref (ad 28), .ref (ad 29)])), (ad 3, .inl (E.2 0, 7, .inl er)), (ad 22, .inl (E.2 0, 30, .inl tr2_67))] := hD
            replace hq_67 : r_67 = comesV 4 4 (nI (nn til)) (sa (32 + 2 * nn til + 1)) x ∧ (tr2_67, tn2_67) = bgL (tr, 0) (comesB 4 4) ∧ tn2_67 ≤ 30 := hq_67
            refine lv_goto (tgt := 95) hx hb dX6_voice_70 (by decide) ?_
            refine lv_istore (lv' := [(5, .int r_67), (4, .int 4), (0, .ref (ad 30)), (1, .int til), (2, .int vo), (3, .int x)]) hx hb dX6_voice_95 hl (by decide) rfl (fun ls hl => ?_)
            refine lv_aload_n hx hb dX6_voice_97 rfl (lv_at hl 2 rfl) ?_
            refine fx_get X hE hP 0 rfl rfl 25 rfl q1193 rfl rfl dX6_voice_98 ?_
            refine lv_if_eq (tgt := 113) hx hb dX6_voice_101 (by decide) (fun _ => ?_) (fun c => (c (by decide)).elim)
            refine lv_iload hx hb dX6_voice_113 (lv_at hl 0 rfl) ?_
            exact hret r_67 (er, tr2_67, tn2_67, nI (nn til), 0) (⟨by rw [voice_, if_pos (by simp [hb_1, hb_10]), hw]; rw [(trc_1 hq_67.2.1).1, (trc_1 hq_67.2.1).2]; rw [hq_67.1]; simp [voP, voV, voB, c_45, c_60], hq_67.2.2⟩) (rfl) hP hD hS (Nat.le_refl _) (Nat.le_refl _) dX6_voice_115
        · -- fall 48
          refine lv_aload_n hx hb dX6_voice_48 rfl (lv_at hl 1 rfl) ?_
          refine lv_iload hx hb dX6_voice_49 (lv_at hl 0 rfl) ?_
          refine lv_iload_n hx hb dX6_voice_51 rfl (lv_at hl 4 rfl) ?_
          refine fx_ci (va_runV (As := [.int 4, .int x]) (rest := []) X (mX6_addsAs4 l E ad im at_ op st_ us bn bm la fo fi lp 0 0 (nn til) tr x (Nat.zero_le 30) _) (cwV 2 X.2.2.2.2 (lw_V q1517 q1519 qs63 q75 q1520) rfl rfl rfl ⟨rfl, hdX6_addsAs⟩ ⟨Nat.le_of_ble_eq_true rfl, Nat.le_of_ble_eq_true rfl⟩) (fx_preV (fx_pre hE hP hD hS hR [0, 2] rfl rfl fx_rc0) (va_recv hE.1 hP (ci := 6) (q0 := 0) rfl rfl)) rfl rfl hl.1 rfl (lv_room (Nat.le_of_ble_eq_true rfl)) dX6_voice_52 ⟨Nat.le_refl _, Nat.le_refl _⟩) hP hD hS hA [0, 2] rfl rfl (fun r_52 u H locs hq_52 hP hD hS => ?_)
          obtain ⟨tr2_52, tn2_52⟩ := u
          replace hP : va_P E.1 clA [(ad 30, .inr (6, [.ref (ad 0), .ref (ad 1), .int im, .ref (ad 3), .int at_, .int op, .int st_, .int us, .ref (ad 8), .ref (ad 9), .ref (ad 10), .ref (ad 11), .ref (ad 12), .ref (ad 13), .ref (ad 14), .int bn, .int bm, .ref (ad 17), .int la, .int fo, .int fi, .int lp, .ref (ad 22), .int (nI tn2_52), .int (nI (nn til)), .int 0, .ref (ad 26), .ref (ad 27), .ref (ad 28), .ref (ad 29)])), (ad 3, .inl (E.2 0, 7, .inl er)), (ad 22, .inl (E.2 0, 30, .inl tr2_52))] _ := hP
          replace hD : va_D A [(ad 30, .inr (6, [.ref (ad 0), .ref (ad 1), .int im, .ref (ad 3), .int at_, .int op, .int st_, .int us, .ref (ad 8), .ref (ad 9), .ref (ad 10), .ref (ad 11), .ref (ad 12), .ref (ad 13), .ref (ad 14), .int bn, .int bm, .ref (ad 17), .int la, .int fo, .int fi, .int lp, .ref (ad 22), .int (nI tn2_52), .int (nI (nn til)), .int 0, .ref (ad 26), .ref (ad 27), .ref (ad 28), .ref (ad 29)])), (ad 3, .inl (E.2 0, 7, .inl er)), (ad 22, .inl (E.2 0, 30, .inl tr2_52))] := hD
          replace hq_52 : r_52 = addsV 4 (nI (nn til)) x ∧ (tr2_52, tn2_52) = bgL (tr, 0) (addsB 4) ∧ tn2_52 ≤ 30 := hq_52
          refine lv_goto (tgt := 95) hx hb dX6_voice_55 (by decide) ?_
          refine lv_istore (lv' := [(5, .int r_52), (4, .int 4), (0, .ref (ad 30)), (1, .int til), (2, .int vo), (3, .int x)]) hx hb dX6_voice_95 hl (by decide) rfl (fun ls hl => ?_)
          refine lv_aload_n hx hb dX6_voice_97 rfl (lv_at hl 2 rfl) ?_
          refine fx_get X hE hP 0 rfl rfl 25 rfl q1193 rfl rfl dX6_voice_98 ?_
          refine lv_if_eq (tgt := 113) hx hb dX6_voice_101 (by decide) (fun _ => ?_) (fun c => (c (by decide)).elim)
          refine lv_iload hx hb dX6_voice_113 (lv_at hl 0 rfl) ?_
          exact hret r_52 (er, tr2_52, tn2_52, nI (nn til), 0) (⟨by rw [voice_, if_pos (by simp [hb_1, hb_10]), hw]; rw [(trc_1 hq_52.2.1).1, (trc_1 hq_52.2.1).2]; rw [hq_52.1]; simp [voP, voV, voB, c_45], hq_52.2.2⟩) (rfl) hP hD hS (Nat.le_refl _) (Nat.le_refl _) dX6_voice_115
      ·
        refine fx_ti (show r_39 = 5 from hq_39.trans ((hI.kd g1).1.trans (congrArg nI hw))) ?_
        refine lv_istore (lv' := [(4, .int 5), (0, .ref (ad 30)), (1, .int til), (2, .int vo), (3, .int x)]) hx hb dX6_voice_42 hl (by decide) rfl (fun ls hl => ?_)
        refine lv_iload_n hx hb dX6_voice_44 rfl (lv_at hl 3 rfl) ?_
        refine lv_if_ne (tgt := 58) hx hb dX6_voice_45 (by decide) (fun c_45 => ?_) (fun c_45 => ?_)
        · -- jump 58
          refine lv_iload_n hx hb dX6_voice_58 rfl (lv_at hl 3 rfl) ?_
          refine lv_iconst (v := 1) hx hb dX6_voice_59 rfl ?_
          refine lv_icmp_ne (tgt := 73) hx hb dX6_voice_60 (by decide) (fun c_60 => ?_) (fun c_60 => ?_)
          · -- jump 73
            refine lv_iload_n hx hb dX6_voice_73 rfl (lv_at hl 3 rfl) ?_
            refine lv_iconst (v := 2) hx hb dX6_voice_74 rfl ?_
            refine lv_icmp_ne (tgt := 88) hx hb dX6_voice_75 (by decide) (fun c_75 => ?_) (fun c_75 => ?_)
            · -- jump 88
              refine lv_aload_n hx hb dX6_voice_88 rfl (lv_at hl 1 rfl) ?_
              refine lv_iload hx hb dX6_voice_89 (lv_at hl 0 rfl) ?_
              refine lv_iload_n hx hb dX6_voice_91 rfl (lv_at hl 4 rfl) ?_
              refine fx_ci (va_runV (As := [.int 5, .int x]) (rest := []) X (mX6_partsAs5 l E ad im at_ op st_ us bn bm la fo fi lp 0 0 (nn til) sa tr 5 (sa (32 + 2 * nn til + 1)) x (Nat.zero_le 30) g1 ((hI.kd g1).1.trans (congrArg nI hw)) (by decide) rfl _) (cwV 2 X.2.2.2.2 (lw_V q1536 q1538 qs67 q75 q1539) rfl rfl rfl ⟨rfl, hdX6_partsAs⟩ ⟨Nat.le_of_ble_eq_true rfl, Nat.le_of_ble_eq_true rfl⟩) (fx_preV (fx_pre hE hP hD hS hR [0, 2] rfl rfl (fx_rcr 0 rfl fx_rc0)) (va_recv hE.1 hP (ci := 6) (q0 := 0) rfl rfl)) rfl rfl hl.1 rfl (lv_room (Nat.le_of_ble_eq_true rfl)) dX6_voice_92 ⟨Nat.le_refl _, Nat.le_refl _⟩) hP hD hS hA [0, 2] rfl rfl (fun r_92 u H locs hq_92 hP hD hS => ?_)
              obtain ⟨tr2_92, tn2_92, ip2_92⟩ := u
              replace hP : va_P E.1 clA [(ad 30, .inr (6, [.ref (ad 0), .ref (ad 1), .int im, .ref (ad 3), .int at_, .int op, .int st_, .int us, .ref (ad 8), .ref (ad 9), .ref (ad 10), .ref (ad 11), .ref (ad 12), .ref (ad 13), .ref (ad 14), .int bn, .int bm, .ref (ad 17), .int la, .int fo, .int fi, .int lp, .ref (ad 22), .int (nI tn2_92), .int (nI (nn til)), .int ip2_92, .ref (ad 26), .ref (ad 27), .ref (ad 28), .ref (ad 29)])), (ad 3, .inl (E.2 0, 7, .inl er)), (ad 22, .inl (E.2 0, 30, .inl tr2_92))] _ := hP
              replace hD : va_D A [(ad 30, .inr (6, [.ref (ad 0), .ref (ad 1), .int im, .ref (ad 3), .int at_, .int op, .int st_, .int us, .ref (ad 8), .ref (ad 9), .ref (ad 10), .ref (ad 11), .ref (ad 12), .ref (ad 13), .ref (ad 14), .int bn, .int bm, .ref (ad 17), .int la, .int fo, .int fi, .int lp, .ref (ad 22), .int (nI tn2_92), .int (nI (nn til)), .int ip2_92, .ref (ad 26), .ref (ad 27), .ref (ad 28), .ref (ad 29)])), (ad 3, .inl (E.2 0, 7, .inl er)), (ad 22, .inl (E.2 0, 30, .inl tr2_92))] := hD
              replace hq_92 : r_92 = partsV 5 5 (nI (nn til)) (sa (32 + 2 * nn til + 1)) x ∧ (tr2_92, tn2_92) = bgL (tr, 0) (partsB 5 5 (nI (nn til)) (sa (32 + 2 * nn til + 1))) ∧ ip2_92 = fx_b ((sa (32 + 2 * nn til + 1)) - nI (nn til) = 0) ∧ tn2_92 ≤ 30 := hq_92
              refine lv_istore (lv' := [(5, .int r_92), (4, .int 5), (0, .ref (ad 30)), (1, .int til), (2, .int vo), (3, .int x)]) hx hb dX6_voice_95 hl (by decide) rfl (fun ls hl => ?_)
              refine lv_aload_n hx hb dX6_voice_97 rfl (lv_at hl 2 rfl) ?_
              refine fx_get X hE hP 0 rfl rfl 25 rfl q1193 rfl rfl dX6_voice_98 ?_
              refine lv_if_eq (tgt := 113) hx hb dX6_voice_101 (by decide) (fun c_101 => ?_) (fun c_101 => ?_)
              · -- jump 113
                have hpz : ¬ (sa (32 + 2 * nn til + 1) - nI (nn til) = 0) := fun h => by rw [hq_92.2.2.1, fx_b, if_pos h] at c_101; exact absurd c_101 (by decide)
                refine lv_iload hx hb dX6_voice_113 (lv_at hl 0 rfl) ?_
                exact hret r_92 (er, tr2_92, tn2_92, nI (nn til), ip2_92) (⟨by rw [voice_, if_pos (by simp [hb_1, hb_10]), hw]; rw [(trc_1 hq_92.2.1).1, (trc_1 hq_92.2.1).2]; rw [hq_92.1]; simp [voP, voV, voB, c_45, c_60, c_75, hpz], hq_92.2.2.2⟩) (rfl) hP hD hS (Nat.le_refl _) (Nat.le_refl _) dX6_voice_115
              · -- fall 104
                have hpz : sa (32 + 2 * nn til + 1) - nI (nn til) = 0 := by
                  rcases fx_bc hq_92.2.2.1 with ⟨h, -⟩ | ⟨-, h⟩
                  · exact h
                  · exact absurd h c_101
                refine lv_aload_n hx hb dX6_voice_104 rfl (lv_at hl 2 rfl) ?_
                refine lv_bipush (v := 6) hx hb dX6_voice_105 rfl ?_
                refine fx_ci (va_runV (As := [.int 6]) (rest := []) X (mX6_error l E ad im at_ op st_ us bn bm la fo fi lp (nI tn2_92) (nI (nn til)) ip2_92 er 6 (by decide) _) (cwV 1 X.2.2.2.2 (lw_V q1266 q1268 qs32 q75 q1269) rfl rfl rfl ⟨rfl, hdX6_error⟩ ⟨Nat.le_of_ble_eq_true rfl, Nat.le_of_ble_eq_true rfl⟩) (fx_preV (fx_pre hE hP hD hS hR [1] rfl rfl (fx_rcm 0 rfl (by decide) fx_rc0)) (va_recv hE.1 hP (ci := 6) (q0 := 0) rfl rfl)) rfl rfl hl.1 rfl (lv_room (Nat.le_of_ble_eq_true rfl)) dX6_voice_107 ⟨Nat.le_refl _, Nat.le_refl _⟩) hP hD hS hA [1] rfl rfl (fun r_107 u H locs hq_107 hP hD hS => ?_)
                replace hP : va_P E.1 clA [(ad 30, .inr (6, [.ref (ad 0), .ref (ad 1), .int im, .ref (ad 3), .int at_, .int op, .int st_, .int us, .ref (ad 8), .ref (ad 9), .ref (ad 10), .ref (ad 11), .ref (ad 12), .ref (ad 13), .ref (ad 14), .int bn, .int bm, .ref (ad 17), .int la, .int fo, .int fi, .int lp, .ref (ad 22), .int (nI tn2_92), .int (nI (nn til)), .int ip2_92, .ref (ad 26), .ref (ad 27), .ref (ad 28), .ref (ad 29)])), (ad 3, .inl (E.2 0, 7, .inl (upd er 6 (er 6 + 1)))), (ad 22, .inl (E.2 0, 30, .inl tr2_92))] _ := hP
                replace hD : va_D A [(ad 30, .inr (6, [.ref (ad 0), .ref (ad 1), .int im, .ref (ad 3), .int at_, .int op, .int st_, .int us, .ref (ad 8), .ref (ad 9), .ref (ad 10), .ref (ad 11), .ref (ad 12), .ref (ad 13), .ref (ad 14), .int bn, .int bm, .ref (ad 17), .int la, .int fo, .int fi, .int lp, .ref (ad 22), .int (nI tn2_92), .int (nI (nn til)), .int ip2_92, .ref (ad 26), .ref (ad 27), .ref (ad 28), .ref (ad 29)])), (ad 3, .inl (E.2 0, 7, .inl (upd er 6 (er 6 + 1)))), (ad 22, .inl (E.2 0, 30, .inl tr2_92))] := hD
                replace hq_107 : r_107 = erv 6 := hq_107
                refine lv_goto (tgt := 115) hx hb dX6_voice_110 (by decide) ?_
                exact hret r_107 ((upd er 6 (er 6 + 1)), tr2_92, tn2_92, nI (nn til), ip2_92) (⟨by rw [voice_, if_pos (by simp [hb_1, hb_10]), hw]; rw [(trc_1 hq_92.2.1).1, (trc_1 hq_92.2.1).2]; rw [hq_107]; simp [voP, voV, voB, c_45, c_60, c_75, hpz, erI], hq_92.2.2.2⟩) (rfl) hP hD hS (Nat.le_refl _) (Nat.le_refl _) dX6_voice_115
            · -- fall 78
              refine lv_aload_n hx hb dX6_voice_78 rfl (lv_at hl 1 rfl) ?_
              refine lv_iload hx hb dX6_voice_79 (lv_at hl 0 rfl) ?_
              refine lv_iload_n hx hb dX6_voice_81 rfl (lv_at hl 4 rfl) ?_
              refine fx_ci (va_runV (As := [.int 5, .int x]) (rest := []) X (mX6_givesAs5 l E ad im at_ op st_ us bn bm la fo fi lp 0 0 (nn til) sa tr 5 (sa (32 + 2 * nn til + 1)) x (Nat.zero_le 30) g1 ((hI.kd g1).1.trans (congrArg nI hw)) (by decide) rfl _) (cwV 2 X.2.2.2.2 (lw_V q1532 q1534 qs66 q75 q1535) rfl rfl rfl ⟨rfl, hdX6_givesAs⟩ ⟨Nat.le_of_ble_eq_true rfl, Nat.le_of_ble_eq_true rfl⟩) (fx_preV (fx_pre hE hP hD hS hR [0, 2] rfl rfl (fx_rcr 0 rfl fx_rc0)) (va_recv hE.1 hP (ci := 6) (q0 := 0) rfl rfl)) rfl rfl hl.1 rfl (lv_room (Nat.le_of_ble_eq_true rfl)) dX6_voice_82 ⟨Nat.le_refl _, Nat.le_refl _⟩) hP hD hS hA [0, 2] rfl rfl (fun r_82 u H locs hq_82 hP hD hS => ?_)
              obtain ⟨tr2_82, tn2_82⟩ := u
              replace hP : va_P E.1 clA [(ad 30, .inr (6, [.ref (ad 0), .ref (ad 1), .int im, .ref (ad 3), .int at_, .int op, .int st_, .int us, .ref (ad 8), .ref (ad 9), .ref (ad 10), .ref (ad 11), .ref (ad 12), .ref (ad 13), .ref (ad 14), .int bn, .int bm, .ref (ad 17), .int la, .int fo, .int fi, .int lp, .ref (ad 22), .int (nI tn2_82), .int (nI (nn til)), .int 0, .ref (ad 26), .ref (ad 27), .ref (ad 28), .ref (ad 29)])), (ad 3, .inl (E.2 0, 7, .inl er)), (ad 22, .inl (E.2 0, 30, .inl tr2_82))] _ := hP
              replace hD : va_D A [(ad 30, .inr (6, [.ref (ad 0), .ref (ad 1), .int im, .ref (ad 3), .int at_, .int op, .int st_, .int us, .ref (ad 8), .ref (ad 9), .ref (ad 10), .ref (ad 11), .ref (ad 12), .ref (ad 13), .ref (ad 14), .int bn, .int bm, .ref (ad 17), .int la, .int fo, .int fi, .int lp, .ref (ad 22), .int (nI tn2_82), .int (nI (nn til)), .int 0, .ref (ad 26), .ref (ad 27), .ref (ad 28), .ref (ad 29)])), (ad 3, .inl (E.2 0, 7, .inl er)), (ad 22, .inl (E.2 0, 30, .inl tr2_82))] := hD
              replace hq_82 : r_82 = givesV 5 5 (nI (nn til)) (sa (32 + 2 * nn til + 1)) x ∧ (tr2_82, tn2_82) = bgL (tr, 0) (givesB 5 5) ∧ tn2_82 ≤ 30 := hq_82
              refine lv_goto (tgt := 95) hx hb dX6_voice_85 (by decide) ?_
              refine lv_istore (lv' := [(5, .int r_82), (4, .int 5), (0, .ref (ad 30)), (1, .int til), (2, .int vo), (3, .int x)]) hx hb dX6_voice_95 hl (by decide) rfl (fun ls hl => ?_)
              refine lv_aload_n hx hb dX6_voice_97 rfl (lv_at hl 2 rfl) ?_
              refine fx_get X hE hP 0 rfl rfl 25 rfl q1193 rfl rfl dX6_voice_98 ?_
              refine lv_if_eq (tgt := 113) hx hb dX6_voice_101 (by decide) (fun _ => ?_) (fun c => (c (by decide)).elim)
              refine lv_iload hx hb dX6_voice_113 (lv_at hl 0 rfl) ?_
              exact hret r_82 (er, tr2_82, tn2_82, nI (nn til), 0) (⟨by rw [voice_, if_pos (by simp [hb_1, hb_10]), hw]; rw [(trc_1 hq_82.2.1).1, (trc_1 hq_82.2.1).2]; rw [hq_82.1]; simp [voP, voV, voB, c_45, c_60, c_75], hq_82.2.2⟩) (rfl) hP hD hS (Nat.le_refl _) (Nat.le_refl _) dX6_voice_115
          · -- fall 63
            refine lv_aload_n hx hb dX6_voice_63 rfl (lv_at hl 1 rfl) ?_
            refine lv_iload hx hb dX6_voice_64 (lv_at hl 0 rfl) ?_
            refine lv_iload_n hx hb dX6_voice_66 rfl (lv_at hl 4 rfl) ?_
            refine fx_ci (va_runV (As := [.int 5, .int x]) (rest := []) X (mX6_comesAs5 l E ad im at_ op st_ us bn bm la fo fi lp 0 0 (nn til) sa tr 5 (sa (32 + 2 * nn til + 1)) x (Nat.zero_le 30) g1 ((hI.kd g1).1.trans (congrArg nI hw)) (by decide) rfl _) (cwV 2 X.2.2.2.2 (lw_V q1528 q1530 qs65 q75 q1531) rfl rfl rfl ⟨rfl, hdX6_comesAs⟩ ⟨Nat.le_of_ble_eq_true rfl, Nat.le_of_ble_eq_true rfl⟩) (fx_preV (fx_pre hE hP hD hS hR [0, 2] rfl rfl (fx_rcr 0 rfl fx_rc0)) (va_recv hE.1 hP (ci := 6) (q0 := 0) rfl rfl)) rfl rfl hl.1 rfl (lv_room (Nat.le_of_ble_eq_true rfl)) dX6_voice_67 ⟨Nat.le_refl _, Nat.le_refl _⟩) hP hD hS hA [0, 2] rfl rfl (fun r_67 u H locs hq_67 hP hD hS => ?_)
            obtain ⟨tr2_67, tn2_67⟩ := u
            replace hP : va_P E.1 clA [(ad 30, .inr (6, [.ref (ad 0), .ref (ad 1), .int im, .ref (ad 3), .int at_, .int op, .int st_, .int us, .ref (ad 8), .ref (ad 9), .ref (ad 10), .ref (ad 11), .ref (ad 12), .ref (ad 13), .ref (ad 14), .int bn, .int bm, .ref (ad 17), .int la, .int fo, .int fi, .int lp, .ref (ad 22), .int (nI tn2_67), .int (nI (nn til)), .int 0, .ref (ad 26), .ref (ad 27), .ref (ad 28), .ref (ad 29)])), (ad 3, .inl (E.2 0, 7, .inl er)), (ad 22, .inl (E.2 0, 30, .inl tr2_67))] _ := hP
            replace hD : va_D A [(ad 30, .inr (6, [.ref (ad 0), .ref (ad 1), .int im, .ref (ad 3), .int at_, .int op, .int st_, .int us, .ref (ad 8), .ref (ad 9), .ref (ad 10), .ref (ad 11), .ref (ad 12), .ref (ad 13), .ref (ad 14), .int bn, .int bm, .ref (ad 17), .int la, .int fo, .int fi, .int lp, .ref (ad 22), .int (nI tn2_67), .int (nI (nn til)), .int 0, .ref (ad 26), .ref (ad 27), .ref (ad 28), .ref (ad 29)])), (ad 3, .inl (E.2 0, 7, .inl er)), (ad 22, .inl (E.2 0, 30, .inl tr2_67))] := hD
            replace hq_67 : r_67 = comesV 5 5 (nI (nn til)) (sa (32 + 2 * nn til + 1)) x ∧ (tr2_67, tn2_67) = bgL (tr, 0) (comesB 5 5) ∧ tn2_67 ≤ 30 := hq_67
            refine lv_goto (tgt := 95) hx hb dX6_voice_70 (by decide) ?_
            refine lv_istore (lv' := [(5, .int r_67), (4, .int 5), (0, .ref (ad 30)), (1, .int til), (2, .int vo), (3, .int x)]) hx hb dX6_voice_95 hl (by decide) rfl (fun ls hl => ?_)
            refine lv_aload_n hx hb dX6_voice_97 rfl (lv_at hl 2 rfl) ?_
            refine fx_get X hE hP 0 rfl rfl 25 rfl q1193 rfl rfl dX6_voice_98 ?_
            refine lv_if_eq (tgt := 113) hx hb dX6_voice_101 (by decide) (fun _ => ?_) (fun c => (c (by decide)).elim)
            refine lv_iload hx hb dX6_voice_113 (lv_at hl 0 rfl) ?_
            exact hret r_67 (er, tr2_67, tn2_67, nI (nn til), 0) (⟨by rw [voice_, if_pos (by simp [hb_1, hb_10]), hw]; rw [(trc_1 hq_67.2.1).1, (trc_1 hq_67.2.1).2]; rw [hq_67.1]; simp [voP, voV, voB, c_45, c_60], hq_67.2.2⟩) (rfl) hP hD hS (Nat.le_refl _) (Nat.le_refl _) dX6_voice_115
        · -- fall 48
          refine lv_aload_n hx hb dX6_voice_48 rfl (lv_at hl 1 rfl) ?_
          refine lv_iload hx hb dX6_voice_49 (lv_at hl 0 rfl) ?_
          refine lv_iload_n hx hb dX6_voice_51 rfl (lv_at hl 4 rfl) ?_
          refine fx_ci (va_runV (As := [.int 5, .int x]) (rest := []) X (mX6_addsAs5 l E ad im at_ op st_ us bn bm la fo fi lp 0 0 (nn til) tr x (Nat.zero_le 30) _) (cwV 2 X.2.2.2.2 (lw_V q1517 q1519 qs63 q75 q1520) rfl rfl rfl ⟨rfl, hdX6_addsAs⟩ ⟨Nat.le_of_ble_eq_true rfl, Nat.le_of_ble_eq_true rfl⟩) (fx_preV (fx_pre hE hP hD hS hR [0, 2] rfl rfl fx_rc0) (va_recv hE.1 hP (ci := 6) (q0 := 0) rfl rfl)) rfl rfl hl.1 rfl (lv_room (Nat.le_of_ble_eq_true rfl)) dX6_voice_52 ⟨Nat.le_refl _, Nat.le_refl _⟩) hP hD hS hA [0, 2] rfl rfl (fun r_52 u H locs hq_52 hP hD hS => ?_)
          obtain ⟨tr2_52, tn2_52⟩ := u
          replace hP : va_P E.1 clA [(ad 30, .inr (6, [.ref (ad 0), .ref (ad 1), .int im, .ref (ad 3), .int at_, .int op, .int st_, .int us, .ref (ad 8), .ref (ad 9), .ref (ad 10), .ref (ad 11), .ref (ad 12), .ref (ad 13), .ref (ad 14), .int bn, .int bm, .ref (ad 17), .int la, .int fo, .int fi, .int lp, .ref (ad 22), .int (nI tn2_52), .int (nI (nn til)), .int 0, .ref (ad 26), .ref (ad 27), .ref (ad 28), .ref (ad 29)])), (ad 3, .inl (E.2 0, 7, .inl er)), (ad 22, .inl (E.2 0, 30, .inl tr2_52))] _ := hP
          replace hD : va_D A [(ad 30, .inr (6, [.ref (ad 0), .ref (ad 1), .int im, .ref (ad 3), .int at_, .int op, .int st_, .int us, .ref (ad 8), .ref (ad 9), .ref (ad 10), .ref (ad 11), .ref (ad 12), .ref (ad 13), .ref (ad 14), .int bn, .int bm, .ref (ad 17), .int la, .int fo, .int fi, .int lp, .ref (ad 22), .int (nI tn2_52), .int (nI (nn til)), .int 0, .ref (ad 26), .ref (ad 27), .ref (ad 28), .ref (ad 29)])), (ad 3, .inl (E.2 0, 7, .inl er)), (ad 22, .inl (E.2 0, 30, .inl tr2_52))] := hD
          replace hq_52 : r_52 = addsV 5 (nI (nn til)) x ∧ (tr2_52, tn2_52) = bgL (tr, 0) (addsB 5) ∧ tn2_52 ≤ 30 := hq_52
          refine lv_goto (tgt := 95) hx hb dX6_voice_55 (by decide) ?_
          refine lv_istore (lv' := [(5, .int r_52), (4, .int 5), (0, .ref (ad 30)), (1, .int til), (2, .int vo), (3, .int x)]) hx hb dX6_voice_95 hl (by decide) rfl (fun ls hl => ?_)
          refine lv_aload_n hx hb dX6_voice_97 rfl (lv_at hl 2 rfl) ?_
          refine fx_get X hE hP 0 rfl rfl 25 rfl q1193 rfl rfl dX6_voice_98 ?_
          refine lv_if_eq (tgt := 113) hx hb dX6_voice_101 (by decide) (fun _ => ?_) (fun c => (c (by decide)).elim)
          refine lv_iload hx hb dX6_voice_113 (lv_at hl 0 rfl) ?_
          exact hret r_52 (er, tr2_52, tn2_52, nI (nn til), 0) (⟨by rw [voice_, if_pos (by simp [hb_1, hb_10]), hw]; rw [(trc_1 hq_52.2.1).1, (trc_1 hq_52.2.1).2]; rw [hq_52.1]; simp [voP, voV, voB, c_45], hq_52.2.2⟩) (rfl) hP hD hS (Nat.le_refl _) (Nat.le_refl _) dX6_voice_115
      ·
        refine fx_ti (show r_39 = 6 from hq_39.trans ((hI.kd g1).1.trans (congrArg nI hw))) ?_
        refine lv_istore (lv' := [(4, .int 6), (0, .ref (ad 30)), (1, .int til), (2, .int vo), (3, .int x)]) hx hb dX6_voice_42 hl (by decide) rfl (fun ls hl => ?_)
        refine lv_iload_n hx hb dX6_voice_44 rfl (lv_at hl 3 rfl) ?_
        refine lv_if_ne (tgt := 58) hx hb dX6_voice_45 (by decide) (fun c_45 => ?_) (fun c_45 => ?_)
        · -- jump 58
          refine lv_iload_n hx hb dX6_voice_58 rfl (lv_at hl 3 rfl) ?_
          refine lv_iconst (v := 1) hx hb dX6_voice_59 rfl ?_
          refine lv_icmp_ne (tgt := 73) hx hb dX6_voice_60 (by decide) (fun c_60 => ?_) (fun c_60 => ?_)
          · -- jump 73
            refine lv_iload_n hx hb dX6_voice_73 rfl (lv_at hl 3 rfl) ?_
            refine lv_iconst (v := 2) hx hb dX6_voice_74 rfl ?_
            refine lv_icmp_ne (tgt := 88) hx hb dX6_voice_75 (by decide) (fun c_75 => ?_) (fun c_75 => ?_)
            · -- jump 88
              refine lv_aload_n hx hb dX6_voice_88 rfl (lv_at hl 1 rfl) ?_
              refine lv_iload hx hb dX6_voice_89 (lv_at hl 0 rfl) ?_
              refine lv_iload_n hx hb dX6_voice_91 rfl (lv_at hl 4 rfl) ?_
              refine fx_ci (va_runV (As := [.int 6, .int x]) (rest := []) X (mX6_partsAs6 l E ad im at_ op st_ us bn bm la fo fi lp 0 0 (nn til) sa tr 6 (sa (32 + 2 * nn til + 1)) x (Nat.zero_le 30) g1 ((hI.kd g1).1.trans (congrArg nI hw)) (by decide) rfl _) (cwV 2 X.2.2.2.2 (lw_V q1536 q1538 qs67 q75 q1539) rfl rfl rfl ⟨rfl, hdX6_partsAs⟩ ⟨Nat.le_of_ble_eq_true rfl, Nat.le_of_ble_eq_true rfl⟩) (fx_preV (fx_pre hE hP hD hS hR [0, 2] rfl rfl (fx_rcr 0 rfl fx_rc0)) (va_recv hE.1 hP (ci := 6) (q0 := 0) rfl rfl)) rfl rfl hl.1 rfl (lv_room (Nat.le_of_ble_eq_true rfl)) dX6_voice_92 ⟨Nat.le_refl _, Nat.le_refl _⟩) hP hD hS hA [0, 2] rfl rfl (fun r_92 u H locs hq_92 hP hD hS => ?_)
              obtain ⟨tr2_92, tn2_92, ip2_92⟩ := u
              replace hP : va_P E.1 clA [(ad 30, .inr (6, [.ref (ad 0), .ref (ad 1), .int im, .ref (ad 3), .int at_, .int op, .int st_, .int us, .ref (ad 8), .ref (ad 9), .ref (ad 10), .ref (ad 11), .ref (ad 12), .ref (ad 13), .ref (ad 14), .int bn, .int bm, .ref (ad 17), .int la, .int fo, .int fi, .int lp, .ref (ad 22), .int (nI tn2_92), .int (nI (nn til)), .int ip2_92, .ref (ad 26), .ref (ad 27), .ref (ad 28), .ref (ad 29)])), (ad 3, .inl (E.2 0, 7, .inl er)), (ad 22, .inl (E.2 0, 30, .inl tr2_92))] _ := hP
              replace hD : va_D A [(ad 30, .inr (6, [.ref (ad 0), .ref (ad 1), .int im, .ref (ad 3), .int at_, .int op, .int st_, .int us, .ref (ad 8), .ref (ad 9), .ref (ad 10), .ref (ad 11), .ref (ad 12), .ref (ad 13), .ref (ad 14), .int bn, .int bm, .ref (ad 17), .int la, .int fo, .int fi, .int lp, .ref (ad 22), .int (nI tn2_92), .int (nI (nn til)), .int ip2_92, .ref (ad 26), .ref (ad 27), .ref (ad 28), .ref (ad 29)])), (ad 3, .inl (E.2 0, 7, .inl er)), (ad 22, .inl (E.2 0, 30, .inl tr2_92))] := hD
              replace hq_92 : r_92 = partsV 6 6 (nI (nn til)) (sa (32 + 2 * nn til + 1)) x ∧ (tr2_92, tn2_92) = bgL (tr, 0) (partsB 6 6 (nI (nn til)) (sa (32 + 2 * nn til + 1))) ∧ ip2_92 = fx_b ((sa (32 + 2 * nn til + 1)) - nI (nn til) = 0) ∧ tn2_92 ≤ 30 := hq_92
              refine lv_istore (lv' := [(5, .int r_92), (4, .int 6), (0, .ref (ad 30)), (1, .int til), (2, .int vo), (3, .int x)]) hx hb dX6_voice_95 hl (by decide) rfl (fun ls hl => ?_)
              refine lv_aload_n hx hb dX6_voice_97 rfl (lv_at hl 2 rfl) ?_
              refine fx_get X hE hP 0 rfl rfl 25 rfl q1193 rfl rfl dX6_voice_98 ?_
              refine lv_if_eq (tgt := 113) hx hb dX6_voice_101 (by decide) (fun c_101 => ?_) (fun c_101 => ?_)
              · -- jump 113
                have hpz : ¬ (sa (32 + 2 * nn til + 1) - nI (nn til) = 0) := fun h => by rw [hq_92.2.2.1, fx_b, if_pos h] at c_101; exact absurd c_101 (by decide)
                refine lv_iload hx hb dX6_voice_113 (lv_at hl 0 rfl) ?_
                exact hret r_92 (er, tr2_92, tn2_92, nI (nn til), ip2_92) (⟨by rw [voice_, if_pos (by simp [hb_1, hb_10]), hw]; rw [(trc_1 hq_92.2.1).1, (trc_1 hq_92.2.1).2]; rw [hq_92.1]; simp [voP, voV, voB, c_45, c_60, c_75, hpz], hq_92.2.2.2⟩) (rfl) hP hD hS (Nat.le_refl _) (Nat.le_refl _) dX6_voice_115
              · -- fall 104
                have hpz : sa (32 + 2 * nn til + 1) - nI (nn til) = 0 := by
                  rcases fx_bc hq_92.2.2.1 with ⟨h, -⟩ | ⟨-, h⟩
                  · exact h
                  · exact absurd h c_101
                refine lv_aload_n hx hb dX6_voice_104 rfl (lv_at hl 2 rfl) ?_
                refine lv_bipush (v := 6) hx hb dX6_voice_105 rfl ?_
                refine fx_ci (va_runV (As := [.int 6]) (rest := []) X (mX6_error l E ad im at_ op st_ us bn bm la fo fi lp (nI tn2_92) (nI (nn til)) ip2_92 er 6 (by decide) _) (cwV 1 X.2.2.2.2 (lw_V q1266 q1268 qs32 q75 q1269) rfl rfl rfl ⟨rfl, hdX6_error⟩ ⟨Nat.le_of_ble_eq_true rfl, Nat.le_of_ble_eq_true rfl⟩) (fx_preV (fx_pre hE hP hD hS hR [1] rfl rfl (fx_rcm 0 rfl (by decide) fx_rc0)) (va_recv hE.1 hP (ci := 6) (q0 := 0) rfl rfl)) rfl rfl hl.1 rfl (lv_room (Nat.le_of_ble_eq_true rfl)) dX6_voice_107 ⟨Nat.le_refl _, Nat.le_refl _⟩) hP hD hS hA [1] rfl rfl (fun r_107 u H locs hq_107 hP hD hS => ?_)
                replace hP : va_P E.1 clA [(ad 30, .inr (6, [.ref (ad 0), .ref (ad 1), .int im, .ref (ad 3), .int at_, .int op, .int st_, .int us, .ref (ad 8), .ref (ad 9), .ref (ad 10), .ref (ad 11), .ref (ad 12), .ref (ad 13), .ref (ad 14), .int bn, .int bm, .ref (ad 17), .int la, .int fo, .int fi, .int lp, .ref (ad 22), .int (nI tn2_92), .int (nI (nn til)), .int ip2_92, .ref (ad 26), .ref (ad 27), .ref (ad 28), .ref (ad 29)])), (ad 3, .inl (E.2 0, 7, .inl (upd er 6 (er 6 + 1)))), (ad 22, .inl (E.2 0, 30, .inl tr2_92))] _ := hP
                replace hD : va_D A [(ad 30, .inr (6, [.ref (ad 0), .ref (ad 1), .int im, .ref (ad 3), .int at_, .int op, .int st_, .int us, .ref (ad 8), .ref (ad 9), .ref (ad 10), .ref (ad 11), .ref (ad 12), .ref (ad 13), .ref (ad 14), .int bn, .int bm, .ref (ad 17), .int la, .int fo, .int fi, .int lp, .ref (ad 22), .int (nI tn2_92), .int (nI (nn til)), .int ip2_92, .ref (ad 26), .ref (ad 27), .ref (ad 28), .ref (ad 29)])), (ad 3, .inl (E.2 0, 7, .inl (upd er 6 (er 6 + 1)))), (ad 22, .inl (E.2 0, 30, .inl tr2_92))] := hD
                replace hq_107 : r_107 = erv 6 := hq_107
                refine lv_goto (tgt := 115) hx hb dX6_voice_110 (by decide) ?_
                exact hret r_107 ((upd er 6 (er 6 + 1)), tr2_92, tn2_92, nI (nn til), ip2_92) (⟨by rw [voice_, if_pos (by simp [hb_1, hb_10]), hw]; rw [(trc_1 hq_92.2.1).1, (trc_1 hq_92.2.1).2]; rw [hq_107]; simp [voP, voV, voB, c_45, c_60, c_75, hpz, erI], hq_92.2.2.2⟩) (rfl) hP hD hS (Nat.le_refl _) (Nat.le_refl _) dX6_voice_115
            · -- fall 78
              refine lv_aload_n hx hb dX6_voice_78 rfl (lv_at hl 1 rfl) ?_
              refine lv_iload hx hb dX6_voice_79 (lv_at hl 0 rfl) ?_
              refine lv_iload_n hx hb dX6_voice_81 rfl (lv_at hl 4 rfl) ?_
              refine fx_ci (va_runV (As := [.int 6, .int x]) (rest := []) X (mX6_givesAs6 l E ad im at_ op st_ us bn bm la fo fi lp 0 0 (nn til) sa tr 6 (sa (32 + 2 * nn til + 1)) x (Nat.zero_le 30) g1 ((hI.kd g1).1.trans (congrArg nI hw)) (by decide) rfl _) (cwV 2 X.2.2.2.2 (lw_V q1532 q1534 qs66 q75 q1535) rfl rfl rfl ⟨rfl, hdX6_givesAs⟩ ⟨Nat.le_of_ble_eq_true rfl, Nat.le_of_ble_eq_true rfl⟩) (fx_preV (fx_pre hE hP hD hS hR [0, 2] rfl rfl (fx_rcr 0 rfl fx_rc0)) (va_recv hE.1 hP (ci := 6) (q0 := 0) rfl rfl)) rfl rfl hl.1 rfl (lv_room (Nat.le_of_ble_eq_true rfl)) dX6_voice_82 ⟨Nat.le_refl _, Nat.le_refl _⟩) hP hD hS hA [0, 2] rfl rfl (fun r_82 u H locs hq_82 hP hD hS => ?_)
              obtain ⟨tr2_82, tn2_82⟩ := u
              replace hP : va_P E.1 clA [(ad 30, .inr (6, [.ref (ad 0), .ref (ad 1), .int im, .ref (ad 3), .int at_, .int op, .int st_, .int us, .ref (ad 8), .ref (ad 9), .ref (ad 10), .ref (ad 11), .ref (ad 12), .ref (ad 13), .ref (ad 14), .int bn, .int bm, .ref (ad 17), .int la, .int fo, .int fi, .int lp, .ref (ad 22), .int (nI tn2_82), .int (nI (nn til)), .int 0, .ref (ad 26), .ref (ad 27), .ref (ad 28), .ref (ad 29)])), (ad 3, .inl (E.2 0, 7, .inl er)), (ad 22, .inl (E.2 0, 30, .inl tr2_82))] _ := hP
              replace hD : va_D A [(ad 30, .inr (6, [.ref (ad 0), .ref (ad 1), .int im, .ref (ad 3), .int at_, .int op, .int st_, .int us, .ref (ad 8), .ref (ad 9), .ref (ad 10), .ref (ad 11), .ref (ad 12), .ref (ad 13), .ref (ad 14), .int bn, .int bm, .ref (ad 17), .int la, .int fo, .int fi, .int lp, .ref (ad 22), .int (nI tn2_82), .int (nI (nn til)), .int 0, .ref (ad 26), .ref (ad 27), .ref (ad 28), .ref (ad 29)])), (ad 3, .inl (E.2 0, 7, .inl er)), (ad 22, .inl (E.2 0, 30, .inl tr2_82))] := hD
              replace hq_82 : r_82 = givesV 6 6 (nI (nn til)) (sa (32 + 2 * nn til + 1)) x ∧ (tr2_82, tn2_82) = bgL (tr, 0) (givesB 6 6) ∧ tn2_82 ≤ 30 := hq_82
              refine lv_goto (tgt := 95) hx hb dX6_voice_85 (by decide) ?_
              refine lv_istore (lv' := [(5, .int r_82), (4, .int 6), (0, .ref (ad 30)), (1, .int til), (2, .int vo), (3, .int x)]) hx hb dX6_voice_95 hl (by decide) rfl (fun ls hl => ?_)
              refine lv_aload_n hx hb dX6_voice_97 rfl (lv_at hl 2 rfl) ?_
              refine fx_get X hE hP 0 rfl rfl 25 rfl q1193 rfl rfl dX6_voice_98 ?_
              refine lv_if_eq (tgt := 113) hx hb dX6_voice_101 (by decide) (fun _ => ?_) (fun c => (c (by decide)).elim)
              refine lv_iload hx hb dX6_voice_113 (lv_at hl 0 rfl) ?_
              exact hret r_82 (er, tr2_82, tn2_82, nI (nn til), 0) (⟨by rw [voice_, if_pos (by simp [hb_1, hb_10]), hw]; rw [(trc_1 hq_82.2.1).1, (trc_1 hq_82.2.1).2]; rw [hq_82.1]; simp [voP, voV, voB, c_45, c_60, c_75], hq_82.2.2⟩) (rfl) hP hD hS (Nat.le_refl _) (Nat.le_refl _) dX6_voice_115
          · -- fall 63
            refine lv_aload_n hx hb dX6_voice_63 rfl (lv_at hl 1 rfl) ?_
            refine lv_iload hx hb dX6_voice_64 (lv_at hl 0 rfl) ?_
            refine lv_iload_n hx hb dX6_voice_66 rfl (lv_at hl 4 rfl) ?_
            refine fx_ci (va_runV (As := [.int 6, .int x]) (rest := []) X (mX6_comesAs6 l E ad im at_ op st_ us bn bm la fo fi lp 0 0 (nn til) sa tr 6 (sa (32 + 2 * nn til + 1)) x (Nat.zero_le 30) g1 ((hI.kd g1).1.trans (congrArg nI hw)) (by decide) rfl _) (cwV 2 X.2.2.2.2 (lw_V q1528 q1530 qs65 q75 q1531) rfl rfl rfl ⟨rfl, hdX6_comesAs⟩ ⟨Nat.le_of_ble_eq_true rfl, Nat.le_of_ble_eq_true rfl⟩) (fx_preV (fx_pre hE hP hD hS hR [0, 2] rfl rfl (fx_rcr 0 rfl fx_rc0)) (va_recv hE.1 hP (ci := 6) (q0 := 0) rfl rfl)) rfl rfl hl.1 rfl (lv_room (Nat.le_of_ble_eq_true rfl)) dX6_voice_67 ⟨Nat.le_refl _, Nat.le_refl _⟩) hP hD hS hA [0, 2] rfl rfl (fun r_67 u H locs hq_67 hP hD hS => ?_)
            obtain ⟨tr2_67, tn2_67⟩ := u
            replace hP : va_P E.1 clA [(ad 30, .inr (6, [.ref (ad 0), .ref (ad 1), .int im, .ref (ad 3), .int at_, .int op, .int st_, .int us, .ref (ad 8), .ref (ad 9), .ref (ad 10), .ref (ad 11), .ref (ad 12), .ref (ad 13), .ref (ad 14), .int bn, .int bm, .ref (ad 17), .int la, .int fo, .int fi, .int lp, .ref (ad 22), .int (nI tn2_67), .int (nI (nn til)), .int 0, .ref (ad 26), .ref (ad 27), .ref (ad 28), .ref (ad 29)])), (ad 3, .inl (E.2 0, 7, .inl er)), (ad 22, .inl (E.2 0, 30, .inl tr2_67))] _ := hP
            replace hD : va_D A [(ad 30, .inr (6, [.ref (ad 0), .ref (ad 1), .int im, .ref (ad 3), .int at_, .int op, .int st_, .int us, .ref (ad 8), .ref (ad 9), .ref (ad 10), .ref (ad 11), .ref (ad 12), .ref (ad 13), .ref (ad 14), .int bn, .int bm, .ref (ad 17), .int la, .int fo, .int fi, .int lp, .ref (ad 22), .int (nI tn2_67), .int (nI (nn til)), .int 0, .ref (ad 26), .ref (ad 27), .ref (ad 28), .ref (ad 29)])), (ad 3, .inl (E.2 0, 7, .inl er)), (ad 22, .inl (E.2 0, 30, .inl tr2_67))] := hD
            replace hq_67 : r_67 = comesV 6 6 (nI (nn til)) (sa (32 + 2 * nn til + 1)) x ∧ (tr2_67, tn2_67) = bgL (tr, 0) (comesB 6 6) ∧ tn2_67 ≤ 30 := hq_67
            refine lv_goto (tgt := 95) hx hb dX6_voice_70 (by decide) ?_
            refine lv_istore (lv' := [(5, .int r_67), (4, .int 6), (0, .ref (ad 30)), (1, .int til), (2, .int vo), (3, .int x)]) hx hb dX6_voice_95 hl (by decide) rfl (fun ls hl => ?_)
            refine lv_aload_n hx hb dX6_voice_97 rfl (lv_at hl 2 rfl) ?_
            refine fx_get X hE hP 0 rfl rfl 25 rfl q1193 rfl rfl dX6_voice_98 ?_
            refine lv_if_eq (tgt := 113) hx hb dX6_voice_101 (by decide) (fun _ => ?_) (fun c => (c (by decide)).elim)
            refine lv_iload hx hb dX6_voice_113 (lv_at hl 0 rfl) ?_
            exact hret r_67 (er, tr2_67, tn2_67, nI (nn til), 0) (⟨by rw [voice_, if_pos (by simp [hb_1, hb_10]), hw]; rw [(trc_1 hq_67.2.1).1, (trc_1 hq_67.2.1).2]; rw [hq_67.1]; simp [voP, voV, voB, c_45, c_60], hq_67.2.2⟩) (rfl) hP hD hS (Nat.le_refl _) (Nat.le_refl _) dX6_voice_115
        · -- fall 48
          refine lv_aload_n hx hb dX6_voice_48 rfl (lv_at hl 1 rfl) ?_
          refine lv_iload hx hb dX6_voice_49 (lv_at hl 0 rfl) ?_
          refine lv_iload_n hx hb dX6_voice_51 rfl (lv_at hl 4 rfl) ?_
          refine fx_ci (va_runV (As := [.int 6, .int x]) (rest := []) X (mX6_addsAs6 l E ad im at_ op st_ us bn bm la fo fi lp 0 0 (nn til) tr x (Nat.zero_le 30) _) (cwV 2 X.2.2.2.2 (lw_V q1517 q1519 qs63 q75 q1520) rfl rfl rfl ⟨rfl, hdX6_addsAs⟩ ⟨Nat.le_of_ble_eq_true rfl, Nat.le_of_ble_eq_true rfl⟩) (fx_preV (fx_pre hE hP hD hS hR [0, 2] rfl rfl fx_rc0) (va_recv hE.1 hP (ci := 6) (q0 := 0) rfl rfl)) rfl rfl hl.1 rfl (lv_room (Nat.le_of_ble_eq_true rfl)) dX6_voice_52 ⟨Nat.le_refl _, Nat.le_refl _⟩) hP hD hS hA [0, 2] rfl rfl (fun r_52 u H locs hq_52 hP hD hS => ?_)
          obtain ⟨tr2_52, tn2_52⟩ := u
          replace hP : va_P E.1 clA [(ad 30, .inr (6, [.ref (ad 0), .ref (ad 1), .int im, .ref (ad 3), .int at_, .int op, .int st_, .int us, .ref (ad 8), .ref (ad 9), .ref (ad 10), .ref (ad 11), .ref (ad 12), .ref (ad 13), .ref (ad 14), .int bn, .int bm, .ref (ad 17), .int la, .int fo, .int fi, .int lp, .ref (ad 22), .int (nI tn2_52), .int (nI (nn til)), .int 0, .ref (ad 26), .ref (ad 27), .ref (ad 28), .ref (ad 29)])), (ad 3, .inl (E.2 0, 7, .inl er)), (ad 22, .inl (E.2 0, 30, .inl tr2_52))] _ := hP
          replace hD : va_D A [(ad 30, .inr (6, [.ref (ad 0), .ref (ad 1), .int im, .ref (ad 3), .int at_, .int op, .int st_, .int us, .ref (ad 8), .ref (ad 9), .ref (ad 10), .ref (ad 11), .ref (ad 12), .ref (ad 13), .ref (ad 14), .int bn, .int bm, .ref (ad 17), .int la, .int fo, .int fi, .int lp, .ref (ad 22), .int (nI tn2_52), .int (nI (nn til)), .int 0, .ref (ad 26), .ref (ad 27), .ref (ad 28), .ref (ad 29)])), (ad 3, .inl (E.2 0, 7, .inl er)), (ad 22, .inl (E.2 0, 30, .inl tr2_52))] := hD
          replace hq_52 : r_52 = addsV 6 (nI (nn til)) x ∧ (tr2_52, tn2_52) = bgL (tr, 0) (addsB 6) ∧ tn2_52 ≤ 30 := hq_52
          refine lv_goto (tgt := 95) hx hb dX6_voice_55 (by decide) ?_
          refine lv_istore (lv' := [(5, .int r_52), (4, .int 6), (0, .ref (ad 30)), (1, .int til), (2, .int vo), (3, .int x)]) hx hb dX6_voice_95 hl (by decide) rfl (fun ls hl => ?_)
          refine lv_aload_n hx hb dX6_voice_97 rfl (lv_at hl 2 rfl) ?_
          refine fx_get X hE hP 0 rfl rfl 25 rfl q1193 rfl rfl dX6_voice_98 ?_
          refine lv_if_eq (tgt := 113) hx hb dX6_voice_101 (by decide) (fun _ => ?_) (fun c => (c (by decide)).elim)
          refine lv_iload hx hb dX6_voice_113 (lv_at hl 0 rfl) ?_
          exact hret r_52 (er, tr2_52, tn2_52, nI (nn til), 0) (⟨by rw [voice_, if_pos (by simp [hb_1, hb_10]), hw]; rw [(trc_1 hq_52.2.1).1, (trc_1 hq_52.2.1).2]; rw [hq_52.1]; simp [voP, voV, voB, c_45], hq_52.2.2⟩) (rfl) hP hD hS (Nat.le_refl _) (Nat.le_refl _) dX6_voice_115
    · -- False
      subst hr_10
      refine lv_if_ne (tgt := 22) hx hb dX6_voice_13 (by decide) (fun c => (c (by decide)).elim) (fun _ => ?_)
      refine lv_aload_n hx hb dX6_voice_16 rfl (lv_at hl 0 rfl) ?_
      refine lv_iconst (v := 1) hx hb dX6_voice_17 rfl ?_
      refine fx_ci (va_runV (As := [.int 1]) (rest := []) X (mX6_error l E ad im at_ op st_ us bn bm la fo fi lp (nI tn) sp ip er 1 (by decide) _) (cwV 1 X.2.2.2.2 (lw_V q1266 q1268 qs32 q75 q1269) rfl rfl rfl ⟨rfl, hdX6_error⟩ ⟨Nat.le_of_ble_eq_true rfl, Nat.le_of_ble_eq_true rfl⟩) (fx_preV (fx_pre hE hP hD hS hR [1] rfl rfl (fx_rcm 0 rfl (by decide) fx_rc0)) (va_recv hE.1 hP (ci := 6) (q0 := 0) rfl rfl)) rfl rfl hl.1 rfl (lv_room (Nat.le_of_ble_eq_true rfl)) dX6_voice_18 ⟨Nat.le_refl _, Nat.le_refl _⟩) hP hD hS hA [1] rfl rfl (fun r_18 u H locs hq_18 hP hD hS => ?_)
      replace hP : va_P E.1 clA [(ad 30, .inr (6, [.ref (ad 0), .ref (ad 1), .int im, .ref (ad 3), .int at_, .int op, .int st_, .int us, .ref (ad 8), .ref (ad 9), .ref (ad 10), .ref (ad 11), .ref (ad 12), .ref (ad 13), .ref (ad 14), .int bn, .int bm, .ref (ad 17), .int la, .int fo, .int fi, .int lp, .ref (ad 22), .int (nI tn), .int sp, .int ip, .ref (ad 26), .ref (ad 27), .ref (ad 28), .ref (ad 29)])), (ad 3, .inl (E.2 0, 7, .inl (upd er 1 (er 1 + 1)))), (ad 22, .inl (E.2 0, 30, .inl tr))] _ := hP
      replace hD : va_D A [(ad 30, .inr (6, [.ref (ad 0), .ref (ad 1), .int im, .ref (ad 3), .int at_, .int op, .int st_, .int us, .ref (ad 8), .ref (ad 9), .ref (ad 10), .ref (ad 11), .ref (ad 12), .ref (ad 13), .ref (ad 14), .int bn, .int bm, .ref (ad 17), .int la, .int fo, .int fi, .int lp, .ref (ad 22), .int (nI tn), .int sp, .int ip, .ref (ad 26), .ref (ad 27), .ref (ad 28), .ref (ad 29)])), (ad 3, .inl (E.2 0, 7, .inl (upd er 1 (er 1 + 1)))), (ad 22, .inl (E.2 0, 30, .inl tr))] := hD
      replace hq_18 : r_18 = erv 1 := hq_18
      exact hret r_18 ((upd er 1 (er 1 + 1)), tr, tn, sp, ip) (⟨by rw [hq_18]; simp [voice_, erI, hb_1, hb_10], htn⟩) (rfl) hP hD hS (Nat.le_refl _) (Nat.le_refl _) dX6_voice_21
  · -- False
    subst hr_1
    refine lv_if_eq (tgt := 16) hx hb dX6_voice_4 (by decide) (fun _ => ?_) (fun c => (c (by decide)).elim)
    refine lv_aload_n hx hb dX6_voice_16 rfl (lv_at hl 0 rfl) ?_
    refine lv_iconst (v := 1) hx hb dX6_voice_17 rfl ?_
    refine fx_ci (va_runV (As := [.int 1]) (rest := []) X (mX6_error l E ad im at_ op st_ us bn bm la fo fi lp (nI tn) sp ip er 1 (by decide) _) (cwV 1 X.2.2.2.2 (lw_V q1266 q1268 qs32 q75 q1269) rfl rfl rfl ⟨rfl, hdX6_error⟩ ⟨Nat.le_of_ble_eq_true rfl, Nat.le_of_ble_eq_true rfl⟩) (fx_preV (fx_pre hE hP hD hS hR [1] rfl rfl (fx_rcm 0 rfl (by decide) fx_rc0)) (va_recv hE.1 hP (ci := 6) (q0 := 0) rfl rfl)) rfl rfl hl.1 rfl (lv_room (Nat.le_of_ble_eq_true rfl)) dX6_voice_18 ⟨Nat.le_refl _, Nat.le_refl _⟩) hP hD hS hA [1] rfl rfl (fun r_18 u H locs hq_18 hP hD hS => ?_)
    replace hP : va_P E.1 clA [(ad 30, .inr (6, [.ref (ad 0), .ref (ad 1), .int im, .ref (ad 3), .int at_, .int op, .int st_, .int us, .ref (ad 8), .ref (ad 9), .ref (ad 10), .ref (ad 11), .ref (ad 12), .ref (ad 13), .ref (ad 14), .int bn, .int bm, .ref (ad 17), .int la, .int fo, .int fi, .int lp, .ref (ad 22), .int (nI tn), .int sp, .int ip, .ref (ad 26), .ref (ad 27), .ref (ad 28), .ref (ad 29)])), (ad 3, .inl (E.2 0, 7, .inl (upd er 1 (er 1 + 1)))), (ad 22, .inl (E.2 0, 30, .inl tr))] _ := hP
    replace hD : va_D A [(ad 30, .inr (6, [.ref (ad 0), .ref (ad 1), .int im, .ref (ad 3), .int at_, .int op, .int st_, .int us, .ref (ad 8), .ref (ad 9), .ref (ad 10), .ref (ad 11), .ref (ad 12), .ref (ad 13), .ref (ad 14), .int bn, .int bm, .ref (ad 17), .int la, .int fo, .int fi, .int lp, .ref (ad 22), .int (nI tn), .int sp, .int ip, .ref (ad 26), .ref (ad 27), .ref (ad 28), .ref (ad 29)])), (ad 3, .inl (E.2 0, 7, .inl (upd er 1 (er 1 + 1)))), (ad 22, .inl (E.2 0, 30, .inl tr))] := hD
    replace hq_18 : r_18 = erv 1 := hq_18
    exact hret r_18 ((upd er 1 (er 1 + 1)), tr, tn, sp, ip) (⟨by rw [hq_18]; simp [voice_, erI, hb_1], htn⟩) (rfl) hP hD hS (Nat.le_refl _) (Nat.le_refl _) dX6_voice_21
