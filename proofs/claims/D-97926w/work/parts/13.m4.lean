set_option maxRecDepth 100000
theorem hdX6_isUnder : yX6_isUnder.cls ≠ "java/lang/invoke/MethodHandle" ∧ yX6_isUnder.cls ≠ "java/lang/invoke/VarHandle" ∧ (parseMethodDescriptor yX6_isUnder.desc).map (fun d => d.parameters.length) = some 2 := by decide +kernel
theorem hdX6_seed : yX6_seed.cls ≠ "java/lang/invoke/MethodHandle" ∧ yX6_seed.cls ≠ "java/lang/invoke/VarHandle" ∧ (parseMethodDescriptor yX6_seed.desc).map (fun d => d.parameters.length) = some 1 := by decide +kernel
theorem hdX6_thing : yX6_thing.cls ≠ "java/lang/invoke/MethodHandle" ∧ yX6_thing.cls ≠ "java/lang/invoke/VarHandle" ∧ (parseMethodDescriptor yX6_thing.desc).map (fun d => d.parameters.length) = some 3 := by decide +kernel
theorem hdX6_thingIs : yX6_thingIs.cls ≠ "java/lang/invoke/MethodHandle" ∧ yX6_thingIs.cls ≠ "java/lang/invoke/VarHandle" ∧ (parseMethodDescriptor yX6_thingIs.desc).map (fun d => d.parameters.length) = some 2 := by decide +kernel
theorem hdX6_till : yX6_till.cls ≠ "java/lang/invoke/MethodHandle" ∧ yX6_till.cls ≠ "java/lang/invoke/VarHandle" ∧ (parseMethodDescriptor yX6_till.desc).map (fun d => d.parameters.length) = some 2 := by decide +kernel
theorem hdX6_tillIs : yX6_tillIs.cls ≠ "java/lang/invoke/MethodHandle" ∧ yX6_tillIs.cls ≠ "java/lang/invoke/VarHandle" ∧ (parseMethodDescriptor yX6_tillIs.desc).map (fun d => d.parameters.length) = some 2 := by decide +kernel
theorem hdX6_as : yX6_as.cls ≠ "java/lang/invoke/MethodHandle" ∧ yX6_as.cls ≠ "java/lang/invoke/VarHandle" ∧ (parseMethodDescriptor yX6_as.desc).map (fun d => d.parameters.length) = some 2 := by decide +kernel
theorem hdX6_figures : yX6_figures.cls ≠ "java/lang/invoke/MethodHandle" ∧ yX6_figures.cls ≠ "java/lang/invoke/VarHandle" ∧ (parseMethodDescriptor yX6_figures.desc).map (fun d => d.parameters.length) = some 2 := by decide +kernel
theorem hdX6_asks : yX6_asks.cls ≠ "java/lang/invoke/MethodHandle" ∧ yX6_asks.cls ≠ "java/lang/invoke/VarHandle" ∧ (parseMethodDescriptor yX6_asks.desc).map (fun d => d.parameters.length) = some 3 := by decide +kernel
theorem hdX6_basket : yX6_basket.cls ≠ "java/lang/invoke/MethodHandle" ∧ yX6_basket.cls ≠ "java/lang/invoke/VarHandle" ∧ (parseMethodDescriptor yX6_basket.desc).map (fun d => d.parameters.length) = some 2 := by decide +kernel
theorem hdX6_pays : yX6_pays.cls ≠ "java/lang/invoke/MethodHandle" ∧ yX6_pays.cls ≠ "java/lang/invoke/VarHandle" ∧ (parseMethodDescriptor yX6_pays.desc).map (fun d => d.parameters.length) = some 2 := by decide +kernel
theorem hdX6_go : yX6_go.cls ≠ "java/lang/invoke/MethodHandle" ∧ yX6_go.cls ≠ "java/lang/invoke/VarHandle" ∧ (parseMethodDescriptor yX6_go.desc).map (fun d => d.parameters.length) = some 2 := by decide +kernel
theorem hdX6_draw : yX6_draw.cls ≠ "java/lang/invoke/MethodHandle" ∧ yX6_draw.cls ≠ "java/lang/invoke/VarHandle" ∧ (parseMethodDescriptor yX6_draw.desc).map (fun d => d.parameters.length) = some 0 := by decide +kernel
abbrev rmX6_isUnder : Room := { frames := 0, cells := 0, slots := 0, locals := 0 }
set_option maxHeartbeats 400000 in
set_option maxRecDepth 100000 in
theorem mX6_isUnder (l : Launch) (E : fx_En) (ow : Int32) (kd : Int32) : fx_Mi l yX6_isUnder cX6_isUnder 2 .boolean rmX6_isUnder E [.int ow, .int kd] [] [] (S := Unit) (fun (u : Unit) => []) (fun (r : Int32) (u : Unit) => r = fx_b (isU ow kd = true)) := by
  refine fx_iW rfl rfl ?_
  intro p e s m args below meth c A ls Q X hE hP hD hR hA hl hret
  have hx := X.1
  have hb := X.2.1
  have hS : va_S A s.heap s.heap [] := va_S.rf
  replace hl : lv_has ls 2 [(0, .int ow), (1, .int kd)] := hl
  refine lv_iload_n hx hb dX6_isUnder_0 rfl (lv_at hl 1 rfl) ?_
  refine lv_if_eq (tgt := 29) hx hb dX6_isUnder_1 (by decide) (fun c_1 => ?_) (fun c_1 => ?_)
  · -- jump 29
    refine lv_iconst (v := 1) hx hb dX6_isUnder_29 rfl ?_
    refine lv_goto (tgt := 34) hx hb dX6_isUnder_30 (by decide) ?_
    exact hret 1 () (fx_bt (by simp [isU, eq_true c_1])) (rfl) hP hD hS (Nat.le_refl _) (Nat.le_refl _) dX6_isUnder_34
  · -- fall 4
    refine lv_iload_n hx hb dX6_isUnder_4 rfl (lv_at hl 0 rfl) ?_
    refine lv_iload_n hx hb dX6_isUnder_5 rfl (lv_at hl 1 rfl) ?_
    refine lv_icmp_eq (tgt := 29) hx hb dX6_isUnder_6 (by decide) (fun c_6 => ?_) (fun c_6 => ?_)
    · -- jump 29
      refine lv_iconst (v := 1) hx hb dX6_isUnder_29 rfl ?_
      refine lv_goto (tgt := 34) hx hb dX6_isUnder_30 (by decide) ?_
      exact hret 1 () (fx_bt (by simp [isU, c_1, eq_true c_6])) (rfl) hP hD hS (Nat.le_refl _) (Nat.le_refl _) dX6_isUnder_34
    · -- fall 9
      refine lv_iload_n hx hb dX6_isUnder_9 rfl (lv_at hl 1 rfl) ?_
      refine lv_iconst (v := 2) hx hb dX6_isUnder_10 rfl ?_
      refine lv_icmp_ne (tgt := 19) hx hb dX6_isUnder_11 (by decide) (fun c_11 => ?_) (fun c_11 => ?_)
      · -- jump 19
        refine lv_iload_n hx hb dX6_isUnder_19 rfl (lv_at hl 1 rfl) ?_
        refine lv_iconst (v := 1) hx hb dX6_isUnder_20 rfl ?_
        refine lv_icmp_ne (tgt := 33) hx hb dX6_isUnder_21 (by decide) (fun c_21 => ?_) (fun c_21 => ?_)
        · -- jump 33
          refine lv_iconst (v := 0) hx hb dX6_isUnder_33 rfl ?_
          exact hret 0 () (fx_bf (by simp [isU, c_1, c_6, c_11, c_21])) (rfl) hP hD hS (Nat.le_refl _) (Nat.le_refl _) dX6_isUnder_34
        · -- fall 24
          refine lv_iload_n hx hb dX6_isUnder_24 rfl (lv_at hl 0 rfl) ?_
          refine lv_iconst (v := 5) hx hb dX6_isUnder_25 rfl ?_
          refine lv_icmp_ne (tgt := 33) hx hb dX6_isUnder_26 (by decide) (fun c_26 => ?_) (fun c_26 => ?_)
          · -- jump 33
            refine lv_iconst (v := 0) hx hb dX6_isUnder_33 rfl ?_
            exact hret 0 () (fx_bf (by simp [isU, c_1, c_6, c_11, eq_true c_21, c_26])) (rfl) hP hD hS (Nat.le_refl _) (Nat.le_refl _) dX6_isUnder_34
          · -- fall 29
            refine lv_iconst (v := 1) hx hb dX6_isUnder_29 rfl ?_
            refine lv_goto (tgt := 34) hx hb dX6_isUnder_30 (by decide) ?_
            exact hret 1 () (fx_bt (by simp [isU, c_1, c_6, c_11, eq_true c_21, eq_true c_26])) (rfl) hP hD hS (Nat.le_refl _) (Nat.le_refl _) dX6_isUnder_34
      · -- fall 14
        refine lv_iload_n hx hb dX6_isUnder_14 rfl (lv_at hl 0 rfl) ?_
        refine lv_iconst (v := 4) hx hb dX6_isUnder_15 rfl ?_
        refine lv_icmp_eq (tgt := 29) hx hb dX6_isUnder_16 (by decide) (fun c_16 => ?_) (fun c_16 => ?_)
        · -- jump 29
          refine lv_iconst (v := 1) hx hb dX6_isUnder_29 rfl ?_
          refine lv_goto (tgt := 34) hx hb dX6_isUnder_30 (by decide) ?_
          exact hret 1 () (fx_bt (by simp [isU, c_1, c_6, eq_true c_11, eq_true c_16])) (rfl) hP hD hS (Nat.le_refl _) (Nat.le_refl _) dX6_isUnder_34
        · -- fall 19
          refine lv_iload_n hx hb dX6_isUnder_19 rfl (lv_at hl 1 rfl) ?_
          refine lv_iconst (v := 1) hx hb dX6_isUnder_20 rfl ?_
          refine lv_icmp_ne (tgt := 33) hx hb dX6_isUnder_21 (by decide) (fun c_21 => ?_) (fun c_21 => ?_)
          · -- jump 33
            refine lv_iconst (v := 0) hx hb dX6_isUnder_33 rfl ?_
            exact hret 0 () (fx_bf (by simp [isU, c_1, c_6, eq_true c_11, c_16, c_21])) (rfl) hP hD hS (Nat.le_refl _) (Nat.le_refl _) dX6_isUnder_34
          · -- fall 24
            refine lv_iload_n hx hb dX6_isUnder_24 rfl (lv_at hl 0 rfl) ?_
            refine lv_iconst (v := 5) hx hb dX6_isUnder_25 rfl ?_
            refine lv_icmp_ne (tgt := 33) hx hb dX6_isUnder_26 (by decide) (fun c_26 => ?_) (fun c_26 => ?_)
            · -- jump 33
              refine lv_iconst (v := 0) hx hb dX6_isUnder_33 rfl ?_
              exact hret 0 () (fx_bf (by simp [isU, c_1, c_6, eq_true c_11, c_16, eq_true c_21, c_26])) (rfl) hP hD hS (Nat.le_refl _) (Nat.le_refl _) dX6_isUnder_34
            · -- fall 29
              refine lv_iconst (v := 1) hx hb dX6_isUnder_29 rfl ?_
              refine lv_goto (tgt := 34) hx hb dX6_isUnder_30 (by decide) ?_
              exact hret 1 () (fx_bt (by simp [isU, c_1, c_6, eq_true c_11, c_16, eq_true c_21, eq_true c_26])) (rfl) hP hD hS (Nat.le_refl _) (Nat.le_refl _) dX6_isUnder_34
abbrev rmX6_seed : Room := { frames := 1, cells := 0, slots := 0, locals := 23 }
set_option maxHeartbeats 400000 in
set_option maxRecDepth 100000 in
theorem mX6_seed (l : Launch) (E : fx_En) (ad : Nat → Nat) (im : Int32) (at_ : Int32) (op : Int32) (st_ : Int32) (us : Int32) (bn : Int32) (bm : Int32) (la : Int32) (fo : Int32) (fi : Int32) (lp : Int32) (tr_ : Int32) (sp : Int32) (ip : Int32) (sa : Nat → Int32) (v : Int32) : fx_Mi l yX6_seed cX6_seed 2 .int rmX6_seed E [.ref (ad 30), .int v] [(ad 0, .inl (E.2 0, 374, .inl sa))] [(ad 30, .inr (6, [.ref (ad 0), .ref (ad 1), .int im, .ref (ad 3), .int at_, .int op, .int st_, .int us, .ref (ad 8), .ref (ad 9), .ref (ad 10), .ref (ad 11), .ref (ad 12), .ref (ad 13), .ref (ad 14), .int bn, .int bm, .ref (ad 17), .int la, .int fo, .int fi, .int lp, .ref (ad 22), .int tr_, .int sp, .int ip, .ref (ad 26), .ref (ad 27), .ref (ad 28), .ref (ad 29)]))] (S := Unit) (fun (u : Unit) => [(ad 0, .inl (E.2 0, 374, .inl (upd sa 5 v)))]) (fun (r : Int32) (u : Unit) => r = sa 5) := by
  refine fx_iW rfl rfl ?_
  intro p e s m args below meth c A ls Q X hE hP hD hR hA hl hret
  have hx := X.1
  have hb := X.2.1
  have hS : va_S A s.heap s.heap [] := va_S.rf
  replace hP : va_P E.1 clA [(ad 0, .inl (E.2 0, 374, .inl sa))] _ := hP
  replace hD : va_D A [(ad 0, .inl (E.2 0, 374, .inl sa))] := hD
  replace hl : lv_has ls 2 [(0, .ref (ad 30)), (1, .int v)] := hl
  refine lv_aload_n hx hb dX6_seed_0 rfl (lv_at hl 0 rfl) ?_
  refine lv_iconst (v := 5) hx hb dX6_seed_1 rfl ?_
  refine lv_iload_n hx hb dX6_seed_2 rfl (lv_at hl 1 rfl) ?_
  refine fx_ci (va_runV (As := [.int 5, .int v]) (rest := []) X (mX6_change1 l E ad im at_ op st_ us bn bm la fo fi lp tr_ sp ip sa 5 v (by decide) _) (cwV 2 X.2.2.2.2 (lw_V q1331 q1333 qs44 q75 q1334) rfl rfl rfl ⟨rfl, hdX6_change1⟩ ⟨Nat.le_of_ble_eq_true rfl, Nat.le_of_ble_eq_true rfl⟩) (fx_preV (fx_pre hE hP hD hS hR [0] rfl rfl (fx_rcr 0 rfl fx_rc0)) (va_recv hE.1 (hR.at hS) (ci := 6) (q0 := 0) rfl rfl)) rfl rfl hl.1 rfl (lv_room (Nat.le_of_ble_eq_true rfl)) dX6_seed_3 ⟨Nat.le_refl _, Nat.le_refl _⟩) hP hD hS hA [0] rfl rfl (fun r_3 u H locs hq_3 hP hD hS => ?_)
  replace hP : va_P E.1 clA [(ad 0, .inl (E.2 0, 374, .inl (upd sa 5 v)))] _ := hP
  replace hD : va_D A [(ad 0, .inl (E.2 0, 374, .inl (upd sa 5 v)))] := hD
  replace hq_3 : r_3 = sa 5 := hq_3
  exact hret r_3 () (hq_3) (rfl) hP hD hS (Nat.le_refl _) (Nat.le_refl _) dX6_seed_6
abbrev rmX6_thing : Room := { frames := 2, cells := 0, slots := 0, locals := 42 }
set_option maxHeartbeats 400000 in
set_option maxRecDepth 100000 in
theorem mX6_thing (l : Launch) (E : fx_En) (ad : Nat → Nat) (im : Int32) (at_ : Int32) (op : Int32) (st_ : Int32) (us : Int32) (bn : Int32) (bm : Int32) (la : Int32) (fo : Int32) (fi : Int32) (lp : Int32) (tr_ : Int32) (sp : Int32) (ip : Int32) (sa : Nat → Int32) (er : Nat → Int32) (th : Int32) (wh : Int32) (v : Int32) : fx_Mi l yX6_thing cX6_thing 4 .int rmX6_thing E [.ref (ad 30), .int th, .int wh, .int v] [(ad 0, .inl (E.2 0, 374, .inl sa)), (ad 3, .inl (E.2 0, 7, .inl er))] [(ad 30, .inr (6, [.ref (ad 0), .ref (ad 1), .int im, .ref (ad 3), .int at_, .int op, .int st_, .int us, .ref (ad 8), .ref (ad 9), .ref (ad 10), .ref (ad 11), .ref (ad 12), .ref (ad 13), .ref (ad 14), .int bn, .int bm, .ref (ad 17), .int la, .int fo, .int fi, .int lp, .ref (ad 22), .int tr_, .int sp, .int ip, .ref (ad 26), .ref (ad 27), .ref (ad 28), .ref (ad 29)]))] (S := (Nat → Int32) × (Nat → Int32)) (fun (u : (Nat → Int32) × (Nat → Int32)) => [(ad 0, .inl (E.2 0, 374, .inl u.1)), (ad 3, .inl (E.2 0, 7, .inl u.2))]) (fun (r : Int32) (u : (Nat → Int32) × (Nat → Int32)) => (r, u.1, u.2) = thing_ sa er th wh v) := by
  refine fx_iW rfl rfl ?_
  intro p e s m args below meth c A ls Q X hE hP hD hR hA hl hret
  have hx := X.1
  have hb := X.2.1
  have hS : va_S A s.heap s.heap [] := va_S.rf
  replace hP : va_P E.1 clA [(ad 0, .inl (E.2 0, 374, .inl sa)), (ad 3, .inl (E.2 0, 7, .inl er))] _ := hP
  replace hD : va_D A [(ad 0, .inl (E.2 0, 374, .inl sa)), (ad 3, .inl (E.2 0, 7, .inl er))] := hD
  replace hl : lv_has ls 4 [(0, .ref (ad 30)), (1, .int th), (2, .int wh), (3, .int v)] := hl
  refine lv_iload_n hx hb dX6_thing_0 rfl (lv_at hl 1 rfl) ?_
  refine fx_ci (va_runS (As := [.int th]) (rest := []) X (mX6_isThing l E th _) (va_cwS 1 X.2.2.2.2 (lw_S q1328 q1329 q75 q1330) rfl rfl rfl hdX6_isThing ⟨Nat.le_of_ble_eq_true rfl, Nat.le_of_ble_eq_true rfl⟩) (fx_pre hE hP hD hS hR [] rfl rfl fx_rc0) rfl rfl hl.1 rfl (lv_room (Nat.le_of_ble_eq_true rfl)) dX6_thing_1 ⟨Nat.le_refl _, Nat.le_refl _⟩) hP hD hS hA [] rfl rfl (fun r_1 u H locs hq_1 hP hD hS => ?_)
  replace hP : va_P E.1 clA [(ad 0, .inl (E.2 0, 374, .inl sa)), (ad 3, .inl (E.2 0, 7, .inl er))] _ := hP
  replace hD : va_D A [(ad 0, .inl (E.2 0, 374, .inl sa)), (ad 3, .inl (E.2 0, 7, .inl er))] := hD
  replace hq_1 : r_1 = fx_b (inB th 0 7 = true) := hq_1
  rcases fx_bc hq_1 with ⟨hb_1, hr_1⟩ | ⟨hb_1, hr_1⟩
  · -- True
    subst hr_1
    refine lv_if_eq (tgt := 45) hx hb dX6_thing_4 (by decide) (fun c => absurd c (by decide)) (fun _ => ?_)
    refine lv_iload_n hx hb dX6_thing_7 rfl (lv_at hl 2 rfl) ?_
    refine lv_iconst (v := 0) hx hb dX6_thing_8 rfl ?_
    refine lv_iconst (v := 2) hx hb dX6_thing_9 rfl ?_
    refine fx_ci (va_runS (As := [.int wh, .int 0, .int 2]) (rest := []) X (mX6_in l E wh 0 2 _) (va_cwS 3 X.2.2.2.2 (lw_S q1263 q1264 q75 q1265) rfl rfl rfl hdX6_in ⟨Nat.le_of_ble_eq_true rfl, Nat.le_of_ble_eq_true rfl⟩) (fx_pre hE hP hD hS hR [] rfl rfl fx_rc0) rfl rfl hl.1 rfl (lv_room (Nat.le_of_ble_eq_true rfl)) dX6_thing_10 ⟨Nat.le_refl _, Nat.le_refl _⟩) hP hD hS hA [] rfl rfl (fun r_10 u H locs hq_10 hP hD hS => ?_)
    replace hP : va_P E.1 clA [(ad 0, .inl (E.2 0, 374, .inl sa)), (ad 3, .inl (E.2 0, 7, .inl er))] _ := hP
    replace hD : va_D A [(ad 0, .inl (E.2 0, 374, .inl sa)), (ad 3, .inl (E.2 0, 7, .inl er))] := hD
    replace hq_10 : r_10 = fx_b (inB wh 0 2 = true) := hq_10
    rcases fx_bc hq_10 with ⟨hb_10, hr_10⟩ | ⟨hb_10, hr_10⟩
    · -- True
      subst hr_10
      refine lv_if_eq (tgt := 45) hx hb dX6_thing_13 (by decide) (fun c => absurd c (by decide)) (fun _ => ?_)
      refine lv_iload_n hx hb dX6_thing_16 rfl (lv_at hl 3 rfl) ?_
      refine lv_iload_n hx hb dX6_thing_17 rfl (lv_at hl 2 rfl) ?_
      refine lv_if_ne (tgt := 25) hx hb dX6_thing_18 (by decide) (fun c_18 => ?_) (fun c_18 => ?_)
      · -- jump 25
        refine lv_iconst (v := 0) hx hb dX6_thing_25 rfl ?_
        refine lv_iload_n hx hb dX6_thing_26 rfl (lv_at hl 2 rfl) ?_
        refine lv_iconst (v := 2) hx hb dX6_thing_27 rfl ?_
        refine lv_icmp_ne (tgt := 36) hx hb dX6_thing_28 (by decide) (fun c_28 => ?_) (fun c_28 => ?_)
        · -- jump 36
          refine lv_sipush (v := 9999) hx hb dX6_thing_36 rfl ?_
          refine fx_ci (va_runS (As := [.int v, .int 0, .int 9999]) (rest := []) X (mX6_in l E v 0 9999 _) (va_cwS 3 X.2.2.2.2 (lw_S q1263 q1264 q75 q1265) rfl rfl rfl hdX6_in ⟨Nat.le_of_ble_eq_true rfl, Nat.le_of_ble_eq_true rfl⟩) (fx_pre hE hP hD hS hR [] rfl rfl fx_rc0) rfl rfl hl.1 rfl (lv_room (Nat.le_of_ble_eq_true rfl)) dX6_thing_39 ⟨Nat.le_refl _, Nat.le_refl _⟩) hP hD hS hA [] rfl rfl (fun r_39 u H locs hq_39 hP hD hS => ?_)
          replace hP : va_P E.1 clA [(ad 0, .inl (E.2 0, 374, .inl sa)), (ad 3, .inl (E.2 0, 7, .inl er))] _ := hP
          replace hD : va_D A [(ad 0, .inl (E.2 0, 374, .inl sa)), (ad 3, .inl (E.2 0, 7, .inl er))] := hD
          replace hq_39 : r_39 = fx_b (inB v 0 9999 = true) := hq_39
          rcases fx_bc hq_39 with ⟨hb_39, hr_39⟩ | ⟨hb_39, hr_39⟩
          · -- True
            subst hr_39
            refine lv_if_ne (tgt := 51) hx hb dX6_thing_42 (by decide) (fun _ => ?_) (fun c => absurd c (by decide))
            refine lv_aload_n hx hb dX6_thing_51 rfl (lv_at hl 0 rfl) ?_
            refine lv_bipush (v := 8) hx hb dX6_thing_52 rfl ?_
            refine lv_bipush (v := 8) hx hb dX6_thing_54 rfl ?_
            refine lv_iload_n hx hb dX6_thing_56 rfl (lv_at hl 2 rfl) ?_
            refine fx_ti (show wh = nI (nn wh) from (inB_nn (n := 2) hb_10 (by omega)).1) ?_
            have g1 := (inB_nn (n := 2) hb_10 (by omega)).2
            refine lv_imul hx hb dX6_thing_57 ?_
            refine fx_ti (pk_mul 8 (nn wh)) ?_
            refine lv_iadd hx hb dX6_thing_58 ?_
            refine fx_ti (nI_add 8 (8 * (nn wh))) ?_
            refine lv_iload_n hx hb dX6_thing_59 rfl (lv_at hl 1 rfl) ?_
            refine fx_ti (show th = nI (nn th) from (inB_nn (n := 7) hb_1 (by omega)).1) ?_
            have g2 := (inB_nn (n := 7) hb_1 (by omega)).2
            refine lv_iadd hx hb dX6_thing_60 ?_
            refine fx_ti (nI_add (8 + 8 * (nn wh)) (nn th)) ?_
            refine lv_iload_n hx hb dX6_thing_61 rfl (lv_at hl 3 rfl) ?_
            refine fx_ci (va_runV (As := [.int (nI (8 + 8 * (nn wh) + nn th)), .int v]) (rest := []) X (mX6_change1 l E ad im at_ op st_ us bn bm la fo fi lp tr_ sp ip sa (8 + 8 * (nn wh) + nn th) v (by omega) _) (cwV 2 X.2.2.2.2 (lw_V q1331 q1333 qs44 q75 q1334) rfl rfl rfl ⟨rfl, hdX6_change1⟩ ⟨Nat.le_of_ble_eq_true rfl, Nat.le_of_ble_eq_true rfl⟩) (fx_preV (fx_pre hE hP hD hS hR [0] rfl rfl (fx_rcr 0 rfl fx_rc0)) (va_recv hE.1 (hR.at hS) (ci := 6) (q0 := 0) rfl rfl)) rfl rfl hl.1 rfl (lv_room (Nat.le_of_ble_eq_true rfl)) dX6_thing_62 ⟨Nat.le_refl _, Nat.le_refl _⟩) hP hD hS hA [0] rfl rfl (fun r_62 u H locs hq_62 hP hD hS => ?_)
            replace hP : va_P E.1 clA [(ad 0, .inl (E.2 0, 374, .inl (upd sa (8 + 8 * (nn wh) + nn th) v))), (ad 3, .inl (E.2 0, 7, .inl er))] _ := hP
            replace hD : va_D A [(ad 0, .inl (E.2 0, 374, .inl (upd sa (8 + 8 * (nn wh) + nn th) v))), (ad 3, .inl (E.2 0, 7, .inl er))] := hD
            replace hq_62 : r_62 = sa (8 + 8 * (nn wh) + nn th) := hq_62
            exact hret r_62 ((upd sa (8 + 8 * (nn wh) + nn th) v), er) (by simp [thing_, erI, hq_62, hb_1, hb_10, c_18, c_28, hb_39]) (rfl) hP hD hS (Nat.le_refl _) (Nat.le_refl _) dX6_thing_65
          · -- False
            subst hr_39
            refine lv_if_ne (tgt := 51) hx hb dX6_thing_42 (by decide) (fun c => (c (by decide)).elim) (fun _ => ?_)
            refine lv_aload_n hx hb dX6_thing_45 rfl (lv_at hl 0 rfl) ?_
            refine lv_iconst (v := 1) hx hb dX6_thing_46 rfl ?_
            refine fx_ci (va_runV (As := [.int 1]) (rest := []) X (mX6_error l E ad im at_ op st_ us bn bm la fo fi lp tr_ sp ip er 1 (by decide) _) (cwV 1 X.2.2.2.2 (lw_V q1266 q1268 qs32 q75 q1269) rfl rfl rfl ⟨rfl, hdX6_error⟩ ⟨Nat.le_of_ble_eq_true rfl, Nat.le_of_ble_eq_true rfl⟩) (fx_preV (fx_pre hE hP hD hS hR [1] rfl rfl (fx_rcr 0 rfl fx_rc0)) (va_recv hE.1 (hR.at hS) (ci := 6) (q0 := 0) rfl rfl)) rfl rfl hl.1 rfl (lv_room (Nat.le_of_ble_eq_true rfl)) dX6_thing_47 ⟨Nat.le_refl _, Nat.le_refl _⟩) hP hD hS hA [1] rfl rfl (fun r_47 u H locs hq_47 hP hD hS => ?_)
            replace hP : va_P E.1 clA [(ad 0, .inl (E.2 0, 374, .inl sa)), (ad 3, .inl (E.2 0, 7, .inl (upd er 1 (er 1 + 1))))] _ := hP
            replace hD : va_D A [(ad 0, .inl (E.2 0, 374, .inl sa)), (ad 3, .inl (E.2 0, 7, .inl (upd er 1 (er 1 + 1))))] := hD
            replace hq_47 : r_47 = erv 1 := hq_47
            exact hret r_47 (sa, (upd er 1 (er 1 + 1))) (by simp [thing_, erI, hq_47, hb_1, hb_10, c_18, c_28, hb_39]) (rfl) hP hD hS (Nat.le_refl _) (Nat.le_refl _) dX6_thing_50
        · -- fall 31
          refine lv_bipush (v := 99) hx hb dX6_thing_31 rfl ?_
          refine lv_goto (tgt := 39) hx hb dX6_thing_33 (by decide) ?_
          refine fx_ci (va_runS (As := [.int v, .int 0, .int 99]) (rest := []) X (mX6_in l E v 0 99 _) (va_cwS 3 X.2.2.2.2 (lw_S q1263 q1264 q75 q1265) rfl rfl rfl hdX6_in ⟨Nat.le_of_ble_eq_true rfl, Nat.le_of_ble_eq_true rfl⟩) (fx_pre hE hP hD hS hR [] rfl rfl fx_rc0) rfl rfl hl.1 rfl (lv_room (Nat.le_of_ble_eq_true rfl)) dX6_thing_39 ⟨Nat.le_refl _, Nat.le_refl _⟩) hP hD hS hA [] rfl rfl (fun r_39 u H locs hq_39 hP hD hS => ?_)
          replace hP : va_P E.1 clA [(ad 0, .inl (E.2 0, 374, .inl sa)), (ad 3, .inl (E.2 0, 7, .inl er))] _ := hP
          replace hD : va_D A [(ad 0, .inl (E.2 0, 374, .inl sa)), (ad 3, .inl (E.2 0, 7, .inl er))] := hD
          replace hq_39 : r_39 = fx_b (inB v 0 99 = true) := hq_39
          rcases fx_bc hq_39 with ⟨hb_39, hr_39⟩ | ⟨hb_39, hr_39⟩
          · -- True
            subst hr_39
            refine lv_if_ne (tgt := 51) hx hb dX6_thing_42 (by decide) (fun _ => ?_) (fun c => absurd c (by decide))
            refine lv_aload_n hx hb dX6_thing_51 rfl (lv_at hl 0 rfl) ?_
            refine lv_bipush (v := 8) hx hb dX6_thing_52 rfl ?_
            refine lv_bipush (v := 8) hx hb dX6_thing_54 rfl ?_
            refine lv_iload_n hx hb dX6_thing_56 rfl (lv_at hl 2 rfl) ?_
            refine fx_ti (show wh = nI (nn wh) from (inB_nn (n := 2) hb_10 (by omega)).1) ?_
            have g1 := (inB_nn (n := 2) hb_10 (by omega)).2
            refine lv_imul hx hb dX6_thing_57 ?_
            refine fx_ti (pk_mul 8 (nn wh)) ?_
            refine lv_iadd hx hb dX6_thing_58 ?_
            refine fx_ti (nI_add 8 (8 * (nn wh))) ?_
            refine lv_iload_n hx hb dX6_thing_59 rfl (lv_at hl 1 rfl) ?_
            refine fx_ti (show th = nI (nn th) from (inB_nn (n := 7) hb_1 (by omega)).1) ?_
            have g2 := (inB_nn (n := 7) hb_1 (by omega)).2
            refine lv_iadd hx hb dX6_thing_60 ?_
            refine fx_ti (nI_add (8 + 8 * (nn wh)) (nn th)) ?_
            refine lv_iload_n hx hb dX6_thing_61 rfl (lv_at hl 3 rfl) ?_
            refine fx_ci (va_runV (As := [.int (nI (8 + 8 * (nn wh) + nn th)), .int v]) (rest := []) X (mX6_change1 l E ad im at_ op st_ us bn bm la fo fi lp tr_ sp ip sa (8 + 8 * (nn wh) + nn th) v (by omega) _) (cwV 2 X.2.2.2.2 (lw_V q1331 q1333 qs44 q75 q1334) rfl rfl rfl ⟨rfl, hdX6_change1⟩ ⟨Nat.le_of_ble_eq_true rfl, Nat.le_of_ble_eq_true rfl⟩) (fx_preV (fx_pre hE hP hD hS hR [0] rfl rfl (fx_rcr 0 rfl fx_rc0)) (va_recv hE.1 (hR.at hS) (ci := 6) (q0 := 0) rfl rfl)) rfl rfl hl.1 rfl (lv_room (Nat.le_of_ble_eq_true rfl)) dX6_thing_62 ⟨Nat.le_refl _, Nat.le_refl _⟩) hP hD hS hA [0] rfl rfl (fun r_62 u H locs hq_62 hP hD hS => ?_)
            replace hP : va_P E.1 clA [(ad 0, .inl (E.2 0, 374, .inl (upd sa (8 + 8 * (nn wh) + nn th) v))), (ad 3, .inl (E.2 0, 7, .inl er))] _ := hP
            replace hD : va_D A [(ad 0, .inl (E.2 0, 374, .inl (upd sa (8 + 8 * (nn wh) + nn th) v))), (ad 3, .inl (E.2 0, 7, .inl er))] := hD
            replace hq_62 : r_62 = sa (8 + 8 * (nn wh) + nn th) := hq_62
            exact hret r_62 ((upd sa (8 + 8 * (nn wh) + nn th) v), er) (by simp [thing_, erI, hq_62, hb_1, hb_10, c_18, eq_true c_28, hb_39]) (rfl) hP hD hS (Nat.le_refl _) (Nat.le_refl _) dX6_thing_65
          · -- False
            subst hr_39
            refine lv_if_ne (tgt := 51) hx hb dX6_thing_42 (by decide) (fun c => (c (by decide)).elim) (fun _ => ?_)
            refine lv_aload_n hx hb dX6_thing_45 rfl (lv_at hl 0 rfl) ?_
            refine lv_iconst (v := 1) hx hb dX6_thing_46 rfl ?_
            refine fx_ci (va_runV (As := [.int 1]) (rest := []) X (mX6_error l E ad im at_ op st_ us bn bm la fo fi lp tr_ sp ip er 1 (by decide) _) (cwV 1 X.2.2.2.2 (lw_V q1266 q1268 qs32 q75 q1269) rfl rfl rfl ⟨rfl, hdX6_error⟩ ⟨Nat.le_of_ble_eq_true rfl, Nat.le_of_ble_eq_true rfl⟩) (fx_preV (fx_pre hE hP hD hS hR [1] rfl rfl (fx_rcr 0 rfl fx_rc0)) (va_recv hE.1 (hR.at hS) (ci := 6) (q0 := 0) rfl rfl)) rfl rfl hl.1 rfl (lv_room (Nat.le_of_ble_eq_true rfl)) dX6_thing_47 ⟨Nat.le_refl _, Nat.le_refl _⟩) hP hD hS hA [1] rfl rfl (fun r_47 u H locs hq_47 hP hD hS => ?_)
            replace hP : va_P E.1 clA [(ad 0, .inl (E.2 0, 374, .inl sa)), (ad 3, .inl (E.2 0, 7, .inl (upd er 1 (er 1 + 1))))] _ := hP
            replace hD : va_D A [(ad 0, .inl (E.2 0, 374, .inl sa)), (ad 3, .inl (E.2 0, 7, .inl (upd er 1 (er 1 + 1))))] := hD
            replace hq_47 : r_47 = erv 1 := hq_47
            exact hret r_47 (sa, (upd er 1 (er 1 + 1))) (by simp [thing_, erI, hq_47, hb_1, hb_10, c_18, eq_true c_28, hb_39]) (rfl) hP hD hS (Nat.le_refl _) (Nat.le_refl _) dX6_thing_50
      · -- fall 21
        refine lv_iconst (v := 1) hx hb dX6_thing_21 rfl ?_
        refine lv_goto (tgt := 26) hx hb dX6_thing_22 (by decide) ?_
        refine lv_iload_n hx hb dX6_thing_26 rfl (lv_at hl 2 rfl) ?_
        refine lv_iconst (v := 2) hx hb dX6_thing_27 rfl ?_
        refine lv_icmp_ne (tgt := 36) hx hb dX6_thing_28 (by decide) (fun c_28 => ?_) (fun c_28 => ?_)
        · -- jump 36
          refine lv_sipush (v := 9999) hx hb dX6_thing_36 rfl ?_
          refine fx_ci (va_runS (As := [.int v, .int 1, .int 9999]) (rest := []) X (mX6_in l E v 1 9999 _) (va_cwS 3 X.2.2.2.2 (lw_S q1263 q1264 q75 q1265) rfl rfl rfl hdX6_in ⟨Nat.le_of_ble_eq_true rfl, Nat.le_of_ble_eq_true rfl⟩) (fx_pre hE hP hD hS hR [] rfl rfl fx_rc0) rfl rfl hl.1 rfl (lv_room (Nat.le_of_ble_eq_true rfl)) dX6_thing_39 ⟨Nat.le_refl _, Nat.le_refl _⟩) hP hD hS hA [] rfl rfl (fun r_39 u H locs hq_39 hP hD hS => ?_)
          replace hP : va_P E.1 clA [(ad 0, .inl (E.2 0, 374, .inl sa)), (ad 3, .inl (E.2 0, 7, .inl er))] _ := hP
          replace hD : va_D A [(ad 0, .inl (E.2 0, 374, .inl sa)), (ad 3, .inl (E.2 0, 7, .inl er))] := hD
          replace hq_39 : r_39 = fx_b (inB v 1 9999 = true) := hq_39
          rcases fx_bc hq_39 with ⟨hb_39, hr_39⟩ | ⟨hb_39, hr_39⟩
          · -- True
            subst hr_39
            refine lv_if_ne (tgt := 51) hx hb dX6_thing_42 (by decide) (fun _ => ?_) (fun c => absurd c (by decide))
            refine lv_aload_n hx hb dX6_thing_51 rfl (lv_at hl 0 rfl) ?_
            refine lv_bipush (v := 8) hx hb dX6_thing_52 rfl ?_
            refine lv_bipush (v := 8) hx hb dX6_thing_54 rfl ?_
            refine lv_iload_n hx hb dX6_thing_56 rfl (lv_at hl 2 rfl) ?_
            refine fx_ti (show wh = nI (nn wh) from (inB_nn (n := 2) hb_10 (by omega)).1) ?_
            have g1 := (inB_nn (n := 2) hb_10 (by omega)).2
            refine lv_imul hx hb dX6_thing_57 ?_
            refine fx_ti (pk_mul 8 (nn wh)) ?_
            refine lv_iadd hx hb dX6_thing_58 ?_
            refine fx_ti (nI_add 8 (8 * (nn wh))) ?_
            refine lv_iload_n hx hb dX6_thing_59 rfl (lv_at hl 1 rfl) ?_
            refine fx_ti (show th = nI (nn th) from (inB_nn (n := 7) hb_1 (by omega)).1) ?_
            have g2 := (inB_nn (n := 7) hb_1 (by omega)).2
            refine lv_iadd hx hb dX6_thing_60 ?_
            refine fx_ti (nI_add (8 + 8 * (nn wh)) (nn th)) ?_
            refine lv_iload_n hx hb dX6_thing_61 rfl (lv_at hl 3 rfl) ?_
            refine fx_ci (va_runV (As := [.int (nI (8 + 8 * (nn wh) + nn th)), .int v]) (rest := []) X (mX6_change1 l E ad im at_ op st_ us bn bm la fo fi lp tr_ sp ip sa (8 + 8 * (nn wh) + nn th) v (by omega) _) (cwV 2 X.2.2.2.2 (lw_V q1331 q1333 qs44 q75 q1334) rfl rfl rfl ⟨rfl, hdX6_change1⟩ ⟨Nat.le_of_ble_eq_true rfl, Nat.le_of_ble_eq_true rfl⟩) (fx_preV (fx_pre hE hP hD hS hR [0] rfl rfl (fx_rcr 0 rfl fx_rc0)) (va_recv hE.1 (hR.at hS) (ci := 6) (q0 := 0) rfl rfl)) rfl rfl hl.1 rfl (lv_room (Nat.le_of_ble_eq_true rfl)) dX6_thing_62 ⟨Nat.le_refl _, Nat.le_refl _⟩) hP hD hS hA [0] rfl rfl (fun r_62 u H locs hq_62 hP hD hS => ?_)
            replace hP : va_P E.1 clA [(ad 0, .inl (E.2 0, 374, .inl (upd sa (8 + 8 * (nn wh) + nn th) v))), (ad 3, .inl (E.2 0, 7, .inl er))] _ := hP
            replace hD : va_D A [(ad 0, .inl (E.2 0, 374, .inl (upd sa (8 + 8 * (nn wh) + nn th) v))), (ad 3, .inl (E.2 0, 7, .inl er))] := hD
            replace hq_62 : r_62 = sa (8 + 8 * (nn wh) + nn th) := hq_62
            exact hret r_62 ((upd sa (8 + 8 * (nn wh) + nn th) v), er) (by simp [thing_, erI, hq_62, hb_1, hb_10, eq_true c_18, c_28, hb_39]) (rfl) hP hD hS (Nat.le_refl _) (Nat.le_refl _) dX6_thing_65
          · -- False
            subst hr_39
            refine lv_if_ne (tgt := 51) hx hb dX6_thing_42 (by decide) (fun c => (c (by decide)).elim) (fun _ => ?_)
            refine lv_aload_n hx hb dX6_thing_45 rfl (lv_at hl 0 rfl) ?_
            refine lv_iconst (v := 1) hx hb dX6_thing_46 rfl ?_
            refine fx_ci (va_runV (As := [.int 1]) (rest := []) X (mX6_error l E ad im at_ op st_ us bn bm la fo fi lp tr_ sp ip er 1 (by decide) _) (cwV 1 X.2.2.2.2 (lw_V q1266 q1268 qs32 q75 q1269) rfl rfl rfl ⟨rfl, hdX6_error⟩ ⟨Nat.le_of_ble_eq_true rfl, Nat.le_of_ble_eq_true rfl⟩) (fx_preV (fx_pre hE hP hD hS hR [1] rfl rfl (fx_rcr 0 rfl fx_rc0)) (va_recv hE.1 (hR.at hS) (ci := 6) (q0 := 0) rfl rfl)) rfl rfl hl.1 rfl (lv_room (Nat.le_of_ble_eq_true rfl)) dX6_thing_47 ⟨Nat.le_refl _, Nat.le_refl _⟩) hP hD hS hA [1] rfl rfl (fun r_47 u H locs hq_47 hP hD hS => ?_)
            replace hP : va_P E.1 clA [(ad 0, .inl (E.2 0, 374, .inl sa)), (ad 3, .inl (E.2 0, 7, .inl (upd er 1 (er 1 + 1))))] _ := hP
            replace hD : va_D A [(ad 0, .inl (E.2 0, 374, .inl sa)), (ad 3, .inl (E.2 0, 7, .inl (upd er 1 (er 1 + 1))))] := hD
            replace hq_47 : r_47 = erv 1 := hq_47
            exact hret r_47 (sa, (upd er 1 (er 1 + 1))) (by simp [thing_, erI, hq_47, hb_1, hb_10, eq_true c_18, c_28, hb_39]) (rfl) hP hD hS (Nat.le_refl _) (Nat.le_refl _) dX6_thing_50
        · -- fall 31
          refine lv_bipush (v := 99) hx hb dX6_thing_31 rfl ?_
          refine lv_goto (tgt := 39) hx hb dX6_thing_33 (by decide) ?_
          refine fx_ci (va_runS (As := [.int v, .int 1, .int 99]) (rest := []) X (mX6_in l E v 1 99 _) (va_cwS 3 X.2.2.2.2 (lw_S q1263 q1264 q75 q1265) rfl rfl rfl hdX6_in ⟨Nat.le_of_ble_eq_true rfl, Nat.le_of_ble_eq_true rfl⟩) (fx_pre hE hP hD hS hR [] rfl rfl fx_rc0) rfl rfl hl.1 rfl (lv_room (Nat.le_of_ble_eq_true rfl)) dX6_thing_39 ⟨Nat.le_refl _, Nat.le_refl _⟩) hP hD hS hA [] rfl rfl (fun r_39 u H locs hq_39 hP hD hS => ?_)
          replace hP : va_P E.1 clA [(ad 0, .inl (E.2 0, 374, .inl sa)), (ad 3, .inl (E.2 0, 7, .inl er))] _ := hP
          replace hD : va_D A [(ad 0, .inl (E.2 0, 374, .inl sa)), (ad 3, .inl (E.2 0, 7, .inl er))] := hD
          replace hq_39 : r_39 = fx_b (inB v 1 99 = true) := hq_39
          rcases fx_bc hq_39 with ⟨hb_39, hr_39⟩ | ⟨hb_39, hr_39⟩
          · -- True
            subst hr_39
            refine lv_if_ne (tgt := 51) hx hb dX6_thing_42 (by decide) (fun _ => ?_) (fun c => absurd c (by decide))
            refine lv_aload_n hx hb dX6_thing_51 rfl (lv_at hl 0 rfl) ?_
            refine lv_bipush (v := 8) hx hb dX6_thing_52 rfl ?_
            refine lv_bipush (v := 8) hx hb dX6_thing_54 rfl ?_
            refine lv_iload_n hx hb dX6_thing_56 rfl (lv_at hl 2 rfl) ?_
            refine fx_ti (show wh = nI (nn wh) from (inB_nn (n := 2) hb_10 (by omega)).1) ?_
            have g1 := (inB_nn (n := 2) hb_10 (by omega)).2
            refine lv_imul hx hb dX6_thing_57 ?_
            refine fx_ti (pk_mul 8 (nn wh)) ?_
            refine lv_iadd hx hb dX6_thing_58 ?_
            refine fx_ti (nI_add 8 (8 * (nn wh))) ?_
            refine lv_iload_n hx hb dX6_thing_59 rfl (lv_at hl 1 rfl) ?_
            refine fx_ti (show th = nI (nn th) from (inB_nn (n := 7) hb_1 (by omega)).1) ?_
            have g2 := (inB_nn (n := 7) hb_1 (by omega)).2
            refine lv_iadd hx hb dX6_thing_60 ?_
            refine fx_ti (nI_add (8 + 8 * (nn wh)) (nn th)) ?_
            refine lv_iload_n hx hb dX6_thing_61 rfl (lv_at hl 3 rfl) ?_
            refine fx_ci (va_runV (As := [.int (nI (8 + 8 * (nn wh) + nn th)), .int v]) (rest := []) X (mX6_change1 l E ad im at_ op st_ us bn bm la fo fi lp tr_ sp ip sa (8 + 8 * (nn wh) + nn th) v (by omega) _) (cwV 2 X.2.2.2.2 (lw_V q1331 q1333 qs44 q75 q1334) rfl rfl rfl ⟨rfl, hdX6_change1⟩ ⟨Nat.le_of_ble_eq_true rfl, Nat.le_of_ble_eq_true rfl⟩) (fx_preV (fx_pre hE hP hD hS hR [0] rfl rfl (fx_rcr 0 rfl fx_rc0)) (va_recv hE.1 (hR.at hS) (ci := 6) (q0 := 0) rfl rfl)) rfl rfl hl.1 rfl (lv_room (Nat.le_of_ble_eq_true rfl)) dX6_thing_62 ⟨Nat.le_refl _, Nat.le_refl _⟩) hP hD hS hA [0] rfl rfl (fun r_62 u H locs hq_62 hP hD hS => ?_)
            replace hP : va_P E.1 clA [(ad 0, .inl (E.2 0, 374, .inl (upd sa (8 + 8 * (nn wh) + nn th) v))), (ad 3, .inl (E.2 0, 7, .inl er))] _ := hP
            replace hD : va_D A [(ad 0, .inl (E.2 0, 374, .inl (upd sa (8 + 8 * (nn wh) + nn th) v))), (ad 3, .inl (E.2 0, 7, .inl er))] := hD
            replace hq_62 : r_62 = sa (8 + 8 * (nn wh) + nn th) := hq_62
            exact hret r_62 ((upd sa (8 + 8 * (nn wh) + nn th) v), er) (by simp [thing_, erI, hq_62, hb_1, hb_10, eq_true c_18, eq_true c_28, hb_39]) (rfl) hP hD hS (Nat.le_refl _) (Nat.le_refl _) dX6_thing_65
          · -- False
            subst hr_39
            refine lv_if_ne (tgt := 51) hx hb dX6_thing_42 (by decide) (fun c => (c (by decide)).elim) (fun _ => ?_)
            refine lv_aload_n hx hb dX6_thing_45 rfl (lv_at hl 0 rfl) ?_
            refine lv_iconst (v := 1) hx hb dX6_thing_46 rfl ?_
            refine fx_ci (va_runV (As := [.int 1]) (rest := []) X (mX6_error l E ad im at_ op st_ us bn bm la fo fi lp tr_ sp ip er 1 (by decide) _) (cwV 1 X.2.2.2.2 (lw_V q1266 q1268 qs32 q75 q1269) rfl rfl rfl ⟨rfl, hdX6_error⟩ ⟨Nat.le_of_ble_eq_true rfl, Nat.le_of_ble_eq_true rfl⟩) (fx_preV (fx_pre hE hP hD hS hR [1] rfl rfl (fx_rcr 0 rfl fx_rc0)) (va_recv hE.1 (hR.at hS) (ci := 6) (q0 := 0) rfl rfl)) rfl rfl hl.1 rfl (lv_room (Nat.le_of_ble_eq_true rfl)) dX6_thing_47 ⟨Nat.le_refl _, Nat.le_refl _⟩) hP hD hS hA [1] rfl rfl (fun r_47 u H locs hq_47 hP hD hS => ?_)
            replace hP : va_P E.1 clA [(ad 0, .inl (E.2 0, 374, .inl sa)), (ad 3, .inl (E.2 0, 7, .inl (upd er 1 (er 1 + 1))))] _ := hP
            replace hD : va_D A [(ad 0, .inl (E.2 0, 374, .inl sa)), (ad 3, .inl (E.2 0, 7, .inl (upd er 1 (er 1 + 1))))] := hD
            replace hq_47 : r_47 = erv 1 := hq_47
            exact hret r_47 (sa, (upd er 1 (er 1 + 1))) (by simp [thing_, erI, hq_47, hb_1, hb_10, eq_true c_18, eq_true c_28, hb_39]) (rfl) hP hD hS (Nat.le_refl _) (Nat.le_refl _) dX6_thing_50
    · -- False
      subst hr_10
      refine lv_if_eq (tgt := 45) hx hb dX6_thing_13 (by decide) (fun _ => ?_) (fun c => (c (by decide)).elim)
      refine lv_aload_n hx hb dX6_thing_45 rfl (lv_at hl 0 rfl) ?_
      refine lv_iconst (v := 1) hx hb dX6_thing_46 rfl ?_
      refine fx_ci (va_runV (As := [.int 1]) (rest := []) X (mX6_error l E ad im at_ op st_ us bn bm la fo fi lp tr_ sp ip er 1 (by decide) _) (cwV 1 X.2.2.2.2 (lw_V q1266 q1268 qs32 q75 q1269) rfl rfl rfl ⟨rfl, hdX6_error⟩ ⟨Nat.le_of_ble_eq_true rfl, Nat.le_of_ble_eq_true rfl⟩) (fx_preV (fx_pre hE hP hD hS hR [1] rfl rfl (fx_rcr 0 rfl fx_rc0)) (va_recv hE.1 (hR.at hS) (ci := 6) (q0 := 0) rfl rfl)) rfl rfl hl.1 rfl (lv_room (Nat.le_of_ble_eq_true rfl)) dX6_thing_47 ⟨Nat.le_refl _, Nat.le_refl _⟩) hP hD hS hA [1] rfl rfl (fun r_47 u H locs hq_47 hP hD hS => ?_)
      replace hP : va_P E.1 clA [(ad 0, .inl (E.2 0, 374, .inl sa)), (ad 3, .inl (E.2 0, 7, .inl (upd er 1 (er 1 + 1))))] _ := hP
      replace hD : va_D A [(ad 0, .inl (E.2 0, 374, .inl sa)), (ad 3, .inl (E.2 0, 7, .inl (upd er 1 (er 1 + 1))))] := hD
      replace hq_47 : r_47 = erv 1 := hq_47
      exact hret r_47 (sa, (upd er 1 (er 1 + 1))) (by simp [thing_, erI, hq_47, hb_1, hb_10]) (rfl) hP hD hS (Nat.le_refl _) (Nat.le_refl _) dX6_thing_50
  · -- False
    subst hr_1
    refine lv_if_eq (tgt := 45) hx hb dX6_thing_4 (by decide) (fun _ => ?_) (fun c => (c (by decide)).elim)
    refine lv_aload_n hx hb dX6_thing_45 rfl (lv_at hl 0 rfl) ?_
    refine lv_iconst (v := 1) hx hb dX6_thing_46 rfl ?_
    refine fx_ci (va_runV (As := [.int 1]) (rest := []) X (mX6_error l E ad im at_ op st_ us bn bm la fo fi lp tr_ sp ip er 1 (by decide) _) (cwV 1 X.2.2.2.2 (lw_V q1266 q1268 qs32 q75 q1269) rfl rfl rfl ⟨rfl, hdX6_error⟩ ⟨Nat.le_of_ble_eq_true rfl, Nat.le_of_ble_eq_true rfl⟩) (fx_preV (fx_pre hE hP hD hS hR [1] rfl rfl (fx_rcr 0 rfl fx_rc0)) (va_recv hE.1 (hR.at hS) (ci := 6) (q0 := 0) rfl rfl)) rfl rfl hl.1 rfl (lv_room (Nat.le_of_ble_eq_true rfl)) dX6_thing_47 ⟨Nat.le_refl _, Nat.le_refl _⟩) hP hD hS hA [1] rfl rfl (fun r_47 u H locs hq_47 hP hD hS => ?_)
    replace hP : va_P E.1 clA [(ad 0, .inl (E.2 0, 374, .inl sa)), (ad 3, .inl (E.2 0, 7, .inl (upd er 1 (er 1 + 1))))] _ := hP
    replace hD : va_D A [(ad 0, .inl (E.2 0, 374, .inl sa)), (ad 3, .inl (E.2 0, 7, .inl (upd er 1 (er 1 + 1))))] := hD
    replace hq_47 : r_47 = erv 1 := hq_47
    exact hret r_47 (sa, (upd er 1 (er 1 + 1))) (by simp [thing_, erI, hq_47, hb_1]) (rfl) hP hD hS (Nat.le_refl _) (Nat.le_refl _) dX6_thing_50
abbrev rmX6_thingIs : Room := { frames := 3, cells := 0, slots := 0, locals := 69 }
set_option maxHeartbeats 400000 in
set_option maxRecDepth 100000 in
theorem mX6_thingIs (l : Launch) (E : fx_En) (ad : Nat → Nat) (im : Int32) (at_ : Int32) (op : Int32) (st_ : Int32) (us : Int32) (bn : Int32) (bm : Int32) (la : Int32) (fo : Int32) (fi : Int32) (lp : Int32) (tr_ : Int32) (sp : Int32) (ip : Int32) (sa : Nat → Int32) (er : Nat → Int32) (nmd : Nat → Int32) (pl : Nat → Int32) (th : Int32) (wh : Int32) (T : Tx) (hT : TM sa 1 T) (hTo : TOk T) : fx_Mi l yX6_thingIs cX6_thingIs 3 .int rmX6_thingIs E [.ref (ad 30), .int th, .int wh] [(ad 3, .inl (E.2 0, 7, .inl er)), (ad 9, .inl (E.2 0, 128, .inl nmd)), (ad 10, .inl (E.2 0, 64, .inl pl))] [(ad 30, .inr (6, [.ref (ad 0), .ref (ad 1), .int im, .ref (ad 3), .int at_, .int op, .int st_, .int us, .ref (ad 8), .ref (ad 9), .ref (ad 10), .ref (ad 11), .ref (ad 12), .ref (ad 13), .ref (ad 14), .int bn, .int bm, .ref (ad 17), .int la, .int fo, .int fi, .int lp, .ref (ad 22), .int tr_, .int sp, .int ip, .ref (ad 26), .ref (ad 27), .ref (ad 28), .ref (ad 29)])), (ad 0, .inl (E.2 0, 374, .inl sa))] (S := (Nat → Int32) × (Nat → Int32) × (Nat → Int32)) (fun (u : (Nat → Int32) × (Nat → Int32) × (Nat → Int32)) => [(ad 3, .inl (E.2 0, 7, .inl u.1)), (ad 9, .inl (E.2 0, 128, .inl u.2.1)), (ad 10, .inl (E.2 0, 64, .inl u.2.2))]) (fun (r : Int32) (u : (Nat → Int32) × (Nat → Int32) × (Nat → Int32)) => (r, u.1) = thingIs_ sa er T th wh) := by
  refine fx_iW rfl rfl ?_
  intro p e s m args below meth c A ls Q X hE hP hD hR hA hl hret
  have hx := X.1
  have hb := X.2.1
  have hS : va_S A s.heap s.heap [] := va_S.rf
  replace hP : va_P E.1 clA [(ad 3, .inl (E.2 0, 7, .inl er)), (ad 9, .inl (E.2 0, 128, .inl nmd)), (ad 10, .inl (E.2 0, 64, .inl pl))] _ := hP
  replace hD : va_D A [(ad 3, .inl (E.2 0, 7, .inl er)), (ad 9, .inl (E.2 0, 128, .inl nmd)), (ad 10, .inl (E.2 0, 64, .inl pl))] := hD
  replace hl : lv_has ls 3 [(0, .ref (ad 30)), (1, .int th), (2, .int wh)] := hl
  refine lv_iload_n hx hb dX6_thingIs_0 rfl (lv_at hl 1 rfl) ?_
  refine fx_ci (va_runS (As := [.int th]) (rest := []) X (mX6_isThing l E th _) (va_cwS 1 X.2.2.2.2 (lw_S q1328 q1329 q75 q1330) rfl rfl rfl hdX6_isThing ⟨Nat.le_of_ble_eq_true rfl, Nat.le_of_ble_eq_true rfl⟩) (fx_pre hE hP hD hS hR [] rfl rfl fx_rc0) rfl rfl hl.1 rfl (lv_room (Nat.le_of_ble_eq_true rfl)) dX6_thingIs_1 ⟨Nat.le_refl _, Nat.le_refl _⟩) hP hD hS hA [] rfl rfl (fun r_1 u H locs hq_1 hP hD hS => ?_)
  replace hP : va_P E.1 clA [(ad 3, .inl (E.2 0, 7, .inl er)), (ad 9, .inl (E.2 0, 128, .inl nmd)), (ad 10, .inl (E.2 0, 64, .inl pl))] _ := hP
  replace hD : va_D A [(ad 3, .inl (E.2 0, 7, .inl er)), (ad 9, .inl (E.2 0, 128, .inl nmd)), (ad 10, .inl (E.2 0, 64, .inl pl))] := hD
  replace hq_1 : r_1 = fx_b (inB th 0 7 = true) := hq_1
  rcases fx_bc hq_1 with ⟨hb_1, hr_1⟩ | ⟨hb_1, hr_1⟩
  · -- True
    subst hr_1
    refine lv_if_eq (tgt := 16) hx hb dX6_thingIs_4 (by decide) (fun c => absurd c (by decide)) (fun _ => ?_)
    refine lv_iload_n hx hb dX6_thingIs_7 rfl (lv_at hl 2 rfl) ?_
    refine lv_iconst (v := 0) hx hb dX6_thingIs_8 rfl ?_
    refine lv_iconst (v := 3) hx hb dX6_thingIs_9 rfl ?_
    refine fx_ci (va_runS (As := [.int wh, .int 0, .int 3]) (rest := []) X (mX6_in l E wh 0 3 _) (va_cwS 3 X.2.2.2.2 (lw_S q1263 q1264 q75 q1265) rfl rfl rfl hdX6_in ⟨Nat.le_of_ble_eq_true rfl, Nat.le_of_ble_eq_true rfl⟩) (fx_pre hE hP hD hS hR [] rfl rfl fx_rc0) rfl rfl hl.1 rfl (lv_room (Nat.le_of_ble_eq_true rfl)) dX6_thingIs_10 ⟨Nat.le_refl _, Nat.le_refl _⟩) hP hD hS hA [] rfl rfl (fun r_10 u H locs hq_10 hP hD hS => ?_)
    replace hP : va_P E.1 clA [(ad 3, .inl (E.2 0, 7, .inl er)), (ad 9, .inl (E.2 0, 128, .inl nmd)), (ad 10, .inl (E.2 0, 64, .inl pl))] _ := hP
    replace hD : va_D A [(ad 3, .inl (E.2 0, 7, .inl er)), (ad 9, .inl (E.2 0, 128, .inl nmd)), (ad 10, .inl (E.2 0, 64, .inl pl))] := hD
    replace hq_10 : r_10 = fx_b (inB wh 0 3 = true) := hq_10
    rcases fx_bc hq_10 with ⟨hb_10, hr_10⟩ | ⟨hb_10, hr_10⟩
    · -- True
      subst hr_10
      refine lv_if_ne (tgt := 22) hx hb dX6_thingIs_13 (by decide) (fun _ => ?_) (fun c => absurd c (by decide))
      refine lv_iload_n hx hb dX6_thingIs_22 rfl (lv_at hl 2 rfl) ?_
      refine lv_iconst (v := 3) hx hb dX6_thingIs_23 rfl ?_
      refine lv_icmp_ne (tgt := 35) hx hb dX6_thingIs_24 (by decide) (fun c_24 => ?_) (fun c_24 => ?_)
      · -- jump 35
        refine lv_aload_n hx hb dX6_thingIs_35 rfl (lv_at hl 0 rfl) ?_
        refine fx_get X hE (hR.at hS) 0 rfl rfl 0 rfl q1168 rfl rfl dX6_thingIs_36 ?_
        refine lv_bipush (v := 8) hx hb dX6_thingIs_39 rfl ?_
        refine lv_bipush (v := 8) hx hb dX6_thingIs_41 rfl ?_
        refine lv_iload_n hx hb dX6_thingIs_43 rfl (lv_at hl 2 rfl) ?_
        refine fx_ti (show wh = nI (nn wh) from (inB_nn (n := 3) hb_10 (by omega)).1) ?_
        have g1 := (inB_nn (n := 3) hb_10 (by omega)).2
        refine lv_imul hx hb dX6_thingIs_44 ?_
        refine fx_ti (pk_mul 8 (nn wh)) ?_
        refine lv_iadd hx hb dX6_thingIs_45 ?_
        refine fx_ti (nI_add 8 (8 * (nn wh))) ?_
        refine lv_iload_n hx hb dX6_thingIs_46 rfl (lv_at hl 1 rfl) ?_
        refine fx_ti (show th = nI (nn th) from (inB_nn (n := 7) hb_1 (by omega)).1) ?_
        have g2 := (inB_nn (n := 7) hb_1 (by omega)).2
        refine lv_iadd hx hb dX6_thingIs_47 ?_
        refine fx_ti (nI_add (8 + 8 * (nn wh)) (nn th)) ?_
        refine fx_iald X hE (hR.at hS) 1 rfl (8 + 8 * (nn wh) + nn th) rfl (by omega) rfl dX6_thingIs_48 ?_
        exact hret (sa (8 + 8 * (nn wh) + nn th)) (er, nmd, pl) (by simp [thingIs_, erI, hb_1, hb_10, c_24]) (rfl) hP hD hS (Nat.le_refl _) (Nat.le_refl _) dX6_thingIs_49
      · -- fall 27
        refine lv_aload_n hx hb dX6_thingIs_27 rfl (lv_at hl 0 rfl) ?_
        refine lv_iload_n hx hb dX6_thingIs_28 rfl (lv_at hl 1 rfl) ?_
        refine fx_ti (show th = nI (nn th) from (inB_nn (n := 7) hb_1 (by omega)).1) ?_
        have g2 := (inB_nn (n := 7) hb_1 (by omega)).2
        refine fx_ci (va_runV (As := [.int (nI (nn th))]) (rest := []) X (mX6_values l E ad im at_ op st_ us bn bm la fo fi lp tr_ sp ip sa nmd pl (nn th) T (by omega) (by first | assumption | omega) (by first | assumption | omega) _) (cwV 1 X.2.2.2.2 (lw_V q1339 q1341 qs45 q75 q1342) rfl rfl rfl ⟨rfl, hdX6_values⟩ ⟨Nat.le_of_ble_eq_true rfl, Nat.le_of_ble_eq_true rfl⟩) (fx_preV (fx_pre hE hP hD hS hR [1, 2] rfl rfl (fx_rcr 0 rfl (fx_rcr 1 rfl fx_rc0))) (va_recv hE.1 (hR.at hS) (ci := 6) (q0 := 0) rfl rfl)) rfl rfl hl.1 rfl (lv_room (Nat.le_of_ble_eq_true rfl)) dX6_thingIs_29 ⟨Nat.le_refl _, Nat.le_refl _⟩) hP hD hS hA [1, 2] rfl rfl (fun r_29 u H locs hq_29 hP hD hS => ?_)
        obtain ⟨nm2_29, pl2_29⟩ := u
        replace hP : va_P E.1 clA [(ad 3, .inl (E.2 0, 7, .inl er)), (ad 9, .inl (E.2 0, 128, .inl nm2_29)), (ad 10, .inl (E.2 0, 64, .inl pl2_29))] _ := hP
        replace hD : va_D A [(ad 3, .inl (E.2 0, 7, .inl er)), (ad 9, .inl (E.2 0, 128, .inl nm2_29)), (ad 10, .inl (E.2 0, 64, .inl pl2_29))] := hD
        replace hq_29 : r_29 = valF T (nn th) (sa (8 + (nn th))) (sa (16 + (nn th))) := hq_29
        refine lv_goto (tgt := 49) hx hb dX6_thingIs_32 (by decide) ?_
        exact hret r_29 (er, nm2_29, pl2_29) (by simp [thingIs_, erI, hq_29, hb_1, hb_10, eq_true c_24]) (rfl) hP hD hS (Nat.le_refl _) (Nat.le_refl _) dX6_thingIs_49
    · -- False
      subst hr_10
      refine lv_if_ne (tgt := 22) hx hb dX6_thingIs_13 (by decide) (fun c => (c (by decide)).elim) (fun _ => ?_)
      refine lv_aload_n hx hb dX6_thingIs_16 rfl (lv_at hl 0 rfl) ?_
      refine lv_iconst (v := 1) hx hb dX6_thingIs_17 rfl ?_
      refine fx_ci (va_runV (As := [.int 1]) (rest := []) X (mX6_error l E ad im at_ op st_ us bn bm la fo fi lp tr_ sp ip er 1 (by decide) _) (cwV 1 X.2.2.2.2 (lw_V q1266 q1268 qs32 q75 q1269) rfl rfl rfl ⟨rfl, hdX6_error⟩ ⟨Nat.le_of_ble_eq_true rfl, Nat.le_of_ble_eq_true rfl⟩) (fx_preV (fx_pre hE hP hD hS hR [0] rfl rfl (fx_rcr 0 rfl fx_rc0)) (va_recv hE.1 (hR.at hS) (ci := 6) (q0 := 0) rfl rfl)) rfl rfl hl.1 rfl (lv_room (Nat.le_of_ble_eq_true rfl)) dX6_thingIs_18 ⟨Nat.le_refl _, Nat.le_refl _⟩) hP hD hS hA [0] rfl rfl (fun r_18 u H locs hq_18 hP hD hS => ?_)
      replace hP : va_P E.1 clA [(ad 3, .inl (E.2 0, 7, .inl (upd er 1 (er 1 + 1)))), (ad 9, .inl (E.2 0, 128, .inl nmd)), (ad 10, .inl (E.2 0, 64, .inl pl))] _ := hP
      replace hD : va_D A [(ad 3, .inl (E.2 0, 7, .inl (upd er 1 (er 1 + 1)))), (ad 9, .inl (E.2 0, 128, .inl nmd)), (ad 10, .inl (E.2 0, 64, .inl pl))] := hD
      replace hq_18 : r_18 = erv 1 := hq_18
      exact hret r_18 ((upd er 1 (er 1 + 1)), nmd, pl) (by simp [thingIs_, erI, hq_18, hb_1, hb_10]) (rfl) hP hD hS (Nat.le_refl _) (Nat.le_refl _) dX6_thingIs_21
  · -- False
    subst hr_1
    refine lv_if_eq (tgt := 16) hx hb dX6_thingIs_4 (by decide) (fun _ => ?_) (fun c => (c (by decide)).elim)
    refine lv_aload_n hx hb dX6_thingIs_16 rfl (lv_at hl 0 rfl) ?_
    refine lv_iconst (v := 1) hx hb dX6_thingIs_17 rfl ?_
    refine fx_ci (va_runV (As := [.int 1]) (rest := []) X (mX6_error l E ad im at_ op st_ us bn bm la fo fi lp tr_ sp ip er 1 (by decide) _) (cwV 1 X.2.2.2.2 (lw_V q1266 q1268 qs32 q75 q1269) rfl rfl rfl ⟨rfl, hdX6_error⟩ ⟨Nat.le_of_ble_eq_true rfl, Nat.le_of_ble_eq_true rfl⟩) (fx_preV (fx_pre hE hP hD hS hR [0] rfl rfl (fx_rcr 0 rfl fx_rc0)) (va_recv hE.1 (hR.at hS) (ci := 6) (q0 := 0) rfl rfl)) rfl rfl hl.1 rfl (lv_room (Nat.le_of_ble_eq_true rfl)) dX6_thingIs_18 ⟨Nat.le_refl _, Nat.le_refl _⟩) hP hD hS hA [0] rfl rfl (fun r_18 u H locs hq_18 hP hD hS => ?_)
    replace hP : va_P E.1 clA [(ad 3, .inl (E.2 0, 7, .inl (upd er 1 (er 1 + 1)))), (ad 9, .inl (E.2 0, 128, .inl nmd)), (ad 10, .inl (E.2 0, 64, .inl pl))] _ := hP
    replace hD : va_D A [(ad 3, .inl (E.2 0, 7, .inl (upd er 1 (er 1 + 1)))), (ad 9, .inl (E.2 0, 128, .inl nmd)), (ad 10, .inl (E.2 0, 64, .inl pl))] := hD
    replace hq_18 : r_18 = erv 1 := hq_18
    exact hret r_18 ((upd er 1 (er 1 + 1)), nmd, pl) (by simp [thingIs_, erI, hq_18, hb_1]) (rfl) hP hD hS (Nat.le_refl _) (Nat.le_refl _) dX6_thingIs_21
abbrev rmX6_till : Room := { frames := 2, cells := 0, slots := 0, locals := 42 }
set_option maxHeartbeats 400000 in
set_option maxRecDepth 100000 in
theorem mX6_till (l : Launch) (E : fx_En) (ad : Nat → Nat) (im : Int32) (at_ : Int32) (op : Int32) (st_ : Int32) (us : Int32) (bn : Int32) (bm : Int32) (la : Int32) (fo : Int32) (fi : Int32) (lp : Int32) (tr_ : Int32) (sp : Int32) (ip : Int32) (sa : Nat → Int32) (er : Nat → Int32) (til : Int32) (km : Int32) : fx_Mi l yX6_till cX6_till 4 .int rmX6_till E [.ref (ad 30), .int til, .int km] [(ad 0, .inl (E.2 0, 374, .inl sa)), (ad 3, .inl (E.2 0, 7, .inl er))] [(ad 30, .inr (6, [.ref (ad 0), .ref (ad 1), .int im, .ref (ad 3), .int at_, .int op, .int st_, .int us, .ref (ad 8), .ref (ad 9), .ref (ad 10), .ref (ad 11), .ref (ad 12), .ref (ad 13), .ref (ad 14), .int bn, .int bm, .ref (ad 17), .int la, .int fo, .int fi, .int lp, .ref (ad 22), .int tr_, .int sp, .int ip, .ref (ad 26), .ref (ad 27), .ref (ad 28), .ref (ad 29)]))] (S := (Nat → Int32) × (Nat → Int32)) (fun (u : (Nat → Int32) × (Nat → Int32)) => [(ad 0, .inl (E.2 0, 374, .inl u.1)), (ad 3, .inl (E.2 0, 7, .inl u.2))]) (fun (r : Int32) (u : (Nat → Int32) × (Nat → Int32)) => (r, u.1, u.2) = till_ sa er til km) := by
  refine fx_iW rfl rfl ?_
  intro p e s m args below meth c A ls Q X hE hP hD hR hA hl hret
  have hx := X.1
  have hb := X.2.1
  have hS : va_S A s.heap s.heap [] := va_S.rf
  replace hP : va_P E.1 clA [(ad 0, .inl (E.2 0, 374, .inl sa)), (ad 3, .inl (E.2 0, 7, .inl er))] _ := hP
  replace hD : va_D A [(ad 0, .inl (E.2 0, 374, .inl sa)), (ad 3, .inl (E.2 0, 7, .inl er))] := hD
  replace hl : lv_has ls 4 [(0, .ref (ad 30)), (1, .int til), (2, .int km)] := hl
  refine lv_iload_n hx hb dX6_till_0 rfl (lv_at hl 1 rfl) ?_
  refine fx_ci (va_runS (As := [.int til]) (rest := []) X (mX6_isTill l E til _) (va_cwS 1 X.2.2.2.2 (lw_S q1357 q1358 q75 q1359) rfl rfl rfl hdX6_isTill ⟨Nat.le_of_ble_eq_true rfl, Nat.le_of_ble_eq_true rfl⟩) (fx_pre hE hP hD hS hR [] rfl rfl fx_rc0) rfl rfl hl.1 rfl (lv_room (Nat.le_of_ble_eq_true rfl)) dX6_till_1 ⟨Nat.le_refl _, Nat.le_refl _⟩) hP hD hS hA [] rfl rfl (fun r_1 u H locs hq_1 hP hD hS => ?_)
  replace hP : va_P E.1 clA [(ad 0, .inl (E.2 0, 374, .inl sa)), (ad 3, .inl (E.2 0, 7, .inl er))] _ := hP
  replace hD : va_D A [(ad 0, .inl (E.2 0, 374, .inl sa)), (ad 3, .inl (E.2 0, 7, .inl er))] := hD
  replace hq_1 : r_1 = fx_b (inB til 0 3 = true) := hq_1
  rcases fx_bc hq_1 with ⟨hb_1, hr_1⟩ | ⟨hb_1, hr_1⟩
  · -- True
    subst hr_1
    refine lv_if_eq (tgt := 17) hx hb dX6_till_4 (by decide) (fun c => absurd c (by decide)) (fun _ => ?_)
    refine lv_iload_n hx hb dX6_till_7 rfl (lv_at hl 2 rfl) ?_
    refine lv_iconst (v := 0) hx hb dX6_till_8 rfl ?_
    refine lv_bipush (v := 69) hx hb dX6_till_9 rfl ?_
    refine fx_ci (va_runS (As := [.int km, .int 0, .int 69]) (rest := []) X (mX6_in l E km 0 69 _) (va_cwS 3 X.2.2.2.2 (lw_S q1263 q1264 q75 q1265) rfl rfl rfl hdX6_in ⟨Nat.le_of_ble_eq_true rfl, Nat.le_of_ble_eq_true rfl⟩) (fx_pre hE hP hD hS hR [] rfl rfl fx_rc0) rfl rfl hl.1 rfl (lv_room (Nat.le_of_ble_eq_true rfl)) dX6_till_11 ⟨Nat.le_refl _, Nat.le_refl _⟩) hP hD hS hA [] rfl rfl (fun r_11 u H locs hq_11 hP hD hS => ?_)
    replace hP : va_P E.1 clA [(ad 0, .inl (E.2 0, 374, .inl sa)), (ad 3, .inl (E.2 0, 7, .inl er))] _ := hP
    replace hD : va_D A [(ad 0, .inl (E.2 0, 374, .inl sa)), (ad 3, .inl (E.2 0, 7, .inl er))] := hD
    replace hq_11 : r_11 = fx_b (inB km 0 69 = true) := hq_11
    rcases fx_bc hq_11 with ⟨hb_11, hr_11⟩ | ⟨hb_11, hr_11⟩
    · -- True
      subst hr_11
      refine lv_if_ne (tgt := 23) hx hb dX6_till_14 (by decide) (fun _ => ?_) (fun c => absurd c (by decide))
      refine lv_bipush (v := 10) hx hb dX6_till_23 rfl ?_
      refine lv_aload_n hx hb dX6_till_25 rfl (lv_at hl 0 rfl) ?_
      refine lv_iload_n hx hb dX6_till_26 rfl (lv_at hl 1 rfl) ?_
      refine fx_ti (show til = nI (nn til) from (inB_nn (n := 3) hb_1 (by omega)).1) ?_
      have g1 := (inB_nn (n := 3) hb_1 (by omega)).2
      refine fx_ci (va_runV (As := [.int (nI (nn til))]) (rest := [.int 10]) X (mX6_kindOf l E ad im at_ op st_ us bn bm la fo fi lp tr_ sp ip sa (nn til) (by omega) _) (cwV 1 X.2.2.2.2 (lw_V q1360 q1362 qs47 q75 q1363) rfl rfl rfl ⟨rfl, hdX6_kindOf⟩ ⟨Nat.le_of_ble_eq_true rfl, Nat.le_of_ble_eq_true rfl⟩) (fx_preV (fx_pre hE hP hD hS hR [] rfl rfl (fx_rcr 0 rfl (fx_rcm 0 rfl (by decide) fx_rc0))) (va_recv hE.1 (hR.at hS) (ci := 6) (q0 := 0) rfl rfl)) rfl rfl hl.1 rfl (lv_room (Nat.le_of_ble_eq_true rfl)) dX6_till_27 ⟨Nat.le_refl _, Nat.le_refl _⟩) hP hD hS hA [] rfl rfl (fun r_27 u H locs hq_27 hP hD hS => ?_)
      replace hP : va_P E.1 clA [(ad 0, .inl (E.2 0, 374, .inl sa)), (ad 3, .inl (E.2 0, 7, .inl er))] _ := hP
      replace hD : va_D A [(ad 0, .inl (E.2 0, 374, .inl sa)), (ad 3, .inl (E.2 0, 7, .inl er))] := hD
      replace hq_27 : r_27 = sa (32 + 2 * (nn til)) := hq_27
      refine fx_ti (show r_27 = (sa (32 + 2 * nn til)) from hq_27) ?_
      refine lv_imul hx hb dX6_till_30 ?_
      refine lv_aload_n hx hb dX6_till_31 rfl (lv_at hl 0 rfl) ?_
      refine lv_iload_n hx hb dX6_till_32 rfl (lv_at hl 1 rfl) ?_
      refine fx_ti (show til = nI (nn til) from (inB_nn (n := 3) hb_1 (by omega)).1) ?_
      refine fx_ci (va_runV (As := [.int (nI (nn til))]) (rest := [.int (10 * (sa (32 + 2 * nn til)))]) X (mX6_mOf l E ad im at_ op st_ us bn bm la fo fi lp tr_ sp ip sa (nn til) (by omega) _) (cwV 1 X.2.2.2.2 (lw_V q1364 q1366 qs48 q75 q1367) rfl rfl rfl ⟨rfl, hdX6_mOf⟩ ⟨Nat.le_of_ble_eq_true rfl, Nat.le_of_ble_eq_true rfl⟩) (fx_preV (fx_pre hE hP hD hS hR [] rfl rfl (fx_rcr 0 rfl (fx_rcm 0 rfl (by decide) fx_rc0))) (va_recv hE.1 (hR.at hS) (ci := 6) (q0 := 0) rfl rfl)) rfl rfl hl.1 rfl (lv_room (Nat.le_of_ble_eq_true rfl)) dX6_till_33 ⟨Nat.le_refl _, Nat.le_refl _⟩) hP hD hS hA [] rfl rfl (fun r_33 u H locs hq_33 hP hD hS => ?_)
      replace hP : va_P E.1 clA [(ad 0, .inl (E.2 0, 374, .inl sa)), (ad 3, .inl (E.2 0, 7, .inl er))] _ := hP
      replace hD : va_D A [(ad 0, .inl (E.2 0, 374, .inl sa)), (ad 3, .inl (E.2 0, 7, .inl er))] := hD
      replace hq_33 : r_33 = sa (32 + 2 * (nn til) + 1) := hq_33
      refine fx_ti (show r_33 = (sa (32 + 2 * nn til + 1)) from hq_33) ?_
      refine lv_iadd hx hb dX6_till_36 ?_
      refine lv_istore_n (lv' := [(3, .int ((10 * (sa (32 + 2 * nn til))) + (sa (32 + 2 * nn til + 1)))), (0, .ref (ad 30)), (1, .int til), (2, .int km)]) hx hb dX6_till_37 rfl hl (by decide) rfl (fun ls hl => ?_)
      refine lv_aload_n hx hb dX6_till_38 rfl (lv_at hl 1 rfl) ?_
      refine fx_get X hE (hR.at hS) 0 rfl rfl 0 rfl q1168 rfl rfl dX6_till_39 ?_
      refine lv_bipush (v := 32) hx hb dX6_till_42 rfl ?_
      refine lv_iconst (v := 2) hx hb dX6_till_44 rfl ?_
      refine lv_iload_n hx hb dX6_till_45 rfl (lv_at hl 2 rfl) ?_
      refine fx_ti (show til = nI (nn til) from (inB_nn (n := 3) hb_1 (by omega)).1) ?_
      refine lv_imul hx hb dX6_till_46 ?_
      refine fx_ti (pk_mul 2 (nn til)) ?_
      refine lv_iadd hx hb dX6_till_47 ?_
      refine fx_ti (nI_add 32 (2 * (nn til))) ?_
      refine lv_iload_n hx hb dX6_till_48 rfl (lv_at hl 3 rfl) ?_
      refine fx_ti (show km = nI (nn km) from (inB_nn (n := 69) hb_11 (by omega)).1) ?_
      have g2 := (inB_nn (n := 69) hb_11 (by omega)).2
      refine lv_bipush (v := 10) hx hb dX6_till_49 rfl ?_
      refine lv_idiv hx hb dX6_till_51 (by decide) ?_
      refine fx_ti (pk_div (a := nn km) (d := 10) (by omega) (by omega) (by omega)) ?_
      refine fx_iast (ws' := [(ad 0, .inl (E.2 0, 374, .inl (upd sa (32 + 2 * (nn til)) (nI ((nn km) / 10))))), (ad 3, .inl (E.2 0, 7, .inl er))]) X hE hP hD hS 0 rfl (32 + 2 * (nn til)) rfl (by omega) rfl rfl dX6_till_52 (fun H locs hP hD hS => ?_)
      refine lv_aload_n hx hb dX6_till_53 rfl (lv_at hl 1 rfl) ?_
      refine fx_get X hE (hR.at hS) 0 rfl rfl 0 rfl q1168 rfl rfl dX6_till_54 ?_
      refine lv_bipush (v := 32) hx hb dX6_till_57 rfl ?_
      refine lv_iconst (v := 2) hx hb dX6_till_59 rfl ?_
      refine lv_iload_n hx hb dX6_till_60 rfl (lv_at hl 2 rfl) ?_
      refine fx_ti (show til = nI (nn til) from (inB_nn (n := 3) hb_1 (by omega)).1) ?_
      refine lv_imul hx hb dX6_till_61 ?_
      refine fx_ti (pk_mul 2 (nn til)) ?_
      refine lv_iadd hx hb dX6_till_62 ?_
      refine fx_ti (nI_add 32 (2 * (nn til))) ?_
      refine lv_iconst (v := 1) hx hb dX6_till_63 rfl ?_
      refine lv_iadd hx hb dX6_till_64 ?_
      refine fx_ti (nI_add (32 + 2 * (nn til)) 1) ?_
      refine lv_iload_n hx hb dX6_till_65 rfl (lv_at hl 3 rfl) ?_
      refine fx_ti (show km = nI (nn km) from (inB_nn (n := 69) hb_11 (by omega)).1) ?_
      refine lv_bipush (v := 10) hx hb dX6_till_66 rfl ?_
      refine lv_irem hx hb dX6_till_68 (by decide) ?_
      refine fx_ti (pk_rem (a := nn km) (d := 10) (by omega) (by omega) (by omega)) ?_
      refine fx_iast (ws' := [(ad 0, .inl (E.2 0, 374, .inl (upd (upd sa (32 + 2 * (nn til)) (nI ((nn km) / 10))) (32 + 2 * (nn til) + 1) (nI ((nn km) % 10))))), (ad 3, .inl (E.2 0, 7, .inl er))]) X hE hP hD hS 0 rfl (32 + 2 * (nn til) + 1) rfl (by omega) rfl rfl dX6_till_69 (fun H locs hP hD hS => ?_)
      refine lv_iload_n hx hb dX6_till_70 rfl (lv_at hl 0 rfl) ?_
      exact hret ((10 * (sa (32 + 2 * nn til))) + (sa (32 + 2 * nn til + 1))) ((upd (upd sa (32 + 2 * (nn til)) (nI ((nn km) / 10))) (32 + 2 * (nn til) + 1) (nI ((nn km) % 10))), er) (by simp [till_, erI, hb_1, hb_11]) (rfl) hP hD hS (Nat.le_refl _) (Nat.le_refl _) dX6_till_71
    · -- False
      subst hr_11
      refine lv_if_ne (tgt := 23) hx hb dX6_till_14 (by decide) (fun c => (c (by decide)).elim) (fun _ => ?_)
      refine lv_aload_n hx hb dX6_till_17 rfl (lv_at hl 0 rfl) ?_
      refine lv_iconst (v := 1) hx hb dX6_till_18 rfl ?_
      refine fx_ci (va_runV (As := [.int 1]) (rest := []) X (mX6_error l E ad im at_ op st_ us bn bm la fo fi lp tr_ sp ip er 1 (by decide) _) (cwV 1 X.2.2.2.2 (lw_V q1266 q1268 qs32 q75 q1269) rfl rfl rfl ⟨rfl, hdX6_error⟩ ⟨Nat.le_of_ble_eq_true rfl, Nat.le_of_ble_eq_true rfl⟩) (fx_preV (fx_pre hE hP hD hS hR [1] rfl rfl (fx_rcr 0 rfl fx_rc0)) (va_recv hE.1 (hR.at hS) (ci := 6) (q0 := 0) rfl rfl)) rfl rfl hl.1 rfl (lv_room (Nat.le_of_ble_eq_true rfl)) dX6_till_19 ⟨Nat.le_refl _, Nat.le_refl _⟩) hP hD hS hA [1] rfl rfl (fun r_19 u H locs hq_19 hP hD hS => ?_)
      replace hP : va_P E.1 clA [(ad 0, .inl (E.2 0, 374, .inl sa)), (ad 3, .inl (E.2 0, 7, .inl (upd er 1 (er 1 + 1))))] _ := hP
      replace hD : va_D A [(ad 0, .inl (E.2 0, 374, .inl sa)), (ad 3, .inl (E.2 0, 7, .inl (upd er 1 (er 1 + 1))))] := hD
      replace hq_19 : r_19 = erv 1 := hq_19
      exact hret r_19 (sa, (upd er 1 (er 1 + 1))) (by simp [till_, erI, hq_19, hb_1, hb_11]) (rfl) hP hD hS (Nat.le_refl _) (Nat.le_refl _) dX6_till_22
  · -- False
    subst hr_1
    refine lv_if_eq (tgt := 17) hx hb dX6_till_4 (by decide) (fun _ => ?_) (fun c => (c (by decide)).elim)
    refine lv_aload_n hx hb dX6_till_17 rfl (lv_at hl 0 rfl) ?_
    refine lv_iconst (v := 1) hx hb dX6_till_18 rfl ?_
    refine fx_ci (va_runV (As := [.int 1]) (rest := []) X (mX6_error l E ad im at_ op st_ us bn bm la fo fi lp tr_ sp ip er 1 (by decide) _) (cwV 1 X.2.2.2.2 (lw_V q1266 q1268 qs32 q75 q1269) rfl rfl rfl ⟨rfl, hdX6_error⟩ ⟨Nat.le_of_ble_eq_true rfl, Nat.le_of_ble_eq_true rfl⟩) (fx_preV (fx_pre hE hP hD hS hR [1] rfl rfl (fx_rcr 0 rfl fx_rc0)) (va_recv hE.1 (hR.at hS) (ci := 6) (q0 := 0) rfl rfl)) rfl rfl hl.1 rfl (lv_room (Nat.le_of_ble_eq_true rfl)) dX6_till_19 ⟨Nat.le_refl _, Nat.le_refl _⟩) hP hD hS hA [1] rfl rfl (fun r_19 u H locs hq_19 hP hD hS => ?_)
    replace hP : va_P E.1 clA [(ad 0, .inl (E.2 0, 374, .inl sa)), (ad 3, .inl (E.2 0, 7, .inl (upd er 1 (er 1 + 1))))] _ := hP
    replace hD : va_D A [(ad 0, .inl (E.2 0, 374, .inl sa)), (ad 3, .inl (E.2 0, 7, .inl (upd er 1 (er 1 + 1))))] := hD
    replace hq_19 : r_19 = erv 1 := hq_19
    exact hret r_19 (sa, (upd er 1 (er 1 + 1))) (by simp [till_, erI, hq_19, hb_1]) (rfl) hP hD hS (Nat.le_refl _) (Nat.le_refl _) dX6_till_22
abbrev rmX6_tillIs : Room := { frames := 2, cells := 0, slots := 0, locals := 42 }
set_option maxHeartbeats 400000 in
set_option maxRecDepth 100000 in
theorem mX6_tillIs (l : Launch) (E : fx_En) (ad : Nat → Nat) (im : Int32) (at_ : Int32) (op : Int32) (st_ : Int32) (us : Int32) (bn : Int32) (bm : Int32) (la : Int32) (fo : Int32) (fi : Int32) (lp : Int32) (tr_ : Int32) (sp : Int32) (ip : Int32) (sa : Nat → Int32) (er : Nat → Int32) (til : Int32) (wh : Int32) : fx_Mi l yX6_tillIs cX6_tillIs 3 .int rmX6_tillIs E [.ref (ad 30), .int til, .int wh] [(ad 3, .inl (E.2 0, 7, .inl er))] [(ad 30, .inr (6, [.ref (ad 0), .ref (ad 1), .int im, .ref (ad 3), .int at_, .int op, .int st_, .int us, .ref (ad 8), .ref (ad 9), .ref (ad 10), .ref (ad 11), .ref (ad 12), .ref (ad 13), .ref (ad 14), .int bn, .int bm, .ref (ad 17), .int la, .int fo, .int fi, .int lp, .ref (ad 22), .int tr_, .int sp, .int ip, .ref (ad 26), .ref (ad 27), .ref (ad 28), .ref (ad 29)])), (ad 0, .inl (E.2 0, 374, .inl sa))] (S := (Nat → Int32)) (fun (u : (Nat → Int32)) => [(ad 3, .inl (E.2 0, 7, .inl u))]) (fun (r : Int32) (u : (Nat → Int32)) => (r, u) = tillIs_ sa er til wh) := by
  refine fx_iW rfl rfl ?_
  intro p e s m args below meth c A ls Q X hE hP hD hR hA hl hret
  have hx := X.1
  have hb := X.2.1
  have hS : va_S A s.heap s.heap [] := va_S.rf
  replace hP : va_P E.1 clA [(ad 3, .inl (E.2 0, 7, .inl er))] _ := hP
  replace hD : va_D A [(ad 3, .inl (E.2 0, 7, .inl er))] := hD
  replace hl : lv_has ls 3 [(0, .ref (ad 30)), (1, .int til), (2, .int wh)] := hl
  refine lv_iload_n hx hb dX6_tillIs_0 rfl (lv_at hl 1 rfl) ?_
  refine fx_ci (va_runS (As := [.int til]) (rest := []) X (mX6_isTill l E til _) (va_cwS 1 X.2.2.2.2 (lw_S q1357 q1358 q75 q1359) rfl rfl rfl hdX6_isTill ⟨Nat.le_of_ble_eq_true rfl, Nat.le_of_ble_eq_true rfl⟩) (fx_pre hE hP hD hS hR [] rfl rfl fx_rc0) rfl rfl hl.1 rfl (lv_room (Nat.le_of_ble_eq_true rfl)) dX6_tillIs_1 ⟨Nat.le_refl _, Nat.le_refl _⟩) hP hD hS hA [] rfl rfl (fun r_1 u H locs hq_1 hP hD hS => ?_)
  replace hP : va_P E.1 clA [(ad 3, .inl (E.2 0, 7, .inl er))] _ := hP
  replace hD : va_D A [(ad 3, .inl (E.2 0, 7, .inl er))] := hD
  replace hq_1 : r_1 = fx_b (inB til 0 3 = true) := hq_1
  rcases fx_bc hq_1 with ⟨hb_1, hr_1⟩ | ⟨hb_1, hr_1⟩
  · -- True
    subst hr_1
    refine lv_if_eq (tgt := 32) hx hb dX6_tillIs_4 (by decide) (fun c => absurd c (by decide)) (fun _ => ?_)
    refine lv_iload_n hx hb dX6_tillIs_7 rfl (lv_at hl 2 rfl) ?_
    refine lv_iconst (v := 0) hx hb dX6_tillIs_8 rfl ?_
    refine lv_iconst (v := 1) hx hb dX6_tillIs_9 rfl ?_
    refine fx_ci (va_runS (As := [.int wh, .int 0, .int 1]) (rest := []) X (mX6_in l E wh 0 1 _) (va_cwS 3 X.2.2.2.2 (lw_S q1263 q1264 q75 q1265) rfl rfl rfl hdX6_in ⟨Nat.le_of_ble_eq_true rfl, Nat.le_of_ble_eq_true rfl⟩) (fx_pre hE hP hD hS hR [] rfl rfl fx_rc0) rfl rfl hl.1 rfl (lv_room (Nat.le_of_ble_eq_true rfl)) dX6_tillIs_10 ⟨Nat.le_refl _, Nat.le_refl _⟩) hP hD hS hA [] rfl rfl (fun r_10 u H locs hq_10 hP hD hS => ?_)
    replace hP : va_P E.1 clA [(ad 3, .inl (E.2 0, 7, .inl er))] _ := hP
    replace hD : va_D A [(ad 3, .inl (E.2 0, 7, .inl er))] := hD
    replace hq_10 : r_10 = fx_b (inB wh 0 1 = true) := hq_10
    rcases fx_bc hq_10 with ⟨hb_10, hr_10⟩ | ⟨hb_10, hr_10⟩
    · -- True
      subst hr_10
      refine lv_if_eq (tgt := 32) hx hb dX6_tillIs_13 (by decide) (fun c => absurd c (by decide)) (fun _ => ?_)
      refine lv_aload_n hx hb dX6_tillIs_16 rfl (lv_at hl 0 rfl) ?_
      refine fx_get X hE (hR.at hS) 0 rfl rfl 0 rfl q1168 rfl rfl dX6_tillIs_17 ?_
      refine lv_bipush (v := 32) hx hb dX6_tillIs_20 rfl ?_
      refine lv_iconst (v := 2) hx hb dX6_tillIs_22 rfl ?_
      refine lv_iload_n hx hb dX6_tillIs_23 rfl (lv_at hl 1 rfl) ?_
      refine fx_ti (show til = nI (nn til) from (inB_nn (n := 3) hb_1 (by omega)).1) ?_
      have g1 := (inB_nn (n := 3) hb_1 (by omega)).2
      refine lv_imul hx hb dX6_tillIs_24 ?_
      refine fx_ti (pk_mul 2 (nn til)) ?_
      refine lv_iadd hx hb dX6_tillIs_25 ?_
      refine fx_ti (nI_add 32 (2 * (nn til))) ?_
      refine lv_iload_n hx hb dX6_tillIs_26 rfl (lv_at hl 2 rfl) ?_
      refine fx_ti (show wh = nI (nn wh) from (inB_nn (n := 1) hb_10 (by omega)).1) ?_
      have g2 := (inB_nn (n := 1) hb_10 (by omega)).2
      refine lv_iadd hx hb dX6_tillIs_27 ?_
      refine fx_ti (nI_add (32 + 2 * (nn til)) (nn wh)) ?_
      refine fx_iald X hE (hR.at hS) 1 rfl (32 + 2 * (nn til) + nn wh) rfl (by omega) rfl dX6_tillIs_28 ?_
      refine lv_goto (tgt := 37) hx hb dX6_tillIs_29 (by decide) ?_
      exact hret (sa (32 + 2 * (nn til) + nn wh)) (er) (by simp [tillIs_, erI, hb_1, hb_10]) (rfl) hP hD hS (Nat.le_refl _) (Nat.le_refl _) dX6_tillIs_37
    · -- False
      subst hr_10
      refine lv_if_eq (tgt := 32) hx hb dX6_tillIs_13 (by decide) (fun _ => ?_) (fun c => (c (by decide)).elim)
      refine lv_aload_n hx hb dX6_tillIs_32 rfl (lv_at hl 0 rfl) ?_
      refine lv_iconst (v := 1) hx hb dX6_tillIs_33 rfl ?_
      refine fx_ci (va_runV (As := [.int 1]) (rest := []) X (mX6_error l E ad im at_ op st_ us bn bm la fo fi lp tr_ sp ip er 1 (by decide) _) (cwV 1 X.2.2.2.2 (lw_V q1266 q1268 qs32 q75 q1269) rfl rfl rfl ⟨rfl, hdX6_error⟩ ⟨Nat.le_of_ble_eq_true rfl, Nat.le_of_ble_eq_true rfl⟩) (fx_preV (fx_pre hE hP hD hS hR [0] rfl rfl (fx_rcr 0 rfl fx_rc0)) (va_recv hE.1 (hR.at hS) (ci := 6) (q0 := 0) rfl rfl)) rfl rfl hl.1 rfl (lv_room (Nat.le_of_ble_eq_true rfl)) dX6_tillIs_34 ⟨Nat.le_refl _, Nat.le_refl _⟩) hP hD hS hA [0] rfl rfl (fun r_34 u H locs hq_34 hP hD hS => ?_)
      replace hP : va_P E.1 clA [(ad 3, .inl (E.2 0, 7, .inl (upd er 1 (er 1 + 1))))] _ := hP
      replace hD : va_D A [(ad 3, .inl (E.2 0, 7, .inl (upd er 1 (er 1 + 1))))] := hD
      replace hq_34 : r_34 = erv 1 := hq_34
      exact hret r_34 ((upd er 1 (er 1 + 1))) (by simp [tillIs_, erI, hq_34, hb_1, hb_10]) (rfl) hP hD hS (Nat.le_refl _) (Nat.le_refl _) dX6_tillIs_37
  · -- False
    subst hr_1
    refine lv_if_eq (tgt := 32) hx hb dX6_tillIs_4 (by decide) (fun _ => ?_) (fun c => (c (by decide)).elim)
    refine lv_aload_n hx hb dX6_tillIs_32 rfl (lv_at hl 0 rfl) ?_
    refine lv_iconst (v := 1) hx hb dX6_tillIs_33 rfl ?_
    refine fx_ci (va_runV (As := [.int 1]) (rest := []) X (mX6_error l E ad im at_ op st_ us bn bm la fo fi lp tr_ sp ip er 1 (by decide) _) (cwV 1 X.2.2.2.2 (lw_V q1266 q1268 qs32 q75 q1269) rfl rfl rfl ⟨rfl, hdX6_error⟩ ⟨Nat.le_of_ble_eq_true rfl, Nat.le_of_ble_eq_true rfl⟩) (fx_preV (fx_pre hE hP hD hS hR [0] rfl rfl (fx_rcr 0 rfl fx_rc0)) (va_recv hE.1 (hR.at hS) (ci := 6) (q0 := 0) rfl rfl)) rfl rfl hl.1 rfl (lv_room (Nat.le_of_ble_eq_true rfl)) dX6_tillIs_34 ⟨Nat.le_refl _, Nat.le_refl _⟩) hP hD hS hA [0] rfl rfl (fun r_34 u H locs hq_34 hP hD hS => ?_)
    replace hP : va_P E.1 clA [(ad 3, .inl (E.2 0, 7, .inl (upd er 1 (er 1 + 1))))] _ := hP
    replace hD : va_D A [(ad 3, .inl (E.2 0, 7, .inl (upd er 1 (er 1 + 1))))] := hD
    replace hq_34 : r_34 = erv 1 := hq_34
    exact hret r_34 ((upd er 1 (er 1 + 1))) (by simp [tillIs_, erI, hq_34, hb_1]) (rfl) hP hD hS (Nat.le_refl _) (Nat.le_refl _) dX6_tillIs_37
abbrev rmX6_as : Room := { frames := 2, cells := 0, slots := 0, locals := 42 }
set_option maxHeartbeats 400000 in
set_option maxRecDepth 100000 in
theorem mX6_as (l : Launch) (E : fx_En) (ad : Nat → Nat) (im : Int32) (at_ : Int32) (op : Int32) (st_ : Int32) (us : Int32) (bn : Int32) (bm : Int32) (la : Int32) (fo : Int32) (fi : Int32) (lp : Int32) (tr_ : Int32) (sp : Int32) (ip : Int32) (sa : Nat → Int32) (er : Nat → Int32) (til : Int32) (kd : Int32) : fx_Mi l yX6_as cX6_as 3 .int rmX6_as E [.ref (ad 30), .int til, .int kd] [(ad 3, .inl (E.2 0, 7, .inl er))] [(ad 30, .inr (6, [.ref (ad 0), .ref (ad 1), .int im, .ref (ad 3), .int at_, .int op, .int st_, .int us, .ref (ad 8), .ref (ad 9), .ref (ad 10), .ref (ad 11), .ref (ad 12), .ref (ad 13), .ref (ad 14), .int bn, .int bm, .ref (ad 17), .int la, .int fo, .int fi, .int lp, .ref (ad 22), .int tr_, .int sp, .int ip, .ref (ad 26), .ref (ad 27), .ref (ad 28), .ref (ad 29)])), (ad 0, .inl (E.2 0, 374, .inl sa))] (S := (Nat → Int32)) (fun (u : (Nat → Int32)) => [(ad 3, .inl (E.2 0, 7, .inl u))]) (fun (r : Int32) (u : (Nat → Int32)) => (r, u) = as_ sa er til kd) := by
  refine fx_iW rfl rfl ?_
  intro p e s m args below meth c A ls Q X hE hP hD hR hA hl hret
  have hx := X.1
  have hb := X.2.1
  have hS : va_S A s.heap s.heap [] := va_S.rf
  replace hP : va_P E.1 clA [(ad 3, .inl (E.2 0, 7, .inl er))] _ := hP
  replace hD : va_D A [(ad 3, .inl (E.2 0, 7, .inl er))] := hD
  replace hl : lv_has ls 3 [(0, .ref (ad 30)), (1, .int til), (2, .int kd)] := hl
  refine lv_iload_n hx hb dX6_as_0 rfl (lv_at hl 1 rfl) ?_
  refine fx_ci (va_runS (As := [.int til]) (rest := []) X (mX6_isTill l E til _) (va_cwS 1 X.2.2.2.2 (lw_S q1357 q1358 q75 q1359) rfl rfl rfl hdX6_isTill ⟨Nat.le_of_ble_eq_true rfl, Nat.le_of_ble_eq_true rfl⟩) (fx_pre hE hP hD hS hR [] rfl rfl fx_rc0) rfl rfl hl.1 rfl (lv_room (Nat.le_of_ble_eq_true rfl)) dX6_as_1 ⟨Nat.le_refl _, Nat.le_refl _⟩) hP hD hS hA [] rfl rfl (fun r_1 u H locs hq_1 hP hD hS => ?_)
  replace hP : va_P E.1 clA [(ad 3, .inl (E.2 0, 7, .inl er))] _ := hP
  replace hD : va_D A [(ad 3, .inl (E.2 0, 7, .inl er))] := hD
  replace hq_1 : r_1 = fx_b (inB til 0 3 = true) := hq_1
  rcases fx_bc hq_1 with ⟨hb_1, hr_1⟩ | ⟨hb_1, hr_1⟩
  · -- True
    subst hr_1
    refine lv_if_eq (tgt := 17) hx hb dX6_as_4 (by decide) (fun c => absurd c (by decide)) (fun _ => ?_)
    refine lv_iload_n hx hb dX6_as_7 rfl (lv_at hl 2 rfl) ?_
    refine lv_iconst (v := 0) hx hb dX6_as_8 rfl ?_
    refine lv_bipush (v := 6) hx hb dX6_as_9 rfl ?_
    refine fx_ci (va_runS (As := [.int kd, .int 0, .int 6]) (rest := []) X (mX6_in l E kd 0 6 _) (va_cwS 3 X.2.2.2.2 (lw_S q1263 q1264 q75 q1265) rfl rfl rfl hdX6_in ⟨Nat.le_of_ble_eq_true rfl, Nat.le_of_ble_eq_true rfl⟩) (fx_pre hE hP hD hS hR [] rfl rfl fx_rc0) rfl rfl hl.1 rfl (lv_room (Nat.le_of_ble_eq_true rfl)) dX6_as_11 ⟨Nat.le_refl _, Nat.le_refl _⟩) hP hD hS hA [] rfl rfl (fun r_11 u H locs hq_11 hP hD hS => ?_)
    replace hP : va_P E.1 clA [(ad 3, .inl (E.2 0, 7, .inl er))] _ := hP
    replace hD : va_D A [(ad 3, .inl (E.2 0, 7, .inl er))] := hD
    replace hq_11 : r_11 = fx_b (inB kd 0 6 = true) := hq_11
    rcases fx_bc hq_11 with ⟨hb_11, hr_11⟩ | ⟨hb_11, hr_11⟩
    · -- True
      subst hr_11
      refine lv_if_ne (tgt := 23) hx hb dX6_as_14 (by decide) (fun _ => ?_) (fun c => absurd c (by decide))
      refine lv_aload_n hx hb dX6_as_23 rfl (lv_at hl 0 rfl) ?_
      refine lv_iload_n hx hb dX6_as_24 rfl (lv_at hl 1 rfl) ?_
      refine fx_ti (show til = nI (nn til) from (inB_nn (n := 3) hb_1 (by omega)).1) ?_
      have g1 := (inB_nn (n := 3) hb_1 (by omega)).2
      refine fx_ci (va_runV (As := [.int (nI (nn til))]) (rest := []) X (mX6_kindOf l E ad im at_ op st_ us bn bm la fo fi lp tr_ sp ip sa (nn til) (by omega) _) (cwV 1 X.2.2.2.2 (lw_V q1360 q1362 qs47 q75 q1363) rfl rfl rfl ⟨rfl, hdX6_kindOf⟩ ⟨Nat.le_of_ble_eq_true rfl, Nat.le_of_ble_eq_true rfl⟩) (fx_preV (fx_pre hE hP hD hS hR [] rfl rfl (fx_rcr 0 rfl (fx_rcr 1 rfl fx_rc0))) (va_recv hE.1 (hR.at hS) (ci := 6) (q0 := 0) rfl rfl)) rfl rfl hl.1 rfl (lv_room (Nat.le_of_ble_eq_true rfl)) dX6_as_25 ⟨Nat.le_refl _, Nat.le_refl _⟩) hP hD hS hA [] rfl rfl (fun r_25 u H locs hq_25 hP hD hS => ?_)
      replace hP : va_P E.1 clA [(ad 3, .inl (E.2 0, 7, .inl er))] _ := hP
      replace hD : va_D A [(ad 3, .inl (E.2 0, 7, .inl er))] := hD
      replace hq_25 : r_25 = sa (32 + 2 * (nn til)) := hq_25
      refine fx_ti (show r_25 = (sa (32 + 2 * nn til)) from hq_25) ?_
      refine lv_iload_n hx hb dX6_as_28 rfl (lv_at hl 2 rfl) ?_
      refine fx_ci (va_runS (As := [.int (sa (32 + 2 * nn til)), .int kd]) (rest := []) X (mX6_isUnder l E (sa (32 + 2 * nn til)) kd _) (va_cwS 2 X.2.2.2.2 (lw_S q1376 q1377 q75 q1378) rfl rfl rfl hdX6_isUnder ⟨Nat.le_of_ble_eq_true rfl, Nat.le_of_ble_eq_true rfl⟩) (fx_pre hE hP hD hS hR [] rfl rfl fx_rc0) rfl rfl hl.1 rfl (lv_room (Nat.le_of_ble_eq_true rfl)) dX6_as_29 ⟨Nat.le_refl _, Nat.le_refl _⟩) hP hD hS hA [] rfl rfl (fun r_29 u H locs hq_29 hP hD hS => ?_)
      replace hP : va_P E.1 clA [(ad 3, .inl (E.2 0, 7, .inl er))] _ := hP
      replace hD : va_D A [(ad 3, .inl (E.2 0, 7, .inl er))] := hD
      replace hq_29 : r_29 = fx_b (isU (sa (32 + 2 * nn til)) kd = true) := hq_29
      rcases fx_bc hq_29 with ⟨hb_29, hr_29⟩ | ⟨hb_29, hr_29⟩
      · -- True
        subst hr_29
        refine lv_if_eq (tgt := 43) hx hb dX6_as_32 (by decide) (fun c => absurd c (by decide)) (fun _ => ?_)
        refine lv_aload_n hx hb dX6_as_35 rfl (lv_at hl 0 rfl) ?_
        refine lv_iload_n hx hb dX6_as_36 rfl (lv_at hl 1 rfl) ?_
        refine fx_ti (show til = nI (nn til) from (inB_nn (n := 3) hb_1 (by omega)).1) ?_
        refine fx_ci (va_runV (As := [.int (nI (nn til))]) (rest := []) X (mX6_mOf l E ad im at_ op st_ us bn bm la fo fi lp tr_ sp ip sa (nn til) (by omega) _) (cwV 1 X.2.2.2.2 (lw_V q1364 q1366 qs48 q75 q1367) rfl rfl rfl ⟨rfl, hdX6_mOf⟩ ⟨Nat.le_of_ble_eq_true rfl, Nat.le_of_ble_eq_true rfl⟩) (fx_preV (fx_pre hE hP hD hS hR [] rfl rfl (fx_rcr 0 rfl (fx_rcr 1 rfl fx_rc0))) (va_recv hE.1 (hR.at hS) (ci := 6) (q0 := 0) rfl rfl)) rfl rfl hl.1 rfl (lv_room (Nat.le_of_ble_eq_true rfl)) dX6_as_37 ⟨Nat.le_refl _, Nat.le_refl _⟩) hP hD hS hA [] rfl rfl (fun r_37 u H locs hq_37 hP hD hS => ?_)
        replace hP : va_P E.1 clA [(ad 3, .inl (E.2 0, 7, .inl er))] _ := hP
        replace hD : va_D A [(ad 3, .inl (E.2 0, 7, .inl er))] := hD
        replace hq_37 : r_37 = sa (32 + 2 * (nn til) + 1) := hq_37
        refine lv_goto (tgt := 48) hx hb dX6_as_40 (by decide) ?_
        exact hret r_37 (er) (by simp [as_, erI, hq_37, hb_1, hb_11, hb_29]) (rfl) hP hD hS (Nat.le_refl _) (Nat.le_refl _) dX6_as_48
      · -- False
        subst hr_29
        refine lv_if_eq (tgt := 43) hx hb dX6_as_32 (by decide) (fun _ => ?_) (fun c => (c (by decide)).elim)
        refine lv_aload_n hx hb dX6_as_43 rfl (lv_at hl 0 rfl) ?_
        refine lv_iconst (v := 5) hx hb dX6_as_44 rfl ?_
        refine fx_ci (va_runV (As := [.int 5]) (rest := []) X (mX6_error l E ad im at_ op st_ us bn bm la fo fi lp tr_ sp ip er 5 (by decide) _) (cwV 1 X.2.2.2.2 (lw_V q1266 q1268 qs32 q75 q1269) rfl rfl rfl ⟨rfl, hdX6_error⟩ ⟨Nat.le_of_ble_eq_true rfl, Nat.le_of_ble_eq_true rfl⟩) (fx_preV (fx_pre hE hP hD hS hR [0] rfl rfl (fx_rcr 0 rfl fx_rc0)) (va_recv hE.1 (hR.at hS) (ci := 6) (q0 := 0) rfl rfl)) rfl rfl hl.1 rfl (lv_room (Nat.le_of_ble_eq_true rfl)) dX6_as_45 ⟨Nat.le_refl _, Nat.le_refl _⟩) hP hD hS hA [0] rfl rfl (fun r_45 u H locs hq_45 hP hD hS => ?_)
        replace hP : va_P E.1 clA [(ad 3, .inl (E.2 0, 7, .inl (upd er 5 (er 5 + 1))))] _ := hP
        replace hD : va_D A [(ad 3, .inl (E.2 0, 7, .inl (upd er 5 (er 5 + 1))))] := hD
        replace hq_45 : r_45 = erv 5 := hq_45
        exact hret r_45 ((upd er 5 (er 5 + 1))) (by simp [as_, erI, hq_45, hb_1, hb_11, hb_29]) (rfl) hP hD hS (Nat.le_refl _) (Nat.le_refl _) dX6_as_48
    · -- False
      subst hr_11
      refine lv_if_ne (tgt := 23) hx hb dX6_as_14 (by decide) (fun c => (c (by decide)).elim) (fun _ => ?_)
      refine lv_aload_n hx hb dX6_as_17 rfl (lv_at hl 0 rfl) ?_
      refine lv_iconst (v := 1) hx hb dX6_as_18 rfl ?_
      refine fx_ci (va_runV (As := [.int 1]) (rest := []) X (mX6_error l E ad im at_ op st_ us bn bm la fo fi lp tr_ sp ip er 1 (by decide) _) (cwV 1 X.2.2.2.2 (lw_V q1266 q1268 qs32 q75 q1269) rfl rfl rfl ⟨rfl, hdX6_error⟩ ⟨Nat.le_of_ble_eq_true rfl, Nat.le_of_ble_eq_true rfl⟩) (fx_preV (fx_pre hE hP hD hS hR [0] rfl rfl (fx_rcr 0 rfl fx_rc0)) (va_recv hE.1 (hR.at hS) (ci := 6) (q0 := 0) rfl rfl)) rfl rfl hl.1 rfl (lv_room (Nat.le_of_ble_eq_true rfl)) dX6_as_19 ⟨Nat.le_refl _, Nat.le_refl _⟩) hP hD hS hA [0] rfl rfl (fun r_19 u H locs hq_19 hP hD hS => ?_)
      replace hP : va_P E.1 clA [(ad 3, .inl (E.2 0, 7, .inl (upd er 1 (er 1 + 1))))] _ := hP
      replace hD : va_D A [(ad 3, .inl (E.2 0, 7, .inl (upd er 1 (er 1 + 1))))] := hD
      replace hq_19 : r_19 = erv 1 := hq_19
      exact hret r_19 ((upd er 1 (er 1 + 1))) (by simp [as_, erI, hq_19, hb_1, hb_11]) (rfl) hP hD hS (Nat.le_refl _) (Nat.le_refl _) dX6_as_22
  · -- False
    subst hr_1
    refine lv_if_eq (tgt := 17) hx hb dX6_as_4 (by decide) (fun _ => ?_) (fun c => (c (by decide)).elim)
    refine lv_aload_n hx hb dX6_as_17 rfl (lv_at hl 0 rfl) ?_
    refine lv_iconst (v := 1) hx hb dX6_as_18 rfl ?_
    refine fx_ci (va_runV (As := [.int 1]) (rest := []) X (mX6_error l E ad im at_ op st_ us bn bm la fo fi lp tr_ sp ip er 1 (by decide) _) (cwV 1 X.2.2.2.2 (lw_V q1266 q1268 qs32 q75 q1269) rfl rfl rfl ⟨rfl, hdX6_error⟩ ⟨Nat.le_of_ble_eq_true rfl, Nat.le_of_ble_eq_true rfl⟩) (fx_preV (fx_pre hE hP hD hS hR [0] rfl rfl (fx_rcr 0 rfl fx_rc0)) (va_recv hE.1 (hR.at hS) (ci := 6) (q0 := 0) rfl rfl)) rfl rfl hl.1 rfl (lv_room (Nat.le_of_ble_eq_true rfl)) dX6_as_19 ⟨Nat.le_refl _, Nat.le_refl _⟩) hP hD hS hA [0] rfl rfl (fun r_19 u H locs hq_19 hP hD hS => ?_)
    replace hP : va_P E.1 clA [(ad 3, .inl (E.2 0, 7, .inl (upd er 1 (er 1 + 1))))] _ := hP
    replace hD : va_D A [(ad 3, .inl (E.2 0, 7, .inl (upd er 1 (er 1 + 1))))] := hD
    replace hq_19 : r_19 = erv 1 := hq_19
    exact hret r_19 ((upd er 1 (er 1 + 1))) (by simp [as_, erI, hq_19, hb_1]) (rfl) hP hD hS (Nat.le_refl _) (Nat.le_refl _) dX6_as_22
abbrev rmX6_figures : Room := { frames := 1, cells := 0, slots := 0, locals := 23 }
set_option maxHeartbeats 400000 in
set_option maxRecDepth 100000 in
theorem mX6_figures (l : Launch) (E : fx_En) (ad : Nat → Nat) (im : Int32) (at_ : Int32) (op : Int32) (st_ : Int32) (us : Int32) (bn : Int32) (bm : Int32) (la : Int32) (fo : Int32) (fi : Int32) (lp : Int32) (tr_ : Int32) (sp : Int32) (ip : Int32) (er : Nat → Int32) (su : Int32) (ba : Int32) : fx_Mi l yX6_figures cX6_figures 3 .int rmX6_figures E [.ref (ad 30), .int su, .int ba] [(ad 3, .inl (E.2 0, 7, .inl er))] [(ad 30, .inr (6, [.ref (ad 0), .ref (ad 1), .int im, .ref (ad 3), .int at_, .int op, .int st_, .int us, .ref (ad 8), .ref (ad 9), .ref (ad 10), .ref (ad 11), .ref (ad 12), .ref (ad 13), .ref (ad 14), .int bn, .int bm, .ref (ad 17), .int la, .int fo, .int fi, .int lp, .ref (ad 22), .int tr_, .int sp, .int ip, .ref (ad 26), .ref (ad 27), .ref (ad 28), .ref (ad 29)]))] (S := (Nat → Int32)) (fun (u : (Nat → Int32)) => [(ad 3, .inl (E.2 0, 7, .inl u))]) (fun (r : Int32) (u : (Nat → Int32)) => (r, u) = figures_ er su ba) := by
  refine fx_iW rfl rfl ?_
  intro p e s m args below meth c A ls Q X hE hP hD hR hA hl hret
  have hx := X.1
  have hb := X.2.1
  have hS : va_S A s.heap s.heap [] := va_S.rf
  replace hP : va_P E.1 clA [(ad 3, .inl (E.2 0, 7, .inl er))] _ := hP
  replace hD : va_D A [(ad 3, .inl (E.2 0, 7, .inl er))] := hD
  replace hl : lv_has ls 3 [(0, .ref (ad 30)), (1, .int su), (2, .int ba)] := hl
  refine lv_iload_n hx hb dX6_figures_0 rfl (lv_at hl 1 rfl) ?_
  refine lv_if_lt (tgt := 22) hx hb dX6_figures_1 (by decide) (fun c_1 => ?_) (fun c_1 => ?_)
  · -- jump 22
    have d_1 : decide (0 ≤ su) = false := decide_eq_false (Int32.not_le.2 c_1)
    refine lv_aload_n hx hb dX6_figures_22 rfl (lv_at hl 0 rfl) ?_
    refine lv_iconst (v := 1) hx hb dX6_figures_23 rfl ?_
    refine fx_ci (va_runV (As := [.int 1]) (rest := []) X (mX6_error l E ad im at_ op st_ us bn bm la fo fi lp tr_ sp ip er 1 (by decide) _) (cwV 1 X.2.2.2.2 (lw_V q1266 q1268 qs32 q75 q1269) rfl rfl rfl ⟨rfl, hdX6_error⟩ ⟨Nat.le_of_ble_eq_true rfl, Nat.le_of_ble_eq_true rfl⟩) (fx_preV (fx_pre hE hP hD hS hR [0] rfl rfl (fx_rcr 0 rfl fx_rc0)) (va_recv hE.1 (hR.at hS) (ci := 6) (q0 := 0) rfl rfl)) rfl rfl hl.1 rfl (lv_room (Nat.le_of_ble_eq_true rfl)) dX6_figures_24 ⟨Nat.le_refl _, Nat.le_refl _⟩) hP hD hS hA [0] rfl rfl (fun r_24 u H locs hq_24 hP hD hS => ?_)
    replace hP : va_P E.1 clA [(ad 3, .inl (E.2 0, 7, .inl (upd er 1 (er 1 + 1))))] _ := hP
    replace hD : va_D A [(ad 3, .inl (E.2 0, 7, .inl (upd er 1 (er 1 + 1))))] := hD
    replace hq_24 : r_24 = erv 1 := hq_24
    exact hret r_24 ((upd er 1 (er 1 + 1))) (by simp [figures_, erI, hq_24, -decide_eq_true_eq, -decide_eq_false_iff_not, Int32.not_le.2 c_1, d_1]) (rfl) hP hD hS (Nat.le_refl _) (Nat.le_refl _) dX6_figures_27
  · -- fall 4
    have d_1 : decide (0 ≤ su) = true := decide_eq_true (Int32.not_lt.1 c_1)
    refine lv_iload_n hx hb dX6_figures_4 rfl (lv_at hl 2 rfl) ?_
    refine lv_iconst (v := 2) hx hb dX6_figures_5 rfl ?_
    refine lv_bipush (v := 11) hx hb dX6_figures_6 rfl ?_
    refine fx_ci (va_runS (As := [.int ba, .int 2, .int 11]) (rest := []) X (mX6_in l E ba 2 11 _) (va_cwS 3 X.2.2.2.2 (lw_S q1263 q1264 q75 q1265) rfl rfl rfl hdX6_in ⟨Nat.le_of_ble_eq_true rfl, Nat.le_of_ble_eq_true rfl⟩) (fx_pre hE hP hD hS hR [] rfl rfl fx_rc0) rfl rfl hl.1 rfl (lv_room (Nat.le_of_ble_eq_true rfl)) dX6_figures_8 ⟨Nat.le_refl _, Nat.le_refl _⟩) hP hD hS hA [] rfl rfl (fun r_8 u H locs hq_8 hP hD hS => ?_)
    replace hP : va_P E.1 clA [(ad 3, .inl (E.2 0, 7, .inl er))] _ := hP
    replace hD : va_D A [(ad 3, .inl (E.2 0, 7, .inl er))] := hD
    replace hq_8 : r_8 = fx_b (inB ba 2 11 = true) := hq_8
    rcases fx_bc hq_8 with ⟨hb_8, hr_8⟩ | ⟨hb_8, hr_8⟩
    · -- True
      subst hr_8
      refine lv_if_eq (tgt := 22) hx hb dX6_figures_11 (by decide) (fun c => absurd c (by decide)) (fun _ => ?_)
      refine lv_iload_n hx hb dX6_figures_14 rfl (lv_at hl 1 rfl) ?_
      refine fx_ti (show su = nI (nn su) from (nn_pos (Int32.not_lt.1 c_1)).1) ?_
      refine lv_iload_n hx hb dX6_figures_15 rfl (lv_at hl 2 rfl) ?_
      refine fx_ti (show ba = nI (nn ba) from (inB_nn1 (n := 11) hb_8 (by decide) (by omega)).1) ?_
      have g1 := (inB_nn1 (n := 11) hb_8 (by decide) (by omega)).2
      refine fx_ci (va_runS (As := [.int (nI (nn su)), .int (nI (nn ba))]) (rest := []) X (mX6_added l E (nn su) (nn ba) ((nn_pos (Int32.not_lt.1 c_1)).2) (inB_lo (a := 2) (n := 11) hb_8 (by omega) (by omega)) (by omega) _) (va_cwS 2 X.2.2.2.2 (lw_S q1383 q1384 q75 q1385) rfl rfl rfl hdX6_added ⟨Nat.le_of_ble_eq_true rfl, Nat.le_of_ble_eq_true rfl⟩) (fx_pre hE hP hD hS hR [] rfl rfl fx_rc0) rfl rfl hl.1 rfl (lv_room (Nat.le_of_ble_eq_true rfl)) dX6_figures_16 ⟨Nat.le_refl _, Nat.le_refl _⟩) hP hD hS hA [] rfl rfl (fun r_16 u H locs hq_16 hP hD hS => ?_)
      replace hP : va_P E.1 clA [(ad 3, .inl (E.2 0, 7, .inl er))] _ := hP
      replace hD : va_D A [(ad 3, .inl (E.2 0, 7, .inl er))] := hD
      replace hq_16 : r_16 = nI (dg (nn ba) (nn su)) := hq_16
      refine lv_goto (tgt := 27) hx hb dX6_figures_19 (by decide) ?_
      exact hret r_16 (er) (by simp [figures_, erI, hq_16, -decide_eq_true_eq, -decide_eq_false_iff_not, Int32.not_lt.1 c_1, d_1, hb_8]) (rfl) hP hD hS (Nat.le_refl _) (Nat.le_refl _) dX6_figures_27
    · -- False
      subst hr_8
      refine lv_if_eq (tgt := 22) hx hb dX6_figures_11 (by decide) (fun _ => ?_) (fun c => (c (by decide)).elim)
      refine lv_aload_n hx hb dX6_figures_22 rfl (lv_at hl 0 rfl) ?_
      refine lv_iconst (v := 1) hx hb dX6_figures_23 rfl ?_
      refine fx_ci (va_runV (As := [.int 1]) (rest := []) X (mX6_error l E ad im at_ op st_ us bn bm la fo fi lp tr_ sp ip er 1 (by decide) _) (cwV 1 X.2.2.2.2 (lw_V q1266 q1268 qs32 q75 q1269) rfl rfl rfl ⟨rfl, hdX6_error⟩ ⟨Nat.le_of_ble_eq_true rfl, Nat.le_of_ble_eq_true rfl⟩) (fx_preV (fx_pre hE hP hD hS hR [0] rfl rfl (fx_rcr 0 rfl fx_rc0)) (va_recv hE.1 (hR.at hS) (ci := 6) (q0 := 0) rfl rfl)) rfl rfl hl.1 rfl (lv_room (Nat.le_of_ble_eq_true rfl)) dX6_figures_24 ⟨Nat.le_refl _, Nat.le_refl _⟩) hP hD hS hA [0] rfl rfl (fun r_24 u H locs hq_24 hP hD hS => ?_)
      replace hP : va_P E.1 clA [(ad 3, .inl (E.2 0, 7, .inl (upd er 1 (er 1 + 1))))] _ := hP
      replace hD : va_D A [(ad 3, .inl (E.2 0, 7, .inl (upd er 1 (er 1 + 1))))] := hD
      replace hq_24 : r_24 = erv 1 := hq_24
      exact hret r_24 ((upd er 1 (er 1 + 1))) (by simp [figures_, erI, hq_24, -decide_eq_true_eq, -decide_eq_false_iff_not, Int32.not_lt.1 c_1, d_1, hb_8]) (rfl) hP hD hS (Nat.le_refl _) (Nat.le_refl _) dX6_figures_27
abbrev rmX6_asks : Room := { frames := 3, cells := 0, slots := 0, locals := 73 }
set_option maxHeartbeats 400000 in
set_option maxRecDepth 100000 in
theorem mX6_asks (l : Launch) (E : fx_En) (ad : Nat → Nat) (im : Int32) (at_ : Int32) (op : Int32) (st_ : Int32) (us : Int32) (bn : Int32) (bm : Int32) (la : Int32) (fo : Int32) (fi : Int32) (lp : Int32) (tr_ : Int32) (sp : Int32) (ip : Int32) (sa : Nat → Int32) (er : Nat → Int32) (nmd : Nat → Int32) (pl : Nat → Int32) (til : Int32) (su : Int32) (qn : Int32) (T : Tx) (hI : Inv sa) (hT : TM sa 0 T) (hTo : TOk T) : fx_Mi l yX6_asks cX6_asks 4 .int rmX6_asks E [.ref (ad 30), .int til, .int su, .int qn] [(ad 3, .inl (E.2 0, 7, .inl er)), (ad 9, .inl (E.2 0, 128, .inl nmd)), (ad 10, .inl (E.2 0, 64, .inl pl))] [(ad 30, .inr (6, [.ref (ad 0), .ref (ad 1), .int im, .ref (ad 3), .int at_, .int op, .int st_, .int us, .ref (ad 8), .ref (ad 9), .ref (ad 10), .ref (ad 11), .ref (ad 12), .ref (ad 13), .ref (ad 14), .int bn, .int bm, .ref (ad 17), .int la, .int fo, .int fi, .int lp, .ref (ad 22), .int tr_, .int sp, .int ip, .ref (ad 26), .ref (ad 27), .ref (ad 28), .ref (ad 29)])), (ad 0, .inl (E.2 0, 374, .inl sa))] (S := (Nat → Int32) × (Nat → Int32) × (Nat → Int32)) (fun (u : (Nat → Int32) × (Nat → Int32) × (Nat → Int32)) => [(ad 3, .inl (E.2 0, 7, .inl u.1)), (ad 9, .inl (E.2 0, 128, .inl u.2.1)), (ad 10, .inl (E.2 0, 64, .inl u.2.2))]) (fun (r : Int32) (u : (Nat → Int32) × (Nat → Int32) × (Nat → Int32)) => (r, u.1) = asks_ sa er T til su qn) := by
  refine fx_iW rfl rfl ?_
  intro p e s m args below meth c A ls Q X hE hP hD hR hA hl hret
  have hx := X.1
  have hb := X.2.1
  have hS : va_S A s.heap s.heap [] := va_S.rf
  replace hP : va_P E.1 clA [(ad 3, .inl (E.2 0, 7, .inl er)), (ad 9, .inl (E.2 0, 128, .inl nmd)), (ad 10, .inl (E.2 0, 64, .inl pl))] _ := hP
  replace hD : va_D A [(ad 3, .inl (E.2 0, 7, .inl er)), (ad 9, .inl (E.2 0, 128, .inl nmd)), (ad 10, .inl (E.2 0, 64, .inl pl))] := hD
  replace hl : lv_has ls 4 [(0, .ref (ad 30)), (1, .int til), (2, .int su), (3, .int qn)] := hl
  refine lv_iload_n hx hb dX6_asks_0 rfl (lv_at hl 1 rfl) ?_
  refine fx_ci (va_runS (As := [.int til]) (rest := []) X (mX6_isTill l E til _) (va_cwS 1 X.2.2.2.2 (lw_S q1357 q1358 q75 q1359) rfl rfl rfl hdX6_isTill ⟨Nat.le_of_ble_eq_true rfl, Nat.le_of_ble_eq_true rfl⟩) (fx_pre hE hP hD hS hR [] rfl rfl fx_rc0) rfl rfl hl.1 rfl (lv_room (Nat.le_of_ble_eq_true rfl)) dX6_asks_1 ⟨Nat.le_refl _, Nat.le_refl _⟩) hP hD hS hA [] rfl rfl (fun r_1 u H locs hq_1 hP hD hS => ?_)
  replace hP : va_P E.1 clA [(ad 3, .inl (E.2 0, 7, .inl er)), (ad 9, .inl (E.2 0, 128, .inl nmd)), (ad 10, .inl (E.2 0, 64, .inl pl))] _ := hP
  replace hD : va_D A [(ad 3, .inl (E.2 0, 7, .inl er)), (ad 9, .inl (E.2 0, 128, .inl nmd)), (ad 10, .inl (E.2 0, 64, .inl pl))] := hD
  replace hq_1 : r_1 = fx_b (inB til 0 3 = true) := hq_1
  rcases fx_bc hq_1 with ⟨hb_1, hr_1⟩ | ⟨hb_1, hr_1⟩
  · -- True
    subst hr_1
    refine lv_if_eq (tgt := 37) hx hb dX6_asks_4 (by decide) (fun c => absurd c (by decide)) (fun _ => ?_)
    refine lv_iload_n hx hb dX6_asks_7 rfl (lv_at hl 2 rfl) ?_
    refine lv_iconst (v := 0) hx hb dX6_asks_8 rfl ?_
    refine lv_ldc (v := 299970) hx hb X.2.2.2.1 (X.2.2.2.2 _ q1390) dX6_asks_9 ?_
    refine fx_ci (va_runS (As := [.int su, .int 0, .int 299970]) (rest := []) X (mX6_in l E su 0 299970 _) (va_cwS 3 X.2.2.2.2 (lw_S q1263 q1264 q75 q1265) rfl rfl rfl hdX6_in ⟨Nat.le_of_ble_eq_true rfl, Nat.le_of_ble_eq_true rfl⟩) (fx_pre hE hP hD hS hR [] rfl rfl fx_rc0) rfl rfl hl.1 rfl (lv_room (Nat.le_of_ble_eq_true rfl)) dX6_asks_11 ⟨Nat.le_refl _, Nat.le_refl _⟩) hP hD hS hA [] rfl rfl (fun r_11 u H locs hq_11 hP hD hS => ?_)
    replace hP : va_P E.1 clA [(ad 3, .inl (E.2 0, 7, .inl er)), (ad 9, .inl (E.2 0, 128, .inl nmd)), (ad 10, .inl (E.2 0, 64, .inl pl))] _ := hP
    replace hD : va_D A [(ad 3, .inl (E.2 0, 7, .inl er)), (ad 9, .inl (E.2 0, 128, .inl nmd)), (ad 10, .inl (E.2 0, 64, .inl pl))] := hD
    replace hq_11 : r_11 = fx_b (inB su 0 299970 = true) := hq_11
    rcases fx_bc hq_11 with ⟨hb_11, hr_11⟩ | ⟨hb_11, hr_11⟩
    · -- True
      subst hr_11
      refine lv_if_eq (tgt := 37) hx hb dX6_asks_14 (by decide) (fun c => absurd c (by decide)) (fun _ => ?_)
      refine lv_iload_n hx hb dX6_asks_17 rfl (lv_at hl 3 rfl) ?_
      refine lv_iconst (v := 0) hx hb dX6_asks_18 rfl ?_
      refine lv_bipush (v := 30) hx hb dX6_asks_19 rfl ?_
      refine fx_ci (va_runS (As := [.int qn, .int 0, .int 30]) (rest := []) X (mX6_in l E qn 0 30 _) (va_cwS 3 X.2.2.2.2 (lw_S q1263 q1264 q75 q1265) rfl rfl rfl hdX6_in ⟨Nat.le_of_ble_eq_true rfl, Nat.le_of_ble_eq_true rfl⟩) (fx_pre hE hP hD hS hR [] rfl rfl fx_rc0) rfl rfl hl.1 rfl (lv_room (Nat.le_of_ble_eq_true rfl)) dX6_asks_21 ⟨Nat.le_refl _, Nat.le_refl _⟩) hP hD hS hA [] rfl rfl (fun r_21 u H locs hq_21 hP hD hS => ?_)
      replace hP : va_P E.1 clA [(ad 3, .inl (E.2 0, 7, .inl er)), (ad 9, .inl (E.2 0, 128, .inl nmd)), (ad 10, .inl (E.2 0, 64, .inl pl))] _ := hP
      replace hD : va_D A [(ad 3, .inl (E.2 0, 7, .inl er)), (ad 9, .inl (E.2 0, 128, .inl nmd)), (ad 10, .inl (E.2 0, 64, .inl pl))] := hD
      replace hq_21 : r_21 = fx_b (inB qn 0 30 = true) := hq_21
      rcases fx_bc hq_21 with ⟨hb_21, hr_21⟩ | ⟨hb_21, hr_21⟩
      · -- True
        subst hr_21
        refine lv_if_eq (tgt := 37) hx hb dX6_asks_24 (by decide) (fun c => absurd c (by decide)) (fun _ => ?_)
        refine lv_aload_n hx hb dX6_asks_27 rfl (lv_at hl 0 rfl) ?_
        refine lv_iload_n hx hb dX6_asks_28 rfl (lv_at hl 1 rfl) ?_
        refine fx_ti (show til = nI (nn til) from (inB_nn (n := 3) hb_1 (by omega)).1) ?_
        have g1 := (inB_nn (n := 3) hb_1 (by omega)).2
        refine lv_iload_n hx hb dX6_asks_29 rfl (lv_at hl 2 rfl) ?_
        refine fx_ti (show su = nI (nn su) from (inB_nn (n := 299970) hb_11 (by omega)).1) ?_
        have g2 := (inB_nn (n := 299970) hb_11 (by omega)).2
        refine lv_iload_n hx hb dX6_asks_30 rfl (lv_at hl 3 rfl) ?_
        refine fx_ti (show qn = nI (nn qn) from (inB_nn (n := 30) hb_21 (by omega)).1) ?_
        have g3 := (inB_nn (n := 30) hb_21 (by omega)).2
        refine fx_ci (va_runV (As := [.int (nI (nn til)), .int (nI (nn su)), .int (nI (nn qn))]) (rest := []) X (mX6_asked l E ad im at_ op st_ us bn bm la fo fi lp tr_ sp ip sa nmd pl (nn til) (nn su) (nn qn) (nn (sa (32 + 2 * nn til))) (nn (sa (32 + 2 * nn til + 1))) T (by omega) ((hI.kd (by omega)).1) ((hI.kd (by omega)).2) ((hI.m (by omega)).1) ((hI.m (by omega)).2) (by first | assumption | omega) (by first | assumption | omega) (by omega) (by omega) _) (cwV 3 X.2.2.2.2 (lw_V q1391 q1393 qs49 q75 q1394) rfl rfl rfl ⟨rfl, hdX6_asked⟩ ⟨Nat.le_of_ble_eq_true rfl, Nat.le_of_ble_eq_true rfl⟩) (fx_preV (fx_pre hE hP hD hS hR [1, 2] rfl rfl (fx_rcr 0 rfl (fx_rcr 1 rfl fx_rc0))) (va_recv hE.1 (hR.at hS) (ci := 6) (q0 := 0) rfl rfl)) rfl rfl hl.1 rfl (lv_room (Nat.le_of_ble_eq_true rfl)) dX6_asks_31 ⟨Nat.le_refl _, Nat.le_refl _⟩) hP hD hS hA [1, 2] rfl rfl (fun r_31 u H locs hq_31 hP hD hS => ?_)
        obtain ⟨nm2_31, pl2_31⟩ := u
        replace hP : va_P E.1 clA [(ad 3, .inl (E.2 0, 7, .inl er)), (ad 9, .inl (E.2 0, 128, .inl nm2_31)), (ad 10, .inl (E.2 0, 64, .inl pl2_31))] _ := hP
        replace hD : va_D A [(ad 3, .inl (E.2 0, 7, .inl er)), (ad 9, .inl (E.2 0, 128, .inl nm2_31)), (ad 10, .inl (E.2 0, 64, .inl pl2_31))] := hD
        replace hq_31 : r_31 = askF (nn (sa (32 + 2 * nn til))) (nn (sa (32 + 2 * nn til + 1))) T (nn su) (nn qn) := hq_31
        refine lv_goto (tgt := 42) hx hb dX6_asks_34 (by decide) ?_
        exact hret r_31 (er, nm2_31, pl2_31) (by simp [asks_, erI, hq_31, askT, hb_1, hb_11, hb_21]) (rfl) hP hD hS (Nat.le_refl _) (Nat.le_refl _) dX6_asks_42
      · -- False
        subst hr_21
        refine lv_if_eq (tgt := 37) hx hb dX6_asks_24 (by decide) (fun _ => ?_) (fun c => (c (by decide)).elim)
        refine lv_aload_n hx hb dX6_asks_37 rfl (lv_at hl 0 rfl) ?_
        refine lv_iconst (v := 1) hx hb dX6_asks_38 rfl ?_
        refine fx_ci (va_runV (As := [.int 1]) (rest := []) X (mX6_error l E ad im at_ op st_ us bn bm la fo fi lp tr_ sp ip er 1 (by decide) _) (cwV 1 X.2.2.2.2 (lw_V q1266 q1268 qs32 q75 q1269) rfl rfl rfl ⟨rfl, hdX6_error⟩ ⟨Nat.le_of_ble_eq_true rfl, Nat.le_of_ble_eq_true rfl⟩) (fx_preV (fx_pre hE hP hD hS hR [0] rfl rfl (fx_rcr 0 rfl fx_rc0)) (va_recv hE.1 (hR.at hS) (ci := 6) (q0 := 0) rfl rfl)) rfl rfl hl.1 rfl (lv_room (Nat.le_of_ble_eq_true rfl)) dX6_asks_39 ⟨Nat.le_refl _, Nat.le_refl _⟩) hP hD hS hA [0] rfl rfl (fun r_39 u H locs hq_39 hP hD hS => ?_)
        replace hP : va_P E.1 clA [(ad 3, .inl (E.2 0, 7, .inl (upd er 1 (er 1 + 1)))), (ad 9, .inl (E.2 0, 128, .inl nmd)), (ad 10, .inl (E.2 0, 64, .inl pl))] _ := hP
        replace hD : va_D A [(ad 3, .inl (E.2 0, 7, .inl (upd er 1 (er 1 + 1)))), (ad 9, .inl (E.2 0, 128, .inl nmd)), (ad 10, .inl (E.2 0, 64, .inl pl))] := hD
        replace hq_39 : r_39 = erv 1 := hq_39
        exact hret r_39 ((upd er 1 (er 1 + 1)), nmd, pl) (by simp [asks_, erI, hq_39, askT, hb_1, hb_11, hb_21]) (rfl) hP hD hS (Nat.le_refl _) (Nat.le_refl _) dX6_asks_42
    · -- False
      subst hr_11
      refine lv_if_eq (tgt := 37) hx hb dX6_asks_14 (by decide) (fun _ => ?_) (fun c => (c (by decide)).elim)
      refine lv_aload_n hx hb dX6_asks_37 rfl (lv_at hl 0 rfl) ?_
      refine lv_iconst (v := 1) hx hb dX6_asks_38 rfl ?_
      refine fx_ci (va_runV (As := [.int 1]) (rest := []) X (mX6_error l E ad im at_ op st_ us bn bm la fo fi lp tr_ sp ip er 1 (by decide) _) (cwV 1 X.2.2.2.2 (lw_V q1266 q1268 qs32 q75 q1269) rfl rfl rfl ⟨rfl, hdX6_error⟩ ⟨Nat.le_of_ble_eq_true rfl, Nat.le_of_ble_eq_true rfl⟩) (fx_preV (fx_pre hE hP hD hS hR [0] rfl rfl (fx_rcr 0 rfl fx_rc0)) (va_recv hE.1 (hR.at hS) (ci := 6) (q0 := 0) rfl rfl)) rfl rfl hl.1 rfl (lv_room (Nat.le_of_ble_eq_true rfl)) dX6_asks_39 ⟨Nat.le_refl _, Nat.le_refl _⟩) hP hD hS hA [0] rfl rfl (fun r_39 u H locs hq_39 hP hD hS => ?_)
      replace hP : va_P E.1 clA [(ad 3, .inl (E.2 0, 7, .inl (upd er 1 (er 1 + 1)))), (ad 9, .inl (E.2 0, 128, .inl nmd)), (ad 10, .inl (E.2 0, 64, .inl pl))] _ := hP
      replace hD : va_D A [(ad 3, .inl (E.2 0, 7, .inl (upd er 1 (er 1 + 1)))), (ad 9, .inl (E.2 0, 128, .inl nmd)), (ad 10, .inl (E.2 0, 64, .inl pl))] := hD
      replace hq_39 : r_39 = erv 1 := hq_39
      exact hret r_39 ((upd er 1 (er 1 + 1)), nmd, pl) (by simp [asks_, erI, hq_39, askT, hb_1, hb_11]) (rfl) hP hD hS (Nat.le_refl _) (Nat.le_refl _) dX6_asks_42
  · -- False
    subst hr_1
    refine lv_if_eq (tgt := 37) hx hb dX6_asks_4 (by decide) (fun _ => ?_) (fun c => (c (by decide)).elim)
    refine lv_aload_n hx hb dX6_asks_37 rfl (lv_at hl 0 rfl) ?_
    refine lv_iconst (v := 1) hx hb dX6_asks_38 rfl ?_
    refine fx_ci (va_runV (As := [.int 1]) (rest := []) X (mX6_error l E ad im at_ op st_ us bn bm la fo fi lp tr_ sp ip er 1 (by decide) _) (cwV 1 X.2.2.2.2 (lw_V q1266 q1268 qs32 q75 q1269) rfl rfl rfl ⟨rfl, hdX6_error⟩ ⟨Nat.le_of_ble_eq_true rfl, Nat.le_of_ble_eq_true rfl⟩) (fx_preV (fx_pre hE hP hD hS hR [0] rfl rfl (fx_rcr 0 rfl fx_rc0)) (va_recv hE.1 (hR.at hS) (ci := 6) (q0 := 0) rfl rfl)) rfl rfl hl.1 rfl (lv_room (Nat.le_of_ble_eq_true rfl)) dX6_asks_39 ⟨Nat.le_refl _, Nat.le_refl _⟩) hP hD hS hA [0] rfl rfl (fun r_39 u H locs hq_39 hP hD hS => ?_)
    replace hP : va_P E.1 clA [(ad 3, .inl (E.2 0, 7, .inl (upd er 1 (er 1 + 1)))), (ad 9, .inl (E.2 0, 128, .inl nmd)), (ad 10, .inl (E.2 0, 64, .inl pl))] _ := hP
    replace hD : va_D A [(ad 3, .inl (E.2 0, 7, .inl (upd er 1 (er 1 + 1)))), (ad 9, .inl (E.2 0, 128, .inl nmd)), (ad 10, .inl (E.2 0, 64, .inl pl))] := hD
    replace hq_39 : r_39 = erv 1 := hq_39
    exact hret r_39 ((upd er 1 (er 1 + 1)), nmd, pl) (by simp [asks_, erI, hq_39, askT, hb_1]) (rfl) hP hD hS (Nat.le_refl _) (Nat.le_refl _) dX6_asks_42
abbrev rmX6_basket : Room := { frames := 3, cells := 0, slots := 0, locals := 70 }
set_option maxHeartbeats 400000 in
set_option maxRecDepth 100000 in
theorem mX6_basket (l : Launch) (E : fx_En) (ad : Nat → Nat) (im : Int32) (at_ : Int32) (op : Int32) (st_ : Int32) (us : Int32) (bn : Int32) (bm : Int32) (la : Int32) (fo : Int32) (fi : Int32) (lp : Int32) (tr_ : Int32) (sp : Int32) (ip : Int32) (sa : Nat → Int32) (bt : Nat → Int32) (sz : Nat → Int32) (nu : Nat → Int32) (er : Nat → Int32) (td : Nat → Int32) (sheet : Int32) (wh : Int32) (hI : Inv sa) (hIS : InvS bt sz) : fx_Mi l yX6_basket cX6_basket 4 .int rmX6_basket E [.ref (ad 30), .int sheet, .int wh] [(ad 3, .inl (E.2 0, 7, .inl er)), (ad 11, .inl (E.2 0, 8, .inl td))] [(ad 30, .inr (6, [.ref (ad 0), .ref (ad 1), .int im, .ref (ad 3), .int at_, .int op, .int st_, .int us, .ref (ad 8), .ref (ad 9), .ref (ad 10), .ref (ad 11), .ref (ad 12), .ref (ad 13), .ref (ad 14), .int bn, .int bm, .ref (ad 17), .int la, .int fo, .int fi, .int lp, .ref (ad 22), .int tr_, .int sp, .int ip, .ref (ad 26), .ref (ad 27), .ref (ad 28), .ref (ad 29)])), (ad 0, .inl (E.2 0, 374, .inl sa)), (ad 26, .inl (E.2 0, 4, .inl bt)), (ad 27, .inl (E.2 0, 4, .inl sz)), (ad 28, .inl (E.2 0, 96, .inl nu))] (S := (Nat → Int32) × (Nat → Int32)) (fun (u : (Nat → Int32) × (Nat → Int32)) => [(ad 3, .inl (E.2 0, 7, .inl u.1)), (ad 11, .inl (E.2 0, 8, .inl u.2))]) (fun (r : Int32) (u : (Nat → Int32) × (Nat → Int32)) => (r, u.1) = basket_ sa er bt sz nu sheet wh) := by
  refine fx_iW rfl rfl ?_
  intro p e s m args below meth c A ls Q X hE hP hD hR hA hl hret
  have hx := X.1
  have hb := X.2.1
  have hS : va_S A s.heap s.heap [] := va_S.rf
  replace hP : va_P E.1 clA [(ad 3, .inl (E.2 0, 7, .inl er)), (ad 11, .inl (E.2 0, 8, .inl td))] _ := hP
  replace hD : va_D A [(ad 3, .inl (E.2 0, 7, .inl er)), (ad 11, .inl (E.2 0, 8, .inl td))] := hD
  replace hl : lv_has ls 4 [(0, .ref (ad 30)), (1, .int sheet), (2, .int wh)] := hl
  refine lv_aload_n hx hb dX6_basket_0 rfl (lv_at hl 0 rfl) ?_
  refine lv_iload_n hx hb dX6_basket_1 rfl (lv_at hl 1 rfl) ?_
  refine lv_iconst (v := 0) hx hb dX6_basket_2 rfl ?_
  refine lv_iload_n hx hb dX6_basket_3 rfl (lv_at hl 2 rfl) ?_
  refine lv_iconst (v := 0) hx hb dX6_basket_4 rfl ?_
  refine lv_iconst (v := 2) hx hb dX6_basket_5 rfl ?_
  refine fx_ci (va_runS (As := [.int wh, .int 0, .int 2]) (rest := [.int 0, .int sheet, .ref (ad 30)]) X (mX6_in l E wh 0 2 _) (va_cwS 3 X.2.2.2.2 (lw_S q1263 q1264 q75 q1265) rfl rfl rfl hdX6_in ⟨Nat.le_of_ble_eq_true rfl, Nat.le_of_ble_eq_true rfl⟩) (fx_pre hE hP hD hS hR [] rfl rfl fx_rc0) rfl rfl hl.1 rfl (lv_room (Nat.le_of_ble_eq_true rfl)) dX6_basket_6 ⟨Nat.le_refl _, Nat.le_refl _⟩) hP hD hS hA [] rfl rfl (fun r_6 u H locs hq_6 hP hD hS => ?_)
  replace hP : va_P E.1 clA [(ad 3, .inl (E.2 0, 7, .inl er)), (ad 11, .inl (E.2 0, 8, .inl td))] _ := hP
  replace hD : va_D A [(ad 3, .inl (E.2 0, 7, .inl er)), (ad 11, .inl (E.2 0, 8, .inl td))] := hD
  replace hq_6 : r_6 = fx_b (inB wh 0 2 = true) := hq_6
  rcases fx_bc hq_6 with ⟨hb_6, hr_6⟩ | ⟨hb_6, hr_6⟩
  · -- True
    subst hr_6
    have hbc : basketC bt sz nu sheet wh = lackF bt sz nu sheet 0 true 30 := by rw [basketC, hb_6]
    refine lv_bipush (v := 30) hx hb dX6_basket_9 rfl ?_
    refine fx_ci (va_runV (As := [.int sheet, .int 0, .int 1, .int 30]) (rest := []) X (mX6_lacks l E ad im at_ op st_ us bn bm la fo fi lp tr_ sp ip bt sz nu td sheet 0 1 30 (by first | assumption | omega) (by decide) _) (cwV 4 X.2.2.2.2 (lw_V q1402 q1404 qs50 q75 q1405) rfl rfl rfl ⟨rfl, hdX6_lacks⟩ ⟨Nat.le_of_ble_eq_true rfl, Nat.le_of_ble_eq_true rfl⟩) (fx_preV (fx_pre hE hP hD hS hR [1] rfl rfl (fx_rcr 0 rfl (fx_rcr 2 rfl (fx_rcr 3 rfl (fx_rcr 4 rfl fx_rc0))))) (va_recv hE.1 (hR.at hS) (ci := 6) (q0 := 0) rfl rfl)) rfl rfl hl.1 rfl (lv_room (Nat.le_of_ble_eq_true rfl)) dX6_basket_11 ⟨Nat.le_refl _, Nat.le_refl _⟩) hP hD hS hA [1] rfl rfl (fun r_11 u H locs hq_11 hP hD hS => ?_)
    obtain ⟨td2_11, rfl⟩ : ∃ z, z = u := ⟨_, rfl⟩
    replace hP : va_P E.1 clA [(ad 3, .inl (E.2 0, 7, .inl er)), (ad 11, .inl (E.2 0, 8, .inl td2_11))] _ := hP
    replace hD : va_D A [(ad 3, .inl (E.2 0, 7, .inl er)), (ad 11, .inl (E.2 0, 8, .inl td2_11))] := hD
    replace hq_11 : r_11 = nI (lackF bt sz nu sheet 0 (decide (1 ≠ 0)) 30) ∧ (lackF bt sz nu sheet 0 (decide (1 ≠ 0)) 30 = 0 → ∀ t, t < 8 → td2_11 t = shG sz nu (nn sheet) t) := hq_11
    refine fx_ti (show r_11 = nI (basketC bt sz nu sheet wh) from hq_11.1.trans (congrArg nI hbc.symm)) ?_
    have hcl : basketC bt sz nu sheet wh ≤ 4 := lackF_le
    refine lv_istore_n (lv' := [(3, .int (nI (basketC bt sz nu sheet wh))), (0, .ref (ad 30)), (1, .int sheet), (2, .int wh)]) hx hb dX6_basket_14 rfl hl (by decide) rfl (fun ls hl => ?_)
    refine lv_iload_n hx hb dX6_basket_15 rfl (lv_at hl 0 rfl) ?_
    refine lv_if_le (tgt := 25) hx hb dX6_basket_16 (by decide) (fun c_16 => ?_) (fun c_16 => ?_)
    · -- jump 25
      have n_16 := fx_le1 (a := (basketC bt sz nu sheet wh)) (b := 0) c_16 (by omega) (by omega)
      have h0 : basketC bt sz nu sheet wh = 0 := by omega
      obtain ⟨hrow, hr9, -⟩ := lack_row (hbc.symm.trans h0) (hq_11.2 (hbc.symm.trans h0))
      refine lv_iload_n hx hb dX6_basket_25 rfl (lv_at hl 3 rfl) ?_
      refine lv_if_ne (tgt := 39) hx hb dX6_basket_26 (by decide) (fun c_26 => ?_) (fun c_26 => ?_)
      · -- jump 39
        refine lv_iload_n hx hb dX6_basket_39 rfl (lv_at hl 3 rfl) ?_
        refine lv_iconst (v := 1) hx hb dX6_basket_40 rfl ?_
        refine lv_icmp_ne (tgt := 55) hx hb dX6_basket_41 (by decide) (fun c_41 => ?_) (fun c_41 => ?_)
        · -- jump 55
          refine lv_aload_n hx hb dX6_basket_55 rfl (lv_at hl 1 rfl) ?_
          refine lv_aload_n hx hb dX6_basket_56 rfl (lv_at hl 1 rfl) ?_
          refine fx_get X hE (hR.at hS) 0 rfl rfl 11 rfl q1179 rfl rfl dX6_basket_57 ?_
          refine fx_ci (va_runV (As := [.ref (ad 11)]) (rest := []) X (mX6_costOf l E ad im at_ op st_ us bn bm la fo fi lp tr_ sp ip sa (ad 11) td2_11 _) (cwV 1 X.2.2.2.2 (lw_V q1420 q1422 qs53 q75 q1423) rfl rfl rfl ⟨rfl, hdX6_costOf⟩ ⟨Nat.le_of_ble_eq_true rfl, Nat.le_of_ble_eq_true rfl⟩) (fx_preV (fx_pre hE hP hD hS hR [] rfl rfl (fx_rcr 0 rfl (fx_rcr 1 rfl (fx_rcm 1 rfl (by decide) fx_rc0)))) (va_recv hE.1 (hR.at hS) (ci := 6) (q0 := 0) rfl rfl)) rfl rfl hl.1 rfl (lv_room (Nat.le_of_ble_eq_true rfl)) dX6_basket_60 ⟨Nat.le_refl _, Nat.le_refl _⟩) hP hD hS hA [] rfl rfl (fun r_60 u H locs hq_60 hP hD hS => ?_)
          replace hP : va_P E.1 clA [(ad 3, .inl (E.2 0, 7, .inl er)), (ad 11, .inl (E.2 0, 8, .inl td2_11))] _ := hP
          replace hD : va_D A [(ad 3, .inl (E.2 0, 7, .inl er)), (ad 11, .inl (E.2 0, 8, .inl td2_11))] := hD
          replace hq_60 : r_60 = l_sum (fun i_ => td2_11 i_ * sa (16 + i_)) 8 := hq_60
          refine fx_ti (show r_60 = (nI (sumN (rnG sz nu (nn sheet)) (fun t => nn (sa (16 + t))) 8)) from hq_60.trans (sumN_I (pc := fun t => sa (16 + t)) 8 (fun t ht => (hrow t ht).1) (fun t ht => (hI.co t ht).1))) ?_
          exact hret (nI (sumN (rnG sz nu (nn sheet)) (fun t => nn (sa (16 + t))) 8)) (er, td2_11) (by simp [basket_, basketR, h0, eR_0, eE_0, c_16, Int32.not_lt.2 c_16, c_26, c_41]) (rfl) hP hD hS (Nat.le_refl _) (Nat.le_refl _) dX6_basket_63
        · -- fall 44
          refine lv_aload_n hx hb dX6_basket_44 rfl (lv_at hl 1 rfl) ?_
          refine lv_aload_n hx hb dX6_basket_45 rfl (lv_at hl 1 rfl) ?_
          refine fx_get X hE (hR.at hS) 0 rfl rfl 11 rfl q1179 rfl rfl dX6_basket_46 ?_
          refine fx_ci (va_runV (As := [.ref (ad 11)]) (rest := []) X (mX6_sumOf l E ad im at_ op st_ us bn bm la fo fi lp tr_ sp ip sa (ad 11) td2_11 _) (cwV 1 X.2.2.2.2 (lw_V q1416 q1418 qs52 q75 q1419) rfl rfl rfl ⟨rfl, hdX6_sumOf⟩ ⟨Nat.le_of_ble_eq_true rfl, Nat.le_of_ble_eq_true rfl⟩) (fx_preV (fx_pre hE hP hD hS hR [] rfl rfl (fx_rcr 0 rfl (fx_rcr 1 rfl (fx_rcm 1 rfl (by decide) fx_rc0)))) (va_recv hE.1 (hR.at hS) (ci := 6) (q0 := 0) rfl rfl)) rfl rfl hl.1 rfl (lv_room (Nat.le_of_ble_eq_true rfl)) dX6_basket_49 ⟨Nat.le_refl _, Nat.le_refl _⟩) hP hD hS hA [] rfl rfl (fun r_49 u H locs hq_49 hP hD hS => ?_)
          replace hP : va_P E.1 clA [(ad 3, .inl (E.2 0, 7, .inl er)), (ad 11, .inl (E.2 0, 8, .inl td2_11))] _ := hP
          replace hD : va_D A [(ad 3, .inl (E.2 0, 7, .inl er)), (ad 11, .inl (E.2 0, 8, .inl td2_11))] := hD
          replace hq_49 : r_49 = l_sum (fun i_ => td2_11 i_ * sa (8 + i_)) 8 := hq_49
          refine fx_ti (show r_49 = (nI (sumN (rnG sz nu (nn sheet)) (fun t => nn (sa (8 + t))) 8)) from hq_49.trans (sumN_I (pc := fun t => sa (8 + t)) 8 (fun t ht => (hrow t ht).1) (fun t ht => (hI.pr t ht).1))) ?_
          refine lv_goto (tgt := 63) hx hb dX6_basket_52 (by decide) ?_
          exact hret (nI (sumN (rnG sz nu (nn sheet)) (fun t => nn (sa (8 + t))) 8)) (er, td2_11) (by simp [basket_, basketR, h0, eR_0, eE_0, c_16, Int32.not_lt.2 c_16, c_26, eq_true c_41]) (rfl) hP hD hS (Nat.le_refl _) (Nat.le_refl _) dX6_basket_63
      · -- fall 29
        refine lv_aload_n hx hb dX6_basket_29 rfl (lv_at hl 1 rfl) ?_
        refine fx_get X hE (hR.at hS) 0 rfl rfl 11 rfl q1179 rfl rfl dX6_basket_30 ?_
        refine fx_ci (va_runS (As := [.ref (ad 11)]) (rest := []) X (mX6_many l E (ad 11) td2_11 _) (va_cwS 1 X.2.2.2.2 (lw_S q1413 q1414 q75 q1415) rfl rfl rfl hdX6_many ⟨Nat.le_of_ble_eq_true rfl, Nat.le_of_ble_eq_true rfl⟩) (fx_pre hE hP hD hS hR [] rfl rfl (fx_rcm 1 rfl (by decide) fx_rc0)) rfl rfl hl.1 rfl (lv_room (Nat.le_of_ble_eq_true rfl)) dX6_basket_33 ⟨Nat.le_refl _, Nat.le_refl _⟩) hP hD hS hA [] rfl rfl (fun r_33 u H locs hq_33 hP hD hS => ?_)
        replace hP : va_P E.1 clA [(ad 3, .inl (E.2 0, 7, .inl er)), (ad 11, .inl (E.2 0, 8, .inl td2_11))] _ := hP
        replace hD : va_D A [(ad 3, .inl (E.2 0, 7, .inl er)), (ad 11, .inl (E.2 0, 8, .inl td2_11))] := hD
        replace hq_33 : r_33 = l_sum td2_11 8 := hq_33
        refine fx_ti (show r_33 = (nI (manyN (rnG sz nu (nn sheet)) 8)) from hq_33.trans (manyN_I 8 (fun t ht => (hrow t ht).1))) ?_
        refine lv_goto (tgt := 63) hx hb dX6_basket_36 (by decide) ?_
        exact hret (nI (manyN (rnG sz nu (nn sheet)) 8)) (er, td2_11) (by simp [basket_, basketR, h0, eR_0, eE_0, c_16, Int32.not_lt.2 c_16, eq_true c_26]) (rfl) hP hD hS (Nat.le_refl _) (Nat.le_refl _) dX6_basket_63
    · -- fall 19
      have n_16 := fx_le0 (a := (basketC bt sz nu sheet wh)) (b := 0) c_16 (by omega) (by omega)
      refine lv_aload_n hx hb dX6_basket_19 rfl (lv_at hl 1 rfl) ?_
      refine lv_iload_n hx hb dX6_basket_20 rfl (lv_at hl 0 rfl) ?_
      refine fx_ci (va_runV (As := [.int (nI (basketC bt sz nu sheet wh))]) (rest := []) X (mX6_error l E ad im at_ op st_ us bn bm la fo fi lp tr_ sp ip er (basketC bt sz nu sheet wh) (by omega) _) (cwV 1 X.2.2.2.2 (lw_V q1266 q1268 qs32 q75 q1269) rfl rfl rfl ⟨rfl, hdX6_error⟩ ⟨Nat.le_of_ble_eq_true rfl, Nat.le_of_ble_eq_true rfl⟩) (fx_preV (fx_pre hE hP hD hS hR [0] rfl rfl (fx_rcr 0 rfl fx_rc0)) (va_recv hE.1 (hR.at hS) (ci := 6) (q0 := 0) rfl rfl)) rfl rfl hl.1 rfl (lv_room (Nat.le_of_ble_eq_true rfl)) dX6_basket_21 ⟨Nat.le_refl _, Nat.le_refl _⟩) hP hD hS hA [0] rfl rfl (fun r_21 u H locs hq_21 hP hD hS => ?_)
      replace hP : va_P E.1 clA [(ad 3, .inl (E.2 0, 7, .inl (upd er (basketC bt sz nu sheet wh) (er (basketC bt sz nu sheet wh) + 1)))), (ad 11, .inl (E.2 0, 8, .inl td2_11))] _ := hP
      replace hD : va_D A [(ad 3, .inl (E.2 0, 7, .inl (upd er (basketC bt sz nu sheet wh) (er (basketC bt sz nu sheet wh) + 1)))), (ad 11, .inl (E.2 0, 8, .inl td2_11))] := hD
      replace hq_21 : r_21 = erv (basketC bt sz nu sheet wh) := hq_21
      exact hret r_21 ((upd er (basketC bt sz nu sheet wh) (er (basketC bt sz nu sheet wh) + 1)), td2_11) (by rw [hq_21]; simp [basket_, eR_p n_16, eE_p n_16, erI]) (rfl) hP hD hS (Nat.le_refl _) (Nat.le_refl _) dX6_basket_24
  · -- False
    subst hr_6
    have hbc : basketC bt sz nu sheet wh = lackF bt sz nu sheet 0 false 30 := by rw [basketC, Bool.eq_false_iff.2 hb_6]
    refine lv_bipush (v := 30) hx hb dX6_basket_9 rfl ?_
    refine fx_ci (va_runV (As := [.int sheet, .int 0, .int 0, .int 30]) (rest := []) X (mX6_lacks l E ad im at_ op st_ us bn bm la fo fi lp tr_ sp ip bt sz nu td sheet 0 0 30 (by first | assumption | omega) (by decide) _) (cwV 4 X.2.2.2.2 (lw_V q1402 q1404 qs50 q75 q1405) rfl rfl rfl ⟨rfl, hdX6_lacks⟩ ⟨Nat.le_of_ble_eq_true rfl, Nat.le_of_ble_eq_true rfl⟩) (fx_preV (fx_pre hE hP hD hS hR [1] rfl rfl (fx_rcr 0 rfl (fx_rcr 2 rfl (fx_rcr 3 rfl (fx_rcr 4 rfl fx_rc0))))) (va_recv hE.1 (hR.at hS) (ci := 6) (q0 := 0) rfl rfl)) rfl rfl hl.1 rfl (lv_room (Nat.le_of_ble_eq_true rfl)) dX6_basket_11 ⟨Nat.le_refl _, Nat.le_refl _⟩) hP hD hS hA [1] rfl rfl (fun r_11 u H locs hq_11 hP hD hS => ?_)
    obtain ⟨td2_11, rfl⟩ : ∃ z, z = u := ⟨_, rfl⟩
    replace hP : va_P E.1 clA [(ad 3, .inl (E.2 0, 7, .inl er)), (ad 11, .inl (E.2 0, 8, .inl td2_11))] _ := hP
    replace hD : va_D A [(ad 3, .inl (E.2 0, 7, .inl er)), (ad 11, .inl (E.2 0, 8, .inl td2_11))] := hD
    replace hq_11 : r_11 = nI (lackF bt sz nu sheet 0 (decide (0 ≠ 0)) 30) ∧ (lackF bt sz nu sheet 0 (decide (0 ≠ 0)) 30 = 0 → ∀ t, t < 8 → td2_11 t = shG sz nu (nn sheet) t) := hq_11
    refine fx_ti (show r_11 = nI (basketC bt sz nu sheet wh) from hq_11.1.trans (congrArg nI hbc.symm)) ?_
    have hcl : basketC bt sz nu sheet wh ≤ 4 := lackF_le
    refine lv_istore_n (lv' := [(3, .int (nI (basketC bt sz nu sheet wh))), (0, .ref (ad 30)), (1, .int sheet), (2, .int wh)]) hx hb dX6_basket_14 rfl hl (by decide) rfl (fun ls hl => ?_)
    refine lv_iload_n hx hb dX6_basket_15 rfl (lv_at hl 0 rfl) ?_
    refine lv_if_le (tgt := 25) hx hb dX6_basket_16 (by decide) (fun c_16 => ?_) (fun c_16 => ?_)
    · -- jump 25
      have n_16 := fx_le1 (a := (basketC bt sz nu sheet wh)) (b := 0) c_16 (by omega) (by omega)
      have h0 : basketC bt sz nu sheet wh = 0 := by omega
      exact absurd h0 (by rw [hbc]; simp [lackF])
    · -- fall 19
      have n_16 := fx_le0 (a := (basketC bt sz nu sheet wh)) (b := 0) c_16 (by omega) (by omega)
      refine lv_aload_n hx hb dX6_basket_19 rfl (lv_at hl 1 rfl) ?_
      refine lv_iload_n hx hb dX6_basket_20 rfl (lv_at hl 0 rfl) ?_
      refine fx_ci (va_runV (As := [.int (nI (basketC bt sz nu sheet wh))]) (rest := []) X (mX6_error l E ad im at_ op st_ us bn bm la fo fi lp tr_ sp ip er (basketC bt sz nu sheet wh) (by omega) _) (cwV 1 X.2.2.2.2 (lw_V q1266 q1268 qs32 q75 q1269) rfl rfl rfl ⟨rfl, hdX6_error⟩ ⟨Nat.le_of_ble_eq_true rfl, Nat.le_of_ble_eq_true rfl⟩) (fx_preV (fx_pre hE hP hD hS hR [0] rfl rfl (fx_rcr 0 rfl fx_rc0)) (va_recv hE.1 (hR.at hS) (ci := 6) (q0 := 0) rfl rfl)) rfl rfl hl.1 rfl (lv_room (Nat.le_of_ble_eq_true rfl)) dX6_basket_21 ⟨Nat.le_refl _, Nat.le_refl _⟩) hP hD hS hA [0] rfl rfl (fun r_21 u H locs hq_21 hP hD hS => ?_)
      replace hP : va_P E.1 clA [(ad 3, .inl (E.2 0, 7, .inl (upd er (basketC bt sz nu sheet wh) (er (basketC bt sz nu sheet wh) + 1)))), (ad 11, .inl (E.2 0, 8, .inl td2_11))] _ := hP
      replace hD : va_D A [(ad 3, .inl (E.2 0, 7, .inl (upd er (basketC bt sz nu sheet wh) (er (basketC bt sz nu sheet wh) + 1)))), (ad 11, .inl (E.2 0, 8, .inl td2_11))] := hD
      replace hq_21 : r_21 = erv (basketC bt sz nu sheet wh) := hq_21
      exact hret r_21 ((upd er (basketC bt sz nu sheet wh) (er (basketC bt sz nu sheet wh) + 1)), td2_11) (by rw [hq_21]; simp [basket_, eR_p n_16, eE_p n_16, erI]) (rfl) hP hD hS (Nat.le_refl _) (Nat.le_refl _) dX6_basket_24
abbrev rmX6_pays : Room := { frames := 4, cells := 0, slots := 0, locals := 95 }
set_option maxHeartbeats 400000 in
set_option maxRecDepth 100000 in
theorem mX6_pays (l : Launch) (E : fx_En) (ad : Nat → Nat) (im : Int32) (at_ : Int32) (op : Int32) (st_ : Int32) (us : Int32) (bn : Int32) (bm : Int32) (la : Int32) (fo : Int32) (fi : Int32) (lp : Int32) (tr_ : Int32) (sp : Int32) (ip : Int32) (sa : Nat → Int32) (bt : Nat → Int32) (sz : Nat → Int32) (nu : Nat → Int32) (er : Nat → Int32) (nmd : Nat → Int32) (pl : Nat → Int32) (td : Nat → Int32) (sheet : Int32) (til : Int32) (T : Tx) (hI : Inv sa) (hIS : InvS bt sz) (hT : TM sa 0 T) (hTo : TOk T) : fx_Mi l yX6_pays cX6_pays 4 .int rmX6_pays E [.ref (ad 30), .int sheet, .int til] [(ad 3, .inl (E.2 0, 7, .inl er)), (ad 9, .inl (E.2 0, 128, .inl nmd)), (ad 10, .inl (E.2 0, 64, .inl pl)), (ad 11, .inl (E.2 0, 8, .inl td))] [(ad 30, .inr (6, [.ref (ad 0), .ref (ad 1), .int im, .ref (ad 3), .int at_, .int op, .int st_, .int us, .ref (ad 8), .ref (ad 9), .ref (ad 10), .ref (ad 11), .ref (ad 12), .ref (ad 13), .ref (ad 14), .int bn, .int bm, .ref (ad 17), .int la, .int fo, .int fi, .int lp, .ref (ad 22), .int tr_, .int sp, .int ip, .ref (ad 26), .ref (ad 27), .ref (ad 28), .ref (ad 29)])), (ad 0, .inl (E.2 0, 374, .inl sa)), (ad 26, .inl (E.2 0, 4, .inl bt)), (ad 27, .inl (E.2 0, 4, .inl sz)), (ad 28, .inl (E.2 0, 96, .inl nu))] (S := (Nat → Int32) × (Nat → Int32) × (Nat → Int32) × (Nat → Int32)) (fun (u : (Nat → Int32) × (Nat → Int32) × (Nat → Int32) × (Nat → Int32)) => [(ad 3, .inl (E.2 0, 7, .inl u.1)), (ad 9, .inl (E.2 0, 128, .inl u.2.1)), (ad 10, .inl (E.2 0, 64, .inl u.2.2.1)), (ad 11, .inl (E.2 0, 8, .inl u.2.2.2))]) (fun (r : Int32) (u : (Nat → Int32) × (Nat → Int32) × (Nat → Int32) × (Nat → Int32)) => (r, u.1) = pays_ sa er bt sz nu T sheet til) := by
  refine fx_iW rfl rfl ?_
  intro p e s m args below meth c A ls Q X hE hP hD hR hA hl hret
  have hx := X.1
  have hb := X.2.1
  have hS : va_S A s.heap s.heap [] := va_S.rf
  replace hP : va_P E.1 clA [(ad 3, .inl (E.2 0, 7, .inl er)), (ad 9, .inl (E.2 0, 128, .inl nmd)), (ad 10, .inl (E.2 0, 64, .inl pl)), (ad 11, .inl (E.2 0, 8, .inl td))] _ := hP
  replace hD : va_D A [(ad 3, .inl (E.2 0, 7, .inl er)), (ad 9, .inl (E.2 0, 128, .inl nmd)), (ad 10, .inl (E.2 0, 64, .inl pl)), (ad 11, .inl (E.2 0, 8, .inl td))] := hD
  replace hl : lv_has ls 4 [(0, .ref (ad 30)), (1, .int sheet), (2, .int til)] := hl
  refine lv_aload_n hx hb dX6_pays_0 rfl (lv_at hl 0 rfl) ?_
  refine lv_iload_n hx hb dX6_pays_1 rfl (lv_at hl 1 rfl) ?_
  refine lv_iload_n hx hb dX6_pays_2 rfl (lv_at hl 2 rfl) ?_
  refine lv_iconst (v := 1) hx hb dX6_pays_3 rfl ?_
  refine lv_bipush (v := 30) hx hb dX6_pays_4 rfl ?_
  refine fx_ci (va_runV (As := [.int sheet, .int til, .int 1, .int 30]) (rest := []) X (mX6_lacks l E ad im at_ op st_ us bn bm la fo fi lp tr_ sp ip bt sz nu td sheet til 1 30 (by first | assumption | omega) (by decide) _) (cwV 4 X.2.2.2.2 (lw_V q1402 q1404 qs50 q75 q1405) rfl rfl rfl ⟨rfl, hdX6_lacks⟩ ⟨Nat.le_of_ble_eq_true rfl, Nat.le_of_ble_eq_true rfl⟩) (fx_preV (fx_pre hE hP hD hS hR [3] rfl rfl (fx_rcr 0 rfl (fx_rcr 2 rfl (fx_rcr 3 rfl (fx_rcr 4 rfl fx_rc0))))) (va_recv hE.1 (hR.at hS) (ci := 6) (q0 := 0) rfl rfl)) rfl rfl hl.1 rfl (lv_room (Nat.le_of_ble_eq_true rfl)) dX6_pays_6 ⟨Nat.le_refl _, Nat.le_refl _⟩) hP hD hS hA [3] rfl rfl (fun r_6 u H locs hq_6 hP hD hS => ?_)
  obtain ⟨td2_6, rfl⟩ : ∃ z, z = u := ⟨_, rfl⟩
  replace hP : va_P E.1 clA [(ad 3, .inl (E.2 0, 7, .inl er)), (ad 9, .inl (E.2 0, 128, .inl nmd)), (ad 10, .inl (E.2 0, 64, .inl pl)), (ad 11, .inl (E.2 0, 8, .inl td2_6))] _ := hP
  replace hD : va_D A [(ad 3, .inl (E.2 0, 7, .inl er)), (ad 9, .inl (E.2 0, 128, .inl nmd)), (ad 10, .inl (E.2 0, 64, .inl pl)), (ad 11, .inl (E.2 0, 8, .inl td2_6))] := hD
  replace hq_6 : r_6 = nI (lackF bt sz nu sheet til (decide (1 ≠ 0)) 30) ∧ (lackF bt sz nu sheet til (decide (1 ≠ 0)) 30 = 0 → ∀ t, t < 8 → td2_6 t = shG sz nu (nn sheet) t) := hq_6
  refine fx_ti (show r_6 = nI (lackF bt sz nu sheet til true 30) from hq_6.1) ?_
  have hcl : lackF bt sz nu sheet til true 30 ≤ 4 := lackF_le
  refine lv_istore_n (lv' := [(3, .int (nI (lackF bt sz nu sheet til true 30))), (0, .ref (ad 30)), (1, .int sheet), (2, .int til)]) hx hb dX6_pays_9 rfl hl (by decide) rfl (fun ls hl => ?_)
  refine lv_iload_n hx hb dX6_pays_10 rfl (lv_at hl 0 rfl) ?_
  refine lv_if_le (tgt := 22) hx hb dX6_pays_11 (by decide) (fun c_11 => ?_) (fun c_11 => ?_)
  · -- jump 22
    have n_11 := fx_le1 (a := (lackF bt sz nu sheet til true 30)) (b := 0) c_11 (by omega) (by omega)
    have h0 : lackF bt sz nu sheet til true 30 = 0 := by omega
    obtain ⟨hrow, hr9, hm30, hsh, htl⟩ := lack_row h0 (hq_6.2 h0)
    refine lv_aload_n hx hb dX6_pays_22 rfl (lv_at hl 1 rfl) ?_
    refine lv_iload_n hx hb dX6_pays_23 rfl (lv_at hl 3 rfl) ?_
    refine fx_ti (show til = nI (nn til) from htl.1) ?_
    refine lv_aload_n hx hb dX6_pays_24 rfl (lv_at hl 1 rfl) ?_
    refine fx_get X hE (hR.at hS) 0 rfl rfl 11 rfl q1179 rfl rfl dX6_pays_25 ?_
    refine fx_ci (va_runV (As := [.int (nI (nn til)), .ref (ad 11)]) (rest := []) X (mX6_paidI l E ad im at_ op st_ us bn bm la fo fi lp tr_ sp ip sa nmd pl (ad 11) td2_6 (nn til) T (rnG sz nu (nn sheet)) htl.2 (by first | assumption | omega) (by first | assumption | omega) (by first | assumption | omega) (by first | assumption | omega) _) (cwV 2 X.2.2.2.2 (lw_V q1428 q1430 qs54 q75 q1431) rfl rfl rfl ⟨rfl, hdX6_paid⟩ ⟨Nat.le_of_ble_eq_true rfl, Nat.le_of_ble_eq_true rfl⟩) (fx_preV (fx_pre hE hP hD hS hR [1, 2] rfl rfl (fx_rcr 0 rfl (fx_rcr 1 rfl (fx_rcm 3 rfl (by decide) fx_rc0)))) (va_recv hE.1 (hR.at hS) (ci := 6) (q0 := 0) rfl rfl)) rfl rfl hl.1 rfl (lv_room (Nat.le_of_ble_eq_true rfl)) dX6_pays_28 ⟨Nat.le_refl _, Nat.le_refl _⟩) hP hD hS hA [1, 2] rfl rfl (fun r_28 u H locs hq_28 hP hD hS => ?_)
    obtain ⟨nm2_28, pl2_28⟩ := u
    replace hP : va_P E.1 clA [(ad 3, .inl (E.2 0, 7, .inl er)), (ad 9, .inl (E.2 0, 128, .inl nm2_28)), (ad 10, .inl (E.2 0, 64, .inl pl2_28)), (ad 11, .inl (E.2 0, 8, .inl td2_6))] _ := hP
    replace hD : va_D A [(ad 3, .inl (E.2 0, 7, .inl er)), (ad 9, .inl (E.2 0, 128, .inl nm2_28)), (ad 10, .inl (E.2 0, 64, .inl pl2_28)), (ad 11, .inl (E.2 0, 8, .inl td2_6))] := hD
    replace hq_28 : r_28 = paysF sa T (rnG sz nu (nn sheet)) (nn til) := hq_28
    exact hret r_28 (er, nm2_28, pl2_28, td2_6) (by rw [hq_28]; simp [pays_, h0, eR_0, eE_0]) (rfl) hP hD hS (Nat.le_refl _) (Nat.le_refl _) dX6_pays_31
  · -- fall 14
    have n_11 := fx_le0 (a := (lackF bt sz nu sheet til true 30)) (b := 0) c_11 (by omega) (by omega)
    refine lv_aload_n hx hb dX6_pays_14 rfl (lv_at hl 1 rfl) ?_
    refine lv_iload_n hx hb dX6_pays_15 rfl (lv_at hl 0 rfl) ?_
    refine fx_ci (va_runV (As := [.int (nI (lackF bt sz nu sheet til true 30))]) (rest := []) X (mX6_error l E ad im at_ op st_ us bn bm la fo fi lp tr_ sp ip er (lackF bt sz nu sheet til true 30) (by omega) _) (cwV 1 X.2.2.2.2 (lw_V q1266 q1268 qs32 q75 q1269) rfl rfl rfl ⟨rfl, hdX6_error⟩ ⟨Nat.le_of_ble_eq_true rfl, Nat.le_of_ble_eq_true rfl⟩) (fx_preV (fx_pre hE hP hD hS hR [0] rfl rfl (fx_rcr 0 rfl fx_rc0)) (va_recv hE.1 (hR.at hS) (ci := 6) (q0 := 0) rfl rfl)) rfl rfl hl.1 rfl (lv_room (Nat.le_of_ble_eq_true rfl)) dX6_pays_16 ⟨Nat.le_refl _, Nat.le_refl _⟩) hP hD hS hA [0] rfl rfl (fun r_16 u H locs hq_16 hP hD hS => ?_)
    replace hP : va_P E.1 clA [(ad 3, .inl (E.2 0, 7, .inl (upd er (lackF bt sz nu sheet til true 30) (er (lackF bt sz nu sheet til true 30) + 1)))), (ad 9, .inl (E.2 0, 128, .inl nmd)), (ad 10, .inl (E.2 0, 64, .inl pl)), (ad 11, .inl (E.2 0, 8, .inl td2_6))] _ := hP
    replace hD : va_D A [(ad 3, .inl (E.2 0, 7, .inl (upd er (lackF bt sz nu sheet til true 30) (er (lackF bt sz nu sheet til true 30) + 1)))), (ad 9, .inl (E.2 0, 128, .inl nmd)), (ad 10, .inl (E.2 0, 64, .inl pl)), (ad 11, .inl (E.2 0, 8, .inl td2_6))] := hD
    replace hq_16 : r_16 = erv (lackF bt sz nu sheet til true 30) := hq_16
    refine lv_goto (tgt := 31) hx hb dX6_pays_19 (by decide) ?_
    exact hret r_16 ((upd er (lackF bt sz nu sheet til true 30) (er (lackF bt sz nu sheet til true 30) + 1)), nmd, pl, td2_6) (by rw [hq_16]; simp [pays_, eR_p n_11, eE_p n_11, erI]) (rfl) hP hD hS (Nat.le_refl _) (Nat.le_refl _) dX6_pays_31
abbrev rmX6_go : Room := { frames := 5, cells := 0, slots := 0, locals := 119 }
set_option maxHeartbeats 400000 in
set_option maxRecDepth 100000 in
theorem mX6_go (l : Launch) (E : fx_En) (ad : Nat → Nat) (im : Int32) (at_ : Int32) (op : Int32) (st_ : Int32) (us : Int32) (bn : Int32) (bm : Int32) (la : Int32) (fo : Int32) (fi : Int32) (lp : Int32) (tr_ : Int32) (sp : Int32) (ip : Int32) (sa : Nat → Int32) (bt : Nat → Int32) (sz : Nat → Int32) (nu : Nat → Int32) (er : Nat → Int32) (nmd : Nat → Int32) (pl : Nat → Int32) (td : Nat → Int32) (sheet : Int32) (til : Int32) (T : Tx) (hI : Inv sa) (hIS : InvS bt sz) (hT : TM sa 0 T) (hTo : TOk T) : fx_Mi l yX6_go cX6_go 4 .int rmX6_go E [.ref (ad 30), .int sheet, .int til] [(ad 0, .inl (E.2 0, 374, .inl sa)), (ad 3, .inl (E.2 0, 7, .inl er)), (ad 9, .inl (E.2 0, 128, .inl nmd)), (ad 10, .inl (E.2 0, 64, .inl pl)), (ad 11, .inl (E.2 0, 8, .inl td))] [(ad 30, .inr (6, [.ref (ad 0), .ref (ad 1), .int im, .ref (ad 3), .int at_, .int op, .int st_, .int us, .ref (ad 8), .ref (ad 9), .ref (ad 10), .ref (ad 11), .ref (ad 12), .ref (ad 13), .ref (ad 14), .int bn, .int bm, .ref (ad 17), .int la, .int fo, .int fi, .int lp, .ref (ad 22), .int tr_, .int sp, .int ip, .ref (ad 26), .ref (ad 27), .ref (ad 28), .ref (ad 29)])), (ad 26, .inl (E.2 0, 4, .inl bt)), (ad 27, .inl (E.2 0, 4, .inl sz)), (ad 28, .inl (E.2 0, 96, .inl nu))] (S := (Nat → Int32) × (Nat → Int32) × (Nat → Int32) × (Nat → Int32) × (Nat → Int32)) (fun (u : (Nat → Int32) × (Nat → Int32) × (Nat → Int32) × (Nat → Int32) × (Nat → Int32)) => [(ad 0, .inl (E.2 0, 374, .inl u.1)), (ad 3, .inl (E.2 0, 7, .inl u.2.1)), (ad 9, .inl (E.2 0, 128, .inl u.2.2.1)), (ad 10, .inl (E.2 0, 64, .inl u.2.2.2.1)), (ad 11, .inl (E.2 0, 8, .inl u.2.2.2.2))]) (fun (r : Int32) (u : (Nat → Int32) × (Nat → Int32) × (Nat → Int32) × (Nat → Int32) × (Nat → Int32)) => (r, u.1, u.2.1) = go_ sa er bt sz nu T sheet til) := by
  refine fx_iW rfl rfl ?_
  intro p e s m args below meth c A ls Q X hE hP hD hR hA hl hret
  have hx := X.1
  have hb := X.2.1
  have hS : va_S A s.heap s.heap [] := va_S.rf
  replace hP : va_P E.1 clA [(ad 0, .inl (E.2 0, 374, .inl sa)), (ad 3, .inl (E.2 0, 7, .inl er)), (ad 9, .inl (E.2 0, 128, .inl nmd)), (ad 10, .inl (E.2 0, 64, .inl pl)), (ad 11, .inl (E.2 0, 8, .inl td))] _ := hP
  replace hD : va_D A [(ad 0, .inl (E.2 0, 374, .inl sa)), (ad 3, .inl (E.2 0, 7, .inl er)), (ad 9, .inl (E.2 0, 128, .inl nmd)), (ad 10, .inl (E.2 0, 64, .inl pl)), (ad 11, .inl (E.2 0, 8, .inl td))] := hD
  replace hl : lv_has ls 4 [(0, .ref (ad 30)), (1, .int sheet), (2, .int til)] := hl
  refine lv_aload_n hx hb dX6_go_0 rfl (lv_at hl 0 rfl) ?_
  refine lv_iload_n hx hb dX6_go_1 rfl (lv_at hl 1 rfl) ?_
  refine lv_iload_n hx hb dX6_go_2 rfl (lv_at hl 2 rfl) ?_
  refine lv_iconst (v := 1) hx hb dX6_go_3 rfl ?_
  refine lv_bipush (v := 30) hx hb dX6_go_4 rfl ?_
  refine fx_ci (va_runV (As := [.int sheet, .int til, .int 1, .int 30]) (rest := []) X (mX6_lacks l E ad im at_ op st_ us bn bm la fo fi lp tr_ sp ip bt sz nu td sheet til 1 30 (by first | assumption | omega) (by decide) _) (cwV 4 X.2.2.2.2 (lw_V q1402 q1404 qs50 q75 q1405) rfl rfl rfl ⟨rfl, hdX6_lacks⟩ ⟨Nat.le_of_ble_eq_true rfl, Nat.le_of_ble_eq_true rfl⟩) (fx_preV (fx_pre hE hP hD hS hR [4] rfl rfl (fx_rcr 0 rfl (fx_rcr 1 rfl (fx_rcr 2 rfl (fx_rcr 3 rfl fx_rc0))))) (va_recv hE.1 (hR.at hS) (ci := 6) (q0 := 0) rfl rfl)) rfl rfl hl.1 rfl (lv_room (Nat.le_of_ble_eq_true rfl)) dX6_go_6 ⟨Nat.le_refl _, Nat.le_refl _⟩) hP hD hS hA [4] rfl rfl (fun r_6 u H locs hq_6 hP hD hS => ?_)
  obtain ⟨td2_6, rfl⟩ : ∃ z, z = u := ⟨_, rfl⟩
  replace hP : va_P E.1 clA [(ad 0, .inl (E.2 0, 374, .inl sa)), (ad 3, .inl (E.2 0, 7, .inl er)), (ad 9, .inl (E.2 0, 128, .inl nmd)), (ad 10, .inl (E.2 0, 64, .inl pl)), (ad 11, .inl (E.2 0, 8, .inl td2_6))] _ := hP
  replace hD : va_D A [(ad 0, .inl (E.2 0, 374, .inl sa)), (ad 3, .inl (E.2 0, 7, .inl er)), (ad 9, .inl (E.2 0, 128, .inl nmd)), (ad 10, .inl (E.2 0, 64, .inl pl)), (ad 11, .inl (E.2 0, 8, .inl td2_6))] := hD
  replace hq_6 : r_6 = nI (lackF bt sz nu sheet til (decide (1 ≠ 0)) 30) ∧ (lackF bt sz nu sheet til (decide (1 ≠ 0)) 30 = 0 → ∀ t, t < 8 → td2_6 t = shG sz nu (nn sheet) t) := hq_6
  refine fx_ti (show r_6 = nI (lackF bt sz nu sheet til true 30) from hq_6.1) ?_
  have hcl : lackF bt sz nu sheet til true 30 ≤ 4 := lackF_le
  refine lv_istore_n (lv' := [(3, .int (nI (lackF bt sz nu sheet til true 30))), (0, .ref (ad 30)), (1, .int sheet), (2, .int til)]) hx hb dX6_go_9 rfl hl (by decide) rfl (fun ls hl => ?_)
  refine lv_iload_n hx hb dX6_go_10 rfl (lv_at hl 0 rfl) ?_
  refine lv_if_ne (tgt := 27) hx hb dX6_go_11 (by decide) (fun c_11 => ?_) (fun c_11 => ?_)
  · -- jump 27
    have n_11 := fx_eq0 (a := (lackF bt sz nu sheet til true 30)) (b := 0) c_11 (by omega) (by omega)
    have hg : goC sa bt sz nu sheet til = lackF bt sz nu sheet til true 30 := by rw [goC, if_neg n_11]
    refine lv_iload_n hx hb dX6_go_27 rfl (lv_at hl 0 rfl) ?_
    refine lv_if_le (tgt := 39) hx hb dX6_go_28 (by decide) (fun c_28 => ?_) (fun c_28 => ?_)
    · -- jump 39
      have n_28 := fx_le1 (a := (lackF bt sz nu sheet til true 30)) (b := 0) c_28 (by omega) (by omega)
      exact absurd n_28 (by omega)
    · -- fall 31
      have n_28 := fx_le0 (a := (lackF bt sz nu sheet til true 30)) (b := 0) c_28 (by omega) (by omega)
      refine lv_aload_n hx hb dX6_go_31 rfl (lv_at hl 1 rfl) ?_
      refine lv_iload_n hx hb dX6_go_32 rfl (lv_at hl 0 rfl) ?_
      refine fx_ci (va_runV (As := [.int (nI (lackF bt sz nu sheet til true 30))]) (rest := []) X (mX6_error l E ad im at_ op st_ us bn bm la fo fi lp tr_ sp ip er (lackF bt sz nu sheet til true 30) (by omega) _) (cwV 1 X.2.2.2.2 (lw_V q1266 q1268 qs32 q75 q1269) rfl rfl rfl ⟨rfl, hdX6_error⟩ ⟨Nat.le_of_ble_eq_true rfl, Nat.le_of_ble_eq_true rfl⟩) (fx_preV (fx_pre hE hP hD hS hR [1] rfl rfl (fx_rcr 0 rfl fx_rc0)) (va_recv hE.1 (hR.at hS) (ci := 6) (q0 := 0) rfl rfl)) rfl rfl hl.1 rfl (lv_room (Nat.le_of_ble_eq_true rfl)) dX6_go_33 ⟨Nat.le_refl _, Nat.le_refl _⟩) hP hD hS hA [1] rfl rfl (fun r_33 u H locs hq_33 hP hD hS => ?_)
      replace hP : va_P E.1 clA [(ad 0, .inl (E.2 0, 374, .inl sa)), (ad 3, .inl (E.2 0, 7, .inl (upd er (lackF bt sz nu sheet til true 30) (er (lackF bt sz nu sheet til true 30) + 1)))), (ad 9, .inl (E.2 0, 128, .inl nmd)), (ad 10, .inl (E.2 0, 64, .inl pl)), (ad 11, .inl (E.2 0, 8, .inl td2_6))] _ := hP
      replace hD : va_D A [(ad 0, .inl (E.2 0, 374, .inl sa)), (ad 3, .inl (E.2 0, 7, .inl (upd er (lackF bt sz nu sheet til true 30) (er (lackF bt sz nu sheet til true 30) + 1)))), (ad 9, .inl (E.2 0, 128, .inl nmd)), (ad 10, .inl (E.2 0, 64, .inl pl)), (ad 11, .inl (E.2 0, 8, .inl td2_6))] := hD
      replace hq_33 : r_33 = erv (lackF bt sz nu sheet til true 30) := hq_33
      refine lv_goto (tgt := 48) hx hb dX6_go_36 (by decide) ?_
      exact hret r_33 (sa, (upd er (lackF bt sz nu sheet til true 30) (er (lackF bt sz nu sheet til true 30) + 1)), nmd, pl, td2_6) (by rw [hq_33]; simp [go_, hg, eR_p (show 0 < lackF bt sz nu sheet til true 30 by omega), eE_p (show 0 < lackF bt sz nu sheet til true 30 by omega), erI, n_11]) (rfl) hP hD hS (Nat.le_refl _) (Nat.le_refl _) dX6_go_48
  · -- fall 14
    have n_11 := fx_eq1 (a := (lackF bt sz nu sheet til true 30)) (b := 0) c_11 (by omega) (by omega)
    have h0 : lackF bt sz nu sheet til true 30 = 0 := n_11
    obtain ⟨hrow, hr9, hm30, hsh, htl⟩ := lack_row h0 (hq_6.2 h0)
    have hst := inSt_congr (sa := sa) (hq_6.2 h0)
    refine lv_aload_n hx hb dX6_go_14 rfl (lv_at hl 1 rfl) ?_
    refine lv_aload_n hx hb dX6_go_15 rfl (lv_at hl 1 rfl) ?_
    refine fx_get X hE (hR.at hS) 0 rfl rfl 11 rfl q1179 rfl rfl dX6_go_16 ?_
    refine fx_ci (va_runV (As := [.ref (ad 11)]) (rest := []) X (mX6_isInStock l E ad im at_ op st_ us bn bm la fo fi lp tr_ sp ip sa (ad 11) td2_6 _) (cwV 1 X.2.2.2.2 (lw_V q1436 q1438 qs55 q75 q1439) rfl rfl rfl ⟨rfl, hdX6_isInStock⟩ ⟨Nat.le_of_ble_eq_true rfl, Nat.le_of_ble_eq_true rfl⟩) (fx_preV (fx_pre hE hP hD hS hR [] rfl rfl (fx_rcr 0 rfl (fx_rcm 0 rfl (by decide) (fx_rcm 4 rfl (by decide) fx_rc0)))) (va_recv hE.1 (hR.at hS) (ci := 6) (q0 := 0) rfl rfl)) rfl rfl hl.1 rfl (lv_room (Nat.le_of_ble_eq_true rfl)) dX6_go_19 ⟨Nat.le_refl _, Nat.le_refl _⟩) hP hD hS hA [] rfl rfl (fun r_19 u H locs hq_19 hP hD hS => ?_)
    replace hP : va_P E.1 clA [(ad 0, .inl (E.2 0, 374, .inl sa)), (ad 3, .inl (E.2 0, 7, .inl er)), (ad 9, .inl (E.2 0, 128, .inl nmd)), (ad 10, .inl (E.2 0, 64, .inl pl)), (ad 11, .inl (E.2 0, 8, .inl td2_6))] _ := hP
    replace hD : va_D A [(ad 0, .inl (E.2 0, 374, .inl sa)), (ad 3, .inl (E.2 0, 7, .inl er)), (ad 9, .inl (E.2 0, 128, .inl nmd)), (ad 10, .inl (E.2 0, 64, .inl pl)), (ad 11, .inl (E.2 0, 8, .inl td2_6))] := hD
    replace hq_19 : r_19 = fx_b (inSt sa td2_6 = true) := hq_19
    rcases fx_bc hq_19 with ⟨hb_19, hr_19⟩ | ⟨hb_19, hr_19⟩
    · -- True
      subst hr_19
      have hg : goC sa bt sz nu sheet til = 0 := by rw [goC, if_pos h0, ← hst, if_pos hb_19]
      refine lv_if_ne (tgt := 27) hx hb dX6_go_22 (by decide) (fun _ => ?_) (fun c => absurd c (by decide))
      refine lv_iload_n hx hb dX6_go_27 rfl (lv_at hl 0 rfl) ?_
      refine lv_if_le (tgt := 39) hx hb dX6_go_28 (by decide) (fun c_28 => ?_) (fun c_28 => ?_)
      · -- jump 39
        have n_28 := fx_le1 (a := (lackF bt sz nu sheet til true 30)) (b := 0) c_28 (by omega) (by omega)
        refine lv_aload_n hx hb dX6_go_39 rfl (lv_at hl 1 rfl) ?_
        refine lv_iload_n hx hb dX6_go_40 rfl (lv_at hl 3 rfl) ?_
        refine fx_ti (show til = nI (nn til) from htl.1) ?_
        refine lv_aload_n hx hb dX6_go_41 rfl (lv_at hl 1 rfl) ?_
        refine fx_get X hE (hR.at hS) 0 rfl rfl 11 rfl q1179 rfl rfl dX6_go_42 ?_
        refine fx_ci (va_runV (As := [.int (nI (nn til)), .ref (ad 11)]) (rest := []) X (mX6_goes l E ad im at_ op st_ us bn bm la fo fi lp tr_ sp ip sa nmd pl (ad 11) td2_6 (nn til) T (rnG sz nu (nn sheet)) htl.2 (by first | assumption | omega) (by first | assumption | omega) (by first | assumption | omega) (by first | assumption | omega) _) (cwV 2 X.2.2.2.2 (lw_V q1440 q1442 qs56 q75 q1443) rfl rfl rfl ⟨rfl, hdX6_goes⟩ ⟨Nat.le_of_ble_eq_true rfl, Nat.le_of_ble_eq_true rfl⟩) (fx_preV (fx_pre hE hP hD hS hR [0, 2, 3] rfl rfl (fx_rcr 0 rfl (fx_rcm 4 rfl (by decide) fx_rc0))) (va_recv hE.1 (hR.at hS) (ci := 6) (q0 := 0) rfl rfl)) rfl rfl hl.1 rfl (lv_room (Nat.le_of_ble_eq_true rfl)) dX6_go_45 ⟨Nat.le_refl _, Nat.le_refl _⟩) hP hD hS hA [0, 2, 3] rfl rfl (fun r_45 u H locs hq_45 hP hD hS => ?_)
        obtain ⟨nm2_45, pl2_45⟩ := u
        replace hP : va_P E.1 clA [(ad 0, .inl (E.2 0, 374, .inl (goesA sa T td2_6 (rnG sz nu (nn sheet)) (nn til)))), (ad 3, .inl (E.2 0, 7, .inl er)), (ad 9, .inl (E.2 0, 128, .inl nm2_45)), (ad 10, .inl (E.2 0, 64, .inl pl2_45)), (ad 11, .inl (E.2 0, 8, .inl td2_6))] _ := hP
        replace hD : va_D A [(ad 0, .inl (E.2 0, 374, .inl (goesA sa T td2_6 (rnG sz nu (nn sheet)) (nn til)))), (ad 3, .inl (E.2 0, 7, .inl er)), (ad 9, .inl (E.2 0, 128, .inl nm2_45)), (ad 10, .inl (E.2 0, 64, .inl pl2_45)), (ad 11, .inl (E.2 0, 8, .inl td2_6))] := hD
        replace hq_45 : r_45 = paysF sa T (rnG sz nu (nn sheet)) (nn til) := hq_45
        exact hret r_45 ((goesA sa T td2_6 (rnG sz nu (nn sheet)) (nn til)), er, nm2_45, pl2_45, td2_6) (by rw [hq_45, goesA_congr (hq_6.2 h0)]; simp [go_, hg, eR_0, eE_0]) (rfl) hP hD hS (Nat.le_refl _) (Nat.le_refl _) dX6_go_48
      · -- fall 31
        have n_28 := fx_le0 (a := (lackF bt sz nu sheet til true 30)) (b := 0) c_28 (by omega) (by omega)
        exact absurd n_28 (by omega)
    · -- False
      subst hr_19
      have hg : goC sa bt sz nu sheet til = 3 := by rw [goC, if_pos h0, ← hst, if_neg hb_19]
      refine lv_if_ne (tgt := 27) hx hb dX6_go_22 (by decide) (fun c => (c (by decide)).elim) (fun _ => ?_)
      refine lv_iconst (v := 3) hx hb dX6_go_25 rfl ?_
      refine lv_istore_n (lv' := [(3, .int 3), (0, .ref (ad 30)), (1, .int sheet), (2, .int til)]) hx hb dX6_go_26 rfl hl (by decide) rfl (fun ls hl => ?_)
      refine lv_iload_n hx hb dX6_go_27 rfl (lv_at hl 0 rfl) ?_
      refine lv_if_le (tgt := 39) hx hb dX6_go_28 (by decide) (fun c => absurd c (by decide)) (fun _ => ?_)
      refine lv_aload_n hx hb dX6_go_31 rfl (lv_at hl 1 rfl) ?_
      refine lv_iload_n hx hb dX6_go_32 rfl (lv_at hl 0 rfl) ?_
      refine fx_ci (va_runV (As := [.int 3]) (rest := []) X (mX6_error l E ad im at_ op st_ us bn bm la fo fi lp tr_ sp ip er 3 (by omega) _) (cwV 1 X.2.2.2.2 (lw_V q1266 q1268 qs32 q75 q1269) rfl rfl rfl ⟨rfl, hdX6_error⟩ ⟨Nat.le_of_ble_eq_true rfl, Nat.le_of_ble_eq_true rfl⟩) (fx_preV (fx_pre hE hP hD hS hR [1] rfl rfl (fx_rcr 0 rfl fx_rc0)) (va_recv hE.1 (hR.at hS) (ci := 6) (q0 := 0) rfl rfl)) rfl rfl hl.1 rfl (lv_room (Nat.le_of_ble_eq_true rfl)) dX6_go_33 ⟨Nat.le_refl _, Nat.le_refl _⟩) hP hD hS hA [1] rfl rfl (fun r_33 u H locs hq_33 hP hD hS => ?_)
      replace hP : va_P E.1 clA [(ad 0, .inl (E.2 0, 374, .inl sa)), (ad 3, .inl (E.2 0, 7, .inl (upd er 3 (er 3 + 1)))), (ad 9, .inl (E.2 0, 128, .inl nmd)), (ad 10, .inl (E.2 0, 64, .inl pl)), (ad 11, .inl (E.2 0, 8, .inl td2_6))] _ := hP
      replace hD : va_D A [(ad 0, .inl (E.2 0, 374, .inl sa)), (ad 3, .inl (E.2 0, 7, .inl (upd er 3 (er 3 + 1)))), (ad 9, .inl (E.2 0, 128, .inl nmd)), (ad 10, .inl (E.2 0, 64, .inl pl)), (ad 11, .inl (E.2 0, 8, .inl td2_6))] := hD
      replace hq_33 : r_33 = erv 3 := hq_33
      refine lv_goto (tgt := 48) hx hb dX6_go_36 (by decide) ?_
      exact hret r_33 (sa, (upd er 3 (er 3 + 1)), nmd, pl, td2_6) (by rw [hq_33]; simp [go_, hg, eR, eE, erI]) (rfl) hP hD hS (Nat.le_refl _) (Nat.le_refl _) dX6_go_48
abbrev rmX6_draw : Room := { frames := 0, cells := 0, slots := 0, locals := 0 }
set_option maxHeartbeats 400000 in
set_option maxRecDepth 100000 in
theorem mX6_draw (l : Launch) (E : fx_En) (ad : Nat → Nat) (im : Int32) (at_ : Int32) (op : Int32) (st_ : Int32) (us : Int32) (bn : Int32) (bm : Int32) (la : Int32) (fo : Int32) (fi : Int32) (lp : Int32) (tr_ : Int32) (sp : Int32) (ip : Int32) (sa : Nat → Int32) : fx_Mi l yX6_draw cX6_draw 1 .int rmX6_draw E [.ref (ad 30)] [(ad 0, .inl (E.2 0, 374, .inl sa))] [(ad 30, .inr (6, [.ref (ad 0), .ref (ad 1), .int im, .ref (ad 3), .int at_, .int op, .int st_, .int us, .ref (ad 8), .ref (ad 9), .ref (ad 10), .ref (ad 11), .ref (ad 12), .ref (ad 13), .ref (ad 14), .int bn, .int bm, .ref (ad 17), .int la, .int fo, .int fi, .int lp, .ref (ad 22), .int tr_, .int sp, .int ip, .ref (ad 26), .ref (ad 27), .ref (ad 28), .ref (ad 29)]))] (S := Unit) (fun (u : Unit) => [(ad 0, .inl (E.2 0, 374, .inl (upd sa 5 (zN (sa 5)))))]) (fun (r : Int32) (u : Unit) => r = zD (zN (sa 5))) := by
  refine fx_iW rfl rfl ?_
  intro p e s m args below meth c A ls Q X hE hP hD hR hA hl hret
  have hx := X.1
  have hb := X.2.1
  have hS : va_S A s.heap s.heap [] := va_S.rf
  replace hP : va_P E.1 clA [(ad 0, .inl (E.2 0, 374, .inl sa))] _ := hP
  replace hD : va_D A [(ad 0, .inl (E.2 0, 374, .inl sa))] := hD
  replace hl : lv_has ls 1 [(0, .ref (ad 30))] := hl
  refine lv_aload_n hx hb dX6_draw_0 rfl (lv_at hl 0 rfl) ?_
  refine fx_get X hE (hR.at hS) 0 rfl rfl 0 rfl q1168 rfl rfl dX6_draw_1 ?_
  refine lv_iconst (v := 5) hx hb dX6_draw_4 rfl ?_
  refine lv_aload_n hx hb dX6_draw_5 rfl (lv_at hl 0 rfl) ?_
  refine fx_get X hE (hR.at hS) 0 rfl rfl 0 rfl q1168 rfl rfl dX6_draw_6 ?_
  refine lv_iconst (v := 5) hx hb dX6_draw_9 rfl ?_
  refine fx_iald X hE hP 0 rfl 5 rfl (by decide) rfl dX6_draw_10 ?_
  refine lv_ldc (v := 1103515245) hx hb X.2.2.2.1 (X.2.2.2.2 _ q1453) dX6_draw_11 ?_
  refine lv_imul hx hb dX6_draw_13 ?_
  refine lv_sipush (v := 12345) hx hb dX6_draw_14 rfl ?_
  refine lv_iadd hx hb dX6_draw_17 ?_
  refine fx_ti (show (((sa 5) * 1103515245) + 12345) = (zN (sa 5)) from rfl) ?_
  refine fx_iast (ws' := [(ad 0, .inl (E.2 0, 374, .inl (upd sa 5 (zN (sa 5)))))]) X hE hP hD hS 0 rfl 5 rfl (by decide) rfl rfl dX6_draw_18 (fun H locs hP hD hS => ?_)
  refine lv_aload_n hx hb dX6_draw_19 rfl (lv_at hl 0 rfl) ?_
  refine fx_get X hE (hR.at hS) 0 rfl rfl 0 rfl q1168 rfl rfl dX6_draw_20 ?_
  refine lv_iconst (v := 5) hx hb dX6_draw_23 rfl ?_
  refine fx_iald X hE hP 0 rfl 5 rfl (by decide) rfl dX6_draw_24 ?_
  refine fx_ti (show ((upd sa 5 (zN (sa 5))) 5) = (zN (sa 5)) from upd_s _ _ _) ?_
  refine lv_bipush (v := 8) hx hb dX6_draw_25 rfl ?_
  refine lv_iushr (v := ((zN (sa 5)).toUInt32 >>> ((8 : Int32).toUInt32 &&& Int32.toUInt32 31)).toInt32) hx hb dX6_draw_27 rfl ?_
  exact hret (((zN (sa 5)).toUInt32 >>> ((8 : Int32).toUInt32 &&& Int32.toUInt32 31)).toInt32) () (rfl) (rfl) hP hD hS (Nat.le_refl _) (Nat.le_refl _) dX6_draw_28
