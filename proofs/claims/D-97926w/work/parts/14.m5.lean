set_option maxRecDepth 100000
theorem hdX6_draws : yX6_draws.cls ≠ "java/lang/invoke/MethodHandle" ∧ yX6_draws.cls ≠ "java/lang/invoke/VarHandle" ∧ (parseMethodDescriptor yX6_draws.desc).map (fun d => d.parameters.length) = some 1 := by decide +kernel
theorem hdX6_body : yX6_body.cls ≠ "java/lang/invoke/MethodHandle" ∧ yX6_body.cls ≠ "java/lang/invoke/VarHandle" ∧ (parseMethodDescriptor yX6_body.desc).map (fun d => d.parameters.length) = some 1 := by decide +kernel
theorem hdX6_sheet : yX6_sheet.cls ≠ "java/lang/invoke/MethodHandle" ∧ yX6_sheet.cls ≠ "java/lang/invoke/VarHandle" ∧ (parseMethodDescriptor yX6_sheet.desc).map (fun d => d.parameters.length) = some 3 := by decide +kernel
theorem hdX6_put : yX6_put.cls ≠ "java/lang/invoke/MethodHandle" ∧ yX6_put.cls ≠ "java/lang/invoke/VarHandle" ∧ (parseMethodDescriptor yX6_put.desc).map (fun d => d.parameters.length) = some 3 := by decide +kernel
theorem hdX6_prices : yX6_prices.cls ≠ "java/lang/invoke/MethodHandle" ∧ yX6_prices.cls ≠ "java/lang/invoke/VarHandle" ∧ (parseMethodDescriptor yX6_prices.desc).map (fun d => d.parameters.length) = some 1 := by decide +kernel
theorem hdX6_image : yX6_image.cls ≠ "java/lang/invoke/MethodHandle" ∧ yX6_image.cls ≠ "java/lang/invoke/VarHandle" ∧ (parseMethodDescriptor yX6_image.desc).map (fun d => d.parameters.length) = some 0 := by decide +kernel
theorem hdX6_restore : yX6_restore.cls ≠ "java/lang/invoke/MethodHandle" ∧ yX6_restore.cls ≠ "java/lang/invoke/VarHandle" ∧ (parseMethodDescriptor yX6_restore.desc).map (fun d => d.parameters.length) = some 0 := by decide +kernel
theorem hdX6_tell : yX6_tell.cls ≠ "java/lang/invoke/MethodHandle" ∧ yX6_tell.cls ≠ "java/lang/invoke/VarHandle" ∧ (parseMethodDescriptor yX6_tell.desc).map (fun d => d.parameters.length) = some 1 := by decide +kernel
theorem hdX6_check : yX6_check.cls ≠ "java/lang/invoke/MethodHandle" ∧ yX6_check.cls ≠ "java/lang/invoke/VarHandle" ∧ (parseMethodDescriptor yX6_check.desc).map (fun d => d.parameters.length) = some 1 := by decide +kernel
theorem hdX6_count : yX6_count.cls ≠ "java/lang/invoke/MethodHandle" ∧ yX6_count.cls ≠ "java/lang/invoke/VarHandle" ∧ (parseMethodDescriptor yX6_count.desc).map (fun d => d.parameters.length) = some 1 := by decide +kernel
theorem hdX6_told : yX6_told.cls ≠ "java/lang/invoke/MethodHandle" ∧ yX6_told.cls ≠ "java/lang/invoke/VarHandle" ∧ (parseMethodDescriptor yX6_told.desc).map (fun d => d.parameters.length) = some 1 := by decide +kernel
abbrev rmX6_draws : Room := { frames := 5, cells := 0, slots := 0, locals := 119 }
set_option maxHeartbeats 400000 in
set_option maxRecDepth 100000 in
theorem mX6_draws (l : Launch) (E : fx_En) (ad : Nat → Nat) (im : Int32) (at_ : Int32) (op : Int32) (st_ : Int32) (us : Int32) (bn : Int32) (bm : Int32) (la : Int32) (fo : Int32) (fi : Int32) (lp : Int32) (tr_ : Int32) (sp : Int32) (ip : Int32) (sa : Nat → Int32) (er : Nat → Int32) (nmd : Nat → Int32) (pl : Nat → Int32) (td : Nat → Int32) (n_ : Int32) (T : Tx) (hI : Inv sa) (hT : TM sa 0 T) (hTo : TOk T) : fx_Mi l yX6_draws cX6_draws 7 .int rmX6_draws E [.ref (ad 30), .int n_] [(ad 0, .inl (E.2 0, 374, .inl sa)), (ad 3, .inl (E.2 0, 7, .inl er)), (ad 9, .inl (E.2 0, 128, .inl nmd)), (ad 10, .inl (E.2 0, 64, .inl pl)), (ad 11, .inl (E.2 0, 8, .inl td))] [(ad 30, .inr (6, [.ref (ad 0), .ref (ad 1), .int im, .ref (ad 3), .int at_, .int op, .int st_, .int us, .ref (ad 8), .ref (ad 9), .ref (ad 10), .ref (ad 11), .ref (ad 12), .ref (ad 13), .ref (ad 14), .int bn, .int bm, .ref (ad 17), .int la, .int fo, .int fi, .int lp, .ref (ad 22), .int tr_, .int sp, .int ip, .ref (ad 26), .ref (ad 27), .ref (ad 28), .ref (ad 29)]))] (S := (Nat → Int32) × (Nat → Int32) × (Nat → Int32) × (Nat → Int32) × (Nat → Int32)) (fun (u : (Nat → Int32) × (Nat → Int32) × (Nat → Int32) × (Nat → Int32) × (Nat → Int32)) => [(ad 0, .inl (E.2 0, 374, .inl u.1)), (ad 3, .inl (E.2 0, 7, .inl u.2.1)), (ad 9, .inl (E.2 0, 128, .inl u.2.2.1)), (ad 10, .inl (E.2 0, 64, .inl u.2.2.2.1)), (ad 11, .inl (E.2 0, 8, .inl u.2.2.2.2))]) (fun (r : Int32) (u : (Nat → Int32) × (Nat → Int32) × (Nat → Int32) × (Nat → Int32) × (Nat → Int32)) => (r, u.1, u.2.1) = draws_ sa er T n_) := by
  refine fx_iW rfl rfl ?_
  intro p e s m args below meth c A ls Q X hE hP hD hR hA hl hret
  have hx := X.1
  have hb := X.2.1
  have hS : va_S A s.heap s.heap [] := va_S.rf
  replace hP : va_P E.1 clA [(ad 0, .inl (E.2 0, 374, .inl sa)), (ad 3, .inl (E.2 0, 7, .inl er)), (ad 9, .inl (E.2 0, 128, .inl nmd)), (ad 10, .inl (E.2 0, 64, .inl pl)), (ad 11, .inl (E.2 0, 8, .inl td))] _ := hP
  replace hD : va_D A [(ad 0, .inl (E.2 0, 374, .inl sa)), (ad 3, .inl (E.2 0, 7, .inl er)), (ad 9, .inl (E.2 0, 128, .inl nmd)), (ad 10, .inl (E.2 0, 64, .inl pl)), (ad 11, .inl (E.2 0, 8, .inl td))] := hD
  replace hl : lv_has ls 7 [(0, .ref (ad 30)), (1, .int n_)] := hl
  refine lv_iload_n hx hb dX6_draws_0 rfl (lv_at hl 1 rfl) ?_
  refine lv_iconst (v := 1) hx hb dX6_draws_1 rfl ?_
  refine lv_bipush (v := 60) hx hb dX6_draws_2 rfl ?_
  refine fx_ci (va_runS (As := [.int n_, .int 1, .int 60]) (rest := []) X (mX6_in l E n_ 1 60 _) (va_cwS 3 X.2.2.2.2 (lw_S q1263 q1264 q75 q1265) rfl rfl rfl hdX6_in ⟨Nat.le_of_ble_eq_true rfl, Nat.le_of_ble_eq_true rfl⟩) (fx_pre hE hP hD hS hR [] rfl rfl fx_rc0) rfl rfl hl.1 rfl (lv_room (Nat.le_of_ble_eq_true rfl)) dX6_draws_4 ⟨Nat.le_refl _, Nat.le_refl _⟩) hP hD hS hA [] rfl rfl (fun r_4 u H locs hq_4 hP hD hS => ?_)
  replace hP : va_P E.1 clA [(ad 0, .inl (E.2 0, 374, .inl sa)), (ad 3, .inl (E.2 0, 7, .inl er)), (ad 9, .inl (E.2 0, 128, .inl nmd)), (ad 10, .inl (E.2 0, 64, .inl pl)), (ad 11, .inl (E.2 0, 8, .inl td))] _ := hP
  replace hD : va_D A [(ad 0, .inl (E.2 0, 374, .inl sa)), (ad 3, .inl (E.2 0, 7, .inl er)), (ad 9, .inl (E.2 0, 128, .inl nmd)), (ad 10, .inl (E.2 0, 64, .inl pl)), (ad 11, .inl (E.2 0, 8, .inl td))] := hD
  replace hq_4 : r_4 = fx_b (inB n_ 1 60 = true) := hq_4
  rcases fx_bc hq_4 with ⟨hb_4, hr_4⟩ | ⟨hb_4, hr_4⟩
  · -- True
    subst hr_4
    refine lv_if_ne (tgt := 16) hx hb dX6_draws_7 (by decide) (fun _ => ?_) (fun c => absurd c (by decide))
    have gn := inB_nn1 (n := 60) hb_4 (by decide) (by omega)
    refine lv_iconst (v := 0) hx hb dX6_draws_16 rfl ?_
    refine lv_istore_n (lv' := [(2, .int 0), (0, .ref (ad 30)), (1, .int n_)]) hx hb dX6_draws_17 rfl hl (by decide) rfl (fun ls hl => ?_)
    refine lv_iconst (v := 0) hx hb dX6_draws_18 rfl ?_
    refine lv_istore_n (lv' := [(3, .int 0), (2, .int 0), (0, .ref (ad 30)), (1, .int n_)]) hx hb dX6_draws_19 rfl hl (by decide) rfl (fun ls hl => ?_)
    have loop_20 : ∀ (n_20 : Nat) (i : Nat) (gz : Nat) (s2 : Nat → Int32) (nz : Nat → Int32) (pz : Nat → Int32) (tz : Nat → Int32), (nn n_ - i < n_20) → (i ≤ nn n_) → (s2 = (drawN T i sa).1) → (gz = (drawN T i sa).2) → ∀ (H : Heap) (locs : List Loc), va_P E.1 clA [(ad 0, .inl (E.2 0, 374, .inl s2)), (ad 3, .inl (E.2 0, 7, .inl er)), (ad 9, .inl (E.2 0, 128, .inl nz)), (ad 10, .inl (E.2 0, 64, .inl pz)), (ad 11, .inl (E.2 0, 8, .inl tz))] H → va_D A [(ad 0, .inl (E.2 0, 374, .inl s2)), (ad 3, .inl (E.2 0, 7, .inl er)), (ad 9, .inl (E.2 0, 128, .inl nz)), (ad 10, .inl (E.2 0, 64, .inl pz)), (ad 11, .inl (E.2 0, 8, .inl tz))] → va_S A s.heap H locs → ∀ (ls : Array Slot), lv_has ls 7 [(3, .int (nI i)), (2, .int (nI gz)), (0, .ref (ad 30)), (1, .int n_)] → W p l e rmX6_draws s m args below meth c H locs 0 0 Q (F0 m 20 ls []) := by
      intro n_20
      induction n_20 with
      | zero => intro i gz s2 nz pz tz hm_20; exact absurd hm_20 (Nat.not_lt_zero _)
      | succ n_20 ih_20 =>
        intro i gz s2 nz pz tz hm_20 hi hs2 hgz H locs hP hD hS ls hl
        refine lv_iload_n hx hb dX6_draws_20 rfl (lv_at hl 0 rfl) ?_
        refine lv_iload_n hx hb dX6_draws_21 rfl (lv_at hl 3 rfl) ?_
        refine fx_ti (show n_ = nI (nn n_) from gn.1) ?_
        refine lv_icmp_ge (tgt := 113) hx hb dX6_draws_22 (by decide) (fun c_22 => ?_) (fun c_22 => ?_)
        · -- jump 113
          have n_22 := fx_le1 (a := (nn n_)) (b := i) c_22 (by omega) (by omega)
          obtain rfl : i = nn n_ := by omega
          refine lv_iload_n hx hb dX6_draws_113 rfl (lv_at hl 1 rfl) ?_
          exact hret (nI gz) (s2, er, nz, pz, tz) (by rw [draws_, if_pos hb_4, hgz, hs2]) (rfl) hP hD hS (Nat.le_refl _) (Nat.le_refl _) dX6_draws_114
        · -- fall 25
          have n_22 := fx_le0 (a := (nn n_)) (b := i) c_22 (by omega) (by omega)
          have hI2 : Inv s2 := by rw [hs2]; exact Inv_draw hI i
          have hT2 : TM s2 0 T := by rw [hs2]; exact TM_draw (by omega) hTo hT i
          have hgl := drawN_le (T := T) (sa := sa) i
          refine lv_iconst (v := 0) hx hb dX6_draws_25 rfl ?_
          refine lv_istore (lv' := [(4, .int 0), (3, .int (nI i)), (2, .int (nI gz)), (0, .ref (ad 30)), (1, .int n_)]) hx hb dX6_draws_26 hl (by decide) rfl (fun ls hl => ?_)
          have loop_28 : ∀ (n_28 : Nat) (t : Nat) (t1 : Nat → Int32), (8 - t < n_28) → (t ≤ 8) → (∀ q, q < t → t1 q = 0) → ∀ (H : Heap) (locs : List Loc), va_P E.1 clA [(ad 0, .inl (E.2 0, 374, .inl s2)), (ad 3, .inl (E.2 0, 7, .inl er)), (ad 9, .inl (E.2 0, 128, .inl nz)), (ad 10, .inl (E.2 0, 64, .inl pz)), (ad 11, .inl (E.2 0, 8, .inl t1))] H → va_D A [(ad 0, .inl (E.2 0, 374, .inl s2)), (ad 3, .inl (E.2 0, 7, .inl er)), (ad 9, .inl (E.2 0, 128, .inl nz)), (ad 10, .inl (E.2 0, 64, .inl pz)), (ad 11, .inl (E.2 0, 8, .inl t1))] → va_S A s.heap H locs → ∀ (ls : Array Slot), lv_has ls 7 [(4, .int (nI t)), (3, .int (nI i)), (2, .int (nI gz)), (0, .ref (ad 30)), (1, .int n_)] → W p l e rmX6_draws s m args below meth c H locs 0 0 Q (F0 m 28 ls []) := by
            intro n_28
            induction n_28 with
            | zero => intro t t1 hm_28; exact absurd hm_28 (Nat.not_lt_zero _)
            | succ n_28 ih_28 =>
              intro t t1 hm_28 ht hz H locs hP hD hS ls hl
              refine lv_iload hx hb dX6_draws_28 (lv_at hl 0 rfl) ?_
              refine lv_bipush (v := 8) hx hb dX6_draws_30 rfl ?_
              refine lv_icmp_ge (tgt := 49) hx hb dX6_draws_32 (by decide) (fun c_32 => ?_) (fun c_32 => ?_)
              · -- jump 49
                have n_32 := fx_le1 (a := 8) (b := t) c_32 (by omega) (by omega)
                obtain rfl : t = 8 := by omega
                refine lv_aload_n hx hb dX6_draws_49 rfl (lv_at hl 3 rfl) ?_
                refine fx_ci (va_runV (As := []) (rest := []) X (mX6_draw l E ad im at_ op st_ us bn bm la fo fi lp tr_ sp ip s2 _) (cwV 0 X.2.2.2.2 (lw_V q1449 q1451 qs57 q75 q1452) rfl rfl rfl ⟨rfl, hdX6_draw⟩ ⟨Nat.le_of_ble_eq_true rfl, Nat.le_of_ble_eq_true rfl⟩) (fx_preV (fx_pre hE hP hD hS hR [0] rfl rfl (fx_rcr 0 rfl fx_rc0)) (va_recv hE.1 (hR.at hS) (ci := 6) (q0 := 0) rfl rfl)) rfl rfl hl.1 rfl (lv_room (Nat.le_of_ble_eq_true rfl)) dX6_draws_50 ⟨Nat.le_refl _, Nat.le_refl _⟩) hP hD hS hA [0] rfl rfl (fun r_50 u H locs hq_50 hP hD hS => ?_)
                replace hP : va_P E.1 clA [(ad 0, .inl (E.2 0, 374, .inl (upd s2 5 (zN (s2 5))))), (ad 3, .inl (E.2 0, 7, .inl er)), (ad 9, .inl (E.2 0, 128, .inl nz)), (ad 10, .inl (E.2 0, 64, .inl pz)), (ad 11, .inl (E.2 0, 8, .inl t1))] _ := hP
                replace hD : va_D A [(ad 0, .inl (E.2 0, 374, .inl (upd s2 5 (zN (s2 5))))), (ad 3, .inl (E.2 0, 7, .inl er)), (ad 9, .inl (E.2 0, 128, .inl nz)), (ad 10, .inl (E.2 0, 64, .inl pz)), (ad 11, .inl (E.2 0, 8, .inl t1))] := hD
                replace hq_50 : r_50 = zD (zN (s2 5)) := hq_50
                refine fx_ti (show r_50 = nI (zT (zN (s2 5))) from hq_50.trans (zT_I _).1) ?_
                have z1 := (zT_I (zN (s2 5))).2
                refine lv_bipush (v := 8) hx hb dX6_draws_53 rfl ?_
                refine lv_irem hx hb dX6_draws_55 (by decide) ?_
                refine fx_ti (pk_rem (a := zT (zN (s2 5))) (d := 8) (by omega) (by omega) (by omega)) ?_
                refine lv_istore (lv' := [(4, .int (nI ((zT (zN (s2 5))) % 8))), (3, .int (nI i)), (2, .int (nI gz)), (0, .ref (ad 30)), (1, .int n_)]) hx hb dX6_draws_56 hl (by decide) rfl (fun ls hl => ?_)
                refine lv_aload_n hx hb dX6_draws_58 rfl (lv_at hl 3 rfl) ?_
                refine fx_get X hE (hR.at hS) 0 rfl rfl 11 rfl q1179 rfl rfl dX6_draws_59 ?_
                refine lv_iload hx hb dX6_draws_62 (lv_at hl 0 rfl) ?_
                refine lv_aload_n hx hb dX6_draws_64 rfl (lv_at hl 3 rfl) ?_
                refine fx_ci (va_runV (As := []) (rest := [.int (nI ((zT (zN (s2 5))) % 8)), .ref (ad 11)]) X (mX6_draw l E ad im at_ op st_ us bn bm la fo fi lp tr_ sp ip (upd s2 5 (zN (s2 5))) _) (cwV 0 X.2.2.2.2 (lw_V q1449 q1451 qs57 q75 q1452) rfl rfl rfl ⟨rfl, hdX6_draw⟩ ⟨Nat.le_of_ble_eq_true rfl, Nat.le_of_ble_eq_true rfl⟩) (fx_preV (fx_pre hE hP hD hS hR [0] rfl rfl (fx_rcr 0 rfl fx_rc0)) (va_recv hE.1 (hR.at hS) (ci := 6) (q0 := 0) rfl rfl)) rfl rfl hl.1 rfl (lv_room (Nat.le_of_ble_eq_true rfl)) dX6_draws_65 ⟨Nat.le_refl _, Nat.le_refl _⟩) hP hD hS hA [0] rfl rfl (fun r_65 u H locs hq_65 hP hD hS => ?_)
                replace hP : va_P E.1 clA [(ad 0, .inl (E.2 0, 374, .inl (upd (upd s2 5 (zN (s2 5))) 5 (zN ((upd s2 5 (zN (s2 5))) 5))))), (ad 3, .inl (E.2 0, 7, .inl er)), (ad 9, .inl (E.2 0, 128, .inl nz)), (ad 10, .inl (E.2 0, 64, .inl pz)), (ad 11, .inl (E.2 0, 8, .inl t1))] _ := hP
                replace hD : va_D A [(ad 0, .inl (E.2 0, 374, .inl (upd (upd s2 5 (zN (s2 5))) 5 (zN ((upd s2 5 (zN (s2 5))) 5))))), (ad 3, .inl (E.2 0, 7, .inl er)), (ad 9, .inl (E.2 0, 128, .inl nz)), (ad 10, .inl (E.2 0, 64, .inl pz)), (ad 11, .inl (E.2 0, 8, .inl t1))] := hD
                replace hq_65 : r_65 = zD (zN ((upd s2 5 (zN (s2 5))) 5)) := hq_65
                refine fx_ti (show r_65 = (zD (zN (zN (s2 5)))) from hq_65.trans (by rw [upd_s])) ?_
                refine fx_ti (show (zD (zN (zN (s2 5)))) = nI (zT (zN (zN (s2 5)))) from (zT_I _).1) ?_
                have z2 := (zT_I (zN (zN (s2 5)))).2
                have eW1 : (upd (upd s2 5 (zN (s2 5))) 5 (zN ((upd s2 5 (zN (s2 5))) 5))) = (upd s2 5 (zN (zN (s2 5)))) := upd_zz _ _
                rw [eW1] at hP hD
                refine lv_iconst (v := 4) hx hb dX6_draws_68 rfl ?_
                refine lv_irem hx hb dX6_draws_69 (by decide) ?_
                refine fx_ti (pk_rem (a := zT (zN (zN (s2 5)))) (d := 4) (by omega) (by omega) (by omega)) ?_
                refine lv_iconst (v := 1) hx hb dX6_draws_70 rfl ?_
                refine lv_iadd hx hb dX6_draws_71 ?_
                refine fx_ti (nI_add ((zT (zN (zN (s2 5)))) % 4) 1) ?_
                refine fx_iast (ws' := [(ad 0, .inl (E.2 0, 374, .inl (upd s2 5 (zN (zN (s2 5)))))), (ad 3, .inl (E.2 0, 7, .inl er)), (ad 9, .inl (E.2 0, 128, .inl nz)), (ad 10, .inl (E.2 0, 64, .inl pz)), (ad 11, .inl (E.2 0, 8, .inl (upd t1 ((zT (zN (s2 5))) % 8) (nI ((zT (zN (zN (s2 5)))) % 4 + 1)))))]) X hE hP hD hS 4 rfl ((zT (zN (s2 5))) % 8) rfl (by omega) rfl rfl dX6_draws_72 (fun H locs hP hD hS => ?_)
                refine lv_aload_n hx hb dX6_draws_73 rfl (lv_at hl 3 rfl) ?_
                refine fx_ci (va_runV (As := []) (rest := []) X (mX6_draw l E ad im at_ op st_ us bn bm la fo fi lp tr_ sp ip (upd s2 5 (zN (zN (s2 5)))) _) (cwV 0 X.2.2.2.2 (lw_V q1449 q1451 qs57 q75 q1452) rfl rfl rfl ⟨rfl, hdX6_draw⟩ ⟨Nat.le_of_ble_eq_true rfl, Nat.le_of_ble_eq_true rfl⟩) (fx_preV (fx_pre hE hP hD hS hR [0] rfl rfl (fx_rcr 0 rfl fx_rc0)) (va_recv hE.1 (hR.at hS) (ci := 6) (q0 := 0) rfl rfl)) rfl rfl hl.1 rfl (lv_room (Nat.le_of_ble_eq_true rfl)) dX6_draws_74 ⟨Nat.le_refl _, Nat.le_refl _⟩) hP hD hS hA [0] rfl rfl (fun r_74 u H locs hq_74 hP hD hS => ?_)
                replace hP : va_P E.1 clA [(ad 0, .inl (E.2 0, 374, .inl (upd (upd s2 5 (zN (zN (s2 5)))) 5 (zN ((upd s2 5 (zN (zN (s2 5)))) 5))))), (ad 3, .inl (E.2 0, 7, .inl er)), (ad 9, .inl (E.2 0, 128, .inl nz)), (ad 10, .inl (E.2 0, 64, .inl pz)), (ad 11, .inl (E.2 0, 8, .inl (upd t1 ((zT (zN (s2 5))) % 8) (nI ((zT (zN (zN (s2 5)))) % 4 + 1)))))] _ := hP
                replace hD : va_D A [(ad 0, .inl (E.2 0, 374, .inl (upd (upd s2 5 (zN (zN (s2 5)))) 5 (zN ((upd s2 5 (zN (zN (s2 5)))) 5))))), (ad 3, .inl (E.2 0, 7, .inl er)), (ad 9, .inl (E.2 0, 128, .inl nz)), (ad 10, .inl (E.2 0, 64, .inl pz)), (ad 11, .inl (E.2 0, 8, .inl (upd t1 ((zT (zN (s2 5))) % 8) (nI ((zT (zN (zN (s2 5)))) % 4 + 1)))))] := hD
                replace hq_74 : r_74 = zD (zN ((upd s2 5 (zN (zN (s2 5)))) 5)) := hq_74
                refine fx_ti (show r_74 = (zD (zN (zN (zN (s2 5))))) from hq_74.trans (by rw [upd_s])) ?_
                refine fx_ti (show (zD (zN (zN (zN (s2 5))))) = nI (zT (zN (zN (zN (s2 5))))) from (zT_I _).1) ?_
                have z3 := (zT_I (zN (zN (zN (s2 5))))).2
                have eW2 : (upd (upd s2 5 (zN (zN (s2 5)))) 5 (zN ((upd s2 5 (zN (zN (s2 5)))) 5))) = (upd s2 5 (zN (zN (zN (s2 5))))) := upd_zz _ _
                rw [eW2] at hP hD
                have hrow : ∀ t, t < 8 → (upd t1 ((zT (zN (s2 5))) % 8) (nI ((zT (zN (zN (s2 5)))) % 4 + 1))) t = nI (byR (s2 5) t) := byR_row hz
                refine lv_iconst (v := 4) hx hb dX6_draws_77 rfl ?_
                refine lv_irem hx hb dX6_draws_78 (by decide) ?_
                refine fx_ti (pk_rem (a := zT (zN (zN (zN (s2 5))))) (d := 4) (by omega) (by omega) (by omega)) ?_
                refine lv_istore (lv' := [(5, .int (nI ((zT (zN (zN (zN (s2 5))))) % 4))), (4, .int (nI ((zT (zN (s2 5))) % 8))), (3, .int (nI i)), (2, .int (nI gz)), (0, .ref (ad 30)), (1, .int n_)]) hx hb dX6_draws_79 hl (by decide) rfl (fun ls hl => ?_)
                refine lv_aload_n hx hb dX6_draws_81 rfl (lv_at hl 4 rfl) ?_
                refine lv_aload_n hx hb dX6_draws_82 rfl (lv_at hl 4 rfl) ?_
                refine fx_get X hE (hR.at hS) 0 rfl rfl 11 rfl q1179 rfl rfl dX6_draws_83 ?_
                refine fx_ci (va_runV (As := [.ref (ad 11)]) (rest := []) X (mX6_isInStock l E ad im at_ op st_ us bn bm la fo fi lp tr_ sp ip (upd s2 5 (zN (zN (zN (s2 5))))) (ad 11) (upd t1 ((zT (zN (s2 5))) % 8) (nI ((zT (zN (zN (s2 5)))) % 4 + 1))) _) (cwV 1 X.2.2.2.2 (lw_V q1436 q1438 qs55 q75 q1439) rfl rfl rfl ⟨rfl, hdX6_isInStock⟩ ⟨Nat.le_of_ble_eq_true rfl, Nat.le_of_ble_eq_true rfl⟩) (fx_preV (fx_pre hE hP hD hS hR [] rfl rfl (fx_rcr 0 rfl (fx_rcm 0 rfl (by decide) (fx_rcm 4 rfl (by decide) fx_rc0)))) (va_recv hE.1 (hR.at hS) (ci := 6) (q0 := 0) rfl rfl)) rfl rfl hl.1 rfl (lv_room (Nat.le_of_ble_eq_true rfl)) dX6_draws_86 ⟨Nat.le_refl _, Nat.le_refl _⟩) hP hD hS hA [] rfl rfl (fun r_86 u H locs hq_86 hP hD hS => ?_)
                replace hP : va_P E.1 clA [(ad 0, .inl (E.2 0, 374, .inl (upd s2 5 (zN (zN (zN (s2 5))))))), (ad 3, .inl (E.2 0, 7, .inl er)), (ad 9, .inl (E.2 0, 128, .inl nz)), (ad 10, .inl (E.2 0, 64, .inl pz)), (ad 11, .inl (E.2 0, 8, .inl (upd t1 ((zT (zN (s2 5))) % 8) (nI ((zT (zN (zN (s2 5)))) % 4 + 1)))))] _ := hP
                replace hD : va_D A [(ad 0, .inl (E.2 0, 374, .inl (upd s2 5 (zN (zN (zN (s2 5))))))), (ad 3, .inl (E.2 0, 7, .inl er)), (ad 9, .inl (E.2 0, 128, .inl nz)), (ad 10, .inl (E.2 0, 64, .inl pz)), (ad 11, .inl (E.2 0, 8, .inl (upd t1 ((zT (zN (s2 5))) % 8) (nI ((zT (zN (zN (s2 5)))) % 4 + 1)))))] := hD
                replace hq_86 : r_86 = fx_b (inSt (upd s2 5 (zN (zN (zN (s2 5))))) (upd t1 ((zT (zN (s2 5))) % 8) (nI ((zT (zN (zN (s2 5)))) % 4 + 1))) = true) := hq_86
                rcases fx_bc hq_86 with ⟨hb_86, hr_86⟩ | ⟨hb_86, hr_86⟩
                · -- True
                  subst hr_86
                  have hbs : buyS s2 = true := (inSt_congr hrow).symm.trans hb_86
                  refine lv_if_eq (tgt := 107) hx hb dX6_draws_89 (by decide) (fun c => absurd c (by decide)) (fun _ => ?_)
                  refine lv_aload_n hx hb dX6_draws_92 rfl (lv_at hl 4 rfl) ?_
                  refine lv_iload hx hb dX6_draws_93 (lv_at hl 0 rfl) ?_
                  refine lv_aload_n hx hb dX6_draws_95 rfl (lv_at hl 4 rfl) ?_
                  refine fx_get X hE (hR.at hS) 0 rfl rfl 11 rfl q1179 rfl rfl dX6_draws_96 ?_
                  refine fx_ci (va_runV (As := [.int (nI ((zT (zN (zN (zN (s2 5))))) % 4)), .ref (ad 11)]) (rest := []) X (mX6_goes l E ad im at_ op st_ us bn bm la fo fi lp tr_ sp ip (upd s2 5 (zN (zN (zN (s2 5))))) nz pz (ad 11) (upd t1 ((zT (zN (s2 5))) % 8) (nI ((zT (zN (zN (s2 5)))) % 4 + 1))) ((zT (zN (zN (zN (s2 5))))) % 4) T (byR (s2 5)) (by omega) (Inv_z hI2) (TM_upd (by omega) (by omega) hTo hT2) (by first | assumption | omega) (fun t ht => ⟨hrow t ht, byR_le _ t ht⟩) _) (cwV 2 X.2.2.2.2 (lw_V q1440 q1442 qs56 q75 q1443) rfl rfl rfl ⟨rfl, hdX6_goes⟩ ⟨Nat.le_of_ble_eq_true rfl, Nat.le_of_ble_eq_true rfl⟩) (fx_preV (fx_pre hE hP hD hS hR [0, 2, 3] rfl rfl (fx_rcr 0 rfl (fx_rcm 4 rfl (by decide) fx_rc0))) (va_recv hE.1 (hR.at hS) (ci := 6) (q0 := 0) rfl rfl)) rfl rfl hl.1 rfl (lv_room (Nat.le_of_ble_eq_true rfl)) dX6_draws_99 ⟨Nat.le_refl _, Nat.le_refl _⟩) hP hD hS hA [0, 2, 3] rfl rfl (fun r_99 u H locs hq_99 hP hD hS => ?_)
                  obtain ⟨nm2_99, pl2_99⟩ := u
                  replace hP : va_P E.1 clA [(ad 0, .inl (E.2 0, 374, .inl (goesA (upd s2 5 (zN (zN (zN (s2 5))))) T (upd t1 ((zT (zN (s2 5))) % 8) (nI ((zT (zN (zN (s2 5)))) % 4 + 1))) (byR (s2 5)) ((zT (zN (zN (zN (s2 5))))) % 4)))), (ad 3, .inl (E.2 0, 7, .inl er)), (ad 9, .inl (E.2 0, 128, .inl nm2_99)), (ad 10, .inl (E.2 0, 64, .inl pl2_99)), (ad 11, .inl (E.2 0, 8, .inl (upd t1 ((zT (zN (s2 5))) % 8) (nI ((zT (zN (zN (s2 5)))) % 4 + 1)))))] _ := hP
                  replace hD : va_D A [(ad 0, .inl (E.2 0, 374, .inl (goesA (upd s2 5 (zN (zN (zN (s2 5))))) T (upd t1 ((zT (zN (s2 5))) % 8) (nI ((zT (zN (zN (s2 5)))) % 4 + 1))) (byR (s2 5)) ((zT (zN (zN (zN (s2 5))))) % 4)))), (ad 3, .inl (E.2 0, 7, .inl er)), (ad 9, .inl (E.2 0, 128, .inl nm2_99)), (ad 10, .inl (E.2 0, 64, .inl pl2_99)), (ad 11, .inl (E.2 0, 8, .inl (upd t1 ((zT (zN (s2 5))) % 8) (nI ((zT (zN (zN (s2 5)))) % 4 + 1)))))] := hD
                  replace hq_99 : r_99 = paysF (upd s2 5 (zN (zN (zN (s2 5))))) T (byR (s2 5)) ((zT (zN (zN (zN (s2 5))))) % 4) := hq_99
                  refine lv_istore (lv' := [(6, .int r_99), (5, .int (nI ((zT (zN (zN (zN (s2 5))))) % 4))), (4, .int (nI ((zT (zN (s2 5))) % 8))), (3, .int (nI i)), (2, .int (nI gz)), (0, .ref (ad 30)), (1, .int n_)]) hx hb dX6_draws_102 hl (by decide) rfl (fun ls hl => ?_)
                  refine lv_iinc (v := nI (gz + 1)) (lv' := [(2, .int (nI (gz + 1))), (6, .int r_99), (5, .int (nI ((zT (zN (zN (zN (s2 5))))) % 4))), (4, .int (nI ((zT (zN (s2 5))) % 8))), (3, .int (nI i)), (0, .ref (ad 30)), (1, .int n_)]) hx hb dX6_draws_104 hl (k := 4) rfl (fx_inc _) (by decide) rfl (fun ls hl => ?_)
                  refine lv_iinc (v := nI (i + 1)) (lv' := [(3, .int (nI (i + 1))), (2, .int (nI (gz + 1))), (6, .int r_99), (5, .int (nI ((zT (zN (zN (zN (s2 5))))) % 4))), (4, .int (nI ((zT (zN (s2 5))) % 8))), (0, .ref (ad 30)), (1, .int n_)]) hx hb dX6_draws_107 hl (k := 4) rfl (fx_inc _) (by decide) rfl (fun ls hl => ?_)
                  refine lv_goto (tgt := 20) hx hb dX6_draws_110 (by decide) ?_
                  exact ih_20 (i + 1) (gz + 1) (goesA (upd s2 5 (zN (zN (zN (s2 5))))) T (upd t1 ((zT (zN (s2 5))) % 8) (nI ((zT (zN (zN (s2 5)))) % 4 + 1))) (byR (s2 5)) ((zT (zN (zN (zN (s2 5))))) % 4)) nm2_99 pl2_99 (upd t1 ((zT (zN (s2 5))) % 8) (nI ((zT (zN (zN (s2 5)))) % 4 + 1))) (by omega) (by omega) (by show _ = buyA (drawN T i sa).1 T; rw [← hs2]; exact by1 hbs hrow) (by show _ = (drawN T i sa).2 + (if buyS (drawN T i sa).1 then 1 else 0); rw [← hs2, ← hgz]; simp [hbs]) _ _ hP hD hS ls (lv_sub hl [0, 1, 5, 6] rfl)
                · -- False
                  subst hr_86
                  have hbs : ¬ buyS s2 = true := fun hh => hb_86 ((inSt_congr hrow).trans hh)
                  refine lv_if_eq (tgt := 107) hx hb dX6_draws_89 (by decide) (fun _ => ?_) (fun c => (c (by decide)).elim)
                  refine lv_iinc (v := nI (i + 1)) (lv' := [(3, .int (nI (i + 1))), (5, .int (nI ((zT (zN (zN (zN (s2 5))))) % 4))), (4, .int (nI ((zT (zN (s2 5))) % 8))), (2, .int (nI gz)), (0, .ref (ad 30)), (1, .int n_)]) hx hb dX6_draws_107 hl (k := 2) rfl (fx_inc _) (by decide) rfl (fun ls hl => ?_)
                  refine lv_goto (tgt := 20) hx hb dX6_draws_110 (by decide) ?_
                  exact ih_20 (i + 1) gz (upd s2 5 (zN (zN (zN (s2 5))))) nz pz (upd t1 ((zT (zN (s2 5))) % 8) (nI ((zT (zN (zN (s2 5)))) % 4 + 1))) (by omega) (by omega) (by show _ = buyA (drawN T i sa).1 T; rw [← hs2]; exact by0 hbs) (by show _ = (drawN T i sa).2 + (if buyS (drawN T i sa).1 then 1 else 0); rw [← hs2, ← hgz]; simp [hbs]) _ _ hP hD hS ls (lv_sub hl [0, 3, 4, 5] rfl)
              · -- fall 35
                have n_32 := fx_le0 (a := 8) (b := t) c_32 (by omega) (by omega)
                refine lv_aload_n hx hb dX6_draws_35 rfl (lv_at hl 3 rfl) ?_
                refine fx_get X hE (hR.at hS) 0 rfl rfl 11 rfl q1179 rfl rfl dX6_draws_36 ?_
                refine lv_iload hx hb dX6_draws_39 (lv_at hl 0 rfl) ?_
                refine lv_iconst (v := 0) hx hb dX6_draws_41 rfl ?_
                refine fx_iast (ws' := [(ad 0, .inl (E.2 0, 374, .inl s2)), (ad 3, .inl (E.2 0, 7, .inl er)), (ad 9, .inl (E.2 0, 128, .inl nz)), (ad 10, .inl (E.2 0, 64, .inl pz)), (ad 11, .inl (E.2 0, 8, .inl (upd t1 t 0)))]) X hE hP hD hS 4 rfl t rfl (by omega) rfl rfl dX6_draws_42 (fun H locs hP hD hS => ?_)
                refine lv_iinc (v := nI (t + 1)) (lv' := [(4, .int (nI (t + 1))), (3, .int (nI i)), (2, .int (nI gz)), (0, .ref (ad 30)), (1, .int n_)]) hx hb dX6_draws_43 hl (k := 0) rfl (fx_inc _) (by decide) rfl (fun ls hl => ?_)
                refine lv_goto (tgt := 28) hx hb dX6_draws_46 (by decide) ?_
                exact ih_28 (t + 1) (upd t1 t 0) (by omega) (by omega) (ext_s (f := fun _ => 0) hz rfl) _ _ hP hD hS ls (lv_sub hl [0, 1, 2, 3, 4] rfl)
          exact loop_28 ((8 - 0) + 1) 0 tz (Nat.lt_succ_self _) (by omega) (fun q hq => absurd hq (Nat.not_lt_zero _)) _ _ hP hD hS ls (lv_sub hl [0, 1, 2, 3, 4] rfl)
    exact loop_20 ((nn n_ - 0) + 1) 0 0 sa nmd pl td (Nat.lt_succ_self _) (Nat.zero_le _) rfl rfl _ _ hP hD hS ls (lv_sub hl [0, 1, 2, 3] rfl)
  · -- False
    subst hr_4
    refine lv_if_ne (tgt := 16) hx hb dX6_draws_7 (by decide) (fun c => (c (by decide)).elim) (fun _ => ?_)
    refine lv_aload_n hx hb dX6_draws_10 rfl (lv_at hl 0 rfl) ?_
    refine lv_iconst (v := 1) hx hb dX6_draws_11 rfl ?_
    refine fx_ci (va_runV (As := [.int 1]) (rest := []) X (mX6_error l E ad im at_ op st_ us bn bm la fo fi lp tr_ sp ip er 1 (by decide) _) (cwV 1 X.2.2.2.2 (lw_V q1266 q1268 qs32 q75 q1269) rfl rfl rfl ⟨rfl, hdX6_error⟩ ⟨Nat.le_of_ble_eq_true rfl, Nat.le_of_ble_eq_true rfl⟩) (fx_preV (fx_pre hE hP hD hS hR [1] rfl rfl (fx_rcr 0 rfl fx_rc0)) (va_recv hE.1 (hR.at hS) (ci := 6) (q0 := 0) rfl rfl)) rfl rfl hl.1 rfl (lv_room (Nat.le_of_ble_eq_true rfl)) dX6_draws_12 ⟨Nat.le_refl _, Nat.le_refl _⟩) hP hD hS hA [1] rfl rfl (fun r_12 u H locs hq_12 hP hD hS => ?_)
    replace hP : va_P E.1 clA [(ad 0, .inl (E.2 0, 374, .inl sa)), (ad 3, .inl (E.2 0, 7, .inl (upd er 1 (er 1 + 1)))), (ad 9, .inl (E.2 0, 128, .inl nmd)), (ad 10, .inl (E.2 0, 64, .inl pl)), (ad 11, .inl (E.2 0, 8, .inl td))] _ := hP
    replace hD : va_D A [(ad 0, .inl (E.2 0, 374, .inl sa)), (ad 3, .inl (E.2 0, 7, .inl (upd er 1 (er 1 + 1)))), (ad 9, .inl (E.2 0, 128, .inl nmd)), (ad 10, .inl (E.2 0, 64, .inl pl)), (ad 11, .inl (E.2 0, 8, .inl td))] := hD
    replace hq_12 : r_12 = erv 1 := hq_12
    exact hret r_12 (sa, (upd er 1 (er 1 + 1)), nmd, pl, td) (by rw [hq_12]; simp [draws_, hb_4, erI]) (rfl) hP hD hS (Nat.le_refl _) (Nat.le_refl _) dX6_draws_15
abbrev rmX6_body : Room := { frames := 1, cells := 0, slots := 0, locals := 22 }
set_option maxHeartbeats 400000 in
set_option maxRecDepth 100000 in
theorem mX6_body (l : Launch) (E : fx_En) (ad : Nat → Nat) (im : Int32) (at_ : Int32) (op : Int32) (st_ : Int32) (us : Int32) (bn : Int32) (bm : Int32) (la : Int32) (fo : Int32) (fi : Int32) (lp : Int32) (sp : Int32) (ip : Int32) (tn : Nat) (tr : Nat → Int32) (er : Nat → Int32) (i : Int32) (htn : tn ≤ 30) : fx_Mi l yX6_body cX6_body 2 .int rmX6_body E [.ref (ad 30), .int i] [(ad 3, .inl (E.2 0, 7, .inl er))] [(ad 30, .inr (6, [.ref (ad 0), .ref (ad 1), .int im, .ref (ad 3), .int at_, .int op, .int st_, .int us, .ref (ad 8), .ref (ad 9), .ref (ad 10), .ref (ad 11), .ref (ad 12), .ref (ad 13), .ref (ad 14), .int bn, .int bm, .ref (ad 17), .int la, .int fo, .int fi, .int lp, .ref (ad 22), .int (nI tn), .int sp, .int ip, .ref (ad 26), .ref (ad 27), .ref (ad 28), .ref (ad 29)])), (ad 22, .inl (E.2 0, 30, .inl tr))] (S := (Nat → Int32)) (fun (u : (Nat → Int32)) => [(ad 3, .inl (E.2 0, 7, .inl u))]) (fun (r : Int32) (u : (Nat → Int32)) => (r, u) = body_ tr er tn i) := by
  refine fx_iW rfl rfl ?_
  intro p e s m args below meth c A ls Q X hE hP hD hR hA hl hret
  have hx := X.1
  have hb := X.2.1
  have hS : va_S A s.heap s.heap [] := va_S.rf
  replace hP : va_P E.1 clA [(ad 3, .inl (E.2 0, 7, .inl er))] _ := hP
  replace hD : va_D A [(ad 3, .inl (E.2 0, 7, .inl er))] := hD
  replace hl : lv_has ls 2 [(0, .ref (ad 30)), (1, .int i)] := hl
  refine lv_iload_n hx hb dX6_body_0 rfl (lv_at hl 1 rfl) ?_
  refine lv_iconst (v := 0) hx hb dX6_body_1 rfl ?_
  refine lv_aload_n hx hb dX6_body_2 rfl (lv_at hl 0 rfl) ?_
  refine fx_get X hE (hR.at hS) 0 rfl rfl 23 rfl q1191 rfl rfl dX6_body_3 ?_
  refine lv_iconst (v := 1) hx hb dX6_body_6 rfl ?_
  refine lv_isub hx hb dX6_body_7 ?_
  refine fx_ci (va_runS (As := [.int i, .int 0, .int ((nI tn) - 1)]) (rest := []) X (mX6_in l E i 0 ((nI tn) - 1) _) (va_cwS 3 X.2.2.2.2 (lw_S q1263 q1264 q75 q1265) rfl rfl rfl hdX6_in ⟨Nat.le_of_ble_eq_true rfl, Nat.le_of_ble_eq_true rfl⟩) (fx_pre hE hP hD hS hR [] rfl rfl fx_rc0) rfl rfl hl.1 rfl (lv_room (Nat.le_of_ble_eq_true rfl)) dX6_body_8 ⟨Nat.le_refl _, Nat.le_refl _⟩) hP hD hS hA [] rfl rfl (fun r_8 u H locs hq_8 hP hD hS => ?_)
  replace hP : va_P E.1 clA [(ad 3, .inl (E.2 0, 7, .inl er))] _ := hP
  replace hD : va_D A [(ad 3, .inl (E.2 0, 7, .inl er))] := hD
  replace hq_8 : r_8 = fx_b (inB i 0 ((nI tn) - 1) = true) := hq_8
  rcases fx_bc hq_8 with ⟨hb_8, hr_8⟩ | ⟨hb_8, hr_8⟩
  · -- True
    subst hr_8
    refine lv_if_eq (tgt := 23) hx hb dX6_body_11 (by decide) (fun c => absurd c (by decide)) (fun _ => ?_)
    refine lv_aload_n hx hb dX6_body_14 rfl (lv_at hl 0 rfl) ?_
    refine fx_get X hE (hR.at hS) 0 rfl rfl 22 rfl q1190 rfl rfl dX6_body_15 ?_
    refine lv_iload_n hx hb dX6_body_18 rfl (lv_at hl 1 rfl) ?_
    refine fx_ti (show i = nI (nn i) from (inB_pre hb_8 (by omega)).1) ?_
    have g1 := (inB_pre hb_8 (by omega)).2
    refine fx_iald X hE (hR.at hS) 1 rfl (nn i) rfl (by omega) rfl dX6_body_19 ?_
    refine lv_goto (tgt := 28) hx hb dX6_body_20 (by decide) ?_
    exact hret (tr (nn i)) (er) (by simp [body_, erI, hb_8]) (rfl) hP hD hS (Nat.le_refl _) (Nat.le_refl _) dX6_body_28
  · -- False
    subst hr_8
    refine lv_if_eq (tgt := 23) hx hb dX6_body_11 (by decide) (fun _ => ?_) (fun c => (c (by decide)).elim)
    refine lv_aload_n hx hb dX6_body_23 rfl (lv_at hl 0 rfl) ?_
    refine lv_iconst (v := 2) hx hb dX6_body_24 rfl ?_
    refine fx_ci (va_runV (As := [.int 2]) (rest := []) X (mX6_error l E ad im at_ op st_ us bn bm la fo fi lp (nI tn) sp ip er 2 (by decide) _) (cwV 1 X.2.2.2.2 (lw_V q1266 q1268 qs32 q75 q1269) rfl rfl rfl ⟨rfl, hdX6_error⟩ ⟨Nat.le_of_ble_eq_true rfl, Nat.le_of_ble_eq_true rfl⟩) (fx_preV (fx_pre hE hP hD hS hR [0] rfl rfl (fx_rcr 0 rfl fx_rc0)) (va_recv hE.1 (hR.at hS) (ci := 6) (q0 := 0) rfl rfl)) rfl rfl hl.1 rfl (lv_room (Nat.le_of_ble_eq_true rfl)) dX6_body_25 ⟨Nat.le_refl _, Nat.le_refl _⟩) hP hD hS hA [0] rfl rfl (fun r_25 u H locs hq_25 hP hD hS => ?_)
    replace hP : va_P E.1 clA [(ad 3, .inl (E.2 0, 7, .inl (upd er 2 (er 2 + 1))))] _ := hP
    replace hD : va_D A [(ad 3, .inl (E.2 0, 7, .inl (upd er 2 (er 2 + 1))))] := hD
    replace hq_25 : r_25 = erv 2 := hq_25
    exact hret r_25 ((upd er 2 (er 2 + 1))) (by simp [body_, erI, hq_25, hb_8]) (rfl) hP hD hS (Nat.le_refl _) (Nat.le_refl _) dX6_body_28
abbrev rmX6_sheet : Room := { frames := 2, cells := 0, slots := 0, locals := 42 }
set_option maxHeartbeats 400000 in
set_option maxRecDepth 100000 in
theorem mX6_sheet (l : Launch) (E : fx_En) (ad : Nat → Nat) (im : Int32) (at_ : Int32) (op : Int32) (st_ : Int32) (us : Int32) (bn : Int32) (bm : Int32) (la : Int32) (fo : Int32) (fi : Int32) (lp : Int32) (tr_ : Int32) (sp : Int32) (ip : Int32) (bt : Nat → Int32) (sz : Nat → Int32) (nu : Nat → Int32) (er : Nat → Int32) (sheet : Int32) (its : Int32) (n_ : Int32) : fx_Mi l yX6_sheet cX6_sheet 5 .int rmX6_sheet E [.ref (ad 30), .int sheet, .int its, .int n_] [(ad 3, .inl (E.2 0, 7, .inl er)), (ad 26, .inl (E.2 0, 4, .inl bt)), (ad 27, .inl (E.2 0, 4, .inl sz)), (ad 28, .inl (E.2 0, 96, .inl nu))] [(ad 30, .inr (6, [.ref (ad 0), .ref (ad 1), .int im, .ref (ad 3), .int at_, .int op, .int st_, .int us, .ref (ad 8), .ref (ad 9), .ref (ad 10), .ref (ad 11), .ref (ad 12), .ref (ad 13), .ref (ad 14), .int bn, .int bm, .ref (ad 17), .int la, .int fo, .int fi, .int lp, .ref (ad 22), .int tr_, .int sp, .int ip, .ref (ad 26), .ref (ad 27), .ref (ad 28), .ref (ad 29)]))] (S := (Nat → Int32) × (Nat → Int32) × (Nat → Int32) × (Nat → Int32)) (fun (u : (Nat → Int32) × (Nat → Int32) × (Nat → Int32) × (Nat → Int32)) => [(ad 3, .inl (E.2 0, 7, .inl u.1)), (ad 26, .inl (E.2 0, 4, .inl u.2.1)), (ad 27, .inl (E.2 0, 4, .inl u.2.2.1)), (ad 28, .inl (E.2 0, 96, .inl u.2.2.2))]) (fun (r : Int32) (u : (Nat → Int32) × (Nat → Int32) × (Nat → Int32) × (Nat → Int32)) => (r, u.2.1, u.2.2.1, u.2.2.2, u.1) = sheet_ bt sz nu er sheet its n_) := by
  refine fx_iW rfl rfl ?_
  intro p e s m args below meth c A ls Q X hE hP hD hR hA hl hret
  have hx := X.1
  have hb := X.2.1
  have hS : va_S A s.heap s.heap [] := va_S.rf
  replace hP : va_P E.1 clA [(ad 3, .inl (E.2 0, 7, .inl er)), (ad 26, .inl (E.2 0, 4, .inl bt)), (ad 27, .inl (E.2 0, 4, .inl sz)), (ad 28, .inl (E.2 0, 96, .inl nu))] _ := hP
  replace hD : va_D A [(ad 3, .inl (E.2 0, 7, .inl er)), (ad 26, .inl (E.2 0, 4, .inl bt)), (ad 27, .inl (E.2 0, 4, .inl sz)), (ad 28, .inl (E.2 0, 96, .inl nu))] := hD
  replace hl : lv_has ls 5 [(0, .ref (ad 30)), (1, .int sheet), (2, .int its), (3, .int n_)] := hl
  refine lv_iload_n hx hb dX6_sheet_0 rfl (lv_at hl 1 rfl) ?_
  refine fx_ci (va_runS (As := [.int sheet]) (rest := []) X (mX6_isSheet l E sheet _) (va_cwS 1 X.2.2.2.2 (lw_S q1406 q1407 q75 q1408) rfl rfl rfl hdX6_isSheet ⟨Nat.le_of_ble_eq_true rfl, Nat.le_of_ble_eq_true rfl⟩) (fx_pre hE hP hD hS hR [] rfl rfl fx_rc0) rfl rfl hl.1 rfl (lv_room (Nat.le_of_ble_eq_true rfl)) dX6_sheet_1 ⟨Nat.le_refl _, Nat.le_refl _⟩) hP hD hS hA [] rfl rfl (fun r_1 u H locs hq_1 hP hD hS => ?_)
  replace hP : va_P E.1 clA [(ad 3, .inl (E.2 0, 7, .inl er)), (ad 26, .inl (E.2 0, 4, .inl bt)), (ad 27, .inl (E.2 0, 4, .inl sz)), (ad 28, .inl (E.2 0, 96, .inl nu))] _ := hP
  replace hD : va_D A [(ad 3, .inl (E.2 0, 7, .inl er)), (ad 26, .inl (E.2 0, 4, .inl bt)), (ad 27, .inl (E.2 0, 4, .inl sz)), (ad 28, .inl (E.2 0, 96, .inl nu))] := hD
  replace hq_1 : r_1 = fx_b (inB sheet 0 3 = true) := hq_1
  rcases fx_bc hq_1 with ⟨hb_1, hr_1⟩ | ⟨hb_1, hr_1⟩
  · -- True
    subst hr_1
    refine lv_if_eq (tgt := 29) hx hb dX6_sheet_4 (by decide) (fun c => absurd c (by decide)) (fun _ => ?_)
    rcases itsC its with rfl | rfl | rfl | rfl | hno
    ·
      refine lv_iload_n hx hb dX6_sheet_7 rfl (lv_at hl 2 rfl) ?_
      refine lv_if_eq (tgt := 35) hx hb dX6_sheet_8 (by decide) (fun _ => ?_) (fun c => (c (by decide)).elim)
      refine lv_iload_n hx hb dX6_sheet_35 rfl (lv_at hl 2 rfl) ?_
      refine lv_if_eq (tgt := 49) hx hb dX6_sheet_36 (by decide) (fun _ => ?_) (fun c => (c (by decide)).elim)
      refine lv_iload_n hx hb dX6_sheet_49 rfl (lv_at hl 2 rfl) ?_
      refine lv_if_eq (tgt := 65) hx hb dX6_sheet_50 (by decide) (fun _ => ?_) (fun c => (c (by decide)).elim)
      refine lv_aload_n hx hb dX6_sheet_65 rfl (lv_at hl 0 rfl) ?_
      refine fx_get X hE (hR.at hS) 0 rfl rfl 26 rfl q1194 rfl rfl dX6_sheet_66 ?_
      refine lv_iload_n hx hb dX6_sheet_69 rfl (lv_at hl 1 rfl) ?_
      refine fx_ti (show sheet = nI (nn sheet) from (inB_nn (n := 3) hb_1 (by omega)).1) ?_
      have g1 := (inB_nn (n := 3) hb_1 (by omega)).2
      refine lv_iload_n hx hb dX6_sheet_70 rfl (lv_at hl 2 rfl) ?_
      refine fx_iast (ws' := [(ad 3, .inl (E.2 0, 7, .inl er)), (ad 26, .inl (E.2 0, 4, .inl (upd bt (nn sheet) 0))), (ad 27, .inl (E.2 0, 4, .inl sz)), (ad 28, .inl (E.2 0, 96, .inl nu))]) X hE hP hD hS 1 rfl (nn sheet) rfl (by omega) rfl rfl dX6_sheet_71 (fun H locs hP hD hS => ?_)
      refine lv_aload_n hx hb dX6_sheet_72 rfl (lv_at hl 0 rfl) ?_
      refine fx_get X hE (hR.at hS) 0 rfl rfl 27 rfl q1195 rfl rfl dX6_sheet_73 ?_
      refine lv_iload_n hx hb dX6_sheet_76 rfl (lv_at hl 1 rfl) ?_
      refine fx_ti (show sheet = nI (nn sheet) from (inB_nn (n := 3) hb_1 (by omega)).1) ?_
      refine lv_iload_n hx hb dX6_sheet_77 rfl (lv_at hl 2 rfl) ?_
      refine lv_if_ne (tgt := 85) hx hb dX6_sheet_78 (by decide) (fun c => (c (by decide)).elim) (fun _ => ?_)
      refine lv_iconst (v := 0) hx hb dX6_sheet_81 rfl ?_
      refine lv_goto (tgt := 86) hx hb dX6_sheet_82 (by decide) ?_
      refine fx_iast (ws' := [(ad 3, .inl (E.2 0, 7, .inl er)), (ad 26, .inl (E.2 0, 4, .inl (upd bt (nn sheet) 0))), (ad 27, .inl (E.2 0, 4, .inl (upd sz (nn sheet) 0))), (ad 28, .inl (E.2 0, 96, .inl nu))]) X hE hP hD hS 2 rfl (nn sheet) rfl (by omega) rfl rfl dX6_sheet_86 (fun H locs hP hD hS => ?_)
      refine lv_iconst (v := 0) hx hb dX6_sheet_87 rfl ?_
      refine lv_istore (lv' := [(4, .int 0), (0, .ref (ad 30)), (1, .int sheet), (2, .int 0), (3, .int n_)]) hx hb dX6_sheet_88 hl (by decide) rfl (fun ls hl => ?_)
      have loop_90 : ∀ (n_90 : Nat) (t : Nat) (n2 : Nat → Int32), (24 - t < n_90) → (t ≤ 24) → (n2 = clr nu (nn sheet) t) → ∀ (H : Heap) (locs : List Loc), va_P E.1 clA [(ad 3, .inl (E.2 0, 7, .inl er)), (ad 26, .inl (E.2 0, 4, .inl (upd bt (nn sheet) 0))), (ad 27, .inl (E.2 0, 4, .inl (upd sz (nn sheet) 0))), (ad 28, .inl (E.2 0, 96, .inl n2))] H → va_D A [(ad 3, .inl (E.2 0, 7, .inl er)), (ad 26, .inl (E.2 0, 4, .inl (upd bt (nn sheet) 0))), (ad 27, .inl (E.2 0, 4, .inl (upd sz (nn sheet) 0))), (ad 28, .inl (E.2 0, 96, .inl n2))] → va_S A s.heap H locs → ∀ (ls : Array Slot), lv_has ls 5 [(4, .int (nI t)), (0, .ref (ad 30)), (1, .int sheet), (2, .int 0), (3, .int n_)] → W p l e rmX6_sheet s m args below meth c H locs 0 0 Q (F0 m 90 ls []) := by
        intro n_90
        induction n_90 with
        | zero => intro t n2 hm_90; exact absurd hm_90 (Nat.not_lt_zero _)
        | succ n_90 ih_90 =>
          intro t n2 hm_90 ht hn2 H locs hP hD hS ls hl
          refine lv_iload hx hb dX6_sheet_90 (lv_at hl 0 rfl) ?_
          refine lv_bipush (v := 24) hx hb dX6_sheet_92 rfl ?_
          refine lv_icmp_ge (tgt := 116) hx hb dX6_sheet_94 (by decide) (fun c_94 => ?_) (fun c_94 => ?_)
          · -- jump 116
            have n_94 := fx_le1 (a := 24) (b := t) c_94 (by omega) (by omega)
            obtain rfl : t = 24 := by omega
            subst hn2
            refine lv_iconst (v := 1) hx hb dX6_sheet_116 rfl ?_
            exact hret 1 (er, (upd bt (nn sheet) 0), (upd sz (nn sheet) 0), (clr nu (nn sheet) 24)) (by simp [sheet_, erI, isB, hb_1, c_94, Int32.not_lt.2 c_94, n_94]) (rfl) hP hD hS (Nat.le_refl _) (Nat.le_refl _) dX6_sheet_117
          · -- fall 97
            have n_94 := fx_le0 (a := 24) (b := t) c_94 (by omega) (by omega)
            refine lv_aload_n hx hb dX6_sheet_97 rfl (lv_at hl 1 rfl) ?_
            refine fx_get X hE (hR.at hS) 0 rfl rfl 28 rfl q1196 rfl rfl dX6_sheet_98 ?_
            refine lv_bipush (v := 24) hx hb dX6_sheet_101 rfl ?_
            refine lv_iload_n hx hb dX6_sheet_103 rfl (lv_at hl 2 rfl) ?_
            refine fx_ti (show sheet = nI (nn sheet) from (inB_nn (n := 3) hb_1 (by omega)).1) ?_
            refine lv_imul hx hb dX6_sheet_104 ?_
            refine fx_ti (pk_mul 24 (nn sheet)) ?_
            refine lv_iload hx hb dX6_sheet_105 (lv_at hl 0 rfl) ?_
            refine lv_iadd hx hb dX6_sheet_107 ?_
            refine fx_ti (nI_add (24 * (nn sheet)) t) ?_
            refine lv_iconst (v := 0) hx hb dX6_sheet_108 rfl ?_
            refine fx_iast (ws' := [(ad 3, .inl (E.2 0, 7, .inl er)), (ad 26, .inl (E.2 0, 4, .inl (upd bt (nn sheet) 0))), (ad 27, .inl (E.2 0, 4, .inl (upd sz (nn sheet) 0))), (ad 28, .inl (E.2 0, 96, .inl (upd n2 (24 * (nn sheet) + t) 0)))]) X hE hP hD hS 3 rfl (24 * (nn sheet) + t) rfl (by omega) rfl rfl dX6_sheet_109 (fun H locs hP hD hS => ?_)
            refine lv_iinc (v := nI (t + 1)) (lv' := [(4, .int (nI (t + 1))), (0, .ref (ad 30)), (1, .int sheet), (2, .int 0), (3, .int n_)]) hx hb dX6_sheet_110 hl (k := 0) rfl (fx_inc _) (by decide) rfl (fun ls hl => ?_)
            refine lv_goto (tgt := 90) hx hb dX6_sheet_113 (by decide) ?_
            exact ih_90 (t + 1) (upd n2 (24 * (nn sheet) + t) 0) (by omega) (by omega) (clr_s hn2) _ _ hP hD hS ls (lv_sub hl [0, 1, 2, 3, 4] rfl)
      exact loop_90 ((24 - 0) + 1) 0 nu (Nat.lt_succ_self _) (by omega) (clr_0 _ _) _ _ hP hD hS ls (lv_sub hl [0, 1, 2, 3, 4] rfl)
    ·
      refine lv_iload_n hx hb dX6_sheet_7 rfl (lv_at hl 2 rfl) ?_
      refine lv_if_eq (tgt := 35) hx hb dX6_sheet_8 (by decide) (fun c => absurd c (by decide)) (fun _ => ?_)
      refine lv_iload_n hx hb dX6_sheet_11 rfl (lv_at hl 2 rfl) ?_
      refine lv_bipush (v := 8) hx hb dX6_sheet_12 rfl ?_
      refine lv_icmp_eq (tgt := 35) hx hb dX6_sheet_14 (by decide) (fun _ => ?_) (fun c => (c (by decide)).elim)
      refine lv_iload_n hx hb dX6_sheet_35 rfl (lv_at hl 2 rfl) ?_
      refine lv_if_eq (tgt := 49) hx hb dX6_sheet_36 (by decide) (fun c => absurd c (by decide)) (fun _ => ?_)
      refine lv_iload_n hx hb dX6_sheet_39 rfl (lv_at hl 3 rfl) ?_
      refine lv_if_ge (tgt := 49) hx hb dX6_sheet_40 (by decide) (fun c_40 => ?_) (fun c_40 => ?_)
      · -- jump 49
        refine lv_iload_n hx hb dX6_sheet_49 rfl (lv_at hl 2 rfl) ?_
        refine lv_if_eq (tgt := 65) hx hb dX6_sheet_50 (by decide) (fun c => absurd c (by decide)) (fun _ => ?_)
        refine lv_iload_n hx hb dX6_sheet_53 rfl (lv_at hl 3 rfl) ?_
        refine lv_bipush (v := 24) hx hb dX6_sheet_54 rfl ?_
        refine lv_icmp_le (tgt := 65) hx hb dX6_sheet_56 (by decide) (fun c_56 => ?_) (fun c_56 => ?_)
        · -- jump 65
          refine lv_aload_n hx hb dX6_sheet_65 rfl (lv_at hl 0 rfl) ?_
          refine fx_get X hE (hR.at hS) 0 rfl rfl 26 rfl q1194 rfl rfl dX6_sheet_66 ?_
          refine lv_iload_n hx hb dX6_sheet_69 rfl (lv_at hl 1 rfl) ?_
          refine fx_ti (show sheet = nI (nn sheet) from (inB_nn (n := 3) hb_1 (by omega)).1) ?_
          have g1 := (inB_nn (n := 3) hb_1 (by omega)).2
          refine lv_iload_n hx hb dX6_sheet_70 rfl (lv_at hl 2 rfl) ?_
          refine fx_iast (ws' := [(ad 3, .inl (E.2 0, 7, .inl er)), (ad 26, .inl (E.2 0, 4, .inl (upd bt (nn sheet) 8))), (ad 27, .inl (E.2 0, 4, .inl sz)), (ad 28, .inl (E.2 0, 96, .inl nu))]) X hE hP hD hS 1 rfl (nn sheet) rfl (by omega) rfl rfl dX6_sheet_71 (fun H locs hP hD hS => ?_)
          refine lv_aload_n hx hb dX6_sheet_72 rfl (lv_at hl 0 rfl) ?_
          refine fx_get X hE (hR.at hS) 0 rfl rfl 27 rfl q1195 rfl rfl dX6_sheet_73 ?_
          refine lv_iload_n hx hb dX6_sheet_76 rfl (lv_at hl 1 rfl) ?_
          refine fx_ti (show sheet = nI (nn sheet) from (inB_nn (n := 3) hb_1 (by omega)).1) ?_
          refine lv_iload_n hx hb dX6_sheet_77 rfl (lv_at hl 2 rfl) ?_
          refine lv_if_ne (tgt := 85) hx hb dX6_sheet_78 (by decide) (fun _ => ?_) (fun c => absurd c (by decide))
          refine lv_iload_n hx hb dX6_sheet_85 rfl (lv_at hl 3 rfl) ?_
          refine fx_iast (ws' := [(ad 3, .inl (E.2 0, 7, .inl er)), (ad 26, .inl (E.2 0, 4, .inl (upd bt (nn sheet) 8))), (ad 27, .inl (E.2 0, 4, .inl (upd sz (nn sheet) n_))), (ad 28, .inl (E.2 0, 96, .inl nu))]) X hE hP hD hS 2 rfl (nn sheet) rfl (by omega) rfl rfl dX6_sheet_86 (fun H locs hP hD hS => ?_)
          refine lv_iconst (v := 0) hx hb dX6_sheet_87 rfl ?_
          refine lv_istore (lv' := [(4, .int 0), (0, .ref (ad 30)), (1, .int sheet), (2, .int 8), (3, .int n_)]) hx hb dX6_sheet_88 hl (by decide) rfl (fun ls hl => ?_)
          have loop_90 : ∀ (n_90 : Nat) (t : Nat) (n2 : Nat → Int32), (24 - t < n_90) → (t ≤ 24) → (n2 = clr nu (nn sheet) t) → ∀ (H : Heap) (locs : List Loc), va_P E.1 clA [(ad 3, .inl (E.2 0, 7, .inl er)), (ad 26, .inl (E.2 0, 4, .inl (upd bt (nn sheet) 8))), (ad 27, .inl (E.2 0, 4, .inl (upd sz (nn sheet) n_))), (ad 28, .inl (E.2 0, 96, .inl n2))] H → va_D A [(ad 3, .inl (E.2 0, 7, .inl er)), (ad 26, .inl (E.2 0, 4, .inl (upd bt (nn sheet) 8))), (ad 27, .inl (E.2 0, 4, .inl (upd sz (nn sheet) n_))), (ad 28, .inl (E.2 0, 96, .inl n2))] → va_S A s.heap H locs → ∀ (ls : Array Slot), lv_has ls 5 [(4, .int (nI t)), (0, .ref (ad 30)), (1, .int sheet), (2, .int 8), (3, .int n_)] → W p l e rmX6_sheet s m args below meth c H locs 0 0 Q (F0 m 90 ls []) := by
            intro n_90
            induction n_90 with
            | zero => intro t n2 hm_90; exact absurd hm_90 (Nat.not_lt_zero _)
            | succ n_90 ih_90 =>
              intro t n2 hm_90 ht hn2 H locs hP hD hS ls hl
              refine lv_iload hx hb dX6_sheet_90 (lv_at hl 0 rfl) ?_
              refine lv_bipush (v := 24) hx hb dX6_sheet_92 rfl ?_
              refine lv_icmp_ge (tgt := 116) hx hb dX6_sheet_94 (by decide) (fun c_94 => ?_) (fun c_94 => ?_)
              · -- jump 116
                have n_94 := fx_le1 (a := 24) (b := t) c_94 (by omega) (by omega)
                obtain rfl : t = 24 := by omega
                subst hn2
                refine lv_iconst (v := 1) hx hb dX6_sheet_116 rfl ?_
                exact hret 1 (er, (upd bt (nn sheet) 8), (upd sz (nn sheet) n_), (clr nu (nn sheet) 24)) (by simp [sheet_, erI, isB, hb_1, c_40, Int32.not_lt.2 c_40, c_56, Int32.not_lt.2 c_56, c_94, Int32.not_lt.2 c_94, n_94]) (rfl) hP hD hS (Nat.le_refl _) (Nat.le_refl _) dX6_sheet_117
              · -- fall 97
                have n_94 := fx_le0 (a := 24) (b := t) c_94 (by omega) (by omega)
                refine lv_aload_n hx hb dX6_sheet_97 rfl (lv_at hl 1 rfl) ?_
                refine fx_get X hE (hR.at hS) 0 rfl rfl 28 rfl q1196 rfl rfl dX6_sheet_98 ?_
                refine lv_bipush (v := 24) hx hb dX6_sheet_101 rfl ?_
                refine lv_iload_n hx hb dX6_sheet_103 rfl (lv_at hl 2 rfl) ?_
                refine fx_ti (show sheet = nI (nn sheet) from (inB_nn (n := 3) hb_1 (by omega)).1) ?_
                refine lv_imul hx hb dX6_sheet_104 ?_
                refine fx_ti (pk_mul 24 (nn sheet)) ?_
                refine lv_iload hx hb dX6_sheet_105 (lv_at hl 0 rfl) ?_
                refine lv_iadd hx hb dX6_sheet_107 ?_
                refine fx_ti (nI_add (24 * (nn sheet)) t) ?_
                refine lv_iconst (v := 0) hx hb dX6_sheet_108 rfl ?_
                refine fx_iast (ws' := [(ad 3, .inl (E.2 0, 7, .inl er)), (ad 26, .inl (E.2 0, 4, .inl (upd bt (nn sheet) 8))), (ad 27, .inl (E.2 0, 4, .inl (upd sz (nn sheet) n_))), (ad 28, .inl (E.2 0, 96, .inl (upd n2 (24 * (nn sheet) + t) 0)))]) X hE hP hD hS 3 rfl (24 * (nn sheet) + t) rfl (by omega) rfl rfl dX6_sheet_109 (fun H locs hP hD hS => ?_)
                refine lv_iinc (v := nI (t + 1)) (lv' := [(4, .int (nI (t + 1))), (0, .ref (ad 30)), (1, .int sheet), (2, .int 8), (3, .int n_)]) hx hb dX6_sheet_110 hl (k := 0) rfl (fx_inc _) (by decide) rfl (fun ls hl => ?_)
                refine lv_goto (tgt := 90) hx hb dX6_sheet_113 (by decide) ?_
                exact ih_90 (t + 1) (upd n2 (24 * (nn sheet) + t) 0) (by omega) (by omega) (clr_s hn2) _ _ hP hD hS ls (lv_sub hl [0, 1, 2, 3, 4] rfl)
          exact loop_90 ((24 - 0) + 1) 0 nu (Nat.lt_succ_self _) (by omega) (clr_0 _ _) _ _ hP hD hS ls (lv_sub hl [0, 1, 2, 3, 4] rfl)
        · -- fall 59
          refine lv_aload_n hx hb dX6_sheet_59 rfl (lv_at hl 0 rfl) ?_
          refine lv_iconst (v := 1) hx hb dX6_sheet_60 rfl ?_
          refine fx_ci (va_runV (As := [.int 1]) (rest := []) X (mX6_error l E ad im at_ op st_ us bn bm la fo fi lp tr_ sp ip er 1 (by decide) _) (cwV 1 X.2.2.2.2 (lw_V q1266 q1268 qs32 q75 q1269) rfl rfl rfl ⟨rfl, hdX6_error⟩ ⟨Nat.le_of_ble_eq_true rfl, Nat.le_of_ble_eq_true rfl⟩) (fx_preV (fx_pre hE hP hD hS hR [0] rfl rfl (fx_rcr 0 rfl fx_rc0)) (va_recv hE.1 (hR.at hS) (ci := 6) (q0 := 0) rfl rfl)) rfl rfl hl.1 rfl (lv_room (Nat.le_of_ble_eq_true rfl)) dX6_sheet_61 ⟨Nat.le_refl _, Nat.le_refl _⟩) hP hD hS hA [0] rfl rfl (fun r_61 u H locs hq_61 hP hD hS => ?_)
          replace hP : va_P E.1 clA [(ad 3, .inl (E.2 0, 7, .inl (upd er 1 (er 1 + 1)))), (ad 26, .inl (E.2 0, 4, .inl bt)), (ad 27, .inl (E.2 0, 4, .inl sz)), (ad 28, .inl (E.2 0, 96, .inl nu))] _ := hP
          replace hD : va_D A [(ad 3, .inl (E.2 0, 7, .inl (upd er 1 (er 1 + 1)))), (ad 26, .inl (E.2 0, 4, .inl bt)), (ad 27, .inl (E.2 0, 4, .inl sz)), (ad 28, .inl (E.2 0, 96, .inl nu))] := hD
          replace hq_61 : r_61 = erv 1 := hq_61
          exact hret r_61 ((upd er 1 (er 1 + 1)), bt, sz, nu) (by simp [sheet_, erI, hq_61, isB, hb_1, c_40, Int32.not_lt.2 c_40, c_56, Int32.not_le.1 c_56]) (rfl) hP hD hS (Nat.le_refl _) (Nat.le_refl _) dX6_sheet_64
      · -- fall 43
        refine lv_aload_n hx hb dX6_sheet_43 rfl (lv_at hl 0 rfl) ?_
        refine lv_iconst (v := 3) hx hb dX6_sheet_44 rfl ?_
        refine fx_ci (va_runV (As := [.int 3]) (rest := []) X (mX6_error l E ad im at_ op st_ us bn bm la fo fi lp tr_ sp ip er 3 (by decide) _) (cwV 1 X.2.2.2.2 (lw_V q1266 q1268 qs32 q75 q1269) rfl rfl rfl ⟨rfl, hdX6_error⟩ ⟨Nat.le_of_ble_eq_true rfl, Nat.le_of_ble_eq_true rfl⟩) (fx_preV (fx_pre hE hP hD hS hR [0] rfl rfl (fx_rcr 0 rfl fx_rc0)) (va_recv hE.1 (hR.at hS) (ci := 6) (q0 := 0) rfl rfl)) rfl rfl hl.1 rfl (lv_room (Nat.le_of_ble_eq_true rfl)) dX6_sheet_45 ⟨Nat.le_refl _, Nat.le_refl _⟩) hP hD hS hA [0] rfl rfl (fun r_45 u H locs hq_45 hP hD hS => ?_)
        replace hP : va_P E.1 clA [(ad 3, .inl (E.2 0, 7, .inl (upd er 3 (er 3 + 1)))), (ad 26, .inl (E.2 0, 4, .inl bt)), (ad 27, .inl (E.2 0, 4, .inl sz)), (ad 28, .inl (E.2 0, 96, .inl nu))] _ := hP
        replace hD : va_D A [(ad 3, .inl (E.2 0, 7, .inl (upd er 3 (er 3 + 1)))), (ad 26, .inl (E.2 0, 4, .inl bt)), (ad 27, .inl (E.2 0, 4, .inl sz)), (ad 28, .inl (E.2 0, 96, .inl nu))] := hD
        replace hq_45 : r_45 = erv 3 := hq_45
        exact hret r_45 ((upd er 3 (er 3 + 1)), bt, sz, nu) (by simp [sheet_, erI, hq_45, isB, hb_1, c_40, Int32.not_le.1 c_40]) (rfl) hP hD hS (Nat.le_refl _) (Nat.le_refl _) dX6_sheet_48
    ·
      refine lv_iload_n hx hb dX6_sheet_7 rfl (lv_at hl 2 rfl) ?_
      refine lv_if_eq (tgt := 35) hx hb dX6_sheet_8 (by decide) (fun c => absurd c (by decide)) (fun _ => ?_)
      refine lv_iload_n hx hb dX6_sheet_11 rfl (lv_at hl 2 rfl) ?_
      refine lv_bipush (v := 8) hx hb dX6_sheet_12 rfl ?_
      refine lv_icmp_eq (tgt := 35) hx hb dX6_sheet_14 (by decide) (fun c => absurd c (by decide)) (fun _ => ?_)
      refine lv_iload_n hx hb dX6_sheet_17 rfl (lv_at hl 2 rfl) ?_
      refine lv_bipush (v := 16) hx hb dX6_sheet_18 rfl ?_
      refine lv_icmp_eq (tgt := 35) hx hb dX6_sheet_20 (by decide) (fun _ => ?_) (fun c => (c (by decide)).elim)
      refine lv_iload_n hx hb dX6_sheet_35 rfl (lv_at hl 2 rfl) ?_
      refine lv_if_eq (tgt := 49) hx hb dX6_sheet_36 (by decide) (fun c => absurd c (by decide)) (fun _ => ?_)
      refine lv_iload_n hx hb dX6_sheet_39 rfl (lv_at hl 3 rfl) ?_
      refine lv_if_ge (tgt := 49) hx hb dX6_sheet_40 (by decide) (fun c_40 => ?_) (fun c_40 => ?_)
      · -- jump 49
        refine lv_iload_n hx hb dX6_sheet_49 rfl (lv_at hl 2 rfl) ?_
        refine lv_if_eq (tgt := 65) hx hb dX6_sheet_50 (by decide) (fun c => absurd c (by decide)) (fun _ => ?_)
        refine lv_iload_n hx hb dX6_sheet_53 rfl (lv_at hl 3 rfl) ?_
        refine lv_bipush (v := 24) hx hb dX6_sheet_54 rfl ?_
        refine lv_icmp_le (tgt := 65) hx hb dX6_sheet_56 (by decide) (fun c_56 => ?_) (fun c_56 => ?_)
        · -- jump 65
          refine lv_aload_n hx hb dX6_sheet_65 rfl (lv_at hl 0 rfl) ?_
          refine fx_get X hE (hR.at hS) 0 rfl rfl 26 rfl q1194 rfl rfl dX6_sheet_66 ?_
          refine lv_iload_n hx hb dX6_sheet_69 rfl (lv_at hl 1 rfl) ?_
          refine fx_ti (show sheet = nI (nn sheet) from (inB_nn (n := 3) hb_1 (by omega)).1) ?_
          have g1 := (inB_nn (n := 3) hb_1 (by omega)).2
          refine lv_iload_n hx hb dX6_sheet_70 rfl (lv_at hl 2 rfl) ?_
          refine fx_iast (ws' := [(ad 3, .inl (E.2 0, 7, .inl er)), (ad 26, .inl (E.2 0, 4, .inl (upd bt (nn sheet) 16))), (ad 27, .inl (E.2 0, 4, .inl sz)), (ad 28, .inl (E.2 0, 96, .inl nu))]) X hE hP hD hS 1 rfl (nn sheet) rfl (by omega) rfl rfl dX6_sheet_71 (fun H locs hP hD hS => ?_)
          refine lv_aload_n hx hb dX6_sheet_72 rfl (lv_at hl 0 rfl) ?_
          refine fx_get X hE (hR.at hS) 0 rfl rfl 27 rfl q1195 rfl rfl dX6_sheet_73 ?_
          refine lv_iload_n hx hb dX6_sheet_76 rfl (lv_at hl 1 rfl) ?_
          refine fx_ti (show sheet = nI (nn sheet) from (inB_nn (n := 3) hb_1 (by omega)).1) ?_
          refine lv_iload_n hx hb dX6_sheet_77 rfl (lv_at hl 2 rfl) ?_
          refine lv_if_ne (tgt := 85) hx hb dX6_sheet_78 (by decide) (fun _ => ?_) (fun c => absurd c (by decide))
          refine lv_iload_n hx hb dX6_sheet_85 rfl (lv_at hl 3 rfl) ?_
          refine fx_iast (ws' := [(ad 3, .inl (E.2 0, 7, .inl er)), (ad 26, .inl (E.2 0, 4, .inl (upd bt (nn sheet) 16))), (ad 27, .inl (E.2 0, 4, .inl (upd sz (nn sheet) n_))), (ad 28, .inl (E.2 0, 96, .inl nu))]) X hE hP hD hS 2 rfl (nn sheet) rfl (by omega) rfl rfl dX6_sheet_86 (fun H locs hP hD hS => ?_)
          refine lv_iconst (v := 0) hx hb dX6_sheet_87 rfl ?_
          refine lv_istore (lv' := [(4, .int 0), (0, .ref (ad 30)), (1, .int sheet), (2, .int 16), (3, .int n_)]) hx hb dX6_sheet_88 hl (by decide) rfl (fun ls hl => ?_)
          have loop_90 : ∀ (n_90 : Nat) (t : Nat) (n2 : Nat → Int32), (24 - t < n_90) → (t ≤ 24) → (n2 = clr nu (nn sheet) t) → ∀ (H : Heap) (locs : List Loc), va_P E.1 clA [(ad 3, .inl (E.2 0, 7, .inl er)), (ad 26, .inl (E.2 0, 4, .inl (upd bt (nn sheet) 16))), (ad 27, .inl (E.2 0, 4, .inl (upd sz (nn sheet) n_))), (ad 28, .inl (E.2 0, 96, .inl n2))] H → va_D A [(ad 3, .inl (E.2 0, 7, .inl er)), (ad 26, .inl (E.2 0, 4, .inl (upd bt (nn sheet) 16))), (ad 27, .inl (E.2 0, 4, .inl (upd sz (nn sheet) n_))), (ad 28, .inl (E.2 0, 96, .inl n2))] → va_S A s.heap H locs → ∀ (ls : Array Slot), lv_has ls 5 [(4, .int (nI t)), (0, .ref (ad 30)), (1, .int sheet), (2, .int 16), (3, .int n_)] → W p l e rmX6_sheet s m args below meth c H locs 0 0 Q (F0 m 90 ls []) := by
            intro n_90
            induction n_90 with
            | zero => intro t n2 hm_90; exact absurd hm_90 (Nat.not_lt_zero _)
            | succ n_90 ih_90 =>
              intro t n2 hm_90 ht hn2 H locs hP hD hS ls hl
              refine lv_iload hx hb dX6_sheet_90 (lv_at hl 0 rfl) ?_
              refine lv_bipush (v := 24) hx hb dX6_sheet_92 rfl ?_
              refine lv_icmp_ge (tgt := 116) hx hb dX6_sheet_94 (by decide) (fun c_94 => ?_) (fun c_94 => ?_)
              · -- jump 116
                have n_94 := fx_le1 (a := 24) (b := t) c_94 (by omega) (by omega)
                obtain rfl : t = 24 := by omega
                subst hn2
                refine lv_iconst (v := 1) hx hb dX6_sheet_116 rfl ?_
                exact hret 1 (er, (upd bt (nn sheet) 16), (upd sz (nn sheet) n_), (clr nu (nn sheet) 24)) (by simp [sheet_, erI, isB, hb_1, c_40, Int32.not_lt.2 c_40, c_56, Int32.not_lt.2 c_56, c_94, Int32.not_lt.2 c_94, n_94]) (rfl) hP hD hS (Nat.le_refl _) (Nat.le_refl _) dX6_sheet_117
              · -- fall 97
                have n_94 := fx_le0 (a := 24) (b := t) c_94 (by omega) (by omega)
                refine lv_aload_n hx hb dX6_sheet_97 rfl (lv_at hl 1 rfl) ?_
                refine fx_get X hE (hR.at hS) 0 rfl rfl 28 rfl q1196 rfl rfl dX6_sheet_98 ?_
                refine lv_bipush (v := 24) hx hb dX6_sheet_101 rfl ?_
                refine lv_iload_n hx hb dX6_sheet_103 rfl (lv_at hl 2 rfl) ?_
                refine fx_ti (show sheet = nI (nn sheet) from (inB_nn (n := 3) hb_1 (by omega)).1) ?_
                refine lv_imul hx hb dX6_sheet_104 ?_
                refine fx_ti (pk_mul 24 (nn sheet)) ?_
                refine lv_iload hx hb dX6_sheet_105 (lv_at hl 0 rfl) ?_
                refine lv_iadd hx hb dX6_sheet_107 ?_
                refine fx_ti (nI_add (24 * (nn sheet)) t) ?_
                refine lv_iconst (v := 0) hx hb dX6_sheet_108 rfl ?_
                refine fx_iast (ws' := [(ad 3, .inl (E.2 0, 7, .inl er)), (ad 26, .inl (E.2 0, 4, .inl (upd bt (nn sheet) 16))), (ad 27, .inl (E.2 0, 4, .inl (upd sz (nn sheet) n_))), (ad 28, .inl (E.2 0, 96, .inl (upd n2 (24 * (nn sheet) + t) 0)))]) X hE hP hD hS 3 rfl (24 * (nn sheet) + t) rfl (by omega) rfl rfl dX6_sheet_109 (fun H locs hP hD hS => ?_)
                refine lv_iinc (v := nI (t + 1)) (lv' := [(4, .int (nI (t + 1))), (0, .ref (ad 30)), (1, .int sheet), (2, .int 16), (3, .int n_)]) hx hb dX6_sheet_110 hl (k := 0) rfl (fx_inc _) (by decide) rfl (fun ls hl => ?_)
                refine lv_goto (tgt := 90) hx hb dX6_sheet_113 (by decide) ?_
                exact ih_90 (t + 1) (upd n2 (24 * (nn sheet) + t) 0) (by omega) (by omega) (clr_s hn2) _ _ hP hD hS ls (lv_sub hl [0, 1, 2, 3, 4] rfl)
          exact loop_90 ((24 - 0) + 1) 0 nu (Nat.lt_succ_self _) (by omega) (clr_0 _ _) _ _ hP hD hS ls (lv_sub hl [0, 1, 2, 3, 4] rfl)
        · -- fall 59
          refine lv_aload_n hx hb dX6_sheet_59 rfl (lv_at hl 0 rfl) ?_
          refine lv_iconst (v := 1) hx hb dX6_sheet_60 rfl ?_
          refine fx_ci (va_runV (As := [.int 1]) (rest := []) X (mX6_error l E ad im at_ op st_ us bn bm la fo fi lp tr_ sp ip er 1 (by decide) _) (cwV 1 X.2.2.2.2 (lw_V q1266 q1268 qs32 q75 q1269) rfl rfl rfl ⟨rfl, hdX6_error⟩ ⟨Nat.le_of_ble_eq_true rfl, Nat.le_of_ble_eq_true rfl⟩) (fx_preV (fx_pre hE hP hD hS hR [0] rfl rfl (fx_rcr 0 rfl fx_rc0)) (va_recv hE.1 (hR.at hS) (ci := 6) (q0 := 0) rfl rfl)) rfl rfl hl.1 rfl (lv_room (Nat.le_of_ble_eq_true rfl)) dX6_sheet_61 ⟨Nat.le_refl _, Nat.le_refl _⟩) hP hD hS hA [0] rfl rfl (fun r_61 u H locs hq_61 hP hD hS => ?_)
          replace hP : va_P E.1 clA [(ad 3, .inl (E.2 0, 7, .inl (upd er 1 (er 1 + 1)))), (ad 26, .inl (E.2 0, 4, .inl bt)), (ad 27, .inl (E.2 0, 4, .inl sz)), (ad 28, .inl (E.2 0, 96, .inl nu))] _ := hP
          replace hD : va_D A [(ad 3, .inl (E.2 0, 7, .inl (upd er 1 (er 1 + 1)))), (ad 26, .inl (E.2 0, 4, .inl bt)), (ad 27, .inl (E.2 0, 4, .inl sz)), (ad 28, .inl (E.2 0, 96, .inl nu))] := hD
          replace hq_61 : r_61 = erv 1 := hq_61
          exact hret r_61 ((upd er 1 (er 1 + 1)), bt, sz, nu) (by simp [sheet_, erI, hq_61, isB, hb_1, c_40, Int32.not_lt.2 c_40, c_56, Int32.not_le.1 c_56]) (rfl) hP hD hS (Nat.le_refl _) (Nat.le_refl _) dX6_sheet_64
      · -- fall 43
        refine lv_aload_n hx hb dX6_sheet_43 rfl (lv_at hl 0 rfl) ?_
        refine lv_iconst (v := 3) hx hb dX6_sheet_44 rfl ?_
        refine fx_ci (va_runV (As := [.int 3]) (rest := []) X (mX6_error l E ad im at_ op st_ us bn bm la fo fi lp tr_ sp ip er 3 (by decide) _) (cwV 1 X.2.2.2.2 (lw_V q1266 q1268 qs32 q75 q1269) rfl rfl rfl ⟨rfl, hdX6_error⟩ ⟨Nat.le_of_ble_eq_true rfl, Nat.le_of_ble_eq_true rfl⟩) (fx_preV (fx_pre hE hP hD hS hR [0] rfl rfl (fx_rcr 0 rfl fx_rc0)) (va_recv hE.1 (hR.at hS) (ci := 6) (q0 := 0) rfl rfl)) rfl rfl hl.1 rfl (lv_room (Nat.le_of_ble_eq_true rfl)) dX6_sheet_45 ⟨Nat.le_refl _, Nat.le_refl _⟩) hP hD hS hA [0] rfl rfl (fun r_45 u H locs hq_45 hP hD hS => ?_)
        replace hP : va_P E.1 clA [(ad 3, .inl (E.2 0, 7, .inl (upd er 3 (er 3 + 1)))), (ad 26, .inl (E.2 0, 4, .inl bt)), (ad 27, .inl (E.2 0, 4, .inl sz)), (ad 28, .inl (E.2 0, 96, .inl nu))] _ := hP
        replace hD : va_D A [(ad 3, .inl (E.2 0, 7, .inl (upd er 3 (er 3 + 1)))), (ad 26, .inl (E.2 0, 4, .inl bt)), (ad 27, .inl (E.2 0, 4, .inl sz)), (ad 28, .inl (E.2 0, 96, .inl nu))] := hD
        replace hq_45 : r_45 = erv 3 := hq_45
        exact hret r_45 ((upd er 3 (er 3 + 1)), bt, sz, nu) (by simp [sheet_, erI, hq_45, isB, hb_1, c_40, Int32.not_le.1 c_40]) (rfl) hP hD hS (Nat.le_refl _) (Nat.le_refl _) dX6_sheet_48
    ·
      refine lv_iload_n hx hb dX6_sheet_7 rfl (lv_at hl 2 rfl) ?_
      refine lv_if_eq (tgt := 35) hx hb dX6_sheet_8 (by decide) (fun c => absurd c (by decide)) (fun _ => ?_)
      refine lv_iload_n hx hb dX6_sheet_11 rfl (lv_at hl 2 rfl) ?_
      refine lv_bipush (v := 8) hx hb dX6_sheet_12 rfl ?_
      refine lv_icmp_eq (tgt := 35) hx hb dX6_sheet_14 (by decide) (fun c => absurd c (by decide)) (fun _ => ?_)
      refine lv_iload_n hx hb dX6_sheet_17 rfl (lv_at hl 2 rfl) ?_
      refine lv_bipush (v := 16) hx hb dX6_sheet_18 rfl ?_
      refine lv_icmp_eq (tgt := 35) hx hb dX6_sheet_20 (by decide) (fun c => absurd c (by decide)) (fun _ => ?_)
      refine lv_iload_n hx hb dX6_sheet_23 rfl (lv_at hl 2 rfl) ?_
      refine lv_bipush (v := 32) hx hb dX6_sheet_24 rfl ?_
      refine lv_icmp_eq (tgt := 35) hx hb dX6_sheet_26 (by decide) (fun _ => ?_) (fun c => (c (by decide)).elim)
      refine lv_iload_n hx hb dX6_sheet_35 rfl (lv_at hl 2 rfl) ?_
      refine lv_if_eq (tgt := 49) hx hb dX6_sheet_36 (by decide) (fun c => absurd c (by decide)) (fun _ => ?_)
      refine lv_iload_n hx hb dX6_sheet_39 rfl (lv_at hl 3 rfl) ?_
      refine lv_if_ge (tgt := 49) hx hb dX6_sheet_40 (by decide) (fun c_40 => ?_) (fun c_40 => ?_)
      · -- jump 49
        refine lv_iload_n hx hb dX6_sheet_49 rfl (lv_at hl 2 rfl) ?_
        refine lv_if_eq (tgt := 65) hx hb dX6_sheet_50 (by decide) (fun c => absurd c (by decide)) (fun _ => ?_)
        refine lv_iload_n hx hb dX6_sheet_53 rfl (lv_at hl 3 rfl) ?_
        refine lv_bipush (v := 24) hx hb dX6_sheet_54 rfl ?_
        refine lv_icmp_le (tgt := 65) hx hb dX6_sheet_56 (by decide) (fun c_56 => ?_) (fun c_56 => ?_)
        · -- jump 65
          refine lv_aload_n hx hb dX6_sheet_65 rfl (lv_at hl 0 rfl) ?_
          refine fx_get X hE (hR.at hS) 0 rfl rfl 26 rfl q1194 rfl rfl dX6_sheet_66 ?_
          refine lv_iload_n hx hb dX6_sheet_69 rfl (lv_at hl 1 rfl) ?_
          refine fx_ti (show sheet = nI (nn sheet) from (inB_nn (n := 3) hb_1 (by omega)).1) ?_
          have g1 := (inB_nn (n := 3) hb_1 (by omega)).2
          refine lv_iload_n hx hb dX6_sheet_70 rfl (lv_at hl 2 rfl) ?_
          refine fx_iast (ws' := [(ad 3, .inl (E.2 0, 7, .inl er)), (ad 26, .inl (E.2 0, 4, .inl (upd bt (nn sheet) 32))), (ad 27, .inl (E.2 0, 4, .inl sz)), (ad 28, .inl (E.2 0, 96, .inl nu))]) X hE hP hD hS 1 rfl (nn sheet) rfl (by omega) rfl rfl dX6_sheet_71 (fun H locs hP hD hS => ?_)
          refine lv_aload_n hx hb dX6_sheet_72 rfl (lv_at hl 0 rfl) ?_
          refine fx_get X hE (hR.at hS) 0 rfl rfl 27 rfl q1195 rfl rfl dX6_sheet_73 ?_
          refine lv_iload_n hx hb dX6_sheet_76 rfl (lv_at hl 1 rfl) ?_
          refine fx_ti (show sheet = nI (nn sheet) from (inB_nn (n := 3) hb_1 (by omega)).1) ?_
          refine lv_iload_n hx hb dX6_sheet_77 rfl (lv_at hl 2 rfl) ?_
          refine lv_if_ne (tgt := 85) hx hb dX6_sheet_78 (by decide) (fun _ => ?_) (fun c => absurd c (by decide))
          refine lv_iload_n hx hb dX6_sheet_85 rfl (lv_at hl 3 rfl) ?_
          refine fx_iast (ws' := [(ad 3, .inl (E.2 0, 7, .inl er)), (ad 26, .inl (E.2 0, 4, .inl (upd bt (nn sheet) 32))), (ad 27, .inl (E.2 0, 4, .inl (upd sz (nn sheet) n_))), (ad 28, .inl (E.2 0, 96, .inl nu))]) X hE hP hD hS 2 rfl (nn sheet) rfl (by omega) rfl rfl dX6_sheet_86 (fun H locs hP hD hS => ?_)
          refine lv_iconst (v := 0) hx hb dX6_sheet_87 rfl ?_
          refine lv_istore (lv' := [(4, .int 0), (0, .ref (ad 30)), (1, .int sheet), (2, .int 32), (3, .int n_)]) hx hb dX6_sheet_88 hl (by decide) rfl (fun ls hl => ?_)
          have loop_90 : ∀ (n_90 : Nat) (t : Nat) (n2 : Nat → Int32), (24 - t < n_90) → (t ≤ 24) → (n2 = clr nu (nn sheet) t) → ∀ (H : Heap) (locs : List Loc), va_P E.1 clA [(ad 3, .inl (E.2 0, 7, .inl er)), (ad 26, .inl (E.2 0, 4, .inl (upd bt (nn sheet) 32))), (ad 27, .inl (E.2 0, 4, .inl (upd sz (nn sheet) n_))), (ad 28, .inl (E.2 0, 96, .inl n2))] H → va_D A [(ad 3, .inl (E.2 0, 7, .inl er)), (ad 26, .inl (E.2 0, 4, .inl (upd bt (nn sheet) 32))), (ad 27, .inl (E.2 0, 4, .inl (upd sz (nn sheet) n_))), (ad 28, .inl (E.2 0, 96, .inl n2))] → va_S A s.heap H locs → ∀ (ls : Array Slot), lv_has ls 5 [(4, .int (nI t)), (0, .ref (ad 30)), (1, .int sheet), (2, .int 32), (3, .int n_)] → W p l e rmX6_sheet s m args below meth c H locs 0 0 Q (F0 m 90 ls []) := by
            intro n_90
            induction n_90 with
            | zero => intro t n2 hm_90; exact absurd hm_90 (Nat.not_lt_zero _)
            | succ n_90 ih_90 =>
              intro t n2 hm_90 ht hn2 H locs hP hD hS ls hl
              refine lv_iload hx hb dX6_sheet_90 (lv_at hl 0 rfl) ?_
              refine lv_bipush (v := 24) hx hb dX6_sheet_92 rfl ?_
              refine lv_icmp_ge (tgt := 116) hx hb dX6_sheet_94 (by decide) (fun c_94 => ?_) (fun c_94 => ?_)
              · -- jump 116
                have n_94 := fx_le1 (a := 24) (b := t) c_94 (by omega) (by omega)
                obtain rfl : t = 24 := by omega
                subst hn2
                refine lv_iconst (v := 1) hx hb dX6_sheet_116 rfl ?_
                exact hret 1 (er, (upd bt (nn sheet) 32), (upd sz (nn sheet) n_), (clr nu (nn sheet) 24)) (by simp [sheet_, erI, isB, hb_1, c_40, Int32.not_lt.2 c_40, c_56, Int32.not_lt.2 c_56, c_94, Int32.not_lt.2 c_94, n_94]) (rfl) hP hD hS (Nat.le_refl _) (Nat.le_refl _) dX6_sheet_117
              · -- fall 97
                have n_94 := fx_le0 (a := 24) (b := t) c_94 (by omega) (by omega)
                refine lv_aload_n hx hb dX6_sheet_97 rfl (lv_at hl 1 rfl) ?_
                refine fx_get X hE (hR.at hS) 0 rfl rfl 28 rfl q1196 rfl rfl dX6_sheet_98 ?_
                refine lv_bipush (v := 24) hx hb dX6_sheet_101 rfl ?_
                refine lv_iload_n hx hb dX6_sheet_103 rfl (lv_at hl 2 rfl) ?_
                refine fx_ti (show sheet = nI (nn sheet) from (inB_nn (n := 3) hb_1 (by omega)).1) ?_
                refine lv_imul hx hb dX6_sheet_104 ?_
                refine fx_ti (pk_mul 24 (nn sheet)) ?_
                refine lv_iload hx hb dX6_sheet_105 (lv_at hl 0 rfl) ?_
                refine lv_iadd hx hb dX6_sheet_107 ?_
                refine fx_ti (nI_add (24 * (nn sheet)) t) ?_
                refine lv_iconst (v := 0) hx hb dX6_sheet_108 rfl ?_
                refine fx_iast (ws' := [(ad 3, .inl (E.2 0, 7, .inl er)), (ad 26, .inl (E.2 0, 4, .inl (upd bt (nn sheet) 32))), (ad 27, .inl (E.2 0, 4, .inl (upd sz (nn sheet) n_))), (ad 28, .inl (E.2 0, 96, .inl (upd n2 (24 * (nn sheet) + t) 0)))]) X hE hP hD hS 3 rfl (24 * (nn sheet) + t) rfl (by omega) rfl rfl dX6_sheet_109 (fun H locs hP hD hS => ?_)
                refine lv_iinc (v := nI (t + 1)) (lv' := [(4, .int (nI (t + 1))), (0, .ref (ad 30)), (1, .int sheet), (2, .int 32), (3, .int n_)]) hx hb dX6_sheet_110 hl (k := 0) rfl (fx_inc _) (by decide) rfl (fun ls hl => ?_)
                refine lv_goto (tgt := 90) hx hb dX6_sheet_113 (by decide) ?_
                exact ih_90 (t + 1) (upd n2 (24 * (nn sheet) + t) 0) (by omega) (by omega) (clr_s hn2) _ _ hP hD hS ls (lv_sub hl [0, 1, 2, 3, 4] rfl)
          exact loop_90 ((24 - 0) + 1) 0 nu (Nat.lt_succ_self _) (by omega) (clr_0 _ _) _ _ hP hD hS ls (lv_sub hl [0, 1, 2, 3, 4] rfl)
        · -- fall 59
          refine lv_aload_n hx hb dX6_sheet_59 rfl (lv_at hl 0 rfl) ?_
          refine lv_iconst (v := 1) hx hb dX6_sheet_60 rfl ?_
          refine fx_ci (va_runV (As := [.int 1]) (rest := []) X (mX6_error l E ad im at_ op st_ us bn bm la fo fi lp tr_ sp ip er 1 (by decide) _) (cwV 1 X.2.2.2.2 (lw_V q1266 q1268 qs32 q75 q1269) rfl rfl rfl ⟨rfl, hdX6_error⟩ ⟨Nat.le_of_ble_eq_true rfl, Nat.le_of_ble_eq_true rfl⟩) (fx_preV (fx_pre hE hP hD hS hR [0] rfl rfl (fx_rcr 0 rfl fx_rc0)) (va_recv hE.1 (hR.at hS) (ci := 6) (q0 := 0) rfl rfl)) rfl rfl hl.1 rfl (lv_room (Nat.le_of_ble_eq_true rfl)) dX6_sheet_61 ⟨Nat.le_refl _, Nat.le_refl _⟩) hP hD hS hA [0] rfl rfl (fun r_61 u H locs hq_61 hP hD hS => ?_)
          replace hP : va_P E.1 clA [(ad 3, .inl (E.2 0, 7, .inl (upd er 1 (er 1 + 1)))), (ad 26, .inl (E.2 0, 4, .inl bt)), (ad 27, .inl (E.2 0, 4, .inl sz)), (ad 28, .inl (E.2 0, 96, .inl nu))] _ := hP
          replace hD : va_D A [(ad 3, .inl (E.2 0, 7, .inl (upd er 1 (er 1 + 1)))), (ad 26, .inl (E.2 0, 4, .inl bt)), (ad 27, .inl (E.2 0, 4, .inl sz)), (ad 28, .inl (E.2 0, 96, .inl nu))] := hD
          replace hq_61 : r_61 = erv 1 := hq_61
          exact hret r_61 ((upd er 1 (er 1 + 1)), bt, sz, nu) (by simp [sheet_, erI, hq_61, isB, hb_1, c_40, Int32.not_lt.2 c_40, c_56, Int32.not_le.1 c_56]) (rfl) hP hD hS (Nat.le_refl _) (Nat.le_refl _) dX6_sheet_64
      · -- fall 43
        refine lv_aload_n hx hb dX6_sheet_43 rfl (lv_at hl 0 rfl) ?_
        refine lv_iconst (v := 3) hx hb dX6_sheet_44 rfl ?_
        refine fx_ci (va_runV (As := [.int 3]) (rest := []) X (mX6_error l E ad im at_ op st_ us bn bm la fo fi lp tr_ sp ip er 3 (by decide) _) (cwV 1 X.2.2.2.2 (lw_V q1266 q1268 qs32 q75 q1269) rfl rfl rfl ⟨rfl, hdX6_error⟩ ⟨Nat.le_of_ble_eq_true rfl, Nat.le_of_ble_eq_true rfl⟩) (fx_preV (fx_pre hE hP hD hS hR [0] rfl rfl (fx_rcr 0 rfl fx_rc0)) (va_recv hE.1 (hR.at hS) (ci := 6) (q0 := 0) rfl rfl)) rfl rfl hl.1 rfl (lv_room (Nat.le_of_ble_eq_true rfl)) dX6_sheet_45 ⟨Nat.le_refl _, Nat.le_refl _⟩) hP hD hS hA [0] rfl rfl (fun r_45 u H locs hq_45 hP hD hS => ?_)
        replace hP : va_P E.1 clA [(ad 3, .inl (E.2 0, 7, .inl (upd er 3 (er 3 + 1)))), (ad 26, .inl (E.2 0, 4, .inl bt)), (ad 27, .inl (E.2 0, 4, .inl sz)), (ad 28, .inl (E.2 0, 96, .inl nu))] _ := hP
        replace hD : va_D A [(ad 3, .inl (E.2 0, 7, .inl (upd er 3 (er 3 + 1)))), (ad 26, .inl (E.2 0, 4, .inl bt)), (ad 27, .inl (E.2 0, 4, .inl sz)), (ad 28, .inl (E.2 0, 96, .inl nu))] := hD
        replace hq_45 : r_45 = erv 3 := hq_45
        exact hret r_45 ((upd er 3 (er 3 + 1)), bt, sz, nu) (by simp [sheet_, erI, hq_45, isB, hb_1, c_40, Int32.not_le.1 c_40]) (rfl) hP hD hS (Nat.le_refl _) (Nat.le_refl _) dX6_sheet_48
    ·
      refine lv_iload_n hx hb dX6_sheet_7 rfl (lv_at hl 2 rfl) ?_
      refine lv_if_eq (tgt := 35) hx hb dX6_sheet_8 (by decide) (fun c_8 => absurd c_8 hno.1) (fun c_8 => ?_)
      refine lv_iload_n hx hb dX6_sheet_11 rfl (lv_at hl 2 rfl) ?_
      refine lv_bipush (v := 8) hx hb dX6_sheet_12 rfl ?_
      refine lv_icmp_eq (tgt := 35) hx hb dX6_sheet_14 (by decide) (fun c_14 => absurd c_14 hno.2.1) (fun c_14 => ?_)
      refine lv_iload_n hx hb dX6_sheet_17 rfl (lv_at hl 2 rfl) ?_
      refine lv_bipush (v := 16) hx hb dX6_sheet_18 rfl ?_
      refine lv_icmp_eq (tgt := 35) hx hb dX6_sheet_20 (by decide) (fun c_20 => absurd c_20 hno.2.2.1) (fun c_20 => ?_)
      refine lv_iload_n hx hb dX6_sheet_23 rfl (lv_at hl 2 rfl) ?_
      refine lv_bipush (v := 32) hx hb dX6_sheet_24 rfl ?_
      refine lv_icmp_eq (tgt := 35) hx hb dX6_sheet_26 (by decide) (fun c_26 => absurd c_26 hno.2.2.2) (fun c_26 => ?_)
      refine lv_aload_n hx hb dX6_sheet_29 rfl (lv_at hl 0 rfl) ?_
      refine lv_iconst (v := 1) hx hb dX6_sheet_30 rfl ?_
      refine fx_ci (va_runV (As := [.int 1]) (rest := []) X (mX6_error l E ad im at_ op st_ us bn bm la fo fi lp tr_ sp ip er 1 (by decide) _) (cwV 1 X.2.2.2.2 (lw_V q1266 q1268 qs32 q75 q1269) rfl rfl rfl ⟨rfl, hdX6_error⟩ ⟨Nat.le_of_ble_eq_true rfl, Nat.le_of_ble_eq_true rfl⟩) (fx_preV (fx_pre hE hP hD hS hR [0] rfl rfl (fx_rcr 0 rfl fx_rc0)) (va_recv hE.1 (hR.at hS) (ci := 6) (q0 := 0) rfl rfl)) rfl rfl hl.1 rfl (lv_room (Nat.le_of_ble_eq_true rfl)) dX6_sheet_31 ⟨Nat.le_refl _, Nat.le_refl _⟩) hP hD hS hA [0] rfl rfl (fun r_31 u H locs hq_31 hP hD hS => ?_)
      replace hP : va_P E.1 clA [(ad 3, .inl (E.2 0, 7, .inl (upd er 1 (er 1 + 1)))), (ad 26, .inl (E.2 0, 4, .inl bt)), (ad 27, .inl (E.2 0, 4, .inl sz)), (ad 28, .inl (E.2 0, 96, .inl nu))] _ := hP
      replace hD : va_D A [(ad 3, .inl (E.2 0, 7, .inl (upd er 1 (er 1 + 1)))), (ad 26, .inl (E.2 0, 4, .inl bt)), (ad 27, .inl (E.2 0, 4, .inl sz)), (ad 28, .inl (E.2 0, 96, .inl nu))] := hD
      replace hq_31 : r_31 = erv 1 := hq_31
      exact hret r_31 ((upd er 1 (er 1 + 1)), bt, sz, nu) (by simp [sheet_, erI, hq_31, isB, hno, hb_1]) (rfl) hP hD hS (Nat.le_refl _) (Nat.le_refl _) dX6_sheet_34
  · -- False
    subst hr_1
    refine lv_if_eq (tgt := 29) hx hb dX6_sheet_4 (by decide) (fun _ => ?_) (fun c => (c (by decide)).elim)
    refine lv_aload_n hx hb dX6_sheet_29 rfl (lv_at hl 0 rfl) ?_
    refine lv_iconst (v := 1) hx hb dX6_sheet_30 rfl ?_
    refine fx_ci (va_runV (As := [.int 1]) (rest := []) X (mX6_error l E ad im at_ op st_ us bn bm la fo fi lp tr_ sp ip er 1 (by decide) _) (cwV 1 X.2.2.2.2 (lw_V q1266 q1268 qs32 q75 q1269) rfl rfl rfl ⟨rfl, hdX6_error⟩ ⟨Nat.le_of_ble_eq_true rfl, Nat.le_of_ble_eq_true rfl⟩) (fx_preV (fx_pre hE hP hD hS hR [0] rfl rfl (fx_rcr 0 rfl fx_rc0)) (va_recv hE.1 (hR.at hS) (ci := 6) (q0 := 0) rfl rfl)) rfl rfl hl.1 rfl (lv_room (Nat.le_of_ble_eq_true rfl)) dX6_sheet_31 ⟨Nat.le_refl _, Nat.le_refl _⟩) hP hD hS hA [0] rfl rfl (fun r_31 u H locs hq_31 hP hD hS => ?_)
    replace hP : va_P E.1 clA [(ad 3, .inl (E.2 0, 7, .inl (upd er 1 (er 1 + 1)))), (ad 26, .inl (E.2 0, 4, .inl bt)), (ad 27, .inl (E.2 0, 4, .inl sz)), (ad 28, .inl (E.2 0, 96, .inl nu))] _ := hP
    replace hD : va_D A [(ad 3, .inl (E.2 0, 7, .inl (upd er 1 (er 1 + 1)))), (ad 26, .inl (E.2 0, 4, .inl bt)), (ad 27, .inl (E.2 0, 4, .inl sz)), (ad 28, .inl (E.2 0, 96, .inl nu))] := hD
    replace hq_31 : r_31 = erv 1 := hq_31
    exact hret r_31 ((upd er 1 (er 1 + 1)), bt, sz, nu) (by simp [sheet_, erI, hq_31, isB, hb_1]) (rfl) hP hD hS (Nat.le_refl _) (Nat.le_refl _) dX6_sheet_34
abbrev rmX6_put : Room := { frames := 2, cells := 0, slots := 0, locals := 42 }
set_option maxHeartbeats 400000 in
set_option maxRecDepth 100000 in
theorem mX6_put (l : Launch) (E : fx_En) (ad : Nat → Nat) (im : Int32) (at_ : Int32) (op : Int32) (st_ : Int32) (us : Int32) (bn : Int32) (bm : Int32) (la : Int32) (fo : Int32) (fi : Int32) (lp : Int32) (tr_ : Int32) (sp : Int32) (ip : Int32) (bt : Nat → Int32) (sz : Nat → Int32) (nu : Nat → Int32) (er : Nat → Int32) (sheet : Int32) (i : Int32) (v : Int32) (hIS : InvS bt sz) : fx_Mi l yX6_put cX6_put 5 .int rmX6_put E [.ref (ad 30), .int sheet, .int i, .int v] [(ad 3, .inl (E.2 0, 7, .inl er)), (ad 28, .inl (E.2 0, 96, .inl nu))] [(ad 30, .inr (6, [.ref (ad 0), .ref (ad 1), .int im, .ref (ad 3), .int at_, .int op, .int st_, .int us, .ref (ad 8), .ref (ad 9), .ref (ad 10), .ref (ad 11), .ref (ad 12), .ref (ad 13), .ref (ad 14), .int bn, .int bm, .ref (ad 17), .int la, .int fo, .int fi, .int lp, .ref (ad 22), .int tr_, .int sp, .int ip, .ref (ad 26), .ref (ad 27), .ref (ad 28), .ref (ad 29)])), (ad 26, .inl (E.2 0, 4, .inl bt)), (ad 27, .inl (E.2 0, 4, .inl sz))] (S := (Nat → Int32) × (Nat → Int32)) (fun (u : (Nat → Int32) × (Nat → Int32)) => [(ad 3, .inl (E.2 0, 7, .inl u.1)), (ad 28, .inl (E.2 0, 96, .inl u.2))]) (fun (r : Int32) (u : (Nat → Int32) × (Nat → Int32)) => (r, u.2, u.1) = put_ bt sz nu er sheet i v) := by
  refine fx_iW rfl rfl ?_
  intro p e s m args below meth c A ls Q X hE hP hD hR hA hl hret
  have hx := X.1
  have hb := X.2.1
  have hS : va_S A s.heap s.heap [] := va_S.rf
  replace hP : va_P E.1 clA [(ad 3, .inl (E.2 0, 7, .inl er)), (ad 28, .inl (E.2 0, 96, .inl nu))] _ := hP
  replace hD : va_D A [(ad 3, .inl (E.2 0, 7, .inl er)), (ad 28, .inl (E.2 0, 96, .inl nu))] := hD
  replace hl : lv_has ls 5 [(0, .ref (ad 30)), (1, .int sheet), (2, .int i), (3, .int v)] := hl
  refine lv_iload_n hx hb dX6_put_0 rfl (lv_at hl 1 rfl) ?_
  refine fx_ci (va_runS (As := [.int sheet]) (rest := []) X (mX6_isSheet l E sheet _) (va_cwS 1 X.2.2.2.2 (lw_S q1406 q1407 q75 q1408) rfl rfl rfl hdX6_isSheet ⟨Nat.le_of_ble_eq_true rfl, Nat.le_of_ble_eq_true rfl⟩) (fx_pre hE hP hD hS hR [] rfl rfl fx_rc0) rfl rfl hl.1 rfl (lv_room (Nat.le_of_ble_eq_true rfl)) dX6_put_1 ⟨Nat.le_refl _, Nat.le_refl _⟩) hP hD hS hA [] rfl rfl (fun r_1 u H locs hq_1 hP hD hS => ?_)
  replace hP : va_P E.1 clA [(ad 3, .inl (E.2 0, 7, .inl er)), (ad 28, .inl (E.2 0, 96, .inl nu))] _ := hP
  replace hD : va_D A [(ad 3, .inl (E.2 0, 7, .inl er)), (ad 28, .inl (E.2 0, 96, .inl nu))] := hD
  replace hq_1 : r_1 = fx_b (inB sheet 0 3 = true) := hq_1
  rcases fx_bc hq_1 with ⟨hb_1, hr_1⟩ | ⟨hb_1, hr_1⟩
  · -- True
    subst hr_1
    refine lv_if_ne (tgt := 13) hx hb dX6_put_4 (by decide) (fun _ => ?_) (fun c => absurd c (by decide))
    refine lv_aload_n hx hb dX6_put_13 rfl (lv_at hl 0 rfl) ?_
    refine fx_get X hE (hR.at hS) 0 rfl rfl 26 rfl q1194 rfl rfl dX6_put_14 ?_
    refine lv_iload_n hx hb dX6_put_17 rfl (lv_at hl 1 rfl) ?_
    refine fx_ti (show sheet = nI (nn sheet) from (inB_nn (n := 3) hb_1 (by omega)).1) ?_
    have g1 := (inB_nn (n := 3) hb_1 (by omega)).2
    refine fx_iald X hE (hR.at hS) 1 rfl (nn sheet) rfl (by omega) rfl dX6_put_18 ?_
    refine lv_if_ne (tgt := 28) hx hb dX6_put_19 (by decide) (fun c_19 => ?_) (fun c_19 => ?_)
    · -- jump 28
      refine lv_iload_n hx hb dX6_put_28 rfl (lv_at hl 2 rfl) ?_
      refine lv_iconst (v := 0) hx hb dX6_put_29 rfl ?_
      refine lv_aload_n hx hb dX6_put_30 rfl (lv_at hl 0 rfl) ?_
      refine fx_get X hE (hR.at hS) 0 rfl rfl 27 rfl q1195 rfl rfl dX6_put_31 ?_
      refine lv_iload_n hx hb dX6_put_34 rfl (lv_at hl 1 rfl) ?_
      refine fx_ti (show sheet = nI (nn sheet) from (inB_nn (n := 3) hb_1 (by omega)).1) ?_
      refine fx_iald X hE (hR.at hS) 2 rfl (nn sheet) rfl (by omega) rfl dX6_put_35 ?_
      refine lv_iconst (v := 1) hx hb dX6_put_36 rfl ?_
      refine lv_isub hx hb dX6_put_37 ?_
      refine fx_ci (va_runS (As := [.int i, .int 0, .int ((sz (nn sheet)) - 1)]) (rest := []) X (mX6_in l E i 0 ((sz (nn sheet)) - 1) _) (va_cwS 3 X.2.2.2.2 (lw_S q1263 q1264 q75 q1265) rfl rfl rfl hdX6_in ⟨Nat.le_of_ble_eq_true rfl, Nat.le_of_ble_eq_true rfl⟩) (fx_pre hE hP hD hS hR [] rfl rfl fx_rc0) rfl rfl hl.1 rfl (lv_room (Nat.le_of_ble_eq_true rfl)) dX6_put_38 ⟨Nat.le_refl _, Nat.le_refl _⟩) hP hD hS hA [] rfl rfl (fun r_38 u H locs hq_38 hP hD hS => ?_)
      replace hP : va_P E.1 clA [(ad 3, .inl (E.2 0, 7, .inl er)), (ad 28, .inl (E.2 0, 96, .inl nu))] _ := hP
      replace hD : va_D A [(ad 3, .inl (E.2 0, 7, .inl er)), (ad 28, .inl (E.2 0, 96, .inl nu))] := hD
      replace hq_38 : r_38 = fx_b (inB i 0 ((sz (nn sheet)) - 1) = true) := hq_38
      rcases fx_bc hq_38 with ⟨hb_38, hr_38⟩ | ⟨hb_38, hr_38⟩
      · -- True
        subst hr_38
        refine lv_if_ne (tgt := 50) hx hb dX6_put_41 (by decide) (fun _ => ?_) (fun c => absurd c (by decide))
        refine lv_bipush (v := 32) hx hb dX6_put_50 rfl ?_
        refine lv_aload_n hx hb dX6_put_52 rfl (lv_at hl 0 rfl) ?_
        refine fx_get X hE (hR.at hS) 0 rfl rfl 26 rfl q1194 rfl rfl dX6_put_53 ?_
        refine lv_iload_n hx hb dX6_put_56 rfl (lv_at hl 1 rfl) ?_
        refine fx_ti (show sheet = nI (nn sheet) from (inB_nn (n := 3) hb_1 (by omega)).1) ?_
        refine fx_iald X hE (hR.at hS) 1 rfl (nn sheet) rfl (by omega) rfl dX6_put_57 ?_
        refine lv_isub hx hb dX6_put_58 ?_
        refine lv_istore (lv' := [(4, .int (32 - (bt (nn sheet)))), (0, .ref (ad 30)), (1, .int sheet), (2, .int i), (3, .int v)]) hx hb dX6_put_59 hl (by decide) rfl (fun ls hl => ?_)
        have gs := hIS.sz (k := nn sheet) (by omega)
        have gi := inB_pre (n := nn (sz (nn sheet))) (by rw [← gs.1]; exact hb_38) (by omega)
        have gs2 := gs.2
        refine lv_aload_n hx hb dX6_put_61 rfl (lv_at hl 1 rfl) ?_
        refine fx_get X hE (hR.at hS) 0 rfl rfl 28 rfl q1196 rfl rfl dX6_put_62 ?_
        refine lv_bipush (v := 24) hx hb dX6_put_65 rfl ?_
        refine lv_iload_n hx hb dX6_put_67 rfl (lv_at hl 2 rfl) ?_
        refine fx_ti (show sheet = nI (nn sheet) from (inB_nn (n := 3) hb_1 (by omega)).1) ?_
        refine lv_imul hx hb dX6_put_68 ?_
        refine fx_ti (pk_mul 24 (nn sheet)) ?_
        refine lv_iload_n hx hb dX6_put_69 rfl (lv_at hl 3 rfl) ?_
        refine fx_ti (show i = nI (nn i) from gi.1) ?_
        refine lv_iadd hx hb dX6_put_70 ?_
        refine fx_ti (nI_add (24 * (nn sheet)) (nn i)) ?_
        refine lv_iload_n hx hb dX6_put_71 rfl (lv_at hl 4 rfl) ?_
        refine lv_iload hx hb dX6_put_72 (lv_at hl 0 rfl) ?_
        refine lv_ishl hx hb dX6_put_74 ?_
        refine lv_iload hx hb dX6_put_75 (lv_at hl 0 rfl) ?_
        refine lv_ishr hx hb dX6_put_77 ?_
        refine fx_ti (show ((v <<< ((32 - (bt (nn sheet))) &&& 31)) >>> ((32 - (bt (nn sheet))) &&& 31)) = (pvF (bt (nn sheet)) v) from pv_of (hIS (nn sheet) (by omega)).1 c_19) ?_
        refine fx_iast (ws' := [(ad 3, .inl (E.2 0, 7, .inl er)), (ad 28, .inl (E.2 0, 96, .inl (upd nu (24 * (nn sheet) + nn i) (pvF (bt (nn sheet)) v))))]) X hE hP hD hS 1 rfl (24 * (nn sheet) + nn i) rfl (by omega) rfl rfl dX6_put_78 (fun H locs hP hD hS => ?_)
        refine lv_iconst (v := 1) hx hb dX6_put_79 rfl ?_
        exact hret 1 (er, (upd nu (24 * (nn sheet) + nn i) (pvF (bt (nn sheet)) v))) (by simp [put_, erI, hb_1, c_19, hb_38]) (rfl) hP hD hS (Nat.le_refl _) (Nat.le_refl _) dX6_put_80
      · -- False
        subst hr_38
        refine lv_if_ne (tgt := 50) hx hb dX6_put_41 (by decide) (fun c => (c (by decide)).elim) (fun _ => ?_)
        refine lv_aload_n hx hb dX6_put_44 rfl (lv_at hl 0 rfl) ?_
        refine lv_iconst (v := 1) hx hb dX6_put_45 rfl ?_
        refine fx_ci (va_runV (As := [.int 1]) (rest := []) X (mX6_error l E ad im at_ op st_ us bn bm la fo fi lp tr_ sp ip er 1 (by decide) _) (cwV 1 X.2.2.2.2 (lw_V q1266 q1268 qs32 q75 q1269) rfl rfl rfl ⟨rfl, hdX6_error⟩ ⟨Nat.le_of_ble_eq_true rfl, Nat.le_of_ble_eq_true rfl⟩) (fx_preV (fx_pre hE hP hD hS hR [0] rfl rfl (fx_rcr 0 rfl fx_rc0)) (va_recv hE.1 (hR.at hS) (ci := 6) (q0 := 0) rfl rfl)) rfl rfl hl.1 rfl (lv_room (Nat.le_of_ble_eq_true rfl)) dX6_put_46 ⟨Nat.le_refl _, Nat.le_refl _⟩) hP hD hS hA [0] rfl rfl (fun r_46 u H locs hq_46 hP hD hS => ?_)
        replace hP : va_P E.1 clA [(ad 3, .inl (E.2 0, 7, .inl (upd er 1 (er 1 + 1)))), (ad 28, .inl (E.2 0, 96, .inl nu))] _ := hP
        replace hD : va_D A [(ad 3, .inl (E.2 0, 7, .inl (upd er 1 (er 1 + 1)))), (ad 28, .inl (E.2 0, 96, .inl nu))] := hD
        replace hq_46 : r_46 = erv 1 := hq_46
        exact hret r_46 ((upd er 1 (er 1 + 1)), nu) (by simp [put_, erI, hq_46, hb_1, c_19, hb_38]) (rfl) hP hD hS (Nat.le_refl _) (Nat.le_refl _) dX6_put_49
    · -- fall 22
      refine lv_aload_n hx hb dX6_put_22 rfl (lv_at hl 0 rfl) ?_
      refine lv_iconst (v := 2) hx hb dX6_put_23 rfl ?_
      refine fx_ci (va_runV (As := [.int 2]) (rest := []) X (mX6_error l E ad im at_ op st_ us bn bm la fo fi lp tr_ sp ip er 2 (by decide) _) (cwV 1 X.2.2.2.2 (lw_V q1266 q1268 qs32 q75 q1269) rfl rfl rfl ⟨rfl, hdX6_error⟩ ⟨Nat.le_of_ble_eq_true rfl, Nat.le_of_ble_eq_true rfl⟩) (fx_preV (fx_pre hE hP hD hS hR [0] rfl rfl (fx_rcr 0 rfl fx_rc0)) (va_recv hE.1 (hR.at hS) (ci := 6) (q0 := 0) rfl rfl)) rfl rfl hl.1 rfl (lv_room (Nat.le_of_ble_eq_true rfl)) dX6_put_24 ⟨Nat.le_refl _, Nat.le_refl _⟩) hP hD hS hA [0] rfl rfl (fun r_24 u H locs hq_24 hP hD hS => ?_)
      replace hP : va_P E.1 clA [(ad 3, .inl (E.2 0, 7, .inl (upd er 2 (er 2 + 1)))), (ad 28, .inl (E.2 0, 96, .inl nu))] _ := hP
      replace hD : va_D A [(ad 3, .inl (E.2 0, 7, .inl (upd er 2 (er 2 + 1)))), (ad 28, .inl (E.2 0, 96, .inl nu))] := hD
      replace hq_24 : r_24 = erv 2 := hq_24
      exact hret r_24 ((upd er 2 (er 2 + 1)), nu) (by simp [put_, erI, hq_24, hb_1, eq_true c_19]) (rfl) hP hD hS (Nat.le_refl _) (Nat.le_refl _) dX6_put_27
  · -- False
    subst hr_1
    refine lv_if_ne (tgt := 13) hx hb dX6_put_4 (by decide) (fun c => (c (by decide)).elim) (fun _ => ?_)
    refine lv_aload_n hx hb dX6_put_7 rfl (lv_at hl 0 rfl) ?_
    refine lv_iconst (v := 1) hx hb dX6_put_8 rfl ?_
    refine fx_ci (va_runV (As := [.int 1]) (rest := []) X (mX6_error l E ad im at_ op st_ us bn bm la fo fi lp tr_ sp ip er 1 (by decide) _) (cwV 1 X.2.2.2.2 (lw_V q1266 q1268 qs32 q75 q1269) rfl rfl rfl ⟨rfl, hdX6_error⟩ ⟨Nat.le_of_ble_eq_true rfl, Nat.le_of_ble_eq_true rfl⟩) (fx_preV (fx_pre hE hP hD hS hR [0] rfl rfl (fx_rcr 0 rfl fx_rc0)) (va_recv hE.1 (hR.at hS) (ci := 6) (q0 := 0) rfl rfl)) rfl rfl hl.1 rfl (lv_room (Nat.le_of_ble_eq_true rfl)) dX6_put_9 ⟨Nat.le_refl _, Nat.le_refl _⟩) hP hD hS hA [0] rfl rfl (fun r_9 u H locs hq_9 hP hD hS => ?_)
    replace hP : va_P E.1 clA [(ad 3, .inl (E.2 0, 7, .inl (upd er 1 (er 1 + 1)))), (ad 28, .inl (E.2 0, 96, .inl nu))] _ := hP
    replace hD : va_D A [(ad 3, .inl (E.2 0, 7, .inl (upd er 1 (er 1 + 1)))), (ad 28, .inl (E.2 0, 96, .inl nu))] := hD
    replace hq_9 : r_9 = erv 1 := hq_9
    exact hret r_9 ((upd er 1 (er 1 + 1)), nu) (by simp [put_, erI, hq_9, hb_1]) (rfl) hP hD hS (Nat.le_refl _) (Nat.le_refl _) dX6_put_12
abbrev rmX6_prices : Room := { frames := 2, cells := 0, slots := 0, locals := 42 }
set_option maxHeartbeats 400000 in
set_option maxRecDepth 100000 in
theorem mX6_prices (l : Launch) (E : fx_En) (ad : Nat → Nat) (im : Int32) (at_ : Int32) (op : Int32) (st_ : Int32) (us : Int32) (bn : Int32) (bm : Int32) (la : Int32) (fo : Int32) (fi : Int32) (lp : Int32) (tr_ : Int32) (sp : Int32) (ip : Int32) (sa : Nat → Int32) (bt : Nat → Int32) (sz : Nat → Int32) (nu : Nat → Int32) (er : Nat → Int32) (sheet : Int32) (hIS : InvS bt sz) : fx_Mi l yX6_prices cX6_prices 3 .int rmX6_prices E [.ref (ad 30), .int sheet] [(ad 0, .inl (E.2 0, 374, .inl sa)), (ad 3, .inl (E.2 0, 7, .inl er))] [(ad 30, .inr (6, [.ref (ad 0), .ref (ad 1), .int im, .ref (ad 3), .int at_, .int op, .int st_, .int us, .ref (ad 8), .ref (ad 9), .ref (ad 10), .ref (ad 11), .ref (ad 12), .ref (ad 13), .ref (ad 14), .int bn, .int bm, .ref (ad 17), .int la, .int fo, .int fi, .int lp, .ref (ad 22), .int tr_, .int sp, .int ip, .ref (ad 26), .ref (ad 27), .ref (ad 28), .ref (ad 29)])), (ad 26, .inl (E.2 0, 4, .inl bt)), (ad 27, .inl (E.2 0, 4, .inl sz)), (ad 28, .inl (E.2 0, 96, .inl nu))] (S := (Nat → Int32) × (Nat → Int32)) (fun (u : (Nat → Int32) × (Nat → Int32)) => [(ad 0, .inl (E.2 0, 374, .inl u.1)), (ad 3, .inl (E.2 0, 7, .inl u.2))]) (fun (r : Int32) (u : (Nat → Int32) × (Nat → Int32)) => (r, u.1, u.2) = prices_ sa bt sz nu er sheet) := by
  refine fx_iW rfl rfl ?_
  intro p e s m args below meth c A ls Q X hE hP hD hR hA hl hret
  have hx := X.1
  have hb := X.2.1
  have hS : va_S A s.heap s.heap [] := va_S.rf
  replace hP : va_P E.1 clA [(ad 0, .inl (E.2 0, 374, .inl sa)), (ad 3, .inl (E.2 0, 7, .inl er))] _ := hP
  replace hD : va_D A [(ad 0, .inl (E.2 0, 374, .inl sa)), (ad 3, .inl (E.2 0, 7, .inl er))] := hD
  replace hl : lv_has ls 3 [(0, .ref (ad 30)), (1, .int sheet)] := hl
  refine lv_iload_n hx hb dX6_prices_0 rfl (lv_at hl 1 rfl) ?_
  refine fx_ci (va_runS (As := [.int sheet]) (rest := []) X (mX6_isSheet l E sheet _) (va_cwS 1 X.2.2.2.2 (lw_S q1406 q1407 q75 q1408) rfl rfl rfl hdX6_isSheet ⟨Nat.le_of_ble_eq_true rfl, Nat.le_of_ble_eq_true rfl⟩) (fx_pre hE hP hD hS hR [] rfl rfl fx_rc0) rfl rfl hl.1 rfl (lv_room (Nat.le_of_ble_eq_true rfl)) dX6_prices_1 ⟨Nat.le_refl _, Nat.le_refl _⟩) hP hD hS hA [] rfl rfl (fun r_1 u H locs hq_1 hP hD hS => ?_)
  replace hP : va_P E.1 clA [(ad 0, .inl (E.2 0, 374, .inl sa)), (ad 3, .inl (E.2 0, 7, .inl er))] _ := hP
  replace hD : va_D A [(ad 0, .inl (E.2 0, 374, .inl sa)), (ad 3, .inl (E.2 0, 7, .inl er))] := hD
  replace hq_1 : r_1 = fx_b (inB sheet 0 3 = true) := hq_1
  rcases fx_bc hq_1 with ⟨hb_1, hr_1⟩ | ⟨hb_1, hr_1⟩
  · -- True
    subst hr_1
    refine lv_if_ne (tgt := 13) hx hb dX6_prices_4 (by decide) (fun _ => ?_) (fun c => absurd c (by decide))
    refine lv_aload_n hx hb dX6_prices_13 rfl (lv_at hl 0 rfl) ?_
    refine fx_get X hE (hR.at hS) 0 rfl rfl 26 rfl q1194 rfl rfl dX6_prices_14 ?_
    refine lv_iload_n hx hb dX6_prices_17 rfl (lv_at hl 1 rfl) ?_
    refine fx_ti (show sheet = nI (nn sheet) from (inB_nn (n := 3) hb_1 (by omega)).1) ?_
    have g1 := (inB_nn (n := 3) hb_1 (by omega)).2
    refine fx_iald X hE (hR.at hS) 1 rfl (nn sheet) rfl (by omega) rfl dX6_prices_18 ?_
    refine lv_if_ne (tgt := 28) hx hb dX6_prices_19 (by decide) (fun c_19 => ?_) (fun c_19 => ?_)
    · -- jump 28
      have gs := hIS.sz (k := nn sheet) (by omega)
      have gs2 := gs.2
      refine lv_iconst (v := 0) hx hb dX6_prices_28 rfl ?_
      refine lv_istore_n (lv' := [(2, .int 0), (0, .ref (ad 30)), (1, .int sheet)]) hx hb dX6_prices_29 rfl hl (by decide) rfl (fun ls hl => ?_)
      have loop_30 : ∀ (n_30 : Nat) (ca : Nat) (s2 : Nat → Int32), (8 - ca < n_30) → (ca ≤ 8) → (s2 = prA sa nu (nn sheet) ca) → (∀ q, q < ca → prP sz nu (nn sheet) q = true) → ∀ (H : Heap) (locs : List Loc), va_P E.1 clA [(ad 0, .inl (E.2 0, 374, .inl s2)), (ad 3, .inl (E.2 0, 7, .inl er))] H → va_D A [(ad 0, .inl (E.2 0, 374, .inl s2)), (ad 3, .inl (E.2 0, 7, .inl er))] → va_S A s.heap H locs → ∀ (ls : Array Slot), lv_has ls 3 [(2, .int (nI ca)), (0, .ref (ad 30)), (1, .int sheet)] → W p l e rmX6_prices s m args below meth c H locs 0 0 Q (F0 m 30 ls []) := by
        intro n_30
        induction n_30 with
        | zero => intro ca s2 hm_30; exact absurd hm_30 (Nat.not_lt_zero _)
        | succ n_30 ih_30 =>
          intro ca s2 hm_30 hc hs2 hall H locs hP hD hS ls hl
          refine lv_iload_n hx hb dX6_prices_30 rfl (lv_at hl 0 rfl) ?_
          refine lv_aload_n hx hb dX6_prices_31 rfl (lv_at hl 1 rfl) ?_
          refine fx_get X hE (hR.at hS) 0 rfl rfl 27 rfl q1195 rfl rfl dX6_prices_32 ?_
          refine lv_iload_n hx hb dX6_prices_35 rfl (lv_at hl 2 rfl) ?_
          refine fx_ti (show sheet = nI (nn sheet) from (inB_nn (n := 3) hb_1 (by omega)).1) ?_
          refine fx_iald X hE (hR.at hS) 2 rfl (nn sheet) rfl (by omega) rfl dX6_prices_36 ?_
          refine fx_ti (show (sz (nn sheet)) = nI (nn (sz (nn sheet))) from gs.1) ?_
          refine lv_icmp_ge (tgt := 93) hx hb dX6_prices_37 (by decide) (fun c_37 => ?_) (fun c_37 => ?_)
          · -- jump 93
            have n_37 := fx_le1 (a := (nn (sz (nn sheet)))) (b := ca) c_37 (by omega) (by omega)
            have hL := ldN_stop hall (by rw [prP, decide_eq_false (by omega), Bool.false_and]) 8 hc
            refine lv_iload_n hx hb dX6_prices_93 rfl (lv_at hl 0 rfl) ?_
            exact hret (nI ca) (s2, er) (by rw [prices_, if_pos hb_1, if_neg c_19, hL, hs2]) (rfl) hP hD hS (Nat.le_refl _) (Nat.le_refl _) dX6_prices_94
          · -- fall 40
            have n_37 := fx_le0 (a := (nn (sz (nn sheet)))) (b := ca) c_37 (by omega) (by omega)
            refine lv_iload_n hx hb dX6_prices_40 rfl (lv_at hl 0 rfl) ?_
            refine lv_bipush (v := 8) hx hb dX6_prices_41 rfl ?_
            refine lv_icmp_ge (tgt := 93) hx hb dX6_prices_43 (by decide) (fun c_43 => ?_) (fun c_43 => ?_)
            · -- jump 93
              have n_43 := fx_le1 (a := 8) (b := ca) c_43 (by omega) (by omega)
              obtain rfl : ca = 8 := by omega
              have hL := ldN_all hall
              refine lv_iload_n hx hb dX6_prices_93 rfl (lv_at hl 0 rfl) ?_
              exact hret (nI 8) (s2, er) (by rw [prices_, if_pos hb_1, if_neg c_19, hL, hs2]) (rfl) hP hD hS (Nat.le_refl _) (Nat.le_refl _) dX6_prices_94
            · -- fall 46
              have n_43 := fx_le0 (a := 8) (b := ca) c_43 (by omega) (by omega)
              refine lv_aload_n hx hb dX6_prices_46 rfl (lv_at hl 1 rfl) ?_
              refine fx_get X hE (hR.at hS) 0 rfl rfl 28 rfl q1196 rfl rfl dX6_prices_47 ?_
              refine lv_bipush (v := 24) hx hb dX6_prices_50 rfl ?_
              refine lv_iload_n hx hb dX6_prices_52 rfl (lv_at hl 2 rfl) ?_
              refine fx_ti (show sheet = nI (nn sheet) from (inB_nn (n := 3) hb_1 (by omega)).1) ?_
              refine lv_imul hx hb dX6_prices_53 ?_
              refine fx_ti (pk_mul 24 (nn sheet)) ?_
              refine lv_iload_n hx hb dX6_prices_54 rfl (lv_at hl 0 rfl) ?_
              refine lv_iadd hx hb dX6_prices_55 ?_
              refine fx_ti (nI_add (24 * (nn sheet)) ca) ?_
              refine fx_iald X hE (hR.at hS) 3 rfl (24 * (nn sheet) + ca) rfl (by omega) rfl dX6_prices_56 ?_
              refine lv_iconst (v := 1) hx hb dX6_prices_57 rfl ?_
              refine lv_sipush (v := 9999) hx hb dX6_prices_58 rfl ?_
              refine fx_ci (va_runS (As := [.int (nu (24 * (nn sheet) + ca)), .int 1, .int 9999]) (rest := []) X (mX6_in l E (nu (24 * (nn sheet) + ca)) 1 9999 _) (va_cwS 3 X.2.2.2.2 (lw_S q1263 q1264 q75 q1265) rfl rfl rfl hdX6_in ⟨Nat.le_of_ble_eq_true rfl, Nat.le_of_ble_eq_true rfl⟩) (fx_pre hE hP hD hS hR [] rfl rfl fx_rc0) rfl rfl hl.1 rfl (lv_room (Nat.le_of_ble_eq_true rfl)) dX6_prices_61 ⟨Nat.le_refl _, Nat.le_refl _⟩) hP hD hS hA [] rfl rfl (fun r_61 u H locs hq_61 hP hD hS => ?_)
              replace hP : va_P E.1 clA [(ad 0, .inl (E.2 0, 374, .inl s2)), (ad 3, .inl (E.2 0, 7, .inl er))] _ := hP
              replace hD : va_D A [(ad 0, .inl (E.2 0, 374, .inl s2)), (ad 3, .inl (E.2 0, 7, .inl er))] := hD
              replace hq_61 : r_61 = fx_b (inB (nu (24 * (nn sheet) + ca)) 1 9999 = true) := hq_61
              rcases fx_bc hq_61 with ⟨hb_61, hr_61⟩ | ⟨hb_61, hr_61⟩
              · -- True
                subst hr_61
                refine lv_if_eq (tgt := 93) hx hb dX6_prices_64 (by decide) (fun c => absurd c (by decide)) (fun _ => ?_)
                refine lv_aload_n hx hb dX6_prices_67 rfl (lv_at hl 1 rfl) ?_
                refine fx_get X hE (hR.at hS) 0 rfl rfl 0 rfl q1168 rfl rfl dX6_prices_68 ?_
                refine lv_bipush (v := 8) hx hb dX6_prices_71 rfl ?_
                refine lv_iload_n hx hb dX6_prices_73 rfl (lv_at hl 0 rfl) ?_
                refine lv_iadd hx hb dX6_prices_74 ?_
                refine fx_ti (nI_add 8 ca) ?_
                refine lv_aload_n hx hb dX6_prices_75 rfl (lv_at hl 1 rfl) ?_
                refine fx_get X hE (hR.at hS) 0 rfl rfl 28 rfl q1196 rfl rfl dX6_prices_76 ?_
                refine lv_bipush (v := 24) hx hb dX6_prices_79 rfl ?_
                refine lv_iload_n hx hb dX6_prices_81 rfl (lv_at hl 2 rfl) ?_
                refine fx_ti (show sheet = nI (nn sheet) from (inB_nn (n := 3) hb_1 (by omega)).1) ?_
                refine lv_imul hx hb dX6_prices_82 ?_
                refine fx_ti (pk_mul 24 (nn sheet)) ?_
                refine lv_iload_n hx hb dX6_prices_83 rfl (lv_at hl 0 rfl) ?_
                refine lv_iadd hx hb dX6_prices_84 ?_
                refine fx_ti (nI_add (24 * (nn sheet)) ca) ?_
                refine fx_iald X hE (hR.at hS) 3 rfl (24 * (nn sheet) + ca) rfl (by omega) rfl dX6_prices_85 ?_
                refine fx_iast (ws' := [(ad 0, .inl (E.2 0, 374, .inl (upd s2 (8 + ca) (nu (24 * (nn sheet) + ca))))), (ad 3, .inl (E.2 0, 7, .inl er))]) X hE hP hD hS 0 rfl (8 + ca) rfl (by omega) rfl rfl dX6_prices_86 (fun H locs hP hD hS => ?_)
                refine lv_iinc (v := nI (ca + 1)) (lv' := [(2, .int (nI (ca + 1))), (0, .ref (ad 30)), (1, .int sheet)]) hx hb dX6_prices_87 hl (k := 0) rfl (fx_inc _) (by decide) rfl (fun ls hl => ?_)
                refine lv_goto (tgt := 30) hx hb dX6_prices_90 (by decide) ?_
                exact ih_30 (ca + 1) (upd s2 (8 + ca) (nu (24 * (nn sheet) + ca))) (by omega) (by omega) (prA_s hs2) (fun q hq => by rcases Nat.lt_or_ge q ca with z | z; exact hall q z; rw [show q = ca by omega, prP, hb_61, Bool.and_true]; exact decide_eq_true n_37) _ _ hP hD hS ls (lv_sub hl [0, 1, 2] rfl)
              · -- False
                subst hr_61
                have hL := ldN_stop hall (by rw [prP, Bool.eq_false_iff.2 hb_61, Bool.and_false]) 8 hc
                refine lv_if_eq (tgt := 93) hx hb dX6_prices_64 (by decide) (fun _ => ?_) (fun c => (c (by decide)).elim)
                refine lv_iload_n hx hb dX6_prices_93 rfl (lv_at hl 0 rfl) ?_
                exact hret (nI ca) (s2, er) (by rw [prices_, if_pos hb_1, if_neg c_19, hL, hs2]) (rfl) hP hD hS (Nat.le_refl _) (Nat.le_refl _) dX6_prices_94
      exact loop_30 ((8 - 0) + 1) 0 sa (Nat.lt_succ_self _) (by omega) (prA_0 _ _ _) (fun q hq => absurd hq (Nat.not_lt_zero _)) _ _ hP hD hS ls (lv_sub hl [0, 1, 2] rfl)
    · -- fall 22
      refine lv_aload_n hx hb dX6_prices_22 rfl (lv_at hl 0 rfl) ?_
      refine lv_iconst (v := 2) hx hb dX6_prices_23 rfl ?_
      refine fx_ci (va_runV (As := [.int 2]) (rest := []) X (mX6_error l E ad im at_ op st_ us bn bm la fo fi lp tr_ sp ip er 2 (by decide) _) (cwV 1 X.2.2.2.2 (lw_V q1266 q1268 qs32 q75 q1269) rfl rfl rfl ⟨rfl, hdX6_error⟩ ⟨Nat.le_of_ble_eq_true rfl, Nat.le_of_ble_eq_true rfl⟩) (fx_preV (fx_pre hE hP hD hS hR [1] rfl rfl (fx_rcr 0 rfl fx_rc0)) (va_recv hE.1 (hR.at hS) (ci := 6) (q0 := 0) rfl rfl)) rfl rfl hl.1 rfl (lv_room (Nat.le_of_ble_eq_true rfl)) dX6_prices_24 ⟨Nat.le_refl _, Nat.le_refl _⟩) hP hD hS hA [1] rfl rfl (fun r_24 u H locs hq_24 hP hD hS => ?_)
      replace hP : va_P E.1 clA [(ad 0, .inl (E.2 0, 374, .inl sa)), (ad 3, .inl (E.2 0, 7, .inl (upd er 2 (er 2 + 1))))] _ := hP
      replace hD : va_D A [(ad 0, .inl (E.2 0, 374, .inl sa)), (ad 3, .inl (E.2 0, 7, .inl (upd er 2 (er 2 + 1))))] := hD
      replace hq_24 : r_24 = erv 2 := hq_24
      exact hret r_24 (sa, (upd er 2 (er 2 + 1))) (by simp [prices_, erI, hq_24, hb_1, eq_true c_19]) (rfl) hP hD hS (Nat.le_refl _) (Nat.le_refl _) dX6_prices_27
  · -- False
    subst hr_1
    refine lv_if_ne (tgt := 13) hx hb dX6_prices_4 (by decide) (fun c => (c (by decide)).elim) (fun _ => ?_)
    refine lv_aload_n hx hb dX6_prices_7 rfl (lv_at hl 0 rfl) ?_
    refine lv_iconst (v := 1) hx hb dX6_prices_8 rfl ?_
    refine fx_ci (va_runV (As := [.int 1]) (rest := []) X (mX6_error l E ad im at_ op st_ us bn bm la fo fi lp tr_ sp ip er 1 (by decide) _) (cwV 1 X.2.2.2.2 (lw_V q1266 q1268 qs32 q75 q1269) rfl rfl rfl ⟨rfl, hdX6_error⟩ ⟨Nat.le_of_ble_eq_true rfl, Nat.le_of_ble_eq_true rfl⟩) (fx_preV (fx_pre hE hP hD hS hR [1] rfl rfl (fx_rcr 0 rfl fx_rc0)) (va_recv hE.1 (hR.at hS) (ci := 6) (q0 := 0) rfl rfl)) rfl rfl hl.1 rfl (lv_room (Nat.le_of_ble_eq_true rfl)) dX6_prices_9 ⟨Nat.le_refl _, Nat.le_refl _⟩) hP hD hS hA [1] rfl rfl (fun r_9 u H locs hq_9 hP hD hS => ?_)
    replace hP : va_P E.1 clA [(ad 0, .inl (E.2 0, 374, .inl sa)), (ad 3, .inl (E.2 0, 7, .inl (upd er 1 (er 1 + 1))))] _ := hP
    replace hD : va_D A [(ad 0, .inl (E.2 0, 374, .inl sa)), (ad 3, .inl (E.2 0, 7, .inl (upd er 1 (er 1 + 1))))] := hD
    replace hq_9 : r_9 = erv 1 := hq_9
    exact hret r_9 (sa, (upd er 1 (er 1 + 1))) (by simp [prices_, erI, hq_9, hb_1]) (rfl) hP hD hS (Nat.le_refl _) (Nat.le_refl _) dX6_prices_12
abbrev rmX6_image : Room := { frames := 1, cells := 0, slots := 0, locals := 22 }
set_option maxHeartbeats 400000 in
set_option maxRecDepth 100000 in
theorem mX6_image (l : Launch) (E : fx_En) (ad : Nat → Nat) (im : Int32) (at_ : Int32) (op : Int32) (st_ : Int32) (us : Int32) (bn : Int32) (bm : Int32) (la : Int32) (fo : Int32) (fi : Int32) (lp : Int32) (tr_ : Int32) (sp : Int32) (ip : Int32) (sa : Nat → Int32) (ka : Nat → Int32) : fx_Mi l yX6_image cX6_image 1 .int rmX6_image E [.ref (ad 30)] [(ad 30, .inr (6, [.ref (ad 0), .ref (ad 1), .int im, .ref (ad 3), .int at_, .int op, .int st_, .int us, .ref (ad 8), .ref (ad 9), .ref (ad 10), .ref (ad 11), .ref (ad 12), .ref (ad 13), .ref (ad 14), .int bn, .int bm, .ref (ad 17), .int la, .int fo, .int fi, .int lp, .ref (ad 22), .int tr_, .int sp, .int ip, .ref (ad 26), .ref (ad 27), .ref (ad 28), .ref (ad 29)])), (ad 1, .inl (E.2 0, 374, .inl ka))] [(ad 0, .inl (E.2 0, 374, .inl sa))] (S := Unit) (fun (u : Unit) => [(ad 30, .inr (6, [.ref (ad 0), .ref (ad 1), .int (im + 1), .ref (ad 3), .int at_, .int op, .int st_, .int us, .ref (ad 8), .ref (ad 9), .ref (ad 10), .ref (ad 11), .ref (ad 12), .ref (ad 13), .ref (ad 14), .int bn, .int bm, .ref (ad 17), .int la, .int fo, .int fi, .int lp, .ref (ad 22), .int tr_, .int sp, .int ip, .ref (ad 26), .ref (ad 27), .ref (ad 28), .ref (ad 29)])), (ad 1, .inl (E.2 0, 374, .inl (cpyN 374 sa ka)))]) (fun (r : Int32) (u : Unit) => r = im + 1) := by
  refine fx_iW rfl rfl ?_
  intro p e s m args below meth c A ls Q X hE hP hD hR hA hl hret
  have hx := X.1
  have hb := X.2.1
  have hS : va_S A s.heap s.heap [] := va_S.rf
  replace hP : va_P E.1 clA [(ad 30, .inr (6, [.ref (ad 0), .ref (ad 1), .int im, .ref (ad 3), .int at_, .int op, .int st_, .int us, .ref (ad 8), .ref (ad 9), .ref (ad 10), .ref (ad 11), .ref (ad 12), .ref (ad 13), .ref (ad 14), .int bn, .int bm, .ref (ad 17), .int la, .int fo, .int fi, .int lp, .ref (ad 22), .int tr_, .int sp, .int ip, .ref (ad 26), .ref (ad 27), .ref (ad 28), .ref (ad 29)])), (ad 1, .inl (E.2 0, 374, .inl ka))] _ := hP
  replace hD : va_D A [(ad 30, .inr (6, [.ref (ad 0), .ref (ad 1), .int im, .ref (ad 3), .int at_, .int op, .int st_, .int us, .ref (ad 8), .ref (ad 9), .ref (ad 10), .ref (ad 11), .ref (ad 12), .ref (ad 13), .ref (ad 14), .int bn, .int bm, .ref (ad 17), .int la, .int fo, .int fi, .int lp, .ref (ad 22), .int tr_, .int sp, .int ip, .ref (ad 26), .ref (ad 27), .ref (ad 28), .ref (ad 29)])), (ad 1, .inl (E.2 0, 374, .inl ka))] := hD
  replace hl : lv_has ls 1 [(0, .ref (ad 30))] := hl
  refine lv_aload_n hx hb dX6_image_0 rfl (lv_at hl 0 rfl) ?_
  refine fx_get X hE hP 0 rfl rfl 0 rfl q1168 rfl rfl dX6_image_1 ?_
  refine lv_aload_n hx hb dX6_image_4 rfl (lv_at hl 0 rfl) ?_
  refine fx_get X hE hP 0 rfl rfl 1 rfl q1169 rfl rfl dX6_image_5 ?_
  refine fx_cv (va_runS (As := [.ref (ad 0), .ref (ad 1)]) (rest := []) X (mX6_carry l E (ad 0) (ad 1) sa ka _) (va_cwS 2 X.2.2.2.2 (lw_S q1564 q1565 q75 q1566) rfl rfl rfl hdX6_carry ⟨Nat.le_of_ble_eq_true rfl, Nat.le_of_ble_eq_true rfl⟩) (fx_pre hE hP hD hS hR [1] rfl rfl (fx_rcr 0 rfl fx_rc0)) rfl rfl hl.1 rfl (lv_room (Nat.le_of_ble_eq_true rfl)) dX6_image_8 ⟨Nat.le_refl _, Nat.le_refl _⟩) hP hD hS hA [1] rfl rfl (fun u H locs hq_8 hP hD hS => ?_)
  replace hP : va_P E.1 clA [(ad 30, .inr (6, [.ref (ad 0), .ref (ad 1), .int im, .ref (ad 3), .int at_, .int op, .int st_, .int us, .ref (ad 8), .ref (ad 9), .ref (ad 10), .ref (ad 11), .ref (ad 12), .ref (ad 13), .ref (ad 14), .int bn, .int bm, .ref (ad 17), .int la, .int fo, .int fi, .int lp, .ref (ad 22), .int tr_, .int sp, .int ip, .ref (ad 26), .ref (ad 27), .ref (ad 28), .ref (ad 29)])), (ad 1, .inl (E.2 0, 374, .inl (cpyN 374 sa ka)))] _ := hP
  replace hD : va_D A [(ad 30, .inr (6, [.ref (ad 0), .ref (ad 1), .int im, .ref (ad 3), .int at_, .int op, .int st_, .int us, .ref (ad 8), .ref (ad 9), .ref (ad 10), .ref (ad 11), .ref (ad 12), .ref (ad 13), .ref (ad 14), .int bn, .int bm, .ref (ad 17), .int la, .int fo, .int fi, .int lp, .ref (ad 22), .int tr_, .int sp, .int ip, .ref (ad 26), .ref (ad 27), .ref (ad 28), .ref (ad 29)])), (ad 1, .inl (E.2 0, 374, .inl (cpyN 374 sa ka)))] := hD
  replace hq_8 : True := hq_8
  refine lv_aload_n hx hb dX6_image_11 rfl (lv_at hl 0 rfl) ?_
  refine lv_dup hx hb dX6_image_12 rfl ?_
  refine fx_get X hE hP 0 rfl rfl 2 rfl q1170 rfl rfl dX6_image_13 ?_
  refine lv_iconst (v := 1) hx hb dX6_image_16 rfl ?_
  refine lv_iadd hx hb dX6_image_17 ?_
  refine fx_put_ (ws' := [(ad 30, .inr (6, [.ref (ad 0), .ref (ad 1), .int (im + 1), .ref (ad 3), .int at_, .int op, .int st_, .int us, .ref (ad 8), .ref (ad 9), .ref (ad 10), .ref (ad 11), .ref (ad 12), .ref (ad 13), .ref (ad 14), .int bn, .int bm, .ref (ad 17), .int la, .int fo, .int fi, .int lp, .ref (ad 22), .int tr_, .int sp, .int ip, .ref (ad 26), .ref (ad 27), .ref (ad 28), .ref (ad 29)])), (ad 1, .inl (E.2 0, 374, .inl (cpyN 374 sa ka)))]) X hE hP hD hS 0 rfl rfl tyX6_ok nmX6 2 rfl q1170 rfl rfl rfl rfl rfl rfl dX6_image_18 (fun H locs hP hD hS => ?_)
  refine lv_aload_n hx hb dX6_image_21 rfl (lv_at hl 0 rfl) ?_
  refine fx_get X hE hP 0 rfl rfl 2 rfl q1170 rfl rfl dX6_image_22 ?_
  exact hret (im + 1) () (rfl) (rfl) hP hD hS (Nat.le_refl _) (Nat.le_refl _) dX6_image_25
abbrev rmX6_restore : Room := { frames := 1, cells := 0, slots := 0, locals := 22 }
set_option maxHeartbeats 400000 in
set_option maxRecDepth 100000 in
theorem mX6_restore (l : Launch) (E : fx_En) (ad : Nat → Nat) (im : Int32) (at_ : Int32) (op : Int32) (st_ : Int32) (us : Int32) (bn : Int32) (bm : Int32) (la : Int32) (fo : Int32) (fi : Int32) (lp : Int32) (tr_ : Int32) (sp : Int32) (ip : Int32) (sa : Nat → Int32) (ka : Nat → Int32) (er : Nat → Int32) : fx_Mi l yX6_restore cX6_restore 1 .int rmX6_restore E [.ref (ad 30)] [(ad 0, .inl (E.2 0, 374, .inl sa)), (ad 3, .inl (E.2 0, 7, .inl er))] [(ad 30, .inr (6, [.ref (ad 0), .ref (ad 1), .int im, .ref (ad 3), .int at_, .int op, .int st_, .int us, .ref (ad 8), .ref (ad 9), .ref (ad 10), .ref (ad 11), .ref (ad 12), .ref (ad 13), .ref (ad 14), .int bn, .int bm, .ref (ad 17), .int la, .int fo, .int fi, .int lp, .ref (ad 22), .int tr_, .int sp, .int ip, .ref (ad 26), .ref (ad 27), .ref (ad 28), .ref (ad 29)])), (ad 1, .inl (E.2 0, 374, .inl ka))] (S := (Nat → Int32) × (Nat → Int32)) (fun (u : (Nat → Int32) × (Nat → Int32)) => [(ad 0, .inl (E.2 0, 374, .inl u.1)), (ad 3, .inl (E.2 0, 7, .inl u.2))]) (fun (r : Int32) (u : (Nat → Int32) × (Nat → Int32)) => (r, u.1, u.2) = restore_ sa ka er im) := by
  refine fx_iW rfl rfl ?_
  intro p e s m args below meth c A ls Q X hE hP hD hR hA hl hret
  have hx := X.1
  have hb := X.2.1
  have hS : va_S A s.heap s.heap [] := va_S.rf
  replace hP : va_P E.1 clA [(ad 0, .inl (E.2 0, 374, .inl sa)), (ad 3, .inl (E.2 0, 7, .inl er))] _ := hP
  replace hD : va_D A [(ad 0, .inl (E.2 0, 374, .inl sa)), (ad 3, .inl (E.2 0, 7, .inl er))] := hD
  replace hl : lv_has ls 1 [(0, .ref (ad 30))] := hl
  refine lv_aload_n hx hb dX6_restore_0 rfl (lv_at hl 0 rfl) ?_
  refine fx_get X hE (hR.at hS) 0 rfl rfl 2 rfl q1170 rfl rfl dX6_restore_1 ?_
  refine lv_if_ne (tgt := 13) hx hb dX6_restore_4 (by decide) (fun c_4 => ?_) (fun c_4 => ?_)
  · -- jump 13
    refine lv_aload_n hx hb dX6_restore_13 rfl (lv_at hl 0 rfl) ?_
    refine fx_get X hE (hR.at hS) 0 rfl rfl 1 rfl q1169 rfl rfl dX6_restore_14 ?_
    refine lv_aload_n hx hb dX6_restore_17 rfl (lv_at hl 0 rfl) ?_
    refine fx_get X hE (hR.at hS) 0 rfl rfl 0 rfl q1168 rfl rfl dX6_restore_18 ?_
    refine fx_cv (va_runS (As := [.ref (ad 1), .ref (ad 0)]) (rest := []) X (mX6_carry l E (ad 1) (ad 0) ka sa _) (va_cwS 2 X.2.2.2.2 (lw_S q1564 q1565 q75 q1566) rfl rfl rfl hdX6_carry ⟨Nat.le_of_ble_eq_true rfl, Nat.le_of_ble_eq_true rfl⟩) (fx_pre hE hP hD hS hR [0] rfl rfl (fx_rcr 1 rfl fx_rc0)) rfl rfl hl.1 rfl (lv_room (Nat.le_of_ble_eq_true rfl)) dX6_restore_21 ⟨Nat.le_refl _, Nat.le_refl _⟩) hP hD hS hA [0] rfl rfl (fun u H locs hq_21 hP hD hS => ?_)
    replace hP : va_P E.1 clA [(ad 0, .inl (E.2 0, 374, .inl (cpyN 374 ka sa))), (ad 3, .inl (E.2 0, 7, .inl er))] _ := hP
    replace hD : va_D A [(ad 0, .inl (E.2 0, 374, .inl (cpyN 374 ka sa))), (ad 3, .inl (E.2 0, 7, .inl er))] := hD
    replace hq_21 : True := hq_21
    refine lv_aload_n hx hb dX6_restore_24 rfl (lv_at hl 0 rfl) ?_
    refine fx_get X hE (hR.at hS) 0 rfl rfl 0 rfl q1168 rfl rfl dX6_restore_25 ?_
    refine lv_iconst (v := 0) hx hb dX6_restore_28 rfl ?_
    refine fx_iald X hE hP 0 rfl 0 rfl (by decide) rfl dX6_restore_29 ?_
    refine fx_ti (show ((cpyN 374 ka sa) 0) = (ka 0) from rfl) ?_
    exact hret (ka 0) ((cpyN 374 ka sa), er) (by simp [restore_, erI, c_4]) (rfl) hP hD hS (Nat.le_refl _) (Nat.le_refl _) dX6_restore_30
  · -- fall 7
    refine lv_aload_n hx hb dX6_restore_7 rfl (lv_at hl 0 rfl) ?_
    refine lv_iconst (v := 2) hx hb dX6_restore_8 rfl ?_
    refine fx_ci (va_runV (As := [.int 2]) (rest := []) X (mX6_error l E ad im at_ op st_ us bn bm la fo fi lp tr_ sp ip er 2 (by decide) _) (cwV 1 X.2.2.2.2 (lw_V q1266 q1268 qs32 q75 q1269) rfl rfl rfl ⟨rfl, hdX6_error⟩ ⟨Nat.le_of_ble_eq_true rfl, Nat.le_of_ble_eq_true rfl⟩) (fx_preV (fx_pre hE hP hD hS hR [1] rfl rfl (fx_rcr 0 rfl fx_rc0)) (va_recv hE.1 (hR.at hS) (ci := 6) (q0 := 0) rfl rfl)) rfl rfl hl.1 rfl (lv_room (Nat.le_of_ble_eq_true rfl)) dX6_restore_9 ⟨Nat.le_refl _, Nat.le_refl _⟩) hP hD hS hA [1] rfl rfl (fun r_9 u H locs hq_9 hP hD hS => ?_)
    replace hP : va_P E.1 clA [(ad 0, .inl (E.2 0, 374, .inl sa)), (ad 3, .inl (E.2 0, 7, .inl (upd er 2 (er 2 + 1))))] _ := hP
    replace hD : va_D A [(ad 0, .inl (E.2 0, 374, .inl sa)), (ad 3, .inl (E.2 0, 7, .inl (upd er 2 (er 2 + 1))))] := hD
    replace hq_9 : r_9 = erv 2 := hq_9
    exact hret r_9 (sa, (upd er 2 (er 2 + 1))) (by simp [restore_, erI, hq_9, eq_true c_4]) (rfl) hP hD hS (Nat.le_refl _) (Nat.le_refl _) dX6_restore_12
abbrev rmX6_tell : Room := { frames := 1, cells := 0, slots := 0, locals := 21 }
set_option maxHeartbeats 400000 in
set_option maxRecDepth 100000 in
theorem mX6_tell (l : Launch) (E : fx_En) (ad : Nat → Nat) (im : Int32) (at_ : Int32) (op : Int32) (st_ : Int32) (us : Int32) (bn : Int32) (bm : Int32) (la : Int32) (fo : Int32) (fi : Int32) (lp : Int32) (tr_ : Int32) (sp : Int32) (ip : Int32) (sa : Nat → Int32) (er : Nat → Int32) (v : Int32) (hI : Inv sa) : fx_Mi l yX6_tell cX6_tell 2 .int rmX6_tell E [.ref (ad 30), .int v] [(ad 0, .inl (E.2 0, 374, .inl sa)), (ad 3, .inl (E.2 0, 7, .inl er))] [(ad 30, .inr (6, [.ref (ad 0), .ref (ad 1), .int im, .ref (ad 3), .int at_, .int op, .int st_, .int us, .ref (ad 8), .ref (ad 9), .ref (ad 10), .ref (ad 11), .ref (ad 12), .ref (ad 13), .ref (ad 14), .int bn, .int bm, .ref (ad 17), .int la, .int fo, .int fi, .int lp, .ref (ad 22), .int tr_, .int sp, .int ip, .ref (ad 26), .ref (ad 27), .ref (ad 28), .ref (ad 29)]))] (S := (Nat → Int32) × (Nat → Int32)) (fun (u : (Nat → Int32) × (Nat → Int32)) => [(ad 0, .inl (E.2 0, 374, .inl u.1)), (ad 3, .inl (E.2 0, 7, .inl u.2))]) (fun (r : Int32) (u : (Nat → Int32) × (Nat → Int32)) => (r, u.1, u.2) = tell_ sa er v) := by
  refine fx_iW rfl rfl ?_
  intro p e s m args below meth c A ls Q X hE hP hD hR hA hl hret
  have hx := X.1
  have hb := X.2.1
  have hS : va_S A s.heap s.heap [] := va_S.rf
  replace hP : va_P E.1 clA [(ad 0, .inl (E.2 0, 374, .inl sa)), (ad 3, .inl (E.2 0, 7, .inl er))] _ := hP
  replace hD : va_D A [(ad 0, .inl (E.2 0, 374, .inl sa)), (ad 3, .inl (E.2 0, 7, .inl er))] := hD
  replace hl : lv_has ls 2 [(0, .ref (ad 30)), (1, .int v)] := hl
  have hw := hI.waits.2
  refine lv_aload_n hx hb dX6_tell_0 rfl (lv_at hl 0 rfl) ?_
  refine fx_get X hE (hR.at hS) 0 rfl rfl 0 rfl q1168 rfl rfl dX6_tell_1 ?_
  refine lv_iconst (v := 4) hx hb dX6_tell_4 rfl ?_
  refine fx_iald X hE hP 0 rfl 4 rfl (by decide) rfl dX6_tell_5 ?_
  refine fx_ti (show (sa 4) = nI (nn (sa 4)) from hI.waits.1) ?_
  refine lv_bipush (v := 24) hx hb dX6_tell_6 rfl ?_
  refine lv_icmp_ne (tgt := 17) hx hb dX6_tell_8 (by decide) (fun c_8 => ?_) (fun c_8 => ?_)
  · -- jump 17
    have n_8 := fx_eq0 (a := (nn (sa 4))) (b := 24) c_8 (by omega) (by omega)
    have h4 : ¬ sa 4 = 24 := by rw [hI.waits.1]; exact c_8
    refine lv_aload_n hx hb dX6_tell_17 rfl (lv_at hl 0 rfl) ?_
    refine fx_get X hE (hR.at hS) 0 rfl rfl 0 rfl q1168 rfl rfl dX6_tell_18 ?_
    refine lv_sipush (v := 350) hx hb dX6_tell_21 rfl ?_
    refine lv_aload_n hx hb dX6_tell_24 rfl (lv_at hl 0 rfl) ?_
    refine fx_get X hE (hR.at hS) 0 rfl rfl 0 rfl q1168 rfl rfl dX6_tell_25 ?_
    refine lv_iconst (v := 4) hx hb dX6_tell_28 rfl ?_
    refine fx_iald X hE hP 0 rfl 4 rfl (by decide) rfl dX6_tell_29 ?_
    refine fx_ti (show (sa 4) = nI (nn (sa 4)) from hI.waits.1) ?_
    refine lv_iadd hx hb dX6_tell_30 ?_
    refine fx_ti (nI_add 350 (nn (sa 4))) ?_
    refine lv_iload_n hx hb dX6_tell_31 rfl (lv_at hl 1 rfl) ?_
    refine fx_iast (ws' := [(ad 0, .inl (E.2 0, 374, .inl (upd sa (350 + nn (sa 4)) v))), (ad 3, .inl (E.2 0, 7, .inl er))]) X hE hP hD hS 0 rfl (350 + nn (sa 4)) rfl (by omega) rfl rfl dX6_tell_32 (fun H locs hP hD hS => ?_)
    refine lv_aload_n hx hb dX6_tell_33 rfl (lv_at hl 0 rfl) ?_
    refine fx_get X hE (hR.at hS) 0 rfl rfl 0 rfl q1168 rfl rfl dX6_tell_34 ?_
    refine lv_iconst (v := 4) hx hb dX6_tell_37 rfl ?_
    refine lv_dup2_11 hx hb dX6_tell_38 rfl rfl ?_
    refine fx_iald X hE hP 0 rfl 4 rfl (by decide) rfl dX6_tell_39 ?_
    refine fx_ti (show ((upd sa (350 + nn (sa 4)) v) 4) = nI (nn (sa 4)) from (upd_n _ _ (by omega)).trans hI.waits.1) ?_
    refine lv_iconst (v := 1) hx hb dX6_tell_40 rfl ?_
    refine lv_iadd hx hb dX6_tell_41 ?_
    refine fx_ti (nI_add (nn (sa 4)) 1) ?_
    refine fx_iast (ws' := [(ad 0, .inl (E.2 0, 374, .inl (upd (upd sa (350 + nn (sa 4)) v) 4 (nI (nn (sa 4) + 1))))), (ad 3, .inl (E.2 0, 7, .inl er))]) X hE hP hD hS 0 rfl 4 rfl (by decide) rfl rfl dX6_tell_42 (fun H locs hP hD hS => ?_)
    refine lv_aload_n hx hb dX6_tell_43 rfl (lv_at hl 0 rfl) ?_
    refine fx_get X hE (hR.at hS) 0 rfl rfl 0 rfl q1168 rfl rfl dX6_tell_44 ?_
    refine lv_iconst (v := 4) hx hb dX6_tell_47 rfl ?_
    refine fx_iald X hE hP 0 rfl 4 rfl (by decide) rfl dX6_tell_48 ?_
    refine fx_ti (show ((upd (upd sa (350 + nn (sa 4)) v) 4 (nI (nn (sa 4) + 1))) 4) = nI (nn (sa 4) + 1) from upd_s _ _ _) ?_
    exact hret (nI (nn (sa 4) + 1)) ((upd (upd sa (350 + nn (sa 4)) v) 4 (nI (nn (sa 4) + 1))), er) (by rw [tell_, if_neg h4]) (rfl) hP hD hS (Nat.le_refl _) (Nat.le_refl _) dX6_tell_49
  · -- fall 11
    have n_8 := fx_eq1 (a := (nn (sa 4))) (b := 24) c_8 (by omega) (by omega)
    have h4 : sa 4 = 24 := by rw [hI.waits.1]; exact c_8
    refine lv_aload_n hx hb dX6_tell_11 rfl (lv_at hl 0 rfl) ?_
    refine lv_iconst (v := 4) hx hb dX6_tell_12 rfl ?_
    refine fx_ci (va_runV (As := [.int 4]) (rest := []) X (mX6_error l E ad im at_ op st_ us bn bm la fo fi lp tr_ sp ip er 4 (by decide) _) (cwV 1 X.2.2.2.2 (lw_V q1266 q1268 qs32 q75 q1269) rfl rfl rfl ⟨rfl, hdX6_error⟩ ⟨Nat.le_of_ble_eq_true rfl, Nat.le_of_ble_eq_true rfl⟩) (fx_preV (fx_pre hE hP hD hS hR [1] rfl rfl (fx_rcr 0 rfl fx_rc0)) (va_recv hE.1 (hR.at hS) (ci := 6) (q0 := 0) rfl rfl)) rfl rfl hl.1 rfl (lv_room (Nat.le_of_ble_eq_true rfl)) dX6_tell_13 ⟨Nat.le_refl _, Nat.le_refl _⟩) hP hD hS hA [1] rfl rfl (fun r_13 u H locs hq_13 hP hD hS => ?_)
    replace hP : va_P E.1 clA [(ad 0, .inl (E.2 0, 374, .inl sa)), (ad 3, .inl (E.2 0, 7, .inl (upd er 4 (er 4 + 1))))] _ := hP
    replace hD : va_D A [(ad 0, .inl (E.2 0, 374, .inl sa)), (ad 3, .inl (E.2 0, 7, .inl (upd er 4 (er 4 + 1))))] := hD
    replace hq_13 : r_13 = erv 4 := hq_13
    exact hret r_13 (sa, (upd er 4 (er 4 + 1))) (by rw [hq_13, tell_, if_pos h4]; rfl) (rfl) hP hD hS (Nat.le_refl _) (Nat.le_refl _) dX6_tell_16
abbrev rmX6_check : Room := { frames := 3, cells := 0, slots := 0, locals := 73 }
set_option maxHeartbeats 400000 in
set_option maxRecDepth 100000 in
theorem mX6_check (l : Launch) (E : fx_En) (ad : Nat → Nat) (im : Int32) (at_ : Int32) (op : Int32) (st_ : Int32) (us : Int32) (bn : Int32) (bm : Int32) (la : Int32) (fo : Int32) (fi : Int32) (lp : Int32) (tr_ : Int32) (sp : Int32) (ip : Int32) (sa : Nat → Int32) (er : Nat → Int32) (nmd : Nat → Int32) (pl : Nat → Int32) (til : Int32) (T : Tx) (hI : Inv sa) (hT : TM sa 0 T) (hTo : TOk T) : fx_Mi l yX6_check cX6_check 4 .int rmX6_check E [.ref (ad 30), .int til] [(ad 0, .inl (E.2 0, 374, .inl sa)), (ad 3, .inl (E.2 0, 7, .inl er)), (ad 9, .inl (E.2 0, 128, .inl nmd)), (ad 10, .inl (E.2 0, 64, .inl pl))] [(ad 30, .inr (6, [.ref (ad 0), .ref (ad 1), .int im, .ref (ad 3), .int at_, .int op, .int st_, .int us, .ref (ad 8), .ref (ad 9), .ref (ad 10), .ref (ad 11), .ref (ad 12), .ref (ad 13), .ref (ad 14), .int bn, .int bm, .ref (ad 17), .int la, .int fo, .int fi, .int lp, .ref (ad 22), .int tr_, .int sp, .int ip, .ref (ad 26), .ref (ad 27), .ref (ad 28), .ref (ad 29)]))] (S := (Nat → Int32) × (Nat → Int32) × (Nat → Int32) × (Nat → Int32)) (fun (u : (Nat → Int32) × (Nat → Int32) × (Nat → Int32) × (Nat → Int32)) => [(ad 0, .inl (E.2 0, 374, .inl u.1)), (ad 3, .inl (E.2 0, 7, .inl u.2.1)), (ad 9, .inl (E.2 0, 128, .inl u.2.2.1)), (ad 10, .inl (E.2 0, 64, .inl u.2.2.2))]) (fun (r : Int32) (u : (Nat → Int32) × (Nat → Int32) × (Nat → Int32) × (Nat → Int32)) => (r, u.1, u.2.1) = check_ sa er T til) := by
  refine fx_iW rfl rfl ?_
  intro p e s m args below meth c A ls Q X hE hP hD hR hA hl hret
  have hx := X.1
  have hb := X.2.1
  have hS : va_S A s.heap s.heap [] := va_S.rf
  replace hP : va_P E.1 clA [(ad 0, .inl (E.2 0, 374, .inl sa)), (ad 3, .inl (E.2 0, 7, .inl er)), (ad 9, .inl (E.2 0, 128, .inl nmd)), (ad 10, .inl (E.2 0, 64, .inl pl))] _ := hP
  replace hD : va_D A [(ad 0, .inl (E.2 0, 374, .inl sa)), (ad 3, .inl (E.2 0, 7, .inl er)), (ad 9, .inl (E.2 0, 128, .inl nmd)), (ad 10, .inl (E.2 0, 64, .inl pl))] := hD
  replace hl : lv_has ls 4 [(0, .ref (ad 30)), (1, .int til)] := hl
  have hw := hI.waits.2
  have hT4 : TM (upd sa 4 0) 0 T := TM_upd (by omega) (by omega) hTo hT
  refine lv_aload_n hx hb dX6_check_0 rfl (lv_at hl 0 rfl) ?_
  refine fx_get X hE (hR.at hS) 0 rfl rfl 0 rfl q1168 rfl rfl dX6_check_1 ?_
  refine lv_iconst (v := 4) hx hb dX6_check_4 rfl ?_
  refine fx_iald X hE hP 0 rfl 4 rfl (by decide) rfl dX6_check_5 ?_
  refine fx_ti (show (sa 4) = nI (nn (sa 4)) from hI.waits.1) ?_
  refine lv_istore_n (lv' := [(2, .int (nI (nn (sa 4)))), (0, .ref (ad 30)), (1, .int til)]) hx hb dX6_check_6 rfl hl (by decide) rfl (fun ls hl => ?_)
  refine lv_aload_n hx hb dX6_check_7 rfl (lv_at hl 1 rfl) ?_
  refine fx_get X hE (hR.at hS) 0 rfl rfl 0 rfl q1168 rfl rfl dX6_check_8 ?_
  refine lv_iconst (v := 4) hx hb dX6_check_11 rfl ?_
  refine lv_iconst (v := 0) hx hb dX6_check_12 rfl ?_
  refine fx_iast (ws' := [(ad 0, .inl (E.2 0, 374, .inl (upd sa 4 0))), (ad 3, .inl (E.2 0, 7, .inl er)), (ad 9, .inl (E.2 0, 128, .inl nmd)), (ad 10, .inl (E.2 0, 64, .inl pl))]) X hE hP hD hS 0 rfl 4 rfl (by decide) rfl rfl dX6_check_13 (fun H locs hP hD hS => ?_)
  refine lv_iload_n hx hb dX6_check_14 rfl (lv_at hl 2 rfl) ?_
  refine fx_ci (va_runS (As := [.int til]) (rest := []) X (mX6_isTill l E til _) (va_cwS 1 X.2.2.2.2 (lw_S q1357 q1358 q75 q1359) rfl rfl rfl hdX6_isTill ⟨Nat.le_of_ble_eq_true rfl, Nat.le_of_ble_eq_true rfl⟩) (fx_pre hE hP hD hS hR [] rfl rfl fx_rc0) rfl rfl hl.1 rfl (lv_room (Nat.le_of_ble_eq_true rfl)) dX6_check_15 ⟨Nat.le_refl _, Nat.le_refl _⟩) hP hD hS hA [] rfl rfl (fun r_15 u H locs hq_15 hP hD hS => ?_)
  replace hP : va_P E.1 clA [(ad 0, .inl (E.2 0, 374, .inl (upd sa 4 0))), (ad 3, .inl (E.2 0, 7, .inl er)), (ad 9, .inl (E.2 0, 128, .inl nmd)), (ad 10, .inl (E.2 0, 64, .inl pl))] _ := hP
  replace hD : va_D A [(ad 0, .inl (E.2 0, 374, .inl (upd sa 4 0))), (ad 3, .inl (E.2 0, 7, .inl er)), (ad 9, .inl (E.2 0, 128, .inl nmd)), (ad 10, .inl (E.2 0, 64, .inl pl))] := hD
  replace hq_15 : r_15 = fx_b (inB til 0 3 = true) := hq_15
  rcases fx_bc hq_15 with ⟨hb_15, hr_15⟩ | ⟨hb_15, hr_15⟩
  · -- True
    subst hr_15
    refine lv_if_ne (tgt := 27) hx hb dX6_check_18 (by decide) (fun _ => ?_) (fun c => absurd c (by decide))
    have g1 := (inB_nn (n := 3) hb_15 (by omega)).2
    refine lv_iconst (v := 0) hx hb dX6_check_27 rfl ?_
    refine lv_istore_n (lv' := [(3, .int 0), (2, .int (nI (nn (sa 4)))), (0, .ref (ad 30)), (1, .int til)]) hx hb dX6_check_28 rfl hl (by decide) rfl (fun ls hl => ?_)
    have loop_29 : ∀ (n_29 : Nat) (i : Nat) (nz : Nat → Int32) (pz : Nat → Int32), (nn (sa 4) - i < n_29) → (i ≤ nn (sa 4)) → (∀ q, q < i → ckP sa T (nn til) q = true) → ∀ (H : Heap) (locs : List Loc), va_P E.1 clA [(ad 0, .inl (E.2 0, 374, .inl (upd sa 4 0))), (ad 3, .inl (E.2 0, 7, .inl er)), (ad 9, .inl (E.2 0, 128, .inl nz)), (ad 10, .inl (E.2 0, 64, .inl pz))] H → va_D A [(ad 0, .inl (E.2 0, 374, .inl (upd sa 4 0))), (ad 3, .inl (E.2 0, 7, .inl er)), (ad 9, .inl (E.2 0, 128, .inl nz)), (ad 10, .inl (E.2 0, 64, .inl pz))] → va_S A s.heap H locs → ∀ (ls : Array Slot), lv_has ls 4 [(3, .int (nI i)), (2, .int (nI (nn (sa 4)))), (0, .ref (ad 30)), (1, .int til)] → W p l e rmX6_check s m args below meth c H locs 0 0 Q (F0 m 29 ls []) := by
      intro n_29
      induction n_29 with
      | zero => intro i nz pz hm_29; exact absurd hm_29 (Nat.not_lt_zero _)
      | succ n_29 ih_29 =>
        intro i nz pz hm_29 hi hall H locs hP hD hS ls hl
        refine lv_iload_n hx hb dX6_check_29 rfl (lv_at hl 0 rfl) ?_
        refine lv_iload_n hx hb dX6_check_30 rfl (lv_at hl 1 rfl) ?_
        refine lv_icmp_ge (tgt := 62) hx hb dX6_check_31 (by decide) (fun c_31 => ?_) (fun c_31 => ?_)
        · -- jump 62
          have n_31 := fx_le1 (a := (nn (sa 4))) (b := i) c_31 (by omega) (by omega)
          obtain rfl : i = nn (sa 4) := by omega
          have hL := ldN_all hall
          refine lv_iload_n hx hb dX6_check_62 rfl (lv_at hl 0 rfl) ?_
          refine lv_iload_n hx hb dX6_check_63 rfl (lv_at hl 1 rfl) ?_
          refine lv_icmp_ne (tgt := 71) hx hb dX6_check_64 (by decide) (fun c_64 => ?_) (fun c_64 => ?_)
          · -- jump 71
            have n_64 := fx_eq0 (a := (nn (sa 4))) (b := (nn (sa 4))) c_64 (by omega) (by omega)
            exact absurd rfl n_64
          · -- fall 67
            have n_64 := fx_eq1 (a := (nn (sa 4))) (b := (nn (sa 4))) c_64 (by omega) (by omega)
            refine lv_iconst (v := 0) hx hb dX6_check_67 rfl ?_
            refine lv_goto (tgt := 74) hx hb dX6_check_68 (by decide) ?_
            exact hret 0 ((upd sa 4 0), er, nz, pz) (by rw [check_, if_pos hb_15, hL, if_pos (Eq.refl _)]) (rfl) hP hD hS (Nat.le_refl _) (Nat.le_refl _) dX6_check_74
        · -- fall 34
          have n_31 := fx_le0 (a := (nn (sa 4))) (b := i) c_31 (by omega) (by omega)
          refine lv_aload_n hx hb dX6_check_34 rfl (lv_at hl 2 rfl) ?_
          refine fx_get X hE (hR.at hS) 0 rfl rfl 0 rfl q1168 rfl rfl dX6_check_35 ?_
          refine lv_sipush (v := 350) hx hb dX6_check_38 rfl ?_
          refine lv_iload_n hx hb dX6_check_41 rfl (lv_at hl 0 rfl) ?_
          refine lv_iadd hx hb dX6_check_42 ?_
          refine fx_ti (nI_add 350 i) ?_
          refine fx_iald X hE hP 0 rfl (350 + i) rfl (by omega) rfl dX6_check_43 ?_
          refine fx_ti (show ((upd sa 4 0) (350 + i)) = (sa (350 + i)) from upd_n _ _ (by omega)) ?_
          refine lv_aload_n hx hb dX6_check_44 rfl (lv_at hl 2 rfl) ?_
          refine lv_iload_n hx hb dX6_check_45 rfl (lv_at hl 3 rfl) ?_
          refine fx_ti (show til = nI (nn til) from (inB_nn (n := 3) hb_15 (by omega)).1) ?_
          refine lv_iconst (v := 1) hx hb dX6_check_46 rfl ?_
          refine lv_iload_n hx hb dX6_check_47 rfl (lv_at hl 0 rfl) ?_
          refine lv_iadd hx hb dX6_check_48 ?_
          refine fx_ti (nI_add 1 i) ?_
          refine lv_iconst (v := 1) hx hb dX6_check_49 rfl ?_
          refine fx_ci (va_runV (As := [.int (nI (nn til)), .int (nI (1 + i)), .int 1]) (rest := [.int (sa (350 + i))]) X (mX6_asked l E ad im at_ op st_ us bn bm la fo fi lp tr_ sp ip (upd sa 4 0) nz pz (nn til) (1 + i) 1 (nn (sa (32 + 2 * (nn til)))) (nn (sa (32 + 2 * (nn til) + 1))) T (by omega) ((upd_n _ _ (by omega)).trans (hI.kd (by omega)).1) ((hI.kd (by omega)).2) ((upd_n _ _ (by omega)).trans (hI.m (by omega)).1) ((hI.m (by omega)).2) hT4 (by first | assumption | omega) (by omega) (by decide) _) (cwV 3 X.2.2.2.2 (lw_V q1391 q1393 qs49 q75 q1394) rfl rfl rfl ⟨rfl, hdX6_asked⟩ ⟨Nat.le_of_ble_eq_true rfl, Nat.le_of_ble_eq_true rfl⟩) (fx_preV (fx_pre hE hP hD hS hR [2, 3] rfl rfl (fx_rcr 0 rfl (fx_rcm 0 rfl (by decide) fx_rc0))) (va_recv hE.1 (hR.at hS) (ci := 6) (q0 := 0) rfl rfl)) rfl rfl hl.1 rfl (lv_room (Nat.le_of_ble_eq_true rfl)) dX6_check_50 ⟨Nat.le_refl _, Nat.le_refl _⟩) hP hD hS hA [2, 3] rfl rfl (fun r_50 u H locs hq_50 hP hD hS => ?_)
          obtain ⟨nm2_50, pl2_50⟩ := u
          replace hP : va_P E.1 clA [(ad 0, .inl (E.2 0, 374, .inl (upd sa 4 0))), (ad 3, .inl (E.2 0, 7, .inl er)), (ad 9, .inl (E.2 0, 128, .inl nm2_50)), (ad 10, .inl (E.2 0, 64, .inl pl2_50))] _ := hP
          replace hD : va_D A [(ad 0, .inl (E.2 0, 374, .inl (upd sa 4 0))), (ad 3, .inl (E.2 0, 7, .inl er)), (ad 9, .inl (E.2 0, 128, .inl nm2_50)), (ad 10, .inl (E.2 0, 64, .inl pl2_50))] := hD
          replace hq_50 : r_50 = askF (nn (sa (32 + 2 * (nn til)))) (nn (sa (32 + 2 * (nn til) + 1))) T (1 + i) 1 := hq_50
          refine fx_ti (show r_50 = (askT sa T (nn til) (i + 1) 1) from hq_50.trans (by rw [Nat.add_comm 1 i]; rfl)) ?_
          refine lv_icmp_ne (tgt := 62) hx hb dX6_check_53 (by decide) (fun c_53 => ?_) (fun c_53 => ?_)
          · -- jump 62
            have hL := ldN_stop hall (decide_eq_false c_53) (nn (sa 4)) hi
            refine lv_iload_n hx hb dX6_check_62 rfl (lv_at hl 0 rfl) ?_
            refine lv_iload_n hx hb dX6_check_63 rfl (lv_at hl 1 rfl) ?_
            refine lv_icmp_ne (tgt := 71) hx hb dX6_check_64 (by decide) (fun c_64 => ?_) (fun c_64 => ?_)
            · -- jump 71
              have n_64 := fx_eq0 (a := i) (b := (nn (sa 4))) c_64 (by omega) (by omega)
              refine lv_iconst (v := 1) hx hb dX6_check_71 rfl ?_
              refine lv_iload_n hx hb dX6_check_72 rfl (lv_at hl 0 rfl) ?_
              refine lv_iadd hx hb dX6_check_73 ?_
              refine fx_ti (nI_add 1 i) ?_
              exact hret (nI (1 + i)) ((upd sa 4 0), er, nm2_50, pl2_50) (by rw [check_, if_pos hb_15, hL, if_neg n_64]) (rfl) hP hD hS (Nat.le_refl _) (Nat.le_refl _) dX6_check_74
            · -- fall 67
              have n_64 := fx_eq1 (a := i) (b := (nn (sa 4))) c_64 (by omega) (by omega)
              exact absurd n_64 (by omega)
          · -- fall 56
            refine lv_iinc (v := nI (i + 1)) (lv' := [(3, .int (nI (i + 1))), (2, .int (nI (nn (sa 4)))), (0, .ref (ad 30)), (1, .int til)]) hx hb dX6_check_56 hl (k := 0) rfl (fx_inc _) (by decide) rfl (fun ls hl => ?_)
            refine lv_goto (tgt := 29) hx hb dX6_check_59 (by decide) ?_
            exact ih_29 (i + 1) nm2_50 pl2_50 (by omega) (by omega) (fun q hq => by rcases Nat.lt_or_ge q i with z | z; exact hall q z; rw [show q = i by omega]; exact decide_eq_true c_53) _ _ hP hD hS ls (lv_sub hl [0, 1, 2, 3] rfl)
    exact loop_29 ((nn (sa 4) - 0) + 1) 0 nmd pl (Nat.lt_succ_self _) (Nat.zero_le _) (fun q hq => absurd hq (Nat.not_lt_zero _)) _ _ hP hD hS ls (lv_sub hl [0, 1, 2, 3] rfl)
  · -- False
    subst hr_15
    refine lv_if_ne (tgt := 27) hx hb dX6_check_18 (by decide) (fun c => (c (by decide)).elim) (fun _ => ?_)
    refine lv_aload_n hx hb dX6_check_21 rfl (lv_at hl 1 rfl) ?_
    refine lv_iconst (v := 1) hx hb dX6_check_22 rfl ?_
    refine fx_ci (va_runV (As := [.int 1]) (rest := []) X (mX6_error l E ad im at_ op st_ us bn bm la fo fi lp tr_ sp ip er 1 (by decide) _) (cwV 1 X.2.2.2.2 (lw_V q1266 q1268 qs32 q75 q1269) rfl rfl rfl ⟨rfl, hdX6_error⟩ ⟨Nat.le_of_ble_eq_true rfl, Nat.le_of_ble_eq_true rfl⟩) (fx_preV (fx_pre hE hP hD hS hR [1] rfl rfl (fx_rcr 0 rfl fx_rc0)) (va_recv hE.1 (hR.at hS) (ci := 6) (q0 := 0) rfl rfl)) rfl rfl hl.1 rfl (lv_room (Nat.le_of_ble_eq_true rfl)) dX6_check_23 ⟨Nat.le_refl _, Nat.le_refl _⟩) hP hD hS hA [1] rfl rfl (fun r_23 u H locs hq_23 hP hD hS => ?_)
    replace hP : va_P E.1 clA [(ad 0, .inl (E.2 0, 374, .inl (upd sa 4 0))), (ad 3, .inl (E.2 0, 7, .inl (upd er 1 (er 1 + 1)))), (ad 9, .inl (E.2 0, 128, .inl nmd)), (ad 10, .inl (E.2 0, 64, .inl pl))] _ := hP
    replace hD : va_D A [(ad 0, .inl (E.2 0, 374, .inl (upd sa 4 0))), (ad 3, .inl (E.2 0, 7, .inl (upd er 1 (er 1 + 1)))), (ad 9, .inl (E.2 0, 128, .inl nmd)), (ad 10, .inl (E.2 0, 64, .inl pl))] := hD
    replace hq_23 : r_23 = erv 1 := hq_23
    exact hret r_23 ((upd sa 4 0), (upd er 1 (er 1 + 1)), nmd, pl) (by rw [hq_23]; simp [check_, hb_15, erI]) (rfl) hP hD hS (Nat.le_refl _) (Nat.le_refl _) dX6_check_26
abbrev rmX6_count : Room := { frames := 1, cells := 0, slots := 0, locals := 21 }
set_option maxHeartbeats 400000 in
set_option maxRecDepth 100000 in
theorem mX6_count (l : Launch) (E : fx_En) (ad : Nat → Nat) (im : Int32) (at_ : Int32) (op : Int32) (st_ : Int32) (us : Int32) (bn : Int32) (bm : Int32) (la : Int32) (fo : Int32) (fi : Int32) (lp : Int32) (sp : Int32) (ip : Int32) (tn : Nat) (sa : Nat → Int32) (er : Nat → Int32) (wh : Int32) : fx_Mi l yX6_count cX6_count 4 .int rmX6_count E [.ref (ad 30), .int wh] [(ad 3, .inl (E.2 0, 7, .inl er))] [(ad 30, .inr (6, [.ref (ad 0), .ref (ad 1), .int im, .ref (ad 3), .int at_, .int op, .int st_, .int us, .ref (ad 8), .ref (ad 9), .ref (ad 10), .ref (ad 11), .ref (ad 12), .ref (ad 13), .ref (ad 14), .int bn, .int bm, .ref (ad 17), .int la, .int fo, .int fi, .int lp, .ref (ad 22), .int (nI tn), .int sp, .int ip, .ref (ad 26), .ref (ad 27), .ref (ad 28), .ref (ad 29)])), (ad 0, .inl (E.2 0, 374, .inl sa))] (S := (Nat → Int32)) (fun (u : (Nat → Int32)) => [(ad 3, .inl (E.2 0, 7, .inl u))]) (fun (r : Int32) (u : (Nat → Int32)) => (r, u) = count_ sa er tn wh) := by
  refine fx_iW rfl rfl ?_
  intro p e s m args below meth c A ls Q X hE hP hD hR hA hl hret
  have hx := X.1
  have hb := X.2.1
  have hS : va_S A s.heap s.heap [] := va_S.rf
  replace hP : va_P E.1 clA [(ad 3, .inl (E.2 0, 7, .inl er))] _ := hP
  replace hD : va_D A [(ad 3, .inl (E.2 0, 7, .inl er))] := hD
  replace hl : lv_has ls 4 [(0, .ref (ad 30)), (1, .int wh)] := hl
  refine lv_iconst (v := 0) hx hb dX6_count_0 rfl ?_
  refine lv_istore_n (lv' := [(2, .int 0), (0, .ref (ad 30)), (1, .int wh)]) hx hb dX6_count_1 rfl hl (by decide) rfl (fun ls hl => ?_)
  refine lv_iconst (v := 0) hx hb dX6_count_2 rfl ?_
  refine lv_istore_n (lv' := [(3, .int 0), (2, .int 0), (0, .ref (ad 30)), (1, .int wh)]) hx hb dX6_count_3 rfl hl (by decide) rfl (fun ls hl => ?_)
  have loop_4 : ∀ (n_4 : Nat) (t : Nat), (8 - t < n_4) → (t ≤ 8) → ∀ (H : Heap) (locs : List Loc), va_P E.1 clA [(ad 3, .inl (E.2 0, 7, .inl er))] H → va_D A [(ad 3, .inl (E.2 0, 7, .inl er))] → va_S A s.heap H locs → ∀ (ls : Array Slot), lv_has ls 4 [(3, .int (nI t)), (2, .int (l_sum (fun i_ => sa (24 + i_)) t)), (0, .ref (ad 30)), (1, .int wh)] → W p l e rmX6_count s m args below meth c H locs 0 0 Q (F0 m 4 ls []) := by
    intro n_4
    induction n_4 with
    | zero => intro t hm_4; exact absurd hm_4 (Nat.not_lt_zero _)
    | succ n_4 ih_4 =>
      intro t hm_4 ht H locs hP hD hS ls hl
      refine lv_iload_n hx hb dX6_count_4 rfl (lv_at hl 0 rfl) ?_
      refine lv_bipush (v := 8) hx hb dX6_count_5 rfl ?_
      refine lv_icmp_ge (tgt := 28) hx hb dX6_count_7 (by decide) (fun c_7 => ?_) (fun c_7 => ?_)
      · -- jump 28
        have n_7 := fx_le1 (a := 8) (b := t) c_7 (by omega) (by omega)
        obtain rfl : t = 8 := by omega
        rcases cnt8 wh with rfl | rfl | rfl | rfl | rfl | rfl | rfl | rfl | hno
        ·
          refine lv_iload_n hx hb dX6_count_28 rfl (lv_at hl 3 rfl) ?_
          refine lv_tableIn (tgt := 76) (off := 47) hx hb dX6_count_29 (by decide) (by decide) rfl (by decide) ?_
          refine lv_aload_n hx hb dX6_count_76 rfl (lv_at hl 2 rfl) ?_
          refine fx_get X hE (hR.at hS) 0 rfl rfl 0 rfl q1168 rfl rfl dX6_count_77 ?_
          refine lv_iconst (v := 0) hx hb dX6_count_80 rfl ?_
          refine fx_iald X hE (hR.at hS) 1 rfl 0 rfl (by decide) rfl dX6_count_81 ?_
          exact hret (sa 0) (er) (by simp [count_]) (rfl) hP hD hS (Nat.le_refl _) (Nat.le_refl _) dX6_count_82
        ·
          refine lv_iload_n hx hb dX6_count_28 rfl (lv_at hl 3 rfl) ?_
          refine lv_tableIn (tgt := 83) (off := 54) hx hb dX6_count_29 (by decide) (by decide) rfl (by decide) ?_
          refine lv_aload_n hx hb dX6_count_83 rfl (lv_at hl 2 rfl) ?_
          refine fx_get X hE (hR.at hS) 0 rfl rfl 0 rfl q1168 rfl rfl dX6_count_84 ?_
          refine lv_iconst (v := 1) hx hb dX6_count_87 rfl ?_
          refine fx_iald X hE (hR.at hS) 1 rfl 1 rfl (by decide) rfl dX6_count_88 ?_
          exact hret (sa 1) (er) (by simp [count_]) (rfl) hP hD hS (Nat.le_refl _) (Nat.le_refl _) dX6_count_89
        ·
          refine lv_iload_n hx hb dX6_count_28 rfl (lv_at hl 3 rfl) ?_
          refine lv_tableIn (tgt := 90) (off := 61) hx hb dX6_count_29 (by decide) (by decide) rfl (by decide) ?_
          refine lv_aload_n hx hb dX6_count_90 rfl (lv_at hl 2 rfl) ?_
          refine fx_get X hE (hR.at hS) 0 rfl rfl 0 rfl q1168 rfl rfl dX6_count_91 ?_
          refine lv_iconst (v := 2) hx hb dX6_count_94 rfl ?_
          refine fx_iald X hE (hR.at hS) 1 rfl 2 rfl (by decide) rfl dX6_count_95 ?_
          exact hret (sa 2) (er) (by simp [count_]) (rfl) hP hD hS (Nat.le_refl _) (Nat.le_refl _) dX6_count_96
        ·
          refine lv_iload_n hx hb dX6_count_28 rfl (lv_at hl 3 rfl) ?_
          refine lv_tableIn (tgt := 97) (off := 68) hx hb dX6_count_29 (by decide) (by decide) rfl (by decide) ?_
          refine lv_iload_n hx hb dX6_count_97 rfl (lv_at hl 1 rfl) ?_
          exact hret (l_sum (fun i_ => sa (24 + i_)) 8) (er) (by simp [count_]) (rfl) hP hD hS (Nat.le_refl _) (Nat.le_refl _) dX6_count_98
        ·
          refine lv_iload_n hx hb dX6_count_28 rfl (lv_at hl 3 rfl) ?_
          refine lv_tableIn (tgt := 99) (off := 70) hx hb dX6_count_29 (by decide) (by decide) rfl (by decide) ?_
          refine lv_aload_n hx hb dX6_count_99 rfl (lv_at hl 2 rfl) ?_
          refine fx_get X hE (hR.at hS) 0 rfl rfl 0 rfl q1168 rfl rfl dX6_count_100 ?_
          refine lv_iconst (v := 3) hx hb dX6_count_103 rfl ?_
          refine fx_iald X hE (hR.at hS) 1 rfl 3 rfl (by decide) rfl dX6_count_104 ?_
          exact hret (sa 3) (er) (by simp [count_]) (rfl) hP hD hS (Nat.le_refl _) (Nat.le_refl _) dX6_count_105
        ·
          refine lv_iload_n hx hb dX6_count_28 rfl (lv_at hl 3 rfl) ?_
          refine lv_tableIn (tgt := 106) (off := 77) hx hb dX6_count_29 (by decide) (by decide) rfl (by decide) ?_
          refine lv_aload_n hx hb dX6_count_106 rfl (lv_at hl 2 rfl) ?_
          refine fx_get X hE (hR.at hS) 0 rfl rfl 0 rfl q1168 rfl rfl dX6_count_107 ?_
          refine lv_iconst (v := 4) hx hb dX6_count_110 rfl ?_
          refine fx_iald X hE (hR.at hS) 1 rfl 4 rfl (by decide) rfl dX6_count_111 ?_
          exact hret (sa 4) (er) (by simp [count_]) (rfl) hP hD hS (Nat.le_refl _) (Nat.le_refl _) dX6_count_112
        ·
          refine lv_iload_n hx hb dX6_count_28 rfl (lv_at hl 3 rfl) ?_
          refine lv_tableIn (tgt := 113) (off := 84) hx hb dX6_count_29 (by decide) (by decide) rfl (by decide) ?_
          refine lv_aload_n hx hb dX6_count_113 rfl (lv_at hl 2 rfl) ?_
          refine fx_get X hE (hR.at hS) 0 rfl rfl 23 rfl q1191 rfl rfl dX6_count_114 ?_
          exact hret (nI tn) (er) (by simp [count_]) (rfl) hP hD hS (Nat.le_refl _) (Nat.le_refl _) dX6_count_117
        ·
          refine lv_iload_n hx hb dX6_count_28 rfl (lv_at hl 3 rfl) ?_
          refine lv_tableIn (tgt := 118) (off := 89) hx hb dX6_count_29 (by decide) (by decide) rfl (by decide) ?_
          refine lv_aload_n hx hb dX6_count_118 rfl (lv_at hl 2 rfl) ?_
          refine fx_get X hE (hR.at hS) 0 rfl rfl 0 rfl q1168 rfl rfl dX6_count_119 ?_
          refine lv_iconst (v := 5) hx hb dX6_count_122 rfl ?_
          refine fx_iald X hE (hR.at hS) 1 rfl 5 rfl (by decide) rfl dX6_count_123 ?_
          exact hret (sa 5) (er) (by simp [count_]) (rfl) hP hD hS (Nat.le_refl _) (Nat.le_refl _) dX6_count_124
        ·
          have hno8 := cnt8_no hno
          refine lv_iload_n hx hb dX6_count_28 rfl (lv_at hl 3 rfl) ?_
          refine lv_tableOut (tgt := 125) hx hb dX6_count_29 hno (by decide) ?_
          refine lv_aload_n hx hb dX6_count_125 rfl (lv_at hl 2 rfl) ?_
          refine lv_iconst (v := 1) hx hb dX6_count_126 rfl ?_
          refine fx_ci (va_runV (As := [.int 1]) (rest := []) X (mX6_error l E ad im at_ op st_ us bn bm la fo fi lp (nI tn) sp ip er 1 (by decide) _) (cwV 1 X.2.2.2.2 (lw_V q1266 q1268 qs32 q75 q1269) rfl rfl rfl ⟨rfl, hdX6_error⟩ ⟨Nat.le_of_ble_eq_true rfl, Nat.le_of_ble_eq_true rfl⟩) (fx_preV (fx_pre hE hP hD hS hR [0] rfl rfl (fx_rcr 0 rfl fx_rc0)) (va_recv hE.1 (hR.at hS) (ci := 6) (q0 := 0) rfl rfl)) rfl rfl hl.1 rfl (lv_room (Nat.le_of_ble_eq_true rfl)) dX6_count_127 ⟨Nat.le_refl _, Nat.le_refl _⟩) hP hD hS hA [0] rfl rfl (fun r_127 u H locs hq_127 hP hD hS => ?_)
          replace hP : va_P E.1 clA [(ad 3, .inl (E.2 0, 7, .inl (upd er 1 (er 1 + 1))))] _ := hP
          replace hD : va_D A [(ad 3, .inl (E.2 0, 7, .inl (upd er 1 (er 1 + 1))))] := hD
          replace hq_127 : r_127 = erv 1 := hq_127
          exact hret r_127 ((upd er 1 (er 1 + 1))) (by simp [count_, hq_127, hno8, erI]) (rfl) hP hD hS (Nat.le_refl _) (Nat.le_refl _) dX6_count_130
      · -- fall 10
        have n_7 := fx_le0 (a := 8) (b := t) c_7 (by omega) (by omega)
        refine lv_iload_n hx hb dX6_count_10 rfl (lv_at hl 1 rfl) ?_
        refine lv_aload_n hx hb dX6_count_11 rfl (lv_at hl 2 rfl) ?_
        refine fx_get X hE (hR.at hS) 0 rfl rfl 0 rfl q1168 rfl rfl dX6_count_12 ?_
        refine lv_bipush (v := 24) hx hb dX6_count_15 rfl ?_
        refine lv_iload_n hx hb dX6_count_17 rfl (lv_at hl 0 rfl) ?_
        refine lv_iadd hx hb dX6_count_18 ?_
        refine fx_ti (nI_add 24 t) ?_
        refine fx_iald X hE (hR.at hS) 1 rfl (24 + t) rfl (by omega) rfl dX6_count_19 ?_
        refine lv_iadd hx hb dX6_count_20 ?_
        refine lv_istore_n (lv' := [(2, .int ((l_sum (fun i_ => sa (24 + i_)) t) + (sa (24 + t)))), (3, .int (nI t)), (0, .ref (ad 30)), (1, .int wh)]) hx hb dX6_count_21 rfl hl (by decide) rfl (fun ls hl => ?_)
        refine lv_iinc (v := nI (t + 1)) (lv' := [(3, .int (nI (t + 1))), (2, .int ((l_sum (fun i_ => sa (24 + i_)) t) + (sa (24 + t)))), (0, .ref (ad 30)), (1, .int wh)]) hx hb dX6_count_22 hl (k := 1) rfl (fx_inc _) (by decide) rfl (fun ls hl => ?_)
        refine lv_goto (tgt := 4) hx hb dX6_count_25 (by decide) ?_
        exact ih_4 (t + 1) (by omega) (by omega) _ _ hP hD hS ls (lv_sub hl [0, 1, 2, 3] rfl)
  exact loop_4 ((8 - 0) + 1) 0 (Nat.lt_succ_self _) (by omega) _ _ hP hD hS ls (lv_sub hl [0, 1, 2, 3] rfl)
abbrev rmX6_told : Room := { frames := 1, cells := 0, slots := 0, locals := 22 }
set_option maxHeartbeats 400000 in
set_option maxRecDepth 100000 in
theorem mX6_told (l : Launch) (E : fx_En) (ad : Nat → Nat) (im : Int32) (at_ : Int32) (op : Int32) (st_ : Int32) (us : Int32) (bn : Int32) (bm : Int32) (la : Int32) (fo : Int32) (fi : Int32) (lp : Int32) (tr_ : Int32) (sp : Int32) (ip : Int32) (er : Nat → Int32) (kw : Int32) : fx_Mi l yX6_told cX6_told 2 .int rmX6_told E [.ref (ad 30), .int kw] [(ad 3, .inl (E.2 0, 7, .inl er))] [(ad 30, .inr (6, [.ref (ad 0), .ref (ad 1), .int im, .ref (ad 3), .int at_, .int op, .int st_, .int us, .ref (ad 8), .ref (ad 9), .ref (ad 10), .ref (ad 11), .ref (ad 12), .ref (ad 13), .ref (ad 14), .int bn, .int bm, .ref (ad 17), .int la, .int fo, .int fi, .int lp, .ref (ad 22), .int tr_, .int sp, .int ip, .ref (ad 26), .ref (ad 27), .ref (ad 28), .ref (ad 29)]))] (S := (Nat → Int32)) (fun (u : (Nat → Int32)) => [(ad 3, .inl (E.2 0, 7, .inl u))]) (fun (r : Int32) (u : (Nat → Int32)) => (r, u) = told_ er kw) := by
  refine fx_iW rfl rfl ?_
  intro p e s m args below meth c A ls Q X hE hP hD hR hA hl hret
  have hx := X.1
  have hb := X.2.1
  have hS : va_S A s.heap s.heap [] := va_S.rf
  replace hP : va_P E.1 clA [(ad 3, .inl (E.2 0, 7, .inl er))] _ := hP
  replace hD : va_D A [(ad 3, .inl (E.2 0, 7, .inl er))] := hD
  replace hl : lv_has ls 2 [(0, .ref (ad 30)), (1, .int kw)] := hl
  refine lv_iload_n hx hb dX6_told_0 rfl (lv_at hl 1 rfl) ?_
  refine lv_iconst (v := 1) hx hb dX6_told_1 rfl ?_
  refine lv_bipush (v := 6) hx hb dX6_told_2 rfl ?_
  refine fx_ci (va_runS (As := [.int kw, .int 1, .int 6]) (rest := []) X (mX6_in l E kw 1 6 _) (va_cwS 3 X.2.2.2.2 (lw_S q1263 q1264 q75 q1265) rfl rfl rfl hdX6_in ⟨Nat.le_of_ble_eq_true rfl, Nat.le_of_ble_eq_true rfl⟩) (fx_pre hE hP hD hS hR [] rfl rfl fx_rc0) rfl rfl hl.1 rfl (lv_room (Nat.le_of_ble_eq_true rfl)) dX6_told_4 ⟨Nat.le_refl _, Nat.le_refl _⟩) hP hD hS hA [] rfl rfl (fun r_4 u H locs hq_4 hP hD hS => ?_)
  replace hP : va_P E.1 clA [(ad 3, .inl (E.2 0, 7, .inl er))] _ := hP
  replace hD : va_D A [(ad 3, .inl (E.2 0, 7, .inl er))] := hD
  replace hq_4 : r_4 = fx_b (inB kw 1 6 = true) := hq_4
  rcases fx_bc hq_4 with ⟨hb_4, hr_4⟩ | ⟨hb_4, hr_4⟩
  · -- True
    subst hr_4
    refine lv_if_eq (tgt := 19) hx hb dX6_told_7 (by decide) (fun c => absurd c (by decide)) (fun _ => ?_)
    refine lv_aload_n hx hb dX6_told_10 rfl (lv_at hl 0 rfl) ?_
    refine fx_get X hE (hR.at hS) 0 rfl rfl 3 rfl q1171 rfl rfl dX6_told_11 ?_
    refine lv_iload_n hx hb dX6_told_14 rfl (lv_at hl 1 rfl) ?_
    refine fx_ti (show kw = nI (nn kw) from (inB_nn1 (n := 6) hb_4 (by decide) (by omega)).1) ?_
    have g1 := (inB_nn1 (n := 6) hb_4 (by decide) (by omega)).2
    refine fx_iald X hE hP 0 rfl (nn kw) rfl (by omega) rfl dX6_told_15 ?_
    refine lv_goto (tgt := 24) hx hb dX6_told_16 (by decide) ?_
    exact hret (er (nn kw)) (er) (by simp [told_, erI, hb_4]) (rfl) hP hD hS (Nat.le_refl _) (Nat.le_refl _) dX6_told_24
  · -- False
    subst hr_4
    refine lv_if_eq (tgt := 19) hx hb dX6_told_7 (by decide) (fun _ => ?_) (fun c => (c (by decide)).elim)
    refine lv_aload_n hx hb dX6_told_19 rfl (lv_at hl 0 rfl) ?_
    refine lv_iconst (v := 1) hx hb dX6_told_20 rfl ?_
    refine fx_ci (va_runV (As := [.int 1]) (rest := []) X (mX6_error l E ad im at_ op st_ us bn bm la fo fi lp tr_ sp ip er 1 (by decide) _) (cwV 1 X.2.2.2.2 (lw_V q1266 q1268 qs32 q75 q1269) rfl rfl rfl ⟨rfl, hdX6_error⟩ ⟨Nat.le_of_ble_eq_true rfl, Nat.le_of_ble_eq_true rfl⟩) (fx_preV (fx_pre hE hP hD hS hR [0] rfl rfl (fx_rcr 0 rfl fx_rc0)) (va_recv hE.1 (hR.at hS) (ci := 6) (q0 := 0) rfl rfl)) rfl rfl hl.1 rfl (lv_room (Nat.le_of_ble_eq_true rfl)) dX6_told_21 ⟨Nat.le_refl _, Nat.le_refl _⟩) hP hD hS hA [0] rfl rfl (fun r_21 u H locs hq_21 hP hD hS => ?_)
    replace hP : va_P E.1 clA [(ad 3, .inl (E.2 0, 7, .inl (upd er 1 (er 1 + 1))))] _ := hP
    replace hD : va_D A [(ad 3, .inl (E.2 0, 7, .inl (upd er 1 (er 1 + 1))))] := hD
    replace hq_21 : r_21 = erv 1 := hq_21
    exact hret r_21 ((upd er 1 (er 1 + 1))) (by simp [told_, erI, hq_21, hb_4]) (rfl) hP hD hS (Nat.le_refl _) (Nat.le_refl _) dX6_told_24
