set_option maxRecDepth 100000
theorem hdX6_isSheet : yX6_isSheet.cls ≠ "java/lang/invoke/MethodHandle" ∧ yX6_isSheet.cls ≠ "java/lang/invoke/VarHandle" ∧ (parseMethodDescriptor yX6_isSheet.desc).map (fun d => d.parameters.length) = some 1 := by decide +kernel
theorem hdX6_tells : yX6_tells.cls ≠ "java/lang/invoke/MethodHandle" ∧ yX6_tells.cls ≠ "java/lang/invoke/VarHandle" ∧ (parseMethodDescriptor yX6_tells.desc).map (fun d => d.parameters.length) = some 3 := by decide +kernel
theorem hdX6_lacks : yX6_lacks.cls ≠ "java/lang/invoke/MethodHandle" ∧ yX6_lacks.cls ≠ "java/lang/invoke/VarHandle" ∧ (parseMethodDescriptor yX6_lacks.desc).map (fun d => d.parameters.length) = some 4 := by decide +kernel
theorem hdX6_isInStock : yX6_isInStock.cls ≠ "java/lang/invoke/MethodHandle" ∧ yX6_isInStock.cls ≠ "java/lang/invoke/VarHandle" ∧ (parseMethodDescriptor yX6_isInStock.desc).map (fun d => d.parameters.length) = some 1 := by decide +kernel
theorem hdX6_goes : yX6_goes.cls ≠ "java/lang/invoke/MethodHandle" ∧ yX6_goes.cls ≠ "java/lang/invoke/VarHandle" ∧ (parseMethodDescriptor yX6_goes.desc).map (fun d => d.parameters.length) = some 2 := by decide +kernel
abbrev rmX6_isSheet : Room := { frames := 1, cells := 0, slots := 0, locals := 22 }
set_option maxHeartbeats 400000 in
set_option maxRecDepth 100000 in
theorem mX6_isSheet (l : Launch) (E : fx_En) (v : Int32) : fx_Mi l yX6_isSheet cX6_isSheet 1 .boolean rmX6_isSheet E [.int v] [] [] (S := Unit) (fun (u : Unit) => []) (fun (r : Int32) (u : Unit) => r = fx_b (inB v 0 3 = true)) := by
  refine fx_iW rfl rfl ?_
  intro p e s m args below meth c A ls Q X hE hP hD hR hA hl hret
  have hx := X.1
  have hb := X.2.1
  have hS : va_S A s.heap s.heap [] := va_S.rf
  replace hl : lv_has ls 1 [(0, .int v)] := hl
  refine lv_iload_n hx hb dX6_isSheet_0 rfl (lv_at hl 0 rfl) ?_
  refine lv_iconst (v := 0) hx hb dX6_isSheet_1 rfl ?_
  refine lv_iconst (v := 3) hx hb dX6_isSheet_2 rfl ?_
  refine fx_ci (va_runS (As := [.int v, .int 0, .int 3]) (rest := []) X (mX6_in l E v 0 3 _) (va_cwS 3 X.2.2.2.2 (lw_S q1263 q1264 q75 q1265) rfl rfl rfl hdX6_in ⟨Nat.le_of_ble_eq_true rfl, Nat.le_of_ble_eq_true rfl⟩) (fx_pre hE hP hD hS hR [] rfl rfl fx_rc0) rfl rfl hl.1 rfl (lv_room (Nat.le_of_ble_eq_true rfl)) dX6_isSheet_3 ⟨Nat.le_refl _, Nat.le_refl _⟩) hP hD hS hA [] rfl rfl (fun r_3 u H locs hq_3 hP hD hS => ?_)
  replace hP : va_P E.1 clA [] _ := hP
  replace hD : va_D A [] := hD
  replace hq_3 : r_3 = fx_b (inB v 0 3 = true) := hq_3
  rcases fx_bc hq_3 with ⟨hb_3, hr_3⟩ | ⟨hb_3, hr_3⟩
  · -- True
    subst hr_3
    exact hret 1 () (fx_bt hb_3) (rfl) hP hD hS (Nat.le_refl _) (Nat.le_refl _) dX6_isSheet_6
  · -- False
    subst hr_3
    exact hret 0 () (fx_bf hb_3) (rfl) hP hD hS (Nat.le_refl _) (Nat.le_refl _) dX6_isSheet_6
abbrev rmX6_tells : Room := { frames := 1, cells := 0, slots := 0, locals := 22 }
set_option maxHeartbeats 400000 in
set_option maxRecDepth 100000 in
theorem mX6_tells (l : Launch) (E : fx_En) (ad : Nat → Nat) (im : Int32) (at_ : Int32) (op : Int32) (st_ : Int32) (us : Int32) (bn : Int32) (bm : Int32) (la : Int32) (fo : Int32) (fi : Int32) (lp : Int32) (tr_ : Int32) (sp : Int32) (ip : Int32) (bt : Nat → Int32) (sz : Nat → Int32) (nu : Nat → Int32) (h : Nat) (row : Nat → Int32) (k : Nat) (mo : Nat) (hk : k < 4) (hIS : InvS bt sz) (hmo : mo < 2147483648) : fx_Mi l yX6_tells cX6_tells 5 .int rmX6_tells E [.ref (ad 30), .int (nI k), .ref h, .int (nI mo)] [(h, .inl (E.2 0, 8, .inl row))] [(ad 30, .inr (6, [.ref (ad 0), .ref (ad 1), .int im, .ref (ad 3), .int at_, .int op, .int st_, .int us, .ref (ad 8), .ref (ad 9), .ref (ad 10), .ref (ad 11), .ref (ad 12), .ref (ad 13), .ref (ad 14), .int bn, .int bm, .ref (ad 17), .int la, .int fo, .int fi, .int lp, .ref (ad 22), .int tr_, .int sp, .int ip, .ref (ad 26), .ref (ad 27), .ref (ad 28), .ref (ad 29)])), (ad 26, .inl (E.2 0, 4, .inl bt)), (ad 27, .inl (E.2 0, 4, .inl sz)), (ad 28, .inl (E.2 0, 96, .inl nu))] (S := (Nat → Int32)) (fun (u : (Nat → Int32)) => [(h, .inl (E.2 0, 8, .inl u))]) (fun (r : Int32) (u : (Nat → Int32)) => r = nI (tellC bt sz nu k mo) ∧ (tellC bt sz nu k mo = 0 → ∀ t, t < 8 → u t = shG sz nu k t)) := by
  refine fx_iW rfl rfl ?_
  intro p e s m args below meth c A ls Q X hE hP hD hR hA hl hret
  have hx := X.1
  have hb := X.2.1
  have hS : va_S A s.heap s.heap [] := va_S.rf
  replace hP : va_P E.1 clA [(h, .inl (E.2 0, 8, .inl row))] _ := hP
  replace hD : va_D A [(h, .inl (E.2 0, 8, .inl row))] := hD
  replace hl : lv_has ls 5 [(0, .ref (ad 30)), (1, .int (nI k)), (2, .ref h), (3, .int (nI mo))] := hl
  have hsz := (hIS.sz hk).2
  refine lv_aload_n hx hb dX6_tells_0 rfl (lv_at hl 0 rfl) ?_
  refine fx_get X hE (hR.at hS) 0 rfl rfl 26 rfl q1194 rfl rfl dX6_tells_1 ?_
  refine lv_iload_n hx hb dX6_tells_4 rfl (lv_at hl 1 rfl) ?_
  refine fx_iald X hE (hR.at hS) 1 rfl k rfl (by omega) rfl dX6_tells_5 ?_
  refine lv_if_ne (tgt := 11) hx hb dX6_tells_6 (by decide) (fun c_6 => ?_) (fun c_6 => ?_)
  · -- jump 11
    refine lv_iconst (v := 0) hx hb dX6_tells_11 rfl ?_
    refine lv_istore (lv' := [(4, .int 0), (0, .ref (ad 30)), (1, .int (nI k)), (2, .ref h), (3, .int (nI mo))]) hx hb dX6_tells_12 hl (by decide) rfl (fun ls hl => ?_)
    have loop_14 : ∀ (n_14 : Nat) (t : Nat) (gz : Nat → Int32), (8 - t < n_14) → (t ≤ 8) → (∀ i, i < t → gz i = shG sz nu k i) → ∀ (H : Heap) (locs : List Loc), va_P E.1 clA [(h, .inl (E.2 0, 8, .inl gz))] H → va_D A [(h, .inl (E.2 0, 8, .inl gz))] → va_S A s.heap H locs → ∀ (ls : Array Slot), lv_has ls 5 [(4, .int (nI t)), (0, .ref (ad 30)), (1, .int (nI k)), (2, .ref h), (3, .int (nI mo))] → W p l e rmX6_tells s m args below meth c H locs 0 0 Q (F0 m 14 ls []) := by
      intro n_14
      induction n_14 with
      | zero => intro t gz hm_14; exact absurd hm_14 (Nat.not_lt_zero _)
      | succ n_14 ih_14 =>
        intro t gz hm_14 ht hg H locs hP hD hS ls hl
        refine lv_iload hx hb dX6_tells_14 (lv_at hl 0 rfl) ?_
        refine lv_bipush (v := 8) hx hb dX6_tells_16 rfl ?_
        refine lv_icmp_ge (tgt := 58) hx hb dX6_tells_18 (by decide) (fun c_18 => ?_) (fun c_18 => ?_)
        · -- jump 58
          have n_18 := fx_le1 (a := 8) (b := t) c_18 (by omega) (by omega)
          obtain rfl : t = 8 := by omega
          refine lv_iconst (v := 0) hx hb dX6_tells_58 rfl ?_
          refine lv_istore (lv' := [(4, .int 0), (0, .ref (ad 30)), (1, .int (nI k)), (2, .ref h), (3, .int (nI mo))]) hx hb dX6_tells_59 hl (by decide) rfl (fun ls hl => ?_)
          have loop_61 : ∀ (n_61 : Nat) (t2 : Nat), (8 - t2 < n_61) → (t2 ≤ 8) → (∀ i, i < t2 → inB (shG sz nu k i) 0 9 = true) → ∀ (H : Heap) (locs : List Loc), va_P E.1 clA [(h, .inl (E.2 0, 8, .inl gz))] H → va_D A [(h, .inl (E.2 0, 8, .inl gz))] → va_S A s.heap H locs → ∀ (ls : Array Slot), lv_has ls 5 [(4, .int (nI t2)), (0, .ref (ad 30)), (1, .int (nI k)), (2, .ref h), (3, .int (nI mo))] → W p l e rmX6_tells s m args below meth c H locs 0 0 Q (F0 m 61 ls []) := by
            intro n_61
            induction n_61 with
            | zero => intro t2 hm_61; exact absurd hm_61 (Nat.not_lt_zero _)
            | succ n_61 ih_61 =>
              intro t2 hm_61 ht2 hg2 H locs hP hD hS ls hl
              refine lv_iload hx hb dX6_tells_61 (lv_at hl 0 rfl) ?_
              refine lv_bipush (v := 8) hx hb dX6_tells_63 rfl ?_
              refine lv_icmp_ge (tgt := 89) hx hb dX6_tells_65 (by decide) (fun c_65 => ?_) (fun c_65 => ?_)
              · -- jump 89
                have n_65 := fx_le1 (a := 8) (b := t2) c_65 (by omega) (by omega)
                obtain rfl : t2 = 8 := by omega
                have hrn := rn_of hg hg2
                have hml := manyN_le (rn := rnG sz nu k) (a := 9) 8 (fun t ht => (hrn t ht).2)
                refine lv_aload_n hx hb dX6_tells_89 rfl (lv_at hl 3 rfl) ?_
                refine fx_ci (va_runS (As := [.ref h]) (rest := []) X (mX6_many l E h gz _) (va_cwS 1 X.2.2.2.2 (lw_S q1413 q1414 q75 q1415) rfl rfl rfl hdX6_many ⟨Nat.le_of_ble_eq_true rfl, Nat.le_of_ble_eq_true rfl⟩) (fx_pre hE hP hD hS hR [] rfl rfl (fx_rcm 0 rfl (by decide) fx_rc0)) rfl rfl hl.1 rfl (lv_room (Nat.le_of_ble_eq_true rfl)) dX6_tells_90 ⟨Nat.le_refl _, Nat.le_refl _⟩) hP hD hS hA [] rfl rfl (fun r_90 u H locs hq_90 hP hD hS => ?_)
                replace hP : va_P E.1 clA [(h, .inl (E.2 0, 8, .inl gz))] _ := hP
                replace hD : va_D A [(h, .inl (E.2 0, 8, .inl gz))] := hD
                replace hq_90 : r_90 = l_sum gz 8 := hq_90
                refine fx_ti (show r_90 = nI (manyN (rnG sz nu k) 8) from hq_90.trans (manyN_I 8 (fun t ht => (hrn t ht).1))) ?_
                refine lv_iload_n hx hb dX6_tells_93 rfl (lv_at hl 4 rfl) ?_
                refine lv_icmp_le (tgt := 101) hx hb dX6_tells_94 (by decide) (fun c_94 => ?_) (fun c_94 => ?_)
                · -- jump 101
                  have n_94 := fx_le1 (a := (manyN (rnG sz nu k) 8)) (b := mo) c_94 (by omega) (by omega)
                  refine lv_iconst (v := 0) hx hb dX6_tells_101 rfl ?_
                  exact hret 0 (gz) (⟨by rw [tellC_all c_6 hg2, if_neg (by omega)]; rfl, fun _ => hg⟩) (rfl) hP hD hS (Nat.le_refl _) (Nat.le_refl _) dX6_tells_102
                · -- fall 97
                  have n_94 := fx_le0 (a := (manyN (rnG sz nu k) 8)) (b := mo) c_94 (by omega) (by omega)
                  refine lv_iconst (v := 4) hx hb dX6_tells_97 rfl ?_
                  refine lv_goto (tgt := 102) hx hb dX6_tells_98 (by decide) ?_
                  exact hret 4 (gz) (⟨by rw [tellC_all c_6 hg2, if_pos n_94]; rfl, fun _ => hg⟩) (rfl) hP hD hS (Nat.le_refl _) (Nat.le_refl _) dX6_tells_102
              · -- fall 68
                have n_65 := fx_le0 (a := 8) (b := t2) c_65 (by omega) (by omega)
                refine lv_aload_n hx hb dX6_tells_68 rfl (lv_at hl 3 rfl) ?_
                refine lv_iload hx hb dX6_tells_69 (lv_at hl 0 rfl) ?_
                refine fx_iald X hE hP 0 rfl t2 rfl (by omega) rfl dX6_tells_71 ?_
                refine fx_ti (show (gz t2) = (shG sz nu k t2) from hg t2 (by omega)) ?_
                refine lv_iconst (v := 0) hx hb dX6_tells_72 rfl ?_
                refine lv_bipush (v := 9) hx hb dX6_tells_73 rfl ?_
                refine fx_ci (va_runS (As := [.int (shG sz nu k t2), .int 0, .int 9]) (rest := []) X (mX6_in l E (shG sz nu k t2) 0 9 _) (va_cwS 3 X.2.2.2.2 (lw_S q1263 q1264 q75 q1265) rfl rfl rfl hdX6_in ⟨Nat.le_of_ble_eq_true rfl, Nat.le_of_ble_eq_true rfl⟩) (fx_pre hE hP hD hS hR [] rfl rfl fx_rc0) rfl rfl hl.1 rfl (lv_room (Nat.le_of_ble_eq_true rfl)) dX6_tells_75 ⟨Nat.le_refl _, Nat.le_refl _⟩) hP hD hS hA [] rfl rfl (fun r_75 u H locs hq_75 hP hD hS => ?_)
                replace hP : va_P E.1 clA [(h, .inl (E.2 0, 8, .inl gz))] _ := hP
                replace hD : va_D A [(h, .inl (E.2 0, 8, .inl gz))] := hD
                replace hq_75 : r_75 = fx_b (inB (shG sz nu k t2) 0 9 = true) := hq_75
                rcases fx_bc hq_75 with ⟨hb_75, hr_75⟩ | ⟨hb_75, hr_75⟩
                · -- True
                  subst hr_75
                  refine lv_if_ne (tgt := 83) hx hb dX6_tells_78 (by decide) (fun _ => ?_) (fun c => absurd c (by decide))
                  refine lv_iinc (v := nI (t2 + 1)) (lv' := [(4, .int (nI (t2 + 1))), (0, .ref (ad 30)), (1, .int (nI k)), (2, .ref h), (3, .int (nI mo))]) hx hb dX6_tells_83 hl (k := 0) rfl (fx_inc _) (by decide) rfl (fun ls hl => ?_)
                  refine lv_goto (tgt := 61) hx hb dX6_tells_86 (by decide) ?_
                  exact ih_61 (t2 + 1) (by omega) (by omega) (fun i hi => by rcases Nat.lt_or_ge i t2 with q | q; exact hg2 i q; rw [show i = t2 by omega]; exact hb_75) _ _ hP hD hS ls (lv_sub hl [0, 1, 2, 3, 4] rfl)
                · -- False
                  subst hr_75
                  refine lv_if_ne (tgt := 83) hx hb dX6_tells_78 (by decide) (fun c => (c (by decide)).elim) (fun _ => ?_)
                  refine lv_iconst (v := 1) hx hb dX6_tells_81 rfl ?_
                  exact hret 1 (gz) (⟨by rw [tellC_1 c_6 n_65 hb_75]; rfl, fun hh => by rw [tellC_1 c_6 n_65 hb_75] at hh; omega⟩) (rfl) hP hD hS (Nat.le_refl _) (Nat.le_refl _) dX6_tells_82
          exact loop_61 ((8 - 0) + 1) 0 (Nat.lt_succ_self _) (by omega) (fun i hi => absurd hi (Nat.not_lt_zero _)) _ _ hP hD hS ls (lv_sub hl [0, 1, 2, 3, 4] rfl)
        · -- fall 21
          have n_18 := fx_le0 (a := 8) (b := t) c_18 (by omega) (by omega)
          refine lv_aload_n hx hb dX6_tells_21 rfl (lv_at hl 3 rfl) ?_
          refine lv_iload hx hb dX6_tells_22 (lv_at hl 0 rfl) ?_
          refine lv_iload hx hb dX6_tells_24 (lv_at hl 0 rfl) ?_
          refine lv_aload_n hx hb dX6_tells_26 rfl (lv_at hl 1 rfl) ?_
          refine fx_get X hE (hR.at hS) 0 rfl rfl 27 rfl q1195 rfl rfl dX6_tells_27 ?_
          refine lv_iload_n hx hb dX6_tells_30 rfl (lv_at hl 2 rfl) ?_
          refine fx_iald X hE (hR.at hS) 2 rfl k rfl (by omega) rfl dX6_tells_31 ?_
          refine fx_ti (show (sz k) = nI (nn (sz k)) from (hIS.sz hk).1) ?_
          refine lv_icmp_ge (tgt := 50) hx hb dX6_tells_32 (by decide) (fun c_32 => ?_) (fun c_32 => ?_)
          · -- jump 50
            have n_32 := fx_le1 (a := (nn (sz k))) (b := t) c_32 (by omega) (by omega)
            refine lv_iconst (v := 0) hx hb dX6_tells_50 rfl ?_
            refine fx_iast (ws' := [(h, .inl (E.2 0, 8, .inl (upd gz t 0)))]) X hE hP hD hS 0 rfl t rfl (by omega) rfl rfl dX6_tells_51 (fun H locs hP hD hS => ?_)
            refine lv_iinc (v := nI (t + 1)) (lv' := [(4, .int (nI (t + 1))), (0, .ref (ad 30)), (1, .int (nI k)), (2, .ref h), (3, .int (nI mo))]) hx hb dX6_tells_52 hl (k := 0) rfl (fx_inc _) (by decide) rfl (fun ls hl => ?_)
            refine lv_goto (tgt := 14) hx hb dX6_tells_55 (by decide) ?_
            exact ih_14 (t + 1) (upd gz t 0) (by omega) (by omega) (ext_s hg (by simp only [shG]; rw [if_neg (by omega)])) _ _ hP hD hS ls (lv_sub hl [0, 1, 2, 3, 4] rfl)
          · -- fall 35
            have n_32 := fx_le0 (a := (nn (sz k))) (b := t) c_32 (by omega) (by omega)
            refine lv_aload_n hx hb dX6_tells_35 rfl (lv_at hl 1 rfl) ?_
            refine fx_get X hE (hR.at hS) 0 rfl rfl 28 rfl q1196 rfl rfl dX6_tells_36 ?_
            refine lv_bipush (v := 24) hx hb dX6_tells_39 rfl ?_
            refine lv_iload_n hx hb dX6_tells_41 rfl (lv_at hl 2 rfl) ?_
            refine lv_imul hx hb dX6_tells_42 ?_
            refine fx_ti (pk_mul 24 k) ?_
            refine lv_iload hx hb dX6_tells_43 (lv_at hl 0 rfl) ?_
            refine lv_iadd hx hb dX6_tells_45 ?_
            refine fx_ti (nI_add (24 * k) t) ?_
            refine fx_iald X hE (hR.at hS) 3 rfl (24 * k + t) rfl (by omega) rfl dX6_tells_46 ?_
            refine lv_goto (tgt := 51) hx hb dX6_tells_47 (by decide) ?_
            refine fx_iast (ws' := [(h, .inl (E.2 0, 8, .inl (upd gz t (nu (24 * k + t)))))]) X hE hP hD hS 0 rfl t rfl (by omega) rfl rfl dX6_tells_51 (fun H locs hP hD hS => ?_)
            refine lv_iinc (v := nI (t + 1)) (lv' := [(4, .int (nI (t + 1))), (0, .ref (ad 30)), (1, .int (nI k)), (2, .ref h), (3, .int (nI mo))]) hx hb dX6_tells_52 hl (k := 0) rfl (fx_inc _) (by decide) rfl (fun ls hl => ?_)
            refine lv_goto (tgt := 14) hx hb dX6_tells_55 (by decide) ?_
            exact ih_14 (t + 1) (upd gz t (nu (24 * k + t))) (by omega) (by omega) (ext_s hg (by simp only [shG]; rw [if_pos n_32])) _ _ hP hD hS ls (lv_sub hl [0, 1, 2, 3, 4] rfl)
    exact loop_14 ((8 - 0) + 1) 0 row (Nat.lt_succ_self _) (by omega) (fun i hi => absurd hi (Nat.not_lt_zero _)) _ _ hP hD hS ls (lv_sub hl [0, 1, 2, 3, 4] rfl)
  · -- fall 9
    refine lv_iconst (v := 2) hx hb dX6_tells_9 rfl ?_
    exact hret 2 (row) (⟨by rw [tellC_2 c_6]; rfl, fun hh => by rw [tellC_2 c_6] at hh; omega⟩) (rfl) hP hD hS (Nat.le_refl _) (Nat.le_refl _) dX6_tells_10
abbrev rmX6_lacks : Room := { frames := 2, cells := 0, slots := 0, locals := 46 }
set_option maxHeartbeats 400000 in
set_option maxRecDepth 100000 in
theorem mX6_lacks (l : Launch) (E : fx_En) (ad : Nat → Nat) (im : Int32) (at_ : Int32) (op : Int32) (st_ : Int32) (us : Int32) (bn : Int32) (bm : Int32) (la : Int32) (fo : Int32) (fi : Int32) (lp : Int32) (tr_ : Int32) (sp : Int32) (ip : Int32) (bt : Nat → Int32) (sz : Nat → Int32) (nu : Nat → Int32) (td : Nat → Int32) (sheet : Int32) (till : Int32) (ot : Int32) (mo : Nat) (hIS : InvS bt sz) (hmo : mo < 2147483648) : fx_Mi l yX6_lacks cX6_lacks 5 .int rmX6_lacks E [.ref (ad 30), .int sheet, .int till, .int ot, .int (nI mo)] [(ad 11, .inl (E.2 0, 8, .inl td))] [(ad 30, .inr (6, [.ref (ad 0), .ref (ad 1), .int im, .ref (ad 3), .int at_, .int op, .int st_, .int us, .ref (ad 8), .ref (ad 9), .ref (ad 10), .ref (ad 11), .ref (ad 12), .ref (ad 13), .ref (ad 14), .int bn, .int bm, .ref (ad 17), .int la, .int fo, .int fi, .int lp, .ref (ad 22), .int tr_, .int sp, .int ip, .ref (ad 26), .ref (ad 27), .ref (ad 28), .ref (ad 29)])), (ad 26, .inl (E.2 0, 4, .inl bt)), (ad 27, .inl (E.2 0, 4, .inl sz)), (ad 28, .inl (E.2 0, 96, .inl nu))] (S := (Nat → Int32)) (fun (u : (Nat → Int32)) => [(ad 11, .inl (E.2 0, 8, .inl u))]) (fun (r : Int32) (u : (Nat → Int32)) => r = nI (lackF bt sz nu sheet till (decide (ot ≠ 0)) mo) ∧ (lackF bt sz nu sheet till (decide (ot ≠ 0)) mo = 0 → ∀ t, t < 8 → u t = shG sz nu (nn sheet) t)) := by
  refine fx_iW rfl rfl ?_
  intro p e s m args below meth c A ls Q X hE hP hD hR hA hl hret
  have hx := X.1
  have hb := X.2.1
  have hS : va_S A s.heap s.heap [] := va_S.rf
  replace hP : va_P E.1 clA [(ad 11, .inl (E.2 0, 8, .inl td))] _ := hP
  replace hD : va_D A [(ad 11, .inl (E.2 0, 8, .inl td))] := hD
  replace hl : lv_has ls 5 [(0, .ref (ad 30)), (1, .int sheet), (2, .int till), (3, .int ot), (4, .int (nI mo))] := hl
  refine lv_iload_n hx hb dX6_lacks_0 rfl (lv_at hl 1 rfl) ?_
  refine fx_ci (va_runS (As := [.int sheet]) (rest := []) X (mX6_isSheet l E sheet _) (va_cwS 1 X.2.2.2.2 (lw_S q1406 q1407 q75 q1408) rfl rfl rfl hdX6_isSheet ⟨Nat.le_of_ble_eq_true rfl, Nat.le_of_ble_eq_true rfl⟩) (fx_pre hE hP hD hS hR [] rfl rfl fx_rc0) rfl rfl hl.1 rfl (lv_room (Nat.le_of_ble_eq_true rfl)) dX6_lacks_1 ⟨Nat.le_refl _, Nat.le_refl _⟩) hP hD hS hA [] rfl rfl (fun r_1 u H locs hq_1 hP hD hS => ?_)
  replace hP : va_P E.1 clA [(ad 11, .inl (E.2 0, 8, .inl td))] _ := hP
  replace hD : va_D A [(ad 11, .inl (E.2 0, 8, .inl td))] := hD
  replace hq_1 : r_1 = fx_b (inB sheet 0 3 = true) := hq_1
  rcases fx_bc hq_1 with ⟨hb_1, hr_1⟩ | ⟨hb_1, hr_1⟩
  · -- True
    subst hr_1
    refine lv_if_eq (tgt := 32) hx hb dX6_lacks_4 (by decide) (fun c => absurd c (by decide)) (fun _ => ?_)
    refine lv_iload_n hx hb dX6_lacks_7 rfl (lv_at hl 2 rfl) ?_
    refine fx_ci (va_runS (As := [.int till]) (rest := []) X (mX6_isTill l E till _) (va_cwS 1 X.2.2.2.2 (lw_S q1357 q1358 q75 q1359) rfl rfl rfl hdX6_isTill ⟨Nat.le_of_ble_eq_true rfl, Nat.le_of_ble_eq_true rfl⟩) (fx_pre hE hP hD hS hR [] rfl rfl fx_rc0) rfl rfl hl.1 rfl (lv_room (Nat.le_of_ble_eq_true rfl)) dX6_lacks_8 ⟨Nat.le_refl _, Nat.le_refl _⟩) hP hD hS hA [] rfl rfl (fun r_8 u H locs hq_8 hP hD hS => ?_)
    replace hP : va_P E.1 clA [(ad 11, .inl (E.2 0, 8, .inl td))] _ := hP
    replace hD : va_D A [(ad 11, .inl (E.2 0, 8, .inl td))] := hD
    replace hq_8 : r_8 = fx_b (inB till 0 3 = true) := hq_8
    rcases fx_bc hq_8 with ⟨hb_8, hr_8⟩ | ⟨hb_8, hr_8⟩
    · -- True
      subst hr_8
      refine lv_if_eq (tgt := 32) hx hb dX6_lacks_11 (by decide) (fun c => absurd c (by decide)) (fun _ => ?_)
      refine lv_iload_n hx hb dX6_lacks_14 rfl (lv_at hl 3 rfl) ?_
      refine lv_if_eq (tgt := 32) hx hb dX6_lacks_15 (by decide) (fun c_15 => ?_) (fun c_15 => ?_)
      · -- jump 32
        refine lv_iconst (v := 1) hx hb dX6_lacks_32 rfl ?_
        exact hret 1 (td) (by have hL : lackF bt sz nu sheet till (decide (ot ≠ 0)) mo = 1 := (by simp [lackF, hb_1, hb_8, eq_true c_15]); rw [hL]; exact ⟨rfl, fun hh => by omega⟩) (rfl) hP hD hS (Nat.le_refl _) (Nat.le_refl _) dX6_lacks_33
      · -- fall 18
        refine lv_aload_n hx hb dX6_lacks_18 rfl (lv_at hl 0 rfl) ?_
        refine lv_iload_n hx hb dX6_lacks_19 rfl (lv_at hl 1 rfl) ?_
        refine fx_ti (show sheet = nI (nn sheet) from (inB_nn (n := 3) hb_1 (by omega)).1) ?_
        refine lv_aload_n hx hb dX6_lacks_20 rfl (lv_at hl 0 rfl) ?_
        refine fx_get X hE (hR.at hS) 0 rfl rfl 11 rfl q1179 rfl rfl dX6_lacks_21 ?_
        refine lv_iload hx hb dX6_lacks_24 (lv_at hl 4 rfl) ?_
        refine fx_ci (va_runV (As := [.int (nI (nn sheet)), .ref (ad 11), .int (nI mo)]) (rest := []) X (mX6_tells l E ad im at_ op st_ us bn bm la fo fi lp tr_ sp ip bt sz nu (ad 11) td (nn sheet) mo (by have := (inB_nn (n := 3) hb_1 (by omega)).2; omega) (by first | assumption | omega) (by first | assumption | omega) _) (cwV 3 X.2.2.2.2 (lw_V q1409 q1411 qs51 q75 q1412) rfl rfl rfl ⟨rfl, hdX6_tells⟩ ⟨Nat.le_of_ble_eq_true rfl, Nat.le_of_ble_eq_true rfl⟩) (fx_preV (fx_pre hE hP hD hS hR [0] rfl rfl (fx_rcr 0 rfl (fx_rcr 1 rfl (fx_rcr 2 rfl (fx_rcr 3 rfl fx_rc0))))) (va_recv hE.1 (hR.at hS) (ci := 6) (q0 := 0) rfl rfl)) rfl rfl hl.1 rfl (lv_room (Nat.le_of_ble_eq_true rfl)) dX6_lacks_26 ⟨Nat.le_refl _, Nat.le_refl _⟩) hP hD hS hA [0] rfl rfl (fun r_26 u H locs hq_26 hP hD hS => ?_)
        obtain ⟨row2_26, rfl⟩ : ∃ z, z = u := ⟨_, rfl⟩
        replace hP : va_P E.1 clA [(ad 11, .inl (E.2 0, 8, .inl row2_26))] _ := hP
        replace hD : va_D A [(ad 11, .inl (E.2 0, 8, .inl row2_26))] := hD
        replace hq_26 : r_26 = nI (tellC bt sz nu (nn sheet) mo) ∧ (tellC bt sz nu (nn sheet) mo = 0 → ∀ t, t < 8 → row2_26 t = shG sz nu (nn sheet) t) := hq_26
        refine lv_goto (tgt := 33) hx hb dX6_lacks_29 (by decide) ?_
        exact hret r_26 (row2_26) (by have hL : lackF bt sz nu sheet till (decide (ot ≠ 0)) mo = tellC bt sz nu (nn sheet) mo := (by simp [lackF, hb_1, hb_8, c_15]); rw [hL]; exact hq_26) (rfl) hP hD hS (Nat.le_refl _) (Nat.le_refl _) dX6_lacks_33
    · -- False
      subst hr_8
      refine lv_if_eq (tgt := 32) hx hb dX6_lacks_11 (by decide) (fun _ => ?_) (fun c => (c (by decide)).elim)
      refine lv_iconst (v := 1) hx hb dX6_lacks_32 rfl ?_
      exact hret 1 (td) (by have hL : lackF bt sz nu sheet till (decide (ot ≠ 0)) mo = 1 := (by simp [lackF, hb_1, hb_8]); rw [hL]; exact ⟨rfl, fun hh => by omega⟩) (rfl) hP hD hS (Nat.le_refl _) (Nat.le_refl _) dX6_lacks_33
  · -- False
    subst hr_1
    refine lv_if_eq (tgt := 32) hx hb dX6_lacks_4 (by decide) (fun _ => ?_) (fun c => (c (by decide)).elim)
    refine lv_iconst (v := 1) hx hb dX6_lacks_32 rfl ?_
    exact hret 1 (td) (by have hL : lackF bt sz nu sheet till (decide (ot ≠ 0)) mo = 1 := (by simp [lackF, hb_1]); rw [hL]; exact ⟨rfl, fun hh => by omega⟩) (rfl) hP hD hS (Nat.le_refl _) (Nat.le_refl _) dX6_lacks_33
abbrev rmX6_isInStock : Room := { frames := 0, cells := 0, slots := 0, locals := 0 }
set_option maxHeartbeats 400000 in
set_option maxRecDepth 100000 in
theorem mX6_isInStock (l : Launch) (E : fx_En) (ad : Nat → Nat) (im : Int32) (at_ : Int32) (op : Int32) (st_ : Int32) (us : Int32) (bn : Int32) (bm : Int32) (la : Int32) (fo : Int32) (fi : Int32) (lp : Int32) (tr_ : Int32) (sp : Int32) (ip : Int32) (sa : Nat → Int32) (h : Nat) (row : Nat → Int32) : fx_Mi l yX6_isInStock cX6_isInStock 4 .boolean rmX6_isInStock E [.ref (ad 30), .ref h] [] [(ad 30, .inr (6, [.ref (ad 0), .ref (ad 1), .int im, .ref (ad 3), .int at_, .int op, .int st_, .int us, .ref (ad 8), .ref (ad 9), .ref (ad 10), .ref (ad 11), .ref (ad 12), .ref (ad 13), .ref (ad 14), .int bn, .int bm, .ref (ad 17), .int la, .int fo, .int fi, .int lp, .ref (ad 22), .int tr_, .int sp, .int ip, .ref (ad 26), .ref (ad 27), .ref (ad 28), .ref (ad 29)])), (ad 0, .inl (E.2 0, 374, .inl sa)), (h, .inl (E.2 0, 8, .inl row))] (S := Unit) (fun (u : Unit) => []) (fun (r : Int32) (u : Unit) => r = fx_b (inSt sa row = true)) := by
  refine fx_iW rfl rfl ?_
  intro p e s m args below meth c A ls Q X hE hP hD hR hA hl hret
  have hx := X.1
  have hb := X.2.1
  have hS : va_S A s.heap s.heap [] := va_S.rf
  replace hl : lv_has ls 4 [(0, .ref (ad 30)), (1, .ref h)] := hl
  refine lv_iconst (v := 1) hx hb dX6_isInStock_0 rfl ?_
  refine lv_istore_n (lv' := [(2, .int 1), (0, .ref (ad 30)), (1, .ref h)]) hx hb dX6_isInStock_1 rfl hl (by decide) rfl (fun ls hl => ?_)
  refine lv_iconst (v := 0) hx hb dX6_isInStock_2 rfl ?_
  refine lv_istore_n (lv' := [(3, .int 0), (2, .int 1), (0, .ref (ad 30)), (1, .ref h)]) hx hb dX6_isInStock_3 rfl hl (by decide) rfl (fun ls hl => ?_)
  have loop_4 : ∀ (n_4 : Nat) (t : Nat) (bz : Int32), (8 - t < n_4) → (t ≤ 8) → (bz = fx_b (allB (fun i_ => decide (row i_ ≤ sa (24 + i_))) t = true)) → ∀ (H : Heap) (locs : List Loc), va_P E.1 clA [] H → va_D A [] → va_S A s.heap H locs → ∀ (ls : Array Slot), lv_has ls 4 [(3, .int (nI t)), (2, .int bz), (0, .ref (ad 30)), (1, .ref h)] → W p l e rmX6_isInStock s m args below meth c H locs 0 0 Q (F0 m 4 ls []) := by
    intro n_4
    induction n_4 with
    | zero => intro t bz hm_4; exact absurd hm_4 (Nat.not_lt_zero _)
    | succ n_4 ih_4 =>
      intro t bz hm_4 ht hbz H locs hP hD hS ls hl
      refine lv_iload_n hx hb dX6_isInStock_4 rfl (lv_at hl 0 rfl) ?_
      refine lv_bipush (v := 8) hx hb dX6_isInStock_5 rfl ?_
      refine lv_icmp_ge (tgt := 41) hx hb dX6_isInStock_7 (by decide) (fun c_7 => ?_) (fun c_7 => ?_)
      · -- jump 41
        have n_7 := fx_le1 (a := 8) (b := t) c_7 (by omega) (by omega)
        obtain rfl : t = 8 := by omega
        subst hbz
        refine lv_iload_n hx hb dX6_isInStock_41 rfl (lv_at hl 1 rfl) ?_
        exact hret (fx_b (allB (fun i_ => decide (row i_ ≤ sa (24 + i_))) 8 = true)) () (rfl) (nar_b) hP hD hS (Nat.le_refl _) (Nat.le_refl _) dX6_isInStock_42
      · -- fall 10
        have n_7 := fx_le0 (a := 8) (b := t) c_7 (by omega) (by omega)
        refine lv_iload_n hx hb dX6_isInStock_10 rfl (lv_at hl 1 rfl) ?_
        refine lv_if_eq (tgt := 33) hx hb dX6_isInStock_11 (by decide) (fun c_11 => ?_) (fun c_11 => ?_)
        · -- jump 33
          refine lv_iconst (v := 0) hx hb dX6_isInStock_33 rfl ?_
          refine lv_istore_n (lv' := [(2, .int 0), (3, .int (nI t)), (0, .ref (ad 30)), (1, .ref h)]) hx hb dX6_isInStock_34 rfl hl (by decide) rfl (fun ls hl => ?_)
          refine lv_iinc (v := nI (t + 1)) (lv' := [(3, .int (nI (t + 1))), (2, .int 0), (0, .ref (ad 30)), (1, .ref h)]) hx hb dX6_isInStock_35 hl (k := 1) rfl (fx_inc _) (by decide) rfl (fun ls hl => ?_)
          refine lv_goto (tgt := 4) hx hb dX6_isInStock_38 (by decide) ?_
          exact ih_4 (t + 1) 0 (by omega) (by omega) (stk_f1 hbz c_11) _ _ hP hD hS ls (lv_sub hl [0, 1, 2, 3] rfl)
        · -- fall 14
          refine lv_aload_n hx hb dX6_isInStock_14 rfl (lv_at hl 3 rfl) ?_
          refine lv_iload_n hx hb dX6_isInStock_15 rfl (lv_at hl 0 rfl) ?_
          refine fx_iald X hE (hR.at hS) 2 rfl t rfl (by omega) rfl dX6_isInStock_16 ?_
          refine lv_aload_n hx hb dX6_isInStock_17 rfl (lv_at hl 2 rfl) ?_
          refine fx_get X hE (hR.at hS) 0 rfl rfl 0 rfl q1168 rfl rfl dX6_isInStock_18 ?_
          refine lv_bipush (v := 24) hx hb dX6_isInStock_21 rfl ?_
          refine lv_iload_n hx hb dX6_isInStock_23 rfl (lv_at hl 0 rfl) ?_
          refine lv_iadd hx hb dX6_isInStock_24 ?_
          refine fx_ti (nI_add 24 t) ?_
          refine fx_iald X hE (hR.at hS) 1 rfl (24 + t) rfl (by omega) rfl dX6_isInStock_25 ?_
          refine lv_icmp_gt (tgt := 33) hx hb dX6_isInStock_26 (by decide) (fun c_26 => ?_) (fun c_26 => ?_)
          · -- jump 33
            refine lv_iconst (v := 0) hx hb dX6_isInStock_33 rfl ?_
            refine lv_istore_n (lv' := [(2, .int 0), (3, .int (nI t)), (0, .ref (ad 30)), (1, .ref h)]) hx hb dX6_isInStock_34 rfl hl (by decide) rfl (fun ls hl => ?_)
            refine lv_iinc (v := nI (t + 1)) (lv' := [(3, .int (nI (t + 1))), (2, .int 0), (0, .ref (ad 30)), (1, .ref h)]) hx hb dX6_isInStock_35 hl (k := 1) rfl (fx_inc _) (by decide) rfl (fun ls hl => ?_)
            refine lv_goto (tgt := 4) hx hb dX6_isInStock_38 (by decide) ?_
            exact ih_4 (t + 1) 0 (by omega) (by omega) (stk_f2 (fun hh => absurd c_26 (Int32.not_lt.2 (of_decide_eq_true hh)))) _ _ hP hD hS ls (lv_sub hl [0, 1, 2, 3] rfl)
          · -- fall 29
            refine lv_iconst (v := 1) hx hb dX6_isInStock_29 rfl ?_
            refine lv_goto (tgt := 34) hx hb dX6_isInStock_30 (by decide) ?_
            refine lv_istore_n (lv' := [(2, .int 1), (3, .int (nI t)), (0, .ref (ad 30)), (1, .ref h)]) hx hb dX6_isInStock_34 rfl hl (by decide) rfl (fun ls hl => ?_)
            refine lv_iinc (v := nI (t + 1)) (lv' := [(3, .int (nI (t + 1))), (2, .int 1), (0, .ref (ad 30)), (1, .ref h)]) hx hb dX6_isInStock_35 hl (k := 1) rfl (fx_inc _) (by decide) rfl (fun ls hl => ?_)
            refine lv_goto (tgt := 4) hx hb dX6_isInStock_38 (by decide) ?_
            exact ih_4 (t + 1) 1 (by omega) (by omega) (stk_t hbz c_11 (decide_eq_true (Int32.not_lt.1 c_26))) _ _ hP hD hS ls (lv_sub hl [0, 1, 2, 3] rfl)
  exact loop_4 ((8 - 0) + 1) 0 1 (Nat.lt_succ_self _) (by omega) (fx_bt rfl) _ _ hP hD hS ls (lv_sub hl [0, 1, 2, 3] rfl)
abbrev rmX6_paidI : Room := rmX6_paid
theorem mX6_paidI (l : Launch) (E : fx_En) (ad : Nat → Nat) (im : Int32) (at_ : Int32) (op : Int32) (st_ : Int32) (us : Int32) (bn : Int32) (bm : Int32) (la : Int32) (fo : Int32) (fi : Int32) (lp : Int32) (tr_ : Int32) (sp : Int32) (ip : Int32) (sa : Nat → Int32) (nmd : Nat → Int32) (pl : Nat → Int32) (h : Nat) (row : Nat → Int32) (k : Nat) (T : Tx) (rn : Nat → Nat) (hk : k < 4) (hI : Inv sa) (hT : TM sa 0 T) (hTo : TOk T) (hrow : ∀ t, t < 8 → row t = nI (rn t) ∧ rn t ≤ 99) : fx_Mi l yX6_paid cX6_paid 3 .int rmX6_paidI E [.ref (ad 30), .int (nI k), .ref h] [(ad 9, .inl (E.2 0, 128, .inl nmd)), (ad 10, .inl (E.2 0, 64, .inl pl))] [(ad 30, .inr (6, [.ref (ad 0), .ref (ad 1), .int im, .ref (ad 3), .int at_, .int op, .int st_, .int us, .ref (ad 8), .ref (ad 9), .ref (ad 10), .ref (ad 11), .ref (ad 12), .ref (ad 13), .ref (ad 14), .int bn, .int bm, .ref (ad 17), .int la, .int fo, .int fi, .int lp, .ref (ad 22), .int tr_, .int sp, .int ip, .ref (ad 26), .ref (ad 27), .ref (ad 28), .ref (ad 29)])), (ad 0, .inl (E.2 0, 374, .inl sa)), (h, .inl (E.2 0, 8, .inl row))] (S := (Nat → Int32) × (Nat → Int32)) (fun (u : (Nat → Int32) × (Nat → Int32)) => [(ad 9, .inl (E.2 0, 128, .inl u.1)), (ad 10, .inl (E.2 0, 64, .inl u.2))]) (fun (r : Int32) (u : (Nat → Int32) × (Nat → Int32)) => r = paysF sa T rn k) := mX6_paid l E ad im at_ op st_ us bn bm la fo fi lp tr_ sp ip sa nmd pl h row k (nn (sa (32 + 2 * k))) (nn (sa (32 + 2 * k + 1))) T rn (fun t => nn (sa (8 + t))) hk (hI.kd hk).1 (hI.kd hk).2 (hI.m hk).1 (hI.m hk).2 hT hTo hrow hI.pr
abbrev rmX6_goes : Room := { frames := 4, cells := 0, slots := 0, locals := 95 }
set_option maxHeartbeats 400000 in
set_option maxRecDepth 100000 in
theorem mX6_goes (l : Launch) (E : fx_En) (ad : Nat → Nat) (im : Int32) (at_ : Int32) (op : Int32) (st_ : Int32) (us : Int32) (bn : Int32) (bm : Int32) (la : Int32) (fo : Int32) (fi : Int32) (lp : Int32) (tr_ : Int32) (sp : Int32) (ip : Int32) (sa : Nat → Int32) (nmd : Nat → Int32) (pl : Nat → Int32) (h : Nat) (row : Nat → Int32) (k : Nat) (T : Tx) (rn : Nat → Nat) (hk : k < 4) (hI : Inv sa) (hT : TM sa 0 T) (hTo : TOk T) (hrow : ∀ t, t < 8 → row t = nI (rn t) ∧ rn t ≤ 99) : fx_Mi l yX6_goes cX6_goes 5 .int rmX6_goes E [.ref (ad 30), .int (nI k), .ref h] [(ad 0, .inl (E.2 0, 374, .inl sa)), (ad 9, .inl (E.2 0, 128, .inl nmd)), (ad 10, .inl (E.2 0, 64, .inl pl))] [(ad 30, .inr (6, [.ref (ad 0), .ref (ad 1), .int im, .ref (ad 3), .int at_, .int op, .int st_, .int us, .ref (ad 8), .ref (ad 9), .ref (ad 10), .ref (ad 11), .ref (ad 12), .ref (ad 13), .ref (ad 14), .int bn, .int bm, .ref (ad 17), .int la, .int fo, .int fi, .int lp, .ref (ad 22), .int tr_, .int sp, .int ip, .ref (ad 26), .ref (ad 27), .ref (ad 28), .ref (ad 29)])), (h, .inl (E.2 0, 8, .inl row))] (S := (Nat → Int32) × (Nat → Int32)) (fun (u : (Nat → Int32) × (Nat → Int32)) => [(ad 0, .inl (E.2 0, 374, .inl (goesA sa T row rn k))), (ad 9, .inl (E.2 0, 128, .inl u.1)), (ad 10, .inl (E.2 0, 64, .inl u.2))]) (fun (r : Int32) (u : (Nat → Int32) × (Nat → Int32)) => r = paysF sa T rn k) := by
  refine fx_iW rfl rfl ?_
  intro p e s m args below meth c A ls Q X hE hP hD hR hA hl hret
  have hx := X.1
  have hb := X.2.1
  have hS : va_S A s.heap s.heap [] := va_S.rf
  replace hP : va_P E.1 clA [(ad 0, .inl (E.2 0, 374, .inl sa)), (ad 9, .inl (E.2 0, 128, .inl nmd)), (ad 10, .inl (E.2 0, 64, .inl pl))] _ := hP
  replace hD : va_D A [(ad 0, .inl (E.2 0, 374, .inl sa)), (ad 9, .inl (E.2 0, 128, .inl nmd)), (ad 10, .inl (E.2 0, 64, .inl pl))] := hD
  replace hl : lv_has ls 5 [(0, .ref (ad 30)), (1, .int (nI k)), (2, .ref h)] := hl
  refine lv_aload_n hx hb dX6_goes_0 rfl (lv_at hl 0 rfl) ?_
  refine lv_iload_n hx hb dX6_goes_1 rfl (lv_at hl 1 rfl) ?_
  refine lv_aload_n hx hb dX6_goes_2 rfl (lv_at hl 2 rfl) ?_
  refine fx_ci (va_runV (As := [.int (nI k), .ref h]) (rest := []) X (mX6_paidI l E ad im at_ op st_ us bn bm la fo fi lp tr_ sp ip sa nmd pl h row k T rn (by first | assumption | omega) (by first | assumption | omega) (by first | assumption | omega) (by first | assumption | omega) (by first | assumption | omega) _) (cwV 2 X.2.2.2.2 (lw_V q1428 q1430 qs54 q75 q1431) rfl rfl rfl ⟨rfl, hdX6_paid⟩ ⟨Nat.le_of_ble_eq_true rfl, Nat.le_of_ble_eq_true rfl⟩) (fx_preV (fx_pre hE hP hD hS hR [1, 2] rfl rfl (fx_rcr 0 rfl (fx_rcm 0 rfl (by decide) (fx_rcr 1 rfl fx_rc0)))) (va_recv hE.1 (hR.at hS) (ci := 6) (q0 := 0) rfl rfl)) rfl rfl hl.1 rfl (lv_room (Nat.le_of_ble_eq_true rfl)) dX6_goes_3 ⟨Nat.le_refl _, Nat.le_refl _⟩) hP hD hS hA [1, 2] rfl rfl (fun r_3 u H locs hq_3 hP hD hS => ?_)
  obtain ⟨nm2_3, pl2_3⟩ := u
  replace hP : va_P E.1 clA [(ad 0, .inl (E.2 0, 374, .inl sa)), (ad 9, .inl (E.2 0, 128, .inl nm2_3)), (ad 10, .inl (E.2 0, 64, .inl pl2_3))] _ := hP
  replace hD : va_D A [(ad 0, .inl (E.2 0, 374, .inl sa)), (ad 9, .inl (E.2 0, 128, .inl nm2_3)), (ad 10, .inl (E.2 0, 64, .inl pl2_3))] := hD
  replace hq_3 : r_3 = paysF sa T rn k := hq_3
  refine fx_ti (show r_3 = (paysF sa T rn k) from hq_3) ?_
  refine lv_istore_n (lv' := [(3, .int (paysF sa T rn k)), (0, .ref (ad 30)), (1, .int (nI k)), (2, .ref h)]) hx hb dX6_goes_6 rfl hl (by decide) rfl (fun ls hl => ?_)
  refine lv_aload_n hx hb dX6_goes_7 rfl (lv_at hl 1 rfl) ?_
  refine fx_get X hE (hR.at hS) 0 rfl rfl 0 rfl q1168 rfl rfl dX6_goes_8 ?_
  refine lv_iconst (v := 1) hx hb dX6_goes_11 rfl ?_
  refine lv_aload_n hx hb dX6_goes_12 rfl (lv_at hl 1 rfl) ?_
  refine fx_get X hE (hR.at hS) 0 rfl rfl 0 rfl q1168 rfl rfl dX6_goes_13 ?_
  refine lv_iconst (v := 1) hx hb dX6_goes_16 rfl ?_
  refine fx_iald X hE hP 0 rfl 1 rfl (by decide) rfl dX6_goes_17 ?_
  refine lv_iload_n hx hb dX6_goes_18 rfl (lv_at hl 0 rfl) ?_
  refine lv_iadd hx hb dX6_goes_19 ?_
  refine lv_iconst (v := 0) hx hb dX6_goes_20 rfl ?_
  refine lv_ldc (v := 99999999) hx hb X.2.2.2.1 (X.2.2.2.2 _ q1444) dX6_goes_21 ?_
  refine fx_ci (va_runS (As := [.int ((sa 1) + (paysF sa T rn k)), .int 0, .int 99999999]) (rest := [.int 1, .ref (ad 0)]) X (mX6_held l E ((sa 1) + (paysF sa T rn k)) 0 99999999 _) (va_cwS 3 X.2.2.2.2 (lw_S q1350 q1351 q75 q1352) rfl rfl rfl hdX6_held ⟨Nat.le_of_ble_eq_true rfl, Nat.le_of_ble_eq_true rfl⟩) (fx_pre hE hP hD hS hR [] rfl rfl fx_rc0) rfl rfl hl.1 rfl (lv_room (Nat.le_of_ble_eq_true rfl)) dX6_goes_23 ⟨Nat.le_refl _, Nat.le_refl _⟩) hP hD hS hA [] rfl rfl (fun r_23 u H locs hq_23 hP hD hS => ?_)
  replace hP : va_P E.1 clA [(ad 0, .inl (E.2 0, 374, .inl sa)), (ad 9, .inl (E.2 0, 128, .inl nm2_3)), (ad 10, .inl (E.2 0, 64, .inl pl2_3))] _ := hP
  replace hD : va_D A [(ad 0, .inl (E.2 0, 374, .inl sa)), (ad 9, .inl (E.2 0, 128, .inl nm2_3)), (ad 10, .inl (E.2 0, 64, .inl pl2_3))] := hD
  replace hq_23 : r_23 = hld ((sa 1) + (paysF sa T rn k)) 0 99999999 := hq_23
  refine fx_ti (show r_23 = (hld ((sa 1) + (paysF sa T rn k)) 0 99999999) from hq_23) ?_
  refine fx_iast (ws' := [(ad 0, .inl (E.2 0, 374, .inl (upd sa 1 (hld ((sa 1) + (paysF sa T rn k)) 0 99999999)))), (ad 9, .inl (E.2 0, 128, .inl nm2_3)), (ad 10, .inl (E.2 0, 64, .inl pl2_3))]) X hE hP hD hS 0 rfl 1 rfl (by decide) rfl rfl dX6_goes_26 (fun H locs hP hD hS => ?_)
  refine lv_aload_n hx hb dX6_goes_27 rfl (lv_at hl 1 rfl) ?_
  refine fx_get X hE (hR.at hS) 0 rfl rfl 0 rfl q1168 rfl rfl dX6_goes_28 ?_
  refine lv_iconst (v := 2) hx hb dX6_goes_31 rfl ?_
  refine lv_aload_n hx hb dX6_goes_32 rfl (lv_at hl 1 rfl) ?_
  refine fx_get X hE (hR.at hS) 0 rfl rfl 0 rfl q1168 rfl rfl dX6_goes_33 ?_
  refine lv_iconst (v := 2) hx hb dX6_goes_36 rfl ?_
  refine fx_iald X hE hP 0 rfl 2 rfl (by decide) rfl dX6_goes_37 ?_
  refine fx_ti (show ((upd sa 1 (hld ((sa 1) + (paysF sa T rn k)) 0 99999999)) 2) = (sa 2) from rfl) ?_
  refine lv_aload_n hx hb dX6_goes_38 rfl (lv_at hl 1 rfl) ?_
  refine lv_aload_n hx hb dX6_goes_39 rfl (lv_at hl 3 rfl) ?_
  refine fx_ci (va_runV (As := [.ref h]) (rest := [.int (sa 2), .int 2, .ref (ad 0)]) X (mX6_costOf l E ad im at_ op st_ us bn bm la fo fi lp tr_ sp ip (upd sa 1 (hld ((sa 1) + (paysF sa T rn k)) 0 99999999)) h row _) (cwV 1 X.2.2.2.2 (lw_V q1420 q1422 qs53 q75 q1423) rfl rfl rfl ⟨rfl, hdX6_costOf⟩ ⟨Nat.le_of_ble_eq_true rfl, Nat.le_of_ble_eq_true rfl⟩) (fx_preV (fx_pre hE hP hD hS hR [] rfl rfl (fx_rcr 0 rfl (fx_rcm 0 rfl (by decide) (fx_rcr 1 rfl fx_rc0)))) (va_recv hE.1 (hR.at hS) (ci := 6) (q0 := 0) rfl rfl)) rfl rfl hl.1 rfl (lv_room (Nat.le_of_ble_eq_true rfl)) dX6_goes_40 ⟨Nat.le_refl _, Nat.le_refl _⟩) hP hD hS hA [] rfl rfl (fun r_40 u H locs hq_40 hP hD hS => ?_)
  replace hP : va_P E.1 clA [(ad 0, .inl (E.2 0, 374, .inl (upd sa 1 (hld ((sa 1) + (paysF sa T rn k)) 0 99999999)))), (ad 9, .inl (E.2 0, 128, .inl nm2_3)), (ad 10, .inl (E.2 0, 64, .inl pl2_3))] _ := hP
  replace hD : va_D A [(ad 0, .inl (E.2 0, 374, .inl (upd sa 1 (hld ((sa 1) + (paysF sa T rn k)) 0 99999999)))), (ad 9, .inl (E.2 0, 128, .inl nm2_3)), (ad 10, .inl (E.2 0, 64, .inl pl2_3))] := hD
  replace hq_40 : r_40 = l_sum (fun i_ => row i_ * (upd sa 1 (hld ((sa 1) + (paysF sa T rn k)) 0 99999999)) (16 + i_)) 8 := hq_40
  refine fx_ti (show r_40 = (nI (sumN rn (fun t => nn (sa (16 + t))) 8)) from hq_40.trans (sumN_I (pc := fun t => (upd sa 1 (hld ((sa 1) + (paysF sa T rn k)) 0 99999999)) (16 + t)) 8 (fun t ht => (hrow t ht).1) (fun t ht => (upd_n _ _ (by omega)).trans (hI.co t ht).1))) ?_
  refine lv_iadd hx hb dX6_goes_43 ?_
  refine lv_iconst (v := 0) hx hb dX6_goes_44 rfl ?_
  refine lv_ldc (v := 99999999) hx hb X.2.2.2.1 (X.2.2.2.2 _ q1444) dX6_goes_45 ?_
  refine fx_ci (va_runS (As := [.int ((sa 2) + (nI (sumN rn (fun t => nn (sa (16 + t))) 8))), .int 0, .int 99999999]) (rest := [.int 2, .ref (ad 0)]) X (mX6_held l E ((sa 2) + (nI (sumN rn (fun t => nn (sa (16 + t))) 8))) 0 99999999 _) (va_cwS 3 X.2.2.2.2 (lw_S q1350 q1351 q75 q1352) rfl rfl rfl hdX6_held ⟨Nat.le_of_ble_eq_true rfl, Nat.le_of_ble_eq_true rfl⟩) (fx_pre hE hP hD hS hR [] rfl rfl fx_rc0) rfl rfl hl.1 rfl (lv_room (Nat.le_of_ble_eq_true rfl)) dX6_goes_47 ⟨Nat.le_refl _, Nat.le_refl _⟩) hP hD hS hA [] rfl rfl (fun r_47 u H locs hq_47 hP hD hS => ?_)
  replace hP : va_P E.1 clA [(ad 0, .inl (E.2 0, 374, .inl (upd sa 1 (hld ((sa 1) + (paysF sa T rn k)) 0 99999999)))), (ad 9, .inl (E.2 0, 128, .inl nm2_3)), (ad 10, .inl (E.2 0, 64, .inl pl2_3))] _ := hP
  replace hD : va_D A [(ad 0, .inl (E.2 0, 374, .inl (upd sa 1 (hld ((sa 1) + (paysF sa T rn k)) 0 99999999)))), (ad 9, .inl (E.2 0, 128, .inl nm2_3)), (ad 10, .inl (E.2 0, 64, .inl pl2_3))] := hD
  replace hq_47 : r_47 = hld ((sa 2) + (nI (sumN rn (fun t => nn (sa (16 + t))) 8))) 0 99999999 := hq_47
  refine fx_ti (show r_47 = (hld ((sa 2) + (nI (sumN rn (fun t => nn (sa (16 + t))) 8))) 0 99999999) from hq_47) ?_
  refine fx_iast (ws' := [(ad 0, .inl (E.2 0, 374, .inl (upd (upd sa 1 (hld ((sa 1) + (paysF sa T rn k)) 0 99999999)) 2 (hld ((sa 2) + (nI (sumN rn (fun t => nn (sa (16 + t))) 8))) 0 99999999)))), (ad 9, .inl (E.2 0, 128, .inl nm2_3)), (ad 10, .inl (E.2 0, 64, .inl pl2_3))]) X hE hP hD hS 0 rfl 2 rfl (by decide) rfl rfl dX6_goes_50 (fun H locs hP hD hS => ?_)
  refine lv_aload_n hx hb dX6_goes_51 rfl (lv_at hl 1 rfl) ?_
  refine fx_get X hE (hR.at hS) 0 rfl rfl 0 rfl q1168 rfl rfl dX6_goes_52 ?_
  refine lv_iconst (v := 0) hx hb dX6_goes_55 rfl ?_
  refine lv_aload_n hx hb dX6_goes_56 rfl (lv_at hl 1 rfl) ?_
  refine fx_get X hE (hR.at hS) 0 rfl rfl 0 rfl q1168 rfl rfl dX6_goes_57 ?_
  refine lv_iconst (v := 0) hx hb dX6_goes_60 rfl ?_
  refine fx_iald X hE hP 0 rfl 0 rfl (by decide) rfl dX6_goes_61 ?_
  refine fx_ti (show ((upd (upd sa 1 (hld ((sa 1) + (paysF sa T rn k)) 0 99999999)) 2 (hld ((sa 2) + (nI (sumN rn (fun t => nn (sa (16 + t))) 8))) 0 99999999)) 0) = (sa 0) from rfl) ?_
  refine lv_iconst (v := 1) hx hb dX6_goes_62 rfl ?_
  refine lv_iadd hx hb dX6_goes_63 ?_
  refine lv_iconst (v := 0) hx hb dX6_goes_64 rfl ?_
  refine lv_sipush (v := 9999) hx hb dX6_goes_65 rfl ?_
  refine fx_ci (va_runS (As := [.int ((sa 0) + 1), .int 0, .int 9999]) (rest := [.int 0, .ref (ad 0)]) X (mX6_held l E ((sa 0) + 1) 0 9999 _) (va_cwS 3 X.2.2.2.2 (lw_S q1350 q1351 q75 q1352) rfl rfl rfl hdX6_held ⟨Nat.le_of_ble_eq_true rfl, Nat.le_of_ble_eq_true rfl⟩) (fx_pre hE hP hD hS hR [] rfl rfl fx_rc0) rfl rfl hl.1 rfl (lv_room (Nat.le_of_ble_eq_true rfl)) dX6_goes_68 ⟨Nat.le_refl _, Nat.le_refl _⟩) hP hD hS hA [] rfl rfl (fun r_68 u H locs hq_68 hP hD hS => ?_)
  replace hP : va_P E.1 clA [(ad 0, .inl (E.2 0, 374, .inl (upd (upd sa 1 (hld ((sa 1) + (paysF sa T rn k)) 0 99999999)) 2 (hld ((sa 2) + (nI (sumN rn (fun t => nn (sa (16 + t))) 8))) 0 99999999)))), (ad 9, .inl (E.2 0, 128, .inl nm2_3)), (ad 10, .inl (E.2 0, 64, .inl pl2_3))] _ := hP
  replace hD : va_D A [(ad 0, .inl (E.2 0, 374, .inl (upd (upd sa 1 (hld ((sa 1) + (paysF sa T rn k)) 0 99999999)) 2 (hld ((sa 2) + (nI (sumN rn (fun t => nn (sa (16 + t))) 8))) 0 99999999)))), (ad 9, .inl (E.2 0, 128, .inl nm2_3)), (ad 10, .inl (E.2 0, 64, .inl pl2_3))] := hD
  replace hq_68 : r_68 = hld ((sa 0) + 1) 0 9999 := hq_68
  refine fx_ti (show r_68 = (hld ((sa 0) + 1) 0 9999) from hq_68) ?_
  refine fx_iast (ws' := [(ad 0, .inl (E.2 0, 374, .inl (upd (upd (upd sa 1 (hld ((sa 1) + (paysF sa T rn k)) 0 99999999)) 2 (hld ((sa 2) + (nI (sumN rn (fun t => nn (sa (16 + t))) 8))) 0 99999999)) 0 (hld ((sa 0) + 1) 0 9999)))), (ad 9, .inl (E.2 0, 128, .inl nm2_3)), (ad 10, .inl (E.2 0, 64, .inl pl2_3))]) X hE hP hD hS 0 rfl 0 rfl (by decide) rfl rfl dX6_goes_71 (fun H locs hP hD hS => ?_)
  refine lv_iconst (v := 0) hx hb dX6_goes_72 rfl ?_
  refine lv_istore (lv' := [(4, .int 0), (3, .int (paysF sa T rn k)), (0, .ref (ad 30)), (1, .int (nI k)), (2, .ref h)]) hx hb dX6_goes_73 hl (by decide) rfl (fun ls hl => ?_)
  have loop_75 : ∀ (n_75 : Nat) (t : Nat) (s2 : Nat → Int32), (8 - t < n_75) → (t ≤ 8) → (s2 = subN t (gB sa (paysF sa T rn k) (nI (sumN rn (fun t => nn (sa (16 + t))) 8))) row) → ∀ (H : Heap) (locs : List Loc), va_P E.1 clA [(ad 0, .inl (E.2 0, 374, .inl s2)), (ad 9, .inl (E.2 0, 128, .inl nm2_3)), (ad 10, .inl (E.2 0, 64, .inl pl2_3))] H → va_D A [(ad 0, .inl (E.2 0, 374, .inl s2)), (ad 9, .inl (E.2 0, 128, .inl nm2_3)), (ad 10, .inl (E.2 0, 64, .inl pl2_3))] → va_S A s.heap H locs → ∀ (ls : Array Slot), lv_has ls 5 [(4, .int (nI t)), (3, .int (paysF sa T rn k)), (0, .ref (ad 30)), (1, .int (nI k)), (2, .ref h)] → W p l e rmX6_goes s m args below meth c H locs 0 0 Q (F0 m 75 ls []) := by
    intro n_75
    induction n_75 with
    | zero => intro t s2 hm_75; exact absurd hm_75 (Nat.not_lt_zero _)
    | succ n_75 ih_75 =>
      intro t s2 hm_75 ht hs2 H locs hP hD hS ls hl
      refine lv_iload hx hb dX6_goes_75 (lv_at hl 0 rfl) ?_
      refine lv_bipush (v := 8) hx hb dX6_goes_77 rfl ?_
      refine lv_icmp_ge (tgt := 105) hx hb dX6_goes_79 (by decide) (fun c_79 => ?_) (fun c_79 => ?_)
      · -- jump 105
        have n_79 := fx_le1 (a := 8) (b := t) c_79 (by omega) (by omega)
        obtain rfl : t = 8 := by omega
        subst hs2
        refine lv_iload_n hx hb dX6_goes_105 rfl (lv_at hl 1 rfl) ?_
        exact hret (paysF sa T rn k) (nm2_3, pl2_3) (rfl) (rfl) hP hD hS (Nat.le_refl _) (Nat.le_refl _) dX6_goes_106
      · -- fall 82
        have n_79 := fx_le0 (a := 8) (b := t) c_79 (by omega) (by omega)
        refine lv_aload_n hx hb dX6_goes_82 rfl (lv_at hl 2 rfl) ?_
        refine fx_get X hE (hR.at hS) 0 rfl rfl 0 rfl q1168 rfl rfl dX6_goes_83 ?_
        refine lv_bipush (v := 24) hx hb dX6_goes_86 rfl ?_
        refine lv_iload hx hb dX6_goes_88 (lv_at hl 0 rfl) ?_
        refine lv_iadd hx hb dX6_goes_90 ?_
        refine fx_ti (nI_add 24 t) ?_
        refine lv_dup2_11 hx hb dX6_goes_91 rfl rfl ?_
        refine fx_iald X hE hP 0 rfl (24 + t) rfl (by omega) rfl dX6_goes_92 ?_
        refine lv_aload_n hx hb dX6_goes_93 rfl (lv_at hl 4 rfl) ?_
        refine lv_iload hx hb dX6_goes_94 (lv_at hl 0 rfl) ?_
        refine fx_iald X hE (hR.at hS) 1 rfl t rfl (by omega) rfl dX6_goes_96 ?_
        refine lv_isub hx hb dX6_goes_97 ?_
        refine fx_iast (ws' := [(ad 0, .inl (E.2 0, 374, .inl (upd s2 (24 + t) ((s2 (24 + t)) - (row t))))), (ad 9, .inl (E.2 0, 128, .inl nm2_3)), (ad 10, .inl (E.2 0, 64, .inl pl2_3))]) X hE hP hD hS 0 rfl (24 + t) rfl (by omega) rfl rfl dX6_goes_98 (fun H locs hP hD hS => ?_)
        refine lv_iinc (v := nI (t + 1)) (lv' := [(4, .int (nI (t + 1))), (3, .int (paysF sa T rn k)), (0, .ref (ad 30)), (1, .int (nI k)), (2, .ref h)]) hx hb dX6_goes_99 hl (k := 0) rfl (fx_inc _) (by decide) rfl (fun ls hl => ?_)
        refine lv_goto (tgt := 75) hx hb dX6_goes_102 (by decide) ?_
        exact ih_75 (t + 1) (upd s2 (24 + t) ((s2 (24 + t)) - (row t))) (by omega) (by omega) (subN_s hs2) _ _ hP hD hS ls (lv_sub hl [0, 1, 2, 3, 4] rfl)
  exact loop_75 ((8 - 0) + 1) 0 (upd (upd (upd sa 1 (hld ((sa 1) + (paysF sa T rn k)) 0 99999999)) 2 (hld ((sa 2) + (nI (sumN rn (fun t => nn (sa (16 + t))) 8))) 0 99999999)) 0 (hld ((sa 0) + 1) 0 9999)) (Nat.lt_succ_self _) (by omega) (subN_0 _ _) _ _ hP hD hS ls (lv_sub hl [0, 1, 2, 3, 4] rfl)
