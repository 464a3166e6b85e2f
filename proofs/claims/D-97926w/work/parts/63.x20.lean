set_option maxRecDepth 100000
theorem hdJ3_isLatin1 : yJ3_isLatin1.cls ≠ "java/lang/invoke/MethodHandle" ∧ yJ3_isLatin1.cls ≠ "java/lang/invoke/VarHandle" ∧ (parseMethodDescriptor yJ3_isLatin1.desc).map (fun d => d.parameters.length) = some 0 := by decide +kernel
theorem hdJ3_coder : yJ3_coder.cls ≠ "java/lang/invoke/MethodHandle" ∧ yJ3_coder.cls ≠ "java/lang/invoke/VarHandle" ∧ (parseMethodDescriptor yJ3_coder.desc).map (fun d => d.parameters.length) = some 0 := by decide +kernel
theorem hdJ3_length : yJ3_length.cls ≠ "java/lang/invoke/MethodHandle" ∧ yJ3_length.cls ≠ "java/lang/invoke/VarHandle" ∧ (parseMethodDescriptor yJ3_length.desc).map (fun d => d.parameters.length) = some 0 := by decide +kernel
theorem hdJ4_canEncode : yJ4_canEncode.cls ≠ "java/lang/invoke/MethodHandle" ∧ yJ4_canEncode.cls ≠ "java/lang/invoke/VarHandle" ∧ (parseMethodDescriptor yJ4_canEncode.desc).map (fun d => d.parameters.length) = some 1 := by decide +kernel
theorem hdJ4_indexOfChar : yJ4_indexOfChar.cls ≠ "java/lang/invoke/MethodHandle" ∧ yJ4_indexOfChar.cls ≠ "java/lang/invoke/VarHandle" ∧ (parseMethodDescriptor yJ4_indexOfChar.desc).map (fun d => d.parameters.length) = some 4 := by decide +kernel
theorem hdJ4_indexOf : yJ4_indexOf.cls ≠ "java/lang/invoke/MethodHandle" ∧ yJ4_indexOf.cls ≠ "java/lang/invoke/VarHandle" ∧ (parseMethodDescriptor yJ4_indexOf.desc).map (fun d => d.parameters.length) = some 4 := by decide +kernel
theorem hdJ3_indexOf_2 : yJ3_indexOf_2.cls ≠ "java/lang/invoke/MethodHandle" ∧ yJ3_indexOf_2.cls ≠ "java/lang/invoke/VarHandle" ∧ (parseMethodDescriptor yJ3_indexOf_2.desc).map (fun d => d.parameters.length) = some 2 := by decide +kernel
theorem hdJ3_indexOf : yJ3_indexOf.cls ≠ "java/lang/invoke/MethodHandle" ∧ yJ3_indexOf.cls ≠ "java/lang/invoke/VarHandle" ∧ (parseMethodDescriptor yJ3_indexOf.desc).map (fun d => d.parameters.length) = some 1 := by decide +kernel
theorem hdJ1_init_2 : yJ1_init_2.cls ≠ "java/lang/invoke/MethodHandle" ∧ yJ1_init_2.cls ≠ "java/lang/invoke/VarHandle" ∧ (parseMethodDescriptor yJ1_init_2.desc).map (fun d => d.parameters.length) = some 4 := by decide +kernel
theorem hdJ2_init : yJ2_init.cls ≠ "java/lang/invoke/MethodHandle" ∧ yJ2_init.cls ≠ "java/lang/invoke/VarHandle" ∧ (parseMethodDescriptor yJ2_init.desc).map (fun d => d.parameters.length) = some 4 := by decide +kernel
theorem hdX15_init : yX15_init.cls ≠ "java/lang/invoke/MethodHandle" ∧ yX15_init.cls ≠ "java/lang/invoke/VarHandle" ∧ (parseMethodDescriptor yX15_init.desc).map (fun d => d.parameters.length) = some 1 := by decide +kernel
theorem hdX13_here : yX13_here.cls ≠ "java/lang/invoke/MethodHandle" ∧ yX13_here.cls ≠ "java/lang/invoke/VarHandle" ∧ (parseMethodDescriptor yX13_here.desc).map (fun d => d.parameters.length) = some 0 := by decide +kernel
theorem hdX13_takes : yX13_takes.cls ≠ "java/lang/invoke/MethodHandle" ∧ yX13_takes.cls ≠ "java/lang/invoke/VarHandle" ∧ (parseMethodDescriptor yX13_takes.desc).map (fun d => d.parameters.length) = some 1 := by decide +kernel
theorem hdX13_isOneOf : yX13_isOneOf.cls ≠ "java/lang/invoke/MethodHandle" ∧ yX13_isOneOf.cls ≠ "java/lang/invoke/VarHandle" ∧ (parseMethodDescriptor yX13_isOneOf.desc).map (fun d => d.parameters.length) = some 1 := by decide +kernel
theorem hdX13_wrong : yX13_wrong.cls ≠ "java/lang/invoke/MethodHandle" ∧ yX13_wrong.cls ≠ "java/lang/invoke/VarHandle" ∧ (parseMethodDescriptor yX13_wrong.desc).map (fun d => d.parameters.length) = some 0 := by decide +kernel
theorem hdX14_add : yX14_add.cls ≠ "java/lang/invoke/MethodHandle" ∧ yX14_add.cls ≠ "java/lang/invoke/VarHandle" ∧ (parseMethodDescriptor yX14_add.desc).map (fun d => d.parameters.length) = some 2 := by decide +kernel
abbrev rxJ3_isLatin1 : Room := { frames := 0, cells := 0, slots := 0, locals := 0 }
set_option maxHeartbeats 400000 in
set_option maxRecDepth 100000 in
theorem xJ3_isLatin1 (l : Launch) (E : fx_En) (ks : fz_Ks) (si : Nat) (hi : si < 5) : fz_Mi l yJ3_isLatin1 cJ3_isLatin1 1 .boolean rxJ3_isLatin1 0 0 E ks [.ref (ks.1 si)] [] [] (S := Unit) (fun (u : Unit) => []) (fun (r : Int32) (u : Unit) => r = 1) "" (SX := Unit) (fun (u : Unit) => []) (fun (q : Nat) (u : Unit) => False) := by
  refine fz_iW rfl rfl ?_
  intro p e s m args below meth c A ls Q X hnm hE hP hD hR hZ hA hl hret hthrow
  have hx := X.1
  have hb := X.2.1
  have hS : va_S A s.heap s.heap [] := va_S.rf
  replace hl : lv_has ls 1 [(0, .ref (ks.1 si))] := hl
  refine va_gets X.1 X.2.1 hZ.2.1 hS X.2.2.2.1 (X.2.2.2.2 _ q720) (fun _ h => h) dJ3_isLatin1_0 ?_
  refine lv_if_eq (tgt := 17) hx hb dJ3_isLatin1_3 (by decide) (fun c => absurd c (by decide)) (fun _ => ?_)
  refine lv_aload_n hx hb dJ3_isLatin1_6 rfl (lv_at hl 0 rfl) ?_
  refine vk_getf X.1 X.2.1 (hZ.2.2.1.1 si (by omega)).2.1 hS X.2.2.2.1 (X.2.2.2.2 _ q1604) (fun _ h => h) dJ3_isLatin1_7 ?_
  refine lv_if_ne (tgt := 17) hx hb dJ3_isLatin1_10 (by decide) (fun c => (c (by decide)).elim) (fun _ => ?_)
  refine lv_iconst (v := 1) hx hb dJ3_isLatin1_13 rfl ?_
  refine lv_goto (tgt := 18) hx hb dJ3_isLatin1_14 (by decide) ?_
  exact hret 1 () (rfl) (rfl) hP hD hS (Nat.le_refl _) (Nat.le_refl _) dJ3_isLatin1_18
abbrev rxJ3_coder : Room := { frames := 0, cells := 0, slots := 0, locals := 0 }
set_option maxHeartbeats 400000 in
set_option maxRecDepth 100000 in
theorem xJ3_coder (l : Launch) (E : fx_En) (ks : fz_Ks) (si : Nat) (hi : si < 5) : fz_Mi l yJ3_coder cJ3_coder 1 .byte rxJ3_coder 0 0 E ks [.ref (ks.1 si)] [] [] (S := Unit) (fun (u : Unit) => []) (fun (r : Int32) (u : Unit) => r = 0) "" (SX := Unit) (fun (u : Unit) => []) (fun (q : Nat) (u : Unit) => False) := by
  refine fz_iW rfl rfl ?_
  intro p e s m args below meth c A ls Q X hnm hE hP hD hR hZ hA hl hret hthrow
  have hx := X.1
  have hb := X.2.1
  have hS : va_S A s.heap s.heap [] := va_S.rf
  replace hl : lv_has ls 1 [(0, .ref (ks.1 si))] := hl
  refine va_gets X.1 X.2.1 hZ.2.1 hS X.2.2.2.1 (X.2.2.2.2 _ q720) (fun _ h => h) dJ3_coder_0 ?_
  refine lv_if_eq (tgt := 13) hx hb dJ3_coder_3 (by decide) (fun c => absurd c (by decide)) (fun _ => ?_)
  refine lv_aload_n hx hb dJ3_coder_6 rfl (lv_at hl 0 rfl) ?_
  refine vk_getf X.1 X.2.1 (hZ.2.2.1.1 si (by omega)).2.1 hS X.2.2.2.1 (X.2.2.2.2 _ q1604) (fun _ h => h) dJ3_coder_7 ?_
  refine lv_goto (tgt := 14) hx hb dJ3_coder_10 (by decide) ?_
  exact hret 0 () (rfl) (rfl) hP hD hS (Nat.le_refl _) (Nat.le_refl _) dJ3_coder_14
abbrev rxJ3_length : Room := { frames := 1, cells := 0, slots := 0, locals := 20 }
set_option maxHeartbeats 400000 in
set_option maxRecDepth 100000 in
theorem xJ3_length (l : Launch) (E : fx_En) (ks : fz_Ks) (si : Nat) (hi : si < 5) : fz_Mi l yJ3_length cJ3_length 1 .int rxJ3_length 0 0 E ks [.ref (ks.1 si)] [] [] (S := Unit) (fun (u : Unit) => []) (fun (r : Int32) (u : Unit) => r = nI (fz_len.getD si 0)) "" (SX := Unit) (fun (u : Unit) => []) (fun (q : Nat) (u : Unit) => False) := by
  refine fz_iW rfl rfl ?_
  intro p e s m args below meth c A ls Q X hnm hE hP hD hR hZ hA hl hret hthrow
  have hx := X.1
  have hb := X.2.1
  have hS : va_S A s.heap s.heap [] := va_S.rf
  replace hl : lv_has ls 1 [(0, .ref (ks.1 si))] := hl
  refine lv_aload_n hx hb dJ3_length_0 rfl (lv_at hl 0 rfl) ?_
  refine vk_getf X.1 X.2.1 (hZ.2.2.1.1 si (by omega)).2.2.1 hS X.2.2.2.1 (X.2.2.2.2 _ q1605) (fun _ h => h) dJ3_length_1 ?_
  refine va_tlen X.1 X.2.1 (hZ.2.2.1.1 si (by omega)).2.2.2 hS (v := nI (fz_len.getD si 0)) rfl dJ3_length_4 ?_
  refine lv_aload_n hx hb dJ3_length_5 rfl (lv_at hl 0 rfl) ?_
  refine fz_ci (vz_runV (As := []) (rest := [.int (nI (fz_len.getD si 0))]) X (xJ3_coder l E ks si (by first | assumption | omega) _) (cwV 0 X.2.2.2.2 (lw_V q726 q727 q728 q88 q729) rfl rfl rfl ⟨rfl, hdJ3_coder⟩ ⟨Nat.le_of_ble_eq_true rfl, Nat.le_of_ble_eq_true rfl⟩) (fx_preV (fz_pre hE hP hD hS hR hZ hA [] rfl rfl fx_rc0) (vk_recv hZ.2.2.1 (by omega) hS)) rfl rfl hl.1 rfl (lv_room (Nat.le_of_ble_eq_true rfl)) dJ3_length_6 ⟨Nat.le_refl _, Nat.le_refl _⟩) hP hD hS hA [] rfl rfl (fun _ _ _ _ _ h => h.elim) (fun r_6 u H locs hq_6 hP hD hS => ?_)
  replace hP : va_P E.1 clA [] _ := hP
  replace hD : va_D A [] := hD
  replace hq_6 : r_6 = 0 := hq_6
  refine fx_ti (show r_6 = 0 from hq_6) ?_
  refine lv_ishr hx hb dJ3_length_9 ?_
  exact hret ((nI (fz_len.getD si 0)) >>> (0 &&& 31)) () (ishr0 _) (rfl) hP hD hS (Nat.le_refl _) (Nat.le_refl _) dJ3_length_10
abbrev rxJ4_canEncode : Room := { frames := 0, cells := 0, slots := 0, locals := 0 }
set_option maxHeartbeats 400000 in
set_option maxRecDepth 100000 in
theorem xJ4_canEncode (l : Launch) (E : fx_En) (cn : Nat) (hcn : cn < 128) : fx_Mi l yJ4_canEncode cJ4_canEncode 1 .boolean rxJ4_canEncode E [.int (nI cn)] [] [] (S := Unit) (fun (u : Unit) => []) (fun (r : Int32) (u : Unit) => r = 1) := by
  refine fx_iW rfl rfl ?_
  intro p e s m args below meth c A ls Q X hE hP hD hR hA hl hret
  have hx := X.1
  have hb := X.2.1
  have hS : va_S A s.heap s.heap [] := va_S.rf
  replace hl : lv_has ls 1 [(0, .int (nI cn))] := hl
  refine lv_iload_n hx hb dJ4_canEncode_0 rfl (lv_at hl 0 rfl) ?_
  refine lv_if_lt (tgt := 15) hx hb dJ4_canEncode_1 (by decide) (fun c_1 => ?_) (fun c_1 => ?_)
  · -- jump 15
    have n_1 := fx_lt1 (a := cn) (b := 0) c_1 (by omega) (by omega)
    refine lv_iconst (v := 0) hx hb dJ4_canEncode_15 rfl ?_
    exact hret 0 () (absurd n_1 (by omega)) (rfl) hP hD hS (Nat.le_refl _) (Nat.le_refl _) dJ4_canEncode_16
  · -- fall 4
    have n_1 := fx_lt0 (a := cn) (b := 0) c_1 (by omega) (by omega)
    refine lv_iload_n hx hb dJ4_canEncode_4 rfl (lv_at hl 0 rfl) ?_
    refine lv_sipush (v := 255) hx hb dJ4_canEncode_5 rfl ?_
    refine lv_icmp_gt (tgt := 15) hx hb dJ4_canEncode_8 (by decide) (fun c_8 => ?_) (fun c_8 => ?_)
    · -- jump 15
      have n_8 := fx_lt1 (a := 255) (b := cn) c_8 (by omega) (by omega)
      refine lv_iconst (v := 0) hx hb dJ4_canEncode_15 rfl ?_
      exact hret 0 () (absurd n_8 (by omega)) (rfl) hP hD hS (Nat.le_refl _) (Nat.le_refl _) dJ4_canEncode_16
    · -- fall 11
      have n_8 := fx_lt0 (a := 255) (b := cn) c_8 (by omega) (by omega)
      refine lv_iconst (v := 1) hx hb dJ4_canEncode_11 rfl ?_
      refine lv_goto (tgt := 16) hx hb dJ4_canEncode_12 (by decide) ?_
      exact hret 1 () (rfl) (rfl) hP hD hS (Nat.le_refl _) (Nat.le_refl _) dJ4_canEncode_16
abbrev rxJ4_indexOfChar : Room := { frames := 0, cells := 0, slots := 0, locals := 0 }
set_option maxHeartbeats 400000 in
set_option maxRecDepth 100000 in
theorem xJ4_indexOfChar (l : Launch) (E : fx_En) (ks : fz_Ks) (si : Nat) (cn : Nat) (hi : si < 5) (hcn : cn < 128) : fz_Mi l yJ4_indexOfChar cJ4_indexOfChar 6 .int rxJ4_indexOfChar 0 0 E ks [.ref (ks.2 si), .int (nI cn), .int 0, .int (nI (fz_len.getD si 0))] [] [] (S := Unit) (fun (u : Unit) => []) (fun (r : Int32) (u : Unit) => IXs si (nI cn) r) "" (SX := Unit) (fun (u : Unit) => []) (fun (q : Nat) (u : Unit) => False) := by
  refine fz_iW rfl rfl ?_
  intro p e s m args below meth c A ls Q X hnm hE hP hD hR hZ hA hl hret hthrow
  have hx := X.1
  have hb := X.2.1
  have hS : va_S A s.heap s.heap [] := va_S.rf
  replace hl : lv_has ls 6 [(0, .ref (ks.2 si)), (1, .int (nI cn)), (2, .int 0), (3, .int (nI (fz_len.getD si 0)))] := hl
  have hle3 := fz_le3 si hi
  refine lv_iload_n hx hb dJ4_indexOfChar_0 rfl (lv_at hl 1 rfl) ?_
  refine lv_i2b (v := (nI cn).toInt8.toInt32) hx hb dJ4_indexOfChar_1 rfl ?_
  refine fx_ti (show (nI cn).toInt8.toInt32 = (nI cn) from fit8 rfl (by omega)) ?_
  refine lv_istore (lv' := [(4, .int (nI cn)), (0, .ref (ks.2 si)), (1, .int (nI cn)), (2, .int 0), (3, .int (nI (fz_len.getD si 0)))]) hx hb dJ4_indexOfChar_2 hl (by decide) rfl (fun ls hl => ?_)
  refine lv_iload_n hx hb dJ4_indexOfChar_4 rfl (lv_at hl 3 rfl) ?_
  refine lv_istore (lv' := [(5, .int 0), (4, .int (nI cn)), (0, .ref (ks.2 si)), (1, .int (nI cn)), (2, .int 0), (3, .int (nI (fz_len.getD si 0)))]) hx hb dJ4_indexOfChar_5 hl (by decide) rfl (fun ls hl => ?_)
  have loop_7 : ∀ (n_7 : Nat) (k : Nat), (fz_len.getD si 0 - k < n_7) → (k ≤ fz_len.getD si 0) → (∀ j, j < k → ¬ bS si j = nI cn) → ∀ (H : Heap) (locs : List Loc), va_P E.1 clA [] H → va_D A [] → va_S A s.heap H locs → ∀ (ls : Array Slot), lv_has ls 6 [(5, .int (nI k)), (4, .int (nI cn)), (0, .ref (ks.2 si)), (1, .int (nI cn)), (2, .int 0), (3, .int (nI (fz_len.getD si 0)))] → W p l e rxJ4_indexOfChar s m args below meth c H locs 0 0 Q (F0 m 7 ls []) := by
    intro n_7
    induction n_7 with
    | zero => intro k hm_7; exact absurd hm_7 (Nat.not_lt_zero _)
    | succ n_7 ih_7 =>
      intro k hm_7 hk hno H locs hP hD hS ls hl
      refine lv_iload hx hb dJ4_indexOfChar_7 (lv_at hl 0 rfl) ?_
      refine lv_iload_n hx hb dJ4_indexOfChar_9 rfl (lv_at hl 5 rfl) ?_
      refine lv_icmp_ge (tgt := 31) hx hb dJ4_indexOfChar_10 (by decide) (fun c_10 => ?_) (fun c_10 => ?_)
      · -- jump 31
        have n_10 := fx_le1 (a := (fz_len.getD si 0)) (b := k) c_10 (by omega) (by omega)
        refine lv_iconst (v := (-1)) hx hb dJ4_indexOfChar_31 rfl ?_
        exact hret (-1) () (Or.inl ⟨rfl, fun j hj => hno j (by omega)⟩) (rfl) hP hD hS (Nat.le_refl _) (Nat.le_refl _) dJ4_indexOfChar_32
      · -- fall 13
        have n_10 := fx_le0 (a := (fz_len.getD si 0)) (b := k) c_10 (by omega) (by omega)
        refine lv_aload_n hx hb dJ4_indexOfChar_13 rfl (lv_at hl 2 rfl) ?_
        refine lv_iload hx hb dJ4_indexOfChar_14 (lv_at hl 0 rfl) ?_
        refine va_tb X.1 X.2.1 (hZ.2.2.1.1 si (by omega)).2.2.2 hS (v := .int ((fz_byt.getD si []).getD k 0)) (fx_ix rfl (by omega) (by rw [Nat.blt_eq]; omega)).1 (by show Value.int (List.getD _ (nI _).toNatClampNeg 0) = _; rw [nI_clamp (by omega)]) dJ4_indexOfChar_16 ?_
        refine lv_iload hx hb dJ4_indexOfChar_17 (lv_at hl 1 rfl) ?_
        refine lv_icmp_ne (tgt := 25) hx hb dJ4_indexOfChar_19 (by decide) (fun c_19 => ?_) (fun c_19 => ?_)
        · -- jump 25
          refine lv_iinc (v := nI (k + 1)) (lv' := [(5, .int (nI (k + 1))), (4, .int (nI cn)), (0, .ref (ks.2 si)), (1, .int (nI cn)), (2, .int 0), (3, .int (nI (fz_len.getD si 0)))]) hx hb dJ4_indexOfChar_25 hl (k := 0) rfl (fx_inc _) (by decide) rfl (fun ls hl => ?_)
          refine lv_goto (tgt := 7) hx hb dJ4_indexOfChar_28 (by decide) ?_
          exact ih_7 (k + 1) (by omega) (by omega) (fun j hj => by rcases Nat.lt_or_ge j k with q | q; exact hno j q; rw [show j = k by omega]; exact c_19) _ _ hP hD hS ls (lv_sub hl [0, 1, 2, 3, 4, 5] rfl)
        · -- fall 22
          refine lv_iload hx hb dJ4_indexOfChar_22 (lv_at hl 0 rfl) ?_
          exact hret (nI k) () (Or.inr ⟨k, n_10, rfl, c_19, hno⟩) (rfl) hP hD hS (Nat.le_refl _) (Nat.le_refl _) dJ4_indexOfChar_24
  exact loop_7 ((fz_len.getD si 0 - 0) + 1) 0 (Nat.lt_succ_self _) (Nat.zero_le _) (fun j hj => absurd hj (Nat.not_lt_zero _)) _ _ hP hD hS ls (lv_sub hl [0, 1, 2, 3, 4, 5] rfl)
abbrev rxJ4_indexOf : Room := { frames := 1, cells := 0, slots := 0, locals := 40 }
set_option maxHeartbeats 400000 in
set_option maxRecDepth 100000 in
theorem xJ4_indexOf (l : Launch) (E : fx_En) (ks : fz_Ks) (si : Nat) (cn : Nat) (hi : si < 5) (hcn : cn < 128) : fz_Mi l yJ4_indexOf cJ4_indexOf 4 .int rxJ4_indexOf 0 0 E ks [.ref (ks.2 si), .int (nI cn), .int 0, .int (nI (fz_len.getD si 0))] [] [] (S := Unit) (fun (u : Unit) => []) (fun (r : Int32) (u : Unit) => IXs si (nI cn) r) "" (SX := Unit) (fun (u : Unit) => []) (fun (q : Nat) (u : Unit) => False) := by
  refine fz_iW rfl rfl ?_
  intro p e s m args below meth c A ls Q X hnm hE hP hD hR hZ hA hl hret hthrow
  have hx := X.1
  have hb := X.2.1
  have hS : va_S A s.heap s.heap [] := va_S.rf
  replace hl : lv_has ls 4 [(0, .ref (ks.2 si)), (1, .int (nI cn)), (2, .int 0), (3, .int (nI (fz_len.getD si 0)))] := hl
  have hle3 := fz_le3 si hi
  refine lv_iload_n hx hb dJ4_indexOf_0 rfl (lv_at hl 1 rfl) ?_
  refine fx_ci (va_runS (As := [.int (nI cn)]) (rest := []) X (xJ4_canEncode l E cn (by first | assumption | omega) _) (va_cwS 1 X.2.2.2.2 (lw_S q733 q734 q89 q735) rfl rfl rfl hdJ4_canEncode ⟨Nat.le_of_ble_eq_true rfl, Nat.le_of_ble_eq_true rfl⟩) (fx_pre hE hP hD hS hR [] rfl rfl fx_rc0) rfl rfl hl.1 rfl (lv_room (Nat.le_of_ble_eq_true rfl)) dJ4_indexOf_1 ⟨Nat.le_refl _, Nat.le_refl _⟩) hP hD hS hA [] rfl rfl (fun r_1 u H locs hq_1 hP hD hS => ?_)
  replace hP : va_P E.1 clA [] _ := hP
  replace hD : va_D A [] := hD
  replace hq_1 : r_1 = 1 := hq_1
  refine fx_ti (show r_1 = 1 from hq_1) ?_
  refine lv_if_ne (tgt := 9) hx hb dJ4_indexOf_4 (by decide) (fun _ => ?_) (fun c => absurd c (by decide))
  refine lv_iload_n hx hb dJ4_indexOf_9 rfl (lv_at hl 2 rfl) ?_
  refine lv_iconst (v := 0) hx hb dJ4_indexOf_10 rfl ?_
  refine fx_max X hl.1 q736 ⟨Nat.le_of_ble_eq_true rfl, Nat.le_of_ble_eq_true rfl⟩ (Nat.le_refl _) (Nat.le_refl _) dJ4_indexOf_11 ?_
  refine fx_ti (show (mx_i 0 0) = 0 from (by decide)) ?_
  refine lv_istore_n (lv' := [(2, .int 0), (0, .ref (ks.2 si)), (1, .int (nI cn)), (3, .int (nI (fz_len.getD si 0)))]) hx hb dJ4_indexOf_14 rfl hl (by decide) rfl (fun ls hl => ?_)
  refine lv_iload_n hx hb dJ4_indexOf_15 rfl (lv_at hl 3 rfl) ?_
  refine lv_aload_n hx hb dJ4_indexOf_16 rfl (lv_at hl 1 rfl) ?_
  refine va_tlen X.1 X.2.1 (hZ.2.2.1.1 si (by omega)).2.2.2 hS (v := nI (fz_len.getD si 0)) rfl dJ4_indexOf_17 ?_
  refine fx_min X hl.1 q737 ⟨Nat.le_of_ble_eq_true rfl, Nat.le_of_ble_eq_true rfl⟩ (Nat.le_refl _) (Nat.le_refl _) dJ4_indexOf_18 ?_
  refine fx_ti (show (mn_i (nI (fz_len.getD si 0)) (nI (fz_len.getD si 0))) = nI (fz_len.getD si 0) from mn_self _) ?_
  refine lv_istore_n (lv' := [(3, .int (nI (fz_len.getD si 0))), (2, .int 0), (0, .ref (ks.2 si)), (1, .int (nI cn))]) hx hb dJ4_indexOf_21 rfl hl (by decide) rfl (fun ls hl => ?_)
  refine lv_iload_n hx hb dJ4_indexOf_22 rfl (lv_at hl 1 rfl) ?_
  refine lv_iload_n hx hb dJ4_indexOf_23 rfl (lv_at hl 0 rfl) ?_
  refine lv_icmp_lt (tgt := 29) hx hb dJ4_indexOf_24 (by decide) (fun c_24 => ?_) (fun c_24 => ?_)
  · -- jump 29
    have n_24 := fx_lt1 (a := 0) (b := (fz_len.getD si 0)) c_24 (by omega) (by omega)
    refine lv_aload_n hx hb dJ4_indexOf_29 rfl (lv_at hl 2 rfl) ?_
    refine lv_iload_n hx hb dJ4_indexOf_30 rfl (lv_at hl 3 rfl) ?_
    refine lv_iload_n hx hb dJ4_indexOf_31 rfl (lv_at hl 1 rfl) ?_
    refine lv_iload_n hx hb dJ4_indexOf_32 rfl (lv_at hl 0 rfl) ?_
    refine fz_ci (vz_runS (As := [.ref (ks.2 si), .int (nI cn), .int 0, .int (nI (fz_len.getD si 0))]) (rest := []) X (xJ4_indexOfChar l E ks si cn (by first | assumption | omega) (by first | assumption | omega) _) (va_cwS 4 X.2.2.2.2 (lw_S q738 q739 q89 q740) rfl rfl rfl hdJ4_indexOfChar ⟨Nat.le_of_ble_eq_true rfl, Nat.le_of_ble_eq_true rfl⟩) (fz_pre hE hP hD hS hR hZ hA [] rfl rfl fx_rc0) rfl rfl hl.1 rfl (lv_room (Nat.le_of_ble_eq_true rfl)) dJ4_indexOf_33 ⟨Nat.le_refl _, Nat.le_refl _⟩) hP hD hS hA [] rfl rfl (fun _ _ _ _ _ h => h.elim) (fun r_33 u H locs hq_33 hP hD hS => ?_)
    replace hP : va_P E.1 clA [] _ := hP
    replace hD : va_D A [] := hD
    replace hq_33 : IXs si (nI cn) r_33 := hq_33
    exact hret r_33 () (hq_33) (rfl) hP hD hS (Nat.le_refl _) (Nat.le_refl _) dJ4_indexOf_36
  · -- fall 27
    have n_24 := fx_lt0 (a := 0) (b := (fz_len.getD si 0)) c_24 (by omega) (by omega)
    refine lv_iconst (v := (-1)) hx hb dJ4_indexOf_27 rfl ?_
    exact hret (-1) () (Or.inl ⟨rfl, fun j hj => absurd hj (by omega)⟩) (rfl) hP hD hS (Nat.le_refl _) (Nat.le_refl _) dJ4_indexOf_28
abbrev rxJ3_indexOf2 : Room := { frames := 2, cells := 0, slots := 0, locals := 63 }
set_option maxHeartbeats 400000 in
set_option maxRecDepth 100000 in
theorem xJ3_indexOf2 (l : Launch) (E : fx_En) (ks : fz_Ks) (si : Nat) (cn : Nat) (hi : si < 5) (hcn : cn < 128) : fz_Mi l yJ3_indexOf_2 cJ3_indexOf_2 3 .int rxJ3_indexOf2 0 0 E ks [.ref (ks.1 si), .int (nI cn), .int 0] [] [] (S := Unit) (fun (u : Unit) => []) (fun (r : Int32) (u : Unit) => IXs si (nI cn) r) "" (SX := Unit) (fun (u : Unit) => []) (fun (q : Nat) (u : Unit) => False) := by
  refine fz_iW rfl rfl ?_
  intro p e s m args below meth c A ls Q X hnm hE hP hD hR hZ hA hl hret hthrow
  have hx := X.1
  have hb := X.2.1
  have hS : va_S A s.heap s.heap [] := va_S.rf
  replace hl : lv_has ls 3 [(0, .ref (ks.1 si)), (1, .int (nI cn)), (2, .int 0)] := hl
  refine lv_aload_n hx hb dJ3_indexOf_2_0 rfl (lv_at hl 0 rfl) ?_
  refine fz_ci (vz_runV (As := []) (rest := []) X (xJ3_isLatin1 l E ks si (by first | assumption | omega) _) (cwV 0 X.2.2.2.2 (lw_V q716 q717 q718 q88 q719) rfl rfl rfl ⟨rfl, hdJ3_isLatin1⟩ ⟨Nat.le_of_ble_eq_true rfl, Nat.le_of_ble_eq_true rfl⟩) (fx_preV (fz_pre hE hP hD hS hR hZ hA [] rfl rfl fx_rc0) (vk_recv hZ.2.2.1 (by omega) hS)) rfl rfl hl.1 rfl (lv_room (Nat.le_of_ble_eq_true rfl)) dJ3_indexOf_2_1 ⟨Nat.le_refl _, Nat.le_refl _⟩) hP hD hS hA [] rfl rfl (fun _ _ _ _ _ h => h.elim) (fun r_1 u H locs hq_1 hP hD hS => ?_)
  replace hP : va_P E.1 clA [] _ := hP
  replace hD : va_D A [] := hD
  replace hq_1 : r_1 = 1 := hq_1
  refine fx_ti (show r_1 = 1 from hq_1) ?_
  refine lv_if_eq (tgt := 23) hx hb dJ3_indexOf_2_4 (by decide) (fun c => absurd c (by decide)) (fun _ => ?_)
  refine lv_aload_n hx hb dJ3_indexOf_2_7 rfl (lv_at hl 0 rfl) ?_
  refine vk_getf X.1 X.2.1 (hZ.2.2.1.1 si (by omega)).2.2.1 hS X.2.2.2.1 (X.2.2.2.2 _ q1605) (fun _ h => h) dJ3_indexOf_2_8 ?_
  refine lv_iload_n hx hb dJ3_indexOf_2_11 rfl (lv_at hl 1 rfl) ?_
  refine lv_iload_n hx hb dJ3_indexOf_2_12 rfl (lv_at hl 2 rfl) ?_
  refine lv_aload_n hx hb dJ3_indexOf_2_13 rfl (lv_at hl 0 rfl) ?_
  refine fz_ci (vz_runV (As := []) (rest := [.int 0, .int (nI cn), .ref (ks.2 si)]) X (xJ3_length l E ks si (by first | assumption | omega) _) (cwV 0 X.2.2.2.2 (lw_V q722 q723 q724 q88 q725) rfl rfl rfl ⟨rfl, hdJ3_length⟩ ⟨Nat.le_of_ble_eq_true rfl, Nat.le_of_ble_eq_true rfl⟩) (fx_preV (fz_pre hE hP hD hS hR hZ hA [] rfl rfl fx_rc0) (vk_recv hZ.2.2.1 (by omega) hS)) rfl rfl hl.1 rfl (lv_room (Nat.le_of_ble_eq_true rfl)) dJ3_indexOf_2_14 ⟨Nat.le_refl _, Nat.le_refl _⟩) hP hD hS hA [] rfl rfl (fun _ _ _ _ _ h => h.elim) (fun r_14 u H locs hq_14 hP hD hS => ?_)
  replace hP : va_P E.1 clA [] _ := hP
  replace hD : va_D A [] := hD
  replace hq_14 : r_14 = nI (fz_len.getD si 0) := hq_14
  refine fx_ti (show r_14 = nI (fz_len.getD si 0) from hq_14) ?_
  refine fz_ci (vz_runS (As := [.ref (ks.2 si), .int (nI cn), .int 0, .int (nI (fz_len.getD si 0))]) (rest := []) X (xJ4_indexOf l E ks si cn (by first | assumption | omega) (by first | assumption | omega) _) (va_cwS 4 X.2.2.2.2 (lw_S q730 q731 q89 q732) rfl rfl rfl hdJ4_indexOf ⟨Nat.le_of_ble_eq_true rfl, Nat.le_of_ble_eq_true rfl⟩) (fz_pre hE hP hD hS hR hZ hA [] rfl rfl fx_rc0) rfl rfl hl.1 rfl (lv_room (Nat.le_of_ble_eq_true rfl)) dJ3_indexOf_2_17 ⟨Nat.le_refl _, Nat.le_refl _⟩) hP hD hS hA [] rfl rfl (fun _ _ _ _ _ h => h.elim) (fun r_17 u H locs hq_17 hP hD hS => ?_)
  replace hP : va_P E.1 clA [] _ := hP
  replace hD : va_D A [] := hD
  replace hq_17 : IXs si (nI cn) r_17 := hq_17
  refine lv_goto (tgt := 36) hx hb dJ3_indexOf_2_20 (by decide) ?_
  exact hret r_17 () (hq_17) (rfl) hP hD hS (Nat.le_refl _) (Nat.le_refl _) dJ3_indexOf_2_36
abbrev rxJ3_indexOf : Room := { frames := 3, cells := 0, slots := 0, locals := 85 }
set_option maxHeartbeats 400000 in
set_option maxRecDepth 100000 in
theorem xJ3_indexOf (l : Launch) (E : fx_En) (ks : fz_Ks) (si : Nat) (cn : Nat) (hi : si < 5) (hcn : cn < 128) : fz_Mi l yJ3_indexOf cJ3_indexOf 2 .int rxJ3_indexOf 0 0 E ks [.ref (ks.1 si), .int (nI cn)] [] [] (S := Unit) (fun (u : Unit) => []) (fun (r : Int32) (u : Unit) => IXs si (nI cn) r) "" (SX := Unit) (fun (u : Unit) => []) (fun (q : Nat) (u : Unit) => False) := by
  refine fz_iW rfl rfl ?_
  intro p e s m args below meth c A ls Q X hnm hE hP hD hR hZ hA hl hret hthrow
  have hx := X.1
  have hb := X.2.1
  have hS : va_S A s.heap s.heap [] := va_S.rf
  replace hl : lv_has ls 2 [(0, .ref (ks.1 si)), (1, .int (nI cn))] := hl
  refine lv_aload_n hx hb dJ3_indexOf_0 rfl (lv_at hl 0 rfl) ?_
  refine lv_iload_n hx hb dJ3_indexOf_1 rfl (lv_at hl 1 rfl) ?_
  refine lv_iconst (v := 0) hx hb dJ3_indexOf_2 rfl ?_
  refine fz_ci (vz_runV (As := [.int (nI cn), .int 0]) (rest := []) X (xJ3_indexOf2 l E ks si cn (by first | assumption | omega) (by first | assumption | omega) _) (cwV 2 X.2.2.2.2 (lw_V q712 q713 q714 q88 q715) rfl rfl rfl ⟨rfl, hdJ3_indexOf_2⟩ ⟨Nat.le_of_ble_eq_true rfl, Nat.le_of_ble_eq_true rfl⟩) (fx_preV (fz_pre hE hP hD hS hR hZ hA [] rfl rfl fx_rc0) (vk_recv hZ.2.2.1 (by omega) hS)) rfl rfl hl.1 rfl (lv_room (Nat.le_of_ble_eq_true rfl)) dJ3_indexOf_3 ⟨Nat.le_refl _, Nat.le_refl _⟩) hP hD hS hA [] rfl rfl (fun _ _ _ _ _ h => h.elim) (fun r_3 u H locs hq_3 hP hD hS => ?_)
  replace hP : va_P E.1 clA [] _ := hP
  replace hD : va_D A [] := hD
  replace hq_3 : IXs si (nI cn) r_3 := hq_3
  exact hret r_3 () (hq_3) (rfl) hP hD hS (Nat.le_refl _) (Nat.le_refl _) dJ3_indexOf_6
abbrev rxJ1_init : Room := { frames := 1, cells := 0, slots := 0, locals := 20 }
set_option maxHeartbeats 400000 in
set_option maxRecDepth 100000 in
theorem xJ1_init (l : Launch) (E : fx_En) (ks : fz_Ks) (th : Nat) : fz_Mv l yJ1_init_2 cJ1_init_2 5 rxJ1_init 0 0 E ks [.ref th, .null, .null, .int 0, .int 0] [(th, .inr (15, [.null, .null, .null, .null, .null, .int 0, .int 0]))] [] (S := Unit) (fun (u : Unit) => [(th, .inr (15, [.null, .null, .null, .null, .null, .int 0, .int 0]))]) (fun (u : Unit) => True) "" (SX := Unit) (fun (u : Unit) => []) (fun (q : Nat) (u : Unit) => False) := by
  refine fz_vW rfl rfl ?_
  intro p e s m args below meth c A ls Q X hnm hE hP hD hR hZ hA hl hret hthrow
  have hx := X.1
  have hb := X.2.1
  have hS : va_S A s.heap s.heap [] := va_S.rf
  replace hP : va_P E.1 clA [(th, .inr (15, [.null, .null, .null, .null, .null, .int 0, .int 0]))] _ := hP
  replace hD : va_D A [(th, .inr (15, [.null, .null, .null, .null, .null, .int 0, .int 0]))] := hD
  replace hl : lv_has ls 5 [(0, .ref th), (1, .null), (2, .null), (3, .int 0), (4, .int 0)] := hl
  refine lv_aload_n hx hb dJ1_init_2_0 rfl (lv_at hl 0 rfl) ?_
  refine W.objInit hx hb X.2.2.2.1 (X.2.2.2.2 _ q653) (X.2.2.2.2 _ q104) (X.2.2.2.2 _ q105) rfl (hl.1.trans X.2.2.1.symm) rfl dJ1_init_2_1 (Nat.le_of_ble_eq_true rfl) (Nat.le_of_ble_eq_true rfl) ?_
  refine W.eq (g2 := F0 m 4 ls []) rfl ?_
  refine lv_aload_n hx hb dJ1_init_2_4 rfl (lv_at hl 0 rfl) ?_
  refine lv_aload_n hx hb dJ1_init_2_5 rfl (lv_at hl 0 rfl) ?_
  refine fx_put_ (ws' := [(th, .inr (15, [.ref th, .null, .null, .null, .null, .int 0, .int 0]))]) X hE hP hD hS 0 rfl rfl tyX15_ok nmX15 0 rfl q683 rfl rfl rfl rfl rfl rfl dJ1_init_2_6 (fun H locs hP hD hS => ?_)
  refine lv_aload_n hx hb dJ1_init_2_9 rfl (lv_at hl 0 rfl) ?_
  refine fz_getq X hS hZ.1.1 q654 dJ1_init_2_10 (fun o_10 => ?_)
  refine fx_put_ (ws' := [(th, .inr (15, [.ref th, va_rf o_10, .null, .null, .null, .int 0, .int 0]))]) X hE hP hD hS 0 rfl rfl tyX15_ok nmX15 1 rfl q684 rfl rfl (by cases o_10 <;> rfl) (by cases o_10 <;> rfl) rfl rfl dJ1_init_2_13 (fun H locs hP hD hS => ?_)
  refine lv_aload_n hx hb dJ1_init_2_16 rfl (lv_at hl 0 rfl) ?_
  refine fz_getq X hS hZ.1.2.1 q656 dJ1_init_2_17 (fun o_17 => ?_)
  refine fx_put_ (ws' := [(th, .inr (15, [.ref th, va_rf o_10, va_rf o_17, .null, .null, .int 0, .int 0]))]) X hE hP hD hS 0 rfl rfl tyX15_ok nmX15 2 rfl q685 rfl rfl (by cases o_17 <;> rfl) (by cases o_17 <;> rfl) rfl rfl dJ1_init_2_20 (fun H locs hP hD hS => ?_)
  refine lv_iload hx hb dJ1_init_2_23 (lv_at hl 4 rfl) ?_
  refine lv_if_eq (tgt := 36) hx hb dJ1_init_2_25 (by decide) (fun _ => ?_) (fun c => (c (by decide)).elim)
  refine lv_aload_n hx hb dJ1_init_2_36 rfl (lv_at hl 0 rfl) ?_
  refine lv_null hx hb dJ1_init_2_37 ?_
  refine fx_put_ (ws' := [(th, .inr (15, [.ref th, .null, va_rf o_17, .null, .null, .int 0, .int 0]))]) X hE hP hD hS 0 rfl rfl tyX15_ok nmX15 1 rfl q684 rfl rfl rfl rfl rfl rfl dJ1_init_2_38 (fun H locs hP hD hS => ?_)
  refine lv_aload_n hx hb dJ1_init_2_41 rfl (lv_at hl 0 rfl) ?_
  refine lv_aload_nN hx hb dJ1_init_2_42 rfl (lv_at hl 1 rfl) ?_
  refine fx_put_ (ws' := [(th, .inr (15, [.ref th, .null, va_rf o_17, .null, .null, .int 0, .int 0]))]) X hE hP hD hS 0 rfl rfl tyX15_ok nmX15 3 rfl q682 rfl rfl rfl rfl rfl rfl dJ1_init_2_43 (fun H locs hP hD hS => ?_)
  refine lv_aload_n hx hb dJ1_init_2_46 rfl (lv_at hl 0 rfl) ?_
  refine lv_aload_nN hx hb dJ1_init_2_47 rfl (lv_at hl 2 rfl) ?_
  refine fx_put_ (ws' := [(th, .inr (15, [.null, .null, va_rf o_17, .null, .null, .int 0, .int 0]))]) X hE hP hD hS 0 rfl rfl tyX15_ok nmX15 0 rfl q683 rfl rfl rfl rfl rfl rfl dJ1_init_2_48 (fun H locs hP hD hS => ?_)
  refine lv_iload_n hx hb dJ1_init_2_51 rfl (lv_at hl 3 rfl) ?_
  refine lv_if_ne (tgt := 60) hx hb dJ1_init_2_52 (by decide) (fun c => (c (by decide)).elim) (fun _ => ?_)
  refine lv_aload_n hx hb dJ1_init_2_55 rfl (lv_at hl 0 rfl) ?_
  refine lv_null hx hb dJ1_init_2_56 ?_
  refine fx_put_ (ws' := [(th, .inr (15, [.null, .null, .null, .null, .null, .int 0, .int 0]))]) X hE hP hD hS 0 rfl rfl tyX15_ok nmX15 2 rfl q685 rfl rfl rfl rfl rfl rfl dJ1_init_2_57 (fun H locs hP hD hS => ?_)
  exact hret () (trivial) hP hD hS (Nat.le_refl _) (Nat.le_refl _) dJ1_init_2_60
abbrev rxJ2_init : Room := { frames := 2, cells := 0, slots := 0, locals := 44 }
set_option maxHeartbeats 400000 in
set_option maxRecDepth 100000 in
theorem xJ2_init (l : Launch) (E : fx_En) (ks : fz_Ks) (th : Nat) : fz_Mv l yJ2_init cJ2_init 5 rxJ2_init 0 0 E ks [.ref th, .null, .null, .int 0, .int 0] [(th, .inr (15, [.null, .null, .null, .null, .null, .int 0, .int 0]))] [] (S := Unit) (fun (u : Unit) => [(th, .inr (15, [.null, .null, .null, .null, .null, .int 0, .int 0]))]) (fun (u : Unit) => True) "" (SX := Unit) (fun (u : Unit) => []) (fun (q : Nat) (u : Unit) => False) := by
  refine fz_vW rfl rfl ?_
  intro p e s m args below meth c A ls Q X hnm hE hP hD hR hZ hA hl hret hthrow
  have hx := X.1
  have hb := X.2.1
  have hS : va_S A s.heap s.heap [] := va_S.rf
  replace hP : va_P E.1 clA [(th, .inr (15, [.null, .null, .null, .null, .null, .int 0, .int 0]))] _ := hP
  replace hD : va_D A [(th, .inr (15, [.null, .null, .null, .null, .null, .int 0, .int 0]))] := hD
  replace hl : lv_has ls 5 [(0, .ref th), (1, .null), (2, .null), (3, .int 0), (4, .int 0)] := hl
  refine lv_aload_n hx hb dJ2_init_0 rfl (lv_at hl 0 rfl) ?_
  refine lv_aload_nN hx hb dJ2_init_1 rfl (lv_at hl 1 rfl) ?_
  refine lv_aload_nN hx hb dJ2_init_2 rfl (lv_at hl 2 rfl) ?_
  refine lv_iload_n hx hb dJ2_init_3 rfl (lv_at hl 3 rfl) ?_
  refine lv_iload hx hb dJ2_init_4 (lv_at hl 4 rfl) ?_
  refine fz_cv (vz_runI (As := [.null, .null, .int 0, .int 0]) (rest := []) X (xJ1_init l E ks th _) (cwI 4 X.2.2.2.2 (lw_meth q678) rfl rfl rfl (X.2.2.2.2 _ q85) (X.2.2.2.2 _ q676) (X.2.2.2.2 _ q677) rfl hdJ1_init_2 ⟨Nat.le_of_ble_eq_true rfl, Nat.le_of_ble_eq_true rfl⟩) (fz_pre hE hP hD hS hR hZ hA [0] rfl rfl fx_rc0) rfl rfl hl.1 rfl (lv_room (Nat.le_of_ble_eq_true rfl)) dJ2_init_6 ⟨Nat.le_refl _, Nat.le_refl _⟩) hP hD hS hA [0] rfl rfl (fun _ _ _ _ _ h => h.elim) (fun u H locs hq_6 hP hD hS => ?_)
  replace hP : va_P E.1 clA [(th, .inr (15, [.null, .null, .null, .null, .null, .int 0, .int 0]))] _ := hP
  replace hD : va_D A [(th, .inr (15, [.null, .null, .null, .null, .null, .int 0, .int 0]))] := hD
  replace hq_6 : True := hq_6
  exact hret () (trivial) hP hD hS (Nat.le_refl _) (Nat.le_refl _) dJ2_init_9
abbrev rxX15_init : Room := { frames := 3, cells := 0, slots := 0, locals := 68 }
set_option maxHeartbeats 400000 in
set_option maxRecDepth 100000 in
theorem xX15_init (l : Launch) (E : fx_En) (ks : fz_Ks) (th : Nat) (pz : Int32) : fz_Mv l yX15_init cX15_init 2 rxX15_init 0 0 E ks [.ref th, .int pz] [(th, .inr (15, [.null, .null, .null, .null, .null, .int 0, .int 0]))] [] (S := Unit) (fun (u : Unit) => [(th, .inr (15, [.null, .null, .null, .null, .null, .int 0, .int pz]))]) (fun (u : Unit) => True) "" (SX := Unit) (fun (u : Unit) => []) (fun (q : Nat) (u : Unit) => False) := by
  refine fz_vW rfl rfl ?_
  intro p e s m args below meth c A ls Q X hnm hE hP hD hR hZ hA hl hret hthrow
  have hx := X.1
  have hb := X.2.1
  have hS : va_S A s.heap s.heap [] := va_S.rf
  replace hP : va_P E.1 clA [(th, .inr (15, [.null, .null, .null, .null, .null, .int 0, .int 0]))] _ := hP
  replace hD : va_D A [(th, .inr (15, [.null, .null, .null, .null, .null, .int 0, .int 0]))] := hD
  replace hl : lv_has ls 2 [(0, .ref th), (1, .int pz)] := hl
  refine lv_aload_n hx hb dX15_init_0 rfl (lv_at hl 0 rfl) ?_
  refine lv_null hx hb dX15_init_1 ?_
  refine lv_null hx hb dX15_init_2 ?_
  refine lv_iconst (v := 0) hx hb dX15_init_3 rfl ?_
  refine lv_iconst (v := 0) hx hb dX15_init_4 rfl ?_
  refine fz_cv (vz_runI (As := [.null, .null, .int 0, .int 0]) (rest := []) X (xJ2_init l E ks th _) (cwI 4 X.2.2.2.2 (lw_meth q675) rfl rfl rfl (X.2.2.2.2 _ q86) (X.2.2.2.2 _ q673) (X.2.2.2.2 _ q674) rfl hdJ2_init ⟨Nat.le_of_ble_eq_true rfl, Nat.le_of_ble_eq_true rfl⟩) (fz_pre hE hP hD hS hR hZ hA [0] rfl rfl fx_rc0) rfl rfl hl.1 rfl (lv_room (Nat.le_of_ble_eq_true rfl)) dX15_init_5 ⟨Nat.le_refl _, Nat.le_refl _⟩) hP hD hS hA [0] rfl rfl (fun _ _ _ _ _ h => h.elim) (fun u H locs hq_5 hP hD hS => ?_)
  replace hP : va_P E.1 clA [(th, .inr (15, [.null, .null, .null, .null, .null, .int 0, .int 0]))] _ := hP
  replace hD : va_D A [(th, .inr (15, [.null, .null, .null, .null, .null, .int 0, .int 0]))] := hD
  replace hq_5 : True := hq_5
  refine lv_aload_n hx hb dX15_init_8 rfl (lv_at hl 0 rfl) ?_
  refine lv_iload_n hx hb dX15_init_9 rfl (lv_at hl 1 rfl) ?_
  refine fx_putF (ws' := [(th, .inr (15, [.null, .null, .null, .null, .null, .int 0, .int pz]))]) X hE hP hD hS 0 rfl rfl tyX15_ok nmX15 6 rfl q679 rfl rfl hnm rfl rfl rfl rfl rfl dX15_init_10 (fun H locs hP hD hS => ?_)
  exact hret () (trivial) hP hD hS (Nat.le_refl _) (Nat.le_refl _) dX15_init_13
abbrev rxX13_here : Room := { frames := 0, cells := 0, slots := 0, locals := 0 }
set_option maxHeartbeats 400000 in
set_option maxRecDepth 100000 in
theorem xX13_here (l : Launch) (E : fx_En) (ks : fz_Ks) (sa : Nat → Int32) (rd : Nat) (tp_ : Nat) (xa : Nat) (uz : Nat) (pa : Nat) (on : Nat) (ft : Nat → Int32) (hta : nn (sa 3) ≤ 60) (hft : ∀ i, i < 60 → ft i = (sa (290 + i)).toInt8.toInt32) (hpa : pa ≤ 60) : fx_Mi l yX13_here cX13_here 1 .int rxX13_here E [.ref rd] [] [(rd, .inr (13, [.ref tp_, .int (nI (nn (sa 3))), .ref (ks.1 uz), .ref xa, .int (nI pa), .int (nI on)])), (tp_, .inl (E.2 1, 60, .inl ft))] (S := Unit) (fun (u : Unit) => []) (fun (r : Int32) (u : Unit) => r = lkX sa pa) := by
  refine fx_iW rfl rfl ?_
  intro p e s m args below meth c A ls Q X hE hP hD hR hA hl hret
  have hx := X.1
  have hb := X.2.1
  have hS : va_S A s.heap s.heap [] := va_S.rf
  replace hl : lv_has ls 1 [(0, .ref rd)] := hl
  refine lv_aload_n hx hb dX13_here_0 rfl (lv_at hl 0 rfl) ?_
  refine fx_get X hE (hR.at hS) 0 rfl rfl 4 rfl q575 rfl rfl dX13_here_1 ?_
  refine lv_aload_n hx hb dX13_here_4 rfl (lv_at hl 0 rfl) ?_
  refine fx_get X hE (hR.at hS) 0 rfl rfl 1 rfl q572 rfl rfl dX13_here_5 ?_
  refine lv_icmp_ge (tgt := 23) hx hb dX13_here_8 (by decide) (fun c_8 => ?_) (fun c_8 => ?_)
  · -- jump 23
    have n_8 := fx_le1 (a := (nn (sa 3))) (b := pa) c_8 (by omega) (by omega)
    refine lv_iconst (v := (-1)) hx hb dX13_here_23 rfl ?_
    exact hret (-1) () (by rw [lkX, if_neg (show ¬ pa < nn (sa 3) by omega)]) (rfl) hP hD hS (Nat.le_refl _) (Nat.le_refl _) dX13_here_24
  · -- fall 11
    have n_8 := fx_le0 (a := (nn (sa 3))) (b := pa) c_8 (by omega) (by omega)
    refine lv_aload_n hx hb dX13_here_11 rfl (lv_at hl 0 rfl) ?_
    refine fx_get X hE (hR.at hS) 0 rfl rfl 0 rfl q571 rfl rfl dX13_here_12 ?_
    refine lv_aload_n hx hb dX13_here_15 rfl (lv_at hl 0 rfl) ?_
    refine fx_get X hE (hR.at hS) 0 rfl rfl 4 rfl q575 rfl rfl dX13_here_16 ?_
    refine fx_bald X hE (hR.at hS) 1 rfl pa rfl (by omega) rfl dX13_here_19 ?_
    refine lv_goto (tgt := 24) hx hb dX13_here_20 (by decide) ?_
    exact hret (ft pa) () (by rw [lkX, if_pos n_8]; exact hft pa (by omega)) (rfl) hP hD hS (Nat.le_refl _) (Nat.le_refl _) dX13_here_24
abbrev rxX13_takes : Room := { frames := 1, cells := 0, slots := 0, locals := 20 }
set_option maxHeartbeats 400000 in
set_option maxRecDepth 100000 in
theorem xX13_takes (l : Launch) (E : fx_En) (ks : fz_Ks) (sa : Nat → Int32) (rd : Nat) (tp_ : Nat) (xa : Nat) (uz : Nat) (pa : Nat) (on : Nat) (ft : Nat → Int32) (c_ : Int32) (hta : nn (sa 3) ≤ 60) (hft : ∀ i, i < 60 → ft i = (sa (290 + i)).toInt8.toInt32) (hpa : pa ≤ 60) : fx_Mi l yX13_takes cX13_takes 3 .boolean rxX13_takes E [.ref rd, .int c_] [(rd, .inr (13, [.ref tp_, .int (nI (nn (sa 3))), .ref (ks.1 uz), .ref xa, .int (nI pa), .int (nI on)]))] [(tp_, .inl (E.2 1, 60, .inl ft))] (S := Nat) (fun (u : Nat) => [(rd, .inr (13, [.ref tp_, .int (nI (nn (sa 3))), .ref (ks.1 uz), .ref xa, .int (nI u), .int (nI on)]))]) (fun (r : Int32) (u : Nat) => r = fx_b (lkX sa pa = c_) ∧ (lkX sa pa = c_ → u = pa + 1) ∧ (¬ lkX sa pa = c_ → u = pa)) := by
  refine fx_iW rfl rfl ?_
  intro p e s m args below meth c A ls Q X hE hP hD hR hA hl hret
  have hx := X.1
  have hb := X.2.1
  have hS : va_S A s.heap s.heap [] := va_S.rf
  replace hP : va_P E.1 clA [(rd, .inr (13, [.ref tp_, .int (nI (nn (sa 3))), .ref (ks.1 uz), .ref xa, .int (nI pa), .int (nI on)]))] _ := hP
  replace hD : va_D A [(rd, .inr (13, [.ref tp_, .int (nI (nn (sa 3))), .ref (ks.1 uz), .ref xa, .int (nI pa), .int (nI on)]))] := hD
  replace hl : lv_has ls 3 [(0, .ref rd), (1, .int c_)] := hl
  refine lv_aload_n hx hb dX13_takes_0 rfl (lv_at hl 0 rfl) ?_
  refine fx_ci (va_runV (As := []) (rest := []) X (xX13_here l E ks sa rd tp_ xa uz pa on ft (by first | assumption | omega) (by first | assumption | omega) (by first | assumption | omega) _) (cwV 0 X.2.2.2.2 (lw_V q618 q620 qs10 q83 q621) rfl rfl rfl ⟨rfl, hdX13_here⟩ ⟨Nat.le_of_ble_eq_true rfl, Nat.le_of_ble_eq_true rfl⟩) (fx_preV (fx_pre hE hP hD hS hR [] rfl rfl (fx_rcm 0 rfl (by decide) (fx_rcr 0 rfl fx_rc0))) (va_recv hE.1 hP (ci := 13) (q0 := 0) rfl rfl)) rfl rfl hl.1 rfl (lv_room (Nat.le_of_ble_eq_true rfl)) dX13_takes_1 ⟨Nat.le_refl _, Nat.le_refl _⟩) hP hD hS hA [] rfl rfl (fun r_1 u H locs hq_1 hP hD hS => ?_)
  replace hP : va_P E.1 clA [(rd, .inr (13, [.ref tp_, .int (nI (nn (sa 3))), .ref (ks.1 uz), .ref xa, .int (nI pa), .int (nI on)]))] _ := hP
  replace hD : va_D A [(rd, .inr (13, [.ref tp_, .int (nI (nn (sa 3))), .ref (ks.1 uz), .ref xa, .int (nI pa), .int (nI on)]))] := hD
  replace hq_1 : r_1 = lkX sa pa := hq_1
  refine fx_ti (show r_1 = (lkX sa pa) from hq_1) ?_
  refine lv_iload_n hx hb dX13_takes_4 rfl (lv_at hl 1 rfl) ?_
  refine lv_icmp_ne (tgt := 12) hx hb dX13_takes_5 (by decide) (fun c_5 => ?_) (fun c_5 => ?_)
  · -- jump 12
    refine lv_iconst (v := 0) hx hb dX13_takes_12 rfl ?_
    refine lv_istore_n (lv' := [(2, .int 0), (0, .ref rd), (1, .int c_)]) hx hb dX13_takes_13 rfl hl (by decide) rfl (fun ls hl => ?_)
    refine lv_aload_n hx hb dX13_takes_14 rfl (lv_at hl 1 rfl) ?_
    refine lv_dup hx hb dX13_takes_15 rfl ?_
    refine fx_get X hE hP 0 rfl rfl 4 rfl q575 rfl rfl dX13_takes_16 ?_
    refine lv_iload_n hx hb dX13_takes_19 rfl (lv_at hl 0 rfl) ?_
    refine lv_if_eq (tgt := 27) hx hb dX13_takes_20 (by decide) (fun _ => ?_) (fun c => (c (by decide)).elim)
    refine lv_iconst (v := 0) hx hb dX13_takes_27 rfl ?_
    refine lv_iadd hx hb dX13_takes_28 ?_
    refine fx_ti (nI_add pa 0) ?_
    refine fx_put_ (ws' := [(rd, .inr (13, [.ref tp_, .int (nI (nn (sa 3))), .ref (ks.1 uz), .ref xa, .int (nI (pa + 0)), .int (nI on)]))]) X hE hP hD hS 0 rfl rfl tyX13_ok nmX13 4 rfl q575 rfl rfl rfl rfl rfl rfl dX13_takes_29 (fun H locs hP hD hS => ?_)
    refine lv_iload_n hx hb dX13_takes_32 rfl (lv_at hl 0 rfl) ?_
    exact hret 0 (pa + 0) (⟨fx_bf c_5, fun h => absurd h c_5, fun _ => rfl⟩) (rfl) hP hD hS (Nat.le_refl _) (Nat.le_refl _) dX13_takes_33
  · -- fall 8
    refine lv_iconst (v := 1) hx hb dX13_takes_8 rfl ?_
    refine lv_goto (tgt := 13) hx hb dX13_takes_9 (by decide) ?_
    refine lv_istore_n (lv' := [(2, .int 1), (0, .ref rd), (1, .int c_)]) hx hb dX13_takes_13 rfl hl (by decide) rfl (fun ls hl => ?_)
    refine lv_aload_n hx hb dX13_takes_14 rfl (lv_at hl 1 rfl) ?_
    refine lv_dup hx hb dX13_takes_15 rfl ?_
    refine fx_get X hE hP 0 rfl rfl 4 rfl q575 rfl rfl dX13_takes_16 ?_
    refine lv_iload_n hx hb dX13_takes_19 rfl (lv_at hl 0 rfl) ?_
    refine lv_if_eq (tgt := 27) hx hb dX13_takes_20 (by decide) (fun c => absurd c (by decide)) (fun _ => ?_)
    refine lv_iconst (v := 1) hx hb dX13_takes_23 rfl ?_
    refine lv_goto (tgt := 28) hx hb dX13_takes_24 (by decide) ?_
    refine lv_iadd hx hb dX13_takes_28 ?_
    refine fx_ti (nI_add pa 1) ?_
    refine fx_put_ (ws' := [(rd, .inr (13, [.ref tp_, .int (nI (nn (sa 3))), .ref (ks.1 uz), .ref xa, .int (nI (pa + 1)), .int (nI on)]))]) X hE hP hD hS 0 rfl rfl tyX13_ok nmX13 4 rfl q575 rfl rfl rfl rfl rfl rfl dX13_takes_29 (fun H locs hP hD hS => ?_)
    refine lv_iload_n hx hb dX13_takes_32 rfl (lv_at hl 0 rfl) ?_
    exact hret 1 (pa + 1) (⟨fx_bt c_5, fun _ => rfl, fun h => absurd c_5 h⟩) (rfl) hP hD hS (Nat.le_refl _) (Nat.le_refl _) dX13_takes_33
abbrev rxX13_isOneOf : Room := { frames := 4, cells := 0, slots := 0, locals := 106 }
set_option maxHeartbeats 400000 in
set_option maxRecDepth 100000 in
theorem xX13_isOneOf (l : Launch) (E : fx_En) (ks : fz_Ks) (sa : Nat → Int32) (rd : Nat) (tp_ : Nat) (xa : Nat) (uz : Nat) (pa : Nat) (on : Nat) (ft : Nat → Int32) (si : Nat) (hi : si < 5) (hta : nn (sa 3) ≤ 60) (hft : ∀ i, i < 60 → ft i = (sa (290 + i)).toInt8.toInt32) (hpa : pa ≤ 60) : fz_Mi l yX13_isOneOf cX13_isOneOf 2 .boolean rxX13_isOneOf 0 0 E ks [.ref rd, .ref (ks.1 si)] [] [(rd, .inr (13, [.ref tp_, .int (nI (nn (sa 3))), .ref (ks.1 uz), .ref xa, .int (nI pa), .int (nI on)])), (tp_, .inl (E.2 1, 60, .inl ft))] (S := Unit) (fun (u : Unit) => []) (fun (r : Int32) (u : Unit) => r = fx_b (inS si (lkX sa pa) = true)) "" (SX := Unit) (fun (u : Unit) => []) (fun (q : Nat) (u : Unit) => False) := by
  refine fz_iW rfl rfl ?_
  intro p e s m args below meth c A ls Q X hnm hE hP hD hR hZ hA hl hret hthrow
  have hx := X.1
  have hb := X.2.1
  have hS : va_S A s.heap s.heap [] := va_S.rf
  replace hl : lv_has ls 2 [(0, .ref rd), (1, .ref (ks.1 si))] := hl
  refine lv_aload_n hx hb dX13_isOneOf_0 rfl (lv_at hl 0 rfl) ?_
  refine fx_ci (va_runV (As := []) (rest := []) X (xX13_here l E ks sa rd tp_ xa uz pa on ft (by first | assumption | omega) (by first | assumption | omega) (by first | assumption | omega) _) (cwV 0 X.2.2.2.2 (lw_V q618 q620 qs10 q83 q621) rfl rfl rfl ⟨rfl, hdX13_here⟩ ⟨Nat.le_of_ble_eq_true rfl, Nat.le_of_ble_eq_true rfl⟩) (fx_preV (fx_pre hE hP hD hS hR [] rfl rfl (fx_rcr 0 rfl (fx_rcr 1 rfl fx_rc0))) (va_recv hE.1 (hR.at hS) (ci := 13) (q0 := 0) rfl rfl)) rfl rfl hl.1 rfl (lv_room (Nat.le_of_ble_eq_true rfl)) dX13_isOneOf_1 ⟨Nat.le_refl _, Nat.le_refl _⟩) hP hD hS hA [] rfl rfl (fun r_1 u H locs hq_1 hP hD hS => ?_)
  replace hP : va_P E.1 clA [] _ := hP
  replace hD : va_D A [] := hD
  replace hq_1 : r_1 = lkX sa pa := hq_1
  refine fx_ti (show r_1 = (lkX sa pa) from hq_1) ?_
  refine lv_if_lt (tgt := 22) hx hb dX13_isOneOf_4 (by decide) (fun c_4 => ?_) (fun c_4 => ?_)
  · -- jump 22
    refine lv_iconst (v := 0) hx hb dX13_isOneOf_22 rfl ?_
    exact hret 0 () (fx_bf (fun h => inS_neg hi c_4 h)) (rfl) hP hD hS (Nat.le_refl _) (Nat.le_refl _) dX13_isOneOf_23
  · -- fall 7
    have hkn := lkX_nn c_4
    refine lv_aload_n hx hb dX13_isOneOf_7 rfl (lv_at hl 1 rfl) ?_
    refine lv_aload_n hx hb dX13_isOneOf_8 rfl (lv_at hl 0 rfl) ?_
    refine fx_ci (va_runV (As := []) (rest := [.ref (ks.1 si)]) X (xX13_here l E ks sa rd tp_ xa uz pa on ft (by first | assumption | omega) (by first | assumption | omega) (by first | assumption | omega) _) (cwV 0 X.2.2.2.2 (lw_V q618 q620 qs10 q83 q621) rfl rfl rfl ⟨rfl, hdX13_here⟩ ⟨Nat.le_of_ble_eq_true rfl, Nat.le_of_ble_eq_true rfl⟩) (fx_preV (fx_pre hE hP hD hS hR [] rfl rfl (fx_rcr 0 rfl (fx_rcr 1 rfl fx_rc0))) (va_recv hE.1 (hR.at hS) (ci := 13) (q0 := 0) rfl rfl)) rfl rfl hl.1 rfl (lv_room (Nat.le_of_ble_eq_true rfl)) dX13_isOneOf_9 ⟨Nat.le_refl _, Nat.le_refl _⟩) hP hD hS hA [] rfl rfl (fun r_9 u H locs hq_9 hP hD hS => ?_)
    replace hP : va_P E.1 clA [] _ := hP
    replace hD : va_D A [] := hD
    replace hq_9 : r_9 = lkX sa pa := hq_9
    refine fx_ti (show r_9 = nI (nn (lkX sa pa)) from hq_9.trans hkn.1) ?_
    refine fz_ci (vz_runV (As := [.int (nI (nn (lkX sa pa)))]) (rest := []) X (xJ3_indexOf l E ks si (nn (lkX sa pa)) (by first | assumption | omega) hkn.2 _) (cwV 1 X.2.2.2.2 (lw_V q708 q709 q710 q88 q711) rfl rfl rfl ⟨rfl, hdJ3_indexOf⟩ ⟨Nat.le_of_ble_eq_true rfl, Nat.le_of_ble_eq_true rfl⟩) (fx_preV (fz_pre hE hP hD hS hR hZ hA [] rfl rfl fx_rc0) (vk_recv hZ.2.2.1 (by omega) hS)) rfl rfl hl.1 rfl (lv_room (Nat.le_of_ble_eq_true rfl)) dX13_isOneOf_12 ⟨Nat.le_refl _, Nat.le_refl _⟩) hP hD hS hA [] rfl rfl (fun _ _ _ _ _ h => h.elim) (fun r_12 u H locs hq_12 hP hD hS => ?_)
    replace hP : va_P E.1 clA [] _ := hP
    replace hD : va_D A [] := hD
    replace hq_12 : IXs si (nI (nn (lkX sa pa))) r_12 := hq_12
    have hix := (IXs_in hi hq_12)
    rw [← hkn.1] at hix
    refine lv_if_lt (tgt := 22) hx hb dX13_isOneOf_15 (by decide) (fun c_15 => ?_) (fun c_15 => ?_)
    · -- jump 22
      refine lv_iconst (v := 0) hx hb dX13_isOneOf_22 rfl ?_
      exact hret 0 () (fx_bf (fun h => hix.2 h c_15)) (rfl) hP hD hS (Nat.le_refl _) (Nat.le_refl _) dX13_isOneOf_23
    · -- fall 18
      refine lv_iconst (v := 1) hx hb dX13_isOneOf_18 rfl ?_
      refine lv_goto (tgt := 23) hx hb dX13_isOneOf_19 (by decide) ?_
      exact hret 1 () (fx_bt (hix.1 c_15)) (rfl) hP hD hS (Nat.le_refl _) (Nat.le_refl _) dX13_isOneOf_23
abbrev rxX13_wrong : Room := { frames := 4, cells := 1, slots := 7, locals := 89 }
set_option maxHeartbeats 400000 in
set_option maxRecDepth 100000 in
theorem xX13_wrong (l : Launch) (E : fx_En) (ks : fz_Ks) (sa : Nat → Int32) (rd : Nat) (tp_ : Nat) (xa : Nat) (uz : Nat) (pa : Nat) (on : Nat) : fz_Mq l yX13_wrong cX13_wrong 1 (.object "FigureTill$Fault") rxX13_wrong 1 7 E ks [.ref rd] [] [(rd, .inr (13, [.ref tp_, .int (nI (nn (sa 3))), .ref (ks.1 uz), .ref xa, .int (nI pa), .int (nI on)]))] (S := Nat) (fun (u : Nat) => [(u, .inr (15, [.null, .null, .null, .null, .null, .int 0, .int (nI pa)]))]) (fun (r : Option Nat) (u : Nat) => r = some u) "" (SX := Unit) (fun (u : Unit) => []) (fun (q : Nat) (u : Unit) => False) := by
  refine fz_qW rfl rfl (by first | exact Or.inl ⟨_, rfl⟩ | exact Or.inr ⟨_, rfl⟩) ?_
  intro p e s m args below meth c A ls Q X hnm hE hP hD hR hZ hA hl hret hthrow
  have hx := X.1
  have hb := X.2.1
  have hS : va_S A s.heap s.heap [] := va_S.rf
  replace hl : lv_has ls 1 [(0, .ref rd)] := hl
  refine fx_new X hE hP hD hS hA (ci := 15) rfl tyX15_ok q630 q631 q87 (fs := [.null, .null, .null, .null, .null, .int 0, .int 0]) (by decide) (Nat.le_of_ble_eq_true rfl) (Nat.le_of_ble_eq_true rfl) dX13_wrong_0 (fun q0 H hP hD hS => ?_)
  replace hP : va_P E.1 clA [(q0, .inr (15, [.null, .null, .null, .null, .null, .int 0, .int 0]))] _ := hP
  replace hD : va_D A [(q0, .inr (15, [.null, .null, .null, .null, .null, .int 0, .int 0]))] := hD
  refine W.widen (k := 1) (n := 7) (by first | omega | exact Nat.le_of_ble_eq_true rfl) (by first | omega | exact Nat.le_of_ble_eq_true rfl) ?_
  refine lv_dup hx hb dX13_wrong_3 rfl ?_
  refine lv_aload_n hx hb dX13_wrong_4 rfl (lv_at hl 0 rfl) ?_
  refine fx_get X hE (hR.at hS) 0 rfl rfl 4 rfl q575 rfl rfl dX13_wrong_5 ?_
  refine fz_cv (vz_runI (As := [.int (nI pa)]) (rest := [.ref q0]) X (xX15_init l E ks q0 (nI pa) _) (cwI 1 X.2.2.2.2 (lw_meth q672) rfl rfl rfl (X.2.2.2.2 _ q87) (X.2.2.2.2 _ q670) (X.2.2.2.2 _ q671) rfl hdX15_init ⟨Nat.le_of_ble_eq_true rfl, Nat.le_of_ble_eq_true rfl⟩) (fz_pre hE hP hD hS hR hZ hA [0] rfl rfl fx_rc0) rfl rfl hl.1 rfl (lv_room (Nat.le_of_ble_eq_true rfl)) dX13_wrong_8 ⟨Nat.le_refl _, Nat.le_refl _⟩) hP hD hS hA [0] rfl rfl (fun _ _ _ _ _ h => h.elim) (fun u H locs hq_8 hP hD hS => ?_)
  replace hP : va_P E.1 clA [(q0, .inr (15, [.null, .null, .null, .null, .null, .int 0, .int (nI pa)]))] _ := hP
  replace hD : va_D A [(q0, .inr (15, [.null, .null, .null, .null, .null, .int 0, .int (nI pa)]))] := hD
  replace hq_8 : True := hq_8
  exact hret (some q0) q0 (rfl) hP hD hS (Nat.le_refl _) (Nat.le_refl _) dX13_wrong_11
abbrev rxX14_add : Room := { frames := 0, cells := 0, slots := 0, locals := 0 }
set_option maxHeartbeats 400000 in
set_option maxRecDepth 100000 in
theorem xX14_add (l : Launch) (E : fx_En) (xa : Nat) (xb : Nat) (xc : Nat) (tn_ : Nat) (fb : Nat → Int32) (fc : Nat → Int32) (cz : Nat) (vz : Nat) (hn : tn_ < 60) (hcz : cz < 128) (hvz : vz < 32768) : fx_Mv l yX14_add cX14_add 3 rxX14_add E [.ref xa, .int (nI cz), .int (nI vz)] [(xa, .inr (14, [.ref xb, .ref xc, .int (nI tn_)])), (xb, .inl (E.2 1, 60, .inl fb)), (xc, .inl (E.2 2, 60, .inl fc))] [] (S := Unit) (fun (u : Unit) => [(xa, .inr (14, [.ref xb, .ref xc, .int (nI (tn_ + 1))])), (xb, .inl (E.2 1, 60, .inl (upd fb tn_ (nI cz)))), (xc, .inl (E.2 2, 60, .inl (upd fc tn_ (nI vz))))]) (fun (u : Unit) => True) := by
  refine fx_vW rfl rfl ?_
  intro p e s m args below meth c A ls Q X hnm hE hP hD hR hA hl hret
  have hx := X.1
  have hb := X.2.1
  have hS : va_S A s.heap s.heap [] := va_S.rf
  replace hP : va_P E.1 clA [(xa, .inr (14, [.ref xb, .ref xc, .int (nI tn_)])), (xb, .inl (E.2 1, 60, .inl fb)), (xc, .inl (E.2 2, 60, .inl fc))] _ := hP
  replace hD : va_D A [(xa, .inr (14, [.ref xb, .ref xc, .int (nI tn_)])), (xb, .inl (E.2 1, 60, .inl fb)), (xc, .inl (E.2 2, 60, .inl fc))] := hD
  replace hl : lv_has ls 3 [(0, .ref xa), (1, .int (nI cz)), (2, .int (nI vz))] := hl
  refine lv_aload_n hx hb dX14_add_0 rfl (lv_at hl 0 rfl) ?_
  refine fx_get X hE hP 0 rfl rfl 0 rfl q557 rfl rfl dX14_add_1 ?_
  refine lv_aload_n hx hb dX14_add_4 rfl (lv_at hl 0 rfl) ?_
  refine fx_get X hE hP 0 rfl rfl 2 rfl q561 rfl rfl dX14_add_5 ?_
  refine lv_iload_n hx hb dX14_add_8 rfl (lv_at hl 1 rfl) ?_
  refine lv_i2b (v := (nI cz).toInt8.toInt32) hx hb dX14_add_9 rfl ?_
  refine fx_bast (ws' := [(xa, .inr (14, [.ref xb, .ref xc, .int (nI tn_)])), (xb, .inl (E.2 1, 60, .inl (upd fb tn_ (nI cz)))), (xc, .inl (E.2 2, 60, .inl fc))]) X hE hP hD hS 1 rfl tn_ rfl (by omega) rfl (by rw [pk_bidem]; exact fit8 rfl hcz) rfl dX14_add_10 (fun H locs hP hD hS => ?_)
  refine lv_aload_n hx hb dX14_add_11 rfl (lv_at hl 0 rfl) ?_
  refine fx_get X hE hP 0 rfl rfl 1 rfl q559 rfl rfl dX14_add_12 ?_
  refine lv_aload_n hx hb dX14_add_15 rfl (lv_at hl 0 rfl) ?_
  refine fx_get X hE hP 0 rfl rfl 2 rfl q561 rfl rfl dX14_add_16 ?_
  refine lv_iload_n hx hb dX14_add_19 rfl (lv_at hl 2 rfl) ?_
  refine lv_i2s (v := (nI vz).toInt16.toInt32) hx hb dX14_add_20 rfl ?_
  refine fx_sast (ws' := [(xa, .inr (14, [.ref xb, .ref xc, .int (nI tn_)])), (xb, .inl (E.2 1, 60, .inl (upd fb tn_ (nI cz)))), (xc, .inl (E.2 2, 60, .inl (upd fc tn_ (nI vz))))]) X hE hP hD hS 2 rfl tn_ rfl (by omega) rfl (by rw [pk_sidem]; exact fit16 rfl hvz) rfl dX14_add_21 (fun H locs hP hD hS => ?_)
  refine lv_aload_n hx hb dX14_add_22 rfl (lv_at hl 0 rfl) ?_
  refine lv_dup hx hb dX14_add_23 rfl ?_
  refine fx_get X hE hP 0 rfl rfl 2 rfl q561 rfl rfl dX14_add_24 ?_
  refine lv_iconst (v := 1) hx hb dX14_add_27 rfl ?_
  refine lv_iadd hx hb dX14_add_28 ?_
  refine fx_ti (nI_add tn_ 1) ?_
  refine fx_put_ (ws' := [(xa, .inr (14, [.ref xb, .ref xc, .int (nI (tn_ + 1))])), (xb, .inl (E.2 1, 60, .inl (upd fb tn_ (nI cz)))), (xc, .inl (E.2 2, 60, .inl (upd fc tn_ (nI vz))))]) X hE hP hD hS 0 rfl rfl tyX14_ok nmX14 2 rfl q561 rfl rfl rfl rfl rfl rfl dX14_add_29 (fun H locs hP hD hS => ?_)
  exact hret () (trivial) hP hD hS (Nat.le_refl _) (Nat.le_refl _) dX14_add_32
