set_option maxRecDepth 100000
theorem hdX0_sizeOf : yX0_sizeOf.cls ≠ "java/lang/invoke/MethodHandle" ∧ yX0_sizeOf.cls ≠ "java/lang/invoke/VarHandle" ∧ (parseMethodDescriptor yX0_sizeOf.desc).map (fun d => d.parameters.length) = some 1 := by decide +kernel
theorem hdX0_numberOf : yX0_numberOf.cls ≠ "java/lang/invoke/MethodHandle" ∧ yX0_numberOf.cls ≠ "java/lang/invoke/VarHandle" ∧ (parseMethodDescriptor yX0_numberOf.desc).map (fun d => d.parameters.length) = some 2 := by decide +kernel
theorem hdX0_manyIn : yX0_manyIn.cls ≠ "java/lang/invoke/MethodHandle" ∧ yX0_manyIn.cls ≠ "java/lang/invoke/VarHandle" ∧ (parseMethodDescriptor yX0_manyIn.desc).map (fun d => d.parameters.length) = some 1 := by decide +kernel
theorem hdX0_sumOf : yX0_sumOf.cls ≠ "java/lang/invoke/MethodHandle" ∧ yX0_sumOf.cls ≠ "java/lang/invoke/VarHandle" ∧ (parseMethodDescriptor yX0_sumOf.desc).map (fun d => d.parameters.length) = some 2 := by decide +kernel
abbrev rxX0_sizeOfB : Room := { frames := 0, cells := 0, slots := 0, locals := 0 }
set_option maxHeartbeats 400000 in
set_option maxRecDepth 100000 in
theorem xX0_sizeOfB (l : Launch) (E : fx_En) (h : Nat) (n_ : Nat) (f : Nat → Int32) : fx_Mi l yX0_sizeOf cX0_sizeOf 1 .int rxX0_sizeOfB E [.ref h] [] [(h, .inl (E.2 1, n_, .inl f))] (S := Unit) (fun (u : Unit) => []) (fun (r : Int32) (u : Unit) => r = nI n_) := by
  refine fx_iW rfl rfl ?_
  intro p e s m args below meth c A ls Q X hE hP hD hR hA hl hret
  have hx := X.1
  have hb := X.2.1
  have hS : va_S A s.heap s.heap [] := va_S.rf
  replace hl : lv_has ls 1 [(0, .ref h)] := hl
  refine lv_aload_n hx hb dX0_sizeOf_0 rfl (lv_at hl 0 rfl) ?_
  refine fx_instAY X (hR.at hS) 0 rfl (fx_nmB hE) q816 dX0_sizeOf_1 ?_
  refine lv_if_eq (tgt := 15) hx hb dX0_sizeOf_4 (by decide) (fun c => absurd c (by decide)) (fun _ => ?_)
  refine lv_aload_n hx hb dX0_sizeOf_7 rfl (lv_at hl 0 rfl) ?_
  refine fx_castA X hE (hR.at hS) 0 rfl (fx_nmB hE) q816 dX0_sizeOf_8 ?_
  refine fx_alen X hE (hR.at hS) 0 1 rfl rfl dX0_sizeOf_11 ?_
  refine lv_goto (tgt := 35) hx hb dX0_sizeOf_12 (by decide) ?_
  exact hret (nI n_) () (rfl) (rfl) hP hD hS (Nat.le_refl _) (Nat.le_refl _) dX0_sizeOf_35
abbrev rxX0_numberOfB : Room := { frames := 0, cells := 0, slots := 0, locals := 0 }
set_option maxHeartbeats 400000 in
set_option maxRecDepth 100000 in
theorem xX0_numberOfB (l : Launch) (E : fx_En) (h : Nat) (n_ : Nat) (f : Nat → Int32) (i : Nat) (hi : i < n_) (hn : n_ ≤ 24) : fx_Mi l yX0_numberOf cX0_numberOf 2 .int rxX0_numberOfB E [.ref h, .int (nI i)] [] [(h, .inl (E.2 1, n_, .inl f))] (S := Unit) (fun (u : Unit) => []) (fun (r : Int32) (u : Unit) => r = f i) := by
  refine fx_iW rfl rfl ?_
  intro p e s m args below meth c A ls Q X hE hP hD hR hA hl hret
  have hx := X.1
  have hb := X.2.1
  have hS : va_S A s.heap s.heap [] := va_S.rf
  replace hl : lv_has ls 2 [(0, .ref h), (1, .int (nI i))] := hl
  refine lv_aload_n hx hb dX0_numberOf_0 rfl (lv_at hl 0 rfl) ?_
  refine fx_instAY X (hR.at hS) 0 rfl (fx_nmB hE) q816 dX0_numberOf_1 ?_
  refine lv_if_eq (tgt := 16) hx hb dX0_numberOf_4 (by decide) (fun c => absurd c (by decide)) (fun _ => ?_)
  refine lv_aload_n hx hb dX0_numberOf_7 rfl (lv_at hl 0 rfl) ?_
  refine fx_castA X hE (hR.at hS) 0 rfl (fx_nmB hE) q816 dX0_numberOf_8 ?_
  refine lv_iload_n hx hb dX0_numberOf_11 rfl (lv_at hl 1 rfl) ?_
  refine fx_bald X hE (hR.at hS) 0 rfl i rfl (by omega) (by rw [Nat.blt_eq]; omega) dX0_numberOf_12 ?_
  refine lv_goto (tgt := 38) hx hb dX0_numberOf_13 (by decide) ?_
  exact hret (f i) () (rfl) (rfl) hP hD hS (Nat.le_refl _) (Nat.le_refl _) dX0_numberOf_38
abbrev rxX0_sizeOfS : Room := { frames := 0, cells := 0, slots := 0, locals := 0 }
set_option maxHeartbeats 400000 in
set_option maxRecDepth 100000 in
theorem xX0_sizeOfS (l : Launch) (E : fx_En) (h : Nat) (n_ : Nat) (f : Nat → Int32) : fx_Mi l yX0_sizeOf cX0_sizeOf 1 .int rxX0_sizeOfS E [.ref h] [] [(h, .inl (E.2 2, n_, .inl f))] (S := Unit) (fun (u : Unit) => []) (fun (r : Int32) (u : Unit) => r = nI n_) := by
  refine fx_iW rfl rfl ?_
  intro p e s m args below meth c A ls Q X hE hP hD hR hA hl hret
  have hx := X.1
  have hb := X.2.1
  have hS : va_S A s.heap s.heap [] := va_S.rf
  replace hl : lv_has ls 1 [(0, .ref h)] := hl
  refine lv_aload_n hx hb dX0_sizeOf_0 rfl (lv_at hl 0 rfl) ?_
  refine fx_instAN X hE (hR.at hS) 0 rfl (fx_nmS hE) q816 35 rfl dX0_sizeOf_1 ?_
  refine lv_if_eq (tgt := 15) hx hb dX0_sizeOf_4 (by decide) (fun _ => ?_) (fun c => (c (by decide)).elim)
  refine lv_aload_n hx hb dX0_sizeOf_15 rfl (lv_at hl 0 rfl) ?_
  refine fx_instAY X (hR.at hS) 0 rfl (fx_nmS hE) q817 dX0_sizeOf_16 ?_
  refine lv_if_eq (tgt := 30) hx hb dX0_sizeOf_19 (by decide) (fun c => absurd c (by decide)) (fun _ => ?_)
  refine lv_aload_n hx hb dX0_sizeOf_22 rfl (lv_at hl 0 rfl) ?_
  refine fx_castA X hE (hR.at hS) 0 rfl (fx_nmS hE) q817 dX0_sizeOf_23 ?_
  refine fx_alen X hE (hR.at hS) 0 2 rfl rfl dX0_sizeOf_26 ?_
  refine lv_goto (tgt := 35) hx hb dX0_sizeOf_27 (by decide) ?_
  exact hret (nI n_) () (rfl) (rfl) hP hD hS (Nat.le_refl _) (Nat.le_refl _) dX0_sizeOf_35
abbrev rxX0_numberOfS : Room := { frames := 0, cells := 0, slots := 0, locals := 0 }
set_option maxHeartbeats 400000 in
set_option maxRecDepth 100000 in
theorem xX0_numberOfS (l : Launch) (E : fx_En) (h : Nat) (n_ : Nat) (f : Nat → Int32) (i : Nat) (hi : i < n_) (hn : n_ ≤ 24) : fx_Mi l yX0_numberOf cX0_numberOf 2 .int rxX0_numberOfS E [.ref h, .int (nI i)] [] [(h, .inl (E.2 2, n_, .inl f))] (S := Unit) (fun (u : Unit) => []) (fun (r : Int32) (u : Unit) => r = f i) := by
  refine fx_iW rfl rfl ?_
  intro p e s m args below meth c A ls Q X hE hP hD hR hA hl hret
  have hx := X.1
  have hb := X.2.1
  have hS : va_S A s.heap s.heap [] := va_S.rf
  replace hl : lv_has ls 2 [(0, .ref h), (1, .int (nI i))] := hl
  refine lv_aload_n hx hb dX0_numberOf_0 rfl (lv_at hl 0 rfl) ?_
  refine fx_instAN X hE (hR.at hS) 0 rfl (fx_nmS hE) q816 35 rfl dX0_numberOf_1 ?_
  refine lv_if_eq (tgt := 16) hx hb dX0_numberOf_4 (by decide) (fun _ => ?_) (fun c => (c (by decide)).elim)
  refine lv_aload_n hx hb dX0_numberOf_16 rfl (lv_at hl 0 rfl) ?_
  refine fx_instAY X (hR.at hS) 0 rfl (fx_nmS hE) q817 dX0_numberOf_17 ?_
  refine lv_if_eq (tgt := 32) hx hb dX0_numberOf_20 (by decide) (fun c => absurd c (by decide)) (fun _ => ?_)
  refine lv_aload_n hx hb dX0_numberOf_23 rfl (lv_at hl 0 rfl) ?_
  refine fx_castA X hE (hR.at hS) 0 rfl (fx_nmS hE) q817 dX0_numberOf_24 ?_
  refine lv_iload_n hx hb dX0_numberOf_27 rfl (lv_at hl 1 rfl) ?_
  refine fx_sald X hE (hR.at hS) 0 rfl i rfl (by omega) (by rw [Nat.blt_eq]; omega) dX0_numberOf_28 ?_
  refine lv_goto (tgt := 38) hx hb dX0_numberOf_29 (by decide) ?_
  exact hret (f i) () (rfl) (rfl) hP hD hS (Nat.le_refl _) (Nat.le_refl _) dX0_numberOf_38
abbrev rxX0_sizeOfI : Room := { frames := 0, cells := 0, slots := 0, locals := 0 }
set_option maxHeartbeats 400000 in
set_option maxRecDepth 100000 in
theorem xX0_sizeOfI (l : Launch) (E : fx_En) (h : Nat) (n_ : Nat) (f : Nat → Int32) : fx_Mi l yX0_sizeOf cX0_sizeOf 1 .int rxX0_sizeOfI E [.ref h] [] [(h, .inl (E.2 0, n_, .inl f))] (S := Unit) (fun (u : Unit) => []) (fun (r : Int32) (u : Unit) => r = nI n_) := by
  refine fx_iW rfl rfl ?_
  intro p e s m args below meth c A ls Q X hE hP hD hR hA hl hret
  have hx := X.1
  have hb := X.2.1
  have hS : va_S A s.heap s.heap [] := va_S.rf
  replace hl : lv_has ls 1 [(0, .ref h)] := hl
  refine lv_aload_n hx hb dX0_sizeOf_0 rfl (lv_at hl 0 rfl) ?_
  refine fx_instAN X hE (hR.at hS) 0 rfl (fx_nmI hE) q816 34 rfl dX0_sizeOf_1 ?_
  refine lv_if_eq (tgt := 15) hx hb dX0_sizeOf_4 (by decide) (fun _ => ?_) (fun c => (c (by decide)).elim)
  refine lv_aload_n hx hb dX0_sizeOf_15 rfl (lv_at hl 0 rfl) ?_
  refine fx_instAN X hE (hR.at hS) 0 rfl (fx_nmI hE) q817 36 rfl dX0_sizeOf_16 ?_
  refine lv_if_eq (tgt := 30) hx hb dX0_sizeOf_19 (by decide) (fun _ => ?_) (fun c => (c (by decide)).elim)
  refine lv_aload_n hx hb dX0_sizeOf_30 rfl (lv_at hl 0 rfl) ?_
  refine fx_castA X hE (hR.at hS) 0 rfl (fx_nmI hE) q818 dX0_sizeOf_31 ?_
  refine fx_alen X hE (hR.at hS) 0 0 rfl rfl dX0_sizeOf_34 ?_
  exact hret (nI n_) () (rfl) (rfl) hP hD hS (Nat.le_refl _) (Nat.le_refl _) dX0_sizeOf_35
abbrev rxX0_numberOfI : Room := { frames := 0, cells := 0, slots := 0, locals := 0 }
set_option maxHeartbeats 400000 in
set_option maxRecDepth 100000 in
theorem xX0_numberOfI (l : Launch) (E : fx_En) (h : Nat) (n_ : Nat) (f : Nat → Int32) (i : Nat) (hi : i < n_) (hn : n_ ≤ 24) : fx_Mi l yX0_numberOf cX0_numberOf 2 .int rxX0_numberOfI E [.ref h, .int (nI i)] [] [(h, .inl (E.2 0, n_, .inl f))] (S := Unit) (fun (u : Unit) => []) (fun (r : Int32) (u : Unit) => r = f i) := by
  refine fx_iW rfl rfl ?_
  intro p e s m args below meth c A ls Q X hE hP hD hR hA hl hret
  have hx := X.1
  have hb := X.2.1
  have hS : va_S A s.heap s.heap [] := va_S.rf
  replace hl : lv_has ls 2 [(0, .ref h), (1, .int (nI i))] := hl
  refine lv_aload_n hx hb dX0_numberOf_0 rfl (lv_at hl 0 rfl) ?_
  refine fx_instAN X hE (hR.at hS) 0 rfl (fx_nmI hE) q816 34 rfl dX0_numberOf_1 ?_
  refine lv_if_eq (tgt := 16) hx hb dX0_numberOf_4 (by decide) (fun _ => ?_) (fun c => (c (by decide)).elim)
  refine lv_aload_n hx hb dX0_numberOf_16 rfl (lv_at hl 0 rfl) ?_
  refine fx_instAN X hE (hR.at hS) 0 rfl (fx_nmI hE) q817 36 rfl dX0_numberOf_17 ?_
  refine lv_if_eq (tgt := 32) hx hb dX0_numberOf_20 (by decide) (fun _ => ?_) (fun c => (c (by decide)).elim)
  refine lv_aload_n hx hb dX0_numberOf_32 rfl (lv_at hl 0 rfl) ?_
  refine fx_castA X hE (hR.at hS) 0 rfl (fx_nmI hE) q818 dX0_numberOf_33 ?_
  refine lv_iload_n hx hb dX0_numberOf_36 rfl (lv_at hl 1 rfl) ?_
  refine fx_iald X hE (hR.at hS) 0 rfl i rfl (by omega) (by rw [Nat.blt_eq]; omega) dX0_numberOf_37 ?_
  exact hret (f i) () (rfl) (rfl) hP hD hS (Nat.le_refl _) (Nat.le_refl _) dX0_numberOf_38
abbrev rxX0_manyIn : Room := { frames := 0, cells := 0, slots := 0, locals := 0 }
set_option maxHeartbeats 400000 in
set_option maxRecDepth 100000 in
theorem xX0_manyIn (l : Launch) (E : fx_En) (h : Nat) (row : Nat → Int32) : fx_Mi l yX0_manyIn cX0_manyIn 3 .int rxX0_manyIn E [.ref h] [] [(h, .inl (E.2 1, 8, .inl row))] (S := Unit) (fun (u : Unit) => []) (fun (r : Int32) (u : Unit) => r = l_sum row 8) := by
  refine fx_iW rfl rfl ?_
  intro p e s m args below meth c A ls Q X hE hP hD hR hA hl hret
  have hx := X.1
  have hb := X.2.1
  have hS : va_S A s.heap s.heap [] := va_S.rf
  replace hl : lv_has ls 3 [(0, .ref h)] := hl
  refine lv_iconst (v := 0) hx hb dX0_manyIn_0 rfl ?_
  refine lv_istore_n (lv' := [(1, .int 0), (0, .ref h)]) hx hb dX0_manyIn_1 rfl hl (by decide) rfl (fun ls hl => ?_)
  refine lv_iconst (v := 0) hx hb dX0_manyIn_2 rfl ?_
  refine lv_istore_n (lv' := [(2, .int 0), (1, .int 0), (0, .ref h)]) hx hb dX0_manyIn_3 rfl hl (by decide) rfl (fun ls hl => ?_)
  have loop_4 : ∀ (n_4 : Nat) (t : Nat), (8 - t < n_4) → (t ≤ 8) → ∀ (H : Heap) (locs : List Loc), va_P E.1 clA [] H → va_D A [] → va_S A s.heap H locs → ∀ (ls : Array Slot), lv_has ls 3 [(2, .int (nI t)), (1, .int (l_sum row t)), (0, .ref h)] → W p l e rxX0_manyIn s m args below meth c H locs 0 0 Q (F0 m 4 ls []) := by
    intro n_4
    induction n_4 with
    | zero => intro t hm_4; exact absurd hm_4 (Nat.not_lt_zero _)
    | succ n_4 ih_4 =>
      intro t hm_4 ht H locs hP hD hS ls hl
      refine lv_iload_n hx hb dX0_manyIn_4 rfl (lv_at hl 0 rfl) ?_
      refine lv_bipush (v := 8) hx hb dX0_manyIn_5 rfl ?_
      refine lv_icmp_ge (tgt := 22) hx hb dX0_manyIn_7 (by decide) (fun c_7 => ?_) (fun c_7 => ?_)
      · -- jump 22
        have n_7 := fx_le1 (a := 8) (b := t) c_7 (by omega) (by omega)
        obtain rfl : t = 8 := by omega
        refine lv_iload_n hx hb dX0_manyIn_22 rfl (lv_at hl 1 rfl) ?_
        exact hret (l_sum row 8) () (rfl) (rfl) hP hD hS (Nat.le_refl _) (Nat.le_refl _) dX0_manyIn_23
      · -- fall 10
        have n_7 := fx_le0 (a := 8) (b := t) c_7 (by omega) (by omega)
        refine lv_iload_n hx hb dX0_manyIn_10 rfl (lv_at hl 1 rfl) ?_
        refine lv_aload_n hx hb dX0_manyIn_11 rfl (lv_at hl 2 rfl) ?_
        refine lv_iload_n hx hb dX0_manyIn_12 rfl (lv_at hl 0 rfl) ?_
        refine fx_bald X hE (hR.at hS) 0 rfl t rfl (by omega) rfl dX0_manyIn_13 ?_
        refine lv_iadd hx hb dX0_manyIn_14 ?_
        refine lv_istore_n (lv' := [(1, .int ((l_sum row t) + (row t))), (2, .int (nI t)), (0, .ref h)]) hx hb dX0_manyIn_15 rfl hl (by decide) rfl (fun ls hl => ?_)
        refine lv_iinc (v := nI (t + 1)) (lv' := [(2, .int (nI (t + 1))), (1, .int ((l_sum row t) + (row t))), (0, .ref h)]) hx hb dX0_manyIn_16 hl (k := 1) rfl (fx_inc _) (by decide) rfl (fun ls hl => ?_)
        refine lv_goto (tgt := 4) hx hb dX0_manyIn_19 (by decide) ?_
        exact ih_4 (t + 1) (by omega) (by omega) _ _ hP hD hS ls (lv_sub hl [0, 1, 2] rfl)
  exact loop_4 ((8 - 0) + 1) 0 (Nat.lt_succ_self _) (by omega) _ _ hP hD hS ls (lv_sub hl [0, 1, 2] rfl)
abbrev rxX0_sumOf : Room := { frames := 0, cells := 0, slots := 0, locals := 0 }
set_option maxHeartbeats 400000 in
set_option maxRecDepth 100000 in
theorem xX0_sumOf (l : Launch) (E : fx_En) (ax : Nat → Nat) (im : Int32) (bn : Int32) (bm : Int32) (fm : Int32) (ff : Int32) (fl : Int32) (h : Nat) (row : Nat → Int32) (g_ : Nat) (each : Nat → Int32) : fx_Mi l yX0_sumOf cX0_sumOf 5 .int rxX0_sumOf E [.ref (ax 19), .ref h, .ref g_] [] [(ax 19, .inr (0, [.ref (ax 0), .ref (ax 1), .ref (ax 35), .ref (ax 55), .ref (ax 4), .ref (ax 5), .ref (ax 6), .ref (ax 7), .int im, .ref (ax 9), .ref (ax 10), .ref (ax 11), .ref (ax 12), .ref (ax 13), .int bn, .int bm, .int fm, .int ff, .int fl])), (h, .inl (E.2 1, 8, .inl row)), (g_, .inl (E.2 0, 8, .inl each))] (S := Unit) (fun (u : Unit) => []) (fun (r : Int32) (u : Unit) => r = l_sum (fun i_ => row i_ * each i_) 8) := by
  refine fx_iW rfl rfl ?_
  intro p e s m args below meth c A ls Q X hE hP hD hR hA hl hret
  have hx := X.1
  have hb := X.2.1
  have hS : va_S A s.heap s.heap [] := va_S.rf
  replace hl : lv_has ls 5 [(0, .ref (ax 19)), (1, .ref h), (2, .ref g_)] := hl
  refine lv_iconst (v := 0) hx hb dX0_sumOf_0 rfl ?_
  refine lv_istore_n (lv' := [(3, .int 0), (0, .ref (ax 19)), (1, .ref h), (2, .ref g_)]) hx hb dX0_sumOf_1 rfl hl (by decide) rfl (fun ls hl => ?_)
  refine lv_iconst (v := 0) hx hb dX0_sumOf_2 rfl ?_
  refine lv_istore (lv' := [(4, .int 0), (3, .int 0), (0, .ref (ax 19)), (1, .ref h), (2, .ref g_)]) hx hb dX0_sumOf_3 hl (by decide) rfl (fun ls hl => ?_)
  have loop_5 : ∀ (n_5 : Nat) (t : Nat), (8 - t < n_5) → (t ≤ 8) → ∀ (H : Heap) (locs : List Loc), va_P E.1 clA [] H → va_D A [] → va_S A s.heap H locs → ∀ (ls : Array Slot), lv_has ls 5 [(4, .int (nI t)), (3, .int (l_sum (fun i_ => row i_ * each i_) t)), (0, .ref (ax 19)), (1, .ref h), (2, .ref g_)] → W p l e rxX0_sumOf s m args below meth c H locs 0 0 Q (F0 m 5 ls []) := by
    intro n_5
    induction n_5 with
    | zero => intro t hm_5; exact absurd hm_5 (Nat.not_lt_zero _)
    | succ n_5 ih_5 =>
      intro t hm_5 ht H locs hP hD hS ls hl
      refine lv_iload hx hb dX0_sumOf_5 (lv_at hl 0 rfl) ?_
      refine lv_bipush (v := 8) hx hb dX0_sumOf_7 rfl ?_
      refine lv_icmp_ge (tgt := 30) hx hb dX0_sumOf_9 (by decide) (fun c_9 => ?_) (fun c_9 => ?_)
      · -- jump 30
        have n_9 := fx_le1 (a := 8) (b := t) c_9 (by omega) (by omega)
        obtain rfl : t = 8 := by omega
        refine lv_iload_n hx hb dX0_sumOf_30 rfl (lv_at hl 1 rfl) ?_
        exact hret (l_sum (fun i_ => row i_ * each i_) 8) () (rfl) (rfl) hP hD hS (Nat.le_refl _) (Nat.le_refl _) dX0_sumOf_31
      · -- fall 12
        have n_9 := fx_le0 (a := 8) (b := t) c_9 (by omega) (by omega)
        refine lv_iload_n hx hb dX0_sumOf_12 rfl (lv_at hl 1 rfl) ?_
        refine lv_aload_n hx hb dX0_sumOf_13 rfl (lv_at hl 3 rfl) ?_
        refine lv_iload hx hb dX0_sumOf_14 (lv_at hl 0 rfl) ?_
        refine fx_bald X hE (hR.at hS) 1 rfl t rfl (by omega) rfl dX0_sumOf_16 ?_
        refine lv_aload_n hx hb dX0_sumOf_17 rfl (lv_at hl 4 rfl) ?_
        refine lv_iload hx hb dX0_sumOf_18 (lv_at hl 0 rfl) ?_
        refine fx_iald X hE (hR.at hS) 2 rfl t rfl (by omega) rfl dX0_sumOf_20 ?_
        refine lv_imul hx hb dX0_sumOf_21 ?_
        refine lv_iadd hx hb dX0_sumOf_22 ?_
        refine lv_istore_n (lv' := [(3, .int ((l_sum (fun i_ => row i_ * each i_) t) + ((row t) * (each t)))), (4, .int (nI t)), (0, .ref (ax 19)), (1, .ref h), (2, .ref g_)]) hx hb dX0_sumOf_23 rfl hl (by decide) rfl (fun ls hl => ?_)
        refine lv_iinc (v := nI (t + 1)) (lv' := [(4, .int (nI (t + 1))), (3, .int ((l_sum (fun i_ => row i_ * each i_) t) + ((row t) * (each t)))), (0, .ref (ax 19)), (1, .ref h), (2, .ref g_)]) hx hb dX0_sumOf_24 hl (k := 1) rfl (fx_inc _) (by decide) rfl (fun ls hl => ?_)
        refine lv_goto (tgt := 5) hx hb dX0_sumOf_27 (by decide) ?_
        exact ih_5 (t + 1) (by omega) (by omega) _ _ hP hD hS ls (lv_sub hl [0, 1, 2, 3, 4] rfl)
  exact loop_5 ((8 - 0) + 1) 0 (Nat.lt_succ_self _) (by omega) _ _ hP hD hS ls (lv_sub hl [0, 1, 2, 3, 4] rfl)
