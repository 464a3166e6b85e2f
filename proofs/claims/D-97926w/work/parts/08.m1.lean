set_option maxRecDepth 100000
theorem hdX6_error : yX6_error.cls ≠ "java/lang/invoke/MethodHandle" ∧ yX6_error.cls ≠ "java/lang/invoke/VarHandle" ∧ (parseMethodDescriptor yX6_error.desc).map (fun d => d.parameters.length) = some 1 := by decide +kernel
theorem hdX6_in : yX6_in.cls ≠ "java/lang/invoke/MethodHandle" ∧ yX6_in.cls ≠ "java/lang/invoke/VarHandle" ∧ (parseMethodDescriptor yX6_in.desc).map (fun d => d.parameters.length) = some 3 := by decide +kernel
theorem hdX6_held : yX6_held.cls ≠ "java/lang/invoke/MethodHandle" ∧ yX6_held.cls ≠ "java/lang/invoke/VarHandle" ∧ (parseMethodDescriptor yX6_held.desc).map (fun d => d.parameters.length) = some 3 := by decide +kernel
theorem hdX6_carry : yX6_carry.cls ≠ "java/lang/invoke/MethodHandle" ∧ yX6_carry.cls ≠ "java/lang/invoke/VarHandle" ∧ (parseMethodDescriptor yX6_carry.desc).map (fun d => d.parameters.length) = some 2 := by decide +kernel
theorem hdX6_isThing : yX6_isThing.cls ≠ "java/lang/invoke/MethodHandle" ∧ yX6_isThing.cls ≠ "java/lang/invoke/VarHandle" ∧ (parseMethodDescriptor yX6_isThing.desc).map (fun d => d.parameters.length) = some 1 := by decide +kernel
theorem hdX6_isTill : yX6_isTill.cls ≠ "java/lang/invoke/MethodHandle" ∧ yX6_isTill.cls ≠ "java/lang/invoke/VarHandle" ∧ (parseMethodDescriptor yX6_isTill.desc).map (fun d => d.parameters.length) = some 1 := by decide +kernel
theorem hdX6_kindOf : yX6_kindOf.cls ≠ "java/lang/invoke/MethodHandle" ∧ yX6_kindOf.cls ≠ "java/lang/invoke/VarHandle" ∧ (parseMethodDescriptor yX6_kindOf.desc).map (fun d => d.parameters.length) = some 1 := by decide +kernel
theorem hdX6_mOf : yX6_mOf.cls ≠ "java/lang/invoke/MethodHandle" ∧ yX6_mOf.cls ≠ "java/lang/invoke/VarHandle" ∧ (parseMethodDescriptor yX6_mOf.desc).map (fun d => d.parameters.length) = some 1 := by decide +kernel
theorem hdX6_change1 : yX6_change1.cls ≠ "java/lang/invoke/MethodHandle" ∧ yX6_change1.cls ≠ "java/lang/invoke/VarHandle" ∧ (parseMethodDescriptor yX6_change1.desc).map (fun d => d.parameters.length) = some 2 := by decide +kernel
theorem hdX6_added : yX6_added.cls ≠ "java/lang/invoke/MethodHandle" ∧ yX6_added.cls ≠ "java/lang/invoke/VarHandle" ∧ (parseMethodDescriptor yX6_added.desc).map (fun d => d.parameters.length) = some 2 := by decide +kernel
theorem hdX6_rooted : yX6_rooted.cls ≠ "java/lang/invoke/MethodHandle" ∧ yX6_rooted.cls ≠ "java/lang/invoke/VarHandle" ∧ (parseMethodDescriptor yX6_rooted.desc).map (fun d => d.parameters.length) = some 2 := by decide +kernel
theorem hdX6_many : yX6_many.cls ≠ "java/lang/invoke/MethodHandle" ∧ yX6_many.cls ≠ "java/lang/invoke/VarHandle" ∧ (parseMethodDescriptor yX6_many.desc).map (fun d => d.parameters.length) = some 1 := by decide +kernel
theorem hdX6_sumOf : yX6_sumOf.cls ≠ "java/lang/invoke/MethodHandle" ∧ yX6_sumOf.cls ≠ "java/lang/invoke/VarHandle" ∧ (parseMethodDescriptor yX6_sumOf.desc).map (fun d => d.parameters.length) = some 1 := by decide +kernel
theorem hdX6_costOf : yX6_costOf.cls ≠ "java/lang/invoke/MethodHandle" ∧ yX6_costOf.cls ≠ "java/lang/invoke/VarHandle" ∧ (parseMethodDescriptor yX6_costOf.desc).map (fun d => d.parameters.length) = some 1 := by decide +kernel
abbrev rmX6_error : Room := { frames := 0, cells := 0, slots := 0, locals := 0 }
set_option maxHeartbeats 400000 in
set_option maxRecDepth 100000 in
/-- an error is counted -/
theorem mX6_error (l : Launch) (E : fx_En) (ad : Nat → Nat) (im : Int32) (at_ : Int32) (op : Int32) (st_ : Int32) (us : Int32) (bn : Int32) (bm : Int32) (la : Int32) (fo : Int32) (fi : Int32) (lp : Int32) (tr_ : Int32) (sp : Int32) (ip : Int32) (er : Nat → Int32) (k : Nat) (hk : k < 7) : fx_Mi l yX6_error cX6_error 2 .int rmX6_error E [.ref (ad 30), .int (nI k)] [(ad 3, .inl (E.2 0, 7, .inl er))] [(ad 30, .inr (6, [.ref (ad 0), .ref (ad 1), .int im, .ref (ad 3), .int at_, .int op, .int st_, .int us, .ref (ad 8), .ref (ad 9), .ref (ad 10), .ref (ad 11), .ref (ad 12), .ref (ad 13), .ref (ad 14), .int bn, .int bm, .ref (ad 17), .int la, .int fo, .int fi, .int lp, .ref (ad 22), .int tr_, .int sp, .int ip, .ref (ad 26), .ref (ad 27), .ref (ad 28), .ref (ad 29)]))] (S := Unit) (fun (u : Unit) => [(ad 3, .inl (E.2 0, 7, .inl (upd er k (er k + 1))))]) (fun (r : Int32) (u : Unit) => r = erv k) := by
  refine fx_iW rfl rfl ?_
  intro p e s m args below meth c A ls Q X hE hP hD hR hA hl hret
  have hx := X.1
  have hb := X.2.1
  have hS : va_S A s.heap s.heap [] := va_S.rf
  replace hP : va_P E.1 clA [(ad 3, .inl (E.2 0, 7, .inl er))] _ := hP
  replace hD : va_D A [(ad 3, .inl (E.2 0, 7, .inl er))] := hD
  replace hl : lv_has ls 2 [(0, .ref (ad 30)), (1, .int (nI k))] := hl
  refine lv_aload_n hx hb dX6_error_0 rfl (lv_at hl 0 rfl) ?_
  refine fx_get X hE (hR.at hS) 0 rfl rfl 3 rfl q1171 rfl rfl dX6_error_1 ?_
  refine lv_iload_n hx hb dX6_error_4 rfl (lv_at hl 1 rfl) ?_
  refine lv_dup2_11 hx hb dX6_error_5 rfl rfl ?_
  refine fx_iald X hE hP 0 rfl k rfl (by omega) rfl dX6_error_6 ?_
  refine lv_iconst (v := 1) hx hb dX6_error_7 rfl ?_
  refine lv_iadd hx hb dX6_error_8 ?_
  refine fx_iast (ws' := [(ad 3, .inl (E.2 0, 7, .inl (upd er k ((er k) + 1))))]) X hE hP hD hS 0 rfl k rfl (by omega) rfl rfl dX6_error_9 (fun H locs hP hD hS => ?_)
  refine lv_ldc (v := (-1000000000)) hx hb X.2.2.2.1 (X.2.2.2.2 _ q1270) dX6_error_10 ?_
  refine lv_iload_n hx hb dX6_error_12 rfl (lv_at hl 1 rfl) ?_
  refine lv_isub hx hb dX6_error_13 ?_
  exact hret ((-1000000000) - (nI k)) () (rfl) (rfl) hP hD hS (Nat.le_refl _) (Nat.le_refl _) dX6_error_14
abbrev rmX6_in : Room := { frames := 0, cells := 0, slots := 0, locals := 0 }
set_option maxHeartbeats 400000 in
set_option maxRecDepth 100000 in
theorem mX6_in (l : Launch) (E : fx_En) (v : Int32) (lo : Int32) (hi : Int32) : fx_Mi l yX6_in cX6_in 3 .boolean rmX6_in E [.int v, .int lo, .int hi] [] [] (S := Unit) (fun (u : Unit) => []) (fun (r : Int32) (u : Unit) => r = fx_b (inB v lo hi = true)) := by
  refine fx_iW rfl rfl ?_
  intro p e s m args below meth c A ls Q X hE hP hD hR hA hl hret
  have hx := X.1
  have hb := X.2.1
  have hS : va_S A s.heap s.heap [] := va_S.rf
  replace hl : lv_has ls 3 [(0, .int v), (1, .int lo), (2, .int hi)] := hl
  refine lv_iload_n hx hb dX6_in_0 rfl (lv_at hl 0 rfl) ?_
  refine lv_iload_n hx hb dX6_in_1 rfl (lv_at hl 1 rfl) ?_
  refine lv_icmp_lt (tgt := 14) hx hb dX6_in_2 (by decide) (fun c_2 => ?_) (fun c_2 => ?_)
  · -- jump 14
    refine lv_iconst (v := 0) hx hb dX6_in_14 rfl ?_
    exact hret 0 () (fx_bf (fun h => absurd c_2 (Int32.not_lt.2 (inB_iff.1 h).1))) (rfl) hP hD hS (Nat.le_refl _) (Nat.le_refl _) dX6_in_15
  · -- fall 5
    refine lv_iload_n hx hb dX6_in_5 rfl (lv_at hl 0 rfl) ?_
    refine lv_iload_n hx hb dX6_in_6 rfl (lv_at hl 2 rfl) ?_
    refine lv_icmp_gt (tgt := 14) hx hb dX6_in_7 (by decide) (fun c_7 => ?_) (fun c_7 => ?_)
    · -- jump 14
      refine lv_iconst (v := 0) hx hb dX6_in_14 rfl ?_
      exact hret 0 () (fx_bf (fun h => absurd c_7 (Int32.not_lt.2 (inB_iff.1 h).2))) (rfl) hP hD hS (Nat.le_refl _) (Nat.le_refl _) dX6_in_15
    · -- fall 10
      refine lv_iconst (v := 1) hx hb dX6_in_10 rfl ?_
      refine lv_goto (tgt := 15) hx hb dX6_in_11 (by decide) ?_
      exact hret 1 () (fx_bt (inB_iff.2 ⟨Int32.not_lt.1 c_2, Int32.not_lt.1 c_7⟩)) (rfl) hP hD hS (Nat.le_refl _) (Nat.le_refl _) dX6_in_15
abbrev rmX6_held : Room := { frames := 0, cells := 0, slots := 0, locals := 0 }
set_option maxHeartbeats 400000 in
set_option maxRecDepth 100000 in
theorem mX6_held (l : Launch) (E : fx_En) (v : Int32) (lo : Int32) (hi : Int32) : fx_Mi l yX6_held cX6_held 3 .int rmX6_held E [.int v, .int lo, .int hi] [] [] (S := Unit) (fun (u : Unit) => []) (fun (r : Int32) (u : Unit) => r = hld v lo hi) := by
  refine fx_iW rfl rfl ?_
  intro p e s m args below meth c A ls Q X hE hP hD hR hA hl hret
  have hx := X.1
  have hb := X.2.1
  have hS : va_S A s.heap s.heap [] := va_S.rf
  replace hl : lv_has ls 3 [(0, .int v), (1, .int lo), (2, .int hi)] := hl
  refine lv_iload_n hx hb dX6_held_0 rfl (lv_at hl 0 rfl) ?_
  refine lv_iload_n hx hb dX6_held_1 rfl (lv_at hl 1 rfl) ?_
  refine lv_icmp_ge (tgt := 9) hx hb dX6_held_2 (by decide) (fun c_2 => ?_) (fun c_2 => ?_)
  · -- jump 9
    refine lv_iload_n hx hb dX6_held_9 rfl (lv_at hl 0 rfl) ?_
    refine lv_iload_n hx hb dX6_held_10 rfl (lv_at hl 2 rfl) ?_
    refine lv_icmp_le (tgt := 18) hx hb dX6_held_11 (by decide) (fun c_11 => ?_) (fun c_11 => ?_)
    · -- jump 18
      refine lv_iload_n hx hb dX6_held_18 rfl (lv_at hl 0 rfl) ?_
      exact hret v () (by simp only [hld]; first | rw [if_neg (Int32.not_lt.2 c_2), if_neg (Int32.not_lt.2 c_11)] | rw [if_neg (Int32.not_lt.2 c_2), if_pos (Int32.not_le.1 c_11)] | rw [if_pos (Int32.not_le.1 c_2)]) (rfl) hP hD hS (Nat.le_refl _) (Nat.le_refl _) dX6_held_19
    · -- fall 14
      refine lv_iload_n hx hb dX6_held_14 rfl (lv_at hl 2 rfl) ?_
      refine lv_goto (tgt := 19) hx hb dX6_held_15 (by decide) ?_
      exact hret hi () (by simp only [hld]; first | rw [if_neg (Int32.not_lt.2 c_2), if_neg (Int32.not_lt.2 c_11)] | rw [if_neg (Int32.not_lt.2 c_2), if_pos (Int32.not_le.1 c_11)] | rw [if_pos (Int32.not_le.1 c_2)]) (rfl) hP hD hS (Nat.le_refl _) (Nat.le_refl _) dX6_held_19
  · -- fall 5
    refine lv_iload_n hx hb dX6_held_5 rfl (lv_at hl 1 rfl) ?_
    refine lv_goto (tgt := 19) hx hb dX6_held_6 (by decide) ?_
    exact hret lo () (by simp only [hld]; first | rw [if_neg (Int32.not_lt.2 c_2), if_neg (Int32.not_lt.2 c_11)] | rw [if_neg (Int32.not_lt.2 c_2), if_pos (Int32.not_le.1 c_11)] | rw [if_pos (Int32.not_le.1 c_2)]) (rfl) hP hD hS (Nat.le_refl _) (Nat.le_refl _) dX6_held_19
abbrev rmX6_carry : Room := { frames := 0, cells := 0, slots := 0, locals := 0 }
set_option maxHeartbeats 400000 in
set_option maxRecDepth 100000 in
theorem mX6_carry (l : Launch) (E : fx_En) (fr : Nat) (to : Nat) (f : Nat → Int32) (g : Nat → Int32) : fx_Mv l yX6_carry cX6_carry 3 rmX6_carry E [.ref fr, .ref to] [(to, .inl (E.2 0, 374, .inl g))] [(fr, .inl (E.2 0, 374, .inl f))] (S := Unit) (fun (u : Unit) => [(to, .inl (E.2 0, 374, .inl (cpyN 374 f g)))]) (fun (u : Unit) => True) := by
  refine fx_vW rfl rfl ?_
  intro p e s m args below meth c A ls Q X hnm hE hP hD hR hA hl hret
  have hx := X.1
  have hb := X.2.1
  have hS : va_S A s.heap s.heap [] := va_S.rf
  replace hP : va_P E.1 clA [(to, .inl (E.2 0, 374, .inl g))] _ := hP
  replace hD : va_D A [(to, .inl (E.2 0, 374, .inl g))] := hD
  replace hl : lv_has ls 3 [(0, .ref fr), (1, .ref to)] := hl
  refine lv_iconst (v := 0) hx hb dX6_carry_0 rfl ?_
  refine lv_istore_n (lv' := [(2, .int 0), (0, .ref fr), (1, .ref to)]) hx hb dX6_carry_1 rfl hl (by decide) rfl (fun ls hl => ?_)
  have loop_2 : ∀ (n_2 : Nat) (t : Nat) (g2 : Nat → Int32), (374 - t < n_2) → (t ≤ 374) → (g2 = cpyN t f g) → ∀ (H : Heap) (locs : List Loc), va_P E.1 clA [(to, .inl (E.2 0, 374, .inl g2))] H → va_D A [(to, .inl (E.2 0, 374, .inl g2))] → va_S A s.heap H locs → ∀ (ls : Array Slot), lv_has ls 3 [(2, .int (nI t)), (0, .ref fr), (1, .ref to)] → W p l e rmX6_carry s m args below meth c H locs 0 0 Q (F0 m 2 ls []) := by
    intro n_2
    induction n_2 with
    | zero => intro t g2 hm_2; exact absurd hm_2 (Nat.not_lt_zero _)
    | succ n_2 ih_2 =>
      intro t g2 hm_2 ht hg H locs hP hD hS ls hl
      refine lv_iload_n hx hb dX6_carry_2 rfl (lv_at hl 0 rfl) ?_
      refine lv_sipush (v := 374) hx hb dX6_carry_3 rfl ?_
      refine lv_icmp_ge (tgt := 21) hx hb dX6_carry_6 (by decide) (fun c_6 => ?_) (fun c_6 => ?_)
      · -- jump 21
        have n_6 := fx_le1 (a := 374) (b := t) c_6 (by omega) (by omega)
        obtain rfl : t = 374 := by omega
        subst hg
        exact hret () (trivial) hP hD hS (Nat.le_refl _) (Nat.le_refl _) dX6_carry_21
      · -- fall 9
        have n_6 := fx_le0 (a := 374) (b := t) c_6 (by omega) (by omega)
        refine lv_aload_n hx hb dX6_carry_9 rfl (lv_at hl 2 rfl) ?_
        refine lv_iload_n hx hb dX6_carry_10 rfl (lv_at hl 0 rfl) ?_
        refine lv_aload_n hx hb dX6_carry_11 rfl (lv_at hl 1 rfl) ?_
        refine lv_iload_n hx hb dX6_carry_12 rfl (lv_at hl 0 rfl) ?_
        refine fx_iald X hE (hR.at hS) 0 rfl t rfl (by omega) rfl dX6_carry_13 ?_
        refine fx_iast (ws' := [(to, .inl (E.2 0, 374, .inl (upd g2 t (f t))))]) X hE hP hD hS 0 rfl t rfl (by omega) rfl rfl dX6_carry_14 (fun H locs hP hD hS => ?_)
        refine lv_iinc (v := nI (t + 1)) (lv' := [(2, .int (nI (t + 1))), (0, .ref fr), (1, .ref to)]) hx hb dX6_carry_15 hl (k := 0) rfl (fx_inc _) (by decide) rfl (fun ls hl => ?_)
        refine lv_goto (tgt := 2) hx hb dX6_carry_18 (by decide) ?_
        exact ih_2 (t + 1) (upd g2 t (f t)) (by omega) (by omega) (cpyN_s hg) _ _ hP hD hS ls (lv_sub hl [0, 1, 2] rfl)
  exact loop_2 ((374 - 0) + 1) 0 g (Nat.lt_succ_self _) (by omega) (cpyN_0 f g) _ _ hP hD hS ls (lv_sub hl [0, 1, 2] rfl)
abbrev rmX6_isThing : Room := { frames := 1, cells := 0, slots := 0, locals := 22 }
set_option maxHeartbeats 400000 in
set_option maxRecDepth 100000 in
theorem mX6_isThing (l : Launch) (E : fx_En) (v : Int32) : fx_Mi l yX6_isThing cX6_isThing 1 .boolean rmX6_isThing E [.int v] [] [] (S := Unit) (fun (u : Unit) => []) (fun (r : Int32) (u : Unit) => r = fx_b (inB v 0 7 = true)) := by
  refine fx_iW rfl rfl ?_
  intro p e s m args below meth c A ls Q X hE hP hD hR hA hl hret
  have hx := X.1
  have hb := X.2.1
  have hS : va_S A s.heap s.heap [] := va_S.rf
  replace hl : lv_has ls 1 [(0, .int v)] := hl
  refine lv_iload_n hx hb dX6_isThing_0 rfl (lv_at hl 0 rfl) ?_
  refine lv_iconst (v := 0) hx hb dX6_isThing_1 rfl ?_
  refine lv_bipush (v := 7) hx hb dX6_isThing_2 rfl ?_
  refine fx_ci (va_runS (As := [.int v, .int 0, .int 7]) (rest := []) X (mX6_in l E v 0 7 _) (va_cwS 3 X.2.2.2.2 (lw_S q1263 q1264 q75 q1265) rfl rfl rfl hdX6_in ⟨Nat.le_of_ble_eq_true rfl, Nat.le_of_ble_eq_true rfl⟩) (fx_pre hE hP hD hS hR [] rfl rfl fx_rc0) rfl rfl hl.1 rfl (lv_room (Nat.le_of_ble_eq_true rfl)) dX6_isThing_4 ⟨Nat.le_refl _, Nat.le_refl _⟩) hP hD hS hA [] rfl rfl (fun r_4 u H locs hq_4 hP hD hS => ?_)
  replace hP : va_P E.1 clA [] _ := hP
  replace hD : va_D A [] := hD
  replace hq_4 : r_4 = fx_b (inB v 0 7 = true) := hq_4
  rcases fx_bc hq_4 with ⟨hb_4, hr_4⟩ | ⟨hb_4, hr_4⟩
  · -- True
    subst hr_4
    exact hret 1 () (fx_bt hb_4) (rfl) hP hD hS (Nat.le_refl _) (Nat.le_refl _) dX6_isThing_7
  · -- False
    subst hr_4
    exact hret 0 () (fx_bf hb_4) (rfl) hP hD hS (Nat.le_refl _) (Nat.le_refl _) dX6_isThing_7
abbrev rmX6_isTill : Room := { frames := 1, cells := 0, slots := 0, locals := 22 }
set_option maxHeartbeats 400000 in
set_option maxRecDepth 100000 in
theorem mX6_isTill (l : Launch) (E : fx_En) (v : Int32) : fx_Mi l yX6_isTill cX6_isTill 1 .boolean rmX6_isTill E [.int v] [] [] (S := Unit) (fun (u : Unit) => []) (fun (r : Int32) (u : Unit) => r = fx_b (inB v 0 3 = true)) := by
  refine fx_iW rfl rfl ?_
  intro p e s m args below meth c A ls Q X hE hP hD hR hA hl hret
  have hx := X.1
  have hb := X.2.1
  have hS : va_S A s.heap s.heap [] := va_S.rf
  replace hl : lv_has ls 1 [(0, .int v)] := hl
  refine lv_iload_n hx hb dX6_isTill_0 rfl (lv_at hl 0 rfl) ?_
  refine lv_iconst (v := 0) hx hb dX6_isTill_1 rfl ?_
  refine lv_iconst (v := 3) hx hb dX6_isTill_2 rfl ?_
  refine fx_ci (va_runS (As := [.int v, .int 0, .int 3]) (rest := []) X (mX6_in l E v 0 3 _) (va_cwS 3 X.2.2.2.2 (lw_S q1263 q1264 q75 q1265) rfl rfl rfl hdX6_in ⟨Nat.le_of_ble_eq_true rfl, Nat.le_of_ble_eq_true rfl⟩) (fx_pre hE hP hD hS hR [] rfl rfl fx_rc0) rfl rfl hl.1 rfl (lv_room (Nat.le_of_ble_eq_true rfl)) dX6_isTill_3 ⟨Nat.le_refl _, Nat.le_refl _⟩) hP hD hS hA [] rfl rfl (fun r_3 u H locs hq_3 hP hD hS => ?_)
  replace hP : va_P E.1 clA [] _ := hP
  replace hD : va_D A [] := hD
  replace hq_3 : r_3 = fx_b (inB v 0 3 = true) := hq_3
  rcases fx_bc hq_3 with ⟨hb_3, hr_3⟩ | ⟨hb_3, hr_3⟩
  · -- True
    subst hr_3
    exact hret 1 () (fx_bt hb_3) (rfl) hP hD hS (Nat.le_refl _) (Nat.le_refl _) dX6_isTill_6
  · -- False
    subst hr_3
    exact hret 0 () (fx_bf hb_3) (rfl) hP hD hS (Nat.le_refl _) (Nat.le_refl _) dX6_isTill_6
abbrev rmX6_kindOf : Room := { frames := 0, cells := 0, slots := 0, locals := 0 }
set_option maxHeartbeats 400000 in
set_option maxRecDepth 100000 in
theorem mX6_kindOf (l : Launch) (E : fx_En) (ad : Nat → Nat) (im : Int32) (at_ : Int32) (op : Int32) (st_ : Int32) (us : Int32) (bn : Int32) (bm : Int32) (la : Int32) (fo : Int32) (fi : Int32) (lp : Int32) (tr_ : Int32) (sp : Int32) (ip : Int32) (sa : Nat → Int32) (k : Nat) (hk : k < 4) : fx_Mi l yX6_kindOf cX6_kindOf 2 .int rmX6_kindOf E [.ref (ad 30), .int (nI k)] [] [(ad 30, .inr (6, [.ref (ad 0), .ref (ad 1), .int im, .ref (ad 3), .int at_, .int op, .int st_, .int us, .ref (ad 8), .ref (ad 9), .ref (ad 10), .ref (ad 11), .ref (ad 12), .ref (ad 13), .ref (ad 14), .int bn, .int bm, .ref (ad 17), .int la, .int fo, .int fi, .int lp, .ref (ad 22), .int tr_, .int sp, .int ip, .ref (ad 26), .ref (ad 27), .ref (ad 28), .ref (ad 29)])), (ad 0, .inl (E.2 0, 374, .inl sa))] (S := Unit) (fun (u : Unit) => []) (fun (r : Int32) (u : Unit) => r = sa (32 + 2 * k)) := by
  refine fx_iW rfl rfl ?_
  intro p e s m args below meth c A ls Q X hE hP hD hR hA hl hret
  have hx := X.1
  have hb := X.2.1
  have hS : va_S A s.heap s.heap [] := va_S.rf
  replace hl : lv_has ls 2 [(0, .ref (ad 30)), (1, .int (nI k))] := hl
  refine lv_aload_n hx hb dX6_kindOf_0 rfl (lv_at hl 0 rfl) ?_
  refine fx_get X hE (hR.at hS) 0 rfl rfl 0 rfl q1168 rfl rfl dX6_kindOf_1 ?_
  refine lv_bipush (v := 32) hx hb dX6_kindOf_4 rfl ?_
  refine lv_iconst (v := 2) hx hb dX6_kindOf_6 rfl ?_
  refine lv_iload_n hx hb dX6_kindOf_7 rfl (lv_at hl 1 rfl) ?_
  refine lv_imul hx hb dX6_kindOf_8 ?_
  refine fx_ti (pk_mul 2 k) ?_
  refine lv_iadd hx hb dX6_kindOf_9 ?_
  refine fx_ti (nI_add 32 (2 * k)) ?_
  refine fx_iald X hE (hR.at hS) 1 rfl (32 + 2 * k) rfl (by omega) rfl dX6_kindOf_10 ?_
  exact hret (sa (32 + 2 * k)) () (rfl) (rfl) hP hD hS (Nat.le_refl _) (Nat.le_refl _) dX6_kindOf_11
abbrev rmX6_mOf : Room := { frames := 0, cells := 0, slots := 0, locals := 0 }
set_option maxHeartbeats 400000 in
set_option maxRecDepth 100000 in
theorem mX6_mOf (l : Launch) (E : fx_En) (ad : Nat → Nat) (im : Int32) (at_ : Int32) (op : Int32) (st_ : Int32) (us : Int32) (bn : Int32) (bm : Int32) (la : Int32) (fo : Int32) (fi : Int32) (lp : Int32) (tr_ : Int32) (sp : Int32) (ip : Int32) (sa : Nat → Int32) (k : Nat) (hk : k < 4) : fx_Mi l yX6_mOf cX6_mOf 2 .int rmX6_mOf E [.ref (ad 30), .int (nI k)] [] [(ad 30, .inr (6, [.ref (ad 0), .ref (ad 1), .int im, .ref (ad 3), .int at_, .int op, .int st_, .int us, .ref (ad 8), .ref (ad 9), .ref (ad 10), .ref (ad 11), .ref (ad 12), .ref (ad 13), .ref (ad 14), .int bn, .int bm, .ref (ad 17), .int la, .int fo, .int fi, .int lp, .ref (ad 22), .int tr_, .int sp, .int ip, .ref (ad 26), .ref (ad 27), .ref (ad 28), .ref (ad 29)])), (ad 0, .inl (E.2 0, 374, .inl sa))] (S := Unit) (fun (u : Unit) => []) (fun (r : Int32) (u : Unit) => r = sa (32 + 2 * k + 1)) := by
  refine fx_iW rfl rfl ?_
  intro p e s m args below meth c A ls Q X hE hP hD hR hA hl hret
  have hx := X.1
  have hb := X.2.1
  have hS : va_S A s.heap s.heap [] := va_S.rf
  replace hl : lv_has ls 2 [(0, .ref (ad 30)), (1, .int (nI k))] := hl
  refine lv_aload_n hx hb dX6_mOf_0 rfl (lv_at hl 0 rfl) ?_
  refine fx_get X hE (hR.at hS) 0 rfl rfl 0 rfl q1168 rfl rfl dX6_mOf_1 ?_
  refine lv_bipush (v := 32) hx hb dX6_mOf_4 rfl ?_
  refine lv_iconst (v := 2) hx hb dX6_mOf_6 rfl ?_
  refine lv_iload_n hx hb dX6_mOf_7 rfl (lv_at hl 1 rfl) ?_
  refine lv_imul hx hb dX6_mOf_8 ?_
  refine fx_ti (pk_mul 2 k) ?_
  refine lv_iadd hx hb dX6_mOf_9 ?_
  refine fx_ti (nI_add 32 (2 * k)) ?_
  refine lv_iconst (v := 1) hx hb dX6_mOf_10 rfl ?_
  refine lv_iadd hx hb dX6_mOf_11 ?_
  refine fx_ti (nI_add (32 + 2 * k) 1) ?_
  refine fx_iald X hE (hR.at hS) 1 rfl (32 + 2 * k + 1) rfl (by omega) rfl dX6_mOf_12 ?_
  exact hret (sa (32 + 2 * k + 1)) () (rfl) (rfl) hP hD hS (Nat.le_refl _) (Nat.le_refl _) dX6_mOf_13
abbrev rmX6_change1 : Room := { frames := 0, cells := 0, slots := 0, locals := 0 }
set_option maxHeartbeats 400000 in
set_option maxRecDepth 100000 in
theorem mX6_change1 (l : Launch) (E : fx_En) (ad : Nat → Nat) (im : Int32) (at_ : Int32) (op : Int32) (st_ : Int32) (us : Int32) (bn : Int32) (bm : Int32) (la : Int32) (fo : Int32) (fi : Int32) (lp : Int32) (tr_ : Int32) (sp : Int32) (ip : Int32) (sa : Nat → Int32) (k : Nat) (v : Int32) (hk : k < 374) : fx_Mi l yX6_change1 cX6_change1 4 .int rmX6_change1 E [.ref (ad 30), .int (nI k), .int v] [(ad 0, .inl (E.2 0, 374, .inl sa))] [(ad 30, .inr (6, [.ref (ad 0), .ref (ad 1), .int im, .ref (ad 3), .int at_, .int op, .int st_, .int us, .ref (ad 8), .ref (ad 9), .ref (ad 10), .ref (ad 11), .ref (ad 12), .ref (ad 13), .ref (ad 14), .int bn, .int bm, .ref (ad 17), .int la, .int fo, .int fi, .int lp, .ref (ad 22), .int tr_, .int sp, .int ip, .ref (ad 26), .ref (ad 27), .ref (ad 28), .ref (ad 29)]))] (S := Unit) (fun (u : Unit) => [(ad 0, .inl (E.2 0, 374, .inl (upd sa k v)))]) (fun (r : Int32) (u : Unit) => r = sa k) := by
  refine fx_iW rfl rfl ?_
  intro p e s m args below meth c A ls Q X hE hP hD hR hA hl hret
  have hx := X.1
  have hb := X.2.1
  have hS : va_S A s.heap s.heap [] := va_S.rf
  replace hP : va_P E.1 clA [(ad 0, .inl (E.2 0, 374, .inl sa))] _ := hP
  replace hD : va_D A [(ad 0, .inl (E.2 0, 374, .inl sa))] := hD
  replace hl : lv_has ls 4 [(0, .ref (ad 30)), (1, .int (nI k)), (2, .int v)] := hl
  refine lv_aload_n hx hb dX6_change1_0 rfl (lv_at hl 0 rfl) ?_
  refine fx_get X hE (hR.at hS) 0 rfl rfl 0 rfl q1168 rfl rfl dX6_change1_1 ?_
  refine lv_iload_n hx hb dX6_change1_4 rfl (lv_at hl 1 rfl) ?_
  refine fx_iald X hE hP 0 rfl k rfl (by omega) rfl dX6_change1_5 ?_
  refine lv_istore_n (lv' := [(3, .int (sa k)), (0, .ref (ad 30)), (1, .int (nI k)), (2, .int v)]) hx hb dX6_change1_6 rfl hl (by decide) rfl (fun ls hl => ?_)
  refine lv_aload_n hx hb dX6_change1_7 rfl (lv_at hl 1 rfl) ?_
  refine fx_get X hE (hR.at hS) 0 rfl rfl 0 rfl q1168 rfl rfl dX6_change1_8 ?_
  refine lv_iload_n hx hb dX6_change1_11 rfl (lv_at hl 2 rfl) ?_
  refine lv_iload_n hx hb dX6_change1_12 rfl (lv_at hl 3 rfl) ?_
  refine fx_iast (ws' := [(ad 0, .inl (E.2 0, 374, .inl (upd sa k v)))]) X hE hP hD hS 0 rfl k rfl (by omega) rfl rfl dX6_change1_13 (fun H locs hP hD hS => ?_)
  refine lv_iload_n hx hb dX6_change1_14 rfl (lv_at hl 0 rfl) ?_
  exact hret (sa k) () (rfl) (rfl) hP hD hS (Nat.le_refl _) (Nat.le_refl _) dX6_change1_15
abbrev rmX6_added : Room := { frames := 0, cells := 0, slots := 0, locals := 0 }
set_option maxHeartbeats 400000 in
set_option maxRecDepth 100000 in
theorem mX6_added (l : Launch) (E : fx_En) (S : Nat) (B : Nat) (hS : S < 2147483648) (hB : 2 ≤ B) (hB2 : B < 2147483648) : fx_Mi l yX6_added cX6_added 4 .int rmX6_added E [.int (nI S), .int (nI B)] [] [] (S := Unit) (fun (u : Unit) => []) (fun (r : Int32) (u : Unit) => r = nI (dg B S)) := by
  refine fx_iW rfl rfl ?_
  intro p e s m args below meth c A ls Q X hE hP hD hR hA hl hret
  have hx := X.1
  have hb := X.2.1
  have hS : va_S A s.heap s.heap [] := va_S.rf
  replace hl : lv_has ls 4 [(0, .int (nI S)), (1, .int (nI B))] := hl
  refine lv_iconst (v := 0) hx hb dX6_added_0 rfl ?_
  refine lv_istore_n (lv' := [(2, .int 0), (0, .int (nI S)), (1, .int (nI B))]) hx hb dX6_added_1 rfl hl (by decide) rfl (fun ls hl => ?_)
  refine lv_iload_n hx hb dX6_added_2 rfl (lv_at hl 1 rfl) ?_
  refine lv_istore_n (lv' := [(3, .int (nI S)), (2, .int 0), (0, .int (nI S)), (1, .int (nI B))]) hx hb dX6_added_3 rfl hl (by decide) rfl (fun ls hl => ?_)
  have loop_4 : ∀ (n_4 : Nat) (acc : Nat) (left : Nat), (left < n_4) → (acc + dg B left = dg B S) → (left ≤ S) → ∀ (H : Heap) (locs : List Loc), va_P E.1 clA [] H → va_D A [] → va_S A s.heap H locs → ∀ (ls : Array Slot), lv_has ls 4 [(3, .int (nI left)), (2, .int (nI acc)), (0, .int (nI S)), (1, .int (nI B))] → W p l e rmX6_added s m args below meth c H locs 0 0 Q (F0 m 4 ls []) := by
    intro n_4
    induction n_4 with
    | zero => intro acc left hm_4; exact absurd hm_4 (Nat.not_lt_zero _)
    | succ n_4 ih_4 =>
      intro acc left hm_4 hs hleft H locs hP hD hS ls hl
      refine lv_iload_n hx hb dX6_added_4 rfl (lv_at hl 0 rfl) ?_
      refine lv_if_le (tgt := 21) hx hb dX6_added_5 (by decide) (fun c_5 => ?_) (fun c_5 => ?_)
      · -- jump 21
        have n_5 := fx_le1 (a := left) (b := 0) c_5 (by omega) (by omega)
        obtain rfl : left = 0 := by omega
        rw [dg_0] at hs
        refine lv_iload_n hx hb dX6_added_21 rfl (lv_at hl 1 rfl) ?_
        exact hret (nI acc) () (congrArg nI (by omega)) (rfl) hP hD hS (Nat.le_refl _) (Nat.le_refl _) dX6_added_22
      · -- fall 8
        have n_5 := fx_le0 (a := left) (b := 0) c_5 (by omega) (by omega)
        refine lv_iload_n hx hb dX6_added_8 rfl (lv_at hl 1 rfl) ?_
        refine lv_iload_n hx hb dX6_added_9 rfl (lv_at hl 0 rfl) ?_
        refine lv_iload_n hx hb dX6_added_10 rfl (lv_at hl 3 rfl) ?_
        refine lv_irem hx hb dX6_added_11 (nI_ne0 (by omega) (by omega)) ?_
        refine fx_ti (pk_rem (a := left) (d := B) (by omega) (by omega) (by omega)) ?_
        refine lv_iadd hx hb dX6_added_12 ?_
        refine fx_ti (nI_add acc (left % B)) ?_
        refine lv_istore_n (lv' := [(2, .int (nI (acc + left % B))), (3, .int (nI left)), (0, .int (nI S)), (1, .int (nI B))]) hx hb dX6_added_13 rfl hl (by decide) rfl (fun ls hl => ?_)
        refine lv_iload_n hx hb dX6_added_14 rfl (lv_at hl 1 rfl) ?_
        refine lv_iload_n hx hb dX6_added_15 rfl (lv_at hl 3 rfl) ?_
        refine lv_idiv hx hb dX6_added_16 (nI_ne0 (by omega) (by omega)) ?_
        refine fx_ti (pk_div (a := left) (d := B) (by omega) (by omega) (by omega)) ?_
        refine lv_istore_n (lv' := [(3, .int (nI (left / B))), (2, .int (nI (acc + left % B))), (0, .int (nI S)), (1, .int (nI B))]) hx hb dX6_added_17 rfl hl (by decide) rfl (fun ls hl => ?_)
        refine lv_goto (tgt := 4) hx hb dX6_added_18 (by decide) ?_
        exact ih_4 (acc + left % B) (left / B) (by have := Nat.div_lt_self (n := left) (k := B) (by omega) (by omega); omega) (by rw [← hs, dg_s (n := left) (by omega) hB]; omega) (Nat.le_trans (Nat.div_le_self _ _) hleft) _ _ hP hD hS ls (lv_sub hl [0, 1, 2, 3] rfl)
  exact loop_4 (S + 1) 0 S (Nat.lt_succ_self _) (Nat.zero_add _) (by omega) _ _ hP hD hS ls (lv_sub hl [0, 1, 2, 3] rfl)
abbrev rmX6_rooted : Room := { frames := 1, cells := 0, slots := 0, locals := 23 }
set_option maxHeartbeats 400000 in
set_option maxRecDepth 100000 in
theorem mX6_rooted (l : Launch) (E : fx_En) (S : Nat) (B : Nat) (hS : S < 2147483648) (hB : 2 ≤ B) (hB2 : B < 2147483648) : fx_Mi l yX6_rooted cX6_rooted 3 .int rmX6_rooted E [.int (nI S), .int (nI B)] [] [] (S := Unit) (fun (u : Unit) => []) (fun (r : Int32) (u : Unit) => r = nI (rt B S)) := by
  refine fx_iW rfl rfl ?_
  intro p e s m args below meth c A ls Q X hE hP hD hR hA hl hret
  have hx := X.1
  have hb := X.2.1
  have hS : va_S A s.heap s.heap [] := va_S.rf
  replace hl : lv_has ls 3 [(0, .int (nI S)), (1, .int (nI B))] := hl
  refine lv_iload_n hx hb dX6_rooted_0 rfl (lv_at hl 0 rfl) ?_
  refine lv_iload_n hx hb dX6_rooted_1 rfl (lv_at hl 1 rfl) ?_
  refine fx_ci (va_runS (As := [.int (nI S), .int (nI B)]) (rest := []) X (mX6_added l E S B (by first | assumption | omega) (by first | assumption | omega) (by first | assumption | omega) _) (va_cwS 2 X.2.2.2.2 (lw_S q1383 q1384 q75 q1385) rfl rfl rfl hdX6_added ⟨Nat.le_of_ble_eq_true rfl, Nat.le_of_ble_eq_true rfl⟩) (fx_pre hE hP hD hS hR [] rfl rfl fx_rc0) rfl rfl hl.1 rfl (lv_room (Nat.le_of_ble_eq_true rfl)) dX6_rooted_2 ⟨Nat.le_refl _, Nat.le_refl _⟩) hP hD hS hA [] rfl rfl (fun r_2 u H locs hq_2 hP hD hS => ?_)
  replace hP : va_P E.1 clA [] _ := hP
  replace hD : va_D A [] := hD
  replace hq_2 : r_2 = nI (dg B S) := hq_2
  refine fx_ti (show r_2 = nI (dg B S) from hq_2) ?_
  refine lv_istore_n (lv' := [(2, .int (nI (dg B S))), (0, .int (nI S)), (1, .int (nI B))]) hx hb dX6_rooted_5 rfl hl (by decide) rfl (fun ls hl => ?_)
  have loop_6 : ∀ (n_6 : Nat) (v : Nat), (v < n_6) → (rt B v = rt B S) → (v ≤ S) → ∀ (H : Heap) (locs : List Loc), va_P E.1 clA [] H → va_D A [] → va_S A s.heap H locs → ∀ (ls : Array Slot), lv_has ls 3 [(2, .int (nI v)), (0, .int (nI S)), (1, .int (nI B))] → W p l e rmX6_rooted s m args below meth c H locs 0 0 Q (F0 m 6 ls []) := by
    intro n_6
    induction n_6 with
    | zero => intro v hm_6; exact absurd hm_6 (Nat.not_lt_zero _)
    | succ n_6 ih_6 =>
      intro v hm_6 hv hv2 H locs hP hD hS ls hl
      refine lv_iload_n hx hb dX6_rooted_6 rfl (lv_at hl 0 rfl) ?_
      refine lv_iload_n hx hb dX6_rooted_7 rfl (lv_at hl 2 rfl) ?_
      refine lv_icmp_lt (tgt := 20) hx hb dX6_rooted_8 (by decide) (fun c_8 => ?_) (fun c_8 => ?_)
      · -- jump 20
        have n_8 := fx_lt1 (a := v) (b := B) c_8 (by omega) (by omega)
        refine lv_iload_n hx hb dX6_rooted_20 rfl (lv_at hl 0 rfl) ?_
        exact hret (nI v) () (by rw [← hv, rt_lt (by omega)]) (rfl) hP hD hS (Nat.le_refl _) (Nat.le_refl _) dX6_rooted_21
      · -- fall 11
        have n_8 := fx_lt0 (a := v) (b := B) c_8 (by omega) (by omega)
        refine lv_iload_n hx hb dX6_rooted_11 rfl (lv_at hl 0 rfl) ?_
        refine lv_iload_n hx hb dX6_rooted_12 rfl (lv_at hl 2 rfl) ?_
        refine fx_ci (va_runS (As := [.int (nI v), .int (nI B)]) (rest := []) X (mX6_added l E v B (by omega) (by first | assumption | omega) (by first | assumption | omega) _) (va_cwS 2 X.2.2.2.2 (lw_S q1383 q1384 q75 q1385) rfl rfl rfl hdX6_added ⟨Nat.le_of_ble_eq_true rfl, Nat.le_of_ble_eq_true rfl⟩) (fx_pre hE hP hD hS hR [] rfl rfl fx_rc0) rfl rfl hl.1 rfl (lv_room (Nat.le_of_ble_eq_true rfl)) dX6_rooted_13 ⟨Nat.le_refl _, Nat.le_refl _⟩) hP hD hS hA [] rfl rfl (fun r_13 u H locs hq_13 hP hD hS => ?_)
        replace hP : va_P E.1 clA [] _ := hP
        replace hD : va_D A [] := hD
        replace hq_13 : r_13 = nI (dg B v) := hq_13
        refine fx_ti (show r_13 = nI (dg B v) from hq_13) ?_
        refine lv_istore_n (lv' := [(2, .int (nI (dg B v))), (0, .int (nI S)), (1, .int (nI B))]) hx hb dX6_rooted_16 rfl hl (by decide) rfl (fun ls hl => ?_)
        refine lv_goto (tgt := 6) hx hb dX6_rooted_17 (by decide) ?_
        exact ih_6 (dg B v) (by have := dg_lt hB (n := v) (by omega); omega) ((rt_dg hB).trans hv) (Nat.le_trans (dg_le hB v) hv2) _ _ hP hD hS ls (lv_sub hl [0, 1, 2] rfl)
  exact loop_6 ((dg B S) + 1) (dg B S) (Nat.lt_succ_self _) (rt_dg hB) (dg_le hB S) _ _ hP hD hS ls (lv_sub hl [0, 1, 2] rfl)
abbrev rmX6_many : Room := { frames := 0, cells := 0, slots := 0, locals := 0 }
set_option maxHeartbeats 400000 in
set_option maxRecDepth 100000 in
theorem mX6_many (l : Launch) (E : fx_En) (h : Nat) (row : Nat → Int32) : fx_Mi l yX6_many cX6_many 3 .int rmX6_many E [.ref h] [] [(h, .inl (E.2 0, 8, .inl row))] (S := Unit) (fun (u : Unit) => []) (fun (r : Int32) (u : Unit) => r = l_sum row 8) := by
  refine fx_iW rfl rfl ?_
  intro p e s m args below meth c A ls Q X hE hP hD hR hA hl hret
  have hx := X.1
  have hb := X.2.1
  have hS : va_S A s.heap s.heap [] := va_S.rf
  replace hl : lv_has ls 3 [(0, .ref h)] := hl
  refine lv_iconst (v := 0) hx hb dX6_many_0 rfl ?_
  refine lv_istore_n (lv' := [(1, .int 0), (0, .ref h)]) hx hb dX6_many_1 rfl hl (by decide) rfl (fun ls hl => ?_)
  refine lv_iconst (v := 0) hx hb dX6_many_2 rfl ?_
  refine lv_istore_n (lv' := [(2, .int 0), (1, .int 0), (0, .ref h)]) hx hb dX6_many_3 rfl hl (by decide) rfl (fun ls hl => ?_)
  have loop_4 : ∀ (n_4 : Nat) (t : Nat), (8 - t < n_4) → (t ≤ 8) → ∀ (H : Heap) (locs : List Loc), va_P E.1 clA [] H → va_D A [] → va_S A s.heap H locs → ∀ (ls : Array Slot), lv_has ls 3 [(2, .int (nI t)), (1, .int (l_sum row t)), (0, .ref h)] → W p l e rmX6_many s m args below meth c H locs 0 0 Q (F0 m 4 ls []) := by
    intro n_4
    induction n_4 with
    | zero => intro t hm_4; exact absurd hm_4 (Nat.not_lt_zero _)
    | succ n_4 ih_4 =>
      intro t hm_4 ht H locs hP hD hS ls hl
      refine lv_iload_n hx hb dX6_many_4 rfl (lv_at hl 0 rfl) ?_
      refine lv_bipush (v := 8) hx hb dX6_many_5 rfl ?_
      refine lv_icmp_ge (tgt := 22) hx hb dX6_many_7 (by decide) (fun c_7 => ?_) (fun c_7 => ?_)
      · -- jump 22
        have n_7 := fx_le1 (a := 8) (b := t) c_7 (by omega) (by omega)
        obtain rfl : t = 8 := by omega
        refine lv_iload_n hx hb dX6_many_22 rfl (lv_at hl 1 rfl) ?_
        exact hret (l_sum row 8) () (rfl) (rfl) hP hD hS (Nat.le_refl _) (Nat.le_refl _) dX6_many_23
      · -- fall 10
        have n_7 := fx_le0 (a := 8) (b := t) c_7 (by omega) (by omega)
        refine lv_iload_n hx hb dX6_many_10 rfl (lv_at hl 1 rfl) ?_
        refine lv_aload_n hx hb dX6_many_11 rfl (lv_at hl 2 rfl) ?_
        refine lv_iload_n hx hb dX6_many_12 rfl (lv_at hl 0 rfl) ?_
        refine fx_iald X hE (hR.at hS) 0 rfl t rfl (by omega) rfl dX6_many_13 ?_
        refine lv_iadd hx hb dX6_many_14 ?_
        refine lv_istore_n (lv' := [(1, .int ((l_sum row t) + (row t))), (2, .int (nI t)), (0, .ref h)]) hx hb dX6_many_15 rfl hl (by decide) rfl (fun ls hl => ?_)
        refine lv_iinc (v := nI (t + 1)) (lv' := [(2, .int (nI (t + 1))), (1, .int ((l_sum row t) + (row t))), (0, .ref h)]) hx hb dX6_many_16 hl (k := 1) rfl (fx_inc _) (by decide) rfl (fun ls hl => ?_)
        refine lv_goto (tgt := 4) hx hb dX6_many_19 (by decide) ?_
        exact ih_4 (t + 1) (by omega) (by omega) _ _ hP hD hS ls (lv_sub hl [0, 1, 2] rfl)
  exact loop_4 ((8 - 0) + 1) 0 (Nat.lt_succ_self _) (by omega) _ _ hP hD hS ls (lv_sub hl [0, 1, 2] rfl)
abbrev rmX6_sumOf : Room := { frames := 0, cells := 0, slots := 0, locals := 0 }
set_option maxHeartbeats 400000 in
set_option maxRecDepth 100000 in
theorem mX6_sumOf (l : Launch) (E : fx_En) (ad : Nat → Nat) (im : Int32) (at_ : Int32) (op : Int32) (st_ : Int32) (us : Int32) (bn : Int32) (bm : Int32) (la : Int32) (fo : Int32) (fi : Int32) (lp : Int32) (tr_ : Int32) (sp : Int32) (ip : Int32) (sa : Nat → Int32) (h : Nat) (row : Nat → Int32) : fx_Mi l yX6_sumOf cX6_sumOf 4 .int rmX6_sumOf E [.ref (ad 30), .ref h] [] [(ad 30, .inr (6, [.ref (ad 0), .ref (ad 1), .int im, .ref (ad 3), .int at_, .int op, .int st_, .int us, .ref (ad 8), .ref (ad 9), .ref (ad 10), .ref (ad 11), .ref (ad 12), .ref (ad 13), .ref (ad 14), .int bn, .int bm, .ref (ad 17), .int la, .int fo, .int fi, .int lp, .ref (ad 22), .int tr_, .int sp, .int ip, .ref (ad 26), .ref (ad 27), .ref (ad 28), .ref (ad 29)])), (ad 0, .inl (E.2 0, 374, .inl sa)), (h, .inl (E.2 0, 8, .inl row))] (S := Unit) (fun (u : Unit) => []) (fun (r : Int32) (u : Unit) => r = l_sum (fun i_ => row i_ * sa (8 + i_)) 8) := by
  refine fx_iW rfl rfl ?_
  intro p e s m args below meth c A ls Q X hE hP hD hR hA hl hret
  have hx := X.1
  have hb := X.2.1
  have hS : va_S A s.heap s.heap [] := va_S.rf
  replace hl : lv_has ls 4 [(0, .ref (ad 30)), (1, .ref h)] := hl
  refine lv_iconst (v := 0) hx hb dX6_sumOf_0 rfl ?_
  refine lv_istore_n (lv' := [(2, .int 0), (0, .ref (ad 30)), (1, .ref h)]) hx hb dX6_sumOf_1 rfl hl (by decide) rfl (fun ls hl => ?_)
  refine lv_iconst (v := 0) hx hb dX6_sumOf_2 rfl ?_
  refine lv_istore_n (lv' := [(3, .int 0), (2, .int 0), (0, .ref (ad 30)), (1, .ref h)]) hx hb dX6_sumOf_3 rfl hl (by decide) rfl (fun ls hl => ?_)
  have loop_4 : ∀ (n_4 : Nat) (t : Nat), (8 - t < n_4) → (t ≤ 8) → ∀ (H : Heap) (locs : List Loc), va_P E.1 clA [] H → va_D A [] → va_S A s.heap H locs → ∀ (ls : Array Slot), lv_has ls 4 [(3, .int (nI t)), (2, .int (l_sum (fun i_ => row i_ * sa (8 + i_)) t)), (0, .ref (ad 30)), (1, .ref h)] → W p l e rmX6_sumOf s m args below meth c H locs 0 0 Q (F0 m 4 ls []) := by
    intro n_4
    induction n_4 with
    | zero => intro t hm_4; exact absurd hm_4 (Nat.not_lt_zero _)
    | succ n_4 ih_4 =>
      intro t hm_4 ht H locs hP hD hS ls hl
      refine lv_iload_n hx hb dX6_sumOf_4 rfl (lv_at hl 0 rfl) ?_
      refine lv_bipush (v := 8) hx hb dX6_sumOf_5 rfl ?_
      refine lv_icmp_ge (tgt := 32) hx hb dX6_sumOf_7 (by decide) (fun c_7 => ?_) (fun c_7 => ?_)
      · -- jump 32
        have n_7 := fx_le1 (a := 8) (b := t) c_7 (by omega) (by omega)
        obtain rfl : t = 8 := by omega
        refine lv_iload_n hx hb dX6_sumOf_32 rfl (lv_at hl 1 rfl) ?_
        exact hret (l_sum (fun i_ => row i_ * sa (8 + i_)) 8) () (rfl) (rfl) hP hD hS (Nat.le_refl _) (Nat.le_refl _) dX6_sumOf_33
      · -- fall 10
        have n_7 := fx_le0 (a := 8) (b := t) c_7 (by omega) (by omega)
        refine lv_iload_n hx hb dX6_sumOf_10 rfl (lv_at hl 1 rfl) ?_
        refine lv_aload_n hx hb dX6_sumOf_11 rfl (lv_at hl 3 rfl) ?_
        refine lv_iload_n hx hb dX6_sumOf_12 rfl (lv_at hl 0 rfl) ?_
        refine fx_iald X hE (hR.at hS) 2 rfl t rfl (by omega) rfl dX6_sumOf_13 ?_
        refine lv_aload_n hx hb dX6_sumOf_14 rfl (lv_at hl 2 rfl) ?_
        refine fx_get X hE (hR.at hS) 0 rfl rfl 0 rfl q1168 rfl rfl dX6_sumOf_15 ?_
        refine lv_bipush (v := 8) hx hb dX6_sumOf_18 rfl ?_
        refine lv_iload_n hx hb dX6_sumOf_20 rfl (lv_at hl 0 rfl) ?_
        refine lv_iadd hx hb dX6_sumOf_21 ?_
        refine fx_ti (nI_add 8 t) ?_
        refine fx_iald X hE (hR.at hS) 1 rfl (8 + t) rfl (by omega) rfl dX6_sumOf_22 ?_
        refine lv_imul hx hb dX6_sumOf_23 ?_
        refine lv_iadd hx hb dX6_sumOf_24 ?_
        refine lv_istore_n (lv' := [(2, .int ((l_sum (fun i_ => row i_ * sa (8 + i_)) t) + ((row t) * (sa (8 + t))))), (3, .int (nI t)), (0, .ref (ad 30)), (1, .ref h)]) hx hb dX6_sumOf_25 rfl hl (by decide) rfl (fun ls hl => ?_)
        refine lv_iinc (v := nI (t + 1)) (lv' := [(3, .int (nI (t + 1))), (2, .int ((l_sum (fun i_ => row i_ * sa (8 + i_)) t) + ((row t) * (sa (8 + t))))), (0, .ref (ad 30)), (1, .ref h)]) hx hb dX6_sumOf_26 hl (k := 1) rfl (fx_inc _) (by decide) rfl (fun ls hl => ?_)
        refine lv_goto (tgt := 4) hx hb dX6_sumOf_29 (by decide) ?_
        exact ih_4 (t + 1) (by omega) (by omega) _ _ hP hD hS ls (lv_sub hl [0, 1, 2, 3] rfl)
  exact loop_4 ((8 - 0) + 1) 0 (Nat.lt_succ_self _) (by omega) _ _ hP hD hS ls (lv_sub hl [0, 1, 2, 3] rfl)
abbrev rmX6_costOf : Room := { frames := 0, cells := 0, slots := 0, locals := 0 }
set_option maxHeartbeats 400000 in
set_option maxRecDepth 100000 in
theorem mX6_costOf (l : Launch) (E : fx_En) (ad : Nat → Nat) (im : Int32) (at_ : Int32) (op : Int32) (st_ : Int32) (us : Int32) (bn : Int32) (bm : Int32) (la : Int32) (fo : Int32) (fi : Int32) (lp : Int32) (tr_ : Int32) (sp : Int32) (ip : Int32) (sa : Nat → Int32) (h : Nat) (row : Nat → Int32) : fx_Mi l yX6_costOf cX6_costOf 4 .int rmX6_costOf E [.ref (ad 30), .ref h] [] [(ad 30, .inr (6, [.ref (ad 0), .ref (ad 1), .int im, .ref (ad 3), .int at_, .int op, .int st_, .int us, .ref (ad 8), .ref (ad 9), .ref (ad 10), .ref (ad 11), .ref (ad 12), .ref (ad 13), .ref (ad 14), .int bn, .int bm, .ref (ad 17), .int la, .int fo, .int fi, .int lp, .ref (ad 22), .int tr_, .int sp, .int ip, .ref (ad 26), .ref (ad 27), .ref (ad 28), .ref (ad 29)])), (ad 0, .inl (E.2 0, 374, .inl sa)), (h, .inl (E.2 0, 8, .inl row))] (S := Unit) (fun (u : Unit) => []) (fun (r : Int32) (u : Unit) => r = l_sum (fun i_ => row i_ * sa (16 + i_)) 8) := by
  refine fx_iW rfl rfl ?_
  intro p e s m args below meth c A ls Q X hE hP hD hR hA hl hret
  have hx := X.1
  have hb := X.2.1
  have hS : va_S A s.heap s.heap [] := va_S.rf
  replace hl : lv_has ls 4 [(0, .ref (ad 30)), (1, .ref h)] := hl
  refine lv_iconst (v := 0) hx hb dX6_costOf_0 rfl ?_
  refine lv_istore_n (lv' := [(2, .int 0), (0, .ref (ad 30)), (1, .ref h)]) hx hb dX6_costOf_1 rfl hl (by decide) rfl (fun ls hl => ?_)
  refine lv_iconst (v := 0) hx hb dX6_costOf_2 rfl ?_
  refine lv_istore_n (lv' := [(3, .int 0), (2, .int 0), (0, .ref (ad 30)), (1, .ref h)]) hx hb dX6_costOf_3 rfl hl (by decide) rfl (fun ls hl => ?_)
  have loop_4 : ∀ (n_4 : Nat) (t : Nat), (8 - t < n_4) → (t ≤ 8) → ∀ (H : Heap) (locs : List Loc), va_P E.1 clA [] H → va_D A [] → va_S A s.heap H locs → ∀ (ls : Array Slot), lv_has ls 4 [(3, .int (nI t)), (2, .int (l_sum (fun i_ => row i_ * sa (16 + i_)) t)), (0, .ref (ad 30)), (1, .ref h)] → W p l e rmX6_costOf s m args below meth c H locs 0 0 Q (F0 m 4 ls []) := by
    intro n_4
    induction n_4 with
    | zero => intro t hm_4; exact absurd hm_4 (Nat.not_lt_zero _)
    | succ n_4 ih_4 =>
      intro t hm_4 ht H locs hP hD hS ls hl
      refine lv_iload_n hx hb dX6_costOf_4 rfl (lv_at hl 0 rfl) ?_
      refine lv_bipush (v := 8) hx hb dX6_costOf_5 rfl ?_
      refine lv_icmp_ge (tgt := 32) hx hb dX6_costOf_7 (by decide) (fun c_7 => ?_) (fun c_7 => ?_)
      · -- jump 32
        have n_7 := fx_le1 (a := 8) (b := t) c_7 (by omega) (by omega)
        obtain rfl : t = 8 := by omega
        refine lv_iload_n hx hb dX6_costOf_32 rfl (lv_at hl 1 rfl) ?_
        exact hret (l_sum (fun i_ => row i_ * sa (16 + i_)) 8) () (rfl) (rfl) hP hD hS (Nat.le_refl _) (Nat.le_refl _) dX6_costOf_33
      · -- fall 10
        have n_7 := fx_le0 (a := 8) (b := t) c_7 (by omega) (by omega)
        refine lv_iload_n hx hb dX6_costOf_10 rfl (lv_at hl 1 rfl) ?_
        refine lv_aload_n hx hb dX6_costOf_11 rfl (lv_at hl 3 rfl) ?_
        refine lv_iload_n hx hb dX6_costOf_12 rfl (lv_at hl 0 rfl) ?_
        refine fx_iald X hE (hR.at hS) 2 rfl t rfl (by omega) rfl dX6_costOf_13 ?_
        refine lv_aload_n hx hb dX6_costOf_14 rfl (lv_at hl 2 rfl) ?_
        refine fx_get X hE (hR.at hS) 0 rfl rfl 0 rfl q1168 rfl rfl dX6_costOf_15 ?_
        refine lv_bipush (v := 16) hx hb dX6_costOf_18 rfl ?_
        refine lv_iload_n hx hb dX6_costOf_20 rfl (lv_at hl 0 rfl) ?_
        refine lv_iadd hx hb dX6_costOf_21 ?_
        refine fx_ti (nI_add 16 t) ?_
        refine fx_iald X hE (hR.at hS) 1 rfl (16 + t) rfl (by omega) rfl dX6_costOf_22 ?_
        refine lv_imul hx hb dX6_costOf_23 ?_
        refine lv_iadd hx hb dX6_costOf_24 ?_
        refine lv_istore_n (lv' := [(2, .int ((l_sum (fun i_ => row i_ * sa (16 + i_)) t) + ((row t) * (sa (16 + t))))), (3, .int (nI t)), (0, .ref (ad 30)), (1, .ref h)]) hx hb dX6_costOf_25 rfl hl (by decide) rfl (fun ls hl => ?_)
        refine lv_iinc (v := nI (t + 1)) (lv' := [(3, .int (nI (t + 1))), (2, .int ((l_sum (fun i_ => row i_ * sa (16 + i_)) t) + ((row t) * (sa (16 + t))))), (0, .ref (ad 30)), (1, .ref h)]) hx hb dX6_costOf_26 hl (k := 1) rfl (fx_inc _) (by decide) rfl (fun ls hl => ?_)
        refine lv_goto (tgt := 4) hx hb dX6_costOf_29 (by decide) ?_
        exact ih_4 (t + 1) (by omega) (by omega) _ _ hP hD hS ls (lv_sub hl [0, 1, 2, 3] rfl)
  exact loop_4 ((8 - 0) + 1) 0 (Nat.lt_succ_self _) (by omega) _ _ hP hD hS ls (lv_sub hl [0, 1, 2, 3] rfl)
