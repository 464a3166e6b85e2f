set_option maxRecDepth 100000
theorem hdX6_tries : yX6_tries.cls ≠ "java/lang/invoke/MethodHandle" ∧ yX6_tries.cls ≠ "java/lang/invoke/VarHandle" ∧ (parseMethodDescriptor yX6_tries.desc).map (fun d => d.parameters.length) = some 4 := by decide +kernel
abbrev rmX6_tries (d : Nat) : Room := { frames := d + 10, cells := 0, slots := 0, locals := 27 * d + 400 }
set_option maxHeartbeats 1000000 in
set_option maxRecDepth 100000 in
theorem mX6_tries (l : Launch) (E : fx_En) : ∀ (d : Nat) (ad : Nat → Nat) (im : Int32) (at_ : Int32) (op : Int32) (st_ : Int32) (us : Int32) (bn : Int32) (bm : Int32) (la : Int32) (fo : Int32) (fi : Int32) (lp : Int32) (tr_ : Int32) (sp : Int32) (ip : Int32) (sa : Nat → Int32) (nmd : Nat → Int32) (pl : Nat → Int32) (td : Nat → Int32) (rw_ : Nat → Int32) (be : Nat → Int32) (wo : Nat → Int32) (k : Nat) (T : Tx) (rn : Nat → Nat) (ex : Nat → Nat) (bx : Nat → Nat) (le : Nat) (mo : Nat) (hd : d ≤ 8) (hk : k < 4) (hI : Inv sa) (hT : TM sa 0 T) (hTo : TOk T) (htd : ∀ i, i < 8 → td i = nI (rn i) ∧ rn i ≤ 9) (hrw : ∀ i, i < 8 - d → rw_ i = nI (rn i + ex i) ∧ ex i ≤ 9) (hle : le ≤ 9) (hmo : mo + le ≤ 99) (hbe : bm = -1 ∨ ∀ i, i < 8 → be i = nI (rn i + bx i)), fx_Mv l yX6_tries cX6_tries 8 (rmX6_tries d) E [.ref (ad 30), .int (nI k), .int (nI (8 - d)), .int (nI le), .int (nI mo)] [(ad 30, .inr (6, [.ref (ad 0), .ref (ad 1), .int im, .ref (ad 3), .int at_, .int op, .int st_, .int us, .ref (ad 8), .ref (ad 9), .ref (ad 10), .ref (ad 11), .ref (ad 12), .ref (ad 13), .ref (ad 14), .int bn, .int bm, .ref (ad 17), .int la, .int fo, .int fi, .int lp, .ref (ad 22), .int tr_, .int sp, .int ip, .ref (ad 26), .ref (ad 27), .ref (ad 28), .ref (ad 29)])), (ad 9, .inl (E.2 0, 128, .inl nmd)), (ad 10, .inl (E.2 0, 64, .inl pl)), (ad 13, .inl (E.2 0, 8, .inl rw_)), (ad 14, .inl (E.2 0, 8, .inl be))] [(ad 0, .inl (E.2 0, 374, .inl sa)), (ad 11, .inl (E.2 0, 8, .inl td)), (ad 17, .inl (E.2 0, 8, .inl wo))] (S := Int32 × Int32 × (Nat → Int32) × (Nat → Int32) × (Nat → Int32) × (Nat → Int32)) (fun (u : Int32 × Int32 × (Nat → Int32) × (Nat → Int32) × (Nat → Int32) × (Nat → Int32)) => [(ad 30, .inr (6, [.ref (ad 0), .ref (ad 1), .int im, .ref (ad 3), .int at_, .int op, .int st_, .int us, .ref (ad 8), .ref (ad 9), .ref (ad 10), .ref (ad 11), .ref (ad 12), .ref (ad 13), .ref (ad 14), .int u.1, .int u.2.1, .ref (ad 17), .int la, .int fo, .int fi, .int lp, .ref (ad 22), .int tr_, .int sp, .int ip, .ref (ad 26), .ref (ad 27), .ref (ad 28), .ref (ad 29)])), (ad 9, .inl (E.2 0, 128, .inl u.2.2.1)), (ad 10, .inl (E.2 0, 64, .inl u.2.2.2.1)), (ad 13, .inl (E.2 0, 8, .inl u.2.2.2.2.1)), (ad 14, .inl (E.2 0, 8, .inl u.2.2.2.2.2))]) (fun (u : Int32 × Int32 × (Nat → Int32) × (Nat → Int32) × (Nat → Int32) × (Nat → Int32)) => (u.2.1 = (enL (bdT rn) (lfT (netF sa T k rn wo)) d ex le mo (bm, bn, bx)).1 ∧ u.1 = (enL (bdT rn) (lfT (netF sa T k rn wo)) d ex le mo (bm, bn, bx)).2.1) ∧ u.2.1 ≠ -1 ∧ (∀ i, i < 8 → u.2.2.2.2.2 i = nI (rn i + (enL (bdT rn) (lfT (netF sa T k rn wo)) d ex le mo (bm, bn, bx)).2.2 i)) ∧ (∀ i, i < 8 - d → u.2.2.2.2.1 i = rw_ i)) := by
  intro d
  induction d with
  | zero =>
    intro ad im at_ op st_ us bn bm la fo fi lp tr_ sp ip sa nmd pl td rw_ be wo k T rn ex bx le mo hd hk hI hT hTo htd hrw hle hmo hbe
    refine fx_vW rfl rfl ?_
    intro p e s m args below meth c A ls Q X hnm hE hP hD hR hA hl hret
    have hx := X.1
    have hb := X.2.1
    have hS : va_S A s.heap s.heap [] := va_S.rf
    replace hP : va_P E.1 clA [(ad 30, .inr (6, [.ref (ad 0), .ref (ad 1), .int im, .ref (ad 3), .int at_, .int op, .int st_, .int us, .ref (ad 8), .ref (ad 9), .ref (ad 10), .ref (ad 11), .ref (ad 12), .ref (ad 13), .ref (ad 14), .int bn, .int bm, .ref (ad 17), .int la, .int fo, .int fi, .int lp, .ref (ad 22), .int tr_, .int sp, .int ip, .ref (ad 26), .ref (ad 27), .ref (ad 28), .ref (ad 29)])), (ad 9, .inl (E.2 0, 128, .inl nmd)), (ad 10, .inl (E.2 0, 64, .inl pl)), (ad 13, .inl (E.2 0, 8, .inl rw_)), (ad 14, .inl (E.2 0, 8, .inl be))] _ := hP
    replace hD : va_D A [(ad 30, .inr (6, [.ref (ad 0), .ref (ad 1), .int im, .ref (ad 3), .int at_, .int op, .int st_, .int us, .ref (ad 8), .ref (ad 9), .ref (ad 10), .ref (ad 11), .ref (ad 12), .ref (ad 13), .ref (ad 14), .int bn, .int bm, .ref (ad 17), .int la, .int fo, .int fi, .int lp, .ref (ad 22), .int tr_, .int sp, .int ip, .ref (ad 26), .ref (ad 27), .ref (ad 28), .ref (ad 29)])), (ad 9, .inl (E.2 0, 128, .inl nmd)), (ad 10, .inl (E.2 0, 64, .inl pl)), (ad 13, .inl (E.2 0, 8, .inl rw_)), (ad 14, .inl (E.2 0, 8, .inl be))] := hD
    replace hl : lv_has ls 8 [(0, .ref (ad 30)), (1, .int (nI k)), (2, .int (nI (8 - 0))), (3, .int (nI le)), (4, .int (nI mo))] := hl
    refine lv_iload_n hx hb dX6_tries_0 rfl (lv_at hl 2 rfl) ?_
    refine lv_bipush (v := 8) hx hb dX6_tries_1 rfl ?_
    refine lv_icmp_ne (tgt := 175) hx hb dX6_tries_3 (by decide) (fun c_3 => (c_3 rfl).elim) (fun c_3 => ?_)
    have n_3 := fx_eq1 (a := (8 - 0)) (b := 8) c_3 (by omega) (by omega)
    have hrw2 : ∀ i, i < 8 → rw_ i = nI (rn i + ex i) ∧ rn i + ex i ≤ 99 := fun i hi => ⟨(hrw i hi).1, by have := (hrw i hi).2; have := (htd i hi).2; omega⟩
    refine lv_aload_n hx hb dX6_tries_6 rfl (lv_at hl 0 rfl) ?_
    refine lv_iload_n hx hb dX6_tries_7 rfl (lv_at hl 1 rfl) ?_
    refine lv_aload_n hx hb dX6_tries_8 rfl (lv_at hl 0 rfl) ?_
    refine fx_get X hE hP 0 rfl rfl 13 rfl q1181 rfl rfl dX6_tries_9 ?_
    refine fx_ci (va_runV (As := [.int (nI k), .ref (ad 13)]) (rest := []) X (mX6_paidI l E ad im at_ op st_ us bn bm la fo fi lp tr_ sp ip sa nmd pl (ad 13) rw_ k T (fun t => rn t + ex t) (by first | assumption | omega) (by first | assumption | omega) (by first | assumption | omega) (by first | assumption | omega) hrw2 _) (cwV 2 X.2.2.2.2 (lw_V q1428 q1430 qs54 q75 q1431) rfl rfl rfl ⟨rfl, hdX6_paid⟩ ⟨Nat.le_of_ble_eq_true rfl, Nat.le_of_ble_eq_true rfl⟩) (fx_preV (fx_pre hE hP hD hS hR [1, 2] rfl rfl (fx_rcm 0 rfl (by decide) (fx_rcr 0 rfl (fx_rcm 3 rfl (by decide) fx_rc0)))) (va_recv hE.1 hP (ci := 6) (q0 := 0) rfl rfl)) rfl rfl hl.1 rfl (lv_room (Nat.le_of_ble_eq_true rfl)) dX6_tries_12 ⟨Nat.le_refl _, Nat.le_refl _⟩) hP hD hS hA [1, 2] rfl rfl (fun r_12 u H locs hq_12 hP hD hS => ?_)
    obtain ⟨nm2_12, pl2_12⟩ := u
    replace hP : va_P E.1 clA [(ad 30, .inr (6, [.ref (ad 0), .ref (ad 1), .int im, .ref (ad 3), .int at_, .int op, .int st_, .int us, .ref (ad 8), .ref (ad 9), .ref (ad 10), .ref (ad 11), .ref (ad 12), .ref (ad 13), .ref (ad 14), .int bn, .int bm, .ref (ad 17), .int la, .int fo, .int fi, .int lp, .ref (ad 22), .int tr_, .int sp, .int ip, .ref (ad 26), .ref (ad 27), .ref (ad 28), .ref (ad 29)])), (ad 9, .inl (E.2 0, 128, .inl nm2_12)), (ad 10, .inl (E.2 0, 64, .inl pl2_12)), (ad 13, .inl (E.2 0, 8, .inl rw_)), (ad 14, .inl (E.2 0, 8, .inl be))] _ := hP
    replace hD : va_D A [(ad 30, .inr (6, [.ref (ad 0), .ref (ad 1), .int im, .ref (ad 3), .int at_, .int op, .int st_, .int us, .ref (ad 8), .ref (ad 9), .ref (ad 10), .ref (ad 11), .ref (ad 12), .ref (ad 13), .ref (ad 14), .int bn, .int bm, .ref (ad 17), .int la, .int fo, .int fi, .int lp, .ref (ad 22), .int tr_, .int sp, .int ip, .ref (ad 26), .ref (ad 27), .ref (ad 28), .ref (ad 29)])), (ad 9, .inl (E.2 0, 128, .inl nm2_12)), (ad 10, .inl (E.2 0, 64, .inl pl2_12)), (ad 13, .inl (E.2 0, 8, .inl rw_)), (ad 14, .inl (E.2 0, 8, .inl be))] := hD
    replace hq_12 : r_12 = paysF sa T (fun t => rn t + ex t) k := hq_12
    refine fx_ti (show r_12 = (paysF sa T (fun t => rn t + ex t) k) from hq_12) ?_
    refine lv_istore (lv' := [(5, .int (paysF sa T (fun t => rn t + ex t) k)), (0, .ref (ad 30)), (1, .int (nI k)), (2, .int (nI (8 - 0))), (3, .int (nI le)), (4, .int (nI mo))]) hx hb dX6_tries_15 hl (by decide) rfl (fun ls hl => ?_)
    refine lv_iconst (v := 0) hx hb dX6_tries_17 rfl ?_
    refine lv_istore (lv' := [(6, .int 0), (5, .int (paysF sa T (fun t => rn t + ex t) k)), (0, .ref (ad 30)), (1, .int (nI k)), (2, .int (nI (8 - 0))), (3, .int (nI le)), (4, .int (nI mo))]) hx hb dX6_tries_18 hl (by decide) rfl (fun ls hl => ?_)
    have loop_20 : ∀ (n_20 : Nat) (j : Nat) (x5 : Int32), (8 - j < n_20) → (j ≤ 8) → (x5 = paysF sa T (fun t => rn t + ex t) k - l_sum (fun i_ => nI (ex i_) * wo i_) j) → ∀ (H : Heap) (locs : List Loc), va_P E.1 clA [(ad 30, .inr (6, [.ref (ad 0), .ref (ad 1), .int im, .ref (ad 3), .int at_, .int op, .int st_, .int us, .ref (ad 8), .ref (ad 9), .ref (ad 10), .ref (ad 11), .ref (ad 12), .ref (ad 13), .ref (ad 14), .int bn, .int bm, .ref (ad 17), .int la, .int fo, .int fi, .int lp, .ref (ad 22), .int tr_, .int sp, .int ip, .ref (ad 26), .ref (ad 27), .ref (ad 28), .ref (ad 29)])), (ad 9, .inl (E.2 0, 128, .inl nm2_12)), (ad 10, .inl (E.2 0, 64, .inl pl2_12)), (ad 13, .inl (E.2 0, 8, .inl rw_)), (ad 14, .inl (E.2 0, 8, .inl be))] H → va_D A [(ad 30, .inr (6, [.ref (ad 0), .ref (ad 1), .int im, .ref (ad 3), .int at_, .int op, .int st_, .int us, .ref (ad 8), .ref (ad 9), .ref (ad 10), .ref (ad 11), .ref (ad 12), .ref (ad 13), .ref (ad 14), .int bn, .int bm, .ref (ad 17), .int la, .int fo, .int fi, .int lp, .ref (ad 22), .int tr_, .int sp, .int ip, .ref (ad 26), .ref (ad 27), .ref (ad 28), .ref (ad 29)])), (ad 9, .inl (E.2 0, 128, .inl nm2_12)), (ad 10, .inl (E.2 0, 64, .inl pl2_12)), (ad 13, .inl (E.2 0, 8, .inl rw_)), (ad 14, .inl (E.2 0, 8, .inl be))] → va_S A s.heap H locs → ∀ (ls : Array Slot), lv_has ls 8 [(6, .int (nI j)), (5, .int x5), (0, .ref (ad 30)), (1, .int (nI k)), (2, .int (nI (8 - 0))), (3, .int (nI le)), (4, .int (nI mo))] → W p l e (rmX6_tries 0) s m args below meth c H locs 0 0 Q (F0 m 20 ls []) := by
      intro n_20
      induction n_20 with
      | zero => intro j x5 hm_20; exact absurd hm_20 (Nat.not_lt_zero _)
      | succ n_20 ih_20 =>
        intro j x5 hm_20 hj hx5 H locs hP hD hS ls hl
        refine lv_iload hx hb dX6_tries_20 (lv_at hl 0 rfl) ?_
        refine lv_bipush (v := 8) hx hb dX6_tries_22 rfl ?_
        refine lv_icmp_ge (tgt := 61) hx hb dX6_tries_24 (by decide) (fun c_24 => ?_) (fun c_24 => ?_)
        · -- jump 61
          have n_24 := fx_le1 (a := 8) (b := j) c_24 (by omega) (by omega)
          obtain rfl : j = 8 := by omega
          obtain rfl : x5 = netF sa T k rn wo ex := hx5
          refine lv_aload_n hx hb dX6_tries_61 rfl (lv_at hl 2 rfl) ?_
          refine fx_get X hE hP 0 rfl rfl 16 rfl q1184 rfl rfl dX6_tries_62 ?_
          refine lv_iconst (v := (-1)) hx hb dX6_tries_65 rfl ?_
          refine lv_icmp_eq (tgt := 96) hx hb dX6_tries_66 (by decide) (fun c_66 => ?_) (fun c_66 => ?_)
          · -- jump 96
            have hbet : ((bm, bn, bx) : Bst).1 = -1 ∨ netF sa T k rn wo ex < ((bm, bn, bx) : Bst).2.1 ∨ (netF sa T k rn wo ex = ((bm, bn, bx) : Bst).2.1 ∧ nI mo < ((bm, bn, bx) : Bst).1) := Or.inl c_66
            refine lv_iconst (v := 1) hx hb dX6_tries_96 rfl ?_
            refine lv_goto (tgt := 101) hx hb dX6_tries_97 (by decide) ?_
            refine lv_istore (lv' := [(6, .int 1), (5, .int (netF sa T k rn wo ex)), (0, .ref (ad 30)), (1, .int (nI k)), (2, .int (nI (8 - 0))), (3, .int (nI le)), (4, .int (nI mo))]) hx hb dX6_tries_101 hl (by decide) rfl (fun ls hl => ?_)
            refine lv_iconst (v := 0) hx hb dX6_tries_103 rfl ?_
            refine lv_istore (lv' := [(7, .int 0), (6, .int 1), (5, .int (netF sa T k rn wo ex)), (0, .ref (ad 30)), (1, .int (nI k)), (2, .int (nI (8 - 0))), (3, .int (nI le)), (4, .int (nI mo))]) hx hb dX6_tries_104 hl (by decide) rfl (fun ls hl => ?_)
            have loop_106 : ∀ (n_106 : Nat) (j2 : Nat) (be2 : Nat → Int32), (8 - j2 < n_106) → (j2 ≤ 8) → (∀ i, i < j2 → be2 i = nI (rn i + ex i)) → ∀ (H : Heap) (locs : List Loc), va_P E.1 clA [(ad 30, .inr (6, [.ref (ad 0), .ref (ad 1), .int im, .ref (ad 3), .int at_, .int op, .int st_, .int us, .ref (ad 8), .ref (ad 9), .ref (ad 10), .ref (ad 11), .ref (ad 12), .ref (ad 13), .ref (ad 14), .int bn, .int bm, .ref (ad 17), .int la, .int fo, .int fi, .int lp, .ref (ad 22), .int tr_, .int sp, .int ip, .ref (ad 26), .ref (ad 27), .ref (ad 28), .ref (ad 29)])), (ad 9, .inl (E.2 0, 128, .inl nm2_12)), (ad 10, .inl (E.2 0, 64, .inl pl2_12)), (ad 13, .inl (E.2 0, 8, .inl rw_)), (ad 14, .inl (E.2 0, 8, .inl be2))] H → va_D A [(ad 30, .inr (6, [.ref (ad 0), .ref (ad 1), .int im, .ref (ad 3), .int at_, .int op, .int st_, .int us, .ref (ad 8), .ref (ad 9), .ref (ad 10), .ref (ad 11), .ref (ad 12), .ref (ad 13), .ref (ad 14), .int bn, .int bm, .ref (ad 17), .int la, .int fo, .int fi, .int lp, .ref (ad 22), .int tr_, .int sp, .int ip, .ref (ad 26), .ref (ad 27), .ref (ad 28), .ref (ad 29)])), (ad 9, .inl (E.2 0, 128, .inl nm2_12)), (ad 10, .inl (E.2 0, 64, .inl pl2_12)), (ad 13, .inl (E.2 0, 8, .inl rw_)), (ad 14, .inl (E.2 0, 8, .inl be2))] → va_S A s.heap H locs → ∀ (ls : Array Slot), lv_has ls 8 [(7, .int (nI j2)), (6, .int 1), (5, .int (netF sa T k rn wo ex)), (0, .ref (ad 30)), (1, .int (nI k)), (2, .int (nI (8 - 0))), (3, .int (nI le)), (4, .int (nI mo))] → W p l e (rmX6_tries 0) s m args below meth c H locs 0 0 Q (F0 m 106 ls []) := by
              intro n_106
              induction n_106 with
              | zero => intro j2 be2 hm_106; exact absurd hm_106 (Nat.not_lt_zero _)
              | succ n_106 ih_106 =>
                intro j2 be2 hm_106 hj2 hbe2 H locs hP hD hS ls hl
                refine lv_iload hx hb dX6_tries_106 (lv_at hl 0 rfl) ?_
                refine lv_bipush (v := 8) hx hb dX6_tries_108 rfl ?_
                refine lv_icmp_ge (tgt := 138) hx hb dX6_tries_110 (by decide) (fun c_110 => ?_) (fun c_110 => ?_)
                · -- jump 138
                  have n_110 := fx_le1 (a := 8) (b := j2) c_110 (by omega) (by omega)
                  obtain rfl : j2 = 8 := by omega
                  refine lv_aload_n hx hb dX6_tries_138 rfl (lv_at hl 3 rfl) ?_
                  refine lv_iload hx hb dX6_tries_139 (lv_at hl 1 rfl) ?_
                  refine lv_if_eq (tgt := 149) hx hb dX6_tries_141 (by decide) (fun c => absurd c (by decide)) (fun _ => ?_)
                  refine lv_iload hx hb dX6_tries_144 (lv_at hl 2 rfl) ?_
                  refine lv_goto (tgt := 153) hx hb dX6_tries_146 (by decide) ?_
                  refine fx_put_ (ws' := [(ad 30, .inr (6, [.ref (ad 0), .ref (ad 1), .int im, .ref (ad 3), .int at_, .int op, .int st_, .int us, .ref (ad 8), .ref (ad 9), .ref (ad 10), .ref (ad 11), .ref (ad 12), .ref (ad 13), .ref (ad 14), .int (netF sa T k rn wo ex), .int bm, .ref (ad 17), .int la, .int fo, .int fi, .int lp, .ref (ad 22), .int tr_, .int sp, .int ip, .ref (ad 26), .ref (ad 27), .ref (ad 28), .ref (ad 29)])), (ad 9, .inl (E.2 0, 128, .inl nm2_12)), (ad 10, .inl (E.2 0, 64, .inl pl2_12)), (ad 13, .inl (E.2 0, 8, .inl rw_)), (ad 14, .inl (E.2 0, 8, .inl be2))]) X hE hP hD hS 0 rfl rfl tyX6_ok nmX6 15 rfl q1183 rfl rfl rfl rfl rfl rfl dX6_tries_153 (fun H locs hP hD hS => ?_)
                  refine lv_aload_n hx hb dX6_tries_156 rfl (lv_at hl 3 rfl) ?_
                  refine lv_iload hx hb dX6_tries_157 (lv_at hl 1 rfl) ?_
                  refine lv_if_eq (tgt := 167) hx hb dX6_tries_159 (by decide) (fun c => absurd c (by decide)) (fun _ => ?_)
                  refine lv_iload hx hb dX6_tries_162 (lv_at hl 7 rfl) ?_
                  refine lv_goto (tgt := 171) hx hb dX6_tries_164 (by decide) ?_
                  refine fx_put_ (ws' := [(ad 30, .inr (6, [.ref (ad 0), .ref (ad 1), .int im, .ref (ad 3), .int at_, .int op, .int st_, .int us, .ref (ad 8), .ref (ad 9), .ref (ad 10), .ref (ad 11), .ref (ad 12), .ref (ad 13), .ref (ad 14), .int (netF sa T k rn wo ex), .int (nI mo), .ref (ad 17), .int la, .int fo, .int fi, .int lp, .ref (ad 22), .int tr_, .int sp, .int ip, .ref (ad 26), .ref (ad 27), .ref (ad 28), .ref (ad 29)])), (ad 9, .inl (E.2 0, 128, .inl nm2_12)), (ad 10, .inl (E.2 0, 64, .inl pl2_12)), (ad 13, .inl (E.2 0, 8, .inl rw_)), (ad 14, .inl (E.2 0, 8, .inl be2))]) X hE hP hD hS 0 rfl rfl tyX6_ok nmX6 16 rfl q1184 rfl rfl rfl rfl rfl rfl dX6_tries_171 (fun H locs hP hD hS => ?_)
                  exact hret ((netF sa T k rn wo ex), nI mo, nm2_12, pl2_12, rw_, be2) (⟨by rw [enL, lfT_t hbet]; exact ⟨rfl, rfl⟩, nI_ne_m1 (by omega), by rw [enL, lfT_t hbet]; exact hbe2, fun i hi => rfl⟩) hP hD hS (Nat.le_refl _) (Nat.le_refl _) dX6_tries_174
                · -- fall 113
                  have n_110 := fx_le0 (a := 8) (b := j2) c_110 (by omega) (by omega)
                  refine lv_iload hx hb dX6_tries_113 (lv_at hl 1 rfl) ?_
                  refine lv_if_eq (tgt := 138) hx hb dX6_tries_115 (by decide) (fun c => absurd c (by decide)) (fun _ => ?_)
                  refine lv_aload_n hx hb dX6_tries_118 rfl (lv_at hl 3 rfl) ?_
                  refine fx_get X hE hP 0 rfl rfl 14 rfl q1182 rfl rfl dX6_tries_119 ?_
                  refine lv_iload hx hb dX6_tries_122 (lv_at hl 0 rfl) ?_
                  refine lv_aload_n hx hb dX6_tries_124 rfl (lv_at hl 3 rfl) ?_
                  refine fx_get X hE hP 0 rfl rfl 13 rfl q1181 rfl rfl dX6_tries_125 ?_
                  refine lv_iload hx hb dX6_tries_128 (lv_at hl 0 rfl) ?_
                  refine fx_iald X hE hP 3 rfl j2 rfl (by omega) rfl dX6_tries_130 ?_
                  refine fx_iast (ws' := [(ad 30, .inr (6, [.ref (ad 0), .ref (ad 1), .int im, .ref (ad 3), .int at_, .int op, .int st_, .int us, .ref (ad 8), .ref (ad 9), .ref (ad 10), .ref (ad 11), .ref (ad 12), .ref (ad 13), .ref (ad 14), .int bn, .int bm, .ref (ad 17), .int la, .int fo, .int fi, .int lp, .ref (ad 22), .int tr_, .int sp, .int ip, .ref (ad 26), .ref (ad 27), .ref (ad 28), .ref (ad 29)])), (ad 9, .inl (E.2 0, 128, .inl nm2_12)), (ad 10, .inl (E.2 0, 64, .inl pl2_12)), (ad 13, .inl (E.2 0, 8, .inl rw_)), (ad 14, .inl (E.2 0, 8, .inl (upd be2 j2 (rw_ j2))))]) X hE hP hD hS 4 rfl j2 rfl (by omega) rfl rfl dX6_tries_131 (fun H locs hP hD hS => ?_)
                  refine lv_iinc (v := nI (j2 + 1)) (lv' := [(7, .int (nI (j2 + 1))), (6, .int 1), (5, .int (netF sa T k rn wo ex)), (0, .ref (ad 30)), (1, .int (nI k)), (2, .int (nI (8 - 0))), (3, .int (nI le)), (4, .int (nI mo))]) hx hb dX6_tries_132 hl (k := 0) rfl (fx_inc _) (by decide) rfl (fun ls hl => ?_)
                  refine lv_goto (tgt := 106) hx hb dX6_tries_135 (by decide) ?_
                  exact ih_106 (j2 + 1) (upd be2 j2 (rw_ j2)) (by omega) (by omega) (ext_s (f := fun i => nI (rn i + ex i)) hbe2 (hrw2 j2 (by omega)).1) _ _ hP hD hS ls (lv_sub hl [0, 1, 2, 3, 4, 5, 6, 7] rfl)
            exact loop_106 ((8 - 0) + 1) 0 be (Nat.lt_succ_self _) (by omega) (fun i hi => absurd hi (Nat.not_lt_zero _)) _ _ hP hD hS ls (lv_sub hl [0, 1, 2, 3, 4, 5, 6, 7] rfl)
          · -- fall 69
            refine lv_iload hx hb dX6_tries_69 (lv_at hl 1 rfl) ?_
            refine lv_aload_n hx hb dX6_tries_71 rfl (lv_at hl 2 rfl) ?_
            refine fx_get X hE hP 0 rfl rfl 15 rfl q1183 rfl rfl dX6_tries_72 ?_
            refine lv_icmp_lt (tgt := 96) hx hb dX6_tries_75 (by decide) (fun c_75 => ?_) (fun c_75 => ?_)
            · -- jump 96
              have hbet : ((bm, bn, bx) : Bst).1 = -1 ∨ netF sa T k rn wo ex < ((bm, bn, bx) : Bst).2.1 ∨ (netF sa T k rn wo ex = ((bm, bn, bx) : Bst).2.1 ∧ nI mo < ((bm, bn, bx) : Bst).1) := Or.inr (Or.inl c_75)
              refine lv_iconst (v := 1) hx hb dX6_tries_96 rfl ?_
              refine lv_goto (tgt := 101) hx hb dX6_tries_97 (by decide) ?_
              refine lv_istore (lv' := [(6, .int 1), (5, .int (netF sa T k rn wo ex)), (0, .ref (ad 30)), (1, .int (nI k)), (2, .int (nI (8 - 0))), (3, .int (nI le)), (4, .int (nI mo))]) hx hb dX6_tries_101 hl (by decide) rfl (fun ls hl => ?_)
              refine lv_iconst (v := 0) hx hb dX6_tries_103 rfl ?_
              refine lv_istore (lv' := [(7, .int 0), (6, .int 1), (5, .int (netF sa T k rn wo ex)), (0, .ref (ad 30)), (1, .int (nI k)), (2, .int (nI (8 - 0))), (3, .int (nI le)), (4, .int (nI mo))]) hx hb dX6_tries_104 hl (by decide) rfl (fun ls hl => ?_)
              have loop_106 : ∀ (n_106 : Nat) (j2 : Nat) (be2 : Nat → Int32), (8 - j2 < n_106) → (j2 ≤ 8) → (∀ i, i < j2 → be2 i = nI (rn i + ex i)) → ∀ (H : Heap) (locs : List Loc), va_P E.1 clA [(ad 30, .inr (6, [.ref (ad 0), .ref (ad 1), .int im, .ref (ad 3), .int at_, .int op, .int st_, .int us, .ref (ad 8), .ref (ad 9), .ref (ad 10), .ref (ad 11), .ref (ad 12), .ref (ad 13), .ref (ad 14), .int bn, .int bm, .ref (ad 17), .int la, .int fo, .int fi, .int lp, .ref (ad 22), .int tr_, .int sp, .int ip, .ref (ad 26), .ref (ad 27), .ref (ad 28), .ref (ad 29)])), (ad 9, .inl (E.2 0, 128, .inl nm2_12)), (ad 10, .inl (E.2 0, 64, .inl pl2_12)), (ad 13, .inl (E.2 0, 8, .inl rw_)), (ad 14, .inl (E.2 0, 8, .inl be2))] H → va_D A [(ad 30, .inr (6, [.ref (ad 0), .ref (ad 1), .int im, .ref (ad 3), .int at_, .int op, .int st_, .int us, .ref (ad 8), .ref (ad 9), .ref (ad 10), .ref (ad 11), .ref (ad 12), .ref (ad 13), .ref (ad 14), .int bn, .int bm, .ref (ad 17), .int la, .int fo, .int fi, .int lp, .ref (ad 22), .int tr_, .int sp, .int ip, .ref (ad 26), .ref (ad 27), .ref (ad 28), .ref (ad 29)])), (ad 9, .inl (E.2 0, 128, .inl nm2_12)), (ad 10, .inl (E.2 0, 64, .inl pl2_12)), (ad 13, .inl (E.2 0, 8, .inl rw_)), (ad 14, .inl (E.2 0, 8, .inl be2))] → va_S A s.heap H locs → ∀ (ls : Array Slot), lv_has ls 8 [(7, .int (nI j2)), (6, .int 1), (5, .int (netF sa T k rn wo ex)), (0, .ref (ad 30)), (1, .int (nI k)), (2, .int (nI (8 - 0))), (3, .int (nI le)), (4, .int (nI mo))] → W p l e (rmX6_tries 0) s m args below meth c H locs 0 0 Q (F0 m 106 ls []) := by
                intro n_106
                induction n_106 with
                | zero => intro j2 be2 hm_106; exact absurd hm_106 (Nat.not_lt_zero _)
                | succ n_106 ih_106 =>
                  intro j2 be2 hm_106 hj2 hbe2 H locs hP hD hS ls hl
                  refine lv_iload hx hb dX6_tries_106 (lv_at hl 0 rfl) ?_
                  refine lv_bipush (v := 8) hx hb dX6_tries_108 rfl ?_
                  refine lv_icmp_ge (tgt := 138) hx hb dX6_tries_110 (by decide) (fun c_110 => ?_) (fun c_110 => ?_)
                  · -- jump 138
                    have n_110 := fx_le1 (a := 8) (b := j2) c_110 (by omega) (by omega)
                    obtain rfl : j2 = 8 := by omega
                    refine lv_aload_n hx hb dX6_tries_138 rfl (lv_at hl 3 rfl) ?_
                    refine lv_iload hx hb dX6_tries_139 (lv_at hl 1 rfl) ?_
                    refine lv_if_eq (tgt := 149) hx hb dX6_tries_141 (by decide) (fun c => absurd c (by decide)) (fun _ => ?_)
                    refine lv_iload hx hb dX6_tries_144 (lv_at hl 2 rfl) ?_
                    refine lv_goto (tgt := 153) hx hb dX6_tries_146 (by decide) ?_
                    refine fx_put_ (ws' := [(ad 30, .inr (6, [.ref (ad 0), .ref (ad 1), .int im, .ref (ad 3), .int at_, .int op, .int st_, .int us, .ref (ad 8), .ref (ad 9), .ref (ad 10), .ref (ad 11), .ref (ad 12), .ref (ad 13), .ref (ad 14), .int (netF sa T k rn wo ex), .int bm, .ref (ad 17), .int la, .int fo, .int fi, .int lp, .ref (ad 22), .int tr_, .int sp, .int ip, .ref (ad 26), .ref (ad 27), .ref (ad 28), .ref (ad 29)])), (ad 9, .inl (E.2 0, 128, .inl nm2_12)), (ad 10, .inl (E.2 0, 64, .inl pl2_12)), (ad 13, .inl (E.2 0, 8, .inl rw_)), (ad 14, .inl (E.2 0, 8, .inl be2))]) X hE hP hD hS 0 rfl rfl tyX6_ok nmX6 15 rfl q1183 rfl rfl rfl rfl rfl rfl dX6_tries_153 (fun H locs hP hD hS => ?_)
                    refine lv_aload_n hx hb dX6_tries_156 rfl (lv_at hl 3 rfl) ?_
                    refine lv_iload hx hb dX6_tries_157 (lv_at hl 1 rfl) ?_
                    refine lv_if_eq (tgt := 167) hx hb dX6_tries_159 (by decide) (fun c => absurd c (by decide)) (fun _ => ?_)
                    refine lv_iload hx hb dX6_tries_162 (lv_at hl 7 rfl) ?_
                    refine lv_goto (tgt := 171) hx hb dX6_tries_164 (by decide) ?_
                    refine fx_put_ (ws' := [(ad 30, .inr (6, [.ref (ad 0), .ref (ad 1), .int im, .ref (ad 3), .int at_, .int op, .int st_, .int us, .ref (ad 8), .ref (ad 9), .ref (ad 10), .ref (ad 11), .ref (ad 12), .ref (ad 13), .ref (ad 14), .int (netF sa T k rn wo ex), .int (nI mo), .ref (ad 17), .int la, .int fo, .int fi, .int lp, .ref (ad 22), .int tr_, .int sp, .int ip, .ref (ad 26), .ref (ad 27), .ref (ad 28), .ref (ad 29)])), (ad 9, .inl (E.2 0, 128, .inl nm2_12)), (ad 10, .inl (E.2 0, 64, .inl pl2_12)), (ad 13, .inl (E.2 0, 8, .inl rw_)), (ad 14, .inl (E.2 0, 8, .inl be2))]) X hE hP hD hS 0 rfl rfl tyX6_ok nmX6 16 rfl q1184 rfl rfl rfl rfl rfl rfl dX6_tries_171 (fun H locs hP hD hS => ?_)
                    exact hret ((netF sa T k rn wo ex), nI mo, nm2_12, pl2_12, rw_, be2) (⟨by rw [enL, lfT_t hbet]; exact ⟨rfl, rfl⟩, nI_ne_m1 (by omega), by rw [enL, lfT_t hbet]; exact hbe2, fun i hi => rfl⟩) hP hD hS (Nat.le_refl _) (Nat.le_refl _) dX6_tries_174
                  · -- fall 113
                    have n_110 := fx_le0 (a := 8) (b := j2) c_110 (by omega) (by omega)
                    refine lv_iload hx hb dX6_tries_113 (lv_at hl 1 rfl) ?_
                    refine lv_if_eq (tgt := 138) hx hb dX6_tries_115 (by decide) (fun c => absurd c (by decide)) (fun _ => ?_)
                    refine lv_aload_n hx hb dX6_tries_118 rfl (lv_at hl 3 rfl) ?_
                    refine fx_get X hE hP 0 rfl rfl 14 rfl q1182 rfl rfl dX6_tries_119 ?_
                    refine lv_iload hx hb dX6_tries_122 (lv_at hl 0 rfl) ?_
                    refine lv_aload_n hx hb dX6_tries_124 rfl (lv_at hl 3 rfl) ?_
                    refine fx_get X hE hP 0 rfl rfl 13 rfl q1181 rfl rfl dX6_tries_125 ?_
                    refine lv_iload hx hb dX6_tries_128 (lv_at hl 0 rfl) ?_
                    refine fx_iald X hE hP 3 rfl j2 rfl (by omega) rfl dX6_tries_130 ?_
                    refine fx_iast (ws' := [(ad 30, .inr (6, [.ref (ad 0), .ref (ad 1), .int im, .ref (ad 3), .int at_, .int op, .int st_, .int us, .ref (ad 8), .ref (ad 9), .ref (ad 10), .ref (ad 11), .ref (ad 12), .ref (ad 13), .ref (ad 14), .int bn, .int bm, .ref (ad 17), .int la, .int fo, .int fi, .int lp, .ref (ad 22), .int tr_, .int sp, .int ip, .ref (ad 26), .ref (ad 27), .ref (ad 28), .ref (ad 29)])), (ad 9, .inl (E.2 0, 128, .inl nm2_12)), (ad 10, .inl (E.2 0, 64, .inl pl2_12)), (ad 13, .inl (E.2 0, 8, .inl rw_)), (ad 14, .inl (E.2 0, 8, .inl (upd be2 j2 (rw_ j2))))]) X hE hP hD hS 4 rfl j2 rfl (by omega) rfl rfl dX6_tries_131 (fun H locs hP hD hS => ?_)
                    refine lv_iinc (v := nI (j2 + 1)) (lv' := [(7, .int (nI (j2 + 1))), (6, .int 1), (5, .int (netF sa T k rn wo ex)), (0, .ref (ad 30)), (1, .int (nI k)), (2, .int (nI (8 - 0))), (3, .int (nI le)), (4, .int (nI mo))]) hx hb dX6_tries_132 hl (k := 0) rfl (fx_inc _) (by decide) rfl (fun ls hl => ?_)
                    refine lv_goto (tgt := 106) hx hb dX6_tries_135 (by decide) ?_
                    exact ih_106 (j2 + 1) (upd be2 j2 (rw_ j2)) (by omega) (by omega) (ext_s (f := fun i => nI (rn i + ex i)) hbe2 (hrw2 j2 (by omega)).1) _ _ hP hD hS ls (lv_sub hl [0, 1, 2, 3, 4, 5, 6, 7] rfl)
              exact loop_106 ((8 - 0) + 1) 0 be (Nat.lt_succ_self _) (by omega) (fun i hi => absurd hi (Nat.not_lt_zero _)) _ _ hP hD hS ls (lv_sub hl [0, 1, 2, 3, 4, 5, 6, 7] rfl)
            · -- fall 78
              refine lv_iload hx hb dX6_tries_78 (lv_at hl 1 rfl) ?_
              refine lv_aload_n hx hb dX6_tries_80 rfl (lv_at hl 2 rfl) ?_
              refine fx_get X hE hP 0 rfl rfl 15 rfl q1183 rfl rfl dX6_tries_81 ?_
              refine lv_icmp_ne (tgt := 100) hx hb dX6_tries_84 (by decide) (fun c_84 => ?_) (fun c_84 => ?_)
              · -- jump 100
                have hwor : ¬ (((bm, bn, bx) : Bst).1 = -1 ∨ netF sa T k rn wo ex < ((bm, bn, bx) : Bst).2.1 ∨ (netF sa T k rn wo ex = ((bm, bn, bx) : Bst).2.1 ∧ nI mo < ((bm, bn, bx) : Bst).1)) := by rintro (h | h | h); exact c_66 h; exact c_75 h; exact c_84 h.1
                refine lv_iconst (v := 0) hx hb dX6_tries_100 rfl ?_
                refine lv_istore (lv' := [(6, .int 0), (5, .int (netF sa T k rn wo ex)), (0, .ref (ad 30)), (1, .int (nI k)), (2, .int (nI (8 - 0))), (3, .int (nI le)), (4, .int (nI mo))]) hx hb dX6_tries_101 hl (by decide) rfl (fun ls hl => ?_)
                refine lv_iconst (v := 0) hx hb dX6_tries_103 rfl ?_
                refine lv_istore (lv' := [(7, .int 0), (6, .int 0), (5, .int (netF sa T k rn wo ex)), (0, .ref (ad 30)), (1, .int (nI k)), (2, .int (nI (8 - 0))), (3, .int (nI le)), (4, .int (nI mo))]) hx hb dX6_tries_104 hl (by decide) rfl (fun ls hl => ?_)
                refine lv_iload hx hb dX6_tries_106 (lv_at hl 0 rfl) ?_
                refine lv_bipush (v := 8) hx hb dX6_tries_108 rfl ?_
                refine lv_icmp_ge (tgt := 138) hx hb dX6_tries_110 (by decide) (fun c => absurd c (by decide)) (fun _ => ?_)
                refine lv_iload hx hb dX6_tries_113 (lv_at hl 1 rfl) ?_
                refine lv_if_eq (tgt := 138) hx hb dX6_tries_115 (by decide) (fun _ => ?_) (fun c => (c (by decide)).elim)
                refine lv_aload_n hx hb dX6_tries_138 rfl (lv_at hl 3 rfl) ?_
                refine lv_iload hx hb dX6_tries_139 (lv_at hl 1 rfl) ?_
                refine lv_if_eq (tgt := 149) hx hb dX6_tries_141 (by decide) (fun _ => ?_) (fun c => (c (by decide)).elim)
                refine lv_aload_n hx hb dX6_tries_149 rfl (lv_at hl 3 rfl) ?_
                refine fx_get X hE hP 0 rfl rfl 15 rfl q1183 rfl rfl dX6_tries_150 ?_
                refine fx_put_ (ws' := [(ad 30, .inr (6, [.ref (ad 0), .ref (ad 1), .int im, .ref (ad 3), .int at_, .int op, .int st_, .int us, .ref (ad 8), .ref (ad 9), .ref (ad 10), .ref (ad 11), .ref (ad 12), .ref (ad 13), .ref (ad 14), .int bn, .int bm, .ref (ad 17), .int la, .int fo, .int fi, .int lp, .ref (ad 22), .int tr_, .int sp, .int ip, .ref (ad 26), .ref (ad 27), .ref (ad 28), .ref (ad 29)])), (ad 9, .inl (E.2 0, 128, .inl nm2_12)), (ad 10, .inl (E.2 0, 64, .inl pl2_12)), (ad 13, .inl (E.2 0, 8, .inl rw_)), (ad 14, .inl (E.2 0, 8, .inl be))]) X hE hP hD hS 0 rfl rfl tyX6_ok nmX6 15 rfl q1183 rfl rfl rfl rfl rfl rfl dX6_tries_153 (fun H locs hP hD hS => ?_)
                refine lv_aload_n hx hb dX6_tries_156 rfl (lv_at hl 3 rfl) ?_
                refine lv_iload hx hb dX6_tries_157 (lv_at hl 1 rfl) ?_
                refine lv_if_eq (tgt := 167) hx hb dX6_tries_159 (by decide) (fun _ => ?_) (fun c => (c (by decide)).elim)
                refine lv_aload_n hx hb dX6_tries_167 rfl (lv_at hl 3 rfl) ?_
                refine fx_get X hE hP 0 rfl rfl 16 rfl q1184 rfl rfl dX6_tries_168 ?_
                refine fx_put_ (ws' := [(ad 30, .inr (6, [.ref (ad 0), .ref (ad 1), .int im, .ref (ad 3), .int at_, .int op, .int st_, .int us, .ref (ad 8), .ref (ad 9), .ref (ad 10), .ref (ad 11), .ref (ad 12), .ref (ad 13), .ref (ad 14), .int bn, .int bm, .ref (ad 17), .int la, .int fo, .int fi, .int lp, .ref (ad 22), .int tr_, .int sp, .int ip, .ref (ad 26), .ref (ad 27), .ref (ad 28), .ref (ad 29)])), (ad 9, .inl (E.2 0, 128, .inl nm2_12)), (ad 10, .inl (E.2 0, 64, .inl pl2_12)), (ad 13, .inl (E.2 0, 8, .inl rw_)), (ad 14, .inl (E.2 0, 8, .inl be))]) X hE hP hD hS 0 rfl rfl tyX6_ok nmX6 16 rfl q1184 rfl rfl rfl rfl rfl rfl dX6_tries_171 (fun H locs hP hD hS => ?_)
                exact hret (bn, bm, nm2_12, pl2_12, rw_, be) (⟨by rw [enL, lfT_f hwor]; exact ⟨rfl, rfl⟩, c_66, by rw [enL, lfT_f hwor]; exact hbe.resolve_left c_66, fun i hi => rfl⟩) hP hD hS (Nat.le_refl _) (Nat.le_refl _) dX6_tries_174
              · -- fall 87
                refine lv_iload hx hb dX6_tries_87 (lv_at hl 6 rfl) ?_
                refine lv_aload_n hx hb dX6_tries_89 rfl (lv_at hl 2 rfl) ?_
                refine fx_get X hE hP 0 rfl rfl 16 rfl q1184 rfl rfl dX6_tries_90 ?_
                refine lv_icmp_ge (tgt := 100) hx hb dX6_tries_93 (by decide) (fun c_93 => ?_) (fun c_93 => ?_)
                · -- jump 100
                  have hwor : ¬ (((bm, bn, bx) : Bst).1 = -1 ∨ netF sa T k rn wo ex < ((bm, bn, bx) : Bst).2.1 ∨ (netF sa T k rn wo ex = ((bm, bn, bx) : Bst).2.1 ∧ nI mo < ((bm, bn, bx) : Bst).1)) := by rintro (h | h | h); exact c_66 h; exact c_75 h; exact absurd h.2 (Int32.not_lt.2 c_93)
                  refine lv_iconst (v := 0) hx hb dX6_tries_100 rfl ?_
                  refine lv_istore (lv' := [(6, .int 0), (5, .int (netF sa T k rn wo ex)), (0, .ref (ad 30)), (1, .int (nI k)), (2, .int (nI (8 - 0))), (3, .int (nI le)), (4, .int (nI mo))]) hx hb dX6_tries_101 hl (by decide) rfl (fun ls hl => ?_)
                  refine lv_iconst (v := 0) hx hb dX6_tries_103 rfl ?_
                  refine lv_istore (lv' := [(7, .int 0), (6, .int 0), (5, .int (netF sa T k rn wo ex)), (0, .ref (ad 30)), (1, .int (nI k)), (2, .int (nI (8 - 0))), (3, .int (nI le)), (4, .int (nI mo))]) hx hb dX6_tries_104 hl (by decide) rfl (fun ls hl => ?_)
                  refine lv_iload hx hb dX6_tries_106 (lv_at hl 0 rfl) ?_
                  refine lv_bipush (v := 8) hx hb dX6_tries_108 rfl ?_
                  refine lv_icmp_ge (tgt := 138) hx hb dX6_tries_110 (by decide) (fun c => absurd c (by decide)) (fun _ => ?_)
                  refine lv_iload hx hb dX6_tries_113 (lv_at hl 1 rfl) ?_
                  refine lv_if_eq (tgt := 138) hx hb dX6_tries_115 (by decide) (fun _ => ?_) (fun c => (c (by decide)).elim)
                  refine lv_aload_n hx hb dX6_tries_138 rfl (lv_at hl 3 rfl) ?_
                  refine lv_iload hx hb dX6_tries_139 (lv_at hl 1 rfl) ?_
                  refine lv_if_eq (tgt := 149) hx hb dX6_tries_141 (by decide) (fun _ => ?_) (fun c => (c (by decide)).elim)
                  refine lv_aload_n hx hb dX6_tries_149 rfl (lv_at hl 3 rfl) ?_
                  refine fx_get X hE hP 0 rfl rfl 15 rfl q1183 rfl rfl dX6_tries_150 ?_
                  refine fx_put_ (ws' := [(ad 30, .inr (6, [.ref (ad 0), .ref (ad 1), .int im, .ref (ad 3), .int at_, .int op, .int st_, .int us, .ref (ad 8), .ref (ad 9), .ref (ad 10), .ref (ad 11), .ref (ad 12), .ref (ad 13), .ref (ad 14), .int bn, .int bm, .ref (ad 17), .int la, .int fo, .int fi, .int lp, .ref (ad 22), .int tr_, .int sp, .int ip, .ref (ad 26), .ref (ad 27), .ref (ad 28), .ref (ad 29)])), (ad 9, .inl (E.2 0, 128, .inl nm2_12)), (ad 10, .inl (E.2 0, 64, .inl pl2_12)), (ad 13, .inl (E.2 0, 8, .inl rw_)), (ad 14, .inl (E.2 0, 8, .inl be))]) X hE hP hD hS 0 rfl rfl tyX6_ok nmX6 15 rfl q1183 rfl rfl rfl rfl rfl rfl dX6_tries_153 (fun H locs hP hD hS => ?_)
                  refine lv_aload_n hx hb dX6_tries_156 rfl (lv_at hl 3 rfl) ?_
                  refine lv_iload hx hb dX6_tries_157 (lv_at hl 1 rfl) ?_
                  refine lv_if_eq (tgt := 167) hx hb dX6_tries_159 (by decide) (fun _ => ?_) (fun c => (c (by decide)).elim)
                  refine lv_aload_n hx hb dX6_tries_167 rfl (lv_at hl 3 rfl) ?_
                  refine fx_get X hE hP 0 rfl rfl 16 rfl q1184 rfl rfl dX6_tries_168 ?_
                  refine fx_put_ (ws' := [(ad 30, .inr (6, [.ref (ad 0), .ref (ad 1), .int im, .ref (ad 3), .int at_, .int op, .int st_, .int us, .ref (ad 8), .ref (ad 9), .ref (ad 10), .ref (ad 11), .ref (ad 12), .ref (ad 13), .ref (ad 14), .int bn, .int bm, .ref (ad 17), .int la, .int fo, .int fi, .int lp, .ref (ad 22), .int tr_, .int sp, .int ip, .ref (ad 26), .ref (ad 27), .ref (ad 28), .ref (ad 29)])), (ad 9, .inl (E.2 0, 128, .inl nm2_12)), (ad 10, .inl (E.2 0, 64, .inl pl2_12)), (ad 13, .inl (E.2 0, 8, .inl rw_)), (ad 14, .inl (E.2 0, 8, .inl be))]) X hE hP hD hS 0 rfl rfl tyX6_ok nmX6 16 rfl q1184 rfl rfl rfl rfl rfl rfl dX6_tries_171 (fun H locs hP hD hS => ?_)
                  exact hret (bn, bm, nm2_12, pl2_12, rw_, be) (⟨by rw [enL, lfT_f hwor]; exact ⟨rfl, rfl⟩, c_66, by rw [enL, lfT_f hwor]; exact hbe.resolve_left c_66, fun i hi => rfl⟩) hP hD hS (Nat.le_refl _) (Nat.le_refl _) dX6_tries_174
                · -- fall 96
                  have hbet : ((bm, bn, bx) : Bst).1 = -1 ∨ netF sa T k rn wo ex < ((bm, bn, bx) : Bst).2.1 ∨ (netF sa T k rn wo ex = ((bm, bn, bx) : Bst).2.1 ∧ nI mo < ((bm, bn, bx) : Bst).1) := Or.inr (Or.inr ⟨c_84, Int32.not_le.1 c_93⟩)
                  refine lv_iconst (v := 1) hx hb dX6_tries_96 rfl ?_
                  refine lv_goto (tgt := 101) hx hb dX6_tries_97 (by decide) ?_
                  refine lv_istore (lv' := [(6, .int 1), (5, .int (netF sa T k rn wo ex)), (0, .ref (ad 30)), (1, .int (nI k)), (2, .int (nI (8 - 0))), (3, .int (nI le)), (4, .int (nI mo))]) hx hb dX6_tries_101 hl (by decide) rfl (fun ls hl => ?_)
                  refine lv_iconst (v := 0) hx hb dX6_tries_103 rfl ?_
                  refine lv_istore (lv' := [(7, .int 0), (6, .int 1), (5, .int (netF sa T k rn wo ex)), (0, .ref (ad 30)), (1, .int (nI k)), (2, .int (nI (8 - 0))), (3, .int (nI le)), (4, .int (nI mo))]) hx hb dX6_tries_104 hl (by decide) rfl (fun ls hl => ?_)
                  have loop_106 : ∀ (n_106 : Nat) (j2 : Nat) (be2 : Nat → Int32), (8 - j2 < n_106) → (j2 ≤ 8) → (∀ i, i < j2 → be2 i = nI (rn i + ex i)) → ∀ (H : Heap) (locs : List Loc), va_P E.1 clA [(ad 30, .inr (6, [.ref (ad 0), .ref (ad 1), .int im, .ref (ad 3), .int at_, .int op, .int st_, .int us, .ref (ad 8), .ref (ad 9), .ref (ad 10), .ref (ad 11), .ref (ad 12), .ref (ad 13), .ref (ad 14), .int bn, .int bm, .ref (ad 17), .int la, .int fo, .int fi, .int lp, .ref (ad 22), .int tr_, .int sp, .int ip, .ref (ad 26), .ref (ad 27), .ref (ad 28), .ref (ad 29)])), (ad 9, .inl (E.2 0, 128, .inl nm2_12)), (ad 10, .inl (E.2 0, 64, .inl pl2_12)), (ad 13, .inl (E.2 0, 8, .inl rw_)), (ad 14, .inl (E.2 0, 8, .inl be2))] H → va_D A [(ad 30, .inr (6, [.ref (ad 0), .ref (ad 1), .int im, .ref (ad 3), .int at_, .int op, .int st_, .int us, .ref (ad 8), .ref (ad 9), .ref (ad 10), .ref (ad 11), .ref (ad 12), .ref (ad 13), .ref (ad 14), .int bn, .int bm, .ref (ad 17), .int la, .int fo, .int fi, .int lp, .ref (ad 22), .int tr_, .int sp, .int ip, .ref (ad 26), .ref (ad 27), .ref (ad 28), .ref (ad 29)])), (ad 9, .inl (E.2 0, 128, .inl nm2_12)), (ad 10, .inl (E.2 0, 64, .inl pl2_12)), (ad 13, .inl (E.2 0, 8, .inl rw_)), (ad 14, .inl (E.2 0, 8, .inl be2))] → va_S A s.heap H locs → ∀ (ls : Array Slot), lv_has ls 8 [(7, .int (nI j2)), (6, .int 1), (5, .int (netF sa T k rn wo ex)), (0, .ref (ad 30)), (1, .int (nI k)), (2, .int (nI (8 - 0))), (3, .int (nI le)), (4, .int (nI mo))] → W p l e (rmX6_tries 0) s m args below meth c H locs 0 0 Q (F0 m 106 ls []) := by
                    intro n_106
                    induction n_106 with
                    | zero => intro j2 be2 hm_106; exact absurd hm_106 (Nat.not_lt_zero _)
                    | succ n_106 ih_106 =>
                      intro j2 be2 hm_106 hj2 hbe2 H locs hP hD hS ls hl
                      refine lv_iload hx hb dX6_tries_106 (lv_at hl 0 rfl) ?_
                      refine lv_bipush (v := 8) hx hb dX6_tries_108 rfl ?_
                      refine lv_icmp_ge (tgt := 138) hx hb dX6_tries_110 (by decide) (fun c_110 => ?_) (fun c_110 => ?_)
                      · -- jump 138
                        have n_110 := fx_le1 (a := 8) (b := j2) c_110 (by omega) (by omega)
                        obtain rfl : j2 = 8 := by omega
                        refine lv_aload_n hx hb dX6_tries_138 rfl (lv_at hl 3 rfl) ?_
                        refine lv_iload hx hb dX6_tries_139 (lv_at hl 1 rfl) ?_
                        refine lv_if_eq (tgt := 149) hx hb dX6_tries_141 (by decide) (fun c => absurd c (by decide)) (fun _ => ?_)
                        refine lv_iload hx hb dX6_tries_144 (lv_at hl 2 rfl) ?_
                        refine lv_goto (tgt := 153) hx hb dX6_tries_146 (by decide) ?_
                        refine fx_put_ (ws' := [(ad 30, .inr (6, [.ref (ad 0), .ref (ad 1), .int im, .ref (ad 3), .int at_, .int op, .int st_, .int us, .ref (ad 8), .ref (ad 9), .ref (ad 10), .ref (ad 11), .ref (ad 12), .ref (ad 13), .ref (ad 14), .int (netF sa T k rn wo ex), .int bm, .ref (ad 17), .int la, .int fo, .int fi, .int lp, .ref (ad 22), .int tr_, .int sp, .int ip, .ref (ad 26), .ref (ad 27), .ref (ad 28), .ref (ad 29)])), (ad 9, .inl (E.2 0, 128, .inl nm2_12)), (ad 10, .inl (E.2 0, 64, .inl pl2_12)), (ad 13, .inl (E.2 0, 8, .inl rw_)), (ad 14, .inl (E.2 0, 8, .inl be2))]) X hE hP hD hS 0 rfl rfl tyX6_ok nmX6 15 rfl q1183 rfl rfl rfl rfl rfl rfl dX6_tries_153 (fun H locs hP hD hS => ?_)
                        refine lv_aload_n hx hb dX6_tries_156 rfl (lv_at hl 3 rfl) ?_
                        refine lv_iload hx hb dX6_tries_157 (lv_at hl 1 rfl) ?_
                        refine lv_if_eq (tgt := 167) hx hb dX6_tries_159 (by decide) (fun c => absurd c (by decide)) (fun _ => ?_)
                        refine lv_iload hx hb dX6_tries_162 (lv_at hl 7 rfl) ?_
                        refine lv_goto (tgt := 171) hx hb dX6_tries_164 (by decide) ?_
                        refine fx_put_ (ws' := [(ad 30, .inr (6, [.ref (ad 0), .ref (ad 1), .int im, .ref (ad 3), .int at_, .int op, .int st_, .int us, .ref (ad 8), .ref (ad 9), .ref (ad 10), .ref (ad 11), .ref (ad 12), .ref (ad 13), .ref (ad 14), .int (netF sa T k rn wo ex), .int (nI mo), .ref (ad 17), .int la, .int fo, .int fi, .int lp, .ref (ad 22), .int tr_, .int sp, .int ip, .ref (ad 26), .ref (ad 27), .ref (ad 28), .ref (ad 29)])), (ad 9, .inl (E.2 0, 128, .inl nm2_12)), (ad 10, .inl (E.2 0, 64, .inl pl2_12)), (ad 13, .inl (E.2 0, 8, .inl rw_)), (ad 14, .inl (E.2 0, 8, .inl be2))]) X hE hP hD hS 0 rfl rfl tyX6_ok nmX6 16 rfl q1184 rfl rfl rfl rfl rfl rfl dX6_tries_171 (fun H locs hP hD hS => ?_)
                        exact hret ((netF sa T k rn wo ex), nI mo, nm2_12, pl2_12, rw_, be2) (⟨by rw [enL, lfT_t hbet]; exact ⟨rfl, rfl⟩, nI_ne_m1 (by omega), by rw [enL, lfT_t hbet]; exact hbe2, fun i hi => rfl⟩) hP hD hS (Nat.le_refl _) (Nat.le_refl _) dX6_tries_174
                      · -- fall 113
                        have n_110 := fx_le0 (a := 8) (b := j2) c_110 (by omega) (by omega)
                        refine lv_iload hx hb dX6_tries_113 (lv_at hl 1 rfl) ?_
                        refine lv_if_eq (tgt := 138) hx hb dX6_tries_115 (by decide) (fun c => absurd c (by decide)) (fun _ => ?_)
                        refine lv_aload_n hx hb dX6_tries_118 rfl (lv_at hl 3 rfl) ?_
                        refine fx_get X hE hP 0 rfl rfl 14 rfl q1182 rfl rfl dX6_tries_119 ?_
                        refine lv_iload hx hb dX6_tries_122 (lv_at hl 0 rfl) ?_
                        refine lv_aload_n hx hb dX6_tries_124 rfl (lv_at hl 3 rfl) ?_
                        refine fx_get X hE hP 0 rfl rfl 13 rfl q1181 rfl rfl dX6_tries_125 ?_
                        refine lv_iload hx hb dX6_tries_128 (lv_at hl 0 rfl) ?_
                        refine fx_iald X hE hP 3 rfl j2 rfl (by omega) rfl dX6_tries_130 ?_
                        refine fx_iast (ws' := [(ad 30, .inr (6, [.ref (ad 0), .ref (ad 1), .int im, .ref (ad 3), .int at_, .int op, .int st_, .int us, .ref (ad 8), .ref (ad 9), .ref (ad 10), .ref (ad 11), .ref (ad 12), .ref (ad 13), .ref (ad 14), .int bn, .int bm, .ref (ad 17), .int la, .int fo, .int fi, .int lp, .ref (ad 22), .int tr_, .int sp, .int ip, .ref (ad 26), .ref (ad 27), .ref (ad 28), .ref (ad 29)])), (ad 9, .inl (E.2 0, 128, .inl nm2_12)), (ad 10, .inl (E.2 0, 64, .inl pl2_12)), (ad 13, .inl (E.2 0, 8, .inl rw_)), (ad 14, .inl (E.2 0, 8, .inl (upd be2 j2 (rw_ j2))))]) X hE hP hD hS 4 rfl j2 rfl (by omega) rfl rfl dX6_tries_131 (fun H locs hP hD hS => ?_)
                        refine lv_iinc (v := nI (j2 + 1)) (lv' := [(7, .int (nI (j2 + 1))), (6, .int 1), (5, .int (netF sa T k rn wo ex)), (0, .ref (ad 30)), (1, .int (nI k)), (2, .int (nI (8 - 0))), (3, .int (nI le)), (4, .int (nI mo))]) hx hb dX6_tries_132 hl (k := 0) rfl (fx_inc _) (by decide) rfl (fun ls hl => ?_)
                        refine lv_goto (tgt := 106) hx hb dX6_tries_135 (by decide) ?_
                        exact ih_106 (j2 + 1) (upd be2 j2 (rw_ j2)) (by omega) (by omega) (ext_s (f := fun i => nI (rn i + ex i)) hbe2 (hrw2 j2 (by omega)).1) _ _ hP hD hS ls (lv_sub hl [0, 1, 2, 3, 4, 5, 6, 7] rfl)
                  exact loop_106 ((8 - 0) + 1) 0 be (Nat.lt_succ_self _) (by omega) (fun i hi => absurd hi (Nat.not_lt_zero _)) _ _ hP hD hS ls (lv_sub hl [0, 1, 2, 3, 4, 5, 6, 7] rfl)
        · -- fall 27
          have n_24 := fx_le0 (a := 8) (b := j) c_24 (by omega) (by omega)
          refine lv_iload hx hb dX6_tries_27 (lv_at hl 1 rfl) ?_
          refine lv_aload_n hx hb dX6_tries_29 rfl (lv_at hl 2 rfl) ?_
          refine fx_get X hE hP 0 rfl rfl 13 rfl q1181 rfl rfl dX6_tries_30 ?_
          refine lv_iload hx hb dX6_tries_33 (lv_at hl 0 rfl) ?_
          refine fx_iald X hE hP 3 rfl j rfl (by omega) rfl dX6_tries_35 ?_
          refine fx_ti (show (rw_ j) = nI (rn j + ex j) from (hrw2 j (by omega)).1) ?_
          refine lv_aload_n hx hb dX6_tries_36 rfl (lv_at hl 2 rfl) ?_
          refine fx_get X hE hP 0 rfl rfl 11 rfl q1179 rfl rfl dX6_tries_37 ?_
          refine lv_iload hx hb dX6_tries_40 (lv_at hl 0 rfl) ?_
          refine fx_iald X hE (hR.at hS) 1 rfl j rfl (by omega) rfl dX6_tries_42 ?_
          refine fx_ti (show (td j) = nI (rn j) from (htd j (by omega)).1) ?_
          refine lv_isub hx hb dX6_tries_43 ?_
          refine fx_ti (pk_sub (a := rn j + ex j) (b := rn j) (by omega)) ?_
          refine fx_ti (show nI (rn j + ex j - (rn j)) = nI (ex j) from congrArg nI (by omega)) ?_
          refine lv_aload_n hx hb dX6_tries_44 rfl (lv_at hl 2 rfl) ?_
          refine fx_get X hE hP 0 rfl rfl 17 rfl q1185 rfl rfl dX6_tries_45 ?_
          refine lv_iload hx hb dX6_tries_48 (lv_at hl 0 rfl) ?_
          refine fx_iald X hE (hR.at hS) 2 rfl j rfl (by omega) rfl dX6_tries_50 ?_
          refine lv_imul hx hb dX6_tries_51 ?_
          refine lv_isub hx hb dX6_tries_52 ?_
          refine lv_istore (lv' := [(5, .int (x5 - ((nI (ex j)) * (wo j)))), (6, .int (nI j)), (0, .ref (ad 30)), (1, .int (nI k)), (2, .int (nI (8 - 0))), (3, .int (nI le)), (4, .int (nI mo))]) hx hb dX6_tries_53 hl (by decide) rfl (fun ls hl => ?_)
          refine lv_iinc (v := nI (j + 1)) (lv' := [(6, .int (nI (j + 1))), (5, .int (x5 - ((nI (ex j)) * (wo j)))), (0, .ref (ad 30)), (1, .int (nI k)), (2, .int (nI (8 - 0))), (3, .int (nI le)), (4, .int (nI mo))]) hx hb dX6_tries_55 hl (k := 1) rfl (fx_inc _) (by decide) rfl (fun ls hl => ?_)
          refine lv_goto (tgt := 20) hx hb dX6_tries_58 (by decide) ?_
          exact ih_20 (j + 1) (x5 - ((nI (ex j)) * (wo j))) (by omega) (by omega) (by rw [hx5, i_subsub]; rfl) _ _ hP hD hS ls (lv_sub hl [0, 1, 2, 3, 4, 5, 6] rfl)
    exact loop_20 ((8 - 0) + 1) 0 (paysF sa T (fun t => rn t + ex t) k) (Nat.lt_succ_self _) (by omega) (by simp [l_sum]) _ _ hP hD hS ls (lv_sub hl [0, 1, 2, 3, 4, 5, 6] rfl)
  | succ d ih =>
    intro ad im at_ op st_ us bn bm la fo fi lp tr_ sp ip sa nmd pl td rw_ be wo k T rn ex bx le mo hd hk hI hT hTo htd hrw hle hmo hbe
    refine fx_vW rfl rfl ?_
    intro p e s m args below meth c A ls Q X hnm hE hP hD hR hA hl hret
    have hx := X.1
    have hb := X.2.1
    have hS : va_S A s.heap s.heap [] := va_S.rf
    replace hP : va_P E.1 clA [(ad 30, .inr (6, [.ref (ad 0), .ref (ad 1), .int im, .ref (ad 3), .int at_, .int op, .int st_, .int us, .ref (ad 8), .ref (ad 9), .ref (ad 10), .ref (ad 11), .ref (ad 12), .ref (ad 13), .ref (ad 14), .int bn, .int bm, .ref (ad 17), .int la, .int fo, .int fi, .int lp, .ref (ad 22), .int tr_, .int sp, .int ip, .ref (ad 26), .ref (ad 27), .ref (ad 28), .ref (ad 29)])), (ad 9, .inl (E.2 0, 128, .inl nmd)), (ad 10, .inl (E.2 0, 64, .inl pl)), (ad 13, .inl (E.2 0, 8, .inl rw_)), (ad 14, .inl (E.2 0, 8, .inl be))] _ := hP
    replace hD : va_D A [(ad 30, .inr (6, [.ref (ad 0), .ref (ad 1), .int im, .ref (ad 3), .int at_, .int op, .int st_, .int us, .ref (ad 8), .ref (ad 9), .ref (ad 10), .ref (ad 11), .ref (ad 12), .ref (ad 13), .ref (ad 14), .int bn, .int bm, .ref (ad 17), .int la, .int fo, .int fi, .int lp, .ref (ad 22), .int tr_, .int sp, .int ip, .ref (ad 26), .ref (ad 27), .ref (ad 28), .ref (ad 29)])), (ad 9, .inl (E.2 0, 128, .inl nmd)), (ad 10, .inl (E.2 0, 64, .inl pl)), (ad 13, .inl (E.2 0, 8, .inl rw_)), (ad 14, .inl (E.2 0, 8, .inl be))] := hD
    replace hl : lv_has ls 8 [(0, .ref (ad 30)), (1, .int (nI k)), (2, .int (nI (8 - (d + 1)))), (3, .int (nI le)), (4, .int (nI mo))] := hl
    refine lv_iload_n hx hb dX6_tries_0 rfl (lv_at hl 2 rfl) ?_
    refine lv_bipush (v := 8) hx hb dX6_tries_1 rfl ?_
    refine lv_icmp_ne (tgt := 175) hx hb dX6_tries_3 (by decide) (fun c_3 => ?_) (fun c_3 => absurd (fx_eq1 (a := 8 - (d + 1)) (b := 8) c_3 (by omega) (by omega)) (by omega))
    have n_3 := fx_eq0 (a := (8 - (d + 1))) (b := 8) c_3 (by omega) (by omega)
    have htt := htd (8 - (d + 1)) (by omega)
    have htt2 := htt.2
    refine lv_iconst (v := 0) hx hb dX6_tries_175 rfl ?_
    refine lv_istore (lv' := [(5, .int 0), (0, .ref (ad 30)), (1, .int (nI k)), (2, .int (nI (8 - (d + 1)))), (3, .int (nI le)), (4, .int (nI mo))]) hx hb dX6_tries_176 hl (by decide) rfl (fun ls hl => ?_)
    have loop_178 : ∀ (n_178 : Nat) (n : Nat) (bmv : Int32) (bnv : Int32) (nmv : Nat → Int32) (plv : Nat → Int32) (rwv : Nat → Int32) (bev : Nat → Int32), (min le (9 - rn (8 - (d + 1))) + 1 - n < n_178) → (n ≤ min le (9 - rn (8 - (d + 1))) + 1) → (bmv = (itr (fun n b => enL (bdT rn) (lfT (netF sa T k rn wo)) d (upN ex (8 - (d + 1)) n) (le - n) (mo + n) b) n (bm, bn, bx)).1 ∧ bnv = (itr (fun n b => enL (bdT rn) (lfT (netF sa T k rn wo)) d (upN ex (8 - (d + 1)) n) (le - n) (mo + n) b) n (bm, bn, bx)).2.1) → (bmv ≠ -1 ∨ n = 0) → (bmv = -1 ∨ ∀ i, i < 8 → bev i = nI (rn i + (itr (fun n b => enL (bdT rn) (lfT (netF sa T k rn wo)) d (upN ex (8 - (d + 1)) n) (le - n) (mo + n) b) n (bm, bn, bx)).2.2 i)) → (∀ i, i < (8 - (d + 1)) → rwv i = rw_ i) → ∀ (H : Heap) (locs : List Loc), va_P E.1 clA [(ad 30, .inr (6, [.ref (ad 0), .ref (ad 1), .int im, .ref (ad 3), .int at_, .int op, .int st_, .int us, .ref (ad 8), .ref (ad 9), .ref (ad 10), .ref (ad 11), .ref (ad 12), .ref (ad 13), .ref (ad 14), .int bnv, .int bmv, .ref (ad 17), .int la, .int fo, .int fi, .int lp, .ref (ad 22), .int tr_, .int sp, .int ip, .ref (ad 26), .ref (ad 27), .ref (ad 28), .ref (ad 29)])), (ad 9, .inl (E.2 0, 128, .inl nmv)), (ad 10, .inl (E.2 0, 64, .inl plv)), (ad 13, .inl (E.2 0, 8, .inl rwv)), (ad 14, .inl (E.2 0, 8, .inl bev))] H → va_D A [(ad 30, .inr (6, [.ref (ad 0), .ref (ad 1), .int im, .ref (ad 3), .int at_, .int op, .int st_, .int us, .ref (ad 8), .ref (ad 9), .ref (ad 10), .ref (ad 11), .ref (ad 12), .ref (ad 13), .ref (ad 14), .int bnv, .int bmv, .ref (ad 17), .int la, .int fo, .int fi, .int lp, .ref (ad 22), .int tr_, .int sp, .int ip, .ref (ad 26), .ref (ad 27), .ref (ad 28), .ref (ad 29)])), (ad 9, .inl (E.2 0, 128, .inl nmv)), (ad 10, .inl (E.2 0, 64, .inl plv)), (ad 13, .inl (E.2 0, 8, .inl rwv)), (ad 14, .inl (E.2 0, 8, .inl bev))] → va_S A s.heap H locs → ∀ (ls : Array Slot), lv_has ls 8 [(5, .int (nI n)), (0, .ref (ad 30)), (1, .int (nI k)), (2, .int (nI (8 - (d + 1)))), (3, .int (nI le)), (4, .int (nI mo))] → W p l e (rmX6_tries (d + 1)) s m args below meth c H locs 0 0 Q (F0 m 178 ls []) := by
      intro n_178
      induction n_178 with
      | zero => intro n bmv bnv nmv plv rwv bev hm_178; exact absurd hm_178 (Nat.not_lt_zero _)
      | succ n_178 ih_178 =>
        intro n bmv bnv nmv plv rwv bev hm_178 hn hB hm1 hbe3 hr3 H locs hP hD hS ls hl
        refine lv_iload hx hb dX6_tries_178 (lv_at hl 0 rfl) ?_
        refine lv_iload_n hx hb dX6_tries_180 rfl (lv_at hl 4 rfl) ?_
        refine lv_icmp_gt (tgt := 236) hx hb dX6_tries_181 (by decide) (fun c_181 => ?_) (fun c_181 => ?_)
        · -- jump 236
          have n_181 := fx_lt1 (a := le) (b := n) c_181 (by omega) (by omega)
          have hne : n = min le (9 - rn (8 - (d + 1))) + 1 := by omega
          refine lv_aload_n hx hb dX6_tries_236 rfl (lv_at hl 1 rfl) ?_
          refine fx_get X hE hP 0 rfl rfl 13 rfl q1181 rfl rfl dX6_tries_237 ?_
          refine lv_iload_n hx hb dX6_tries_240 rfl (lv_at hl 3 rfl) ?_
          refine lv_aload_n hx hb dX6_tries_241 rfl (lv_at hl 1 rfl) ?_
          refine fx_get X hE hP 0 rfl rfl 11 rfl q1179 rfl rfl dX6_tries_242 ?_
          refine lv_iload_n hx hb dX6_tries_245 rfl (lv_at hl 3 rfl) ?_
          refine fx_iald X hE (hR.at hS) 1 rfl (8 - (d + 1)) rfl (by omega) rfl dX6_tries_246 ?_
          refine fx_ti (show (td (8 - (d + 1))) = nI (rn (8 - (d + 1))) from htt.1) ?_
          refine fx_iast (ws' := [(ad 30, .inr (6, [.ref (ad 0), .ref (ad 1), .int im, .ref (ad 3), .int at_, .int op, .int st_, .int us, .ref (ad 8), .ref (ad 9), .ref (ad 10), .ref (ad 11), .ref (ad 12), .ref (ad 13), .ref (ad 14), .int bnv, .int bmv, .ref (ad 17), .int la, .int fo, .int fi, .int lp, .ref (ad 22), .int tr_, .int sp, .int ip, .ref (ad 26), .ref (ad 27), .ref (ad 28), .ref (ad 29)])), (ad 9, .inl (E.2 0, 128, .inl nmv)), (ad 10, .inl (E.2 0, 64, .inl plv)), (ad 13, .inl (E.2 0, 8, .inl (upd rwv (8 - (d + 1)) (nI (rn (8 - (d + 1))))))), (ad 14, .inl (E.2 0, 8, .inl bev))]) X hE hP hD hS 3 rfl (8 - (d + 1)) rfl (by omega) rfl rfl dX6_tries_247 (fun H locs hP hD hS => ?_)
          exact hret (bnv, bmv, nmv, plv, (upd rwv (8 - (d + 1)) (nI (rn (8 - (d + 1))))), bev) (⟨by rw [enL, bdT]; exact hne ▸ hB, hm1.resolve_right (by omega), by rw [enL, bdT]; exact hne ▸ hbe3.resolve_left (hm1.resolve_right (by omega)), fun i hi => (upd_n _ _ (by omega)).trans (hr3 i hi)⟩) hP hD hS (Nat.le_refl _) (Nat.le_refl _) dX6_tries_248
        · -- fall 184
          have n_181 := fx_lt0 (a := le) (b := n) c_181 (by omega) (by omega)
          refine lv_aload_n hx hb dX6_tries_184 rfl (lv_at hl 1 rfl) ?_
          refine fx_get X hE hP 0 rfl rfl 11 rfl q1179 rfl rfl dX6_tries_185 ?_
          refine lv_iload_n hx hb dX6_tries_188 rfl (lv_at hl 3 rfl) ?_
          refine fx_iald X hE (hR.at hS) 1 rfl (8 - (d + 1)) rfl (by omega) rfl dX6_tries_189 ?_
          refine fx_ti (show (td (8 - (d + 1))) = nI (rn (8 - (d + 1))) from htt.1) ?_
          refine lv_iload hx hb dX6_tries_190 (lv_at hl 0 rfl) ?_
          refine lv_iadd hx hb dX6_tries_192 ?_
          refine fx_ti (nI_add (rn (8 - (d + 1))) n) ?_
          refine lv_bipush (v := 9) hx hb dX6_tries_193 rfl ?_
          refine lv_icmp_gt (tgt := 236) hx hb dX6_tries_195 (by decide) (fun c_195 => ?_) (fun c_195 => ?_)
          · -- jump 236
            have n_195 := fx_lt1 (a := 9) (b := (rn (8 - (d + 1)) + n)) c_195 (by omega) (by omega)
            have hne : n = min le (9 - rn (8 - (d + 1))) + 1 := by omega
            refine lv_aload_n hx hb dX6_tries_236 rfl (lv_at hl 1 rfl) ?_
            refine fx_get X hE hP 0 rfl rfl 13 rfl q1181 rfl rfl dX6_tries_237 ?_
            refine lv_iload_n hx hb dX6_tries_240 rfl (lv_at hl 3 rfl) ?_
            refine lv_aload_n hx hb dX6_tries_241 rfl (lv_at hl 1 rfl) ?_
            refine fx_get X hE hP 0 rfl rfl 11 rfl q1179 rfl rfl dX6_tries_242 ?_
            refine lv_iload_n hx hb dX6_tries_245 rfl (lv_at hl 3 rfl) ?_
            refine fx_iald X hE (hR.at hS) 1 rfl (8 - (d + 1)) rfl (by omega) rfl dX6_tries_246 ?_
            refine fx_ti (show (td (8 - (d + 1))) = nI (rn (8 - (d + 1))) from htt.1) ?_
            refine fx_iast (ws' := [(ad 30, .inr (6, [.ref (ad 0), .ref (ad 1), .int im, .ref (ad 3), .int at_, .int op, .int st_, .int us, .ref (ad 8), .ref (ad 9), .ref (ad 10), .ref (ad 11), .ref (ad 12), .ref (ad 13), .ref (ad 14), .int bnv, .int bmv, .ref (ad 17), .int la, .int fo, .int fi, .int lp, .ref (ad 22), .int tr_, .int sp, .int ip, .ref (ad 26), .ref (ad 27), .ref (ad 28), .ref (ad 29)])), (ad 9, .inl (E.2 0, 128, .inl nmv)), (ad 10, .inl (E.2 0, 64, .inl plv)), (ad 13, .inl (E.2 0, 8, .inl (upd rwv (8 - (d + 1)) (nI (rn (8 - (d + 1))))))), (ad 14, .inl (E.2 0, 8, .inl bev))]) X hE hP hD hS 3 rfl (8 - (d + 1)) rfl (by omega) rfl rfl dX6_tries_247 (fun H locs hP hD hS => ?_)
            exact hret (bnv, bmv, nmv, plv, (upd rwv (8 - (d + 1)) (nI (rn (8 - (d + 1))))), bev) (⟨by rw [enL, bdT]; exact hne ▸ hB, hm1.resolve_right (by omega), by rw [enL, bdT]; exact hne ▸ hbe3.resolve_left (hm1.resolve_right (by omega)), fun i hi => (upd_n _ _ (by omega)).trans (hr3 i hi)⟩) hP hD hS (Nat.le_refl _) (Nat.le_refl _) dX6_tries_248
          · -- fall 198
            have n_195 := fx_lt0 (a := 9) (b := (rn (8 - (d + 1)) + n)) c_195 (by omega) (by omega)
            refine lv_aload_n hx hb dX6_tries_198 rfl (lv_at hl 1 rfl) ?_
            refine fx_get X hE hP 0 rfl rfl 13 rfl q1181 rfl rfl dX6_tries_199 ?_
            refine lv_iload_n hx hb dX6_tries_202 rfl (lv_at hl 3 rfl) ?_
            refine lv_aload_n hx hb dX6_tries_203 rfl (lv_at hl 1 rfl) ?_
            refine fx_get X hE hP 0 rfl rfl 11 rfl q1179 rfl rfl dX6_tries_204 ?_
            refine lv_iload_n hx hb dX6_tries_207 rfl (lv_at hl 3 rfl) ?_
            refine fx_iald X hE (hR.at hS) 1 rfl (8 - (d + 1)) rfl (by omega) rfl dX6_tries_208 ?_
            refine fx_ti (show (td (8 - (d + 1))) = nI (rn (8 - (d + 1))) from htt.1) ?_
            refine lv_iload hx hb dX6_tries_209 (lv_at hl 0 rfl) ?_
            refine lv_iadd hx hb dX6_tries_211 ?_
            refine fx_ti (nI_add (rn (8 - (d + 1))) n) ?_
            refine fx_iast (ws' := [(ad 30, .inr (6, [.ref (ad 0), .ref (ad 1), .int im, .ref (ad 3), .int at_, .int op, .int st_, .int us, .ref (ad 8), .ref (ad 9), .ref (ad 10), .ref (ad 11), .ref (ad 12), .ref (ad 13), .ref (ad 14), .int bnv, .int bmv, .ref (ad 17), .int la, .int fo, .int fi, .int lp, .ref (ad 22), .int tr_, .int sp, .int ip, .ref (ad 26), .ref (ad 27), .ref (ad 28), .ref (ad 29)])), (ad 9, .inl (E.2 0, 128, .inl nmv)), (ad 10, .inl (E.2 0, 64, .inl plv)), (ad 13, .inl (E.2 0, 8, .inl (upd rwv (8 - (d + 1)) (nI (rn (8 - (d + 1)) + n))))), (ad 14, .inl (E.2 0, 8, .inl bev))]) X hE hP hD hS 3 rfl (8 - (d + 1)) rfl (by omega) rfl rfl dX6_tries_212 (fun H locs hP hD hS => ?_)
            refine lv_aload_n hx hb dX6_tries_213 rfl (lv_at hl 1 rfl) ?_
            refine lv_iload_n hx hb dX6_tries_214 rfl (lv_at hl 2 rfl) ?_
            refine lv_iload_n hx hb dX6_tries_215 rfl (lv_at hl 3 rfl) ?_
            refine lv_iconst (v := 1) hx hb dX6_tries_216 rfl ?_
            refine lv_iadd hx hb dX6_tries_217 ?_
            refine fx_ti (nI_add (8 - (d + 1)) 1) ?_
            refine fx_ti (show nI (8 - (d + 1) + 1) = nI (8 - d) from congrArg nI (by omega)) ?_
            refine lv_iload_n hx hb dX6_tries_218 rfl (lv_at hl 4 rfl) ?_
            refine lv_iload hx hb dX6_tries_219 (lv_at hl 0 rfl) ?_
            refine lv_isub hx hb dX6_tries_221 ?_
            refine fx_ti (pk_sub (a := le) (b := n) (by omega)) ?_
            refine lv_iload hx hb dX6_tries_222 (lv_at hl 5 rfl) ?_
            refine lv_iload hx hb dX6_tries_224 (lv_at hl 0 rfl) ?_
            refine lv_iadd hx hb dX6_tries_226 ?_
            refine fx_ti (nI_add mo n) ?_
            refine fx_cv (va_runV (As := [.int (nI k), .int (nI (8 - d)), .int (nI (le - n)), .int (nI (mo + n))]) (rest := []) X (ih ad im at_ op st_ us bnv bmv la fo fi lp tr_ sp ip sa nmv plv td (upd rwv (8 - (d + 1)) (nI (rn (8 - (d + 1)) + n))) bev wo k T rn (upN ex (8 - (d + 1)) n) ((itr (fun n b => enL (bdT rn) (lfT (netF sa T k rn wo)) d (upN ex (8 - (d + 1)) n) (le - n) (mo + n) b) n (bm, bn, bx)).2.2) (le - n) (mo + n) (by omega) (by first | assumption | omega) (by first | assumption | omega) (by first | assumption | omega) (by first | assumption | omega) (by first | assumption | omega) (by rw [show 8 - d = 8 - (d + 1) + 1 by omega]; exact row_s (fun i hi => ⟨(hr3 i hi).trans (hrw i hi).1, (hrw i hi).2⟩) (by omega)) (by omega) (by omega) hbe3 _) (cwV 4 X.2.2.2.2 (lw_V q1466 q1468 qs59 q75 q1469) rfl rfl rfl ⟨rfl, hdX6_tries⟩ ⟨by simp only [rmX6_tries]; omega, by simp only [rmX6_tries]; omega⟩) (fx_preV (fx_pre hE hP hD hS hR [0, 1, 2, 3, 4] rfl rfl (fx_rcr 0 rfl (fx_rcr 1 rfl (fx_rcr 2 rfl fx_rc0)))) (va_recv hE.1 hP (ci := 6) (q0 := 0) rfl rfl)) rfl rfl hl.1 rfl (lv_room (Nat.le_of_ble_eq_true rfl)) dX6_tries_227 ⟨Nat.le_refl _, Nat.le_refl _⟩) hP hD hS hA [0, 1, 2, 3, 4] rfl rfl (fun u H locs hq_227 hP hD hS => ?_)
            obtain ⟨bn2_227, bm2_227, nm2_227, pl2_227, rw2_227, be2__227⟩ := u
            replace hP : va_P E.1 clA [(ad 30, .inr (6, [.ref (ad 0), .ref (ad 1), .int im, .ref (ad 3), .int at_, .int op, .int st_, .int us, .ref (ad 8), .ref (ad 9), .ref (ad 10), .ref (ad 11), .ref (ad 12), .ref (ad 13), .ref (ad 14), .int bn2_227, .int bm2_227, .ref (ad 17), .int la, .int fo, .int fi, .int lp, .ref (ad 22), .int tr_, .int sp, .int ip, .ref (ad 26), .ref (ad 27), .ref (ad 28), .ref (ad 29)])), (ad 9, .inl (E.2 0, 128, .inl nm2_227)), (ad 10, .inl (E.2 0, 64, .inl pl2_227)), (ad 13, .inl (E.2 0, 8, .inl rw2_227)), (ad 14, .inl (E.2 0, 8, .inl be2__227))] _ := hP
            replace hD : va_D A [(ad 30, .inr (6, [.ref (ad 0), .ref (ad 1), .int im, .ref (ad 3), .int at_, .int op, .int st_, .int us, .ref (ad 8), .ref (ad 9), .ref (ad 10), .ref (ad 11), .ref (ad 12), .ref (ad 13), .ref (ad 14), .int bn2_227, .int bm2_227, .ref (ad 17), .int la, .int fo, .int fi, .int lp, .ref (ad 22), .int tr_, .int sp, .int ip, .ref (ad 26), .ref (ad 27), .ref (ad 28), .ref (ad 29)])), (ad 9, .inl (E.2 0, 128, .inl nm2_227)), (ad 10, .inl (E.2 0, 64, .inl pl2_227)), (ad 13, .inl (E.2 0, 8, .inl rw2_227)), (ad 14, .inl (E.2 0, 8, .inl be2__227))] := hD
            replace hq_227 : (bm2_227 = (enL (bdT rn) (lfT (netF sa T k rn wo)) d (upN ex (8 - (d + 1)) n) (le - n) (mo + n) (bmv, bnv, ((itr (fun n b => enL (bdT rn) (lfT (netF sa T k rn wo)) d (upN ex (8 - (d + 1)) n) (le - n) (mo + n) b) n (bm, bn, bx)).2.2))).1 ∧ bn2_227 = (enL (bdT rn) (lfT (netF sa T k rn wo)) d (upN ex (8 - (d + 1)) n) (le - n) (mo + n) (bmv, bnv, ((itr (fun n b => enL (bdT rn) (lfT (netF sa T k rn wo)) d (upN ex (8 - (d + 1)) n) (le - n) (mo + n) b) n (bm, bn, bx)).2.2))).2.1) ∧ bm2_227 ≠ -1 ∧ (∀ i, i < 8 → be2__227 i = nI (rn i + (enL (bdT rn) (lfT (netF sa T k rn wo)) d (upN ex (8 - (d + 1)) n) (le - n) (mo + n) (bmv, bnv, ((itr (fun n b => enL (bdT rn) (lfT (netF sa T k rn wo)) d (upN ex (8 - (d + 1)) n) (le - n) (mo + n) b) n (bm, bn, bx)).2.2))).2.2 i)) ∧ (∀ i, i < 8 - d → rw2_227 i = (upd rwv (8 - (d + 1)) (nI (rn (8 - (d + 1)) + n))) i) := hq_227
            refine lv_iinc (v := nI (n + 1)) (lv' := [(5, .int (nI (n + 1))), (0, .ref (ad 30)), (1, .int (nI k)), (2, .int (nI (8 - (d + 1)))), (3, .int (nI le)), (4, .int (nI mo))]) hx hb dX6_tries_230 hl (k := 0) rfl (fx_inc _) (by decide) rfl (fun ls hl => ?_)
            refine lv_goto (tgt := 178) hx hb dX6_tries_233 (by decide) ?_
            exact ih_178 (n + 1) bm2_227 bn2_227 nm2_227 pl2_227 rw2_227 be2__227 (by omega) (by omega) (by have h1 := hq_227.1; rw [bst_eta hB.1 hB.2] at h1; exact h1) (Or.inl hq_227.2.1) (Or.inr (by have h1 := hq_227.2.2.1; rw [bst_eta hB.1 hB.2] at h1; exact h1)) (fun i hi => by rw [hq_227.2.2.2 i (by omega), upd_n _ _ (by omega), hr3 i hi]) _ _ hP hD hS ls (lv_sub hl [0, 1, 2, 3, 4, 5] rfl)
    exact loop_178 ((min le (9 - rn (8 - (d + 1))) + 1 - 0) + 1) 0 bm bn nmd pl rw_ be (Nat.lt_succ_self _) (Nat.zero_le _) (⟨rfl, rfl⟩) (Or.inr rfl) hbe (fun i hi => rfl) _ _ hP hD hS ls (lv_sub hl [0, 1, 2, 3, 4, 5] rfl)
