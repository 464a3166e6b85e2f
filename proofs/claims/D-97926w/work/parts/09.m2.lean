set_option maxRecDepth 100000
theorem hdX6_joined : yX6_joined.cls ≠ "java/lang/invoke/MethodHandle" ∧ yX6_joined.cls ≠ "java/lang/invoke/VarHandle" ∧ (parseMethodDescriptor yX6_joined.desc).map (fun d => d.parameters.length) = some 3 := by decide +kernel
theorem hdX6_hasText : yX6_hasText.cls ≠ "java/lang/invoke/MethodHandle" ∧ yX6_hasText.cls ≠ "java/lang/invoke/VarHandle" ∧ (parseMethodDescriptor yX6_hasText.desc).map (fun d => d.parameters.length) = some 1 := by decide +kernel
theorem hdX6_worked : yX6_worked.cls ≠ "java/lang/invoke/MethodHandle" ∧ yX6_worked.cls ≠ "java/lang/invoke/VarHandle" ∧ (parseMethodDescriptor yX6_worked.desc).map (fun d => d.parameters.length) = some 1 := by decide +kernel
theorem hdX6_asked : yX6_asked.cls ≠ "java/lang/invoke/MethodHandle" ∧ yX6_asked.cls ≠ "java/lang/invoke/VarHandle" ∧ (parseMethodDescriptor yX6_asked.desc).map (fun d => d.parameters.length) = some 3 := by decide +kernel
theorem hdX6_values : yX6_values.cls ≠ "java/lang/invoke/MethodHandle" ∧ yX6_values.cls ≠ "java/lang/invoke/VarHandle" ∧ (parseMethodDescriptor yX6_values.desc).map (fun d => d.parameters.length) = some 1 := by decide +kernel
theorem hdX6_paid : yX6_paid.cls ≠ "java/lang/invoke/MethodHandle" ∧ yX6_paid.cls ≠ "java/lang/invoke/VarHandle" ∧ (parseMethodDescriptor yX6_paid.desc).map (fun d => d.parameters.length) = some 2 := by decide +kernel
abbrev rmX6_joined : Room := { frames := 0, cells := 0, slots := 0, locals := 0 }
set_option maxHeartbeats 400000 in
set_option maxRecDepth 100000 in
theorem mX6_joined (l : Launch) (E : fx_En) (cz : Nat) (x : Int32) (y : Int32) (hc : sgn cz) : fx_Mi l yX6_joined cX6_joined 3 .int rmX6_joined E [.int (nI cz), .int x, .int y] [] [] (S := Unit) (fun (u : Unit) => []) (fun (r : Int32) (u : Unit) => r = jn (nI cz) x y) := by
  refine fx_iW rfl rfl ?_
  intro p e s m args below meth c A ls Q X hE hP hD hR hA hl hret
  have hx := X.1
  have hb := X.2.1
  have hS : va_S A s.heap s.heap [] := va_S.rf
  replace hl : lv_has ls 3 [(0, .int (nI cz)), (1, .int x), (2, .int y)] := hl
  refine lv_iload_n hx hb dX6_joined_0 rfl (lv_at hl 0 rfl) ?_
  rcases hc with rfl | rfl | rfl | rfl | rfl | rfl | rfl | rfl | rfl | rfl
  ·
    refine lv_tableIn (tgt := 154) (off := 153) hx hb dX6_joined_1 (by decide) (by decide) rfl (by decide) ?_
    refine lv_iload_n hx hb dX6_joined_154 rfl (lv_at hl 2 rfl) ?_
    refine lv_if_eq (tgt := 163) hx hb dX6_joined_155 (by decide) (fun c_155 => ?_) (fun c_155 => ?_)
    · -- jump 163
      refine lv_iconst (v := 0) hx hb dX6_joined_163 rfl ?_
      refine lv_goto (tgt := 170) hx hb dX6_joined_164 (by decide) ?_
      exact hret 0 () (by show _ = jn 37 x y; simp [jn, fx_b, eq_true c_155]) (rfl) hP hD hS (Nat.le_refl _) (Nat.le_refl _) dX6_joined_170
    · -- fall 158
      refine lv_iload_n hx hb dX6_joined_158 rfl (lv_at hl 2 rfl) ?_
      refine lv_iconst (v := (-1)) hx hb dX6_joined_159 rfl ?_
      refine lv_icmp_ne (tgt := 167) hx hb dX6_joined_160 (by decide) (fun c_160 => ?_) (fun c_160 => ?_)
      · -- jump 167
        refine lv_iload_n hx hb dX6_joined_167 rfl (lv_at hl 1 rfl) ?_
        refine lv_iload_n hx hb dX6_joined_168 rfl (lv_at hl 2 rfl) ?_
        refine lv_irem hx hb dX6_joined_169 c_155 ?_
        exact hret (x - x / y * y) () (by show _ = jn 37 x y; simp [jn, fx_b, c_155, c_160]) (rfl) hP hD hS (Nat.le_refl _) (Nat.le_refl _) dX6_joined_170
      · -- fall 163
        refine lv_iconst (v := 0) hx hb dX6_joined_163 rfl ?_
        refine lv_goto (tgt := 170) hx hb dX6_joined_164 (by decide) ?_
        exact hret 0 () (by show _ = jn 37 x y; subst c_160; simp [jn, rm1]) (rfl) hP hD hS (Nat.le_refl _) (Nat.le_refl _) dX6_joined_170
  ·
    refine lv_tableIn (tgt := 204) (off := 203) hx hb dX6_joined_1 (by decide) (by decide) rfl (by decide) ?_
    refine lv_iload_n hx hb dX6_joined_204 rfl (lv_at hl 1 rfl) ?_
    refine lv_if_eq (tgt := 216) hx hb dX6_joined_205 (by decide) (fun c_205 => ?_) (fun c_205 => ?_)
    · -- jump 216
      refine lv_iconst (v := 0) hx hb dX6_joined_216 rfl ?_
      exact hret 0 () (by show _ = jn 38 x y; simp [jn, fx_b, eq_true c_205]) (rfl) hP hD hS (Nat.le_refl _) (Nat.le_refl _) dX6_joined_217
    · -- fall 208
      refine lv_iload_n hx hb dX6_joined_208 rfl (lv_at hl 2 rfl) ?_
      refine lv_if_eq (tgt := 216) hx hb dX6_joined_209 (by decide) (fun c_209 => ?_) (fun c_209 => ?_)
      · -- jump 216
        refine lv_iconst (v := 0) hx hb dX6_joined_216 rfl ?_
        exact hret 0 () (by show _ = jn 38 x y; simp [jn, fx_b, c_205, eq_true c_209]) (rfl) hP hD hS (Nat.le_refl _) (Nat.le_refl _) dX6_joined_217
      · -- fall 212
        refine lv_iconst (v := 1) hx hb dX6_joined_212 rfl ?_
        refine lv_goto (tgt := 217) hx hb dX6_joined_213 (by decide) ?_
        exact hret 1 () (by show _ = jn 38 x y; simp [jn, fx_b, c_205, c_209]) (rfl) hP hD hS (Nat.le_refl _) (Nat.le_refl _) dX6_joined_217
  ·
    refine lv_tableIn (tgt := 128) (off := 127) hx hb dX6_joined_1 (by decide) (by decide) rfl (by decide) ?_
    refine lv_iload_n hx hb dX6_joined_128 rfl (lv_at hl 1 rfl) ?_
    refine lv_iload_n hx hb dX6_joined_129 rfl (lv_at hl 2 rfl) ?_
    refine lv_imul hx hb dX6_joined_130 ?_
    exact hret (x * y) () (by show _ = jn 42 x y; simp [jn, fx_b]) (rfl) hP hD hS (Nat.le_refl _) (Nat.le_refl _) dX6_joined_131
  ·
    refine lv_tableIn (tgt := 120) (off := 119) hx hb dX6_joined_1 (by decide) (by decide) rfl (by decide) ?_
    refine lv_iload_n hx hb dX6_joined_120 rfl (lv_at hl 1 rfl) ?_
    refine lv_iload_n hx hb dX6_joined_121 rfl (lv_at hl 2 rfl) ?_
    refine lv_iadd hx hb dX6_joined_122 ?_
    exact hret (x + y) () (by show _ = jn 43 x y; simp [jn, fx_b]) (rfl) hP hD hS (Nat.le_refl _) (Nat.le_refl _) dX6_joined_123
  ·
    refine lv_tableIn (tgt := 124) (off := 123) hx hb dX6_joined_1 (by decide) (by decide) rfl (by decide) ?_
    refine lv_iload_n hx hb dX6_joined_124 rfl (lv_at hl 1 rfl) ?_
    refine lv_iload_n hx hb dX6_joined_125 rfl (lv_at hl 2 rfl) ?_
    refine lv_isub hx hb dX6_joined_126 ?_
    exact hret (x - y) () (by show _ = jn 45 x y; simp [jn, fx_b]) (rfl) hP hD hS (Nat.le_refl _) (Nat.le_refl _) dX6_joined_127
  ·
    refine lv_tableIn (tgt := 132) (off := 131) hx hb dX6_joined_1 (by decide) (by decide) rfl (by decide) ?_
    refine lv_iload_n hx hb dX6_joined_132 rfl (lv_at hl 2 rfl) ?_
    refine lv_if_ne (tgt := 140) hx hb dX6_joined_133 (by decide) (fun c_133 => ?_) (fun c_133 => ?_)
    · -- jump 140
      refine lv_iload_n hx hb dX6_joined_140 rfl (lv_at hl 2 rfl) ?_
      refine lv_iconst (v := (-1)) hx hb dX6_joined_141 rfl ?_
      refine lv_icmp_ne (tgt := 150) hx hb dX6_joined_142 (by decide) (fun c_142 => ?_) (fun c_142 => ?_)
      · -- jump 150
        refine lv_iload_n hx hb dX6_joined_150 rfl (lv_at hl 1 rfl) ?_
        refine lv_iload_n hx hb dX6_joined_151 rfl (lv_at hl 2 rfl) ?_
        refine lv_idiv hx hb dX6_joined_152 c_133 ?_
        exact hret (x / y) () (by show _ = jn 47 x y; simp [jn, fx_b, c_133, c_142]) (rfl) hP hD hS (Nat.le_refl _) (Nat.le_refl _) dX6_joined_153
      · -- fall 145
        refine lv_iload_n hx hb dX6_joined_145 rfl (lv_at hl 1 rfl) ?_
        refine lv_ineg hx hb dX6_joined_146 ?_
        refine lv_goto (tgt := 153) hx hb dX6_joined_147 (by decide) ?_
        exact hret (-x) () (by show _ = jn 47 x y; subst c_142; simp [jn, dm1]) (rfl) hP hD hS (Nat.le_refl _) (Nat.le_refl _) dX6_joined_153
    · -- fall 136
      refine lv_iconst (v := 0) hx hb dX6_joined_136 rfl ?_
      refine lv_goto (tgt := 153) hx hb dX6_joined_137 (by decide) ?_
      exact hret 0 () (by show _ = jn 47 x y; simp [jn, fx_b, eq_true c_133]) (rfl) hP hD hS (Nat.le_refl _) (Nat.le_refl _) dX6_joined_153
  ·
    refine lv_tableIn (tgt := 171) (off := 170) hx hb dX6_joined_1 (by decide) (by decide) rfl (by decide) ?_
    refine lv_iload_n hx hb dX6_joined_171 rfl (lv_at hl 1 rfl) ?_
    refine lv_iload_n hx hb dX6_joined_172 rfl (lv_at hl 2 rfl) ?_
    refine lv_icmp_ge (tgt := 180) hx hb dX6_joined_173 (by decide) (fun c_173 => ?_) (fun c_173 => ?_)
    · -- jump 180
      refine lv_iconst (v := 0) hx hb dX6_joined_180 rfl ?_
      exact hret 0 () (by show _ = jn 60 x y; simp [jn, fx_b, c_173, Int32.not_lt.2 c_173]) (rfl) hP hD hS (Nat.le_refl _) (Nat.le_refl _) dX6_joined_181
    · -- fall 176
      refine lv_iconst (v := 1) hx hb dX6_joined_176 rfl ?_
      refine lv_goto (tgt := 181) hx hb dX6_joined_177 (by decide) ?_
      exact hret 1 () (by show _ = jn 60 x y; simp [jn, fx_b, c_173, Int32.not_le.1 c_173]) (rfl) hP hD hS (Nat.le_refl _) (Nat.le_refl _) dX6_joined_181
  ·
    refine lv_tableIn (tgt := 193) (off := 192) hx hb dX6_joined_1 (by decide) (by decide) rfl (by decide) ?_
    refine lv_iload_n hx hb dX6_joined_193 rfl (lv_at hl 1 rfl) ?_
    refine lv_iload_n hx hb dX6_joined_194 rfl (lv_at hl 2 rfl) ?_
    refine lv_icmp_ne (tgt := 202) hx hb dX6_joined_195 (by decide) (fun c_195 => ?_) (fun c_195 => ?_)
    · -- jump 202
      refine lv_iconst (v := 0) hx hb dX6_joined_202 rfl ?_
      exact hret 0 () (by show _ = jn 61 x y; simp [jn, fx_b, c_195]) (rfl) hP hD hS (Nat.le_refl _) (Nat.le_refl _) dX6_joined_203
    · -- fall 198
      refine lv_iconst (v := 1) hx hb dX6_joined_198 rfl ?_
      refine lv_goto (tgt := 203) hx hb dX6_joined_199 (by decide) ?_
      exact hret 1 () (by show _ = jn 61 x y; simp [jn, fx_b, eq_true c_195]) (rfl) hP hD hS (Nat.le_refl _) (Nat.le_refl _) dX6_joined_203
  ·
    refine lv_tableIn (tgt := 182) (off := 181) hx hb dX6_joined_1 (by decide) (by decide) rfl (by decide) ?_
    refine lv_iload_n hx hb dX6_joined_182 rfl (lv_at hl 1 rfl) ?_
    refine lv_iload_n hx hb dX6_joined_183 rfl (lv_at hl 2 rfl) ?_
    refine lv_icmp_le (tgt := 191) hx hb dX6_joined_184 (by decide) (fun c_184 => ?_) (fun c_184 => ?_)
    · -- jump 191
      refine lv_iconst (v := 0) hx hb dX6_joined_191 rfl ?_
      exact hret 0 () (by show _ = jn 62 x y; simp [jn, fx_b, c_184, Int32.not_lt.2 c_184]) (rfl) hP hD hS (Nat.le_refl _) (Nat.le_refl _) dX6_joined_192
    · -- fall 187
      refine lv_iconst (v := 1) hx hb dX6_joined_187 rfl ?_
      refine lv_goto (tgt := 192) hx hb dX6_joined_188 (by decide) ?_
      exact hret 1 () (by show _ = jn 62 x y; simp [jn, fx_b, c_184, Int32.not_le.1 c_184]) (rfl) hP hD hS (Nat.le_refl _) (Nat.le_refl _) dX6_joined_192
  ·
    refine lv_tableOut (tgt := 218) hx hb dX6_joined_1 (by decide) (by decide) ?_
    refine lv_iload_n hx hb dX6_joined_218 rfl (lv_at hl 1 rfl) ?_
    refine lv_if_ne (tgt := 226) hx hb dX6_joined_219 (by decide) (fun c_219 => ?_) (fun c_219 => ?_)
    · -- jump 226
      refine lv_iconst (v := 1) hx hb dX6_joined_226 rfl ?_
      refine lv_goto (tgt := 231) hx hb dX6_joined_227 (by decide) ?_
      exact hret 1 () (by show _ = jn 124 x y; simp [jn, fx_b, c_219]) (rfl) hP hD hS (Nat.le_refl _) (Nat.le_refl _) dX6_joined_231
    · -- fall 222
      refine lv_iload_n hx hb dX6_joined_222 rfl (lv_at hl 2 rfl) ?_
      refine lv_if_eq (tgt := 230) hx hb dX6_joined_223 (by decide) (fun c_223 => ?_) (fun c_223 => ?_)
      · -- jump 230
        refine lv_iconst (v := 0) hx hb dX6_joined_230 rfl ?_
        exact hret 0 () (by show _ = jn 124 x y; simp [jn, fx_b, eq_true c_219, eq_true c_223]) (rfl) hP hD hS (Nat.le_refl _) (Nat.le_refl _) dX6_joined_231
      · -- fall 226
        refine lv_iconst (v := 1) hx hb dX6_joined_226 rfl ?_
        refine lv_goto (tgt := 231) hx hb dX6_joined_227 (by decide) ?_
        exact hret 1 () (by show _ = jn 124 x y; simp [jn, fx_b, eq_true c_219, c_223]) (rfl) hP hD hS (Nat.le_refl _) (Nat.le_refl _) dX6_joined_231
abbrev rmX6_hasText : Room := { frames := 0, cells := 0, slots := 0, locals := 0 }
set_option maxHeartbeats 400000 in
set_option maxRecDepth 100000 in
theorem mX6_hasText (l : Launch) (E : fx_En) (ad : Nat → Nat) (im : Int32) (at_ : Int32) (op : Int32) (st_ : Int32) (us : Int32) (bn : Int32) (bm : Int32) (la : Int32) (fo : Int32) (fi : Int32) (lp : Int32) (tr_ : Int32) (sp : Int32) (ip : Int32) (sa : Nat → Int32) (uz : Nat) (T : Tx) (hu : uz < 2) (hT : TM sa uz T) (hTo : TOk T) : fx_Mi l yX6_hasText cX6_hasText 2 .boolean rmX6_hasText E [.ref (ad 30), .int (nI uz)] [] [(ad 30, .inr (6, [.ref (ad 0), .ref (ad 1), .int im, .ref (ad 3), .int at_, .int op, .int st_, .int us, .ref (ad 8), .ref (ad 9), .ref (ad 10), .ref (ad 11), .ref (ad 12), .ref (ad 13), .ref (ad 14), .int bn, .int bm, .ref (ad 17), .int la, .int fo, .int fi, .int lp, .ref (ad 22), .int tr_, .int sp, .int ip, .ref (ad 26), .ref (ad 27), .ref (ad 28), .ref (ad 29)])), (ad 0, .inl (E.2 0, 374, .inl sa))] (S := Unit) (fun (u : Unit) => []) (fun (r : Int32) (u : Unit) => r = fx_b (T.1 ≠ 0)) := by
  refine fx_iW rfl rfl ?_
  intro p e s m args below meth c A ls Q X hE hP hD hR hA hl hret
  have hx := X.1
  have hb := X.2.1
  have hS : va_S A s.heap s.heap [] := va_S.rf
  replace hl : lv_has ls 2 [(0, .ref (ad 30)), (1, .int (nI uz))] := hl
  have hle := hTo.le
  refine lv_aload_n hx hb dX6_hasText_0 rfl (lv_at hl 0 rfl) ?_
  refine fx_get X hE (hR.at hS) 0 rfl rfl 0 rfl q1168 rfl rfl dX6_hasText_1 ?_
  refine lv_bipush (v := 40) hx hb dX6_hasText_4 rfl ?_
  refine lv_bipush (v := 125) hx hb dX6_hasText_6 rfl ?_
  refine lv_iload_n hx hb dX6_hasText_8 rfl (lv_at hl 1 rfl) ?_
  refine lv_imul hx hb dX6_hasText_9 ?_
  refine fx_ti (pk_mul 125 uz) ?_
  refine lv_iadd hx hb dX6_hasText_10 ?_
  refine fx_ti (nI_add 40 (125 * uz)) ?_
  refine fx_iald X hE (hR.at hS) 1 rfl (40 + 125 * uz) rfl (by omega) rfl dX6_hasText_11 ?_
  refine fx_ti (show (sa (40 + 125 * uz)) = nI T.1 from hT.1) ?_
  refine lv_if_le (tgt := 19) hx hb dX6_hasText_12 (by decide) (fun c_12 => ?_) (fun c_12 => ?_)
  · -- jump 19
    have n_12 := fx_le1 (a := T.1) (b := 0) c_12 (by omega) (by omega)
    refine lv_iconst (v := 0) hx hb dX6_hasText_19 rfl ?_
    exact hret 0 () (fx_bf (by omega)) (rfl) hP hD hS (Nat.le_refl _) (Nat.le_refl _) dX6_hasText_20
  · -- fall 15
    have n_12 := fx_le0 (a := T.1) (b := 0) c_12 (by omega) (by omega)
    refine lv_iconst (v := 1) hx hb dX6_hasText_15 rfl ?_
    refine lv_goto (tgt := 20) hx hb dX6_hasText_16 (by decide) ?_
    exact hret 1 () (fx_bt (by omega)) (rfl) hP hD hS (Nat.le_refl _) (Nat.le_refl _) dX6_hasText_20
abbrev rmX6_worked : Room := { frames := 1, cells := 0, slots := 0, locals := 22 }
set_option maxHeartbeats 400000 in
set_option maxRecDepth 100000 in
theorem mX6_worked (l : Launch) (E : fx_En) (ad : Nat → Nat) (im : Int32) (at_ : Int32) (op : Int32) (st_ : Int32) (us : Int32) (bn : Int32) (bm : Int32) (la : Int32) (fo : Int32) (fi : Int32) (lp : Int32) (tr_ : Int32) (sp : Int32) (ip : Int32) (sa : Nat → Int32) (nmd : Nat → Int32) (pl : Nat → Int32) (uz : Nat) (T : Tx) (nm : Nat → Int32) (hu : uz < 2) (hT : TM sa uz T) (hok : okT T) (hnm : ∀ i, i < 3 → nmd (nmC uz i) = nm i) : fx_Mi l yX6_worked cX6_worked 7 .int rmX6_worked E [.ref (ad 30), .int (nI uz)] [(ad 10, .inl (E.2 0, 64, .inl pl))] [(ad 30, .inr (6, [.ref (ad 0), .ref (ad 1), .int im, .ref (ad 3), .int at_, .int op, .int st_, .int us, .ref (ad 8), .ref (ad 9), .ref (ad 10), .ref (ad 11), .ref (ad 12), .ref (ad 13), .ref (ad 14), .int bn, .int bm, .ref (ad 17), .int la, .int fo, .int fi, .int lp, .ref (ad 22), .int tr_, .int sp, .int ip, .ref (ad 26), .ref (ad 27), .ref (ad 28), .ref (ad 29)])), (ad 0, .inl (E.2 0, 374, .inl sa)), (ad 9, .inl (E.2 0, 128, .inl nmd))] (S := (Nat → Int32)) (fun (u : (Nat → Int32)) => [(ad 10, .inl (E.2 0, 64, .inl u))]) (fun (r : Int32) (u : (Nat → Int32)) => r = val T nm) := by
  refine fx_iW rfl rfl ?_
  intro p e s m args below meth c A ls Q X hE hP hD hR hA hl hret
  have hx := X.1
  have hb := X.2.1
  have hS : va_S A s.heap s.heap [] := va_S.rf
  replace hP : va_P E.1 clA [(ad 10, .inl (E.2 0, 64, .inl pl))] _ := hP
  replace hD : va_D A [(ad 10, .inl (E.2 0, 64, .inl pl))] := hD
  replace hl : lv_has ls 7 [(0, .ref (ad 30)), (1, .int (nI uz))] := hl
  have hle := hok.2.1
  refine lv_bipush (v := 40) hx hb dX6_worked_0 rfl ?_
  refine lv_bipush (v := 125) hx hb dX6_worked_2 rfl ?_
  refine lv_iload_n hx hb dX6_worked_4 rfl (lv_at hl 1 rfl) ?_
  refine lv_imul hx hb dX6_worked_5 ?_
  refine fx_ti (pk_mul 125 uz) ?_
  refine lv_iadd hx hb dX6_worked_6 ?_
  refine fx_ti (nI_add 40 (125 * uz)) ?_
  refine lv_istore_n (lv' := [(2, .int (nI (40 + 125 * uz))), (0, .ref (ad 30)), (1, .int (nI uz))]) hx hb dX6_worked_7 rfl hl (by decide) rfl (fun ls hl => ?_)
  refine lv_iconst (v := 0) hx hb dX6_worked_8 rfl ?_
  refine lv_istore_n (lv' := [(3, .int 0), (2, .int (nI (40 + 125 * uz))), (0, .ref (ad 30)), (1, .int (nI uz))]) hx hb dX6_worked_9 rfl hl (by decide) rfl (fun ls hl => ?_)
  refine lv_iconst (v := 0) hx hb dX6_worked_10 rfl ?_
  refine lv_istore (lv' := [(4, .int 0), (3, .int 0), (2, .int (nI (40 + 125 * uz))), (0, .ref (ad 30)), (1, .int (nI uz))]) hx hb dX6_worked_11 hl (by decide) rfl (fun ls hl => ?_)
  have loop_13 : ∀ (n_13 : Nat) (k : Nat) (n : Nat) (pz : Nat → Int32), (T.1 - k < n_13) → (k ≤ T.1) → (agr T nm k n pz) → ∀ (H : Heap) (locs : List Loc), va_P E.1 clA [(ad 10, .inl (E.2 0, 64, .inl pz))] H → va_D A [(ad 10, .inl (E.2 0, 64, .inl pz))] → va_S A s.heap H locs → ∀ (ls : Array Slot), lv_has ls 7 [(4, .int (nI k)), (3, .int (nI n)), (2, .int (nI (40 + 125 * uz))), (0, .ref (ad 30)), (1, .int (nI uz))] → W p l e rmX6_worked s m args below meth c H locs 0 0 Q (F0 m 13 ls []) := by
    intro n_13
    induction n_13 with
    | zero => intro k n pz hm_13; exact absurd hm_13 (Nat.not_lt_zero _)
    | succ n_13 ih_13 =>
      intro k n pz hm_13 hk hag H locs hP hD hS ls hl
      refine lv_iload hx hb dX6_worked_13 (lv_at hl 0 rfl) ?_
      refine lv_aload_n hx hb dX6_worked_15 rfl (lv_at hl 3 rfl) ?_
      refine fx_get X hE (hR.at hS) 0 rfl rfl 0 rfl q1168 rfl rfl dX6_worked_16 ?_
      refine lv_iload_n hx hb dX6_worked_19 rfl (lv_at hl 2 rfl) ?_
      refine fx_iald X hE (hR.at hS) 1 rfl (40 + 125 * uz) rfl (by omega) rfl dX6_worked_20 ?_
      refine fx_ti (show (sa (40 + 125 * uz)) = nI T.1 from hT.1) ?_
      refine lv_icmp_ge (tgt := 163) hx hb dX6_worked_21 (by decide) (fun c_21 => ?_) (fun c_21 => ?_)
      · -- jump 163
        have n_21 := fx_le1 (a := T.1) (b := k) c_21 (by omega) (by omega)
        obtain rfl : k = T.1 := by omega
        refine lv_aload_n hx hb dX6_worked_163 rfl (lv_at hl 3 rfl) ?_
        refine fx_get X hE (hR.at hS) 0 rfl rfl 10 rfl q1178 rfl rfl dX6_worked_164 ?_
        refine lv_iconst (v := 0) hx hb dX6_worked_167 rfl ?_
        refine fx_iald X hE hP 0 rfl 0 rfl (by decide) rfl dX6_worked_168 ?_
        exact hret (pz 0) (pz) (agr_end hag hok) (rfl) hP hD hS (Nat.le_refl _) (Nat.le_refl _) dX6_worked_169
      · -- fall 24
        have n_21 := fx_le0 (a := T.1) (b := k) c_21 (by omega) (by omega)
        have hkl : k < T.1 := n_21
        have hdk := dpT_le T.2.1 k
        have hn1 := hag.1
        rcases hok.2.2 k hkl with e1 | e2 | e3 | e4
        ·
          refine lv_aload_n hx hb dX6_worked_24 rfl (lv_at hl 3 rfl) ?_
          refine fx_get X hE (hR.at hS) 0 rfl rfl 0 rfl q1168 rfl rfl dX6_worked_25 ?_
          refine lv_iload_n hx hb dX6_worked_28 rfl (lv_at hl 2 rfl) ?_
          refine lv_iconst (v := 1) hx hb dX6_worked_29 rfl ?_
          refine lv_iadd hx hb dX6_worked_30 ?_
          refine fx_ti (nI_add (40 + 125 * uz) 1) ?_
          refine lv_iconst (v := 2) hx hb dX6_worked_31 rfl ?_
          refine lv_iload hx hb dX6_worked_32 (lv_at hl 0 rfl) ?_
          refine lv_imul hx hb dX6_worked_34 ?_
          refine fx_ti (pk_mul 2 k) ?_
          refine lv_iadd hx hb dX6_worked_35 ?_
          refine fx_ti (nI_add (40 + 125 * uz + 1) (2 * k)) ?_
          refine fx_iald X hE (hR.at hS) 1 rfl (40 + 125 * uz + 1 + 2 * k) rfl (by omega) rfl dX6_worked_36 ?_
          refine fx_ti (show (sa (40 + 125 * uz + 1 + 2 * k)) = 0 from ((hT.2 k hkl).1.trans (by simp [mw, e1.1]))) ?_
          refine lv_istore (lv' := [(5, .int 0), (4, .int (nI k)), (3, .int (nI n)), (2, .int (nI (40 + 125 * uz))), (0, .ref (ad 30)), (1, .int (nI uz))]) hx hb dX6_worked_37 hl (by decide) rfl (fun ls hl => ?_)
          refine lv_aload_n hx hb dX6_worked_39 rfl (lv_at hl 4 rfl) ?_
          refine fx_get X hE (hR.at hS) 0 rfl rfl 0 rfl q1168 rfl rfl dX6_worked_40 ?_
          refine lv_iload_n hx hb dX6_worked_43 rfl (lv_at hl 3 rfl) ?_
          refine lv_iconst (v := 2) hx hb dX6_worked_44 rfl ?_
          refine lv_iadd hx hb dX6_worked_45 ?_
          refine fx_ti (nI_add (40 + 125 * uz) 2) ?_
          refine lv_iconst (v := 2) hx hb dX6_worked_46 rfl ?_
          refine lv_iload hx hb dX6_worked_47 (lv_at hl 1 rfl) ?_
          refine lv_imul hx hb dX6_worked_49 ?_
          refine fx_ti (pk_mul 2 k) ?_
          refine lv_iadd hx hb dX6_worked_50 ?_
          refine fx_ti (nI_add (40 + 125 * uz + 2) (2 * k)) ?_
          refine fx_iald X hE (hR.at hS) 1 rfl (40 + 125 * uz + 2 + 2 * k) rfl (by omega) rfl dX6_worked_51 ?_
          refine fx_ti (show (sa (40 + 125 * uz + 2 + 2 * k)) = nI (T.2.2 k) from ((hT.2 k hkl).2.trans (by simp [mxv, e1.1]))) ?_
          refine lv_istore (lv' := [(6, .int (nI (T.2.2 k))), (5, .int 0), (4, .int (nI k)), (3, .int (nI n)), (2, .int (nI (40 + 125 * uz))), (0, .ref (ad 30)), (1, .int (nI uz))]) hx hb dX6_worked_52 hl (by decide) rfl (fun ls hl => ?_)
          refine lv_iload hx hb dX6_worked_54 (lv_at hl 1 rfl) ?_
          refine lv_if_eq (tgt := 65) hx hb dX6_worked_56 (by decide) (fun _ => ?_) (fun c => (c (by decide)).elim)
          refine lv_aload_n hx hb dX6_worked_65 rfl (lv_at hl 5 rfl) ?_
          refine fx_get X hE (hR.at hS) 0 rfl rfl 10 rfl q1178 rfl rfl dX6_worked_66 ?_
          refine lv_iload_n hx hb dX6_worked_69 rfl (lv_at hl 3 rfl) ?_
          refine lv_iload hx hb dX6_worked_70 (lv_at hl 1 rfl) ?_
          refine lv_if_ne (tgt := 80) hx hb dX6_worked_72 (by decide) (fun c => (c (by decide)).elim) (fun _ => ?_)
          refine lv_iload hx hb dX6_worked_75 (lv_at hl 0 rfl) ?_
          refine lv_goto (tgt := 87) hx hb dX6_worked_77 (by decide) ?_
          refine fx_iast (ws' := [(ad 10, .inl (E.2 0, 64, .inl (upd pz n (nI (T.2.2 k)))))]) X hE hP hD hS 0 rfl n rfl (by omega) rfl rfl dX6_worked_87 (fun H locs hP hD hS => ?_)
          refine lv_iinc (v := nI (n + 1)) (lv' := [(3, .int (nI (n + 1))), (6, .int (nI (T.2.2 k))), (5, .int 0), (4, .int (nI k)), (2, .int (nI (40 + 125 * uz))), (0, .ref (ad 30)), (1, .int (nI uz))]) hx hb dX6_worked_88 hl (k := 3) rfl (fx_inc _) (by decide) rfl (fun ls hl => ?_)
          refine lv_goto (tgt := 157) hx hb dX6_worked_91 (by decide) ?_
          refine lv_iinc (v := nI (k + 1)) (lv' := [(4, .int (nI (k + 1))), (3, .int (nI (n + 1))), (6, .int (nI (T.2.2 k))), (5, .int 0), (2, .int (nI (40 + 125 * uz))), (0, .ref (ad 30)), (1, .int (nI uz))]) hx hb dX6_worked_157 hl (k := 3) rfl (fx_inc _) (by decide) rfl (fun ls hl => ?_)
          refine lv_goto (tgt := 13) hx hb dX6_worked_160 (by decide) ?_
          exact ih_13 (k + 1) (n + 1) (upd pz n (nI (T.2.2 k))) (by omega) (by omega) (agr_1 hag e1.1) _ _ hP hD hS ls (lv_sub hl [0, 1, 4, 5, 6] rfl)
        ·
          refine lv_aload_n hx hb dX6_worked_24 rfl (lv_at hl 3 rfl) ?_
          refine fx_get X hE (hR.at hS) 0 rfl rfl 0 rfl q1168 rfl rfl dX6_worked_25 ?_
          refine lv_iload_n hx hb dX6_worked_28 rfl (lv_at hl 2 rfl) ?_
          refine lv_iconst (v := 1) hx hb dX6_worked_29 rfl ?_
          refine lv_iadd hx hb dX6_worked_30 ?_
          refine fx_ti (nI_add (40 + 125 * uz) 1) ?_
          refine lv_iconst (v := 2) hx hb dX6_worked_31 rfl ?_
          refine lv_iload hx hb dX6_worked_32 (lv_at hl 0 rfl) ?_
          refine lv_imul hx hb dX6_worked_34 ?_
          refine fx_ti (pk_mul 2 k) ?_
          refine lv_iadd hx hb dX6_worked_35 ?_
          refine fx_ti (nI_add (40 + 125 * uz + 1) (2 * k)) ?_
          refine fx_iald X hE (hR.at hS) 1 rfl (40 + 125 * uz + 1 + 2 * k) rfl (by omega) rfl dX6_worked_36 ?_
          refine fx_ti (show (sa (40 + 125 * uz + 1 + 2 * k)) = 1 from ((hT.2 k hkl).1.trans (by simp [mw, e2.1]))) ?_
          refine lv_istore (lv' := [(5, .int 1), (4, .int (nI k)), (3, .int (nI n)), (2, .int (nI (40 + 125 * uz))), (0, .ref (ad 30)), (1, .int (nI uz))]) hx hb dX6_worked_37 hl (by decide) rfl (fun ls hl => ?_)
          refine lv_aload_n hx hb dX6_worked_39 rfl (lv_at hl 4 rfl) ?_
          refine fx_get X hE (hR.at hS) 0 rfl rfl 0 rfl q1168 rfl rfl dX6_worked_40 ?_
          refine lv_iload_n hx hb dX6_worked_43 rfl (lv_at hl 3 rfl) ?_
          refine lv_iconst (v := 2) hx hb dX6_worked_44 rfl ?_
          refine lv_iadd hx hb dX6_worked_45 ?_
          refine fx_ti (nI_add (40 + 125 * uz) 2) ?_
          refine lv_iconst (v := 2) hx hb dX6_worked_46 rfl ?_
          refine lv_iload hx hb dX6_worked_47 (lv_at hl 1 rfl) ?_
          refine lv_imul hx hb dX6_worked_49 ?_
          refine fx_ti (pk_mul 2 k) ?_
          refine lv_iadd hx hb dX6_worked_50 ?_
          refine fx_ti (nI_add (40 + 125 * uz + 2) (2 * k)) ?_
          refine fx_iald X hE (hR.at hS) 1 rfl (40 + 125 * uz + 2 + 2 * k) rfl (by omega) rfl dX6_worked_51 ?_
          refine fx_ti (show (sa (40 + 125 * uz + 2 + 2 * k)) = nI (nmC uz (T.2.2 k)) from ((hT.2 k hkl).2.trans (by simp [mxv, e2.1]))) ?_
          refine lv_istore (lv' := [(6, .int (nI (nmC uz (T.2.2 k)))), (5, .int 1), (4, .int (nI k)), (3, .int (nI n)), (2, .int (nI (40 + 125 * uz))), (0, .ref (ad 30)), (1, .int (nI uz))]) hx hb dX6_worked_52 hl (by decide) rfl (fun ls hl => ?_)
          refine lv_iload hx hb dX6_worked_54 (lv_at hl 1 rfl) ?_
          refine lv_if_eq (tgt := 65) hx hb dX6_worked_56 (by decide) (fun c => absurd c (by decide)) (fun _ => ?_)
          refine lv_iload hx hb dX6_worked_59 (lv_at hl 1 rfl) ?_
          refine lv_iconst (v := 1) hx hb dX6_worked_61 rfl ?_
          refine lv_icmp_ne (tgt := 94) hx hb dX6_worked_62 (by decide) (fun c => (c (by decide)).elim) (fun _ => ?_)
          refine lv_aload_n hx hb dX6_worked_65 rfl (lv_at hl 5 rfl) ?_
          refine fx_get X hE (hR.at hS) 0 rfl rfl 10 rfl q1178 rfl rfl dX6_worked_66 ?_
          refine lv_iload_n hx hb dX6_worked_69 rfl (lv_at hl 3 rfl) ?_
          refine lv_iload hx hb dX6_worked_70 (lv_at hl 1 rfl) ?_
          refine lv_if_ne (tgt := 80) hx hb dX6_worked_72 (by decide) (fun _ => ?_) (fun c => absurd c (by decide))
          refine lv_aload_n hx hb dX6_worked_80 rfl (lv_at hl 5 rfl) ?_
          refine fx_get X hE (hR.at hS) 0 rfl rfl 9 rfl q1177 rfl rfl dX6_worked_81 ?_
          refine lv_iload hx hb dX6_worked_84 (lv_at hl 0 rfl) ?_
          refine fx_iald X hE (hR.at hS) 2 rfl (nmC uz (T.2.2 k)) rfl (nmC_lt _ _) rfl dX6_worked_86 ?_
          refine fx_iast (ws' := [(ad 10, .inl (E.2 0, 64, .inl (upd pz n (nmd (nmC uz (T.2.2 k))))))]) X hE hP hD hS 0 rfl n rfl (by omega) rfl rfl dX6_worked_87 (fun H locs hP hD hS => ?_)
          refine lv_iinc (v := nI (n + 1)) (lv' := [(3, .int (nI (n + 1))), (6, .int (nI (nmC uz (T.2.2 k)))), (5, .int 1), (4, .int (nI k)), (2, .int (nI (40 + 125 * uz))), (0, .ref (ad 30)), (1, .int (nI uz))]) hx hb dX6_worked_88 hl (k := 3) rfl (fx_inc _) (by decide) rfl (fun ls hl => ?_)
          refine lv_goto (tgt := 157) hx hb dX6_worked_91 (by decide) ?_
          refine lv_iinc (v := nI (k + 1)) (lv' := [(4, .int (nI (k + 1))), (3, .int (nI (n + 1))), (6, .int (nI (nmC uz (T.2.2 k)))), (5, .int 1), (2, .int (nI (40 + 125 * uz))), (0, .ref (ad 30)), (1, .int (nI uz))]) hx hb dX6_worked_157 hl (k := 3) rfl (fx_inc _) (by decide) rfl (fun ls hl => ?_)
          refine lv_goto (tgt := 13) hx hb dX6_worked_160 (by decide) ?_
          exact ih_13 (k + 1) (n + 1) (upd pz n (nmd (nmC uz (T.2.2 k)))) (by omega) (by omega) (agr_2 hag e2.1 (hnm _ e2.2)) _ _ hP hD hS ls (lv_sub hl [0, 1, 4, 5, 6] rfl)
        ·
          have he3 := e3.2.1
          refine lv_aload_n hx hb dX6_worked_24 rfl (lv_at hl 3 rfl) ?_
          refine fx_get X hE (hR.at hS) 0 rfl rfl 0 rfl q1168 rfl rfl dX6_worked_25 ?_
          refine lv_iload_n hx hb dX6_worked_28 rfl (lv_at hl 2 rfl) ?_
          refine lv_iconst (v := 1) hx hb dX6_worked_29 rfl ?_
          refine lv_iadd hx hb dX6_worked_30 ?_
          refine fx_ti (nI_add (40 + 125 * uz) 1) ?_
          refine lv_iconst (v := 2) hx hb dX6_worked_31 rfl ?_
          refine lv_iload hx hb dX6_worked_32 (lv_at hl 0 rfl) ?_
          refine lv_imul hx hb dX6_worked_34 ?_
          refine fx_ti (pk_mul 2 k) ?_
          refine lv_iadd hx hb dX6_worked_35 ?_
          refine fx_ti (nI_add (40 + 125 * uz + 1) (2 * k)) ?_
          refine fx_iald X hE (hR.at hS) 1 rfl (40 + 125 * uz + 1 + 2 * k) rfl (by omega) rfl dX6_worked_36 ?_
          refine fx_ti (show (sa (40 + 125 * uz + 1 + 2 * k)) = 2 from ((hT.2 k hkl).1.trans (by simp [mw, e3.1]))) ?_
          refine lv_istore (lv' := [(5, .int 2), (4, .int (nI k)), (3, .int (nI n)), (2, .int (nI (40 + 125 * uz))), (0, .ref (ad 30)), (1, .int (nI uz))]) hx hb dX6_worked_37 hl (by decide) rfl (fun ls hl => ?_)
          refine lv_aload_n hx hb dX6_worked_39 rfl (lv_at hl 4 rfl) ?_
          refine fx_get X hE (hR.at hS) 0 rfl rfl 0 rfl q1168 rfl rfl dX6_worked_40 ?_
          refine lv_iload_n hx hb dX6_worked_43 rfl (lv_at hl 3 rfl) ?_
          refine lv_iconst (v := 2) hx hb dX6_worked_44 rfl ?_
          refine lv_iadd hx hb dX6_worked_45 ?_
          refine fx_ti (nI_add (40 + 125 * uz) 2) ?_
          refine lv_iconst (v := 2) hx hb dX6_worked_46 rfl ?_
          refine lv_iload hx hb dX6_worked_47 (lv_at hl 1 rfl) ?_
          refine lv_imul hx hb dX6_worked_49 ?_
          refine fx_ti (pk_mul 2 k) ?_
          refine lv_iadd hx hb dX6_worked_50 ?_
          refine fx_ti (nI_add (40 + 125 * uz + 2) (2 * k)) ?_
          refine fx_iald X hE (hR.at hS) 1 rfl (40 + 125 * uz + 2 + 2 * k) rfl (by omega) rfl dX6_worked_51 ?_
          refine fx_ti (show (sa (40 + 125 * uz + 2 + 2 * k)) = 0 from ((hT.2 k hkl).2.trans (by simp [mxv, e3.1]))) ?_
          refine lv_istore (lv' := [(6, .int 0), (5, .int 2), (4, .int (nI k)), (3, .int (nI n)), (2, .int (nI (40 + 125 * uz))), (0, .ref (ad 30)), (1, .int (nI uz))]) hx hb dX6_worked_52 hl (by decide) rfl (fun ls hl => ?_)
          refine lv_iload hx hb dX6_worked_54 (lv_at hl 1 rfl) ?_
          refine lv_if_eq (tgt := 65) hx hb dX6_worked_56 (by decide) (fun c => absurd c (by decide)) (fun _ => ?_)
          refine lv_iload hx hb dX6_worked_59 (lv_at hl 1 rfl) ?_
          refine lv_iconst (v := 1) hx hb dX6_worked_61 rfl ?_
          refine lv_icmp_ne (tgt := 94) hx hb dX6_worked_62 (by decide) (fun _ => ?_) (fun c => absurd c (by decide))
          refine lv_iload hx hb dX6_worked_94 (lv_at hl 1 rfl) ?_
          refine lv_iconst (v := 2) hx hb dX6_worked_96 rfl ?_
          refine lv_icmp_ne (tgt := 127) hx hb dX6_worked_97 (by decide) (fun c => (c (by decide)).elim) (fun _ => ?_)
          refine lv_aload_n hx hb dX6_worked_100 rfl (lv_at hl 5 rfl) ?_
          refine fx_get X hE (hR.at hS) 0 rfl rfl 10 rfl q1178 rfl rfl dX6_worked_101 ?_
          refine lv_iload_n hx hb dX6_worked_104 rfl (lv_at hl 3 rfl) ?_
          refine lv_iconst (v := 1) hx hb dX6_worked_105 rfl ?_
          refine lv_isub hx hb dX6_worked_106 ?_
          refine fx_ti (pk_sub (a := n) (b := 1) (by omega)) ?_
          refine lv_aload_n hx hb dX6_worked_107 rfl (lv_at hl 5 rfl) ?_
          refine fx_get X hE (hR.at hS) 0 rfl rfl 10 rfl q1178 rfl rfl dX6_worked_108 ?_
          refine lv_iload_n hx hb dX6_worked_111 rfl (lv_at hl 3 rfl) ?_
          refine lv_iconst (v := 1) hx hb dX6_worked_112 rfl ?_
          refine lv_isub hx hb dX6_worked_113 ?_
          refine fx_ti (pk_sub (a := n) (b := 1) (by omega)) ?_
          refine fx_iald X hE hP 0 rfl (n - 1) rfl (by omega) rfl dX6_worked_114 ?_
          refine lv_if_ne (tgt := 122) hx hb dX6_worked_115 (by decide) (fun c_115 => ?_) (fun c_115 => ?_)
          · -- jump 122
            refine lv_iconst (v := 0) hx hb dX6_worked_122 rfl ?_
            refine fx_iast (ws' := [(ad 10, .inl (E.2 0, 64, .inl (upd pz (n - 1) 0)))]) X hE hP hD hS 0 rfl (n - 1) rfl (by omega) rfl rfl dX6_worked_123 (fun H locs hP hD hS => ?_)
            refine lv_goto (tgt := 157) hx hb dX6_worked_124 (by decide) ?_
            refine lv_iinc (v := nI (k + 1)) (lv' := [(4, .int (nI (k + 1))), (6, .int 0), (5, .int 2), (3, .int (nI n)), (2, .int (nI (40 + 125 * uz))), (0, .ref (ad 30)), (1, .int (nI uz))]) hx hb dX6_worked_157 hl (k := 2) rfl (fx_inc _) (by decide) rfl (fun ls hl => ?_)
            refine lv_goto (tgt := 13) hx hb dX6_worked_160 (by decide) ?_
            exact ih_13 (k + 1) n (upd pz (n - 1) 0) (by omega) (by omega) (agr_3 hag e3.1 (by have := e3.2.1; omega) (by simp [c_115])) _ _ hP hD hS ls (lv_sub hl [0, 3, 4, 5, 6] rfl)
          · -- fall 118
            refine lv_iconst (v := 1) hx hb dX6_worked_118 rfl ?_
            refine lv_goto (tgt := 123) hx hb dX6_worked_119 (by decide) ?_
            refine fx_iast (ws' := [(ad 10, .inl (E.2 0, 64, .inl (upd pz (n - 1) 1)))]) X hE hP hD hS 0 rfl (n - 1) rfl (by omega) rfl rfl dX6_worked_123 (fun H locs hP hD hS => ?_)
            refine lv_goto (tgt := 157) hx hb dX6_worked_124 (by decide) ?_
            refine lv_iinc (v := nI (k + 1)) (lv' := [(4, .int (nI (k + 1))), (6, .int 0), (5, .int 2), (3, .int (nI n)), (2, .int (nI (40 + 125 * uz))), (0, .ref (ad 30)), (1, .int (nI uz))]) hx hb dX6_worked_157 hl (k := 2) rfl (fx_inc _) (by decide) rfl (fun ls hl => ?_)
            refine lv_goto (tgt := 13) hx hb dX6_worked_160 (by decide) ?_
            exact ih_13 (k + 1) n (upd pz (n - 1) 1) (by omega) (by omega) (agr_3 hag e3.1 (by have := e3.2.1; omega) (by simp [c_115])) _ _ hP hD hS ls (lv_sub hl [0, 3, 4, 5, 6] rfl)
        ·
          have he4 := e4.2.2.1
          refine lv_aload_n hx hb dX6_worked_24 rfl (lv_at hl 3 rfl) ?_
          refine fx_get X hE (hR.at hS) 0 rfl rfl 0 rfl q1168 rfl rfl dX6_worked_25 ?_
          refine lv_iload_n hx hb dX6_worked_28 rfl (lv_at hl 2 rfl) ?_
          refine lv_iconst (v := 1) hx hb dX6_worked_29 rfl ?_
          refine lv_iadd hx hb dX6_worked_30 ?_
          refine fx_ti (nI_add (40 + 125 * uz) 1) ?_
          refine lv_iconst (v := 2) hx hb dX6_worked_31 rfl ?_
          refine lv_iload hx hb dX6_worked_32 (lv_at hl 0 rfl) ?_
          refine lv_imul hx hb dX6_worked_34 ?_
          refine fx_ti (pk_mul 2 k) ?_
          refine lv_iadd hx hb dX6_worked_35 ?_
          refine fx_ti (nI_add (40 + 125 * uz + 1) (2 * k)) ?_
          refine fx_iald X hE (hR.at hS) 1 rfl (40 + 125 * uz + 1 + 2 * k) rfl (by omega) rfl dX6_worked_36 ?_
          refine fx_ti (show (sa (40 + 125 * uz + 1 + 2 * k)) = 3 from ((hT.2 k hkl).1.trans (by unfold mw; rw [if_neg (by omega), if_neg (by omega), if_neg (by omega)]))) ?_
          refine lv_istore (lv' := [(5, .int 3), (4, .int (nI k)), (3, .int (nI n)), (2, .int (nI (40 + 125 * uz))), (0, .ref (ad 30)), (1, .int (nI uz))]) hx hb dX6_worked_37 hl (by decide) rfl (fun ls hl => ?_)
          refine lv_aload_n hx hb dX6_worked_39 rfl (lv_at hl 4 rfl) ?_
          refine fx_get X hE (hR.at hS) 0 rfl rfl 0 rfl q1168 rfl rfl dX6_worked_40 ?_
          refine lv_iload_n hx hb dX6_worked_43 rfl (lv_at hl 3 rfl) ?_
          refine lv_iconst (v := 2) hx hb dX6_worked_44 rfl ?_
          refine lv_iadd hx hb dX6_worked_45 ?_
          refine fx_ti (nI_add (40 + 125 * uz) 2) ?_
          refine lv_iconst (v := 2) hx hb dX6_worked_46 rfl ?_
          refine lv_iload hx hb dX6_worked_47 (lv_at hl 1 rfl) ?_
          refine lv_imul hx hb dX6_worked_49 ?_
          refine fx_ti (pk_mul 2 k) ?_
          refine lv_iadd hx hb dX6_worked_50 ?_
          refine fx_ti (nI_add (40 + 125 * uz + 2) (2 * k)) ?_
          refine fx_iald X hE (hR.at hS) 1 rfl (40 + 125 * uz + 2 + 2 * k) rfl (by omega) rfl dX6_worked_51 ?_
          refine fx_ti (show (sa (40 + 125 * uz + 2 + 2 * k)) = nI (T.2.1 k) from ((hT.2 k hkl).2.trans (by unfold mxv; rw [if_neg (by omega), if_neg (by omega), if_neg (by omega)]))) ?_
          refine lv_istore (lv' := [(6, .int (nI (T.2.1 k))), (5, .int 3), (4, .int (nI k)), (3, .int (nI n)), (2, .int (nI (40 + 125 * uz))), (0, .ref (ad 30)), (1, .int (nI uz))]) hx hb dX6_worked_52 hl (by decide) rfl (fun ls hl => ?_)
          refine lv_iload hx hb dX6_worked_54 (lv_at hl 1 rfl) ?_
          refine lv_if_eq (tgt := 65) hx hb dX6_worked_56 (by decide) (fun c => absurd c (by decide)) (fun _ => ?_)
          refine lv_iload hx hb dX6_worked_59 (lv_at hl 1 rfl) ?_
          refine lv_iconst (v := 1) hx hb dX6_worked_61 rfl ?_
          refine lv_icmp_ne (tgt := 94) hx hb dX6_worked_62 (by decide) (fun _ => ?_) (fun c => absurd c (by decide))
          refine lv_iload hx hb dX6_worked_94 (lv_at hl 1 rfl) ?_
          refine lv_iconst (v := 2) hx hb dX6_worked_96 rfl ?_
          refine lv_icmp_ne (tgt := 127) hx hb dX6_worked_97 (by decide) (fun _ => ?_) (fun c => absurd c (by decide))
          refine lv_iinc (v := nI (n - 1)) (lv' := [(3, .int (nI (n - 1))), (6, .int (nI (T.2.1 k))), (5, .int 3), (4, .int (nI k)), (2, .int (nI (40 + 125 * uz))), (0, .ref (ad 30)), (1, .int (nI uz))]) hx hb dX6_worked_127 hl (k := 3) rfl (fx_dec (by omega)) (by decide) rfl (fun ls hl => ?_)
          refine lv_aload_n hx hb dX6_worked_130 rfl (lv_at hl 5 rfl) ?_
          refine fx_get X hE (hR.at hS) 0 rfl rfl 10 rfl q1178 rfl rfl dX6_worked_131 ?_
          refine lv_iload_n hx hb dX6_worked_134 rfl (lv_at hl 0 rfl) ?_
          refine lv_iconst (v := 1) hx hb dX6_worked_135 rfl ?_
          refine lv_isub hx hb dX6_worked_136 ?_
          refine fx_ti (pk_sub (a := n - 1) (b := 1) (by omega)) ?_
          refine lv_iload hx hb dX6_worked_137 (lv_at hl 1 rfl) ?_
          refine lv_aload_n hx hb dX6_worked_139 rfl (lv_at hl 5 rfl) ?_
          refine fx_get X hE (hR.at hS) 0 rfl rfl 10 rfl q1178 rfl rfl dX6_worked_140 ?_
          refine lv_iload_n hx hb dX6_worked_143 rfl (lv_at hl 0 rfl) ?_
          refine lv_iconst (v := 1) hx hb dX6_worked_144 rfl ?_
          refine lv_isub hx hb dX6_worked_145 ?_
          refine fx_ti (pk_sub (a := n - 1) (b := 1) (by omega)) ?_
          refine fx_iald X hE hP 0 rfl (n - 1 - 1) rfl (by omega) rfl dX6_worked_146 ?_
          refine lv_aload_n hx hb dX6_worked_147 rfl (lv_at hl 5 rfl) ?_
          refine fx_get X hE (hR.at hS) 0 rfl rfl 10 rfl q1178 rfl rfl dX6_worked_148 ?_
          refine lv_iload_n hx hb dX6_worked_151 rfl (lv_at hl 0 rfl) ?_
          refine fx_iald X hE hP 0 rfl (n - 1) rfl (by omega) rfl dX6_worked_152 ?_
          refine fx_ci (va_runS (As := [.int (nI (T.2.1 k)), .int (pz (n - 1 - 1)), .int (pz (n - 1))]) (rest := [.int (nI (n - 1 - 1)), .ref (ad 10)]) X (mX6_joined l E (T.2.1 k) (pz (n - 1 - 1)) (pz (n - 1)) e4.2.1 _) (va_cwS 3 X.2.2.2.2 (lw_S q1347 q1348 q75 q1349) rfl rfl rfl hdX6_joined ⟨Nat.le_of_ble_eq_true rfl, Nat.le_of_ble_eq_true rfl⟩) (fx_pre hE hP hD hS hR [] rfl rfl fx_rc0) rfl rfl hl.1 rfl (lv_room (Nat.le_of_ble_eq_true rfl)) dX6_worked_153 ⟨Nat.le_refl _, Nat.le_refl _⟩) hP hD hS hA [] rfl rfl (fun r_153 u H locs hq_153 hP hD hS => ?_)
          replace hP : va_P E.1 clA [(ad 10, .inl (E.2 0, 64, .inl pz))] _ := hP
          replace hD : va_D A [(ad 10, .inl (E.2 0, 64, .inl pz))] := hD
          replace hq_153 : r_153 = jn (nI (T.2.1 k)) (pz (n - 1 - 1)) (pz (n - 1)) := hq_153
          refine fx_ti (show r_153 = (jn (nI (T.2.1 k)) (pz (n - 1 - 1)) (pz (n - 1))) from hq_153) ?_
          refine fx_iast (ws' := [(ad 10, .inl (E.2 0, 64, .inl (upd pz (n - 1 - 1) (jn (nI (T.2.1 k)) (pz (n - 1 - 1)) (pz (n - 1))))))]) X hE hP hD hS 0 rfl (n - 1 - 1) rfl (by omega) rfl rfl dX6_worked_156 (fun H locs hP hD hS => ?_)
          refine lv_iinc (v := nI (k + 1)) (lv' := [(4, .int (nI (k + 1))), (3, .int (nI (n - 1))), (6, .int (nI (T.2.1 k))), (5, .int 3), (2, .int (nI (40 + 125 * uz))), (0, .ref (ad 30)), (1, .int (nI uz))]) hx hb dX6_worked_157 hl (k := 3) rfl (fx_inc _) (by decide) rfl (fun ls hl => ?_)
          refine lv_goto (tgt := 13) hx hb dX6_worked_160 (by decide) ?_
          exact ih_13 (k + 1) (n - 1) (upd pz (n - 1 - 1) (jn (nI (T.2.1 k)) (pz (n - 1 - 1)) (pz (n - 1)))) (by omega) (by omega) (agr_4 hag e4.1 (by have := e4.2.2.1; omega)) _ _ hP hD hS ls (lv_sub hl [0, 1, 4, 5, 6] rfl)
  exact loop_13 ((T.1 - 0) + 1) 0 0 pl (Nat.lt_succ_self _) (Nat.zero_le _) (agr_0 T nm _) _ _ hP hD hS ls (lv_sub hl [0, 1, 2, 3, 4] rfl)
abbrev rmX6_asked : Room := { frames := 2, cells := 0, slots := 0, locals := 48 }
set_option maxHeartbeats 400000 in
set_option maxRecDepth 100000 in
theorem mX6_asked (l : Launch) (E : fx_En) (ad : Nat → Nat) (im : Int32) (at_ : Int32) (op : Int32) (st_ : Int32) (us : Int32) (bn : Int32) (bm : Int32) (la : Int32) (fo : Int32) (fi : Int32) (lp : Int32) (tr_ : Int32) (sp : Int32) (ip : Int32) (sa : Nat → Int32) (nmd : Nat → Int32) (pl : Nat → Int32) (k : Nat) (S : Nat) (q : Nat) (kd : Nat) (m_ : Nat) (T : Tx) (hk : k < 4) (hkd : sa (32 + 2 * k) = nI kd) (hkd2 : kd ≤ 6) (hm : sa (32 + 2 * k + 1) = nI m_) (hm2 : m_ ≤ 9) (hT : TM sa 0 T) (hTo : TOk T) (hS : S + 20 < 2147483648) (hq : q < 2147483648) : fx_Mi l yX6_asked cX6_asked 6 .int rmX6_asked E [.ref (ad 30), .int (nI k), .int (nI S), .int (nI q)] [(ad 9, .inl (E.2 0, 128, .inl nmd)), (ad 10, .inl (E.2 0, 64, .inl pl))] [(ad 30, .inr (6, [.ref (ad 0), .ref (ad 1), .int im, .ref (ad 3), .int at_, .int op, .int st_, .int us, .ref (ad 8), .ref (ad 9), .ref (ad 10), .ref (ad 11), .ref (ad 12), .ref (ad 13), .ref (ad 14), .int bn, .int bm, .ref (ad 17), .int la, .int fo, .int fi, .int lp, .ref (ad 22), .int tr_, .int sp, .int ip, .ref (ad 26), .ref (ad 27), .ref (ad 28), .ref (ad 29)])), (ad 0, .inl (E.2 0, 374, .inl sa))] (S := (Nat → Int32) × (Nat → Int32)) (fun (u : (Nat → Int32) × (Nat → Int32)) => [(ad 9, .inl (E.2 0, 128, .inl u.1)), (ad 10, .inl (E.2 0, 64, .inl u.2))]) (fun (r : Int32) (u : (Nat → Int32) × (Nat → Int32)) => r = askF kd m_ T S q) := by
  refine fx_iW rfl rfl ?_
  intro p e s m args below meth c A ls Q X hE hP hD hR hA hl hret
  have hx := X.1
  have hb := X.2.1
  have hS : va_S A s.heap s.heap [] := va_S.rf
  replace hP : va_P E.1 clA [(ad 9, .inl (E.2 0, 128, .inl nmd)), (ad 10, .inl (E.2 0, 64, .inl pl))] _ := hP
  replace hD : va_D A [(ad 9, .inl (E.2 0, 128, .inl nmd)), (ad 10, .inl (E.2 0, 64, .inl pl))] := hD
  replace hl : lv_has ls 6 [(0, .ref (ad 30)), (1, .int (nI k)), (2, .int (nI S)), (3, .int (nI q))] := hl
  refine lv_iload_n hx hb dX6_asked_0 rfl (lv_at hl 3 rfl) ?_
  refine lv_if_ne (tgt := 6) hx hb dX6_asked_1 (by decide) (fun c_1 => ?_) (fun c_1 => ?_)
  · -- jump 6
    have n_1 := fx_eq0 (a := q) (b := 0) c_1 (by omega) (by omega)
    refine lv_aload_n hx hb dX6_asked_6 rfl (lv_at hl 0 rfl) ?_
    refine lv_iload_n hx hb dX6_asked_7 rfl (lv_at hl 1 rfl) ?_
    refine fx_ci (va_runV (As := [.int (nI k)]) (rest := []) X (mX6_mOf l E ad im at_ op st_ us bn bm la fo fi lp tr_ sp ip sa k (by first | assumption | omega) _) (cwV 1 X.2.2.2.2 (lw_V q1364 q1366 qs48 q75 q1367) rfl rfl rfl ⟨rfl, hdX6_mOf⟩ ⟨Nat.le_of_ble_eq_true rfl, Nat.le_of_ble_eq_true rfl⟩) (fx_preV (fx_pre hE hP hD hS hR [] rfl rfl (fx_rcr 0 rfl (fx_rcr 1 rfl fx_rc0))) (va_recv hE.1 (hR.at hS) (ci := 6) (q0 := 0) rfl rfl)) rfl rfl hl.1 rfl (lv_room (Nat.le_of_ble_eq_true rfl)) dX6_asked_8 ⟨Nat.le_refl _, Nat.le_refl _⟩) hP hD hS hA [] rfl rfl (fun r_8 u H locs hq_8 hP hD hS => ?_)
    replace hP : va_P E.1 clA [(ad 9, .inl (E.2 0, 128, .inl nmd)), (ad 10, .inl (E.2 0, 64, .inl pl))] _ := hP
    replace hD : va_D A [(ad 9, .inl (E.2 0, 128, .inl nmd)), (ad 10, .inl (E.2 0, 64, .inl pl))] := hD
    replace hq_8 : r_8 = sa (32 + 2 * k + 1) := hq_8
    refine fx_ti (show r_8 = nI m_ from hq_8.trans hm) ?_
    refine lv_istore (lv' := [(4, .int (nI m_)), (0, .ref (ad 30)), (1, .int (nI k)), (2, .int (nI S)), (3, .int (nI q))]) hx hb dX6_asked_11 hl (by decide) rfl (fun ls hl => ?_)
    refine lv_iload_n hx hb dX6_asked_13 rfl (lv_at hl 3 rfl) ?_
    refine lv_bipush (v := 10) hx hb dX6_asked_14 rfl ?_
    refine fx_ci (va_runS (As := [.int (nI S), .int 10]) (rest := []) X (mX6_added l E S 10 (by omega) (by decide) (by decide) _) (va_cwS 2 X.2.2.2.2 (lw_S q1383 q1384 q75 q1385) rfl rfl rfl hdX6_added ⟨Nat.le_of_ble_eq_true rfl, Nat.le_of_ble_eq_true rfl⟩) (fx_pre hE hP hD hS hR [] rfl rfl fx_rc0) rfl rfl hl.1 rfl (lv_room (Nat.le_of_ble_eq_true rfl)) dX6_asked_16 ⟨Nat.le_refl _, Nat.le_refl _⟩) hP hD hS hA [] rfl rfl (fun r_16 u H locs hq_16 hP hD hS => ?_)
    replace hP : va_P E.1 clA [(ad 9, .inl (E.2 0, 128, .inl nmd)), (ad 10, .inl (E.2 0, 64, .inl pl))] _ := hP
    replace hD : va_D A [(ad 9, .inl (E.2 0, 128, .inl nmd)), (ad 10, .inl (E.2 0, 64, .inl pl))] := hD
    replace hq_16 : r_16 = nI (dg 10 S) := hq_16
    refine fx_ti (show r_16 = nI (dg 10 S) from hq_16) ?_
    refine lv_istore (lv' := [(5, .int (nI (dg 10 S))), (4, .int (nI m_)), (0, .ref (ad 30)), (1, .int (nI k)), (2, .int (nI S)), (3, .int (nI q))]) hx hb dX6_asked_19 hl (by decide) rfl (fun ls hl => ?_)
    refine lv_aload_n hx hb dX6_asked_21 rfl (lv_at hl 2 rfl) ?_
    refine lv_iload_n hx hb dX6_asked_22 rfl (lv_at hl 3 rfl) ?_
    refine fx_ci (va_runV (As := [.int (nI k)]) (rest := []) X (mX6_kindOf l E ad im at_ op st_ us bn bm la fo fi lp tr_ sp ip sa k (by first | assumption | omega) _) (cwV 1 X.2.2.2.2 (lw_V q1360 q1362 qs47 q75 q1363) rfl rfl rfl ⟨rfl, hdX6_kindOf⟩ ⟨Nat.le_of_ble_eq_true rfl, Nat.le_of_ble_eq_true rfl⟩) (fx_preV (fx_pre hE hP hD hS hR [] rfl rfl (fx_rcr 0 rfl (fx_rcr 1 rfl fx_rc0))) (va_recv hE.1 (hR.at hS) (ci := 6) (q0 := 0) rfl rfl)) rfl rfl hl.1 rfl (lv_room (Nat.le_of_ble_eq_true rfl)) dX6_asked_23 ⟨Nat.le_refl _, Nat.le_refl _⟩) hP hD hS hA [] rfl rfl (fun r_23 u H locs hq_23 hP hD hS => ?_)
    replace hP : va_P E.1 clA [(ad 9, .inl (E.2 0, 128, .inl nmd)), (ad 10, .inl (E.2 0, 64, .inl pl))] _ := hP
    replace hD : va_D A [(ad 9, .inl (E.2 0, 128, .inl nmd)), (ad 10, .inl (E.2 0, 64, .inl pl))] := hD
    replace hq_23 : r_23 = sa (32 + 2 * k) := hq_23
    refine fx_ti (show r_23 = nI kd from hq_23.trans hkd) ?_
    rcases (show kd = 0 ∨ kd = 1 ∨ kd = 2 ∨ kd = 3 ∨ kd = 4 ∨ kd = 5 ∨ kd = 6 by omega) with rfl | rfl | rfl | rfl | rfl | rfl | rfl
    ·
      refine lv_tableOut (tgt := 177) hx hb dX6_asked_26 (by decide) (by decide) ?_
      refine lv_iload hx hb dX6_asked_177 (lv_at hl 0 rfl) ?_
      refine lv_iconst (v := 0) hx hb dX6_asked_179 rfl ?_
      refine lv_sipush (v := 9999) hx hb dX6_asked_180 rfl ?_
      refine fx_ci (va_runS (As := [.int (nI (dg 10 S)), .int 0, .int 9999]) (rest := []) X (mX6_held l E (nI (dg 10 S)) 0 9999 _) (va_cwS 3 X.2.2.2.2 (lw_S q1350 q1351 q75 q1352) rfl rfl rfl hdX6_held ⟨Nat.le_of_ble_eq_true rfl, Nat.le_of_ble_eq_true rfl⟩) (fx_pre hE hP hD hS hR [] rfl rfl fx_rc0) rfl rfl hl.1 rfl (lv_room (Nat.le_of_ble_eq_true rfl)) dX6_asked_183 ⟨Nat.le_refl _, Nat.le_refl _⟩) hP hD hS hA [] rfl rfl (fun r_183 u H locs hq_183 hP hD hS => ?_)
      replace hP : va_P E.1 clA [(ad 9, .inl (E.2 0, 128, .inl nmd)), (ad 10, .inl (E.2 0, 64, .inl pl))] _ := hP
      replace hD : va_D A [(ad 9, .inl (E.2 0, 128, .inl nmd)), (ad 10, .inl (E.2 0, 64, .inl pl))] := hD
      replace hq_183 : r_183 = hld (nI (dg 10 S)) 0 9999 := hq_183
      exact hret r_183 (nmd, pl) (by rw [hq_183]; simp [askF, payF, n_1]) (rfl) hP hD hS (Nat.le_refl _) (Nat.le_refl _) dX6_asked_186
    ·
      refine lv_tableIn (tgt := 64) (off := 38) hx hb dX6_asked_26 (by decide) (by decide) rfl (by decide) ?_
      refine lv_iload_n hx hb dX6_asked_64 rfl (lv_at hl 4 rfl) ?_
      refine lv_bipush (v := 10) hx hb dX6_asked_65 rfl ?_
      refine lv_irem hx hb dX6_asked_67 (by decide) ?_
      refine fx_ti (pk_rem (a := S) (d := 10) (by omega) (by omega) (by omega)) ?_
      refine lv_istore (lv' := [(5, .int (nI (S % 10))), (4, .int (nI m_)), (0, .ref (ad 30)), (1, .int (nI k)), (2, .int (nI S)), (3, .int (nI q))]) hx hb dX6_asked_68 hl (by decide) rfl (fun ls hl => ?_)
      refine lv_goto (tgt := 177) hx hb dX6_asked_70 (by decide) ?_
      refine lv_iload hx hb dX6_asked_177 (lv_at hl 0 rfl) ?_
      refine lv_iconst (v := 0) hx hb dX6_asked_179 rfl ?_
      refine lv_sipush (v := 9999) hx hb dX6_asked_180 rfl ?_
      refine fx_ci (va_runS (As := [.int (nI (S % 10)), .int 0, .int 9999]) (rest := []) X (mX6_held l E (nI (S % 10)) 0 9999 _) (va_cwS 3 X.2.2.2.2 (lw_S q1350 q1351 q75 q1352) rfl rfl rfl hdX6_held ⟨Nat.le_of_ble_eq_true rfl, Nat.le_of_ble_eq_true rfl⟩) (fx_pre hE hP hD hS hR [] rfl rfl fx_rc0) rfl rfl hl.1 rfl (lv_room (Nat.le_of_ble_eq_true rfl)) dX6_asked_183 ⟨Nat.le_refl _, Nat.le_refl _⟩) hP hD hS hA [] rfl rfl (fun r_183 u H locs hq_183 hP hD hS => ?_)
      replace hP : va_P E.1 clA [(ad 9, .inl (E.2 0, 128, .inl nmd)), (ad 10, .inl (E.2 0, 64, .inl pl))] _ := hP
      replace hD : va_D A [(ad 9, .inl (E.2 0, 128, .inl nmd)), (ad 10, .inl (E.2 0, 64, .inl pl))] := hD
      replace hq_183 : r_183 = hld (nI (S % 10)) 0 9999 := hq_183
      exact hret r_183 (nmd, pl) (by rw [hq_183]; simp [askF, payF, n_1]) (rfl) hP hD hS (Nat.le_refl _) (Nat.le_refl _) dX6_asked_186
    ·
      refine lv_tableIn (tgt := 73) (off := 47) hx hb dX6_asked_26 (by decide) (by decide) rfl (by decide) ?_
      refine lv_iload_n hx hb dX6_asked_73 rfl (lv_at hl 4 rfl) ?_
      refine lv_bipush (v := 10) hx hb dX6_asked_74 rfl ?_
      refine fx_ci (va_runS (As := [.int (nI S), .int 10]) (rest := []) X (mX6_rooted l E S 10 (by omega) (by decide) (by decide) _) (va_cwS 2 X.2.2.2.2 (lw_S q1395 q1396 q75 q1397) rfl rfl rfl hdX6_rooted ⟨Nat.le_of_ble_eq_true rfl, Nat.le_of_ble_eq_true rfl⟩) (fx_pre hE hP hD hS hR [] rfl rfl fx_rc0) rfl rfl hl.1 rfl (lv_room (Nat.le_of_ble_eq_true rfl)) dX6_asked_76 ⟨Nat.le_refl _, Nat.le_refl _⟩) hP hD hS hA [] rfl rfl (fun r_76 u H locs hq_76 hP hD hS => ?_)
      replace hP : va_P E.1 clA [(ad 9, .inl (E.2 0, 128, .inl nmd)), (ad 10, .inl (E.2 0, 64, .inl pl))] _ := hP
      replace hD : va_D A [(ad 9, .inl (E.2 0, 128, .inl nmd)), (ad 10, .inl (E.2 0, 64, .inl pl))] := hD
      replace hq_76 : r_76 = nI (rt 10 S) := hq_76
      refine fx_ti (show r_76 = nI (rt 10 S) from hq_76) ?_
      refine lv_istore (lv' := [(5, .int (nI (rt 10 S))), (4, .int (nI m_)), (0, .ref (ad 30)), (1, .int (nI k)), (2, .int (nI S)), (3, .int (nI q))]) hx hb dX6_asked_79 hl (by decide) rfl (fun ls hl => ?_)
      refine lv_goto (tgt := 177) hx hb dX6_asked_81 (by decide) ?_
      refine lv_iload hx hb dX6_asked_177 (lv_at hl 0 rfl) ?_
      refine lv_iconst (v := 0) hx hb dX6_asked_179 rfl ?_
      refine lv_sipush (v := 9999) hx hb dX6_asked_180 rfl ?_
      refine fx_ci (va_runS (As := [.int (nI (rt 10 S)), .int 0, .int 9999]) (rest := []) X (mX6_held l E (nI (rt 10 S)) 0 9999 _) (va_cwS 3 X.2.2.2.2 (lw_S q1350 q1351 q75 q1352) rfl rfl rfl hdX6_held ⟨Nat.le_of_ble_eq_true rfl, Nat.le_of_ble_eq_true rfl⟩) (fx_pre hE hP hD hS hR [] rfl rfl fx_rc0) rfl rfl hl.1 rfl (lv_room (Nat.le_of_ble_eq_true rfl)) dX6_asked_183 ⟨Nat.le_refl _, Nat.le_refl _⟩) hP hD hS hA [] rfl rfl (fun r_183 u H locs hq_183 hP hD hS => ?_)
      replace hP : va_P E.1 clA [(ad 9, .inl (E.2 0, 128, .inl nmd)), (ad 10, .inl (E.2 0, 64, .inl pl))] _ := hP
      replace hD : va_D A [(ad 9, .inl (E.2 0, 128, .inl nmd)), (ad 10, .inl (E.2 0, 64, .inl pl))] := hD
      replace hq_183 : r_183 = hld (nI (rt 10 S)) 0 9999 := hq_183
      exact hret r_183 (nmd, pl) (by rw [hq_183]; simp [askF, payF, n_1]) (rfl) hP hD hS (Nat.le_refl _) (Nat.le_refl _) dX6_asked_186
    ·
      refine lv_tableIn (tgt := 84) (off := 58) hx hb dX6_asked_26 (by decide) (by decide) rfl (by decide) ?_
      refine lv_iload_n hx hb dX6_asked_84 rfl (lv_at hl 4 rfl) ?_
      refine lv_iload hx hb dX6_asked_85 (lv_at hl 1 rfl) ?_
      refine lv_iadd hx hb dX6_asked_87 ?_
      refine fx_ti (nI_add S m_) ?_
      refine lv_bipush (v := 10) hx hb dX6_asked_88 rfl ?_
      refine fx_ci (va_runS (As := [.int (nI (S + m_)), .int 10]) (rest := []) X (mX6_added l E (S + m_) 10 (by omega) (by decide) (by decide) _) (va_cwS 2 X.2.2.2.2 (lw_S q1383 q1384 q75 q1385) rfl rfl rfl hdX6_added ⟨Nat.le_of_ble_eq_true rfl, Nat.le_of_ble_eq_true rfl⟩) (fx_pre hE hP hD hS hR [] rfl rfl fx_rc0) rfl rfl hl.1 rfl (lv_room (Nat.le_of_ble_eq_true rfl)) dX6_asked_90 ⟨Nat.le_refl _, Nat.le_refl _⟩) hP hD hS hA [] rfl rfl (fun r_90 u H locs hq_90 hP hD hS => ?_)
      replace hP : va_P E.1 clA [(ad 9, .inl (E.2 0, 128, .inl nmd)), (ad 10, .inl (E.2 0, 64, .inl pl))] _ := hP
      replace hD : va_D A [(ad 9, .inl (E.2 0, 128, .inl nmd)), (ad 10, .inl (E.2 0, 64, .inl pl))] := hD
      replace hq_90 : r_90 = nI (dg 10 (S + m_)) := hq_90
      refine fx_ti (show r_90 = nI (dg 10 (S + m_)) from hq_90) ?_
      refine lv_istore (lv' := [(5, .int (nI (dg 10 (S + m_)))), (4, .int (nI m_)), (0, .ref (ad 30)), (1, .int (nI k)), (2, .int (nI S)), (3, .int (nI q))]) hx hb dX6_asked_93 hl (by decide) rfl (fun ls hl => ?_)
      refine lv_goto (tgt := 177) hx hb dX6_asked_95 (by decide) ?_
      refine lv_iload hx hb dX6_asked_177 (lv_at hl 0 rfl) ?_
      refine lv_iconst (v := 0) hx hb dX6_asked_179 rfl ?_
      refine lv_sipush (v := 9999) hx hb dX6_asked_180 rfl ?_
      refine fx_ci (va_runS (As := [.int (nI (dg 10 (S + m_))), .int 0, .int 9999]) (rest := []) X (mX6_held l E (nI (dg 10 (S + m_))) 0 9999 _) (va_cwS 3 X.2.2.2.2 (lw_S q1350 q1351 q75 q1352) rfl rfl rfl hdX6_held ⟨Nat.le_of_ble_eq_true rfl, Nat.le_of_ble_eq_true rfl⟩) (fx_pre hE hP hD hS hR [] rfl rfl fx_rc0) rfl rfl hl.1 rfl (lv_room (Nat.le_of_ble_eq_true rfl)) dX6_asked_183 ⟨Nat.le_refl _, Nat.le_refl _⟩) hP hD hS hA [] rfl rfl (fun r_183 u H locs hq_183 hP hD hS => ?_)
      replace hP : va_P E.1 clA [(ad 9, .inl (E.2 0, 128, .inl nmd)), (ad 10, .inl (E.2 0, 64, .inl pl))] _ := hP
      replace hD : va_D A [(ad 9, .inl (E.2 0, 128, .inl nmd)), (ad 10, .inl (E.2 0, 64, .inl pl))] := hD
      replace hq_183 : r_183 = hld (nI (dg 10 (S + m_))) 0 9999 := hq_183
      exact hret r_183 (nmd, pl) (by rw [hq_183]; simp [askF, payF, n_1]) (rfl) hP hD hS (Nat.le_refl _) (Nat.le_refl _) dX6_asked_186
    ·
      refine lv_tableIn (tgt := 98) (off := 72) hx hb dX6_asked_26 (by decide) (by decide) rfl (by decide) ?_
      refine lv_iload_n hx hb dX6_asked_98 rfl (lv_at hl 4 rfl) ?_
      refine lv_iload hx hb dX6_asked_99 (lv_at hl 1 rfl) ?_
      refine lv_iconst (v := 2) hx hb dX6_asked_101 rfl ?_
      refine lv_iadd hx hb dX6_asked_102 ?_
      refine fx_ti (nI_add m_ 2) ?_
      refine fx_ci (va_runS (As := [.int (nI S), .int (nI (m_ + 2))]) (rest := []) X (mX6_rooted l E S (m_ + 2) (by omega) (by omega) (by omega) _) (va_cwS 2 X.2.2.2.2 (lw_S q1395 q1396 q75 q1397) rfl rfl rfl hdX6_rooted ⟨Nat.le_of_ble_eq_true rfl, Nat.le_of_ble_eq_true rfl⟩) (fx_pre hE hP hD hS hR [] rfl rfl fx_rc0) rfl rfl hl.1 rfl (lv_room (Nat.le_of_ble_eq_true rfl)) dX6_asked_103 ⟨Nat.le_refl _, Nat.le_refl _⟩) hP hD hS hA [] rfl rfl (fun r_103 u H locs hq_103 hP hD hS => ?_)
      replace hP : va_P E.1 clA [(ad 9, .inl (E.2 0, 128, .inl nmd)), (ad 10, .inl (E.2 0, 64, .inl pl))] _ := hP
      replace hD : va_D A [(ad 9, .inl (E.2 0, 128, .inl nmd)), (ad 10, .inl (E.2 0, 64, .inl pl))] := hD
      replace hq_103 : r_103 = nI (rt (m_ + 2) S) := hq_103
      refine fx_ti (show r_103 = nI (rt (m_ + 2) S) from hq_103) ?_
      refine lv_istore (lv' := [(5, .int (nI (rt (m_ + 2) S))), (4, .int (nI m_)), (0, .ref (ad 30)), (1, .int (nI k)), (2, .int (nI S)), (3, .int (nI q))]) hx hb dX6_asked_106 hl (by decide) rfl (fun ls hl => ?_)
      refine lv_goto (tgt := 177) hx hb dX6_asked_108 (by decide) ?_
      refine lv_iload hx hb dX6_asked_177 (lv_at hl 0 rfl) ?_
      refine lv_iconst (v := 0) hx hb dX6_asked_179 rfl ?_
      refine lv_sipush (v := 9999) hx hb dX6_asked_180 rfl ?_
      refine fx_ci (va_runS (As := [.int (nI (rt (m_ + 2) S)), .int 0, .int 9999]) (rest := []) X (mX6_held l E (nI (rt (m_ + 2) S)) 0 9999 _) (va_cwS 3 X.2.2.2.2 (lw_S q1350 q1351 q75 q1352) rfl rfl rfl hdX6_held ⟨Nat.le_of_ble_eq_true rfl, Nat.le_of_ble_eq_true rfl⟩) (fx_pre hE hP hD hS hR [] rfl rfl fx_rc0) rfl rfl hl.1 rfl (lv_room (Nat.le_of_ble_eq_true rfl)) dX6_asked_183 ⟨Nat.le_refl _, Nat.le_refl _⟩) hP hD hS hA [] rfl rfl (fun r_183 u H locs hq_183 hP hD hS => ?_)
      replace hP : va_P E.1 clA [(ad 9, .inl (E.2 0, 128, .inl nmd)), (ad 10, .inl (E.2 0, 64, .inl pl))] _ := hP
      replace hD : va_D A [(ad 9, .inl (E.2 0, 128, .inl nmd)), (ad 10, .inl (E.2 0, 64, .inl pl))] := hD
      replace hq_183 : r_183 = hld (nI (rt (m_ + 2) S)) 0 9999 := hq_183
      exact hret r_183 (nmd, pl) (by rw [hq_183]; simp [askF, payF, n_1]) (rfl) hP hD hS (Nat.le_refl _) (Nat.le_refl _) dX6_asked_186
    ·
      refine lv_tableIn (tgt := 111) (off := 85) hx hb dX6_asked_26 (by decide) (by decide) rfl (by decide) ?_
      refine lv_iload_n hx hb dX6_asked_111 rfl (lv_at hl 4 rfl) ?_
      refine lv_bipush (v := 10) hx hb dX6_asked_112 rfl ?_
      refine lv_irem hx hb dX6_asked_114 (by decide) ?_
      refine fx_ti (pk_rem (a := S) (d := 10) (by omega) (by omega) (by omega)) ?_
      refine lv_iload hx hb dX6_asked_115 (lv_at hl 1 rfl) ?_
      refine lv_icmp_ge (tgt := 125) hx hb dX6_asked_117 (by decide) (fun c_117 => ?_) (fun c_117 => ?_)
      · -- jump 125
        have n_117 := fx_le1 (a := m_) (b := (S % 10)) c_117 (by omega) (by omega)
        refine lv_iload_n hx hb dX6_asked_125 rfl (lv_at hl 4 rfl) ?_
        refine lv_bipush (v := 10) hx hb dX6_asked_126 rfl ?_
        refine lv_irem hx hb dX6_asked_128 (by decide) ?_
        refine fx_ti (pk_rem (a := S) (d := 10) (by omega) (by omega) (by omega)) ?_
        refine lv_istore (lv' := [(5, .int (nI (S % 10))), (4, .int (nI m_)), (0, .ref (ad 30)), (1, .int (nI k)), (2, .int (nI S)), (3, .int (nI q))]) hx hb dX6_asked_129 hl (by decide) rfl (fun ls hl => ?_)
        refine lv_goto (tgt := 177) hx hb dX6_asked_131 (by decide) ?_
        refine lv_iload hx hb dX6_asked_177 (lv_at hl 0 rfl) ?_
        refine lv_iconst (v := 0) hx hb dX6_asked_179 rfl ?_
        refine lv_sipush (v := 9999) hx hb dX6_asked_180 rfl ?_
        refine fx_ci (va_runS (As := [.int (nI (S % 10)), .int 0, .int 9999]) (rest := []) X (mX6_held l E (nI (S % 10)) 0 9999 _) (va_cwS 3 X.2.2.2.2 (lw_S q1350 q1351 q75 q1352) rfl rfl rfl hdX6_held ⟨Nat.le_of_ble_eq_true rfl, Nat.le_of_ble_eq_true rfl⟩) (fx_pre hE hP hD hS hR [] rfl rfl fx_rc0) rfl rfl hl.1 rfl (lv_room (Nat.le_of_ble_eq_true rfl)) dX6_asked_183 ⟨Nat.le_refl _, Nat.le_refl _⟩) hP hD hS hA [] rfl rfl (fun r_183 u H locs hq_183 hP hD hS => ?_)
        replace hP : va_P E.1 clA [(ad 9, .inl (E.2 0, 128, .inl nmd)), (ad 10, .inl (E.2 0, 64, .inl pl))] _ := hP
        replace hD : va_D A [(ad 9, .inl (E.2 0, 128, .inl nmd)), (ad 10, .inl (E.2 0, 64, .inl pl))] := hD
        replace hq_183 : r_183 = hld (nI (S % 10)) 0 9999 := hq_183
        exact hret r_183 (nmd, pl) (by rw [hq_183]; simp [askF, payF, n_1, n_117]; rw [if_neg (by omega)]) (rfl) hP hD hS (Nat.le_refl _) (Nat.le_refl _) dX6_asked_186
      · -- fall 120
        have n_117 := fx_le0 (a := m_) (b := (S % 10)) c_117 (by omega) (by omega)
        refine lv_iload hx hb dX6_asked_120 (lv_at hl 1 rfl) ?_
        refine lv_goto (tgt := 129) hx hb dX6_asked_122 (by decide) ?_
        refine lv_istore (lv' := [(5, .int (nI m_)), (4, .int (nI m_)), (0, .ref (ad 30)), (1, .int (nI k)), (2, .int (nI S)), (3, .int (nI q))]) hx hb dX6_asked_129 hl (by decide) rfl (fun ls hl => ?_)
        refine lv_goto (tgt := 177) hx hb dX6_asked_131 (by decide) ?_
        refine lv_iload hx hb dX6_asked_177 (lv_at hl 0 rfl) ?_
        refine lv_iconst (v := 0) hx hb dX6_asked_179 rfl ?_
        refine lv_sipush (v := 9999) hx hb dX6_asked_180 rfl ?_
        refine fx_ci (va_runS (As := [.int (nI m_), .int 0, .int 9999]) (rest := []) X (mX6_held l E (nI m_) 0 9999 _) (va_cwS 3 X.2.2.2.2 (lw_S q1350 q1351 q75 q1352) rfl rfl rfl hdX6_held ⟨Nat.le_of_ble_eq_true rfl, Nat.le_of_ble_eq_true rfl⟩) (fx_pre hE hP hD hS hR [] rfl rfl fx_rc0) rfl rfl hl.1 rfl (lv_room (Nat.le_of_ble_eq_true rfl)) dX6_asked_183 ⟨Nat.le_refl _, Nat.le_refl _⟩) hP hD hS hA [] rfl rfl (fun r_183 u H locs hq_183 hP hD hS => ?_)
        replace hP : va_P E.1 clA [(ad 9, .inl (E.2 0, 128, .inl nmd)), (ad 10, .inl (E.2 0, 64, .inl pl))] _ := hP
        replace hD : va_D A [(ad 9, .inl (E.2 0, 128, .inl nmd)), (ad 10, .inl (E.2 0, 64, .inl pl))] := hD
        replace hq_183 : r_183 = hld (nI m_) 0 9999 := hq_183
        exact hret r_183 (nmd, pl) (by rw [hq_183]; simp [askF, payF, n_1, n_117]) (rfl) hP hD hS (Nat.le_refl _) (Nat.le_refl _) dX6_asked_186
    ·
      refine lv_tableIn (tgt := 134) (off := 108) hx hb dX6_asked_26 (by decide) (by decide) rfl (by decide) ?_
      refine lv_aload_n hx hb dX6_asked_134 rfl (lv_at hl 2 rfl) ?_
      refine lv_iconst (v := 0) hx hb dX6_asked_135 rfl ?_
      refine fx_ci (va_runV (As := [.int 0]) (rest := []) X (mX6_hasText l E ad im at_ op st_ us bn bm la fo fi lp tr_ sp ip sa 0 T (by decide) (by first | assumption | omega) (by first | assumption | omega) _) (cwV 1 X.2.2.2.2 (lw_V q1320 q1322 qs43 q75 q1323) rfl rfl rfl ⟨rfl, hdX6_hasText⟩ ⟨Nat.le_of_ble_eq_true rfl, Nat.le_of_ble_eq_true rfl⟩) (fx_preV (fx_pre hE hP hD hS hR [] rfl rfl (fx_rcr 0 rfl (fx_rcr 1 rfl fx_rc0))) (va_recv hE.1 (hR.at hS) (ci := 6) (q0 := 0) rfl rfl)) rfl rfl hl.1 rfl (lv_room (Nat.le_of_ble_eq_true rfl)) dX6_asked_136 ⟨Nat.le_refl _, Nat.le_refl _⟩) hP hD hS hA [] rfl rfl (fun r_136 u H locs hq_136 hP hD hS => ?_)
      replace hP : va_P E.1 clA [(ad 9, .inl (E.2 0, 128, .inl nmd)), (ad 10, .inl (E.2 0, 64, .inl pl))] _ := hP
      replace hD : va_D A [(ad 9, .inl (E.2 0, 128, .inl nmd)), (ad 10, .inl (E.2 0, 64, .inl pl))] := hD
      replace hq_136 : r_136 = fx_b (T.1 ≠ 0) := hq_136
      rcases fx_bc hq_136 with ⟨hb_136, hr_136⟩ | ⟨hb_136, hr_136⟩
      · -- True
        subst hr_136
        refine lv_if_eq (tgt := 177) hx hb dX6_asked_139 (by decide) (fun c => absurd c (by decide)) (fun _ => ?_)
        refine lv_aload_n hx hb dX6_asked_142 rfl (lv_at hl 2 rfl) ?_
        refine fx_get X hE (hR.at hS) 0 rfl rfl 9 rfl q1177 rfl rfl dX6_asked_143 ?_
        refine lv_bipush (v := 115) hx hb dX6_asked_146 rfl ?_
        refine lv_iload_n hx hb dX6_asked_148 rfl (lv_at hl 4 rfl) ?_
        refine fx_iast (ws' := [(ad 9, .inl (E.2 0, 128, .inl (upd nmd 115 (nI S)))), (ad 10, .inl (E.2 0, 64, .inl pl))]) X hE hP hD hS 0 rfl 115 rfl (by decide) rfl rfl dX6_asked_149 (fun H locs hP hD hS => ?_)
        refine lv_aload_n hx hb dX6_asked_150 rfl (lv_at hl 2 rfl) ?_
        refine fx_get X hE (hR.at hS) 0 rfl rfl 9 rfl q1177 rfl rfl dX6_asked_151 ?_
        refine lv_bipush (v := 107) hx hb dX6_asked_154 rfl ?_
        refine lv_iload_n hx hb dX6_asked_156 rfl (lv_at hl 5 rfl) ?_
        refine fx_iast (ws' := [(ad 9, .inl (E.2 0, 128, .inl (upd (upd nmd 115 (nI S)) 107 (nI q)))), (ad 10, .inl (E.2 0, 64, .inl pl))]) X hE hP hD hS 0 rfl 107 rfl (by decide) rfl rfl dX6_asked_157 (fun H locs hP hD hS => ?_)
        refine lv_aload_n hx hb dX6_asked_158 rfl (lv_at hl 2 rfl) ?_
        refine fx_get X hE (hR.at hS) 0 rfl rfl 9 rfl q1177 rfl rfl dX6_asked_159 ?_
        refine lv_bipush (v := 109) hx hb dX6_asked_162 rfl ?_
        refine lv_iload hx hb dX6_asked_164 (lv_at hl 1 rfl) ?_
        refine fx_iast (ws' := [(ad 9, .inl (E.2 0, 128, .inl (upd (upd (upd nmd 115 (nI S)) 107 (nI q)) 109 (nI m_)))), (ad 10, .inl (E.2 0, 64, .inl pl))]) X hE hP hD hS 0 rfl 109 rfl (by decide) rfl rfl dX6_asked_166 (fun H locs hP hD hS => ?_)
        refine lv_aload_n hx hb dX6_asked_167 rfl (lv_at hl 2 rfl) ?_
        refine lv_iconst (v := 0) hx hb dX6_asked_168 rfl ?_
        refine fx_ci (va_runV (As := [.int 0]) (rest := []) X (mX6_worked l E ad im at_ op st_ us bn bm la fo fi lp tr_ sp ip sa (upd (upd (upd nmd 115 (nI S)) 107 (nI q)) 109 (nI m_)) pl 0 T (nm3 (nI S) (nI q) (nI m_)) (by decide) (by first | assumption | omega) (hTo.ok (by omega)) (nm3_of (u := 0) rfl rfl rfl) _) (cwV 1 X.2.2.2.2 (lw_V q1343 q1345 qs46 q75 q1346) rfl rfl rfl ⟨rfl, hdX6_worked⟩ ⟨Nat.le_of_ble_eq_true rfl, Nat.le_of_ble_eq_true rfl⟩) (fx_preV (fx_pre hE hP hD hS hR [1] rfl rfl (fx_rcr 0 rfl (fx_rcr 1 rfl (fx_rcm 0 rfl (by decide) fx_rc0)))) (va_recv hE.1 (hR.at hS) (ci := 6) (q0 := 0) rfl rfl)) rfl rfl hl.1 rfl (lv_room (Nat.le_of_ble_eq_true rfl)) dX6_asked_169 ⟨Nat.le_refl _, Nat.le_refl _⟩) hP hD hS hA [1] rfl rfl (fun r_169 u H locs hq_169 hP hD hS => ?_)
        obtain ⟨pl2_169, rfl⟩ : ∃ z, z = u := ⟨_, rfl⟩
        replace hP : va_P E.1 clA [(ad 9, .inl (E.2 0, 128, .inl (upd (upd (upd nmd 115 (nI S)) 107 (nI q)) 109 (nI m_)))), (ad 10, .inl (E.2 0, 64, .inl pl2_169))] _ := hP
        replace hD : va_D A [(ad 9, .inl (E.2 0, 128, .inl (upd (upd (upd nmd 115 (nI S)) 107 (nI q)) 109 (nI m_)))), (ad 10, .inl (E.2 0, 64, .inl pl2_169))] := hD
        replace hq_169 : r_169 = val T (nm3 (nI S) (nI q) (nI m_)) := hq_169
        refine fx_ti (show r_169 = (val T (nm3 (nI S) (nI q) (nI m_))) from hq_169) ?_
        refine lv_istore (lv' := [(5, .int (val T (nm3 (nI S) (nI q) (nI m_)))), (4, .int (nI m_)), (0, .ref (ad 30)), (1, .int (nI k)), (2, .int (nI S)), (3, .int (nI q))]) hx hb dX6_asked_172 hl (by decide) rfl (fun ls hl => ?_)
        refine lv_goto (tgt := 177) hx hb dX6_asked_174 (by decide) ?_
        refine lv_iload hx hb dX6_asked_177 (lv_at hl 0 rfl) ?_
        refine lv_iconst (v := 0) hx hb dX6_asked_179 rfl ?_
        refine lv_sipush (v := 9999) hx hb dX6_asked_180 rfl ?_
        refine fx_ci (va_runS (As := [.int (val T (nm3 (nI S) (nI q) (nI m_))), .int 0, .int 9999]) (rest := []) X (mX6_held l E (val T (nm3 (nI S) (nI q) (nI m_))) 0 9999 _) (va_cwS 3 X.2.2.2.2 (lw_S q1350 q1351 q75 q1352) rfl rfl rfl hdX6_held ⟨Nat.le_of_ble_eq_true rfl, Nat.le_of_ble_eq_true rfl⟩) (fx_pre hE hP hD hS hR [] rfl rfl fx_rc0) rfl rfl hl.1 rfl (lv_room (Nat.le_of_ble_eq_true rfl)) dX6_asked_183 ⟨Nat.le_refl _, Nat.le_refl _⟩) hP hD hS hA [] rfl rfl (fun r_183 u H locs hq_183 hP hD hS => ?_)
        replace hP : va_P E.1 clA [(ad 9, .inl (E.2 0, 128, .inl (upd (upd (upd nmd 115 (nI S)) 107 (nI q)) 109 (nI m_)))), (ad 10, .inl (E.2 0, 64, .inl pl2_169))] _ := hP
        replace hD : va_D A [(ad 9, .inl (E.2 0, 128, .inl (upd (upd (upd nmd 115 (nI S)) 107 (nI q)) 109 (nI m_)))), (ad 10, .inl (E.2 0, 64, .inl pl2_169))] := hD
        replace hq_183 : r_183 = hld (val T (nm3 (nI S) (nI q) (nI m_))) 0 9999 := hq_183
        exact hret r_183 ((upd (upd (upd nmd 115 (nI S)) 107 (nI q)) 109 (nI m_)), pl2_169) (by rw [hq_183]; simp [askF, payF, n_1, hb_136]) (rfl) hP hD hS (Nat.le_refl _) (Nat.le_refl _) dX6_asked_186
      · -- False
        subst hr_136
        have n_136 : T.1 = 0 := by omega
        refine lv_if_eq (tgt := 177) hx hb dX6_asked_139 (by decide) (fun _ => ?_) (fun c => (c (by decide)).elim)
        refine lv_iload hx hb dX6_asked_177 (lv_at hl 0 rfl) ?_
        refine lv_iconst (v := 0) hx hb dX6_asked_179 rfl ?_
        refine lv_sipush (v := 9999) hx hb dX6_asked_180 rfl ?_
        refine fx_ci (va_runS (As := [.int (nI (dg 10 S)), .int 0, .int 9999]) (rest := []) X (mX6_held l E (nI (dg 10 S)) 0 9999 _) (va_cwS 3 X.2.2.2.2 (lw_S q1350 q1351 q75 q1352) rfl rfl rfl hdX6_held ⟨Nat.le_of_ble_eq_true rfl, Nat.le_of_ble_eq_true rfl⟩) (fx_pre hE hP hD hS hR [] rfl rfl fx_rc0) rfl rfl hl.1 rfl (lv_room (Nat.le_of_ble_eq_true rfl)) dX6_asked_183 ⟨Nat.le_refl _, Nat.le_refl _⟩) hP hD hS hA [] rfl rfl (fun r_183 u H locs hq_183 hP hD hS => ?_)
        replace hP : va_P E.1 clA [(ad 9, .inl (E.2 0, 128, .inl nmd)), (ad 10, .inl (E.2 0, 64, .inl pl))] _ := hP
        replace hD : va_D A [(ad 9, .inl (E.2 0, 128, .inl nmd)), (ad 10, .inl (E.2 0, 64, .inl pl))] := hD
        replace hq_183 : r_183 = hld (nI (dg 10 S)) 0 9999 := hq_183
        exact hret r_183 (nmd, pl) (by rw [hq_183]; simp [askF, payF, n_1, hb_136, n_136]) (rfl) hP hD hS (Nat.le_refl _) (Nat.le_refl _) dX6_asked_186
  · -- fall 4
    have n_1 := fx_eq1 (a := q) (b := 0) c_1 (by omega) (by omega)
    refine lv_iconst (v := 0) hx hb dX6_asked_4 rfl ?_
    exact hret 0 (nmd, pl) (by simp [askF, n_1]) (rfl) hP hD hS (Nat.le_refl _) (Nat.le_refl _) dX6_asked_5
abbrev rmX6_values : Room := { frames := 2, cells := 0, slots := 0, locals := 48 }
set_option maxHeartbeats 400000 in
set_option maxRecDepth 100000 in
theorem mX6_values (l : Launch) (E : fx_En) (ad : Nat → Nat) (im : Int32) (at_ : Int32) (op : Int32) (st_ : Int32) (us : Int32) (bn : Int32) (bm : Int32) (la : Int32) (fo : Int32) (fi : Int32) (lp : Int32) (tr_ : Int32) (sp : Int32) (ip : Int32) (sa : Nat → Int32) (nmd : Nat → Int32) (pl : Nat → Int32) (k : Nat) (T : Tx) (hk : k < 8) (hT : TM sa 1 T) (hTo : TOk T) : fx_Mi l yX6_values cX6_values 2 .int rmX6_values E [.ref (ad 30), .int (nI k)] [(ad 9, .inl (E.2 0, 128, .inl nmd)), (ad 10, .inl (E.2 0, 64, .inl pl))] [(ad 30, .inr (6, [.ref (ad 0), .ref (ad 1), .int im, .ref (ad 3), .int at_, .int op, .int st_, .int us, .ref (ad 8), .ref (ad 9), .ref (ad 10), .ref (ad 11), .ref (ad 12), .ref (ad 13), .ref (ad 14), .int bn, .int bm, .ref (ad 17), .int la, .int fo, .int fi, .int lp, .ref (ad 22), .int tr_, .int sp, .int ip, .ref (ad 26), .ref (ad 27), .ref (ad 28), .ref (ad 29)])), (ad 0, .inl (E.2 0, 374, .inl sa))] (S := (Nat → Int32) × (Nat → Int32)) (fun (u : (Nat → Int32) × (Nat → Int32)) => [(ad 9, .inl (E.2 0, 128, .inl u.1)), (ad 10, .inl (E.2 0, 64, .inl u.2))]) (fun (r : Int32) (u : (Nat → Int32) × (Nat → Int32)) => r = valF T k (sa (8 + k)) (sa (16 + k))) := by
  refine fx_iW rfl rfl ?_
  intro p e s m args below meth c A ls Q X hE hP hD hR hA hl hret
  have hx := X.1
  have hb := X.2.1
  have hS : va_S A s.heap s.heap [] := va_S.rf
  replace hP : va_P E.1 clA [(ad 9, .inl (E.2 0, 128, .inl nmd)), (ad 10, .inl (E.2 0, 64, .inl pl))] _ := hP
  replace hD : va_D A [(ad 9, .inl (E.2 0, 128, .inl nmd)), (ad 10, .inl (E.2 0, 64, .inl pl))] := hD
  replace hl : lv_has ls 2 [(0, .ref (ad 30)), (1, .int (nI k))] := hl
  refine lv_aload_n hx hb dX6_values_0 rfl (lv_at hl 0 rfl) ?_
  refine lv_iconst (v := 1) hx hb dX6_values_1 rfl ?_
  refine fx_ci (va_runV (As := [.int 1]) (rest := []) X (mX6_hasText l E ad im at_ op st_ us bn bm la fo fi lp tr_ sp ip sa 1 T (by decide) (by first | assumption | omega) (by first | assumption | omega) _) (cwV 1 X.2.2.2.2 (lw_V q1320 q1322 qs43 q75 q1323) rfl rfl rfl ⟨rfl, hdX6_hasText⟩ ⟨Nat.le_of_ble_eq_true rfl, Nat.le_of_ble_eq_true rfl⟩) (fx_preV (fx_pre hE hP hD hS hR [] rfl rfl (fx_rcr 0 rfl (fx_rcr 1 rfl fx_rc0))) (va_recv hE.1 (hR.at hS) (ci := 6) (q0 := 0) rfl rfl)) rfl rfl hl.1 rfl (lv_room (Nat.le_of_ble_eq_true rfl)) dX6_values_2 ⟨Nat.le_refl _, Nat.le_refl _⟩) hP hD hS hA [] rfl rfl (fun r_2 u H locs hq_2 hP hD hS => ?_)
  replace hP : va_P E.1 clA [(ad 9, .inl (E.2 0, 128, .inl nmd)), (ad 10, .inl (E.2 0, 64, .inl pl))] _ := hP
  replace hD : va_D A [(ad 9, .inl (E.2 0, 128, .inl nmd)), (ad 10, .inl (E.2 0, 64, .inl pl))] := hD
  replace hq_2 : r_2 = fx_b (T.1 ≠ 0) := hq_2
  rcases fx_bc hq_2 with ⟨hb_2, hr_2⟩ | ⟨hb_2, hr_2⟩
  · -- True
    subst hr_2
    refine lv_if_ne (tgt := 10) hx hb dX6_values_5 (by decide) (fun _ => ?_) (fun c => absurd c (by decide))
    refine lv_aload_n hx hb dX6_values_10 rfl (lv_at hl 0 rfl) ?_
    refine fx_get X hE (hR.at hS) 0 rfl rfl 9 rfl q1177 rfl rfl dX6_values_11 ?_
    refine lv_bipush (v := 116) hx hb dX6_values_14 rfl ?_
    refine lv_iload_n hx hb dX6_values_16 rfl (lv_at hl 1 rfl) ?_
    refine fx_iast (ws' := [(ad 9, .inl (E.2 0, 128, .inl (upd nmd 116 (nI k)))), (ad 10, .inl (E.2 0, 64, .inl pl))]) X hE hP hD hS 0 rfl 116 rfl (by decide) rfl rfl dX6_values_17 (fun H locs hP hD hS => ?_)
    refine lv_aload_n hx hb dX6_values_18 rfl (lv_at hl 0 rfl) ?_
    refine fx_get X hE (hR.at hS) 0 rfl rfl 9 rfl q1177 rfl rfl dX6_values_19 ?_
    refine lv_bipush (v := 112) hx hb dX6_values_22 rfl ?_
    refine lv_aload_n hx hb dX6_values_24 rfl (lv_at hl 0 rfl) ?_
    refine fx_get X hE (hR.at hS) 0 rfl rfl 0 rfl q1168 rfl rfl dX6_values_25 ?_
    refine lv_bipush (v := 8) hx hb dX6_values_28 rfl ?_
    refine lv_iload_n hx hb dX6_values_30 rfl (lv_at hl 1 rfl) ?_
    refine lv_iadd hx hb dX6_values_31 ?_
    refine fx_ti (nI_add 8 k) ?_
    refine fx_iald X hE (hR.at hS) 1 rfl (8 + k) rfl (by omega) rfl dX6_values_32 ?_
    refine fx_iast (ws' := [(ad 9, .inl (E.2 0, 128, .inl (upd (upd nmd 116 (nI k)) 112 (sa (8 + k))))), (ad 10, .inl (E.2 0, 64, .inl pl))]) X hE hP hD hS 0 rfl 112 rfl (by decide) rfl rfl dX6_values_33 (fun H locs hP hD hS => ?_)
    refine lv_aload_n hx hb dX6_values_34 rfl (lv_at hl 0 rfl) ?_
    refine fx_get X hE (hR.at hS) 0 rfl rfl 9 rfl q1177 rfl rfl dX6_values_35 ?_
    refine lv_bipush (v := 99) hx hb dX6_values_38 rfl ?_
    refine lv_aload_n hx hb dX6_values_40 rfl (lv_at hl 0 rfl) ?_
    refine fx_get X hE (hR.at hS) 0 rfl rfl 0 rfl q1168 rfl rfl dX6_values_41 ?_
    refine lv_bipush (v := 16) hx hb dX6_values_44 rfl ?_
    refine lv_iload_n hx hb dX6_values_46 rfl (lv_at hl 1 rfl) ?_
    refine lv_iadd hx hb dX6_values_47 ?_
    refine fx_ti (nI_add 16 k) ?_
    refine fx_iald X hE (hR.at hS) 1 rfl (16 + k) rfl (by omega) rfl dX6_values_48 ?_
    refine fx_iast (ws' := [(ad 9, .inl (E.2 0, 128, .inl (upd (upd (upd nmd 116 (nI k)) 112 (sa (8 + k))) 99 (sa (16 + k))))), (ad 10, .inl (E.2 0, 64, .inl pl))]) X hE hP hD hS 0 rfl 99 rfl (by decide) rfl rfl dX6_values_49 (fun H locs hP hD hS => ?_)
    refine lv_aload_n hx hb dX6_values_50 rfl (lv_at hl 0 rfl) ?_
    refine lv_iconst (v := 1) hx hb dX6_values_51 rfl ?_
    refine fx_ci (va_runV (As := [.int 1]) (rest := []) X (mX6_worked l E ad im at_ op st_ us bn bm la fo fi lp tr_ sp ip sa (upd (upd (upd nmd 116 (nI k)) 112 (sa (8 + k))) 99 (sa (16 + k))) pl 1 T (nm3 (nI k) (sa (8 + k)) (sa (16 + k))) (by decide) (by first | assumption | omega) (hTo.ok (by omega)) (nm3_of (u := 1) rfl rfl rfl) _) (cwV 1 X.2.2.2.2 (lw_V q1343 q1345 qs46 q75 q1346) rfl rfl rfl ⟨rfl, hdX6_worked⟩ ⟨Nat.le_of_ble_eq_true rfl, Nat.le_of_ble_eq_true rfl⟩) (fx_preV (fx_pre hE hP hD hS hR [1] rfl rfl (fx_rcr 0 rfl (fx_rcr 1 rfl (fx_rcm 0 rfl (by decide) fx_rc0)))) (va_recv hE.1 (hR.at hS) (ci := 6) (q0 := 0) rfl rfl)) rfl rfl hl.1 rfl (lv_room (Nat.le_of_ble_eq_true rfl)) dX6_values_52 ⟨Nat.le_refl _, Nat.le_refl _⟩) hP hD hS hA [1] rfl rfl (fun r_52 u H locs hq_52 hP hD hS => ?_)
    obtain ⟨pl2_52, rfl⟩ : ∃ z, z = u := ⟨_, rfl⟩
    replace hP : va_P E.1 clA [(ad 9, .inl (E.2 0, 128, .inl (upd (upd (upd nmd 116 (nI k)) 112 (sa (8 + k))) 99 (sa (16 + k))))), (ad 10, .inl (E.2 0, 64, .inl pl2_52))] _ := hP
    replace hD : va_D A [(ad 9, .inl (E.2 0, 128, .inl (upd (upd (upd nmd 116 (nI k)) 112 (sa (8 + k))) 99 (sa (16 + k))))), (ad 10, .inl (E.2 0, 64, .inl pl2_52))] := hD
    replace hq_52 : r_52 = val T (nm3 (nI k) (sa (8 + k)) (sa (16 + k))) := hq_52
    refine fx_ti (show r_52 = (val T (nm3 (nI k) (sa (8 + k)) (sa (16 + k)))) from hq_52) ?_
    refine lv_iconst (v := 0) hx hb dX6_values_55 rfl ?_
    refine lv_bipush (v := 99) hx hb dX6_values_56 rfl ?_
    refine fx_ci (va_runS (As := [.int (val T (nm3 (nI k) (sa (8 + k)) (sa (16 + k)))), .int 0, .int 99]) (rest := []) X (mX6_held l E (val T (nm3 (nI k) (sa (8 + k)) (sa (16 + k)))) 0 99 _) (va_cwS 3 X.2.2.2.2 (lw_S q1350 q1351 q75 q1352) rfl rfl rfl hdX6_held ⟨Nat.le_of_ble_eq_true rfl, Nat.le_of_ble_eq_true rfl⟩) (fx_pre hE hP hD hS hR [] rfl rfl fx_rc0) rfl rfl hl.1 rfl (lv_room (Nat.le_of_ble_eq_true rfl)) dX6_values_58 ⟨Nat.le_refl _, Nat.le_refl _⟩) hP hD hS hA [] rfl rfl (fun r_58 u H locs hq_58 hP hD hS => ?_)
    replace hP : va_P E.1 clA [(ad 9, .inl (E.2 0, 128, .inl (upd (upd (upd nmd 116 (nI k)) 112 (sa (8 + k))) 99 (sa (16 + k))))), (ad 10, .inl (E.2 0, 64, .inl pl2_52))] _ := hP
    replace hD : va_D A [(ad 9, .inl (E.2 0, 128, .inl (upd (upd (upd nmd 116 (nI k)) 112 (sa (8 + k))) 99 (sa (16 + k))))), (ad 10, .inl (E.2 0, 64, .inl pl2_52))] := hD
    replace hq_58 : r_58 = hld (val T (nm3 (nI k) (sa (8 + k)) (sa (16 + k)))) 0 99 := hq_58
    exact hret r_58 ((upd (upd (upd nmd 116 (nI k)) 112 (sa (8 + k))) 99 (sa (16 + k))), pl2_52) (by rw [hq_58]; simp [valF, hb_2]) (rfl) hP hD hS (Nat.le_refl _) (Nat.le_refl _) dX6_values_61
  · -- False
    subst hr_2
    refine lv_if_ne (tgt := 10) hx hb dX6_values_5 (by decide) (fun c => (c (by decide)).elim) (fun _ => ?_)
    refine lv_iconst (v := 0) hx hb dX6_values_8 rfl ?_
    exact hret 0 (nmd, pl) (by simp [valF] ; omega) (rfl) hP hD hS (Nat.le_refl _) (Nat.le_refl _) dX6_values_9
abbrev rmX6_paid : Room := { frames := 3, cells := 0, slots := 0, locals := 73 }
set_option maxHeartbeats 400000 in
set_option maxRecDepth 100000 in
theorem mX6_paid (l : Launch) (E : fx_En) (ad : Nat → Nat) (im : Int32) (at_ : Int32) (op : Int32) (st_ : Int32) (us : Int32) (bn : Int32) (bm : Int32) (la : Int32) (fo : Int32) (fi : Int32) (lp : Int32) (tr_ : Int32) (sp : Int32) (ip : Int32) (sa : Nat → Int32) (nmd : Nat → Int32) (pl : Nat → Int32) (h : Nat) (row : Nat → Int32) (k : Nat) (kd : Nat) (m_ : Nat) (T : Tx) (rn : Nat → Nat) (pr : Nat → Nat) (hk : k < 4) (hkd : sa (32 + 2 * k) = nI kd) (hkd2 : kd ≤ 6) (hm : sa (32 + 2 * k + 1) = nI m_) (hm2 : m_ ≤ 9) (hT : TM sa 0 T) (hTo : TOk T) (hrow : ∀ t, t < 8 → row t = nI (rn t) ∧ rn t ≤ 99) (hpr : ∀ t, t < 8 → sa (8 + t) = nI (pr t) ∧ pr t ≤ 9999) : fx_Mi l yX6_paid cX6_paid 3 .int rmX6_paid E [.ref (ad 30), .int (nI k), .ref h] [(ad 9, .inl (E.2 0, 128, .inl nmd)), (ad 10, .inl (E.2 0, 64, .inl pl))] [(ad 30, .inr (6, [.ref (ad 0), .ref (ad 1), .int im, .ref (ad 3), .int at_, .int op, .int st_, .int us, .ref (ad 8), .ref (ad 9), .ref (ad 10), .ref (ad 11), .ref (ad 12), .ref (ad 13), .ref (ad 14), .int bn, .int bm, .ref (ad 17), .int la, .int fo, .int fi, .int lp, .ref (ad 22), .int tr_, .int sp, .int ip, .ref (ad 26), .ref (ad 27), .ref (ad 28), .ref (ad 29)])), (ad 0, .inl (E.2 0, 374, .inl sa)), (h, .inl (E.2 0, 8, .inl row))] (S := (Nat → Int32) × (Nat → Int32)) (fun (u : (Nat → Int32) × (Nat → Int32)) => [(ad 9, .inl (E.2 0, 128, .inl u.1)), (ad 10, .inl (E.2 0, 64, .inl u.2))]) (fun (r : Int32) (u : (Nat → Int32) × (Nat → Int32)) => r = askF kd m_ T (sumN rn pr 8) (manyN rn 8)) := by
  refine fx_iW rfl rfl ?_
  intro p e s m args below meth c A ls Q X hE hP hD hR hA hl hret
  have hx := X.1
  have hb := X.2.1
  have hS : va_S A s.heap s.heap [] := va_S.rf
  replace hP : va_P E.1 clA [(ad 9, .inl (E.2 0, 128, .inl nmd)), (ad 10, .inl (E.2 0, 64, .inl pl))] _ := hP
  replace hD : va_D A [(ad 9, .inl (E.2 0, 128, .inl nmd)), (ad 10, .inl (E.2 0, 64, .inl pl))] := hD
  replace hl : lv_has ls 3 [(0, .ref (ad 30)), (1, .int (nI k)), (2, .ref h)] := hl
  have hsl := sumN_le (rn := rn) (pr := pr) (a := 99) (b := 9999) 8 (fun t ht => (hrow t ht).2) (fun t ht => (hpr t ht).2)
  have hml := manyN_le (rn := rn) (a := 99) 8 (fun t ht => (hrow t ht).2)
  refine lv_aload_n hx hb dX6_paid_0 rfl (lv_at hl 0 rfl) ?_
  refine lv_iload_n hx hb dX6_paid_1 rfl (lv_at hl 1 rfl) ?_
  refine lv_aload_n hx hb dX6_paid_2 rfl (lv_at hl 0 rfl) ?_
  refine lv_aload_n hx hb dX6_paid_3 rfl (lv_at hl 2 rfl) ?_
  refine fx_ci (va_runV (As := [.ref h]) (rest := [.int (nI k), .ref (ad 30)]) X (mX6_sumOf l E ad im at_ op st_ us bn bm la fo fi lp tr_ sp ip sa h row _) (cwV 1 X.2.2.2.2 (lw_V q1416 q1418 qs52 q75 q1419) rfl rfl rfl ⟨rfl, hdX6_sumOf⟩ ⟨Nat.le_of_ble_eq_true rfl, Nat.le_of_ble_eq_true rfl⟩) (fx_preV (fx_pre hE hP hD hS hR [] rfl rfl (fx_rcr 0 rfl (fx_rcr 1 rfl (fx_rcr 2 rfl fx_rc0)))) (va_recv hE.1 (hR.at hS) (ci := 6) (q0 := 0) rfl rfl)) rfl rfl hl.1 rfl (lv_room (Nat.le_of_ble_eq_true rfl)) dX6_paid_4 ⟨Nat.le_refl _, Nat.le_refl _⟩) hP hD hS hA [] rfl rfl (fun r_4 u H locs hq_4 hP hD hS => ?_)
  replace hP : va_P E.1 clA [(ad 9, .inl (E.2 0, 128, .inl nmd)), (ad 10, .inl (E.2 0, 64, .inl pl))] _ := hP
  replace hD : va_D A [(ad 9, .inl (E.2 0, 128, .inl nmd)), (ad 10, .inl (E.2 0, 64, .inl pl))] := hD
  replace hq_4 : r_4 = l_sum (fun i_ => row i_ * sa (8 + i_)) 8 := hq_4
  refine fx_ti (show r_4 = nI (sumN rn pr 8) from hq_4.trans (sumN_I (pc := fun t => sa (8 + t)) 8 (fun t ht => (hrow t ht).1) (fun t ht => (hpr t ht).1))) ?_
  refine lv_aload_n hx hb dX6_paid_7 rfl (lv_at hl 2 rfl) ?_
  refine fx_ci (va_runS (As := [.ref h]) (rest := [.int (nI (sumN rn pr 8)), .int (nI k), .ref (ad 30)]) X (mX6_many l E h row _) (va_cwS 1 X.2.2.2.2 (lw_S q1413 q1414 q75 q1415) rfl rfl rfl hdX6_many ⟨Nat.le_of_ble_eq_true rfl, Nat.le_of_ble_eq_true rfl⟩) (fx_pre hE hP hD hS hR [] rfl rfl (fx_rcr 2 rfl fx_rc0)) rfl rfl hl.1 rfl (lv_room (Nat.le_of_ble_eq_true rfl)) dX6_paid_8 ⟨Nat.le_refl _, Nat.le_refl _⟩) hP hD hS hA [] rfl rfl (fun r_8 u H locs hq_8 hP hD hS => ?_)
  replace hP : va_P E.1 clA [(ad 9, .inl (E.2 0, 128, .inl nmd)), (ad 10, .inl (E.2 0, 64, .inl pl))] _ := hP
  replace hD : va_D A [(ad 9, .inl (E.2 0, 128, .inl nmd)), (ad 10, .inl (E.2 0, 64, .inl pl))] := hD
  replace hq_8 : r_8 = l_sum row 8 := hq_8
  refine fx_ti (show r_8 = nI (manyN rn 8) from hq_8.trans (manyN_I 8 (fun t ht => (hrow t ht).1))) ?_
  refine fx_ci (va_runV (As := [.int (nI k), .int (nI (sumN rn pr 8)), .int (nI (manyN rn 8))]) (rest := []) X (mX6_asked l E ad im at_ op st_ us bn bm la fo fi lp tr_ sp ip sa nmd pl k (sumN rn pr 8) (manyN rn 8) kd m_ T (by first | assumption | omega) (by first | assumption | omega) (by first | assumption | omega) (by first | assumption | omega) (by first | assumption | omega) (by first | assumption | omega) (by first | assumption | omega) (by omega) (by omega) _) (cwV 3 X.2.2.2.2 (lw_V q1391 q1393 qs49 q75 q1394) rfl rfl rfl ⟨rfl, hdX6_asked⟩ ⟨Nat.le_of_ble_eq_true rfl, Nat.le_of_ble_eq_true rfl⟩) (fx_preV (fx_pre hE hP hD hS hR [0, 1] rfl rfl (fx_rcr 0 rfl (fx_rcr 1 rfl fx_rc0))) (va_recv hE.1 (hR.at hS) (ci := 6) (q0 := 0) rfl rfl)) rfl rfl hl.1 rfl (lv_room (Nat.le_of_ble_eq_true rfl)) dX6_paid_11 ⟨Nat.le_refl _, Nat.le_refl _⟩) hP hD hS hA [0, 1] rfl rfl (fun r_11 u H locs hq_11 hP hD hS => ?_)
  obtain ⟨nm2_11, pl2_11⟩ := u
  replace hP : va_P E.1 clA [(ad 9, .inl (E.2 0, 128, .inl nm2_11)), (ad 10, .inl (E.2 0, 64, .inl pl2_11))] _ := hP
  replace hD : va_D A [(ad 9, .inl (E.2 0, 128, .inl nm2_11)), (ad 10, .inl (E.2 0, 64, .inl pl2_11))] := hD
  replace hq_11 : r_11 = askF kd m_ T (sumN rn pr 8) (manyN rn 8) := hq_11
  exact hret r_11 (nm2_11, pl2_11) (hq_11) (rfl) hP hD hS (Nat.le_refl _) (Nat.le_refl _) dX6_paid_14
