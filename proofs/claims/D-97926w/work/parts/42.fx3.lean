/-! System.arraycopy between two arrays of one class -/
section FX4
variable {p : Program} {l : Launch} {e : Env} {R : Room} {s : State} {m : MethodId} {args : Array Value} {below : List Frame} {meth : Method} {c : Code} {H : Heap} {locs : List Loc} {cells slots : Nat} {Q : State → Prop}
variable {own : String} {cc : ByteArray} {nL : Nat} {pc : Nat} {ls : Array Slot} {rest : List Value} {E : fx_En} {A : Nat → Prop} {ws : va_W}
theorem fx_acpy (X : CallFix p m c cc nL s args lw_all own) (hE : fx_K E s) (hl : ls.size = nL) {H0 : Heap} (hP : va_P E.1 clA ws H) (hD : va_D A ws) (hS : va_S A H0 H locs) {idx : Nat} (k1 : Cond.methodLink own idx arraycopyName ∈ lw_all) (k2 : Cond.native arraycopyName ∈ lw_all) (k3 : Cond.static arraycopyName ∈ lw_all) (k4 : Cond.initialized "java/lang/System" ∈ lw_all)
    (q0 q1 t0 : Nat) {a0 a n0 n1 : Nat} {f g : Nat → Int32} {ty : FieldType} (ha0 : ws[q0]? = some (a0, .inl (E.2 t0, n0, .inl f))) (ha1 : ws[q1]? = some (a, .inl (E.2 t0, n1, .inl g))) (ht : (tyA E.2)[t0]? = some (E.2 t0, ty)) (hprim : refKind ty = false)
    {x y z : Int32} (sp dp n : Nat) (hx : x = nI sp) (hy : y = nI dp) (hz : z = nI n) (h1 : sp + n ≤ n0) (h2 : dp + n ≤ n1) (hn0 : n0 < 2147483648) (hn1 : n1 < 2147483648) (hfit : ∀ i, i < n → fits ty (.int (f (sp + i))) = true) (hR : 1 ≤ R.frames ∧ (rest.map fun v => v.category).sum + (nativeFrameWords "java/lang/System" "arraycopy" 5 + 11) ≤ R.locals)
    {ws' : va_W} (hw : ws.set q1 (a, .inl (E.2 t0, n1, .inl (va_cpy f g sp dp n))) = ws') (hdg : decode cc pc = .ok (.invokestatic idx, 3))
    (kk : ∀ (H1 : Heap) (locs1 : List Loc), va_P E.1 clA ws' H1 → va_D A ws' → va_S A H0 H1 locs1 → W p l e R s m args below meth c H1 locs1 cells slots Q (F0 m (pc + 3) ls rest)) : W p l e R s m args below meth c H locs cells slots Q (F0 m pc ls (.int z :: .int y :: .ref a :: .int x :: .ref a0 :: rest)) := by
  subst hx; subst hy; subst hz; subst hw
  have e1 : (nI sp).toNatClampNeg = sp := nI_clamp (by omega)
  have e2 : (nI dp).toNatClampNeg = dp := nI_clamp (by omega)
  have e3 : (nI n).toNatClampNeg = n := nI_clamp (by omega)
  refine va_copyi X.1 X.2.1 (X.2.2.1.trans hl.symm) X.2.2.2.1 (X.2.2.2.2 _ k1) (X.2.2.2.2 _ k2) (X.2.2.2.2 _ k3) (X.2.2.2.2 _ k4) hE.1 hP hD hS q0 q1 t0 t0 ha0 ha1 ht ht hprim (nI_pos (by omega)) (nI_pos (by omega)) (nI_pos (by omega)) (by rw [e1, e3]; exact h1) (by rw [e2, e3]; exact h2) (fun i hi => by rw [e1]; rw [e3] at hi; exact hfit i hi) hR.1 hR.2 hdg ?_
  rw [e1, e2, e3]
  exact kk
theorem fits_byte {v : Int32} {n : Nat} (h : v = nI n) (hn : n < 128) : fits .byte (.int v) = true := by
  subst h
  have e1 : (-128 : Int32).toInt = -128 := by decide
  have e2 : (127 : Int32).toInt = 127 := by decide
  simp [fits]
  rw [Int32.le_iff_toInt_le, Int32.le_iff_toInt_le, nI_toInt (by omega), e1, e2]
  omega
end FX4
