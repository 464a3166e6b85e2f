/-! COPIES OF ROWS; the shop at its start -/
section FQ
variable {p : Program} {l : Launch} {e : Env} {R : Room} {s : State} {m : MethodId} {args : Array Value} {below : List Frame} {meth : Method} {c : Code} {H : Heap} {locs : List Loc} {cells slots : Nat} {Q : State → Prop}
variable {own : String} {cc : ByteArray} {nL : Nat} {pc : Nat} {ls : Array Slot} {rest : List Value} {E : fx_En} {A : Nat → Prop} {ws : va_W}
/-- System.arraycopy between arrays of references of one class -/
theorem fx_acpq (X : CallFix p m c cc nL s args lw_all own) (hE : fx_K E s) (hl : ls.size = nL) {H0 : Heap} (hP : va_P E.1 clA ws H) (hD : va_D A ws) (hS : va_S A H0 H locs) {idx : Nat} (k1 : Cond.methodLink own idx arraycopyName ∈ lw_all) (k2 : Cond.native arraycopyName ∈ lw_all) (k3 : Cond.static arraycopyName ∈ lw_all) (k4 : Cond.initialized "java/lang/System" ∈ lw_all)
    (q0 q1 t0 : Nat) {a0 a n0 n1 : Nat} {f g : Nat → Option Nat} {C : String} (ha0 : ws[q0]? = some (a0, .inl (E.2 t0, n0, .inr (.inr (.inr (.inr f)))))) (ha1 : ws[q1]? = some (a, .inl (E.2 t0, n1, .inr (.inr (.inr (.inr g)))))) (ht : (tyA E.2)[t0]? = some (E.2 t0, .object C))
    {x y z : Int32} (sp dp n : Nat) (hx : x = nI sp) (hy : y = nI dp) (hz : z = nI n) (h1 : sp + n ≤ n0) (h2 : dp + n ≤ n1) (hn0 : n0 < 2147483648) (hn1 : n1 < 2147483648) (hel : ∀ i, i < n → ∀ y : Nat, f (sp + i) = some y → ∃ cellV : Cell, H[y]? = some cellV ∧ cellV.vm.isStatics = false ∧ s.vm.findClass C = some cellV.cls) (hR : 1 ≤ R.frames ∧ (rest.map fun v => v.category).sum + (nativeFrameWords "java/lang/System" "arraycopy" 5 + 11) ≤ R.locals)
    {ws' : va_W} (hw : ws.set q1 (a, .inl (E.2 t0, n1, .inr (.inr (.inr (.inr (va_cpy f g sp dp n)))))) = ws') (hdg : decode cc pc = .ok (.invokestatic idx, 3))
    (kk : ∀ (H1 : Heap) (locs1 : List Loc), va_P E.1 clA ws' H1 → va_D A ws' → va_S A H0 H1 locs1 → W p l e R s m args below meth c H1 locs1 cells slots Q (F0 m (pc + 3) ls rest)) : W p l e R s m args below meth c H locs cells slots Q (F0 m pc ls (.int z :: .int y :: .ref a :: .int x :: .ref a0 :: rest)) := by
  subst hx; subst hy; subst hz; subst hw
  have e1 : (nI sp).toNatClampNeg = sp := nI_clamp (by omega)
  have e2 : (nI dp).toNatClampNeg = dp := nI_clamp (by omega)
  have e3 : (nI n).toNatClampNeg = n := nI_clamp (by omega)
  refine va_copyq X.1 X.2.1 (X.2.2.1.trans hl.symm) X.2.2.2.1 (X.2.2.2.2 _ k1) (X.2.2.2.2 _ k2) (X.2.2.2.2 _ k3) (X.2.2.2.2 _ k4) hE.1 hP hD hS q0 q1 t0 t0 ha0 ha1 ht ht (nI_pos (by omega)) (nI_pos (by omega)) (nI_pos (by omega)) (by rw [e1, e3]; exact h1) (by rw [e2, e3]; exact h2) (fun i hi y hy => hel i (by rw [e3] at hi; exact hi) y (by rw [e1] at hy; exact hy)) (fun comp c0 g1 g2 => by cases g1.symm.trans g2; exact va_asg _ _) hR.1 hR.2 hdg ?_
  rw [e1, e2, e3]
  exact kk
end FQ
theorem arrV_c {c : ClassId} {N : Nat} {f g : Nat → Value} (h : ∀ j, j < N → f j = g j) : arrV c N f = arrV c N g := by
  have e : (fun j : Fin N => f j.val) = fun j : Fin N => g j.val := funext fun j => h j.val j.isLt
  simp only [arrV, e]
/-- what an array of references holds, said by another function -/
theorem va_refQ {D : va_G} {cl : List vw_C} {ws : va_W} {H : Heap} {k a n : Nat} {c : ClassId} {f g : Nat → Option Nat} (hP : va_P D cl ws H) (hk : ws[k]? = some (a, .inl (c, n, .inr (.inr (.inr (.inr f)))))) (h : ∀ j, j < n → f j = g j) : va_P D cl (ws.set k (a, .inl (c, n, .inr (.inr (.inr (.inr g)))))) H := by
  have hl := (List.getElem?_eq_some_iff.mp hk).1
  intro j q hj
  by_cases e : k = j
  · subst e
    rw [List.getElem?_set_self hl] at hj
    cases hj
    have h1 : H[a]? = some (vp_cell c (n, .inr (.inr (.inr (.inr f))))) := hP k _ hk
    have h2 : vp_cell c (n, .inr (.inr (.inr (.inr f)))) = vp_cell c (n, .inr (.inr (.inr (.inr g)))) := by
      have e : ∀ j, j < n → va_rf (f j) = va_rf (g j) := fun j hj => by rw [h j hj]
      exact arrV_c (f := fun j => va_rf (f j)) (g := fun j => va_rf (g j)) e
    show H[a]? = _
    rw [h1, h2]
  · rw [List.getElem?_set_ne e] at hj
    exact hP j q hj
theorem rl_cpy {f g sa : Nat → Int32} {b n : Nat} (h : rl f sa b n) : rl (va_cpy f g 0 0 n) sa b n := by
  intro t ht
  simp only [va_cpy]
  rw [if_pos (by omega), Nat.zero_add, Nat.sub_zero]
  exact h t ht
def stT (n : Nat) : Nat → Int32 := fun j => if j < n then 9 else 0
theorem stT_0 : (fun _ => 0) = stT 0 := by funext j; simp [stT]
theorem stT_s {h : Nat → Int32} {n : Nat} (e : h = stT n) : upd h n 9 = stT (n + 1) := by
  subst e
  funext j
  simp only [upd, stT]
  by_cases h : j = n
  · subst h; rw [if_pos rfl, if_pos (by omega)]
  · rw [if_neg h]
    by_cases h2 : j < n
    · rw [if_pos h2, if_pos (by omega)]
    · rw [if_neg h2, if_neg (by omega)]
/-- four references, one after another -/
theorem four_q {a : Nat → Nat} {b : Nat} : ∀ j, j < 4 → va_up (va_up (va_up (va_up (fun _ => none) 0 (some (a b))) 1 (some (a (b + 1)))) 2 (some (a (b + 2)))) 3 (some (a (b + 3))) j = some (a (b + j)) := by
  intro j hj
  rcases (show j = 0 ∨ j = 1 ∨ j = 2 ∨ j = 3 by omega) with h | h | h | h <;> subst h <;> simp [va_up]
