/-! MORE OF THE fx LAYER: calls through an interface, inherited and overriding methods, arrays of references -/
theorem lw_U {own C owner : String} {idx : Nat} {x y : MethodName} {b : ByteArray} {L : Nat} {r : Option FieldType} (h1 : Cond.methodLink own idx x ∈ lw_all) (h2 : Cond.sameMethod x.cls owner x.name x.desc ∈ lw_all) (h3 : Cond.selects C x y ∈ lw_all) (h4 : Cond.instanceMethod y ∈ lw_all) (h5 : Cond.initialized y.cls ∈ lw_all) (h6 : Cond.code y b L r ∈ lw_all) : GoodIn lw_all (va_wsU own idx C owner x y (ws_ y b L r)) := by
  refine lw_app ?_ (lw_meth h6)
  intro w hw
  simp only [List.mem_cons, List.not_mem_nil, or_false] at hw
  rcases hw with e | e | e | e | e
  · rw [e]; exact h1
  · rw [e]; exact h2
  · rw [e]; exact h3
  · rw [e]; exact h4
  · rw [e]; exact h5
theorem lw_O {own C owner : String} {idx : Nat} {x y : MethodName} {b : ByteArray} {L : Nat} {r : Option FieldType} (h1 : Cond.methodLink own idx x ∈ lw_all) (h2 : Cond.sameMethod x.cls owner x.name x.desc ∈ lw_all) (h0 : Cond.instanceMethod ⟨owner, x.name, x.desc⟩ ∈ lw_all) (h3 : Cond.selects C x y ∈ lw_all) (h4 : Cond.instanceMethod y ∈ lw_all) (h5 : Cond.initialized y.cls ∈ lw_all) (h6 : Cond.code y b L r ∈ lw_all) : GoodIn lw_all (va_wsO own idx C owner x y (ws_ y b L r)) := by
  refine lw_app ?_ (lw_meth h6)
  intro w hw
  simp only [List.mem_cons, List.not_mem_nil, or_false] at hw
  rcases hw with e | e | e | e | e | e
  · rw [e]; exact h1
  · rw [e]; exact h2
  · rw [e]; exact h0
  · rw [e]; exact h3
  · rw [e]; exact h4
  · rw [e]; exact h5
theorem lw_F {own C : String} {idx : Nat} {x y : MethodName} {b : ByteArray} {L : Nat} {r : Option FieldType} (h1 : Cond.methodLink own idx x ∈ lw_all) (h3 : Cond.selects C x y ∈ lw_all) (h4 : Cond.instanceMethod y ∈ lw_all) (h5 : Cond.initialized y.cls ∈ lw_all) (h6 : Cond.code y b L r ∈ lw_all) : GoodIn lw_all (va_wsF own idx C x y (ws_ y b L r)) := by
  refine lw_app ?_ (lw_meth h6)
  intro w hw
  simp only [List.mem_cons, List.not_mem_nil, or_false] at hw
  rcases hw with e | e | e | e
  · rw [e]; exact h1
  · rw [e]; exact h3
  · rw [e]; exact h4
  · rw [e]; exact h5
section FX3
variable {p : Program} {l : Launch} {e : Env} {R : Room} {s : State} {m : MethodId} {args : Array Value} {below : List Frame} {meth : Method} {c : Code} {H : Heap} {locs : List Loc} {cells slots : Nat} {Q : State → Prop}
variable {own : String} {cc : ByteArray} {nL : Nat} {pc : Nat} {ls : Array Slot} {rest : List Value} {E : fx_En} {A : Nat → Prop} {ws : va_W}
theorem fx_ci5 {mc ms : Nat} {a : Array Value} {st0 : List Value} {wc : va_W} {S : Type} {post : Int32 → S → Prop} {w' : S → va_W} (hr : va_Run5 p l e R s m args below meth c H locs cells slots mc ms (F0 m pc ls st0) rest (va_Qi post (fx_B E (va_A wc H.size) w') (va_A wc H.size) a) (va_A wc H.size)) {H0 : Heap} (hP : va_P E.1 clA ws H) (hD : va_D A ws) (hS : va_S A H0 H locs) (hA : ∀ q, H0.size ≤ q → A q) (is : List Nat) (hn : va_nd is = true) (hC : is.map (fun i => ws[i]?) = wc.map some)
    (kk : ∀ (r : Int32) (u : S) (H1 : Heap) (locs1 : List Loc), post r u → va_P E.1 clA (fx_put ws is (w' u)) H1 → va_D A (fx_put ws is (w' u)) → va_S A H0 H1 locs1 → W p l e R s m args below meth c H1 locs1 (cells + mc) (slots + ms) Q (F0 m (pc + 5) ls (.int r :: rest))) : W p l e R s m args below meth c H locs cells slots Q (F0 m pc ls st0) := by
  have hF := fx_free hD hS hA is hC
  refine va_callFi hr hS (fun q _ h => hF q h) hF (fun r u t H1 locs1 ht hvm hp hB hz hk hS1 => ?_)
  obtain ⟨b1, b2⟩ := hB
  rw [ht] at b1
  obtain ⟨j1, j2⟩ := fx_join hP hD is hC hn hk hF b1 b2
  exact kk r u H1 locs1 hp j1 j2 hS1
theorem fx_aast (X : CallFix p m c cc nL s args lw_all own) (hE : fx_K E s) {H0 : Heap} (hP : va_P E.1 clA ws H) (hD : va_D A ws) (hS : va_S A H0 H locs) (q0 t0 qk ci : Nat) {r : vw_C} {a n v : Nat} {vs : List Value} {f : Nat → Option Nat} (ha : ws[q0]? = some (a, .inl (E.2 t0, n, .inr (.inr (.inr (.inr f)))))) (ht : (tyA E.2)[t0]? = some (E.2 t0, .object r.1)) (hv : ws[qk]? = some (v, .inr (ci, vs))) (hc : clA[ci]? = some r) (j : Nat) {i : Int32} (hi : i = nI j) (hj : j < n) (hn : Nat.blt n 2147483648 = true) {ws' : va_W} (hw : ws.set q0 (a, .inl (E.2 t0, n, .inr (.inr (.inr (.inr (va_up f j (some v))))))) = ws') (hdg : decode cc pc = .ok (.aastore, 1))
    (kk : ∀ (H1 : Heap) (locs1 : List Loc), va_P E.1 clA ws' H1 → va_D A ws' → va_S A H0 H1 locs1 → W p l e R s m args below meth c H1 locs1 cells slots Q (F0 m (pc + 1) ls rest)) : W p l e R s m args below meth c H locs cells slots Q (F0 m pc ls (.ref v :: .int i :: .ref a :: rest)) := by
  obtain ⟨h1, h2⟩ := fx_ix hi hj hn
  subst hw
  exact va_astq X.1 X.2.1 hE.1 hP hD hS q0 t0 qk ci ha ht hv hc h1 hdg (by rw [h2]; exact kk)
theorem fx_aastN (X : CallFix p m c cc nL s args lw_all own) (hE : fx_K E s) {H0 : Heap} (hP : va_P E.1 clA ws H) (hD : va_D A ws) (hS : va_S A H0 H locs) (q0 t0 : Nat) {C : String} {a n : Nat} {f : Nat → Option Nat} (ha : ws[q0]? = some (a, .inl (E.2 t0, n, .inr (.inr (.inr (.inr f)))))) (ht : (tyA E.2)[t0]? = some (E.2 t0, .object C)) (j : Nat) {i : Int32} (hi : i = nI j) (hj : j < n) (hn : Nat.blt n 2147483648 = true) {ws' : va_W} (hw : ws.set q0 (a, .inl (E.2 t0, n, .inr (.inr (.inr (.inr (va_up f j none)))))) = ws') (hdg : decode cc pc = .ok (.aastore, 1))
    (kk : ∀ (H1 : Heap) (locs1 : List Loc), va_P E.1 clA ws' H1 → va_D A ws' → va_S A H0 H1 locs1 → W p l e R s m args below meth c H1 locs1 cells slots Q (F0 m (pc + 1) ls rest)) : W p l e R s m args below meth c H locs cells slots Q (F0 m pc ls (.null :: .int i :: .ref a :: rest)) := by
  obtain ⟨h1, h2⟩ := fx_ix hi hj hn
  subst hw
  exact va_astqN X.1 X.2.1 hE.1 hP hD hS q0 t0 ha ht h1 hdg (by rw [h2]; exact kk)
theorem fx_instAY (X : CallFix p m c cc nL s args lw_all own) (hP : va_P E.1 clA ws H) (q0 : Nat) {a : Nat} {cA : ClassId} {x : vp_A} (ha : ws[q0]? = some (a, .inl (cA, x))) {nm : String} (hnm : s.vm.findClass nm = some cA) {idx : Nat} (h1 : Cond.classLink own idx nm ∈ lw_all) (hdg : decode cc pc = .ok (.instanceof idx, 3))
    (kk : W p l e R s m args below meth c H locs cells slots Q (F0 m (pc + 3) ls (.int 1 :: rest))) : W p l e R s m args below meth c H locs cells slots Q (F0 m pc ls (.ref a :: rest)) := by
  have hvm0 : (vp_cell cA x).vm = .none := by
    obtain ⟨n, f | f | f | f | f⟩ := x <;> rfl
  have hcl0 : (vp_cell cA x).cls = cA := by
    obtain ⟨n, f | f | f | f | f⟩ := x <;> rfl
  intro T hT Y
  obtain ⟨vm', X', st⟩ := Y.instanceofYes X.1 X.2.2.2.1 (X.2.2.2.2 _ h1) (by rw [hT]; exact hP q0 _ ha) (by rw [hvm0]; rfl) hnm (by rw [hcl0]; exact va_asg _ _) (g := F0 m pc ls (.ref a :: rest)) rfl rfl (by rw [X.2.1]; exact hdg)
  obtain ⟨t, a1, b1⟩ := kk (T.setVm vm') hT X'
  exact ⟨t, st t a1, b1⟩
end FX3
theorem hld_mm {v lo hi : Int32} (h : lo ≤ hi) : mx_i lo (mn_i hi v) = hld v lo hi := by
  unfold mx_i mn_i hld
  simp only [Int32.lt_iff_toInt_lt, Int32.le_iff_toInt_le] at h ⊢
  repeat' split
  all_goals first
    | rfl
    | exact Int32.toInt_inj.1 (by omega)
    | omega
