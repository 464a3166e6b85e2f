/-! METHODS WITH HANDLERS that always return an int -/
theorem fz_ofWH {l : Launch} {y : MethodName} {ws ws' : List Cond} {rm : Room} {Pc : Array Value → State → Prop} {Qc : Array Value → State → Outcome → State → Prop} {mc ms : Nat} {free : Addr → Prop} {cc : ByteArray} {maxL : Nat} {ret : Option FieldType} {hh : List (Nat × Nat × Nat × Nat)}
    (hy : plainName y.cls = true) (hw : ws = Cond.codeWith y cc maxL ret hh :: ws')
    (body : ∀ p e s m args below meth c s₁, BodyLoose p l y (headSpec ws rm) cc maxL ret e s m args below meth c s₁ → c.maxLocals = maxL → Pc args s →
      W p l e (headSpec ws rm).room s m args below meth c s.heap [] 0 0 (MQ below Qc args s mc ms free) (entryFrame m args maxL)) : Met l y ws rm Pc Qc mc ms free := by
  refine MetFree.of_bodyS (code := cc) (maxLocals := maxL) (ret := ret) hy ?_ ?_
  · intro args s m h hn
    obtain ⟨m9, meth, c, hn9, h1, h2, h3, h4, -, h5, h6, -⟩ := Cond.codeWith_spec (atoms_spec (ws := ws) h _ (by rw [hw]; exact List.mem_cons_self))
    cases hn.symm.trans hn9
    exact ⟨meth, c, h1, h2, h3, h4, h5, h6⟩
  · intro p e s m args below meth c s₁ B hml hP _
    have hh0 : s₁.heap = s.heap := by rw [B.state]; rfl
    obtain ⟨t, a1, o, b1, b2, b3⟩ := body p e s m args below meth c s₁ B hml hP s₁ hh0 (Stand.of_body B)
    exact ⟨t, o, a1, b1, b2, ⟨b3.1, b3.2⟩⟩
def fz_Hi (l : Launch) (y : MethodName) (cc : ByteArray) (nL : Nat) (hh : List (Nat × Nat × Nat × Nat)) (rt : FieldType) (rm : Room) (E : fx_En) (ks : fz_Ks) (av : List Value) (w Rl : va_W) {S : Type} (w' : S → va_W) (post : Int32 → S → Prop) : Prop :=
  ∀ sz, Met l y (wsW_ y cc nL (some rt) hh) rm (fz_P E ks av w Rl sz) (va_Qi post (fx_B E (va_A w sz) w') (va_A w sz)) rm.cells rm.slots (va_A w sz)
theorem fz_hW {l : Launch} {y : MethodName} {cc : ByteArray} {nL : Nat} {hh : List (Nat × Nat × Nat × Nat)} {rt : FieldType} {rm : Room} {E : fx_En} {ks : fz_Ks} {av : List Value} {w Rl : va_W} {S : Type} {w' : S → va_W} {post : Int32 → S → Prop} (hy : plainName y.cls = true) (hav : Nat.ble (lg_sl av).length nL = true)
    (body : ∀ (p : Program) (e : Env) (s : State) (m : MethodId) (args : Array Value) (below : List Frame) (meth : Method) (c : Code) (A : Nat → Prop) (ls : Array Slot) (Q : State → Prop), CallFix p m c cc nL s args lw_all y.cls → c.exceptionTable.toList = tableOf hh → meth.locks = false → fx_K E s → va_P E.1 clA w s.heap → va_D A w → fx_R E A Rl s.heap → fz_Z ks A s s.heap → (∀ q, s.heap.size ≤ q → A q) → lv_has ls nL (lv_args 0 av) →
      (∀ (v : Int32) (u : S) {H : Heap} {locs : List Loc} {cells slots pc : Nat} {ls : Array Slot}, post v u → narrow rt (.int v) = .int v → va_P E.1 clA (w' u) H → va_D A (w' u) → va_S A s.heap H locs → cells ≤ rm.cells → slots ≤ rm.slots → decode cc pc = .ok (.ireturn, 1) → W p l e rm s m args below meth c H locs cells slots Q (F0 m pc ls [.int v])) →
      W p l e rm s m args below meth c s.heap [] 0 0 Q (F0 m 0 ls [])) : fz_Hi l y cc nL hh rt rm E ks av w Rl w' post := by
  intro sz
  refine fz_ofWH (cc := cc) (maxL := nL) (ret := some rt) (hh := hh) hy rfl ?_
  intro p e s m args below meth c s₁ B hml hv
  obtain ⟨rfl, hsz, hP, hE, hD0, hR, hZ⟩ := hv
  have hts0 := atoms_spec (ws := wsW_ y cc nL (some rt) hh) B.pre
  have htab := vx_table (x := y) B (hts0 _ List.mem_cons_self)
  have hts : ∀ w ∈ lw_all, w.before _ s = true := fun w h => hts0 w (List.mem_cons_of_mem _ h)
  have hown : s.vm.findClass y.cls = some m.cls := findClass_of_methodNamed B.named
  have hlocks := B.notSynchronized
  have hr := B.returns
  have hD := hD0.self (sz := sz)
  have hl := lv_entry av (n := nL) (Nat.le_of_ble_eq_true hav)
  rw [lg_entry_eq]
  refine body p e s m _ below meth c (va_A w sz) _ _ ⟨B.exec, B.bytes, hml, hown, hts⟩ htab hlocks hE hP hD hR hZ (fun q h => Or.inr (by rw [← hsz]; exact h)) hl ?_
  intro v u H locs cells slots pc ls hp hn hP' hD' hS hc hs hd
  refine W.widen hc hs ?_
  exact W.zret (v := v) B.exec B.bytes hr hn (fun t ht hW => ⟨⟨v, u, rfl, hp, by rw [ht]; exact hP', hD'⟩, hS.F ht⟩) hS.2.2 hd
