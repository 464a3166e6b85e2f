/-! THROWS OF THE MACHINE: their words -/
theorem fe_decl {s : State} {args : Array Value} {x : MethodName} (h : va_Decl s x) : (Cond.declares x).before args s = true := by
  obtain ⟨r0, r, h1, h2, h3, h4⟩ := h
  show (Cond.declares x).holds args s none s [] = true
  simp [Cond.holds, Cond.value, h1, h2, h3, h4]
abbrev feU : List String := ["java/lang/RuntimeException", "java/lang/Exception"]
def feB (X : String) : List Cond := [.declares (Bundle.initS "java/lang/RuntimeException"), .declares (Bundle.initS "java/lang/Exception"), .declares (Bundle.initS "java/lang/Throwable"), .castable X X]
theorem feA_in : ∀ w ∈ (vx_atM "java/lang/ArithmeticException" feU).filter goodWord, w ∈ lw_all := lw_in _ [85, 650, 659, 664, 667, 669, 651, 652, 104, 105, 653, 658, 665, 683, 640, 684, 642, 685, 644, 654, 656, 646, 953, 954, 682, 646, 944, 945, 946, 947, 947, 948, 949, 950, 950, 951, 952, 953, 88, 966, 127, 967, 969, 968, 970, 95, 943, 965, 661, 957, 958, 960, 956, 649, 648, 955] (by decide +kernel) (by decide +kernel)
theorem feA_B : ∀ w ∈ (vx_atM "java/lang/ArithmeticException" feU).filter (fun w => !goodWord w), w ∈ feB "java/lang/ArithmeticException" := by decide +kernel
theorem feA_g : ∀ w ∈ vx_atM "java/lang/ArithmeticException" feU, vx_ot w = true := by decide +kernel
theorem feA_w {p : Program} {m : MethodId} {c : Code} {cc : ByteArray} {nL : Nat} {s : State} {args : Array Value} {own : String} {E : fx_En} (X : CallFix p m c cc nL s args lw_all own) (hE : fx_K E s) : ∀ w ∈ vx_atM "java/lang/ArithmeticException" feU, w.before args s = true :=
  vx_hat (fun w hw => X.2.2.2.2 w (feA_in w hw)) feA_B (vx_c (fe_decl (va_Decl.of (X.2.2.2.2 _ q947) (X.2.2.2.2 _ q948))) (vx_c (fe_decl (va_Decl.of (X.2.2.2.2 _ q950) (X.2.2.2.2 _ q951))) (vx_c (fe_decl (va_Decl.of (X.2.2.2.2 _ q953) (X.2.2.2.2 _ q954))) (vx_c (va_tabs rfl rfl (hE.2.1 _ (List.mem_of_getElem? (i := 42) rfl))) vx_n))))
theorem feN_in : ∀ w ∈ (vx_atM "java/lang/NegativeArraySizeException" feU).filter goodWord, w ∈ lw_all := lw_in _ [85, 650, 659, 664, 667, 669, 651, 652, 104, 105, 653, 658, 665, 683, 640, 684, 642, 685, 644, 654, 656, 646, 953, 954, 682, 646, 1091, 1092, 1093, 947, 947, 948, 949, 950, 950, 951, 952, 953, 88, 966, 127, 967, 969, 968, 970, 96, 1090, 1102, 663, 1096, 1097, 1099, 1095, 649, 648, 1094] (by decide +kernel) (by decide +kernel)
theorem feN_B : ∀ w ∈ (vx_atM "java/lang/NegativeArraySizeException" feU).filter (fun w => !goodWord w), w ∈ feB "java/lang/NegativeArraySizeException" := by decide +kernel
theorem feN_g : ∀ w ∈ vx_atM "java/lang/NegativeArraySizeException" feU, vx_ot w = true := by decide +kernel
theorem feN_w {p : Program} {m : MethodId} {c : Code} {cc : ByteArray} {nL : Nat} {s : State} {args : Array Value} {own : String} {E : fx_En} (X : CallFix p m c cc nL s args lw_all own) (hE : fx_K E s) : ∀ w ∈ vx_atM "java/lang/NegativeArraySizeException" feU, w.before args s = true :=
  vx_hat (fun w hw => X.2.2.2.2 w (feN_in w hw)) feN_B (vx_c (fe_decl (va_Decl.of (X.2.2.2.2 _ q947) (X.2.2.2.2 _ q948))) (vx_c (fe_decl (va_Decl.of (X.2.2.2.2 _ q950) (X.2.2.2.2 _ q951))) (vx_c (fe_decl (va_Decl.of (X.2.2.2.2 _ q953) (X.2.2.2.2 _ q954))) (vx_c (va_tabs rfl rfl (hE.2.1 _ (List.mem_of_getElem? (i := 50) rfl))) vx_n))))
theorem feS_in : ∀ w ∈ (vx_atM "java/lang/ArrayStoreException" feU).filter goodWord, w ∈ lw_all := lw_in _ [85, 650, 659, 664, 667, 669, 651, 652, 104, 105, 653, 658, 665, 683, 640, 684, 642, 685, 644, 654, 656, 646, 953, 954, 682, 646, 1113, 1114, 1115, 947, 947, 948, 949, 950, 950, 951, 952, 953, 88, 966, 127, 967, 969, 968, 970, 97, 1112, 1124, 662, 1118, 1119, 1121, 1117, 649, 648, 1116] (by decide +kernel) (by decide +kernel)
theorem feS_B : ∀ w ∈ (vx_atM "java/lang/ArrayStoreException" feU).filter (fun w => !goodWord w), w ∈ feB "java/lang/ArrayStoreException" := by decide +kernel
theorem feS_g : ∀ w ∈ vx_atM "java/lang/ArrayStoreException" feU, vx_ot w = true := by decide +kernel
theorem feS_w {p : Program} {m : MethodId} {c : Code} {cc : ByteArray} {nL : Nat} {s : State} {args : Array Value} {own : String} {E : fx_En} (X : CallFix p m c cc nL s args lw_all own) (hE : fx_K E s) : ∀ w ∈ vx_atM "java/lang/ArrayStoreException" feU, w.before args s = true :=
  vx_hat (fun w hw => X.2.2.2.2 w (feS_in w hw)) feS_B (vx_c (fe_decl (va_Decl.of (X.2.2.2.2 _ q947) (X.2.2.2.2 _ q948))) (vx_c (fe_decl (va_Decl.of (X.2.2.2.2 _ q950) (X.2.2.2.2 _ q951))) (vx_c (fe_decl (va_Decl.of (X.2.2.2.2 _ q953) (X.2.2.2.2 _ q954))) (vx_c (va_tabs rfl rfl (hE.2.1 _ (List.mem_of_getElem? (i := 51) rfl))) vx_n))))
section FE
variable {p : Program} {l : Launch} {e : Env} {R : Room} {s : State} {m : MethodId} {args : Array Value} {below : List Frame} {meth : Method} {c : Code} {H : Heap} {locs : List Loc} {cells slots : Nat} {Q : State → Prop}
variable {own : String} {cc : ByteArray} {nL : Nat} {pc : Nat} {ls : Array Slot} {rest : List Value} {E : fx_En} {A : Nat → Prop} {ws : va_W}
theorem fe_vm (X : CallFix p m c cc nL s args lw_all own) {ks : fz_Ks} (hst : l.stackTraces = false) (hlk : meth.locks = false) (hZ : fz_Z ks A s s.heap) (hP : va_P E.1 clA ws H) (hS : va_S A s.heap H locs) (hsz : ls.size = nL) {cls text : String} (hw : ∀ w ∈ vx_atM cls feU, w.before args s = true) (hg : ∀ w ∈ vx_atM cls feU, vx_ot w = true)
    (hf : Bundle.fit cls = true ∧ (cls == "java/lang/StackOverflowError") = false ∧ (cls == "java/lang/OutOfMemoryError") = false) {nb : Nat} (ht : (text == notModelled) = false) (hn : (stringBytes (stringToUtf16 text)).size ≤ nb) (hn1 : nb ≤ 1000) (hfr : 6 < R.frames) (hlo : (rest.map fun v => v.category).sum + 10240 ≤ R.locals) (hc : cells + 3 ≤ R.cells) (hs : slots + (nb + 10) ≤ R.slots)
    (k : ∀ (H1 : Heap) (q9 : Addr) (ce : Cell), va_P E.1 clA ws H1 → va_S A s.heap H1 locs → H1[q9]? = some ce → ce.vm = .none → s.vm.findClass cls = some ce.cls → vx_W p l e R s m args below meth c H1 locs (cells + 3) (slots + (nb + 10)) Q (F0 m pc ls rest) q9) : vx_Note p l e R s m args below meth c H locs cells slots Q (F0 m pc ls rest) cls text :=
  vx_vm (names := feU) X.1 hst hf.1 (by decide +kernel) hf.2.1 hf.2.2 hw hg hZ.1.1 hZ.1.2.1 hS (hsz.trans X.2.2.1.symm) ht hn hn1 hfr hlo (by decide) hc hs hlk
    (fun H1 q9 ce _ h2 h3 h4 h5 h6 => k H1 q9 ce (va_P.kept hP (fun k q hk => h2 q.1 (vx_lt hP hk))) h3 h4 h5 h6)
end FE
section FE1
variable {l : Launch} {y : MethodName} {cc : ByteArray} {nL mc ms : Nat} {rt : FieldType} {rm : Room} {E : fx_En} {ks : fz_Ks} {av : List Value} {w Rl : va_W} {S SX : Type} {w' : S → va_W} {EX : String} {wx : SX → va_W} {px : Nat → SX → Prop}
/-- fz_iW, the method's locks said -/
theorem fe_iW {post : Int32 → S → Prop} (hy : plainName y.cls = true) (hav : Nat.ble (lg_sl av).length nL = true)
    (body : ∀ (p : Program) (e : Env) (s : State) (m : MethodId) (args : Array Value) (below : List Frame) (meth : Method) (c : Code) (A : Nat → Prop) (ls : Array Slot) (Q : State → Prop), CallFix p m c cc nL s args lw_all y.cls → meth.locks = false → fx_K E s → va_P E.1 clA w s.heap → va_D A w → fx_R E A Rl s.heap → fz_Z ks A s s.heap → (∀ q, s.heap.size ≤ q → A q) → lv_has ls nL (lv_args 0 av) →
      (∀ (v : Int32) (u : S) {H : Heap} {locs : List Loc} {cells slots pc : Nat} {ls : Array Slot}, post v u → narrow rt (.int v) = .int v → va_P E.1 clA (w' u) H → va_D A (w' u) → va_S A s.heap H locs → cells ≤ mc → slots ≤ ms → decode cc pc = .ok (.ireturn, 1) → W p l e rm s m args below meth c H locs cells slots Q (F0 m pc ls [.int v])) →
      fz_Th p l e rm s m args below meth c A Q E EX wx px →
      W p l e rm s m args below meth c s.heap [] 0 0 Q (F0 m 0 ls [])) : fz_Mi l y cc nL rt rm mc ms E ks av w Rl w' post EX wx px := by
  intro sz
  refine vz_ofW (cc := cc) (maxL := nL) (ret := some rt) hy rfl ?_
  intro p e s m args below meth c s₁ B hml htab hv
  obtain ⟨rfl, hsz, hP, hE, hD0, hR, hZ⟩ := hv
  have hts := atoms_spec (ws := ws_ y cc nL (some rt)) B.pre
  have hts : ∀ w ∈ lw_all, w.before _ s = true := fun w h => hts w (List.mem_cons_of_mem _ h)
  have hown : s.vm.findClass y.cls = some m.cls := findClass_of_methodNamed B.named
  have hlocks := B.notSynchronized
  have hr := B.returns
  have hD := hD0.self (sz := sz)
  have hl := lv_entry av (n := nL) (Nat.le_of_ble_eq_true hav)
  rw [lg_entry_eq]
  refine body p e s m _ below meth c (va_A w sz) _ _ ⟨B.exec, B.bytes, hml, hown, hts⟩ hlocks hE hP hD hR hZ (fun q h => Or.inr (by rw [← hsz]; exact h)) hl ?_ ?_
  · intro v u H locs cells slots pc ls hp hn hP' hD' hS hc hs hd
    refine W.widen hc hs ?_
    exact vz_ret (W.zret (v := v) B.exec B.bytes hr hn (fun t ht hW => ⟨⟨v, u, rfl, hp, by rw [ht]; exact hP', hD'⟩, hS.F ht⟩) hS.2.2 hd)
  · intro q u H locs cells slots pc ls rest ce hp hP' hD' hS hc hs hce hcv hcl
    exact vz_out (fun x hx => (htab x hx).elim) hlocks hce hcv hcl (fun t ht hW => ⟨rfl, u, hp, ⟨by rw [ht]; exact hP', hD'⟩, hS.F ht⟩) hS.2.2 hc hs
end FE1
