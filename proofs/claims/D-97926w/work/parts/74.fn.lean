/-! THROWS OF A NATIVE METHOD, no traces kept -/
set_option maxHeartbeats 1000000 in
theorem fn_vmAt {p : Program} {l : Launch} {e : Env} {R : Room} {s : State} {m₀ : MethodId} {args : Array Value} {below : List Frame} {meth : Method} {c : Code} {W : State} {locs : List Loc} {cells slots : Nat}
    (X : Stand p l e R s m₀ args below meth c W locs cells slots) (hexec : p.tables.exec = Jvm.exec) (htr : e.platform.stackTraces = false) {cls : String} {names : List String} {text : String}
    (hcls : Bundle.fit cls = true) (hnames : ∀ n ∈ names, Bundle.fit n = true) (hsoe : (cls == "java/lang/StackOverflowError") = false) (hoom : (cls == "java/lang/OutOfMemoryError") = false)
    (h : ∀ a ∈ Bundle.messageArmAtoms cls names, a.before args s = true)
    (hlocs : ∀ x ∈ locs, ∀ cell, s.heap[x.base]? = some cell → cell.vm.isStatics = false)
    (htext : (text == notModelled) = false) (hlimit : ¬ (stringBytes (stringToUtf16 text)).size > e.platform.arrayLengthLimit) (hheap : ¬ (stringBytes (stringToUtf16 text)).size * componentBytes .byte > e.platform.maxHeapBytes)
    {g : JFrame} (hg : g.method = m₀) (hsize : g.locals.size = c.maxLocals) {nf : NFrame} (hnf : nf.words = 0)
    (hRframes : names.length + 5 < R.frames) (hRlocals : 2 * g.monitorRoom + (g.stack.map fun v => v.category).sum + 10240 ≤ R.locals) (hshort : 13 * names.length + 55 ≤ 10240)
    (hRcells : cells + 3 ≤ R.cells) (hRslots : slots + ((stringBytes (stringToUtf16 text)).size + 4 + 6) ≤ R.slots) :
    ∃ (S : State) (q : Addr) (ce : Cell), Steps p.tables e below (W.setFrames (.throwNew cls (some text) none :: .native nf :: .java g :: below)) (S.setFrames (.throwing q :: .native nf :: .java g :: below)) ∧
      Stand p l e R s m₀ args below meth c S locs (cells + 3) (slots + ((stringBytes (stringToUtf16 text)).size + 4 + 6)) ∧ (∀ a0, a0 < W.heap.size → S.heap[a0]? = W.heap[a0]?) ∧ S.heap[q]? = some ce ∧ s.vm.findClass cls = some ce.cls ∧ ce.vm = .none := by
  have howns : e.platform.frameOwnsMonitors = true := by rw [X.admits.platform]
  have hfin : e.platform.finalization = false := by rw [X.admits.platform]
  have hpl : e.platform.magicAccessors = ({} : Platform).magicAccessors := by rw [X.admits.platform]
  have a : ∀ x, x ∈ Bundle.messageArmAtoms cls names → x.holds args s none s [] = true := fun x hx => h x hx
  obtain ⟨T, Z0, L, -, Y⟩ := ThrowableC.of_atoms (args := args) howns hfin hpl (fun x hx => h x (by simp [Bundle.messageArmAtoms, hx]))
  obtain ⟨Z, M, LZ, LM, hnZ⟩ := Init0T.ofS_atoms (args := args) hpl L Y (fun x hx => h x (by simp [Bundle.messageArmAtoms, hx]))
  obtain ⟨P1, Ps, hlen, L1, hL, hP1m, hlink1, hlink⟩ := Bundle.chainS (args := args) hpl hnZ names cls hcls hnames (fun x hx => h x (by simp [Bundle.messageArmAtoms, hx]))
  obtain ⟨Zs, LZs, hn4, hfitv, hfitc⟩ := StringT.of_atoms (args := args) (fun x hx => h x (by simp [Bundle.messageArmAtoms, hx]))
  have hfound : s.vm.findClass cls = some P1.m.cls := findClass_of_methodNamed hP1m
  obtain ⟨c1, kX, hc1, hk, hord, -, -, hn6⟩ := Cond.instantiable_spec (a (.instantiable cls 6) (by simp [Bundle.messageArmAtoms]))
  cases Option.some.inj (hc1.symm.trans hfound)
  have hinit := Cond.initialized_spec hfound hk (a (.initialized cls) (by simp [Bundle.messageArmAtoms]))
  have hctor : kX.findMethod "<init>" "(Ljava/lang/String;)V" = some P1.m.idx := findMethod_of_methodNamed hP1m hk
  have hsel0 : selectMethod e.platform s.vm P1.m.cls T.fill0 = .method T.fill0 := by
    obtain ⟨c2, r2, m2, q1, q2, q3, q4, -⟩ := Cond.selects_spec (a (.selects cls Bundle.tFill0 Bundle.tFill0) (by simp [Bundle.messageArmAtoms]))
    cases Option.some.inj (q1.symm.trans hfound)
    cases Option.some.inj (q2.symm.trans (State.methodFound?_of_named Y.fill0 (by decide)))
    cases Option.some.inj (q3.symm.trans Y.fill0)
    rw [Launch.admits_selectMethod X.admits]; exact q4
  have hselF : selectMethod e.platform s.vm P1.m.cls T.fill = .method T.fill := by
    obtain ⟨c2, r2, m2, q1, q2, q3, q4, -⟩ := Cond.selects_spec (a (.selects cls Bundle.tFill Bundle.tFill) (by simp [Bundle.messageArmAtoms]))
    cases Option.some.inj (q1.symm.trans hfound)
    cases Option.some.inj (q2.symm.trans (State.methodFound?_of_named Y.fill (by decide)))
    cases Option.some.inj (q3.symm.trans Y.fill)
    rw [Launch.admits_selectMethod X.admits]; exact q4
  obtain ⟨cellS0, hcS0, hiss⟩ := Y.statics
  obtain ⟨u0, hu0⟩ := Cond.staticRefV Y.unassigned L.unassignedStatic L.statics hcS0 hiss (a (.isRef (.static Bundle.tN "UNASSIGNED_STACK" Bundle.steD)) (by simp [Bundle.messageArmAtoms]))
  obtain ⟨sen, hsen⟩ := Cond.staticRefV Y.sentinel L.sentinelStatic L.statics hcS0 hiss (a (.isRef (.static Bundle.tN "SUPPRESSED_SENTINEL" Bundle.listD)) (by simp [Bundle.messageArmAtoms]))
  obtain ⟨ci198, i198, fB, hk198, hg198, ha198, hsB, -, hnB, htB, hffB⟩ := Cond.ownField (t := .object "java/lang/Object") Y.found L.cls (by decide +kernel) (a (.fieldLink Bundle.tN 198 Bundle.tN "backtrace" "Ljava/lang/Object;") (by simp [Bundle.messageArmAtoms])) (a (.lays Bundle.tN Bundle.tN "backtrace" "Ljava/lang/Object;") (by simp [Bundle.messageArmAtoms])) e.platform hpl
  obtain ⟨cellS, hcS', heS, -, hkeep⟩ := X.same.2.2.2.2.2 T.aS cellS0 hcS0
  have hcellS : W.heap[T.aS]? = some cellS := hcS'
  have hout' : ∀ i, (⟨T.aS, i⟩ : Loc) ∉ locs := fun i hmem => by
    have := hlocs _ hmem cellS0 hcS0
    rw [hiss] at this; cases this
  have hknownS : cellS.vm ≠ .unknown := by
    rw [heS]; intro hu
    rw [show cellS0.vm = .unknown from hu] at hiss
    cases hiss
  have hvU : cellS.slots[T.fUnassigned.slot]? = some u0.v := by rw [hkeep _ (hout' _)]; exact hu0
  have hvSen : cellS.slots[T.fSentinel.slot]? = some sen.v := by rw [hkeep _ (hout' _)]; exact hsen
  obtain ⟨iM, hffM⟩ := Y.msg
  obtain ⟨tyC, dC, hdC, hdnC⟩ := Cond.laysAt hfound hk Y.cause (a (.lays cls Bundle.tN "cause" "Ljava/lang/Throwable;") (by simp [Bundle.messageArmAtoms]))
  obtain ⟨tyS, dS, hdS, hdnS⟩ := Cond.laysAt hfound hk Y.stack (a (.lays cls Bundle.tN "stackTrace" Bundle.steD) (by simp [Bundle.messageArmAtoms]))
  obtain ⟨tyP, dP, hdP, hdnP⟩ := Cond.laysAt hfound hk Y.supp (a (.lays cls Bundle.tN "suppressedExceptions" Bundle.listD) (by simp [Bundle.messageArmAtoms]))
  obtain ⟨tyM, dM, hdM, hdnM⟩ := Cond.laysAt hfound hk hffM (a (.lays cls Bundle.tN "detailMessage" "Ljava/lang/String;") (by simp [Bundle.messageArmAtoms]))
  obtain ⟨tyB, dB, hdB, hdnB⟩ := Cond.laysAt hfound hk hffB (a (.lays cls Bundle.tN "backtrace" "Ljava/lang/Object;") (by simp [Bundle.messageArmAtoms]))
  have bC := Cond.laysApart hdB hdC hdnB hdnC (by rw [hnB, Y.causeName]; decide)
  have bS := Cond.laysApart hdB hdS hdnB hdnS (by rw [hnB, Y.stackName]; decide)
  have bP := Cond.laysApart hdB hdP hdnB hdnP (by rw [hnB, Y.suppName]; decide)
  have hbk : ((preparedCellV T.toThrowableT (freshCell P1.m.cls kX) (W.heap.size + 2) u0 sen).withEntry W.cur).slots[fB.slot]? = some .null := by
    have := fresh_default (c := P1.m.cls) tyB
    rw [htB] at this
    simpa [preparedCellV, Cell.setSlot, Cell.withEntry, Array.getElem?_setIfInBounds, bC, bS, bP, bC.symm, bS.symm, bP.symm, defaultValue] using this
  have tkC := Takes.of_laid (v := .ref (W.heap.size + 2)) hk hord tyC (by rw [Y.causeType]; rfl)
  have tkS := Takes.of_laid (v := u0.v) hk hord tyS (by rw [Y.stackType]; exact fits_refV_array _ u0)
  have tkP := Takes.of_laid (v := sen.v) hk hord tyP (by rw [Y.suppType]; exact fits_refV_object _ sen)
  have tkM := Takes.of_laid (v := .ref (W.heap.size + 1)) hk hord tyM (by rw [Y.msgType]; rfl)
  have hskip : SkipFacts T e.platform s (fun u => u) u0 ((preparedCellV T.toThrowableT (freshCell P1.m.cls kX) (W.heap.size + 2) u0 sen).withEntry W.cur) := ⟨{ ci198 := ci198, i198 := i198, fBack := fB }, ⟨hk198, hg198, ha198, hsB⟩, hbk, fun _ _ => rfl⟩
  obtain ⟨vm', X5, h1, hkept⟩ := X.nativeThrowsMessageColdBareV hexec hsize hnf T L Z LZ M LM Zs LZs P1 L1 Ps hL hlink1 hlink hsoe hoom hfound hk hinit hord hctor htext hlimit hheap
    (hfitv _) (hfitc _) hsel0 hselF hcellS hknownS hvU hvSen tkC tkS tkP tkM Y.objLocals hskip (fun _ _ hA hW _ hroom _ hrest => L.nativeOff p htr hA hW hroom hrest)
    (by rw [hlen]; exact hRframes) hRlocals (by rw [hlen]; exact hshort) hRcells (by rw [hn4, hn6]; omega)
  have b1 : (bytesOf Zs.cB (stringToUtf16 text)).slots.size = (stringBytes (stringToUtf16 text)).size := by
    rw [(Cell.writeAll_facts _ _).2.2]; simp [bytes0]
  have b2 : (stringAt Zs.cS Zs.kS Zs.fv Zs.fc (stringToUtf16 text) W.heap.size).slots.size = 4 := by simp [string0, Cell.setSlot, hn4]
  have b3 : (freshCell P1.m.cls kX).slots.size = 6 := by simp [hn6]
  have ha : (W.heap.size + 2) < ((withThrown W Zs text P1.m.cls kX).setVm vm').heap.size := by show _ < (withThrown W Zs text P1.m.cls kX).heap.size; rw [(withThrown_facts e.platform W Zs text P1.m.cls kX).2.2.1]; omega
  rw [b1, b2, b3] at X5
  have e9 : slots + (stringBytes (stringToUtf16 text)).size + 4 + 6 = slots + ((stringBytes (stringToUtf16 text)).size + 4 + 6) := by omega
  rw [e9] at X5
  refine ⟨_, W.heap.size + 2, _, h1, X5.forget (fun y hy => ?_), hkept, heapAt_setCell_self _ ha, hfound, rfl⟩
  simp only [List.mem_cons, List.not_mem_nil, or_false] at hy
  have hge : s.heap.size ≤ W.heap.size := X.same.2.1
  rcases hy with rfl | rfl | rfl | rfl | rfl <;> exact Nat.le_trans hge (Nat.le_add_right _ 2)
/-- toString of an int, as the text of a throw -/
theorem fe_txt (n : Int32) : (toString n == notModelled) = false ∧ (stringBytes (stringToUtf16 (toString n))).size ≤ 44 := by
  have h1 := int32_print n
  have h2 := utf16_size_le (toString n)
  have h3 := stringBytes_size_le (stringToUtf16 (toString n))
  refine ⟨?_, by omega⟩
  rw [beq_eq_false_iff_ne]
  intro h
  rw [h] at h1
  exact absurd h1 (by decide)
section FN
variable {p : Program} {l : Launch} {e : Env} {R : Room} {s : State} {m : MethodId} {args : Array Value} {below : List Frame} {meth : Method} {c : Code} {H : Heap} {locs : List Loc} {cells slots : Nat} {Q : State → Prop}
variable {own : String} {cc : ByteArray} {nL : Nat} {pc : Nat} {ls : Array Slot} {rest : List Value} {E : fx_En} {A : Nat → Prop} {ws : va_W}
/-- System.arraycopy between arrays of two kinds of numbers: ArrayStoreException -/
theorem fn_acpyZ (X : CallFix p m c cc nL s args lw_all own) (hE : fx_K E s) {ks : fz_Ks} (hst : l.stackTraces = false) (hZ : fz_Z ks A s s.heap) (hP : va_P E.1 clA ws H) (hS : va_S A s.heap H locs) (hsz : ls.size = nL) {idx : Nat} (k1 : Cond.methodLink own idx arraycopyName ∈ lw_all) (k2 : Cond.native arraycopyName ∈ lw_all) (k3 : Cond.static arraycopyName ∈ lw_all) (k4 : Cond.initialized "java/lang/System" ∈ lw_all)
    (q0 q1 t0 t1 : Nat) {a0 a n0 n1 : Nat} {f g : Nat → Int32} {ty0 ty1 : FieldType} (ha0 : ws[q0]? = some (a0, .inl (E.2 t0, n0, .inl f))) (ha1 : ws[q1]? = some (a, .inl (E.2 t1, n1, .inl g))) (ht0 : (tyA E.2)[t0]? = some (E.2 t0, ty0)) (ht1 : (tyA E.2)[t1]? = some (E.2 t1, ty1))
    (hne : ((refKind ty0 != refKind ty1) || (!refKind ty0 && ty0 != ty1)) = true) {x y z : Int32} {text : String} (htx : toString "arraycopy: type mismatch: can not copy " ++ toString (Native.java_lang_System.arraycopy.kindName ty0) ++ toString "[] into " ++ toString (Native.java_lang_System.arraycopy.kindName ty1) ++ toString "[]" = text)
    {nb : Nat} (ht : (text == notModelled) = false) (hn : (stringBytes (stringToUtf16 text)).size ≤ nb) (hn1 : nb ≤ 1000) (hfr : 7 < R.frames) (hlo : (rest.map fun v => v.category).sum + 10240 ≤ R.locals) (hc : cells + 3 ≤ R.cells) (hs : slots + (nb + 10) ≤ R.slots) (hdg : decode cc pc = .ok (.invokestatic idx, 3))
    (k : ∀ (H1 : Heap) (q9 : Addr) (ce : Cell), va_P E.1 clA ws H1 → va_S A s.heap H1 locs → H1[q9]? = some ce → ce.vm = .none → s.vm.findClass "java/lang/ArrayStoreException" = some ce.cls → vx_W p l e R s m args below meth c H1 locs (cells + 3) (slots + (nb + 10)) Q (F0 m pc ls rest) q9) :
    W p l e R s m args below meth c H locs cells slots Q (F0 m pc ls (.int z :: .int y :: .ref a :: .int x :: .ref a0 :: rest)) := by
  intro T hT X0
  have hc0 : H[a0]? = some (vp_cell (E.2 t0) (n0, .inl f)) := hP q0 _ ha0
  have hc1 : H[a]? = some (vp_cell (E.2 t1) (n1, .inl g)) := hP q1 _ ha1
  obtain ⟨-, r0, hk0, cm0, hkk0⟩ := (hE.1.2 t0 _ ht0).1 n0 (fun j => .int (f j))
  obtain ⟨-, r1, hk1, cm1, hkk1⟩ := (hE.1.2 t1 _ ht1).1 n1 (fun j => .int (g j))
  have htr : e.platform.stackTraces = false := (show e.platform.stackTraces = l.stackTraces by rw [X0.admits.platform]).trans hst
  obtain ⟨r, kN, xN, hnamed, N⟩ := Jvm.Free.nativeStatic (y := arraycopyName) (X.2.2.2.2 _ k2) (X.2.2.2.2 _ k3) Jvm.Free.NT.descCopy
  have hmethM : s.vm.method? r = some xN := by simp [Vm.method?, N.cls, N.meth]
  have hini : kN.init = .initialized := Cond.initialized_spec (findClass_of_methodNamed hnamed) N.cls (X.2.2.2.2 _ k4)
  let Ask : Pt → Array Value → Prop := fun B a' => a' = #[.ref a0, .int x, .ref a, .int y, .int z] ∧ B.U.heap = H ∧ B.locs = locs ∧ B.cells = cells ∧ B.slots = slots
  let Give : Pt → Array Value → Addr → Pt → Prop := fun _ _ q B => B.locs = locs ∧ B.cells = cells + 3 ∧ B.slots = slots + (nb + 10) ∧ H.size ≤ B.U.heap.size ∧ (∀ q : Nat, q < H.size → B.U.heap[q]? = H[q]?) ∧ ∃ ce : Cell, B.U.heap[q]? = some ce ∧ ce.vm = .none ∧ s.vm.findClass "java/lang/ArrayStoreException" = some ce.cls
  have hsmall : nativeFrameWords arraycopyName.cls arraycopyName.name 5 + 11 ≤ 10240 := by decide
  have hB : BackT l R p e below s args arraycopyName 3 ((rest.map fun v => v.category).sum) Ask Give := by
    refine Jvm.Free.BackT.of_native (row := arraycopyRow) (words := 5) (arraycopy_row p) ⟨r, kN, xN, hnamed, N⟩ (by omega) (by omega) ?_
    intro m' meth' c' B a' x' g' mk X' hg' hsize' hW' hn' hst' hps' hask
    obtain ⟨U', locs', cells', slots'⟩ := B
    obtain ⟨rfl, hH', e2, e3, e4⟩ := hask
    dsimp only [Pt.U, Pt.locs, Pt.cells, Pt.slots] at X' hH' e2 e3 e4 hn' ⊢
    subst e2; subst e3; subst e4
    refine ⟨rfl, by simp [seenByNative, hst', hps', narrow], "java/lang/ArrayStoreException", some text, fun u => u, fun _ => rfl, rfl, ?_, ?_⟩
    · intro fs E' hE'
      obtain ⟨r0', hr0', e0'⟩ := X'.warmed.alike.2.2 _ _ hk0
      obtain ⟨r1', hr1', e1'⟩ := X'.warmed.alike.2.2 _ _ hk1
      rw [arraycopyRow_sem]
      refine Jvm.W.arraycopy_types (s := U'.setFrames fs) (cs := vp_cell (E.2 t0) (n0, .inl f)) (cd := vp_cell (E.2 t1) (n1, .inl g)) (by show U'.heap[a0]? = _; rw [hH']; exact hc0) (by show U'.heap[a]? = _; rw [hH']; exact hc1) (fun _ h => by cases h) (fun _ h => by cases h) hr0' hr1' (by rw [e0']; exact hkk0) (by rw [e1']; exact hkk1) hne ?_
      rw [htx]
      exact hE' _
    · have Y := vx_rebase X' (R' := { frames := R.frames, locals := R.locals, cells := 3, slots := nb + 10 }) (Nat.le_refl _) (Nat.le_refl _) hc hs
      have hhp : ((U'.setVm s.vm).setFrames (.invoking m' args :: below)).heap = H := hH'
      have hW0 : s.WarmedH ((U'.setVm s.vm).setFrames (.invoking m' args :: below)).vm := State.WarmedH.refl s
      have hat' : ∀ w ∈ vx_atM "java/lang/ArrayStoreException" feU, w.before args ((U'.setVm s.vm).setFrames (.invoking m' args :: below)) = true := fun w hw => vx_ot_at hW0 rfl (feS_g w hw) (feS_w X hE w hw)
      have hU' : vx_Zq Bundle.tN "UNASSIGNED_STACK" Bundle.steD A ((U'.setVm s.vm).setFrames (.invoking m' args :: below)) ((U'.setVm s.vm).setFrames (.invoking m' args :: below)).heap := by rw [hhp]; exact vx_Zq.moved hW0.alike (hZ.1.1.kept hS.2.1)
      have hN' : vx_Zq Bundle.tN "SUPPRESSED_SENTINEL" Bundle.listD A ((U'.setVm s.vm).setFrames (.invoking m' args :: below)) ((U'.setVm s.vm).setFrames (.invoking m' args :: below)).heap := by rw [hhp]; exact vx_Zq.moved hW0.alike (hZ.1.2.1.kept hS.2.1)
      obtain ⟨S, q, ce, st, Z, hkept, hce, hcl', hv⟩ := fn_vmAt Y X.1 htr (cls := "java/lang/ArrayStoreException") (names := feU) (text := text) (by decide +kernel) (by decide +kernel) rfl rfl (vx_own hat' (vx_isRefq hU'.1) (vx_isRefq hN'.1) hU'.2.word hN'.2.word) (fun x hx => nomatch hx) ht
        (by rw [Launch.admits_arrayLengthLimit X'.admits]; omega) (by rw [Launch.admits_maxHeapBytes X'.admits]; simp only [componentBytes]; omega)
        (g := g') hg' hsize' (nf := { method := mk, args := #[.ref a0, .int x, .ref a, .int y, .int z], locked := none }) rfl (by show 2 + 5 < R.frames; exact hfr) (by show _ ≤ R.locals; omega) (by decide) (by show 0 + 3 ≤ 3; omega) (by show 0 + (_ + 4 + 6) ≤ nb + 10; omega)
      have X5 := vx_back9 X' Y Z
      obtain ⟨f1, -⟩ := vx_frame Z.same
      have X6 : Stand p l e R s m' args below meth' c' S locs' (cells' + 3) (slots' + (nb + 10)) := { X5 with same := X5.same.mono (by omega) (by omega) }
      exact ⟨q, ⟨S, locs', cells' + 3, slots' + (nb + 10)⟩, X6, ⟨rfl, rfl, rfl, by rw [← hH']; exact f1, fun q hq => by rw [hkept q (by rw [hH']; exact hq), hH'], ce, hce, hv, hcl'⟩, st⟩
  obtain ⟨vm₁, X₁, hstep₁⟩ := X0.invokestatic X.1 X.2.2.2.1 (X.2.2.2.2 _ k1) hnamed hmethM N.static N.cls hini ⟨by decide, by decide⟩ (g := F0 m pc ls (.int z :: .int y :: .ref a :: .int x :: .ref a0 :: rest)) rfl (argsL := [.ref a0, .int x, .ref a, .int y, .int z]) (rest := rest) (by rw [N.sig]; rfl) rfl (by rw [X.2.1]; exact hdg)
  obtain ⟨q, B, XB, ⟨b1, b2, b3, b4, b5, ce, hce, hcv, hcl⟩, hsteps⟩ := hB m meth c ⟨T.setVm vm₁, locs, cells, slots⟩ (F0 m pc ls rest) (.invokestatic idx) r #[.ref a0, .int x, .ref a, .int y, .int z] X₁ rfl (hsz.trans X.2.2.1.symm) (by rw [X.2.1]; exact hdg) (by show 2 * 0 + (rest.map fun v => v.category).sum ≤ _; omega) (X₁.named hnamed) ⟨rfl, hT, rfl, rfl, rfl⟩
  obtain ⟨U', locs', cells', slots'⟩ := B
  dsimp only [Pt.U, Pt.locs, Pt.cells, Pt.slots] at XB b1 b2 b3 b4 b5 hce hsteps
  subst b1; subst b2; subst b3
  obtain ⟨t, a1, h1⟩ := k U'.heap q ce (va_P.kept hP (fun k q hk => b5 q.1 (vx_lt hP hk))) ⟨Nat.le_trans hS.1 b4, fun q h1 h2 => (b5 q (Nat.lt_of_lt_of_le h1 hS.1)).trans (hS.2.1 q h1 h2), hS.2.2⟩ hce hcv hcl U' rfl XB
  exact ⟨t, hstep₁ _ (fun acts => by rw [doInvoke_state]; exact hsteps.trans a1), h1⟩
end FN
